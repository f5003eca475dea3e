/-! A road told, whole. -/
def rdA (tp : Nat → Int32) (L : Nat) (v : Nat → Int32) : Nat → Int32 := nxV tp L (upd (upd (upd (upd v 12 (v 10)) 10 0) 13 0) 17 0)
def rdB (tp : Nat → Int32) (L : Nat) (v : Nat → Int32) : Nat → Int32 := mustV tp L (rdA tp L v) (bI (nameV tp (rdA tp L v) = 7102839))
def rd0 (tp : Nat → Int32) (L : Nat) (v : Nat → Int32) : Nat → Int32 := numV tp L (rdB tp L v) 10 200
def rd1 (tp : Nat → Int32) (L : Nat) (v : Nat → Int32) : Nat → Int32 := numV tp L (rd0 tp L v) 0 20
def rd2 (tp : Nat → Int32) (L : Nat) (v : Nat → Int32) : Nat → Int32 := numV tp L (rd1 tp L v) 0 100
def rd3 (tp : Nat → Int32) (L : Nat) (v : Nat → Int32) : Nat → Int32 := numV tp L (rd2 tp L v) 0 99
def rdE (tp : Nat → Int32) (L : Nat) (v : Nat → Int32) : Nat → Int32 := endV tp L (rd3 tp L v)
def fz (f : Nat → Int32) (k : Nat) : Nat → Int32 := fun q => if q < k then 0 else f q
theorem fz_s (f : Nat → Int32) (k : Nat) : upd (fz f k) k 0 = fz f (k + 1) := by
  funext q
  unfold upd fz
  by_cases h : q = k
  · subst h; rw [if_pos rfl, if_pos (by omega)]
  · rw [if_neg h]
    show (if q < k then _ else _) = _
    by_cases h2 : q < k
    · rw [if_pos h2, if_pos (by omega)]
    · rw [if_neg h2, if_neg (by omega)]
theorem fz_0 (f : Nat → Int32) : fz f 0 = f := by
  funext q
  unfold fz
  rw [if_neg (by omega)]
def fr1 (tp : Nat → Int32) (L : Nat) (v f : Nat → Int32) : Nat → Int32 := upd (upd (upd (upd (fz f 94) 0 (numR tp (rdB tp L v))) 1 (numR tp (rd0 tp L v))) 2 (numR tp (rd1 tp L v))) 3 (numR tp (rd2 tp L v))
def stnL (tp : Nat → Int32) (L : Nat) : Nat → (Nat → Int32) → (Nat → Int32) → (Nat → Int32) × (Nat → Int32)
  | 0, v, f => (v, f)
  | k + 1, v, f => if nameV tp v = 495874698853 then stnL tp L k (rsV tp L v f) (rsF tp L v f) else (v, f)
def movL (tp : Nat → Int32) (L : Nat) : Nat → (Nat → Int32) → (Nat → Int32) → (Nat → Int32) × (Nat → Int32)
  | 0, v, f => (v, f)
  | k + 1, v, f => if nameV tp v = 470021465458 then movL tp L k (rmV tp L v f) (rmF tp L v f) else (v, f)
theorem stnL_stop {tp : Nat → Int32} {L : Nat} {v f : Nat → Int32} (h : ¬ nameV tp v = 495874698853) (k : Nat) : stnL tp L k v f = (v, f) := by
  cases k with
  | zero => rfl
  | succ k => rw [stnL, if_neg h]
theorem movL_stop {tp : Nat → Int32} {L : Nat} {v f : Nat → Int32} (h : ¬ nameV tp v = 470021465458) (k : Nat) : movL tp L k v f = (v, f) := by
  cases k with
  | zero => rfl
  | succ k => rw [movL, if_neg h]
theorem nameV_ok {tp v : Nat → Int32} {x : Int64} (hx : x ≠ 0) (h : nameV tp v = x) : v 17 = 0 := by
  by_cases q : v 17 = 0
  · exact q
  · rw [nameV, if_neg q] at h
    exact absurd h.symm hx
theorem rs_inv {tp : Nat → Int32} {L : Nat} {u g : Nat → Int32} {n j : Nat} (hP : PV L u) (h4 : g 4 = nI n) (hn : n ≤ 6) (h5 : g 5 = 0) (hk : 8 - n ≤ j + 1) : ∃ n', PV L (rsV tp L u g) ∧ rsF tp L u g 4 = nI n' ∧ n' ≤ 6 ∧ rsF tp L u g 5 = 0 ∧ (rsV tp L u g 17 = 0 → 8 - n' ≤ j) := by
  have i4 : iN (g 4) = n := by rw [h4]; exact iN_nI (by omega)
  by_cases hs : rsV tp L u g 17 = 0
  · have hne : n ≠ 6 := fun e => (rs_ok hs).2 (by rw [h4, e]; rfl)
    refine ⟨n + 1, hP.rs tp g, ?_, by omega, ?_, fun _ => by omega⟩
    · rw [rsF, if_pos hs, upd_s, i4, st3, upd_n (by omega), upd_n (by omega), upd_n (by omega), h4, nI_1]
    · rw [rsF, if_pos hs, upd_n (by decide), i4, st3, upd_n (by omega), upd_n (by omega), upd_n (by omega), h5]
  · refine ⟨n, hP.rs tp g, ?_, hn, ?_, fun h => absurd h hs⟩
    · rw [rsF, if_neg hs, h4]
    · rw [rsF, if_neg hs, h5]
theorem rm_inv {tp : Nat → Int32} {L : Nat} {u g : Nat → Int32} {n j : Nat} (hP : PV L u) (h5 : g 5 = nI n) (hn : n ≤ 5) (hk : 7 - n ≤ j + 1) : ∃ n', PV L (rmV tp L u g) ∧ rmF tp L u g 5 = nI n' ∧ n' ≤ 5 ∧ (rmV tp L u g 17 = 0 → 7 - n' ≤ j) := by
  have i5 : iN (g 5) = n := by rw [h5]; exact iN_nI (by omega)
  by_cases hs : rmV tp L u g 17 = 0
  · have hne : n ≠ 5 := fun e => (rm_ok hs).2 (by rw [h5, e]; rfl)
    refine ⟨n + 1, hP.rm tp g, ?_, by omega, fun _ => by omega⟩
    rw [rmF, if_pos hs, upd_s, i5, mv4, upd_n (by omega), upd_n (by omega), upd_n (by omega), upd_n (by omega), h5, nI_1]
  · exact ⟨n, hP.rm tp g, by rw [rmF, if_neg hs, h5], hn, fun h => absurd h hs⟩
def rdS (tp : Nat → Int32) (L : Nat) (v f : Nat → Int32) : (Nat → Int32) × (Nat → Int32) := stnL tp L 8 (rdE tp L v) (fr1 tp L v f)
def rdM (tp : Nat → Int32) (L : Nat) (v f : Nat → Int32) : (Nat → Int32) × (Nat → Int32) := movL tp L 7 (rdS tp L v f).1 (rdS tp L v f).2
def rdT (tp : Nat → Int32) (L : Nat) (v f : Nat → Int32) : Nat → Int32 := if (rdM tp L v f).1 17 = 0 ∧ ¬ (rdM tp L v f).1 14 = 1 then badV (rdM tp L v f).1 1 else (rdM tp L v f).1
def op_road (v : Nat → Int32) (w : Nat → Nat → Int32) : mR :=
  if 0 < rdT (w 9) (iN (v 10)) (upd v 0 0) (w 6) 17 then (-1000100 - rdT (w 9) (iN (v 10)) (upd v 0 0) (w 6) 18, upd (rdT (w 9) (iN (v 10)) (upd v 0 0) (w 6)) 11 (rdT (w 9) (iN (v 10)) (upd v 0 0) (w 6) 17), wput w 6 (rdM (w 9) (iN (v 10)) (upd v 0 0) (w 6)).2)
  else ((rdM (w 9) (iN (v 10)) (upd v 0 0) (w 6)).2 4, upd (rdT (w 9) (iN (v 10)) (upd v 0 0) (w 6)) 8 0, wseg (wput w 6 (rdM (w 9) (iN (v 10)) (upd v 0 0) (w 6)).2) 5 0 94 (rdM (w 9) (iN (v 10)) (upd v 0 0) (w 6)).2)
theorem PV.rdA {L : Nat} {v : Nat → Int32} (tp : Nat → Int32) (e : v 10 = nI L) (hL : L ≤ 400) : PV L (rdA tp L v) := PV.next tp (c := 0) e hL rfl (by omega)
