/-! The reference's reader, as its numbers go. -/
def badV (v : Nat → Int32) (k : Int32) : Nat → Int32 := if v 17 = 0 then upd (upd v 17 k) 18 (v 15) else v
theorem badV_n (v : Nat → Int32) {k : Int32} (hk : k ≠ 0) : ¬ badV v k 17 = 0 := by
  unfold badV
  split
  · exact hk
  · assumption
theorem badV_o (v : Nat → Int32) (k : Int32) {i : Nat} (h : i ≠ 17) (h2 : i ≠ 18) : badV v k i = v i := by
  unfold badV
  split
  · rw [upd_n h2, upd_n h]
  · rfl
def nxV (tp : Nat → Int32) (L : Nat) (v : Nat → Int32) : Nat → Int32 := vNx v (nx tp L (iN (v 13)))
def mustV (tp : Nat → Int32) (L : Nat) (v : Nat → Int32) (x : Int32) : Nat → Int32 := if v 17 = 0 then (if x = 0 then badV v 1 else nxV tp L v) else v
/-- the reader stands at a token within the text -/
def PV (L : Nat) (v : Nat → Int32) : Prop := ∃ s e k : Nat, v 12 = nI L ∧ L ≤ 400 ∧ v 13 = nI e ∧ v 15 = nI s ∧ v 16 = nI e ∧ s ≤ e ∧ e ≤ L ∧ v 14 = nI k ∧ k ≤ 4
theorem nx_ok (tp : Nat → Int32) (L c : Nat) (hc : c ≤ L) : (nx tp L c).2.1 ≤ (nx tp L c).2.2 ∧ (nx tp L c).2.2 ≤ L ∧ (nx tp L c).1 ≤ 4 ∧ c ≤ (nx tp L c).2.1 := by
  have h1 := spn_le (P := pWs) (tp := tp) (L - c) c
  have h2 := spn_le (P := pLe) (tp := tp) (L - spn pWs tp (L - c) c) (spn pWs tp (L - c) c)
  have h3 := spn_le (P := pFi) (tp := tp) (L - spn pWs tp (L - c) c) (spn pWs tp (L - c) c)
  unfold nx
  split
  · exact ⟨Nat.le_refl _, by show spn pWs tp (L - c) c ≤ L; omega, by show 1 ≤ 4; decide, h1.1⟩
  · split
    · exact ⟨h2.1, by show spn pLe tp _ _ ≤ L; omega, by show 2 ≤ 4; decide, h1.1⟩
    · split
      · refine ⟨h3.1, by show spn pFi tp _ _ ≤ L; omega, ?_, h1.1⟩
        show (if _ then _ else _) ≤ 4
        split <;> omega
      · refine ⟨Nat.le_succ _, by show spn pWs tp (L - c) c + 1 ≤ L; omega, ?_, h1.1⟩
        show (if _ then _ else _) ≤ 4
        split <;> omega
theorem PV.bad {L : Nat} {v : Nat → Int32} (h : PV L v) (k : Int32) : PV L (badV v k) := by
  obtain ⟨s, e, t, h1, h2, h3, h4, h5, h6⟩ := h
  exact ⟨s, e, t, by rw [badV_o v k (by decide) (by decide)]; exact h1, h2, by rw [badV_o v k (by decide) (by decide)]; exact h3, by rw [badV_o v k (by decide) (by decide)]; exact h4, by rw [badV_o v k (by decide) (by decide)]; exact h5, h6.1, h6.2.1, by rw [badV_o v k (by decide) (by decide)]; exact h6.2.2.1, h6.2.2.2⟩
theorem PV.next {L : Nat} {v : Nat → Int32} (tp : Nat → Int32) {c : Nat} (h12 : v 12 = nI L) (hL : L ≤ 400) (h13 : v 13 = nI c) (hc : c ≤ L) : PV L (nxV tp L v) := by
  have ic : iN (v 13) = c := by rw [h13]; exact iN_nI (by omega)
  have h := nx_ok tp L c hc
  unfold nxV
  rw [ic]
  exact ⟨(nx tp L c).2.1, (nx tp L c).2.2, (nx tp L c).1, h12, hL, rfl, rfl, rfl, h.1, h.2.1, rfl, h.2.2.1⟩
theorem PV.nxt {L : Nat} {v : Nat → Int32} (tp : Nat → Int32) (h : PV L v) : PV L (nxV tp L v) := by
  obtain ⟨s, e, t, h1, h2, h3, h4, h5, h6, h7, -⟩ := h
  exact PV.next tp h1 h2 h3 h7
theorem PV.must {L : Nat} {v : Nat → Int32} (tp : Nat → Int32) (h : PV L v) (x : Int32) : PV L (mustV tp L v x) := by
  unfold mustV
  split
  · split
    · exact h.bad 1
    · exact h.nxt tp
  · exact h
def fgL (tp : Nat → Int32) (s : Nat) : Nat → Int32
  | 0 => 0
  | k + 1 => 10 * fgL tp s k + tp (s + k) - 48
def figV (tp : Nat → Int32) (v : Nat → Int32) : Int32 := if v 14 = 3 then fgL tp (iN (v 15)) (iN (v 16) - iN (v 15)) else 0
def nmL (tp : Nat → Int32) (s : Nat) : Nat → Int64
  | 0 => 0
  | k + 1 => (nmL tp s k <<< ((8 : Int32).toInt64 &&& 63)) ||| (tp (s + k)).toInt64
def nameV (tp : Nat → Int32) (v : Nat → Int32) : Int64 := if v 17 = 0 then (if v 14 = 2 ∧ iN (v 16) - iN (v 15) < 8 then nmL tp (iN (v 15)) (iN (v 16) - iN (v 15)) else 0) else 0
def numB (tp : Nat → Int32) (v : Nat → Int32) (lo hi : Int32) : Nat → Int32 := if v 14 = 3 ∧ ¬ (lo ≤ figV tp v ∧ figV tp v ≤ hi) then badV v 2 else v
def numV (tp : Nat → Int32) (L : Nat) (v : Nat → Int32) (lo hi : Int32) : Nat → Int32 := if 0 < v 17 then v else mustV tp L (numB tp v lo hi) (bI (v 14 = 3))
def numR (tp : Nat → Int32) (v : Nat → Int32) : Int32 := if 0 < v 17 then 0 else figV tp v
def endV (tp : Nat → Int32) (L : Nat) (v : Nat → Int32) : Nat → Int32 := if v 17 = 0 then mustV tp L v (bI (v 14 = 4)) else v
def begV (tp : Nat → Int32) (L : Nat) (v f : Nat → Int32) (i : Nat) (room : Int32) : Nat → Int32 := mustV tp L (if f i = room then badV v 3 else v) 1
def kndB (x : Int64) : Int32 := if x = 6909550 then 1 else if x = 109270183208306 then 2 else if x = 123563833652072 then 3 else if x = 499967944038 then 4 else if x = 123636696839028 then 5 else -1000000
theorem PV.num {L : Nat} {v : Nat → Int32} (tp : Nat → Int32) (h : PV L v) (lo hi : Int32) : PV L (numV tp L v lo hi) := by
  unfold numV
  split
  · exact h
  · refine PV.must tp ?_ _
    unfold numB
    split
    · exact h.bad 2
    · exact h
theorem PV.end_ {L : Nat} {v : Nat → Int32} (tp : Nat → Int32) (h : PV L v) : PV L (endV tp L v) := by
  unfold endV
  split
  · exact h.must tp _
  · exact h
theorem PV.beg {L : Nat} {v f : Nat → Int32} (tp : Nat → Int32) (h : PV L v) (i : Nat) (room : Int32) : PV L (begV tp L v f i room) := by
  unfold begV
  refine PV.must tp ?_ _
  split
  · exact h.bad 3
  · exact h
