/-! Only the first n places matter. -/
def agr (n : Nat) (f g : Nat → Int32) : Prop := ∀ k, k < n → f k = g k
theorem frL_agr {b : Bool} {f g : Nat → Int32} {x : Int32} {n : Nat} (h : agr n f g) : ∀ k, k ≤ n → frL b f x k = frL b g x k := by
  intro k
  induction k with
  | zero => intro _; rfl
  | succ k ih => intro hk; rw [frL, frL, ih (by omega), h k (by omega)]
theorem isFr_agr {len : Int32} {f g : Nat → Int32} {x : Int32} {n : Nat} (h : agr n f g) : isFr len n f x = isFr len n g x := frL_agr h n (Nat.le_refl n)
theorem upd_agr {f g : Nat → Int32} {n k : Nat} {x : Int32} (h : agr n f g) : agr n (upd f k x) (upd g k x) := by
  intro q hq
  unfold upd
  split
  · rfl
  · exact h q hq
theorem psh_agr {len : Int32} {n k : Nat} {step : Int32} (hk : k < n) : ∀ (y : Nat) (f g : Nat → Int32), agr n f g → agr n (psh len n k step y f) (psh len n k step y g) := by
  intro y
  induction y with
  | zero => intro f g h; exact h
  | succ y ih =>
    intro f g h
    rw [psh, psh, h k hk, isFr_agr h]
    split
    · exact ih _ _ (upd_agr h)
    · exact h
theorem pushF_agr {ro f g : Nat → Int32} {n mv m nt : Nat} (hm : m < mv) (hmo : movOk ro n mv) (h : agr n f g) : agr n (pushF ro n f m nt) (pushF ro n g m nt) := by
  obtain ⟨k, r, e1, h1, e2, h2⟩ := hmo m hm
  by_cases hb : n < 2 ^ 31
  · have ik : iN (ro (26 + 4 * m + 1)) = k := by rw [e1]; exact iN_nI (by omega)
    unfold pushF
    rw [ik, h k h1]
    split
    · exact h
    · exact psh_agr h1 _ _ _ h
  · have : iN (ro (26 + 4 * m + 1)) < n := by
      have h5 : iN (ro (26 + 4 * m + 1)) < 2 ^ 31 := by
        show (Int32.toInt _).toNat < _
        have := Int32.toInt_lt (ro (26 + 4 * m + 1))
        omega
      omega
    unfold pushF
    rw [h _ this]
    split
    · exact h
    · exact psh_agr this _ _ _ h
theorem goF_agr {ro f g : Nat → Int32} {n mv nt : Nat} {o : Int32} (hmo : movOk ro n mv) (h : agr n f g) : ∀ m, m ≤ mv → agr n (goF ro n nt o f m) (goF ro n nt o g m) := by
  intro m
  induction m with
  | zero => intro _; exact h
  | succ m ih =>
    intro hm
    rw [goF, goF]
    split
    · exact pushF_agr (by omega) hmo (ih (by omega))
    · exact ih (by omega)
theorem ntsF_agr {ro f g : Nat → Int32} {n mv : Nat} {o : Int32} (hmo : movOk ro n mv) (h : agr n f g) (t : Nat) : agr n (ntsF ro n mv o f t) (ntsF ro n mv o g t) := by
  induction t with
  | zero => exact h
  | succ t ih => exact goF_agr hmo ih mv (Nat.le_refl mv)
theorem layF_agr (ro f g : Nat → Int32) (n what : Nat) : agr n (layF ro f n what) (layF ro g n what) := by
  intro k hk
  unfold layF
  rw [if_pos hk, if_pos hk]
theorem eqL_agr {f g f' g' : Nat → Int32} {n : Nat} (h : agr n f f') (h2 : agr n g g') : ∀ k, k ≤ n → eqL f g k = eqL f' g' k := by
  intro k
  induction k with
  | zero => intro _; rfl
  | succ k ih => intro hk; rw [eqL, eqL, ih (by omega), h k (by omega), h2 k (by omega)]
theorem stands_agr {ro f g : Nat → Int32} {n mv t : Nat} {o : Int32} (hmo : movOk ro n mv) : stands ro f n mv t o = stands ro g n mv t o :=
  eqL_agr (ntsF_agr hmo (layF_agr ro f g n 2) t) (fun _ _ => rfl) n (Nat.le_refl n)
noncomputable def whoP (ro : Nat → Int32) (n mv t : Nat) : Nat → Bool := fun q => stands ro (fun _ => 0) n mv t (nI q)
noncomputable def op_who (w : Nat → Nat → Int32) (t x : Int32) : Int32 :=
  if ¬ 0 < w 5 0 then -1000002
  else if ¬ (0 ≤ t ∧ t ≤ 9) ∨ ¬ (0 ≤ x ∧ x ≤ 1) then -1000001
  else if x = 0 then wcD (whoP (w 5) (iN (w 5 4)) (iN (w 5 5)) (iN t)) (2 ^ iN (w 5 5) - 1) (2 ^ iN (w 5 5)) else wlD (whoP (w 5) (iN (w 5 4)) (iN (w 5 5)) (iN t)) (2 ^ iN (w 5 5) - 1) (2 ^ iN (w 5 5))
theorem shl1 {mv : Nat} (h : mv ≤ 5) : (1 : Int32) <<< (nI mv &&& 31) = nI (2 ^ mv) ∧ 2 ^ mv ≤ 32 ∧ 1 ≤ 2 ^ mv := by
  rcases (show mv = 0 ∨ mv = 1 ∨ mv = 2 ∨ mv = 3 ∨ mv = 4 ∨ mv = 5 by omega) with rfl | rfl | rfl | rfl | rfl | rfl <;> decide
theorem upd_self (f : Nat → Int32) (k : Nat) : upd f k (f k) = f := by
  funext i
  unfold upd
  split
  · rename_i h; rw [h]
  · rfl
theorem nI_m1 {t : Nat} (h : t < 2 ^ 31) : nI t - 1 < 0 ↔ t = 0 := by
  cases t with
  | zero => decide
  | succ t =>
    rw [nI_pred]
    constructor
    · intro q; exact absurd q (nI_pos (by omega))
    · intro q; omega
theorem dec1 (x : Int32) : x + Int32.ofInt (-1) = x - 1 := by
  rw [show Int32.ofInt (-1) = (-1 : Int32) by decide]
  grind
