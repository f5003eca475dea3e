/-! Small facts of numbers. -/
def bI (p : Prop) [Decidable p] : Int32 := if p then 1 else 0
theorem bI_01 (p : Prop) [Decidable p] : bI p = 0 ∨ bI p = 1 := by unfold bI; split <;> simp
theorem bI_t {p : Prop} [Decidable p] (h : p) : bI p = 1 := if_pos h
theorem bI_f {p : Prop} [Decidable p] (h : ¬ p) : bI p = 0 := if_neg h
theorem bI_0 {p : Prop} [Decidable p] : bI p = 0 ↔ ¬ p := by unfold bI; split <;> simp_all
theorem bI_n0 {p : Prop} [Decidable p] : ¬ bI p = 0 ↔ p := by unfold bI; split <;> simp_all
theorem bI_1 {p : Prop} [Decidable p] : bI p = 1 ↔ p := by unfold bI; split <;> simp_all
theorem bI_c {p q : Prop} [Decidable p] [Decidable q] (h : p ↔ q) : bI p = bI q := by unfold bI; by_cases hp : p <;> simp_all
theorem i64_le (a b : Int32) : a.toInt64 ≤ b.toInt64 ↔ a ≤ b := by
  rw [Int64.le_iff_toInt_le, Int32.le_iff_toInt_le, Int32.toInt_toInt64, Int32.toInt_toInt64]
theorem in_nI {x a b : Int32} {N : Nat} (hb : b.toInt = N) (ha : a = 0) (h : a ≤ x ∧ x ≤ b) : ∃ j : Nat, j ≤ N ∧ x = nI j := by
  subst ha
  exact nI_of2 hb (Int32.not_lt.mpr h.1) h.2
theorem nle_t {a b : Nat} (h : nI a ≤ nI b) (ha : a < 2 ^ 31 := by omega) (hb : b < 2 ^ 31 := by omega) : a ≤ b := (nI_leI ha hb).mp h
theorem nle_f {a b : Nat} (h : ¬ nI a ≤ nI b) (ha : a < 2 ^ 31 := by omega) (hb : b < 2 ^ 31 := by omega) : b < a := by
  rcases Nat.lt_or_ge b a with q | q
  · exact q
  · exact absurd ((nI_leI ha hb).mpr q) h
theorem nlt_t {a b : Nat} (h : nI a < nI b) (ha : a < 2 ^ 31 := by omega) (hb : b < 2 ^ 31 := by omega) : a < b := (nI_ltI ha hb).mp h
theorem nlt_f {a b : Nat} (h : ¬ nI a < nI b) (ha : a < 2 ^ 31 := by omega) (hb : b < 2 ^ 31 := by omega) : b ≤ a := by
  rcases Nat.lt_or_ge a b with q | q
  · exact absurd ((nI_ltI ha hb).mpr q) h
  · exact q
theorem neq_t {a b : Nat} (h : nI a = nI b) (ha : a < 2 ^ 31 := by omega) (hb : b < 2 ^ 31 := by omega) : a = b := (nI_eq ha hb).mp h
theorem neq_f {a b : Nat} (h : ¬ nI a = nI b) (ha : a < 2 ^ 31 := by omega) (hb : b < 2 ^ 31 := by omega) : a ≠ b := fun q => h ((nI_eq ha hb).mpr q)
theorem n_lt0 {n : Nat} (h : n < 2 ^ 31 := by omega) : ¬ nI n < 0 := nI_pos h
/-- a number between 0 and the one ahead of n -/
theorem in_nI1 {x : Int32} {n : Nat} (hn : n < 2 ^ 31) (h : 0 ≤ x ∧ x ≤ nI n - 1) : ∃ j : Nat, j < n ∧ x = nI j := by
  rcases pk_ix x (n := n) hn with q | q | q
  · exact absurd h.1 (Int32.not_le.mpr q)
  · exfalso
    have h1 := Int32.le_iff_toInt_le.mp h.2
    have h2 := Int32.le_iff_toInt_le.mp q
    have h3 := Int32.le_iff_toInt_le.mp h.1
    rw [nI_toInt hn] at h2
    have e : (nI n - 1).toInt = (n : Int) - 1 := by
      cases n with
      | zero => decide
      | succ k =>
        rw [nI_pred, nI_toInt (by omega)]
        omega
    rw [e] at h1
    omega
  · exact q
theorem sw_cases (x : Int32) {n : Nat} (hn : n < 2 ^ 31) : (x.toInt < 0 ∨ (n : Int) - 1 < x.toInt) ∨ ∃ j : Nat, j < n ∧ x = nI j := by
  rcases pk_ix x (n := n) hn with q | q | q
  · exact Or.inl (Or.inl (by simpa using Int32.lt_iff_toInt_lt.mp q))
  · have h2 := Int32.le_iff_toInt_le.mp q
    rw [nI_toInt hn] at h2
    exact Or.inl (Or.inr (by omega))
  · exact Or.inr q
