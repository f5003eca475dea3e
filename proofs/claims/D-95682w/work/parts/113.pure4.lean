/-! Small laws of numbers for the component's answers. -/
theorem nI_subn {a b : Nat} (h : b ≤ a) : nI a - nI b = nI (a - b) := by
  have e : nI a = nI (a - b) + nI b := by rw [nI_add]; congr 1; omega
  rw [e, Int32.add_sub_cancel]
theorem abs_apt {x y : Nat} (hx : x ≤ 200) (hy : y ≤ 200) : (if 0 ≤ nI x - nI y then nI x - nI y else 0 - (nI x - nI y)) = apt (nI x) (nI y) := by
  unfold apt
  by_cases h : x < y
  · rw [if_pos (nI_lt h (by omega))]
    have e : nI x - nI y = -(nI (y - x)) := by rw [← nI_subn (Nat.le_of_lt h), Int32.neg_sub]
    have h1 : ¬ 0 ≤ nI x - nI y := by
      rw [e]
      intro hc
      have := Int32.le_iff_toInt_le.mp hc
      rw [Int32.toInt_neg, nI_toInt (by omega)] at this
      rw [Int.bmod_eq_of_le (by omega) (by omega)] at this
      simp at this
      omega
    rw [if_neg h1, Int32.zero_sub, Int32.neg_sub]
  · rw [if_neg (nI_nlt (by omega) (by omega)), nI_subn (by omega)]
    rw [if_pos (nI_pos' (by omega))]
