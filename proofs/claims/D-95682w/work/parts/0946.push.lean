/-! A mover's night, as the component tells it. -/
theorem pushF_c {ro : Nat → Int32} {v : Nat → Int32} {w : Nat → Nat → Int32} {n m j k r nt : Nat} {kd : Nat → Nat} {mv : Nat → Nat → Int32} {f : Nat → Int32} (hs : rdX ro v w m kd mv) (hj : j < m) (hk1 : 1 ≤ kd j) (hk5 : kd j ≤ 5) (ek : mv j 1 = nI k) (hk : k < 6) (h01 : mv j 2 = 0 ∨ mv j 2 = 1) (er : mv j 3 = nI r) (hr : r ≤ 5) :
    pushF ro n f j nt = if outI (kd j) nt (if f k = w 7 k then 1 else 0) = 0 then f else psh (v 0) n k (if goI (kd j) (mv j) nt = 0 then -1 else 1) (if kd j = 2 then 2 * r else r) f := by
  obtain ⟨s1, s2, s3⟩ := hs
  obtain ⟨t0, t1, t2, t3⟩ := s3 j hj
  have ik : iN (ro (26 + 4 * j + 1)) = k := by rw [t1, ek]; exact iN_nI (by omega)
  have ir : iN (ro (26 + 4 * j + 3)) = r := by rw [t3, er]; exact iN_nI (by omega)
  have q3 : (ro (26 + 4 * j) = 3) ↔ kd j = 3 := by rw [t0]; exact nI_eq (b := 3) (by omega) (by omega)
  have q5 : (ro (26 + 4 * j) = 5) ↔ kd j = 5 := by rw [t0]; exact nI_eq (b := 5) (by omega) (by omega)
  have q4 : (ro (26 + 4 * j) = 4) ↔ kd j = 4 := by rw [t0]; exact nI_eq (b := 4) (by omega) (by omega)
  have q2 : (ro (26 + 4 * j) = 2) ↔ kd j = 2 := by rw [t0]; exact nI_eq (b := 2) (by omega) (by omega)
  have eS : stepM ro j nt = (if goI (kd j) (mv j) nt = 0 then (-1 : Int32) else 1) := by
    rw [goI_step h01, stepM, t2]
    simp only [q4]
  have eY : yardM ro j = (if kd j = 2 then 2 * r else r) := by
    rw [yardM, ir]
    simp only [q2]
  unfold pushF
  rw [ik, eS, eY, s1, s2 k hk]
  have hc : ((ro (26 + 4 * j) = 3 ∧ nt % 2 = 1) ∨ (ro (26 + 4 * j) = 5 ∧ ¬ f k = w 7 k)) ↔ outI (kd j) nt (if f k = w 7 k then 1 else 0) = 0 := by
    rw [q3, q5]
    unfold outI bI
    rcases Nat.mod_two_eq_zero_or_one nt with e | e <;> by_cases h3 : kd j = 3 <;> by_cases h5 : kd j = 5 <;> by_cases hf : f k = w 7 k <;> simp [e, h3, h5, hf]
  by_cases h : outI (kd j) nt (if f k = w 7 k then 1 else 0) = 0
  · rw [if_pos h, if_pos (hc.mpr h)]
  · rw [if_neg h, if_neg (fun z => h (hc.mp z))]
