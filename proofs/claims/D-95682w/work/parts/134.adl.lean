/-! Times added in a row. -/
set_option maxRecDepth 100000
def adL (f : Nat → Int32) (t0 : Nat) (it : Nat → Int32) : Nat → (Nat → Int32)
  | 0 => f
  | k + 1 => adC (adL f t0 it k) (t0 + k) (it (4 * k)) (it (4 * k + 1)) (it (4 * k + 2)) (it (4 * k + 3))
theorem tm_end2 {O : gO} {no a4 a5 q bq : Nat} {N R T Q B : gU} (hQ : O q = some Q) (hB : O bq = none) : oups O [(no, N), (a4, R), (a5, T), (q, Q), (bq, B)] = oup (oup (oup (oup O bq B) a5 T) a4 R) no N := by
  have h3 : q ≠ bq := fun e => by rw [e, hB] at hQ; cases hQ
  rw [oups, oups, oups, oups, oups, oups, oup_comm (a := bq) (b := q) (fun e => h3 e.symm), oup_same hQ]
theorem tm_end1 {O : gO} {no a4 a5 q bq : Nat} {N R T Q B : gU} (hN : O no = some N) (hR : O a4 = some R) (hQ : O q = some Q) (hB : O bq = none) (h4 : no ≠ a5) (h5 : a4 ≠ a5) : oups O [(no, N), (a4, R), (a5, T), (q, Q), (bq, B)] = oup (oup O bq B) a5 T := by
  rw [tm_end2 hQ hB]
  have h1 : no ≠ bq := fun e => by rw [e, hB] at hN; cases hN
  have h2 : a4 ≠ bq := fun e => by rw [e, hB] at hR; cases hR
  have e4 : (oup (oup O bq B) a5 T) a4 = some R := by rw [oup_n h5, oup_n h2]; exact hR
  have e0 : (oup (oup O bq B) a5 T) no = some N := by rw [oup_n h4, oup_n h1]; exact hN
  rw [oup_same e4, oup_same e0]
theorem bec10 (tw rw : Nat → Nat → Int32) : wput (becW tw rw) 10 (rw 10) = becW tw rw := by
  funext i
  unfold becW wput
  by_cases h10 : i = 10 <;> simp [h10]
