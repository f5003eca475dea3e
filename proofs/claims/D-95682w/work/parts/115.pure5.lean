/-! More of them. -/
/-- the last fee ahead of k at which none is best -/
def lastF (ro : Nat → Int32) : Nat → Int32
  | 0 => -1000000
  | f + 1 => if bestB ro (nI f) 3 = 0 then nI f else lastF ro f
theorem lastF_fdn {ro : Nat → Int32} (h0 : bestB ro 0 3 = 0) (f : Nat) : lastF ro (f + 1) = nI (fdn ro f) := by
  induction f with
  | zero => rw [lastF, if_pos (show bestB ro (nI 0) 3 = 0 from h0)]; rfl
  | succ f ih =>
    rw [lastF, fdn, ih]
    split <;> rfl
theorem brF_c (ro : Nat → Int32) (d : Nat) (fee : Int32) : fee * nI d * (powL (100 - ro 2) d * powL 100 (3 - d)) - ro 3 * (powL 100 3 - powL (100 - ro 2) d * powL 100 (3 - d)) = brF ro d fee := by
  unfold brF
  rw [show powL 100 3 = 1000000 from by decide]
  generalize powL (100 - ro 2) d * powL 100 (3 - d) = U
  rw [Int32.mul_comm (ro 3), Int32.mul_comm (fee * nI d) U, ← Int32.mul_assoc]
theorem sub3 {d : Nat} (h : d ≤ 3) : (3 : Int32) - nI d = nI (3 - d) := nI_subn (a := 3) h
/-- a byte of a word, as it is stored -/
def btC (x : Int64) (j : Nat) : Int32 := vp_nar .byte (x >>> ((8 * nI j).toInt64 &&& 63)).toInt32.toInt8.toInt32
/-- the tape with k bytes more -/
def fdC (f : Nat → Int32) (T N : Nat) (x : Int64) (k : Nat) : Nat → Int32 := fun q => if T ≤ q ∧ q < T + k then btC x (N - 1 - (q - T)) else f q
theorem fdC_0 (f : Nat → Int32) (T N : Nat) (x : Int64) : fdC f T N x 0 = f := by
  funext q
  unfold fdC
  rw [if_neg (by omega)]
theorem fdC_s {f : Nat → Int32} {T N k u : Nat} {x : Int64} (hu : N - 1 - k = u) : upd (fdC f T N x k) (T + k) (btC x u) = fdC f T N x (k + 1) := by
  funext q
  unfold upd fdC
  by_cases h : q = T + k
  · subst h
    rw [if_pos rfl, if_pos (by omega)]
    congr 1
    omega
  · rw [if_neg h]
    by_cases h2 : T ≤ q ∧ q < T + k
    · rw [if_pos h2, if_pos (by omega)]
    · rw [if_neg h2, if_neg (by omega)]
