/-! Bits counted; the moved stones as the component keeps them. -/
set_option maxRecDepth 100000
def ushI (x y : Int32) : Int32 := (x.toUInt32 >>> (y.toUInt32 &&& Int32.toUInt32 31)).toInt32
def bc1 (x : Int32) : Int32 := x - (ushI x 1 &&& 1431655765)
def bc2 (x : Int32) : Int32 := (x &&& 858993459) + (ushI x 2 &&& 858993459)
def bc3 (x : Int32) : Int32 := (x + ushI x 4) &&& 252645135
def bc4 (x : Int32) : Int32 := x + ushI x 8
def bc5 (x : Int32) : Int32 := x + ushI x 16
def bcF (x : Int32) : Int32 := bc5 (bc4 (bc3 (bc2 (bc1 x)))) &&& 63
theorem bc_all : ∀ q : Fin 6, ∀ a : Fin 64, a.val < 2 ^ q.val → (nI a.val ||| (1 : Int32) <<< (nI q.val &&& 31)) = nI (a.val + 2 ^ q.val) ∧ bcF (nI (a.val + 2 ^ q.val)) = bcF (nI a.val) + 1 := by decide +kernel
theorem mSet_bits (ro : Nat → Int32) (k : Nat) : ∀ q, q ≤ 6 → ∃ a, a < 2 ^ q ∧ mSet ro k q = nI a ∧ bcF (nI a) = mOut ro k q := by
  intro q
  induction q with
  | zero => intro _; exact ⟨0, by decide, rfl, by rw [mOut]; decide⟩
  | succ q ih =>
    intro hq
    obtain ⟨a, h1, h2, h3⟩ := ih (by omega)
    have h2q : 2 ^ q ≤ 2 ^ 5 := Nat.pow_le_pow_right (by decide) (by omega)
    have hs : 2 ^ (q + 1) = 2 * 2 ^ q := by rw [Nat.pow_succ]; omega
    by_cases c : ro (8 + 3 * q + 1) - ro (8 + 3 * q) = ro (8 + 3 * k + 1) - ro (8 + 3 * k)
    · refine ⟨a, by omega, ?_, ?_⟩
      · rw [mSet, if_pos c, h2]; exact Int32.or_zero
      · rw [mOut, if_pos c, h3]; exact (Int32.add_zero _).symm
    · have hb := bc_all ⟨q, by omega⟩ ⟨a, by omega⟩ h1
      refine ⟨a + 2 ^ q, by omega, ?_, ?_⟩
      · rw [mSet, if_neg c, h2]; exact hb.1
      · rw [mOut, if_neg c, ← h3]; exact hb.2
def mCB (ro : Nat → Int32) (n : Nat) : Nat → Int32 × Int32
  | 0 => (-1000000, 0)
  | k + 1 => if (mCB ro n k).1 = -1000000 ∨ mOut ro k n < (mCB ro n k).1 ∨ (mOut ro k n = (mCB ro n k).1 ∧ mSet ro k n < (mCB ro n k).2) then (mOut ro k n, mSet ro k n) else mCB ro n k
theorem mOut_le (ro : Nat → Int32) (k : Nat) : ∀ q, q ≤ 6 → ∃ b, b ≤ q ∧ mOut ro k q = nI b := by
  intro q
  induction q with
  | zero => intro _; exact ⟨0, by omega, rfl⟩
  | succ q ih =>
    intro hq
    obtain ⟨b, h1, h2⟩ := ih (by omega)
    by_cases c : ro (8 + 3 * q + 1) - ro (8 + 3 * q) = ro (8 + 3 * k + 1) - ro (8 + 3 * k)
    · exact ⟨b, by omega, by rw [mOut, if_pos c, h2]; exact Int32.add_zero _⟩
    · exact ⟨b + 1, by omega, by rw [mOut, if_neg c, h2, nI_1]⟩
theorem mOut_0 (ro : Nat → Int32) : ∀ q, q + 1 ≤ 6 → ∃ b, b ≤ q ∧ mOut ro 0 (q + 1) = nI b := by
  intro q
  induction q with
  | zero => intro _; exact ⟨0, by omega, by rw [mOut, if_pos rfl]; rfl⟩
  | succ q ih =>
    intro hq
    obtain ⟨b, h1, h2⟩ := ih (by omega)
    by_cases c : ro (8 + 3 * (q + 1) + 1) - ro (8 + 3 * (q + 1)) = ro (8 + 3 * 0 + 1) - ro (8 + 3 * 0)
    · exact ⟨b, by omega, by rw [mOut, if_pos c, h2]; exact Int32.add_zero _⟩
    · exact ⟨b + 1, by omega, by rw [mOut, if_neg c, h2, nI_1]⟩
theorem mCB_mB (ro : Nat → Int32) (n : Nat) (hn : n ≤ 6) : ∀ k, k + 1 ≤ n → mCB ro n (k + 1) = mBst ro n (k + 1) ∧ ∃ b, b ≤ 6 ∧ (mCB ro n (k + 1)).1 = nI b := by
  intro k
  induction k with
  | zero =>
    intro hk
    obtain ⟨b, h1, h2⟩ := mOut_0 ro (n - 1) (by omega)
    rw [show n - 1 + 1 = n by omega] at h2
    have hlt : mOut ro 0 n < nI n := by rw [h2]; exact nI_lt (by omega) (by omega)
    refine ⟨?_, ?_⟩
    · rw [mCB, mBst, if_pos (Or.inl (show (mCB ro n 0).1 = -1000000 from rfl)), if_pos (Or.inl (show mOut ro 0 n < (mBst ro n 0).1 from hlt))]
    · rw [mCB, if_pos (Or.inl (show (mCB ro n 0).1 = -1000000 from rfl))]; exact ⟨b, by omega, h2⟩
  | succ k ih =>
    intro hk
    obtain ⟨h1, b, h2, h3⟩ := ih (by omega)
    have hne : ¬ (mCB ro n (k + 1)).1 = -1000000 := by
      rw [h3]
      intro e
      have := congrArg Int32.toInt e
      rw [nI_toInt (by omega)] at this
      have h9 : ((-1000000 : Int32)).toInt = -1000000 := rfl
      omega
    obtain ⟨b2, h4, h5⟩ := mOut_le ro (k + 1) n hn
    rw [mCB, mBst, ← h1]
    by_cases c : mOut ro (k + 1) n < (mCB ro n (k + 1)).1 ∨ (mOut ro (k + 1) n = (mCB ro n (k + 1)).1 ∧ mSet ro (k + 1) n < (mCB ro n (k + 1)).2)
    · rw [if_pos c, if_pos (Or.inr c)]
      exact ⟨rfl, b2, by omega, h5⟩
    · rw [if_neg c, if_neg (fun h => h.elim hne c)]
      exact ⟨rfl, b, h2, h3⟩
theorem mCB_end (ro : Nat → Int32) (n : Nat) (hn : n ≤ 6) : (if (mCB ro n n).1 = -1000000 then 0 else (mCB ro n n).1) = (mBst ro n n).1 ∧ (mCB ro n n).2 = (mBst ro n n).2 := by
  cases n with
  | zero => exact ⟨rfl, rfl⟩
  | succ k =>
    obtain ⟨h1, b, h2, h3⟩ := mCB_mB ro (k + 1) hn k (by omega)
    have hne : ¬ (mCB ro (k + 1) (k + 1)).1 = -1000000 := by
      rw [h3]
      intro e
      have := congrArg Int32.toInt e
      rw [nI_toInt (by omega)] at this
      have h9 : ((-1000000 : Int32)).toInt = -1000000 := rfl
      omega
    rw [if_neg hne, h1]
    exact ⟨rfl, rfl⟩
theorem half_01 {x : Int32} (h : 0 ≤ x ∧ x ≤ 1) : x = 0 ∨ x = 1 := by
  obtain ⟨j, hj, rfl⟩ := in_nI (N := 1) (by decide) rfl h
  have : j = 0 ∨ j = 1 := by omega
  rcases this with rfl | rfl
  · exact Or.inl rfl
  · exact Or.inr rfl
