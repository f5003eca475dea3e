/-! The component's closure over all pairs, as its numbers go. -/
def inB (len : Int32) (f : Nat → Int32) (a : Nat) : Nat → (Nat → Int32)
  | 0 => f
  | b + 1 => upd (inB len f a b) (7 * a + b) (if a = b then 0 else len)
def inA (len : Int32) (n : Nat) (f : Nat → Int32) : Nat → (Nat → Int32)
  | 0 => f
  | a + 1 => inB len (inA len n f a) a (n + 1)
def csS (n : Nat) (f : Nat → Int32) : Nat → (Nat → Int32)
  | 0 => f
  | s + 1 => if s = 0 then atM (csS n f s) s n 0 else atM (atM (csS n f s) s n 0) s (s - 1) (-1)
def csT (ro f : Nat → Int32) : Nat → (Nat → Int32)
  | 0 => f
  | q + 1 => atM (atM (csT ro f q) (iN (ro (46 + 4 * q + 1))) (iN (ro (46 + 4 * q))) (-(ro (46 + 4 * q + 2) * ro (46 + 4 * q + 3)))) (iN (ro (46 + 4 * q))) (iN (ro (46 + 4 * q + 1))) (ro (46 + 4 * q + 2) * ro (46 + 4 * q + 3) + ro (46 + 4 * q + 2) - 1)
def cwB (f : Nat → Int32) (m a : Nat) : Nat → (Nat → Int32)
  | 0 => f
  | b + 1 => atM (cwB f m a b) a b (cwB f m a b (7 * a + m) + cwB f m a b (7 * m + b))
def cwA (n : Nat) (f : Nat → Int32) (m : Nat) : Nat → (Nat → Int32)
  | 0 => f
  | a + 1 => cwB (cwA n f m a) m a (n + 1)
def cwM (n : Nat) (f : Nat → Int32) : Nat → (Nat → Int32)
  | 0 => f
  | m + 1 => cwA n (cwM n f m) m (n + 1)
def okC (f : Nat → Int32) : Nat → Bool
  | 0 => true
  | a + 1 => okC f a && decide (0 ≤ f (7 * a + a))
def clC (ro f : Nat → Int32) (n tm : Nat) : Nat → Int32 := cwM n (csT ro (csS n (inA (ro 0) n f (n + 1)) n) tm) (n + 1)
theorem at7 (a b : Nat) : (7 : Int32) * nI a + nI b = nI (7 * a + b) := by rw [← nI_add, ← pk_mul]; rfl
def endC (F : Nat → Int32) (n : Nat) (x y f : Int32) : Int32 :=
  if ¬ (0 ≤ x ∧ x ≤ nI n - 1) ∨ ¬ (x + 1 ≤ y ∧ y ≤ nI n - 1) ∨ ¬ (0 ≤ f ∧ f ≤ 1) then -1000001
  else if ¬ okC F (n + 1) = true then -1000000
  else if f = 0 then -(F (7 * iN y + iN x)) else F (7 * iN x + iN y)
def wcO (F : Nat → Int32) (n : Nat) : Nat → Int32 × Int32
  | 0 => (-1000000, -1000000)
  | a + 1 => wdI F a (wcO F n a) (n - (a + 1))
