/-! What is asked of movers; what stood how far apart. -/
def bgW (w : Nat → Nat → Int32) : Nat → List Int32 → (Nat → Nat → Int32)
  | _, [] => w
  | t, b :: bs => bgW (wup w 24 t b) (t + 1) bs
def thL (k : Int32) : List Int32 := if k = 5 then [14, 13, 10] else [13, 10]
def thV (ro : Nat → Int32) (j : Nat) : Int32 := if ro (26 + 4 * j) = 5 then 2 * (ro (26 + 4 * j + 3) - 100) else ro (26 + 4 * j + 3) - 100
def mkL (k : Int32) : List Int32 := if k < 4 then (if k = 1 then [21, 20] else if k = 3 then [22, 21, 20] else [24, 21, 20]) else 23 :: 20 :: thL k
def mkV (ro : Nat → Int32) (j : Nat) : Int32 := if ro (26 + 4 * j) < 4 then (if ro (26 + 4 * j) = 1 then nI j + ro (8 + 3 * iN (ro (26 + 4 * j + 1)) + 1) else if ro (26 + 4 * j) = 3 then nI j + ro (8 + 3 * iN (ro (26 + 4 * j + 1)) + 1) - 1000 else 2 * (nI j + ro (8 + 3 * iN (ro (26 + 4 * j + 1)) + 1))) else nI j - thV ro j
def szL (k : Int32) : List Int32 := if k < 4 then (if k = 2 then 12 :: 11 :: 10 :: mkL k else 11 :: 10 :: mkL k) else thL k
def szV (ro : Nat → Int32) (j : Nat) : Int32 := if ro (26 + 4 * j) < 4 then (if ro (26 + 4 * j) = 2 then -(ro (26 + 4 * j + 3) + mkV ro j) else ro (26 + 4 * j + 3) + mkV ro j) else thV ro j
theorem bgW_o (w : Nat → Nat → Int32) (t : Nat) (l : List Int32) {i : Nat} (h : i ≠ 24) : bgW w t l i = w i := by
  induction l generalizing w t with
  | nil => rfl
  | cons b bs ih => rw [bgW, ih, wup_n h]
def op_ask (v : Nat → Int32) (w : Nat → Nat → Int32) (x y : Int32) : mR :=
  if ¬ (0 ≤ x ∧ x ≤ w 5 5 - 1) ∨ ¬ (0 ≤ y ∧ y ≤ 1) then (-1000001, upd v 0 0, w)
  else if y = 0 then (szV (w 5) (iN x), upd (upd v 0 0) 25 (nI (szL (w 5 (26 + 4 * iN x))).length), bgW w 0 (szL (w 5 (26 + 4 * iN x))))
  else (mkV (w 5) (iN x), upd (upd v 0 0) 25 (nI (mkL (w 5 (26 + 4 * iN x))).length), bgW w 0 (mkL (w 5 (26 + 4 * iN x))))
theorem thL_len (k : Int32) : (thL k).length ≤ 3 ∧ 2 ≤ (thL k).length := by unfold thL; split <;> decide
theorem mkL_len (k : Int32) : (mkL k).length ≤ 5 := by
  unfold mkL
  have := (thL_len k).1
  split
  · split
    · decide
    · split <;> decide
  · simp only [List.length_cons]; omega
def atM (f : Nat → Int32) (a b : Nat) (x : Int32) : Nat → Int32 := upd f (7 * a + b) (if x < f (7 * a + b) then x else f (7 * a + b))
def ini (f : Nat → Int32) : Nat → (Nat → Int32)
  | 0 => f
  | k + 1 => upd (ini f k) k (if k % 8 = 0 then 0 else 100000)
def fwS (len : Int32) (f : Nat → Int32) : Nat → (Nat → Int32)
  | 0 => f
  | k + 1 => if k = 0 then atM (atM (fwS len f k) 6 k len) k 6 0 else atM (atM (atM (fwS len f k) 6 k len) k 6 0) k (k - 1) (-1)
def fwT (ro f : Nat → Int32) : Nat → (Nat → Int32)
  | 0 => f
  | q + 1 => atM (atM (fwT ro f q) (iN (ro (46 + 4 * q))) (iN (ro (46 + 4 * q + 1))) (ro (46 + 4 * q + 2) * ro (46 + 4 * q + 3) + ro (46 + 4 * q + 2) - 1)) (iN (ro (46 + 4 * q + 1))) (iN (ro (46 + 4 * q))) (-(ro (46 + 4 * q + 2)) * ro (46 + 4 * q + 3))
def fwB (f : Nat → Int32) (m a : Nat) : Nat → (Nat → Int32)
  | 0 => f
  | b + 1 => if fwB f m a b (7 * a + m) < 100000 ∧ fwB f m a b (7 * m + b) < 100000 then atM (fwB f m a b) a b (fwB f m a b (7 * a + m) + fwB f m a b (7 * m + b)) else fwB f m a b
def fwA (f : Nat → Int32) (m : Nat) : Nat → (Nat → Int32)
  | 0 => f
  | a + 1 => fwB (fwA f m a) m a 7
def fwM (f : Nat → Int32) : Nat → (Nat → Int32)
  | 0 => f
  | m + 1 => fwA (fwM f m) m 7
def okL (f : Nat → Int32) : Nat → Bool
  | 0 => true
  | a + 1 => okL f a && decide (0 ≤ f (8 * a))
def layM (ro f : Nat → Int32) (n tm : Nat) : Nat → Int32 := fwM (fwT ro (fwS (ro 0) (ini f 49) n) tm) 7
/-- each time's stones are there, in order; pace and hours in their bounds -/
def tmOk (ro : Nat → Int32) (n tm : Nat) : Prop := ∀ q, q < tm → ∃ a b x t : Nat, ro (46 + 4 * q) = nI a ∧ ro (46 + 4 * q + 1) = nI b ∧ a < b ∧ b < n ∧ ro (46 + 4 * q + 2) = nI x ∧ 1 ≤ x ∧ x ≤ 20 ∧ ro (46 + 4 * q + 3) = nI t ∧ t ≤ 99
