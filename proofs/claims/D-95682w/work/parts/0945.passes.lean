/-! Road's words. -/
set_option maxRecDepth 100000
/-- whether it goes outward, a night -/
def goI (kd : Nat) (mv : Nat → Int32) (nt : Nat) : Int32 := if kd = 4 then bI (mv 2 = (if nt % 2 = 0 then 1 else 0)) else mv 2
def yaI (kd : Nat) (mv : Nat → Int32) : Int32 := if kd = 2 then 2 * mv 3 else mv 3
def outI (kd nt : Nat) (home : Int32) : Int32 := if kd = 3 then bI (nt % 2 = 0) else if kd = 5 then home else 1
/-- can a stone go home: the first q others looked at -/
def cgL (f : Nat → Int32) (k : Nat) (lo hi : Int32) (b : Bool) : Nat → Bool
  | 0 => b
  | q + 1 => cgL f k lo hi b q && (decide (q = k) || !decide (lo ≤ f q ∧ f q ≤ hi))
def minI (a b : Int32) : Int32 := if b < a then b else a
def maxI (a b : Int32) : Int32 := if a < b then b else a
/-- a time is told well -/
def tmC (n : Int32) (a b x t : Int32) : Prop := (0 ≤ a ∧ a ≤ n - 1) ∧ (a + 1 ≤ b ∧ b ≤ n - 1) ∧ (1 ≤ x ∧ x ≤ 20) ∧ (0 ≤ t ∧ t ≤ 99)
def adC (f : Nat → Int32) (k : Nat) (a b x t : Int32) : Nat → Int32 := upd (upd (upd (upd f (4 * k) a) (4 * k + 1) b) (4 * k + 2) x) (4 * k + 3) t
/-- what nights need of a road: its length, homes and movers, as the reference's row has them -/
def rdX (ro : Nat → Int32) (v : Nat → Int32) (w : Nat → Nat → Int32) (m : Nat) (kd : Nat → Nat) (mv : Nat → Nat → Int32) : Prop :=
  ro 0 = v 0 ∧ (∀ k, k < 6 → ro (8 + 3 * k + 2) = w 7 k) ∧ ∀ j, j < m → ro (26 + 4 * j) = nI (kd j) ∧ ro (26 + 4 * j + 1) = mv j 1 ∧ ro (26 + 4 * j + 2) = mv j 2 ∧ ro (26 + 4 * j + 3) = mv j 3
/-- movers' numbers are in their bounds -/
def mvOk (n m : Nat) (mv : Nat → Nat → Int32) : Prop := ∀ j, j < m → (∃ k, k < n ∧ mv j 1 = nI k) ∧ (mv j 2 = 0 ∨ mv j 2 = 1) ∧ ∃ r, r ≤ 5 ∧ mv j 3 = nI r
theorem goI_step {kd nt : Nat} {mv : Nat → Int32} (h : mv 2 = 0 ∨ mv 2 = 1) : (if goI kd mv nt = 0 then (-1 : Int32) else 1) = (if kd = 4 ∧ nt % 2 = 1 then -(if mv 2 = 1 then 1 else -1) else (if mv 2 = 1 then 1 else -1)) := by
  unfold goI bI
  rcases Nat.mod_two_eq_zero_or_one nt with e | e <;> rcases h with h | h <;> by_cases h4 : kd = 4 <;> simp [e, h, h4]
