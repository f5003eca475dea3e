/-! Foretelling: what is asked of nights that are not gone. -/
def blkL (ro : Nat → Int32) (k : Nat) (lo hi : Int32) : Nat → Bool
  | 0 => false
  | q + 1 => blkL ro k lo hi q || (decide (q ≠ k) && decide (lo ≤ ro (8 + 3 * q + 1) ∧ ro (8 + 3 * q + 1) ≤ hi))
theorem blkL_up {ro : Nat → Int32} {k : Nat} {lo hi : Int32} {q n : Nat} (h : blkL ro k lo hi q = true) (hq : q ≤ n) : blkL ro k lo hi n = true := by
  induction n with
  | zero => rw [show q = 0 by omega] at h; exact h
  | succ n ih =>
    by_cases e : q = n + 1
    · rw [← e]; exact h
    · rw [blkL, ih (by omega)]; rfl
def loI (a b : Int32) : Int32 := if a < b then a else b
def hiI (a b : Int32) : Int32 := if a < b then b else a
def op_prove (v : Nat → Int32) (w : Nat → Nat → Int32) (x : Int32) : mR :=
  if ¬ (0 ≤ x ∧ x ≤ w 5 4 - 1) then (-1000001, upd v 0 0, w)
  else if blkL (w 5) (iN x) (loI (w 5 (8 + 3 * iN x + 1)) (w 5 (8 + 3 * iN x + 2))) (hiI (w 5 (8 + 3 * iN x + 1)) (w 5 (8 + 3 * iN x + 2))) (iN (w 5 4)) = true then (-1000002, upd v 0 0, w)
  else if w 5 (8 + 3 * iN x + 1) = w 5 (8 + 3 * iN x + 2) then (-1000002, upd v 0 0, w)
  else (hiI (w 5 (8 + 3 * iN x + 1)) (w 5 (8 + 3 * iN x + 2)) - loI (w 5 (8 + 3 * iN x + 1)) (w 5 (8 + 3 * iN x + 2)), keepV (upd v 0 0), wup (keepW (upd v 0 0) w) 5 (8 + 3 * iN x + 1) (w 5 (8 + 3 * iN x + 2)))
noncomputable def restF (ro : Nat → Int32) (n mv nt : Nat) : Nat → Nat → Int32 → (Nat → Int32) → Int32
  | 0, _, _, _ => -1000000
  | t + 1, i, st, f => if (if eqL (goF ro n (nt + i) 31 f mv) f n = true then st + 1 else 0) = 2 then nI i - 1 else restF ro n mv nt t (i + 1) (if eqL (goF ro n (nt + i) 31 f mv) f n = true then st + 1 else 0) (goF ro n (nt + i) 31 f mv)
noncomputable def op_rest (v : Nat → Int32) (w : Nat → Nat → Int32) : Int32 :=
  if ¬ 0 < w 5 0 then -1000002 else restF (w 5) (iN (w 5 4)) (iN (w 5 5)) (iN (w 5 6)) 62 0 0 (layF (w 5) (w 19) (iN (w 5 4)) 1)
noncomputable def ntsF (ro : Nat → Int32) (n mv : Nat) (out : Int32) (f : Nat → Int32) : Nat → (Nat → Int32)
  | 0 => f
  | t + 1 => goF ro n t out (ntsF ro n mv out f t) mv
noncomputable def stands (ro f : Nat → Int32) (n mv t : Nat) (out : Int32) : Bool := eqL (ntsF ro n mv out (layF ro f n 2) t) (fun k => ro (8 + 3 * k + 1)) n
/-- sets that stand, from S on downwards, k of them looked at; the least of them -/
def wcD (P : Nat → Bool) (S : Nat) : Nat → Int32
  | 0 => 0
  | k + 1 => if P (S - k) = true then wcD P S k + 1 else wcD P S k
def wlD (P : Nat → Bool) (S : Nat) : Nat → Int32
  | 0 => -1000000
  | k + 1 => if P (S - k) = true then nI (S - k) else wlD P S k
def othr (ro : Nat → Int32) (q k : Nat) : Prop := ¬ ro (8 + 3 * q + 1) - ro (8 + 3 * q) = ro (8 + 3 * k + 1) - ro (8 + 3 * k)
def mSet (ro : Nat → Int32) (k : Nat) : Nat → Int32
  | 0 => 0
  | q + 1 => mSet ro k q ||| (if ro (8 + 3 * q + 1) - ro (8 + 3 * q) = ro (8 + 3 * k + 1) - ro (8 + 3 * k) then (0 : Int32) else (1 : Int32) <<< (nI q &&& 31))
def mOut (ro : Nat → Int32) (k : Nat) : Nat → Int32
  | 0 => 0
  | q + 1 => mOut ro k q + (if ro (8 + 3 * q + 1) - ro (8 + 3 * q) = ro (8 + 3 * k + 1) - ro (8 + 3 * k) then (0 : Int32) else 1)
def mBst (ro : Nat → Int32) (n : Nat) : Nat → Int32 × Int32
  | 0 => (nI n, (1 : Int32) <<< (nI n &&& 31) - 1)
  | k + 1 => if mOut ro k n < (mBst ro n k).1 ∨ (mOut ro k n = (mBst ro n k).1 ∧ mSet ro k n < (mBst ro n k).2) then (mOut ro k n, mSet ro k n) else mBst ro n k
def op_moved (v : Nat → Int32) (w : Nat → Nat → Int32) (x : Int32) : mR :=
  if ¬ 0 < w 5 0 then (-1000002, upd v 0 0, w)
  else if ¬ (0 ≤ x ∧ x ≤ 1) then (-1000001, upd v 0 0, w)
  else if x = 0 then ((mBst (w 5) (iN (w 5 4)) (iN (w 5 4))).1, upd v 0 0, w) else ((mBst (w 5) (iN (w 5 4)) (iN (w 5 4))).2, upd v 0 0, w)
def powL (x : Int32) : Nat → Int32
  | 0 => 1
  | k + 1 => powL x k * x
def brF (ro : Nat → Int32) (d : Nat) (fee : Int32) : Int32 := powL (100 - ro 2) d * powL 100 (3 - d) * fee * nI d - (1000000 - powL (100 - ro 2) d * powL 100 (3 - d)) * ro 3
def bestB (ro : Nat → Int32) (fee : Int32) : Nat → Nat
  | 0 => 0
  | d + 1 => if brF ro (bestB ro fee d) fee < brF ro (d + 1) fee then d + 1 else bestB ro fee d
theorem bestB_le (ro : Nat → Int32) (fee : Int32) (d : Nat) : bestB ro fee d ≤ d := by
  induction d with
  | zero => exact Nat.le_refl 0
  | succ d ih =>
    rw [bestB]
    split <;> omega
def fdn (ro : Nat → Int32) : Nat → Nat
  | 0 => 0
  | f + 1 => if bestB ro (nI (f + 1)) 3 = 0 then f + 1 else fdn ro f
def op_best (v : Nat → Int32) (w : Nat → Nat → Int32) (x : Int32) : mR :=
  if ¬ 0 < w 5 0 then (-1000002, upd v 0 0, w)
  else if ¬ (0 ≤ x ∧ x ≤ 1) then (-1000001, upd v 0 0, w)
  else if x = 0 then (nI (bestB (w 5) (w 5 1) 3), upd v 0 0, w) else (nI (fdn (w 5) 20), upd v 0 0, w)
def absI (x : Int32) : Int32 := if 0 ≤ x then x else -x
def op_dare (v : Nat → Int32) (w : Nat → Nat → Int32) (d x : Int32) : mR :=
  if ¬ 0 < w 5 0 then (-1000002, upd v 0 0, w)
  else if ¬ (0 ≤ d ∧ d ≤ 3) ∨ ¬ (0 ≤ x ∧ x ≤ 1) then (-1000001, upd v 0 0, w)
  else ((if x = 0 then brF (w 5) (iN d) (w 5 1) else 1000000) / nI (Nat.gcd (iN (absI (brF (w 5) (iN d) (w 5 1)))) 1000000), upd v 0 0, w)
