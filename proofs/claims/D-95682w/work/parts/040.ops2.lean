/-! Nights: the places of the stones, pushed. -/
def wput (w : Nat → Nat → Int32) (a : Nat) (f : Nat → Int32) : Nat → Nat → Int32 := fun i => if i = a then f else w i
theorem wput_s (w : Nat → Nat → Int32) (a : Nat) (f : Nat → Int32) : wput w a f a = f := if_pos rfl
theorem wput_n {w : Nat → Nat → Int32} {a i : Nat} {f : Nat → Int32} (h : i ≠ a) : wput w a f i = w i := if_neg h
theorem wput_self (w : Nat → Nat → Int32) (a : Nat) : wput w a (w a) = w := by
  funext i
  unfold wput
  split
  · rename_i h; rw [h]
  · rfl
theorem wup_wput (w : Nat → Nat → Int32) (a n : Nat) (f : Nat → Int32) (x : Int32) : wup (wput w a f) a n x = wput w a (upd f n x) := by
  funext i
  unfold wup wput
  split
  · rw [if_pos rfl]
  · rfl
theorem wput_wput (w : Nat → Nat → Int32) (a : Nat) (f g : Nat → Int32) : wput (wput w a f) a g = wput w a g := by
  funext i
  unfold wput
  split <;> rfl
/-- free of stones, the first k of them looked at -/
def frL (b : Bool) (f : Nat → Int32) (x : Int32) : Nat → Bool
  | 0 => b
  | k + 1 => frL b f x k && decide (f k ≠ x)
def isFr (len : Int32) (n : Nat) (f : Nat → Int32) (x : Int32) : Bool := frL (decide (0 ≤ x ∧ x ≤ len)) f x n
/-- at most y yards -/
def psh (len : Int32) (n k : Nat) (step : Int32) : Nat → (Nat → Int32) → (Nat → Int32)
  | 0, f => f
  | y + 1, f => if isFr len n f (f k + step) = true then psh len n k step y (upd f k (f k + step)) else f
def skipM (ro : Nat → Int32) (f : Nat → Int32) (m nt : Nat) : Prop := (ro (26 + 4 * m) = 3 ∧ nt % 2 = 1) ∨ (ro (26 + 4 * m) = 5 ∧ ¬ f (iN (ro (26 + 4 * m + 1))) = ro (8 + 3 * iN (ro (26 + 4 * m + 1)) + 2))
def stepM (ro : Nat → Int32) (m nt : Nat) : Int32 := if ro (26 + 4 * m) = 4 ∧ nt % 2 = 1 then -(if ro (26 + 4 * m + 2) = 1 then 1 else -1) else (if ro (26 + 4 * m + 2) = 1 then 1 else -1)
def yardM (ro : Nat → Int32) (m : Nat) : Nat := if ro (26 + 4 * m) = 2 then 2 * iN (ro (26 + 4 * m + 3)) else iN (ro (26 + 4 * m + 3))
/-- a mover's night -/
noncomputable def pushF (ro : Nat → Int32) (n : Nat) (f : Nat → Int32) (m nt : Nat) : Nat → Int32 :=
  if (ro (26 + 4 * m) = 3 ∧ nt % 2 = 1) ∨ (ro (26 + 4 * m) = 5 ∧ ¬ f (iN (ro (26 + 4 * m + 1))) = ro (8 + 3 * iN (ro (26 + 4 * m + 1)) + 2)) then f
  else psh (ro 0) n (iN (ro (26 + 4 * m + 1))) (stepM ro m nt) (yardM ro m) f
noncomputable def goF (ro : Nat → Int32) (n : Nat) (nt : Nat) (out : Int32) (f : Nat → Int32) : Nat → (Nat → Int32)
  | 0 => f
  | m + 1 => if (out >>> (nI m &&& 31)) &&& 1 = 1 then pushF ro n (goF ro n nt out f m) m nt else goF ro n nt out f m
/-- each mover's stone is there, its reach is at most 5 -/
def movOk (ro : Nat → Int32) (n mv : Nat) : Prop := ∀ m, m < mv → ∃ k r : Nat, ro (26 + 4 * m + 1) = nI k ∧ k < n ∧ ro (26 + 4 * m + 3) = nI r ∧ r ≤ 5
/-- the first n stones' places as they are laid (what: 0 says, 1 now, 2 home) -/
def layF (ro f : Nat → Int32) (n what : Nat) : Nat → Int32 := fun k => if k < n then ro (8 + 3 * k + what) else f k
theorem layF_0 (ro f : Nat → Int32) (what : Nat) : layF ro f 0 what = f := by
  funext k
  unfold layF
  rw [if_neg (by omega)]
theorem layF_s (ro f : Nat → Int32) (n what : Nat) : upd (layF ro f n what) n (ro (8 + 3 * n + what)) = layF ro f (n + 1) what := by
  funext k
  unfold layF upd
  by_cases h : k = n
  · subst h
    rw [if_pos rfl, if_pos (by omega)]
  · rw [if_neg h]
    show (if k < n then _ else _) = _
    by_cases h2 : k < n
    · rw [if_pos h2, if_pos (by omega)]
    · rw [if_neg h2, if_neg (by omega)]
/-- all equal, the first k looked at -/
def eqL (f g : Nat → Int32) : Nat → Bool
  | 0 => true
  | k + 1 => eqL f g k && decide (f k = g k)
/-- which of the first k stand elsewhere, as bits -/
def difL (f g : Nat → Int32) : Nat → Int32
  | 0 => 0
  | k + 1 => difL f g k ||| (if f k = g k then (0 : Int32) else (1 : Int32) <<< (nI k &&& 31))
/-- what is kept ahead of an act -/
def keepV (v : Nat → Int32) : Nat → Int32 := if v 8 = 24 then upd (upd v 8 (v 8 - 1)) 8 (v 8 - 1 + 1) else upd v 8 (v 8 + 1)
def keepW (v : Nat → Int32) (w : Nat → Nat → Int32) : Nat → Nat → Int32 :=
  if v 8 = 24 then wup (wseg (wseg w 7 0 161 (fun q => w 7 (q + 7))) 7 (7 * 23) 6 (fun k => w 5 (8 + 3 * k + 1))) 7 (7 * 23 + 6) (w 5 6)
  else wup (wseg w 7 (7 * iN (v 8)) 6 (fun k => w 5 (8 + 3 * k + 1))) 7 (7 * iN (v 8) + 6) (w 5 6)
noncomputable def op_night (v : Nat → Int32) (w : Nat → Nat → Int32) : mR :=
  if ¬ 0 < w 5 0 then (-1000002, upd v 0 0, w)
  else if w 5 6 = 9999 then (-1000003, upd v 0 0, w)
  else
    let f := goF (w 5) (iN (w 5 4)) (iN (w 5 6)) 31 (layF (w 5) (w 19) (iN (w 5 4)) 1) (iN (w 5 5))
    (difL f (fun k => w 5 (8 + 3 * k + 1)) (iN (w 5 4)), keepV (upd v 0 0), wup (wst (wput (keepW v w) 19 f) (iN (w 5 4)) f) 5 6 (w 5 6 + 1))
theorem goF_t {ro : Nat → Int32} {n nt : Nat} {out : Int32} {f : Nat → Int32} {m : Nat} (h : (out >>> (nI m &&& 31)) &&& 1 = 1) : goF ro n nt out f (m + 1) = pushF ro n (goF ro n nt out f m) m nt := if_pos h
theorem goF_f {ro : Nat → Int32} {n nt : Nat} {out : Int32} {f : Nat → Int32} {m : Nat} (h : ¬ (out >>> (nI m &&& 31)) &&& 1 = 1) : goF ro n nt out f (m + 1) = goF ro n nt out f m := if_neg h
theorem keepW_o {v : Nat → Int32} {w : Nat → Nat → Int32} {i : Nat} (h : i ≠ 7) : keepW v w i = w i := by
  unfold keepW
  split
  · rw [wup_n h, wseg_o h, wseg_o h]
  · rw [wup_n h, wseg_o h]
theorem wst_lo {w : Nat → Nat → Int32} {n q : Nat} {f : Nat → Int32} (h : q < 9) : wst w n f 5 q = w 5 q := by
  unfold wst
  rw [if_pos rfl, if_neg (by omega)]
theorem wst_out {w : Nat → Nat → Int32} {n q : Nat} {f : Nat → Int32} (h : 9 + 3 * n ≤ q) : wst w n f 5 q = w 5 q := by
  unfold wst
  rw [if_pos rfl, if_neg (by omega)]
theorem wst_hi {w : Nat → Nat → Int32} {n q : Nat} {f : Nat → Int32} (h : (q - 9) % 3 ≠ 0) : wst w n f 5 q = w 5 q := by
  unfold wst
  rw [if_pos rfl, if_neg (by omega)]
theorem wst_at {w : Nat → Nat → Int32} {n k : Nat} {f : Nat → Int32} (h : k < n) : wst w n f 5 (8 + 3 * k + 1) = f k := by
  unfold wst
  rw [if_pos rfl, if_pos (by omega)]
  congr 1
  omega
