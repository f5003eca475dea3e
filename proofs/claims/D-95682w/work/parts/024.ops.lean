/-! What the public calls do to the reference's numbers (v: its int fields, w: its arrays). -/
abbrev mR : Type := Int32 × (Nat → Int32) × (Nat → Nat → Int32)
def iN (x : Int32) : Nat := x.toNatClampNeg
theorem iN_nI {n : Nat} (h : n < 2 ^ 31) : iN (nI n) = n := nI_clamp h
/-- array a holds f from lo on, n places -/
def wseg (w : Nat → Nat → Int32) (a lo n : Nat) (f : Nat → Int32) : Nat → Nat → Int32 := fun i => if i = a then (fun q => if lo ≤ q ∧ q < lo + n then f (q - lo) else w a q) else w i
theorem wseg_0 (w : Nat → Nat → Int32) (a lo : Nat) (f : Nat → Int32) : wseg w a lo 0 f = w := by
  funext i q
  unfold wseg
  by_cases h : i = a
  · subst h
    simp only [if_true]
    rw [if_neg (by omega)]
  · rw [if_neg h]
theorem wseg_s (w : Nat → Nat → Int32) (a lo n : Nat) (f : Nat → Int32) : wup (wseg w a lo n f) a (lo + n) (f n) = wseg w a lo (n + 1) f := by
  funext i q
  unfold wup wseg upd
  by_cases h : i = a
  · subst h
    simp only [if_true]
    by_cases hq : q = lo + n
    · subst hq
      rw [if_pos rfl, if_pos (by omega)]
      congr 1
      omega
    · rw [if_neg hq]
      by_cases h2 : lo ≤ q ∧ q < lo + n
      · rw [if_pos h2, if_pos (by omega)]
      · rw [if_neg h2, if_neg (by omega)]
  · rw [if_neg h, if_neg h, if_neg h]
theorem wseg_sx {w : Nat → Nat → Int32} {a lo n m : Nat} {f : Nat → Int32} {x : Int32} (hm : m = lo + n) (hx : x = f n) : wup (wseg w a lo n f) a m x = wseg w a lo (n + 1) f := by
  subst hm; subst hx; exact wseg_s w a lo n f
theorem wseg_o {w : Nat → Nat → Int32} {a lo n i : Nat} {f : Nat → Int32} (h : i ≠ a) : wseg w a lo n f i = w i := if_neg h
theorem wseg_out {w : Nat → Nat → Int32} {a lo n q : Nat} {f : Nat → Int32} (h : q < lo ∨ lo + n ≤ q) : wseg w a lo n f a q = w a q := by
  unfold wseg
  rw [if_pos rfl, if_neg (by omega)]
theorem wseg_in {w : Nat → Nat → Int32} {a lo n q : Nat} {f : Nat → Int32} (h : lo ≤ q) (h2 : q < lo + n) : wseg w a lo n f a q = f (q - lo) := by
  unfold wseg
  rw [if_pos rfl, if_pos ⟨h, h2⟩]
theorem upd_upd (f : Nat → Int32) (k : Nat) (x y : Int32) : upd (upd f k x) k y = upd f k y := by
  funext i
  unfold upd
  split <;> rfl
def op_row (v : Nat → Int32) (w : Nat → Nat → Int32) (r l n : Int32) : mR :=
  if ¬ (0 ≤ r ∧ r ≤ 7) ∨ ¬ (0 ≤ l ∧ l ≤ 2) ∨ ¬ n ≤ 40 then (-1000001, upd v 0 0, w)
  else if n < 0 then (-1000014, upd (upd (upd v 0 0) 1 0) 1 4, w)
  else (n, upd (upd v 0 0) 1 0, wseg (wup (wup w 2 (iN r) l) 3 (iN r) n) 4 (40 * iN r) 40 (fun _ => 0))
def cutL (lane x : Int32) : Int32 := if lane = 0 then x.toInt8.toInt32 else if lane = 1 then x.toInt16.toInt32 else x
def op_set (v : Nat → Int32) (w : Nat → Nat → Int32) (r i x : Int32) : mR :=
  if ¬ (0 ≤ r ∧ r ≤ 7) then (-1000001, upd v 0 0, w)
  else if w 2 (iN r) < 0 then (-1000011, upd (upd (upd v 0 0) 1 0) 1 1, w)
  else if ¬ (0 ≤ i ∧ i ≤ w 3 (iN r) - 1) then (-1000012, upd (upd (upd v 0 0) 1 0) 1 2, w)
  else (cutL (w 2 (iN r)) x, upd (upd v 0 0) 1 0, wup w 4 (40 * iN r + iN i) (cutL (w 2 (iN r)) x))
def op_drop (v : Nat → Int32) (w : Nat → Nat → Int32) (r : Int32) : mR :=
  if ¬ (0 ≤ r ∧ r ≤ 7) then (-1000001, upd v 0 0, w)
  else if w 2 (iN r) < 0 then (-1000011, upd (upd (upd v 0 0) 1 0) 1 1, w)
  else (w 3 (iN r), upd (upd v 0 0) 1 0, wup w 2 (iN r) (-1))
/-- a row's number of items is a number of at most 40 -/
def rowsOk (w : Nat → Nat → Int32) : Prop := ∀ j, j < 8 → ∃ n : Nat, n ≤ 40 ∧ w 3 j = nI n
/-- how many stones, movers, times the road has -/
def rdN (w : Nat → Nat → Int32) (n mv tm : Nat) : Prop := w 5 4 = nI n ∧ n ≤ 6 ∧ w 5 5 = nI mv ∧ mv ≤ 5 ∧ w 5 7 = nI tm ∧ tm ≤ 12
def op_stone (v : Nat → Int32) (w : Nat → Nat → Int32) (k f : Int32) : mR :=
  if (0 ≤ k ∧ k ≤ w 5 4 - 1) ∧ (0 ≤ f ∧ f ≤ 2) then (w 5 (8 + 3 * iN k + iN f), upd v 0 0, w) else (-1000001, upd v 0 0, w)
def apt (a b : Int32) : Int32 := if a < b then b - a else a - b
def op_carry (v : Nat → Int32) (w : Nat → Nat → Int32) (a b f : Int32) : mR :=
  if ¬ (0 ≤ a ∧ a ≤ w 5 4 - 1) ∨ ¬ (0 ≤ b ∧ b ≤ w 5 4 - 1) ∨ ¬ (0 ≤ f ∧ f ≤ 1) then (-1000001, upd v 0 0, w)
  else if f = 0 then (w 5 1 * apt (w 5 (8 + 3 * iN a)) (w 5 (8 + 3 * iN b)), upd v 0 0, w)
  else (apt (w 5 (8 + 3 * iN a + 1)) (w 5 (8 + 3 * iN b + 1)), upd v 0 0, w)
def addT (w : Nat → Nat → Int32) (a b x t : Int32) : Nat → Nat → Int32 :=
  wup (wup (wup (wup (wup w 5 (46 + 4 * iN (w 5 7)) a) 5 (46 + 4 * iN (w 5 7) + 1) b) 5 (46 + 4 * iN (w 5 7) + 2) x) 5 (46 + 4 * iN (w 5 7) + 3) t) 5 7 (w 5 7 + 1)
def op_time (v : Nat → Int32) (w : Nat → Nat → Int32) (a b x t : Int32) : mR :=
  if ¬ ((0 ≤ a ∧ a ≤ w 5 4 - 1) ∧ (0 ≤ b ∧ b ≤ w 5 4 - 1) ∧ a < b ∧ (1 ≤ x ∧ x ≤ 20) ∧ (0 ≤ t ∧ t ≤ 99)) then (-1000001, upd v 0 0, w)
  else if w 5 7 = 12 then (-1000003, upd v 0 0, w)
  else (w 5 7 + 1, upd v 0 0, addT w a b x t)
def op_forget (v : Nat → Int32) (w : Nat → Nat → Int32) : mR := (w 5 7, upd v 0 0, wup w 5 7 0)
def op_image (v : Nat → Int32) (w : Nat → Nat → Int32) (k : Int32) : mR :=
  if ¬ (0 ≤ k ∧ k ≤ 1) then (-1000001, upd v 0 0, w)
  else if ¬ 0 < w 5 0 then (-1000002, upd v 0 0, w)
  else (1, upd v 0 0, wup (wseg w 23 (94 * iN k) 94 (w 5)) 22 (iN k) 1)
def op_restore (v : Nat → Int32) (w : Nat → Nat → Int32) (k : Int32) : mR :=
  if ¬ (0 ≤ k ∧ k ≤ 1) then (-1000001, upd v 0 0, w)
  else if w 22 (iN k) = 0 then (-1000002, upd v 0 0, w)
  else (1, upd (upd v 0 0) 8 0, wseg w 5 0 94 (fun q => w 23 (94 * iN k + q)))
def op_kind (v : Nat → Int32) (w : Nat → Nat → Int32) (m : Int32) : mR :=
  if 0 ≤ m ∧ m ≤ w 5 5 - 1 then (w 5 (26 + 4 * iN m), upd v 0 0, w) else (-1000001, upd v 0 0, w)
def op_as (v : Nat → Int32) (w : Nat → Nat → Int32) (m k : Int32) : mR :=
  if ¬ (0 ≤ m ∧ m ≤ w 5 5 - 1) ∨ ¬ (0 ≤ k ∧ k ≤ 5) then (-1000001, upd v 0 0, w)
  else if k = 0 ∨ w 5 (26 + 4 * iN m) = k ∨ (k = 1 ∧ w 5 (26 + 4 * iN m) < 4) ∨ (k = 4 ∧ w 5 (26 + 4 * iN m) = 5) then (m, upd (upd v 0 0) 1 0, w)
  else (-1000013, upd (upd (upd v 0 0) 1 0) 1 3, w)
def op_trace (v : Nat → Int32) (w : Nat → Nat → Int32) (i : Int32) : mR :=
  if 0 ≤ i ∧ i ≤ v 25 - 1 then (w 24 (iN i), upd v 0 0, w) else (-1000000, upd v 0 0, w)
def cntL (f : Nat → Int32) : Nat → Int32
  | 0 => 0
  | k + 1 => cntL f k + bI (0 ≤ f k)
def op_count (v : Nat → Int32) (w : Nat → Nat → Int32) (x : Int32) : mR :=
  (if x = 0 then cntL (w 2) 8 else if x = 1 then w 5 4 else if x = 2 then w 5 5 else if x = 3 then w 5 6 else if x = 4 then v 8 else if x = 5 then w 5 7 else if x = 6 then v 10 else -1000001, upd v 0 0, w)
def op_feed (v : Nat → Int32) (w : Nat → Nat → Int32) (x : Int64) (n : Int32) : mR :=
  if ¬ (1 ≤ n ∧ n ≤ 8) then (-1000001, upd v 0 0, w)
  else if ¬ v 10 + n ≤ 400 then (-1000003, upd v 0 0, w)
  else (v 10 + n, upd (upd v 0 0) 10 (v 10 + n), wseg w 9 (iN (v 10)) (iN n) (fun q => ((x >>> ((8 * nI (iN n - 1 - q)).toInt64 &&& 63)) &&& 255).toInt32))
/-- places lo, lo + 3, lo + 6 .. of the road hold f -/
def wst (w : Nat → Nat → Int32) (n : Nat) (f : Nat → Int32) : Nat → Nat → Int32 := fun i => if i = 5 then (fun q => if 9 ≤ q ∧ q < 9 + 3 * n ∧ (q - 9) % 3 = 0 then f ((q - 9) / 3) else w 5 q) else w i
theorem wst_0 (w : Nat → Nat → Int32) (f : Nat → Int32) : wst w 0 f = w := by
  funext i q
  unfold wst
  by_cases h : i = 5
  · subst h
    simp only [if_true]
    rw [if_neg (by omega)]
  · rw [if_neg h]
theorem wst_s {w : Nat → Nat → Int32} {n m : Nat} {f : Nat → Int32} {x : Int32} (hm : m = 8 + 3 * n + 1) (hx : x = f n) : wup (wst w n f) 5 m x = wst w (n + 1) f := by
  subst hm; subst hx
  funext i q
  unfold wup wst upd
  by_cases h : i = 5
  · subst h
    simp only [if_true]
    by_cases hq : q = 8 + 3 * n + 1
    · subst hq
      rw [if_pos rfl, if_pos (by omega)]
      congr 1
      omega
    · rw [if_neg hq]
      by_cases h2 : 9 ≤ q ∧ q < 9 + 3 * n ∧ (q - 9) % 3 = 0
      · rw [if_pos h2, if_pos (by omega)]
      · rw [if_neg h2, if_neg (by omega)]
  · rw [if_neg h, if_neg h, if_neg h]
theorem wst_o {w : Nat → Nat → Int32} {n i : Nat} {f : Nat → Int32} (h : i ≠ 5) : wst w n f i = w i := if_neg h
def op_undo (v : Nat → Int32) (w : Nat → Nat → Int32) : mR :=
  if v 8 = 0 then (-1000002, upd v 0 0, w)
  else (v 8 - 1, upd (upd v 0 0) 8 (v 8 - 1), wup (wst w 6 (fun k => w 7 (7 * iN (v 8 - 1) + k))) 5 6 (w 7 (7 * iN (v 8 - 1) + 6)))
theorem addT_7 (w : Nat → Nat → Int32) (a b x t : Int32) : addT w a b x t 5 7 = w 5 7 + 1 := by
  unfold addT
  rw [wup_s, upd_s]
