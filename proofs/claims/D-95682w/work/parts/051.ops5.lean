/-! ends, widest, copy, times -/
theorem atM_agr {f g : Nat → Int32} {a b : Nat} {x : Int32} (ha : a ≤ 6) (hb : b ≤ 6) (h : agr 49 f g) : agr 49 (atM f a b x) (atM g a b x) := by
  unfold atM
  rw [h (7 * a + b) (by omega)]
  exact upd_agr h
theorem ini_agr (f g : Nat → Int32) : agr 49 (ini f 49) (ini g 49) := by
  have key : ∀ K, agr K (ini f K) (ini g K) := by
    intro K
    induction K with
    | zero => intro k hk; omega
    | succ K ih =>
      intro k hk
      rw [ini, ini]
      unfold upd
      split
      · rfl
      · exact ih k (by omega)
  exact key 49
theorem fwS_agr {f g : Nat → Int32} {len : Int32} (h : agr 49 f g) : ∀ n, n ≤ 6 → agr 49 (fwS len f n) (fwS len g n) := by
  intro n
  induction n with
  | zero => intro _; exact h
  | succ n ih =>
    intro hn
    have i := ih (by omega)
    rw [fwS, fwS]
    split
    · exact atM_agr (by omega) (by omega) (atM_agr (by omega) (by omega) i)
    · exact atM_agr (by omega) (by omega) (atM_agr (by omega) (by omega) (atM_agr (by omega) (by omega) i))
theorem fwT_agr {ro f g : Nat → Int32} {n tm : Nat} (hn : n ≤ 6) (hto : tmOk ro n tm) (h : agr 49 f g) : ∀ q, q ≤ tm → agr 49 (fwT ro f q) (fwT ro g q) := by
  intro q
  induction q with
  | zero => intro _; exact h
  | succ q ih =>
    intro hq
    obtain ⟨a, b, x0, t0, ea, eb, hab, hbn, -⟩ := hto q (by omega)
    have ia : iN (ro (46 + 4 * q)) = a := by rw [ea]; exact iN_nI (by omega)
    have ib : iN (ro (46 + 4 * q + 1)) = b := by rw [eb]; exact iN_nI (by omega)
    rw [fwT, fwT, ia, ib]
    exact atM_agr (by omega) (by omega) (atM_agr (by omega) (by omega) (ih (by omega)))
theorem fwB_agr {f g : Nat → Int32} {m a : Nat} (hm : m ≤ 6) (ha : a ≤ 6) (h : agr 49 f g) : ∀ b, b ≤ 7 → agr 49 (fwB f m a b) (fwB g m a b) := by
  intro b
  induction b with
  | zero => intro _; exact h
  | succ b ih =>
    intro hb
    have i := ih (by omega)
    rw [fwB, fwB, i (7 * a + m) (by omega), i (7 * m + b) (by omega)]
    split
    · exact atM_agr (by omega) (by omega) i
    · exact i
theorem fwA_agr {f g : Nat → Int32} {m : Nat} (hm : m ≤ 6) (h : agr 49 f g) : ∀ a, a ≤ 7 → agr 49 (fwA f m a) (fwA g m a) := by
  intro a
  induction a with
  | zero => intro _; exact h
  | succ a ih => intro ha; exact fwB_agr hm (by omega) (ih (by omega)) 7 (Nat.le_refl 7)
theorem fwM_agr {f g : Nat → Int32} (h : agr 49 f g) : ∀ m, m ≤ 7 → agr 49 (fwM f m) (fwM g m) := by
  intro m
  induction m with
  | zero => intro _; exact h
  | succ m ih => intro hm; exact fwA_agr (by omega) (ih (by omega)) 7 (Nat.le_refl 7)
theorem layM_agr {ro : Nat → Int32} (f g : Nat → Int32) {n tm : Nat} (hn : n ≤ 6) (hto : tmOk ro n tm) : agr 49 (layM ro f n tm) (layM ro g n tm) :=
  fwM_agr (fwT_agr hn hto (fwS_agr (ini_agr f g) n hn) tm (Nat.le_refl tm)) 7 (Nat.le_refl 7)
theorem okL_agr {f g : Nat → Int32} (h : agr 49 f g) : ∀ a, a ≤ 7 → okL f a = okL g a := by
  intro a
  induction a with
  | zero => intro _; rfl
  | succ a ih => intro ha; rw [okL, okL, ih (by omega), h (8 * a) (by omega)]
/-- the closure, whatever lay there before -/
def layZ (ro : Nat → Int32) (n tm : Nat) : Nat → Int32 := layM ro (fun _ => 0) n tm
def op_ends (w : Nat → Nat → Int32) (x y f : Int32) : Int32 :=
  if ¬ (0 ≤ x ∧ x ≤ w 5 4 - 1) ∨ ¬ (0 ≤ y ∧ y ≤ w 5 4 - 1) ∨ ¬ x < y ∨ ¬ (0 ≤ f ∧ f ≤ 1) then -1000001
  else if ¬ okL (layZ (w 5) (iN (w 5 4)) (iN (w 5 7))) 7 = true then -1000000
  else if f = 0 then -(layZ (w 5) (iN (w 5 4)) (iN (w 5 7)) (7 * iN y + iN x)) else layZ (w 5) (iN (w 5 4)) (iN (w 5 7)) (7 * iN x + iN y)
def wdI (F : Nat → Int32) (a : Nat) (p : Int32 × Int32) : Nat → Int32 × Int32
  | 0 => p
  | i + 1 => if (wdI F a p i).2 < F (7 * a + (a + 1 + i)) + F (7 * (a + 1 + i) + a) then (6 * nI a + nI (a + 1 + i), F (7 * a + (a + 1 + i)) + F (7 * (a + 1 + i) + a)) else wdI F a p i
def wdO (F : Nat → Int32) (n : Nat) : Nat → Int32 × Int32
  | 0 => (-1000000, -1)
  | a + 1 => wdI F a (wdO F n a) (n - (a + 1))
theorem wdI_agr {F K : Nat → Int32} (h : agr 49 F K) {a : Nat} {p : Int32 × Int32} : ∀ i, a + i ≤ 5 → wdI F a p i = wdI K a p i := by
  intro i
  induction i with
  | zero => intro _; rfl
  | succ i ih => intro hi; rw [wdI, wdI, ih (by omega), h (7 * a + (a + 1 + i)) (by omega), h (7 * (a + 1 + i) + a) (by omega)]
theorem wdO_agr {F K : Nat → Int32} (h : agr 49 F K) {n : Nat} (hn : n ≤ 6) : ∀ a, a ≤ n → wdO F n a = wdO K n a := by
  intro a
  induction a with
  | zero => intro _; rfl
  | succ a ih => intro ha; rw [wdO, wdO, ih (by omega), wdI_agr h _ (by omega)]
def op_widest (w : Nat → Nat → Int32) : Int32 :=
  if ¬ 0 < w 5 0 then -1000002
  else if ¬ okL (layZ (w 5) (iN (w 5 4)) (iN (w 5 7))) 7 = true then -1000000
  else (wdO (layZ (w 5) (iN (w 5 4)) (iN (w 5 7))) (iN (w 5 4)) (iN (w 5 4))).1
theorem wseg_p {w : Nat → Nat → Int32} {a lo n : Nat} {f : Nat → Int32} : wup (wseg w a (lo + 1) n (fun q => f (q + 1))) a lo (f 0) = wseg w a lo (n + 1) f := by
  funext i q
  unfold wup wseg upd
  by_cases h : i = a
  · subst h
    simp only [if_true]
    by_cases hq : q = lo
    · subst hq
      rw [if_pos rfl, if_pos (by omega), Nat.sub_self]
    · rw [if_neg hq]
      by_cases h2 : lo + 1 ≤ q ∧ q < lo + 1 + n
      · rw [if_pos h2, if_pos (by omega)]
        congr 1
        omega
      · rw [if_neg h2, if_neg (by omega)]
  · rw [if_neg h, if_neg h, if_neg h]
def op_copy (v : Nat → Int32) (w : Nat → Nat → Int32) (a i b j n : Int32) : mR :=
  if ¬ (0 ≤ a ∧ a ≤ 7) ∨ ¬ (0 ≤ b ∧ b ≤ 7) then (-1000001, upd v 0 0, w)
  else if w 2 (iN a) < 0 ∨ w 2 (iN b) < 0 then (-1000011, upd (upd (upd v 0 0) 1 0) 1 1, w)
  else if ¬ w 2 (iN a) = w 2 (iN b) then (-1000015, upd (upd (upd v 0 0) 1 0) 1 5, w)
  else if i < 0 ∨ j < 0 ∨ n < 0 ∨ iN (w 3 (iN a)) < iN i + iN n ∨ iN (w 3 (iN b)) < iN j + iN n then (-1000012, upd (upd (upd v 0 0) 1 0) 1 2, w)
  else (n, upd (upd v 0 0) 1 0, wseg w 4 (40 * iN b + iN j) (iN n) (fun q => w 4 (40 * iN a + iN i + q)))
theorem lsum3 {a b m : Nat} (ha : a < 2 ^ 31) (hb : b < 2 ^ 31) (hm : m < 2 ^ 31) : ((nI m).toInt64 < (nI a).toInt64 + (nI b).toInt64) ↔ m < a + b := by
  rw [nI_l ha, nI_l hb, nI_l hm, lN_add]
  exact pk_lLT (by omega) (by omega)
def tmAll (n : Int32) (it : Nat → Int32) (s : Nat) : Nat → Bool
  | 0 => true
  | k + 1 => tmAll n it s k && decide ((0 ≤ it (s + 4 * k) ∧ it (s + 4 * k) ≤ n - 1) ∧ (0 ≤ it (s + 4 * k + 1) ∧ it (s + 4 * k + 1) ≤ n - 1) ∧ it (s + 4 * k) < it (s + 4 * k + 1) ∧ (1 ≤ it (s + 4 * k + 2) ∧ it (s + 4 * k + 2) ≤ 20) ∧ (0 ≤ it (s + 4 * k + 3) ∧ it (s + 4 * k + 3) ≤ 99))
theorem tmAll_f {n : Int32} {it : Nat → Int32} {s k N : Nat} (h : tmAll n it s k = false) (hk : k ≤ N) : tmAll n it s N = false := by
  induction N with
  | zero => rw [show k = 0 by omega] at h; exact h
  | succ N ih =>
    by_cases e : k = N + 1
    · rw [← e]; exact h
    · rw [tmAll, ih (by omega)]; rfl
def addL (w : Nat → Nat → Int32) (it : Nat → Int32) (s : Nat) : Nat → (Nat → Nat → Int32)
  | 0 => w
  | k + 1 => addT (addL w it s k) (it (s + 4 * k)) (it (s + 4 * k + 1)) (it (s + 4 * k + 2)) (it (s + 4 * k + 3))
theorem addT_o {w : Nat → Nat → Int32} {a b x t : Int32} {i : Nat} (h : i ≠ 5) : addT w a b x t i = w i := by
  unfold addT
  rw [wup_n h, wup_n h, wup_n h, wup_n h, wup_n h]
theorem addT_lo {w : Nat → Nat → Int32} {a b x t : Int32} {q : Nat} (h : q < 46) (h7 : q ≠ 7) : addT w a b x t 5 q = w 5 q := by
  unfold addT
  rw [wup_s, upd_n h7, wup_s, upd_n (by omega), wup_s, upd_n (by omega), wup_s, upd_n (by omega), wup_s, upd_n (by omega)]
theorem addL_o {w : Nat → Nat → Int32} {it : Nat → Int32} {s k i : Nat} (h : i ≠ 5) : addL w it s k i = w i := by
  induction k with
  | zero => rfl
  | succ k ih => rw [addL, addT_o h, ih]
theorem addL_lo {w : Nat → Nat → Int32} {it : Nat → Int32} {s k q : Nat} (h : q < 46) (h7 : q ≠ 7) : addL w it s k 5 q = w 5 q := by
  induction k with
  | zero => rfl
  | succ k ih => rw [addL, addT_lo h h7, ih]
theorem addL_7 {w : Nat → Nat → Int32} {it : Nat → Int32} {s k tm : Nat} (h : w 5 7 = nI tm) : addL w it s k 5 7 = nI (tm + k) := by
  induction k with
  | zero => exact h
  | succ k ih => rw [addL, addT_7, ih, nI_1]; rfl
def op_times (v : Nat → Int32) (w : Nat → Nat → Int32) (r i n : Int32) : mR :=
  if ¬ 0 < w 5 0 then (-1000002, upd v 0 0, w)
  else if ¬ (0 ≤ r ∧ r ≤ 7) ∨ ¬ (1 ≤ n ∧ n ≤ 10) then (-1000001, upd v 0 0, w)
  else if w 2 (iN r) < 0 then (-1000011, upd (upd v 0 0) 1 1, w)
  else if i < 0 ∨ iN (w 3 (iN r)) < iN i + 4 * iN n then (-1000012, upd (upd v 0 0) 1 2, w)
  else if ¬ tmAll (w 5 4) (w 4) (40 * iN r + iN i) (iN n) = true then (-1000001, upd v 0 0, w)
  else if 12 < iN (w 5 7) + iN n then (-1000003, upd v 0 0, w)
  else (nI (iN (w 5 7) + iN n), upd (upd v 0 0) 1 0, addL w (w 4) (40 * iN r + iN i) (iN n))
