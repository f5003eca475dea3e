/-! Strings compared; the reader's words. -/
set_option maxRecDepth 100000
/-- the text of n bytes g is constant i -/
abbrev eqS (i n : Nat) (g : Nat → Int32) : Prop := n = zLen.getD i 0 ∧ ∀ j, j < n → g j = (zByt.getD i []).getD j 0
theorem zLen_le {i : Nat} (hi : i < 9) : zLen.getD i 0 ≤ 6 := (by decide : ∀ i, i < 9 → zLen.getD i 0 ≤ 6) i hi
theorem OS.inA {D : va_G} {ac : Nat → ClassId} {A : Nat → Prop} {H0 H : Heap} {O : gO} {locs : List Loc} (h : OS D ac A H0 O H locs) {a : Nat} {u : gU} (hO : O a = some u) : A a := by
  obtain ⟨G, h1, h2⟩ := h
  obtain ⟨e, he⟩ := (h2 a u hO).root
  exact (h1.1 a _ _ _ he).2
theorem vk_notA {N : Nat} {len : List Nat} {byt : List (List Int32)} {adK adV : Nat → Nat} {A : Nat → Prop} {U : State} {H : Heap} (h : vk_S N len byt adK adV A U H) {i : Nat} (hi : i < N) : ¬ A (adK i) := by
  obtain ⟨cell, h1, h2, h3, h4⟩ := (h.1 i hi).1
  exact h4
/-- the reader: 1 size 2 at 3 token 4 from 5 number; 0 text 6 name 7 made -/
abbrev rrU (v : Nat → Int32) (rd : Nat → Nat) : gU := cU 6 v rd aNo
/-- the units of L leave all others of O as they are, but a's -/
def okU (O : gO) (a : Nat) : List (Nat × gU) → Prop
  | [] => True
  | y :: L => (y.1 = a ∨ O y.1 = none ∨ O y.1 = some y.2) ∧ okU O a L
def kpA (O O1 : gO) (a : Nat) : Prop := ∀ (b : Nat) (x : gU), b ≠ a → O b = some x → O1 b = some x
theorem kpA.of {O : gO} {a : Nat} : ∀ {L : List (Nat × gU)}, okU O a L → kpA O (oups O L) a := by
  intro L
  induction L with
  | nil => intro _ b x _ h; exact h
  | cons y L ih =>
    intro h b x hb hx
    by_cases e : b = y.1
    · subst e
      rw [oups, oup_s]
      rcases h.1 with h1 | h1 | h1
      · exact absurd h1 hb
      · rw [h1] at hx; cases hx
      · rw [← h1]; exact hx
    · rw [oups, oup_n e]
      exact ih h.2 b x hb hx
theorem kpA.rf {O : gO} {a : Nat} : kpA O O a := fun _ _ _ h => h
theorem kpA.tr {O O1 O2 : gO} {a : Nat} (h : kpA O O1 a) (h2 : kpA O1 O2 a) : kpA O O2 a := fun b x hb hx => h2 b x hb (h b x hb hx)
/-- the reference's token as the reader's -/
def tkI (t : Nat) : Int32 := if t = 0 then 4 else if t = 1 then 0 else if t = 2 then 1 else if t = 3 then 2 else 3
def tkS (O : gO) (v : Nat → Int32) (rd : Nat → Nat) (tp : Nat → Int32) (t : Nat × Nat × Nat) : Prop :=
  v 2 = nI t.2.2 ∧ v 3 = tkI t.1 ∧ v 4 = nI t.2.1 ∧ (t.1 = 3 → v 5 = fgL tp t.2.1 (t.2.2 - t.2.1)) ∧ (t.1 = 2 → ∃ (r : Nat) (g : Nat → Int32), O (rd 6) = some (strU r (t.2.2 - t.2.1) g) ∧ ∀ i, i < t.2.2 - t.2.1 → g i = tp (t.2.1 + i))
def rdNx (O O1 : gO) (a : Nat) (v : Nat → Int32) (rd : Nat → Nat) (tp : Nat → Int32) (L k : Nat) : Prop :=
  ∃ (v1 : Nat → Int32) (rd1 : Nat → Nat), O1 a = some (rrU v1 rd1) ∧ kpA O O1 a ∧ rd1 0 = rd 0 ∧ rd1 7 = rd 7 ∧ v1 1 = v 1 ∧ tkS O1 v1 rd1 tp (nx tp L k)
theorem rdNx.of {O : gO} {Ls : List (Nat × gU)} {a : Nat} {v : Nat → Int32} {rd : Nat → Nat} {tp : Nat → Int32} {L k : Nat} {v1 : Nat → Int32} {rd1 : Nat → Nat} (hN : (oad Ls).Nodup) (i0 : Ls[0]? = some (a, rrU v1 rd1)) (hk : okU O a Ls) (h0 : rd1 0 = rd 0) (h7 : rd1 7 = rd 7) (h1 : v1 1 = v 1) {t : Nat × Nat × Nat} (ht : nx tp L k = t) (hs : tkS (oups O Ls) v1 rd1 tp t) : rdNx O (oups O Ls) a v rd tp L k :=
  ⟨v1, rd1, oups_at hN i0, kpA.of hk, h0, h7, h1, by rw [ht]; exact hs⟩
theorem rdNx.kp {O O1 : gO} {a : Nat} {v : Nat → Int32} {rd : Nat → Nat} {tp : Nat → Int32} {L k : Nat} (h : rdNx O O1 a v rd tp L k) : kpA O O1 a := by
  obtain ⟨v1, rd1, g1, g2, -⟩ := h
  exact g2
theorem nx_e {tp : Nat → Int32} {L k j : Nat} (hs : spn pWs tp (L - k) k = j) (h : L ≤ j) : nx tp L k = (1, j, j) := by
  rw [nx, hs, if_pos h]
theorem nx_w {tp : Nat → Int32} {L k j e : Nat} (hs : spn pWs tp (L - k) k = j) (h : j < L) (hl : 97 ≤ tokB tp L j ∧ tokB tp L j ≤ 122) (he : spn pLe tp (L - j) j = e) : nx tp L k = (2, j, e) := by
  rw [tokB_lt h] at hl
  rw [nx, hs, if_neg (by omega), if_pos (show pLe (tp j) = true from decide_eq_true hl), he]
theorem nx_f {tp : Nat → Int32} {L k j e : Nat} (hs : spn pWs tp (L - k) k = j) (h : j < L) (hl : ¬ (97 ≤ tokB tp L j ∧ tokB tp L j ≤ 122)) (hf : 48 ≤ tokB tp L j ∧ tokB tp L j ≤ 57) (he : spn pFi tp (L - j) j = e) : nx tp L k = (if e - j ≤ 3 then 3 else 0, j, e) := by
  rw [tokB_lt h] at hl hf
  rw [nx, hs, if_neg (by omega), if_neg (by simpa [pLe] using hl), if_pos (show pFi (tp j) = true from decide_eq_true hf), he]
theorem nx_o {tp : Nat → Int32} {L k j : Nat} (hs : spn pWs tp (L - k) k = j) (h : j < L) (hl : ¬ (97 ≤ tokB tp L j ∧ tokB tp L j ≤ 122)) (hf : ¬ (48 ≤ tokB tp L j ∧ tokB tp L j ≤ 57)) : nx tp L k = (if tokB tp L j = 59 then 4 else 0, j, j + 1) := by
  rw [tokB_lt h] at hl hf
  rw [nx, hs, if_neg (by omega), if_neg (by simpa [pLe] using hl), if_neg (by simpa [pFi] using hf), tokB_lt h]
/-- loops that make cells -/
theorem w_indC {p : Program} {l : Launch} {e : Env} {R : Room} {s : State} {m : MethodId} {args : Array Value} {below : List Frame} {meth : Method} {c : Code} {cells slots : Nat} {Q : State → Prop} {α : Type} (pc : Nat) (μ cf sf : α → Nat) (I : α → Heap → List Loc → Array Slot → Prop)
    (step : ∀ (x : α) (H : Heap) (locs : List Loc) (ls : Array Slot), I x H locs ls → (∀ (x' : α) (H' : Heap) (locs' : List Loc) (ls' : Array Slot), μ x' < μ x → I x' H' locs' ls' → W p l e R s m args below meth c H' locs' (cf x') (sf x') Q (F0 m pc ls' [])) → W p l e R s m args below meth c H locs (cf x) (sf x) Q (F0 m pc ls []))
    (x : α) (hc : cells ≤ cf x) (hs : slots ≤ sf x) {H : Heap} {locs : List Loc} {ls : Array Slot} (h : I x H locs ls) : W p l e R s m args below meth c H locs cells slots Q (F0 m pc ls []) := by
  have key : ∀ (n : Nat) (x : α) (H : Heap) (locs : List Loc) (ls : Array Slot), μ x < n → I x H locs ls → W p l e R s m args below meth c H locs (cf x) (sf x) Q (F0 m pc ls []) := by
    intro n
    induction n with
    | zero => intro x H locs ls h1; omega
    | succ n ih =>
      intro x H locs ls h1 h2
      exact step x H locs ls h2 (fun x' H' locs' ls' h3 h4 => ih x' H' locs' ls' (by omega) h4)
  exact W.widen hc hs (key (μ x + 1) x H locs ls (by omega) h)
/-- the reader's numbers as figures are read -/
def fgv (v : Nat → Int32) (c x : Int32) : Nat → Int32 := upd (upd v 5 x) 2 c
theorem fgv_s (v : Nat → Int32) (c x d y : Int32) : upd (upd (fgv v c x) 5 y) 2 d = fgv v d y := by
  funext i
  unfold fgv upd
  by_cases h2 : i = 2
  · simp [h2]
  · by_cases h5 : i = 5 <;> simp [h2, h5]
theorem fgv_0 {v : Nat → Int32} {c x : Int32} (h : v 2 = c) : upd v 5 x = fgv v c x := by
  funext i
  unfold fgv
  by_cases h2 : i = 2
  · subst h2; rw [upd_s, upd_n (by decide)]; exact h
  · rw [upd_n (k := 2) h2]
theorem fits_upd {f : Nat → Int32} (h : ∀ i, fits .byte (.int (f i)) = true) {n : Nat} {x : Int32} (hx : -128 ≤ x ∧ x ≤ 127) : ∀ i, fits .byte (.int (upd f n x i)) = true := by
  intro i
  unfold upd
  split
  · exact fit_b hx
  · exact h i
theorem fits_cpy {f : Nat → Int32} (h : ∀ i, fits .byte (.int (f i)) = true) (n : Nat) : ∀ i, fits .byte (.int (va_cpy f (fun _ => 0) 0 0 n i)) = true := by
  intro i
  unfold va_cpy
  split
  · exact h _
  · rfl
/-- a builder's room as it grows -/
def grI (gr cap sl : Nat) : Prop := gr = 0 ∧ cap = 16 ∧ sl = 0 ∨ gr = 1 ∧ cap = 34 ∧ sl = 34 ∨ gr = 2 ∧ cap = 70 ∧ sl = 104 ∨ gr = 3 ∧ cap = 142 ∧ sl = 246 ∨ gr = 4 ∧ cap = 286 ∧ sl = 532 ∨ gr = 5 ∧ cap = 574 ∧ sl = 1106
theorem grI.b {gr cap sl : Nat} (h : grI gr cap sl) : gr ≤ 5 ∧ sl ≤ 1106 ∧ cap ≤ 574 := by
  rcases h with h | h | h | h | h | h <;> omega
theorem grI.c {gr cap sl i : Nat} (h : grI gr cap sl) (hi : i ≤ cap) (h4 : i < 400) : i < cap ∨ (i = cap ∧ gr = 0 ∧ cap = 16 ∧ sl = 0) ∨ (i = cap ∧ gr = 1 ∧ cap = 34 ∧ sl = 34) ∨ (i = cap ∧ gr = 2 ∧ cap = 70 ∧ sl = 104) ∨ (i = cap ∧ gr = 3 ∧ cap = 142 ∧ sl = 246) ∨ (i = cap ∧ gr = 4 ∧ cap = 286 ∧ sl = 532) := by
  rcases h with h | h | h | h | h | h <;> omega
theorem grI.s16 {gr cap sl i : Nat} (h : i = cap ∧ gr = 0 ∧ cap = 16 ∧ sl = 0) : grI (gr + 1) (cap + (cap + 2)) (sl + 34) := by
  unfold grI
  omega
theorem grI.s34 {gr cap sl i : Nat} (h : i = cap ∧ gr = 1 ∧ cap = 34 ∧ sl = 34) : grI (gr + 1) (cap + (cap + 2)) (sl + 70) := by
  unfold grI
  omega
theorem grI.s70 {gr cap sl i : Nat} (h : i = cap ∧ gr = 2 ∧ cap = 70 ∧ sl = 104) : grI (gr + 1) (cap + (cap + 2)) (sl + 142) := by
  unfold grI
  omega
theorem grI.s142 {gr cap sl i : Nat} (h : i = cap ∧ gr = 3 ∧ cap = 142 ∧ sl = 246) : grI (gr + 1) (cap + (cap + 2)) (sl + 286) := by
  unfold grI
  omega
theorem grI.s286 {gr cap sl i : Nat} (h : i = cap ∧ gr = 4 ∧ cap = 286 ∧ sl = 532) : grI (gr + 1) (cap + (cap + 2)) (sl + 574) := by
  unfold grI
  omega
theorem cnt_0 {f tp : Nat → Int32} {j i : Nat} (h : ∀ u, u < i → f u = tp (j + u)) : ∀ u, u < i + 1 → upd f i (tp (j + i)) u = tp (j + u) := by
  intro u hu
  by_cases e : u = i
  · rw [e, upd_s]
  · rw [upd_n e]; exact h u (by omega)
theorem cnt_g {f tp : Nat → Int32} {j i cap : Nat} (h : ∀ u, u < i → f u = tp (j + u)) (hc : i = cap) : ∀ u, u < i + 1 → upd (va_cpy f (fun _ => 0) 0 0 cap) i (tp (j + i)) u = tp (j + u) := by
  intro u hu
  by_cases e : u = i
  · rw [e, upd_s]
  · rw [upd_n e, cpy_0 (by omega)]; exact h u (by omega)
