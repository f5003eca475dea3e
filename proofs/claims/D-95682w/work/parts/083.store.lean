/-! The object store: units (an object with the arrays that its fields hold as its own; or a bare array) by their addresses. -/
set_option maxRecDepth 100000
abbrev gU : Type := (Nat × vp_A) ⊕ (Nat × List Value × (Nat → Option (Nat × vp_A)))
abbrev gO : Type := Nat → Option gU
def oup (O : gO) (a : Nat) (u : gU) : gO := fun q => if q = a then some u else O q
def odel (O : gO) (a : Nat) : gO := fun q => if q = a then none else O q
theorem oup_s (O : gO) (a : Nat) (u : gU) : oup O a u a = some u := if_pos rfl
theorem oup_n {O : gO} {a : Nat} {u : gU} {q : Nat} (h : q ≠ a) : oup O a u q = O q := if_neg h
theorem odel_n {O : gO} {a q : Nat} (h : q ≠ a) : odel O a q = O q := if_neg h
theorem oup_oup (O : gO) (a : Nat) (u u' : gU) : oup (oup O a u) a u' = oup O a u' := by
  funext q
  unfold oup
  by_cases h : q = a <;> simp [h]
theorem oup_same {O : gO} {a : Nat} {u : gU} (h : O a = some u) : oup O a u = O := by
  funext q
  unfold oup
  by_cases hq : q = a
  · rw [if_pos hq, hq, h]
  · rw [if_neg hq]
theorem oup_comm {O : gO} {a b : Nat} {u u' : gU} (h : a ≠ b) : oup (oup O a u) b u' = oup (oup O b u') a u := by
  funext q
  unfold oup
  by_cases h1 : q = a <;> by_cases h2 : q = b <;> simp_all
def uIn (ac : Nat → ClassId) (G : gG) (a : Nat) (u : gU) : Prop := match u with
  | .inl (n, x) => G a = some (a, 0, .inl (ac n, x))
  | .inr (ci, fs, ar) => G a = some (a, 0, .inr (ci, fs)) ∧ ∀ (k n : Nat) (x : vp_A), ar k = some (n, x) → ∃ q, fs[k]? = some (.ref q) ∧ G q = some (a, k + 1, .inl (ac n, x))
def sup (ac : Nat → ClassId) (G : gG) (O : gO) : Prop := ∀ (a : Nat) (u : gU), O a = some u → uIn ac G a u
/-- own arrays, one set -/
def aset (ar : Nat → Option (Nat × vp_A)) (k : Nat) (x : Nat × vp_A) : Nat → Option (Nat × vp_A) := fun i => if i = k then some x else ar i
theorem aset_s (ar : Nat → Option (Nat × vp_A)) (k : Nat) (x : Nat × vp_A) : aset ar k x k = some x := if_pos rfl
theorem aset_n {ar : Nat → Option (Nat × vp_A)} {k i : Nat} {x : Nat × vp_A} (h : i ≠ k) : aset ar k x i = ar i := if_neg h
theorem aset_aset (ar : Nat → Option (Nat × vp_A)) (k : Nat) (x y : Nat × vp_A) : aset (aset ar k x) k y = aset ar k y := by
  funext i
  unfold aset
  by_cases h : i = k <;> simp [h]
theorem uIn.root {ac : Nat → ClassId} {G : gG} {a : Nat} {u : gU} (h : uIn ac G a u) : ∃ e, G a = some (a, 0, e) := by
  match u, h with
  | .inl (n, x), h => exact ⟨_, h⟩
  | .inr (ci, fs, ar), h => exact ⟨_, h.1⟩
/-- a unit stays if no cell of its owner's changes -/
theorem uIn.keep {ac : Nat → ClassId} {G G1 : gG} {a : Nat} {u : gU} (h : uIn ac G a u) (hk : ∀ q j e, G q = some (a, j, e) → G1 q = some (a, j, e)) : uIn ac G1 a u := by
  match u, h with
  | .inl (n, x), h => exact hk _ _ _ h
  | .inr (ci, fs, ar), h =>
    refine ⟨hk _ _ _ h.1, fun k n x hx => ?_⟩
    obtain ⟨q, h1, h2⟩ := h.2 k n x hx
    exact ⟨q, h1, hk _ _ _ h2⟩
theorem gup_keep {G : gG} {q a t j : Nat} {e e0 : va_E} {t0 j0 : Nat} (hq : G q = some (t0, j0, e0)) (hne : t ≠ t0) : ∀ b j' e', G b = some (t, j', e') → gup G q (a, j, e) b = some (t, j', e') := by
  intro b j' e' hb
  rw [gup_n (g_ne hb hq (Or.inl hne))]
  exact hb
/-- all units but one's stay -/
theorem sup.one {ac : Nat → ClassId} {G G1 : gG} {O : gO} {a : Nat} {u : gU} (h : sup ac G O) (hk : ∀ q t j e, t ≠ a → G q = some (t, j, e) → G1 q = some (t, j, e)) (hu : uIn ac G1 a u) : sup ac G1 (oup O a u) := by
  intro b u' hb
  by_cases hba : b = a
  · subst hba
    rw [oup_s] at hb
    cases hb
    exact hu
  · rw [oup_n hba] at hb
    exact (h b u' hb).keep (fun q j e hq => hk q b j e hba hq)
theorem sup.put {ac : Nat → ClassId} {G : gG} {O : gO} {a ci k : Nat} {fs : List Value} {ar : Nat → Option (Nat × vp_A)} {v : Value} (h : sup ac G O) (ha : O a = some (.inr (ci, fs, ar))) (hk : ar k = none) : sup ac (gup G a (a, 0, .inr (ci, fs.set k v))) (oup O a (.inr (ci, fs.set k v, ar))) := by
  have hu := h a _ ha
  refine h.one (fun q t j e ht hq => gup_keep hu.1 ht q j e hq) ⟨gup_s _ _ _, fun i n x hx => ?_⟩
  obtain ⟨q, h1, h2⟩ := hu.2 i n x hx
  have hik : k ≠ i := fun e => by rw [e] at hk; rw [hk] at hx; cases hx
  refine ⟨q, by rw [List.getElem?_set_ne hik]; exact h1, ?_⟩
  rw [gup_n (g_ne h2 hu.1 (Or.inr (by omega)))]
  exact h2
theorem sup.arr {ac : Nat → ClassId} {G : gG} {O : gO} {a ci k q n : Nat} {fs : List Value} {ar : Nat → Option (Nat × vp_A)} {x y : vp_A} (h : sup ac G O) (ha : O a = some (.inr (ci, fs, ar))) (hk : ar k = some (n, x)) (hq : fs[k]? = some (.ref q)) : sup ac (gup G q (a, k + 1, .inl (ac n, y))) (oup O a (.inr (ci, fs, aset ar k (n, y)))) := by
  have hu := h a _ ha
  obtain ⟨q', h1, h2⟩ := hu.2 k n x hk
  have e : q' = q := by rw [hq] at h1; cases h1; rfl
  subst e
  refine h.one (fun b t j e ht hb => gup_keep h2 ht b j e hb) ⟨?_, fun i n' x' hx => ?_⟩
  · rw [gup_n (g_ne hu.1 h2 (Or.inr (by omega)))]
    exact hu.1
  · by_cases hik : i = k
    · subst hik
      rw [aset_s] at hx
      cases hx
      exact ⟨q', h1, gup_s _ _ _⟩
    · rw [aset_n hik] at hx
      obtain ⟨q2, h3, h4⟩ := hu.2 i n' x' hx
      exact ⟨q2, h3, by rw [gup_n (g_ne h4 h2 (Or.inr (by omega)))]; exact h4⟩
theorem sup.loose {ac : Nat → ClassId} {G : gG} {O : gO} {a n : Nat} {x y : vp_A} (h : sup ac G O) (ha : O a = some (.inl (n, x))) : sup ac (gup G a (a, 0, .inl (ac n, y))) (oup O a (.inl (n, y))) :=
  h.one (fun q t j e ht hq => gup_keep (h a _ ha) ht q j e hq) (gup_s _ _ _)
/-- a new cell, as a unit -/
theorem sup.new {ac : Nat → ClassId} {G : gG} {O : gO} {a : Nat} {e : va_E} {u : gU} (h : sup ac G O) (ha : G a = none) (hu : uIn ac (gup G a (a, 0, e)) a u) : sup ac (gup G a (a, 0, e)) (oup O a u) := by
  refine h.one (fun q t j e' ht hq => ?_) hu
  by_cases hqa : q = a
  · subst hqa; rw [ha] at hq; cases hq
  · rw [gup_n hqa]; exact hq
/-- a bare array becomes a field's own -/
theorem sup.adopt {ac : Nat → ClassId} {G : gG} {O : gO} {a q ci k n : Nat} {fs : List Value} {ar : Nat → Option (Nat × vp_A)} {x : vp_A} (h : sup ac G O) (ha : O a = some (.inr (ci, fs, ar))) (hq : O q = some (.inl (n, x))) (hl : k < fs.length) : sup ac (gup (gup G a (a, 0, .inr (ci, fs.set k (.ref q)))) q (a, k + 1, .inl (ac n, x))) (oup (odel O q) a (.inr (ci, fs.set k (.ref q), aset ar k (n, x)))) := by
  have hu := h a _ ha
  have hv := h q _ hq
  have hne : a ≠ q := fun e => by rw [e] at ha; rw [ha] at hq; cases hq
  intro b u' hb
  by_cases hba : b = a
  · subst hba
    rw [oup_s] at hb
    cases hb
    refine ⟨?_, fun i n' x' hx => ?_⟩
    · rw [gup_n hne, gup_s]
    · by_cases hik : i = k
      · subst hik
        rw [aset_s] at hx
        cases hx
        exact ⟨q, by rw [List.getElem?_set_self hl], gup_s _ _ _⟩
      · rw [aset_n hik] at hx
        obtain ⟨q2, h3, h4⟩ := hu.2 i n' x' hx
        refine ⟨q2, by rw [List.getElem?_set_ne (fun e => hik e.symm)]; exact h3, ?_⟩
        rw [gup_n (g_ne h4 hv (Or.inr (by omega))), gup_n (g_ne h4 hu.1 (Or.inr (by omega)))]
        exact h4
  · rw [oup_n hba] at hb
    by_cases hbq : b = q
    · subst hbq; unfold odel at hb; rw [if_pos rfl] at hb; cases hb
    · rw [odel_n hbq] at hb
      refine (h b u' hb).keep (fun q' j e hq' => ?_)
      rw [gup_n (g_ne hq' hv (Or.inl hbq)), gup_n (g_ne hq' hu.1 (Or.inl hba))]
      exact hq'
/-- the heap holds the store -/
def OS (D : va_G) (ac : Nat → ClassId) (A : Nat → Prop) (H0 : Heap) (O : gO) (H : Heap) (locs : List Loc) : Prop := ∃ G, gS D A H0 G H locs ∧ sup ac G O
