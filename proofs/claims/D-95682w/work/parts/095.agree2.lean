/-! What lies behind an array's end does not matter. -/
set_option maxRecDepth 100000
theorem cell_agr {N : Nat} {f g : Nat → Int32} (h : agr N f g) (c : ClassId) : vp_cell c (N, .inl f) = vp_cell c (N, .inl g) := by
  rw [vp_cell_i, vp_cell_i]
  unfold arrV
  congr 2
  funext j
  show Value.int (f j.val) = Value.int (g j.val)
  rw [h j.val j.isLt]
theorem OS.ceq {D : va_G} {ac : Nat → ClassId} {A : Nat → Prop} {H0 H : Heap} {O : gO} {locs : List Loc} (h : OS D ac A H0 O H locs) {a ci k n : Nat} {fs : List Value} {ar : gA} {x y : vp_A} (ha : O a = some (.inr (ci, fs, ar))) (hk : ar k = some (n, x)) (e : ∀ c, vp_cell c x = vp_cell c y) : OS D ac A H0 (oup O a (.inr (ci, fs, aset ar k (n, y)))) H locs := by
  obtain ⟨G, h1, h2⟩ := h
  obtain ⟨q, e1, e2⟩ := (h2 a _ ha).2 k n x hk
  refine ⟨_, ⟨fun b t j e' hb => ?_, h1.2⟩, h2.arr ha hk e1⟩
  by_cases hbq : b = q
  · subst hbq
    rw [gup_s] at hb
    cases hb
    have := h1.1 b _ _ _ e2
    refine ⟨?_, this.2⟩
    show H[b]? = some (vp_cell _ _)
    rw [← e]
    exact this.1
  · rw [gup_n hbq] at hb
    exact h1.1 b _ _ _ hb
theorem OS.leq {D : va_G} {ac : Nat → ClassId} {A : Nat → Prop} {H0 H : Heap} {O : gO} {locs : List Loc} (h : OS D ac A H0 O H locs) {a n : Nat} {x y : vp_A} (ha : O a = some (.inl (n, x))) (e : ∀ c, vp_cell c x = vp_cell c y) : OS D ac A H0 (oup O a (.inl (n, y))) H locs := by
  obtain ⟨G, h1, h2⟩ := h
  have e2 := h2 a _ ha
  refine ⟨_, ⟨fun b t j e' hb => ?_, h1.2⟩, h2.loose ha⟩
  by_cases hbq : b = a
  · subst hbq
    rw [gup_s] at hb
    cases hb
    have := h1.1 b _ _ _ e2
    refine ⟨?_, this.2⟩
    show H[b]? = some (vp_cell _ _)
    rw [← e]
    exact this.1
  · rw [gup_n hbq] at hb
    exact h1.1 b _ _ _ hb
section AG
variable {D : va_G} {ac : Nat → ClassId} {A : Nat → Prop} {H0 H : Heap} {O : gO} {L L' : List (Nat × gU)} {locs : List Loc} {a : Nat}
theorem PS.ceq (h : PS D ac A H0 O L H locs) (i : Nat) {ci : Nat} {fs : List Value} {ar ar' : gA} (hi : L[i]? = some (a, .inr (ci, fs, ar))) (k : Nat) {n N : Nat} {f g : Nat → Int32} (hk : ar k = some (n, N, .inl f)) (e : agr N f g) (har : aset ar k (n, N, .inl g) = ar') (hL : L.set i (a, .inr (ci, fs, ar')) = L') : PS D ac A H0 O L' H locs :=
  h.set hi (by rw [← har]; exact h.1.ceq (h.at i hi) hk (cell_agr e)) hL
theorem rln_cases {k : Nat} (h : rln k ≠ 0) : k = 5 ∨ k = 6 ∨ k = 7 ∨ k = 10 ∨ k = 12 := by
  unfold rln at h
  split at h <;> simp_all
theorem rar_eq {w w' : Nat → Nat → Int32} (h5 : w 5 = w' 5) (h6 : w 6 = w' 6) (h7 : w 7 = w' 7) (h10 : w 10 = w' 10) (h12 : w 12 = w' 12) : rar w = rar w' := by
  funext k
  unfold rar
  by_cases h : rln k = 0
  · rw [if_pos h, if_pos h]
  · rw [if_neg h, if_neg h]
    rcases rln_cases h with rfl | rfl | rfl | rfl | rfl
    · rw [h5]
    · rw [h6]
    · rw [h7]
    · rw [h10]
    · rw [h12]
theorem PS.rd1 (h : PS D ac A H0 O L H locs) (i : Nat) {v : Nat → Int32} {ad : Nat → Nat} {w : Nat → Nat → Int32} (hi : L[i]? = some (a, rdU v ad w)) {k : Nat} (hk : rln k ≠ 0) {g : Nat → Int32} (e : agr (rln k) (w k) g) : PS D ac A H0 O (L.set i (a, rdU v ad (wput w k g))) H locs ∧ (L.set i (a, rdU v ad (wput w k g)))[i]? = some (a, rdU v ad (wput w k g)) :=
  ⟨h.ceq i hi k (if_neg hk) e (rar_set w hk g) rfl, List.getElem?_set_self (List.getElem?_eq_some_iff.mp hi).1⟩
theorem PS.rd (h : PS D ac A H0 O L H locs) (i : Nat) {v : Nat → Int32} {ad : Nat → Nat} {w : Nat → Nat → Int32} (w' : Nat → Nat → Int32) (hi : L[i]? = some (a, rdU v ad w)) (e : ∀ k, rln k ≠ 0 → agr (rln k) (w k) (w' k)) (hL : L.set i (a, rdU v ad w') = L') : PS D ac A H0 O L' H locs := by
  obtain ⟨h1, i1⟩ := h.rd1 i hi (k := 5) (by decide) (g := w' 5) (e 5 (by decide))
  obtain ⟨h2, i2⟩ := h1.rd1 i i1 (k := 6) (by decide) (g := w' 6) (e 6 (by decide))
  obtain ⟨h3, i3⟩ := h2.rd1 i i2 (k := 7) (by decide) (g := w' 7) (e 7 (by decide))
  obtain ⟨h4, i4⟩ := h3.rd1 i i3 (k := 10) (by decide) (g := w' 10) (e 10 (by decide))
  obtain ⟨h5, i5⟩ := h4.rd1 i i4 (k := 12) (by decide) (g := w' 12) (e 12 (by decide))
  rw [List.set_set, List.set_set, List.set_set, List.set_set] at h5
  rw [← hL]
  have er : rar (wput (wput (wput (wput (wput w 5 (w' 5)) 6 (w' 6)) 7 (w' 7)) 10 (w' 10)) 12 (w' 12)) = rar w' := rar_eq rfl rfl rfl rfl rfl
  unfold rdU cU at h5 ⊢
  rw [er] at h5
  exact h5
end AG
theorem PS.s {D : va_G} {ac : Nat → ClassId} {A : Nat → Prop} {H0 H : Heap} {O : gO} {L : List (Nat × gU)} {locs : List Loc} (h : PS D ac A H0 O L H locs) : va_S A H0 H locs := by
  obtain ⟨⟨G, h1, h2⟩, -⟩ := h
  exact h1.2.1
theorem va_cpy_agr (f g : Nat → Int32) (n : Nat) : agr n (va_cpy f g 0 0 n) f := by
  intro k hk
  unfold va_cpy
  rw [if_pos ⟨Nat.zero_le _, by omega⟩, Nat.zero_add, Nat.sub_zero]
theorem agr.rf {n : Nat} {f : Nat → Int32} : agr n f f := fun _ _ => rfl
theorem bI_and1 (b c : Bool) (h : c = true) : bI (b = true) &&& 1 = bI ((b && c) = true) := by
  subst h
  cases b <;> rfl
theorem bI_and0 (b c : Bool) (h : c = false) : bI (b = true) &&& 0 = bI ((b && c) = true) := by
  subst h
  cases b <;> rfl
/-- as one road becomes another -/
def becW (w w' : Nat → Nat → Int32) : Nat → Nat → Int32 := wput w' 12 (w 12)
