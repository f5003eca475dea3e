/-! New cells in the picture. -/
set_option maxRecDepth 100000
theorem gS.push {D : va_G} {A : Nat → Prop} {H0 : Heap} {G : gG} {H H1 : Heap} {locs : List Loc} {e : va_E} (t j : Nat) (h : gS D A H0 G H locs) (he : va_at D vwCl (H.size, e) H1) (z : H1.size = H.size + 1) (oq : ∀ q : Nat, q < H.size → H1[q]? = H[q]?) : gS D A H0 (gup G H.size (t, j, e)) H1 locs := by
  obtain ⟨h1, h2, h3⟩ := h
  refine ⟨fun b t' j' e' hb => ?_, ⟨by have := h2.1; omega, fun q q1 q2 => ?_, h2.2.2⟩, fun q hq => h3 q (by omega)⟩
  · by_cases hba : b = H.size
    · subst hba
      rw [gup_s] at hb
      cases hb
      exact ⟨he, h3 _ (Nat.le_refl _)⟩
    · rw [gup_n hba] at hb
      exact ⟨(h1 b t' j' e' hb).1.kept (oq b (h1.lt hb)), (h1 b t' j' e' hb).2⟩
  · rw [oq q (Nat.lt_of_lt_of_le q1 h2.1)]
    exact h2.2.1 q q1 q2
theorem gS.fresh {D : va_G} {A : Nat → Prop} {H0 : Heap} {G : gG} {H : Heap} {locs : List Loc} (h : gS D A H0 G H locs) : G H.size = none := by
  cases e : G H.size with
  | none => rfl
  | some x => exact absurd (h.1.lt (t := x.1) (j := x.2.1) (e := x.2.2) e) (Nat.lt_irrefl _)
section GN
variable {p : Program} {l : Launch} {e : Env} {R : Room} {s : State} {m : MethodId} {args : Array Value} {below : List Frame} {meth : Method} {c : Code} {H : Heap} {locs : List Loc} {cells slots : Nat} {Q : State → Prop}
variable {cc : ByteArray} {pc nL : Nat} {ls : Array Slot} {rest : List Value} {D : va_G} {ac : Nat → ClassId} {A : Nat → Prop} {H0 : Heap} {G : gG} {own : String}
theorem g_newi (t j : Nat) (S : CallFix p m c cc nL s args lw_all own) (hK : KW D ac s) (hS : gS D A H0 G H locs) (harr : Cond.arrayClass .int ∈ lw_all) {n : Int32} {N : Nat} (hn : n = nI N) (hN : N ≤ 65536) (hcells : cells + 1 ≤ R.cells) (hslots : slots + N ≤ R.slots) (hdg : decode cc pc = .ok (.newarray .int, 2))
    (kk : ∀ (H1 : Heap), gS D A H0 (gup G H.size (t, j, .inl (ac 0, N, .inl (fun _ => 0)))) H1 locs → H1.size = H.size + 1 → W p l e R s m args below meth c H1 locs (cells + 1) (slots + N) Q (F0 m (pc + 2) ls (.ref H.size :: rest))) : W p l e R s m args below meth c H locs cells slots Q (F0 m pc ls (.int n :: rest)) := by
  subst hn
  refine va_newaK S.1 S.2.1 (atype := .int) (S.2.2.2.2 _ harr) rfl hdg rfl (nI_pos (by omega)) (nI_clamp (by omega)) (by show N * 4 ≤ _; omega) hcells hslots rfl fun H1 cA e1 z1 o1 hAr hNm => ?_
  have hc : cA = ac 0 := Option.some.inj (hNm.symm.trans (hK.2 0 _ rfl).2)
  subst hc
  refine kk H1 (hS.push t j ?_ z1 o1) z1
  show H1[H.size]? = some (vp_cell _ _)
  rw [e1, vp_cell_i]
  rfl
theorem g_newz (t j : Nat) (S : CallFix p m c cc nL s args lw_all own) (hK : KW D ac s) (hS : gS D A H0 G H locs) (harr : Cond.arrayClass .boolean ∈ lw_all) {n : Int32} {N : Nat} (hn : n = nI N) (hN : N ≤ 65536) (hcells : cells + 1 ≤ R.cells) (hslots : slots + N ≤ R.slots) (hdg : decode cc pc = .ok (.newarray .boolean, 2))
    (kk : ∀ (H1 : Heap), gS D A H0 (gup G H.size (t, j, .inl (ac 2, N, .inl (fun _ => 0)))) H1 locs → H1.size = H.size + 1 → W p l e R s m args below meth c H1 locs (cells + 1) (slots + N) Q (F0 m (pc + 2) ls (.ref H.size :: rest))) : W p l e R s m args below meth c H locs cells slots Q (F0 m pc ls (.int n :: rest)) := by
  subst hn
  refine va_newaK S.1 S.2.1 (atype := .boolean) (S.2.2.2.2 _ harr) rfl hdg rfl (nI_pos (by omega)) (nI_clamp (by omega)) (by show N * 1 ≤ _; omega) hcells hslots rfl fun H1 cA e1 z1 o1 hAr hNm => ?_
  have hc : cA = ac 2 := Option.some.inj (hNm.symm.trans (hK.2 2 _ rfl).2)
  subst hc
  refine kk H1 (hS.push t j ?_ z1 o1) z1
  show H1[H.size]? = some (vp_cell _ _)
  rw [e1, vp_cell_i]
  rfl
theorem g_newb (t j : Nat) (S : CallFix p m c cc nL s args lw_all own) (hK : KW D ac s) (hS : gS D A H0 G H locs) (harr : Cond.arrayClass .byte ∈ lw_all) {n : Int32} {N : Nat} (hn : n = nI N) (hN : N ≤ 65536) (hcells : cells + 1 ≤ R.cells) (hslots : slots + N ≤ R.slots) (hdg : decode cc pc = .ok (.newarray .byte, 2))
    (kk : ∀ (H1 : Heap), gS D A H0 (gup G H.size (t, j, .inl (ac 1, N, .inl (fun _ => 0)))) H1 locs → H1.size = H.size + 1 → W p l e R s m args below meth c H1 locs (cells + 1) (slots + N) Q (F0 m (pc + 2) ls (.ref H.size :: rest))) : W p l e R s m args below meth c H locs cells slots Q (F0 m pc ls (.int n :: rest)) := by
  subst hn
  refine va_newaK S.1 S.2.1 (atype := .byte) (S.2.2.2.2 _ harr) rfl hdg rfl (nI_pos (by omega)) (nI_clamp (by omega)) (by show N * 1 ≤ _; omega) hcells hslots rfl fun H1 cA e1 z1 o1 hAr hNm => ?_
  have hc : cA = ac 1 := Option.some.inj (hNm.symm.trans (hK.2 1 _ rfl).2)
  subst hc
  refine kk H1 (hS.push t j ?_ z1 o1) z1
  show H1[H.size]? = some (vp_cell _ _)
  rw [e1, vp_cell_i]
  rfl
theorem g_new (t j : Nat) (S : CallFix p m c cc nL s args lw_all own) (hK : KW D ac s) (hS : gS D A H0 G H locs) {ci : Nat} {C : String} {T : u_T} {N index : Nat} (hin : ∀ w ∈ u_ws C T N, w ∈ lw_all) (ty0 : Nat → FieldType) (hty : ∀ k, k < N → parseFieldDescriptor (T k).2.2.1 = some (ty0 k)) (hcl : Cond.classLink own index C ∈ lw_all) (hinst : Cond.instantiable C N ∈ lw_all) (hini : Cond.initialized C ∈ lw_all) (hc : vwCl[ci]? = some (C, T, N)) {fs : List Value} (hfs : ∀ j, j < N → defaultValue (ty0 j) = vp_V fs j) (hcells : cells + 1 ≤ R.cells) (hslots : slots + N ≤ R.slots) (hdg : decode cc pc = .ok (.new index, 3))
    (kk : ∀ (H1 : Heap), gS D A H0 (gup G H.size (t, j, .inr (ci, fs))) H1 locs → H1.size = H.size + 1 → W p l e R s m args below meth c H1 locs (cells + 1) (slots + N) Q (F0 m (pc + 3) ls (.ref H.size :: rest))) : W p l e R s m args below meth c H locs cells slots Q (F0 m pc ls rest) := by
  have hKn := hK.1 ci _ hc
  refine W.newcK S.1 S.2.1 S.2.2.2.1 (S.2.2.2.2 _ hcl) (S.2.2.2.2 _ hinst) (S.2.2.2.2 _ hini) rfl hdg hcells hslots hKn.2.1 rfl fun H1 kC hkC e1 z1 o1 => ?_
  exact kk H1 (hS.push t j ⟨_, hc, (u_born ty0 S.2.2.2.2 hin hKn hkC e1 hty).to hfs⟩ z1 o1) z1
end GN
