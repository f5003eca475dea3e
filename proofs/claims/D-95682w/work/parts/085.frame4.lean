/-! arraycopy of ints, new arrays of references, over the picture. (Proofs follow the kit's va_ rows.) -/
set_option maxRecDepth 100000
section GR4
variable {p : Program} {l : Launch} {e : Env} {R : Room} {s : State} {m : MethodId} {args : Array Value} {below : List Frame} {meth : Method} {c : Code} {H : Heap} {locs : List Loc} {cells slots : Nat} {Q : State → Prop}
variable {cc : ByteArray} {pc nL : Nat} {ls : Array Slot} {rest : List Value} {D : va_G} {ac : Nat → ClassId} {A : Nat → Prop} {a t j : Nat} {H0 : Heap} {G : gG} {own : String}
theorem g_copy (S : CallFix p m c cc nL s args lw_all own) (hls : ls.size = nL) {index : Nat} (hlink : Cond.methodLink own index arraycopyName ∈ lw_all) (hnat : Cond.native arraycopyName ∈ lw_all) (hstat : Cond.static arraycopyName ∈ lw_all) (hini : Cond.initialized "java/lang/System" ∈ lw_all)
    (hK : KW D ac s) (hS : gS D A H0 G H locs) (k : Nat) {ty : FieldType} (hk : (acTy ac)[k]? = some (ac k, ty)) (hprim : refKind ty = false) {a0 t0 j0 n0 n1 : Nat} {f g : Nat → Int32} (hG0 : G a0 = some (t0, j0, .inl (ac k, n0, .inl f))) (hG : G a = some (t, j, .inl (ac k, n1, .inl g)))
    {sp dp n : Int32} {np nd nn : Nat} (h1 : sp = nI np) (h2 : dp = nI nd) (h3 : n = nI nn) (h4 : np + nn ≤ n0) (h5 : nd + nn ≤ n1) (hN0 : n0 < 2 ^ 31) (hN1 : n1 < 2 ^ 31) (hfit : ∀ i, i < nn → fits ty (.int (f (np + i))) = true)
    (hframes : 1 ≤ R.frames) (hlocals : (rest.map fun v => v.category).sum + (nativeFrameWords "java/lang/System" "arraycopy" 5 + 11) ≤ R.locals) (hdg : decode cc pc = .ok (.invokestatic index, 3))
    (kk : ∀ (H1 : Heap) (locs1 : List Loc), gS D A H0 (gup G a (t, j, .inl (ac k, n1, .inl (va_cpy f g np nd nn)))) H1 locs1 → H1.size = H.size → W p l e R s m args below meth c H1 locs1 cells slots Q (F0 m (pc + 3) ls rest)) : W p l e R s m args below meth c H locs cells slots Q (F0 m pc ls (.int n :: .int dp :: .ref a :: .int sp :: .ref a0 :: rest)) := by
  subst h1; subst h2; subst h3
  have e1 : (nI np).toNatClampNeg = np := nI_clamp (by omega)
  have e2 : (nI nd).toNatClampNeg = nd := nI_clamp (by omega)
  have e3 : (nI nn).toNatClampNeg = nn := nI_clamp (by omega)
  have i1 : (nI np).toInt = (np : Int) := nI_toInt (by omega)
  have i2 : (nI nd).toInt = (nd : Int) := nI_toInt (by omega)
  have i3 : (nI nn).toInt = (nn : Int) := nI_toInt (by omega)
  intro T hT X
  have hc0 : H[a0]? = some (vp_cell (ac k) (n0, .inl f)) := (hS.1 a0 t0 j0 _ hG0).1
  have hc1 : H[a]? = some (vp_cell (ac k) (n1, .inl g)) := (hS.1 a t j _ hG).1
  obtain ⟨-, k0, hk0, cm0, hkk0⟩ := (hK.2 k _ hk).1 n0 (fun j => .int (f j))
  obtain ⟨-, k1, hk1, cm1, hkk1⟩ := (hK.2 k _ hk).1 n1 (fun j => .int (g j))
  obtain ⟨vm', X', step⟩ := X.arraycopy S.1 S.2.2.2.1 (S.2.2.2.2 _ hlink) (S.2.2.2.2 _ hnat) (S.2.2.2.2 _ hstat) (S.2.2.2.2 _ hini) (src := a0) (dst := a) (cs := vp_cell (ac k) (n0, .inl f)) (cd := vp_cell (ac k) (n1, .inl g)) (srcPos := nI np) (destPos := nI nd) (n := nI nn) (by rw [hT]; exact hc0) (by rw [hT]; exact hc1)
    (fun _ h => by cases h) (fun _ h => by cases h) (fun h => by cases h) (fun h => by cases h) hk0 hk1 hkk0 hkk1 (by simp [hprim]) (nI_pos (by omega)) (nI_pos (by omega)) (nI_pos (by omega))
    (by rw [i1, i3]; show ¬ _ > ((arrV (ac k) n0 (fun j => .int (f j))).slots.size : Int); rw [arrV_size]; omega)
    (by rw [i2, i3]; show ¬ _ > ((arrV (ac k) n1 (fun j => .int (g j))).slots.size : Int); rw [arrV_size]; omega)
    (fun vm₁ _ i hi => by
      rw [e3] at hi
      have e : (vp_cell (ac k) (n0, .inl f)).slots.getD ((nI np).toNatClampNeg + i) .null = .int (f (np + i)) := by
        show (arrV (ac k) n0 (fun j => .int (f j))).slots.getD _ _ = _
        rw [e1, Array.getD_eq_getD_getElem?, arrV_read _ _ (by omega)]
        rfl
      refine ⟨?_, ?_⟩
      · rw [e]
        exact hfit i hi
      · rw [e]
        exact trivial)
    (g := F0 m pc ls (.int (nI nn) :: .int (nI nd) :: .ref a :: .int (nI np) :: .ref a0 :: rest)) rfl (by show ls.size = _; rw [hls, S.2.2.1]) (rest := rest) rfl (by rw [S.2.1]; exact hdg) hframes (by show 2 * 0 + _ + _ ≤ _; omega)
  have ec : copied (vp_cell (ac k) (n0, .inl f)) (vp_cell (ac k) (n1, .inl g)) (nI np) (nI nd) (nI nn) = vp_cell (ac k) (n1, .inl (va_cpy f g np nd nn)) := by
    have h := va_copied (fun z => Value.int z) (ac k) (ac k) (n0 := n0) (n1 := n1) (sp := np) (dp := nd) (n := nn) f g h4
    unfold copied
    rw [e1, e2, e3]
    exact h
  rw [ec] at X' step
  have hl : a < H.size := (Array.getElem?_eq_some_iff.mp hc1).1
  have hheap : ((T.setVm vm').setCell a (vp_cell (ac k) (n1, .inl (va_cpy f g np nd nn)))).heap = H.setIfInBounds a (vp_cell (ac k) (n1, .inl (va_cpy f g np nd nn))) := by rw [← hT]; rfl
  have oq : ∀ q : Nat, q ≠ a → (H.setIfInBounds a (vp_cell (ac k) (n1, .inl (va_cpy f g np nd nn))))[q]? = H[q]? := fun q hq => by simp [Array.getElem?_setIfInBounds, Ne.symm hq]
  have hz : (H.setIfInBounds a (vp_cell (ac k) (n1, .inl (va_cpy f g np nd nn)))).size = H.size := by simp
  obtain ⟨t, a1, b1⟩ := kk _ _ (hS.setL hG (show (H.setIfInBounds a _)[a]? = some _ by simp [Array.getElem?_setIfInBounds, hl]) hz oq (fun q h => by
      obtain ⟨z, -, hz⟩ := List.mem_map.mp h
      rw [← hz])) hz _ hheap X'
  exact ⟨t, step t a1, b1⟩
theorem g_newq (t j : Nat) (S : CallFix p m c cc nL s args lw_all own) (hK : KW D ac s) (hS : gS D A H0 G H locs) {C : String} {index k : Nat} (hk : (acTy ac)[k]? = some (ac k, .object C)) (hclink : Cond.classLink own index C ∈ lw_all) (hover : va_AO C s) {n : Int32} {N : Nat} (hn : n = nI N) (hN : N ≤ 65536) (hcells : cells + 1 ≤ R.cells) (hslots : slots + N ≤ R.slots) (hdg : decode cc pc = .ok (.anewarray index, 3))
    (kk : ∀ (H1 : Heap), gS D A H0 (gup G H.size (t, j, .inl (ac k, N, .inr (.inr (.inr (.inr (fun _ => none))))))) H1 locs → H1.size = H.size + 1 → W p l e R s m args below meth c H1 locs (cells + 1) (slots + N) Q (F0 m (pc + 3) ls (.ref H.size :: rest))) : W p l e R s m args below meth c H locs cells slots Q (F0 m pc ls (.int n :: rest)) := by
  subst hn
  have e1 : (nI N).toNatClampNeg = N := nI_clamp (by omega)
  refine W.anew S.1 S.2.1 S.2.2.2.1 (S.2.2.2.2 _ hclink) (va_AO.use hover) rfl hdg rfl (nI_pos (by omega)) (by rw [e1]; omega) hcells (by rw [e1]; exact hslots) fun cA kA comp f1 f2 f3 f4 => ?_
  rw [e1]
  have hc : cA = ac k := Option.some.inj (f1.symm.trans (by obtain ⟨kA', comp', g1, g2, g3, g4⟩ := (hK.2 k _ hk).2; exact g4))
  subst hc
  refine kk _ (hS.push t j ?_ (by rw [Array.size_push]) (fun q hq => by rw [Array.getElem?_push, if_neg (Nat.ne_of_lt hq)])) (by rw [Array.size_push])
  show (H.push _)[H.size]? = some (vp_cell _ _)
  rw [vp_cell_q, Array.getElem?_push_size]
  rw [show (fun j => va_rf ((fun _ => none) j)) = (fun _ => Value.null) from rfl, ← arrV_new]
end GR4
