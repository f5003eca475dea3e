/-! An array of bytes cloned. -/
set_option maxRecDepth 100000
section CLN
variable {p : Program} {l : Launch} {e : Env} {R : Room} {s : State} {m : MethodId} {args : Array Value} {below : List Frame} {meth : Method} {c : Code} {H : Heap} {locs : List Loc} {cells slots : Nat} {Q : State → Prop}
variable {cc : ByteArray} {pc nL : Nat} {ls : Array Slot} {rest : List Value} {D : va_G} {ac : Nat → ClassId} {A : Nat → Prop} {a : Nat} {H0 : Heap} {O : gO} {own : String} {κ : Nat → Nat} {L : List (Nat × gU)}
theorem l_clone (S : CallFix p m c cc nL s args lw_all own) (hK : KW D ac s) (hM : OS D ac A H0 O H locs) (hls : ls.size = nL) {index : Nat} (hlink : Cond.methodLink own index ⟨"[B", "clone", "()Ljava/lang/Object;"⟩ ∈ lw_all) (hcl : va_Nw (.castable "[B" "java/lang/Cloneable") s) {N : Nat} {f : Nat → Int32} (hA : aAt O a 1 (N, .inl f)) (hft : ∀ i, fits .byte (.int (f i)) = true) (hframes : 1 ≤ R.frames) (hlocals : (rest.map fun v => v.category).sum + 14 ≤ R.locals) (hcells : cells + 1 ≤ R.cells) (hslots : slots + N ≤ R.slots) (hdg : decode cc pc = .ok (.invokevirtual index, 3))
    (kk : ∀ (q : Nat) (H1 : Heap), O q = none → OS D ac A H0 (oup O q (.inl (1, N, .inl f))) H1 locs → W p l e R s m args below meth c H1 locs (cells + 1) (slots + N) Q (F0 m (pc + 3) ls (.ref q :: rest))) : W p l e R s m args below meth c H locs cells slots Q (F0 m pc ls (.ref a :: rest)) := by
  obtain ⟨G, g1, g2⟩ := hM
  obtain ⟨t, j, g3⟩ := g2.aAt hA
  have hcell : H[a]? = some (vp_cell (ac 1) (N, .inl f)) := (g1.1 a t j _ g3).1
  have hnm : s.vm.findClass "[B" = some (ac 1) := va_nm_byte (hK.2 1 _ rfl).2
  have hsz : (vp_cell (ac 1) (N, .inl f)).slots.size = N := arrV_size _ _ _
  have hvm0 : (vp_cell (ac 1) (N, .inl f)).vm = .none := rfl
  have hcl0 : (vp_cell (ac 1) (N, .inl f)).cls = ac 1 := rfl
  have hcellE : ({ cls := (vp_cell (ac 1) (N, .inl f)).cls, slots := (vp_cell (ac 1) (N, .inl f)).slots } : Cell) = vp_cell (ac 1) (N, .inl f) := rfl
  obtain ⟨c0, t0', f1, f2, f3⟩ := Cond.castable_spec (va_Nw.use (A := args) rfl hcl)
  cases hnm.symm.trans f1
  intro T hT X
  have hcellT : T.heap[a]? = some (vp_cell (ac 1) (N, .inl f)) := by rw [hT]; exact hcell
  obtain ⟨-, kA, hkA, comp, hkind⟩ := State.isArrayOf_alike X.warmed.alike ((hK.2 1 _ rfl).1 0 (fun _ => .null))
  obtain ⟨-, kS, hkS, compS, hkindS⟩ := (hK.2 1 _ rfl).1 0 (fun _ => .null)
  obtain ⟨vm', X', st⟩ := X.cloneArray S.1 S.2.2.2.1 (S.2.2.2.2 _ hlink) (S.2.2.2.2 _ q541) (S.2.2.2.2 _ q542) (S.2.2.2.2 _ q543) (S.2.2.2.2 _ q544) (a := a) (cell := vp_cell (ac 1) (N, .inl f)) hcellT (fun k h => by rw [hvm0] at h; cases h) (by rw [hvm0]; exact fun h => by cases h) (by rw [hcl0]; exact hnm) f2 (by rw [hcl0]; exact f3)
    (fun i v hv => by
      rw [hcl0]
      have hk' : T.vm.classes[ac 1]? = some kA := hkA
      have hf : fits .byte v = true := va_fit (cA := ac 1) (n := N) (F := fun j => .int (f j)) (fun i _ => hft i) i v hv
      simpa [State.fitsSlot, State.slotType?, hk', hkind] using hf)
    (g := F0 m pc ls (.ref a :: rest)) rfl (by rw [S.2.2.1, hls]) rfl (by rw [S.2.1]; exact hdg) hframes (by show 2 * 0 + _ + 14 ≤ _; omega) hcells (by rw [hsz]; exact hslots) (hloader := by rw [hcl0]; exact Vm.clonesLoader_of_array hkS hkindS)
  rw [hcellE, hsz] at X'
  obtain ⟨t2, b1, b2⟩ := kk H.size (H.push (vp_cell (ac 1) (N, .inl f))) (g2.fresh g1) ⟨_, g1.push H.size 0 (by show (H.push _)[H.size]? = some _; rw [Array.getElem?_push_size]) (by rw [Array.size_push]) (fun q hq => by rw [Array.getElem?_push, if_neg (Nat.ne_of_lt hq)]), g2.new g1.fresh (gup_s _ _ _)⟩
    ((T.setVm vm').pushCell (vp_cell (ac 1) (N, .inl f))) (by rw [← hT]; rfl) X'
  refine ⟨t2, st t2 ?_, b2⟩
  rw [hcellE, hT]
  exact b1
theorem pl_clone {L' : Nat → List (Nat × gU)} (S : CallFix p m c cc nL s args lw_all own) (hK : KZ D ac A κ s) (hM : PS D ac A s.heap O L H locs) (hls : ls.size = nL) {index : Nat} (hlink : Cond.methodLink own index ⟨"[B", "clone", "()Ljava/lang/Object;"⟩ ∈ lw_all) {N : Nat} {f : Nat → Int32} (hA : aAt (oups O L) a 1 (N, .inl f)) (hft : ∀ i, fits .byte (.int (f i)) = true) (hframes : 1 ≤ R.frames) (hlocals : (rest.map fun v => v.category).sum + 14 ≤ R.locals) (hcells : cells + 1 ≤ R.cells) (hslots : slots + N ≤ R.slots) (hdg : decode cc pc = .ok (.invokevirtual index, 3))
    (hL : ∀ q : Nat, L ++ [(q, .inl (1, N, .inl f))] = L' q) (kk : ∀ (q : Nat) (H1 : Heap), O q = none → PS D ac A s.heap O (L' q) H1 locs → W p l e R s m args below meth c H1 locs (cells + 1) (slots + N) Q (F0 m (pc + 3) ls (.ref q :: rest))) : W p l e R s m args below meth c H locs cells slots Q (F0 m pc ls (.ref a :: rest)) :=
  l_clone S hK.1.1 hM.1 hls hlink (hK.1.2.1 _ q545 rfl) hA hft hframes hlocals hcells hslots hdg (fun q H1 hq h => kk q H1 (hM.push hq h (hL q)).1 (hM.push hq h (hL q)).2)
theorem pl_castB (S : CallFix p m c cc nL s args lw_all own) (hK : KZ D ac A κ s) (hM : PS D ac A s.heap O L H locs) {index : Nat} (hlink : Cond.classLink own index "[B" ∈ lw_all) {N : Nat} {f : Nat → Int32} (hA : aAt (oups O L) a 1 (N, .inl f)) (hdg : decode cc pc = .ok (.checkcast index, 3))
    (k : W p l e R s m args below meth c H locs cells slots Q (F0 m (pc + 3) ls (.ref a :: rest))) : W p l e R s m args below meth c H locs cells slots Q (F0 m pc ls (.ref a :: rest)) := by
  obtain ⟨G, g1, g2⟩ := hM.1
  obtain ⟨t, j, g3⟩ := g2.aAt hA
  refine va_castA (D := D) (cl := vwCl) (ws := [(a, .inl (ac 1, N, .inl f))]) S.1 S.2.1 S.2.2.2.1 (S.2.2.2.2 _ hlink) (fun k y hy => ?_) 0 rfl (va_nm_byte (hK.1.1.2 1 _ rfl).2) hdg k
  have hz : k < 1 := (List.getElem?_eq_some_iff.mp hy).1
  rw [show k = 0 by omega] at hy
  cases hy
  exact (g1.1 a t j _ g3).1
end CLN
theorem cpy_0 {f : Nat → Int32} {n i : Nat} (h : i < n) : va_cpy f (fun _ => 0) 0 0 n i = f i := by
  unfold va_cpy
  rw [if_pos ⟨Nat.zero_le _, by omega⟩]
  simp
