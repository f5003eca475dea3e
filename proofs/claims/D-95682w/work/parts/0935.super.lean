/-! super.m() where m is declared one class further up. (The proof follows the kit's row for super calls.) -/
set_option maxRecDepth 100000
section SX
variable {p : Program} {l : Launch} {e : Env} {R : Room} {s : State} {m : MethodId} {args : Array Value} {below : List Frame} {meth : Method} {c : Code} {H : Heap} {locs : List Loc} {cells slots : Nat} {Q : State → Prop}
variable {cc : ByteArray} {pc nL : Nat} {ls : Array Slot} {rest st0 : List Value} {D : va_G} {ac : Nat → ClassId} {A : Nat → Prop} {κ : Nat → Nat} {a : Nat} {O : gO} {L L' : List (Nat × gU)} {own : String}
theorem p_cSXe {x y : MethodName} {bytes : ByteArray} {maxL n index : Nat} {ret : Option FieldType} {rm : Room} {As : List Value} {O2 : gO} {owner : String} (S : CallFix p m c cc nL s args lw_all own) (hK : KZ D ac A κ s) (hM : PS D ac A s.heap O L H locs) {ci : Nat} {fs : List Value} {ar : gA} {q : vw_C} (hO : oups O L a = some (.inr (ci, fs, ar))) (hc : vwCl[ci]? = some q) {r0 : Value} (hMet : oM l κ y bytes maxL ret rm (.ref a :: As) (oups O L) (fun rv O1 => rv = some r0 ∧ O1 = O2))
    (hl1 : Cond.methodLink own index x ∈ lw_all) (hl2 : Cond.sameMethod x.cls owner x.name x.desc ∈ lw_all) (hl3 : Cond.superclass own x.cls ∈ lw_all) (hl4 : Cond.superclass x.cls owner ∈ lw_all) (hl5 : Cond.instanceMethod y ∈ lw_all) (hl6 : Cond.initialized y.cls ∈ lw_all) (hl7 : Cond.code y bytes maxL ret ∈ lw_all) (hy : y = ⟨owner, x.name, x.desc⟩) (hno : x.name ≠ "<init>") (hd : (parseMethodDescriptor y.desc).map (fun d => d.parameters.length) = some n) (hR : rm.frames + 1 ≤ R.frames ∧ 8 + (maxL + 11) + rm.locals ≤ R.locals)
    (hn : As.length = n) (hls : ls.size = nL) (hst : st0 = As.reverse ++ .ref a :: rest) (hW : 2 * (F0 m pc ls st0).monitorRoom + (rest.map fun v => v.category).sum ≤ 8) (hdg : decode cc pc = .ok (.invokespecial index, 3)) (hf : cells + rm.cells ≤ R.cells ∧ slots + rm.slots ≤ R.slots) (hO2 : O2 = oups O L') (hN2 : (oad L').Nodup)
    (kk : ∀ (H1 : Heap) (locs1 : List Loc), PS D ac A s.heap O L' H1 locs1 → W p l e R s m args below meth c H1 locs1 (cells + rm.cells) (slots + rm.slots) Q (F0 m (pc + 3) ls (r0 :: rest))) : W p l e R s m args below meth c H locs cells slots Q (F0 m pc ls st0) := by
  have hts := S.2.2.2.2
  have hr : va_Run p l e R s m args below meth c H locs cells slots rm.cells rm.slots (F0 m pc ls st0) rest (oQ D ac A (fun rv O1 => rv = some r0 ∧ O1 = O2) (Value.ref a :: As).toArray) A := by
    obtain ⟨hx, hb, hml, ho, -⟩ := S
    have hBk : Back l R p e below s args y 3 8 (PreOf R rm.cells rm.slots (va_Pc (.ref a :: As) (oPre D ac A κ (oups O L)))) (PostOf (oQ D ac A (fun rv O1 => rv = some r0 ∧ O1 = O2)) rm.cells rm.slots A) :=
      back_of (bytes := bytes) (maxL := maxL) (ret := ret) (hMet D ac A) oPre.blind rfl rfl hR.1 hR.2 (pay_in hts (lw_meth hl7)) List.mem_cons_self (fun a' U hW => word_at hW (Or.inl (by first | rfl | simp [Cond.onTables, Cond.keeps, Cond.steady])) (hts _ hl6))
    obtain ⟨cellB, hcB, hoB, hclB⟩ := OS.recv hK hM.1 hO hc
    obtain ⟨hfc, kB, hkB, -⟩ := (hK.1.1.1 ci _ hc).2
    rw [Option.some.inj (hfc.symm.trans hclB)] at hkB
    obtain ⟨mk, methM, hnamed, hmethM, hstM, habM⟩ := Cond.instanceMethod_spec (hts _ hl5)
    obtain ⟨methM', cM, hmethM', -, -, -, -, -, -, hsigM⟩ := Cond.code_spec hnamed (hts _ hl7)
    cases hmethM.symm.trans hmethM'
    obtain ⟨ps, dk, kp, hps, hdk, hkp, hsuper, -, -, hnid⟩ := Cond.superclass_spec ho (hts _ hl3)
    obtain ⟨ps2, dk2, kp2, hps2, hdk2, hkp2, hsuper2, -⟩ := Cond.superclass_spec hps (hts _ hl4)
    have hpm : ps2 = mk.cls := Option.some.inj (hps2.symm.trans (by have := findClass_of_methodNamed hnamed; rw [hy] at this; exact this))
    have hsub : s.vm.isSubclass ps mk.cls = true := by
      rw [← hpm]
      simp [Vm.isSubclass, Vm.isSubclassAux, hdk2, hsuper2]
      right
      have hlt : 0 < s.vm.classes.size := Nat.lt_of_le_of_lt (Nat.zero_le _) (Array.getElem?_eq_some_iff.mp hdk2).1
      cases hz : s.vm.classes.size with
      | zero => omega
      | succ k => simp [Vm.isSubclassAux]
    have hlen : ∀ sig, parseMethodDescriptor y.desc = some sig → n = sig.parameters.length := fun sig h => by
      rw [h] at hd
      exact (Option.some.inj hd).symm
    intro T hT X
    obtain ⟨vm₁, X₁, hstep₁⟩ := X.invokespecialUp hx ho (hts _ hl1) (hts _ hl2) (by rw [← hy]; exact hnamed) hmethM hstM habM hno hdk hnid hps hsuper hsub (a := a) (cell := cellB) (by rw [hT]; exact hcB)
      (fun z h => by rw [h] at hoB; cases hoB) hkB (g := F0 m pc ls st0) rfl (argsL := As) (rest := rest) (hn.trans (hlen _ hsigM)) hst (by rw [hb]; exact hdg)
    obtain ⟨v, ⟨U', l2, c2, s2⟩, X', ⟨g', mk', t, L, e1, e2, hq, h1, hL, h2, h3⟩, hsteps⟩ := hBk m meth c ⟨T.setVm vm₁, locs, cells, slots⟩ { F0 m pc ls st0 with stack := rest } (.invokespecial index) mk (Value.ref a :: As).toArray X₁ rfl (hls.trans hml.symm) (by rw [hb]; exact hdg) hW (X₁.named hnamed) ⟨hf.1, hf.2, rfl, OS.pre hK hM.1 hT X₁.warmed⟩
    dsimp only [Pt.U, Pt.locs, Pt.cells, Pt.slots] at X' e1 e2 h1 h2 h3 hsteps
    subst h1; subst h2; subst h3
    exact ⟨v, (T.setVm vm₁).calling g' mk' (Value.ref a :: As).toArray, t, U', L, hT, X', hL, e1, e2, hq, fun target h => hstep₁ _ (by rw [doInvoke_state]; exact hsteps.trans h)⟩
  exact o_run hM.1 hr (fun rv O1 H1 locs1 hp h => by obtain ⟨h1, h2⟩ := hp; subst h1; rw [h2] at h; exact kk H1 locs1 ⟨by rw [← hO2]; exact h, hN2⟩)
end SX
