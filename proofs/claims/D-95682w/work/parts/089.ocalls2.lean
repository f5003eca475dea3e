/-! Calls, starts and ends over the store. -/
set_option maxRecDepth 100000
section OB
variable {l : Launch} {y : MethodName} {cc : ByteArray} {nL : Nat} {ret : Option FieldType} {rm : Room} {As : List Value} {D : va_G} {ac : Nat → ClassId} {A : Nat → Prop} {κ : Nat → Nat} {O : gO}
theorem o_body {own : String} {Qc : Array Value → State → Outcome → State → Prop} (hy : y.cls = own) (hpn : plainFor y = true) (hL : (lg_sl As).length ≤ nL)
    (body : ∀ (p : Program) (e : Env) (s : State) (m : MethodId) (args : Array Value) (below : List Frame) (meth : Method) (c : Code) (ls : Array Slot), CallFix p m c cc nL s args lw_all own → meth.sig.returnType = ret → meth.locks = false → KZ D ac A κ s → OS D ac A s.heap O s.heap [] → lv_has ls nL (lv_args 0 As) → s.methodNamed? y = some m → s.vm.method? m = some meth → W p l e rm s m args below meth c s.heap [] 0 0 (MQ below Qc args s rm.cells rm.slots A) (F0 m 0 ls [])) :
    Met l y (ws_ y cc nL ret) rm (va_Pc As (oPre D ac A κ O)) Qc rm.cells rm.slots A := by
  refine va_MetF (cc := cc) (maxL := nL) (ret := ret) hpn rfl ?_
  intro p e s m args below meth c s₁ B hml hv
  obtain ⟨rfl, hv⟩ := hv
  have hts := atoms_spec (ws := ws_ y cc nL ret) B.pre
  have hts : ∀ w ∈ lw_all, w.before _ s = true := fun w h => hts w (List.mem_cons_of_mem _ h)
  have hown : s.vm.findClass y.cls = some m.cls := findClass_of_methodNamed B.named
  rw [hy] at hown
  have hl := lv_entry As (n := nL) hL
  rw [lg_entry_eq]
  exact body p e s m _ below meth c _ ⟨B.exec, B.bytes, hml, hown, hts⟩ B.returns B.notSynchronized hv.1 (OS.start hv) hl B.named B.method
end OB
section OE
variable {l : Launch} {cc : ByteArray} {nL : Nat} {D : va_G} {ac : Nat → ClassId} {A : Nat → Prop} {κ : Nat → Nat} {O : gO}
variable {p : Program} {e : Env} {s : State} {m : MethodId} {args : Array Value} {below : List Frame} {meth : Method} {c : Code} {H : Heap} {locs : List Loc} {ls : Array Slot} {pc cells slots : Nat} {own : String} {R : Room} {Post : Option Value → gO → Prop}
theorem OS.end {rv : Option Value} {args : Array Value} {t : State} (hM : OS D ac A s.heap O H locs) (hp : Post rv O) (ht : t.heap = H) : oQ D ac A Post args s (.returned rv) t := by
  obtain ⟨G, h1, h2⟩ := hM
  exact ⟨⟨rv, O, rfl, hp, G, by rw [ht]; exact h1.1, h2⟩, h1.2.1.F ht⟩
theorem OS.lcs {H0 : Heap} (hM : OS D ac A H0 O H locs) : ∀ q ∈ locs, A q.base := by
  obtain ⟨G, h1, h2⟩ := hM
  exact h1.2.1.2.2
theorem o_iret (S : CallFix p m c cc nL s args lw_all own) (hr : meth.sig.returnType = some .int) (hlocks : meth.locks = false) (hM : OS D ac A s.heap O H locs) {r : Int32} (hdg : decode cc pc = .ok (.ireturn, 1)) (hp : Post (some (.int r)) O) :
    W p l e R s m args below meth c H locs cells slots (MQ below (oQ D ac A Post) args s cells slots A) (F0 m pc ls [.int r]) :=
  W.iret S.1 S.2.1 hr (fun t ht hW => hM.end hp ht) hM.lcs hdg hlocks
theorem o_zret (S : CallFix p m c cc nL s args lw_all own) (hr : meth.sig.returnType = some .boolean) (hlocks : meth.locks = false) (hM : OS D ac A s.heap O H locs) {r : Int32} (hn : r = 0 ∨ r = 1) (hdg : decode cc pc = .ok (.ireturn, 1)) (hp : Post (some (.int r)) O) :
    W p l e R s m args below meth c H locs cells slots (MQ below (oQ D ac A Post) args s cells slots A) (F0 m pc ls [.int r]) :=
  W.zret S.1 S.2.1 hr (by rcases hn with rfl | rfl <;> rfl) (fun t ht hW => hM.end hp ht) hM.lcs hdg hlocks
theorem o_vret (S : CallFix p m c cc nL s args lw_all own) (hr : meth.sig.returnType = none) (hlocks : meth.locks = false) (hM : OS D ac A s.heap O H locs) (hdg : decode cc pc = .ok (.return_, 1)) (hp : Post none O) :
    W p l e R s m args below meth c H locs cells slots (MQ below (oQ D ac A Post) args s cells slots A) (F0 m pc ls []) :=
  W.vret S.1 S.2.1 hr (fun t ht hW => hM.end hp ht) hM.lcs hdg hlocks
end OE
