/-! Methods with handlers of their own. -/
set_option maxRecDepth 100000
abbrev oW (l : Launch) (κ : Nat → Nat) (y : MethodName) (cc : ByteArray) (nL : Nat) (ret : Option FieldType) (hh : List (Nat × Nat × Nat × Nat)) (rm : Room) (As : List Value) (O : gO) (Post : Option Value → gO → Prop) : Prop :=
  ∀ (D : va_G) (ac : Nat → ClassId) (A : Nat → Prop), Met l y (wsW_ y cc nL ret hh) rm (va_Pc As (oPre D ac A κ O)) (oQ D ac A Post) rm.cells rm.slots A
theorem o_bodyW {l : Launch} {κ : Nat → Nat} {y : MethodName} {cc : ByteArray} {nL : Nat} {ret : Option FieldType} {hh : List (Nat × Nat × Nat × Nat)} {rm : Room} {As : List Value} {D : va_G} {ac : Nat → ClassId} {A : Nat → Prop} {O : gO} {own : String} {Qc : Array Value → State → Outcome → State → Prop} (hy : y.cls = own) (hpn : plainName own = true) (hL : (lg_sl As).length ≤ nL)
    (body : ∀ (p : Program) (e : Env) (s : State) (m : MethodId) (args : Array Value) (below : List Frame) (meth : Method) (c : Code) (ls : Array Slot), CallFix p m c cc nL s args lw_all own → meth.sig.returnType = ret → meth.locks = false → KZ D ac A κ s → OS D ac A s.heap O s.heap [] → lv_has ls nL (lv_args 0 As) → hTab c hh → W p l e rm s m args below meth c s.heap [] 0 0 (MQ below Qc args s rm.cells rm.slots A) (F0 m 0 ls [])) :
    Met l y (wsW_ y cc nL ret hh) rm (va_Pc As (oPre D ac A κ O)) Qc rm.cells rm.slots A := by
  refine va_MetW (cc := cc) (maxL := nL) (ret := ret) (hh := hh) (by rw [hy]; exact hpn) rfl ?_
  intro p e s m args below meth c s₁ B hml hv
  obtain ⟨rfl, hv⟩ := hv
  have hts := atoms_spec (ws := wsW_ y cc nL ret hh) B.pre
  obtain ⟨m', meth', c', w1, w2, w3, w4, w5, w6, -⟩ := Cond.codeWith_spec (hts _ List.mem_cons_self)
  cases B.named.symm.trans w1
  cases B.method.symm.trans w2
  cases (Stand.of_body B).code.symm.trans w3
  have hts : ∀ w ∈ lw_all, w.before _ s = true := fun w h => hts w (List.mem_cons_of_mem _ h)
  have hown : s.vm.findClass y.cls = some m.cls := findClass_of_methodNamed B.named
  rw [hy] at hown
  have hl := lv_entry As (n := nL) hL
  rw [lg_entry_eq]
  exact body p e s m _ below meth c _ ⟨B.exec, B.bytes, hml, hown, hts⟩ B.returns B.notSynchronized hv.1 (OS.start hv) hl w6
/-- thrown here, and caught here -/
theorem p_thrC {p : Program} {l : Launch} {e : Env} {R : Room} {s : State} {m : MethodId} {args : Array Value} {below : List Frame} {meth : Method} {c : Code} {H : Heap} {locs : List Loc} {cells slots : Nat} {Q : State → Prop} {cc : ByteArray} {pc nL : Nat} {ls : Array Slot} {rest : List Value} {D : va_G} {ac : Nat → ClassId} {A : Nat → Prop} {κ : Nat → Nat} {a : Nat} {O : gO} {L : List (Nat × gU)} {own : String}
    (S : CallFix p m c cc nL s args lw_all own) (hK : KZ D ac A κ s) (hM : PS D ac A s.heap O L H locs) {hh : List (Nat × Nat × Nat × Nat)} (htab : hTab c hh) (i : Nat) {hpc ct : Nat} (hat : hAt hh i pc hpc ct) (h0 : ct ≠ 0) {name : String} (hlink : Cond.classLink own ct name ∈ lw_all) {ci : Nat} {fs : List Value} {ar : gA} {q : vw_C} (hO : oups O L a = some (.inr (ci, fs, ar))) (hc : vwCl[ci]? = some q) (hcast : va_Nw (.castable q.1 name) s) (hdg : decode cc pc = .ok (.athrow, 1))
    (kk : W p l e R s m args below meth c H locs cells slots Q (F0 m hpc ls [.ref a])) : W p l e R s m args below meth c H locs cells slots Q (F0 m pc ls (.ref a :: rest)) := by
  intro T hT X
  obtain ⟨cell, g1, g2, g3⟩ := OS.recv hK hM.1 hO hc
  obtain ⟨c3, cT, hc3, hcT, hasg⟩ := Cond.castable_spec (va_Nw.use (A := args) rfl hcast)
  have e3 : c3 = cell.cls := Option.some.inj (hc3.symm.trans g3)
  subst e3
  obtain ⟨pre, z, post, t1, t2, t3, t4, t5⟩ := htab.split hat
  subst t4; subst t5
  obtain ⟨vm', X2, st2⟩ := st_caught X a (g := { F0 m pc ls (.ref a :: rest) with stack := rest }) rfl S.2.2.2.1 pre z post t1 t2 t3 h0 (S.2.2.2.2 _ hlink) hcT (by rw [hT]; exact g1) g2 hasg
  obtain ⟨t', a1, b1⟩ := kk (T.setVm vm') hT X2
  refine ⟨t', ?_, b1⟩
  have h3 := st2 _ a1
  have hexec := S.1
  have hb := S.2.1
  jvm_step X.here [X.here.top, hexec, hb, hdg, athrow.wp_sem]
  exact h3
