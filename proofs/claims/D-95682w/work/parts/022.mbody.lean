/-! A method's start and end, in short. -/
set_option maxRecDepth 100000
section MB
variable {l : Launch} {y : MethodName} {cc : ByteArray} {nL : Nat} {ret : Option FieldType} {rm : Room} {As : List Value} {v : Nat → Int32} {w : Nat → Nat → Int32} {D : va_G} {ac : Nat → ClassId} {A : Nat → Prop} {G : gG} {mo : Nat} {ad : Nat → Nat}
theorem m_body {Qc : Array Value → State → Outcome → State → Prop} (hy : y.cls = RX3) (hL : (lg_sl (.ref mo :: As)).length ≤ nL)
    (body : ∀ (p : Program) (e : Env) (s : State) (m : MethodId) (args : Array Value) (below : List Frame) (meth : Method) (c : Code) (ls : Array Slot), CallFix p m c cc nL s args lw_all RX3 → meth.sig.returnType = ret → meth.locks = false → KW D ac s → MS D ac A G s.heap mo ad v w s.heap [] → lv_has ls nL (lv_args 0 (.ref mo :: As)) → W p l e rm s m args below meth c s.heap [] 0 0 (MQ below Qc args s 0 0 A) (F0 m 0 ls [])) :
    Met l y (ws_ y cc nL ret) rm (va_Pc (.ref mo :: As) (mPre D ac A G mo ad v w)) Qc 0 0 A := by
  refine Met.ofW (cc := cc) (maxL := nL) (ret := ret) (by rw [hy]; decide) rfl ?_
  intro p e s m args below meth c s₁ B hml hv
  obtain ⟨rfl, hv⟩ := hv
  have hts := atoms_spec (ws := ws_ y cc nL ret) B.pre
  have hts : ∀ w ∈ lw_all, w.before _ s = true := fun w h => hts w (List.mem_cons_of_mem _ h)
  have hown : s.vm.findClass y.cls = some m.cls := findClass_of_methodNamed B.named
  rw [hy] at hown
  have hl := lv_entry (.ref mo :: As) (n := nL) hL
  rw [lg_entry_eq]
  exact body p e s m _ below meth c _ ⟨B.exec, B.bytes, hml, hown, hts⟩ B.returns B.notSynchronized hv.1 (MS.start hv) hl
theorem s_body {own : String} {Qc : Array Value → State → Outcome → State → Prop} (hy : y.cls = own) (hpn : plainName own = true) (hL : (lg_sl As).length ≤ nL)
    (body : ∀ (p : Program) (e : Env) (s : State) (m : MethodId) (args : Array Value) (below : List Frame) (meth : Method) (c : Code) (ls : Array Slot), CallFix p m c cc nL s args lw_all own → meth.sig.returnType = ret → meth.locks = false → lv_has ls nL (lv_args 0 As) → W p l e rm s m args below meth c s.heap [] 0 0 (MQ below Qc args s 0 0 (fun _ => False)) (F0 m 0 ls [])) :
    Met l y (ws_ y cc nL ret) rm (va_Pc As (fun _ => True)) Qc 0 0 (fun _ => False) := by
  refine Met.ofW (cc := cc) (maxL := nL) (ret := ret) (by rw [hy]; exact hpn) rfl ?_
  intro p e s m args below meth c s₁ B hml hv
  obtain ⟨rfl, -⟩ := hv
  have hts := atoms_spec (ws := ws_ y cc nL ret) B.pre
  have hts : ∀ w ∈ lw_all, w.before _ s = true := fun w h => hts w (List.mem_cons_of_mem _ h)
  have hown : s.vm.findClass y.cls = some m.cls := findClass_of_methodNamed B.named
  rw [hy] at hown
  have hl := lv_entry As (n := nL) hL
  rw [lg_entry_eq]
  exact body p e s m _ below meth c _ ⟨B.exec, B.bytes, hml, hown, hts⟩ B.returns B.notSynchronized hl
variable {p : Program} {e : Env} {s : State} {m : MethodId} {args : Array Value} {below : List Frame} {meth : Method} {c : Code} {H : Heap} {locs : List Loc} {ls : Array Slot} {pc : Nat} {own : String} {R : Room}
theorem m_iret (S : CallFix p m c cc nL s args lw_all own) (hr : meth.sig.returnType = some .int) (hlocks : meth.locks = false) (hM : MS D ac A G s.heap mo ad v w H locs) {r : Int32} {P : Int32 → mSt → Prop} (hdg : decode cc pc = .ok (.ireturn, 1)) (hp : P r (v, w)) :
    W p l e R s m args below meth c H locs 0 0 (MQ below (va_Qi P (mB D ac A G mo ad) A) args s 0 0 A) (F0 m pc ls [.int r]) := by
  obtain ⟨G1, h1, h2, h3⟩ := hM
  exact W.iret S.1 S.2.1 hr (fun t ht hW => ⟨⟨r, (v, w), rfl, hp, G1, by rw [ht]; exact h1.1, h2, h3⟩, h1.2.1.F ht⟩) h1.2.1.2.2 hdg hlocks
theorem m_zret (S : CallFix p m c cc nL s args lw_all own) (hr : meth.sig.returnType = some .boolean) (hlocks : meth.locks = false) (hM : MS D ac A G s.heap mo ad v w H locs) {r : Int32} {P : Int32 → mSt → Prop} (hn : r = 0 ∨ r = 1) (hdg : decode cc pc = .ok (.ireturn, 1)) (hp : P r (v, w)) :
    W p l e R s m args below meth c H locs 0 0 (MQ below (va_Qi P (mB D ac A G mo ad) A) args s 0 0 A) (F0 m pc ls [.int r]) := by
  obtain ⟨G1, h1, h2, h3⟩ := hM
  exact W.zret S.1 S.2.1 hr (by rcases hn with rfl | rfl <;> rfl) (fun t ht hW => ⟨⟨r, (v, w), rfl, hp, G1, by rw [ht]; exact h1.1, h2, h3⟩, h1.2.1.F ht⟩) h1.2.1.2.2 hdg hlocks
theorem m_vret (S : CallFix p m c cc nL s args lw_all own) (hr : meth.sig.returnType = none) (hlocks : meth.locks = false) (hM : MS D ac A G s.heap mo ad v w H locs) {P : mSt → Prop} (hdg : decode cc pc = .ok (.return_, 1)) (hp : P (v, w)) :
    W p l e R s m args below meth c H locs 0 0 (MQ below (va_Qv P (mB D ac A G mo ad) A) args s 0 0 A) (F0 m pc ls []) := by
  obtain ⟨G1, h1, h2, h3⟩ := hM
  exact W.vret S.1 S.2.1 hr (fun t ht hW => ⟨⟨(v, w), rfl, hp, G1, by rw [ht]; exact h1.1, h2, h3⟩, h1.2.1.F ht⟩) h1.2.1.2.2 hdg hlocks
theorem m_lret (S : CallFix p m c cc nL s args lw_all own) (hr : meth.sig.returnType = some .long) (hlocks : meth.locks = false) (hM : MS D ac A G s.heap mo ad v w H locs) {r : Int64} {P : Int64 → mSt → Prop} (hdg : decode cc pc = .ok (.lreturn, 1)) (hp : P r (v, w)) :
    W p l e R s m args below meth c H locs 0 0 (MQ below (va_Ql P (mB D ac A G mo ad) A) args s 0 0 A) (F0 m pc ls [.long r]) := by
  obtain ⟨G1, h1, h2, h3⟩ := hM
  exact W.lret S.1 S.2.1 hr (fun t ht hW => ⟨⟨r, (v, w), rfl, hp, G1, by rw [ht]; exact h1.1, h2, h3⟩, h1.2.1.F ht⟩) h1.2.1.2.2 hdg hlocks
theorem s_iret (S : CallFix p m c cc nL s args lw_all own) (hr : meth.sig.returnType = some .int) (hlocks : meth.locks = false) {r r' : Int32} (hdg : decode cc pc = .ok (.ireturn, 1)) (hp : r = r') :
    W p l e R s m args below meth c s.heap [] 0 0 (MQ below (vp_Si (fun z => z = r')) args s 0 0 (fun _ => False)) (F0 m pc ls [.int r]) :=
  W.iret S.1 S.2.1 hr (fun t ht hW => ⟨r, rfl, hp, ht⟩) (fun q h => by cases h) hdg hlocks
theorem s_zret (S : CallFix p m c cc nL s args lw_all own) (hr : meth.sig.returnType = some .boolean) (hlocks : meth.locks = false) {r r' : Int32} (hn : r = 0 ∨ r = 1) (hdg : decode cc pc = .ok (.ireturn, 1)) (hp : r = r') :
    W p l e R s m args below meth c s.heap [] 0 0 (MQ below (vp_Si (fun z => z = r')) args s 0 0 (fun _ => False)) (F0 m pc ls [.int r]) :=
  W.zret S.1 S.2.1 hr (by rcases hn with rfl | rfl <;> rfl) (fun t ht hW => ⟨r, rfl, hp, ht⟩) (fun q h => by cases h) hdg hlocks
end MB
/-- what the code's calls of its own class ask -/
theorem cw_m {R : Room} {s : State} {args : Array Value} {index : Nat} {y : MethodName} {bytes : ByteArray} {maxL : Nat} {ret : Option FieldType} {rm : Room} (n : Nat) (hts : ∀ w ∈ lw_all, w.before args s = true) (h1 : Cond.methodLink RX3 index y ∈ lw_all) (h2 : Cond.instanceMethod y ∈ lw_all) (h3 : Cond.selects RX3 y y ∈ lw_all) (h5 : Cond.code y bytes maxL ret ∈ lw_all) (hz : rm.cells = 0 ∧ rm.slots = 0) (hd : y.cls = RX3) (hp : (parseMethodDescriptor y.desc).map (fun d => d.parameters.length) = some n) (hR : rm.frames + 1 ≤ R.frames ∧ 8 + (maxL + 11) + rm.locals ≤ R.locals) :
    CallW R s args RX3 RX3 index y bytes maxL ret (ws_ y bytes maxL ret) rm 0 0 n :=
  cwV n hts (lw_V h1 h2 h3 q69 h5) rfl hz.1 hz.2 ⟨hd, by rw [hd]; decide, by rw [hd]; decide, hp⟩ hR
theorem cw_ms {R : Room} {s : State} {args : Array Value} {index : Nat} {y : MethodName} {bytes : ByteArray} {maxL : Nat} {ret : Option FieldType} {rm : Room} (n : Nat) (hts : ∀ w ∈ lw_all, w.before args s = true) (h1 : Cond.methodLink RX3 index y ∈ lw_all) (h2 : Cond.static y ∈ lw_all) (h5 : Cond.code y bytes maxL ret ∈ lw_all) (hz : rm.cells = 0 ∧ rm.slots = 0) (hd : y.cls = RX3) (hp : (parseMethodDescriptor y.desc).map (fun d => d.parameters.length) = some n) (hR : rm.frames + 1 ≤ R.frames ∧ 8 + (maxL + 11) + rm.locals ≤ R.locals) :
    CallB R s args RX3 index y bytes maxL ret (ws_ y bytes maxL ret) rm 0 0 n ∧ (Cond.static y).before args s = true :=
  va_cwS n hts (lw_S h1 h2 (by rw [hd]; exact q69) h5) rfl hz.1 hz.2 ⟨by rw [hd]; decide, by rw [hd]; decide, hp⟩ hR
