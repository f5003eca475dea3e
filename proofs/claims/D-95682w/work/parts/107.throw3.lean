/-! Methods that throw, over the store: contracts, starts, ends, calls passed on and calls caught. -/
set_option maxRecDepth 100000
def oQT (D : va_G) (ac : Nat → ClassId) (A : Nat → Prop) (Post : Nat → gO → Prop) : Array Value → State → Nat → State → Prop :=
  fun _ st x t => (∃ O1 : gO, Post x O1 ∧ oB D ac A O1 t) ∧ va_F A st t
/-- a method's contract where it throws -/
abbrev oT (l : Launch) (κ : Nat → Nat) (y : MethodName) (cc : ByteArray) (nL : Nat) (ret : Option FieldType) (rm : Room) (As : List Value) (O : gO) (Post : Nat → gO → Prop) : Prop :=
  ∀ (D : va_G) (ac : Nat → ClassId) (A : Nat → Prop), MetT l y (ws_ y cc nL ret) rm (va_Pc As (oPre D ac A κ O)) (oQT D ac A Post) rm.cells rm.slots A
theorem o_bodyT {l : Launch} {κ : Nat → Nat} {y : MethodName} {cc : ByteArray} {nL : Nat} {ret : Option FieldType} {rm : Room} {As : List Value} {D : va_G} {ac : Nat → ClassId} {A : Nat → Prop} {O : gO} {own : String} {Qc : Array Value → State → Nat → State → Prop} (hy : y.cls = own) (hpn : plainName own = true) (hL : (lg_sl As).length ≤ nL)
    (body : ∀ (p : Program) (e : Env) (s : State) (m : MethodId) (args : Array Value) (below : List Frame) (meth : Method) (c : Code) (ls : Array Slot), CallFix p m c cc nL s args lw_all own → c.exceptionTable.isEmpty = true → meth.locks = false → KZ D ac A κ s → OS D ac A s.heap O s.heap [] → lv_has ls nL (lv_args 0 As) → W p l e rm s m args below meth c s.heap [] 0 0 (MQT below Qc args s rm.cells rm.slots A) (F0 m 0 ls [])) :
    MetT l y (ws_ y cc nL ret) rm (va_Pc As (oPre D ac A κ O)) Qc rm.cells rm.slots A := by
  refine MetT.ofW (cc := cc) (maxL := nL) (ret := ret) (by rw [hy]; exact hpn) rfl ?_
  intro p e s m args below meth c s₁ B hml hem hv
  obtain ⟨rfl, hv⟩ := hv
  have hts := atoms_spec (ws := ws_ y cc nL ret) B.pre
  have hts : ∀ w ∈ lw_all, w.before _ s = true := fun w h => hts w (List.mem_cons_of_mem _ h)
  have hown : s.vm.findClass y.cls = some m.cls := findClass_of_methodNamed B.named
  rw [hy] at hown
  have hl := lv_entry As (n := nL) hL
  rw [lg_entry_eq]
  exact body p e s m _ below meth c _ ⟨B.exec, B.bytes, hml, hown, hts⟩ hem B.notSynchronized hv.1 (OS.start hv) hl
section T3
variable {p : Program} {l : Launch} {e : Env} {R : Room} {s : State} {m : MethodId} {args : Array Value} {below : List Frame} {meth : Method} {c : Code} {H : Heap} {locs : List Loc} {cells slots : Nat} {Q : State → Prop}
variable {cc : ByteArray} {pc nL : Nat} {ls : Array Slot} {rest st0 : List Value} {D : va_G} {ac : Nat → ClassId} {A : Nat → Prop} {κ : Nat → Nat} {a : Nat} {O : gO} {L : List (Nat × gU)} {own : String}
/-- the method throws what lies on its stack -/
theorem p_thr {Post : Nat → gO → Prop} (S : CallFix p m c cc nL s args lw_all own) (hem : c.exceptionTable.isEmpty = true) (hlocks : meth.locks = false) (hM : PS D ac A s.heap O L H locs) (hdg : decode cc pc = .ok (.athrow, 1)) (hp : Post a (oups O L)) :
    W p l e R s m args below meth c H locs cells slots (MQT below (oQT D ac A Post) args s cells slots A) (F0 m pc ls (.ref a :: rest)) := by
  refine W.thr S.1 S.2.1 hem hlocks (fun t ht hW => ?_) hM.1.lcs hdg
  obtain ⟨⟨G, h1, h2⟩, -⟩ := hM
  exact ⟨⟨_, hp, G, by rw [ht]; exact h1.1, h2⟩, h1.2.1.F ht⟩
/-- a call that throws: where the machine stands then -/
def RunT (p : Program) (l : Launch) (e : Env) (R : Room) (s : State) (m : MethodId) (args : Array Value) (below : List Frame) (meth : Method) (c : Code) (H : Heap) (locs : List Loc) (cells slots mc ms : Nat) (g : JFrame) (rest : List Value) (Qa : State → Nat → State → Prop) (free : Addr → Prop) : Prop :=
  ∀ T : State, T.heap = H → Stand p l e R s m args below meth c T locs cells slots → ∃ (x : Nat) (st₀ t T' : State) (L : List Loc), st₀.heap = H ∧ Stand p l e R s m args below meth c T' (locs ++ L) (cells + mc) (slots + ms) ∧ (∀ q ∈ L, free q.base) ∧ T'.heap = t.heap ∧ T'.vm = t.vm ∧ Qa st₀ x t ∧
    ∀ target, Steps p.tables e below ((T'.setTop { g with stack := rest }).pushFrame (.throwing x)) target → Steps p.tables e below (T.setTop g) target
section RT
variable {y : MethodName} {bytes : ByteArray} {maxL mc ms n index : Nat} {ret : Option FieldType} {ws : List Cond} {rm : Room} {Pc : Array Value → State → Prop} {Qt : Array Value → State → Nat → State → Prop} {free : Addr → Prop} {C : String} {b : Addr} {As : List Value} {g : JFrame} {host : String}
theorem runVT (S : CallFix p m c cc nL s args lw_all own) (hM : MetT l y ws rm Pc Qt mc ms free) (cw : CallW R s args own C index y bytes maxL ret ws rm mc ms n) (hp : PreV s H C b Pc As)
    (hg : g.method = m) (hn : As.length = n) (hsize : g.locals.size = nL) (hstack : g.stack = As.reverse ++ .ref b :: rest) (hW : 2 * g.monitorRoom + (rest.map fun v => v.category).sum ≤ 8) (hdg : decode cc g.pc = .ok (.invokevirtual index, 3)) (hf : cells + mc ≤ R.cells ∧ slots + ms ≤ R.slots) :
    RunT p l e R s m args below meth c H locs cells slots mc ms g rest (Qt (Value.ref b :: As).toArray) free := by
  obtain ⟨⟨hrc, hrs, hfr, hlo, hws, hcw, hcode, hini, hy, hlen, hl⟩, hin, hse⟩ := cw
  obtain ⟨hx, hb, hml, ho, -⟩ := S
  obtain ⟨hbl, ⟨cellB, hcB, hoB, hclB⟩, hPc⟩ := hp
  intro T hT X
  obtain ⟨mk, methM, hnamed, hmethM, hstM, habM⟩ := Cond.instanceMethod_spec hin
  obtain ⟨methM', cM, hmethM', -, -, -, -, -, -, hsigM⟩ := Cond.code_spec hnamed hcode
  cases hmethM.symm.trans hmethM'
  obtain ⟨c2, r2, m2, q1, q2, q3, q4, kP, hkP, hkPi⟩ := Cond.selects_spec hse
  cases hclB.symm.trans q1
  cases (State.methodFound?_of_named hnamed hy).symm.trans q2
  cases hnamed.symm.trans q3
  have hselP : selectMethod e.platform s.vm cellB.cls mk = .method mk := by rw [Launch.admits_selectMethod X.admits]; exact q4
  obtain ⟨vm₁, X₁, hstep₁⟩ := X.invokevirtual hx ho hl hnamed hmethM hstM hkP hkPi hy (a := b) (cell := cellB) (by rw [hT]; exact hcB)
    (fun z h => by rw [h] at hoB; cases hoB) hselP hmethM habM hkP hkPi (g := g) hg (argsL := As) (rest := rest) (hn.trans (hlen _ hsigM)) hstack (by rw [hb]; exact hdg)
  obtain ⟨x, T', t, L, X', hL, e1, e2, hq, st⟩ := backT hM hbl hrc hrs hfr hlo hws hcw (fun a' U hW => word_at hW (Or.inl (by first | rfl | simp [Cond.onTables, Cond.keeps, Cond.steady])) hini) X₁ (g := { g with stack := rest }) hg (hsize.trans hml.symm) (ig := .invokevirtual index) (by rw [hb]; exact hdg) hW (X₁.named hnamed) (a := (Value.ref b :: As).toArray) hf.1 hf.2 (hPc (T.setVm vm₁) hT X₁.warmed)
  exact ⟨x, (T.setVm vm₁).calling { g with stack := rest } mk (Value.ref b :: As).toArray, t, T', L, hT, X', hL, e1, e2, hq, fun target h => hstep₁ _ fun acts => by rw [doInvoke_state]; exact st.trans h⟩
theorem runST (S : CallFix p m c cc nL s args lw_all own) (hM : MetT l y ws rm Pc Qt mc ms free) (cw : CallB R s args own index y bytes maxL ret ws rm mc ms n ∧ (Cond.static y).before args s = true) (hp : PreS s H Pc As)
    (hg : g.method = m) (hn : As.length = n) (hsize : g.locals.size = nL) (hstack : g.stack = As.reverse ++ rest) (hW : 2 * g.monitorRoom + (rest.map fun v => v.category).sum ≤ 8) (hdg : decode cc g.pc = .ok (.invokestatic index, 3)) (hf : cells + mc ≤ R.cells ∧ slots + ms ≤ R.slots) :
    RunT p l e R s m args below meth c H locs cells slots mc ms g rest (Qt As.toArray) free := by
  obtain ⟨⟨hrc, hrs, hfr, hlo, hws, hcw, hcode, hini, hy, hlen, hl⟩, hstt⟩ := cw
  obtain ⟨hx, hb, hml, ho, -⟩ := S
  intro T hT X
  obtain ⟨mk, hnamed⟩ := Cond.code_named hcode
  obtain ⟨methM, cM, hmethM, -, -, -, -, -, -, hsigM⟩ := Cond.code_spec hnamed hcode
  have hstatic : methM.isStatic = true := Cond.static_spec hnamed hmethM hstt
  obtain ⟨kP, hkP, -⟩ := className_of_methodNamed hnamed
  have hinitP : kP.init = .initialized := Cond.initialized_spec (findClass_of_methodNamed hnamed) hkP hini
  obtain ⟨vm₁, X₁, hstep₁⟩ := X.invokestatic hx ho hl hnamed hmethM hstatic hkP hinitP hy (g := g) hg (argsL := As) (rest := rest) (hn.trans (hlen _ hsigM)) hstack (by rw [hb]; exact hdg)
  obtain ⟨x, T', t, L, X', hL, e1, e2, hq, st⟩ := backT hM hp.1 hrc hrs hfr hlo hws hcw (fun a' U hW => word_at hW (Or.inl (by first | rfl | simp [Cond.onTables, Cond.keeps, Cond.steady])) hini) X₁ (g := { g with stack := rest }) hg (hsize.trans hml.symm) (ig := .invokestatic index) (by rw [hb]; exact hdg) hW (X₁.named hnamed) (a := As.toArray) hf.1 hf.2 (hp.2 (T.setVm vm₁) hT X₁.warmed)
  exact ⟨x, (T.setVm vm₁).calling { g with stack := rest } mk As.toArray, t, T', L, hT, X', hL, e1, e2, hq, fun target h => hstep₁ _ fun acts => by rw [doInvoke_state]; exact st.trans h⟩
theorem runSNT (S : CallFix p m c cc nL s args lw_all own) (hM : MetT l y ws rm Pc Qt mc ms free) (cw : va_CN R s args own index y host bytes maxL ret ws rm mc ms n ∧ (Cond.static y).before args s = true ∧ True) (hp : PreS s H Pc As)
    (hg : g.method = m) (hn : As.length = n) (hsize : g.locals.size = nL) (hstack : g.stack = As.reverse ++ rest) (hW : 2 * g.monitorRoom + (rest.map fun v => v.category).sum ≤ 8) (hdg : decode cc g.pc = .ok (.invokestatic index, 3)) (hf : cells + mc ≤ R.cells ∧ slots + ms ≤ R.slots) :
    RunT p l e R s m args below meth c H locs cells slots mc ms g rest (Qt As.toArray) free := by
  obtain ⟨⟨⟨hrc, hrs, hfr, hlo, hws, hcw⟩, hcode, hini, hy, hlen, hl⟩, hstt, -⟩ := cw
  obtain ⟨hx, hb, hml, ho, -⟩ := S
  intro T hT X
  obtain ⟨mk, hnamed⟩ := Cond.code_named hcode
  obtain ⟨methM, cM, hmethM, -, -, -, -, -, -, hsigM⟩ := Cond.code_spec hnamed hcode
  have hstatic : methM.isStatic = true := Cond.static_spec hnamed hmethM hstt
  obtain ⟨kP, hkP, -⟩ := className_of_methodNamed hnamed
  have hinitP : kP.init = .initialized := Cond.initialized_spec (findClass_of_methodNamed hnamed) hkP hini
  obtain ⟨vm₁, X₁, hstep₁⟩ := X.invokestaticNest hx ho hl hnamed hmethM hstatic hkP hinitP hy (g := g) hg (argsL := As) (rest := rest) (hn.trans (hlen _ hsigM)) hstack (by rw [hb]; exact hdg)
  obtain ⟨x, T', t, L, X', hL, e1, e2, hq, st⟩ := backT hM hp.1 hrc hrs hfr hlo hws hcw (fun a' U hW => word_at hW (Or.inl (by first | rfl | simp [Cond.onTables, Cond.keeps, Cond.steady])) hini) X₁ (g := { g with stack := rest }) hg (hsize.trans hml.symm) (ig := .invokestatic index) (by rw [hb]; exact hdg) hW (X₁.named hnamed) (a := As.toArray) hf.1 hf.2 (hp.2 (T.setVm vm₁) hT X₁.warmed)
  exact ⟨x, (T.setVm vm₁).calling { g with stack := rest } mk As.toArray, t, T', L, hT, X', hL, e1, e2, hq, fun target h => hstep₁ _ fun acts => by rw [doInvoke_state]; exact st.trans h⟩
end RT
/-- the store behind a call that throws -/
theorem RunT.store {mc ms : Nat} {av : Array Value} {PostT : Nat → gO → Prop} {st₀ t T' : State} {L' : List Loc} {x : Nat} (hM : OS D ac A s.heap O H locs) (h0 : st₀.heap = H) (e1 : T'.heap = t.heap) (hL : ∀ q ∈ L', A q.base) (hq : oQT D ac A PostT av st₀ x t) : ∃ O1, PostT x O1 ∧ OS D ac A s.heap O1 T'.heap (locs ++ L') := by
  obtain ⟨⟨O1, hp, ⟨G1, g1, g2⟩⟩, hz, hk⟩ := hq
  obtain ⟨G, h1, h2⟩ := hM
  have hS := h1.2.1
  rw [h0] at hz hk
  exact ⟨O1, hp, G1, ⟨by rw [e1]; exact g1,
    ⟨Nat.le_trans hS.1 (by rw [e1]; exact hz), fun q h1 h2 => by rw [e1, hk q (Nat.lt_of_lt_of_le h1 hS.1) h2]; exact hS.2.1 q h1 h2, fun q hq => by
      rcases List.mem_append.mp hq with h | h
      · exact hS.2.2 q h
      · exact hL q h⟩, fun q hq => h1.2.2 q (by rw [e1] at hq; omega)⟩, g2⟩
/-- passed on: this method has no handlers -/
theorem p_pass {mc ms : Nat} {av : Array Value} {PostT Post : Nat → gO → Prop} (hem : c.exceptionTable.isEmpty = true) (hlocks : meth.locks = false) (hM : PS D ac A s.heap O L H locs) (hr : RunT p l e R s m args below meth c H locs cells slots mc ms (F0 m pc ls st0) rest (oQT D ac A PostT av) A) (hp : ∀ x O1, PostT x O1 → Post x O1) :
    W p l e R s m args below meth c H locs cells slots (MQT below (oQT D ac A Post) args s (cells + mc) (slots + ms) A) (F0 m pc ls st0) := by
  intro T hT X
  obtain ⟨x, st₀, t, T', L', h0, X', hL, e1, e2, hq, st⟩ := hr T hT X
  obtain ⟨O1, hp1, G1, hg1⟩ := RunT.store (mc := mc) (ms := ms) hM.1 h0 e1 hL hq
  obtain ⟨f1, f2, f3, f4, f5⟩ := X'.leaveThrown x (g := { F0 m pc ls st0 with stack := rest }) rfl rfl rfl (fun z hz => by
    have : c.exceptionTable.toList = [] := by simpa [Array.isEmpty_iff] using hem
    rw [this] at hz
    cases hz) hlocks
  exact ⟨_, st _ f1, x, f2, f3, ⟨⟨O1, hp x O1 hp1, G1, hg1.1.1, hg1.2⟩, hg1.1.2.1.F rfl⟩, f4, locs ++ L', f5, hg1.1.2.1.2.2⟩
end T3
