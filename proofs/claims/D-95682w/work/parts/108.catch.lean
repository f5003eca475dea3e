/-! Caught in the method itself: the handler's class cold or warm. -/
set_option maxRecDepth 100000
/-- what the search for a handler gives, and the tables behind it -/
def fndTo (e : Env) (s : State) (f : JFrame) (a : Addr) (h : Handler) (vm' : Vm) : Prop :=
  ∀ (Q : Handler → Pre) (E : CtlPost) (d : Bool) (acts : List Action), wp (findHandler f a) Q E e d acts s ↔ Q h d acts (s.setVm vm')
theorem fndTo.link {e : Env} {s : State} {f : JFrame} {a : Addr} {meth : Method} {code : Code} (hm : s.vm.method? f.method = some meth) (hc : meth.code = some code)
    (pre : List ExceptionTableEntry) (x : ExceptionTableEntry) (rest : List ExceptionTableEntry) (hsplit : code.exceptionTable.toList = pre ++ x :: rest)
    (hskip : ∀ y ∈ pre, covers y f.pc = false) (hx : covers x f.pc = true) (h0 : x.catchType ≠ 0) {c : ClassId} {cell : Cell}
    (hl : s.vm.ClassLinks e.platform f.method.cls x.catchType c) (hcell : s.heap[a]? = some cell) (hobj : ∀ k, cell.vm ≠ .statics k)
    (hk : ∃ k, s.vm.classes[cell.cls]? = some k) (hcl : ∃ k, s.vm.classes[c]? = some k) (hfit : s.vm.assignable cell.cls c = true) :
    fndTo e s f a (.found x.handlerPc) (s.vm.noted f.method.cls x.catchType (.cls c)) := by
  intro Q E d acts
  rw [W.findHandler_eq hm hc, hsplit]
  clear hsplit
  induction pre with
  | cons y ys ih =>
    rw [List.cons_append, W.findHandler_go_skip (hskip y List.mem_cons_self)]
    exact ih (fun z hz => hskip z (List.mem_cons_of_mem _ hz))
  | nil =>
    rw [List.nil_append]
    simp only [covers] at hx
    obtain ⟨g1, g2⟩ := (resolveClass_links e.toSetting hl).op (op := VmOp.resolveClass f.method.cls x.catchType) rfl
    have hal : s.vm.Alike (s.vm.noted f.method.cls x.catchType (.cls c)) := (Vm.Alike.refl s.vm).noted _ _ _
    obtain ⟨k1, hk1⟩ := hk
    obtain ⟨k2, hk2⟩ := hcl
    obtain ⟨k1', hk1', -⟩ := hal.2.2 _ _ hk1
    obtain ⟨k2', hk2', -⟩ := hal.2.2 _ _ hk2
    have hfit' : (s.vm.noted f.method.cls x.catchType (.cls c)).assignable cell.cls c = true := by rw [hal.assignable]; exact hfit
    simp [findHandler.go, hx, h0, g1, g2, hcell, hobj, hk1', hk2', hfit', VmOp.dirties, VmOp.acts]
theorem stp_catch {e : Env} {s : State} {a : Addr} {f : JFrame} {r : List Frame} {pc : Nat} {vm' : Vm} (hfind : fndTo e s f a (.found pc) vm') :
    (stepThrowing e s a (.java f :: r)).Is ((s.setVm vm').setFrames (.java { f with pc := pc, stack := [.ref a] } :: r)) [] := by
  simp only [stepThrowing, searchFrame, vmDo]
  generalize hr : Sem.go _ e false [] s = res
  obtain ⟨as, rfl, ha⟩ := Sem.eq_ok_of hr (a := Handler.found pc) (s' := s.setVm vm') (acts' := []) (by simp [hfind _ _ _ _])
  exact ⟨rfl, ha⟩
theorem sts_catch {tb : Tables} {e : Env} {s target : State} {g : JFrame} {c : Code} {below : List Frame} {a : Addr} (h : At s g.method c below) {pc : Nat} {vm' : Vm}
    (hfind : fndTo e ((s.setTop g).pushFrame (.throwing a)) g a (.found pc) vm') (hrest : Steps tb e below ((s.setVm vm').setTop { g with pc := pc, stack := [.ref a] }) target) :
    Steps tb e below ((s.setTop g).pushFrame (.throwing a)) target := by
  obtain ⟨hgo, hw⟩ := h.throwing a
  refine Steps.head hgo hw ?_
  rw [stepThread_throwing (frames_entered h.top _), (stp_catch (s := (s.setTop g).pushFrame (.throwing a)) hfind).1]
  obtain ⟨g₀, hg⟩ := Option.isSome_iff_exists.mp h.top
  obtain ⟨r, hr⟩ := State.topJava?_eq_some.mp hg
  have hr' : (s.setVm vm').frames = .java g₀ :: r := hr
  have hsf : ∀ (u : State) (vm' : Vm) (F G : List Frame), ((u.setFrames F).setVm vm').setFrames G = (u.setVm vm').setFrames G := fun u vm' F G => by
    rw [show (u.setFrames F).setVm vm' = (u.setVm vm').setFrames F from rfl, State.setFrames_setFrames]
  rw [State.setTop_of_frames _ hr'] at hrest
  rw [hr, List.tail_cons, State.pushFrame, hsf, State.setTop_of_frames _ hr, hsf]
  exact hrest
section CT
variable {p : Program} {l : Launch} {e : Env} {R : Room} {s : State} {m : MethodId} {args : Array Value} {below : List Frame} {meth : Method} {c : Code} {H : Heap} {locs : List Loc} {cells slots : Nat} {Q : State → Prop}
variable {cc : ByteArray} {pc nL : Nat} {ls : Array Slot} {rest st0 : List Value} {D : va_G} {ac : Nat → ClassId} {A : Nat → Prop} {κ : Nat → Nat} {a : Nat} {O : gO} {L : List (Nat × gU)} {own : String}
theorem st_caught {T : State} (X : Stand p l e R s m args below meth c T locs cells slots) (x : Addr) {g : JFrame} (hg : g.method = m) {name : String} (hown : s.vm.findClass own = some m.cls)
    (pre : List ExceptionTableEntry) (z : ExceptionTableEntry) (post : List ExceptionTableEntry) (hsplit : c.exceptionTable.toList = pre ++ z :: post) (hskip : ∀ y ∈ pre, covers y g.pc = false) (hx : covers z g.pc = true) (h0 : z.catchType ≠ 0)
    (hlink : (Cond.classLink own z.catchType name).before args s = true) {cT : ClassId} {cell : Cell} (hcT : s.vm.findClass name = some cT) (hcell : T.heap[x]? = some cell) (hobj : cell.vm.isStatics = false) (hfit : s.vm.assignable cell.cls cT = true) :
    ∃ vm', Stand p l e R s m args below meth c (T.setVm vm') locs cells slots ∧
      ∀ target, Steps p.tables e below ((T.setVm vm').setTop { g with pc := z.handlerPc, stack := [.ref x] }) target → Steps p.tables e below ((T.setTop g).pushFrame (.throwing x)) target := by
  have hpl : e.platform.magicAccessors = ({} : Platform).magicAccessors := by rw [X.admits.platform]
  obtain ⟨c', hc', hcl⟩ := Cond.classLink_spec hown hlink e.platform hpl
  cases hcT.symm.trans hc'
  obtain ⟨dk, _, _, kt, hd, _, _, _, _, hkt, _, hopen⟩ := hcl.here
  have hcl₀ := X.warmed.classLinks hcl
  have hW' : s.WarmedH (T.vm.noted m.cls z.catchType (.cls cT)) := X.warmed.noted hd hopen (State.rightAt_cls hcl)
  have hal := X.warmed.alike
  obtain ⟨kt', hkt', -⟩ := hal.2.2 _ _ hkt
  have hfit' : T.vm.assignable cell.cls cT = true := by rw [hal.assignable]; exact hfit
  refine ⟨_, X.noted hW', fun target hrest => ?_⟩
  subst hg
  exact sts_catch X.here (fndTo.link (s := (T.setTop g).pushFrame (.throwing x)) (meth := meth) (code := c) X.method' X.code pre z post hsplit hskip hx h0 (c := cT) (cell := cell) hcl₀ hcell (VmData.ne_statics_of hobj)
    (Vm.classAt_of_assignable hfit' ⟨kt', hkt'⟩) ⟨kt', hkt'⟩ hfit') hrest
/-- the handlers, as the word tells them -/
def hTab (c : Code) (hh : List (Nat × Nat × Nat × Nat)) : Prop := c.exceptionTable.toList.map (fun h => (h.startPc, h.endPc, h.handlerPc, h.catchType)) = hh
/-- the handler i covers pc, those ahead of it do not -/
def hAt (hh : List (Nat × Nat × Nat × Nat)) (i pc hpc ct : Nat) : Prop := (∃ a b, hh[i]? = some (a, b, hpc, ct) ∧ a ≤ pc ∧ pc < b) ∧ ∀ j q, j < i → hh[j]? = some q → ¬ (q.1 ≤ pc ∧ pc < q.2.1)
theorem hTab.split {hh : List (Nat × Nat × Nat × Nat)} {i pc hpc ct : Nat} (h : hTab c hh) (hat : hAt hh i pc hpc ct) : ∃ (pre : List ExceptionTableEntry) (z : ExceptionTableEntry) (post : List ExceptionTableEntry), c.exceptionTable.toList = pre ++ z :: post ∧ (∀ y ∈ pre, covers y pc = false) ∧ covers z pc = true ∧ z.catchType = ct ∧ z.handlerPc = hpc := by
  obtain ⟨⟨a, b, h1, h2, h3⟩, h4⟩ := hat
  unfold hTab at h
  generalize c.exceptionTable.toList = E at h
  rw [← h] at h1 h4
  rw [List.getElem?_map] at h1
  cases hz : E[i]? with
  | none => rw [hz] at h1; cases h1
  | some z =>
    rw [hz] at h1
    simp only [Option.map_some, Option.some.injEq, Prod.mk.injEq] at h1
    obtain ⟨e1, e2, e3, e4⟩ := h1
    have hlt := (List.getElem?_eq_some_iff.mp hz).1
    refine ⟨E.take i, z, E.drop (i + 1), ?_, ?_, ?_, e4, e3⟩
    · have := (List.getElem?_eq_some_iff.mp hz).2
      rw [← this, List.getElem_cons_drop]
      exact (List.take_append_drop i E).symm
    · intro y hy
      obtain ⟨j, hj, rfl⟩ := List.mem_take_iff_getElem.mp hy
      have hj2 : j < i := by omega
      have := h4 j _ hj2 (by rw [List.getElem?_map, List.getElem?_eq_getElem (by omega)]; rfl)
      simp only [covers]
      dsimp only at this
      rw [Bool.and_eq_false_iff, decide_eq_false_iff_not, decide_eq_false_iff_not]
      omega
    · simp only [covers]
      simp [e1, e2, h2, h3]
theorem p_catch {mc ms : Nat} {av : Array Value} {PostT : Nat → gO → Prop} (S : CallFix p m c cc nL s args lw_all own) (hK : KZ D ac A κ s) (hM : PS D ac A s.heap O L H locs) (hr : RunT p l e R s m args below meth c H locs cells slots mc ms (F0 m pc ls st0) rest (oQT D ac A PostT av) A)
    {hh : List (Nat × Nat × Nat × Nat)} (htab : hTab c hh) (i : Nat) {hpc ct : Nat} (hat : hAt hh i pc hpc ct) (h0 : ct ≠ 0) {name : String} (hlink : Cond.classLink own ct name ∈ lw_all) {C : String} (hcast : va_Nw (.castable C name) s)
    (hcls : ∀ x O1, PostT x O1 → ∃ (ci : Nat) (fs : List Value) (ar : gA) (T : u_T) (N : Nat), O1 x = some (.inr (ci, fs, ar)) ∧ vwCl[ci]? = some (C, T, N))
    (kk : ∀ (x : Nat) (O1 : gO) (H1 : Heap) (locs1 : List Loc), PostT x O1 → OS D ac A s.heap O1 H1 locs1 → W p l e R s m args below meth c H1 locs1 (cells + mc) (slots + ms) Q (F0 m hpc ls [.ref x])) : W p l e R s m args below meth c H locs cells slots Q (F0 m pc ls st0) := by
  intro T hT X
  obtain ⟨x, st₀, t, T', L', h0', X', hL, e1, e2, hq, st⟩ := hr T hT X
  obtain ⟨O1, hp1, hS1⟩ := RunT.store (mc := mc) (ms := ms) hM.1 h0' e1 hL hq
  obtain ⟨ci, fs, ar, TT, N, hO1, hc⟩ := hcls x O1 hp1
  obtain ⟨cell, g1, g2, g3⟩ := OS.recv hK hS1 hO1 hc
  obtain ⟨c3, cT, hc3, hcT, hasg⟩ := Cond.castable_spec (va_Nw.use (A := args) rfl hcast)
  have e3 : c3 = cell.cls := Option.some.inj (hc3.symm.trans g3)
  subst e3
  obtain ⟨pre, z, post, t1, t2, t3, t4, t5⟩ := htab.split hat
  subst t4; subst t5
  obtain ⟨vm', X2, st2⟩ := st_caught X' x (g := { F0 m pc ls st0 with stack := rest }) rfl S.2.2.2.1 pre z post t1 t2 t3 h0 (S.2.2.2.2 _ hlink) hcT g1 g2 hasg
  obtain ⟨t', a1, b1⟩ := kk x O1 T'.heap (locs ++ L') hp1 hS1 (T'.setVm vm') rfl X2
  exact ⟨t', st _ (st2 _ a1), b1⟩
end CT
