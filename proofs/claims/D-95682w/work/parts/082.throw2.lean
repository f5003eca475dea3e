/-! A call of a method that throws. -/
section TC
variable {l : Launch} {R : Room} {p : Program} {e : Env} {below : List Frame} {s : State} {m : MethodId} {args : Array Value} {meth : Method} {c : Code} {U : State} {Ls : List Loc} {c0 s0 : Nat}
theorem backT {y : MethodName} {ws : List Cond} {rm : Room} {Pc : Array Value → State → Prop} {Qt : Array Value → State → Nat → State → Prop} {mc ms : Nat} {free : Addr → Prop} {bytes : ByteArray} {maxL : Nat} {ret : Option FieldType} {Wd len : Nat}
    (hM : MetT l y ws rm Pc Qt mc ms free) (hblind : FrameBlind Pc) (hrc : rm.cells = mc) (hrs : rm.slots = ms) (hframes : rm.frames + 1 ≤ R.frames) (hlocals : Wd + (maxL + 11) + rm.locals ≤ R.locals)
    (hws : ∀ w ∈ ws, ∀ a' U, s.WarmedH U.vm → w.before a' U = true) (hcode : Cond.code y bytes maxL ret ∈ ws) (hinit : ∀ a' U, s.WarmedH U.vm → (Cond.initialized y.cls).before a' U = true)
    (X : Stand p l e R s m args below meth c U Ls c0 s0) {g : JFrame} (hg : g.method = m) (hsize : g.locals.size = c.maxLocals) {ig : Instr} (hdg : decode c.code g.pc = .ok (ig, len)) (hW : 2 * g.monitorRoom + (g.stack.map fun v => v.category).sum ≤ Wd)
    {mk : MethodId} (hn : U.methodNamed? y = some mk) {a : Array Value} (hc1 : c0 + mc ≤ R.cells) (hs1 : s0 + ms ≤ R.slots) (hP : Pc a U) :
    ∃ (x : Addr) (T' t : State) (L : List Loc), Stand p l e R s m args below meth c T' (Ls ++ L) (c0 + mc) (s0 + ms) ∧ (∀ q ∈ L, free q.base) ∧ T'.heap = t.heap ∧ T'.vm = t.vm ∧ Qt a (U.calling g mk a) x t ∧
      Steps p.tables e below (doInvoke e (U.setTop g) [] mk a).1 ((T'.setTop g).pushFrame (.throwing x)) := by
  have h1 : (headSpec ws rm).pre.before a U = true := atoms_intro fun w hw => hws w hw _ _ X.warmed
  obtain ⟨methY, cY, hmY, hcY, -, hlY, -⟩ := Cond.code_spec hn (hws _ hcode a U X.warmed)
  obtain ⟨kY, hkY, -⟩ := className_of_methodNamed hn
  have hinitY : kY.init = .initialized := Cond.initialized_spec (findClass_of_methodNamed hn) hkY (hinit a U X.warmed)
  have h : At U g.method c below := by rw [hg]; exact X.here
  have happ : (headSpec ws rm).appliesLoose y e.platform (U.calling g mk a) = true :=
    Spec.appliesLoose_calling (g := g) h hdg hn hkY hinitY
      (X.room_calling (g := g) (R' := (headSpec ws rm).room) hsize hmY hcY hframes (by rw [hlY]; show _ + _ + _ + rm.locals ≤ _; omega) (by show _ + rm.cells ≤ _; rw [hrc]; exact hc1) (by show _ + rm.slots ≤ _; rw [hrs]; exact hs1)) h1
  obtain ⟨mid, hmid⟩ := h.above
  have hfr : (U.setTop g).frames = (.java g :: mid) ++ below := by rw [State.frames_setTop' g h.top, hmid]; rfl
  obtain ⟨o, s₂, hsteps, -, hend, hq⟩ := Steps.callFree hM p X.admits X.cas X.clock (acts := []) hfr happ (hblind _ _ _ _ hP) trivial
  obtain ⟨x, rfl, hQ, hW₂, L, hsame, hL⟩ := hq
  rw [State.frames_setTop' g h.top, X.tail] at hend
  obtain ⟨T', X', -, -, ht⟩ := X.outOfThrown hg hend hW₂ hsame
  refine ⟨x, T', s₂, L, X', hL, ?_, ?_, hQ, ?_⟩
  · rw [ht, throwing_heap]
  · rw [ht, throwing_vm]
  · rw [← ht]; exact hsteps
end TC
