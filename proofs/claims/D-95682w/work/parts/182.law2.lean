/-! One form for all of the component's public calls; the call of a method with handlers. -/
set_option maxRecDepth 100000
theorem room_le {s : State} {pl : Platform} {r r' : Room} (h : s.hasRoom pl r' = true) (h1 : r.frames ≤ r'.frames) (h2 : r.cells ≤ r'.cells) (h3 : r.slots ≤ r'.slots) (h4 : r.locals ≤ r'.locals) : s.hasRoom pl r = true := by
  have a3 := State.hasRoom_plain h
  simp only [State.hasRoom, Bool.and_eq_true, decide_eq_true_eq, Platform.stackLimits_plain a3] at h ⊢
  repeat' apply And.intro
  all_goals first | exact h.1 | exact h.2 | exact h.1.1 | exact h.1.2 | exact h.1.1.2 | exact h.1.1.1.2 | exact h.1.1.1.1.2 | exact h.1.1.1.1.1 | exact h.1.1.1.1 | exact h.1.1.1 | exact h.1.1.1.1.1.2 | exact h.1.1.1.1.1.1 | omega
theorem Met.wide {l : Launch} {y : MethodName} {ws : List Cond} {rm rm' : Room} {Pc : Array Value → State → Prop} {Qc : Array Value → State → Outcome → State → Prop} {A : Addr → Prop} (h : Met l y ws rm Pc Qc rm.cells rm.slots A) (h1 : rm.frames ≤ rm'.frames) (h2 : rm.cells ≤ rm'.cells) (h3 : rm.slots ≤ rm'.slots) (h4 : rm.locals ≤ rm'.locals) : Met l y ws rm' Pc Qc rm'.cells rm'.slots A := by
  intro p e ha hc hk s m args below hf happ hP hK
  obtain ⟨n, o, g1, g2, g3, g4, L, g5, g6⟩ := h p e ha hc hk s m args below hf (by
    unfold Spec.appliesLoose at happ ⊢
    rw [hf] at happ ⊢
    simp only [Bool.and_eq_true] at happ ⊢
    exact ⟨⟨happ.1.1, room_le happ.1.2 h1 h2 h3 h4⟩, happ.2⟩) hP hK
  exact ⟨n, o, g1, g2, g3, g4, L, ⟨g5.1, g5.2.1, g5.2.2.mono h2 h3⟩, g6⟩
def RMX : Room := { frames := 10, cells := 623, slots := 102690, locals := 10260 }
/-- a public call of the component: it answers as t says, and its units tell what t says -/
abbrev cX (l : Launch) (κ : Nat → Nat) (y : MethodName) (ws : List Cond) (As : List Value) (O : gO) (no : Nat) (t : mR) : Prop :=
  ∀ (D : va_G) (ac : Nat → ClassId) (A : Nat → Prop), Met l y ws RMX (va_Pc (.ref no :: As) (oPre D ac A κ O)) (oQ D ac A (fun rv O1 => rv = some (.int t.1) ∧ CI κ O1 no t.2.1 t.2.2 ∧ kp3 O O1)) RMX.cells RMX.slots A
theorem Met.oQ {l : Launch} {κ : Nat → Nat} {y : MethodName} {ws : List Cond} {rm : Room} {As : List Value} {O : gO} {Post Post' : Option Value → gO → Prop} {D : va_G} {ac : Nat → ClassId} {A : Nat → Prop} {mc ms : Nat} (h : Met l y ws rm (va_Pc As (oPre D ac A κ O)) (oQ D ac A Post) mc ms A) (hp : ∀ rv O1, Post rv O1 → Post' rv O1) : Met l y ws rm (va_Pc As (oPre D ac A κ O)) (oQ D ac A Post') mc ms A := by
  intro p e ha hc hk s m args below hf happ hP hK
  obtain ⟨n, o, h1, h2, h3, ⟨⟨rv, O1, e1, e2, e3⟩, h5⟩, h6⟩ := h p e ha hc hk s m args below hf happ hP hK
  exact ⟨n, o, h1, h2, h3, ⟨⟨rv, O1, e1, hp rv O1 e2, e3⟩, h5⟩, h6⟩
theorem oM.cx {l : Launch} {κ : Nat → Nat} {y : MethodName} {cc : ByteArray} {nL : Nat} {ret : Option FieldType} {rm : Room} {As : List Value} {O : gO} {no : Nat} {t : mR} {Post : Option Value → gO → Prop} (h : oM l κ y cc nL ret rm (.ref no :: As) O Post) (h1 : rm.frames ≤ RMX.frames) (h2 : rm.cells ≤ RMX.cells) (h3 : rm.slots ≤ RMX.slots) (h4 : rm.locals ≤ RMX.locals) (hp : ∀ rv O1, Post rv O1 → rv = some (.int t.1) ∧ CI κ O1 no t.2.1 t.2.2 ∧ kp3 O O1) : cX l κ y (ws_ y cc nL ret) As O no t :=
  fun D ac A => ((h D ac A).oQ hp).wide h1 h2 h3 h4
theorem oW.cx {l : Launch} {κ : Nat → Nat} {y : MethodName} {cc : ByteArray} {nL : Nat} {ret : Option FieldType} {hh : List (Nat × Nat × Nat × Nat)} {rm : Room} {As : List Value} {O : gO} {no : Nat} {t : mR} {Post : Option Value → gO → Prop} (h : oW l κ y cc nL ret hh rm (.ref no :: As) O Post) (h1 : rm.frames ≤ RMX.frames) (h2 : rm.cells ≤ RMX.cells) (h3 : rm.slots ≤ RMX.slots) (h4 : rm.locals ≤ RMX.locals) (hp : ∀ rv O1, Post rv O1 → rv = some (.int t.1) ∧ CI κ O1 no t.2.1 t.2.2 ∧ kp3 O O1) : cX l κ y (wsW_ y cc nL ret hh) As O no t :=
  fun D ac A => ((h D ac A).oQ hp).wide h1 h2 h3 h4
section RVW
variable {p : Program} {l : Launch} {e : Env} {R : Room} {s : State} {m : MethodId} {args : Array Value} {below : List Frame} {meth : Method} {c : Code} {H : Heap} {locs : List Loc} {cells slots : Nat} {Q : State → Prop}
variable {y : MethodName} {bytes cc : ByteArray} {maxL nL mc ms n index : Nat} {ret : Option FieldType} {ws : List Cond} {rm : Room} {Pc : Array Value → State → Prop} {Qc : Array Value → State → Outcome → State → Prop} {free : Addr → Prop} {own C : String} {b : Addr} {As rest : List Value} {g : JFrame} {hh : List (Nat × Nat × Nat × Nat)}
theorem x_runVW (S : CallFix p m c cc nL s args lw_all own) (hM : Met l y (wsW_ y bytes maxL ret hh) rm Pc Qc rm.cells rm.slots free) (hl : Cond.methodLink own index y ∈ lw_all) (hin : Cond.instanceMethod y ∈ lw_all) (hse : Cond.selects C y y ∈ lw_all) (hini : Cond.initialized y.cls ∈ lw_all) (hcode : Cond.codeWith y bytes maxL ret hh ∈ lw_all) (hy : y.cls ≠ "java/lang/invoke/MethodHandle" ∧ y.cls ≠ "java/lang/invoke/VarHandle") (hln : (parseMethodDescriptor y.desc).map (fun d => d.parameters.length) = some n) (hR : rm.frames + 1 ≤ R.frames ∧ 8 + (maxL + 11) + rm.locals ≤ R.locals) (hp : PreV s H C b Pc As)
    (hg : g.method = m) (hn : As.length = n) (hsize : g.locals.size = nL) (hstack : g.stack = As.reverse ++ .ref b :: rest) (hW : 2 * g.monitorRoom + (rest.map fun v => v.category).sum ≤ 8) (hdg : decode cc g.pc = .ok (.invokevirtual index, 3)) (hf : cells + rm.cells ≤ R.cells ∧ slots + rm.slots ≤ R.slots) :
    va_Run p l e R s m args below meth c H locs cells slots rm.cells rm.slots g rest (Qc (Value.ref b :: As).toArray) (free) := by
  have ht := S.2.2.2.2
  have hG : GoodIn lw_all (wsW_ y bytes maxL ret hh) := lw_methW hcode
  have hK : Back l R p e below s args y 3 8 (PreOf R rm.cells rm.slots Pc) (PostOf Qc rm.cells rm.slots free) := va_backW (hh := hh) (bytes := bytes) (maxL := maxL) (ret := ret) hM hp.1 rfl rfl hR.1 hR.2 (pay_in ht hG) List.mem_cons_self (fun a' U hW => word_at hW (Or.inl (by first | rfl | simp [Cond.onTables, Cond.keeps, Cond.steady])) (ht _ hini))
  obtain ⟨hx, hb, hml, ho, -⟩ := S
  obtain ⟨-, ⟨cellB, hcB, hoB, hclB⟩, hPc⟩ := hp
  intro T hT X
  obtain ⟨mk, methM, hnamed, hmethM, hstM, habM⟩ := Cond.instanceMethod_spec (ht _ hin)
  obtain ⟨m', meth', c', w1, w2, w3, w4, w5, w6, w7, w8, w9⟩ := Cond.codeWith_spec (ht _ hcode)
  cases hnamed.symm.trans w1
  cases hmethM.symm.trans w2
  obtain ⟨c2, r2, m2, q1, q2, q3, q4, kP, hkP, hkPi⟩ := Cond.selects_spec (ht _ hse)
  cases hclB.symm.trans q1
  cases (State.methodFound?_of_named hnamed hy).symm.trans q2
  cases hnamed.symm.trans q3
  have hselP : selectMethod e.platform s.vm cellB.cls mk = .method mk := by rw [Launch.admits_selectMethod X.admits]; exact q4
  have hlen : As.length = methM.sig.parameters.length := by
    rw [w9] at hln
    exact hn.trans (Option.some.inj hln).symm
  obtain ⟨vm₁, X₁, hstep₁⟩ := X.invokevirtual hx ho (ht _ hl) hnamed hmethM hstM hkP hkPi hy (a := b) (cell := cellB) (by rw [hT]; exact hcB)
    (fun z h => by rw [h] at hoB; cases hoB) hselP hmethM habM hkP hkPi (g := g) hg (argsL := As) (rest := rest) hlen hstack (by rw [hb]; exact hdg)
  obtain ⟨v, ⟨U', l2, c2, s2⟩, X', ⟨g', mk', t, L, e1, e2, hq, h1, hL, h2, h3⟩, hsteps⟩ := hK m meth c ⟨T.setVm vm₁, locs, cells, slots⟩ { g with stack := rest } (.invokevirtual index) mk (Value.ref b :: As).toArray X₁ hg (hsize.trans hml.symm) (by rw [hb]; exact hdg) hW (X₁.named hnamed) ⟨hf.1, hf.2, hPc (T.setVm vm₁) hT X₁.warmed⟩
  dsimp only [Pt.U, Pt.locs, Pt.cells, Pt.slots] at X' e1 e2 h1 h2 h3 hsteps
  subst h1; subst h2; subst h3
  refine ⟨v, (T.setVm vm₁).calling g' mk' (Value.ref b :: As).toArray, t, U', L, hT, X', hL, e1, e2, hq, ?_⟩
  intro target h
  exact hstep₁ _ fun acts => by rw [doInvoke_state]; exact hsteps.trans h
end RVW
