/-! Calls that land in a default method. (The first proof follows the library's step for super calls.) -/
set_option maxRecDepth 100000
abbrev dMk : String := "(LNightStones$Trail;LNightStones$Road;)I"
abbrev yMvM : MethodName := ⟨RX8, "mark", dMk⟩
theorem spDef {p : Program} {l : Launch} {e : Env} {R : Room} {s : State} {m : MethodId} {args : Array Value} {below : List Frame} {meth : Method} {c : Code} {T : State} {locs : List Loc} {cells slots : Nat} (X : Stand p l e R s m args below meth c T locs cells slots) (hexec : p.tables.exec = Jvm.exec)
    {own owner : String} {index : Nat} {x : MethodName} (hown : s.vm.findClass own = some m.cls) (hlink : (Cond.methodLink own index x).before args s = true)
    (hsame : (Cond.sameMethod x.cls owner x.name x.desc).before args s = true)
    {r0 : MethodId} {r : Method} (hn : s.methodNamed? ⟨owner, x.name, x.desc⟩ = some r0) (hrm : s.vm.method? r0 = some r) (hstatic : r.isStatic = false) (habs : r.isAbstract = false) (hnoinit : x.name ≠ "<init>")
    {dk : Class} {cn : ClassId} (hd : s.vm.classes[m.cls]? = some dk) (hnid : dk.isInterface = false) (hcn : s.vm.findClass x.cls = some cn) (hsuper : dk.super = some cn) (hfound0 : lookupSpecial s.vm cn x.name x.desc = .method r0)
    {a : Addr} {cell : Cell} {kcell : Class} (hcell : T.heap[a]? = some cell) (hobj : ∀ c, cell.vm ≠ .statics c) (hkcell : s.vm.classes[cell.cls]? = some kcell)
    {g : JFrame} (hg : g.method = m) {argsL rest : List Value} (hlen : argsL.length = r.sig.parameters.length) (hstack : g.stack = argsL.reverse ++ .ref a :: rest)
    (hdg : decode c.code g.pc = .ok (.invokespecial index, 3)) :
    ∃ vm', Stand p l e R s m args below meth c (T.setVm vm') locs cells slots ∧
      ∀ target, Steps p.tables e below (doInvoke e ((T.setVm vm').setTop { g with stack := rest }) [] r0 (.ref a :: argsL).toArray).1 target → Steps p.tables e below (T.setTop g) target := by
  have hpl : e.platform.magicAccessors = ({} : Platform).magicAccessors := by rw [X.admits.platform]
  obtain ⟨cn', ck, r1, hcn', hck, hni, hf, hn1⟩ := Cond.sameMethod_found hsame
  cases hn.symm.trans hn1
  cases hcn.symm.trans hcn'
  obtain ⟨ci, hl, hright⟩ := Cond.methodLink_specUp hown hcn hck hni hf hlink e.platform hpl (by rw [X.admits.platform])
  obtain ⟨kr, hkr, -⟩ := className_of_methodNamed hn
  obtain ⟨hrn, hrd⟩ := name_of_methodNamed hn hrm
  obtain ⟨dk₀, cfile, nt, _, _, ck₀, _, _, hd₀, hcf, hcp, -, -, -, hc₀, -, hpoly, -⟩ := hl.here
  cases hd.symm.trans hd₀
  cases hck.symm.trans hc₀
  subst hg
  obtain ⟨vm', hW', st⟩ := Steps.invokeSuperColdArgs (tb := p.tables) (e := e) (s₀ := s) (U := T) (f := g) (args := argsL) (rest := rest) (a := a) (cell := cell) (m := r0) X.here hexec hdg X.warmed hl hright hd hcf hcp hrm hck
    (by rw [hrn]; simp [hnoinit]) hstatic (by rw [hrn, hrd, hsuper]; simpa using hfound0) hnid hkr habs hlen hstack hcell hobj hkcell
  exact ⟨vm', X.noted hW', st⟩
theorem dw_0 : Cond.methodLink RX9 24 yMvM ∈ defaultWords_1 := List.mem_of_getElem? (i := 0) rfl
theorem dw_1 : Cond.sameMethod RX8 RX14 "mark" dMk ∈ defaultWords_1 := List.mem_of_getElem? (i := 1) rfl
theorem dw_2 : Cond.methodLink RX0 308 yMvM ∈ defaultWords_1 := List.mem_of_getElem? (i := 2) rfl
theorem dw_3 : Cond.methodLink RX12 25 yMvM ∈ defaultWords_1 := List.mem_of_getElem? (i := 3) rfl
section SD
variable {p : Program} {l : Launch} {e : Env} {R : Room} {s : State} {m : MethodId} {args : Array Value} {below : List Frame} {meth : Method} {c : Code} {H : Heap} {locs : List Loc} {cells slots : Nat} {Q : State → Prop}
variable {cc : ByteArray} {pc nL : Nat} {ls : Array Slot} {rest st0 : List Value} {D : va_G} {ac : Nat → ClassId} {A : Nat → Prop} {κ : Nat → Nat} {a : Nat} {O : gO} {L L' : List (Nat × gU)} {own : String}
theorem p_cSDe {rm : Room} {As : List Value} {O2 : gO} {index : Nat} (S : CallFix p m c cc nL s args lw_all own) (hK : KZ D ac A κ s) (hM : PS D ac A s.heap O L H locs) {ci : Nat} {fs : List Value} {ar : gA} {q : vw_C} (hO : oups O L a = some (.inr (ci, fs, ar))) (hc : vwCl[ci]? = some q) {r0 : Value} (hMet : oM0 l κ yX14_mark cX14_mark 3 (some .int) rm (.ref a :: As) (oups O L) (fun rv O1 => rv = some r0 ∧ O1 = O2))
    (hl1 : Cond.methodLink own index yMvM ∈ defaultWords_1) (hl3 : Cond.superclass own RX8 ∈ lw_all) (hR : rm.frames + 1 ≤ R.frames ∧ 8 + (3 + 11) + rm.locals ≤ R.locals)
    (hn : As.length = 2) (hls : ls.size = nL) (hst : st0 = As.reverse ++ .ref a :: rest) (hW : 2 * (F0 m pc ls st0).monitorRoom + (rest.map fun v => v.category).sum ≤ 8) (hdg : decode cc pc = .ok (.invokespecial index, 3)) (hf : cells + rm.cells ≤ R.cells ∧ slots + rm.slots ≤ R.slots) (hO2 : O2 = oups O L') (hN2 : (oad L').Nodup)
    (kk : ∀ (H1 : Heap) (locs1 : List Loc), PS D ac A s.heap O L' H1 locs1 → W p l e R s m args below meth c H1 locs1 (cells + rm.cells) (slots + rm.slots) Q (F0 m (pc + 3) ls (r0 :: rest))) : W p l e R s m args below meth c H locs cells slots Q (F0 m pc ls st0) := by
  have hts := S.2.2.2.2
  have hr : va_Run p l e R s m args below meth c H locs cells slots rm.cells rm.slots (F0 m pc ls st0) rest (oQ D ac A (fun rv O1 => rv = some r0 ∧ O1 = O2) (Value.ref a :: As).toArray) A := by
    obtain ⟨hx, hb, hml, ho, -⟩ := S
    have hBk : Back l R p e below s args yX14_mark 3 8 (PreOf R rm.cells rm.slots (va_Pc (.ref a :: As) (oPre D ac A κ (oups O L)))) (PostOf (oQ D ac A (fun rv O1 => rv = some r0 ∧ O1 = O2)) rm.cells rm.slots A) :=
      back0 (bytes := cX14_mark) (maxL := 3) (ret := some .int) (hMet D ac A) oPre.blind rfl rfl hR.1 hR.2 (pay_in hts (lw_meth q1200)) List.mem_cons_self
    obtain ⟨cellB, hcB, hoB, hclB⟩ := OS.recv hK hM.1 hO hc
    obtain ⟨hfc, kB, hkB, -⟩ := (hK.1.1.1 ci _ hc).2
    rw [Option.some.inj (hfc.symm.trans hclB)] at hkB
    obtain ⟨mk, methM, hnamed, hmethM, hstM, habM⟩ := Cond.instanceMethod_spec (hts _ q1199)
    obtain ⟨methM', cM, hmethM', -, -, -, -, -, -, hsigM⟩ := Cond.code_spec hnamed (hts _ q1200)
    cases hmethM.symm.trans hmethM'
    obtain ⟨ps, dk, kp, hps, hdk, hkp, hsuper, -, -, hnid⟩ := Cond.superclass_spec ho (hts _ hl3)
    obtain ⟨c1, m1, g1, g2, g3⟩ := hK.2.1.2.2.1
    cases hps.symm.trans g1
    cases hnamed.symm.trans g2
    have hlen : ∀ sig, parseMethodDescriptor dMk = some sig → 2 = sig.parameters.length := fun sig h => by
      have hd : (parseMethodDescriptor dMk).map (fun d => d.parameters.length) = some 2 := by decide +kernel
      rw [h] at hd
      exact (Option.some.inj hd).symm
    intro T hT X
    obtain ⟨vm₁, X₁, hstep₁⟩ := spDef X hx ho (va_Nw.use rfl (hK.2.1.2.1 _ hl1)) (va_Nw.use rfl (hK.2.1.2.1 _ dw_1)) hnamed hmethM hstM habM (by decide) hdk hnid hps hsuper g3 (a := a) (cell := cellB) (by rw [hT]; exact hcB)
      (fun z h => by rw [h] at hoB; cases hoB) hkB (g := F0 m pc ls st0) rfl (argsL := As) (rest := rest) (hn.trans (hlen _ hsigM)) hst (by rw [hb]; exact hdg)
    obtain ⟨v, ⟨U', l2, c2, s2⟩, X', ⟨g', mk', t, L, e1, e2, hq, h1, hL, h2, h3⟩, hsteps⟩ := hBk m meth c ⟨T.setVm vm₁, locs, cells, slots⟩ { F0 m pc ls st0 with stack := rest } (.invokespecial index) mk (Value.ref a :: As).toArray X₁ rfl (hls.trans hml.symm) (by rw [hb]; exact hdg) hW (X₁.named hnamed) ⟨hf.1, hf.2, rfl, OS.pre hK hM.1 hT X₁.warmed⟩
    dsimp only [Pt.U, Pt.locs, Pt.cells, Pt.slots] at X' e1 e2 h1 h2 h3 hsteps
    subst h1; subst h2; subst h3
    exact ⟨v, (T.setVm vm₁).calling g' mk' (Value.ref a :: As).toArray, t, U', L, hT, X', hL, e1, e2, hq, fun target h => hstep₁ _ (by rw [doInvoke_state]; exact hsteps.trans h)⟩
  exact o_run hM.1 hr (fun rv O1 H1 locs1 hp h => by obtain ⟨h1, h2⟩ := hp; subst h1; rw [h2] at h; exact kk H1 locs1 ⟨by rw [← hO2]; exact h, hN2⟩)
/-- Mover.mark, asked of a class, is Marked.mark -/
theorem sel_mark {C : String} {y : MethodName} (hts : ∀ w ∈ lw_all, w.before args s = true) (hK : KZ D ac A κ s) (h : Cond.selects C yX14_mark y ∈ lw_all) : (Cond.selects C yMvM y).before args s = true := by
  obtain ⟨cn', ck, r1, hcn', hck, hni, hf, hn1⟩ := Cond.sameMethod_found (va_Nw.use (A := args) rfl (hK.2.1.2.1 _ dw_1))
  have h0 := hts _ h
  have e : s.methodFound? yX14_mark.cls yX14_mark.name yX14_mark.desc = s.methodFound? yMvM.cls yMvM.name yMvM.desc := by
    rw [State.methodFound?_of_named (x := yX14_mark) hn1 (by decide)]
    exact hf.symm
  simp only [Cond.before, Cond.holds, Cond.value] at h0 ⊢
  rw [← e]
  exact h0
theorem cw_mark {C : String} {y : MethodName} {bytes : ByteArray} {rm : Room} (S : CallFix p m c cc nL s args lw_all RX0) (hK : KZ D ac A κ s) (h1 : Cond.selects C yX14_mark y ∈ lw_all) (h2 : Cond.instanceMethod y ∈ lw_all) (h3 : Cond.initialized y.cls ∈ lw_all) (h4 : Cond.code y bytes 3 (some .int) ∈ lw_all) (hR : rm.frames + 1 ≤ R.frames ∧ 8 + (3 + 11) + rm.locals ≤ R.locals) : va_CU R s args RX0 C RX14 308 yMvM y bytes 3 (some .int) (ws_ y bytes 3 (some .int)) rm rm.cells rm.slots 2 := by
  have hts := S.2.2.2.2
  refine ⟨⟨rfl, rfl, hR.1, hR.2, pay_in hts (lw_meth h4), List.mem_cons_self⟩, hts _ h4, hts _ h3, by decide, fun sig h => ?_, va_Nw.use rfl (hK.2.1.2.1 _ dw_2), va_Nw.use rfl (hK.2.1.2.1 _ dw_1), va_Decl.of (hts _ q1199) (hts _ q1200), sel_mark hts hK h1, hts _ h2⟩
  have hd : (parseMethodDescriptor dMk).map (fun d => d.parameters.length) = some 2 := by decide +kernel
  rw [show parseMethodDescriptor dMk = some sig from h] at hd
  exact (Option.some.inj hd).symm
end SD
/-- a trail of t bodies -/
abbrev tU (t q : Nat) (f : Nat → Int32) : gU := cU 2 (fun _ => nI t) (fun _ => q) (oar 0 0 16 f)
def bgF (f : Nat → Int32) : Nat → List Int32 → (Nat → Int32)
  | _, [] => f
  | t, b :: bs => bgF (upd f t b) (t + 1) bs
theorem bgW_F (w : Nat → Nat → Int32) (bs : List Int32) : ∀ t, bgW w t bs 24 = bgF (w 24) t bs := by
  induction bs generalizing w with
  | nil => intro t; rfl
  | cons b bs ih => intro t; rw [bgW, ih, bgF]; rfl
theorem ct_bg (l : Launch) (κ : Nat → Nat) (O : gO) (a q : Nat) (f : Nat → Int32) (x : Int32) (t : Nat) (hO : O a = some (tU t q f)) (ht : t < 16) : oM l κ yX2_begins cX2_begins 2 none ({ frames := 0, cells := 0, slots := 0, locals := 0 }) [.ref a, .int x] O (fun rv O1 => O1 = oup O a (tU (t + 1) q (upd f t x)) ∧ rv = none) :=
  ct_begins l κ O a (fun _ => nI t) (fun _ => q) f x t hO rfl ht
