/-! Thrown by the machine, caught in the method. -/
set_option maxRecDepth 100000
section MC
variable {p : Program} {l : Launch} {e : Env} {R : Room} {s : State} {m : MethodId} {args : Array Value} {below : List Frame} {meth : Method} {c : Code} {H : Heap} {locs : List Loc} {cells slots : Nat} {Q : State → Prop}
variable {cc : ByteArray} {pc nL : Nat} {ls : Array Slot} {rest st0 : List Value} {D : va_G} {ac : Nat → ClassId} {A : Nat → Prop} {κ : Nat → Nat} {a : Nat} {O : gO} {L : List (Nat × gU)} {own : String}
theorem p_mthr {cls : String} {names : List String} (K : Nat) (S : CallFix p m c cc nL s args lw_all own) (hK : KZ D ac A κ s) (hM : PS D ac A s.heap O L H locs) (htl : l.stackTraces = false) (hls : ls.size = nL)
    (hma : ∀ a ∈ msgA cls names, a.before args s = true) (hcls : Bundle.fit cls = true) (hnames : ∀ n ∈ names, Bundle.fit n = true) (hsoe : (cls == "java/lang/StackOverflowError") = false) (hoom : (cls == "java/lang/OutOfMemoryError") = false) (hsh : 13 * names.length + 55 ≤ 10240)
    (step : ∀ T : State, T.heap = H → Stand p l e R s m args below meth c T locs cells slots → ∃ (vm' : Vm) (text : String), Stand p l e R s m args below meth c (T.setVm vm') locs cells slots ∧ (text == notModelled) = false ∧ (stringBytes (stringToUtf16 text)).size ≤ K ∧ ∀ target, Steps p.tables e below (((T.setVm vm').setTop (F0 m pc ls st0)).pushFrame (.throwNew cls (some text) none)) target → Steps p.tables e below (T.setTop (F0 m pc ls st0)) target)
    {hh : List (Nat × Nat × Nat × Nat)} (htab : hTab c hh) (i : Nat) {hpc ct : Nat} (hat : hAt hh i pc hpc ct) (h0 : ct ≠ 0) {name : String} (hlink : Cond.classLink own ct name ∈ lw_all) (hcast : va_Nw (.castable cls name) s)
    (hR1 : names.length + 4 < R.frames) (hR2 : 2 * (F0 m pc ls st0).monitorRoom + (st0.map fun v => v.category).sum + 10240 ≤ R.locals) (hR3 : cells + 3 ≤ R.cells) (hR4 : slots + (K + 10) ≤ R.slots) (hK4 : K ≤ 1000)
    (kk : ∀ (z : Nat) (H1 : Heap) (locs1 : List Loc), PS D ac A s.heap O L H1 locs1 → W p l e R s m args below meth c H1 locs1 (cells + 3) (slots + (K + 10)) Q (F0 m hpc ls [.ref z])) : W p l e R s m args below meth c H locs cells slots Q (F0 m pc ls st0) := by
  intro T hT X
  obtain ⟨vm', text, X1, ht, hsz, st⟩ := step T hT X
  obtain ⟨U, locs', cX, ce, X2, hl2, st2, hk2, hz2, hf2, hce, hcc, hcv⟩ := st_made X1 S.1 (by rw [X.admits.2.2.2.2.1]; exact htl) hcls hnames hsoe hoom hma hK.2.2.2.2.2.2.2.2.2.2.2 hM.s.2.2 ht (by rw [Launch.admits_arrayLengthLimit X.admits]; omega) (by rw [Launch.admits_maxHeapBytes X.admits]; show ¬ _ * 1 > _; omega)
    (g := F0 m pc ls st0) rfl (by show ls.size = _; rw [S.2.2.1, hls]) hR1 hR2 hsh hR3 (by omega)
  obtain ⟨c3, cT, hc3, hcT, hasg⟩ := Cond.castable_spec (va_Nw.use (A := args) rfl hcast)
  have e3 : c3 = ce.cls := by rw [hcc]; exact Option.some.inj (hc3.symm.trans hf2)
  subst e3
  obtain ⟨pre, z, post, t1, t2, t3, t4, t5⟩ := htab.split hat
  subst t4; subst t5
  obtain ⟨vm2, X3, st3⟩ := st_caught X2 ((T.setVm vm').heap.size + 2) (g := F0 m pc ls st0) rfl S.2.2.2.1 pre z post t1 t2 t3 h0 (S.2.2.2.2 _ hlink) hcT hce (by rw [hcv]; rfl) hasg
  have hH : (T.setVm vm').heap = H := hT
  have hPS : PS D ac A s.heap O L U.heap locs' := ⟨hM.1.grow (by rw [← hH]; exact hz2) (fun a0 h => by rw [← hH] at h ⊢; exact hk2 a0 h) (fun y hy => (hl2 y hy).imp_right (fun q => by rw [q, hH]; omega)), hM.2⟩
  obtain ⟨t', a1, b1⟩ := W.widen (Nat.le_refl _) (by omega) (kk ((T.setVm vm').heap.size + 2) U.heap locs' hPS) (U.setVm vm2) rfl X3
  refine ⟨t', st _ (st2.trans ?_), b1⟩
  have h3 := st3 _ a1
  obtain ⟨g₁, hfr⟩ := X2.frames_eq
  have e4 : (U.setTop (F0 m pc ls st0)).pushFrame (.throwing ((T.setVm vm').heap.size + 2)) = U.setFrames (.throwing ((T.setVm vm').heap.size + 2) :: .java (F0 m pc ls st0) :: below) := by
    rw [State.pushFrame, State.frames_setTop _ hfr, State.setTop_of_frames _ hfr, State.setFrames_setFrames]
  rw [← e4]
  exact h3
end MC
/-! The text of a failed cast. -/
def hmA : String := "module java.base of loader 'bootstrap'"
def hmB : String := "unnamed module of loader 'bootstrap'"
def ctS (x y h : String) : String := "class " ++ dotted x ++ " cannot be cast to class " ++ dotted y ++ " (" ++ (dotted x ++ " and " ++ dotted y ++ " are in " ++ h) ++ ")"
def ctD (x y h k : String) : String := "class " ++ dotted x ++ " cannot be cast to class " ++ dotted y ++ " (" ++ (dotted x ++ " is in " ++ h ++ "; " ++ dotted y ++ " is in " ++ k) ++ ")"
def okT (t : String) : Bool := !(t == notModelled) && decide ((stringBytes (stringToUtf16 t)).size ≤ 800)
abbrev mvC : List String := [RX9, RX10, RX11, RX12, RX13]
def tl (t : String) : Nat := t.toList.length
theorem tl_app (a b : String) : tl (a ++ b) = tl a + tl b := by
  unfold tl
  rw [String.toList_append, List.length_append]
theorem tl_dot (x : String) : tl (dotted x) = tl x := by
  unfold tl dotted turned
  rw [String.toList_ofList, List.length_map]
theorem mv_len : ∀ x ∈ mvC, tl x ≤ 18 := by decide +kernel
theorem hm_len : ∀ x ∈ [hmA, hmB], tl x ≤ 38 := by decide +kernel
theorem okT_of {t r : String} (e : t = "class " ++ r) (h : tl t ≤ 200) : okT t = true := by
  have h1 : ¬ t = notModelled := by
    intro q
    have h2 : t.toList.head? = notModelled.toList.head? := by rw [q]
    rw [e, String.toList_append] at h2
    have h3 : ("class ".toList ++ r.toList).head? = some 'c' := rfl
    rw [h3] at h2
    exact absurd h2 (by decide +kernel)
  have h2 := utf16_size_le t
  have h3 := stringBytes_size_le (stringToUtf16 t)
  unfold tl at h
  simp only [okT, Bool.and_eq_true, Bool.not_eq_true', decide_eq_true_eq]
  exact ⟨beq_eq_false_iff_ne.mpr h1, by omega⟩
theorem okT_S : ∀ x ∈ mvC, ∀ y ∈ mvC, ∀ h ∈ [hmA, hmB], okT (ctS x y h) = true := by
  intro x hx y hy h hh
  have a1 := mv_len x hx
  have a2 := mv_len y hy
  have a3 := hm_len h hh
  refine okT_of (r := dotted x ++ " cannot be cast to class " ++ dotted y ++ " (" ++ (dotted x ++ " and " ++ dotted y ++ " are in " ++ h) ++ ")") (by simp only [ctS, String.append_assoc]) ?_
  simp only [ctS, tl_app, tl_dot]
  have b1 : tl "class " = 6 := rfl
  have b2 : tl " cannot be cast to class " = 25 := rfl
  have b3 : tl " (" = 2 := rfl
  have b4 : tl " and " = 5 := rfl
  have b5 : tl " are in " = 8 := rfl
  have b6 : tl ")" = 1 := rfl
  omega
theorem okT_D : ∀ x ∈ mvC, ∀ y ∈ mvC, ∀ h ∈ [hmA, hmB], ∀ k ∈ [hmA, hmB], okT (ctD x y h k) = true := by
  intro x hx y hy h hh k hk
  have a1 := mv_len x hx
  have a2 := mv_len y hy
  have a3 := hm_len h hh
  have a4 := hm_len k hk
  refine okT_of (r := dotted x ++ " cannot be cast to class " ++ dotted y ++ " (" ++ (dotted x ++ " is in " ++ h ++ "; " ++ dotted y ++ " is in " ++ k) ++ ")") (by simp only [ctD, String.append_assoc]) ?_
  simp only [ctD, tl_app, tl_dot]
  have b1 : tl "class " = 6 := rfl
  have b2 : tl " cannot be cast to class " = 25 := rfl
  have b3 : tl " (" = 2 := rfl
  have b4 : tl " is in " = 7 := rfl
  have b5 : tl "; " = 2 := rfl
  have b6 : tl ")" = 1 := rfl
  omega
theorem pkg_mv : ∀ x ∈ mvC, packageOf x = "" := by decide +kernel
theorem fc_more {vm : Vm} {name : String} {c : ClassId} {k : Class} (h : vm.findClass name = some c) (hk : vm.classes[c]? = some k) : k.name = name ∧ k.hidden = none ∧ k.loader = none := by
  obtain ⟨hlt, hp, _⟩ := Array.findIdx?_eq_some_iff_getElem.mp h
  rw [Array.getElem?_eq_getElem hlt] at hk
  cases hk
  simp only [Bool.and_eq_true, beq_iff_eq, Option.isNone_iff_eq_none] at hp
  exact ⟨hp.1.1.1, hp.1.1.2, hp.2⟩
theorem home_or {U : State} (hMR : MR U) {k : Class} {x : String} (hx : x ∈ mvC) (hn : k.name = x) (hl : k.loader = none) : U.vm.home k ∈ [hmA, hmB] := by
  have e1 : U.vm.home k = (match U.vm.moduleOf k with | some m => "module " ++ m.name | none => "unnamed module") ++ " of loader " ++ U.vm.loaderName k.loader := rfl
  rw [e1, hl]
  cases hm : U.vm.moduleOf k with
  | none => exact List.mem_cons_of_mem _ List.mem_cons_self
  | some m =>
    have hnm : m.name = "java.base" := by
      unfold Vm.moduleOf at hm
      split at hm
      · have := List.find?_some hm
        simpa using this
      · have h1 := List.find?_some hm
        have h2 := List.mem_of_find?_eq_some hm
        have h3 := (List.all_eq_true.mp hMR) m h2
        simp only [Bool.and_eq_true, beq_iff_eq] at h1
        rw [hl, hn, pkg_mv x hx] at h1
        rw [h1.1] at h3
        have h4 : "" ∈ m.packages := by simpa using h1.2
        simp [castPackages_1, h4] at h3
        exact h3
    show "module " ++ m.name ++ " of loader " ++ U.vm.loaderName none ∈ _
    rw [hnm]
    exact List.mem_cons_self
theorem msg_ok {U : State} (hMR : MR U) {ks kt : Class} {x y : String} (hx : x ∈ mvC) (hy : y ∈ mvC) (h1 : ks.name = x ∧ ks.hidden = none ∧ ks.loader = none) (h2 : kt.name = y ∧ kt.hidden = none ∧ kt.loader = none) : okT (Op.checkcast.message U.vm ks kt) = true := by
  have e1 : ks.shown = dotted x := by unfold Class.shown; rw [h1.2.1, h1.1]
  have e2 : kt.shown = dotted y := by unfold Class.shown; rw [h2.2.1, h2.1]
  unfold Op.checkcast.message Vm.homes
  rw [e1, e2]
  split
  · exact okT_S x hx y hy _ (home_or hMR hx h1.1 h1.2.2)
  · exact okT_D x hx y hy _ (home_or hMR hx h1.1 h1.2.2) _ (home_or hMR hy h2.1 h2.2.2)
section CC
variable {p : Program} {l : Launch} {e : Env} {R : Room} {s : State} {m : MethodId} {args : Array Value} {below : List Frame} {meth : Method} {c : Code} {H : Heap} {locs : List Loc} {cells slots : Nat} {Q : State → Prop}
variable {cc : ByteArray} {pc nL : Nat} {ls : Array Slot} {rest : List Value} {D : va_G} {ac : Nat → ClassId} {A : Nat → Prop} {κ : Nat → Nat} {a : Nat} {O : gO} {L : List (Nat × gU)} {own : String}
/-- a cast that fails, caught here -/
theorem p_castT {x y : String} (S : CallFix p m c cc nL s args lw_all own) (hK : KZ D ac A κ s) (hM : PS D ac A s.heap O L H locs) (htl : l.stackTraces = false) (hls : ls.size = nL) {index : Nat} {ci : Nat} {fs : List Value} {ar : gA} {q : vw_C} (hO : oups O L a = some (.inr (ci, fs, ar))) (hc : vwCl[ci]? = some q) (hq : q.1 = x) (hlink : Cond.classLink own index y ∈ lw_all) (hno : (x, y) ∈ nNc) (hx : x ∈ mvC) (hy : y ∈ mvC)
    {hh : List (Nat × Nat × Nat × Nat)} (htab : hTab c hh) (i : Nat) {hpc ct : Nat} (hat : hAt hh i pc hpc ct) (h0 : ct ≠ 0) {name : String} (hlk : Cond.classLink own ct name ∈ lw_all) (hcast : va_Nw (.castable xCce name) s)
    (hR1 : 6 < R.frames) (hR2 : 2 * (F0 m pc ls (.ref a :: rest)).monitorRoom + (((.ref a :: rest : List Value)).map fun v => v.category).sum + 10240 ≤ R.locals) (hR3 : cells + 3 ≤ R.cells) (hR4 : slots + 810 ≤ R.slots) (hdg : decode cc pc = .ok (.checkcast index, 3))
    (kk : ∀ (z : Nat) (H1 : Heap) (locs1 : List Loc), PS D ac A s.heap O L H1 locs1 → W p l e R s m args below meth c H1 locs1 (cells + 3) (slots + 810) Q (F0 m hpc ls [.ref z])) : W p l e R s m args below meth c H locs cells slots Q (F0 m pc ls (.ref a :: rest)) := by
  refine p_mthr (cls := xCce) (names := nCce) 800 S hK hM htl hls (msg_all msg_cce S.2.2.2.2 hK) (by decide +kernel) (by decide +kernel) (by decide +kernel) (by decide +kernel) (by decide) ?_ htab i hat h0 hlk hcast hR1 hR2 hR3 hR4 (by decide) kk
  intro T hT X
  obtain ⟨cell, g1, g2, g3⟩ := OS.recv hK hM.1 hO hc
  rw [hq] at g3
  obtain ⟨c0, t0, f1, f2, f3⟩ := hK.2.1.1 _ hno
  cases g3.symm.trans f1
  have hpl : e.platform.magicAccessors = ({} : Platform).magicAccessors := by rw [X.admits.platform]
  obtain ⟨c', hc', hcl⟩ := Cond.classLink_spec S.2.2.2.1 (S.2.2.2.2 _ hlink) e.platform hpl
  cases f2.symm.trans hc'
  obtain ⟨ks, hks, -⟩ := Vm.findClass_spec g3
  obtain ⟨dk, _, _, kt, hd, _, _, _, _, hkt, _, hopen⟩ := hcl.here
  have hcl₀ := X.warmed.classLinks hcl
  have hW' : s.WarmedH (T.vm.noted m.cls index (.cls t0)) := X.warmed.noted hd hopen (State.rightAt_cls hcl)
  obtain ⟨ks', hks', es⟩ := hW'.alike.2.2 _ _ hks
  obtain ⟨kt', hkt', et⟩ := hW'.alike.2.2 _ _ hkt
  have ns := fc_more g3 hks
  have nt := fc_more f2 hkt
  have ns' : ks'.name = x ∧ ks'.hidden = none ∧ ks'.loader = none := by rw [es]; exact ns
  have nt' : kt'.name = y ∧ kt'.hidden = none ∧ kt'.loader = none := by rw [et]; exact nt
  have hMR : MR (T.setVm (T.vm.noted m.cls index (.cls t0))) := hK.2.1.2.2.2.moved hW'.alike
  have hok := msg_ok hMR hx hy ns' nt'
  simp only [okT, Bool.and_eq_true, Bool.not_eq_true', decide_eq_true_eq] at hok
  refine ⟨_, _, X.noted hW', hok.1, hok.2, fun target hrest => ?_⟩
  have hexec := S.1
  have hb := S.2.1
  have hasg : (T.vm.noted m.cls index (.cls t0)).assignable cell.cls t0 = false := by rw [hW'.alike.assignable]; exact f3
  have hcellT : T.heap[a]? = some cell := by rw [hT]; exact g1
  jvm_step X.here [hexec, hb, hdg, Op.checkcast.wp_cold (e := e) (s := T) (f := F0 m pc ls (.ref a :: rest)) X.here.top rfl (resolveClass_links e.toSetting hcl₀) hcl₀.ready,
    Op.checkcast.wp_ready (e := e) (s := T.setVm (T.vm.noted m.cls index (.cls t0))) (f := F0 m pc ls (.ref a :: rest)) X.here.top hcl₀.ready rfl]
  refine ⟨cell, hcellT, VmData.noStatics_of g2, ks', hks', kt', hkt', ?_⟩
  rw [if_neg (by rw [hasg]; exact Bool.false_ne_true)]
  exact hrest
end CC
