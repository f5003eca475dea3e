/-! Exceptions that the machine makes, with a text, where no launch records traces; caught in the method where they come. (The proof goes over the library's step for such a throw.) -/
set_option maxRecDepth 100000
def msgA (X : String) (names : List String) : List Cond :=
  Bundle.throwableAtoms ++ (Bundle.throwableSAtoms ++ (Bundle.chainSAtoms X names ++ (Bundle.stringAtoms ++
  [.initialized X, .instantiable X 6, .selects X Bundle.tFill0 Bundle.tFill0, .selects X Bundle.tFill Bundle.tFill, .lays X Bundle.tN "cause" "Ljava/lang/Throwable;", .lays X Bundle.tN "stackTrace" Bundle.steD, .lays X Bundle.tN "suppressedExceptions" Bundle.listD, .lays X Bundle.tN "detailMessage" "Ljava/lang/String;", .fieldLink Bundle.tN 198 Bundle.tN "backtrace" "Ljava/lang/Object;", .lays Bundle.tN Bundle.tN "backtrace" "Ljava/lang/Object;", .lays X Bundle.tN "backtrace" "Ljava/lang/Object;"])))
abbrev xCce : String := "java/lang/ClassCastException"
abbrev nCce : List String := ["java/lang/RuntimeException", "java/lang/Exception"]
abbrev xAio : String := "java/lang/ArrayIndexOutOfBoundsException"
abbrev nAio : List String := ["java/lang/IndexOutOfBoundsException", "java/lang/RuntimeException", "java/lang/Exception"]
abbrev wUn : Cond := .laysStatic "java/lang/Throwable" "UNASSIGNED_STACK" dSte
abbrev wSe : Cond := .laysStatic "java/lang/Throwable" "SUPPRESSED_SENTINEL" dLst
theorem msg_cce : ∀ a ∈ msgA xCce nCce, (a ∈ lw_tbl ∧ (goodWord a = true ∨ nk a = true)) ∨ a = wUn ∨ a = wSe := by decide +kernel
theorem msg_aio : ∀ a ∈ msgA xAio nAio, (a ∈ lw_tbl ∧ (goodWord a = true ∨ nk a = true)) ∨ a = wUn ∨ a = wSe := by decide +kernel
theorem va_LY.ls {C n d : String} {A : Nat → Prop} {U : State} {args : Array Value} (h : va_LY C n d A U U.heap) : (Cond.laysStatic C n d).before args U = true := by
  obtain ⟨c, k, i, f, a, cell, v, h0, h1, h2, h3, h4, h5, h6, h7, h8, h9, h10, h11⟩ := h
  simp [Cond.before, Cond.holds, Cond.value, h0, h1, h2, h3, h4, h5, h6, h7, h8]
theorem msg_all {X : String} {names : List String} (hm : ∀ a ∈ msgA X names, (a ∈ lw_tbl ∧ (goodWord a = true ∨ nk a = true)) ∨ a = wUn ∨ a = wSe) {D : va_G} {ac : Nat → ClassId} {A : Nat → Prop} {κ : Nat → Nat} {s : State} {args : Array Value} (hts : ∀ w ∈ lw_all, w.before args s = true) (hK : KZ D ac A κ s) : ∀ a ∈ msgA X names, a.before args s = true := by
  intro a ha
  rcases hm a ha with ⟨h1, h2 | h2⟩ | rfl | rfl
  · exact hts a (List.mem_filter.mpr ⟨h1, h2⟩)
  · exact va_Nw.use (nk_on h2) (hK.1.2.1 a h1 h2)
  · exact hK.2.2.2.2.2.2.2.2.2.2.2.1.ls
  · exact hK.2.2.2.2.2.2.2.2.2.2.2.2.ls
theorem OS.grow {D : va_G} {ac : Nat → ClassId} {A : Nat → Prop} {H0 H H1 : Heap} {O : gO} {locs locs1 : List Loc} (h : OS D ac A H0 O H locs) (hz : H.size ≤ H1.size) (hk : ∀ a : Nat, a < H.size → H1[a]? = H[a]?) (hl : ∀ y ∈ locs1, y ∈ locs ∨ H.size ≤ y.base) : OS D ac A H0 O H1 locs1 := by
  obtain ⟨G, ⟨h1, h2, h3⟩, h4⟩ := h
  refine ⟨G, ⟨fun b t j e hb => ⟨(h1 b t j e hb).1.kept (hk b (h1.lt hb)), (h1 b t j e hb).2⟩, ⟨Nat.le_trans h2.1 hz, fun a ha hn => ?_, fun y hy => ?_⟩, fun q hq => h3 q (Nat.le_trans hz hq)⟩, h4⟩
  · rw [hk a (Nat.lt_of_lt_of_le ha h2.1)]
    exact h2.2.1 a ha hn
  · rcases hl y hy with h | h
    · exact h2.2.2 y h
    · exact h3 _ h
set_option maxHeartbeats 1000000 in
theorem st_made {p : Program} {l : Launch} {e : Env} {R : Room} {s : State} {m₀ : MethodId} {args : Array Value} {below : List Frame} {meth : Method} {c : Code} {W0 : State} {locs : List Loc} {cells slots : Nat} (X : Stand p l e R s m₀ args below meth c W0 locs cells slots) (hexec : p.tables.exec = Jvm.exec) (htr : e.platform.stackTraces = false) {cls : String} {names : List String} {text : String}
    (hcls : Bundle.fit cls = true) (hnames : ∀ n ∈ names, Bundle.fit n = true) (hsoe : (cls == "java/lang/StackOverflowError") = false) (hoom : (cls == "java/lang/OutOfMemoryError") = false) (h : ∀ a ∈ msgA cls names, a.before args s = true) {A : Nat → Prop} (hcL : cL A s s.heap) (hlocs : ∀ y ∈ locs, A y.base)
    (htext : (text == notModelled) = false) (hlimit : ¬ (stringBytes (stringToUtf16 text)).size > e.platform.arrayLengthLimit) (hheap : ¬ (stringBytes (stringToUtf16 text)).size * componentBytes .byte > e.platform.maxHeapBytes)
    {g : JFrame} (hg : g.method = m₀) (hsize : g.locals.size = c.maxLocals) (hRframes : names.length + 4 < R.frames) (hRlocals : 2 * g.monitorRoom + (g.stack.map fun v => v.category).sum + 10240 ≤ R.locals) (hshort : 13 * names.length + 55 ≤ 10240) (hRcells : cells + 3 ≤ R.cells) (hRslots : slots + ((stringBytes (stringToUtf16 text)).size + 10) ≤ R.slots) :
    ∃ (U : State) (locs' : List Loc) (cX : ClassId) (ce : Cell), Stand p l e R s m₀ args below meth c U locs' (cells + 3) (slots + ((stringBytes (stringToUtf16 text)).size + 10)) ∧ (∀ y ∈ locs', y ∈ locs ∨ y.base = W0.heap.size + 2) ∧
      Steps p.tables e below ((W0.setTop g).pushFrame (.throwNew cls (some text) none)) (U.setFrames (.throwing (W0.heap.size + 2) :: .java g :: below)) ∧ (∀ a0 : Nat, a0 < W0.heap.size → U.heap[a0]? = W0.heap[a0]?) ∧ W0.heap.size ≤ U.heap.size ∧ s.vm.findClass cls = some cX ∧ U.heap[(W0.heap.size + 2)]? = some ce ∧ ce.cls = cX ∧ ce.vm = .none := by
  have howns : e.platform.frameOwnsMonitors = true := by rw [X.admits.platform]
  have hfin : e.platform.finalization = false := by rw [X.admits.platform]
  have hpl : e.platform.magicAccessors = ({} : Platform).magicAccessors := by rw [X.admits.platform]
  have a : ∀ x, x ∈ msgA cls names → x.holds args s none s [] = true := fun x hx => h x hx
  obtain ⟨T, Z0, L, -, Y⟩ := ThrowableC.of_atoms (args := args) howns hfin hpl (fun x hx => h x (by simp [msgA, hx]))
  obtain ⟨Z, M, LZ, LM, hnZ⟩ := Init0T.ofS_atoms (args := args) hpl L Y (fun x hx => h x (by simp [msgA, hx]))
  obtain ⟨P1, Ps, hlen, L1, hL, hP1m, hlink1, hlink⟩   := Bundle.chainS (args := args) hpl hnZ names cls hcls hnames (fun x hx => h x (by simp [msgA, hx]))
  obtain ⟨Zs, LZs, hn4, hfitv, hfitc⟩ := StringT.of_atoms (args := args) (fun x hx => h x (by simp [msgA, hx]))
  have hfound : s.vm.findClass cls = some P1.m.cls := findClass_of_methodNamed hP1m
  obtain ⟨c1, kX, hc1, hk, hord, -, -, hn6⟩ := Cond.instantiable_spec (a (.instantiable cls 6) (by simp [msgA]))
  cases Option.some.inj (hc1.symm.trans hfound)
  have hinit := Cond.initialized_spec hfound hk (a (.initialized cls) (by simp [msgA]))
  have hctor : kX.findMethod "<init>" "(Ljava/lang/String;)V" = some P1.m.idx := findMethod_of_methodNamed hP1m hk
  have hsel0 : selectMethod e.platform s.vm P1.m.cls T.fill0 = .method T.fill0 := by
    obtain ⟨c2, r2, m2, q1, q2, q3, q4, -⟩ := Cond.selects_spec (a (.selects cls Bundle.tFill0 Bundle.tFill0) (by simp [msgA]))
    cases Option.some.inj (q1.symm.trans hfound)
    cases Option.some.inj (q2.symm.trans (State.methodFound?_of_named Y.fill0 (by decide)))
    cases Option.some.inj (q3.symm.trans Y.fill0)
    rw [Launch.admits_selectMethod X.admits]; exact q4
  have hselF : selectMethod e.platform s.vm P1.m.cls T.fill = .method T.fill := by
    obtain ⟨c2, r2, m2, q1, q2, q3, q4, -⟩ := Cond.selects_spec (a (.selects cls Bundle.tFill Bundle.tFill) (by simp [msgA]))
    cases Option.some.inj (q1.symm.trans hfound)
    cases Option.some.inj (q2.symm.trans (State.methodFound?_of_named Y.fill (by decide)))
    cases Option.some.inj (q3.symm.trans Y.fill)
    rw [Launch.admits_selectMethod X.admits]; exact q4
  obtain ⟨cellS0, hcS0, hiss⟩ := Y.statics
  obtain ⟨z1, z2, z3, z4, zA, z6, vU, -, z8, -, z10, z11, -, -, -, -, z12, z13, z14⟩ := hcL.1
  obtain ⟨w1, w2, w3', w4', wA, w6, vS, -, w8, -, w10, w11, -, -, -, -, w12, w13, w14⟩ := hcL.2
  have ez := Y.unassigned
  rw [show s.fieldFound? Bundle.tN "UNASSIGNED_STACK" Bundle.steD = some (z1, z2, z3, z4) from z8] at ez
  have ew := Y.sentinel
  rw [show s.fieldFound? Bundle.tN "SUPPRESSED_SENTINEL" Bundle.listD = some (w1, w2, w3', w4') from w8] at ew
  simp only [Option.some.injEq, Prod.mk.injEq] at ez ew
  obtain ⟨-, ek, -, ef⟩ := ez
  obtain ⟨-, ek2, -, ef2⟩ := ew
  have ea : zA = T.aS := Option.some.inj (z10.symm.trans (by rw [ek]; exact L.statics))
  have ea2 : wA = T.aS := Option.some.inj (w10.symm.trans (by rw [ek2]; exact L.statics))
  subst ea
  rw [ea2] at w11
  cases hcS0.symm.trans z11
  cases hcS0.symm.trans w11
  obtain ⟨u0, hu0⟩ : ∃ u : RefV, cellS0.slots[T.fUnassigned.slot]? = some u.v := by
    rw [← ef, z12]
    rcases z13 with q | ⟨t, q⟩ <;> rw [q]
    · exact ⟨⟨.null, rfl⟩, rfl⟩
    · exact ⟨⟨.ref t, rfl⟩, rfl⟩
  obtain ⟨sen, hsen⟩ : ∃ u : RefV, cellS0.slots[T.fSentinel.slot]? = some u.v := by
    rw [← ef2, w12]
    rcases w13 with q | ⟨t, q⟩ <;> rw [q]
    · exact ⟨⟨.null, rfl⟩, rfl⟩
    · exact ⟨⟨.ref t, rfl⟩, rfl⟩
  obtain ⟨ci198, i198, fB, hk198, hg198, ha198, hsB, -, hnB, htB, hffB⟩ := Cond.ownField (t := .object "java/lang/Object") Y.found L.cls (by decide +kernel) (a (.fieldLink Bundle.tN 198 Bundle.tN "backtrace" "Ljava/lang/Object;") (by simp [msgA])) (a (.lays Bundle.tN Bundle.tN "backtrace" "Ljava/lang/Object;") (by simp [msgA])) e.platform hpl
  obtain ⟨cellS, hcS', heS, -, hkeep⟩ := X.same.2.2.2.2.2 T.aS cellS0 hcS0
  have hcellS : W0.heap[T.aS]? = some cellS := hcS'
  have hout' : ∀ i, (⟨T.aS, i⟩ : Loc) ∉ locs := fun i hmem => z14 (hlocs _ hmem)
  have hknownS : cellS.vm ≠ .unknown := by
    rw [heS]; intro hu
    rw [show cellS0.vm = .unknown from hu] at hiss
    cases hiss
  have hvU : cellS.slots[T.fUnassigned.slot]? = some u0.v := by rw [hkeep _ (hout' _)]; exact hu0
  have hvSen : cellS.slots[T.fSentinel.slot]? = some sen.v := by rw [hkeep _ (hout' _)]; exact hsen
  obtain ⟨iM, hffM⟩ := Y.msg
  obtain ⟨tyC, dC, hdC, hdnC⟩ := Cond.laysAt hfound hk Y.cause (a (.lays cls Bundle.tN "cause" "Ljava/lang/Throwable;") (by simp [msgA]))
  obtain ⟨tyS, dS, hdS, hdnS⟩ := Cond.laysAt hfound hk Y.stack (a (.lays cls Bundle.tN "stackTrace" Bundle.steD) (by simp [msgA]))
  obtain ⟨tyP, dP, hdP, hdnP⟩ := Cond.laysAt hfound hk Y.supp (a (.lays cls Bundle.tN "suppressedExceptions" Bundle.listD) (by simp [msgA]))
  obtain ⟨tyM, dM, hdM, hdnM⟩ := Cond.laysAt hfound hk hffM (a (.lays cls Bundle.tN "detailMessage" "Ljava/lang/String;") (by simp [msgA]))
  obtain ⟨tyB, dB, hdB, hdnB⟩ := Cond.laysAt hfound hk hffB (a (.lays cls Bundle.tN "backtrace" "Ljava/lang/Object;") (by simp [msgA]))
  have bC := Cond.laysApart hdB hdC hdnB hdnC (by rw [hnB, Y.causeName]; decide)
  have bS := Cond.laysApart hdB hdS hdnB hdnS (by rw [hnB, Y.stackName]; decide)
  have bP := Cond.laysApart hdB hdP hdnB hdnP (by rw [hnB, Y.suppName]; decide)
  have hbk : ((preparedCellV T.toThrowableT (freshCell P1.m.cls kX) (W0.heap.size + 2) u0 sen).withEntry W0.cur).slots[fB.slot]? = some .null := by
    have := fresh_default (c := P1.m.cls) tyB
    rw [htB] at this
    simpa [preparedCellV, Cell.setSlot, Cell.withEntry, Array.getElem?_setIfInBounds, bC, bS, bP, bC.symm, bS.symm, bP.symm, defaultValue] using this
  have tkC := Takes.of_laid (v := .ref (W0.heap.size + 2)) hk hord tyC (by rw [Y.causeType]; rfl)
  have tkS := Takes.of_laid (v := u0.v) hk hord tyS (by rw [Y.stackType]; exact fits_refV_array _ u0)
  have tkP := Takes.of_laid (v := sen.v) hk hord tyP (by rw [Y.suppType]; exact fits_refV_object _ sen)
  have tkM := Takes.of_laid (v := .ref (W0.heap.size + 1)) hk hord tyM (by rw [Y.msgType]; rfl)
  have hRs : slots + ((stringBytes (stringToUtf16 text)).size + Zs.kS.instanceTypes.size + kX.instanceTypes.size) ≤ R.slots := by rw [hn4, hn6]; omega
  have hAt : At W0 g.method c below := by rw [hg]; exact X.here
  obtain ⟨hbeyond, hfreeW⟩ := X.vmMayThrow hsize (.throwNew cls (some text) none) (fun f hf => by cases hf) rfl hRlocals
  have hfr' : W0.frames.length + Ps.length + 4 < (e.platform.stackLimits W0.me).1 := by have := X.framesAbove hRframes; omega
  have hwd' : (stackUse (.java g :: W0.frames.tail)).2 + 13 * Ps.length + 55 ≤ (e.platform.stackLimits W0.me).2 := by have := X.stackAbove hsize (K := 13 * Ps.length + 55) (by omega); omega
  have hsl : W0.slotsUsed + (stringBytes (stringToUtf16 text)).size + Zs.kS.instanceTypes.size + kX.instanceTypes.size ≤ e.platform.maxSlots := by have := X.slotsAbove hRs; omega
  obtain ⟨vm', hW', st⟩ := Steps.vmThrowsMessageColdByV p (s₀ := s) (S := W0) (g := g) hAt hexec T L Z LZ M LM X.warmed (t := W0.cur) rfl Zs LZs P1 L1 Ps hL hlink1 hlink hsoe hoom hfound hk hinit hord hctor
    (Launch.admits_hotImplicitExceptions X.admits) hbeyond hfreeW htext hlimit hheap (X.cellsAbove hRcells) hsl (hfitv _) (hfitc _)
    (Nn := fun u => u) heapOnly_id (fun _ _ => rfl) (fun _ => rfl) (fun u x y => setCell_twice _ _ _ _) (fun _ => Nat.le_refl _) (cN := ((preparedCellV T.toThrowableT (freshCell P1.m.cls kX) (W0.heap.size + 2) u0 sen).withEntry W0.cur))
    hsel0 hcellS hknownS hvU tkS (fun _ hu => hu) (fun _ hu => hu) rfl rfl rfl (by simp [preparedCellV, Cell.setSlot, Cell.withEntry]) ⟨{ ci198 := ci198, i198 := i198, fBack := fB }, ⟨hk198, hg198, ha198, hsB⟩, hbk, fun _ _ => rfl⟩ (fun _ _ hA hW _ hroom _ hrest => L.nativeOff p htr hA hW hroom hrest) hselF hvSen tkC tkP tkM Y.objLocals rfl hfr' hwd'
  rw [plainBareV_eq T.toThrowableT (W0.heap.size + 2) u0 sen (.ref (W0.heap.size + 1)) W0.cur rfl rfl] at st
  obtain ⟨-, -, f3, f4, f5, -, -⟩ := withThrown_facts e.platform W0 Zs text P1.m.cls kX
  have X3 := ((X.pushed (bytesOf Zs.cB (stringToUtf16 text))).pushed (stringAt Zs.cS Zs.kS Zs.fv Zs.fc (stringToUtf16 text) W0.heap.size)).pushed (freshCell P1.m.cls kX)
  rw [← withString_eq] at X3
  have X4 := X3.noted hW'
  have ha : (W0.heap.size + 2) < ((withThrown W0 Zs text P1.m.cls kX).setVm vm').heap.size := by show _ < (withThrown W0 Zs text P1.m.cls kX).heap.size; rw [f3]; omega
  have hcell : ((withThrown W0 Zs text P1.m.cls kX).setVm vm').heap[(W0.heap.size + 2)]? = some (freshCell P1.m.cls kX) := f4
  have X5 := ((((X4.stored hcell T.fCause.slot (.ref (W0.heap.size + 2))).storedAgain ha T.fStack.slot u0.v).storedAgain ha T.fSupp.slot sen.v).storedAgain ha T.fStack.slot u0.v).storedAgain ha T.fMsg.slot (.ref (W0.heap.size + 1))
  simp only [List.append_assoc, List.cons_append, List.nil_append] at X5
  have X5 : Stand p l e R s m₀ args below meth c (((withThrown W0 Zs text P1.m.cls kX).setVm vm').setCell (W0.heap.size + 2) (plainBareV T.toThrowableT (freshCell P1.m.cls kX) (W0.heap.size + 2) u0 sen (.ref (W0.heap.size + 1)))) (locs ++ [⟨W0.heap.size + 2, T.fCause.slot⟩, ⟨W0.heap.size + 2, T.fStack.slot⟩, ⟨W0.heap.size + 2, T.fSupp.slot⟩, ⟨W0.heap.size + 2, T.fStack.slot⟩, ⟨W0.heap.size + 2, T.fMsg.slot⟩]) (cells + 3) (slots + (bytesOf Zs.cB (stringToUtf16 text)).slots.size + (stringAt Zs.cS Zs.kS Zs.fv Zs.fc (stringToUtf16 text) W0.heap.size).slots.size + (freshCell P1.m.cls kX).slots.size) := X5
  have b1 : (bytesOf Zs.cB (stringToUtf16 text)).slots.size = (stringBytes (stringToUtf16 text)).size := by
    rw [(Cell.writeAll_facts _ _).2.2]; simp [bytes0]
  have b2 : (stringAt Zs.cS Zs.kS Zs.fv Zs.fc (stringToUtf16 text) W0.heap.size).slots.size = 4 := by simp [string0, Cell.setSlot, hn4]
  have b3 : (freshCell P1.m.cls kX).slots.size = 6 := by simp [hn6]
  have e10 : slots + (bytesOf Zs.cB (stringToUtf16 text)).slots.size + (stringAt Zs.cS Zs.kS Zs.fv Zs.fc (stringToUtf16 text) W0.heap.size).slots.size + (freshCell P1.m.cls kX).slots.size = slots + ((stringBytes (stringToUtf16 text)).size + 10) := by rw [b1, b2, b3]; omega
  rw [e10] at X5
  rw [X.tail] at st
  have hlt2 : W0.heap.size ≤ ((withThrown W0 Zs text P1.m.cls kX).setVm vm').heap.size := by omega
  have hcl : (plainBareV T.toThrowableT (freshCell P1.m.cls kX) (W0.heap.size + 2) u0 sen (.ref (W0.heap.size + 1))).cls = P1.m.cls := rfl
  have hcv : (plainBareV T.toThrowableT (freshCell P1.m.cls kX) (W0.heap.size + 2) u0 sen (.ref (W0.heap.size + 1))).vm = .none := rfl
  have st1 := st _ (Steps.refl _)
  generalize plainBareV T.toThrowableT (freshCell P1.m.cls kX) (W0.heap.size + 2) u0 sen (.ref (W0.heap.size + 1)) = pc at X5 st1 hcl hcv
  have f5' : ∀ a0 : Nat, a0 < W0.heap.size → ((withThrown W0 Zs text P1.m.cls kX).setVm vm').heap[a0]? = W0.heap[a0]? := f5
  generalize (withThrown W0 Zs text P1.m.cls kX).setVm vm' = WT at X5 st1 ha hlt2 f5'
  refine ⟨_, _, P1.m.cls, pc, X5, fun y hy => ?_, st1, fun a0 h0 => ?_, ?_, hfound, heapAt_setCell_self _ ha, hcl, hcv⟩
  · rcases List.mem_append.mp hy with h1 | h1
    · exact Or.inl h1
    · refine Or.inr ?_
      simp only [List.mem_cons, List.not_mem_nil, or_false] at h1
      rcases h1 with rfl | rfl | rfl | rfl | rfl <;> rfl
  · rw [State.heap_setCell_other (by omega : W0.heap.size + 2 ≠ a0)]
    exact f5' a0 h0
  · simpa [State.setCell] using hlt2
