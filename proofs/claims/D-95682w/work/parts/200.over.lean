/-! An exception that the machine makes while a native is at work: its making over any frames. -/
set_option maxRecDepth 100000
/-- the thread goes on; the frames base end in below -/
def ovS (s : State) (base below : List Frame) : Prop := s.goesOn ∧ s.cur < s.threads.size ∧ ∃ mid, base = mid ++ below
theorem ovS.go {s : State} {base below : List Frame} (h : ovS s base below) (F : List Frame) : (s.setFrames F).goesOn := ⟨h.1.1, by simpa using h.1.2.1, by simpa using h.1.2.2⟩
theorem ovS.fr {s : State} {base below : List Frame} (h : ovS s base below) (F : List Frame) : (s.setFrames F).frames = F := State.frames_setFrames _ h.2.1
theorem ovS.vm {s : State} {base below : List Frame} (h : ovS s base below) (vm : Vm) : ovS (s.setVm vm) base below := h
section OVC
variable {e : Env} {below : List Frame} {s₀ : State} {base : List Frame}
/-- the frame of the exception's own constructor, over the note that its object is to be thrown -/
abbrev ovT (W : State) (base : List Frame) (m : MethodId) (a b : Addr) : State := (W.setFrames (.thenThrow a :: base)).pushFrame (.java (passJ m a (.ref b) 0 []))
theorem ovT.fr {W : State} (h : ovS W base below) (m : MethodId) (a b : Addr) : (ovT W base m a b).frames = .java (passJ m a (.ref b) 0 []) :: .thenThrow a :: base := by
  have h1 := h.fr (.thenThrow a :: base)
  rw [show (ovT W base m a b).frames = .java (passJ m a (.ref b) 0 []) :: (W.setFrames (.thenThrow a :: base)).frames from State.frames_setFrames _ (State.cur_lt_of_frames h1), h1]
theorem ovT.at {W : State} (h : ovS W base below) (a b : Addr) {m : MethodId} {meth : Method} {code : Code} (hm : W.vm.method? m = some meth) (hc : meth.code = some code) (hp : W.plainMethod m) : At (ovT W base m a b) m code below := by
  have h1 := h.fr (.thenThrow a :: base)
  obtain ⟨mid, hmid⟩ := h.2.2
  exact At.pushOn _ (h.go _) (State.cur_lt_of_frames h1) ⟨.thenThrow a :: mid, by rw [h1, hmid]; rfl⟩ hm hc hp
/-- the constructor returns: now it is thrown -/
theorem ovT.ret {tb : Tables} [Ours tb] {W target : State} (h : ovS W base below) (hexec : tb.exec = Jvm.exec) (a b : Addr) (x : Cell) {m : MethodId} {meth : Method} {code : Code} (hm : W.vm.method? m = some meth) (hc : meth.code = some code) (hp : W.plainMethod m) (hl : meth.locks = false) (h5 : decode code.code 5 = .ok (.return_, 1))
    (hrest : Steps tb e below ((W.setCell a x).setFrames (.throwing a :: base)) target) : Steps tb e below (((ovT W base m a b).setCell a x).setTop (passJ m a (.ref b) 5 [])) target := by
  have hI := ovT.at h a b hm hc hp
  have hfr := ovT.fr h m a b
  obtain ⟨mid, hmid⟩ := h.2.2
  have hB : At ((ovT W base m a b).setCell a x) m code below := (heapOnly_id.thenSetCell a x).at_ hI
  have hfH : ((ovT W base m a b).setCell a x).frames = .java (passJ m a (.ref b) 0 []) :: .thenThrow a :: base := hfr
  jvm_step hB [hexec, h5, return_.wp_sem]
  intro acts2
  rw [ret_to (t := (ovT W base m a b).setCell a x) (f := passJ m a (.ref b) 5 []) (f₀ := passJ m a (.ref b) 0 []) (below := .thenThrow a :: base) (fs := .thenThrow a :: base) (meth := meth) hfH hm hl rfl rfl rfl acts2]
  have hcur : ((ovT W base m a b).setCell a x).cur < ((ovT W base m a b).setCell a x).threads.size := State.cur_lt_of_frames hfH
  have hf1 : (((ovT W base m a b).setCell a x).setFrames (.thenThrow a :: base)).frames = .thenThrow a :: base := State.frames_setFrames _ hcur
  refine Steps.head ⟨hB.running, by simpa using hB.runnable, by simpa using hB.alone⟩ ⟨.thenThrow a :: mid, by rw [hf1, hmid]; rfl, by simp, by simp⟩ ?_
  rw [stepThread_thenThrow hf1]
  show Steps tb e below ((((ovT W base m a b).setCell a x).setFrames (.thenThrow a :: base)).setFrames (.throwing a :: base)) target
  have e1 : ∀ F, ((ovT W base m a b).setCell a x).setFrames F = (W.setCell a x).setFrames F := by
    intro F
    have c1 : ∀ (u : State) (G : List Frame), (u.setCell a x).setFrames G = (u.setFrames G).setCell a x := fun u G => rfl
    rw [c1, c1]
    congr 1
    show ((W.setFrames (.thenThrow a :: base)).pushFrame (.java (passJ m a (.ref b) 0 []))).setFrames F = W.setFrames F
    rw [State.pushFrame, State.setFrames_setFrames, State.setFrames_setFrames]
  rw [State.setFrames_setFrames, e1]
  exact hrest
/-- the exception's constructor, from its call to the throwing -/
theorem ov_ctor (p : Program) {W : State} (h : ovS W base below) (hexec : p.tables.exec = Jvm.exec) (T : ThrowableC) (L : T.Links e.platform s₀) (Z : Init0T) (LZ : Z.LaidS T.toThrowableT) (M : MsgC) (LM : M.Links T e.platform s₀) (hW : s₀.WarmedH W.vm)
    {u0 sen : RefV} {self str : Addr} {cell cellS : Cell} (hcell : W.heap[self]? = some cell) (hobj : ∀ k, cell.vm ≠ .statics k) (hknown : cell.vm ≠ .unknown) (hfree : cell.monitor.owner = none) (hsel0 : selectMethod e.platform s₀.vm cell.cls T.fill0 = .method T.fill0) (hcellS : W.heap[T.aS]? = some cellS) (hneS : T.aS ≠ self) (hknownS : cellS.vm ≠ .unknown) (hvU : cellS.slots[T.fUnassigned.slot]? = some u0.v) (htS : Takes s₀ cell T.fStack u0.v)
    (hsz : ((preparedCellV T.toThrowableT cell self u0 sen).withEntry W.cur).slots.size = cell.slots.size) (hskip : SkipFacts T e.platform s₀ (fun u => u) u0 ((preparedCellV T.toThrowableT cell self u0 sen).withEntry W.cur))
    (hnat : u0.v ≠ .null → ∀ u : State, At u T.fill T.codeFill below → s₀.WarmedH u.vm → u.heap[self]? = some ((preparedCellV T.toThrowableT cell self u0 sen).withEntry W.cur) → e.platform.stackFull (((u.setTop (fillJ T.fill self 16 [])).threads[(u.setTop (fillJ T.fill self 16 [])).cur]?).getD { frames := [] }) (u.setTop (fillJ T.fill self 16 [])).frames (nativeFrameWords "java/lang/Throwable" "fillInStackTrace" 2) = false → ∀ t' : State, Steps p.tables e below (u.setTop (fillJ T.fill self 19 [.ref self])) t' → Steps p.tables e below (doInvoke e (u.setTop (fillJ T.fill self 16 [])) [] T.fill0 #[.ref self, .int 0]).1 t')
    (hselF : selectMethod e.platform s₀.vm cell.cls T.fill = .method T.fill) (hvSen : cellS.slots[T.fSentinel.slot]? = some sen.v) (htC : Takes s₀ cell T.fCause (.ref self)) (htP : Takes s₀ cell T.fSupp sen.v) (htM : Takes s₀ cell T.fMsg (.ref str)) (hobjLocals : T.codeObj.maxLocals = 1)
    (P1 : PassC) (L1 : P1.LinksS e.platform s₀) (Ps : List PassC) (hL : ∀ P, P ∈ Ps → P.LinksS e.platform s₀) (hlink1 : P1.sup = firstOf (Z.m T.toThrowableT) (Ps.map (·.toPassT))) (hlink : PassesOn (Z.m T.toThrowableT) (Ps.map (·.toPassT)))
    {lim : Nat × Nat} (hlim : e.platform.stackLimits W.me = lim) (hframes : base.length + Ps.length + 4 < lim.1) (hwords : (stackUse base).2 + 13 * Ps.length + 55 ≤ lim.2) :
    ∃ vm', s₀.WarmedH vm' ∧ ∀ target, Steps p.tables e below (((W.setVm vm').setCell self ((((preparedCellV T.toThrowableT cell self u0 sen).withEntry W.cur).setSlot T.fStack.slot u0.v).left.setSlot T.fMsg.slot (.ref str))).setFrames (.throwing self :: base)) target →
      Steps p.tables e below (doInvoke e (W.setFrames (.thenThrow self :: base)) [] P1.m #[.ref self, .ref str]).1 target := by
  have hmW := hW.methodAt L1.method
  have hI := ovT.at h self str hmW L1.code (hW.plainAt L1.plain)
  have hfr := ovT.fr h P1.m self str
  have hfN := h.fr (.thenThrow self :: base)
  have hroom := roomAbove (pl := e.platform) (u := W.setFrames (.thenThrow self :: base)) (vars := 2) (pushed := [.thenThrow self]) (base := base) (free := 13 * Ps.length + 55) (lim := lim) hfN (by rw [State.stackLimits_setFrames]; exact hlim)
    (by simp only [List.length_cons, List.length_nil]; omega) (by omega) (by rw [stackUse_light _ _ (fun f hf => by cases hf) rfl, stackUse_nil]; show 0 + 2 + 11 ≤ _; omega)
  obtain ⟨vm1, hW1, st1⟩ := Steps.invokeInitCold (tb := p.tables) (s₀ := s₀) (U := ovT W base P1.m self str) (f := passJ P1.m self (.ref str) 2 [.ref str, .ref self]) (args := [.ref str]) (rest := []) (a := self) hI hexec L1.at2 hW L1.links L1.right L1.notHandle L1.cls L1.file L1.pool
    L1.supClass L1.supMethod L1.supName L1.supStatic L1.supAbstract L1.supFound L1.supParams.symm rfl
  have hI1 : At ((ovT W base P1.m self str).setVm vm1) P1.m P1.code below := hI.setVm (hW.alike.symm.trans hW1.alike)
  have hfr1 : ((ovT W base P1.m self str).setVm vm1).frames = .java (passJ P1.m self (.ref str) 0 []) :: .thenThrow self :: base := hfr
  obtain ⟨vm2, hW2, st2⟩ := Steps.initThrowableSColdByV p (V := (ovT W base P1.m self str).setVm vm1) (g := passJ P1.m self (.ref str) 2 []) (c := P1.code) (self := self) hI1 hexec T L Z LZ M LM hW1 (t := W.cur) rfl (Nn := fun u => u) heapOnly_id (fun _ _ => rfl) (fun _ => rfl) (fun u x y => setCell_twice _ _ _ _) (fun _ => Nat.le_refl _) (msg := .ref str) rfl (cN := (preparedCellV T.toThrowableT cell self u0 sen).withEntry W.cur) hcell hobj hknown hfree hsel0 hcellS hneS hknownS hvU htS
    (fun _ hu => hu) (fun _ hu => hu) rfl rfl rfl hsz hskip hnat hselF hvSen htC htP htM hobjLocals Ps hL hlink (ig := .invokespecial P1.index) (len := 3) [] (lim := lim) (by
      have : e.platform.stackLimits ((ovT W base P1.m self str).setVm vm1).me = e.platform.stackLimits W.me := by
        show e.platform.stackLimits (ovT W base P1.m self str).me = _
        rw [State.stackLimits_pushFrame, State.stackLimits_setFrames]
      rw [this]; exact hlim)
    (by rw [hfr1]; simp only [List.length_cons]; omega)
    (by rw [hfr1, List.tail_cons, stackUse_java, stackUse_light _ _ (fun f hf => by cases hf) rfl]
        show (stackUse base).2 + (2 + 11 + 2 * 0 + operandWords []) + 13 * Ps.length + 42 ≤ lim.2
        simp only [operandWords, List.foldl_nil]
        omega)
    L1.at2
  refine ⟨vm2, hW2, fun target hrest => ?_⟩
  rw [(doInvoke_java (s := W.setFrames (.thenThrow self :: base)) (e := e) (acts := []) (args := #[.ref self, .ref str]) (meth := P1.meth) (code := P1.code) hmW L1.code L1.locks (by rw [L1.locals]; exact hroom)).1, L1.locals]
  show Steps p.tables e below (ovT W base P1.m self str) target
  rw [← State.setTop_self (s := ovT W base P1.m self str) (State.topJava?_of_frames hfr)]
  jvm_step hI [hexec, L1.at0, Value.isRef]
  jvm_step hI [hexec, L1.at1, Value.isRef]
  refine st1 target ?_
  rw [hlink1]
  refine st2 target ?_
  have e2 : (((ovT W base P1.m self str).setVm vm1).setVm vm2) = ovT (W.setVm vm2) base P1.m self str := by
    show _ = ((W.setVm vm2).setFrames (.thenThrow self :: base)).pushFrame (.java (passJ P1.m self (.ref str) 0 []))
    rw [State.setVm_twice, State.pushFrame_setVm, State.setFrames_setVm]
  rw [e2]
  exact ovT.ret (W := W.setVm vm2) (h.vm vm2) hexec self str _ (hW2.methodAt L1.method) L1.code (hW2.plainAt (U := W.setVm vm2) L1.plain) L1.locks L1.at5 hrest
end OVC
