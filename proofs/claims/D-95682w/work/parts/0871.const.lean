/-! What nobody writes: statics, constant strings; the pairs of classes that are not castable. κ: their addresses. -/
set_option maxRecDepth 100000
def zLen : List Nat := [0, 3, 5, 5, 3, 6, 6, 5, 6]
def zByt : List (List Int32) := [[], [108, 97, 119], [115, 116, 111, 110, 101], [109, 111, 118, 101, 114], [105, 110, 110], [99, 97, 114, 116, 101, 114], [112, 97, 114, 105, 115, 104], [116, 104, 105, 101, 102], [112, 114, 105, 101, 115, 116]]
/-- a static of the Throwable's, whole: where it lies, of what type; it holds a reference or null -/
def va_LY (C n d : String) (A : Nat → Prop) (U : State) (H : Heap) : Prop := ∃ (c : ClassId) (k : Class) (i : Nat) (f : Field) (a : Nat) (cell : Cell) (v : Value), U.vm.findClass C = some c ∧ U.fieldFound? C n d = some (c, k, i, f) ∧ f.isStatic = true ∧ k.statics = some a ∧ H[a]? = some cell ∧ cell.vm.isStatics = true ∧ cell.cls = c ∧ f.slot < cell.slots.size ∧ k.staticTypes[f.slot]? = some f.type ∧ cell.slots[f.slot]? = some v ∧ (v = .null ∨ ∃ t, v = .ref t) ∧ ¬ A a
theorem va_LY.moved {C n d : String} {A : Nat → Prop} {u U : State} {H : Heap} (hvm : u.vm.Alike U.vm) (h : va_LY C n d A u H) : va_LY C n d A U H := by
  obtain ⟨c, k, i, f, a, cell, v, h0, h1, h2, h3, h4, h5, h6, h7, h8, h9⟩ := h
  obtain ⟨k', hi', he⟩ := State.fieldFound?_setVm hvm h1
  exact ⟨c, k', i, f, a, cell, v, by rw [hvm.findClass]; exact h0, hi', h2, by rw [he]; exact h3, h4, h5, h6, h7, by rw [he]; exact h8, h9⟩
theorem va_LY.kept {C n d : String} {A : Nat → Prop} {U : State} {H H1 : Heap} (h : va_LY C n d A U H) (hq : ∀ a : Nat, a < H.size → ¬ A a → H1[a]? = H[a]?) : va_LY C n d A U H1 := by
  obtain ⟨c, k, i, f, a, cell, v, h0, h1, h2, h3, h4, h5, h6, h7, h8, h9, h10, h11⟩ := h
  exact ⟨c, k, i, f, a, cell, v, h0, h1, h2, h3, by rw [hq a (Array.getElem?_eq_some_iff.mp h4).1 h11]; exact h4, h5, h6, h7, h8, h9, h10, h11⟩
abbrev dSte : String := "[Ljava/lang/StackTraceElement;"
abbrev dLst : String := "Ljava/util/List;"
def cL (A : Nat → Prop) (U : State) (H : Heap) : Prop := va_LY "java/lang/Throwable" "UNASSIGNED_STACK" dSte A U H ∧ va_LY "java/lang/Throwable" "SUPPRESSED_SENTINEL" dLst A U H
theorem cL.moved {A : Nat → Prop} {u U : State} {H : Heap} (hvm : u.vm.Alike U.vm) (h : cL A u H) : cL A U H := ⟨h.1.moved hvm, h.2.moved hvm⟩
theorem cL.kept {A : Nat → Prop} {U : State} {H H1 : Heap} (h : cL A U H) (hq : ∀ a : Nat, a < H.size → ¬ A a → H1[a]? = H[a]?) : cL A U H1 := ⟨h.1.kept hq, h.2.kept hq⟩
def cK (A : Nat → Prop) (κ : Nat → Nat) (U : State) (H : Heap) : Prop :=
  va_Z "java/lang/String" "COMPACT_STRINGS" "Z" (.int 1) A U H ∧
  (va_Z "java/util/ArrayList" "DEFAULTCAPACITY_EMPTY_ELEMENTDATA" "[Ljava/lang/Object;" (.ref (κ 0)) A U H ∧ va_T (.object "java/lang/Object") (κ 0) 0 (fun _ => .null) A U H) ∧
  (va_Zq "java/lang/Throwable" "UNASSIGNED_STACK" "[Ljava/lang/StackTraceElement;" A U H ∧ va_Zq "java/lang/Throwable" "SUPPRESSED_SENTINEL" "Ljava/util/List;" A U H) ∧
  (va_Z "NightStones" "SORT" "[Ljava/lang/String;" (.ref (κ 1)) A U H ∧ va_T (.object "java/lang/String") (κ 1) 5 (fun j => .ref (κ (14 + j))) A U H) ∧
  vk_S 9 zLen zByt (fun i => κ (10 + i)) (fun i => κ (20 + i)) A U H ∧
  (vk_R "NightStones$Reader" 9 "" (κ 10) U ∧ vk_R "NightStones$Reader" 90 "law" (κ 11) U ∧ vk_R "NightStones$Reader" 115 "stone" (κ 12) U ∧ vk_R "NightStones$Reader" 130 "mover" (κ 13) U ∧ cL A U H)
theorem cK.kept {A : Nat → Prop} {κ : Nat → Nat} {U : State} {H H1 : Heap} (h : cK A κ U H) (hq : ∀ a : Nat, a < H.size → ¬ A a → H1[a]? = H[a]?) : cK A κ U H1 :=
  ⟨h.1.kept hq, ⟨h.2.1.1.kept hq, h.2.1.2.kept hq⟩, ⟨h.2.2.1.1.kept hq, h.2.2.1.2.kept hq⟩, ⟨h.2.2.2.1.1.kept hq, h.2.2.2.1.2.kept hq⟩, h.2.2.2.2.1.kept hq, ⟨h.2.2.2.2.2.1, h.2.2.2.2.2.2.1, h.2.2.2.2.2.2.2.1, h.2.2.2.2.2.2.2.2.1, h.2.2.2.2.2.2.2.2.2.kept hq⟩⟩
theorem cK.warm {A : Nat → Prop} {κ : Nat → Nat} {s U : State} {H : Heap} (hW : s.WarmedH U.vm) (h : cK A κ s H) : cK A κ U H :=
  ⟨va_Z.moved hW.alike h.1, ⟨va_Z.moved hW.alike h.2.1.1, va_T.moved hW.alike h.2.1.2⟩, ⟨va_Zq.moved hW.alike h.2.2.1.1, va_Zq.moved hW.alike h.2.2.1.2⟩, ⟨va_Z.moved hW.alike h.2.2.2.1.1, va_T.moved hW.alike h.2.2.2.1.2⟩, vk_S.moved hW.alike h.2.2.2.2.1, vk_R.warm hW h.2.2.2.2.2.1, vk_R.warm hW h.2.2.2.2.2.2.1, vk_R.warm hW h.2.2.2.2.2.2.2.1, vk_R.warm hW h.2.2.2.2.2.2.2.2.1, cL.moved hW.alike h.2.2.2.2.2.2.2.2.2⟩
theorem cK.same {A : Nat → Prop} {κ : Nat → Nat} {s U : State} {H : Heap} (hv : U.vm = s.vm) (h : cK A κ s H) : cK A κ U H := by
  have ha : s.vm.Alike U.vm := by rw [hv]; exact Vm.Alike.refl s.vm
  exact ⟨va_Z.moved ha h.1, ⟨va_Z.moved ha h.2.1.1, va_T.moved ha h.2.1.2⟩, ⟨va_Zq.moved ha h.2.2.1.1, va_Zq.moved ha h.2.2.1.2⟩, ⟨va_Z.moved ha h.2.2.2.1.1, va_T.moved ha h.2.2.2.1.2⟩, vk_S.moved ha h.2.2.2.2.1, vk_R.same hv h.2.2.2.2.2.1, vk_R.same hv h.2.2.2.2.2.2.1, vk_R.same hv h.2.2.2.2.2.2.2.1, vk_R.same hv h.2.2.2.2.2.2.2.2.1, cL.moved ha h.2.2.2.2.2.2.2.2.2⟩
def nNc : List (String × String) := [(RX9, RX10), (RX9, RX11), (RX9, RX12), (RX9, RX13), (RX10, RX11), (RX10, RX12), (RX10, RX13), (RX11, RX10), (RX11, RX12), (RX11, RX13), (RX12, RX9), (RX12, RX10), (RX12, RX11), (RX12, RX13), (RX13, RX9), (RX13, RX10), (RX13, RX11)]
/-- super.mark of a mover of the first rank lands in the default of Marked -/
def LSd (U : State) : Prop := ∃ (c : ClassId) (m : MethodId), U.vm.findClass RX8 = some c ∧ U.methodNamed? ⟨RX14, "mark", "(LNightStones$Trail;LNightStones$Road;)I"⟩ = some m ∧ Jvm.lookupSpecial U.vm c "mark" "(LNightStones$Trail;LNightStones$Road;)I" = .method m
theorem LSd.moved {s U : State} (hv : s.vm.Alike U.vm) (h : LSd s) : LSd U := by
  obtain ⟨c, m, h1, h2, h3⟩ := h
  refine ⟨c, m, by rw [hv.findClass]; exact h1, ?_, by rw [hv.lookupSpecial]; exact h3⟩
  have := State.methodNamed?_setVm hv (x := ⟨RX14, "mark", "(LNightStones$Trail;LNightStones$Road;)I"⟩)
  rw [h2] at this
  exact this
/-- the start's modules are as the premise tells -/
def MR (U : State) : Prop := modulesRight_1 U = true
theorem MR.moved {s U : State} (hv : s.vm.Alike U.vm) (h : MR s) : MR U := by
  unfold MR modulesRight_1 at h ⊢
  have e : U.vm.modules = s.vm.modules := by rw [hv.1]
  rw [e]; exact h
theorem kd_ok : ∀ w ∈ defaultWords_1, (w.onTables && w.keeps) = true := by decide +kernel
def KZ (D : va_G) (ac : Nat → ClassId) (A : Nat → Prop) (κ : Nat → Nat) (U : State) : Prop := KQ D ac U ∧ ((∀ q ∈ nNc, va_Nc q.1 q.2 U) ∧ (∀ w ∈ defaultWords_1, va_Nw w U) ∧ LSd U ∧ MR U) ∧ cK A κ U U.heap
theorem KZ.moved {D : va_G} {ac : Nat → ClassId} {A : Nat → Prop} {κ : Nat → Nat} {s U : State} {H : Heap} {locs : List Loc} (hW : s.WarmedH U.vm) (hS : va_S A s.heap H locs) (hU : U.heap = H) (h : KZ D ac A κ s) : KZ D ac A κ U :=
  ⟨h.1.moved hW, ⟨fun q hq => va_Nc.moved hW.alike (h.2.1.1 q hq), fun w hw => word_at hW (Or.inl (kd_ok w hw)) (h.2.1.2.1 w hw), h.2.1.2.2.1.moved hW.alike, h.2.1.2.2.2.moved hW.alike⟩, by rw [hU]; exact (h.2.2.warm hW).kept hS.2.1⟩
