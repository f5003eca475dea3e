/-! The words that do not ride in the methods' lists, carried as one. -/
def nk (w : Cond) : Bool := match w with
  | .fieldLinkNest .. => true
  | .methodLinkNest .. => true
  | .declares _ => true
  | .castable _ _ => true
  | .privateMethod _ => true
  | _ => false
theorem va_Nw.warmP {x : MethodName} {s U : State} (hW : s.WarmedH U.vm) (hZ : va_Nw (.privateMethod x) s) : va_Nw (.privateMethod x) U := va_tabs rfl (rfl : (s.setVm U.vm).vm = U.vm) (by rw [Cond.privateMethod_setVm hW.alike]; exact hZ)
theorem nk_warm {w : Cond} (h : nk w = true) {s U : State} (hW : s.WarmedH U.vm) (hZ : va_Nw w s) : va_Nw w U := by
  cases w <;> first | exact va_Nw.warmF hW hZ | exact va_Nw.warmM hW hZ | exact va_Nw.warmD hW hZ | exact va_Nw.warmC hW hZ | exact va_Nw.warmP hW hZ | (exfalso; revert h; exact Bool.false_ne_true)
def nAO : List String := ["NightStones$Row", "NightStones$Road", "java/lang/Object", "java/lang/String"]
def nFw : List (String × MethodName × MethodName) := [(RJ2, ⟨"java/util/List", "size", "()I"⟩, yJ2_size), (RJ2, ⟨"java/util/List", "add", "(Ljava/lang/Object;)Z"⟩, yJ2_add), (RJ2, ⟨"java/util/List", "get", "(I)Ljava/lang/Object;"⟩, yJ2_get), (RX9, ⟨RX14, "number", "()I"⟩, yX8_number), (RX10, ⟨RX14, "number", "()I"⟩, yX8_number), (RX11, ⟨RX14, "number", "()I"⟩, yX8_number), (RX12, ⟨RX14, "number", "()I"⟩, yX8_number), (RX13, ⟨RX14, "number", "()I"⟩, yX8_number)]
def KQ (D : va_G) (ac : Nat → ClassId) (U : State) : Prop := KW D ac U ∧ (∀ w ∈ lw_tbl, nk w = true → va_Nw w U) ∧ (∀ C ∈ nAO, va_AO C U) ∧ ∀ q ∈ nFw, va_Fw q.1 q.2.1 q.2.2 U
theorem nFw_mh : ∀ q ∈ nFw, q.2.1.cls ≠ "java/lang/invoke/MethodHandle" ∧ q.2.1.cls ≠ "java/lang/invoke/VarHandle" := by decide +kernel
theorem KQ.moved {D : va_G} {ac : Nat → ClassId} {s U : State} (hW : s.WarmedH U.vm) (h : KQ D ac s) : KQ D ac U :=
  ⟨va_K.moved hW.alike h.1, fun w hw hn => nk_warm hn hW (h.2.1 w hw hn), fun C hC => va_AO.moved hW.alike (h.2.2.1 C hC), fun q hq => va_Fw.moved (nFw_mh q hq) hW.alike (h.2.2.2 q hq)⟩
