/-! Contracts over the object store, calls, start and end. -/
set_option maxRecDepth 100000
def oB (D : va_G) (ac : Nat → ClassId) (A : Nat → Prop) (O : gO) (t : State) : Prop := ∃ G, gq D A G t.heap ∧ sup ac G O
def oPre (D : va_G) (ac : Nat → ClassId) (A : Nat → Prop) (κ : Nat → Nat) (O : gO) : State → Prop := fun U => KZ D ac A κ U ∧ oB D ac A O U ∧ ∀ q, U.heap.size ≤ q → A q
def oQ (D : va_G) (ac : Nat → ClassId) (A : Nat → Prop) (Post : Option Value → gO → Prop) : Array Value → State → Outcome → State → Prop :=
  fun _ st oc t => (∃ (rv : Option Value) (O1 : gO), oc = .returned rv ∧ Post rv O1 ∧ oB D ac A O1 t) ∧ va_F A st t
/-- a method's contract: from any heap that holds the store O, it returns, the answer and the new store are as Post says -/
abbrev oM (l : Launch) (κ : Nat → Nat) (y : MethodName) (cc : ByteArray) (nL : Nat) (ret : Option FieldType) (rm : Room) (As : List Value) (O : gO) (Post : Option Value → gO → Prop) : Prop :=
  ∀ (D : va_G) (ac : Nat → ClassId) (A : Nat → Prop), Met l y (ws_ y cc nL ret) rm (va_Pc As (oPre D ac A κ O)) (oQ D ac A Post) rm.cells rm.slots A
theorem nk_on {w : Cond} (h : nk w = true) : w.onTables = true := by
  cases w <;> first | rfl | (exfalso; revert h; exact Bool.false_ne_true)
theorem oPre.blind {D : va_G} {ac : Nat → ClassId} {A : Nat → Prop} {κ : Nat → Nat} {O : gO} {av : List Value} : FrameBlind (va_Pc av (oPre D ac A κ O)) := by
  intro a U g mk q
  obtain ⟨q0, qK, q1, q2⟩ := q
  exact ⟨q0, ⟨⟨va_K.moved (u := U) (U := U.calling g mk a) (Vm.Alike.refl U.vm) qK.1.1, fun w hw hn => va_Nw.same (u := U) (U := U.calling g mk a) (nk_on hn) rfl (qK.1.2.1 w hw hn), fun C hC => va_AO.moved (Vm.Alike.refl U.vm) (qK.1.2.2.1 C hC), fun q hq => va_Fw.moved (u := U) (U := U.calling g mk a) (nFw_mh q hq) (Vm.Alike.refl U.vm) (qK.1.2.2.2 q hq)⟩, ⟨fun q hq => va_Nc.moved (u := U) (U := U.calling g mk a) (Vm.Alike.refl U.vm) (qK.2.1.1 q hq), fun w hw => va_Nw.same (u := U) (U := U.calling g mk a) ((Bool.and_eq_true_iff.mp (kd_ok w hw)).1) rfl (qK.2.1.2.1 w hw), qK.2.1.2.2.1.moved (U := U.calling g mk a) (Vm.Alike.refl U.vm), qK.2.1.2.2.2.moved (U := U.calling g mk a) (Vm.Alike.refl U.vm)⟩, qK.2.2.same (U := U.calling g mk a) rfl⟩, q1, q2⟩
theorem OS.start {D : va_G} {ac : Nat → ClassId} {A : Nat → Prop} {κ : Nat → Nat} {O : gO} {U : State} (h : oPre D ac A κ O U) : OS D ac A U.heap O U.heap [] := by
  obtain ⟨-, ⟨G, h1, h2⟩, h3⟩ := h
  exact ⟨G, gS.start h1 h3, h2⟩
theorem OS.pre {D : va_G} {ac : Nat → ClassId} {A : Nat → Prop} {κ : Nat → Nat} {H : Heap} {O : gO} {locs : List Loc} {s U : State} (hK : KZ D ac A κ s) (h : OS D ac A s.heap O H locs) (hU : U.heap = H) (hW : s.WarmedH U.vm) : oPre D ac A κ O U := by
  obtain ⟨G, h1, h2⟩ := h
  exact ⟨hK.moved hW h1.2.1 hU, ⟨G, by rw [hU]; exact h1.1, h2⟩, by rw [hU]; exact h1.2.2⟩
section OC
variable {p : Program} {l : Launch} {e : Env} {R : Room} {s : State} {m : MethodId} {args : Array Value} {below : List Frame} {meth : Method} {c : Code} {H : Heap} {locs : List Loc} {cells slots : Nat} {Q : State → Prop}
variable {cc : ByteArray} {pc nL : Nat} {ls : Array Slot} {rest st0 : List Value} {D : va_G} {ac : Nat → ClassId} {A : Nat → Prop} {κ : Nat → Nat} {a : Nat} {H0 : Heap} {O : gO} {own : String}
theorem o_run {mc ms : Nat} {av : Array Value} {Post : Option Value → gO → Prop} (hM : OS D ac A H0 O H locs) (hr : va_Run p l e R s m args below meth c H locs cells slots mc ms (F0 m pc ls st0) rest (oQ D ac A Post av) A)
    (kk : ∀ (rv : Option Value) (O1 : gO) (H1 : Heap) (locs1 : List Loc), Post rv O1 → OS D ac A H0 O1 H1 locs1 → W p l e R s m args below meth c H1 locs1 (cells + mc) (slots + ms) Q (F0 m (pc + 3) ls (rv.toList ++ rest))) : W p l e R s m args below meth c H locs cells slots Q (F0 m pc ls st0) := by
  intro T hT X
  obtain ⟨v, st₀, t, T', L, h0, X', hL, e1, e2, ⟨⟨rv, O1, hv, hp, ⟨G1, g1, g2⟩⟩, hz, hk⟩, st⟩ := hr T hT X
  cases hv
  obtain ⟨G, h1, h2⟩ := hM
  have hS := h1.2.1
  rw [h0] at hz hk
  obtain ⟨t2, a1, b1⟩ := kk v O1 T'.heap (locs ++ L) hp ⟨G1, ⟨by rw [e1]; exact g1,
    ⟨Nat.le_trans hS.1 (by rw [e1]; exact hz), fun q h1 h2 => by rw [e1, hk q (Nat.lt_of_lt_of_le h1 hS.1) h2]; exact hS.2.1 q h1 h2, fun q hq => by
      rcases List.mem_append.mp hq with h | h
      · exact hS.2.2 q h
      · exact hL q h⟩, fun q hq => h1.2.2 q (by rw [e1] at hq; omega)⟩, g2⟩ T' rfl X'
  exact ⟨t2, st t2 a1, b1⟩
end OC
