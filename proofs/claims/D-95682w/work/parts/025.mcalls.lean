/-! Calls whose contract says outright what is answered and what the numbers are behind. -/
section MRE
variable {p : Program} {l : Launch} {e : Env} {R : Room} {s : State} {m : MethodId} {args : Array Value} {below : List Frame} {meth : Method} {c : Code} {H : Heap} {locs : List Loc} {cells slots : Nat} {Q : State → Prop}
variable {cc : ByteArray} {pc nL : Nat} {ls : Array Slot} {rest : List Value} {D : va_G} {ac : Nat → ClassId} {A : Nat → Prop} {H0 : Heap} {G0 : gG} {own : String} {mo : Nat} {ad : Nat → Nat} {v : Nat → Int32} {w : Nat → Nat → Int32}
variable {y : MethodName} {bytes : ByteArray} {maxL n index : Nat} {ret : Option FieldType} {rm : Room} {As st0 : List Value}
theorem m_cve (S : CallFix p m c cc nL s args lw_all RX3) (hK : KW D ac s) (hM : MS D ac A G0 H0 mo ad v w H locs) {V : Nat → Int32} {X : Nat → Nat → Int32} (hMet : mMv l y bytes maxL ret rm As v w (fun v1 w1 => v1 = V ∧ w1 = X)) (cw : CallW R s args RX3 RX3 index y bytes maxL ret (ws_ y bytes maxL ret) rm 0 0 n) (hn : As.length = n) (hls : ls.size = nL) (hst : st0 = As.reverse ++ .ref mo :: rest) (hW : 2 * (F0 m pc ls st0).monitorRoom + (rest.map fun v => v.category).sum ≤ 8) (hdg : decode cc pc = .ok (.invokevirtual index, 3)) (hc : cells ≤ R.cells ∧ slots ≤ R.slots)
    (kk : ∀ (H1 : Heap) (locs1 : List Loc), MS D ac A G0 H0 mo ad V X H1 locs1 → W p l e R s m args below meth c H1 locs1 cells slots Q (F0 m (pc + 3) ls rest)) : W p l e R s m args below meth c H locs cells slots Q (F0 m pc ls st0) :=
  m_cv S hK hM hMet cw hn hls hst hW hdg hc (fun v1 w1 H1 locs1 hp hM1 => by obtain ⟨h1, h2⟩ := hp; rw [h1, h2] at hM1; exact kk H1 locs1 hM1)
theorem m_cie (S : CallFix p m c cc nL s args lw_all RX3) (hK : KW D ac s) (hM : MS D ac A G0 H0 mo ad v w H locs) {r0 : Int32} {V : Nat → Int32} {X : Nat → Nat → Int32} (hMet : mMi l y bytes maxL ret rm As v w (fun r v1 w1 => r = r0 ∧ v1 = V ∧ w1 = X)) (cw : CallW R s args RX3 RX3 index y bytes maxL ret (ws_ y bytes maxL ret) rm 0 0 n) (hn : As.length = n) (hls : ls.size = nL) (hst : st0 = As.reverse ++ .ref mo :: rest) (hW : 2 * (F0 m pc ls st0).monitorRoom + (rest.map fun v => v.category).sum ≤ 8) (hdg : decode cc pc = .ok (.invokevirtual index, 3)) (hc : cells ≤ R.cells ∧ slots ≤ R.slots)
    (kk : ∀ (H1 : Heap) (locs1 : List Loc), MS D ac A G0 H0 mo ad V X H1 locs1 → W p l e R s m args below meth c H1 locs1 cells slots Q (F0 m (pc + 3) ls (.int r0 :: rest))) : W p l e R s m args below meth c H locs cells slots Q (F0 m pc ls st0) :=
  m_ci S hK hM hMet cw hn hls hst hW hdg hc (fun r v1 w1 H1 locs1 hp hM1 => by obtain ⟨h0, h1, h2⟩ := hp; rw [h1, h2] at hM1; rw [h0]; exact kk H1 locs1 hM1)
theorem m_cle (S : CallFix p m c cc nL s args lw_all RX3) (hK : KW D ac s) (hM : MS D ac A G0 H0 mo ad v w H locs) {r0 : Int64} {V : Nat → Int32} {X : Nat → Nat → Int32} (hMet : mMl l y bytes maxL ret rm As v w (fun r v1 w1 => r = r0 ∧ v1 = V ∧ w1 = X)) (cw : CallW R s args RX3 RX3 index y bytes maxL ret (ws_ y bytes maxL ret) rm 0 0 n) (hn : As.length = n) (hls : ls.size = nL) (hst : st0 = As.reverse ++ .ref mo :: rest) (hW : 2 * (F0 m pc ls st0).monitorRoom + (rest.map fun v => v.category).sum ≤ 8) (hdg : decode cc pc = .ok (.invokevirtual index, 3)) (hc : cells ≤ R.cells ∧ slots ≤ R.slots)
    (kk : ∀ (H1 : Heap) (locs1 : List Loc), MS D ac A G0 H0 mo ad V X H1 locs1 → W p l e R s m args below meth c H1 locs1 cells slots Q (F0 m (pc + 3) ls (.long r0 :: rest))) : W p l e R s m args below meth c H locs cells slots Q (F0 m pc ls st0) :=
  m_cl S hK hM hMet cw hn hls hst hW hdg hc (fun r v1 w1 H1 locs1 hp hM1 => by obtain ⟨h0, h1, h2⟩ := hp; rw [h1, h2] at hM1; rw [h0]; exact kk H1 locs1 hM1)
end MRE
/-! Methods that only read: the heap is as it was. -/
abbrev mRi (l : Launch) (y : MethodName) (cc : ByteArray) (nL : Nat) (ret : Option FieldType) (rm : Room) (As : List Value) (v : Nat → Int32) (w : Nat → Nat → Int32) (r : Int32) : Prop :=
  ∀ (D : va_G) (ac : Nat → ClassId) (A : Nat → Prop) (G : gG) (mo : Nat) (ad : Nat → Nat), Met l y (ws_ y cc nL ret) rm (va_Pc (.ref mo :: As) (mPre D ac A G mo ad v w)) (vp_Si (fun z => z = r)) 0 0 (fun _ => False)
abbrev mRl (l : Launch) (y : MethodName) (cc : ByteArray) (nL : Nat) (ret : Option FieldType) (rm : Room) (As : List Value) (v : Nat → Int32) (w : Nat → Nat → Int32) (r : Int64) : Prop :=
  ∀ (D : va_G) (ac : Nat → ClassId) (A : Nat → Prop) (G : gG) (mo : Nat) (ad : Nat → Nat), Met l y (ws_ y cc nL ret) rm (va_Pc (.ref mo :: As) (mPre D ac A G mo ad v w)) (vp_Sl (fun z => z = r)) 0 0 (fun _ => False)
section MRO
variable {l : Launch} {y : MethodName} {cc : ByteArray} {nL : Nat} {ret : Option FieldType} {rm : Room} {As : List Value} {v : Nat → Int32} {w : Nat → Nat → Int32} {D : va_G} {ac : Nat → ClassId} {A : Nat → Prop} {G : gG} {mo : Nat} {ad : Nat → Nat}
theorem m_bodyR {Qc : Array Value → State → Outcome → State → Prop} (hy : y.cls = RX3) (hL : (lg_sl (.ref mo :: As)).length ≤ nL)
    (body : ∀ (p : Program) (e : Env) (s : State) (m : MethodId) (args : Array Value) (below : List Frame) (meth : Method) (c : Code) (ls : Array Slot), CallFix p m c cc nL s args lw_all RX3 → meth.sig.returnType = ret → meth.locks = false → KW D ac s → MS D ac A G s.heap mo ad v w s.heap [] → lv_has ls nL (lv_args 0 (.ref mo :: As)) → W p l e rm s m args below meth c s.heap [] 0 0 (MQ below Qc args s 0 0 (fun _ => False)) (F0 m 0 ls [])) :
    Met l y (ws_ y cc nL ret) rm (va_Pc (.ref mo :: As) (mPre D ac A G mo ad v w)) Qc 0 0 (fun _ => False) := by
  refine Met.ofW (cc := cc) (maxL := nL) (ret := ret) (by rw [hy]; decide) rfl ?_
  intro p e s m args below meth c s₁ B hml hv
  obtain ⟨rfl, hv⟩ := hv
  have hts := atoms_spec (ws := ws_ y cc nL ret) B.pre
  have hts : ∀ w ∈ lw_all, w.before _ s = true := fun w h => hts w (List.mem_cons_of_mem _ h)
  have hown : s.vm.findClass y.cls = some m.cls := findClass_of_methodNamed B.named
  rw [hy] at hown
  have hl := lv_entry (.ref mo :: As) (n := nL) hL
  rw [lg_entry_eq]
  exact body p e s m _ below meth c _ ⟨B.exec, B.bytes, hml, hown, hts⟩ B.returns B.notSynchronized hv.1 (MS.start hv) hl
variable {p : Program} {e : Env} {s : State} {m : MethodId} {args : Array Value} {below : List Frame} {meth : Method} {c : Code} {H H0 : Heap} {G0 : gG} {locs : List Loc} {ls : Array Slot} {pc : Nat} {own : String} {R : Room} {cells slots : Nat} {Q : State → Prop} {bytes : ByteArray} {maxL n index : Nat} {rest st0 : List Value}
theorem s_lret (S : CallFix p m c cc nL s args lw_all own) (hr : meth.sig.returnType = some .long) (hlocks : meth.locks = false) {r r' : Int64} (hdg : decode cc pc = .ok (.lreturn, 1)) (hp : r = r') :
    W p l e R s m args below meth c s.heap [] 0 0 (MQ below (vp_Sl (fun z => z = r')) args s 0 0 (fun _ => False)) (F0 m pc ls [.long r]) :=
  W.lret S.1 S.2.1 hr (fun t ht hW => ⟨r, rfl, hp, ht⟩) (fun q h => by cases h) hdg hlocks
theorem m_cr (S : CallFix p m c cc nL s args lw_all RX3) (hK : KW D ac s) (hM : MS D ac A G0 H0 mo ad v w H locs) {r0 : Int32} (hMet : mRi l y bytes maxL ret rm As v w r0) (cw : CallW R s args RX3 RX3 index y bytes maxL ret (ws_ y bytes maxL ret) rm 0 0 n) (hn : As.length = n) (hls : ls.size = nL) (hst : st0 = As.reverse ++ .ref mo :: rest) (hW : 2 * (F0 m pc ls st0).monitorRoom + (rest.map fun v => v.category).sum ≤ 8) (hdg : decode cc pc = .ok (.invokevirtual index, 3)) (hc : cells ≤ R.cells ∧ slots ≤ R.slots)
    (kk : W p l e R s m args below meth c H locs cells slots Q (F0 m (pc + 3) ls (.int r0 :: rest))) : W p l e R s m args below meth c H locs cells slots Q (F0 m pc ls st0) := by
  obtain ⟨G, h1, h2, h3⟩ := hM
  have hr := va_runV (H := H) (locs := locs) (cells := cells) (slots := slots) (below := below) (meth := meth) (e := e) (g := F0 m pc ls st0) (As := As) (rest := rest) S (hMet D ac A G mo ad) cw ⟨mPre.blind, MS.recv hK h1 h2, fun U hU hW => ⟨rfl, va_K.moved hW.alike hK, by rw [hU]; exact h1.1, by rw [hU]; exact h1.2.2, h2⟩⟩ rfl hn hls hst hW hdg hc
  intro T hT X
  obtain ⟨v, st₀, t, T', L, h0, X', hL, e1, e2, ⟨r', hv, hp, hb⟩, st⟩ := hr T hT X
  cases hv
  subst hp
  obtain ⟨t2, a1, b1⟩ := kk T' (by rw [e1, hb, h0]) (Stand.forget X' (fun q h => (hL q h).elim))
  exact ⟨t2, st t2 a1, b1⟩
theorem m_crl (S : CallFix p m c cc nL s args lw_all RX3) (hK : KW D ac s) (hM : MS D ac A G0 H0 mo ad v w H locs) {r0 : Int64} (hMet : mRl l y bytes maxL ret rm As v w r0) (cw : CallW R s args RX3 RX3 index y bytes maxL ret (ws_ y bytes maxL ret) rm 0 0 n) (hn : As.length = n) (hls : ls.size = nL) (hst : st0 = As.reverse ++ .ref mo :: rest) (hW : 2 * (F0 m pc ls st0).monitorRoom + (rest.map fun v => v.category).sum ≤ 8) (hdg : decode cc pc = .ok (.invokevirtual index, 3)) (hc : cells ≤ R.cells ∧ slots ≤ R.slots)
    (kk : W p l e R s m args below meth c H locs cells slots Q (F0 m (pc + 3) ls (.long r0 :: rest))) : W p l e R s m args below meth c H locs cells slots Q (F0 m pc ls st0) := by
  obtain ⟨G, h1, h2, h3⟩ := hM
  have hr := va_runV (H := H) (locs := locs) (cells := cells) (slots := slots) (below := below) (meth := meth) (e := e) (g := F0 m pc ls st0) (As := As) (rest := rest) S (hMet D ac A G mo ad) cw ⟨mPre.blind, MS.recv hK h1 h2, fun U hU hW => ⟨rfl, va_K.moved hW.alike hK, by rw [hU]; exact h1.1, by rw [hU]; exact h1.2.2, h2⟩⟩ rfl hn hls hst hW hdg hc
  intro T hT X
  obtain ⟨v, st₀, t, T', L, h0, X', hL, e1, e2, ⟨r', hv, hp, hb⟩, st⟩ := hr T hT X
  cases hv
  subst hp
  obtain ⟨t2, a1, b1⟩ := kk T' (by rw [e1, hb, h0]) (Stand.forget X' (fun q h => (hL q h).elim))
  exact ⟨t2, st t2 a1, b1⟩
/-- a choice of two values: what is behind it is shown once; so many values are taken off the stack by it -/
theorem w_tern0 (pcE : Nat) {cond : Prop} [Decidable cond] {a b : Int32} {pc0 : Nat} (k : W p l e R s m args below meth c H locs cells slots Q (F0 m pcE ls (.int (if cond then a else b) :: rest)))
    (go : (cond → W p l e R s m args below meth c H locs cells slots Q (F0 m pcE ls (.int a :: rest))) → (¬ cond → W p l e R s m args below meth c H locs cells slots Q (F0 m pcE ls (.int b :: rest))) → W p l e R s m args below meth c H locs cells slots Q (F0 m pc0 ls (rest))) : W p l e R s m args below meth c H locs cells slots Q (F0 m pc0 ls (rest)) :=
  go (fun h => by rwa [if_pos h] at k) (fun h => by rwa [if_neg h] at k)
theorem w_tern1 (pcE : Nat) {cond : Prop} [Decidable cond] {a b : Int32} {pc0 : Nat} {z1 : Value} (k : W p l e R s m args below meth c H locs cells slots Q (F0 m pcE ls (.int (if cond then a else b) :: rest)))
    (go : (cond → W p l e R s m args below meth c H locs cells slots Q (F0 m pcE ls (.int a :: rest))) → (¬ cond → W p l e R s m args below meth c H locs cells slots Q (F0 m pcE ls (.int b :: rest))) → W p l e R s m args below meth c H locs cells slots Q (F0 m pc0 ls (z1 :: rest))) : W p l e R s m args below meth c H locs cells slots Q (F0 m pc0 ls (z1 :: rest)) :=
  go (fun h => by rwa [if_pos h] at k) (fun h => by rwa [if_neg h] at k)
theorem w_tern2 (pcE : Nat) {cond : Prop} [Decidable cond] {a b : Int32} {pc0 : Nat} {z1 z2 : Value} (k : W p l e R s m args below meth c H locs cells slots Q (F0 m pcE ls (.int (if cond then a else b) :: rest)))
    (go : (cond → W p l e R s m args below meth c H locs cells slots Q (F0 m pcE ls (.int a :: rest))) → (¬ cond → W p l e R s m args below meth c H locs cells slots Q (F0 m pcE ls (.int b :: rest))) → W p l e R s m args below meth c H locs cells slots Q (F0 m pc0 ls (z1 :: z2 :: rest))) : W p l e R s m args below meth c H locs cells slots Q (F0 m pc0 ls (z1 :: z2 :: rest)) :=
  go (fun h => by rwa [if_pos h] at k) (fun h => by rwa [if_neg h] at k)
/-- the same way on from two ways -/
theorem w_meet (pcE : Nat) {cond : Prop} (k : cond → W p l e R s m args below meth c H locs cells slots Q (F0 m pcE ls rest))
    {g : JFrame} (go : (cond → W p l e R s m args below meth c H locs cells slots Q (F0 m pcE ls rest)) → W p l e R s m args below meth c H locs cells slots Q g) : W p l e R s m args below meth c H locs cells slots Q g := go k
end MRO
