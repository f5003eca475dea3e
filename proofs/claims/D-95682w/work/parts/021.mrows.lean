/-! The reference (class 3) as one unit: its int fields v, its own arrays at ad with contents w. -/
set_option maxRecDepth 100000
def mln (k : Nat) : Nat := match k with
  | 2 => 8
  | 3 => 8
  | 4 => 320
  | 5 => 94
  | 6 => 94
  | 7 => 168
  | 9 => 400
  | 19 => 6
  | 20 => 49
  | 21 => 6
  | 22 => 2
  | 23 => 188
  | 24 => 16
  | _ => 0
def mac (k : Nat) : Nat := if k = 22 then 2 else 0
abbrev mfs (ad : Nat → Nat) (v : Nat → Int32) : List Value := [.int (v 0), .int (v 1), .ref (ad 2), .ref (ad 3), .ref (ad 4), .ref (ad 5), .ref (ad 6), .ref (ad 7), .int (v 8), .ref (ad 9), .int (v 10), .int (v 11), .int (v 12), .int (v 13), .int (v 14), .int (v 15), .int (v 16), .int (v 17), .int (v 18), .ref (ad 19), .ref (ad 20), .ref (ad 21), .ref (ad 22), .ref (ad 23), .ref (ad 24), .int (v 25)]
def wup (w : Nat → Nat → Int32) (k n : Nat) (x : Int32) : Nat → Nat → Int32 := fun i => if i = k then upd (w k) n x else w i
theorem wup_s (w : Nat → Nat → Int32) (k n : Nat) (x : Int32) : wup w k n x k = upd (w k) n x := if_pos rfl
theorem wup_n {w : Nat → Nat → Int32} {k n i : Nat} {x : Int32} (h : i ≠ k) : wup w k n x i = w i := if_neg h
theorem upd_s (f : Nat → Int32) (k : Nat) (x : Int32) : upd f k x k = x := if_pos rfl
theorem upd_n {f : Nat → Int32} {k i : Nat} {x : Int32} (h : i ≠ k) : upd f k x i = f i := if_neg h
/-- the reference's own cells in the picture -/
def MU (ac : Nat → ClassId) (G : gG) (mo : Nat) (ad : Nat → Nat) (v : Nat → Int32) (w : Nat → Nat → Int32) : Prop :=
  G mo = some (mo, 0, .inr (3, mfs ad v)) ∧ ∀ k, mln k ≠ 0 → G (ad k) = some (mo, k + 1, .inl (ac (mac k), mln k, .inl (w k)))
/-- all cells that other objects own are kept -/
def KP (mo : Nat) (G0 G : gG) : Prop := ∀ (q t j : Nat) (e : va_E), t ≠ mo → G0 q = some (t, j, e) → G q = some (t, j, e)
theorem KP.rf {mo : Nat} {G : gG} : KP mo G G := fun _ _ _ _ _ h => h
theorem KP.tr {mo : Nat} {G0 G1 G2 : gG} (h : KP mo G0 G1) (h2 : KP mo G1 G2) : KP mo G0 G2 := fun q t j e n h0 => h2 q t j e n (h q t j e n h0)
theorem KP.up {mo : Nat} {G : gG} {a j : Nat} {e e' : va_E} (ha : G a = some (mo, j, e)) : KP mo G (gup G a (mo, j, e')) := by
  intro q t j' e1 hn h0
  have hne : q ≠ a := g_ne h0 ha (Or.inl hn)
  rw [gup_n hne]
  exact h0
def MS (D : va_G) (ac : Nat → ClassId) (A : Nat → Prop) (G0 : gG) (H0 : Heap) (mo : Nat) (ad : Nat → Nat) (v : Nat → Int32) (w : Nat → Nat → Int32) (H : Heap) (locs : List Loc) : Prop :=
  ∃ G, gS D A H0 G H locs ∧ MU ac G mo ad v w ∧ KP mo G0 G
def mPre (D : va_G) (ac : Nat → ClassId) (A : Nat → Prop) (G : gG) (mo : Nat) (ad : Nat → Nat) (v : Nat → Int32) (w : Nat → Nat → Int32) : State → Prop :=
  fun U => KW D ac U ∧ gq D A G U.heap ∧ (∀ q, U.heap.size ≤ q → A q) ∧ MU ac G mo ad v w
abbrev mSt : Type := (Nat → Int32) × (Nat → Nat → Int32)
def mB (D : va_G) (ac : Nat → ClassId) (A : Nat → Prop) (G0 : gG) (mo : Nat) (ad : Nat → Nat) : mSt → State → Prop :=
  fun u t => ∃ G, gq D A G t.heap ∧ MU ac G mo ad u.1 u.2 ∧ KP mo G0 G
/-- contracts of the reference's own methods: answer an int (or boolean), nothing, a long -/
abbrev mMi (l : Launch) (y : MethodName) (cc : ByteArray) (nL : Nat) (ret : Option FieldType) (rm : Room) (As : List Value) (v : Nat → Int32) (w : Nat → Nat → Int32) (post : Int32 → (Nat → Int32) → (Nat → Nat → Int32) → Prop) : Prop :=
  ∀ (D : va_G) (ac : Nat → ClassId) (A : Nat → Prop) (G : gG) (mo : Nat) (ad : Nat → Nat), Met l y (ws_ y cc nL ret) rm (va_Pc (.ref mo :: As) (mPre D ac A G mo ad v w)) (va_Qi (fun r (u : mSt) => post r u.1 u.2) (mB D ac A G mo ad) A) 0 0 A
abbrev mMv (l : Launch) (y : MethodName) (cc : ByteArray) (nL : Nat) (ret : Option FieldType) (rm : Room) (As : List Value) (v : Nat → Int32) (w : Nat → Nat → Int32) (post : (Nat → Int32) → (Nat → Nat → Int32) → Prop) : Prop :=
  ∀ (D : va_G) (ac : Nat → ClassId) (A : Nat → Prop) (G : gG) (mo : Nat) (ad : Nat → Nat), Met l y (ws_ y cc nL ret) rm (va_Pc (.ref mo :: As) (mPre D ac A G mo ad v w)) (va_Qv (fun (u : mSt) => post u.1 u.2) (mB D ac A G mo ad) A) 0 0 A
abbrev mMl (l : Launch) (y : MethodName) (cc : ByteArray) (nL : Nat) (ret : Option FieldType) (rm : Room) (As : List Value) (v : Nat → Int32) (w : Nat → Nat → Int32) (post : Int64 → (Nat → Int32) → (Nat → Nat → Int32) → Prop) : Prop :=
  ∀ (D : va_G) (ac : Nat → ClassId) (A : Nat → Prop) (G : gG) (mo : Nat) (ad : Nat → Nat), Met l y (ws_ y cc nL ret) rm (va_Pc (.ref mo :: As) (mPre D ac A G mo ad v w)) (va_Ql (fun r (u : mSt) => post r u.1 u.2) (mB D ac A G mo ad) A) 0 0 A
/-- a static method of numbers alone -/
abbrev sMi (l : Launch) (y : MethodName) (cc : ByteArray) (nL : Nat) (ret : Option FieldType) (rm : Room) (As : List Value) (r : Int32) : Prop :=
  Met l y (ws_ y cc nL ret) rm (va_Pc As (fun _ => True)) (vp_Si (fun z => z = r)) 0 0 (fun _ => False)
theorem mln_lt (k : Nat) : mln k < 2 ^ 31 := by unfold mln; split <;> decide
theorem MS.start {D : va_G} {ac : Nat → ClassId} {A : Nat → Prop} {G : gG} {mo : Nat} {ad : Nat → Nat} {v : Nat → Int32} {w : Nat → Nat → Int32} {U : State} (h : mPre D ac A G mo ad v w U) : MS D ac A G U.heap mo ad v w U.heap [] := ⟨G, gS.start h.2.1 h.2.2.1, h.2.2.2, KP.rf⟩
theorem mPre.blind {D : va_G} {ac : Nat → ClassId} {A : Nat → Prop} {G : gG} {mo : Nat} {ad : Nat → Nat} {v : Nat → Int32} {w : Nat → Nat → Int32} {av : List Value} : FrameBlind (va_Pc av (mPre D ac A G mo ad v w)) := by
  intro a U g mk q
  obtain ⟨q0, qK, q1, q2, q3⟩ := q
  exact ⟨q0, va_K.moved (u := U) (U := U.calling g mk a) (Vm.Alike.refl U.vm) qK, q1, q2, q3⟩
section MR
variable {p : Program} {l : Launch} {e : Env} {R : Room} {s : State} {m : MethodId} {args : Array Value} {below : List Frame} {meth : Method} {c : Code} {H : Heap} {locs : List Loc} {cells slots : Nat} {Q : State → Prop}
variable {cc : ByteArray} {pc nL : Nat} {ls : Array Slot} {rest : List Value} {D : va_G} {ac : Nat → ClassId} {A : Nat → Prop} {H0 : Heap} {G0 : gG} {own : String} {mo : Nat} {ad : Nat → Nat} {v : Nat → Int32} {w : Nat → Nat → Int32}
theorem m_get (S : CallFix p m c cc nL s args lw_all RX3) (hK : KW D ac s) (hM : MS D ac A G0 H0 mo ad v w H locs) (k : Nat) (hk : k < 26) {index : Nat} (hlink : Cond.fieldLink RX3 index RX3 (TX3 k).2.1 (TX3 k).2.2.1 ∈ lw_all) (hT : (TX3 k).1 = RX3) {x : Value} (hv : (mfs ad v)[k]? = some x) (hdg : decode cc pc = .ok (.getfield index, 3))
    (kk : W p l e R s m args below meth c H locs cells slots Q (F0 m (pc + 3) ls (x :: rest))) : W p l e R s m args below meth c H locs cells slots Q (F0 m pc ls (.ref mo :: rest)) := by
  obtain ⟨G, h1, h2, h3⟩ := hM
  exact g_get S hK h1 h2.1 in_X3 rfl k hk hlink (fun x h => by rw [hT] at h; exact h) hv hdg kk
theorem m_put (S : CallFix p m c cc nL s args lw_all RX3) (hK : KW D ac s) (hM : MS D ac A G0 H0 mo ad v w H locs) (k : Nat) (hk : k < 26) {index : Nat} (hlink : Cond.fieldLink RX3 index RX3 (TX3 k).2.1 (TX3 k).2.2.1 ∈ lw_all) (hT : (TX3 k).1 = RX3) (hfin : (TX3 k).2.2.2 = false) (hty : tyX3 k = .int) {x : Int32} (hv : (mfs ad v).set k (.int x) = mfs ad (upd v k x)) (hdg : decode cc pc = .ok (.putfield index, 3))
    (kk : ∀ (H1 : Heap) (locs1 : List Loc), MS D ac A G0 H0 mo ad (upd v k x) w H1 locs1 → W p l e R s m args below meth c H1 locs1 cells slots Q (F0 m (pc + 3) ls rest)) : W p l e R s m args below meth c H locs cells slots Q (F0 m pc ls (.int x :: .ref mo :: rest)) := by
  obtain ⟨G, h1, h2, h3⟩ := hM
  refine g_put S hK h1 h2.1 in_X3 tyX3 tyX3_ok nmX3 rfl k hk hlink (fun x h => by rw [hT] at h; exact h) hfin (by rw [hty]; rfl) (by rw [hty]; rfl) (by show k < 26; exact hk) hdg (fun H1 locs1 hS _ => ?_)
  rw [hv] at hS
  refine kk H1 locs1 ⟨_, hS, ⟨gup_s _ _ _, fun i hi => ?_⟩, h3.tr (KP.up h2.1)⟩
  rw [gup_n (g_ne (h2.2 i hi) h2.1 (Or.inr (by omega)))]
  exact h2.2 i hi
theorem m_iald (S : CallFix p m c cc nL s args lw_all own) (hK : KW D ac s) (hM : MS D ac A G0 H0 mo ad v w H locs) (k : Nat) (hk : mac k = 0) {n : Nat} {i : Int32} (hi : i = nI n) (hn : n < mln k) (hdg : decode cc pc = .ok (.iaload, 1))
    (kk : W p l e R s m args below meth c H locs cells slots Q (F0 m (pc + 1) ls (.int (w k n) :: rest))) : W p l e R s m args below meth c H locs cells slots Q (F0 m pc ls (.int i :: .ref (ad k) :: rest)) := by
  obtain ⟨G, h1, h2, h3⟩ := hM
  have h := h2.2 k (by omega)
  rw [hk] at h
  exact g_iald S hK h1 h hi hn (mln_lt k) hdg kk
theorem m_zald (S : CallFix p m c cc nL s args lw_all own) (hK : KW D ac s) (hM : MS D ac A G0 H0 mo ad v w H locs) (k : Nat) (hk : mac k = 2) {n : Nat} {i : Int32} (hi : i = nI n) (hn : n < mln k) (hdg : decode cc pc = .ok (.baload, 1))
    (kk : W p l e R s m args below meth c H locs cells slots Q (F0 m (pc + 1) ls (.int (w k n) :: rest))) : W p l e R s m args below meth c H locs cells slots Q (F0 m pc ls (.int i :: .ref (ad k) :: rest)) := by
  obtain ⟨G, h1, h2, h3⟩ := hM
  have h := h2.2 k (by omega)
  rw [hk] at h
  exact g_zald S hK h1 h hi hn (mln_lt k) hdg kk
theorem MU.aset {G : gG} (h2 : MU ac G mo ad v w) {k n : Nat} {x : Int32} (hk : mln k ≠ 0) : MU ac (gup G (ad k) (mo, k + 1, .inl (ac (mac k), mln k, .inl (upd (w k) n x)))) mo ad v (wup w k n x) := by
  refine ⟨?_, fun i hi => ?_⟩
  · rw [gup_n (g_ne h2.1 (h2.2 k hk) (Or.inr (by omega)))]
    exact h2.1
  · by_cases hik : i = k
    · subst hik
      rw [gup_s, wup_s]
    · rw [gup_n (g_ne (h2.2 i hi) (h2.2 k hk) (Or.inr (by omega))), wup_n hik]
      exact h2.2 i hi
theorem m_iast (S : CallFix p m c cc nL s args lw_all own) (hK : KW D ac s) (hM : MS D ac A G0 H0 mo ad v w H locs) (k : Nat) (hk : mac k = 0) {n : Nat} {i x : Int32} (hi : i = nI n) (hn : n < mln k) (hdg : decode cc pc = .ok (.iastore, 1))
    (kk : ∀ (H1 : Heap) (locs1 : List Loc), MS D ac A G0 H0 mo ad v (wup w k n x) H1 locs1 → W p l e R s m args below meth c H1 locs1 cells slots Q (F0 m (pc + 1) ls rest)) : W p l e R s m args below meth c H locs cells slots Q (F0 m pc ls (.int x :: .int i :: .ref (ad k) :: rest)) := by
  obtain ⟨G, h1, h2, h3⟩ := hM
  have h := h2.2 k (by omega)
  have ha := MU.aset h2 (k := k) (n := n) (x := x) (by omega)
  have hp := KP.up (e' := .inl (ac (mac k), mln k, .inl (upd (w k) n x))) h
  rw [hk] at h ha hp
  exact g_iast S hK h1 h hi hn (mln_lt k) hdg (fun H1 locs1 hS _ => kk H1 locs1 ⟨_, hS, ha, h3.tr hp⟩)
theorem m_zast (S : CallFix p m c cc nL s args lw_all own) (hK : KW D ac s) (hM : MS D ac A G0 H0 mo ad v w H locs) (k : Nat) (hk : mac k = 2) {n : Nat} {i x : Int32} (hi : i = nI n) (hn : n < mln k) (hdg : decode cc pc = .ok (.bastore, 1))
    (kk : ∀ (H1 : Heap) (locs1 : List Loc), MS D ac A G0 H0 mo ad v (wup w k n (vp_nar .boolean x)) H1 locs1 → W p l e R s m args below meth c H1 locs1 cells slots Q (F0 m (pc + 1) ls rest)) : W p l e R s m args below meth c H locs cells slots Q (F0 m pc ls (.int x :: .int i :: .ref (ad k) :: rest)) := by
  obtain ⟨G, h1, h2, h3⟩ := hM
  have h := h2.2 k (by omega)
  have ha := MU.aset h2 (k := k) (n := n) (x := vp_nar .boolean x) (by omega)
  have hp := KP.up (e' := .inl (ac (mac k), mln k, .inl (upd (w k) n (vp_nar .boolean x)))) h
  rw [hk] at h ha hp
  exact g_zast S hK h1 h hi hn (mln_lt k) hdg (fun H1 locs1 hS _ => kk H1 locs1 ⟨_, hS, ha, h3.tr hp⟩)
theorem MS.after {G : gG} {H1 : Heap} {locs1 : List Loc} {t : State} {u : mSt} (h1 : gS D A H0 G H locs) (h3 : KP mo G0 G) (hB : mB D ac A G mo ad u t) (ht : t.heap = H1) (hz : H.size ≤ H1.size) (hS : va_S A H0 H1 locs1) : MS D ac A G0 H0 mo ad u.1 u.2 H1 locs1 := by
  obtain ⟨G1, g1, g2, g3⟩ := hB
  rw [ht] at g1
  exact ⟨G1, ⟨g1, hS, fun q hq => h1.2.2 q (by omega)⟩, g2, h3.tr g3⟩
theorem MS.recv {G : gG} (hK : KW D ac s) (h1 : gS D A H0 G H locs) (h2 : MU ac G mo ad v w) : ∃ cellB : Cell, H[mo]? = some cellB ∧ cellB.vm.isStatics = false ∧ s.vm.findClass RX3 = some cellB.cls :=
  va_recv (D := D) (cl := vwCl) (tys := acTy ac) hK (h1.1.one h2.1) (ci := 3) (q0 := 0) rfl rfl
section MRC
variable {y : MethodName} {bytes : ByteArray} {maxL n index : Nat} {ret : Option FieldType} {rm : Room} {As st0 : List Value}
/-- a call of the reference's own method, through this; 'cl' says what the words and the room say -/
theorem m_cv (S : CallFix p m c cc nL s args lw_all RX3) (hK : KW D ac s) (hM : MS D ac A G0 H0 mo ad v w H locs) {post : (Nat → Int32) → (Nat → Nat → Int32) → Prop} (hMet : mMv l y bytes maxL ret rm As v w post) (cw : CallW R s args RX3 RX3 index y bytes maxL ret (ws_ y bytes maxL ret) rm 0 0 n) (hn : As.length = n) (hls : ls.size = nL) (hst : st0 = As.reverse ++ .ref mo :: rest) (hW : 2 * (F0 m pc ls st0).monitorRoom + (rest.map fun v => v.category).sum ≤ 8) (hdg : decode cc pc = .ok (.invokevirtual index, 3)) (hc : cells ≤ R.cells ∧ slots ≤ R.slots)
    (kk : ∀ (v1 : Nat → Int32) (w1 : Nat → Nat → Int32) (H1 : Heap) (locs1 : List Loc), post v1 w1 → MS D ac A G0 H0 mo ad v1 w1 H1 locs1 → W p l e R s m args below meth c H1 locs1 cells slots Q (F0 m (pc + 3) ls rest)) : W p l e R s m args below meth c H locs cells slots Q (F0 m pc ls st0) := by
  obtain ⟨G, h1, h2, h3⟩ := hM
  exact va_callv (va_runV (As := As) (rest := rest) S (hMet D ac A G mo ad) cw ⟨mPre.blind, MS.recv hK h1 h2, fun U hU hW => ⟨rfl, va_K.moved hW.alike hK, by rw [hU]; exact h1.1, by rw [hU]; exact h1.2.2, h2⟩⟩ rfl hn hls hst hW hdg hc) h1.2.1 (fun _ _ h => h) (fun _ h => h)
    (fun u t H1 locs1 ht hvm hp hB hz hk hS => kk u.1 u.2 H1 locs1 hp (MS.after h1 h3 hB ht hz hS))
theorem m_ci (S : CallFix p m c cc nL s args lw_all RX3) (hK : KW D ac s) (hM : MS D ac A G0 H0 mo ad v w H locs) {post : Int32 → (Nat → Int32) → (Nat → Nat → Int32) → Prop} (hMet : mMi l y bytes maxL ret rm As v w post) (cw : CallW R s args RX3 RX3 index y bytes maxL ret (ws_ y bytes maxL ret) rm 0 0 n) (hn : As.length = n) (hls : ls.size = nL) (hst : st0 = As.reverse ++ .ref mo :: rest) (hW : 2 * (F0 m pc ls st0).monitorRoom + (rest.map fun v => v.category).sum ≤ 8) (hdg : decode cc pc = .ok (.invokevirtual index, 3)) (hc : cells ≤ R.cells ∧ slots ≤ R.slots)
    (kk : ∀ (r : Int32) (v1 : Nat → Int32) (w1 : Nat → Nat → Int32) (H1 : Heap) (locs1 : List Loc), post r v1 w1 → MS D ac A G0 H0 mo ad v1 w1 H1 locs1 → W p l e R s m args below meth c H1 locs1 cells slots Q (F0 m (pc + 3) ls (.int r :: rest))) : W p l e R s m args below meth c H locs cells slots Q (F0 m pc ls st0) := by
  obtain ⟨G, h1, h2, h3⟩ := hM
  exact va_calli (va_runV (As := As) (rest := rest) S (hMet D ac A G mo ad) cw ⟨mPre.blind, MS.recv hK h1 h2, fun U hU hW => ⟨rfl, va_K.moved hW.alike hK, by rw [hU]; exact h1.1, by rw [hU]; exact h1.2.2, h2⟩⟩ rfl hn hls hst hW hdg hc) h1.2.1 (fun _ _ h => h) (fun _ h => h)
    (fun r u t H1 locs1 ht hvm hp hB hz hk hS => kk r u.1 u.2 H1 locs1 hp (MS.after h1 h3 hB ht hz hS))
theorem m_cl (S : CallFix p m c cc nL s args lw_all RX3) (hK : KW D ac s) (hM : MS D ac A G0 H0 mo ad v w H locs) {post : Int64 → (Nat → Int32) → (Nat → Nat → Int32) → Prop} (hMet : mMl l y bytes maxL ret rm As v w post) (cw : CallW R s args RX3 RX3 index y bytes maxL ret (ws_ y bytes maxL ret) rm 0 0 n) (hn : As.length = n) (hls : ls.size = nL) (hst : st0 = As.reverse ++ .ref mo :: rest) (hW : 2 * (F0 m pc ls st0).monitorRoom + (rest.map fun v => v.category).sum ≤ 8) (hdg : decode cc pc = .ok (.invokevirtual index, 3)) (hc : cells ≤ R.cells ∧ slots ≤ R.slots)
    (kk : ∀ (r : Int64) (v1 : Nat → Int32) (w1 : Nat → Nat → Int32) (H1 : Heap) (locs1 : List Loc), post r v1 w1 → MS D ac A G0 H0 mo ad v1 w1 H1 locs1 → W p l e R s m args below meth c H1 locs1 cells slots Q (F0 m (pc + 3) ls (.long r :: rest))) : W p l e R s m args below meth c H locs cells slots Q (F0 m pc ls st0) := by
  obtain ⟨G, h1, h2, h3⟩ := hM
  exact va_calll (va_runV (As := As) (rest := rest) S (hMet D ac A G mo ad) cw ⟨mPre.blind, MS.recv hK h1 h2, fun U hU hW => ⟨rfl, va_K.moved hW.alike hK, by rw [hU]; exact h1.1, by rw [hU]; exact h1.2.2, h2⟩⟩ rfl hn hls hst hW hdg hc) h1.2.1 (fun _ _ h => h) (fun _ h => h)
    (fun r u t H1 locs1 ht hvm hp hB hz hk hS => kk r u.1 u.2 H1 locs1 hp (MS.after h1 h3 hB ht hz hS))
/-- a call of a static method of numbers -/
theorem s_ci (S : CallFix p m c cc nL s args lw_all own) {r : Int32} (hMet : sMi l y bytes maxL ret rm As r) (cw : CallB R s args own index y bytes maxL ret (ws_ y bytes maxL ret) rm 0 0 n ∧ (Cond.static y).before args s = true) (hn : As.length = n) (hls : ls.size = nL) (hst : st0 = As.reverse ++ rest) (hW : 2 * (F0 m pc ls st0).monitorRoom + (rest.map fun v => v.category).sum ≤ 8) (hdg : decode cc pc = .ok (.invokestatic index, 3)) (hc : cells ≤ R.cells ∧ slots ≤ R.slots)
    (kk : W p l e R s m args below meth c H locs cells slots Q (F0 m (pc + 3) ls (.int r :: rest))) : W p l e R s m args below meth c H locs cells slots Q (F0 m pc ls st0) := by
  have hr := va_runS (H := H) (locs := locs) (cells := cells) (slots := slots) (below := below) (meth := meth) (e := e) (g := F0 m pc ls st0) (As := As) (rest := rest) S hMet cw ⟨fun a U g mk q => q, fun U _ _ => ⟨rfl, trivial⟩⟩ rfl hn hls hst hW hdg hc
  intro T hT X
  obtain ⟨v, st₀, t, T', L, h0, X', hL, e1, e2, ⟨r', hv, hp, hb⟩, st⟩ := hr T hT X
  cases hv
  subst hp
  obtain ⟨t2, a1, b1⟩ := kk T' (by rw [e1, hb, h0]) (Stand.forget X' (fun q h => (hL q h).elim))
  exact ⟨t2, st t2 a1, b1⟩
end MRC
end MR
/-- loops: a measure that falls -/
theorem w_ind {p : Program} {l : Launch} {e : Env} {R : Room} {s : State} {m : MethodId} {args : Array Value} {below : List Frame} {meth : Method} {c : Code} {cells slots : Nat} {Q : State → Prop} {α : Type} (pc : Nat) (μ : α → Nat) (I : α → Heap → List Loc → Array Slot → Prop)
    (step : ∀ (x : α) (H : Heap) (locs : List Loc) (ls : Array Slot), I x H locs ls → (∀ (x' : α) (H' : Heap) (locs' : List Loc) (ls' : Array Slot), μ x' < μ x → I x' H' locs' ls' → W p l e R s m args below meth c H' locs' cells slots Q (F0 m pc ls' [])) → W p l e R s m args below meth c H locs cells slots Q (F0 m pc ls []))
    (x : α) {H : Heap} {locs : List Loc} {ls : Array Slot} (h : I x H locs ls) : W p l e R s m args below meth c H locs cells slots Q (F0 m pc ls []) := by
  have key : ∀ (n : Nat) (x : α) (H : Heap) (locs : List Loc) (ls : Array Slot), μ x < n → I x H locs ls → W p l e R s m args below meth c H locs cells slots Q (F0 m pc ls []) := by
    intro n
    induction n with
    | zero => intro x H locs ls h1; omega
    | succ n ih =>
      intro x H locs ls h1 h2
      exact step x H locs ls h2 (fun x' H' locs' ls' h3 h4 => ih x' H' locs' ls' (by omega) h4)
  exact key (μ x + 1) x H locs ls (by omega) h
/-- joins: what is behind is shown once -/
theorem w_join {p : Program} {l : Launch} {e : Env} {R : Room} {s : State} {m : MethodId} {args : Array Value} {below : List Frame} {meth : Method} {c : Code} {cells slots : Nat} {Q : State → Prop} {H : Heap} {locs : List Loc} {g : JFrame} {α : Type} (pc : Nat) (I : α → Heap → List Loc → Array Slot → List Value → Prop)
    (k : ∀ (x : α) (H : Heap) (locs : List Loc) (ls : Array Slot) (st : List Value), I x H locs ls st → W p l e R s m args below meth c H locs cells slots Q (F0 m pc ls st))
    (go : (∀ (x : α) (H : Heap) (locs : List Loc) (ls : Array Slot) (st : List Value), I x H locs ls st → W p l e R s m args below meth c H locs cells slots Q (F0 m pc ls st)) → W p l e R s m args below meth c H locs cells slots Q g) : W p l e R s m args below meth c H locs cells slots Q g := go k
