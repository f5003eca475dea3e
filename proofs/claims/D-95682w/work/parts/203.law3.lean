/-! The law's own rows: the script read, a call of the component, a call of the reference. -/
set_option maxRecDepth 100000
theorem CI.m3 {κ : Nat → Nat} {O O1 : gO} {no : Nat} {v : Nat → Int32} {w : Nat → Nat → Int32} (h : CI κ O no v w) (kx : ∀ (q ci : Nat) (fs : List Value) (ar : gA), ci ≠ 3 → O q = some (.inr (ci, fs, ar)) → O1 q = some (.inr (ci, fs, ar))) : CI κ O1 no v w := by
  obtain ⟨cv, ad, g, cw, hx⟩ := CI.x.mp h
  obtain ⟨h1, h2, h3, h4, hr, hR, hA, hP, hI, hT⟩ := CIx.iff.mp hx
  have hm : kpM O O1 := fun b ci fs ar h8 hb => kx b ci fs ar (by omega) hb
  have kr : ∀ q x, (∃ fs ar, O q = some (.inr (1, fs, ar))) → O q = some x → O1 q = some x := by
    rintro q x ⟨fs, ar, hc⟩ hq
    cases hc.symm.trans hq
    exact kx q 1 fs ar (by decide) hc
  refine CI.x.mpr ⟨cv, ad, g, cw, CIx.iff.mpr ⟨kx _ _ _ _ (by decide) h1, h2, h3, h4.kp (fun q fs ar => kx q 5 fs ar (by decide)) rfl rfl rfl rfl, hr, hR.kp (fun x hx => kr _ x ?_ hx) hm, ?_, ?_, ?_, hT.kp (fun q fs ar => kx q 2 fs ar (by decide)) rfl rfl⟩⟩
  · obtain ⟨_, _, _, _, _, _, z, -⟩ := hR; exact ⟨_, _, z⟩
  · obtain ⟨a1, a2, a3, z⟩ := hA; exact ⟨a1, a2, a3, kx _ _ _ _ (by decide) z⟩
  · intro a ea ha j hj
    refine ⟨(hP a ea ha j hj).1, fun q hq => ?_⟩
    obtain ⟨pv, pd, pw, z1, z2⟩ := (hP a ea ha j hj).2 q hq
    exact ⟨pv, pd, pw, kx _ _ _ _ (by decide) z1, z2⟩
  · intro j hj
    refine ⟨(hI j hj).1, fun q hq => ((hI j hj).2 q hq).kp (fun x hx => kr q x ?_ hx) hm⟩
    obtain ⟨_, _, _, _, _, _, z1, -⟩ := (hI j hj).2 q hq
    exact ⟨_, _, z1⟩
theorem CI.up3 {κ : Nat → Nat} {O : gO} {no mo : Nat} {v v1 v2 : Nat → Int32} {w w1 w2 : Nat → Nat → Int32} {ad : Nat → Nat} (h : CI κ O no v w) (hm : O mo = some (m3U ad v1 w1)) : CI κ (oup O mo (m3U ad v2 w2)) no v w := by
  refine h.m3 (fun q ci fs ar hc hq => ?_)
  rw [oup_n (o_ne hq hm hc)]
  exact hq
/-- the component and the reference tell the same numbers -/
def LI (κ : Nat → Nat) (O : gO) (no mo : Nat) (ad : Nat → Nat) (v : Nat → Int32) (w : Nat → Nat → Int32) : Prop := O mo = some (m3U ad v w) ∧ CI κ O no v w ∧ INV v w
def R_law : String := "NightStonesLaw"
/-- what stands all through the law -/
def LF (p : Program) (m : MethodId) (c : Code) (s : State) (b L : Nat) (xs : Nat → Int32) (D : va_G) (ac : Nat → ClassId) (A : Nat → Prop) (κ : Nat → Nat) : Prop :=
  CallFix p m c cL_law 4 s #[Value.ref b] lw_all R_law ∧ KZ D ac A κ s ∧ va_X b L xs s s.heap ∧ b < s.heap.size ∧ ¬ A b ∧ L ≤ 384
theorem OS.vs {D : va_G} {ac : Nat → ClassId} {A : Nat → Prop} {H0 H : Heap} {O : gO} {locs : List Loc} (h : OS D ac A H0 O H locs) : va_S A H0 H locs := by
  obtain ⟨G, h1, -⟩ := h
  exact h1.2.1
section LR
variable {p : Program} {l : Launch} {e : Env} {s : State} {m : MethodId} {below : List Frame} {meth : Method} {c : Code} {H : Heap} {locs : List Loc} {cells slots : Nat} {Q : State → Prop}
variable {pc : Nat} {ls : Array Slot} {rest st0 : List Value} {D : va_G} {ac : Nat → ClassId} {A : Nat → Prop} {κ : Nat → Nat} {O : gO} {b L : Nat} {xs : Nat → Int32} {no mo : Nat} {ad : Nat → Nat} {v : Nat → Int32} {w : Nat → Nat → Int32}
/-- script[i + j] -/
theorem law_arg (F : LF p m c s b L xs D ac A κ) (hM : OS D ac A s.heap O H locs) {i : Nat} (hl : lv_has ls 4 [(3, .int (nI i)), (0, .ref b), (1, .ref no), (2, .ref mo)]) (j : Nat) (hj : i + j < L) {n : Int} (d0 : decode cL_law pc = .ok (.aload_n 0, 1)) (d1 : decode cL_law (pc + 1) = .ok (.iload_n 3, 1)) (d2 : decode cL_law (pc + 2) = .ok (.iconst n, 1)) (d3 : decode cL_law (pc + 3) = .ok (.iadd, 1)) (d4 : decode cL_law (pc + 4) = .ok (.iaload, 1)) (hv : Int32.ofInt n = nI j)
    (kk : W p l e room_1 s m #[Value.ref b] below meth c H locs cells slots Q (F0 m (pc + 5) ls (.int (xs (i + j)) :: rest))) : W p l e room_1 s m #[Value.ref b] below meth c H locs cells slots Q (F0 m pc ls rest) := by
  obtain ⟨hC, hK, hX, hbl, hbA, hL⟩ := F
  refine lv_aload_n hC.1 hC.2.1 d0 rfl (lv_at hl 1 rfl) ?_
  refine lv_iload_n hC.1 hC.2.1 d1 rfl (lv_at hl 0 rfl) ?_
  refine lv_iconst (v := nI j) hC.1 hC.2.1 d2 hv ?_
  refine lv_iadd hC.1 hC.2.1 d3 ?_
  rw [nI_add]
  have e1 : (nI (i + j)).toNatClampNeg = i + j := nI_clamp (by omega)
  refine va_sld hC.1 hC.2.1 hX hbl hbA hM.vs ?_ d4 ?_
  · unfold vp_in
    rw [e1]
    rintro (h | h)
    · exact absurd h (nI_pos (by omega))
    · omega
  · rw [e1]
    exact kk
theorem law_cx (F : LF p m c s b L xs D ac A κ) (hM : OS D ac A s.heap O H locs) (hI : LI κ O no mo ad v w) {y : MethodName} {bytes : ByteArray} {maxL n index : Nat} {As : List Value} {t : mR} (hc : cX l κ y (ws_ y bytes maxL (some .int)) As O no t) (hcw : CallW room_1 s #[Value.ref b] R_law RX0 index y bytes maxL (some .int) (ws_ y bytes maxL (some .int)) RMX RMX.cells RMX.slots n) (hn : As.length = n) (hls : ls.size = 4) (hst : st0 = As.reverse ++ .ref no :: rest) (hW : 2 * (F0 m pc ls st0).monitorRoom + (rest.map fun v => v.category).sum ≤ 8) (hdg : decode cL_law pc = .ok (.invokevirtual index, 3)) (hf : cells + 623 ≤ 603072 ∧ slots + 102690 ≤ 7262314)
    (kk : ∀ (O1 : gO) (H1 : Heap) (locs1 : List Loc), CI κ O1 no t.2.1 t.2.2 → O1 mo = some (m3U ad v w) → OS D ac A s.heap O1 H1 locs1 → W p l e room_1 s m #[Value.ref b] below meth c H1 locs1 (cells + 623) (slots + 102690) Q (F0 m (pc + 3) ls (.int t.1 :: rest))) : W p l e room_1 s m #[Value.ref b] below meth c H locs cells slots Q (F0 m pc ls st0) := by
  obtain ⟨cv, ad0, g, cw, hx⟩ := CI.x.mp hI.2.1
  exact o_cV (rm := RMX) (ret := some .int) F.1 F.2.1 hM hx.1 rfl hc hcw hn hls hst hW hdg hf (fun rv O1 H1 locs1 hp h => by
    obtain ⟨rfl, h2, h3⟩ := hp
    exact kk O1 H1 locs1 h2 (h3 mo _ _ hI.1) h)
theorem law_cw (F : LF p m c s b L xs D ac A κ) (hM : OS D ac A s.heap O H locs) (hI : LI κ O no mo ad v w) {y : MethodName} {bytes : ByteArray} {maxL n index : Nat} {As : List Value} {t : mR} {hh : List (Nat × Nat × Nat × Nat)} (hc : cX l κ y (wsW_ y bytes maxL (some .int) hh) As O no t) (hlk : Cond.methodLink R_law index y ∈ lw_all) (hin : Cond.instanceMethod y ∈ lw_all) (hse : Cond.selects RX0 y y ∈ lw_all) (hini : Cond.initialized y.cls ∈ lw_all) (hcode : Cond.codeWith y bytes maxL (some .int) hh ∈ lw_all) (hy : y.cls ≠ "java/lang/invoke/MethodHandle" ∧ y.cls ≠ "java/lang/invoke/VarHandle") (hln : (parseMethodDescriptor y.desc).map (fun d => d.parameters.length) = some n) (hR : 8 + (maxL + 11) + 10260 ≤ 11156) (hn : As.length = n) (hls : ls.size = 4) (hst : st0 = As.reverse ++ .ref no :: rest) (hW : 2 * (F0 m pc ls st0).monitorRoom + (rest.map fun v => v.category).sum ≤ 8) (hdg : decode cL_law pc = .ok (.invokevirtual index, 3)) (hf : cells + 623 ≤ 603072 ∧ slots + 102690 ≤ 7262314)
    (kk : ∀ (O1 : gO) (H1 : Heap) (locs1 : List Loc), CI κ O1 no t.2.1 t.2.2 → O1 mo = some (m3U ad v w) → OS D ac A s.heap O1 H1 locs1 → W p l e room_1 s m #[Value.ref b] below meth c H1 locs1 (cells + 623) (slots + 102690) Q (F0 m (pc + 3) ls (.int t.1 :: rest))) : W p l e room_1 s m #[Value.ref b] below meth c H locs cells slots Q (F0 m pc ls st0) := by
  obtain ⟨cv, ad0, g, cw, hx⟩ := CI.x.mp hI.2.1
  exact o_run hM (x_runVW (rm := RMX) (As := As) (rest := rest) (g := F0 m pc ls st0) F.1 (hc D ac A) hlk hin hse hini hcode hy hln ⟨by decide, hR⟩ ⟨oPre.blind, OS.recv F.2.1 hM hx.1 rfl, fun U hU hW => ⟨rfl, OS.pre F.2.1 hM hU hW⟩⟩ rfl hn hls hst hW hdg hf) (fun rv O1 H1 locs1 hp h => by
    obtain ⟨rfl, h2, h3⟩ := hp
    exact kk O1 H1 locs1 h2 (h3 mo _ _ hI.1) h)
theorem law_rx (F : LF p m c s b L xs D ac A κ) (hM : OS D ac A s.heap O H locs) {t : mR} (hC : CI κ O no t.2.1 t.2.2) (hm : O mo = some (m3U ad v w)) (hi : iV t) {y : MethodName} {bytes : ByteArray} {maxL n index : Nat} {As : List Value} (hr : rX l y bytes maxL As v w t) (hcw : CallW room_1 s #[Value.ref b] R_law RX3 index y bytes maxL (some .int) (ws_ y bytes maxL (some .int)) RM3 0 0 n) (hn : As.length = n) (hls : ls.size = 4) (hst : st0 = As.reverse ++ .ref mo :: rest) (hW : 2 * (F0 m pc ls st0).monitorRoom + (rest.map fun v => v.category).sum ≤ 8) (hdg : decode cL_law pc = .ok (.invokevirtual index, 3)) (hf : cells ≤ 603072 ∧ slots ≤ 7262314)
    (kk : ∀ (O1 : gO) (v1 : Nat → Int32) (w1 : Nat → Nat → Int32) (H1 : Heap) (locs1 : List Loc), LI κ O1 no mo ad v1 w1 → OS D ac A s.heap O1 H1 locs1 → W p l e room_1 s m #[Value.ref b] below meth c H1 locs1 cells slots Q (F0 m (pc + 3) ls (.int t.1 :: rest))) : W p l e room_1 s m #[Value.ref b] below meth c H locs cells slots Q (F0 m pc ls st0) := by
  have hP : PS D ac A s.heap O [(mo, m3U ad v w)] H locs := by
    refine ⟨?_, by simp⟩
    have e1 : oups O [(mo, m3U ad v w)] = O := by
      funext q
      show oup O mo (m3U ad v w) q = O q
      by_cases h : q = mo
      · subst h; rw [oup, if_pos rfl]; exact hm.symm
      · rw [oup_n h]
    rw [e1]
    exact hM
  refine r_ci F.1 F.2.1 hP 0 rfl hr hcw hn hls hst hW hdg hf (fun r v1 w1 H1 locs1 hp h => ?_)
  obtain ⟨rfl, hv, hw⟩ := hp
  have e2 : oups O ([(mo, m3U ad v w)].set 0 (mo, m3U ad v1 w1)) = oup O mo (m3U ad v1 w1) := rfl
  have h2 := h.1
  rw [e2] at h2
  exact kk _ v1 w1 H1 locs1 ⟨if_pos rfl, (hC.agr hv hw).up3 hm, hi.agr hv hw⟩ h2
end LR
