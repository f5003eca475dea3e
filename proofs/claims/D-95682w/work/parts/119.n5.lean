set_option maxHeartbeats 400000 in
set_option maxRecDepth 100000 in
theorem cn_at (l : Launch) (κ : Nat → Nat) (O : gO) (no : Nat) (cv : Nat → Int32) (ad : Nat → Nat) (g : Nat → Nat → Option Nat) (cw : Nat → Nat → Int32) (i j : Nat) (hN : O no = some (nsU cv ad g cw)) : oM l κ yX0_at cX0_at 3 (some .int) ({ frames := 0, cells := 0, slots := 0, locals := 0 }) [.ref no, .int (nI i), .int (nI j)] O (fun rv O1 => rv = some (.int (nI (7 * i + j))) ∧ O1 = O) := by
  intro D ac A
  refine o_body (own := RX0) rfl (plainFor_of_name (by decide)) (Nat.le_of_ble_eq_true rfl) ?_
  intro p e s m args below meth c ls hC hr hlocks hK hM hl hnamed hmeth
  have hl : lv_has ls 3 [(0, .ref no), (1, .int (nI i)), (2, .int (nI j))] := hl
  have hM := PS.of hM [(no, nsU cv ad g cw)] ⟨hN, trivial⟩ (by simp [oad])
  refine lv_bipush (v := 7) hC.1 hC.2.1 dX0_at_0 (by decide) ?_
  refine lv_iload_n hC.1 hC.2.1 dX0_at_2 rfl (lv_at hl 1 rfl) ?_
  refine lv_imul hC.1 hC.2.1 dX0_at_3 ?_
  refine lv_iload_n hC.1 hC.2.1 dX0_at_4 rfl (lv_at hl 2 rfl) ?_
  refine lv_iadd hC.1 hC.2.1 dX0_at_5 ?_
  skip
  refine p_iret hC hr hlocks hM dX0_at_6 ?_
  exact ⟨by rw [at7], oup_same hN⟩

set_option maxHeartbeats 400000 in
set_option maxRecDepth 100000 in
theorem cn_lessen (l : Launch) (κ : Nat → Nat) (O : gO) (no : Nat) (cv : Nat → Int32) (ad : Nat → Nat) (g : Nat → Nat → Option Nat) (cw : Nat → Nat → Int32) (i j : Nat) (x : Int32) (hN : O no = some (nsU cv ad g cw)) (hi : i ≤ 6) (hj : j ≤ 6) : oM l κ yX0_lessen cX0_lessen 4 none ({ frames := 1, cells := 0, slots := 0, locals := 22 }) [.ref no, .int (nI i), .int (nI j), .int x] O (fun rv O1 => O1 = oup O no (nsU cv ad g (wput cw 11 (atM (cw 11) i j x))) ∧ rv = none) := by
  intro D ac A
  refine o_body (own := RX0) rfl (plainFor_of_name (by decide)) (Nat.le_of_ble_eq_true rfl) ?_
  intro p e s m args below meth c ls hC hr hlocks hK hM hl hnamed hmeth
  have hl : lv_has ls 4 [(0, .ref no), (1, .int (nI i)), (2, .int (nI j)), (3, .int x)] := hl
  have hM := PS.of hM [(no, nsU cv ad g cw)] ⟨hN, trivial⟩ (by simp [oad])
  refine lv_aload_n hC.1 hC.2.1 dX0_lessen_0 rfl (lv_at hl 0 rfl) ?_
  refine p_get hC hK hM 0 rfl in_X0 rfl 11 (by decide) q230 (fun x h => h) rfl dX0_lessen_1 ?_
  refine lv_aload_n hC.1 hC.2.1 dX0_lessen_4 rfl (lv_at hl 0 rfl) ?_
  refine lv_iload_n hC.1 hC.2.1 dX0_lessen_5 rfl (lv_at hl 1 rfl) ?_
  refine lv_iload_n hC.1 hC.2.1 dX0_lessen_6 rfl (lv_at hl 2 rfl) ?_
  refine p_cVe (L' := [_]) hC hK hM (hM.at 0 rfl) rfl (cn_at l κ _ no cv ad g cw i j (hM.at 0 rfl)) (cwV 2 hC.2.2.2.2 (lw_V q1035 q1037 qs21 q63 q1038) rfl rfl rfl (by decide +kernel) ⟨(Nat.le_of_ble_eq_true rfl), (Nat.le_of_ble_eq_true rfl)⟩) rfl hl.1 rfl (lv_room (Nat.le_of_ble_eq_true rfl)) dX0_lessen_7 ⟨(Nat.le_of_ble_eq_true rfl), (Nat.le_of_ble_eq_true rfl)⟩ rfl hM.2 (fun H locs hM => ?_)
  refine lv_aload_n hC.1 hC.2.1 dX0_lessen_10 rfl (lv_at hl 0 rfl) ?_
  refine p_get hC hK hM 0 rfl in_X0 rfl 11 (by decide) q230 (fun x h => h) rfl dX0_lessen_11 ?_
  refine lv_aload_n hC.1 hC.2.1 dX0_lessen_14 rfl (lv_at hl 0 rfl) ?_
  refine lv_iload_n hC.1 hC.2.1 dX0_lessen_15 rfl (lv_at hl 1 rfl) ?_
  refine lv_iload_n hC.1 hC.2.1 dX0_lessen_16 rfl (lv_at hl 2 rfl) ?_
  refine p_cVe (L' := [_]) hC hK hM (hM.at 0 rfl) rfl (cn_at l κ _ no cv ad g cw i j (hM.at 0 rfl)) (cwV 2 hC.2.2.2.2 (lw_V q1035 q1037 qs21 q63 q1038) rfl rfl rfl (by decide +kernel) ⟨(Nat.le_of_ble_eq_true rfl), (Nat.le_of_ble_eq_true rfl)⟩) rfl hl.1 rfl (lv_room (Nat.le_of_ble_eq_true rfl)) dX0_lessen_17 ⟨(Nat.le_of_ble_eq_true rfl), (Nat.le_of_ble_eq_true rfl)⟩ rfl hM.2 (fun H locs hM => ?_)
  refine p_iald hC hK hM 0 rfl 11 rfl rfl (n := (7 * i + j)) rfl (by show _ < 49; omega) (by decide) dX0_lessen_20 ?_
  refine lv_iload_n hC.1 hC.2.1 dX0_lessen_21 rfl (lv_at hl 3 rfl) ?_
  refine va_mmin hC.1 hC.2.1 (hC.2.2.1.trans hl.1.symm) hC.2.2.2.1 (hC.2.2.2.2 _ q1043) (hC.2.2.2.2 _ q548) (hC.2.2.2.2 _ q84) (hC.2.2.2.2 _ q549) (Nat.le_of_ble_eq_true rfl) (Nat.le_of_ble_eq_true rfl) (Nat.le_of_ble_eq_true rfl) (Nat.le_of_ble_eq_true rfl) dX0_lessen_22 ?_
  refine p_iast (L' := [_]) hC hK hM 0 rfl 11 rfl rfl (n := (7 * i + j)) rfl (by show _ < 49; omega) (by decide) (nar_11 _ _ _) rfl dX0_lessen_25 (fun H locs hM => ?_)
  skip
  refine p_vret hC hr hlocks hM dX0_lessen_26 ?_
  exact ⟨rfl, rfl⟩

set_option maxHeartbeats 400000 in
set_option maxRecDepth 100000 in
theorem cn_measureB (l : Launch) (κ : Nat → Nat) (O : gO) (no : Nat) (cv : Nat → Int32) (ad : Nat → Nat) (g : Nat → Nat → Option Nat) (cw : Nat → Nat → Int32) (rx : Nat → Int32) (rd : Nat → Nat) (rw : Nat → Nat → Int32) (ro : Nat → Int32) (hN : O no = some (nsU cv ad g cw)) (hR : O (ad 4) = some (rdU rx rd rw)) (r0 : ro 0 = rx 0) (rT : ∀ q, q < 48 → ro (46 + q) = rw 10 q) (n : Nat) (en : rx 4 = nI n) (hn : n ≤ 6) (tm : Nat) (et : rx 11 = nI tm) (ht : tm ≤ 12) (hto : tmOk ro n tm) (F3 : Nat → Int32) (hF3 : F3 = csT ro (csS n (inA (rx 0) n (cw 11) (n + 1)) n) tm) {D : va_G} {ac : Nat → ClassId} {A : Nat → Prop} {p : Program} {e : Env} {s : State} {m : MethodId} {args : Array Value} {below : List Frame} {meth : Method} {c : Code} {ls : Array Slot} {H : Heap} {locs : List Loc} (hC : CallFix p m c cX0_measure 5 s args lw_all RX0) (hr : meth.sig.returnType = some .boolean) (hlocks : meth.locks = false) (hK : KZ D ac A κ s) (hM : PS D ac A s.heap O [(no, nsU cv ad g (wput cw 11 (F3))), (ad 4, rdU rx rd rw)] H locs) (hl : lv_has ls 5 [(0, .ref no), (1, .int (nI n))]) : W p l e ({ frames := 2, cells := 0, slots := 0, locals := 45 }) s m args below meth c H locs (0) (0) (MQ below (oQ D ac A (fun rv O1 => rv = some (.int (bI (okC (clC ro (cw 11) n tm) (n + 1) = true))) ∧ O1 = oup O no (nsU cv ad g (wput cw 11 (clC ro (cw 11) n tm))))) args s 0 0 A) (F0 m 209 ls []) := by
  refine lv_iconst (v := 0) hC.1 hC.2.1 dX0_measure_209 (by decide) ?_
  refine lv_istore_n (lv' := [(2, _), (0, _), (1, _)]) hC.1 hC.2.1 dX0_measure_210 rfl hl (by decide) rfl (fun ls hl => ?_)
  refine w_ind (α := Nat) 211 (fun (u : Nat) => n + 1 - u) (fun (u : Nat) (H : Heap) (locs : List Loc) (ls : Array Slot) => (u ≤ n + 1) ∧ PS D ac A s.heap O [(no, nsU cv ad g (wput cw 11 (cwM n F3 u))), (ad 4, rdU rx rd rw)] H locs ∧ lv_has ls 5 [(0, .ref no), (1, .int (nI n)), (2, .int (nI u))]) ?_ (0) ⟨by omega, by rw [cwM]; exact hM, lv_sub hl [1, 2, 0] rfl⟩
  intro u H locs ls hI ih211
  obtain ⟨hI211, hM, hl⟩ := hI
  refine lv_iload_n hC.1 hC.2.1 dX0_measure_211 rfl (lv_at hl 2 rfl) ?_
  refine lv_iload_n hC.1 hC.2.1 dX0_measure_212 rfl (lv_at hl 1 rfl) ?_
  refine lv_icmp_gt (tgt := 281) hC.1 hC.2.1 dX0_measure_213 (by decide) (fun c4 => ?_) (fun c4 => ?_)
  ·
    have nc4 := Int32.not_le.mpr c4
    have hx213 := nlt_t (a := n) (b := u) c4
    obtain rfl : u = n + 1 := by omega
    refine lv_iconst (v := 1) hC.1 hC.2.1 dX0_measure_281 (by decide) ?_
    refine lv_istore_n (lv' := [(2, _), (0, _), (1, _)]) hC.1 hC.2.1 dX0_measure_282 rfl hl (by decide) rfl (fun ls hl => ?_)
    refine lv_iconst (v := 0) hC.1 hC.2.1 dX0_measure_283 (by decide) ?_
    refine lv_istore_n (lv' := [(3, _), (2, _), (0, _), (1, _)]) hC.1 hC.2.1 dX0_measure_284 rfl hl (by decide) rfl (fun ls hl => ?_)
    refine w_ind (α := Nat) 285 (fun (a : Nat) => n + 1 - a) (fun (a : Nat) (H : Heap) (locs : List Loc) (ls : Array Slot) => (a ≤ n + 1) ∧ PS D ac A s.heap O [(no, nsU cv ad g (wput cw 11 (cwM n F3 (n + 1)))), (ad 4, rdU rx rd rw)] H locs ∧ lv_has ls 5 [(0, .ref no), (1, .int (nI n)), (2, .int (bI (okC (cwM n F3 (n + 1)) a = true))), (3, .int (nI a))]) ?_ (0) ⟨by omega, hM, lv_sub hl [2, 3, 1, 0] rfl⟩
    intro a H locs ls hI ih285
    obtain ⟨hI285, hM, hl⟩ := hI
    refine lv_iload_n hC.1 hC.2.1 dX0_measure_285 rfl (lv_at hl 3 rfl) ?_
    refine lv_iload_n hC.1 hC.2.1 dX0_measure_286 rfl (lv_at hl 1 rfl) ?_
    refine lv_icmp_gt (tgt := 318) hC.1 hC.2.1 dX0_measure_287 (by decide) (fun c5 => ?_) (fun c5 => ?_)
    ·
      have nc5 := Int32.not_le.mpr c5
      have hx287 := nlt_t (a := n) (b := a) c5
      obtain rfl : a = n + 1 := by omega
      refine lv_iload_n hC.1 hC.2.1 dX0_measure_318 rfl (lv_at hl 2 rfl) ?_
      skip
      refine p_zret hC hr hlocks hM (by first | exact bI_01 _ | exact Or.inl rfl | exact Or.inr rfl) dX0_measure_319 ?_
      rw [clC, r0, ← hF3]
      exact ⟨rfl, by rw [oups, oups, oups, oup_same hR]⟩
    ·
      have nc5 := Int32.not_lt.mp c5
      have hx287 := nlt_f (a := n) (b := a) c5
      refine lv_iload_n hC.1 hC.2.1 dX0_measure_290 rfl (lv_at hl 2 rfl) ?_
      refine lv_aload_n hC.1 hC.2.1 dX0_measure_291 rfl (lv_at hl 0 rfl) ?_
      refine p_get hC hK hM 0 rfl in_X0 rfl 11 (by decide) q230 (fun x h => h) rfl dX0_measure_292 ?_
      refine lv_aload_n hC.1 hC.2.1 dX0_measure_295 rfl (lv_at hl 0 rfl) ?_
      refine lv_iload_n hC.1 hC.2.1 dX0_measure_296 rfl (lv_at hl 3 rfl) ?_
      refine lv_iload_n hC.1 hC.2.1 dX0_measure_297 rfl (lv_at hl 3 rfl) ?_
      refine p_cVe (L' := [_, _]) hC hK hM (hM.at 0 rfl) rfl (cn_at l κ _ no cv ad g (wput cw 11 (cwM n F3 (n + 1))) a a (hM.at 0 rfl)) (cwV 2 hC.2.2.2.2 (lw_V q1035 q1037 qs21 q63 q1038) rfl rfl rfl (by decide +kernel) ⟨(Nat.le_of_ble_eq_true rfl), (Nat.le_of_ble_eq_true rfl)⟩) rfl hl.1 rfl (lv_room (Nat.le_of_ble_eq_true rfl)) dX0_measure_298 ⟨(Nat.le_of_ble_eq_true rfl), (Nat.le_of_ble_eq_true rfl)⟩ rfl hM.2 (fun H locs hM => ?_)
      refine p_iald hC hK hM 0 rfl 11 rfl rfl (n := (7 * a + a)) rfl (by show _ < 49; omega) (by decide) dX0_measure_301 ?_
      refine lv_if_lt (tgt := 309) hC.1 hC.2.1 dX0_measure_302 (by decide) (fun c6 => ?_) (fun c6 => ?_)
      ·
        have nc6 := Int32.not_le.mpr c6
        have cz := Int32.not_le.mpr c6
        refine lv_iconst (v := 0) hC.1 hC.2.1 dX0_measure_309 (by decide) ?_
        refine lv_iand hC.1 hC.2.1 dX0_measure_310 ?_
        refine lv_istore_n (lv' := [(2, _), (0, _), (1, _), (3, _)]) hC.1 hC.2.1 dX0_measure_311 rfl hl (by decide) rfl (fun ls hl => ?_)
        refine lv_iinc (v := nI (a + 1)) (lv' := [(3, _), (2, _), (0, _), (1, _)]) hC.1 hC.2.1 dX0_measure_312 hl (k := 3) rfl (nI_1 _) (by decide) rfl (fun ls hl => ?_)
        refine lv_goto (tgt := 285) hC.1 hC.2.1 dX0_measure_315 (by decide) ?_
        rw [show bI (okC (cwM n F3 (n + 1)) a = true) &&& 0 = bI (okC (cwM n F3 (n + 1)) (a + 1) = true) from bI_and0 _ _ (decide_eq_false cz)] at hl
        exact ih285 (a + 1) _ _ _ (by omega) ⟨by omega, hM, lv_sub hl [2, 3, 1, 0] rfl⟩
      ·
        have nc6 := Int32.not_lt.mp c6
        have cz := Int32.not_lt.mp c6
        refine lv_iconst (v := 1) hC.1 hC.2.1 dX0_measure_305 (by decide) ?_
        refine lv_goto (tgt := 310) hC.1 hC.2.1 dX0_measure_306 (by decide) ?_
        refine lv_iand hC.1 hC.2.1 dX0_measure_310 ?_
        refine lv_istore_n (lv' := [(2, _), (0, _), (1, _), (3, _)]) hC.1 hC.2.1 dX0_measure_311 rfl hl (by decide) rfl (fun ls hl => ?_)
        refine lv_iinc (v := nI (a + 1)) (lv' := [(3, _), (2, _), (0, _), (1, _)]) hC.1 hC.2.1 dX0_measure_312 hl (k := 3) rfl (nI_1 _) (by decide) rfl (fun ls hl => ?_)
        refine lv_goto (tgt := 285) hC.1 hC.2.1 dX0_measure_315 (by decide) ?_
        rw [show bI (okC (cwM n F3 (n + 1)) a = true) &&& 1 = bI (okC (cwM n F3 (n + 1)) (a + 1) = true) from bI_and1 _ _ (decide_eq_true cz)] at hl
        exact ih285 (a + 1) _ _ _ (by omega) ⟨by omega, hM, lv_sub hl [2, 3, 1, 0] rfl⟩
  ·
    have nc4 := Int32.not_lt.mp c4
    have hx213 := nlt_f (a := n) (b := u) c4
    refine lv_iconst (v := 0) hC.1 hC.2.1 dX0_measure_216 (by decide) ?_
    refine lv_istore_n (lv' := [(3, _), (0, _), (1, _), (2, _)]) hC.1 hC.2.1 dX0_measure_217 rfl hl (by decide) rfl (fun ls hl => ?_)
    refine w_ind (α := Nat) 218 (fun (a : Nat) => n + 1 - a) (fun (a : Nat) (H : Heap) (locs : List Loc) (ls : Array Slot) => (a ≤ n + 1) ∧ PS D ac A s.heap O [(no, nsU cv ad g (wput cw 11 (cwA n (cwM n F3 u) u a))), (ad 4, rdU rx rd rw)] H locs ∧ lv_has ls 5 [(0, .ref no), (1, .int (nI n)), (2, .int (nI u)), (3, .int (nI a))]) ?_ (0) ⟨by omega, by rw [cwA]; exact hM, lv_sub hl [1, 2, 3, 0] rfl⟩
    intro a H locs ls hI ih218
    obtain ⟨hI218, hM, hl⟩ := hI
    refine lv_iload_n hC.1 hC.2.1 dX0_measure_218 rfl (lv_at hl 3 rfl) ?_
    refine lv_iload_n hC.1 hC.2.1 dX0_measure_219 rfl (lv_at hl 1 rfl) ?_
    refine lv_icmp_gt (tgt := 275) hC.1 hC.2.1 dX0_measure_220 (by decide) (fun c7 => ?_) (fun c7 => ?_)
    ·
      have nc7 := Int32.not_le.mpr c7
      have hx220 := nlt_t (a := n) (b := a) c7
      obtain rfl : a = n + 1 := by omega
      refine lv_iinc (v := nI (u + 1)) (lv' := [(2, _), (0, _), (1, _), (3, _)]) hC.1 hC.2.1 dX0_measure_275 hl (k := 2) rfl (nI_1 _) (by decide) rfl (fun ls hl => ?_)
      refine lv_goto (tgt := 211) hC.1 hC.2.1 dX0_measure_278 (by decide) ?_
      exact ih211 (u + 1) _ _ _ (by omega) ⟨by omega, by rw [cwM]; exact hM, lv_sub hl [1, 2, 0] rfl⟩
    ·
      have nc7 := Int32.not_lt.mp c7
      have hx220 := nlt_f (a := n) (b := a) c7
      refine lv_iconst (v := 0) hC.1 hC.2.1 dX0_measure_223 (by decide) ?_
      refine lv_istore (lv' := [(4, _), (0, _), (1, _), (2, _), (3, _)]) hC.1 hC.2.1 dX0_measure_224 hl (by decide) rfl (fun ls hl => ?_)
      refine w_ind (α := Nat) 226 (fun (b : Nat) => n + 1 - b) (fun (b : Nat) (H : Heap) (locs : List Loc) (ls : Array Slot) => (b ≤ n + 1) ∧ PS D ac A s.heap O [(no, nsU cv ad g (wput cw 11 (cwB (cwA n (cwM n F3 u) u a) u a b))), (ad 4, rdU rx rd rw)] H locs ∧ lv_has ls 5 [(0, .ref no), (1, .int (nI n)), (2, .int (nI u)), (3, .int (nI a)), (4, .int (nI b))]) ?_ (0) ⟨by omega, by rw [cwB]; exact hM, lv_sub hl [1, 2, 3, 4, 0] rfl⟩
      intro b H locs ls hI ih226
      obtain ⟨hI226, hM, hl⟩ := hI
      refine lv_iload hC.1 hC.2.1 dX0_measure_226 (lv_at hl 4 rfl) ?_
      refine lv_iload_n hC.1 hC.2.1 dX0_measure_228 rfl (lv_at hl 1 rfl) ?_
      refine lv_icmp_gt (tgt := 269) hC.1 hC.2.1 dX0_measure_229 (by decide) (fun c8 => ?_) (fun c8 => ?_)
      ·
        have nc8 := Int32.not_le.mpr c8
        have hx229 := nlt_t (a := n) (b := b) c8
        obtain rfl : b = n + 1 := by omega
        refine lv_iinc (v := nI (a + 1)) (lv' := [(3, _), (0, _), (1, _), (2, _), (4, _)]) hC.1 hC.2.1 dX0_measure_269 hl (k := 3) rfl (nI_1 _) (by decide) rfl (fun ls hl => ?_)
        refine lv_goto (tgt := 218) hC.1 hC.2.1 dX0_measure_272 (by decide) ?_
        exact ih218 (a + 1) _ _ _ (by omega) ⟨by omega, by rw [cwA]; exact hM, lv_sub hl [1, 2, 3, 0] rfl⟩
      ·
        have nc8 := Int32.not_lt.mp c8
        have hx229 := nlt_f (a := n) (b := b) c8
        refine lv_aload_n hC.1 hC.2.1 dX0_measure_232 rfl (lv_at hl 0 rfl) ?_
        refine lv_iload_n hC.1 hC.2.1 dX0_measure_233 rfl (lv_at hl 3 rfl) ?_
        refine lv_iload hC.1 hC.2.1 dX0_measure_234 (lv_at hl 4 rfl) ?_
        refine lv_aload_n hC.1 hC.2.1 dX0_measure_236 rfl (lv_at hl 0 rfl) ?_
        refine p_get hC hK hM 0 rfl in_X0 rfl 11 (by decide) q230 (fun x h => h) rfl dX0_measure_237 ?_
        refine lv_aload_n hC.1 hC.2.1 dX0_measure_240 rfl (lv_at hl 0 rfl) ?_
        refine lv_iload_n hC.1 hC.2.1 dX0_measure_241 rfl (lv_at hl 3 rfl) ?_
        refine lv_iload_n hC.1 hC.2.1 dX0_measure_242 rfl (lv_at hl 2 rfl) ?_
        refine p_cVe (L' := [_, _]) hC hK hM (hM.at 0 rfl) rfl (cn_at l κ _ no cv ad g (wput cw 11 (cwB (cwA n (cwM n F3 u) u a) u a b)) a u (hM.at 0 rfl)) (cwV 2 hC.2.2.2.2 (lw_V q1035 q1037 qs21 q63 q1038) rfl rfl rfl (by decide +kernel) ⟨(Nat.le_of_ble_eq_true rfl), (Nat.le_of_ble_eq_true rfl)⟩) rfl hl.1 rfl (lv_room (Nat.le_of_ble_eq_true rfl)) dX0_measure_243 ⟨(Nat.le_of_ble_eq_true rfl), (Nat.le_of_ble_eq_true rfl)⟩ rfl hM.2 (fun H locs hM => ?_)
        refine p_iald hC hK hM 0 rfl 11 rfl rfl (n := (7 * a + u)) rfl (by show _ < 49; omega) (by decide) dX0_measure_246 ?_
        refine lv_aload_n hC.1 hC.2.1 dX0_measure_247 rfl (lv_at hl 0 rfl) ?_
        refine p_get hC hK hM 0 rfl in_X0 rfl 11 (by decide) q230 (fun x h => h) rfl dX0_measure_248 ?_
        refine lv_aload_n hC.1 hC.2.1 dX0_measure_251 rfl (lv_at hl 0 rfl) ?_
        refine lv_iload_n hC.1 hC.2.1 dX0_measure_252 rfl (lv_at hl 2 rfl) ?_
        refine lv_iload hC.1 hC.2.1 dX0_measure_253 (lv_at hl 4 rfl) ?_
        refine p_cVe (L' := [_, _]) hC hK hM (hM.at 0 rfl) rfl (cn_at l κ _ no cv ad g (wput cw 11 (cwB (cwA n (cwM n F3 u) u a) u a b)) u b (hM.at 0 rfl)) (cwV 2 hC.2.2.2.2 (lw_V q1035 q1037 qs21 q63 q1038) rfl rfl rfl (by decide +kernel) ⟨(Nat.le_of_ble_eq_true rfl), (Nat.le_of_ble_eq_true rfl)⟩) rfl hl.1 rfl (lv_room (Nat.le_of_ble_eq_true rfl)) dX0_measure_255 ⟨(Nat.le_of_ble_eq_true rfl), (Nat.le_of_ble_eq_true rfl)⟩ rfl hM.2 (fun H locs hM => ?_)
        refine p_iald hC hK hM 0 rfl 11 rfl rfl (n := (7 * u + b)) rfl (by show _ < 49; omega) (by decide) dX0_measure_258 ?_
        refine lv_iadd hC.1 hC.2.1 dX0_measure_259 ?_
        refine p_cVv (L' := [_, _]) hC hK hM (hM.at 0 rfl) rfl (cn_lessen l κ _ no cv ad g (wput cw 11 (cwB (cwA n (cwM n F3 u) u a) u a b)) a b _ (hM.at 0 rfl) (by omega) (by omega)) (cwV 3 hC.2.2.2.2 (lw_V q1039 q1041 qs22 q63 q1042) rfl rfl rfl (by decide +kernel) ⟨(Nat.le_of_ble_eq_true rfl), (Nat.le_of_ble_eq_true rfl)⟩) rfl hl.1 rfl (lv_room (Nat.le_of_ble_eq_true rfl)) dX0_measure_260 ⟨(Nat.le_of_ble_eq_true rfl), (Nat.le_of_ble_eq_true rfl)⟩ (oups_set hM.2 (i := 0) rfl) (oad_nd hM.2 (i := 0) rfl rfl) (fun H locs hM => ?_)
        rw [wput_wput, wput_s] at hM
        refine lv_iinc (v := nI (b + 1)) (lv' := [(4, _), (0, _), (1, _), (2, _), (3, _)]) hC.1 hC.2.1 dX0_measure_263 hl (k := 4) rfl (nI_1 _) (by decide) rfl (fun ls hl => ?_)
        refine lv_goto (tgt := 226) hC.1 hC.2.1 dX0_measure_266 (by decide) ?_
        exact ih226 (b + 1) _ _ _ (by omega) ⟨by omega, by rw [cwB]; exact hM, lv_sub hl [1, 2, 3, 4, 0] rfl⟩
set_option maxHeartbeats 400000 in
set_option maxRecDepth 100000 in
theorem cn_measureC (l : Launch) (κ : Nat → Nat) (O : gO) (no : Nat) (cv : Nat → Int32) (ad : Nat → Nat) (g : Nat → Nat → Option Nat) (cw : Nat → Nat → Int32) (rx : Nat → Int32) (rd : Nat → Nat) (rw : Nat → Nat → Int32) (ro : Nat → Int32) (hN : O no = some (nsU cv ad g cw)) (hR : O (ad 4) = some (rdU rx rd rw)) (r0 : ro 0 = rx 0) (rT : ∀ q, q < 48 → ro (46 + q) = rw 10 q) (n : Nat) (en : rx 4 = nI n) (hn : n ≤ 6) (tm : Nat) (et : rx 11 = nI tm) (ht : tm ≤ 12) (hto : tmOk ro n tm) (F2 : Nat → Int32) (hF2 : F2 = csS n (inA (rx 0) n (cw 11) (n + 1)) n) {D : va_G} {ac : Nat → ClassId} {A : Nat → Prop} {p : Program} {e : Env} {s : State} {m : MethodId} {args : Array Value} {below : List Frame} {meth : Method} {c : Code} {ls : Array Slot} {H : Heap} {locs : List Loc} (hC : CallFix p m c cX0_measure 5 s args lw_all RX0) (hr : meth.sig.returnType = some .boolean) (hlocks : meth.locks = false) (hK : KZ D ac A κ s) (hM : PS D ac A s.heap O [(no, nsU cv ad g (wput cw 11 (F2))), (ad 4, rdU rx rd rw)] H locs) (hl : lv_has ls 5 [(0, .ref no), (1, .int (nI n))]) : W p l e ({ frames := 2, cells := 0, slots := 0, locals := 45 }) s m args below meth c H locs (0) (0) (MQ below (oQ D ac A (fun rv O1 => rv = some (.int (bI (okC (clC ro (cw 11) n tm) (n + 1) = true))) ∧ O1 = oup O no (nsU cv ad g (wput cw 11 (clC ro (cw 11) n tm))))) args s 0 0 A) (F0 m 94 ls []) := by
  refine lv_iconst (v := 0) hC.1 hC.2.1 dX0_measure_94 (by decide) ?_
  refine lv_istore_n (lv' := [(2, _), (0, _), (1, _)]) hC.1 hC.2.1 dX0_measure_95 rfl hl (by decide) rfl (fun ls hl => ?_)
  refine w_ind (α := Nat) 96 (fun (q : Nat) => tm - q) (fun (q : Nat) (H : Heap) (locs : List Loc) (ls : Array Slot) => (q ≤ tm) ∧ PS D ac A s.heap O [(no, nsU cv ad g (wput cw 11 (csT ro F2 q))), (ad 4, rdU rx rd rw)] H locs ∧ lv_has ls 5 [(0, .ref no), (1, .int (nI n)), (2, .int (nI q))]) ?_ (0) ⟨by omega, by rw [csT]; exact hM, lv_sub hl [1, 2, 0] rfl⟩
  intro q H locs ls hI ih96
  obtain ⟨hI96, hM, hl⟩ := hI
  refine lv_iload_n hC.1 hC.2.1 dX0_measure_96 rfl (lv_at hl 2 rfl) ?_
  refine lv_aload_n hC.1 hC.2.1 dX0_measure_97 rfl (lv_at hl 0 rfl) ?_
  refine p_get hC hK hM 0 rfl in_X0 rfl 4 (by decide) q223 (fun x h => h) rfl dX0_measure_98 ?_
  refine p_get hC hK hM 1 rfl in_X1 rfl 11 (by decide) q174 (fun x h => h) rfl dX0_measure_101 ?_
  rw [et]
  refine lv_icmp_ge (tgt := 209) hC.1 hC.2.1 dX0_measure_104 (by decide) (fun c3 => ?_) (fun c3 => ?_)
  ·
    have nc3 := Int32.not_lt.mpr c3
    have hx104 := nle_t (a := tm) (b := q) c3
    obtain rfl : tm = q := by omega
    exact cn_measureB l κ O no cv ad g cw rx rd rw ro hN hR r0 rT n en hn tm et ht hto (csT ro F2 tm) (by rw [hF2]) hC hr hlocks hK (hM) (lv_sub hl [0, 1] rfl)
  ·
    have nc3 := Int32.not_le.mp c3
    have hx104 := nle_f (a := tm) (b := q) c3
    obtain ⟨ta, tb, tx, tt, ea, eb, hab, hbn, -⟩ := hto q hx104
    have ra : rw 10 (4 * q) = nI ta := by rw [← rT (4 * q) (by omega), ← ea]
    have rb : rw 10 (4 * q + 1) = nI tb := (rT (4 * q + 1) (by omega)).symm.trans eb
    have r2_ : rw 10 (4 * q + 2) = ro (46 + 4 * q + 2) := (rT (4 * q + 2) (by omega)).symm
    have r3_ : rw 10 (4 * q + 3) = ro (46 + 4 * q + 3) := (rT (4 * q + 3) (by omega)).symm
    have ia : iN (ro (46 + 4 * q)) = ta := by rw [ea]; exact iN_nI (by omega)
    have ib : iN (ro (46 + 4 * q + 1)) = tb := by rw [eb]; exact iN_nI (by omega)
    refine lv_aload_n hC.1 hC.2.1 dX0_measure_107 rfl (lv_at hl 0 rfl) ?_
    refine p_get hC hK hM 0 rfl in_X0 rfl 4 (by decide) q223 (fun x h => h) rfl dX0_measure_108 ?_
    refine p_get hC hK hM 1 rfl in_X1 rfl 10 (by decide) q172 (fun x h => h) rfl dX0_measure_111 ?_
    refine lv_iconst (v := 4) hC.1 hC.2.1 dX0_measure_114 (by decide) ?_
    refine lv_iload_n hC.1 hC.2.1 dX0_measure_115 rfl (lv_at hl 2 rfl) ?_
    refine lv_imul hC.1 hC.2.1 dX0_measure_116 ?_
    refine lv_iconst (v := 2) hC.1 hC.2.1 dX0_measure_117 (by decide) ?_
    refine lv_iadd hC.1 hC.2.1 dX0_measure_118 ?_
    refine p_iald hC hK hM 1 rfl 10 rfl rfl (n := (4 * q + 2)) (by first | rfl | (simp only [← nI_add, ← pk_mul]; rfl)) (by show _ < 48; omega) (by decide) dX0_measure_119 ?_
    rw [r2_]
    refine lv_istore_n (lv' := [(3, _), (0, _), (1, _), (2, _)]) hC.1 hC.2.1 dX0_measure_120 rfl hl (by decide) rfl (fun ls hl => ?_)
    refine lv_iload_n hC.1 hC.2.1 dX0_measure_121 rfl (lv_at hl 0 rfl) ?_
    refine lv_aload_n hC.1 hC.2.1 dX0_measure_122 rfl (lv_at hl 1 rfl) ?_
    refine p_get hC hK hM 0 rfl in_X0 rfl 4 (by decide) q223 (fun x h => h) rfl dX0_measure_123 ?_
    refine p_get hC hK hM 1 rfl in_X1 rfl 10 (by decide) q172 (fun x h => h) rfl dX0_measure_126 ?_
    refine lv_iconst (v := 4) hC.1 hC.2.1 dX0_measure_129 (by decide) ?_
    refine lv_iload_n hC.1 hC.2.1 dX0_measure_130 rfl (lv_at hl 3 rfl) ?_
    refine lv_imul hC.1 hC.2.1 dX0_measure_131 ?_
    refine lv_iconst (v := 3) hC.1 hC.2.1 dX0_measure_132 (by decide) ?_
    refine lv_iadd hC.1 hC.2.1 dX0_measure_133 ?_
    refine p_iald hC hK hM 1 rfl 10 rfl rfl (n := (4 * q + 3)) (by first | rfl | (simp only [← nI_add, ← pk_mul]; rfl)) (by show _ < 48; omega) (by decide) dX0_measure_134 ?_
    rw [r3_]
    refine lv_imul hC.1 hC.2.1 dX0_measure_135 ?_
    refine lv_istore (lv' := [(4, _), (3, _), (0, _), (1, _), (2, _)]) hC.1 hC.2.1 dX0_measure_136 hl (by decide) rfl (fun ls hl => ?_)
    refine lv_aload_n hC.1 hC.2.1 dX0_measure_138 rfl (lv_at hl 2 rfl) ?_
    refine lv_aload_n hC.1 hC.2.1 dX0_measure_139 rfl (lv_at hl 2 rfl) ?_
    refine p_get hC hK hM 0 rfl in_X0 rfl 4 (by decide) q223 (fun x h => h) rfl dX0_measure_140 ?_
    refine p_get hC hK hM 1 rfl in_X1 rfl 10 (by decide) q172 (fun x h => h) rfl dX0_measure_143 ?_
    refine lv_iconst (v := 4) hC.1 hC.2.1 dX0_measure_146 (by decide) ?_
    refine lv_iload_n hC.1 hC.2.1 dX0_measure_147 rfl (lv_at hl 4 rfl) ?_
    refine lv_imul hC.1 hC.2.1 dX0_measure_148 ?_
    refine lv_iconst (v := 1) hC.1 hC.2.1 dX0_measure_149 (by decide) ?_
    refine lv_iadd hC.1 hC.2.1 dX0_measure_150 ?_
    refine p_iald hC hK hM 1 rfl 10 rfl rfl (n := (4 * q + 1)) (by first | rfl | (simp only [← nI_add, ← pk_mul]; rfl)) (by show _ < 48; omega) (by decide) dX0_measure_151 ?_
    rw [rb]
    refine lv_aload_n hC.1 hC.2.1 dX0_measure_152 rfl (lv_at hl 2 rfl) ?_
    refine p_get hC hK hM 0 rfl in_X0 rfl 4 (by decide) q223 (fun x h => h) rfl dX0_measure_153 ?_
    refine p_get hC hK hM 1 rfl in_X1 rfl 10 (by decide) q172 (fun x h => h) rfl dX0_measure_156 ?_
    refine lv_iconst (v := 4) hC.1 hC.2.1 dX0_measure_159 (by decide) ?_
    refine lv_iload_n hC.1 hC.2.1 dX0_measure_160 rfl (lv_at hl 4 rfl) ?_
    refine lv_imul hC.1 hC.2.1 dX0_measure_161 ?_
    refine p_iald hC hK hM 1 rfl 10 rfl rfl (n := (4 * q)) (by first | rfl | (simp only [← nI_add, ← pk_mul]; rfl)) (by show _ < 48; omega) (by decide) dX0_measure_162 ?_
    rw [ra]
    refine lv_iload hC.1 hC.2.1 dX0_measure_163 (lv_at hl 0 rfl) ?_
    refine lv_ineg hC.1 hC.2.1 dX0_measure_165 ?_
    refine p_cVv (L' := [_, _]) hC hK hM (hM.at 0 rfl) rfl (cn_lessen l κ _ no cv ad g (wput cw 11 (csT ro F2 q)) tb ta _ (hM.at 0 rfl) (by omega) (by omega)) (cwV 3 hC.2.2.2.2 (lw_V q1039 q1041 qs22 q63 q1042) rfl rfl rfl (by decide +kernel) ⟨(Nat.le_of_ble_eq_true rfl), (Nat.le_of_ble_eq_true rfl)⟩) rfl hl.1 rfl (lv_room (Nat.le_of_ble_eq_true rfl)) dX0_measure_166 ⟨(Nat.le_of_ble_eq_true rfl), (Nat.le_of_ble_eq_true rfl)⟩ (oups_set hM.2 (i := 0) rfl) (oad_nd hM.2 (i := 0) rfl rfl) (fun H locs hM => ?_)
    rw [wput_wput, wput_s] at hM
    refine lv_aload_n hC.1 hC.2.1 dX0_measure_169 rfl (lv_at hl 2 rfl) ?_
    refine lv_aload_n hC.1 hC.2.1 dX0_measure_170 rfl (lv_at hl 2 rfl) ?_
    refine p_get hC hK hM 0 rfl in_X0 rfl 4 (by decide) q223 (fun x h => h) rfl dX0_measure_171 ?_
    refine p_get hC hK hM 1 rfl in_X1 rfl 10 (by decide) q172 (fun x h => h) rfl dX0_measure_174 ?_
    refine lv_iconst (v := 4) hC.1 hC.2.1 dX0_measure_177 (by decide) ?_
    refine lv_iload_n hC.1 hC.2.1 dX0_measure_178 rfl (lv_at hl 4 rfl) ?_
    refine lv_imul hC.1 hC.2.1 dX0_measure_179 ?_
    refine p_iald hC hK hM 1 rfl 10 rfl rfl (n := (4 * q)) (by first | rfl | (simp only [← nI_add, ← pk_mul]; rfl)) (by show _ < 48; omega) (by decide) dX0_measure_180 ?_
    rw [ra]
    refine lv_aload_n hC.1 hC.2.1 dX0_measure_181 rfl (lv_at hl 2 rfl) ?_
    refine p_get hC hK hM 0 rfl in_X0 rfl 4 (by decide) q223 (fun x h => h) rfl dX0_measure_182 ?_
    refine p_get hC hK hM 1 rfl in_X1 rfl 10 (by decide) q172 (fun x h => h) rfl dX0_measure_185 ?_
    refine lv_iconst (v := 4) hC.1 hC.2.1 dX0_measure_188 (by decide) ?_
    refine lv_iload_n hC.1 hC.2.1 dX0_measure_189 rfl (lv_at hl 4 rfl) ?_
    refine lv_imul hC.1 hC.2.1 dX0_measure_190 ?_
    refine lv_iconst (v := 1) hC.1 hC.2.1 dX0_measure_191 (by decide) ?_
    refine lv_iadd hC.1 hC.2.1 dX0_measure_192 ?_
    refine p_iald hC hK hM 1 rfl 10 rfl rfl (n := (4 * q + 1)) (by first | rfl | (simp only [← nI_add, ← pk_mul]; rfl)) (by show _ < 48; omega) (by decide) dX0_measure_193 ?_
    rw [rb]
    refine lv_iload hC.1 hC.2.1 dX0_measure_194 (lv_at hl 0 rfl) ?_
    refine lv_iload_n hC.1 hC.2.1 dX0_measure_196 rfl (lv_at hl 1 rfl) ?_
    refine lv_iadd hC.1 hC.2.1 dX0_measure_197 ?_
    refine lv_iconst (v := 1) hC.1 hC.2.1 dX0_measure_198 (by decide) ?_
    refine lv_isub hC.1 hC.2.1 dX0_measure_199 ?_
    refine p_cVv (L' := [_, _]) hC hK hM (hM.at 0 rfl) rfl (cn_lessen l κ _ no cv ad g (wput cw 11 (atM (csT ro F2 q) tb ta (-(ro (46 + 4 * q + 2) * ro (46 + 4 * q + 3))))) ta tb _ (hM.at 0 rfl) (by omega) (by omega)) (cwV 3 hC.2.2.2.2 (lw_V q1039 q1041 qs22 q63 q1042) rfl rfl rfl (by decide +kernel) ⟨(Nat.le_of_ble_eq_true rfl), (Nat.le_of_ble_eq_true rfl)⟩) rfl hl.1 rfl (lv_room (Nat.le_of_ble_eq_true rfl)) dX0_measure_200 ⟨(Nat.le_of_ble_eq_true rfl), (Nat.le_of_ble_eq_true rfl)⟩ (oups_set hM.2 (i := 0) rfl) (oad_nd hM.2 (i := 0) rfl rfl) (fun H locs hM => ?_)
    rw [wput_wput, wput_s] at hM
    refine lv_iinc (v := nI (q + 1)) (lv' := [(2, _), (4, _), (3, _), (0, _), (1, _)]) hC.1 hC.2.1 dX0_measure_203 hl (k := 4) rfl (nI_1 _) (by decide) rfl (fun ls hl => ?_)
    refine lv_goto (tgt := 96) hC.1 hC.2.1 dX0_measure_206 (by decide) ?_
    exact ih96 (q + 1) _ _ _ (by omega) ⟨by omega, by rw [csT, ia, ib]; exact hM, lv_sub hl [3, 4, 0] rfl⟩
set_option maxHeartbeats 400000 in
set_option maxRecDepth 100000 in
theorem cn_measureD (l : Launch) (κ : Nat → Nat) (O : gO) (no : Nat) (cv : Nat → Int32) (ad : Nat → Nat) (g : Nat → Nat → Option Nat) (cw : Nat → Nat → Int32) (rx : Nat → Int32) (rd : Nat → Nat) (rw : Nat → Nat → Int32) (ro : Nat → Int32) (hN : O no = some (nsU cv ad g cw)) (hR : O (ad 4) = some (rdU rx rd rw)) (r0 : ro 0 = rx 0) (rT : ∀ q, q < 48 → ro (46 + q) = rw 10 q) (n : Nat) (en : rx 4 = nI n) (hn : n ≤ 6) (tm : Nat) (et : rx 11 = nI tm) (ht : tm ≤ 12) (hto : tmOk ro n tm) (F1 : Nat → Int32) (hF1 : F1 = inA (rx 0) n (cw 11) (n + 1)) {D : va_G} {ac : Nat → ClassId} {A : Nat → Prop} {p : Program} {e : Env} {s : State} {m : MethodId} {args : Array Value} {below : List Frame} {meth : Method} {c : Code} {ls : Array Slot} {H : Heap} {locs : List Loc} (hC : CallFix p m c cX0_measure 5 s args lw_all RX0) (hr : meth.sig.returnType = some .boolean) (hlocks : meth.locks = false) (hK : KZ D ac A κ s) (hM : PS D ac A s.heap O [(no, nsU cv ad g (wput cw 11 (F1))), (ad 4, rdU rx rd rw)] H locs) (hl : lv_has ls 5 [(0, .ref no), (1, .int (nI n))]) : W p l e ({ frames := 2, cells := 0, slots := 0, locals := 45 }) s m args below meth c H locs (0) (0) (MQ below (oQ D ac A (fun rv O1 => rv = some (.int (bI (okC (clC ro (cw 11) n tm) (n + 1) = true))) ∧ O1 = oup O no (nsU cv ad g (wput cw 11 (clC ro (cw 11) n tm))))) args s 0 0 A) (F0 m 61 ls []) := by
  refine lv_iconst (v := 0) hC.1 hC.2.1 dX0_measure_61 (by decide) ?_
  refine lv_istore_n (lv' := [(2, _), (0, _), (1, _)]) hC.1 hC.2.1 dX0_measure_62 rfl hl (by decide) rfl (fun ls hl => ?_)
  refine w_ind (α := Nat) 63 (fun (i : Nat) => n - i) (fun (i : Nat) (H : Heap) (locs : List Loc) (ls : Array Slot) => (i ≤ n) ∧ PS D ac A s.heap O [(no, nsU cv ad g (wput cw 11 (csS n F1 i))), (ad 4, rdU rx rd rw)] H locs ∧ lv_has ls 5 [(0, .ref no), (1, .int (nI n)), (2, .int (nI i))]) ?_ (0) ⟨by omega, by rw [csS]; exact hM, lv_sub hl [1, 2, 0] rfl⟩
  intro i H locs ls hI ih63
  obtain ⟨hI63, hM, hl⟩ := hI
  refine lv_iload_n hC.1 hC.2.1 dX0_measure_63 rfl (lv_at hl 2 rfl) ?_
  refine lv_iload_n hC.1 hC.2.1 dX0_measure_64 rfl (lv_at hl 1 rfl) ?_
  refine lv_icmp_ge (tgt := 94) hC.1 hC.2.1 dX0_measure_65 (by decide) (fun c2 => ?_) (fun c2 => ?_)
  ·
    have nc2 := Int32.not_lt.mpr c2
    have hx65 := nle_t (a := n) (b := i) c2
    obtain rfl : n = i := by omega
    exact cn_measureC l κ O no cv ad g cw rx rd rw ro hN hR r0 rT n en hn tm et ht hto (csS n F1 n) (by rw [hF1]) hC hr hlocks hK (hM) (lv_sub hl [0, 1] rfl)
  ·
    have nc2 := Int32.not_le.mp c2
    have hx65 := nle_f (a := n) (b := i) c2
    refine lv_aload_n hC.1 hC.2.1 dX0_measure_68 rfl (lv_at hl 0 rfl) ?_
    refine lv_iload_n hC.1 hC.2.1 dX0_measure_69 rfl (lv_at hl 2 rfl) ?_
    refine lv_iload_n hC.1 hC.2.1 dX0_measure_70 rfl (lv_at hl 1 rfl) ?_
    refine lv_iconst (v := 0) hC.1 hC.2.1 dX0_measure_71 (by decide) ?_
    refine p_cVv (L' := [_, _]) hC hK hM (hM.at 0 rfl) rfl (cn_lessen l κ _ no cv ad g (wput cw 11 (csS n F1 i)) i n _ (hM.at 0 rfl) (by omega) (by omega)) (cwV 3 hC.2.2.2.2 (lw_V q1039 q1041 qs22 q63 q1042) rfl rfl rfl (by decide +kernel) ⟨(Nat.le_of_ble_eq_true rfl), (Nat.le_of_ble_eq_true rfl)⟩) rfl hl.1 rfl (lv_room (Nat.le_of_ble_eq_true rfl)) dX0_measure_72 ⟨(Nat.le_of_ble_eq_true rfl), (Nat.le_of_ble_eq_true rfl)⟩ (oups_set hM.2 (i := 0) rfl) (oad_nd hM.2 (i := 0) rfl rfl) (fun H locs hM => ?_)
    rw [wput_wput, wput_s] at hM
    refine lv_iload_n hC.1 hC.2.1 dX0_measure_75 rfl (lv_at hl 2 rfl) ?_
    refine lv_if_le (tgt := 88) hC.1 hC.2.1 dX0_measure_76 (by decide) (fun c9 => ?_) (fun c9 => ?_)
    ·
      have nc9 := Int32.not_lt.mpr c9
      have ci : i = 0 := by have := nle_t (a := i) (b := 0) c9; omega
      refine lv_iinc (v := nI (i + 1)) (lv' := [(2, _), (0, _), (1, _)]) hC.1 hC.2.1 dX0_measure_88 hl (k := 2) rfl (nI_1 _) (by decide) rfl (fun ls hl => ?_)
      refine lv_goto (tgt := 63) hC.1 hC.2.1 dX0_measure_91 (by decide) ?_
      exact ih63 (i + 1) _ _ _ (by omega) ⟨by omega, by rw [csS, if_pos ci]; exact hM, lv_sub hl [1, 2, 0] rfl⟩
    ·
      have nc9 := Int32.not_le.mp c9
      have ci : 0 < i := nle_f (a := i) (b := 0) c9
      refine lv_aload_n hC.1 hC.2.1 dX0_measure_79 rfl (lv_at hl 0 rfl) ?_
      refine lv_iload_n hC.1 hC.2.1 dX0_measure_80 rfl (lv_at hl 2 rfl) ?_
      refine lv_iload_n hC.1 hC.2.1 dX0_measure_81 rfl (lv_at hl 2 rfl) ?_
      refine lv_iconst (v := 1) hC.1 hC.2.1 dX0_measure_82 (by decide) ?_
      refine lv_isub hC.1 hC.2.1 dX0_measure_83 ?_
      rw [show nI i - 1 = nI (i - 1) from nI_subn (a := i) (b := 1) ci]
      refine lv_iconst (v := (-1)) hC.1 hC.2.1 dX0_measure_84 (by decide) ?_
      refine p_cVv (L' := [_, _]) hC hK hM (hM.at 0 rfl) rfl (cn_lessen l κ _ no cv ad g (wput cw 11 (atM (csS n F1 i) i n 0)) i (i - 1) _ (hM.at 0 rfl) (by omega) (by omega)) (cwV 3 hC.2.2.2.2 (lw_V q1039 q1041 qs22 q63 q1042) rfl rfl rfl (by decide +kernel) ⟨(Nat.le_of_ble_eq_true rfl), (Nat.le_of_ble_eq_true rfl)⟩) rfl hl.1 rfl (lv_room (Nat.le_of_ble_eq_true rfl)) dX0_measure_85 ⟨(Nat.le_of_ble_eq_true rfl), (Nat.le_of_ble_eq_true rfl)⟩ (oups_set hM.2 (i := 0) rfl) (oad_nd hM.2 (i := 0) rfl rfl) (fun H locs hM => ?_)
      rw [wput_wput, wput_s] at hM
      refine lv_iinc (v := nI (i + 1)) (lv' := [(2, _), (0, _), (1, _)]) hC.1 hC.2.1 dX0_measure_88 hl (k := 2) rfl (nI_1 _) (by decide) rfl (fun ls hl => ?_)
      refine lv_goto (tgt := 63) hC.1 hC.2.1 dX0_measure_91 (by decide) ?_
      exact ih63 (i + 1) _ _ _ (by omega) ⟨by omega, by rw [csS, if_neg (by omega)]; exact hM, lv_sub hl [1, 2, 0] rfl⟩
set_option maxHeartbeats 400000 in
set_option maxRecDepth 100000 in
theorem cn_measure (l : Launch) (κ : Nat → Nat) (O : gO) (no : Nat) (cv : Nat → Int32) (ad : Nat → Nat) (g : Nat → Nat → Option Nat) (cw : Nat → Nat → Int32) (rx : Nat → Int32) (rd : Nat → Nat) (rw : Nat → Nat → Int32) (ro : Nat → Int32) (hN : O no = some (nsU cv ad g cw)) (hR : O (ad 4) = some (rdU rx rd rw)) (r0 : ro 0 = rx 0) (rT : ∀ q, q < 48 → ro (46 + q) = rw 10 q) (n : Nat) (en : rx 4 = nI n) (hn : n ≤ 6) (tm : Nat) (et : rx 11 = nI tm) (ht : tm ≤ 12) (hto : tmOk ro n tm) : oM l κ yX0_measure cX0_measure 5 (some .boolean) ({ frames := 2, cells := 0, slots := 0, locals := 45 }) [.ref no] O (fun rv O1 => rv = some (.int (bI (okC (clC ro (cw 11) n tm) (n + 1) = true))) ∧ O1 = oup O no (nsU cv ad g (wput cw 11 (clC ro (cw 11) n tm)))) := by
  intro D ac A
  refine o_body (own := RX0) rfl (plainFor_of_name (by decide)) (Nat.le_of_ble_eq_true rfl) ?_
  intro p e s m args below meth c ls hC hr hlocks hK hM hl hnamed hmeth
  have hl : lv_has ls 5 [(0, .ref no)] := hl
  have hM := PS.of hM [(no, nsU cv ad g cw), (ad 4, rdU rx rd rw)] ⟨hN, hR, trivial⟩ (by simp only [oad, List.map, List.nodup_cons, List.mem_singleton, List.not_mem_nil, not_false_eq_true, List.nodup_nil, and_true]; exact o_ne hN hR (by decide))
  refine lv_aload_n hC.1 hC.2.1 dX0_measure_0 rfl (lv_at hl 0 rfl) ?_
  refine p_get hC hK hM 0 rfl in_X0 rfl 4 (by decide) q223 (fun x h => h) rfl dX0_measure_1 ?_
  refine p_get hC hK hM 1 rfl in_X1 rfl 4 (by decide) q156 (fun x h => h) rfl dX0_measure_4 ?_
  rw [en]
  refine lv_istore_n (lv' := [(1, _), (0, _)]) hC.1 hC.2.1 dX0_measure_7 rfl hl (by decide) rfl (fun ls hl => ?_)
  refine lv_iconst (v := 0) hC.1 hC.2.1 dX0_measure_8 (by decide) ?_
  refine lv_istore_n (lv' := [(2, _), (1, _), (0, _)]) hC.1 hC.2.1 dX0_measure_9 rfl hl (by decide) rfl (fun ls hl => ?_)
  refine w_ind (α := Nat) 10 (fun (a : Nat) => n + 1 - a) (fun (a : Nat) (H : Heap) (locs : List Loc) (ls : Array Slot) => (a ≤ n + 1) ∧ PS D ac A s.heap O [(no, nsU cv ad g (wput cw 11 (inA (rx 0) n (cw 11) a))), (ad 4, rdU rx rd rw)] H locs ∧ lv_has ls 5 [(0, .ref no), (1, .int (nI n)), (2, .int (nI a))]) ?_ (0) ⟨by omega, by rw [show inA (rx 0) n (cw 11) 0 = cw 11 from rfl, wput_self]; exact hM, lv_sub hl [2, 1, 0] rfl⟩
  intro a H locs ls hI ih10
  obtain ⟨hI10, hM, hl⟩ := hI
  refine lv_iload_n hC.1 hC.2.1 dX0_measure_10 rfl (lv_at hl 2 rfl) ?_
  refine lv_iload_n hC.1 hC.2.1 dX0_measure_11 rfl (lv_at hl 1 rfl) ?_
  refine lv_icmp_gt (tgt := 61) hC.1 hC.2.1 dX0_measure_12 (by decide) (fun c1 => ?_) (fun c1 => ?_)
  ·
    have nc1 := Int32.not_le.mpr c1
    have hx12 := nlt_t (a := n) (b := a) c1
    obtain rfl : a = n + 1 := by omega
    exact cn_measureD l κ O no cv ad g cw rx rd rw ro hN hR r0 rT n en hn tm et ht hto _ rfl hC hr hlocks hK (hM) (lv_sub hl [0, 1] rfl)
  ·
    have nc1 := Int32.not_lt.mp c1
    have hx12 := nlt_f (a := n) (b := a) c1
    refine lv_iconst (v := 0) hC.1 hC.2.1 dX0_measure_15 (by decide) ?_
    refine lv_istore_n (lv' := [(3, _), (0, _), (1, _), (2, _)]) hC.1 hC.2.1 dX0_measure_16 rfl hl (by decide) rfl (fun ls hl => ?_)
    refine w_ind (α := Nat) 17 (fun (b : Nat) => n + 1 - b) (fun (b : Nat) (H : Heap) (locs : List Loc) (ls : Array Slot) => (b ≤ n + 1) ∧ PS D ac A s.heap O [(no, nsU cv ad g (wput cw 11 (inB (rx 0) (inA (rx 0) n (cw 11) a) a b))), (ad 4, rdU rx rd rw)] H locs ∧ lv_has ls 5 [(0, .ref no), (1, .int (nI n)), (2, .int (nI a)), (3, .int (nI b))]) ?_ (0) ⟨by omega, by rw [inB]; exact hM, lv_sub hl [1, 2, 3, 0] rfl⟩
    intro b H locs ls hI ih17
    obtain ⟨hI17, hM, hl⟩ := hI
    refine lv_iload_n hC.1 hC.2.1 dX0_measure_17 rfl (lv_at hl 3 rfl) ?_
    refine lv_iload_n hC.1 hC.2.1 dX0_measure_18 rfl (lv_at hl 1 rfl) ?_
    refine lv_icmp_gt (tgt := 55) hC.1 hC.2.1 dX0_measure_19 (by decide) (fun c10 => ?_) (fun c10 => ?_)
    ·
      have nc10 := Int32.not_le.mpr c10
      have hx19 := nlt_t (a := n) (b := b) c10
      obtain rfl : b = n + 1 := by omega
      refine lv_iinc (v := nI (a + 1)) (lv' := [(2, _), (0, _), (1, _), (3, _)]) hC.1 hC.2.1 dX0_measure_55 hl (k := 2) rfl (nI_1 _) (by decide) rfl (fun ls hl => ?_)
      refine lv_goto (tgt := 10) hC.1 hC.2.1 dX0_measure_58 (by decide) ?_
      exact ih10 (a + 1) _ _ _ (by omega) ⟨by omega, by rw [inA]; exact hM, lv_sub hl [1, 2, 0] rfl⟩
    ·
      have nc10 := Int32.not_lt.mp c10
      have hx19 := nlt_f (a := n) (b := b) c10
      refine lv_aload_n hC.1 hC.2.1 dX0_measure_22 rfl (lv_at hl 0 rfl) ?_
      refine p_get hC hK hM 0 rfl in_X0 rfl 11 (by decide) q230 (fun x h => h) rfl dX0_measure_23 ?_
      refine lv_aload_n hC.1 hC.2.1 dX0_measure_26 rfl (lv_at hl 0 rfl) ?_
      refine lv_iload_n hC.1 hC.2.1 dX0_measure_27 rfl (lv_at hl 2 rfl) ?_
      refine lv_iload_n hC.1 hC.2.1 dX0_measure_28 rfl (lv_at hl 3 rfl) ?_
      refine p_cVe (L' := [_, _]) hC hK hM (hM.at 0 rfl) rfl (cn_at l κ _ no cv ad g (wput cw 11 (inB (rx 0) (inA (rx 0) n (cw 11) a) a b)) a b (hM.at 0 rfl)) (cwV 2 hC.2.2.2.2 (lw_V q1035 q1037 qs21 q63 q1038) rfl rfl rfl (by decide +kernel) ⟨(Nat.le_of_ble_eq_true rfl), (Nat.le_of_ble_eq_true rfl)⟩) rfl hl.1 rfl (lv_room (Nat.le_of_ble_eq_true rfl)) dX0_measure_29 ⟨(Nat.le_of_ble_eq_true rfl), (Nat.le_of_ble_eq_true rfl)⟩ rfl hM.2 (fun H locs hM => ?_)
      refine lv_iload_n hC.1 hC.2.1 dX0_measure_32 rfl (lv_at hl 2 rfl) ?_
      refine lv_iload_n hC.1 hC.2.1 dX0_measure_33 rfl (lv_at hl 3 rfl) ?_
      refine w_tern2 (cond := a = b) (a := 0) (b := rx 0) 48 ?_ (fun jt34 jf34 => ?_)
      ·
        skip
        refine p_iast (L' := [_, _]) hC hK hM 0 rfl 11 rfl rfl (n := (7 * a + b)) rfl (by show _ < 49; omega) (by decide) (nar_11 _ _ _) rfl dX0_measure_48 (fun H locs hM => ?_)
        refine lv_iinc (v := nI (b + 1)) (lv' := [(3, _), (0, _), (1, _), (2, _)]) hC.1 hC.2.1 dX0_measure_49 hl (k := 3) rfl (nI_1 _) (by decide) rfl (fun ls hl => ?_)
        refine lv_goto (tgt := 17) hC.1 hC.2.1 dX0_measure_52 (by decide) ?_
        exact ih17 (b + 1) _ _ _ (by omega) ⟨by omega, by rw [inB]; rw [wput_wput, wput_s] at hM; exact hM, lv_sub hl [1, 2, 3, 0] rfl⟩
      ·
        skip
        refine lv_icmp_ne (tgt := 41) hC.1 hC.2.1 dX0_measure_34 (by decide) (fun c11 => ?_) (fun c11 => ?_)
        ·
          skip
          have ceq : ¬ a = b := neq_f c11
          refine lv_aload_n hC.1 hC.2.1 dX0_measure_41 rfl (lv_at hl 0 rfl) ?_
          refine p_get hC hK hM 0 rfl in_X0 rfl 4 (by decide) q223 (fun x h => h) rfl dX0_measure_42 ?_
          refine p_get hC hK hM 1 rfl in_X1 rfl 0 (by decide) q144 (fun x h => h) rfl dX0_measure_45 ?_
          first | exact jt34 (by exact ceq) | exact jf34 (by exact ceq)
        ·
          skip
          have ceq : a = b := neq_t c11
          refine lv_iconst (v := 0) hC.1 hC.2.1 dX0_measure_37 (by decide) ?_
          refine lv_goto (tgt := 48) hC.1 hC.2.1 dX0_measure_38 (by decide) ?_
          first | exact jt34 (by exact ceq) | exact jf34 (by exact ceq)
