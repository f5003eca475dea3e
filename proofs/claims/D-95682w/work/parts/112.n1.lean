set_option maxHeartbeats 400000 in
set_option maxRecDepth 100000 in
theorem cn_isRoad (l : Launch) (κ : Nat → Nat) (O : gO) (no : Nat) (cv : Nat → Int32) (ad : Nat → Nat) (g : Nat → Nat → Option Nat) (cw : Nat → Nat → Int32) (rx : Nat → Int32) (rd : Nat → Nat) (rw : Nat → Nat → Int32) (hN : O no = some (nsU cv ad g cw)) (hR : O (ad 4) = some (rdU rx rd rw)) : oM l κ yX0_isRoad cX0_isRoad 1 (some .boolean) ({ frames := 0, cells := 0, slots := 0, locals := 0 }) [.ref no] O (fun rv O1 => rv = some (.int (bI (0 < rx 0))) ∧ O1 = O) := by
  intro D ac A
  refine o_body (own := RX0) rfl (plainFor_of_name (by decide)) (Nat.le_of_ble_eq_true rfl) ?_
  intro p e s m args below meth c ls hC hr hlocks hK hM hl hnamed hmeth
  have hl : lv_has ls 1 [(0, .ref no)] := hl
  have hM := PS.of hM [(no, nsU cv ad g cw), (ad 4, rdU rx rd rw)] ⟨hN, hR, trivial⟩ (by simp only [oad, List.map, List.nodup_cons, List.mem_singleton, List.not_mem_nil, not_false_eq_true, List.nodup_nil, and_true]; exact o_ne hN hR (by decide))
  refine lv_aload_n hC.1 hC.2.1 dX0_isRoad_0 rfl (lv_at hl 0 rfl) ?_
  refine p_get hC hK hM 0 rfl in_X0 rfl 4 (by decide) q223 (fun x h => h) rfl dX0_isRoad_1 ?_
  refine p_get hC hK hM 1 rfl in_X1 rfl 0 (by decide) q144 (fun x h => h) rfl dX0_isRoad_4 ?_
  refine lv_if_le (tgt := 14) hC.1 hC.2.1 dX0_isRoad_7 (by decide) (fun c1 => ?_) (fun c1 => ?_)
  ·
    have nc1 := Int32.not_lt.mpr c1
    have c0 := Int32.not_lt.mpr c1
    refine lv_iconst (v := 0) hC.1 hC.2.1 dX0_isRoad_14 (by decide) ?_
    skip
    refine p_zret hC hr hlocks hM (by first | exact bI_01 _ | exact Or.inl rfl | exact Or.inr rfl) dX0_isRoad_15 ?_
    exact ⟨by rw [bI_f c0], by rw [oups, oups, oups, oup_same hR]; exact oup_same hN⟩
  ·
    have nc1 := Int32.not_le.mp c1
    have c0 := Int32.not_le.mp c1
    refine lv_iconst (v := 1) hC.1 hC.2.1 dX0_isRoad_10 (by decide) ?_
    refine lv_goto (tgt := 15) hC.1 hC.2.1 dX0_isRoad_11 (by decide) ?_
    skip
    refine p_zret hC hr hlocks hM (by first | exact bI_01 _ | exact Or.inl rfl | exact Or.inr rfl) dX0_isRoad_15 ?_
    exact ⟨by rw [bI_t c0], by rw [oups, oups, oups, oup_same hR]; exact oup_same hN⟩

set_option maxHeartbeats 400000 in
set_option maxRecDepth 100000 in
theorem cn_isStone (l : Launch) (κ : Nat → Nat) (O : gO) (no : Nat) (cv : Nat → Int32) (ad : Nat → Nat) (g : Nat → Nat → Option Nat) (cw : Nat → Nat → Int32) (rx : Nat → Int32) (rd : Nat → Nat) (rw : Nat → Nat → Int32) (x : Int32) (hN : O no = some (nsU cv ad g cw)) (hR : O (ad 4) = some (rdU rx rd rw)) : oM l κ yX0_isStone cX0_isStone 2 (some .boolean) ({ frames := 1, cells := 0, slots := 0, locals := 25 }) [.ref no, .int x] O (fun rv O1 => rv = some (.int (bI (0 ≤ x ∧ x ≤ rx 4 - 1))) ∧ O1 = O) := by
  intro D ac A
  refine o_body (own := RX0) rfl (plainFor_of_name (by decide)) (Nat.le_of_ble_eq_true rfl) ?_
  intro p e s m args below meth c ls hC hr hlocks hK hM hl hnamed hmeth
  have hl : lv_has ls 2 [(0, .ref no), (1, .int x)] := hl
  have hM := PS.of hM [(no, nsU cv ad g cw), (ad 4, rdU rx rd rw)] ⟨hN, hR, trivial⟩ (by simp only [oad, List.map, List.nodup_cons, List.mem_singleton, List.not_mem_nil, not_false_eq_true, List.nodup_nil, and_true]; exact o_ne hN hR (by decide))
  refine lv_iload_n hC.1 hC.2.1 dX0_isStone_0 rfl (lv_at hl 1 rfl) ?_
  refine lv_i2l hC.1 hC.2.1 dX0_isStone_1 rfl ?_
  refine lv_lconst (v := 0) hC.1 hC.2.1 dX0_isStone_2 (by decide) ?_
  refine lv_aload_n hC.1 hC.2.1 dX0_isStone_3 rfl (lv_at hl 0 rfl) ?_
  refine p_get hC hK hM 0 rfl in_X0 rfl 4 (by decide) q223 (fun x h => h) rfl dX0_isStone_4 ?_
  refine p_get hC hK hM 1 rfl in_X1 rfl 4 (by decide) q156 (fun x h => h) rfl dX0_isStone_7 ?_
  refine lv_iconst (v := 1) hC.1 hC.2.1 dX0_isStone_10 (by decide) ?_
  refine lv_isub hC.1 hC.2.1 dX0_isStone_11 ?_
  refine lv_i2l hC.1 hC.2.1 dX0_isStone_12 rfl ?_
  refine s_ci hC ((cc_isIn l (a := 0) (b := rx 4 - 1) rfl rfl rfl)) (va_cwS 3 hC.2.2.2.2 (lw_S q265 q266 q63 q267) rfl rfl rfl (by decide +kernel) ⟨(Nat.le_of_ble_eq_true rfl), (Nat.le_of_ble_eq_true rfl)⟩) rfl hl.1 rfl (lv_room (Nat.le_of_ble_eq_true rfl)) dX0_isStone_13 ⟨(Nat.le_of_ble_eq_true rfl), (Nat.le_of_ble_eq_true rfl)⟩ ?_
  skip
  refine p_zret hC hr hlocks hM (by first | exact bI_01 _ | exact Or.inl rfl | exact Or.inr rfl) dX0_isStone_16 ?_
  exact ⟨rfl, by rw [oups, oups, oups, oup_same hR]; exact oup_same hN⟩

set_option maxHeartbeats 400000 in
set_option maxRecDepth 100000 in
theorem cn_isMover (l : Launch) (κ : Nat → Nat) (O : gO) (no : Nat) (cv : Nat → Int32) (ad : Nat → Nat) (g : Nat → Nat → Option Nat) (cw : Nat → Nat → Int32) (rx : Nat → Int32) (rd : Nat → Nat) (rw : Nat → Nat → Int32) (mc : Int32) (ea mm : Nat) (ar : gA) (x : Int32) (hN : O no = some (nsU cv ad g cw)) (hR : O (ad 4) = some (rdU rx rd rw)) (hls : O (rd 8) = some (lsU mc ea (nI mm) ar)) : oM l κ yX0_isMover cX0_isMover 2 (some .boolean) ({ frames := 1, cells := 0, slots := 0, locals := 25 }) [.ref no, .int x] O (fun rv O1 => rv = some (.int (bI (0 ≤ x ∧ x ≤ nI mm - 1))) ∧ O1 = O) := by
  intro D ac A
  refine o_body (own := RX0) rfl (plainFor_of_name (by decide)) (Nat.le_of_ble_eq_true rfl) ?_
  intro p e s m args below meth c ls hC hr hlocks hK hM hl hnamed hmeth
  have hl : lv_has ls 2 [(0, .ref no), (1, .int x)] := hl
  have hM := PS.of hM [(no, nsU cv ad g cw), (ad 4, rdU rx rd rw), (rd 8, lsU mc ea (nI mm) ar)] ⟨hN, hR, hls, trivial⟩ (by simp only [oad, List.map, List.nodup_cons, List.mem_cons, List.mem_singleton, List.not_mem_nil, not_or, or_false, not_false_eq_true, List.nodup_nil, and_true]; exact ⟨⟨o_ne hN hR (by decide), o_ne hN hls (by decide)⟩, o_ne hR hls (by decide)⟩)
  refine lv_iload_n hC.1 hC.2.1 dX0_isMover_0 rfl (lv_at hl 1 rfl) ?_
  refine lv_i2l hC.1 hC.2.1 dX0_isMover_1 rfl ?_
  refine lv_lconst (v := 0) hC.1 hC.2.1 dX0_isMover_2 (by decide) ?_
  refine lv_aload_n hC.1 hC.2.1 dX0_isMover_3 rfl (lv_at hl 0 rfl) ?_
  refine p_get hC hK hM 0 rfl in_X0 rfl 4 (by decide) q223 (fun x h => h) rfl dX0_isMover_4 ?_
  refine p_get hC hK hM 1 rfl in_X1 rfl 8 (by decide) q168 (fun x h => h) rfl dX0_isMover_7 ?_
  refine p_cFe (L' := [_, _, _]) hC hK hM (hM.at 2 rfl) rfl (cj_size l κ _ (rd 8) mc ea (nI mm) ar (hM.at 2 rfl)) (va_cwF 0 hC.2.2.2.2 (lw_F q1114 q725 q727 q67 q729) rfl rfl rfl (hK.1.2.2.2 _ (List.mem_of_getElem? (i := 0) (rfl : nFw[0]? = some _))) (by decide +kernel) ⟨(Nat.le_of_ble_eq_true rfl), (Nat.le_of_ble_eq_true rfl)⟩) rfl hl.1 rfl (lv_room (Nat.le_of_ble_eq_true rfl)) dX0_isMover_10 ⟨(Nat.le_of_ble_eq_true rfl), (Nat.le_of_ble_eq_true rfl)⟩ rfl hM.2 (fun H locs hM => ?_)
  refine lv_iconst (v := 1) hC.1 hC.2.1 dX0_isMover_15 (by decide) ?_
  refine lv_isub hC.1 hC.2.1 dX0_isMover_16 ?_
  refine lv_i2l hC.1 hC.2.1 dX0_isMover_17 rfl ?_
  refine s_ci hC ((cc_isIn l (a := 0) (b := nI mm - 1) rfl rfl rfl)) (va_cwS 3 hC.2.2.2.2 (lw_S q265 q266 q63 q267) rfl rfl rfl (by decide +kernel) ⟨(Nat.le_of_ble_eq_true rfl), (Nat.le_of_ble_eq_true rfl)⟩) rfl hl.1 rfl (lv_room (Nat.le_of_ble_eq_true rfl)) dX0_isMover_18 ⟨(Nat.le_of_ble_eq_true rfl), (Nat.le_of_ble_eq_true rfl)⟩ ?_
  skip
  refine p_zret hC hr hlocks hM (by first | exact bI_01 _ | exact Or.inl rfl | exact Or.inr rfl) dX0_isMover_21 ?_
  exact ⟨rfl, by rw [oups, oups, oups, oups, oup_same hls, oup_same hR]; exact oup_same hN⟩

set_option maxHeartbeats 400000 in
set_option maxRecDepth 100000 in
theorem cn_fault (l : Launch) (κ : Nat → Nat) (O : gO) (no : Nat) (cv : Nat → Int32) (ad : Nat → Nat) (g : Nat → Nat → Option Nat) (cw : Nat → Nat → Int32) (hN : O no = some (nsU cv ad g cw)) : oM l κ yX0_fault cX0_fault 1 (some .int) ({ frames := 0, cells := 0, slots := 0, locals := 0 }) [.ref no] O (fun rv O1 => rv = some (.int (cv 3)) ∧ O1 = O) := by
  intro D ac A
  refine o_body (own := RX0) rfl (plainFor_of_name (by decide)) (Nat.le_of_ble_eq_true rfl) ?_
  intro p e s m args below meth c ls hC hr hlocks hK hM hl hnamed hmeth
  have hl : lv_has ls 1 [(0, .ref no)] := hl
  have hM := PS.of hM [(no, nsU cv ad g cw)] ⟨hN, trivial⟩ (by simp [oad])
  refine lv_aload_n hC.1 hC.2.1 dX0_fault_0 rfl (lv_at hl 0 rfl) ?_
  refine p_get hC hK hM 0 rfl in_X0 rfl 3 (by decide) q222 (fun x h => h) rfl dX0_fault_1 ?_
  skip
  refine p_iret hC hr hlocks hM dX0_fault_4 ?_
  exact ⟨rfl, oup_same hN⟩

set_option maxHeartbeats 400000 in
set_option maxRecDepth 100000 in
theorem cn_status (l : Launch) (κ : Nat → Nat) (O : gO) (no : Nat) (cv : Nat → Int32) (ad : Nat → Nat) (g : Nat → Nat → Option Nat) (cw : Nat → Nat → Int32) (hN : O no = some (nsU cv ad g cw)) : oM l κ yX0_status cX0_status 1 (some .int) ({ frames := 0, cells := 0, slots := 0, locals := 0 }) [.ref no] O (fun rv O1 => rv = some (.int (cv 10)) ∧ O1 = O) := by
  intro D ac A
  refine o_body (own := RX0) rfl (plainFor_of_name (by decide)) (Nat.le_of_ble_eq_true rfl) ?_
  intro p e s m args below meth c ls hC hr hlocks hK hM hl hnamed hmeth
  have hl : lv_has ls 1 [(0, .ref no)] := hl
  have hM := PS.of hM [(no, nsU cv ad g cw)] ⟨hN, trivial⟩ (by simp [oad])
  refine lv_aload_n hC.1 hC.2.1 dX0_status_0 rfl (lv_at hl 0 rfl) ?_
  refine p_get hC hK hM 0 rfl in_X0 rfl 10 (by decide) q229 (fun x h => h) rfl dX0_status_1 ?_
  skip
  refine p_iret hC hr hlocks hM dX0_status_4 ?_
  exact ⟨rfl, oup_same hN⟩

set_option maxHeartbeats 400000 in
set_option maxRecDepth 100000 in
theorem cn_well (l : Launch) (κ : Nat → Nat) (O : gO) (no : Nat) (cv : Nat → Int32) (ad : Nat → Nat) (g : Nat → Nat → Option Nat) (cw : Nat → Nat → Int32) (x : Int32) (hN : O no = some (nsU cv ad g cw)) : oM l κ yX0_well cX0_well 2 (some .int) ({ frames := 0, cells := 0, slots := 0, locals := 0 }) [.ref no, .int x] O (fun rv O1 => rv = some (.int x) ∧ O1 = oup O no (nsU (upd cv 10 0) ad g cw)) := by
  intro D ac A
  refine o_body (own := RX0) rfl (plainFor_of_name (by decide)) (Nat.le_of_ble_eq_true rfl) ?_
  intro p e s m args below meth c ls hC hr hlocks hK hM hl hnamed hmeth
  have hl : lv_has ls 2 [(0, .ref no), (1, .int x)] := hl
  have hM := PS.of hM [(no, nsU cv ad g cw)] ⟨hN, trivial⟩ (by simp [oad])
  refine lv_aload_n hC.1 hC.2.1 dX0_well_0 rfl (lv_at hl 0 rfl) ?_
  refine lv_iconst (v := 0) hC.1 hC.2.1 dX0_well_1 (by decide) ?_
  refine p_put (L' := [_]) hC hK hM 0 rfl in_X0 tyX0 tyX0_ok nmX0 rfl 10 (by decide) q229 (fun x h => h) rfl rfl rfl (Nat.le_of_ble_eq_true rfl) rfl rfl rfl dX0_well_2 (fun H locs hM => ?_)
  refine lv_iload_n hC.1 hC.2.1 dX0_well_5 rfl (lv_at hl 1 rfl) ?_
  skip
  refine p_iret hC hr hlocks hM dX0_well_6 ?_
  exact ⟨rfl, rfl⟩

set_option maxHeartbeats 400000 in
set_option maxRecDepth 100000 in
theorem cn_found (l : Launch) (κ : Nat → Nat) (O : gO) (no : Nat) (cv : Nat → Int32) (ad : Nat → Nat) (g : Nat → Nat → Option Nat) (cw : Nat → Nat → Int32) (z : Nat) (x : Int32) (hN : O no = some (nsU cv ad g cw)) (hF : O z = some (fnU x)) : oM l κ yX0_found cX0_found 2 (some .int) ({ frames := 0, cells := 0, slots := 0, locals := 0 }) [.ref no, .ref z] O (fun rv O1 => rv = some (.int (-1000010 - x)) ∧ O1 = oup O no (nsU (upd cv 10 x) ad g cw)) := by
  intro D ac A
  refine o_body (own := RX0) rfl (plainFor_of_name (by decide)) (Nat.le_of_ble_eq_true rfl) ?_
  intro p e s m args below meth c ls hC hr hlocks hK hM hl hnamed hmeth
  have hl : lv_has ls 2 [(0, .ref no), (1, .ref z)] := hl
  have hM := PS.of hM [(no, nsU cv ad g cw), (z, fnU x)] ⟨hN, hF, trivial⟩ (by simp only [oad, List.map, List.nodup_cons, List.mem_singleton, List.not_mem_nil, not_false_eq_true, List.nodup_nil, and_true]; exact o_ne hN hF (by decide))
  refine lv_aload_n hC.1 hC.2.1 dX0_found_0 rfl (lv_at hl 0 rfl) ?_
  refine lv_aload_n hC.1 hC.2.1 dX0_found_1 rfl (lv_at hl 1 rfl) ?_
  refine p_getR hC hK hM 1 rfl in_X4 rfl 6 (by decide) q322 (fun x h => h) rfl dX0_found_2 ?_
  refine p_put (L' := [_, _]) hC hK hM 0 rfl in_X0 tyX0 tyX0_ok nmX0 rfl 10 (by decide) q229 (fun x h => h) rfl rfl rfl (Nat.le_of_ble_eq_true rfl) rfl rfl rfl dX0_found_5 (fun H locs hM => ?_)
  refine lv_ldc hC.1 hC.2.1 hC.2.2.2.1 (hC.2.2.2.2 _ q360) dX0_found_8 ?_
  refine lv_aload_n hC.1 hC.2.1 dX0_found_10 rfl (lv_at hl 1 rfl) ?_
  refine p_getR hC hK hM 1 rfl in_X4 rfl 6 (by decide) q322 (fun x h => h) rfl dX0_found_11 ?_
  refine lv_isub hC.1 hC.2.1 dX0_found_14 ?_
  skip
  refine p_iret hC hr hlocks hM dX0_found_15 ?_
  refine ⟨rfl, ?_⟩
  rw [oups, oups, oups, oup_same hF]
