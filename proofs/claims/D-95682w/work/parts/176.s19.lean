set_option maxHeartbeats 400000 in
set_option maxRecDepth 100000 in
theorem cn_as_9_0 (l : Launch) (κ : Nat → Nat) (O : gO) (no : Nat) (cv : Nat → Int32) (ad : Nat → Nat) (g : Nat → Nat → Option Nat) (cw : Nat → Nat → Int32) (rx : Nat → Int32) (rd : Nat → Nat) (rw : Nat → Nat → Int32) (mc : Int32) (ea mm : Nat) (lf : Nat → Option Nat) (a j : Nat) (mv : Nat → Int32) (hN : O no = some (nsU cv ad g cw)) (hR : O (ad 4) = some (rdU rx rd rw)) (htl : l.stackTraces = false) (hls : O (rd 8) = some (lsU mc ea (nI mm) (lar lf))) (hj : j < mm) (hmm : mm ≤ 5) (hfq : lf j = some a) (hA : O a = some (cU 9 mv (fun _ => 0) aNo)) : oW l κ yX0_as cX0_as 5 (some .int) [(40, 111, 112, 303), (23, 111, 123, 71), (112, 123, 123, 71)] ({ frames := 3, cells := 0, slots := 0, locals := 64 }) [.ref no, .int (nI j), .int 0] O (fun rv O1 => rv = some (.int (mv 0)) ∧ O1 = oup O no (nsU (upd cv 10 0) ad g cw)) := by
  intro D ac A
  refine o_bodyW (own := RX0) rfl (by decide) (Nat.le_of_ble_eq_true rfl) ?_
  intro p e s m args below meth c ls hC hr hlocks hK hM hl htab
  have hl : lv_has ls 5 [(0, .ref no), (1, .int (nI j)), (2, .int 0)] := hl
  have hM := PS.of hM [(no, nsU cv ad g cw), (ad 4, rdU rx rd rw), (rd 8, lsU mc ea (nI mm) (lar lf)), (a, cU 9 mv (fun _ => 0) aNo)] ⟨hN, hR, hls, hA, trivial⟩ (by simp only [oad, List.map, List.nodup_cons, List.mem_cons, List.mem_singleton, List.not_mem_nil, not_or, or_false, not_false_eq_true, List.nodup_nil, and_true]; exact ⟨⟨o_ne hN hR (by decide), o_ne hN hls (by decide), o_ne hN hA (by decide)⟩, ⟨o_ne hR hls (by decide), o_ne hR hA (by decide)⟩, o_ne hls hA (by decide)⟩)
  refine lv_aload_n hC.1 hC.2.1 dX0_as_0 rfl (lv_at hl 0 rfl) ?_
  refine lv_iload_n hC.1 hC.2.1 dX0_as_1 rfl (lv_at hl 1 rfl) ?_
  refine p_cVe (L' := [_, _, _, _]) hC hK hM (hM.at 0 rfl) rfl (cn_isMover l κ _ no cv ad g cw rx rd rw mc ea mm (lar lf) (nI j) (hM.at 0 rfl) (hM.at 1 rfl) (hM.at 2 rfl)) (cwV 1 hC.2.2.2.2 (lw_V q1109 q1111 qs25 q63 q1112) rfl rfl rfl (by decide +kernel) ⟨(Nat.le_of_ble_eq_true rfl), (Nat.le_of_ble_eq_true rfl)⟩) rfl hl.1 rfl (lv_room (Nat.le_of_ble_eq_true rfl)) dX0_as_2 ⟨(Nat.le_of_ble_eq_true rfl), (Nat.le_of_ble_eq_true rfl)⟩ rfl hM.2 (fun H locs hM => ?_)
  refine lv_if_eq (tgt := 20) hC.1 hC.2.1 dX0_as_5 (by decide) (fun c1 => ?_) (fun c1 => ?_)
  ·
    skip
    exact absurd (c1 : bI _ = 0) (by rw [bI_t ⟨nI_pos' (by omega), by rw [show mm = (mm - 1) + 1 by omega, nI_pred]; exact nI_le (by omega) (by omega)⟩]; decide)
  ·
    skip
    refine lv_iload_n hC.1 hC.2.1 dX0_as_8 rfl (lv_at hl 2 rfl) ?_
    refine lv_i2l hC.1 hC.2.1 dX0_as_9 rfl ?_
    refine lv_lconst (v := 0) hC.1 hC.2.1 dX0_as_10 (by decide) ?_
    refine lv_ldc2 hC.1 hC.2.1 hC.2.2.2.1 (hC.2.2.2.2 _ q1154) dX0_as_11 ?_
    refine s_ci hC ((cc_isIn l (a := 0) (b := 5) rfl rfl rfl)) (va_cwS 3 hC.2.2.2.2 (lw_S q265 q266 q63 q267) rfl rfl rfl (by decide +kernel) ⟨(Nat.le_of_ble_eq_true rfl), (Nat.le_of_ble_eq_true rfl)⟩) rfl hl.1 rfl (lv_room (Nat.le_of_ble_eq_true rfl)) dX0_as_14 ⟨(Nat.le_of_ble_eq_true rfl), (Nat.le_of_ble_eq_true rfl)⟩ ?_
    refine lv_if_ne (tgt := 23) hC.1 hC.2.1 dX0_as_17 (by decide) (fun c2 => ?_) (fun c2 => ?_)
    ·
      skip
      refine lv_aload_n hC.1 hC.2.1 dX0_as_23 rfl (lv_at hl 0 rfl) ?_
      refine p_get hC hK hM 0 rfl in_X0 rfl 4 (by decide) q223 (fun x h => h) rfl dX0_as_24 ?_
      refine p_get hC hK hM 1 rfl in_X1 rfl 8 (by decide) q168 (fun x h => h) rfl dX0_as_27 ?_
      refine lv_iload_n hC.1 hC.2.1 dX0_as_30 rfl (lv_at hl 1 rfl) ?_
      refine p_cFe (L' := [_, _, _, _]) hC hK hM (hM.at 2 rfl) rfl (cj_get l κ _ (rd 8) mc ea mm lf j a (hM.at 2 rfl) hj (by omega) hfq) (va_cwF 1 hC.2.2.2.2 (lw_F q1116 q904 q906 q67 q908) rfl rfl rfl (hK.1.2.2.2 _ (List.mem_of_getElem? (i := 2) (rfl : nFw[2]? = some _))) (by decide +kernel) ⟨(Nat.le_of_ble_eq_true rfl), (Nat.le_of_ble_eq_true rfl)⟩) rfl hl.1 rfl (lv_room (Nat.le_of_ble_eq_true rfl)) dX0_as_31 ⟨(Nat.le_of_ble_eq_true rfl), (Nat.le_of_ble_eq_true rfl)⟩ rfl hM.2 (fun H locs hM => ?_)
      refine v_cn hC hK hM (kd := 1) (hM.at 3 rfl) (by decide) (by decide) dX0_as_36 ?_
      refine lv_astore_n (lv' := [(3, _), (0, _), (1, _), (2, _)]) hC.1 hC.2.1 dX0_as_39 rfl hl (by decide) rfl (fun ls hl => ?_)
      refine lv_iload_n hC.1 hC.2.1 dX0_as_40 rfl (lv_at hl 3 rfl) ?_
      refine lv_if_ne (tgt := 48) hC.1 hC.2.1 dX0_as_41 (by decide) (fun c3 => ?_) (fun c3 => ?_)
      ·
        skip
        exact absurd rfl c3
      ·
        skip
        refine lv_aload_n hC.1 hC.2.1 dX0_as_44 rfl (lv_at hl 0 rfl) ?_
        refine lv_goto (tgt := 100) hC.1 hC.2.1 dX0_as_45 (by decide) ?_
        refine lv_astore (lv' := [(4, _), (3, _), (0, _), (1, _), (2, _)]) hC.1 hC.2.1 dX0_as_100 hl (by decide) rfl (fun ls hl => ?_)
        refine lv_aload_n hC.1 hC.2.1 dX0_as_102 rfl (lv_at hl 2 rfl) ?_
        refine lv_aload hC.1 hC.2.1 dX0_as_103 (lv_at hl 0 rfl) ?_
        refine v_nu hC hK hM (kd := 1) (hM.at 3 rfl) (by decide) (by decide) hl.1 (lv_room (Nat.le_of_ble_eq_true rfl)) ⟨Nat.le_of_ble_eq_true rfl, Nat.le_of_ble_eq_true rfl⟩ dX0_as_105 ⟨Nat.le_of_ble_eq_true rfl, Nat.le_of_ble_eq_true rfl⟩ (fun H locs hM => ?_)
        refine p_cVe (L' := [_, _, _, _]) hC hK hM (hM.at 0 rfl) rfl (cn_well l κ _ no cv ad g cw (mv 0) (hM.at 0 rfl)) (cwV 1 hC.2.2.2.2 (lw_V q352 q354 qs1 q63 q355) rfl rfl rfl (by decide +kernel) ⟨(Nat.le_of_ble_eq_true rfl), (Nat.le_of_ble_eq_true rfl)⟩) rfl hl.1 rfl (lv_room (Nat.le_of_ble_eq_true rfl)) dX0_as_108 ⟨(Nat.le_of_ble_eq_true rfl), (Nat.le_of_ble_eq_true rfl)⟩ (oups_set hM.2 (i := 0) rfl) (oad_nd hM.2 (i := 0) rfl rfl) (fun H locs hM => ?_)
        skip
        refine p_iret hC hr hlocks hM dX0_as_111 ?_
        refine ⟨rfl, ?_⟩
        rw [oups, oups, oups, oups, oups, oup_same hA, oup_same hls, oup_same hR]
    ·
      skip
      exact absurd (c2 : bI _ = 0) (by decide)

set_option maxHeartbeats 400000 in
set_option maxRecDepth 100000 in
theorem cn_as_10_0 (l : Launch) (κ : Nat → Nat) (O : gO) (no : Nat) (cv : Nat → Int32) (ad : Nat → Nat) (g : Nat → Nat → Option Nat) (cw : Nat → Nat → Int32) (rx : Nat → Int32) (rd : Nat → Nat) (rw : Nat → Nat → Int32) (mc : Int32) (ea mm : Nat) (lf : Nat → Option Nat) (a j : Nat) (mv : Nat → Int32) (hN : O no = some (nsU cv ad g cw)) (hR : O (ad 4) = some (rdU rx rd rw)) (htl : l.stackTraces = false) (hls : O (rd 8) = some (lsU mc ea (nI mm) (lar lf))) (hj : j < mm) (hmm : mm ≤ 5) (hfq : lf j = some a) (hA : O a = some (cU 10 mv (fun _ => 0) aNo)) : oW l κ yX0_as cX0_as 5 (some .int) [(40, 111, 112, 303), (23, 111, 123, 71), (112, 123, 123, 71)] ({ frames := 3, cells := 0, slots := 0, locals := 64 }) [.ref no, .int (nI j), .int 0] O (fun rv O1 => rv = some (.int (mv 0)) ∧ O1 = oup O no (nsU (upd cv 10 0) ad g cw)) := by
  intro D ac A
  refine o_bodyW (own := RX0) rfl (by decide) (Nat.le_of_ble_eq_true rfl) ?_
  intro p e s m args below meth c ls hC hr hlocks hK hM hl htab
  have hl : lv_has ls 5 [(0, .ref no), (1, .int (nI j)), (2, .int 0)] := hl
  have hM := PS.of hM [(no, nsU cv ad g cw), (ad 4, rdU rx rd rw), (rd 8, lsU mc ea (nI mm) (lar lf)), (a, cU 10 mv (fun _ => 0) aNo)] ⟨hN, hR, hls, hA, trivial⟩ (by simp only [oad, List.map, List.nodup_cons, List.mem_cons, List.mem_singleton, List.not_mem_nil, not_or, or_false, not_false_eq_true, List.nodup_nil, and_true]; exact ⟨⟨o_ne hN hR (by decide), o_ne hN hls (by decide), o_ne hN hA (by decide)⟩, ⟨o_ne hR hls (by decide), o_ne hR hA (by decide)⟩, o_ne hls hA (by decide)⟩)
  refine lv_aload_n hC.1 hC.2.1 dX0_as_0 rfl (lv_at hl 0 rfl) ?_
  refine lv_iload_n hC.1 hC.2.1 dX0_as_1 rfl (lv_at hl 1 rfl) ?_
  refine p_cVe (L' := [_, _, _, _]) hC hK hM (hM.at 0 rfl) rfl (cn_isMover l κ _ no cv ad g cw rx rd rw mc ea mm (lar lf) (nI j) (hM.at 0 rfl) (hM.at 1 rfl) (hM.at 2 rfl)) (cwV 1 hC.2.2.2.2 (lw_V q1109 q1111 qs25 q63 q1112) rfl rfl rfl (by decide +kernel) ⟨(Nat.le_of_ble_eq_true rfl), (Nat.le_of_ble_eq_true rfl)⟩) rfl hl.1 rfl (lv_room (Nat.le_of_ble_eq_true rfl)) dX0_as_2 ⟨(Nat.le_of_ble_eq_true rfl), (Nat.le_of_ble_eq_true rfl)⟩ rfl hM.2 (fun H locs hM => ?_)
  refine lv_if_eq (tgt := 20) hC.1 hC.2.1 dX0_as_5 (by decide) (fun c1 => ?_) (fun c1 => ?_)
  ·
    skip
    exact absurd (c1 : bI _ = 0) (by rw [bI_t ⟨nI_pos' (by omega), by rw [show mm = (mm - 1) + 1 by omega, nI_pred]; exact nI_le (by omega) (by omega)⟩]; decide)
  ·
    skip
    refine lv_iload_n hC.1 hC.2.1 dX0_as_8 rfl (lv_at hl 2 rfl) ?_
    refine lv_i2l hC.1 hC.2.1 dX0_as_9 rfl ?_
    refine lv_lconst (v := 0) hC.1 hC.2.1 dX0_as_10 (by decide) ?_
    refine lv_ldc2 hC.1 hC.2.1 hC.2.2.2.1 (hC.2.2.2.2 _ q1154) dX0_as_11 ?_
    refine s_ci hC ((cc_isIn l (a := 0) (b := 5) rfl rfl rfl)) (va_cwS 3 hC.2.2.2.2 (lw_S q265 q266 q63 q267) rfl rfl rfl (by decide +kernel) ⟨(Nat.le_of_ble_eq_true rfl), (Nat.le_of_ble_eq_true rfl)⟩) rfl hl.1 rfl (lv_room (Nat.le_of_ble_eq_true rfl)) dX0_as_14 ⟨(Nat.le_of_ble_eq_true rfl), (Nat.le_of_ble_eq_true rfl)⟩ ?_
    refine lv_if_ne (tgt := 23) hC.1 hC.2.1 dX0_as_17 (by decide) (fun c2 => ?_) (fun c2 => ?_)
    ·
      skip
      refine lv_aload_n hC.1 hC.2.1 dX0_as_23 rfl (lv_at hl 0 rfl) ?_
      refine p_get hC hK hM 0 rfl in_X0 rfl 4 (by decide) q223 (fun x h => h) rfl dX0_as_24 ?_
      refine p_get hC hK hM 1 rfl in_X1 rfl 8 (by decide) q168 (fun x h => h) rfl dX0_as_27 ?_
      refine lv_iload_n hC.1 hC.2.1 dX0_as_30 rfl (lv_at hl 1 rfl) ?_
      refine p_cFe (L' := [_, _, _, _]) hC hK hM (hM.at 2 rfl) rfl (cj_get l κ _ (rd 8) mc ea mm lf j a (hM.at 2 rfl) hj (by omega) hfq) (va_cwF 1 hC.2.2.2.2 (lw_F q1116 q904 q906 q67 q908) rfl rfl rfl (hK.1.2.2.2 _ (List.mem_of_getElem? (i := 2) (rfl : nFw[2]? = some _))) (by decide +kernel) ⟨(Nat.le_of_ble_eq_true rfl), (Nat.le_of_ble_eq_true rfl)⟩) rfl hl.1 rfl (lv_room (Nat.le_of_ble_eq_true rfl)) dX0_as_31 ⟨(Nat.le_of_ble_eq_true rfl), (Nat.le_of_ble_eq_true rfl)⟩ rfl hM.2 (fun H locs hM => ?_)
      refine v_cn hC hK hM (kd := 2) (hM.at 3 rfl) (by decide) (by decide) dX0_as_36 ?_
      refine lv_astore_n (lv' := [(3, _), (0, _), (1, _), (2, _)]) hC.1 hC.2.1 dX0_as_39 rfl hl (by decide) rfl (fun ls hl => ?_)
      refine lv_iload_n hC.1 hC.2.1 dX0_as_40 rfl (lv_at hl 3 rfl) ?_
      refine lv_if_ne (tgt := 48) hC.1 hC.2.1 dX0_as_41 (by decide) (fun c3 => ?_) (fun c3 => ?_)
      ·
        skip
        exact absurd rfl c3
      ·
        skip
        refine lv_aload_n hC.1 hC.2.1 dX0_as_44 rfl (lv_at hl 0 rfl) ?_
        refine lv_goto (tgt := 100) hC.1 hC.2.1 dX0_as_45 (by decide) ?_
        refine lv_astore (lv' := [(4, _), (3, _), (0, _), (1, _), (2, _)]) hC.1 hC.2.1 dX0_as_100 hl (by decide) rfl (fun ls hl => ?_)
        refine lv_aload_n hC.1 hC.2.1 dX0_as_102 rfl (lv_at hl 2 rfl) ?_
        refine lv_aload hC.1 hC.2.1 dX0_as_103 (lv_at hl 0 rfl) ?_
        refine v_nu hC hK hM (kd := 2) (hM.at 3 rfl) (by decide) (by decide) hl.1 (lv_room (Nat.le_of_ble_eq_true rfl)) ⟨Nat.le_of_ble_eq_true rfl, Nat.le_of_ble_eq_true rfl⟩ dX0_as_105 ⟨Nat.le_of_ble_eq_true rfl, Nat.le_of_ble_eq_true rfl⟩ (fun H locs hM => ?_)
        refine p_cVe (L' := [_, _, _, _]) hC hK hM (hM.at 0 rfl) rfl (cn_well l κ _ no cv ad g cw (mv 0) (hM.at 0 rfl)) (cwV 1 hC.2.2.2.2 (lw_V q352 q354 qs1 q63 q355) rfl rfl rfl (by decide +kernel) ⟨(Nat.le_of_ble_eq_true rfl), (Nat.le_of_ble_eq_true rfl)⟩) rfl hl.1 rfl (lv_room (Nat.le_of_ble_eq_true rfl)) dX0_as_108 ⟨(Nat.le_of_ble_eq_true rfl), (Nat.le_of_ble_eq_true rfl)⟩ (oups_set hM.2 (i := 0) rfl) (oad_nd hM.2 (i := 0) rfl rfl) (fun H locs hM => ?_)
        skip
        refine p_iret hC hr hlocks hM dX0_as_111 ?_
        refine ⟨rfl, ?_⟩
        rw [oups, oups, oups, oups, oups, oup_same hA, oup_same hls, oup_same hR]
    ·
      skip
      exact absurd (c2 : bI _ = 0) (by decide)

set_option maxHeartbeats 400000 in
set_option maxRecDepth 100000 in
theorem cn_as_11_0 (l : Launch) (κ : Nat → Nat) (O : gO) (no : Nat) (cv : Nat → Int32) (ad : Nat → Nat) (g : Nat → Nat → Option Nat) (cw : Nat → Nat → Int32) (rx : Nat → Int32) (rd : Nat → Nat) (rw : Nat → Nat → Int32) (mc : Int32) (ea mm : Nat) (lf : Nat → Option Nat) (a j : Nat) (mv : Nat → Int32) (hN : O no = some (nsU cv ad g cw)) (hR : O (ad 4) = some (rdU rx rd rw)) (htl : l.stackTraces = false) (hls : O (rd 8) = some (lsU mc ea (nI mm) (lar lf))) (hj : j < mm) (hmm : mm ≤ 5) (hfq : lf j = some a) (hA : O a = some (cU 11 mv (fun _ => 0) aNo)) : oW l κ yX0_as cX0_as 5 (some .int) [(40, 111, 112, 303), (23, 111, 123, 71), (112, 123, 123, 71)] ({ frames := 3, cells := 0, slots := 0, locals := 64 }) [.ref no, .int (nI j), .int 0] O (fun rv O1 => rv = some (.int (mv 0)) ∧ O1 = oup O no (nsU (upd cv 10 0) ad g cw)) := by
  intro D ac A
  refine o_bodyW (own := RX0) rfl (by decide) (Nat.le_of_ble_eq_true rfl) ?_
  intro p e s m args below meth c ls hC hr hlocks hK hM hl htab
  have hl : lv_has ls 5 [(0, .ref no), (1, .int (nI j)), (2, .int 0)] := hl
  have hM := PS.of hM [(no, nsU cv ad g cw), (ad 4, rdU rx rd rw), (rd 8, lsU mc ea (nI mm) (lar lf)), (a, cU 11 mv (fun _ => 0) aNo)] ⟨hN, hR, hls, hA, trivial⟩ (by simp only [oad, List.map, List.nodup_cons, List.mem_cons, List.mem_singleton, List.not_mem_nil, not_or, or_false, not_false_eq_true, List.nodup_nil, and_true]; exact ⟨⟨o_ne hN hR (by decide), o_ne hN hls (by decide), o_ne hN hA (by decide)⟩, ⟨o_ne hR hls (by decide), o_ne hR hA (by decide)⟩, o_ne hls hA (by decide)⟩)
  refine lv_aload_n hC.1 hC.2.1 dX0_as_0 rfl (lv_at hl 0 rfl) ?_
  refine lv_iload_n hC.1 hC.2.1 dX0_as_1 rfl (lv_at hl 1 rfl) ?_
  refine p_cVe (L' := [_, _, _, _]) hC hK hM (hM.at 0 rfl) rfl (cn_isMover l κ _ no cv ad g cw rx rd rw mc ea mm (lar lf) (nI j) (hM.at 0 rfl) (hM.at 1 rfl) (hM.at 2 rfl)) (cwV 1 hC.2.2.2.2 (lw_V q1109 q1111 qs25 q63 q1112) rfl rfl rfl (by decide +kernel) ⟨(Nat.le_of_ble_eq_true rfl), (Nat.le_of_ble_eq_true rfl)⟩) rfl hl.1 rfl (lv_room (Nat.le_of_ble_eq_true rfl)) dX0_as_2 ⟨(Nat.le_of_ble_eq_true rfl), (Nat.le_of_ble_eq_true rfl)⟩ rfl hM.2 (fun H locs hM => ?_)
  refine lv_if_eq (tgt := 20) hC.1 hC.2.1 dX0_as_5 (by decide) (fun c1 => ?_) (fun c1 => ?_)
  ·
    skip
    exact absurd (c1 : bI _ = 0) (by rw [bI_t ⟨nI_pos' (by omega), by rw [show mm = (mm - 1) + 1 by omega, nI_pred]; exact nI_le (by omega) (by omega)⟩]; decide)
  ·
    skip
    refine lv_iload_n hC.1 hC.2.1 dX0_as_8 rfl (lv_at hl 2 rfl) ?_
    refine lv_i2l hC.1 hC.2.1 dX0_as_9 rfl ?_
    refine lv_lconst (v := 0) hC.1 hC.2.1 dX0_as_10 (by decide) ?_
    refine lv_ldc2 hC.1 hC.2.1 hC.2.2.2.1 (hC.2.2.2.2 _ q1154) dX0_as_11 ?_
    refine s_ci hC ((cc_isIn l (a := 0) (b := 5) rfl rfl rfl)) (va_cwS 3 hC.2.2.2.2 (lw_S q265 q266 q63 q267) rfl rfl rfl (by decide +kernel) ⟨(Nat.le_of_ble_eq_true rfl), (Nat.le_of_ble_eq_true rfl)⟩) rfl hl.1 rfl (lv_room (Nat.le_of_ble_eq_true rfl)) dX0_as_14 ⟨(Nat.le_of_ble_eq_true rfl), (Nat.le_of_ble_eq_true rfl)⟩ ?_
    refine lv_if_ne (tgt := 23) hC.1 hC.2.1 dX0_as_17 (by decide) (fun c2 => ?_) (fun c2 => ?_)
    ·
      skip
      refine lv_aload_n hC.1 hC.2.1 dX0_as_23 rfl (lv_at hl 0 rfl) ?_
      refine p_get hC hK hM 0 rfl in_X0 rfl 4 (by decide) q223 (fun x h => h) rfl dX0_as_24 ?_
      refine p_get hC hK hM 1 rfl in_X1 rfl 8 (by decide) q168 (fun x h => h) rfl dX0_as_27 ?_
      refine lv_iload_n hC.1 hC.2.1 dX0_as_30 rfl (lv_at hl 1 rfl) ?_
      refine p_cFe (L' := [_, _, _, _]) hC hK hM (hM.at 2 rfl) rfl (cj_get l κ _ (rd 8) mc ea mm lf j a (hM.at 2 rfl) hj (by omega) hfq) (va_cwF 1 hC.2.2.2.2 (lw_F q1116 q904 q906 q67 q908) rfl rfl rfl (hK.1.2.2.2 _ (List.mem_of_getElem? (i := 2) (rfl : nFw[2]? = some _))) (by decide +kernel) ⟨(Nat.le_of_ble_eq_true rfl), (Nat.le_of_ble_eq_true rfl)⟩) rfl hl.1 rfl (lv_room (Nat.le_of_ble_eq_true rfl)) dX0_as_31 ⟨(Nat.le_of_ble_eq_true rfl), (Nat.le_of_ble_eq_true rfl)⟩ rfl hM.2 (fun H locs hM => ?_)
      refine v_cn hC hK hM (kd := 3) (hM.at 3 rfl) (by decide) (by decide) dX0_as_36 ?_
      refine lv_astore_n (lv' := [(3, _), (0, _), (1, _), (2, _)]) hC.1 hC.2.1 dX0_as_39 rfl hl (by decide) rfl (fun ls hl => ?_)
      refine lv_iload_n hC.1 hC.2.1 dX0_as_40 rfl (lv_at hl 3 rfl) ?_
      refine lv_if_ne (tgt := 48) hC.1 hC.2.1 dX0_as_41 (by decide) (fun c3 => ?_) (fun c3 => ?_)
      ·
        skip
        exact absurd rfl c3
      ·
        skip
        refine lv_aload_n hC.1 hC.2.1 dX0_as_44 rfl (lv_at hl 0 rfl) ?_
        refine lv_goto (tgt := 100) hC.1 hC.2.1 dX0_as_45 (by decide) ?_
        refine lv_astore (lv' := [(4, _), (3, _), (0, _), (1, _), (2, _)]) hC.1 hC.2.1 dX0_as_100 hl (by decide) rfl (fun ls hl => ?_)
        refine lv_aload_n hC.1 hC.2.1 dX0_as_102 rfl (lv_at hl 2 rfl) ?_
        refine lv_aload hC.1 hC.2.1 dX0_as_103 (lv_at hl 0 rfl) ?_
        refine v_nu hC hK hM (kd := 3) (hM.at 3 rfl) (by decide) (by decide) hl.1 (lv_room (Nat.le_of_ble_eq_true rfl)) ⟨Nat.le_of_ble_eq_true rfl, Nat.le_of_ble_eq_true rfl⟩ dX0_as_105 ⟨Nat.le_of_ble_eq_true rfl, Nat.le_of_ble_eq_true rfl⟩ (fun H locs hM => ?_)
        refine p_cVe (L' := [_, _, _, _]) hC hK hM (hM.at 0 rfl) rfl (cn_well l κ _ no cv ad g cw (mv 0) (hM.at 0 rfl)) (cwV 1 hC.2.2.2.2 (lw_V q352 q354 qs1 q63 q355) rfl rfl rfl (by decide +kernel) ⟨(Nat.le_of_ble_eq_true rfl), (Nat.le_of_ble_eq_true rfl)⟩) rfl hl.1 rfl (lv_room (Nat.le_of_ble_eq_true rfl)) dX0_as_108 ⟨(Nat.le_of_ble_eq_true rfl), (Nat.le_of_ble_eq_true rfl)⟩ (oups_set hM.2 (i := 0) rfl) (oad_nd hM.2 (i := 0) rfl rfl) (fun H locs hM => ?_)
        skip
        refine p_iret hC hr hlocks hM dX0_as_111 ?_
        refine ⟨rfl, ?_⟩
        rw [oups, oups, oups, oups, oups, oup_same hA, oup_same hls, oup_same hR]
    ·
      skip
      exact absurd (c2 : bI _ = 0) (by decide)

set_option maxHeartbeats 400000 in
set_option maxRecDepth 100000 in
theorem cn_as_12_0 (l : Launch) (κ : Nat → Nat) (O : gO) (no : Nat) (cv : Nat → Int32) (ad : Nat → Nat) (g : Nat → Nat → Option Nat) (cw : Nat → Nat → Int32) (rx : Nat → Int32) (rd : Nat → Nat) (rw : Nat → Nat → Int32) (mc : Int32) (ea mm : Nat) (lf : Nat → Option Nat) (a j : Nat) (mv : Nat → Int32) (hN : O no = some (nsU cv ad g cw)) (hR : O (ad 4) = some (rdU rx rd rw)) (htl : l.stackTraces = false) (hls : O (rd 8) = some (lsU mc ea (nI mm) (lar lf))) (hj : j < mm) (hmm : mm ≤ 5) (hfq : lf j = some a) (hA : O a = some (cU 12 mv (fun _ => 0) aNo)) : oW l κ yX0_as cX0_as 5 (some .int) [(40, 111, 112, 303), (23, 111, 123, 71), (112, 123, 123, 71)] ({ frames := 3, cells := 0, slots := 0, locals := 64 }) [.ref no, .int (nI j), .int 0] O (fun rv O1 => rv = some (.int (mv 0)) ∧ O1 = oup O no (nsU (upd cv 10 0) ad g cw)) := by
  intro D ac A
  refine o_bodyW (own := RX0) rfl (by decide) (Nat.le_of_ble_eq_true rfl) ?_
  intro p e s m args below meth c ls hC hr hlocks hK hM hl htab
  have hl : lv_has ls 5 [(0, .ref no), (1, .int (nI j)), (2, .int 0)] := hl
  have hM := PS.of hM [(no, nsU cv ad g cw), (ad 4, rdU rx rd rw), (rd 8, lsU mc ea (nI mm) (lar lf)), (a, cU 12 mv (fun _ => 0) aNo)] ⟨hN, hR, hls, hA, trivial⟩ (by simp only [oad, List.map, List.nodup_cons, List.mem_cons, List.mem_singleton, List.not_mem_nil, not_or, or_false, not_false_eq_true, List.nodup_nil, and_true]; exact ⟨⟨o_ne hN hR (by decide), o_ne hN hls (by decide), o_ne hN hA (by decide)⟩, ⟨o_ne hR hls (by decide), o_ne hR hA (by decide)⟩, o_ne hls hA (by decide)⟩)
  refine lv_aload_n hC.1 hC.2.1 dX0_as_0 rfl (lv_at hl 0 rfl) ?_
  refine lv_iload_n hC.1 hC.2.1 dX0_as_1 rfl (lv_at hl 1 rfl) ?_
  refine p_cVe (L' := [_, _, _, _]) hC hK hM (hM.at 0 rfl) rfl (cn_isMover l κ _ no cv ad g cw rx rd rw mc ea mm (lar lf) (nI j) (hM.at 0 rfl) (hM.at 1 rfl) (hM.at 2 rfl)) (cwV 1 hC.2.2.2.2 (lw_V q1109 q1111 qs25 q63 q1112) rfl rfl rfl (by decide +kernel) ⟨(Nat.le_of_ble_eq_true rfl), (Nat.le_of_ble_eq_true rfl)⟩) rfl hl.1 rfl (lv_room (Nat.le_of_ble_eq_true rfl)) dX0_as_2 ⟨(Nat.le_of_ble_eq_true rfl), (Nat.le_of_ble_eq_true rfl)⟩ rfl hM.2 (fun H locs hM => ?_)
  refine lv_if_eq (tgt := 20) hC.1 hC.2.1 dX0_as_5 (by decide) (fun c1 => ?_) (fun c1 => ?_)
  ·
    skip
    exact absurd (c1 : bI _ = 0) (by rw [bI_t ⟨nI_pos' (by omega), by rw [show mm = (mm - 1) + 1 by omega, nI_pred]; exact nI_le (by omega) (by omega)⟩]; decide)
  ·
    skip
    refine lv_iload_n hC.1 hC.2.1 dX0_as_8 rfl (lv_at hl 2 rfl) ?_
    refine lv_i2l hC.1 hC.2.1 dX0_as_9 rfl ?_
    refine lv_lconst (v := 0) hC.1 hC.2.1 dX0_as_10 (by decide) ?_
    refine lv_ldc2 hC.1 hC.2.1 hC.2.2.2.1 (hC.2.2.2.2 _ q1154) dX0_as_11 ?_
    refine s_ci hC ((cc_isIn l (a := 0) (b := 5) rfl rfl rfl)) (va_cwS 3 hC.2.2.2.2 (lw_S q265 q266 q63 q267) rfl rfl rfl (by decide +kernel) ⟨(Nat.le_of_ble_eq_true rfl), (Nat.le_of_ble_eq_true rfl)⟩) rfl hl.1 rfl (lv_room (Nat.le_of_ble_eq_true rfl)) dX0_as_14 ⟨(Nat.le_of_ble_eq_true rfl), (Nat.le_of_ble_eq_true rfl)⟩ ?_
    refine lv_if_ne (tgt := 23) hC.1 hC.2.1 dX0_as_17 (by decide) (fun c2 => ?_) (fun c2 => ?_)
    ·
      skip
      refine lv_aload_n hC.1 hC.2.1 dX0_as_23 rfl (lv_at hl 0 rfl) ?_
      refine p_get hC hK hM 0 rfl in_X0 rfl 4 (by decide) q223 (fun x h => h) rfl dX0_as_24 ?_
      refine p_get hC hK hM 1 rfl in_X1 rfl 8 (by decide) q168 (fun x h => h) rfl dX0_as_27 ?_
      refine lv_iload_n hC.1 hC.2.1 dX0_as_30 rfl (lv_at hl 1 rfl) ?_
      refine p_cFe (L' := [_, _, _, _]) hC hK hM (hM.at 2 rfl) rfl (cj_get l κ _ (rd 8) mc ea mm lf j a (hM.at 2 rfl) hj (by omega) hfq) (va_cwF 1 hC.2.2.2.2 (lw_F q1116 q904 q906 q67 q908) rfl rfl rfl (hK.1.2.2.2 _ (List.mem_of_getElem? (i := 2) (rfl : nFw[2]? = some _))) (by decide +kernel) ⟨(Nat.le_of_ble_eq_true rfl), (Nat.le_of_ble_eq_true rfl)⟩) rfl hl.1 rfl (lv_room (Nat.le_of_ble_eq_true rfl)) dX0_as_31 ⟨(Nat.le_of_ble_eq_true rfl), (Nat.le_of_ble_eq_true rfl)⟩ rfl hM.2 (fun H locs hM => ?_)
      refine v_cn hC hK hM (kd := 4) (hM.at 3 rfl) (by decide) (by decide) dX0_as_36 ?_
      refine lv_astore_n (lv' := [(3, _), (0, _), (1, _), (2, _)]) hC.1 hC.2.1 dX0_as_39 rfl hl (by decide) rfl (fun ls hl => ?_)
      refine lv_iload_n hC.1 hC.2.1 dX0_as_40 rfl (lv_at hl 3 rfl) ?_
      refine lv_if_ne (tgt := 48) hC.1 hC.2.1 dX0_as_41 (by decide) (fun c3 => ?_) (fun c3 => ?_)
      ·
        skip
        exact absurd rfl c3
      ·
        skip
        refine lv_aload_n hC.1 hC.2.1 dX0_as_44 rfl (lv_at hl 0 rfl) ?_
        refine lv_goto (tgt := 100) hC.1 hC.2.1 dX0_as_45 (by decide) ?_
        refine lv_astore (lv' := [(4, _), (3, _), (0, _), (1, _), (2, _)]) hC.1 hC.2.1 dX0_as_100 hl (by decide) rfl (fun ls hl => ?_)
        refine lv_aload_n hC.1 hC.2.1 dX0_as_102 rfl (lv_at hl 2 rfl) ?_
        refine lv_aload hC.1 hC.2.1 dX0_as_103 (lv_at hl 0 rfl) ?_
        refine v_nu hC hK hM (kd := 4) (hM.at 3 rfl) (by decide) (by decide) hl.1 (lv_room (Nat.le_of_ble_eq_true rfl)) ⟨Nat.le_of_ble_eq_true rfl, Nat.le_of_ble_eq_true rfl⟩ dX0_as_105 ⟨Nat.le_of_ble_eq_true rfl, Nat.le_of_ble_eq_true rfl⟩ (fun H locs hM => ?_)
        refine p_cVe (L' := [_, _, _, _]) hC hK hM (hM.at 0 rfl) rfl (cn_well l κ _ no cv ad g cw (mv 0) (hM.at 0 rfl)) (cwV 1 hC.2.2.2.2 (lw_V q352 q354 qs1 q63 q355) rfl rfl rfl (by decide +kernel) ⟨(Nat.le_of_ble_eq_true rfl), (Nat.le_of_ble_eq_true rfl)⟩) rfl hl.1 rfl (lv_room (Nat.le_of_ble_eq_true rfl)) dX0_as_108 ⟨(Nat.le_of_ble_eq_true rfl), (Nat.le_of_ble_eq_true rfl)⟩ (oups_set hM.2 (i := 0) rfl) (oad_nd hM.2 (i := 0) rfl rfl) (fun H locs hM => ?_)
        skip
        refine p_iret hC hr hlocks hM dX0_as_111 ?_
        refine ⟨rfl, ?_⟩
        rw [oups, oups, oups, oups, oups, oup_same hA, oup_same hls, oup_same hR]
    ·
      skip
      exact absurd (c2 : bI _ = 0) (by decide)

set_option maxHeartbeats 400000 in
set_option maxRecDepth 100000 in
theorem cn_as_13_0 (l : Launch) (κ : Nat → Nat) (O : gO) (no : Nat) (cv : Nat → Int32) (ad : Nat → Nat) (g : Nat → Nat → Option Nat) (cw : Nat → Nat → Int32) (rx : Nat → Int32) (rd : Nat → Nat) (rw : Nat → Nat → Int32) (mc : Int32) (ea mm : Nat) (lf : Nat → Option Nat) (a j : Nat) (mv : Nat → Int32) (hN : O no = some (nsU cv ad g cw)) (hR : O (ad 4) = some (rdU rx rd rw)) (htl : l.stackTraces = false) (hls : O (rd 8) = some (lsU mc ea (nI mm) (lar lf))) (hj : j < mm) (hmm : mm ≤ 5) (hfq : lf j = some a) (hA : O a = some (cU 13 mv (fun _ => 0) aNo)) : oW l κ yX0_as cX0_as 5 (some .int) [(40, 111, 112, 303), (23, 111, 123, 71), (112, 123, 123, 71)] ({ frames := 3, cells := 0, slots := 0, locals := 64 }) [.ref no, .int (nI j), .int 0] O (fun rv O1 => rv = some (.int (mv 0)) ∧ O1 = oup O no (nsU (upd cv 10 0) ad g cw)) := by
  intro D ac A
  refine o_bodyW (own := RX0) rfl (by decide) (Nat.le_of_ble_eq_true rfl) ?_
  intro p e s m args below meth c ls hC hr hlocks hK hM hl htab
  have hl : lv_has ls 5 [(0, .ref no), (1, .int (nI j)), (2, .int 0)] := hl
  have hM := PS.of hM [(no, nsU cv ad g cw), (ad 4, rdU rx rd rw), (rd 8, lsU mc ea (nI mm) (lar lf)), (a, cU 13 mv (fun _ => 0) aNo)] ⟨hN, hR, hls, hA, trivial⟩ (by simp only [oad, List.map, List.nodup_cons, List.mem_cons, List.mem_singleton, List.not_mem_nil, not_or, or_false, not_false_eq_true, List.nodup_nil, and_true]; exact ⟨⟨o_ne hN hR (by decide), o_ne hN hls (by decide), o_ne hN hA (by decide)⟩, ⟨o_ne hR hls (by decide), o_ne hR hA (by decide)⟩, o_ne hls hA (by decide)⟩)
  refine lv_aload_n hC.1 hC.2.1 dX0_as_0 rfl (lv_at hl 0 rfl) ?_
  refine lv_iload_n hC.1 hC.2.1 dX0_as_1 rfl (lv_at hl 1 rfl) ?_
  refine p_cVe (L' := [_, _, _, _]) hC hK hM (hM.at 0 rfl) rfl (cn_isMover l κ _ no cv ad g cw rx rd rw mc ea mm (lar lf) (nI j) (hM.at 0 rfl) (hM.at 1 rfl) (hM.at 2 rfl)) (cwV 1 hC.2.2.2.2 (lw_V q1109 q1111 qs25 q63 q1112) rfl rfl rfl (by decide +kernel) ⟨(Nat.le_of_ble_eq_true rfl), (Nat.le_of_ble_eq_true rfl)⟩) rfl hl.1 rfl (lv_room (Nat.le_of_ble_eq_true rfl)) dX0_as_2 ⟨(Nat.le_of_ble_eq_true rfl), (Nat.le_of_ble_eq_true rfl)⟩ rfl hM.2 (fun H locs hM => ?_)
  refine lv_if_eq (tgt := 20) hC.1 hC.2.1 dX0_as_5 (by decide) (fun c1 => ?_) (fun c1 => ?_)
  ·
    skip
    exact absurd (c1 : bI _ = 0) (by rw [bI_t ⟨nI_pos' (by omega), by rw [show mm = (mm - 1) + 1 by omega, nI_pred]; exact nI_le (by omega) (by omega)⟩]; decide)
  ·
    skip
    refine lv_iload_n hC.1 hC.2.1 dX0_as_8 rfl (lv_at hl 2 rfl) ?_
    refine lv_i2l hC.1 hC.2.1 dX0_as_9 rfl ?_
    refine lv_lconst (v := 0) hC.1 hC.2.1 dX0_as_10 (by decide) ?_
    refine lv_ldc2 hC.1 hC.2.1 hC.2.2.2.1 (hC.2.2.2.2 _ q1154) dX0_as_11 ?_
    refine s_ci hC ((cc_isIn l (a := 0) (b := 5) rfl rfl rfl)) (va_cwS 3 hC.2.2.2.2 (lw_S q265 q266 q63 q267) rfl rfl rfl (by decide +kernel) ⟨(Nat.le_of_ble_eq_true rfl), (Nat.le_of_ble_eq_true rfl)⟩) rfl hl.1 rfl (lv_room (Nat.le_of_ble_eq_true rfl)) dX0_as_14 ⟨(Nat.le_of_ble_eq_true rfl), (Nat.le_of_ble_eq_true rfl)⟩ ?_
    refine lv_if_ne (tgt := 23) hC.1 hC.2.1 dX0_as_17 (by decide) (fun c2 => ?_) (fun c2 => ?_)
    ·
      skip
      refine lv_aload_n hC.1 hC.2.1 dX0_as_23 rfl (lv_at hl 0 rfl) ?_
      refine p_get hC hK hM 0 rfl in_X0 rfl 4 (by decide) q223 (fun x h => h) rfl dX0_as_24 ?_
      refine p_get hC hK hM 1 rfl in_X1 rfl 8 (by decide) q168 (fun x h => h) rfl dX0_as_27 ?_
      refine lv_iload_n hC.1 hC.2.1 dX0_as_30 rfl (lv_at hl 1 rfl) ?_
      refine p_cFe (L' := [_, _, _, _]) hC hK hM (hM.at 2 rfl) rfl (cj_get l κ _ (rd 8) mc ea mm lf j a (hM.at 2 rfl) hj (by omega) hfq) (va_cwF 1 hC.2.2.2.2 (lw_F q1116 q904 q906 q67 q908) rfl rfl rfl (hK.1.2.2.2 _ (List.mem_of_getElem? (i := 2) (rfl : nFw[2]? = some _))) (by decide +kernel) ⟨(Nat.le_of_ble_eq_true rfl), (Nat.le_of_ble_eq_true rfl)⟩) rfl hl.1 rfl (lv_room (Nat.le_of_ble_eq_true rfl)) dX0_as_31 ⟨(Nat.le_of_ble_eq_true rfl), (Nat.le_of_ble_eq_true rfl)⟩ rfl hM.2 (fun H locs hM => ?_)
      refine v_cn hC hK hM (kd := 5) (hM.at 3 rfl) (by decide) (by decide) dX0_as_36 ?_
      refine lv_astore_n (lv' := [(3, _), (0, _), (1, _), (2, _)]) hC.1 hC.2.1 dX0_as_39 rfl hl (by decide) rfl (fun ls hl => ?_)
      refine lv_iload_n hC.1 hC.2.1 dX0_as_40 rfl (lv_at hl 3 rfl) ?_
      refine lv_if_ne (tgt := 48) hC.1 hC.2.1 dX0_as_41 (by decide) (fun c3 => ?_) (fun c3 => ?_)
      ·
        skip
        exact absurd rfl c3
      ·
        skip
        refine lv_aload_n hC.1 hC.2.1 dX0_as_44 rfl (lv_at hl 0 rfl) ?_
        refine lv_goto (tgt := 100) hC.1 hC.2.1 dX0_as_45 (by decide) ?_
        refine lv_astore (lv' := [(4, _), (3, _), (0, _), (1, _), (2, _)]) hC.1 hC.2.1 dX0_as_100 hl (by decide) rfl (fun ls hl => ?_)
        refine lv_aload_n hC.1 hC.2.1 dX0_as_102 rfl (lv_at hl 2 rfl) ?_
        refine lv_aload hC.1 hC.2.1 dX0_as_103 (lv_at hl 0 rfl) ?_
        refine v_nu hC hK hM (kd := 5) (hM.at 3 rfl) (by decide) (by decide) hl.1 (lv_room (Nat.le_of_ble_eq_true rfl)) ⟨Nat.le_of_ble_eq_true rfl, Nat.le_of_ble_eq_true rfl⟩ dX0_as_105 ⟨Nat.le_of_ble_eq_true rfl, Nat.le_of_ble_eq_true rfl⟩ (fun H locs hM => ?_)
        refine p_cVe (L' := [_, _, _, _]) hC hK hM (hM.at 0 rfl) rfl (cn_well l κ _ no cv ad g cw (mv 0) (hM.at 0 rfl)) (cwV 1 hC.2.2.2.2 (lw_V q352 q354 qs1 q63 q355) rfl rfl rfl (by decide +kernel) ⟨(Nat.le_of_ble_eq_true rfl), (Nat.le_of_ble_eq_true rfl)⟩) rfl hl.1 rfl (lv_room (Nat.le_of_ble_eq_true rfl)) dX0_as_108 ⟨(Nat.le_of_ble_eq_true rfl), (Nat.le_of_ble_eq_true rfl)⟩ (oups_set hM.2 (i := 0) rfl) (oad_nd hM.2 (i := 0) rfl rfl) (fun H locs hM => ?_)
        skip
        refine p_iret hC hr hlocks hM dX0_as_111 ?_
        refine ⟨rfl, ?_⟩
        rw [oups, oups, oups, oups, oups, oup_same hA, oup_same hls, oup_same hR]
    ·
      skip
      exact absurd (c2 : bI _ = 0) (by decide)

set_option maxHeartbeats 400000 in
set_option maxRecDepth 100000 in
theorem cn_as_9_1 (l : Launch) (κ : Nat → Nat) (O : gO) (no : Nat) (cv : Nat → Int32) (ad : Nat → Nat) (g : Nat → Nat → Option Nat) (cw : Nat → Nat → Int32) (rx : Nat → Int32) (rd : Nat → Nat) (rw : Nat → Nat → Int32) (mc : Int32) (ea mm : Nat) (lf : Nat → Option Nat) (a j : Nat) (mv : Nat → Int32) (hN : O no = some (nsU cv ad g cw)) (hR : O (ad 4) = some (rdU rx rd rw)) (htl : l.stackTraces = false) (hls : O (rd 8) = some (lsU mc ea (nI mm) (lar lf))) (hj : j < mm) (hmm : mm ≤ 5) (hfq : lf j = some a) (hA : O a = some (cU 9 mv (fun _ => 0) aNo)) : oW l κ yX0_as cX0_as 5 (some .int) [(40, 111, 112, 303), (23, 111, 123, 71), (112, 123, 123, 71)] ({ frames := 3, cells := 0, slots := 0, locals := 64 }) [.ref no, .int (nI j), .int 1] O (fun rv O1 => rv = some (.int (mv 0)) ∧ O1 = oup O no (nsU (upd cv 10 0) ad g cw)) := by
  intro D ac A
  refine o_bodyW (own := RX0) rfl (by decide) (Nat.le_of_ble_eq_true rfl) ?_
  intro p e s m args below meth c ls hC hr hlocks hK hM hl htab
  have hl : lv_has ls 5 [(0, .ref no), (1, .int (nI j)), (2, .int 1)] := hl
  have hM := PS.of hM [(no, nsU cv ad g cw), (ad 4, rdU rx rd rw), (rd 8, lsU mc ea (nI mm) (lar lf)), (a, cU 9 mv (fun _ => 0) aNo)] ⟨hN, hR, hls, hA, trivial⟩ (by simp only [oad, List.map, List.nodup_cons, List.mem_cons, List.mem_singleton, List.not_mem_nil, not_or, or_false, not_false_eq_true, List.nodup_nil, and_true]; exact ⟨⟨o_ne hN hR (by decide), o_ne hN hls (by decide), o_ne hN hA (by decide)⟩, ⟨o_ne hR hls (by decide), o_ne hR hA (by decide)⟩, o_ne hls hA (by decide)⟩)
  refine lv_aload_n hC.1 hC.2.1 dX0_as_0 rfl (lv_at hl 0 rfl) ?_
  refine lv_iload_n hC.1 hC.2.1 dX0_as_1 rfl (lv_at hl 1 rfl) ?_
  refine p_cVe (L' := [_, _, _, _]) hC hK hM (hM.at 0 rfl) rfl (cn_isMover l κ _ no cv ad g cw rx rd rw mc ea mm (lar lf) (nI j) (hM.at 0 rfl) (hM.at 1 rfl) (hM.at 2 rfl)) (cwV 1 hC.2.2.2.2 (lw_V q1109 q1111 qs25 q63 q1112) rfl rfl rfl (by decide +kernel) ⟨(Nat.le_of_ble_eq_true rfl), (Nat.le_of_ble_eq_true rfl)⟩) rfl hl.1 rfl (lv_room (Nat.le_of_ble_eq_true rfl)) dX0_as_2 ⟨(Nat.le_of_ble_eq_true rfl), (Nat.le_of_ble_eq_true rfl)⟩ rfl hM.2 (fun H locs hM => ?_)
  refine lv_if_eq (tgt := 20) hC.1 hC.2.1 dX0_as_5 (by decide) (fun c1 => ?_) (fun c1 => ?_)
  ·
    skip
    exact absurd (c1 : bI _ = 0) (by rw [bI_t ⟨nI_pos' (by omega), by rw [show mm = (mm - 1) + 1 by omega, nI_pred]; exact nI_le (by omega) (by omega)⟩]; decide)
  ·
    skip
    refine lv_iload_n hC.1 hC.2.1 dX0_as_8 rfl (lv_at hl 2 rfl) ?_
    refine lv_i2l hC.1 hC.2.1 dX0_as_9 rfl ?_
    refine lv_lconst (v := 0) hC.1 hC.2.1 dX0_as_10 (by decide) ?_
    refine lv_ldc2 hC.1 hC.2.1 hC.2.2.2.1 (hC.2.2.2.2 _ q1154) dX0_as_11 ?_
    refine s_ci hC ((cc_isIn l (a := 0) (b := 5) rfl rfl rfl)) (va_cwS 3 hC.2.2.2.2 (lw_S q265 q266 q63 q267) rfl rfl rfl (by decide +kernel) ⟨(Nat.le_of_ble_eq_true rfl), (Nat.le_of_ble_eq_true rfl)⟩) rfl hl.1 rfl (lv_room (Nat.le_of_ble_eq_true rfl)) dX0_as_14 ⟨(Nat.le_of_ble_eq_true rfl), (Nat.le_of_ble_eq_true rfl)⟩ ?_
    refine lv_if_ne (tgt := 23) hC.1 hC.2.1 dX0_as_17 (by decide) (fun c2 => ?_) (fun c2 => ?_)
    ·
      skip
      refine lv_aload_n hC.1 hC.2.1 dX0_as_23 rfl (lv_at hl 0 rfl) ?_
      refine p_get hC hK hM 0 rfl in_X0 rfl 4 (by decide) q223 (fun x h => h) rfl dX0_as_24 ?_
      refine p_get hC hK hM 1 rfl in_X1 rfl 8 (by decide) q168 (fun x h => h) rfl dX0_as_27 ?_
      refine lv_iload_n hC.1 hC.2.1 dX0_as_30 rfl (lv_at hl 1 rfl) ?_
      refine p_cFe (L' := [_, _, _, _]) hC hK hM (hM.at 2 rfl) rfl (cj_get l κ _ (rd 8) mc ea mm lf j a (hM.at 2 rfl) hj (by omega) hfq) (va_cwF 1 hC.2.2.2.2 (lw_F q1116 q904 q906 q67 q908) rfl rfl rfl (hK.1.2.2.2 _ (List.mem_of_getElem? (i := 2) (rfl : nFw[2]? = some _))) (by decide +kernel) ⟨(Nat.le_of_ble_eq_true rfl), (Nat.le_of_ble_eq_true rfl)⟩) rfl hl.1 rfl (lv_room (Nat.le_of_ble_eq_true rfl)) dX0_as_31 ⟨(Nat.le_of_ble_eq_true rfl), (Nat.le_of_ble_eq_true rfl)⟩ rfl hM.2 (fun H locs hM => ?_)
      refine v_cn hC hK hM (kd := 1) (hM.at 3 rfl) (by decide) (by decide) dX0_as_36 ?_
      refine lv_astore_n (lv' := [(3, _), (0, _), (1, _), (2, _)]) hC.1 hC.2.1 dX0_as_39 rfl hl (by decide) rfl (fun ls hl => ?_)
      refine lv_iload_n hC.1 hC.2.1 dX0_as_40 rfl (lv_at hl 3 rfl) ?_
      refine lv_if_ne (tgt := 48) hC.1 hC.2.1 dX0_as_41 (by decide) (fun c3 => ?_) (fun c3 => ?_)
      ·
        skip
        refine lv_iload_n hC.1 hC.2.1 dX0_as_48 rfl (lv_at hl 3 rfl) ?_
        refine lv_iconst (v := 1) hC.1 hC.2.1 dX0_as_49 (by decide) ?_
        refine lv_icmp_ne (tgt := 60) hC.1 hC.2.1 dX0_as_50 (by decide) (fun c4 => ?_) (fun c4 => ?_)
        ·
          skip
          exact absurd rfl c4
        ·
          skip
          refine lv_aload_n hC.1 hC.2.1 dX0_as_53 rfl (lv_at hl 0 rfl) ?_
          refine va_castE hC.1 hC.2.1 hC.2.2.2.1 (hC.2.2.2.2 _ q735) (OS.recv hK hM.1 (hM.at 3 rfl) (q := (RX9, TX9, 4)) rfl) dX0_as_54 ?_
          refine lv_goto (tgt := 100) hC.1 hC.2.1 dX0_as_57 (by decide) ?_
          refine lv_astore (lv' := [(4, _), (3, _), (0, _), (1, _), (2, _)]) hC.1 hC.2.1 dX0_as_100 hl (by decide) rfl (fun ls hl => ?_)
          refine lv_aload_n hC.1 hC.2.1 dX0_as_102 rfl (lv_at hl 2 rfl) ?_
          refine lv_aload hC.1 hC.2.1 dX0_as_103 (lv_at hl 0 rfl) ?_
          refine v_nu hC hK hM (kd := 1) (hM.at 3 rfl) (by decide) (by decide) hl.1 (lv_room (Nat.le_of_ble_eq_true rfl)) ⟨Nat.le_of_ble_eq_true rfl, Nat.le_of_ble_eq_true rfl⟩ dX0_as_105 ⟨Nat.le_of_ble_eq_true rfl, Nat.le_of_ble_eq_true rfl⟩ (fun H locs hM => ?_)
          refine p_cVe (L' := [_, _, _, _]) hC hK hM (hM.at 0 rfl) rfl (cn_well l κ _ no cv ad g cw (mv 0) (hM.at 0 rfl)) (cwV 1 hC.2.2.2.2 (lw_V q352 q354 qs1 q63 q355) rfl rfl rfl (by decide +kernel) ⟨(Nat.le_of_ble_eq_true rfl), (Nat.le_of_ble_eq_true rfl)⟩) rfl hl.1 rfl (lv_room (Nat.le_of_ble_eq_true rfl)) dX0_as_108 ⟨(Nat.le_of_ble_eq_true rfl), (Nat.le_of_ble_eq_true rfl)⟩ (oups_set hM.2 (i := 0) rfl) (oad_nd hM.2 (i := 0) rfl rfl) (fun H locs hM => ?_)
          skip
          refine p_iret hC hr hlocks hM dX0_as_111 ?_
          refine ⟨rfl, ?_⟩
          rw [oups, oups, oups, oups, oups, oup_same hA, oup_same hls, oup_same hR]
      ·
        skip
        exact absurd c3 (by decide)
    ·
      skip
      exact absurd (c2 : bI _ = 0) (by decide)

set_option maxHeartbeats 400000 in
set_option maxRecDepth 100000 in
theorem cn_as_10_1 (l : Launch) (κ : Nat → Nat) (O : gO) (no : Nat) (cv : Nat → Int32) (ad : Nat → Nat) (g : Nat → Nat → Option Nat) (cw : Nat → Nat → Int32) (rx : Nat → Int32) (rd : Nat → Nat) (rw : Nat → Nat → Int32) (mc : Int32) (ea mm : Nat) (lf : Nat → Option Nat) (a j : Nat) (mv : Nat → Int32) (hN : O no = some (nsU cv ad g cw)) (hR : O (ad 4) = some (rdU rx rd rw)) (htl : l.stackTraces = false) (hls : O (rd 8) = some (lsU mc ea (nI mm) (lar lf))) (hj : j < mm) (hmm : mm ≤ 5) (hfq : lf j = some a) (hA : O a = some (cU 10 mv (fun _ => 0) aNo)) : oW l κ yX0_as cX0_as 5 (some .int) [(40, 111, 112, 303), (23, 111, 123, 71), (112, 123, 123, 71)] ({ frames := 3, cells := 0, slots := 0, locals := 64 }) [.ref no, .int (nI j), .int 1] O (fun rv O1 => rv = some (.int (mv 0)) ∧ O1 = oup O no (nsU (upd cv 10 0) ad g cw)) := by
  intro D ac A
  refine o_bodyW (own := RX0) rfl (by decide) (Nat.le_of_ble_eq_true rfl) ?_
  intro p e s m args below meth c ls hC hr hlocks hK hM hl htab
  have hl : lv_has ls 5 [(0, .ref no), (1, .int (nI j)), (2, .int 1)] := hl
  have hM := PS.of hM [(no, nsU cv ad g cw), (ad 4, rdU rx rd rw), (rd 8, lsU mc ea (nI mm) (lar lf)), (a, cU 10 mv (fun _ => 0) aNo)] ⟨hN, hR, hls, hA, trivial⟩ (by simp only [oad, List.map, List.nodup_cons, List.mem_cons, List.mem_singleton, List.not_mem_nil, not_or, or_false, not_false_eq_true, List.nodup_nil, and_true]; exact ⟨⟨o_ne hN hR (by decide), o_ne hN hls (by decide), o_ne hN hA (by decide)⟩, ⟨o_ne hR hls (by decide), o_ne hR hA (by decide)⟩, o_ne hls hA (by decide)⟩)
  refine lv_aload_n hC.1 hC.2.1 dX0_as_0 rfl (lv_at hl 0 rfl) ?_
  refine lv_iload_n hC.1 hC.2.1 dX0_as_1 rfl (lv_at hl 1 rfl) ?_
  refine p_cVe (L' := [_, _, _, _]) hC hK hM (hM.at 0 rfl) rfl (cn_isMover l κ _ no cv ad g cw rx rd rw mc ea mm (lar lf) (nI j) (hM.at 0 rfl) (hM.at 1 rfl) (hM.at 2 rfl)) (cwV 1 hC.2.2.2.2 (lw_V q1109 q1111 qs25 q63 q1112) rfl rfl rfl (by decide +kernel) ⟨(Nat.le_of_ble_eq_true rfl), (Nat.le_of_ble_eq_true rfl)⟩) rfl hl.1 rfl (lv_room (Nat.le_of_ble_eq_true rfl)) dX0_as_2 ⟨(Nat.le_of_ble_eq_true rfl), (Nat.le_of_ble_eq_true rfl)⟩ rfl hM.2 (fun H locs hM => ?_)
  refine lv_if_eq (tgt := 20) hC.1 hC.2.1 dX0_as_5 (by decide) (fun c1 => ?_) (fun c1 => ?_)
  ·
    skip
    exact absurd (c1 : bI _ = 0) (by rw [bI_t ⟨nI_pos' (by omega), by rw [show mm = (mm - 1) + 1 by omega, nI_pred]; exact nI_le (by omega) (by omega)⟩]; decide)
  ·
    skip
    refine lv_iload_n hC.1 hC.2.1 dX0_as_8 rfl (lv_at hl 2 rfl) ?_
    refine lv_i2l hC.1 hC.2.1 dX0_as_9 rfl ?_
    refine lv_lconst (v := 0) hC.1 hC.2.1 dX0_as_10 (by decide) ?_
    refine lv_ldc2 hC.1 hC.2.1 hC.2.2.2.1 (hC.2.2.2.2 _ q1154) dX0_as_11 ?_
    refine s_ci hC ((cc_isIn l (a := 0) (b := 5) rfl rfl rfl)) (va_cwS 3 hC.2.2.2.2 (lw_S q265 q266 q63 q267) rfl rfl rfl (by decide +kernel) ⟨(Nat.le_of_ble_eq_true rfl), (Nat.le_of_ble_eq_true rfl)⟩) rfl hl.1 rfl (lv_room (Nat.le_of_ble_eq_true rfl)) dX0_as_14 ⟨(Nat.le_of_ble_eq_true rfl), (Nat.le_of_ble_eq_true rfl)⟩ ?_
    refine lv_if_ne (tgt := 23) hC.1 hC.2.1 dX0_as_17 (by decide) (fun c2 => ?_) (fun c2 => ?_)
    ·
      skip
      refine lv_aload_n hC.1 hC.2.1 dX0_as_23 rfl (lv_at hl 0 rfl) ?_
      refine p_get hC hK hM 0 rfl in_X0 rfl 4 (by decide) q223 (fun x h => h) rfl dX0_as_24 ?_
      refine p_get hC hK hM 1 rfl in_X1 rfl 8 (by decide) q168 (fun x h => h) rfl dX0_as_27 ?_
      refine lv_iload_n hC.1 hC.2.1 dX0_as_30 rfl (lv_at hl 1 rfl) ?_
      refine p_cFe (L' := [_, _, _, _]) hC hK hM (hM.at 2 rfl) rfl (cj_get l κ _ (rd 8) mc ea mm lf j a (hM.at 2 rfl) hj (by omega) hfq) (va_cwF 1 hC.2.2.2.2 (lw_F q1116 q904 q906 q67 q908) rfl rfl rfl (hK.1.2.2.2 _ (List.mem_of_getElem? (i := 2) (rfl : nFw[2]? = some _))) (by decide +kernel) ⟨(Nat.le_of_ble_eq_true rfl), (Nat.le_of_ble_eq_true rfl)⟩) rfl hl.1 rfl (lv_room (Nat.le_of_ble_eq_true rfl)) dX0_as_31 ⟨(Nat.le_of_ble_eq_true rfl), (Nat.le_of_ble_eq_true rfl)⟩ rfl hM.2 (fun H locs hM => ?_)
      refine v_cn hC hK hM (kd := 2) (hM.at 3 rfl) (by decide) (by decide) dX0_as_36 ?_
      refine lv_astore_n (lv' := [(3, _), (0, _), (1, _), (2, _)]) hC.1 hC.2.1 dX0_as_39 rfl hl (by decide) rfl (fun ls hl => ?_)
      refine lv_iload_n hC.1 hC.2.1 dX0_as_40 rfl (lv_at hl 3 rfl) ?_
      refine lv_if_ne (tgt := 48) hC.1 hC.2.1 dX0_as_41 (by decide) (fun c3 => ?_) (fun c3 => ?_)
      ·
        skip
        refine lv_iload_n hC.1 hC.2.1 dX0_as_48 rfl (lv_at hl 3 rfl) ?_
        refine lv_iconst (v := 1) hC.1 hC.2.1 dX0_as_49 (by decide) ?_
        refine lv_icmp_ne (tgt := 60) hC.1 hC.2.1 dX0_as_50 (by decide) (fun c4 => ?_) (fun c4 => ?_)
        ·
          skip
          exact absurd rfl c4
        ·
          skip
          refine lv_aload_n hC.1 hC.2.1 dX0_as_53 rfl (lv_at hl 0 rfl) ?_
          refine va_castY hC.1 hC.2.1 hC.2.2.2.1 (hC.2.2.2.2 _ q735) (hK.1.2.1 _ q1672 rfl) (OS.recv hK hM.1 (hM.at 3 rfl) (q := (RX10, TX10, 4)) rfl) dX0_as_54 ?_
          refine lv_goto (tgt := 100) hC.1 hC.2.1 dX0_as_57 (by decide) ?_
          refine lv_astore (lv' := [(4, _), (3, _), (0, _), (1, _), (2, _)]) hC.1 hC.2.1 dX0_as_100 hl (by decide) rfl (fun ls hl => ?_)
          refine lv_aload_n hC.1 hC.2.1 dX0_as_102 rfl (lv_at hl 2 rfl) ?_
          refine lv_aload hC.1 hC.2.1 dX0_as_103 (lv_at hl 0 rfl) ?_
          refine v_nu hC hK hM (kd := 2) (hM.at 3 rfl) (by decide) (by decide) hl.1 (lv_room (Nat.le_of_ble_eq_true rfl)) ⟨Nat.le_of_ble_eq_true rfl, Nat.le_of_ble_eq_true rfl⟩ dX0_as_105 ⟨Nat.le_of_ble_eq_true rfl, Nat.le_of_ble_eq_true rfl⟩ (fun H locs hM => ?_)
          refine p_cVe (L' := [_, _, _, _]) hC hK hM (hM.at 0 rfl) rfl (cn_well l κ _ no cv ad g cw (mv 0) (hM.at 0 rfl)) (cwV 1 hC.2.2.2.2 (lw_V q352 q354 qs1 q63 q355) rfl rfl rfl (by decide +kernel) ⟨(Nat.le_of_ble_eq_true rfl), (Nat.le_of_ble_eq_true rfl)⟩) rfl hl.1 rfl (lv_room (Nat.le_of_ble_eq_true rfl)) dX0_as_108 ⟨(Nat.le_of_ble_eq_true rfl), (Nat.le_of_ble_eq_true rfl)⟩ (oups_set hM.2 (i := 0) rfl) (oad_nd hM.2 (i := 0) rfl rfl) (fun H locs hM => ?_)
          skip
          refine p_iret hC hr hlocks hM dX0_as_111 ?_
          refine ⟨rfl, ?_⟩
          rw [oups, oups, oups, oups, oups, oup_same hA, oup_same hls, oup_same hR]
      ·
        skip
        exact absurd c3 (by decide)
    ·
      skip
      exact absurd (c2 : bI _ = 0) (by decide)

set_option maxHeartbeats 400000 in
set_option maxRecDepth 100000 in
theorem cn_as_11_1 (l : Launch) (κ : Nat → Nat) (O : gO) (no : Nat) (cv : Nat → Int32) (ad : Nat → Nat) (g : Nat → Nat → Option Nat) (cw : Nat → Nat → Int32) (rx : Nat → Int32) (rd : Nat → Nat) (rw : Nat → Nat → Int32) (mc : Int32) (ea mm : Nat) (lf : Nat → Option Nat) (a j : Nat) (mv : Nat → Int32) (hN : O no = some (nsU cv ad g cw)) (hR : O (ad 4) = some (rdU rx rd rw)) (htl : l.stackTraces = false) (hls : O (rd 8) = some (lsU mc ea (nI mm) (lar lf))) (hj : j < mm) (hmm : mm ≤ 5) (hfq : lf j = some a) (hA : O a = some (cU 11 mv (fun _ => 0) aNo)) : oW l κ yX0_as cX0_as 5 (some .int) [(40, 111, 112, 303), (23, 111, 123, 71), (112, 123, 123, 71)] ({ frames := 3, cells := 0, slots := 0, locals := 64 }) [.ref no, .int (nI j), .int 1] O (fun rv O1 => rv = some (.int (mv 0)) ∧ O1 = oup O no (nsU (upd cv 10 0) ad g cw)) := by
  intro D ac A
  refine o_bodyW (own := RX0) rfl (by decide) (Nat.le_of_ble_eq_true rfl) ?_
  intro p e s m args below meth c ls hC hr hlocks hK hM hl htab
  have hl : lv_has ls 5 [(0, .ref no), (1, .int (nI j)), (2, .int 1)] := hl
  have hM := PS.of hM [(no, nsU cv ad g cw), (ad 4, rdU rx rd rw), (rd 8, lsU mc ea (nI mm) (lar lf)), (a, cU 11 mv (fun _ => 0) aNo)] ⟨hN, hR, hls, hA, trivial⟩ (by simp only [oad, List.map, List.nodup_cons, List.mem_cons, List.mem_singleton, List.not_mem_nil, not_or, or_false, not_false_eq_true, List.nodup_nil, and_true]; exact ⟨⟨o_ne hN hR (by decide), o_ne hN hls (by decide), o_ne hN hA (by decide)⟩, ⟨o_ne hR hls (by decide), o_ne hR hA (by decide)⟩, o_ne hls hA (by decide)⟩)
  refine lv_aload_n hC.1 hC.2.1 dX0_as_0 rfl (lv_at hl 0 rfl) ?_
  refine lv_iload_n hC.1 hC.2.1 dX0_as_1 rfl (lv_at hl 1 rfl) ?_
  refine p_cVe (L' := [_, _, _, _]) hC hK hM (hM.at 0 rfl) rfl (cn_isMover l κ _ no cv ad g cw rx rd rw mc ea mm (lar lf) (nI j) (hM.at 0 rfl) (hM.at 1 rfl) (hM.at 2 rfl)) (cwV 1 hC.2.2.2.2 (lw_V q1109 q1111 qs25 q63 q1112) rfl rfl rfl (by decide +kernel) ⟨(Nat.le_of_ble_eq_true rfl), (Nat.le_of_ble_eq_true rfl)⟩) rfl hl.1 rfl (lv_room (Nat.le_of_ble_eq_true rfl)) dX0_as_2 ⟨(Nat.le_of_ble_eq_true rfl), (Nat.le_of_ble_eq_true rfl)⟩ rfl hM.2 (fun H locs hM => ?_)
  refine lv_if_eq (tgt := 20) hC.1 hC.2.1 dX0_as_5 (by decide) (fun c1 => ?_) (fun c1 => ?_)
  ·
    skip
    exact absurd (c1 : bI _ = 0) (by rw [bI_t ⟨nI_pos' (by omega), by rw [show mm = (mm - 1) + 1 by omega, nI_pred]; exact nI_le (by omega) (by omega)⟩]; decide)
  ·
    skip
    refine lv_iload_n hC.1 hC.2.1 dX0_as_8 rfl (lv_at hl 2 rfl) ?_
    refine lv_i2l hC.1 hC.2.1 dX0_as_9 rfl ?_
    refine lv_lconst (v := 0) hC.1 hC.2.1 dX0_as_10 (by decide) ?_
    refine lv_ldc2 hC.1 hC.2.1 hC.2.2.2.1 (hC.2.2.2.2 _ q1154) dX0_as_11 ?_
    refine s_ci hC ((cc_isIn l (a := 0) (b := 5) rfl rfl rfl)) (va_cwS 3 hC.2.2.2.2 (lw_S q265 q266 q63 q267) rfl rfl rfl (by decide +kernel) ⟨(Nat.le_of_ble_eq_true rfl), (Nat.le_of_ble_eq_true rfl)⟩) rfl hl.1 rfl (lv_room (Nat.le_of_ble_eq_true rfl)) dX0_as_14 ⟨(Nat.le_of_ble_eq_true rfl), (Nat.le_of_ble_eq_true rfl)⟩ ?_
    refine lv_if_ne (tgt := 23) hC.1 hC.2.1 dX0_as_17 (by decide) (fun c2 => ?_) (fun c2 => ?_)
    ·
      skip
      refine lv_aload_n hC.1 hC.2.1 dX0_as_23 rfl (lv_at hl 0 rfl) ?_
      refine p_get hC hK hM 0 rfl in_X0 rfl 4 (by decide) q223 (fun x h => h) rfl dX0_as_24 ?_
      refine p_get hC hK hM 1 rfl in_X1 rfl 8 (by decide) q168 (fun x h => h) rfl dX0_as_27 ?_
      refine lv_iload_n hC.1 hC.2.1 dX0_as_30 rfl (lv_at hl 1 rfl) ?_
      refine p_cFe (L' := [_, _, _, _]) hC hK hM (hM.at 2 rfl) rfl (cj_get l κ _ (rd 8) mc ea mm lf j a (hM.at 2 rfl) hj (by omega) hfq) (va_cwF 1 hC.2.2.2.2 (lw_F q1116 q904 q906 q67 q908) rfl rfl rfl (hK.1.2.2.2 _ (List.mem_of_getElem? (i := 2) (rfl : nFw[2]? = some _))) (by decide +kernel) ⟨(Nat.le_of_ble_eq_true rfl), (Nat.le_of_ble_eq_true rfl)⟩) rfl hl.1 rfl (lv_room (Nat.le_of_ble_eq_true rfl)) dX0_as_31 ⟨(Nat.le_of_ble_eq_true rfl), (Nat.le_of_ble_eq_true rfl)⟩ rfl hM.2 (fun H locs hM => ?_)
      refine v_cn hC hK hM (kd := 3) (hM.at 3 rfl) (by decide) (by decide) dX0_as_36 ?_
      refine lv_astore_n (lv' := [(3, _), (0, _), (1, _), (2, _)]) hC.1 hC.2.1 dX0_as_39 rfl hl (by decide) rfl (fun ls hl => ?_)
      refine lv_iload_n hC.1 hC.2.1 dX0_as_40 rfl (lv_at hl 3 rfl) ?_
      refine lv_if_ne (tgt := 48) hC.1 hC.2.1 dX0_as_41 (by decide) (fun c3 => ?_) (fun c3 => ?_)
      ·
        skip
        refine lv_iload_n hC.1 hC.2.1 dX0_as_48 rfl (lv_at hl 3 rfl) ?_
        refine lv_iconst (v := 1) hC.1 hC.2.1 dX0_as_49 (by decide) ?_
        refine lv_icmp_ne (tgt := 60) hC.1 hC.2.1 dX0_as_50 (by decide) (fun c4 => ?_) (fun c4 => ?_)
        ·
          skip
          exact absurd rfl c4
        ·
          skip
          refine lv_aload_n hC.1 hC.2.1 dX0_as_53 rfl (lv_at hl 0 rfl) ?_
          refine va_castY hC.1 hC.2.1 hC.2.2.2.1 (hC.2.2.2.2 _ q735) (hK.1.2.1 _ q1673 rfl) (OS.recv hK hM.1 (hM.at 3 rfl) (q := (RX11, TX11, 4)) rfl) dX0_as_54 ?_
          refine lv_goto (tgt := 100) hC.1 hC.2.1 dX0_as_57 (by decide) ?_
          refine lv_astore (lv' := [(4, _), (3, _), (0, _), (1, _), (2, _)]) hC.1 hC.2.1 dX0_as_100 hl (by decide) rfl (fun ls hl => ?_)
          refine lv_aload_n hC.1 hC.2.1 dX0_as_102 rfl (lv_at hl 2 rfl) ?_
          refine lv_aload hC.1 hC.2.1 dX0_as_103 (lv_at hl 0 rfl) ?_
          refine v_nu hC hK hM (kd := 3) (hM.at 3 rfl) (by decide) (by decide) hl.1 (lv_room (Nat.le_of_ble_eq_true rfl)) ⟨Nat.le_of_ble_eq_true rfl, Nat.le_of_ble_eq_true rfl⟩ dX0_as_105 ⟨Nat.le_of_ble_eq_true rfl, Nat.le_of_ble_eq_true rfl⟩ (fun H locs hM => ?_)
          refine p_cVe (L' := [_, _, _, _]) hC hK hM (hM.at 0 rfl) rfl (cn_well l κ _ no cv ad g cw (mv 0) (hM.at 0 rfl)) (cwV 1 hC.2.2.2.2 (lw_V q352 q354 qs1 q63 q355) rfl rfl rfl (by decide +kernel) ⟨(Nat.le_of_ble_eq_true rfl), (Nat.le_of_ble_eq_true rfl)⟩) rfl hl.1 rfl (lv_room (Nat.le_of_ble_eq_true rfl)) dX0_as_108 ⟨(Nat.le_of_ble_eq_true rfl), (Nat.le_of_ble_eq_true rfl)⟩ (oups_set hM.2 (i := 0) rfl) (oad_nd hM.2 (i := 0) rfl rfl) (fun H locs hM => ?_)
          skip
          refine p_iret hC hr hlocks hM dX0_as_111 ?_
          refine ⟨rfl, ?_⟩
          rw [oups, oups, oups, oups, oups, oup_same hA, oup_same hls, oup_same hR]
      ·
        skip
        exact absurd c3 (by decide)
    ·
      skip
      exact absurd (c2 : bI _ = 0) (by decide)

set_option maxHeartbeats 400000 in
set_option maxRecDepth 100000 in
theorem cn_as_10_2 (l : Launch) (κ : Nat → Nat) (O : gO) (no : Nat) (cv : Nat → Int32) (ad : Nat → Nat) (g : Nat → Nat → Option Nat) (cw : Nat → Nat → Int32) (rx : Nat → Int32) (rd : Nat → Nat) (rw : Nat → Nat → Int32) (mc : Int32) (ea mm : Nat) (lf : Nat → Option Nat) (a j : Nat) (mv : Nat → Int32) (hN : O no = some (nsU cv ad g cw)) (hR : O (ad 4) = some (rdU rx rd rw)) (htl : l.stackTraces = false) (hls : O (rd 8) = some (lsU mc ea (nI mm) (lar lf))) (hj : j < mm) (hmm : mm ≤ 5) (hfq : lf j = some a) (hA : O a = some (cU 10 mv (fun _ => 0) aNo)) : oW l κ yX0_as cX0_as 5 (some .int) [(40, 111, 112, 303), (23, 111, 123, 71), (112, 123, 123, 71)] ({ frames := 3, cells := 0, slots := 0, locals := 64 }) [.ref no, .int (nI j), .int 2] O (fun rv O1 => rv = some (.int (mv 0)) ∧ O1 = oup O no (nsU (upd cv 10 0) ad g cw)) := by
  intro D ac A
  refine o_bodyW (own := RX0) rfl (by decide) (Nat.le_of_ble_eq_true rfl) ?_
  intro p e s m args below meth c ls hC hr hlocks hK hM hl htab
  have hl : lv_has ls 5 [(0, .ref no), (1, .int (nI j)), (2, .int 2)] := hl
  have hM := PS.of hM [(no, nsU cv ad g cw), (ad 4, rdU rx rd rw), (rd 8, lsU mc ea (nI mm) (lar lf)), (a, cU 10 mv (fun _ => 0) aNo)] ⟨hN, hR, hls, hA, trivial⟩ (by simp only [oad, List.map, List.nodup_cons, List.mem_cons, List.mem_singleton, List.not_mem_nil, not_or, or_false, not_false_eq_true, List.nodup_nil, and_true]; exact ⟨⟨o_ne hN hR (by decide), o_ne hN hls (by decide), o_ne hN hA (by decide)⟩, ⟨o_ne hR hls (by decide), o_ne hR hA (by decide)⟩, o_ne hls hA (by decide)⟩)
  refine lv_aload_n hC.1 hC.2.1 dX0_as_0 rfl (lv_at hl 0 rfl) ?_
  refine lv_iload_n hC.1 hC.2.1 dX0_as_1 rfl (lv_at hl 1 rfl) ?_
  refine p_cVe (L' := [_, _, _, _]) hC hK hM (hM.at 0 rfl) rfl (cn_isMover l κ _ no cv ad g cw rx rd rw mc ea mm (lar lf) (nI j) (hM.at 0 rfl) (hM.at 1 rfl) (hM.at 2 rfl)) (cwV 1 hC.2.2.2.2 (lw_V q1109 q1111 qs25 q63 q1112) rfl rfl rfl (by decide +kernel) ⟨(Nat.le_of_ble_eq_true rfl), (Nat.le_of_ble_eq_true rfl)⟩) rfl hl.1 rfl (lv_room (Nat.le_of_ble_eq_true rfl)) dX0_as_2 ⟨(Nat.le_of_ble_eq_true rfl), (Nat.le_of_ble_eq_true rfl)⟩ rfl hM.2 (fun H locs hM => ?_)
  refine lv_if_eq (tgt := 20) hC.1 hC.2.1 dX0_as_5 (by decide) (fun c1 => ?_) (fun c1 => ?_)
  ·
    skip
    exact absurd (c1 : bI _ = 0) (by rw [bI_t ⟨nI_pos' (by omega), by rw [show mm = (mm - 1) + 1 by omega, nI_pred]; exact nI_le (by omega) (by omega)⟩]; decide)
  ·
    skip
    refine lv_iload_n hC.1 hC.2.1 dX0_as_8 rfl (lv_at hl 2 rfl) ?_
    refine lv_i2l hC.1 hC.2.1 dX0_as_9 rfl ?_
    refine lv_lconst (v := 0) hC.1 hC.2.1 dX0_as_10 (by decide) ?_
    refine lv_ldc2 hC.1 hC.2.1 hC.2.2.2.1 (hC.2.2.2.2 _ q1154) dX0_as_11 ?_
    refine s_ci hC ((cc_isIn l (a := 0) (b := 5) rfl rfl rfl)) (va_cwS 3 hC.2.2.2.2 (lw_S q265 q266 q63 q267) rfl rfl rfl (by decide +kernel) ⟨(Nat.le_of_ble_eq_true rfl), (Nat.le_of_ble_eq_true rfl)⟩) rfl hl.1 rfl (lv_room (Nat.le_of_ble_eq_true rfl)) dX0_as_14 ⟨(Nat.le_of_ble_eq_true rfl), (Nat.le_of_ble_eq_true rfl)⟩ ?_
    refine lv_if_ne (tgt := 23) hC.1 hC.2.1 dX0_as_17 (by decide) (fun c2 => ?_) (fun c2 => ?_)
    ·
      skip
      refine lv_aload_n hC.1 hC.2.1 dX0_as_23 rfl (lv_at hl 0 rfl) ?_
      refine p_get hC hK hM 0 rfl in_X0 rfl 4 (by decide) q223 (fun x h => h) rfl dX0_as_24 ?_
      refine p_get hC hK hM 1 rfl in_X1 rfl 8 (by decide) q168 (fun x h => h) rfl dX0_as_27 ?_
      refine lv_iload_n hC.1 hC.2.1 dX0_as_30 rfl (lv_at hl 1 rfl) ?_
      refine p_cFe (L' := [_, _, _, _]) hC hK hM (hM.at 2 rfl) rfl (cj_get l κ _ (rd 8) mc ea mm lf j a (hM.at 2 rfl) hj (by omega) hfq) (va_cwF 1 hC.2.2.2.2 (lw_F q1116 q904 q906 q67 q908) rfl rfl rfl (hK.1.2.2.2 _ (List.mem_of_getElem? (i := 2) (rfl : nFw[2]? = some _))) (by decide +kernel) ⟨(Nat.le_of_ble_eq_true rfl), (Nat.le_of_ble_eq_true rfl)⟩) rfl hl.1 rfl (lv_room (Nat.le_of_ble_eq_true rfl)) dX0_as_31 ⟨(Nat.le_of_ble_eq_true rfl), (Nat.le_of_ble_eq_true rfl)⟩ rfl hM.2 (fun H locs hM => ?_)
      refine v_cn hC hK hM (kd := 2) (hM.at 3 rfl) (by decide) (by decide) dX0_as_36 ?_
      refine lv_astore_n (lv' := [(3, _), (0, _), (1, _), (2, _)]) hC.1 hC.2.1 dX0_as_39 rfl hl (by decide) rfl (fun ls hl => ?_)
      refine lv_iload_n hC.1 hC.2.1 dX0_as_40 rfl (lv_at hl 3 rfl) ?_
      refine lv_if_ne (tgt := 48) hC.1 hC.2.1 dX0_as_41 (by decide) (fun c3 => ?_) (fun c3 => ?_)
      ·
        skip
        refine lv_iload_n hC.1 hC.2.1 dX0_as_48 rfl (lv_at hl 3 rfl) ?_
        refine lv_iconst (v := 1) hC.1 hC.2.1 dX0_as_49 (by decide) ?_
        refine lv_icmp_ne (tgt := 60) hC.1 hC.2.1 dX0_as_50 (by decide) (fun c4 => ?_) (fun c4 => ?_)
        ·
          skip
          refine lv_iload_n hC.1 hC.2.1 dX0_as_60 rfl (lv_at hl 3 rfl) ?_
          refine lv_iconst (v := 2) hC.1 hC.2.1 dX0_as_61 (by decide) ?_
          refine lv_icmp_ne (tgt := 72) hC.1 hC.2.1 dX0_as_62 (by decide) (fun c5 => ?_) (fun c5 => ?_)
          ·
            skip
            exact absurd rfl c5
          ·
            skip
            refine lv_aload_n hC.1 hC.2.1 dX0_as_65 rfl (lv_at hl 0 rfl) ?_
            refine va_castE hC.1 hC.2.1 hC.2.2.2.1 (hC.2.2.2.2 _ q764) (OS.recv hK hM.1 (hM.at 3 rfl) (q := (RX10, TX10, 4)) rfl) dX0_as_66 ?_
            refine lv_goto (tgt := 100) hC.1 hC.2.1 dX0_as_69 (by decide) ?_
            refine lv_astore (lv' := [(4, _), (3, _), (0, _), (1, _), (2, _)]) hC.1 hC.2.1 dX0_as_100 hl (by decide) rfl (fun ls hl => ?_)
            refine lv_aload_n hC.1 hC.2.1 dX0_as_102 rfl (lv_at hl 2 rfl) ?_
            refine lv_aload hC.1 hC.2.1 dX0_as_103 (lv_at hl 0 rfl) ?_
            refine v_nu hC hK hM (kd := 2) (hM.at 3 rfl) (by decide) (by decide) hl.1 (lv_room (Nat.le_of_ble_eq_true rfl)) ⟨Nat.le_of_ble_eq_true rfl, Nat.le_of_ble_eq_true rfl⟩ dX0_as_105 ⟨Nat.le_of_ble_eq_true rfl, Nat.le_of_ble_eq_true rfl⟩ (fun H locs hM => ?_)
            refine p_cVe (L' := [_, _, _, _]) hC hK hM (hM.at 0 rfl) rfl (cn_well l κ _ no cv ad g cw (mv 0) (hM.at 0 rfl)) (cwV 1 hC.2.2.2.2 (lw_V q352 q354 qs1 q63 q355) rfl rfl rfl (by decide +kernel) ⟨(Nat.le_of_ble_eq_true rfl), (Nat.le_of_ble_eq_true rfl)⟩) rfl hl.1 rfl (lv_room (Nat.le_of_ble_eq_true rfl)) dX0_as_108 ⟨(Nat.le_of_ble_eq_true rfl), (Nat.le_of_ble_eq_true rfl)⟩ (oups_set hM.2 (i := 0) rfl) (oad_nd hM.2 (i := 0) rfl rfl) (fun H locs hM => ?_)
            skip
            refine p_iret hC hr hlocks hM dX0_as_111 ?_
            refine ⟨rfl, ?_⟩
            rw [oups, oups, oups, oups, oups, oup_same hA, oup_same hls, oup_same hR]
        ·
          skip
          exact absurd c4 (by decide)
      ·
        skip
        exact absurd c3 (by decide)
    ·
      skip
      exact absurd (c2 : bI _ = 0) (by decide)

set_option maxHeartbeats 400000 in
set_option maxRecDepth 100000 in
theorem cn_as_11_3 (l : Launch) (κ : Nat → Nat) (O : gO) (no : Nat) (cv : Nat → Int32) (ad : Nat → Nat) (g : Nat → Nat → Option Nat) (cw : Nat → Nat → Int32) (rx : Nat → Int32) (rd : Nat → Nat) (rw : Nat → Nat → Int32) (mc : Int32) (ea mm : Nat) (lf : Nat → Option Nat) (a j : Nat) (mv : Nat → Int32) (hN : O no = some (nsU cv ad g cw)) (hR : O (ad 4) = some (rdU rx rd rw)) (htl : l.stackTraces = false) (hls : O (rd 8) = some (lsU mc ea (nI mm) (lar lf))) (hj : j < mm) (hmm : mm ≤ 5) (hfq : lf j = some a) (hA : O a = some (cU 11 mv (fun _ => 0) aNo)) : oW l κ yX0_as cX0_as 5 (some .int) [(40, 111, 112, 303), (23, 111, 123, 71), (112, 123, 123, 71)] ({ frames := 3, cells := 0, slots := 0, locals := 64 }) [.ref no, .int (nI j), .int 3] O (fun rv O1 => rv = some (.int (mv 0)) ∧ O1 = oup O no (nsU (upd cv 10 0) ad g cw)) := by
  intro D ac A
  refine o_bodyW (own := RX0) rfl (by decide) (Nat.le_of_ble_eq_true rfl) ?_
  intro p e s m args below meth c ls hC hr hlocks hK hM hl htab
  have hl : lv_has ls 5 [(0, .ref no), (1, .int (nI j)), (2, .int 3)] := hl
  have hM := PS.of hM [(no, nsU cv ad g cw), (ad 4, rdU rx rd rw), (rd 8, lsU mc ea (nI mm) (lar lf)), (a, cU 11 mv (fun _ => 0) aNo)] ⟨hN, hR, hls, hA, trivial⟩ (by simp only [oad, List.map, List.nodup_cons, List.mem_cons, List.mem_singleton, List.not_mem_nil, not_or, or_false, not_false_eq_true, List.nodup_nil, and_true]; exact ⟨⟨o_ne hN hR (by decide), o_ne hN hls (by decide), o_ne hN hA (by decide)⟩, ⟨o_ne hR hls (by decide), o_ne hR hA (by decide)⟩, o_ne hls hA (by decide)⟩)
  refine lv_aload_n hC.1 hC.2.1 dX0_as_0 rfl (lv_at hl 0 rfl) ?_
  refine lv_iload_n hC.1 hC.2.1 dX0_as_1 rfl (lv_at hl 1 rfl) ?_
  refine p_cVe (L' := [_, _, _, _]) hC hK hM (hM.at 0 rfl) rfl (cn_isMover l κ _ no cv ad g cw rx rd rw mc ea mm (lar lf) (nI j) (hM.at 0 rfl) (hM.at 1 rfl) (hM.at 2 rfl)) (cwV 1 hC.2.2.2.2 (lw_V q1109 q1111 qs25 q63 q1112) rfl rfl rfl (by decide +kernel) ⟨(Nat.le_of_ble_eq_true rfl), (Nat.le_of_ble_eq_true rfl)⟩) rfl hl.1 rfl (lv_room (Nat.le_of_ble_eq_true rfl)) dX0_as_2 ⟨(Nat.le_of_ble_eq_true rfl), (Nat.le_of_ble_eq_true rfl)⟩ rfl hM.2 (fun H locs hM => ?_)
  refine lv_if_eq (tgt := 20) hC.1 hC.2.1 dX0_as_5 (by decide) (fun c1 => ?_) (fun c1 => ?_)
  ·
    skip
    exact absurd (c1 : bI _ = 0) (by rw [bI_t ⟨nI_pos' (by omega), by rw [show mm = (mm - 1) + 1 by omega, nI_pred]; exact nI_le (by omega) (by omega)⟩]; decide)
  ·
    skip
    refine lv_iload_n hC.1 hC.2.1 dX0_as_8 rfl (lv_at hl 2 rfl) ?_
    refine lv_i2l hC.1 hC.2.1 dX0_as_9 rfl ?_
    refine lv_lconst (v := 0) hC.1 hC.2.1 dX0_as_10 (by decide) ?_
    refine lv_ldc2 hC.1 hC.2.1 hC.2.2.2.1 (hC.2.2.2.2 _ q1154) dX0_as_11 ?_
    refine s_ci hC ((cc_isIn l (a := 0) (b := 5) rfl rfl rfl)) (va_cwS 3 hC.2.2.2.2 (lw_S q265 q266 q63 q267) rfl rfl rfl (by decide +kernel) ⟨(Nat.le_of_ble_eq_true rfl), (Nat.le_of_ble_eq_true rfl)⟩) rfl hl.1 rfl (lv_room (Nat.le_of_ble_eq_true rfl)) dX0_as_14 ⟨(Nat.le_of_ble_eq_true rfl), (Nat.le_of_ble_eq_true rfl)⟩ ?_
    refine lv_if_ne (tgt := 23) hC.1 hC.2.1 dX0_as_17 (by decide) (fun c2 => ?_) (fun c2 => ?_)
    ·
      skip
      refine lv_aload_n hC.1 hC.2.1 dX0_as_23 rfl (lv_at hl 0 rfl) ?_
      refine p_get hC hK hM 0 rfl in_X0 rfl 4 (by decide) q223 (fun x h => h) rfl dX0_as_24 ?_
      refine p_get hC hK hM 1 rfl in_X1 rfl 8 (by decide) q168 (fun x h => h) rfl dX0_as_27 ?_
      refine lv_iload_n hC.1 hC.2.1 dX0_as_30 rfl (lv_at hl 1 rfl) ?_
      refine p_cFe (L' := [_, _, _, _]) hC hK hM (hM.at 2 rfl) rfl (cj_get l κ _ (rd 8) mc ea mm lf j a (hM.at 2 rfl) hj (by omega) hfq) (va_cwF 1 hC.2.2.2.2 (lw_F q1116 q904 q906 q67 q908) rfl rfl rfl (hK.1.2.2.2 _ (List.mem_of_getElem? (i := 2) (rfl : nFw[2]? = some _))) (by decide +kernel) ⟨(Nat.le_of_ble_eq_true rfl), (Nat.le_of_ble_eq_true rfl)⟩) rfl hl.1 rfl (lv_room (Nat.le_of_ble_eq_true rfl)) dX0_as_31 ⟨(Nat.le_of_ble_eq_true rfl), (Nat.le_of_ble_eq_true rfl)⟩ rfl hM.2 (fun H locs hM => ?_)
      refine v_cn hC hK hM (kd := 3) (hM.at 3 rfl) (by decide) (by decide) dX0_as_36 ?_
      refine lv_astore_n (lv' := [(3, _), (0, _), (1, _), (2, _)]) hC.1 hC.2.1 dX0_as_39 rfl hl (by decide) rfl (fun ls hl => ?_)
      refine lv_iload_n hC.1 hC.2.1 dX0_as_40 rfl (lv_at hl 3 rfl) ?_
      refine lv_if_ne (tgt := 48) hC.1 hC.2.1 dX0_as_41 (by decide) (fun c3 => ?_) (fun c3 => ?_)
      ·
        skip
        refine lv_iload_n hC.1 hC.2.1 dX0_as_48 rfl (lv_at hl 3 rfl) ?_
        refine lv_iconst (v := 1) hC.1 hC.2.1 dX0_as_49 (by decide) ?_
        refine lv_icmp_ne (tgt := 60) hC.1 hC.2.1 dX0_as_50 (by decide) (fun c4 => ?_) (fun c4 => ?_)
        ·
          skip
          refine lv_iload_n hC.1 hC.2.1 dX0_as_60 rfl (lv_at hl 3 rfl) ?_
          refine lv_iconst (v := 2) hC.1 hC.2.1 dX0_as_61 (by decide) ?_
          refine lv_icmp_ne (tgt := 72) hC.1 hC.2.1 dX0_as_62 (by decide) (fun c5 => ?_) (fun c5 => ?_)
          ·
            skip
            refine lv_iload_n hC.1 hC.2.1 dX0_as_72 rfl (lv_at hl 3 rfl) ?_
            refine lv_iconst (v := 3) hC.1 hC.2.1 dX0_as_73 (by decide) ?_
            refine lv_icmp_ne (tgt := 84) hC.1 hC.2.1 dX0_as_74 (by decide) (fun c6 => ?_) (fun c6 => ?_)
            ·
              skip
              exact absurd rfl c6
            ·
              skip
              refine lv_aload_n hC.1 hC.2.1 dX0_as_77 rfl (lv_at hl 0 rfl) ?_
              refine va_castE hC.1 hC.2.1 hC.2.2.2.1 (hC.2.2.2.2 _ q775) (OS.recv hK hM.1 (hM.at 3 rfl) (q := (RX11, TX11, 4)) rfl) dX0_as_78 ?_
              refine lv_goto (tgt := 100) hC.1 hC.2.1 dX0_as_81 (by decide) ?_
              refine lv_astore (lv' := [(4, _), (3, _), (0, _), (1, _), (2, _)]) hC.1 hC.2.1 dX0_as_100 hl (by decide) rfl (fun ls hl => ?_)
              refine lv_aload_n hC.1 hC.2.1 dX0_as_102 rfl (lv_at hl 2 rfl) ?_
              refine lv_aload hC.1 hC.2.1 dX0_as_103 (lv_at hl 0 rfl) ?_
              refine v_nu hC hK hM (kd := 3) (hM.at 3 rfl) (by decide) (by decide) hl.1 (lv_room (Nat.le_of_ble_eq_true rfl)) ⟨Nat.le_of_ble_eq_true rfl, Nat.le_of_ble_eq_true rfl⟩ dX0_as_105 ⟨Nat.le_of_ble_eq_true rfl, Nat.le_of_ble_eq_true rfl⟩ (fun H locs hM => ?_)
              refine p_cVe (L' := [_, _, _, _]) hC hK hM (hM.at 0 rfl) rfl (cn_well l κ _ no cv ad g cw (mv 0) (hM.at 0 rfl)) (cwV 1 hC.2.2.2.2 (lw_V q352 q354 qs1 q63 q355) rfl rfl rfl (by decide +kernel) ⟨(Nat.le_of_ble_eq_true rfl), (Nat.le_of_ble_eq_true rfl)⟩) rfl hl.1 rfl (lv_room (Nat.le_of_ble_eq_true rfl)) dX0_as_108 ⟨(Nat.le_of_ble_eq_true rfl), (Nat.le_of_ble_eq_true rfl)⟩ (oups_set hM.2 (i := 0) rfl) (oad_nd hM.2 (i := 0) rfl rfl) (fun H locs hM => ?_)
              skip
              refine p_iret hC hr hlocks hM dX0_as_111 ?_
              refine ⟨rfl, ?_⟩
              rw [oups, oups, oups, oups, oups, oup_same hA, oup_same hls, oup_same hR]
          ·
            skip
            exact absurd c5 (by decide)
        ·
          skip
          exact absurd c4 (by decide)
      ·
        skip
        exact absurd c3 (by decide)
    ·
      skip
      exact absurd (c2 : bI _ = 0) (by decide)

set_option maxHeartbeats 400000 in
set_option maxRecDepth 100000 in
theorem cn_as_12_4 (l : Launch) (κ : Nat → Nat) (O : gO) (no : Nat) (cv : Nat → Int32) (ad : Nat → Nat) (g : Nat → Nat → Option Nat) (cw : Nat → Nat → Int32) (rx : Nat → Int32) (rd : Nat → Nat) (rw : Nat → Nat → Int32) (mc : Int32) (ea mm : Nat) (lf : Nat → Option Nat) (a j : Nat) (mv : Nat → Int32) (hN : O no = some (nsU cv ad g cw)) (hR : O (ad 4) = some (rdU rx rd rw)) (htl : l.stackTraces = false) (hls : O (rd 8) = some (lsU mc ea (nI mm) (lar lf))) (hj : j < mm) (hmm : mm ≤ 5) (hfq : lf j = some a) (hA : O a = some (cU 12 mv (fun _ => 0) aNo)) : oW l κ yX0_as cX0_as 5 (some .int) [(40, 111, 112, 303), (23, 111, 123, 71), (112, 123, 123, 71)] ({ frames := 3, cells := 0, slots := 0, locals := 64 }) [.ref no, .int (nI j), .int 4] O (fun rv O1 => rv = some (.int (mv 0)) ∧ O1 = oup O no (nsU (upd cv 10 0) ad g cw)) := by
  intro D ac A
  refine o_bodyW (own := RX0) rfl (by decide) (Nat.le_of_ble_eq_true rfl) ?_
  intro p e s m args below meth c ls hC hr hlocks hK hM hl htab
  have hl : lv_has ls 5 [(0, .ref no), (1, .int (nI j)), (2, .int 4)] := hl
  have hM := PS.of hM [(no, nsU cv ad g cw), (ad 4, rdU rx rd rw), (rd 8, lsU mc ea (nI mm) (lar lf)), (a, cU 12 mv (fun _ => 0) aNo)] ⟨hN, hR, hls, hA, trivial⟩ (by simp only [oad, List.map, List.nodup_cons, List.mem_cons, List.mem_singleton, List.not_mem_nil, not_or, or_false, not_false_eq_true, List.nodup_nil, and_true]; exact ⟨⟨o_ne hN hR (by decide), o_ne hN hls (by decide), o_ne hN hA (by decide)⟩, ⟨o_ne hR hls (by decide), o_ne hR hA (by decide)⟩, o_ne hls hA (by decide)⟩)
  refine lv_aload_n hC.1 hC.2.1 dX0_as_0 rfl (lv_at hl 0 rfl) ?_
  refine lv_iload_n hC.1 hC.2.1 dX0_as_1 rfl (lv_at hl 1 rfl) ?_
  refine p_cVe (L' := [_, _, _, _]) hC hK hM (hM.at 0 rfl) rfl (cn_isMover l κ _ no cv ad g cw rx rd rw mc ea mm (lar lf) (nI j) (hM.at 0 rfl) (hM.at 1 rfl) (hM.at 2 rfl)) (cwV 1 hC.2.2.2.2 (lw_V q1109 q1111 qs25 q63 q1112) rfl rfl rfl (by decide +kernel) ⟨(Nat.le_of_ble_eq_true rfl), (Nat.le_of_ble_eq_true rfl)⟩) rfl hl.1 rfl (lv_room (Nat.le_of_ble_eq_true rfl)) dX0_as_2 ⟨(Nat.le_of_ble_eq_true rfl), (Nat.le_of_ble_eq_true rfl)⟩ rfl hM.2 (fun H locs hM => ?_)
  refine lv_if_eq (tgt := 20) hC.1 hC.2.1 dX0_as_5 (by decide) (fun c1 => ?_) (fun c1 => ?_)
  ·
    skip
    exact absurd (c1 : bI _ = 0) (by rw [bI_t ⟨nI_pos' (by omega), by rw [show mm = (mm - 1) + 1 by omega, nI_pred]; exact nI_le (by omega) (by omega)⟩]; decide)
  ·
    skip
    refine lv_iload_n hC.1 hC.2.1 dX0_as_8 rfl (lv_at hl 2 rfl) ?_
    refine lv_i2l hC.1 hC.2.1 dX0_as_9 rfl ?_
    refine lv_lconst (v := 0) hC.1 hC.2.1 dX0_as_10 (by decide) ?_
    refine lv_ldc2 hC.1 hC.2.1 hC.2.2.2.1 (hC.2.2.2.2 _ q1154) dX0_as_11 ?_
    refine s_ci hC ((cc_isIn l (a := 0) (b := 5) rfl rfl rfl)) (va_cwS 3 hC.2.2.2.2 (lw_S q265 q266 q63 q267) rfl rfl rfl (by decide +kernel) ⟨(Nat.le_of_ble_eq_true rfl), (Nat.le_of_ble_eq_true rfl)⟩) rfl hl.1 rfl (lv_room (Nat.le_of_ble_eq_true rfl)) dX0_as_14 ⟨(Nat.le_of_ble_eq_true rfl), (Nat.le_of_ble_eq_true rfl)⟩ ?_
    refine lv_if_ne (tgt := 23) hC.1 hC.2.1 dX0_as_17 (by decide) (fun c2 => ?_) (fun c2 => ?_)
    ·
      skip
      refine lv_aload_n hC.1 hC.2.1 dX0_as_23 rfl (lv_at hl 0 rfl) ?_
      refine p_get hC hK hM 0 rfl in_X0 rfl 4 (by decide) q223 (fun x h => h) rfl dX0_as_24 ?_
      refine p_get hC hK hM 1 rfl in_X1 rfl 8 (by decide) q168 (fun x h => h) rfl dX0_as_27 ?_
      refine lv_iload_n hC.1 hC.2.1 dX0_as_30 rfl (lv_at hl 1 rfl) ?_
      refine p_cFe (L' := [_, _, _, _]) hC hK hM (hM.at 2 rfl) rfl (cj_get l κ _ (rd 8) mc ea mm lf j a (hM.at 2 rfl) hj (by omega) hfq) (va_cwF 1 hC.2.2.2.2 (lw_F q1116 q904 q906 q67 q908) rfl rfl rfl (hK.1.2.2.2 _ (List.mem_of_getElem? (i := 2) (rfl : nFw[2]? = some _))) (by decide +kernel) ⟨(Nat.le_of_ble_eq_true rfl), (Nat.le_of_ble_eq_true rfl)⟩) rfl hl.1 rfl (lv_room (Nat.le_of_ble_eq_true rfl)) dX0_as_31 ⟨(Nat.le_of_ble_eq_true rfl), (Nat.le_of_ble_eq_true rfl)⟩ rfl hM.2 (fun H locs hM => ?_)
      refine v_cn hC hK hM (kd := 4) (hM.at 3 rfl) (by decide) (by decide) dX0_as_36 ?_
      refine lv_astore_n (lv' := [(3, _), (0, _), (1, _), (2, _)]) hC.1 hC.2.1 dX0_as_39 rfl hl (by decide) rfl (fun ls hl => ?_)
      refine lv_iload_n hC.1 hC.2.1 dX0_as_40 rfl (lv_at hl 3 rfl) ?_
      refine lv_if_ne (tgt := 48) hC.1 hC.2.1 dX0_as_41 (by decide) (fun c3 => ?_) (fun c3 => ?_)
      ·
        skip
        refine lv_iload_n hC.1 hC.2.1 dX0_as_48 rfl (lv_at hl 3 rfl) ?_
        refine lv_iconst (v := 1) hC.1 hC.2.1 dX0_as_49 (by decide) ?_
        refine lv_icmp_ne (tgt := 60) hC.1 hC.2.1 dX0_as_50 (by decide) (fun c4 => ?_) (fun c4 => ?_)
        ·
          skip
          refine lv_iload_n hC.1 hC.2.1 dX0_as_60 rfl (lv_at hl 3 rfl) ?_
          refine lv_iconst (v := 2) hC.1 hC.2.1 dX0_as_61 (by decide) ?_
          refine lv_icmp_ne (tgt := 72) hC.1 hC.2.1 dX0_as_62 (by decide) (fun c5 => ?_) (fun c5 => ?_)
          ·
            skip
            refine lv_iload_n hC.1 hC.2.1 dX0_as_72 rfl (lv_at hl 3 rfl) ?_
            refine lv_iconst (v := 3) hC.1 hC.2.1 dX0_as_73 (by decide) ?_
            refine lv_icmp_ne (tgt := 84) hC.1 hC.2.1 dX0_as_74 (by decide) (fun c6 => ?_) (fun c6 => ?_)
            ·
              skip
              refine lv_iload_n hC.1 hC.2.1 dX0_as_84 rfl (lv_at hl 3 rfl) ?_
              refine lv_iconst (v := 4) hC.1 hC.2.1 dX0_as_85 (by decide) ?_
              refine lv_icmp_ne (tgt := 96) hC.1 hC.2.1 dX0_as_86 (by decide) (fun c7 => ?_) (fun c7 => ?_)
              ·
                skip
                exact absurd rfl c7
              ·
                skip
                refine lv_aload_n hC.1 hC.2.1 dX0_as_89 rfl (lv_at hl 0 rfl) ?_
                refine va_castE hC.1 hC.2.1 hC.2.2.2.1 (hC.2.2.2.2 _ q786) (OS.recv hK hM.1 (hM.at 3 rfl) (q := (RX12, TX12, 4)) rfl) dX0_as_90 ?_
                refine lv_goto (tgt := 100) hC.1 hC.2.1 dX0_as_93 (by decide) ?_
                refine lv_astore (lv' := [(4, _), (3, _), (0, _), (1, _), (2, _)]) hC.1 hC.2.1 dX0_as_100 hl (by decide) rfl (fun ls hl => ?_)
                refine lv_aload_n hC.1 hC.2.1 dX0_as_102 rfl (lv_at hl 2 rfl) ?_
                refine lv_aload hC.1 hC.2.1 dX0_as_103 (lv_at hl 0 rfl) ?_
                refine v_nu hC hK hM (kd := 4) (hM.at 3 rfl) (by decide) (by decide) hl.1 (lv_room (Nat.le_of_ble_eq_true rfl)) ⟨Nat.le_of_ble_eq_true rfl, Nat.le_of_ble_eq_true rfl⟩ dX0_as_105 ⟨Nat.le_of_ble_eq_true rfl, Nat.le_of_ble_eq_true rfl⟩ (fun H locs hM => ?_)
                refine p_cVe (L' := [_, _, _, _]) hC hK hM (hM.at 0 rfl) rfl (cn_well l κ _ no cv ad g cw (mv 0) (hM.at 0 rfl)) (cwV 1 hC.2.2.2.2 (lw_V q352 q354 qs1 q63 q355) rfl rfl rfl (by decide +kernel) ⟨(Nat.le_of_ble_eq_true rfl), (Nat.le_of_ble_eq_true rfl)⟩) rfl hl.1 rfl (lv_room (Nat.le_of_ble_eq_true rfl)) dX0_as_108 ⟨(Nat.le_of_ble_eq_true rfl), (Nat.le_of_ble_eq_true rfl)⟩ (oups_set hM.2 (i := 0) rfl) (oad_nd hM.2 (i := 0) rfl rfl) (fun H locs hM => ?_)
                skip
                refine p_iret hC hr hlocks hM dX0_as_111 ?_
                refine ⟨rfl, ?_⟩
                rw [oups, oups, oups, oups, oups, oup_same hA, oup_same hls, oup_same hR]
            ·
              skip
              exact absurd c6 (by decide)
          ·
            skip
            exact absurd c5 (by decide)
        ·
          skip
          exact absurd c4 (by decide)
      ·
        skip
        exact absurd c3 (by decide)
    ·
      skip
      exact absurd (c2 : bI _ = 0) (by decide)

set_option maxHeartbeats 400000 in
set_option maxRecDepth 100000 in
theorem cn_as_13_4 (l : Launch) (κ : Nat → Nat) (O : gO) (no : Nat) (cv : Nat → Int32) (ad : Nat → Nat) (g : Nat → Nat → Option Nat) (cw : Nat → Nat → Int32) (rx : Nat → Int32) (rd : Nat → Nat) (rw : Nat → Nat → Int32) (mc : Int32) (ea mm : Nat) (lf : Nat → Option Nat) (a j : Nat) (mv : Nat → Int32) (hN : O no = some (nsU cv ad g cw)) (hR : O (ad 4) = some (rdU rx rd rw)) (htl : l.stackTraces = false) (hls : O (rd 8) = some (lsU mc ea (nI mm) (lar lf))) (hj : j < mm) (hmm : mm ≤ 5) (hfq : lf j = some a) (hA : O a = some (cU 13 mv (fun _ => 0) aNo)) : oW l κ yX0_as cX0_as 5 (some .int) [(40, 111, 112, 303), (23, 111, 123, 71), (112, 123, 123, 71)] ({ frames := 3, cells := 0, slots := 0, locals := 64 }) [.ref no, .int (nI j), .int 4] O (fun rv O1 => rv = some (.int (mv 0)) ∧ O1 = oup O no (nsU (upd cv 10 0) ad g cw)) := by
  intro D ac A
  refine o_bodyW (own := RX0) rfl (by decide) (Nat.le_of_ble_eq_true rfl) ?_
  intro p e s m args below meth c ls hC hr hlocks hK hM hl htab
  have hl : lv_has ls 5 [(0, .ref no), (1, .int (nI j)), (2, .int 4)] := hl
  have hM := PS.of hM [(no, nsU cv ad g cw), (ad 4, rdU rx rd rw), (rd 8, lsU mc ea (nI mm) (lar lf)), (a, cU 13 mv (fun _ => 0) aNo)] ⟨hN, hR, hls, hA, trivial⟩ (by simp only [oad, List.map, List.nodup_cons, List.mem_cons, List.mem_singleton, List.not_mem_nil, not_or, or_false, not_false_eq_true, List.nodup_nil, and_true]; exact ⟨⟨o_ne hN hR (by decide), o_ne hN hls (by decide), o_ne hN hA (by decide)⟩, ⟨o_ne hR hls (by decide), o_ne hR hA (by decide)⟩, o_ne hls hA (by decide)⟩)
  refine lv_aload_n hC.1 hC.2.1 dX0_as_0 rfl (lv_at hl 0 rfl) ?_
  refine lv_iload_n hC.1 hC.2.1 dX0_as_1 rfl (lv_at hl 1 rfl) ?_
  refine p_cVe (L' := [_, _, _, _]) hC hK hM (hM.at 0 rfl) rfl (cn_isMover l κ _ no cv ad g cw rx rd rw mc ea mm (lar lf) (nI j) (hM.at 0 rfl) (hM.at 1 rfl) (hM.at 2 rfl)) (cwV 1 hC.2.2.2.2 (lw_V q1109 q1111 qs25 q63 q1112) rfl rfl rfl (by decide +kernel) ⟨(Nat.le_of_ble_eq_true rfl), (Nat.le_of_ble_eq_true rfl)⟩) rfl hl.1 rfl (lv_room (Nat.le_of_ble_eq_true rfl)) dX0_as_2 ⟨(Nat.le_of_ble_eq_true rfl), (Nat.le_of_ble_eq_true rfl)⟩ rfl hM.2 (fun H locs hM => ?_)
  refine lv_if_eq (tgt := 20) hC.1 hC.2.1 dX0_as_5 (by decide) (fun c1 => ?_) (fun c1 => ?_)
  ·
    skip
    exact absurd (c1 : bI _ = 0) (by rw [bI_t ⟨nI_pos' (by omega), by rw [show mm = (mm - 1) + 1 by omega, nI_pred]; exact nI_le (by omega) (by omega)⟩]; decide)
  ·
    skip
    refine lv_iload_n hC.1 hC.2.1 dX0_as_8 rfl (lv_at hl 2 rfl) ?_
    refine lv_i2l hC.1 hC.2.1 dX0_as_9 rfl ?_
    refine lv_lconst (v := 0) hC.1 hC.2.1 dX0_as_10 (by decide) ?_
    refine lv_ldc2 hC.1 hC.2.1 hC.2.2.2.1 (hC.2.2.2.2 _ q1154) dX0_as_11 ?_
    refine s_ci hC ((cc_isIn l (a := 0) (b := 5) rfl rfl rfl)) (va_cwS 3 hC.2.2.2.2 (lw_S q265 q266 q63 q267) rfl rfl rfl (by decide +kernel) ⟨(Nat.le_of_ble_eq_true rfl), (Nat.le_of_ble_eq_true rfl)⟩) rfl hl.1 rfl (lv_room (Nat.le_of_ble_eq_true rfl)) dX0_as_14 ⟨(Nat.le_of_ble_eq_true rfl), (Nat.le_of_ble_eq_true rfl)⟩ ?_
    refine lv_if_ne (tgt := 23) hC.1 hC.2.1 dX0_as_17 (by decide) (fun c2 => ?_) (fun c2 => ?_)
    ·
      skip
      refine lv_aload_n hC.1 hC.2.1 dX0_as_23 rfl (lv_at hl 0 rfl) ?_
      refine p_get hC hK hM 0 rfl in_X0 rfl 4 (by decide) q223 (fun x h => h) rfl dX0_as_24 ?_
      refine p_get hC hK hM 1 rfl in_X1 rfl 8 (by decide) q168 (fun x h => h) rfl dX0_as_27 ?_
      refine lv_iload_n hC.1 hC.2.1 dX0_as_30 rfl (lv_at hl 1 rfl) ?_
      refine p_cFe (L' := [_, _, _, _]) hC hK hM (hM.at 2 rfl) rfl (cj_get l κ _ (rd 8) mc ea mm lf j a (hM.at 2 rfl) hj (by omega) hfq) (va_cwF 1 hC.2.2.2.2 (lw_F q1116 q904 q906 q67 q908) rfl rfl rfl (hK.1.2.2.2 _ (List.mem_of_getElem? (i := 2) (rfl : nFw[2]? = some _))) (by decide +kernel) ⟨(Nat.le_of_ble_eq_true rfl), (Nat.le_of_ble_eq_true rfl)⟩) rfl hl.1 rfl (lv_room (Nat.le_of_ble_eq_true rfl)) dX0_as_31 ⟨(Nat.le_of_ble_eq_true rfl), (Nat.le_of_ble_eq_true rfl)⟩ rfl hM.2 (fun H locs hM => ?_)
      refine v_cn hC hK hM (kd := 5) (hM.at 3 rfl) (by decide) (by decide) dX0_as_36 ?_
      refine lv_astore_n (lv' := [(3, _), (0, _), (1, _), (2, _)]) hC.1 hC.2.1 dX0_as_39 rfl hl (by decide) rfl (fun ls hl => ?_)
      refine lv_iload_n hC.1 hC.2.1 dX0_as_40 rfl (lv_at hl 3 rfl) ?_
      refine lv_if_ne (tgt := 48) hC.1 hC.2.1 dX0_as_41 (by decide) (fun c3 => ?_) (fun c3 => ?_)
      ·
        skip
        refine lv_iload_n hC.1 hC.2.1 dX0_as_48 rfl (lv_at hl 3 rfl) ?_
        refine lv_iconst (v := 1) hC.1 hC.2.1 dX0_as_49 (by decide) ?_
        refine lv_icmp_ne (tgt := 60) hC.1 hC.2.1 dX0_as_50 (by decide) (fun c4 => ?_) (fun c4 => ?_)
        ·
          skip
          refine lv_iload_n hC.1 hC.2.1 dX0_as_60 rfl (lv_at hl 3 rfl) ?_
          refine lv_iconst (v := 2) hC.1 hC.2.1 dX0_as_61 (by decide) ?_
          refine lv_icmp_ne (tgt := 72) hC.1 hC.2.1 dX0_as_62 (by decide) (fun c5 => ?_) (fun c5 => ?_)
          ·
            skip
            refine lv_iload_n hC.1 hC.2.1 dX0_as_72 rfl (lv_at hl 3 rfl) ?_
            refine lv_iconst (v := 3) hC.1 hC.2.1 dX0_as_73 (by decide) ?_
            refine lv_icmp_ne (tgt := 84) hC.1 hC.2.1 dX0_as_74 (by decide) (fun c6 => ?_) (fun c6 => ?_)
            ·
              skip
              refine lv_iload_n hC.1 hC.2.1 dX0_as_84 rfl (lv_at hl 3 rfl) ?_
              refine lv_iconst (v := 4) hC.1 hC.2.1 dX0_as_85 (by decide) ?_
              refine lv_icmp_ne (tgt := 96) hC.1 hC.2.1 dX0_as_86 (by decide) (fun c7 => ?_) (fun c7 => ?_)
              ·
                skip
                exact absurd rfl c7
              ·
                skip
                refine lv_aload_n hC.1 hC.2.1 dX0_as_89 rfl (lv_at hl 0 rfl) ?_
                refine va_castY hC.1 hC.2.1 hC.2.2.2.1 (hC.2.2.2.2 _ q786) (hK.1.2.1 _ q1674 rfl) (OS.recv hK hM.1 (hM.at 3 rfl) (q := (RX13, TX13, 4)) rfl) dX0_as_90 ?_
                refine lv_goto (tgt := 100) hC.1 hC.2.1 dX0_as_93 (by decide) ?_
                refine lv_astore (lv' := [(4, _), (3, _), (0, _), (1, _), (2, _)]) hC.1 hC.2.1 dX0_as_100 hl (by decide) rfl (fun ls hl => ?_)
                refine lv_aload_n hC.1 hC.2.1 dX0_as_102 rfl (lv_at hl 2 rfl) ?_
                refine lv_aload hC.1 hC.2.1 dX0_as_103 (lv_at hl 0 rfl) ?_
                refine v_nu hC hK hM (kd := 5) (hM.at 3 rfl) (by decide) (by decide) hl.1 (lv_room (Nat.le_of_ble_eq_true rfl)) ⟨Nat.le_of_ble_eq_true rfl, Nat.le_of_ble_eq_true rfl⟩ dX0_as_105 ⟨Nat.le_of_ble_eq_true rfl, Nat.le_of_ble_eq_true rfl⟩ (fun H locs hM => ?_)
                refine p_cVe (L' := [_, _, _, _]) hC hK hM (hM.at 0 rfl) rfl (cn_well l κ _ no cv ad g cw (mv 0) (hM.at 0 rfl)) (cwV 1 hC.2.2.2.2 (lw_V q352 q354 qs1 q63 q355) rfl rfl rfl (by decide +kernel) ⟨(Nat.le_of_ble_eq_true rfl), (Nat.le_of_ble_eq_true rfl)⟩) rfl hl.1 rfl (lv_room (Nat.le_of_ble_eq_true rfl)) dX0_as_108 ⟨(Nat.le_of_ble_eq_true rfl), (Nat.le_of_ble_eq_true rfl)⟩ (oups_set hM.2 (i := 0) rfl) (oad_nd hM.2 (i := 0) rfl rfl) (fun H locs hM => ?_)
                skip
                refine p_iret hC hr hlocks hM dX0_as_111 ?_
                refine ⟨rfl, ?_⟩
                rw [oups, oups, oups, oups, oups, oup_same hA, oup_same hls, oup_same hR]
            ·
              skip
              exact absurd c6 (by decide)
          ·
            skip
            exact absurd c5 (by decide)
        ·
          skip
          exact absurd c4 (by decide)
      ·
        skip
        exact absurd c3 (by decide)
    ·
      skip
      exact absurd (c2 : bI _ = 0) (by decide)

set_option maxHeartbeats 400000 in
set_option maxRecDepth 100000 in
theorem cn_as_13_5 (l : Launch) (κ : Nat → Nat) (O : gO) (no : Nat) (cv : Nat → Int32) (ad : Nat → Nat) (g : Nat → Nat → Option Nat) (cw : Nat → Nat → Int32) (rx : Nat → Int32) (rd : Nat → Nat) (rw : Nat → Nat → Int32) (mc : Int32) (ea mm : Nat) (lf : Nat → Option Nat) (a j : Nat) (mv : Nat → Int32) (hN : O no = some (nsU cv ad g cw)) (hR : O (ad 4) = some (rdU rx rd rw)) (htl : l.stackTraces = false) (hls : O (rd 8) = some (lsU mc ea (nI mm) (lar lf))) (hj : j < mm) (hmm : mm ≤ 5) (hfq : lf j = some a) (hA : O a = some (cU 13 mv (fun _ => 0) aNo)) : oW l κ yX0_as cX0_as 5 (some .int) [(40, 111, 112, 303), (23, 111, 123, 71), (112, 123, 123, 71)] ({ frames := 3, cells := 0, slots := 0, locals := 64 }) [.ref no, .int (nI j), .int 5] O (fun rv O1 => rv = some (.int (mv 0)) ∧ O1 = oup O no (nsU (upd cv 10 0) ad g cw)) := by
  intro D ac A
  refine o_bodyW (own := RX0) rfl (by decide) (Nat.le_of_ble_eq_true rfl) ?_
  intro p e s m args below meth c ls hC hr hlocks hK hM hl htab
  have hl : lv_has ls 5 [(0, .ref no), (1, .int (nI j)), (2, .int 5)] := hl
  have hM := PS.of hM [(no, nsU cv ad g cw), (ad 4, rdU rx rd rw), (rd 8, lsU mc ea (nI mm) (lar lf)), (a, cU 13 mv (fun _ => 0) aNo)] ⟨hN, hR, hls, hA, trivial⟩ (by simp only [oad, List.map, List.nodup_cons, List.mem_cons, List.mem_singleton, List.not_mem_nil, not_or, or_false, not_false_eq_true, List.nodup_nil, and_true]; exact ⟨⟨o_ne hN hR (by decide), o_ne hN hls (by decide), o_ne hN hA (by decide)⟩, ⟨o_ne hR hls (by decide), o_ne hR hA (by decide)⟩, o_ne hls hA (by decide)⟩)
  refine lv_aload_n hC.1 hC.2.1 dX0_as_0 rfl (lv_at hl 0 rfl) ?_
  refine lv_iload_n hC.1 hC.2.1 dX0_as_1 rfl (lv_at hl 1 rfl) ?_
  refine p_cVe (L' := [_, _, _, _]) hC hK hM (hM.at 0 rfl) rfl (cn_isMover l κ _ no cv ad g cw rx rd rw mc ea mm (lar lf) (nI j) (hM.at 0 rfl) (hM.at 1 rfl) (hM.at 2 rfl)) (cwV 1 hC.2.2.2.2 (lw_V q1109 q1111 qs25 q63 q1112) rfl rfl rfl (by decide +kernel) ⟨(Nat.le_of_ble_eq_true rfl), (Nat.le_of_ble_eq_true rfl)⟩) rfl hl.1 rfl (lv_room (Nat.le_of_ble_eq_true rfl)) dX0_as_2 ⟨(Nat.le_of_ble_eq_true rfl), (Nat.le_of_ble_eq_true rfl)⟩ rfl hM.2 (fun H locs hM => ?_)
  refine lv_if_eq (tgt := 20) hC.1 hC.2.1 dX0_as_5 (by decide) (fun c1 => ?_) (fun c1 => ?_)
  ·
    skip
    exact absurd (c1 : bI _ = 0) (by rw [bI_t ⟨nI_pos' (by omega), by rw [show mm = (mm - 1) + 1 by omega, nI_pred]; exact nI_le (by omega) (by omega)⟩]; decide)
  ·
    skip
    refine lv_iload_n hC.1 hC.2.1 dX0_as_8 rfl (lv_at hl 2 rfl) ?_
    refine lv_i2l hC.1 hC.2.1 dX0_as_9 rfl ?_
    refine lv_lconst (v := 0) hC.1 hC.2.1 dX0_as_10 (by decide) ?_
    refine lv_ldc2 hC.1 hC.2.1 hC.2.2.2.1 (hC.2.2.2.2 _ q1154) dX0_as_11 ?_
    refine s_ci hC ((cc_isIn l (a := 0) (b := 5) rfl rfl rfl)) (va_cwS 3 hC.2.2.2.2 (lw_S q265 q266 q63 q267) rfl rfl rfl (by decide +kernel) ⟨(Nat.le_of_ble_eq_true rfl), (Nat.le_of_ble_eq_true rfl)⟩) rfl hl.1 rfl (lv_room (Nat.le_of_ble_eq_true rfl)) dX0_as_14 ⟨(Nat.le_of_ble_eq_true rfl), (Nat.le_of_ble_eq_true rfl)⟩ ?_
    refine lv_if_ne (tgt := 23) hC.1 hC.2.1 dX0_as_17 (by decide) (fun c2 => ?_) (fun c2 => ?_)
    ·
      skip
      refine lv_aload_n hC.1 hC.2.1 dX0_as_23 rfl (lv_at hl 0 rfl) ?_
      refine p_get hC hK hM 0 rfl in_X0 rfl 4 (by decide) q223 (fun x h => h) rfl dX0_as_24 ?_
      refine p_get hC hK hM 1 rfl in_X1 rfl 8 (by decide) q168 (fun x h => h) rfl dX0_as_27 ?_
      refine lv_iload_n hC.1 hC.2.1 dX0_as_30 rfl (lv_at hl 1 rfl) ?_
      refine p_cFe (L' := [_, _, _, _]) hC hK hM (hM.at 2 rfl) rfl (cj_get l κ _ (rd 8) mc ea mm lf j a (hM.at 2 rfl) hj (by omega) hfq) (va_cwF 1 hC.2.2.2.2 (lw_F q1116 q904 q906 q67 q908) rfl rfl rfl (hK.1.2.2.2 _ (List.mem_of_getElem? (i := 2) (rfl : nFw[2]? = some _))) (by decide +kernel) ⟨(Nat.le_of_ble_eq_true rfl), (Nat.le_of_ble_eq_true rfl)⟩) rfl hl.1 rfl (lv_room (Nat.le_of_ble_eq_true rfl)) dX0_as_31 ⟨(Nat.le_of_ble_eq_true rfl), (Nat.le_of_ble_eq_true rfl)⟩ rfl hM.2 (fun H locs hM => ?_)
      refine v_cn hC hK hM (kd := 5) (hM.at 3 rfl) (by decide) (by decide) dX0_as_36 ?_
      refine lv_astore_n (lv' := [(3, _), (0, _), (1, _), (2, _)]) hC.1 hC.2.1 dX0_as_39 rfl hl (by decide) rfl (fun ls hl => ?_)
      refine lv_iload_n hC.1 hC.2.1 dX0_as_40 rfl (lv_at hl 3 rfl) ?_
      refine lv_if_ne (tgt := 48) hC.1 hC.2.1 dX0_as_41 (by decide) (fun c3 => ?_) (fun c3 => ?_)
      ·
        skip
        refine lv_iload_n hC.1 hC.2.1 dX0_as_48 rfl (lv_at hl 3 rfl) ?_
        refine lv_iconst (v := 1) hC.1 hC.2.1 dX0_as_49 (by decide) ?_
        refine lv_icmp_ne (tgt := 60) hC.1 hC.2.1 dX0_as_50 (by decide) (fun c4 => ?_) (fun c4 => ?_)
        ·
          skip
          refine lv_iload_n hC.1 hC.2.1 dX0_as_60 rfl (lv_at hl 3 rfl) ?_
          refine lv_iconst (v := 2) hC.1 hC.2.1 dX0_as_61 (by decide) ?_
          refine lv_icmp_ne (tgt := 72) hC.1 hC.2.1 dX0_as_62 (by decide) (fun c5 => ?_) (fun c5 => ?_)
          ·
            skip
            refine lv_iload_n hC.1 hC.2.1 dX0_as_72 rfl (lv_at hl 3 rfl) ?_
            refine lv_iconst (v := 3) hC.1 hC.2.1 dX0_as_73 (by decide) ?_
            refine lv_icmp_ne (tgt := 84) hC.1 hC.2.1 dX0_as_74 (by decide) (fun c6 => ?_) (fun c6 => ?_)
            ·
              skip
              refine lv_iload_n hC.1 hC.2.1 dX0_as_84 rfl (lv_at hl 3 rfl) ?_
              refine lv_iconst (v := 4) hC.1 hC.2.1 dX0_as_85 (by decide) ?_
              refine lv_icmp_ne (tgt := 96) hC.1 hC.2.1 dX0_as_86 (by decide) (fun c7 => ?_) (fun c7 => ?_)
              ·
                skip
                refine lv_aload_n hC.1 hC.2.1 dX0_as_96 rfl (lv_at hl 0 rfl) ?_
                refine va_castE hC.1 hC.2.1 hC.2.2.2.1 (hC.2.2.2.2 _ q797) (OS.recv hK hM.1 (hM.at 3 rfl) (q := (RX13, TX13, 4)) rfl) dX0_as_97 ?_
                refine lv_astore (lv' := [(4, _), (3, _), (0, _), (1, _), (2, _)]) hC.1 hC.2.1 dX0_as_100 hl (by decide) rfl (fun ls hl => ?_)
                refine lv_aload_n hC.1 hC.2.1 dX0_as_102 rfl (lv_at hl 2 rfl) ?_
                refine lv_aload hC.1 hC.2.1 dX0_as_103 (lv_at hl 0 rfl) ?_
                refine v_nu hC hK hM (kd := 5) (hM.at 3 rfl) (by decide) (by decide) hl.1 (lv_room (Nat.le_of_ble_eq_true rfl)) ⟨Nat.le_of_ble_eq_true rfl, Nat.le_of_ble_eq_true rfl⟩ dX0_as_105 ⟨Nat.le_of_ble_eq_true rfl, Nat.le_of_ble_eq_true rfl⟩ (fun H locs hM => ?_)
                refine p_cVe (L' := [_, _, _, _]) hC hK hM (hM.at 0 rfl) rfl (cn_well l κ _ no cv ad g cw (mv 0) (hM.at 0 rfl)) (cwV 1 hC.2.2.2.2 (lw_V q352 q354 qs1 q63 q355) rfl rfl rfl (by decide +kernel) ⟨(Nat.le_of_ble_eq_true rfl), (Nat.le_of_ble_eq_true rfl)⟩) rfl hl.1 rfl (lv_room (Nat.le_of_ble_eq_true rfl)) dX0_as_108 ⟨(Nat.le_of_ble_eq_true rfl), (Nat.le_of_ble_eq_true rfl)⟩ (oups_set hM.2 (i := 0) rfl) (oad_nd hM.2 (i := 0) rfl rfl) (fun H locs hM => ?_)
                skip
                refine p_iret hC hr hlocks hM dX0_as_111 ?_
                refine ⟨rfl, ?_⟩
                rw [oups, oups, oups, oups, oups, oup_same hA, oup_same hls, oup_same hR]
              ·
                skip
                exact absurd c7 (by decide)
            ·
              skip
              exact absurd c6 (by decide)
          ·
            skip
            exact absurd c5 (by decide)
        ·
          skip
          exact absurd c4 (by decide)
      ·
        skip
        exact absurd c3 (by decide)
    ·
      skip
      exact absurd (c2 : bI _ = 0) (by decide)

set_option maxHeartbeats 400000 in
set_option maxRecDepth 100000 in
theorem cn_asT_9_2 (l : Launch) (κ : Nat → Nat) (O : gO) (no : Nat) (cv : Nat → Int32) (ad : Nat → Nat) (g : Nat → Nat → Option Nat) (cw : Nat → Nat → Int32) (rx : Nat → Int32) (rd : Nat → Nat) (rw : Nat → Nat → Int32) (mc : Int32) (ea mm : Nat) (lf : Nat → Option Nat) (a j : Nat) (mv : Nat → Int32) (hN : O no = some (nsU cv ad g cw)) (hR : O (ad 4) = some (rdU rx rd rw)) (htl : l.stackTraces = false) (hls : O (rd 8) = some (lsU mc ea (nI mm) (lar lf))) (hj : j < mm) (hmm : mm ≤ 5) (hfq : lf j = some a) (hA : O a = some (cU 9 mv (fun _ => 0) aNo)) : oW l κ yX0_as cX0_as 5 (some .int) [(40, 111, 112, 303), (23, 111, 123, 71), (112, 123, 123, 71)] ({ frames := 7, cells := 4, slots := 817, locals := 10260 }) [.ref no, .int (nI j), .int 2] O (fun rv O1 => rv = some (.int (-1000013)) ∧ ∃ z, O z = none ∧ O1 = oup (oup O z (fnU 3)) no (nsU (upd cv 10 3) ad g cw)) := by
  intro D ac A
  refine o_bodyW (own := RX0) rfl (by decide) (Nat.le_of_ble_eq_true rfl) ?_
  intro p e s m args below meth c ls hC hr hlocks hK hM hl htab
  have hl : lv_has ls 5 [(0, .ref no), (1, .int (nI j)), (2, .int 2)] := hl
  have hM := PS.of hM [(no, nsU cv ad g cw), (ad 4, rdU rx rd rw), (rd 8, lsU mc ea (nI mm) (lar lf)), (a, cU 9 mv (fun _ => 0) aNo)] ⟨hN, hR, hls, hA, trivial⟩ (by simp only [oad, List.map, List.nodup_cons, List.mem_cons, List.mem_singleton, List.not_mem_nil, not_or, or_false, not_false_eq_true, List.nodup_nil, and_true]; exact ⟨⟨o_ne hN hR (by decide), o_ne hN hls (by decide), o_ne hN hA (by decide)⟩, ⟨o_ne hR hls (by decide), o_ne hR hA (by decide)⟩, o_ne hls hA (by decide)⟩)
  refine lv_aload_n hC.1 hC.2.1 dX0_as_0 rfl (lv_at hl 0 rfl) ?_
  refine lv_iload_n hC.1 hC.2.1 dX0_as_1 rfl (lv_at hl 1 rfl) ?_
  refine p_cVe (L' := [_, _, _, _]) hC hK hM (hM.at 0 rfl) rfl (cn_isMover l κ _ no cv ad g cw rx rd rw mc ea mm (lar lf) (nI j) (hM.at 0 rfl) (hM.at 1 rfl) (hM.at 2 rfl)) (cwV 1 hC.2.2.2.2 (lw_V q1109 q1111 qs25 q63 q1112) rfl rfl rfl (by decide +kernel) ⟨(Nat.le_of_ble_eq_true rfl), (Nat.le_of_ble_eq_true rfl)⟩) rfl hl.1 rfl (lv_room (Nat.le_of_ble_eq_true rfl)) dX0_as_2 ⟨(Nat.le_of_ble_eq_true rfl), (Nat.le_of_ble_eq_true rfl)⟩ rfl hM.2 (fun H locs hM => ?_)
  refine lv_if_eq (tgt := 20) hC.1 hC.2.1 dX0_as_5 (by decide) (fun c1 => ?_) (fun c1 => ?_)
  ·
    skip
    exact absurd (c1 : bI _ = 0) (by rw [bI_t ⟨nI_pos' (by omega), by rw [show mm = (mm - 1) + 1 by omega, nI_pred]; exact nI_le (by omega) (by omega)⟩]; decide)
  ·
    skip
    refine lv_iload_n hC.1 hC.2.1 dX0_as_8 rfl (lv_at hl 2 rfl) ?_
    refine lv_i2l hC.1 hC.2.1 dX0_as_9 rfl ?_
    refine lv_lconst (v := 0) hC.1 hC.2.1 dX0_as_10 (by decide) ?_
    refine lv_ldc2 hC.1 hC.2.1 hC.2.2.2.1 (hC.2.2.2.2 _ q1154) dX0_as_11 ?_
    refine s_ci hC ((cc_isIn l (a := 0) (b := 5) rfl rfl rfl)) (va_cwS 3 hC.2.2.2.2 (lw_S q265 q266 q63 q267) rfl rfl rfl (by decide +kernel) ⟨(Nat.le_of_ble_eq_true rfl), (Nat.le_of_ble_eq_true rfl)⟩) rfl hl.1 rfl (lv_room (Nat.le_of_ble_eq_true rfl)) dX0_as_14 ⟨(Nat.le_of_ble_eq_true rfl), (Nat.le_of_ble_eq_true rfl)⟩ ?_
    refine lv_if_ne (tgt := 23) hC.1 hC.2.1 dX0_as_17 (by decide) (fun c2 => ?_) (fun c2 => ?_)
    ·
      skip
      refine lv_aload_n hC.1 hC.2.1 dX0_as_23 rfl (lv_at hl 0 rfl) ?_
      refine p_get hC hK hM 0 rfl in_X0 rfl 4 (by decide) q223 (fun x h => h) rfl dX0_as_24 ?_
      refine p_get hC hK hM 1 rfl in_X1 rfl 8 (by decide) q168 (fun x h => h) rfl dX0_as_27 ?_
      refine lv_iload_n hC.1 hC.2.1 dX0_as_30 rfl (lv_at hl 1 rfl) ?_
      refine p_cFe (L' := [_, _, _, _]) hC hK hM (hM.at 2 rfl) rfl (cj_get l κ _ (rd 8) mc ea mm lf j a (hM.at 2 rfl) hj (by omega) hfq) (va_cwF 1 hC.2.2.2.2 (lw_F q1116 q904 q906 q67 q908) rfl rfl rfl (hK.1.2.2.2 _ (List.mem_of_getElem? (i := 2) (rfl : nFw[2]? = some _))) (by decide +kernel) ⟨(Nat.le_of_ble_eq_true rfl), (Nat.le_of_ble_eq_true rfl)⟩) rfl hl.1 rfl (lv_room (Nat.le_of_ble_eq_true rfl)) dX0_as_31 ⟨(Nat.le_of_ble_eq_true rfl), (Nat.le_of_ble_eq_true rfl)⟩ rfl hM.2 (fun H locs hM => ?_)
      refine v_cn hC hK hM (kd := 1) (hM.at 3 rfl) (by decide) (by decide) dX0_as_36 ?_
      refine lv_astore_n (lv' := [(3, _), (0, _), (1, _), (2, _)]) hC.1 hC.2.1 dX0_as_39 rfl hl (by decide) rfl (fun ls hl => ?_)
      refine lv_iload_n hC.1 hC.2.1 dX0_as_40 rfl (lv_at hl 3 rfl) ?_
      refine lv_if_ne (tgt := 48) hC.1 hC.2.1 dX0_as_41 (by decide) (fun c3 => ?_) (fun c3 => ?_)
      ·
        skip
        refine lv_iload_n hC.1 hC.2.1 dX0_as_48 rfl (lv_at hl 3 rfl) ?_
        refine lv_iconst (v := 1) hC.1 hC.2.1 dX0_as_49 (by decide) ?_
        refine lv_icmp_ne (tgt := 60) hC.1 hC.2.1 dX0_as_50 (by decide) (fun c4 => ?_) (fun c4 => ?_)
        ·
          skip
          refine lv_iload_n hC.1 hC.2.1 dX0_as_60 rfl (lv_at hl 3 rfl) ?_
          refine lv_iconst (v := 2) hC.1 hC.2.1 dX0_as_61 (by decide) ?_
          refine lv_icmp_ne (tgt := 72) hC.1 hC.2.1 dX0_as_62 (by decide) (fun c5 => ?_) (fun c5 => ?_)
          ·
            skip
            exact absurd rfl c5
          ·
            skip
            refine lv_aload_n hC.1 hC.2.1 dX0_as_65 rfl (lv_at hl 0 rfl) ?_
            refine p_castT (x := RX9) (y := RX10) hC hK hM htl hl.1 (hM.at 3 rfl) rfl rfl q764 (List.mem_of_getElem? (i := 0) rfl) (by decide) (by decide) htab 0 (hpc := 112) (ct := 303) (hAt_of rfl) (by decide) q1140 (hK.1.2.1 _ q1152 rfl) (Nat.le_of_ble_eq_true rfl) (Nat.le_of_ble_eq_true rfl) (Nat.le_of_ble_eq_true rfl) (Nat.le_of_ble_eq_true rfl) dX0_as_66 (fun zx H locs hM => ?_)
            refine lv_astore (lv' := [(4, _), (3, _), (0, _), (1, _), (2, _)]) hC.1 hC.2.1 dX0_as_112 hl (by decide) rfl (fun ls hl => ?_)
            refine p_new (L' := fun q => [_, _, _, _, _]) hC hK hM (ci := 4) in_X4 tyX4 tyX4_ok q260 q273 q72 rfl (fs := [.null, .null, .null, .null, .null, .int 0, .int 0]) (by decide) (Nat.le_of_ble_eq_true rfl) (Nat.le_of_ble_eq_true rfl) dX0_as_114 (fun q => rfl) (fun q_6 H hq_6 hM => ?_)
            refine lv_dup hC.1 hC.2.1 dX0_as_117 rfl ?_
            refine lv_iconst (v := 3) hC.1 hC.2.1 dX0_as_118 (by decide) ?_
            refine p_cIv (L' := [_, _, _, _, _]) hC hK hM (cx_fn l κ _ q_6 3 (hM.at 4 rfl)) (cwI 1 hC.2.2.2.2 (lw_meth q314) rfl rfl rfl (hC.2.2.2.2 _ q72) (hC.2.2.2.2 _ q312) (hC.2.2.2.2 _ q313) rfl (by decide +kernel) ⟨(Nat.le_of_ble_eq_true rfl), (Nat.le_of_ble_eq_true rfl)⟩) rfl hl.1 rfl (lv_room (Nat.le_of_ble_eq_true rfl)) dX0_as_119 ⟨(Nat.le_of_ble_eq_true rfl), (Nat.le_of_ble_eq_true rfl)⟩ (oups_set hM.2 (i := 4) rfl) (oad_nd hM.2 (i := 4) rfl rfl) (fun H locs hM => ?_)
            refine p_thrC hC hK hM htab 2 (hpc := 123) (ct := 71) (hAt_of rfl) (by decide) q260 (hM.at 4 rfl) rfl (hK.1.2.1 _ q274 rfl) dX0_as_122 ?_
            refine lv_astore_n (lv' := [(3, _), (4, _), (0, _), (1, _), (2, _)]) hC.1 hC.2.1 dX0_as_123 rfl hl (by decide) rfl (fun ls hl => ?_)
            refine lv_aload_n hC.1 hC.2.1 dX0_as_124 rfl (lv_at hl 2 rfl) ?_
            refine lv_aload_n hC.1 hC.2.1 dX0_as_125 rfl (lv_at hl 0 rfl) ?_
            refine p_cVe (L' := [_, _, _, _, _]) hC hK hM (hM.at 0 rfl) rfl (cn_found l κ _ no cv ad g cw q_6 3 (hM.at 0 rfl) (hM.at 4 rfl)) (cwV 1 hC.2.2.2.2 (lw_V q356 q358 qs2 q63 q359) rfl rfl rfl (by decide +kernel) ⟨(Nat.le_of_ble_eq_true rfl), (Nat.le_of_ble_eq_true rfl)⟩) rfl hl.1 rfl (lv_room (Nat.le_of_ble_eq_true rfl)) dX0_as_126 ⟨(Nat.le_of_ble_eq_true rfl), (Nat.le_of_ble_eq_true rfl)⟩ (oups_set hM.2 (i := 0) rfl) (oad_nd hM.2 (i := 0) rfl rfl) (fun H locs hM => ?_)
            refine W.widen (k := 4) (n := 817) (Nat.le_of_ble_eq_true rfl) (Nat.le_of_ble_eq_true rfl) ?_
            refine p_iret hC hr hlocks hM dX0_as_129 ?_
            refine ⟨rfl, q_6, hq_6, ?_⟩
            rw [oups, oups, oups, oups, oups, oups, ask_end hN hR hls hA hq_6]
        ·
          skip
          exact absurd c4 (by decide)
      ·
        skip
        exact absurd c3 (by decide)
    ·
      skip
      exact absurd (c2 : bI _ = 0) (by decide)

set_option maxHeartbeats 400000 in
set_option maxRecDepth 100000 in
theorem cn_asT_9_3 (l : Launch) (κ : Nat → Nat) (O : gO) (no : Nat) (cv : Nat → Int32) (ad : Nat → Nat) (g : Nat → Nat → Option Nat) (cw : Nat → Nat → Int32) (rx : Nat → Int32) (rd : Nat → Nat) (rw : Nat → Nat → Int32) (mc : Int32) (ea mm : Nat) (lf : Nat → Option Nat) (a j : Nat) (mv : Nat → Int32) (hN : O no = some (nsU cv ad g cw)) (hR : O (ad 4) = some (rdU rx rd rw)) (htl : l.stackTraces = false) (hls : O (rd 8) = some (lsU mc ea (nI mm) (lar lf))) (hj : j < mm) (hmm : mm ≤ 5) (hfq : lf j = some a) (hA : O a = some (cU 9 mv (fun _ => 0) aNo)) : oW l κ yX0_as cX0_as 5 (some .int) [(40, 111, 112, 303), (23, 111, 123, 71), (112, 123, 123, 71)] ({ frames := 7, cells := 4, slots := 817, locals := 10260 }) [.ref no, .int (nI j), .int 3] O (fun rv O1 => rv = some (.int (-1000013)) ∧ ∃ z, O z = none ∧ O1 = oup (oup O z (fnU 3)) no (nsU (upd cv 10 3) ad g cw)) := by
  intro D ac A
  refine o_bodyW (own := RX0) rfl (by decide) (Nat.le_of_ble_eq_true rfl) ?_
  intro p e s m args below meth c ls hC hr hlocks hK hM hl htab
  have hl : lv_has ls 5 [(0, .ref no), (1, .int (nI j)), (2, .int 3)] := hl
  have hM := PS.of hM [(no, nsU cv ad g cw), (ad 4, rdU rx rd rw), (rd 8, lsU mc ea (nI mm) (lar lf)), (a, cU 9 mv (fun _ => 0) aNo)] ⟨hN, hR, hls, hA, trivial⟩ (by simp only [oad, List.map, List.nodup_cons, List.mem_cons, List.mem_singleton, List.not_mem_nil, not_or, or_false, not_false_eq_true, List.nodup_nil, and_true]; exact ⟨⟨o_ne hN hR (by decide), o_ne hN hls (by decide), o_ne hN hA (by decide)⟩, ⟨o_ne hR hls (by decide), o_ne hR hA (by decide)⟩, o_ne hls hA (by decide)⟩)
  refine lv_aload_n hC.1 hC.2.1 dX0_as_0 rfl (lv_at hl 0 rfl) ?_
  refine lv_iload_n hC.1 hC.2.1 dX0_as_1 rfl (lv_at hl 1 rfl) ?_
  refine p_cVe (L' := [_, _, _, _]) hC hK hM (hM.at 0 rfl) rfl (cn_isMover l κ _ no cv ad g cw rx rd rw mc ea mm (lar lf) (nI j) (hM.at 0 rfl) (hM.at 1 rfl) (hM.at 2 rfl)) (cwV 1 hC.2.2.2.2 (lw_V q1109 q1111 qs25 q63 q1112) rfl rfl rfl (by decide +kernel) ⟨(Nat.le_of_ble_eq_true rfl), (Nat.le_of_ble_eq_true rfl)⟩) rfl hl.1 rfl (lv_room (Nat.le_of_ble_eq_true rfl)) dX0_as_2 ⟨(Nat.le_of_ble_eq_true rfl), (Nat.le_of_ble_eq_true rfl)⟩ rfl hM.2 (fun H locs hM => ?_)
  refine lv_if_eq (tgt := 20) hC.1 hC.2.1 dX0_as_5 (by decide) (fun c1 => ?_) (fun c1 => ?_)
  ·
    skip
    exact absurd (c1 : bI _ = 0) (by rw [bI_t ⟨nI_pos' (by omega), by rw [show mm = (mm - 1) + 1 by omega, nI_pred]; exact nI_le (by omega) (by omega)⟩]; decide)
  ·
    skip
    refine lv_iload_n hC.1 hC.2.1 dX0_as_8 rfl (lv_at hl 2 rfl) ?_
    refine lv_i2l hC.1 hC.2.1 dX0_as_9 rfl ?_
    refine lv_lconst (v := 0) hC.1 hC.2.1 dX0_as_10 (by decide) ?_
    refine lv_ldc2 hC.1 hC.2.1 hC.2.2.2.1 (hC.2.2.2.2 _ q1154) dX0_as_11 ?_
    refine s_ci hC ((cc_isIn l (a := 0) (b := 5) rfl rfl rfl)) (va_cwS 3 hC.2.2.2.2 (lw_S q265 q266 q63 q267) rfl rfl rfl (by decide +kernel) ⟨(Nat.le_of_ble_eq_true rfl), (Nat.le_of_ble_eq_true rfl)⟩) rfl hl.1 rfl (lv_room (Nat.le_of_ble_eq_true rfl)) dX0_as_14 ⟨(Nat.le_of_ble_eq_true rfl), (Nat.le_of_ble_eq_true rfl)⟩ ?_
    refine lv_if_ne (tgt := 23) hC.1 hC.2.1 dX0_as_17 (by decide) (fun c2 => ?_) (fun c2 => ?_)
    ·
      skip
      refine lv_aload_n hC.1 hC.2.1 dX0_as_23 rfl (lv_at hl 0 rfl) ?_
      refine p_get hC hK hM 0 rfl in_X0 rfl 4 (by decide) q223 (fun x h => h) rfl dX0_as_24 ?_
      refine p_get hC hK hM 1 rfl in_X1 rfl 8 (by decide) q168 (fun x h => h) rfl dX0_as_27 ?_
      refine lv_iload_n hC.1 hC.2.1 dX0_as_30 rfl (lv_at hl 1 rfl) ?_
      refine p_cFe (L' := [_, _, _, _]) hC hK hM (hM.at 2 rfl) rfl (cj_get l κ _ (rd 8) mc ea mm lf j a (hM.at 2 rfl) hj (by omega) hfq) (va_cwF 1 hC.2.2.2.2 (lw_F q1116 q904 q906 q67 q908) rfl rfl rfl (hK.1.2.2.2 _ (List.mem_of_getElem? (i := 2) (rfl : nFw[2]? = some _))) (by decide +kernel) ⟨(Nat.le_of_ble_eq_true rfl), (Nat.le_of_ble_eq_true rfl)⟩) rfl hl.1 rfl (lv_room (Nat.le_of_ble_eq_true rfl)) dX0_as_31 ⟨(Nat.le_of_ble_eq_true rfl), (Nat.le_of_ble_eq_true rfl)⟩ rfl hM.2 (fun H locs hM => ?_)
      refine v_cn hC hK hM (kd := 1) (hM.at 3 rfl) (by decide) (by decide) dX0_as_36 ?_
      refine lv_astore_n (lv' := [(3, _), (0, _), (1, _), (2, _)]) hC.1 hC.2.1 dX0_as_39 rfl hl (by decide) rfl (fun ls hl => ?_)
      refine lv_iload_n hC.1 hC.2.1 dX0_as_40 rfl (lv_at hl 3 rfl) ?_
      refine lv_if_ne (tgt := 48) hC.1 hC.2.1 dX0_as_41 (by decide) (fun c3 => ?_) (fun c3 => ?_)
      ·
        skip
        refine lv_iload_n hC.1 hC.2.1 dX0_as_48 rfl (lv_at hl 3 rfl) ?_
        refine lv_iconst (v := 1) hC.1 hC.2.1 dX0_as_49 (by decide) ?_
        refine lv_icmp_ne (tgt := 60) hC.1 hC.2.1 dX0_as_50 (by decide) (fun c4 => ?_) (fun c4 => ?_)
        ·
          skip
          refine lv_iload_n hC.1 hC.2.1 dX0_as_60 rfl (lv_at hl 3 rfl) ?_
          refine lv_iconst (v := 2) hC.1 hC.2.1 dX0_as_61 (by decide) ?_
          refine lv_icmp_ne (tgt := 72) hC.1 hC.2.1 dX0_as_62 (by decide) (fun c5 => ?_) (fun c5 => ?_)
          ·
            skip
            refine lv_iload_n hC.1 hC.2.1 dX0_as_72 rfl (lv_at hl 3 rfl) ?_
            refine lv_iconst (v := 3) hC.1 hC.2.1 dX0_as_73 (by decide) ?_
            refine lv_icmp_ne (tgt := 84) hC.1 hC.2.1 dX0_as_74 (by decide) (fun c6 => ?_) (fun c6 => ?_)
            ·
              skip
              exact absurd rfl c6
            ·
              skip
              refine lv_aload_n hC.1 hC.2.1 dX0_as_77 rfl (lv_at hl 0 rfl) ?_
              refine p_castT (x := RX9) (y := RX11) hC hK hM htl hl.1 (hM.at 3 rfl) rfl rfl q775 (List.mem_of_getElem? (i := 1) rfl) (by decide) (by decide) htab 0 (hpc := 112) (ct := 303) (hAt_of rfl) (by decide) q1140 (hK.1.2.1 _ q1152 rfl) (Nat.le_of_ble_eq_true rfl) (Nat.le_of_ble_eq_true rfl) (Nat.le_of_ble_eq_true rfl) (Nat.le_of_ble_eq_true rfl) dX0_as_78 (fun zx H locs hM => ?_)
              refine lv_astore (lv' := [(4, _), (3, _), (0, _), (1, _), (2, _)]) hC.1 hC.2.1 dX0_as_112 hl (by decide) rfl (fun ls hl => ?_)
              refine p_new (L' := fun q => [_, _, _, _, _]) hC hK hM (ci := 4) in_X4 tyX4 tyX4_ok q260 q273 q72 rfl (fs := [.null, .null, .null, .null, .null, .int 0, .int 0]) (by decide) (Nat.le_of_ble_eq_true rfl) (Nat.le_of_ble_eq_true rfl) dX0_as_114 (fun q => rfl) (fun q_7 H hq_7 hM => ?_)
              refine lv_dup hC.1 hC.2.1 dX0_as_117 rfl ?_
              refine lv_iconst (v := 3) hC.1 hC.2.1 dX0_as_118 (by decide) ?_
              refine p_cIv (L' := [_, _, _, _, _]) hC hK hM (cx_fn l κ _ q_7 3 (hM.at 4 rfl)) (cwI 1 hC.2.2.2.2 (lw_meth q314) rfl rfl rfl (hC.2.2.2.2 _ q72) (hC.2.2.2.2 _ q312) (hC.2.2.2.2 _ q313) rfl (by decide +kernel) ⟨(Nat.le_of_ble_eq_true rfl), (Nat.le_of_ble_eq_true rfl)⟩) rfl hl.1 rfl (lv_room (Nat.le_of_ble_eq_true rfl)) dX0_as_119 ⟨(Nat.le_of_ble_eq_true rfl), (Nat.le_of_ble_eq_true rfl)⟩ (oups_set hM.2 (i := 4) rfl) (oad_nd hM.2 (i := 4) rfl rfl) (fun H locs hM => ?_)
              refine p_thrC hC hK hM htab 2 (hpc := 123) (ct := 71) (hAt_of rfl) (by decide) q260 (hM.at 4 rfl) rfl (hK.1.2.1 _ q274 rfl) dX0_as_122 ?_
              refine lv_astore_n (lv' := [(3, _), (4, _), (0, _), (1, _), (2, _)]) hC.1 hC.2.1 dX0_as_123 rfl hl (by decide) rfl (fun ls hl => ?_)
              refine lv_aload_n hC.1 hC.2.1 dX0_as_124 rfl (lv_at hl 2 rfl) ?_
              refine lv_aload_n hC.1 hC.2.1 dX0_as_125 rfl (lv_at hl 0 rfl) ?_
              refine p_cVe (L' := [_, _, _, _, _]) hC hK hM (hM.at 0 rfl) rfl (cn_found l κ _ no cv ad g cw q_7 3 (hM.at 0 rfl) (hM.at 4 rfl)) (cwV 1 hC.2.2.2.2 (lw_V q356 q358 qs2 q63 q359) rfl rfl rfl (by decide +kernel) ⟨(Nat.le_of_ble_eq_true rfl), (Nat.le_of_ble_eq_true rfl)⟩) rfl hl.1 rfl (lv_room (Nat.le_of_ble_eq_true rfl)) dX0_as_126 ⟨(Nat.le_of_ble_eq_true rfl), (Nat.le_of_ble_eq_true rfl)⟩ (oups_set hM.2 (i := 0) rfl) (oad_nd hM.2 (i := 0) rfl rfl) (fun H locs hM => ?_)
              refine W.widen (k := 4) (n := 817) (Nat.le_of_ble_eq_true rfl) (Nat.le_of_ble_eq_true rfl) ?_
              refine p_iret hC hr hlocks hM dX0_as_129 ?_
              refine ⟨rfl, q_7, hq_7, ?_⟩
              rw [oups, oups, oups, oups, oups, oups, ask_end hN hR hls hA hq_7]
          ·
            skip
            exact absurd c5 (by decide)
        ·
          skip
          exact absurd c4 (by decide)
      ·
        skip
        exact absurd c3 (by decide)
    ·
      skip
      exact absurd (c2 : bI _ = 0) (by decide)

set_option maxHeartbeats 400000 in
set_option maxRecDepth 100000 in
theorem cn_asT_9_4 (l : Launch) (κ : Nat → Nat) (O : gO) (no : Nat) (cv : Nat → Int32) (ad : Nat → Nat) (g : Nat → Nat → Option Nat) (cw : Nat → Nat → Int32) (rx : Nat → Int32) (rd : Nat → Nat) (rw : Nat → Nat → Int32) (mc : Int32) (ea mm : Nat) (lf : Nat → Option Nat) (a j : Nat) (mv : Nat → Int32) (hN : O no = some (nsU cv ad g cw)) (hR : O (ad 4) = some (rdU rx rd rw)) (htl : l.stackTraces = false) (hls : O (rd 8) = some (lsU mc ea (nI mm) (lar lf))) (hj : j < mm) (hmm : mm ≤ 5) (hfq : lf j = some a) (hA : O a = some (cU 9 mv (fun _ => 0) aNo)) : oW l κ yX0_as cX0_as 5 (some .int) [(40, 111, 112, 303), (23, 111, 123, 71), (112, 123, 123, 71)] ({ frames := 7, cells := 4, slots := 817, locals := 10260 }) [.ref no, .int (nI j), .int 4] O (fun rv O1 => rv = some (.int (-1000013)) ∧ ∃ z, O z = none ∧ O1 = oup (oup O z (fnU 3)) no (nsU (upd cv 10 3) ad g cw)) := by
  intro D ac A
  refine o_bodyW (own := RX0) rfl (by decide) (Nat.le_of_ble_eq_true rfl) ?_
  intro p e s m args below meth c ls hC hr hlocks hK hM hl htab
  have hl : lv_has ls 5 [(0, .ref no), (1, .int (nI j)), (2, .int 4)] := hl
  have hM := PS.of hM [(no, nsU cv ad g cw), (ad 4, rdU rx rd rw), (rd 8, lsU mc ea (nI mm) (lar lf)), (a, cU 9 mv (fun _ => 0) aNo)] ⟨hN, hR, hls, hA, trivial⟩ (by simp only [oad, List.map, List.nodup_cons, List.mem_cons, List.mem_singleton, List.not_mem_nil, not_or, or_false, not_false_eq_true, List.nodup_nil, and_true]; exact ⟨⟨o_ne hN hR (by decide), o_ne hN hls (by decide), o_ne hN hA (by decide)⟩, ⟨o_ne hR hls (by decide), o_ne hR hA (by decide)⟩, o_ne hls hA (by decide)⟩)
  refine lv_aload_n hC.1 hC.2.1 dX0_as_0 rfl (lv_at hl 0 rfl) ?_
  refine lv_iload_n hC.1 hC.2.1 dX0_as_1 rfl (lv_at hl 1 rfl) ?_
  refine p_cVe (L' := [_, _, _, _]) hC hK hM (hM.at 0 rfl) rfl (cn_isMover l κ _ no cv ad g cw rx rd rw mc ea mm (lar lf) (nI j) (hM.at 0 rfl) (hM.at 1 rfl) (hM.at 2 rfl)) (cwV 1 hC.2.2.2.2 (lw_V q1109 q1111 qs25 q63 q1112) rfl rfl rfl (by decide +kernel) ⟨(Nat.le_of_ble_eq_true rfl), (Nat.le_of_ble_eq_true rfl)⟩) rfl hl.1 rfl (lv_room (Nat.le_of_ble_eq_true rfl)) dX0_as_2 ⟨(Nat.le_of_ble_eq_true rfl), (Nat.le_of_ble_eq_true rfl)⟩ rfl hM.2 (fun H locs hM => ?_)
  refine lv_if_eq (tgt := 20) hC.1 hC.2.1 dX0_as_5 (by decide) (fun c1 => ?_) (fun c1 => ?_)
  ·
    skip
    exact absurd (c1 : bI _ = 0) (by rw [bI_t ⟨nI_pos' (by omega), by rw [show mm = (mm - 1) + 1 by omega, nI_pred]; exact nI_le (by omega) (by omega)⟩]; decide)
  ·
    skip
    refine lv_iload_n hC.1 hC.2.1 dX0_as_8 rfl (lv_at hl 2 rfl) ?_
    refine lv_i2l hC.1 hC.2.1 dX0_as_9 rfl ?_
    refine lv_lconst (v := 0) hC.1 hC.2.1 dX0_as_10 (by decide) ?_
    refine lv_ldc2 hC.1 hC.2.1 hC.2.2.2.1 (hC.2.2.2.2 _ q1154) dX0_as_11 ?_
    refine s_ci hC ((cc_isIn l (a := 0) (b := 5) rfl rfl rfl)) (va_cwS 3 hC.2.2.2.2 (lw_S q265 q266 q63 q267) rfl rfl rfl (by decide +kernel) ⟨(Nat.le_of_ble_eq_true rfl), (Nat.le_of_ble_eq_true rfl)⟩) rfl hl.1 rfl (lv_room (Nat.le_of_ble_eq_true rfl)) dX0_as_14 ⟨(Nat.le_of_ble_eq_true rfl), (Nat.le_of_ble_eq_true rfl)⟩ ?_
    refine lv_if_ne (tgt := 23) hC.1 hC.2.1 dX0_as_17 (by decide) (fun c2 => ?_) (fun c2 => ?_)
    ·
      skip
      refine lv_aload_n hC.1 hC.2.1 dX0_as_23 rfl (lv_at hl 0 rfl) ?_
      refine p_get hC hK hM 0 rfl in_X0 rfl 4 (by decide) q223 (fun x h => h) rfl dX0_as_24 ?_
      refine p_get hC hK hM 1 rfl in_X1 rfl 8 (by decide) q168 (fun x h => h) rfl dX0_as_27 ?_
      refine lv_iload_n hC.1 hC.2.1 dX0_as_30 rfl (lv_at hl 1 rfl) ?_
      refine p_cFe (L' := [_, _, _, _]) hC hK hM (hM.at 2 rfl) rfl (cj_get l κ _ (rd 8) mc ea mm lf j a (hM.at 2 rfl) hj (by omega) hfq) (va_cwF 1 hC.2.2.2.2 (lw_F q1116 q904 q906 q67 q908) rfl rfl rfl (hK.1.2.2.2 _ (List.mem_of_getElem? (i := 2) (rfl : nFw[2]? = some _))) (by decide +kernel) ⟨(Nat.le_of_ble_eq_true rfl), (Nat.le_of_ble_eq_true rfl)⟩) rfl hl.1 rfl (lv_room (Nat.le_of_ble_eq_true rfl)) dX0_as_31 ⟨(Nat.le_of_ble_eq_true rfl), (Nat.le_of_ble_eq_true rfl)⟩ rfl hM.2 (fun H locs hM => ?_)
      refine v_cn hC hK hM (kd := 1) (hM.at 3 rfl) (by decide) (by decide) dX0_as_36 ?_
      refine lv_astore_n (lv' := [(3, _), (0, _), (1, _), (2, _)]) hC.1 hC.2.1 dX0_as_39 rfl hl (by decide) rfl (fun ls hl => ?_)
      refine lv_iload_n hC.1 hC.2.1 dX0_as_40 rfl (lv_at hl 3 rfl) ?_
      refine lv_if_ne (tgt := 48) hC.1 hC.2.1 dX0_as_41 (by decide) (fun c3 => ?_) (fun c3 => ?_)
      ·
        skip
        refine lv_iload_n hC.1 hC.2.1 dX0_as_48 rfl (lv_at hl 3 rfl) ?_
        refine lv_iconst (v := 1) hC.1 hC.2.1 dX0_as_49 (by decide) ?_
        refine lv_icmp_ne (tgt := 60) hC.1 hC.2.1 dX0_as_50 (by decide) (fun c4 => ?_) (fun c4 => ?_)
        ·
          skip
          refine lv_iload_n hC.1 hC.2.1 dX0_as_60 rfl (lv_at hl 3 rfl) ?_
          refine lv_iconst (v := 2) hC.1 hC.2.1 dX0_as_61 (by decide) ?_
          refine lv_icmp_ne (tgt := 72) hC.1 hC.2.1 dX0_as_62 (by decide) (fun c5 => ?_) (fun c5 => ?_)
          ·
            skip
            refine lv_iload_n hC.1 hC.2.1 dX0_as_72 rfl (lv_at hl 3 rfl) ?_
            refine lv_iconst (v := 3) hC.1 hC.2.1 dX0_as_73 (by decide) ?_
            refine lv_icmp_ne (tgt := 84) hC.1 hC.2.1 dX0_as_74 (by decide) (fun c6 => ?_) (fun c6 => ?_)
            ·
              skip
              refine lv_iload_n hC.1 hC.2.1 dX0_as_84 rfl (lv_at hl 3 rfl) ?_
              refine lv_iconst (v := 4) hC.1 hC.2.1 dX0_as_85 (by decide) ?_
              refine lv_icmp_ne (tgt := 96) hC.1 hC.2.1 dX0_as_86 (by decide) (fun c7 => ?_) (fun c7 => ?_)
              ·
                skip
                exact absurd rfl c7
              ·
                skip
                refine lv_aload_n hC.1 hC.2.1 dX0_as_89 rfl (lv_at hl 0 rfl) ?_
                refine p_castT (x := RX9) (y := RX12) hC hK hM htl hl.1 (hM.at 3 rfl) rfl rfl q786 (List.mem_of_getElem? (i := 2) rfl) (by decide) (by decide) htab 0 (hpc := 112) (ct := 303) (hAt_of rfl) (by decide) q1140 (hK.1.2.1 _ q1152 rfl) (Nat.le_of_ble_eq_true rfl) (Nat.le_of_ble_eq_true rfl) (Nat.le_of_ble_eq_true rfl) (Nat.le_of_ble_eq_true rfl) dX0_as_90 (fun zx H locs hM => ?_)
                refine lv_astore (lv' := [(4, _), (3, _), (0, _), (1, _), (2, _)]) hC.1 hC.2.1 dX0_as_112 hl (by decide) rfl (fun ls hl => ?_)
                refine p_new (L' := fun q => [_, _, _, _, _]) hC hK hM (ci := 4) in_X4 tyX4 tyX4_ok q260 q273 q72 rfl (fs := [.null, .null, .null, .null, .null, .int 0, .int 0]) (by decide) (Nat.le_of_ble_eq_true rfl) (Nat.le_of_ble_eq_true rfl) dX0_as_114 (fun q => rfl) (fun q_8 H hq_8 hM => ?_)
                refine lv_dup hC.1 hC.2.1 dX0_as_117 rfl ?_
                refine lv_iconst (v := 3) hC.1 hC.2.1 dX0_as_118 (by decide) ?_
                refine p_cIv (L' := [_, _, _, _, _]) hC hK hM (cx_fn l κ _ q_8 3 (hM.at 4 rfl)) (cwI 1 hC.2.2.2.2 (lw_meth q314) rfl rfl rfl (hC.2.2.2.2 _ q72) (hC.2.2.2.2 _ q312) (hC.2.2.2.2 _ q313) rfl (by decide +kernel) ⟨(Nat.le_of_ble_eq_true rfl), (Nat.le_of_ble_eq_true rfl)⟩) rfl hl.1 rfl (lv_room (Nat.le_of_ble_eq_true rfl)) dX0_as_119 ⟨(Nat.le_of_ble_eq_true rfl), (Nat.le_of_ble_eq_true rfl)⟩ (oups_set hM.2 (i := 4) rfl) (oad_nd hM.2 (i := 4) rfl rfl) (fun H locs hM => ?_)
                refine p_thrC hC hK hM htab 2 (hpc := 123) (ct := 71) (hAt_of rfl) (by decide) q260 (hM.at 4 rfl) rfl (hK.1.2.1 _ q274 rfl) dX0_as_122 ?_
                refine lv_astore_n (lv' := [(3, _), (4, _), (0, _), (1, _), (2, _)]) hC.1 hC.2.1 dX0_as_123 rfl hl (by decide) rfl (fun ls hl => ?_)
                refine lv_aload_n hC.1 hC.2.1 dX0_as_124 rfl (lv_at hl 2 rfl) ?_
                refine lv_aload_n hC.1 hC.2.1 dX0_as_125 rfl (lv_at hl 0 rfl) ?_
                refine p_cVe (L' := [_, _, _, _, _]) hC hK hM (hM.at 0 rfl) rfl (cn_found l κ _ no cv ad g cw q_8 3 (hM.at 0 rfl) (hM.at 4 rfl)) (cwV 1 hC.2.2.2.2 (lw_V q356 q358 qs2 q63 q359) rfl rfl rfl (by decide +kernel) ⟨(Nat.le_of_ble_eq_true rfl), (Nat.le_of_ble_eq_true rfl)⟩) rfl hl.1 rfl (lv_room (Nat.le_of_ble_eq_true rfl)) dX0_as_126 ⟨(Nat.le_of_ble_eq_true rfl), (Nat.le_of_ble_eq_true rfl)⟩ (oups_set hM.2 (i := 0) rfl) (oad_nd hM.2 (i := 0) rfl rfl) (fun H locs hM => ?_)
                refine W.widen (k := 4) (n := 817) (Nat.le_of_ble_eq_true rfl) (Nat.le_of_ble_eq_true rfl) ?_
                refine p_iret hC hr hlocks hM dX0_as_129 ?_
                refine ⟨rfl, q_8, hq_8, ?_⟩
                rw [oups, oups, oups, oups, oups, oups, ask_end hN hR hls hA hq_8]
            ·
              skip
              exact absurd c6 (by decide)
          ·
            skip
            exact absurd c5 (by decide)
        ·
          skip
          exact absurd c4 (by decide)
      ·
        skip
        exact absurd c3 (by decide)
    ·
      skip
      exact absurd (c2 : bI _ = 0) (by decide)

set_option maxHeartbeats 400000 in
set_option maxRecDepth 100000 in
theorem cn_asT_9_5 (l : Launch) (κ : Nat → Nat) (O : gO) (no : Nat) (cv : Nat → Int32) (ad : Nat → Nat) (g : Nat → Nat → Option Nat) (cw : Nat → Nat → Int32) (rx : Nat → Int32) (rd : Nat → Nat) (rw : Nat → Nat → Int32) (mc : Int32) (ea mm : Nat) (lf : Nat → Option Nat) (a j : Nat) (mv : Nat → Int32) (hN : O no = some (nsU cv ad g cw)) (hR : O (ad 4) = some (rdU rx rd rw)) (htl : l.stackTraces = false) (hls : O (rd 8) = some (lsU mc ea (nI mm) (lar lf))) (hj : j < mm) (hmm : mm ≤ 5) (hfq : lf j = some a) (hA : O a = some (cU 9 mv (fun _ => 0) aNo)) : oW l κ yX0_as cX0_as 5 (some .int) [(40, 111, 112, 303), (23, 111, 123, 71), (112, 123, 123, 71)] ({ frames := 7, cells := 4, slots := 817, locals := 10260 }) [.ref no, .int (nI j), .int 5] O (fun rv O1 => rv = some (.int (-1000013)) ∧ ∃ z, O z = none ∧ O1 = oup (oup O z (fnU 3)) no (nsU (upd cv 10 3) ad g cw)) := by
  intro D ac A
  refine o_bodyW (own := RX0) rfl (by decide) (Nat.le_of_ble_eq_true rfl) ?_
  intro p e s m args below meth c ls hC hr hlocks hK hM hl htab
  have hl : lv_has ls 5 [(0, .ref no), (1, .int (nI j)), (2, .int 5)] := hl
  have hM := PS.of hM [(no, nsU cv ad g cw), (ad 4, rdU rx rd rw), (rd 8, lsU mc ea (nI mm) (lar lf)), (a, cU 9 mv (fun _ => 0) aNo)] ⟨hN, hR, hls, hA, trivial⟩ (by simp only [oad, List.map, List.nodup_cons, List.mem_cons, List.mem_singleton, List.not_mem_nil, not_or, or_false, not_false_eq_true, List.nodup_nil, and_true]; exact ⟨⟨o_ne hN hR (by decide), o_ne hN hls (by decide), o_ne hN hA (by decide)⟩, ⟨o_ne hR hls (by decide), o_ne hR hA (by decide)⟩, o_ne hls hA (by decide)⟩)
  refine lv_aload_n hC.1 hC.2.1 dX0_as_0 rfl (lv_at hl 0 rfl) ?_
  refine lv_iload_n hC.1 hC.2.1 dX0_as_1 rfl (lv_at hl 1 rfl) ?_
  refine p_cVe (L' := [_, _, _, _]) hC hK hM (hM.at 0 rfl) rfl (cn_isMover l κ _ no cv ad g cw rx rd rw mc ea mm (lar lf) (nI j) (hM.at 0 rfl) (hM.at 1 rfl) (hM.at 2 rfl)) (cwV 1 hC.2.2.2.2 (lw_V q1109 q1111 qs25 q63 q1112) rfl rfl rfl (by decide +kernel) ⟨(Nat.le_of_ble_eq_true rfl), (Nat.le_of_ble_eq_true rfl)⟩) rfl hl.1 rfl (lv_room (Nat.le_of_ble_eq_true rfl)) dX0_as_2 ⟨(Nat.le_of_ble_eq_true rfl), (Nat.le_of_ble_eq_true rfl)⟩ rfl hM.2 (fun H locs hM => ?_)
  refine lv_if_eq (tgt := 20) hC.1 hC.2.1 dX0_as_5 (by decide) (fun c1 => ?_) (fun c1 => ?_)
  ·
    skip
    exact absurd (c1 : bI _ = 0) (by rw [bI_t ⟨nI_pos' (by omega), by rw [show mm = (mm - 1) + 1 by omega, nI_pred]; exact nI_le (by omega) (by omega)⟩]; decide)
  ·
    skip
    refine lv_iload_n hC.1 hC.2.1 dX0_as_8 rfl (lv_at hl 2 rfl) ?_
    refine lv_i2l hC.1 hC.2.1 dX0_as_9 rfl ?_
    refine lv_lconst (v := 0) hC.1 hC.2.1 dX0_as_10 (by decide) ?_
    refine lv_ldc2 hC.1 hC.2.1 hC.2.2.2.1 (hC.2.2.2.2 _ q1154) dX0_as_11 ?_
    refine s_ci hC ((cc_isIn l (a := 0) (b := 5) rfl rfl rfl)) (va_cwS 3 hC.2.2.2.2 (lw_S q265 q266 q63 q267) rfl rfl rfl (by decide +kernel) ⟨(Nat.le_of_ble_eq_true rfl), (Nat.le_of_ble_eq_true rfl)⟩) rfl hl.1 rfl (lv_room (Nat.le_of_ble_eq_true rfl)) dX0_as_14 ⟨(Nat.le_of_ble_eq_true rfl), (Nat.le_of_ble_eq_true rfl)⟩ ?_
    refine lv_if_ne (tgt := 23) hC.1 hC.2.1 dX0_as_17 (by decide) (fun c2 => ?_) (fun c2 => ?_)
    ·
      skip
      refine lv_aload_n hC.1 hC.2.1 dX0_as_23 rfl (lv_at hl 0 rfl) ?_
      refine p_get hC hK hM 0 rfl in_X0 rfl 4 (by decide) q223 (fun x h => h) rfl dX0_as_24 ?_
      refine p_get hC hK hM 1 rfl in_X1 rfl 8 (by decide) q168 (fun x h => h) rfl dX0_as_27 ?_
      refine lv_iload_n hC.1 hC.2.1 dX0_as_30 rfl (lv_at hl 1 rfl) ?_
      refine p_cFe (L' := [_, _, _, _]) hC hK hM (hM.at 2 rfl) rfl (cj_get l κ _ (rd 8) mc ea mm lf j a (hM.at 2 rfl) hj (by omega) hfq) (va_cwF 1 hC.2.2.2.2 (lw_F q1116 q904 q906 q67 q908) rfl rfl rfl (hK.1.2.2.2 _ (List.mem_of_getElem? (i := 2) (rfl : nFw[2]? = some _))) (by decide +kernel) ⟨(Nat.le_of_ble_eq_true rfl), (Nat.le_of_ble_eq_true rfl)⟩) rfl hl.1 rfl (lv_room (Nat.le_of_ble_eq_true rfl)) dX0_as_31 ⟨(Nat.le_of_ble_eq_true rfl), (Nat.le_of_ble_eq_true rfl)⟩ rfl hM.2 (fun H locs hM => ?_)
      refine v_cn hC hK hM (kd := 1) (hM.at 3 rfl) (by decide) (by decide) dX0_as_36 ?_
      refine lv_astore_n (lv' := [(3, _), (0, _), (1, _), (2, _)]) hC.1 hC.2.1 dX0_as_39 rfl hl (by decide) rfl (fun ls hl => ?_)
      refine lv_iload_n hC.1 hC.2.1 dX0_as_40 rfl (lv_at hl 3 rfl) ?_
      refine lv_if_ne (tgt := 48) hC.1 hC.2.1 dX0_as_41 (by decide) (fun c3 => ?_) (fun c3 => ?_)
      ·
        skip
        refine lv_iload_n hC.1 hC.2.1 dX0_as_48 rfl (lv_at hl 3 rfl) ?_
        refine lv_iconst (v := 1) hC.1 hC.2.1 dX0_as_49 (by decide) ?_
        refine lv_icmp_ne (tgt := 60) hC.1 hC.2.1 dX0_as_50 (by decide) (fun c4 => ?_) (fun c4 => ?_)
        ·
          skip
          refine lv_iload_n hC.1 hC.2.1 dX0_as_60 rfl (lv_at hl 3 rfl) ?_
          refine lv_iconst (v := 2) hC.1 hC.2.1 dX0_as_61 (by decide) ?_
          refine lv_icmp_ne (tgt := 72) hC.1 hC.2.1 dX0_as_62 (by decide) (fun c5 => ?_) (fun c5 => ?_)
          ·
            skip
            refine lv_iload_n hC.1 hC.2.1 dX0_as_72 rfl (lv_at hl 3 rfl) ?_
            refine lv_iconst (v := 3) hC.1 hC.2.1 dX0_as_73 (by decide) ?_
            refine lv_icmp_ne (tgt := 84) hC.1 hC.2.1 dX0_as_74 (by decide) (fun c6 => ?_) (fun c6 => ?_)
            ·
              skip
              refine lv_iload_n hC.1 hC.2.1 dX0_as_84 rfl (lv_at hl 3 rfl) ?_
              refine lv_iconst (v := 4) hC.1 hC.2.1 dX0_as_85 (by decide) ?_
              refine lv_icmp_ne (tgt := 96) hC.1 hC.2.1 dX0_as_86 (by decide) (fun c7 => ?_) (fun c7 => ?_)
              ·
                skip
                refine lv_aload_n hC.1 hC.2.1 dX0_as_96 rfl (lv_at hl 0 rfl) ?_
                refine p_castT (x := RX9) (y := RX13) hC hK hM htl hl.1 (hM.at 3 rfl) rfl rfl q797 (List.mem_of_getElem? (i := 3) rfl) (by decide) (by decide) htab 0 (hpc := 112) (ct := 303) (hAt_of rfl) (by decide) q1140 (hK.1.2.1 _ q1152 rfl) (Nat.le_of_ble_eq_true rfl) (Nat.le_of_ble_eq_true rfl) (Nat.le_of_ble_eq_true rfl) (Nat.le_of_ble_eq_true rfl) dX0_as_97 (fun zx H locs hM => ?_)
                refine lv_astore (lv' := [(4, _), (3, _), (0, _), (1, _), (2, _)]) hC.1 hC.2.1 dX0_as_112 hl (by decide) rfl (fun ls hl => ?_)
                refine p_new (L' := fun q => [_, _, _, _, _]) hC hK hM (ci := 4) in_X4 tyX4 tyX4_ok q260 q273 q72 rfl (fs := [.null, .null, .null, .null, .null, .int 0, .int 0]) (by decide) (Nat.le_of_ble_eq_true rfl) (Nat.le_of_ble_eq_true rfl) dX0_as_114 (fun q => rfl) (fun q_8 H hq_8 hM => ?_)
                refine lv_dup hC.1 hC.2.1 dX0_as_117 rfl ?_
                refine lv_iconst (v := 3) hC.1 hC.2.1 dX0_as_118 (by decide) ?_
                refine p_cIv (L' := [_, _, _, _, _]) hC hK hM (cx_fn l κ _ q_8 3 (hM.at 4 rfl)) (cwI 1 hC.2.2.2.2 (lw_meth q314) rfl rfl rfl (hC.2.2.2.2 _ q72) (hC.2.2.2.2 _ q312) (hC.2.2.2.2 _ q313) rfl (by decide +kernel) ⟨(Nat.le_of_ble_eq_true rfl), (Nat.le_of_ble_eq_true rfl)⟩) rfl hl.1 rfl (lv_room (Nat.le_of_ble_eq_true rfl)) dX0_as_119 ⟨(Nat.le_of_ble_eq_true rfl), (Nat.le_of_ble_eq_true rfl)⟩ (oups_set hM.2 (i := 4) rfl) (oad_nd hM.2 (i := 4) rfl rfl) (fun H locs hM => ?_)
                refine p_thrC hC hK hM htab 2 (hpc := 123) (ct := 71) (hAt_of rfl) (by decide) q260 (hM.at 4 rfl) rfl (hK.1.2.1 _ q274 rfl) dX0_as_122 ?_
                refine lv_astore_n (lv' := [(3, _), (4, _), (0, _), (1, _), (2, _)]) hC.1 hC.2.1 dX0_as_123 rfl hl (by decide) rfl (fun ls hl => ?_)
                refine lv_aload_n hC.1 hC.2.1 dX0_as_124 rfl (lv_at hl 2 rfl) ?_
                refine lv_aload_n hC.1 hC.2.1 dX0_as_125 rfl (lv_at hl 0 rfl) ?_
                refine p_cVe (L' := [_, _, _, _, _]) hC hK hM (hM.at 0 rfl) rfl (cn_found l κ _ no cv ad g cw q_8 3 (hM.at 0 rfl) (hM.at 4 rfl)) (cwV 1 hC.2.2.2.2 (lw_V q356 q358 qs2 q63 q359) rfl rfl rfl (by decide +kernel) ⟨(Nat.le_of_ble_eq_true rfl), (Nat.le_of_ble_eq_true rfl)⟩) rfl hl.1 rfl (lv_room (Nat.le_of_ble_eq_true rfl)) dX0_as_126 ⟨(Nat.le_of_ble_eq_true rfl), (Nat.le_of_ble_eq_true rfl)⟩ (oups_set hM.2 (i := 0) rfl) (oad_nd hM.2 (i := 0) rfl rfl) (fun H locs hM => ?_)
                refine W.widen (k := 4) (n := 817) (Nat.le_of_ble_eq_true rfl) (Nat.le_of_ble_eq_true rfl) ?_
                refine p_iret hC hr hlocks hM dX0_as_129 ?_
                refine ⟨rfl, q_8, hq_8, ?_⟩
                rw [oups, oups, oups, oups, oups, oups, ask_end hN hR hls hA hq_8]
              ·
                skip
                exact absurd c7 (by decide)
            ·
              skip
              exact absurd c6 (by decide)
          ·
            skip
            exact absurd c5 (by decide)
        ·
          skip
          exact absurd c4 (by decide)
      ·
        skip
        exact absurd c3 (by decide)
    ·
      skip
      exact absurd (c2 : bI _ = 0) (by decide)

set_option maxHeartbeats 400000 in
set_option maxRecDepth 100000 in
theorem cn_asT_10_3 (l : Launch) (κ : Nat → Nat) (O : gO) (no : Nat) (cv : Nat → Int32) (ad : Nat → Nat) (g : Nat → Nat → Option Nat) (cw : Nat → Nat → Int32) (rx : Nat → Int32) (rd : Nat → Nat) (rw : Nat → Nat → Int32) (mc : Int32) (ea mm : Nat) (lf : Nat → Option Nat) (a j : Nat) (mv : Nat → Int32) (hN : O no = some (nsU cv ad g cw)) (hR : O (ad 4) = some (rdU rx rd rw)) (htl : l.stackTraces = false) (hls : O (rd 8) = some (lsU mc ea (nI mm) (lar lf))) (hj : j < mm) (hmm : mm ≤ 5) (hfq : lf j = some a) (hA : O a = some (cU 10 mv (fun _ => 0) aNo)) : oW l κ yX0_as cX0_as 5 (some .int) [(40, 111, 112, 303), (23, 111, 123, 71), (112, 123, 123, 71)] ({ frames := 7, cells := 4, slots := 817, locals := 10260 }) [.ref no, .int (nI j), .int 3] O (fun rv O1 => rv = some (.int (-1000013)) ∧ ∃ z, O z = none ∧ O1 = oup (oup O z (fnU 3)) no (nsU (upd cv 10 3) ad g cw)) := by
  intro D ac A
  refine o_bodyW (own := RX0) rfl (by decide) (Nat.le_of_ble_eq_true rfl) ?_
  intro p e s m args below meth c ls hC hr hlocks hK hM hl htab
  have hl : lv_has ls 5 [(0, .ref no), (1, .int (nI j)), (2, .int 3)] := hl
  have hM := PS.of hM [(no, nsU cv ad g cw), (ad 4, rdU rx rd rw), (rd 8, lsU mc ea (nI mm) (lar lf)), (a, cU 10 mv (fun _ => 0) aNo)] ⟨hN, hR, hls, hA, trivial⟩ (by simp only [oad, List.map, List.nodup_cons, List.mem_cons, List.mem_singleton, List.not_mem_nil, not_or, or_false, not_false_eq_true, List.nodup_nil, and_true]; exact ⟨⟨o_ne hN hR (by decide), o_ne hN hls (by decide), o_ne hN hA (by decide)⟩, ⟨o_ne hR hls (by decide), o_ne hR hA (by decide)⟩, o_ne hls hA (by decide)⟩)
  refine lv_aload_n hC.1 hC.2.1 dX0_as_0 rfl (lv_at hl 0 rfl) ?_
  refine lv_iload_n hC.1 hC.2.1 dX0_as_1 rfl (lv_at hl 1 rfl) ?_
  refine p_cVe (L' := [_, _, _, _]) hC hK hM (hM.at 0 rfl) rfl (cn_isMover l κ _ no cv ad g cw rx rd rw mc ea mm (lar lf) (nI j) (hM.at 0 rfl) (hM.at 1 rfl) (hM.at 2 rfl)) (cwV 1 hC.2.2.2.2 (lw_V q1109 q1111 qs25 q63 q1112) rfl rfl rfl (by decide +kernel) ⟨(Nat.le_of_ble_eq_true rfl), (Nat.le_of_ble_eq_true rfl)⟩) rfl hl.1 rfl (lv_room (Nat.le_of_ble_eq_true rfl)) dX0_as_2 ⟨(Nat.le_of_ble_eq_true rfl), (Nat.le_of_ble_eq_true rfl)⟩ rfl hM.2 (fun H locs hM => ?_)
  refine lv_if_eq (tgt := 20) hC.1 hC.2.1 dX0_as_5 (by decide) (fun c1 => ?_) (fun c1 => ?_)
  ·
    skip
    exact absurd (c1 : bI _ = 0) (by rw [bI_t ⟨nI_pos' (by omega), by rw [show mm = (mm - 1) + 1 by omega, nI_pred]; exact nI_le (by omega) (by omega)⟩]; decide)
  ·
    skip
    refine lv_iload_n hC.1 hC.2.1 dX0_as_8 rfl (lv_at hl 2 rfl) ?_
    refine lv_i2l hC.1 hC.2.1 dX0_as_9 rfl ?_
    refine lv_lconst (v := 0) hC.1 hC.2.1 dX0_as_10 (by decide) ?_
    refine lv_ldc2 hC.1 hC.2.1 hC.2.2.2.1 (hC.2.2.2.2 _ q1154) dX0_as_11 ?_
    refine s_ci hC ((cc_isIn l (a := 0) (b := 5) rfl rfl rfl)) (va_cwS 3 hC.2.2.2.2 (lw_S q265 q266 q63 q267) rfl rfl rfl (by decide +kernel) ⟨(Nat.le_of_ble_eq_true rfl), (Nat.le_of_ble_eq_true rfl)⟩) rfl hl.1 rfl (lv_room (Nat.le_of_ble_eq_true rfl)) dX0_as_14 ⟨(Nat.le_of_ble_eq_true rfl), (Nat.le_of_ble_eq_true rfl)⟩ ?_
    refine lv_if_ne (tgt := 23) hC.1 hC.2.1 dX0_as_17 (by decide) (fun c2 => ?_) (fun c2 => ?_)
    ·
      skip
      refine lv_aload_n hC.1 hC.2.1 dX0_as_23 rfl (lv_at hl 0 rfl) ?_
      refine p_get hC hK hM 0 rfl in_X0 rfl 4 (by decide) q223 (fun x h => h) rfl dX0_as_24 ?_
      refine p_get hC hK hM 1 rfl in_X1 rfl 8 (by decide) q168 (fun x h => h) rfl dX0_as_27 ?_
      refine lv_iload_n hC.1 hC.2.1 dX0_as_30 rfl (lv_at hl 1 rfl) ?_
      refine p_cFe (L' := [_, _, _, _]) hC hK hM (hM.at 2 rfl) rfl (cj_get l κ _ (rd 8) mc ea mm lf j a (hM.at 2 rfl) hj (by omega) hfq) (va_cwF 1 hC.2.2.2.2 (lw_F q1116 q904 q906 q67 q908) rfl rfl rfl (hK.1.2.2.2 _ (List.mem_of_getElem? (i := 2) (rfl : nFw[2]? = some _))) (by decide +kernel) ⟨(Nat.le_of_ble_eq_true rfl), (Nat.le_of_ble_eq_true rfl)⟩) rfl hl.1 rfl (lv_room (Nat.le_of_ble_eq_true rfl)) dX0_as_31 ⟨(Nat.le_of_ble_eq_true rfl), (Nat.le_of_ble_eq_true rfl)⟩ rfl hM.2 (fun H locs hM => ?_)
      refine v_cn hC hK hM (kd := 2) (hM.at 3 rfl) (by decide) (by decide) dX0_as_36 ?_
      refine lv_astore_n (lv' := [(3, _), (0, _), (1, _), (2, _)]) hC.1 hC.2.1 dX0_as_39 rfl hl (by decide) rfl (fun ls hl => ?_)
      refine lv_iload_n hC.1 hC.2.1 dX0_as_40 rfl (lv_at hl 3 rfl) ?_
      refine lv_if_ne (tgt := 48) hC.1 hC.2.1 dX0_as_41 (by decide) (fun c3 => ?_) (fun c3 => ?_)
      ·
        skip
        refine lv_iload_n hC.1 hC.2.1 dX0_as_48 rfl (lv_at hl 3 rfl) ?_
        refine lv_iconst (v := 1) hC.1 hC.2.1 dX0_as_49 (by decide) ?_
        refine lv_icmp_ne (tgt := 60) hC.1 hC.2.1 dX0_as_50 (by decide) (fun c4 => ?_) (fun c4 => ?_)
        ·
          skip
          refine lv_iload_n hC.1 hC.2.1 dX0_as_60 rfl (lv_at hl 3 rfl) ?_
          refine lv_iconst (v := 2) hC.1 hC.2.1 dX0_as_61 (by decide) ?_
          refine lv_icmp_ne (tgt := 72) hC.1 hC.2.1 dX0_as_62 (by decide) (fun c5 => ?_) (fun c5 => ?_)
          ·
            skip
            refine lv_iload_n hC.1 hC.2.1 dX0_as_72 rfl (lv_at hl 3 rfl) ?_
            refine lv_iconst (v := 3) hC.1 hC.2.1 dX0_as_73 (by decide) ?_
            refine lv_icmp_ne (tgt := 84) hC.1 hC.2.1 dX0_as_74 (by decide) (fun c6 => ?_) (fun c6 => ?_)
            ·
              skip
              exact absurd rfl c6
            ·
              skip
              refine lv_aload_n hC.1 hC.2.1 dX0_as_77 rfl (lv_at hl 0 rfl) ?_
              refine p_castT (x := RX10) (y := RX11) hC hK hM htl hl.1 (hM.at 3 rfl) rfl rfl q775 (List.mem_of_getElem? (i := 4) rfl) (by decide) (by decide) htab 0 (hpc := 112) (ct := 303) (hAt_of rfl) (by decide) q1140 (hK.1.2.1 _ q1152 rfl) (Nat.le_of_ble_eq_true rfl) (Nat.le_of_ble_eq_true rfl) (Nat.le_of_ble_eq_true rfl) (Nat.le_of_ble_eq_true rfl) dX0_as_78 (fun zx H locs hM => ?_)
              refine lv_astore (lv' := [(4, _), (3, _), (0, _), (1, _), (2, _)]) hC.1 hC.2.1 dX0_as_112 hl (by decide) rfl (fun ls hl => ?_)
              refine p_new (L' := fun q => [_, _, _, _, _]) hC hK hM (ci := 4) in_X4 tyX4 tyX4_ok q260 q273 q72 rfl (fs := [.null, .null, .null, .null, .null, .int 0, .int 0]) (by decide) (Nat.le_of_ble_eq_true rfl) (Nat.le_of_ble_eq_true rfl) dX0_as_114 (fun q => rfl) (fun q_7 H hq_7 hM => ?_)
              refine lv_dup hC.1 hC.2.1 dX0_as_117 rfl ?_
              refine lv_iconst (v := 3) hC.1 hC.2.1 dX0_as_118 (by decide) ?_
              refine p_cIv (L' := [_, _, _, _, _]) hC hK hM (cx_fn l κ _ q_7 3 (hM.at 4 rfl)) (cwI 1 hC.2.2.2.2 (lw_meth q314) rfl rfl rfl (hC.2.2.2.2 _ q72) (hC.2.2.2.2 _ q312) (hC.2.2.2.2 _ q313) rfl (by decide +kernel) ⟨(Nat.le_of_ble_eq_true rfl), (Nat.le_of_ble_eq_true rfl)⟩) rfl hl.1 rfl (lv_room (Nat.le_of_ble_eq_true rfl)) dX0_as_119 ⟨(Nat.le_of_ble_eq_true rfl), (Nat.le_of_ble_eq_true rfl)⟩ (oups_set hM.2 (i := 4) rfl) (oad_nd hM.2 (i := 4) rfl rfl) (fun H locs hM => ?_)
              refine p_thrC hC hK hM htab 2 (hpc := 123) (ct := 71) (hAt_of rfl) (by decide) q260 (hM.at 4 rfl) rfl (hK.1.2.1 _ q274 rfl) dX0_as_122 ?_
              refine lv_astore_n (lv' := [(3, _), (4, _), (0, _), (1, _), (2, _)]) hC.1 hC.2.1 dX0_as_123 rfl hl (by decide) rfl (fun ls hl => ?_)
              refine lv_aload_n hC.1 hC.2.1 dX0_as_124 rfl (lv_at hl 2 rfl) ?_
              refine lv_aload_n hC.1 hC.2.1 dX0_as_125 rfl (lv_at hl 0 rfl) ?_
              refine p_cVe (L' := [_, _, _, _, _]) hC hK hM (hM.at 0 rfl) rfl (cn_found l κ _ no cv ad g cw q_7 3 (hM.at 0 rfl) (hM.at 4 rfl)) (cwV 1 hC.2.2.2.2 (lw_V q356 q358 qs2 q63 q359) rfl rfl rfl (by decide +kernel) ⟨(Nat.le_of_ble_eq_true rfl), (Nat.le_of_ble_eq_true rfl)⟩) rfl hl.1 rfl (lv_room (Nat.le_of_ble_eq_true rfl)) dX0_as_126 ⟨(Nat.le_of_ble_eq_true rfl), (Nat.le_of_ble_eq_true rfl)⟩ (oups_set hM.2 (i := 0) rfl) (oad_nd hM.2 (i := 0) rfl rfl) (fun H locs hM => ?_)
              refine W.widen (k := 4) (n := 817) (Nat.le_of_ble_eq_true rfl) (Nat.le_of_ble_eq_true rfl) ?_
              refine p_iret hC hr hlocks hM dX0_as_129 ?_
              refine ⟨rfl, q_7, hq_7, ?_⟩
              rw [oups, oups, oups, oups, oups, oups, ask_end hN hR hls hA hq_7]
          ·
            skip
            exact absurd c5 (by decide)
        ·
          skip
          exact absurd c4 (by decide)
      ·
        skip
        exact absurd c3 (by decide)
    ·
      skip
      exact absurd (c2 : bI _ = 0) (by decide)

set_option maxHeartbeats 400000 in
set_option maxRecDepth 100000 in
theorem cn_asT_10_4 (l : Launch) (κ : Nat → Nat) (O : gO) (no : Nat) (cv : Nat → Int32) (ad : Nat → Nat) (g : Nat → Nat → Option Nat) (cw : Nat → Nat → Int32) (rx : Nat → Int32) (rd : Nat → Nat) (rw : Nat → Nat → Int32) (mc : Int32) (ea mm : Nat) (lf : Nat → Option Nat) (a j : Nat) (mv : Nat → Int32) (hN : O no = some (nsU cv ad g cw)) (hR : O (ad 4) = some (rdU rx rd rw)) (htl : l.stackTraces = false) (hls : O (rd 8) = some (lsU mc ea (nI mm) (lar lf))) (hj : j < mm) (hmm : mm ≤ 5) (hfq : lf j = some a) (hA : O a = some (cU 10 mv (fun _ => 0) aNo)) : oW l κ yX0_as cX0_as 5 (some .int) [(40, 111, 112, 303), (23, 111, 123, 71), (112, 123, 123, 71)] ({ frames := 7, cells := 4, slots := 817, locals := 10260 }) [.ref no, .int (nI j), .int 4] O (fun rv O1 => rv = some (.int (-1000013)) ∧ ∃ z, O z = none ∧ O1 = oup (oup O z (fnU 3)) no (nsU (upd cv 10 3) ad g cw)) := by
  intro D ac A
  refine o_bodyW (own := RX0) rfl (by decide) (Nat.le_of_ble_eq_true rfl) ?_
  intro p e s m args below meth c ls hC hr hlocks hK hM hl htab
  have hl : lv_has ls 5 [(0, .ref no), (1, .int (nI j)), (2, .int 4)] := hl
  have hM := PS.of hM [(no, nsU cv ad g cw), (ad 4, rdU rx rd rw), (rd 8, lsU mc ea (nI mm) (lar lf)), (a, cU 10 mv (fun _ => 0) aNo)] ⟨hN, hR, hls, hA, trivial⟩ (by simp only [oad, List.map, List.nodup_cons, List.mem_cons, List.mem_singleton, List.not_mem_nil, not_or, or_false, not_false_eq_true, List.nodup_nil, and_true]; exact ⟨⟨o_ne hN hR (by decide), o_ne hN hls (by decide), o_ne hN hA (by decide)⟩, ⟨o_ne hR hls (by decide), o_ne hR hA (by decide)⟩, o_ne hls hA (by decide)⟩)
  refine lv_aload_n hC.1 hC.2.1 dX0_as_0 rfl (lv_at hl 0 rfl) ?_
  refine lv_iload_n hC.1 hC.2.1 dX0_as_1 rfl (lv_at hl 1 rfl) ?_
  refine p_cVe (L' := [_, _, _, _]) hC hK hM (hM.at 0 rfl) rfl (cn_isMover l κ _ no cv ad g cw rx rd rw mc ea mm (lar lf) (nI j) (hM.at 0 rfl) (hM.at 1 rfl) (hM.at 2 rfl)) (cwV 1 hC.2.2.2.2 (lw_V q1109 q1111 qs25 q63 q1112) rfl rfl rfl (by decide +kernel) ⟨(Nat.le_of_ble_eq_true rfl), (Nat.le_of_ble_eq_true rfl)⟩) rfl hl.1 rfl (lv_room (Nat.le_of_ble_eq_true rfl)) dX0_as_2 ⟨(Nat.le_of_ble_eq_true rfl), (Nat.le_of_ble_eq_true rfl)⟩ rfl hM.2 (fun H locs hM => ?_)
  refine lv_if_eq (tgt := 20) hC.1 hC.2.1 dX0_as_5 (by decide) (fun c1 => ?_) (fun c1 => ?_)
  ·
    skip
    exact absurd (c1 : bI _ = 0) (by rw [bI_t ⟨nI_pos' (by omega), by rw [show mm = (mm - 1) + 1 by omega, nI_pred]; exact nI_le (by omega) (by omega)⟩]; decide)
  ·
    skip
    refine lv_iload_n hC.1 hC.2.1 dX0_as_8 rfl (lv_at hl 2 rfl) ?_
    refine lv_i2l hC.1 hC.2.1 dX0_as_9 rfl ?_
    refine lv_lconst (v := 0) hC.1 hC.2.1 dX0_as_10 (by decide) ?_
    refine lv_ldc2 hC.1 hC.2.1 hC.2.2.2.1 (hC.2.2.2.2 _ q1154) dX0_as_11 ?_
    refine s_ci hC ((cc_isIn l (a := 0) (b := 5) rfl rfl rfl)) (va_cwS 3 hC.2.2.2.2 (lw_S q265 q266 q63 q267) rfl rfl rfl (by decide +kernel) ⟨(Nat.le_of_ble_eq_true rfl), (Nat.le_of_ble_eq_true rfl)⟩) rfl hl.1 rfl (lv_room (Nat.le_of_ble_eq_true rfl)) dX0_as_14 ⟨(Nat.le_of_ble_eq_true rfl), (Nat.le_of_ble_eq_true rfl)⟩ ?_
    refine lv_if_ne (tgt := 23) hC.1 hC.2.1 dX0_as_17 (by decide) (fun c2 => ?_) (fun c2 => ?_)
    ·
      skip
      refine lv_aload_n hC.1 hC.2.1 dX0_as_23 rfl (lv_at hl 0 rfl) ?_
      refine p_get hC hK hM 0 rfl in_X0 rfl 4 (by decide) q223 (fun x h => h) rfl dX0_as_24 ?_
      refine p_get hC hK hM 1 rfl in_X1 rfl 8 (by decide) q168 (fun x h => h) rfl dX0_as_27 ?_
      refine lv_iload_n hC.1 hC.2.1 dX0_as_30 rfl (lv_at hl 1 rfl) ?_
      refine p_cFe (L' := [_, _, _, _]) hC hK hM (hM.at 2 rfl) rfl (cj_get l κ _ (rd 8) mc ea mm lf j a (hM.at 2 rfl) hj (by omega) hfq) (va_cwF 1 hC.2.2.2.2 (lw_F q1116 q904 q906 q67 q908) rfl rfl rfl (hK.1.2.2.2 _ (List.mem_of_getElem? (i := 2) (rfl : nFw[2]? = some _))) (by decide +kernel) ⟨(Nat.le_of_ble_eq_true rfl), (Nat.le_of_ble_eq_true rfl)⟩) rfl hl.1 rfl (lv_room (Nat.le_of_ble_eq_true rfl)) dX0_as_31 ⟨(Nat.le_of_ble_eq_true rfl), (Nat.le_of_ble_eq_true rfl)⟩ rfl hM.2 (fun H locs hM => ?_)
      refine v_cn hC hK hM (kd := 2) (hM.at 3 rfl) (by decide) (by decide) dX0_as_36 ?_
      refine lv_astore_n (lv' := [(3, _), (0, _), (1, _), (2, _)]) hC.1 hC.2.1 dX0_as_39 rfl hl (by decide) rfl (fun ls hl => ?_)
      refine lv_iload_n hC.1 hC.2.1 dX0_as_40 rfl (lv_at hl 3 rfl) ?_
      refine lv_if_ne (tgt := 48) hC.1 hC.2.1 dX0_as_41 (by decide) (fun c3 => ?_) (fun c3 => ?_)
      ·
        skip
        refine lv_iload_n hC.1 hC.2.1 dX0_as_48 rfl (lv_at hl 3 rfl) ?_
        refine lv_iconst (v := 1) hC.1 hC.2.1 dX0_as_49 (by decide) ?_
        refine lv_icmp_ne (tgt := 60) hC.1 hC.2.1 dX0_as_50 (by decide) (fun c4 => ?_) (fun c4 => ?_)
        ·
          skip
          refine lv_iload_n hC.1 hC.2.1 dX0_as_60 rfl (lv_at hl 3 rfl) ?_
          refine lv_iconst (v := 2) hC.1 hC.2.1 dX0_as_61 (by decide) ?_
          refine lv_icmp_ne (tgt := 72) hC.1 hC.2.1 dX0_as_62 (by decide) (fun c5 => ?_) (fun c5 => ?_)
          ·
            skip
            refine lv_iload_n hC.1 hC.2.1 dX0_as_72 rfl (lv_at hl 3 rfl) ?_
            refine lv_iconst (v := 3) hC.1 hC.2.1 dX0_as_73 (by decide) ?_
            refine lv_icmp_ne (tgt := 84) hC.1 hC.2.1 dX0_as_74 (by decide) (fun c6 => ?_) (fun c6 => ?_)
            ·
              skip
              refine lv_iload_n hC.1 hC.2.1 dX0_as_84 rfl (lv_at hl 3 rfl) ?_
              refine lv_iconst (v := 4) hC.1 hC.2.1 dX0_as_85 (by decide) ?_
              refine lv_icmp_ne (tgt := 96) hC.1 hC.2.1 dX0_as_86 (by decide) (fun c7 => ?_) (fun c7 => ?_)
              ·
                skip
                exact absurd rfl c7
              ·
                skip
                refine lv_aload_n hC.1 hC.2.1 dX0_as_89 rfl (lv_at hl 0 rfl) ?_
                refine p_castT (x := RX10) (y := RX12) hC hK hM htl hl.1 (hM.at 3 rfl) rfl rfl q786 (List.mem_of_getElem? (i := 5) rfl) (by decide) (by decide) htab 0 (hpc := 112) (ct := 303) (hAt_of rfl) (by decide) q1140 (hK.1.2.1 _ q1152 rfl) (Nat.le_of_ble_eq_true rfl) (Nat.le_of_ble_eq_true rfl) (Nat.le_of_ble_eq_true rfl) (Nat.le_of_ble_eq_true rfl) dX0_as_90 (fun zx H locs hM => ?_)
                refine lv_astore (lv' := [(4, _), (3, _), (0, _), (1, _), (2, _)]) hC.1 hC.2.1 dX0_as_112 hl (by decide) rfl (fun ls hl => ?_)
                refine p_new (L' := fun q => [_, _, _, _, _]) hC hK hM (ci := 4) in_X4 tyX4 tyX4_ok q260 q273 q72 rfl (fs := [.null, .null, .null, .null, .null, .int 0, .int 0]) (by decide) (Nat.le_of_ble_eq_true rfl) (Nat.le_of_ble_eq_true rfl) dX0_as_114 (fun q => rfl) (fun q_8 H hq_8 hM => ?_)
                refine lv_dup hC.1 hC.2.1 dX0_as_117 rfl ?_
                refine lv_iconst (v := 3) hC.1 hC.2.1 dX0_as_118 (by decide) ?_
                refine p_cIv (L' := [_, _, _, _, _]) hC hK hM (cx_fn l κ _ q_8 3 (hM.at 4 rfl)) (cwI 1 hC.2.2.2.2 (lw_meth q314) rfl rfl rfl (hC.2.2.2.2 _ q72) (hC.2.2.2.2 _ q312) (hC.2.2.2.2 _ q313) rfl (by decide +kernel) ⟨(Nat.le_of_ble_eq_true rfl), (Nat.le_of_ble_eq_true rfl)⟩) rfl hl.1 rfl (lv_room (Nat.le_of_ble_eq_true rfl)) dX0_as_119 ⟨(Nat.le_of_ble_eq_true rfl), (Nat.le_of_ble_eq_true rfl)⟩ (oups_set hM.2 (i := 4) rfl) (oad_nd hM.2 (i := 4) rfl rfl) (fun H locs hM => ?_)
                refine p_thrC hC hK hM htab 2 (hpc := 123) (ct := 71) (hAt_of rfl) (by decide) q260 (hM.at 4 rfl) rfl (hK.1.2.1 _ q274 rfl) dX0_as_122 ?_
                refine lv_astore_n (lv' := [(3, _), (4, _), (0, _), (1, _), (2, _)]) hC.1 hC.2.1 dX0_as_123 rfl hl (by decide) rfl (fun ls hl => ?_)
                refine lv_aload_n hC.1 hC.2.1 dX0_as_124 rfl (lv_at hl 2 rfl) ?_
                refine lv_aload_n hC.1 hC.2.1 dX0_as_125 rfl (lv_at hl 0 rfl) ?_
                refine p_cVe (L' := [_, _, _, _, _]) hC hK hM (hM.at 0 rfl) rfl (cn_found l κ _ no cv ad g cw q_8 3 (hM.at 0 rfl) (hM.at 4 rfl)) (cwV 1 hC.2.2.2.2 (lw_V q356 q358 qs2 q63 q359) rfl rfl rfl (by decide +kernel) ⟨(Nat.le_of_ble_eq_true rfl), (Nat.le_of_ble_eq_true rfl)⟩) rfl hl.1 rfl (lv_room (Nat.le_of_ble_eq_true rfl)) dX0_as_126 ⟨(Nat.le_of_ble_eq_true rfl), (Nat.le_of_ble_eq_true rfl)⟩ (oups_set hM.2 (i := 0) rfl) (oad_nd hM.2 (i := 0) rfl rfl) (fun H locs hM => ?_)
                refine W.widen (k := 4) (n := 817) (Nat.le_of_ble_eq_true rfl) (Nat.le_of_ble_eq_true rfl) ?_
                refine p_iret hC hr hlocks hM dX0_as_129 ?_
                refine ⟨rfl, q_8, hq_8, ?_⟩
                rw [oups, oups, oups, oups, oups, oups, ask_end hN hR hls hA hq_8]
            ·
              skip
              exact absurd c6 (by decide)
          ·
            skip
            exact absurd c5 (by decide)
        ·
          skip
          exact absurd c4 (by decide)
      ·
        skip
        exact absurd c3 (by decide)
    ·
      skip
      exact absurd (c2 : bI _ = 0) (by decide)

set_option maxHeartbeats 400000 in
set_option maxRecDepth 100000 in
theorem cn_asT_10_5 (l : Launch) (κ : Nat → Nat) (O : gO) (no : Nat) (cv : Nat → Int32) (ad : Nat → Nat) (g : Nat → Nat → Option Nat) (cw : Nat → Nat → Int32) (rx : Nat → Int32) (rd : Nat → Nat) (rw : Nat → Nat → Int32) (mc : Int32) (ea mm : Nat) (lf : Nat → Option Nat) (a j : Nat) (mv : Nat → Int32) (hN : O no = some (nsU cv ad g cw)) (hR : O (ad 4) = some (rdU rx rd rw)) (htl : l.stackTraces = false) (hls : O (rd 8) = some (lsU mc ea (nI mm) (lar lf))) (hj : j < mm) (hmm : mm ≤ 5) (hfq : lf j = some a) (hA : O a = some (cU 10 mv (fun _ => 0) aNo)) : oW l κ yX0_as cX0_as 5 (some .int) [(40, 111, 112, 303), (23, 111, 123, 71), (112, 123, 123, 71)] ({ frames := 7, cells := 4, slots := 817, locals := 10260 }) [.ref no, .int (nI j), .int 5] O (fun rv O1 => rv = some (.int (-1000013)) ∧ ∃ z, O z = none ∧ O1 = oup (oup O z (fnU 3)) no (nsU (upd cv 10 3) ad g cw)) := by
  intro D ac A
  refine o_bodyW (own := RX0) rfl (by decide) (Nat.le_of_ble_eq_true rfl) ?_
  intro p e s m args below meth c ls hC hr hlocks hK hM hl htab
  have hl : lv_has ls 5 [(0, .ref no), (1, .int (nI j)), (2, .int 5)] := hl
  have hM := PS.of hM [(no, nsU cv ad g cw), (ad 4, rdU rx rd rw), (rd 8, lsU mc ea (nI mm) (lar lf)), (a, cU 10 mv (fun _ => 0) aNo)] ⟨hN, hR, hls, hA, trivial⟩ (by simp only [oad, List.map, List.nodup_cons, List.mem_cons, List.mem_singleton, List.not_mem_nil, not_or, or_false, not_false_eq_true, List.nodup_nil, and_true]; exact ⟨⟨o_ne hN hR (by decide), o_ne hN hls (by decide), o_ne hN hA (by decide)⟩, ⟨o_ne hR hls (by decide), o_ne hR hA (by decide)⟩, o_ne hls hA (by decide)⟩)
  refine lv_aload_n hC.1 hC.2.1 dX0_as_0 rfl (lv_at hl 0 rfl) ?_
  refine lv_iload_n hC.1 hC.2.1 dX0_as_1 rfl (lv_at hl 1 rfl) ?_
  refine p_cVe (L' := [_, _, _, _]) hC hK hM (hM.at 0 rfl) rfl (cn_isMover l κ _ no cv ad g cw rx rd rw mc ea mm (lar lf) (nI j) (hM.at 0 rfl) (hM.at 1 rfl) (hM.at 2 rfl)) (cwV 1 hC.2.2.2.2 (lw_V q1109 q1111 qs25 q63 q1112) rfl rfl rfl (by decide +kernel) ⟨(Nat.le_of_ble_eq_true rfl), (Nat.le_of_ble_eq_true rfl)⟩) rfl hl.1 rfl (lv_room (Nat.le_of_ble_eq_true rfl)) dX0_as_2 ⟨(Nat.le_of_ble_eq_true rfl), (Nat.le_of_ble_eq_true rfl)⟩ rfl hM.2 (fun H locs hM => ?_)
  refine lv_if_eq (tgt := 20) hC.1 hC.2.1 dX0_as_5 (by decide) (fun c1 => ?_) (fun c1 => ?_)
  ·
    skip
    exact absurd (c1 : bI _ = 0) (by rw [bI_t ⟨nI_pos' (by omega), by rw [show mm = (mm - 1) + 1 by omega, nI_pred]; exact nI_le (by omega) (by omega)⟩]; decide)
  ·
    skip
    refine lv_iload_n hC.1 hC.2.1 dX0_as_8 rfl (lv_at hl 2 rfl) ?_
    refine lv_i2l hC.1 hC.2.1 dX0_as_9 rfl ?_
    refine lv_lconst (v := 0) hC.1 hC.2.1 dX0_as_10 (by decide) ?_
    refine lv_ldc2 hC.1 hC.2.1 hC.2.2.2.1 (hC.2.2.2.2 _ q1154) dX0_as_11 ?_
    refine s_ci hC ((cc_isIn l (a := 0) (b := 5) rfl rfl rfl)) (va_cwS 3 hC.2.2.2.2 (lw_S q265 q266 q63 q267) rfl rfl rfl (by decide +kernel) ⟨(Nat.le_of_ble_eq_true rfl), (Nat.le_of_ble_eq_true rfl)⟩) rfl hl.1 rfl (lv_room (Nat.le_of_ble_eq_true rfl)) dX0_as_14 ⟨(Nat.le_of_ble_eq_true rfl), (Nat.le_of_ble_eq_true rfl)⟩ ?_
    refine lv_if_ne (tgt := 23) hC.1 hC.2.1 dX0_as_17 (by decide) (fun c2 => ?_) (fun c2 => ?_)
    ·
      skip
      refine lv_aload_n hC.1 hC.2.1 dX0_as_23 rfl (lv_at hl 0 rfl) ?_
      refine p_get hC hK hM 0 rfl in_X0 rfl 4 (by decide) q223 (fun x h => h) rfl dX0_as_24 ?_
      refine p_get hC hK hM 1 rfl in_X1 rfl 8 (by decide) q168 (fun x h => h) rfl dX0_as_27 ?_
      refine lv_iload_n hC.1 hC.2.1 dX0_as_30 rfl (lv_at hl 1 rfl) ?_
      refine p_cFe (L' := [_, _, _, _]) hC hK hM (hM.at 2 rfl) rfl (cj_get l κ _ (rd 8) mc ea mm lf j a (hM.at 2 rfl) hj (by omega) hfq) (va_cwF 1 hC.2.2.2.2 (lw_F q1116 q904 q906 q67 q908) rfl rfl rfl (hK.1.2.2.2 _ (List.mem_of_getElem? (i := 2) (rfl : nFw[2]? = some _))) (by decide +kernel) ⟨(Nat.le_of_ble_eq_true rfl), (Nat.le_of_ble_eq_true rfl)⟩) rfl hl.1 rfl (lv_room (Nat.le_of_ble_eq_true rfl)) dX0_as_31 ⟨(Nat.le_of_ble_eq_true rfl), (Nat.le_of_ble_eq_true rfl)⟩ rfl hM.2 (fun H locs hM => ?_)
      refine v_cn hC hK hM (kd := 2) (hM.at 3 rfl) (by decide) (by decide) dX0_as_36 ?_
      refine lv_astore_n (lv' := [(3, _), (0, _), (1, _), (2, _)]) hC.1 hC.2.1 dX0_as_39 rfl hl (by decide) rfl (fun ls hl => ?_)
      refine lv_iload_n hC.1 hC.2.1 dX0_as_40 rfl (lv_at hl 3 rfl) ?_
      refine lv_if_ne (tgt := 48) hC.1 hC.2.1 dX0_as_41 (by decide) (fun c3 => ?_) (fun c3 => ?_)
      ·
        skip
        refine lv_iload_n hC.1 hC.2.1 dX0_as_48 rfl (lv_at hl 3 rfl) ?_
        refine lv_iconst (v := 1) hC.1 hC.2.1 dX0_as_49 (by decide) ?_
        refine lv_icmp_ne (tgt := 60) hC.1 hC.2.1 dX0_as_50 (by decide) (fun c4 => ?_) (fun c4 => ?_)
        ·
          skip
          refine lv_iload_n hC.1 hC.2.1 dX0_as_60 rfl (lv_at hl 3 rfl) ?_
          refine lv_iconst (v := 2) hC.1 hC.2.1 dX0_as_61 (by decide) ?_
          refine lv_icmp_ne (tgt := 72) hC.1 hC.2.1 dX0_as_62 (by decide) (fun c5 => ?_) (fun c5 => ?_)
          ·
            skip
            refine lv_iload_n hC.1 hC.2.1 dX0_as_72 rfl (lv_at hl 3 rfl) ?_
            refine lv_iconst (v := 3) hC.1 hC.2.1 dX0_as_73 (by decide) ?_
            refine lv_icmp_ne (tgt := 84) hC.1 hC.2.1 dX0_as_74 (by decide) (fun c6 => ?_) (fun c6 => ?_)
            ·
              skip
              refine lv_iload_n hC.1 hC.2.1 dX0_as_84 rfl (lv_at hl 3 rfl) ?_
              refine lv_iconst (v := 4) hC.1 hC.2.1 dX0_as_85 (by decide) ?_
              refine lv_icmp_ne (tgt := 96) hC.1 hC.2.1 dX0_as_86 (by decide) (fun c7 => ?_) (fun c7 => ?_)
              ·
                skip
                refine lv_aload_n hC.1 hC.2.1 dX0_as_96 rfl (lv_at hl 0 rfl) ?_
                refine p_castT (x := RX10) (y := RX13) hC hK hM htl hl.1 (hM.at 3 rfl) rfl rfl q797 (List.mem_of_getElem? (i := 6) rfl) (by decide) (by decide) htab 0 (hpc := 112) (ct := 303) (hAt_of rfl) (by decide) q1140 (hK.1.2.1 _ q1152 rfl) (Nat.le_of_ble_eq_true rfl) (Nat.le_of_ble_eq_true rfl) (Nat.le_of_ble_eq_true rfl) (Nat.le_of_ble_eq_true rfl) dX0_as_97 (fun zx H locs hM => ?_)
                refine lv_astore (lv' := [(4, _), (3, _), (0, _), (1, _), (2, _)]) hC.1 hC.2.1 dX0_as_112 hl (by decide) rfl (fun ls hl => ?_)
                refine p_new (L' := fun q => [_, _, _, _, _]) hC hK hM (ci := 4) in_X4 tyX4 tyX4_ok q260 q273 q72 rfl (fs := [.null, .null, .null, .null, .null, .int 0, .int 0]) (by decide) (Nat.le_of_ble_eq_true rfl) (Nat.le_of_ble_eq_true rfl) dX0_as_114 (fun q => rfl) (fun q_8 H hq_8 hM => ?_)
                refine lv_dup hC.1 hC.2.1 dX0_as_117 rfl ?_
                refine lv_iconst (v := 3) hC.1 hC.2.1 dX0_as_118 (by decide) ?_
                refine p_cIv (L' := [_, _, _, _, _]) hC hK hM (cx_fn l κ _ q_8 3 (hM.at 4 rfl)) (cwI 1 hC.2.2.2.2 (lw_meth q314) rfl rfl rfl (hC.2.2.2.2 _ q72) (hC.2.2.2.2 _ q312) (hC.2.2.2.2 _ q313) rfl (by decide +kernel) ⟨(Nat.le_of_ble_eq_true rfl), (Nat.le_of_ble_eq_true rfl)⟩) rfl hl.1 rfl (lv_room (Nat.le_of_ble_eq_true rfl)) dX0_as_119 ⟨(Nat.le_of_ble_eq_true rfl), (Nat.le_of_ble_eq_true rfl)⟩ (oups_set hM.2 (i := 4) rfl) (oad_nd hM.2 (i := 4) rfl rfl) (fun H locs hM => ?_)
                refine p_thrC hC hK hM htab 2 (hpc := 123) (ct := 71) (hAt_of rfl) (by decide) q260 (hM.at 4 rfl) rfl (hK.1.2.1 _ q274 rfl) dX0_as_122 ?_
                refine lv_astore_n (lv' := [(3, _), (4, _), (0, _), (1, _), (2, _)]) hC.1 hC.2.1 dX0_as_123 rfl hl (by decide) rfl (fun ls hl => ?_)
                refine lv_aload_n hC.1 hC.2.1 dX0_as_124 rfl (lv_at hl 2 rfl) ?_
                refine lv_aload_n hC.1 hC.2.1 dX0_as_125 rfl (lv_at hl 0 rfl) ?_
                refine p_cVe (L' := [_, _, _, _, _]) hC hK hM (hM.at 0 rfl) rfl (cn_found l κ _ no cv ad g cw q_8 3 (hM.at 0 rfl) (hM.at 4 rfl)) (cwV 1 hC.2.2.2.2 (lw_V q356 q358 qs2 q63 q359) rfl rfl rfl (by decide +kernel) ⟨(Nat.le_of_ble_eq_true rfl), (Nat.le_of_ble_eq_true rfl)⟩) rfl hl.1 rfl (lv_room (Nat.le_of_ble_eq_true rfl)) dX0_as_126 ⟨(Nat.le_of_ble_eq_true rfl), (Nat.le_of_ble_eq_true rfl)⟩ (oups_set hM.2 (i := 0) rfl) (oad_nd hM.2 (i := 0) rfl rfl) (fun H locs hM => ?_)
                refine W.widen (k := 4) (n := 817) (Nat.le_of_ble_eq_true rfl) (Nat.le_of_ble_eq_true rfl) ?_
                refine p_iret hC hr hlocks hM dX0_as_129 ?_
                refine ⟨rfl, q_8, hq_8, ?_⟩
                rw [oups, oups, oups, oups, oups, oups, ask_end hN hR hls hA hq_8]
              ·
                skip
                exact absurd c7 (by decide)
            ·
              skip
              exact absurd c6 (by decide)
          ·
            skip
            exact absurd c5 (by decide)
        ·
          skip
          exact absurd c4 (by decide)
      ·
        skip
        exact absurd c3 (by decide)
    ·
      skip
      exact absurd (c2 : bI _ = 0) (by decide)

set_option maxHeartbeats 400000 in
set_option maxRecDepth 100000 in
theorem cn_asT_11_2 (l : Launch) (κ : Nat → Nat) (O : gO) (no : Nat) (cv : Nat → Int32) (ad : Nat → Nat) (g : Nat → Nat → Option Nat) (cw : Nat → Nat → Int32) (rx : Nat → Int32) (rd : Nat → Nat) (rw : Nat → Nat → Int32) (mc : Int32) (ea mm : Nat) (lf : Nat → Option Nat) (a j : Nat) (mv : Nat → Int32) (hN : O no = some (nsU cv ad g cw)) (hR : O (ad 4) = some (rdU rx rd rw)) (htl : l.stackTraces = false) (hls : O (rd 8) = some (lsU mc ea (nI mm) (lar lf))) (hj : j < mm) (hmm : mm ≤ 5) (hfq : lf j = some a) (hA : O a = some (cU 11 mv (fun _ => 0) aNo)) : oW l κ yX0_as cX0_as 5 (some .int) [(40, 111, 112, 303), (23, 111, 123, 71), (112, 123, 123, 71)] ({ frames := 7, cells := 4, slots := 817, locals := 10260 }) [.ref no, .int (nI j), .int 2] O (fun rv O1 => rv = some (.int (-1000013)) ∧ ∃ z, O z = none ∧ O1 = oup (oup O z (fnU 3)) no (nsU (upd cv 10 3) ad g cw)) := by
  intro D ac A
  refine o_bodyW (own := RX0) rfl (by decide) (Nat.le_of_ble_eq_true rfl) ?_
  intro p e s m args below meth c ls hC hr hlocks hK hM hl htab
  have hl : lv_has ls 5 [(0, .ref no), (1, .int (nI j)), (2, .int 2)] := hl
  have hM := PS.of hM [(no, nsU cv ad g cw), (ad 4, rdU rx rd rw), (rd 8, lsU mc ea (nI mm) (lar lf)), (a, cU 11 mv (fun _ => 0) aNo)] ⟨hN, hR, hls, hA, trivial⟩ (by simp only [oad, List.map, List.nodup_cons, List.mem_cons, List.mem_singleton, List.not_mem_nil, not_or, or_false, not_false_eq_true, List.nodup_nil, and_true]; exact ⟨⟨o_ne hN hR (by decide), o_ne hN hls (by decide), o_ne hN hA (by decide)⟩, ⟨o_ne hR hls (by decide), o_ne hR hA (by decide)⟩, o_ne hls hA (by decide)⟩)
  refine lv_aload_n hC.1 hC.2.1 dX0_as_0 rfl (lv_at hl 0 rfl) ?_
  refine lv_iload_n hC.1 hC.2.1 dX0_as_1 rfl (lv_at hl 1 rfl) ?_
  refine p_cVe (L' := [_, _, _, _]) hC hK hM (hM.at 0 rfl) rfl (cn_isMover l κ _ no cv ad g cw rx rd rw mc ea mm (lar lf) (nI j) (hM.at 0 rfl) (hM.at 1 rfl) (hM.at 2 rfl)) (cwV 1 hC.2.2.2.2 (lw_V q1109 q1111 qs25 q63 q1112) rfl rfl rfl (by decide +kernel) ⟨(Nat.le_of_ble_eq_true rfl), (Nat.le_of_ble_eq_true rfl)⟩) rfl hl.1 rfl (lv_room (Nat.le_of_ble_eq_true rfl)) dX0_as_2 ⟨(Nat.le_of_ble_eq_true rfl), (Nat.le_of_ble_eq_true rfl)⟩ rfl hM.2 (fun H locs hM => ?_)
  refine lv_if_eq (tgt := 20) hC.1 hC.2.1 dX0_as_5 (by decide) (fun c1 => ?_) (fun c1 => ?_)
  ·
    skip
    exact absurd (c1 : bI _ = 0) (by rw [bI_t ⟨nI_pos' (by omega), by rw [show mm = (mm - 1) + 1 by omega, nI_pred]; exact nI_le (by omega) (by omega)⟩]; decide)
  ·
    skip
    refine lv_iload_n hC.1 hC.2.1 dX0_as_8 rfl (lv_at hl 2 rfl) ?_
    refine lv_i2l hC.1 hC.2.1 dX0_as_9 rfl ?_
    refine lv_lconst (v := 0) hC.1 hC.2.1 dX0_as_10 (by decide) ?_
    refine lv_ldc2 hC.1 hC.2.1 hC.2.2.2.1 (hC.2.2.2.2 _ q1154) dX0_as_11 ?_
    refine s_ci hC ((cc_isIn l (a := 0) (b := 5) rfl rfl rfl)) (va_cwS 3 hC.2.2.2.2 (lw_S q265 q266 q63 q267) rfl rfl rfl (by decide +kernel) ⟨(Nat.le_of_ble_eq_true rfl), (Nat.le_of_ble_eq_true rfl)⟩) rfl hl.1 rfl (lv_room (Nat.le_of_ble_eq_true rfl)) dX0_as_14 ⟨(Nat.le_of_ble_eq_true rfl), (Nat.le_of_ble_eq_true rfl)⟩ ?_
    refine lv_if_ne (tgt := 23) hC.1 hC.2.1 dX0_as_17 (by decide) (fun c2 => ?_) (fun c2 => ?_)
    ·
      skip
      refine lv_aload_n hC.1 hC.2.1 dX0_as_23 rfl (lv_at hl 0 rfl) ?_
      refine p_get hC hK hM 0 rfl in_X0 rfl 4 (by decide) q223 (fun x h => h) rfl dX0_as_24 ?_
      refine p_get hC hK hM 1 rfl in_X1 rfl 8 (by decide) q168 (fun x h => h) rfl dX0_as_27 ?_
      refine lv_iload_n hC.1 hC.2.1 dX0_as_30 rfl (lv_at hl 1 rfl) ?_
      refine p_cFe (L' := [_, _, _, _]) hC hK hM (hM.at 2 rfl) rfl (cj_get l κ _ (rd 8) mc ea mm lf j a (hM.at 2 rfl) hj (by omega) hfq) (va_cwF 1 hC.2.2.2.2 (lw_F q1116 q904 q906 q67 q908) rfl rfl rfl (hK.1.2.2.2 _ (List.mem_of_getElem? (i := 2) (rfl : nFw[2]? = some _))) (by decide +kernel) ⟨(Nat.le_of_ble_eq_true rfl), (Nat.le_of_ble_eq_true rfl)⟩) rfl hl.1 rfl (lv_room (Nat.le_of_ble_eq_true rfl)) dX0_as_31 ⟨(Nat.le_of_ble_eq_true rfl), (Nat.le_of_ble_eq_true rfl)⟩ rfl hM.2 (fun H locs hM => ?_)
      refine v_cn hC hK hM (kd := 3) (hM.at 3 rfl) (by decide) (by decide) dX0_as_36 ?_
      refine lv_astore_n (lv' := [(3, _), (0, _), (1, _), (2, _)]) hC.1 hC.2.1 dX0_as_39 rfl hl (by decide) rfl (fun ls hl => ?_)
      refine lv_iload_n hC.1 hC.2.1 dX0_as_40 rfl (lv_at hl 3 rfl) ?_
      refine lv_if_ne (tgt := 48) hC.1 hC.2.1 dX0_as_41 (by decide) (fun c3 => ?_) (fun c3 => ?_)
      ·
        skip
        refine lv_iload_n hC.1 hC.2.1 dX0_as_48 rfl (lv_at hl 3 rfl) ?_
        refine lv_iconst (v := 1) hC.1 hC.2.1 dX0_as_49 (by decide) ?_
        refine lv_icmp_ne (tgt := 60) hC.1 hC.2.1 dX0_as_50 (by decide) (fun c4 => ?_) (fun c4 => ?_)
        ·
          skip
          refine lv_iload_n hC.1 hC.2.1 dX0_as_60 rfl (lv_at hl 3 rfl) ?_
          refine lv_iconst (v := 2) hC.1 hC.2.1 dX0_as_61 (by decide) ?_
          refine lv_icmp_ne (tgt := 72) hC.1 hC.2.1 dX0_as_62 (by decide) (fun c5 => ?_) (fun c5 => ?_)
          ·
            skip
            exact absurd rfl c5
          ·
            skip
            refine lv_aload_n hC.1 hC.2.1 dX0_as_65 rfl (lv_at hl 0 rfl) ?_
            refine p_castT (x := RX11) (y := RX10) hC hK hM htl hl.1 (hM.at 3 rfl) rfl rfl q764 (List.mem_of_getElem? (i := 7) rfl) (by decide) (by decide) htab 0 (hpc := 112) (ct := 303) (hAt_of rfl) (by decide) q1140 (hK.1.2.1 _ q1152 rfl) (Nat.le_of_ble_eq_true rfl) (Nat.le_of_ble_eq_true rfl) (Nat.le_of_ble_eq_true rfl) (Nat.le_of_ble_eq_true rfl) dX0_as_66 (fun zx H locs hM => ?_)
            refine lv_astore (lv' := [(4, _), (3, _), (0, _), (1, _), (2, _)]) hC.1 hC.2.1 dX0_as_112 hl (by decide) rfl (fun ls hl => ?_)
            refine p_new (L' := fun q => [_, _, _, _, _]) hC hK hM (ci := 4) in_X4 tyX4 tyX4_ok q260 q273 q72 rfl (fs := [.null, .null, .null, .null, .null, .int 0, .int 0]) (by decide) (Nat.le_of_ble_eq_true rfl) (Nat.le_of_ble_eq_true rfl) dX0_as_114 (fun q => rfl) (fun q_6 H hq_6 hM => ?_)
            refine lv_dup hC.1 hC.2.1 dX0_as_117 rfl ?_
            refine lv_iconst (v := 3) hC.1 hC.2.1 dX0_as_118 (by decide) ?_
            refine p_cIv (L' := [_, _, _, _, _]) hC hK hM (cx_fn l κ _ q_6 3 (hM.at 4 rfl)) (cwI 1 hC.2.2.2.2 (lw_meth q314) rfl rfl rfl (hC.2.2.2.2 _ q72) (hC.2.2.2.2 _ q312) (hC.2.2.2.2 _ q313) rfl (by decide +kernel) ⟨(Nat.le_of_ble_eq_true rfl), (Nat.le_of_ble_eq_true rfl)⟩) rfl hl.1 rfl (lv_room (Nat.le_of_ble_eq_true rfl)) dX0_as_119 ⟨(Nat.le_of_ble_eq_true rfl), (Nat.le_of_ble_eq_true rfl)⟩ (oups_set hM.2 (i := 4) rfl) (oad_nd hM.2 (i := 4) rfl rfl) (fun H locs hM => ?_)
            refine p_thrC hC hK hM htab 2 (hpc := 123) (ct := 71) (hAt_of rfl) (by decide) q260 (hM.at 4 rfl) rfl (hK.1.2.1 _ q274 rfl) dX0_as_122 ?_
            refine lv_astore_n (lv' := [(3, _), (4, _), (0, _), (1, _), (2, _)]) hC.1 hC.2.1 dX0_as_123 rfl hl (by decide) rfl (fun ls hl => ?_)
            refine lv_aload_n hC.1 hC.2.1 dX0_as_124 rfl (lv_at hl 2 rfl) ?_
            refine lv_aload_n hC.1 hC.2.1 dX0_as_125 rfl (lv_at hl 0 rfl) ?_
            refine p_cVe (L' := [_, _, _, _, _]) hC hK hM (hM.at 0 rfl) rfl (cn_found l κ _ no cv ad g cw q_6 3 (hM.at 0 rfl) (hM.at 4 rfl)) (cwV 1 hC.2.2.2.2 (lw_V q356 q358 qs2 q63 q359) rfl rfl rfl (by decide +kernel) ⟨(Nat.le_of_ble_eq_true rfl), (Nat.le_of_ble_eq_true rfl)⟩) rfl hl.1 rfl (lv_room (Nat.le_of_ble_eq_true rfl)) dX0_as_126 ⟨(Nat.le_of_ble_eq_true rfl), (Nat.le_of_ble_eq_true rfl)⟩ (oups_set hM.2 (i := 0) rfl) (oad_nd hM.2 (i := 0) rfl rfl) (fun H locs hM => ?_)
            refine W.widen (k := 4) (n := 817) (Nat.le_of_ble_eq_true rfl) (Nat.le_of_ble_eq_true rfl) ?_
            refine p_iret hC hr hlocks hM dX0_as_129 ?_
            refine ⟨rfl, q_6, hq_6, ?_⟩
            rw [oups, oups, oups, oups, oups, oups, ask_end hN hR hls hA hq_6]
        ·
          skip
          exact absurd c4 (by decide)
      ·
        skip
        exact absurd c3 (by decide)
    ·
      skip
      exact absurd (c2 : bI _ = 0) (by decide)

set_option maxHeartbeats 400000 in
set_option maxRecDepth 100000 in
theorem cn_asT_11_4 (l : Launch) (κ : Nat → Nat) (O : gO) (no : Nat) (cv : Nat → Int32) (ad : Nat → Nat) (g : Nat → Nat → Option Nat) (cw : Nat → Nat → Int32) (rx : Nat → Int32) (rd : Nat → Nat) (rw : Nat → Nat → Int32) (mc : Int32) (ea mm : Nat) (lf : Nat → Option Nat) (a j : Nat) (mv : Nat → Int32) (hN : O no = some (nsU cv ad g cw)) (hR : O (ad 4) = some (rdU rx rd rw)) (htl : l.stackTraces = false) (hls : O (rd 8) = some (lsU mc ea (nI mm) (lar lf))) (hj : j < mm) (hmm : mm ≤ 5) (hfq : lf j = some a) (hA : O a = some (cU 11 mv (fun _ => 0) aNo)) : oW l κ yX0_as cX0_as 5 (some .int) [(40, 111, 112, 303), (23, 111, 123, 71), (112, 123, 123, 71)] ({ frames := 7, cells := 4, slots := 817, locals := 10260 }) [.ref no, .int (nI j), .int 4] O (fun rv O1 => rv = some (.int (-1000013)) ∧ ∃ z, O z = none ∧ O1 = oup (oup O z (fnU 3)) no (nsU (upd cv 10 3) ad g cw)) := by
  intro D ac A
  refine o_bodyW (own := RX0) rfl (by decide) (Nat.le_of_ble_eq_true rfl) ?_
  intro p e s m args below meth c ls hC hr hlocks hK hM hl htab
  have hl : lv_has ls 5 [(0, .ref no), (1, .int (nI j)), (2, .int 4)] := hl
  have hM := PS.of hM [(no, nsU cv ad g cw), (ad 4, rdU rx rd rw), (rd 8, lsU mc ea (nI mm) (lar lf)), (a, cU 11 mv (fun _ => 0) aNo)] ⟨hN, hR, hls, hA, trivial⟩ (by simp only [oad, List.map, List.nodup_cons, List.mem_cons, List.mem_singleton, List.not_mem_nil, not_or, or_false, not_false_eq_true, List.nodup_nil, and_true]; exact ⟨⟨o_ne hN hR (by decide), o_ne hN hls (by decide), o_ne hN hA (by decide)⟩, ⟨o_ne hR hls (by decide), o_ne hR hA (by decide)⟩, o_ne hls hA (by decide)⟩)
  refine lv_aload_n hC.1 hC.2.1 dX0_as_0 rfl (lv_at hl 0 rfl) ?_
  refine lv_iload_n hC.1 hC.2.1 dX0_as_1 rfl (lv_at hl 1 rfl) ?_
  refine p_cVe (L' := [_, _, _, _]) hC hK hM (hM.at 0 rfl) rfl (cn_isMover l κ _ no cv ad g cw rx rd rw mc ea mm (lar lf) (nI j) (hM.at 0 rfl) (hM.at 1 rfl) (hM.at 2 rfl)) (cwV 1 hC.2.2.2.2 (lw_V q1109 q1111 qs25 q63 q1112) rfl rfl rfl (by decide +kernel) ⟨(Nat.le_of_ble_eq_true rfl), (Nat.le_of_ble_eq_true rfl)⟩) rfl hl.1 rfl (lv_room (Nat.le_of_ble_eq_true rfl)) dX0_as_2 ⟨(Nat.le_of_ble_eq_true rfl), (Nat.le_of_ble_eq_true rfl)⟩ rfl hM.2 (fun H locs hM => ?_)
  refine lv_if_eq (tgt := 20) hC.1 hC.2.1 dX0_as_5 (by decide) (fun c1 => ?_) (fun c1 => ?_)
  ·
    skip
    exact absurd (c1 : bI _ = 0) (by rw [bI_t ⟨nI_pos' (by omega), by rw [show mm = (mm - 1) + 1 by omega, nI_pred]; exact nI_le (by omega) (by omega)⟩]; decide)
  ·
    skip
    refine lv_iload_n hC.1 hC.2.1 dX0_as_8 rfl (lv_at hl 2 rfl) ?_
    refine lv_i2l hC.1 hC.2.1 dX0_as_9 rfl ?_
    refine lv_lconst (v := 0) hC.1 hC.2.1 dX0_as_10 (by decide) ?_
    refine lv_ldc2 hC.1 hC.2.1 hC.2.2.2.1 (hC.2.2.2.2 _ q1154) dX0_as_11 ?_
    refine s_ci hC ((cc_isIn l (a := 0) (b := 5) rfl rfl rfl)) (va_cwS 3 hC.2.2.2.2 (lw_S q265 q266 q63 q267) rfl rfl rfl (by decide +kernel) ⟨(Nat.le_of_ble_eq_true rfl), (Nat.le_of_ble_eq_true rfl)⟩) rfl hl.1 rfl (lv_room (Nat.le_of_ble_eq_true rfl)) dX0_as_14 ⟨(Nat.le_of_ble_eq_true rfl), (Nat.le_of_ble_eq_true rfl)⟩ ?_
    refine lv_if_ne (tgt := 23) hC.1 hC.2.1 dX0_as_17 (by decide) (fun c2 => ?_) (fun c2 => ?_)
    ·
      skip
      refine lv_aload_n hC.1 hC.2.1 dX0_as_23 rfl (lv_at hl 0 rfl) ?_
      refine p_get hC hK hM 0 rfl in_X0 rfl 4 (by decide) q223 (fun x h => h) rfl dX0_as_24 ?_
      refine p_get hC hK hM 1 rfl in_X1 rfl 8 (by decide) q168 (fun x h => h) rfl dX0_as_27 ?_
      refine lv_iload_n hC.1 hC.2.1 dX0_as_30 rfl (lv_at hl 1 rfl) ?_
      refine p_cFe (L' := [_, _, _, _]) hC hK hM (hM.at 2 rfl) rfl (cj_get l κ _ (rd 8) mc ea mm lf j a (hM.at 2 rfl) hj (by omega) hfq) (va_cwF 1 hC.2.2.2.2 (lw_F q1116 q904 q906 q67 q908) rfl rfl rfl (hK.1.2.2.2 _ (List.mem_of_getElem? (i := 2) (rfl : nFw[2]? = some _))) (by decide +kernel) ⟨(Nat.le_of_ble_eq_true rfl), (Nat.le_of_ble_eq_true rfl)⟩) rfl hl.1 rfl (lv_room (Nat.le_of_ble_eq_true rfl)) dX0_as_31 ⟨(Nat.le_of_ble_eq_true rfl), (Nat.le_of_ble_eq_true rfl)⟩ rfl hM.2 (fun H locs hM => ?_)
      refine v_cn hC hK hM (kd := 3) (hM.at 3 rfl) (by decide) (by decide) dX0_as_36 ?_
      refine lv_astore_n (lv' := [(3, _), (0, _), (1, _), (2, _)]) hC.1 hC.2.1 dX0_as_39 rfl hl (by decide) rfl (fun ls hl => ?_)
      refine lv_iload_n hC.1 hC.2.1 dX0_as_40 rfl (lv_at hl 3 rfl) ?_
      refine lv_if_ne (tgt := 48) hC.1 hC.2.1 dX0_as_41 (by decide) (fun c3 => ?_) (fun c3 => ?_)
      ·
        skip
        refine lv_iload_n hC.1 hC.2.1 dX0_as_48 rfl (lv_at hl 3 rfl) ?_
        refine lv_iconst (v := 1) hC.1 hC.2.1 dX0_as_49 (by decide) ?_
        refine lv_icmp_ne (tgt := 60) hC.1 hC.2.1 dX0_as_50 (by decide) (fun c4 => ?_) (fun c4 => ?_)
        ·
          skip
          refine lv_iload_n hC.1 hC.2.1 dX0_as_60 rfl (lv_at hl 3 rfl) ?_
          refine lv_iconst (v := 2) hC.1 hC.2.1 dX0_as_61 (by decide) ?_
          refine lv_icmp_ne (tgt := 72) hC.1 hC.2.1 dX0_as_62 (by decide) (fun c5 => ?_) (fun c5 => ?_)
          ·
            skip
            refine lv_iload_n hC.1 hC.2.1 dX0_as_72 rfl (lv_at hl 3 rfl) ?_
            refine lv_iconst (v := 3) hC.1 hC.2.1 dX0_as_73 (by decide) ?_
            refine lv_icmp_ne (tgt := 84) hC.1 hC.2.1 dX0_as_74 (by decide) (fun c6 => ?_) (fun c6 => ?_)
            ·
              skip
              refine lv_iload_n hC.1 hC.2.1 dX0_as_84 rfl (lv_at hl 3 rfl) ?_
              refine lv_iconst (v := 4) hC.1 hC.2.1 dX0_as_85 (by decide) ?_
              refine lv_icmp_ne (tgt := 96) hC.1 hC.2.1 dX0_as_86 (by decide) (fun c7 => ?_) (fun c7 => ?_)
              ·
                skip
                exact absurd rfl c7
              ·
                skip
                refine lv_aload_n hC.1 hC.2.1 dX0_as_89 rfl (lv_at hl 0 rfl) ?_
                refine p_castT (x := RX11) (y := RX12) hC hK hM htl hl.1 (hM.at 3 rfl) rfl rfl q786 (List.mem_of_getElem? (i := 8) rfl) (by decide) (by decide) htab 0 (hpc := 112) (ct := 303) (hAt_of rfl) (by decide) q1140 (hK.1.2.1 _ q1152 rfl) (Nat.le_of_ble_eq_true rfl) (Nat.le_of_ble_eq_true rfl) (Nat.le_of_ble_eq_true rfl) (Nat.le_of_ble_eq_true rfl) dX0_as_90 (fun zx H locs hM => ?_)
                refine lv_astore (lv' := [(4, _), (3, _), (0, _), (1, _), (2, _)]) hC.1 hC.2.1 dX0_as_112 hl (by decide) rfl (fun ls hl => ?_)
                refine p_new (L' := fun q => [_, _, _, _, _]) hC hK hM (ci := 4) in_X4 tyX4 tyX4_ok q260 q273 q72 rfl (fs := [.null, .null, .null, .null, .null, .int 0, .int 0]) (by decide) (Nat.le_of_ble_eq_true rfl) (Nat.le_of_ble_eq_true rfl) dX0_as_114 (fun q => rfl) (fun q_8 H hq_8 hM => ?_)
                refine lv_dup hC.1 hC.2.1 dX0_as_117 rfl ?_
                refine lv_iconst (v := 3) hC.1 hC.2.1 dX0_as_118 (by decide) ?_
                refine p_cIv (L' := [_, _, _, _, _]) hC hK hM (cx_fn l κ _ q_8 3 (hM.at 4 rfl)) (cwI 1 hC.2.2.2.2 (lw_meth q314) rfl rfl rfl (hC.2.2.2.2 _ q72) (hC.2.2.2.2 _ q312) (hC.2.2.2.2 _ q313) rfl (by decide +kernel) ⟨(Nat.le_of_ble_eq_true rfl), (Nat.le_of_ble_eq_true rfl)⟩) rfl hl.1 rfl (lv_room (Nat.le_of_ble_eq_true rfl)) dX0_as_119 ⟨(Nat.le_of_ble_eq_true rfl), (Nat.le_of_ble_eq_true rfl)⟩ (oups_set hM.2 (i := 4) rfl) (oad_nd hM.2 (i := 4) rfl rfl) (fun H locs hM => ?_)
                refine p_thrC hC hK hM htab 2 (hpc := 123) (ct := 71) (hAt_of rfl) (by decide) q260 (hM.at 4 rfl) rfl (hK.1.2.1 _ q274 rfl) dX0_as_122 ?_
                refine lv_astore_n (lv' := [(3, _), (4, _), (0, _), (1, _), (2, _)]) hC.1 hC.2.1 dX0_as_123 rfl hl (by decide) rfl (fun ls hl => ?_)
                refine lv_aload_n hC.1 hC.2.1 dX0_as_124 rfl (lv_at hl 2 rfl) ?_
                refine lv_aload_n hC.1 hC.2.1 dX0_as_125 rfl (lv_at hl 0 rfl) ?_
                refine p_cVe (L' := [_, _, _, _, _]) hC hK hM (hM.at 0 rfl) rfl (cn_found l κ _ no cv ad g cw q_8 3 (hM.at 0 rfl) (hM.at 4 rfl)) (cwV 1 hC.2.2.2.2 (lw_V q356 q358 qs2 q63 q359) rfl rfl rfl (by decide +kernel) ⟨(Nat.le_of_ble_eq_true rfl), (Nat.le_of_ble_eq_true rfl)⟩) rfl hl.1 rfl (lv_room (Nat.le_of_ble_eq_true rfl)) dX0_as_126 ⟨(Nat.le_of_ble_eq_true rfl), (Nat.le_of_ble_eq_true rfl)⟩ (oups_set hM.2 (i := 0) rfl) (oad_nd hM.2 (i := 0) rfl rfl) (fun H locs hM => ?_)
                refine W.widen (k := 4) (n := 817) (Nat.le_of_ble_eq_true rfl) (Nat.le_of_ble_eq_true rfl) ?_
                refine p_iret hC hr hlocks hM dX0_as_129 ?_
                refine ⟨rfl, q_8, hq_8, ?_⟩
                rw [oups, oups, oups, oups, oups, oups, ask_end hN hR hls hA hq_8]
            ·
              skip
              exact absurd c6 (by decide)
          ·
            skip
            exact absurd c5 (by decide)
        ·
          skip
          exact absurd c4 (by decide)
      ·
        skip
        exact absurd c3 (by decide)
    ·
      skip
      exact absurd (c2 : bI _ = 0) (by decide)

set_option maxHeartbeats 400000 in
set_option maxRecDepth 100000 in
theorem cn_asT_11_5 (l : Launch) (κ : Nat → Nat) (O : gO) (no : Nat) (cv : Nat → Int32) (ad : Nat → Nat) (g : Nat → Nat → Option Nat) (cw : Nat → Nat → Int32) (rx : Nat → Int32) (rd : Nat → Nat) (rw : Nat → Nat → Int32) (mc : Int32) (ea mm : Nat) (lf : Nat → Option Nat) (a j : Nat) (mv : Nat → Int32) (hN : O no = some (nsU cv ad g cw)) (hR : O (ad 4) = some (rdU rx rd rw)) (htl : l.stackTraces = false) (hls : O (rd 8) = some (lsU mc ea (nI mm) (lar lf))) (hj : j < mm) (hmm : mm ≤ 5) (hfq : lf j = some a) (hA : O a = some (cU 11 mv (fun _ => 0) aNo)) : oW l κ yX0_as cX0_as 5 (some .int) [(40, 111, 112, 303), (23, 111, 123, 71), (112, 123, 123, 71)] ({ frames := 7, cells := 4, slots := 817, locals := 10260 }) [.ref no, .int (nI j), .int 5] O (fun rv O1 => rv = some (.int (-1000013)) ∧ ∃ z, O z = none ∧ O1 = oup (oup O z (fnU 3)) no (nsU (upd cv 10 3) ad g cw)) := by
  intro D ac A
  refine o_bodyW (own := RX0) rfl (by decide) (Nat.le_of_ble_eq_true rfl) ?_
  intro p e s m args below meth c ls hC hr hlocks hK hM hl htab
  have hl : lv_has ls 5 [(0, .ref no), (1, .int (nI j)), (2, .int 5)] := hl
  have hM := PS.of hM [(no, nsU cv ad g cw), (ad 4, rdU rx rd rw), (rd 8, lsU mc ea (nI mm) (lar lf)), (a, cU 11 mv (fun _ => 0) aNo)] ⟨hN, hR, hls, hA, trivial⟩ (by simp only [oad, List.map, List.nodup_cons, List.mem_cons, List.mem_singleton, List.not_mem_nil, not_or, or_false, not_false_eq_true, List.nodup_nil, and_true]; exact ⟨⟨o_ne hN hR (by decide), o_ne hN hls (by decide), o_ne hN hA (by decide)⟩, ⟨o_ne hR hls (by decide), o_ne hR hA (by decide)⟩, o_ne hls hA (by decide)⟩)
  refine lv_aload_n hC.1 hC.2.1 dX0_as_0 rfl (lv_at hl 0 rfl) ?_
  refine lv_iload_n hC.1 hC.2.1 dX0_as_1 rfl (lv_at hl 1 rfl) ?_
  refine p_cVe (L' := [_, _, _, _]) hC hK hM (hM.at 0 rfl) rfl (cn_isMover l κ _ no cv ad g cw rx rd rw mc ea mm (lar lf) (nI j) (hM.at 0 rfl) (hM.at 1 rfl) (hM.at 2 rfl)) (cwV 1 hC.2.2.2.2 (lw_V q1109 q1111 qs25 q63 q1112) rfl rfl rfl (by decide +kernel) ⟨(Nat.le_of_ble_eq_true rfl), (Nat.le_of_ble_eq_true rfl)⟩) rfl hl.1 rfl (lv_room (Nat.le_of_ble_eq_true rfl)) dX0_as_2 ⟨(Nat.le_of_ble_eq_true rfl), (Nat.le_of_ble_eq_true rfl)⟩ rfl hM.2 (fun H locs hM => ?_)
  refine lv_if_eq (tgt := 20) hC.1 hC.2.1 dX0_as_5 (by decide) (fun c1 => ?_) (fun c1 => ?_)
  ·
    skip
    exact absurd (c1 : bI _ = 0) (by rw [bI_t ⟨nI_pos' (by omega), by rw [show mm = (mm - 1) + 1 by omega, nI_pred]; exact nI_le (by omega) (by omega)⟩]; decide)
  ·
    skip
    refine lv_iload_n hC.1 hC.2.1 dX0_as_8 rfl (lv_at hl 2 rfl) ?_
    refine lv_i2l hC.1 hC.2.1 dX0_as_9 rfl ?_
    refine lv_lconst (v := 0) hC.1 hC.2.1 dX0_as_10 (by decide) ?_
    refine lv_ldc2 hC.1 hC.2.1 hC.2.2.2.1 (hC.2.2.2.2 _ q1154) dX0_as_11 ?_
    refine s_ci hC ((cc_isIn l (a := 0) (b := 5) rfl rfl rfl)) (va_cwS 3 hC.2.2.2.2 (lw_S q265 q266 q63 q267) rfl rfl rfl (by decide +kernel) ⟨(Nat.le_of_ble_eq_true rfl), (Nat.le_of_ble_eq_true rfl)⟩) rfl hl.1 rfl (lv_room (Nat.le_of_ble_eq_true rfl)) dX0_as_14 ⟨(Nat.le_of_ble_eq_true rfl), (Nat.le_of_ble_eq_true rfl)⟩ ?_
    refine lv_if_ne (tgt := 23) hC.1 hC.2.1 dX0_as_17 (by decide) (fun c2 => ?_) (fun c2 => ?_)
    ·
      skip
      refine lv_aload_n hC.1 hC.2.1 dX0_as_23 rfl (lv_at hl 0 rfl) ?_
      refine p_get hC hK hM 0 rfl in_X0 rfl 4 (by decide) q223 (fun x h => h) rfl dX0_as_24 ?_
      refine p_get hC hK hM 1 rfl in_X1 rfl 8 (by decide) q168 (fun x h => h) rfl dX0_as_27 ?_
      refine lv_iload_n hC.1 hC.2.1 dX0_as_30 rfl (lv_at hl 1 rfl) ?_
      refine p_cFe (L' := [_, _, _, _]) hC hK hM (hM.at 2 rfl) rfl (cj_get l κ _ (rd 8) mc ea mm lf j a (hM.at 2 rfl) hj (by omega) hfq) (va_cwF 1 hC.2.2.2.2 (lw_F q1116 q904 q906 q67 q908) rfl rfl rfl (hK.1.2.2.2 _ (List.mem_of_getElem? (i := 2) (rfl : nFw[2]? = some _))) (by decide +kernel) ⟨(Nat.le_of_ble_eq_true rfl), (Nat.le_of_ble_eq_true rfl)⟩) rfl hl.1 rfl (lv_room (Nat.le_of_ble_eq_true rfl)) dX0_as_31 ⟨(Nat.le_of_ble_eq_true rfl), (Nat.le_of_ble_eq_true rfl)⟩ rfl hM.2 (fun H locs hM => ?_)
      refine v_cn hC hK hM (kd := 3) (hM.at 3 rfl) (by decide) (by decide) dX0_as_36 ?_
      refine lv_astore_n (lv' := [(3, _), (0, _), (1, _), (2, _)]) hC.1 hC.2.1 dX0_as_39 rfl hl (by decide) rfl (fun ls hl => ?_)
      refine lv_iload_n hC.1 hC.2.1 dX0_as_40 rfl (lv_at hl 3 rfl) ?_
      refine lv_if_ne (tgt := 48) hC.1 hC.2.1 dX0_as_41 (by decide) (fun c3 => ?_) (fun c3 => ?_)
      ·
        skip
        refine lv_iload_n hC.1 hC.2.1 dX0_as_48 rfl (lv_at hl 3 rfl) ?_
        refine lv_iconst (v := 1) hC.1 hC.2.1 dX0_as_49 (by decide) ?_
        refine lv_icmp_ne (tgt := 60) hC.1 hC.2.1 dX0_as_50 (by decide) (fun c4 => ?_) (fun c4 => ?_)
        ·
          skip
          refine lv_iload_n hC.1 hC.2.1 dX0_as_60 rfl (lv_at hl 3 rfl) ?_
          refine lv_iconst (v := 2) hC.1 hC.2.1 dX0_as_61 (by decide) ?_
          refine lv_icmp_ne (tgt := 72) hC.1 hC.2.1 dX0_as_62 (by decide) (fun c5 => ?_) (fun c5 => ?_)
          ·
            skip
            refine lv_iload_n hC.1 hC.2.1 dX0_as_72 rfl (lv_at hl 3 rfl) ?_
            refine lv_iconst (v := 3) hC.1 hC.2.1 dX0_as_73 (by decide) ?_
            refine lv_icmp_ne (tgt := 84) hC.1 hC.2.1 dX0_as_74 (by decide) (fun c6 => ?_) (fun c6 => ?_)
            ·
              skip
              refine lv_iload_n hC.1 hC.2.1 dX0_as_84 rfl (lv_at hl 3 rfl) ?_
              refine lv_iconst (v := 4) hC.1 hC.2.1 dX0_as_85 (by decide) ?_
              refine lv_icmp_ne (tgt := 96) hC.1 hC.2.1 dX0_as_86 (by decide) (fun c7 => ?_) (fun c7 => ?_)
              ·
                skip
                refine lv_aload_n hC.1 hC.2.1 dX0_as_96 rfl (lv_at hl 0 rfl) ?_
                refine p_castT (x := RX11) (y := RX13) hC hK hM htl hl.1 (hM.at 3 rfl) rfl rfl q797 (List.mem_of_getElem? (i := 9) rfl) (by decide) (by decide) htab 0 (hpc := 112) (ct := 303) (hAt_of rfl) (by decide) q1140 (hK.1.2.1 _ q1152 rfl) (Nat.le_of_ble_eq_true rfl) (Nat.le_of_ble_eq_true rfl) (Nat.le_of_ble_eq_true rfl) (Nat.le_of_ble_eq_true rfl) dX0_as_97 (fun zx H locs hM => ?_)
                refine lv_astore (lv' := [(4, _), (3, _), (0, _), (1, _), (2, _)]) hC.1 hC.2.1 dX0_as_112 hl (by decide) rfl (fun ls hl => ?_)
                refine p_new (L' := fun q => [_, _, _, _, _]) hC hK hM (ci := 4) in_X4 tyX4 tyX4_ok q260 q273 q72 rfl (fs := [.null, .null, .null, .null, .null, .int 0, .int 0]) (by decide) (Nat.le_of_ble_eq_true rfl) (Nat.le_of_ble_eq_true rfl) dX0_as_114 (fun q => rfl) (fun q_8 H hq_8 hM => ?_)
                refine lv_dup hC.1 hC.2.1 dX0_as_117 rfl ?_
                refine lv_iconst (v := 3) hC.1 hC.2.1 dX0_as_118 (by decide) ?_
                refine p_cIv (L' := [_, _, _, _, _]) hC hK hM (cx_fn l κ _ q_8 3 (hM.at 4 rfl)) (cwI 1 hC.2.2.2.2 (lw_meth q314) rfl rfl rfl (hC.2.2.2.2 _ q72) (hC.2.2.2.2 _ q312) (hC.2.2.2.2 _ q313) rfl (by decide +kernel) ⟨(Nat.le_of_ble_eq_true rfl), (Nat.le_of_ble_eq_true rfl)⟩) rfl hl.1 rfl (lv_room (Nat.le_of_ble_eq_true rfl)) dX0_as_119 ⟨(Nat.le_of_ble_eq_true rfl), (Nat.le_of_ble_eq_true rfl)⟩ (oups_set hM.2 (i := 4) rfl) (oad_nd hM.2 (i := 4) rfl rfl) (fun H locs hM => ?_)
                refine p_thrC hC hK hM htab 2 (hpc := 123) (ct := 71) (hAt_of rfl) (by decide) q260 (hM.at 4 rfl) rfl (hK.1.2.1 _ q274 rfl) dX0_as_122 ?_
                refine lv_astore_n (lv' := [(3, _), (4, _), (0, _), (1, _), (2, _)]) hC.1 hC.2.1 dX0_as_123 rfl hl (by decide) rfl (fun ls hl => ?_)
                refine lv_aload_n hC.1 hC.2.1 dX0_as_124 rfl (lv_at hl 2 rfl) ?_
                refine lv_aload_n hC.1 hC.2.1 dX0_as_125 rfl (lv_at hl 0 rfl) ?_
                refine p_cVe (L' := [_, _, _, _, _]) hC hK hM (hM.at 0 rfl) rfl (cn_found l κ _ no cv ad g cw q_8 3 (hM.at 0 rfl) (hM.at 4 rfl)) (cwV 1 hC.2.2.2.2 (lw_V q356 q358 qs2 q63 q359) rfl rfl rfl (by decide +kernel) ⟨(Nat.le_of_ble_eq_true rfl), (Nat.le_of_ble_eq_true rfl)⟩) rfl hl.1 rfl (lv_room (Nat.le_of_ble_eq_true rfl)) dX0_as_126 ⟨(Nat.le_of_ble_eq_true rfl), (Nat.le_of_ble_eq_true rfl)⟩ (oups_set hM.2 (i := 0) rfl) (oad_nd hM.2 (i := 0) rfl rfl) (fun H locs hM => ?_)
                refine W.widen (k := 4) (n := 817) (Nat.le_of_ble_eq_true rfl) (Nat.le_of_ble_eq_true rfl) ?_
                refine p_iret hC hr hlocks hM dX0_as_129 ?_
                refine ⟨rfl, q_8, hq_8, ?_⟩
                rw [oups, oups, oups, oups, oups, oups, ask_end hN hR hls hA hq_8]
              ·
                skip
                exact absurd c7 (by decide)
            ·
              skip
              exact absurd c6 (by decide)
          ·
            skip
            exact absurd c5 (by decide)
        ·
          skip
          exact absurd c4 (by decide)
      ·
        skip
        exact absurd c3 (by decide)
    ·
      skip
      exact absurd (c2 : bI _ = 0) (by decide)

set_option maxHeartbeats 400000 in
set_option maxRecDepth 100000 in
theorem cn_asT_12_1 (l : Launch) (κ : Nat → Nat) (O : gO) (no : Nat) (cv : Nat → Int32) (ad : Nat → Nat) (g : Nat → Nat → Option Nat) (cw : Nat → Nat → Int32) (rx : Nat → Int32) (rd : Nat → Nat) (rw : Nat → Nat → Int32) (mc : Int32) (ea mm : Nat) (lf : Nat → Option Nat) (a j : Nat) (mv : Nat → Int32) (hN : O no = some (nsU cv ad g cw)) (hR : O (ad 4) = some (rdU rx rd rw)) (htl : l.stackTraces = false) (hls : O (rd 8) = some (lsU mc ea (nI mm) (lar lf))) (hj : j < mm) (hmm : mm ≤ 5) (hfq : lf j = some a) (hA : O a = some (cU 12 mv (fun _ => 0) aNo)) : oW l κ yX0_as cX0_as 5 (some .int) [(40, 111, 112, 303), (23, 111, 123, 71), (112, 123, 123, 71)] ({ frames := 7, cells := 4, slots := 817, locals := 10260 }) [.ref no, .int (nI j), .int 1] O (fun rv O1 => rv = some (.int (-1000013)) ∧ ∃ z, O z = none ∧ O1 = oup (oup O z (fnU 3)) no (nsU (upd cv 10 3) ad g cw)) := by
  intro D ac A
  refine o_bodyW (own := RX0) rfl (by decide) (Nat.le_of_ble_eq_true rfl) ?_
  intro p e s m args below meth c ls hC hr hlocks hK hM hl htab
  have hl : lv_has ls 5 [(0, .ref no), (1, .int (nI j)), (2, .int 1)] := hl
  have hM := PS.of hM [(no, nsU cv ad g cw), (ad 4, rdU rx rd rw), (rd 8, lsU mc ea (nI mm) (lar lf)), (a, cU 12 mv (fun _ => 0) aNo)] ⟨hN, hR, hls, hA, trivial⟩ (by simp only [oad, List.map, List.nodup_cons, List.mem_cons, List.mem_singleton, List.not_mem_nil, not_or, or_false, not_false_eq_true, List.nodup_nil, and_true]; exact ⟨⟨o_ne hN hR (by decide), o_ne hN hls (by decide), o_ne hN hA (by decide)⟩, ⟨o_ne hR hls (by decide), o_ne hR hA (by decide)⟩, o_ne hls hA (by decide)⟩)
  refine lv_aload_n hC.1 hC.2.1 dX0_as_0 rfl (lv_at hl 0 rfl) ?_
  refine lv_iload_n hC.1 hC.2.1 dX0_as_1 rfl (lv_at hl 1 rfl) ?_
  refine p_cVe (L' := [_, _, _, _]) hC hK hM (hM.at 0 rfl) rfl (cn_isMover l κ _ no cv ad g cw rx rd rw mc ea mm (lar lf) (nI j) (hM.at 0 rfl) (hM.at 1 rfl) (hM.at 2 rfl)) (cwV 1 hC.2.2.2.2 (lw_V q1109 q1111 qs25 q63 q1112) rfl rfl rfl (by decide +kernel) ⟨(Nat.le_of_ble_eq_true rfl), (Nat.le_of_ble_eq_true rfl)⟩) rfl hl.1 rfl (lv_room (Nat.le_of_ble_eq_true rfl)) dX0_as_2 ⟨(Nat.le_of_ble_eq_true rfl), (Nat.le_of_ble_eq_true rfl)⟩ rfl hM.2 (fun H locs hM => ?_)
  refine lv_if_eq (tgt := 20) hC.1 hC.2.1 dX0_as_5 (by decide) (fun c1 => ?_) (fun c1 => ?_)
  ·
    skip
    exact absurd (c1 : bI _ = 0) (by rw [bI_t ⟨nI_pos' (by omega), by rw [show mm = (mm - 1) + 1 by omega, nI_pred]; exact nI_le (by omega) (by omega)⟩]; decide)
  ·
    skip
    refine lv_iload_n hC.1 hC.2.1 dX0_as_8 rfl (lv_at hl 2 rfl) ?_
    refine lv_i2l hC.1 hC.2.1 dX0_as_9 rfl ?_
    refine lv_lconst (v := 0) hC.1 hC.2.1 dX0_as_10 (by decide) ?_
    refine lv_ldc2 hC.1 hC.2.1 hC.2.2.2.1 (hC.2.2.2.2 _ q1154) dX0_as_11 ?_
    refine s_ci hC ((cc_isIn l (a := 0) (b := 5) rfl rfl rfl)) (va_cwS 3 hC.2.2.2.2 (lw_S q265 q266 q63 q267) rfl rfl rfl (by decide +kernel) ⟨(Nat.le_of_ble_eq_true rfl), (Nat.le_of_ble_eq_true rfl)⟩) rfl hl.1 rfl (lv_room (Nat.le_of_ble_eq_true rfl)) dX0_as_14 ⟨(Nat.le_of_ble_eq_true rfl), (Nat.le_of_ble_eq_true rfl)⟩ ?_
    refine lv_if_ne (tgt := 23) hC.1 hC.2.1 dX0_as_17 (by decide) (fun c2 => ?_) (fun c2 => ?_)
    ·
      skip
      refine lv_aload_n hC.1 hC.2.1 dX0_as_23 rfl (lv_at hl 0 rfl) ?_
      refine p_get hC hK hM 0 rfl in_X0 rfl 4 (by decide) q223 (fun x h => h) rfl dX0_as_24 ?_
      refine p_get hC hK hM 1 rfl in_X1 rfl 8 (by decide) q168 (fun x h => h) rfl dX0_as_27 ?_
      refine lv_iload_n hC.1 hC.2.1 dX0_as_30 rfl (lv_at hl 1 rfl) ?_
      refine p_cFe (L' := [_, _, _, _]) hC hK hM (hM.at 2 rfl) rfl (cj_get l κ _ (rd 8) mc ea mm lf j a (hM.at 2 rfl) hj (by omega) hfq) (va_cwF 1 hC.2.2.2.2 (lw_F q1116 q904 q906 q67 q908) rfl rfl rfl (hK.1.2.2.2 _ (List.mem_of_getElem? (i := 2) (rfl : nFw[2]? = some _))) (by decide +kernel) ⟨(Nat.le_of_ble_eq_true rfl), (Nat.le_of_ble_eq_true rfl)⟩) rfl hl.1 rfl (lv_room (Nat.le_of_ble_eq_true rfl)) dX0_as_31 ⟨(Nat.le_of_ble_eq_true rfl), (Nat.le_of_ble_eq_true rfl)⟩ rfl hM.2 (fun H locs hM => ?_)
      refine v_cn hC hK hM (kd := 4) (hM.at 3 rfl) (by decide) (by decide) dX0_as_36 ?_
      refine lv_astore_n (lv' := [(3, _), (0, _), (1, _), (2, _)]) hC.1 hC.2.1 dX0_as_39 rfl hl (by decide) rfl (fun ls hl => ?_)
      refine lv_iload_n hC.1 hC.2.1 dX0_as_40 rfl (lv_at hl 3 rfl) ?_
      refine lv_if_ne (tgt := 48) hC.1 hC.2.1 dX0_as_41 (by decide) (fun c3 => ?_) (fun c3 => ?_)
      ·
        skip
        refine lv_iload_n hC.1 hC.2.1 dX0_as_48 rfl (lv_at hl 3 rfl) ?_
        refine lv_iconst (v := 1) hC.1 hC.2.1 dX0_as_49 (by decide) ?_
        refine lv_icmp_ne (tgt := 60) hC.1 hC.2.1 dX0_as_50 (by decide) (fun c4 => ?_) (fun c4 => ?_)
        ·
          skip
          exact absurd rfl c4
        ·
          skip
          refine lv_aload_n hC.1 hC.2.1 dX0_as_53 rfl (lv_at hl 0 rfl) ?_
          refine p_castT (x := RX12) (y := RX9) hC hK hM htl hl.1 (hM.at 3 rfl) rfl rfl q735 (List.mem_of_getElem? (i := 10) rfl) (by decide) (by decide) htab 0 (hpc := 112) (ct := 303) (hAt_of rfl) (by decide) q1140 (hK.1.2.1 _ q1152 rfl) (Nat.le_of_ble_eq_true rfl) (Nat.le_of_ble_eq_true rfl) (Nat.le_of_ble_eq_true rfl) (Nat.le_of_ble_eq_true rfl) dX0_as_54 (fun zx H locs hM => ?_)
          refine lv_astore (lv' := [(4, _), (3, _), (0, _), (1, _), (2, _)]) hC.1 hC.2.1 dX0_as_112 hl (by decide) rfl (fun ls hl => ?_)
          refine p_new (L' := fun q => [_, _, _, _, _]) hC hK hM (ci := 4) in_X4 tyX4 tyX4_ok q260 q273 q72 rfl (fs := [.null, .null, .null, .null, .null, .int 0, .int 0]) (by decide) (Nat.le_of_ble_eq_true rfl) (Nat.le_of_ble_eq_true rfl) dX0_as_114 (fun q => rfl) (fun q_5 H hq_5 hM => ?_)
          refine lv_dup hC.1 hC.2.1 dX0_as_117 rfl ?_
          refine lv_iconst (v := 3) hC.1 hC.2.1 dX0_as_118 (by decide) ?_
          refine p_cIv (L' := [_, _, _, _, _]) hC hK hM (cx_fn l κ _ q_5 3 (hM.at 4 rfl)) (cwI 1 hC.2.2.2.2 (lw_meth q314) rfl rfl rfl (hC.2.2.2.2 _ q72) (hC.2.2.2.2 _ q312) (hC.2.2.2.2 _ q313) rfl (by decide +kernel) ⟨(Nat.le_of_ble_eq_true rfl), (Nat.le_of_ble_eq_true rfl)⟩) rfl hl.1 rfl (lv_room (Nat.le_of_ble_eq_true rfl)) dX0_as_119 ⟨(Nat.le_of_ble_eq_true rfl), (Nat.le_of_ble_eq_true rfl)⟩ (oups_set hM.2 (i := 4) rfl) (oad_nd hM.2 (i := 4) rfl rfl) (fun H locs hM => ?_)
          refine p_thrC hC hK hM htab 2 (hpc := 123) (ct := 71) (hAt_of rfl) (by decide) q260 (hM.at 4 rfl) rfl (hK.1.2.1 _ q274 rfl) dX0_as_122 ?_
          refine lv_astore_n (lv' := [(3, _), (4, _), (0, _), (1, _), (2, _)]) hC.1 hC.2.1 dX0_as_123 rfl hl (by decide) rfl (fun ls hl => ?_)
          refine lv_aload_n hC.1 hC.2.1 dX0_as_124 rfl (lv_at hl 2 rfl) ?_
          refine lv_aload_n hC.1 hC.2.1 dX0_as_125 rfl (lv_at hl 0 rfl) ?_
          refine p_cVe (L' := [_, _, _, _, _]) hC hK hM (hM.at 0 rfl) rfl (cn_found l κ _ no cv ad g cw q_5 3 (hM.at 0 rfl) (hM.at 4 rfl)) (cwV 1 hC.2.2.2.2 (lw_V q356 q358 qs2 q63 q359) rfl rfl rfl (by decide +kernel) ⟨(Nat.le_of_ble_eq_true rfl), (Nat.le_of_ble_eq_true rfl)⟩) rfl hl.1 rfl (lv_room (Nat.le_of_ble_eq_true rfl)) dX0_as_126 ⟨(Nat.le_of_ble_eq_true rfl), (Nat.le_of_ble_eq_true rfl)⟩ (oups_set hM.2 (i := 0) rfl) (oad_nd hM.2 (i := 0) rfl rfl) (fun H locs hM => ?_)
          refine W.widen (k := 4) (n := 817) (Nat.le_of_ble_eq_true rfl) (Nat.le_of_ble_eq_true rfl) ?_
          refine p_iret hC hr hlocks hM dX0_as_129 ?_
          refine ⟨rfl, q_5, hq_5, ?_⟩
          rw [oups, oups, oups, oups, oups, oups, ask_end hN hR hls hA hq_5]
      ·
        skip
        exact absurd c3 (by decide)
    ·
      skip
      exact absurd (c2 : bI _ = 0) (by decide)

set_option maxHeartbeats 400000 in
set_option maxRecDepth 100000 in
theorem cn_asT_12_2 (l : Launch) (κ : Nat → Nat) (O : gO) (no : Nat) (cv : Nat → Int32) (ad : Nat → Nat) (g : Nat → Nat → Option Nat) (cw : Nat → Nat → Int32) (rx : Nat → Int32) (rd : Nat → Nat) (rw : Nat → Nat → Int32) (mc : Int32) (ea mm : Nat) (lf : Nat → Option Nat) (a j : Nat) (mv : Nat → Int32) (hN : O no = some (nsU cv ad g cw)) (hR : O (ad 4) = some (rdU rx rd rw)) (htl : l.stackTraces = false) (hls : O (rd 8) = some (lsU mc ea (nI mm) (lar lf))) (hj : j < mm) (hmm : mm ≤ 5) (hfq : lf j = some a) (hA : O a = some (cU 12 mv (fun _ => 0) aNo)) : oW l κ yX0_as cX0_as 5 (some .int) [(40, 111, 112, 303), (23, 111, 123, 71), (112, 123, 123, 71)] ({ frames := 7, cells := 4, slots := 817, locals := 10260 }) [.ref no, .int (nI j), .int 2] O (fun rv O1 => rv = some (.int (-1000013)) ∧ ∃ z, O z = none ∧ O1 = oup (oup O z (fnU 3)) no (nsU (upd cv 10 3) ad g cw)) := by
  intro D ac A
  refine o_bodyW (own := RX0) rfl (by decide) (Nat.le_of_ble_eq_true rfl) ?_
  intro p e s m args below meth c ls hC hr hlocks hK hM hl htab
  have hl : lv_has ls 5 [(0, .ref no), (1, .int (nI j)), (2, .int 2)] := hl
  have hM := PS.of hM [(no, nsU cv ad g cw), (ad 4, rdU rx rd rw), (rd 8, lsU mc ea (nI mm) (lar lf)), (a, cU 12 mv (fun _ => 0) aNo)] ⟨hN, hR, hls, hA, trivial⟩ (by simp only [oad, List.map, List.nodup_cons, List.mem_cons, List.mem_singleton, List.not_mem_nil, not_or, or_false, not_false_eq_true, List.nodup_nil, and_true]; exact ⟨⟨o_ne hN hR (by decide), o_ne hN hls (by decide), o_ne hN hA (by decide)⟩, ⟨o_ne hR hls (by decide), o_ne hR hA (by decide)⟩, o_ne hls hA (by decide)⟩)
  refine lv_aload_n hC.1 hC.2.1 dX0_as_0 rfl (lv_at hl 0 rfl) ?_
  refine lv_iload_n hC.1 hC.2.1 dX0_as_1 rfl (lv_at hl 1 rfl) ?_
  refine p_cVe (L' := [_, _, _, _]) hC hK hM (hM.at 0 rfl) rfl (cn_isMover l κ _ no cv ad g cw rx rd rw mc ea mm (lar lf) (nI j) (hM.at 0 rfl) (hM.at 1 rfl) (hM.at 2 rfl)) (cwV 1 hC.2.2.2.2 (lw_V q1109 q1111 qs25 q63 q1112) rfl rfl rfl (by decide +kernel) ⟨(Nat.le_of_ble_eq_true rfl), (Nat.le_of_ble_eq_true rfl)⟩) rfl hl.1 rfl (lv_room (Nat.le_of_ble_eq_true rfl)) dX0_as_2 ⟨(Nat.le_of_ble_eq_true rfl), (Nat.le_of_ble_eq_true rfl)⟩ rfl hM.2 (fun H locs hM => ?_)
  refine lv_if_eq (tgt := 20) hC.1 hC.2.1 dX0_as_5 (by decide) (fun c1 => ?_) (fun c1 => ?_)
  ·
    skip
    exact absurd (c1 : bI _ = 0) (by rw [bI_t ⟨nI_pos' (by omega), by rw [show mm = (mm - 1) + 1 by omega, nI_pred]; exact nI_le (by omega) (by omega)⟩]; decide)
  ·
    skip
    refine lv_iload_n hC.1 hC.2.1 dX0_as_8 rfl (lv_at hl 2 rfl) ?_
    refine lv_i2l hC.1 hC.2.1 dX0_as_9 rfl ?_
    refine lv_lconst (v := 0) hC.1 hC.2.1 dX0_as_10 (by decide) ?_
    refine lv_ldc2 hC.1 hC.2.1 hC.2.2.2.1 (hC.2.2.2.2 _ q1154) dX0_as_11 ?_
    refine s_ci hC ((cc_isIn l (a := 0) (b := 5) rfl rfl rfl)) (va_cwS 3 hC.2.2.2.2 (lw_S q265 q266 q63 q267) rfl rfl rfl (by decide +kernel) ⟨(Nat.le_of_ble_eq_true rfl), (Nat.le_of_ble_eq_true rfl)⟩) rfl hl.1 rfl (lv_room (Nat.le_of_ble_eq_true rfl)) dX0_as_14 ⟨(Nat.le_of_ble_eq_true rfl), (Nat.le_of_ble_eq_true rfl)⟩ ?_
    refine lv_if_ne (tgt := 23) hC.1 hC.2.1 dX0_as_17 (by decide) (fun c2 => ?_) (fun c2 => ?_)
    ·
      skip
      refine lv_aload_n hC.1 hC.2.1 dX0_as_23 rfl (lv_at hl 0 rfl) ?_
      refine p_get hC hK hM 0 rfl in_X0 rfl 4 (by decide) q223 (fun x h => h) rfl dX0_as_24 ?_
      refine p_get hC hK hM 1 rfl in_X1 rfl 8 (by decide) q168 (fun x h => h) rfl dX0_as_27 ?_
      refine lv_iload_n hC.1 hC.2.1 dX0_as_30 rfl (lv_at hl 1 rfl) ?_
      refine p_cFe (L' := [_, _, _, _]) hC hK hM (hM.at 2 rfl) rfl (cj_get l κ _ (rd 8) mc ea mm lf j a (hM.at 2 rfl) hj (by omega) hfq) (va_cwF 1 hC.2.2.2.2 (lw_F q1116 q904 q906 q67 q908) rfl rfl rfl (hK.1.2.2.2 _ (List.mem_of_getElem? (i := 2) (rfl : nFw[2]? = some _))) (by decide +kernel) ⟨(Nat.le_of_ble_eq_true rfl), (Nat.le_of_ble_eq_true rfl)⟩) rfl hl.1 rfl (lv_room (Nat.le_of_ble_eq_true rfl)) dX0_as_31 ⟨(Nat.le_of_ble_eq_true rfl), (Nat.le_of_ble_eq_true rfl)⟩ rfl hM.2 (fun H locs hM => ?_)
      refine v_cn hC hK hM (kd := 4) (hM.at 3 rfl) (by decide) (by decide) dX0_as_36 ?_
      refine lv_astore_n (lv' := [(3, _), (0, _), (1, _), (2, _)]) hC.1 hC.2.1 dX0_as_39 rfl hl (by decide) rfl (fun ls hl => ?_)
      refine lv_iload_n hC.1 hC.2.1 dX0_as_40 rfl (lv_at hl 3 rfl) ?_
      refine lv_if_ne (tgt := 48) hC.1 hC.2.1 dX0_as_41 (by decide) (fun c3 => ?_) (fun c3 => ?_)
      ·
        skip
        refine lv_iload_n hC.1 hC.2.1 dX0_as_48 rfl (lv_at hl 3 rfl) ?_
        refine lv_iconst (v := 1) hC.1 hC.2.1 dX0_as_49 (by decide) ?_
        refine lv_icmp_ne (tgt := 60) hC.1 hC.2.1 dX0_as_50 (by decide) (fun c4 => ?_) (fun c4 => ?_)
        ·
          skip
          refine lv_iload_n hC.1 hC.2.1 dX0_as_60 rfl (lv_at hl 3 rfl) ?_
          refine lv_iconst (v := 2) hC.1 hC.2.1 dX0_as_61 (by decide) ?_
          refine lv_icmp_ne (tgt := 72) hC.1 hC.2.1 dX0_as_62 (by decide) (fun c5 => ?_) (fun c5 => ?_)
          ·
            skip
            exact absurd rfl c5
          ·
            skip
            refine lv_aload_n hC.1 hC.2.1 dX0_as_65 rfl (lv_at hl 0 rfl) ?_
            refine p_castT (x := RX12) (y := RX10) hC hK hM htl hl.1 (hM.at 3 rfl) rfl rfl q764 (List.mem_of_getElem? (i := 11) rfl) (by decide) (by decide) htab 0 (hpc := 112) (ct := 303) (hAt_of rfl) (by decide) q1140 (hK.1.2.1 _ q1152 rfl) (Nat.le_of_ble_eq_true rfl) (Nat.le_of_ble_eq_true rfl) (Nat.le_of_ble_eq_true rfl) (Nat.le_of_ble_eq_true rfl) dX0_as_66 (fun zx H locs hM => ?_)
            refine lv_astore (lv' := [(4, _), (3, _), (0, _), (1, _), (2, _)]) hC.1 hC.2.1 dX0_as_112 hl (by decide) rfl (fun ls hl => ?_)
            refine p_new (L' := fun q => [_, _, _, _, _]) hC hK hM (ci := 4) in_X4 tyX4 tyX4_ok q260 q273 q72 rfl (fs := [.null, .null, .null, .null, .null, .int 0, .int 0]) (by decide) (Nat.le_of_ble_eq_true rfl) (Nat.le_of_ble_eq_true rfl) dX0_as_114 (fun q => rfl) (fun q_6 H hq_6 hM => ?_)
            refine lv_dup hC.1 hC.2.1 dX0_as_117 rfl ?_
            refine lv_iconst (v := 3) hC.1 hC.2.1 dX0_as_118 (by decide) ?_
            refine p_cIv (L' := [_, _, _, _, _]) hC hK hM (cx_fn l κ _ q_6 3 (hM.at 4 rfl)) (cwI 1 hC.2.2.2.2 (lw_meth q314) rfl rfl rfl (hC.2.2.2.2 _ q72) (hC.2.2.2.2 _ q312) (hC.2.2.2.2 _ q313) rfl (by decide +kernel) ⟨(Nat.le_of_ble_eq_true rfl), (Nat.le_of_ble_eq_true rfl)⟩) rfl hl.1 rfl (lv_room (Nat.le_of_ble_eq_true rfl)) dX0_as_119 ⟨(Nat.le_of_ble_eq_true rfl), (Nat.le_of_ble_eq_true rfl)⟩ (oups_set hM.2 (i := 4) rfl) (oad_nd hM.2 (i := 4) rfl rfl) (fun H locs hM => ?_)
            refine p_thrC hC hK hM htab 2 (hpc := 123) (ct := 71) (hAt_of rfl) (by decide) q260 (hM.at 4 rfl) rfl (hK.1.2.1 _ q274 rfl) dX0_as_122 ?_
            refine lv_astore_n (lv' := [(3, _), (4, _), (0, _), (1, _), (2, _)]) hC.1 hC.2.1 dX0_as_123 rfl hl (by decide) rfl (fun ls hl => ?_)
            refine lv_aload_n hC.1 hC.2.1 dX0_as_124 rfl (lv_at hl 2 rfl) ?_
            refine lv_aload_n hC.1 hC.2.1 dX0_as_125 rfl (lv_at hl 0 rfl) ?_
            refine p_cVe (L' := [_, _, _, _, _]) hC hK hM (hM.at 0 rfl) rfl (cn_found l κ _ no cv ad g cw q_6 3 (hM.at 0 rfl) (hM.at 4 rfl)) (cwV 1 hC.2.2.2.2 (lw_V q356 q358 qs2 q63 q359) rfl rfl rfl (by decide +kernel) ⟨(Nat.le_of_ble_eq_true rfl), (Nat.le_of_ble_eq_true rfl)⟩) rfl hl.1 rfl (lv_room (Nat.le_of_ble_eq_true rfl)) dX0_as_126 ⟨(Nat.le_of_ble_eq_true rfl), (Nat.le_of_ble_eq_true rfl)⟩ (oups_set hM.2 (i := 0) rfl) (oad_nd hM.2 (i := 0) rfl rfl) (fun H locs hM => ?_)
            refine W.widen (k := 4) (n := 817) (Nat.le_of_ble_eq_true rfl) (Nat.le_of_ble_eq_true rfl) ?_
            refine p_iret hC hr hlocks hM dX0_as_129 ?_
            refine ⟨rfl, q_6, hq_6, ?_⟩
            rw [oups, oups, oups, oups, oups, oups, ask_end hN hR hls hA hq_6]
        ·
          skip
          exact absurd c4 (by decide)
      ·
        skip
        exact absurd c3 (by decide)
    ·
      skip
      exact absurd (c2 : bI _ = 0) (by decide)

set_option maxHeartbeats 400000 in
set_option maxRecDepth 100000 in
theorem cn_asT_12_3 (l : Launch) (κ : Nat → Nat) (O : gO) (no : Nat) (cv : Nat → Int32) (ad : Nat → Nat) (g : Nat → Nat → Option Nat) (cw : Nat → Nat → Int32) (rx : Nat → Int32) (rd : Nat → Nat) (rw : Nat → Nat → Int32) (mc : Int32) (ea mm : Nat) (lf : Nat → Option Nat) (a j : Nat) (mv : Nat → Int32) (hN : O no = some (nsU cv ad g cw)) (hR : O (ad 4) = some (rdU rx rd rw)) (htl : l.stackTraces = false) (hls : O (rd 8) = some (lsU mc ea (nI mm) (lar lf))) (hj : j < mm) (hmm : mm ≤ 5) (hfq : lf j = some a) (hA : O a = some (cU 12 mv (fun _ => 0) aNo)) : oW l κ yX0_as cX0_as 5 (some .int) [(40, 111, 112, 303), (23, 111, 123, 71), (112, 123, 123, 71)] ({ frames := 7, cells := 4, slots := 817, locals := 10260 }) [.ref no, .int (nI j), .int 3] O (fun rv O1 => rv = some (.int (-1000013)) ∧ ∃ z, O z = none ∧ O1 = oup (oup O z (fnU 3)) no (nsU (upd cv 10 3) ad g cw)) := by
  intro D ac A
  refine o_bodyW (own := RX0) rfl (by decide) (Nat.le_of_ble_eq_true rfl) ?_
  intro p e s m args below meth c ls hC hr hlocks hK hM hl htab
  have hl : lv_has ls 5 [(0, .ref no), (1, .int (nI j)), (2, .int 3)] := hl
  have hM := PS.of hM [(no, nsU cv ad g cw), (ad 4, rdU rx rd rw), (rd 8, lsU mc ea (nI mm) (lar lf)), (a, cU 12 mv (fun _ => 0) aNo)] ⟨hN, hR, hls, hA, trivial⟩ (by simp only [oad, List.map, List.nodup_cons, List.mem_cons, List.mem_singleton, List.not_mem_nil, not_or, or_false, not_false_eq_true, List.nodup_nil, and_true]; exact ⟨⟨o_ne hN hR (by decide), o_ne hN hls (by decide), o_ne hN hA (by decide)⟩, ⟨o_ne hR hls (by decide), o_ne hR hA (by decide)⟩, o_ne hls hA (by decide)⟩)
  refine lv_aload_n hC.1 hC.2.1 dX0_as_0 rfl (lv_at hl 0 rfl) ?_
  refine lv_iload_n hC.1 hC.2.1 dX0_as_1 rfl (lv_at hl 1 rfl) ?_
  refine p_cVe (L' := [_, _, _, _]) hC hK hM (hM.at 0 rfl) rfl (cn_isMover l κ _ no cv ad g cw rx rd rw mc ea mm (lar lf) (nI j) (hM.at 0 rfl) (hM.at 1 rfl) (hM.at 2 rfl)) (cwV 1 hC.2.2.2.2 (lw_V q1109 q1111 qs25 q63 q1112) rfl rfl rfl (by decide +kernel) ⟨(Nat.le_of_ble_eq_true rfl), (Nat.le_of_ble_eq_true rfl)⟩) rfl hl.1 rfl (lv_room (Nat.le_of_ble_eq_true rfl)) dX0_as_2 ⟨(Nat.le_of_ble_eq_true rfl), (Nat.le_of_ble_eq_true rfl)⟩ rfl hM.2 (fun H locs hM => ?_)
  refine lv_if_eq (tgt := 20) hC.1 hC.2.1 dX0_as_5 (by decide) (fun c1 => ?_) (fun c1 => ?_)
  ·
    skip
    exact absurd (c1 : bI _ = 0) (by rw [bI_t ⟨nI_pos' (by omega), by rw [show mm = (mm - 1) + 1 by omega, nI_pred]; exact nI_le (by omega) (by omega)⟩]; decide)
  ·
    skip
    refine lv_iload_n hC.1 hC.2.1 dX0_as_8 rfl (lv_at hl 2 rfl) ?_
    refine lv_i2l hC.1 hC.2.1 dX0_as_9 rfl ?_
    refine lv_lconst (v := 0) hC.1 hC.2.1 dX0_as_10 (by decide) ?_
    refine lv_ldc2 hC.1 hC.2.1 hC.2.2.2.1 (hC.2.2.2.2 _ q1154) dX0_as_11 ?_
    refine s_ci hC ((cc_isIn l (a := 0) (b := 5) rfl rfl rfl)) (va_cwS 3 hC.2.2.2.2 (lw_S q265 q266 q63 q267) rfl rfl rfl (by decide +kernel) ⟨(Nat.le_of_ble_eq_true rfl), (Nat.le_of_ble_eq_true rfl)⟩) rfl hl.1 rfl (lv_room (Nat.le_of_ble_eq_true rfl)) dX0_as_14 ⟨(Nat.le_of_ble_eq_true rfl), (Nat.le_of_ble_eq_true rfl)⟩ ?_
    refine lv_if_ne (tgt := 23) hC.1 hC.2.1 dX0_as_17 (by decide) (fun c2 => ?_) (fun c2 => ?_)
    ·
      skip
      refine lv_aload_n hC.1 hC.2.1 dX0_as_23 rfl (lv_at hl 0 rfl) ?_
      refine p_get hC hK hM 0 rfl in_X0 rfl 4 (by decide) q223 (fun x h => h) rfl dX0_as_24 ?_
      refine p_get hC hK hM 1 rfl in_X1 rfl 8 (by decide) q168 (fun x h => h) rfl dX0_as_27 ?_
      refine lv_iload_n hC.1 hC.2.1 dX0_as_30 rfl (lv_at hl 1 rfl) ?_
      refine p_cFe (L' := [_, _, _, _]) hC hK hM (hM.at 2 rfl) rfl (cj_get l κ _ (rd 8) mc ea mm lf j a (hM.at 2 rfl) hj (by omega) hfq) (va_cwF 1 hC.2.2.2.2 (lw_F q1116 q904 q906 q67 q908) rfl rfl rfl (hK.1.2.2.2 _ (List.mem_of_getElem? (i := 2) (rfl : nFw[2]? = some _))) (by decide +kernel) ⟨(Nat.le_of_ble_eq_true rfl), (Nat.le_of_ble_eq_true rfl)⟩) rfl hl.1 rfl (lv_room (Nat.le_of_ble_eq_true rfl)) dX0_as_31 ⟨(Nat.le_of_ble_eq_true rfl), (Nat.le_of_ble_eq_true rfl)⟩ rfl hM.2 (fun H locs hM => ?_)
      refine v_cn hC hK hM (kd := 4) (hM.at 3 rfl) (by decide) (by decide) dX0_as_36 ?_
      refine lv_astore_n (lv' := [(3, _), (0, _), (1, _), (2, _)]) hC.1 hC.2.1 dX0_as_39 rfl hl (by decide) rfl (fun ls hl => ?_)
      refine lv_iload_n hC.1 hC.2.1 dX0_as_40 rfl (lv_at hl 3 rfl) ?_
      refine lv_if_ne (tgt := 48) hC.1 hC.2.1 dX0_as_41 (by decide) (fun c3 => ?_) (fun c3 => ?_)
      ·
        skip
        refine lv_iload_n hC.1 hC.2.1 dX0_as_48 rfl (lv_at hl 3 rfl) ?_
        refine lv_iconst (v := 1) hC.1 hC.2.1 dX0_as_49 (by decide) ?_
        refine lv_icmp_ne (tgt := 60) hC.1 hC.2.1 dX0_as_50 (by decide) (fun c4 => ?_) (fun c4 => ?_)
        ·
          skip
          refine lv_iload_n hC.1 hC.2.1 dX0_as_60 rfl (lv_at hl 3 rfl) ?_
          refine lv_iconst (v := 2) hC.1 hC.2.1 dX0_as_61 (by decide) ?_
          refine lv_icmp_ne (tgt := 72) hC.1 hC.2.1 dX0_as_62 (by decide) (fun c5 => ?_) (fun c5 => ?_)
          ·
            skip
            refine lv_iload_n hC.1 hC.2.1 dX0_as_72 rfl (lv_at hl 3 rfl) ?_
            refine lv_iconst (v := 3) hC.1 hC.2.1 dX0_as_73 (by decide) ?_
            refine lv_icmp_ne (tgt := 84) hC.1 hC.2.1 dX0_as_74 (by decide) (fun c6 => ?_) (fun c6 => ?_)
            ·
              skip
              exact absurd rfl c6
            ·
              skip
              refine lv_aload_n hC.1 hC.2.1 dX0_as_77 rfl (lv_at hl 0 rfl) ?_
              refine p_castT (x := RX12) (y := RX11) hC hK hM htl hl.1 (hM.at 3 rfl) rfl rfl q775 (List.mem_of_getElem? (i := 12) rfl) (by decide) (by decide) htab 0 (hpc := 112) (ct := 303) (hAt_of rfl) (by decide) q1140 (hK.1.2.1 _ q1152 rfl) (Nat.le_of_ble_eq_true rfl) (Nat.le_of_ble_eq_true rfl) (Nat.le_of_ble_eq_true rfl) (Nat.le_of_ble_eq_true rfl) dX0_as_78 (fun zx H locs hM => ?_)
              refine lv_astore (lv' := [(4, _), (3, _), (0, _), (1, _), (2, _)]) hC.1 hC.2.1 dX0_as_112 hl (by decide) rfl (fun ls hl => ?_)
              refine p_new (L' := fun q => [_, _, _, _, _]) hC hK hM (ci := 4) in_X4 tyX4 tyX4_ok q260 q273 q72 rfl (fs := [.null, .null, .null, .null, .null, .int 0, .int 0]) (by decide) (Nat.le_of_ble_eq_true rfl) (Nat.le_of_ble_eq_true rfl) dX0_as_114 (fun q => rfl) (fun q_7 H hq_7 hM => ?_)
              refine lv_dup hC.1 hC.2.1 dX0_as_117 rfl ?_
              refine lv_iconst (v := 3) hC.1 hC.2.1 dX0_as_118 (by decide) ?_
              refine p_cIv (L' := [_, _, _, _, _]) hC hK hM (cx_fn l κ _ q_7 3 (hM.at 4 rfl)) (cwI 1 hC.2.2.2.2 (lw_meth q314) rfl rfl rfl (hC.2.2.2.2 _ q72) (hC.2.2.2.2 _ q312) (hC.2.2.2.2 _ q313) rfl (by decide +kernel) ⟨(Nat.le_of_ble_eq_true rfl), (Nat.le_of_ble_eq_true rfl)⟩) rfl hl.1 rfl (lv_room (Nat.le_of_ble_eq_true rfl)) dX0_as_119 ⟨(Nat.le_of_ble_eq_true rfl), (Nat.le_of_ble_eq_true rfl)⟩ (oups_set hM.2 (i := 4) rfl) (oad_nd hM.2 (i := 4) rfl rfl) (fun H locs hM => ?_)
              refine p_thrC hC hK hM htab 2 (hpc := 123) (ct := 71) (hAt_of rfl) (by decide) q260 (hM.at 4 rfl) rfl (hK.1.2.1 _ q274 rfl) dX0_as_122 ?_
              refine lv_astore_n (lv' := [(3, _), (4, _), (0, _), (1, _), (2, _)]) hC.1 hC.2.1 dX0_as_123 rfl hl (by decide) rfl (fun ls hl => ?_)
              refine lv_aload_n hC.1 hC.2.1 dX0_as_124 rfl (lv_at hl 2 rfl) ?_
              refine lv_aload_n hC.1 hC.2.1 dX0_as_125 rfl (lv_at hl 0 rfl) ?_
              refine p_cVe (L' := [_, _, _, _, _]) hC hK hM (hM.at 0 rfl) rfl (cn_found l κ _ no cv ad g cw q_7 3 (hM.at 0 rfl) (hM.at 4 rfl)) (cwV 1 hC.2.2.2.2 (lw_V q356 q358 qs2 q63 q359) rfl rfl rfl (by decide +kernel) ⟨(Nat.le_of_ble_eq_true rfl), (Nat.le_of_ble_eq_true rfl)⟩) rfl hl.1 rfl (lv_room (Nat.le_of_ble_eq_true rfl)) dX0_as_126 ⟨(Nat.le_of_ble_eq_true rfl), (Nat.le_of_ble_eq_true rfl)⟩ (oups_set hM.2 (i := 0) rfl) (oad_nd hM.2 (i := 0) rfl rfl) (fun H locs hM => ?_)
              refine W.widen (k := 4) (n := 817) (Nat.le_of_ble_eq_true rfl) (Nat.le_of_ble_eq_true rfl) ?_
              refine p_iret hC hr hlocks hM dX0_as_129 ?_
              refine ⟨rfl, q_7, hq_7, ?_⟩
              rw [oups, oups, oups, oups, oups, oups, ask_end hN hR hls hA hq_7]
          ·
            skip
            exact absurd c5 (by decide)
        ·
          skip
          exact absurd c4 (by decide)
      ·
        skip
        exact absurd c3 (by decide)
    ·
      skip
      exact absurd (c2 : bI _ = 0) (by decide)

set_option maxHeartbeats 400000 in
set_option maxRecDepth 100000 in
theorem cn_asT_12_5 (l : Launch) (κ : Nat → Nat) (O : gO) (no : Nat) (cv : Nat → Int32) (ad : Nat → Nat) (g : Nat → Nat → Option Nat) (cw : Nat → Nat → Int32) (rx : Nat → Int32) (rd : Nat → Nat) (rw : Nat → Nat → Int32) (mc : Int32) (ea mm : Nat) (lf : Nat → Option Nat) (a j : Nat) (mv : Nat → Int32) (hN : O no = some (nsU cv ad g cw)) (hR : O (ad 4) = some (rdU rx rd rw)) (htl : l.stackTraces = false) (hls : O (rd 8) = some (lsU mc ea (nI mm) (lar lf))) (hj : j < mm) (hmm : mm ≤ 5) (hfq : lf j = some a) (hA : O a = some (cU 12 mv (fun _ => 0) aNo)) : oW l κ yX0_as cX0_as 5 (some .int) [(40, 111, 112, 303), (23, 111, 123, 71), (112, 123, 123, 71)] ({ frames := 7, cells := 4, slots := 817, locals := 10260 }) [.ref no, .int (nI j), .int 5] O (fun rv O1 => rv = some (.int (-1000013)) ∧ ∃ z, O z = none ∧ O1 = oup (oup O z (fnU 3)) no (nsU (upd cv 10 3) ad g cw)) := by
  intro D ac A
  refine o_bodyW (own := RX0) rfl (by decide) (Nat.le_of_ble_eq_true rfl) ?_
  intro p e s m args below meth c ls hC hr hlocks hK hM hl htab
  have hl : lv_has ls 5 [(0, .ref no), (1, .int (nI j)), (2, .int 5)] := hl
  have hM := PS.of hM [(no, nsU cv ad g cw), (ad 4, rdU rx rd rw), (rd 8, lsU mc ea (nI mm) (lar lf)), (a, cU 12 mv (fun _ => 0) aNo)] ⟨hN, hR, hls, hA, trivial⟩ (by simp only [oad, List.map, List.nodup_cons, List.mem_cons, List.mem_singleton, List.not_mem_nil, not_or, or_false, not_false_eq_true, List.nodup_nil, and_true]; exact ⟨⟨o_ne hN hR (by decide), o_ne hN hls (by decide), o_ne hN hA (by decide)⟩, ⟨o_ne hR hls (by decide), o_ne hR hA (by decide)⟩, o_ne hls hA (by decide)⟩)
  refine lv_aload_n hC.1 hC.2.1 dX0_as_0 rfl (lv_at hl 0 rfl) ?_
  refine lv_iload_n hC.1 hC.2.1 dX0_as_1 rfl (lv_at hl 1 rfl) ?_
  refine p_cVe (L' := [_, _, _, _]) hC hK hM (hM.at 0 rfl) rfl (cn_isMover l κ _ no cv ad g cw rx rd rw mc ea mm (lar lf) (nI j) (hM.at 0 rfl) (hM.at 1 rfl) (hM.at 2 rfl)) (cwV 1 hC.2.2.2.2 (lw_V q1109 q1111 qs25 q63 q1112) rfl rfl rfl (by decide +kernel) ⟨(Nat.le_of_ble_eq_true rfl), (Nat.le_of_ble_eq_true rfl)⟩) rfl hl.1 rfl (lv_room (Nat.le_of_ble_eq_true rfl)) dX0_as_2 ⟨(Nat.le_of_ble_eq_true rfl), (Nat.le_of_ble_eq_true rfl)⟩ rfl hM.2 (fun H locs hM => ?_)
  refine lv_if_eq (tgt := 20) hC.1 hC.2.1 dX0_as_5 (by decide) (fun c1 => ?_) (fun c1 => ?_)
  ·
    skip
    exact absurd (c1 : bI _ = 0) (by rw [bI_t ⟨nI_pos' (by omega), by rw [show mm = (mm - 1) + 1 by omega, nI_pred]; exact nI_le (by omega) (by omega)⟩]; decide)
  ·
    skip
    refine lv_iload_n hC.1 hC.2.1 dX0_as_8 rfl (lv_at hl 2 rfl) ?_
    refine lv_i2l hC.1 hC.2.1 dX0_as_9 rfl ?_
    refine lv_lconst (v := 0) hC.1 hC.2.1 dX0_as_10 (by decide) ?_
    refine lv_ldc2 hC.1 hC.2.1 hC.2.2.2.1 (hC.2.2.2.2 _ q1154) dX0_as_11 ?_
    refine s_ci hC ((cc_isIn l (a := 0) (b := 5) rfl rfl rfl)) (va_cwS 3 hC.2.2.2.2 (lw_S q265 q266 q63 q267) rfl rfl rfl (by decide +kernel) ⟨(Nat.le_of_ble_eq_true rfl), (Nat.le_of_ble_eq_true rfl)⟩) rfl hl.1 rfl (lv_room (Nat.le_of_ble_eq_true rfl)) dX0_as_14 ⟨(Nat.le_of_ble_eq_true rfl), (Nat.le_of_ble_eq_true rfl)⟩ ?_
    refine lv_if_ne (tgt := 23) hC.1 hC.2.1 dX0_as_17 (by decide) (fun c2 => ?_) (fun c2 => ?_)
    ·
      skip
      refine lv_aload_n hC.1 hC.2.1 dX0_as_23 rfl (lv_at hl 0 rfl) ?_
      refine p_get hC hK hM 0 rfl in_X0 rfl 4 (by decide) q223 (fun x h => h) rfl dX0_as_24 ?_
      refine p_get hC hK hM 1 rfl in_X1 rfl 8 (by decide) q168 (fun x h => h) rfl dX0_as_27 ?_
      refine lv_iload_n hC.1 hC.2.1 dX0_as_30 rfl (lv_at hl 1 rfl) ?_
      refine p_cFe (L' := [_, _, _, _]) hC hK hM (hM.at 2 rfl) rfl (cj_get l κ _ (rd 8) mc ea mm lf j a (hM.at 2 rfl) hj (by omega) hfq) (va_cwF 1 hC.2.2.2.2 (lw_F q1116 q904 q906 q67 q908) rfl rfl rfl (hK.1.2.2.2 _ (List.mem_of_getElem? (i := 2) (rfl : nFw[2]? = some _))) (by decide +kernel) ⟨(Nat.le_of_ble_eq_true rfl), (Nat.le_of_ble_eq_true rfl)⟩) rfl hl.1 rfl (lv_room (Nat.le_of_ble_eq_true rfl)) dX0_as_31 ⟨(Nat.le_of_ble_eq_true rfl), (Nat.le_of_ble_eq_true rfl)⟩ rfl hM.2 (fun H locs hM => ?_)
      refine v_cn hC hK hM (kd := 4) (hM.at 3 rfl) (by decide) (by decide) dX0_as_36 ?_
      refine lv_astore_n (lv' := [(3, _), (0, _), (1, _), (2, _)]) hC.1 hC.2.1 dX0_as_39 rfl hl (by decide) rfl (fun ls hl => ?_)
      refine lv_iload_n hC.1 hC.2.1 dX0_as_40 rfl (lv_at hl 3 rfl) ?_
      refine lv_if_ne (tgt := 48) hC.1 hC.2.1 dX0_as_41 (by decide) (fun c3 => ?_) (fun c3 => ?_)
      ·
        skip
        refine lv_iload_n hC.1 hC.2.1 dX0_as_48 rfl (lv_at hl 3 rfl) ?_
        refine lv_iconst (v := 1) hC.1 hC.2.1 dX0_as_49 (by decide) ?_
        refine lv_icmp_ne (tgt := 60) hC.1 hC.2.1 dX0_as_50 (by decide) (fun c4 => ?_) (fun c4 => ?_)
        ·
          skip
          refine lv_iload_n hC.1 hC.2.1 dX0_as_60 rfl (lv_at hl 3 rfl) ?_
          refine lv_iconst (v := 2) hC.1 hC.2.1 dX0_as_61 (by decide) ?_
          refine lv_icmp_ne (tgt := 72) hC.1 hC.2.1 dX0_as_62 (by decide) (fun c5 => ?_) (fun c5 => ?_)
          ·
            skip
            refine lv_iload_n hC.1 hC.2.1 dX0_as_72 rfl (lv_at hl 3 rfl) ?_
            refine lv_iconst (v := 3) hC.1 hC.2.1 dX0_as_73 (by decide) ?_
            refine lv_icmp_ne (tgt := 84) hC.1 hC.2.1 dX0_as_74 (by decide) (fun c6 => ?_) (fun c6 => ?_)
            ·
              skip
              refine lv_iload_n hC.1 hC.2.1 dX0_as_84 rfl (lv_at hl 3 rfl) ?_
              refine lv_iconst (v := 4) hC.1 hC.2.1 dX0_as_85 (by decide) ?_
              refine lv_icmp_ne (tgt := 96) hC.1 hC.2.1 dX0_as_86 (by decide) (fun c7 => ?_) (fun c7 => ?_)
              ·
                skip
                refine lv_aload_n hC.1 hC.2.1 dX0_as_96 rfl (lv_at hl 0 rfl) ?_
                refine p_castT (x := RX12) (y := RX13) hC hK hM htl hl.1 (hM.at 3 rfl) rfl rfl q797 (List.mem_of_getElem? (i := 13) rfl) (by decide) (by decide) htab 0 (hpc := 112) (ct := 303) (hAt_of rfl) (by decide) q1140 (hK.1.2.1 _ q1152 rfl) (Nat.le_of_ble_eq_true rfl) (Nat.le_of_ble_eq_true rfl) (Nat.le_of_ble_eq_true rfl) (Nat.le_of_ble_eq_true rfl) dX0_as_97 (fun zx H locs hM => ?_)
                refine lv_astore (lv' := [(4, _), (3, _), (0, _), (1, _), (2, _)]) hC.1 hC.2.1 dX0_as_112 hl (by decide) rfl (fun ls hl => ?_)
                refine p_new (L' := fun q => [_, _, _, _, _]) hC hK hM (ci := 4) in_X4 tyX4 tyX4_ok q260 q273 q72 rfl (fs := [.null, .null, .null, .null, .null, .int 0, .int 0]) (by decide) (Nat.le_of_ble_eq_true rfl) (Nat.le_of_ble_eq_true rfl) dX0_as_114 (fun q => rfl) (fun q_8 H hq_8 hM => ?_)
                refine lv_dup hC.1 hC.2.1 dX0_as_117 rfl ?_
                refine lv_iconst (v := 3) hC.1 hC.2.1 dX0_as_118 (by decide) ?_
                refine p_cIv (L' := [_, _, _, _, _]) hC hK hM (cx_fn l κ _ q_8 3 (hM.at 4 rfl)) (cwI 1 hC.2.2.2.2 (lw_meth q314) rfl rfl rfl (hC.2.2.2.2 _ q72) (hC.2.2.2.2 _ q312) (hC.2.2.2.2 _ q313) rfl (by decide +kernel) ⟨(Nat.le_of_ble_eq_true rfl), (Nat.le_of_ble_eq_true rfl)⟩) rfl hl.1 rfl (lv_room (Nat.le_of_ble_eq_true rfl)) dX0_as_119 ⟨(Nat.le_of_ble_eq_true rfl), (Nat.le_of_ble_eq_true rfl)⟩ (oups_set hM.2 (i := 4) rfl) (oad_nd hM.2 (i := 4) rfl rfl) (fun H locs hM => ?_)
                refine p_thrC hC hK hM htab 2 (hpc := 123) (ct := 71) (hAt_of rfl) (by decide) q260 (hM.at 4 rfl) rfl (hK.1.2.1 _ q274 rfl) dX0_as_122 ?_
                refine lv_astore_n (lv' := [(3, _), (4, _), (0, _), (1, _), (2, _)]) hC.1 hC.2.1 dX0_as_123 rfl hl (by decide) rfl (fun ls hl => ?_)
                refine lv_aload_n hC.1 hC.2.1 dX0_as_124 rfl (lv_at hl 2 rfl) ?_
                refine lv_aload_n hC.1 hC.2.1 dX0_as_125 rfl (lv_at hl 0 rfl) ?_
                refine p_cVe (L' := [_, _, _, _, _]) hC hK hM (hM.at 0 rfl) rfl (cn_found l κ _ no cv ad g cw q_8 3 (hM.at 0 rfl) (hM.at 4 rfl)) (cwV 1 hC.2.2.2.2 (lw_V q356 q358 qs2 q63 q359) rfl rfl rfl (by decide +kernel) ⟨(Nat.le_of_ble_eq_true rfl), (Nat.le_of_ble_eq_true rfl)⟩) rfl hl.1 rfl (lv_room (Nat.le_of_ble_eq_true rfl)) dX0_as_126 ⟨(Nat.le_of_ble_eq_true rfl), (Nat.le_of_ble_eq_true rfl)⟩ (oups_set hM.2 (i := 0) rfl) (oad_nd hM.2 (i := 0) rfl rfl) (fun H locs hM => ?_)
                refine W.widen (k := 4) (n := 817) (Nat.le_of_ble_eq_true rfl) (Nat.le_of_ble_eq_true rfl) ?_
                refine p_iret hC hr hlocks hM dX0_as_129 ?_
                refine ⟨rfl, q_8, hq_8, ?_⟩
                rw [oups, oups, oups, oups, oups, oups, ask_end hN hR hls hA hq_8]
              ·
                skip
                exact absurd c7 (by decide)
            ·
              skip
              exact absurd c6 (by decide)
          ·
            skip
            exact absurd c5 (by decide)
        ·
          skip
          exact absurd c4 (by decide)
      ·
        skip
        exact absurd c3 (by decide)
    ·
      skip
      exact absurd (c2 : bI _ = 0) (by decide)

set_option maxHeartbeats 400000 in
set_option maxRecDepth 100000 in
theorem cn_asT_13_1 (l : Launch) (κ : Nat → Nat) (O : gO) (no : Nat) (cv : Nat → Int32) (ad : Nat → Nat) (g : Nat → Nat → Option Nat) (cw : Nat → Nat → Int32) (rx : Nat → Int32) (rd : Nat → Nat) (rw : Nat → Nat → Int32) (mc : Int32) (ea mm : Nat) (lf : Nat → Option Nat) (a j : Nat) (mv : Nat → Int32) (hN : O no = some (nsU cv ad g cw)) (hR : O (ad 4) = some (rdU rx rd rw)) (htl : l.stackTraces = false) (hls : O (rd 8) = some (lsU mc ea (nI mm) (lar lf))) (hj : j < mm) (hmm : mm ≤ 5) (hfq : lf j = some a) (hA : O a = some (cU 13 mv (fun _ => 0) aNo)) : oW l κ yX0_as cX0_as 5 (some .int) [(40, 111, 112, 303), (23, 111, 123, 71), (112, 123, 123, 71)] ({ frames := 7, cells := 4, slots := 817, locals := 10260 }) [.ref no, .int (nI j), .int 1] O (fun rv O1 => rv = some (.int (-1000013)) ∧ ∃ z, O z = none ∧ O1 = oup (oup O z (fnU 3)) no (nsU (upd cv 10 3) ad g cw)) := by
  intro D ac A
  refine o_bodyW (own := RX0) rfl (by decide) (Nat.le_of_ble_eq_true rfl) ?_
  intro p e s m args below meth c ls hC hr hlocks hK hM hl htab
  have hl : lv_has ls 5 [(0, .ref no), (1, .int (nI j)), (2, .int 1)] := hl
  have hM := PS.of hM [(no, nsU cv ad g cw), (ad 4, rdU rx rd rw), (rd 8, lsU mc ea (nI mm) (lar lf)), (a, cU 13 mv (fun _ => 0) aNo)] ⟨hN, hR, hls, hA, trivial⟩ (by simp only [oad, List.map, List.nodup_cons, List.mem_cons, List.mem_singleton, List.not_mem_nil, not_or, or_false, not_false_eq_true, List.nodup_nil, and_true]; exact ⟨⟨o_ne hN hR (by decide), o_ne hN hls (by decide), o_ne hN hA (by decide)⟩, ⟨o_ne hR hls (by decide), o_ne hR hA (by decide)⟩, o_ne hls hA (by decide)⟩)
  refine lv_aload_n hC.1 hC.2.1 dX0_as_0 rfl (lv_at hl 0 rfl) ?_
  refine lv_iload_n hC.1 hC.2.1 dX0_as_1 rfl (lv_at hl 1 rfl) ?_
  refine p_cVe (L' := [_, _, _, _]) hC hK hM (hM.at 0 rfl) rfl (cn_isMover l κ _ no cv ad g cw rx rd rw mc ea mm (lar lf) (nI j) (hM.at 0 rfl) (hM.at 1 rfl) (hM.at 2 rfl)) (cwV 1 hC.2.2.2.2 (lw_V q1109 q1111 qs25 q63 q1112) rfl rfl rfl (by decide +kernel) ⟨(Nat.le_of_ble_eq_true rfl), (Nat.le_of_ble_eq_true rfl)⟩) rfl hl.1 rfl (lv_room (Nat.le_of_ble_eq_true rfl)) dX0_as_2 ⟨(Nat.le_of_ble_eq_true rfl), (Nat.le_of_ble_eq_true rfl)⟩ rfl hM.2 (fun H locs hM => ?_)
  refine lv_if_eq (tgt := 20) hC.1 hC.2.1 dX0_as_5 (by decide) (fun c1 => ?_) (fun c1 => ?_)
  ·
    skip
    exact absurd (c1 : bI _ = 0) (by rw [bI_t ⟨nI_pos' (by omega), by rw [show mm = (mm - 1) + 1 by omega, nI_pred]; exact nI_le (by omega) (by omega)⟩]; decide)
  ·
    skip
    refine lv_iload_n hC.1 hC.2.1 dX0_as_8 rfl (lv_at hl 2 rfl) ?_
    refine lv_i2l hC.1 hC.2.1 dX0_as_9 rfl ?_
    refine lv_lconst (v := 0) hC.1 hC.2.1 dX0_as_10 (by decide) ?_
    refine lv_ldc2 hC.1 hC.2.1 hC.2.2.2.1 (hC.2.2.2.2 _ q1154) dX0_as_11 ?_
    refine s_ci hC ((cc_isIn l (a := 0) (b := 5) rfl rfl rfl)) (va_cwS 3 hC.2.2.2.2 (lw_S q265 q266 q63 q267) rfl rfl rfl (by decide +kernel) ⟨(Nat.le_of_ble_eq_true rfl), (Nat.le_of_ble_eq_true rfl)⟩) rfl hl.1 rfl (lv_room (Nat.le_of_ble_eq_true rfl)) dX0_as_14 ⟨(Nat.le_of_ble_eq_true rfl), (Nat.le_of_ble_eq_true rfl)⟩ ?_
    refine lv_if_ne (tgt := 23) hC.1 hC.2.1 dX0_as_17 (by decide) (fun c2 => ?_) (fun c2 => ?_)
    ·
      skip
      refine lv_aload_n hC.1 hC.2.1 dX0_as_23 rfl (lv_at hl 0 rfl) ?_
      refine p_get hC hK hM 0 rfl in_X0 rfl 4 (by decide) q223 (fun x h => h) rfl dX0_as_24 ?_
      refine p_get hC hK hM 1 rfl in_X1 rfl 8 (by decide) q168 (fun x h => h) rfl dX0_as_27 ?_
      refine lv_iload_n hC.1 hC.2.1 dX0_as_30 rfl (lv_at hl 1 rfl) ?_
      refine p_cFe (L' := [_, _, _, _]) hC hK hM (hM.at 2 rfl) rfl (cj_get l κ _ (rd 8) mc ea mm lf j a (hM.at 2 rfl) hj (by omega) hfq) (va_cwF 1 hC.2.2.2.2 (lw_F q1116 q904 q906 q67 q908) rfl rfl rfl (hK.1.2.2.2 _ (List.mem_of_getElem? (i := 2) (rfl : nFw[2]? = some _))) (by decide +kernel) ⟨(Nat.le_of_ble_eq_true rfl), (Nat.le_of_ble_eq_true rfl)⟩) rfl hl.1 rfl (lv_room (Nat.le_of_ble_eq_true rfl)) dX0_as_31 ⟨(Nat.le_of_ble_eq_true rfl), (Nat.le_of_ble_eq_true rfl)⟩ rfl hM.2 (fun H locs hM => ?_)
      refine v_cn hC hK hM (kd := 5) (hM.at 3 rfl) (by decide) (by decide) dX0_as_36 ?_
      refine lv_astore_n (lv' := [(3, _), (0, _), (1, _), (2, _)]) hC.1 hC.2.1 dX0_as_39 rfl hl (by decide) rfl (fun ls hl => ?_)
      refine lv_iload_n hC.1 hC.2.1 dX0_as_40 rfl (lv_at hl 3 rfl) ?_
      refine lv_if_ne (tgt := 48) hC.1 hC.2.1 dX0_as_41 (by decide) (fun c3 => ?_) (fun c3 => ?_)
      ·
        skip
        refine lv_iload_n hC.1 hC.2.1 dX0_as_48 rfl (lv_at hl 3 rfl) ?_
        refine lv_iconst (v := 1) hC.1 hC.2.1 dX0_as_49 (by decide) ?_
        refine lv_icmp_ne (tgt := 60) hC.1 hC.2.1 dX0_as_50 (by decide) (fun c4 => ?_) (fun c4 => ?_)
        ·
          skip
          exact absurd rfl c4
        ·
          skip
          refine lv_aload_n hC.1 hC.2.1 dX0_as_53 rfl (lv_at hl 0 rfl) ?_
          refine p_castT (x := RX13) (y := RX9) hC hK hM htl hl.1 (hM.at 3 rfl) rfl rfl q735 (List.mem_of_getElem? (i := 14) rfl) (by decide) (by decide) htab 0 (hpc := 112) (ct := 303) (hAt_of rfl) (by decide) q1140 (hK.1.2.1 _ q1152 rfl) (Nat.le_of_ble_eq_true rfl) (Nat.le_of_ble_eq_true rfl) (Nat.le_of_ble_eq_true rfl) (Nat.le_of_ble_eq_true rfl) dX0_as_54 (fun zx H locs hM => ?_)
          refine lv_astore (lv' := [(4, _), (3, _), (0, _), (1, _), (2, _)]) hC.1 hC.2.1 dX0_as_112 hl (by decide) rfl (fun ls hl => ?_)
          refine p_new (L' := fun q => [_, _, _, _, _]) hC hK hM (ci := 4) in_X4 tyX4 tyX4_ok q260 q273 q72 rfl (fs := [.null, .null, .null, .null, .null, .int 0, .int 0]) (by decide) (Nat.le_of_ble_eq_true rfl) (Nat.le_of_ble_eq_true rfl) dX0_as_114 (fun q => rfl) (fun q_5 H hq_5 hM => ?_)
          refine lv_dup hC.1 hC.2.1 dX0_as_117 rfl ?_
          refine lv_iconst (v := 3) hC.1 hC.2.1 dX0_as_118 (by decide) ?_
          refine p_cIv (L' := [_, _, _, _, _]) hC hK hM (cx_fn l κ _ q_5 3 (hM.at 4 rfl)) (cwI 1 hC.2.2.2.2 (lw_meth q314) rfl rfl rfl (hC.2.2.2.2 _ q72) (hC.2.2.2.2 _ q312) (hC.2.2.2.2 _ q313) rfl (by decide +kernel) ⟨(Nat.le_of_ble_eq_true rfl), (Nat.le_of_ble_eq_true rfl)⟩) rfl hl.1 rfl (lv_room (Nat.le_of_ble_eq_true rfl)) dX0_as_119 ⟨(Nat.le_of_ble_eq_true rfl), (Nat.le_of_ble_eq_true rfl)⟩ (oups_set hM.2 (i := 4) rfl) (oad_nd hM.2 (i := 4) rfl rfl) (fun H locs hM => ?_)
          refine p_thrC hC hK hM htab 2 (hpc := 123) (ct := 71) (hAt_of rfl) (by decide) q260 (hM.at 4 rfl) rfl (hK.1.2.1 _ q274 rfl) dX0_as_122 ?_
          refine lv_astore_n (lv' := [(3, _), (4, _), (0, _), (1, _), (2, _)]) hC.1 hC.2.1 dX0_as_123 rfl hl (by decide) rfl (fun ls hl => ?_)
          refine lv_aload_n hC.1 hC.2.1 dX0_as_124 rfl (lv_at hl 2 rfl) ?_
          refine lv_aload_n hC.1 hC.2.1 dX0_as_125 rfl (lv_at hl 0 rfl) ?_
          refine p_cVe (L' := [_, _, _, _, _]) hC hK hM (hM.at 0 rfl) rfl (cn_found l κ _ no cv ad g cw q_5 3 (hM.at 0 rfl) (hM.at 4 rfl)) (cwV 1 hC.2.2.2.2 (lw_V q356 q358 qs2 q63 q359) rfl rfl rfl (by decide +kernel) ⟨(Nat.le_of_ble_eq_true rfl), (Nat.le_of_ble_eq_true rfl)⟩) rfl hl.1 rfl (lv_room (Nat.le_of_ble_eq_true rfl)) dX0_as_126 ⟨(Nat.le_of_ble_eq_true rfl), (Nat.le_of_ble_eq_true rfl)⟩ (oups_set hM.2 (i := 0) rfl) (oad_nd hM.2 (i := 0) rfl rfl) (fun H locs hM => ?_)
          refine W.widen (k := 4) (n := 817) (Nat.le_of_ble_eq_true rfl) (Nat.le_of_ble_eq_true rfl) ?_
          refine p_iret hC hr hlocks hM dX0_as_129 ?_
          refine ⟨rfl, q_5, hq_5, ?_⟩
          rw [oups, oups, oups, oups, oups, oups, ask_end hN hR hls hA hq_5]
      ·
        skip
        exact absurd c3 (by decide)
    ·
      skip
      exact absurd (c2 : bI _ = 0) (by decide)

set_option maxHeartbeats 400000 in
set_option maxRecDepth 100000 in
theorem cn_asT_13_2 (l : Launch) (κ : Nat → Nat) (O : gO) (no : Nat) (cv : Nat → Int32) (ad : Nat → Nat) (g : Nat → Nat → Option Nat) (cw : Nat → Nat → Int32) (rx : Nat → Int32) (rd : Nat → Nat) (rw : Nat → Nat → Int32) (mc : Int32) (ea mm : Nat) (lf : Nat → Option Nat) (a j : Nat) (mv : Nat → Int32) (hN : O no = some (nsU cv ad g cw)) (hR : O (ad 4) = some (rdU rx rd rw)) (htl : l.stackTraces = false) (hls : O (rd 8) = some (lsU mc ea (nI mm) (lar lf))) (hj : j < mm) (hmm : mm ≤ 5) (hfq : lf j = some a) (hA : O a = some (cU 13 mv (fun _ => 0) aNo)) : oW l κ yX0_as cX0_as 5 (some .int) [(40, 111, 112, 303), (23, 111, 123, 71), (112, 123, 123, 71)] ({ frames := 7, cells := 4, slots := 817, locals := 10260 }) [.ref no, .int (nI j), .int 2] O (fun rv O1 => rv = some (.int (-1000013)) ∧ ∃ z, O z = none ∧ O1 = oup (oup O z (fnU 3)) no (nsU (upd cv 10 3) ad g cw)) := by
  intro D ac A
  refine o_bodyW (own := RX0) rfl (by decide) (Nat.le_of_ble_eq_true rfl) ?_
  intro p e s m args below meth c ls hC hr hlocks hK hM hl htab
  have hl : lv_has ls 5 [(0, .ref no), (1, .int (nI j)), (2, .int 2)] := hl
  have hM := PS.of hM [(no, nsU cv ad g cw), (ad 4, rdU rx rd rw), (rd 8, lsU mc ea (nI mm) (lar lf)), (a, cU 13 mv (fun _ => 0) aNo)] ⟨hN, hR, hls, hA, trivial⟩ (by simp only [oad, List.map, List.nodup_cons, List.mem_cons, List.mem_singleton, List.not_mem_nil, not_or, or_false, not_false_eq_true, List.nodup_nil, and_true]; exact ⟨⟨o_ne hN hR (by decide), o_ne hN hls (by decide), o_ne hN hA (by decide)⟩, ⟨o_ne hR hls (by decide), o_ne hR hA (by decide)⟩, o_ne hls hA (by decide)⟩)
  refine lv_aload_n hC.1 hC.2.1 dX0_as_0 rfl (lv_at hl 0 rfl) ?_
  refine lv_iload_n hC.1 hC.2.1 dX0_as_1 rfl (lv_at hl 1 rfl) ?_
  refine p_cVe (L' := [_, _, _, _]) hC hK hM (hM.at 0 rfl) rfl (cn_isMover l κ _ no cv ad g cw rx rd rw mc ea mm (lar lf) (nI j) (hM.at 0 rfl) (hM.at 1 rfl) (hM.at 2 rfl)) (cwV 1 hC.2.2.2.2 (lw_V q1109 q1111 qs25 q63 q1112) rfl rfl rfl (by decide +kernel) ⟨(Nat.le_of_ble_eq_true rfl), (Nat.le_of_ble_eq_true rfl)⟩) rfl hl.1 rfl (lv_room (Nat.le_of_ble_eq_true rfl)) dX0_as_2 ⟨(Nat.le_of_ble_eq_true rfl), (Nat.le_of_ble_eq_true rfl)⟩ rfl hM.2 (fun H locs hM => ?_)
  refine lv_if_eq (tgt := 20) hC.1 hC.2.1 dX0_as_5 (by decide) (fun c1 => ?_) (fun c1 => ?_)
  ·
    skip
    exact absurd (c1 : bI _ = 0) (by rw [bI_t ⟨nI_pos' (by omega), by rw [show mm = (mm - 1) + 1 by omega, nI_pred]; exact nI_le (by omega) (by omega)⟩]; decide)
  ·
    skip
    refine lv_iload_n hC.1 hC.2.1 dX0_as_8 rfl (lv_at hl 2 rfl) ?_
    refine lv_i2l hC.1 hC.2.1 dX0_as_9 rfl ?_
    refine lv_lconst (v := 0) hC.1 hC.2.1 dX0_as_10 (by decide) ?_
    refine lv_ldc2 hC.1 hC.2.1 hC.2.2.2.1 (hC.2.2.2.2 _ q1154) dX0_as_11 ?_
    refine s_ci hC ((cc_isIn l (a := 0) (b := 5) rfl rfl rfl)) (va_cwS 3 hC.2.2.2.2 (lw_S q265 q266 q63 q267) rfl rfl rfl (by decide +kernel) ⟨(Nat.le_of_ble_eq_true rfl), (Nat.le_of_ble_eq_true rfl)⟩) rfl hl.1 rfl (lv_room (Nat.le_of_ble_eq_true rfl)) dX0_as_14 ⟨(Nat.le_of_ble_eq_true rfl), (Nat.le_of_ble_eq_true rfl)⟩ ?_
    refine lv_if_ne (tgt := 23) hC.1 hC.2.1 dX0_as_17 (by decide) (fun c2 => ?_) (fun c2 => ?_)
    ·
      skip
      refine lv_aload_n hC.1 hC.2.1 dX0_as_23 rfl (lv_at hl 0 rfl) ?_
      refine p_get hC hK hM 0 rfl in_X0 rfl 4 (by decide) q223 (fun x h => h) rfl dX0_as_24 ?_
      refine p_get hC hK hM 1 rfl in_X1 rfl 8 (by decide) q168 (fun x h => h) rfl dX0_as_27 ?_
      refine lv_iload_n hC.1 hC.2.1 dX0_as_30 rfl (lv_at hl 1 rfl) ?_
      refine p_cFe (L' := [_, _, _, _]) hC hK hM (hM.at 2 rfl) rfl (cj_get l κ _ (rd 8) mc ea mm lf j a (hM.at 2 rfl) hj (by omega) hfq) (va_cwF 1 hC.2.2.2.2 (lw_F q1116 q904 q906 q67 q908) rfl rfl rfl (hK.1.2.2.2 _ (List.mem_of_getElem? (i := 2) (rfl : nFw[2]? = some _))) (by decide +kernel) ⟨(Nat.le_of_ble_eq_true rfl), (Nat.le_of_ble_eq_true rfl)⟩) rfl hl.1 rfl (lv_room (Nat.le_of_ble_eq_true rfl)) dX0_as_31 ⟨(Nat.le_of_ble_eq_true rfl), (Nat.le_of_ble_eq_true rfl)⟩ rfl hM.2 (fun H locs hM => ?_)
      refine v_cn hC hK hM (kd := 5) (hM.at 3 rfl) (by decide) (by decide) dX0_as_36 ?_
      refine lv_astore_n (lv' := [(3, _), (0, _), (1, _), (2, _)]) hC.1 hC.2.1 dX0_as_39 rfl hl (by decide) rfl (fun ls hl => ?_)
      refine lv_iload_n hC.1 hC.2.1 dX0_as_40 rfl (lv_at hl 3 rfl) ?_
      refine lv_if_ne (tgt := 48) hC.1 hC.2.1 dX0_as_41 (by decide) (fun c3 => ?_) (fun c3 => ?_)
      ·
        skip
        refine lv_iload_n hC.1 hC.2.1 dX0_as_48 rfl (lv_at hl 3 rfl) ?_
        refine lv_iconst (v := 1) hC.1 hC.2.1 dX0_as_49 (by decide) ?_
        refine lv_icmp_ne (tgt := 60) hC.1 hC.2.1 dX0_as_50 (by decide) (fun c4 => ?_) (fun c4 => ?_)
        ·
          skip
          refine lv_iload_n hC.1 hC.2.1 dX0_as_60 rfl (lv_at hl 3 rfl) ?_
          refine lv_iconst (v := 2) hC.1 hC.2.1 dX0_as_61 (by decide) ?_
          refine lv_icmp_ne (tgt := 72) hC.1 hC.2.1 dX0_as_62 (by decide) (fun c5 => ?_) (fun c5 => ?_)
          ·
            skip
            exact absurd rfl c5
          ·
            skip
            refine lv_aload_n hC.1 hC.2.1 dX0_as_65 rfl (lv_at hl 0 rfl) ?_
            refine p_castT (x := RX13) (y := RX10) hC hK hM htl hl.1 (hM.at 3 rfl) rfl rfl q764 (List.mem_of_getElem? (i := 15) rfl) (by decide) (by decide) htab 0 (hpc := 112) (ct := 303) (hAt_of rfl) (by decide) q1140 (hK.1.2.1 _ q1152 rfl) (Nat.le_of_ble_eq_true rfl) (Nat.le_of_ble_eq_true rfl) (Nat.le_of_ble_eq_true rfl) (Nat.le_of_ble_eq_true rfl) dX0_as_66 (fun zx H locs hM => ?_)
            refine lv_astore (lv' := [(4, _), (3, _), (0, _), (1, _), (2, _)]) hC.1 hC.2.1 dX0_as_112 hl (by decide) rfl (fun ls hl => ?_)
            refine p_new (L' := fun q => [_, _, _, _, _]) hC hK hM (ci := 4) in_X4 tyX4 tyX4_ok q260 q273 q72 rfl (fs := [.null, .null, .null, .null, .null, .int 0, .int 0]) (by decide) (Nat.le_of_ble_eq_true rfl) (Nat.le_of_ble_eq_true rfl) dX0_as_114 (fun q => rfl) (fun q_6 H hq_6 hM => ?_)
            refine lv_dup hC.1 hC.2.1 dX0_as_117 rfl ?_
            refine lv_iconst (v := 3) hC.1 hC.2.1 dX0_as_118 (by decide) ?_
            refine p_cIv (L' := [_, _, _, _, _]) hC hK hM (cx_fn l κ _ q_6 3 (hM.at 4 rfl)) (cwI 1 hC.2.2.2.2 (lw_meth q314) rfl rfl rfl (hC.2.2.2.2 _ q72) (hC.2.2.2.2 _ q312) (hC.2.2.2.2 _ q313) rfl (by decide +kernel) ⟨(Nat.le_of_ble_eq_true rfl), (Nat.le_of_ble_eq_true rfl)⟩) rfl hl.1 rfl (lv_room (Nat.le_of_ble_eq_true rfl)) dX0_as_119 ⟨(Nat.le_of_ble_eq_true rfl), (Nat.le_of_ble_eq_true rfl)⟩ (oups_set hM.2 (i := 4) rfl) (oad_nd hM.2 (i := 4) rfl rfl) (fun H locs hM => ?_)
            refine p_thrC hC hK hM htab 2 (hpc := 123) (ct := 71) (hAt_of rfl) (by decide) q260 (hM.at 4 rfl) rfl (hK.1.2.1 _ q274 rfl) dX0_as_122 ?_
            refine lv_astore_n (lv' := [(3, _), (4, _), (0, _), (1, _), (2, _)]) hC.1 hC.2.1 dX0_as_123 rfl hl (by decide) rfl (fun ls hl => ?_)
            refine lv_aload_n hC.1 hC.2.1 dX0_as_124 rfl (lv_at hl 2 rfl) ?_
            refine lv_aload_n hC.1 hC.2.1 dX0_as_125 rfl (lv_at hl 0 rfl) ?_
            refine p_cVe (L' := [_, _, _, _, _]) hC hK hM (hM.at 0 rfl) rfl (cn_found l κ _ no cv ad g cw q_6 3 (hM.at 0 rfl) (hM.at 4 rfl)) (cwV 1 hC.2.2.2.2 (lw_V q356 q358 qs2 q63 q359) rfl rfl rfl (by decide +kernel) ⟨(Nat.le_of_ble_eq_true rfl), (Nat.le_of_ble_eq_true rfl)⟩) rfl hl.1 rfl (lv_room (Nat.le_of_ble_eq_true rfl)) dX0_as_126 ⟨(Nat.le_of_ble_eq_true rfl), (Nat.le_of_ble_eq_true rfl)⟩ (oups_set hM.2 (i := 0) rfl) (oad_nd hM.2 (i := 0) rfl rfl) (fun H locs hM => ?_)
            refine W.widen (k := 4) (n := 817) (Nat.le_of_ble_eq_true rfl) (Nat.le_of_ble_eq_true rfl) ?_
            refine p_iret hC hr hlocks hM dX0_as_129 ?_
            refine ⟨rfl, q_6, hq_6, ?_⟩
            rw [oups, oups, oups, oups, oups, oups, ask_end hN hR hls hA hq_6]
        ·
          skip
          exact absurd c4 (by decide)
      ·
        skip
        exact absurd c3 (by decide)
    ·
      skip
      exact absurd (c2 : bI _ = 0) (by decide)

set_option maxHeartbeats 400000 in
set_option maxRecDepth 100000 in
theorem cn_asT_13_3 (l : Launch) (κ : Nat → Nat) (O : gO) (no : Nat) (cv : Nat → Int32) (ad : Nat → Nat) (g : Nat → Nat → Option Nat) (cw : Nat → Nat → Int32) (rx : Nat → Int32) (rd : Nat → Nat) (rw : Nat → Nat → Int32) (mc : Int32) (ea mm : Nat) (lf : Nat → Option Nat) (a j : Nat) (mv : Nat → Int32) (hN : O no = some (nsU cv ad g cw)) (hR : O (ad 4) = some (rdU rx rd rw)) (htl : l.stackTraces = false) (hls : O (rd 8) = some (lsU mc ea (nI mm) (lar lf))) (hj : j < mm) (hmm : mm ≤ 5) (hfq : lf j = some a) (hA : O a = some (cU 13 mv (fun _ => 0) aNo)) : oW l κ yX0_as cX0_as 5 (some .int) [(40, 111, 112, 303), (23, 111, 123, 71), (112, 123, 123, 71)] ({ frames := 7, cells := 4, slots := 817, locals := 10260 }) [.ref no, .int (nI j), .int 3] O (fun rv O1 => rv = some (.int (-1000013)) ∧ ∃ z, O z = none ∧ O1 = oup (oup O z (fnU 3)) no (nsU (upd cv 10 3) ad g cw)) := by
  intro D ac A
  refine o_bodyW (own := RX0) rfl (by decide) (Nat.le_of_ble_eq_true rfl) ?_
  intro p e s m args below meth c ls hC hr hlocks hK hM hl htab
  have hl : lv_has ls 5 [(0, .ref no), (1, .int (nI j)), (2, .int 3)] := hl
  have hM := PS.of hM [(no, nsU cv ad g cw), (ad 4, rdU rx rd rw), (rd 8, lsU mc ea (nI mm) (lar lf)), (a, cU 13 mv (fun _ => 0) aNo)] ⟨hN, hR, hls, hA, trivial⟩ (by simp only [oad, List.map, List.nodup_cons, List.mem_cons, List.mem_singleton, List.not_mem_nil, not_or, or_false, not_false_eq_true, List.nodup_nil, and_true]; exact ⟨⟨o_ne hN hR (by decide), o_ne hN hls (by decide), o_ne hN hA (by decide)⟩, ⟨o_ne hR hls (by decide), o_ne hR hA (by decide)⟩, o_ne hls hA (by decide)⟩)
  refine lv_aload_n hC.1 hC.2.1 dX0_as_0 rfl (lv_at hl 0 rfl) ?_
  refine lv_iload_n hC.1 hC.2.1 dX0_as_1 rfl (lv_at hl 1 rfl) ?_
  refine p_cVe (L' := [_, _, _, _]) hC hK hM (hM.at 0 rfl) rfl (cn_isMover l κ _ no cv ad g cw rx rd rw mc ea mm (lar lf) (nI j) (hM.at 0 rfl) (hM.at 1 rfl) (hM.at 2 rfl)) (cwV 1 hC.2.2.2.2 (lw_V q1109 q1111 qs25 q63 q1112) rfl rfl rfl (by decide +kernel) ⟨(Nat.le_of_ble_eq_true rfl), (Nat.le_of_ble_eq_true rfl)⟩) rfl hl.1 rfl (lv_room (Nat.le_of_ble_eq_true rfl)) dX0_as_2 ⟨(Nat.le_of_ble_eq_true rfl), (Nat.le_of_ble_eq_true rfl)⟩ rfl hM.2 (fun H locs hM => ?_)
  refine lv_if_eq (tgt := 20) hC.1 hC.2.1 dX0_as_5 (by decide) (fun c1 => ?_) (fun c1 => ?_)
  ·
    skip
    exact absurd (c1 : bI _ = 0) (by rw [bI_t ⟨nI_pos' (by omega), by rw [show mm = (mm - 1) + 1 by omega, nI_pred]; exact nI_le (by omega) (by omega)⟩]; decide)
  ·
    skip
    refine lv_iload_n hC.1 hC.2.1 dX0_as_8 rfl (lv_at hl 2 rfl) ?_
    refine lv_i2l hC.1 hC.2.1 dX0_as_9 rfl ?_
    refine lv_lconst (v := 0) hC.1 hC.2.1 dX0_as_10 (by decide) ?_
    refine lv_ldc2 hC.1 hC.2.1 hC.2.2.2.1 (hC.2.2.2.2 _ q1154) dX0_as_11 ?_
    refine s_ci hC ((cc_isIn l (a := 0) (b := 5) rfl rfl rfl)) (va_cwS 3 hC.2.2.2.2 (lw_S q265 q266 q63 q267) rfl rfl rfl (by decide +kernel) ⟨(Nat.le_of_ble_eq_true rfl), (Nat.le_of_ble_eq_true rfl)⟩) rfl hl.1 rfl (lv_room (Nat.le_of_ble_eq_true rfl)) dX0_as_14 ⟨(Nat.le_of_ble_eq_true rfl), (Nat.le_of_ble_eq_true rfl)⟩ ?_
    refine lv_if_ne (tgt := 23) hC.1 hC.2.1 dX0_as_17 (by decide) (fun c2 => ?_) (fun c2 => ?_)
    ·
      skip
      refine lv_aload_n hC.1 hC.2.1 dX0_as_23 rfl (lv_at hl 0 rfl) ?_
      refine p_get hC hK hM 0 rfl in_X0 rfl 4 (by decide) q223 (fun x h => h) rfl dX0_as_24 ?_
      refine p_get hC hK hM 1 rfl in_X1 rfl 8 (by decide) q168 (fun x h => h) rfl dX0_as_27 ?_
      refine lv_iload_n hC.1 hC.2.1 dX0_as_30 rfl (lv_at hl 1 rfl) ?_
      refine p_cFe (L' := [_, _, _, _]) hC hK hM (hM.at 2 rfl) rfl (cj_get l κ _ (rd 8) mc ea mm lf j a (hM.at 2 rfl) hj (by omega) hfq) (va_cwF 1 hC.2.2.2.2 (lw_F q1116 q904 q906 q67 q908) rfl rfl rfl (hK.1.2.2.2 _ (List.mem_of_getElem? (i := 2) (rfl : nFw[2]? = some _))) (by decide +kernel) ⟨(Nat.le_of_ble_eq_true rfl), (Nat.le_of_ble_eq_true rfl)⟩) rfl hl.1 rfl (lv_room (Nat.le_of_ble_eq_true rfl)) dX0_as_31 ⟨(Nat.le_of_ble_eq_true rfl), (Nat.le_of_ble_eq_true rfl)⟩ rfl hM.2 (fun H locs hM => ?_)
      refine v_cn hC hK hM (kd := 5) (hM.at 3 rfl) (by decide) (by decide) dX0_as_36 ?_
      refine lv_astore_n (lv' := [(3, _), (0, _), (1, _), (2, _)]) hC.1 hC.2.1 dX0_as_39 rfl hl (by decide) rfl (fun ls hl => ?_)
      refine lv_iload_n hC.1 hC.2.1 dX0_as_40 rfl (lv_at hl 3 rfl) ?_
      refine lv_if_ne (tgt := 48) hC.1 hC.2.1 dX0_as_41 (by decide) (fun c3 => ?_) (fun c3 => ?_)
      ·
        skip
        refine lv_iload_n hC.1 hC.2.1 dX0_as_48 rfl (lv_at hl 3 rfl) ?_
        refine lv_iconst (v := 1) hC.1 hC.2.1 dX0_as_49 (by decide) ?_
        refine lv_icmp_ne (tgt := 60) hC.1 hC.2.1 dX0_as_50 (by decide) (fun c4 => ?_) (fun c4 => ?_)
        ·
          skip
          refine lv_iload_n hC.1 hC.2.1 dX0_as_60 rfl (lv_at hl 3 rfl) ?_
          refine lv_iconst (v := 2) hC.1 hC.2.1 dX0_as_61 (by decide) ?_
          refine lv_icmp_ne (tgt := 72) hC.1 hC.2.1 dX0_as_62 (by decide) (fun c5 => ?_) (fun c5 => ?_)
          ·
            skip
            refine lv_iload_n hC.1 hC.2.1 dX0_as_72 rfl (lv_at hl 3 rfl) ?_
            refine lv_iconst (v := 3) hC.1 hC.2.1 dX0_as_73 (by decide) ?_
            refine lv_icmp_ne (tgt := 84) hC.1 hC.2.1 dX0_as_74 (by decide) (fun c6 => ?_) (fun c6 => ?_)
            ·
              skip
              exact absurd rfl c6
            ·
              skip
              refine lv_aload_n hC.1 hC.2.1 dX0_as_77 rfl (lv_at hl 0 rfl) ?_
              refine p_castT (x := RX13) (y := RX11) hC hK hM htl hl.1 (hM.at 3 rfl) rfl rfl q775 (List.mem_of_getElem? (i := 16) rfl) (by decide) (by decide) htab 0 (hpc := 112) (ct := 303) (hAt_of rfl) (by decide) q1140 (hK.1.2.1 _ q1152 rfl) (Nat.le_of_ble_eq_true rfl) (Nat.le_of_ble_eq_true rfl) (Nat.le_of_ble_eq_true rfl) (Nat.le_of_ble_eq_true rfl) dX0_as_78 (fun zx H locs hM => ?_)
              refine lv_astore (lv' := [(4, _), (3, _), (0, _), (1, _), (2, _)]) hC.1 hC.2.1 dX0_as_112 hl (by decide) rfl (fun ls hl => ?_)
              refine p_new (L' := fun q => [_, _, _, _, _]) hC hK hM (ci := 4) in_X4 tyX4 tyX4_ok q260 q273 q72 rfl (fs := [.null, .null, .null, .null, .null, .int 0, .int 0]) (by decide) (Nat.le_of_ble_eq_true rfl) (Nat.le_of_ble_eq_true rfl) dX0_as_114 (fun q => rfl) (fun q_7 H hq_7 hM => ?_)
              refine lv_dup hC.1 hC.2.1 dX0_as_117 rfl ?_
              refine lv_iconst (v := 3) hC.1 hC.2.1 dX0_as_118 (by decide) ?_
              refine p_cIv (L' := [_, _, _, _, _]) hC hK hM (cx_fn l κ _ q_7 3 (hM.at 4 rfl)) (cwI 1 hC.2.2.2.2 (lw_meth q314) rfl rfl rfl (hC.2.2.2.2 _ q72) (hC.2.2.2.2 _ q312) (hC.2.2.2.2 _ q313) rfl (by decide +kernel) ⟨(Nat.le_of_ble_eq_true rfl), (Nat.le_of_ble_eq_true rfl)⟩) rfl hl.1 rfl (lv_room (Nat.le_of_ble_eq_true rfl)) dX0_as_119 ⟨(Nat.le_of_ble_eq_true rfl), (Nat.le_of_ble_eq_true rfl)⟩ (oups_set hM.2 (i := 4) rfl) (oad_nd hM.2 (i := 4) rfl rfl) (fun H locs hM => ?_)
              refine p_thrC hC hK hM htab 2 (hpc := 123) (ct := 71) (hAt_of rfl) (by decide) q260 (hM.at 4 rfl) rfl (hK.1.2.1 _ q274 rfl) dX0_as_122 ?_
              refine lv_astore_n (lv' := [(3, _), (4, _), (0, _), (1, _), (2, _)]) hC.1 hC.2.1 dX0_as_123 rfl hl (by decide) rfl (fun ls hl => ?_)
              refine lv_aload_n hC.1 hC.2.1 dX0_as_124 rfl (lv_at hl 2 rfl) ?_
              refine lv_aload_n hC.1 hC.2.1 dX0_as_125 rfl (lv_at hl 0 rfl) ?_
              refine p_cVe (L' := [_, _, _, _, _]) hC hK hM (hM.at 0 rfl) rfl (cn_found l κ _ no cv ad g cw q_7 3 (hM.at 0 rfl) (hM.at 4 rfl)) (cwV 1 hC.2.2.2.2 (lw_V q356 q358 qs2 q63 q359) rfl rfl rfl (by decide +kernel) ⟨(Nat.le_of_ble_eq_true rfl), (Nat.le_of_ble_eq_true rfl)⟩) rfl hl.1 rfl (lv_room (Nat.le_of_ble_eq_true rfl)) dX0_as_126 ⟨(Nat.le_of_ble_eq_true rfl), (Nat.le_of_ble_eq_true rfl)⟩ (oups_set hM.2 (i := 0) rfl) (oad_nd hM.2 (i := 0) rfl rfl) (fun H locs hM => ?_)
              refine W.widen (k := 4) (n := 817) (Nat.le_of_ble_eq_true rfl) (Nat.le_of_ble_eq_true rfl) ?_
              refine p_iret hC hr hlocks hM dX0_as_129 ?_
              refine ⟨rfl, q_7, hq_7, ?_⟩
              rw [oups, oups, oups, oups, oups, oups, ask_end hN hR hls hA hq_7]
          ·
            skip
            exact absurd c5 (by decide)
        ·
          skip
          exact absurd c4 (by decide)
      ·
        skip
        exact absurd c3 (by decide)
    ·
      skip
      exact absurd (c2 : bI _ = 0) (by decide)

set_option maxHeartbeats 400000 in
set_option maxRecDepth 100000 in
theorem cn_asX (l : Launch) (κ : Nat → Nat) (O : gO) (no : Nat) (cv : Nat → Int32) (ad : Nat → Nat) (g : Nat → Nat → Option Nat) (cw : Nat → Nat → Int32) (rx : Nat → Int32) (rd : Nat → Nat) (rw : Nat → Nat → Int32) (mc : Int32) (ea mm : Nat) (ar : gA) (x y : Int32) (hN : O no = some (nsU cv ad g cw)) (hR : O (ad 4) = some (rdU rx rd rw)) (hls : O (rd 8) = some (lsU mc ea (nI mm) ar)) (hb : ¬ (0 ≤ x ∧ x ≤ nI mm - 1) ∨ ¬ (0 ≤ y ∧ y ≤ 5)) : oW l κ yX0_as cX0_as 5 (some .int) [(40, 111, 112, 303), (23, 111, 123, 71), (112, 123, 123, 71)] ({ frames := 2, cells := 0, slots := 0, locals := 46 }) [.ref no, .int x, .int y] O (fun rv O1 => rv = some (.int (-1000001)) ∧ O1 = O) := by
  intro D ac A
  refine o_bodyW (own := RX0) rfl (by decide) (Nat.le_of_ble_eq_true rfl) ?_
  intro p e s m args below meth c ls hC hr hlocks hK hM hl htab
  have hl : lv_has ls 5 [(0, .ref no), (1, .int x), (2, .int y)] := hl
  have hM := PS.of hM [(no, nsU cv ad g cw), (ad 4, rdU rx rd rw), (rd 8, lsU mc ea (nI mm) ar)] ⟨hN, hR, hls, trivial⟩ (by simp only [oad, List.map, List.nodup_cons, List.mem_cons, List.mem_singleton, List.not_mem_nil, not_or, or_false, not_false_eq_true, List.nodup_nil, and_true]; exact ⟨⟨o_ne hN hR (by decide), o_ne hN hls (by decide)⟩, o_ne hR hls (by decide)⟩)
  refine lv_aload_n hC.1 hC.2.1 dX0_as_0 rfl (lv_at hl 0 rfl) ?_
  refine lv_iload_n hC.1 hC.2.1 dX0_as_1 rfl (lv_at hl 1 rfl) ?_
  refine p_cVe (L' := [_, _, _]) hC hK hM (hM.at 0 rfl) rfl (cn_isMover l κ _ no cv ad g cw rx rd rw mc ea mm ar x (hM.at 0 rfl) (hM.at 1 rfl) (hM.at 2 rfl)) (cwV 1 hC.2.2.2.2 (lw_V q1109 q1111 qs25 q63 q1112) rfl rfl rfl (by decide +kernel) ⟨(Nat.le_of_ble_eq_true rfl), (Nat.le_of_ble_eq_true rfl)⟩) rfl hl.1 rfl (lv_room (Nat.le_of_ble_eq_true rfl)) dX0_as_2 ⟨(Nat.le_of_ble_eq_true rfl), (Nat.le_of_ble_eq_true rfl)⟩ rfl hM.2 (fun H locs hM => ?_)
  refine lv_if_eq (tgt := 20) hC.1 hC.2.1 dX0_as_5 (by decide) (fun c1 => ?_) (fun c1 => ?_)
  ·
    skip
    rw [bI_0] at c1
    have k1 := c1
    refine lv_ldc hC.1 hC.2.1 hC.2.2.2.1 (hC.2.2.2.2 _ q269) dX0_as_20 ?_
    skip
    refine p_iret hC hr hlocks hM dX0_as_22 ?_
    exact ⟨rfl, by rw [oups, oups, oups, oups, oup_same hls, oup_same hR]; exact oup_same hN⟩
  ·
    skip
    rw [bI_n0] at c1
    have k1 := c1
    refine lv_iload_n hC.1 hC.2.1 dX0_as_8 rfl (lv_at hl 2 rfl) ?_
    refine lv_i2l hC.1 hC.2.1 dX0_as_9 rfl ?_
    refine lv_lconst (v := 0) hC.1 hC.2.1 dX0_as_10 (by decide) ?_
    refine lv_ldc2 hC.1 hC.2.1 hC.2.2.2.1 (hC.2.2.2.2 _ q1154) dX0_as_11 ?_
    refine s_ci hC ((cc_isIn l (a := 0) (b := 5) rfl rfl rfl)) (va_cwS 3 hC.2.2.2.2 (lw_S q265 q266 q63 q267) rfl rfl rfl (by decide +kernel) ⟨(Nat.le_of_ble_eq_true rfl), (Nat.le_of_ble_eq_true rfl)⟩) rfl hl.1 rfl (lv_room (Nat.le_of_ble_eq_true rfl)) dX0_as_14 ⟨(Nat.le_of_ble_eq_true rfl), (Nat.le_of_ble_eq_true rfl)⟩ ?_
    refine lv_if_ne (tgt := 23) hC.1 hC.2.1 dX0_as_17 (by decide) (fun c2 => ?_) (fun c2 => ?_)
    ·
      skip
      exact hb.elim (fun h => absurd k1 h) (fun h => absurd (bI_n0.mp c2) h)
    ·
      skip
      refine lv_ldc hC.1 hC.2.1 hC.2.2.2.1 (hC.2.2.2.2 _ q269) dX0_as_20 ?_
      skip
      refine p_iret hC hr hlocks hM dX0_as_22 ?_
      exact ⟨rfl, by rw [oups, oups, oups, oups, oup_same hls, oup_same hR]; exact oup_same hN⟩
