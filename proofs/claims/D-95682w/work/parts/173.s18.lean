theorem ask_end {O : gO} {no n4 n8 a z : Nat} {uN u4 u8 uA uN2 uz : gU} (hN : O no = some uN) (hR : O n4 = some u4) (hl : O n8 = some u8) (hA : O a = some uA) (hz : O z = none) : oup (oup (oup (oup (oup O z uz) a uA) n8 u8) n4 u4) no uN2 = oup (oup O z uz) no uN2 := by
  have k : ∀ b x, O b = some x → oup O z uz b = some x := fun b x hb => by rw [oup_n (ne_of hb hz)]; exact hb
  rw [oup_same (k a _ hA), oup_same (k n8 _ hl), oup_same (k n4 _ hR)]
set_option maxHeartbeats 400000 in
set_option maxRecDepth 100000 in
theorem cn_ask0_9 (l : Launch) (κ : Nat → Nat) (O : gO) (no : Nat) (cv : Nat → Int32) (ad : Nat → Nat) (g : Nat → Nat → Option Nat) (cw : Nat → Nat → Int32) (rx : Nat → Int32) (rd : Nat → Nat) (rw : Nat → Nat → Int32) (mc : Int32) (ea mm : Nat) (lf : Nat → Option Nat) (a j k : Nat) (mv : Nat → Int32) (hN : O no = some (nsU cv ad g cw)) (hR : O (ad 4) = some (rdU rx rd rw)) (hls : O (rd 8) = some (lsU mc ea (nI mm) (lar lf))) (hj : j < mm) (hmm : mm ≤ 5) (hfq : lf j = some a) (hA : O a = some (cU 9 mv (fun _ => 0) aNo)) (hk : k < 6) (hmk : mv 1 = nI k) : oM l κ yX0_ask cX0_ask 4 (some .int) ({ frames := 4, cells := 2, slots := 18, locals := 87 }) [.ref no, .int (nI j), .int 0] O (fun rv O1 => rv = some (.int (mv 3 + (mv 0 + rw 6 k))) ∧ ∃ qt tq, O qt = none ∧ O1 = oup (oup O qt (tU 4 tq (upd (upd (upd (upd (fun _ => 0) 0 11) 1 10) 2 21) 3 20))) no (nsU cv (updN ad 9 qt) g cw)) := by
  intro D ac A
  refine o_body (own := RX0) rfl (plainFor_of_name (by decide)) (Nat.le_of_ble_eq_true rfl) ?_
  intro p e s m args below meth c ls hC hr hlocks hK hM hl hnamed hmeth
  have hl : lv_has ls 4 [(0, .ref no), (1, .int (nI j)), (2, .int 0)] := hl
  have hM := PS.of hM [(no, nsU cv ad g cw), (ad 4, rdU rx rd rw), (rd 8, lsU mc ea (nI mm) (lar lf)), (a, cU 9 mv (fun _ => 0) aNo)] ⟨hN, hR, hls, hA, trivial⟩ (by simp only [oad, List.map, List.nodup_cons, List.mem_cons, List.mem_singleton, List.not_mem_nil, not_or, or_false, not_false_eq_true, List.nodup_nil, and_true]; exact ⟨⟨o_ne hN hR (by decide), o_ne hN hls (by decide), o_ne hN hA (by decide)⟩, ⟨o_ne hR hls (by decide), o_ne hR hA (by decide)⟩, o_ne hls hA (by decide)⟩)
  refine lv_aload_n hC.1 hC.2.1 dX0_ask_0 rfl (lv_at hl 0 rfl) ?_
  refine lv_iload_n hC.1 hC.2.1 dX0_ask_1 rfl (lv_at hl 1 rfl) ?_
  refine p_cVe (L' := [_, _, _, _]) hC hK hM (hM.at 0 rfl) rfl (cn_isMover l κ _ no cv ad g cw rx rd rw mc ea mm (lar lf) (nI j) (hM.at 0 rfl) (hM.at 1 rfl) (hM.at 2 rfl)) (cwV 1 hC.2.2.2.2 (lw_V q1109 q1111 qs25 q63 q1112) rfl rfl rfl (by decide +kernel) ⟨(Nat.le_of_ble_eq_true rfl), (Nat.le_of_ble_eq_true rfl)⟩) rfl hl.1 rfl (lv_room (Nat.le_of_ble_eq_true rfl)) dX0_ask_2 ⟨(Nat.le_of_ble_eq_true rfl), (Nat.le_of_ble_eq_true rfl)⟩ rfl hM.2 (fun H locs hM => ?_)
  refine lv_if_eq (tgt := 15) hC.1 hC.2.1 dX0_ask_5 (by decide) (fun c1 => ?_) (fun c1 => ?_)
  ·
    skip
    exact absurd (c1 : bI _ = 0) (by rw [bI_t ⟨nI_pos' (by omega), by rw [show mm = (mm - 1) + 1 by omega, nI_pred]; exact nI_le (by omega) (by omega)⟩]; decide)
  ·
    skip
    refine lv_iload_n hC.1 hC.2.1 dX0_ask_8 rfl (lv_at hl 2 rfl) ?_
    refine s_ci hC (cc_isHalf l 0) (va_cwS 1 hC.2.2.2.2 (lw_S q999 q1000 q63 q1001) rfl rfl rfl (by decide +kernel) ⟨(Nat.le_of_ble_eq_true rfl), (Nat.le_of_ble_eq_true rfl)⟩) rfl hl.1 rfl (lv_room (Nat.le_of_ble_eq_true rfl)) dX0_ask_9 ⟨(Nat.le_of_ble_eq_true rfl), (Nat.le_of_ble_eq_true rfl)⟩ ?_
    refine lv_if_ne (tgt := 18) hC.1 hC.2.1 dX0_ask_12 (by decide) (fun c2 => ?_) (fun c2 => ?_)
    ·
      skip
      refine lv_aload_n hC.1 hC.2.1 dX0_ask_18 rfl (lv_at hl 0 rfl) ?_
      refine p_new (L' := fun q => [_, _, _, _, _]) hC hK hM (ci := 2) in_X2 tyX2 tyX2_ok q204 q205 q68 rfl (fs := [.null, .int 0]) (by decide) (Nat.le_of_ble_eq_true rfl) (Nat.le_of_ble_eq_true rfl) dX0_ask_19 (fun q => rfl) (fun q_3 H hq_3 hM => ?_)
      refine lv_dup hC.1 hC.2.1 dX0_ask_22 rfl ?_
      refine o_cIN hC hK hM.1 (ct_init l κ _ q_3 (hM.at 4 rfl)) ⟨va_cnB 0 hC.2.2.2.2 (lw_meth q208) rfl rfl rfl (hK.1.2.1 _ q206 rfl) (hC.2.2.2.2 _ q68) (by decide +kernel) ⟨(Nat.le_of_ble_eq_true rfl), (Nat.le_of_ble_eq_true rfl)⟩, rfl, hC.2.2.2.2 _ q207⟩ rfl hl.1 rfl (lv_room (Nat.le_of_ble_eq_true rfl)) dX0_ask_23 ⟨(Nat.le_of_ble_eq_true rfl), (Nat.le_of_ble_eq_true rfl)⟩ (fun rv O1 H locs hp hM1 => ?_)
      obtain ⟨tq, rfl, rfl⟩ := hp
      have hM := hM.set (L' := [_, _, _, _, _]) (i := 4) rfl hM1 rfl
      refine p_putr (L' := [_, _, _, _, _]) hC hK hM 0 rfl in_X0 tyX0 tyX0_ok nmX0 rfl 9 (by decide) q228 (fun x h => h) rfl rfl rfl (Nat.le_of_ble_eq_true rfl) rfl rfl rfl dX0_ask_26 (fun H locs hM => ?_)
      refine lv_aload_n hC.1 hC.2.1 dX0_ask_29 rfl (lv_at hl 0 rfl) ?_
      refine p_get hC hK hM 0 rfl in_X0 rfl 4 (by decide) q223 (fun x h => h) rfl dX0_ask_30 ?_
      refine p_get hC hK hM 1 rfl in_X1 rfl 8 (by decide) q168 (fun x h => h) rfl dX0_ask_33 ?_
      refine lv_iload_n hC.1 hC.2.1 dX0_ask_36 rfl (lv_at hl 1 rfl) ?_
      refine p_cFe (L' := [_, _, _, _, _]) hC hK hM (hM.at 2 rfl) rfl (cj_get l κ _ (rd 8) mc ea mm lf j a (hM.at 2 rfl) hj (by omega) hfq) (va_cwF 1 hC.2.2.2.2 (lw_F q1116 q904 q906 q67 q908) rfl rfl rfl (hK.1.2.2.2 _ (List.mem_of_getElem? (i := 2) (rfl : nFw[2]? = some _))) (by decide +kernel) ⟨(Nat.le_of_ble_eq_true rfl), (Nat.le_of_ble_eq_true rfl)⟩) rfl hl.1 rfl (lv_room (Nat.le_of_ble_eq_true rfl)) dX0_ask_37 ⟨(Nat.le_of_ble_eq_true rfl), (Nat.le_of_ble_eq_true rfl)⟩ rfl hM.2 (fun H locs hM => ?_)
      refine v_cn hC hK hM (kd := 1) (hM.at 3 rfl) (by decide) (by decide) dX0_ask_42 ?_
      refine lv_astore_n (lv' := [(3, _), (0, _), (1, _), (2, _)]) hC.1 hC.2.1 dX0_ask_45 rfl hl (by decide) rfl (fun ls hl => ?_)
      refine lv_iload_n hC.1 hC.2.1 dX0_ask_46 rfl (lv_at hl 3 rfl) ?_
      refine lv_if_ne (tgt := 65) hC.1 hC.2.1 dX0_ask_47 (by decide) (fun c4 => ?_) (fun c4 => ?_)
      ·
        skip
        exact absurd rfl c4
      ·
        skip
        skip
        refine lv_aload_n hC.1 hC.2.1 dX0_ask_50 rfl (lv_at hl 0 rfl) ?_
        refine lv_aload_n hC.1 hC.2.1 dX0_ask_51 rfl (lv_at hl 1 rfl) ?_
        refine p_get hC hK hM 0 rfl in_X0 rfl 9 (by decide) q228 (fun x h => h) rfl dX0_ask_52 ?_
        refine lv_aload_n hC.1 hC.2.1 dX0_ask_55 rfl (lv_at hl 1 rfl) ?_
        refine p_get hC hK hM 0 rfl in_X0 rfl 4 (by decide) q223 (fun x h => h) rfl dX0_ask_56 ?_
        refine p_cUe (L' := [_, _, _, _, _]) hC hK hM (hM.at 3 rfl) rfl (cm_is_9 l κ _ a mv q_3 tq 0 (fun _ => 0) (ad 4) rx rd rw k (hM.at 3 rfl) (hM.at 4 rfl) (by decide) (hM.at 1 rfl) hk hmk) (va_cwO 2 hC.2.2.2.2 (lw_O q1168 q1170 q1169 q1222 q1179 q90 q1180) rfl rfl rfl q1234 (by decide +kernel) ⟨(Nat.le_of_ble_eq_true rfl), (Nat.le_of_ble_eq_true rfl)⟩) rfl hl.1 rfl (lv_room (Nat.le_of_ble_eq_true rfl)) dX0_ask_59 ⟨(Nat.le_of_ble_eq_true rfl), (Nat.le_of_ble_eq_true rfl)⟩ (oups_set hM.2 (i := 4) rfl) (oad_nd hM.2 (i := 4) rfl rfl) (fun H locs hM => ?_)
        refine lv_goto (tgt := 77) hC.1 hC.2.1 dX0_ask_62 (by decide) ?_
        refine W.widen (k := 2) (n := 18) (Nat.le_of_ble_eq_true rfl) (Nat.le_of_ble_eq_true rfl) ?_
        refine p_iret hC hr hlocks hM dX0_ask_77 ?_
        refine ⟨rfl, q_3, tq, hq_3, ?_⟩
        rw [oups, oups, oups, oups, oups, oups, ask_end hN hR hls hA hq_3]
    ·
      skip
      exact absurd (c2 : bI _ = 0) (by decide)

set_option maxHeartbeats 400000 in
set_option maxRecDepth 100000 in
theorem cn_ask1_9 (l : Launch) (κ : Nat → Nat) (O : gO) (no : Nat) (cv : Nat → Int32) (ad : Nat → Nat) (g : Nat → Nat → Option Nat) (cw : Nat → Nat → Int32) (rx : Nat → Int32) (rd : Nat → Nat) (rw : Nat → Nat → Int32) (mc : Int32) (ea mm : Nat) (lf : Nat → Option Nat) (a j k : Nat) (mv : Nat → Int32) (hN : O no = some (nsU cv ad g cw)) (hR : O (ad 4) = some (rdU rx rd rw)) (hls : O (rd 8) = some (lsU mc ea (nI mm) (lar lf))) (hj : j < mm) (hmm : mm ≤ 5) (hfq : lf j = some a) (hA : O a = some (cU 9 mv (fun _ => 0) aNo)) (hk : k < 6) (hmk : mv 1 = nI k) : oM l κ yX0_ask cX0_ask 4 (some .int) ({ frames := 3, cells := 2, slots := 18, locals := 65 }) [.ref no, .int (nI j), .int 1] O (fun rv O1 => rv = some (.int (mv 0 + rw 6 k)) ∧ ∃ qt tq, O qt = none ∧ O1 = oup (oup O qt (tU 2 tq (upd (upd (fun _ => 0) 0 21) 1 20))) no (nsU cv (updN ad 9 qt) g cw)) := by
  intro D ac A
  refine o_body (own := RX0) rfl (plainFor_of_name (by decide)) (Nat.le_of_ble_eq_true rfl) ?_
  intro p e s m args below meth c ls hC hr hlocks hK hM hl hnamed hmeth
  have hl : lv_has ls 4 [(0, .ref no), (1, .int (nI j)), (2, .int 1)] := hl
  have hM := PS.of hM [(no, nsU cv ad g cw), (ad 4, rdU rx rd rw), (rd 8, lsU mc ea (nI mm) (lar lf)), (a, cU 9 mv (fun _ => 0) aNo)] ⟨hN, hR, hls, hA, trivial⟩ (by simp only [oad, List.map, List.nodup_cons, List.mem_cons, List.mem_singleton, List.not_mem_nil, not_or, or_false, not_false_eq_true, List.nodup_nil, and_true]; exact ⟨⟨o_ne hN hR (by decide), o_ne hN hls (by decide), o_ne hN hA (by decide)⟩, ⟨o_ne hR hls (by decide), o_ne hR hA (by decide)⟩, o_ne hls hA (by decide)⟩)
  refine lv_aload_n hC.1 hC.2.1 dX0_ask_0 rfl (lv_at hl 0 rfl) ?_
  refine lv_iload_n hC.1 hC.2.1 dX0_ask_1 rfl (lv_at hl 1 rfl) ?_
  refine p_cVe (L' := [_, _, _, _]) hC hK hM (hM.at 0 rfl) rfl (cn_isMover l κ _ no cv ad g cw rx rd rw mc ea mm (lar lf) (nI j) (hM.at 0 rfl) (hM.at 1 rfl) (hM.at 2 rfl)) (cwV 1 hC.2.2.2.2 (lw_V q1109 q1111 qs25 q63 q1112) rfl rfl rfl (by decide +kernel) ⟨(Nat.le_of_ble_eq_true rfl), (Nat.le_of_ble_eq_true rfl)⟩) rfl hl.1 rfl (lv_room (Nat.le_of_ble_eq_true rfl)) dX0_ask_2 ⟨(Nat.le_of_ble_eq_true rfl), (Nat.le_of_ble_eq_true rfl)⟩ rfl hM.2 (fun H locs hM => ?_)
  refine lv_if_eq (tgt := 15) hC.1 hC.2.1 dX0_ask_5 (by decide) (fun c1 => ?_) (fun c1 => ?_)
  ·
    skip
    exact absurd (c1 : bI _ = 0) (by rw [bI_t ⟨nI_pos' (by omega), by rw [show mm = (mm - 1) + 1 by omega, nI_pred]; exact nI_le (by omega) (by omega)⟩]; decide)
  ·
    skip
    refine lv_iload_n hC.1 hC.2.1 dX0_ask_8 rfl (lv_at hl 2 rfl) ?_
    refine s_ci hC (cc_isHalf l 1) (va_cwS 1 hC.2.2.2.2 (lw_S q999 q1000 q63 q1001) rfl rfl rfl (by decide +kernel) ⟨(Nat.le_of_ble_eq_true rfl), (Nat.le_of_ble_eq_true rfl)⟩) rfl hl.1 rfl (lv_room (Nat.le_of_ble_eq_true rfl)) dX0_ask_9 ⟨(Nat.le_of_ble_eq_true rfl), (Nat.le_of_ble_eq_true rfl)⟩ ?_
    refine lv_if_ne (tgt := 18) hC.1 hC.2.1 dX0_ask_12 (by decide) (fun c2 => ?_) (fun c2 => ?_)
    ·
      skip
      refine lv_aload_n hC.1 hC.2.1 dX0_ask_18 rfl (lv_at hl 0 rfl) ?_
      refine p_new (L' := fun q => [_, _, _, _, _]) hC hK hM (ci := 2) in_X2 tyX2 tyX2_ok q204 q205 q68 rfl (fs := [.null, .int 0]) (by decide) (Nat.le_of_ble_eq_true rfl) (Nat.le_of_ble_eq_true rfl) dX0_ask_19 (fun q => rfl) (fun q_3 H hq_3 hM => ?_)
      refine lv_dup hC.1 hC.2.1 dX0_ask_22 rfl ?_
      refine o_cIN hC hK hM.1 (ct_init l κ _ q_3 (hM.at 4 rfl)) ⟨va_cnB 0 hC.2.2.2.2 (lw_meth q208) rfl rfl rfl (hK.1.2.1 _ q206 rfl) (hC.2.2.2.2 _ q68) (by decide +kernel) ⟨(Nat.le_of_ble_eq_true rfl), (Nat.le_of_ble_eq_true rfl)⟩, rfl, hC.2.2.2.2 _ q207⟩ rfl hl.1 rfl (lv_room (Nat.le_of_ble_eq_true rfl)) dX0_ask_23 ⟨(Nat.le_of_ble_eq_true rfl), (Nat.le_of_ble_eq_true rfl)⟩ (fun rv O1 H locs hp hM1 => ?_)
      obtain ⟨tq, rfl, rfl⟩ := hp
      have hM := hM.set (L' := [_, _, _, _, _]) (i := 4) rfl hM1 rfl
      refine p_putr (L' := [_, _, _, _, _]) hC hK hM 0 rfl in_X0 tyX0 tyX0_ok nmX0 rfl 9 (by decide) q228 (fun x h => h) rfl rfl rfl (Nat.le_of_ble_eq_true rfl) rfl rfl rfl dX0_ask_26 (fun H locs hM => ?_)
      refine lv_aload_n hC.1 hC.2.1 dX0_ask_29 rfl (lv_at hl 0 rfl) ?_
      refine p_get hC hK hM 0 rfl in_X0 rfl 4 (by decide) q223 (fun x h => h) rfl dX0_ask_30 ?_
      refine p_get hC hK hM 1 rfl in_X1 rfl 8 (by decide) q168 (fun x h => h) rfl dX0_ask_33 ?_
      refine lv_iload_n hC.1 hC.2.1 dX0_ask_36 rfl (lv_at hl 1 rfl) ?_
      refine p_cFe (L' := [_, _, _, _, _]) hC hK hM (hM.at 2 rfl) rfl (cj_get l κ _ (rd 8) mc ea mm lf j a (hM.at 2 rfl) hj (by omega) hfq) (va_cwF 1 hC.2.2.2.2 (lw_F q1116 q904 q906 q67 q908) rfl rfl rfl (hK.1.2.2.2 _ (List.mem_of_getElem? (i := 2) (rfl : nFw[2]? = some _))) (by decide +kernel) ⟨(Nat.le_of_ble_eq_true rfl), (Nat.le_of_ble_eq_true rfl)⟩) rfl hl.1 rfl (lv_room (Nat.le_of_ble_eq_true rfl)) dX0_ask_37 ⟨(Nat.le_of_ble_eq_true rfl), (Nat.le_of_ble_eq_true rfl)⟩ rfl hM.2 (fun H locs hM => ?_)
      refine v_cn hC hK hM (kd := 1) (hM.at 3 rfl) (by decide) (by decide) dX0_ask_42 ?_
      refine lv_astore_n (lv' := [(3, _), (0, _), (1, _), (2, _)]) hC.1 hC.2.1 dX0_ask_45 rfl hl (by decide) rfl (fun ls hl => ?_)
      refine lv_iload_n hC.1 hC.2.1 dX0_ask_46 rfl (lv_at hl 3 rfl) ?_
      refine lv_if_ne (tgt := 65) hC.1 hC.2.1 dX0_ask_47 (by decide) (fun c4 => ?_) (fun c4 => ?_)
      ·
        skip
        skip
        refine lv_aload_n hC.1 hC.2.1 dX0_ask_65 rfl (lv_at hl 0 rfl) ?_
        refine lv_aload_n hC.1 hC.2.1 dX0_ask_66 rfl (lv_at hl 1 rfl) ?_
        refine p_get hC hK hM 0 rfl in_X0 rfl 9 (by decide) q228 (fun x h => h) rfl dX0_ask_67 ?_
        refine lv_aload_n hC.1 hC.2.1 dX0_ask_70 rfl (lv_at hl 1 rfl) ?_
        refine p_get hC hK hM 0 rfl in_X0 rfl 4 (by decide) q223 (fun x h => h) rfl dX0_ask_71 ?_
        refine p_cUe (L' := [_, _, _, _, _]) hC hK hM (hM.at 3 rfl) rfl (cm_im_9 l κ _ a mv q_3 tq 0 (fun _ => 0) (ad 4) rx rd rw k (hM.at 3 rfl) (hM.at 4 rfl) (by decide) (hM.at 1 rfl) hk hmk) (cw_mark hC hK q1237 q1184 q90 q1196 ⟨Nat.le_of_ble_eq_true rfl, Nat.le_of_ble_eq_true rfl⟩) rfl hl.1 rfl (lv_room (Nat.le_of_ble_eq_true rfl)) dX0_ask_74 ⟨Nat.le_of_ble_eq_true rfl, Nat.le_of_ble_eq_true rfl⟩ (oups_set hM.2 (i := 4) rfl) (oad_nd hM.2 (i := 4) rfl rfl) (fun H locs hM => ?_)
        refine W.widen (k := 2) (n := 18) (Nat.le_of_ble_eq_true rfl) (Nat.le_of_ble_eq_true rfl) ?_
        refine p_iret hC hr hlocks hM dX0_ask_77 ?_
        refine ⟨rfl, q_3, tq, hq_3, ?_⟩
        rw [oups, oups, oups, oups, oups, oups, ask_end hN hR hls hA hq_3]
      ·
        skip
        exact absurd c4 (by decide)
    ·
      skip
      exact absurd (c2 : bI _ = 0) (by decide)

set_option maxHeartbeats 400000 in
set_option maxRecDepth 100000 in
theorem cn_ask0_10 (l : Launch) (κ : Nat → Nat) (O : gO) (no : Nat) (cv : Nat → Int32) (ad : Nat → Nat) (g : Nat → Nat → Option Nat) (cw : Nat → Nat → Int32) (rx : Nat → Int32) (rd : Nat → Nat) (rw : Nat → Nat → Int32) (mc : Int32) (ea mm : Nat) (lf : Nat → Option Nat) (a j k : Nat) (mv : Nat → Int32) (hN : O no = some (nsU cv ad g cw)) (hR : O (ad 4) = some (rdU rx rd rw)) (hls : O (rd 8) = some (lsU mc ea (nI mm) (lar lf))) (hj : j < mm) (hmm : mm ≤ 5) (hfq : lf j = some a) (hA : O a = some (cU 10 mv (fun _ => 0) aNo)) (hk : k < 6) (hmk : mv 1 = nI k) : oM l κ yX0_ask cX0_ask 4 (some .int) ({ frames := 6, cells := 2, slots := 18, locals := 131 }) [.ref no, .int (nI j), .int 0] O (fun rv O1 => rv = some (.int (-(mv 3 + (2 * (mv 0 + rw 6 k))))) ∧ ∃ qt tq, O qt = none ∧ O1 = oup (oup O qt (tU 6 tq (upd (upd (upd (upd (upd (upd (fun _ => 0) 0 12) 1 11) 2 10) 3 24) 4 21) 5 20))) no (nsU cv (updN ad 9 qt) g cw)) := by
  intro D ac A
  refine o_body (own := RX0) rfl (plainFor_of_name (by decide)) (Nat.le_of_ble_eq_true rfl) ?_
  intro p e s m args below meth c ls hC hr hlocks hK hM hl hnamed hmeth
  have hl : lv_has ls 4 [(0, .ref no), (1, .int (nI j)), (2, .int 0)] := hl
  have hM := PS.of hM [(no, nsU cv ad g cw), (ad 4, rdU rx rd rw), (rd 8, lsU mc ea (nI mm) (lar lf)), (a, cU 10 mv (fun _ => 0) aNo)] ⟨hN, hR, hls, hA, trivial⟩ (by simp only [oad, List.map, List.nodup_cons, List.mem_cons, List.mem_singleton, List.not_mem_nil, not_or, or_false, not_false_eq_true, List.nodup_nil, and_true]; exact ⟨⟨o_ne hN hR (by decide), o_ne hN hls (by decide), o_ne hN hA (by decide)⟩, ⟨o_ne hR hls (by decide), o_ne hR hA (by decide)⟩, o_ne hls hA (by decide)⟩)
  refine lv_aload_n hC.1 hC.2.1 dX0_ask_0 rfl (lv_at hl 0 rfl) ?_
  refine lv_iload_n hC.1 hC.2.1 dX0_ask_1 rfl (lv_at hl 1 rfl) ?_
  refine p_cVe (L' := [_, _, _, _]) hC hK hM (hM.at 0 rfl) rfl (cn_isMover l κ _ no cv ad g cw rx rd rw mc ea mm (lar lf) (nI j) (hM.at 0 rfl) (hM.at 1 rfl) (hM.at 2 rfl)) (cwV 1 hC.2.2.2.2 (lw_V q1109 q1111 qs25 q63 q1112) rfl rfl rfl (by decide +kernel) ⟨(Nat.le_of_ble_eq_true rfl), (Nat.le_of_ble_eq_true rfl)⟩) rfl hl.1 rfl (lv_room (Nat.le_of_ble_eq_true rfl)) dX0_ask_2 ⟨(Nat.le_of_ble_eq_true rfl), (Nat.le_of_ble_eq_true rfl)⟩ rfl hM.2 (fun H locs hM => ?_)
  refine lv_if_eq (tgt := 15) hC.1 hC.2.1 dX0_ask_5 (by decide) (fun c1 => ?_) (fun c1 => ?_)
  ·
    skip
    exact absurd (c1 : bI _ = 0) (by rw [bI_t ⟨nI_pos' (by omega), by rw [show mm = (mm - 1) + 1 by omega, nI_pred]; exact nI_le (by omega) (by omega)⟩]; decide)
  ·
    skip
    refine lv_iload_n hC.1 hC.2.1 dX0_ask_8 rfl (lv_at hl 2 rfl) ?_
    refine s_ci hC (cc_isHalf l 0) (va_cwS 1 hC.2.2.2.2 (lw_S q999 q1000 q63 q1001) rfl rfl rfl (by decide +kernel) ⟨(Nat.le_of_ble_eq_true rfl), (Nat.le_of_ble_eq_true rfl)⟩) rfl hl.1 rfl (lv_room (Nat.le_of_ble_eq_true rfl)) dX0_ask_9 ⟨(Nat.le_of_ble_eq_true rfl), (Nat.le_of_ble_eq_true rfl)⟩ ?_
    refine lv_if_ne (tgt := 18) hC.1 hC.2.1 dX0_ask_12 (by decide) (fun c2 => ?_) (fun c2 => ?_)
    ·
      skip
      refine lv_aload_n hC.1 hC.2.1 dX0_ask_18 rfl (lv_at hl 0 rfl) ?_
      refine p_new (L' := fun q => [_, _, _, _, _]) hC hK hM (ci := 2) in_X2 tyX2 tyX2_ok q204 q205 q68 rfl (fs := [.null, .int 0]) (by decide) (Nat.le_of_ble_eq_true rfl) (Nat.le_of_ble_eq_true rfl) dX0_ask_19 (fun q => rfl) (fun q_3 H hq_3 hM => ?_)
      refine lv_dup hC.1 hC.2.1 dX0_ask_22 rfl ?_
      refine o_cIN hC hK hM.1 (ct_init l κ _ q_3 (hM.at 4 rfl)) ⟨va_cnB 0 hC.2.2.2.2 (lw_meth q208) rfl rfl rfl (hK.1.2.1 _ q206 rfl) (hC.2.2.2.2 _ q68) (by decide +kernel) ⟨(Nat.le_of_ble_eq_true rfl), (Nat.le_of_ble_eq_true rfl)⟩, rfl, hC.2.2.2.2 _ q207⟩ rfl hl.1 rfl (lv_room (Nat.le_of_ble_eq_true rfl)) dX0_ask_23 ⟨(Nat.le_of_ble_eq_true rfl), (Nat.le_of_ble_eq_true rfl)⟩ (fun rv O1 H locs hp hM1 => ?_)
      obtain ⟨tq, rfl, rfl⟩ := hp
      have hM := hM.set (L' := [_, _, _, _, _]) (i := 4) rfl hM1 rfl
      refine p_putr (L' := [_, _, _, _, _]) hC hK hM 0 rfl in_X0 tyX0 tyX0_ok nmX0 rfl 9 (by decide) q228 (fun x h => h) rfl rfl rfl (Nat.le_of_ble_eq_true rfl) rfl rfl rfl dX0_ask_26 (fun H locs hM => ?_)
      refine lv_aload_n hC.1 hC.2.1 dX0_ask_29 rfl (lv_at hl 0 rfl) ?_
      refine p_get hC hK hM 0 rfl in_X0 rfl 4 (by decide) q223 (fun x h => h) rfl dX0_ask_30 ?_
      refine p_get hC hK hM 1 rfl in_X1 rfl 8 (by decide) q168 (fun x h => h) rfl dX0_ask_33 ?_
      refine lv_iload_n hC.1 hC.2.1 dX0_ask_36 rfl (lv_at hl 1 rfl) ?_
      refine p_cFe (L' := [_, _, _, _, _]) hC hK hM (hM.at 2 rfl) rfl (cj_get l κ _ (rd 8) mc ea mm lf j a (hM.at 2 rfl) hj (by omega) hfq) (va_cwF 1 hC.2.2.2.2 (lw_F q1116 q904 q906 q67 q908) rfl rfl rfl (hK.1.2.2.2 _ (List.mem_of_getElem? (i := 2) (rfl : nFw[2]? = some _))) (by decide +kernel) ⟨(Nat.le_of_ble_eq_true rfl), (Nat.le_of_ble_eq_true rfl)⟩) rfl hl.1 rfl (lv_room (Nat.le_of_ble_eq_true rfl)) dX0_ask_37 ⟨(Nat.le_of_ble_eq_true rfl), (Nat.le_of_ble_eq_true rfl)⟩ rfl hM.2 (fun H locs hM => ?_)
      refine v_cn hC hK hM (kd := 2) (hM.at 3 rfl) (by decide) (by decide) dX0_ask_42 ?_
      refine lv_astore_n (lv' := [(3, _), (0, _), (1, _), (2, _)]) hC.1 hC.2.1 dX0_ask_45 rfl hl (by decide) rfl (fun ls hl => ?_)
      refine lv_iload_n hC.1 hC.2.1 dX0_ask_46 rfl (lv_at hl 3 rfl) ?_
      refine lv_if_ne (tgt := 65) hC.1 hC.2.1 dX0_ask_47 (by decide) (fun c4 => ?_) (fun c4 => ?_)
      ·
        skip
        exact absurd rfl c4
      ·
        skip
        skip
        refine lv_aload_n hC.1 hC.2.1 dX0_ask_50 rfl (lv_at hl 0 rfl) ?_
        refine lv_aload_n hC.1 hC.2.1 dX0_ask_51 rfl (lv_at hl 1 rfl) ?_
        refine p_get hC hK hM 0 rfl in_X0 rfl 9 (by decide) q228 (fun x h => h) rfl dX0_ask_52 ?_
        refine lv_aload_n hC.1 hC.2.1 dX0_ask_55 rfl (lv_at hl 1 rfl) ?_
        refine p_get hC hK hM 0 rfl in_X0 rfl 4 (by decide) q223 (fun x h => h) rfl dX0_ask_56 ?_
        refine p_cUe (L' := [_, _, _, _, _]) hC hK hM (hM.at 3 rfl) rfl (cm_cs_10 l κ _ a mv q_3 tq 0 (fun _ => 0) (ad 4) rx rd rw k (hM.at 3 rfl) (hM.at 4 rfl) (by decide) (hM.at 1 rfl) hk hmk) (va_cwO 2 hC.2.2.2.2 (lw_O q1168 q1170 q1169 q1171 q1172 q91 q1173) rfl rfl rfl q1234 (by decide +kernel) ⟨(Nat.le_of_ble_eq_true rfl), (Nat.le_of_ble_eq_true rfl)⟩) rfl hl.1 rfl (lv_room (Nat.le_of_ble_eq_true rfl)) dX0_ask_59 ⟨(Nat.le_of_ble_eq_true rfl), (Nat.le_of_ble_eq_true rfl)⟩ (oups_set hM.2 (i := 4) rfl) (oad_nd hM.2 (i := 4) rfl rfl) (fun H locs hM => ?_)
        refine lv_goto (tgt := 77) hC.1 hC.2.1 dX0_ask_62 (by decide) ?_
        refine W.widen (k := 2) (n := 18) (Nat.le_of_ble_eq_true rfl) (Nat.le_of_ble_eq_true rfl) ?_
        refine p_iret hC hr hlocks hM dX0_ask_77 ?_
        refine ⟨rfl, q_3, tq, hq_3, ?_⟩
        rw [oups, oups, oups, oups, oups, oups, ask_end hN hR hls hA hq_3]
    ·
      skip
      exact absurd (c2 : bI _ = 0) (by decide)

set_option maxHeartbeats 400000 in
set_option maxRecDepth 100000 in
theorem cn_ask1_10 (l : Launch) (κ : Nat → Nat) (O : gO) (no : Nat) (cv : Nat → Int32) (ad : Nat → Nat) (g : Nat → Nat → Option Nat) (cw : Nat → Nat → Int32) (rx : Nat → Int32) (rd : Nat → Nat) (rw : Nat → Nat → Int32) (mc : Int32) (ea mm : Nat) (lf : Nat → Option Nat) (a j k : Nat) (mv : Nat → Int32) (hN : O no = some (nsU cv ad g cw)) (hR : O (ad 4) = some (rdU rx rd rw)) (hls : O (rd 8) = some (lsU mc ea (nI mm) (lar lf))) (hj : j < mm) (hmm : mm ≤ 5) (hfq : lf j = some a) (hA : O a = some (cU 10 mv (fun _ => 0) aNo)) (hk : k < 6) (hmk : mv 1 = nI k) : oM l κ yX0_ask cX0_ask 4 (some .int) ({ frames := 4, cells := 2, slots := 18, locals := 87 }) [.ref no, .int (nI j), .int 1] O (fun rv O1 => rv = some (.int (2 * (mv 0 + rw 6 k))) ∧ ∃ qt tq, O qt = none ∧ O1 = oup (oup O qt (tU 3 tq (upd (upd (upd (fun _ => 0) 0 24) 1 21) 2 20))) no (nsU cv (updN ad 9 qt) g cw)) := by
  intro D ac A
  refine o_body (own := RX0) rfl (plainFor_of_name (by decide)) (Nat.le_of_ble_eq_true rfl) ?_
  intro p e s m args below meth c ls hC hr hlocks hK hM hl hnamed hmeth
  have hl : lv_has ls 4 [(0, .ref no), (1, .int (nI j)), (2, .int 1)] := hl
  have hM := PS.of hM [(no, nsU cv ad g cw), (ad 4, rdU rx rd rw), (rd 8, lsU mc ea (nI mm) (lar lf)), (a, cU 10 mv (fun _ => 0) aNo)] ⟨hN, hR, hls, hA, trivial⟩ (by simp only [oad, List.map, List.nodup_cons, List.mem_cons, List.mem_singleton, List.not_mem_nil, not_or, or_false, not_false_eq_true, List.nodup_nil, and_true]; exact ⟨⟨o_ne hN hR (by decide), o_ne hN hls (by decide), o_ne hN hA (by decide)⟩, ⟨o_ne hR hls (by decide), o_ne hR hA (by decide)⟩, o_ne hls hA (by decide)⟩)
  refine lv_aload_n hC.1 hC.2.1 dX0_ask_0 rfl (lv_at hl 0 rfl) ?_
  refine lv_iload_n hC.1 hC.2.1 dX0_ask_1 rfl (lv_at hl 1 rfl) ?_
  refine p_cVe (L' := [_, _, _, _]) hC hK hM (hM.at 0 rfl) rfl (cn_isMover l κ _ no cv ad g cw rx rd rw mc ea mm (lar lf) (nI j) (hM.at 0 rfl) (hM.at 1 rfl) (hM.at 2 rfl)) (cwV 1 hC.2.2.2.2 (lw_V q1109 q1111 qs25 q63 q1112) rfl rfl rfl (by decide +kernel) ⟨(Nat.le_of_ble_eq_true rfl), (Nat.le_of_ble_eq_true rfl)⟩) rfl hl.1 rfl (lv_room (Nat.le_of_ble_eq_true rfl)) dX0_ask_2 ⟨(Nat.le_of_ble_eq_true rfl), (Nat.le_of_ble_eq_true rfl)⟩ rfl hM.2 (fun H locs hM => ?_)
  refine lv_if_eq (tgt := 15) hC.1 hC.2.1 dX0_ask_5 (by decide) (fun c1 => ?_) (fun c1 => ?_)
  ·
    skip
    exact absurd (c1 : bI _ = 0) (by rw [bI_t ⟨nI_pos' (by omega), by rw [show mm = (mm - 1) + 1 by omega, nI_pred]; exact nI_le (by omega) (by omega)⟩]; decide)
  ·
    skip
    refine lv_iload_n hC.1 hC.2.1 dX0_ask_8 rfl (lv_at hl 2 rfl) ?_
    refine s_ci hC (cc_isHalf l 1) (va_cwS 1 hC.2.2.2.2 (lw_S q999 q1000 q63 q1001) rfl rfl rfl (by decide +kernel) ⟨(Nat.le_of_ble_eq_true rfl), (Nat.le_of_ble_eq_true rfl)⟩) rfl hl.1 rfl (lv_room (Nat.le_of_ble_eq_true rfl)) dX0_ask_9 ⟨(Nat.le_of_ble_eq_true rfl), (Nat.le_of_ble_eq_true rfl)⟩ ?_
    refine lv_if_ne (tgt := 18) hC.1 hC.2.1 dX0_ask_12 (by decide) (fun c2 => ?_) (fun c2 => ?_)
    ·
      skip
      refine lv_aload_n hC.1 hC.2.1 dX0_ask_18 rfl (lv_at hl 0 rfl) ?_
      refine p_new (L' := fun q => [_, _, _, _, _]) hC hK hM (ci := 2) in_X2 tyX2 tyX2_ok q204 q205 q68 rfl (fs := [.null, .int 0]) (by decide) (Nat.le_of_ble_eq_true rfl) (Nat.le_of_ble_eq_true rfl) dX0_ask_19 (fun q => rfl) (fun q_3 H hq_3 hM => ?_)
      refine lv_dup hC.1 hC.2.1 dX0_ask_22 rfl ?_
      refine o_cIN hC hK hM.1 (ct_init l κ _ q_3 (hM.at 4 rfl)) ⟨va_cnB 0 hC.2.2.2.2 (lw_meth q208) rfl rfl rfl (hK.1.2.1 _ q206 rfl) (hC.2.2.2.2 _ q68) (by decide +kernel) ⟨(Nat.le_of_ble_eq_true rfl), (Nat.le_of_ble_eq_true rfl)⟩, rfl, hC.2.2.2.2 _ q207⟩ rfl hl.1 rfl (lv_room (Nat.le_of_ble_eq_true rfl)) dX0_ask_23 ⟨(Nat.le_of_ble_eq_true rfl), (Nat.le_of_ble_eq_true rfl)⟩ (fun rv O1 H locs hp hM1 => ?_)
      obtain ⟨tq, rfl, rfl⟩ := hp
      have hM := hM.set (L' := [_, _, _, _, _]) (i := 4) rfl hM1 rfl
      refine p_putr (L' := [_, _, _, _, _]) hC hK hM 0 rfl in_X0 tyX0 tyX0_ok nmX0 rfl 9 (by decide) q228 (fun x h => h) rfl rfl rfl (Nat.le_of_ble_eq_true rfl) rfl rfl rfl dX0_ask_26 (fun H locs hM => ?_)
      refine lv_aload_n hC.1 hC.2.1 dX0_ask_29 rfl (lv_at hl 0 rfl) ?_
      refine p_get hC hK hM 0 rfl in_X0 rfl 4 (by decide) q223 (fun x h => h) rfl dX0_ask_30 ?_
      refine p_get hC hK hM 1 rfl in_X1 rfl 8 (by decide) q168 (fun x h => h) rfl dX0_ask_33 ?_
      refine lv_iload_n hC.1 hC.2.1 dX0_ask_36 rfl (lv_at hl 1 rfl) ?_
      refine p_cFe (L' := [_, _, _, _, _]) hC hK hM (hM.at 2 rfl) rfl (cj_get l κ _ (rd 8) mc ea mm lf j a (hM.at 2 rfl) hj (by omega) hfq) (va_cwF 1 hC.2.2.2.2 (lw_F q1116 q904 q906 q67 q908) rfl rfl rfl (hK.1.2.2.2 _ (List.mem_of_getElem? (i := 2) (rfl : nFw[2]? = some _))) (by decide +kernel) ⟨(Nat.le_of_ble_eq_true rfl), (Nat.le_of_ble_eq_true rfl)⟩) rfl hl.1 rfl (lv_room (Nat.le_of_ble_eq_true rfl)) dX0_ask_37 ⟨(Nat.le_of_ble_eq_true rfl), (Nat.le_of_ble_eq_true rfl)⟩ rfl hM.2 (fun H locs hM => ?_)
      refine v_cn hC hK hM (kd := 2) (hM.at 3 rfl) (by decide) (by decide) dX0_ask_42 ?_
      refine lv_astore_n (lv' := [(3, _), (0, _), (1, _), (2, _)]) hC.1 hC.2.1 dX0_ask_45 rfl hl (by decide) rfl (fun ls hl => ?_)
      refine lv_iload_n hC.1 hC.2.1 dX0_ask_46 rfl (lv_at hl 3 rfl) ?_
      refine lv_if_ne (tgt := 65) hC.1 hC.2.1 dX0_ask_47 (by decide) (fun c4 => ?_) (fun c4 => ?_)
      ·
        skip
        skip
        refine lv_aload_n hC.1 hC.2.1 dX0_ask_65 rfl (lv_at hl 0 rfl) ?_
        refine lv_aload_n hC.1 hC.2.1 dX0_ask_66 rfl (lv_at hl 1 rfl) ?_
        refine p_get hC hK hM 0 rfl in_X0 rfl 9 (by decide) q228 (fun x h => h) rfl dX0_ask_67 ?_
        refine lv_aload_n hC.1 hC.2.1 dX0_ask_70 rfl (lv_at hl 1 rfl) ?_
        refine p_get hC hK hM 0 rfl in_X0 rfl 4 (by decide) q223 (fun x h => h) rfl dX0_ask_71 ?_
        refine p_cUe (L' := [_, _, _, _, _]) hC hK hM (hM.at 3 rfl) rfl (cm_mk_10 l κ _ a mv q_3 tq 0 (fun _ => 0) (ad 4) rx rd rw k (hM.at 3 rfl) (hM.at 4 rfl) (by decide) (hM.at 1 rfl) hk hmk) (cw_mark hC hK q1236 q1188 q91 q1189 ⟨Nat.le_of_ble_eq_true rfl, Nat.le_of_ble_eq_true rfl⟩) rfl hl.1 rfl (lv_room (Nat.le_of_ble_eq_true rfl)) dX0_ask_74 ⟨Nat.le_of_ble_eq_true rfl, Nat.le_of_ble_eq_true rfl⟩ (oups_set hM.2 (i := 4) rfl) (oad_nd hM.2 (i := 4) rfl rfl) (fun H locs hM => ?_)
        refine W.widen (k := 2) (n := 18) (Nat.le_of_ble_eq_true rfl) (Nat.le_of_ble_eq_true rfl) ?_
        refine p_iret hC hr hlocks hM dX0_ask_77 ?_
        refine ⟨rfl, q_3, tq, hq_3, ?_⟩
        rw [oups, oups, oups, oups, oups, oups, ask_end hN hR hls hA hq_3]
      ·
        skip
        exact absurd c4 (by decide)
    ·
      skip
      exact absurd (c2 : bI _ = 0) (by decide)

set_option maxHeartbeats 400000 in
set_option maxRecDepth 100000 in
theorem cn_ask0_11 (l : Launch) (κ : Nat → Nat) (O : gO) (no : Nat) (cv : Nat → Int32) (ad : Nat → Nat) (g : Nat → Nat → Option Nat) (cw : Nat → Nat → Int32) (rx : Nat → Int32) (rd : Nat → Nat) (rw : Nat → Nat → Int32) (mc : Int32) (ea mm : Nat) (lf : Nat → Option Nat) (a j k : Nat) (mv : Nat → Int32) (hN : O no = some (nsU cv ad g cw)) (hR : O (ad 4) = some (rdU rx rd rw)) (hls : O (rd 8) = some (lsU mc ea (nI mm) (lar lf))) (hj : j < mm) (hmm : mm ≤ 5) (hfq : lf j = some a) (hA : O a = some (cU 11 mv (fun _ => 0) aNo)) (hk : k < 6) (hmk : mv 1 = nI k) : oM l κ yX0_ask cX0_ask 4 (some .int) ({ frames := 5, cells := 2, slots := 18, locals := 109 }) [.ref no, .int (nI j), .int 0] O (fun rv O1 => rv = some (.int (mv 3 + (mv 0 + rw 6 k - 1000))) ∧ ∃ qt tq, O qt = none ∧ O1 = oup (oup O qt (tU 5 tq (upd (upd (upd (upd (upd (fun _ => 0) 0 11) 1 10) 2 22) 3 21) 4 20))) no (nsU cv (updN ad 9 qt) g cw)) := by
  intro D ac A
  refine o_body (own := RX0) rfl (plainFor_of_name (by decide)) (Nat.le_of_ble_eq_true rfl) ?_
  intro p e s m args below meth c ls hC hr hlocks hK hM hl hnamed hmeth
  have hl : lv_has ls 4 [(0, .ref no), (1, .int (nI j)), (2, .int 0)] := hl
  have hM := PS.of hM [(no, nsU cv ad g cw), (ad 4, rdU rx rd rw), (rd 8, lsU mc ea (nI mm) (lar lf)), (a, cU 11 mv (fun _ => 0) aNo)] ⟨hN, hR, hls, hA, trivial⟩ (by simp only [oad, List.map, List.nodup_cons, List.mem_cons, List.mem_singleton, List.not_mem_nil, not_or, or_false, not_false_eq_true, List.nodup_nil, and_true]; exact ⟨⟨o_ne hN hR (by decide), o_ne hN hls (by decide), o_ne hN hA (by decide)⟩, ⟨o_ne hR hls (by decide), o_ne hR hA (by decide)⟩, o_ne hls hA (by decide)⟩)
  refine lv_aload_n hC.1 hC.2.1 dX0_ask_0 rfl (lv_at hl 0 rfl) ?_
  refine lv_iload_n hC.1 hC.2.1 dX0_ask_1 rfl (lv_at hl 1 rfl) ?_
  refine p_cVe (L' := [_, _, _, _]) hC hK hM (hM.at 0 rfl) rfl (cn_isMover l κ _ no cv ad g cw rx rd rw mc ea mm (lar lf) (nI j) (hM.at 0 rfl) (hM.at 1 rfl) (hM.at 2 rfl)) (cwV 1 hC.2.2.2.2 (lw_V q1109 q1111 qs25 q63 q1112) rfl rfl rfl (by decide +kernel) ⟨(Nat.le_of_ble_eq_true rfl), (Nat.le_of_ble_eq_true rfl)⟩) rfl hl.1 rfl (lv_room (Nat.le_of_ble_eq_true rfl)) dX0_ask_2 ⟨(Nat.le_of_ble_eq_true rfl), (Nat.le_of_ble_eq_true rfl)⟩ rfl hM.2 (fun H locs hM => ?_)
  refine lv_if_eq (tgt := 15) hC.1 hC.2.1 dX0_ask_5 (by decide) (fun c1 => ?_) (fun c1 => ?_)
  ·
    skip
    exact absurd (c1 : bI _ = 0) (by rw [bI_t ⟨nI_pos' (by omega), by rw [show mm = (mm - 1) + 1 by omega, nI_pred]; exact nI_le (by omega) (by omega)⟩]; decide)
  ·
    skip
    refine lv_iload_n hC.1 hC.2.1 dX0_ask_8 rfl (lv_at hl 2 rfl) ?_
    refine s_ci hC (cc_isHalf l 0) (va_cwS 1 hC.2.2.2.2 (lw_S q999 q1000 q63 q1001) rfl rfl rfl (by decide +kernel) ⟨(Nat.le_of_ble_eq_true rfl), (Nat.le_of_ble_eq_true rfl)⟩) rfl hl.1 rfl (lv_room (Nat.le_of_ble_eq_true rfl)) dX0_ask_9 ⟨(Nat.le_of_ble_eq_true rfl), (Nat.le_of_ble_eq_true rfl)⟩ ?_
    refine lv_if_ne (tgt := 18) hC.1 hC.2.1 dX0_ask_12 (by decide) (fun c2 => ?_) (fun c2 => ?_)
    ·
      skip
      refine lv_aload_n hC.1 hC.2.1 dX0_ask_18 rfl (lv_at hl 0 rfl) ?_
      refine p_new (L' := fun q => [_, _, _, _, _]) hC hK hM (ci := 2) in_X2 tyX2 tyX2_ok q204 q205 q68 rfl (fs := [.null, .int 0]) (by decide) (Nat.le_of_ble_eq_true rfl) (Nat.le_of_ble_eq_true rfl) dX0_ask_19 (fun q => rfl) (fun q_3 H hq_3 hM => ?_)
      refine lv_dup hC.1 hC.2.1 dX0_ask_22 rfl ?_
      refine o_cIN hC hK hM.1 (ct_init l κ _ q_3 (hM.at 4 rfl)) ⟨va_cnB 0 hC.2.2.2.2 (lw_meth q208) rfl rfl rfl (hK.1.2.1 _ q206 rfl) (hC.2.2.2.2 _ q68) (by decide +kernel) ⟨(Nat.le_of_ble_eq_true rfl), (Nat.le_of_ble_eq_true rfl)⟩, rfl, hC.2.2.2.2 _ q207⟩ rfl hl.1 rfl (lv_room (Nat.le_of_ble_eq_true rfl)) dX0_ask_23 ⟨(Nat.le_of_ble_eq_true rfl), (Nat.le_of_ble_eq_true rfl)⟩ (fun rv O1 H locs hp hM1 => ?_)
      obtain ⟨tq, rfl, rfl⟩ := hp
      have hM := hM.set (L' := [_, _, _, _, _]) (i := 4) rfl hM1 rfl
      refine p_putr (L' := [_, _, _, _, _]) hC hK hM 0 rfl in_X0 tyX0 tyX0_ok nmX0 rfl 9 (by decide) q228 (fun x h => h) rfl rfl rfl (Nat.le_of_ble_eq_true rfl) rfl rfl rfl dX0_ask_26 (fun H locs hM => ?_)
      refine lv_aload_n hC.1 hC.2.1 dX0_ask_29 rfl (lv_at hl 0 rfl) ?_
      refine p_get hC hK hM 0 rfl in_X0 rfl 4 (by decide) q223 (fun x h => h) rfl dX0_ask_30 ?_
      refine p_get hC hK hM 1 rfl in_X1 rfl 8 (by decide) q168 (fun x h => h) rfl dX0_ask_33 ?_
      refine lv_iload_n hC.1 hC.2.1 dX0_ask_36 rfl (lv_at hl 1 rfl) ?_
      refine p_cFe (L' := [_, _, _, _, _]) hC hK hM (hM.at 2 rfl) rfl (cj_get l κ _ (rd 8) mc ea mm lf j a (hM.at 2 rfl) hj (by omega) hfq) (va_cwF 1 hC.2.2.2.2 (lw_F q1116 q904 q906 q67 q908) rfl rfl rfl (hK.1.2.2.2 _ (List.mem_of_getElem? (i := 2) (rfl : nFw[2]? = some _))) (by decide +kernel) ⟨(Nat.le_of_ble_eq_true rfl), (Nat.le_of_ble_eq_true rfl)⟩) rfl hl.1 rfl (lv_room (Nat.le_of_ble_eq_true rfl)) dX0_ask_37 ⟨(Nat.le_of_ble_eq_true rfl), (Nat.le_of_ble_eq_true rfl)⟩ rfl hM.2 (fun H locs hM => ?_)
      refine v_cn hC hK hM (kd := 3) (hM.at 3 rfl) (by decide) (by decide) dX0_ask_42 ?_
      refine lv_astore_n (lv' := [(3, _), (0, _), (1, _), (2, _)]) hC.1 hC.2.1 dX0_ask_45 rfl hl (by decide) rfl (fun ls hl => ?_)
      refine lv_iload_n hC.1 hC.2.1 dX0_ask_46 rfl (lv_at hl 3 rfl) ?_
      refine lv_if_ne (tgt := 65) hC.1 hC.2.1 dX0_ask_47 (by decide) (fun c4 => ?_) (fun c4 => ?_)
      ·
        skip
        exact absurd rfl c4
      ·
        skip
        skip
        refine lv_aload_n hC.1 hC.2.1 dX0_ask_50 rfl (lv_at hl 0 rfl) ?_
        refine lv_aload_n hC.1 hC.2.1 dX0_ask_51 rfl (lv_at hl 1 rfl) ?_
        refine p_get hC hK hM 0 rfl in_X0 rfl 9 (by decide) q228 (fun x h => h) rfl dX0_ask_52 ?_
        refine lv_aload_n hC.1 hC.2.1 dX0_ask_55 rfl (lv_at hl 1 rfl) ?_
        refine p_get hC hK hM 0 rfl in_X0 rfl 4 (by decide) q223 (fun x h => h) rfl dX0_ask_56 ?_
        refine p_cUe (L' := [_, _, _, _, _]) hC hK hM (hM.at 3 rfl) rfl (cm_is_11 l κ _ a mv q_3 tq 0 (fun _ => 0) (ad 4) rx rd rw k (hM.at 3 rfl) (hM.at 4 rfl) (by decide) (hM.at 1 rfl) hk hmk) (va_cwO 2 hC.2.2.2.2 (lw_O q1168 q1170 q1169 q1223 q1179 q90 q1180) rfl rfl rfl q1234 (by decide +kernel) ⟨(Nat.le_of_ble_eq_true rfl), (Nat.le_of_ble_eq_true rfl)⟩) rfl hl.1 rfl (lv_room (Nat.le_of_ble_eq_true rfl)) dX0_ask_59 ⟨(Nat.le_of_ble_eq_true rfl), (Nat.le_of_ble_eq_true rfl)⟩ (oups_set hM.2 (i := 4) rfl) (oad_nd hM.2 (i := 4) rfl rfl) (fun H locs hM => ?_)
        refine lv_goto (tgt := 77) hC.1 hC.2.1 dX0_ask_62 (by decide) ?_
        refine W.widen (k := 2) (n := 18) (Nat.le_of_ble_eq_true rfl) (Nat.le_of_ble_eq_true rfl) ?_
        refine p_iret hC hr hlocks hM dX0_ask_77 ?_
        refine ⟨rfl, q_3, tq, hq_3, ?_⟩
        rw [oups, oups, oups, oups, oups, oups, ask_end hN hR hls hA hq_3]
    ·
      skip
      exact absurd (c2 : bI _ = 0) (by decide)

set_option maxHeartbeats 400000 in
set_option maxRecDepth 100000 in
theorem cn_ask1_11 (l : Launch) (κ : Nat → Nat) (O : gO) (no : Nat) (cv : Nat → Int32) (ad : Nat → Nat) (g : Nat → Nat → Option Nat) (cw : Nat → Nat → Int32) (rx : Nat → Int32) (rd : Nat → Nat) (rw : Nat → Nat → Int32) (mc : Int32) (ea mm : Nat) (lf : Nat → Option Nat) (a j k : Nat) (mv : Nat → Int32) (hN : O no = some (nsU cv ad g cw)) (hR : O (ad 4) = some (rdU rx rd rw)) (hls : O (rd 8) = some (lsU mc ea (nI mm) (lar lf))) (hj : j < mm) (hmm : mm ≤ 5) (hfq : lf j = some a) (hA : O a = some (cU 11 mv (fun _ => 0) aNo)) (hk : k < 6) (hmk : mv 1 = nI k) : oM l κ yX0_ask cX0_ask 4 (some .int) ({ frames := 4, cells := 2, slots := 18, locals := 87 }) [.ref no, .int (nI j), .int 1] O (fun rv O1 => rv = some (.int (mv 0 + rw 6 k - 1000)) ∧ ∃ qt tq, O qt = none ∧ O1 = oup (oup O qt (tU 3 tq (upd (upd (upd (fun _ => 0) 0 22) 1 21) 2 20))) no (nsU cv (updN ad 9 qt) g cw)) := by
  intro D ac A
  refine o_body (own := RX0) rfl (plainFor_of_name (by decide)) (Nat.le_of_ble_eq_true rfl) ?_
  intro p e s m args below meth c ls hC hr hlocks hK hM hl hnamed hmeth
  have hl : lv_has ls 4 [(0, .ref no), (1, .int (nI j)), (2, .int 1)] := hl
  have hM := PS.of hM [(no, nsU cv ad g cw), (ad 4, rdU rx rd rw), (rd 8, lsU mc ea (nI mm) (lar lf)), (a, cU 11 mv (fun _ => 0) aNo)] ⟨hN, hR, hls, hA, trivial⟩ (by simp only [oad, List.map, List.nodup_cons, List.mem_cons, List.mem_singleton, List.not_mem_nil, not_or, or_false, not_false_eq_true, List.nodup_nil, and_true]; exact ⟨⟨o_ne hN hR (by decide), o_ne hN hls (by decide), o_ne hN hA (by decide)⟩, ⟨o_ne hR hls (by decide), o_ne hR hA (by decide)⟩, o_ne hls hA (by decide)⟩)
  refine lv_aload_n hC.1 hC.2.1 dX0_ask_0 rfl (lv_at hl 0 rfl) ?_
  refine lv_iload_n hC.1 hC.2.1 dX0_ask_1 rfl (lv_at hl 1 rfl) ?_
  refine p_cVe (L' := [_, _, _, _]) hC hK hM (hM.at 0 rfl) rfl (cn_isMover l κ _ no cv ad g cw rx rd rw mc ea mm (lar lf) (nI j) (hM.at 0 rfl) (hM.at 1 rfl) (hM.at 2 rfl)) (cwV 1 hC.2.2.2.2 (lw_V q1109 q1111 qs25 q63 q1112) rfl rfl rfl (by decide +kernel) ⟨(Nat.le_of_ble_eq_true rfl), (Nat.le_of_ble_eq_true rfl)⟩) rfl hl.1 rfl (lv_room (Nat.le_of_ble_eq_true rfl)) dX0_ask_2 ⟨(Nat.le_of_ble_eq_true rfl), (Nat.le_of_ble_eq_true rfl)⟩ rfl hM.2 (fun H locs hM => ?_)
  refine lv_if_eq (tgt := 15) hC.1 hC.2.1 dX0_ask_5 (by decide) (fun c1 => ?_) (fun c1 => ?_)
  ·
    skip
    exact absurd (c1 : bI _ = 0) (by rw [bI_t ⟨nI_pos' (by omega), by rw [show mm = (mm - 1) + 1 by omega, nI_pred]; exact nI_le (by omega) (by omega)⟩]; decide)
  ·
    skip
    refine lv_iload_n hC.1 hC.2.1 dX0_ask_8 rfl (lv_at hl 2 rfl) ?_
    refine s_ci hC (cc_isHalf l 1) (va_cwS 1 hC.2.2.2.2 (lw_S q999 q1000 q63 q1001) rfl rfl rfl (by decide +kernel) ⟨(Nat.le_of_ble_eq_true rfl), (Nat.le_of_ble_eq_true rfl)⟩) rfl hl.1 rfl (lv_room (Nat.le_of_ble_eq_true rfl)) dX0_ask_9 ⟨(Nat.le_of_ble_eq_true rfl), (Nat.le_of_ble_eq_true rfl)⟩ ?_
    refine lv_if_ne (tgt := 18) hC.1 hC.2.1 dX0_ask_12 (by decide) (fun c2 => ?_) (fun c2 => ?_)
    ·
      skip
      refine lv_aload_n hC.1 hC.2.1 dX0_ask_18 rfl (lv_at hl 0 rfl) ?_
      refine p_new (L' := fun q => [_, _, _, _, _]) hC hK hM (ci := 2) in_X2 tyX2 tyX2_ok q204 q205 q68 rfl (fs := [.null, .int 0]) (by decide) (Nat.le_of_ble_eq_true rfl) (Nat.le_of_ble_eq_true rfl) dX0_ask_19 (fun q => rfl) (fun q_3 H hq_3 hM => ?_)
      refine lv_dup hC.1 hC.2.1 dX0_ask_22 rfl ?_
      refine o_cIN hC hK hM.1 (ct_init l κ _ q_3 (hM.at 4 rfl)) ⟨va_cnB 0 hC.2.2.2.2 (lw_meth q208) rfl rfl rfl (hK.1.2.1 _ q206 rfl) (hC.2.2.2.2 _ q68) (by decide +kernel) ⟨(Nat.le_of_ble_eq_true rfl), (Nat.le_of_ble_eq_true rfl)⟩, rfl, hC.2.2.2.2 _ q207⟩ rfl hl.1 rfl (lv_room (Nat.le_of_ble_eq_true rfl)) dX0_ask_23 ⟨(Nat.le_of_ble_eq_true rfl), (Nat.le_of_ble_eq_true rfl)⟩ (fun rv O1 H locs hp hM1 => ?_)
      obtain ⟨tq, rfl, rfl⟩ := hp
      have hM := hM.set (L' := [_, _, _, _, _]) (i := 4) rfl hM1 rfl
      refine p_putr (L' := [_, _, _, _, _]) hC hK hM 0 rfl in_X0 tyX0 tyX0_ok nmX0 rfl 9 (by decide) q228 (fun x h => h) rfl rfl rfl (Nat.le_of_ble_eq_true rfl) rfl rfl rfl dX0_ask_26 (fun H locs hM => ?_)
      refine lv_aload_n hC.1 hC.2.1 dX0_ask_29 rfl (lv_at hl 0 rfl) ?_
      refine p_get hC hK hM 0 rfl in_X0 rfl 4 (by decide) q223 (fun x h => h) rfl dX0_ask_30 ?_
      refine p_get hC hK hM 1 rfl in_X1 rfl 8 (by decide) q168 (fun x h => h) rfl dX0_ask_33 ?_
      refine lv_iload_n hC.1 hC.2.1 dX0_ask_36 rfl (lv_at hl 1 rfl) ?_
      refine p_cFe (L' := [_, _, _, _, _]) hC hK hM (hM.at 2 rfl) rfl (cj_get l κ _ (rd 8) mc ea mm lf j a (hM.at 2 rfl) hj (by omega) hfq) (va_cwF 1 hC.2.2.2.2 (lw_F q1116 q904 q906 q67 q908) rfl rfl rfl (hK.1.2.2.2 _ (List.mem_of_getElem? (i := 2) (rfl : nFw[2]? = some _))) (by decide +kernel) ⟨(Nat.le_of_ble_eq_true rfl), (Nat.le_of_ble_eq_true rfl)⟩) rfl hl.1 rfl (lv_room (Nat.le_of_ble_eq_true rfl)) dX0_ask_37 ⟨(Nat.le_of_ble_eq_true rfl), (Nat.le_of_ble_eq_true rfl)⟩ rfl hM.2 (fun H locs hM => ?_)
      refine v_cn hC hK hM (kd := 3) (hM.at 3 rfl) (by decide) (by decide) dX0_ask_42 ?_
      refine lv_astore_n (lv' := [(3, _), (0, _), (1, _), (2, _)]) hC.1 hC.2.1 dX0_ask_45 rfl hl (by decide) rfl (fun ls hl => ?_)
      refine lv_iload_n hC.1 hC.2.1 dX0_ask_46 rfl (lv_at hl 3 rfl) ?_
      refine lv_if_ne (tgt := 65) hC.1 hC.2.1 dX0_ask_47 (by decide) (fun c4 => ?_) (fun c4 => ?_)
      ·
        skip
        skip
        refine lv_aload_n hC.1 hC.2.1 dX0_ask_65 rfl (lv_at hl 0 rfl) ?_
        refine lv_aload_n hC.1 hC.2.1 dX0_ask_66 rfl (lv_at hl 1 rfl) ?_
        refine p_get hC hK hM 0 rfl in_X0 rfl 9 (by decide) q228 (fun x h => h) rfl dX0_ask_67 ?_
        refine lv_aload_n hC.1 hC.2.1 dX0_ask_70 rfl (lv_at hl 1 rfl) ?_
        refine p_get hC hK hM 0 rfl in_X0 rfl 4 (by decide) q223 (fun x h => h) rfl dX0_ask_71 ?_
        refine p_cUe (L' := [_, _, _, _, _]) hC hK hM (hM.at 3 rfl) rfl (cm_mk_11 l κ _ a mv q_3 tq 0 (fun _ => 0) (ad 4) rx rd rw k (hM.at 3 rfl) (hM.at 4 rfl) (by decide) (hM.at 1 rfl) hk hmk) (cw_mark hC hK q1238 q1192 q92 q1193 ⟨Nat.le_of_ble_eq_true rfl, Nat.le_of_ble_eq_true rfl⟩) rfl hl.1 rfl (lv_room (Nat.le_of_ble_eq_true rfl)) dX0_ask_74 ⟨Nat.le_of_ble_eq_true rfl, Nat.le_of_ble_eq_true rfl⟩ (oups_set hM.2 (i := 4) rfl) (oad_nd hM.2 (i := 4) rfl rfl) (fun H locs hM => ?_)
        refine W.widen (k := 2) (n := 18) (Nat.le_of_ble_eq_true rfl) (Nat.le_of_ble_eq_true rfl) ?_
        refine p_iret hC hr hlocks hM dX0_ask_77 ?_
        refine ⟨rfl, q_3, tq, hq_3, ?_⟩
        rw [oups, oups, oups, oups, oups, oups, ask_end hN hR hls hA hq_3]
      ·
        skip
        exact absurd c4 (by decide)
    ·
      skip
      exact absurd (c2 : bI _ = 0) (by decide)

set_option maxHeartbeats 400000 in
set_option maxRecDepth 100000 in
theorem cn_ask0_12 (l : Launch) (κ : Nat → Nat) (O : gO) (no : Nat) (cv : Nat → Int32) (ad : Nat → Nat) (g : Nat → Nat → Option Nat) (cw : Nat → Nat → Int32) (rx : Nat → Int32) (rd : Nat → Nat) (rw : Nat → Nat → Int32) (mc : Int32) (ea mm : Nat) (lf : Nat → Option Nat) (a j k : Nat) (mv : Nat → Int32) (hN : O no = some (nsU cv ad g cw)) (hR : O (ad 4) = some (rdU rx rd rw)) (hls : O (rd 8) = some (lsU mc ea (nI mm) (lar lf))) (hj : j < mm) (hmm : mm ≤ 5) (hfq : lf j = some a) (hA : O a = some (cU 12 mv (fun _ => 0) aNo)) (hk : k < 6) (hmk : mv 1 = nI k) : oM l κ yX0_ask cX0_ask 4 (some .int) ({ frames := 3, cells := 2, slots := 18, locals := 65 }) [.ref no, .int (nI j), .int 0] O (fun rv O1 => rv = some (.int (mv 3 - 100)) ∧ ∃ qt tq, O qt = none ∧ O1 = oup (oup O qt (tU 2 tq (upd (upd (fun _ => 0) 0 13) 1 10))) no (nsU cv (updN ad 9 qt) g cw)) := by
  intro D ac A
  refine o_body (own := RX0) rfl (plainFor_of_name (by decide)) (Nat.le_of_ble_eq_true rfl) ?_
  intro p e s m args below meth c ls hC hr hlocks hK hM hl hnamed hmeth
  have hl : lv_has ls 4 [(0, .ref no), (1, .int (nI j)), (2, .int 0)] := hl
  have hM := PS.of hM [(no, nsU cv ad g cw), (ad 4, rdU rx rd rw), (rd 8, lsU mc ea (nI mm) (lar lf)), (a, cU 12 mv (fun _ => 0) aNo)] ⟨hN, hR, hls, hA, trivial⟩ (by simp only [oad, List.map, List.nodup_cons, List.mem_cons, List.mem_singleton, List.not_mem_nil, not_or, or_false, not_false_eq_true, List.nodup_nil, and_true]; exact ⟨⟨o_ne hN hR (by decide), o_ne hN hls (by decide), o_ne hN hA (by decide)⟩, ⟨o_ne hR hls (by decide), o_ne hR hA (by decide)⟩, o_ne hls hA (by decide)⟩)
  refine lv_aload_n hC.1 hC.2.1 dX0_ask_0 rfl (lv_at hl 0 rfl) ?_
  refine lv_iload_n hC.1 hC.2.1 dX0_ask_1 rfl (lv_at hl 1 rfl) ?_
  refine p_cVe (L' := [_, _, _, _]) hC hK hM (hM.at 0 rfl) rfl (cn_isMover l κ _ no cv ad g cw rx rd rw mc ea mm (lar lf) (nI j) (hM.at 0 rfl) (hM.at 1 rfl) (hM.at 2 rfl)) (cwV 1 hC.2.2.2.2 (lw_V q1109 q1111 qs25 q63 q1112) rfl rfl rfl (by decide +kernel) ⟨(Nat.le_of_ble_eq_true rfl), (Nat.le_of_ble_eq_true rfl)⟩) rfl hl.1 rfl (lv_room (Nat.le_of_ble_eq_true rfl)) dX0_ask_2 ⟨(Nat.le_of_ble_eq_true rfl), (Nat.le_of_ble_eq_true rfl)⟩ rfl hM.2 (fun H locs hM => ?_)
  refine lv_if_eq (tgt := 15) hC.1 hC.2.1 dX0_ask_5 (by decide) (fun c1 => ?_) (fun c1 => ?_)
  ·
    skip
    exact absurd (c1 : bI _ = 0) (by rw [bI_t ⟨nI_pos' (by omega), by rw [show mm = (mm - 1) + 1 by omega, nI_pred]; exact nI_le (by omega) (by omega)⟩]; decide)
  ·
    skip
    refine lv_iload_n hC.1 hC.2.1 dX0_ask_8 rfl (lv_at hl 2 rfl) ?_
    refine s_ci hC (cc_isHalf l 0) (va_cwS 1 hC.2.2.2.2 (lw_S q999 q1000 q63 q1001) rfl rfl rfl (by decide +kernel) ⟨(Nat.le_of_ble_eq_true rfl), (Nat.le_of_ble_eq_true rfl)⟩) rfl hl.1 rfl (lv_room (Nat.le_of_ble_eq_true rfl)) dX0_ask_9 ⟨(Nat.le_of_ble_eq_true rfl), (Nat.le_of_ble_eq_true rfl)⟩ ?_
    refine lv_if_ne (tgt := 18) hC.1 hC.2.1 dX0_ask_12 (by decide) (fun c2 => ?_) (fun c2 => ?_)
    ·
      skip
      refine lv_aload_n hC.1 hC.2.1 dX0_ask_18 rfl (lv_at hl 0 rfl) ?_
      refine p_new (L' := fun q => [_, _, _, _, _]) hC hK hM (ci := 2) in_X2 tyX2 tyX2_ok q204 q205 q68 rfl (fs := [.null, .int 0]) (by decide) (Nat.le_of_ble_eq_true rfl) (Nat.le_of_ble_eq_true rfl) dX0_ask_19 (fun q => rfl) (fun q_3 H hq_3 hM => ?_)
      refine lv_dup hC.1 hC.2.1 dX0_ask_22 rfl ?_
      refine o_cIN hC hK hM.1 (ct_init l κ _ q_3 (hM.at 4 rfl)) ⟨va_cnB 0 hC.2.2.2.2 (lw_meth q208) rfl rfl rfl (hK.1.2.1 _ q206 rfl) (hC.2.2.2.2 _ q68) (by decide +kernel) ⟨(Nat.le_of_ble_eq_true rfl), (Nat.le_of_ble_eq_true rfl)⟩, rfl, hC.2.2.2.2 _ q207⟩ rfl hl.1 rfl (lv_room (Nat.le_of_ble_eq_true rfl)) dX0_ask_23 ⟨(Nat.le_of_ble_eq_true rfl), (Nat.le_of_ble_eq_true rfl)⟩ (fun rv O1 H locs hp hM1 => ?_)
      obtain ⟨tq, rfl, rfl⟩ := hp
      have hM := hM.set (L' := [_, _, _, _, _]) (i := 4) rfl hM1 rfl
      refine p_putr (L' := [_, _, _, _, _]) hC hK hM 0 rfl in_X0 tyX0 tyX0_ok nmX0 rfl 9 (by decide) q228 (fun x h => h) rfl rfl rfl (Nat.le_of_ble_eq_true rfl) rfl rfl rfl dX0_ask_26 (fun H locs hM => ?_)
      refine lv_aload_n hC.1 hC.2.1 dX0_ask_29 rfl (lv_at hl 0 rfl) ?_
      refine p_get hC hK hM 0 rfl in_X0 rfl 4 (by decide) q223 (fun x h => h) rfl dX0_ask_30 ?_
      refine p_get hC hK hM 1 rfl in_X1 rfl 8 (by decide) q168 (fun x h => h) rfl dX0_ask_33 ?_
      refine lv_iload_n hC.1 hC.2.1 dX0_ask_36 rfl (lv_at hl 1 rfl) ?_
      refine p_cFe (L' := [_, _, _, _, _]) hC hK hM (hM.at 2 rfl) rfl (cj_get l κ _ (rd 8) mc ea mm lf j a (hM.at 2 rfl) hj (by omega) hfq) (va_cwF 1 hC.2.2.2.2 (lw_F q1116 q904 q906 q67 q908) rfl rfl rfl (hK.1.2.2.2 _ (List.mem_of_getElem? (i := 2) (rfl : nFw[2]? = some _))) (by decide +kernel) ⟨(Nat.le_of_ble_eq_true rfl), (Nat.le_of_ble_eq_true rfl)⟩) rfl hl.1 rfl (lv_room (Nat.le_of_ble_eq_true rfl)) dX0_ask_37 ⟨(Nat.le_of_ble_eq_true rfl), (Nat.le_of_ble_eq_true rfl)⟩ rfl hM.2 (fun H locs hM => ?_)
      refine v_cn hC hK hM (kd := 4) (hM.at 3 rfl) (by decide) (by decide) dX0_ask_42 ?_
      refine lv_astore_n (lv' := [(3, _), (0, _), (1, _), (2, _)]) hC.1 hC.2.1 dX0_ask_45 rfl hl (by decide) rfl (fun ls hl => ?_)
      refine lv_iload_n hC.1 hC.2.1 dX0_ask_46 rfl (lv_at hl 3 rfl) ?_
      refine lv_if_ne (tgt := 65) hC.1 hC.2.1 dX0_ask_47 (by decide) (fun c4 => ?_) (fun c4 => ?_)
      ·
        skip
        exact absurd rfl c4
      ·
        skip
        skip
        refine lv_aload_n hC.1 hC.2.1 dX0_ask_50 rfl (lv_at hl 0 rfl) ?_
        refine lv_aload_n hC.1 hC.2.1 dX0_ask_51 rfl (lv_at hl 1 rfl) ?_
        refine p_get hC hK hM 0 rfl in_X0 rfl 9 (by decide) q228 (fun x h => h) rfl dX0_ask_52 ?_
        refine lv_aload_n hC.1 hC.2.1 dX0_ask_55 rfl (lv_at hl 1 rfl) ?_
        refine p_get hC hK hM 0 rfl in_X0 rfl 4 (by decide) q223 (fun x h => h) rfl dX0_ask_56 ?_
        refine p_cUe (L' := [_, _, _, _, _]) hC hK hM (hM.at 3 rfl) rfl (cm_ts_12 l κ _ a mv q_3 tq 0 (fun _ => 0) (ad 4) (hM.at 3 rfl) (hM.at 4 rfl) (by decide)) (va_cwO 2 hC.2.2.2.2 (lw_O q1168 q1170 q1169 q1233 q1229 q93 q1230) rfl rfl rfl q1234 (by decide +kernel) ⟨(Nat.le_of_ble_eq_true rfl), (Nat.le_of_ble_eq_true rfl)⟩) rfl hl.1 rfl (lv_room (Nat.le_of_ble_eq_true rfl)) dX0_ask_59 ⟨(Nat.le_of_ble_eq_true rfl), (Nat.le_of_ble_eq_true rfl)⟩ (oups_set hM.2 (i := 4) rfl) (oad_nd hM.2 (i := 4) rfl rfl) (fun H locs hM => ?_)
        refine lv_goto (tgt := 77) hC.1 hC.2.1 dX0_ask_62 (by decide) ?_
        refine W.widen (k := 2) (n := 18) (Nat.le_of_ble_eq_true rfl) (Nat.le_of_ble_eq_true rfl) ?_
        refine p_iret hC hr hlocks hM dX0_ask_77 ?_
        refine ⟨rfl, q_3, tq, hq_3, ?_⟩
        rw [oups, oups, oups, oups, oups, oups, ask_end hN hR hls hA hq_3]
    ·
      skip
      exact absurd (c2 : bI _ = 0) (by decide)

set_option maxHeartbeats 400000 in
set_option maxRecDepth 100000 in
theorem cn_ask1_12 (l : Launch) (κ : Nat → Nat) (O : gO) (no : Nat) (cv : Nat → Int32) (ad : Nat → Nat) (g : Nat → Nat → Option Nat) (cw : Nat → Nat → Int32) (rx : Nat → Int32) (rd : Nat → Nat) (rw : Nat → Nat → Int32) (mc : Int32) (ea mm : Nat) (lf : Nat → Option Nat) (a j k : Nat) (mv : Nat → Int32) (hN : O no = some (nsU cv ad g cw)) (hR : O (ad 4) = some (rdU rx rd rw)) (hls : O (rd 8) = some (lsU mc ea (nI mm) (lar lf))) (hj : j < mm) (hmm : mm ≤ 5) (hfq : lf j = some a) (hA : O a = some (cU 12 mv (fun _ => 0) aNo)) (hk : k < 6) (hmk : mv 1 = nI k) : oM l κ yX0_ask cX0_ask 4 (some .int) ({ frames := 4, cells := 2, slots := 18, locals := 87 }) [.ref no, .int (nI j), .int 1] O (fun rv O1 => rv = some (.int (mv 0 - (mv 3 - 100))) ∧ ∃ qt tq, O qt = none ∧ O1 = oup (oup O qt (tU 4 tq (upd (upd (upd (upd (fun _ => 0) 0 23) 1 20) 2 13) 3 10))) no (nsU cv (updN ad 9 qt) g cw)) := by
  intro D ac A
  refine o_body (own := RX0) rfl (plainFor_of_name (by decide)) (Nat.le_of_ble_eq_true rfl) ?_
  intro p e s m args below meth c ls hC hr hlocks hK hM hl hnamed hmeth
  have hl : lv_has ls 4 [(0, .ref no), (1, .int (nI j)), (2, .int 1)] := hl
  have hM := PS.of hM [(no, nsU cv ad g cw), (ad 4, rdU rx rd rw), (rd 8, lsU mc ea (nI mm) (lar lf)), (a, cU 12 mv (fun _ => 0) aNo)] ⟨hN, hR, hls, hA, trivial⟩ (by simp only [oad, List.map, List.nodup_cons, List.mem_cons, List.mem_singleton, List.not_mem_nil, not_or, or_false, not_false_eq_true, List.nodup_nil, and_true]; exact ⟨⟨o_ne hN hR (by decide), o_ne hN hls (by decide), o_ne hN hA (by decide)⟩, ⟨o_ne hR hls (by decide), o_ne hR hA (by decide)⟩, o_ne hls hA (by decide)⟩)
  refine lv_aload_n hC.1 hC.2.1 dX0_ask_0 rfl (lv_at hl 0 rfl) ?_
  refine lv_iload_n hC.1 hC.2.1 dX0_ask_1 rfl (lv_at hl 1 rfl) ?_
  refine p_cVe (L' := [_, _, _, _]) hC hK hM (hM.at 0 rfl) rfl (cn_isMover l κ _ no cv ad g cw rx rd rw mc ea mm (lar lf) (nI j) (hM.at 0 rfl) (hM.at 1 rfl) (hM.at 2 rfl)) (cwV 1 hC.2.2.2.2 (lw_V q1109 q1111 qs25 q63 q1112) rfl rfl rfl (by decide +kernel) ⟨(Nat.le_of_ble_eq_true rfl), (Nat.le_of_ble_eq_true rfl)⟩) rfl hl.1 rfl (lv_room (Nat.le_of_ble_eq_true rfl)) dX0_ask_2 ⟨(Nat.le_of_ble_eq_true rfl), (Nat.le_of_ble_eq_true rfl)⟩ rfl hM.2 (fun H locs hM => ?_)
  refine lv_if_eq (tgt := 15) hC.1 hC.2.1 dX0_ask_5 (by decide) (fun c1 => ?_) (fun c1 => ?_)
  ·
    skip
    exact absurd (c1 : bI _ = 0) (by rw [bI_t ⟨nI_pos' (by omega), by rw [show mm = (mm - 1) + 1 by omega, nI_pred]; exact nI_le (by omega) (by omega)⟩]; decide)
  ·
    skip
    refine lv_iload_n hC.1 hC.2.1 dX0_ask_8 rfl (lv_at hl 2 rfl) ?_
    refine s_ci hC (cc_isHalf l 1) (va_cwS 1 hC.2.2.2.2 (lw_S q999 q1000 q63 q1001) rfl rfl rfl (by decide +kernel) ⟨(Nat.le_of_ble_eq_true rfl), (Nat.le_of_ble_eq_true rfl)⟩) rfl hl.1 rfl (lv_room (Nat.le_of_ble_eq_true rfl)) dX0_ask_9 ⟨(Nat.le_of_ble_eq_true rfl), (Nat.le_of_ble_eq_true rfl)⟩ ?_
    refine lv_if_ne (tgt := 18) hC.1 hC.2.1 dX0_ask_12 (by decide) (fun c2 => ?_) (fun c2 => ?_)
    ·
      skip
      refine lv_aload_n hC.1 hC.2.1 dX0_ask_18 rfl (lv_at hl 0 rfl) ?_
      refine p_new (L' := fun q => [_, _, _, _, _]) hC hK hM (ci := 2) in_X2 tyX2 tyX2_ok q204 q205 q68 rfl (fs := [.null, .int 0]) (by decide) (Nat.le_of_ble_eq_true rfl) (Nat.le_of_ble_eq_true rfl) dX0_ask_19 (fun q => rfl) (fun q_3 H hq_3 hM => ?_)
      refine lv_dup hC.1 hC.2.1 dX0_ask_22 rfl ?_
      refine o_cIN hC hK hM.1 (ct_init l κ _ q_3 (hM.at 4 rfl)) ⟨va_cnB 0 hC.2.2.2.2 (lw_meth q208) rfl rfl rfl (hK.1.2.1 _ q206 rfl) (hC.2.2.2.2 _ q68) (by decide +kernel) ⟨(Nat.le_of_ble_eq_true rfl), (Nat.le_of_ble_eq_true rfl)⟩, rfl, hC.2.2.2.2 _ q207⟩ rfl hl.1 rfl (lv_room (Nat.le_of_ble_eq_true rfl)) dX0_ask_23 ⟨(Nat.le_of_ble_eq_true rfl), (Nat.le_of_ble_eq_true rfl)⟩ (fun rv O1 H locs hp hM1 => ?_)
      obtain ⟨tq, rfl, rfl⟩ := hp
      have hM := hM.set (L' := [_, _, _, _, _]) (i := 4) rfl hM1 rfl
      refine p_putr (L' := [_, _, _, _, _]) hC hK hM 0 rfl in_X0 tyX0 tyX0_ok nmX0 rfl 9 (by decide) q228 (fun x h => h) rfl rfl rfl (Nat.le_of_ble_eq_true rfl) rfl rfl rfl dX0_ask_26 (fun H locs hM => ?_)
      refine lv_aload_n hC.1 hC.2.1 dX0_ask_29 rfl (lv_at hl 0 rfl) ?_
      refine p_get hC hK hM 0 rfl in_X0 rfl 4 (by decide) q223 (fun x h => h) rfl dX0_ask_30 ?_
      refine p_get hC hK hM 1 rfl in_X1 rfl 8 (by decide) q168 (fun x h => h) rfl dX0_ask_33 ?_
      refine lv_iload_n hC.1 hC.2.1 dX0_ask_36 rfl (lv_at hl 1 rfl) ?_
      refine p_cFe (L' := [_, _, _, _, _]) hC hK hM (hM.at 2 rfl) rfl (cj_get l κ _ (rd 8) mc ea mm lf j a (hM.at 2 rfl) hj (by omega) hfq) (va_cwF 1 hC.2.2.2.2 (lw_F q1116 q904 q906 q67 q908) rfl rfl rfl (hK.1.2.2.2 _ (List.mem_of_getElem? (i := 2) (rfl : nFw[2]? = some _))) (by decide +kernel) ⟨(Nat.le_of_ble_eq_true rfl), (Nat.le_of_ble_eq_true rfl)⟩) rfl hl.1 rfl (lv_room (Nat.le_of_ble_eq_true rfl)) dX0_ask_37 ⟨(Nat.le_of_ble_eq_true rfl), (Nat.le_of_ble_eq_true rfl)⟩ rfl hM.2 (fun H locs hM => ?_)
      refine v_cn hC hK hM (kd := 4) (hM.at 3 rfl) (by decide) (by decide) dX0_ask_42 ?_
      refine lv_astore_n (lv' := [(3, _), (0, _), (1, _), (2, _)]) hC.1 hC.2.1 dX0_ask_45 rfl hl (by decide) rfl (fun ls hl => ?_)
      refine lv_iload_n hC.1 hC.2.1 dX0_ask_46 rfl (lv_at hl 3 rfl) ?_
      refine lv_if_ne (tgt := 65) hC.1 hC.2.1 dX0_ask_47 (by decide) (fun c4 => ?_) (fun c4 => ?_)
      ·
        skip
        skip
        refine lv_aload_n hC.1 hC.2.1 dX0_ask_65 rfl (lv_at hl 0 rfl) ?_
        refine lv_aload_n hC.1 hC.2.1 dX0_ask_66 rfl (lv_at hl 1 rfl) ?_
        refine p_get hC hK hM 0 rfl in_X0 rfl 9 (by decide) q228 (fun x h => h) rfl dX0_ask_67 ?_
        refine lv_aload_n hC.1 hC.2.1 dX0_ask_70 rfl (lv_at hl 1 rfl) ?_
        refine p_get hC hK hM 0 rfl in_X0 rfl 4 (by decide) q223 (fun x h => h) rfl dX0_ask_71 ?_
        refine p_cUe (L' := [_, _, _, _, _]) hC hK hM (hM.at 3 rfl) rfl (cm_tm_12 l κ _ a mv q_3 tq 0 (fun _ => 0) (ad 4) (hM.at 3 rfl) (hM.at 4 rfl) (by decide)) (cw_mark hC hK q1243 q1240 q93 q1241 ⟨Nat.le_of_ble_eq_true rfl, Nat.le_of_ble_eq_true rfl⟩) rfl hl.1 rfl (lv_room (Nat.le_of_ble_eq_true rfl)) dX0_ask_74 ⟨Nat.le_of_ble_eq_true rfl, Nat.le_of_ble_eq_true rfl⟩ (oups_set hM.2 (i := 4) rfl) (oad_nd hM.2 (i := 4) rfl rfl) (fun H locs hM => ?_)
        refine W.widen (k := 2) (n := 18) (Nat.le_of_ble_eq_true rfl) (Nat.le_of_ble_eq_true rfl) ?_
        refine p_iret hC hr hlocks hM dX0_ask_77 ?_
        refine ⟨rfl, q_3, tq, hq_3, ?_⟩
        rw [oups, oups, oups, oups, oups, oups, ask_end hN hR hls hA hq_3]
      ·
        skip
        exact absurd c4 (by decide)
    ·
      skip
      exact absurd (c2 : bI _ = 0) (by decide)

set_option maxHeartbeats 400000 in
set_option maxRecDepth 100000 in
theorem cn_ask0_13 (l : Launch) (κ : Nat → Nat) (O : gO) (no : Nat) (cv : Nat → Int32) (ad : Nat → Nat) (g : Nat → Nat → Option Nat) (cw : Nat → Nat → Int32) (rx : Nat → Int32) (rd : Nat → Nat) (rw : Nat → Nat → Int32) (mc : Int32) (ea mm : Nat) (lf : Nat → Option Nat) (a j k : Nat) (mv : Nat → Int32) (hN : O no = some (nsU cv ad g cw)) (hR : O (ad 4) = some (rdU rx rd rw)) (hls : O (rd 8) = some (lsU mc ea (nI mm) (lar lf))) (hj : j < mm) (hmm : mm ≤ 5) (hfq : lf j = some a) (hA : O a = some (cU 13 mv (fun _ => 0) aNo)) (hk : k < 6) (hmk : mv 1 = nI k) : oM l κ yX0_ask cX0_ask 4 (some .int) ({ frames := 4, cells := 2, slots := 18, locals := 87 }) [.ref no, .int (nI j), .int 0] O (fun rv O1 => rv = some (.int (2 * (mv 3 - 100))) ∧ ∃ qt tq, O qt = none ∧ O1 = oup (oup O qt (tU 3 tq (upd (upd (upd (fun _ => 0) 0 14) 1 13) 2 10))) no (nsU cv (updN ad 9 qt) g cw)) := by
  intro D ac A
  refine o_body (own := RX0) rfl (plainFor_of_name (by decide)) (Nat.le_of_ble_eq_true rfl) ?_
  intro p e s m args below meth c ls hC hr hlocks hK hM hl hnamed hmeth
  have hl : lv_has ls 4 [(0, .ref no), (1, .int (nI j)), (2, .int 0)] := hl
  have hM := PS.of hM [(no, nsU cv ad g cw), (ad 4, rdU rx rd rw), (rd 8, lsU mc ea (nI mm) (lar lf)), (a, cU 13 mv (fun _ => 0) aNo)] ⟨hN, hR, hls, hA, trivial⟩ (by simp only [oad, List.map, List.nodup_cons, List.mem_cons, List.mem_singleton, List.not_mem_nil, not_or, or_false, not_false_eq_true, List.nodup_nil, and_true]; exact ⟨⟨o_ne hN hR (by decide), o_ne hN hls (by decide), o_ne hN hA (by decide)⟩, ⟨o_ne hR hls (by decide), o_ne hR hA (by decide)⟩, o_ne hls hA (by decide)⟩)
  refine lv_aload_n hC.1 hC.2.1 dX0_ask_0 rfl (lv_at hl 0 rfl) ?_
  refine lv_iload_n hC.1 hC.2.1 dX0_ask_1 rfl (lv_at hl 1 rfl) ?_
  refine p_cVe (L' := [_, _, _, _]) hC hK hM (hM.at 0 rfl) rfl (cn_isMover l κ _ no cv ad g cw rx rd rw mc ea mm (lar lf) (nI j) (hM.at 0 rfl) (hM.at 1 rfl) (hM.at 2 rfl)) (cwV 1 hC.2.2.2.2 (lw_V q1109 q1111 qs25 q63 q1112) rfl rfl rfl (by decide +kernel) ⟨(Nat.le_of_ble_eq_true rfl), (Nat.le_of_ble_eq_true rfl)⟩) rfl hl.1 rfl (lv_room (Nat.le_of_ble_eq_true rfl)) dX0_ask_2 ⟨(Nat.le_of_ble_eq_true rfl), (Nat.le_of_ble_eq_true rfl)⟩ rfl hM.2 (fun H locs hM => ?_)
  refine lv_if_eq (tgt := 15) hC.1 hC.2.1 dX0_ask_5 (by decide) (fun c1 => ?_) (fun c1 => ?_)
  ·
    skip
    exact absurd (c1 : bI _ = 0) (by rw [bI_t ⟨nI_pos' (by omega), by rw [show mm = (mm - 1) + 1 by omega, nI_pred]; exact nI_le (by omega) (by omega)⟩]; decide)
  ·
    skip
    refine lv_iload_n hC.1 hC.2.1 dX0_ask_8 rfl (lv_at hl 2 rfl) ?_
    refine s_ci hC (cc_isHalf l 0) (va_cwS 1 hC.2.2.2.2 (lw_S q999 q1000 q63 q1001) rfl rfl rfl (by decide +kernel) ⟨(Nat.le_of_ble_eq_true rfl), (Nat.le_of_ble_eq_true rfl)⟩) rfl hl.1 rfl (lv_room (Nat.le_of_ble_eq_true rfl)) dX0_ask_9 ⟨(Nat.le_of_ble_eq_true rfl), (Nat.le_of_ble_eq_true rfl)⟩ ?_
    refine lv_if_ne (tgt := 18) hC.1 hC.2.1 dX0_ask_12 (by decide) (fun c2 => ?_) (fun c2 => ?_)
    ·
      skip
      refine lv_aload_n hC.1 hC.2.1 dX0_ask_18 rfl (lv_at hl 0 rfl) ?_
      refine p_new (L' := fun q => [_, _, _, _, _]) hC hK hM (ci := 2) in_X2 tyX2 tyX2_ok q204 q205 q68 rfl (fs := [.null, .int 0]) (by decide) (Nat.le_of_ble_eq_true rfl) (Nat.le_of_ble_eq_true rfl) dX0_ask_19 (fun q => rfl) (fun q_3 H hq_3 hM => ?_)
      refine lv_dup hC.1 hC.2.1 dX0_ask_22 rfl ?_
      refine o_cIN hC hK hM.1 (ct_init l κ _ q_3 (hM.at 4 rfl)) ⟨va_cnB 0 hC.2.2.2.2 (lw_meth q208) rfl rfl rfl (hK.1.2.1 _ q206 rfl) (hC.2.2.2.2 _ q68) (by decide +kernel) ⟨(Nat.le_of_ble_eq_true rfl), (Nat.le_of_ble_eq_true rfl)⟩, rfl, hC.2.2.2.2 _ q207⟩ rfl hl.1 rfl (lv_room (Nat.le_of_ble_eq_true rfl)) dX0_ask_23 ⟨(Nat.le_of_ble_eq_true rfl), (Nat.le_of_ble_eq_true rfl)⟩ (fun rv O1 H locs hp hM1 => ?_)
      obtain ⟨tq, rfl, rfl⟩ := hp
      have hM := hM.set (L' := [_, _, _, _, _]) (i := 4) rfl hM1 rfl
      refine p_putr (L' := [_, _, _, _, _]) hC hK hM 0 rfl in_X0 tyX0 tyX0_ok nmX0 rfl 9 (by decide) q228 (fun x h => h) rfl rfl rfl (Nat.le_of_ble_eq_true rfl) rfl rfl rfl dX0_ask_26 (fun H locs hM => ?_)
      refine lv_aload_n hC.1 hC.2.1 dX0_ask_29 rfl (lv_at hl 0 rfl) ?_
      refine p_get hC hK hM 0 rfl in_X0 rfl 4 (by decide) q223 (fun x h => h) rfl dX0_ask_30 ?_
      refine p_get hC hK hM 1 rfl in_X1 rfl 8 (by decide) q168 (fun x h => h) rfl dX0_ask_33 ?_
      refine lv_iload_n hC.1 hC.2.1 dX0_ask_36 rfl (lv_at hl 1 rfl) ?_
      refine p_cFe (L' := [_, _, _, _, _]) hC hK hM (hM.at 2 rfl) rfl (cj_get l κ _ (rd 8) mc ea mm lf j a (hM.at 2 rfl) hj (by omega) hfq) (va_cwF 1 hC.2.2.2.2 (lw_F q1116 q904 q906 q67 q908) rfl rfl rfl (hK.1.2.2.2 _ (List.mem_of_getElem? (i := 2) (rfl : nFw[2]? = some _))) (by decide +kernel) ⟨(Nat.le_of_ble_eq_true rfl), (Nat.le_of_ble_eq_true rfl)⟩) rfl hl.1 rfl (lv_room (Nat.le_of_ble_eq_true rfl)) dX0_ask_37 ⟨(Nat.le_of_ble_eq_true rfl), (Nat.le_of_ble_eq_true rfl)⟩ rfl hM.2 (fun H locs hM => ?_)
      refine v_cn hC hK hM (kd := 5) (hM.at 3 rfl) (by decide) (by decide) dX0_ask_42 ?_
      refine lv_astore_n (lv' := [(3, _), (0, _), (1, _), (2, _)]) hC.1 hC.2.1 dX0_ask_45 rfl hl (by decide) rfl (fun ls hl => ?_)
      refine lv_iload_n hC.1 hC.2.1 dX0_ask_46 rfl (lv_at hl 3 rfl) ?_
      refine lv_if_ne (tgt := 65) hC.1 hC.2.1 dX0_ask_47 (by decide) (fun c4 => ?_) (fun c4 => ?_)
      ·
        skip
        exact absurd rfl c4
      ·
        skip
        skip
        refine lv_aload_n hC.1 hC.2.1 dX0_ask_50 rfl (lv_at hl 0 rfl) ?_
        refine lv_aload_n hC.1 hC.2.1 dX0_ask_51 rfl (lv_at hl 1 rfl) ?_
        refine p_get hC hK hM 0 rfl in_X0 rfl 9 (by decide) q228 (fun x h => h) rfl dX0_ask_52 ?_
        refine lv_aload_n hC.1 hC.2.1 dX0_ask_55 rfl (lv_at hl 1 rfl) ?_
        refine p_get hC hK hM 0 rfl in_X0 rfl 4 (by decide) q223 (fun x h => h) rfl dX0_ask_56 ?_
        refine p_cUe (L' := [_, _, _, _, _]) hC hK hM (hM.at 3 rfl) rfl (cm_ps_13 l κ _ a mv q_3 tq 0 (fun _ => 0) (ad 4) (hM.at 3 rfl) (hM.at 4 rfl) (by decide)) (va_cwO 2 hC.2.2.2.2 (lw_O q1168 q1170 q1169 q1224 q1225 q94 q1226) rfl rfl rfl q1234 (by decide +kernel) ⟨(Nat.le_of_ble_eq_true rfl), (Nat.le_of_ble_eq_true rfl)⟩) rfl hl.1 rfl (lv_room (Nat.le_of_ble_eq_true rfl)) dX0_ask_59 ⟨(Nat.le_of_ble_eq_true rfl), (Nat.le_of_ble_eq_true rfl)⟩ (oups_set hM.2 (i := 4) rfl) (oad_nd hM.2 (i := 4) rfl rfl) (fun H locs hM => ?_)
        refine lv_goto (tgt := 77) hC.1 hC.2.1 dX0_ask_62 (by decide) ?_
        refine W.widen (k := 2) (n := 18) (Nat.le_of_ble_eq_true rfl) (Nat.le_of_ble_eq_true rfl) ?_
        refine p_iret hC hr hlocks hM dX0_ask_77 ?_
        refine ⟨rfl, q_3, tq, hq_3, ?_⟩
        rw [oups, oups, oups, oups, oups, oups, ask_end hN hR hls hA hq_3]
    ·
      skip
      exact absurd (c2 : bI _ = 0) (by decide)

set_option maxHeartbeats 400000 in
set_option maxRecDepth 100000 in
theorem cn_ask1_13 (l : Launch) (κ : Nat → Nat) (O : gO) (no : Nat) (cv : Nat → Int32) (ad : Nat → Nat) (g : Nat → Nat → Option Nat) (cw : Nat → Nat → Int32) (rx : Nat → Int32) (rd : Nat → Nat) (rw : Nat → Nat → Int32) (mc : Int32) (ea mm : Nat) (lf : Nat → Option Nat) (a j k : Nat) (mv : Nat → Int32) (hN : O no = some (nsU cv ad g cw)) (hR : O (ad 4) = some (rdU rx rd rw)) (hls : O (rd 8) = some (lsU mc ea (nI mm) (lar lf))) (hj : j < mm) (hmm : mm ≤ 5) (hfq : lf j = some a) (hA : O a = some (cU 13 mv (fun _ => 0) aNo)) (hk : k < 6) (hmk : mv 1 = nI k) : oM l κ yX0_ask cX0_ask 4 (some .int) ({ frames := 5, cells := 2, slots := 18, locals := 109 }) [.ref no, .int (nI j), .int 1] O (fun rv O1 => rv = some (.int (mv 0 - (2 * (mv 3 - 100)))) ∧ ∃ qt tq, O qt = none ∧ O1 = oup (oup O qt (tU 5 tq (upd (upd (upd (upd (upd (fun _ => 0) 0 23) 1 20) 2 14) 3 13) 4 10))) no (nsU cv (updN ad 9 qt) g cw)) := by
  intro D ac A
  refine o_body (own := RX0) rfl (plainFor_of_name (by decide)) (Nat.le_of_ble_eq_true rfl) ?_
  intro p e s m args below meth c ls hC hr hlocks hK hM hl hnamed hmeth
  have hl : lv_has ls 4 [(0, .ref no), (1, .int (nI j)), (2, .int 1)] := hl
  have hM := PS.of hM [(no, nsU cv ad g cw), (ad 4, rdU rx rd rw), (rd 8, lsU mc ea (nI mm) (lar lf)), (a, cU 13 mv (fun _ => 0) aNo)] ⟨hN, hR, hls, hA, trivial⟩ (by simp only [oad, List.map, List.nodup_cons, List.mem_cons, List.mem_singleton, List.not_mem_nil, not_or, or_false, not_false_eq_true, List.nodup_nil, and_true]; exact ⟨⟨o_ne hN hR (by decide), o_ne hN hls (by decide), o_ne hN hA (by decide)⟩, ⟨o_ne hR hls (by decide), o_ne hR hA (by decide)⟩, o_ne hls hA (by decide)⟩)
  refine lv_aload_n hC.1 hC.2.1 dX0_ask_0 rfl (lv_at hl 0 rfl) ?_
  refine lv_iload_n hC.1 hC.2.1 dX0_ask_1 rfl (lv_at hl 1 rfl) ?_
  refine p_cVe (L' := [_, _, _, _]) hC hK hM (hM.at 0 rfl) rfl (cn_isMover l κ _ no cv ad g cw rx rd rw mc ea mm (lar lf) (nI j) (hM.at 0 rfl) (hM.at 1 rfl) (hM.at 2 rfl)) (cwV 1 hC.2.2.2.2 (lw_V q1109 q1111 qs25 q63 q1112) rfl rfl rfl (by decide +kernel) ⟨(Nat.le_of_ble_eq_true rfl), (Nat.le_of_ble_eq_true rfl)⟩) rfl hl.1 rfl (lv_room (Nat.le_of_ble_eq_true rfl)) dX0_ask_2 ⟨(Nat.le_of_ble_eq_true rfl), (Nat.le_of_ble_eq_true rfl)⟩ rfl hM.2 (fun H locs hM => ?_)
  refine lv_if_eq (tgt := 15) hC.1 hC.2.1 dX0_ask_5 (by decide) (fun c1 => ?_) (fun c1 => ?_)
  ·
    skip
    exact absurd (c1 : bI _ = 0) (by rw [bI_t ⟨nI_pos' (by omega), by rw [show mm = (mm - 1) + 1 by omega, nI_pred]; exact nI_le (by omega) (by omega)⟩]; decide)
  ·
    skip
    refine lv_iload_n hC.1 hC.2.1 dX0_ask_8 rfl (lv_at hl 2 rfl) ?_
    refine s_ci hC (cc_isHalf l 1) (va_cwS 1 hC.2.2.2.2 (lw_S q999 q1000 q63 q1001) rfl rfl rfl (by decide +kernel) ⟨(Nat.le_of_ble_eq_true rfl), (Nat.le_of_ble_eq_true rfl)⟩) rfl hl.1 rfl (lv_room (Nat.le_of_ble_eq_true rfl)) dX0_ask_9 ⟨(Nat.le_of_ble_eq_true rfl), (Nat.le_of_ble_eq_true rfl)⟩ ?_
    refine lv_if_ne (tgt := 18) hC.1 hC.2.1 dX0_ask_12 (by decide) (fun c2 => ?_) (fun c2 => ?_)
    ·
      skip
      refine lv_aload_n hC.1 hC.2.1 dX0_ask_18 rfl (lv_at hl 0 rfl) ?_
      refine p_new (L' := fun q => [_, _, _, _, _]) hC hK hM (ci := 2) in_X2 tyX2 tyX2_ok q204 q205 q68 rfl (fs := [.null, .int 0]) (by decide) (Nat.le_of_ble_eq_true rfl) (Nat.le_of_ble_eq_true rfl) dX0_ask_19 (fun q => rfl) (fun q_3 H hq_3 hM => ?_)
      refine lv_dup hC.1 hC.2.1 dX0_ask_22 rfl ?_
      refine o_cIN hC hK hM.1 (ct_init l κ _ q_3 (hM.at 4 rfl)) ⟨va_cnB 0 hC.2.2.2.2 (lw_meth q208) rfl rfl rfl (hK.1.2.1 _ q206 rfl) (hC.2.2.2.2 _ q68) (by decide +kernel) ⟨(Nat.le_of_ble_eq_true rfl), (Nat.le_of_ble_eq_true rfl)⟩, rfl, hC.2.2.2.2 _ q207⟩ rfl hl.1 rfl (lv_room (Nat.le_of_ble_eq_true rfl)) dX0_ask_23 ⟨(Nat.le_of_ble_eq_true rfl), (Nat.le_of_ble_eq_true rfl)⟩ (fun rv O1 H locs hp hM1 => ?_)
      obtain ⟨tq, rfl, rfl⟩ := hp
      have hM := hM.set (L' := [_, _, _, _, _]) (i := 4) rfl hM1 rfl
      refine p_putr (L' := [_, _, _, _, _]) hC hK hM 0 rfl in_X0 tyX0 tyX0_ok nmX0 rfl 9 (by decide) q228 (fun x h => h) rfl rfl rfl (Nat.le_of_ble_eq_true rfl) rfl rfl rfl dX0_ask_26 (fun H locs hM => ?_)
      refine lv_aload_n hC.1 hC.2.1 dX0_ask_29 rfl (lv_at hl 0 rfl) ?_
      refine p_get hC hK hM 0 rfl in_X0 rfl 4 (by decide) q223 (fun x h => h) rfl dX0_ask_30 ?_
      refine p_get hC hK hM 1 rfl in_X1 rfl 8 (by decide) q168 (fun x h => h) rfl dX0_ask_33 ?_
      refine lv_iload_n hC.1 hC.2.1 dX0_ask_36 rfl (lv_at hl 1 rfl) ?_
      refine p_cFe (L' := [_, _, _, _, _]) hC hK hM (hM.at 2 rfl) rfl (cj_get l κ _ (rd 8) mc ea mm lf j a (hM.at 2 rfl) hj (by omega) hfq) (va_cwF 1 hC.2.2.2.2 (lw_F q1116 q904 q906 q67 q908) rfl rfl rfl (hK.1.2.2.2 _ (List.mem_of_getElem? (i := 2) (rfl : nFw[2]? = some _))) (by decide +kernel) ⟨(Nat.le_of_ble_eq_true rfl), (Nat.le_of_ble_eq_true rfl)⟩) rfl hl.1 rfl (lv_room (Nat.le_of_ble_eq_true rfl)) dX0_ask_37 ⟨(Nat.le_of_ble_eq_true rfl), (Nat.le_of_ble_eq_true rfl)⟩ rfl hM.2 (fun H locs hM => ?_)
      refine v_cn hC hK hM (kd := 5) (hM.at 3 rfl) (by decide) (by decide) dX0_ask_42 ?_
      refine lv_astore_n (lv' := [(3, _), (0, _), (1, _), (2, _)]) hC.1 hC.2.1 dX0_ask_45 rfl hl (by decide) rfl (fun ls hl => ?_)
      refine lv_iload_n hC.1 hC.2.1 dX0_ask_46 rfl (lv_at hl 3 rfl) ?_
      refine lv_if_ne (tgt := 65) hC.1 hC.2.1 dX0_ask_47 (by decide) (fun c4 => ?_) (fun c4 => ?_)
      ·
        skip
        skip
        refine lv_aload_n hC.1 hC.2.1 dX0_ask_65 rfl (lv_at hl 0 rfl) ?_
        refine lv_aload_n hC.1 hC.2.1 dX0_ask_66 rfl (lv_at hl 1 rfl) ?_
        refine p_get hC hK hM 0 rfl in_X0 rfl 9 (by decide) q228 (fun x h => h) rfl dX0_ask_67 ?_
        refine lv_aload_n hC.1 hC.2.1 dX0_ask_70 rfl (lv_at hl 1 rfl) ?_
        refine p_get hC hK hM 0 rfl in_X0 rfl 4 (by decide) q223 (fun x h => h) rfl dX0_ask_71 ?_
        refine p_cUe (L' := [_, _, _, _, _]) hC hK hM (hM.at 3 rfl) rfl (cm_tm_13 l κ _ a mv q_3 tq 0 (fun _ => 0) (ad 4) (hM.at 3 rfl) (hM.at 4 rfl) (by decide)) (cw_mark hC hK q1239 q1240 q93 q1241 ⟨Nat.le_of_ble_eq_true rfl, Nat.le_of_ble_eq_true rfl⟩) rfl hl.1 rfl (lv_room (Nat.le_of_ble_eq_true rfl)) dX0_ask_74 ⟨Nat.le_of_ble_eq_true rfl, Nat.le_of_ble_eq_true rfl⟩ (oups_set hM.2 (i := 4) rfl) (oad_nd hM.2 (i := 4) rfl rfl) (fun H locs hM => ?_)
        refine W.widen (k := 2) (n := 18) (Nat.le_of_ble_eq_true rfl) (Nat.le_of_ble_eq_true rfl) ?_
        refine p_iret hC hr hlocks hM dX0_ask_77 ?_
        refine ⟨rfl, q_3, tq, hq_3, ?_⟩
        rw [oups, oups, oups, oups, oups, oups, ask_end hN hR hls hA hq_3]
      ·
        skip
        exact absurd c4 (by decide)
    ·
      skip
      exact absurd (c2 : bI _ = 0) (by decide)

set_option maxHeartbeats 400000 in
set_option maxRecDepth 100000 in
theorem cn_askX (l : Launch) (κ : Nat → Nat) (O : gO) (no : Nat) (cv : Nat → Int32) (ad : Nat → Nat) (g : Nat → Nat → Option Nat) (cw : Nat → Nat → Int32) (rx : Nat → Int32) (rd : Nat → Nat) (rw : Nat → Nat → Int32) (mc : Int32) (ea mm : Nat) (ar : gA) (x y : Int32) (hN : O no = some (nsU cv ad g cw)) (hR : O (ad 4) = some (rdU rx rd rw)) (hls : O (rd 8) = some (lsU mc ea (nI mm) ar)) (hb : ¬ (0 ≤ x ∧ x ≤ nI mm - 1) ∨ ¬ (0 ≤ y ∧ y ≤ 1)) : oM l κ yX0_ask cX0_ask 4 (some .int) ({ frames := 2, cells := 0, slots := 0, locals := 46 }) [.ref no, .int x, .int y] O (fun rv O1 => rv = some (.int (-1000001)) ∧ O1 = O) := by
  intro D ac A
  refine o_body (own := RX0) rfl (plainFor_of_name (by decide)) (Nat.le_of_ble_eq_true rfl) ?_
  intro p e s m args below meth c ls hC hr hlocks hK hM hl hnamed hmeth
  have hl : lv_has ls 4 [(0, .ref no), (1, .int x), (2, .int y)] := hl
  have hM := PS.of hM [(no, nsU cv ad g cw), (ad 4, rdU rx rd rw), (rd 8, lsU mc ea (nI mm) ar)] ⟨hN, hR, hls, trivial⟩ (by simp only [oad, List.map, List.nodup_cons, List.mem_cons, List.mem_singleton, List.not_mem_nil, not_or, or_false, not_false_eq_true, List.nodup_nil, and_true]; exact ⟨⟨o_ne hN hR (by decide), o_ne hN hls (by decide)⟩, o_ne hR hls (by decide)⟩)
  refine lv_aload_n hC.1 hC.2.1 dX0_ask_0 rfl (lv_at hl 0 rfl) ?_
  refine lv_iload_n hC.1 hC.2.1 dX0_ask_1 rfl (lv_at hl 1 rfl) ?_
  refine p_cVe (L' := [_, _, _]) hC hK hM (hM.at 0 rfl) rfl (cn_isMover l κ _ no cv ad g cw rx rd rw mc ea mm ar x (hM.at 0 rfl) (hM.at 1 rfl) (hM.at 2 rfl)) (cwV 1 hC.2.2.2.2 (lw_V q1109 q1111 qs25 q63 q1112) rfl rfl rfl (by decide +kernel) ⟨(Nat.le_of_ble_eq_true rfl), (Nat.le_of_ble_eq_true rfl)⟩) rfl hl.1 rfl (lv_room (Nat.le_of_ble_eq_true rfl)) dX0_ask_2 ⟨(Nat.le_of_ble_eq_true rfl), (Nat.le_of_ble_eq_true rfl)⟩ rfl hM.2 (fun H locs hM => ?_)
  refine lv_if_eq (tgt := 15) hC.1 hC.2.1 dX0_ask_5 (by decide) (fun c1 => ?_) (fun c1 => ?_)
  ·
    skip
    rw [bI_0] at c1
    have k1 := c1
    refine lv_ldc hC.1 hC.2.1 hC.2.2.2.1 (hC.2.2.2.2 _ q269) dX0_ask_15 ?_
    skip
    refine p_iret hC hr hlocks hM dX0_ask_17 ?_
    exact ⟨rfl, by rw [oups, oups, oups, oups, oup_same hls, oup_same hR]; exact oup_same hN⟩
  ·
    skip
    rw [bI_n0] at c1
    have k1 := c1
    refine lv_iload_n hC.1 hC.2.1 dX0_ask_8 rfl (lv_at hl 2 rfl) ?_
    refine s_ci hC (cc_isHalf l y) (va_cwS 1 hC.2.2.2.2 (lw_S q999 q1000 q63 q1001) rfl rfl rfl (by decide +kernel) ⟨(Nat.le_of_ble_eq_true rfl), (Nat.le_of_ble_eq_true rfl)⟩) rfl hl.1 rfl (lv_room (Nat.le_of_ble_eq_true rfl)) dX0_ask_9 ⟨(Nat.le_of_ble_eq_true rfl), (Nat.le_of_ble_eq_true rfl)⟩ ?_
    refine lv_if_ne (tgt := 18) hC.1 hC.2.1 dX0_ask_12 (by decide) (fun c2 => ?_) (fun c2 => ?_)
    ·
      skip
      exact hb.elim (fun h => absurd k1 h) (fun h => absurd (bI_n0.mp c2) h)
    ·
      skip
      refine lv_ldc hC.1 hC.2.1 hC.2.2.2.1 (hC.2.2.2.2 _ q269) dX0_ask_15 ?_
      skip
      refine p_iret hC hr hlocks hM dX0_ask_17 ?_
      exact ⟨rfl, by rw [oups, oups, oups, oups, oup_same hls, oup_same hR]; exact oup_same hN⟩
