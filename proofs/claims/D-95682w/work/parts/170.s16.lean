set_option maxHeartbeats 400000 in
set_option maxRecDepth 100000 in
theorem cn_road (l : Launch) (κ : Nat → Nat) (O : gO) (no : Nat) (cv : Nat → Int32) (ad : Nat → Nat) (g : Nat → Nat → Option Nat) (cw : Nat → Nat → Int32) (rx : Nat → Int32) (rd : Nat → Nat) (rw : Nat → Nat → Int32) (tp : Nat → Int32) (L : Nat) (ru f0 : Nat → Int32) (ro : Nat → Int32) (hN : O no = some (nsU cv ad g cw)) (hR : O (ad 4) = some (rdU rx rd rw)) (hcv : cv 2 = nI L) (hL : L ≤ 400) (hr10 : ru 10 = nI L) (htp : ∀ j, j < L → cw 1 j &&& 255 = tp j) (ht : tpOk tp L) (hok : rdT tp L ru f0 17 = 0) (hro : (rdM tp L ru f0).2 = ro) : oW l κ yX0_road cX0_road 3 (some .int) [(21, 25, 28, 145)] ({ frames := 10, cells := 623, slots := 102690, locals := 241 }) [.ref no] O (fun rv O1 => rv = some (.int (ro 4)) ∧ O1 no = some (nsU (upd (upd cv 2 0) 7 0) ad g cw) ∧ RI κ O1 (ad 4) ro ∧ kpL O O1 [no, ad 4]) := by
  intro D ac A
  refine o_bodyW (own := RX0) rfl (by decide) (Nat.le_of_ble_eq_true rfl) ?_
  intro p e s m args below meth c ls hC hr hlocks hK hM hl htab
  have hl : lv_has ls 3 [(0, .ref no)] := hl
  have hM := PS.of hM [(no, nsU cv ad g cw), (ad 4, rdU rx rd rw)] ⟨hN, hR, trivial⟩ (by simp only [oad, List.map, List.nodup_cons, List.mem_singleton, List.not_mem_nil, not_false_eq_true, List.nodup_nil, and_true]; exact o_ne hN hR (by decide))
  refine p_new (L' := fun q => [_, _, _]) hC hK hM (ci := 6) in_X6 tyX6 tyX6_ok q429 q430 q79 rfl (fs := [.null, .int 0, .int 0, .int 0, .int 0, .int 0, .null, .null]) (by decide) (Nat.le_of_ble_eq_true rfl) (Nat.le_of_ble_eq_true rfl) dX0_road_0 (fun q => rfl) (fun q_1 H hq_1 hM => ?_)
  refine lv_dup hC.1 hC.2.1 dX0_road_3 rfl ?_
  refine lv_aload_n hC.1 hC.2.1 dX0_road_4 rfl (lv_at hl 0 rfl) ?_
  refine p_get hC hK hM 0 rfl in_X0 rfl 1 (by decide) q220 (fun x h => h) rfl dX0_road_5 ?_
  refine lv_aload_n hC.1 hC.2.1 dX0_road_8 rfl (lv_at hl 0 rfl) ?_
  refine p_get hC hK hM 0 rfl in_X0 rfl 2 (by decide) q221 (fun x h => h) rfl dX0_road_9 ?_
  refine o_cI hC hK hM.1 (cl_init l κ _ q_1 (ad 1) (cv 2) (hM.at 2 rfl)) (cwI 2 hC.2.2.2.2 (lw_meth q433) rfl rfl rfl (hC.2.2.2.2 _ q79) (hC.2.2.2.2 _ q431) (hC.2.2.2.2 _ q432) rfl (by decide +kernel) ⟨(Nat.le_of_ble_eq_true rfl), (Nat.le_of_ble_eq_true rfl)⟩) rfl hl.1 rfl (lv_room (Nat.le_of_ble_eq_true rfl)) dX0_road_12 ⟨(Nat.le_of_ble_eq_true rfl), (Nat.le_of_ble_eq_true rfl)⟩ (fun rv O1 H locs hp hM1 => ?_)
  obtain ⟨rI, d, hm0, hl0, hn3, ht0, hO1, rfl⟩ := hp
  obtain ⟨z1, z2, z3, z4, z5, z6, z7, zF⟩ := rd_made hM.2 hm0 hl0 hq_1 hn3 hO1
  have hnd3 := hM.2
  have hM := PS.of hM1 [(no, nsU cv ad g cw), (ad 4, rdU rx rd rw), (q_1, rrU (upd (fun _ => 0) 1 (cv 2)) rI)] ⟨z1, z2, z3, trivial⟩ hnd3
  refine lv_astore_n (lv' := [(1, _), (0, _)]) hC.1 hC.2.1 dX0_road_15 rfl hl (by decide) rfl (fun ls hl => ?_)
  refine lv_aload_n hC.1 hC.2.1 dX0_road_16 rfl (lv_at hl 1 rfl) ?_
  refine lv_iconst (v := 0) hC.1 hC.2.1 dX0_road_17 (by decide) ?_
  refine p_put (L' := [_, _, _]) hC hK hM 0 rfl in_X0 tyX0 tyX0_ok nmX0 rfl 2 (by decide) q221 (fun x h => h) rfl rfl rfl (Nat.le_of_ble_eq_true rfl) rfl rfl rfl dX0_road_18 (fun H locs hM => ?_)
  obtain ⟨O2, hO2, hM, hb2⟩ := hM.base
  have y0 := hM.at 0 rfl
  have y1 := hM.at 1 rfl
  have y2 := hM.at 2 rfl
  rw [hb2] at y0 y1 y2
  obtain ⟨y4, y5, yF⟩ := rd_based hO2 z4 z5 z6 z7 hn3 zF
  have hmv : mvs κ O2 (d 8) 0 (fun _ => 0) (fun _ _ => 0) := ⟨0, κ 0, fun _ => none, aNo, y5, Nat.zero_le 5, fun _ => ⟨rfl, rfl⟩, fun h => absurd h (Nat.lt_irrefl 0), fun j hj => absurd hj (Nat.not_lt_zero j)⟩
  refine lv_aload_n hC.1 hC.2.1 dX0_road_21 rfl (lv_at hl 0 rfl) ?_
  refine o_cV hC hK hM.1 (hM.at 2 rfl) rfl (oM.at hb2 (cl_all l κ O2 q_1 no (rI 7) (d 8) (upd cv 2 0) ad g cw tp L ru f0 (upd (fun _ => 0) 1 (cv 2)) rI d (fun _ => 0) (fun _ _ => 0) y2 y0 y4 rfl hmv ht0 rfl hcv rfl hL hr10 htp ht hok)) (cwV 0 hC.2.2.2.2 (lw_V q464 q465 q466 q79 q467) rfl rfl rfl (by decide +kernel) ⟨(Nat.le_of_ble_eq_true rfl), (Nat.le_of_ble_eq_true rfl)⟩) rfl hl.1 rfl (lv_room (Nat.le_of_ble_eq_true rfl)) dX0_road_22 ⟨(Nat.le_of_ble_eq_true rfl), (Nat.le_of_ble_eq_true rfl)⟩ (fun rv O1 H locs hp hM1 => ?_)
  obtain ⟨rfl, hRI, hkl, hN3, v3, r3, hA3, h73⟩ := hp
  rw [hro] at hRI
  obtain ⟨mvv, mad, mw, mm, kd, mv, hmU, hrd, hml⟩ := hRI
  have hR3 := hkl (ad 4) _ z7.2 y1
  have hM := PS.of hM1 [(no, nsU (upd cv 2 0) ad g cw), (ad 4, rdU rx rd rw), (q_1, rrU v3 r3), (rI 7, rdU mvv mad mw)] ⟨hN3, hR3, hA3, hmU, trivial⟩ z6
  have h47 : ad 4 ≠ rI 7 := fun e => z7.2 (by simp [e])
  refine lv_goto (tgt := 45) hC.1 hC.2.1 dX0_road_25 (by decide) ?_
  refine lv_aload_n hC.1 hC.2.1 dX0_road_45 rfl (lv_at hl 1 rfl) ?_
  refine p_get hC hK hM 0 rfl in_X0 rfl 4 (by decide) q223 (fun x h => h) rfl dX0_road_46 ?_
  refine lv_aload_n hC.1 hC.2.1 dX0_road_49 rfl (lv_at hl 0 rfl) ?_
  refine p_get hC hK hM 2 rfl in_X6 rfl 7 (by decide) q446 (fun x h => h) rfl dX0_road_50 ?_
  rw [h73]
  refine p_cVe (L' := [_, _, _, _]) hC hK hM (hM.at 1 rfl) rfl (cr_become l κ _ (ad 4) rx rd rw (rI 7) mvv mad mw (hM.at 1 rfl) (hM.at 3 rfl) h47) (cwV 1 hC.2.2.2.2 (lw_V q869 q870 q871 q64 q872) rfl rfl rfl (by decide +kernel) ⟨(Nat.le_of_ble_eq_true rfl), (Nat.le_of_ble_eq_true rfl)⟩) rfl hl.1 rfl (lv_room (Nat.le_of_ble_eq_true rfl)) dX0_road_53 ⟨(Nat.le_of_ble_eq_true rfl), (Nat.le_of_ble_eq_true rfl)⟩ (oups_set hM.2 (i := 1) rfl) (oad_nd hM.2 (i := 1) rfl rfl) (fun H locs hM => ?_)
  refine lv_pop hC.1 hC.2.1 dX0_road_56 rfl ?_
  refine lv_aload_n hC.1 hC.2.1 dX0_road_57 rfl (lv_at hl 1 rfl) ?_
  refine lv_iconst (v := 0) hC.1 hC.2.1 dX0_road_58 (by decide) ?_
  refine p_put (L' := [_, _, _, _]) hC hK hM 0 rfl in_X0 tyX0 tyX0_ok nmX0 rfl 7 (by decide) q226 (fun x h => h) rfl rfl rfl (Nat.le_of_ble_eq_true rfl) rfl rfl rfl dX0_road_59 (fun H locs hM => ?_)
  refine lv_aload_n hC.1 hC.2.1 dX0_road_62 rfl (lv_at hl 1 rfl) ?_
  refine p_get hC hK hM 0 rfl in_X0 rfl 4 (by decide) q223 (fun x h => h) rfl dX0_road_63 ?_
  refine p_get hC hK hM 1 rfl in_X1 rfl 4 (by decide) q156 (fun x h => h) rfl dX0_road_66 ?_
  refine W.widen (k := 623) (n := 102690) (Nat.le_of_ble_eq_true rfl) (Nat.le_of_ble_eq_true rfl) ?_
  refine p_iret hC hr hlocks hM dX0_road_69 ?_
  refine ⟨by rw [hrd.2.2.2.2.1], oups_at hM.2 (i := 0) rfl, ⟨mvv, _, _, mm, kd, mv, oups_at hM.2 (i := 1) rfl, rdR_bec hrd, ?_⟩, fun b x hb hx => ?_⟩
  · show mvs κ _ (mad 8) mm kd mv
    exact hml.kp (kpM.off ⟨⟨0, _, _, by decide, hN3⟩, ⟨1, _, _, by decide, hR3⟩, ⟨6, _, _, by decide, hA3⟩, ⟨1, _, _, by decide, hmU⟩, trivial⟩)
  · refine (oups_off (zF b x hb hx).2.2.2).trans ?_
    exact hkl b x (zF b x hb hx).2.1 (yF b x hb hx)

set_option maxHeartbeats 400000 in
set_option maxRecDepth 100000 in
theorem cn_roadT (l : Launch) (κ : Nat → Nat) (O : gO) (no : Nat) (cv : Nat → Int32) (ad : Nat → Nat) (g : Nat → Nat → Option Nat) (cw : Nat → Nat → Int32) (rx : Nat → Int32) (rd : Nat → Nat) (rw : Nat → Nat → Int32) (tp : Nat → Int32) (L : Nat) (ru f0 : Nat → Int32) (fk fp : Int32) (hN : O no = some (nsU cv ad g cw)) (hR : O (ad 4) = some (rdU rx rd rw)) (hcv : cv 2 = nI L) (hL : L ≤ 400) (hr10 : ru 10 = nI L) (htp : ∀ j, j < L → cw 1 j &&& 255 = tp j) (ht : tpOk tp L) (hbad : ¬ rdT tp L ru f0 17 = 0) (hfk : rdT tp L ru f0 17 = fk) (hfp : rdT tp L ru f0 18 = fp) : oW l κ yX0_road cX0_road 3 (some .int) [(21, 25, 28, 145)] ({ frames := 10, cells := 623, slots := 102690, locals := 241 }) [.ref no] O (fun rv O1 => rv = some (.int (-1000100 - fp)) ∧ O1 no = some (nsU (upd (upd cv 2 0) 3 fk) ad g cw) ∧ kpL O O1 [no]) := by
  intro D ac A
  refine o_bodyW (own := RX0) rfl (by decide) (Nat.le_of_ble_eq_true rfl) ?_
  intro p e s m args below meth c ls hC hr hlocks hK hM hl htab
  have hl : lv_has ls 3 [(0, .ref no)] := hl
  have hM := PS.of hM [(no, nsU cv ad g cw), (ad 4, rdU rx rd rw)] ⟨hN, hR, trivial⟩ (by simp only [oad, List.map, List.nodup_cons, List.mem_singleton, List.not_mem_nil, not_false_eq_true, List.nodup_nil, and_true]; exact o_ne hN hR (by decide))
  refine p_new (L' := fun q => [_, _, _]) hC hK hM (ci := 6) in_X6 tyX6 tyX6_ok q429 q430 q79 rfl (fs := [.null, .int 0, .int 0, .int 0, .int 0, .int 0, .null, .null]) (by decide) (Nat.le_of_ble_eq_true rfl) (Nat.le_of_ble_eq_true rfl) dX0_road_0 (fun q => rfl) (fun q_1 H hq_1 hM => ?_)
  refine lv_dup hC.1 hC.2.1 dX0_road_3 rfl ?_
  refine lv_aload_n hC.1 hC.2.1 dX0_road_4 rfl (lv_at hl 0 rfl) ?_
  refine p_get hC hK hM 0 rfl in_X0 rfl 1 (by decide) q220 (fun x h => h) rfl dX0_road_5 ?_
  refine lv_aload_n hC.1 hC.2.1 dX0_road_8 rfl (lv_at hl 0 rfl) ?_
  refine p_get hC hK hM 0 rfl in_X0 rfl 2 (by decide) q221 (fun x h => h) rfl dX0_road_9 ?_
  refine o_cI hC hK hM.1 (cl_init l κ _ q_1 (ad 1) (cv 2) (hM.at 2 rfl)) (cwI 2 hC.2.2.2.2 (lw_meth q433) rfl rfl rfl (hC.2.2.2.2 _ q79) (hC.2.2.2.2 _ q431) (hC.2.2.2.2 _ q432) rfl (by decide +kernel) ⟨(Nat.le_of_ble_eq_true rfl), (Nat.le_of_ble_eq_true rfl)⟩) rfl hl.1 rfl (lv_room (Nat.le_of_ble_eq_true rfl)) dX0_road_12 ⟨(Nat.le_of_ble_eq_true rfl), (Nat.le_of_ble_eq_true rfl)⟩ (fun rv O1 H locs hp hM1 => ?_)
  obtain ⟨rI, d, hm0, hl0, hn3, ht0, hO1, rfl⟩ := hp
  obtain ⟨z1, z2, z3, z4, z5, z6, z7, zF⟩ := rd_made hM.2 hm0 hl0 hq_1 hn3 hO1
  have hnd3 := hM.2
  have hM := PS.of hM1 [(no, nsU cv ad g cw), (ad 4, rdU rx rd rw), (q_1, rrU (upd (fun _ => 0) 1 (cv 2)) rI)] ⟨z1, z2, z3, trivial⟩ hnd3
  refine lv_astore_n (lv' := [(1, _), (0, _)]) hC.1 hC.2.1 dX0_road_15 rfl hl (by decide) rfl (fun ls hl => ?_)
  refine lv_aload_n hC.1 hC.2.1 dX0_road_16 rfl (lv_at hl 1 rfl) ?_
  refine lv_iconst (v := 0) hC.1 hC.2.1 dX0_road_17 (by decide) ?_
  refine p_put (L' := [_, _, _]) hC hK hM 0 rfl in_X0 tyX0 tyX0_ok nmX0 rfl 2 (by decide) q221 (fun x h => h) rfl rfl rfl (Nat.le_of_ble_eq_true rfl) rfl rfl rfl dX0_road_18 (fun H locs hM => ?_)
  obtain ⟨O2, hO2, hM, hb2⟩ := hM.base
  have y0 := hM.at 0 rfl
  have y1 := hM.at 1 rfl
  have y2 := hM.at 2 rfl
  rw [hb2] at y0 y1 y2
  obtain ⟨y4, y5, yF⟩ := rd_based hO2 z4 z5 z6 z7 hn3 zF
  have hmv : mvs κ O2 (d 8) 0 (fun _ => 0) (fun _ _ => 0) := ⟨0, κ 0, fun _ => none, aNo, y5, Nat.zero_le 5, fun _ => ⟨rfl, rfl⟩, fun h => absurd h (Nat.lt_irrefl 0), fun j hj => absurd hj (Nat.not_lt_zero j)⟩
  refine lv_aload_n hC.1 hC.2.1 dX0_road_21 rfl (lv_at hl 0 rfl) ?_
  refine p_catch hC hK hM (runVT hC ((oT.at hb2 (cl_allT l κ O2 q_1 no (rI 7) (d 8) (upd cv 2 0) ad g cw tp L ru f0 (upd (fun _ => 0) 1 (cv 2)) rI d (fun _ => 0) (fun _ _ => 0) y2 y0 y4 rfl hmv ht0 rfl hcv rfl hL hr10 htp ht hbad)) D ac A) (cwV 0 hC.2.2.2.2 (lw_V q464 q465 q466 q79 q467) rfl rfl rfl (by decide +kernel) ⟨(Nat.le_of_ble_eq_true rfl), (Nat.le_of_ble_eq_true rfl)⟩) ⟨oPre.blind, OS.recv hK hM.1 (hM.at 2 rfl) rfl, fun U hU hW => ⟨rfl, OS.pre hK hM.1 hU hW⟩⟩ rfl rfl hl.1 rfl (lv_room (Nat.le_of_ble_eq_true rfl)) dX0_road_22 ⟨(Nat.le_of_ble_eq_true rfl), (Nat.le_of_ble_eq_true rfl)⟩) htab 0 (hpc := 28) (ct := 145) (hAt_of rfl) (by decide) q428 (hK.1.2.1 _ q681 rfl) (fun x O1 h => ⟨7, _, _, _, _, h.1, rfl⟩) (fun x_ O1 H locs hp hM1 => ?_)
  obtain ⟨hz1, hkl⟩ := hp
  rw [hfk, hfp] at hz1
  have hN3 := hkl no _ z7.1 y0
  have hM := PS.of hM1 [(no, nsU (upd cv 2 0) ad g cw), (x_, ftU fk fp)] ⟨hN3, hz1, trivial⟩ (by simp only [List.nodup_cons, List.mem_cons, List.mem_singleton, List.not_mem_nil, not_or, or_false, not_false_eq_true, List.nodup_nil, and_true, oad, List.map]; exact o_ne hN3 hz1 (by decide))
  refine lv_astore_n (lv' := [(2, _), (1, _), (0, _)]) hC.1 hC.2.1 dX0_road_28 rfl hl (by decide) rfl (fun ls hl => ?_)
  refine lv_aload_n hC.1 hC.2.1 dX0_road_29 rfl (lv_at hl 2 rfl) ?_
  refine lv_aload_n hC.1 hC.2.1 dX0_road_30 rfl (lv_at hl 0 rfl) ?_
  refine p_getR hC hK hM 1 rfl in_X7 rfl 6 (by decide) q693 (fun x h => h) rfl dX0_road_31 ?_
  refine p_put (L' := [_, _]) hC hK hM 0 rfl in_X0 tyX0 tyX0_ok nmX0 rfl 3 (by decide) q222 (fun x h => h) rfl rfl rfl (Nat.le_of_ble_eq_true rfl) rfl rfl rfl dX0_road_34 (fun H locs hM => ?_)
  refine lv_ldc hC.1 hC.2.1 hC.2.2.2.1 (hC.2.2.2.2 _ q868) dX0_road_37 ?_
  refine lv_aload_n hC.1 hC.2.1 dX0_road_39 rfl (lv_at hl 0 rfl) ?_
  refine p_getR hC hK hM 1 rfl in_X7 rfl 7 (by decide) q695 (fun x h => h) rfl dX0_road_40 ?_
  refine lv_isub hC.1 hC.2.1 dX0_road_43 ?_
  refine W.widen (k := 623) (n := 102690) (Nat.le_of_ble_eq_true rfl) (Nat.le_of_ble_eq_true rfl) ?_
  refine p_iret hC hr hlocks hM dX0_road_44 ?_
  refine ⟨rfl, oups_at hM.2 (i := 0) rfl, fun b x hb hx => ?_⟩
  by_cases e4 : b = ad 4
  · subst e4
    rw [oups_off (show ad 4 ∉ oad _ from by simp only [oad, List.map, List.mem_cons, List.not_mem_nil, not_or, or_false]; exact ⟨fun e => hb (by simp [e]), o_ne (hkl (ad 4) _ z7.2 y1) hz1 (by decide)⟩)]
    rw [hR] at hx
    rw [← hx]
    exact hkl (ad 4) _ z7.2 y1
  · have hb2 : b ∉ [no, ad 4] := by simp only [List.mem_cons, List.not_mem_nil, not_or, or_false] at hb ⊢; exact ⟨hb, e4⟩
    have hx3 := hkl b x (zF b x hb2 hx).2.1 (yF b x hb2 hx)
    by_cases ez : b = x_
    · subst ez
      rw [oups_at hM.2 (i := 1) rfl]
      rw [hz1] at hx3
      exact hx3
    · rw [oups_off (show b ∉ oad _ from by simp only [oad, List.map, List.mem_cons, List.not_mem_nil, not_or, or_false]; simp only [List.mem_cons, List.not_mem_nil, not_or, or_false] at hb; exact ⟨hb, ez⟩)]
      exact hx3
