set_option maxHeartbeats 400000 in
set_option maxRecDepth 100000 in
theorem cn_time0 (l : Launch) (κ : Nat → Nat) (O : gO) (no : Nat) (cv : Nat → Int32) (ad : Nat → Nat) (g : Nat → Nat → Option Nat) (cw : Nat → Nat → Int32) (rx : Nat → Int32) (rd : Nat → Nat) (rw : Nat → Nat → Int32) (tx : Nat → Int32) (td : Nat → Nat) (tw : Nat → Nat → Int32) (hN : O no = some (nsU cv ad g cw)) (hR : O (ad 4) = some (rdU rx rd rw)) (hT : O (ad 5) = some (rdU tx td tw)) (hRT : ad 4 ≠ ad 5) (x y z t : Int32) (tm : Nat) (et : rx 11 = nI tm) (htm : tm ≤ 12) (hb : ¬ tmC (rx 4) x y z t) : oM l κ yX0_time cX0_time 5 (some .int) ({ frames := 2, cells := 0, slots := 0, locals := 61 }) [.ref no, .int x, .int y, .int z, .int t] O (fun rv O1 => rv = some (.int (-1000001)) ∧ ∃ td1 tw1 tx1, O1 = oup O (ad 5) (rdU tx1 td1 tw1)) := by
  intro D ac A
  refine o_body (own := RX0) rfl (plainFor_of_name (by decide)) (Nat.le_of_ble_eq_true rfl) ?_
  intro p e s m args below meth c ls hC hr hlocks hK hM hl hnamed hmeth
  have hl : lv_has ls 5 [(0, .ref no), (1, .int x), (2, .int y), (3, .int z), (4, .int t)] := hl
  have hM := PS.of hM [(no, nsU cv ad g cw), (ad 4, rdU rx rd rw), (ad 5, rdU tx td tw)] ⟨hN, hR, hT, trivial⟩ (by simp only [oad, List.map, List.nodup_cons, List.mem_cons, List.mem_singleton, List.not_mem_nil, not_or, or_false, not_false_eq_true, List.nodup_nil, and_true]; exact ⟨⟨o_ne hN hR (by decide), o_ne hN hT (by decide)⟩, hRT⟩)
  refine lv_aload_n hC.1 hC.2.1 dX0_time_0 rfl (lv_at hl 0 rfl) ?_
  refine p_get hC hK hM 0 rfl in_X0 rfl 5 (by decide) q224 (fun x h => h) rfl dX0_time_1 ?_
  refine lv_aload_n hC.1 hC.2.1 dX0_time_4 rfl (lv_at hl 0 rfl) ?_
  refine p_get hC hK hM 0 rfl in_X0 rfl 4 (by decide) q223 (fun x h => h) rfl dX0_time_5 ?_
  refine p_cVe (L' := [_, _, _]) hC hK hM (hM.at 2 rfl) rfl (cr_become l κ _ (ad 5) tx td tw (ad 4) rx rd rw (hM.at 2 rfl) (hM.at 1 rfl) (fun e => hRT e.symm)) (cwV 1 hC.2.2.2.2 (lw_V q869 q870 q871 q64 q872) rfl rfl rfl (by decide +kernel) ⟨(Nat.le_of_ble_eq_true rfl), (Nat.le_of_ble_eq_true rfl)⟩) rfl hl.1 rfl (lv_room (Nat.le_of_ble_eq_true rfl)) dX0_time_8 ⟨(Nat.le_of_ble_eq_true rfl), (Nat.le_of_ble_eq_true rfl)⟩ (oups_set hM.2 (i := 2) rfl) (oad_nd hM.2 (i := 2) rfl rfl) (fun H locs hM => ?_)
  refine lv_pop hC.1 hC.2.1 dX0_time_11 rfl ?_
  refine lv_aload_n hC.1 hC.2.1 dX0_time_12 rfl (lv_at hl 0 rfl) ?_
  refine p_get hC hK hM 0 rfl in_X0 rfl 5 (by decide) q224 (fun x h => h) rfl dX0_time_13 ?_
  refine lv_iconst (v := 0) hC.1 hC.2.1 dX0_time_16 (by decide) ?_
  refine p_put (L' := [_, _, _]) hC hK hM 2 rfl in_X1 tyX1 tyX1_ok nmX1 rfl 11 (by decide) q174 (fun x h => h) rfl rfl rfl (Nat.le_of_ble_eq_true rfl) rfl rfl rfl dX0_time_17 (fun H locs hM => ?_)
  refine lv_aload_n hC.1 hC.2.1 dX0_time_20 rfl (lv_at hl 0 rfl) ?_
  refine p_get hC hK hM 0 rfl in_X0 rfl 5 (by decide) q224 (fun x h => h) rfl dX0_time_21 ?_
  refine lv_iload_n hC.1 hC.2.1 dX0_time_24 rfl (lv_at hl 1 rfl) ?_
  refine lv_iload_n hC.1 hC.2.1 dX0_time_25 rfl (lv_at hl 2 rfl) ?_
  refine lv_iload_n hC.1 hC.2.1 dX0_time_26 rfl (lv_at hl 3 rfl) ?_
  refine lv_iload hC.1 hC.2.1 dX0_time_27 (lv_at hl 4 rfl) ?_
  refine p_cVe (L' := [_, _, _]) hC hK hM (hM.at 2 rfl) rfl (cr_addF l κ _ (ad 5) (upd rx 11 0) (updN td 8 (rd 8)) (becW tw rw) x y z t 0 (hM.at 2 rfl) rfl (by decide) hb) (cwV 4 hC.2.2.2.2 (lw_V q1006 q1007 q1008 q64 q1009) rfl rfl rfl (by decide +kernel) ⟨(Nat.le_of_ble_eq_true rfl), (Nat.le_of_ble_eq_true rfl)⟩) rfl hl.1 rfl (lv_room (Nat.le_of_ble_eq_true rfl)) dX0_time_29 ⟨(Nat.le_of_ble_eq_true rfl), (Nat.le_of_ble_eq_true rfl)⟩ rfl hM.2 (fun H locs hM => ?_)
  refine lv_if_ne (tgt := 38) hC.1 hC.2.1 dX0_time_32 (by decide) (fun c1 => ?_) (fun c1 => ?_)
  ·
    skip
    exact absurd rfl c1
  ·
    skip
    refine lv_ldc hC.1 hC.2.1 hC.2.2.2.1 (hC.2.2.2.2 _ q269) dX0_time_35 ?_
    skip
    refine p_iret hC hr hlocks hM dX0_time_37 ?_
    exact ⟨rfl, _, _, _, by rw [oups, oups, oups, oups, oup_comm (fun e => hRT e.symm), oup_same hR, oup_comm (fun e => o_ne hN hT (by decide) e.symm), oup_same hN]⟩

set_option maxHeartbeats 400000 in
set_option maxRecDepth 100000 in
theorem cn_time1 (l : Launch) (κ : Nat → Nat) (O : gO) (no : Nat) (cv : Nat → Int32) (ad : Nat → Nat) (g : Nat → Nat → Option Nat) (cw : Nat → Nat → Int32) (rx : Nat → Int32) (rd : Nat → Nat) (rw : Nat → Nat → Int32) (tx : Nat → Int32) (td : Nat → Nat) (tw : Nat → Nat → Int32) (hN : O no = some (nsU cv ad g cw)) (hR : O (ad 4) = some (rdU rx rd rw)) (hT : O (ad 5) = some (rdU tx td tw)) (hRT : ad 4 ≠ ad 5) (x y z t : Int32) (tm : Nat) (et : rx 11 = nI tm) (htm : tm ≤ 12) (hb : tmC (rx 4) x y z t) (h12 : tm = 12) : oM l κ yX0_time cX0_time 5 (some .int) ({ frames := 2, cells := 0, slots := 0, locals := 61 }) [.ref no, .int x, .int y, .int z, .int t] O (fun rv O1 => rv = some (.int (-1000003)) ∧ ∃ td1 tw1 tx1, O1 = oup O (ad 5) (rdU tx1 td1 tw1)) := by
  intro D ac A
  refine o_body (own := RX0) rfl (plainFor_of_name (by decide)) (Nat.le_of_ble_eq_true rfl) ?_
  intro p e s m args below meth c ls hC hr hlocks hK hM hl hnamed hmeth
  have hl : lv_has ls 5 [(0, .ref no), (1, .int x), (2, .int y), (3, .int z), (4, .int t)] := hl
  have hM := PS.of hM [(no, nsU cv ad g cw), (ad 4, rdU rx rd rw), (ad 5, rdU tx td tw)] ⟨hN, hR, hT, trivial⟩ (by simp only [oad, List.map, List.nodup_cons, List.mem_cons, List.mem_singleton, List.not_mem_nil, not_or, or_false, not_false_eq_true, List.nodup_nil, and_true]; exact ⟨⟨o_ne hN hR (by decide), o_ne hN hT (by decide)⟩, hRT⟩)
  refine lv_aload_n hC.1 hC.2.1 dX0_time_0 rfl (lv_at hl 0 rfl) ?_
  refine p_get hC hK hM 0 rfl in_X0 rfl 5 (by decide) q224 (fun x h => h) rfl dX0_time_1 ?_
  refine lv_aload_n hC.1 hC.2.1 dX0_time_4 rfl (lv_at hl 0 rfl) ?_
  refine p_get hC hK hM 0 rfl in_X0 rfl 4 (by decide) q223 (fun x h => h) rfl dX0_time_5 ?_
  refine p_cVe (L' := [_, _, _]) hC hK hM (hM.at 2 rfl) rfl (cr_become l κ _ (ad 5) tx td tw (ad 4) rx rd rw (hM.at 2 rfl) (hM.at 1 rfl) (fun e => hRT e.symm)) (cwV 1 hC.2.2.2.2 (lw_V q869 q870 q871 q64 q872) rfl rfl rfl (by decide +kernel) ⟨(Nat.le_of_ble_eq_true rfl), (Nat.le_of_ble_eq_true rfl)⟩) rfl hl.1 rfl (lv_room (Nat.le_of_ble_eq_true rfl)) dX0_time_8 ⟨(Nat.le_of_ble_eq_true rfl), (Nat.le_of_ble_eq_true rfl)⟩ (oups_set hM.2 (i := 2) rfl) (oad_nd hM.2 (i := 2) rfl rfl) (fun H locs hM => ?_)
  refine lv_pop hC.1 hC.2.1 dX0_time_11 rfl ?_
  refine lv_aload_n hC.1 hC.2.1 dX0_time_12 rfl (lv_at hl 0 rfl) ?_
  refine p_get hC hK hM 0 rfl in_X0 rfl 5 (by decide) q224 (fun x h => h) rfl dX0_time_13 ?_
  refine lv_iconst (v := 0) hC.1 hC.2.1 dX0_time_16 (by decide) ?_
  refine p_put (L' := [_, _, _]) hC hK hM 2 rfl in_X1 tyX1 tyX1_ok nmX1 rfl 11 (by decide) q174 (fun x h => h) rfl rfl rfl (Nat.le_of_ble_eq_true rfl) rfl rfl rfl dX0_time_17 (fun H locs hM => ?_)
  refine lv_aload_n hC.1 hC.2.1 dX0_time_20 rfl (lv_at hl 0 rfl) ?_
  refine p_get hC hK hM 0 rfl in_X0 rfl 5 (by decide) q224 (fun x h => h) rfl dX0_time_21 ?_
  refine lv_iload_n hC.1 hC.2.1 dX0_time_24 rfl (lv_at hl 1 rfl) ?_
  refine lv_iload_n hC.1 hC.2.1 dX0_time_25 rfl (lv_at hl 2 rfl) ?_
  refine lv_iload_n hC.1 hC.2.1 dX0_time_26 rfl (lv_at hl 3 rfl) ?_
  refine lv_iload hC.1 hC.2.1 dX0_time_27 (lv_at hl 4 rfl) ?_
  refine p_cVe (L' := [_, _, _]) hC hK hM (hM.at 2 rfl) rfl (cr_addT l κ _ (ad 5) (upd rx 11 0) (updN td 8 (rd 8)) (becW tw rw) x y z t 0 (hM.at 2 rfl) rfl (by decide) hb) (cwV 4 hC.2.2.2.2 (lw_V q1006 q1007 q1008 q64 q1009) rfl rfl rfl (by decide +kernel) ⟨(Nat.le_of_ble_eq_true rfl), (Nat.le_of_ble_eq_true rfl)⟩) rfl hl.1 rfl (lv_room (Nat.le_of_ble_eq_true rfl)) dX0_time_29 ⟨(Nat.le_of_ble_eq_true rfl), (Nat.le_of_ble_eq_true rfl)⟩ (oups_set hM.2 (i := 2) rfl) (oad_nd hM.2 (i := 2) rfl rfl) (fun H locs hM => ?_)
  refine lv_if_ne (tgt := 38) hC.1 hC.2.1 dX0_time_32 (by decide) (fun c1 => ?_) (fun c1 => ?_)
  ·
    skip
    refine lv_aload_n hC.1 hC.2.1 dX0_time_38 rfl (lv_at hl 0 rfl) ?_
    refine p_get hC hK hM 0 rfl in_X0 rfl 4 (by decide) q223 (fun x h => h) rfl dX0_time_39 ?_
    refine p_get hC hK hM 1 rfl in_X1 rfl 11 (by decide) q174 (fun x h => h) rfl dX0_time_42 ?_
    rw [et]
    refine lv_bipush (v := 12) hC.1 hC.2.1 dX0_time_45 (by decide) ?_
    refine lv_icmp_ne (tgt := 53) hC.1 hC.2.1 dX0_time_47 (by decide) (fun c2 => ?_) (fun c2 => ?_)
    ·
      skip
      exact absurd (by rw [h12]; rfl) c2
    ·
      skip
      refine lv_ldc hC.1 hC.2.1 hC.2.2.2.1 (hC.2.2.2.2 _ q423) dX0_time_50 ?_
      skip
      refine p_iret hC hr hlocks hM dX0_time_52 ?_
      exact ⟨rfl, _, _, _, by rw [oups, oups, oups, oups, oup_comm (fun e => hRT e.symm), oup_same hR, oup_comm (fun e => o_ne hN hT (by decide) e.symm), oup_same hN]⟩
  ·
    skip
    exact absurd c1 (by decide)

set_option maxHeartbeats 400000 in
set_option maxRecDepth 100000 in
theorem cn_time2 (l : Launch) (κ : Nat → Nat) (O : gO) (no : Nat) (cv : Nat → Int32) (ad : Nat → Nat) (g : Nat → Nat → Option Nat) (cw : Nat → Nat → Int32) (rx : Nat → Int32) (rd : Nat → Nat) (rw : Nat → Nat → Int32) (tx : Nat → Int32) (td : Nat → Nat) (tw : Nat → Nat → Int32) (hN : O no = some (nsU cv ad g cw)) (hR : O (ad 4) = some (rdU rx rd rw)) (hT : O (ad 5) = some (rdU tx td tw)) (hRT : ad 4 ≠ ad 5) (x y z t : Int32) (tm : Nat) (et : rx 11 = nI tm) (htm : tm ≤ 12) (hb : tmC (rx 4) x y z t) (h12 : tm < 12) : oM l κ yX0_time cX0_time 5 (some .int) ({ frames := 2, cells := 0, slots := 0, locals := 61 }) [.ref no, .int x, .int y, .int z, .int t] O (fun rv O1 => rv = some (.int (nI tm + 1)) ∧ ∃ td1 tw1 tx1, O1 = oup (oup O (ad 5) (rdU tx1 td1 tw1)) (ad 4) (rdU (upd rx 11 (nI tm + 1)) rd (wput rw 10 (adC (rw 10) tm x y z t)))) := by
  intro D ac A
  refine o_body (own := RX0) rfl (plainFor_of_name (by decide)) (Nat.le_of_ble_eq_true rfl) ?_
  intro p e s m args below meth c ls hC hr hlocks hK hM hl hnamed hmeth
  have hl : lv_has ls 5 [(0, .ref no), (1, .int x), (2, .int y), (3, .int z), (4, .int t)] := hl
  have hM := PS.of hM [(no, nsU cv ad g cw), (ad 4, rdU rx rd rw), (ad 5, rdU tx td tw)] ⟨hN, hR, hT, trivial⟩ (by simp only [oad, List.map, List.nodup_cons, List.mem_cons, List.mem_singleton, List.not_mem_nil, not_or, or_false, not_false_eq_true, List.nodup_nil, and_true]; exact ⟨⟨o_ne hN hR (by decide), o_ne hN hT (by decide)⟩, hRT⟩)
  refine lv_aload_n hC.1 hC.2.1 dX0_time_0 rfl (lv_at hl 0 rfl) ?_
  refine p_get hC hK hM 0 rfl in_X0 rfl 5 (by decide) q224 (fun x h => h) rfl dX0_time_1 ?_
  refine lv_aload_n hC.1 hC.2.1 dX0_time_4 rfl (lv_at hl 0 rfl) ?_
  refine p_get hC hK hM 0 rfl in_X0 rfl 4 (by decide) q223 (fun x h => h) rfl dX0_time_5 ?_
  refine p_cVe (L' := [_, _, _]) hC hK hM (hM.at 2 rfl) rfl (cr_become l κ _ (ad 5) tx td tw (ad 4) rx rd rw (hM.at 2 rfl) (hM.at 1 rfl) (fun e => hRT e.symm)) (cwV 1 hC.2.2.2.2 (lw_V q869 q870 q871 q64 q872) rfl rfl rfl (by decide +kernel) ⟨(Nat.le_of_ble_eq_true rfl), (Nat.le_of_ble_eq_true rfl)⟩) rfl hl.1 rfl (lv_room (Nat.le_of_ble_eq_true rfl)) dX0_time_8 ⟨(Nat.le_of_ble_eq_true rfl), (Nat.le_of_ble_eq_true rfl)⟩ (oups_set hM.2 (i := 2) rfl) (oad_nd hM.2 (i := 2) rfl rfl) (fun H locs hM => ?_)
  refine lv_pop hC.1 hC.2.1 dX0_time_11 rfl ?_
  refine lv_aload_n hC.1 hC.2.1 dX0_time_12 rfl (lv_at hl 0 rfl) ?_
  refine p_get hC hK hM 0 rfl in_X0 rfl 5 (by decide) q224 (fun x h => h) rfl dX0_time_13 ?_
  refine lv_iconst (v := 0) hC.1 hC.2.1 dX0_time_16 (by decide) ?_
  refine p_put (L' := [_, _, _]) hC hK hM 2 rfl in_X1 tyX1 tyX1_ok nmX1 rfl 11 (by decide) q174 (fun x h => h) rfl rfl rfl (Nat.le_of_ble_eq_true rfl) rfl rfl rfl dX0_time_17 (fun H locs hM => ?_)
  refine lv_aload_n hC.1 hC.2.1 dX0_time_20 rfl (lv_at hl 0 rfl) ?_
  refine p_get hC hK hM 0 rfl in_X0 rfl 5 (by decide) q224 (fun x h => h) rfl dX0_time_21 ?_
  refine lv_iload_n hC.1 hC.2.1 dX0_time_24 rfl (lv_at hl 1 rfl) ?_
  refine lv_iload_n hC.1 hC.2.1 dX0_time_25 rfl (lv_at hl 2 rfl) ?_
  refine lv_iload_n hC.1 hC.2.1 dX0_time_26 rfl (lv_at hl 3 rfl) ?_
  refine lv_iload hC.1 hC.2.1 dX0_time_27 (lv_at hl 4 rfl) ?_
  refine p_cVe (L' := [_, _, _]) hC hK hM (hM.at 2 rfl) rfl (cr_addT l κ _ (ad 5) (upd rx 11 0) (updN td 8 (rd 8)) (becW tw rw) x y z t 0 (hM.at 2 rfl) rfl (by decide) hb) (cwV 4 hC.2.2.2.2 (lw_V q1006 q1007 q1008 q64 q1009) rfl rfl rfl (by decide +kernel) ⟨(Nat.le_of_ble_eq_true rfl), (Nat.le_of_ble_eq_true rfl)⟩) rfl hl.1 rfl (lv_room (Nat.le_of_ble_eq_true rfl)) dX0_time_29 ⟨(Nat.le_of_ble_eq_true rfl), (Nat.le_of_ble_eq_true rfl)⟩ (oups_set hM.2 (i := 2) rfl) (oad_nd hM.2 (i := 2) rfl rfl) (fun H locs hM => ?_)
  refine lv_if_ne (tgt := 38) hC.1 hC.2.1 dX0_time_32 (by decide) (fun c1 => ?_) (fun c1 => ?_)
  ·
    skip
    refine lv_aload_n hC.1 hC.2.1 dX0_time_38 rfl (lv_at hl 0 rfl) ?_
    refine p_get hC hK hM 0 rfl in_X0 rfl 4 (by decide) q223 (fun x h => h) rfl dX0_time_39 ?_
    refine p_get hC hK hM 1 rfl in_X1 rfl 11 (by decide) q174 (fun x h => h) rfl dX0_time_42 ?_
    rw [et]
    refine lv_bipush (v := 12) hC.1 hC.2.1 dX0_time_45 (by decide) ?_
    refine lv_icmp_ne (tgt := 53) hC.1 hC.2.1 dX0_time_47 (by decide) (fun c2 => ?_) (fun c2 => ?_)
    ·
      skip
      refine lv_aload_n hC.1 hC.2.1 dX0_time_53 rfl (lv_at hl 0 rfl) ?_
      refine p_get hC hK hM 0 rfl in_X0 rfl 4 (by decide) q223 (fun x h => h) rfl dX0_time_54 ?_
      refine lv_iload_n hC.1 hC.2.1 dX0_time_57 rfl (lv_at hl 1 rfl) ?_
      refine lv_iload_n hC.1 hC.2.1 dX0_time_58 rfl (lv_at hl 2 rfl) ?_
      refine lv_iload_n hC.1 hC.2.1 dX0_time_59 rfl (lv_at hl 3 rfl) ?_
      refine lv_iload hC.1 hC.2.1 dX0_time_60 (lv_at hl 4 rfl) ?_
      refine p_cVe (L' := [_, _, _]) hC hK hM (hM.at 1 rfl) rfl (cr_addT l κ _ (ad 4) rx rd rw x y z t tm (hM.at 1 rfl) et h12 hb) (cwV 4 hC.2.2.2.2 (lw_V q1006 q1007 q1008 q64 q1009) rfl rfl rfl (by decide +kernel) ⟨(Nat.le_of_ble_eq_true rfl), (Nat.le_of_ble_eq_true rfl)⟩) rfl hl.1 rfl (lv_room (Nat.le_of_ble_eq_true rfl)) dX0_time_62 ⟨(Nat.le_of_ble_eq_true rfl), (Nat.le_of_ble_eq_true rfl)⟩ (oups_set hM.2 (i := 1) rfl) (oad_nd hM.2 (i := 1) rfl rfl) (fun H locs hM => ?_)
      refine lv_pop hC.1 hC.2.1 dX0_time_65 rfl ?_
      refine lv_aload_n hC.1 hC.2.1 dX0_time_66 rfl (lv_at hl 0 rfl) ?_
      refine p_get hC hK hM 0 rfl in_X0 rfl 4 (by decide) q223 (fun x h => h) rfl dX0_time_67 ?_
      refine p_get hC hK hM 1 rfl in_X1 rfl 11 (by decide) q174 (fun x h => h) rfl dX0_time_70 ?_
      rw [upd_s, et]
      skip
      refine p_iret hC hr hlocks hM dX0_time_73 ?_
      refine ⟨rfl, updN td 8 (rd 8), wput (becW tw rw) 10 (adC (becW tw rw 10) 0 x y z t), upd (upd rx 11 0) 11 (upd rx 11 0 11 + 1), ?_⟩
      rw [oups, oups, oups, oups, oup_comm (a := ad 4) (b := no) (fun e => o_ne hN hR (by decide) e.symm), oup_comm (a := ad 5) (b := no) (fun e => o_ne hN hT (by decide) e.symm), oup_same hN, ← et]
    ·
      skip
      exact absurd (neq_t (a := tm) (b := 12) c2) (by omega)
  ·
    skip
    exact absurd c1 (by decide)

set_option maxHeartbeats 400000 in
set_option maxRecDepth 100000 in
theorem cn_restore (l : Launch) (κ : Nat → Nat) (O : gO) (no : Nat) (cv : Nat → Int32) (ad : Nat → Nat) (g : Nat → Nat → Option Nat) (cw : Nat → Nat → Int32) (rx : Nat → Int32) (rd : Nat → Nat) (rw : Nat → Nat → Int32) (k iq : Nat) (ix : Nat → Int32) (idd : Nat → Nat) (iw : Nat → Nat → Int32) (hN : O no = some (nsU cv ad g cw)) (hR : O (ad 4) = some (rdU rx rd rw)) (hk : k < 2) (hg : g 8 k = some iq) (hI : O iq = some (rdU ix idd iw)) (hne : ad 4 ≠ iq) : oM l κ yX0_restore cX0_restore 2 (some .int) ({ frames := 2, cells := 0, slots := 0, locals := 61 }) [.ref no, .int (nI k)] O (fun rv O1 => rv = some (.int 1) ∧ O1 = oup (oup O (ad 4) (rdU ix (updN rd 8 (idd 8)) (becW rw iw))) no (nsU (upd cv 7 0) ad g cw)) := by
  intro D ac A
  refine o_body (own := RX0) rfl (plainFor_of_name (by decide)) (Nat.le_of_ble_eq_true rfl) ?_
  intro p e s m args below meth c ls hC hr hlocks hK hM hl hnamed hmeth
  have hl : lv_has ls 2 [(0, .ref no), (1, .int (nI k))] := hl
  have hM := PS.of hM [(no, nsU cv ad g cw), (ad 4, rdU rx rd rw), (iq, rdU ix idd iw)] ⟨hN, hR, hI, trivial⟩ (by simp only [oad, List.map, List.nodup_cons, List.mem_cons, List.mem_singleton, List.not_mem_nil, not_or, or_false, not_false_eq_true, List.nodup_nil, and_true]; exact ⟨⟨o_ne hN hR (by decide), o_ne hN hI (by decide)⟩, hne⟩)
  refine lv_iload_n hC.1 hC.2.1 dX0_restore_0 rfl (lv_at hl 1 rfl) ?_
  refine lv_i2l hC.1 hC.2.1 dX0_restore_1 rfl ?_
  refine lv_lconst (v := 0) hC.1 hC.2.1 dX0_restore_2 (by decide) ?_
  refine lv_lconst (v := 1) hC.1 hC.2.1 dX0_restore_3 (by decide) ?_
  refine s_ci hC ((cc_isIn l (a := 0) (b := 1) rfl rfl rfl)) (va_cwS 3 hC.2.2.2.2 (lw_S q265 q266 q63 q267) rfl rfl rfl (by decide +kernel) ⟨(Nat.le_of_ble_eq_true rfl), (Nat.le_of_ble_eq_true rfl)⟩) rfl hl.1 rfl (lv_room (Nat.le_of_ble_eq_true rfl)) dX0_restore_4 ⟨(Nat.le_of_ble_eq_true rfl), (Nat.le_of_ble_eq_true rfl)⟩ ?_
  refine lv_if_ne (tgt := 13) hC.1 hC.2.1 dX0_restore_7 (by decide) (fun c1 => ?_) (fun c1 => ?_)
  ·
    skip
    refine lv_aload_n hC.1 hC.2.1 dX0_restore_13 rfl (lv_at hl 0 rfl) ?_
    refine p_get hC hK hM 0 rfl in_X0 rfl 8 (by decide) q227 (fun x h => h) rfl dX0_restore_14 ?_
    refine lv_iload_n hC.1 hC.2.1 dX0_restore_17 rfl (lv_at hl 1 rfl) ?_
    refine p_aald hC hK hM 0 rfl 8 rfl rfl rfl (n := k) (by first | rfl | (simp only [← nI_add, ← pk_mul]; rfl)) (by first | decide | (show _ < 2; omega)) (by decide) dX0_restore_18 ?_
    rw [hg]
    refine lv_ifnonnull (tgt := 25) hC.1 hC.2.1 dX0_restore_19 (by decide) ?_
    refine lv_aload_n hC.1 hC.2.1 dX0_restore_25 rfl (lv_at hl 0 rfl) ?_
    refine p_get hC hK hM 0 rfl in_X0 rfl 4 (by decide) q223 (fun x h => h) rfl dX0_restore_26 ?_
    refine lv_aload_n hC.1 hC.2.1 dX0_restore_29 rfl (lv_at hl 0 rfl) ?_
    refine p_get hC hK hM 0 rfl in_X0 rfl 8 (by decide) q227 (fun x h => h) rfl dX0_restore_30 ?_
    refine lv_iload_n hC.1 hC.2.1 dX0_restore_33 rfl (lv_at hl 1 rfl) ?_
    refine p_aald hC hK hM 0 rfl 8 rfl rfl rfl (n := k) (by first | rfl | (simp only [← nI_add, ← pk_mul]; rfl)) (by first | decide | (show _ < 2; omega)) (by decide) dX0_restore_34 ?_
    rw [hg]
    refine p_cVe (L' := [_, _, _]) hC hK hM (hM.at 1 rfl) rfl (cr_become l κ _ (ad 4) rx rd rw iq ix idd iw (hM.at 1 rfl) (hM.at 2 rfl) hne) (cwV 1 hC.2.2.2.2 (lw_V q869 q870 q871 q64 q872) rfl rfl rfl (by decide +kernel) ⟨(Nat.le_of_ble_eq_true rfl), (Nat.le_of_ble_eq_true rfl)⟩) rfl hl.1 rfl (lv_room (Nat.le_of_ble_eq_true rfl)) dX0_restore_35 ⟨(Nat.le_of_ble_eq_true rfl), (Nat.le_of_ble_eq_true rfl)⟩ (oups_set hM.2 (i := 1) rfl) (oad_nd hM.2 (i := 1) rfl rfl) (fun H locs hM => ?_)
    refine lv_pop hC.1 hC.2.1 dX0_restore_38 rfl ?_
    refine lv_aload_n hC.1 hC.2.1 dX0_restore_39 rfl (lv_at hl 0 rfl) ?_
    refine lv_iconst (v := 0) hC.1 hC.2.1 dX0_restore_40 (by decide) ?_
    refine p_put (L' := [_, _, _]) hC hK hM 0 rfl in_X0 tyX0 tyX0_ok nmX0 rfl 7 (by decide) q226 (fun x h => h) rfl rfl rfl (Nat.le_of_ble_eq_true rfl) rfl rfl rfl dX0_restore_41 (fun H locs hM => ?_)
    refine lv_iconst (v := 1) hC.1 hC.2.1 dX0_restore_44 (by decide) ?_
    skip
    refine p_iret hC hr hlocks hM dX0_restore_45 ?_
    refine ⟨rfl, ?_⟩
    rw [oups, oups, oups, oups, oup_same hI]
  ·
    skip
    exact absurd (c1 : bI _ = 0) (by rw [bI_t ⟨nI_pos' (by omega), nI_le (b := 1) (by omega) (by omega)⟩]; decide)

set_option maxHeartbeats 400000 in
set_option maxRecDepth 100000 in
theorem cn_restoreN (l : Launch) (κ : Nat → Nat) (O : gO) (no : Nat) (cv : Nat → Int32) (ad : Nat → Nat) (g : Nat → Nat → Option Nat) (cw : Nat → Nat → Int32) (k : Nat) (hN : O no = some (nsU cv ad g cw)) (hk : k < 2) (hg : g 8 k = none) : oM l κ yX0_restore cX0_restore 2 (some .int) ({ frames := 1, cells := 0, slots := 0, locals := 25 }) [.ref no, .int (nI k)] O (fun rv O1 => rv = some (.int (-1000002)) ∧ O1 = O) := by
  intro D ac A
  refine o_body (own := RX0) rfl (plainFor_of_name (by decide)) (Nat.le_of_ble_eq_true rfl) ?_
  intro p e s m args below meth c ls hC hr hlocks hK hM hl hnamed hmeth
  have hl : lv_has ls 2 [(0, .ref no), (1, .int (nI k))] := hl
  have hM := PS.of hM [(no, nsU cv ad g cw)] ⟨hN, trivial⟩ (by simp [oad])
  refine lv_iload_n hC.1 hC.2.1 dX0_restore_0 rfl (lv_at hl 1 rfl) ?_
  refine lv_i2l hC.1 hC.2.1 dX0_restore_1 rfl ?_
  refine lv_lconst (v := 0) hC.1 hC.2.1 dX0_restore_2 (by decide) ?_
  refine lv_lconst (v := 1) hC.1 hC.2.1 dX0_restore_3 (by decide) ?_
  refine s_ci hC ((cc_isIn l (a := 0) (b := 1) rfl rfl rfl)) (va_cwS 3 hC.2.2.2.2 (lw_S q265 q266 q63 q267) rfl rfl rfl (by decide +kernel) ⟨(Nat.le_of_ble_eq_true rfl), (Nat.le_of_ble_eq_true rfl)⟩) rfl hl.1 rfl (lv_room (Nat.le_of_ble_eq_true rfl)) dX0_restore_4 ⟨(Nat.le_of_ble_eq_true rfl), (Nat.le_of_ble_eq_true rfl)⟩ ?_
  refine lv_if_ne (tgt := 13) hC.1 hC.2.1 dX0_restore_7 (by decide) (fun c1 => ?_) (fun c1 => ?_)
  ·
    skip
    refine lv_aload_n hC.1 hC.2.1 dX0_restore_13 rfl (lv_at hl 0 rfl) ?_
    refine p_get hC hK hM 0 rfl in_X0 rfl 8 (by decide) q227 (fun x h => h) rfl dX0_restore_14 ?_
    refine lv_iload_n hC.1 hC.2.1 dX0_restore_17 rfl (lv_at hl 1 rfl) ?_
    refine p_aald hC hK hM 0 rfl 8 rfl rfl rfl (n := k) (by first | rfl | (simp only [← nI_add, ← pk_mul]; rfl)) (by first | decide | (show _ < 2; omega)) (by decide) dX0_restore_18 ?_
    rw [hg]
    refine lv_ifnonnullN hC.1 hC.2.1 dX0_restore_19 ?_
    refine lv_ldc hC.1 hC.2.1 hC.2.2.2.1 (hC.2.2.2.2 _ q885) dX0_restore_22 ?_
    skip
    refine p_iret hC hr hlocks hM dX0_restore_24 ?_
    exact ⟨rfl, oup_same hN⟩
  ·
    skip
    exact absurd (c1 : bI _ = 0) (by rw [bI_t ⟨nI_pos' (by omega), nI_le (b := 1) (by omega) (by omega)⟩]; decide)

set_option maxHeartbeats 400000 in
set_option maxRecDepth 100000 in
theorem cn_restoreB (l : Launch) (κ : Nat → Nat) (O : gO) (no : Nat) (cv : Nat → Int32) (ad : Nat → Nat) (g : Nat → Nat → Option Nat) (cw : Nat → Nat → Int32) (x : Int32) (hN : O no = some (nsU cv ad g cw)) (hx : ¬ (0 ≤ x ∧ x ≤ 1)) : oM l κ yX0_restore cX0_restore 2 (some .int) ({ frames := 1, cells := 0, slots := 0, locals := 25 }) [.ref no, .int x] O (fun rv O1 => rv = some (.int (-1000001)) ∧ O1 = O) := by
  intro D ac A
  refine o_body (own := RX0) rfl (plainFor_of_name (by decide)) (Nat.le_of_ble_eq_true rfl) ?_
  intro p e s m args below meth c ls hC hr hlocks hK hM hl hnamed hmeth
  have hl : lv_has ls 2 [(0, .ref no), (1, .int x)] := hl
  have hM := PS.of hM [(no, nsU cv ad g cw)] ⟨hN, trivial⟩ (by simp [oad])
  refine lv_iload_n hC.1 hC.2.1 dX0_restore_0 rfl (lv_at hl 1 rfl) ?_
  refine lv_i2l hC.1 hC.2.1 dX0_restore_1 rfl ?_
  refine lv_lconst (v := 0) hC.1 hC.2.1 dX0_restore_2 (by decide) ?_
  refine lv_lconst (v := 1) hC.1 hC.2.1 dX0_restore_3 (by decide) ?_
  refine s_ci hC ((cc_isIn l (a := 0) (b := 1) rfl rfl rfl)) (va_cwS 3 hC.2.2.2.2 (lw_S q265 q266 q63 q267) rfl rfl rfl (by decide +kernel) ⟨(Nat.le_of_ble_eq_true rfl), (Nat.le_of_ble_eq_true rfl)⟩) rfl hl.1 rfl (lv_room (Nat.le_of_ble_eq_true rfl)) dX0_restore_4 ⟨(Nat.le_of_ble_eq_true rfl), (Nat.le_of_ble_eq_true rfl)⟩ ?_
  refine lv_if_ne (tgt := 13) hC.1 hC.2.1 dX0_restore_7 (by decide) (fun c1 => ?_) (fun c1 => ?_)
  ·
    skip
    exact absurd (bI_n0.mp c1) hx
  ·
    skip
    refine lv_ldc hC.1 hC.2.1 hC.2.2.2.1 (hC.2.2.2.2 _ q269) dX0_restore_10 ?_
    skip
    refine p_iret hC hr hlocks hM dX0_restore_12 ?_
    exact ⟨rfl, oup_same hN⟩
