set_option maxHeartbeats 400000 in
set_option maxRecDepth 100000 in
theorem cm_dm_9 (l : Launch) (κ : Nat → Nat) (O : gO) (a : Nat) (mv : Nat → Int32) (tr q t : Nat) (tf : Nat → Int32) (r : Nat) (hO : O a = some (cU 9 mv (fun _ => 0) aNo)) (hT : O tr = some (tU t q tf)) (ht : t + 1 ≤ 16) : oM0 l κ yX14_mark cX14_mark 3 (some .int) ({ frames := 1, cells := 0, slots := 0, locals := 21 }) [.ref a, .ref tr, .ref r] O (fun rv O1 => rv = some (.int (mv 0)) ∧ O1 = oup O tr (tU (t + 1) q (upd tf (t) 20))) := by
  intro D ac A
  refine o_body0 (own := RX14) rfl (by decide) (Nat.le_of_ble_eq_true rfl) ?_
  intro p e s m args below meth c ls hC hr hlocks hK hM hl hnamed hmeth
  have hl : lv_has ls 3 [(0, .ref a), (1, .ref tr), (2, .ref r)] := hl
  have hM := PS.of hM [(a, cU 9 mv (fun _ => 0) aNo), (tr, tU t q tf)] ⟨hO, hT, trivial⟩ (by simp only [oad, List.map, List.nodup_cons, List.mem_singleton, List.not_mem_nil, not_false_eq_true, List.nodup_nil, and_true]; exact o_ne hO hT (by decide))
  refine lv_aload_n hC.1 hC.2.1 dX14_mark_0 rfl (lv_at hl 1 rfl) ?_
  refine lv_bipush (v := 20) hC.1 hC.2.1 dX14_mark_1 (by decide) ?_
  refine p_cVv (L' := [_, _]) hC hK hM (hM.at 1 rfl) rfl (ct_bg l κ _ tr q tf _ t (hM.at 1 rfl) (by omega)) (cwV 1 hC.2.2.2.2 (lw_V q1201 q1175 q1176 q68 q1177) rfl rfl rfl (by decide +kernel) ⟨(Nat.le_of_ble_eq_true rfl), (Nat.le_of_ble_eq_true rfl)⟩) rfl hl.1 rfl (lv_room (Nat.le_of_ble_eq_true rfl)) dX14_mark_3 ⟨(Nat.le_of_ble_eq_true rfl), (Nat.le_of_ble_eq_true rfl)⟩ (oups_set hM.2 (i := 1) rfl) (oad_nd hM.2 (i := 1) rfl rfl) (fun H locs hM => ?_)
  refine lv_aload_n hC.1 hC.2.1 dX14_mark_6 rfl (lv_at hl 0 rfl) ?_
  refine p_cFe (L' := [_, _]) hC hK hM (hM.at 0 rfl) rfl (cm_nu_9 l κ _ a mv (hM.at 0 rfl)) (va_cwF 0 hC.2.2.2.2 (lw_F q1203 q1211 q1156 q89 q1163) rfl rfl rfl (hK.1.2.2.2 _ (List.mem_of_getElem? (i := 3) (rfl : nFw[3]? = some _))) (by decide +kernel) ⟨(Nat.le_of_ble_eq_true rfl), (Nat.le_of_ble_eq_true rfl)⟩) rfl hl.1 rfl (lv_room (Nat.le_of_ble_eq_true rfl)) dX14_mark_7 ⟨(Nat.le_of_ble_eq_true rfl), (Nat.le_of_ble_eq_true rfl)⟩ rfl hM.2 (fun H locs hM => ?_)
  skip
  refine p_iret hC hr hlocks hM dX14_mark_12 ?_
  exact ⟨rfl, by rw [oups, oups, oups, oup_comm (a := tr) (b := a) (o_ne hT hO (by decide)), oup_same hO]⟩

set_option maxHeartbeats 400000 in
set_option maxRecDepth 100000 in
theorem cm_sz_9 (l : Launch) (κ : Nat → Nat) (O : gO) (a : Nat) (mv : Nat → Int32) (tr q t : Nat) (tf : Nat → Int32) (r : Nat) (hO : O a = some (cU 9 mv (fun _ => 0) aNo)) (hT : O tr = some (tU t q tf)) (ht : t + 1 ≤ 16) : oM l κ yX8_size cX8_size 3 (some .int) ({ frames := 1, cells := 0, slots := 0, locals := 21 }) [.ref a, .ref tr, .ref r] O (fun rv O1 => rv = some (.int (mv 3)) ∧ O1 = oup O tr (tU (t + 1) q (upd tf (t) 10))) := by
  intro D ac A
  refine o_body (own := RX8) rfl (plainFor_of_name (by decide)) (Nat.le_of_ble_eq_true rfl) ?_
  intro p e s m args below meth c ls hC hr hlocks hK hM hl hnamed hmeth
  have hl : lv_has ls 3 [(0, .ref a), (1, .ref tr), (2, .ref r)] := hl
  have hM := PS.of hM [(a, cU 9 mv (fun _ => 0) aNo), (tr, tU t q tf)] ⟨hO, hT, trivial⟩ (by simp only [oad, List.map, List.nodup_cons, List.mem_singleton, List.not_mem_nil, not_false_eq_true, List.nodup_nil, and_true]; exact o_ne hO hT (by decide))
  refine lv_aload_n hC.1 hC.2.1 dX8_size_0 rfl (lv_at hl 1 rfl) ?_
  refine lv_bipush (v := 10) hC.1 hC.2.1 dX8_size_1 (by decide) ?_
  refine p_cVv (L' := [_, _]) hC hK hM (hM.at 1 rfl) rfl (ct_bg l κ _ tr q tf _ t (hM.at 1 rfl) (by omega)) (cwV 1 hC.2.2.2.2 (lw_V q1235 q1175 q1176 q68 q1177) rfl rfl rfl (by decide +kernel) ⟨(Nat.le_of_ble_eq_true rfl), (Nat.le_of_ble_eq_true rfl)⟩) rfl hl.1 rfl (lv_room (Nat.le_of_ble_eq_true rfl)) dX8_size_3 ⟨(Nat.le_of_ble_eq_true rfl), (Nat.le_of_ble_eq_true rfl)⟩ (oups_set hM.2 (i := 1) rfl) (oad_nd hM.2 (i := 1) rfl rfl) (fun H locs hM => ?_)
  refine lv_aload_n hC.1 hC.2.1 dX8_size_6 rfl (lv_at hl 0 rfl) ?_
  refine p_get hC hK hM 0 rfl in_X9 rfl 3 (by decide) q754 (fun x h => h) rfl dX8_size_7 ?_
  skip
  refine p_iret hC hr hlocks hM dX8_size_10 ?_
  exact ⟨rfl, by rw [oups, oups, oups, oup_comm (a := tr) (b := a) (o_ne hT hO (by decide)), oup_same hO]⟩

set_option maxHeartbeats 400000 in
set_option maxRecDepth 100000 in
theorem cm_dm_10 (l : Launch) (κ : Nat → Nat) (O : gO) (a : Nat) (mv : Nat → Int32) (tr q t : Nat) (tf : Nat → Int32) (r : Nat) (hO : O a = some (cU 10 mv (fun _ => 0) aNo)) (hT : O tr = some (tU t q tf)) (ht : t + 1 ≤ 16) : oM0 l κ yX14_mark cX14_mark 3 (some .int) ({ frames := 1, cells := 0, slots := 0, locals := 21 }) [.ref a, .ref tr, .ref r] O (fun rv O1 => rv = some (.int (mv 0)) ∧ O1 = oup O tr (tU (t + 1) q (upd tf (t) 20))) := by
  intro D ac A
  refine o_body0 (own := RX14) rfl (by decide) (Nat.le_of_ble_eq_true rfl) ?_
  intro p e s m args below meth c ls hC hr hlocks hK hM hl hnamed hmeth
  have hl : lv_has ls 3 [(0, .ref a), (1, .ref tr), (2, .ref r)] := hl
  have hM := PS.of hM [(a, cU 10 mv (fun _ => 0) aNo), (tr, tU t q tf)] ⟨hO, hT, trivial⟩ (by simp only [oad, List.map, List.nodup_cons, List.mem_singleton, List.not_mem_nil, not_false_eq_true, List.nodup_nil, and_true]; exact o_ne hO hT (by decide))
  refine lv_aload_n hC.1 hC.2.1 dX14_mark_0 rfl (lv_at hl 1 rfl) ?_
  refine lv_bipush (v := 20) hC.1 hC.2.1 dX14_mark_1 (by decide) ?_
  refine p_cVv (L' := [_, _]) hC hK hM (hM.at 1 rfl) rfl (ct_bg l κ _ tr q tf _ t (hM.at 1 rfl) (by omega)) (cwV 1 hC.2.2.2.2 (lw_V q1201 q1175 q1176 q68 q1177) rfl rfl rfl (by decide +kernel) ⟨(Nat.le_of_ble_eq_true rfl), (Nat.le_of_ble_eq_true rfl)⟩) rfl hl.1 rfl (lv_room (Nat.le_of_ble_eq_true rfl)) dX14_mark_3 ⟨(Nat.le_of_ble_eq_true rfl), (Nat.le_of_ble_eq_true rfl)⟩ (oups_set hM.2 (i := 1) rfl) (oad_nd hM.2 (i := 1) rfl rfl) (fun H locs hM => ?_)
  refine lv_aload_n hC.1 hC.2.1 dX14_mark_6 rfl (lv_at hl 0 rfl) ?_
  refine p_cFe (L' := [_, _]) hC hK hM (hM.at 0 rfl) rfl (cm_nu_10 l κ _ a mv (hM.at 0 rfl)) (va_cwF 0 hC.2.2.2.2 (lw_F q1203 q1207 q1156 q89 q1163) rfl rfl rfl (hK.1.2.2.2 _ (List.mem_of_getElem? (i := 4) (rfl : nFw[4]? = some _))) (by decide +kernel) ⟨(Nat.le_of_ble_eq_true rfl), (Nat.le_of_ble_eq_true rfl)⟩) rfl hl.1 rfl (lv_room (Nat.le_of_ble_eq_true rfl)) dX14_mark_7 ⟨(Nat.le_of_ble_eq_true rfl), (Nat.le_of_ble_eq_true rfl)⟩ rfl hM.2 (fun H locs hM => ?_)
  skip
  refine p_iret hC hr hlocks hM dX14_mark_12 ?_
  exact ⟨rfl, by rw [oups, oups, oups, oup_comm (a := tr) (b := a) (o_ne hT hO (by decide)), oup_same hO]⟩

set_option maxHeartbeats 400000 in
set_option maxRecDepth 100000 in
theorem cm_sz_10 (l : Launch) (κ : Nat → Nat) (O : gO) (a : Nat) (mv : Nat → Int32) (tr q t : Nat) (tf : Nat → Int32) (r : Nat) (hO : O a = some (cU 10 mv (fun _ => 0) aNo)) (hT : O tr = some (tU t q tf)) (ht : t + 1 ≤ 16) : oM l κ yX8_size cX8_size 3 (some .int) ({ frames := 1, cells := 0, slots := 0, locals := 21 }) [.ref a, .ref tr, .ref r] O (fun rv O1 => rv = some (.int (mv 3)) ∧ O1 = oup O tr (tU (t + 1) q (upd tf (t) 10))) := by
  intro D ac A
  refine o_body (own := RX8) rfl (plainFor_of_name (by decide)) (Nat.le_of_ble_eq_true rfl) ?_
  intro p e s m args below meth c ls hC hr hlocks hK hM hl hnamed hmeth
  have hl : lv_has ls 3 [(0, .ref a), (1, .ref tr), (2, .ref r)] := hl
  have hM := PS.of hM [(a, cU 10 mv (fun _ => 0) aNo), (tr, tU t q tf)] ⟨hO, hT, trivial⟩ (by simp only [oad, List.map, List.nodup_cons, List.mem_singleton, List.not_mem_nil, not_false_eq_true, List.nodup_nil, and_true]; exact o_ne hO hT (by decide))
  refine lv_aload_n hC.1 hC.2.1 dX8_size_0 rfl (lv_at hl 1 rfl) ?_
  refine lv_bipush (v := 10) hC.1 hC.2.1 dX8_size_1 (by decide) ?_
  refine p_cVv (L' := [_, _]) hC hK hM (hM.at 1 rfl) rfl (ct_bg l κ _ tr q tf _ t (hM.at 1 rfl) (by omega)) (cwV 1 hC.2.2.2.2 (lw_V q1235 q1175 q1176 q68 q1177) rfl rfl rfl (by decide +kernel) ⟨(Nat.le_of_ble_eq_true rfl), (Nat.le_of_ble_eq_true rfl)⟩) rfl hl.1 rfl (lv_room (Nat.le_of_ble_eq_true rfl)) dX8_size_3 ⟨(Nat.le_of_ble_eq_true rfl), (Nat.le_of_ble_eq_true rfl)⟩ (oups_set hM.2 (i := 1) rfl) (oad_nd hM.2 (i := 1) rfl rfl) (fun H locs hM => ?_)
  refine lv_aload_n hC.1 hC.2.1 dX8_size_6 rfl (lv_at hl 0 rfl) ?_
  refine p_get hC hK hM 0 rfl in_X10 rfl 3 (by decide) q754 (fun x h => h) rfl dX8_size_7 ?_
  skip
  refine p_iret hC hr hlocks hM dX8_size_10 ?_
  exact ⟨rfl, by rw [oups, oups, oups, oup_comm (a := tr) (b := a) (o_ne hT hO (by decide)), oup_same hO]⟩

set_option maxHeartbeats 400000 in
set_option maxRecDepth 100000 in
theorem cm_dm_11 (l : Launch) (κ : Nat → Nat) (O : gO) (a : Nat) (mv : Nat → Int32) (tr q t : Nat) (tf : Nat → Int32) (r : Nat) (hO : O a = some (cU 11 mv (fun _ => 0) aNo)) (hT : O tr = some (tU t q tf)) (ht : t + 1 ≤ 16) : oM0 l κ yX14_mark cX14_mark 3 (some .int) ({ frames := 1, cells := 0, slots := 0, locals := 21 }) [.ref a, .ref tr, .ref r] O (fun rv O1 => rv = some (.int (mv 0)) ∧ O1 = oup O tr (tU (t + 1) q (upd tf (t) 20))) := by
  intro D ac A
  refine o_body0 (own := RX14) rfl (by decide) (Nat.le_of_ble_eq_true rfl) ?_
  intro p e s m args below meth c ls hC hr hlocks hK hM hl hnamed hmeth
  have hl : lv_has ls 3 [(0, .ref a), (1, .ref tr), (2, .ref r)] := hl
  have hM := PS.of hM [(a, cU 11 mv (fun _ => 0) aNo), (tr, tU t q tf)] ⟨hO, hT, trivial⟩ (by simp only [oad, List.map, List.nodup_cons, List.mem_singleton, List.not_mem_nil, not_false_eq_true, List.nodup_nil, and_true]; exact o_ne hO hT (by decide))
  refine lv_aload_n hC.1 hC.2.1 dX14_mark_0 rfl (lv_at hl 1 rfl) ?_
  refine lv_bipush (v := 20) hC.1 hC.2.1 dX14_mark_1 (by decide) ?_
  refine p_cVv (L' := [_, _]) hC hK hM (hM.at 1 rfl) rfl (ct_bg l κ _ tr q tf _ t (hM.at 1 rfl) (by omega)) (cwV 1 hC.2.2.2.2 (lw_V q1201 q1175 q1176 q68 q1177) rfl rfl rfl (by decide +kernel) ⟨(Nat.le_of_ble_eq_true rfl), (Nat.le_of_ble_eq_true rfl)⟩) rfl hl.1 rfl (lv_room (Nat.le_of_ble_eq_true rfl)) dX14_mark_3 ⟨(Nat.le_of_ble_eq_true rfl), (Nat.le_of_ble_eq_true rfl)⟩ (oups_set hM.2 (i := 1) rfl) (oad_nd hM.2 (i := 1) rfl rfl) (fun H locs hM => ?_)
  refine lv_aload_n hC.1 hC.2.1 dX14_mark_6 rfl (lv_at hl 0 rfl) ?_
  refine p_cFe (L' := [_, _]) hC hK hM (hM.at 0 rfl) rfl (cm_nu_11 l κ _ a mv (hM.at 0 rfl)) (va_cwF 0 hC.2.2.2.2 (lw_F q1203 q1214 q1156 q89 q1163) rfl rfl rfl (hK.1.2.2.2 _ (List.mem_of_getElem? (i := 5) (rfl : nFw[5]? = some _))) (by decide +kernel) ⟨(Nat.le_of_ble_eq_true rfl), (Nat.le_of_ble_eq_true rfl)⟩) rfl hl.1 rfl (lv_room (Nat.le_of_ble_eq_true rfl)) dX14_mark_7 ⟨(Nat.le_of_ble_eq_true rfl), (Nat.le_of_ble_eq_true rfl)⟩ rfl hM.2 (fun H locs hM => ?_)
  skip
  refine p_iret hC hr hlocks hM dX14_mark_12 ?_
  exact ⟨rfl, by rw [oups, oups, oups, oup_comm (a := tr) (b := a) (o_ne hT hO (by decide)), oup_same hO]⟩

set_option maxHeartbeats 400000 in
set_option maxRecDepth 100000 in
theorem cm_sz_11 (l : Launch) (κ : Nat → Nat) (O : gO) (a : Nat) (mv : Nat → Int32) (tr q t : Nat) (tf : Nat → Int32) (r : Nat) (hO : O a = some (cU 11 mv (fun _ => 0) aNo)) (hT : O tr = some (tU t q tf)) (ht : t + 1 ≤ 16) : oM l κ yX8_size cX8_size 3 (some .int) ({ frames := 1, cells := 0, slots := 0, locals := 21 }) [.ref a, .ref tr, .ref r] O (fun rv O1 => rv = some (.int (mv 3)) ∧ O1 = oup O tr (tU (t + 1) q (upd tf (t) 10))) := by
  intro D ac A
  refine o_body (own := RX8) rfl (plainFor_of_name (by decide)) (Nat.le_of_ble_eq_true rfl) ?_
  intro p e s m args below meth c ls hC hr hlocks hK hM hl hnamed hmeth
  have hl : lv_has ls 3 [(0, .ref a), (1, .ref tr), (2, .ref r)] := hl
  have hM := PS.of hM [(a, cU 11 mv (fun _ => 0) aNo), (tr, tU t q tf)] ⟨hO, hT, trivial⟩ (by simp only [oad, List.map, List.nodup_cons, List.mem_singleton, List.not_mem_nil, not_false_eq_true, List.nodup_nil, and_true]; exact o_ne hO hT (by decide))
  refine lv_aload_n hC.1 hC.2.1 dX8_size_0 rfl (lv_at hl 1 rfl) ?_
  refine lv_bipush (v := 10) hC.1 hC.2.1 dX8_size_1 (by decide) ?_
  refine p_cVv (L' := [_, _]) hC hK hM (hM.at 1 rfl) rfl (ct_bg l κ _ tr q tf _ t (hM.at 1 rfl) (by omega)) (cwV 1 hC.2.2.2.2 (lw_V q1235 q1175 q1176 q68 q1177) rfl rfl rfl (by decide +kernel) ⟨(Nat.le_of_ble_eq_true rfl), (Nat.le_of_ble_eq_true rfl)⟩) rfl hl.1 rfl (lv_room (Nat.le_of_ble_eq_true rfl)) dX8_size_3 ⟨(Nat.le_of_ble_eq_true rfl), (Nat.le_of_ble_eq_true rfl)⟩ (oups_set hM.2 (i := 1) rfl) (oad_nd hM.2 (i := 1) rfl rfl) (fun H locs hM => ?_)
  refine lv_aload_n hC.1 hC.2.1 dX8_size_6 rfl (lv_at hl 0 rfl) ?_
  refine p_get hC hK hM 0 rfl in_X11 rfl 3 (by decide) q754 (fun x h => h) rfl dX8_size_7 ?_
  skip
  refine p_iret hC hr hlocks hM dX8_size_10 ?_
  exact ⟨rfl, by rw [oups, oups, oups, oup_comm (a := tr) (b := a) (o_ne hT hO (by decide)), oup_same hO]⟩

set_option maxHeartbeats 400000 in
set_option maxRecDepth 100000 in
theorem cm_dm_12 (l : Launch) (κ : Nat → Nat) (O : gO) (a : Nat) (mv : Nat → Int32) (tr q t : Nat) (tf : Nat → Int32) (r : Nat) (hO : O a = some (cU 12 mv (fun _ => 0) aNo)) (hT : O tr = some (tU t q tf)) (ht : t + 1 ≤ 16) : oM0 l κ yX14_mark cX14_mark 3 (some .int) ({ frames := 1, cells := 0, slots := 0, locals := 21 }) [.ref a, .ref tr, .ref r] O (fun rv O1 => rv = some (.int (mv 0)) ∧ O1 = oup O tr (tU (t + 1) q (upd tf (t) 20))) := by
  intro D ac A
  refine o_body0 (own := RX14) rfl (by decide) (Nat.le_of_ble_eq_true rfl) ?_
  intro p e s m args below meth c ls hC hr hlocks hK hM hl hnamed hmeth
  have hl : lv_has ls 3 [(0, .ref a), (1, .ref tr), (2, .ref r)] := hl
  have hM := PS.of hM [(a, cU 12 mv (fun _ => 0) aNo), (tr, tU t q tf)] ⟨hO, hT, trivial⟩ (by simp only [oad, List.map, List.nodup_cons, List.mem_singleton, List.not_mem_nil, not_false_eq_true, List.nodup_nil, and_true]; exact o_ne hO hT (by decide))
  refine lv_aload_n hC.1 hC.2.1 dX14_mark_0 rfl (lv_at hl 1 rfl) ?_
  refine lv_bipush (v := 20) hC.1 hC.2.1 dX14_mark_1 (by decide) ?_
  refine p_cVv (L' := [_, _]) hC hK hM (hM.at 1 rfl) rfl (ct_bg l κ _ tr q tf _ t (hM.at 1 rfl) (by omega)) (cwV 1 hC.2.2.2.2 (lw_V q1201 q1175 q1176 q68 q1177) rfl rfl rfl (by decide +kernel) ⟨(Nat.le_of_ble_eq_true rfl), (Nat.le_of_ble_eq_true rfl)⟩) rfl hl.1 rfl (lv_room (Nat.le_of_ble_eq_true rfl)) dX14_mark_3 ⟨(Nat.le_of_ble_eq_true rfl), (Nat.le_of_ble_eq_true rfl)⟩ (oups_set hM.2 (i := 1) rfl) (oad_nd hM.2 (i := 1) rfl rfl) (fun H locs hM => ?_)
  refine lv_aload_n hC.1 hC.2.1 dX14_mark_6 rfl (lv_at hl 0 rfl) ?_
  refine p_cFe (L' := [_, _]) hC hK hM (hM.at 0 rfl) rfl (cm_nu_12 l κ _ a mv (hM.at 0 rfl)) (va_cwF 0 hC.2.2.2.2 (lw_F q1203 q1220 q1156 q89 q1163) rfl rfl rfl (hK.1.2.2.2 _ (List.mem_of_getElem? (i := 6) (rfl : nFw[6]? = some _))) (by decide +kernel) ⟨(Nat.le_of_ble_eq_true rfl), (Nat.le_of_ble_eq_true rfl)⟩) rfl hl.1 rfl (lv_room (Nat.le_of_ble_eq_true rfl)) dX14_mark_7 ⟨(Nat.le_of_ble_eq_true rfl), (Nat.le_of_ble_eq_true rfl)⟩ rfl hM.2 (fun H locs hM => ?_)
  skip
  refine p_iret hC hr hlocks hM dX14_mark_12 ?_
  exact ⟨rfl, by rw [oups, oups, oups, oup_comm (a := tr) (b := a) (o_ne hT hO (by decide)), oup_same hO]⟩

set_option maxHeartbeats 400000 in
set_option maxRecDepth 100000 in
theorem cm_sz_12 (l : Launch) (κ : Nat → Nat) (O : gO) (a : Nat) (mv : Nat → Int32) (tr q t : Nat) (tf : Nat → Int32) (r : Nat) (hO : O a = some (cU 12 mv (fun _ => 0) aNo)) (hT : O tr = some (tU t q tf)) (ht : t + 1 ≤ 16) : oM l κ yX8_size cX8_size 3 (some .int) ({ frames := 1, cells := 0, slots := 0, locals := 21 }) [.ref a, .ref tr, .ref r] O (fun rv O1 => rv = some (.int (mv 3)) ∧ O1 = oup O tr (tU (t + 1) q (upd tf (t) 10))) := by
  intro D ac A
  refine o_body (own := RX8) rfl (plainFor_of_name (by decide)) (Nat.le_of_ble_eq_true rfl) ?_
  intro p e s m args below meth c ls hC hr hlocks hK hM hl hnamed hmeth
  have hl : lv_has ls 3 [(0, .ref a), (1, .ref tr), (2, .ref r)] := hl
  have hM := PS.of hM [(a, cU 12 mv (fun _ => 0) aNo), (tr, tU t q tf)] ⟨hO, hT, trivial⟩ (by simp only [oad, List.map, List.nodup_cons, List.mem_singleton, List.not_mem_nil, not_false_eq_true, List.nodup_nil, and_true]; exact o_ne hO hT (by decide))
  refine lv_aload_n hC.1 hC.2.1 dX8_size_0 rfl (lv_at hl 1 rfl) ?_
  refine lv_bipush (v := 10) hC.1 hC.2.1 dX8_size_1 (by decide) ?_
  refine p_cVv (L' := [_, _]) hC hK hM (hM.at 1 rfl) rfl (ct_bg l κ _ tr q tf _ t (hM.at 1 rfl) (by omega)) (cwV 1 hC.2.2.2.2 (lw_V q1235 q1175 q1176 q68 q1177) rfl rfl rfl (by decide +kernel) ⟨(Nat.le_of_ble_eq_true rfl), (Nat.le_of_ble_eq_true rfl)⟩) rfl hl.1 rfl (lv_room (Nat.le_of_ble_eq_true rfl)) dX8_size_3 ⟨(Nat.le_of_ble_eq_true rfl), (Nat.le_of_ble_eq_true rfl)⟩ (oups_set hM.2 (i := 1) rfl) (oad_nd hM.2 (i := 1) rfl rfl) (fun H locs hM => ?_)
  refine lv_aload_n hC.1 hC.2.1 dX8_size_6 rfl (lv_at hl 0 rfl) ?_
  refine p_get hC hK hM 0 rfl in_X12 rfl 3 (by decide) q754 (fun x h => h) rfl dX8_size_7 ?_
  skip
  refine p_iret hC hr hlocks hM dX8_size_10 ?_
  exact ⟨rfl, by rw [oups, oups, oups, oup_comm (a := tr) (b := a) (o_ne hT hO (by decide)), oup_same hO]⟩

set_option maxHeartbeats 400000 in
set_option maxRecDepth 100000 in
theorem cm_dm_13 (l : Launch) (κ : Nat → Nat) (O : gO) (a : Nat) (mv : Nat → Int32) (tr q t : Nat) (tf : Nat → Int32) (r : Nat) (hO : O a = some (cU 13 mv (fun _ => 0) aNo)) (hT : O tr = some (tU t q tf)) (ht : t + 1 ≤ 16) : oM0 l κ yX14_mark cX14_mark 3 (some .int) ({ frames := 1, cells := 0, slots := 0, locals := 21 }) [.ref a, .ref tr, .ref r] O (fun rv O1 => rv = some (.int (mv 0)) ∧ O1 = oup O tr (tU (t + 1) q (upd tf (t) 20))) := by
  intro D ac A
  refine o_body0 (own := RX14) rfl (by decide) (Nat.le_of_ble_eq_true rfl) ?_
  intro p e s m args below meth c ls hC hr hlocks hK hM hl hnamed hmeth
  have hl : lv_has ls 3 [(0, .ref a), (1, .ref tr), (2, .ref r)] := hl
  have hM := PS.of hM [(a, cU 13 mv (fun _ => 0) aNo), (tr, tU t q tf)] ⟨hO, hT, trivial⟩ (by simp only [oad, List.map, List.nodup_cons, List.mem_singleton, List.not_mem_nil, not_false_eq_true, List.nodup_nil, and_true]; exact o_ne hO hT (by decide))
  refine lv_aload_n hC.1 hC.2.1 dX14_mark_0 rfl (lv_at hl 1 rfl) ?_
  refine lv_bipush (v := 20) hC.1 hC.2.1 dX14_mark_1 (by decide) ?_
  refine p_cVv (L' := [_, _]) hC hK hM (hM.at 1 rfl) rfl (ct_bg l κ _ tr q tf _ t (hM.at 1 rfl) (by omega)) (cwV 1 hC.2.2.2.2 (lw_V q1201 q1175 q1176 q68 q1177) rfl rfl rfl (by decide +kernel) ⟨(Nat.le_of_ble_eq_true rfl), (Nat.le_of_ble_eq_true rfl)⟩) rfl hl.1 rfl (lv_room (Nat.le_of_ble_eq_true rfl)) dX14_mark_3 ⟨(Nat.le_of_ble_eq_true rfl), (Nat.le_of_ble_eq_true rfl)⟩ (oups_set hM.2 (i := 1) rfl) (oad_nd hM.2 (i := 1) rfl rfl) (fun H locs hM => ?_)
  refine lv_aload_n hC.1 hC.2.1 dX14_mark_6 rfl (lv_at hl 0 rfl) ?_
  refine p_cFe (L' := [_, _]) hC hK hM (hM.at 0 rfl) rfl (cm_nu_13 l κ _ a mv (hM.at 0 rfl)) (va_cwF 0 hC.2.2.2.2 (lw_F q1203 q1217 q1156 q89 q1163) rfl rfl rfl (hK.1.2.2.2 _ (List.mem_of_getElem? (i := 7) (rfl : nFw[7]? = some _))) (by decide +kernel) ⟨(Nat.le_of_ble_eq_true rfl), (Nat.le_of_ble_eq_true rfl)⟩) rfl hl.1 rfl (lv_room (Nat.le_of_ble_eq_true rfl)) dX14_mark_7 ⟨(Nat.le_of_ble_eq_true rfl), (Nat.le_of_ble_eq_true rfl)⟩ rfl hM.2 (fun H locs hM => ?_)
  skip
  refine p_iret hC hr hlocks hM dX14_mark_12 ?_
  exact ⟨rfl, by rw [oups, oups, oups, oup_comm (a := tr) (b := a) (o_ne hT hO (by decide)), oup_same hO]⟩

set_option maxHeartbeats 400000 in
set_option maxRecDepth 100000 in
theorem cm_sz_13 (l : Launch) (κ : Nat → Nat) (O : gO) (a : Nat) (mv : Nat → Int32) (tr q t : Nat) (tf : Nat → Int32) (r : Nat) (hO : O a = some (cU 13 mv (fun _ => 0) aNo)) (hT : O tr = some (tU t q tf)) (ht : t + 1 ≤ 16) : oM l κ yX8_size cX8_size 3 (some .int) ({ frames := 1, cells := 0, slots := 0, locals := 21 }) [.ref a, .ref tr, .ref r] O (fun rv O1 => rv = some (.int (mv 3)) ∧ O1 = oup O tr (tU (t + 1) q (upd tf (t) 10))) := by
  intro D ac A
  refine o_body (own := RX8) rfl (plainFor_of_name (by decide)) (Nat.le_of_ble_eq_true rfl) ?_
  intro p e s m args below meth c ls hC hr hlocks hK hM hl hnamed hmeth
  have hl : lv_has ls 3 [(0, .ref a), (1, .ref tr), (2, .ref r)] := hl
  have hM := PS.of hM [(a, cU 13 mv (fun _ => 0) aNo), (tr, tU t q tf)] ⟨hO, hT, trivial⟩ (by simp only [oad, List.map, List.nodup_cons, List.mem_singleton, List.not_mem_nil, not_false_eq_true, List.nodup_nil, and_true]; exact o_ne hO hT (by decide))
  refine lv_aload_n hC.1 hC.2.1 dX8_size_0 rfl (lv_at hl 1 rfl) ?_
  refine lv_bipush (v := 10) hC.1 hC.2.1 dX8_size_1 (by decide) ?_
  refine p_cVv (L' := [_, _]) hC hK hM (hM.at 1 rfl) rfl (ct_bg l κ _ tr q tf _ t (hM.at 1 rfl) (by omega)) (cwV 1 hC.2.2.2.2 (lw_V q1235 q1175 q1176 q68 q1177) rfl rfl rfl (by decide +kernel) ⟨(Nat.le_of_ble_eq_true rfl), (Nat.le_of_ble_eq_true rfl)⟩) rfl hl.1 rfl (lv_room (Nat.le_of_ble_eq_true rfl)) dX8_size_3 ⟨(Nat.le_of_ble_eq_true rfl), (Nat.le_of_ble_eq_true rfl)⟩ (oups_set hM.2 (i := 1) rfl) (oad_nd hM.2 (i := 1) rfl rfl) (fun H locs hM => ?_)
  refine lv_aload_n hC.1 hC.2.1 dX8_size_6 rfl (lv_at hl 0 rfl) ?_
  refine p_get hC hK hM 0 rfl in_X13 rfl 3 (by decide) q754 (fun x h => h) rfl dX8_size_7 ?_
  skip
  refine p_iret hC hr hlocks hM dX8_size_10 ?_
  exact ⟨rfl, by rw [oups, oups, oups, oup_comm (a := tr) (b := a) (o_ne hT hO (by decide)), oup_same hO]⟩

set_option maxHeartbeats 400000 in
set_option maxRecDepth 100000 in
theorem cm_im_9 (l : Launch) (κ : Nat → Nat) (O : gO) (a : Nat) (mv : Nat → Int32) (tr q t : Nat) (tf : Nat → Int32) (r : Nat) (rx : Nat → Int32) (rd : Nat → Nat) (rw : Nat → Nat → Int32) (k : Nat) (hO : O a = some (cU 9 mv (fun _ => 0) aNo)) (hT : O tr = some (tU t q tf)) (ht : t + 2 ≤ 16) (hR : O r = some (rdU rx rd rw)) (hk : k < 6) (hmk : mv 1 = nI k) : oM l κ yX9_mark cX9_mark 3 (some .int) ({ frames := 2, cells := 0, slots := 0, locals := 43 }) [.ref a, .ref tr, .ref r] O (fun rv O1 => rv = some (.int (mv 0 + rw 6 k)) ∧ O1 = oup O tr (tU (t + 2) q (upd (upd tf (t) 21) (t + 1) 20))) := by
  intro D ac A
  refine o_body (own := RX9) rfl (plainFor_of_name (by decide)) (Nat.le_of_ble_eq_true rfl) ?_
  intro p e s m args below meth c ls hC hr hlocks hK hM hl hnamed hmeth
  have hl : lv_has ls 3 [(0, .ref a), (1, .ref tr), (2, .ref r)] := hl
  have hM := PS.of hM [(a, cU 9 mv (fun _ => 0) aNo), (tr, tU t q tf), (r, rdU rx rd rw)] ⟨hO, hT, hR, trivial⟩ (by simp only [oad, List.map, List.nodup_cons, List.mem_cons, List.mem_singleton, List.not_mem_nil, not_or, or_false, not_false_eq_true, List.nodup_nil, and_true]; exact ⟨⟨o_ne hO hT (by decide), o_ne hO hR (by decide)⟩, o_ne hT hR (by decide)⟩)
  refine lv_aload_n hC.1 hC.2.1 dX9_mark_0 rfl (lv_at hl 1 rfl) ?_
  refine lv_bipush (v := 21) hC.1 hC.2.1 dX9_mark_1 (by decide) ?_
  refine p_cVv (L' := [_, _, _]) hC hK hM (hM.at 1 rfl) rfl (ct_bg l κ _ tr q tf _ t (hM.at 1 rfl) (by omega)) (cwV 1 hC.2.2.2.2 (lw_V q1181 q1175 q1176 q68 q1177) rfl rfl rfl (by decide +kernel) ⟨(Nat.le_of_ble_eq_true rfl), (Nat.le_of_ble_eq_true rfl)⟩) rfl hl.1 rfl (lv_room (Nat.le_of_ble_eq_true rfl)) dX9_mark_3 ⟨(Nat.le_of_ble_eq_true rfl), (Nat.le_of_ble_eq_true rfl)⟩ (oups_set hM.2 (i := 1) rfl) (oad_nd hM.2 (i := 1) rfl rfl) (fun H locs hM => ?_)
  refine lv_aload_n hC.1 hC.2.1 dX9_mark_6 rfl (lv_at hl 0 rfl) ?_
  refine lv_aload_n hC.1 hC.2.1 dX9_mark_7 rfl (lv_at hl 1 rfl) ?_
  refine lv_aload_n hC.1 hC.2.1 dX9_mark_8 rfl (lv_at hl 2 rfl) ?_
  refine p_cSDe (L' := [_, _, _]) hC hK hM (hM.at 0 rfl) rfl (cm_dm_9 l κ _ a mv tr q (t + 1) (upd tf (t) 21) r (hM.at 0 rfl) (hM.at 1 rfl) (by omega)) dw_0 q763 ⟨Nat.le_of_ble_eq_true rfl, Nat.le_of_ble_eq_true rfl⟩ rfl hl.1 rfl (lv_room (Nat.le_of_ble_eq_true rfl)) dX9_mark_9 ⟨Nat.le_of_ble_eq_true rfl, Nat.le_of_ble_eq_true rfl⟩ (oups_set hM.2 (i := 1) rfl) (oad_nd hM.2 (i := 1) rfl rfl) (fun H locs hM => ?_)
  refine lv_aload_n hC.1 hC.2.1 dX9_mark_12 rfl (lv_at hl 2 rfl) ?_
  refine p_get hC hK hM 2 rfl in_X1 rfl 6 (by decide) q161 (fun x h => h) rfl dX9_mark_13 ?_
  refine lv_aload_n hC.1 hC.2.1 dX9_mark_16 rfl (lv_at hl 0 rfl) ?_
  refine p_get hC hK hM 0 rfl in_X9 rfl 1 (by decide) q746 (u_same (hC.2.2.2.2 _ q747)) rfl dX9_mark_17 ?_
  refine p_iald hC hK hM 2 rfl 6 rfl rfl (n := k) hmk (by show _ < 6; omega) (by decide) dX9_mark_20 ?_
  refine lv_iadd hC.1 hC.2.1 dX9_mark_21 ?_
  skip
  refine p_iret hC hr hlocks hM dX9_mark_22 ?_
  exact ⟨rfl, by rw [oups, oups, oups, oups, oup_same hR, oup_comm (a := tr) (b := a) (o_ne hT hO (by decide)), oup_same hO]⟩

set_option maxHeartbeats 400000 in
set_option maxRecDepth 100000 in
theorem cm_im_10 (l : Launch) (κ : Nat → Nat) (O : gO) (a : Nat) (mv : Nat → Int32) (tr q t : Nat) (tf : Nat → Int32) (r : Nat) (rx : Nat → Int32) (rd : Nat → Nat) (rw : Nat → Nat → Int32) (k : Nat) (hO : O a = some (cU 10 mv (fun _ => 0) aNo)) (hT : O tr = some (tU t q tf)) (ht : t + 2 ≤ 16) (hR : O r = some (rdU rx rd rw)) (hk : k < 6) (hmk : mv 1 = nI k) : oM l κ yX9_mark cX9_mark 3 (some .int) ({ frames := 2, cells := 0, slots := 0, locals := 43 }) [.ref a, .ref tr, .ref r] O (fun rv O1 => rv = some (.int (mv 0 + rw 6 k)) ∧ O1 = oup O tr (tU (t + 2) q (upd (upd tf (t) 21) (t + 1) 20))) := by
  intro D ac A
  refine o_body (own := RX9) rfl (plainFor_of_name (by decide)) (Nat.le_of_ble_eq_true rfl) ?_
  intro p e s m args below meth c ls hC hr hlocks hK hM hl hnamed hmeth
  have hl : lv_has ls 3 [(0, .ref a), (1, .ref tr), (2, .ref r)] := hl
  have hM := PS.of hM [(a, cU 10 mv (fun _ => 0) aNo), (tr, tU t q tf), (r, rdU rx rd rw)] ⟨hO, hT, hR, trivial⟩ (by simp only [oad, List.map, List.nodup_cons, List.mem_cons, List.mem_singleton, List.not_mem_nil, not_or, or_false, not_false_eq_true, List.nodup_nil, and_true]; exact ⟨⟨o_ne hO hT (by decide), o_ne hO hR (by decide)⟩, o_ne hT hR (by decide)⟩)
  refine lv_aload_n hC.1 hC.2.1 dX9_mark_0 rfl (lv_at hl 1 rfl) ?_
  refine lv_bipush (v := 21) hC.1 hC.2.1 dX9_mark_1 (by decide) ?_
  refine p_cVv (L' := [_, _, _]) hC hK hM (hM.at 1 rfl) rfl (ct_bg l κ _ tr q tf _ t (hM.at 1 rfl) (by omega)) (cwV 1 hC.2.2.2.2 (lw_V q1181 q1175 q1176 q68 q1177) rfl rfl rfl (by decide +kernel) ⟨(Nat.le_of_ble_eq_true rfl), (Nat.le_of_ble_eq_true rfl)⟩) rfl hl.1 rfl (lv_room (Nat.le_of_ble_eq_true rfl)) dX9_mark_3 ⟨(Nat.le_of_ble_eq_true rfl), (Nat.le_of_ble_eq_true rfl)⟩ (oups_set hM.2 (i := 1) rfl) (oad_nd hM.2 (i := 1) rfl rfl) (fun H locs hM => ?_)
  refine lv_aload_n hC.1 hC.2.1 dX9_mark_6 rfl (lv_at hl 0 rfl) ?_
  refine lv_aload_n hC.1 hC.2.1 dX9_mark_7 rfl (lv_at hl 1 rfl) ?_
  refine lv_aload_n hC.1 hC.2.1 dX9_mark_8 rfl (lv_at hl 2 rfl) ?_
  refine p_cSDe (L' := [_, _, _]) hC hK hM (hM.at 0 rfl) rfl (cm_dm_10 l κ _ a mv tr q (t + 1) (upd tf (t) 21) r (hM.at 0 rfl) (hM.at 1 rfl) (by omega)) dw_0 q763 ⟨Nat.le_of_ble_eq_true rfl, Nat.le_of_ble_eq_true rfl⟩ rfl hl.1 rfl (lv_room (Nat.le_of_ble_eq_true rfl)) dX9_mark_9 ⟨Nat.le_of_ble_eq_true rfl, Nat.le_of_ble_eq_true rfl⟩ (oups_set hM.2 (i := 1) rfl) (oad_nd hM.2 (i := 1) rfl rfl) (fun H locs hM => ?_)
  refine lv_aload_n hC.1 hC.2.1 dX9_mark_12 rfl (lv_at hl 2 rfl) ?_
  refine p_get hC hK hM 2 rfl in_X1 rfl 6 (by decide) q161 (fun x h => h) rfl dX9_mark_13 ?_
  refine lv_aload_n hC.1 hC.2.1 dX9_mark_16 rfl (lv_at hl 0 rfl) ?_
  refine p_get hC hK hM 0 rfl in_X10 rfl 1 (by decide) q746 (u_same (hC.2.2.2.2 _ q747)) rfl dX9_mark_17 ?_
  refine p_iald hC hK hM 2 rfl 6 rfl rfl (n := k) hmk (by show _ < 6; omega) (by decide) dX9_mark_20 ?_
  refine lv_iadd hC.1 hC.2.1 dX9_mark_21 ?_
  skip
  refine p_iret hC hr hlocks hM dX9_mark_22 ?_
  exact ⟨rfl, by rw [oups, oups, oups, oups, oup_same hR, oup_comm (a := tr) (b := a) (o_ne hT hO (by decide)), oup_same hO]⟩

set_option maxHeartbeats 400000 in
set_option maxRecDepth 100000 in
theorem cm_im_11 (l : Launch) (κ : Nat → Nat) (O : gO) (a : Nat) (mv : Nat → Int32) (tr q t : Nat) (tf : Nat → Int32) (r : Nat) (rx : Nat → Int32) (rd : Nat → Nat) (rw : Nat → Nat → Int32) (k : Nat) (hO : O a = some (cU 11 mv (fun _ => 0) aNo)) (hT : O tr = some (tU t q tf)) (ht : t + 2 ≤ 16) (hR : O r = some (rdU rx rd rw)) (hk : k < 6) (hmk : mv 1 = nI k) : oM l κ yX9_mark cX9_mark 3 (some .int) ({ frames := 2, cells := 0, slots := 0, locals := 43 }) [.ref a, .ref tr, .ref r] O (fun rv O1 => rv = some (.int (mv 0 + rw 6 k)) ∧ O1 = oup O tr (tU (t + 2) q (upd (upd tf (t) 21) (t + 1) 20))) := by
  intro D ac A
  refine o_body (own := RX9) rfl (plainFor_of_name (by decide)) (Nat.le_of_ble_eq_true rfl) ?_
  intro p e s m args below meth c ls hC hr hlocks hK hM hl hnamed hmeth
  have hl : lv_has ls 3 [(0, .ref a), (1, .ref tr), (2, .ref r)] := hl
  have hM := PS.of hM [(a, cU 11 mv (fun _ => 0) aNo), (tr, tU t q tf), (r, rdU rx rd rw)] ⟨hO, hT, hR, trivial⟩ (by simp only [oad, List.map, List.nodup_cons, List.mem_cons, List.mem_singleton, List.not_mem_nil, not_or, or_false, not_false_eq_true, List.nodup_nil, and_true]; exact ⟨⟨o_ne hO hT (by decide), o_ne hO hR (by decide)⟩, o_ne hT hR (by decide)⟩)
  refine lv_aload_n hC.1 hC.2.1 dX9_mark_0 rfl (lv_at hl 1 rfl) ?_
  refine lv_bipush (v := 21) hC.1 hC.2.1 dX9_mark_1 (by decide) ?_
  refine p_cVv (L' := [_, _, _]) hC hK hM (hM.at 1 rfl) rfl (ct_bg l κ _ tr q tf _ t (hM.at 1 rfl) (by omega)) (cwV 1 hC.2.2.2.2 (lw_V q1181 q1175 q1176 q68 q1177) rfl rfl rfl (by decide +kernel) ⟨(Nat.le_of_ble_eq_true rfl), (Nat.le_of_ble_eq_true rfl)⟩) rfl hl.1 rfl (lv_room (Nat.le_of_ble_eq_true rfl)) dX9_mark_3 ⟨(Nat.le_of_ble_eq_true rfl), (Nat.le_of_ble_eq_true rfl)⟩ (oups_set hM.2 (i := 1) rfl) (oad_nd hM.2 (i := 1) rfl rfl) (fun H locs hM => ?_)
  refine lv_aload_n hC.1 hC.2.1 dX9_mark_6 rfl (lv_at hl 0 rfl) ?_
  refine lv_aload_n hC.1 hC.2.1 dX9_mark_7 rfl (lv_at hl 1 rfl) ?_
  refine lv_aload_n hC.1 hC.2.1 dX9_mark_8 rfl (lv_at hl 2 rfl) ?_
  refine p_cSDe (L' := [_, _, _]) hC hK hM (hM.at 0 rfl) rfl (cm_dm_11 l κ _ a mv tr q (t + 1) (upd tf (t) 21) r (hM.at 0 rfl) (hM.at 1 rfl) (by omega)) dw_0 q763 ⟨Nat.le_of_ble_eq_true rfl, Nat.le_of_ble_eq_true rfl⟩ rfl hl.1 rfl (lv_room (Nat.le_of_ble_eq_true rfl)) dX9_mark_9 ⟨Nat.le_of_ble_eq_true rfl, Nat.le_of_ble_eq_true rfl⟩ (oups_set hM.2 (i := 1) rfl) (oad_nd hM.2 (i := 1) rfl rfl) (fun H locs hM => ?_)
  refine lv_aload_n hC.1 hC.2.1 dX9_mark_12 rfl (lv_at hl 2 rfl) ?_
  refine p_get hC hK hM 2 rfl in_X1 rfl 6 (by decide) q161 (fun x h => h) rfl dX9_mark_13 ?_
  refine lv_aload_n hC.1 hC.2.1 dX9_mark_16 rfl (lv_at hl 0 rfl) ?_
  refine p_get hC hK hM 0 rfl in_X11 rfl 1 (by decide) q746 (u_same (hC.2.2.2.2 _ q747)) rfl dX9_mark_17 ?_
  refine p_iald hC hK hM 2 rfl 6 rfl rfl (n := k) hmk (by show _ < 6; omega) (by decide) dX9_mark_20 ?_
  refine lv_iadd hC.1 hC.2.1 dX9_mark_21 ?_
  skip
  refine p_iret hC hr hlocks hM dX9_mark_22 ?_
  exact ⟨rfl, by rw [oups, oups, oups, oups, oup_same hR, oup_comm (a := tr) (b := a) (o_ne hT hO (by decide)), oup_same hO]⟩

set_option maxHeartbeats 400000 in
set_option maxRecDepth 100000 in
theorem cm_mk_10 (l : Launch) (κ : Nat → Nat) (O : gO) (a : Nat) (mv : Nat → Int32) (tr q t : Nat) (tf : Nat → Int32) (r : Nat) (rx : Nat → Int32) (rd : Nat → Nat) (rw : Nat → Nat → Int32) (k : Nat) (hO : O a = some (cU 10 mv (fun _ => 0) aNo)) (hT : O tr = some (tU t q tf)) (ht : t + 3 ≤ 16) (hR : O r = some (rdU rx rd rw)) (hk : k < 6) (hmk : mv 1 = nI k) : oM l κ yX10_mark cX10_mark 3 (some .int) ({ frames := 3, cells := 0, slots := 0, locals := 65 }) [.ref a, .ref tr, .ref r] O (fun rv O1 => rv = some (.int (2 * (mv 0 + rw 6 k))) ∧ O1 = oup O tr (tU (t + 3) q (upd (upd (upd tf (t) 24) (t + 1) 21) (t + 2) 20))) := by
  intro D ac A
  refine o_body (own := RX10) rfl (plainFor_of_name (by decide)) (Nat.le_of_ble_eq_true rfl) ?_
  intro p e s m args below meth c ls hC hr hlocks hK hM hl hnamed hmeth
  have hl : lv_has ls 3 [(0, .ref a), (1, .ref tr), (2, .ref r)] := hl
  have hM := PS.of hM [(a, cU 10 mv (fun _ => 0) aNo), (tr, tU t q tf), (r, rdU rx rd rw)] ⟨hO, hT, hR, trivial⟩ (by simp only [oad, List.map, List.nodup_cons, List.mem_cons, List.mem_singleton, List.not_mem_nil, not_or, or_false, not_false_eq_true, List.nodup_nil, and_true]; exact ⟨⟨o_ne hO hT (by decide), o_ne hO hR (by decide)⟩, o_ne hT hR (by decide)⟩)
  refine lv_aload_n hC.1 hC.2.1 dX10_mark_0 rfl (lv_at hl 1 rfl) ?_
  refine lv_bipush (v := 24) hC.1 hC.2.1 dX10_mark_1 (by decide) ?_
  refine p_cVv (L' := [_, _, _]) hC hK hM (hM.at 1 rfl) rfl (ct_bg l κ _ tr q tf _ t (hM.at 1 rfl) (by omega)) (cwV 1 hC.2.2.2.2 (lw_V q1174 q1175 q1176 q68 q1177) rfl rfl rfl (by decide +kernel) ⟨(Nat.le_of_ble_eq_true rfl), (Nat.le_of_ble_eq_true rfl)⟩) rfl hl.1 rfl (lv_room (Nat.le_of_ble_eq_true rfl)) dX10_mark_3 ⟨(Nat.le_of_ble_eq_true rfl), (Nat.le_of_ble_eq_true rfl)⟩ (oups_set hM.2 (i := 1) rfl) (oad_nd hM.2 (i := 1) rfl rfl) (fun H locs hM => ?_)
  refine lv_iconst (v := 2) hC.1 hC.2.1 dX10_mark_6 (by decide) ?_
  refine lv_aload_n hC.1 hC.2.1 dX10_mark_7 rfl (lv_at hl 0 rfl) ?_
  refine lv_aload_n hC.1 hC.2.1 dX10_mark_8 rfl (lv_at hl 1 rfl) ?_
  refine lv_aload_n hC.1 hC.2.1 dX10_mark_9 rfl (lv_at hl 2 rfl) ?_
  refine p_cSUe (L' := [_, _, _]) hC hK hM (hM.at 0 rfl) rfl (cm_im_10 l κ _ a mv tr q (t + 1) (upd tf (t) 24) r rx rd rw k (hM.at 0 rfl) (hM.at 1 rfl) (by omega) (hM.at 2 rfl) hk hmk) (va_cwSU 2 hC.2.2.2.2 (lw_SU q1190 q1186 q774 q1184 q90 q1196) rfl rfl rfl (by decide +kernel) ⟨(Nat.le_of_ble_eq_true rfl), (Nat.le_of_ble_eq_true rfl)⟩) rfl hl.1 rfl (lv_room (Nat.le_of_ble_eq_true rfl)) dX10_mark_10 ⟨(Nat.le_of_ble_eq_true rfl), (Nat.le_of_ble_eq_true rfl)⟩ (oups_set hM.2 (i := 1) rfl) (oad_nd hM.2 (i := 1) rfl rfl) (fun H locs hM => ?_)
  refine lv_imul hC.1 hC.2.1 dX10_mark_13 ?_
  skip
  refine p_iret hC hr hlocks hM dX10_mark_14 ?_
  exact ⟨rfl, by rw [oups, oups, oups, oups, oup_same hR, oup_comm (a := tr) (b := a) (o_ne hT hO (by decide)), oup_same hO]⟩

set_option maxHeartbeats 400000 in
set_option maxRecDepth 100000 in
theorem cm_mk_11 (l : Launch) (κ : Nat → Nat) (O : gO) (a : Nat) (mv : Nat → Int32) (tr q t : Nat) (tf : Nat → Int32) (r : Nat) (rx : Nat → Int32) (rd : Nat → Nat) (rw : Nat → Nat → Int32) (k : Nat) (hO : O a = some (cU 11 mv (fun _ => 0) aNo)) (hT : O tr = some (tU t q tf)) (ht : t + 3 ≤ 16) (hR : O r = some (rdU rx rd rw)) (hk : k < 6) (hmk : mv 1 = nI k) : oM l κ yX11_mark cX11_mark 3 (some .int) ({ frames := 3, cells := 0, slots := 0, locals := 65 }) [.ref a, .ref tr, .ref r] O (fun rv O1 => rv = some (.int (mv 0 + rw 6 k - 1000)) ∧ O1 = oup O tr (tU (t + 3) q (upd (upd (upd tf (t) 22) (t + 1) 21) (t + 2) 20))) := by
  intro D ac A
  refine o_body (own := RX11) rfl (plainFor_of_name (by decide)) (Nat.le_of_ble_eq_true rfl) ?_
  intro p e s m args below meth c ls hC hr hlocks hK hM hl hnamed hmeth
  have hl : lv_has ls 3 [(0, .ref a), (1, .ref tr), (2, .ref r)] := hl
  have hM := PS.of hM [(a, cU 11 mv (fun _ => 0) aNo), (tr, tU t q tf), (r, rdU rx rd rw)] ⟨hO, hT, hR, trivial⟩ (by simp only [oad, List.map, List.nodup_cons, List.mem_cons, List.mem_singleton, List.not_mem_nil, not_or, or_false, not_false_eq_true, List.nodup_nil, and_true]; exact ⟨⟨o_ne hO hT (by decide), o_ne hO hR (by decide)⟩, o_ne hT hR (by decide)⟩)
  refine lv_aload_n hC.1 hC.2.1 dX11_mark_0 rfl (lv_at hl 1 rfl) ?_
  refine lv_bipush (v := 22) hC.1 hC.2.1 dX11_mark_1 (by decide) ?_
  refine p_cVv (L' := [_, _, _]) hC hK hM (hM.at 1 rfl) rfl (ct_bg l κ _ tr q tf _ t (hM.at 1 rfl) (by omega)) (cwV 1 hC.2.2.2.2 (lw_V q1194 q1175 q1176 q68 q1177) rfl rfl rfl (by decide +kernel) ⟨(Nat.le_of_ble_eq_true rfl), (Nat.le_of_ble_eq_true rfl)⟩) rfl hl.1 rfl (lv_room (Nat.le_of_ble_eq_true rfl)) dX11_mark_3 ⟨(Nat.le_of_ble_eq_true rfl), (Nat.le_of_ble_eq_true rfl)⟩ (oups_set hM.2 (i := 1) rfl) (oad_nd hM.2 (i := 1) rfl rfl) (fun H locs hM => ?_)
  refine lv_aload_n hC.1 hC.2.1 dX11_mark_6 rfl (lv_at hl 0 rfl) ?_
  refine lv_aload_n hC.1 hC.2.1 dX11_mark_7 rfl (lv_at hl 1 rfl) ?_
  refine lv_aload_n hC.1 hC.2.1 dX11_mark_8 rfl (lv_at hl 2 rfl) ?_
  refine p_cSUe (L' := [_, _, _]) hC hK hM (hM.at 0 rfl) rfl (cm_im_11 l κ _ a mv tr q (t + 1) (upd tf (t) 22) r rx rd rw k (hM.at 0 rfl) (hM.at 1 rfl) (by omega) (hM.at 2 rfl) hk hmk) (va_cwSU 2 hC.2.2.2.2 (lw_SU q1195 q1186 q785 q1184 q90 q1196) rfl rfl rfl (by decide +kernel) ⟨(Nat.le_of_ble_eq_true rfl), (Nat.le_of_ble_eq_true rfl)⟩) rfl hl.1 rfl (lv_room (Nat.le_of_ble_eq_true rfl)) dX11_mark_9 ⟨(Nat.le_of_ble_eq_true rfl), (Nat.le_of_ble_eq_true rfl)⟩ (oups_set hM.2 (i := 1) rfl) (oad_nd hM.2 (i := 1) rfl rfl) (fun H locs hM => ?_)
  refine lv_sipush (v := 1000) hC.1 hC.2.1 dX11_mark_12 (by decide) ?_
  refine lv_isub hC.1 hC.2.1 dX11_mark_15 ?_
  skip
  refine p_iret hC hr hlocks hM dX11_mark_16 ?_
  exact ⟨rfl, by rw [oups, oups, oups, oups, oup_same hR, oup_comm (a := tr) (b := a) (o_ne hT hO (by decide)), oup_same hO]⟩

set_option maxHeartbeats 400000 in
set_option maxRecDepth 100000 in
theorem cm_is_9 (l : Launch) (κ : Nat → Nat) (O : gO) (a : Nat) (mv : Nat → Int32) (tr q t : Nat) (tf : Nat → Int32) (r : Nat) (rx : Nat → Int32) (rd : Nat → Nat) (rw : Nat → Nat → Int32) (k : Nat) (hO : O a = some (cU 9 mv (fun _ => 0) aNo)) (hT : O tr = some (tU t q tf)) (ht : t + 4 ≤ 16) (hR : O r = some (rdU rx rd rw)) (hk : k < 6) (hmk : mv 1 = nI k) : oM l κ yX9_size cX9_size 3 (some .int) ({ frames := 3, cells := 0, slots := 0, locals := 65 }) [.ref a, .ref tr, .ref r] O (fun rv O1 => rv = some (.int (mv 3 + (mv 0 + rw 6 k))) ∧ O1 = oup O tr (tU (t + 4) q (upd (upd (upd (upd tf (t) 11) (t + 1) 10) (t + 2) 21) (t + 3) 20))) := by
  intro D ac A
  refine o_body (own := RX9) rfl (plainFor_of_name (by decide)) (Nat.le_of_ble_eq_true rfl) ?_
  intro p e s m args below meth c ls hC hr hlocks hK hM hl hnamed hmeth
  have hl : lv_has ls 3 [(0, .ref a), (1, .ref tr), (2, .ref r)] := hl
  have hM := PS.of hM [(a, cU 9 mv (fun _ => 0) aNo), (tr, tU t q tf), (r, rdU rx rd rw)] ⟨hO, hT, hR, trivial⟩ (by simp only [oad, List.map, List.nodup_cons, List.mem_cons, List.mem_singleton, List.not_mem_nil, not_or, or_false, not_false_eq_true, List.nodup_nil, and_true]; exact ⟨⟨o_ne hO hT (by decide), o_ne hO hR (by decide)⟩, o_ne hT hR (by decide)⟩)
  refine lv_aload_n hC.1 hC.2.1 dX9_size_0 rfl (lv_at hl 1 rfl) ?_
  refine lv_bipush (v := 11) hC.1 hC.2.1 dX9_size_1 (by decide) ?_
  refine p_cVv (L' := [_, _, _]) hC hK hM (hM.at 1 rfl) rfl (ct_bg l κ _ tr q tf _ t (hM.at 1 rfl) (by omega)) (cwV 1 hC.2.2.2.2 (lw_V q1181 q1175 q1176 q68 q1177) rfl rfl rfl (by decide +kernel) ⟨(Nat.le_of_ble_eq_true rfl), (Nat.le_of_ble_eq_true rfl)⟩) rfl hl.1 rfl (lv_room (Nat.le_of_ble_eq_true rfl)) dX9_size_3 ⟨(Nat.le_of_ble_eq_true rfl), (Nat.le_of_ble_eq_true rfl)⟩ (oups_set hM.2 (i := 1) rfl) (oad_nd hM.2 (i := 1) rfl rfl) (fun H locs hM => ?_)
  refine lv_aload_n hC.1 hC.2.1 dX9_size_6 rfl (lv_at hl 0 rfl) ?_
  refine lv_aload_n hC.1 hC.2.1 dX9_size_7 rfl (lv_at hl 1 rfl) ?_
  refine lv_aload_n hC.1 hC.2.1 dX9_size_8 rfl (lv_at hl 2 rfl) ?_
  refine p_cSUe (L' := [_, _, _]) hC hK hM (hM.at 0 rfl) rfl (cm_sz_9 l κ _ a mv tr q (t + 1) (upd tf (t) 11) r (hM.at 0 rfl) (hM.at 1 rfl) (by omega)) (va_cwSU 2 hC.2.2.2.2 (lw_SU q1182 q1170 q763 q1169 q89 q1234) rfl rfl rfl (by decide +kernel) ⟨(Nat.le_of_ble_eq_true rfl), (Nat.le_of_ble_eq_true rfl)⟩) rfl hl.1 rfl (lv_room (Nat.le_of_ble_eq_true rfl)) dX9_size_9 ⟨(Nat.le_of_ble_eq_true rfl), (Nat.le_of_ble_eq_true rfl)⟩ (oups_set hM.2 (i := 1) rfl) (oad_nd hM.2 (i := 1) rfl rfl) (fun H locs hM => ?_)
  refine lv_aload_n hC.1 hC.2.1 dX9_size_12 rfl (lv_at hl 0 rfl) ?_
  refine lv_aload_n hC.1 hC.2.1 dX9_size_13 rfl (lv_at hl 1 rfl) ?_
  refine lv_aload_n hC.1 hC.2.1 dX9_size_14 rfl (lv_at hl 2 rfl) ?_
  refine p_cVe (L' := [_, _, _]) hC hK hM (hM.at 0 rfl) rfl (cm_im_9 l κ _ a mv tr q (t + 2) (upd (upd tf (t) 11) (t + 1) 10) r rx rd rw k (hM.at 0 rfl) (hM.at 1 rfl) (by omega) (hM.at 2 rfl) hk hmk) (cwV 2 hC.2.2.2.2 (lw_V q1183 q1184 q1185 q90 q1196) rfl rfl rfl (by decide +kernel) ⟨(Nat.le_of_ble_eq_true rfl), (Nat.le_of_ble_eq_true rfl)⟩) rfl hl.1 rfl (lv_room (Nat.le_of_ble_eq_true rfl)) dX9_size_15 ⟨(Nat.le_of_ble_eq_true rfl), (Nat.le_of_ble_eq_true rfl)⟩ (oups_set hM.2 (i := 1) rfl) (oad_nd hM.2 (i := 1) rfl rfl) (fun H locs hM => ?_)
  refine lv_iadd hC.1 hC.2.1 dX9_size_18 ?_
  skip
  refine p_iret hC hr hlocks hM dX9_size_19 ?_
  exact ⟨rfl, by rw [oups, oups, oups, oups, oup_same hR, oup_comm (a := tr) (b := a) (o_ne hT hO (by decide)), oup_same hO]⟩

set_option maxHeartbeats 400000 in
set_option maxRecDepth 100000 in
theorem cm_is_10 (l : Launch) (κ : Nat → Nat) (O : gO) (a : Nat) (mv : Nat → Int32) (tr q t : Nat) (tf : Nat → Int32) (r : Nat) (rx : Nat → Int32) (rd : Nat → Nat) (rw : Nat → Nat → Int32) (k : Nat) (hO : O a = some (cU 10 mv (fun _ => 0) aNo)) (hT : O tr = some (tU t q tf)) (ht : t + 5 ≤ 16) (hR : O r = some (rdU rx rd rw)) (hk : k < 6) (hmk : mv 1 = nI k) : oM l κ yX9_size cX9_size 3 (some .int) ({ frames := 4, cells := 0, slots := 0, locals := 87 }) [.ref a, .ref tr, .ref r] O (fun rv O1 => rv = some (.int (mv 3 + (2 * (mv 0 + rw 6 k)))) ∧ O1 = oup O tr (tU (t + 5) q (upd (upd (upd (upd (upd tf (t) 11) (t + 1) 10) (t + 2) 24) (t + 3) 21) (t + 4) 20))) := by
  intro D ac A
  refine o_body (own := RX9) rfl (plainFor_of_name (by decide)) (Nat.le_of_ble_eq_true rfl) ?_
  intro p e s m args below meth c ls hC hr hlocks hK hM hl hnamed hmeth
  have hl : lv_has ls 3 [(0, .ref a), (1, .ref tr), (2, .ref r)] := hl
  have hM := PS.of hM [(a, cU 10 mv (fun _ => 0) aNo), (tr, tU t q tf), (r, rdU rx rd rw)] ⟨hO, hT, hR, trivial⟩ (by simp only [oad, List.map, List.nodup_cons, List.mem_cons, List.mem_singleton, List.not_mem_nil, not_or, or_false, not_false_eq_true, List.nodup_nil, and_true]; exact ⟨⟨o_ne hO hT (by decide), o_ne hO hR (by decide)⟩, o_ne hT hR (by decide)⟩)
  refine lv_aload_n hC.1 hC.2.1 dX9_size_0 rfl (lv_at hl 1 rfl) ?_
  refine lv_bipush (v := 11) hC.1 hC.2.1 dX9_size_1 (by decide) ?_
  refine p_cVv (L' := [_, _, _]) hC hK hM (hM.at 1 rfl) rfl (ct_bg l κ _ tr q tf _ t (hM.at 1 rfl) (by omega)) (cwV 1 hC.2.2.2.2 (lw_V q1181 q1175 q1176 q68 q1177) rfl rfl rfl (by decide +kernel) ⟨(Nat.le_of_ble_eq_true rfl), (Nat.le_of_ble_eq_true rfl)⟩) rfl hl.1 rfl (lv_room (Nat.le_of_ble_eq_true rfl)) dX9_size_3 ⟨(Nat.le_of_ble_eq_true rfl), (Nat.le_of_ble_eq_true rfl)⟩ (oups_set hM.2 (i := 1) rfl) (oad_nd hM.2 (i := 1) rfl rfl) (fun H locs hM => ?_)
  refine lv_aload_n hC.1 hC.2.1 dX9_size_6 rfl (lv_at hl 0 rfl) ?_
  refine lv_aload_n hC.1 hC.2.1 dX9_size_7 rfl (lv_at hl 1 rfl) ?_
  refine lv_aload_n hC.1 hC.2.1 dX9_size_8 rfl (lv_at hl 2 rfl) ?_
  refine p_cSUe (L' := [_, _, _]) hC hK hM (hM.at 0 rfl) rfl (cm_sz_10 l κ _ a mv tr q (t + 1) (upd tf (t) 11) r (hM.at 0 rfl) (hM.at 1 rfl) (by omega)) (va_cwSU 2 hC.2.2.2.2 (lw_SU q1182 q1170 q763 q1169 q89 q1234) rfl rfl rfl (by decide +kernel) ⟨(Nat.le_of_ble_eq_true rfl), (Nat.le_of_ble_eq_true rfl)⟩) rfl hl.1 rfl (lv_room (Nat.le_of_ble_eq_true rfl)) dX9_size_9 ⟨(Nat.le_of_ble_eq_true rfl), (Nat.le_of_ble_eq_true rfl)⟩ (oups_set hM.2 (i := 1) rfl) (oad_nd hM.2 (i := 1) rfl rfl) (fun H locs hM => ?_)
  refine lv_aload_n hC.1 hC.2.1 dX9_size_12 rfl (lv_at hl 0 rfl) ?_
  refine lv_aload_n hC.1 hC.2.1 dX9_size_13 rfl (lv_at hl 1 rfl) ?_
  refine lv_aload_n hC.1 hC.2.1 dX9_size_14 rfl (lv_at hl 2 rfl) ?_
  refine p_cUe (L' := [_, _, _]) hC hK hM (hM.at 0 rfl) rfl (cm_mk_10 l κ _ a mv tr q (t + 2) (upd (upd tf (t) 11) (t + 1) 10) r rx rd rw k (hM.at 0 rfl) (hM.at 1 rfl) (by omega) (hM.at 2 rfl) hk hmk) (va_cwO 2 hC.2.2.2.2 (lw_O q1183 q1186 q1184 q1187 q1188 q91 q1189) rfl rfl rfl q1196 (by decide +kernel) ⟨(Nat.le_of_ble_eq_true rfl), (Nat.le_of_ble_eq_true rfl)⟩) rfl hl.1 rfl (lv_room (Nat.le_of_ble_eq_true rfl)) dX9_size_15 ⟨(Nat.le_of_ble_eq_true rfl), (Nat.le_of_ble_eq_true rfl)⟩ (oups_set hM.2 (i := 1) rfl) (oad_nd hM.2 (i := 1) rfl rfl) (fun H locs hM => ?_)
  refine lv_iadd hC.1 hC.2.1 dX9_size_18 ?_
  skip
  refine p_iret hC hr hlocks hM dX9_size_19 ?_
  exact ⟨rfl, by rw [oups, oups, oups, oups, oup_same hR, oup_comm (a := tr) (b := a) (o_ne hT hO (by decide)), oup_same hO]⟩

set_option maxHeartbeats 400000 in
set_option maxRecDepth 100000 in
theorem cm_is_11 (l : Launch) (κ : Nat → Nat) (O : gO) (a : Nat) (mv : Nat → Int32) (tr q t : Nat) (tf : Nat → Int32) (r : Nat) (rx : Nat → Int32) (rd : Nat → Nat) (rw : Nat → Nat → Int32) (k : Nat) (hO : O a = some (cU 11 mv (fun _ => 0) aNo)) (hT : O tr = some (tU t q tf)) (ht : t + 5 ≤ 16) (hR : O r = some (rdU rx rd rw)) (hk : k < 6) (hmk : mv 1 = nI k) : oM l κ yX9_size cX9_size 3 (some .int) ({ frames := 4, cells := 0, slots := 0, locals := 87 }) [.ref a, .ref tr, .ref r] O (fun rv O1 => rv = some (.int (mv 3 + (mv 0 + rw 6 k - 1000))) ∧ O1 = oup O tr (tU (t + 5) q (upd (upd (upd (upd (upd tf (t) 11) (t + 1) 10) (t + 2) 22) (t + 3) 21) (t + 4) 20))) := by
  intro D ac A
  refine o_body (own := RX9) rfl (plainFor_of_name (by decide)) (Nat.le_of_ble_eq_true rfl) ?_
  intro p e s m args below meth c ls hC hr hlocks hK hM hl hnamed hmeth
  have hl : lv_has ls 3 [(0, .ref a), (1, .ref tr), (2, .ref r)] := hl
  have hM := PS.of hM [(a, cU 11 mv (fun _ => 0) aNo), (tr, tU t q tf), (r, rdU rx rd rw)] ⟨hO, hT, hR, trivial⟩ (by simp only [oad, List.map, List.nodup_cons, List.mem_cons, List.mem_singleton, List.not_mem_nil, not_or, or_false, not_false_eq_true, List.nodup_nil, and_true]; exact ⟨⟨o_ne hO hT (by decide), o_ne hO hR (by decide)⟩, o_ne hT hR (by decide)⟩)
  refine lv_aload_n hC.1 hC.2.1 dX9_size_0 rfl (lv_at hl 1 rfl) ?_
  refine lv_bipush (v := 11) hC.1 hC.2.1 dX9_size_1 (by decide) ?_
  refine p_cVv (L' := [_, _, _]) hC hK hM (hM.at 1 rfl) rfl (ct_bg l κ _ tr q tf _ t (hM.at 1 rfl) (by omega)) (cwV 1 hC.2.2.2.2 (lw_V q1181 q1175 q1176 q68 q1177) rfl rfl rfl (by decide +kernel) ⟨(Nat.le_of_ble_eq_true rfl), (Nat.le_of_ble_eq_true rfl)⟩) rfl hl.1 rfl (lv_room (Nat.le_of_ble_eq_true rfl)) dX9_size_3 ⟨(Nat.le_of_ble_eq_true rfl), (Nat.le_of_ble_eq_true rfl)⟩ (oups_set hM.2 (i := 1) rfl) (oad_nd hM.2 (i := 1) rfl rfl) (fun H locs hM => ?_)
  refine lv_aload_n hC.1 hC.2.1 dX9_size_6 rfl (lv_at hl 0 rfl) ?_
  refine lv_aload_n hC.1 hC.2.1 dX9_size_7 rfl (lv_at hl 1 rfl) ?_
  refine lv_aload_n hC.1 hC.2.1 dX9_size_8 rfl (lv_at hl 2 rfl) ?_
  refine p_cSUe (L' := [_, _, _]) hC hK hM (hM.at 0 rfl) rfl (cm_sz_11 l κ _ a mv tr q (t + 1) (upd tf (t) 11) r (hM.at 0 rfl) (hM.at 1 rfl) (by omega)) (va_cwSU 2 hC.2.2.2.2 (lw_SU q1182 q1170 q763 q1169 q89 q1234) rfl rfl rfl (by decide +kernel) ⟨(Nat.le_of_ble_eq_true rfl), (Nat.le_of_ble_eq_true rfl)⟩) rfl hl.1 rfl (lv_room (Nat.le_of_ble_eq_true rfl)) dX9_size_9 ⟨(Nat.le_of_ble_eq_true rfl), (Nat.le_of_ble_eq_true rfl)⟩ (oups_set hM.2 (i := 1) rfl) (oad_nd hM.2 (i := 1) rfl rfl) (fun H locs hM => ?_)
  refine lv_aload_n hC.1 hC.2.1 dX9_size_12 rfl (lv_at hl 0 rfl) ?_
  refine lv_aload_n hC.1 hC.2.1 dX9_size_13 rfl (lv_at hl 1 rfl) ?_
  refine lv_aload_n hC.1 hC.2.1 dX9_size_14 rfl (lv_at hl 2 rfl) ?_
  refine p_cUe (L' := [_, _, _]) hC hK hM (hM.at 0 rfl) rfl (cm_mk_11 l κ _ a mv tr q (t + 2) (upd (upd tf (t) 11) (t + 1) 10) r rx rd rw k (hM.at 0 rfl) (hM.at 1 rfl) (by omega) (hM.at 2 rfl) hk hmk) (va_cwO 2 hC.2.2.2.2 (lw_O q1183 q1186 q1184 q1191 q1192 q92 q1193) rfl rfl rfl q1196 (by decide +kernel) ⟨(Nat.le_of_ble_eq_true rfl), (Nat.le_of_ble_eq_true rfl)⟩) rfl hl.1 rfl (lv_room (Nat.le_of_ble_eq_true rfl)) dX9_size_15 ⟨(Nat.le_of_ble_eq_true rfl), (Nat.le_of_ble_eq_true rfl)⟩ (oups_set hM.2 (i := 1) rfl) (oad_nd hM.2 (i := 1) rfl rfl) (fun H locs hM => ?_)
  refine lv_iadd hC.1 hC.2.1 dX9_size_18 ?_
  skip
  refine p_iret hC hr hlocks hM dX9_size_19 ?_
  exact ⟨rfl, by rw [oups, oups, oups, oups, oup_same hR, oup_comm (a := tr) (b := a) (o_ne hT hO (by decide)), oup_same hO]⟩

set_option maxHeartbeats 400000 in
set_option maxRecDepth 100000 in
theorem cm_cs_10 (l : Launch) (κ : Nat → Nat) (O : gO) (a : Nat) (mv : Nat → Int32) (tr q t : Nat) (tf : Nat → Int32) (r : Nat) (rx : Nat → Int32) (rd : Nat → Nat) (rw : Nat → Nat → Int32) (k : Nat) (hO : O a = some (cU 10 mv (fun _ => 0) aNo)) (hT : O tr = some (tU t q tf)) (ht : t + 6 ≤ 16) (hR : O r = some (rdU rx rd rw)) (hk : k < 6) (hmk : mv 1 = nI k) : oM l κ yX10_size cX10_size 3 (some .int) ({ frames := 5, cells := 0, slots := 0, locals := 109 }) [.ref a, .ref tr, .ref r] O (fun rv O1 => rv = some (.int (-(mv 3 + (2 * (mv 0 + rw 6 k))))) ∧ O1 = oup O tr (tU (t + 6) q (upd (upd (upd (upd (upd (upd tf (t) 12) (t + 1) 11) (t + 2) 10) (t + 3) 24) (t + 4) 21) (t + 5) 20))) := by
  intro D ac A
  refine o_body (own := RX10) rfl (plainFor_of_name (by decide)) (Nat.le_of_ble_eq_true rfl) ?_
  intro p e s m args below meth c ls hC hr hlocks hK hM hl hnamed hmeth
  have hl : lv_has ls 3 [(0, .ref a), (1, .ref tr), (2, .ref r)] := hl
  have hM := PS.of hM [(a, cU 10 mv (fun _ => 0) aNo), (tr, tU t q tf), (r, rdU rx rd rw)] ⟨hO, hT, hR, trivial⟩ (by simp only [oad, List.map, List.nodup_cons, List.mem_cons, List.mem_singleton, List.not_mem_nil, not_or, or_false, not_false_eq_true, List.nodup_nil, and_true]; exact ⟨⟨o_ne hO hT (by decide), o_ne hO hR (by decide)⟩, o_ne hT hR (by decide)⟩)
  refine lv_aload_n hC.1 hC.2.1 dX10_size_0 rfl (lv_at hl 1 rfl) ?_
  refine lv_bipush (v := 12) hC.1 hC.2.1 dX10_size_1 (by decide) ?_
  refine p_cVv (L' := [_, _, _]) hC hK hM (hM.at 1 rfl) rfl (ct_bg l κ _ tr q tf _ t (hM.at 1 rfl) (by omega)) (cwV 1 hC.2.2.2.2 (lw_V q1174 q1175 q1176 q68 q1177) rfl rfl rfl (by decide +kernel) ⟨(Nat.le_of_ble_eq_true rfl), (Nat.le_of_ble_eq_true rfl)⟩) rfl hl.1 rfl (lv_room (Nat.le_of_ble_eq_true rfl)) dX10_size_3 ⟨(Nat.le_of_ble_eq_true rfl), (Nat.le_of_ble_eq_true rfl)⟩ (oups_set hM.2 (i := 1) rfl) (oad_nd hM.2 (i := 1) rfl rfl) (fun H locs hM => ?_)
  refine lv_aload_n hC.1 hC.2.1 dX10_size_6 rfl (lv_at hl 0 rfl) ?_
  refine lv_aload_n hC.1 hC.2.1 dX10_size_7 rfl (lv_at hl 1 rfl) ?_
  refine lv_aload_n hC.1 hC.2.1 dX10_size_8 rfl (lv_at hl 2 rfl) ?_
  refine p_cSUe (L' := [_, _, _]) hC hK hM (hM.at 0 rfl) rfl (cm_is_10 l κ _ a mv tr q (t + 1) (upd tf (t) 12) r rx rd rw k (hM.at 0 rfl) (hM.at 1 rfl) (by omega) (hM.at 2 rfl) hk hmk) (va_cwSU 2 hC.2.2.2.2 (lw_SU q1178 q1662 q774 q1179 q90 q1180) rfl rfl rfl (by decide +kernel) ⟨(Nat.le_of_ble_eq_true rfl), (Nat.le_of_ble_eq_true rfl)⟩) rfl hl.1 rfl (lv_room (Nat.le_of_ble_eq_true rfl)) dX10_size_9 ⟨(Nat.le_of_ble_eq_true rfl), (Nat.le_of_ble_eq_true rfl)⟩ (oups_set hM.2 (i := 1) rfl) (oad_nd hM.2 (i := 1) rfl rfl) (fun H locs hM => ?_)
  refine lv_ineg hC.1 hC.2.1 dX10_size_12 ?_
  skip
  refine p_iret hC hr hlocks hM dX10_size_13 ?_
  exact ⟨rfl, by rw [oups, oups, oups, oups, oup_same hR, oup_comm (a := tr) (b := a) (o_ne hT hO (by decide)), oup_same hO]⟩

set_option maxHeartbeats 400000 in
set_option maxRecDepth 100000 in
theorem cm_ts_12 (l : Launch) (κ : Nat → Nat) (O : gO) (a : Nat) (mv : Nat → Int32) (tr q t : Nat) (tf : Nat → Int32) (r : Nat) (hO : O a = some (cU 12 mv (fun _ => 0) aNo)) (hT : O tr = some (tU t q tf)) (ht : t + 2 ≤ 16) : oM l κ yX12_size cX12_size 3 (some .int) ({ frames := 2, cells := 0, slots := 0, locals := 43 }) [.ref a, .ref tr, .ref r] O (fun rv O1 => rv = some (.int (mv 3 - 100)) ∧ O1 = oup O tr (tU (t + 2) q (upd (upd tf (t) 13) (t + 1) 10))) := by
  intro D ac A
  refine o_body (own := RX12) rfl (plainFor_of_name (by decide)) (Nat.le_of_ble_eq_true rfl) ?_
  intro p e s m args below meth c ls hC hr hlocks hK hM hl hnamed hmeth
  have hl : lv_has ls 3 [(0, .ref a), (1, .ref tr), (2, .ref r)] := hl
  have hM := PS.of hM [(a, cU 12 mv (fun _ => 0) aNo), (tr, tU t q tf)] ⟨hO, hT, trivial⟩ (by simp only [oad, List.map, List.nodup_cons, List.mem_singleton, List.not_mem_nil, not_false_eq_true, List.nodup_nil, and_true]; exact o_ne hO hT (by decide))
  refine lv_aload_n hC.1 hC.2.1 dX12_size_0 rfl (lv_at hl 1 rfl) ?_
  refine lv_bipush (v := 13) hC.1 hC.2.1 dX12_size_1 (by decide) ?_
  refine p_cVv (L' := [_, _]) hC hK hM (hM.at 1 rfl) rfl (ct_bg l κ _ tr q tf _ t (hM.at 1 rfl) (by omega)) (cwV 1 hC.2.2.2.2 (lw_V q1231 q1175 q1176 q68 q1177) rfl rfl rfl (by decide +kernel) ⟨(Nat.le_of_ble_eq_true rfl), (Nat.le_of_ble_eq_true rfl)⟩) rfl hl.1 rfl (lv_room (Nat.le_of_ble_eq_true rfl)) dX12_size_3 ⟨(Nat.le_of_ble_eq_true rfl), (Nat.le_of_ble_eq_true rfl)⟩ (oups_set hM.2 (i := 1) rfl) (oad_nd hM.2 (i := 1) rfl rfl) (fun H locs hM => ?_)
  refine lv_aload_n hC.1 hC.2.1 dX12_size_6 rfl (lv_at hl 0 rfl) ?_
  refine lv_aload_n hC.1 hC.2.1 dX12_size_7 rfl (lv_at hl 1 rfl) ?_
  refine lv_aload_n hC.1 hC.2.1 dX12_size_8 rfl (lv_at hl 2 rfl) ?_
  refine p_cSUe (L' := [_, _]) hC hK hM (hM.at 0 rfl) rfl (cm_sz_12 l κ _ a mv tr q (t + 1) (upd tf (t) 13) r (hM.at 0 rfl) (hM.at 1 rfl) (by omega)) (va_cwSU 2 hC.2.2.2.2 (lw_SU q1232 q1170 q796 q1169 q89 q1234) rfl rfl rfl (by decide +kernel) ⟨(Nat.le_of_ble_eq_true rfl), (Nat.le_of_ble_eq_true rfl)⟩) rfl hl.1 rfl (lv_room (Nat.le_of_ble_eq_true rfl)) dX12_size_9 ⟨(Nat.le_of_ble_eq_true rfl), (Nat.le_of_ble_eq_true rfl)⟩ (oups_set hM.2 (i := 1) rfl) (oad_nd hM.2 (i := 1) rfl rfl) (fun H locs hM => ?_)
  refine lv_bipush (v := 100) hC.1 hC.2.1 dX12_size_12 (by decide) ?_
  refine lv_isub hC.1 hC.2.1 dX12_size_14 ?_
  skip
  refine p_iret hC hr hlocks hM dX12_size_15 ?_
  exact ⟨rfl, by rw [oups, oups, oups, oup_comm (a := tr) (b := a) (o_ne hT hO (by decide)), oup_same hO]⟩

set_option maxHeartbeats 400000 in
set_option maxRecDepth 100000 in
theorem cm_ts_13 (l : Launch) (κ : Nat → Nat) (O : gO) (a : Nat) (mv : Nat → Int32) (tr q t : Nat) (tf : Nat → Int32) (r : Nat) (hO : O a = some (cU 13 mv (fun _ => 0) aNo)) (hT : O tr = some (tU t q tf)) (ht : t + 2 ≤ 16) : oM l κ yX12_size cX12_size 3 (some .int) ({ frames := 2, cells := 0, slots := 0, locals := 43 }) [.ref a, .ref tr, .ref r] O (fun rv O1 => rv = some (.int (mv 3 - 100)) ∧ O1 = oup O tr (tU (t + 2) q (upd (upd tf (t) 13) (t + 1) 10))) := by
  intro D ac A
  refine o_body (own := RX12) rfl (plainFor_of_name (by decide)) (Nat.le_of_ble_eq_true rfl) ?_
  intro p e s m args below meth c ls hC hr hlocks hK hM hl hnamed hmeth
  have hl : lv_has ls 3 [(0, .ref a), (1, .ref tr), (2, .ref r)] := hl
  have hM := PS.of hM [(a, cU 13 mv (fun _ => 0) aNo), (tr, tU t q tf)] ⟨hO, hT, trivial⟩ (by simp only [oad, List.map, List.nodup_cons, List.mem_singleton, List.not_mem_nil, not_false_eq_true, List.nodup_nil, and_true]; exact o_ne hO hT (by decide))
  refine lv_aload_n hC.1 hC.2.1 dX12_size_0 rfl (lv_at hl 1 rfl) ?_
  refine lv_bipush (v := 13) hC.1 hC.2.1 dX12_size_1 (by decide) ?_
  refine p_cVv (L' := [_, _]) hC hK hM (hM.at 1 rfl) rfl (ct_bg l κ _ tr q tf _ t (hM.at 1 rfl) (by omega)) (cwV 1 hC.2.2.2.2 (lw_V q1231 q1175 q1176 q68 q1177) rfl rfl rfl (by decide +kernel) ⟨(Nat.le_of_ble_eq_true rfl), (Nat.le_of_ble_eq_true rfl)⟩) rfl hl.1 rfl (lv_room (Nat.le_of_ble_eq_true rfl)) dX12_size_3 ⟨(Nat.le_of_ble_eq_true rfl), (Nat.le_of_ble_eq_true rfl)⟩ (oups_set hM.2 (i := 1) rfl) (oad_nd hM.2 (i := 1) rfl rfl) (fun H locs hM => ?_)
  refine lv_aload_n hC.1 hC.2.1 dX12_size_6 rfl (lv_at hl 0 rfl) ?_
  refine lv_aload_n hC.1 hC.2.1 dX12_size_7 rfl (lv_at hl 1 rfl) ?_
  refine lv_aload_n hC.1 hC.2.1 dX12_size_8 rfl (lv_at hl 2 rfl) ?_
  refine p_cSUe (L' := [_, _]) hC hK hM (hM.at 0 rfl) rfl (cm_sz_13 l κ _ a mv tr q (t + 1) (upd tf (t) 13) r (hM.at 0 rfl) (hM.at 1 rfl) (by omega)) (va_cwSU 2 hC.2.2.2.2 (lw_SU q1232 q1170 q796 q1169 q89 q1234) rfl rfl rfl (by decide +kernel) ⟨(Nat.le_of_ble_eq_true rfl), (Nat.le_of_ble_eq_true rfl)⟩) rfl hl.1 rfl (lv_room (Nat.le_of_ble_eq_true rfl)) dX12_size_9 ⟨(Nat.le_of_ble_eq_true rfl), (Nat.le_of_ble_eq_true rfl)⟩ (oups_set hM.2 (i := 1) rfl) (oad_nd hM.2 (i := 1) rfl rfl) (fun H locs hM => ?_)
  refine lv_bipush (v := 100) hC.1 hC.2.1 dX12_size_12 (by decide) ?_
  refine lv_isub hC.1 hC.2.1 dX12_size_14 ?_
  skip
  refine p_iret hC hr hlocks hM dX12_size_15 ?_
  exact ⟨rfl, by rw [oups, oups, oups, oup_comm (a := tr) (b := a) (o_ne hT hO (by decide)), oup_same hO]⟩

set_option maxHeartbeats 400000 in
set_option maxRecDepth 100000 in
theorem cm_ps_13 (l : Launch) (κ : Nat → Nat) (O : gO) (a : Nat) (mv : Nat → Int32) (tr q t : Nat) (tf : Nat → Int32) (r : Nat) (hO : O a = some (cU 13 mv (fun _ => 0) aNo)) (hT : O tr = some (tU t q tf)) (ht : t + 3 ≤ 16) : oM l κ yX13_size cX13_size 3 (some .int) ({ frames := 3, cells := 0, slots := 0, locals := 65 }) [.ref a, .ref tr, .ref r] O (fun rv O1 => rv = some (.int (2 * (mv 3 - 100))) ∧ O1 = oup O tr (tU (t + 3) q (upd (upd (upd tf (t) 14) (t + 1) 13) (t + 2) 10))) := by
  intro D ac A
  refine o_body (own := RX13) rfl (plainFor_of_name (by decide)) (Nat.le_of_ble_eq_true rfl) ?_
  intro p e s m args below meth c ls hC hr hlocks hK hM hl hnamed hmeth
  have hl : lv_has ls 3 [(0, .ref a), (1, .ref tr), (2, .ref r)] := hl
  have hM := PS.of hM [(a, cU 13 mv (fun _ => 0) aNo), (tr, tU t q tf)] ⟨hO, hT, trivial⟩ (by simp only [oad, List.map, List.nodup_cons, List.mem_singleton, List.not_mem_nil, not_false_eq_true, List.nodup_nil, and_true]; exact o_ne hO hT (by decide))
  refine lv_aload_n hC.1 hC.2.1 dX13_size_0 rfl (lv_at hl 1 rfl) ?_
  refine lv_bipush (v := 14) hC.1 hC.2.1 dX13_size_1 (by decide) ?_
  refine p_cVv (L' := [_, _]) hC hK hM (hM.at 1 rfl) rfl (ct_bg l κ _ tr q tf _ t (hM.at 1 rfl) (by omega)) (cwV 1 hC.2.2.2.2 (lw_V q1227 q1175 q1176 q68 q1177) rfl rfl rfl (by decide +kernel) ⟨(Nat.le_of_ble_eq_true rfl), (Nat.le_of_ble_eq_true rfl)⟩) rfl hl.1 rfl (lv_room (Nat.le_of_ble_eq_true rfl)) dX13_size_3 ⟨(Nat.le_of_ble_eq_true rfl), (Nat.le_of_ble_eq_true rfl)⟩ (oups_set hM.2 (i := 1) rfl) (oad_nd hM.2 (i := 1) rfl rfl) (fun H locs hM => ?_)
  refine lv_iconst (v := 2) hC.1 hC.2.1 dX13_size_6 (by decide) ?_
  refine lv_aload_n hC.1 hC.2.1 dX13_size_7 rfl (lv_at hl 0 rfl) ?_
  refine lv_aload_n hC.1 hC.2.1 dX13_size_8 rfl (lv_at hl 1 rfl) ?_
  refine lv_aload_n hC.1 hC.2.1 dX13_size_9 rfl (lv_at hl 2 rfl) ?_
  refine p_cSUe (L' := [_, _]) hC hK hM (hM.at 0 rfl) rfl (cm_ts_13 l κ _ a mv tr q (t + 1) (upd tf (t) 14) r (hM.at 0 rfl) (hM.at 1 rfl) (by omega)) (va_cwSU 2 hC.2.2.2.2 (lw_SU q1228 q1663 q807 q1229 q93 q1230) rfl rfl rfl (by decide +kernel) ⟨(Nat.le_of_ble_eq_true rfl), (Nat.le_of_ble_eq_true rfl)⟩) rfl hl.1 rfl (lv_room (Nat.le_of_ble_eq_true rfl)) dX13_size_10 ⟨(Nat.le_of_ble_eq_true rfl), (Nat.le_of_ble_eq_true rfl)⟩ (oups_set hM.2 (i := 1) rfl) (oad_nd hM.2 (i := 1) rfl rfl) (fun H locs hM => ?_)
  refine lv_imul hC.1 hC.2.1 dX13_size_13 ?_
  skip
  refine p_iret hC hr hlocks hM dX13_size_14 ?_
  exact ⟨rfl, by rw [oups, oups, oups, oup_comm (a := tr) (b := a) (o_ne hT hO (by decide)), oup_same hO]⟩

set_option maxHeartbeats 400000 in
set_option maxRecDepth 100000 in
theorem cm_tm_12 (l : Launch) (κ : Nat → Nat) (O : gO) (a : Nat) (mv : Nat → Int32) (tr q t : Nat) (tf : Nat → Int32) (r : Nat) (hO : O a = some (cU 12 mv (fun _ => 0) aNo)) (hT : O tr = some (tU t q tf)) (ht : t + 4 ≤ 16) : oM l κ yX12_mark cX12_mark 3 (some .int) ({ frames := 3, cells := 0, slots := 0, locals := 65 }) [.ref a, .ref tr, .ref r] O (fun rv O1 => rv = some (.int (mv 0 - (mv 3 - 100))) ∧ O1 = oup O tr (tU (t + 4) q (upd (upd (upd (upd tf (t) 23) (t + 1) 20) (t + 2) 13) (t + 3) 10))) := by
  intro D ac A
  refine o_body (own := RX12) rfl (plainFor_of_name (by decide)) (Nat.le_of_ble_eq_true rfl) ?_
  intro p e s m args below meth c ls hC hr hlocks hK hM hl hnamed hmeth
  have hl : lv_has ls 3 [(0, .ref a), (1, .ref tr), (2, .ref r)] := hl
  have hM := PS.of hM [(a, cU 12 mv (fun _ => 0) aNo), (tr, tU t q tf)] ⟨hO, hT, trivial⟩ (by simp only [oad, List.map, List.nodup_cons, List.mem_singleton, List.not_mem_nil, not_false_eq_true, List.nodup_nil, and_true]; exact o_ne hO hT (by decide))
  refine lv_aload_n hC.1 hC.2.1 dX12_mark_0 rfl (lv_at hl 1 rfl) ?_
  refine lv_bipush (v := 23) hC.1 hC.2.1 dX12_mark_1 (by decide) ?_
  refine p_cVv (L' := [_, _]) hC hK hM (hM.at 1 rfl) rfl (ct_bg l κ _ tr q tf _ t (hM.at 1 rfl) (by omega)) (cwV 1 hC.2.2.2.2 (lw_V q1231 q1175 q1176 q68 q1177) rfl rfl rfl (by decide +kernel) ⟨(Nat.le_of_ble_eq_true rfl), (Nat.le_of_ble_eq_true rfl)⟩) rfl hl.1 rfl (lv_room (Nat.le_of_ble_eq_true rfl)) dX12_mark_3 ⟨(Nat.le_of_ble_eq_true rfl), (Nat.le_of_ble_eq_true rfl)⟩ (oups_set hM.2 (i := 1) rfl) (oad_nd hM.2 (i := 1) rfl rfl) (fun H locs hM => ?_)
  refine lv_aload_n hC.1 hC.2.1 dX12_mark_6 rfl (lv_at hl 0 rfl) ?_
  refine lv_aload_n hC.1 hC.2.1 dX12_mark_7 rfl (lv_at hl 1 rfl) ?_
  refine lv_aload_n hC.1 hC.2.1 dX12_mark_8 rfl (lv_at hl 2 rfl) ?_
  refine p_cSDe (L' := [_, _]) hC hK hM (hM.at 0 rfl) rfl (cm_dm_12 l κ _ a mv tr q (t + 1) (upd tf (t) 23) r (hM.at 0 rfl) (hM.at 1 rfl) (by omega)) dw_3 q796 ⟨Nat.le_of_ble_eq_true rfl, Nat.le_of_ble_eq_true rfl⟩ rfl hl.1 rfl (lv_room (Nat.le_of_ble_eq_true rfl)) dX12_mark_9 ⟨Nat.le_of_ble_eq_true rfl, Nat.le_of_ble_eq_true rfl⟩ (oups_set hM.2 (i := 1) rfl) (oad_nd hM.2 (i := 1) rfl rfl) (fun H locs hM => ?_)
  refine lv_aload_n hC.1 hC.2.1 dX12_mark_12 rfl (lv_at hl 0 rfl) ?_
  refine lv_aload_n hC.1 hC.2.1 dX12_mark_13 rfl (lv_at hl 1 rfl) ?_
  refine lv_aload_n hC.1 hC.2.1 dX12_mark_14 rfl (lv_at hl 2 rfl) ?_
  refine p_cVe (L' := [_, _]) hC hK hM (hM.at 0 rfl) rfl (cm_ts_12 l κ _ a mv tr q (t + 2) (upd (upd tf (t) 23) (t + 1) 20) r (hM.at 0 rfl) (hM.at 1 rfl) (by omega)) (cwV 2 hC.2.2.2.2 (lw_V q1242 q1229 q1665 q93 q1230) rfl rfl rfl (by decide +kernel) ⟨(Nat.le_of_ble_eq_true rfl), (Nat.le_of_ble_eq_true rfl)⟩) rfl hl.1 rfl (lv_room (Nat.le_of_ble_eq_true rfl)) dX12_mark_15 ⟨(Nat.le_of_ble_eq_true rfl), (Nat.le_of_ble_eq_true rfl)⟩ (oups_set hM.2 (i := 1) rfl) (oad_nd hM.2 (i := 1) rfl rfl) (fun H locs hM => ?_)
  refine lv_isub hC.1 hC.2.1 dX12_mark_18 ?_
  skip
  refine p_iret hC hr hlocks hM dX12_mark_19 ?_
  exact ⟨rfl, by rw [oups, oups, oups, oup_comm (a := tr) (b := a) (o_ne hT hO (by decide)), oup_same hO]⟩

set_option maxHeartbeats 400000 in
set_option maxRecDepth 100000 in
theorem cm_tm_13 (l : Launch) (κ : Nat → Nat) (O : gO) (a : Nat) (mv : Nat → Int32) (tr q t : Nat) (tf : Nat → Int32) (r : Nat) (hO : O a = some (cU 13 mv (fun _ => 0) aNo)) (hT : O tr = some (tU t q tf)) (ht : t + 5 ≤ 16) : oM l κ yX12_mark cX12_mark 3 (some .int) ({ frames := 4, cells := 0, slots := 0, locals := 87 }) [.ref a, .ref tr, .ref r] O (fun rv O1 => rv = some (.int (mv 0 - (2 * (mv 3 - 100)))) ∧ O1 = oup O tr (tU (t + 5) q (upd (upd (upd (upd (upd tf (t) 23) (t + 1) 20) (t + 2) 14) (t + 3) 13) (t + 4) 10))) := by
  intro D ac A
  refine o_body (own := RX12) rfl (plainFor_of_name (by decide)) (Nat.le_of_ble_eq_true rfl) ?_
  intro p e s m args below meth c ls hC hr hlocks hK hM hl hnamed hmeth
  have hl : lv_has ls 3 [(0, .ref a), (1, .ref tr), (2, .ref r)] := hl
  have hM := PS.of hM [(a, cU 13 mv (fun _ => 0) aNo), (tr, tU t q tf)] ⟨hO, hT, trivial⟩ (by simp only [oad, List.map, List.nodup_cons, List.mem_singleton, List.not_mem_nil, not_false_eq_true, List.nodup_nil, and_true]; exact o_ne hO hT (by decide))
  refine lv_aload_n hC.1 hC.2.1 dX12_mark_0 rfl (lv_at hl 1 rfl) ?_
  refine lv_bipush (v := 23) hC.1 hC.2.1 dX12_mark_1 (by decide) ?_
  refine p_cVv (L' := [_, _]) hC hK hM (hM.at 1 rfl) rfl (ct_bg l κ _ tr q tf _ t (hM.at 1 rfl) (by omega)) (cwV 1 hC.2.2.2.2 (lw_V q1231 q1175 q1176 q68 q1177) rfl rfl rfl (by decide +kernel) ⟨(Nat.le_of_ble_eq_true rfl), (Nat.le_of_ble_eq_true rfl)⟩) rfl hl.1 rfl (lv_room (Nat.le_of_ble_eq_true rfl)) dX12_mark_3 ⟨(Nat.le_of_ble_eq_true rfl), (Nat.le_of_ble_eq_true rfl)⟩ (oups_set hM.2 (i := 1) rfl) (oad_nd hM.2 (i := 1) rfl rfl) (fun H locs hM => ?_)
  refine lv_aload_n hC.1 hC.2.1 dX12_mark_6 rfl (lv_at hl 0 rfl) ?_
  refine lv_aload_n hC.1 hC.2.1 dX12_mark_7 rfl (lv_at hl 1 rfl) ?_
  refine lv_aload_n hC.1 hC.2.1 dX12_mark_8 rfl (lv_at hl 2 rfl) ?_
  refine p_cSDe (L' := [_, _]) hC hK hM (hM.at 0 rfl) rfl (cm_dm_13 l κ _ a mv tr q (t + 1) (upd tf (t) 23) r (hM.at 0 rfl) (hM.at 1 rfl) (by omega)) dw_3 q796 ⟨Nat.le_of_ble_eq_true rfl, Nat.le_of_ble_eq_true rfl⟩ rfl hl.1 rfl (lv_room (Nat.le_of_ble_eq_true rfl)) dX12_mark_9 ⟨Nat.le_of_ble_eq_true rfl, Nat.le_of_ble_eq_true rfl⟩ (oups_set hM.2 (i := 1) rfl) (oad_nd hM.2 (i := 1) rfl rfl) (fun H locs hM => ?_)
  refine lv_aload_n hC.1 hC.2.1 dX12_mark_12 rfl (lv_at hl 0 rfl) ?_
  refine lv_aload_n hC.1 hC.2.1 dX12_mark_13 rfl (lv_at hl 1 rfl) ?_
  refine lv_aload_n hC.1 hC.2.1 dX12_mark_14 rfl (lv_at hl 2 rfl) ?_
  refine p_cUe (L' := [_, _]) hC hK hM (hM.at 0 rfl) rfl (cm_ps_13 l κ _ a mv tr q (t + 2) (upd (upd tf (t) 23) (t + 1) 20) r (hM.at 0 rfl) (hM.at 1 rfl) (by omega)) (va_cwO 2 hC.2.2.2.2 (lw_O q1242 q1663 q1229 q1664 q1225 q94 q1226) rfl rfl rfl q1230 (by decide +kernel) ⟨(Nat.le_of_ble_eq_true rfl), (Nat.le_of_ble_eq_true rfl)⟩) rfl hl.1 rfl (lv_room (Nat.le_of_ble_eq_true rfl)) dX12_mark_15 ⟨(Nat.le_of_ble_eq_true rfl), (Nat.le_of_ble_eq_true rfl)⟩ (oups_set hM.2 (i := 1) rfl) (oad_nd hM.2 (i := 1) rfl rfl) (fun H locs hM => ?_)
  refine lv_isub hC.1 hC.2.1 dX12_mark_18 ?_
  skip
  refine p_iret hC hr hlocks hM dX12_mark_19 ?_
  exact ⟨rfl, by rw [oups, oups, oups, oup_comm (a := tr) (b := a) (o_ne hT hO (by decide)), oup_same hO]⟩
