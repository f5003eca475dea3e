set_option maxHeartbeats 400000 in
set_option maxRecDepth 100000 in
theorem cm_i1_X8 (l : Launch) (κ : Nat → Nat) (O : gO) (a : Nat) (x y z t : Int32) (hO : O a = some (.inr (9, [.int 0, .int 0, .int 0, .int 0], aNo))) (hz : z = 0 ∨ z = 1) : oM l κ yX8_init cX8_init 5 none ({ frames := 1, cells := 0, slots := 0, locals := 12 }) [.ref a, .int x, .int y, .int z, .int t] O (fun rv O1 => O1 = oup O a (mvU 1 (mvN x y z t)) ∧ rv = none) := by
  intro D ac A
  refine o_body (own := RX8) rfl (plainFor_of_name (by decide)) (Nat.le_of_ble_eq_true rfl) ?_
  intro p e s m args below meth c ls hC hr hlocks hK hM hl hnamed hmeth
  have hl : lv_has ls 5 [(0, .ref a), (1, .int x), (2, .int y), (3, .int z), (4, .int t)] := hl
  have hnm : meth.name = "<init>" := (name_of_methodNamed hnamed hmeth).1
  have hM := PS.of hM [(a, .inr (9, [.int 0, .int 0, .int 0, .int 0], aNo))] ⟨hO, trivial⟩ (by simp [oad])
  refine lv_aload_n hC.1 hC.2.1 dX8_init_0 rfl (lv_at hl 0 rfl) ?_
  refine W.objInit hC.1 hC.2.1 hC.2.2.2.1 (hC.2.2.2.2 _ q743) (hC.2.2.2.2 _ q104) (hC.2.2.2.2 _ q105) rfl (by rw [hC.2.2.1]; exact hl.1) rfl dX8_init_1 (Nat.le_of_ble_eq_true rfl) (Nat.le_of_ble_eq_true rfl) ?_
  refine W.eq (g2 := F0 m 4 ls []) rfl ?_
  refine lv_aload_n hC.1 hC.2.1 dX8_init_4 rfl (lv_at hl 0 rfl) ?_
  refine lv_iload_n hC.1 hC.2.1 dX8_init_5 rfl (lv_at hl 1 rfl) ?_
  refine p_putFR (L' := [_]) hC hK hM 0 rfl in_X9 tyX9 tyX9_ok nmX9 rfl 0 (by decide) q744 (fun x h => h) rfl hnm rfl rfl rfl (Nat.le_of_ble_eq_true rfl) rfl (u' := .inr (9, [_, _, _, _], _)) rfl rfl dX8_init_6 (fun H locs hM => ?_)
  refine lv_aload_n hC.1 hC.2.1 dX8_init_9 rfl (lv_at hl 0 rfl) ?_
  refine lv_iload_n hC.1 hC.2.1 dX8_init_10 rfl (lv_at hl 2 rfl) ?_
  refine p_putFR (L' := [_]) hC hK hM 0 rfl in_X9 tyX9 tyX9_ok nmX9 rfl 1 (by decide) q745 (fun x h => h) rfl hnm rfl rfl rfl (Nat.le_of_ble_eq_true rfl) rfl (u' := .inr (9, [_, _, _, _], _)) rfl rfl dX8_init_11 (fun H locs hM => ?_)
  refine lv_aload_n hC.1 hC.2.1 dX8_init_14 rfl (lv_at hl 0 rfl) ?_
  refine lv_iload_n hC.1 hC.2.1 dX8_init_15 rfl (lv_at hl 3 rfl) ?_
  refine p_putFR (L' := [_]) hC hK hM 0 rfl in_X9 tyX9 tyX9_ok nmX9 rfl 2 (by decide) q749 (fun x h => h) rfl hnm rfl (by rcases hz with rfl | rfl <;> rfl) (by rcases hz with rfl | rfl <;> rfl) (Nat.le_of_ble_eq_true rfl) rfl (u' := .inr (9, [_, _, _, _], _)) rfl rfl dX8_init_16 (fun H locs hM => ?_)
  refine lv_aload_n hC.1 hC.2.1 dX8_init_19 rfl (lv_at hl 0 rfl) ?_
  refine lv_iload hC.1 hC.2.1 dX8_init_20 (lv_at hl 4 rfl) ?_
  refine p_putFR (L' := [_]) hC hK hM 0 rfl in_X9 tyX9 tyX9_ok nmX9 rfl 3 (by decide) q754 (fun x h => h) rfl hnm rfl rfl rfl (Nat.le_of_ble_eq_true rfl) rfl (u' := .inr (9, [_, _, _, _], _)) rfl rfl dX8_init_22 (fun H locs hM => ?_)
  skip
  refine p_vret hC hr hlocks hM dX8_init_25 ?_
  exact ⟨rfl, rfl⟩

set_option maxHeartbeats 400000 in
set_option maxRecDepth 100000 in
theorem cm_i1_X9 (l : Launch) (κ : Nat → Nat) (O : gO) (a : Nat) (x y z t : Int32) (hO : O a = some (.inr (9, [.int 0, .int 0, .int 0, .int 0], aNo))) (hz : z = 0 ∨ z = 1) : oM l κ yX9_init cX9_init 5 none ({ frames := 2, cells := 0, slots := 0, locals := 36 }) [.ref a, .int x, .int y, .int z, .int t] O (fun rv O1 => O1 = oup O a (mvU 1 (mvN x y z t)) ∧ rv = none) := by
  intro D ac A
  refine o_body (own := RX9) rfl (plainFor_of_name (by decide)) (Nat.le_of_ble_eq_true rfl) ?_
  intro p e s m args below meth c ls hC hr hlocks hK hM hl hnamed hmeth
  have hl : lv_has ls 5 [(0, .ref a), (1, .int x), (2, .int y), (3, .int z), (4, .int t)] := hl
  have hnm : meth.name = "<init>" := (name_of_methodNamed hnamed hmeth).1
  have hM := PS.of hM [(a, .inr (9, [.int 0, .int 0, .int 0, .int 0], aNo))] ⟨hO, trivial⟩ (by simp [oad])
  refine lv_aload_n hC.1 hC.2.1 dX9_init_0 rfl (lv_at hl 0 rfl) ?_
  refine lv_iload_n hC.1 hC.2.1 dX9_init_1 rfl (lv_at hl 1 rfl) ?_
  refine lv_iload_n hC.1 hC.2.1 dX9_init_2 rfl (lv_at hl 2 rfl) ?_
  refine lv_iload_n hC.1 hC.2.1 dX9_init_3 rfl (lv_at hl 3 rfl) ?_
  refine lv_iload hC.1 hC.2.1 dX9_init_4 (lv_at hl 4 rfl) ?_
  refine p_cIv (L' := [_]) hC hK hM (cm_i1_X8 l κ _ a x y z t (hM.at 0 rfl) hz) (cwI 4 hC.2.2.2.2 (lw_meth q742) rfl rfl rfl (hC.2.2.2.2 _ q89) (hC.2.2.2.2 _ q740) (hC.2.2.2.2 _ q741) rfl (by decide +kernel) ⟨(Nat.le_of_ble_eq_true rfl), (Nat.le_of_ble_eq_true rfl)⟩) rfl hl.1 rfl (lv_room (Nat.le_of_ble_eq_true rfl)) dX9_init_6 ⟨(Nat.le_of_ble_eq_true rfl), (Nat.le_of_ble_eq_true rfl)⟩ (oups_set hM.2 (i := 0) rfl) (oad_nd hM.2 (i := 0) rfl rfl) (fun H locs hM => ?_)
  skip
  refine p_vret hC hr hlocks hM dX9_init_9 ?_
  exact ⟨rfl, rfl⟩

set_option maxHeartbeats 400000 in
set_option maxRecDepth 100000 in
theorem cm_i2_X8 (l : Launch) (κ : Nat → Nat) (O : gO) (a : Nat) (x y z t : Int32) (hO : O a = some (.inr (10, [.int 0, .int 0, .int 0, .int 0], aNo))) (hz : z = 0 ∨ z = 1) : oM l κ yX8_init cX8_init 5 none ({ frames := 1, cells := 0, slots := 0, locals := 12 }) [.ref a, .int x, .int y, .int z, .int t] O (fun rv O1 => O1 = oup O a (mvU 2 (mvN x y z t)) ∧ rv = none) := by
  intro D ac A
  refine o_body (own := RX8) rfl (plainFor_of_name (by decide)) (Nat.le_of_ble_eq_true rfl) ?_
  intro p e s m args below meth c ls hC hr hlocks hK hM hl hnamed hmeth
  have hl : lv_has ls 5 [(0, .ref a), (1, .int x), (2, .int y), (3, .int z), (4, .int t)] := hl
  have hnm : meth.name = "<init>" := (name_of_methodNamed hnamed hmeth).1
  have hM := PS.of hM [(a, .inr (10, [.int 0, .int 0, .int 0, .int 0], aNo))] ⟨hO, trivial⟩ (by simp [oad])
  refine lv_aload_n hC.1 hC.2.1 dX8_init_0 rfl (lv_at hl 0 rfl) ?_
  refine W.objInit hC.1 hC.2.1 hC.2.2.2.1 (hC.2.2.2.2 _ q743) (hC.2.2.2.2 _ q104) (hC.2.2.2.2 _ q105) rfl (by rw [hC.2.2.1]; exact hl.1) rfl dX8_init_1 (Nat.le_of_ble_eq_true rfl) (Nat.le_of_ble_eq_true rfl) ?_
  refine W.eq (g2 := F0 m 4 ls []) rfl ?_
  refine lv_aload_n hC.1 hC.2.1 dX8_init_4 rfl (lv_at hl 0 rfl) ?_
  refine lv_iload_n hC.1 hC.2.1 dX8_init_5 rfl (lv_at hl 1 rfl) ?_
  refine p_putFR (L' := [_]) hC hK hM 0 rfl in_X10 tyX10 tyX10_ok nmX10 rfl 0 (by decide) q744 (fun x h => h) rfl hnm rfl rfl rfl (Nat.le_of_ble_eq_true rfl) rfl (u' := .inr (10, [_, _, _, _], _)) rfl rfl dX8_init_6 (fun H locs hM => ?_)
  refine lv_aload_n hC.1 hC.2.1 dX8_init_9 rfl (lv_at hl 0 rfl) ?_
  refine lv_iload_n hC.1 hC.2.1 dX8_init_10 rfl (lv_at hl 2 rfl) ?_
  refine p_putFR (L' := [_]) hC hK hM 0 rfl in_X10 tyX10 tyX10_ok nmX10 rfl 1 (by decide) q745 (fun x h => h) rfl hnm rfl rfl rfl (Nat.le_of_ble_eq_true rfl) rfl (u' := .inr (10, [_, _, _, _], _)) rfl rfl dX8_init_11 (fun H locs hM => ?_)
  refine lv_aload_n hC.1 hC.2.1 dX8_init_14 rfl (lv_at hl 0 rfl) ?_
  refine lv_iload_n hC.1 hC.2.1 dX8_init_15 rfl (lv_at hl 3 rfl) ?_
  refine p_putFR (L' := [_]) hC hK hM 0 rfl in_X10 tyX10 tyX10_ok nmX10 rfl 2 (by decide) q749 (fun x h => h) rfl hnm rfl (by rcases hz with rfl | rfl <;> rfl) (by rcases hz with rfl | rfl <;> rfl) (Nat.le_of_ble_eq_true rfl) rfl (u' := .inr (10, [_, _, _, _], _)) rfl rfl dX8_init_16 (fun H locs hM => ?_)
  refine lv_aload_n hC.1 hC.2.1 dX8_init_19 rfl (lv_at hl 0 rfl) ?_
  refine lv_iload hC.1 hC.2.1 dX8_init_20 (lv_at hl 4 rfl) ?_
  refine p_putFR (L' := [_]) hC hK hM 0 rfl in_X10 tyX10 tyX10_ok nmX10 rfl 3 (by decide) q754 (fun x h => h) rfl hnm rfl rfl rfl (Nat.le_of_ble_eq_true rfl) rfl (u' := .inr (10, [_, _, _, _], _)) rfl rfl dX8_init_22 (fun H locs hM => ?_)
  skip
  refine p_vret hC hr hlocks hM dX8_init_25 ?_
  exact ⟨rfl, rfl⟩

set_option maxHeartbeats 400000 in
set_option maxRecDepth 100000 in
theorem cm_i2_X9 (l : Launch) (κ : Nat → Nat) (O : gO) (a : Nat) (x y z t : Int32) (hO : O a = some (.inr (10, [.int 0, .int 0, .int 0, .int 0], aNo))) (hz : z = 0 ∨ z = 1) : oM l κ yX9_init cX9_init 5 none ({ frames := 2, cells := 0, slots := 0, locals := 36 }) [.ref a, .int x, .int y, .int z, .int t] O (fun rv O1 => O1 = oup O a (mvU 2 (mvN x y z t)) ∧ rv = none) := by
  intro D ac A
  refine o_body (own := RX9) rfl (plainFor_of_name (by decide)) (Nat.le_of_ble_eq_true rfl) ?_
  intro p e s m args below meth c ls hC hr hlocks hK hM hl hnamed hmeth
  have hl : lv_has ls 5 [(0, .ref a), (1, .int x), (2, .int y), (3, .int z), (4, .int t)] := hl
  have hnm : meth.name = "<init>" := (name_of_methodNamed hnamed hmeth).1
  have hM := PS.of hM [(a, .inr (10, [.int 0, .int 0, .int 0, .int 0], aNo))] ⟨hO, trivial⟩ (by simp [oad])
  refine lv_aload_n hC.1 hC.2.1 dX9_init_0 rfl (lv_at hl 0 rfl) ?_
  refine lv_iload_n hC.1 hC.2.1 dX9_init_1 rfl (lv_at hl 1 rfl) ?_
  refine lv_iload_n hC.1 hC.2.1 dX9_init_2 rfl (lv_at hl 2 rfl) ?_
  refine lv_iload_n hC.1 hC.2.1 dX9_init_3 rfl (lv_at hl 3 rfl) ?_
  refine lv_iload hC.1 hC.2.1 dX9_init_4 (lv_at hl 4 rfl) ?_
  refine p_cIv (L' := [_]) hC hK hM (cm_i2_X8 l κ _ a x y z t (hM.at 0 rfl) hz) (cwI 4 hC.2.2.2.2 (lw_meth q742) rfl rfl rfl (hC.2.2.2.2 _ q89) (hC.2.2.2.2 _ q740) (hC.2.2.2.2 _ q741) rfl (by decide +kernel) ⟨(Nat.le_of_ble_eq_true rfl), (Nat.le_of_ble_eq_true rfl)⟩) rfl hl.1 rfl (lv_room (Nat.le_of_ble_eq_true rfl)) dX9_init_6 ⟨(Nat.le_of_ble_eq_true rfl), (Nat.le_of_ble_eq_true rfl)⟩ (oups_set hM.2 (i := 0) rfl) (oad_nd hM.2 (i := 0) rfl rfl) (fun H locs hM => ?_)
  skip
  refine p_vret hC hr hlocks hM dX9_init_9 ?_
  exact ⟨rfl, rfl⟩

set_option maxHeartbeats 400000 in
set_option maxRecDepth 100000 in
theorem cm_i2_X10 (l : Launch) (κ : Nat → Nat) (O : gO) (a : Nat) (x y z t : Int32) (hO : O a = some (.inr (10, [.int 0, .int 0, .int 0, .int 0], aNo))) (hz : z = 0 ∨ z = 1) : oM l κ yX10_init cX10_init 5 none ({ frames := 3, cells := 0, slots := 0, locals := 60 }) [.ref a, .int x, .int y, .int z, .int t] O (fun rv O1 => O1 = oup O a (mvU 2 (mvN x y z t)) ∧ rv = none) := by
  intro D ac A
  refine o_body (own := RX10) rfl (plainFor_of_name (by decide)) (Nat.le_of_ble_eq_true rfl) ?_
  intro p e s m args below meth c ls hC hr hlocks hK hM hl hnamed hmeth
  have hl : lv_has ls 5 [(0, .ref a), (1, .int x), (2, .int y), (3, .int z), (4, .int t)] := hl
  have hnm : meth.name = "<init>" := (name_of_methodNamed hnamed hmeth).1
  have hM := PS.of hM [(a, .inr (10, [.int 0, .int 0, .int 0, .int 0], aNo))] ⟨hO, trivial⟩ (by simp [oad])
  refine lv_aload_n hC.1 hC.2.1 dX10_init_0 rfl (lv_at hl 0 rfl) ?_
  refine lv_iload_n hC.1 hC.2.1 dX10_init_1 rfl (lv_at hl 1 rfl) ?_
  refine lv_iload_n hC.1 hC.2.1 dX10_init_2 rfl (lv_at hl 2 rfl) ?_
  refine lv_iload_n hC.1 hC.2.1 dX10_init_3 rfl (lv_at hl 3 rfl) ?_
  refine lv_iload hC.1 hC.2.1 dX10_init_4 (lv_at hl 4 rfl) ?_
  refine p_cIv (L' := [_]) hC hK hM (cm_i2_X9 l κ _ a x y z t (hM.at 0 rfl) hz) (cwI 4 hC.2.2.2.2 (lw_meth q739) rfl rfl rfl (hC.2.2.2.2 _ q90) (hC.2.2.2.2 _ q769) (hC.2.2.2.2 _ q738) rfl (by decide +kernel) ⟨(Nat.le_of_ble_eq_true rfl), (Nat.le_of_ble_eq_true rfl)⟩) rfl hl.1 rfl (lv_room (Nat.le_of_ble_eq_true rfl)) dX10_init_6 ⟨(Nat.le_of_ble_eq_true rfl), (Nat.le_of_ble_eq_true rfl)⟩ (oups_set hM.2 (i := 0) rfl) (oad_nd hM.2 (i := 0) rfl rfl) (fun H locs hM => ?_)
  skip
  refine p_vret hC hr hlocks hM dX10_init_9 ?_
  exact ⟨rfl, rfl⟩

set_option maxHeartbeats 400000 in
set_option maxRecDepth 100000 in
theorem cm_i3_X8 (l : Launch) (κ : Nat → Nat) (O : gO) (a : Nat) (x y z t : Int32) (hO : O a = some (.inr (11, [.int 0, .int 0, .int 0, .int 0], aNo))) (hz : z = 0 ∨ z = 1) : oM l κ yX8_init cX8_init 5 none ({ frames := 1, cells := 0, slots := 0, locals := 12 }) [.ref a, .int x, .int y, .int z, .int t] O (fun rv O1 => O1 = oup O a (mvU 3 (mvN x y z t)) ∧ rv = none) := by
  intro D ac A
  refine o_body (own := RX8) rfl (plainFor_of_name (by decide)) (Nat.le_of_ble_eq_true rfl) ?_
  intro p e s m args below meth c ls hC hr hlocks hK hM hl hnamed hmeth
  have hl : lv_has ls 5 [(0, .ref a), (1, .int x), (2, .int y), (3, .int z), (4, .int t)] := hl
  have hnm : meth.name = "<init>" := (name_of_methodNamed hnamed hmeth).1
  have hM := PS.of hM [(a, .inr (11, [.int 0, .int 0, .int 0, .int 0], aNo))] ⟨hO, trivial⟩ (by simp [oad])
  refine lv_aload_n hC.1 hC.2.1 dX8_init_0 rfl (lv_at hl 0 rfl) ?_
  refine W.objInit hC.1 hC.2.1 hC.2.2.2.1 (hC.2.2.2.2 _ q743) (hC.2.2.2.2 _ q104) (hC.2.2.2.2 _ q105) rfl (by rw [hC.2.2.1]; exact hl.1) rfl dX8_init_1 (Nat.le_of_ble_eq_true rfl) (Nat.le_of_ble_eq_true rfl) ?_
  refine W.eq (g2 := F0 m 4 ls []) rfl ?_
  refine lv_aload_n hC.1 hC.2.1 dX8_init_4 rfl (lv_at hl 0 rfl) ?_
  refine lv_iload_n hC.1 hC.2.1 dX8_init_5 rfl (lv_at hl 1 rfl) ?_
  refine p_putFR (L' := [_]) hC hK hM 0 rfl in_X11 tyX11 tyX11_ok nmX11 rfl 0 (by decide) q744 (fun x h => h) rfl hnm rfl rfl rfl (Nat.le_of_ble_eq_true rfl) rfl (u' := .inr (11, [_, _, _, _], _)) rfl rfl dX8_init_6 (fun H locs hM => ?_)
  refine lv_aload_n hC.1 hC.2.1 dX8_init_9 rfl (lv_at hl 0 rfl) ?_
  refine lv_iload_n hC.1 hC.2.1 dX8_init_10 rfl (lv_at hl 2 rfl) ?_
  refine p_putFR (L' := [_]) hC hK hM 0 rfl in_X11 tyX11 tyX11_ok nmX11 rfl 1 (by decide) q745 (fun x h => h) rfl hnm rfl rfl rfl (Nat.le_of_ble_eq_true rfl) rfl (u' := .inr (11, [_, _, _, _], _)) rfl rfl dX8_init_11 (fun H locs hM => ?_)
  refine lv_aload_n hC.1 hC.2.1 dX8_init_14 rfl (lv_at hl 0 rfl) ?_
  refine lv_iload_n hC.1 hC.2.1 dX8_init_15 rfl (lv_at hl 3 rfl) ?_
  refine p_putFR (L' := [_]) hC hK hM 0 rfl in_X11 tyX11 tyX11_ok nmX11 rfl 2 (by decide) q749 (fun x h => h) rfl hnm rfl (by rcases hz with rfl | rfl <;> rfl) (by rcases hz with rfl | rfl <;> rfl) (Nat.le_of_ble_eq_true rfl) rfl (u' := .inr (11, [_, _, _, _], _)) rfl rfl dX8_init_16 (fun H locs hM => ?_)
  refine lv_aload_n hC.1 hC.2.1 dX8_init_19 rfl (lv_at hl 0 rfl) ?_
  refine lv_iload hC.1 hC.2.1 dX8_init_20 (lv_at hl 4 rfl) ?_
  refine p_putFR (L' := [_]) hC hK hM 0 rfl in_X11 tyX11 tyX11_ok nmX11 rfl 3 (by decide) q754 (fun x h => h) rfl hnm rfl rfl rfl (Nat.le_of_ble_eq_true rfl) rfl (u' := .inr (11, [_, _, _, _], _)) rfl rfl dX8_init_22 (fun H locs hM => ?_)
  skip
  refine p_vret hC hr hlocks hM dX8_init_25 ?_
  exact ⟨rfl, rfl⟩

set_option maxHeartbeats 400000 in
set_option maxRecDepth 100000 in
theorem cm_i3_X9 (l : Launch) (κ : Nat → Nat) (O : gO) (a : Nat) (x y z t : Int32) (hO : O a = some (.inr (11, [.int 0, .int 0, .int 0, .int 0], aNo))) (hz : z = 0 ∨ z = 1) : oM l κ yX9_init cX9_init 5 none ({ frames := 2, cells := 0, slots := 0, locals := 36 }) [.ref a, .int x, .int y, .int z, .int t] O (fun rv O1 => O1 = oup O a (mvU 3 (mvN x y z t)) ∧ rv = none) := by
  intro D ac A
  refine o_body (own := RX9) rfl (plainFor_of_name (by decide)) (Nat.le_of_ble_eq_true rfl) ?_
  intro p e s m args below meth c ls hC hr hlocks hK hM hl hnamed hmeth
  have hl : lv_has ls 5 [(0, .ref a), (1, .int x), (2, .int y), (3, .int z), (4, .int t)] := hl
  have hnm : meth.name = "<init>" := (name_of_methodNamed hnamed hmeth).1
  have hM := PS.of hM [(a, .inr (11, [.int 0, .int 0, .int 0, .int 0], aNo))] ⟨hO, trivial⟩ (by simp [oad])
  refine lv_aload_n hC.1 hC.2.1 dX9_init_0 rfl (lv_at hl 0 rfl) ?_
  refine lv_iload_n hC.1 hC.2.1 dX9_init_1 rfl (lv_at hl 1 rfl) ?_
  refine lv_iload_n hC.1 hC.2.1 dX9_init_2 rfl (lv_at hl 2 rfl) ?_
  refine lv_iload_n hC.1 hC.2.1 dX9_init_3 rfl (lv_at hl 3 rfl) ?_
  refine lv_iload hC.1 hC.2.1 dX9_init_4 (lv_at hl 4 rfl) ?_
  refine p_cIv (L' := [_]) hC hK hM (cm_i3_X8 l κ _ a x y z t (hM.at 0 rfl) hz) (cwI 4 hC.2.2.2.2 (lw_meth q742) rfl rfl rfl (hC.2.2.2.2 _ q89) (hC.2.2.2.2 _ q740) (hC.2.2.2.2 _ q741) rfl (by decide +kernel) ⟨(Nat.le_of_ble_eq_true rfl), (Nat.le_of_ble_eq_true rfl)⟩) rfl hl.1 rfl (lv_room (Nat.le_of_ble_eq_true rfl)) dX9_init_6 ⟨(Nat.le_of_ble_eq_true rfl), (Nat.le_of_ble_eq_true rfl)⟩ (oups_set hM.2 (i := 0) rfl) (oad_nd hM.2 (i := 0) rfl rfl) (fun H locs hM => ?_)
  skip
  refine p_vret hC hr hlocks hM dX9_init_9 ?_
  exact ⟨rfl, rfl⟩

set_option maxHeartbeats 400000 in
set_option maxRecDepth 100000 in
theorem cm_i3_X11 (l : Launch) (κ : Nat → Nat) (O : gO) (a : Nat) (x y z t : Int32) (hO : O a = some (.inr (11, [.int 0, .int 0, .int 0, .int 0], aNo))) (hz : z = 0 ∨ z = 1) : oM l κ yX11_init cX11_init 5 none ({ frames := 3, cells := 0, slots := 0, locals := 60 }) [.ref a, .int x, .int y, .int z, .int t] O (fun rv O1 => O1 = oup O a (mvU 3 (mvN x y z t)) ∧ rv = none) := by
  intro D ac A
  refine o_body (own := RX11) rfl (plainFor_of_name (by decide)) (Nat.le_of_ble_eq_true rfl) ?_
  intro p e s m args below meth c ls hC hr hlocks hK hM hl hnamed hmeth
  have hl : lv_has ls 5 [(0, .ref a), (1, .int x), (2, .int y), (3, .int z), (4, .int t)] := hl
  have hnm : meth.name = "<init>" := (name_of_methodNamed hnamed hmeth).1
  have hM := PS.of hM [(a, .inr (11, [.int 0, .int 0, .int 0, .int 0], aNo))] ⟨hO, trivial⟩ (by simp [oad])
  refine lv_aload_n hC.1 hC.2.1 dX11_init_0 rfl (lv_at hl 0 rfl) ?_
  refine lv_iload_n hC.1 hC.2.1 dX11_init_1 rfl (lv_at hl 1 rfl) ?_
  refine lv_iload_n hC.1 hC.2.1 dX11_init_2 rfl (lv_at hl 2 rfl) ?_
  refine lv_iload_n hC.1 hC.2.1 dX11_init_3 rfl (lv_at hl 3 rfl) ?_
  refine lv_iload hC.1 hC.2.1 dX11_init_4 (lv_at hl 4 rfl) ?_
  refine p_cIv (L' := [_]) hC hK hM (cm_i3_X9 l κ _ a x y z t (hM.at 0 rfl) hz) (cwI 4 hC.2.2.2.2 (lw_meth q739) rfl rfl rfl (hC.2.2.2.2 _ q90) (hC.2.2.2.2 _ q780) (hC.2.2.2.2 _ q738) rfl (by decide +kernel) ⟨(Nat.le_of_ble_eq_true rfl), (Nat.le_of_ble_eq_true rfl)⟩) rfl hl.1 rfl (lv_room (Nat.le_of_ble_eq_true rfl)) dX11_init_6 ⟨(Nat.le_of_ble_eq_true rfl), (Nat.le_of_ble_eq_true rfl)⟩ (oups_set hM.2 (i := 0) rfl) (oad_nd hM.2 (i := 0) rfl rfl) (fun H locs hM => ?_)
  skip
  refine p_vret hC hr hlocks hM dX11_init_9 ?_
  exact ⟨rfl, rfl⟩

set_option maxHeartbeats 400000 in
set_option maxRecDepth 100000 in
theorem cm_i4_X8 (l : Launch) (κ : Nat → Nat) (O : gO) (a : Nat) (x y z t : Int32) (hO : O a = some (.inr (12, [.int 0, .int 0, .int 0, .int 0], aNo))) (hz : z = 0 ∨ z = 1) : oM l κ yX8_init cX8_init 5 none ({ frames := 1, cells := 0, slots := 0, locals := 12 }) [.ref a, .int x, .int y, .int z, .int t] O (fun rv O1 => O1 = oup O a (mvU 4 (mvN x y z t)) ∧ rv = none) := by
  intro D ac A
  refine o_body (own := RX8) rfl (plainFor_of_name (by decide)) (Nat.le_of_ble_eq_true rfl) ?_
  intro p e s m args below meth c ls hC hr hlocks hK hM hl hnamed hmeth
  have hl : lv_has ls 5 [(0, .ref a), (1, .int x), (2, .int y), (3, .int z), (4, .int t)] := hl
  have hnm : meth.name = "<init>" := (name_of_methodNamed hnamed hmeth).1
  have hM := PS.of hM [(a, .inr (12, [.int 0, .int 0, .int 0, .int 0], aNo))] ⟨hO, trivial⟩ (by simp [oad])
  refine lv_aload_n hC.1 hC.2.1 dX8_init_0 rfl (lv_at hl 0 rfl) ?_
  refine W.objInit hC.1 hC.2.1 hC.2.2.2.1 (hC.2.2.2.2 _ q743) (hC.2.2.2.2 _ q104) (hC.2.2.2.2 _ q105) rfl (by rw [hC.2.2.1]; exact hl.1) rfl dX8_init_1 (Nat.le_of_ble_eq_true rfl) (Nat.le_of_ble_eq_true rfl) ?_
  refine W.eq (g2 := F0 m 4 ls []) rfl ?_
  refine lv_aload_n hC.1 hC.2.1 dX8_init_4 rfl (lv_at hl 0 rfl) ?_
  refine lv_iload_n hC.1 hC.2.1 dX8_init_5 rfl (lv_at hl 1 rfl) ?_
  refine p_putFR (L' := [_]) hC hK hM 0 rfl in_X12 tyX12 tyX12_ok nmX12 rfl 0 (by decide) q744 (fun x h => h) rfl hnm rfl rfl rfl (Nat.le_of_ble_eq_true rfl) rfl (u' := .inr (12, [_, _, _, _], _)) rfl rfl dX8_init_6 (fun H locs hM => ?_)
  refine lv_aload_n hC.1 hC.2.1 dX8_init_9 rfl (lv_at hl 0 rfl) ?_
  refine lv_iload_n hC.1 hC.2.1 dX8_init_10 rfl (lv_at hl 2 rfl) ?_
  refine p_putFR (L' := [_]) hC hK hM 0 rfl in_X12 tyX12 tyX12_ok nmX12 rfl 1 (by decide) q745 (fun x h => h) rfl hnm rfl rfl rfl (Nat.le_of_ble_eq_true rfl) rfl (u' := .inr (12, [_, _, _, _], _)) rfl rfl dX8_init_11 (fun H locs hM => ?_)
  refine lv_aload_n hC.1 hC.2.1 dX8_init_14 rfl (lv_at hl 0 rfl) ?_
  refine lv_iload_n hC.1 hC.2.1 dX8_init_15 rfl (lv_at hl 3 rfl) ?_
  refine p_putFR (L' := [_]) hC hK hM 0 rfl in_X12 tyX12 tyX12_ok nmX12 rfl 2 (by decide) q749 (fun x h => h) rfl hnm rfl (by rcases hz with rfl | rfl <;> rfl) (by rcases hz with rfl | rfl <;> rfl) (Nat.le_of_ble_eq_true rfl) rfl (u' := .inr (12, [_, _, _, _], _)) rfl rfl dX8_init_16 (fun H locs hM => ?_)
  refine lv_aload_n hC.1 hC.2.1 dX8_init_19 rfl (lv_at hl 0 rfl) ?_
  refine lv_iload hC.1 hC.2.1 dX8_init_20 (lv_at hl 4 rfl) ?_
  refine p_putFR (L' := [_]) hC hK hM 0 rfl in_X12 tyX12 tyX12_ok nmX12 rfl 3 (by decide) q754 (fun x h => h) rfl hnm rfl rfl rfl (Nat.le_of_ble_eq_true rfl) rfl (u' := .inr (12, [_, _, _, _], _)) rfl rfl dX8_init_22 (fun H locs hM => ?_)
  skip
  refine p_vret hC hr hlocks hM dX8_init_25 ?_
  exact ⟨rfl, rfl⟩

set_option maxHeartbeats 400000 in
set_option maxRecDepth 100000 in
theorem cm_i4_X12 (l : Launch) (κ : Nat → Nat) (O : gO) (a : Nat) (x y z t : Int32) (hO : O a = some (.inr (12, [.int 0, .int 0, .int 0, .int 0], aNo))) (hz : z = 0 ∨ z = 1) : oM l κ yX12_init cX12_init 5 none ({ frames := 2, cells := 0, slots := 0, locals := 36 }) [.ref a, .int x, .int y, .int z, .int t] O (fun rv O1 => O1 = oup O a (mvU 4 (mvN x y z t)) ∧ rv = none) := by
  intro D ac A
  refine o_body (own := RX12) rfl (plainFor_of_name (by decide)) (Nat.le_of_ble_eq_true rfl) ?_
  intro p e s m args below meth c ls hC hr hlocks hK hM hl hnamed hmeth
  have hl : lv_has ls 5 [(0, .ref a), (1, .int x), (2, .int y), (3, .int z), (4, .int t)] := hl
  have hnm : meth.name = "<init>" := (name_of_methodNamed hnamed hmeth).1
  have hM := PS.of hM [(a, .inr (12, [.int 0, .int 0, .int 0, .int 0], aNo))] ⟨hO, trivial⟩ (by simp [oad])
  refine lv_aload_n hC.1 hC.2.1 dX12_init_0 rfl (lv_at hl 0 rfl) ?_
  refine lv_iload_n hC.1 hC.2.1 dX12_init_1 rfl (lv_at hl 1 rfl) ?_
  refine lv_iload_n hC.1 hC.2.1 dX12_init_2 rfl (lv_at hl 2 rfl) ?_
  refine lv_iload_n hC.1 hC.2.1 dX12_init_3 rfl (lv_at hl 3 rfl) ?_
  refine lv_iload hC.1 hC.2.1 dX12_init_4 (lv_at hl 4 rfl) ?_
  refine p_cIv (L' := [_]) hC hK hM (cm_i4_X8 l κ _ a x y z t (hM.at 0 rfl) hz) (cwI 4 hC.2.2.2.2 (lw_meth q742) rfl rfl rfl (hC.2.2.2.2 _ q89) (hC.2.2.2.2 _ q791) (hC.2.2.2.2 _ q741) rfl (by decide +kernel) ⟨(Nat.le_of_ble_eq_true rfl), (Nat.le_of_ble_eq_true rfl)⟩) rfl hl.1 rfl (lv_room (Nat.le_of_ble_eq_true rfl)) dX12_init_6 ⟨(Nat.le_of_ble_eq_true rfl), (Nat.le_of_ble_eq_true rfl)⟩ (oups_set hM.2 (i := 0) rfl) (oad_nd hM.2 (i := 0) rfl rfl) (fun H locs hM => ?_)
  skip
  refine p_vret hC hr hlocks hM dX12_init_9 ?_
  exact ⟨rfl, rfl⟩

set_option maxHeartbeats 400000 in
set_option maxRecDepth 100000 in
theorem cm_i5_X8 (l : Launch) (κ : Nat → Nat) (O : gO) (a : Nat) (x y z t : Int32) (hO : O a = some (.inr (13, [.int 0, .int 0, .int 0, .int 0], aNo))) (hz : z = 0 ∨ z = 1) : oM l κ yX8_init cX8_init 5 none ({ frames := 1, cells := 0, slots := 0, locals := 12 }) [.ref a, .int x, .int y, .int z, .int t] O (fun rv O1 => O1 = oup O a (mvU 5 (mvN x y z t)) ∧ rv = none) := by
  intro D ac A
  refine o_body (own := RX8) rfl (plainFor_of_name (by decide)) (Nat.le_of_ble_eq_true rfl) ?_
  intro p e s m args below meth c ls hC hr hlocks hK hM hl hnamed hmeth
  have hl : lv_has ls 5 [(0, .ref a), (1, .int x), (2, .int y), (3, .int z), (4, .int t)] := hl
  have hnm : meth.name = "<init>" := (name_of_methodNamed hnamed hmeth).1
  have hM := PS.of hM [(a, .inr (13, [.int 0, .int 0, .int 0, .int 0], aNo))] ⟨hO, trivial⟩ (by simp [oad])
  refine lv_aload_n hC.1 hC.2.1 dX8_init_0 rfl (lv_at hl 0 rfl) ?_
  refine W.objInit hC.1 hC.2.1 hC.2.2.2.1 (hC.2.2.2.2 _ q743) (hC.2.2.2.2 _ q104) (hC.2.2.2.2 _ q105) rfl (by rw [hC.2.2.1]; exact hl.1) rfl dX8_init_1 (Nat.le_of_ble_eq_true rfl) (Nat.le_of_ble_eq_true rfl) ?_
  refine W.eq (g2 := F0 m 4 ls []) rfl ?_
  refine lv_aload_n hC.1 hC.2.1 dX8_init_4 rfl (lv_at hl 0 rfl) ?_
  refine lv_iload_n hC.1 hC.2.1 dX8_init_5 rfl (lv_at hl 1 rfl) ?_
  refine p_putFR (L' := [_]) hC hK hM 0 rfl in_X13 tyX13 tyX13_ok nmX13 rfl 0 (by decide) q744 (fun x h => h) rfl hnm rfl rfl rfl (Nat.le_of_ble_eq_true rfl) rfl (u' := .inr (13, [_, _, _, _], _)) rfl rfl dX8_init_6 (fun H locs hM => ?_)
  refine lv_aload_n hC.1 hC.2.1 dX8_init_9 rfl (lv_at hl 0 rfl) ?_
  refine lv_iload_n hC.1 hC.2.1 dX8_init_10 rfl (lv_at hl 2 rfl) ?_
  refine p_putFR (L' := [_]) hC hK hM 0 rfl in_X13 tyX13 tyX13_ok nmX13 rfl 1 (by decide) q745 (fun x h => h) rfl hnm rfl rfl rfl (Nat.le_of_ble_eq_true rfl) rfl (u' := .inr (13, [_, _, _, _], _)) rfl rfl dX8_init_11 (fun H locs hM => ?_)
  refine lv_aload_n hC.1 hC.2.1 dX8_init_14 rfl (lv_at hl 0 rfl) ?_
  refine lv_iload_n hC.1 hC.2.1 dX8_init_15 rfl (lv_at hl 3 rfl) ?_
  refine p_putFR (L' := [_]) hC hK hM 0 rfl in_X13 tyX13 tyX13_ok nmX13 rfl 2 (by decide) q749 (fun x h => h) rfl hnm rfl (by rcases hz with rfl | rfl <;> rfl) (by rcases hz with rfl | rfl <;> rfl) (Nat.le_of_ble_eq_true rfl) rfl (u' := .inr (13, [_, _, _, _], _)) rfl rfl dX8_init_16 (fun H locs hM => ?_)
  refine lv_aload_n hC.1 hC.2.1 dX8_init_19 rfl (lv_at hl 0 rfl) ?_
  refine lv_iload hC.1 hC.2.1 dX8_init_20 (lv_at hl 4 rfl) ?_
  refine p_putFR (L' := [_]) hC hK hM 0 rfl in_X13 tyX13 tyX13_ok nmX13 rfl 3 (by decide) q754 (fun x h => h) rfl hnm rfl rfl rfl (Nat.le_of_ble_eq_true rfl) rfl (u' := .inr (13, [_, _, _, _], _)) rfl rfl dX8_init_22 (fun H locs hM => ?_)
  skip
  refine p_vret hC hr hlocks hM dX8_init_25 ?_
  exact ⟨rfl, rfl⟩

set_option maxHeartbeats 400000 in
set_option maxRecDepth 100000 in
theorem cm_i5_X12 (l : Launch) (κ : Nat → Nat) (O : gO) (a : Nat) (x y z t : Int32) (hO : O a = some (.inr (13, [.int 0, .int 0, .int 0, .int 0], aNo))) (hz : z = 0 ∨ z = 1) : oM l κ yX12_init cX12_init 5 none ({ frames := 2, cells := 0, slots := 0, locals := 36 }) [.ref a, .int x, .int y, .int z, .int t] O (fun rv O1 => O1 = oup O a (mvU 5 (mvN x y z t)) ∧ rv = none) := by
  intro D ac A
  refine o_body (own := RX12) rfl (plainFor_of_name (by decide)) (Nat.le_of_ble_eq_true rfl) ?_
  intro p e s m args below meth c ls hC hr hlocks hK hM hl hnamed hmeth
  have hl : lv_has ls 5 [(0, .ref a), (1, .int x), (2, .int y), (3, .int z), (4, .int t)] := hl
  have hnm : meth.name = "<init>" := (name_of_methodNamed hnamed hmeth).1
  have hM := PS.of hM [(a, .inr (13, [.int 0, .int 0, .int 0, .int 0], aNo))] ⟨hO, trivial⟩ (by simp [oad])
  refine lv_aload_n hC.1 hC.2.1 dX12_init_0 rfl (lv_at hl 0 rfl) ?_
  refine lv_iload_n hC.1 hC.2.1 dX12_init_1 rfl (lv_at hl 1 rfl) ?_
  refine lv_iload_n hC.1 hC.2.1 dX12_init_2 rfl (lv_at hl 2 rfl) ?_
  refine lv_iload_n hC.1 hC.2.1 dX12_init_3 rfl (lv_at hl 3 rfl) ?_
  refine lv_iload hC.1 hC.2.1 dX12_init_4 (lv_at hl 4 rfl) ?_
  refine p_cIv (L' := [_]) hC hK hM (cm_i5_X8 l κ _ a x y z t (hM.at 0 rfl) hz) (cwI 4 hC.2.2.2.2 (lw_meth q742) rfl rfl rfl (hC.2.2.2.2 _ q89) (hC.2.2.2.2 _ q791) (hC.2.2.2.2 _ q741) rfl (by decide +kernel) ⟨(Nat.le_of_ble_eq_true rfl), (Nat.le_of_ble_eq_true rfl)⟩) rfl hl.1 rfl (lv_room (Nat.le_of_ble_eq_true rfl)) dX12_init_6 ⟨(Nat.le_of_ble_eq_true rfl), (Nat.le_of_ble_eq_true rfl)⟩ (oups_set hM.2 (i := 0) rfl) (oad_nd hM.2 (i := 0) rfl rfl) (fun H locs hM => ?_)
  skip
  refine p_vret hC hr hlocks hM dX12_init_9 ?_
  exact ⟨rfl, rfl⟩

set_option maxHeartbeats 400000 in
set_option maxRecDepth 100000 in
theorem cm_i5_X13 (l : Launch) (κ : Nat → Nat) (O : gO) (a : Nat) (x y z t : Int32) (hO : O a = some (.inr (13, [.int 0, .int 0, .int 0, .int 0], aNo))) (hz : z = 0 ∨ z = 1) : oM l κ yX13_init cX13_init 5 none ({ frames := 3, cells := 0, slots := 0, locals := 60 }) [.ref a, .int x, .int y, .int z, .int t] O (fun rv O1 => O1 = oup O a (mvU 5 (mvN x y z t)) ∧ rv = none) := by
  intro D ac A
  refine o_body (own := RX13) rfl (plainFor_of_name (by decide)) (Nat.le_of_ble_eq_true rfl) ?_
  intro p e s m args below meth c ls hC hr hlocks hK hM hl hnamed hmeth
  have hl : lv_has ls 5 [(0, .ref a), (1, .int x), (2, .int y), (3, .int z), (4, .int t)] := hl
  have hnm : meth.name = "<init>" := (name_of_methodNamed hnamed hmeth).1
  have hM := PS.of hM [(a, .inr (13, [.int 0, .int 0, .int 0, .int 0], aNo))] ⟨hO, trivial⟩ (by simp [oad])
  refine lv_aload_n hC.1 hC.2.1 dX13_init_0 rfl (lv_at hl 0 rfl) ?_
  refine lv_iload_n hC.1 hC.2.1 dX13_init_1 rfl (lv_at hl 1 rfl) ?_
  refine lv_iload_n hC.1 hC.2.1 dX13_init_2 rfl (lv_at hl 2 rfl) ?_
  refine lv_iload_n hC.1 hC.2.1 dX13_init_3 rfl (lv_at hl 3 rfl) ?_
  refine lv_iload hC.1 hC.2.1 dX13_init_4 (lv_at hl 4 rfl) ?_
  refine p_cIv (L' := [_]) hC hK hM (cm_i5_X12 l κ _ a x y z t (hM.at 0 rfl) hz) (cwI 4 hC.2.2.2.2 (lw_meth q790) rfl rfl rfl (hC.2.2.2.2 _ q93) (hC.2.2.2.2 _ q802) (hC.2.2.2.2 _ q789) rfl (by decide +kernel) ⟨(Nat.le_of_ble_eq_true rfl), (Nat.le_of_ble_eq_true rfl)⟩) rfl hl.1 rfl (lv_room (Nat.le_of_ble_eq_true rfl)) dX13_init_6 ⟨(Nat.le_of_ble_eq_true rfl), (Nat.le_of_ble_eq_true rfl)⟩ (oups_set hM.2 (i := 0) rfl) (oad_nd hM.2 (i := 0) rfl rfl) (fun H locs hM => ?_)
  skip
  refine p_vret hC hr hlocks hM dX13_init_9 ?_
  exact ⟨rfl, rfl⟩

set_option maxHeartbeats 400000 in
set_option maxRecDepth 100000 in
theorem cn_moverBy1 (l : Launch) (κ : Nat → Nat) (O : gO) (x y z t : Int32) (hz : z = 0 ∨ z = 1) : oM l κ yX0_moverBy cX0_moverBy 5 (some (.object "NightStones$Mover")) ({ frames := 4, cells := 1, slots := 4, locals := 84 }) [.int (nI 0), .int x, .int y, .int z, .int t] O (fun rv O1 => ∃ q, rv = some (.ref q) ∧ O q = none ∧ O1 = oup O q (mvU 1 (mvN x y z t))) := by
  intro D ac A
  refine o_body (own := RX0) rfl (plainFor_of_name (by decide)) (Nat.le_of_ble_eq_true rfl) ?_
  intro p e s m args below meth c ls hC hr hlocks hK hM hl hnamed hmeth
  have hl : lv_has ls 5 [(0, .int (nI 0)), (1, .int x), (2, .int y), (3, .int z), (4, .int t)] := hl
  have hM := PS.of hM [] trivial (by simp [oad])
  refine lv_iload_n hC.1 hC.2.1 dX0_moverBy_0 rfl (lv_at hl 0 rfl) ?_
  refine lv_tableIn (off := 31) (tgt := 32) hC.1 hC.2.1 dX0_moverBy_1 (by decide) (by decide) rfl (by decide) ?_
  refine p_new (L' := fun q => [_]) hC hK hM (ci := 9) in_X9 tyX9 tyX9_ok q735 q736 q90 rfl (fs := [.int 0, .int 0, .int 0, .int 0]) (by decide) (Nat.le_of_ble_eq_true rfl) (Nat.le_of_ble_eq_true rfl) dX0_moverBy_32 (fun q => rfl) (fun q_1 H hq_1 hM => ?_)
  refine lv_dup hC.1 hC.2.1 dX0_moverBy_35 rfl ?_
  refine lv_iload_n hC.1 hC.2.1 dX0_moverBy_36 rfl (lv_at hl 1 rfl) ?_
  refine lv_iload_n hC.1 hC.2.1 dX0_moverBy_37 rfl (lv_at hl 2 rfl) ?_
  refine lv_iload_n hC.1 hC.2.1 dX0_moverBy_38 rfl (lv_at hl 3 rfl) ?_
  refine lv_iload hC.1 hC.2.1 dX0_moverBy_39 (lv_at hl 4 rfl) ?_
  refine p_cIv (L' := [_]) hC hK hM (cm_i1_X9 l κ _ q_1 x y z t (hM.at 0 rfl) hz) (cwI 4 hC.2.2.2.2 (lw_meth q739) rfl rfl rfl (hC.2.2.2.2 _ q90) (hC.2.2.2.2 _ q737) (hC.2.2.2.2 _ q738) rfl (by decide +kernel) ⟨(Nat.le_of_ble_eq_true rfl), (Nat.le_of_ble_eq_true rfl)⟩) rfl hl.1 rfl (lv_room (Nat.le_of_ble_eq_true rfl)) dX0_moverBy_41 ⟨(Nat.le_of_ble_eq_true rfl), (Nat.le_of_ble_eq_true rfl)⟩ (oups_set hM.2 (i := 0) rfl) (oad_nd hM.2 (i := 0) rfl rfl) (fun H locs hM => ?_)
  refine W.widen (k := 1) (n := 4) (Nat.le_of_ble_eq_true rfl) (Nat.le_of_ble_eq_true rfl) ?_
  refine p_aret hC hr (Or.inl ⟨_, rfl⟩) hlocks hM (Or.inr ⟨_, rfl⟩) dX0_moverBy_44 ?_
  exact ⟨q_1, rfl, hq_1, rfl⟩

set_option maxHeartbeats 400000 in
set_option maxRecDepth 100000 in
theorem cn_moverBy2 (l : Launch) (κ : Nat → Nat) (O : gO) (x y z t : Int32) (hz : z = 0 ∨ z = 1) : oM l κ yX0_moverBy cX0_moverBy 5 (some (.object "NightStones$Mover")) ({ frames := 4, cells := 1, slots := 4, locals := 84 }) [.int (nI 1), .int x, .int y, .int z, .int t] O (fun rv O1 => ∃ q, rv = some (.ref q) ∧ O q = none ∧ O1 = oup O q (mvU 2 (mvN x y z t))) := by
  intro D ac A
  refine o_body (own := RX0) rfl (plainFor_of_name (by decide)) (Nat.le_of_ble_eq_true rfl) ?_
  intro p e s m args below meth c ls hC hr hlocks hK hM hl hnamed hmeth
  have hl : lv_has ls 5 [(0, .int (nI 1)), (1, .int x), (2, .int y), (3, .int z), (4, .int t)] := hl
  have hM := PS.of hM [] trivial (by simp [oad])
  refine lv_iload_n hC.1 hC.2.1 dX0_moverBy_0 rfl (lv_at hl 0 rfl) ?_
  refine lv_tableIn (off := 44) (tgt := 45) hC.1 hC.2.1 dX0_moverBy_1 (by decide) (by decide) rfl (by decide) ?_
  refine p_new (L' := fun q => [_]) hC hK hM (ci := 10) in_X10 tyX10 tyX10_ok q764 q765 q91 rfl (fs := [.int 0, .int 0, .int 0, .int 0]) (by decide) (Nat.le_of_ble_eq_true rfl) (Nat.le_of_ble_eq_true rfl) dX0_moverBy_45 (fun q => rfl) (fun q_1 H hq_1 hM => ?_)
  refine lv_dup hC.1 hC.2.1 dX0_moverBy_48 rfl ?_
  refine lv_iload_n hC.1 hC.2.1 dX0_moverBy_49 rfl (lv_at hl 1 rfl) ?_
  refine lv_iload_n hC.1 hC.2.1 dX0_moverBy_50 rfl (lv_at hl 2 rfl) ?_
  refine lv_iload_n hC.1 hC.2.1 dX0_moverBy_51 rfl (lv_at hl 3 rfl) ?_
  refine lv_iload hC.1 hC.2.1 dX0_moverBy_52 (lv_at hl 4 rfl) ?_
  refine p_cIv (L' := [_]) hC hK hM (cm_i2_X10 l κ _ q_1 x y z t (hM.at 0 rfl) hz) (cwI 4 hC.2.2.2.2 (lw_meth q768) rfl rfl rfl (hC.2.2.2.2 _ q91) (hC.2.2.2.2 _ q766) (hC.2.2.2.2 _ q767) rfl (by decide +kernel) ⟨(Nat.le_of_ble_eq_true rfl), (Nat.le_of_ble_eq_true rfl)⟩) rfl hl.1 rfl (lv_room (Nat.le_of_ble_eq_true rfl)) dX0_moverBy_54 ⟨(Nat.le_of_ble_eq_true rfl), (Nat.le_of_ble_eq_true rfl)⟩ (oups_set hM.2 (i := 0) rfl) (oad_nd hM.2 (i := 0) rfl rfl) (fun H locs hM => ?_)
  refine W.widen (k := 1) (n := 4) (Nat.le_of_ble_eq_true rfl) (Nat.le_of_ble_eq_true rfl) ?_
  refine p_aret hC hr (Or.inl ⟨_, rfl⟩) hlocks hM (Or.inr ⟨_, rfl⟩) dX0_moverBy_57 ?_
  exact ⟨q_1, rfl, hq_1, rfl⟩

set_option maxHeartbeats 400000 in
set_option maxRecDepth 100000 in
theorem cn_moverBy3 (l : Launch) (κ : Nat → Nat) (O : gO) (x y z t : Int32) (hz : z = 0 ∨ z = 1) : oM l κ yX0_moverBy cX0_moverBy 5 (some (.object "NightStones$Mover")) ({ frames := 4, cells := 1, slots := 4, locals := 84 }) [.int (nI 2), .int x, .int y, .int z, .int t] O (fun rv O1 => ∃ q, rv = some (.ref q) ∧ O q = none ∧ O1 = oup O q (mvU 3 (mvN x y z t))) := by
  intro D ac A
  refine o_body (own := RX0) rfl (plainFor_of_name (by decide)) (Nat.le_of_ble_eq_true rfl) ?_
  intro p e s m args below meth c ls hC hr hlocks hK hM hl hnamed hmeth
  have hl : lv_has ls 5 [(0, .int (nI 2)), (1, .int x), (2, .int y), (3, .int z), (4, .int t)] := hl
  have hM := PS.of hM [] trivial (by simp [oad])
  refine lv_iload_n hC.1 hC.2.1 dX0_moverBy_0 rfl (lv_at hl 0 rfl) ?_
  refine lv_tableIn (off := 57) (tgt := 58) hC.1 hC.2.1 dX0_moverBy_1 (by decide) (by decide) rfl (by decide) ?_
  refine p_new (L' := fun q => [_]) hC hK hM (ci := 11) in_X11 tyX11 tyX11_ok q775 q776 q92 rfl (fs := [.int 0, .int 0, .int 0, .int 0]) (by decide) (Nat.le_of_ble_eq_true rfl) (Nat.le_of_ble_eq_true rfl) dX0_moverBy_58 (fun q => rfl) (fun q_1 H hq_1 hM => ?_)
  refine lv_dup hC.1 hC.2.1 dX0_moverBy_61 rfl ?_
  refine lv_iload_n hC.1 hC.2.1 dX0_moverBy_62 rfl (lv_at hl 1 rfl) ?_
  refine lv_iload_n hC.1 hC.2.1 dX0_moverBy_63 rfl (lv_at hl 2 rfl) ?_
  refine lv_iload_n hC.1 hC.2.1 dX0_moverBy_64 rfl (lv_at hl 3 rfl) ?_
  refine lv_iload hC.1 hC.2.1 dX0_moverBy_65 (lv_at hl 4 rfl) ?_
  refine p_cIv (L' := [_]) hC hK hM (cm_i3_X11 l κ _ q_1 x y z t (hM.at 0 rfl) hz) (cwI 4 hC.2.2.2.2 (lw_meth q779) rfl rfl rfl (hC.2.2.2.2 _ q92) (hC.2.2.2.2 _ q777) (hC.2.2.2.2 _ q778) rfl (by decide +kernel) ⟨(Nat.le_of_ble_eq_true rfl), (Nat.le_of_ble_eq_true rfl)⟩) rfl hl.1 rfl (lv_room (Nat.le_of_ble_eq_true rfl)) dX0_moverBy_67 ⟨(Nat.le_of_ble_eq_true rfl), (Nat.le_of_ble_eq_true rfl)⟩ (oups_set hM.2 (i := 0) rfl) (oad_nd hM.2 (i := 0) rfl rfl) (fun H locs hM => ?_)
  refine W.widen (k := 1) (n := 4) (Nat.le_of_ble_eq_true rfl) (Nat.le_of_ble_eq_true rfl) ?_
  refine p_aret hC hr (Or.inl ⟨_, rfl⟩) hlocks hM (Or.inr ⟨_, rfl⟩) dX0_moverBy_70 ?_
  exact ⟨q_1, rfl, hq_1, rfl⟩

set_option maxHeartbeats 400000 in
set_option maxRecDepth 100000 in
theorem cn_moverBy4 (l : Launch) (κ : Nat → Nat) (O : gO) (x y z t : Int32) (hz : z = 0 ∨ z = 1) : oM l κ yX0_moverBy cX0_moverBy 5 (some (.object "NightStones$Mover")) ({ frames := 4, cells := 1, slots := 4, locals := 84 }) [.int (nI 3), .int x, .int y, .int z, .int t] O (fun rv O1 => ∃ q, rv = some (.ref q) ∧ O q = none ∧ O1 = oup O q (mvU 4 (mvN x y z t))) := by
  intro D ac A
  refine o_body (own := RX0) rfl (plainFor_of_name (by decide)) (Nat.le_of_ble_eq_true rfl) ?_
  intro p e s m args below meth c ls hC hr hlocks hK hM hl hnamed hmeth
  have hl : lv_has ls 5 [(0, .int (nI 3)), (1, .int x), (2, .int y), (3, .int z), (4, .int t)] := hl
  have hM := PS.of hM [] trivial (by simp [oad])
  refine lv_iload_n hC.1 hC.2.1 dX0_moverBy_0 rfl (lv_at hl 0 rfl) ?_
  refine lv_tableIn (off := 70) (tgt := 71) hC.1 hC.2.1 dX0_moverBy_1 (by decide) (by decide) rfl (by decide) ?_
  refine p_new (L' := fun q => [_]) hC hK hM (ci := 12) in_X12 tyX12 tyX12_ok q786 q787 q93 rfl (fs := [.int 0, .int 0, .int 0, .int 0]) (by decide) (Nat.le_of_ble_eq_true rfl) (Nat.le_of_ble_eq_true rfl) dX0_moverBy_71 (fun q => rfl) (fun q_1 H hq_1 hM => ?_)
  refine lv_dup hC.1 hC.2.1 dX0_moverBy_74 rfl ?_
  refine lv_iload_n hC.1 hC.2.1 dX0_moverBy_75 rfl (lv_at hl 1 rfl) ?_
  refine lv_iload_n hC.1 hC.2.1 dX0_moverBy_76 rfl (lv_at hl 2 rfl) ?_
  refine lv_iload_n hC.1 hC.2.1 dX0_moverBy_77 rfl (lv_at hl 3 rfl) ?_
  refine lv_iload hC.1 hC.2.1 dX0_moverBy_78 (lv_at hl 4 rfl) ?_
  refine p_cIv (L' := [_]) hC hK hM (cm_i4_X12 l κ _ q_1 x y z t (hM.at 0 rfl) hz) (cwI 4 hC.2.2.2.2 (lw_meth q790) rfl rfl rfl (hC.2.2.2.2 _ q93) (hC.2.2.2.2 _ q788) (hC.2.2.2.2 _ q789) rfl (by decide +kernel) ⟨(Nat.le_of_ble_eq_true rfl), (Nat.le_of_ble_eq_true rfl)⟩) rfl hl.1 rfl (lv_room (Nat.le_of_ble_eq_true rfl)) dX0_moverBy_80 ⟨(Nat.le_of_ble_eq_true rfl), (Nat.le_of_ble_eq_true rfl)⟩ (oups_set hM.2 (i := 0) rfl) (oad_nd hM.2 (i := 0) rfl rfl) (fun H locs hM => ?_)
  refine W.widen (k := 1) (n := 4) (Nat.le_of_ble_eq_true rfl) (Nat.le_of_ble_eq_true rfl) ?_
  refine p_aret hC hr (Or.inl ⟨_, rfl⟩) hlocks hM (Or.inr ⟨_, rfl⟩) dX0_moverBy_83 ?_
  exact ⟨q_1, rfl, hq_1, rfl⟩

set_option maxHeartbeats 400000 in
set_option maxRecDepth 100000 in
theorem cn_moverBy5 (l : Launch) (κ : Nat → Nat) (O : gO) (x y z t : Int32) (hz : z = 0 ∨ z = 1) : oM l κ yX0_moverBy cX0_moverBy 5 (some (.object "NightStones$Mover")) ({ frames := 4, cells := 1, slots := 4, locals := 84 }) [.int (nI 4), .int x, .int y, .int z, .int t] O (fun rv O1 => ∃ q, rv = some (.ref q) ∧ O q = none ∧ O1 = oup O q (mvU 5 (mvN x y z t))) := by
  intro D ac A
  refine o_body (own := RX0) rfl (plainFor_of_name (by decide)) (Nat.le_of_ble_eq_true rfl) ?_
  intro p e s m args below meth c ls hC hr hlocks hK hM hl hnamed hmeth
  have hl : lv_has ls 5 [(0, .int (nI 4)), (1, .int x), (2, .int y), (3, .int z), (4, .int t)] := hl
  have hM := PS.of hM [] trivial (by simp [oad])
  refine lv_iload_n hC.1 hC.2.1 dX0_moverBy_0 rfl (lv_at hl 0 rfl) ?_
  refine lv_tableOut (tgt := 84) hC.1 hC.2.1 dX0_moverBy_1 (by decide) (by decide) ?_
  refine p_new (L' := fun q => [_]) hC hK hM (ci := 13) in_X13 tyX13 tyX13_ok q797 q798 q94 rfl (fs := [.int 0, .int 0, .int 0, .int 0]) (by decide) (Nat.le_of_ble_eq_true rfl) (Nat.le_of_ble_eq_true rfl) dX0_moverBy_84 (fun q => rfl) (fun q_1 H hq_1 hM => ?_)
  refine lv_dup hC.1 hC.2.1 dX0_moverBy_87 rfl ?_
  refine lv_iload_n hC.1 hC.2.1 dX0_moverBy_88 rfl (lv_at hl 1 rfl) ?_
  refine lv_iload_n hC.1 hC.2.1 dX0_moverBy_89 rfl (lv_at hl 2 rfl) ?_
  refine lv_iload_n hC.1 hC.2.1 dX0_moverBy_90 rfl (lv_at hl 3 rfl) ?_
  refine lv_iload hC.1 hC.2.1 dX0_moverBy_91 (lv_at hl 4 rfl) ?_
  refine p_cIv (L' := [_]) hC hK hM (cm_i5_X13 l κ _ q_1 x y z t (hM.at 0 rfl) hz) (cwI 4 hC.2.2.2.2 (lw_meth q801) rfl rfl rfl (hC.2.2.2.2 _ q94) (hC.2.2.2.2 _ q799) (hC.2.2.2.2 _ q800) rfl (by decide +kernel) ⟨(Nat.le_of_ble_eq_true rfl), (Nat.le_of_ble_eq_true rfl)⟩) rfl hl.1 rfl (lv_room (Nat.le_of_ble_eq_true rfl)) dX0_moverBy_93 ⟨(Nat.le_of_ble_eq_true rfl), (Nat.le_of_ble_eq_true rfl)⟩ (oups_set hM.2 (i := 0) rfl) (oad_nd hM.2 (i := 0) rfl rfl) (fun H locs hM => ?_)
  refine W.widen (k := 1) (n := 4) (Nat.le_of_ble_eq_true rfl) (Nat.le_of_ble_eq_true rfl) ?_
  refine p_aret hC hr (Or.inl ⟨_, rfl⟩) hlocks hM (Or.inr ⟨_, rfl⟩) dX0_moverBy_96 ?_
  exact ⟨q_1, rfl, hq_1, rfl⟩

theorem cn_moverBy (l : Launch) (κ : Nat → Nat) (O : gO) (kd : Nat) (x y z t : Int32) (h1 : 1 ≤ kd) (h5 : kd ≤ 5) (hz : z = 0 ∨ z = 1) : oM l κ yX0_moverBy cX0_moverBy 5 (some (.object "NightStones$Mover")) ({ frames := 4, cells := 1, slots := 4, locals := 84 }) [.int (nI (kd - 1)), .int x, .int y, .int z, .int t] O (fun rv O1 => ∃ q, rv = some (.ref q) ∧ O q = none ∧ O1 = oup O q (mvU kd (mvN x y z t))) := by
  rcases (show kd = 1 ∨ kd = 2 ∨ kd = 3 ∨ kd = 4 ∨ kd = 5 by omega) with rfl | rfl | rfl | rfl | rfl
  · exact cn_moverBy1 l κ O x y z t hz
  · exact cn_moverBy2 l κ O x y z t hz
  · exact cn_moverBy3 l κ O x y z t hz
  · exact cn_moverBy4 l κ O x y z t hz
  · exact cn_moverBy5 l κ O x y z t hz
