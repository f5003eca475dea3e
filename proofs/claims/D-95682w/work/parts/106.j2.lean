set_option maxHeartbeats 400000 in
set_option maxRecDepth 100000 in
theorem cj_i0 (l : Launch) (κ : Nat → Nat) (O : gO) (la : Nat) (hO : O la = some (.inr (8, [.int 0, .null, .int 0], aNo))) : oM l κ yJ0_init cJ0_init 1 none ({ frames := 1, cells := 0, slots := 0, locals := 12 }) [.ref la] O (fun rv O1 => O1 = O ∧ rv = none) := by
  intro D ac A
  refine o_body (own := RJ0) rfl (by decide +kernel) (Nat.le_of_ble_eq_true rfl) ?_
  intro p e s m args below meth c ls hC hr hlocks hK hM hl hnamed hmeth
  have hl : lv_has ls 1 [(0, .ref la)] := hl
  have hnm : meth.name = "<init>" := (name_of_methodNamed hnamed hmeth).1
  have hM := PS.of hM [(la, .inr (8, [.int 0, .null, .int 0], aNo))] ⟨hO, trivial⟩ (by simp [oad])
  refine lv_aload_n hC.1 hC.2.1 dJ0_init_0 rfl (lv_at hl 0 rfl) ?_
  refine W.objInit hC.1 hC.2.1 hC.2.2.2.1 (hC.2.2.2.2 _ q125) (hC.2.2.2.2 _ q104) (hC.2.2.2.2 _ q105) rfl (by rw [hC.2.2.1]; exact hl.1) rfl dJ0_init_1 (Nat.le_of_ble_eq_true rfl) (Nat.le_of_ble_eq_true rfl) ?_
  refine W.eq (g2 := F0 m 4 ls []) rfl ?_
  skip
  refine p_vret hC hr hlocks hM dJ0_init_4 ?_
  exact ⟨oup_same hO, rfl⟩

set_option maxHeartbeats 400000 in
set_option maxRecDepth 100000 in
theorem cj_i1 (l : Launch) (κ : Nat → Nat) (O : gO) (la : Nat) (hO : O la = some (.inr (8, [.int 0, .null, .int 0], aNo))) : oM l κ yJ1_init cJ1_init 1 none ({ frames := 2, cells := 0, slots := 0, locals := 32 }) [.ref la] O (fun rv O1 => O1 = O ∧ rv = none) := by
  intro D ac A
  refine o_body (own := RJ1) rfl (by decide +kernel) (Nat.le_of_ble_eq_true rfl) ?_
  intro p e s m args below meth c ls hC hr hlocks hK hM hl hnamed hmeth
  have hl : lv_has ls 1 [(0, .ref la)] := hl
  have hnm : meth.name = "<init>" := (name_of_methodNamed hnamed hmeth).1
  have hM := PS.of hM [(la, .inr (8, [.int 0, .null, .int 0], aNo))] ⟨hO, trivial⟩ (by simp [oad])
  refine lv_aload_n hC.1 hC.2.1 dJ1_init_0 rfl (lv_at hl 0 rfl) ?_
  refine p_cIv (L' := [_]) hC hK hM (cj_i0 l κ _ la (hM.at 0 rfl)) (cwI 0 hC.2.2.2.2 (lw_meth q124) rfl rfl rfl (hC.2.2.2.2 _ q65) (hC.2.2.2.2 _ q122) (hC.2.2.2.2 _ q123) rfl (by decide +kernel) ⟨(Nat.le_of_ble_eq_true rfl), (Nat.le_of_ble_eq_true rfl)⟩) rfl hl.1 rfl (lv_room (Nat.le_of_ble_eq_true rfl)) dJ1_init_1 ⟨(Nat.le_of_ble_eq_true rfl), (Nat.le_of_ble_eq_true rfl)⟩ rfl hM.2 (fun H locs hM => ?_)
  refine lv_aload_n hC.1 hC.2.1 dJ1_init_4 rfl (lv_at hl 0 rfl) ?_
  refine lv_iconst (v := 0) hC.1 hC.2.1 dJ1_init_5 (by decide) ?_
  refine p_putR (L' := [_]) hC hK hM 0 rfl in_J2 tyJ2 tyJ2_ok nmJ2 rfl 0 (by decide) q130 (fun x h => h) rfl rfl rfl (Nat.le_of_ble_eq_true rfl) rfl (u' := .inr (8, [_, _, _], _)) rfl rfl dJ1_init_6 (fun H locs hM => ?_)
  skip
  refine p_vret hC hr hlocks hM dJ1_init_9 ?_
  exact ⟨oup_same hO, rfl⟩

set_option maxHeartbeats 400000 in
set_option maxRecDepth 100000 in
theorem cj_linit (l : Launch) (κ : Nat → Nat) (O : gO) (la : Nat) (hO : O la = some (.inr (8, [.int 0, .null, .int 0], aNo))) : oM l κ yJ2_init cJ2_init 1 none ({ frames := 3, cells := 0, slots := 0, locals := 52 }) [.ref la] O (fun rv O1 => O1 = oup O la (lsU 0 (κ 0) 0 aNo) ∧ rv = none) := by
  intro D ac A
  refine o_body (own := RJ2) rfl (by decide +kernel) (Nat.le_of_ble_eq_true rfl) ?_
  intro p e s m args below meth c ls hC hr hlocks hK hM hl hnamed hmeth
  have hl : lv_has ls 1 [(0, .ref la)] := hl
  have hnm : meth.name = "<init>" := (name_of_methodNamed hnamed hmeth).1
  have hM := PS.of hM [(la, .inr (8, [.int 0, .null, .int 0], aNo))] ⟨hO, trivial⟩ (by simp [oad])
  refine lv_aload_n hC.1 hC.2.1 dJ2_init_0 rfl (lv_at hl 0 rfl) ?_
  refine p_cIv (L' := [_]) hC hK hM (cj_i1 l κ _ la (hM.at 0 rfl)) (cwI 0 hC.2.2.2.2 (lw_meth q121) rfl rfl rfl (hC.2.2.2.2 _ q66) (hC.2.2.2.2 _ q119) (hC.2.2.2.2 _ q120) rfl (by decide +kernel) ⟨(Nat.le_of_ble_eq_true rfl), (Nat.le_of_ble_eq_true rfl)⟩) rfl hl.1 rfl (lv_room (Nat.le_of_ble_eq_true rfl)) dJ2_init_1 ⟨(Nat.le_of_ble_eq_true rfl), (Nat.le_of_ble_eq_true rfl)⟩ rfl hM.2 (fun H locs hM => ?_)
  refine lv_aload_n hC.1 hC.2.1 dJ2_init_4 rfl (lv_at hl 0 rfl) ?_
  refine va_gets hC.1 hC.2.1 hK.2.2.2.1.1 hM.s hC.2.2.2.1 (hC.2.2.2.2 _ q126) (fun x h => h) dJ2_init_5 ?_
  refine p_putR (L' := [_]) hC hK hM 0 rfl in_J2 tyJ2 tyJ2_ok nmJ2 rfl 1 (by decide) q128 (fun x h => h) rfl rfl rfl (Nat.le_of_ble_eq_true rfl) rfl (u' := .inr (8, [_, _, _], _)) rfl rfl dJ2_init_8 (fun H locs hM => ?_)
  skip
  refine p_vret hC hr hlocks hM dJ2_init_11 ?_
  exact ⟨rfl, rfl⟩

set_option maxHeartbeats 400000 in
set_option maxRecDepth 100000 in
theorem cr_init (l : Launch) (κ : Nat → Nat) (O : gO) (a : Nat) (hO : O a = some (.inr (1, [.int 0, .int 0, .int 0, .int 0, .int 0, .null, .null, .null, .null, .int 0, .null, .int 0, .null], aNo))) : oM l κ yX1_init cX1_init 1 none ({ frames := 4, cells := 6, slots := 75, locals := 72 }) [.ref a] O (fun rv O1 => ∃ ad : Nat → Nat, O (ad 8) = none ∧ O1 = oup (oup O (ad 8) (lsU 0 (κ 0) 0 aNo)) a (rdU (fun _ => 0) ad (fun _ _ => 0)) ∧ rv = none) := by
  intro D ac A
  refine o_body (own := RX1) rfl (plainFor_of_name (by decide)) (Nat.le_of_ble_eq_true rfl) ?_
  intro p e s m args below meth c ls hC hr hlocks hK hM hl hnamed hmeth
  have hl : lv_has ls 1 [(0, .ref a)] := hl
  have hnm : meth.name = "<init>" := (name_of_methodNamed hnamed hmeth).1
  have hM := PS.of hM [(a, .inr (1, [.int 0, .int 0, .int 0, .int 0, .int 0, .null, .null, .null, .null, .int 0, .null, .int 0, .null], aNo))] ⟨hO, trivial⟩ (by simp [oad])
  refine lv_aload_n hC.1 hC.2.1 dX1_init_0 rfl (lv_at hl 0 rfl) ?_
  refine W.objInit hC.1 hC.2.1 hC.2.2.2.1 (hC.2.2.2.2 _ q113) (hC.2.2.2.2 _ q104) (hC.2.2.2.2 _ q105) rfl (by rw [hC.2.2.1]; exact hl.1) rfl dX1_init_1 (Nat.le_of_ble_eq_true rfl) (Nat.le_of_ble_eq_true rfl) ?_
  refine W.eq (g2 := F0 m 4 ls []) rfl ?_
  refine lv_aload_n hC.1 hC.2.1 dX1_init_4 rfl (lv_at hl 0 rfl) ?_
  refine lv_bipush (v := 6) hC.1 hC.2.1 dX1_init_5 (by decide) ?_
  refine p_newi (L' := fun q => [_, _]) hC hK hM q141 (N := 6) rfl (by decide) (Nat.le_of_ble_eq_true rfl) (Nat.le_of_ble_eq_true rfl) dX1_init_7 (fun q => rfl) (fun q_1 H hq_1 hM => ?_)
  refine p_adoptF (L' := [_]) hC hK hM 0 rfl 1 rfl hq_1 (by decide) in_X1 tyX1 tyX1_ok nmX1 rfl 5 (by decide) q157 (fun x h => h) rfl hnm rfl rfl rfl (Nat.le_of_ble_eq_true rfl) (u' := .inr (1, [_, _, _, _, _, _, _, _, _, _, _, _, _], _)) rfl rfl dX1_init_9 (fun H locs hM => ?_)
  refine lv_aload_n hC.1 hC.2.1 dX1_init_12 rfl (lv_at hl 0 rfl) ?_
  refine lv_bipush (v := 6) hC.1 hC.2.1 dX1_init_13 (by decide) ?_
  refine p_newi (L' := fun q => [_, _]) hC hK hM q141 (N := 6) rfl (by decide) (Nat.le_of_ble_eq_true rfl) (Nat.le_of_ble_eq_true rfl) dX1_init_15 (fun q => rfl) (fun q_2 H hq_2 hM => ?_)
  refine p_adoptF (L' := [_]) hC hK hM 0 rfl 1 rfl hq_2 (by decide) in_X1 tyX1 tyX1_ok nmX1 rfl 6 (by decide) q160 (fun x h => h) rfl hnm rfl rfl rfl (Nat.le_of_ble_eq_true rfl) (u' := .inr (1, [_, _, _, _, _, _, _, _, _, _, _, _, _], _)) rfl rfl dX1_init_17 (fun H locs hM => ?_)
  refine lv_aload_n hC.1 hC.2.1 dX1_init_20 rfl (lv_at hl 0 rfl) ?_
  refine lv_bipush (v := 6) hC.1 hC.2.1 dX1_init_21 (by decide) ?_
  refine p_newi (L' := fun q => [_, _]) hC hK hM q141 (N := 6) rfl (by decide) (Nat.le_of_ble_eq_true rfl) (Nat.le_of_ble_eq_true rfl) dX1_init_23 (fun q => rfl) (fun q_3 H hq_3 hM => ?_)
  refine p_adoptF (L' := [_]) hC hK hM 0 rfl 1 rfl hq_3 (by decide) in_X1 tyX1 tyX1_ok nmX1 rfl 7 (by decide) q163 (fun x h => h) rfl hnm rfl rfl rfl (Nat.le_of_ble_eq_true rfl) (u' := .inr (1, [_, _, _, _, _, _, _, _, _, _, _, _, _], _)) rfl rfl dX1_init_25 (fun H locs hM => ?_)
  refine lv_aload_n hC.1 hC.2.1 dX1_init_28 rfl (lv_at hl 0 rfl) ?_
  refine p_new (L' := fun q => [_, _]) hC hK hM (ci := 8) in_J2 tyJ2 tyJ2_ok q114 q115 q67 rfl (fs := [.int 0, .null, .int 0]) (by decide) (Nat.le_of_ble_eq_true rfl) (Nat.le_of_ble_eq_true rfl) dX1_init_29 (fun q => rfl) (fun q_4 H hq_4 hM => ?_)
  refine lv_dup hC.1 hC.2.1 dX1_init_32 rfl ?_
  refine p_cIv (L' := [_, _]) hC hK hM (cj_linit l κ _ q_4 (hM.at 1 rfl)) (cwI 0 hC.2.2.2.2 (lw_meth q118) rfl rfl rfl (hC.2.2.2.2 _ q67) (hC.2.2.2.2 _ q116) (hC.2.2.2.2 _ q117) rfl (by decide +kernel) ⟨(Nat.le_of_ble_eq_true rfl), (Nat.le_of_ble_eq_true rfl)⟩) rfl hl.1 rfl (lv_room (Nat.le_of_ble_eq_true rfl)) dX1_init_33 ⟨(Nat.le_of_ble_eq_true rfl), (Nat.le_of_ble_eq_true rfl)⟩ (oups_set hM.2 (i := 1) rfl) (oad_nd hM.2 (i := 1) rfl rfl) (fun H locs hM => ?_)
  refine p_putR (L' := [_, _]) hC hK hM 0 rfl in_X1 tyX1 tyX1_ok nmX1 rfl 8 (by decide) q166 (fun x h => h) rfl rfl rfl (Nat.le_of_ble_eq_true rfl) rfl (u' := .inr (1, [_, _, _, _, _, _, _, _, _, _, _, _, _], _)) rfl rfl dX1_init_36 (fun H locs hM => ?_)
  refine lv_aload_n hC.1 hC.2.1 dX1_init_39 rfl (lv_at hl 0 rfl) ?_
  refine lv_bipush (v := 48) hC.1 hC.2.1 dX1_init_40 (by decide) ?_
  refine p_newi (L' := fun q => [_, _, _]) hC hK hM q141 (N := 48) rfl (by decide) (Nat.le_of_ble_eq_true rfl) (Nat.le_of_ble_eq_true rfl) dX1_init_42 (fun q => rfl) (fun q_5 H hq_5 hM => ?_)
  refine p_adoptF (L' := [_, _]) hC hK hM 0 rfl 2 rfl hq_5 (by decide) in_X1 tyX1 tyX1_ok nmX1 rfl 10 (by decide) q171 (fun x h => h) rfl hnm rfl rfl rfl (Nat.le_of_ble_eq_true rfl) (u' := .inr (1, [_, _, _, _, _, _, _, _, _, _, _, _, _], _)) rfl rfl dX1_init_44 (fun H locs hM => ?_)
  refine lv_aload_n hC.1 hC.2.1 dX1_init_47 rfl (lv_at hl 0 rfl) ?_
  refine lv_bipush (v := 6) hC.1 hC.2.1 dX1_init_48 (by decide) ?_
  refine p_newi (L' := fun q => [_, _, _]) hC hK hM q141 (N := 6) rfl (by decide) (Nat.le_of_ble_eq_true rfl) (Nat.le_of_ble_eq_true rfl) dX1_init_50 (fun q => rfl) (fun q_6 H hq_6 hM => ?_)
  refine p_adoptF (L' := [_, _]) hC hK hM 0 rfl 2 rfl hq_6 (by decide) in_X1 tyX1 tyX1_ok nmX1 rfl 12 (by decide) q175 (fun x h => h) rfl hnm rfl rfl rfl (Nat.le_of_ble_eq_true rfl) (u' := .inr (1, [_, _, _, _, _, _, _, _, _, _, _, _, _], _)) rfl rfl dX1_init_52 (fun H locs hM => ?_)
  refine W.widen (k := 6) (n := 75) (Nat.le_of_ble_eq_true rfl) (Nat.le_of_ble_eq_true rfl) ?_
  refine p_vret hC hr hlocks hM dX1_init_55 ?_
  refine ⟨updN (updN (updN (updN (updN (updN (fun _ => 0) 5 q_1) 6 q_2) 7 q_3) 8 q_4) 10 q_5) 12 q_6, hq_4, ?_, rfl⟩
  rw [rar_new]
  rfl

set_option maxHeartbeats 400000 in
set_option maxRecDepth 100000 in
theorem ct_init (l : Launch) (κ : Nat → Nat) (O : gO) (a : Nat) (hO : O a = some (.inr (2, [.null, .int 0], aNo))) : oM l κ yX2_init cX2_init 1 none ({ frames := 1, cells := 1, slots := 16, locals := 12 }) [.ref a] O (fun rv O1 => ∃ q : Nat, O1 = oup O a (cU 2 (fun _ => 0) (fun _ => q) (oar 0 0 16 (fun _ => 0))) ∧ rv = none) := by
  intro D ac A
  refine o_body (own := RX2) rfl (plainFor_of_name (by decide)) (Nat.le_of_ble_eq_true rfl) ?_
  intro p e s m args below meth c ls hC hr hlocks hK hM hl hnamed hmeth
  have hl : lv_has ls 1 [(0, .ref a)] := hl
  have hnm : meth.name = "<init>" := (name_of_methodNamed hnamed hmeth).1
  have hM := PS.of hM [(a, .inr (2, [.null, .int 0], aNo))] ⟨hO, trivial⟩ (by simp [oad])
  refine lv_aload_n hC.1 hC.2.1 dX2_init_0 rfl (lv_at hl 0 rfl) ?_
  refine W.objInit hC.1 hC.2.1 hC.2.2.2.1 (hC.2.2.2.2 _ q209) (hC.2.2.2.2 _ q104) (hC.2.2.2.2 _ q105) rfl (by rw [hC.2.2.1]; exact hl.1) rfl dX2_init_1 (Nat.le_of_ble_eq_true rfl) (Nat.le_of_ble_eq_true rfl) ?_
  refine W.eq (g2 := F0 m 4 ls []) rfl ?_
  refine lv_aload_n hC.1 hC.2.1 dX2_init_4 rfl (lv_at hl 0 rfl) ?_
  refine lv_bipush (v := 16) hC.1 hC.2.1 dX2_init_5 (by decide) ?_
  refine p_newi (L' := fun q => [_, _]) hC hK hM q141 (N := 16) rfl (by decide) (Nat.le_of_ble_eq_true rfl) (Nat.le_of_ble_eq_true rfl) dX2_init_7 (fun q => rfl) (fun q_1 H hq_1 hM => ?_)
  refine p_adoptF (L' := [_]) hC hK hM 0 rfl 1 rfl hq_1 (by decide) in_X2 tyX2 tyX2_ok nmX2 rfl 0 (by decide) q210 (fun x h => h) rfl hnm rfl rfl rfl (Nat.le_of_ble_eq_true rfl) (u' := .inr (2, [_, _], _)) rfl rfl dX2_init_9 (fun H locs hM => ?_)
  refine W.widen (k := 1) (n := 16) (Nat.le_of_ble_eq_true rfl) (Nat.le_of_ble_eq_true rfl) ?_
  refine p_vret hC hr hlocks hM dX2_init_12 ?_
  refine ⟨q_1, ?_, rfl⟩
  rw [← oar_new]
  rfl

set_option maxHeartbeats 400000 in
set_option maxRecDepth 100000 in
theorem ct_begins (l : Launch) (κ : Nat → Nat) (O : gO) (a : Nat) (v : Nat → Int32) (ad : Nat → Nat) (f : Nat → Int32) (x : Int32) (t : Nat) (hO : O a = some (cU 2 v ad (oar 0 0 16 f))) (et : v 1 = nI t) (ht : t < 16) : oM l κ yX2_begins cX2_begins 2 none ({ frames := 0, cells := 0, slots := 0, locals := 0 }) [.ref a, .int x] O (fun rv O1 => O1 = oup O a (cU 2 (upd v 1 (nI (t + 1))) ad (oar 0 0 16 (upd f t x))) ∧ rv = none) := by
  intro D ac A
  refine o_body (own := RX2) rfl (plainFor_of_name (by decide)) (Nat.le_of_ble_eq_true rfl) ?_
  intro p e s m args below meth c ls hC hr hlocks hK hM hl hnamed hmeth
  have hl : lv_has ls 2 [(0, .ref a), (1, .int x)] := hl
  have hM := PS.of hM [(a, cU 2 v ad (oar 0 0 16 f))] ⟨hO, trivial⟩ (by simp [oad])
  refine lv_aload_n hC.1 hC.2.1 dX2_begins_0 rfl (lv_at hl 0 rfl) ?_
  refine p_get hC hK hM 0 rfl in_X2 rfl 1 (by decide) q212 (fun x h => h) rfl dX2_begins_1 ?_
  rw [et]
  refine lv_bipush (v := 16) hC.1 hC.2.1 dX2_begins_4 (by decide) ?_
  refine lv_icmp_ge (tgt := 26) hC.1 hC.2.1 dX2_begins_6 (by decide) (fun c1 => ?_) (fun c1 => ?_)
  ·
    have nc1 := Int32.not_lt.mpr c1
    exact absurd (nle_t (a := 16) (b := t) c1) (by omega)
  ·
    have nc1 := Int32.not_le.mp c1
    refine lv_aload_n hC.1 hC.2.1 dX2_begins_9 rfl (lv_at hl 0 rfl) ?_
    refine p_get hC hK hM 0 rfl in_X2 rfl 0 (by decide) q210 (fun x h => h) rfl dX2_begins_10 ?_
    refine lv_aload_n hC.1 hC.2.1 dX2_begins_13 rfl (lv_at hl 0 rfl) ?_
    refine lv_dup hC.1 hC.2.1 dX2_begins_14 rfl ?_
    refine p_get hC hK hM 0 rfl in_X2 rfl 1 (by decide) q212 (fun x h => h) rfl dX2_begins_15 ?_
    rw [et]
    refine lv_dup_x1 hC.1 hC.2.1 dX2_begins_18 rfl rfl ?_
    refine lv_iconst (v := 1) hC.1 hC.2.1 dX2_begins_19 (by decide) ?_
    refine lv_iadd hC.1 hC.2.1 dX2_begins_20 ?_
    rw [nI_1]
    refine p_put (L' := [_]) hC hK hM 0 rfl in_X2 tyX2 tyX2_ok nmX2 rfl 1 (by decide) q212 (fun x h => h) rfl rfl rfl (Nat.le_of_ble_eq_true rfl) rfl rfl rfl dX2_begins_21 (fun H locs hM => ?_)
    refine lv_iload_n hC.1 hC.2.1 dX2_begins_24 rfl (lv_at hl 1 rfl) ?_
    refine p_iast (L' := [_]) hC hK hM 0 rfl 0 rfl rfl (n := t) (by first | rfl | (simp only [← nI_add, ← pk_mul]; rfl)) (by first | decide | (show _ < 16; omega)) (by decide) (oar_set _ _ _ _ _) rfl dX2_begins_25 (fun H locs hM => ?_)
    skip
    refine p_vret hC hr hlocks hM dX2_begins_26 ?_
    exact ⟨rfl, rfl⟩

set_option maxHeartbeats 400000 in
set_option maxRecDepth 100000 in
theorem cw_init (l : Launch) (κ : Nat → Nat) (O : gO) (a : Nat) (x : Int32) (n : Nat) (hO : O a = some (.inr (5, [.int 0, .null], aNo))) (hn : n ≤ 40) : oM l κ yX5_init cX5_init 3 none ({ frames := 1, cells := 1, slots := 40, locals := 12 }) [.ref a, .int x, .int (nI n)] O (fun rv O1 => ∃ q : Nat, O1 = oup O a (cU 5 (fun _ => x) (fun _ => q) (oar 1 0 n (fun _ => 0))) ∧ rv = none) := by
  intro D ac A
  refine o_body (own := RX5) rfl (plainFor_of_name (by decide)) (Nat.le_of_ble_eq_true rfl) ?_
  intro p e s m args below meth c ls hC hr hlocks hK hM hl hnamed hmeth
  have hl : lv_has ls 3 [(0, .ref a), (1, .int x), (2, .int (nI n))] := hl
  have hnm : meth.name = "<init>" := (name_of_methodNamed hnamed hmeth).1
  have hM := PS.of hM [(a, .inr (5, [.int 0, .null], aNo))] ⟨hO, trivial⟩ (by simp [oad])
  refine lv_aload_n hC.1 hC.2.1 dX5_init_0 rfl (lv_at hl 0 rfl) ?_
  refine W.objInit hC.1 hC.2.1 hC.2.2.2.1 (hC.2.2.2.2 _ q342) (hC.2.2.2.2 _ q104) (hC.2.2.2.2 _ q105) rfl (by rw [hC.2.2.1]; exact hl.1) rfl dX5_init_1 (Nat.le_of_ble_eq_true rfl) (Nat.le_of_ble_eq_true rfl) ?_
  refine W.eq (g2 := F0 m 4 ls []) rfl ?_
  refine lv_aload_n hC.1 hC.2.1 dX5_init_4 rfl (lv_at hl 0 rfl) ?_
  refine lv_iload_n hC.1 hC.2.1 dX5_init_5 rfl (lv_at hl 1 rfl) ?_
  refine p_putFR (L' := [_]) hC hK hM 0 rfl in_X5 tyX5 tyX5_ok nmX5 rfl 0 (by decide) q343 (fun x h => h) rfl hnm rfl rfl rfl (Nat.le_of_ble_eq_true rfl) rfl (u' := .inr (5, [_, _], _)) rfl rfl dX5_init_6 (fun H locs hM => ?_)
  refine lv_aload_n hC.1 hC.2.1 dX5_init_9 rfl (lv_at hl 0 rfl) ?_
  refine lv_iload_n hC.1 hC.2.1 dX5_init_10 rfl (lv_at hl 2 rfl) ?_
  refine p_newi (L' := fun q => [_, _]) hC hK hM q141 (N := n) rfl (by omega) (Nat.le_of_ble_eq_true rfl) (by show 0 + n ≤ 40; omega) dX5_init_11 (fun q => rfl) (fun q_1 H hq_1 hM => ?_)
  refine p_adoptF (L' := [_]) hC hK hM 0 rfl 1 rfl hq_1 (by decide) in_X5 tyX5 tyX5_ok nmX5 rfl 1 (by decide) q345 (fun x h => h) rfl hnm rfl rfl rfl (Nat.le_of_ble_eq_true rfl) (u' := .inr (5, [_, _], _)) rfl rfl dX5_init_13 (fun H locs hM => ?_)
  refine W.widen (k := 1) (n := 40) (Nat.le_of_ble_eq_true rfl) (by show 0 + n ≤ 40; omega) ?_
  refine p_vret hC hr hlocks hM dX5_init_16 ?_
  refine ⟨q_1, ?_, rfl⟩
  rw [← oar_new]
  rfl

set_option maxHeartbeats 400000 in
set_option maxRecDepth 100000 in
theorem cw_cut (l : Launch) (κ : Nat → Nat) (O : gO) (a : Nat) (v : Nat → Int32) (ad : Nat → Nat) (ar : gA) (x : Int32) (hO : O a = some (cU 5 v ad ar)) : oM l κ yX5_cut cX5_cut 2 (some .int) ({ frames := 0, cells := 0, slots := 0, locals := 0 }) [.ref a, .int x] O (fun rv O1 => rv = some (.int (cutL (v 0) x)) ∧ O1 = O) := by
  intro D ac A
  refine o_body (own := RX5) rfl (plainFor_of_name (by decide)) (Nat.le_of_ble_eq_true rfl) ?_
  intro p e s m args below meth c ls hC hr hlocks hK hM hl hnamed hmeth
  have hl : lv_has ls 2 [(0, .ref a), (1, .int x)] := hl
  have hM := PS.of hM [(a, cU 5 v ad ar)] ⟨hO, trivial⟩ (by simp [oad])
  refine lv_aload_n hC.1 hC.2.1 dX5_cut_0 rfl (lv_at hl 0 rfl) ?_
  refine p_get hC hK hM 0 rfl in_X5 rfl 0 (by decide) q343 (fun x h => h) rfl dX5_cut_1 ?_
  refine lv_if_ne (tgt := 12) hC.1 hC.2.1 dX5_cut_4 (by decide) (fun c1 => ?_) (fun c1 => ?_)
  ·
    skip
    have c0 : ¬ v 0 = 0 := c1
    refine lv_aload_n hC.1 hC.2.1 dX5_cut_12 rfl (lv_at hl 0 rfl) ?_
    refine p_get hC hK hM 0 rfl in_X5 rfl 0 (by decide) q343 (fun x h => h) rfl dX5_cut_13 ?_
    refine lv_iconst (v := 1) hC.1 hC.2.1 dX5_cut_16 (by decide) ?_
    refine lv_icmp_ne (tgt := 25) hC.1 hC.2.1 dX5_cut_17 (by decide) (fun c2 => ?_) (fun c2 => ?_)
    ·
      skip
      have d1 : ¬ v 0 = 1 := c2
      refine lv_iload_n hC.1 hC.2.1 dX5_cut_25 rfl (lv_at hl 1 rfl) ?_
      skip
      refine p_iret hC hr hlocks hM dX5_cut_26 ?_
      exact ⟨by rw [cutL, if_neg c0, if_neg d1], oup_same hO⟩
    ·
      skip
      have d1 : v 0 = 1 := c2
      refine lv_iload_n hC.1 hC.2.1 dX5_cut_20 rfl (lv_at hl 1 rfl) ?_
      refine lv_i2s hC.1 hC.2.1 dX5_cut_21 rfl ?_
      refine lv_goto (tgt := 26) hC.1 hC.2.1 dX5_cut_22 (by decide) ?_
      skip
      refine p_iret hC hr hlocks hM dX5_cut_26 ?_
      exact ⟨by rw [cutL, if_neg c0, if_pos d1], oup_same hO⟩
  ·
    skip
    have c0 : v 0 = 0 := c1
    refine lv_iload_n hC.1 hC.2.1 dX5_cut_7 rfl (lv_at hl 1 rfl) ?_
    refine lv_i2b hC.1 hC.2.1 dX5_cut_8 rfl ?_
    refine lv_goto (tgt := 26) hC.1 hC.2.1 dX5_cut_9 (by decide) ?_
    skip
    refine p_iret hC hr hlocks hM dX5_cut_26 ?_
    exact ⟨by rw [cutL, if_pos c0], oup_same hO⟩
