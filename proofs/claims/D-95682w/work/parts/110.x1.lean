set_option maxHeartbeats 400000 in
set_option maxRecDepth 100000 in
theorem cx_thr_fn (l : Launch) (κ : Nat → Nat) (O : gO) (a : Nat) (hO : O a = some (.inr (4, [.null, .null, .null, .null, .null, .int 0, .int 0], aNo))) : oM l κ yJ3_init_2 cJ3_init_2 5 none ({ frames := 1, cells := 0, slots := 0, locals := 12 }) [.ref a, .null, .null, .int 0, .int 0] O (fun rv O1 => O1 = O ∧ rv = none) := by
  intro D ac A
  refine o_body (own := RJ3) rfl (by decide +kernel) (Nat.le_of_ble_eq_true rfl) ?_
  intro p e s m args below meth c ls hC hr hlocks hK hM hl hnamed hmeth
  have hl : lv_has ls 5 [(0, .ref a), (1, .null), (2, .null), (3, .int 0), (4, .int 0)] := hl
  have hnm : meth.name = "<init>" := (name_of_methodNamed hnamed hmeth).1
  have hM := PS.of hM [(a, .inr (4, [.null, .null, .null, .null, .null, .int 0, .int 0], aNo))] ⟨hO, trivial⟩ (by simp [oad])
  obtain ⟨xu, hxu, hzu⟩ := hK.2.2.2.2.1.1.val
  obtain ⟨xs, hxs, hzs⟩ := hK.2.2.2.2.1.2.val
  refine lv_aload_n hC.1 hC.2.1 dJ3_init_2_0 rfl (lv_at hl 0 rfl) ?_
  refine W.objInit hC.1 hC.2.1 hC.2.2.2.1 (hC.2.2.2.2 _ q295) (hC.2.2.2.2 _ q104) (hC.2.2.2.2 _ q105) rfl (by rw [hC.2.2.1]; exact hl.1) rfl dJ3_init_2_1 (Nat.le_of_ble_eq_true rfl) (Nat.le_of_ble_eq_true rfl) ?_
  refine W.eq (g2 := F0 m 4 ls []) rfl ?_
  refine lv_aload_n hC.1 hC.2.1 dJ3_init_2_4 rfl (lv_at hl 0 rfl) ?_
  refine lv_aload_n hC.1 hC.2.1 dJ3_init_2_5 rfl (lv_at hl 0 rfl) ?_
  refine p_putR (L' := [_]) hC hK hM 0 rfl in_X4 tyX4 tyX4_ok nmX4 rfl 0 (by decide) q325 (fun x h => h) rfl rfl rfl (Nat.le_of_ble_eq_true rfl) rfl (u' := .inr (4, [_, _, _, _, _, _, _], _)) rfl rfl dJ3_init_2_6 (fun H locs hM => ?_)
  refine lv_aload_n hC.1 hC.2.1 dJ3_init_2_9 rfl (lv_at hl 0 rfl) ?_
  refine va_gets hC.1 hC.2.1 hzu hM.s hC.2.2.2.1 (hC.2.2.2.2 _ q296) (fun x h => h) dJ3_init_2_10 ?_
  refine p_putR (L' := [_]) hC hK hM 0 rfl in_X4 tyX4 tyX4_ok nmX4 rfl 1 (by decide) q326 (fun x h => h) rfl (by rcases hxu with h | ⟨t, h⟩ <;> rw [h] <;> rfl) (by rcases hxu with h | ⟨t, h⟩ <;> rw [h] <;> rfl) (Nat.le_of_ble_eq_true rfl) rfl (u' := .inr (4, [_, _, _, _, _, _, _], _)) rfl rfl dJ3_init_2_13 (fun H locs hM => ?_)
  refine lv_aload_n hC.1 hC.2.1 dJ3_init_2_16 rfl (lv_at hl 0 rfl) ?_
  refine va_gets hC.1 hC.2.1 hzs hM.s hC.2.2.2.1 (hC.2.2.2.2 _ q298) (fun x h => h) dJ3_init_2_17 ?_
  refine p_putR (L' := [_]) hC hK hM 0 rfl in_X4 tyX4 tyX4_ok nmX4 rfl 2 (by decide) q327 (fun x h => h) rfl (by rcases hxs with h | ⟨t, h⟩ <;> rw [h] <;> rfl) (by rcases hxs with h | ⟨t, h⟩ <;> rw [h] <;> rfl) (Nat.le_of_ble_eq_true rfl) rfl (u' := .inr (4, [_, _, _, _, _, _, _], _)) rfl rfl dJ3_init_2_20 (fun H locs hM => ?_)
  refine lv_iload hC.1 hC.2.1 dJ3_init_2_23 (lv_at hl 4 rfl) ?_
  refine lv_if_eq (tgt := 36) hC.1 hC.2.1 dJ3_init_2_25 (by decide) (fun c1 => ?_) (fun c1 => ?_)
  ·
    skip
    refine lv_aload_n hC.1 hC.2.1 dJ3_init_2_36 rfl (lv_at hl 0 rfl) ?_
    refine lv_null hC.1 hC.2.1 dJ3_init_2_37 ?_
    refine p_putR (L' := [_]) hC hK hM 0 rfl in_X4 tyX4 tyX4_ok nmX4 rfl 1 (by decide) q326 (fun x h => h) rfl rfl rfl (Nat.le_of_ble_eq_true rfl) rfl (u' := .inr (4, [_, _, _, _, _, _, _], _)) rfl rfl dJ3_init_2_38 (fun H locs hM => ?_)
    refine lv_aload_n hC.1 hC.2.1 dJ3_init_2_41 rfl (lv_at hl 0 rfl) ?_
    refine lv_aload_nN hC.1 hC.2.1 dJ3_init_2_42 rfl (lv_at hl 1 rfl) ?_
    refine p_putR (L' := [_]) hC hK hM 0 rfl in_X4 tyX4 tyX4_ok nmX4 rfl 3 (by decide) q324 (fun x h => h) rfl rfl rfl (Nat.le_of_ble_eq_true rfl) rfl (u' := .inr (4, [_, _, _, _, _, _, _], _)) rfl rfl dJ3_init_2_43 (fun H locs hM => ?_)
    refine lv_aload_n hC.1 hC.2.1 dJ3_init_2_46 rfl (lv_at hl 0 rfl) ?_
    refine lv_aload_nN hC.1 hC.2.1 dJ3_init_2_47 rfl (lv_at hl 2 rfl) ?_
    refine p_putR (L' := [_]) hC hK hM 0 rfl in_X4 tyX4 tyX4_ok nmX4 rfl 0 (by decide) q325 (fun x h => h) rfl rfl rfl (Nat.le_of_ble_eq_true rfl) rfl (u' := .inr (4, [_, _, _, _, _, _, _], _)) rfl rfl dJ3_init_2_48 (fun H locs hM => ?_)
    refine lv_iload_n hC.1 hC.2.1 dJ3_init_2_51 rfl (lv_at hl 3 rfl) ?_
    refine lv_if_ne (tgt := 60) hC.1 hC.2.1 dJ3_init_2_52 (by decide) (fun c2 => ?_) (fun c2 => ?_)
    ·
      skip
      exact absurd rfl c2
    ·
      skip
      refine lv_aload_n hC.1 hC.2.1 dJ3_init_2_55 rfl (lv_at hl 0 rfl) ?_
      refine lv_null hC.1 hC.2.1 dJ3_init_2_56 ?_
      refine p_putR (L' := [_]) hC hK hM 0 rfl in_X4 tyX4 tyX4_ok nmX4 rfl 2 (by decide) q327 (fun x h => h) rfl rfl rfl (Nat.le_of_ble_eq_true rfl) rfl (u' := .inr (4, [_, _, _, _, _, _, _], _)) rfl rfl dJ3_init_2_57 (fun H locs hM => ?_)
      skip
      refine p_vret hC hr hlocks hM dJ3_init_2_60 ?_
      exact ⟨oup_same hO, rfl⟩
  ·
    skip
    exact absurd rfl c1

set_option maxHeartbeats 400000 in
set_option maxRecDepth 100000 in
theorem cx_exc_fn (l : Launch) (κ : Nat → Nat) (O : gO) (a : Nat) (hO : O a = some (.inr (4, [.null, .null, .null, .null, .null, .int 0, .int 0], aNo))) : oM l κ yJ4_init cJ4_init 5 none ({ frames := 2, cells := 0, slots := 0, locals := 36 }) [.ref a, .null, .null, .int 0, .int 0] O (fun rv O1 => O1 = O ∧ rv = none) := by
  intro D ac A
  refine o_body (own := RJ4) rfl (by decide +kernel) (Nat.le_of_ble_eq_true rfl) ?_
  intro p e s m args below meth c ls hC hr hlocks hK hM hl hnamed hmeth
  have hl : lv_has ls 5 [(0, .ref a), (1, .null), (2, .null), (3, .int 0), (4, .int 0)] := hl
  have hnm : meth.name = "<init>" := (name_of_methodNamed hnamed hmeth).1
  have hM := PS.of hM [(a, .inr (4, [.null, .null, .null, .null, .null, .int 0, .int 0], aNo))] ⟨hO, trivial⟩ (by simp [oad])
  refine lv_aload_n hC.1 hC.2.1 dJ4_init_0 rfl (lv_at hl 0 rfl) ?_
  refine lv_aload_nN hC.1 hC.2.1 dJ4_init_1 rfl (lv_at hl 1 rfl) ?_
  refine lv_aload_nN hC.1 hC.2.1 dJ4_init_2 rfl (lv_at hl 2 rfl) ?_
  refine lv_iload_n hC.1 hC.2.1 dJ4_init_3 rfl (lv_at hl 3 rfl) ?_
  refine lv_iload hC.1 hC.2.1 dJ4_init_4 (lv_at hl 4 rfl) ?_
  refine p_cIv (L' := [_]) hC hK hM (cx_thr_fn l κ _ a (hM.at 0 rfl)) (cwI 4 hC.2.2.2.2 (lw_meth q320) rfl rfl rfl (hC.2.2.2.2 _ q70) (hC.2.2.2.2 _ q318) (hC.2.2.2.2 _ q319) rfl (by decide +kernel) ⟨(Nat.le_of_ble_eq_true rfl), (Nat.le_of_ble_eq_true rfl)⟩) rfl hl.1 rfl (lv_room (Nat.le_of_ble_eq_true rfl)) dJ4_init_6 ⟨(Nat.le_of_ble_eq_true rfl), (Nat.le_of_ble_eq_true rfl)⟩ rfl hM.2 (fun H locs hM => ?_)
  skip
  refine p_vret hC hr hlocks hM dJ4_init_9 ?_
  exact ⟨oup_same hO, rfl⟩

set_option maxHeartbeats 400000 in
set_option maxRecDepth 100000 in
theorem cx_fn (l : Launch) (κ : Nat → Nat) (O : gO) (a : Nat) (x : Int32) (hO : O a = some (.inr (4, [.null, .null, .null, .null, .null, .int 0, .int 0], aNo))) : oM l κ yX4_init cX4_init 2 none ({ frames := 3, cells := 0, slots := 0, locals := 60 }) [.ref a, .int x] O (fun rv O1 => O1 = oup O a (fnU x) ∧ rv = none) := by
  intro D ac A
  refine o_body (own := RX4) rfl (plainFor_of_name (by decide)) (Nat.le_of_ble_eq_true rfl) ?_
  intro p e s m args below meth c ls hC hr hlocks hK hM hl hnamed hmeth
  have hl : lv_has ls 2 [(0, .ref a), (1, .int x)] := hl
  have hnm : meth.name = "<init>" := (name_of_methodNamed hnamed hmeth).1
  have hM := PS.of hM [(a, .inr (4, [.null, .null, .null, .null, .null, .int 0, .int 0], aNo))] ⟨hO, trivial⟩ (by simp [oad])
  refine lv_aload_n hC.1 hC.2.1 dX4_init_0 rfl (lv_at hl 0 rfl) ?_
  refine lv_null hC.1 hC.2.1 dX4_init_1 ?_
  refine lv_null hC.1 hC.2.1 dX4_init_2 ?_
  refine lv_iconst (v := 0) hC.1 hC.2.1 dX4_init_3 (by decide) ?_
  refine lv_iconst (v := 0) hC.1 hC.2.1 dX4_init_4 (by decide) ?_
  refine p_cIv (L' := [_]) hC hK hM (cx_exc_fn l κ _ a (hM.at 0 rfl)) (cwI 4 hC.2.2.2.2 (lw_meth q317) rfl rfl rfl (hC.2.2.2.2 _ q71) (hC.2.2.2.2 _ q315) (hC.2.2.2.2 _ q316) rfl (by decide +kernel) ⟨(Nat.le_of_ble_eq_true rfl), (Nat.le_of_ble_eq_true rfl)⟩) rfl hl.1 rfl (lv_room (Nat.le_of_ble_eq_true rfl)) dX4_init_5 ⟨(Nat.le_of_ble_eq_true rfl), (Nat.le_of_ble_eq_true rfl)⟩ rfl hM.2 (fun H locs hM => ?_)
  refine lv_aload_n hC.1 hC.2.1 dX4_init_8 rfl (lv_at hl 0 rfl) ?_
  refine lv_iload_n hC.1 hC.2.1 dX4_init_9 rfl (lv_at hl 1 rfl) ?_
  refine p_putFR (L' := [_]) hC hK hM 0 rfl in_X4 tyX4 tyX4_ok nmX4 rfl 6 (by decide) q321 (fun x h => h) rfl hnm rfl rfl rfl (Nat.le_of_ble_eq_true rfl) rfl (u' := .inr (4, [_, _, _, _, _, _, _], _)) rfl rfl dX4_init_10 (fun H locs hM => ?_)
  skip
  refine p_vret hC hr hlocks hM dX4_init_13 ?_
  exact ⟨rfl, rfl⟩

set_option maxHeartbeats 400000 in
set_option maxRecDepth 100000 in
theorem cx_thr_ft (l : Launch) (κ : Nat → Nat) (O : gO) (a : Nat) (hO : O a = some (.inr (7, [.null, .null, .null, .null, .null, .int 0, .int 0, .int 0], aNo))) : oM l κ yJ3_init_2 cJ3_init_2 5 none ({ frames := 1, cells := 0, slots := 0, locals := 12 }) [.ref a, .null, .null, .int 0, .int 0] O (fun rv O1 => O1 = O ∧ rv = none) := by
  intro D ac A
  refine o_body (own := RJ3) rfl (by decide +kernel) (Nat.le_of_ble_eq_true rfl) ?_
  intro p e s m args below meth c ls hC hr hlocks hK hM hl hnamed hmeth
  have hl : lv_has ls 5 [(0, .ref a), (1, .null), (2, .null), (3, .int 0), (4, .int 0)] := hl
  have hnm : meth.name = "<init>" := (name_of_methodNamed hnamed hmeth).1
  have hM := PS.of hM [(a, .inr (7, [.null, .null, .null, .null, .null, .int 0, .int 0, .int 0], aNo))] ⟨hO, trivial⟩ (by simp [oad])
  obtain ⟨xu, hxu, hzu⟩ := hK.2.2.2.2.1.1.val
  obtain ⟨xs, hxs, hzs⟩ := hK.2.2.2.2.1.2.val
  refine lv_aload_n hC.1 hC.2.1 dJ3_init_2_0 rfl (lv_at hl 0 rfl) ?_
  refine W.objInit hC.1 hC.2.1 hC.2.2.2.1 (hC.2.2.2.2 _ q295) (hC.2.2.2.2 _ q104) (hC.2.2.2.2 _ q105) rfl (by rw [hC.2.2.1]; exact hl.1) rfl dJ3_init_2_1 (Nat.le_of_ble_eq_true rfl) (Nat.le_of_ble_eq_true rfl) ?_
  refine W.eq (g2 := F0 m 4 ls []) rfl ?_
  refine lv_aload_n hC.1 hC.2.1 dJ3_init_2_4 rfl (lv_at hl 0 rfl) ?_
  refine lv_aload_n hC.1 hC.2.1 dJ3_init_2_5 rfl (lv_at hl 0 rfl) ?_
  refine p_putR (L' := [_]) hC hK hM 0 rfl in_X7 tyX7 tyX7_ok nmX7 rfl 0 (by decide) q325 (fun x h => h) rfl rfl rfl (Nat.le_of_ble_eq_true rfl) rfl (u' := .inr (7, [_, _, _, _, _, _, _, _], _)) rfl rfl dJ3_init_2_6 (fun H locs hM => ?_)
  refine lv_aload_n hC.1 hC.2.1 dJ3_init_2_9 rfl (lv_at hl 0 rfl) ?_
  refine va_gets hC.1 hC.2.1 hzu hM.s hC.2.2.2.1 (hC.2.2.2.2 _ q296) (fun x h => h) dJ3_init_2_10 ?_
  refine p_putR (L' := [_]) hC hK hM 0 rfl in_X7 tyX7 tyX7_ok nmX7 rfl 1 (by decide) q326 (fun x h => h) rfl (by rcases hxu with h | ⟨t, h⟩ <;> rw [h] <;> rfl) (by rcases hxu with h | ⟨t, h⟩ <;> rw [h] <;> rfl) (Nat.le_of_ble_eq_true rfl) rfl (u' := .inr (7, [_, _, _, _, _, _, _, _], _)) rfl rfl dJ3_init_2_13 (fun H locs hM => ?_)
  refine lv_aload_n hC.1 hC.2.1 dJ3_init_2_16 rfl (lv_at hl 0 rfl) ?_
  refine va_gets hC.1 hC.2.1 hzs hM.s hC.2.2.2.1 (hC.2.2.2.2 _ q298) (fun x h => h) dJ3_init_2_17 ?_
  refine p_putR (L' := [_]) hC hK hM 0 rfl in_X7 tyX7 tyX7_ok nmX7 rfl 2 (by decide) q327 (fun x h => h) rfl (by rcases hxs with h | ⟨t, h⟩ <;> rw [h] <;> rfl) (by rcases hxs with h | ⟨t, h⟩ <;> rw [h] <;> rfl) (Nat.le_of_ble_eq_true rfl) rfl (u' := .inr (7, [_, _, _, _, _, _, _, _], _)) rfl rfl dJ3_init_2_20 (fun H locs hM => ?_)
  refine lv_iload hC.1 hC.2.1 dJ3_init_2_23 (lv_at hl 4 rfl) ?_
  refine lv_if_eq (tgt := 36) hC.1 hC.2.1 dJ3_init_2_25 (by decide) (fun c1 => ?_) (fun c1 => ?_)
  ·
    skip
    refine lv_aload_n hC.1 hC.2.1 dJ3_init_2_36 rfl (lv_at hl 0 rfl) ?_
    refine lv_null hC.1 hC.2.1 dJ3_init_2_37 ?_
    refine p_putR (L' := [_]) hC hK hM 0 rfl in_X7 tyX7 tyX7_ok nmX7 rfl 1 (by decide) q326 (fun x h => h) rfl rfl rfl (Nat.le_of_ble_eq_true rfl) rfl (u' := .inr (7, [_, _, _, _, _, _, _, _], _)) rfl rfl dJ3_init_2_38 (fun H locs hM => ?_)
    refine lv_aload_n hC.1 hC.2.1 dJ3_init_2_41 rfl (lv_at hl 0 rfl) ?_
    refine lv_aload_nN hC.1 hC.2.1 dJ3_init_2_42 rfl (lv_at hl 1 rfl) ?_
    refine p_putR (L' := [_]) hC hK hM 0 rfl in_X7 tyX7 tyX7_ok nmX7 rfl 3 (by decide) q324 (fun x h => h) rfl rfl rfl (Nat.le_of_ble_eq_true rfl) rfl (u' := .inr (7, [_, _, _, _, _, _, _, _], _)) rfl rfl dJ3_init_2_43 (fun H locs hM => ?_)
    refine lv_aload_n hC.1 hC.2.1 dJ3_init_2_46 rfl (lv_at hl 0 rfl) ?_
    refine lv_aload_nN hC.1 hC.2.1 dJ3_init_2_47 rfl (lv_at hl 2 rfl) ?_
    refine p_putR (L' := [_]) hC hK hM 0 rfl in_X7 tyX7 tyX7_ok nmX7 rfl 0 (by decide) q325 (fun x h => h) rfl rfl rfl (Nat.le_of_ble_eq_true rfl) rfl (u' := .inr (7, [_, _, _, _, _, _, _, _], _)) rfl rfl dJ3_init_2_48 (fun H locs hM => ?_)
    refine lv_iload_n hC.1 hC.2.1 dJ3_init_2_51 rfl (lv_at hl 3 rfl) ?_
    refine lv_if_ne (tgt := 60) hC.1 hC.2.1 dJ3_init_2_52 (by decide) (fun c2 => ?_) (fun c2 => ?_)
    ·
      skip
      exact absurd rfl c2
    ·
      skip
      refine lv_aload_n hC.1 hC.2.1 dJ3_init_2_55 rfl (lv_at hl 0 rfl) ?_
      refine lv_null hC.1 hC.2.1 dJ3_init_2_56 ?_
      refine p_putR (L' := [_]) hC hK hM 0 rfl in_X7 tyX7 tyX7_ok nmX7 rfl 2 (by decide) q327 (fun x h => h) rfl rfl rfl (Nat.le_of_ble_eq_true rfl) rfl (u' := .inr (7, [_, _, _, _, _, _, _, _], _)) rfl rfl dJ3_init_2_57 (fun H locs hM => ?_)
      skip
      refine p_vret hC hr hlocks hM dJ3_init_2_60 ?_
      exact ⟨oup_same hO, rfl⟩
  ·
    skip
    exact absurd rfl c1

set_option maxHeartbeats 400000 in
set_option maxRecDepth 100000 in
theorem cx_exc_ft (l : Launch) (κ : Nat → Nat) (O : gO) (a : Nat) (hO : O a = some (.inr (7, [.null, .null, .null, .null, .null, .int 0, .int 0, .int 0], aNo))) : oM l κ yJ4_init cJ4_init 5 none ({ frames := 2, cells := 0, slots := 0, locals := 36 }) [.ref a, .null, .null, .int 0, .int 0] O (fun rv O1 => O1 = O ∧ rv = none) := by
  intro D ac A
  refine o_body (own := RJ4) rfl (by decide +kernel) (Nat.le_of_ble_eq_true rfl) ?_
  intro p e s m args below meth c ls hC hr hlocks hK hM hl hnamed hmeth
  have hl : lv_has ls 5 [(0, .ref a), (1, .null), (2, .null), (3, .int 0), (4, .int 0)] := hl
  have hnm : meth.name = "<init>" := (name_of_methodNamed hnamed hmeth).1
  have hM := PS.of hM [(a, .inr (7, [.null, .null, .null, .null, .null, .int 0, .int 0, .int 0], aNo))] ⟨hO, trivial⟩ (by simp [oad])
  refine lv_aload_n hC.1 hC.2.1 dJ4_init_0 rfl (lv_at hl 0 rfl) ?_
  refine lv_aload_nN hC.1 hC.2.1 dJ4_init_1 rfl (lv_at hl 1 rfl) ?_
  refine lv_aload_nN hC.1 hC.2.1 dJ4_init_2 rfl (lv_at hl 2 rfl) ?_
  refine lv_iload_n hC.1 hC.2.1 dJ4_init_3 rfl (lv_at hl 3 rfl) ?_
  refine lv_iload hC.1 hC.2.1 dJ4_init_4 (lv_at hl 4 rfl) ?_
  refine p_cIv (L' := [_]) hC hK hM (cx_thr_ft l κ _ a (hM.at 0 rfl)) (cwI 4 hC.2.2.2.2 (lw_meth q320) rfl rfl rfl (hC.2.2.2.2 _ q70) (hC.2.2.2.2 _ q318) (hC.2.2.2.2 _ q319) rfl (by decide +kernel) ⟨(Nat.le_of_ble_eq_true rfl), (Nat.le_of_ble_eq_true rfl)⟩) rfl hl.1 rfl (lv_room (Nat.le_of_ble_eq_true rfl)) dJ4_init_6 ⟨(Nat.le_of_ble_eq_true rfl), (Nat.le_of_ble_eq_true rfl)⟩ rfl hM.2 (fun H locs hM => ?_)
  skip
  refine p_vret hC hr hlocks hM dJ4_init_9 ?_
  exact ⟨oup_same hO, rfl⟩

set_option maxHeartbeats 400000 in
set_option maxRecDepth 100000 in
theorem cx_ft (l : Launch) (κ : Nat → Nat) (O : gO) (a : Nat) (k x : Int32) (hO : O a = some (.inr (7, [.null, .null, .null, .null, .null, .int 0, .int 0, .int 0], aNo))) : oM l κ yX7_init cX7_init 3 none ({ frames := 3, cells := 0, slots := 0, locals := 60 }) [.ref a, .int k, .int x] O (fun rv O1 => O1 = oup O a (ftU k x) ∧ rv = none) := by
  intro D ac A
  refine o_body (own := RX7) rfl (plainFor_of_name (by decide)) (Nat.le_of_ble_eq_true rfl) ?_
  intro p e s m args below meth c ls hC hr hlocks hK hM hl hnamed hmeth
  have hl : lv_has ls 3 [(0, .ref a), (1, .int k), (2, .int x)] := hl
  have hnm : meth.name = "<init>" := (name_of_methodNamed hnamed hmeth).1
  have hM := PS.of hM [(a, .inr (7, [.null, .null, .null, .null, .null, .int 0, .int 0, .int 0], aNo))] ⟨hO, trivial⟩ (by simp [oad])
  refine lv_aload_n hC.1 hC.2.1 dX7_init_0 rfl (lv_at hl 0 rfl) ?_
  refine lv_null hC.1 hC.2.1 dX7_init_1 ?_
  refine lv_null hC.1 hC.2.1 dX7_init_2 ?_
  refine lv_iconst (v := 0) hC.1 hC.2.1 dX7_init_3 (by decide) ?_
  refine lv_iconst (v := 0) hC.1 hC.2.1 dX7_init_4 (by decide) ?_
  refine p_cIv (L' := [_]) hC hK hM (cx_exc_ft l κ _ a (hM.at 0 rfl)) (cwI 4 hC.2.2.2.2 (lw_meth q317) rfl rfl rfl (hC.2.2.2.2 _ q71) (hC.2.2.2.2 _ q691) (hC.2.2.2.2 _ q316) rfl (by decide +kernel) ⟨(Nat.le_of_ble_eq_true rfl), (Nat.le_of_ble_eq_true rfl)⟩) rfl hl.1 rfl (lv_room (Nat.le_of_ble_eq_true rfl)) dX7_init_5 ⟨(Nat.le_of_ble_eq_true rfl), (Nat.le_of_ble_eq_true rfl)⟩ rfl hM.2 (fun H locs hM => ?_)
  refine lv_aload_n hC.1 hC.2.1 dX7_init_8 rfl (lv_at hl 0 rfl) ?_
  refine lv_iload_n hC.1 hC.2.1 dX7_init_9 rfl (lv_at hl 1 rfl) ?_
  refine p_putFR (L' := [_]) hC hK hM 0 rfl in_X7 tyX7 tyX7_ok nmX7 rfl 6 (by decide) q692 (fun x h => h) rfl hnm rfl rfl rfl (Nat.le_of_ble_eq_true rfl) rfl (u' := .inr (7, [_, _, _, _, _, _, _, _], _)) rfl rfl dX7_init_10 (fun H locs hM => ?_)
  refine lv_aload_n hC.1 hC.2.1 dX7_init_13 rfl (lv_at hl 0 rfl) ?_
  refine lv_iload_n hC.1 hC.2.1 dX7_init_14 rfl (lv_at hl 2 rfl) ?_
  refine p_putFR (L' := [_]) hC hK hM 0 rfl in_X7 tyX7 tyX7_ok nmX7 rfl 7 (by decide) q694 (fun x h => h) rfl hnm rfl rfl rfl (Nat.le_of_ble_eq_true rfl) rfl (u' := .inr (7, [_, _, _, _, _, _, _, _], _)) rfl rfl dX7_init_15 (fun H locs hM => ?_)
  skip
  refine p_vret hC hr hlocks hM dX7_init_18 ?_
  exact ⟨rfl, rfl⟩

set_option maxHeartbeats 400000 in
set_option maxRecDepth 100000 in
theorem cn_must (l : Launch) (κ : Nat → Nat) (O : gO) (b x : Int32) (hb : ¬ b = 0) : oM l κ yX0_must cX0_must 2 none ({ frames := 0, cells := 0, slots := 0, locals := 0 }) [.int b, .int x] O (fun rv O1 => O1 = O ∧ rv = none) := by
  intro D ac A
  refine o_body (own := RX0) rfl (plainFor_of_name (by decide)) (Nat.le_of_ble_eq_true rfl) ?_
  intro p e s m args below meth c ls hC hr hlocks hK hM hl hnamed hmeth
  have hl : lv_has ls 2 [(0, .int b), (1, .int x)] := hl
  have hM := PS.of hM [] trivial (by simp [oad])
  refine lv_iload_n hC.1 hC.2.1 dX0_must_0 rfl (lv_at hl 0 rfl) ?_
  refine lv_if_ne (tgt := 13) hC.1 hC.2.1 dX0_must_1 (by decide) (fun c1 => ?_) (fun c1 => ?_)
  ·
    skip
    skip
    refine p_vret hC hr hlocks hM dX0_must_13 ?_
    exact ⟨rfl, rfl⟩
  ·
    skip
    exact absurd c1 hb

set_option maxHeartbeats 400000 in
set_option maxRecDepth 100000 in
theorem cn_mustT (l : Launch) (κ : Nat → Nat) (O : gO) (x : Int32) : oT l κ yX0_must cX0_must 2 none ({ frames := 4, cells := 1, slots := 7, locals := 81 }) [.int 0, .int x] O (fun z O1 => O z = none ∧ O1 = oup O z (fnU x)) := by
  intro D ac A
  refine o_bodyT (own := RX0) rfl (by decide) (Nat.le_of_ble_eq_true rfl) ?_
  intro p e s m args below meth c ls hC hem hlocks hK hM hl
  have hl : lv_has ls 2 [(0, .int 0), (1, .int x)] := hl
  have hM := PS.of hM [] trivial (by simp [oad])
  refine lv_iload_n hC.1 hC.2.1 dX0_must_0 rfl (lv_at hl 0 rfl) ?_
  refine lv_if_ne (tgt := 13) hC.1 hC.2.1 dX0_must_1 (by decide) (fun c1 => ?_) (fun c1 => ?_)
  ·
    skip
    exact absurd rfl c1
  ·
    skip
    refine p_new (L' := fun q => [_]) hC hK hM (ci := 4) in_X4 tyX4 tyX4_ok q260 q273 q72 rfl (fs := [.null, .null, .null, .null, .null, .int 0, .int 0]) (by decide) (Nat.le_of_ble_eq_true rfl) (Nat.le_of_ble_eq_true rfl) dX0_must_4 (fun q => rfl) (fun q_2 H hq_2 hM => ?_)
    refine lv_dup hC.1 hC.2.1 dX0_must_7 rfl ?_
    refine lv_iload_n hC.1 hC.2.1 dX0_must_8 rfl (lv_at hl 1 rfl) ?_
    refine p_cIv (L' := [_]) hC hK hM (cx_fn l κ _ q_2 x (hM.at 0 rfl)) (cwI 1 hC.2.2.2.2 (lw_meth q314) rfl rfl rfl (hC.2.2.2.2 _ q72) (hC.2.2.2.2 _ q312) (hC.2.2.2.2 _ q313) rfl (by decide +kernel) ⟨(Nat.le_of_ble_eq_true rfl), (Nat.le_of_ble_eq_true rfl)⟩) rfl hl.1 rfl (lv_room (Nat.le_of_ble_eq_true rfl)) dX0_must_9 ⟨(Nat.le_of_ble_eq_true rfl), (Nat.le_of_ble_eq_true rfl)⟩ (oups_set hM.2 (i := 0) rfl) (oad_nd hM.2 (i := 0) rfl rfl) (fun H locs hM => ?_)
    refine W.widen (k := 1) (n := 7) (Nat.le_of_ble_eq_true rfl) (Nat.le_of_ble_eq_true rfl) ?_
    refine p_thr hC hem hlocks hM dX0_must_12 ?_
    exact ⟨hq_2, rfl⟩
