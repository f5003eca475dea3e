set_option maxHeartbeats 400000 in
set_option maxRecDepth 100000 in
theorem mc_isStone (l : Launch) (v : Nat → Int32) (w : Nat → Nat → Int32) (x : Int32) : mRi l yX3_isStone cX3_isStone 2 (some .boolean) ({ frames := 1, cells := 0, slots := 0, locals := 25 }) [.int x] v w (bI (0 ≤ x ∧ x ≤ w 5 4 - 1)) := by
  intro D ac A G mo ad
  refine m_bodyR rfl (Nat.le_of_ble_eq_true rfl) ?_
  intro p e s m args below meth c ls hC hr hlocks hK hM hl
  have hl : lv_has ls 2 [(0, .ref mo), (1, .int x)] := hl
  refine lv_iload_n hC.1 hC.2.1 dX3_isStone_0 rfl (lv_at hl 1 rfl) ?_
  refine lv_i2l hC.1 hC.2.1 dX3_isStone_1 rfl ?_
  refine lv_lconst (v := 0) hC.1 hC.2.1 dX3_isStone_2 (by decide) ?_
  refine lv_aload_n hC.1 hC.2.1 dX3_isStone_3 rfl (lv_at hl 0 rfl) ?_
  refine m_get hC hK hM 5 (by decide) q1267 rfl rfl dX3_isStone_4 ?_
  refine lv_iconst (v := 4) hC.1 hC.2.1 dX3_isStone_7 (by decide) ?_
  refine m_iald hC hK hM 5 rfl (n := 4) (by first | rfl | (simp only [← nI_add, ← pk_mul]; rfl)) (by first | decide | (show _ < 94; omega)) dX3_isStone_8 ?_
  refine lv_iconst (v := 1) hC.1 hC.2.1 dX3_isStone_9 (by decide) ?_
  refine lv_isub hC.1 hC.2.1 dX3_isStone_10 ?_
  refine lv_i2l hC.1 hC.2.1 dX3_isStone_11 rfl ?_
  refine s_ci hC ((mc_in l (a := 0) (b := _) rfl rfl rfl)) (cw_ms 3 hC.2.2.2.2 q1350 q1351 q1352 ⟨rfl, rfl⟩ rfl (by decide +kernel) ⟨Nat.le_of_ble_eq_true rfl, Nat.le_of_ble_eq_true rfl⟩) rfl hl.1 rfl (lv_room (Nat.le_of_ble_eq_true rfl)) dX3_isStone_12 ⟨Nat.le_of_ble_eq_true rfl, Nat.le_of_ble_eq_true rfl⟩ ?_
  refine s_zret hC hr hlocks (by first | exact bI_01 _ | exact Or.inl rfl | exact Or.inr rfl) dX3_isStone_15 ?_
  rfl

set_option maxHeartbeats 400000 in
set_option maxRecDepth 100000 in
theorem mc_isMover (l : Launch) (v : Nat → Int32) (w : Nat → Nat → Int32) (x : Int32) : mRi l yX3_isMover cX3_isMover 2 (some .boolean) ({ frames := 1, cells := 0, slots := 0, locals := 25 }) [.int x] v w (bI (0 ≤ x ∧ x ≤ w 5 5 - 1)) := by
  intro D ac A G mo ad
  refine m_bodyR rfl (Nat.le_of_ble_eq_true rfl) ?_
  intro p e s m args below meth c ls hC hr hlocks hK hM hl
  have hl : lv_has ls 2 [(0, .ref mo), (1, .int x)] := hl
  refine lv_iload_n hC.1 hC.2.1 dX3_isMover_0 rfl (lv_at hl 1 rfl) ?_
  refine lv_i2l hC.1 hC.2.1 dX3_isMover_1 rfl ?_
  refine lv_lconst (v := 0) hC.1 hC.2.1 dX3_isMover_2 (by decide) ?_
  refine lv_aload_n hC.1 hC.2.1 dX3_isMover_3 rfl (lv_at hl 0 rfl) ?_
  refine m_get hC hK hM 5 (by decide) q1267 rfl rfl dX3_isMover_4 ?_
  refine lv_iconst (v := 5) hC.1 hC.2.1 dX3_isMover_7 (by decide) ?_
  refine m_iald hC hK hM 5 rfl (n := 5) (by first | rfl | (simp only [← nI_add, ← pk_mul]; rfl)) (by first | decide | (show _ < 94; omega)) dX3_isMover_8 ?_
  refine lv_iconst (v := 1) hC.1 hC.2.1 dX3_isMover_9 (by decide) ?_
  refine lv_isub hC.1 hC.2.1 dX3_isMover_10 ?_
  refine lv_i2l hC.1 hC.2.1 dX3_isMover_11 rfl ?_
  refine s_ci hC ((mc_in l (a := 0) (b := _) rfl rfl rfl)) (cw_ms 3 hC.2.2.2.2 q1350 q1351 q1352 ⟨rfl, rfl⟩ rfl (by decide +kernel) ⟨Nat.le_of_ble_eq_true rfl, Nat.le_of_ble_eq_true rfl⟩) rfl hl.1 rfl (lv_room (Nat.le_of_ble_eq_true rfl)) dX3_isMover_12 ⟨Nat.le_of_ble_eq_true rfl, Nat.le_of_ble_eq_true rfl⟩ ?_
  refine s_zret hC hr hlocks (by first | exact bI_01 _ | exact Or.inl rfl | exact Or.inr rfl) dX3_isMover_15 ?_
  rfl

set_option maxHeartbeats 400000 in
set_option maxRecDepth 100000 in
theorem mc_stone (l : Launch) (v : Nat → Int32) (w : Nat → Nat → Int32) (x f : Int32) (n mv tm : Nat) (hd : rdN w n mv tm) : mMi l yX3_stone cX3_stone 3 (some .int) ({ frames := 2, cells := 0, slots := 0, locals := 46 }) [.int x, .int f] v w (fun r v1 w1 => (r, v1, w1) = op_stone v w x f) := by
  intro D ac A G mo ad
  refine m_body rfl (Nat.le_of_ble_eq_true rfl) ?_
  intro p e s m args below meth c ls hC hr hlocks hK hM hl
  have hl : lv_has ls 3 [(0, .ref mo), (1, .int x), (2, .int f)] := hl
  obtain ⟨en, hn, em, hm, et, ht⟩ := hd
  refine lv_aload_n hC.1 hC.2.1 dX3_stone_0 rfl (lv_at hl 0 rfl) ?_
  refine lv_iconst (v := 0) hC.1 hC.2.1 dX3_stone_1 (by decide) ?_
  refine m_put hC hK hM 0 (by decide) q1262 rfl rfl rfl rfl dX3_stone_2 (fun H locs hM => ?_)
  refine lv_aload_n hC.1 hC.2.1 dX3_stone_5 rfl (lv_at hl 0 rfl) ?_
  refine lv_iload_n hC.1 hC.2.1 dX3_stone_6 rfl (lv_at hl 1 rfl) ?_
  refine m_cr hC hK hM (mc_isStone l _ _ _) (cw_m 1 hC.2.2.2.2 q1495 q1497 qs47 q1498 ⟨rfl, rfl⟩ rfl (by decide +kernel) ⟨Nat.le_of_ble_eq_true rfl, Nat.le_of_ble_eq_true rfl⟩) rfl hl.1 rfl (lv_room (Nat.le_of_ble_eq_true rfl)) dX3_stone_7 ⟨Nat.le_of_ble_eq_true rfl, Nat.le_of_ble_eq_true rfl⟩ ?_
  refine lv_if_eq (tgt := 34) hC.1 hC.2.1 dX3_stone_10 (by decide) (fun c2 => ?_) (fun c2 => ?_)
  ·
    skip
    rw [bI_0] at c2
    refine lv_ldc hC.1 hC.2.1 hC.2.2.2.1 (hC.2.2.2.2 _ q1354) dX3_stone_34 ?_
    refine m_iret hC hr hlocks hM dX3_stone_36 ?_
    first | (simp [op_stone, wup_s, upd_s, wup_n, upd_n, *]; done) | (simp_all [op_stone, wup_s, upd_s, wup_n, upd_n]; done) | grind [op_stone, wup_s, upd_s, wup_n, upd_n]
  ·
    skip
    rw [bI_n0, en] at c2
    obtain ⟨j, hj, rfl⟩ := in_nI1 (by omega) c2
    have ej : iN (nI j) = j := iN_nI (by omega)
    refine lv_iload_n hC.1 hC.2.1 dX3_stone_13 rfl (lv_at hl 2 rfl) ?_
    refine lv_i2l hC.1 hC.2.1 dX3_stone_14 rfl ?_
    refine lv_lconst (v := 0) hC.1 hC.2.1 dX3_stone_15 (by decide) ?_
    refine lv_ldc2 hC.1 hC.2.1 hC.2.2.2.1 (hC.2.2.2.2 _ q1353) dX3_stone_16 ?_
    refine s_ci hC ((mc_in l (a := 0) (b := 2) rfl rfl rfl)) (cw_ms 3 hC.2.2.2.2 q1350 q1351 q1352 ⟨rfl, rfl⟩ rfl (by decide +kernel) ⟨Nat.le_of_ble_eq_true rfl, Nat.le_of_ble_eq_true rfl⟩) rfl hl.1 rfl (lv_room (Nat.le_of_ble_eq_true rfl)) dX3_stone_19 ⟨Nat.le_of_ble_eq_true rfl, Nat.le_of_ble_eq_true rfl⟩ ?_
    refine lv_if_eq (tgt := 34) hC.1 hC.2.1 dX3_stone_22 (by decide) (fun c4 => ?_) (fun c4 => ?_)
    ·
      skip
      rw [bI_0] at c4
      refine lv_ldc hC.1 hC.2.1 hC.2.2.2.1 (hC.2.2.2.2 _ q1354) dX3_stone_34 ?_
      refine m_iret hC hr hlocks hM dX3_stone_36 ?_
      first | (simp [op_stone, wup_s, upd_s, wup_n, upd_n, *]; done) | (simp_all [op_stone, wup_s, upd_s, wup_n, upd_n]; done) | grind [op_stone, wup_s, upd_s, wup_n, upd_n]
    ·
      skip
      rw [bI_n0] at c4
      obtain ⟨q, hq, rfl⟩ := in_nI (N := 2) rfl rfl c4
      have eq : iN (nI q) = q := iN_nI (by omega)
      refine lv_aload_n hC.1 hC.2.1 dX3_stone_25 rfl (lv_at hl 0 rfl) ?_
      refine lv_iload_n hC.1 hC.2.1 dX3_stone_26 rfl (lv_at hl 1 rfl) ?_
      refine lv_iload_n hC.1 hC.2.1 dX3_stone_27 rfl (lv_at hl 2 rfl) ?_
      refine m_cr hC hK hM (mc_stoneOf l _ _ j q (by omega) (by omega)) (cw_m 2 hC.2.2.2.2 q1467 q1469 qs41 q1470 ⟨rfl, rfl⟩ rfl (by decide +kernel) ⟨Nat.le_of_ble_eq_true rfl, Nat.le_of_ble_eq_true rfl⟩) rfl hl.1 rfl (lv_room (Nat.le_of_ble_eq_true rfl)) dX3_stone_28 ⟨Nat.le_of_ble_eq_true rfl, Nat.le_of_ble_eq_true rfl⟩ ?_
      refine lv_goto (tgt := 36) hC.1 hC.2.1 dX3_stone_31 (by decide) ?_
      refine m_iret hC hr hlocks hM dX3_stone_36 ?_
      first | (simp [op_stone, wup_s, upd_s, wup_n, upd_n, *]; done) | (simp_all [op_stone, wup_s, upd_s, wup_n, upd_n]; done) | grind [op_stone, wup_s, upd_s, wup_n, upd_n]

set_option maxHeartbeats 400000 in
set_option maxRecDepth 100000 in
theorem mc_apart (l : Launch) (x y : Int32) : sMi l yX3_apart cX3_apart 2 (some .int) ({ frames := 0, cells := 0, slots := 0, locals := 0 }) [.int x, .int y] (apt x y) := by
  refine s_body (own := RX3) rfl (by decide) (Nat.le_of_ble_eq_true rfl) ?_
  intro p e s m args below meth c ls hC hr hlocks hl
  have hl : lv_has ls 2 [(0, .int x), (1, .int y)] := hl
  refine lv_iload_n hC.1 hC.2.1 dX3_apart_0 rfl (lv_at hl 0 rfl) ?_
  refine lv_iload_n hC.1 hC.2.1 dX3_apart_1 rfl (lv_at hl 1 rfl) ?_
  refine lv_icmp_ge (tgt := 11) hC.1 hC.2.1 dX3_apart_2 (by decide) (fun c1 => ?_) (fun c1 => ?_)
  ·
    have nc1 := Int32.not_lt.mpr c1
    refine lv_iload_n hC.1 hC.2.1 dX3_apart_11 rfl (lv_at hl 0 rfl) ?_
    refine lv_iload_n hC.1 hC.2.1 dX3_apart_12 rfl (lv_at hl 1 rfl) ?_
    refine lv_isub hC.1 hC.2.1 dX3_apart_13 ?_
    refine s_iret hC hr hlocks dX3_apart_14 ?_
    grind [apt]
  ·
    have nc1 := Int32.not_le.mp c1
    refine lv_iload_n hC.1 hC.2.1 dX3_apart_5 rfl (lv_at hl 1 rfl) ?_
    refine lv_iload_n hC.1 hC.2.1 dX3_apart_6 rfl (lv_at hl 0 rfl) ?_
    refine lv_isub hC.1 hC.2.1 dX3_apart_7 ?_
    refine lv_goto (tgt := 14) hC.1 hC.2.1 dX3_apart_8 (by decide) ?_
    refine s_iret hC hr hlocks dX3_apart_14 ?_
    grind [apt]

set_option maxHeartbeats 400000 in
set_option maxRecDepth 100000 in
theorem mc_carry (l : Launch) (v : Nat → Int32) (w : Nat → Nat → Int32) (x y f : Int32) (n mv tm : Nat) (hd : rdN w n mv tm) : mMi l yX3_carry cX3_carry 4 (some .int) ({ frames := 2, cells := 0, slots := 0, locals := 46 }) [.int x, .int y, .int f] v w (fun r v1 w1 => (r, v1, w1) = op_carry v w x y f) := by
  intro D ac A G mo ad
  refine m_body rfl (Nat.le_of_ble_eq_true rfl) ?_
  intro p e s m args below meth c ls hC hr hlocks hK hM hl
  have hl : lv_has ls 4 [(0, .ref mo), (1, .int x), (2, .int y), (3, .int f)] := hl
  obtain ⟨en, hn, em, hm, et, ht⟩ := hd
  refine lv_aload_n hC.1 hC.2.1 dX3_carry_0 rfl (lv_at hl 0 rfl) ?_
  refine lv_iconst (v := 0) hC.1 hC.2.1 dX3_carry_1 (by decide) ?_
  refine m_put hC hK hM 0 (by decide) q1262 rfl rfl rfl rfl dX3_carry_2 (fun H locs hM => ?_)
  refine lv_aload_n hC.1 hC.2.1 dX3_carry_5 rfl (lv_at hl 0 rfl) ?_
  refine lv_iload_n hC.1 hC.2.1 dX3_carry_6 rfl (lv_at hl 1 rfl) ?_
  refine m_cr hC hK hM (mc_isStone l _ _ _) (cw_m 1 hC.2.2.2.2 q1495 q1497 qs47 q1498 ⟨rfl, rfl⟩ rfl (by decide +kernel) ⟨Nat.le_of_ble_eq_true rfl, Nat.le_of_ble_eq_true rfl⟩) rfl hl.1 rfl (lv_room (Nat.le_of_ble_eq_true rfl)) dX3_carry_7 ⟨Nat.le_of_ble_eq_true rfl, Nat.le_of_ble_eq_true rfl⟩ ?_
  refine lv_if_eq (tgt := 31) hC.1 hC.2.1 dX3_carry_10 (by decide) (fun c2 => ?_) (fun c2 => ?_)
  ·
    skip
    rw [bI_0] at c2
    refine lv_ldc hC.1 hC.2.1 hC.2.2.2.1 (hC.2.2.2.2 _ q1354) dX3_carry_31 ?_
    refine m_iret hC hr hlocks hM dX3_carry_33 ?_
    first | (simp [op_carry, wup_s, upd_s, wup_n, upd_n, *]; done) | (simp_all [op_carry, wup_s, upd_s, wup_n, upd_n]; done) | grind [op_carry, wup_s, upd_s, wup_n, upd_n]
  ·
    skip
    rw [bI_n0, en] at c2
    obtain ⟨j, hj, rfl⟩ := in_nI1 (by omega) c2
    have ej : iN (nI j) = j := iN_nI (by omega)
    refine lv_aload_n hC.1 hC.2.1 dX3_carry_13 rfl (lv_at hl 0 rfl) ?_
    refine lv_iload_n hC.1 hC.2.1 dX3_carry_14 rfl (lv_at hl 2 rfl) ?_
    refine m_cr hC hK hM (mc_isStone l _ _ _) (cw_m 1 hC.2.2.2.2 q1495 q1497 qs47 q1498 ⟨rfl, rfl⟩ rfl (by decide +kernel) ⟨Nat.le_of_ble_eq_true rfl, Nat.le_of_ble_eq_true rfl⟩) rfl hl.1 rfl (lv_room (Nat.le_of_ble_eq_true rfl)) dX3_carry_15 ⟨Nat.le_of_ble_eq_true rfl, Nat.le_of_ble_eq_true rfl⟩ ?_
    refine lv_if_eq (tgt := 31) hC.1 hC.2.1 dX3_carry_18 (by decide) (fun c4 => ?_) (fun c4 => ?_)
    ·
      skip
      rw [bI_0] at c4
      refine lv_ldc hC.1 hC.2.1 hC.2.2.2.1 (hC.2.2.2.2 _ q1354) dX3_carry_31 ?_
      refine m_iret hC hr hlocks hM dX3_carry_33 ?_
      first | (simp [op_carry, wup_s, upd_s, wup_n, upd_n, *]; done) | (simp_all [op_carry, wup_s, upd_s, wup_n, upd_n]; done) | grind [op_carry, wup_s, upd_s, wup_n, upd_n]
    ·
      skip
      rw [bI_n0, en] at c4
      obtain ⟨q, hq, rfl⟩ := in_nI1 (by omega) c4
      have eq : iN (nI q) = q := iN_nI (by omega)
      refine lv_iload_n hC.1 hC.2.1 dX3_carry_21 rfl (lv_at hl 3 rfl) ?_
      refine lv_i2l hC.1 hC.2.1 dX3_carry_22 rfl ?_
      refine lv_lconst (v := 0) hC.1 hC.2.1 dX3_carry_23 (by decide) ?_
      refine lv_lconst (v := 1) hC.1 hC.2.1 dX3_carry_24 (by decide) ?_
      refine s_ci hC ((mc_in l (a := 0) (b := 1) rfl rfl rfl)) (cw_ms 3 hC.2.2.2.2 q1350 q1351 q1352 ⟨rfl, rfl⟩ rfl (by decide +kernel) ⟨Nat.le_of_ble_eq_true rfl, Nat.le_of_ble_eq_true rfl⟩) rfl hl.1 rfl (lv_room (Nat.le_of_ble_eq_true rfl)) dX3_carry_25 ⟨Nat.le_of_ble_eq_true rfl, Nat.le_of_ble_eq_true rfl⟩ ?_
      refine lv_if_ne (tgt := 34) hC.1 hC.2.1 dX3_carry_28 (by decide) (fun c6 => ?_) (fun c6 => ?_)
      ·
        skip
        rw [bI_n0] at c6
        refine lv_iload_n hC.1 hC.2.1 dX3_carry_34 rfl (lv_at hl 3 rfl) ?_
        refine lv_if_ne (tgt := 63) hC.1 hC.2.1 dX3_carry_35 (by decide) (fun c7 => ?_) (fun c7 => ?_)
        ·
          skip
          refine lv_aload_n hC.1 hC.2.1 dX3_carry_63 rfl (lv_at hl 0 rfl) ?_
          refine lv_iload_n hC.1 hC.2.1 dX3_carry_64 rfl (lv_at hl 1 rfl) ?_
          refine lv_iconst (v := 1) hC.1 hC.2.1 dX3_carry_65 (by decide) ?_
          refine m_cr hC hK hM (mc_stoneOf l _ _ j 1 (by omega) (by omega)) (cw_m 2 hC.2.2.2.2 q1467 q1469 qs41 q1470 ⟨rfl, rfl⟩ rfl (by decide +kernel) ⟨Nat.le_of_ble_eq_true rfl, Nat.le_of_ble_eq_true rfl⟩) rfl hl.1 rfl (lv_room (Nat.le_of_ble_eq_true rfl)) dX3_carry_66 ⟨Nat.le_of_ble_eq_true rfl, Nat.le_of_ble_eq_true rfl⟩ ?_
          refine lv_aload_n hC.1 hC.2.1 dX3_carry_69 rfl (lv_at hl 0 rfl) ?_
          refine lv_iload_n hC.1 hC.2.1 dX3_carry_70 rfl (lv_at hl 2 rfl) ?_
          refine lv_iconst (v := 1) hC.1 hC.2.1 dX3_carry_71 (by decide) ?_
          refine m_cr hC hK hM (mc_stoneOf l _ _ q 1 (by omega) (by omega)) (cw_m 2 hC.2.2.2.2 q1467 q1469 qs41 q1470 ⟨rfl, rfl⟩ rfl (by decide +kernel) ⟨Nat.le_of_ble_eq_true rfl, Nat.le_of_ble_eq_true rfl⟩) rfl hl.1 rfl (lv_room (Nat.le_of_ble_eq_true rfl)) dX3_carry_72 ⟨Nat.le_of_ble_eq_true rfl, Nat.le_of_ble_eq_true rfl⟩ ?_
          refine s_ci hC (mc_apart l _ _) (cw_ms 2 hC.2.2.2.2 q1511 q1512 q1513 ⟨rfl, rfl⟩ rfl (by decide +kernel) ⟨Nat.le_of_ble_eq_true rfl, Nat.le_of_ble_eq_true rfl⟩) rfl hl.1 rfl (lv_room (Nat.le_of_ble_eq_true rfl)) dX3_carry_75 ⟨Nat.le_of_ble_eq_true rfl, Nat.le_of_ble_eq_true rfl⟩ ?_
          refine m_iret hC hr hlocks hM dX3_carry_78 ?_
          first | (simp [op_carry, wup_s, upd_s, wup_n, upd_n, *]; done) | (simp_all [op_carry, wup_s, upd_s, wup_n, upd_n]; done) | grind [op_carry, wup_s, upd_s, wup_n, upd_n]
        ·
          skip
          refine lv_aload_n hC.1 hC.2.1 dX3_carry_38 rfl (lv_at hl 0 rfl) ?_
          refine m_get hC hK hM 5 (by decide) q1267 rfl rfl dX3_carry_39 ?_
          refine lv_iconst (v := 1) hC.1 hC.2.1 dX3_carry_42 (by decide) ?_
          refine m_iald hC hK hM 5 rfl (n := 1) (by first | rfl | (simp only [← nI_add, ← pk_mul]; rfl)) (by first | decide | (show _ < 94; omega)) dX3_carry_43 ?_
          refine lv_aload_n hC.1 hC.2.1 dX3_carry_44 rfl (lv_at hl 0 rfl) ?_
          refine lv_iload_n hC.1 hC.2.1 dX3_carry_45 rfl (lv_at hl 1 rfl) ?_
          refine lv_iconst (v := 0) hC.1 hC.2.1 dX3_carry_46 (by decide) ?_
          refine m_cr hC hK hM (mc_stoneOf l _ _ j 0 (by omega) (by omega)) (cw_m 2 hC.2.2.2.2 q1467 q1469 qs41 q1470 ⟨rfl, rfl⟩ rfl (by decide +kernel) ⟨Nat.le_of_ble_eq_true rfl, Nat.le_of_ble_eq_true rfl⟩) rfl hl.1 rfl (lv_room (Nat.le_of_ble_eq_true rfl)) dX3_carry_47 ⟨Nat.le_of_ble_eq_true rfl, Nat.le_of_ble_eq_true rfl⟩ ?_
          refine lv_aload_n hC.1 hC.2.1 dX3_carry_50 rfl (lv_at hl 0 rfl) ?_
          refine lv_iload_n hC.1 hC.2.1 dX3_carry_51 rfl (lv_at hl 2 rfl) ?_
          refine lv_iconst (v := 0) hC.1 hC.2.1 dX3_carry_52 (by decide) ?_
          refine m_cr hC hK hM (mc_stoneOf l _ _ q 0 (by omega) (by omega)) (cw_m 2 hC.2.2.2.2 q1467 q1469 qs41 q1470 ⟨rfl, rfl⟩ rfl (by decide +kernel) ⟨Nat.le_of_ble_eq_true rfl, Nat.le_of_ble_eq_true rfl⟩) rfl hl.1 rfl (lv_room (Nat.le_of_ble_eq_true rfl)) dX3_carry_53 ⟨Nat.le_of_ble_eq_true rfl, Nat.le_of_ble_eq_true rfl⟩ ?_
          refine s_ci hC (mc_apart l _ _) (cw_ms 2 hC.2.2.2.2 q1511 q1512 q1513 ⟨rfl, rfl⟩ rfl (by decide +kernel) ⟨Nat.le_of_ble_eq_true rfl, Nat.le_of_ble_eq_true rfl⟩) rfl hl.1 rfl (lv_room (Nat.le_of_ble_eq_true rfl)) dX3_carry_56 ⟨Nat.le_of_ble_eq_true rfl, Nat.le_of_ble_eq_true rfl⟩ ?_
          refine lv_imul hC.1 hC.2.1 dX3_carry_59 ?_
          refine lv_goto (tgt := 78) hC.1 hC.2.1 dX3_carry_60 (by decide) ?_
          refine m_iret hC hr hlocks hM dX3_carry_78 ?_
          first | (simp [op_carry, wup_s, upd_s, wup_n, upd_n, *]; done) | (simp_all [op_carry, wup_s, upd_s, wup_n, upd_n]; done) | grind [op_carry, wup_s, upd_s, wup_n, upd_n]
      ·
        skip
        rw [bI_0] at c6
        refine lv_ldc hC.1 hC.2.1 hC.2.2.2.1 (hC.2.2.2.2 _ q1354) dX3_carry_31 ?_
        refine m_iret hC hr hlocks hM dX3_carry_33 ?_
        first | (simp [op_carry, wup_s, upd_s, wup_n, upd_n, *]; done) | (simp_all [op_carry, wup_s, upd_s, wup_n, upd_n]; done) | grind [op_carry, wup_s, upd_s, wup_n, upd_n]

set_option maxHeartbeats 400000 in
set_option maxRecDepth 100000 in
theorem mc_isTime (l : Launch) (v : Nat → Int32) (w : Nat → Nat → Int32) (a b x t : Int32) : mRi l yX3_isTime cX3_isTime 5 (some .boolean) ({ frames := 2, cells := 0, slots := 0, locals := 46 }) [.int a, .int b, .int x, .int t] v w (bI ((0 ≤ a ∧ a ≤ w 5 4 - 1) ∧ (0 ≤ b ∧ b ≤ w 5 4 - 1) ∧ a < b ∧ (1 ≤ x ∧ x ≤ 20) ∧ (0 ≤ t ∧ t ≤ 99))) := by
  intro D ac A G mo ad
  refine m_bodyR rfl (Nat.le_of_ble_eq_true rfl) ?_
  intro p e s m args below meth c ls hC hr hlocks hK hM hl
  have hl : lv_has ls 5 [(0, .ref mo), (1, .int a), (2, .int b), (3, .int x), (4, .int t)] := hl
  refine lv_aload_n hC.1 hC.2.1 dX3_isTime_0 rfl (lv_at hl 0 rfl) ?_
  refine lv_iload_n hC.1 hC.2.1 dX3_isTime_1 rfl (lv_at hl 1 rfl) ?_
  refine m_cr hC hK hM (mc_isStone l _ _ _) (cw_m 1 hC.2.2.2.2 q1495 q1497 qs47 q1498 ⟨rfl, rfl⟩ rfl (by decide +kernel) ⟨Nat.le_of_ble_eq_true rfl, Nat.le_of_ble_eq_true rfl⟩) rfl hl.1 rfl (lv_room (Nat.le_of_ble_eq_true rfl)) dX3_isTime_2 ⟨Nat.le_of_ble_eq_true rfl, Nat.le_of_ble_eq_true rfl⟩ ?_
  refine lv_if_eq (tgt := 50) hC.1 hC.2.1 dX3_isTime_5 (by decide) (fun c2 => ?_) (fun c2 => ?_)
  ·
    skip
    rw [bI_0] at c2
    refine lv_iconst (v := 0) hC.1 hC.2.1 dX3_isTime_50 (by decide) ?_
    refine s_zret hC hr hlocks (by first | exact bI_01 _ | exact Or.inl rfl | exact Or.inr rfl) dX3_isTime_51 ?_
    first | (rw [bI_t]; simp [*]; done) | (rw [bI_f]; simp [*]; done) | grind [bI]
  ·
    skip
    rw [bI_n0] at c2
    refine lv_aload_n hC.1 hC.2.1 dX3_isTime_8 rfl (lv_at hl 0 rfl) ?_
    refine lv_iload_n hC.1 hC.2.1 dX3_isTime_9 rfl (lv_at hl 2 rfl) ?_
    refine m_cr hC hK hM (mc_isStone l _ _ _) (cw_m 1 hC.2.2.2.2 q1495 q1497 qs47 q1498 ⟨rfl, rfl⟩ rfl (by decide +kernel) ⟨Nat.le_of_ble_eq_true rfl, Nat.le_of_ble_eq_true rfl⟩) rfl hl.1 rfl (lv_room (Nat.le_of_ble_eq_true rfl)) dX3_isTime_10 ⟨Nat.le_of_ble_eq_true rfl, Nat.le_of_ble_eq_true rfl⟩ ?_
    refine lv_if_eq (tgt := 50) hC.1 hC.2.1 dX3_isTime_13 (by decide) (fun c4 => ?_) (fun c4 => ?_)
    ·
      skip
      rw [bI_0] at c4
      refine lv_iconst (v := 0) hC.1 hC.2.1 dX3_isTime_50 (by decide) ?_
      refine s_zret hC hr hlocks (by first | exact bI_01 _ | exact Or.inl rfl | exact Or.inr rfl) dX3_isTime_51 ?_
      first | (rw [bI_t]; simp [*]; done) | (rw [bI_f]; simp [*]; done) | grind [bI]
    ·
      skip
      rw [bI_n0] at c4
      refine lv_iload_n hC.1 hC.2.1 dX3_isTime_16 rfl (lv_at hl 1 rfl) ?_
      refine lv_iload_n hC.1 hC.2.1 dX3_isTime_17 rfl (lv_at hl 2 rfl) ?_
      refine lv_icmp_ge (tgt := 50) hC.1 hC.2.1 dX3_isTime_18 (by decide) (fun c5 => ?_) (fun c5 => ?_)
      ·
        have nc5 := Int32.not_lt.mpr c5
        refine lv_iconst (v := 0) hC.1 hC.2.1 dX3_isTime_50 (by decide) ?_
        refine s_zret hC hr hlocks (by first | exact bI_01 _ | exact Or.inl rfl | exact Or.inr rfl) dX3_isTime_51 ?_
        first | (rw [bI_t]; simp [*]; done) | (rw [bI_f]; simp [*]; done) | grind [bI]
      ·
        have nc5 := Int32.not_le.mp c5
        refine lv_iload_n hC.1 hC.2.1 dX3_isTime_21 rfl (lv_at hl 3 rfl) ?_
        refine lv_i2l hC.1 hC.2.1 dX3_isTime_22 rfl ?_
        refine lv_lconst (v := 1) hC.1 hC.2.1 dX3_isTime_23 (by decide) ?_
        refine lv_ldc2 hC.1 hC.2.1 hC.2.2.2.1 (hC.2.2.2.2 _ q1522) dX3_isTime_24 ?_
        refine s_ci hC ((mc_in l (a := 1) (b := 20) rfl rfl rfl)) (cw_ms 3 hC.2.2.2.2 q1350 q1351 q1352 ⟨rfl, rfl⟩ rfl (by decide +kernel) ⟨Nat.le_of_ble_eq_true rfl, Nat.le_of_ble_eq_true rfl⟩) rfl hl.1 rfl (lv_room (Nat.le_of_ble_eq_true rfl)) dX3_isTime_27 ⟨Nat.le_of_ble_eq_true rfl, Nat.le_of_ble_eq_true rfl⟩ ?_
        refine lv_if_eq (tgt := 50) hC.1 hC.2.1 dX3_isTime_30 (by decide) (fun c7 => ?_) (fun c7 => ?_)
        ·
          skip
          rw [bI_0] at c7
          refine lv_iconst (v := 0) hC.1 hC.2.1 dX3_isTime_50 (by decide) ?_
          refine s_zret hC hr hlocks (by first | exact bI_01 _ | exact Or.inl rfl | exact Or.inr rfl) dX3_isTime_51 ?_
          first | (rw [bI_t]; simp [*]; done) | (rw [bI_f]; simp [*]; done) | grind [bI]
        ·
          skip
          rw [bI_n0] at c7
          refine lv_iload hC.1 hC.2.1 dX3_isTime_33 (lv_at hl 4 rfl) ?_
          refine lv_i2l hC.1 hC.2.1 dX3_isTime_35 rfl ?_
          refine lv_lconst (v := 0) hC.1 hC.2.1 dX3_isTime_36 (by decide) ?_
          refine lv_ldc2 hC.1 hC.2.1 hC.2.2.2.1 (hC.2.2.2.2 _ q1523) dX3_isTime_37 ?_
          refine s_ci hC ((mc_in l (a := 0) (b := 99) rfl rfl rfl)) (cw_ms 3 hC.2.2.2.2 q1350 q1351 q1352 ⟨rfl, rfl⟩ rfl (by decide +kernel) ⟨Nat.le_of_ble_eq_true rfl, Nat.le_of_ble_eq_true rfl⟩) rfl hl.1 rfl (lv_room (Nat.le_of_ble_eq_true rfl)) dX3_isTime_40 ⟨Nat.le_of_ble_eq_true rfl, Nat.le_of_ble_eq_true rfl⟩ ?_
          refine lv_if_eq (tgt := 50) hC.1 hC.2.1 dX3_isTime_43 (by decide) (fun c9 => ?_) (fun c9 => ?_)
          ·
            skip
            rw [bI_0] at c9
            refine lv_iconst (v := 0) hC.1 hC.2.1 dX3_isTime_50 (by decide) ?_
            refine s_zret hC hr hlocks (by first | exact bI_01 _ | exact Or.inl rfl | exact Or.inr rfl) dX3_isTime_51 ?_
            first | (rw [bI_t]; simp [*]; done) | (rw [bI_f]; simp [*]; done) | grind [bI]
          ·
            skip
            rw [bI_n0] at c9
            refine lv_iconst (v := 1) hC.1 hC.2.1 dX3_isTime_46 (by decide) ?_
            refine lv_goto (tgt := 51) hC.1 hC.2.1 dX3_isTime_47 (by decide) ?_
            refine s_zret hC hr hlocks (by first | exact bI_01 _ | exact Or.inl rfl | exact Or.inr rfl) dX3_isTime_51 ?_
            first | (rw [bI_t]; simp [*]; done) | (rw [bI_f]; simp [*]; done) | grind [bI]

set_option maxHeartbeats 400000 in
set_option maxRecDepth 100000 in
theorem mc_addTime (l : Launch) (v : Nat → Int32) (w : Nat → Nat → Int32) (a b x t : Int32) (n mv tm : Nat) (hd : rdN w n mv tm) (ht0 : tm < 12) : mMv l yX3_addTime cX3_addTime 6 none ({ frames := 0, cells := 0, slots := 0, locals := 0 }) [.int a, .int b, .int x, .int t] v w (fun v1 w1 => v1 = v ∧ w1 = addT w a b x t) := by
  intro D ac A G mo ad
  refine m_body rfl (Nat.le_of_ble_eq_true rfl) ?_
  intro p e s m args below meth c ls hC hr hlocks hK hM hl
  have hl : lv_has ls 6 [(0, .ref mo), (1, .int a), (2, .int b), (3, .int x), (4, .int t)] := hl
  obtain ⟨en, hn, em, hm, et, ht⟩ := hd
  have e7 : iN (w 5 7) = tm := by rw [et]; exact iN_nI (by omega)
  refine lv_bipush (v := 46) hC.1 hC.2.1 dX3_addTime_0 (by decide) ?_
  refine lv_iconst (v := 4) hC.1 hC.2.1 dX3_addTime_2 (by decide) ?_
  refine lv_aload_n hC.1 hC.2.1 dX3_addTime_3 rfl (lv_at hl 0 rfl) ?_
  refine m_get hC hK hM 5 (by decide) q1267 rfl rfl dX3_addTime_4 ?_
  refine lv_bipush (v := 7) hC.1 hC.2.1 dX3_addTime_7 (by decide) ?_
  refine m_iald hC hK hM 5 rfl (n := 7) (by first | rfl | (simp only [← nI_add, ← pk_mul]; rfl)) (by first | decide | (show _ < 94; omega)) dX3_addTime_9 ?_
  rw [et]
  refine lv_imul hC.1 hC.2.1 dX3_addTime_10 ?_
  refine lv_iadd hC.1 hC.2.1 dX3_addTime_11 ?_
  refine lv_istore (lv' := [(5, _), (0, _), (1, _), (2, _), (3, _), (4, _)]) hC.1 hC.2.1 dX3_addTime_12 hl (by decide) rfl (fun ls hl => ?_)
  refine lv_aload_n hC.1 hC.2.1 dX3_addTime_14 rfl (lv_at hl 1 rfl) ?_
  refine m_get hC hK hM 5 (by decide) q1267 rfl rfl dX3_addTime_15 ?_
  refine lv_iload hC.1 hC.2.1 dX3_addTime_18 (lv_at hl 0 rfl) ?_
  refine lv_iload_n hC.1 hC.2.1 dX3_addTime_20 rfl (lv_at hl 2 rfl) ?_
  refine m_iast hC hK hM 5 rfl (n := (46 + (4 * tm))) (by first | rfl | (simp only [← nI_add, ← pk_mul]; rfl)) (by first | decide | (show _ < 94; omega)) dX3_addTime_21 (fun H locs hM => ?_)
  refine lv_aload_n hC.1 hC.2.1 dX3_addTime_22 rfl (lv_at hl 1 rfl) ?_
  refine m_get hC hK hM 5 (by decide) q1267 rfl rfl dX3_addTime_23 ?_
  refine lv_iload hC.1 hC.2.1 dX3_addTime_26 (lv_at hl 0 rfl) ?_
  refine lv_iconst (v := 1) hC.1 hC.2.1 dX3_addTime_28 (by decide) ?_
  refine lv_iadd hC.1 hC.2.1 dX3_addTime_29 ?_
  refine lv_iload_n hC.1 hC.2.1 dX3_addTime_30 rfl (lv_at hl 3 rfl) ?_
  refine m_iast hC hK hM 5 rfl (n := ((46 + (4 * tm)) + 1)) (by first | rfl | (simp only [← nI_add, ← pk_mul]; rfl)) (by first | decide | (show _ < 94; omega)) dX3_addTime_31 (fun H locs hM => ?_)
  refine lv_aload_n hC.1 hC.2.1 dX3_addTime_32 rfl (lv_at hl 1 rfl) ?_
  refine m_get hC hK hM 5 (by decide) q1267 rfl rfl dX3_addTime_33 ?_
  refine lv_iload hC.1 hC.2.1 dX3_addTime_36 (lv_at hl 0 rfl) ?_
  refine lv_iconst (v := 2) hC.1 hC.2.1 dX3_addTime_38 (by decide) ?_
  refine lv_iadd hC.1 hC.2.1 dX3_addTime_39 ?_
  refine lv_iload_n hC.1 hC.2.1 dX3_addTime_40 rfl (lv_at hl 4 rfl) ?_
  refine m_iast hC hK hM 5 rfl (n := ((46 + (4 * tm)) + 2)) (by first | rfl | (simp only [← nI_add, ← pk_mul]; rfl)) (by first | decide | (show _ < 94; omega)) dX3_addTime_41 (fun H locs hM => ?_)
  refine lv_aload_n hC.1 hC.2.1 dX3_addTime_42 rfl (lv_at hl 1 rfl) ?_
  refine m_get hC hK hM 5 (by decide) q1267 rfl rfl dX3_addTime_43 ?_
  refine lv_iload hC.1 hC.2.1 dX3_addTime_46 (lv_at hl 0 rfl) ?_
  refine lv_iconst (v := 3) hC.1 hC.2.1 dX3_addTime_48 (by decide) ?_
  refine lv_iadd hC.1 hC.2.1 dX3_addTime_49 ?_
  refine lv_iload hC.1 hC.2.1 dX3_addTime_50 (lv_at hl 5 rfl) ?_
  refine m_iast hC hK hM 5 rfl (n := ((46 + (4 * tm)) + 3)) (by first | rfl | (simp only [← nI_add, ← pk_mul]; rfl)) (by first | decide | (show _ < 94; omega)) dX3_addTime_52 (fun H locs hM => ?_)
  refine lv_aload_n hC.1 hC.2.1 dX3_addTime_53 rfl (lv_at hl 1 rfl) ?_
  refine m_get hC hK hM 5 (by decide) q1267 rfl rfl dX3_addTime_54 ?_
  refine lv_bipush (v := 7) hC.1 hC.2.1 dX3_addTime_57 (by decide) ?_
  refine lv_dup2_11 hC.1 hC.2.1 dX3_addTime_59 rfl rfl ?_
  refine m_iald hC hK hM 5 rfl (n := 7) rfl (by decide) dX3_addTime_60 ?_
  refine lv_iconst (v := 1) hC.1 hC.2.1 dX3_addTime_61 (by decide) ?_
  refine lv_iadd hC.1 hC.2.1 dX3_addTime_62 ?_
  refine m_iast hC hK hM 5 rfl (n := 7) rfl (by decide) dX3_addTime_63 (fun H locs hM => ?_)
  refine m_vret hC hr hlocks hM dX3_addTime_64 ?_
  exact ⟨rfl, by simp [addT, e7, wup, upd]; try (funext i q; grind)⟩

set_option maxHeartbeats 400000 in
set_option maxRecDepth 100000 in
theorem mc_time (l : Launch) (v : Nat → Int32) (w : Nat → Nat → Int32) (a b x t : Int32) (n mv tm : Nat) (hd : rdN w n mv tm) : mMi l yX3_time cX3_time 5 (some .int) ({ frames := 3, cells := 0, slots := 0, locals := 70 }) [.int a, .int b, .int x, .int t] v w (fun r v1 w1 => (r, v1, w1) = op_time v w a b x t) := by
  intro D ac A G mo ad
  refine m_body rfl (Nat.le_of_ble_eq_true rfl) ?_
  intro p e s m args below meth c ls hC hr hlocks hK hM hl
  have hl : lv_has ls 5 [(0, .ref mo), (1, .int a), (2, .int b), (3, .int x), (4, .int t)] := hl
  obtain ⟨en, hn, em, hm, et, ht⟩ := hd
  refine lv_aload_n hC.1 hC.2.1 dX3_time_0 rfl (lv_at hl 0 rfl) ?_
  refine lv_iconst (v := 0) hC.1 hC.2.1 dX3_time_1 (by decide) ?_
  refine m_put hC hK hM 0 (by decide) q1262 rfl rfl rfl rfl dX3_time_2 (fun H locs hM => ?_)
  refine lv_aload_n hC.1 hC.2.1 dX3_time_5 rfl (lv_at hl 0 rfl) ?_
  refine lv_iload_n hC.1 hC.2.1 dX3_time_6 rfl (lv_at hl 1 rfl) ?_
  refine lv_iload_n hC.1 hC.2.1 dX3_time_7 rfl (lv_at hl 2 rfl) ?_
  refine lv_iload_n hC.1 hC.2.1 dX3_time_8 rfl (lv_at hl 3 rfl) ?_
  refine lv_iload hC.1 hC.2.1 dX3_time_9 (lv_at hl 4 rfl) ?_
  refine m_cr hC hK hM (mc_isTime l _ _ _ _ _ _) (cw_m 4 hC.2.2.2.2 q1518 q1520 qs48 q1521 ⟨rfl, rfl⟩ rfl (by decide +kernel) ⟨Nat.le_of_ble_eq_true rfl, Nat.le_of_ble_eq_true rfl⟩) rfl hl.1 rfl (lv_room (Nat.le_of_ble_eq_true rfl)) dX3_time_11 ⟨Nat.le_of_ble_eq_true rfl, Nat.le_of_ble_eq_true rfl⟩ ?_
  refine lv_if_ne (tgt := 20) hC.1 hC.2.1 dX3_time_14 (by decide) (fun c2 => ?_) (fun c2 => ?_)
  ·
    skip
    rw [bI_n0] at c2
    refine lv_aload_n hC.1 hC.2.1 dX3_time_20 rfl (lv_at hl 0 rfl) ?_
    refine m_get hC hK hM 5 (by decide) q1267 rfl rfl dX3_time_21 ?_
    refine lv_bipush (v := 7) hC.1 hC.2.1 dX3_time_24 (by decide) ?_
    refine m_iald hC hK hM 5 rfl (n := 7) (by first | rfl | (simp only [← nI_add, ← pk_mul]; rfl)) (by first | decide | (show _ < 94; omega)) dX3_time_26 ?_
    refine lv_bipush (v := 12) hC.1 hC.2.1 dX3_time_27 (by decide) ?_
    refine lv_icmp_ne (tgt := 35) hC.1 hC.2.1 dX3_time_29 (by decide) (fun c3 => ?_) (fun c3 => ?_)
    ·
      skip
      have ht0 : tm < 12 := by
        rcases Nat.lt_or_ge tm 12 with q | q
        · exact q
        · exact absurd (by rw [et, show tm = 12 by omega]; rfl) c3
      refine lv_aload_n hC.1 hC.2.1 dX3_time_35 rfl (lv_at hl 0 rfl) ?_
      refine lv_iload_n hC.1 hC.2.1 dX3_time_36 rfl (lv_at hl 1 rfl) ?_
      refine lv_iload_n hC.1 hC.2.1 dX3_time_37 rfl (lv_at hl 2 rfl) ?_
      refine lv_iload_n hC.1 hC.2.1 dX3_time_38 rfl (lv_at hl 3 rfl) ?_
      refine lv_iload hC.1 hC.2.1 dX3_time_39 (lv_at hl 4 rfl) ?_
      refine m_cve hC hK hM (mc_addTime l _ _ _ _ _ _ n mv tm ⟨en, hn, em, hm, et, ht⟩ (by omega)) (cw_m 4 hC.2.2.2.2 q1524 q1526 qs49 q1527 ⟨rfl, rfl⟩ rfl (by decide +kernel) ⟨Nat.le_of_ble_eq_true rfl, Nat.le_of_ble_eq_true rfl⟩) rfl hl.1 rfl (lv_room (Nat.le_of_ble_eq_true rfl)) dX3_time_41 ⟨Nat.le_of_ble_eq_true rfl, Nat.le_of_ble_eq_true rfl⟩ (fun H locs hM => ?_)
      refine lv_aload_n hC.1 hC.2.1 dX3_time_44 rfl (lv_at hl 0 rfl) ?_
      refine m_get hC hK hM 5 (by decide) q1267 rfl rfl dX3_time_45 ?_
      refine lv_bipush (v := 7) hC.1 hC.2.1 dX3_time_48 (by decide) ?_
      refine m_iald hC hK hM 5 rfl (n := 7) (by first | rfl | (simp only [← nI_add, ← pk_mul]; rfl)) (by first | decide | (show _ < 94; omega)) dX3_time_50 ?_
      refine m_iret hC hr hlocks hM dX3_time_51 ?_
      first | (simp [op_time, addT_7, wup_s, upd_s, wup_n, upd_n, *]; done) | (simp_all [op_time, addT_7, wup_s, upd_s, wup_n, upd_n]; done) | grind [op_time, addT_7, wup_s, upd_s, wup_n, upd_n]
    ·
      skip
      refine lv_ldc hC.1 hC.2.1 hC.2.2.2.1 (hC.2.2.2.2 _ q1377) dX3_time_32 ?_
      refine m_iret hC hr hlocks hM dX3_time_34 ?_
      first | (simp [op_time, addT_7, wup_s, upd_s, wup_n, upd_n, *]; done) | (simp_all [op_time, addT_7, wup_s, upd_s, wup_n, upd_n]; done) | grind [op_time, addT_7, wup_s, upd_s, wup_n, upd_n]
  ·
    skip
    rw [bI_0] at c2
    refine lv_ldc hC.1 hC.2.1 hC.2.2.2.1 (hC.2.2.2.2 _ q1354) dX3_time_17 ?_
    refine m_iret hC hr hlocks hM dX3_time_19 ?_
    first | (simp [op_time, addT_7, wup_s, upd_s, wup_n, upd_n, *]; done) | (simp_all [op_time, addT_7, wup_s, upd_s, wup_n, upd_n]; done) | grind [op_time, addT_7, wup_s, upd_s, wup_n, upd_n]

set_option maxHeartbeats 400000 in
set_option maxRecDepth 100000 in
theorem mc_forget (l : Launch) (v : Nat → Int32) (w : Nat → Nat → Int32) : mMi l yX3_forget cX3_forget 2 (some .int) ({ frames := 0, cells := 0, slots := 0, locals := 0 }) [] v w (fun r v1 w1 => (r, v1, w1) = op_forget v w) := by
  intro D ac A G mo ad
  refine m_body rfl (Nat.le_of_ble_eq_true rfl) ?_
  intro p e s m args below meth c ls hC hr hlocks hK hM hl
  have hl : lv_has ls 2 [(0, .ref mo)] := hl
  refine lv_aload_n hC.1 hC.2.1 dX3_forget_0 rfl (lv_at hl 0 rfl) ?_
  refine lv_iconst (v := 0) hC.1 hC.2.1 dX3_forget_1 (by decide) ?_
  refine m_put hC hK hM 0 (by decide) q1262 rfl rfl rfl rfl dX3_forget_2 (fun H locs hM => ?_)
  refine lv_aload_n hC.1 hC.2.1 dX3_forget_5 rfl (lv_at hl 0 rfl) ?_
  refine m_get hC hK hM 5 (by decide) q1267 rfl rfl dX3_forget_6 ?_
  refine lv_bipush (v := 7) hC.1 hC.2.1 dX3_forget_9 (by decide) ?_
  refine m_iald hC hK hM 5 rfl (n := 7) (by first | rfl | (simp only [← nI_add, ← pk_mul]; rfl)) (by first | decide | (show _ < 94; omega)) dX3_forget_11 ?_
  refine lv_istore_n (lv' := [(1, _), (0, _)]) hC.1 hC.2.1 dX3_forget_12 rfl hl (by decide) rfl (fun ls hl => ?_)
  refine lv_aload_n hC.1 hC.2.1 dX3_forget_13 rfl (lv_at hl 1 rfl) ?_
  refine m_get hC hK hM 5 (by decide) q1267 rfl rfl dX3_forget_14 ?_
  refine lv_bipush (v := 7) hC.1 hC.2.1 dX3_forget_17 (by decide) ?_
  refine lv_iconst (v := 0) hC.1 hC.2.1 dX3_forget_19 (by decide) ?_
  refine m_iast hC hK hM 5 rfl (n := 7) (by first | rfl | (simp only [← nI_add, ← pk_mul]; rfl)) (by first | decide | (show _ < 94; omega)) dX3_forget_20 (fun H locs hM => ?_)
  refine lv_iload_n hC.1 hC.2.1 dX3_forget_21 rfl (lv_at hl 0 rfl) ?_
  refine m_iret hC hr hlocks hM dX3_forget_22 ?_
  rfl

set_option maxHeartbeats 400000 in
set_option maxRecDepth 100000 in
theorem mc_image (l : Launch) (v : Nat → Int32) (w : Nat → Nat → Int32) (x : Int32) : mMi l yX3_image cX3_image 3 (some .int) ({ frames := 1, cells := 0, slots := 0, locals := 25 }) [.int x] v w (fun r v1 w1 => (r, v1, w1) = op_image v w x) := by
  intro D ac A G mo ad
  refine m_body rfl (Nat.le_of_ble_eq_true rfl) ?_
  intro p e s m args below meth c ls hC hr hlocks hK hM hl
  have hl : lv_has ls 3 [(0, .ref mo), (1, .int x)] := hl
  refine lv_aload_n hC.1 hC.2.1 dX3_image_0 rfl (lv_at hl 0 rfl) ?_
  refine lv_iconst (v := 0) hC.1 hC.2.1 dX3_image_1 (by decide) ?_
  refine m_put hC hK hM 0 (by decide) q1262 rfl rfl rfl rfl dX3_image_2 (fun H locs hM => ?_)
  refine lv_iload_n hC.1 hC.2.1 dX3_image_5 rfl (lv_at hl 1 rfl) ?_
  refine lv_i2l hC.1 hC.2.1 dX3_image_6 rfl ?_
  refine lv_lconst (v := 0) hC.1 hC.2.1 dX3_image_7 (by decide) ?_
  refine lv_lconst (v := 1) hC.1 hC.2.1 dX3_image_8 (by decide) ?_
  refine s_ci hC ((mc_in l (a := 0) (b := 1) rfl rfl rfl)) (cw_ms 3 hC.2.2.2.2 q1350 q1351 q1352 ⟨rfl, rfl⟩ rfl (by decide +kernel) ⟨Nat.le_of_ble_eq_true rfl, Nat.le_of_ble_eq_true rfl⟩) rfl hl.1 rfl (lv_room (Nat.le_of_ble_eq_true rfl)) dX3_image_9 ⟨Nat.le_of_ble_eq_true rfl, Nat.le_of_ble_eq_true rfl⟩ ?_
  refine lv_if_ne (tgt := 18) hC.1 hC.2.1 dX3_image_12 (by decide) (fun c2 => ?_) (fun c2 => ?_)
  ·
    skip
    rw [bI_n0] at c2
    obtain ⟨j, hj, rfl⟩ := in_nI (N := 1) rfl rfl c2
    have ej : iN (nI j) = j := iN_nI (by omega)
    refine lv_aload_n hC.1 hC.2.1 dX3_image_18 rfl (lv_at hl 0 rfl) ?_
    refine m_cr hC hK hM (mc_isThere l _ _) (cw_m 0 hC.2.2.2.2 q1458 q1460 qs39 q1461 ⟨rfl, rfl⟩ rfl (by decide +kernel) ⟨Nat.le_of_ble_eq_true rfl, Nat.le_of_ble_eq_true rfl⟩) rfl hl.1 rfl (lv_room (Nat.le_of_ble_eq_true rfl)) dX3_image_19 ⟨Nat.le_of_ble_eq_true rfl, Nat.le_of_ble_eq_true rfl⟩ ?_
    refine lv_if_ne (tgt := 28) hC.1 hC.2.1 dX3_image_22 (by decide) (fun c4 => ?_) (fun c4 => ?_)
    ·
      skip
      rw [bI_n0] at c4
      refine lv_iconst (v := 0) hC.1 hC.2.1 dX3_image_28 (by decide) ?_
      refine lv_istore_n (lv' := [(2, _), (0, _), (1, _)]) hC.1 hC.2.1 dX3_image_29 rfl hl (by decide) rfl (fun ls hl => ?_)
      refine w_ind (α := Nat) 30 (fun (k : Nat) => 94 - k) (fun (k : Nat) (H : Heap) (locs : List Loc) (ls : Array Slot) => (k ≤ 94) ∧ MS D ac A G s.heap mo ad (upd v 0 0) (wseg w 23 (94 * j) k (w 5)) H locs ∧ lv_has ls 3 [(0, .ref mo), (1, .int (nI j)), (2, .int (nI k))]) ?_ (0) ⟨by omega, by rw [wseg_0]; exact hM, lv_sub hl [1, 2, 0] rfl⟩
      intro k H locs ls hI ih30
      obtain ⟨hI30, hM, hl⟩ := hI
      refine lv_iload_n hC.1 hC.2.1 dX3_image_30 rfl (lv_at hl 2 rfl) ?_
      refine lv_bipush (v := 94) hC.1 hC.2.1 dX3_image_31 (by decide) ?_
      refine lv_icmp_ge (tgt := 59) hC.1 hC.2.1 dX3_image_33 (by decide) (fun c5 => ?_) (fun c5 => ?_)
      ·
        have nc5 := Int32.not_lt.mpr c5
        have hx33 := nle_t (a := 94) (b := k) c5
        obtain rfl : k = 94 := by omega
        refine lv_aload_n hC.1 hC.2.1 dX3_image_59 rfl (lv_at hl 0 rfl) ?_
        refine m_get hC hK hM 22 (by decide) q1284 rfl rfl dX3_image_60 ?_
        refine lv_iload_n hC.1 hC.2.1 dX3_image_63 rfl (lv_at hl 1 rfl) ?_
        refine lv_iconst (v := 1) hC.1 hC.2.1 dX3_image_64 (by decide) ?_
        refine m_zast hC hK hM 22 rfl (n := j) (by first | rfl | (simp only [← nI_add, ← pk_mul]; rfl)) (by first | decide | (show _ < 2; omega)) dX3_image_65 (fun H locs hM => ?_)
        refine lv_iconst (v := 1) hC.1 hC.2.1 dX3_image_66 (by decide) ?_
        refine m_iret hC hr hlocks hM dX3_image_67 ?_
        first | (simp [op_image, vp_nar, narrow, wup_s, upd_s, wup_n, upd_n, *]; done) | (simp_all [op_image, vp_nar, narrow, wup_s, upd_s, wup_n, upd_n]; done) | grind [op_image, vp_nar, narrow, wup_s, upd_s, wup_n, upd_n]
      ·
        have nc5 := Int32.not_le.mp c5
        have hx33 := nle_f (a := 94) (b := k) c5
        refine lv_aload_n hC.1 hC.2.1 dX3_image_36 rfl (lv_at hl 0 rfl) ?_
        refine m_get hC hK hM 23 (by decide) q1285 rfl rfl dX3_image_37 ?_
        refine lv_bipush (v := 94) hC.1 hC.2.1 dX3_image_40 (by decide) ?_
        refine lv_iload_n hC.1 hC.2.1 dX3_image_42 rfl (lv_at hl 1 rfl) ?_
        refine lv_imul hC.1 hC.2.1 dX3_image_43 ?_
        refine lv_iload_n hC.1 hC.2.1 dX3_image_44 rfl (lv_at hl 2 rfl) ?_
        refine lv_iadd hC.1 hC.2.1 dX3_image_45 ?_
        refine lv_aload_n hC.1 hC.2.1 dX3_image_46 rfl (lv_at hl 0 rfl) ?_
        refine m_get hC hK hM 5 (by decide) q1267 rfl rfl dX3_image_47 ?_
        refine lv_iload_n hC.1 hC.2.1 dX3_image_50 rfl (lv_at hl 2 rfl) ?_
        refine m_iald hC hK hM 5 rfl (n := k) (by first | rfl | (simp only [← nI_add, ← pk_mul]; rfl)) (by first | decide | (show _ < 94; omega)) dX3_image_51 ?_
        refine m_iast hC hK hM 23 rfl (n := ((94 * j) + k)) (by first | rfl | (simp only [← nI_add, ← pk_mul]; rfl)) (by first | decide | (show _ < 188; omega)) dX3_image_52 (fun H locs hM => ?_)
        refine lv_iinc (v := nI (k + 1)) (lv' := [(2, _), (0, _), (1, _)]) hC.1 hC.2.1 dX3_image_53 hl (k := 2) rfl (nI_1 _) (by decide) rfl (fun ls hl => ?_)
        refine lv_goto (tgt := 30) hC.1 hC.2.1 dX3_image_56 (by decide) ?_
        exact ih30 (k + 1) _ _ _ (by omega) ⟨by omega, by rw [← wseg_s]; exact hM, lv_sub hl [1, 2, 0] rfl⟩
    ·
      skip
      rw [bI_0] at c4
      refine lv_ldc hC.1 hC.2.1 hC.2.2.2.1 (hC.2.2.2.2 _ q1462) dX3_image_25 ?_
      refine m_iret hC hr hlocks hM dX3_image_27 ?_
      first | (simp [op_image, vp_nar, narrow, wup_s, upd_s, wup_n, upd_n, *]; done) | (simp_all [op_image, vp_nar, narrow, wup_s, upd_s, wup_n, upd_n]; done) | grind [op_image, vp_nar, narrow, wup_s, upd_s, wup_n, upd_n]
  ·
    skip
    rw [bI_0] at c2
    refine lv_ldc hC.1 hC.2.1 hC.2.2.2.1 (hC.2.2.2.2 _ q1354) dX3_image_15 ?_
    refine m_iret hC hr hlocks hM dX3_image_17 ?_
    first | (simp [op_image, vp_nar, narrow, wup_s, upd_s, wup_n, upd_n, *]; done) | (simp_all [op_image, vp_nar, narrow, wup_s, upd_s, wup_n, upd_n]; done) | grind [op_image, vp_nar, narrow, wup_s, upd_s, wup_n, upd_n]

set_option maxHeartbeats 400000 in
set_option maxRecDepth 100000 in
theorem mc_restore (l : Launch) (v : Nat → Int32) (w : Nat → Nat → Int32) (x : Int32) : mMi l yX3_restore cX3_restore 3 (some .int) ({ frames := 1, cells := 0, slots := 0, locals := 25 }) [.int x] v w (fun r v1 w1 => (r, v1, w1) = op_restore v w x) := by
  intro D ac A G mo ad
  refine m_body rfl (Nat.le_of_ble_eq_true rfl) ?_
  intro p e s m args below meth c ls hC hr hlocks hK hM hl
  have hl : lv_has ls 3 [(0, .ref mo), (1, .int x)] := hl
  refine lv_aload_n hC.1 hC.2.1 dX3_restore_0 rfl (lv_at hl 0 rfl) ?_
  refine lv_iconst (v := 0) hC.1 hC.2.1 dX3_restore_1 (by decide) ?_
  refine m_put hC hK hM 0 (by decide) q1262 rfl rfl rfl rfl dX3_restore_2 (fun H locs hM => ?_)
  refine lv_iload_n hC.1 hC.2.1 dX3_restore_5 rfl (lv_at hl 1 rfl) ?_
  refine lv_i2l hC.1 hC.2.1 dX3_restore_6 rfl ?_
  refine lv_lconst (v := 0) hC.1 hC.2.1 dX3_restore_7 (by decide) ?_
  refine lv_lconst (v := 1) hC.1 hC.2.1 dX3_restore_8 (by decide) ?_
  refine s_ci hC ((mc_in l (a := 0) (b := 1) rfl rfl rfl)) (cw_ms 3 hC.2.2.2.2 q1350 q1351 q1352 ⟨rfl, rfl⟩ rfl (by decide +kernel) ⟨Nat.le_of_ble_eq_true rfl, Nat.le_of_ble_eq_true rfl⟩) rfl hl.1 rfl (lv_room (Nat.le_of_ble_eq_true rfl)) dX3_restore_9 ⟨Nat.le_of_ble_eq_true rfl, Nat.le_of_ble_eq_true rfl⟩ ?_
  refine lv_if_ne (tgt := 18) hC.1 hC.2.1 dX3_restore_12 (by decide) (fun c2 => ?_) (fun c2 => ?_)
  ·
    skip
    rw [bI_n0] at c2
    obtain ⟨j, hj, rfl⟩ := in_nI (N := 1) rfl rfl c2
    have ej : iN (nI j) = j := iN_nI (by omega)
    refine lv_aload_n hC.1 hC.2.1 dX3_restore_18 rfl (lv_at hl 0 rfl) ?_
    refine m_get hC hK hM 22 (by decide) q1284 rfl rfl dX3_restore_19 ?_
    refine lv_iload_n hC.1 hC.2.1 dX3_restore_22 rfl (lv_at hl 1 rfl) ?_
    refine m_zald hC hK hM 22 rfl (n := j) (by first | rfl | (simp only [← nI_add, ← pk_mul]; rfl)) (by first | decide | (show _ < 2; omega)) dX3_restore_23 ?_
    refine lv_if_ne (tgt := 30) hC.1 hC.2.1 dX3_restore_24 (by decide) (fun c3 => ?_) (fun c3 => ?_)
    ·
      skip
      refine lv_iconst (v := 0) hC.1 hC.2.1 dX3_restore_30 (by decide) ?_
      refine lv_istore_n (lv' := [(2, _), (0, _), (1, _)]) hC.1 hC.2.1 dX3_restore_31 rfl hl (by decide) rfl (fun ls hl => ?_)
      refine w_ind (α := Nat) 32 (fun (k : Nat) => 94 - k) (fun (k : Nat) (H : Heap) (locs : List Loc) (ls : Array Slot) => (k ≤ 94) ∧ MS D ac A G s.heap mo ad (upd v 0 0) (wseg w 5 0 k (fun q => w 23 (94 * j + q))) H locs ∧ lv_has ls 3 [(0, .ref mo), (1, .int (nI j)), (2, .int (nI k))]) ?_ (0) ⟨by omega, by rw [wseg_0]; exact hM, lv_sub hl [1, 2, 0] rfl⟩
      intro k H locs ls hI ih32
      obtain ⟨hI32, hM, hl⟩ := hI
      refine lv_iload_n hC.1 hC.2.1 dX3_restore_32 rfl (lv_at hl 2 rfl) ?_
      refine lv_bipush (v := 94) hC.1 hC.2.1 dX3_restore_33 (by decide) ?_
      refine lv_icmp_ge (tgt := 61) hC.1 hC.2.1 dX3_restore_35 (by decide) (fun c4 => ?_) (fun c4 => ?_)
      ·
        have nc4 := Int32.not_lt.mpr c4
        have hx35 := nle_t (a := 94) (b := k) c4
        obtain rfl : k = 94 := by omega
        refine lv_aload_n hC.1 hC.2.1 dX3_restore_61 rfl (lv_at hl 0 rfl) ?_
        refine lv_iconst (v := 0) hC.1 hC.2.1 dX3_restore_62 (by decide) ?_
        refine m_put hC hK hM 8 (by decide) q1270 rfl rfl rfl rfl dX3_restore_63 (fun H locs hM => ?_)
        refine lv_iconst (v := 1) hC.1 hC.2.1 dX3_restore_66 (by decide) ?_
        refine m_iret hC hr hlocks hM dX3_restore_67 ?_
        first | (simp [op_restore, wup_s, upd_s, wup_n, upd_n, *]; done) | (simp_all [op_restore, wup_s, upd_s, wup_n, upd_n]; done) | grind [op_restore, wup_s, upd_s, wup_n, upd_n]
      ·
        have nc4 := Int32.not_le.mp c4
        have hx35 := nle_f (a := 94) (b := k) c4
        refine lv_aload_n hC.1 hC.2.1 dX3_restore_38 rfl (lv_at hl 0 rfl) ?_
        refine m_get hC hK hM 5 (by decide) q1267 rfl rfl dX3_restore_39 ?_
        refine lv_iload_n hC.1 hC.2.1 dX3_restore_42 rfl (lv_at hl 2 rfl) ?_
        refine lv_aload_n hC.1 hC.2.1 dX3_restore_43 rfl (lv_at hl 0 rfl) ?_
        refine m_get hC hK hM 23 (by decide) q1285 rfl rfl dX3_restore_44 ?_
        refine lv_bipush (v := 94) hC.1 hC.2.1 dX3_restore_47 (by decide) ?_
        refine lv_iload_n hC.1 hC.2.1 dX3_restore_49 rfl (lv_at hl 1 rfl) ?_
        refine lv_imul hC.1 hC.2.1 dX3_restore_50 ?_
        refine lv_iload_n hC.1 hC.2.1 dX3_restore_51 rfl (lv_at hl 2 rfl) ?_
        refine lv_iadd hC.1 hC.2.1 dX3_restore_52 ?_
        refine m_iald hC hK hM 23 rfl (n := ((94 * j) + k)) (by first | rfl | (simp only [← nI_add, ← pk_mul]; rfl)) (by first | decide | (show _ < 188; omega)) dX3_restore_53 ?_
        refine m_iast hC hK hM 5 rfl (n := k) (by first | rfl | (simp only [← nI_add, ← pk_mul]; rfl)) (by first | decide | (show _ < 94; omega)) dX3_restore_54 (fun H locs hM => ?_)
        refine lv_iinc (v := nI (k + 1)) (lv' := [(2, _), (0, _), (1, _)]) hC.1 hC.2.1 dX3_restore_55 hl (k := 2) rfl (nI_1 _) (by decide) rfl (fun ls hl => ?_)
        refine lv_goto (tgt := 32) hC.1 hC.2.1 dX3_restore_58 (by decide) ?_
        exact ih32 (k + 1) _ _ _ (by omega) ⟨by omega, by rw [← wseg_sx (w := w) (a := 5) (lo := 0) (n := k) (m := k) (f := fun q => w 23 (94 * j + q)) (by omega) rfl]; exact hM, lv_sub hl [1, 2, 0] rfl⟩
    ·
      skip
      refine lv_ldc hC.1 hC.2.1 hC.2.2.2.1 (hC.2.2.2.2 _ q1462) dX3_restore_27 ?_
      refine m_iret hC hr hlocks hM dX3_restore_29 ?_
      first | (simp [op_restore, wup_s, upd_s, wup_n, upd_n, *]; done) | (simp_all [op_restore, wup_s, upd_s, wup_n, upd_n]; done) | grind [op_restore, wup_s, upd_s, wup_n, upd_n]
  ·
    skip
    rw [bI_0] at c2
    refine lv_ldc hC.1 hC.2.1 hC.2.2.2.1 (hC.2.2.2.2 _ q1354) dX3_restore_15 ?_
    refine m_iret hC hr hlocks hM dX3_restore_17 ?_
    first | (simp [op_restore, wup_s, upd_s, wup_n, upd_n, *]; done) | (simp_all [op_restore, wup_s, upd_s, wup_n, upd_n]; done) | grind [op_restore, wup_s, upd_s, wup_n, upd_n]

set_option maxHeartbeats 400000 in
set_option maxRecDepth 100000 in
theorem mc_kind (l : Launch) (v : Nat → Int32) (w : Nat → Nat → Int32) (x : Int32) (n mv tm : Nat) (hd : rdN w n mv tm) : mMi l yX3_kind cX3_kind 2 (some .int) ({ frames := 2, cells := 0, slots := 0, locals := 46 }) [.int x] v w (fun r v1 w1 => (r, v1, w1) = op_kind v w x) := by
  intro D ac A G mo ad
  refine m_body rfl (Nat.le_of_ble_eq_true rfl) ?_
  intro p e s m args below meth c ls hC hr hlocks hK hM hl
  have hl : lv_has ls 2 [(0, .ref mo), (1, .int x)] := hl
  obtain ⟨en, hn, em, hm, et, ht⟩ := hd
  refine lv_aload_n hC.1 hC.2.1 dX3_kind_0 rfl (lv_at hl 0 rfl) ?_
  refine lv_iconst (v := 0) hC.1 hC.2.1 dX3_kind_1 (by decide) ?_
  refine m_put hC hK hM 0 (by decide) q1262 rfl rfl rfl rfl dX3_kind_2 (fun H locs hM => ?_)
  refine lv_aload_n hC.1 hC.2.1 dX3_kind_5 rfl (lv_at hl 0 rfl) ?_
  refine lv_iload_n hC.1 hC.2.1 dX3_kind_6 rfl (lv_at hl 1 rfl) ?_
  refine m_cr hC hK hM (mc_isMover l _ _ _) (cw_m 1 hC.2.2.2.2 q1608 q1610 qs56 q1611 ⟨rfl, rfl⟩ rfl (by decide +kernel) ⟨Nat.le_of_ble_eq_true rfl, Nat.le_of_ble_eq_true rfl⟩) rfl hl.1 rfl (lv_room (Nat.le_of_ble_eq_true rfl)) dX3_kind_7 ⟨Nat.le_of_ble_eq_true rfl, Nat.le_of_ble_eq_true rfl⟩ ?_
  refine lv_if_eq (tgt := 22) hC.1 hC.2.1 dX3_kind_10 (by decide) (fun c2 => ?_) (fun c2 => ?_)
  ·
    skip
    rw [bI_0] at c2
    refine lv_ldc hC.1 hC.2.1 hC.2.2.2.1 (hC.2.2.2.2 _ q1354) dX3_kind_22 ?_
    refine m_iret hC hr hlocks hM dX3_kind_24 ?_
    first | (simp [op_kind, wup_s, upd_s, wup_n, upd_n, *]; done) | (simp_all [op_kind, wup_s, upd_s, wup_n, upd_n]; done) | grind [op_kind, wup_s, upd_s, wup_n, upd_n]
  ·
    skip
    rw [bI_n0, em] at c2
    obtain ⟨j, hj, rfl⟩ := in_nI1 (by omega) c2
    have ej : iN (nI j) = j := iN_nI (by omega)
    refine lv_aload_n hC.1 hC.2.1 dX3_kind_13 rfl (lv_at hl 0 rfl) ?_
    refine lv_iload_n hC.1 hC.2.1 dX3_kind_14 rfl (lv_at hl 1 rfl) ?_
    refine lv_iconst (v := 0) hC.1 hC.2.1 dX3_kind_15 (by decide) ?_
    refine m_cr hC hK hM (mc_of l _ _ j 0 (by omega) (by omega)) (cw_m 2 hC.2.2.2.2 q1483 q1485 qs45 q1486 ⟨rfl, rfl⟩ rfl (by decide +kernel) ⟨Nat.le_of_ble_eq_true rfl, Nat.le_of_ble_eq_true rfl⟩) rfl hl.1 rfl (lv_room (Nat.le_of_ble_eq_true rfl)) dX3_kind_16 ⟨Nat.le_of_ble_eq_true rfl, Nat.le_of_ble_eq_true rfl⟩ ?_
    refine lv_goto (tgt := 24) hC.1 hC.2.1 dX3_kind_19 (by decide) ?_
    refine m_iret hC hr hlocks hM dX3_kind_24 ?_
    first | (simp [op_kind, wup_s, upd_s, wup_n, upd_n, *]; done) | (simp_all [op_kind, wup_s, upd_s, wup_n, upd_n]; done) | grind [op_kind, wup_s, upd_s, wup_n, upd_n]

set_option maxHeartbeats 400000 in
set_option maxRecDepth 100000 in
theorem mc_isOf (l : Launch) (a b : Int32) : sMi l yX3_isOf cX3_isOf 2 (some .boolean) ({ frames := 0, cells := 0, slots := 0, locals := 0 }) [.int a, .int b] (bI (b = 0 ∨ a = b ∨ (b = 1 ∧ a < 4) ∨ (b = 4 ∧ a = 5))) := by
  refine s_body (own := RX3) rfl (by decide) (Nat.le_of_ble_eq_true rfl) ?_
  intro p e s m args below meth c ls hC hr hlocks hl
  have hl : lv_has ls 2 [(0, .int a), (1, .int b)] := hl
  refine lv_iload_n hC.1 hC.2.1 dX3_isOf_0 rfl (lv_at hl 1 rfl) ?_
  refine lv_if_eq (tgt := 29) hC.1 hC.2.1 dX3_isOf_1 (by decide) (fun c1 => ?_) (fun c1 => ?_)
  ·
    skip
    refine lv_iconst (v := 1) hC.1 hC.2.1 dX3_isOf_29 (by decide) ?_
    refine lv_goto (tgt := 34) hC.1 hC.2.1 dX3_isOf_30 (by decide) ?_
    refine s_zret hC hr hlocks (by first | exact bI_01 _ | exact Or.inl rfl | exact Or.inr rfl) dX3_isOf_34 ?_
    first | (rw [bI_t]; simp [*]; done) | (rw [bI_f]; simp [*]; done) | grind [bI]
  ·
    skip
    refine lv_iload_n hC.1 hC.2.1 dX3_isOf_4 rfl (lv_at hl 0 rfl) ?_
    refine lv_iload_n hC.1 hC.2.1 dX3_isOf_5 rfl (lv_at hl 1 rfl) ?_
    refine lv_icmp_eq (tgt := 29) hC.1 hC.2.1 dX3_isOf_6 (by decide) (fun c2 => ?_) (fun c2 => ?_)
    ·
      skip
      refine lv_iconst (v := 1) hC.1 hC.2.1 dX3_isOf_29 (by decide) ?_
      refine lv_goto (tgt := 34) hC.1 hC.2.1 dX3_isOf_30 (by decide) ?_
      refine s_zret hC hr hlocks (by first | exact bI_01 _ | exact Or.inl rfl | exact Or.inr rfl) dX3_isOf_34 ?_
      first | (rw [bI_t]; simp [*]; done) | (rw [bI_f]; simp [*]; done) | grind [bI]
    ·
      skip
      refine lv_iload_n hC.1 hC.2.1 dX3_isOf_9 rfl (lv_at hl 1 rfl) ?_
      refine lv_iconst (v := 1) hC.1 hC.2.1 dX3_isOf_10 (by decide) ?_
      refine lv_icmp_ne (tgt := 19) hC.1 hC.2.1 dX3_isOf_11 (by decide) (fun c3 => ?_) (fun c3 => ?_)
      ·
        skip
        refine lv_iload_n hC.1 hC.2.1 dX3_isOf_19 rfl (lv_at hl 1 rfl) ?_
        refine lv_iconst (v := 4) hC.1 hC.2.1 dX3_isOf_20 (by decide) ?_
        refine lv_icmp_ne (tgt := 33) hC.1 hC.2.1 dX3_isOf_21 (by decide) (fun c4 => ?_) (fun c4 => ?_)
        ·
          skip
          refine lv_iconst (v := 0) hC.1 hC.2.1 dX3_isOf_33 (by decide) ?_
          refine s_zret hC hr hlocks (by first | exact bI_01 _ | exact Or.inl rfl | exact Or.inr rfl) dX3_isOf_34 ?_
          first | (rw [bI_t]; simp [*]; done) | (rw [bI_f]; simp [*]; done) | grind [bI]
        ·
          skip
          refine lv_iload_n hC.1 hC.2.1 dX3_isOf_24 rfl (lv_at hl 0 rfl) ?_
          refine lv_iconst (v := 5) hC.1 hC.2.1 dX3_isOf_25 (by decide) ?_
          refine lv_icmp_ne (tgt := 33) hC.1 hC.2.1 dX3_isOf_26 (by decide) (fun c5 => ?_) (fun c5 => ?_)
          ·
            skip
            refine lv_iconst (v := 0) hC.1 hC.2.1 dX3_isOf_33 (by decide) ?_
            refine s_zret hC hr hlocks (by first | exact bI_01 _ | exact Or.inl rfl | exact Or.inr rfl) dX3_isOf_34 ?_
            first | (rw [bI_t]; simp [*]; done) | (rw [bI_f]; simp [*]; done) | grind [bI]
          ·
            skip
            refine lv_iconst (v := 1) hC.1 hC.2.1 dX3_isOf_29 (by decide) ?_
            refine lv_goto (tgt := 34) hC.1 hC.2.1 dX3_isOf_30 (by decide) ?_
            refine s_zret hC hr hlocks (by first | exact bI_01 _ | exact Or.inl rfl | exact Or.inr rfl) dX3_isOf_34 ?_
            first | (rw [bI_t]; simp [*]; done) | (rw [bI_f]; simp [*]; done) | grind [bI]
      ·
        skip
        refine lv_iload_n hC.1 hC.2.1 dX3_isOf_14 rfl (lv_at hl 0 rfl) ?_
        refine lv_iconst (v := 4) hC.1 hC.2.1 dX3_isOf_15 (by decide) ?_
        refine lv_icmp_lt (tgt := 29) hC.1 hC.2.1 dX3_isOf_16 (by decide) (fun c6 => ?_) (fun c6 => ?_)
        ·
          have nc6 := Int32.not_le.mpr c6
          refine lv_iconst (v := 1) hC.1 hC.2.1 dX3_isOf_29 (by decide) ?_
          refine lv_goto (tgt := 34) hC.1 hC.2.1 dX3_isOf_30 (by decide) ?_
          refine s_zret hC hr hlocks (by first | exact bI_01 _ | exact Or.inl rfl | exact Or.inr rfl) dX3_isOf_34 ?_
          first | (rw [bI_t]; simp [*]; done) | (rw [bI_f]; simp [*]; done) | grind [bI]
        ·
          have nc6 := Int32.not_lt.mp c6
          refine lv_iload_n hC.1 hC.2.1 dX3_isOf_19 rfl (lv_at hl 1 rfl) ?_
          refine lv_iconst (v := 4) hC.1 hC.2.1 dX3_isOf_20 (by decide) ?_
          refine lv_icmp_ne (tgt := 33) hC.1 hC.2.1 dX3_isOf_21 (by decide) (fun c7 => ?_) (fun c7 => ?_)
          ·
            skip
            refine lv_iconst (v := 0) hC.1 hC.2.1 dX3_isOf_33 (by decide) ?_
            refine s_zret hC hr hlocks (by first | exact bI_01 _ | exact Or.inl rfl | exact Or.inr rfl) dX3_isOf_34 ?_
            first | (rw [bI_t]; simp [*]; done) | (rw [bI_f]; simp [*]; done) | grind [bI]
          ·
            skip
            refine lv_iload_n hC.1 hC.2.1 dX3_isOf_24 rfl (lv_at hl 0 rfl) ?_
            refine lv_iconst (v := 5) hC.1 hC.2.1 dX3_isOf_25 (by decide) ?_
            refine lv_icmp_ne (tgt := 33) hC.1 hC.2.1 dX3_isOf_26 (by decide) (fun c8 => ?_) (fun c8 => ?_)
            ·
              skip
              refine lv_iconst (v := 0) hC.1 hC.2.1 dX3_isOf_33 (by decide) ?_
              refine s_zret hC hr hlocks (by first | exact bI_01 _ | exact Or.inl rfl | exact Or.inr rfl) dX3_isOf_34 ?_
              first | (rw [bI_t]; simp [*]; done) | (rw [bI_f]; simp [*]; done) | grind [bI]
            ·
              skip
              refine lv_iconst (v := 1) hC.1 hC.2.1 dX3_isOf_29 (by decide) ?_
              refine lv_goto (tgt := 34) hC.1 hC.2.1 dX3_isOf_30 (by decide) ?_
              refine s_zret hC hr hlocks (by first | exact bI_01 _ | exact Or.inl rfl | exact Or.inr rfl) dX3_isOf_34 ?_
              first | (rw [bI_t]; simp [*]; done) | (rw [bI_f]; simp [*]; done) | grind [bI]

set_option maxHeartbeats 400000 in
set_option maxRecDepth 100000 in
theorem mc_as (l : Launch) (v : Nat → Int32) (w : Nat → Nat → Int32) (x f : Int32) (n mv tm : Nat) (hd : rdN w n mv tm) : mMi l yX3_as cX3_as 3 (some .int) ({ frames := 2, cells := 0, slots := 0, locals := 46 }) [.int x, .int f] v w (fun r v1 w1 => (r, v1, w1) = op_as v w x f) := by
  intro D ac A G mo ad
  refine m_body rfl (Nat.le_of_ble_eq_true rfl) ?_
  intro p e s m args below meth c ls hC hr hlocks hK hM hl
  have hl : lv_has ls 3 [(0, .ref mo), (1, .int x), (2, .int f)] := hl
  obtain ⟨en, hn, em, hm, et, ht⟩ := hd
  refine lv_aload_n hC.1 hC.2.1 dX3_as_0 rfl (lv_at hl 0 rfl) ?_
  refine lv_iconst (v := 0) hC.1 hC.2.1 dX3_as_1 (by decide) ?_
  refine m_put hC hK hM 0 (by decide) q1262 rfl rfl rfl rfl dX3_as_2 (fun H locs hM => ?_)
  refine lv_aload_n hC.1 hC.2.1 dX3_as_5 rfl (lv_at hl 0 rfl) ?_
  refine lv_iload_n hC.1 hC.2.1 dX3_as_6 rfl (lv_at hl 1 rfl) ?_
  refine m_cr hC hK hM (mc_isMover l _ _ _) (cw_m 1 hC.2.2.2.2 q1608 q1610 qs56 q1611 ⟨rfl, rfl⟩ rfl (by decide +kernel) ⟨Nat.le_of_ble_eq_true rfl, Nat.le_of_ble_eq_true rfl⟩) rfl hl.1 rfl (lv_room (Nat.le_of_ble_eq_true rfl)) dX3_as_7 ⟨Nat.le_of_ble_eq_true rfl, Nat.le_of_ble_eq_true rfl⟩ ?_
  refine lv_if_eq (tgt := 25) hC.1 hC.2.1 dX3_as_10 (by decide) (fun c2 => ?_) (fun c2 => ?_)
  ·
    skip
    rw [bI_0] at c2
    refine lv_ldc hC.1 hC.2.1 hC.2.2.2.1 (hC.2.2.2.2 _ q1354) dX3_as_25 ?_
    refine m_iret hC hr hlocks hM dX3_as_27 ?_
    first | (simp only [op_as, ej]; grind) | first | (simp [op_as, wup_s, upd_s, wup_n, upd_n, *]; done) | (simp_all [op_as, wup_s, upd_s, wup_n, upd_n]; done) | grind [op_as, wup_s, upd_s, wup_n, upd_n]
  ·
    skip
    rw [bI_n0, em] at c2
    obtain ⟨j, hj, rfl⟩ := in_nI1 (by omega) c2
    have ej : iN (nI j) = j := iN_nI (by omega)
    refine lv_iload_n hC.1 hC.2.1 dX3_as_13 rfl (lv_at hl 2 rfl) ?_
    refine lv_i2l hC.1 hC.2.1 dX3_as_14 rfl ?_
    refine lv_lconst (v := 0) hC.1 hC.2.1 dX3_as_15 (by decide) ?_
    refine lv_ldc2 hC.1 hC.2.1 hC.2.2.2.1 (hC.2.2.2.2 _ q1616) dX3_as_16 ?_
    refine s_ci hC ((mc_in l (a := 0) (b := 5) rfl rfl rfl)) (cw_ms 3 hC.2.2.2.2 q1350 q1351 q1352 ⟨rfl, rfl⟩ rfl (by decide +kernel) ⟨Nat.le_of_ble_eq_true rfl, Nat.le_of_ble_eq_true rfl⟩) rfl hl.1 rfl (lv_room (Nat.le_of_ble_eq_true rfl)) dX3_as_19 ⟨Nat.le_of_ble_eq_true rfl, Nat.le_of_ble_eq_true rfl⟩ ?_
    refine lv_if_ne (tgt := 28) hC.1 hC.2.1 dX3_as_22 (by decide) (fun c4 => ?_) (fun c4 => ?_)
    ·
      skip
      rw [bI_n0] at c4
      refine lv_aload_n hC.1 hC.2.1 dX3_as_28 rfl (lv_at hl 0 rfl) ?_
      refine lv_iconst (v := 0) hC.1 hC.2.1 dX3_as_29 (by decide) ?_
      refine m_put hC hK hM 1 (by decide) q1263 rfl rfl rfl rfl dX3_as_30 (fun H locs hM => ?_)
      refine lv_aload_n hC.1 hC.2.1 dX3_as_33 rfl (lv_at hl 0 rfl) ?_
      refine lv_iload_n hC.1 hC.2.1 dX3_as_34 rfl (lv_at hl 1 rfl) ?_
      refine lv_iconst (v := 0) hC.1 hC.2.1 dX3_as_35 (by decide) ?_
      refine m_cr hC hK hM (mc_of l _ _ j 0 (by omega) (by omega)) (cw_m 2 hC.2.2.2.2 q1483 q1485 qs45 q1486 ⟨rfl, rfl⟩ rfl (by decide +kernel) ⟨Nat.le_of_ble_eq_true rfl, Nat.le_of_ble_eq_true rfl⟩) rfl hl.1 rfl (lv_room (Nat.le_of_ble_eq_true rfl)) dX3_as_36 ⟨Nat.le_of_ble_eq_true rfl, Nat.le_of_ble_eq_true rfl⟩ ?_
      refine lv_iload_n hC.1 hC.2.1 dX3_as_39 rfl (lv_at hl 2 rfl) ?_
      refine s_ci hC (mc_isOf l _ _) (cw_ms 2 hC.2.2.2.2 q1617 q1618 q1619 ⟨rfl, rfl⟩ rfl (by decide +kernel) ⟨Nat.le_of_ble_eq_true rfl, Nat.le_of_ble_eq_true rfl⟩) rfl hl.1 rfl (lv_room (Nat.le_of_ble_eq_true rfl)) dX3_as_40 ⟨Nat.le_of_ble_eq_true rfl, Nat.le_of_ble_eq_true rfl⟩ ?_
      refine lv_if_eq (tgt := 50) hC.1 hC.2.1 dX3_as_43 (by decide) (fun c7 => ?_) (fun c7 => ?_)
      ·
        skip
        rw [bI_0] at c7
        refine lv_aload_n hC.1 hC.2.1 dX3_as_50 rfl (lv_at hl 0 rfl) ?_
        refine lv_iconst (v := 3) hC.1 hC.2.1 dX3_as_51 (by decide) ?_
        refine m_cie hC hK hM (mc_finding l _ _ _) (cw_m 1 hC.2.2.2.2 q1355 q1357 qs26 q1358 ⟨rfl, rfl⟩ rfl (by decide +kernel) ⟨Nat.le_of_ble_eq_true rfl, Nat.le_of_ble_eq_true rfl⟩) rfl hl.1 rfl (lv_room (Nat.le_of_ble_eq_true rfl)) dX3_as_52 ⟨Nat.le_of_ble_eq_true rfl, Nat.le_of_ble_eq_true rfl⟩ (fun H locs hM => ?_)
        refine m_iret hC hr hlocks hM dX3_as_55 ?_
        first | (simp only [op_as, ej]; grind) | first | (simp [op_as, wup_s, upd_s, wup_n, upd_n, *]; done) | (simp_all [op_as, wup_s, upd_s, wup_n, upd_n]; done) | grind [op_as, wup_s, upd_s, wup_n, upd_n]
      ·
        skip
        rw [bI_n0] at c7
        refine lv_iload_n hC.1 hC.2.1 dX3_as_46 rfl (lv_at hl 1 rfl) ?_
        refine lv_goto (tgt := 55) hC.1 hC.2.1 dX3_as_47 (by decide) ?_
        refine m_iret hC hr hlocks hM dX3_as_55 ?_
        first | (simp only [op_as, ej]; grind) | first | (simp [op_as, wup_s, upd_s, wup_n, upd_n, *]; done) | (simp_all [op_as, wup_s, upd_s, wup_n, upd_n]; done) | grind [op_as, wup_s, upd_s, wup_n, upd_n]
    ·
      skip
      rw [bI_0] at c4
      refine lv_ldc hC.1 hC.2.1 hC.2.2.2.1 (hC.2.2.2.2 _ q1354) dX3_as_25 ?_
      refine m_iret hC hr hlocks hM dX3_as_27 ?_
      first | (simp only [op_as, ej]; grind) | first | (simp [op_as, wup_s, upd_s, wup_n, upd_n, *]; done) | (simp_all [op_as, wup_s, upd_s, wup_n, upd_n]; done) | grind [op_as, wup_s, upd_s, wup_n, upd_n]

set_option maxHeartbeats 400000 in
set_option maxRecDepth 100000 in
theorem mc_trace (l : Launch) (v : Nat → Int32) (w : Nat → Nat → Int32) (x : Int32) (n : Nat) (en : v 25 = nI n) (hn : n ≤ 16) : mMi l yX3_trace cX3_trace 2 (some .int) ({ frames := 1, cells := 0, slots := 0, locals := 25 }) [.int x] v w (fun r v1 w1 => (r, v1, w1) = op_trace v w x) := by
  intro D ac A G mo ad
  refine m_body rfl (Nat.le_of_ble_eq_true rfl) ?_
  intro p e s m args below meth c ls hC hr hlocks hK hM hl
  have hl : lv_has ls 2 [(0, .ref mo), (1, .int x)] := hl
  refine lv_aload_n hC.1 hC.2.1 dX3_trace_0 rfl (lv_at hl 0 rfl) ?_
  refine lv_iconst (v := 0) hC.1 hC.2.1 dX3_trace_1 (by decide) ?_
  refine m_put hC hK hM 0 (by decide) q1262 rfl rfl rfl rfl dX3_trace_2 (fun H locs hM => ?_)
  refine lv_iload_n hC.1 hC.2.1 dX3_trace_5 rfl (lv_at hl 1 rfl) ?_
  refine lv_i2l hC.1 hC.2.1 dX3_trace_6 rfl ?_
  refine lv_lconst (v := 0) hC.1 hC.2.1 dX3_trace_7 (by decide) ?_
  refine lv_aload_n hC.1 hC.2.1 dX3_trace_8 rfl (lv_at hl 0 rfl) ?_
  refine m_get hC hK hM 25 (by decide) q1287 rfl rfl dX3_trace_9 ?_
  rw [show upd v 0 0 25 = v 25 from rfl]
  refine lv_iconst (v := 1) hC.1 hC.2.1 dX3_trace_12 (by decide) ?_
  refine lv_isub hC.1 hC.2.1 dX3_trace_13 ?_
  refine lv_i2l hC.1 hC.2.1 dX3_trace_14 rfl ?_
  refine s_ci hC ((mc_in l (a := 0) (b := _) rfl rfl rfl)) (cw_ms 3 hC.2.2.2.2 q1350 q1351 q1352 ⟨rfl, rfl⟩ rfl (by decide +kernel) ⟨Nat.le_of_ble_eq_true rfl, Nat.le_of_ble_eq_true rfl⟩) rfl hl.1 rfl (lv_room (Nat.le_of_ble_eq_true rfl)) dX3_trace_15 ⟨Nat.le_of_ble_eq_true rfl, Nat.le_of_ble_eq_true rfl⟩ ?_
  refine lv_if_eq (tgt := 30) hC.1 hC.2.1 dX3_trace_18 (by decide) (fun c2 => ?_) (fun c2 => ?_)
  ·
    skip
    rw [bI_0] at c2
    refine lv_ldc hC.1 hC.2.1 hC.2.2.2.1 (hC.2.2.2.2 _ q1395) dX3_trace_30 ?_
    refine m_iret hC hr hlocks hM dX3_trace_32 ?_
    first | (simp [op_trace, wup_s, upd_s, wup_n, upd_n, *]; done) | (simp_all [op_trace, wup_s, upd_s, wup_n, upd_n]; done) | grind [op_trace, wup_s, upd_s, wup_n, upd_n]
  ·
    skip
    rw [bI_n0, en] at c2
    obtain ⟨j, hj, rfl⟩ := in_nI1 (by omega) c2
    have ej : iN (nI j) = j := iN_nI (by omega)
    refine lv_aload_n hC.1 hC.2.1 dX3_trace_21 rfl (lv_at hl 0 rfl) ?_
    refine m_get hC hK hM 24 (by decide) q1286 rfl rfl dX3_trace_22 ?_
    refine lv_iload_n hC.1 hC.2.1 dX3_trace_25 rfl (lv_at hl 1 rfl) ?_
    refine m_iald hC hK hM 24 rfl (n := j) (by first | rfl | (simp only [← nI_add, ← pk_mul]; rfl)) (by first | decide | (show _ < 16; omega)) dX3_trace_26 ?_
    refine lv_goto (tgt := 32) hC.1 hC.2.1 dX3_trace_27 (by decide) ?_
    refine m_iret hC hr hlocks hM dX3_trace_32 ?_
    first | (simp [op_trace, wup_s, upd_s, wup_n, upd_n, *]; done) | (simp_all [op_trace, wup_s, upd_s, wup_n, upd_n]; done) | grind [op_trace, wup_s, upd_s, wup_n, upd_n]

set_option maxHeartbeats 400000 in
set_option maxRecDepth 100000 in
theorem mc_count (l : Launch) (v : Nat → Int32) (w : Nat → Nat → Int32) (x : Int32) : mMi l yX3_count cX3_count 4 (some .int) ({ frames := 0, cells := 0, slots := 0, locals := 0 }) [.int x] v w (fun r v1 w1 => (r, v1, w1) = op_count v w x) := by
  intro D ac A G mo ad
  refine m_body rfl (Nat.le_of_ble_eq_true rfl) ?_
  intro p e s m args below meth c ls hC hr hlocks hK hM hl
  have hl : lv_has ls 4 [(0, .ref mo), (1, .int x)] := hl
  refine lv_aload_n hC.1 hC.2.1 dX3_count_0 rfl (lv_at hl 0 rfl) ?_
  refine lv_iconst (v := 0) hC.1 hC.2.1 dX3_count_1 (by decide) ?_
  refine m_put hC hK hM 0 (by decide) q1262 rfl rfl rfl rfl dX3_count_2 (fun H locs hM => ?_)
  refine lv_iconst (v := 0) hC.1 hC.2.1 dX3_count_5 (by decide) ?_
  refine lv_istore_n (lv' := [(2, _), (0, _), (1, _)]) hC.1 hC.2.1 dX3_count_6 rfl hl (by decide) rfl (fun ls hl => ?_)
  refine lv_iload_n hC.1 hC.2.1 dX3_count_7 rfl (lv_at hl 2 rfl) ?_
  rcases sw_cases x (n := 7) (by decide) with hsw | ⟨jsw, hjsw, rfl⟩
  ·
    refine lv_tableOut (tgt := 125) hC.1 hC.2.1 dX3_count_8 hsw (by decide) ?_
    refine lv_ldc hC.1 hC.2.1 hC.2.2.2.1 (hC.2.2.2.2 _ q1354) dX3_count_125 ?_
    refine m_iret hC hr hlocks hM dX3_count_127 ?_
    have z0 : ¬ x = 0 := by
      rintro rfl
      revert hsw
      decide
    have z1 : ¬ x = 1 := by
      rintro rfl
      revert hsw
      decide
    have z2 : ¬ x = 2 := by
      rintro rfl
      revert hsw
      decide
    have z3 : ¬ x = 3 := by
      rintro rfl
      revert hsw
      decide
    have z4 : ¬ x = 4 := by
      rintro rfl
      revert hsw
      decide
    have z5 : ¬ x = 5 := by
      rintro rfl
      revert hsw
      decide
    have z6 : ¬ x = 6 := by
      rintro rfl
      revert hsw
      decide
    simp [op_count, *]
  ·
    rcases (show jsw = 0 ∨ jsw = 1 ∨ jsw = 2 ∨ jsw = 3 ∨ jsw = 4 ∨ jsw = 5 ∨ jsw = 6 by omega) with rfl | rfl | rfl | rfl | rfl | rfl | rfl
    ·
      refine lv_tableIn (off := 44) (tgt := 52) hC.1 hC.2.1 dX3_count_8 (by decide) (by decide) rfl (by decide) ?_
      refine lv_iconst (v := 0) hC.1 hC.2.1 dX3_count_52 (by decide) ?_
      refine lv_istore_n (lv' := [(3, _), (2, _), (0, _), (1, _)]) hC.1 hC.2.1 dX3_count_53 rfl hl (by decide) rfl (fun ls hl => ?_)
      refine w_ind (α := Nat) 54 (fun (k : Nat) => 8 - k) (fun (k : Nat) (H : Heap) (locs : List Loc) (ls : Array Slot) => (k ≤ 8) ∧ MS D ac A G s.heap mo ad (upd v 0 0) (w) H locs ∧ lv_has ls 4 [(0, .ref mo), (2, .int (cntL (w 2) k)), (3, .int (nI k))]) ?_ (0) ⟨by omega, hM, lv_sub hl [2, 1, 0] rfl⟩
      intro k H locs ls hI ih54
      obtain ⟨hI54, hM, hl⟩ := hI
      refine lv_iload_n hC.1 hC.2.1 dX3_count_54 rfl (lv_at hl 2 rfl) ?_
      refine lv_bipush (v := 8) hC.1 hC.2.1 dX3_count_55 (by decide) ?_
      refine lv_icmp_ge (tgt := 83) hC.1 hC.2.1 dX3_count_57 (by decide) (fun c1 => ?_) (fun c1 => ?_)
      ·
        have nc1 := Int32.not_lt.mpr c1
        have hx57 := nle_t (a := 8) (b := k) c1
        obtain rfl : k = 8 := by omega
        refine lv_iload_n hC.1 hC.2.1 dX3_count_83 rfl (lv_at hl 1 rfl) ?_
        refine m_iret hC hr hlocks hM dX3_count_84 ?_
        first | (simp [op_count, nI, wup_s, upd_s, wup_n, upd_n, *]; done) | (simp_all [op_count, nI, wup_s, upd_s, wup_n, upd_n]; done) | grind [op_count, nI, wup_s, upd_s, wup_n, upd_n]
      ·
        have nc1 := Int32.not_le.mp c1
        have hx57 := nle_f (a := 8) (b := k) c1
        refine lv_iload_n hC.1 hC.2.1 dX3_count_60 rfl (lv_at hl 1 rfl) ?_
        refine lv_aload_n hC.1 hC.2.1 dX3_count_61 rfl (lv_at hl 0 rfl) ?_
        refine m_get hC hK hM 2 (by decide) q1264 rfl rfl dX3_count_62 ?_
        refine lv_iload_n hC.1 hC.2.1 dX3_count_65 rfl (lv_at hl 2 rfl) ?_
        refine m_iald hC hK hM 2 rfl (n := k) (by first | rfl | (simp only [← nI_add, ← pk_mul]; rfl)) (by first | decide | (show _ < 8; omega)) dX3_count_66 ?_
        refine lv_if_lt (tgt := 74) hC.1 hC.2.1 dX3_count_67 (by decide) (fun c2 => ?_) (fun c2 => ?_)
        ·
          have nc2 := Int32.not_le.mpr c2
          refine lv_iconst (v := 0) hC.1 hC.2.1 dX3_count_74 (by decide) ?_
          refine lv_iadd hC.1 hC.2.1 dX3_count_75 ?_
          refine lv_istore_n (lv' := [(2, _), (0, _), (3, _)]) hC.1 hC.2.1 dX3_count_76 rfl hl (by decide) rfl (fun ls hl => ?_)
          refine lv_iinc (v := nI (k + 1)) (lv' := [(3, _), (2, _), (0, _)]) hC.1 hC.2.1 dX3_count_77 hl (k := 2) rfl (nI_1 _) (by decide) rfl (fun ls hl => ?_)
          refine lv_goto (tgt := 54) hC.1 hC.2.1 dX3_count_80 (by decide) ?_
          have e1 : cntL (w 2) k + 0 = cntL (w 2) (k + 1) := by grind [cntL, bI]
          rw [e1] at hl
          exact ih54 (k + 1) _ _ _ (by omega) ⟨by omega, hM, lv_sub hl [2, 1, 0] rfl⟩
        ·
          have nc2 := Int32.not_lt.mp c2
          refine lv_iconst (v := 1) hC.1 hC.2.1 dX3_count_70 (by decide) ?_
          refine lv_goto (tgt := 75) hC.1 hC.2.1 dX3_count_71 (by decide) ?_
          refine lv_iadd hC.1 hC.2.1 dX3_count_75 ?_
          refine lv_istore_n (lv' := [(2, _), (0, _), (3, _)]) hC.1 hC.2.1 dX3_count_76 rfl hl (by decide) rfl (fun ls hl => ?_)
          refine lv_iinc (v := nI (k + 1)) (lv' := [(3, _), (2, _), (0, _)]) hC.1 hC.2.1 dX3_count_77 hl (k := 2) rfl (nI_1 _) (by decide) rfl (fun ls hl => ?_)
          refine lv_goto (tgt := 54) hC.1 hC.2.1 dX3_count_80 (by decide) ?_
          have e1 : cntL (w 2) k + 1 = cntL (w 2) (k + 1) := by grind [cntL, bI]
          rw [e1] at hl
          exact ih54 (k + 1) _ _ _ (by omega) ⟨by omega, hM, lv_sub hl [2, 1, 0] rfl⟩
    ·
      refine lv_tableIn (off := 77) (tgt := 85) hC.1 hC.2.1 dX3_count_8 (by decide) (by decide) rfl (by decide) ?_
      refine lv_aload_n hC.1 hC.2.1 dX3_count_85 rfl (lv_at hl 1 rfl) ?_
      refine m_get hC hK hM 5 (by decide) q1267 rfl rfl dX3_count_86 ?_
      refine lv_iconst (v := 4) hC.1 hC.2.1 dX3_count_89 (by decide) ?_
      refine m_iald hC hK hM 5 rfl (n := 4) (by first | rfl | (simp only [← nI_add, ← pk_mul]; rfl)) (by first | decide | (show _ < 94; omega)) dX3_count_90 ?_
      refine m_iret hC hr hlocks hM dX3_count_91 ?_
      first | (simp [op_count, nI, wup_s, upd_s, wup_n, upd_n, *]; done) | (simp_all [op_count, nI, wup_s, upd_s, wup_n, upd_n]; done) | grind [op_count, nI, wup_s, upd_s, wup_n, upd_n]
    ·
      refine lv_tableIn (off := 84) (tgt := 92) hC.1 hC.2.1 dX3_count_8 (by decide) (by decide) rfl (by decide) ?_
      refine lv_aload_n hC.1 hC.2.1 dX3_count_92 rfl (lv_at hl 1 rfl) ?_
      refine m_get hC hK hM 5 (by decide) q1267 rfl rfl dX3_count_93 ?_
      refine lv_iconst (v := 5) hC.1 hC.2.1 dX3_count_96 (by decide) ?_
      refine m_iald hC hK hM 5 rfl (n := 5) (by first | rfl | (simp only [← nI_add, ← pk_mul]; rfl)) (by first | decide | (show _ < 94; omega)) dX3_count_97 ?_
      refine m_iret hC hr hlocks hM dX3_count_98 ?_
      first | (simp [op_count, nI, wup_s, upd_s, wup_n, upd_n, *]; done) | (simp_all [op_count, nI, wup_s, upd_s, wup_n, upd_n]; done) | grind [op_count, nI, wup_s, upd_s, wup_n, upd_n]
    ·
      refine lv_tableIn (off := 91) (tgt := 99) hC.1 hC.2.1 dX3_count_8 (by decide) (by decide) rfl (by decide) ?_
      refine lv_aload_n hC.1 hC.2.1 dX3_count_99 rfl (lv_at hl 1 rfl) ?_
      refine m_get hC hK hM 5 (by decide) q1267 rfl rfl dX3_count_100 ?_
      refine lv_bipush (v := 6) hC.1 hC.2.1 dX3_count_103 (by decide) ?_
      refine m_iald hC hK hM 5 rfl (n := 6) (by first | rfl | (simp only [← nI_add, ← pk_mul]; rfl)) (by first | decide | (show _ < 94; omega)) dX3_count_105 ?_
      refine m_iret hC hr hlocks hM dX3_count_106 ?_
      first | (simp [op_count, nI, wup_s, upd_s, wup_n, upd_n, *]; done) | (simp_all [op_count, nI, wup_s, upd_s, wup_n, upd_n]; done) | grind [op_count, nI, wup_s, upd_s, wup_n, upd_n]
    ·
      refine lv_tableIn (off := 99) (tgt := 107) hC.1 hC.2.1 dX3_count_8 (by decide) (by decide) rfl (by decide) ?_
      refine lv_aload_n hC.1 hC.2.1 dX3_count_107 rfl (lv_at hl 1 rfl) ?_
      refine m_get hC hK hM 8 (by decide) q1270 rfl rfl dX3_count_108 ?_
      refine m_iret hC hr hlocks hM dX3_count_111 ?_
      first | (simp [op_count, nI, wup_s, upd_s, wup_n, upd_n, *]; done) | (simp_all [op_count, nI, wup_s, upd_s, wup_n, upd_n]; done) | grind [op_count, nI, wup_s, upd_s, wup_n, upd_n]
    ·
      refine lv_tableIn (off := 104) (tgt := 112) hC.1 hC.2.1 dX3_count_8 (by decide) (by decide) rfl (by decide) ?_
      refine lv_aload_n hC.1 hC.2.1 dX3_count_112 rfl (lv_at hl 1 rfl) ?_
      refine m_get hC hK hM 5 (by decide) q1267 rfl rfl dX3_count_113 ?_
      refine lv_bipush (v := 7) hC.1 hC.2.1 dX3_count_116 (by decide) ?_
      refine m_iald hC hK hM 5 rfl (n := 7) (by first | rfl | (simp only [← nI_add, ← pk_mul]; rfl)) (by first | decide | (show _ < 94; omega)) dX3_count_118 ?_
      refine m_iret hC hr hlocks hM dX3_count_119 ?_
      first | (simp [op_count, nI, wup_s, upd_s, wup_n, upd_n, *]; done) | (simp_all [op_count, nI, wup_s, upd_s, wup_n, upd_n]; done) | grind [op_count, nI, wup_s, upd_s, wup_n, upd_n]
    ·
      refine lv_tableIn (off := 112) (tgt := 120) hC.1 hC.2.1 dX3_count_8 (by decide) (by decide) rfl (by decide) ?_
      refine lv_aload_n hC.1 hC.2.1 dX3_count_120 rfl (lv_at hl 1 rfl) ?_
      refine m_get hC hK hM 10 (by decide) q1272 rfl rfl dX3_count_121 ?_
      refine m_iret hC hr hlocks hM dX3_count_124 ?_
      first | (simp [op_count, nI, wup_s, upd_s, wup_n, upd_n, *]; done) | (simp_all [op_count, nI, wup_s, upd_s, wup_n, upd_n]; done) | grind [op_count, nI, wup_s, upd_s, wup_n, upd_n]
