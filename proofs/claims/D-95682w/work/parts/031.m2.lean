set_option maxHeartbeats 400000 in
set_option maxRecDepth 100000 in
theorem mc_row (l : Launch) (v : Nat → Int32) (w : Nat → Nat → Int32) (x l0 n : Int32) : mMi l yX3_row cX3_row 5 (some .int) ({ frames := 2, cells := 0, slots := 0, locals := 45 }) [.int x, .int l0, .int n] v w (fun r v1 w1 => (r, v1, w1) = op_row v w x l0 n) := by
  intro D ac A G mo ad
  refine m_body rfl (Nat.le_of_ble_eq_true rfl) ?_
  intro p e s m args below meth c ls hC hr hlocks hK hM hl
  have hl : lv_has ls 5 [(0, .ref mo), (1, .int x), (2, .int l0), (3, .int n)] := hl
  refine lv_aload_n hC.1 hC.2.1 dX3_row_0 rfl (lv_at hl 0 rfl) ?_
  refine lv_iconst (v := 0) hC.1 hC.2.1 dX3_row_1 (by decide) ?_
  refine m_put hC hK hM 0 (by decide) q1262 rfl rfl rfl rfl dX3_row_2 (fun H locs hM => ?_)
  refine lv_iload_n hC.1 hC.2.1 dX3_row_5 rfl (lv_at hl 1 rfl) ?_
  refine s_ci hC (mc_isRow l _) (cw_ms 1 hC.2.2.2.2 q1346 q1347 q1348 ⟨rfl, rfl⟩ rfl (by decide +kernel) ⟨Nat.le_of_ble_eq_true rfl, Nat.le_of_ble_eq_true rfl⟩) rfl hl.1 rfl (lv_room (Nat.le_of_ble_eq_true rfl)) dX3_row_6 ⟨Nat.le_of_ble_eq_true rfl, Nat.le_of_ble_eq_true rfl⟩ ?_
  refine lv_if_eq (tgt := 30) hC.1 hC.2.1 dX3_row_9 (by decide) (fun c2 => ?_) (fun c2 => ?_)
  ·
    skip
    rw [bI_0] at c2
    refine lv_ldc hC.1 hC.2.1 hC.2.2.2.1 (hC.2.2.2.2 _ q1354) dX3_row_30 ?_
    refine m_iret hC hr hlocks hM dX3_row_32 ?_
    first | (simp [op_row, wup_s, upd_s, wup_n, upd_n, *]; done) | (simp_all [op_row, wup_s, upd_s, wup_n, upd_n]; done) | grind [op_row, wup_s, upd_s, wup_n, upd_n]
  ·
    skip
    rw [bI_n0] at c2
    obtain ⟨j, hj, rfl⟩ := in_nI (N := 7) rfl rfl c2
    have ej : iN (nI j) = j := iN_nI (by omega)
    refine lv_iload_n hC.1 hC.2.1 dX3_row_12 rfl (lv_at hl 2 rfl) ?_
    refine lv_i2l hC.1 hC.2.1 dX3_row_13 rfl ?_
    refine lv_lconst (v := 0) hC.1 hC.2.1 dX3_row_14 (by decide) ?_
    refine lv_ldc2 hC.1 hC.2.1 hC.2.2.2.1 (hC.2.2.2.2 _ q1353) dX3_row_15 ?_
    refine s_ci hC ((mc_in l (a := 0) (b := 2) rfl rfl rfl)) (cw_ms 3 hC.2.2.2.2 q1350 q1351 q1352 ⟨rfl, rfl⟩ rfl (by decide +kernel) ⟨Nat.le_of_ble_eq_true rfl, Nat.le_of_ble_eq_true rfl⟩) rfl hl.1 rfl (lv_room (Nat.le_of_ble_eq_true rfl)) dX3_row_18 ⟨Nat.le_of_ble_eq_true rfl, Nat.le_of_ble_eq_true rfl⟩ ?_
    refine lv_if_eq (tgt := 30) hC.1 hC.2.1 dX3_row_21 (by decide) (fun c4 => ?_) (fun c4 => ?_)
    ·
      skip
      rw [bI_0] at c4
      refine lv_ldc hC.1 hC.2.1 hC.2.2.2.1 (hC.2.2.2.2 _ q1354) dX3_row_30 ?_
      refine m_iret hC hr hlocks hM dX3_row_32 ?_
      first | (simp [op_row, wup_s, upd_s, wup_n, upd_n, *]; done) | (simp_all [op_row, wup_s, upd_s, wup_n, upd_n]; done) | grind [op_row, wup_s, upd_s, wup_n, upd_n]
    ·
      skip
      rw [bI_n0] at c4
      refine lv_iload_n hC.1 hC.2.1 dX3_row_24 rfl (lv_at hl 3 rfl) ?_
      refine lv_bipush (v := 40) hC.1 hC.2.1 dX3_row_25 (by decide) ?_
      refine lv_icmp_le (tgt := 33) hC.1 hC.2.1 dX3_row_27 (by decide) (fun c5 => ?_) (fun c5 => ?_)
      ·
        have nc5 := Int32.not_lt.mpr c5
        refine lv_aload_n hC.1 hC.2.1 dX3_row_33 rfl (lv_at hl 0 rfl) ?_
        refine lv_iconst (v := 0) hC.1 hC.2.1 dX3_row_34 (by decide) ?_
        refine m_put hC hK hM 1 (by decide) q1263 rfl rfl rfl rfl dX3_row_35 (fun H locs hM => ?_)
        refine lv_iload_n hC.1 hC.2.1 dX3_row_38 rfl (lv_at hl 3 rfl) ?_
        refine lv_if_ge (tgt := 48) hC.1 hC.2.1 dX3_row_39 (by decide) (fun c6 => ?_) (fun c6 => ?_)
        ·
          have nc6 := Int32.not_lt.mpr c6
          refine lv_aload_n hC.1 hC.2.1 dX3_row_48 rfl (lv_at hl 0 rfl) ?_
          refine m_get hC hK hM 2 (by decide) q1264 rfl rfl dX3_row_49 ?_
          refine lv_iload_n hC.1 hC.2.1 dX3_row_52 rfl (lv_at hl 1 rfl) ?_
          refine lv_iload_n hC.1 hC.2.1 dX3_row_53 rfl (lv_at hl 2 rfl) ?_
          refine m_iast hC hK hM 2 rfl (n := j) (by first | rfl | (simp only [← nI_add, ← pk_mul]; rfl)) (by first | decide | (show _ < 8; omega)) dX3_row_54 (fun H locs hM => ?_)
          refine lv_aload_n hC.1 hC.2.1 dX3_row_55 rfl (lv_at hl 0 rfl) ?_
          refine m_get hC hK hM 3 (by decide) q1265 rfl rfl dX3_row_56 ?_
          refine lv_iload_n hC.1 hC.2.1 dX3_row_59 rfl (lv_at hl 1 rfl) ?_
          refine lv_iload_n hC.1 hC.2.1 dX3_row_60 rfl (lv_at hl 3 rfl) ?_
          refine m_iast hC hK hM 3 rfl (n := j) (by first | rfl | (simp only [← nI_add, ← pk_mul]; rfl)) (by first | decide | (show _ < 8; omega)) dX3_row_61 (fun H locs hM => ?_)
          refine lv_iconst (v := 0) hC.1 hC.2.1 dX3_row_62 (by decide) ?_
          refine lv_istore (lv' := [(4, _), (0, _), (1, _), (2, _), (3, _)]) hC.1 hC.2.1 dX3_row_63 hl (by decide) rfl (fun ls hl => ?_)
          refine w_ind (α := Nat) 65 (fun (k : Nat) => 40 - k) (fun (k : Nat) (H : Heap) (locs : List Loc) (ls : Array Slot) => (k ≤ 40) ∧ MS D ac A G s.heap mo ad (upd (upd v 0 0) 1 0) (wseg (wup (wup w 2 j l0) 3 j n) 4 (40 * j) k (fun _ => 0)) H locs ∧ lv_has ls 5 [(0, .ref mo), (1, .int (nI j)), (2, .int l0), (3, .int n), (4, .int (nI k))]) ?_ (0) ⟨by omega, by rw [wseg_0]; exact hM, lv_sub hl [1, 2, 3, 4, 0] rfl⟩
          intro k H locs ls hI ih65
          obtain ⟨hI65, hM, hl⟩ := hI
          refine lv_iload hC.1 hC.2.1 dX3_row_65 (lv_at hl 4 rfl) ?_
          refine lv_bipush (v := 40) hC.1 hC.2.1 dX3_row_67 (by decide) ?_
          refine lv_icmp_ge (tgt := 91) hC.1 hC.2.1 dX3_row_69 (by decide) (fun c7 => ?_) (fun c7 => ?_)
          ·
            have nc7 := Int32.not_lt.mpr c7
            have hx69 := nle_t (a := 40) (b := k) c7
            obtain rfl : k = 40 := by omega
            refine lv_iload_n hC.1 hC.2.1 dX3_row_91 rfl (lv_at hl 3 rfl) ?_
            refine m_iret hC hr hlocks hM dX3_row_92 ?_
            first | (simp [op_row, wup_s, upd_s, wup_n, upd_n, *]; done) | (simp_all [op_row, wup_s, upd_s, wup_n, upd_n]; done) | grind [op_row, wup_s, upd_s, wup_n, upd_n]
          ·
            have nc7 := Int32.not_le.mp c7
            have hx69 := nle_f (a := 40) (b := k) c7
            refine lv_aload_n hC.1 hC.2.1 dX3_row_72 rfl (lv_at hl 0 rfl) ?_
            refine m_get hC hK hM 4 (by decide) q1266 rfl rfl dX3_row_73 ?_
            refine lv_bipush (v := 40) hC.1 hC.2.1 dX3_row_76 (by decide) ?_
            refine lv_iload_n hC.1 hC.2.1 dX3_row_78 rfl (lv_at hl 1 rfl) ?_
            refine lv_imul hC.1 hC.2.1 dX3_row_79 ?_
            refine lv_iload hC.1 hC.2.1 dX3_row_80 (lv_at hl 4 rfl) ?_
            refine lv_iadd hC.1 hC.2.1 dX3_row_82 ?_
            refine lv_iconst (v := 0) hC.1 hC.2.1 dX3_row_83 (by decide) ?_
            refine m_iast hC hK hM 4 rfl (n := ((40 * j) + k)) (by first | rfl | (simp only [← nI_add, ← pk_mul]; rfl)) (by first | decide | (show _ < 320; omega)) dX3_row_84 (fun H locs hM => ?_)
            refine lv_iinc (v := nI (k + 1)) (lv' := [(4, _), (0, _), (1, _), (2, _), (3, _)]) hC.1 hC.2.1 dX3_row_85 hl (k := 4) rfl (nI_1 _) (by decide) rfl (fun ls hl => ?_)
            refine lv_goto (tgt := 65) hC.1 hC.2.1 dX3_row_88 (by decide) ?_
            exact ih65 (k + 1) _ _ _ (by omega) ⟨by omega, by rw [← wseg_s]; exact hM, lv_sub hl [1, 2, 3, 4, 0] rfl⟩
        ·
          have nc6 := Int32.not_le.mp c6
          refine lv_aload_n hC.1 hC.2.1 dX3_row_42 rfl (lv_at hl 0 rfl) ?_
          refine lv_iconst (v := 4) hC.1 hC.2.1 dX3_row_43 (by decide) ?_
          refine m_cie hC hK hM (mc_finding l _ _ _) (cw_m 1 hC.2.2.2.2 q1355 q1357 qs26 q1358 ⟨rfl, rfl⟩ rfl (by decide +kernel) ⟨Nat.le_of_ble_eq_true rfl, Nat.le_of_ble_eq_true rfl⟩) rfl hl.1 rfl (lv_room (Nat.le_of_ble_eq_true rfl)) dX3_row_44 ⟨Nat.le_of_ble_eq_true rfl, Nat.le_of_ble_eq_true rfl⟩ (fun H locs hM => ?_)
          refine m_iret hC hr hlocks hM dX3_row_47 ?_
          first | (simp [op_row, wup_s, upd_s, wup_n, upd_n, *]; done) | (simp_all [op_row, wup_s, upd_s, wup_n, upd_n]; done) | grind [op_row, wup_s, upd_s, wup_n, upd_n]
      ·
        have nc5 := Int32.not_le.mp c5
        refine lv_ldc hC.1 hC.2.1 hC.2.2.2.1 (hC.2.2.2.2 _ q1354) dX3_row_30 ?_
        refine m_iret hC hr hlocks hM dX3_row_32 ?_
        first | (simp [op_row, wup_s, upd_s, wup_n, upd_n, *]; done) | (simp_all [op_row, wup_s, upd_s, wup_n, upd_n]; done) | grind [op_row, wup_s, upd_s, wup_n, upd_n]

set_option maxHeartbeats 400000 in
set_option maxRecDepth 100000 in
theorem mc_drop (l : Launch) (v : Nat → Int32) (w : Nat → Nat → Int32) (x : Int32) : mMi l yX3_drop cX3_drop 2 (some .int) ({ frames := 2, cells := 0, slots := 0, locals := 45 }) [.int x] v w (fun r v1 w1 => (r, v1, w1) = op_drop v w x) := by
  intro D ac A G mo ad
  refine m_body rfl (Nat.le_of_ble_eq_true rfl) ?_
  intro p e s m args below meth c ls hC hr hlocks hK hM hl
  have hl : lv_has ls 2 [(0, .ref mo), (1, .int x)] := hl
  refine lv_aload_n hC.1 hC.2.1 dX3_drop_0 rfl (lv_at hl 0 rfl) ?_
  refine lv_iconst (v := 0) hC.1 hC.2.1 dX3_drop_1 (by decide) ?_
  refine m_put hC hK hM 0 (by decide) q1262 rfl rfl rfl rfl dX3_drop_2 (fun H locs hM => ?_)
  refine lv_iload_n hC.1 hC.2.1 dX3_drop_5 rfl (lv_at hl 1 rfl) ?_
  refine s_ci hC (mc_isRow l _) (cw_ms 1 hC.2.2.2.2 q1346 q1347 q1348 ⟨rfl, rfl⟩ rfl (by decide +kernel) ⟨Nat.le_of_ble_eq_true rfl, Nat.le_of_ble_eq_true rfl⟩) rfl hl.1 rfl (lv_room (Nat.le_of_ble_eq_true rfl)) dX3_drop_6 ⟨Nat.le_of_ble_eq_true rfl, Nat.le_of_ble_eq_true rfl⟩ ?_
  refine lv_if_ne (tgt := 15) hC.1 hC.2.1 dX3_drop_9 (by decide) (fun c2 => ?_) (fun c2 => ?_)
  ·
    skip
    rw [bI_n0] at c2
    obtain ⟨j, hj, rfl⟩ := in_nI (N := 7) rfl rfl c2
    have ej : iN (nI j) = j := iN_nI (by omega)
    refine lv_aload_n hC.1 hC.2.1 dX3_drop_15 rfl (lv_at hl 0 rfl) ?_
    refine lv_iconst (v := 0) hC.1 hC.2.1 dX3_drop_16 (by decide) ?_
    refine m_put hC hK hM 1 (by decide) q1263 rfl rfl rfl rfl dX3_drop_17 (fun H locs hM => ?_)
    refine lv_aload_n hC.1 hC.2.1 dX3_drop_20 rfl (lv_at hl 0 rfl) ?_
    refine m_get hC hK hM 2 (by decide) q1264 rfl rfl dX3_drop_21 ?_
    refine lv_iload_n hC.1 hC.2.1 dX3_drop_24 rfl (lv_at hl 1 rfl) ?_
    refine m_iald hC hK hM 2 rfl (n := j) (by first | rfl | (simp only [← nI_add, ← pk_mul]; rfl)) (by first | decide | (show _ < 8; omega)) dX3_drop_25 ?_
    refine lv_if_ge (tgt := 35) hC.1 hC.2.1 dX3_drop_26 (by decide) (fun c3 => ?_) (fun c3 => ?_)
    ·
      have nc3 := Int32.not_lt.mpr c3
      refine lv_aload_n hC.1 hC.2.1 dX3_drop_35 rfl (lv_at hl 0 rfl) ?_
      refine m_get hC hK hM 2 (by decide) q1264 rfl rfl dX3_drop_36 ?_
      refine lv_iload_n hC.1 hC.2.1 dX3_drop_39 rfl (lv_at hl 1 rfl) ?_
      refine lv_iconst (v := (-1)) hC.1 hC.2.1 dX3_drop_40 (by decide) ?_
      refine m_iast hC hK hM 2 rfl (n := j) (by first | rfl | (simp only [← nI_add, ← pk_mul]; rfl)) (by first | decide | (show _ < 8; omega)) dX3_drop_41 (fun H locs hM => ?_)
      refine lv_aload_n hC.1 hC.2.1 dX3_drop_42 rfl (lv_at hl 0 rfl) ?_
      refine m_get hC hK hM 3 (by decide) q1265 rfl rfl dX3_drop_43 ?_
      refine lv_iload_n hC.1 hC.2.1 dX3_drop_46 rfl (lv_at hl 1 rfl) ?_
      refine m_iald hC hK hM 3 rfl (n := j) (by first | rfl | (simp only [← nI_add, ← pk_mul]; rfl)) (by first | decide | (show _ < 8; omega)) dX3_drop_47 ?_
      refine m_iret hC hr hlocks hM dX3_drop_48 ?_
      first | (simp [op_drop, wup_s, upd_s, wup_n, upd_n, *]; done) | (simp_all [op_drop, wup_s, upd_s, wup_n, upd_n]; done) | grind [op_drop, wup_s, upd_s, wup_n, upd_n]
    ·
      have nc3 := Int32.not_le.mp c3
      refine lv_aload_n hC.1 hC.2.1 dX3_drop_29 rfl (lv_at hl 0 rfl) ?_
      refine lv_iconst (v := 1) hC.1 hC.2.1 dX3_drop_30 (by decide) ?_
      refine m_cie hC hK hM (mc_finding l _ _ _) (cw_m 1 hC.2.2.2.2 q1355 q1357 qs26 q1358 ⟨rfl, rfl⟩ rfl (by decide +kernel) ⟨Nat.le_of_ble_eq_true rfl, Nat.le_of_ble_eq_true rfl⟩) rfl hl.1 rfl (lv_room (Nat.le_of_ble_eq_true rfl)) dX3_drop_31 ⟨Nat.le_of_ble_eq_true rfl, Nat.le_of_ble_eq_true rfl⟩ (fun H locs hM => ?_)
      refine m_iret hC hr hlocks hM dX3_drop_34 ?_
      first | (simp [op_drop, wup_s, upd_s, wup_n, upd_n, *]; done) | (simp_all [op_drop, wup_s, upd_s, wup_n, upd_n]; done) | grind [op_drop, wup_s, upd_s, wup_n, upd_n]
  ·
    skip
    rw [bI_0] at c2
    refine lv_ldc hC.1 hC.2.1 hC.2.2.2.1 (hC.2.2.2.2 _ q1354) dX3_drop_12 ?_
    refine m_iret hC hr hlocks hM dX3_drop_14 ?_
    first | (simp [op_drop, wup_s, upd_s, wup_n, upd_n, *]; done) | (simp_all [op_drop, wup_s, upd_s, wup_n, upd_n]; done) | grind [op_drop, wup_s, upd_s, wup_n, upd_n]

set_option maxHeartbeats 400000 in
set_option maxRecDepth 100000 in
theorem mc_set (l : Launch) (v : Nat → Int32) (w : Nat → Nat → Int32) (x i y : Int32) (hw : rowsOk w) : mMi l yX3_set cX3_set 4 (some .int) ({ frames := 2, cells := 0, slots := 0, locals := 45 }) [.int x, .int i, .int y] v w (fun r v1 w1 => (r, v1, w1) = op_set v w x i y) := by
  intro D ac A G mo ad
  refine m_body rfl (Nat.le_of_ble_eq_true rfl) ?_
  intro p e s m args below meth c ls hC hr hlocks hK hM hl
  have hl : lv_has ls 4 [(0, .ref mo), (1, .int x), (2, .int i), (3, .int y)] := hl
  refine lv_aload_n hC.1 hC.2.1 dX3_set_0 rfl (lv_at hl 0 rfl) ?_
  refine lv_iconst (v := 0) hC.1 hC.2.1 dX3_set_1 (by decide) ?_
  refine m_put hC hK hM 0 (by decide) q1262 rfl rfl rfl rfl dX3_set_2 (fun H locs hM => ?_)
  refine lv_iload_n hC.1 hC.2.1 dX3_set_5 rfl (lv_at hl 1 rfl) ?_
  refine s_ci hC (mc_isRow l _) (cw_ms 1 hC.2.2.2.2 q1346 q1347 q1348 ⟨rfl, rfl⟩ rfl (by decide +kernel) ⟨Nat.le_of_ble_eq_true rfl, Nat.le_of_ble_eq_true rfl⟩) rfl hl.1 rfl (lv_room (Nat.le_of_ble_eq_true rfl)) dX3_set_6 ⟨Nat.le_of_ble_eq_true rfl, Nat.le_of_ble_eq_true rfl⟩ ?_
  refine lv_if_ne (tgt := 15) hC.1 hC.2.1 dX3_set_9 (by decide) (fun c2 => ?_) (fun c2 => ?_)
  ·
    skip
    rw [bI_n0] at c2
    obtain ⟨j, hj, rfl⟩ := in_nI (N := 7) rfl rfl c2
    have ej : iN (nI j) = j := iN_nI (by omega)
    obtain ⟨N, hN, eN⟩ := hw j (by omega)
    refine lv_aload_n hC.1 hC.2.1 dX3_set_15 rfl (lv_at hl 0 rfl) ?_
    refine lv_iconst (v := 0) hC.1 hC.2.1 dX3_set_16 (by decide) ?_
    refine m_put hC hK hM 1 (by decide) q1263 rfl rfl rfl rfl dX3_set_17 (fun H locs hM => ?_)
    refine lv_aload_n hC.1 hC.2.1 dX3_set_20 rfl (lv_at hl 0 rfl) ?_
    refine m_get hC hK hM 2 (by decide) q1264 rfl rfl dX3_set_21 ?_
    refine lv_iload_n hC.1 hC.2.1 dX3_set_24 rfl (lv_at hl 1 rfl) ?_
    refine m_iald hC hK hM 2 rfl (n := j) (by first | rfl | (simp only [← nI_add, ← pk_mul]; rfl)) (by first | decide | (show _ < 8; omega)) dX3_set_25 ?_
    refine lv_if_ge (tgt := 35) hC.1 hC.2.1 dX3_set_26 (by decide) (fun c3 => ?_) (fun c3 => ?_)
    ·
      have nc3 := Int32.not_lt.mpr c3
      refine lv_iload_n hC.1 hC.2.1 dX3_set_35 rfl (lv_at hl 2 rfl) ?_
      refine lv_i2l hC.1 hC.2.1 dX3_set_36 rfl ?_
      refine lv_lconst (v := 0) hC.1 hC.2.1 dX3_set_37 (by decide) ?_
      refine lv_aload_n hC.1 hC.2.1 dX3_set_38 rfl (lv_at hl 0 rfl) ?_
      refine m_get hC hK hM 3 (by decide) q1265 rfl rfl dX3_set_39 ?_
      refine lv_iload_n hC.1 hC.2.1 dX3_set_42 rfl (lv_at hl 1 rfl) ?_
      refine m_iald hC hK hM 3 rfl (n := j) (by first | rfl | (simp only [← nI_add, ← pk_mul]; rfl)) (by first | decide | (show _ < 8; omega)) dX3_set_43 ?_
      refine lv_iconst (v := 1) hC.1 hC.2.1 dX3_set_44 (by decide) ?_
      refine lv_isub hC.1 hC.2.1 dX3_set_45 ?_
      refine lv_i2l hC.1 hC.2.1 dX3_set_46 rfl ?_
      refine s_ci hC ((mc_in l (a := 0) (b := _) rfl rfl rfl)) (cw_ms 3 hC.2.2.2.2 q1350 q1351 q1352 ⟨rfl, rfl⟩ rfl (by decide +kernel) ⟨Nat.le_of_ble_eq_true rfl, Nat.le_of_ble_eq_true rfl⟩) rfl hl.1 rfl (lv_room (Nat.le_of_ble_eq_true rfl)) dX3_set_47 ⟨Nat.le_of_ble_eq_true rfl, Nat.le_of_ble_eq_true rfl⟩ ?_
      refine lv_if_ne (tgt := 59) hC.1 hC.2.1 dX3_set_50 (by decide) (fun c5 => ?_) (fun c5 => ?_)
      ·
        skip
        rw [bI_n0, eN] at c5
        obtain ⟨q, hq, rfl⟩ := in_nI1 (by omega) c5
        have eq : iN (nI q) = q := iN_nI (by omega)
        refine lv_aload_n hC.1 hC.2.1 dX3_set_59 rfl (lv_at hl 0 rfl) ?_
        refine m_get hC hK hM 4 (by decide) q1266 rfl rfl dX3_set_60 ?_
        refine lv_bipush (v := 40) hC.1 hC.2.1 dX3_set_63 (by decide) ?_
        refine lv_iload_n hC.1 hC.2.1 dX3_set_65 rfl (lv_at hl 1 rfl) ?_
        refine lv_imul hC.1 hC.2.1 dX3_set_66 ?_
        refine lv_iload_n hC.1 hC.2.1 dX3_set_67 rfl (lv_at hl 2 rfl) ?_
        refine lv_iadd hC.1 hC.2.1 dX3_set_68 ?_
        refine lv_aload_n hC.1 hC.2.1 dX3_set_69 rfl (lv_at hl 0 rfl) ?_
        refine m_get hC hK hM 2 (by decide) q1264 rfl rfl dX3_set_70 ?_
        refine lv_iload_n hC.1 hC.2.1 dX3_set_73 rfl (lv_at hl 1 rfl) ?_
        refine m_iald hC hK hM 2 rfl (n := j) (by first | rfl | (simp only [← nI_add, ← pk_mul]; rfl)) (by first | decide | (show _ < 8; omega)) dX3_set_74 ?_
        refine lv_if_ne (tgt := 83) hC.1 hC.2.1 dX3_set_75 (by decide) (fun c6 => ?_) (fun c6 => ?_)
        ·
          skip
          refine lv_aload_n hC.1 hC.2.1 dX3_set_83 rfl (lv_at hl 0 rfl) ?_
          refine m_get hC hK hM 2 (by decide) q1264 rfl rfl dX3_set_84 ?_
          refine lv_iload_n hC.1 hC.2.1 dX3_set_87 rfl (lv_at hl 1 rfl) ?_
          refine m_iald hC hK hM 2 rfl (n := j) (by first | rfl | (simp only [← nI_add, ← pk_mul]; rfl)) (by first | decide | (show _ < 8; omega)) dX3_set_88 ?_
          refine lv_iconst (v := 1) hC.1 hC.2.1 dX3_set_89 (by decide) ?_
          refine lv_icmp_ne (tgt := 98) hC.1 hC.2.1 dX3_set_90 (by decide) (fun c7 => ?_) (fun c7 => ?_)
          ·
            skip
            refine lv_iload_n hC.1 hC.2.1 dX3_set_98 rfl (lv_at hl 3 rfl) ?_
            refine m_iast hC hK hM 4 rfl (n := ((40 * j) + q)) (by first | rfl | (simp only [← nI_add, ← pk_mul]; rfl)) (by first | decide | (show _ < 320; omega)) dX3_set_99 (fun H locs hM => ?_)
            refine lv_aload_n hC.1 hC.2.1 dX3_set_100 rfl (lv_at hl 0 rfl) ?_
            refine m_get hC hK hM 4 (by decide) q1266 rfl rfl dX3_set_101 ?_
            refine lv_bipush (v := 40) hC.1 hC.2.1 dX3_set_104 (by decide) ?_
            refine lv_iload_n hC.1 hC.2.1 dX3_set_106 rfl (lv_at hl 1 rfl) ?_
            refine lv_imul hC.1 hC.2.1 dX3_set_107 ?_
            refine lv_iload_n hC.1 hC.2.1 dX3_set_108 rfl (lv_at hl 2 rfl) ?_
            refine lv_iadd hC.1 hC.2.1 dX3_set_109 ?_
            refine m_iald hC hK hM 4 rfl (n := ((40 * j) + q)) (by first | rfl | (simp only [← nI_add, ← pk_mul]; rfl)) (by first | decide | (show _ < 320; omega)) dX3_set_110 ?_
            refine m_iret hC hr hlocks hM dX3_set_111 ?_
            first | (simp [op_set, cutL, wup_s, upd_s, wup_n, upd_n, *]; done) | (simp_all [op_set, cutL, wup_s, upd_s, wup_n, upd_n]; done) | grind [op_set, cutL, wup_s, upd_s, wup_n, upd_n]
          ·
            skip
            refine lv_iload_n hC.1 hC.2.1 dX3_set_93 rfl (lv_at hl 3 rfl) ?_
            refine lv_i2s hC.1 hC.2.1 dX3_set_94 rfl ?_
            refine lv_goto (tgt := 99) hC.1 hC.2.1 dX3_set_95 (by decide) ?_
            refine m_iast hC hK hM 4 rfl (n := ((40 * j) + q)) (by first | rfl | (simp only [← nI_add, ← pk_mul]; rfl)) (by first | decide | (show _ < 320; omega)) dX3_set_99 (fun H locs hM => ?_)
            refine lv_aload_n hC.1 hC.2.1 dX3_set_100 rfl (lv_at hl 0 rfl) ?_
            refine m_get hC hK hM 4 (by decide) q1266 rfl rfl dX3_set_101 ?_
            refine lv_bipush (v := 40) hC.1 hC.2.1 dX3_set_104 (by decide) ?_
            refine lv_iload_n hC.1 hC.2.1 dX3_set_106 rfl (lv_at hl 1 rfl) ?_
            refine lv_imul hC.1 hC.2.1 dX3_set_107 ?_
            refine lv_iload_n hC.1 hC.2.1 dX3_set_108 rfl (lv_at hl 2 rfl) ?_
            refine lv_iadd hC.1 hC.2.1 dX3_set_109 ?_
            refine m_iald hC hK hM 4 rfl (n := ((40 * j) + q)) (by first | rfl | (simp only [← nI_add, ← pk_mul]; rfl)) (by first | decide | (show _ < 320; omega)) dX3_set_110 ?_
            refine m_iret hC hr hlocks hM dX3_set_111 ?_
            first | (simp [op_set, cutL, wup_s, upd_s, wup_n, upd_n, *]; done) | (simp_all [op_set, cutL, wup_s, upd_s, wup_n, upd_n]; done) | grind [op_set, cutL, wup_s, upd_s, wup_n, upd_n]
        ·
          skip
          refine lv_iload_n hC.1 hC.2.1 dX3_set_78 rfl (lv_at hl 3 rfl) ?_
          refine lv_i2b hC.1 hC.2.1 dX3_set_79 rfl ?_
          refine lv_goto (tgt := 99) hC.1 hC.2.1 dX3_set_80 (by decide) ?_
          refine m_iast hC hK hM 4 rfl (n := ((40 * j) + q)) (by first | rfl | (simp only [← nI_add, ← pk_mul]; rfl)) (by first | decide | (show _ < 320; omega)) dX3_set_99 (fun H locs hM => ?_)
          refine lv_aload_n hC.1 hC.2.1 dX3_set_100 rfl (lv_at hl 0 rfl) ?_
          refine m_get hC hK hM 4 (by decide) q1266 rfl rfl dX3_set_101 ?_
          refine lv_bipush (v := 40) hC.1 hC.2.1 dX3_set_104 (by decide) ?_
          refine lv_iload_n hC.1 hC.2.1 dX3_set_106 rfl (lv_at hl 1 rfl) ?_
          refine lv_imul hC.1 hC.2.1 dX3_set_107 ?_
          refine lv_iload_n hC.1 hC.2.1 dX3_set_108 rfl (lv_at hl 2 rfl) ?_
          refine lv_iadd hC.1 hC.2.1 dX3_set_109 ?_
          refine m_iald hC hK hM 4 rfl (n := ((40 * j) + q)) (by first | rfl | (simp only [← nI_add, ← pk_mul]; rfl)) (by first | decide | (show _ < 320; omega)) dX3_set_110 ?_
          refine m_iret hC hr hlocks hM dX3_set_111 ?_
          first | (simp [op_set, cutL, wup_s, upd_s, wup_n, upd_n, *]; done) | (simp_all [op_set, cutL, wup_s, upd_s, wup_n, upd_n]; done) | grind [op_set, cutL, wup_s, upd_s, wup_n, upd_n]
      ·
        skip
        rw [bI_0] at c5
        refine lv_aload_n hC.1 hC.2.1 dX3_set_53 rfl (lv_at hl 0 rfl) ?_
        refine lv_iconst (v := 2) hC.1 hC.2.1 dX3_set_54 (by decide) ?_
        refine m_cie hC hK hM (mc_finding l _ _ _) (cw_m 1 hC.2.2.2.2 q1355 q1357 qs26 q1358 ⟨rfl, rfl⟩ rfl (by decide +kernel) ⟨Nat.le_of_ble_eq_true rfl, Nat.le_of_ble_eq_true rfl⟩) rfl hl.1 rfl (lv_room (Nat.le_of_ble_eq_true rfl)) dX3_set_55 ⟨Nat.le_of_ble_eq_true rfl, Nat.le_of_ble_eq_true rfl⟩ (fun H locs hM => ?_)
        refine m_iret hC hr hlocks hM dX3_set_58 ?_
        first | (simp [op_set, cutL, wup_s, upd_s, wup_n, upd_n, *]; done) | (simp_all [op_set, cutL, wup_s, upd_s, wup_n, upd_n]; done) | grind [op_set, cutL, wup_s, upd_s, wup_n, upd_n]
    ·
      have nc3 := Int32.not_le.mp c3
      refine lv_aload_n hC.1 hC.2.1 dX3_set_29 rfl (lv_at hl 0 rfl) ?_
      refine lv_iconst (v := 1) hC.1 hC.2.1 dX3_set_30 (by decide) ?_
      refine m_cie hC hK hM (mc_finding l _ _ _) (cw_m 1 hC.2.2.2.2 q1355 q1357 qs26 q1358 ⟨rfl, rfl⟩ rfl (by decide +kernel) ⟨Nat.le_of_ble_eq_true rfl, Nat.le_of_ble_eq_true rfl⟩) rfl hl.1 rfl (lv_room (Nat.le_of_ble_eq_true rfl)) dX3_set_31 ⟨Nat.le_of_ble_eq_true rfl, Nat.le_of_ble_eq_true rfl⟩ (fun H locs hM => ?_)
      refine m_iret hC hr hlocks hM dX3_set_34 ?_
      first | (simp [op_set, cutL, wup_s, upd_s, wup_n, upd_n, *]; done) | (simp_all [op_set, cutL, wup_s, upd_s, wup_n, upd_n]; done) | grind [op_set, cutL, wup_s, upd_s, wup_n, upd_n]
  ·
    skip
    rw [bI_0] at c2
    refine lv_ldc hC.1 hC.2.1 hC.2.2.2.1 (hC.2.2.2.2 _ q1354) dX3_set_12 ?_
    refine m_iret hC hr hlocks hM dX3_set_14 ?_
    first | (simp [op_set, cutL, wup_s, upd_s, wup_n, upd_n, *]; done) | (simp_all [op_set, cutL, wup_s, upd_s, wup_n, upd_n]; done) | grind [op_set, cutL, wup_s, upd_s, wup_n, upd_n]
