set_option maxHeartbeats 400000 in
set_option maxRecDepth 100000 in
theorem mc_in0 (l : Launch) (V L Hh : Int64) : sMi l yX3_in cX3_in 6 (some .boolean) ({ frames := 0, cells := 0, slots := 0, locals := 0 }) [.long V, .long L, .long Hh] (bI (L ≤ V ∧ V ≤ Hh)) := by
  refine s_body (own := RX3) rfl (by decide) (Nat.le_of_ble_eq_true rfl) ?_
  intro p e s m args below meth c ls hC hr hlocks hl
  have hl : lv_has ls 6 [(0, .long V), (2, .long L), (4, .long Hh)] := hl
  refine lv_lload_n hC.1 hC.2.1 dX3_in_0 rfl (lv_at hl 0 rfl) ?_
  refine lv_lload_n hC.1 hC.2.1 dX3_in_1 rfl (lv_at hl 1 rfl) ?_
  refine W.lcmp hC.1 hC.2.1 dX3_in_2 ?_
  refine lv_if_lt (tgt := 17) hC.1 hC.2.1 dX3_in_3 (by decide) (fun c1 => ?_) (fun c1 => ?_)
  ·
    have nc1 := Int32.not_le.mpr c1
    rw [lg_cmp_lt] at c1
    refine lv_iconst (v := 0) hC.1 hC.2.1 dX3_in_17 (by decide) ?_
    refine s_zret hC hr hlocks (by first | exact bI_01 _ | exact Or.inl rfl | exact Or.inr rfl) dX3_in_18 ?_
    grind [bI]
  ·
    have nc1 := Int32.not_lt.mp c1
    rw [lg_cmp_lt] at c1
    refine lv_lload_n hC.1 hC.2.1 dX3_in_6 rfl (lv_at hl 0 rfl) ?_
    refine lv_lload hC.1 hC.2.1 dX3_in_7 (lv_at hl 2 rfl) ?_
    refine W.lcmp hC.1 hC.2.1 dX3_in_9 ?_
    refine lv_if_gt (tgt := 17) hC.1 hC.2.1 dX3_in_10 (by decide) (fun c2 => ?_) (fun c2 => ?_)
    ·
      have nc2 := Int32.not_le.mpr c2
      rw [lg_cmp_gt] at c2
      refine lv_iconst (v := 0) hC.1 hC.2.1 dX3_in_17 (by decide) ?_
      refine s_zret hC hr hlocks (by first | exact bI_01 _ | exact Or.inl rfl | exact Or.inr rfl) dX3_in_18 ?_
      grind [bI]
    ·
      have nc2 := Int32.not_lt.mp c2
      rw [lg_cmp_gt] at c2
      refine lv_iconst (v := 1) hC.1 hC.2.1 dX3_in_13 (by decide) ?_
      refine lv_goto (tgt := 18) hC.1 hC.2.1 dX3_in_14 (by decide) ?_
      refine s_zret hC hr hlocks (by first | exact bI_01 _ | exact Or.inl rfl | exact Or.inr rfl) dX3_in_18 ?_
      grind [bI]

theorem mc_in (l : Launch) {V L Hh : Int64} {x a b : Int32} (hV : V = x.toInt64) (hL : L = a.toInt64) (hH : Hh = b.toInt64) : sMi l yX3_in cX3_in 6 (some .boolean) ({ frames := 0, cells := 0, slots := 0, locals := 0 }) [.long V, .long L, .long Hh] (bI (a ≤ x ∧ x ≤ b)) := by
  subst hV; subst hL; subst hH
  have h := mc_in0 l x.toInt64 a.toInt64 b.toInt64
  rw [bI_c (q := a ≤ x ∧ x ≤ b) (by rw [i64_le, i64_le])] at h
  exact h

set_option maxHeartbeats 400000 in
set_option maxRecDepth 100000 in
theorem mc_isRow (l : Launch) (x : Int32) : sMi l yX3_isRow cX3_isRow 1 (some .boolean) ({ frames := 1, cells := 0, slots := 0, locals := 25 }) [.int x] (bI (0 ≤ x ∧ x ≤ 7)) := by
  refine s_body (own := RX3) rfl (by decide) (Nat.le_of_ble_eq_true rfl) ?_
  intro p e s m args below meth c ls hC hr hlocks hl
  have hl : lv_has ls 1 [(0, .int x)] := hl
  refine lv_iload_n hC.1 hC.2.1 dX3_isRow_0 rfl (lv_at hl 0 rfl) ?_
  refine lv_i2l hC.1 hC.2.1 dX3_isRow_1 rfl ?_
  refine lv_lconst (v := 0) hC.1 hC.2.1 dX3_isRow_2 (by decide) ?_
  refine lv_ldc2 hC.1 hC.2.1 hC.2.2.2.1 (hC.2.2.2.2 _ q1349) dX3_isRow_3 ?_
  refine s_ci hC ((mc_in l (a := 0) (b := 7) rfl rfl rfl)) (cw_ms 3 hC.2.2.2.2 q1350 q1351 q1352 ⟨rfl, rfl⟩ rfl (by decide +kernel) ⟨Nat.le_of_ble_eq_true rfl, Nat.le_of_ble_eq_true rfl⟩) rfl hl.1 rfl (lv_room (Nat.le_of_ble_eq_true rfl)) dX3_isRow_6 ⟨Nat.le_of_ble_eq_true rfl, Nat.le_of_ble_eq_true rfl⟩ ?_
  refine s_zret hC hr hlocks (by first | exact bI_01 _ | exact Or.inl rfl | exact Or.inr rfl) dX3_isRow_9 ?_
  rfl

set_option maxHeartbeats 400000 in
set_option maxRecDepth 100000 in
theorem mc_finding (l : Launch) (v : Nat → Int32) (w : Nat → Nat → Int32) (x : Int32) : mMi l yX3_finding cX3_finding 2 (some .int) ({ frames := 0, cells := 0, slots := 0, locals := 0 }) [.int x] v w (fun r v1 w1 => r = -1000010 - x ∧ v1 = upd v 1 x ∧ w1 = w) := by
  intro D ac A G mo ad
  refine m_body rfl (Nat.le_of_ble_eq_true rfl) ?_
  intro p e s m args below meth c ls hC hr hlocks hK hM hl
  have hl : lv_has ls 2 [(0, .ref mo), (1, .int x)] := hl
  refine lv_aload_n hC.1 hC.2.1 dX3_finding_0 rfl (lv_at hl 0 rfl) ?_
  refine lv_iload_n hC.1 hC.2.1 dX3_finding_1 rfl (lv_at hl 1 rfl) ?_
  refine m_put hC hK hM 1 (by decide) q1263 rfl rfl rfl rfl dX3_finding_2 (fun H locs hM => ?_)
  refine lv_ldc hC.1 hC.2.1 hC.2.2.2.1 (hC.2.2.2.2 _ q1359) dX3_finding_5 ?_
  refine lv_iload_n hC.1 hC.2.1 dX3_finding_7 rfl (lv_at hl 1 rfl) ?_
  refine lv_isub hC.1 hC.2.1 dX3_finding_8 ?_
  refine m_iret hC hr hlocks hM dX3_finding_9 ?_
  exact ⟨rfl, rfl, rfl⟩

set_option maxHeartbeats 400000 in
set_option maxRecDepth 100000 in
theorem mc_fault (l : Launch) (v : Nat → Int32) (w : Nat → Nat → Int32) : mMi l yX3_fault cX3_fault 1 (some .int) ({ frames := 0, cells := 0, slots := 0, locals := 0 }) [] v w (fun r v1 w1 => r = v 11 ∧ v1 = upd v 0 0 ∧ w1 = w) := by
  intro D ac A G mo ad
  refine m_body rfl (Nat.le_of_ble_eq_true rfl) ?_
  intro p e s m args below meth c ls hC hr hlocks hK hM hl
  have hl : lv_has ls 1 [(0, .ref mo)] := hl
  refine lv_aload_n hC.1 hC.2.1 dX3_fault_0 rfl (lv_at hl 0 rfl) ?_
  refine lv_iconst (v := 0) hC.1 hC.2.1 dX3_fault_1 (by decide) ?_
  refine m_put hC hK hM 0 (by decide) q1262 rfl rfl rfl rfl dX3_fault_2 (fun H locs hM => ?_)
  refine lv_aload_n hC.1 hC.2.1 dX3_fault_5 rfl (lv_at hl 0 rfl) ?_
  refine m_get hC hK hM 11 (by decide) q1273 rfl rfl dX3_fault_6 ?_
  refine m_iret hC hr hlocks hM dX3_fault_9 ?_
  exact ⟨rfl, rfl, rfl⟩

set_option maxHeartbeats 400000 in
set_option maxRecDepth 100000 in
theorem mc_status (l : Launch) (v : Nat → Int32) (w : Nat → Nat → Int32) : mMi l yX3_status cX3_status 1 (some .int) ({ frames := 0, cells := 0, slots := 0, locals := 0 }) [] v w (fun r v1 w1 => r = v 1 ∧ v1 = upd v 0 0 ∧ w1 = w) := by
  intro D ac A G mo ad
  refine m_body rfl (Nat.le_of_ble_eq_true rfl) ?_
  intro p e s m args below meth c ls hC hr hlocks hK hM hl
  have hl : lv_has ls 1 [(0, .ref mo)] := hl
  refine lv_aload_n hC.1 hC.2.1 dX3_status_0 rfl (lv_at hl 0 rfl) ?_
  refine lv_iconst (v := 0) hC.1 hC.2.1 dX3_status_1 (by decide) ?_
  refine m_put hC hK hM 0 (by decide) q1262 rfl rfl rfl rfl dX3_status_2 (fun H locs hM => ?_)
  refine lv_aload_n hC.1 hC.2.1 dX3_status_5 rfl (lv_at hl 0 rfl) ?_
  refine m_get hC hK hM 1 (by decide) q1263 rfl rfl dX3_status_6 ?_
  refine m_iret hC hr hlocks hM dX3_status_9 ?_
  exact ⟨rfl, rfl, rfl⟩

set_option maxHeartbeats 400000 in
set_option maxRecDepth 100000 in
theorem mc_isThere (l : Launch) (v : Nat → Int32) (w : Nat → Nat → Int32) : mRi l yX3_isThere cX3_isThere 1 (some .boolean) ({ frames := 0, cells := 0, slots := 0, locals := 0 }) [] v w (bI (0 < w 5 0)) := by
  intro D ac A G mo ad
  refine m_bodyR rfl (Nat.le_of_ble_eq_true rfl) ?_
  intro p e s m args below meth c ls hC hr hlocks hK hM hl
  have hl : lv_has ls 1 [(0, .ref mo)] := hl
  refine lv_aload_n hC.1 hC.2.1 dX3_isThere_0 rfl (lv_at hl 0 rfl) ?_
  refine m_get hC hK hM 5 (by decide) q1267 rfl rfl dX3_isThere_1 ?_
  refine lv_iconst (v := 0) hC.1 hC.2.1 dX3_isThere_4 (by decide) ?_
  refine m_iald hC hK hM 5 rfl (n := 0) (by first | rfl | (simp only [← nI_add, ← pk_mul]; rfl)) (by first | decide | (show _ < 94; omega)) dX3_isThere_5 ?_
  refine lv_if_le (tgt := 13) hC.1 hC.2.1 dX3_isThere_6 (by decide) (fun c1 => ?_) (fun c1 => ?_)
  ·
    have nc1 := Int32.not_lt.mpr c1
    refine lv_iconst (v := 0) hC.1 hC.2.1 dX3_isThere_13 (by decide) ?_
    refine s_zret hC hr hlocks (by first | exact bI_01 _ | exact Or.inl rfl | exact Or.inr rfl) dX3_isThere_14 ?_
    grind [bI]
  ·
    have nc1 := Int32.not_le.mp c1
    refine lv_iconst (v := 1) hC.1 hC.2.1 dX3_isThere_9 (by decide) ?_
    refine lv_goto (tgt := 14) hC.1 hC.2.1 dX3_isThere_10 (by decide) ?_
    refine s_zret hC hr hlocks (by first | exact bI_01 _ | exact Or.inl rfl | exact Or.inr rfl) dX3_isThere_14 ?_
    grind [bI]

set_option maxHeartbeats 400000 in
set_option maxRecDepth 100000 in
theorem mc_stoneOf (l : Launch) (v : Nat → Int32) (w : Nat → Nat → Int32) (k f : Nat) (hk : k < 6) (hf : f < 3) : mRi l yX3_stoneOf cX3_stoneOf 3 (some .int) ({ frames := 0, cells := 0, slots := 0, locals := 0 }) [.int (nI k), .int (nI f)] v w (w 5 (8 + 3 * k + f)) := by
  intro D ac A G mo ad
  refine m_bodyR rfl (Nat.le_of_ble_eq_true rfl) ?_
  intro p e s m args below meth c ls hC hr hlocks hK hM hl
  have hl : lv_has ls 3 [(0, .ref mo), (1, .int (nI k)), (2, .int (nI f))] := hl
  refine lv_aload_n hC.1 hC.2.1 dX3_stoneOf_0 rfl (lv_at hl 0 rfl) ?_
  refine m_get hC hK hM 5 (by decide) q1267 rfl rfl dX3_stoneOf_1 ?_
  refine lv_bipush (v := 8) hC.1 hC.2.1 dX3_stoneOf_4 (by decide) ?_
  refine lv_iconst (v := 3) hC.1 hC.2.1 dX3_stoneOf_6 (by decide) ?_
  refine lv_iload_n hC.1 hC.2.1 dX3_stoneOf_7 rfl (lv_at hl 1 rfl) ?_
  refine lv_imul hC.1 hC.2.1 dX3_stoneOf_8 ?_
  refine lv_iadd hC.1 hC.2.1 dX3_stoneOf_9 ?_
  refine lv_iload_n hC.1 hC.2.1 dX3_stoneOf_10 rfl (lv_at hl 2 rfl) ?_
  refine lv_iadd hC.1 hC.2.1 dX3_stoneOf_11 ?_
  refine m_iald hC hK hM 5 rfl (n := ((8 + (3 * k)) + f)) (by first | rfl | (simp only [← nI_add, ← pk_mul]; rfl)) (by first | decide | (show _ < 94; omega)) dX3_stoneOf_12 ?_
  refine s_iret hC hr hlocks dX3_stoneOf_13 ?_
  rfl

set_option maxHeartbeats 400000 in
set_option maxRecDepth 100000 in
theorem mc_of (l : Launch) (v : Nat → Int32) (w : Nat → Nat → Int32) (k f : Nat) (hk : k < 5) (hf : f < 4) : mRi l yX3_of cX3_of 3 (some .int) ({ frames := 0, cells := 0, slots := 0, locals := 0 }) [.int (nI k), .int (nI f)] v w (w 5 (26 + 4 * k + f)) := by
  intro D ac A G mo ad
  refine m_bodyR rfl (Nat.le_of_ble_eq_true rfl) ?_
  intro p e s m args below meth c ls hC hr hlocks hK hM hl
  have hl : lv_has ls 3 [(0, .ref mo), (1, .int (nI k)), (2, .int (nI f))] := hl
  refine lv_aload_n hC.1 hC.2.1 dX3_of_0 rfl (lv_at hl 0 rfl) ?_
  refine m_get hC hK hM 5 (by decide) q1267 rfl rfl dX3_of_1 ?_
  refine lv_bipush (v := 26) hC.1 hC.2.1 dX3_of_4 (by decide) ?_
  refine lv_iconst (v := 4) hC.1 hC.2.1 dX3_of_6 (by decide) ?_
  refine lv_iload_n hC.1 hC.2.1 dX3_of_7 rfl (lv_at hl 1 rfl) ?_
  refine lv_imul hC.1 hC.2.1 dX3_of_8 ?_
  refine lv_iadd hC.1 hC.2.1 dX3_of_9 ?_
  refine lv_iload_n hC.1 hC.2.1 dX3_of_10 rfl (lv_at hl 2 rfl) ?_
  refine lv_iadd hC.1 hC.2.1 dX3_of_11 ?_
  refine m_iald hC hK hM 5 rfl (n := ((26 + (4 * k)) + f)) (by first | rfl | (simp only [← nI_add, ← pk_mul]; rfl)) (by first | decide | (show _ < 94; omega)) dX3_of_12 ?_
  refine s_iret hC hr hlocks dX3_of_13 ?_
  rfl
