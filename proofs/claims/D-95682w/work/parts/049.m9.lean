set_option maxHeartbeats 400000 in
set_option maxRecDepth 100000 in
theorem mc_began (l : Launch) (v : Nat → Int32) (w : Nat → Nat → Int32) (x : Int32) (t : Nat) (et : v 25 = nI t) (ht : t < 16) : mMv l yX3_began cX3_began 2 none ({ frames := 0, cells := 0, slots := 0, locals := 0 }) [.int x] v w (fun v1 w1 => v1 = upd v 25 (nI (t + 1)) ∧ w1 = wup w 24 t x) := by
  intro D ac A G mo ad
  refine m_body rfl (Nat.le_of_ble_eq_true rfl) ?_
  intro p e s m args below meth c ls hC hr hlocks hK hM hl
  have hl : lv_has ls 2 [(0, .ref mo), (1, .int x)] := hl
  refine lv_aload_n hC.1 hC.2.1 dX3_began_0 rfl (lv_at hl 0 rfl) ?_
  refine m_get hC hK hM 25 (by decide) q1287 rfl rfl dX3_began_1 ?_
  rw [et]
  refine lv_bipush (v := 16) hC.1 hC.2.1 dX3_began_4 (by decide) ?_
  refine lv_icmp_ge (tgt := 29) hC.1 hC.2.1 dX3_began_6 (by decide) (fun c1 => ?_) (fun c1 => ?_)
  ·
    have nc1 := Int32.not_lt.mpr c1
    exact absurd (nle_t (a := 16) (b := t) c1) (by omega)
  ·
    have nc1 := Int32.not_le.mp c1
    refine lv_aload_n hC.1 hC.2.1 dX3_began_9 rfl (lv_at hl 0 rfl) ?_
    refine m_get hC hK hM 24 (by decide) q1286 rfl rfl dX3_began_10 ?_
    refine lv_aload_n hC.1 hC.2.1 dX3_began_13 rfl (lv_at hl 0 rfl) ?_
    refine m_get hC hK hM 25 (by decide) q1287 rfl rfl dX3_began_14 ?_
    rw [et]
    refine lv_iload_n hC.1 hC.2.1 dX3_began_17 rfl (lv_at hl 1 rfl) ?_
    refine m_iast hC hK hM 24 rfl (n := t) (by first | rfl | (simp only [← nI_add, ← pk_mul]; rfl)) (by first | decide | (show _ < 16; omega)) dX3_began_18 (fun H locs hM => ?_)
    refine lv_aload_n hC.1 hC.2.1 dX3_began_19 rfl (lv_at hl 0 rfl) ?_
    refine lv_dup hC.1 hC.2.1 dX3_began_20 rfl ?_
    refine m_get hC hK hM 25 (by decide) q1287 rfl rfl dX3_began_21 ?_
    rw [et]
    refine lv_iconst (v := 1) hC.1 hC.2.1 dX3_began_24 (by decide) ?_
    refine lv_iadd hC.1 hC.2.1 dX3_began_25 ?_
    rw [nI_1]
    refine m_put hC hK hM 25 (by decide) q1287 rfl rfl rfl rfl dX3_began_26 (fun H locs hM => ?_)
    refine m_vret hC hr hlocks hM dX3_began_29 ?_
    exact ⟨rfl, rfl⟩

set_option maxHeartbeats 400000 in
set_option maxRecDepth 100000 in
theorem mc_plainSize (l : Launch) (v : Nat → Int32) (w : Nat → Nat → Int32) (j : Nat) (hj : j < 5) (t : Nat) (et : v 25 = nI t) (ht : t < 16) : mMi l yX3_plainSize cX3_plainSize 2 (some .int) ({ frames := 1, cells := 0, slots := 0, locals := 22 }) [.int (nI j)] v w (fun r v1 w1 => r = w 5 (26 + 4 * j + 3) ∧ v1 = upd v 25 (nI (t + 1)) ∧ w1 = wup w 24 t 10) := by
  intro D ac A G mo ad
  refine m_body rfl (Nat.le_of_ble_eq_true rfl) ?_
  intro p e s m args below meth c ls hC hr hlocks hK hM hl
  have hl : lv_has ls 2 [(0, .ref mo), (1, .int (nI j))] := hl
  refine lv_aload_n hC.1 hC.2.1 dX3_plainSize_0 rfl (lv_at hl 0 rfl) ?_
  refine lv_bipush (v := 10) hC.1 hC.2.1 dX3_plainSize_1 (by decide) ?_
  refine m_cve hC hK hM (mc_began l _ _ _ t et ht) (cw_m 1 hC.2.2.2.2 q1632 q1634 qs59 q1635 ⟨rfl, rfl⟩ rfl (by decide +kernel) ⟨Nat.le_of_ble_eq_true rfl, Nat.le_of_ble_eq_true rfl⟩) rfl hl.1 rfl (lv_room (Nat.le_of_ble_eq_true rfl)) dX3_plainSize_3 ⟨Nat.le_of_ble_eq_true rfl, Nat.le_of_ble_eq_true rfl⟩ (fun H locs hM => ?_)
  refine lv_aload_n hC.1 hC.2.1 dX3_plainSize_6 rfl (lv_at hl 0 rfl) ?_
  refine lv_iload_n hC.1 hC.2.1 dX3_plainSize_7 rfl (lv_at hl 1 rfl) ?_
  refine lv_iconst (v := 3) hC.1 hC.2.1 dX3_plainSize_8 (by decide) ?_
  refine m_cr hC hK hM (mc_of l _ _ j 3 hj (by omega)) (cw_m 2 hC.2.2.2.2 q1483 q1485 qs45 q1486 ⟨rfl, rfl⟩ rfl (by decide +kernel) ⟨Nat.le_of_ble_eq_true rfl, Nat.le_of_ble_eq_true rfl⟩) rfl hl.1 rfl (lv_room (Nat.le_of_ble_eq_true rfl)) dX3_plainSize_9 ⟨Nat.le_of_ble_eq_true rfl, Nat.le_of_ble_eq_true rfl⟩ ?_
  refine m_iret hC hr hlocks hM dX3_plainSize_12 ?_
  exact ⟨rfl, rfl, rfl⟩

set_option maxHeartbeats 400000 in
set_option maxRecDepth 100000 in
theorem mc_thiefSize (l : Launch) (v : Nat → Int32) (w : Nat → Nat → Int32) (j : Nat) (hj : j < 5) (t : Nat) (et : v 25 = nI t) (ht : t + 3 ≤ 16) : mMi l yX3_thiefSize cX3_thiefSize 3 (some .int) ({ frames := 2, cells := 0, slots := 0, locals := 43 }) [.int (nI j)] v w (fun r v1 w1 => r = thV (w 5) j ∧ v1 = upd v 25 (nI (t + (thL (w 5 (26 + 4 * j))).length)) ∧ w1 = bgW w t (thL (w 5 (26 + 4 * j)))) := by
  intro D ac A G mo ad
  refine m_body rfl (Nat.le_of_ble_eq_true rfl) ?_
  intro p e s m args below meth c ls hC hr hlocks hK hM hl
  have hl : lv_has ls 3 [(0, .ref mo), (1, .int (nI j))] := hl
  refine lv_aload_n hC.1 hC.2.1 dX3_thiefSize_0 rfl (lv_at hl 0 rfl) ?_
  refine lv_iload_n hC.1 hC.2.1 dX3_thiefSize_1 rfl (lv_at hl 1 rfl) ?_
  refine lv_iconst (v := 0) hC.1 hC.2.1 dX3_thiefSize_2 (by decide) ?_
  refine m_cr hC hK hM (mc_of l _ _ j 0 hj (by omega)) (cw_m 2 hC.2.2.2.2 q1483 q1485 qs45 q1486 ⟨rfl, rfl⟩ rfl (by decide +kernel) ⟨Nat.le_of_ble_eq_true rfl, Nat.le_of_ble_eq_true rfl⟩) rfl hl.1 rfl (lv_room (Nat.le_of_ble_eq_true rfl)) dX3_thiefSize_3 ⟨Nat.le_of_ble_eq_true rfl, Nat.le_of_ble_eq_true rfl⟩ ?_
  refine lv_iconst (v := 5) hC.1 hC.2.1 dX3_thiefSize_6 (by decide) ?_
  refine lv_icmp_ne (tgt := 16) hC.1 hC.2.1 dX3_thiefSize_7 (by decide) (fun c2 => ?_) (fun c2 => ?_)
  ·
    skip
    have k5 : ¬ w 5 (26 + 4 * j) = 5 := c2
    refine lv_aload_n hC.1 hC.2.1 dX3_thiefSize_16 rfl (lv_at hl 0 rfl) ?_
    refine lv_bipush (v := 13) hC.1 hC.2.1 dX3_thiefSize_17 (by decide) ?_
    refine m_cve hC hK hM (mc_began l _ _ _ t et (by omega)) (cw_m 1 hC.2.2.2.2 q1632 q1634 qs59 q1635 ⟨rfl, rfl⟩ rfl (by decide +kernel) ⟨Nat.le_of_ble_eq_true rfl, Nat.le_of_ble_eq_true rfl⟩) rfl hl.1 rfl (lv_room (Nat.le_of_ble_eq_true rfl)) dX3_thiefSize_19 ⟨Nat.le_of_ble_eq_true rfl, Nat.le_of_ble_eq_true rfl⟩ (fun H locs hM => ?_)
    refine lv_aload_n hC.1 hC.2.1 dX3_thiefSize_22 rfl (lv_at hl 0 rfl) ?_
    refine lv_iload_n hC.1 hC.2.1 dX3_thiefSize_23 rfl (lv_at hl 1 rfl) ?_
    refine m_cie hC hK hM (mc_plainSize l _ _ j hj (t + 1) (upd_s _ _ _) (by omega)) (cw_m 1 hC.2.2.2.2 q1636 q1638 qs60 q1639 ⟨rfl, rfl⟩ rfl (by decide +kernel) ⟨Nat.le_of_ble_eq_true rfl, Nat.le_of_ble_eq_true rfl⟩) rfl hl.1 rfl (lv_room (Nat.le_of_ble_eq_true rfl)) dX3_thiefSize_24 ⟨Nat.le_of_ble_eq_true rfl, Nat.le_of_ble_eq_true rfl⟩ (fun H locs hM => ?_)
    refine lv_bipush (v := 100) hC.1 hC.2.1 dX3_thiefSize_27 (by decide) ?_
    refine lv_isub hC.1 hC.2.1 dX3_thiefSize_29 ?_
    refine lv_istore_n (lv' := [(2, _), (0, _), (1, _)]) hC.1 hC.2.1 dX3_thiefSize_30 rfl hl (by decide) rfl (fun ls hl => ?_)
    refine lv_aload_n hC.1 hC.2.1 dX3_thiefSize_31 rfl (lv_at hl 1 rfl) ?_
    refine lv_iload_n hC.1 hC.2.1 dX3_thiefSize_32 rfl (lv_at hl 2 rfl) ?_
    refine lv_iconst (v := 0) hC.1 hC.2.1 dX3_thiefSize_33 (by decide) ?_
    refine m_cr hC hK hM (mc_of l _ _ j 0 hj (by omega)) (cw_m 2 hC.2.2.2.2 q1483 q1485 qs45 q1486 ⟨rfl, rfl⟩ rfl (by decide +kernel) ⟨Nat.le_of_ble_eq_true rfl, Nat.le_of_ble_eq_true rfl⟩) rfl hl.1 rfl (lv_room (Nat.le_of_ble_eq_true rfl)) dX3_thiefSize_34 ⟨Nat.le_of_ble_eq_true rfl, Nat.le_of_ble_eq_true rfl⟩ ?_
    refine lv_iconst (v := 5) hC.1 hC.2.1 dX3_thiefSize_37 (by decide) ?_
    refine lv_icmp_ne (tgt := 47) hC.1 hC.2.1 dX3_thiefSize_38 (by decide) (fun c6 => ?_) (fun c6 => ?_)
    ·
      skip
      skip
      refine lv_iload_n hC.1 hC.2.1 dX3_thiefSize_47 rfl (lv_at hl 0 rfl) ?_
      refine m_iret hC hr hlocks hM dX3_thiefSize_48 ?_
      refine ⟨?_, ?_, ?_⟩
      · simp [thV, k5, wup]
      · simp [thL, k5, upd_upd]
      · simp [thL, k5, bgW]
    ·
      skip
      exact absurd c6 k5
  ·
    skip
    have k5 : w 5 (26 + 4 * j) = 5 := c2
    refine lv_aload_n hC.1 hC.2.1 dX3_thiefSize_10 rfl (lv_at hl 0 rfl) ?_
    refine lv_bipush (v := 14) hC.1 hC.2.1 dX3_thiefSize_11 (by decide) ?_
    refine m_cve hC hK hM (mc_began l _ _ _ t et (by omega)) (cw_m 1 hC.2.2.2.2 q1632 q1634 qs59 q1635 ⟨rfl, rfl⟩ rfl (by decide +kernel) ⟨Nat.le_of_ble_eq_true rfl, Nat.le_of_ble_eq_true rfl⟩) rfl hl.1 rfl (lv_room (Nat.le_of_ble_eq_true rfl)) dX3_thiefSize_13 ⟨Nat.le_of_ble_eq_true rfl, Nat.le_of_ble_eq_true rfl⟩ (fun H locs hM => ?_)
    refine lv_aload_n hC.1 hC.2.1 dX3_thiefSize_16 rfl (lv_at hl 0 rfl) ?_
    refine lv_bipush (v := 13) hC.1 hC.2.1 dX3_thiefSize_17 (by decide) ?_
    refine m_cve hC hK hM (mc_began l _ _ _ (t + 1) (upd_s _ _ _) (by omega)) (cw_m 1 hC.2.2.2.2 q1632 q1634 qs59 q1635 ⟨rfl, rfl⟩ rfl (by decide +kernel) ⟨Nat.le_of_ble_eq_true rfl, Nat.le_of_ble_eq_true rfl⟩) rfl hl.1 rfl (lv_room (Nat.le_of_ble_eq_true rfl)) dX3_thiefSize_19 ⟨Nat.le_of_ble_eq_true rfl, Nat.le_of_ble_eq_true rfl⟩ (fun H locs hM => ?_)
    refine lv_aload_n hC.1 hC.2.1 dX3_thiefSize_22 rfl (lv_at hl 0 rfl) ?_
    refine lv_iload_n hC.1 hC.2.1 dX3_thiefSize_23 rfl (lv_at hl 1 rfl) ?_
    refine m_cie hC hK hM (mc_plainSize l _ _ j hj (t + 2) (upd_s _ _ _) (by omega)) (cw_m 1 hC.2.2.2.2 q1636 q1638 qs60 q1639 ⟨rfl, rfl⟩ rfl (by decide +kernel) ⟨Nat.le_of_ble_eq_true rfl, Nat.le_of_ble_eq_true rfl⟩) rfl hl.1 rfl (lv_room (Nat.le_of_ble_eq_true rfl)) dX3_thiefSize_24 ⟨Nat.le_of_ble_eq_true rfl, Nat.le_of_ble_eq_true rfl⟩ (fun H locs hM => ?_)
    refine lv_bipush (v := 100) hC.1 hC.2.1 dX3_thiefSize_27 (by decide) ?_
    refine lv_isub hC.1 hC.2.1 dX3_thiefSize_29 ?_
    refine lv_istore_n (lv' := [(2, _), (0, _), (1, _)]) hC.1 hC.2.1 dX3_thiefSize_30 rfl hl (by decide) rfl (fun ls hl => ?_)
    refine lv_aload_n hC.1 hC.2.1 dX3_thiefSize_31 rfl (lv_at hl 1 rfl) ?_
    refine lv_iload_n hC.1 hC.2.1 dX3_thiefSize_32 rfl (lv_at hl 2 rfl) ?_
    refine lv_iconst (v := 0) hC.1 hC.2.1 dX3_thiefSize_33 (by decide) ?_
    refine m_cr hC hK hM (mc_of l _ _ j 0 hj (by omega)) (cw_m 2 hC.2.2.2.2 q1483 q1485 qs45 q1486 ⟨rfl, rfl⟩ rfl (by decide +kernel) ⟨Nat.le_of_ble_eq_true rfl, Nat.le_of_ble_eq_true rfl⟩) rfl hl.1 rfl (lv_room (Nat.le_of_ble_eq_true rfl)) dX3_thiefSize_34 ⟨Nat.le_of_ble_eq_true rfl, Nat.le_of_ble_eq_true rfl⟩ ?_
    refine lv_iconst (v := 5) hC.1 hC.2.1 dX3_thiefSize_37 (by decide) ?_
    refine lv_icmp_ne (tgt := 47) hC.1 hC.2.1 dX3_thiefSize_38 (by decide) (fun c11 => ?_) (fun c11 => ?_)
    ·
      skip
      exact absurd k5 c11
    ·
      skip
      skip
      refine lv_iconst (v := 2) hC.1 hC.2.1 dX3_thiefSize_41 (by decide) ?_
      refine lv_iload_n hC.1 hC.2.1 dX3_thiefSize_42 rfl (lv_at hl 0 rfl) ?_
      refine lv_imul hC.1 hC.2.1 dX3_thiefSize_43 ?_
      refine lv_goto (tgt := 48) hC.1 hC.2.1 dX3_thiefSize_44 (by decide) ?_
      refine m_iret hC hr hlocks hM dX3_thiefSize_48 ?_
      refine ⟨?_, ?_, ?_⟩
      · simp [thV, k5, wup]
      · simp [thL, k5, upd_upd]
      · simp [thL, k5, bgW]

set_option maxHeartbeats 400000 in
set_option maxRecDepth 100000 in
theorem mc_markOf (l : Launch) (v : Nat → Int32) (w : Nat → Nat → Int32) (j k0 : Nat) (hj : j < 5) (ek : w 5 (26 + 4 * j + 1) = nI k0) (hk0 : k0 < 6) (t : Nat) (et : v 25 = nI t) (ht : t + 5 ≤ 16) : mMi l yX3_markOf cX3_markOf 4 (some .int) ({ frames := 3, cells := 0, slots := 0, locals := 65 }) [.int (nI j)] v w (fun r v1 w1 => r = mkV (w 5) j ∧ v1 = upd v 25 (nI (t + (mkL (w 5 (26 + 4 * j))).length)) ∧ w1 = bgW w t (mkL (w 5 (26 + 4 * j)))) := by
  intro D ac A G mo ad
  refine m_body rfl (Nat.le_of_ble_eq_true rfl) ?_
  intro p e s m args below meth c ls hC hr hlocks hK hM hl
  have hl : lv_has ls 4 [(0, .ref mo), (1, .int (nI j))] := hl
  have ik : iN (w 5 (26 + 4 * j + 1)) = k0 := by rw [ek]; exact iN_nI (by omega)
  refine lv_aload_n hC.1 hC.2.1 dX3_markOf_0 rfl (lv_at hl 0 rfl) ?_
  refine lv_iload_n hC.1 hC.2.1 dX3_markOf_1 rfl (lv_at hl 1 rfl) ?_
  refine lv_iconst (v := 0) hC.1 hC.2.1 dX3_markOf_2 (by decide) ?_
  refine m_cr hC hK hM (mc_of l _ _ j 0 hj (by omega)) (cw_m 2 hC.2.2.2.2 q1483 q1485 qs45 q1486 ⟨rfl, rfl⟩ rfl (by decide +kernel) ⟨Nat.le_of_ble_eq_true rfl, Nat.le_of_ble_eq_true rfl⟩) rfl hl.1 rfl (lv_room (Nat.le_of_ble_eq_true rfl)) dX3_markOf_3 ⟨Nat.le_of_ble_eq_true rfl, Nat.le_of_ble_eq_true rfl⟩ ?_
  refine lv_istore_n (lv' := [(2, _), (0, _), (1, _)]) hC.1 hC.2.1 dX3_markOf_6 rfl hl (by decide) rfl (fun ls hl => ?_)
  refine lv_iload_n hC.1 hC.2.1 dX3_markOf_7 rfl (lv_at hl 0 rfl) ?_
  refine lv_iconst (v := 4) hC.1 hC.2.1 dX3_markOf_8 (by decide) ?_
  refine lv_icmp_lt (tgt := 32) hC.1 hC.2.1 dX3_markOf_9 (by decide) (fun c2 => ?_) (fun c2 => ?_)
  ·
    have nc2 := Int32.not_le.mpr c2
    have k4 : w 5 (26 + 4 * j) < 4 := c2
    refine lv_iload_n hC.1 hC.2.1 dX3_markOf_32 rfl (lv_at hl 0 rfl) ?_
    refine lv_iconst (v := 1) hC.1 hC.2.1 dX3_markOf_33 (by decide) ?_
    refine lv_icmp_eq (tgt := 53) hC.1 hC.2.1 dX3_markOf_34 (by decide) (fun c3 => ?_) (fun c3 => ?_)
    ·
      skip
      have k1 : w 5 (26 + 4 * j) = 1 := c3
      refine lv_aload_n hC.1 hC.2.1 dX3_markOf_53 rfl (lv_at hl 1 rfl) ?_
      refine lv_bipush (v := 21) hC.1 hC.2.1 dX3_markOf_54 (by decide) ?_
      refine m_cve hC hK hM (mc_began l _ _ _ t et (by omega)) (cw_m 1 hC.2.2.2.2 q1632 q1634 qs59 q1635 ⟨rfl, rfl⟩ rfl (by decide +kernel) ⟨Nat.le_of_ble_eq_true rfl, Nat.le_of_ble_eq_true rfl⟩) rfl hl.1 rfl (lv_room (Nat.le_of_ble_eq_true rfl)) dX3_markOf_56 ⟨Nat.le_of_ble_eq_true rfl, Nat.le_of_ble_eq_true rfl⟩ (fun H locs hM => ?_)
      refine lv_aload_n hC.1 hC.2.1 dX3_markOf_59 rfl (lv_at hl 1 rfl) ?_
      refine lv_bipush (v := 20) hC.1 hC.2.1 dX3_markOf_60 (by decide) ?_
      refine m_cve hC hK hM (mc_began l _ _ _ (t + 1) (upd_s _ _ _) (by omega)) (cw_m 1 hC.2.2.2.2 q1632 q1634 qs59 q1635 ⟨rfl, rfl⟩ rfl (by decide +kernel) ⟨Nat.le_of_ble_eq_true rfl, Nat.le_of_ble_eq_true rfl⟩) rfl hl.1 rfl (lv_room (Nat.le_of_ble_eq_true rfl)) dX3_markOf_62 ⟨Nat.le_of_ble_eq_true rfl, Nat.le_of_ble_eq_true rfl⟩ (fun H locs hM => ?_)
      refine lv_iload_n hC.1 hC.2.1 dX3_markOf_65 rfl (lv_at hl 2 rfl) ?_
      refine lv_aload_n hC.1 hC.2.1 dX3_markOf_66 rfl (lv_at hl 1 rfl) ?_
      refine lv_aload_n hC.1 hC.2.1 dX3_markOf_67 rfl (lv_at hl 1 rfl) ?_
      refine lv_iload_n hC.1 hC.2.1 dX3_markOf_68 rfl (lv_at hl 2 rfl) ?_
      refine lv_iconst (v := 1) hC.1 hC.2.1 dX3_markOf_69 (by decide) ?_
      refine m_cr hC hK hM (mc_of l _ _ j 1 hj (by omega)) (cw_m 2 hC.2.2.2.2 q1483 q1485 qs45 q1486 ⟨rfl, rfl⟩ rfl (by decide +kernel) ⟨Nat.le_of_ble_eq_true rfl, Nat.le_of_ble_eq_true rfl⟩) rfl hl.1 rfl (lv_room (Nat.le_of_ble_eq_true rfl)) dX3_markOf_70 ⟨Nat.le_of_ble_eq_true rfl, Nat.le_of_ble_eq_true rfl⟩ ?_
      simp only [wup_n (show (5 : Nat) ≠ 24 by decide), ek]
      refine lv_iconst (v := 1) hC.1 hC.2.1 dX3_markOf_73 (by decide) ?_
      refine m_cr hC hK hM (mc_stoneOf l _ _ k0 1 hk0 (by omega)) (cw_m 2 hC.2.2.2.2 q1467 q1469 qs41 q1470 ⟨rfl, rfl⟩ rfl (by decide +kernel) ⟨Nat.le_of_ble_eq_true rfl, Nat.le_of_ble_eq_true rfl⟩) rfl hl.1 rfl (lv_room (Nat.le_of_ble_eq_true rfl)) dX3_markOf_74 ⟨Nat.le_of_ble_eq_true rfl, Nat.le_of_ble_eq_true rfl⟩ ?_
      refine lv_iadd hC.1 hC.2.1 dX3_markOf_77 ?_
      refine lv_istore_n (lv' := [(3, _), (2, _), (0, _), (1, _)]) hC.1 hC.2.1 dX3_markOf_78 rfl hl (by decide) rfl (fun ls hl => ?_)
      refine lv_iload_n hC.1 hC.2.1 dX3_markOf_79 rfl (lv_at hl 1 rfl) ?_
      refine lv_iconst (v := 1) hC.1 hC.2.1 dX3_markOf_80 (by decide) ?_
      refine lv_icmp_ne (tgt := 88) hC.1 hC.2.1 dX3_markOf_81 (by decide) (fun c8 => ?_) (fun c8 => ?_)
      ·
        skip
        exact absurd k1 c8
      ·
        skip
        skip
        refine lv_iload_n hC.1 hC.2.1 dX3_markOf_84 rfl (lv_at hl 0 rfl) ?_
        refine lv_goto (tgt := 104) hC.1 hC.2.1 dX3_markOf_85 (by decide) ?_
        refine m_iret hC hr hlocks hM dX3_markOf_104 ?_
        refine ⟨?_, ?_, ?_⟩
        · rw [mkV, if_pos k4, ik]
          first | (rw [if_pos k1]; rfl) | (rw [if_neg k1, if_pos k3]; rfl) | (rw [if_neg k1, if_neg k3]; rfl)
        · simp [mkL, *, upd_upd]
        · simp [mkL, *, bgW]
    ·
      skip
      have k1 : ¬ w 5 (26 + 4 * j) = 1 := c3
      refine lv_aload_n hC.1 hC.2.1 dX3_markOf_37 rfl (lv_at hl 1 rfl) ?_
      refine lv_iload_n hC.1 hC.2.1 dX3_markOf_38 rfl (lv_at hl 0 rfl) ?_
      refine lv_iconst (v := 3) hC.1 hC.2.1 dX3_markOf_39 (by decide) ?_
      refine lv_icmp_ne (tgt := 48) hC.1 hC.2.1 dX3_markOf_40 (by decide) (fun c9 => ?_) (fun c9 => ?_)
      ·
        skip
        have k3 : ¬ w 5 (26 + 4 * j) = 3 := c9
        refine lv_bipush (v := 24) hC.1 hC.2.1 dX3_markOf_48 (by decide) ?_
        refine m_cve hC hK hM (mc_began l _ _ _ t et (by omega)) (cw_m 1 hC.2.2.2.2 q1632 q1634 qs59 q1635 ⟨rfl, rfl⟩ rfl (by decide +kernel) ⟨Nat.le_of_ble_eq_true rfl, Nat.le_of_ble_eq_true rfl⟩) rfl hl.1 rfl (lv_room (Nat.le_of_ble_eq_true rfl)) dX3_markOf_50 ⟨Nat.le_of_ble_eq_true rfl, Nat.le_of_ble_eq_true rfl⟩ (fun H locs hM => ?_)
        refine lv_aload_n hC.1 hC.2.1 dX3_markOf_53 rfl (lv_at hl 1 rfl) ?_
        refine lv_bipush (v := 21) hC.1 hC.2.1 dX3_markOf_54 (by decide) ?_
        refine m_cve hC hK hM (mc_began l _ _ _ (t + 1) (upd_s _ _ _) (by omega)) (cw_m 1 hC.2.2.2.2 q1632 q1634 qs59 q1635 ⟨rfl, rfl⟩ rfl (by decide +kernel) ⟨Nat.le_of_ble_eq_true rfl, Nat.le_of_ble_eq_true rfl⟩) rfl hl.1 rfl (lv_room (Nat.le_of_ble_eq_true rfl)) dX3_markOf_56 ⟨Nat.le_of_ble_eq_true rfl, Nat.le_of_ble_eq_true rfl⟩ (fun H locs hM => ?_)
        refine lv_aload_n hC.1 hC.2.1 dX3_markOf_59 rfl (lv_at hl 1 rfl) ?_
        refine lv_bipush (v := 20) hC.1 hC.2.1 dX3_markOf_60 (by decide) ?_
        refine m_cve hC hK hM (mc_began l _ _ _ (t + 2) (upd_s _ _ _) (by omega)) (cw_m 1 hC.2.2.2.2 q1632 q1634 qs59 q1635 ⟨rfl, rfl⟩ rfl (by decide +kernel) ⟨Nat.le_of_ble_eq_true rfl, Nat.le_of_ble_eq_true rfl⟩) rfl hl.1 rfl (lv_room (Nat.le_of_ble_eq_true rfl)) dX3_markOf_62 ⟨Nat.le_of_ble_eq_true rfl, Nat.le_of_ble_eq_true rfl⟩ (fun H locs hM => ?_)
        refine lv_iload_n hC.1 hC.2.1 dX3_markOf_65 rfl (lv_at hl 2 rfl) ?_
        refine lv_aload_n hC.1 hC.2.1 dX3_markOf_66 rfl (lv_at hl 1 rfl) ?_
        refine lv_aload_n hC.1 hC.2.1 dX3_markOf_67 rfl (lv_at hl 1 rfl) ?_
        refine lv_iload_n hC.1 hC.2.1 dX3_markOf_68 rfl (lv_at hl 2 rfl) ?_
        refine lv_iconst (v := 1) hC.1 hC.2.1 dX3_markOf_69 (by decide) ?_
        refine m_cr hC hK hM (mc_of l _ _ j 1 hj (by omega)) (cw_m 2 hC.2.2.2.2 q1483 q1485 qs45 q1486 ⟨rfl, rfl⟩ rfl (by decide +kernel) ⟨Nat.le_of_ble_eq_true rfl, Nat.le_of_ble_eq_true rfl⟩) rfl hl.1 rfl (lv_room (Nat.le_of_ble_eq_true rfl)) dX3_markOf_70 ⟨Nat.le_of_ble_eq_true rfl, Nat.le_of_ble_eq_true rfl⟩ ?_
        simp only [wup_n (show (5 : Nat) ≠ 24 by decide), ek]
        refine lv_iconst (v := 1) hC.1 hC.2.1 dX3_markOf_73 (by decide) ?_
        refine m_cr hC hK hM (mc_stoneOf l _ _ k0 1 hk0 (by omega)) (cw_m 2 hC.2.2.2.2 q1467 q1469 qs41 q1470 ⟨rfl, rfl⟩ rfl (by decide +kernel) ⟨Nat.le_of_ble_eq_true rfl, Nat.le_of_ble_eq_true rfl⟩) rfl hl.1 rfl (lv_room (Nat.le_of_ble_eq_true rfl)) dX3_markOf_74 ⟨Nat.le_of_ble_eq_true rfl, Nat.le_of_ble_eq_true rfl⟩ ?_
        refine lv_iadd hC.1 hC.2.1 dX3_markOf_77 ?_
        refine lv_istore_n (lv' := [(3, _), (2, _), (0, _), (1, _)]) hC.1 hC.2.1 dX3_markOf_78 rfl hl (by decide) rfl (fun ls hl => ?_)
        refine lv_iload_n hC.1 hC.2.1 dX3_markOf_79 rfl (lv_at hl 1 rfl) ?_
        refine lv_iconst (v := 1) hC.1 hC.2.1 dX3_markOf_80 (by decide) ?_
        refine lv_icmp_ne (tgt := 88) hC.1 hC.2.1 dX3_markOf_81 (by decide) (fun c15 => ?_) (fun c15 => ?_)
        ·
          skip
          skip
          refine lv_iload_n hC.1 hC.2.1 dX3_markOf_88 rfl (lv_at hl 1 rfl) ?_
          refine lv_iconst (v := 3) hC.1 hC.2.1 dX3_markOf_89 (by decide) ?_
          refine lv_icmp_ne (tgt := 101) hC.1 hC.2.1 dX3_markOf_90 (by decide) (fun c16 => ?_) (fun c16 => ?_)
          ·
            skip
            skip
            refine lv_iconst (v := 2) hC.1 hC.2.1 dX3_markOf_101 (by decide) ?_
            refine lv_iload_n hC.1 hC.2.1 dX3_markOf_102 rfl (lv_at hl 0 rfl) ?_
            refine lv_imul hC.1 hC.2.1 dX3_markOf_103 ?_
            refine m_iret hC hr hlocks hM dX3_markOf_104 ?_
            refine ⟨?_, ?_, ?_⟩
            · rw [mkV, if_pos k4, ik]
              first | (rw [if_pos k1]; rfl) | (rw [if_neg k1, if_pos k3]; rfl) | (rw [if_neg k1, if_neg k3]; rfl)
            · simp [mkL, *, upd_upd]
            · simp [mkL, *, bgW]
          ·
            skip
            exact absurd c16 k3
        ·
          skip
          exact absurd c15 k1
      ·
        skip
        have k3 : w 5 (26 + 4 * j) = 3 := c9
        refine lv_bipush (v := 22) hC.1 hC.2.1 dX3_markOf_43 (by decide) ?_
        refine lv_goto (tgt := 50) hC.1 hC.2.1 dX3_markOf_45 (by decide) ?_
        refine m_cve hC hK hM (mc_began l _ _ _ t et (by omega)) (cw_m 1 hC.2.2.2.2 q1632 q1634 qs59 q1635 ⟨rfl, rfl⟩ rfl (by decide +kernel) ⟨Nat.le_of_ble_eq_true rfl, Nat.le_of_ble_eq_true rfl⟩) rfl hl.1 rfl (lv_room (Nat.le_of_ble_eq_true rfl)) dX3_markOf_50 ⟨Nat.le_of_ble_eq_true rfl, Nat.le_of_ble_eq_true rfl⟩ (fun H locs hM => ?_)
        refine lv_aload_n hC.1 hC.2.1 dX3_markOf_53 rfl (lv_at hl 1 rfl) ?_
        refine lv_bipush (v := 21) hC.1 hC.2.1 dX3_markOf_54 (by decide) ?_
        refine m_cve hC hK hM (mc_began l _ _ _ (t + 1) (upd_s _ _ _) (by omega)) (cw_m 1 hC.2.2.2.2 q1632 q1634 qs59 q1635 ⟨rfl, rfl⟩ rfl (by decide +kernel) ⟨Nat.le_of_ble_eq_true rfl, Nat.le_of_ble_eq_true rfl⟩) rfl hl.1 rfl (lv_room (Nat.le_of_ble_eq_true rfl)) dX3_markOf_56 ⟨Nat.le_of_ble_eq_true rfl, Nat.le_of_ble_eq_true rfl⟩ (fun H locs hM => ?_)
        refine lv_aload_n hC.1 hC.2.1 dX3_markOf_59 rfl (lv_at hl 1 rfl) ?_
        refine lv_bipush (v := 20) hC.1 hC.2.1 dX3_markOf_60 (by decide) ?_
        refine m_cve hC hK hM (mc_began l _ _ _ (t + 2) (upd_s _ _ _) (by omega)) (cw_m 1 hC.2.2.2.2 q1632 q1634 qs59 q1635 ⟨rfl, rfl⟩ rfl (by decide +kernel) ⟨Nat.le_of_ble_eq_true rfl, Nat.le_of_ble_eq_true rfl⟩) rfl hl.1 rfl (lv_room (Nat.le_of_ble_eq_true rfl)) dX3_markOf_62 ⟨Nat.le_of_ble_eq_true rfl, Nat.le_of_ble_eq_true rfl⟩ (fun H locs hM => ?_)
        refine lv_iload_n hC.1 hC.2.1 dX3_markOf_65 rfl (lv_at hl 2 rfl) ?_
        refine lv_aload_n hC.1 hC.2.1 dX3_markOf_66 rfl (lv_at hl 1 rfl) ?_
        refine lv_aload_n hC.1 hC.2.1 dX3_markOf_67 rfl (lv_at hl 1 rfl) ?_
        refine lv_iload_n hC.1 hC.2.1 dX3_markOf_68 rfl (lv_at hl 2 rfl) ?_
        refine lv_iconst (v := 1) hC.1 hC.2.1 dX3_markOf_69 (by decide) ?_
        refine m_cr hC hK hM (mc_of l _ _ j 1 hj (by omega)) (cw_m 2 hC.2.2.2.2 q1483 q1485 qs45 q1486 ⟨rfl, rfl⟩ rfl (by decide +kernel) ⟨Nat.le_of_ble_eq_true rfl, Nat.le_of_ble_eq_true rfl⟩) rfl hl.1 rfl (lv_room (Nat.le_of_ble_eq_true rfl)) dX3_markOf_70 ⟨Nat.le_of_ble_eq_true rfl, Nat.le_of_ble_eq_true rfl⟩ ?_
        simp only [wup_n (show (5 : Nat) ≠ 24 by decide), ek]
        refine lv_iconst (v := 1) hC.1 hC.2.1 dX3_markOf_73 (by decide) ?_
        refine m_cr hC hK hM (mc_stoneOf l _ _ k0 1 hk0 (by omega)) (cw_m 2 hC.2.2.2.2 q1467 q1469 qs41 q1470 ⟨rfl, rfl⟩ rfl (by decide +kernel) ⟨Nat.le_of_ble_eq_true rfl, Nat.le_of_ble_eq_true rfl⟩) rfl hl.1 rfl (lv_room (Nat.le_of_ble_eq_true rfl)) dX3_markOf_74 ⟨Nat.le_of_ble_eq_true rfl, Nat.le_of_ble_eq_true rfl⟩ ?_
        refine lv_iadd hC.1 hC.2.1 dX3_markOf_77 ?_
        refine lv_istore_n (lv' := [(3, _), (2, _), (0, _), (1, _)]) hC.1 hC.2.1 dX3_markOf_78 rfl hl (by decide) rfl (fun ls hl => ?_)
        refine lv_iload_n hC.1 hC.2.1 dX3_markOf_79 rfl (lv_at hl 1 rfl) ?_
        refine lv_iconst (v := 1) hC.1 hC.2.1 dX3_markOf_80 (by decide) ?_
        refine lv_icmp_ne (tgt := 88) hC.1 hC.2.1 dX3_markOf_81 (by decide) (fun c22 => ?_) (fun c22 => ?_)
        ·
          skip
          skip
          refine lv_iload_n hC.1 hC.2.1 dX3_markOf_88 rfl (lv_at hl 1 rfl) ?_
          refine lv_iconst (v := 3) hC.1 hC.2.1 dX3_markOf_89 (by decide) ?_
          refine lv_icmp_ne (tgt := 101) hC.1 hC.2.1 dX3_markOf_90 (by decide) (fun c23 => ?_) (fun c23 => ?_)
          ·
            skip
            exact absurd k3 c23
          ·
            skip
            skip
            refine lv_iload_n hC.1 hC.2.1 dX3_markOf_93 rfl (lv_at hl 0 rfl) ?_
            refine lv_sipush (v := 1000) hC.1 hC.2.1 dX3_markOf_94 (by decide) ?_
            refine lv_isub hC.1 hC.2.1 dX3_markOf_97 ?_
            refine lv_goto (tgt := 104) hC.1 hC.2.1 dX3_markOf_98 (by decide) ?_
            refine m_iret hC hr hlocks hM dX3_markOf_104 ?_
            refine ⟨?_, ?_, ?_⟩
            · rw [mkV, if_pos k4, ik]
              first | (rw [if_pos k1]; rfl) | (rw [if_neg k1, if_pos k3]; rfl) | (rw [if_neg k1, if_neg k3]; rfl)
            · simp [mkL, *, upd_upd]
            · simp [mkL, *, bgW]
        ·
          skip
          exact absurd c22 k1
  ·
    have nc2 := Int32.not_lt.mp c2
    have k4 : ¬ w 5 (26 + 4 * j) < 4 := c2
    refine lv_aload_n hC.1 hC.2.1 dX3_markOf_12 rfl (lv_at hl 1 rfl) ?_
    refine lv_bipush (v := 23) hC.1 hC.2.1 dX3_markOf_13 (by decide) ?_
    refine m_cve hC hK hM (mc_began l _ _ _ t et (by omega)) (cw_m 1 hC.2.2.2.2 q1632 q1634 qs59 q1635 ⟨rfl, rfl⟩ rfl (by decide +kernel) ⟨Nat.le_of_ble_eq_true rfl, Nat.le_of_ble_eq_true rfl⟩) rfl hl.1 rfl (lv_room (Nat.le_of_ble_eq_true rfl)) dX3_markOf_15 ⟨Nat.le_of_ble_eq_true rfl, Nat.le_of_ble_eq_true rfl⟩ (fun H locs hM => ?_)
    refine lv_aload_n hC.1 hC.2.1 dX3_markOf_18 rfl (lv_at hl 1 rfl) ?_
    refine lv_bipush (v := 20) hC.1 hC.2.1 dX3_markOf_19 (by decide) ?_
    refine m_cve hC hK hM (mc_began l _ _ _ (t + 1) (upd_s _ _ _) (by omega)) (cw_m 1 hC.2.2.2.2 q1632 q1634 qs59 q1635 ⟨rfl, rfl⟩ rfl (by decide +kernel) ⟨Nat.le_of_ble_eq_true rfl, Nat.le_of_ble_eq_true rfl⟩) rfl hl.1 rfl (lv_room (Nat.le_of_ble_eq_true rfl)) dX3_markOf_21 ⟨Nat.le_of_ble_eq_true rfl, Nat.le_of_ble_eq_true rfl⟩ (fun H locs hM => ?_)
    refine lv_iload_n hC.1 hC.2.1 dX3_markOf_24 rfl (lv_at hl 2 rfl) ?_
    refine lv_aload_n hC.1 hC.2.1 dX3_markOf_25 rfl (lv_at hl 1 rfl) ?_
    refine lv_iload_n hC.1 hC.2.1 dX3_markOf_26 rfl (lv_at hl 2 rfl) ?_
    refine m_cie hC hK hM (mc_thiefSize l _ _ j hj (t + 2) (upd_s _ _ _) (by omega)) (cw_m 1 hC.2.2.2.2 q1628 q1630 qs58 q1631 ⟨rfl, rfl⟩ rfl (by decide +kernel) ⟨Nat.le_of_ble_eq_true rfl, Nat.le_of_ble_eq_true rfl⟩) rfl hl.1 rfl (lv_room (Nat.le_of_ble_eq_true rfl)) dX3_markOf_27 ⟨Nat.le_of_ble_eq_true rfl, Nat.le_of_ble_eq_true rfl⟩ (fun H locs hM => ?_)
    refine lv_isub hC.1 hC.2.1 dX3_markOf_30 ?_
    refine m_iret hC hr hlocks hM dX3_markOf_31 ?_
    refine ⟨?_, ?_, ?_⟩
    · simp [mkV, thV, k4, wup]
    · show upd (upd (upd v 25 _) 25 _) 25 (nI (t + 2 + (thL (w 5 (26 + 4 * j))).length)) = _
      rw [upd_upd, upd_upd, mkL, if_neg k4, List.length_cons, List.length_cons]
      congr 2
      omega
    · simp [mkL, k4, bgW, wup]

set_option maxHeartbeats 400000 in
set_option maxRecDepth 100000 in
theorem mc_sizeOf (l : Launch) (v : Nat → Int32) (w : Nat → Nat → Int32) (j k0 : Nat) (hj : j < 5) (ek : w 5 (26 + 4 * j + 1) = nI k0) (hk0 : k0 < 6) (t : Nat) (et : v 25 = nI t) (ht : t + 8 ≤ 16) : mMi l yX3_sizeOf cX3_sizeOf 4 (some .int) ({ frames := 4, cells := 0, slots := 0, locals := 88 }) [.int (nI j)] v w (fun r v1 w1 => r = szV (w 5) j ∧ v1 = upd v 25 (nI (t + (szL (w 5 (26 + 4 * j))).length)) ∧ w1 = bgW w t (szL (w 5 (26 + 4 * j)))) := by
  intro D ac A G mo ad
  refine m_body rfl (Nat.le_of_ble_eq_true rfl) ?_
  intro p e s m args below meth c ls hC hr hlocks hK hM hl
  have hl : lv_has ls 4 [(0, .ref mo), (1, .int (nI j))] := hl
  refine lv_aload_n hC.1 hC.2.1 dX3_sizeOf_0 rfl (lv_at hl 0 rfl) ?_
  refine lv_iload_n hC.1 hC.2.1 dX3_sizeOf_1 rfl (lv_at hl 1 rfl) ?_
  refine lv_iconst (v := 0) hC.1 hC.2.1 dX3_sizeOf_2 (by decide) ?_
  refine m_cr hC hK hM (mc_of l _ _ j 0 hj (by omega)) (cw_m 2 hC.2.2.2.2 q1483 q1485 qs45 q1486 ⟨rfl, rfl⟩ rfl (by decide +kernel) ⟨Nat.le_of_ble_eq_true rfl, Nat.le_of_ble_eq_true rfl⟩) rfl hl.1 rfl (lv_room (Nat.le_of_ble_eq_true rfl)) dX3_sizeOf_3 ⟨Nat.le_of_ble_eq_true rfl, Nat.le_of_ble_eq_true rfl⟩ ?_
  refine lv_istore_n (lv' := [(2, _), (0, _), (1, _)]) hC.1 hC.2.1 dX3_sizeOf_6 rfl hl (by decide) rfl (fun ls hl => ?_)
  refine lv_iload_n hC.1 hC.2.1 dX3_sizeOf_7 rfl (lv_at hl 0 rfl) ?_
  refine lv_iconst (v := 4) hC.1 hC.2.1 dX3_sizeOf_8 (by decide) ?_
  refine lv_icmp_lt (tgt := 18) hC.1 hC.2.1 dX3_sizeOf_9 (by decide) (fun c2 => ?_) (fun c2 => ?_)
  ·
    have nc2 := Int32.not_le.mpr c2
    have k4 : w 5 (26 + 4 * j) < 4 := c2
    refine lv_iload_n hC.1 hC.2.1 dX3_sizeOf_18 rfl (lv_at hl 0 rfl) ?_
    refine lv_iconst (v := 2) hC.1 hC.2.1 dX3_sizeOf_19 (by decide) ?_
    refine lv_icmp_ne (tgt := 29) hC.1 hC.2.1 dX3_sizeOf_20 (by decide) (fun c3 => ?_) (fun c3 => ?_)
    ·
      skip
      have k2 : ¬ w 5 (26 + 4 * j) = 2 := c3
      refine lv_aload_n hC.1 hC.2.1 dX3_sizeOf_29 rfl (lv_at hl 1 rfl) ?_
      refine lv_bipush (v := 11) hC.1 hC.2.1 dX3_sizeOf_30 (by decide) ?_
      refine m_cve hC hK hM (mc_began l _ _ _ t et (by omega)) (cw_m 1 hC.2.2.2.2 q1632 q1634 qs59 q1635 ⟨rfl, rfl⟩ rfl (by decide +kernel) ⟨Nat.le_of_ble_eq_true rfl, Nat.le_of_ble_eq_true rfl⟩) rfl hl.1 rfl (lv_room (Nat.le_of_ble_eq_true rfl)) dX3_sizeOf_32 ⟨Nat.le_of_ble_eq_true rfl, Nat.le_of_ble_eq_true rfl⟩ (fun H locs hM => ?_)
      refine lv_aload_n hC.1 hC.2.1 dX3_sizeOf_35 rfl (lv_at hl 1 rfl) ?_
      refine lv_iload_n hC.1 hC.2.1 dX3_sizeOf_36 rfl (lv_at hl 2 rfl) ?_
      refine m_cie hC hK hM (mc_plainSize l _ _ j hj (t + 1) (upd_s _ _ _) (by omega)) (cw_m 1 hC.2.2.2.2 q1636 q1638 qs60 q1639 ⟨rfl, rfl⟩ rfl (by decide +kernel) ⟨Nat.le_of_ble_eq_true rfl, Nat.le_of_ble_eq_true rfl⟩) rfl hl.1 rfl (lv_room (Nat.le_of_ble_eq_true rfl)) dX3_sizeOf_37 ⟨Nat.le_of_ble_eq_true rfl, Nat.le_of_ble_eq_true rfl⟩ (fun H locs hM => ?_)
      refine lv_istore_n (lv' := [(3, _), (2, _), (0, _), (1, _)]) hC.1 hC.2.1 dX3_sizeOf_40 rfl hl (by decide) rfl (fun ls hl => ?_)
      refine lv_iload_n hC.1 hC.2.1 dX3_sizeOf_41 rfl (lv_at hl 0 rfl) ?_
      refine lv_aload_n hC.1 hC.2.1 dX3_sizeOf_42 rfl (lv_at hl 2 rfl) ?_
      refine lv_iload_n hC.1 hC.2.1 dX3_sizeOf_43 rfl (lv_at hl 3 rfl) ?_
      refine m_cie hC hK hM (mc_markOf l _ _ j k0 hj (by exact ek) hk0 (t + 2) (upd_s _ _ _) (by omega)) (cw_m 1 hC.2.2.2.2 q1640 q1642 qs61 q1643 ⟨rfl, rfl⟩ rfl (by decide +kernel) ⟨Nat.le_of_ble_eq_true rfl, Nat.le_of_ble_eq_true rfl⟩) rfl hl.1 rfl (lv_room (Nat.le_of_ble_eq_true rfl)) dX3_sizeOf_44 ⟨Nat.le_of_ble_eq_true rfl, Nat.le_of_ble_eq_true rfl⟩ (fun H locs hM => ?_)
      refine lv_iadd hC.1 hC.2.1 dX3_sizeOf_47 ?_
      refine lv_istore_n (lv' := [(3, _), (2, _), (0, _), (1, _)]) hC.1 hC.2.1 dX3_sizeOf_48 rfl hl (by decide) rfl (fun ls hl => ?_)
      refine lv_iload_n hC.1 hC.2.1 dX3_sizeOf_49 rfl (lv_at hl 1 rfl) ?_
      refine lv_iconst (v := 2) hC.1 hC.2.1 dX3_sizeOf_50 (by decide) ?_
      refine lv_icmp_ne (tgt := 59) hC.1 hC.2.1 dX3_sizeOf_51 (by decide) (fun c7 => ?_) (fun c7 => ?_)
      ·
        skip
        skip
        refine lv_iload_n hC.1 hC.2.1 dX3_sizeOf_59 rfl (lv_at hl 0 rfl) ?_
        refine m_iret hC hr hlocks hM dX3_sizeOf_60 ?_
        refine ⟨?_, ?_, ?_⟩
        · rw [szV, if_pos k4, if_neg k2]; rfl
        · show upd (upd (upd v 25 _) 25 _) 25 (nI (t + 2 + (mkL (w 5 (26 + 4 * j))).length)) = _
          rw [upd_upd, upd_upd, szL, if_pos k4, if_neg k2, List.length_cons, List.length_cons]
          congr 2
          omega
        · rw [szL, if_pos k4, if_neg k2]; rfl
      ·
        skip
        exact absurd c7 k2
    ·
      skip
      have k2 : w 5 (26 + 4 * j) = 2 := c3
      refine lv_aload_n hC.1 hC.2.1 dX3_sizeOf_23 rfl (lv_at hl 1 rfl) ?_
      refine lv_bipush (v := 12) hC.1 hC.2.1 dX3_sizeOf_24 (by decide) ?_
      refine m_cve hC hK hM (mc_began l _ _ _ t et (by omega)) (cw_m 1 hC.2.2.2.2 q1632 q1634 qs59 q1635 ⟨rfl, rfl⟩ rfl (by decide +kernel) ⟨Nat.le_of_ble_eq_true rfl, Nat.le_of_ble_eq_true rfl⟩) rfl hl.1 rfl (lv_room (Nat.le_of_ble_eq_true rfl)) dX3_sizeOf_26 ⟨Nat.le_of_ble_eq_true rfl, Nat.le_of_ble_eq_true rfl⟩ (fun H locs hM => ?_)
      refine lv_aload_n hC.1 hC.2.1 dX3_sizeOf_29 rfl (lv_at hl 1 rfl) ?_
      refine lv_bipush (v := 11) hC.1 hC.2.1 dX3_sizeOf_30 (by decide) ?_
      refine m_cve hC hK hM (mc_began l _ _ _ (t + 1) (upd_s _ _ _) (by omega)) (cw_m 1 hC.2.2.2.2 q1632 q1634 qs59 q1635 ⟨rfl, rfl⟩ rfl (by decide +kernel) ⟨Nat.le_of_ble_eq_true rfl, Nat.le_of_ble_eq_true rfl⟩) rfl hl.1 rfl (lv_room (Nat.le_of_ble_eq_true rfl)) dX3_sizeOf_32 ⟨Nat.le_of_ble_eq_true rfl, Nat.le_of_ble_eq_true rfl⟩ (fun H locs hM => ?_)
      refine lv_aload_n hC.1 hC.2.1 dX3_sizeOf_35 rfl (lv_at hl 1 rfl) ?_
      refine lv_iload_n hC.1 hC.2.1 dX3_sizeOf_36 rfl (lv_at hl 2 rfl) ?_
      refine m_cie hC hK hM (mc_plainSize l _ _ j hj (t + 2) (upd_s _ _ _) (by omega)) (cw_m 1 hC.2.2.2.2 q1636 q1638 qs60 q1639 ⟨rfl, rfl⟩ rfl (by decide +kernel) ⟨Nat.le_of_ble_eq_true rfl, Nat.le_of_ble_eq_true rfl⟩) rfl hl.1 rfl (lv_room (Nat.le_of_ble_eq_true rfl)) dX3_sizeOf_37 ⟨Nat.le_of_ble_eq_true rfl, Nat.le_of_ble_eq_true rfl⟩ (fun H locs hM => ?_)
      refine lv_istore_n (lv' := [(3, _), (2, _), (0, _), (1, _)]) hC.1 hC.2.1 dX3_sizeOf_40 rfl hl (by decide) rfl (fun ls hl => ?_)
      refine lv_iload_n hC.1 hC.2.1 dX3_sizeOf_41 rfl (lv_at hl 0 rfl) ?_
      refine lv_aload_n hC.1 hC.2.1 dX3_sizeOf_42 rfl (lv_at hl 2 rfl) ?_
      refine lv_iload_n hC.1 hC.2.1 dX3_sizeOf_43 rfl (lv_at hl 3 rfl) ?_
      refine m_cie hC hK hM (mc_markOf l _ _ j k0 hj (by exact ek) hk0 (t + 3) (upd_s _ _ _) (by omega)) (cw_m 1 hC.2.2.2.2 q1640 q1642 qs61 q1643 ⟨rfl, rfl⟩ rfl (by decide +kernel) ⟨Nat.le_of_ble_eq_true rfl, Nat.le_of_ble_eq_true rfl⟩) rfl hl.1 rfl (lv_room (Nat.le_of_ble_eq_true rfl)) dX3_sizeOf_44 ⟨Nat.le_of_ble_eq_true rfl, Nat.le_of_ble_eq_true rfl⟩ (fun H locs hM => ?_)
      refine lv_iadd hC.1 hC.2.1 dX3_sizeOf_47 ?_
      refine lv_istore_n (lv' := [(3, _), (2, _), (0, _), (1, _)]) hC.1 hC.2.1 dX3_sizeOf_48 rfl hl (by decide) rfl (fun ls hl => ?_)
      refine lv_iload_n hC.1 hC.2.1 dX3_sizeOf_49 rfl (lv_at hl 1 rfl) ?_
      refine lv_iconst (v := 2) hC.1 hC.2.1 dX3_sizeOf_50 (by decide) ?_
      refine lv_icmp_ne (tgt := 59) hC.1 hC.2.1 dX3_sizeOf_51 (by decide) (fun c12 => ?_) (fun c12 => ?_)
      ·
        skip
        exact absurd k2 c12
      ·
        skip
        skip
        refine lv_iload_n hC.1 hC.2.1 dX3_sizeOf_54 rfl (lv_at hl 0 rfl) ?_
        refine lv_ineg hC.1 hC.2.1 dX3_sizeOf_55 ?_
        refine lv_goto (tgt := 60) hC.1 hC.2.1 dX3_sizeOf_56 (by decide) ?_
        refine m_iret hC hr hlocks hM dX3_sizeOf_60 ?_
        refine ⟨?_, ?_, ?_⟩
        · rw [szV, if_pos k4, if_pos k2]; rfl
        · show upd (upd (upd (upd v 25 _) 25 _) 25 _) 25 (nI (t + 3 + (mkL (w 5 (26 + 4 * j))).length)) = _
          rw [upd_upd, upd_upd, upd_upd, szL, if_pos k4, if_pos k2, List.length_cons, List.length_cons, List.length_cons]
          congr 2
          omega
        · rw [szL, if_pos k4, if_pos k2]; rfl
  ·
    have nc2 := Int32.not_lt.mp c2
    have k4 : ¬ w 5 (26 + 4 * j) < 4 := c2
    refine lv_aload_n hC.1 hC.2.1 dX3_sizeOf_12 rfl (lv_at hl 1 rfl) ?_
    refine lv_iload_n hC.1 hC.2.1 dX3_sizeOf_13 rfl (lv_at hl 2 rfl) ?_
    refine m_cie hC hK hM (mc_thiefSize l _ _ j hj t et (by omega)) (cw_m 1 hC.2.2.2.2 q1628 q1630 qs58 q1631 ⟨rfl, rfl⟩ rfl (by decide +kernel) ⟨Nat.le_of_ble_eq_true rfl, Nat.le_of_ble_eq_true rfl⟩) rfl hl.1 rfl (lv_room (Nat.le_of_ble_eq_true rfl)) dX3_sizeOf_14 ⟨Nat.le_of_ble_eq_true rfl, Nat.le_of_ble_eq_true rfl⟩ (fun H locs hM => ?_)
    refine m_iret hC hr hlocks hM dX3_sizeOf_17 ?_
    exact ⟨by rw [szV, if_neg k4], by rw [szL, if_neg k4], by rw [szL, if_neg k4]⟩

set_option maxHeartbeats 400000 in
set_option maxRecDepth 100000 in
theorem mc_ask (l : Launch) (v : Nat → Int32) (w : Nat → Nat → Int32) (x y : Int32) (n mv : Nat) (hn : n ≤ 6) (em : w 5 5 = nI mv) (hm : mv ≤ 5) (hmo : movOk (w 5) n mv) : mMi l yX3_ask cX3_ask 3 (some .int) ({ frames := 5, cells := 0, slots := 0, locals := 111 }) [.int x, .int y] v w (fun r v1 w1 => (r, v1, w1) = op_ask v w x y) := by
  intro D ac A G mo ad
  refine m_body rfl (Nat.le_of_ble_eq_true rfl) ?_
  intro p e s m args below meth c ls hC hr hlocks hK hM hl
  have hl : lv_has ls 3 [(0, .ref mo), (1, .int x), (2, .int y)] := hl
  refine lv_aload_n hC.1 hC.2.1 dX3_ask_0 rfl (lv_at hl 0 rfl) ?_
  refine lv_iconst (v := 0) hC.1 hC.2.1 dX3_ask_1 (by decide) ?_
  refine m_put hC hK hM 0 (by decide) q1262 rfl rfl rfl rfl dX3_ask_2 (fun H locs hM => ?_)
  refine lv_aload_n hC.1 hC.2.1 dX3_ask_5 rfl (lv_at hl 0 rfl) ?_
  refine lv_iload_n hC.1 hC.2.1 dX3_ask_6 rfl (lv_at hl 1 rfl) ?_
  refine m_cr hC hK hM (mc_isMover l _ _ _) (cw_m 1 hC.2.2.2.2 q1608 q1610 qs56 q1611 ⟨rfl, rfl⟩ rfl (by decide +kernel) ⟨Nat.le_of_ble_eq_true rfl, Nat.le_of_ble_eq_true rfl⟩) rfl hl.1 rfl (lv_room (Nat.le_of_ble_eq_true rfl)) dX3_ask_7 ⟨Nat.le_of_ble_eq_true rfl, Nat.le_of_ble_eq_true rfl⟩ ?_
  refine lv_if_eq (tgt := 23) hC.1 hC.2.1 dX3_ask_10 (by decide) (fun c2 => ?_) (fun c2 => ?_)
  ·
    skip
    rw [bI_0] at c2
    refine lv_ldc hC.1 hC.2.1 hC.2.2.2.1 (hC.2.2.2.2 _ q1354) dX3_ask_23 ?_
    refine m_iret hC hr hlocks hM dX3_ask_25 ?_
    first | (rw [op_ask, if_pos (Or.inl (by assumption))]; done) | (rw [op_ask, if_pos (Or.inr (by assumption))]; done)
  ·
    skip
    have cj := c2
    rw [bI_n0, em] at c2
    obtain ⟨j, hj, rfl⟩ := in_nI1 (by omega) c2
    have ej : iN (nI j) = j := iN_nI (by omega)
    obtain ⟨k0, r0, ek, hk0, er, hr0⟩ := hmo j hj
    refine lv_iload_n hC.1 hC.2.1 dX3_ask_13 rfl (lv_at hl 2 rfl) ?_
    refine lv_i2l hC.1 hC.2.1 dX3_ask_14 rfl ?_
    refine lv_lconst (v := 0) hC.1 hC.2.1 dX3_ask_15 (by decide) ?_
    refine lv_lconst (v := 1) hC.1 hC.2.1 dX3_ask_16 (by decide) ?_
    refine s_ci hC ((mc_in l (a := 0) (b := 1) rfl rfl rfl)) (cw_ms 3 hC.2.2.2.2 q1350 q1351 q1352 ⟨rfl, rfl⟩ rfl (by decide +kernel) ⟨Nat.le_of_ble_eq_true rfl, Nat.le_of_ble_eq_true rfl⟩) rfl hl.1 rfl (lv_room (Nat.le_of_ble_eq_true rfl)) dX3_ask_17 ⟨Nat.le_of_ble_eq_true rfl, Nat.le_of_ble_eq_true rfl⟩ ?_
    refine lv_if_ne (tgt := 26) hC.1 hC.2.1 dX3_ask_20 (by decide) (fun c4 => ?_) (fun c4 => ?_)
    ·
      skip
      rw [bI_n0] at c4
      refine lv_aload_n hC.1 hC.2.1 dX3_ask_26 rfl (lv_at hl 0 rfl) ?_
      refine lv_iconst (v := 0) hC.1 hC.2.1 dX3_ask_27 (by decide) ?_
      refine m_put hC hK hM 25 (by decide) q1287 rfl rfl rfl rfl dX3_ask_28 (fun H locs hM => ?_)
      refine lv_iload_n hC.1 hC.2.1 dX3_ask_31 rfl (lv_at hl 2 rfl) ?_
      refine lv_if_ne (tgt := 43) hC.1 hC.2.1 dX3_ask_32 (by decide) (fun c5 => ?_) (fun c5 => ?_)
      ·
        skip
        refine lv_aload_n hC.1 hC.2.1 dX3_ask_43 rfl (lv_at hl 0 rfl) ?_
        refine lv_iload_n hC.1 hC.2.1 dX3_ask_44 rfl (lv_at hl 1 rfl) ?_
        refine m_cie hC hK hM (mc_markOf l _ _ j k0 (by omega) ek (by omega) 0 (upd_s _ _ _) (by omega)) (cw_m 1 hC.2.2.2.2 q1640 q1642 qs61 q1643 ⟨rfl, rfl⟩ rfl (by decide +kernel) ⟨Nat.le_of_ble_eq_true rfl, Nat.le_of_ble_eq_true rfl⟩) rfl hl.1 rfl (lv_room (Nat.le_of_ble_eq_true rfl)) dX3_ask_45 ⟨Nat.le_of_ble_eq_true rfl, Nat.le_of_ble_eq_true rfl⟩ (fun H locs hM => ?_)
        refine m_iret hC hr hlocks hM dX3_ask_48 ?_
        have hx : ¬ (¬ (0 ≤ nI j ∧ nI j ≤ w 5 5 - 1) ∨ ¬ (0 ≤ y ∧ y ≤ 1)) := by
          intro h
          rcases h with h | h
          · exact h (by rw [em]; assumption)
          · exact h (by assumption)
        rw [op_ask, if_neg hx, if_neg (by assumption), ej, upd_upd, Nat.zero_add]
      ·
        skip
        refine lv_aload_n hC.1 hC.2.1 dX3_ask_35 rfl (lv_at hl 0 rfl) ?_
        refine lv_iload_n hC.1 hC.2.1 dX3_ask_36 rfl (lv_at hl 1 rfl) ?_
        refine m_cie hC hK hM (mc_sizeOf l _ _ j k0 (by omega) ek (by omega) 0 (upd_s _ _ _) (by omega)) (cw_m 1 hC.2.2.2.2 q1624 q1626 qs57 q1627 ⟨rfl, rfl⟩ rfl (by decide +kernel) ⟨Nat.le_of_ble_eq_true rfl, Nat.le_of_ble_eq_true rfl⟩) rfl hl.1 rfl (lv_room (Nat.le_of_ble_eq_true rfl)) dX3_ask_37 ⟨Nat.le_of_ble_eq_true rfl, Nat.le_of_ble_eq_true rfl⟩ (fun H locs hM => ?_)
        refine lv_goto (tgt := 48) hC.1 hC.2.1 dX3_ask_40 (by decide) ?_
        refine m_iret hC hr hlocks hM dX3_ask_48 ?_
        have hx : ¬ (¬ (0 ≤ nI j ∧ nI j ≤ w 5 5 - 1) ∨ ¬ (0 ≤ y ∧ y ≤ 1)) := by
          intro h
          rcases h with h | h
          · exact h (by rw [em]; assumption)
          · exact h (by assumption)
        rw [op_ask, if_neg hx, if_pos (by assumption), ej, upd_upd, Nat.zero_add]
    ·
      skip
      rw [bI_0] at c4
      refine lv_ldc hC.1 hC.2.1 hC.2.2.2.1 (hC.2.2.2.2 _ q1354) dX3_ask_23 ?_
      refine m_iret hC hr hlocks hM dX3_ask_25 ?_
      first | (rw [op_ask, if_pos (Or.inl (by assumption))]; done) | (rw [op_ask, if_pos (Or.inr (by assumption))]; done)
