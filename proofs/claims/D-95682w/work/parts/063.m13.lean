set_option maxHeartbeats 400000 in
set_option maxRecDepth 100000 in
theorem mc_bad (l : Launch) (v : Nat → Int32) (w : Nat → Nat → Int32) (k : Int32) : mMv l yX3_bad cX3_bad 2 none ({ frames := 0, cells := 0, slots := 0, locals := 0 }) [.int k] v w (fun v1 w1 => v1 = badV v k ∧ w1 = w) := by
  intro D ac A G mo ad
  refine m_body rfl (Nat.le_of_ble_eq_true rfl) ?_
  intro p e s m args below meth c ls hC hr hlocks hK hM hl
  have hl : lv_has ls 2 [(0, .ref mo), (1, .int k)] := hl
  refine lv_aload_n hC.1 hC.2.1 dX3_bad_0 rfl (lv_at hl 0 rfl) ?_
  refine m_get hC hK hM 17 (by decide) q1279 rfl rfl dX3_bad_1 ?_
  refine lv_if_ne (tgt := 20) hC.1 hC.2.1 dX3_bad_4 (by decide) (fun c1 => ?_) (fun c1 => ?_)
  ·
    skip
    have c0 := c1
    refine m_vret hC hr hlocks hM dX3_bad_20 ?_
    exact ⟨by rw [badV, if_neg c0], rfl⟩
  ·
    skip
    have c0 := c1
    refine lv_aload_n hC.1 hC.2.1 dX3_bad_7 rfl (lv_at hl 0 rfl) ?_
    refine lv_iload_n hC.1 hC.2.1 dX3_bad_8 rfl (lv_at hl 1 rfl) ?_
    refine m_put hC hK hM 17 (by decide) q1279 rfl rfl rfl rfl dX3_bad_9 (fun H locs hM => ?_)
    refine lv_aload_n hC.1 hC.2.1 dX3_bad_12 rfl (lv_at hl 0 rfl) ?_
    refine lv_aload_n hC.1 hC.2.1 dX3_bad_13 rfl (lv_at hl 0 rfl) ?_
    refine m_get hC hK hM 15 (by decide) q1277 rfl rfl dX3_bad_14 ?_
    refine m_put hC hK hM 18 (by decide) q1280 rfl rfl rfl rfl dX3_bad_17 (fun H locs hM => ?_)
    refine m_vret hC hr hlocks hM dX3_bad_20 ?_
    exact ⟨by rw [badV, if_pos c0]; rfl, rfl⟩

set_option maxHeartbeats 400000 in
set_option maxRecDepth 100000 in
theorem mc_must (l : Launch) (v : Nat → Int32) (w : Nat → Nat → Int32) (x : Int32) (L : Nat) (hP : PV L v) (htp : tpOk (w 9) L) : mMv l yX3_must cX3_must 2 none ({ frames := 2, cells := 0, slots := 0, locals := 42 }) [.int x] v w (fun v1 w1 => v1 = mustV (w 9) L v x ∧ w1 = w) := by
  intro D ac A G mo ad
  refine m_body rfl (Nat.le_of_ble_eq_true rfl) ?_
  intro p e s m args below meth c ls hC hr hlocks hK hM hl
  have hl : lv_has ls 2 [(0, .ref mo), (1, .int x)] := hl
  obtain ⟨s0, e0, t0, h12, hL, h13, h15, h16, hse, heL, h14, ht0⟩ := id hP
  have i13 : iN (v 13) = e0 := by rw [h13]; exact iN_nI (by omega)
  refine lv_iload_n hC.1 hC.2.1 dX3_must_0 rfl (lv_at hl 1 rfl) ?_
  refine lv_if_ne (tgt := 9) hC.1 hC.2.1 dX3_must_1 (by decide) (fun c1 => ?_) (fun c1 => ?_)
  ·
    skip
    have cx := c1
    refine lv_aload_n hC.1 hC.2.1 dX3_must_9 rfl (lv_at hl 0 rfl) ?_
    refine m_get hC hK hM 17 (by decide) q1279 rfl rfl dX3_must_10 ?_
    refine lv_if_ne (tgt := 20) hC.1 hC.2.1 dX3_must_13 (by decide) (fun c2 => ?_) (fun c2 => ?_)
    ·
      skip
      have cf := c2
      refine m_vret hC hr hlocks hM dX3_must_20 ?_
      exact ⟨by rw [mustV, if_neg cf], rfl⟩
    ·
      skip
      have cf := c2
      refine lv_aload_n hC.1 hC.2.1 dX3_must_16 rfl (lv_at hl 0 rfl) ?_
      refine m_cve hC hK hM (mc_next l _ _ e0 L (by exact h12) hL (by exact h13) heL htp) (cw_m 0 hC.2.2.2.2 q1387 q1389 qs28 q1390 ⟨rfl, rfl⟩ rfl (by decide +kernel) ⟨Nat.le_of_ble_eq_true rfl, Nat.le_of_ble_eq_true rfl⟩) rfl hl.1 rfl (lv_room (Nat.le_of_ble_eq_true rfl)) dX3_must_17 ⟨Nat.le_of_ble_eq_true rfl, Nat.le_of_ble_eq_true rfl⟩ (fun H locs hM => ?_)
      refine m_vret hC hr hlocks hM dX3_must_20 ?_
      exact ⟨by rw [mustV, if_pos cf, if_neg cx, nxV, i13], rfl⟩
  ·
    skip
    have cx := c1
    refine lv_aload_n hC.1 hC.2.1 dX3_must_4 rfl (lv_at hl 0 rfl) ?_
    refine lv_iconst (v := 1) hC.1 hC.2.1 dX3_must_5 (by decide) ?_
    refine m_cve hC hK hM (mc_bad l _ _ _) (cw_m 1 hC.2.2.2.2 q1411 q1413 qs32 q1414 ⟨rfl, rfl⟩ rfl (by decide +kernel) ⟨Nat.le_of_ble_eq_true rfl, Nat.le_of_ble_eq_true rfl⟩) rfl hl.1 rfl (lv_room (Nat.le_of_ble_eq_true rfl)) dX3_must_6 ⟨Nat.le_of_ble_eq_true rfl, Nat.le_of_ble_eq_true rfl⟩ (fun H locs hM => ?_)
    refine lv_aload_n hC.1 hC.2.1 dX3_must_9 rfl (lv_at hl 0 rfl) ?_
    refine m_get hC hK hM 17 (by decide) q1279 rfl rfl dX3_must_10 ?_
    refine lv_if_ne (tgt := 20) hC.1 hC.2.1 dX3_must_13 (by decide) (fun c5 => ?_) (fun c5 => ?_)
    ·
      skip
      have cf := c5
      refine m_vret hC hr hlocks hM dX3_must_20 ?_
      refine ⟨?_, rfl⟩
      rw [mustV, if_pos cx]
      split
      · rfl
      · rename_i h; rw [badV, if_neg h]
    ·
      skip
      exact absurd c5 (badV_n v (by decide))

set_option maxHeartbeats 400000 in
set_option maxRecDepth 100000 in
theorem mc_begin (l : Launch) (v : Nat → Int32) (w : Nat → Nat → Int32) (L : Nat) (eT : v 10 = nI L) (hL : L ≤ 400) (htp : tpOk (w 9) L) : mMv l yX3_begin cX3_begin 1 none ({ frames := 2, cells := 0, slots := 0, locals := 42 }) [] v w (fun v1 w1 => v1 = nxV (w 9) L (upd (upd (upd (upd v 12 (v 10)) 10 0) 13 0) 17 0) ∧ w1 = w) := by
  intro D ac A G mo ad
  refine m_body rfl (Nat.le_of_ble_eq_true rfl) ?_
  intro p e s m args below meth c ls hC hr hlocks hK hM hl
  have hl : lv_has ls 1 [(0, .ref mo)] := hl
  refine lv_aload_n hC.1 hC.2.1 dX3_begin_0 rfl (lv_at hl 0 rfl) ?_
  refine lv_aload_n hC.1 hC.2.1 dX3_begin_1 rfl (lv_at hl 0 rfl) ?_
  refine m_get hC hK hM 10 (by decide) q1272 rfl rfl dX3_begin_2 ?_
  refine m_put hC hK hM 12 (by decide) q1274 rfl rfl rfl rfl dX3_begin_5 (fun H locs hM => ?_)
  refine lv_aload_n hC.1 hC.2.1 dX3_begin_8 rfl (lv_at hl 0 rfl) ?_
  refine lv_iconst (v := 0) hC.1 hC.2.1 dX3_begin_9 (by decide) ?_
  refine m_put hC hK hM 10 (by decide) q1272 rfl rfl rfl rfl dX3_begin_10 (fun H locs hM => ?_)
  refine lv_aload_n hC.1 hC.2.1 dX3_begin_13 rfl (lv_at hl 0 rfl) ?_
  refine lv_iconst (v := 0) hC.1 hC.2.1 dX3_begin_14 (by decide) ?_
  refine m_put hC hK hM 13 (by decide) q1275 rfl rfl rfl rfl dX3_begin_15 (fun H locs hM => ?_)
  refine lv_aload_n hC.1 hC.2.1 dX3_begin_18 rfl (lv_at hl 0 rfl) ?_
  refine lv_iconst (v := 0) hC.1 hC.2.1 dX3_begin_19 (by decide) ?_
  refine m_put hC hK hM 17 (by decide) q1279 rfl rfl rfl rfl dX3_begin_20 (fun H locs hM => ?_)
  refine lv_aload_n hC.1 hC.2.1 dX3_begin_23 rfl (lv_at hl 0 rfl) ?_
  refine m_cve hC hK hM (mc_next l _ _ 0 L (by exact eT) hL (by exact rfl) (by omega) htp) (cw_m 0 hC.2.2.2.2 q1387 q1389 qs28 q1390 ⟨rfl, rfl⟩ rfl (by decide +kernel) ⟨Nat.le_of_ble_eq_true rfl, Nat.le_of_ble_eq_true rfl⟩) rfl hl.1 rfl (lv_room (Nat.le_of_ble_eq_true rfl)) dX3_begin_24 ⟨Nat.le_of_ble_eq_true rfl, Nat.le_of_ble_eq_true rfl⟩ (fun H locs hM => ?_)
  refine m_vret hC hr hlocks hM dX3_begin_27 ?_
  exact ⟨rfl, rfl⟩

set_option maxHeartbeats 400000 in
set_option maxRecDepth 100000 in
theorem mc_name (l : Launch) (v : Nat → Int32) (w : Nat → Nat → Int32) (L : Nat) (hP : PV L v) (htp : tpOk (w 9) L) : mRl l yX3_name cX3_name 4 (some .long) ({ frames := 0, cells := 0, slots := 0, locals := 0 }) [] v w (nameV (w 9) v) := by
  intro D ac A G mo ad
  refine m_bodyR rfl (Nat.le_of_ble_eq_true rfl) ?_
  intro p e s m args below meth c ls hC hr hlocks hK hM hl
  have hl : lv_has ls 4 [(0, .ref mo)] := hl
  obtain ⟨s0, e0, t0, h12, hL, h13, h15, h16, hse, heL, h14, ht0⟩ := id hP
  have i15 : iN (v 15) = s0 := by rw [h15]; exact iN_nI (by omega)
  have i16 : iN (v 16) = e0 := by rw [h16]; exact iN_nI (by omega)
  refine lv_lconst (v := 0) hC.1 hC.2.1 dX3_name_0 (by decide) ?_
  refine lv_lstore_n (lv' := [(1, _), (0, _)]) hC.1 hC.2.1 dX3_name_1 rfl hl (by decide) rfl (fun ls hl => ?_)
  refine lv_aload_n hC.1 hC.2.1 dX3_name_2 rfl (lv_at hl 1 rfl) ?_
  refine m_get hC hK hM 15 (by decide) q1277 rfl rfl dX3_name_3 ?_
  rw [h15]
  refine lv_istore_n (lv' := [(3, _), (1, _), (0, _)]) hC.1 hC.2.1 dX3_name_6 rfl hl (by decide) rfl (fun ls hl => ?_)
  refine w_ind (α := Nat) 7 (fun (i : Nat) => e0 - s0 - i) (fun (i : Nat) (H : Heap) (locs : List Loc) (ls : Array Slot) => (i ≤ e0 - s0 ∧ ((v 14 = 2 ∧ e0 - s0 < 8) ∨ i = 0)) ∧ H = s.heap ∧ locs = [] ∧ lv_has ls 4 [(0, .ref mo), (1, .long (nmL (w 9) s0 i)), (3, .int (nI (s0 + i)))]) ?_ (0) ⟨⟨by omega, Or.inr rfl⟩, rfl, rfl, lv_sub hl [2, 1, 0] rfl⟩
  intro i H locs ls hI ih7
  obtain ⟨hI7, rfl, rfl, hl⟩ := hI
  refine lv_iload_n hC.1 hC.2.1 dX3_name_7 rfl (lv_at hl 2 rfl) ?_
  refine lv_aload_n hC.1 hC.2.1 dX3_name_8 rfl (lv_at hl 0 rfl) ?_
  refine m_get hC hK hM 16 (by decide) q1278 rfl rfl dX3_name_9 ?_
  rw [h16]
  refine lv_icmp_ge (tgt := 56) hC.1 hC.2.1 dX3_name_12 (by decide) (fun c1 => ?_) (fun c1 => ?_)
  ·
    have nc1 := Int32.not_lt.mpr c1
    have hx12 := nle_t (a := e0) (b := s0 + i) c1
    have hfin : nmL (w 9) s0 i = (if v 14 = 2 ∧ e0 - s0 < 8 then nmL (w 9) s0 (e0 - s0) else 0) := by
      rw [show i = e0 - s0 by omega]
      split
      · rfl
      · rename_i h
        rcases hI7.2 with q | q
        · exact absurd q h
        · rw [show e0 - s0 = 0 by omega]; rfl
    refine lv_aload_n hC.1 hC.2.1 dX3_name_56 rfl (lv_at hl 0 rfl) ?_
    refine m_get hC hK hM 17 (by decide) q1279 rfl rfl dX3_name_57 ?_
    refine lv_if_ne (tgt := 67) hC.1 hC.2.1 dX3_name_60 (by decide) (fun c2 => ?_) (fun c2 => ?_)
    ·
      skip
      have cf := c2
      refine lv_lconst (v := 0) hC.1 hC.2.1 dX3_name_67 (by decide) ?_
      refine s_lret hC hr hlocks dX3_name_68 ?_
      rw [nameV, i15, i16]
      first | (rw [if_pos cf]; exact hfin) | (rw [if_neg cf])
    ·
      skip
      have cf := c2
      refine lv_lload_n hC.1 hC.2.1 dX3_name_63 rfl (lv_at hl 1 rfl) ?_
      refine lv_goto (tgt := 68) hC.1 hC.2.1 dX3_name_64 (by decide) ?_
      refine s_lret hC hr hlocks dX3_name_68 ?_
      rw [nameV, i15, i16]
      first | (rw [if_pos cf]; exact hfin) | (rw [if_neg cf])
  ·
    have nc1 := Int32.not_le.mp c1
    have hx12 := nle_f (a := e0) (b := s0 + i) c1
    refine lv_aload_n hC.1 hC.2.1 dX3_name_15 rfl (lv_at hl 0 rfl) ?_
    refine m_get hC hK hM 14 (by decide) q1276 rfl rfl dX3_name_16 ?_
    refine lv_iconst (v := 2) hC.1 hC.2.1 dX3_name_19 (by decide) ?_
    refine lv_icmp_ne (tgt := 56) hC.1 hC.2.1 dX3_name_20 (by decide) (fun c3 => ?_) (fun c3 => ?_)
    ·
      skip
      have c2 := c3
      have hfin : nmL (w 9) s0 i = (if v 14 = 2 ∧ e0 - s0 < 8 then nmL (w 9) s0 (e0 - s0) else 0) := by
        rw [if_neg (fun h => c2 h.1)]
        rcases hI7.2 with q | q
        · exact absurd q.1 c2
        · rw [q]; rfl
      refine lv_aload_n hC.1 hC.2.1 dX3_name_56 rfl (lv_at hl 0 rfl) ?_
      refine m_get hC hK hM 17 (by decide) q1279 rfl rfl dX3_name_57 ?_
      refine lv_if_ne (tgt := 67) hC.1 hC.2.1 dX3_name_60 (by decide) (fun c4 => ?_) (fun c4 => ?_)
      ·
        skip
        have cf := c4
        refine lv_lconst (v := 0) hC.1 hC.2.1 dX3_name_67 (by decide) ?_
        refine s_lret hC hr hlocks dX3_name_68 ?_
        rw [nameV, i15, i16]
        first | (rw [if_pos cf]; exact hfin) | (rw [if_neg cf])
      ·
        skip
        have cf := c4
        refine lv_lload_n hC.1 hC.2.1 dX3_name_63 rfl (lv_at hl 1 rfl) ?_
        refine lv_goto (tgt := 68) hC.1 hC.2.1 dX3_name_64 (by decide) ?_
        refine s_lret hC hr hlocks dX3_name_68 ?_
        rw [nameV, i15, i16]
        first | (rw [if_pos cf]; exact hfin) | (rw [if_neg cf])
    ·
      skip
      have c2 := c3
      refine lv_aload_n hC.1 hC.2.1 dX3_name_23 rfl (lv_at hl 0 rfl) ?_
      refine m_get hC hK hM 16 (by decide) q1278 rfl rfl dX3_name_24 ?_
      rw [h16]
      refine lv_aload_n hC.1 hC.2.1 dX3_name_27 rfl (lv_at hl 0 rfl) ?_
      refine m_get hC hK hM 15 (by decide) q1277 rfl rfl dX3_name_28 ?_
      rw [h15]
      refine lv_isub hC.1 hC.2.1 dX3_name_31 ?_
      rw [pk_sub (by omega)]
      refine lv_bipush (v := 8) hC.1 hC.2.1 dX3_name_32 (by decide) ?_
      refine lv_icmp_ge (tgt := 56) hC.1 hC.2.1 dX3_name_34 (by decide) (fun c5 => ?_) (fun c5 => ?_)
      ·
        have nc5 := Int32.not_lt.mpr c5
        have hx34 := nle_t (a := 8) (b := e0 - s0) c5
        have hfin : nmL (w 9) s0 i = (if v 14 = 2 ∧ e0 - s0 < 8 then nmL (w 9) s0 (e0 - s0) else 0) := by
          rw [if_neg (fun h => absurd h.2 (by omega))]
          rcases hI7.2 with q | q
          · exact absurd q.2 (by omega)
          · rw [q]; rfl
        refine lv_aload_n hC.1 hC.2.1 dX3_name_56 rfl (lv_at hl 0 rfl) ?_
        refine m_get hC hK hM 17 (by decide) q1279 rfl rfl dX3_name_57 ?_
        refine lv_if_ne (tgt := 67) hC.1 hC.2.1 dX3_name_60 (by decide) (fun c6 => ?_) (fun c6 => ?_)
        ·
          skip
          have cf := c6
          refine lv_lconst (v := 0) hC.1 hC.2.1 dX3_name_67 (by decide) ?_
          refine s_lret hC hr hlocks dX3_name_68 ?_
          rw [nameV, i15, i16]
          first | (rw [if_pos cf]; exact hfin) | (rw [if_neg cf])
        ·
          skip
          have cf := c6
          refine lv_lload_n hC.1 hC.2.1 dX3_name_63 rfl (lv_at hl 1 rfl) ?_
          refine lv_goto (tgt := 68) hC.1 hC.2.1 dX3_name_64 (by decide) ?_
          refine s_lret hC hr hlocks dX3_name_68 ?_
          rw [nameV, i15, i16]
          first | (rw [if_pos cf]; exact hfin) | (rw [if_neg cf])
      ·
        have nc5 := Int32.not_le.mp c5
        have hx34 := nle_f (a := 8) (b := e0 - s0) c5
        refine lv_lload_n hC.1 hC.2.1 dX3_name_37 rfl (lv_at hl 1 rfl) ?_
        refine lv_bipush (v := 8) hC.1 hC.2.1 dX3_name_38 (by decide) ?_
        refine lv_lshl hC.1 hC.2.1 dX3_name_40 rfl ?_
        refine lv_aload_n hC.1 hC.2.1 dX3_name_41 rfl (lv_at hl 0 rfl) ?_
        refine m_get hC hK hM 9 (by decide) q1271 rfl rfl dX3_name_42 ?_
        refine lv_iload_n hC.1 hC.2.1 dX3_name_45 rfl (lv_at hl 2 rfl) ?_
        refine m_iald hC hK hM 9 rfl (n := (s0 + i)) (by first | rfl | (simp only [← nI_add, ← pk_mul]; rfl)) (by first | decide | (show _ < 400; omega)) dX3_name_46 ?_
        refine lv_i2l hC.1 hC.2.1 dX3_name_47 rfl ?_
        refine lv_lor hC.1 hC.2.1 dX3_name_48 ?_
        refine lv_lstore_n (lv' := [(1, _), (0, _), (3, _)]) hC.1 hC.2.1 dX3_name_49 rfl hl (by decide) rfl (fun ls hl => ?_)
        refine lv_iinc (v := nI ((s0 + i) + 1)) (lv' := [(3, _), (1, _), (0, _)]) hC.1 hC.2.1 dX3_name_50 hl (k := 2) rfl (nI_1 _) (by decide) rfl (fun ls hl => ?_)
        refine lv_goto (tgt := 7) hC.1 hC.2.1 dX3_name_53 (by decide) ?_
        exact ih7 (i + 1) _ _ _ (by omega) ⟨⟨by omega, Or.inl ⟨c2, hx34⟩⟩, rfl, rfl, lv_sub hl [2, 1, 0] rfl⟩

set_option maxHeartbeats 400000 in
set_option maxRecDepth 100000 in
theorem mc_figures (l : Launch) (v : Nat → Int32) (w : Nat → Nat → Int32) (L : Nat) (hP : PV L v) (htp : tpOk (w 9) L) : mRi l yX3_figures cX3_figures 3 (some .int) ({ frames := 0, cells := 0, slots := 0, locals := 0 }) [] v w (figV (w 9) v) := by
  intro D ac A G mo ad
  refine m_bodyR rfl (Nat.le_of_ble_eq_true rfl) ?_
  intro p e s m args below meth c ls hC hr hlocks hK hM hl
  have hl : lv_has ls 3 [(0, .ref mo)] := hl
  obtain ⟨s0, e0, t0, h12, hL, h13, h15, h16, hse, heL, h14, ht0⟩ := id hP
  have i15 : iN (v 15) = s0 := by rw [h15]; exact iN_nI (by omega)
  have i16 : iN (v 16) = e0 := by rw [h16]; exact iN_nI (by omega)
  refine lv_iconst (v := 0) hC.1 hC.2.1 dX3_figures_0 (by decide) ?_
  refine lv_istore_n (lv' := [(1, _), (0, _)]) hC.1 hC.2.1 dX3_figures_1 rfl hl (by decide) rfl (fun ls hl => ?_)
  refine lv_aload_n hC.1 hC.2.1 dX3_figures_2 rfl (lv_at hl 1 rfl) ?_
  refine m_get hC hK hM 15 (by decide) q1277 rfl rfl dX3_figures_3 ?_
  rw [h15]
  refine lv_istore_n (lv' := [(2, _), (1, _), (0, _)]) hC.1 hC.2.1 dX3_figures_6 rfl hl (by decide) rfl (fun ls hl => ?_)
  refine w_ind (α := Nat) 7 (fun (i : Nat) => e0 - s0 - i) (fun (i : Nat) (H : Heap) (locs : List Loc) (ls : Array Slot) => (i ≤ e0 - s0 ∧ (v 14 = 3 ∨ i = 0)) ∧ H = s.heap ∧ locs = [] ∧ lv_has ls 3 [(0, .ref mo), (1, .int (fgL (w 9) s0 i)), (2, .int (nI (s0 + i)))]) ?_ (0) ⟨⟨by omega, Or.inr rfl⟩, rfl, rfl, lv_sub hl [2, 1, 0] rfl⟩
  intro i H locs ls hI ih7
  obtain ⟨hI7, rfl, rfl, hl⟩ := hI
  refine lv_iload_n hC.1 hC.2.1 dX3_figures_7 rfl (lv_at hl 2 rfl) ?_
  refine lv_aload_n hC.1 hC.2.1 dX3_figures_8 rfl (lv_at hl 0 rfl) ?_
  refine m_get hC hK hM 16 (by decide) q1278 rfl rfl dX3_figures_9 ?_
  rw [h16]
  refine lv_icmp_ge (tgt := 44) hC.1 hC.2.1 dX3_figures_12 (by decide) (fun c1 => ?_) (fun c1 => ?_)
  ·
    have nc1 := Int32.not_lt.mpr c1
    have hx12 := nle_t (a := e0) (b := s0 + i) c1
    have hfin : fgL (w 9) s0 i = (if v 14 = 3 then fgL (w 9) s0 (e0 - s0) else 0) := by
      rw [show i = e0 - s0 by omega]
      split
      · rfl
      · rename_i h
        rcases hI7.2 with q | q
        · exact absurd q h
        · rw [show e0 - s0 = 0 by omega]; rfl
    refine lv_iload_n hC.1 hC.2.1 dX3_figures_44 rfl (lv_at hl 1 rfl) ?_
    refine s_iret hC hr hlocks dX3_figures_45 ?_
    rw [figV, i15, i16]
    exact hfin
  ·
    have nc1 := Int32.not_le.mp c1
    have hx12 := nle_f (a := e0) (b := s0 + i) c1
    refine lv_aload_n hC.1 hC.2.1 dX3_figures_15 rfl (lv_at hl 0 rfl) ?_
    refine m_get hC hK hM 14 (by decide) q1276 rfl rfl dX3_figures_16 ?_
    refine lv_iconst (v := 3) hC.1 hC.2.1 dX3_figures_19 (by decide) ?_
    refine lv_icmp_ne (tgt := 44) hC.1 hC.2.1 dX3_figures_20 (by decide) (fun c2 => ?_) (fun c2 => ?_)
    ·
      skip
      have c3 := c2
      have hfin : fgL (w 9) s0 i = (if v 14 = 3 then fgL (w 9) s0 (e0 - s0) else 0) := by
        rw [if_neg c3]
        rcases hI7.2 with q | q
        · exact absurd q c3
        · rw [q]; rfl
      refine lv_iload_n hC.1 hC.2.1 dX3_figures_44 rfl (lv_at hl 1 rfl) ?_
      refine s_iret hC hr hlocks dX3_figures_45 ?_
      rw [figV, i15, i16]
      exact hfin
    ·
      skip
      have c3 := c2
      refine lv_bipush (v := 10) hC.1 hC.2.1 dX3_figures_23 (by decide) ?_
      refine lv_iload_n hC.1 hC.2.1 dX3_figures_25 rfl (lv_at hl 1 rfl) ?_
      refine lv_imul hC.1 hC.2.1 dX3_figures_26 ?_
      refine lv_aload_n hC.1 hC.2.1 dX3_figures_27 rfl (lv_at hl 0 rfl) ?_
      refine m_get hC hK hM 9 (by decide) q1271 rfl rfl dX3_figures_28 ?_
      refine lv_iload_n hC.1 hC.2.1 dX3_figures_31 rfl (lv_at hl 2 rfl) ?_
      refine m_iald hC hK hM 9 rfl (n := (s0 + i)) (by first | rfl | (simp only [← nI_add, ← pk_mul]; rfl)) (by first | decide | (show _ < 400; omega)) dX3_figures_32 ?_
      refine lv_iadd hC.1 hC.2.1 dX3_figures_33 ?_
      refine lv_bipush (v := 48) hC.1 hC.2.1 dX3_figures_34 (by decide) ?_
      refine lv_isub hC.1 hC.2.1 dX3_figures_36 ?_
      refine lv_istore_n (lv' := [(1, _), (0, _), (2, _)]) hC.1 hC.2.1 dX3_figures_37 rfl hl (by decide) rfl (fun ls hl => ?_)
      refine lv_iinc (v := nI ((s0 + i) + 1)) (lv' := [(2, _), (1, _), (0, _)]) hC.1 hC.2.1 dX3_figures_38 hl (k := 2) rfl (nI_1 _) (by decide) rfl (fun ls hl => ?_)
      refine lv_goto (tgt := 7) hC.1 hC.2.1 dX3_figures_41 (by decide) ?_
      exact ih7 (i + 1) _ _ _ (by omega) ⟨⟨by omega, Or.inl c3⟩, rfl, rfl, lv_sub hl [2, 1, 0] rfl⟩

set_option maxHeartbeats 400000 in
set_option maxRecDepth 100000 in
theorem mc_kindBy (l : Launch) (x : Int64) : sMi l yX3_kindBy cX3_kindBy 2 (some .int) ({ frames := 0, cells := 0, slots := 0, locals := 0 }) [.long x] (kndB x) := by
  refine s_body (own := RX3) rfl (by decide) (Nat.le_of_ble_eq_true rfl) ?_
  intro p e s m args below meth c ls hC hr hlocks hl
  have hl : lv_has ls 2 [(0, .long x)] := hl
  refine lv_lload_n hC.1 hC.2.1 dX3_kindBy_0 rfl (lv_at hl 0 rfl) ?_
  refine lv_ldc2 hC.1 hC.2.1 hC.2.2.2.1 (hC.2.2.2.2 _ q1444) dX3_kindBy_1 ?_
  refine W.lcmp hC.1 hC.2.1 dX3_kindBy_4 ?_
  refine lv_if_ne (tgt := 12) hC.1 hC.2.1 dX3_kindBy_5 (by decide) (fun c1 => ?_) (fun c1 => ?_)
  ·
    skip
    rw [lg_cmp_eq] at c1
    refine lv_lload_n hC.1 hC.2.1 dX3_kindBy_12 rfl (lv_at hl 0 rfl) ?_
    refine lv_ldc2 hC.1 hC.2.1 hC.2.2.2.1 (hC.2.2.2.2 _ q1445) dX3_kindBy_13 ?_
    refine W.lcmp hC.1 hC.2.1 dX3_kindBy_16 ?_
    refine lv_if_ne (tgt := 24) hC.1 hC.2.1 dX3_kindBy_17 (by decide) (fun c2 => ?_) (fun c2 => ?_)
    ·
      skip
      rw [lg_cmp_eq] at c2
      refine lv_lload_n hC.1 hC.2.1 dX3_kindBy_24 rfl (lv_at hl 0 rfl) ?_
      refine lv_ldc2 hC.1 hC.2.1 hC.2.2.2.1 (hC.2.2.2.2 _ q1446) dX3_kindBy_25 ?_
      refine W.lcmp hC.1 hC.2.1 dX3_kindBy_28 ?_
      refine lv_if_ne (tgt := 36) hC.1 hC.2.1 dX3_kindBy_29 (by decide) (fun c3 => ?_) (fun c3 => ?_)
      ·
        skip
        rw [lg_cmp_eq] at c3
        refine lv_lload_n hC.1 hC.2.1 dX3_kindBy_36 rfl (lv_at hl 0 rfl) ?_
        refine lv_ldc2 hC.1 hC.2.1 hC.2.2.2.1 (hC.2.2.2.2 _ q1447) dX3_kindBy_37 ?_
        refine W.lcmp hC.1 hC.2.1 dX3_kindBy_40 ?_
        refine lv_if_ne (tgt := 48) hC.1 hC.2.1 dX3_kindBy_41 (by decide) (fun c4 => ?_) (fun c4 => ?_)
        ·
          skip
          rw [lg_cmp_eq] at c4
          refine lv_lload_n hC.1 hC.2.1 dX3_kindBy_48 rfl (lv_at hl 0 rfl) ?_
          refine lv_ldc2 hC.1 hC.2.1 hC.2.2.2.1 (hC.2.2.2.2 _ q1448) dX3_kindBy_49 ?_
          refine W.lcmp hC.1 hC.2.1 dX3_kindBy_52 ?_
          refine lv_if_ne (tgt := 60) hC.1 hC.2.1 dX3_kindBy_53 (by decide) (fun c5 => ?_) (fun c5 => ?_)
          ·
            skip
            rw [lg_cmp_eq] at c5
            refine lv_ldc hC.1 hC.2.1 hC.2.2.2.1 (hC.2.2.2.2 _ q1395) dX3_kindBy_60 ?_
            refine s_iret hC hr hlocks dX3_kindBy_62 ?_
            simp [kndB, *]
          ·
            skip
            rw [lg_cmp_eq] at c5
            refine lv_iconst (v := 5) hC.1 hC.2.1 dX3_kindBy_56 (by decide) ?_
            refine lv_goto (tgt := 62) hC.1 hC.2.1 dX3_kindBy_57 (by decide) ?_
            refine s_iret hC hr hlocks dX3_kindBy_62 ?_
            simp [kndB, *]
        ·
          skip
          rw [lg_cmp_eq] at c4
          refine lv_iconst (v := 4) hC.1 hC.2.1 dX3_kindBy_44 (by decide) ?_
          refine lv_goto (tgt := 62) hC.1 hC.2.1 dX3_kindBy_45 (by decide) ?_
          refine s_iret hC hr hlocks dX3_kindBy_62 ?_
          simp [kndB, *]
      ·
        skip
        rw [lg_cmp_eq] at c3
        refine lv_iconst (v := 3) hC.1 hC.2.1 dX3_kindBy_32 (by decide) ?_
        refine lv_goto (tgt := 62) hC.1 hC.2.1 dX3_kindBy_33 (by decide) ?_
        refine s_iret hC hr hlocks dX3_kindBy_62 ?_
        simp [kndB, *]
    ·
      skip
      rw [lg_cmp_eq] at c2
      refine lv_iconst (v := 2) hC.1 hC.2.1 dX3_kindBy_20 (by decide) ?_
      refine lv_goto (tgt := 62) hC.1 hC.2.1 dX3_kindBy_21 (by decide) ?_
      refine s_iret hC hr hlocks dX3_kindBy_62 ?_
      simp [kndB, *]
  ·
    skip
    rw [lg_cmp_eq] at c1
    refine lv_iconst (v := 1) hC.1 hC.2.1 dX3_kindBy_8 (by decide) ?_
    refine lv_goto (tgt := 62) hC.1 hC.2.1 dX3_kindBy_9 (by decide) ?_
    refine s_iret hC hr hlocks dX3_kindBy_62 ?_
    simp [kndB, *]

set_option maxHeartbeats 400000 in
set_option maxRecDepth 100000 in
theorem mc_number (l : Launch) (v : Nat → Int32) (w : Nat → Nat → Int32) (lo hi : Int32) (L : Nat) (hP : PV L v) (htp : tpOk (w 9) L) : mMi l yX3_number cX3_number 4 (some .int) ({ frames := 3, cells := 0, slots := 0, locals := 63 }) [.int lo, .int hi] v w (fun r v1 w1 => r = numR (w 9) v ∧ v1 = numV (w 9) L v lo hi ∧ w1 = w) := by
  intro D ac A G mo ad
  refine m_body rfl (Nat.le_of_ble_eq_true rfl) ?_
  intro p e s m args below meth c ls hC hr hlocks hK hM hl
  have hl : lv_has ls 4 [(0, .ref mo), (1, .int lo), (2, .int hi)] := hl
  obtain ⟨s0, e0, t0, h12, hL, h13, h15, h16, hse, heL, h14, ht0⟩ := id hP
  refine lv_aload_n hC.1 hC.2.1 dX3_number_0 rfl (lv_at hl 0 rfl) ?_
  refine m_get hC hK hM 17 (by decide) q1279 rfl rfl dX3_number_1 ?_
  refine lv_if_le (tgt := 9) hC.1 hC.2.1 dX3_number_4 (by decide) (fun c1 => ?_) (fun c1 => ?_)
  ·
    have nc1 := Int32.not_lt.mpr c1
    have c0 := nc1
    refine lv_aload_n hC.1 hC.2.1 dX3_number_9 rfl (lv_at hl 0 rfl) ?_
    refine m_cr hC hK hM (mc_figures l _ _ L hP htp) (cw_m 0 hC.2.2.2.2 q1419 q1421 qs34 q1422 ⟨rfl, rfl⟩ rfl (by decide +kernel) ⟨Nat.le_of_ble_eq_true rfl, Nat.le_of_ble_eq_true rfl⟩) rfl hl.1 rfl (lv_room (Nat.le_of_ble_eq_true rfl)) dX3_number_10 ⟨Nat.le_of_ble_eq_true rfl, Nat.le_of_ble_eq_true rfl⟩ ?_
    refine lv_istore_n (lv' := [(3, _), (0, _), (1, _), (2, _)]) hC.1 hC.2.1 dX3_number_13 rfl hl (by decide) rfl (fun ls hl => ?_)
    refine lv_aload_n hC.1 hC.2.1 dX3_number_14 rfl (lv_at hl 1 rfl) ?_
    refine m_get hC hK hM 14 (by decide) q1276 rfl rfl dX3_number_15 ?_
    refine lv_iconst (v := 3) hC.1 hC.2.1 dX3_number_18 (by decide) ?_
    refine lv_icmp_ne (tgt := 39) hC.1 hC.2.1 dX3_number_19 (by decide) (fun c3 => ?_) (fun c3 => ?_)
    ·
      skip
      have c3 := c3
      have hnb : numB (w 9) v lo hi = v := by rw [numB, if_neg (fun h => c3 h.1)]
      refine lv_aload_n hC.1 hC.2.1 dX3_number_39 rfl (lv_at hl 1 rfl) ?_
      refine lv_aload_n hC.1 hC.2.1 dX3_number_40 rfl (lv_at hl 1 rfl) ?_
      refine m_get hC hK hM 14 (by decide) q1276 rfl rfl dX3_number_41 ?_
      refine lv_iconst (v := 3) hC.1 hC.2.1 dX3_number_44 (by decide) ?_
      refine lv_icmp_ne (tgt := 52) hC.1 hC.2.1 dX3_number_45 (by decide) (fun c4 => ?_) (fun c4 => ?_)
      ·
        skip
        skip
        refine lv_iconst (v := 0) hC.1 hC.2.1 dX3_number_52 (by decide) ?_
        refine m_cve hC hK hM (mc_must l _ _ _ L hP htp) (cw_m 1 hC.2.2.2.2 q1407 q1409 qs31 q1410 ⟨rfl, rfl⟩ rfl (by decide +kernel) ⟨Nat.le_of_ble_eq_true rfl, Nat.le_of_ble_eq_true rfl⟩) rfl hl.1 rfl (lv_room (Nat.le_of_ble_eq_true rfl)) dX3_number_53 ⟨Nat.le_of_ble_eq_true rfl, Nat.le_of_ble_eq_true rfl⟩ (fun H locs hM => ?_)
        refine lv_iload_n hC.1 hC.2.1 dX3_number_56 rfl (lv_at hl 0 rfl) ?_
        refine m_iret hC hr hlocks hM dX3_number_57 ?_
        exact ⟨by rw [numR, if_neg c0], by rw [numV, if_neg c0, hnb, bI_f c3], rfl⟩
      ·
        skip
        exact absurd c4 c3
    ·
      skip
      have c3 := c3
      refine lv_iload_n hC.1 hC.2.1 dX3_number_22 rfl (lv_at hl 0 rfl) ?_
      refine lv_i2l hC.1 hC.2.1 dX3_number_23 rfl ?_
      refine lv_iload_n hC.1 hC.2.1 dX3_number_24 rfl (lv_at hl 2 rfl) ?_
      refine lv_i2l hC.1 hC.2.1 dX3_number_25 rfl ?_
      refine lv_iload_n hC.1 hC.2.1 dX3_number_26 rfl (lv_at hl 3 rfl) ?_
      refine lv_i2l hC.1 hC.2.1 dX3_number_27 rfl ?_
      refine s_ci hC ((mc_in l (a := _) (b := _) rfl rfl rfl)) (cw_ms 3 hC.2.2.2.2 q1350 q1351 q1352 ⟨rfl, rfl⟩ rfl (by decide +kernel) ⟨Nat.le_of_ble_eq_true rfl, Nat.le_of_ble_eq_true rfl⟩) rfl hl.1 rfl (lv_room (Nat.le_of_ble_eq_true rfl)) dX3_number_28 ⟨Nat.le_of_ble_eq_true rfl, Nat.le_of_ble_eq_true rfl⟩ ?_
      refine lv_if_ne (tgt := 39) hC.1 hC.2.1 dX3_number_31 (by decide) (fun c7 => ?_) (fun c7 => ?_)
      ·
        skip
        rw [bI_n0] at c7
        have ci := c7
        have hnb : numB (w 9) v lo hi = v := by rw [numB, if_neg (fun h => h.2 ci)]
        refine lv_aload_n hC.1 hC.2.1 dX3_number_39 rfl (lv_at hl 1 rfl) ?_
        refine lv_aload_n hC.1 hC.2.1 dX3_number_40 rfl (lv_at hl 1 rfl) ?_
        refine m_get hC hK hM 14 (by decide) q1276 rfl rfl dX3_number_41 ?_
        refine lv_iconst (v := 3) hC.1 hC.2.1 dX3_number_44 (by decide) ?_
        refine lv_icmp_ne (tgt := 52) hC.1 hC.2.1 dX3_number_45 (by decide) (fun c8 => ?_) (fun c8 => ?_)
        ·
          skip
          exact absurd c3 c8
        ·
          skip
          skip
          refine lv_iconst (v := 1) hC.1 hC.2.1 dX3_number_48 (by decide) ?_
          refine lv_goto (tgt := 53) hC.1 hC.2.1 dX3_number_49 (by decide) ?_
          refine m_cve hC hK hM (mc_must l _ _ _ L hP htp) (cw_m 1 hC.2.2.2.2 q1407 q1409 qs31 q1410 ⟨rfl, rfl⟩ rfl (by decide +kernel) ⟨Nat.le_of_ble_eq_true rfl, Nat.le_of_ble_eq_true rfl⟩) rfl hl.1 rfl (lv_room (Nat.le_of_ble_eq_true rfl)) dX3_number_53 ⟨Nat.le_of_ble_eq_true rfl, Nat.le_of_ble_eq_true rfl⟩ (fun H locs hM => ?_)
          refine lv_iload_n hC.1 hC.2.1 dX3_number_56 rfl (lv_at hl 0 rfl) ?_
          refine m_iret hC hr hlocks hM dX3_number_57 ?_
          exact ⟨by rw [numR, if_neg c0], by rw [numV, if_neg c0, hnb, bI_t c3], rfl⟩
      ·
        skip
        rw [bI_0] at c7
        have ci := c7
        have hnb : numB (w 9) v lo hi = badV v 2 := by rw [numB, if_pos ⟨c3, ci⟩]
        refine lv_aload_n hC.1 hC.2.1 dX3_number_34 rfl (lv_at hl 1 rfl) ?_
        refine lv_iconst (v := 2) hC.1 hC.2.1 dX3_number_35 (by decide) ?_
        refine m_cve hC hK hM (mc_bad l _ _ _) (cw_m 1 hC.2.2.2.2 q1411 q1413 qs32 q1414 ⟨rfl, rfl⟩ rfl (by decide +kernel) ⟨Nat.le_of_ble_eq_true rfl, Nat.le_of_ble_eq_true rfl⟩) rfl hl.1 rfl (lv_room (Nat.le_of_ble_eq_true rfl)) dX3_number_36 ⟨Nat.le_of_ble_eq_true rfl, Nat.le_of_ble_eq_true rfl⟩ (fun H locs hM => ?_)
        refine lv_aload_n hC.1 hC.2.1 dX3_number_39 rfl (lv_at hl 1 rfl) ?_
        refine lv_aload_n hC.1 hC.2.1 dX3_number_40 rfl (lv_at hl 1 rfl) ?_
        refine m_get hC hK hM 14 (by decide) q1276 rfl rfl dX3_number_41 ?_
        refine lv_iconst (v := 3) hC.1 hC.2.1 dX3_number_44 (by decide) ?_
        refine lv_icmp_ne (tgt := 52) hC.1 hC.2.1 dX3_number_45 (by decide) (fun c11 => ?_) (fun c11 => ?_)
        ·
          skip
          exact absurd (by rw [badV_o v 2 (by decide) (by decide)]; exact c3) c11
        ·
          skip
          skip
          refine lv_iconst (v := 1) hC.1 hC.2.1 dX3_number_48 (by decide) ?_
          refine lv_goto (tgt := 53) hC.1 hC.2.1 dX3_number_49 (by decide) ?_
          refine m_cve hC hK hM (mc_must l _ _ _ L (hP.bad 2) htp) (cw_m 1 hC.2.2.2.2 q1407 q1409 qs31 q1410 ⟨rfl, rfl⟩ rfl (by decide +kernel) ⟨Nat.le_of_ble_eq_true rfl, Nat.le_of_ble_eq_true rfl⟩) rfl hl.1 rfl (lv_room (Nat.le_of_ble_eq_true rfl)) dX3_number_53 ⟨Nat.le_of_ble_eq_true rfl, Nat.le_of_ble_eq_true rfl⟩ (fun H locs hM => ?_)
          refine lv_iload_n hC.1 hC.2.1 dX3_number_56 rfl (lv_at hl 0 rfl) ?_
          refine m_iret hC hr hlocks hM dX3_number_57 ?_
          exact ⟨by rw [numR, if_neg c0], by rw [numV, if_neg c0, hnb, bI_t c3], rfl⟩
  ·
    have nc1 := Int32.not_le.mp c1
    have c0 := nc1
    refine lv_iconst (v := 0) hC.1 hC.2.1 dX3_number_7 (by decide) ?_
    refine m_iret hC hr hlocks hM dX3_number_8 ?_
    exact ⟨by rw [numR, if_pos c0], by rw [numV, if_pos c0], rfl⟩

set_option maxHeartbeats 400000 in
set_option maxRecDepth 100000 in
theorem mc_mustEnd (l : Launch) (v : Nat → Int32) (w : Nat → Nat → Int32) (L : Nat) (hP : PV L v) (htp : tpOk (w 9) L) : mMv l yX3_mustEnd cX3_mustEnd 1 none ({ frames := 3, cells := 0, slots := 0, locals := 63 }) [] v w (fun v1 w1 => v1 = endV (w 9) L v ∧ w1 = w) := by
  intro D ac A G mo ad
  refine m_body rfl (Nat.le_of_ble_eq_true rfl) ?_
  intro p e s m args below meth c ls hC hr hlocks hK hM hl
  have hl : lv_has ls 1 [(0, .ref mo)] := hl
  refine lv_aload_n hC.1 hC.2.1 dX3_mustEnd_0 rfl (lv_at hl 0 rfl) ?_
  refine m_get hC hK hM 17 (by decide) q1279 rfl rfl dX3_mustEnd_1 ?_
  refine lv_if_ne (tgt := 24) hC.1 hC.2.1 dX3_mustEnd_4 (by decide) (fun c1 => ?_) (fun c1 => ?_)
  ·
    skip
    have c0 := c1
    refine m_vret hC hr hlocks hM dX3_mustEnd_24 ?_
    exact ⟨by rw [endV, if_neg c0], rfl⟩
  ·
    skip
    have c0 := c1
    refine lv_aload_n hC.1 hC.2.1 dX3_mustEnd_7 rfl (lv_at hl 0 rfl) ?_
    refine lv_aload_n hC.1 hC.2.1 dX3_mustEnd_8 rfl (lv_at hl 0 rfl) ?_
    refine m_get hC hK hM 14 (by decide) q1276 rfl rfl dX3_mustEnd_9 ?_
    refine lv_iconst (v := 4) hC.1 hC.2.1 dX3_mustEnd_12 (by decide) ?_
    refine w_tern2 (cond := v 14 = 4) (a := 1) (b := 0) 21 ?_ (fun jt13 jf13 => ?_)
    ·
      skip
      refine m_cve hC hK hM (mc_must l _ _ _ L hP htp) (cw_m 1 hC.2.2.2.2 q1407 q1409 qs31 q1410 ⟨rfl, rfl⟩ rfl (by decide +kernel) ⟨Nat.le_of_ble_eq_true rfl, Nat.le_of_ble_eq_true rfl⟩) rfl hl.1 rfl (lv_room (Nat.le_of_ble_eq_true rfl)) dX3_mustEnd_21 ⟨Nat.le_of_ble_eq_true rfl, Nat.le_of_ble_eq_true rfl⟩ (fun H locs hM => ?_)
      refine m_vret hC hr hlocks hM dX3_mustEnd_24 ?_
      exact ⟨by rw [endV, if_pos c0]; rfl, rfl⟩
    ·
      skip
      refine lv_icmp_ne (tgt := 20) hC.1 hC.2.1 dX3_mustEnd_13 (by decide) (fun c3 => ?_) (fun c3 => ?_)
      ·
        skip
        refine lv_iconst (v := 0) hC.1 hC.2.1 dX3_mustEnd_20 (by decide) ?_
        first | exact jt13 (by first | assumption | (simp_all; done) | grind) | exact jf13 (by first | assumption | (simp_all; done) | grind)
      ·
        skip
        refine lv_iconst (v := 1) hC.1 hC.2.1 dX3_mustEnd_16 (by decide) ?_
        refine lv_goto (tgt := 21) hC.1 hC.2.1 dX3_mustEnd_17 (by decide) ?_
        first | exact jt13 (by first | assumption | (simp_all; done) | grind) | exact jf13 (by first | assumption | (simp_all; done) | grind)

set_option maxHeartbeats 400000 in
set_option maxRecDepth 100000 in
theorem mc_begins (l : Launch) (v : Nat → Int32) (w : Nat → Nat → Int32) (i : Nat) (room : Int32) (hi : i < 94) (L : Nat) (hP : PV L v) (htp : tpOk (w 9) L) : mMv l yX3_begins cX3_begins 3 none ({ frames := 3, cells := 0, slots := 0, locals := 63 }) [.int (nI i), .int room] v w (fun v1 w1 => v1 = begV (w 9) L v (w 6) i room ∧ w1 = w) := by
  intro D ac A G mo ad
  refine m_body rfl (Nat.le_of_ble_eq_true rfl) ?_
  intro p e s m args below meth c ls hC hr hlocks hK hM hl
  have hl : lv_has ls 3 [(0, .ref mo), (1, .int (nI i)), (2, .int room)] := hl
  refine lv_aload_n hC.1 hC.2.1 dX3_begins_0 rfl (lv_at hl 0 rfl) ?_
  refine m_get hC hK hM 6 (by decide) q1268 rfl rfl dX3_begins_1 ?_
  refine lv_iload_n hC.1 hC.2.1 dX3_begins_4 rfl (lv_at hl 1 rfl) ?_
  refine m_iald hC hK hM 6 rfl (n := i) (by first | rfl | (simp only [← nI_add, ← pk_mul]; rfl)) (by first | decide | (show _ < 94; omega)) dX3_begins_5 ?_
  refine lv_iload_n hC.1 hC.2.1 dX3_begins_6 rfl (lv_at hl 2 rfl) ?_
  refine lv_icmp_ne (tgt := 15) hC.1 hC.2.1 dX3_begins_7 (by decide) (fun c1 => ?_) (fun c1 => ?_)
  ·
    skip
    have c0 := c1
    refine lv_aload_n hC.1 hC.2.1 dX3_begins_15 rfl (lv_at hl 0 rfl) ?_
    refine lv_iconst (v := 1) hC.1 hC.2.1 dX3_begins_16 (by decide) ?_
    refine m_cve hC hK hM (mc_must l _ _ _ L hP htp) (cw_m 1 hC.2.2.2.2 q1407 q1409 qs31 q1410 ⟨rfl, rfl⟩ rfl (by decide +kernel) ⟨Nat.le_of_ble_eq_true rfl, Nat.le_of_ble_eq_true rfl⟩) rfl hl.1 rfl (lv_room (Nat.le_of_ble_eq_true rfl)) dX3_begins_17 ⟨Nat.le_of_ble_eq_true rfl, Nat.le_of_ble_eq_true rfl⟩ (fun H locs hM => ?_)
    refine m_vret hC hr hlocks hM dX3_begins_20 ?_
    exact ⟨by rw [begV, if_neg c0], rfl⟩
  ·
    skip
    have c0 := c1
    refine lv_aload_n hC.1 hC.2.1 dX3_begins_10 rfl (lv_at hl 0 rfl) ?_
    refine lv_iconst (v := 3) hC.1 hC.2.1 dX3_begins_11 (by decide) ?_
    refine m_cve hC hK hM (mc_bad l _ _ _) (cw_m 1 hC.2.2.2.2 q1411 q1413 qs32 q1414 ⟨rfl, rfl⟩ rfl (by decide +kernel) ⟨Nat.le_of_ble_eq_true rfl, Nat.le_of_ble_eq_true rfl⟩) rfl hl.1 rfl (lv_room (Nat.le_of_ble_eq_true rfl)) dX3_begins_12 ⟨Nat.le_of_ble_eq_true rfl, Nat.le_of_ble_eq_true rfl⟩ (fun H locs hM => ?_)
    refine lv_aload_n hC.1 hC.2.1 dX3_begins_15 rfl (lv_at hl 0 rfl) ?_
    refine lv_iconst (v := 1) hC.1 hC.2.1 dX3_begins_16 (by decide) ?_
    refine m_cve hC hK hM (mc_must l _ _ _ L (hP.bad 3) htp) (cw_m 1 hC.2.2.2.2 q1407 q1409 qs31 q1410 ⟨rfl, rfl⟩ rfl (by decide +kernel) ⟨Nat.le_of_ble_eq_true rfl, Nat.le_of_ble_eq_true rfl⟩) rfl hl.1 rfl (lv_room (Nat.le_of_ble_eq_true rfl)) dX3_begins_17 ⟨Nat.le_of_ble_eq_true rfl, Nat.le_of_ble_eq_true rfl⟩ (fun H locs hM => ?_)
    refine m_vret hC hr hlocks hM dX3_begins_20 ?_
    exact ⟨by rw [begV, if_pos c0], rfl⟩
