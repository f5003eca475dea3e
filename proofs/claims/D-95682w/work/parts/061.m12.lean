set_option maxHeartbeats 400000 in
set_option maxRecDepth 100000 in
theorem mc_byteAt (l : Launch) (v : Nat → Int32) (w : Nat → Nat → Int32) (k : Nat) (L : Nat) (eL : v 12 = nI L) (hL : L ≤ 400) (hk : k ≤ 400) : mRi l yX3_byteAt cX3_byteAt 2 (some .int) ({ frames := 0, cells := 0, slots := 0, locals := 0 }) [.int (nI k)] v w (tokB (w 9) L k) := by
  intro D ac A G mo ad
  refine m_bodyR rfl (Nat.le_of_ble_eq_true rfl) ?_
  intro p e s m args below meth c ls hC hr hlocks hK hM hl
  have hl : lv_has ls 2 [(0, .ref mo), (1, .int (nI k))] := hl
  refine lv_iload_n hC.1 hC.2.1 dX3_byteAt_0 rfl (lv_at hl 1 rfl) ?_
  refine lv_aload_n hC.1 hC.2.1 dX3_byteAt_1 rfl (lv_at hl 0 rfl) ?_
  refine m_get hC hK hM 12 (by decide) q1274 rfl rfl dX3_byteAt_2 ?_
  rw [eL]
  refine lv_icmp_ge (tgt := 17) hC.1 hC.2.1 dX3_byteAt_5 (by decide) (fun c1 => ?_) (fun c1 => ?_)
  ·
    have nc1 := Int32.not_lt.mpr c1
    have hx5 := nle_t (a := L) (b := k) c1
    refine lv_ldc hC.1 hC.2.1 hC.2.2.2.1 (hC.2.2.2.2 _ q1395) dX3_byteAt_17 ?_
    refine s_iret hC hr hlocks dX3_byteAt_19 ?_
    first | exact (tokB_lt (by omega)).symm | exact (tokB_ge (by omega)).symm
  ·
    have nc1 := Int32.not_le.mp c1
    have hx5 := nle_f (a := L) (b := k) c1
    refine lv_aload_n hC.1 hC.2.1 dX3_byteAt_8 rfl (lv_at hl 0 rfl) ?_
    refine m_get hC hK hM 9 (by decide) q1271 rfl rfl dX3_byteAt_9 ?_
    refine lv_iload_n hC.1 hC.2.1 dX3_byteAt_12 rfl (lv_at hl 1 rfl) ?_
    refine m_iald hC hK hM 9 rfl (n := k) (by first | rfl | (simp only [← nI_add, ← pk_mul]; rfl)) (by first | decide | (show _ < 400; omega)) dX3_byteAt_13 ?_
    refine lv_goto (tgt := 19) hC.1 hC.2.1 dX3_byteAt_14 (by decide) ?_
    refine s_iret hC hr hlocks dX3_byteAt_19 ?_
    first | exact (tokB_lt (by omega)).symm | exact (tokB_ge (by omega)).symm

set_option maxHeartbeats 400000 in
set_option maxRecDepth 100000 in
theorem mc_isLetter (l : Launch) (x : Int32) : sMi l yX3_isLetter cX3_isLetter 1 (some .boolean) ({ frames := 0, cells := 0, slots := 0, locals := 0 }) [.int x] (bI (97 ≤ x ∧ x ≤ 122)) := by
  refine s_body (own := RX3) rfl (by decide) (Nat.le_of_ble_eq_true rfl) ?_
  intro p e s m args below meth c ls hC hr hlocks hl
  have hl : lv_has ls 1 [(0, .int x)] := hl
  refine lv_iload_n hC.1 hC.2.1 dX3_isLetter_0 rfl (lv_at hl 0 rfl) ?_
  refine lv_bipush (v := 97) hC.1 hC.2.1 dX3_isLetter_1 (by decide) ?_
  refine lv_icmp_lt (tgt := 16) hC.1 hC.2.1 dX3_isLetter_3 (by decide) (fun c1 => ?_) (fun c1 => ?_)
  ·
    have nc1 := Int32.not_le.mpr c1
    refine lv_iconst (v := 0) hC.1 hC.2.1 dX3_isLetter_16 (by decide) ?_
    refine s_zret hC hr hlocks (by first | exact bI_01 _ | exact Or.inl rfl | exact Or.inr rfl) dX3_isLetter_17 ?_
    first | (rw [bI_t]; simp [*]; done) | (rw [bI_f]; simp [*]; done) | grind [bI]
  ·
    have nc1 := Int32.not_lt.mp c1
    refine lv_iload_n hC.1 hC.2.1 dX3_isLetter_6 rfl (lv_at hl 0 rfl) ?_
    refine lv_bipush (v := 122) hC.1 hC.2.1 dX3_isLetter_7 (by decide) ?_
    refine lv_icmp_gt (tgt := 16) hC.1 hC.2.1 dX3_isLetter_9 (by decide) (fun c2 => ?_) (fun c2 => ?_)
    ·
      have nc2 := Int32.not_le.mpr c2
      refine lv_iconst (v := 0) hC.1 hC.2.1 dX3_isLetter_16 (by decide) ?_
      refine s_zret hC hr hlocks (by first | exact bI_01 _ | exact Or.inl rfl | exact Or.inr rfl) dX3_isLetter_17 ?_
      first | (rw [bI_t]; simp [*]; done) | (rw [bI_f]; simp [*]; done) | grind [bI]
    ·
      have nc2 := Int32.not_lt.mp c2
      refine lv_iconst (v := 1) hC.1 hC.2.1 dX3_isLetter_12 (by decide) ?_
      refine lv_goto (tgt := 17) hC.1 hC.2.1 dX3_isLetter_13 (by decide) ?_
      refine s_zret hC hr hlocks (by first | exact bI_01 _ | exact Or.inl rfl | exact Or.inr rfl) dX3_isLetter_17 ?_
      first | (rw [bI_t]; simp [*]; done) | (rw [bI_f]; simp [*]; done) | grind [bI]

set_option maxHeartbeats 400000 in
set_option maxRecDepth 100000 in
theorem mc_isFigure (l : Launch) (x : Int32) : sMi l yX3_isFigure cX3_isFigure 1 (some .boolean) ({ frames := 0, cells := 0, slots := 0, locals := 0 }) [.int x] (bI (48 ≤ x ∧ x ≤ 57)) := by
  refine s_body (own := RX3) rfl (by decide) (Nat.le_of_ble_eq_true rfl) ?_
  intro p e s m args below meth c ls hC hr hlocks hl
  have hl : lv_has ls 1 [(0, .int x)] := hl
  refine lv_iload_n hC.1 hC.2.1 dX3_isFigure_0 rfl (lv_at hl 0 rfl) ?_
  refine lv_bipush (v := 48) hC.1 hC.2.1 dX3_isFigure_1 (by decide) ?_
  refine lv_icmp_lt (tgt := 16) hC.1 hC.2.1 dX3_isFigure_3 (by decide) (fun c1 => ?_) (fun c1 => ?_)
  ·
    have nc1 := Int32.not_le.mpr c1
    refine lv_iconst (v := 0) hC.1 hC.2.1 dX3_isFigure_16 (by decide) ?_
    refine s_zret hC hr hlocks (by first | exact bI_01 _ | exact Or.inl rfl | exact Or.inr rfl) dX3_isFigure_17 ?_
    first | (rw [bI_t]; simp [*]; done) | (rw [bI_f]; simp [*]; done) | grind [bI]
  ·
    have nc1 := Int32.not_lt.mp c1
    refine lv_iload_n hC.1 hC.2.1 dX3_isFigure_6 rfl (lv_at hl 0 rfl) ?_
    refine lv_bipush (v := 57) hC.1 hC.2.1 dX3_isFigure_7 (by decide) ?_
    refine lv_icmp_gt (tgt := 16) hC.1 hC.2.1 dX3_isFigure_9 (by decide) (fun c2 => ?_) (fun c2 => ?_)
    ·
      have nc2 := Int32.not_le.mpr c2
      refine lv_iconst (v := 0) hC.1 hC.2.1 dX3_isFigure_16 (by decide) ?_
      refine s_zret hC hr hlocks (by first | exact bI_01 _ | exact Or.inl rfl | exact Or.inr rfl) dX3_isFigure_17 ?_
      first | (rw [bI_t]; simp [*]; done) | (rw [bI_f]; simp [*]; done) | grind [bI]
    ·
      have nc2 := Int32.not_lt.mp c2
      refine lv_iconst (v := 1) hC.1 hC.2.1 dX3_isFigure_12 (by decide) ?_
      refine lv_goto (tgt := 17) hC.1 hC.2.1 dX3_isFigure_13 (by decide) ?_
      refine s_zret hC hr hlocks (by first | exact bI_01 _ | exact Or.inl rfl | exact Or.inr rfl) dX3_isFigure_17 ?_
      first | (rw [bI_t]; simp [*]; done) | (rw [bI_f]; simp [*]; done) | grind [bI]

set_option maxHeartbeats 400000 in
set_option maxRecDepth 100000 in
theorem mc_next (l : Launch) (v : Nat → Int32) (w : Nat → Nat → Int32) (c0 : Nat) (L : Nat) (eL : v 12 = nI L) (hL : L ≤ 400) (ec : v 13 = nI c0) (hc : c0 ≤ L) (htp : tpOk (w 9) L) : mMv l yX3_next cX3_next 2 none ({ frames := 1, cells := 0, slots := 0, locals := 21 }) [] v w (fun v1 w1 => v1 = vNx v (nx (w 9) L c0) ∧ w1 = w) := by
  intro D ac A G mo ad
  refine m_body rfl (Nat.le_of_ble_eq_true rfl) ?_
  intro p e s m args below meth c ls hC hr hlocks hK hM hl
  have hl : lv_has ls 2 [(0, .ref mo)] := hl
  refine w_ind (α := Nat) 0 (fun (k : Nat) => L - k) (fun (k : Nat) (H : Heap) (locs : List Loc) (ls : Array Slot) => (c0 ≤ k ∧ k ≤ L ∧ spn pWs (w 9) (L - k) k = spn pWs (w 9) (L - c0) c0) ∧ MS D ac A G s.heap mo ad (upd v 13 (nI k)) (w) H locs ∧ lv_has ls 2 [(0, .ref mo)]) ?_ (c0) ⟨⟨Nat.le_refl _, hc, rfl⟩, by rw [← ec, upd_self]; exact hM, lv_sub hl [0] rfl⟩
  intro k H locs ls hI ih0
  obtain ⟨hI0, hM, hl⟩ := hI
  refine lv_aload_n hC.1 hC.2.1 dX3_next_0 rfl (lv_at hl 0 rfl) ?_
  refine lv_aload_n hC.1 hC.2.1 dX3_next_1 rfl (lv_at hl 0 rfl) ?_
  refine m_get hC hK hM 13 (by decide) q1275 rfl rfl dX3_next_2 ?_
  rw [upd_s]
  refine m_cr hC hK hM (mc_byteAt l _ _ k L (by exact eL) hL (by omega)) (cw_m 1 hC.2.2.2.2 q1391 q1393 qs29 q1394 ⟨rfl, rfl⟩ rfl (by decide +kernel) ⟨Nat.le_of_ble_eq_true rfl, Nat.le_of_ble_eq_true rfl⟩) rfl hl.1 rfl (lv_room (Nat.le_of_ble_eq_true rfl)) dX3_next_5 ⟨Nat.le_of_ble_eq_true rfl, Nat.le_of_ble_eq_true rfl⟩ ?_
  refine lv_bipush (v := 32) hC.1 hC.2.1 dX3_next_8 (by decide) ?_
  refine lv_icmp_eq (tgt := 26) hC.1 hC.2.1 dX3_next_10 (by decide) (fun c2 => ?_) (fun c2 => ?_)
  ·
    skip
    have cw := ws_go (Or.inl c2)
    refine lv_aload_n hC.1 hC.2.1 dX3_next_26 rfl (lv_at hl 0 rfl) ?_
    refine lv_dup hC.1 hC.2.1 dX3_next_27 rfl ?_
    refine m_get hC hK hM 13 (by decide) q1275 rfl rfl dX3_next_28 ?_
    rw [upd_s]
    refine lv_iconst (v := 1) hC.1 hC.2.1 dX3_next_31 (by decide) ?_
    refine lv_iadd hC.1 hC.2.1 dX3_next_32 ?_
    refine m_put hC hK hM 13 (by decide) q1275 rfl rfl rfl rfl dX3_next_33 (fun H locs hM => ?_)
    refine lv_goto (tgt := 0) hC.1 hC.2.1 dX3_next_36 (by decide) ?_
    rw [upd_upd, nI_1] at hM
    exact ih0 (k + 1) _ _ _ (by omega) ⟨⟨by omega, by omega, by rw [← hI0.2.2]; exact cw.2.symm⟩, hM, lv_sub hl [0] rfl⟩
  ·
    skip
    have c32 := c2
    refine lv_aload_n hC.1 hC.2.1 dX3_next_13 rfl (lv_at hl 0 rfl) ?_
    refine lv_aload_n hC.1 hC.2.1 dX3_next_14 rfl (lv_at hl 0 rfl) ?_
    refine m_get hC hK hM 13 (by decide) q1275 rfl rfl dX3_next_15 ?_
    rw [upd_s]
    refine m_cr hC hK hM (mc_byteAt l _ _ k L (by exact eL) hL (by omega)) (cw_m 1 hC.2.2.2.2 q1391 q1393 qs29 q1394 ⟨rfl, rfl⟩ rfl (by decide +kernel) ⟨Nat.le_of_ble_eq_true rfl, Nat.le_of_ble_eq_true rfl⟩) rfl hl.1 rfl (lv_room (Nat.le_of_ble_eq_true rfl)) dX3_next_18 ⟨Nat.le_of_ble_eq_true rfl, Nat.le_of_ble_eq_true rfl⟩ ?_
    refine lv_bipush (v := 10) hC.1 hC.2.1 dX3_next_21 (by decide) ?_
    refine lv_icmp_ne (tgt := 39) hC.1 hC.2.1 dX3_next_23 (by decide) (fun c4 => ?_) (fun c4 => ?_)
    ·
      skip
      have hS := spn_ws c32 c4
      have hSk : spn pWs (w 9) (L - c0) c0 = k := by rw [← hI0.2.2]; exact hS
      refine lv_aload_n hC.1 hC.2.1 dX3_next_39 rfl (lv_at hl 0 rfl) ?_
      refine lv_aload_n hC.1 hC.2.1 dX3_next_40 rfl (lv_at hl 0 rfl) ?_
      refine m_get hC hK hM 13 (by decide) q1275 rfl rfl dX3_next_41 ?_
      rw [upd_s]
      refine m_put hC hK hM 15 (by decide) q1277 rfl rfl rfl rfl dX3_next_44 (fun H locs hM => ?_)
      refine lv_aload_n hC.1 hC.2.1 dX3_next_47 rfl (lv_at hl 0 rfl) ?_
      refine lv_aload_n hC.1 hC.2.1 dX3_next_48 rfl (lv_at hl 0 rfl) ?_
      refine m_get hC hK hM 13 (by decide) q1275 rfl rfl dX3_next_49 ?_
      rw [upd_n (show (13 : Nat) ≠ 15 by decide), upd_s]
      refine m_cr hC hK hM (mc_byteAt l _ _ k L (by exact eL) hL (by omega)) (cw_m 1 hC.2.2.2.2 q1391 q1393 qs29 q1394 ⟨rfl, rfl⟩ rfl (by decide +kernel) ⟨Nat.le_of_ble_eq_true rfl, Nat.le_of_ble_eq_true rfl⟩) rfl hl.1 rfl (lv_room (Nat.le_of_ble_eq_true rfl)) dX3_next_52 ⟨Nat.le_of_ble_eq_true rfl, Nat.le_of_ble_eq_true rfl⟩ ?_
      refine lv_istore_n (lv' := [(1, _), (0, _)]) hC.1 hC.2.1 dX3_next_55 rfl hl (by decide) rfl (fun ls hl => ?_)
      refine lv_iload_n hC.1 hC.2.1 dX3_next_56 rfl (lv_at hl 0 rfl) ?_
      refine lv_ldc hC.1 hC.2.1 hC.2.2.2.1 (hC.2.2.2.2 _ q1395) dX3_next_57 ?_
      refine lv_icmp_ne (tgt := 70) hC.1 hC.2.1 dX3_next_59 (by decide) (fun c6 => ?_) (fun c6 => ?_)
      ·
        skip
        have hkL : k < L := by
          rcases Nat.lt_or_ge k L with q | q
          · exact q
          · exact absurd (tokB_ge q) c6
        have etk : tokB (w 9) L k = w 9 k := tokB_lt hkL
        refine lv_iload_n hC.1 hC.2.1 dX3_next_70 rfl (lv_at hl 0 rfl) ?_
        refine s_ci hC (mc_isLetter l _) (cw_ms 1 hC.2.2.2.2 q1396 q1397 q1398 ⟨rfl, rfl⟩ rfl (by decide +kernel) ⟨Nat.le_of_ble_eq_true rfl, Nat.le_of_ble_eq_true rfl⟩) rfl hl.1 rfl (lv_room (Nat.le_of_ble_eq_true rfl)) dX3_next_71 ⟨Nat.le_of_ble_eq_true rfl, Nat.le_of_ble_eq_true rfl⟩ ?_
        refine lv_if_eq (tgt := 112) hC.1 hC.2.1 dX3_next_74 (by decide) (fun c8 => ?_) (fun c8 => ?_)
        ·
          skip
          rw [bI_0, etk] at c8
          have cl := c8
          refine lv_iload_n hC.1 hC.2.1 dX3_next_112 rfl (lv_at hl 0 rfl) ?_
          refine s_ci hC (mc_isFigure l _) (cw_ms 1 hC.2.2.2.2 q1399 q1400 q1401 ⟨rfl, rfl⟩ rfl (by decide +kernel) ⟨Nat.le_of_ble_eq_true rfl, Nat.le_of_ble_eq_true rfl⟩) rfl hl.1 rfl (lv_room (Nat.le_of_ble_eq_true rfl)) dX3_next_113 ⟨Nat.le_of_ble_eq_true rfl, Nat.le_of_ble_eq_true rfl⟩ ?_
          refine lv_if_eq (tgt := 171) hC.1 hC.2.1 dX3_next_116 (by decide) (fun c10 => ?_) (fun c10 => ?_)
          ·
            skip
            rw [bI_0, etk] at c10
            have cf := c10
            refine lv_aload_n hC.1 hC.2.1 dX3_next_171 rfl (lv_at hl 1 rfl) ?_
            refine lv_dup hC.1 hC.2.1 dX3_next_172 rfl ?_
            refine m_get hC hK hM 13 (by decide) q1275 rfl rfl dX3_next_173 ?_
            rw [upd_n (show (13 : Nat) ≠ 15 by decide), upd_s]
            refine lv_iconst (v := 1) hC.1 hC.2.1 dX3_next_176 (by decide) ?_
            refine lv_iadd hC.1 hC.2.1 dX3_next_177 ?_
            rw [nI_1]
            refine m_put hC hK hM 13 (by decide) q1275 rfl rfl rfl rfl dX3_next_178 (fun H locs hM => ?_)
            refine lv_aload_n hC.1 hC.2.1 dX3_next_181 rfl (lv_at hl 1 rfl) ?_
            refine lv_iload_n hC.1 hC.2.1 dX3_next_182 rfl (lv_at hl 0 rfl) ?_
            refine lv_bipush (v := 59) hC.1 hC.2.1 dX3_next_183 (by decide) ?_
            refine w_tern2 (cond := w 9 k = 59) (a := 4) (b := 0) 193 ?_ (fun jt185 jf185 => ?_)
            ·
              skip
              refine m_put hC hK hM 14 (by decide) q1276 rfl rfl rfl rfl dX3_next_193 (fun H locs hM => ?_)
              refine lv_aload_n hC.1 hC.2.1 dX3_next_196 rfl (lv_at hl 1 rfl) ?_
              refine lv_aload_n hC.1 hC.2.1 dX3_next_197 rfl (lv_at hl 1 rfl) ?_
              refine m_get hC hK hM 13 (by decide) q1275 rfl rfl dX3_next_198 ?_
              refine m_put hC hK hM 16 (by decide) q1278 rfl rfl rfl rfl dX3_next_201 (fun H locs hM => ?_)
              refine m_vret hC hr hlocks hM dX3_next_204 ?_
              have hnx : nx (w 9) L c0 = (if w 9 k = 59 then 4 else 0, k, k + 1) := by
                unfold nx
                rw [hSk, if_neg (by omega), if_neg (by rw [show pLe (w 9 k) = false from decide_eq_false cl]; decide), if_neg (by rw [show pFi (w 9 k) = false from decide_eq_false cf]; decide)]
              rw [hnx]
              exact ⟨vNx_of rfl (by show (if w 9 k = 59 then (4 : Int32) else 0) = nI (if w 9 k = 59 then 4 else 0); split <;> rfl) rfl rfl (fun i h3 h4 h5 h6 => by simp [upd, h3, h4, h5, h6]), rfl⟩
            ·
              skip
              refine lv_icmp_ne (tgt := 192) hC.1 hC.2.1 dX3_next_185 (by decide) (fun c11 => ?_) (fun c11 => ?_)
              ·
                skip
                refine lv_iconst (v := 0) hC.1 hC.2.1 dX3_next_192 (by decide) ?_
                first | exact jt185 (by rw [← etk]; assumption) | exact jf185 (by rw [← etk]; assumption)
              ·
                skip
                refine lv_iconst (v := 4) hC.1 hC.2.1 dX3_next_188 (by decide) ?_
                refine lv_goto (tgt := 193) hC.1 hC.2.1 dX3_next_189 (by decide) ?_
                first | exact jt185 (by rw [← etk]; assumption) | exact jf185 (by rw [← etk]; assumption)
          ·
            skip
            rw [bI_n0, etk] at c10
            have cf := c10
            refine w_ind (α := Nat) 119 (fun (e_ : Nat) => L - e_) (fun (e_ : Nat) (H : Heap) (locs : List Loc) (ls : Array Slot) => (k ≤ e_ ∧ e_ ≤ L ∧ spn pFi (w 9) (L - e_) e_ = spn pFi (w 9) (L - k) k) ∧ MS D ac A G s.heap mo ad (upd (upd (upd v 13 (nI k)) 15 (nI k)) 13 (nI e_)) (w) H locs ∧ lv_has ls 2 [(0, .ref mo)]) ?_ (k) ⟨⟨Nat.le_refl _, by omega, rfl⟩, by rw [show upd (upd (upd v 13 (nI k)) 15 (nI k)) 13 (nI k) = upd (upd v 13 (nI k)) 15 (nI k) from upd_self (upd (upd v 13 (nI k)) 15 (nI k)) 13]; exact hM, lv_sub hl [1] rfl⟩
            intro e_ H locs ls hI ih119
            obtain ⟨hI119, hM, hl⟩ := hI
            refine lv_aload_n hC.1 hC.2.1 dX3_next_119 rfl (lv_at hl 0 rfl) ?_
            refine lv_aload_n hC.1 hC.2.1 dX3_next_120 rfl (lv_at hl 0 rfl) ?_
            refine m_get hC hK hM 13 (by decide) q1275 rfl rfl dX3_next_121 ?_
            rw [upd_s]
            refine m_cr hC hK hM (mc_byteAt l _ _ e_ L (by exact eL) hL (by omega)) (cw_m 1 hC.2.2.2.2 q1391 q1393 qs29 q1394 ⟨rfl, rfl⟩ rfl (by decide +kernel) ⟨Nat.le_of_ble_eq_true rfl, Nat.le_of_ble_eq_true rfl⟩) rfl hl.1 rfl (lv_room (Nat.le_of_ble_eq_true rfl)) dX3_next_124 ⟨Nat.le_of_ble_eq_true rfl, Nat.le_of_ble_eq_true rfl⟩ ?_
            refine s_ci hC (mc_isFigure l _) (cw_ms 1 hC.2.2.2.2 q1399 q1400 q1401 ⟨rfl, rfl⟩ rfl (by decide +kernel) ⟨Nat.le_of_ble_eq_true rfl, Nat.le_of_ble_eq_true rfl⟩) rfl hl.1 rfl (lv_room (Nat.le_of_ble_eq_true rfl)) dX3_next_127 ⟨Nat.le_of_ble_eq_true rfl, Nat.le_of_ble_eq_true rfl⟩ ?_
            refine lv_if_eq (tgt := 146) hC.1 hC.2.1 dX3_next_130 (by decide) (fun c14 => ?_) (fun c14 => ?_)
            ·
              skip
              rw [bI_0] at c14
              have ce := cl_stop c14
              have hE : spn pFi (w 9) (L - k) k = e_ := by rw [← hI119.2.2]; exact ce
              refine lv_aload_n hC.1 hC.2.1 dX3_next_146 rfl (lv_at hl 0 rfl) ?_
              refine lv_aload_n hC.1 hC.2.1 dX3_next_147 rfl (lv_at hl 0 rfl) ?_
              refine m_get hC hK hM 13 (by decide) q1275 rfl rfl dX3_next_148 ?_
              rw [upd_s]
              refine lv_aload_n hC.1 hC.2.1 dX3_next_151 rfl (lv_at hl 0 rfl) ?_
              refine m_get hC hK hM 15 (by decide) q1277 rfl rfl dX3_next_152 ?_
              rw [upd_n (show (15 : Nat) ≠ 13 by decide), upd_s]
              refine lv_isub hC.1 hC.2.1 dX3_next_155 ?_
              rw [pk_sub (by omega)]
              refine lv_iconst (v := 3) hC.1 hC.2.1 dX3_next_156 (by decide) ?_
              refine w_tern2 (cond := e_ - k ≤ 3) (a := 3) (b := 0) 165 ?_ (fun jt157 jf157 => ?_)
              ·
                skip
                refine m_put hC hK hM 14 (by decide) q1276 rfl rfl rfl rfl dX3_next_165 (fun H locs hM => ?_)
                refine lv_goto (tgt := 196) hC.1 hC.2.1 dX3_next_168 (by decide) ?_
                refine lv_aload_n hC.1 hC.2.1 dX3_next_196 rfl (lv_at hl 0 rfl) ?_
                refine lv_aload_n hC.1 hC.2.1 dX3_next_197 rfl (lv_at hl 0 rfl) ?_
                refine m_get hC hK hM 13 (by decide) q1275 rfl rfl dX3_next_198 ?_
                refine m_put hC hK hM 16 (by decide) q1278 rfl rfl rfl rfl dX3_next_201 (fun H locs hM => ?_)
                refine m_vret hC hr hlocks hM dX3_next_204 ?_
                have hnx : nx (w 9) L c0 = (if e_ - k ≤ 3 then 3 else 0, k, e_) := by
                  unfold nx
                  rw [hSk, if_neg (by omega), if_neg (by rw [show pLe (w 9 k) = false from decide_eq_false cl]; decide), if_pos (show pFi (w 9 k) = true from decide_eq_true cf), hE]
                rw [hnx]
                exact ⟨vNx_of rfl (by show (if e_ - k ≤ 3 then (3 : Int32) else 0) = nI (if e_ - k ≤ 3 then 3 else 0); split <;> rfl) rfl rfl (fun i h3 h4 h5 h6 => by simp [upd, h3, h4, h5, h6]), rfl⟩
              ·
                skip
                refine lv_icmp_le (tgt := 164) hC.1 hC.2.1 dX3_next_157 (by decide) (fun c15 => ?_) (fun c15 => ?_)
                ·
                  have nc15 := Int32.not_lt.mpr c15
                  refine lv_iconst (v := 3) hC.1 hC.2.1 dX3_next_164 (by decide) ?_
                  first | exact jt157 (by first | exact nle_t (a := e_ - k) (b := 3) (by assumption) | exact Nat.not_le.mpr (nle_f (a := e_ - k) (b := 3) (by assumption))) | exact jf157 (by first | exact nle_t (a := e_ - k) (b := 3) (by assumption) | exact Nat.not_le.mpr (nle_f (a := e_ - k) (b := 3) (by assumption)))
                ·
                  have nc15 := Int32.not_le.mp c15
                  refine lv_iconst (v := 0) hC.1 hC.2.1 dX3_next_160 (by decide) ?_
                  refine lv_goto (tgt := 165) hC.1 hC.2.1 dX3_next_161 (by decide) ?_
                  first | exact jt157 (by first | exact nle_t (a := e_ - k) (b := 3) (by assumption) | exact Nat.not_le.mpr (nle_f (a := e_ - k) (b := 3) (by assumption))) | exact jf157 (by first | exact nle_t (a := e_ - k) (b := 3) (by assumption) | exact Nat.not_le.mpr (nle_f (a := e_ - k) (b := 3) (by assumption)))
            ·
              skip
              rw [bI_n0] at c14
              have ce := cl_go (by decide) c14
              refine lv_aload_n hC.1 hC.2.1 dX3_next_133 rfl (lv_at hl 0 rfl) ?_
              refine lv_dup hC.1 hC.2.1 dX3_next_134 rfl ?_
              refine m_get hC hK hM 13 (by decide) q1275 rfl rfl dX3_next_135 ?_
              rw [upd_s]
              refine lv_iconst (v := 1) hC.1 hC.2.1 dX3_next_138 (by decide) ?_
              refine lv_iadd hC.1 hC.2.1 dX3_next_139 ?_
              refine m_put hC hK hM 13 (by decide) q1275 rfl rfl rfl rfl dX3_next_140 (fun H locs hM => ?_)
              refine lv_goto (tgt := 119) hC.1 hC.2.1 dX3_next_143 (by decide) ?_
              rw [upd_upd, nI_1] at hM
              exact ih119 (e_ + 1) _ _ _ (by omega) ⟨⟨by omega, by omega, by rw [← hI119.2.2]; exact ce.2.symm⟩, hM, lv_sub hl [0] rfl⟩
        ·
          skip
          rw [bI_n0, etk] at c8
          have cl := c8
          refine w_ind (α := Nat) 77 (fun (e_ : Nat) => L - e_) (fun (e_ : Nat) (H : Heap) (locs : List Loc) (ls : Array Slot) => (k ≤ e_ ∧ e_ ≤ L ∧ spn pLe (w 9) (L - e_) e_ = spn pLe (w 9) (L - k) k) ∧ MS D ac A G s.heap mo ad (upd (upd (upd v 13 (nI k)) 15 (nI k)) 13 (nI e_)) (w) H locs ∧ lv_has ls 2 [(0, .ref mo)]) ?_ (k) ⟨⟨Nat.le_refl _, by omega, rfl⟩, by rw [show upd (upd (upd v 13 (nI k)) 15 (nI k)) 13 (nI k) = upd (upd v 13 (nI k)) 15 (nI k) from upd_self (upd (upd v 13 (nI k)) 15 (nI k)) 13]; exact hM, lv_sub hl [1] rfl⟩
          intro e_ H locs ls hI ih77
          obtain ⟨hI77, hM, hl⟩ := hI
          refine lv_aload_n hC.1 hC.2.1 dX3_next_77 rfl (lv_at hl 0 rfl) ?_
          refine lv_aload_n hC.1 hC.2.1 dX3_next_78 rfl (lv_at hl 0 rfl) ?_
          refine m_get hC hK hM 13 (by decide) q1275 rfl rfl dX3_next_79 ?_
          rw [upd_s]
          refine m_cr hC hK hM (mc_byteAt l _ _ e_ L (by exact eL) hL (by omega)) (cw_m 1 hC.2.2.2.2 q1391 q1393 qs29 q1394 ⟨rfl, rfl⟩ rfl (by decide +kernel) ⟨Nat.le_of_ble_eq_true rfl, Nat.le_of_ble_eq_true rfl⟩) rfl hl.1 rfl (lv_room (Nat.le_of_ble_eq_true rfl)) dX3_next_82 ⟨Nat.le_of_ble_eq_true rfl, Nat.le_of_ble_eq_true rfl⟩ ?_
          refine s_ci hC (mc_isLetter l _) (cw_ms 1 hC.2.2.2.2 q1396 q1397 q1398 ⟨rfl, rfl⟩ rfl (by decide +kernel) ⟨Nat.le_of_ble_eq_true rfl, Nat.le_of_ble_eq_true rfl⟩) rfl hl.1 rfl (lv_room (Nat.le_of_ble_eq_true rfl)) dX3_next_85 ⟨Nat.le_of_ble_eq_true rfl, Nat.le_of_ble_eq_true rfl⟩ ?_
          refine lv_if_eq (tgt := 104) hC.1 hC.2.1 dX3_next_88 (by decide) (fun c18 => ?_) (fun c18 => ?_)
          ·
            skip
            rw [bI_0] at c18
            have ce := cl_stop c18
            have hE : spn pLe (w 9) (L - k) k = e_ := by rw [← hI77.2.2]; exact ce
            refine lv_aload_n hC.1 hC.2.1 dX3_next_104 rfl (lv_at hl 0 rfl) ?_
            refine lv_iconst (v := 2) hC.1 hC.2.1 dX3_next_105 (by decide) ?_
            refine m_put hC hK hM 14 (by decide) q1276 rfl rfl rfl rfl dX3_next_106 (fun H locs hM => ?_)
            refine lv_goto (tgt := 196) hC.1 hC.2.1 dX3_next_109 (by decide) ?_
            refine lv_aload_n hC.1 hC.2.1 dX3_next_196 rfl (lv_at hl 0 rfl) ?_
            refine lv_aload_n hC.1 hC.2.1 dX3_next_197 rfl (lv_at hl 0 rfl) ?_
            refine m_get hC hK hM 13 (by decide) q1275 rfl rfl dX3_next_198 ?_
            refine m_put hC hK hM 16 (by decide) q1278 rfl rfl rfl rfl dX3_next_201 (fun H locs hM => ?_)
            refine m_vret hC hr hlocks hM dX3_next_204 ?_
            have hnx : nx (w 9) L c0 = (2, k, e_) := by
              unfold nx
              rw [hSk, if_neg (by omega), if_pos (show pLe (w 9 k) = true from decide_eq_true cl), hE]
            rw [hnx]
            exact ⟨vNx_of rfl (rfl) rfl rfl (fun i h3 h4 h5 h6 => by simp [upd, h3, h4, h5, h6]), rfl⟩
          ·
            skip
            rw [bI_n0] at c18
            have ce := cl_go (by decide) c18
            refine lv_aload_n hC.1 hC.2.1 dX3_next_91 rfl (lv_at hl 0 rfl) ?_
            refine lv_dup hC.1 hC.2.1 dX3_next_92 rfl ?_
            refine m_get hC hK hM 13 (by decide) q1275 rfl rfl dX3_next_93 ?_
            rw [upd_s]
            refine lv_iconst (v := 1) hC.1 hC.2.1 dX3_next_96 (by decide) ?_
            refine lv_iadd hC.1 hC.2.1 dX3_next_97 ?_
            refine m_put hC hK hM 13 (by decide) q1275 rfl rfl rfl rfl dX3_next_98 (fun H locs hM => ?_)
            refine lv_goto (tgt := 77) hC.1 hC.2.1 dX3_next_101 (by decide) ?_
            rw [upd_upd, nI_1] at hM
            exact ih77 (e_ + 1) _ _ _ (by omega) ⟨⟨by omega, by omega, by rw [← hI77.2.2]; exact ce.2.symm⟩, hM, lv_sub hl [0] rfl⟩
      ·
        skip
        have hkL : L ≤ k := (tokB_N htp).mp c6
        refine lv_aload_n hC.1 hC.2.1 dX3_next_62 rfl (lv_at hl 1 rfl) ?_
        refine lv_iconst (v := 1) hC.1 hC.2.1 dX3_next_63 (by decide) ?_
        refine m_put hC hK hM 14 (by decide) q1276 rfl rfl rfl rfl dX3_next_64 (fun H locs hM => ?_)
        refine lv_goto (tgt := 196) hC.1 hC.2.1 dX3_next_67 (by decide) ?_
        refine lv_aload_n hC.1 hC.2.1 dX3_next_196 rfl (lv_at hl 1 rfl) ?_
        refine lv_aload_n hC.1 hC.2.1 dX3_next_197 rfl (lv_at hl 1 rfl) ?_
        refine m_get hC hK hM 13 (by decide) q1275 rfl rfl dX3_next_198 ?_
        refine m_put hC hK hM 16 (by decide) q1278 rfl rfl rfl rfl dX3_next_201 (fun H locs hM => ?_)
        refine m_vret hC hr hlocks hM dX3_next_204 ?_
        have hnx : nx (w 9) L c0 = (1, k, k) := by
          unfold nx
          rw [hSk, if_pos hkL]
        rw [hnx]
        exact ⟨vNx_of rfl (rfl) rfl rfl (fun i h3 h4 h5 h6 => by simp [upd, h3, h4, h5, h6]), rfl⟩
    ·
      skip
      have cw := ws_go (Or.inr c4)
      refine lv_aload_n hC.1 hC.2.1 dX3_next_26 rfl (lv_at hl 0 rfl) ?_
      refine lv_dup hC.1 hC.2.1 dX3_next_27 rfl ?_
      refine m_get hC hK hM 13 (by decide) q1275 rfl rfl dX3_next_28 ?_
      rw [upd_s]
      refine lv_iconst (v := 1) hC.1 hC.2.1 dX3_next_31 (by decide) ?_
      refine lv_iadd hC.1 hC.2.1 dX3_next_32 ?_
      refine m_put hC hK hM 13 (by decide) q1275 rfl rfl rfl rfl dX3_next_33 (fun H locs hM => ?_)
      refine lv_goto (tgt := 0) hC.1 hC.2.1 dX3_next_36 (by decide) ?_
      rw [upd_upd, nI_1] at hM
      exact ih0 (k + 1) _ _ _ (by omega) ⟨⟨by omega, by omega, by rw [← hI0.2.2]; exact cw.2.symm⟩, hM, lv_sub hl [0] rfl⟩
