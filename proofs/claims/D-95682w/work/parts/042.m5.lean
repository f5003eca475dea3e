set_option maxHeartbeats 400000 in
set_option maxRecDepth 100000 in
theorem mc_goNight (l : Launch) (v : Nat → Int32) (w : Nat → Nat → Int32) (nt : Nat) (o : Int32) (n mv : Nat) (en : w 5 4 = nI n) (hn : n ≤ 6) (em : w 5 5 = nI mv) (hm : mv ≤ 5) (hmo : movOk (w 5) n mv) (hnt : nt < 2 ^ 30) : mMv l yX3_goNight cX3_goNight 4 none ({ frames := 2, cells := 0, slots := 0, locals := 51 }) [.int (nI nt), .int o] v w (fun v1 w1 => v1 = v ∧ w1 = wput w 19 (goF (w 5) n nt o (w 19) mv)) := by
  intro D ac A G mo ad
  refine m_body rfl (Nat.le_of_ble_eq_true rfl) ?_
  intro p e s m args below meth c ls hC hr hlocks hK hM hl
  have hl : lv_has ls 4 [(0, .ref mo), (1, .int (nI nt)), (2, .int o)] := hl
  refine lv_iconst (v := 0) hC.1 hC.2.1 dX3_goNight_0 (by decide) ?_
  refine lv_istore_n (lv' := [(3, _), (0, _), (1, _), (2, _)]) hC.1 hC.2.1 dX3_goNight_1 rfl hl (by decide) rfl (fun ls hl => ?_)
  refine w_ind (α := Nat) 2 (fun (k : Nat) => mv - k) (fun (k : Nat) (H : Heap) (locs : List Loc) (ls : Array Slot) => (k ≤ mv) ∧ MS D ac A G s.heap mo ad (v) (wput w 19 (goF (w 5) n nt o (w 19) k)) H locs ∧ lv_has ls 4 [(0, .ref mo), (1, .int (nI nt)), (2, .int o), (3, .int (nI k))]) ?_ (0) ⟨by omega, by rw [show goF (w 5) n nt o (w 19) 0 = w 19 from rfl, wput_self]; exact hM, lv_sub hl [1, 2, 3, 0] rfl⟩
  intro k H locs ls hI ih2
  obtain ⟨hI2, hM, hl⟩ := hI
  refine lv_iload_n hC.1 hC.2.1 dX3_goNight_2 rfl (lv_at hl 3 rfl) ?_
  refine lv_aload_n hC.1 hC.2.1 dX3_goNight_3 rfl (lv_at hl 0 rfl) ?_
  refine m_get hC hK hM 5 (by decide) q1267 rfl rfl dX3_goNight_4 ?_
  refine lv_iconst (v := 5) hC.1 hC.2.1 dX3_goNight_7 (by decide) ?_
  refine m_iald hC hK hM 5 rfl (n := 5) (by first | rfl | (simp only [← nI_add, ← pk_mul]; rfl)) (by first | decide | (show _ < 94; omega)) dX3_goNight_8 ?_
  rw [show wput w 19 (goF (w 5) n nt o (w 19) k) 5 5 = nI mv from em]
  refine lv_icmp_ge (tgt := 33) hC.1 hC.2.1 dX3_goNight_9 (by decide) (fun c1 => ?_) (fun c1 => ?_)
  ·
    have nc1 := Int32.not_lt.mpr c1
    have hx9 := nle_t (a := mv) (b := k) c1
    obtain rfl : mv = k := by omega
    refine m_vret hC hr hlocks hM dX3_goNight_33 ?_
    exact ⟨rfl, rfl⟩
  ·
    have nc1 := Int32.not_le.mp c1
    have hx9 := nle_f (a := mv) (b := k) c1
    refine lv_iload_n hC.1 hC.2.1 dX3_goNight_12 rfl (lv_at hl 2 rfl) ?_
    refine lv_iload_n hC.1 hC.2.1 dX3_goNight_13 rfl (lv_at hl 3 rfl) ?_
    refine lv_ishr hC.1 hC.2.1 dX3_goNight_14 ?_
    refine lv_iconst (v := 1) hC.1 hC.2.1 dX3_goNight_15 (by decide) ?_
    refine lv_iand hC.1 hC.2.1 dX3_goNight_16 ?_
    refine lv_iconst (v := 1) hC.1 hC.2.1 dX3_goNight_17 (by decide) ?_
    refine lv_icmp_ne (tgt := 27) hC.1 hC.2.1 dX3_goNight_18 (by decide) (fun c2 => ?_) (fun c2 => ?_)
    ·
      skip
      have cb := c2
      refine lv_iinc (v := nI (k + 1)) (lv' := [(3, _), (0, _), (1, _), (2, _)]) hC.1 hC.2.1 dX3_goNight_27 hl (k := 3) rfl (nI_1 _) (by decide) rfl (fun ls hl => ?_)
      refine lv_goto (tgt := 2) hC.1 hC.2.1 dX3_goNight_30 (by decide) ?_
      exact ih2 (k + 1) _ _ _ (by omega) ⟨by omega, by rw [goF_f cb]; exact hM, lv_sub hl [1, 2, 3, 0] rfl⟩
    ·
      skip
      have cb := c2
      obtain ⟨k0, r0, ek, hk0, er, hr0⟩ := hmo k (by omega)
      refine lv_aload_n hC.1 hC.2.1 dX3_goNight_21 rfl (lv_at hl 0 rfl) ?_
      refine lv_iload_n hC.1 hC.2.1 dX3_goNight_22 rfl (lv_at hl 3 rfl) ?_
      refine lv_iload_n hC.1 hC.2.1 dX3_goNight_23 rfl (lv_at hl 1 rfl) ?_
      refine m_cve hC hK hM (mc_pushes l _ _ k nt k0 r0 n en hn (by omega) hnt ek hk0 er hr0) (cw_m 2 hC.2.2.2.2 q1479 q1481 qs44 q1482 ⟨rfl, rfl⟩ rfl (by decide +kernel) ⟨Nat.le_of_ble_eq_true rfl, Nat.le_of_ble_eq_true rfl⟩) rfl hl.1 rfl (lv_room (Nat.le_of_ble_eq_true rfl)) dX3_goNight_24 ⟨Nat.le_of_ble_eq_true rfl, Nat.le_of_ble_eq_true rfl⟩ (fun H locs hM => ?_)
      refine lv_iinc (v := nI (k + 1)) (lv' := [(3, _), (0, _), (1, _), (2, _)]) hC.1 hC.2.1 dX3_goNight_27 hl (k := 3) rfl (nI_1 _) (by decide) rfl (fun ls hl => ?_)
      refine lv_goto (tgt := 2) hC.1 hC.2.1 dX3_goNight_30 (by decide) ?_
      exact ih2 (k + 1) _ _ _ (by omega) ⟨by omega, by rw [goF_t cb, ← wput_wput w 19 (goF (w 5) n nt o (w 19) k)]; exact hM, lv_sub hl [1, 2, 3, 0] rfl⟩

set_option maxHeartbeats 400000 in
set_option maxRecDepth 100000 in
theorem mc_keep (l : Launch) (v : Nat → Int32) (w : Nat → Nat → Int32) (a : Nat) (ea : v 8 = nI a) (ha : a ≤ 24) : mMv l yX3_keep cX3_keep 2 none ({ frames := 1, cells := 0, slots := 0, locals := 22 }) [] v w (fun v1 w1 => v1 = keepV v ∧ w1 = keepW v w) := by
  intro D ac A G mo ad
  refine m_body rfl (Nat.le_of_ble_eq_true rfl) ?_
  intro p e s m args below meth c ls hC hr hlocks hK hM hl
  have hl : lv_has ls 2 [(0, .ref mo)] := hl
  refine lv_aload_n hC.1 hC.2.1 dX3_keep_0 rfl (lv_at hl 0 rfl) ?_
  refine m_get hC hK hM 8 (by decide) q1270 rfl rfl dX3_keep_1 ?_
  refine lv_bipush (v := 24) hC.1 hC.2.1 dX3_keep_4 (by decide) ?_
  refine lv_icmp_ne (tgt := 49) hC.1 hC.2.1 dX3_keep_6 (by decide) (fun c1 => ?_) (fun c1 => ?_)
  ·
    skip
    have cA : ¬ v 8 = 24 := c1
    obtain ⟨b, eb, hb, ib⟩ : ∃ b, v 8 = nI b ∧ b < 24 ∧ iN (v 8) = b := ⟨a, ea, by
        rcases Nat.lt_or_ge a 24 with q | q
        · exact q
        · exact absurd (by rw [ea, show a = 24 by omega]; rfl) cA, by rw [ea]; exact iN_nI (by omega)⟩
    refine lv_iconst (v := 0) hC.1 hC.2.1 dX3_keep_49 (by decide) ?_
    refine lv_istore_n (lv' := [(1, _), (0, _)]) hC.1 hC.2.1 dX3_keep_50 rfl hl (by decide) rfl (fun ls hl => ?_)
    refine w_ind (α := Nat) 51 (fun (k : Nat) => 6 - k) (fun (k : Nat) (H : Heap) (locs : List Loc) (ls : Array Slot) => (k ≤ 6) ∧ MS D ac A G s.heap mo ad (v) (wseg (w) 7 (7 * b) k (fun k => w 5 (8 + 3 * k + 1))) H locs ∧ lv_has ls 2 [(0, .ref mo), (1, .int (nI k))]) ?_ (0) ⟨by omega, by rw [wseg_0]; exact hM, lv_sub hl [1, 0] rfl⟩
    intro k H locs ls hI ih51
    obtain ⟨hI51, hM, hl⟩ := hI
    refine lv_iload_n hC.1 hC.2.1 dX3_keep_51 rfl (lv_at hl 1 rfl) ?_
    refine lv_bipush (v := 6) hC.1 hC.2.1 dX3_keep_52 (by decide) ?_
    refine lv_icmp_ge (tgt := 83) hC.1 hC.2.1 dX3_keep_54 (by decide) (fun c2 => ?_) (fun c2 => ?_)
    ·
      have nc2 := Int32.not_lt.mpr c2
      have hx54 := nle_t (a := 6) (b := k) c2
      obtain rfl : k = 6 := by omega
      refine lv_aload_n hC.1 hC.2.1 dX3_keep_83 rfl (lv_at hl 0 rfl) ?_
      refine m_get hC hK hM 7 (by decide) q1269 rfl rfl dX3_keep_84 ?_
      refine lv_bipush (v := 7) hC.1 hC.2.1 dX3_keep_87 (by decide) ?_
      refine lv_aload_n hC.1 hC.2.1 dX3_keep_89 rfl (lv_at hl 0 rfl) ?_
      refine m_get hC hK hM 8 (by decide) q1270 rfl rfl dX3_keep_90 ?_
      rw [eb]
      refine lv_imul hC.1 hC.2.1 dX3_keep_93 ?_
      refine lv_bipush (v := 6) hC.1 hC.2.1 dX3_keep_94 (by decide) ?_
      refine lv_iadd hC.1 hC.2.1 dX3_keep_96 ?_
      refine lv_aload_n hC.1 hC.2.1 dX3_keep_97 rfl (lv_at hl 0 rfl) ?_
      refine m_get hC hK hM 5 (by decide) q1267 rfl rfl dX3_keep_98 ?_
      refine lv_bipush (v := 6) hC.1 hC.2.1 dX3_keep_101 (by decide) ?_
      refine m_iald hC hK hM 5 rfl (n := 6) (by first | rfl | (simp only [← nI_add, ← pk_mul]; rfl)) (by first | decide | (show _ < 94; omega)) dX3_keep_103 ?_
      refine m_iast hC hK hM 7 rfl (n := ((7 * b) + 6)) (by first | rfl | (simp only [← nI_add, ← pk_mul]; rfl)) (by first | decide | (show _ < 168; omega)) dX3_keep_104 (fun H locs hM => ?_)
      refine lv_aload_n hC.1 hC.2.1 dX3_keep_105 rfl (lv_at hl 0 rfl) ?_
      refine lv_dup hC.1 hC.2.1 dX3_keep_106 rfl ?_
      refine m_get hC hK hM 8 (by decide) q1270 rfl rfl dX3_keep_107 ?_
      refine lv_iconst (v := 1) hC.1 hC.2.1 dX3_keep_110 (by decide) ?_
      refine lv_iadd hC.1 hC.2.1 dX3_keep_111 ?_
      refine m_put hC hK hM 8 (by decide) q1270 rfl rfl rfl rfl dX3_keep_112 (fun H locs hM => ?_)
      refine m_vret hC hr hlocks hM dX3_keep_115 ?_
      exact ⟨by rw [keepV, if_neg cA], by rw [keepW, if_neg cA, ib]; rfl⟩
    ·
      have nc2 := Int32.not_le.mp c2
      have hx54 := nle_f (a := 6) (b := k) c2
      refine lv_aload_n hC.1 hC.2.1 dX3_keep_57 rfl (lv_at hl 0 rfl) ?_
      refine m_get hC hK hM 7 (by decide) q1269 rfl rfl dX3_keep_58 ?_
      refine lv_bipush (v := 7) hC.1 hC.2.1 dX3_keep_61 (by decide) ?_
      refine lv_aload_n hC.1 hC.2.1 dX3_keep_63 rfl (lv_at hl 0 rfl) ?_
      refine m_get hC hK hM 8 (by decide) q1270 rfl rfl dX3_keep_64 ?_
      rw [eb]
      refine lv_imul hC.1 hC.2.1 dX3_keep_67 ?_
      refine lv_iload_n hC.1 hC.2.1 dX3_keep_68 rfl (lv_at hl 1 rfl) ?_
      refine lv_iadd hC.1 hC.2.1 dX3_keep_69 ?_
      refine lv_aload_n hC.1 hC.2.1 dX3_keep_70 rfl (lv_at hl 0 rfl) ?_
      refine lv_iload_n hC.1 hC.2.1 dX3_keep_71 rfl (lv_at hl 1 rfl) ?_
      refine lv_iconst (v := 1) hC.1 hC.2.1 dX3_keep_72 (by decide) ?_
      refine m_cr hC hK hM (mc_stoneOf l _ _ k 1 (by omega) (by omega)) (cw_m 2 hC.2.2.2.2 q1467 q1469 qs41 q1470 ⟨rfl, rfl⟩ rfl (by decide +kernel) ⟨Nat.le_of_ble_eq_true rfl, Nat.le_of_ble_eq_true rfl⟩) rfl hl.1 rfl (lv_room (Nat.le_of_ble_eq_true rfl)) dX3_keep_73 ⟨Nat.le_of_ble_eq_true rfl, Nat.le_of_ble_eq_true rfl⟩ ?_
      refine m_iast hC hK hM 7 rfl (n := ((7 * b) + k)) (by first | rfl | (simp only [← nI_add, ← pk_mul]; rfl)) (by first | decide | (show _ < 168; omega)) dX3_keep_76 (fun H locs hM => ?_)
      refine lv_iinc (v := nI (k + 1)) (lv' := [(1, _), (0, _)]) hC.1 hC.2.1 dX3_keep_77 hl (k := 1) rfl (nI_1 _) (by decide) rfl (fun ls hl => ?_)
      refine lv_goto (tgt := 51) hC.1 hC.2.1 dX3_keep_80 (by decide) ?_
      exact ih51 (k + 1) _ _ _ (by omega) ⟨by omega, by rw [← wseg_s]; exact hM, lv_sub hl [1, 0] rfl⟩
  ·
    skip
    have cA : v 8 = 24 := c1
    refine lv_iconst (v := 0) hC.1 hC.2.1 dX3_keep_9 (by decide) ?_
    refine lv_istore_n (lv' := [(1, _), (0, _)]) hC.1 hC.2.1 dX3_keep_10 rfl hl (by decide) rfl (fun ls hl => ?_)
    refine w_ind (α := Nat) 11 (fun (k : Nat) => 161 - k) (fun (k : Nat) (H : Heap) (locs : List Loc) (ls : Array Slot) => (k ≤ 161) ∧ MS D ac A G s.heap mo ad (v) (wseg w 7 0 k (fun q => w 7 (q + 7))) H locs ∧ lv_has ls 2 [(0, .ref mo), (1, .int (nI k))]) ?_ (0) ⟨by omega, by rw [wseg_0]; exact hM, lv_sub hl [1, 0] rfl⟩
    intro k H locs ls hI ih11
    obtain ⟨hI11, hM, hl⟩ := hI
    refine lv_iload_n hC.1 hC.2.1 dX3_keep_11 rfl (lv_at hl 1 rfl) ?_
    refine lv_sipush (v := 161) hC.1 hC.2.1 dX3_keep_12 (by decide) ?_
    refine lv_icmp_ge (tgt := 39) hC.1 hC.2.1 dX3_keep_15 (by decide) (fun c4 => ?_) (fun c4 => ?_)
    ·
      have nc4 := Int32.not_lt.mpr c4
      have hx15 := nle_t (a := 161) (b := k) c4
      obtain rfl : k = 161 := by omega
      refine lv_aload_n hC.1 hC.2.1 dX3_keep_39 rfl (lv_at hl 0 rfl) ?_
      refine lv_dup hC.1 hC.2.1 dX3_keep_40 rfl ?_
      refine m_get hC hK hM 8 (by decide) q1270 rfl rfl dX3_keep_41 ?_
      refine lv_iconst (v := 1) hC.1 hC.2.1 dX3_keep_44 (by decide) ?_
      refine lv_isub hC.1 hC.2.1 dX3_keep_45 ?_
      refine m_put hC hK hM 8 (by decide) q1270 rfl rfl rfl rfl dX3_keep_46 (fun H locs hM => ?_)
      obtain ⟨b, eb, hb, ib⟩ : ∃ b, upd v 8 (v 8 - 1) 8 = nI b ∧ b < 24 ∧ b = 23 := ⟨23, by rw [upd_s, cA]; rfl, by omega, rfl⟩
      refine lv_iconst (v := 0) hC.1 hC.2.1 dX3_keep_49 (by decide) ?_
      refine lv_istore_n (lv' := [(1, _), (0, _)]) hC.1 hC.2.1 dX3_keep_50 rfl hl (by decide) rfl (fun ls hl => ?_)
      refine w_ind (α := Nat) 51 (fun (k : Nat) => 6 - k) (fun (k : Nat) (H : Heap) (locs : List Loc) (ls : Array Slot) => (k ≤ 6) ∧ MS D ac A G s.heap mo ad (upd v 8 (v 8 - 1)) (wseg (wseg w 7 0 161 (fun q => w 7 (q + 7))) 7 (7 * b) k (fun k => w 5 (8 + 3 * k + 1))) H locs ∧ lv_has ls 2 [(0, .ref mo), (1, .int (nI k))]) ?_ (0) ⟨by omega, by rw [wseg_0]; exact hM, lv_sub hl [1, 0] rfl⟩
      intro k H locs ls hI ih51
      obtain ⟨hI51, hM, hl⟩ := hI
      refine lv_iload_n hC.1 hC.2.1 dX3_keep_51 rfl (lv_at hl 1 rfl) ?_
      refine lv_bipush (v := 6) hC.1 hC.2.1 dX3_keep_52 (by decide) ?_
      refine lv_icmp_ge (tgt := 83) hC.1 hC.2.1 dX3_keep_54 (by decide) (fun c5 => ?_) (fun c5 => ?_)
      ·
        have nc5 := Int32.not_lt.mpr c5
        have hx54 := nle_t (a := 6) (b := k) c5
        obtain rfl : k = 6 := by omega
        refine lv_aload_n hC.1 hC.2.1 dX3_keep_83 rfl (lv_at hl 0 rfl) ?_
        refine m_get hC hK hM 7 (by decide) q1269 rfl rfl dX3_keep_84 ?_
        refine lv_bipush (v := 7) hC.1 hC.2.1 dX3_keep_87 (by decide) ?_
        refine lv_aload_n hC.1 hC.2.1 dX3_keep_89 rfl (lv_at hl 0 rfl) ?_
        refine m_get hC hK hM 8 (by decide) q1270 rfl rfl dX3_keep_90 ?_
        rw [eb]
        refine lv_imul hC.1 hC.2.1 dX3_keep_93 ?_
        refine lv_bipush (v := 6) hC.1 hC.2.1 dX3_keep_94 (by decide) ?_
        refine lv_iadd hC.1 hC.2.1 dX3_keep_96 ?_
        refine lv_aload_n hC.1 hC.2.1 dX3_keep_97 rfl (lv_at hl 0 rfl) ?_
        refine m_get hC hK hM 5 (by decide) q1267 rfl rfl dX3_keep_98 ?_
        refine lv_bipush (v := 6) hC.1 hC.2.1 dX3_keep_101 (by decide) ?_
        refine m_iald hC hK hM 5 rfl (n := 6) (by first | rfl | (simp only [← nI_add, ← pk_mul]; rfl)) (by first | decide | (show _ < 94; omega)) dX3_keep_103 ?_
        refine m_iast hC hK hM 7 rfl (n := ((7 * b) + 6)) (by first | rfl | (simp only [← nI_add, ← pk_mul]; rfl)) (by first | decide | (show _ < 168; omega)) dX3_keep_104 (fun H locs hM => ?_)
        refine lv_aload_n hC.1 hC.2.1 dX3_keep_105 rfl (lv_at hl 0 rfl) ?_
        refine lv_dup hC.1 hC.2.1 dX3_keep_106 rfl ?_
        refine m_get hC hK hM 8 (by decide) q1270 rfl rfl dX3_keep_107 ?_
        refine lv_iconst (v := 1) hC.1 hC.2.1 dX3_keep_110 (by decide) ?_
        refine lv_iadd hC.1 hC.2.1 dX3_keep_111 ?_
        refine m_put hC hK hM 8 (by decide) q1270 rfl rfl rfl rfl dX3_keep_112 (fun H locs hM => ?_)
        refine m_vret hC hr hlocks hM dX3_keep_115 ?_
        subst ib
        exact ⟨by rw [keepV, if_pos cA]; rfl, by rw [keepW, if_pos cA]; rfl⟩
      ·
        have nc5 := Int32.not_le.mp c5
        have hx54 := nle_f (a := 6) (b := k) c5
        refine lv_aload_n hC.1 hC.2.1 dX3_keep_57 rfl (lv_at hl 0 rfl) ?_
        refine m_get hC hK hM 7 (by decide) q1269 rfl rfl dX3_keep_58 ?_
        refine lv_bipush (v := 7) hC.1 hC.2.1 dX3_keep_61 (by decide) ?_
        refine lv_aload_n hC.1 hC.2.1 dX3_keep_63 rfl (lv_at hl 0 rfl) ?_
        refine m_get hC hK hM 8 (by decide) q1270 rfl rfl dX3_keep_64 ?_
        rw [eb]
        refine lv_imul hC.1 hC.2.1 dX3_keep_67 ?_
        refine lv_iload_n hC.1 hC.2.1 dX3_keep_68 rfl (lv_at hl 1 rfl) ?_
        refine lv_iadd hC.1 hC.2.1 dX3_keep_69 ?_
        refine lv_aload_n hC.1 hC.2.1 dX3_keep_70 rfl (lv_at hl 0 rfl) ?_
        refine lv_iload_n hC.1 hC.2.1 dX3_keep_71 rfl (lv_at hl 1 rfl) ?_
        refine lv_iconst (v := 1) hC.1 hC.2.1 dX3_keep_72 (by decide) ?_
        refine m_cr hC hK hM (mc_stoneOf l _ _ k 1 (by omega) (by omega)) (cw_m 2 hC.2.2.2.2 q1467 q1469 qs41 q1470 ⟨rfl, rfl⟩ rfl (by decide +kernel) ⟨Nat.le_of_ble_eq_true rfl, Nat.le_of_ble_eq_true rfl⟩) rfl hl.1 rfl (lv_room (Nat.le_of_ble_eq_true rfl)) dX3_keep_73 ⟨Nat.le_of_ble_eq_true rfl, Nat.le_of_ble_eq_true rfl⟩ ?_
        refine m_iast hC hK hM 7 rfl (n := ((7 * b) + k)) (by first | rfl | (simp only [← nI_add, ← pk_mul]; rfl)) (by first | decide | (show _ < 168; omega)) dX3_keep_76 (fun H locs hM => ?_)
        refine lv_iinc (v := nI (k + 1)) (lv' := [(1, _), (0, _)]) hC.1 hC.2.1 dX3_keep_77 hl (k := 1) rfl (nI_1 _) (by decide) rfl (fun ls hl => ?_)
        refine lv_goto (tgt := 51) hC.1 hC.2.1 dX3_keep_80 (by decide) ?_
        exact ih51 (k + 1) _ _ _ (by omega) ⟨by omega, by rw [← wseg_s]; exact hM, lv_sub hl [1, 0] rfl⟩
    ·
      have nc4 := Int32.not_le.mp c4
      have hx15 := nle_f (a := 161) (b := k) c4
      refine lv_aload_n hC.1 hC.2.1 dX3_keep_18 rfl (lv_at hl 0 rfl) ?_
      refine m_get hC hK hM 7 (by decide) q1269 rfl rfl dX3_keep_19 ?_
      refine lv_iload_n hC.1 hC.2.1 dX3_keep_22 rfl (lv_at hl 1 rfl) ?_
      refine lv_aload_n hC.1 hC.2.1 dX3_keep_23 rfl (lv_at hl 0 rfl) ?_
      refine m_get hC hK hM 7 (by decide) q1269 rfl rfl dX3_keep_24 ?_
      refine lv_iload_n hC.1 hC.2.1 dX3_keep_27 rfl (lv_at hl 1 rfl) ?_
      refine lv_bipush (v := 7) hC.1 hC.2.1 dX3_keep_28 (by decide) ?_
      refine lv_iadd hC.1 hC.2.1 dX3_keep_30 ?_
      refine m_iald hC hK hM 7 rfl (n := (k + 7)) (by first | rfl | (simp only [← nI_add, ← pk_mul]; rfl)) (by first | decide | (show _ < 168; omega)) dX3_keep_31 ?_
      refine m_iast hC hK hM 7 rfl (n := k) (by first | rfl | (simp only [← nI_add, ← pk_mul]; rfl)) (by first | decide | (show _ < 168; omega)) dX3_keep_32 (fun H locs hM => ?_)
      refine lv_iinc (v := nI (k + 1)) (lv' := [(1, _), (0, _)]) hC.1 hC.2.1 dX3_keep_33 hl (k := 1) rfl (nI_1 _) (by decide) rfl (fun ls hl => ?_)
      refine lv_goto (tgt := 11) hC.1 hC.2.1 dX3_keep_36 (by decide) ?_
      exact ih11 (k + 1) _ _ _ (by omega) ⟨by omega, by rw [← wseg_sx (w := w) (a := 7) (lo := 0) (n := k) (m := k) (f := fun q => w 7 (q + 7)) (by omega) (wseg_out (w := w) (a := 7) (lo := 0) (n := k) (q := k + 7) (f := fun q => w 7 (q + 7)) (by omega))]; exact hM, lv_sub hl [1, 0] rfl⟩

set_option maxHeartbeats 400000 in
set_option maxRecDepth 100000 in
theorem mc_night (l : Launch) (v : Nat → Int32) (w : Nat → Nat → Int32) (n mv a nt : Nat) (en : w 5 4 = nI n) (hn : n ≤ 6) (em : w 5 5 = nI mv) (hm : mv ≤ 5) (hmo : movOk (w 5) n mv) (ea : v 8 = nI a) (ha : a ≤ 24) (ent : w 5 6 = nI nt) (hnt : nt < 2 ^ 29) : mMi l yX3_night cX3_night 3 (some .int) ({ frames := 3, cells := 0, slots := 0, locals := 74 }) [] v w (fun r v1 w1 => (r, v1, w1) = op_night v w) := by
  intro D ac A G mo ad
  refine m_body rfl (Nat.le_of_ble_eq_true rfl) ?_
  intro p e s m args below meth c ls hC hr hlocks hK hM hl
  have hl : lv_has ls 3 [(0, .ref mo)] := hl
  have i4 : iN (w 5 4) = n := by rw [en]; exact iN_nI (by omega)
  have i5 : iN (w 5 5) = mv := by rw [em]; exact iN_nI (by omega)
  have i6 : iN (w 5 6) = nt := by rw [ent]; exact iN_nI (by omega)
  refine lv_aload_n hC.1 hC.2.1 dX3_night_0 rfl (lv_at hl 0 rfl) ?_
  refine lv_iconst (v := 0) hC.1 hC.2.1 dX3_night_1 (by decide) ?_
  refine m_put hC hK hM 0 (by decide) q1262 rfl rfl rfl rfl dX3_night_2 (fun H locs hM => ?_)
  refine lv_aload_n hC.1 hC.2.1 dX3_night_5 rfl (lv_at hl 0 rfl) ?_
  refine m_cr hC hK hM (mc_isThere l _ _) (cw_m 0 hC.2.2.2.2 q1458 q1460 qs39 q1461 ⟨rfl, rfl⟩ rfl (by decide +kernel) ⟨Nat.le_of_ble_eq_true rfl, Nat.le_of_ble_eq_true rfl⟩) rfl hl.1 rfl (lv_room (Nat.le_of_ble_eq_true rfl)) dX3_night_6 ⟨Nat.le_of_ble_eq_true rfl, Nat.le_of_ble_eq_true rfl⟩ ?_
  refine lv_if_ne (tgt := 15) hC.1 hC.2.1 dX3_night_9 (by decide) (fun c2 => ?_) (fun c2 => ?_)
  ·
    skip
    rw [bI_n0] at c2
    have cT := c2
    refine lv_aload_n hC.1 hC.2.1 dX3_night_15 rfl (lv_at hl 0 rfl) ?_
    refine m_get hC hK hM 5 (by decide) q1267 rfl rfl dX3_night_16 ?_
    refine lv_bipush (v := 6) hC.1 hC.2.1 dX3_night_19 (by decide) ?_
    refine m_iald hC hK hM 5 rfl (n := 6) (by first | rfl | (simp only [← nI_add, ← pk_mul]; rfl)) (by first | decide | (show _ < 94; omega)) dX3_night_21 ?_
    refine lv_sipush (v := 9999) hC.1 hC.2.1 dX3_night_22 (by decide) ?_
    refine lv_icmp_ne (tgt := 31) hC.1 hC.2.1 dX3_night_25 (by decide) (fun c3 => ?_) (fun c3 => ?_)
    ·
      skip
      have cN := c3
      refine lv_aload_n hC.1 hC.2.1 dX3_night_31 rfl (lv_at hl 0 rfl) ?_
      refine m_cve hC hK hM (mc_keep l _ _ a ea ha) (cw_m 0 hC.2.2.2.2 q1463 q1465 qs40 q1466 ⟨rfl, rfl⟩ rfl (by decide +kernel) ⟨Nat.le_of_ble_eq_true rfl, Nat.le_of_ble_eq_true rfl⟩) rfl hl.1 rfl (lv_room (Nat.le_of_ble_eq_true rfl)) dX3_night_32 ⟨Nat.le_of_ble_eq_true rfl, Nat.le_of_ble_eq_true rfl⟩ (fun H locs hM => ?_)
      have k5 : keepW (upd v 0 0) w 5 = w 5 := keepW_o (by decide)
      have k19 : keepW (upd v 0 0) w 19 = w 19 := keepW_o (by decide)
      generalize hw1 : keepW (upd v 0 0) w = w1 at hM k5 k19
      refine lv_aload_n hC.1 hC.2.1 dX3_night_35 rfl (lv_at hl 0 rfl) ?_
      refine lv_iconst (v := 1) hC.1 hC.2.1 dX3_night_36 (by decide) ?_
      refine m_cve hC hK hM (mc_layNow l _ _ 1 (by decide) n (by rw [k5]; exact en) hn) (cw_m 1 hC.2.2.2.2 q1471 q1473 qs42 q1474 ⟨rfl, rfl⟩ rfl (by decide +kernel) ⟨Nat.le_of_ble_eq_true rfl, Nat.le_of_ble_eq_true rfl⟩) rfl hl.1 rfl (lv_room (Nat.le_of_ble_eq_true rfl)) dX3_night_37 ⟨Nat.le_of_ble_eq_true rfl, Nat.le_of_ble_eq_true rfl⟩ (fun H locs hM => ?_)
      refine lv_aload_n hC.1 hC.2.1 dX3_night_40 rfl (lv_at hl 0 rfl) ?_
      refine lv_aload_n hC.1 hC.2.1 dX3_night_41 rfl (lv_at hl 0 rfl) ?_
      refine m_get hC hK hM 5 (by decide) q1267 rfl rfl dX3_night_42 ?_
      refine lv_bipush (v := 6) hC.1 hC.2.1 dX3_night_45 (by decide) ?_
      refine m_iald hC hK hM 5 rfl (n := 6) (by first | rfl | (simp only [← nI_add, ← pk_mul]; rfl)) (by first | decide | (show _ < 94; omega)) dX3_night_47 ?_
      rw [show wput w1 19 (layF (w1 5) (w1 19) n 1) 5 6 = nI nt by show w1 5 6 = _; rw [k5]; exact ent]
      refine lv_bipush (v := 31) hC.1 hC.2.1 dX3_night_48 (by decide) ?_
      refine m_cve hC hK hM (mc_goNight l _ _ nt _ n mv (by show w1 5 4 = _; rw [k5]; exact en) hn (by show w1 5 5 = _; rw [k5]; exact em) hm (by show movOk (w1 5) n mv; rw [k5]; exact hmo) (by omega)) (cw_m 2 hC.2.2.2.2 q1475 q1477 qs43 q1478 ⟨rfl, rfl⟩ rfl (by decide +kernel) ⟨Nat.le_of_ble_eq_true rfl, Nat.le_of_ble_eq_true rfl⟩) rfl hl.1 rfl (lv_room (Nat.le_of_ble_eq_true rfl)) dX3_night_50 ⟨Nat.le_of_ble_eq_true rfl, Nat.le_of_ble_eq_true rfl⟩ (fun H locs hM => ?_)
      generalize hF : goF (wput w1 19 (layF (w1 5) (w1 19) n 1) 5) n nt 31 (wput w1 19 (layF (w1 5) (w1 19) n 1) 19) mv = F at hM
      rw [wput_wput] at hM
      refine lv_iconst (v := 0) hC.1 hC.2.1 dX3_night_53 (by decide) ?_
      refine lv_istore_n (lv' := [(1, _), (0, _)]) hC.1 hC.2.1 dX3_night_54 rfl hl (by decide) rfl (fun ls hl => ?_)
      refine lv_iconst (v := 0) hC.1 hC.2.1 dX3_night_55 (by decide) ?_
      refine lv_istore_n (lv' := [(2, _), (1, _), (0, _)]) hC.1 hC.2.1 dX3_night_56 rfl hl (by decide) rfl (fun ls hl => ?_)
      refine w_ind (α := Nat) 57 (fun (k : Nat) => n - k) (fun (k : Nat) (H : Heap) (locs : List Loc) (ls : Array Slot) => (k ≤ n) ∧ MS D ac A G s.heap mo ad (keepV (upd v 0 0)) (wst (wput w1 19 F) k F) H locs ∧ lv_has ls 3 [(0, .ref mo), (1, .int (difL F (fun k => w 5 (8 + 3 * k + 1)) k)), (2, .int (nI k))]) ?_ (0) ⟨by omega, by rw [wst_0]; exact hM, lv_sub hl [2, 1, 0] rfl⟩
      intro k H locs ls hI ih57
      obtain ⟨hI57, hM, hl⟩ := hI
      refine lv_iload_n hC.1 hC.2.1 dX3_night_57 rfl (lv_at hl 2 rfl) ?_
      refine lv_aload_n hC.1 hC.2.1 dX3_night_58 rfl (lv_at hl 0 rfl) ?_
      refine m_get hC hK hM 5 (by decide) q1267 rfl rfl dX3_night_59 ?_
      refine lv_iconst (v := 4) hC.1 hC.2.1 dX3_night_62 (by decide) ?_
      refine m_iald hC hK hM 5 rfl (n := 4) (by first | rfl | (simp only [← nI_add, ← pk_mul]; rfl)) (by first | decide | (show _ < 94; omega)) dX3_night_63 ?_
      rw [show wst (wput w1 19 F) k F 5 4 = nI n by rw [wst_lo (by omega)]; show w1 5 4 = _; rw [k5]; exact en]
      refine lv_icmp_ge (tgt := 117) hC.1 hC.2.1 dX3_night_64 (by decide) (fun c7 => ?_) (fun c7 => ?_)
      ·
        have nc7 := Int32.not_lt.mpr c7
        have hx64 := nle_t (a := n) (b := k) c7
        obtain rfl : n = k := by omega
        refine lv_aload_n hC.1 hC.2.1 dX3_night_117 rfl (lv_at hl 0 rfl) ?_
        refine m_get hC hK hM 5 (by decide) q1267 rfl rfl dX3_night_118 ?_
        refine lv_bipush (v := 6) hC.1 hC.2.1 dX3_night_121 (by decide) ?_
        refine lv_dup2_11 hC.1 hC.2.1 dX3_night_123 rfl rfl ?_
        refine m_iald hC hK hM 5 rfl (n := 6) rfl (by decide) dX3_night_124 ?_
        refine lv_iconst (v := 1) hC.1 hC.2.1 dX3_night_125 (by decide) ?_
        refine lv_iadd hC.1 hC.2.1 dX3_night_126 ?_
        refine m_iast hC hK hM 5 rfl (n := 6) rfl (by decide) dX3_night_127 (fun H locs hM => ?_)
        refine lv_iload_n hC.1 hC.2.1 dX3_night_128 rfl (lv_at hl 1 rfl) ?_
        refine m_iret hC hr hlocks hM dX3_night_129 ?_
        have e6 : wst (wput w1 19 F) n F 5 6 = w 5 6 := by rw [wst_lo (by omega)]; show w1 5 6 = _; rw [k5]
        show (_, _, wup _ 5 6 (wst (wput w1 19 F) n F 5 6 + 1)) = _
        rw [e6, op_night, if_neg (fun h => h cT), if_neg cN]
        simp only [i4, i5, i6]
        have hF2 : goF (w 5) n nt 31 (layF (w 5) (w 19) n 1) mv = F := by rw [← hF]; show _ = goF (w1 5) n nt 31 (layF (w1 5) (w1 19) n 1) mv; rw [k5, k19]
        rw [hF2, show keepW v w = w1 from hw1]
      ·
        have nc7 := Int32.not_le.mp c7
        have hx64 := nle_f (a := n) (b := k) c7
        refine lv_iload_n hC.1 hC.2.1 dX3_night_67 rfl (lv_at hl 1 rfl) ?_
        refine lv_aload_n hC.1 hC.2.1 dX3_night_68 rfl (lv_at hl 0 rfl) ?_
        refine m_get hC hK hM 19 (by decide) q1281 rfl rfl dX3_night_69 ?_
        refine lv_iload_n hC.1 hC.2.1 dX3_night_72 rfl (lv_at hl 2 rfl) ?_
        refine m_iald hC hK hM 19 rfl (n := k) (by first | rfl | (simp only [← nI_add, ← pk_mul]; rfl)) (by first | decide | (show _ < 6; omega)) dX3_night_73 ?_
        refine lv_aload_n hC.1 hC.2.1 dX3_night_74 rfl (lv_at hl 0 rfl) ?_
        refine lv_iload_n hC.1 hC.2.1 dX3_night_75 rfl (lv_at hl 2 rfl) ?_
        refine lv_iconst (v := 1) hC.1 hC.2.1 dX3_night_76 (by decide) ?_
        refine m_cr hC hK hM (mc_stoneOf l _ _ k 1 (by omega) (by omega)) (cw_m 2 hC.2.2.2.2 q1467 q1469 qs41 q1470 ⟨rfl, rfl⟩ rfl (by decide +kernel) ⟨Nat.le_of_ble_eq_true rfl, Nat.le_of_ble_eq_true rfl⟩) rfl hl.1 rfl (lv_room (Nat.le_of_ble_eq_true rfl)) dX3_night_77 ⟨Nat.le_of_ble_eq_true rfl, Nat.le_of_ble_eq_true rfl⟩ ?_
        rw [show wst (wput w1 19 F) k F 5 (8 + 3 * k + 1) = w 5 (8 + 3 * k + 1) by rw [wst_out (by omega)]; show w1 5 _ = _; rw [k5]]
        refine w_tern2 (cond := F k = w 5 (8 + 3 * k + 1)) (a := 0) (b := 1 <<< (nI k &&& 31)) 90 ?_ (fun jt80 jf80 => ?_)
        ·
          skip
          refine lv_ior hC.1 hC.2.1 dX3_night_90 ?_
          refine lv_istore_n (lv' := [(1, _), (0, _), (2, _)]) hC.1 hC.2.1 dX3_night_91 rfl hl (by decide) rfl (fun ls hl => ?_)
          refine lv_aload_n hC.1 hC.2.1 dX3_night_92 rfl (lv_at hl 1 rfl) ?_
          refine m_get hC hK hM 5 (by decide) q1267 rfl rfl dX3_night_93 ?_
          refine lv_bipush (v := 8) hC.1 hC.2.1 dX3_night_96 (by decide) ?_
          refine lv_iconst (v := 3) hC.1 hC.2.1 dX3_night_98 (by decide) ?_
          refine lv_iload_n hC.1 hC.2.1 dX3_night_99 rfl (lv_at hl 2 rfl) ?_
          refine lv_imul hC.1 hC.2.1 dX3_night_100 ?_
          refine lv_iadd hC.1 hC.2.1 dX3_night_101 ?_
          refine lv_iconst (v := 1) hC.1 hC.2.1 dX3_night_102 (by decide) ?_
          refine lv_iadd hC.1 hC.2.1 dX3_night_103 ?_
          refine lv_aload_n hC.1 hC.2.1 dX3_night_104 rfl (lv_at hl 1 rfl) ?_
          refine m_get hC hK hM 19 (by decide) q1281 rfl rfl dX3_night_105 ?_
          refine lv_iload_n hC.1 hC.2.1 dX3_night_108 rfl (lv_at hl 2 rfl) ?_
          refine m_iald hC hK hM 19 rfl (n := k) (by first | rfl | (simp only [← nI_add, ← pk_mul]; rfl)) (by first | decide | (show _ < 6; omega)) dX3_night_109 ?_
          refine m_iast hC hK hM 5 rfl (n := ((8 + (3 * k)) + 1)) (by first | rfl | (simp only [← nI_add, ← pk_mul]; rfl)) (by first | decide | (show _ < 94; omega)) dX3_night_110 (fun H locs hM => ?_)
          refine lv_iinc (v := nI (k + 1)) (lv' := [(2, _), (1, _), (0, _)]) hC.1 hC.2.1 dX3_night_111 hl (k := 2) rfl (nI_1 _) (by decide) rfl (fun ls hl => ?_)
          refine lv_goto (tgt := 57) hC.1 hC.2.1 dX3_night_114 (by decide) ?_
          exact ih57 (k + 1) _ _ _ (by omega) ⟨by omega, by rw [← wst_s (w := wput w1 19 F) (f := F) (n := k) rfl rfl]; exact hM, lv_sub hl [2, 1, 0] rfl⟩
        ·
          skip
          refine lv_icmp_eq (tgt := 89) hC.1 hC.2.1 dX3_night_80 (by decide) (fun c9 => ?_) (fun c9 => ?_)
          ·
            skip
            refine lv_iconst (v := 0) hC.1 hC.2.1 dX3_night_89 (by decide) ?_
            first | exact jt80 (by first | assumption | (simp_all; done) | grind) | exact jf80 (by first | assumption | (simp_all; done) | grind)
          ·
            skip
            refine lv_iconst (v := 1) hC.1 hC.2.1 dX3_night_83 (by decide) ?_
            refine lv_iload_n hC.1 hC.2.1 dX3_night_84 rfl (lv_at hl 2 rfl) ?_
            refine lv_ishl hC.1 hC.2.1 dX3_night_85 ?_
            refine lv_goto (tgt := 90) hC.1 hC.2.1 dX3_night_86 (by decide) ?_
            first | exact jt80 (by first | assumption | (simp_all; done) | grind) | exact jf80 (by first | assumption | (simp_all; done) | grind)
    ·
      skip
      refine lv_ldc hC.1 hC.2.1 hC.2.2.2.1 (hC.2.2.2.2 _ q1377) dX3_night_28 ?_
      refine m_iret hC hr hlocks hM dX3_night_30 ?_
      first | (simp [op_night, wup_s, upd_s, wup_n, upd_n, *]; done) | (simp_all [op_night, wup_s, upd_s, wup_n, upd_n]; done) | grind [op_night, wup_s, upd_s, wup_n, upd_n]
  ·
    skip
    rw [bI_0] at c2
    refine lv_ldc hC.1 hC.2.1 hC.2.2.2.1 (hC.2.2.2.2 _ q1462) dX3_night_12 ?_
    refine m_iret hC hr hlocks hM dX3_night_14 ?_
    first | (simp [op_night, wup_s, upd_s, wup_n, upd_n, *]; done) | (simp_all [op_night, wup_s, upd_s, wup_n, upd_n]; done) | grind [op_night, wup_s, upd_s, wup_n, upd_n]
