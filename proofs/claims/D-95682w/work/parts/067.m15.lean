set_option maxHeartbeats 400000 in
set_option maxRecDepth 100000 in
theorem mc_road (l : Launch) (v : Nat → Int32) (w : Nat → Nat → Int32) (L : Nat) (eT : v 10 = nI L) (hL : L ≤ 400) (htp : tpOk (w 9) L) : mMi l yX3_road cX3_road 2 (some .int) ({ frames := 5, cells := 0, slots := 0, locals := 111 }) [] v w (fun r v1 w1 => (r, v1, w1) = op_road v w) := by
  intro D ac A G mo ad
  refine m_body rfl (Nat.le_of_ble_eq_true rfl) ?_
  intro p e s m args below meth c ls hC hr hlocks hK hM hl
  have hl : lv_has ls 2 [(0, .ref mo)] := hl
  have iT : iN (v 10) = L := by rw [eT]; exact iN_nI (by omega)
  refine lv_aload_n hC.1 hC.2.1 dX3_road_0 rfl (lv_at hl 0 rfl) ?_
  refine lv_iconst (v := 0) hC.1 hC.2.1 dX3_road_1 (by decide) ?_
  refine m_put hC hK hM 0 (by decide) q1262 rfl rfl rfl rfl dX3_road_2 (fun H locs hM => ?_)
  refine lv_aload_n hC.1 hC.2.1 dX3_road_5 rfl (lv_at hl 0 rfl) ?_
  refine m_cve hC hK hM (mc_begin l _ _ L (by exact eT) hL htp) (cw_m 0 hC.2.2.2.2 q1383 q1385 qs27 q1386 ⟨rfl, rfl⟩ rfl (by decide +kernel) ⟨Nat.le_of_ble_eq_true rfl, Nat.le_of_ble_eq_true rfl⟩) rfl hl.1 rfl (lv_room (Nat.le_of_ble_eq_true rfl)) dX3_road_6 ⟨Nat.le_of_ble_eq_true rfl, Nat.le_of_ble_eq_true rfl⟩ (fun H locs hM => ?_)
  have hM : MS D ac A G s.heap mo ad (rdA (w 9) L (upd v 0 0)) w H locs := by rw [rdA]; exact hM
  have hA := PV.rdA (v := upd v 0 0) (w 9) (show upd v 0 0 10 = nI L from eT) hL
  refine lv_iconst (v := 0) hC.1 hC.2.1 dX3_road_9 (by decide) ?_
  refine lv_istore_n (lv' := [(1, _), (0, _)]) hC.1 hC.2.1 dX3_road_10 rfl hl (by decide) rfl (fun ls hl => ?_)
  refine w_ind (α := Nat) 11 (fun (k : Nat) => 94 - k) (fun (k : Nat) (H : Heap) (locs : List Loc) (ls : Array Slot) => (k ≤ 94) ∧ MS D ac A G s.heap mo ad (rdA (w 9) L (upd v 0 0)) (wput w 6 (fz (w 6) k)) H locs ∧ lv_has ls 2 [(0, .ref mo), (1, .int (nI k))]) ?_ (0) ⟨by omega, by rw [fz_0, wput_self]; exact hM, lv_sub hl [1, 0] rfl⟩
  intro k H locs ls hI ih11
  obtain ⟨hI11, hM, hl⟩ := hI
  refine lv_iload_n hC.1 hC.2.1 dX3_road_11 rfl (lv_at hl 1 rfl) ?_
  refine lv_bipush (v := 94) hC.1 hC.2.1 dX3_road_12 (by decide) ?_
  refine lv_icmp_ge (tgt := 30) hC.1 hC.2.1 dX3_road_14 (by decide) (fun c2 => ?_) (fun c2 => ?_)
  ·
    have nc2 := Int32.not_lt.mpr c2
    have hx14 := nle_t (a := 94) (b := k) c2
    obtain rfl : k = 94 := by omega
    refine lv_aload_n hC.1 hC.2.1 dX3_road_30 rfl (lv_at hl 0 rfl) ?_
    refine lv_aload_n hC.1 hC.2.1 dX3_road_31 rfl (lv_at hl 0 rfl) ?_
    refine m_crl hC hK hM (mc_name l _ _ L hA (by exact htp)) (cw_m 0 hC.2.2.2.2 q1402 q1404 qs30 q1405 ⟨rfl, rfl⟩ rfl (by decide +kernel) ⟨Nat.le_of_ble_eq_true rfl, Nat.le_of_ble_eq_true rfl⟩) rfl hl.1 rfl (lv_room (Nat.le_of_ble_eq_true rfl)) dX3_road_32 ⟨Nat.le_of_ble_eq_true rfl, Nat.le_of_ble_eq_true rfl⟩ ?_
    rw [wput_n (show (9 : Nat) ≠ 6 by decide)]
    refine lv_ldc2 hC.1 hC.2.1 hC.2.2.2.1 (hC.2.2.2.2 _ q1406) dX3_road_35 ?_
    refine W.lcmp hC.1 hC.2.1 dX3_road_38 ?_
    refine w_tern1 (cond := nameV (w 9) (rdA (w 9) L (upd v 0 0)) = 7102839) (a := 1) (b := 0) 47 ?_ (fun jt39 jf39 => ?_)
    ·
      skip
      refine m_cve hC hK hM (mc_must l _ _ _ L hA (by exact htp)) (cw_m 1 hC.2.2.2.2 q1407 q1409 qs31 q1410 ⟨rfl, rfl⟩ rfl (by decide +kernel) ⟨Nat.le_of_ble_eq_true rfl, Nat.le_of_ble_eq_true rfl⟩) rfl hl.1 rfl (lv_room (Nat.le_of_ble_eq_true rfl)) dX3_road_47 ⟨Nat.le_of_ble_eq_true rfl, Nat.le_of_ble_eq_true rfl⟩ (fun H locs hM => ?_)
      rw [wput_n (show (9 : Nat) ≠ 6 by decide)] at hM
      have hM : MS D ac A G s.heap mo ad (rdB (w 9) L (upd v 0 0)) (wput w 6 (fz (w 6) 94)) H locs := by rw [rdB, bI]; exact hM
      have hB : PV L (rdB (w 9) L (upd v 0 0)) := by rw [rdB]; exact hA.must (w 9) _
      refine lv_aload_n hC.1 hC.2.1 dX3_road_50 rfl (lv_at hl 0 rfl) ?_
      refine m_get hC hK hM 6 (by decide) q1268 rfl rfl dX3_road_51 ?_
      refine lv_iconst (v := 0) hC.1 hC.2.1 dX3_road_54 (by decide) ?_
      refine lv_aload_n hC.1 hC.2.1 dX3_road_55 rfl (lv_at hl 0 rfl) ?_
      refine lv_bipush (v := 10) hC.1 hC.2.1 dX3_road_56 (by decide) ?_
      refine lv_sipush (v := 200) hC.1 hC.2.1 dX3_road_58 (by decide) ?_
      refine m_cie hC hK hM (mc_number l _ _ _ _ L hB (by exact htp)) (cw_m 2 hC.2.2.2.2 q1415 q1417 qs33 q1418 ⟨rfl, rfl⟩ rfl (by decide +kernel) ⟨Nat.le_of_ble_eq_true rfl, Nat.le_of_ble_eq_true rfl⟩) rfl hl.1 rfl (lv_room (Nat.le_of_ble_eq_true rfl)) dX3_road_61 ⟨Nat.le_of_ble_eq_true rfl, Nat.le_of_ble_eq_true rfl⟩ (fun H locs hM => ?_)
      rw [wput_n (show (9 : Nat) ≠ 6 by decide)] at hM ⊢
      have hM : MS D ac A G s.heap mo ad (rd0 (w 9) L (upd v 0 0)) (wput w 6 (fz (w 6) 94)) H locs := by rw [rd0]; exact hM
      have hp0 : PV L (rd0 (w 9) L (upd v 0 0)) := by rw [rd0]; exact hB.num (w 9) _ _
      refine m_iast hC hK hM 6 rfl (n := 0) (by first | rfl | (simp only [← nI_add, ← pk_mul]; rfl)) (by first | decide | (show _ < 94; omega)) dX3_road_64 (fun H locs hM => ?_)
      rw [wup_wput] at hM
      refine lv_aload_n hC.1 hC.2.1 dX3_road_65 rfl (lv_at hl 0 rfl) ?_
      refine m_get hC hK hM 6 (by decide) q1268 rfl rfl dX3_road_66 ?_
      refine lv_iconst (v := 1) hC.1 hC.2.1 dX3_road_69 (by decide) ?_
      refine lv_aload_n hC.1 hC.2.1 dX3_road_70 rfl (lv_at hl 0 rfl) ?_
      refine lv_iconst (v := 0) hC.1 hC.2.1 dX3_road_71 (by decide) ?_
      refine lv_bipush (v := 20) hC.1 hC.2.1 dX3_road_72 (by decide) ?_
      refine m_cie hC hK hM (mc_number l _ _ _ _ L hp0 (by exact htp)) (cw_m 2 hC.2.2.2.2 q1415 q1417 qs33 q1418 ⟨rfl, rfl⟩ rfl (by decide +kernel) ⟨Nat.le_of_ble_eq_true rfl, Nat.le_of_ble_eq_true rfl⟩) rfl hl.1 rfl (lv_room (Nat.le_of_ble_eq_true rfl)) dX3_road_74 ⟨Nat.le_of_ble_eq_true rfl, Nat.le_of_ble_eq_true rfl⟩ (fun H locs hM => ?_)
      rw [wput_n (show (9 : Nat) ≠ 6 by decide)] at hM ⊢
      have hM : MS D ac A G s.heap mo ad (rd1 (w 9) L (upd v 0 0)) (wput w 6 (upd (fz (w 6) 94) 0 (numR (w 9) (rdB (w 9) L (upd v 0 0))))) H locs := by rw [rd1]; exact hM
      have hp1 : PV L (rd1 (w 9) L (upd v 0 0)) := by rw [rd1]; exact hp0.num (w 9) _ _
      refine m_iast hC hK hM 6 rfl (n := 1) (by first | rfl | (simp only [← nI_add, ← pk_mul]; rfl)) (by first | decide | (show _ < 94; omega)) dX3_road_77 (fun H locs hM => ?_)
      rw [wup_wput] at hM
      refine lv_aload_n hC.1 hC.2.1 dX3_road_78 rfl (lv_at hl 0 rfl) ?_
      refine m_get hC hK hM 6 (by decide) q1268 rfl rfl dX3_road_79 ?_
      refine lv_iconst (v := 2) hC.1 hC.2.1 dX3_road_82 (by decide) ?_
      refine lv_aload_n hC.1 hC.2.1 dX3_road_83 rfl (lv_at hl 0 rfl) ?_
      refine lv_iconst (v := 0) hC.1 hC.2.1 dX3_road_84 (by decide) ?_
      refine lv_bipush (v := 100) hC.1 hC.2.1 dX3_road_85 (by decide) ?_
      refine m_cie hC hK hM (mc_number l _ _ _ _ L hp1 (by exact htp)) (cw_m 2 hC.2.2.2.2 q1415 q1417 qs33 q1418 ⟨rfl, rfl⟩ rfl (by decide +kernel) ⟨Nat.le_of_ble_eq_true rfl, Nat.le_of_ble_eq_true rfl⟩) rfl hl.1 rfl (lv_room (Nat.le_of_ble_eq_true rfl)) dX3_road_87 ⟨Nat.le_of_ble_eq_true rfl, Nat.le_of_ble_eq_true rfl⟩ (fun H locs hM => ?_)
      rw [wput_n (show (9 : Nat) ≠ 6 by decide)] at hM ⊢
      have hM : MS D ac A G s.heap mo ad (rd2 (w 9) L (upd v 0 0)) (wput w 6 (upd (upd (fz (w 6) 94) 0 (numR (w 9) (rdB (w 9) L (upd v 0 0)))) 1 (numR (w 9) (rd0 (w 9) L (upd v 0 0))))) H locs := by rw [rd2]; exact hM
      have hp2 : PV L (rd2 (w 9) L (upd v 0 0)) := by rw [rd2]; exact hp1.num (w 9) _ _
      refine m_iast hC hK hM 6 rfl (n := 2) (by first | rfl | (simp only [← nI_add, ← pk_mul]; rfl)) (by first | decide | (show _ < 94; omega)) dX3_road_90 (fun H locs hM => ?_)
      rw [wup_wput] at hM
      refine lv_aload_n hC.1 hC.2.1 dX3_road_91 rfl (lv_at hl 0 rfl) ?_
      refine m_get hC hK hM 6 (by decide) q1268 rfl rfl dX3_road_92 ?_
      refine lv_iconst (v := 3) hC.1 hC.2.1 dX3_road_95 (by decide) ?_
      refine lv_aload_n hC.1 hC.2.1 dX3_road_96 rfl (lv_at hl 0 rfl) ?_
      refine lv_iconst (v := 0) hC.1 hC.2.1 dX3_road_97 (by decide) ?_
      refine lv_bipush (v := 99) hC.1 hC.2.1 dX3_road_98 (by decide) ?_
      refine m_cie hC hK hM (mc_number l _ _ _ _ L hp2 (by exact htp)) (cw_m 2 hC.2.2.2.2 q1415 q1417 qs33 q1418 ⟨rfl, rfl⟩ rfl (by decide +kernel) ⟨Nat.le_of_ble_eq_true rfl, Nat.le_of_ble_eq_true rfl⟩) rfl hl.1 rfl (lv_room (Nat.le_of_ble_eq_true rfl)) dX3_road_100 ⟨Nat.le_of_ble_eq_true rfl, Nat.le_of_ble_eq_true rfl⟩ (fun H locs hM => ?_)
      rw [wput_n (show (9 : Nat) ≠ 6 by decide)] at hM ⊢
      have hM : MS D ac A G s.heap mo ad (rd3 (w 9) L (upd v 0 0)) (wput w 6 (upd (upd (upd (fz (w 6) 94) 0 (numR (w 9) (rdB (w 9) L (upd v 0 0)))) 1 (numR (w 9) (rd0 (w 9) L (upd v 0 0)))) 2 (numR (w 9) (rd1 (w 9) L (upd v 0 0))))) H locs := by rw [rd3]; exact hM
      have hp3 : PV L (rd3 (w 9) L (upd v 0 0)) := by rw [rd3]; exact hp2.num (w 9) _ _
      refine m_iast hC hK hM 6 rfl (n := 3) (by first | rfl | (simp only [← nI_add, ← pk_mul]; rfl)) (by first | decide | (show _ < 94; omega)) dX3_road_103 (fun H locs hM => ?_)
      rw [wup_wput] at hM
      refine lv_aload_n hC.1 hC.2.1 dX3_road_104 rfl (lv_at hl 0 rfl) ?_
      refine m_cve hC hK hM (mc_mustEnd l _ _ L hp3 (by exact htp)) (cw_m 0 hC.2.2.2.2 q1423 q1425 qs35 q1426 ⟨rfl, rfl⟩ rfl (by decide +kernel) ⟨Nat.le_of_ble_eq_true rfl, Nat.le_of_ble_eq_true rfl⟩) rfl hl.1 rfl (lv_room (Nat.le_of_ble_eq_true rfl)) dX3_road_105 ⟨Nat.le_of_ble_eq_true rfl, Nat.le_of_ble_eq_true rfl⟩ (fun H locs hM => ?_)
      rw [wput_n (show (9 : Nat) ≠ 6 by decide)] at hM
      have hM : MS D ac A G s.heap mo ad (rdE (w 9) L (upd v 0 0)) (wput w 6 (fr1 (w 9) L (upd v 0 0) (w 6))) H locs := by rw [rdE, fr1]; exact hM
      have hE : PV L (rdE (w 9) L (upd v 0 0)) := by rw [rdE]; exact hp3.end_ (w 9)
      have f4 : fr1 (w 9) L (upd v 0 0) (w 6) 4 = nI 0 := by
        rw [fr1, upd_n (by decide), upd_n (by decide), upd_n (by decide), upd_n (by decide), fz, if_pos (by decide)]
        rfl
      have f5 : fr1 (w 9) L (upd v 0 0) (w 6) 5 = 0 := by
        rw [fr1, upd_n (by decide), upd_n (by decide), upd_n (by decide), upd_n (by decide), fz, if_pos (by decide)]
      obtain ⟨vE, evE⟩ : ∃ x, x = rdE (w 9) L (upd v 0 0) := ⟨_, rfl⟩
      obtain ⟨fE, efE⟩ : ∃ x, x = fr1 (w 9) L (upd v 0 0) (w 6) := ⟨_, rfl⟩
      rw [← evE, ← efE] at hM
      rw [← evE] at hE
      rw [← efE] at f4 f5
      refine w_ind (α := Nat × Nat × (Nat → Int32) × (Nat → Int32)) 108 (fun (x_ : Nat × Nat × (Nat → Int32) × (Nat → Int32)) => (fun (k : Nat) (n : Nat) (u : (Nat → Int32)) (g : (Nat → Int32)) => k) x_.1 x_.2.1 x_.2.2.1 x_.2.2.2) (fun (x_ : Nat × Nat × (Nat → Int32) × (Nat → Int32)) (H : Heap) (locs : List Loc) (ls : Array Slot) => (fun (k : Nat) (n : Nat) (u : (Nat → Int32)) (g : (Nat → Int32)) => (PV L u ∧ g 4 = nI n ∧ n ≤ 6 ∧ g 5 = 0 ∧ (u 17 = 0 → 8 - n ≤ k) ∧ stnL (w 9) L k u g = stnL (w 9) L 8 vE fE) ∧ MS D ac A G s.heap mo ad (u) (wput w 6 g) H locs ∧ lv_has ls 2 [(0, .ref mo)]) x_.1 x_.2.1 x_.2.2.1 x_.2.2.2) ?_ ((8, 0, vE, fE)) ⟨⟨hE, f4, Nat.zero_le 6, f5, fun _ => (show 8 - 0 ≤ 8 by omega), by dsimp only⟩, hM, lv_sub hl [0] rfl⟩
      intro x_ H locs ls hI ih108
      obtain ⟨k, n, u, g⟩ := x_
      dsimp only at hI
      obtain ⟨hI108, hM, hl⟩ := hI
      refine lv_aload_n hC.1 hC.2.1 dX3_road_108 rfl (lv_at hl 0 rfl) ?_
      refine m_crl hC hK hM (mc_name l _ _ L hI108.1 (by exact htp)) (cw_m 0 hC.2.2.2.2 q1402 q1404 qs30 q1405 ⟨rfl, rfl⟩ rfl (by decide +kernel) ⟨Nat.le_of_ble_eq_true rfl, Nat.le_of_ble_eq_true rfl⟩) rfl hl.1 rfl (lv_room (Nat.le_of_ble_eq_true rfl)) dX3_road_109 ⟨Nat.le_of_ble_eq_true rfl, Nat.le_of_ble_eq_true rfl⟩ ?_
      rw [wput_n (show (9 : Nat) ≠ 6 by decide)]
      refine lv_ldc2 hC.1 hC.2.1 hC.2.2.2.1 (hC.2.2.2.2 _ q1427) dX3_road_112 ?_
      refine W.lcmp hC.1 hC.2.1 dX3_road_115 ?_
      refine lv_if_ne (tgt := 126) hC.1 hC.2.1 dX3_road_116 (by decide) (fun c11 => ?_) (fun c11 => ?_)
      ·
        skip
        rw [lg_cmp_eq] at c11
        have eS : rdS (w 9) L (upd v 0 0) (w 6) = (u, g) := by rw [rdS, ← evE, ← efE, ← hI108.2.2.2.2.2]; exact stnL_stop c11 k
        refine w_ind (α := Nat × Nat × (Nat → Int32) × (Nat → Int32)) 126 (fun (x_ : Nat × Nat × (Nat → Int32) × (Nat → Int32)) => (fun (k2 : Nat) (m2 : Nat) (u2 : (Nat → Int32)) (g2 : (Nat → Int32)) => k2) x_.1 x_.2.1 x_.2.2.1 x_.2.2.2) (fun (x_ : Nat × Nat × (Nat → Int32) × (Nat → Int32)) (H : Heap) (locs : List Loc) (ls : Array Slot) => (fun (k2 : Nat) (m2 : Nat) (u2 : (Nat → Int32)) (g2 : (Nat → Int32)) => (PV L u2 ∧ g2 5 = nI m2 ∧ m2 ≤ 5 ∧ (u2 17 = 0 → 7 - m2 ≤ k2) ∧ movL (w 9) L k2 u2 g2 = movL (w 9) L 7 u g) ∧ MS D ac A G s.heap mo ad (u2) (wput w 6 g2) H locs ∧ lv_has ls 2 [(0, .ref mo)]) x_.1 x_.2.1 x_.2.2.1 x_.2.2.2) ?_ ((7, 0, u, g)) ⟨⟨hI108.1, hI108.2.2.2.1, Nat.zero_le 5, fun _ => (show 7 - 0 ≤ 7 by omega), by dsimp only⟩, hM, lv_sub hl [0] rfl⟩
        intro x_ H locs ls hI ih126
        obtain ⟨k2, m2, u2, g2⟩ := x_
        dsimp only at hI
        obtain ⟨hI126, hM, hl⟩ := hI
        refine lv_aload_n hC.1 hC.2.1 dX3_road_126 rfl (lv_at hl 0 rfl) ?_
        refine m_crl hC hK hM (mc_name l _ _ L hI126.1 (by exact htp)) (cw_m 0 hC.2.2.2.2 q1402 q1404 qs30 q1405 ⟨rfl, rfl⟩ rfl (by decide +kernel) ⟨Nat.le_of_ble_eq_true rfl, Nat.le_of_ble_eq_true rfl⟩) rfl hl.1 rfl (lv_room (Nat.le_of_ble_eq_true rfl)) dX3_road_127 ⟨Nat.le_of_ble_eq_true rfl, Nat.le_of_ble_eq_true rfl⟩ ?_
        rw [wput_n (show (9 : Nat) ≠ 6 by decide)]
        refine lv_ldc2 hC.1 hC.2.1 hC.2.2.2.1 (hC.2.2.2.2 _ q1436) dX3_road_130 ?_
        refine W.lcmp hC.1 hC.2.1 dX3_road_133 ?_
        refine lv_if_ne (tgt := 144) hC.1 hC.2.1 dX3_road_134 (by decide) (fun c13 => ?_) (fun c13 => ?_)
        ·
          skip
          rw [lg_cmp_eq] at c13
          have eM : rdM (w 9) L (upd v 0 0) (w 6) = (u2, g2) := by rw [rdM, eS]; dsimp only; rw [← hI126.2.2.2.2]; exact movL_stop c13 k2
          refine lv_aload_n hC.1 hC.2.1 dX3_road_144 rfl (lv_at hl 0 rfl) ?_
          refine m_get hC hK hM 17 (by decide) q1279 rfl rfl dX3_road_145 ?_
          refine lv_if_ne (tgt := 164) hC.1 hC.2.1 dX3_road_148 (by decide) (fun c14 => ?_) (fun c14 => ?_)
          ·
            skip
            obtain ⟨TT, hT, hM⟩ : ∃ TT, rdT (w 9) L (upd v 0 0) (w 6) = TT ∧ MS D ac A G s.heap mo ad TT (wput w 6 g2) H locs := ⟨u2, by rw [rdT, eM]; exact if_neg (fun h => c14 h.1), hM⟩
            refine lv_aload_n hC.1 hC.2.1 dX3_road_164 rfl (lv_at hl 0 rfl) ?_
            refine m_get hC hK hM 17 (by decide) q1279 rfl rfl dX3_road_165 ?_
            refine lv_if_le (tgt := 187) hC.1 hC.2.1 dX3_road_168 (by decide) (fun c15 => ?_) (fun c15 => ?_)
            ·
              have nc15 := Int32.not_lt.mpr c15
              have cT := nc15
              refine lv_aload_n hC.1 hC.2.1 dX3_road_187 rfl (lv_at hl 0 rfl) ?_
              refine lv_iconst (v := 0) hC.1 hC.2.1 dX3_road_188 (by decide) ?_
              refine m_put hC hK hM 8 (by decide) q1270 rfl rfl rfl rfl dX3_road_189 (fun H locs hM => ?_)
              refine lv_iconst (v := 0) hC.1 hC.2.1 dX3_road_192 (by decide) ?_
              refine lv_istore_n (lv' := [(1, _), (0, _)]) hC.1 hC.2.1 dX3_road_193 rfl hl (by decide) rfl (fun ls hl => ?_)
              refine w_ind (α := Nat) 194 (fun (q : Nat) => 94 - q) (fun (q : Nat) (H : Heap) (locs : List Loc) (ls : Array Slot) => (q ≤ 94) ∧ MS D ac A G s.heap mo ad (upd TT 8 0) (wseg (wput w 6 g2) 5 0 q g2) H locs ∧ lv_has ls 2 [(0, .ref mo), (1, .int (nI q))]) ?_ (0) ⟨by omega, by rw [wseg_0]; exact hM, lv_sub hl [1, 0] rfl⟩
              intro q H locs ls hI ih194
              obtain ⟨hI194, hM, hl⟩ := hI
              refine lv_iload_n hC.1 hC.2.1 dX3_road_194 rfl (lv_at hl 1 rfl) ?_
              refine lv_bipush (v := 94) hC.1 hC.2.1 dX3_road_195 (by decide) ?_
              refine lv_icmp_ge (tgt := 218) hC.1 hC.2.1 dX3_road_197 (by decide) (fun c16 => ?_) (fun c16 => ?_)
              ·
                have nc16 := Int32.not_lt.mpr c16
                have hx197 := nle_t (a := 94) (b := q) c16
                obtain rfl : q = 94 := by omega
                refine lv_aload_n hC.1 hC.2.1 dX3_road_218 rfl (lv_at hl 0 rfl) ?_
                refine m_get hC hK hM 5 (by decide) q1267 rfl rfl dX3_road_219 ?_
                refine lv_iconst (v := 4) hC.1 hC.2.1 dX3_road_222 (by decide) ?_
                refine m_iald hC hK hM 5 rfl (n := 4) (by first | rfl | (simp only [← nI_add, ← pk_mul]; rfl)) (by first | decide | (show _ < 94; omega)) dX3_road_223 ?_
                refine m_iret hC hr hlocks hM dX3_road_224 ?_
                rw [op_road, iT, hT, if_neg cT, eM]
                rfl
              ·
                have nc16 := Int32.not_le.mp c16
                have hx197 := nle_f (a := 94) (b := q) c16
                refine lv_aload_n hC.1 hC.2.1 dX3_road_200 rfl (lv_at hl 0 rfl) ?_
                refine m_get hC hK hM 5 (by decide) q1267 rfl rfl dX3_road_201 ?_
                refine lv_iload_n hC.1 hC.2.1 dX3_road_204 rfl (lv_at hl 1 rfl) ?_
                refine lv_aload_n hC.1 hC.2.1 dX3_road_205 rfl (lv_at hl 0 rfl) ?_
                refine m_get hC hK hM 6 (by decide) q1268 rfl rfl dX3_road_206 ?_
                refine lv_iload_n hC.1 hC.2.1 dX3_road_209 rfl (lv_at hl 1 rfl) ?_
                refine m_iald hC hK hM 6 rfl (n := q) (by first | rfl | (simp only [← nI_add, ← pk_mul]; rfl)) (by first | decide | (show _ < 94; omega)) dX3_road_210 ?_
                refine m_iast hC hK hM 5 rfl (n := q) (by first | rfl | (simp only [← nI_add, ← pk_mul]; rfl)) (by first | decide | (show _ < 94; omega)) dX3_road_211 (fun H locs hM => ?_)
                refine lv_iinc (v := nI (q + 1)) (lv' := [(1, _), (0, _)]) hC.1 hC.2.1 dX3_road_212 hl (k := 1) rfl (nI_1 _) (by decide) rfl (fun ls hl => ?_)
                refine lv_goto (tgt := 194) hC.1 hC.2.1 dX3_road_215 (by decide) ?_
                exact ih194 (q + 1) _ _ _ (by omega) ⟨by omega, by rw [← wseg_sx (w := wput w 6 g2) (a := 5) (lo := 0) (n := q) (m := q) (f := g2) (by omega) rfl]; exact hM, lv_sub hl [1, 0] rfl⟩
            ·
              have nc15 := Int32.not_le.mp c15
              have cT := nc15
              refine lv_aload_n hC.1 hC.2.1 dX3_road_171 rfl (lv_at hl 0 rfl) ?_
              refine lv_aload_n hC.1 hC.2.1 dX3_road_172 rfl (lv_at hl 0 rfl) ?_
              refine m_get hC hK hM 17 (by decide) q1279 rfl rfl dX3_road_173 ?_
              refine m_put hC hK hM 11 (by decide) q1273 rfl rfl rfl rfl dX3_road_176 (fun H locs hM => ?_)
              refine lv_ldc hC.1 hC.2.1 hC.2.2.2.1 (hC.2.2.2.2 _ q1449) dX3_road_179 ?_
              refine lv_aload_n hC.1 hC.2.1 dX3_road_181 rfl (lv_at hl 0 rfl) ?_
              refine m_get hC hK hM 18 (by decide) q1280 rfl rfl dX3_road_182 ?_
              refine lv_isub hC.1 hC.2.1 dX3_road_185 ?_
              refine m_iret hC hr hlocks hM dX3_road_186 ?_
              rw [op_road, iT, hT, if_pos cT, eM]
              rfl
          ·
            skip
            have d17 := c14
            refine lv_aload_n hC.1 hC.2.1 dX3_road_151 rfl (lv_at hl 0 rfl) ?_
            refine m_get hC hK hM 14 (by decide) q1276 rfl rfl dX3_road_152 ?_
            refine lv_iconst (v := 1) hC.1 hC.2.1 dX3_road_155 (by decide) ?_
            refine lv_icmp_eq (tgt := 164) hC.1 hC.2.1 dX3_road_156 (by decide) (fun c17 => ?_) (fun c17 => ?_)
            ·
              skip
              obtain ⟨TT, hT, hM⟩ : ∃ TT, rdT (w 9) L (upd v 0 0) (w 6) = TT ∧ MS D ac A G s.heap mo ad TT (wput w 6 g2) H locs := ⟨u2, by rw [rdT, eM]; exact if_neg (fun h => h.2 c17), hM⟩
              refine lv_aload_n hC.1 hC.2.1 dX3_road_164 rfl (lv_at hl 0 rfl) ?_
              refine m_get hC hK hM 17 (by decide) q1279 rfl rfl dX3_road_165 ?_
              refine lv_if_le (tgt := 187) hC.1 hC.2.1 dX3_road_168 (by decide) (fun c18 => ?_) (fun c18 => ?_)
              ·
                have nc18 := Int32.not_lt.mpr c18
                have cT := nc18
                refine lv_aload_n hC.1 hC.2.1 dX3_road_187 rfl (lv_at hl 0 rfl) ?_
                refine lv_iconst (v := 0) hC.1 hC.2.1 dX3_road_188 (by decide) ?_
                refine m_put hC hK hM 8 (by decide) q1270 rfl rfl rfl rfl dX3_road_189 (fun H locs hM => ?_)
                refine lv_iconst (v := 0) hC.1 hC.2.1 dX3_road_192 (by decide) ?_
                refine lv_istore_n (lv' := [(1, _), (0, _)]) hC.1 hC.2.1 dX3_road_193 rfl hl (by decide) rfl (fun ls hl => ?_)
                refine w_ind (α := Nat) 194 (fun (q : Nat) => 94 - q) (fun (q : Nat) (H : Heap) (locs : List Loc) (ls : Array Slot) => (q ≤ 94) ∧ MS D ac A G s.heap mo ad (upd TT 8 0) (wseg (wput w 6 g2) 5 0 q g2) H locs ∧ lv_has ls 2 [(0, .ref mo), (1, .int (nI q))]) ?_ (0) ⟨by omega, by rw [wseg_0]; exact hM, lv_sub hl [1, 0] rfl⟩
                intro q H locs ls hI ih194
                obtain ⟨hI194, hM, hl⟩ := hI
                refine lv_iload_n hC.1 hC.2.1 dX3_road_194 rfl (lv_at hl 1 rfl) ?_
                refine lv_bipush (v := 94) hC.1 hC.2.1 dX3_road_195 (by decide) ?_
                refine lv_icmp_ge (tgt := 218) hC.1 hC.2.1 dX3_road_197 (by decide) (fun c19 => ?_) (fun c19 => ?_)
                ·
                  have nc19 := Int32.not_lt.mpr c19
                  have hx197 := nle_t (a := 94) (b := q) c19
                  obtain rfl : q = 94 := by omega
                  refine lv_aload_n hC.1 hC.2.1 dX3_road_218 rfl (lv_at hl 0 rfl) ?_
                  refine m_get hC hK hM 5 (by decide) q1267 rfl rfl dX3_road_219 ?_
                  refine lv_iconst (v := 4) hC.1 hC.2.1 dX3_road_222 (by decide) ?_
                  refine m_iald hC hK hM 5 rfl (n := 4) (by first | rfl | (simp only [← nI_add, ← pk_mul]; rfl)) (by first | decide | (show _ < 94; omega)) dX3_road_223 ?_
                  refine m_iret hC hr hlocks hM dX3_road_224 ?_
                  rw [op_road, iT, hT, if_neg cT, eM]
                  rfl
                ·
                  have nc19 := Int32.not_le.mp c19
                  have hx197 := nle_f (a := 94) (b := q) c19
                  refine lv_aload_n hC.1 hC.2.1 dX3_road_200 rfl (lv_at hl 0 rfl) ?_
                  refine m_get hC hK hM 5 (by decide) q1267 rfl rfl dX3_road_201 ?_
                  refine lv_iload_n hC.1 hC.2.1 dX3_road_204 rfl (lv_at hl 1 rfl) ?_
                  refine lv_aload_n hC.1 hC.2.1 dX3_road_205 rfl (lv_at hl 0 rfl) ?_
                  refine m_get hC hK hM 6 (by decide) q1268 rfl rfl dX3_road_206 ?_
                  refine lv_iload_n hC.1 hC.2.1 dX3_road_209 rfl (lv_at hl 1 rfl) ?_
                  refine m_iald hC hK hM 6 rfl (n := q) (by first | rfl | (simp only [← nI_add, ← pk_mul]; rfl)) (by first | decide | (show _ < 94; omega)) dX3_road_210 ?_
                  refine m_iast hC hK hM 5 rfl (n := q) (by first | rfl | (simp only [← nI_add, ← pk_mul]; rfl)) (by first | decide | (show _ < 94; omega)) dX3_road_211 (fun H locs hM => ?_)
                  refine lv_iinc (v := nI (q + 1)) (lv' := [(1, _), (0, _)]) hC.1 hC.2.1 dX3_road_212 hl (k := 1) rfl (nI_1 _) (by decide) rfl (fun ls hl => ?_)
                  refine lv_goto (tgt := 194) hC.1 hC.2.1 dX3_road_215 (by decide) ?_
                  exact ih194 (q + 1) _ _ _ (by omega) ⟨by omega, by rw [← wseg_sx (w := wput w 6 g2) (a := 5) (lo := 0) (n := q) (m := q) (f := g2) (by omega) rfl]; exact hM, lv_sub hl [1, 0] rfl⟩
              ·
                have nc18 := Int32.not_le.mp c18
                have cT := nc18
                refine lv_aload_n hC.1 hC.2.1 dX3_road_171 rfl (lv_at hl 0 rfl) ?_
                refine lv_aload_n hC.1 hC.2.1 dX3_road_172 rfl (lv_at hl 0 rfl) ?_
                refine m_get hC hK hM 17 (by decide) q1279 rfl rfl dX3_road_173 ?_
                refine m_put hC hK hM 11 (by decide) q1273 rfl rfl rfl rfl dX3_road_176 (fun H locs hM => ?_)
                refine lv_ldc hC.1 hC.2.1 hC.2.2.2.1 (hC.2.2.2.2 _ q1449) dX3_road_179 ?_
                refine lv_aload_n hC.1 hC.2.1 dX3_road_181 rfl (lv_at hl 0 rfl) ?_
                refine m_get hC hK hM 18 (by decide) q1280 rfl rfl dX3_road_182 ?_
                refine lv_isub hC.1 hC.2.1 dX3_road_185 ?_
                refine m_iret hC hr hlocks hM dX3_road_186 ?_
                rw [op_road, iT, hT, if_pos cT, eM]
                rfl
            ·
              skip
              have d14 := c17
              refine lv_aload_n hC.1 hC.2.1 dX3_road_159 rfl (lv_at hl 0 rfl) ?_
              refine lv_iconst (v := 1) hC.1 hC.2.1 dX3_road_160 (by decide) ?_
              refine m_cve hC hK hM (mc_bad l _ _ _) (cw_m 1 hC.2.2.2.2 q1411 q1413 qs32 q1414 ⟨rfl, rfl⟩ rfl (by decide +kernel) ⟨Nat.le_of_ble_eq_true rfl, Nat.le_of_ble_eq_true rfl⟩) rfl hl.1 rfl (lv_room (Nat.le_of_ble_eq_true rfl)) dX3_road_161 ⟨Nat.le_of_ble_eq_true rfl, Nat.le_of_ble_eq_true rfl⟩ (fun H locs hM => ?_)
              obtain ⟨TT, hT, hM⟩ : ∃ TT, rdT (w 9) L (upd v 0 0) (w 6) = TT ∧ MS D ac A G s.heap mo ad TT (wput w 6 g2) H locs := ⟨badV u2 1, by rw [rdT, eM]; exact if_pos ⟨d17, d14⟩, hM⟩
              refine lv_aload_n hC.1 hC.2.1 dX3_road_164 rfl (lv_at hl 0 rfl) ?_
              refine m_get hC hK hM 17 (by decide) q1279 rfl rfl dX3_road_165 ?_
              refine lv_if_le (tgt := 187) hC.1 hC.2.1 dX3_road_168 (by decide) (fun c21 => ?_) (fun c21 => ?_)
              ·
                have nc21 := Int32.not_lt.mpr c21
                have cT := nc21
                refine lv_aload_n hC.1 hC.2.1 dX3_road_187 rfl (lv_at hl 0 rfl) ?_
                refine lv_iconst (v := 0) hC.1 hC.2.1 dX3_road_188 (by decide) ?_
                refine m_put hC hK hM 8 (by decide) q1270 rfl rfl rfl rfl dX3_road_189 (fun H locs hM => ?_)
                refine lv_iconst (v := 0) hC.1 hC.2.1 dX3_road_192 (by decide) ?_
                refine lv_istore_n (lv' := [(1, _), (0, _)]) hC.1 hC.2.1 dX3_road_193 rfl hl (by decide) rfl (fun ls hl => ?_)
                refine w_ind (α := Nat) 194 (fun (q : Nat) => 94 - q) (fun (q : Nat) (H : Heap) (locs : List Loc) (ls : Array Slot) => (q ≤ 94) ∧ MS D ac A G s.heap mo ad (upd TT 8 0) (wseg (wput w 6 g2) 5 0 q g2) H locs ∧ lv_has ls 2 [(0, .ref mo), (1, .int (nI q))]) ?_ (0) ⟨by omega, by rw [wseg_0]; exact hM, lv_sub hl [1, 0] rfl⟩
                intro q H locs ls hI ih194
                obtain ⟨hI194, hM, hl⟩ := hI
                refine lv_iload_n hC.1 hC.2.1 dX3_road_194 rfl (lv_at hl 1 rfl) ?_
                refine lv_bipush (v := 94) hC.1 hC.2.1 dX3_road_195 (by decide) ?_
                refine lv_icmp_ge (tgt := 218) hC.1 hC.2.1 dX3_road_197 (by decide) (fun c22 => ?_) (fun c22 => ?_)
                ·
                  have nc22 := Int32.not_lt.mpr c22
                  have hx197 := nle_t (a := 94) (b := q) c22
                  obtain rfl : q = 94 := by omega
                  refine lv_aload_n hC.1 hC.2.1 dX3_road_218 rfl (lv_at hl 0 rfl) ?_
                  refine m_get hC hK hM 5 (by decide) q1267 rfl rfl dX3_road_219 ?_
                  refine lv_iconst (v := 4) hC.1 hC.2.1 dX3_road_222 (by decide) ?_
                  refine m_iald hC hK hM 5 rfl (n := 4) (by first | rfl | (simp only [← nI_add, ← pk_mul]; rfl)) (by first | decide | (show _ < 94; omega)) dX3_road_223 ?_
                  refine m_iret hC hr hlocks hM dX3_road_224 ?_
                  rw [op_road, iT, hT, if_neg cT, eM]
                  rfl
                ·
                  have nc22 := Int32.not_le.mp c22
                  have hx197 := nle_f (a := 94) (b := q) c22
                  refine lv_aload_n hC.1 hC.2.1 dX3_road_200 rfl (lv_at hl 0 rfl) ?_
                  refine m_get hC hK hM 5 (by decide) q1267 rfl rfl dX3_road_201 ?_
                  refine lv_iload_n hC.1 hC.2.1 dX3_road_204 rfl (lv_at hl 1 rfl) ?_
                  refine lv_aload_n hC.1 hC.2.1 dX3_road_205 rfl (lv_at hl 0 rfl) ?_
                  refine m_get hC hK hM 6 (by decide) q1268 rfl rfl dX3_road_206 ?_
                  refine lv_iload_n hC.1 hC.2.1 dX3_road_209 rfl (lv_at hl 1 rfl) ?_
                  refine m_iald hC hK hM 6 rfl (n := q) (by first | rfl | (simp only [← nI_add, ← pk_mul]; rfl)) (by first | decide | (show _ < 94; omega)) dX3_road_210 ?_
                  refine m_iast hC hK hM 5 rfl (n := q) (by first | rfl | (simp only [← nI_add, ← pk_mul]; rfl)) (by first | decide | (show _ < 94; omega)) dX3_road_211 (fun H locs hM => ?_)
                  refine lv_iinc (v := nI (q + 1)) (lv' := [(1, _), (0, _)]) hC.1 hC.2.1 dX3_road_212 hl (k := 1) rfl (nI_1 _) (by decide) rfl (fun ls hl => ?_)
                  refine lv_goto (tgt := 194) hC.1 hC.2.1 dX3_road_215 (by decide) ?_
                  exact ih194 (q + 1) _ _ _ (by omega) ⟨by omega, by rw [← wseg_sx (w := wput w 6 g2) (a := 5) (lo := 0) (n := q) (m := q) (f := g2) (by omega) rfl]; exact hM, lv_sub hl [1, 0] rfl⟩
              ·
                have nc21 := Int32.not_le.mp c21
                have cT := nc21
                refine lv_aload_n hC.1 hC.2.1 dX3_road_171 rfl (lv_at hl 0 rfl) ?_
                refine lv_aload_n hC.1 hC.2.1 dX3_road_172 rfl (lv_at hl 0 rfl) ?_
                refine m_get hC hK hM 17 (by decide) q1279 rfl rfl dX3_road_173 ?_
                refine m_put hC hK hM 11 (by decide) q1273 rfl rfl rfl rfl dX3_road_176 (fun H locs hM => ?_)
                refine lv_ldc hC.1 hC.2.1 hC.2.2.2.1 (hC.2.2.2.2 _ q1449) dX3_road_179 ?_
                refine lv_aload_n hC.1 hC.2.1 dX3_road_181 rfl (lv_at hl 0 rfl) ?_
                refine m_get hC hK hM 18 (by decide) q1280 rfl rfl dX3_road_182 ?_
                refine lv_isub hC.1 hC.2.1 dX3_road_185 ?_
                refine m_iret hC hr hlocks hM dX3_road_186 ?_
                rw [op_road, iT, hT, if_pos cT, eM]
                rfl
        ·
          skip
          rw [lg_cmp_eq] at c13
          have cn := c13
          have u0 : u2 17 = 0 := nameV_ok (by decide) cn
          obtain ⟨j, rfl⟩ : ∃ j, k2 = j + 1 := ⟨k2 - 1, by have := hI126.2.2.2.1 u0; omega⟩
          refine lv_aload_n hC.1 hC.2.1 dX3_road_137 rfl (lv_at hl 0 rfl) ?_
          refine m_cve hC hK hM (mc_readMover l _ _ m2 (by exact hI126.2.1) hI126.2.2.1 L hI126.1 (by exact htp)) (cw_m 0 hC.2.2.2.2 q1437 q1439 qs38 q1440 ⟨rfl, rfl⟩ rfl (by decide +kernel) ⟨Nat.le_of_ble_eq_true rfl, Nat.le_of_ble_eq_true rfl⟩) rfl hl.1 rfl (lv_room (Nat.le_of_ble_eq_true rfl)) dX3_road_138 ⟨Nat.le_of_ble_eq_true rfl, Nat.le_of_ble_eq_true rfl⟩ (fun H locs hM => ?_)
          rw [wput_n (show (9 : Nat) ≠ 6 by decide), wput_s, wput_wput] at hM
          obtain ⟨n2, q1, q2, q3, q4⟩ := rm_inv (tp := w 9) hI126.1 hI126.2.1 hI126.2.2.1 (hI126.2.2.2.1 u0)
          refine lv_goto (tgt := 126) hC.1 hC.2.1 dX3_road_141 (by decide) ?_
          obtain ⟨vN, evN⟩ : ∃ x, x = rmV (w 9) L u2 g2 := ⟨_, rfl⟩
          obtain ⟨fN, efN⟩ : ∃ x, x = rmF (w 9) L u2 g2 := ⟨_, rfl⟩
          have q6 : movL (w 9) L j vN fN = movL (w 9) L 7 u g := by rw [evN, efN, ← hI126.2.2.2.2, movL, if_pos cn]
          rw [← evN, ← efN] at hM
          rw [← evN] at q1 q4
          rw [← efN] at q2
          exact ih126 ((j, n2, vN, fN)) _ _ _ (by show j < j + 1; omega) ⟨⟨q1, q2, q3, q4, q6⟩, hM, lv_sub hl [0] rfl⟩
      ·
        skip
        rw [lg_cmp_eq] at c11
        have cn := c11
        have u0 : u 17 = 0 := nameV_ok (by decide) cn
        obtain ⟨j, rfl⟩ : ∃ j, k = j + 1 := ⟨k - 1, by have := hI108.2.2.2.2.1 u0; omega⟩
        refine lv_aload_n hC.1 hC.2.1 dX3_road_119 rfl (lv_at hl 0 rfl) ?_
        refine m_cve hC hK hM (mc_readStone l _ _ n (by exact hI108.2.1) hI108.2.2.1 L hI108.1 (by exact htp)) (cw_m 0 hC.2.2.2.2 q1428 q1430 qs36 q1431 ⟨rfl, rfl⟩ rfl (by decide +kernel) ⟨Nat.le_of_ble_eq_true rfl, Nat.le_of_ble_eq_true rfl⟩) rfl hl.1 rfl (lv_room (Nat.le_of_ble_eq_true rfl)) dX3_road_120 ⟨Nat.le_of_ble_eq_true rfl, Nat.le_of_ble_eq_true rfl⟩ (fun H locs hM => ?_)
        rw [wput_n (show (9 : Nat) ≠ 6 by decide), wput_s, wput_wput] at hM
        obtain ⟨n2, q1, q2, q3, q4, q5⟩ := rs_inv (tp := w 9) hI108.1 hI108.2.1 hI108.2.2.1 hI108.2.2.2.1 (hI108.2.2.2.2.1 u0)
        refine lv_goto (tgt := 108) hC.1 hC.2.1 dX3_road_123 (by decide) ?_
        obtain ⟨vN, evN⟩ : ∃ x, x = rsV (w 9) L u g := ⟨_, rfl⟩
        obtain ⟨fN, efN⟩ : ∃ x, x = rsF (w 9) L u g := ⟨_, rfl⟩
        have q6 : stnL (w 9) L j vN fN = stnL (w 9) L 8 vE fE := by rw [evN, efN, ← hI108.2.2.2.2.2, stnL, if_pos cn]
        rw [← evN, ← efN] at hM
        rw [← evN] at q1 q5
        rw [← efN] at q2 q4
        exact ih108 ((j, n2, vN, fN)) _ _ _ (by show j < j + 1; omega) ⟨⟨q1, q2, q3, q4, q5, q6⟩, hM, lv_sub hl [0] rfl⟩
    ·
      skip
      refine lv_if_ne (tgt := 46) hC.1 hC.2.1 dX3_road_39 (by decide) (fun c25 => ?_) (fun c25 => ?_)
      ·
        skip
        rw [lg_cmp_eq] at c25
        have cl := c25
        refine lv_iconst (v := 0) hC.1 hC.2.1 dX3_road_46 (by decide) ?_
        first | exact jt39 (by exact cl) | exact jf39 (by exact cl)
      ·
        skip
        rw [lg_cmp_eq] at c25
        have cl := c25
        refine lv_iconst (v := 1) hC.1 hC.2.1 dX3_road_42 (by decide) ?_
        refine lv_goto (tgt := 47) hC.1 hC.2.1 dX3_road_43 (by decide) ?_
        first | exact jt39 (by exact cl) | exact jf39 (by exact cl)
  ·
    have nc2 := Int32.not_le.mp c2
    have hx14 := nle_f (a := 94) (b := k) c2
    refine lv_aload_n hC.1 hC.2.1 dX3_road_17 rfl (lv_at hl 0 rfl) ?_
    refine m_get hC hK hM 6 (by decide) q1268 rfl rfl dX3_road_18 ?_
    refine lv_iload_n hC.1 hC.2.1 dX3_road_21 rfl (lv_at hl 1 rfl) ?_
    refine lv_iconst (v := 0) hC.1 hC.2.1 dX3_road_22 (by decide) ?_
    refine m_iast hC hK hM 6 rfl (n := k) (by first | rfl | (simp only [← nI_add, ← pk_mul]; rfl)) (by first | decide | (show _ < 94; omega)) dX3_road_23 (fun H locs hM => ?_)
    refine lv_iinc (v := nI (k + 1)) (lv' := [(1, _), (0, _)]) hC.1 hC.2.1 dX3_road_24 hl (k := 1) rfl (nI_1 _) (by decide) rfl (fun ls hl => ?_)
    refine lv_goto (tgt := 11) hC.1 hC.2.1 dX3_road_27 (by decide) ?_
    exact ih11 (k + 1) _ _ _ (by omega) ⟨by omega, by rw [← fz_s, ← wup_wput]; exact hM, lv_sub hl [1, 0] rfl⟩
