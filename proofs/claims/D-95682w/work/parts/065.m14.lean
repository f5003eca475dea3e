set_option maxHeartbeats 400000 in
set_option maxRecDepth 100000 in
theorem mc_readStone (l : Launch) (v : Nat → Int32) (w : Nat → Nat → Int32) (n : Nat) (en : w 6 4 = nI n) (hn : n ≤ 6) (L : Nat) (hP : PV L v) (htp : tpOk (w 9) L) : mMv l yX3_readStone cX3_readStone 4 none ({ frames := 4, cells := 0, slots := 0, locals := 86 }) [] v w (fun v1 w1 => v1 = rsV (w 9) L v (w 6) ∧ w1 = wput w 6 (rsF (w 9) L v (w 6))) := by
  intro D ac A G mo ad
  refine m_body rfl (Nat.le_of_ble_eq_true rfl) ?_
  intro p e s m args below meth c ls hC hr hlocks hK hM hl
  have hl : lv_has ls 4 [(0, .ref mo)] := hl
  have i4 : iN (w 6 4) = n := by rw [en]; exact iN_nI (by omega)
  have eLo : (if n = 0 then (0 : Int32) else w 6 (8 + 3 * (n - 1) + 1) + 1) = rsLo (w 6) := by
    unfold rsLo
    rw [i4, en]
    by_cases h : n = 0
    · subst h; rfl
    · rw [if_neg h, if_neg (show ¬ nI n = 0 from fun q => h (neq_t (b := 0) q))]
  refine lv_aload_n hC.1 hC.2.1 dX3_readStone_0 rfl (lv_at hl 0 rfl) ?_
  refine lv_iconst (v := 4) hC.1 hC.2.1 dX3_readStone_1 (by decide) ?_
  refine lv_bipush (v := 6) hC.1 hC.2.1 dX3_readStone_2 (by decide) ?_
  refine m_cve hC hK hM (mc_begins l _ _ 4 6 (by decide) L hP htp) (cw_m 2 hC.2.2.2.2 q1432 q1434 qs37 q1435 ⟨rfl, rfl⟩ rfl (by decide +kernel) ⟨Nat.le_of_ble_eq_true rfl, Nat.le_of_ble_eq_true rfl⟩) rfl hl.1 rfl (lv_room (Nat.le_of_ble_eq_true rfl)) dX3_readStone_4 ⟨Nat.le_of_ble_eq_true rfl, Nat.le_of_ble_eq_true rfl⟩ (fun H locs hM => ?_)
  refine lv_aload_n hC.1 hC.2.1 dX3_readStone_7 rfl (lv_at hl 0 rfl) ?_
  refine m_get hC hK hM 6 (by decide) q1268 rfl rfl dX3_readStone_8 ?_
  refine lv_iconst (v := 4) hC.1 hC.2.1 dX3_readStone_11 (by decide) ?_
  refine m_iald hC hK hM 6 rfl (n := 4) (by first | rfl | (simp only [← nI_add, ← pk_mul]; rfl)) (by first | decide | (show _ < 94; omega)) dX3_readStone_12 ?_
  rw [en]
  refine lv_istore_n (lv' := [(1, _), (0, _)]) hC.1 hC.2.1 dX3_readStone_13 rfl hl (by decide) rfl (fun ls hl => ?_)
  refine lv_aload_n hC.1 hC.2.1 dX3_readStone_14 rfl (lv_at hl 1 rfl) ?_
  refine lv_iconst (v := 0) hC.1 hC.2.1 dX3_readStone_15 (by decide) ?_
  refine lv_sipush (v := 200) hC.1 hC.2.1 dX3_readStone_16 (by decide) ?_
  refine m_cie hC hK hM (mc_number l _ _ 0 200 L (hP.beg (w 9) 4 6) htp) (cw_m 2 hC.2.2.2.2 q1415 q1417 qs33 q1418 ⟨rfl, rfl⟩ rfl (by decide +kernel) ⟨Nat.le_of_ble_eq_true rfl, Nat.le_of_ble_eq_true rfl⟩) rfl hl.1 rfl (lv_room (Nat.le_of_ble_eq_true rfl)) dX3_readStone_19 ⟨Nat.le_of_ble_eq_true rfl, Nat.le_of_ble_eq_true rfl⟩ (fun H locs hM => ?_)
  refine lv_istore_n (lv' := [(2, _), (1, _), (0, _)]) hC.1 hC.2.1 dX3_readStone_22 rfl hl (by decide) rfl (fun ls hl => ?_)
  refine lv_aload_n hC.1 hC.2.1 dX3_readStone_23 rfl (lv_at hl 2 rfl) ?_
  refine lv_iload_n hC.1 hC.2.1 dX3_readStone_24 rfl (lv_at hl 1 rfl) ?_
  refine w_tern1 (cond := n = 0) (a := 0) (b := w 6 (8 + 3 * (n - 1) + 1) + 1) 49 ?_ (fun jt25 jf25 => ?_)
  ·
    skip
    rw [show (if n = 0 then (0 : Int32) else w 6 (8 + 3 * (n - 1) + 1) + 1) = rsLo (w 6) from eLo]
    refine lv_aload_n hC.1 hC.2.1 dX3_readStone_49 rfl (lv_at hl 2 rfl) ?_
    refine m_get hC hK hM 6 (by decide) q1268 rfl rfl dX3_readStone_50 ?_
    refine lv_iconst (v := 0) hC.1 hC.2.1 dX3_readStone_53 (by decide) ?_
    refine m_iald hC hK hM 6 rfl (n := 0) (by first | rfl | (simp only [← nI_add, ← pk_mul]; rfl)) (by first | decide | (show _ < 94; omega)) dX3_readStone_54 ?_
    refine m_cie hC hK hM (mc_number l _ _ _ _ L ((hP.beg (w 9) 4 6).num (w 9) 0 200) htp) (cw_m 2 hC.2.2.2.2 q1415 q1417 qs33 q1418 ⟨rfl, rfl⟩ rfl (by decide +kernel) ⟨Nat.le_of_ble_eq_true rfl, Nat.le_of_ble_eq_true rfl⟩) rfl hl.1 rfl (lv_room (Nat.le_of_ble_eq_true rfl)) dX3_readStone_55 ⟨Nat.le_of_ble_eq_true rfl, Nat.le_of_ble_eq_true rfl⟩ (fun H locs hM => ?_)
    refine lv_istore_n (lv' := [(3, _), (2, _), (1, _), (0, _)]) hC.1 hC.2.1 dX3_readStone_58 rfl hl (by decide) rfl (fun ls hl => ?_)
    refine lv_aload_n hC.1 hC.2.1 dX3_readStone_59 rfl (lv_at hl 3 rfl) ?_
    refine m_cve hC hK hM (mc_mustEnd l _ _ L (((hP.beg (w 9) 4 6).num (w 9) 0 200).num (w 9) _ _) htp) (cw_m 0 hC.2.2.2.2 q1423 q1425 qs35 q1426 ⟨rfl, rfl⟩ rfl (by decide +kernel) ⟨Nat.le_of_ble_eq_true rfl, Nat.le_of_ble_eq_true rfl⟩) rfl hl.1 rfl (lv_room (Nat.le_of_ble_eq_true rfl)) dX3_readStone_60 ⟨Nat.le_of_ble_eq_true rfl, Nat.le_of_ble_eq_true rfl⟩ (fun H locs hM => ?_)
    refine lv_aload_n hC.1 hC.2.1 dX3_readStone_63 rfl (lv_at hl 3 rfl) ?_
    refine m_get hC hK hM 17 (by decide) q1279 rfl rfl dX3_readStone_64 ?_
    refine lv_if_ne (tgt := 120) hC.1 hC.2.1 dX3_readStone_67 (by decide) (fun c5 => ?_) (fun c5 => ?_)
    ·
      skip
      have cf : ¬ rsV (w 9) L v (w 6) 17 = 0 := by rw [rsV]; exact c5
      refine m_vret hC hr hlocks hM dX3_readStone_120 ?_
      refine ⟨?_, ?_⟩
      · dsimp only
        rw [rsV]
      · dsimp only
        rw [rsF, if_neg cf, wput_self]
    ·
      skip
      have cf : rsV (w 9) L v (w 6) 17 = 0 := by rw [rsV]; exact c5
      refine lv_aload_n hC.1 hC.2.1 dX3_readStone_70 rfl (lv_at hl 3 rfl) ?_
      refine m_get hC hK hM 6 (by decide) q1268 rfl rfl dX3_readStone_71 ?_
      refine lv_bipush (v := 8) hC.1 hC.2.1 dX3_readStone_74 (by decide) ?_
      refine lv_iconst (v := 3) hC.1 hC.2.1 dX3_readStone_76 (by decide) ?_
      refine lv_iload_n hC.1 hC.2.1 dX3_readStone_77 rfl (lv_at hl 2 rfl) ?_
      refine lv_imul hC.1 hC.2.1 dX3_readStone_78 ?_
      refine lv_iadd hC.1 hC.2.1 dX3_readStone_79 ?_
      refine lv_iload_n hC.1 hC.2.1 dX3_readStone_80 rfl (lv_at hl 1 rfl) ?_
      refine m_iast hC hK hM 6 rfl (n := (8 + (3 * n))) (by first | rfl | (simp only [← nI_add, ← pk_mul]; rfl)) (by first | decide | (show _ < 94; omega)) dX3_readStone_81 (fun H locs hM => ?_)
      refine lv_aload_n hC.1 hC.2.1 dX3_readStone_82 rfl (lv_at hl 3 rfl) ?_
      refine m_get hC hK hM 6 (by decide) q1268 rfl rfl dX3_readStone_83 ?_
      refine lv_bipush (v := 8) hC.1 hC.2.1 dX3_readStone_86 (by decide) ?_
      refine lv_iconst (v := 3) hC.1 hC.2.1 dX3_readStone_88 (by decide) ?_
      refine lv_iload_n hC.1 hC.2.1 dX3_readStone_89 rfl (lv_at hl 2 rfl) ?_
      refine lv_imul hC.1 hC.2.1 dX3_readStone_90 ?_
      refine lv_iadd hC.1 hC.2.1 dX3_readStone_91 ?_
      refine lv_iconst (v := 1) hC.1 hC.2.1 dX3_readStone_92 (by decide) ?_
      refine lv_iadd hC.1 hC.2.1 dX3_readStone_93 ?_
      refine lv_iload_n hC.1 hC.2.1 dX3_readStone_94 rfl (lv_at hl 0 rfl) ?_
      refine m_iast hC hK hM 6 rfl (n := ((8 + (3 * n)) + 1)) (by first | rfl | (simp only [← nI_add, ← pk_mul]; rfl)) (by first | decide | (show _ < 94; omega)) dX3_readStone_95 (fun H locs hM => ?_)
      refine lv_aload_n hC.1 hC.2.1 dX3_readStone_96 rfl (lv_at hl 3 rfl) ?_
      refine m_get hC hK hM 6 (by decide) q1268 rfl rfl dX3_readStone_97 ?_
      refine lv_bipush (v := 8) hC.1 hC.2.1 dX3_readStone_100 (by decide) ?_
      refine lv_iconst (v := 3) hC.1 hC.2.1 dX3_readStone_102 (by decide) ?_
      refine lv_iload_n hC.1 hC.2.1 dX3_readStone_103 rfl (lv_at hl 2 rfl) ?_
      refine lv_imul hC.1 hC.2.1 dX3_readStone_104 ?_
      refine lv_iadd hC.1 hC.2.1 dX3_readStone_105 ?_
      refine lv_iconst (v := 2) hC.1 hC.2.1 dX3_readStone_106 (by decide) ?_
      refine lv_iadd hC.1 hC.2.1 dX3_readStone_107 ?_
      refine lv_iload_n hC.1 hC.2.1 dX3_readStone_108 rfl (lv_at hl 0 rfl) ?_
      refine m_iast hC hK hM 6 rfl (n := ((8 + (3 * n)) + 2)) (by first | rfl | (simp only [← nI_add, ← pk_mul]; rfl)) (by first | decide | (show _ < 94; omega)) dX3_readStone_109 (fun H locs hM => ?_)
      refine lv_aload_n hC.1 hC.2.1 dX3_readStone_110 rfl (lv_at hl 3 rfl) ?_
      refine m_get hC hK hM 6 (by decide) q1268 rfl rfl dX3_readStone_111 ?_
      refine lv_iconst (v := 4) hC.1 hC.2.1 dX3_readStone_114 (by decide) ?_
      refine lv_dup2_11 hC.1 hC.2.1 dX3_readStone_115 rfl rfl ?_
      refine m_iald hC hK hM 6 rfl (n := 4) rfl (by decide) dX3_readStone_116 ?_
      refine lv_iconst (v := 1) hC.1 hC.2.1 dX3_readStone_117 (by decide) ?_
      refine lv_iadd hC.1 hC.2.1 dX3_readStone_118 ?_
      refine m_iast hC hK hM 6 rfl (n := 4) rfl (by decide) dX3_readStone_119 (fun H locs hM => ?_)
      refine m_vret hC hr hlocks hM dX3_readStone_120 ?_
      refine ⟨?_, ?_⟩
      · dsimp only
        rw [rsV]
      · dsimp only
        rw [wup_put w 6, wup_wput, wup_wput, wup_wput, wput_s, rsF, if_pos cf, i4, st3, rsA, rsB]
  ·
    skip
    refine lv_if_ne (tgt := 32) hC.1 hC.2.1 dX3_readStone_25 (by decide) (fun c6 => ?_) (fun c6 => ?_)
    ·
      skip
      have cn : ¬ n = 0 := neq_f (b := 0) c6
      refine lv_aload_n hC.1 hC.2.1 dX3_readStone_32 rfl (lv_at hl 2 rfl) ?_
      refine m_get hC hK hM 6 (by decide) q1268 rfl rfl dX3_readStone_33 ?_
      refine lv_bipush (v := 8) hC.1 hC.2.1 dX3_readStone_36 (by decide) ?_
      refine lv_iconst (v := 3) hC.1 hC.2.1 dX3_readStone_38 (by decide) ?_
      refine lv_iload_n hC.1 hC.2.1 dX3_readStone_39 rfl (lv_at hl 1 rfl) ?_
      refine lv_iconst (v := 1) hC.1 hC.2.1 dX3_readStone_40 (by decide) ?_
      refine lv_isub hC.1 hC.2.1 dX3_readStone_41 ?_
      rw [show nI n - 1 = nI (n - 1) from pk_sub (b := 1) (by omega)]
      refine lv_imul hC.1 hC.2.1 dX3_readStone_42 ?_
      refine lv_iadd hC.1 hC.2.1 dX3_readStone_43 ?_
      refine lv_iconst (v := 1) hC.1 hC.2.1 dX3_readStone_44 (by decide) ?_
      refine lv_iadd hC.1 hC.2.1 dX3_readStone_45 ?_
      refine m_iald hC hK hM 6 rfl (n := ((8 + (3 * (n - 1))) + 1)) (by first | rfl | (simp only [← nI_add, ← pk_mul]; rfl)) (by first | decide | (show _ < 94; omega)) dX3_readStone_46 ?_
      refine lv_iconst (v := 1) hC.1 hC.2.1 dX3_readStone_47 (by decide) ?_
      refine lv_iadd hC.1 hC.2.1 dX3_readStone_48 ?_
      first | exact jt25 (by exact cn) | exact jf25 (by exact cn)
    ·
      skip
      have cn : n = 0 := neq_t (b := 0) c6
      refine lv_iconst (v := 0) hC.1 hC.2.1 dX3_readStone_28 (by decide) ?_
      refine lv_goto (tgt := 49) hC.1 hC.2.1 dX3_readStone_29 (by decide) ?_
      first | exact jt25 (by exact cn) | exact jf25 (by exact cn)

set_option maxHeartbeats 400000 in
set_option maxRecDepth 100000 in
theorem mc_readMover (l : Launch) (v : Nat → Int32) (w : Nat → Nat → Int32) (n : Nat) (en : w 6 5 = nI n) (hn : n ≤ 5) (L : Nat) (hP : PV L v) (htp : tpOk (w 9) L) : mMv l yX3_readMover cX3_readMover 6 none ({ frames := 4, cells := 0, slots := 0, locals := 86 }) [] v w (fun v1 w1 => v1 = rmV (w 9) L v (w 6) ∧ w1 = wput w 6 (rmF (w 9) L v (w 6))) := by
  intro D ac A G mo ad
  refine m_body rfl (Nat.le_of_ble_eq_true rfl) ?_
  intro p e s m args below meth c ls hC hr hlocks hK hM hl
  have hl : lv_has ls 6 [(0, .ref mo)] := hl
  have i5 : iN (w 6 5) = n := by rw [en]; exact iN_nI (by omega)
  refine lv_aload_n hC.1 hC.2.1 dX3_readMover_0 rfl (lv_at hl 0 rfl) ?_
  refine lv_iconst (v := 5) hC.1 hC.2.1 dX3_readMover_1 (by decide) ?_
  refine lv_iconst (v := 5) hC.1 hC.2.1 dX3_readMover_2 (by decide) ?_
  refine m_cve hC hK hM (mc_begins l _ _ 5 5 (by decide) L hP htp) (cw_m 2 hC.2.2.2.2 q1432 q1434 qs37 q1435 ⟨rfl, rfl⟩ rfl (by decide +kernel) ⟨Nat.le_of_ble_eq_true rfl, Nat.le_of_ble_eq_true rfl⟩) rfl hl.1 rfl (lv_room (Nat.le_of_ble_eq_true rfl)) dX3_readMover_3 ⟨Nat.le_of_ble_eq_true rfl, Nat.le_of_ble_eq_true rfl⟩ (fun H locs hM => ?_)
  have hM : MS D ac A G s.heap mo ad (rm1 (w 9) L v (w 6)) w H locs := by rw [rm1]; exact hM
  refine lv_aload_n hC.1 hC.2.1 dX3_readMover_6 rfl (lv_at hl 0 rfl) ?_
  refine m_crl hC hK hM (mc_name l _ _ L (hP.r1 (w 9) (w 6)) htp) (cw_m 0 hC.2.2.2.2 q1402 q1404 qs30 q1405 ⟨rfl, rfl⟩ rfl (by decide +kernel) ⟨Nat.le_of_ble_eq_true rfl, Nat.le_of_ble_eq_true rfl⟩) rfl hl.1 rfl (lv_room (Nat.le_of_ble_eq_true rfl)) dX3_readMover_7 ⟨Nat.le_of_ble_eq_true rfl, Nat.le_of_ble_eq_true rfl⟩ ?_
  refine s_ci hC (mc_kindBy l _) (cw_ms 1 hC.2.2.2.2 q1441 q1442 q1443 ⟨rfl, rfl⟩ rfl (by decide +kernel) ⟨Nat.le_of_ble_eq_true rfl, Nat.le_of_ble_eq_true rfl⟩) rfl hl.1 rfl (lv_room (Nat.le_of_ble_eq_true rfl)) dX3_readMover_10 ⟨Nat.le_of_ble_eq_true rfl, Nat.le_of_ble_eq_true rfl⟩ ?_
  rw [show kndB (nameV (w 9) (rm1 (w 9) L v (w 6))) = rmK (w 9) L v (w 6) by rw [rmK]]
  refine lv_istore_n (lv' := [(1, _), (0, _)]) hC.1 hC.2.1 dX3_readMover_13 rfl hl (by decide) rfl (fun ls hl => ?_)
  refine lv_aload_n hC.1 hC.2.1 dX3_readMover_14 rfl (lv_at hl 1 rfl) ?_
  refine m_get hC hK hM 17 (by decide) q1279 rfl rfl dX3_readMover_15 ?_
  refine lv_if_ne (tgt := 36) hC.1 hC.2.1 dX3_readMover_18 (by decide) (fun c4 => ?_) (fun c4 => ?_)
  ·
    skip
    have cr := c4
    have e2 : rm2 (w 9) L v (w 6) = rm1 (w 9) L v (w 6) := by rw [rm2, if_neg cr]
    have hM : MS D ac A G s.heap mo ad (rm2 (w 9) L v (w 6)) w H locs := by rw [e2]; exact hM
    refine lv_aload_n hC.1 hC.2.1 dX3_readMover_36 rfl (lv_at hl 1 rfl) ?_
    refine lv_iconst (v := 0) hC.1 hC.2.1 dX3_readMover_37 (by decide) ?_
    refine lv_aload_n hC.1 hC.2.1 dX3_readMover_38 rfl (lv_at hl 1 rfl) ?_
    refine m_get hC hK hM 6 (by decide) q1268 rfl rfl dX3_readMover_39 ?_
    refine lv_iconst (v := 4) hC.1 hC.2.1 dX3_readMover_42 (by decide) ?_
    refine m_iald hC hK hM 6 rfl (n := 4) (by first | rfl | (simp only [← nI_add, ← pk_mul]; rfl)) (by first | decide | (show _ < 94; omega)) dX3_readMover_43 ?_
    refine lv_iconst (v := 1) hC.1 hC.2.1 dX3_readMover_44 (by decide) ?_
    refine lv_isub hC.1 hC.2.1 dX3_readMover_45 ?_
    refine m_cie hC hK hM (mc_number l _ _ _ _ L (hP.r2 (w 9) (w 6)) htp) (cw_m 2 hC.2.2.2.2 q1415 q1417 qs33 q1418 ⟨rfl, rfl⟩ rfl (by decide +kernel) ⟨Nat.le_of_ble_eq_true rfl, Nat.le_of_ble_eq_true rfl⟩) rfl hl.1 rfl (lv_room (Nat.le_of_ble_eq_true rfl)) dX3_readMover_46 ⟨Nat.le_of_ble_eq_true rfl, Nat.le_of_ble_eq_true rfl⟩ (fun H locs hM => ?_)
    have hM : MS D ac A G s.heap mo ad (rm3 (w 9) L v (w 6)) w H locs := by rw [rm3]; exact hM
    refine lv_istore_n (lv' := [(2, _), (1, _), (0, _)]) hC.1 hC.2.1 dX3_readMover_49 rfl hl (by decide) rfl (fun ls hl => ?_)
    refine lv_aload_n hC.1 hC.2.1 dX3_readMover_50 rfl (lv_at hl 2 rfl) ?_
    refine lv_iconst (v := 0) hC.1 hC.2.1 dX3_readMover_51 (by decide) ?_
    refine lv_iconst (v := 1) hC.1 hC.2.1 dX3_readMover_52 (by decide) ?_
    refine m_cie hC hK hM (mc_number l _ _ _ _ L (hP.r3 (w 9) (w 6)) htp) (cw_m 2 hC.2.2.2.2 q1415 q1417 qs33 q1418 ⟨rfl, rfl⟩ rfl (by decide +kernel) ⟨Nat.le_of_ble_eq_true rfl, Nat.le_of_ble_eq_true rfl⟩) rfl hl.1 rfl (lv_room (Nat.le_of_ble_eq_true rfl)) dX3_readMover_53 ⟨Nat.le_of_ble_eq_true rfl, Nat.le_of_ble_eq_true rfl⟩ (fun H locs hM => ?_)
    have hM : MS D ac A G s.heap mo ad (rm4 (w 9) L v (w 6)) w H locs := by rw [rm4]; exact hM
    refine lv_istore_n (lv' := [(3, _), (2, _), (1, _), (0, _)]) hC.1 hC.2.1 dX3_readMover_56 rfl hl (by decide) rfl (fun ls hl => ?_)
    refine lv_aload_n hC.1 hC.2.1 dX3_readMover_57 rfl (lv_at hl 3 rfl) ?_
    refine lv_iconst (v := 1) hC.1 hC.2.1 dX3_readMover_58 (by decide) ?_
    refine lv_iconst (v := 5) hC.1 hC.2.1 dX3_readMover_59 (by decide) ?_
    refine m_cie hC hK hM (mc_number l _ _ _ _ L (hP.r4 (w 9) (w 6)) htp) (cw_m 2 hC.2.2.2.2 q1415 q1417 qs33 q1418 ⟨rfl, rfl⟩ rfl (by decide +kernel) ⟨Nat.le_of_ble_eq_true rfl, Nat.le_of_ble_eq_true rfl⟩) rfl hl.1 rfl (lv_room (Nat.le_of_ble_eq_true rfl)) dX3_readMover_60 ⟨Nat.le_of_ble_eq_true rfl, Nat.le_of_ble_eq_true rfl⟩ (fun H locs hM => ?_)
    have hM : MS D ac A G s.heap mo ad (rm5 (w 9) L v (w 6)) w H locs := by rw [rm5]; exact hM
    refine lv_istore (lv' := [(4, _), (3, _), (2, _), (1, _), (0, _)]) hC.1 hC.2.1 dX3_readMover_63 hl (by decide) rfl (fun ls hl => ?_)
    refine lv_aload_n hC.1 hC.2.1 dX3_readMover_65 rfl (lv_at hl 4 rfl) ?_
    refine m_cve hC hK hM (mc_mustEnd l _ _ L (hP.r5 (w 9) (w 6)) htp) (cw_m 0 hC.2.2.2.2 q1423 q1425 qs35 q1426 ⟨rfl, rfl⟩ rfl (by decide +kernel) ⟨Nat.le_of_ble_eq_true rfl, Nat.le_of_ble_eq_true rfl⟩) rfl hl.1 rfl (lv_room (Nat.le_of_ble_eq_true rfl)) dX3_readMover_66 ⟨Nat.le_of_ble_eq_true rfl, Nat.le_of_ble_eq_true rfl⟩ (fun H locs hM => ?_)
    have hM : MS D ac A G s.heap mo ad (rmV (w 9) L v (w 6)) w H locs := by rw [rmV]; exact hM
    refine lv_aload_n hC.1 hC.2.1 dX3_readMover_69 rfl (lv_at hl 4 rfl) ?_
    refine m_get hC hK hM 17 (by decide) q1279 rfl rfl dX3_readMover_70 ?_
    refine lv_if_ne (tgt := 138) hC.1 hC.2.1 dX3_readMover_73 (by decide) (fun c9 => ?_) (fun c9 => ?_)
    ·
      skip
      have cf := c9
      refine m_vret hC hr hlocks hM dX3_readMover_138 ?_
      refine ⟨?_, ?_⟩
      · dsimp only
      · dsimp only
        rw [rmF, if_neg cf, wput_self]
    ·
      skip
      have cf := c9
      refine lv_bipush (v := 26) hC.1 hC.2.1 dX3_readMover_76 (by decide) ?_
      refine lv_iconst (v := 4) hC.1 hC.2.1 dX3_readMover_78 (by decide) ?_
      refine lv_aload_n hC.1 hC.2.1 dX3_readMover_79 rfl (lv_at hl 4 rfl) ?_
      refine m_get hC hK hM 6 (by decide) q1268 rfl rfl dX3_readMover_80 ?_
      refine lv_iconst (v := 5) hC.1 hC.2.1 dX3_readMover_83 (by decide) ?_
      refine m_iald hC hK hM 6 rfl (n := 5) (by first | rfl | (simp only [← nI_add, ← pk_mul]; rfl)) (by first | decide | (show _ < 94; omega)) dX3_readMover_84 ?_
      rw [en]
      refine lv_imul hC.1 hC.2.1 dX3_readMover_85 ?_
      refine lv_iadd hC.1 hC.2.1 dX3_readMover_86 ?_
      refine lv_istore (lv' := [(5, _), (4, _), (3, _), (2, _), (1, _), (0, _)]) hC.1 hC.2.1 dX3_readMover_87 hl (by decide) rfl (fun ls hl => ?_)
      refine lv_aload_n hC.1 hC.2.1 dX3_readMover_89 rfl (lv_at hl 5 rfl) ?_
      refine m_get hC hK hM 6 (by decide) q1268 rfl rfl dX3_readMover_90 ?_
      refine lv_iload hC.1 hC.2.1 dX3_readMover_93 (lv_at hl 0 rfl) ?_
      refine lv_iload_n hC.1 hC.2.1 dX3_readMover_95 rfl (lv_at hl 4 rfl) ?_
      refine m_iast hC hK hM 6 rfl (n := (26 + (4 * n))) (by first | rfl | (simp only [← nI_add, ← pk_mul]; rfl)) (by first | decide | (show _ < 94; omega)) dX3_readMover_96 (fun H locs hM => ?_)
      refine lv_aload_n hC.1 hC.2.1 dX3_readMover_97 rfl (lv_at hl 5 rfl) ?_
      refine m_get hC hK hM 6 (by decide) q1268 rfl rfl dX3_readMover_98 ?_
      refine lv_iload hC.1 hC.2.1 dX3_readMover_101 (lv_at hl 0 rfl) ?_
      refine lv_iconst (v := 1) hC.1 hC.2.1 dX3_readMover_103 (by decide) ?_
      refine lv_iadd hC.1 hC.2.1 dX3_readMover_104 ?_
      refine lv_iload_n hC.1 hC.2.1 dX3_readMover_105 rfl (lv_at hl 3 rfl) ?_
      refine m_iast hC hK hM 6 rfl (n := ((26 + (4 * n)) + 1)) (by first | rfl | (simp only [← nI_add, ← pk_mul]; rfl)) (by first | decide | (show _ < 94; omega)) dX3_readMover_106 (fun H locs hM => ?_)
      refine lv_aload_n hC.1 hC.2.1 dX3_readMover_107 rfl (lv_at hl 5 rfl) ?_
      refine m_get hC hK hM 6 (by decide) q1268 rfl rfl dX3_readMover_108 ?_
      refine lv_iload hC.1 hC.2.1 dX3_readMover_111 (lv_at hl 0 rfl) ?_
      refine lv_iconst (v := 2) hC.1 hC.2.1 dX3_readMover_113 (by decide) ?_
      refine lv_iadd hC.1 hC.2.1 dX3_readMover_114 ?_
      refine lv_iload_n hC.1 hC.2.1 dX3_readMover_115 rfl (lv_at hl 2 rfl) ?_
      refine m_iast hC hK hM 6 rfl (n := ((26 + (4 * n)) + 2)) (by first | rfl | (simp only [← nI_add, ← pk_mul]; rfl)) (by first | decide | (show _ < 94; omega)) dX3_readMover_116 (fun H locs hM => ?_)
      refine lv_aload_n hC.1 hC.2.1 dX3_readMover_117 rfl (lv_at hl 5 rfl) ?_
      refine m_get hC hK hM 6 (by decide) q1268 rfl rfl dX3_readMover_118 ?_
      refine lv_iload hC.1 hC.2.1 dX3_readMover_121 (lv_at hl 0 rfl) ?_
      refine lv_iconst (v := 3) hC.1 hC.2.1 dX3_readMover_123 (by decide) ?_
      refine lv_iadd hC.1 hC.2.1 dX3_readMover_124 ?_
      refine lv_iload hC.1 hC.2.1 dX3_readMover_125 (lv_at hl 1 rfl) ?_
      refine m_iast hC hK hM 6 rfl (n := ((26 + (4 * n)) + 3)) (by first | rfl | (simp only [← nI_add, ← pk_mul]; rfl)) (by first | decide | (show _ < 94; omega)) dX3_readMover_127 (fun H locs hM => ?_)
      refine lv_aload_n hC.1 hC.2.1 dX3_readMover_128 rfl (lv_at hl 5 rfl) ?_
      refine m_get hC hK hM 6 (by decide) q1268 rfl rfl dX3_readMover_129 ?_
      refine lv_iconst (v := 5) hC.1 hC.2.1 dX3_readMover_132 (by decide) ?_
      refine lv_dup2_11 hC.1 hC.2.1 dX3_readMover_133 rfl rfl ?_
      refine m_iald hC hK hM 6 rfl (n := 5) rfl (by decide) dX3_readMover_134 ?_
      refine lv_iconst (v := 1) hC.1 hC.2.1 dX3_readMover_135 (by decide) ?_
      refine lv_iadd hC.1 hC.2.1 dX3_readMover_136 ?_
      refine m_iast hC hK hM 6 rfl (n := 5) rfl (by decide) dX3_readMover_137 (fun H locs hM => ?_)
      refine m_vret hC hr hlocks hM dX3_readMover_138 ?_
      refine ⟨?_, ?_⟩
      · dsimp only
      · dsimp only
        rw [wup_put w 6, wup_wput, wup_wput, wup_wput, wup_wput, wput_s, rmF, if_pos cf, i5, mv4]
  ·
    skip
    have cr := c4
    refine lv_aload_n hC.1 hC.2.1 dX3_readMover_21 rfl (lv_at hl 1 rfl) ?_
    refine lv_iload_n hC.1 hC.2.1 dX3_readMover_22 rfl (lv_at hl 0 rfl) ?_
    refine lv_ldc hC.1 hC.2.1 hC.2.2.2.1 (hC.2.2.2.2 _ q1395) dX3_readMover_23 ?_
    refine w_tern2 (cond := rmK (w 9) L v (w 6) = -1000000) (a := 0) (b := 1) 33 ?_ (fun jt25 jf25 => ?_)
    ·
      skip
      refine m_cve hC hK hM (mc_must l _ _ _ L (hP.r1 (w 9) (w 6)) htp) (cw_m 1 hC.2.2.2.2 q1407 q1409 qs31 q1410 ⟨rfl, rfl⟩ rfl (by decide +kernel) ⟨Nat.le_of_ble_eq_true rfl, Nat.le_of_ble_eq_true rfl⟩) rfl hl.1 rfl (lv_room (Nat.le_of_ble_eq_true rfl)) dX3_readMover_33 ⟨Nat.le_of_ble_eq_true rfl, Nat.le_of_ble_eq_true rfl⟩ (fun H locs hM => ?_)
      have e2 : rm2 (w 9) L v (w 6) = mustV (w 9) L (rm1 (w 9) L v (w 6)) (if rmK (w 9) L v (w 6) = -1000000 then 0 else 1) := by rw [rm2, if_pos cr]
      have hM : MS D ac A G s.heap mo ad (rm2 (w 9) L v (w 6)) w H locs := by rw [e2]; exact hM
      refine lv_aload_n hC.1 hC.2.1 dX3_readMover_36 rfl (lv_at hl 1 rfl) ?_
      refine lv_iconst (v := 0) hC.1 hC.2.1 dX3_readMover_37 (by decide) ?_
      refine lv_aload_n hC.1 hC.2.1 dX3_readMover_38 rfl (lv_at hl 1 rfl) ?_
      refine m_get hC hK hM 6 (by decide) q1268 rfl rfl dX3_readMover_39 ?_
      refine lv_iconst (v := 4) hC.1 hC.2.1 dX3_readMover_42 (by decide) ?_
      refine m_iald hC hK hM 6 rfl (n := 4) (by first | rfl | (simp only [← nI_add, ← pk_mul]; rfl)) (by first | decide | (show _ < 94; omega)) dX3_readMover_43 ?_
      refine lv_iconst (v := 1) hC.1 hC.2.1 dX3_readMover_44 (by decide) ?_
      refine lv_isub hC.1 hC.2.1 dX3_readMover_45 ?_
      refine m_cie hC hK hM (mc_number l _ _ _ _ L (hP.r2 (w 9) (w 6)) htp) (cw_m 2 hC.2.2.2.2 q1415 q1417 qs33 q1418 ⟨rfl, rfl⟩ rfl (by decide +kernel) ⟨Nat.le_of_ble_eq_true rfl, Nat.le_of_ble_eq_true rfl⟩) rfl hl.1 rfl (lv_room (Nat.le_of_ble_eq_true rfl)) dX3_readMover_46 ⟨Nat.le_of_ble_eq_true rfl, Nat.le_of_ble_eq_true rfl⟩ (fun H locs hM => ?_)
      have hM : MS D ac A G s.heap mo ad (rm3 (w 9) L v (w 6)) w H locs := by rw [rm3]; exact hM
      refine lv_istore_n (lv' := [(2, _), (1, _), (0, _)]) hC.1 hC.2.1 dX3_readMover_49 rfl hl (by decide) rfl (fun ls hl => ?_)
      refine lv_aload_n hC.1 hC.2.1 dX3_readMover_50 rfl (lv_at hl 2 rfl) ?_
      refine lv_iconst (v := 0) hC.1 hC.2.1 dX3_readMover_51 (by decide) ?_
      refine lv_iconst (v := 1) hC.1 hC.2.1 dX3_readMover_52 (by decide) ?_
      refine m_cie hC hK hM (mc_number l _ _ _ _ L (hP.r3 (w 9) (w 6)) htp) (cw_m 2 hC.2.2.2.2 q1415 q1417 qs33 q1418 ⟨rfl, rfl⟩ rfl (by decide +kernel) ⟨Nat.le_of_ble_eq_true rfl, Nat.le_of_ble_eq_true rfl⟩) rfl hl.1 rfl (lv_room (Nat.le_of_ble_eq_true rfl)) dX3_readMover_53 ⟨Nat.le_of_ble_eq_true rfl, Nat.le_of_ble_eq_true rfl⟩ (fun H locs hM => ?_)
      have hM : MS D ac A G s.heap mo ad (rm4 (w 9) L v (w 6)) w H locs := by rw [rm4]; exact hM
      refine lv_istore_n (lv' := [(3, _), (2, _), (1, _), (0, _)]) hC.1 hC.2.1 dX3_readMover_56 rfl hl (by decide) rfl (fun ls hl => ?_)
      refine lv_aload_n hC.1 hC.2.1 dX3_readMover_57 rfl (lv_at hl 3 rfl) ?_
      refine lv_iconst (v := 1) hC.1 hC.2.1 dX3_readMover_58 (by decide) ?_
      refine lv_iconst (v := 5) hC.1 hC.2.1 dX3_readMover_59 (by decide) ?_
      refine m_cie hC hK hM (mc_number l _ _ _ _ L (hP.r4 (w 9) (w 6)) htp) (cw_m 2 hC.2.2.2.2 q1415 q1417 qs33 q1418 ⟨rfl, rfl⟩ rfl (by decide +kernel) ⟨Nat.le_of_ble_eq_true rfl, Nat.le_of_ble_eq_true rfl⟩) rfl hl.1 rfl (lv_room (Nat.le_of_ble_eq_true rfl)) dX3_readMover_60 ⟨Nat.le_of_ble_eq_true rfl, Nat.le_of_ble_eq_true rfl⟩ (fun H locs hM => ?_)
      have hM : MS D ac A G s.heap mo ad (rm5 (w 9) L v (w 6)) w H locs := by rw [rm5]; exact hM
      refine lv_istore (lv' := [(4, _), (3, _), (2, _), (1, _), (0, _)]) hC.1 hC.2.1 dX3_readMover_63 hl (by decide) rfl (fun ls hl => ?_)
      refine lv_aload_n hC.1 hC.2.1 dX3_readMover_65 rfl (lv_at hl 4 rfl) ?_
      refine m_cve hC hK hM (mc_mustEnd l _ _ L (hP.r5 (w 9) (w 6)) htp) (cw_m 0 hC.2.2.2.2 q1423 q1425 qs35 q1426 ⟨rfl, rfl⟩ rfl (by decide +kernel) ⟨Nat.le_of_ble_eq_true rfl, Nat.le_of_ble_eq_true rfl⟩) rfl hl.1 rfl (lv_room (Nat.le_of_ble_eq_true rfl)) dX3_readMover_66 ⟨Nat.le_of_ble_eq_true rfl, Nat.le_of_ble_eq_true rfl⟩ (fun H locs hM => ?_)
      have hM : MS D ac A G s.heap mo ad (rmV (w 9) L v (w 6)) w H locs := by rw [rmV]; exact hM
      refine lv_aload_n hC.1 hC.2.1 dX3_readMover_69 rfl (lv_at hl 4 rfl) ?_
      refine m_get hC hK hM 17 (by decide) q1279 rfl rfl dX3_readMover_70 ?_
      refine lv_if_ne (tgt := 138) hC.1 hC.2.1 dX3_readMover_73 (by decide) (fun c15 => ?_) (fun c15 => ?_)
      ·
        skip
        have cf := c15
        refine m_vret hC hr hlocks hM dX3_readMover_138 ?_
        refine ⟨?_, ?_⟩
        · dsimp only
        · dsimp only
          rw [rmF, if_neg cf, wput_self]
      ·
        skip
        have cf := c15
        refine lv_bipush (v := 26) hC.1 hC.2.1 dX3_readMover_76 (by decide) ?_
        refine lv_iconst (v := 4) hC.1 hC.2.1 dX3_readMover_78 (by decide) ?_
        refine lv_aload_n hC.1 hC.2.1 dX3_readMover_79 rfl (lv_at hl 4 rfl) ?_
        refine m_get hC hK hM 6 (by decide) q1268 rfl rfl dX3_readMover_80 ?_
        refine lv_iconst (v := 5) hC.1 hC.2.1 dX3_readMover_83 (by decide) ?_
        refine m_iald hC hK hM 6 rfl (n := 5) (by first | rfl | (simp only [← nI_add, ← pk_mul]; rfl)) (by first | decide | (show _ < 94; omega)) dX3_readMover_84 ?_
        rw [en]
        refine lv_imul hC.1 hC.2.1 dX3_readMover_85 ?_
        refine lv_iadd hC.1 hC.2.1 dX3_readMover_86 ?_
        refine lv_istore (lv' := [(5, _), (4, _), (3, _), (2, _), (1, _), (0, _)]) hC.1 hC.2.1 dX3_readMover_87 hl (by decide) rfl (fun ls hl => ?_)
        refine lv_aload_n hC.1 hC.2.1 dX3_readMover_89 rfl (lv_at hl 5 rfl) ?_
        refine m_get hC hK hM 6 (by decide) q1268 rfl rfl dX3_readMover_90 ?_
        refine lv_iload hC.1 hC.2.1 dX3_readMover_93 (lv_at hl 0 rfl) ?_
        refine lv_iload_n hC.1 hC.2.1 dX3_readMover_95 rfl (lv_at hl 4 rfl) ?_
        refine m_iast hC hK hM 6 rfl (n := (26 + (4 * n))) (by first | rfl | (simp only [← nI_add, ← pk_mul]; rfl)) (by first | decide | (show _ < 94; omega)) dX3_readMover_96 (fun H locs hM => ?_)
        refine lv_aload_n hC.1 hC.2.1 dX3_readMover_97 rfl (lv_at hl 5 rfl) ?_
        refine m_get hC hK hM 6 (by decide) q1268 rfl rfl dX3_readMover_98 ?_
        refine lv_iload hC.1 hC.2.1 dX3_readMover_101 (lv_at hl 0 rfl) ?_
        refine lv_iconst (v := 1) hC.1 hC.2.1 dX3_readMover_103 (by decide) ?_
        refine lv_iadd hC.1 hC.2.1 dX3_readMover_104 ?_
        refine lv_iload_n hC.1 hC.2.1 dX3_readMover_105 rfl (lv_at hl 3 rfl) ?_
        refine m_iast hC hK hM 6 rfl (n := ((26 + (4 * n)) + 1)) (by first | rfl | (simp only [← nI_add, ← pk_mul]; rfl)) (by first | decide | (show _ < 94; omega)) dX3_readMover_106 (fun H locs hM => ?_)
        refine lv_aload_n hC.1 hC.2.1 dX3_readMover_107 rfl (lv_at hl 5 rfl) ?_
        refine m_get hC hK hM 6 (by decide) q1268 rfl rfl dX3_readMover_108 ?_
        refine lv_iload hC.1 hC.2.1 dX3_readMover_111 (lv_at hl 0 rfl) ?_
        refine lv_iconst (v := 2) hC.1 hC.2.1 dX3_readMover_113 (by decide) ?_
        refine lv_iadd hC.1 hC.2.1 dX3_readMover_114 ?_
        refine lv_iload_n hC.1 hC.2.1 dX3_readMover_115 rfl (lv_at hl 2 rfl) ?_
        refine m_iast hC hK hM 6 rfl (n := ((26 + (4 * n)) + 2)) (by first | rfl | (simp only [← nI_add, ← pk_mul]; rfl)) (by first | decide | (show _ < 94; omega)) dX3_readMover_116 (fun H locs hM => ?_)
        refine lv_aload_n hC.1 hC.2.1 dX3_readMover_117 rfl (lv_at hl 5 rfl) ?_
        refine m_get hC hK hM 6 (by decide) q1268 rfl rfl dX3_readMover_118 ?_
        refine lv_iload hC.1 hC.2.1 dX3_readMover_121 (lv_at hl 0 rfl) ?_
        refine lv_iconst (v := 3) hC.1 hC.2.1 dX3_readMover_123 (by decide) ?_
        refine lv_iadd hC.1 hC.2.1 dX3_readMover_124 ?_
        refine lv_iload hC.1 hC.2.1 dX3_readMover_125 (lv_at hl 1 rfl) ?_
        refine m_iast hC hK hM 6 rfl (n := ((26 + (4 * n)) + 3)) (by first | rfl | (simp only [← nI_add, ← pk_mul]; rfl)) (by first | decide | (show _ < 94; omega)) dX3_readMover_127 (fun H locs hM => ?_)
        refine lv_aload_n hC.1 hC.2.1 dX3_readMover_128 rfl (lv_at hl 5 rfl) ?_
        refine m_get hC hK hM 6 (by decide) q1268 rfl rfl dX3_readMover_129 ?_
        refine lv_iconst (v := 5) hC.1 hC.2.1 dX3_readMover_132 (by decide) ?_
        refine lv_dup2_11 hC.1 hC.2.1 dX3_readMover_133 rfl rfl ?_
        refine m_iald hC hK hM 6 rfl (n := 5) rfl (by decide) dX3_readMover_134 ?_
        refine lv_iconst (v := 1) hC.1 hC.2.1 dX3_readMover_135 (by decide) ?_
        refine lv_iadd hC.1 hC.2.1 dX3_readMover_136 ?_
        refine m_iast hC hK hM 6 rfl (n := 5) rfl (by decide) dX3_readMover_137 (fun H locs hM => ?_)
        refine m_vret hC hr hlocks hM dX3_readMover_138 ?_
        refine ⟨?_, ?_⟩
        · dsimp only
        · dsimp only
          rw [wup_put w 6, wup_wput, wup_wput, wup_wput, wup_wput, wput_s, rmF, if_pos cf, i5, mv4]
    ·
      skip
      refine lv_icmp_eq (tgt := 32) hC.1 hC.2.1 dX3_readMover_25 (by decide) (fun c16 => ?_) (fun c16 => ?_)
      ·
        skip
        have ck := c16
        refine lv_iconst (v := 0) hC.1 hC.2.1 dX3_readMover_32 (by decide) ?_
        first | exact jt25 (by exact ck) | exact jf25 (by exact ck)
      ·
        skip
        have ck := c16
        refine lv_iconst (v := 1) hC.1 hC.2.1 dX3_readMover_28 (by decide) ?_
        refine lv_goto (tgt := 33) hC.1 hC.2.1 dX3_readMover_29 (by decide) ?_
        first | exact jt25 (by exact ck) | exact jf25 (by exact ck)
