set_option maxHeartbeats 400000 in
set_option maxRecDepth 100000 in
theorem mc_copy (l : Launch) (v : Nat → Int32) (w : Nat → Nat → Int32) (a i b j n : Int32) (hw : rowsOk w) : mMi l yX3_copy cX3_copy 9 (some .int) ({ frames := 2, cells := 0, slots := 0, locals := 45 }) [.int a, .int i, .int b, .int j, .int n] v w (fun r v1 w1 => (r, v1, w1) = op_copy v w a i b j n) := by
  intro D ac A G mo ad
  refine m_body rfl (Nat.le_of_ble_eq_true rfl) ?_
  intro p e s m args below meth c ls hC hr hlocks hK hM hl
  have hl : lv_has ls 9 [(0, .ref mo), (1, .int a), (2, .int i), (3, .int b), (4, .int j), (5, .int n)] := hl
  refine lv_aload_n hC.1 hC.2.1 dX3_copy_0 rfl (lv_at hl 0 rfl) ?_
  refine lv_iconst (v := 0) hC.1 hC.2.1 dX3_copy_1 (by decide) ?_
  refine m_put hC hK hM 0 (by decide) q1262 rfl rfl rfl rfl dX3_copy_2 (fun H locs hM => ?_)
  refine lv_iload_n hC.1 hC.2.1 dX3_copy_5 rfl (lv_at hl 1 rfl) ?_
  refine s_ci hC (mc_isRow l _) (cw_ms 1 hC.2.2.2.2 q1346 q1347 q1348 ⟨rfl, rfl⟩ rfl (by decide +kernel) ⟨Nat.le_of_ble_eq_true rfl, Nat.le_of_ble_eq_true rfl⟩) rfl hl.1 rfl (lv_room (Nat.le_of_ble_eq_true rfl)) dX3_copy_6 ⟨Nat.le_of_ble_eq_true rfl, Nat.le_of_ble_eq_true rfl⟩ ?_
  refine lv_if_eq (tgt := 19) hC.1 hC.2.1 dX3_copy_9 (by decide) (fun c2 => ?_) (fun c2 => ?_)
  ·
    skip
    rw [bI_0] at c2
    refine lv_ldc hC.1 hC.2.1 hC.2.2.2.1 (hC.2.2.2.2 _ q1354) dX3_copy_19 ?_
    refine m_iret hC hr hlocks hM dX3_copy_21 ?_
    first | (simp [op_copy, *]; done) | (simp_all [op_copy]; done) | grind [op_copy]
  ·
    skip
    rw [bI_n0] at c2
    obtain ⟨A0, hA0, rfl⟩ := in_nI (N := 7) rfl rfl c2
    have eA0 : iN (nI A0) = A0 := iN_nI (by omega)
    have qA := c2
    obtain ⟨Ma, hMa, eMa⟩ := hw A0 (by omega)
    have iMa : iN (w 3 A0) = Ma := by rw [eMa]; exact iN_nI (by omega)
    refine lv_iload_n hC.1 hC.2.1 dX3_copy_12 rfl (lv_at hl 3 rfl) ?_
    refine s_ci hC (mc_isRow l _) (cw_ms 1 hC.2.2.2.2 q1346 q1347 q1348 ⟨rfl, rfl⟩ rfl (by decide +kernel) ⟨Nat.le_of_ble_eq_true rfl, Nat.le_of_ble_eq_true rfl⟩) rfl hl.1 rfl (lv_room (Nat.le_of_ble_eq_true rfl)) dX3_copy_13 ⟨Nat.le_of_ble_eq_true rfl, Nat.le_of_ble_eq_true rfl⟩ ?_
    refine lv_if_ne (tgt := 22) hC.1 hC.2.1 dX3_copy_16 (by decide) (fun c4 => ?_) (fun c4 => ?_)
    ·
      skip
      rw [bI_n0] at c4
      obtain ⟨B, hB, rfl⟩ := in_nI (N := 7) rfl rfl c4
      have eB : iN (nI B) = B := iN_nI (by omega)
      have qB := c4
      obtain ⟨Mb, hMb, eMb⟩ := hw B (by omega)
      have iMb : iN (w 3 B) = Mb := by rw [eMb]; exact iN_nI (by omega)
      refine lv_aload_n hC.1 hC.2.1 dX3_copy_22 rfl (lv_at hl 0 rfl) ?_
      refine lv_iconst (v := 0) hC.1 hC.2.1 dX3_copy_23 (by decide) ?_
      refine m_put hC hK hM 1 (by decide) q1263 rfl rfl rfl rfl dX3_copy_24 (fun H locs hM => ?_)
      refine lv_aload_n hC.1 hC.2.1 dX3_copy_27 rfl (lv_at hl 0 rfl) ?_
      refine m_get hC hK hM 2 (by decide) q1264 rfl rfl dX3_copy_28 ?_
      refine lv_iload_n hC.1 hC.2.1 dX3_copy_31 rfl (lv_at hl 1 rfl) ?_
      refine m_iald hC hK hM 2 rfl (n := A0) (by first | rfl | (simp only [← nI_add, ← pk_mul]; rfl)) (by first | decide | (show _ < 8; omega)) dX3_copy_32 ?_
      refine lv_if_lt (tgt := 45) hC.1 hC.2.1 dX3_copy_33 (by decide) (fun c5 => ?_) (fun c5 => ?_)
      ·
        have nc5 := Int32.not_le.mpr c5
        refine lv_aload_n hC.1 hC.2.1 dX3_copy_45 rfl (lv_at hl 0 rfl) ?_
        refine lv_iconst (v := 1) hC.1 hC.2.1 dX3_copy_46 (by decide) ?_
        refine m_cie hC hK hM (mc_finding l _ _ _) (cw_m 1 hC.2.2.2.2 q1355 q1357 qs26 q1358 ⟨rfl, rfl⟩ rfl (by decide +kernel) ⟨Nat.le_of_ble_eq_true rfl, Nat.le_of_ble_eq_true rfl⟩) rfl hl.1 rfl (lv_room (Nat.le_of_ble_eq_true rfl)) dX3_copy_47 ⟨Nat.le_of_ble_eq_true rfl, Nat.le_of_ble_eq_true rfl⟩ (fun H locs hM => ?_)
        refine m_iret hC hr hlocks hM dX3_copy_50 ?_
        first | (simp [op_copy, *]; done) | (simp_all [op_copy]; done) | grind [op_copy]
      ·
        have nc5 := Int32.not_lt.mp c5
        have qL := c5
        refine lv_aload_n hC.1 hC.2.1 dX3_copy_36 rfl (lv_at hl 0 rfl) ?_
        refine m_get hC hK hM 2 (by decide) q1264 rfl rfl dX3_copy_37 ?_
        refine lv_iload_n hC.1 hC.2.1 dX3_copy_40 rfl (lv_at hl 3 rfl) ?_
        refine m_iald hC hK hM 2 rfl (n := B) (by first | rfl | (simp only [← nI_add, ← pk_mul]; rfl)) (by first | decide | (show _ < 8; omega)) dX3_copy_41 ?_
        refine lv_if_ge (tgt := 51) hC.1 hC.2.1 dX3_copy_42 (by decide) (fun c7 => ?_) (fun c7 => ?_)
        ·
          have nc7 := Int32.not_lt.mpr c7
          have qM := nc7
          refine lv_aload_n hC.1 hC.2.1 dX3_copy_51 rfl (lv_at hl 0 rfl) ?_
          refine m_get hC hK hM 2 (by decide) q1264 rfl rfl dX3_copy_52 ?_
          refine lv_iload_n hC.1 hC.2.1 dX3_copy_55 rfl (lv_at hl 1 rfl) ?_
          refine m_iald hC hK hM 2 rfl (n := A0) (by first | rfl | (simp only [← nI_add, ← pk_mul]; rfl)) (by first | decide | (show _ < 8; omega)) dX3_copy_56 ?_
          refine lv_aload_n hC.1 hC.2.1 dX3_copy_57 rfl (lv_at hl 0 rfl) ?_
          refine m_get hC hK hM 2 (by decide) q1264 rfl rfl dX3_copy_58 ?_
          refine lv_iload_n hC.1 hC.2.1 dX3_copy_61 rfl (lv_at hl 3 rfl) ?_
          refine m_iald hC hK hM 2 rfl (n := B) (by first | rfl | (simp only [← nI_add, ← pk_mul]; rfl)) (by first | decide | (show _ < 8; omega)) dX3_copy_62 ?_
          refine lv_icmp_eq (tgt := 72) hC.1 hC.2.1 dX3_copy_63 (by decide) (fun c8 => ?_) (fun c8 => ?_)
          ·
            skip
            have qE := c8
            refine lv_iload_n hC.1 hC.2.1 dX3_copy_72 rfl (lv_at hl 2 rfl) ?_
            refine lv_if_lt (tgt := 121) hC.1 hC.2.1 dX3_copy_73 (by decide) (fun c9 => ?_) (fun c9 => ?_)
            ·
              have nc9 := Int32.not_le.mpr c9
              refine lv_aload_n hC.1 hC.2.1 dX3_copy_121 rfl (lv_at hl 0 rfl) ?_
              refine lv_iconst (v := 2) hC.1 hC.2.1 dX3_copy_122 (by decide) ?_
              refine m_cie hC hK hM (mc_finding l _ _ _) (cw_m 1 hC.2.2.2.2 q1355 q1357 qs26 q1358 ⟨rfl, rfl⟩ rfl (by decide +kernel) ⟨Nat.le_of_ble_eq_true rfl, Nat.le_of_ble_eq_true rfl⟩) rfl hl.1 rfl (lv_room (Nat.le_of_ble_eq_true rfl)) dX3_copy_123 ⟨Nat.le_of_ble_eq_true rfl, Nat.le_of_ble_eq_true rfl⟩ (fun H locs hM => ?_)
              refine m_iret hC hr hlocks hM dX3_copy_126 ?_
              first | (simp [op_copy, *]; done) | (simp_all [op_copy]; done) | grind [op_copy]
            ·
              have nc9 := Int32.not_lt.mp c9
              obtain ⟨I, hI, rfl⟩ := nI_of (x := i) c9
              have eI : iN (nI I) = I := iN_nI hI
              have qI := c9
              refine lv_iload hC.1 hC.2.1 dX3_copy_76 (lv_at hl 4 rfl) ?_
              refine lv_if_lt (tgt := 121) hC.1 hC.2.1 dX3_copy_78 (by decide) (fun c11 => ?_) (fun c11 => ?_)
              ·
                have nc11 := Int32.not_le.mpr c11
                refine lv_aload_n hC.1 hC.2.1 dX3_copy_121 rfl (lv_at hl 0 rfl) ?_
                refine lv_iconst (v := 2) hC.1 hC.2.1 dX3_copy_122 (by decide) ?_
                refine m_cie hC hK hM (mc_finding l _ _ _) (cw_m 1 hC.2.2.2.2 q1355 q1357 qs26 q1358 ⟨rfl, rfl⟩ rfl (by decide +kernel) ⟨Nat.le_of_ble_eq_true rfl, Nat.le_of_ble_eq_true rfl⟩) rfl hl.1 rfl (lv_room (Nat.le_of_ble_eq_true rfl)) dX3_copy_123 ⟨Nat.le_of_ble_eq_true rfl, Nat.le_of_ble_eq_true rfl⟩ (fun H locs hM => ?_)
                refine m_iret hC hr hlocks hM dX3_copy_126 ?_
                first | (simp [op_copy, *]; done) | (simp_all [op_copy]; done) | grind [op_copy]
              ·
                have nc11 := Int32.not_lt.mp c11
                obtain ⟨J, hJ, rfl⟩ := nI_of (x := j) c11
                have eJ : iN (nI J) = J := iN_nI hJ
                have qJ := c11
                refine lv_iload hC.1 hC.2.1 dX3_copy_81 (lv_at hl 5 rfl) ?_
                refine lv_if_lt (tgt := 121) hC.1 hC.2.1 dX3_copy_83 (by decide) (fun c13 => ?_) (fun c13 => ?_)
                ·
                  have nc13 := Int32.not_le.mpr c13
                  refine lv_aload_n hC.1 hC.2.1 dX3_copy_121 rfl (lv_at hl 0 rfl) ?_
                  refine lv_iconst (v := 2) hC.1 hC.2.1 dX3_copy_122 (by decide) ?_
                  refine m_cie hC hK hM (mc_finding l _ _ _) (cw_m 1 hC.2.2.2.2 q1355 q1357 qs26 q1358 ⟨rfl, rfl⟩ rfl (by decide +kernel) ⟨Nat.le_of_ble_eq_true rfl, Nat.le_of_ble_eq_true rfl⟩) rfl hl.1 rfl (lv_room (Nat.le_of_ble_eq_true rfl)) dX3_copy_123 ⟨Nat.le_of_ble_eq_true rfl, Nat.le_of_ble_eq_true rfl⟩ (fun H locs hM => ?_)
                  refine m_iret hC hr hlocks hM dX3_copy_126 ?_
                  first | (simp [op_copy, *]; done) | (simp_all [op_copy]; done) | grind [op_copy]
                ·
                  have nc13 := Int32.not_lt.mp c13
                  obtain ⟨N, hN, rfl⟩ := nI_of (x := n) c13
                  have eN : iN (nI N) = N := iN_nI hN
                  have qN := c13
                  refine lv_iload_n hC.1 hC.2.1 dX3_copy_86 rfl (lv_at hl 2 rfl) ?_
                  refine lv_i2l hC.1 hC.2.1 dX3_copy_87 rfl ?_
                  refine lv_iload hC.1 hC.2.1 dX3_copy_88 (lv_at hl 5 rfl) ?_
                  refine lv_i2l hC.1 hC.2.1 dX3_copy_90 rfl ?_
                  refine lv_ladd hC.1 hC.2.1 dX3_copy_91 ?_
                  refine lv_aload_n hC.1 hC.2.1 dX3_copy_92 rfl (lv_at hl 0 rfl) ?_
                  refine m_get hC hK hM 3 (by decide) q1265 rfl rfl dX3_copy_93 ?_
                  refine lv_iload_n hC.1 hC.2.1 dX3_copy_96 rfl (lv_at hl 1 rfl) ?_
                  refine m_iald hC hK hM 3 rfl (n := A0) (by first | rfl | (simp only [← nI_add, ← pk_mul]; rfl)) (by first | decide | (show _ < 8; omega)) dX3_copy_97 ?_
                  rw [eMa]
                  refine lv_i2l hC.1 hC.2.1 dX3_copy_98 rfl ?_
                  refine W.lcmp hC.1 hC.2.1 dX3_copy_99 ?_
                  refine lv_if_gt (tgt := 121) hC.1 hC.2.1 dX3_copy_100 (by decide) (fun c15 => ?_) (fun c15 => ?_)
                  ·
                    have nc15 := Int32.not_le.mpr c15
                    rw [lg_cmp_gt, lsum3 (by omega) (by omega) (by omega)] at c15
                    have cm := c15
                    refine lv_aload_n hC.1 hC.2.1 dX3_copy_121 rfl (lv_at hl 0 rfl) ?_
                    refine lv_iconst (v := 2) hC.1 hC.2.1 dX3_copy_122 (by decide) ?_
                    refine m_cie hC hK hM (mc_finding l _ _ _) (cw_m 1 hC.2.2.2.2 q1355 q1357 qs26 q1358 ⟨rfl, rfl⟩ rfl (by decide +kernel) ⟨Nat.le_of_ble_eq_true rfl, Nat.le_of_ble_eq_true rfl⟩) rfl hl.1 rfl (lv_room (Nat.le_of_ble_eq_true rfl)) dX3_copy_123 ⟨Nat.le_of_ble_eq_true rfl, Nat.le_of_ble_eq_true rfl⟩ (fun H locs hM => ?_)
                    refine m_iret hC hr hlocks hM dX3_copy_126 ?_
                    first | (simp [op_copy, *]; done) | (simp_all [op_copy]; done) | grind [op_copy]
                  ·
                    have nc15 := Int32.not_lt.mp c15
                    rw [lg_cmp_gt, lsum3 (by omega) (by omega) (by omega)] at c15
                    have cm1 := c15
                    refine lv_iload hC.1 hC.2.1 dX3_copy_103 (lv_at hl 4 rfl) ?_
                    refine lv_i2l hC.1 hC.2.1 dX3_copy_105 rfl ?_
                    refine lv_iload hC.1 hC.2.1 dX3_copy_106 (lv_at hl 5 rfl) ?_
                    refine lv_i2l hC.1 hC.2.1 dX3_copy_108 rfl ?_
                    refine lv_ladd hC.1 hC.2.1 dX3_copy_109 ?_
                    refine lv_aload_n hC.1 hC.2.1 dX3_copy_110 rfl (lv_at hl 0 rfl) ?_
                    refine m_get hC hK hM 3 (by decide) q1265 rfl rfl dX3_copy_111 ?_
                    refine lv_iload_n hC.1 hC.2.1 dX3_copy_114 rfl (lv_at hl 3 rfl) ?_
                    refine m_iald hC hK hM 3 rfl (n := B) (by first | rfl | (simp only [← nI_add, ← pk_mul]; rfl)) (by first | decide | (show _ < 8; omega)) dX3_copy_115 ?_
                    rw [eMb]
                    refine lv_i2l hC.1 hC.2.1 dX3_copy_116 rfl ?_
                    refine W.lcmp hC.1 hC.2.1 dX3_copy_117 ?_
                    refine lv_if_le (tgt := 127) hC.1 hC.2.1 dX3_copy_118 (by decide) (fun c17 => ?_) (fun c17 => ?_)
                    ·
                      have nc17 := Int32.not_lt.mpr c17
                      rw [← Int32.not_lt, lg_cmp_gt, lsum3 (by omega) (by omega) (by omega)] at c17
                      have cm2 := c17
                      refine lv_iload_n hC.1 hC.2.1 dX3_copy_127 rfl (lv_at hl 2 rfl) ?_
                      refine lv_iload hC.1 hC.2.1 dX3_copy_128 (lv_at hl 4 rfl) ?_
                      refine lv_icmp_lt (tgt := 137) hC.1 hC.2.1 dX3_copy_130 (by decide) (fun c18 => ?_) (fun c18 => ?_)
                      ·
                        have nc18 := Int32.not_le.mpr c18
                        have cij := nlt_t (a := I) (b := J) c18
                        refine lv_iconst (v := 0) hC.1 hC.2.1 dX3_copy_137 (by decide) ?_
                        refine lv_istore (lv' := [(6, _), (0, _), (1, _), (2, _), (3, _), (4, _), (5, _)]) hC.1 hC.2.1 dX3_copy_138 hl (by decide) rfl (fun ls hl => ?_)
                        refine lv_iconst (v := 0) hC.1 hC.2.1 dX3_copy_140 (by decide) ?_
                        refine lv_istore (lv' := [(7, _), (6, _), (0, _), (1, _), (2, _), (3, _), (4, _), (5, _)]) hC.1 hC.2.1 dX3_copy_141 hl (by decide) rfl (fun ls hl => ?_)
                        refine w_ind (α := Nat) 143 (fun (k : Nat) => N - k) (fun (k : Nat) (H : Heap) (locs : List Loc) (ls : Array Slot) => (k ≤ N) ∧ MS D ac A G s.heap mo ad (upd (upd v 0 0) 1 0) (wseg w 4 (40 * B + J + (N - k)) k (fun q => w 4 (40 * A0 + I + (N - k + q)))) H locs ∧ lv_has ls 9 [(0, .ref mo), (1, .int (nI A0)), (2, .int (nI I)), (3, .int (nI B)), (4, .int (nI J)), (5, .int (nI N)), (6, .int 0), (7, .int (nI k))]) ?_ (0) ⟨by omega, by rw [wseg_0]; exact hM, lv_sub hl [2, 3, 4, 5, 6, 7, 1, 0] rfl⟩
                        intro k H locs ls hI ih143
                        obtain ⟨hI143, hM, hl⟩ := hI
                        refine lv_iload hC.1 hC.2.1 dX3_copy_143 (lv_at hl 7 rfl) ?_
                        refine lv_iload hC.1 hC.2.1 dX3_copy_145 (lv_at hl 5 rfl) ?_
                        refine lv_icmp_ge (tgt := 204) hC.1 hC.2.1 dX3_copy_147 (by decide) (fun c19 => ?_) (fun c19 => ?_)
                        ·
                          have nc19 := Int32.not_lt.mpr c19
                          have hx147 := nle_t (a := N) (b := k) c19
                          obtain rfl : N = k := by omega
                          refine lv_iload hC.1 hC.2.1 dX3_copy_204 (lv_at hl 5 rfl) ?_
                          refine m_iret hC hr hlocks hM dX3_copy_206 ?_
                          have e2 : op_copy v w (nI A0) (nI I) (nI B) (nI J) (nI N) = (nI N, upd (upd v 0 0) 1 0, wseg w 4 (40 * B + J) N (fun q => w 4 (40 * A0 + I + q))) := by
                            simp only [op_copy, eA0, eB, eI, eJ, eN, iMa, iMb]
                            rw [if_neg (fun h => by rcases h with h | h; exact h qA; exact h qB), if_neg (fun h => by rcases h with h | h; exact qL h; exact qM h), if_neg (fun h => h qE), if_neg (fun h => by rcases h with h | h | h | h | h; exact qI h; exact qJ h; exact qN h; omega; omega)]
                          rw [e2, Nat.sub_self, Nat.add_zero]
                          simp only [Nat.zero_add]
                        ·
                          have nc19 := Int32.not_le.mp c19
                          have hx147 := nle_f (a := N) (b := k) c19
                          refine lv_iload hC.1 hC.2.1 dX3_copy_150 (lv_at hl 6 rfl) ?_
                          refine lv_if_eq (tgt := 160) hC.1 hC.2.1 dX3_copy_152 (by decide) (fun c20 => ?_) (fun c20 => ?_)
                          ·
                            skip
                            skip
                            refine lv_iload hC.1 hC.2.1 dX3_copy_160 (lv_at hl 5 rfl) ?_
                            refine lv_iconst (v := 1) hC.1 hC.2.1 dX3_copy_162 (by decide) ?_
                            refine lv_isub hC.1 hC.2.1 dX3_copy_163 ?_
                            refine lv_iload hC.1 hC.2.1 dX3_copy_164 (lv_at hl 7 rfl) ?_
                            refine lv_isub hC.1 hC.2.1 dX3_copy_166 ?_
                            rw [show nI N - 1 - nI k = nI (N - 1 - k) by rw [show nI N - 1 = nI (N - 1) from pk_sub (b := 1) (by omega)]; exact pk_sub (by omega)]
                            refine lv_istore (lv' := [(8, _), (0, _), (1, _), (2, _), (3, _), (4, _), (5, _), (6, _), (7, _)]) hC.1 hC.2.1 dX3_copy_167 hl (by decide) rfl (fun ls hl => ?_)
                            refine lv_aload_n hC.1 hC.2.1 dX3_copy_169 rfl (lv_at hl 1 rfl) ?_
                            refine m_get hC hK hM 4 (by decide) q1266 rfl rfl dX3_copy_170 ?_
                            refine lv_bipush (v := 40) hC.1 hC.2.1 dX3_copy_173 (by decide) ?_
                            refine lv_iload_n hC.1 hC.2.1 dX3_copy_175 rfl (lv_at hl 4 rfl) ?_
                            refine lv_imul hC.1 hC.2.1 dX3_copy_176 ?_
                            refine lv_iload hC.1 hC.2.1 dX3_copy_177 (lv_at hl 5 rfl) ?_
                            refine lv_iadd hC.1 hC.2.1 dX3_copy_179 ?_
                            refine lv_iload hC.1 hC.2.1 dX3_copy_180 (lv_at hl 0 rfl) ?_
                            refine lv_iadd hC.1 hC.2.1 dX3_copy_182 ?_
                            refine lv_aload_n hC.1 hC.2.1 dX3_copy_183 rfl (lv_at hl 1 rfl) ?_
                            refine m_get hC hK hM 4 (by decide) q1266 rfl rfl dX3_copy_184 ?_
                            refine lv_bipush (v := 40) hC.1 hC.2.1 dX3_copy_187 (by decide) ?_
                            refine lv_iload_n hC.1 hC.2.1 dX3_copy_189 rfl (lv_at hl 2 rfl) ?_
                            refine lv_imul hC.1 hC.2.1 dX3_copy_190 ?_
                            refine lv_iload_n hC.1 hC.2.1 dX3_copy_191 rfl (lv_at hl 3 rfl) ?_
                            refine lv_iadd hC.1 hC.2.1 dX3_copy_192 ?_
                            refine lv_iload hC.1 hC.2.1 dX3_copy_193 (lv_at hl 0 rfl) ?_
                            refine lv_iadd hC.1 hC.2.1 dX3_copy_195 ?_
                            refine m_iald hC hK hM 4 rfl (n := (((40 * A0) + I) + (N - 1 - k))) (by first | rfl | (simp only [← nI_add, ← pk_mul]; rfl)) (by first | decide | (show _ < 320; omega)) dX3_copy_196 ?_
                            refine m_iast hC hK hM 4 rfl (n := (((40 * B) + J) + (N - 1 - k))) (by first | rfl | (simp only [← nI_add, ← pk_mul]; rfl)) (by first | decide | (show _ < 320; omega)) dX3_copy_197 (fun H locs hM => ?_)
                            refine lv_iinc (v := nI (k + 1)) (lv' := [(7, _), (8, _), (0, _), (1, _), (2, _), (3, _), (4, _), (5, _), (6, _)]) hC.1 hC.2.1 dX3_copy_198 hl (k := 8) rfl (nI_1 _) (by decide) rfl (fun ls hl => ?_)
                            refine lv_goto (tgt := 143) hC.1 hC.2.1 dX3_copy_201 (by decide) ?_
                            rw [wseg_out (by omega)] at hM
                            have e1 := wseg_p (w := w) (a := 4) (lo := 40 * B + J + (N - (k + 1))) (n := k) (f := fun q => w 4 (40 * A0 + I + (N - (k + 1) + q)))
                            rw [show (fun q => (fun q => w 4 (40 * A0 + I + (N - (k + 1) + q))) (q + 1)) = (fun q => w 4 (40 * A0 + I + (N - k + q))) by funext q; show w 4 _ = w 4 _; congr 1; omega, show 40 * B + J + (N - (k + 1)) + 1 = 40 * B + J + (N - k) by omega, show w 4 (40 * A0 + I + (N - (k + 1) + 0)) = w 4 (40 * A0 + I + (N - 1 - k)) by congr 1; omega, show 40 * B + J + (N - (k + 1)) = 40 * B + J + (N - 1 - k) by omega] at e1
                            exact ih143 (k + 1) _ _ _ (by omega) ⟨by omega, by rw [show 40 * B + J + (N - (k + 1)) = 40 * B + J + (N - 1 - k) by omega, ← e1]; exact hM, lv_sub hl [2, 3, 4, 5, 6, 7, 8, 0] rfl⟩
                          ·
                            skip
                            exact absurd rfl c20
                      ·
                        have nc18 := Int32.not_lt.mp c18
                        have cij := nlt_f (a := I) (b := J) c18
                        refine lv_iconst (v := 1) hC.1 hC.2.1 dX3_copy_133 (by decide) ?_
                        refine lv_goto (tgt := 138) hC.1 hC.2.1 dX3_copy_134 (by decide) ?_
                        refine lv_istore (lv' := [(6, _), (0, _), (1, _), (2, _), (3, _), (4, _), (5, _)]) hC.1 hC.2.1 dX3_copy_138 hl (by decide) rfl (fun ls hl => ?_)
                        refine lv_iconst (v := 0) hC.1 hC.2.1 dX3_copy_140 (by decide) ?_
                        refine lv_istore (lv' := [(7, _), (6, _), (0, _), (1, _), (2, _), (3, _), (4, _), (5, _)]) hC.1 hC.2.1 dX3_copy_141 hl (by decide) rfl (fun ls hl => ?_)
                        refine w_ind (α := Nat) 143 (fun (k : Nat) => N - k) (fun (k : Nat) (H : Heap) (locs : List Loc) (ls : Array Slot) => (k ≤ N) ∧ MS D ac A G s.heap mo ad (upd (upd v 0 0) 1 0) (wseg w 4 (40 * B + J) k (fun q => w 4 (40 * A0 + I + q))) H locs ∧ lv_has ls 9 [(0, .ref mo), (1, .int (nI A0)), (2, .int (nI I)), (3, .int (nI B)), (4, .int (nI J)), (5, .int (nI N)), (6, .int 1), (7, .int (nI k))]) ?_ (0) ⟨by omega, by rw [wseg_0]; exact hM, lv_sub hl [2, 3, 4, 5, 6, 7, 1, 0] rfl⟩
                        intro k H locs ls hI ih143
                        obtain ⟨hI143, hM, hl⟩ := hI
                        refine lv_iload hC.1 hC.2.1 dX3_copy_143 (lv_at hl 7 rfl) ?_
                        refine lv_iload hC.1 hC.2.1 dX3_copy_145 (lv_at hl 5 rfl) ?_
                        refine lv_icmp_ge (tgt := 204) hC.1 hC.2.1 dX3_copy_147 (by decide) (fun c21 => ?_) (fun c21 => ?_)
                        ·
                          have nc21 := Int32.not_lt.mpr c21
                          have hx147 := nle_t (a := N) (b := k) c21
                          obtain rfl : N = k := by omega
                          refine lv_iload hC.1 hC.2.1 dX3_copy_204 (lv_at hl 5 rfl) ?_
                          refine m_iret hC hr hlocks hM dX3_copy_206 ?_
                          have e2 : op_copy v w (nI A0) (nI I) (nI B) (nI J) (nI N) = (nI N, upd (upd v 0 0) 1 0, wseg w 4 (40 * B + J) N (fun q => w 4 (40 * A0 + I + q))) := by
                            simp only [op_copy, eA0, eB, eI, eJ, eN, iMa, iMb]
                            rw [if_neg (fun h => by rcases h with h | h; exact h qA; exact h qB), if_neg (fun h => by rcases h with h | h; exact qL h; exact qM h), if_neg (fun h => h qE), if_neg (fun h => by rcases h with h | h | h | h | h; exact qI h; exact qJ h; exact qN h; omega; omega)]
                          rw [e2]
                        ·
                          have nc21 := Int32.not_le.mp c21
                          have hx147 := nle_f (a := N) (b := k) c21
                          refine lv_iload hC.1 hC.2.1 dX3_copy_150 (lv_at hl 6 rfl) ?_
                          refine lv_if_eq (tgt := 160) hC.1 hC.2.1 dX3_copy_152 (by decide) (fun c22 => ?_) (fun c22 => ?_)
                          ·
                            skip
                            exact absurd c22 (by decide)
                          ·
                            skip
                            skip
                            refine lv_iload hC.1 hC.2.1 dX3_copy_155 (lv_at hl 7 rfl) ?_
                            refine lv_goto (tgt := 167) hC.1 hC.2.1 dX3_copy_157 (by decide) ?_
                            refine lv_istore (lv' := [(8, _), (0, _), (1, _), (2, _), (3, _), (4, _), (5, _), (6, _), (7, _)]) hC.1 hC.2.1 dX3_copy_167 hl (by decide) rfl (fun ls hl => ?_)
                            refine lv_aload_n hC.1 hC.2.1 dX3_copy_169 rfl (lv_at hl 1 rfl) ?_
                            refine m_get hC hK hM 4 (by decide) q1266 rfl rfl dX3_copy_170 ?_
                            refine lv_bipush (v := 40) hC.1 hC.2.1 dX3_copy_173 (by decide) ?_
                            refine lv_iload_n hC.1 hC.2.1 dX3_copy_175 rfl (lv_at hl 4 rfl) ?_
                            refine lv_imul hC.1 hC.2.1 dX3_copy_176 ?_
                            refine lv_iload hC.1 hC.2.1 dX3_copy_177 (lv_at hl 5 rfl) ?_
                            refine lv_iadd hC.1 hC.2.1 dX3_copy_179 ?_
                            refine lv_iload hC.1 hC.2.1 dX3_copy_180 (lv_at hl 0 rfl) ?_
                            refine lv_iadd hC.1 hC.2.1 dX3_copy_182 ?_
                            refine lv_aload_n hC.1 hC.2.1 dX3_copy_183 rfl (lv_at hl 1 rfl) ?_
                            refine m_get hC hK hM 4 (by decide) q1266 rfl rfl dX3_copy_184 ?_
                            refine lv_bipush (v := 40) hC.1 hC.2.1 dX3_copy_187 (by decide) ?_
                            refine lv_iload_n hC.1 hC.2.1 dX3_copy_189 rfl (lv_at hl 2 rfl) ?_
                            refine lv_imul hC.1 hC.2.1 dX3_copy_190 ?_
                            refine lv_iload_n hC.1 hC.2.1 dX3_copy_191 rfl (lv_at hl 3 rfl) ?_
                            refine lv_iadd hC.1 hC.2.1 dX3_copy_192 ?_
                            refine lv_iload hC.1 hC.2.1 dX3_copy_193 (lv_at hl 0 rfl) ?_
                            refine lv_iadd hC.1 hC.2.1 dX3_copy_195 ?_
                            refine m_iald hC hK hM 4 rfl (n := (((40 * A0) + I) + k)) (by first | rfl | (simp only [← nI_add, ← pk_mul]; rfl)) (by first | decide | (show _ < 320; omega)) dX3_copy_196 ?_
                            refine m_iast hC hK hM 4 rfl (n := (((40 * B) + J) + k)) (by first | rfl | (simp only [← nI_add, ← pk_mul]; rfl)) (by first | decide | (show _ < 320; omega)) dX3_copy_197 (fun H locs hM => ?_)
                            refine lv_iinc (v := nI (k + 1)) (lv' := [(7, _), (8, _), (0, _), (1, _), (2, _), (3, _), (4, _), (5, _), (6, _)]) hC.1 hC.2.1 dX3_copy_198 hl (k := 8) rfl (nI_1 _) (by decide) rfl (fun ls hl => ?_)
                            refine lv_goto (tgt := 143) hC.1 hC.2.1 dX3_copy_201 (by decide) ?_
                            rw [wseg_out (by omega)] at hM
                            exact ih143 (k + 1) _ _ _ (by omega) ⟨by omega, by rw [← wseg_sx (w := w) (a := 4) (lo := 40 * B + J) (n := k) (f := fun q => w 4 (40 * A0 + I + q)) (m := 40 * B + J + k) rfl rfl]; exact hM, lv_sub hl [2, 3, 4, 5, 6, 7, 8, 0] rfl⟩
                    ·
                      have nc17 := Int32.not_le.mp c17
                      rw [← Int32.not_lt, lg_cmp_gt, lsum3 (by omega) (by omega) (by omega)] at c17
                      have cm := Classical.not_not.mp c17
                      refine lv_aload_n hC.1 hC.2.1 dX3_copy_121 rfl (lv_at hl 0 rfl) ?_
                      refine lv_iconst (v := 2) hC.1 hC.2.1 dX3_copy_122 (by decide) ?_
                      refine m_cie hC hK hM (mc_finding l _ _ _) (cw_m 1 hC.2.2.2.2 q1355 q1357 qs26 q1358 ⟨rfl, rfl⟩ rfl (by decide +kernel) ⟨Nat.le_of_ble_eq_true rfl, Nat.le_of_ble_eq_true rfl⟩) rfl hl.1 rfl (lv_room (Nat.le_of_ble_eq_true rfl)) dX3_copy_123 ⟨Nat.le_of_ble_eq_true rfl, Nat.le_of_ble_eq_true rfl⟩ (fun H locs hM => ?_)
                      refine m_iret hC hr hlocks hM dX3_copy_126 ?_
                      first | (simp [op_copy, *]; done) | (simp_all [op_copy]; done) | grind [op_copy]
          ·
            skip
            refine lv_aload_n hC.1 hC.2.1 dX3_copy_66 rfl (lv_at hl 0 rfl) ?_
            refine lv_iconst (v := 5) hC.1 hC.2.1 dX3_copy_67 (by decide) ?_
            refine m_cie hC hK hM (mc_finding l _ _ _) (cw_m 1 hC.2.2.2.2 q1355 q1357 qs26 q1358 ⟨rfl, rfl⟩ rfl (by decide +kernel) ⟨Nat.le_of_ble_eq_true rfl, Nat.le_of_ble_eq_true rfl⟩) rfl hl.1 rfl (lv_room (Nat.le_of_ble_eq_true rfl)) dX3_copy_68 ⟨Nat.le_of_ble_eq_true rfl, Nat.le_of_ble_eq_true rfl⟩ (fun H locs hM => ?_)
            refine m_iret hC hr hlocks hM dX3_copy_71 ?_
            first | (simp [op_copy, *]; done) | (simp_all [op_copy]; done) | grind [op_copy]
        ·
          have nc7 := Int32.not_le.mp c7
          refine lv_aload_n hC.1 hC.2.1 dX3_copy_45 rfl (lv_at hl 0 rfl) ?_
          refine lv_iconst (v := 1) hC.1 hC.2.1 dX3_copy_46 (by decide) ?_
          refine m_cie hC hK hM (mc_finding l _ _ _) (cw_m 1 hC.2.2.2.2 q1355 q1357 qs26 q1358 ⟨rfl, rfl⟩ rfl (by decide +kernel) ⟨Nat.le_of_ble_eq_true rfl, Nat.le_of_ble_eq_true rfl⟩) rfl hl.1 rfl (lv_room (Nat.le_of_ble_eq_true rfl)) dX3_copy_47 ⟨Nat.le_of_ble_eq_true rfl, Nat.le_of_ble_eq_true rfl⟩ (fun H locs hM => ?_)
          refine m_iret hC hr hlocks hM dX3_copy_50 ?_
          first | (simp [op_copy, *]; done) | (simp_all [op_copy]; done) | grind [op_copy]
    ·
      skip
      rw [bI_0] at c4
      refine lv_ldc hC.1 hC.2.1 hC.2.2.2.1 (hC.2.2.2.2 _ q1354) dX3_copy_19 ?_
      refine m_iret hC hr hlocks hM dX3_copy_21 ?_
      first | (simp [op_copy, *]; done) | (simp_all [op_copy]; done) | grind [op_copy]
