set_option maxHeartbeats 400000 in
set_option maxRecDepth 100000 in
theorem mc_times (l : Launch) (v : Nat → Int32) (w : Nat → Nat → Int32) (x i y : Int32) (n mv tm : Nat) (hd : rdN w n mv tm) (hw : rowsOk w) : mMi l yX3_times cX3_times 6 (some .int) ({ frames := 3, cells := 0, slots := 0, locals := 70 }) [.int x, .int i, .int y] v w (fun r v1 w1 => (r, v1, w1) = op_times v w x i y) := by
  intro D ac A G mo ad
  refine m_body rfl (Nat.le_of_ble_eq_true rfl) ?_
  intro p e s m args below meth c ls hC hr hlocks hK hM hl
  have hl : lv_has ls 6 [(0, .ref mo), (1, .int x), (2, .int i), (3, .int y)] := hl
  obtain ⟨en, hn, em, hm, et, ht⟩ := hd
  have i7 : iN (w 5 7) = tm := by rw [et]; exact iN_nI (by omega)
  refine lv_aload_n hC.1 hC.2.1 dX3_times_0 rfl (lv_at hl 0 rfl) ?_
  refine lv_iconst (v := 0) hC.1 hC.2.1 dX3_times_1 (by decide) ?_
  refine m_put hC hK hM 0 (by decide) q1262 rfl rfl rfl rfl dX3_times_2 (fun H locs hM => ?_)
  refine lv_aload_n hC.1 hC.2.1 dX3_times_5 rfl (lv_at hl 0 rfl) ?_
  refine m_cr hC hK hM (mc_isThere l _ _) (cw_m 0 hC.2.2.2.2 q1458 q1460 qs39 q1461 ⟨rfl, rfl⟩ rfl (by decide +kernel) ⟨Nat.le_of_ble_eq_true rfl, Nat.le_of_ble_eq_true rfl⟩) rfl hl.1 rfl (lv_room (Nat.le_of_ble_eq_true rfl)) dX3_times_6 ⟨Nat.le_of_ble_eq_true rfl, Nat.le_of_ble_eq_true rfl⟩ ?_
  refine lv_if_ne (tgt := 15) hC.1 hC.2.1 dX3_times_9 (by decide) (fun c2 => ?_) (fun c2 => ?_)
  ·
    skip
    rw [bI_n0] at c2
    have cT := c2
    refine lv_iload_n hC.1 hC.2.1 dX3_times_15 rfl (lv_at hl 1 rfl) ?_
    refine s_ci hC (mc_isRow l _) (cw_ms 1 hC.2.2.2.2 q1346 q1347 q1348 ⟨rfl, rfl⟩ rfl (by decide +kernel) ⟨Nat.le_of_ble_eq_true rfl, Nat.le_of_ble_eq_true rfl⟩) rfl hl.1 rfl (lv_room (Nat.le_of_ble_eq_true rfl)) dX3_times_16 ⟨Nat.le_of_ble_eq_true rfl, Nat.le_of_ble_eq_true rfl⟩ ?_
    refine lv_if_eq (tgt := 34) hC.1 hC.2.1 dX3_times_19 (by decide) (fun c4 => ?_) (fun c4 => ?_)
    ·
      skip
      rw [bI_0] at c4
      have qb := c4
      refine lv_ldc hC.1 hC.2.1 hC.2.2.2.1 (hC.2.2.2.2 _ q1354) dX3_times_34 ?_
      refine m_iret hC hr hlocks hM dX3_times_36 ?_
      rw [op_times, if_neg (fun h => h cT), if_pos (Or.inl qb)]
    ·
      skip
      rw [bI_n0] at c4
      obtain ⟨R0, hR0, rfl⟩ := in_nI (N := 7) rfl rfl c4
      have eR0 : iN (nI R0) = R0 := iN_nI (by omega)
      have qA := c4
      obtain ⟨Ma, hMa, eMa⟩ := hw R0 (by omega)
      have iMa : iN (w 3 R0) = Ma := by rw [eMa]; exact iN_nI (by omega)
      refine lv_iload_n hC.1 hC.2.1 dX3_times_22 rfl (lv_at hl 3 rfl) ?_
      refine lv_i2l hC.1 hC.2.1 dX3_times_23 rfl ?_
      refine lv_lconst (v := 1) hC.1 hC.2.1 dX3_times_24 (by decide) ?_
      refine lv_ldc2 hC.1 hC.2.1 hC.2.2.2.1 (hC.2.2.2.2 _ q1532) dX3_times_25 ?_
      refine s_ci hC ((mc_in l (a := 1) (b := 10) rfl rfl rfl)) (cw_ms 3 hC.2.2.2.2 q1350 q1351 q1352 ⟨rfl, rfl⟩ rfl (by decide +kernel) ⟨Nat.le_of_ble_eq_true rfl, Nat.le_of_ble_eq_true rfl⟩) rfl hl.1 rfl (lv_room (Nat.le_of_ble_eq_true rfl)) dX3_times_28 ⟨Nat.le_of_ble_eq_true rfl, Nat.le_of_ble_eq_true rfl⟩ ?_
      refine lv_if_ne (tgt := 37) hC.1 hC.2.1 dX3_times_31 (by decide) (fun c6 => ?_) (fun c6 => ?_)
      ·
        skip
        rw [bI_n0] at c6
        have qN := c6
        obtain ⟨N, hN, rfl⟩ := in_nI (a := 0) (N := 10) rfl rfl (show 0 ≤ y ∧ y ≤ 10 from ⟨Int32.le_trans (by decide) c6.1, c6.2⟩)
        have eN : iN (nI N) = N := iN_nI (by omega)
        have hN1 : 1 ≤ N := nle_t (a := 1) (b := N) c6.1
        refine lv_aload_n hC.1 hC.2.1 dX3_times_37 rfl (lv_at hl 0 rfl) ?_
        refine m_get hC hK hM 2 (by decide) q1264 rfl rfl dX3_times_38 ?_
        refine lv_iload_n hC.1 hC.2.1 dX3_times_41 rfl (lv_at hl 1 rfl) ?_
        refine m_iald hC hK hM 2 rfl (n := R0) (by first | rfl | (simp only [← nI_add, ← pk_mul]; rfl)) (by first | decide | (show _ < 8; omega)) dX3_times_42 ?_
        refine lv_if_ge (tgt := 52) hC.1 hC.2.1 dX3_times_43 (by decide) (fun c7 => ?_) (fun c7 => ?_)
        ·
          have nc7 := Int32.not_lt.mpr c7
          have qL := nc7
          refine lv_iload_n hC.1 hC.2.1 dX3_times_52 rfl (lv_at hl 2 rfl) ?_
          refine lv_if_lt (tgt := 74) hC.1 hC.2.1 dX3_times_53 (by decide) (fun c8 => ?_) (fun c8 => ?_)
          ·
            have nc8 := Int32.not_le.mpr c8
            have qi := c8
            refine lv_aload_n hC.1 hC.2.1 dX3_times_74 rfl (lv_at hl 0 rfl) ?_
            refine lv_iconst (v := 2) hC.1 hC.2.1 dX3_times_75 (by decide) ?_
            refine m_cie hC hK hM (mc_finding l _ _ _) (cw_m 1 hC.2.2.2.2 q1355 q1357 qs26 q1358 ⟨rfl, rfl⟩ rfl (by decide +kernel) ⟨Nat.le_of_ble_eq_true rfl, Nat.le_of_ble_eq_true rfl⟩) rfl hl.1 rfl (lv_room (Nat.le_of_ble_eq_true rfl)) dX3_times_76 ⟨Nat.le_of_ble_eq_true rfl, Nat.le_of_ble_eq_true rfl⟩ (fun H locs hM => ?_)
            refine m_iret hC hr hlocks hM dX3_times_79 ?_
            rw [op_times, if_neg (fun h => h cT), if_neg (fun h => by rcases h with h | h; exact h qA; exact h qN), eR0, if_neg qL, if_pos (Or.inl qi)]; rfl
          ·
            have nc8 := Int32.not_lt.mp c8
            obtain ⟨I, hI, rfl⟩ := nI_of (x := i) c8
            have eI : iN (nI I) = I := iN_nI hI
            have qI := c8
            refine lv_iload_n hC.1 hC.2.1 dX3_times_56 rfl (lv_at hl 2 rfl) ?_
            refine lv_i2l hC.1 hC.2.1 dX3_times_57 rfl ?_
            refine lv_iconst (v := 4) hC.1 hC.2.1 dX3_times_58 (by decide) ?_
            refine lv_iload_n hC.1 hC.2.1 dX3_times_59 rfl (lv_at hl 3 rfl) ?_
            refine lv_imul hC.1 hC.2.1 dX3_times_60 ?_
            rw [show (4 : Int32) * nI N = nI (4 * N) from pk_mul 4 N]
            refine lv_i2l hC.1 hC.2.1 dX3_times_61 rfl ?_
            refine lv_ladd hC.1 hC.2.1 dX3_times_62 ?_
            refine lv_aload_n hC.1 hC.2.1 dX3_times_63 rfl (lv_at hl 0 rfl) ?_
            refine m_get hC hK hM 3 (by decide) q1265 rfl rfl dX3_times_64 ?_
            refine lv_iload_n hC.1 hC.2.1 dX3_times_67 rfl (lv_at hl 1 rfl) ?_
            refine m_iald hC hK hM 3 rfl (n := R0) (by first | rfl | (simp only [← nI_add, ← pk_mul]; rfl)) (by first | decide | (show _ < 8; omega)) dX3_times_68 ?_
            rw [eMa]
            refine lv_i2l hC.1 hC.2.1 dX3_times_69 rfl ?_
            refine W.lcmp hC.1 hC.2.1 dX3_times_70 ?_
            refine lv_if_le (tgt := 80) hC.1 hC.2.1 dX3_times_71 (by decide) (fun c10 => ?_) (fun c10 => ?_)
            ·
              have nc10 := Int32.not_lt.mpr c10
              rw [← Int32.not_lt, lg_cmp_gt, lsum3 (by omega) (by omega) (by omega)] at c10
              have cm := c10
              refine lv_bipush (v := 40) hC.1 hC.2.1 dX3_times_80 (by decide) ?_
              refine lv_iload_n hC.1 hC.2.1 dX3_times_82 rfl (lv_at hl 1 rfl) ?_
              refine lv_imul hC.1 hC.2.1 dX3_times_83 ?_
              refine lv_iload_n hC.1 hC.2.1 dX3_times_84 rfl (lv_at hl 2 rfl) ?_
              refine lv_iadd hC.1 hC.2.1 dX3_times_85 ?_
              rw [show (40 : Int32) * nI R0 + nI I = nI (40 * R0 + I) by rw [← nI_add, ← pk_mul]; rfl]
              refine lv_istore (lv' := [(4, _), (0, _), (1, _), (2, _), (3, _)]) hC.1 hC.2.1 dX3_times_86 hl (by decide) rfl (fun ls hl => ?_)
              refine lv_iconst (v := 0) hC.1 hC.2.1 dX3_times_88 (by decide) ?_
              refine lv_istore (lv' := [(5, _), (4, _), (0, _), (1, _), (2, _), (3, _)]) hC.1 hC.2.1 dX3_times_89 hl (by decide) rfl (fun ls hl => ?_)
              refine w_ind (α := Nat) 91 (fun (k : Nat) => N - k) (fun (k : Nat) (H : Heap) (locs : List Loc) (ls : Array Slot) => (k ≤ N ∧ tmAll (w 5 4) (w 4) (40 * R0 + I) k = true) ∧ MS D ac A G s.heap mo ad (upd v 0 0) (w) H locs ∧ lv_has ls 6 [(0, .ref mo), (3, .int (nI N)), (4, .int (nI (40 * R0 + I))), (5, .int (nI k))]) ?_ (0) ⟨⟨by omega, rfl⟩, hM, lv_sub hl [2, 5, 1, 0] rfl⟩
              intro k H locs ls hI ih91
              obtain ⟨hI91, hM, hl⟩ := hI
              refine lv_iload hC.1 hC.2.1 dX3_times_91 (lv_at hl 3 rfl) ?_
              refine lv_iload_n hC.1 hC.2.1 dX3_times_93 rfl (lv_at hl 1 rfl) ?_
              refine lv_icmp_ge (tgt := 167) hC.1 hC.2.1 dX3_times_94 (by decide) (fun c11 => ?_) (fun c11 => ?_)
              ·
                have nc11 := Int32.not_lt.mpr c11
                have hx94 := nle_t (a := N) (b := k) c11
                obtain rfl : N = k := by omega
                refine lv_aload_n hC.1 hC.2.1 dX3_times_167 rfl (lv_at hl 0 rfl) ?_
                refine m_get hC hK hM 5 (by decide) q1267 rfl rfl dX3_times_168 ?_
                refine lv_bipush (v := 7) hC.1 hC.2.1 dX3_times_171 (by decide) ?_
                refine m_iald hC hK hM 5 rfl (n := 7) (by first | rfl | (simp only [← nI_add, ← pk_mul]; rfl)) (by first | decide | (show _ < 94; omega)) dX3_times_173 ?_
                rw [et]
                refine lv_iload_n hC.1 hC.2.1 dX3_times_174 rfl (lv_at hl 1 rfl) ?_
                refine lv_iadd hC.1 hC.2.1 dX3_times_175 ?_
                rw [nI_add]
                refine lv_bipush (v := 12) hC.1 hC.2.1 dX3_times_176 (by decide) ?_
                refine lv_icmp_le (tgt := 184) hC.1 hC.2.1 dX3_times_178 (by decide) (fun c12 => ?_) (fun c12 => ?_)
                ·
                  have nc12 := Int32.not_lt.mpr c12
                  have hx178 := nle_t (a := tm + N) (b := 12) c12
                  refine lv_aload_n hC.1 hC.2.1 dX3_times_184 rfl (lv_at hl 0 rfl) ?_
                  refine lv_iconst (v := 0) hC.1 hC.2.1 dX3_times_185 (by decide) ?_
                  refine m_put hC hK hM 1 (by decide) q1263 rfl rfl rfl rfl dX3_times_186 (fun H locs hM => ?_)
                  refine lv_iconst (v := 0) hC.1 hC.2.1 dX3_times_189 (by decide) ?_
                  refine lv_istore (lv' := [(5, _), (0, _), (3, _), (4, _)]) hC.1 hC.2.1 dX3_times_190 hl (by decide) rfl (fun ls hl => ?_)
                  refine w_ind (α := Nat) 192 (fun (k : Nat) => N - k) (fun (k : Nat) (H : Heap) (locs : List Loc) (ls : Array Slot) => (k ≤ N) ∧ MS D ac A G s.heap mo ad (upd (upd v 0 0) 1 0) (addL w (w 4) (40 * R0 + I) k) H locs ∧ lv_has ls 6 [(0, .ref mo), (3, .int (nI N)), (4, .int (nI (40 * R0 + I))), (5, .int (nI k))]) ?_ (0) ⟨by omega, hM, lv_sub hl [1, 2, 3, 0] rfl⟩
                  intro k H locs ls hI ih192
                  obtain ⟨hI192, hM, hl⟩ := hI
                  refine lv_iload hC.1 hC.2.1 dX3_times_192 (lv_at hl 3 rfl) ?_
                  refine lv_iload_n hC.1 hC.2.1 dX3_times_194 rfl (lv_at hl 1 rfl) ?_
                  refine lv_icmp_ge (tgt := 262) hC.1 hC.2.1 dX3_times_195 (by decide) (fun c13 => ?_) (fun c13 => ?_)
                  ·
                    have nc13 := Int32.not_lt.mpr c13
                    have hx195 := nle_t (a := N) (b := k) c13
                    obtain rfl : N = k := by omega
                    refine lv_aload_n hC.1 hC.2.1 dX3_times_262 rfl (lv_at hl 0 rfl) ?_
                    refine m_get hC hK hM 5 (by decide) q1267 rfl rfl dX3_times_263 ?_
                    refine lv_bipush (v := 7) hC.1 hC.2.1 dX3_times_266 (by decide) ?_
                    refine m_iald hC hK hM 5 rfl (n := 7) (by first | rfl | (simp only [← nI_add, ← pk_mul]; rfl)) (by first | decide | (show _ < 94; omega)) dX3_times_268 ?_
                    rw [addL_7 et]
                    refine m_iret hC hr hlocks hM dX3_times_269 ?_
                    rw [op_times, if_neg (fun h => h cT), if_neg (fun h => by rcases h with h | h; exact h qA; exact h qN), eR0, if_neg qL, eI, eN, iMa, if_neg (fun h => by rcases h with h | h; exact qI h; omega), if_neg (fun h => h hI91.2), i7, if_neg (by omega)]
                  ·
                    have nc13 := Int32.not_le.mp c13
                    have hx195 := nle_f (a := N) (b := k) c13
                    refine lv_aload_n hC.1 hC.2.1 dX3_times_198 rfl (lv_at hl 0 rfl) ?_
                    refine lv_aload_n hC.1 hC.2.1 dX3_times_199 rfl (lv_at hl 0 rfl) ?_
                    refine m_get hC hK hM 4 (by decide) q1266 rfl rfl dX3_times_200 ?_
                    refine lv_iload hC.1 hC.2.1 dX3_times_203 (lv_at hl 2 rfl) ?_
                    refine lv_iconst (v := 4) hC.1 hC.2.1 dX3_times_205 (by decide) ?_
                    refine lv_iload hC.1 hC.2.1 dX3_times_206 (lv_at hl 3 rfl) ?_
                    refine lv_imul hC.1 hC.2.1 dX3_times_208 ?_
                    refine lv_iadd hC.1 hC.2.1 dX3_times_209 ?_
                    refine m_iald hC hK hM 4 rfl (n := ((40 * R0 + I) + (4 * k))) (by first | rfl | (simp only [← nI_add, ← pk_mul]; rfl)) (by first | decide | (show _ < 320; omega)) dX3_times_210 ?_
                    rw [addL_o (show (4 : Nat) ≠ 5 by decide)]
                    refine lv_aload_n hC.1 hC.2.1 dX3_times_211 rfl (lv_at hl 0 rfl) ?_
                    refine m_get hC hK hM 4 (by decide) q1266 rfl rfl dX3_times_212 ?_
                    refine lv_iload hC.1 hC.2.1 dX3_times_215 (lv_at hl 2 rfl) ?_
                    refine lv_iconst (v := 4) hC.1 hC.2.1 dX3_times_217 (by decide) ?_
                    refine lv_iload hC.1 hC.2.1 dX3_times_218 (lv_at hl 3 rfl) ?_
                    refine lv_imul hC.1 hC.2.1 dX3_times_220 ?_
                    refine lv_iadd hC.1 hC.2.1 dX3_times_221 ?_
                    refine lv_iconst (v := 1) hC.1 hC.2.1 dX3_times_222 (by decide) ?_
                    refine lv_iadd hC.1 hC.2.1 dX3_times_223 ?_
                    refine m_iald hC hK hM 4 rfl (n := (((40 * R0 + I) + (4 * k)) + 1)) (by first | rfl | (simp only [← nI_add, ← pk_mul]; rfl)) (by first | decide | (show _ < 320; omega)) dX3_times_224 ?_
                    rw [addL_o (show (4 : Nat) ≠ 5 by decide)]
                    refine lv_aload_n hC.1 hC.2.1 dX3_times_225 rfl (lv_at hl 0 rfl) ?_
                    refine m_get hC hK hM 4 (by decide) q1266 rfl rfl dX3_times_226 ?_
                    refine lv_iload hC.1 hC.2.1 dX3_times_229 (lv_at hl 2 rfl) ?_
                    refine lv_iconst (v := 4) hC.1 hC.2.1 dX3_times_231 (by decide) ?_
                    refine lv_iload hC.1 hC.2.1 dX3_times_232 (lv_at hl 3 rfl) ?_
                    refine lv_imul hC.1 hC.2.1 dX3_times_234 ?_
                    refine lv_iadd hC.1 hC.2.1 dX3_times_235 ?_
                    refine lv_iconst (v := 2) hC.1 hC.2.1 dX3_times_236 (by decide) ?_
                    refine lv_iadd hC.1 hC.2.1 dX3_times_237 ?_
                    refine m_iald hC hK hM 4 rfl (n := (((40 * R0 + I) + (4 * k)) + 2)) (by first | rfl | (simp only [← nI_add, ← pk_mul]; rfl)) (by first | decide | (show _ < 320; omega)) dX3_times_238 ?_
                    rw [addL_o (show (4 : Nat) ≠ 5 by decide)]
                    refine lv_aload_n hC.1 hC.2.1 dX3_times_239 rfl (lv_at hl 0 rfl) ?_
                    refine m_get hC hK hM 4 (by decide) q1266 rfl rfl dX3_times_240 ?_
                    refine lv_iload hC.1 hC.2.1 dX3_times_243 (lv_at hl 2 rfl) ?_
                    refine lv_iconst (v := 4) hC.1 hC.2.1 dX3_times_245 (by decide) ?_
                    refine lv_iload hC.1 hC.2.1 dX3_times_246 (lv_at hl 3 rfl) ?_
                    refine lv_imul hC.1 hC.2.1 dX3_times_248 ?_
                    refine lv_iadd hC.1 hC.2.1 dX3_times_249 ?_
                    refine lv_iconst (v := 3) hC.1 hC.2.1 dX3_times_250 (by decide) ?_
                    refine lv_iadd hC.1 hC.2.1 dX3_times_251 ?_
                    refine m_iald hC hK hM 4 rfl (n := (((40 * R0 + I) + (4 * k)) + 3)) (by first | rfl | (simp only [← nI_add, ← pk_mul]; rfl)) (by first | decide | (show _ < 320; omega)) dX3_times_252 ?_
                    rw [addL_o (show (4 : Nat) ≠ 5 by decide)]
                    refine m_cve hC hK hM (mc_addTime l _ _ _ _ _ _ n mv (tm + k) ⟨by rw [addL_lo (by omega) (by omega)]; exact en, hn, by rw [addL_lo (by omega) (by omega)]; exact em, hm, addL_7 et, by omega⟩ (by omega)) (cw_m 4 hC.2.2.2.2 q1524 q1526 qs49 q1527 ⟨rfl, rfl⟩ rfl (by decide +kernel) ⟨Nat.le_of_ble_eq_true rfl, Nat.le_of_ble_eq_true rfl⟩) rfl hl.1 rfl (lv_room (Nat.le_of_ble_eq_true rfl)) dX3_times_253 ⟨Nat.le_of_ble_eq_true rfl, Nat.le_of_ble_eq_true rfl⟩ (fun H locs hM => ?_)
                    refine lv_iinc (v := nI (k + 1)) (lv' := [(5, _), (0, _), (3, _), (4, _)]) hC.1 hC.2.1 dX3_times_256 hl (k := 3) rfl (nI_1 _) (by decide) rfl (fun ls hl => ?_)
                    refine lv_goto (tgt := 192) hC.1 hC.2.1 dX3_times_259 (by decide) ?_
                    exact ih192 (k + 1) _ _ _ (by omega) ⟨by omega, hM, lv_sub hl [1, 2, 3, 0] rfl⟩
                ·
                  have nc12 := Int32.not_le.mp c12
                  have hx178 := nle_f (a := tm + N) (b := 12) c12
                  refine lv_ldc hC.1 hC.2.1 hC.2.2.2.1 (hC.2.2.2.2 _ q1377) dX3_times_181 ?_
                  refine m_iret hC hr hlocks hM dX3_times_183 ?_
                  rw [op_times, if_neg (fun h => h cT), if_neg (fun h => by rcases h with h | h; exact h qA; exact h qN), eR0, if_neg qL, eI, eN, iMa, if_neg (fun h => by rcases h with h | h; exact qI h; omega), if_neg (fun h => h hI91.2), i7, if_pos (by omega)]
              ·
                have nc11 := Int32.not_le.mp c11
                have hx94 := nle_f (a := N) (b := k) c11
                refine lv_aload_n hC.1 hC.2.1 dX3_times_97 rfl (lv_at hl 0 rfl) ?_
                refine lv_aload_n hC.1 hC.2.1 dX3_times_98 rfl (lv_at hl 0 rfl) ?_
                refine m_get hC hK hM 4 (by decide) q1266 rfl rfl dX3_times_99 ?_
                refine lv_iload hC.1 hC.2.1 dX3_times_102 (lv_at hl 2 rfl) ?_
                refine lv_iconst (v := 4) hC.1 hC.2.1 dX3_times_104 (by decide) ?_
                refine lv_iload hC.1 hC.2.1 dX3_times_105 (lv_at hl 3 rfl) ?_
                refine lv_imul hC.1 hC.2.1 dX3_times_107 ?_
                refine lv_iadd hC.1 hC.2.1 dX3_times_108 ?_
                refine m_iald hC hK hM 4 rfl (n := ((40 * R0 + I) + (4 * k))) (by first | rfl | (simp only [← nI_add, ← pk_mul]; rfl)) (by first | decide | (show _ < 320; omega)) dX3_times_109 ?_
                refine lv_aload_n hC.1 hC.2.1 dX3_times_110 rfl (lv_at hl 0 rfl) ?_
                refine m_get hC hK hM 4 (by decide) q1266 rfl rfl dX3_times_111 ?_
                refine lv_iload hC.1 hC.2.1 dX3_times_114 (lv_at hl 2 rfl) ?_
                refine lv_iconst (v := 4) hC.1 hC.2.1 dX3_times_116 (by decide) ?_
                refine lv_iload hC.1 hC.2.1 dX3_times_117 (lv_at hl 3 rfl) ?_
                refine lv_imul hC.1 hC.2.1 dX3_times_119 ?_
                refine lv_iadd hC.1 hC.2.1 dX3_times_120 ?_
                refine lv_iconst (v := 1) hC.1 hC.2.1 dX3_times_121 (by decide) ?_
                refine lv_iadd hC.1 hC.2.1 dX3_times_122 ?_
                refine m_iald hC hK hM 4 rfl (n := (((40 * R0 + I) + (4 * k)) + 1)) (by first | rfl | (simp only [← nI_add, ← pk_mul]; rfl)) (by first | decide | (show _ < 320; omega)) dX3_times_123 ?_
                refine lv_aload_n hC.1 hC.2.1 dX3_times_124 rfl (lv_at hl 0 rfl) ?_
                refine m_get hC hK hM 4 (by decide) q1266 rfl rfl dX3_times_125 ?_
                refine lv_iload hC.1 hC.2.1 dX3_times_128 (lv_at hl 2 rfl) ?_
                refine lv_iconst (v := 4) hC.1 hC.2.1 dX3_times_130 (by decide) ?_
                refine lv_iload hC.1 hC.2.1 dX3_times_131 (lv_at hl 3 rfl) ?_
                refine lv_imul hC.1 hC.2.1 dX3_times_133 ?_
                refine lv_iadd hC.1 hC.2.1 dX3_times_134 ?_
                refine lv_iconst (v := 2) hC.1 hC.2.1 dX3_times_135 (by decide) ?_
                refine lv_iadd hC.1 hC.2.1 dX3_times_136 ?_
                refine m_iald hC hK hM 4 rfl (n := (((40 * R0 + I) + (4 * k)) + 2)) (by first | rfl | (simp only [← nI_add, ← pk_mul]; rfl)) (by first | decide | (show _ < 320; omega)) dX3_times_137 ?_
                refine lv_aload_n hC.1 hC.2.1 dX3_times_138 rfl (lv_at hl 0 rfl) ?_
                refine m_get hC hK hM 4 (by decide) q1266 rfl rfl dX3_times_139 ?_
                refine lv_iload hC.1 hC.2.1 dX3_times_142 (lv_at hl 2 rfl) ?_
                refine lv_iconst (v := 4) hC.1 hC.2.1 dX3_times_144 (by decide) ?_
                refine lv_iload hC.1 hC.2.1 dX3_times_145 (lv_at hl 3 rfl) ?_
                refine lv_imul hC.1 hC.2.1 dX3_times_147 ?_
                refine lv_iadd hC.1 hC.2.1 dX3_times_148 ?_
                refine lv_iconst (v := 3) hC.1 hC.2.1 dX3_times_149 (by decide) ?_
                refine lv_iadd hC.1 hC.2.1 dX3_times_150 ?_
                refine m_iald hC hK hM 4 rfl (n := (((40 * R0 + I) + (4 * k)) + 3)) (by first | rfl | (simp only [← nI_add, ← pk_mul]; rfl)) (by first | decide | (show _ < 320; omega)) dX3_times_151 ?_
                refine m_cr hC hK hM (mc_isTime l _ _ _ _ _ _) (cw_m 4 hC.2.2.2.2 q1518 q1520 qs48 q1521 ⟨rfl, rfl⟩ rfl (by decide +kernel) ⟨Nat.le_of_ble_eq_true rfl, Nat.le_of_ble_eq_true rfl⟩) rfl hl.1 rfl (lv_room (Nat.le_of_ble_eq_true rfl)) dX3_times_152 ⟨Nat.le_of_ble_eq_true rfl, Nat.le_of_ble_eq_true rfl⟩ ?_
                refine lv_if_ne (tgt := 161) hC.1 hC.2.1 dX3_times_155 (by decide) (fun c16 => ?_) (fun c16 => ?_)
                ·
                  skip
                  rw [bI_n0] at c16
                  have ct : ((0 ≤ w 4 ((40 * R0 + I) + 4 * k) ∧ w 4 ((40 * R0 + I) + 4 * k) ≤ w 5 4 - 1) ∧ (0 ≤ w 4 ((40 * R0 + I) + 4 * k + 1) ∧ w 4 ((40 * R0 + I) + 4 * k + 1) ≤ w 5 4 - 1) ∧ w 4 ((40 * R0 + I) + 4 * k) < w 4 ((40 * R0 + I) + 4 * k + 1) ∧ (1 ≤ w 4 ((40 * R0 + I) + 4 * k + 2) ∧ w 4 ((40 * R0 + I) + 4 * k + 2) ≤ 20) ∧ (0 ≤ w 4 ((40 * R0 + I) + 4 * k + 3) ∧ w 4 ((40 * R0 + I) + 4 * k + 3) ≤ 99)) := c16
                  refine lv_iinc (v := nI (k + 1)) (lv' := [(5, _), (0, _), (3, _), (4, _)]) hC.1 hC.2.1 dX3_times_161 hl (k := 3) rfl (nI_1 _) (by decide) rfl (fun ls hl => ?_)
                  refine lv_goto (tgt := 91) hC.1 hC.2.1 dX3_times_164 (by decide) ?_
                  exact ih91 (k + 1) _ _ _ (by omega) ⟨⟨by omega, by rw [tmAll, hI91.2, decide_eq_true ct]; rfl⟩, hM, lv_sub hl [1, 2, 3, 0] rfl⟩
                ·
                  skip
                  rw [bI_0] at c16
                  have ct : ¬ ((0 ≤ w 4 ((40 * R0 + I) + 4 * k) ∧ w 4 ((40 * R0 + I) + 4 * k) ≤ w 5 4 - 1) ∧ (0 ≤ w 4 ((40 * R0 + I) + 4 * k + 1) ∧ w 4 ((40 * R0 + I) + 4 * k + 1) ≤ w 5 4 - 1) ∧ w 4 ((40 * R0 + I) + 4 * k) < w 4 ((40 * R0 + I) + 4 * k + 1) ∧ (1 ≤ w 4 ((40 * R0 + I) + 4 * k + 2) ∧ w 4 ((40 * R0 + I) + 4 * k + 2) ≤ 20) ∧ (0 ≤ w 4 ((40 * R0 + I) + 4 * k + 3) ∧ w 4 ((40 * R0 + I) + 4 * k + 3) ≤ 99)) := c16
                  refine lv_ldc hC.1 hC.2.1 hC.2.2.2.1 (hC.2.2.2.2 _ q1354) dX3_times_158 ?_
                  refine m_iret hC hr hlocks hM dX3_times_160 ?_
                  have hall : tmAll (w 5 4) (w 4) (40 * R0 + I) N = false := tmAll_f (k := k + 1) (by rw [tmAll, decide_eq_false ct]; exact Bool.and_false _) (by omega)
                  rw [op_times, if_neg (fun h => h cT), if_neg (fun h => by rcases h with h | h; exact h qA; exact h qN), eR0, if_neg qL, eI, eN, iMa, if_neg (fun h => by rcases h with h | h; exact qI h; omega), if_pos (by rw [hall]; decide)]
            ·
              have nc10 := Int32.not_le.mp c10
              rw [← Int32.not_lt, lg_cmp_gt, lsum3 (by omega) (by omega) (by omega)] at c10
              have cm := Classical.not_not.mp c10
              refine lv_aload_n hC.1 hC.2.1 dX3_times_74 rfl (lv_at hl 0 rfl) ?_
              refine lv_iconst (v := 2) hC.1 hC.2.1 dX3_times_75 (by decide) ?_
              refine m_cie hC hK hM (mc_finding l _ _ _) (cw_m 1 hC.2.2.2.2 q1355 q1357 qs26 q1358 ⟨rfl, rfl⟩ rfl (by decide +kernel) ⟨Nat.le_of_ble_eq_true rfl, Nat.le_of_ble_eq_true rfl⟩) rfl hl.1 rfl (lv_room (Nat.le_of_ble_eq_true rfl)) dX3_times_76 ⟨Nat.le_of_ble_eq_true rfl, Nat.le_of_ble_eq_true rfl⟩ (fun H locs hM => ?_)
              refine m_iret hC hr hlocks hM dX3_times_79 ?_
              rw [op_times, if_neg (fun h => h cT), if_neg (fun h => by rcases h with h | h; exact h qA; exact h qN), eR0, if_neg qL, eI, eN, iMa, if_pos (Or.inr cm)]; rfl
        ·
          have nc7 := Int32.not_le.mp c7
          have qL := nc7
          refine lv_aload_n hC.1 hC.2.1 dX3_times_46 rfl (lv_at hl 0 rfl) ?_
          refine lv_iconst (v := 1) hC.1 hC.2.1 dX3_times_47 (by decide) ?_
          refine m_cie hC hK hM (mc_finding l _ _ _) (cw_m 1 hC.2.2.2.2 q1355 q1357 qs26 q1358 ⟨rfl, rfl⟩ rfl (by decide +kernel) ⟨Nat.le_of_ble_eq_true rfl, Nat.le_of_ble_eq_true rfl⟩) rfl hl.1 rfl (lv_room (Nat.le_of_ble_eq_true rfl)) dX3_times_48 ⟨Nat.le_of_ble_eq_true rfl, Nat.le_of_ble_eq_true rfl⟩ (fun H locs hM => ?_)
          refine m_iret hC hr hlocks hM dX3_times_51 ?_
          rw [op_times, if_neg (fun h => h cT), if_neg (fun h => by rcases h with h | h; exact h qA; exact h qN), eR0, if_pos qL]; rfl
      ·
        skip
        rw [bI_0] at c6
        have qb := c6
        refine lv_ldc hC.1 hC.2.1 hC.2.2.2.1 (hC.2.2.2.2 _ q1354) dX3_times_34 ?_
        refine m_iret hC hr hlocks hM dX3_times_36 ?_
        rw [op_times, if_neg (fun h => h cT), if_pos (Or.inr qb)]
  ·
    skip
    rw [bI_0] at c2
    have cT := c2
    refine lv_ldc hC.1 hC.2.1 hC.2.2.2.1 (hC.2.2.2.2 _ q1462) dX3_times_12 ?_
    refine m_iret hC hr hlocks hM dX3_times_14 ?_
    rw [op_times, if_pos cT]
