set_option maxHeartbeats 400000 in
set_option maxRecDepth 100000 in
theorem mc_prove (l : Launch) (v : Nat → Int32) (w : Nat → Nat → Int32) (x : Int32) (n : Nat) (en : w 5 4 = nI n) (hn : n ≤ 6) (a : Nat) (ea : v 8 = nI a) (ha : a ≤ 24) : mMi l yX3_prove cX3_prove 7 (some .int) ({ frames := 2, cells := 0, slots := 0, locals := 46 }) [.int x] v w (fun r v1 w1 => (r, v1, w1) = op_prove v w x) := by
  intro D ac A G mo ad
  refine m_body rfl (Nat.le_of_ble_eq_true rfl) ?_
  intro p e s m args below meth c ls hC hr hlocks hK hM hl
  have hl : lv_has ls 7 [(0, .ref mo), (1, .int x)] := hl
  have i4 : iN (w 5 4) = n := by rw [en]; exact iN_nI (by omega)
  refine lv_aload_n hC.1 hC.2.1 dX3_prove_0 rfl (lv_at hl 0 rfl) ?_
  refine lv_iconst (v := 0) hC.1 hC.2.1 dX3_prove_1 (by decide) ?_
  refine m_put hC hK hM 0 (by decide) q1262 rfl rfl rfl rfl dX3_prove_2 (fun H locs hM => ?_)
  refine lv_aload_n hC.1 hC.2.1 dX3_prove_5 rfl (lv_at hl 0 rfl) ?_
  refine lv_iload_n hC.1 hC.2.1 dX3_prove_6 rfl (lv_at hl 1 rfl) ?_
  refine m_cr hC hK hM (mc_isStone l _ _ _) (cw_m 1 hC.2.2.2.2 q1495 q1497 qs47 q1498 ⟨rfl, rfl⟩ rfl (by decide +kernel) ⟨Nat.le_of_ble_eq_true rfl, Nat.le_of_ble_eq_true rfl⟩) rfl hl.1 rfl (lv_room (Nat.le_of_ble_eq_true rfl)) dX3_prove_7 ⟨Nat.le_of_ble_eq_true rfl, Nat.le_of_ble_eq_true rfl⟩ ?_
  refine lv_if_ne (tgt := 16) hC.1 hC.2.1 dX3_prove_10 (by decide) (fun c2 => ?_) (fun c2 => ?_)
  ·
    skip
    rw [bI_n0, en] at c2
    obtain ⟨j, hj, rfl⟩ := in_nI1 (by omega) c2
    have ej : iN (nI j) = j := iN_nI (by omega)
    refine lv_aload_n hC.1 hC.2.1 dX3_prove_16 rfl (lv_at hl 0 rfl) ?_
    refine lv_iload_n hC.1 hC.2.1 dX3_prove_17 rfl (lv_at hl 1 rfl) ?_
    refine lv_iconst (v := 1) hC.1 hC.2.1 dX3_prove_18 (by decide) ?_
    refine m_cr hC hK hM (mc_stoneOf l _ _ j 1 (by omega) (by omega)) (cw_m 2 hC.2.2.2.2 q1467 q1469 qs41 q1470 ⟨rfl, rfl⟩ rfl (by decide +kernel) ⟨Nat.le_of_ble_eq_true rfl, Nat.le_of_ble_eq_true rfl⟩) rfl hl.1 rfl (lv_room (Nat.le_of_ble_eq_true rfl)) dX3_prove_19 ⟨Nat.le_of_ble_eq_true rfl, Nat.le_of_ble_eq_true rfl⟩ ?_
    refine lv_istore_n (lv' := [(2, _), (0, _), (1, _)]) hC.1 hC.2.1 dX3_prove_22 rfl hl (by decide) rfl (fun ls hl => ?_)
    refine lv_aload_n hC.1 hC.2.1 dX3_prove_23 rfl (lv_at hl 1 rfl) ?_
    refine lv_iload_n hC.1 hC.2.1 dX3_prove_24 rfl (lv_at hl 2 rfl) ?_
    refine lv_iconst (v := 2) hC.1 hC.2.1 dX3_prove_25 (by decide) ?_
    refine m_cr hC hK hM (mc_stoneOf l _ _ j 2 (by omega) (by omega)) (cw_m 2 hC.2.2.2.2 q1467 q1469 qs41 q1470 ⟨rfl, rfl⟩ rfl (by decide +kernel) ⟨Nat.le_of_ble_eq_true rfl, Nat.le_of_ble_eq_true rfl⟩) rfl hl.1 rfl (lv_room (Nat.le_of_ble_eq_true rfl)) dX3_prove_26 ⟨Nat.le_of_ble_eq_true rfl, Nat.le_of_ble_eq_true rfl⟩ ?_
    refine lv_istore_n (lv' := [(3, _), (2, _), (0, _), (1, _)]) hC.1 hC.2.1 dX3_prove_29 rfl hl (by decide) rfl (fun ls hl => ?_)
    refine lv_iload_n hC.1 hC.2.1 dX3_prove_30 rfl (lv_at hl 1 rfl) ?_
    refine lv_iload_n hC.1 hC.2.1 dX3_prove_31 rfl (lv_at hl 0 rfl) ?_
    refine w_tern2 (cond := w 5 (8 + 3 * j + 1) < w 5 (8 + 3 * j + 2)) (a := w 5 (8 + 3 * j + 1)) (b := w 5 (8 + 3 * j + 2)) 40 ?_ (fun jt32 jf32 => ?_)
    ·
      skip
      refine lv_istore (lv' := [(4, _), (3, _), (2, _), (0, _), (1, _)]) hC.1 hC.2.1 dX3_prove_40 hl (by decide) rfl (fun ls hl => ?_)
      refine lv_iload_n hC.1 hC.2.1 dX3_prove_42 rfl (lv_at hl 2 rfl) ?_
      refine lv_iload_n hC.1 hC.2.1 dX3_prove_43 rfl (lv_at hl 1 rfl) ?_
      refine w_tern2 (cond := w 5 (8 + 3 * j + 1) < w 5 (8 + 3 * j + 2)) (a := w 5 (8 + 3 * j + 2)) (b := w 5 (8 + 3 * j + 1)) 52 ?_ (fun jt44 jf44 => ?_)
      ·
        skip
        refine lv_istore (lv' := [(5, _), (4, _), (3, _), (2, _), (0, _), (1, _)]) hC.1 hC.2.1 dX3_prove_52 hl (by decide) rfl (fun ls hl => ?_)
        refine lv_iconst (v := 0) hC.1 hC.2.1 dX3_prove_54 (by decide) ?_
        refine lv_istore (lv' := [(6, _), (5, _), (4, _), (3, _), (2, _), (0, _), (1, _)]) hC.1 hC.2.1 dX3_prove_55 hl (by decide) rfl (fun ls hl => ?_)
        refine w_ind (α := Nat) 57 (fun (q : Nat) => n - q) (fun (q : Nat) (H : Heap) (locs : List Loc) (ls : Array Slot) => (q ≤ n ∧ blkL (w 5) j (loI (w 5 (8 + 3 * j + 1)) (w 5 (8 + 3 * j + 2))) (hiI (w 5 (8 + 3 * j + 1)) (w 5 (8 + 3 * j + 2))) q = false) ∧ MS D ac A G s.heap mo ad (upd v 0 0) (w) H locs ∧ lv_has ls 7 [(0, .ref mo), (1, .int (nI j)), (2, .int (w 5 (8 + 3 * j + 1))), (3, .int (w 5 (8 + 3 * j + 2))), (4, .int (loI (w 5 (8 + 3 * j + 1)) (w 5 (8 + 3 * j + 2)))), (5, .int (hiI (w 5 (8 + 3 * j + 1)) (w 5 (8 + 3 * j + 2)))), (6, .int (nI q))]) ?_ (0) ⟨⟨by omega, rfl⟩, hM, lv_sub hl [5, 6, 4, 3, 2, 1, 0] rfl⟩
        intro q H locs ls hI ih57
        obtain ⟨hI57, hM, hl⟩ := hI
        refine lv_iload hC.1 hC.2.1 dX3_prove_57 (lv_at hl 6 rfl) ?_
        refine lv_aload_n hC.1 hC.2.1 dX3_prove_59 rfl (lv_at hl 0 rfl) ?_
        refine m_get hC hK hM 5 (by decide) q1267 rfl rfl dX3_prove_60 ?_
        refine lv_iconst (v := 4) hC.1 hC.2.1 dX3_prove_63 (by decide) ?_
        refine m_iald hC hK hM 5 rfl (n := 4) (by first | rfl | (simp only [← nI_add, ← pk_mul]; rfl)) (by first | decide | (show _ < 94; omega)) dX3_prove_64 ?_
        rw [en]
        refine lv_icmp_ge (tgt := 103) hC.1 hC.2.1 dX3_prove_65 (by decide) (fun c5 => ?_) (fun c5 => ?_)
        ·
          have nc5 := Int32.not_lt.mpr c5
          have hx65 := nle_t (a := n) (b := q) c5
          obtain rfl : n = q := by omega
          refine lv_iload_n hC.1 hC.2.1 dX3_prove_103 rfl (lv_at hl 2 rfl) ?_
          refine lv_iload_n hC.1 hC.2.1 dX3_prove_104 rfl (lv_at hl 3 rfl) ?_
          refine lv_icmp_ne (tgt := 111) hC.1 hC.2.1 dX3_prove_105 (by decide) (fun c6 => ?_) (fun c6 => ?_)
          ·
            skip
            refine lv_aload_n hC.1 hC.2.1 dX3_prove_111 rfl (lv_at hl 0 rfl) ?_
            refine m_cve hC hK hM (mc_keep l _ _ a ea ha) (cw_m 0 hC.2.2.2.2 q1463 q1465 qs40 q1466 ⟨rfl, rfl⟩ rfl (by decide +kernel) ⟨Nat.le_of_ble_eq_true rfl, Nat.le_of_ble_eq_true rfl⟩) rfl hl.1 rfl (lv_room (Nat.le_of_ble_eq_true rfl)) dX3_prove_112 ⟨Nat.le_of_ble_eq_true rfl, Nat.le_of_ble_eq_true rfl⟩ (fun H locs hM => ?_)
            have k5 : keepW (upd v 0 0) w 5 = w 5 := keepW_o (by decide)
            refine lv_aload_n hC.1 hC.2.1 dX3_prove_115 rfl (lv_at hl 0 rfl) ?_
            refine m_get hC hK hM 5 (by decide) q1267 rfl rfl dX3_prove_116 ?_
            refine lv_bipush (v := 8) hC.1 hC.2.1 dX3_prove_119 (by decide) ?_
            refine lv_iconst (v := 3) hC.1 hC.2.1 dX3_prove_121 (by decide) ?_
            refine lv_iload_n hC.1 hC.2.1 dX3_prove_122 rfl (lv_at hl 1 rfl) ?_
            refine lv_imul hC.1 hC.2.1 dX3_prove_123 ?_
            refine lv_iadd hC.1 hC.2.1 dX3_prove_124 ?_
            refine lv_iconst (v := 1) hC.1 hC.2.1 dX3_prove_125 (by decide) ?_
            refine lv_iadd hC.1 hC.2.1 dX3_prove_126 ?_
            refine lv_iload_n hC.1 hC.2.1 dX3_prove_127 rfl (lv_at hl 3 rfl) ?_
            refine m_iast hC hK hM 5 rfl (n := ((8 + (3 * j)) + 1)) (by first | rfl | (simp only [← nI_add, ← pk_mul]; rfl)) (by first | decide | (show _ < 94; omega)) dX3_prove_128 (fun H locs hM => ?_)
            refine lv_iload hC.1 hC.2.1 dX3_prove_129 (lv_at hl 5 rfl) ?_
            refine lv_iload hC.1 hC.2.1 dX3_prove_131 (lv_at hl 4 rfl) ?_
            refine lv_isub hC.1 hC.2.1 dX3_prove_133 ?_
            refine m_iret hC hr hlocks hM dX3_prove_134 ?_
            rw [op_prove, if_neg (fun h => h (by rw [en]; assumption)), ej, i4, if_neg (by rw [hI57.2]; decide), if_neg (by assumption)]
          ·
            skip
            refine lv_ldc hC.1 hC.2.1 hC.2.2.2.1 (hC.2.2.2.2 _ q1462) dX3_prove_108 ?_
            refine m_iret hC hr hlocks hM dX3_prove_110 ?_
            rw [op_prove, if_neg (fun h => h (by rw [en]; assumption)), ej, i4, if_neg (by rw [hI57.2]; decide), if_pos (by assumption)]
        ·
          have nc5 := Int32.not_le.mp c5
          have hx65 := nle_f (a := n) (b := q) c5
          refine lv_iload hC.1 hC.2.1 dX3_prove_68 (lv_at hl 6 rfl) ?_
          refine lv_iload_n hC.1 hC.2.1 dX3_prove_70 rfl (lv_at hl 1 rfl) ?_
          refine lv_icmp_eq (tgt := 97) hC.1 hC.2.1 dX3_prove_71 (by decide) (fun c8 => ?_) (fun c8 => ?_)
          ·
            skip
            have cq := neq_t (a := q) (b := j) c8
            refine lv_iinc (v := nI (q + 1)) (lv' := [(6, _), (0, _), (1, _), (2, _), (3, _), (4, _), (5, _)]) hC.1 hC.2.1 dX3_prove_97 hl (k := 6) rfl (nI_1 _) (by decide) rfl (fun ls hl => ?_)
            refine lv_goto (tgt := 57) hC.1 hC.2.1 dX3_prove_100 (by decide) ?_
            exact ih57 (q + 1) _ _ _ (by omega) ⟨⟨by omega, by rw [blkL, hI57.2]; simp [cq]⟩, hM, lv_sub hl [1, 2, 3, 4, 5, 6, 0] rfl⟩
          ·
            skip
            have cq := neq_f (a := q) (b := j) c8
            refine lv_aload_n hC.1 hC.2.1 dX3_prove_74 rfl (lv_at hl 0 rfl) ?_
            refine lv_iload hC.1 hC.2.1 dX3_prove_75 (lv_at hl 6 rfl) ?_
            refine lv_iconst (v := 1) hC.1 hC.2.1 dX3_prove_77 (by decide) ?_
            refine m_cr hC hK hM (mc_stoneOf l _ _ q 1 (by omega) (by omega)) (cw_m 2 hC.2.2.2.2 q1467 q1469 qs41 q1470 ⟨rfl, rfl⟩ rfl (by decide +kernel) ⟨Nat.le_of_ble_eq_true rfl, Nat.le_of_ble_eq_true rfl⟩) rfl hl.1 rfl (lv_room (Nat.le_of_ble_eq_true rfl)) dX3_prove_78 ⟨Nat.le_of_ble_eq_true rfl, Nat.le_of_ble_eq_true rfl⟩ ?_
            refine lv_i2l hC.1 hC.2.1 dX3_prove_81 rfl ?_
            refine lv_iload hC.1 hC.2.1 dX3_prove_82 (lv_at hl 4 rfl) ?_
            refine lv_i2l hC.1 hC.2.1 dX3_prove_84 rfl ?_
            refine lv_iload hC.1 hC.2.1 dX3_prove_85 (lv_at hl 5 rfl) ?_
            refine lv_i2l hC.1 hC.2.1 dX3_prove_87 rfl ?_
            refine s_ci hC ((mc_in l (a := _) (b := _) rfl rfl rfl)) (cw_ms 3 hC.2.2.2.2 q1350 q1351 q1352 ⟨rfl, rfl⟩ rfl (by decide +kernel) ⟨Nat.le_of_ble_eq_true rfl, Nat.le_of_ble_eq_true rfl⟩) rfl hl.1 rfl (lv_room (Nat.le_of_ble_eq_true rfl)) dX3_prove_88 ⟨Nat.le_of_ble_eq_true rfl, Nat.le_of_ble_eq_true rfl⟩ ?_
            refine lv_if_eq (tgt := 97) hC.1 hC.2.1 dX3_prove_91 (by decide) (fun c11 => ?_) (fun c11 => ?_)
            ·
              skip
              rw [bI_0] at c11
              have cb := c11
              refine lv_iinc (v := nI (q + 1)) (lv' := [(6, _), (0, _), (1, _), (2, _), (3, _), (4, _), (5, _)]) hC.1 hC.2.1 dX3_prove_97 hl (k := 6) rfl (nI_1 _) (by decide) rfl (fun ls hl => ?_)
              refine lv_goto (tgt := 57) hC.1 hC.2.1 dX3_prove_100 (by decide) ?_
              exact ih57 (q + 1) _ _ _ (by omega) ⟨⟨by omega, by rw [blkL, hI57.2]; simp only [Bool.false_or, Bool.and_eq_false_iff, decide_eq_false_iff_not]; exact Or.inr cb⟩, hM, lv_sub hl [1, 2, 3, 4, 5, 6, 0] rfl⟩
            ·
              skip
              rw [bI_n0] at c11
              have cb := c11
              have hbl : blkL (w 5) j (loI (w 5 (8 + 3 * j + 1)) (w 5 (8 + 3 * j + 2))) (hiI (w 5 (8 + 3 * j + 1)) (w 5 (8 + 3 * j + 2))) n = true := blkL_up (q := q + 1) (by rw [blkL]; simp [cq, cb, loI, hiI] at *; grind) (by omega)
              refine lv_ldc hC.1 hC.2.1 hC.2.2.2.1 (hC.2.2.2.2 _ q1462) dX3_prove_94 ?_
              refine m_iret hC hr hlocks hM dX3_prove_96 ?_
              rw [op_prove, if_neg (fun h => h (by rw [en]; assumption)), ej, i4, if_pos hbl]
      ·
        skip
        refine lv_icmp_ge (tgt := 51) hC.1 hC.2.1 dX3_prove_44 (by decide) (fun c12 => ?_) (fun c12 => ?_)
        ·
          have nc12 := Int32.not_lt.mpr c12
          refine lv_iload_n hC.1 hC.2.1 dX3_prove_51 rfl (lv_at hl 2 rfl) ?_
          first | exact jt44 (by first | assumption | (simp_all; done) | grind) | exact jf44 (by first | assumption | (simp_all; done) | grind)
        ·
          have nc12 := Int32.not_le.mp c12
          refine lv_iload_n hC.1 hC.2.1 dX3_prove_47 rfl (lv_at hl 1 rfl) ?_
          refine lv_goto (tgt := 52) hC.1 hC.2.1 dX3_prove_48 (by decide) ?_
          first | exact jt44 (by first | assumption | (simp_all; done) | grind) | exact jf44 (by first | assumption | (simp_all; done) | grind)
    ·
      skip
      refine lv_icmp_ge (tgt := 39) hC.1 hC.2.1 dX3_prove_32 (by decide) (fun c13 => ?_) (fun c13 => ?_)
      ·
        have nc13 := Int32.not_lt.mpr c13
        refine lv_iload_n hC.1 hC.2.1 dX3_prove_39 rfl (lv_at hl 0 rfl) ?_
        first | exact jt32 (by first | assumption | (simp_all; done) | grind) | exact jf32 (by first | assumption | (simp_all; done) | grind)
      ·
        have nc13 := Int32.not_le.mp c13
        refine lv_iload_n hC.1 hC.2.1 dX3_prove_35 rfl (lv_at hl 1 rfl) ?_
        refine lv_goto (tgt := 40) hC.1 hC.2.1 dX3_prove_36 (by decide) ?_
        first | exact jt32 (by first | assumption | (simp_all; done) | grind) | exact jf32 (by first | assumption | (simp_all; done) | grind)
  ·
    skip
    rw [bI_0] at c2
    refine lv_ldc hC.1 hC.2.1 hC.2.2.2.1 (hC.2.2.2.2 _ q1354) dX3_prove_13 ?_
    refine m_iret hC hr hlocks hM dX3_prove_15 ?_
    first | (simp [op_prove, wup_s, upd_s, wup_n, upd_n, *]; done) | (simp_all [op_prove, wup_s, upd_s, wup_n, upd_n]; done) | grind [op_prove, wup_s, upd_s, wup_n, upd_n]

set_option maxHeartbeats 400000 in
set_option maxRecDepth 100000 in
theorem mc_rests (l : Launch) (v : Nat → Int32) (w : Nat → Nat → Int32) (nt : Nat) (n mv : Nat) (en : w 5 4 = nI n) (hn : n ≤ 6) (em : w 5 5 = nI mv) (hm : mv ≤ 5) (hmo : movOk (w 5) n mv) (hnt : nt < 2 ^ 30) : mMi l yX3_rests cX3_rests 4 (some .boolean) ({ frames := 3, cells := 0, slots := 0, locals := 74 }) [.int (nI nt)] v w (fun r v1 w1 => r = bI (eqL (goF (w 5) n nt 31 (w 19) mv) (w 19) n = true) ∧ v1 = v ∧ w1 = wput (wseg w 21 0 6 (w 19)) 19 (goF (w 5) n nt 31 (w 19) mv)) := by
  intro D ac A G mo ad
  refine m_body rfl (Nat.le_of_ble_eq_true rfl) ?_
  intro p e s m args below meth c ls hC hr hlocks hK hM hl
  have hl : lv_has ls 4 [(0, .ref mo), (1, .int (nI nt))] := hl
  refine lv_iconst (v := 0) hC.1 hC.2.1 dX3_rests_0 (by decide) ?_
  refine lv_istore_n (lv' := [(2, _), (0, _), (1, _)]) hC.1 hC.2.1 dX3_rests_1 rfl hl (by decide) rfl (fun ls hl => ?_)
  refine w_ind (α := Nat) 2 (fun (k : Nat) => 6 - k) (fun (k : Nat) (H : Heap) (locs : List Loc) (ls : Array Slot) => (k ≤ 6) ∧ MS D ac A G s.heap mo ad (v) (wseg w 21 0 k (w 19)) H locs ∧ lv_has ls 4 [(0, .ref mo), (1, .int (nI nt)), (2, .int (nI k))]) ?_ (0) ⟨by omega, by rw [wseg_0]; exact hM, lv_sub hl [1, 2, 0] rfl⟩
  intro k H locs ls hI ih2
  obtain ⟨hI2, hM, hl⟩ := hI
  refine lv_iload_n hC.1 hC.2.1 dX3_rests_2 rfl (lv_at hl 2 rfl) ?_
  refine lv_bipush (v := 6) hC.1 hC.2.1 dX3_rests_3 (by decide) ?_
  refine lv_icmp_ge (tgt := 26) hC.1 hC.2.1 dX3_rests_5 (by decide) (fun c1 => ?_) (fun c1 => ?_)
  ·
    have nc1 := Int32.not_lt.mpr c1
    have hx5 := nle_t (a := 6) (b := k) c1
    obtain rfl : 6 = k := by omega
    refine lv_aload_n hC.1 hC.2.1 dX3_rests_26 rfl (lv_at hl 0 rfl) ?_
    refine lv_iload_n hC.1 hC.2.1 dX3_rests_27 rfl (lv_at hl 1 rfl) ?_
    refine lv_bipush (v := 31) hC.1 hC.2.1 dX3_rests_28 (by decide) ?_
    refine m_cve hC hK hM (mc_goNight l _ _ nt _ n mv en hn em hm hmo hnt) (cw_m 2 hC.2.2.2.2 q1475 q1477 qs43 q1478 ⟨rfl, rfl⟩ rfl (by decide +kernel) ⟨Nat.le_of_ble_eq_true rfl, Nat.le_of_ble_eq_true rfl⟩) rfl hl.1 rfl (lv_room (Nat.le_of_ble_eq_true rfl)) dX3_rests_30 ⟨Nat.le_of_ble_eq_true rfl, Nat.le_of_ble_eq_true rfl⟩ (fun H locs hM => ?_)
    refine lv_iconst (v := 1) hC.1 hC.2.1 dX3_rests_33 (by decide) ?_
    refine lv_istore_n (lv' := [(2, _), (0, _), (1, _)]) hC.1 hC.2.1 dX3_rests_34 rfl hl (by decide) rfl (fun ls hl => ?_)
    refine lv_iconst (v := 0) hC.1 hC.2.1 dX3_rests_35 (by decide) ?_
    refine lv_istore_n (lv' := [(3, _), (2, _), (0, _), (1, _)]) hC.1 hC.2.1 dX3_rests_36 rfl hl (by decide) rfl (fun ls hl => ?_)
    refine w_ind (α := Nat) 37 (fun (k : Nat) => n - k) (fun (k : Nat) (H : Heap) (locs : List Loc) (ls : Array Slot) => (k ≤ n) ∧ MS D ac A G s.heap mo ad (v) (wput (wseg w 21 0 6 (w 19)) 19 (goF (w 5) n nt 31 (w 19) mv)) H locs ∧ lv_has ls 4 [(0, .ref mo), (2, .int (bI (eqL (goF (w 5) n nt 31 (w 19) mv) (w 19) k = true))), (3, .int (nI k))]) ?_ (0) ⟨by omega, hM, lv_sub hl [2, 1, 0] rfl⟩
    intro k H locs ls hI ih37
    obtain ⟨hI37, hM, hl⟩ := hI
    refine lv_iload_n hC.1 hC.2.1 dX3_rests_37 rfl (lv_at hl 2 rfl) ?_
    refine lv_aload_n hC.1 hC.2.1 dX3_rests_38 rfl (lv_at hl 0 rfl) ?_
    refine m_get hC hK hM 5 (by decide) q1267 rfl rfl dX3_rests_39 ?_
    refine lv_iconst (v := 4) hC.1 hC.2.1 dX3_rests_42 (by decide) ?_
    refine m_iald hC hK hM 5 rfl (n := 4) (by first | rfl | (simp only [← nI_add, ← pk_mul]; rfl)) (by first | decide | (show _ < 94; omega)) dX3_rests_43 ?_
    rw [show wput (wseg w 21 0 6 (w 19)) 19 (goF (w 5) n nt 31 (w 19) mv) 5 4 = nI n from en]
    refine lv_icmp_ge (tgt := 78) hC.1 hC.2.1 dX3_rests_44 (by decide) (fun c3 => ?_) (fun c3 => ?_)
    ·
      have nc3 := Int32.not_lt.mpr c3
      have hx44 := nle_t (a := n) (b := k) c3
      obtain rfl : n = k := by omega
      refine lv_iload_n hC.1 hC.2.1 dX3_rests_78 rfl (lv_at hl 1 rfl) ?_
      refine m_zret hC hr hlocks hM (by first | exact bI_01 _ | exact Or.inl rfl | exact Or.inr rfl) dX3_rests_79 ?_
      exact ⟨rfl, rfl, rfl⟩
    ·
      have nc3 := Int32.not_le.mp c3
      have hx44 := nle_f (a := n) (b := k) c3
      refine lv_iload_n hC.1 hC.2.1 dX3_rests_47 rfl (lv_at hl 1 rfl) ?_
      refine w_tern1 (cond := eqL (goF (w 5) n nt 31 (w 19) mv) (w 19) (k + 1) = true) (a := 1) (b := 0) 71 ?_ (fun jt48 jf48 => ?_)
      ·
        skip
        refine lv_istore_n (lv' := [(2, _), (0, _), (3, _)]) hC.1 hC.2.1 dX3_rests_71 rfl hl (by decide) rfl (fun ls hl => ?_)
        refine lv_iinc (v := nI (k + 1)) (lv' := [(3, _), (2, _), (0, _)]) hC.1 hC.2.1 dX3_rests_72 hl (k := 2) rfl (nI_1 _) (by decide) rfl (fun ls hl => ?_)
        refine lv_goto (tgt := 37) hC.1 hC.2.1 dX3_rests_75 (by decide) ?_
        exact ih37 (k + 1) _ _ _ (by omega) ⟨by omega, hM, lv_sub hl [2, 1, 0] rfl⟩
      ·
        skip
        refine lv_if_eq (tgt := 70) hC.1 hC.2.1 dX3_rests_48 (by decide) (fun c4 => ?_) (fun c4 => ?_)
        ·
          skip
          refine lv_iconst (v := 0) hC.1 hC.2.1 dX3_rests_70 (by decide) ?_
          first | exact jt48 (by grind [eqL, bI]) | exact jf48 (by grind [eqL, bI])
        ·
          skip
          refine lv_aload_n hC.1 hC.2.1 dX3_rests_51 rfl (lv_at hl 0 rfl) ?_
          refine m_get hC hK hM 19 (by decide) q1281 rfl rfl dX3_rests_52 ?_
          refine lv_iload_n hC.1 hC.2.1 dX3_rests_55 rfl (lv_at hl 2 rfl) ?_
          refine m_iald hC hK hM 19 rfl (n := k) (by first | rfl | (simp only [← nI_add, ← pk_mul]; rfl)) (by first | decide | (show _ < 6; omega)) dX3_rests_56 ?_
          rw [wput_s]
          refine lv_aload_n hC.1 hC.2.1 dX3_rests_57 rfl (lv_at hl 0 rfl) ?_
          refine m_get hC hK hM 21 (by decide) q1283 rfl rfl dX3_rests_58 ?_
          refine lv_iload_n hC.1 hC.2.1 dX3_rests_61 rfl (lv_at hl 2 rfl) ?_
          refine m_iald hC hK hM 21 rfl (n := k) (by first | rfl | (simp only [← nI_add, ← pk_mul]; rfl)) (by first | decide | (show _ < 6; omega)) dX3_rests_62 ?_
          rw [show wput (wseg w 21 0 6 (w 19)) 19 (goF (w 5) n nt 31 (w 19) mv) 21 k = w 19 k from wseg_in (w := w) (a := 21) (lo := 0) (n := 6) (q := k) (f := w 19) (by omega) (by omega)]
          refine lv_icmp_ne (tgt := 70) hC.1 hC.2.1 dX3_rests_63 (by decide) (fun c5 => ?_) (fun c5 => ?_)
          ·
            skip
            refine lv_iconst (v := 0) hC.1 hC.2.1 dX3_rests_70 (by decide) ?_
            first | exact jt48 (by grind [eqL, bI]) | exact jf48 (by grind [eqL, bI])
          ·
            skip
            refine lv_iconst (v := 1) hC.1 hC.2.1 dX3_rests_66 (by decide) ?_
            refine lv_goto (tgt := 71) hC.1 hC.2.1 dX3_rests_67 (by decide) ?_
            first | exact jt48 (by grind [eqL, bI]) | exact jf48 (by grind [eqL, bI])
  ·
    have nc1 := Int32.not_le.mp c1
    have hx5 := nle_f (a := 6) (b := k) c1
    refine lv_aload_n hC.1 hC.2.1 dX3_rests_8 rfl (lv_at hl 0 rfl) ?_
    refine m_get hC hK hM 21 (by decide) q1283 rfl rfl dX3_rests_9 ?_
    refine lv_iload_n hC.1 hC.2.1 dX3_rests_12 rfl (lv_at hl 2 rfl) ?_
    refine lv_aload_n hC.1 hC.2.1 dX3_rests_13 rfl (lv_at hl 0 rfl) ?_
    refine m_get hC hK hM 19 (by decide) q1281 rfl rfl dX3_rests_14 ?_
    refine lv_iload_n hC.1 hC.2.1 dX3_rests_17 rfl (lv_at hl 2 rfl) ?_
    refine m_iald hC hK hM 19 rfl (n := k) (by first | rfl | (simp only [← nI_add, ← pk_mul]; rfl)) (by first | decide | (show _ < 6; omega)) dX3_rests_18 ?_
    refine m_iast hC hK hM 21 rfl (n := k) (by first | rfl | (simp only [← nI_add, ← pk_mul]; rfl)) (by first | decide | (show _ < 6; omega)) dX3_rests_19 (fun H locs hM => ?_)
    refine lv_iinc (v := nI (k + 1)) (lv' := [(2, _), (0, _), (1, _)]) hC.1 hC.2.1 dX3_rests_20 hl (k := 2) rfl (nI_1 _) (by decide) rfl (fun ls hl => ?_)
    refine lv_goto (tgt := 2) hC.1 hC.2.1 dX3_rests_23 (by decide) ?_
    exact ih2 (k + 1) _ _ _ (by omega) ⟨by omega, by rw [← wseg_sx (w := w) (a := 21) (lo := 0) (n := k) (m := k) (f := w 19) (by omega) rfl]; exact hM, lv_sub hl [1, 2, 0] rfl⟩

set_option maxHeartbeats 400000 in
set_option maxRecDepth 100000 in
theorem mc_standsBy (l : Launch) (v : Nat → Int32) (w : Nat → Nat → Int32) (t : Nat) (o : Int32) (n mv : Nat) (en : w 5 4 = nI n) (hn : n ≤ 6) (em : w 5 5 = nI mv) (hm : mv ≤ 5) (hmo : movOk (w 5) n mv) (ht : t ≤ 9) : mMi l yX3_standsBy cX3_standsBy 5 (some .boolean) ({ frames := 3, cells := 0, slots := 0, locals := 74 }) [.int (nI t), .int o] v w (fun r v1 w1 => r = bI (stands (w 5) (w 19) n mv t o = true) ∧ v1 = v ∧ w1 = wput w 19 (ntsF (w 5) n mv o (layF (w 5) (w 19) n 2) t)) := by
  intro D ac A G mo ad
  refine m_body rfl (Nat.le_of_ble_eq_true rfl) ?_
  intro p e s m args below meth c ls hC hr hlocks hK hM hl
  have hl : lv_has ls 5 [(0, .ref mo), (1, .int (nI t)), (2, .int o)] := hl
  refine lv_aload_n hC.1 hC.2.1 dX3_standsBy_0 rfl (lv_at hl 0 rfl) ?_
  refine lv_iconst (v := 2) hC.1 hC.2.1 dX3_standsBy_1 (by decide) ?_
  refine m_cve hC hK hM (mc_layNow l _ _ 2 (by decide) n en hn) (cw_m 1 hC.2.2.2.2 q1471 q1473 qs42 q1474 ⟨rfl, rfl⟩ rfl (by decide +kernel) ⟨Nat.le_of_ble_eq_true rfl, Nat.le_of_ble_eq_true rfl⟩) rfl hl.1 rfl (lv_room (Nat.le_of_ble_eq_true rfl)) dX3_standsBy_2 ⟨Nat.le_of_ble_eq_true rfl, Nat.le_of_ble_eq_true rfl⟩ (fun H locs hM => ?_)
  refine lv_iconst (v := 0) hC.1 hC.2.1 dX3_standsBy_5 (by decide) ?_
  refine lv_istore_n (lv' := [(3, _), (0, _), (1, _), (2, _)]) hC.1 hC.2.1 dX3_standsBy_6 rfl hl (by decide) rfl (fun ls hl => ?_)
  refine w_ind (α := Nat) 7 (fun (k : Nat) => t - k) (fun (k : Nat) (H : Heap) (locs : List Loc) (ls : Array Slot) => (k ≤ t) ∧ MS D ac A G s.heap mo ad (v) (wput w 19 (ntsF (w 5) n mv o (layF (w 5) (w 19) n 2) k)) H locs ∧ lv_has ls 5 [(0, .ref mo), (1, .int (nI t)), (2, .int o), (3, .int (nI k))]) ?_ (0) ⟨by omega, hM, lv_sub hl [1, 2, 3, 0] rfl⟩
  intro k H locs ls hI ih7
  obtain ⟨hI7, hM, hl⟩ := hI
  refine lv_iload_n hC.1 hC.2.1 dX3_standsBy_7 rfl (lv_at hl 3 rfl) ?_
  refine lv_iload_n hC.1 hC.2.1 dX3_standsBy_8 rfl (lv_at hl 1 rfl) ?_
  refine lv_icmp_ge (tgt := 24) hC.1 hC.2.1 dX3_standsBy_9 (by decide) (fun c2 => ?_) (fun c2 => ?_)
  ·
    have nc2 := Int32.not_lt.mpr c2
    have hx9 := nle_t (a := t) (b := k) c2
    obtain rfl : t = k := by omega
    refine lv_iconst (v := 1) hC.1 hC.2.1 dX3_standsBy_24 (by decide) ?_
    refine lv_istore_n (lv' := [(3, _), (0, _), (1, _), (2, _)]) hC.1 hC.2.1 dX3_standsBy_25 rfl hl (by decide) rfl (fun ls hl => ?_)
    refine lv_iconst (v := 0) hC.1 hC.2.1 dX3_standsBy_26 (by decide) ?_
    refine lv_istore (lv' := [(4, _), (3, _), (0, _), (1, _), (2, _)]) hC.1 hC.2.1 dX3_standsBy_27 hl (by decide) rfl (fun ls hl => ?_)
    refine w_ind (α := Nat) 29 (fun (k : Nat) => n - k) (fun (k : Nat) (H : Heap) (locs : List Loc) (ls : Array Slot) => (k ≤ n) ∧ MS D ac A G s.heap mo ad (v) (wput w 19 (ntsF (w 5) n mv o (layF (w 5) (w 19) n 2) t)) H locs ∧ lv_has ls 5 [(0, .ref mo), (3, .int (bI (eqL (ntsF (w 5) n mv o (layF (w 5) (w 19) n 2) t) (fun k => w 5 (8 + 3 * k + 1)) k = true))), (4, .int (nI k))]) ?_ (0) ⟨by omega, hM, lv_sub hl [2, 1, 0] rfl⟩
    intro k H locs ls hI ih29
    obtain ⟨hI29, hM, hl⟩ := hI
    refine lv_iload hC.1 hC.2.1 dX3_standsBy_29 (lv_at hl 2 rfl) ?_
    refine lv_aload_n hC.1 hC.2.1 dX3_standsBy_31 rfl (lv_at hl 0 rfl) ?_
    refine m_get hC hK hM 5 (by decide) q1267 rfl rfl dX3_standsBy_32 ?_
    refine lv_iconst (v := 4) hC.1 hC.2.1 dX3_standsBy_35 (by decide) ?_
    refine m_iald hC hK hM 5 rfl (n := 4) (by first | rfl | (simp only [← nI_add, ← pk_mul]; rfl)) (by first | decide | (show _ < 94; omega)) dX3_standsBy_36 ?_
    rw [show wput w 19 (ntsF (w 5) n mv o (layF (w 5) (w 19) n 2) t) 5 4 = nI n from en]
    refine lv_icmp_ge (tgt := 73) hC.1 hC.2.1 dX3_standsBy_37 (by decide) (fun c3 => ?_) (fun c3 => ?_)
    ·
      have nc3 := Int32.not_lt.mpr c3
      have hx37 := nle_t (a := n) (b := k) c3
      obtain rfl : n = k := by omega
      refine lv_iload_n hC.1 hC.2.1 dX3_standsBy_73 rfl (lv_at hl 1 rfl) ?_
      refine m_zret hC hr hlocks hM (by first | exact bI_01 _ | exact Or.inl rfl | exact Or.inr rfl) dX3_standsBy_74 ?_
      exact ⟨rfl, rfl, rfl⟩
    ·
      have nc3 := Int32.not_le.mp c3
      have hx37 := nle_f (a := n) (b := k) c3
      refine lv_iload_n hC.1 hC.2.1 dX3_standsBy_40 rfl (lv_at hl 1 rfl) ?_
      refine w_tern1 (cond := eqL (ntsF (w 5) n mv o (layF (w 5) (w 19) n 2) t) (fun k => w 5 (8 + 3 * k + 1)) (k + 1) = true) (a := 1) (b := 0) 66 ?_ (fun jt41 jf41 => ?_)
      ·
        skip
        refine lv_istore_n (lv' := [(3, _), (0, _), (4, _)]) hC.1 hC.2.1 dX3_standsBy_66 rfl hl (by decide) rfl (fun ls hl => ?_)
        refine lv_iinc (v := nI (k + 1)) (lv' := [(4, _), (3, _), (0, _)]) hC.1 hC.2.1 dX3_standsBy_67 hl (k := 2) rfl (nI_1 _) (by decide) rfl (fun ls hl => ?_)
        refine lv_goto (tgt := 29) hC.1 hC.2.1 dX3_standsBy_70 (by decide) ?_
        exact ih29 (k + 1) _ _ _ (by omega) ⟨by omega, hM, lv_sub hl [2, 1, 0] rfl⟩
      ·
        skip
        refine lv_if_eq (tgt := 65) hC.1 hC.2.1 dX3_standsBy_41 (by decide) (fun c4 => ?_) (fun c4 => ?_)
        ·
          skip
          refine lv_iconst (v := 0) hC.1 hC.2.1 dX3_standsBy_65 (by decide) ?_
          first | exact jt41 (by grind [eqL, bI, wput]) | exact jf41 (by grind [eqL, bI, wput])
        ·
          skip
          refine lv_aload_n hC.1 hC.2.1 dX3_standsBy_44 rfl (lv_at hl 0 rfl) ?_
          refine m_get hC hK hM 19 (by decide) q1281 rfl rfl dX3_standsBy_45 ?_
          refine lv_iload hC.1 hC.2.1 dX3_standsBy_48 (lv_at hl 2 rfl) ?_
          refine m_iald hC hK hM 19 rfl (n := k) (by first | rfl | (simp only [← nI_add, ← pk_mul]; rfl)) (by first | decide | (show _ < 6; omega)) dX3_standsBy_50 ?_
          rw [wput_s]
          refine lv_aload_n hC.1 hC.2.1 dX3_standsBy_51 rfl (lv_at hl 0 rfl) ?_
          refine lv_iload hC.1 hC.2.1 dX3_standsBy_52 (lv_at hl 2 rfl) ?_
          refine lv_iconst (v := 1) hC.1 hC.2.1 dX3_standsBy_54 (by decide) ?_
          refine m_cr hC hK hM (mc_stoneOf l _ _ k 1 (by omega) (by omega)) (cw_m 2 hC.2.2.2.2 q1467 q1469 qs41 q1470 ⟨rfl, rfl⟩ rfl (by decide +kernel) ⟨Nat.le_of_ble_eq_true rfl, Nat.le_of_ble_eq_true rfl⟩) rfl hl.1 rfl (lv_room (Nat.le_of_ble_eq_true rfl)) dX3_standsBy_55 ⟨Nat.le_of_ble_eq_true rfl, Nat.le_of_ble_eq_true rfl⟩ ?_
          rw [wput_n (show (5 : Nat) ≠ 19 by decide)]
          refine lv_icmp_ne (tgt := 65) hC.1 hC.2.1 dX3_standsBy_58 (by decide) (fun c6 => ?_) (fun c6 => ?_)
          ·
            skip
            refine lv_iconst (v := 0) hC.1 hC.2.1 dX3_standsBy_65 (by decide) ?_
            first | exact jt41 (by grind [eqL, bI, wput]) | exact jf41 (by grind [eqL, bI, wput])
          ·
            skip
            refine lv_iconst (v := 1) hC.1 hC.2.1 dX3_standsBy_61 (by decide) ?_
            refine lv_goto (tgt := 66) hC.1 hC.2.1 dX3_standsBy_62 (by decide) ?_
            first | exact jt41 (by grind [eqL, bI, wput]) | exact jf41 (by grind [eqL, bI, wput])
  ·
    have nc2 := Int32.not_le.mp c2
    have hx9 := nle_f (a := t) (b := k) c2
    refine lv_aload_n hC.1 hC.2.1 dX3_standsBy_12 rfl (lv_at hl 0 rfl) ?_
    refine lv_iload_n hC.1 hC.2.1 dX3_standsBy_13 rfl (lv_at hl 3 rfl) ?_
    refine lv_iload_n hC.1 hC.2.1 dX3_standsBy_14 rfl (lv_at hl 2 rfl) ?_
    refine m_cve hC hK hM (mc_goNight l _ _ k _ n mv en hn em hm hmo (by omega)) (cw_m 2 hC.2.2.2.2 q1475 q1477 qs43 q1478 ⟨rfl, rfl⟩ rfl (by decide +kernel) ⟨Nat.le_of_ble_eq_true rfl, Nat.le_of_ble_eq_true rfl⟩) rfl hl.1 rfl (lv_room (Nat.le_of_ble_eq_true rfl)) dX3_standsBy_15 ⟨Nat.le_of_ble_eq_true rfl, Nat.le_of_ble_eq_true rfl⟩ (fun H locs hM => ?_)
    refine lv_iinc (v := nI (k + 1)) (lv' := [(3, _), (0, _), (1, _), (2, _)]) hC.1 hC.2.1 dX3_standsBy_18 hl (k := 3) rfl (nI_1 _) (by decide) rfl (fun ls hl => ?_)
    refine lv_goto (tgt := 7) hC.1 hC.2.1 dX3_standsBy_21 (by decide) ?_
    exact ih7 (k + 1) _ _ _ (by omega) ⟨by omega, by rw [show ntsF (w 5) n mv o (layF (w 5) (w 19) n 2) (k + 1) = goF (w 5) n k o (ntsF (w 5) n mv o (layF (w 5) (w 19) n 2) k) mv from rfl, ← wput_wput w 19 (ntsF (w 5) n mv o (layF (w 5) (w 19) n 2) k)]; exact hM, lv_sub hl [1, 2, 3, 0] rfl⟩

set_option maxHeartbeats 400000 in
set_option maxRecDepth 100000 in
theorem mc_timesOf (l : Launch) (x : Int32) (t : Nat) (ht : t ≤ 3) : sMi l yX3_timesOf cX3_timesOf 4 (some .int) ({ frames := 0, cells := 0, slots := 0, locals := 0 }) [.int x, .int (nI t)] (powL x t) := by
  refine s_body (own := RX3) rfl (by decide) (Nat.le_of_ble_eq_true rfl) ?_
  intro p e s m args below meth c ls hC hr hlocks hl
  have hl : lv_has ls 4 [(0, .int x), (1, .int (nI t))] := hl
  refine lv_iconst (v := 1) hC.1 hC.2.1 dX3_timesOf_0 (by decide) ?_
  refine lv_istore_n (lv' := [(2, _), (0, _), (1, _)]) hC.1 hC.2.1 dX3_timesOf_1 rfl hl (by decide) rfl (fun ls hl => ?_)
  refine lv_iconst (v := 0) hC.1 hC.2.1 dX3_timesOf_2 (by decide) ?_
  refine lv_istore_n (lv' := [(3, _), (2, _), (0, _), (1, _)]) hC.1 hC.2.1 dX3_timesOf_3 rfl hl (by decide) rfl (fun ls hl => ?_)
  refine w_ind (α := Nat) 4 (fun (k : Nat) => t - k) (fun (k : Nat) (H : Heap) (locs : List Loc) (ls : Array Slot) => (k ≤ t) ∧ H = s.heap ∧ locs = [] ∧ lv_has ls 4 [(0, .int x), (1, .int (nI t)), (2, .int (powL x k)), (3, .int (nI k))]) ?_ (0) ⟨by omega, rfl, rfl, lv_sub hl [2, 3, 1, 0] rfl⟩
  intro k H locs ls hI ih4
  obtain ⟨hI4, rfl, rfl, hl⟩ := hI
  refine lv_iload_n hC.1 hC.2.1 dX3_timesOf_4 rfl (lv_at hl 3 rfl) ?_
  refine lv_iload_n hC.1 hC.2.1 dX3_timesOf_5 rfl (lv_at hl 1 rfl) ?_
  refine lv_icmp_ge (tgt := 19) hC.1 hC.2.1 dX3_timesOf_6 (by decide) (fun c1 => ?_) (fun c1 => ?_)
  ·
    have nc1 := Int32.not_lt.mpr c1
    have hx6 := nle_t (a := t) (b := k) c1
    obtain rfl : t = k := by omega
    refine lv_iload_n hC.1 hC.2.1 dX3_timesOf_19 rfl (lv_at hl 2 rfl) ?_
    refine s_iret hC hr hlocks dX3_timesOf_20 ?_
    rfl
  ·
    have nc1 := Int32.not_le.mp c1
    have hx6 := nle_f (a := t) (b := k) c1
    refine lv_iload_n hC.1 hC.2.1 dX3_timesOf_9 rfl (lv_at hl 2 rfl) ?_
    refine lv_iload_n hC.1 hC.2.1 dX3_timesOf_10 rfl (lv_at hl 0 rfl) ?_
    refine lv_imul hC.1 hC.2.1 dX3_timesOf_11 ?_
    refine lv_istore_n (lv' := [(2, _), (0, _), (1, _), (3, _)]) hC.1 hC.2.1 dX3_timesOf_12 rfl hl (by decide) rfl (fun ls hl => ?_)
    refine lv_iinc (v := nI (k + 1)) (lv' := [(3, _), (2, _), (0, _), (1, _)]) hC.1 hC.2.1 dX3_timesOf_13 hl (k := 3) rfl (nI_1 _) (by decide) rfl (fun ls hl => ?_)
    refine lv_goto (tgt := 4) hC.1 hC.2.1 dX3_timesOf_16 (by decide) ?_
    exact ih4 (k + 1) _ _ _ (by omega) ⟨by omega, rfl, rfl, lv_sub hl [2, 3, 1, 0] rfl⟩

set_option maxHeartbeats 400000 in
set_option maxRecDepth 100000 in
theorem mc_brings (l : Launch) (v : Nat → Int32) (w : Nat → Nat → Int32) (d : Nat) (fee : Int32) (hd : d ≤ 3) : mRi l yX3_brings cX3_brings 4 (some .int) ({ frames := 1, cells := 0, slots := 0, locals := 23 }) [.int (nI d), .int fee] v w (brF (w 5) d fee) := by
  intro D ac A G mo ad
  refine m_bodyR rfl (Nat.le_of_ble_eq_true rfl) ?_
  intro p e s m args below meth c ls hC hr hlocks hK hM hl
  have hl : lv_has ls 4 [(0, .ref mo), (1, .int (nI d)), (2, .int fee)] := hl
  refine lv_bipush (v := 100) hC.1 hC.2.1 dX3_brings_0 (by decide) ?_
  refine lv_aload_n hC.1 hC.2.1 dX3_brings_2 rfl (lv_at hl 0 rfl) ?_
  refine m_get hC hK hM 5 (by decide) q1267 rfl rfl dX3_brings_3 ?_
  refine lv_iconst (v := 2) hC.1 hC.2.1 dX3_brings_6 (by decide) ?_
  refine m_iald hC hK hM 5 rfl (n := 2) (by first | rfl | (simp only [← nI_add, ← pk_mul]; rfl)) (by first | decide | (show _ < 94; omega)) dX3_brings_7 ?_
  refine lv_isub hC.1 hC.2.1 dX3_brings_8 ?_
  refine lv_iload_n hC.1 hC.2.1 dX3_brings_9 rfl (lv_at hl 1 rfl) ?_
  refine s_ci hC (mc_timesOf l _ d hd) (cw_ms 2 hC.2.2.2.2 q1584 q1585 q1586 ⟨rfl, rfl⟩ rfl (by decide +kernel) ⟨Nat.le_of_ble_eq_true rfl, Nat.le_of_ble_eq_true rfl⟩) rfl hl.1 rfl (lv_room (Nat.le_of_ble_eq_true rfl)) dX3_brings_10 ⟨Nat.le_of_ble_eq_true rfl, Nat.le_of_ble_eq_true rfl⟩ ?_
  refine lv_bipush (v := 100) hC.1 hC.2.1 dX3_brings_13 (by decide) ?_
  refine lv_iconst (v := 3) hC.1 hC.2.1 dX3_brings_15 (by decide) ?_
  refine lv_iload_n hC.1 hC.2.1 dX3_brings_16 rfl (lv_at hl 1 rfl) ?_
  refine lv_isub hC.1 hC.2.1 dX3_brings_17 ?_
  rw [show (3 : Int32) - nI d = nI (3 - d) from pk_sub (a := 3) hd]
  refine s_ci hC (mc_timesOf l _ (3 - d) (by omega)) (cw_ms 2 hC.2.2.2.2 q1584 q1585 q1586 ⟨rfl, rfl⟩ rfl (by decide +kernel) ⟨Nat.le_of_ble_eq_true rfl, Nat.le_of_ble_eq_true rfl⟩) rfl hl.1 rfl (lv_room (Nat.le_of_ble_eq_true rfl)) dX3_brings_18 ⟨Nat.le_of_ble_eq_true rfl, Nat.le_of_ble_eq_true rfl⟩ ?_
  refine lv_imul hC.1 hC.2.1 dX3_brings_21 ?_
  refine lv_istore_n (lv' := [(3, _), (0, _), (1, _), (2, _)]) hC.1 hC.2.1 dX3_brings_22 rfl hl (by decide) rfl (fun ls hl => ?_)
  refine lv_iload_n hC.1 hC.2.1 dX3_brings_23 rfl (lv_at hl 0 rfl) ?_
  refine lv_iload_n hC.1 hC.2.1 dX3_brings_24 rfl (lv_at hl 3 rfl) ?_
  refine lv_imul hC.1 hC.2.1 dX3_brings_25 ?_
  refine lv_iload_n hC.1 hC.2.1 dX3_brings_26 rfl (lv_at hl 2 rfl) ?_
  refine lv_imul hC.1 hC.2.1 dX3_brings_27 ?_
  refine lv_ldc hC.1 hC.2.1 hC.2.2.2.1 (hC.2.2.2.2 _ q1587) dX3_brings_28 ?_
  refine lv_iload_n hC.1 hC.2.1 dX3_brings_30 rfl (lv_at hl 0 rfl) ?_
  refine lv_isub hC.1 hC.2.1 dX3_brings_31 ?_
  refine lv_aload_n hC.1 hC.2.1 dX3_brings_32 rfl (lv_at hl 1 rfl) ?_
  refine m_get hC hK hM 5 (by decide) q1267 rfl rfl dX3_brings_33 ?_
  refine lv_iconst (v := 3) hC.1 hC.2.1 dX3_brings_36 (by decide) ?_
  refine m_iald hC hK hM 5 rfl (n := 3) (by first | rfl | (simp only [← nI_add, ← pk_mul]; rfl)) (by first | decide | (show _ < 94; omega)) dX3_brings_37 ?_
  refine lv_imul hC.1 hC.2.1 dX3_brings_38 ?_
  refine lv_isub hC.1 hC.2.1 dX3_brings_39 ?_
  refine s_iret hC hr hlocks dX3_brings_40 ?_
  rfl

set_option maxHeartbeats 400000 in
set_option maxRecDepth 100000 in
theorem mc_bestBy (l : Launch) (v : Nat → Int32) (w : Nat → Nat → Int32) (fee : Int32) : mRi l yX3_bestBy cX3_bestBy 4 (some .int) ({ frames := 2, cells := 0, slots := 0, locals := 46 }) [.int fee] v w (nI (bestB (w 5) fee 3)) := by
  intro D ac A G mo ad
  refine m_bodyR rfl (Nat.le_of_ble_eq_true rfl) ?_
  intro p e s m args below meth c ls hC hr hlocks hK hM hl
  have hl : lv_has ls 4 [(0, .ref mo), (1, .int fee)] := hl
  refine lv_iconst (v := 0) hC.1 hC.2.1 dX3_bestBy_0 (by decide) ?_
  refine lv_istore_n (lv' := [(2, _), (0, _), (1, _)]) hC.1 hC.2.1 dX3_bestBy_1 rfl hl (by decide) rfl (fun ls hl => ?_)
  refine lv_iconst (v := 1) hC.1 hC.2.1 dX3_bestBy_2 (by decide) ?_
  refine lv_istore_n (lv' := [(3, _), (2, _), (0, _), (1, _)]) hC.1 hC.2.1 dX3_bestBy_3 rfl hl (by decide) rfl (fun ls hl => ?_)
  refine w_ind (α := Nat) 4 (fun (k : Nat) => 3 - k) (fun (k : Nat) (H : Heap) (locs : List Loc) (ls : Array Slot) => (k ≤ 3) ∧ H = s.heap ∧ locs = [] ∧ lv_has ls 4 [(0, .ref mo), (1, .int fee), (2, .int (nI (bestB (w 5) fee k))), (3, .int (nI (k + 1)))]) ?_ (0) ⟨by omega, rfl, rfl, lv_sub hl [2, 3, 1, 0] rfl⟩
  intro k H locs ls hI ih4
  obtain ⟨hI4, rfl, rfl, hl⟩ := hI
  refine lv_iload_n hC.1 hC.2.1 dX3_bestBy_4 rfl (lv_at hl 3 rfl) ?_
  refine lv_iconst (v := 3) hC.1 hC.2.1 dX3_bestBy_5 (by decide) ?_
  refine lv_icmp_gt (tgt := 36) hC.1 hC.2.1 dX3_bestBy_6 (by decide) (fun c1 => ?_) (fun c1 => ?_)
  ·
    have nc1 := Int32.not_le.mpr c1
    have hx6 := nlt_t (a := 3) (b := k + 1) c1
    obtain rfl : 3 = k := by omega
    refine lv_iload_n hC.1 hC.2.1 dX3_bestBy_36 rfl (lv_at hl 2 rfl) ?_
    refine s_iret hC hr hlocks dX3_bestBy_37 ?_
    rfl
  ·
    have nc1 := Int32.not_lt.mp c1
    have hx6 := nlt_f (a := 3) (b := k + 1) c1
    refine lv_aload_n hC.1 hC.2.1 dX3_bestBy_9 rfl (lv_at hl 0 rfl) ?_
    refine lv_iload_n hC.1 hC.2.1 dX3_bestBy_10 rfl (lv_at hl 3 rfl) ?_
    refine lv_iload_n hC.1 hC.2.1 dX3_bestBy_11 rfl (lv_at hl 1 rfl) ?_
    refine m_cr hC hK hM (mc_brings l _ _ (k + 1) _ (by omega)) (cw_m 2 hC.2.2.2.2 q1580 q1582 qs54 q1583 ⟨rfl, rfl⟩ rfl (by decide +kernel) ⟨Nat.le_of_ble_eq_true rfl, Nat.le_of_ble_eq_true rfl⟩) rfl hl.1 rfl (lv_room (Nat.le_of_ble_eq_true rfl)) dX3_bestBy_12 ⟨Nat.le_of_ble_eq_true rfl, Nat.le_of_ble_eq_true rfl⟩ ?_
    refine lv_aload_n hC.1 hC.2.1 dX3_bestBy_15 rfl (lv_at hl 0 rfl) ?_
    refine lv_iload_n hC.1 hC.2.1 dX3_bestBy_16 rfl (lv_at hl 2 rfl) ?_
    refine lv_iload_n hC.1 hC.2.1 dX3_bestBy_17 rfl (lv_at hl 1 rfl) ?_
    refine m_cr hC hK hM (mc_brings l _ _ (bestB (w 5) fee k) _ (by have := bestB_le (w 5) fee k; omega)) (cw_m 2 hC.2.2.2.2 q1580 q1582 qs54 q1583 ⟨rfl, rfl⟩ rfl (by decide +kernel) ⟨Nat.le_of_ble_eq_true rfl, Nat.le_of_ble_eq_true rfl⟩) rfl hl.1 rfl (lv_room (Nat.le_of_ble_eq_true rfl)) dX3_bestBy_18 ⟨Nat.le_of_ble_eq_true rfl, Nat.le_of_ble_eq_true rfl⟩ ?_
    refine w_tern2 (cond := brF (w 5) (bestB (w 5) fee k) fee < brF (w 5) (k + 1) fee) (a := nI (k + 1)) (b := nI (bestB (w 5) fee k)) 29 ?_ (fun jt21 jf21 => ?_)
    ·
      skip
      refine lv_istore_n (lv' := [(2, _), (0, _), (1, _), (3, _)]) hC.1 hC.2.1 dX3_bestBy_29 rfl hl (by decide) rfl (fun ls hl => ?_)
      refine lv_iinc (v := nI ((k + 1) + 1)) (lv' := [(3, _), (2, _), (0, _), (1, _)]) hC.1 hC.2.1 dX3_bestBy_30 hl (k := 3) rfl (nI_1 _) (by decide) rfl (fun ls hl => ?_)
      refine lv_goto (tgt := 4) hC.1 hC.2.1 dX3_bestBy_33 (by decide) ?_
      have e1 : (if brF (w 5) (bestB (w 5) fee k) fee < brF (w 5) (k + 1) fee then nI (k + 1) else nI (bestB (w 5) fee k)) = nI (bestB (w 5) fee (k + 1)) := by rw [bestB]; split <;> rfl
      rw [e1] at hl
      exact ih4 (k + 1) _ _ _ (by omega) ⟨by omega, rfl, rfl, lv_sub hl [2, 3, 1, 0] rfl⟩
    ·
      skip
      refine lv_icmp_le (tgt := 28) hC.1 hC.2.1 dX3_bestBy_21 (by decide) (fun c4 => ?_) (fun c4 => ?_)
      ·
        have nc4 := Int32.not_lt.mpr c4
        refine lv_iload_n hC.1 hC.2.1 dX3_bestBy_28 rfl (lv_at hl 2 rfl) ?_
        first | exact jt21 (by grind) | exact jf21 (by grind)
      ·
        have nc4 := Int32.not_le.mp c4
        refine lv_iload_n hC.1 hC.2.1 dX3_bestBy_24 rfl (lv_at hl 3 rfl) ?_
        refine lv_goto (tgt := 29) hC.1 hC.2.1 dX3_bestBy_25 (by decide) ?_
        first | exact jt21 (by grind) | exact jf21 (by grind)

set_option maxHeartbeats 400000 in
set_option maxRecDepth 100000 in
theorem mc_best (l : Launch) (v : Nat → Int32) (w : Nat → Nat → Int32) (x : Int32) (hb0 : bestB (w 5) 0 3 = 0) : mMi l yX3_best cX3_best 3 (some .int) ({ frames := 3, cells := 0, slots := 0, locals := 69 }) [.int x] v w (fun r v1 w1 => (r, v1, w1) = op_best v w x) := by
  intro D ac A G mo ad
  refine m_body rfl (Nat.le_of_ble_eq_true rfl) ?_
  intro p e s m args below meth c ls hC hr hlocks hK hM hl
  have hl : lv_has ls 3 [(0, .ref mo), (1, .int x)] := hl
  refine lv_aload_n hC.1 hC.2.1 dX3_best_0 rfl (lv_at hl 0 rfl) ?_
  refine lv_iconst (v := 0) hC.1 hC.2.1 dX3_best_1 (by decide) ?_
  refine m_put hC hK hM 0 (by decide) q1262 rfl rfl rfl rfl dX3_best_2 (fun H locs hM => ?_)
  refine lv_aload_n hC.1 hC.2.1 dX3_best_5 rfl (lv_at hl 0 rfl) ?_
  refine m_cr hC hK hM (mc_isThere l _ _) (cw_m 0 hC.2.2.2.2 q1458 q1460 qs39 q1461 ⟨rfl, rfl⟩ rfl (by decide +kernel) ⟨Nat.le_of_ble_eq_true rfl, Nat.le_of_ble_eq_true rfl⟩) rfl hl.1 rfl (lv_room (Nat.le_of_ble_eq_true rfl)) dX3_best_6 ⟨Nat.le_of_ble_eq_true rfl, Nat.le_of_ble_eq_true rfl⟩ ?_
  refine lv_if_ne (tgt := 15) hC.1 hC.2.1 dX3_best_9 (by decide) (fun c2 => ?_) (fun c2 => ?_)
  ·
    skip
    rw [bI_n0] at c2
    refine lv_iload_n hC.1 hC.2.1 dX3_best_15 rfl (lv_at hl 1 rfl) ?_
    refine lv_i2l hC.1 hC.2.1 dX3_best_16 rfl ?_
    refine lv_lconst (v := 0) hC.1 hC.2.1 dX3_best_17 (by decide) ?_
    refine lv_lconst (v := 1) hC.1 hC.2.1 dX3_best_18 (by decide) ?_
    refine s_ci hC ((mc_in l (a := 0) (b := 1) rfl rfl rfl)) (cw_ms 3 hC.2.2.2.2 q1350 q1351 q1352 ⟨rfl, rfl⟩ rfl (by decide +kernel) ⟨Nat.le_of_ble_eq_true rfl, Nat.le_of_ble_eq_true rfl⟩) rfl hl.1 rfl (lv_room (Nat.le_of_ble_eq_true rfl)) dX3_best_19 ⟨Nat.le_of_ble_eq_true rfl, Nat.le_of_ble_eq_true rfl⟩ ?_
    refine lv_if_ne (tgt := 28) hC.1 hC.2.1 dX3_best_22 (by decide) (fun c4 => ?_) (fun c4 => ?_)
    ·
      skip
      rw [bI_n0] at c4
      refine lv_iload_n hC.1 hC.2.1 dX3_best_28 rfl (lv_at hl 1 rfl) ?_
      refine lv_if_ne (tgt := 43) hC.1 hC.2.1 dX3_best_29 (by decide) (fun c5 => ?_) (fun c5 => ?_)
      ·
        skip
        refine lv_bipush (v := 20) hC.1 hC.2.1 dX3_best_43 (by decide) ?_
        refine lv_istore_n (lv' := [(2, _), (0, _), (1, _)]) hC.1 hC.2.1 dX3_best_45 rfl hl (by decide) rfl (fun ls hl => ?_)
        refine w_ind (α := Nat) 46 (fun (f : Nat) => f) (fun (f : Nat) (H : Heap) (locs : List Loc) (ls : Array Slot) => (f ≤ 20 ∧ fdn (w 5) f = fdn (w 5) 20) ∧ MS D ac A G s.heap mo ad (upd v 0 0) (w) H locs ∧ lv_has ls 3 [(0, .ref mo), (1, .int x), (2, .int (nI f))]) ?_ (20) ⟨⟨by omega, rfl⟩, hM, lv_sub hl [1, 2, 0] rfl⟩
        intro f H locs ls hI ih46
        obtain ⟨hI46, hM, hl⟩ := hI
        refine lv_aload_n hC.1 hC.2.1 dX3_best_46 rfl (lv_at hl 0 rfl) ?_
        refine lv_iload_n hC.1 hC.2.1 dX3_best_47 rfl (lv_at hl 2 rfl) ?_
        refine m_cr hC hK hM (mc_bestBy l _ _ _) (cw_m 1 hC.2.2.2.2 q1592 q1594 qs55 q1595 ⟨rfl, rfl⟩ rfl (by decide +kernel) ⟨Nat.le_of_ble_eq_true rfl, Nat.le_of_ble_eq_true rfl⟩) rfl hl.1 rfl (lv_room (Nat.le_of_ble_eq_true rfl)) dX3_best_48 ⟨Nat.le_of_ble_eq_true rfl, Nat.le_of_ble_eq_true rfl⟩ ?_
        refine lv_if_le (tgt := 60) hC.1 hC.2.1 dX3_best_51 (by decide) (fun c7 => ?_) (fun c7 => ?_)
        ·
          have nc7 := Int32.not_lt.mpr c7
          have cb : bestB (w 5) (nI f) 3 = 0 := by have := nle_t (b := 0) c7 (by have := bestB_le (w 5) (nI f) 3; omega) (by omega); omega
          refine lv_iload_n hC.1 hC.2.1 dX3_best_60 rfl (lv_at hl 2 rfl) ?_
          refine m_iret hC hr hlocks hM dX3_best_61 ?_
          have hf : nI f = nI (fdn (w 5) 20) := by
            rw [← hI46.2]
            cases f with
            | zero => rfl
            | succ g => rw [fdn, if_pos cb]
          rw [hf]
          simp [op_best, *]
        ·
          have nc7 := Int32.not_le.mp c7
          have cb : ¬ bestB (w 5) (nI f) 3 = 0 := by
            intro h
            rw [show upd v 0 0 = upd v 0 0 from rfl] at *
            exact c7 (by rw [h]; decide)
          obtain ⟨f, rfl⟩ : ∃ g, f = g + 1 := ⟨f - 1, by
            rcases Nat.eq_zero_or_pos f with h | h
            · subst h; exact absurd hb0 cb
            · omega⟩
          refine lv_iinc (lv' := [(2, _), (0, _), (1, _)]) hC.1 hC.2.1 dX3_best_54 hl (k := 2) rfl rfl (by decide) rfl (fun ls hl => ?_)
          refine lv_goto (tgt := 46) hC.1 hC.2.1 dX3_best_57 (by decide) ?_
          rw [show nI (f + 1) + Int32.ofInt (-1) = nI f from pk_m1 f] at hl
          exact ih46 (f) _ _ _ (by omega) ⟨⟨by omega, by rw [← hI46.2, fdn, if_neg cb]⟩, hM, lv_sub hl [1, 2, 0] rfl⟩
      ·
        skip
        refine lv_aload_n hC.1 hC.2.1 dX3_best_32 rfl (lv_at hl 0 rfl) ?_
        refine lv_aload_n hC.1 hC.2.1 dX3_best_33 rfl (lv_at hl 0 rfl) ?_
        refine m_get hC hK hM 5 (by decide) q1267 rfl rfl dX3_best_34 ?_
        refine lv_iconst (v := 1) hC.1 hC.2.1 dX3_best_37 (by decide) ?_
        refine m_iald hC hK hM 5 rfl (n := 1) (by first | rfl | (simp only [← nI_add, ← pk_mul]; rfl)) (by first | decide | (show _ < 94; omega)) dX3_best_38 ?_
        refine m_cr hC hK hM (mc_bestBy l _ _ _) (cw_m 1 hC.2.2.2.2 q1592 q1594 qs55 q1595 ⟨rfl, rfl⟩ rfl (by decide +kernel) ⟨Nat.le_of_ble_eq_true rfl, Nat.le_of_ble_eq_true rfl⟩) rfl hl.1 rfl (lv_room (Nat.le_of_ble_eq_true rfl)) dX3_best_39 ⟨Nat.le_of_ble_eq_true rfl, Nat.le_of_ble_eq_true rfl⟩ ?_
        refine m_iret hC hr hlocks hM dX3_best_42 ?_
        first | (simp [op_best, wup_s, upd_s, wup_n, upd_n, *]; done) | (simp_all [op_best, wup_s, upd_s, wup_n, upd_n]; done) | grind [op_best, wup_s, upd_s, wup_n, upd_n]
    ·
      skip
      rw [bI_0] at c4
      refine lv_ldc hC.1 hC.2.1 hC.2.2.2.1 (hC.2.2.2.2 _ q1354) dX3_best_25 ?_
      refine m_iret hC hr hlocks hM dX3_best_27 ?_
      first | (simp [op_best, wup_s, upd_s, wup_n, upd_n, *]; done) | (simp_all [op_best, wup_s, upd_s, wup_n, upd_n]; done) | grind [op_best, wup_s, upd_s, wup_n, upd_n]
  ·
    skip
    rw [bI_0] at c2
    refine lv_ldc hC.1 hC.2.1 hC.2.2.2.1 (hC.2.2.2.2 _ q1462) dX3_best_12 ?_
    refine m_iret hC hr hlocks hM dX3_best_14 ?_
    first | (simp [op_best, wup_s, upd_s, wup_n, upd_n, *]; done) | (simp_all [op_best, wup_s, upd_s, wup_n, upd_n]; done) | grind [op_best, wup_s, upd_s, wup_n, upd_n]
