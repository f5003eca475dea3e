set_option maxHeartbeats 400000 in
set_option maxRecDepth 100000 in
theorem mc_rest (l : Launch) (v : Nat → Int32) (w : Nat → Nat → Int32) (n mv : Nat) (en : w 5 4 = nI n) (hn : n ≤ 6) (em : w 5 5 = nI mv) (hm : mv ≤ 5) (hmo : movOk (w 5) n mv) (nt : Nat) (ent : w 5 6 = nI nt) (hnt : nt < 2 ^ 29) : mMi l yX3_rest cX3_rest 3 (some .int) ({ frames := 4, cells := 0, slots := 0, locals := 97 }) [] v w (fun r v1 w1 => r = op_rest v w ∧ v1 = upd v 0 0 ∧ ∀ q, q ≠ 19 → q ≠ 21 → w1 q = w q) := by
  intro D ac A G mo ad
  refine m_body rfl (Nat.le_of_ble_eq_true rfl) ?_
  intro p e s m args below meth c ls hC hr hlocks hK hM hl
  have hl : lv_has ls 3 [(0, .ref mo)] := hl
  have i4 : iN (w 5 4) = n := by rw [en]; exact iN_nI (by omega)
  have i5 : iN (w 5 5) = mv := by rw [em]; exact iN_nI (by omega)
  have i6 : iN (w 5 6) = nt := by rw [ent]; exact iN_nI (by omega)
  refine lv_aload_n hC.1 hC.2.1 dX3_rest_0 rfl (lv_at hl 0 rfl) ?_
  refine lv_iconst (v := 0) hC.1 hC.2.1 dX3_rest_1 (by decide) ?_
  refine m_put hC hK hM 0 (by decide) q1262 rfl rfl rfl rfl dX3_rest_2 (fun H locs hM => ?_)
  refine lv_aload_n hC.1 hC.2.1 dX3_rest_5 rfl (lv_at hl 0 rfl) ?_
  refine m_cr hC hK hM (mc_isThere l _ _) (cw_m 0 hC.2.2.2.2 q1458 q1460 qs39 q1461 ⟨rfl, rfl⟩ rfl (by decide +kernel) ⟨Nat.le_of_ble_eq_true rfl, Nat.le_of_ble_eq_true rfl⟩) rfl hl.1 rfl (lv_room (Nat.le_of_ble_eq_true rfl)) dX3_rest_6 ⟨Nat.le_of_ble_eq_true rfl, Nat.le_of_ble_eq_true rfl⟩ ?_
  refine lv_if_ne (tgt := 15) hC.1 hC.2.1 dX3_rest_9 (by decide) (fun c2 => ?_) (fun c2 => ?_)
  ·
    skip
    rw [bI_n0] at c2
    have cT := c2
    refine lv_aload_n hC.1 hC.2.1 dX3_rest_15 rfl (lv_at hl 0 rfl) ?_
    refine lv_iconst (v := 1) hC.1 hC.2.1 dX3_rest_16 (by decide) ?_
    refine m_cve hC hK hM (mc_layNow l _ _ 1 (by decide) n en hn) (cw_m 1 hC.2.2.2.2 q1471 q1473 qs42 q1474 ⟨rfl, rfl⟩ rfl (by decide +kernel) ⟨Nat.le_of_ble_eq_true rfl, Nat.le_of_ble_eq_true rfl⟩) rfl hl.1 rfl (lv_room (Nat.le_of_ble_eq_true rfl)) dX3_rest_17 ⟨Nat.le_of_ble_eq_true rfl, Nat.le_of_ble_eq_true rfl⟩ (fun H locs hM => ?_)
    refine lv_iconst (v := 0) hC.1 hC.2.1 dX3_rest_20 (by decide) ?_
    refine lv_istore_n (lv' := [(1, _), (0, _)]) hC.1 hC.2.1 dX3_rest_21 rfl hl (by decide) rfl (fun ls hl => ?_)
    refine lv_iconst (v := 0) hC.1 hC.2.1 dX3_rest_22 (by decide) ?_
    refine lv_istore_n (lv' := [(2, _), (1, _), (0, _)]) hC.1 hC.2.1 dX3_rest_23 rfl hl (by decide) rfl (fun ls hl => ?_)
    refine w_ind (α := Nat × Int32 × (Nat → Nat → Int32)) 24 (fun (x_ : Nat × Int32 × (Nat → Nat → Int32)) => (fun (i : Nat) (st : Int32) (wx : (Nat → Nat → Int32)) => 62 - i) x_.1 x_.2.1 x_.2.2) (fun (x_ : Nat × Int32 × (Nat → Nat → Int32)) (H : Heap) (locs : List Loc) (ls : Array Slot) => (fun (i : Nat) (st : Int32) (wx : (Nat → Nat → Int32)) => (i ≤ 62 ∧ (∀ q, q ≠ 19 → q ≠ 21 → wx q = w q) ∧ restF (w 5) n mv nt (62 - i) i st (wx 19) = restF (w 5) n mv nt 62 0 0 (layF (w 5) (w 19) n 1)) ∧ MS D ac A G s.heap mo ad (upd v 0 0) (wx) H locs ∧ lv_has ls 3 [(0, .ref mo), (1, .int st), (2, .int (nI i))]) x_.1 x_.2.1 x_.2.2) ?_ ((0, 0, wput w 19 (layF (w 5) (w 19) n 1))) ⟨⟨by omega, fun q h1 h2 => wput_n h1, rfl⟩, hM, lv_sub hl [2, 1, 0] rfl⟩
    intro x_ H locs ls hI ih24
    obtain ⟨i, st, wx⟩ := x_
    dsimp only at hI
    obtain ⟨hI24, hM, hl⟩ := hI
    have hw5 : wx 5 = w 5 := hI24.2.1 5 (by decide) (by decide)
    refine lv_iload_n hC.1 hC.2.1 dX3_rest_24 rfl (lv_at hl 2 rfl) ?_
    refine lv_bipush (v := 61) hC.1 hC.2.1 dX3_rest_25 (by decide) ?_
    refine lv_icmp_gt (tgt := 69) hC.1 hC.2.1 dX3_rest_27 (by decide) (fun c4 => ?_) (fun c4 => ?_)
    ·
      have nc4 := Int32.not_le.mpr c4
      have hx27 := nlt_t (a := 61) (b := i) c4
      refine lv_ldc hC.1 hC.2.1 hC.2.2.2.1 (hC.2.2.2.2 _ q1395) dX3_rest_69 ?_
      refine m_iret hC hr hlocks hM dX3_rest_71 ?_
      exact ⟨by rw [op_rest, if_neg (fun h => h cT), i4, i5, i6, ← hI24.2.2, show 62 - i = 0 by omega, restF], rfl, fun q h1 h2 => hI24.2.1 q h1 h2⟩
    ·
      have nc4 := Int32.not_lt.mp c4
      have hx27 := nlt_f (a := 61) (b := i) c4
      refine lv_aload_n hC.1 hC.2.1 dX3_rest_30 rfl (lv_at hl 0 rfl) ?_
      refine lv_aload_n hC.1 hC.2.1 dX3_rest_31 rfl (lv_at hl 0 rfl) ?_
      refine m_get hC hK hM 5 (by decide) q1267 rfl rfl dX3_rest_32 ?_
      refine lv_bipush (v := 6) hC.1 hC.2.1 dX3_rest_35 (by decide) ?_
      refine m_iald hC hK hM 5 rfl (n := 6) (by first | rfl | (simp only [← nI_add, ← pk_mul]; rfl)) (by first | decide | (show _ < 94; omega)) dX3_rest_37 ?_
      rw [show wx 5 6 = nI nt by rw [hw5]; exact ent]
      refine lv_iload_n hC.1 hC.2.1 dX3_rest_38 rfl (lv_at hl 2 rfl) ?_
      refine lv_iadd hC.1 hC.2.1 dX3_rest_39 ?_
      rw [nI_add]
      refine m_cie hC hK hM (mc_rests l _ _ (nt + i) n mv (by rw [hw5]; exact en) hn (by rw [hw5]; exact em) hm (by rw [hw5]; exact hmo) (by omega)) (cw_m 1 hC.2.2.2.2 q1558 q1560 qs52 q1561 ⟨rfl, rfl⟩ rfl (by decide +kernel) ⟨Nat.le_of_ble_eq_true rfl, Nat.le_of_ble_eq_true rfl⟩) rfl hl.1 rfl (lv_room (Nat.le_of_ble_eq_true rfl)) dX3_rest_40 ⟨Nat.le_of_ble_eq_true rfl, Nat.le_of_ble_eq_true rfl⟩ (fun H locs hM => ?_)
      rw [hw5] at hM ⊢
      refine w_tern1 (cond := eqL (goF (w 5) n (nt + i) 31 (wx 19) mv) (wx 19) n = true) (a := st + 1) (b := 0) 53 ?_ (fun jt43 jf43 => ?_)
      ·
        skip
        refine lv_istore_n (lv' := [(1, _), (0, _), (2, _)]) hC.1 hC.2.1 dX3_rest_53 rfl hl (by decide) rfl (fun ls hl => ?_)
        refine lv_iload_n hC.1 hC.2.1 dX3_rest_54 rfl (lv_at hl 0 rfl) ?_
        refine lv_iconst (v := 2) hC.1 hC.2.1 dX3_rest_55 (by decide) ?_
        refine lv_icmp_ne (tgt := 63) hC.1 hC.2.1 dX3_rest_56 (by decide) (fun c6 => ?_) (fun c6 => ?_)
        ·
          skip
          have c2 := c6
          refine lv_iinc (v := nI (i + 1)) (lv' := [(2, _), (1, _), (0, _)]) hC.1 hC.2.1 dX3_rest_63 hl (k := 2) rfl (nI_1 _) (by decide) rfl (fun ls hl => ?_)
          refine lv_goto (tgt := 24) hC.1 hC.2.1 dX3_rest_66 (by decide) ?_
          exact ih24 ((i + 1, (if eqL (goF (w 5) n (nt + i) 31 (wx 19) mv) (wx 19) n = true then st + 1 else 0), wput (wseg wx 21 0 6 (wx 19)) 19 (goF (w 5) n (nt + i) 31 (wx 19) mv))) _ _ _ (by show 62 - (i + 1) < 62 - i; omega) ⟨⟨by omega, fun q h1 h2 => by show wput _ 19 _ q = _; rw [wput_n h1, wseg_o h2]; exact hI24.2.1 q h1 h2, by rw [← hI24.2.2, show 62 - i = (62 - (i + 1)) + 1 by omega, restF, if_neg c2]; rfl⟩, hM, lv_sub hl [2, 1, 0] rfl⟩
        ·
          skip
          have c2 := c6
          refine lv_iload_n hC.1 hC.2.1 dX3_rest_59 rfl (lv_at hl 2 rfl) ?_
          refine lv_iconst (v := 1) hC.1 hC.2.1 dX3_rest_60 (by decide) ?_
          refine lv_isub hC.1 hC.2.1 dX3_rest_61 ?_
          refine m_iret hC hr hlocks hM dX3_rest_62 ?_
          exact ⟨by rw [op_rest, if_neg (fun h => h cT), i4, i5, i6, ← hI24.2.2, show 62 - i = (62 - (i + 1)) + 1 by omega, restF, if_pos c2], rfl, fun q h1 h2 => by show wput _ 19 _ q = _; rw [wput_n h1, wseg_o h2]; exact hI24.2.1 q h1 h2⟩
      ·
        skip
        refine lv_if_eq (tgt := 52) hC.1 hC.2.1 dX3_rest_43 (by decide) (fun c7 => ?_) (fun c7 => ?_)
        ·
          skip
          refine lv_iconst (v := 0) hC.1 hC.2.1 dX3_rest_52 (by decide) ?_
          first | exact jt43 (by grind [bI]) | exact jf43 (by grind [bI])
        ·
          skip
          refine lv_iload_n hC.1 hC.2.1 dX3_rest_46 rfl (lv_at hl 1 rfl) ?_
          refine lv_iconst (v := 1) hC.1 hC.2.1 dX3_rest_47 (by decide) ?_
          refine lv_iadd hC.1 hC.2.1 dX3_rest_48 ?_
          refine lv_goto (tgt := 53) hC.1 hC.2.1 dX3_rest_49 (by decide) ?_
          first | exact jt43 (by grind [bI]) | exact jf43 (by grind [bI])
  ·
    skip
    rw [bI_0] at c2
    refine lv_ldc hC.1 hC.2.1 hC.2.2.2.1 (hC.2.2.2.2 _ q1462) dX3_rest_12 ?_
    refine m_iret hC hr hlocks hM dX3_rest_14 ?_
    exact ⟨by rw [op_rest, if_pos (by assumption)], rfl, fun _ _ _ => rfl⟩

set_option maxHeartbeats 400000 in
set_option maxRecDepth 100000 in
theorem mc_who (l : Launch) (v : Nat → Int32) (w : Nat → Nat → Int32) (t x : Int32) (n mv : Nat) (en : w 5 4 = nI n) (hn : n ≤ 6) (em : w 5 5 = nI mv) (hm : mv ≤ 5) (hmo : movOk (w 5) n mv) : mMi l yX3_who cX3_who 6 (some .int) ({ frames := 4, cells := 0, slots := 0, locals := 98 }) [.int t, .int x] v w (fun r v1 w1 => r = op_who w t x ∧ v1 = upd v 0 0 ∧ ∀ q, q ≠ 19 → w1 q = w q) := by
  intro D ac A G mo ad
  refine m_body rfl (Nat.le_of_ble_eq_true rfl) ?_
  intro p e s m args below meth c ls hC hr hlocks hK hM hl
  have hl : lv_has ls 6 [(0, .ref mo), (1, .int t), (2, .int x)] := hl
  have i4 : iN (w 5 4) = n := by rw [en]; exact iN_nI (by omega)
  have i5 : iN (w 5 5) = mv := by rw [em]; exact iN_nI (by omega)
  have hsh := shl1 hm
  refine lv_aload_n hC.1 hC.2.1 dX3_who_0 rfl (lv_at hl 0 rfl) ?_
  refine lv_iconst (v := 0) hC.1 hC.2.1 dX3_who_1 (by decide) ?_
  refine m_put hC hK hM 0 (by decide) q1262 rfl rfl rfl rfl dX3_who_2 (fun H locs hM => ?_)
  refine lv_aload_n hC.1 hC.2.1 dX3_who_5 rfl (lv_at hl 0 rfl) ?_
  refine m_cr hC hK hM (mc_isThere l _ _) (cw_m 0 hC.2.2.2.2 q1458 q1460 qs39 q1461 ⟨rfl, rfl⟩ rfl (by decide +kernel) ⟨Nat.le_of_ble_eq_true rfl, Nat.le_of_ble_eq_true rfl⟩) rfl hl.1 rfl (lv_room (Nat.le_of_ble_eq_true rfl)) dX3_who_6 ⟨Nat.le_of_ble_eq_true rfl, Nat.le_of_ble_eq_true rfl⟩ ?_
  refine lv_if_ne (tgt := 15) hC.1 hC.2.1 dX3_who_9 (by decide) (fun c2 => ?_) (fun c2 => ?_)
  ·
    skip
    rw [bI_n0] at c2
    have cT := c2
    refine lv_iload_n hC.1 hC.2.1 dX3_who_15 rfl (lv_at hl 1 rfl) ?_
    refine lv_i2l hC.1 hC.2.1 dX3_who_16 rfl ?_
    refine lv_lconst (v := 0) hC.1 hC.2.1 dX3_who_17 (by decide) ?_
    refine lv_ldc2 hC.1 hC.2.1 hC.2.2.2.1 (hC.2.2.2.2 _ q1570) dX3_who_18 ?_
    refine s_ci hC ((mc_in l (a := 0) (b := 9) rfl rfl rfl)) (cw_ms 3 hC.2.2.2.2 q1350 q1351 q1352 ⟨rfl, rfl⟩ rfl (by decide +kernel) ⟨Nat.le_of_ble_eq_true rfl, Nat.le_of_ble_eq_true rfl⟩) rfl hl.1 rfl (lv_room (Nat.le_of_ble_eq_true rfl)) dX3_who_21 ⟨Nat.le_of_ble_eq_true rfl, Nat.le_of_ble_eq_true rfl⟩ ?_
    refine lv_if_eq (tgt := 37) hC.1 hC.2.1 dX3_who_24 (by decide) (fun c4 => ?_) (fun c4 => ?_)
    ·
      skip
      rw [bI_0] at c4
      refine lv_ldc hC.1 hC.2.1 hC.2.2.2.1 (hC.2.2.2.2 _ q1354) dX3_who_37 ?_
      refine m_iret hC hr hlocks hM dX3_who_39 ?_
      exact ⟨by simp [op_who, *], rfl, fun _ _ => rfl⟩
    ·
      skip
      rw [bI_n0] at c4
      obtain ⟨tt, htt, rfl⟩ := in_nI (N := 9) rfl rfl c4
      have ett : iN (nI tt) = tt := iN_nI (by omega)
      refine lv_iload_n hC.1 hC.2.1 dX3_who_27 rfl (lv_at hl 2 rfl) ?_
      refine lv_i2l hC.1 hC.2.1 dX3_who_28 rfl ?_
      refine lv_lconst (v := 0) hC.1 hC.2.1 dX3_who_29 (by decide) ?_
      refine lv_lconst (v := 1) hC.1 hC.2.1 dX3_who_30 (by decide) ?_
      refine s_ci hC ((mc_in l (a := 0) (b := 1) rfl rfl rfl)) (cw_ms 3 hC.2.2.2.2 q1350 q1351 q1352 ⟨rfl, rfl⟩ rfl (by decide +kernel) ⟨Nat.le_of_ble_eq_true rfl, Nat.le_of_ble_eq_true rfl⟩) rfl hl.1 rfl (lv_room (Nat.le_of_ble_eq_true rfl)) dX3_who_31 ⟨Nat.le_of_ble_eq_true rfl, Nat.le_of_ble_eq_true rfl⟩ ?_
      refine lv_if_ne (tgt := 40) hC.1 hC.2.1 dX3_who_34 (by decide) (fun c6 => ?_) (fun c6 => ?_)
      ·
        skip
        rw [bI_n0] at c6
        refine lv_iconst (v := 0) hC.1 hC.2.1 dX3_who_40 (by decide) ?_
        refine lv_istore_n (lv' := [(3, _), (0, _), (1, _), (2, _)]) hC.1 hC.2.1 dX3_who_41 rfl hl (by decide) rfl (fun ls hl => ?_)
        refine lv_ldc hC.1 hC.2.1 hC.2.2.2.1 (hC.2.2.2.2 _ q1395) dX3_who_42 ?_
        refine lv_istore (lv' := [(4, _), (3, _), (0, _), (1, _), (2, _)]) hC.1 hC.2.1 dX3_who_44 hl (by decide) rfl (fun ls hl => ?_)
        refine lv_iconst (v := 1) hC.1 hC.2.1 dX3_who_46 (by decide) ?_
        refine lv_aload_n hC.1 hC.2.1 dX3_who_47 rfl (lv_at hl 2 rfl) ?_
        refine m_get hC hK hM 5 (by decide) q1267 rfl rfl dX3_who_48 ?_
        refine lv_iconst (v := 5) hC.1 hC.2.1 dX3_who_51 (by decide) ?_
        refine m_iald hC hK hM 5 rfl (n := 5) (by first | rfl | (simp only [← nI_add, ← pk_mul]; rfl)) (by first | decide | (show _ < 94; omega)) dX3_who_52 ?_
        rw [em]
        refine lv_ishl hC.1 hC.2.1 dX3_who_53 ?_
        rw [hsh.1]
        refine lv_iconst (v := 1) hC.1 hC.2.1 dX3_who_54 (by decide) ?_
        refine lv_isub hC.1 hC.2.1 dX3_who_55 ?_
        refine lv_istore (lv' := [(5, _), (4, _), (3, _), (0, _), (1, _), (2, _)]) hC.1 hC.2.1 dX3_who_56 hl (by decide) rfl (fun ls hl => ?_)
        refine w_ind (α := Nat × (Nat → Nat → Int32)) 58 (fun (x_ : Nat × (Nat → Nat → Int32)) => (fun (k : Nat) (wx : (Nat → Nat → Int32)) => 2 ^ mv - k) x_.1 x_.2) (fun (x_ : Nat × (Nat → Nat → Int32)) (H : Heap) (locs : List Loc) (ls : Array Slot) => (fun (k : Nat) (wx : (Nat → Nat → Int32)) => (k ≤ 2 ^ mv ∧ ∀ q, q ≠ 19 → wx q = w q) ∧ MS D ac A G s.heap mo ad (upd v 0 0) (wx) H locs ∧ lv_has ls 6 [(0, .ref mo), (1, .int (nI tt)), (2, .int x), (3, .int (wcD (whoP (w 5) n mv tt) (2 ^ mv - 1) k)), (4, .int (wlD (whoP (w 5) n mv tt) (2 ^ mv - 1) k)), (5, .int (nI (2 ^ mv - k) - 1))]) x_.1 x_.2) ?_ ((0, w)) ⟨⟨by omega, fun _ _ => rfl⟩, hM, lv_sub hl [3, 4, 5, 2, 1, 0] rfl⟩
        intro x_ H locs ls hI ih58
        obtain ⟨k, wx⟩ := x_
        dsimp only at hI
        obtain ⟨hI58, hM, hl⟩ := hI
        have hw5 : wx 5 = w 5 := hI58.2 5 (by decide)
        refine lv_iload hC.1 hC.2.1 dX3_who_58 (lv_at hl 5 rfl) ?_
        refine lv_if_lt (tgt := 86) hC.1 hC.2.1 dX3_who_60 (by decide) (fun c7 => ?_) (fun c7 => ?_)
        ·
          have nc7 := Int32.not_le.mpr c7
          have ct := (nI_m1 (by omega)).mp c7
          obtain rfl : k = 2 ^ mv := by omega
          refine lv_iload_n hC.1 hC.2.1 dX3_who_86 rfl (lv_at hl 2 rfl) ?_
          refine w_tern1 (cond := x = 0) (a := wcD (whoP (w 5) n mv tt) (2 ^ mv - 1) (2 ^ mv)) (b := wlD (whoP (w 5) n mv tt) (2 ^ mv - 1) (2 ^ mv)) 96 ?_ (fun jt87 jf87 => ?_)
          ·
            skip
            refine m_iret hC hr hlocks hM dX3_who_96 ?_
            refine ⟨?_, rfl, fun q h1 => hI58.2 q h1⟩
            have e : op_who w (nI tt) x = (if x = 0 then wcD (whoP (w 5) n mv tt) (2 ^ mv - 1) (2 ^ mv) else wlD (whoP (w 5) n mv tt) (2 ^ mv - 1) (2 ^ mv)) := by
              rw [op_who, if_neg (fun h => h cT), if_neg (by intro h; rcases h with h | h <;> exact h (by assumption)), i4, i5, ett]
            exact e.symm
          ·
            skip
            refine lv_if_ne (tgt := 94) hC.1 hC.2.1 dX3_who_87 (by decide) (fun c8 => ?_) (fun c8 => ?_)
            ·
              skip
              refine lv_iload hC.1 hC.2.1 dX3_who_94 (lv_at hl 4 rfl) ?_
              first | exact jt87 (by first | assumption | (simp_all; done) | grind) | exact jf87 (by first | assumption | (simp_all; done) | grind)
            ·
              skip
              refine lv_iload_n hC.1 hC.2.1 dX3_who_90 rfl (lv_at hl 3 rfl) ?_
              refine lv_goto (tgt := 96) hC.1 hC.2.1 dX3_who_91 (by decide) ?_
              first | exact jt87 (by first | assumption | (simp_all; done) | grind) | exact jf87 (by first | assumption | (simp_all; done) | grind)
        ·
          have nc7 := Int32.not_lt.mp c7
          have ct : ¬ (2 ^ mv - k) = 0 := fun h => c7 ((nI_m1 (by omega)).mpr h)
          have e60 : nI (2 ^ mv - k) - 1 = nI (2 ^ mv - 1 - k) := by rw [show 2 ^ mv - k = (2 ^ mv - 1 - k) + 1 by omega, nI_pred]
          rw [e60] at hl
          refine lv_aload_n hC.1 hC.2.1 dX3_who_63 rfl (lv_at hl 0 rfl) ?_
          refine lv_iload_n hC.1 hC.2.1 dX3_who_64 rfl (lv_at hl 1 rfl) ?_
          refine lv_iload hC.1 hC.2.1 dX3_who_65 (lv_at hl 5 rfl) ?_
          refine m_cie hC hK hM (mc_standsBy l _ _ tt _ n mv (by rw [hw5]; exact en) hn (by rw [hw5]; exact em) hm (by rw [hw5]; exact hmo) htt) (cw_m 2 hC.2.2.2.2 q1571 q1573 qs53 q1574 ⟨rfl, rfl⟩ rfl (by decide +kernel) ⟨Nat.le_of_ble_eq_true rfl, Nat.le_of_ble_eq_true rfl⟩) rfl hl.1 rfl (lv_room (Nat.le_of_ble_eq_true rfl)) dX3_who_67 ⟨Nat.le_of_ble_eq_true rfl, Nat.le_of_ble_eq_true rfl⟩ (fun H locs hM => ?_)
          rw [hw5] at hM ⊢
          rw [stands_agr (g := fun _ => 0) hmo]
          refine lv_if_eq (tgt := 80) hC.1 hC.2.1 dX3_who_70 (by decide) (fun c10 => ?_) (fun c10 => ?_)
          ·
            skip
            rw [bI_0] at c10
            have cP : ¬ whoP (w 5) n mv tt (2 ^ mv - 1 - k) = true := c10
            refine lv_iinc (lv' := [(5, _), (0, _), (1, _), (2, _), (3, _), (4, _)]) hC.1 hC.2.1 dX3_who_80 hl (k := 5) rfl rfl (by decide) rfl (fun ls hl => ?_)
            refine lv_goto (tgt := 58) hC.1 hC.2.1 dX3_who_83 (by decide) ?_
            rw [show nI (2 ^ mv - 1 - k) + Int32.ofInt (-1) = nI (2 ^ mv - (k + 1)) - 1 by rw [show 2 ^ mv - (k + 1) = 2 ^ mv - 1 - k by omega]; exact dec1 _] at hl
            rw [show wcD (whoP (w 5) n mv tt) (2 ^ mv - 1) k = wcD (whoP (w 5) n mv tt) (2 ^ mv - 1) (k + 1) by rw [wcD, if_neg cP], show wlD (whoP (w 5) n mv tt) (2 ^ mv - 1) k = wlD (whoP (w 5) n mv tt) (2 ^ mv - 1) (k + 1) by rw [wlD, if_neg cP]] at hl
            exact ih58 ((k + 1, wput wx 19 (ntsF (w 5) n mv (nI (2 ^ mv - 1 - k)) (layF (w 5) (wx 19) n 2) tt))) _ _ _ (by show 2 ^ mv - (k + 1) < 2 ^ mv - k; omega) ⟨⟨by omega, fun q h1 => by show wput _ 19 _ q = _; rw [wput_n h1]; exact hI58.2 q h1⟩, hM, lv_sub hl [1, 2, 3, 4, 5, 0] rfl⟩
          ·
            skip
            rw [bI_n0] at c10
            have cP : whoP (w 5) n mv tt (2 ^ mv - 1 - k) = true := c10
            refine lv_iinc (lv' := [(3, _), (0, _), (1, _), (2, _), (4, _), (5, _)]) hC.1 hC.2.1 dX3_who_73 hl (k := 3) rfl rfl (by decide) rfl (fun ls hl => ?_)
            refine lv_iload hC.1 hC.2.1 dX3_who_76 (lv_at hl 5 rfl) ?_
            refine lv_istore (lv' := [(4, _), (3, _), (0, _), (1, _), (2, _), (5, _)]) hC.1 hC.2.1 dX3_who_78 hl (by decide) rfl (fun ls hl => ?_)
            refine lv_iinc (lv' := [(5, _), (4, _), (3, _), (0, _), (1, _), (2, _)]) hC.1 hC.2.1 dX3_who_80 hl (k := 5) rfl rfl (by decide) rfl (fun ls hl => ?_)
            refine lv_goto (tgt := 58) hC.1 hC.2.1 dX3_who_83 (by decide) ?_
            rw [show nI (2 ^ mv - 1 - k) + Int32.ofInt (-1) = nI (2 ^ mv - (k + 1)) - 1 by rw [show 2 ^ mv - (k + 1) = 2 ^ mv - 1 - k by omega]; exact dec1 _] at hl
            rw [show wcD (whoP (w 5) n mv tt) (2 ^ mv - 1) k + Int32.ofInt 1 = wcD (whoP (w 5) n mv tt) (2 ^ mv - 1) (k + 1) by rw [wcD, if_pos cP]; rfl, show (4, Value.int (nI (2 ^ mv - 1 - k))) = (4, Value.int (wlD (whoP (w 5) n mv tt) (2 ^ mv - 1) (k + 1))) by rw [wlD, if_pos cP]] at hl
            exact ih58 ((k + 1, wput wx 19 (ntsF (w 5) n mv (nI (2 ^ mv - 1 - k)) (layF (w 5) (wx 19) n 2) tt))) _ _ _ (by show 2 ^ mv - (k + 1) < 2 ^ mv - k; omega) ⟨⟨by omega, fun q h1 => by show wput _ 19 _ q = _; rw [wput_n h1]; exact hI58.2 q h1⟩, hM, lv_sub hl [3, 4, 5, 2, 1, 0] rfl⟩
      ·
        skip
        rw [bI_0] at c6
        refine lv_ldc hC.1 hC.2.1 hC.2.2.2.1 (hC.2.2.2.2 _ q1354) dX3_who_37 ?_
        refine m_iret hC hr hlocks hM dX3_who_39 ?_
        exact ⟨by simp [op_who, *], rfl, fun _ _ => rfl⟩
  ·
    skip
    rw [bI_0] at c2
    refine lv_ldc hC.1 hC.2.1 hC.2.2.2.1 (hC.2.2.2.2 _ q1462) dX3_who_12 ?_
    refine m_iret hC hr hlocks hM dX3_who_14 ?_
    exact ⟨by simp [op_who, *], rfl, fun _ _ => rfl⟩
