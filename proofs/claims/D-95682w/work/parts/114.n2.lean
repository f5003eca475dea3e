set_option maxHeartbeats 400000 in
set_option maxRecDepth 100000 in
theorem cn_stone (l : Launch) (κ : Nat → Nat) (O : gO) (no : Nat) (cv : Nat → Int32) (ad : Nat → Nat) (g : Nat → Nat → Option Nat) (cw : Nat → Nat → Int32) (rx : Nat → Int32) (rd : Nat → Nat) (rw : Nat → Nat → Int32) (v : Nat → Int32) (w : Nat → Nat → Int32) (x f : Int32) (hN : O no = some (nsU cv ad g cw)) (hR : O (ad 4) = some (rdU rx rd rw)) (mm : Nat) (kd : Nat → Nat) (mv : Nat → Nat → Int32) (hro : rdR (w 5) rx rw mm kd mv) (n : Nat) (en : rx 4 = nI n) (hn : n ≤ 6) : oM l κ yX0_stone cX0_stone 3 (some .int) ({ frames := 2, cells := 0, slots := 0, locals := 46 }) [.ref no, .int x, .int f] O (fun rv O1 => rv = some (.int (op_stone v w x f).1) ∧ O1 = O) := by
  intro D ac A
  refine o_body (own := RX0) rfl (plainFor_of_name (by decide)) (Nat.le_of_ble_eq_true rfl) ?_
  intro p e s m args below meth c ls hC hr hlocks hK hM hl hnamed hmeth
  have hl : lv_has ls 3 [(0, .ref no), (1, .int x), (2, .int f)] := hl
  have hM := PS.of hM [(no, nsU cv ad g cw), (ad 4, rdU rx rd rw)] ⟨hN, hR, trivial⟩ (by simp only [oad, List.map, List.nodup_cons, List.mem_singleton, List.not_mem_nil, not_false_eq_true, List.nodup_nil, and_true]; exact o_ne hN hR (by decide))
  obtain ⟨r0, r1, r2, r3, r4, r5, r6, r7, rS, rM, rT⟩ := hro
  refine lv_aload_n hC.1 hC.2.1 dX0_stone_0 rfl (lv_at hl 0 rfl) ?_
  refine lv_iload_n hC.1 hC.2.1 dX0_stone_1 rfl (lv_at hl 1 rfl) ?_
  refine p_cVe (L' := [_, _]) hC hK hM (hM.at 0 rfl) rfl (cn_isStone l κ _ no cv ad g cw rx rd rw x (hM.at 0 rfl) (hM.at 1 rfl)) (cwV 1 hC.2.2.2.2 (lw_V q974 q976 qs19 q63 q977) rfl rfl rfl (by decide +kernel) ⟨(Nat.le_of_ble_eq_true rfl), (Nat.le_of_ble_eq_true rfl)⟩) rfl hl.1 rfl (lv_room (Nat.le_of_ble_eq_true rfl)) dX0_stone_2 ⟨(Nat.le_of_ble_eq_true rfl), (Nat.le_of_ble_eq_true rfl)⟩ rfl hM.2 (fun H locs hM => ?_)
  refine lv_if_eq (tgt := 20) hC.1 hC.2.1 dX0_stone_5 (by decide) (fun c1 => ?_) (fun c1 => ?_)
  ·
    skip
    rw [bI_0] at c1
    have cs := c1
    refine lv_ldc hC.1 hC.2.1 hC.2.2.2.1 (hC.2.2.2.2 _ q269) dX0_stone_20 ?_
    skip
    refine p_iret hC hr hlocks hM dX0_stone_22 ?_
    exact ⟨by rw [op_stone, if_neg (fun h => cs (by rw [r4] at h; exact h.1))], by rw [oups, oups, oups, oup_same hR]; exact oup_same hN⟩
  ·
    skip
    rw [bI_n0] at c1
    have cs := c1
    obtain ⟨j, hj, rfl⟩ := in_nI1 (n := n) (by omega) (by rw [en] at cs; exact cs)
    have ij : iN (nI j) = j := iN_nI (by omega)
    refine lv_iload_n hC.1 hC.2.1 dX0_stone_8 rfl (lv_at hl 2 rfl) ?_
    refine lv_i2l hC.1 hC.2.1 dX0_stone_9 rfl ?_
    refine lv_lconst (v := 0) hC.1 hC.2.1 dX0_stone_10 (by decide) ?_
    refine lv_ldc2 hC.1 hC.2.1 hC.2.2.2.1 (hC.2.2.2.2 _ q268) dX0_stone_11 ?_
    refine s_ci hC ((cc_isIn l (a := 0) (b := 2) rfl rfl rfl)) (va_cwS 3 hC.2.2.2.2 (lw_S q265 q266 q63 q267) rfl rfl rfl (by decide +kernel) ⟨(Nat.le_of_ble_eq_true rfl), (Nat.le_of_ble_eq_true rfl)⟩) rfl hl.1 rfl (lv_room (Nat.le_of_ble_eq_true rfl)) dX0_stone_14 ⟨(Nat.le_of_ble_eq_true rfl), (Nat.le_of_ble_eq_true rfl)⟩ ?_
    refine lv_if_ne (tgt := 23) hC.1 hC.2.1 dX0_stone_17 (by decide) (fun c2 => ?_) (fun c2 => ?_)
    ·
      skip
      rw [bI_n0] at c2
      have cf := c2
      obtain ⟨jf, hjf, rfl⟩ := in_nI (N := 2) (by decide) rfl cf
      refine lv_iload_n hC.1 hC.2.1 dX0_stone_23 rfl (lv_at hl 2 rfl) ?_
      refine lv_if_ne (tgt := 39) hC.1 hC.2.1 dX0_stone_24 (by decide) (fun c3 => ?_) (fun c3 => ?_)
      ·
        skip
        have f0 := neq_f (a := jf) (b := 0) c3
        refine lv_iload_n hC.1 hC.2.1 dX0_stone_39 rfl (lv_at hl 2 rfl) ?_
        refine lv_iconst (v := 1) hC.1 hC.2.1 dX0_stone_40 (by decide) ?_
        refine lv_icmp_ne (tgt := 56) hC.1 hC.2.1 dX0_stone_41 (by decide) (fun c4 => ?_) (fun c4 => ?_)
        ·
          skip
          have f1 := neq_f (a := jf) (b := 1) c4
          obtain rfl : jf = 2 := by omega
          refine lv_aload_n hC.1 hC.2.1 dX0_stone_56 rfl (lv_at hl 0 rfl) ?_
          refine p_get hC hK hM 0 rfl in_X0 rfl 4 (by decide) q223 (fun x h => h) rfl dX0_stone_57 ?_
          refine p_get hC hK hM 1 rfl in_X1 rfl 7 (by decide) q165 (fun x h => h) rfl dX0_stone_60 ?_
          refine lv_iload_n hC.1 hC.2.1 dX0_stone_63 rfl (lv_at hl 1 rfl) ?_
          refine p_iald hC hK hM 1 rfl 7 rfl rfl (n := j) rfl (by show _ < 6; omega) (by decide) dX0_stone_64 ?_
          skip
          refine p_iret hC hr hlocks hM dX0_stone_65 ?_
          exact ⟨by rw [op_stone, if_pos ⟨by rw [r4]; exact cs, cf⟩, ij, show iN (nI 2) = 2 from rfl, (rS j (by omega)).2.2], by rw [oups, oups, oups, oup_same hR]; exact oup_same hN⟩
        ·
          skip
          obtain rfl : jf = 1 := neq_t (b := 1) c4
          refine lv_aload_n hC.1 hC.2.1 dX0_stone_44 rfl (lv_at hl 0 rfl) ?_
          refine p_get hC hK hM 0 rfl in_X0 rfl 4 (by decide) q223 (fun x h => h) rfl dX0_stone_45 ?_
          refine p_get hC hK hM 1 rfl in_X1 rfl 6 (by decide) q162 (fun x h => h) rfl dX0_stone_48 ?_
          refine lv_iload_n hC.1 hC.2.1 dX0_stone_51 rfl (lv_at hl 1 rfl) ?_
          refine p_iald hC hK hM 1 rfl 6 rfl rfl (n := j) rfl (by show _ < 6; omega) (by decide) dX0_stone_52 ?_
          refine lv_goto (tgt := 65) hC.1 hC.2.1 dX0_stone_53 (by decide) ?_
          skip
          refine p_iret hC hr hlocks hM dX0_stone_65 ?_
          exact ⟨by rw [op_stone, if_pos ⟨by rw [r4]; exact cs, cf⟩, ij, show iN (nI 1) = 1 from rfl, (rS j (by omega)).2.1], by rw [oups, oups, oups, oup_same hR]; exact oup_same hN⟩
      ·
        skip
        obtain rfl : jf = 0 := neq_t (b := 0) c3
        refine lv_aload_n hC.1 hC.2.1 dX0_stone_27 rfl (lv_at hl 0 rfl) ?_
        refine p_get hC hK hM 0 rfl in_X0 rfl 4 (by decide) q223 (fun x h => h) rfl dX0_stone_28 ?_
        refine p_get hC hK hM 1 rfl in_X1 rfl 5 (by decide) q159 (fun x h => h) rfl dX0_stone_31 ?_
        refine lv_iload_n hC.1 hC.2.1 dX0_stone_34 rfl (lv_at hl 1 rfl) ?_
        refine p_iald hC hK hM 1 rfl 5 rfl rfl (n := j) rfl (by show _ < 6; omega) (by decide) dX0_stone_35 ?_
        refine lv_goto (tgt := 65) hC.1 hC.2.1 dX0_stone_36 (by decide) ?_
        skip
        refine p_iret hC hr hlocks hM dX0_stone_65 ?_
        exact ⟨by rw [op_stone, if_pos ⟨by rw [r4]; exact cs, cf⟩, ij, show iN (nI 0) = 0 from rfl, Nat.add_zero, (rS j (by omega)).1], by rw [oups, oups, oups, oup_same hR]; exact oup_same hN⟩
    ·
      skip
      rw [bI_0] at c2
      have cf := c2
      refine lv_ldc hC.1 hC.2.1 hC.2.2.2.1 (hC.2.2.2.2 _ q269) dX0_stone_20 ?_
      skip
      refine p_iret hC hr hlocks hM dX0_stone_22 ?_
      exact ⟨by rw [op_stone, if_neg (fun h => cf h.2)], by rw [oups, oups, oups, oup_same hR]; exact oup_same hN⟩

set_option maxHeartbeats 400000 in
set_option maxRecDepth 100000 in
theorem cn_carry (l : Launch) (κ : Nat → Nat) (O : gO) (no : Nat) (cv : Nat → Int32) (ad : Nat → Nat) (g : Nat → Nat → Option Nat) (cw : Nat → Nat → Int32) (rx : Nat → Int32) (rd : Nat → Nat) (rw : Nat → Nat → Int32) (v : Nat → Int32) (w : Nat → Nat → Int32) (x y f : Int32) (hN : O no = some (nsU cv ad g cw)) (hR : O (ad 4) = some (rdU rx rd rw)) (mm : Nat) (kd : Nat → Nat) (mv : Nat → Nat → Int32) (hro : rdR (w 5) rx rw mm kd mv) (n : Nat) (en : rx 4 = nI n) (hn : n ≤ 6) (hbd : ∀ k, k < 6 → ∀ f, f < 3 → ∃ x, x ≤ 200 ∧ w 5 (8 + 3 * k + f) = nI x) : oM l κ yX0_carry cX0_carry 4 (some .int) ({ frames := 2, cells := 0, slots := 0, locals := 46 }) [.ref no, .int x, .int y, .int f] O (fun rv O1 => rv = some (.int (op_carry v w x y f).1) ∧ O1 = O) := by
  intro D ac A
  refine o_body (own := RX0) rfl (plainFor_of_name (by decide)) (Nat.le_of_ble_eq_true rfl) ?_
  intro p e s m args below meth c ls hC hr hlocks hK hM hl hnamed hmeth
  have hl : lv_has ls 4 [(0, .ref no), (1, .int x), (2, .int y), (3, .int f)] := hl
  have hM := PS.of hM [(no, nsU cv ad g cw), (ad 4, rdU rx rd rw)] ⟨hN, hR, trivial⟩ (by simp only [oad, List.map, List.nodup_cons, List.mem_singleton, List.not_mem_nil, not_false_eq_true, List.nodup_nil, and_true]; exact o_ne hN hR (by decide))
  obtain ⟨r0, r1, r2, r3, r4, r5, r6, r7, rS, rM, rT⟩ := hro
  refine lv_aload_n hC.1 hC.2.1 dX0_carry_0 rfl (lv_at hl 0 rfl) ?_
  refine lv_iload_n hC.1 hC.2.1 dX0_carry_1 rfl (lv_at hl 1 rfl) ?_
  refine p_cVe (L' := [_, _]) hC hK hM (hM.at 0 rfl) rfl (cn_isStone l κ _ no cv ad g cw rx rd rw x (hM.at 0 rfl) (hM.at 1 rfl)) (cwV 1 hC.2.2.2.2 (lw_V q974 q976 qs19 q63 q977) rfl rfl rfl (by decide +kernel) ⟨(Nat.le_of_ble_eq_true rfl), (Nat.le_of_ble_eq_true rfl)⟩) rfl hl.1 rfl (lv_room (Nat.le_of_ble_eq_true rfl)) dX0_carry_2 ⟨(Nat.le_of_ble_eq_true rfl), (Nat.le_of_ble_eq_true rfl)⟩ rfl hM.2 (fun H locs hM => ?_)
  refine lv_if_eq (tgt := 23) hC.1 hC.2.1 dX0_carry_5 (by decide) (fun c1 => ?_) (fun c1 => ?_)
  ·
    skip
    rw [bI_0] at c1
    have cs := c1
    refine lv_ldc hC.1 hC.2.1 hC.2.2.2.1 (hC.2.2.2.2 _ q269) dX0_carry_23 ?_
    skip
    refine p_iret hC hr hlocks hM dX0_carry_25 ?_
    exact ⟨by rw [op_carry, if_pos (Or.inl (by rw [r4]; exact cs))], by rw [oups, oups, oups, oup_same hR]; exact oup_same hN⟩
  ·
    skip
    rw [bI_n0] at c1
    have cs := c1
    obtain ⟨j, hj, rfl⟩ := in_nI1 (n := n) (by omega) (by rw [en] at cs; exact cs)
    have ij : iN (nI j) = j := iN_nI (by omega)
    refine lv_aload_n hC.1 hC.2.1 dX0_carry_8 rfl (lv_at hl 0 rfl) ?_
    refine lv_iload_n hC.1 hC.2.1 dX0_carry_9 rfl (lv_at hl 2 rfl) ?_
    refine p_cVe (L' := [_, _]) hC hK hM (hM.at 0 rfl) rfl (cn_isStone l κ _ no cv ad g cw rx rd rw y (hM.at 0 rfl) (hM.at 1 rfl)) (cwV 1 hC.2.2.2.2 (lw_V q974 q976 qs19 q63 q977) rfl rfl rfl (by decide +kernel) ⟨(Nat.le_of_ble_eq_true rfl), (Nat.le_of_ble_eq_true rfl)⟩) rfl hl.1 rfl (lv_room (Nat.le_of_ble_eq_true rfl)) dX0_carry_10 ⟨(Nat.le_of_ble_eq_true rfl), (Nat.le_of_ble_eq_true rfl)⟩ rfl hM.2 (fun H locs hM => ?_)
    refine lv_if_eq (tgt := 23) hC.1 hC.2.1 dX0_carry_13 (by decide) (fun c2 => ?_) (fun c2 => ?_)
    ·
      skip
      rw [bI_0] at c2
      have ct := c2
      refine lv_ldc hC.1 hC.2.1 hC.2.2.2.1 (hC.2.2.2.2 _ q269) dX0_carry_23 ?_
      skip
      refine p_iret hC hr hlocks hM dX0_carry_25 ?_
      exact ⟨by rw [op_carry, if_pos (Or.inr (Or.inl (by rw [r4]; exact ct)))], by rw [oups, oups, oups, oup_same hR]; exact oup_same hN⟩
    ·
      skip
      rw [bI_n0] at c2
      have ct := c2
      obtain ⟨k, hk, rfl⟩ := in_nI1 (n := n) (by omega) (by rw [en] at ct; exact ct)
      have ik : iN (nI k) = k := iN_nI (by omega)
      refine lv_iload_n hC.1 hC.2.1 dX0_carry_16 rfl (lv_at hl 3 rfl) ?_
      refine s_ci hC (cc_isHalf l f) (va_cwS 1 hC.2.2.2.2 (lw_S q999 q1000 q63 q1001) rfl rfl rfl (by decide +kernel) ⟨(Nat.le_of_ble_eq_true rfl), (Nat.le_of_ble_eq_true rfl)⟩) rfl hl.1 rfl (lv_room (Nat.le_of_ble_eq_true rfl)) dX0_carry_17 ⟨(Nat.le_of_ble_eq_true rfl), (Nat.le_of_ble_eq_true rfl)⟩ ?_
      refine lv_if_ne (tgt := 26) hC.1 hC.2.1 dX0_carry_20 (by decide) (fun c3 => ?_) (fun c3 => ?_)
      ·
        skip
        rw [bI_n0] at c3
        have cf := c3
        refine lv_iload_n hC.1 hC.2.1 dX0_carry_26 rfl (lv_at hl 3 rfl) ?_
        refine lv_if_ne (tgt := 63) hC.1 hC.2.1 dX0_carry_27 (by decide) (fun c4 => ?_) (fun c4 => ?_)
        ·
          skip
          have f0 := c4
          refine lv_aload_n hC.1 hC.2.1 dX0_carry_63 rfl (lv_at hl 0 rfl) ?_
          refine p_get hC hK hM 0 rfl in_X0 rfl 4 (by decide) q223 (fun x h => h) rfl dX0_carry_64 ?_
          refine p_get hC hK hM 1 rfl in_X1 rfl 6 (by decide) q162 (fun x h => h) rfl dX0_carry_67 ?_
          refine lv_iload_n hC.1 hC.2.1 dX0_carry_70 rfl (lv_at hl 1 rfl) ?_
          refine p_iald hC hK hM 1 rfl 6 rfl rfl (n := j) rfl (by show _ < 6; omega) (by decide) dX0_carry_71 ?_
          refine lv_aload_n hC.1 hC.2.1 dX0_carry_72 rfl (lv_at hl 0 rfl) ?_
          refine p_get hC hK hM 0 rfl in_X0 rfl 4 (by decide) q223 (fun x h => h) rfl dX0_carry_73 ?_
          refine p_get hC hK hM 1 rfl in_X1 rfl 6 (by decide) q162 (fun x h => h) rfl dX0_carry_76 ?_
          refine lv_iload_n hC.1 hC.2.1 dX0_carry_79 rfl (lv_at hl 2 rfl) ?_
          refine p_iald hC hK hM 1 rfl 6 rfl rfl (n := k) rfl (by show _ < 6; omega) (by decide) dX0_carry_80 ?_
          refine lv_isub hC.1 hC.2.1 dX0_carry_81 ?_
          refine va_mabs hC.1 hC.2.1 (hC.2.2.1.trans hl.1.symm) hC.2.2.2.1 (hC.2.2.2.2 _ q984) (hC.2.2.2.2 _ q985) (hC.2.2.2.2 _ q84) (hC.2.2.2.2 _ q986) (Nat.le_of_ble_eq_true rfl) (Nat.le_of_ble_eq_true rfl) (Nat.le_of_ble_eq_true rfl) (Nat.le_of_ble_eq_true rfl) dX0_carry_82 ?_
          skip
          refine p_iret hC hr hlocks hM dX0_carry_85 ?_
          have hx1 := hbd j (by omega) 1 (by omega)
          have hx2 := hbd k (by omega) 1 (by omega)
          obtain ⟨x1, hx1, e1⟩ := hx1
          obtain ⟨x2, hx2, e2⟩ := hx2
          have hc : ¬ (¬ (0 ≤ nI j ∧ nI j ≤ w 5 4 - 1) ∨ ¬ (0 ≤ nI k ∧ nI k ≤ w 5 4 - 1) ∨ ¬ (0 ≤ f ∧ f ≤ 1)) := by rw [r4]; exact fun h => h.elim (fun h => h cs) (fun h => h.elim (fun h => h ct) (fun h => h cf))
          exact ⟨by rw [op_carry, if_neg hc, if_neg f0, ij, ik, ← (rS j (by omega)).2.1, ← (rS k (by omega)).2.1, e1, e2, abs_apt hx1 hx2], by rw [oups, oups, oups, oup_same hR]; exact oup_same hN⟩
        ·
          skip
          have f0 := c4
          refine lv_aload_n hC.1 hC.2.1 dX0_carry_30 rfl (lv_at hl 0 rfl) ?_
          refine p_get hC hK hM 0 rfl in_X0 rfl 4 (by decide) q223 (fun x h => h) rfl dX0_carry_31 ?_
          refine p_get hC hK hM 1 rfl in_X1 rfl 1 (by decide) q147 (fun x h => h) rfl dX0_carry_34 ?_
          refine lv_aload_n hC.1 hC.2.1 dX0_carry_37 rfl (lv_at hl 0 rfl) ?_
          refine p_get hC hK hM 0 rfl in_X0 rfl 4 (by decide) q223 (fun x h => h) rfl dX0_carry_38 ?_
          refine p_get hC hK hM 1 rfl in_X1 rfl 5 (by decide) q159 (fun x h => h) rfl dX0_carry_41 ?_
          refine lv_iload_n hC.1 hC.2.1 dX0_carry_44 rfl (lv_at hl 1 rfl) ?_
          refine p_iald hC hK hM 1 rfl 5 rfl rfl (n := j) rfl (by show _ < 6; omega) (by decide) dX0_carry_45 ?_
          refine lv_aload_n hC.1 hC.2.1 dX0_carry_46 rfl (lv_at hl 0 rfl) ?_
          refine p_get hC hK hM 0 rfl in_X0 rfl 4 (by decide) q223 (fun x h => h) rfl dX0_carry_47 ?_
          refine p_get hC hK hM 1 rfl in_X1 rfl 5 (by decide) q159 (fun x h => h) rfl dX0_carry_50 ?_
          refine lv_iload_n hC.1 hC.2.1 dX0_carry_53 rfl (lv_at hl 2 rfl) ?_
          refine p_iald hC hK hM 1 rfl 5 rfl rfl (n := k) rfl (by show _ < 6; omega) (by decide) dX0_carry_54 ?_
          refine lv_isub hC.1 hC.2.1 dX0_carry_55 ?_
          refine va_mabs hC.1 hC.2.1 (hC.2.2.1.trans hl.1.symm) hC.2.2.2.1 (hC.2.2.2.2 _ q984) (hC.2.2.2.2 _ q985) (hC.2.2.2.2 _ q84) (hC.2.2.2.2 _ q986) (Nat.le_of_ble_eq_true rfl) (Nat.le_of_ble_eq_true rfl) (Nat.le_of_ble_eq_true rfl) (Nat.le_of_ble_eq_true rfl) dX0_carry_56 ?_
          refine lv_imul hC.1 hC.2.1 dX0_carry_59 ?_
          refine lv_goto (tgt := 85) hC.1 hC.2.1 dX0_carry_60 (by decide) ?_
          skip
          refine p_iret hC hr hlocks hM dX0_carry_85 ?_
          have hx1 := hbd j (by omega) 0 (by omega)
          have hx2 := hbd k (by omega) 0 (by omega)
          obtain ⟨x1, hx1, e1⟩ := hx1
          obtain ⟨x2, hx2, e2⟩ := hx2
          rw [Nat.add_zero] at e1 e2
          have hc : ¬ (¬ (0 ≤ nI j ∧ nI j ≤ w 5 4 - 1) ∨ ¬ (0 ≤ nI k ∧ nI k ≤ w 5 4 - 1) ∨ ¬ (0 ≤ f ∧ f ≤ 1)) := by rw [r4]; exact fun h => h.elim (fun h => h cs) (fun h => h.elim (fun h => h ct) (fun h => h cf))
          exact ⟨by rw [op_carry, if_neg hc, if_pos f0, ij, ik, ← (rS j (by omega)).1, ← (rS k (by omega)).1, e1, e2, abs_apt hx1 hx2, r1], by rw [oups, oups, oups, oup_same hR]; exact oup_same hN⟩
      ·
        skip
        rw [bI_0] at c3
        have cf := c3
        refine lv_ldc hC.1 hC.2.1 hC.2.2.2.1 (hC.2.2.2.2 _ q269) dX0_carry_23 ?_
        skip
        refine p_iret hC hr hlocks hM dX0_carry_25 ?_
        exact ⟨by rw [op_carry, if_pos (Or.inr (Or.inr cf))], by rw [oups, oups, oups, oup_same hR]; exact oup_same hN⟩

set_option maxHeartbeats 400000 in
set_option maxRecDepth 100000 in
theorem cn_forget (l : Launch) (κ : Nat → Nat) (O : gO) (no : Nat) (cv : Nat → Int32) (ad : Nat → Nat) (g : Nat → Nat → Option Nat) (cw : Nat → Nat → Int32) (rx : Nat → Int32) (rd : Nat → Nat) (rw : Nat → Nat → Int32) (hN : O no = some (nsU cv ad g cw)) (hR : O (ad 4) = some (rdU rx rd rw)) : oM l κ yX0_forget cX0_forget 2 (some .int) ({ frames := 0, cells := 0, slots := 0, locals := 0 }) [.ref no] O (fun rv O1 => rv = some (.int (rx 11)) ∧ O1 = oup O (ad 4) (rdU (upd rx 11 0) rd rw)) := by
  intro D ac A
  refine o_body (own := RX0) rfl (plainFor_of_name (by decide)) (Nat.le_of_ble_eq_true rfl) ?_
  intro p e s m args below meth c ls hC hr hlocks hK hM hl hnamed hmeth
  have hl : lv_has ls 2 [(0, .ref no)] := hl
  have hM := PS.of hM [(no, nsU cv ad g cw), (ad 4, rdU rx rd rw)] ⟨hN, hR, trivial⟩ (by simp only [oad, List.map, List.nodup_cons, List.mem_singleton, List.not_mem_nil, not_false_eq_true, List.nodup_nil, and_true]; exact o_ne hN hR (by decide))
  refine lv_aload_n hC.1 hC.2.1 dX0_forget_0 rfl (lv_at hl 0 rfl) ?_
  refine p_get hC hK hM 0 rfl in_X0 rfl 4 (by decide) q223 (fun x h => h) rfl dX0_forget_1 ?_
  refine p_get hC hK hM 1 rfl in_X1 rfl 11 (by decide) q174 (fun x h => h) rfl dX0_forget_4 ?_
  refine lv_istore_n (lv' := [(1, _), (0, _)]) hC.1 hC.2.1 dX0_forget_7 rfl hl (by decide) rfl (fun ls hl => ?_)
  refine lv_aload_n hC.1 hC.2.1 dX0_forget_8 rfl (lv_at hl 1 rfl) ?_
  refine p_get hC hK hM 0 rfl in_X0 rfl 4 (by decide) q223 (fun x h => h) rfl dX0_forget_9 ?_
  refine lv_iconst (v := 0) hC.1 hC.2.1 dX0_forget_12 (by decide) ?_
  refine p_put (L' := [_, _]) hC hK hM 1 rfl in_X1 tyX1 tyX1_ok nmX1 rfl 11 (by decide) q174 (fun x h => h) rfl rfl rfl (Nat.le_of_ble_eq_true rfl) rfl rfl rfl dX0_forget_13 (fun H locs hM => ?_)
  refine lv_iload_n hC.1 hC.2.1 dX0_forget_16 rfl (lv_at hl 0 rfl) ?_
  skip
  refine p_iret hC hr hlocks hM dX0_forget_17 ?_
  refine ⟨rfl, ?_⟩
  rw [oups, oups, oups, oup_comm (fun e => o_ne hN hR (by decide) e.symm), oup_same hN]

set_option maxHeartbeats 400000 in
set_option maxRecDepth 100000 in
theorem cn_trace (l : Launch) (κ : Nat → Nat) (O : gO) (no : Nat) (cv : Nat → Int32) (ad : Nat → Nat) (g : Nat → Nat → Option Nat) (cw : Nat → Nat → Int32) (tv : Nat → Int32) (td : Nat → Nat) (tf : Nat → Int32) (x : Int32) (t : Nat) (hN : O no = some (nsU cv ad g cw)) (hT : O (ad 9) = some (cU 2 tv td (oar 0 0 16 tf))) (et : tv 1 = nI t) (ht : t ≤ 16) : oM l κ yX0_trace cX0_trace 2 (some .int) ({ frames := 1, cells := 0, slots := 0, locals := 25 }) [.ref no, .int x] O (fun rv O1 => rv = some (.int (if 0 ≤ x ∧ x ≤ nI t - 1 then tf (iN x) else -1000000)) ∧ O1 = O) := by
  intro D ac A
  refine o_body (own := RX0) rfl (plainFor_of_name (by decide)) (Nat.le_of_ble_eq_true rfl) ?_
  intro p e s m args below meth c ls hC hr hlocks hK hM hl hnamed hmeth
  have hl : lv_has ls 2 [(0, .ref no), (1, .int x)] := hl
  have hM := PS.of hM [(no, nsU cv ad g cw), (ad 9, cU 2 tv td (oar 0 0 16 tf))] ⟨hN, hT, trivial⟩ (by simp only [oad, List.map, List.nodup_cons, List.mem_singleton, List.not_mem_nil, not_false_eq_true, List.nodup_nil, and_true]; exact o_ne hN hT (by decide))
  refine lv_iload_n hC.1 hC.2.1 dX0_trace_0 rfl (lv_at hl 1 rfl) ?_
  refine lv_i2l hC.1 hC.2.1 dX0_trace_1 rfl ?_
  refine lv_lconst (v := 0) hC.1 hC.2.1 dX0_trace_2 (by decide) ?_
  refine lv_aload_n hC.1 hC.2.1 dX0_trace_3 rfl (lv_at hl 0 rfl) ?_
  refine p_get hC hK hM 0 rfl in_X0 rfl 9 (by decide) q228 (fun x h => h) rfl dX0_trace_4 ?_
  refine p_getN hC hK hM 1 rfl in_X2 rfl 1 (by decide) (hK.1.2.1 _ q213 rfl) (fun x h => h) rfl dX0_trace_7 ?_
  rw [et]
  refine lv_iconst (v := 1) hC.1 hC.2.1 dX0_trace_10 (by decide) ?_
  refine lv_isub hC.1 hC.2.1 dX0_trace_11 ?_
  refine lv_i2l hC.1 hC.2.1 dX0_trace_12 rfl ?_
  refine s_ci hC ((cc_isIn l (a := 0) (b := nI t - 1) rfl rfl rfl)) (va_cwS 3 hC.2.2.2.2 (lw_S q265 q266 q63 q267) rfl rfl rfl (by decide +kernel) ⟨(Nat.le_of_ble_eq_true rfl), (Nat.le_of_ble_eq_true rfl)⟩) rfl hl.1 rfl (lv_room (Nat.le_of_ble_eq_true rfl)) dX0_trace_13 ⟨(Nat.le_of_ble_eq_true rfl), (Nat.le_of_ble_eq_true rfl)⟩ ?_
  refine lv_if_eq (tgt := 31) hC.1 hC.2.1 dX0_trace_16 (by decide) (fun c1 => ?_) (fun c1 => ?_)
  ·
    skip
    rw [bI_0] at c1
    have cs := c1
    refine lv_ldc hC.1 hC.2.1 hC.2.2.2.1 (hC.2.2.2.2 _ q1044) dX0_trace_31 ?_
    skip
    refine p_iret hC hr hlocks hM dX0_trace_33 ?_
    exact ⟨by rw [if_neg cs], by rw [oups, oups, oups, oup_same hT]; exact oup_same hN⟩
  ·
    skip
    rw [bI_n0] at c1
    have cs := c1
    obtain ⟨j, hj, rfl⟩ := in_nI1 (n := t) (by omega) cs
    refine lv_aload_n hC.1 hC.2.1 dX0_trace_19 rfl (lv_at hl 0 rfl) ?_
    refine p_get hC hK hM 0 rfl in_X0 rfl 9 (by decide) q228 (fun x h => h) rfl dX0_trace_20 ?_
    refine p_getN hC hK hM 1 rfl in_X2 rfl 0 (by decide) (hK.1.2.1 _ q211 rfl) (fun x h => h) rfl dX0_trace_23 ?_
    refine lv_iload_n hC.1 hC.2.1 dX0_trace_26 rfl (lv_at hl 1 rfl) ?_
    refine p_iald hC hK hM 1 rfl 0 rfl rfl (n := j) rfl (by show _ < 16; omega) (by decide) dX0_trace_27 ?_
    refine lv_goto (tgt := 33) hC.1 hC.2.1 dX0_trace_28 (by decide) ?_
    skip
    refine p_iret hC hr hlocks hM dX0_trace_33 ?_
    exact ⟨by rw [if_pos cs, iN_nI (by omega)], by rw [oups, oups, oups, oup_same hT]; exact oup_same hN⟩
