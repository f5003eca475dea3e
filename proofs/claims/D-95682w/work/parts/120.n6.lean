set_option maxHeartbeats 400000 in
set_option maxRecDepth 100000 in
theorem cn_ends (l : Launch) (κ : Nat → Nat) (O : gO) (no : Nat) (cv : Nat → Int32) (ad : Nat → Nat) (g : Nat → Nat → Option Nat) (cw : Nat → Nat → Int32) (rx : Nat → Int32) (rd : Nat → Nat) (rw : Nat → Nat → Int32) (x y f : Int32) (hN : O no = some (nsU cv ad g cw)) (hR : O (ad 4) = some (rdU rx rd rw)) (ro : Nat → Int32) (r0 : ro 0 = rx 0) (rT : ∀ q, q < 48 → ro (46 + q) = rw 10 q) (n : Nat) (en : rx 4 = nI n) (hn : n ≤ 6) (tm : Nat) (et : rx 11 = nI tm) (ht : tm ≤ 12) (hto : tmOk ro n tm) : oM l κ yX0_ends cX0_ends 4 (some .int) ({ frames := 3, cells := 0, slots := 0, locals := 69 }) [.ref no, .int x, .int y, .int f] O (fun rv O1 => rv = some (.int (endC (clC ro (cw 11) n tm) n x y f)) ∧ ∃ G, O1 = oup O no (nsU cv ad g (wput cw 11 G))) := by
  intro D ac A
  refine o_body (own := RX0) rfl (plainFor_of_name (by decide)) (Nat.le_of_ble_eq_true rfl) ?_
  intro p e s m args below meth c ls hC hr hlocks hK hM hl hnamed hmeth
  have hl : lv_has ls 4 [(0, .ref no), (1, .int x), (2, .int y), (3, .int f)] := hl
  have hM := PS.of hM [(no, nsU cv ad g cw), (ad 4, rdU rx rd rw)] ⟨hN, hR, trivial⟩ (by simp only [oad, List.map, List.nodup_cons, List.mem_singleton, List.not_mem_nil, not_false_eq_true, List.nodup_nil, and_true]; exact o_ne hN hR (by decide))
  refine lv_aload_n hC.1 hC.2.1 dX0_ends_0 rfl (lv_at hl 0 rfl) ?_
  refine lv_iload_n hC.1 hC.2.1 dX0_ends_1 rfl (lv_at hl 1 rfl) ?_
  refine p_cVe (L' := [_, _]) hC hK hM (hM.at 0 rfl) rfl (cn_isStone l κ _ no cv ad g cw rx rd rw x (hM.at 0 rfl) (hM.at 1 rfl)) (cwV 1 hC.2.2.2.2 (lw_V q974 q976 qs19 q63 q977) rfl rfl rfl (by decide +kernel) ⟨(Nat.le_of_ble_eq_true rfl), (Nat.le_of_ble_eq_true rfl)⟩) rfl hl.1 rfl (lv_room (Nat.le_of_ble_eq_true rfl)) dX0_ends_2 ⟨(Nat.le_of_ble_eq_true rfl), (Nat.le_of_ble_eq_true rfl)⟩ rfl hM.2 (fun H locs hM => ?_)
  refine lv_if_eq (tgt := 37) hC.1 hC.2.1 dX0_ends_5 (by decide) (fun c1 => ?_) (fun c1 => ?_)
  ·
    skip
    rw [bI_0] at c1
    have cs := c1
    rw [en] at cs
    refine lv_ldc hC.1 hC.2.1 hC.2.2.2.1 (hC.2.2.2.2 _ q269) dX0_ends_37 ?_
    skip
    refine p_iret hC hr hlocks hM dX0_ends_39 ?_
    exact ⟨by rw [endC, if_pos (Or.inl cs)], ⟨cw 11, by rw [wput_self, oup_same hN]; rw [oups, oups, oups, oup_same hR]; exact oup_same hN⟩⟩
  ·
    skip
    rw [bI_n0] at c1
    have cs := c1
    obtain ⟨j, hj, rfl⟩ := in_nI1 (n := n) (by omega) (by rw [en] at cs; exact cs)
    have ij : iN (nI j) = j := iN_nI (by omega)
    rw [en] at cs
    refine lv_iload_n hC.1 hC.2.1 dX0_ends_8 rfl (lv_at hl 2 rfl) ?_
    refine lv_i2l hC.1 hC.2.1 dX0_ends_9 rfl ?_
    refine lv_iload_n hC.1 hC.2.1 dX0_ends_10 rfl (lv_at hl 1 rfl) ?_
    refine lv_iconst (v := 1) hC.1 hC.2.1 dX0_ends_11 (by decide) ?_
    refine lv_iadd hC.1 hC.2.1 dX0_ends_12 ?_
    refine lv_i2l hC.1 hC.2.1 dX0_ends_13 rfl ?_
    refine lv_aload_n hC.1 hC.2.1 dX0_ends_14 rfl (lv_at hl 0 rfl) ?_
    refine p_get hC hK hM 0 rfl in_X0 rfl 4 (by decide) q223 (fun x h => h) rfl dX0_ends_15 ?_
    refine p_get hC hK hM 1 rfl in_X1 rfl 4 (by decide) q156 (fun x h => h) rfl dX0_ends_18 ?_
    refine lv_iconst (v := 1) hC.1 hC.2.1 dX0_ends_21 (by decide) ?_
    refine lv_isub hC.1 hC.2.1 dX0_ends_22 ?_
    refine lv_i2l hC.1 hC.2.1 dX0_ends_23 rfl ?_
    refine s_ci hC ((cc_isIn l (a := nI j + 1) (b := rx 4 - 1) rfl rfl rfl)) (va_cwS 3 hC.2.2.2.2 (lw_S q265 q266 q63 q267) rfl rfl rfl (by decide +kernel) ⟨(Nat.le_of_ble_eq_true rfl), (Nat.le_of_ble_eq_true rfl)⟩) rfl hl.1 rfl (lv_room (Nat.le_of_ble_eq_true rfl)) dX0_ends_24 ⟨(Nat.le_of_ble_eq_true rfl), (Nat.le_of_ble_eq_true rfl)⟩ ?_
    refine lv_if_eq (tgt := 37) hC.1 hC.2.1 dX0_ends_27 (by decide) (fun c2 => ?_) (fun c2 => ?_)
    ·
      skip
      rw [bI_0] at c2
      have cy := c2
      rw [en] at cy
      refine lv_ldc hC.1 hC.2.1 hC.2.2.2.1 (hC.2.2.2.2 _ q269) dX0_ends_37 ?_
      skip
      refine p_iret hC hr hlocks hM dX0_ends_39 ?_
      exact ⟨by rw [endC, if_pos (Or.inr (Or.inl cy))], ⟨cw 11, by rw [wput_self, oup_same hN]; rw [oups, oups, oups, oup_same hR]; exact oup_same hN⟩⟩
    ·
      skip
      rw [bI_n0] at c2
      have cy := c2
      rw [en] at cy
      obtain ⟨k, hk, rfl⟩ := in_nI1 (n := n) (by omega) ⟨Int32.le_trans (by rw [nI_1]; exact nI_pos' (by omega)) cy.1, cy.2⟩
      have ik : iN (nI k) = k := iN_nI (by omega)
      refine lv_iload_n hC.1 hC.2.1 dX0_ends_30 rfl (lv_at hl 3 rfl) ?_
      refine s_ci hC (cc_isHalf l f) (va_cwS 1 hC.2.2.2.2 (lw_S q999 q1000 q63 q1001) rfl rfl rfl (by decide +kernel) ⟨(Nat.le_of_ble_eq_true rfl), (Nat.le_of_ble_eq_true rfl)⟩) rfl hl.1 rfl (lv_room (Nat.le_of_ble_eq_true rfl)) dX0_ends_31 ⟨(Nat.le_of_ble_eq_true rfl), (Nat.le_of_ble_eq_true rfl)⟩ ?_
      refine lv_if_ne (tgt := 40) hC.1 hC.2.1 dX0_ends_34 (by decide) (fun c3 => ?_) (fun c3 => ?_)
      ·
        skip
        rw [bI_n0] at c3
        have cf := c3
        refine lv_aload_n hC.1 hC.2.1 dX0_ends_40 rfl (lv_at hl 0 rfl) ?_
        refine p_cVe (L' := [_, _]) hC hK hM (hM.at 0 rfl) rfl (cn_measure l κ _ no cv ad g cw rx rd rw ro (hM.at 0 rfl) (hM.at 1 rfl) r0 rT n en hn tm et ht hto) (cwV 0 hC.2.2.2.2 (lw_V q1031 q1033 qs20 q63 q1034) rfl rfl rfl (by decide +kernel) ⟨(Nat.le_of_ble_eq_true rfl), (Nat.le_of_ble_eq_true rfl)⟩) rfl hl.1 rfl (lv_room (Nat.le_of_ble_eq_true rfl)) dX0_ends_41 ⟨(Nat.le_of_ble_eq_true rfl), (Nat.le_of_ble_eq_true rfl)⟩ (oups_set hM.2 (i := 0) rfl) (oad_nd hM.2 (i := 0) rfl rfl) (fun H locs hM => ?_)
        obtain ⟨F, hF⟩ : ∃ F, F = clC ro (cw 11) n tm := ⟨_, rfl⟩
        rw [← hF] at hM
        rw [← hF]
        refine lv_if_ne (tgt := 50) hC.1 hC.2.1 dX0_ends_44 (by decide) (fun c4 => ?_) (fun c4 => ?_)
        ·
          skip
          rw [bI_n0] at c4
          have co := c4
          refine lv_iload_n hC.1 hC.2.1 dX0_ends_50 rfl (lv_at hl 3 rfl) ?_
          refine lv_if_ne (tgt := 69) hC.1 hC.2.1 dX0_ends_51 (by decide) (fun c5 => ?_) (fun c5 => ?_)
          ·
            skip
            have f0 := c5
            refine lv_aload_n hC.1 hC.2.1 dX0_ends_69 rfl (lv_at hl 0 rfl) ?_
            refine p_get hC hK hM 0 rfl in_X0 rfl 11 (by decide) q230 (fun x h => h) rfl dX0_ends_70 ?_
            refine lv_aload_n hC.1 hC.2.1 dX0_ends_73 rfl (lv_at hl 0 rfl) ?_
            refine lv_iload_n hC.1 hC.2.1 dX0_ends_74 rfl (lv_at hl 1 rfl) ?_
            refine lv_iload_n hC.1 hC.2.1 dX0_ends_75 rfl (lv_at hl 2 rfl) ?_
            refine p_cVe (L' := [_, _]) hC hK hM (hM.at 0 rfl) rfl (cn_at l κ _ no cv ad g (wput cw 11 F) j k (hM.at 0 rfl)) (cwV 2 hC.2.2.2.2 (lw_V q1035 q1037 qs21 q63 q1038) rfl rfl rfl (by decide +kernel) ⟨(Nat.le_of_ble_eq_true rfl), (Nat.le_of_ble_eq_true rfl)⟩) rfl hl.1 rfl (lv_room (Nat.le_of_ble_eq_true rfl)) dX0_ends_76 ⟨(Nat.le_of_ble_eq_true rfl), (Nat.le_of_ble_eq_true rfl)⟩ rfl hM.2 (fun H locs hM => ?_)
            refine p_iald hC hK hM 0 rfl 11 rfl rfl (n := (7 * j + k)) rfl (by show _ < 49; omega) (by decide) dX0_ends_79 ?_
            skip
            refine p_iret hC hr hlocks hM dX0_ends_80 ?_
            exact ⟨by rw [endC, if_neg (fun h => h.elim (fun h => h cs) (fun h => h.elim (fun h => h cy) (fun h => h cf))), if_neg (fun h => h co), if_neg f0, ij, ik, wput_s], ⟨F, by rw [oups, oups, oups, oup_same hR]⟩⟩
          ·
            skip
            have f0 := c5
            refine lv_aload_n hC.1 hC.2.1 dX0_ends_54 rfl (lv_at hl 0 rfl) ?_
            refine p_get hC hK hM 0 rfl in_X0 rfl 11 (by decide) q230 (fun x h => h) rfl dX0_ends_55 ?_
            refine lv_aload_n hC.1 hC.2.1 dX0_ends_58 rfl (lv_at hl 0 rfl) ?_
            refine lv_iload_n hC.1 hC.2.1 dX0_ends_59 rfl (lv_at hl 2 rfl) ?_
            refine lv_iload_n hC.1 hC.2.1 dX0_ends_60 rfl (lv_at hl 1 rfl) ?_
            refine p_cVe (L' := [_, _]) hC hK hM (hM.at 0 rfl) rfl (cn_at l κ _ no cv ad g (wput cw 11 F) k j (hM.at 0 rfl)) (cwV 2 hC.2.2.2.2 (lw_V q1035 q1037 qs21 q63 q1038) rfl rfl rfl (by decide +kernel) ⟨(Nat.le_of_ble_eq_true rfl), (Nat.le_of_ble_eq_true rfl)⟩) rfl hl.1 rfl (lv_room (Nat.le_of_ble_eq_true rfl)) dX0_ends_61 ⟨(Nat.le_of_ble_eq_true rfl), (Nat.le_of_ble_eq_true rfl)⟩ rfl hM.2 (fun H locs hM => ?_)
            refine p_iald hC hK hM 0 rfl 11 rfl rfl (n := (7 * k + j)) rfl (by show _ < 49; omega) (by decide) dX0_ends_64 ?_
            refine lv_ineg hC.1 hC.2.1 dX0_ends_65 ?_
            refine lv_goto (tgt := 80) hC.1 hC.2.1 dX0_ends_66 (by decide) ?_
            skip
            refine p_iret hC hr hlocks hM dX0_ends_80 ?_
            exact ⟨by rw [endC, if_neg (fun h => h.elim (fun h => h cs) (fun h => h.elim (fun h => h cy) (fun h => h cf))), if_neg (fun h => h co), if_pos f0, ij, ik, wput_s], ⟨F, by rw [oups, oups, oups, oup_same hR]⟩⟩
        ·
          skip
          rw [bI_0] at c4
          have co := c4
          refine lv_ldc hC.1 hC.2.1 hC.2.2.2.1 (hC.2.2.2.2 _ q1044) dX0_ends_47 ?_
          skip
          refine p_iret hC hr hlocks hM dX0_ends_49 ?_
          exact ⟨by rw [endC, if_neg (fun h => h.elim (fun h => h cs) (fun h => h.elim (fun h => h cy) (fun h => h cf))), if_pos co], ⟨F, by rw [oups, oups, oups, oup_same hR]⟩⟩
      ·
        skip
        rw [bI_0] at c3
        have cf := c3
        refine lv_ldc hC.1 hC.2.1 hC.2.2.2.1 (hC.2.2.2.2 _ q269) dX0_ends_37 ?_
        skip
        refine p_iret hC hr hlocks hM dX0_ends_39 ?_
        exact ⟨by rw [endC, if_pos (Or.inr (Or.inr cf))], ⟨cw 11, by rw [wput_self, oup_same hN]; rw [oups, oups, oups, oup_same hR]; exact oup_same hN⟩⟩

set_option maxHeartbeats 400000 in
set_option maxRecDepth 100000 in
theorem cn_widest (l : Launch) (κ : Nat → Nat) (O : gO) (no : Nat) (cv : Nat → Int32) (ad : Nat → Nat) (g : Nat → Nat → Option Nat) (cw : Nat → Nat → Int32) (rx : Nat → Int32) (rd : Nat → Nat) (rw : Nat → Nat → Int32) (hN : O no = some (nsU cv ad g cw)) (hR : O (ad 4) = some (rdU rx rd rw)) (ro : Nat → Int32) (r0 : ro 0 = rx 0) (rT : ∀ q, q < 48 → ro (46 + q) = rw 10 q) (n : Nat) (en : rx 4 = nI n) (hn : n ≤ 6) (tm : Nat) (et : rx 11 = nI tm) (ht : tm ≤ 12) (hto : tmOk ro n tm) : oM l κ yX0_widest cX0_widest 6 (some .int) ({ frames := 3, cells := 0, slots := 0, locals := 69 }) [.ref no] O (fun rv O1 => rv = some (.int (if ¬ 0 < rx 0 then -1000002 else if ¬ okC (clC ro (cw 11) n tm) (n + 1) = true then -1000000 else (wcO (clC ro (cw 11) n tm) n n).1)) ∧ ∃ G, O1 = oup O no (nsU cv ad g (wput cw 11 G))) := by
  intro D ac A
  refine o_body (own := RX0) rfl (plainFor_of_name (by decide)) (Nat.le_of_ble_eq_true rfl) ?_
  intro p e s m args below meth c ls hC hr hlocks hK hM hl hnamed hmeth
  have hl : lv_has ls 6 [(0, .ref no)] := hl
  have hM := PS.of hM [(no, nsU cv ad g cw), (ad 4, rdU rx rd rw)] ⟨hN, hR, trivial⟩ (by simp only [oad, List.map, List.nodup_cons, List.mem_singleton, List.not_mem_nil, not_false_eq_true, List.nodup_nil, and_true]; exact o_ne hN hR (by decide))
  refine lv_aload_n hC.1 hC.2.1 dX0_widest_0 rfl (lv_at hl 0 rfl) ?_
  refine p_cVe (L' := [_, _]) hC hK hM (hM.at 0 rfl) rfl (cn_isRoad l κ _ no cv ad g cw rx rd rw (hM.at 0 rfl) (hM.at 1 rfl)) (cwV 0 hC.2.2.2.2 (lw_V q881 q883 qs15 q63 q884) rfl rfl rfl (by decide +kernel) ⟨(Nat.le_of_ble_eq_true rfl), (Nat.le_of_ble_eq_true rfl)⟩) rfl hl.1 rfl (lv_room (Nat.le_of_ble_eq_true rfl)) dX0_widest_1 ⟨(Nat.le_of_ble_eq_true rfl), (Nat.le_of_ble_eq_true rfl)⟩ rfl hM.2 (fun H locs hM => ?_)
  refine lv_if_ne (tgt := 10) hC.1 hC.2.1 dX0_widest_4 (by decide) (fun c1 => ?_) (fun c1 => ?_)
  ·
    skip
    rw [bI_n0] at c1
    have cr := c1
    refine lv_aload_n hC.1 hC.2.1 dX0_widest_10 rfl (lv_at hl 0 rfl) ?_
    refine p_cVe (L' := [_, _]) hC hK hM (hM.at 0 rfl) rfl (cn_measure l κ _ no cv ad g cw rx rd rw ro (hM.at 0 rfl) (hM.at 1 rfl) r0 rT n en hn tm et ht hto) (cwV 0 hC.2.2.2.2 (lw_V q1031 q1033 qs20 q63 q1034) rfl rfl rfl (by decide +kernel) ⟨(Nat.le_of_ble_eq_true rfl), (Nat.le_of_ble_eq_true rfl)⟩) rfl hl.1 rfl (lv_room (Nat.le_of_ble_eq_true rfl)) dX0_widest_11 ⟨(Nat.le_of_ble_eq_true rfl), (Nat.le_of_ble_eq_true rfl)⟩ (oups_set hM.2 (i := 0) rfl) (oad_nd hM.2 (i := 0) rfl rfl) (fun H locs hM => ?_)
    obtain ⟨F, hF⟩ : ∃ F, F = clC ro (cw 11) n tm := ⟨_, rfl⟩
    rw [← hF] at hM
    rw [← hF]
    refine lv_if_ne (tgt := 20) hC.1 hC.2.1 dX0_widest_14 (by decide) (fun c2 => ?_) (fun c2 => ?_)
    ·
      skip
      rw [bI_n0] at c2
      have co := c2
      refine lv_ldc hC.1 hC.2.1 hC.2.2.2.1 (hC.2.2.2.2 _ q1044) dX0_widest_20 ?_
      refine lv_istore_n (lv' := [(1, _), (0, _)]) hC.1 hC.2.1 dX0_widest_22 rfl hl (by decide) rfl (fun ls hl => ?_)
      refine lv_ldc hC.1 hC.2.1 hC.2.2.2.1 (hC.2.2.2.2 _ q1044) dX0_widest_23 ?_
      refine lv_istore_n (lv' := [(2, _), (1, _), (0, _)]) hC.1 hC.2.1 dX0_widest_25 rfl hl (by decide) rfl (fun ls hl => ?_)
      refine lv_iconst (v := 0) hC.1 hC.2.1 dX0_widest_26 (by decide) ?_
      refine lv_istore_n (lv' := [(3, _), (2, _), (1, _), (0, _)]) hC.1 hC.2.1 dX0_widest_27 rfl hl (by decide) rfl (fun ls hl => ?_)
      refine w_ind (α := Nat) 28 (fun (a : Nat) => n - a) (fun (a : Nat) (H : Heap) (locs : List Loc) (ls : Array Slot) => (a ≤ n) ∧ PS D ac A s.heap O [(no, nsU cv ad g (wput cw 11 F)), (ad 4, rdU rx rd rw)] H locs ∧ lv_has ls 6 [(0, .ref no), (1, .int (wcO F n a).1), (2, .int (wcO F n a).2), (3, .int (nI a))]) ?_ (0) ⟨by omega, hM, lv_sub hl [3, 2, 1, 0] rfl⟩
      intro a H locs ls hI ih28
      obtain ⟨hI28, hM, hl⟩ := hI
      refine lv_iload_n hC.1 hC.2.1 dX0_widest_28 rfl (lv_at hl 3 rfl) ?_
      refine lv_aload_n hC.1 hC.2.1 dX0_widest_29 rfl (lv_at hl 0 rfl) ?_
      refine p_get hC hK hM 0 rfl in_X0 rfl 4 (by decide) q223 (fun x h => h) rfl dX0_widest_30 ?_
      refine p_get hC hK hM 1 rfl in_X1 rfl 4 (by decide) q156 (fun x h => h) rfl dX0_widest_33 ?_
      rw [en]
      refine lv_icmp_ge (tgt := 120) hC.1 hC.2.1 dX0_widest_36 (by decide) (fun c3 => ?_) (fun c3 => ?_)
      ·
        have nc3 := Int32.not_lt.mpr c3
        have hx36 := nle_t (a := n) (b := a) c3
        obtain rfl : n = a := by omega
        refine lv_iload_n hC.1 hC.2.1 dX0_widest_120 rfl (lv_at hl 1 rfl) ?_
        skip
        refine p_iret hC hr hlocks hM dX0_widest_121 ?_
        exact ⟨by rw [if_neg (fun h => h cr), if_neg (fun h => h co)], ⟨F, by rw [oups, oups, oups, oup_same hR]⟩⟩
      ·
        have nc3 := Int32.not_le.mp c3
        have hx36 := nle_f (a := n) (b := a) c3
        refine lv_iload_n hC.1 hC.2.1 dX0_widest_39 rfl (lv_at hl 3 rfl) ?_
        refine lv_iconst (v := 1) hC.1 hC.2.1 dX0_widest_40 (by decide) ?_
        refine lv_iadd hC.1 hC.2.1 dX0_widest_41 ?_
        refine lv_istore (lv' := [(4, _), (0, _), (1, _), (2, _), (3, _)]) hC.1 hC.2.1 dX0_widest_42 hl (by decide) rfl (fun ls hl => ?_)
        rw [nI_1] at hl
        refine w_ind (α := Nat) 44 (fun (i : Nat) => n - (a + 1) - i) (fun (i : Nat) (H : Heap) (locs : List Loc) (ls : Array Slot) => (i ≤ n - (a + 1)) ∧ PS D ac A s.heap O [(no, nsU cv ad g (wput cw 11 F)), (ad 4, rdU rx rd rw)] H locs ∧ lv_has ls 6 [(0, .ref no), (1, .int (wdI F a (wcO F n a)  i).1), (2, .int (wdI F a (wcO F n a)  i).2), (3, .int (nI a)), (4, .int (nI (a + 1 + i)))]) ?_ (0) ⟨by omega, hM, lv_sub hl [1, 2, 3, 4, 0] rfl⟩
        intro i H locs ls hI ih44
        obtain ⟨hI44, hM, hl⟩ := hI
        refine lv_iload hC.1 hC.2.1 dX0_widest_44 (lv_at hl 4 rfl) ?_
        refine lv_aload_n hC.1 hC.2.1 dX0_widest_46 rfl (lv_at hl 0 rfl) ?_
        refine p_get hC hK hM 0 rfl in_X0 rfl 4 (by decide) q223 (fun x h => h) rfl dX0_widest_47 ?_
        refine p_get hC hK hM 1 rfl in_X1 rfl 4 (by decide) q156 (fun x h => h) rfl dX0_widest_50 ?_
        rw [en]
        refine lv_icmp_ge (tgt := 114) hC.1 hC.2.1 dX0_widest_53 (by decide) (fun c4 => ?_) (fun c4 => ?_)
        ·
          have nc4 := Int32.not_lt.mpr c4
          have hx53 := nle_t (a := n) (b := a + 1 + i) c4
          obtain rfl : i = n - (a + 1) := by omega
          refine lv_iinc (v := nI (a + 1)) (lv' := [(3, _), (0, _), (1, _), (2, _), (4, _)]) hC.1 hC.2.1 dX0_widest_114 hl (k := 3) rfl (nI_1 _) (by decide) rfl (fun ls hl => ?_)
          refine lv_goto (tgt := 28) hC.1 hC.2.1 dX0_widest_117 (by decide) ?_
          exact ih28 (a + 1) _ _ _ (by omega) ⟨by omega, hM, lv_sub hl [1, 2, 3, 0] rfl⟩
        ·
          have nc4 := Int32.not_le.mp c4
          have hx53 := nle_f (a := n) (b := a + 1 + i) c4
          refine lv_aload_n hC.1 hC.2.1 dX0_widest_56 rfl (lv_at hl 0 rfl) ?_
          refine p_get hC hK hM 0 rfl in_X0 rfl 11 (by decide) q230 (fun x h => h) rfl dX0_widest_57 ?_
          refine lv_aload_n hC.1 hC.2.1 dX0_widest_60 rfl (lv_at hl 0 rfl) ?_
          refine lv_iload_n hC.1 hC.2.1 dX0_widest_61 rfl (lv_at hl 3 rfl) ?_
          refine lv_iload hC.1 hC.2.1 dX0_widest_62 (lv_at hl 4 rfl) ?_
          refine p_cVe (L' := [_, _]) hC hK hM (hM.at 0 rfl) rfl (cn_at l κ _ no cv ad g (wput cw 11 F) a (a + 1 + i) (hM.at 0 rfl)) (cwV 2 hC.2.2.2.2 (lw_V q1035 q1037 qs21 q63 q1038) rfl rfl rfl (by decide +kernel) ⟨(Nat.le_of_ble_eq_true rfl), (Nat.le_of_ble_eq_true rfl)⟩) rfl hl.1 rfl (lv_room (Nat.le_of_ble_eq_true rfl)) dX0_widest_64 ⟨(Nat.le_of_ble_eq_true rfl), (Nat.le_of_ble_eq_true rfl)⟩ rfl hM.2 (fun H locs hM => ?_)
          refine p_iald hC hK hM 0 rfl 11 rfl rfl (n := (7 * a + (a + 1 + i))) rfl (by show _ < 49; omega) (by decide) dX0_widest_67 ?_
          rw [wput_s]
          refine lv_aload_n hC.1 hC.2.1 dX0_widest_68 rfl (lv_at hl 0 rfl) ?_
          refine p_get hC hK hM 0 rfl in_X0 rfl 11 (by decide) q230 (fun x h => h) rfl dX0_widest_69 ?_
          refine lv_aload_n hC.1 hC.2.1 dX0_widest_72 rfl (lv_at hl 0 rfl) ?_
          refine lv_iload hC.1 hC.2.1 dX0_widest_73 (lv_at hl 4 rfl) ?_
          refine lv_iload_n hC.1 hC.2.1 dX0_widest_75 rfl (lv_at hl 3 rfl) ?_
          refine p_cVe (L' := [_, _]) hC hK hM (hM.at 0 rfl) rfl (cn_at l κ _ no cv ad g (wput cw 11 F) (a + 1 + i) a (hM.at 0 rfl)) (cwV 2 hC.2.2.2.2 (lw_V q1035 q1037 qs21 q63 q1038) rfl rfl rfl (by decide +kernel) ⟨(Nat.le_of_ble_eq_true rfl), (Nat.le_of_ble_eq_true rfl)⟩) rfl hl.1 rfl (lv_room (Nat.le_of_ble_eq_true rfl)) dX0_widest_76 ⟨(Nat.le_of_ble_eq_true rfl), (Nat.le_of_ble_eq_true rfl)⟩ rfl hM.2 (fun H locs hM => ?_)
          refine p_iald hC hK hM 0 rfl 11 rfl rfl (n := (7 * (a + 1 + i) + a)) rfl (by show _ < 49; omega) (by decide) dX0_widest_79 ?_
          rw [wput_s]
          refine lv_iadd hC.1 hC.2.1 dX0_widest_80 ?_
          refine lv_istore (lv' := [(5, _), (0, _), (1, _), (2, _), (3, _), (4, _)]) hC.1 hC.2.1 dX0_widest_81 hl (by decide) rfl (fun ls hl => ?_)
          refine lv_iload hC.1 hC.2.1 dX0_widest_83 (lv_at hl 0 rfl) ?_
          refine lv_iload_n hC.1 hC.2.1 dX0_widest_85 rfl (lv_at hl 3 rfl) ?_
          refine w_tern2 (cond := (wdI F a (wcO F n a)  i).2 < F (7 * a + (a + 1 + i)) + F (7 * (a + 1 + i) + a)) (a := 6 * nI a + nI (a + 1 + i)) (b := (wdI F a (wcO F n a)  i).1) 100 ?_ (fun jt86 jf86 => ?_)
          ·
            skip
            refine lv_istore_n (lv' := [(1, _), (5, _), (0, _), (2, _), (3, _), (4, _)]) hC.1 hC.2.1 dX0_widest_100 rfl hl (by decide) rfl (fun ls hl => ?_)
            refine lv_iload_n hC.1 hC.2.1 dX0_widest_101 rfl (lv_at hl 3 rfl) ?_
            refine lv_iload hC.1 hC.2.1 dX0_widest_102 (lv_at hl 1 rfl) ?_
            refine va_mmax hC.1 hC.2.1 (hC.2.2.1.trans hl.1.symm) hC.2.2.2.1 (hC.2.2.2.2 _ q1049) (hC.2.2.2.2 _ q530) (hC.2.2.2.2 _ q84) (hC.2.2.2.2 _ q531) (Nat.le_of_ble_eq_true rfl) (Nat.le_of_ble_eq_true rfl) (Nat.le_of_ble_eq_true rfl) (Nat.le_of_ble_eq_true rfl) dX0_widest_104 ?_
            refine lv_istore_n (lv' := [(2, _), (1, _), (5, _), (0, _), (3, _), (4, _)]) hC.1 hC.2.1 dX0_widest_107 rfl hl (by decide) rfl (fun ls hl => ?_)
            refine lv_iinc (v := nI ((a + 1 + i) + 1)) (lv' := [(4, _), (2, _), (1, _), (5, _), (0, _), (3, _)]) hC.1 hC.2.1 dX0_widest_108 hl (k := 5) rfl (nI_1 _) (by decide) rfl (fun ls hl => ?_)
            refine lv_goto (tgt := 44) hC.1 hC.2.1 dX0_widest_111 (by decide) ?_
            rw [show (if (wdI F a (wcO F n a)  i).2 < F (7 * a + (a + 1 + i)) + F (7 * (a + 1 + i) + a) then 6 * nI a + nI (a + 1 + i) else (wdI F a (wcO F n a)  i).1) = (wdI F a (wcO F n a)  (i + 1)).1 by rw [wdI]; split <;> rfl, show (if (wdI F a (wcO F n a)  i).2 < F (7 * a + (a + 1 + i)) + F (7 * (a + 1 + i) + a) then F (7 * a + (a + 1 + i)) + F (7 * (a + 1 + i) + a) else (wdI F a (wcO F n a)  i).2) = (wdI F a (wcO F n a)  (i + 1)).2 by rw [wdI]; split <;> rfl] at hl
            exact ih44 (i + 1) _ _ _ (by omega) ⟨by omega, hM, lv_sub hl [4, 2, 1, 5, 0] rfl⟩
          ·
            skip
            refine lv_icmp_le (tgt := 99) hC.1 hC.2.1 dX0_widest_86 (by decide) (fun c5 => ?_) (fun c5 => ?_)
            ·
              have nc5 := Int32.not_lt.mpr c5
              have cq := nc5
              refine lv_iload_n hC.1 hC.2.1 dX0_widest_99 rfl (lv_at hl 2 rfl) ?_
              first | exact jt86 (by exact cq) | exact jf86 (by exact cq)
            ·
              have nc5 := Int32.not_le.mp c5
              have cq := nc5
              refine lv_bipush (v := 6) hC.1 hC.2.1 dX0_widest_89 (by decide) ?_
              refine lv_iload_n hC.1 hC.2.1 dX0_widest_91 rfl (lv_at hl 4 rfl) ?_
              refine lv_imul hC.1 hC.2.1 dX0_widest_92 ?_
              refine lv_iload hC.1 hC.2.1 dX0_widest_93 (lv_at hl 5 rfl) ?_
              refine lv_iadd hC.1 hC.2.1 dX0_widest_95 ?_
              refine lv_goto (tgt := 100) hC.1 hC.2.1 dX0_widest_96 (by decide) ?_
              first | exact jt86 (by exact cq) | exact jf86 (by exact cq)
    ·
      skip
      rw [bI_0] at c2
      have co := c2
      refine lv_ldc hC.1 hC.2.1 hC.2.2.2.1 (hC.2.2.2.2 _ q1044) dX0_widest_17 ?_
      skip
      refine p_iret hC hr hlocks hM dX0_widest_19 ?_
      exact ⟨by rw [if_neg (fun h => h cr), if_pos co], ⟨F, by rw [oups, oups, oups, oup_same hR]⟩⟩
  ·
    skip
    rw [bI_0] at c1
    have cr := c1
    refine lv_ldc hC.1 hC.2.1 hC.2.2.2.1 (hC.2.2.2.2 _ q885) dX0_widest_7 ?_
    skip
    refine p_iret hC hr hlocks hM dX0_widest_9 ?_
    exact ⟨by rw [if_pos cr], ⟨cw 11, by rw [wput_self, oup_same hN]; rw [oups, oups, oups, oup_same hR]; exact oup_same hN⟩⟩
