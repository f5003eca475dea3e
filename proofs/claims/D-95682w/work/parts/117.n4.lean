set_option maxHeartbeats 400000 in
set_option maxRecDepth 100000 in
theorem cn_kind (l : Launch) (κ : Nat → Nat) (O : gO) (no : Nat) (cv : Nat → Int32) (ad : Nat → Nat) (g : Nat → Nat → Option Nat) (cw : Nat → Nat → Int32) (rx : Nat → Int32) (rd : Nat → Nat) (rw : Nat → Nat → Int32) (v : Nat → Int32) (w : Nat → Nat → Int32) (x : Int32) (hN : O no = some (nsU cv ad g cw)) (hR : O (ad 4) = some (rdU rx rd rw)) (mm : Nat) (kd : Nat → Nat) (mv : Nat → Nat → Int32) (hro : rdR (w 5) rx rw mm kd mv) (n : Nat) (en : rx 4 = nI n) (hn : n ≤ 6) (hmvs : mvs κ O (rd 8) mm kd mv) : oM l κ yX0_kind cX0_kind 2 (some .int) ({ frames := 3, cells := 0, slots := 0, locals := 64 }) [.ref no, .int x] O (fun rv O1 => rv = some (.int (op_kind v w x).1) ∧ O1 = O) := by
  obtain ⟨mc, ea, lf, ar, hls, hm5, hl0, hlr, hmv⟩ := hmvs
  intro D ac A
  refine o_body (own := RX0) rfl (plainFor_of_name (by decide)) (Nat.le_of_ble_eq_true rfl) ?_
  intro p e s m args below meth c ls hC hr hlocks hK hM hl hnamed hmeth
  have hl : lv_has ls 2 [(0, .ref no), (1, .int x)] := hl
  have hM := PS.of hM [(no, nsU cv ad g cw), (ad 4, rdU rx rd rw), (rd 8, lsU mc ea (nI mm) ar)] ⟨hN, hR, hls, trivial⟩ (by simp only [oad, List.map, List.nodup_cons, List.mem_cons, List.mem_singleton, List.not_mem_nil, not_or, or_false, not_false_eq_true, List.nodup_nil, and_true]; exact ⟨⟨o_ne hN hR (by decide), o_ne hN hls (by decide)⟩, o_ne hR hls (by decide)⟩)
  obtain ⟨r0, r1, r2, r3, r4, r5, r6, r7, rS, rM, rT⟩ := hro
  refine lv_aload_n hC.1 hC.2.1 dX0_kind_0 rfl (lv_at hl 0 rfl) ?_
  refine lv_iload_n hC.1 hC.2.1 dX0_kind_1 rfl (lv_at hl 1 rfl) ?_
  refine p_cVe (L' := [_, _, _]) hC hK hM (hM.at 0 rfl) rfl (cn_isMover l κ _ no cv ad g cw rx rd rw mc ea mm ar x (hM.at 0 rfl) (hM.at 1 rfl) (hM.at 2 rfl)) (cwV 1 hC.2.2.2.2 (lw_V q1109 q1111 qs25 q63 q1112) rfl rfl rfl (by decide +kernel) ⟨(Nat.le_of_ble_eq_true rfl), (Nat.le_of_ble_eq_true rfl)⟩) rfl hl.1 rfl (lv_room (Nat.le_of_ble_eq_true rfl)) dX0_kind_2 ⟨(Nat.le_of_ble_eq_true rfl), (Nat.le_of_ble_eq_true rfl)⟩ rfl hM.2 (fun H locs hM => ?_)
  refine lv_if_eq (tgt := 30) hC.1 hC.2.1 dX0_kind_5 (by decide) (fun c1 => ?_) (fun c1 => ?_)
  ·
    skip
    rw [bI_0] at c1
    have cs := c1
    refine lv_ldc hC.1 hC.2.1 hC.2.2.2.1 (hC.2.2.2.2 _ q269) dX0_kind_30 ?_
    skip
    refine p_iret hC hr hlocks hM dX0_kind_32 ?_
    exact ⟨by rw [op_kind, if_neg (by rw [r5]; exact cs)], by rw [oups, oups, oups, oups, oup_same hls, oup_same hR]; exact oup_same hN⟩
  ·
    skip
    rw [bI_n0] at c1
    have cs := c1
    obtain ⟨j, hj, rfl⟩ := in_nI1 (n := mm) (by omega) cs
    have ij : iN (nI j) = j := iN_nI (by omega)
    obtain rfl := hlr (by omega)
    obtain ⟨hk1, hk5, q, hfq, hOm⟩ := hmv j hj
    have hOq : ∀ L : List (Nat × gU), oad L = [no, ad 4, rd 8] → oups O L q = some (mvU (kd j) (mv j)) := fun L hL => by rw [oups_off (by rw [hL]; simp only [List.mem_cons, List.not_mem_nil, or_false, not_or]; exact ⟨o_ne hOm hN (by omega), o_ne hOm hR (by omega), o_ne hOm hls (by omega)⟩)]; exact hOm
    refine lv_aload_n hC.1 hC.2.1 dX0_kind_8 rfl (lv_at hl 0 rfl) ?_
    refine p_get hC hK hM 0 rfl in_X0 rfl 4 (by decide) q223 (fun x h => h) rfl dX0_kind_9 ?_
    refine p_get hC hK hM 1 rfl in_X1 rfl 8 (by decide) q168 (fun x h => h) rfl dX0_kind_12 ?_
    refine lv_iload_n hC.1 hC.2.1 dX0_kind_15 rfl (lv_at hl 1 rfl) ?_
    refine p_cFe (L' := [_, _, _]) hC hK hM (hM.at 2 rfl) rfl (cj_get l κ _ (rd 8) mc ea mm lf j q (hM.at 2 rfl) hj (by omega) hfq) (va_cwF 1 hC.2.2.2.2 (lw_F q1116 q904 q906 q67 q908) rfl rfl rfl (hK.1.2.2.2 _ (List.mem_of_getElem? (i := 2) (rfl : nFw[2]? = some _))) (by decide +kernel) ⟨(Nat.le_of_ble_eq_true rfl), (Nat.le_of_ble_eq_true rfl)⟩) rfl hl.1 rfl (lv_room (Nat.le_of_ble_eq_true rfl)) dX0_kind_16 ⟨(Nat.le_of_ble_eq_true rfl), (Nat.le_of_ble_eq_true rfl)⟩ rfl hM.2 (fun H locs hM => ?_)
    refine v_cn hC hK hM (show oups O _ q = some (mvU (kd j) (mv j)) from hOq _ rfl) hk1 hk5 dX0_kind_21 ?_
    refine v_ki hC hK hM (show oups O _ q = some (mvU (kd j) (mv j)) from hOq _ rfl) hk1 hk5  hl.1 (lv_room (Nat.le_of_ble_eq_true rfl)) ⟨Nat.le_of_ble_eq_true rfl, Nat.le_of_ble_eq_true rfl⟩ dX0_kind_24 ⟨Nat.le_of_ble_eq_true rfl, Nat.le_of_ble_eq_true rfl⟩ (fun H locs hM => ?_)
    refine lv_goto (tgt := 32) hC.1 hC.2.1 dX0_kind_27 (by decide) ?_
    skip
    refine p_iret hC hr hlocks hM dX0_kind_32 ?_
    exact ⟨by rw [op_kind, if_pos (by rw [r5]; exact cs), ij, (rM j hj).1], by rw [oups, oups, oups, oups, oup_same hls, oup_same hR]; exact oup_same hN⟩

set_option maxHeartbeats 400000 in
set_option maxRecDepth 100000 in
theorem cn_count (l : Launch) (κ : Nat → Nat) (O : gO) (no : Nat) (cv : Nat → Int32) (ad : Nat → Nat) (g : Nat → Nat → Option Nat) (cw : Nat → Nat → Int32) (rx : Nat → Int32) (rd : Nat → Nat) (rw : Nat → Nat → Int32) (v : Nat → Int32) (w : Nat → Nat → Int32) (x : Int32) (hN : O no = some (nsU cv ad g cw)) (hR : O (ad 4) = some (rdU rx rd rw)) (mm : Nat) (kd : Nat → Nat) (mv : Nat → Nat → Int32) (hro : rdR (w 5) rx rw mm kd mv) (n : Nat) (en : rx 4 = nI n) (hn : n ≤ 6) (hmvs : mvs κ O (rd 8) mm kd mv) (hrw : ∀ j, j < 8 → (g 0 j = none → w 2 j < 0) ∧ ∀ q, g 0 j = some q → 0 ≤ w 2 j) (e10 : cv 2 = v 10) (e8 : cv 7 = v 8) : oM l κ yX0_count cX0_count 4 (some .int) ({ frames := 1, cells := 0, slots := 0, locals := 20 }) [.ref no, .int x] O (fun rv O1 => rv = some (.int (op_count v w x).1) ∧ O1 = O) := by
  obtain ⟨mc, ea, lf, ar, hls, hm5, hl0, hlr, hmv⟩ := hmvs
  intro D ac A
  refine o_body (own := RX0) rfl (plainFor_of_name (by decide)) (Nat.le_of_ble_eq_true rfl) ?_
  intro p e s m args below meth c ls hC hr hlocks hK hM hl hnamed hmeth
  have hl : lv_has ls 4 [(0, .ref no), (1, .int x)] := hl
  have hM := PS.of hM [(no, nsU cv ad g cw), (ad 4, rdU rx rd rw), (rd 8, lsU mc ea (nI mm) ar)] ⟨hN, hR, hls, trivial⟩ (by simp only [oad, List.map, List.nodup_cons, List.mem_cons, List.mem_singleton, List.not_mem_nil, not_or, or_false, not_false_eq_true, List.nodup_nil, and_true]; exact ⟨⟨o_ne hN hR (by decide), o_ne hN hls (by decide)⟩, o_ne hR hls (by decide)⟩)
  obtain ⟨r0, r1, r2, r3, r4, r5, r6, r7, rS, rM, rT⟩ := hro
  refine lv_iconst (v := 0) hC.1 hC.2.1 dX0_count_0 (by decide) ?_
  refine lv_istore_n (lv' := [(2, _), (0, _), (1, _)]) hC.1 hC.2.1 dX0_count_1 rfl hl (by decide) rfl (fun ls hl => ?_)
  refine lv_iload_n hC.1 hC.2.1 dX0_count_2 rfl (lv_at hl 2 rfl) ?_
  rcases sw_cases x (n := 7) (by decide) with hsw | ⟨jsw, hjsw, rfl⟩
  ·
    refine lv_tableOut (tgt := 124) hC.1 hC.2.1 dX0_count_3 hsw (by decide) ?_
    refine lv_ldc hC.1 hC.2.1 hC.2.2.2.1 (hC.2.2.2.2 _ q269) dX0_count_124 ?_
    skip
    refine p_iret hC hr hlocks hM dX0_count_126 ?_
    have hq : (op_count v w x).1 = -1000001 := by
      have hne : ∀ i : Nat, i < 7 → x ≠ nI i := by
        intro i hi h
        subst h
        rw [nI_toInt (by omega)] at hsw
        omega
      unfold op_count
      rw [if_neg (show ¬ x = 0 from hne 0 (by omega)), if_neg (show ¬ x = 1 from hne 1 (by omega)), if_neg (show ¬ x = 2 from hne 2 (by omega)), if_neg (show ¬ x = 3 from hne 3 (by omega)), if_neg (show ¬ x = 4 from hne 4 (by omega)), if_neg (show ¬ x = 5 from hne 5 (by omega)), if_neg (show ¬ x = 6 from hne 6 (by omega))]
    exact ⟨by rw [hq], by rw [oups, oups, oups, oups, oup_same hls, oup_same hR]; exact oup_same hN⟩
  ·
    rcases (show jsw = 0 ∨ jsw = 1 ∨ jsw = 2 ∨ jsw = 3 ∨ jsw = 4 ∨ jsw = 5 ∨ jsw = 6 by omega) with rfl | rfl | rfl | rfl | rfl | rfl | rfl
    ·
      refine lv_tableIn (off := 41) (tgt := 44) hC.1 hC.2.1 dX0_count_3 (by decide) (by decide) rfl (by decide) ?_
      refine lv_iconst (v := 0) hC.1 hC.2.1 dX0_count_44 (by decide) ?_
      refine lv_istore_n (lv' := [(3, _), (2, _), (0, _), (1, _)]) hC.1 hC.2.1 dX0_count_45 rfl hl (by decide) rfl (fun ls hl => ?_)
      refine w_ind (α := Nat) 46 (fun (k : Nat) => 8 - k) (fun (k : Nat) (H : Heap) (locs : List Loc) (ls : Array Slot) => (k ≤ 8) ∧ PS D ac A s.heap O [(no, nsU cv ad g cw), (ad 4, rdU rx rd rw), (rd 8, lsU mc ea (nI mm) ar)] H locs ∧ lv_has ls 4 [(0, .ref no), (2, .int (cntL (w 2) k)), (3, .int (nI k))]) ?_ (0) ⟨by omega, hM, lv_sub hl [2, 1, 0] rfl⟩
      intro k H locs ls hI ih46
      obtain ⟨hI46, hM, hl⟩ := hI
      refine lv_iload_n hC.1 hC.2.1 dX0_count_46 rfl (lv_at hl 2 rfl) ?_
      refine lv_bipush (v := 8) hC.1 hC.2.1 dX0_count_47 (by decide) ?_
      refine lv_icmp_ge (tgt := 75) hC.1 hC.2.1 dX0_count_49 (by decide) (fun c1 => ?_) (fun c1 => ?_)
      ·
        have nc1 := Int32.not_lt.mpr c1
        have hx49 := nle_t (a := 8) (b := k) c1
        obtain rfl : 8 = k := by omega
        refine lv_iload_n hC.1 hC.2.1 dX0_count_75 rfl (lv_at hl 1 rfl) ?_
        skip
        refine p_iret hC hr hlocks hM dX0_count_76 ?_
        exact ⟨rfl, by rw [oups, oups, oups, oups, oup_same hls, oup_same hR]; exact oup_same hN⟩
      ·
        have nc1 := Int32.not_le.mp c1
        have hx49 := nle_f (a := 8) (b := k) c1
        refine lv_iload_n hC.1 hC.2.1 dX0_count_52 rfl (lv_at hl 1 rfl) ?_
        refine lv_aload_n hC.1 hC.2.1 dX0_count_53 rfl (lv_at hl 0 rfl) ?_
        refine p_get hC hK hM 0 rfl in_X0 rfl 0 (by decide) q219 (fun x h => h) rfl dX0_count_54 ?_
        refine lv_iload_n hC.1 hC.2.1 dX0_count_57 rfl (lv_at hl 2 rfl) ?_
        refine p_aald hC hK hM 0 rfl 0 rfl rfl rfl (n := k) rfl (by show _ < 8; omega) (by decide) dX0_count_58 ?_
        rcases hgk : g 0 k with _ | q
        ·
          skip
          refine lv_ifnonnullN hC.1 hC.2.1 dX0_count_59 ?_
          have hk0 := (hrw k hx49).1 hgk
          have hk9 : ¬ 0 ≤ w 2 k := Int32.not_le.mpr hk0
          refine lv_iconst (v := 0) hC.1 hC.2.1 dX0_count_62 (by decide) ?_
          refine lv_goto (tgt := 67) hC.1 hC.2.1 dX0_count_63 (by decide) ?_
          refine lv_iadd hC.1 hC.2.1 dX0_count_67 ?_
          refine lv_istore_n (lv' := [(2, _), (0, _), (3, _)]) hC.1 hC.2.1 dX0_count_68 rfl hl (by decide) rfl (fun ls hl => ?_)
          refine lv_iinc (v := nI (k + 1)) (lv' := [(3, _), (2, _), (0, _)]) hC.1 hC.2.1 dX0_count_69 hl (k := 2) rfl (nI_1 _) (by decide) rfl (fun ls hl => ?_)
          refine lv_goto (tgt := 46) hC.1 hC.2.1 dX0_count_72 (by decide) ?_
          rw [show cntL (w 2) k + 0 = cntL (w 2) (k + 1) by rw [cntL, bI_f hk9]] at hl
          exact ih46 (k + 1) _ _ _ (by omega) ⟨by omega, hM, lv_sub hl [2, 1, 0] rfl⟩
        ·
          skip
          refine lv_ifnonnull (tgt := 66) hC.1 hC.2.1 dX0_count_59 (by decide) ?_
          have hk9 := (hrw k hx49).2 q hgk
          refine lv_iconst (v := 1) hC.1 hC.2.1 dX0_count_66 (by decide) ?_
          refine lv_iadd hC.1 hC.2.1 dX0_count_67 ?_
          refine lv_istore_n (lv' := [(2, _), (0, _), (3, _)]) hC.1 hC.2.1 dX0_count_68 rfl hl (by decide) rfl (fun ls hl => ?_)
          refine lv_iinc (v := nI (k + 1)) (lv' := [(3, _), (2, _), (0, _)]) hC.1 hC.2.1 dX0_count_69 hl (k := 2) rfl (nI_1 _) (by decide) rfl (fun ls hl => ?_)
          refine lv_goto (tgt := 46) hC.1 hC.2.1 dX0_count_72 (by decide) ?_
          rw [show cntL (w 2) k + 1 = cntL (w 2) (k + 1) by rw [cntL, bI_t hk9]] at hl
          exact ih46 (k + 1) _ _ _ (by omega) ⟨by omega, hM, lv_sub hl [2, 1, 0] rfl⟩
    ·
      refine lv_tableIn (off := 74) (tgt := 77) hC.1 hC.2.1 dX0_count_3 (by decide) (by decide) rfl (by decide) ?_
      refine lv_aload_n hC.1 hC.2.1 dX0_count_77 rfl (lv_at hl 1 rfl) ?_
      refine p_get hC hK hM 0 rfl in_X0 rfl 4 (by decide) q223 (fun x h => h) rfl dX0_count_78 ?_
      refine p_get hC hK hM 1 rfl in_X1 rfl 4 (by decide) q156 (fun x h => h) rfl dX0_count_81 ?_
      skip
      refine p_iret hC hr hlocks hM dX0_count_84 ?_
      exact ⟨by rw [← r4]; rfl, by rw [oups, oups, oups, oups, oup_same hls, oup_same hR]; exact oup_same hN⟩
    ·
      refine lv_tableIn (off := 82) (tgt := 85) hC.1 hC.2.1 dX0_count_3 (by decide) (by decide) rfl (by decide) ?_
      refine lv_aload_n hC.1 hC.2.1 dX0_count_85 rfl (lv_at hl 1 rfl) ?_
      refine p_get hC hK hM 0 rfl in_X0 rfl 4 (by decide) q223 (fun x h => h) rfl dX0_count_86 ?_
      refine p_get hC hK hM 1 rfl in_X1 rfl 8 (by decide) q168 (fun x h => h) rfl dX0_count_89 ?_
      refine p_cFe (L' := [_, _, _]) hC hK hM (hM.at 2 rfl) rfl (cj_size l κ _ (rd 8) mc ea (nI mm) ar (hM.at 2 rfl)) (va_cwF 0 hC.2.2.2.2 (lw_F q1114 q725 q727 q67 q729) rfl rfl rfl (hK.1.2.2.2 _ (List.mem_of_getElem? (i := 0) (rfl : nFw[0]? = some _))) (by decide +kernel) ⟨(Nat.le_of_ble_eq_true rfl), (Nat.le_of_ble_eq_true rfl)⟩) rfl hl.1 rfl (lv_room (Nat.le_of_ble_eq_true rfl)) dX0_count_92 ⟨(Nat.le_of_ble_eq_true rfl), (Nat.le_of_ble_eq_true rfl)⟩ rfl hM.2 (fun H locs hM => ?_)
      skip
      refine p_iret hC hr hlocks hM dX0_count_97 ?_
      exact ⟨by rw [← r5]; rfl, by rw [oups, oups, oups, oups, oup_same hls, oup_same hR]; exact oup_same hN⟩
    ·
      refine lv_tableIn (off := 95) (tgt := 98) hC.1 hC.2.1 dX0_count_3 (by decide) (by decide) rfl (by decide) ?_
      refine lv_aload_n hC.1 hC.2.1 dX0_count_98 rfl (lv_at hl 1 rfl) ?_
      refine p_get hC hK hM 0 rfl in_X0 rfl 4 (by decide) q223 (fun x h => h) rfl dX0_count_99 ?_
      refine p_get hC hK hM 1 rfl in_X1 rfl 9 (by decide) q170 (fun x h => h) rfl dX0_count_102 ?_
      skip
      refine p_iret hC hr hlocks hM dX0_count_105 ?_
      exact ⟨by rw [← r6]; rfl, by rw [oups, oups, oups, oups, oup_same hls, oup_same hR]; exact oup_same hN⟩
    ·
      refine lv_tableIn (off := 103) (tgt := 106) hC.1 hC.2.1 dX0_count_3 (by decide) (by decide) rfl (by decide) ?_
      refine lv_aload_n hC.1 hC.2.1 dX0_count_106 rfl (lv_at hl 1 rfl) ?_
      refine p_get hC hK hM 0 rfl in_X0 rfl 7 (by decide) q226 (fun x h => h) rfl dX0_count_107 ?_
      skip
      refine p_iret hC hr hlocks hM dX0_count_110 ?_
      exact ⟨by rw [e8]; rfl, by rw [oups, oups, oups, oups, oup_same hls, oup_same hR]; exact oup_same hN⟩
    ·
      refine lv_tableIn (off := 108) (tgt := 111) hC.1 hC.2.1 dX0_count_3 (by decide) (by decide) rfl (by decide) ?_
      refine lv_aload_n hC.1 hC.2.1 dX0_count_111 rfl (lv_at hl 1 rfl) ?_
      refine p_get hC hK hM 0 rfl in_X0 rfl 4 (by decide) q223 (fun x h => h) rfl dX0_count_112 ?_
      refine p_get hC hK hM 1 rfl in_X1 rfl 11 (by decide) q174 (fun x h => h) rfl dX0_count_115 ?_
      skip
      refine p_iret hC hr hlocks hM dX0_count_118 ?_
      exact ⟨by rw [← r7]; rfl, by rw [oups, oups, oups, oups, oup_same hls, oup_same hR]; exact oup_same hN⟩
    ·
      refine lv_tableIn (off := 116) (tgt := 119) hC.1 hC.2.1 dX0_count_3 (by decide) (by decide) rfl (by decide) ?_
      refine lv_aload_n hC.1 hC.2.1 dX0_count_119 rfl (lv_at hl 1 rfl) ?_
      refine p_get hC hK hM 0 rfl in_X0 rfl 2 (by decide) q221 (fun x h => h) rfl dX0_count_120 ?_
      skip
      refine p_iret hC hr hlocks hM dX0_count_123 ?_
      exact ⟨by rw [e10]; rfl, by rw [oups, oups, oups, oups, oup_same hls, oup_same hR]; exact oup_same hN⟩

set_option maxHeartbeats 400000 in
set_option maxRecDepth 100000 in
theorem cn_undo (l : Launch) (κ : Nat → Nat) (O : gO) (no : Nat) (cv : Nat → Int32) (ad : Nat → Nat) (g : Nat → Nat → Option Nat) (cw : Nat → Nat → Int32) (rx : Nat → Int32) (rd : Nat → Nat) (rw : Nat → Nat → Int32) (b pq : Nat) (pv : Nat → Int32) (pd : Nat → Nat) (pw : Nat → Nat → Int32) (hN : O no = some (nsU cv ad g cw)) (hR : O (ad 4) = some (rdU rx rd rw)) (ea : cv 7 = nI (b + 1)) (hb : b < 24) (hg : g 6 b = some pq) (hP : O pq = some (rdU pv pd pw)) (hne : ad 4 ≠ pq) : oM l κ yX0_undo cX0_undo 1 (some .int) ({ frames := 1, cells := 0, slots := 0, locals := 40 }) [.ref no] O (fun rv O1 => rv = some (.int (nI b)) ∧ O1 = oup (oup O (ad 4) (rdU (upd rx 9 (pv 9)) rd (wput rw 6 (pw 6)))) no (nsU (upd cv 7 (nI b)) ad g cw)) := by
  intro D ac A
  refine o_body (own := RX0) rfl (plainFor_of_name (by decide)) (Nat.le_of_ble_eq_true rfl) ?_
  intro p e s m args below meth c ls hC hr hlocks hK hM hl hnamed hmeth
  have hl : lv_has ls 1 [(0, .ref no)] := hl
  have hM := PS.of hM [(no, nsU cv ad g cw), (ad 4, rdU rx rd rw), (pq, rdU pv pd pw)] ⟨hN, hR, hP, trivial⟩ (by simp only [oad, List.map, List.nodup_cons, List.mem_cons, List.mem_singleton, List.not_mem_nil, not_or, or_false, not_false_eq_true, List.nodup_nil, and_true]; exact ⟨⟨o_ne hN hR (by decide), o_ne hN hP (by decide)⟩, hne⟩)
  refine lv_aload_n hC.1 hC.2.1 dX0_undo_0 rfl (lv_at hl 0 rfl) ?_
  refine p_get hC hK hM 0 rfl in_X0 rfl 7 (by decide) q226 (fun x h => h) rfl dX0_undo_1 ?_
  rw [ea]
  refine lv_if_ne (tgt := 10) hC.1 hC.2.1 dX0_undo_4 (by decide) (fun c1 => ?_) (fun c1 => ?_)
  ·
    skip
    refine lv_aload_n hC.1 hC.2.1 dX0_undo_10 rfl (lv_at hl 0 rfl) ?_
    refine lv_dup hC.1 hC.2.1 dX0_undo_11 rfl ?_
    refine p_get hC hK hM 0 rfl in_X0 rfl 7 (by decide) q226 (fun x h => h) rfl dX0_undo_12 ?_
    rw [ea]
    refine lv_iconst (v := 1) hC.1 hC.2.1 dX0_undo_15 (by decide) ?_
    refine lv_isub hC.1 hC.2.1 dX0_undo_16 ?_
    rw [nI_pred]
    refine p_put (L' := [_, _, _]) hC hK hM 0 rfl in_X0 tyX0 tyX0_ok nmX0 rfl 7 (by decide) q226 (fun x h => h) rfl rfl rfl (Nat.le_of_ble_eq_true rfl) rfl rfl rfl dX0_undo_17 (fun H locs hM => ?_)
    refine lv_aload_n hC.1 hC.2.1 dX0_undo_20 rfl (lv_at hl 0 rfl) ?_
    refine p_get hC hK hM 0 rfl in_X0 rfl 6 (by decide) q225 (fun x h => h) rfl dX0_undo_21 ?_
    refine lv_aload_n hC.1 hC.2.1 dX0_undo_24 rfl (lv_at hl 0 rfl) ?_
    refine p_get hC hK hM 0 rfl in_X0 rfl 7 (by decide) q226 (fun x h => h) rfl dX0_undo_25 ?_
    rw [upd_s]
    refine p_aald hC hK hM 0 rfl 6 rfl rfl rfl (n := b) (by first | rfl | (simp only [← nI_add, ← pk_mul]; rfl)) (by first | decide | (show _ < 24; omega)) (by decide) dX0_undo_28 ?_
    rw [hg]
    refine p_get hC hK hM 2 rfl in_X1 rfl 6 (by decide) q162 (fun x h => h) rfl dX0_undo_29 ?_
    refine lv_iconst (v := 0) hC.1 hC.2.1 dX0_undo_32 (by decide) ?_
    refine lv_aload_n hC.1 hC.2.1 dX0_undo_33 rfl (lv_at hl 0 rfl) ?_
    refine p_get hC hK hM 0 rfl in_X0 rfl 4 (by decide) q223 (fun x h => h) rfl dX0_undo_34 ?_
    refine p_get hC hK hM 1 rfl in_X1 rfl 6 (by decide) q162 (fun x h => h) rfl dX0_undo_37 ?_
    refine lv_iconst (v := 0) hC.1 hC.2.1 dX0_undo_40 (by decide) ?_
    refine lv_bipush (v := 6) hC.1 hC.2.1 dX0_undo_41 (by decide) ?_
    refine p_copy (L' := [_, _, _]) hC hK hM hl.1 q411 1 rfl 6 rfl (aAt.own (hM.at 2 rfl) (k := 6) rfl rfl) rfl (np := 0) (nd := 0) (nn := 6) rfl rfl rfl (by decide) (by decide) (by decide) (by decide) (Nat.le_of_ble_eq_true rfl) (Nat.le_of_ble_eq_true rfl) dX0_undo_43 (rar_set _ (k := 6) (by decide) _) rfl (fun H locs hM => ?_)
    refine lv_aload_n hC.1 hC.2.1 dX0_undo_46 rfl (lv_at hl 0 rfl) ?_
    refine p_get hC hK hM 0 rfl in_X0 rfl 4 (by decide) q223 (fun x h => h) rfl dX0_undo_47 ?_
    refine lv_aload_n hC.1 hC.2.1 dX0_undo_50 rfl (lv_at hl 0 rfl) ?_
    refine p_get hC hK hM 0 rfl in_X0 rfl 6 (by decide) q225 (fun x h => h) rfl dX0_undo_51 ?_
    refine lv_aload_n hC.1 hC.2.1 dX0_undo_54 rfl (lv_at hl 0 rfl) ?_
    refine p_get hC hK hM 0 rfl in_X0 rfl 7 (by decide) q226 (fun x h => h) rfl dX0_undo_55 ?_
    rw [upd_s]
    refine p_aald hC hK hM 0 rfl 6 rfl rfl rfl (n := b) (by first | rfl | (simp only [← nI_add, ← pk_mul]; rfl)) (by first | decide | (show _ < 24; omega)) (by decide) dX0_undo_58 ?_
    rw [hg]
    refine p_get hC hK hM 2 rfl in_X1 rfl 9 (by decide) q170 (fun x h => h) rfl dX0_undo_59 ?_
    refine p_put (L' := [_, _, _]) hC hK hM 1 rfl in_X1 tyX1 tyX1_ok nmX1 rfl 9 (by decide) q170 (fun x h => h) rfl rfl rfl (Nat.le_of_ble_eq_true rfl) rfl rfl rfl dX0_undo_62 (fun H locs hM => ?_)
    have hM := hM.rd (L' := [_, _, _]) 1 (wput rw 6 (pw 6)) rfl (fun k hk => by rcases rln_cases hk with rfl | rfl | rfl | rfl | rfl <;> first | exact agr.rf | exact va_cpy_agr _ _ 6) rfl
    refine lv_aload_n hC.1 hC.2.1 dX0_undo_65 rfl (lv_at hl 0 rfl) ?_
    refine p_get hC hK hM 0 rfl in_X0 rfl 7 (by decide) q226 (fun x h => h) rfl dX0_undo_66 ?_
    rw [upd_s]
    skip
    refine p_iret hC hr hlocks hM dX0_undo_69 ?_
    refine ⟨rfl, ?_⟩
    rw [oups, oups, oups, oups, oup_same hP]
  ·
    skip
    exact absurd c1 (nI_ne0 (by omega) (by omega))

set_option maxHeartbeats 400000 in
set_option maxRecDepth 100000 in
theorem cn_undo0 (l : Launch) (κ : Nat → Nat) (O : gO) (no : Nat) (cv : Nat → Int32) (ad : Nat → Nat) (g : Nat → Nat → Option Nat) (cw : Nat → Nat → Int32) (hN : O no = some (nsU cv ad g cw)) (ea : cv 7 = 0) : oM l κ yX0_undo cX0_undo 1 (some .int) ({ frames := 0, cells := 0, slots := 0, locals := 0 }) [.ref no] O (fun rv O1 => rv = some (.int (-1000002)) ∧ O1 = O) := by
  intro D ac A
  refine o_body (own := RX0) rfl (plainFor_of_name (by decide)) (Nat.le_of_ble_eq_true rfl) ?_
  intro p e s m args below meth c ls hC hr hlocks hK hM hl hnamed hmeth
  have hl : lv_has ls 1 [(0, .ref no)] := hl
  have hM := PS.of hM [(no, nsU cv ad g cw)] ⟨hN, trivial⟩ (by simp [oad])
  refine lv_aload_n hC.1 hC.2.1 dX0_undo_0 rfl (lv_at hl 0 rfl) ?_
  refine p_get hC hK hM 0 rfl in_X0 rfl 7 (by decide) q226 (fun x h => h) rfl dX0_undo_1 ?_
  rw [ea]
  refine lv_if_ne (tgt := 10) hC.1 hC.2.1 dX0_undo_4 (by decide) (fun c1 => ?_) (fun c1 => ?_)
  ·
    skip
    exact absurd rfl c1
  ·
    skip
    refine lv_ldc hC.1 hC.2.1 hC.2.2.2.1 (hC.2.2.2.2 _ q885) dX0_undo_7 ?_
    skip
    refine p_iret hC hr hlocks hM dX0_undo_9 ?_
    exact ⟨rfl, oup_same hN⟩

set_option maxHeartbeats 400000 in
set_option maxRecDepth 100000 in
theorem cn_feed (l : Launch) (κ : Nat → Nat) (O : gO) (no : Nat) (cv : Nat → Int32) (ad : Nat → Nat) (g : Nat → Nat → Option Nat) (cw : Nat → Nat → Int32) (x : Int64) (y : Int32) (T0 : Nat) (hN : O no = some (nsU cv ad g cw)) (eT : cv 2 = nI T0) (hT : T0 ≤ 400) : oM l κ yX0_feed cX0_feed 5 (some .int) ({ frames := 1, cells := 0, slots := 0, locals := 25 }) [.ref no, .long x, .int y] O (fun rv O1 => (¬ (1 ≤ y ∧ y ≤ 8) → rv = some (.int (-1000001)) ∧ O1 = O) ∧ ((1 ≤ y ∧ y ≤ 8) → ¬ nI T0 + y ≤ 400 → rv = some (.int (-1000003)) ∧ O1 = O) ∧ ((1 ≤ y ∧ y ≤ 8) → nI T0 + y ≤ 400 → rv = some (.int (nI T0 + y)) ∧ O1 = oup O no (nsU (upd cv 2 (nI T0 + y)) ad g (wput cw 1 (fdC (cw 1) T0 (iN y) x (iN y)))))) := by
  intro D ac A
  refine o_body (own := RX0) rfl (plainFor_of_name (by decide)) (Nat.le_of_ble_eq_true rfl) ?_
  intro p e s m args below meth c ls hC hr hlocks hK hM hl hnamed hmeth
  have hl : lv_has ls 5 [(0, .ref no), (1, .long x), (3, .int y)] := hl
  have hM := PS.of hM [(no, nsU cv ad g cw)] ⟨hN, trivial⟩ (by simp [oad])
  refine lv_iload_n hC.1 hC.2.1 dX0_feed_0 rfl (lv_at hl 2 rfl) ?_
  refine lv_i2l hC.1 hC.2.1 dX0_feed_1 rfl ?_
  refine lv_lconst (v := 1) hC.1 hC.2.1 dX0_feed_2 (by decide) ?_
  refine lv_ldc2 hC.1 hC.2.1 hC.2.2.2.1 (hC.2.2.2.2 _ q422) dX0_feed_3 ?_
  refine s_ci hC ((cc_isIn l (a := 1) (b := 8) rfl rfl rfl)) (va_cwS 3 hC.2.2.2.2 (lw_S q265 q266 q63 q267) rfl rfl rfl (by decide +kernel) ⟨(Nat.le_of_ble_eq_true rfl), (Nat.le_of_ble_eq_true rfl)⟩) rfl hl.1 rfl (lv_room (Nat.le_of_ble_eq_true rfl)) dX0_feed_6 ⟨(Nat.le_of_ble_eq_true rfl), (Nat.le_of_ble_eq_true rfl)⟩ ?_
  refine lv_if_ne (tgt := 15) hC.1 hC.2.1 dX0_feed_9 (by decide) (fun c1 => ?_) (fun c1 => ?_)
  ·
    skip
    rw [bI_n0] at c1
    have cy := c1
    obtain ⟨N, hN8, rfl⟩ := in_nI (a := 0) (N := 8) rfl rfl (show 0 ≤ y ∧ y ≤ 8 from ⟨Int32.le_trans (by decide) c1.1, c1.2⟩)
    have iNN : iN (nI N) = N := iN_nI (by omega)
    have hN1 : 1 ≤ N := nle_t (a := 1) (b := N) c1.1
    refine lv_aload_n hC.1 hC.2.1 dX0_feed_15 rfl (lv_at hl 0 rfl) ?_
    refine p_get hC hK hM 0 rfl in_X0 rfl 2 (by decide) q221 (fun x h => h) rfl dX0_feed_16 ?_
    rw [eT]
    refine lv_iload_n hC.1 hC.2.1 dX0_feed_19 rfl (lv_at hl 2 rfl) ?_
    refine lv_iadd hC.1 hC.2.1 dX0_feed_20 ?_
    refine lv_sipush (v := 400) hC.1 hC.2.1 dX0_feed_21 (by decide) ?_
    refine lv_icmp_le (tgt := 30) hC.1 hC.2.1 dX0_feed_24 (by decide) (fun c2 => ?_) (fun c2 => ?_)
    ·
      have nc2 := Int32.not_lt.mpr c2
      have ct := c2
      rw [nI_add] at c2
      have hx24 := nle_t (a := T0 + N) (b := 400) c2
      refine lv_iload_n hC.1 hC.2.1 dX0_feed_30 rfl (lv_at hl 2 rfl) ?_
      refine lv_iconst (v := 1) hC.1 hC.2.1 dX0_feed_31 (by decide) ?_
      refine lv_isub hC.1 hC.2.1 dX0_feed_32 ?_
      refine lv_istore (lv' := [(4, _), (0, _), (1, _), (3, _)]) hC.1 hC.2.1 dX0_feed_33 hl (by decide) rfl (fun ls hl => ?_)
      refine w_ind (α := Nat) 35 (fun (t : Nat) => t) (fun (t : Nat) (H : Heap) (locs : List Loc) (ls : Array Slot) => (t ≤ N) ∧ PS D ac A s.heap O [(no, nsU (upd cv 2 (nI (T0 + (N - t)))) ad g (wput cw 1 (fdC (cw 1) T0 N x (N - t))))] H locs ∧ lv_has ls 5 [(0, .ref no), (1, .long x), (3, .int (nI N)), (4, .int (nI t - 1))]) ?_ (N) ⟨Nat.le_refl N, by rw [Nat.sub_self, fdC_0, wput_self, Nat.add_zero, ← eT, upd_self]; exact hM, lv_sub hl [1, 2, 3, 0] rfl⟩
      intro t H locs ls hI ih35
      obtain ⟨hI35, hM, hl⟩ := hI
      refine lv_iload hC.1 hC.2.1 dX0_feed_35 (lv_at hl 3 rfl) ?_
      refine lv_if_lt (tgt := 71) hC.1 hC.2.1 dX0_feed_37 (by decide) (fun c3 => ?_) (fun c3 => ?_)
      ·
        have nc3 := Int32.not_le.mpr c3
        have c0 := (nI_m1 (by omega)).mp c3
        subst c0
        refine lv_aload_n hC.1 hC.2.1 dX0_feed_71 rfl (lv_at hl 0 rfl) ?_
        refine p_get hC hK hM 0 rfl in_X0 rfl 2 (by decide) q221 (fun x h => h) rfl dX0_feed_72 ?_
        rw [upd_s]
        skip
        refine p_iret hC hr hlocks hM dX0_feed_75 ?_
        refine ⟨fun h => absurd cy h, fun _ h => absurd ct h, fun _ _ => ?_⟩
        rw [iNN, nI_add, Nat.sub_zero]
        exact ⟨rfl, rfl⟩
      ·
        have nc3 := Int32.not_lt.mp c3
        obtain ⟨u, rfl⟩ : ∃ u, t = u + 1 := ⟨t - 1, by
          rcases Nat.eq_zero_or_pos t with h | h
          · exact absurd ((nI_m1 (by omega)).mpr h) c3
          · omega⟩
        rw [nI_pred] at hl
        refine lv_aload_n hC.1 hC.2.1 dX0_feed_40 rfl (lv_at hl 0 rfl) ?_
        refine p_get hC hK hM 0 rfl in_X0 rfl 1 (by decide) q220 (fun x h => h) rfl dX0_feed_41 ?_
        refine lv_aload_n hC.1 hC.2.1 dX0_feed_44 rfl (lv_at hl 0 rfl) ?_
        refine lv_dup hC.1 hC.2.1 dX0_feed_45 rfl ?_
        refine p_get hC hK hM 0 rfl in_X0 rfl 2 (by decide) q221 (fun x h => h) rfl dX0_feed_46 ?_
        rw [upd_s]
        refine lv_dup_x1 hC.1 hC.2.1 dX0_feed_49 rfl rfl ?_
        refine lv_iconst (v := 1) hC.1 hC.2.1 dX0_feed_50 (by decide) ?_
        refine lv_iadd hC.1 hC.2.1 dX0_feed_51 ?_
        rw [nI_1]
        refine p_put (L' := [_]) hC hK hM 0 rfl in_X0 tyX0 tyX0_ok nmX0 rfl 2 (by decide) q221 (fun x h => h) rfl rfl rfl (Nat.le_of_ble_eq_true rfl) rfl rfl rfl dX0_feed_52 (fun H locs hM => ?_)
        refine lv_lload_n hC.1 hC.2.1 dX0_feed_55 rfl (lv_at hl 1 rfl) ?_
        refine lv_bipush (v := 8) hC.1 hC.2.1 dX0_feed_56 (by decide) ?_
        refine lv_iload hC.1 hC.2.1 dX0_feed_58 (lv_at hl 3 rfl) ?_
        refine lv_imul hC.1 hC.2.1 dX0_feed_60 ?_
        refine lv_lshr hC.1 hC.2.1 dX0_feed_61 rfl ?_
        refine lv_l2i hC.1 hC.2.1 dX0_feed_62 rfl ?_
        refine lv_i2b hC.1 hC.2.1 dX0_feed_63 rfl ?_
        refine p_bast (L' := [_]) hC hK hM 0 rfl 1 rfl rfl (n := (T0 + (N - (u + 1)))) (by first | rfl | (simp only [← nI_add, ← pk_mul]; rfl)) (by first | decide | (show _ < 400; omega)) (by decide) (nar_1 _ _ _) rfl dX0_feed_64 (fun H locs hM => ?_)
        refine lv_iinc (lv' := [(4, _), (0, _), (1, _), (3, _)]) hC.1 hC.2.1 dX0_feed_65 hl (k := 3) rfl rfl (by decide) rfl (fun ls hl => ?_)
        refine lv_goto (tgt := 35) hC.1 hC.2.1 dX0_feed_68 (by decide) ?_
        rw [dec1] at hl
        have e1 : upd (fdC (cw 1) T0 N x (N - (u + 1))) (T0 + (N - (u + 1))) (btC x u) = fdC (cw 1) T0 N x (N - u) := by rw [fdC_s (by omega), show N - (u + 1) + 1 = N - u by omega]
        exact ih35 (u) _ _ _ (by omega) ⟨by omega, by have h2 := hM; rw [wput_wput, upd_upd, show T0 + (N - (u + 1)) + 1 = T0 + (N - u) by omega] at h2; rw [← e1]; exact h2, lv_sub hl [1, 2, 3, 0] rfl⟩
    ·
      have nc2 := Int32.not_le.mp c2
      have ct := c2
      refine lv_ldc hC.1 hC.2.1 hC.2.2.2.1 (hC.2.2.2.2 _ q423) dX0_feed_27 ?_
      skip
      refine p_iret hC hr hlocks hM dX0_feed_29 ?_
      exact ⟨fun h => absurd cy h, fun _ _ => ⟨rfl, oup_same hN⟩, fun _ h => absurd h ct⟩
  ·
    skip
    rw [bI_0] at c1
    have cy := c1
    refine lv_ldc hC.1 hC.2.1 hC.2.2.2.1 (hC.2.2.2.2 _ q269) dX0_feed_12 ?_
    skip
    refine p_iret hC hr hlocks hM dX0_feed_14 ?_
    exact ⟨fun _ => ⟨rfl, oup_same hN⟩, fun h => absurd h cy, fun h => absurd h cy⟩
