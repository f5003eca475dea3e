set_option maxHeartbeats 400000 in
set_option maxRecDepth 100000 in
theorem cl_must (l : Launch) (κ : Nat → Nat) (O : gO) (a : Nat) (v : Nat → Int32) (rd : Nat → Nat) (b x : Int32) (hO : O a = some (rrU v rd)) (hb : ¬ b = 0) : oM l κ yX6_must cX6_must 3 none ({ frames := 0, cells := 0, slots := 0, locals := 0 }) [.ref a, .int b, .int x] O (fun rv O1 => O1 = O ∧ rv = none) := by
  intro D ac A
  refine o_body (own := RX6) rfl (plainFor_of_name (by decide)) (Nat.le_of_ble_eq_true rfl) ?_
  intro p e s m args below meth c ls hC hr hlocks hK hM hl hnamed hmeth
  have hl : lv_has ls 3 [(0, .ref a), (1, .int b), (2, .int x)] := hl
  have hM := PS.of hM [(a, rrU v rd)] ⟨hO, trivial⟩ (by simp [oad])
  refine lv_iload_n hC.1 hC.2.1 dX6_must_0 rfl (lv_at hl 1 rfl) ?_
  refine lv_if_ne (tgt := 17) hC.1 hC.2.1 dX6_must_1 (by decide) (fun c1 => ?_) (fun c1 => ?_)
  ·
    skip
    skip
    refine p_vret hC hr hlocks hM dX6_must_17 ?_
    exact ⟨oup_same hO, rfl⟩
  ·
    skip
    exact absurd c1 hb

set_option maxHeartbeats 400000 in
set_option maxRecDepth 100000 in
theorem cl_mustT (l : Launch) (κ : Nat → Nat) (O : gO) (a : Nat) (v : Nat → Int32) (rd : Nat → Nat) (x : Int32) (hO : O a = some (rrU v rd)) : oT l κ yX6_must cX6_must 3 none ({ frames := 4, cells := 1, slots := 8, locals := 82 }) [.ref a, .int 0, .int x] O (fun z O1 => O z = none ∧ O1 = oup O z (ftU x (v 4))) := by
  intro D ac A
  refine o_bodyT (own := RX6) rfl (by decide) (Nat.le_of_ble_eq_true rfl) ?_
  intro p e s m args below meth c ls hC hem hlocks hK hM hl
  have hl : lv_has ls 3 [(0, .ref a), (1, .int 0), (2, .int x)] := hl
  have hM := PS.of hM [(a, rrU v rd)] ⟨hO, trivial⟩ (by simp [oad])
  refine lv_iload_n hC.1 hC.2.1 dX6_must_0 rfl (lv_at hl 1 rfl) ?_
  refine lv_if_ne (tgt := 17) hC.1 hC.2.1 dX6_must_1 (by decide) (fun c1 => ?_) (fun c1 => ?_)
  ·
    skip
    exact absurd rfl c1
  ·
    skip
    refine p_new (L' := fun q => [_, _]) hC hK hM (ci := 7) in_X7 tyX7 tyX7_ok q679 q680 q88 rfl (fs := [.null, .null, .null, .null, .null, .int 0, .int 0, .int 0]) (by decide) (Nat.le_of_ble_eq_true rfl) (Nat.le_of_ble_eq_true rfl) dX6_must_4 (fun q => rfl) (fun q_2 H hq_2 hM => ?_)
    refine lv_dup hC.1 hC.2.1 dX6_must_7 rfl ?_
    refine lv_iload_n hC.1 hC.2.1 dX6_must_8 rfl (lv_at hl 2 rfl) ?_
    refine lv_aload_n hC.1 hC.2.1 dX6_must_9 rfl (lv_at hl 0 rfl) ?_
    refine p_get hC hK hM 0 rfl in_X6 rfl 4 (by decide) q442 (fun x h => h) rfl dX6_must_10 ?_
    refine p_cIv (L' := [_, _]) hC hK hM (cx_ft l κ _ q_2 x (v 4) (hM.at 1 rfl)) (cwI 2 hC.2.2.2.2 (lw_meth q690) rfl rfl rfl (hC.2.2.2.2 _ q88) (hC.2.2.2.2 _ q688) (hC.2.2.2.2 _ q689) rfl (by decide +kernel) ⟨(Nat.le_of_ble_eq_true rfl), (Nat.le_of_ble_eq_true rfl)⟩) rfl hl.1 rfl (lv_room (Nat.le_of_ble_eq_true rfl)) dX6_must_13 ⟨(Nat.le_of_ble_eq_true rfl), (Nat.le_of_ble_eq_true rfl)⟩ (oups_set hM.2 (i := 1) rfl) (oad_nd hM.2 (i := 1) rfl rfl) (fun H locs hM => ?_)
    refine W.widen (k := 1) (n := 8) (Nat.le_of_ble_eq_true rfl) (Nat.le_of_ble_eq_true rfl) ?_
    refine p_thr hC hem hlocks hM dX6_must_16 ?_
    refine ⟨hq_2, ?_⟩
    rw [oups, oups, oups, oup_comm (a := q_2) (b := a) (fun e => by rw [e, hO] at hq_2; cases hq_2), oup_same hO]

set_option maxHeartbeats 400000 in
set_option maxRecDepth 100000 in
theorem cl_isWord (l : Launch) (κ : Nat → Nat) (O : gO) (a : Nat) (v : Nat → Int32) (rd : Nat → Nat) (t0 md : Nat) (tp : Nat → Int32) (L : Nat) (u : Nat → Int32) (i : Nat) (hR : RT O a t0 md tp L u v rd) (hi : i < 9) : oM l κ yX6_isWord cX6_isWord 2 (some .boolean) ({ frames := 2, cells := 0, slots := 0, locals := 44 }) [.ref a, .ref (κ (10 + i))] O (fun rv O1 => rv = some (.int (bI (isW tp u i))) ∧ O1 = O) := by
  intro D ac A
  refine o_body (own := RX6) rfl (plainFor_of_name (by decide)) (Nat.le_of_ble_eq_true rfl) ?_
  intro p e s m args below meth c ls hC hr hlocks hK hM hl hnamed hmeth
  have hl : lv_has ls 2 [(0, .ref a), (1, .ref (κ (10 + i)))] := hl
  have hM := PS.of hM [(a, rrU v rd)] ⟨hR.1, trivial⟩ (by simp [oad])
  refine lv_aload_n hC.1 hC.2.1 dX6_isWord_0 rfl (lv_at hl 0 rfl) ?_
  refine p_get hC hK hM 0 rfl in_X6 rfl 3 (by decide) q441 (fun x h => h) rfl dX6_isWord_1 ?_
  refine lv_iconst (v := 1) hC.1 hC.2.1 dX6_isWord_4 (by decide) ?_
  refine lv_icmp_ne (tgt := 23) hC.1 hC.2.1 dX6_isWord_5 (by decide) (fun c1 => ?_) (fun c1 => ?_)
  ·
    skip
    have c2 : ¬ u 14 = 2 := fun h => c1 (hR.tok.2.1.mpr h)
    refine lv_iconst (v := 0) hC.1 hC.2.1 dX6_isWord_23 (by decide) ?_
    skip
    refine p_zret hC hr hlocks hM (by first | exact bI_01 _ | exact Or.inl rfl | exact Or.inr rfl) dX6_isWord_24 ?_
    exact ⟨by rw [bI_f (fun h => c2 h.1)], oup_same hR.1⟩
  ·
    skip
    have c2 : u 14 = 2 := hR.tok.2.1.mp c1
    obtain ⟨r, g, hS, hn4, hiff⟩ := hR.str c2
    refine lv_aload_n hC.1 hC.2.1 dX6_isWord_8 rfl (lv_at hl 0 rfl) ?_
    refine p_get hC hK hM 0 rfl in_X6 rfl 6 (by decide) q444 (fun x h => h) rfl dX6_isWord_9 ?_
    refine lv_aload_n hC.1 hC.2.1 dX6_isWord_12 rfl (lv_at hl 1 rfl) ?_
    refine p_cVe (L' := [_]) hC hK hM (show oups O [(a, rrU v rd)] (rd 6) = some (strU r (iN (u 16) - iN (u 15)) g) from by rw [oups, oups, oup_same hR.1]; exact hS) rfl (cs_eq l κ _ (rd 6) r (iN (u 16) - iN (u 15)) g i (show oups O [(a, rrU v rd)] (rd 6) = some (strU r (iN (u 16) - iN (u 15)) g) from by rw [oups, oups, oup_same hR.1]; exact hS) hn4 hi) (cwV 1 hC.2.2.2.2 (lw_V q667 q668 q669 q77 q670) rfl rfl rfl (by decide +kernel) ⟨(Nat.le_of_ble_eq_true rfl), (Nat.le_of_ble_eq_true rfl)⟩) rfl hl.1 rfl (lv_room (Nat.le_of_ble_eq_true rfl)) dX6_isWord_13 ⟨(Nat.le_of_ble_eq_true rfl), (Nat.le_of_ble_eq_true rfl)⟩ rfl hM.2 (fun H locs hM => ?_)
    refine lv_if_eq (tgt := 23) hC.1 hC.2.1 dX6_isWord_16 (by decide) (fun c2 => ?_) (fun c2 => ?_)
    ·
      skip
      rw [bI_0] at c2
      have ce := c2
      refine lv_iconst (v := 0) hC.1 hC.2.1 dX6_isWord_23 (by decide) ?_
      skip
      refine p_zret hC hr hlocks hM (by first | exact bI_01 _ | exact Or.inl rfl | exact Or.inr rfl) dX6_isWord_24 ?_
      exact ⟨by rw [bI_f (fun h => ce ((hiff i).mpr h))], oup_same hR.1⟩
    ·
      skip
      rw [bI_n0] at c2
      have ce := c2
      refine lv_iconst (v := 1) hC.1 hC.2.1 dX6_isWord_19 (by decide) ?_
      refine lv_goto (tgt := 24) hC.1 hC.2.1 dX6_isWord_20 (by decide) ?_
      skip
      refine p_zret hC hr hlocks hM (by first | exact bI_01 _ | exact Or.inl rfl | exact Or.inr rfl) dX6_isWord_24 ?_
      exact ⟨by rw [bI_t ((hiff i).mp ce)], oup_same hR.1⟩

set_option maxHeartbeats 400000 in
set_option maxRecDepth 100000 in
theorem cl_figure (l : Launch) (κ : Nat → Nat) (O : gO) (a : Nat) (v : Nat → Int32) (rd : Nat → Nat) (no : Nat) (cv : Nat → Int32) (nd : Nat → Nat) (g : Nat → Nat → Option Nat) (cw : Nat → Nat → Int32) (md : Nat) (tp : Nat → Int32) (L : Nat) (u : Nat → Int32) (lo hi : Int32) (hR : RT O a (nd 1) md tp L u v rd) (hN : O no = some (nsU cv nd g cw)) (htp : ∀ j, j < L → cw 1 j &&& 255 = tp j) (ht : tpOk tp L) (h3 : u 14 = 3) (hin : lo ≤ figV tp u ∧ figV tp u ≤ hi) : oM l κ yX6_figure cX6_figure 4 (some .int) ({ frames := 7, cells := 9, slots := 1530, locals := 173 }) [.ref a, .int lo, .int hi] O (fun rv O1 => rv = some (.int (figV tp u)) ∧ (kpA O O1 a ∧ ∃ v1 rd1, RT O1 a (nd 1) md tp L (nxV tp L u) v1 rd1)) := by
  intro D ac A
  refine o_body (own := RX6) rfl (plainFor_of_name (by decide)) (Nat.le_of_ble_eq_true rfl) ?_
  intro p e s m args below meth c ls hC hr hlocks hK hM hl hnamed hmeth
  have hl : lv_has ls 4 [(0, .ref a), (1, .int lo), (2, .int hi)] := hl
  have hM := PS.of hM [(a, rrU v rd), (no, nsU cv nd g cw)] ⟨hR.1, hN, trivial⟩ (by simp only [oad, List.map, List.nodup_cons, List.mem_singleton, List.not_mem_nil, not_false_eq_true, List.nodup_nil, and_true]; exact o_ne hR.1 hN (by decide))
  refine lv_aload_n hC.1 hC.2.1 dX6_figure_0 rfl (lv_at hl 0 rfl) ?_
  refine lv_aload_n hC.1 hC.2.1 dX6_figure_1 rfl (lv_at hl 0 rfl) ?_
  refine p_get hC hK hM 0 rfl in_X6 rfl 3 (by decide) q441 (fun x h => h) rfl dX6_figure_2 ?_
  refine lv_iconst (v := 2) hC.1 hC.2.1 dX6_figure_5 (by decide) ?_
  refine lv_icmp_ne (tgt := 13) hC.1 hC.2.1 dX6_figure_6 (by decide) (fun c1 => ?_) (fun c1 => ?_)
  ·
    skip
    exact absurd (hR.tok.1.mpr h3) c1
  ·
    skip
    refine lv_iconst (v := 1) hC.1 hC.2.1 dX6_figure_9 (by decide) ?_
    refine lv_goto (tgt := 14) hC.1 hC.2.1 dX6_figure_10 (by decide) ?_
    refine lv_iconst (v := 1) hC.1 hC.2.1 dX6_figure_14 (by decide) ?_
    refine p_cVv (L' := [_, _]) hC hK hM (hM.at 0 rfl) rfl (cl_must l κ _ a v rd 1 1 (hM.at 0 rfl) (by decide)) (cwV 2 hC.2.2.2.2 (lw_V q675 q677 qs7 q79 q678) rfl rfl rfl (by decide +kernel) ⟨(Nat.le_of_ble_eq_true rfl), (Nat.le_of_ble_eq_true rfl)⟩) rfl hl.1 rfl (lv_room (Nat.le_of_ble_eq_true rfl)) dX6_figure_15 ⟨(Nat.le_of_ble_eq_true rfl), (Nat.le_of_ble_eq_true rfl)⟩ rfl hM.2 (fun H locs hM => ?_)
    refine lv_aload_n hC.1 hC.2.1 dX6_figure_18 rfl (lv_at hl 0 rfl) ?_
    refine lv_aload_n hC.1 hC.2.1 dX6_figure_19 rfl (lv_at hl 0 rfl) ?_
    refine p_get hC hK hM 0 rfl in_X6 rfl 5 (by decide) q443 (fun x h => h) rfl dX6_figure_20 ?_
    rw [hR.num h3]
    refine lv_i2l hC.1 hC.2.1 dX6_figure_23 rfl ?_
    refine lv_iload_n hC.1 hC.2.1 dX6_figure_24 rfl (lv_at hl 1 rfl) ?_
    refine lv_i2l hC.1 hC.2.1 dX6_figure_25 rfl ?_
    refine lv_iload_n hC.1 hC.2.1 dX6_figure_26 rfl (lv_at hl 2 rfl) ?_
    refine lv_i2l hC.1 hC.2.1 dX6_figure_27 rfl ?_
    refine s_cin hC ((cc_isIn l (a := lo) (b := hi) rfl rfl rfl)) ⟨va_cnB 3 hC.2.2.2.2 (lw_meth q267) rfl rfl rfl (hK.1.2.1 _ q479 rfl) (hC.2.2.2.2 _ q63) (by decide +kernel) ⟨(Nat.le_of_ble_eq_true rfl), (Nat.le_of_ble_eq_true rfl)⟩, hC.2.2.2.2 _ q266, trivial⟩ rfl hl.1 rfl (lv_room (Nat.le_of_ble_eq_true rfl)) dX6_figure_28 ⟨(Nat.le_of_ble_eq_true rfl), (Nat.le_of_ble_eq_true rfl)⟩ ?_
    rw [bI_t hin]
    refine lv_iconst (v := 2) hC.1 hC.2.1 dX6_figure_31 (by decide) ?_
    refine p_cVv (L' := [_, _]) hC hK hM (hM.at 0 rfl) rfl (cl_must l κ _ a v rd 1 2 (hM.at 0 rfl) (by decide)) (cwV 2 hC.2.2.2.2 (lw_V q675 q677 qs7 q79 q678) rfl rfl rfl (by decide +kernel) ⟨(Nat.le_of_ble_eq_true rfl), (Nat.le_of_ble_eq_true rfl)⟩) rfl hl.1 rfl (lv_room (Nat.le_of_ble_eq_true rfl)) dX6_figure_32 ⟨(Nat.le_of_ble_eq_true rfl), (Nat.le_of_ble_eq_true rfl)⟩ rfl hM.2 (fun H locs hM => ?_)
    refine lv_aload_n hC.1 hC.2.1 dX6_figure_35 rfl (lv_at hl 0 rfl) ?_
    refine p_get hC hK hM 0 rfl in_X6 rfl 5 (by decide) q443 (fun x h => h) rfl dX6_figure_36 ?_
    rw [hR.num h3]
    refine lv_istore_n (lv' := [(3, _), (0, _), (1, _), (2, _)]) hC.1 hC.2.1 dX6_figure_39 rfl hl (by decide) rfl (fun ls hl => ?_)
    refine lv_aload_n hC.1 hC.2.1 dX6_figure_40 rfl (lv_at hl 1 rfl) ?_
    refine o_cV hC hK hM.1 (hM.at 0 rfl) rfl (cl_next l κ _ a v rd no cv nd g cw tp L (iN (u 13)) (hM.at 0 rfl) (hM.at 1 rfl) hR.2.1 hR.2.2.2.1 hR.at.2.2.1 hR.at.1 hR.at.2.1 htp ht) (cwV 0 hC.2.2.2.2 (lw_V q468 q470 qs4 q79 q471) rfl rfl rfl (by decide +kernel) ⟨(Nat.le_of_ble_eq_true rfl), (Nat.le_of_ble_eq_true rfl)⟩) rfl hl.1 rfl (lv_room (Nat.le_of_ble_eq_true rfl)) dX6_figure_41 ⟨(Nat.le_of_ble_eq_true rfl), (Nat.le_of_ble_eq_true rfl)⟩ (fun rv O1 H locs hp hM1 => ?_)
    obtain ⟨rfl, hnx⟩ := hp
    rw [show oups O [(a, rrU v rd), (no, nsU cv nd g cw)] = O from by rw [oups, oups, oups, oup_same hN, oup_same hR.1]] at hnx
    have hM := PS.of hM1 [] trivial (by simp [oad])
    refine lv_iload_n hC.1 hC.2.1 dX6_figure_44 rfl (lv_at hl 0 rfl) ?_
    refine W.widen (k := 9) (n := 1530) (Nat.le_of_ble_eq_true rfl) (Nat.le_of_ble_eq_true rfl) ?_
    refine p_iret hC hr hlocks hM dX6_figure_45 ?_
    exact ⟨rfl, hnx.kp, hR.next hnx⟩

set_option maxHeartbeats 400000 in
set_option maxRecDepth 100000 in
theorem cl_figT1 (l : Launch) (κ : Nat → Nat) (O : gO) (a : Nat) (v : Nat → Int32) (rd : Nat → Nat) (no : Nat) (cv : Nat → Int32) (nd : Nat → Nat) (g : Nat → Nat → Option Nat) (cw : Nat → Nat → Int32) (md : Nat) (tp : Nat → Int32) (L : Nat) (u : Nat → Int32) (lo hi : Int32) (hR : RT O a (nd 1) md tp L u v rd) (hN : O no = some (nsU cv nd g cw)) (htp : ∀ j, j < L → cw 1 j &&& 255 = tp j) (ht : tpOk tp L) (h3 : ¬ u 14 = 3) : oT l κ yX6_figure cX6_figure 4 (some .int) ({ frames := 5, cells := 1, slots := 8, locals := 104 }) [.ref a, .int lo, .int hi] O (fun z O1 => O z = none ∧ O1 = oup O z (ftU 1 (u 15))) := by
  intro D ac A
  refine o_bodyT (own := RX6) rfl (by decide) (Nat.le_of_ble_eq_true rfl) ?_
  intro p e s m args below meth c ls hC hem hlocks hK hM hl
  have hl : lv_has ls 4 [(0, .ref a), (1, .int lo), (2, .int hi)] := hl
  have hM := PS.of hM [(a, rrU v rd), (no, nsU cv nd g cw)] ⟨hR.1, hN, trivial⟩ (by simp only [oad, List.map, List.nodup_cons, List.mem_singleton, List.not_mem_nil, not_false_eq_true, List.nodup_nil, and_true]; exact o_ne hR.1 hN (by decide))
  refine lv_aload_n hC.1 hC.2.1 dX6_figure_0 rfl (lv_at hl 0 rfl) ?_
  refine lv_aload_n hC.1 hC.2.1 dX6_figure_1 rfl (lv_at hl 0 rfl) ?_
  refine p_get hC hK hM 0 rfl in_X6 rfl 3 (by decide) q441 (fun x h => h) rfl dX6_figure_2 ?_
  refine lv_iconst (v := 2) hC.1 hC.2.1 dX6_figure_5 (by decide) ?_
  refine lv_icmp_ne (tgt := 13) hC.1 hC.2.1 dX6_figure_6 (by decide) (fun c1 => ?_) (fun c1 => ?_)
  ·
    skip
    refine lv_iconst (v := 0) hC.1 hC.2.1 dX6_figure_13 (by decide) ?_
    refine lv_iconst (v := 1) hC.1 hC.2.1 dX6_figure_14 (by decide) ?_
    refine W.widen (k := 0) (n := 0) (Nat.le_of_ble_eq_true rfl) (Nat.le_of_ble_eq_true rfl) ?_
    refine p_pass hem hlocks hM (runVT hC ((cl_mustT l κ _ a v rd 1 (hM.at 0 rfl)) D ac A) (cwV 2 hC.2.2.2.2 (lw_V q675 q677 qs7 q79 q678) rfl rfl rfl (by decide +kernel) ⟨(Nat.le_of_ble_eq_true rfl), (Nat.le_of_ble_eq_true rfl)⟩) ⟨oPre.blind, OS.recv hK hM.1 (hM.at 0 rfl) rfl, fun U hU hW => ⟨rfl, OS.pre hK hM.1 hU hW⟩⟩ rfl rfl hl.1 rfl (lv_room (Nat.le_of_ble_eq_true rfl)) dX6_figure_15 ⟨(Nat.le_of_ble_eq_true rfl), (Nat.le_of_ble_eq_true rfl)⟩) (fun x_ O1 hp => ?_)
    rw [show oups O [(a, rrU v rd), (no, nsU cv nd g cw)] = O from by rw [oups, oups, oups, oup_same hN, oup_same hR.1], hR.at.2.2.2] at hp
    exact hp
  ·
    skip
    exact absurd (hR.tok.1.mp c1) h3

set_option maxHeartbeats 400000 in
set_option maxRecDepth 100000 in
theorem cl_figT2 (l : Launch) (κ : Nat → Nat) (O : gO) (a : Nat) (v : Nat → Int32) (rd : Nat → Nat) (no : Nat) (cv : Nat → Int32) (nd : Nat → Nat) (g : Nat → Nat → Option Nat) (cw : Nat → Nat → Int32) (md : Nat) (tp : Nat → Int32) (L : Nat) (u : Nat → Int32) (lo hi : Int32) (hR : RT O a (nd 1) md tp L u v rd) (hN : O no = some (nsU cv nd g cw)) (htp : ∀ j, j < L → cw 1 j &&& 255 = tp j) (ht : tpOk tp L) (h3 : u 14 = 3) (hin : ¬ (lo ≤ figV tp u ∧ figV tp u ≤ hi)) : oT l κ yX6_figure cX6_figure 4 (some .int) ({ frames := 5, cells := 1, slots := 8, locals := 104 }) [.ref a, .int lo, .int hi] O (fun z O1 => O z = none ∧ O1 = oup O z (ftU 2 (u 15))) := by
  intro D ac A
  refine o_bodyT (own := RX6) rfl (by decide) (Nat.le_of_ble_eq_true rfl) ?_
  intro p e s m args below meth c ls hC hem hlocks hK hM hl
  have hl : lv_has ls 4 [(0, .ref a), (1, .int lo), (2, .int hi)] := hl
  have hM := PS.of hM [(a, rrU v rd), (no, nsU cv nd g cw)] ⟨hR.1, hN, trivial⟩ (by simp only [oad, List.map, List.nodup_cons, List.mem_singleton, List.not_mem_nil, not_false_eq_true, List.nodup_nil, and_true]; exact o_ne hR.1 hN (by decide))
  refine lv_aload_n hC.1 hC.2.1 dX6_figure_0 rfl (lv_at hl 0 rfl) ?_
  refine lv_aload_n hC.1 hC.2.1 dX6_figure_1 rfl (lv_at hl 0 rfl) ?_
  refine p_get hC hK hM 0 rfl in_X6 rfl 3 (by decide) q441 (fun x h => h) rfl dX6_figure_2 ?_
  refine lv_iconst (v := 2) hC.1 hC.2.1 dX6_figure_5 (by decide) ?_
  refine lv_icmp_ne (tgt := 13) hC.1 hC.2.1 dX6_figure_6 (by decide) (fun c1 => ?_) (fun c1 => ?_)
  ·
    skip
    exact absurd (hR.tok.1.mpr h3) c1
  ·
    skip
    refine lv_iconst (v := 1) hC.1 hC.2.1 dX6_figure_9 (by decide) ?_
    refine lv_goto (tgt := 14) hC.1 hC.2.1 dX6_figure_10 (by decide) ?_
    refine lv_iconst (v := 1) hC.1 hC.2.1 dX6_figure_14 (by decide) ?_
    refine p_cVv (L' := [_, _]) hC hK hM (hM.at 0 rfl) rfl (cl_must l κ _ a v rd 1 1 (hM.at 0 rfl) (by decide)) (cwV 2 hC.2.2.2.2 (lw_V q675 q677 qs7 q79 q678) rfl rfl rfl (by decide +kernel) ⟨(Nat.le_of_ble_eq_true rfl), (Nat.le_of_ble_eq_true rfl)⟩) rfl hl.1 rfl (lv_room (Nat.le_of_ble_eq_true rfl)) dX6_figure_15 ⟨(Nat.le_of_ble_eq_true rfl), (Nat.le_of_ble_eq_true rfl)⟩ rfl hM.2 (fun H locs hM => ?_)
    refine lv_aload_n hC.1 hC.2.1 dX6_figure_18 rfl (lv_at hl 0 rfl) ?_
    refine lv_aload_n hC.1 hC.2.1 dX6_figure_19 rfl (lv_at hl 0 rfl) ?_
    refine p_get hC hK hM 0 rfl in_X6 rfl 5 (by decide) q443 (fun x h => h) rfl dX6_figure_20 ?_
    rw [hR.num h3]
    refine lv_i2l hC.1 hC.2.1 dX6_figure_23 rfl ?_
    refine lv_iload_n hC.1 hC.2.1 dX6_figure_24 rfl (lv_at hl 1 rfl) ?_
    refine lv_i2l hC.1 hC.2.1 dX6_figure_25 rfl ?_
    refine lv_iload_n hC.1 hC.2.1 dX6_figure_26 rfl (lv_at hl 2 rfl) ?_
    refine lv_i2l hC.1 hC.2.1 dX6_figure_27 rfl ?_
    refine s_cin hC ((cc_isIn l (a := lo) (b := hi) rfl rfl rfl)) ⟨va_cnB 3 hC.2.2.2.2 (lw_meth q267) rfl rfl rfl (hK.1.2.1 _ q479 rfl) (hC.2.2.2.2 _ q63) (by decide +kernel) ⟨(Nat.le_of_ble_eq_true rfl), (Nat.le_of_ble_eq_true rfl)⟩, hC.2.2.2.2 _ q266, trivial⟩ rfl hl.1 rfl (lv_room (Nat.le_of_ble_eq_true rfl)) dX6_figure_28 ⟨(Nat.le_of_ble_eq_true rfl), (Nat.le_of_ble_eq_true rfl)⟩ ?_
    rw [bI_f hin]
    refine lv_iconst (v := 2) hC.1 hC.2.1 dX6_figure_31 (by decide) ?_
    refine W.widen (k := 0) (n := 0) (Nat.le_of_ble_eq_true rfl) (Nat.le_of_ble_eq_true rfl) ?_
    refine p_pass hem hlocks hM (runVT hC ((cl_mustT l κ _ a v rd 2 (hM.at 0 rfl)) D ac A) (cwV 2 hC.2.2.2.2 (lw_V q675 q677 qs7 q79 q678) rfl rfl rfl (by decide +kernel) ⟨(Nat.le_of_ble_eq_true rfl), (Nat.le_of_ble_eq_true rfl)⟩) ⟨oPre.blind, OS.recv hK hM.1 (hM.at 0 rfl) rfl, fun U hU hW => ⟨rfl, OS.pre hK hM.1 hU hW⟩⟩ rfl rfl hl.1 rfl (lv_room (Nat.le_of_ble_eq_true rfl)) dX6_figure_32 ⟨(Nat.le_of_ble_eq_true rfl), (Nat.le_of_ble_eq_true rfl)⟩) (fun x_ O1 hp => ?_)
    rw [show oups O [(a, rrU v rd), (no, nsU cv nd g cw)] = O from by rw [oups, oups, oups, oup_same hN, oup_same hR.1], hR.at.2.2.2] at hp
    exact hp

set_option maxHeartbeats 400000 in
set_option maxRecDepth 100000 in
theorem cl_sign (l : Launch) (κ : Nat → Nat) (O : gO) (a : Nat) (v : Nat → Int32) (rd : Nat → Nat) (no : Nat) (cv : Nat → Int32) (nd : Nat → Nat) (g : Nat → Nat → Option Nat) (cw : Nat → Nat → Int32) (md : Nat) (tp : Nat → Int32) (L : Nat) (u : Nat → Int32) (hR : RT O a (nd 1) md tp L u v rd) (hN : O no = some (nsU cv nd g cw)) (htp : ∀ j, j < L → cw 1 j &&& 255 = tp j) (ht : tpOk tp L) (h3 : u 14 = 4) : oM l κ yX6_sign cX6_sign 1 none ({ frames := 7, cells := 9, slots := 1530, locals := 173 }) [.ref a] O (fun rv O1 => rv = none ∧ (kpA O O1 a ∧ ∃ v1 rd1, RT O1 a (nd 1) md tp L (nxV tp L u) v1 rd1)) := by
  intro D ac A
  refine o_body (own := RX6) rfl (plainFor_of_name (by decide)) (Nat.le_of_ble_eq_true rfl) ?_
  intro p e s m args below meth c ls hC hr hlocks hK hM hl hnamed hmeth
  have hl : lv_has ls 1 [(0, .ref a)] := hl
  have hM := PS.of hM [(a, rrU v rd), (no, nsU cv nd g cw)] ⟨hR.1, hN, trivial⟩ (by simp only [oad, List.map, List.nodup_cons, List.mem_singleton, List.not_mem_nil, not_false_eq_true, List.nodup_nil, and_true]; exact o_ne hR.1 hN (by decide))
  refine lv_aload_n hC.1 hC.2.1 dX6_sign_0 rfl (lv_at hl 0 rfl) ?_
  refine lv_aload_n hC.1 hC.2.1 dX6_sign_1 rfl (lv_at hl 0 rfl) ?_
  refine p_get hC hK hM 0 rfl in_X6 rfl 3 (by decide) q441 (fun x h => h) rfl dX6_sign_2 ?_
  refine lv_iconst (v := 3) hC.1 hC.2.1 dX6_sign_5 (by decide) ?_
  refine lv_icmp_ne (tgt := 13) hC.1 hC.2.1 dX6_sign_6 (by decide) (fun c1 => ?_) (fun c1 => ?_)
  ·
    skip
    exact absurd (hR.tok.2.2.1.mpr h3) c1
  ·
    skip
    refine lv_iconst (v := 1) hC.1 hC.2.1 dX6_sign_9 (by decide) ?_
    refine lv_goto (tgt := 14) hC.1 hC.2.1 dX6_sign_10 (by decide) ?_
    refine lv_iconst (v := 1) hC.1 hC.2.1 dX6_sign_14 (by decide) ?_
    refine p_cVv (L' := [_, _]) hC hK hM (hM.at 0 rfl) rfl (cl_must l κ _ a v rd 1 1 (hM.at 0 rfl) (by decide)) (cwV 2 hC.2.2.2.2 (lw_V q675 q677 qs7 q79 q678) rfl rfl rfl (by decide +kernel) ⟨(Nat.le_of_ble_eq_true rfl), (Nat.le_of_ble_eq_true rfl)⟩) rfl hl.1 rfl (lv_room (Nat.le_of_ble_eq_true rfl)) dX6_sign_15 ⟨(Nat.le_of_ble_eq_true rfl), (Nat.le_of_ble_eq_true rfl)⟩ rfl hM.2 (fun H locs hM => ?_)
    refine lv_aload_n hC.1 hC.2.1 dX6_sign_18 rfl (lv_at hl 0 rfl) ?_
    refine o_cV hC hK hM.1 (hM.at 0 rfl) rfl (cl_next l κ _ a v rd no cv nd g cw tp L (iN (u 13)) (hM.at 0 rfl) (hM.at 1 rfl) hR.2.1 hR.2.2.2.1 hR.at.2.2.1 hR.at.1 hR.at.2.1 htp ht) (cwV 0 hC.2.2.2.2 (lw_V q468 q470 qs4 q79 q471) rfl rfl rfl (by decide +kernel) ⟨(Nat.le_of_ble_eq_true rfl), (Nat.le_of_ble_eq_true rfl)⟩) rfl hl.1 rfl (lv_room (Nat.le_of_ble_eq_true rfl)) dX6_sign_19 ⟨(Nat.le_of_ble_eq_true rfl), (Nat.le_of_ble_eq_true rfl)⟩ (fun rv O1 H locs hp hM1 => ?_)
    obtain ⟨rfl, hnx⟩ := hp
    rw [show oups O [(a, rrU v rd), (no, nsU cv nd g cw)] = O from by rw [oups, oups, oups, oup_same hN, oup_same hR.1]] at hnx
    have hM := PS.of hM1 [] trivial (by simp [oad])
    refine W.widen (k := 9) (n := 1530) (Nat.le_of_ble_eq_true rfl) (Nat.le_of_ble_eq_true rfl) ?_
    refine p_vret hC hr hlocks hM dX6_sign_22 ?_
    exact ⟨rfl, hnx.kp, hR.next hnx⟩

set_option maxHeartbeats 400000 in
set_option maxRecDepth 100000 in
theorem cl_signT (l : Launch) (κ : Nat → Nat) (O : gO) (a : Nat) (v : Nat → Int32) (rd : Nat → Nat) (no : Nat) (cv : Nat → Int32) (nd : Nat → Nat) (g : Nat → Nat → Option Nat) (cw : Nat → Nat → Int32) (md : Nat) (tp : Nat → Int32) (L : Nat) (u : Nat → Int32) (hR : RT O a (nd 1) md tp L u v rd) (hN : O no = some (nsU cv nd g cw)) (htp : ∀ j, j < L → cw 1 j &&& 255 = tp j) (ht : tpOk tp L) (h3 : ¬ u 14 = 4) : oT l κ yX6_sign cX6_sign 1 none ({ frames := 5, cells := 1, slots := 8, locals := 104 }) [.ref a] O (fun z O1 => O z = none ∧ O1 = oup O z (ftU 1 (u 15))) := by
  intro D ac A
  refine o_bodyT (own := RX6) rfl (by decide) (Nat.le_of_ble_eq_true rfl) ?_
  intro p e s m args below meth c ls hC hem hlocks hK hM hl
  have hl : lv_has ls 1 [(0, .ref a)] := hl
  have hM := PS.of hM [(a, rrU v rd), (no, nsU cv nd g cw)] ⟨hR.1, hN, trivial⟩ (by simp only [oad, List.map, List.nodup_cons, List.mem_singleton, List.not_mem_nil, not_false_eq_true, List.nodup_nil, and_true]; exact o_ne hR.1 hN (by decide))
  refine lv_aload_n hC.1 hC.2.1 dX6_sign_0 rfl (lv_at hl 0 rfl) ?_
  refine lv_aload_n hC.1 hC.2.1 dX6_sign_1 rfl (lv_at hl 0 rfl) ?_
  refine p_get hC hK hM 0 rfl in_X6 rfl 3 (by decide) q441 (fun x h => h) rfl dX6_sign_2 ?_
  refine lv_iconst (v := 3) hC.1 hC.2.1 dX6_sign_5 (by decide) ?_
  refine lv_icmp_ne (tgt := 13) hC.1 hC.2.1 dX6_sign_6 (by decide) (fun c1 => ?_) (fun c1 => ?_)
  ·
    skip
    refine lv_iconst (v := 0) hC.1 hC.2.1 dX6_sign_13 (by decide) ?_
    refine lv_iconst (v := 1) hC.1 hC.2.1 dX6_sign_14 (by decide) ?_
    refine W.widen (k := 0) (n := 0) (Nat.le_of_ble_eq_true rfl) (Nat.le_of_ble_eq_true rfl) ?_
    refine p_pass hem hlocks hM (runVT hC ((cl_mustT l κ _ a v rd 1 (hM.at 0 rfl)) D ac A) (cwV 2 hC.2.2.2.2 (lw_V q675 q677 qs7 q79 q678) rfl rfl rfl (by decide +kernel) ⟨(Nat.le_of_ble_eq_true rfl), (Nat.le_of_ble_eq_true rfl)⟩) ⟨oPre.blind, OS.recv hK hM.1 (hM.at 0 rfl) rfl, fun U hU hW => ⟨rfl, OS.pre hK hM.1 hU hW⟩⟩ rfl rfl hl.1 rfl (lv_room (Nat.le_of_ble_eq_true rfl)) dX6_sign_15 ⟨(Nat.le_of_ble_eq_true rfl), (Nat.le_of_ble_eq_true rfl)⟩) (fun x_ O1 hp => ?_)
    rw [show oups O [(a, rrU v rd), (no, nsU cv nd g cw)] = O from by rw [oups, oups, oups, oup_same hN, oup_same hR.1], hR.at.2.2.2] at hp
    exact hp
  ·
    skip
    exact absurd (hR.tok.2.2.1.mp c1) h3

set_option maxHeartbeats 400000 in
set_option maxRecDepth 100000 in
theorem cl_begin (l : Launch) (κ : Nat → Nat) (O : gO) (a : Nat) (v : Nat → Int32) (rd : Nat → Nat) (no : Nat) (cv : Nat → Int32) (nd : Nat → Nat) (g : Nat → Nat → Option Nat) (cw : Nat → Nat → Int32) (md : Nat) (tp : Nat → Int32) (L : Nat) (u : Nat → Int32) (x y : Int32) (hR : RT O a (nd 1) md tp L u v rd) (hN : O no = some (nsU cv nd g cw)) (htp : ∀ j, j < L → cw 1 j &&& 255 = tp j) (ht : tpOk tp L) (h3 : x < y) : oM l κ yX6_begin cX6_begin 3 none ({ frames := 7, cells := 9, slots := 1530, locals := 173 }) [.ref a, .int x, .int y] O (fun rv O1 => rv = none ∧ (kpA O O1 a ∧ ∃ v1 rd1, RT O1 a (nd 1) md tp L (nxV tp L u) v1 rd1)) := by
  intro D ac A
  refine o_body (own := RX6) rfl (plainFor_of_name (by decide)) (Nat.le_of_ble_eq_true rfl) ?_
  intro p e s m args below meth c ls hC hr hlocks hK hM hl hnamed hmeth
  have hl : lv_has ls 3 [(0, .ref a), (1, .int x), (2, .int y)] := hl
  have hM := PS.of hM [(a, rrU v rd), (no, nsU cv nd g cw)] ⟨hR.1, hN, trivial⟩ (by simp only [oad, List.map, List.nodup_cons, List.mem_singleton, List.not_mem_nil, not_false_eq_true, List.nodup_nil, and_true]; exact o_ne hR.1 hN (by decide))
  refine lv_aload_n hC.1 hC.2.1 dX6_begin_0 rfl (lv_at hl 0 rfl) ?_
  refine lv_iload_n hC.1 hC.2.1 dX6_begin_1 rfl (lv_at hl 1 rfl) ?_
  refine lv_iload_n hC.1 hC.2.1 dX6_begin_2 rfl (lv_at hl 2 rfl) ?_
  refine lv_icmp_ge (tgt := 10) hC.1 hC.2.1 dX6_begin_3 (by decide) (fun c1 => ?_) (fun c1 => ?_)
  ·
    have nc1 := Int32.not_lt.mpr c1
    exact absurd h3 nc1
  ·
    have nc1 := Int32.not_le.mp c1
    refine lv_iconst (v := 1) hC.1 hC.2.1 dX6_begin_6 (by decide) ?_
    refine lv_goto (tgt := 11) hC.1 hC.2.1 dX6_begin_7 (by decide) ?_
    refine lv_iconst (v := 3) hC.1 hC.2.1 dX6_begin_11 (by decide) ?_
    refine p_cVv (L' := [_, _]) hC hK hM (hM.at 0 rfl) rfl (cl_must l κ _ a v rd 1 3 (hM.at 0 rfl) (by decide)) (cwV 2 hC.2.2.2.2 (lw_V q675 q677 qs7 q79 q678) rfl rfl rfl (by decide +kernel) ⟨(Nat.le_of_ble_eq_true rfl), (Nat.le_of_ble_eq_true rfl)⟩) rfl hl.1 rfl (lv_room (Nat.le_of_ble_eq_true rfl)) dX6_begin_12 ⟨(Nat.le_of_ble_eq_true rfl), (Nat.le_of_ble_eq_true rfl)⟩ rfl hM.2 (fun H locs hM => ?_)
    refine lv_aload_n hC.1 hC.2.1 dX6_begin_15 rfl (lv_at hl 0 rfl) ?_
    refine o_cV hC hK hM.1 (hM.at 0 rfl) rfl (cl_next l κ _ a v rd no cv nd g cw tp L (iN (u 13)) (hM.at 0 rfl) (hM.at 1 rfl) hR.2.1 hR.2.2.2.1 hR.at.2.2.1 hR.at.1 hR.at.2.1 htp ht) (cwV 0 hC.2.2.2.2 (lw_V q468 q470 qs4 q79 q471) rfl rfl rfl (by decide +kernel) ⟨(Nat.le_of_ble_eq_true rfl), (Nat.le_of_ble_eq_true rfl)⟩) rfl hl.1 rfl (lv_room (Nat.le_of_ble_eq_true rfl)) dX6_begin_16 ⟨(Nat.le_of_ble_eq_true rfl), (Nat.le_of_ble_eq_true rfl)⟩ (fun rv O1 H locs hp hM1 => ?_)
    obtain ⟨rfl, hnx⟩ := hp
    rw [show oups O [(a, rrU v rd), (no, nsU cv nd g cw)] = O from by rw [oups, oups, oups, oup_same hN, oup_same hR.1]] at hnx
    have hM := PS.of hM1 [] trivial (by simp [oad])
    refine W.widen (k := 9) (n := 1530) (Nat.le_of_ble_eq_true rfl) (Nat.le_of_ble_eq_true rfl) ?_
    refine p_vret hC hr hlocks hM dX6_begin_19 ?_
    exact ⟨rfl, hnx.kp, hR.next hnx⟩

set_option maxHeartbeats 400000 in
set_option maxRecDepth 100000 in
theorem cl_beginT (l : Launch) (κ : Nat → Nat) (O : gO) (a : Nat) (v : Nat → Int32) (rd : Nat → Nat) (no : Nat) (cv : Nat → Int32) (nd : Nat → Nat) (g : Nat → Nat → Option Nat) (cw : Nat → Nat → Int32) (md : Nat) (tp : Nat → Int32) (L : Nat) (u : Nat → Int32) (x y : Int32) (hR : RT O a (nd 1) md tp L u v rd) (hN : O no = some (nsU cv nd g cw)) (htp : ∀ j, j < L → cw 1 j &&& 255 = tp j) (ht : tpOk tp L) (h3 : ¬ x < y) : oT l κ yX6_begin cX6_begin 3 none ({ frames := 5, cells := 1, slots := 8, locals := 104 }) [.ref a, .int x, .int y] O (fun z O1 => O z = none ∧ O1 = oup O z (ftU 3 (u 15))) := by
  intro D ac A
  refine o_bodyT (own := RX6) rfl (by decide) (Nat.le_of_ble_eq_true rfl) ?_
  intro p e s m args below meth c ls hC hem hlocks hK hM hl
  have hl : lv_has ls 3 [(0, .ref a), (1, .int x), (2, .int y)] := hl
  have hM := PS.of hM [(a, rrU v rd), (no, nsU cv nd g cw)] ⟨hR.1, hN, trivial⟩ (by simp only [oad, List.map, List.nodup_cons, List.mem_singleton, List.not_mem_nil, not_false_eq_true, List.nodup_nil, and_true]; exact o_ne hR.1 hN (by decide))
  refine lv_aload_n hC.1 hC.2.1 dX6_begin_0 rfl (lv_at hl 0 rfl) ?_
  refine lv_iload_n hC.1 hC.2.1 dX6_begin_1 rfl (lv_at hl 1 rfl) ?_
  refine lv_iload_n hC.1 hC.2.1 dX6_begin_2 rfl (lv_at hl 2 rfl) ?_
  refine lv_icmp_ge (tgt := 10) hC.1 hC.2.1 dX6_begin_3 (by decide) (fun c1 => ?_) (fun c1 => ?_)
  ·
    have nc1 := Int32.not_lt.mpr c1
    refine lv_iconst (v := 0) hC.1 hC.2.1 dX6_begin_10 (by decide) ?_
    refine lv_iconst (v := 3) hC.1 hC.2.1 dX6_begin_11 (by decide) ?_
    refine W.widen (k := 0) (n := 0) (Nat.le_of_ble_eq_true rfl) (Nat.le_of_ble_eq_true rfl) ?_
    refine p_pass hem hlocks hM (runVT hC ((cl_mustT l κ _ a v rd 3 (hM.at 0 rfl)) D ac A) (cwV 2 hC.2.2.2.2 (lw_V q675 q677 qs7 q79 q678) rfl rfl rfl (by decide +kernel) ⟨(Nat.le_of_ble_eq_true rfl), (Nat.le_of_ble_eq_true rfl)⟩) ⟨oPre.blind, OS.recv hK hM.1 (hM.at 0 rfl) rfl, fun U hU hW => ⟨rfl, OS.pre hK hM.1 hU hW⟩⟩ rfl rfl hl.1 rfl (lv_room (Nat.le_of_ble_eq_true rfl)) dX6_begin_12 ⟨(Nat.le_of_ble_eq_true rfl), (Nat.le_of_ble_eq_true rfl)⟩) (fun x_ O1 hp => ?_)
    rw [show oups O [(a, rrU v rd), (no, nsU cv nd g cw)] = O from by rw [oups, oups, oups, oup_same hN, oup_same hR.1], hR.at.2.2.2] at hp
    exact hp
  ·
    have nc1 := Int32.not_le.mp c1
    exact absurd (Int32.not_lt.mp h3) c1
