set_option maxHeartbeats 400000 in
set_option maxRecDepth 100000 in
theorem cl_init (l : Launch) (κ : Nat → Nat) (O : gO) (a t : Nat) (L : Int32) (hO : O a = some (.inr (6, [.null, .int 0, .int 0, .int 0, .int 0, .int 0, .null, .null], aNo))) : oM l κ yX6_init cX6_init 3 none ({ frames := 5, cells := 7, slots := 88, locals := 92 }) [.ref a, .ref t, .int L] O (fun rv O1 => ∃ (rd d : Nat → Nat), O (rd 7) = none ∧ O (d 8) = none ∧ ([a, rd 7, d 8] : List Nat).Nodup ∧ rd 0 = t ∧ O1 = oups O [(a, rrU (upd (fun _ => 0) 1 L) rd), (rd 7, rdU (fun _ => 0) d (fun _ _ => 0)), (d 8, lsU 0 (κ 0) 0 aNo)] ∧ rv = none) := by
  intro D ac A
  refine o_body (own := RX6) rfl (plainFor_of_name (by decide)) (Nat.le_of_ble_eq_true rfl) ?_
  intro p e s m args below meth c ls hC hr hlocks hK hM hl hnamed hmeth
  have hl : lv_has ls 3 [(0, .ref a), (1, .ref t), (2, .int L)] := hl
  have hnm : meth.name = "<init>" := (name_of_methodNamed hnamed hmeth).1
  have hM := PS.of hM [(a, .inr (6, [.null, .int 0, .int 0, .int 0, .int 0, .int 0, .null, .null], aNo))] ⟨hO, trivial⟩ (by simp [oad])
  refine lv_aload_n hC.1 hC.2.1 dX6_init_0 rfl (lv_at hl 0 rfl) ?_
  refine W.objInit hC.1 hC.2.1 hC.2.2.2.1 (hC.2.2.2.2 _ q434) (hC.2.2.2.2 _ q104) (hC.2.2.2.2 _ q105) rfl (by rw [hC.2.2.1]; exact hl.1) rfl dX6_init_1 (Nat.le_of_ble_eq_true rfl) (Nat.le_of_ble_eq_true rfl) ?_
  refine W.eq (g2 := F0 m 4 ls []) rfl ?_
  refine lv_aload_n hC.1 hC.2.1 dX6_init_4 rfl (lv_at hl 0 rfl) ?_
  refine va_ldcS hC.1 hC.2.1 hC.2.2.2.1 hK.2.2.2.2.2.2.2.1 dX6_init_5 ?_
  refine p_putR (L' := [_]) hC hK hM 0 rfl in_X6 tyX6 tyX6_ok nmX6 rfl 6 (by decide) q444 (fun x h => h) rfl rfl rfl (Nat.le_of_ble_eq_true rfl) rfl (u' := .inr (6, [_, _, _, _, _, _, _, _], _)) rfl rfl dX6_init_7 (fun H locs hM => ?_)
  refine lv_aload_n hC.1 hC.2.1 dX6_init_10 rfl (lv_at hl 0 rfl) ?_
  refine p_new (L' := fun q => [_, _]) hC hK hM (ci := 1) in_X1 tyX1 tyX1_ok q436 q109 q64 rfl (fs := [.int 0, .int 0, .int 0, .int 0, .int 0, .null, .null, .null, .null, .int 0, .null, .int 0, .null]) (by decide) (Nat.le_of_ble_eq_true rfl) (Nat.le_of_ble_eq_true rfl) dX6_init_11 (fun q => rfl) (fun q_1 H hq_1 hM => ?_)
  refine lv_dup hC.1 hC.2.1 dX6_init_14 rfl ?_
  refine o_cIN hC hK hM.1 (cr_init l κ _ q_1 (hM.at 1 rfl)) ⟨va_cnB 0 hC.2.2.2.2 (lw_meth q112) rfl rfl rfl (hK.1.2.1 _ q437 rfl) (hC.2.2.2.2 _ q64) (by decide +kernel) ⟨(Nat.le_of_ble_eq_true rfl), (Nat.le_of_ble_eq_true rfl)⟩, rfl, hC.2.2.2.2 _ q111⟩ rfl hl.1 rfl (lv_room (Nat.le_of_ble_eq_true rfl)) dX6_init_15 ⟨(Nat.le_of_ble_eq_true rfl), (Nat.le_of_ble_eq_true rfl)⟩ (fun rv O1 H locs hp hM1 => ?_)
  obtain ⟨d, hp1, hp2, hp3⟩ := hp
  subst hp3
  rw [hp2] at hM1
  obtain ⟨hpn, hpo, hM⟩ := PS.newR (L' := [_, _, _]) hM.2 (i := 1) rfl hp1 hM1 rfl
  refine p_putFR (L' := [_, _, _]) hC hK hM 0 rfl in_X6 tyX6 tyX6_ok nmX6 rfl 7 (by decide) q445 (fun x h => h) rfl hnm rfl rfl rfl (Nat.le_of_ble_eq_true rfl) rfl (u' := .inr (6, [_, _, _, _, _, _, _, _], _)) rfl rfl dX6_init_18 (fun H locs hM => ?_)
  refine lv_aload_n hC.1 hC.2.1 dX6_init_21 rfl (lv_at hl 0 rfl) ?_
  refine lv_aload_n hC.1 hC.2.1 dX6_init_22 rfl (lv_at hl 1 rfl) ?_
  refine p_putFR (L' := [_, _, _]) hC hK hM 0 rfl in_X6 tyX6 tyX6_ok nmX6 rfl 0 (by decide) q438 (fun x h => h) rfl hnm rfl rfl rfl (Nat.le_of_ble_eq_true rfl) rfl (u' := .inr (6, [_, _, _, _, _, _, _, _], _)) rfl rfl dX6_init_23 (fun H locs hM => ?_)
  refine lv_aload_n hC.1 hC.2.1 dX6_init_26 rfl (lv_at hl 0 rfl) ?_
  refine lv_iload_n hC.1 hC.2.1 dX6_init_27 rfl (lv_at hl 2 rfl) ?_
  refine p_putFR (L' := [_, _, _]) hC hK hM 0 rfl in_X6 tyX6 tyX6_ok nmX6 rfl 1 (by decide) q439 (fun x h => h) rfl hnm rfl rfl rfl (Nat.le_of_ble_eq_true rfl) rfl (u' := .inr (6, [_, _, _, _, _, _, _, _], _)) rfl rfl dX6_init_28 (fun H locs hM => ?_)
  refine W.widen (k := 7) (n := 88) (Nat.le_of_ble_eq_true rfl) (Nat.le_of_ble_eq_true rfl) ?_
  refine p_vret hC hr hlocks hM dX6_init_31 ?_
  exact ⟨updN (updN (updN (fun _ => 0) 0 t) 6 (κ 10)) 7 q_1, d, hq_1, hpn, hM.2, rfl, rfl, rfl⟩

set_option maxHeartbeats 400000 in
set_option maxRecDepth 100000 in
theorem cl_look (l : Launch) (κ : Nat → Nat) (O : gO) (a : Nat) (v : Nat → Int32) (rd : Nat → Nat) (no : Nat) (cv : Nat → Int32) (nd : Nat → Nat) (g : Nat → Nat → Option Nat) (cw : Nat → Nat → Int32) (tp : Nat → Int32) (L k : Nat) (hO : O a = some (rrU v rd)) (hN : O no = some (nsU cv nd g cw)) (h0 : rd 0 = nd 1) (h1 : v 1 = nI L) (hL : L ≤ 400) (h2 : v 2 = nI k) (hk : k ≤ L) (htp : ∀ j, j < L → cw 1 j &&& 255 = tp j) : oM l κ yX6_look cX6_look 1 (some .int) ({ frames := 0, cells := 0, slots := 0, locals := 0 }) [.ref a] O (fun rv O1 => rv = some (.int (tokB tp L k)) ∧ O1 = O) := by
  intro D ac A
  refine o_body (own := RX6) rfl (plainFor_of_name (by decide)) (Nat.le_of_ble_eq_true rfl) ?_
  intro p e s m args below meth c ls hC hr hlocks hK hM hl hnamed hmeth
  have hl : lv_has ls 1 [(0, .ref a)] := hl
  have hM := PS.of hM [(a, rrU v rd), (no, nsU cv nd g cw)] ⟨hO, hN, trivial⟩ (by simp only [oad, List.map, List.nodup_cons, List.mem_singleton, List.not_mem_nil, not_false_eq_true, List.nodup_nil, and_true]; exact o_ne hO hN (by decide))
  refine lv_aload_n hC.1 hC.2.1 dX6_look_0 rfl (lv_at hl 0 rfl) ?_
  refine p_get hC hK hM 0 rfl in_X6 rfl 2 (by decide) q440 (fun x h => h) rfl dX6_look_1 ?_
  rw [h2]
  refine lv_aload_n hC.1 hC.2.1 dX6_look_4 rfl (lv_at hl 0 rfl) ?_
  refine p_get hC hK hM 0 rfl in_X6 rfl 1 (by decide) q439 (fun x h => h) rfl dX6_look_5 ?_
  rw [h1]
  refine lv_icmp_ge (tgt := 27) hC.1 hC.2.1 dX6_look_8 (by decide) (fun c1 => ?_) (fun c1 => ?_)
  ·
    have nc1 := Int32.not_lt.mpr c1
    have hkl := nle_t (a := L) (b := k) c1
    refine lv_ldc hC.1 hC.2.1 hC.2.2.2.1 (hC.2.2.2.2 _ q476) dX6_look_27 ?_
    skip
    refine p_iret hC hr hlocks hM dX6_look_29 ?_
    exact ⟨by rw [tokB_ge hkl], by rw [oups, oups, oups, oup_same hN, oup_same hO]⟩
  ·
    have nc1 := Int32.not_le.mp c1
    have hkl := nle_f (a := L) (b := k) c1
    refine lv_aload_n hC.1 hC.2.1 dX6_look_11 rfl (lv_at hl 0 rfl) ?_
    refine p_get hC hK hM 0 rfl in_X6 rfl 0 (by decide) q438 (fun x h => h) rfl dX6_look_12 ?_
    rw [h0]
    refine lv_aload_n hC.1 hC.2.1 dX6_look_15 rfl (lv_at hl 0 rfl) ?_
    refine p_get hC hK hM 0 rfl in_X6 rfl 2 (by decide) q440 (fun x h => h) rfl dX6_look_16 ?_
    rw [h2]
    refine p_bald hC hK hM 1 rfl 1 rfl rfl (n := k) rfl (by show _ < 400; omega) (by decide) dX6_look_19 ?_
    refine lv_sipush (v := 255) hC.1 hC.2.1 dX6_look_20 (by decide) ?_
    refine lv_iand hC.1 hC.2.1 dX6_look_23 ?_
    rw [htp k hkl]
    refine lv_goto (tgt := 29) hC.1 hC.2.1 dX6_look_24 (by decide) ?_
    skip
    refine p_iret hC hr hlocks hM dX6_look_29 ?_
    exact ⟨by rw [tokB_lt hkl], by rw [oups, oups, oups, oup_same hN, oup_same hO]⟩

theorem upd4c {v : Nat → Int32} {j : Nat} : upd (upd v 2 (nI j)) 4 (nI j) = upd (upd (upd v 2 (nI j)) 4 (nI j)) 2 (nI (j + 0)) := by
  funext n
  unfold upd
  by_cases h : n = 2
  · rw [if_pos h, if_pos h, if_neg (by omega)]; rfl
  · rw [if_neg h, if_neg h]

set_option maxHeartbeats 400000 in
set_option maxRecDepth 100000 in
theorem cl_next (l : Launch) (κ : Nat → Nat) (O : gO) (a : Nat) (v : Nat → Int32) (rd : Nat → Nat) (no : Nat) (cv : Nat → Int32) (nd : Nat → Nat) (g : Nat → Nat → Option Nat) (cw : Nat → Nat → Int32) (tp : Nat → Int32) (L k : Nat) (hO : O a = some (rrU v rd)) (hN : O no = some (nsU cv nd g cw)) (h0 : rd 0 = nd 1) (h1 : v 1 = nI L) (hL : L ≤ 400) (h2 : v 2 = nI k) (hk : k ≤ L) (htp : ∀ j, j < L → cw 1 j &&& 255 = tp j) (ht : tpOk tp L) : oM l κ yX6_next cX6_next 3 none ({ frames := 6, cells := 9, slots := 1530, locals := 151 }) [.ref a] O (fun rv O1 => rv = none ∧ rdNx O O1 a v rd tp L k) := by
  intro D ac A
  refine o_body (own := RX6) rfl (plainFor_of_name (by decide)) (Nat.le_of_ble_eq_true rfl) ?_
  intro p e s m args below meth c ls hC hr hlocks hK hM hl hnamed hmeth
  have hl : lv_has ls 3 [(0, .ref a)] := hl
  have hM := PS.of hM [(a, rrU v rd), (no, nsU cv nd g cw)] ⟨hO, hN, trivial⟩ (by simp only [oad, List.map, List.nodup_cons, List.mem_singleton, List.not_mem_nil, not_false_eq_true, List.nodup_nil, and_true]; exact o_ne hO hN (by decide))
  refine w_ind (α := Nat) 0 (fun (j : Nat) => L - j) (fun (j : Nat) (H : Heap) (locs : List Loc) (ls : Array Slot) => (j ≤ L ∧ spn pWs tp (L - j) j = spn pWs tp (L - k) k) ∧ PS D ac A s.heap O [(a, rrU (upd v 2 (nI j)) rd), (no, nsU cv nd g cw)] H locs ∧ lv_has ls 3 [(0, .ref a)]) ?_ (k) ⟨⟨hk, rfl⟩, (by rw [← upd_self v 2, h2] at hM; exact hM), lv_sub hl [0] rfl⟩
  intro j H locs ls hI ih0
  obtain ⟨hI0, hM, hl⟩ := hI
  have hjL : j ≤ L := hI0.1
  refine lv_aload_n hC.1 hC.2.1 dX6_next_0 rfl (lv_at hl 0 rfl) ?_
  refine p_cVe (L' := [_, _]) hC hK hM (hM.at 0 rfl) rfl (cl_look l κ _ a (upd v 2 (nI j)) rd no cv nd g cw tp L (j) (hM.at 0 rfl) (hM.at 1 rfl) h0 h1 hL rfl (by omega) htp) (cwV 0 hC.2.2.2.2 (lw_V q472 q474 qs5 q79 q475) rfl rfl rfl (by decide +kernel) ⟨(Nat.le_of_ble_eq_true rfl), (Nat.le_of_ble_eq_true rfl)⟩) rfl hl.1 rfl (lv_room (Nat.le_of_ble_eq_true rfl)) dX6_next_1 ⟨(Nat.le_of_ble_eq_true rfl), (Nat.le_of_ble_eq_true rfl)⟩ rfl hM.2 (fun H locs hM => ?_)
  refine lv_bipush (v := 32) hC.1 hC.2.1 dX6_next_4 (by decide) ?_
  refine lv_icmp_eq (tgt := 18) hC.1 hC.2.1 dX6_next_6 (by decide) (fun c1 => ?_) (fun c1 => ?_)
  ·
    skip
    have hg2 := ws_go (Or.inl c1)
    refine lv_aload_n hC.1 hC.2.1 dX6_next_18 rfl (lv_at hl 0 rfl) ?_
    refine lv_dup hC.1 hC.2.1 dX6_next_19 rfl ?_
    refine p_get hC hK hM 0 rfl in_X6 rfl 2 (by decide) q440 (fun x h => h) rfl dX6_next_20 ?_
    rw [upd_s]
    refine lv_iconst (v := 1) hC.1 hC.2.1 dX6_next_23 (by decide) ?_
    refine lv_iadd hC.1 hC.2.1 dX6_next_24 ?_
    rw [nI_1]
    refine p_put (L' := [_, _]) hC hK hM 0 rfl in_X6 tyX6 tyX6_ok nmX6 rfl 2 (by decide) q440 (fun x h => h) rfl rfl rfl (Nat.le_of_ble_eq_true rfl) rfl rfl rfl dX6_next_25 (fun H locs hM => ?_)
    refine lv_goto (tgt := 0) hC.1 hC.2.1 dX6_next_28 (by decide) ?_
    exact ih0 (j + 1) _ _ _ (by omega) ⟨⟨by omega, by rw [← hg2.2]; exact hI0.2⟩, (by rw [upd_upd] at hM; exact hM), lv_sub hl [0] rfl⟩
  ·
    skip
    have nw1 := c1
    refine lv_aload_n hC.1 hC.2.1 dX6_next_9 rfl (lv_at hl 0 rfl) ?_
    refine p_cVe (L' := [_, _]) hC hK hM (hM.at 0 rfl) rfl (cl_look l κ _ a (upd v 2 (nI j)) rd no cv nd g cw tp L (j) (hM.at 0 rfl) (hM.at 1 rfl) h0 h1 hL rfl (by omega) htp) (cwV 0 hC.2.2.2.2 (lw_V q472 q474 qs5 q79 q475) rfl rfl rfl (by decide +kernel) ⟨(Nat.le_of_ble_eq_true rfl), (Nat.le_of_ble_eq_true rfl)⟩) rfl hl.1 rfl (lv_room (Nat.le_of_ble_eq_true rfl)) dX6_next_10 ⟨(Nat.le_of_ble_eq_true rfl), (Nat.le_of_ble_eq_true rfl)⟩ rfl hM.2 (fun H locs hM => ?_)
    refine lv_bipush (v := 10) hC.1 hC.2.1 dX6_next_13 (by decide) ?_
    refine lv_icmp_ne (tgt := 31) hC.1 hC.2.1 dX6_next_15 (by decide) (fun c2 => ?_) (fun c2 => ?_)
    ·
      skip
      have hs : spn pWs tp (L - k) k = j := by rw [← hI0.2]; exact spn_ws nw1 c2
      refine lv_aload_n hC.1 hC.2.1 dX6_next_31 rfl (lv_at hl 0 rfl) ?_
      refine lv_aload_n hC.1 hC.2.1 dX6_next_32 rfl (lv_at hl 0 rfl) ?_
      refine p_get hC hK hM 0 rfl in_X6 rfl 2 (by decide) q440 (fun x h => h) rfl dX6_next_33 ?_
      rw [upd_s]
      refine p_put (L' := [_, _]) hC hK hM 0 rfl in_X6 tyX6 tyX6_ok nmX6 rfl 4 (by decide) q442 (fun x h => h) rfl rfl rfl (Nat.le_of_ble_eq_true rfl) rfl rfl rfl dX6_next_36 (fun H locs hM => ?_)
      refine lv_aload_n hC.1 hC.2.1 dX6_next_39 rfl (lv_at hl 0 rfl) ?_
      refine p_cVe (L' := [_, _]) hC hK hM (hM.at 0 rfl) rfl (cl_look l κ _ a (upd (upd v 2 (nI j)) 4 (nI j)) rd no cv nd g cw tp L (j) (hM.at 0 rfl) (hM.at 1 rfl) h0 h1 hL rfl (by omega) htp) (cwV 0 hC.2.2.2.2 (lw_V q472 q474 qs5 q79 q475) rfl rfl rfl (by decide +kernel) ⟨(Nat.le_of_ble_eq_true rfl), (Nat.le_of_ble_eq_true rfl)⟩) rfl hl.1 rfl (lv_room (Nat.le_of_ble_eq_true rfl)) dX6_next_40 ⟨(Nat.le_of_ble_eq_true rfl), (Nat.le_of_ble_eq_true rfl)⟩ rfl hM.2 (fun H locs hM => ?_)
      refine lv_istore_n (lv' := [(1, _), (0, _)]) hC.1 hC.2.1 dX6_next_43 rfl hl (by decide) rfl (fun ls hl => ?_)
      refine lv_iload_n hC.1 hC.2.1 dX6_next_44 rfl (lv_at hl 0 rfl) ?_
      refine lv_ldc hC.1 hC.2.1 hC.2.2.2.1 (hC.2.2.2.2 _ q476) dX6_next_45 ?_
      refine lv_icmp_ne (tgt := 58) hC.1 hC.2.1 dX6_next_47 (by decide) (fun c3 => ?_) (fun c3 => ?_)
      ·
        skip
        have hjl : j < L := Nat.lt_of_not_le (fun h => c3 ((tokB_N ht).mpr h))
        refine lv_iload_n hC.1 hC.2.1 dX6_next_58 rfl (lv_at hl 0 rfl) ?_
        refine lv_i2l hC.1 hC.2.1 dX6_next_59 rfl ?_
        refine lv_ldc2 hC.1 hC.2.1 hC.2.2.2.1 (hC.2.2.2.2 _ q477) dX6_next_60 ?_
        refine lv_ldc2 hC.1 hC.2.1 hC.2.2.2.1 (hC.2.2.2.2 _ q478) dX6_next_63 ?_
        refine s_cin hC ((cc_isIn l (a := 97) (b := 122) rfl rfl rfl)) ⟨va_cnB 3 hC.2.2.2.2 (lw_meth q267) rfl rfl rfl (hK.1.2.1 _ q479 rfl) (hC.2.2.2.2 _ q63) (by decide +kernel) ⟨(Nat.le_of_ble_eq_true rfl), (Nat.le_of_ble_eq_true rfl)⟩, hC.2.2.2.2 _ q266, trivial⟩ rfl hl.1 rfl (lv_room (Nat.le_of_ble_eq_true rfl)) dX6_next_66 ⟨(Nat.le_of_ble_eq_true rfl), (Nat.le_of_ble_eq_true rfl)⟩ ?_
        refine lv_if_eq (tgt := 142) hC.1 hC.2.1 dX6_next_69 (by decide) (fun c4 => ?_) (fun c4 => ?_)
        ·
          skip
          rw [bI_0] at c4
          have kl := c4
          refine lv_iload_n hC.1 hC.2.1 dX6_next_142 rfl (lv_at hl 0 rfl) ?_
          refine lv_i2l hC.1 hC.2.1 dX6_next_143 rfl ?_
          refine lv_ldc2 hC.1 hC.2.1 hC.2.2.2.1 (hC.2.2.2.2 _ q660) dX6_next_144 ?_
          refine lv_ldc2 hC.1 hC.2.1 hC.2.2.2.1 (hC.2.2.2.2 _ q661) dX6_next_147 ?_
          refine s_cin hC ((cc_isIn l (a := 48) (b := 57) rfl rfl rfl)) ⟨va_cnB 3 hC.2.2.2.2 (lw_meth q267) rfl rfl rfl (hK.1.2.1 _ q479 rfl) (hC.2.2.2.2 _ q63) (by decide +kernel) ⟨(Nat.le_of_ble_eq_true rfl), (Nat.le_of_ble_eq_true rfl)⟩, hC.2.2.2.2 _ q266, trivial⟩ rfl hl.1 rfl (lv_room (Nat.le_of_ble_eq_true rfl)) dX6_next_150 ⟨(Nat.le_of_ble_eq_true rfl), (Nat.le_of_ble_eq_true rfl)⟩ ?_
          refine lv_if_eq (tgt := 255) hC.1 hC.2.1 dX6_next_153 (by decide) (fun c5 => ?_) (fun c5 => ?_)
          ·
            skip
            rw [bI_0] at c5
            have kf := c5
            refine lv_aload_n hC.1 hC.2.1 dX6_next_255 rfl (lv_at hl 1 rfl) ?_
            refine lv_dup hC.1 hC.2.1 dX6_next_256 rfl ?_
            refine p_get hC hK hM 0 rfl in_X6 rfl 2 (by decide) q440 (fun x h => h) rfl dX6_next_257 ?_
            rw [show upd (upd v 2 (nI j)) 4 (nI j) 2 = nI j from rfl]
            refine lv_iconst (v := 1) hC.1 hC.2.1 dX6_next_260 (by decide) ?_
            refine lv_iadd hC.1 hC.2.1 dX6_next_261 ?_
            rw [nI_1]
            refine p_put (L' := [_, _]) hC hK hM 0 rfl in_X6 tyX6 tyX6_ok nmX6 rfl 2 (by decide) q440 (fun x h => h) rfl rfl rfl (Nat.le_of_ble_eq_true rfl) rfl rfl rfl dX6_next_262 (fun H locs hM => ?_)
            refine lv_aload_n hC.1 hC.2.1 dX6_next_265 rfl (lv_at hl 1 rfl) ?_
            refine lv_iload_n hC.1 hC.2.1 dX6_next_266 rfl (lv_at hl 0 rfl) ?_
            refine lv_bipush (v := 59) hC.1 hC.2.1 dX6_next_267 (by decide) ?_
            refine lv_icmp_ne (tgt := 276) hC.1 hC.2.1 dX6_next_269 (by decide) (fun c6 => ?_) (fun c6 => ?_)
            ·
              skip
              have cq := c6
              refine lv_iconst (v := 4) hC.1 hC.2.1 dX6_next_276 (by decide) ?_
              refine p_put (L' := [_, _]) hC hK hM 0 rfl in_X6 tyX6 tyX6_ok nmX6 rfl 3 (by decide) q441 (fun x h => h) rfl rfl rfl (Nat.le_of_ble_eq_true rfl) rfl rfl rfl dX6_next_277 (fun H locs hM => ?_)
              refine W.widen (k := 9) (n := 1530) (Nat.le_of_ble_eq_true rfl) (Nat.le_of_ble_eq_true rfl) ?_
              refine p_vret hC hr hlocks hM dX6_next_280 ?_
              refine ⟨rfl, rdNx.of hM.2 rfl ⟨Or.inl rfl, Or.inr (Or.inr hN), trivial⟩ rfl rfl rfl ((nx_o hs hjl kl kf).trans (by rw [if_neg cq])) ⟨rfl, rfl, rfl, fun h => absurd (show (0 : Nat) = 3 from h) (by decide), fun h => absurd (show (0 : Nat) = 2 from h) (by decide)⟩⟩
            ·
              skip
              have cq := c6
              refine lv_iconst (v := 3) hC.1 hC.2.1 dX6_next_272 (by decide) ?_
              refine lv_goto (tgt := 277) hC.1 hC.2.1 dX6_next_273 (by decide) ?_
              refine p_put (L' := [_, _]) hC hK hM 0 rfl in_X6 tyX6 tyX6_ok nmX6 rfl 3 (by decide) q441 (fun x h => h) rfl rfl rfl (Nat.le_of_ble_eq_true rfl) rfl rfl rfl dX6_next_277 (fun H locs hM => ?_)
              refine W.widen (k := 9) (n := 1530) (Nat.le_of_ble_eq_true rfl) (Nat.le_of_ble_eq_true rfl) ?_
              refine p_vret hC hr hlocks hM dX6_next_280 ?_
              refine ⟨rfl, rdNx.of hM.2 rfl ⟨Or.inl rfl, Or.inr (Or.inr hN), trivial⟩ rfl rfl rfl ((nx_o hs hjl kl kf).trans (by rw [if_pos cq])) ⟨rfl, rfl, rfl, fun h => absurd (show (4 : Nat) = 3 from h) (by decide), fun h => absurd (show (4 : Nat) = 2 from h) (by decide)⟩⟩
          ·
            skip
            rw [bI_n0] at c5
            have kf := c5
            refine lv_aload_n hC.1 hC.2.1 dX6_next_156 rfl (lv_at hl 1 rfl) ?_
            refine lv_iconst (v := 0) hC.1 hC.2.1 dX6_next_157 (by decide) ?_
            refine p_put (L' := [_, _]) hC hK hM 0 rfl in_X6 tyX6 tyX6_ok nmX6 rfl 5 (by decide) q443 (fun x h => h) rfl rfl rfl (Nat.le_of_ble_eq_true rfl) rfl rfl rfl dX6_next_158 (fun H locs hM => ?_)
            refine w_ind (α := Nat × Int32) 161 (fun (x_ : Nat × Int32) => (fun (i : Nat) (x : Int32) => L - (j + i)) x_.1 x_.2) (fun (x_ : Nat × Int32) (H : Heap) (locs : List Loc) (ls : Array Slot) => (fun (i : Nat) (x : Int32) => (j + i ≤ L ∧ x = fgL tp j (min i 3) ∧ spn pFi tp (L - (j + i)) (j + i) = spn pFi tp (L - j) j) ∧ PS D ac A s.heap O [(a, rrU (fgv (upd (upd v 2 (nI j)) 4 (nI j)) (nI (j + i)) x) rd), (no, nsU cv nd g cw)] H locs ∧ lv_has ls 3 [(0, .ref a)]) x_.1 x_.2) ?_ ((0, 0)) ⟨⟨by omega, rfl, rfl⟩, (by rw [fgv_0 (c := nI (j + 0)) rfl] at hM; exact hM), lv_sub hl [1] rfl⟩
            intro x_ H locs ls hI ih161
            obtain ⟨i, x⟩ := x_
            dsimp only at hI
            obtain ⟨hI161, hM, hl⟩ := hI
            have hij : j + i ≤ L := hI161.1
            have hxi : x = fgL tp j (min i 3) := hI161.2.1
            refine lv_aload_n hC.1 hC.2.1 dX6_next_161 rfl (lv_at hl 0 rfl) ?_
            refine p_cVe (L' := [_, _]) hC hK hM (hM.at 0 rfl) rfl (cl_look l κ _ a (fgv (upd (upd v 2 (nI j)) 4 (nI j)) (nI (j + i)) x) rd no cv nd g cw tp L (j + i) (hM.at 0 rfl) (hM.at 1 rfl) h0 h1 hL rfl (by omega) htp) (cwV 0 hC.2.2.2.2 (lw_V q472 q474 qs5 q79 q475) rfl rfl rfl (by decide +kernel) ⟨(Nat.le_of_ble_eq_true rfl), (Nat.le_of_ble_eq_true rfl)⟩) rfl hl.1 rfl (lv_room (Nat.le_of_ble_eq_true rfl)) dX6_next_162 ⟨(Nat.le_of_ble_eq_true rfl), (Nat.le_of_ble_eq_true rfl)⟩ rfl hM.2 (fun H locs hM => ?_)
            refine lv_i2l hC.1 hC.2.1 dX6_next_165 rfl ?_
            refine lv_ldc2 hC.1 hC.2.1 hC.2.2.2.1 (hC.2.2.2.2 _ q660) dX6_next_166 ?_
            refine lv_ldc2 hC.1 hC.2.1 hC.2.2.2.1 (hC.2.2.2.2 _ q661) dX6_next_169 ?_
            refine s_cin hC ((cc_isIn l (a := 48) (b := 57) rfl rfl rfl)) ⟨va_cnB 3 hC.2.2.2.2 (lw_meth q267) rfl rfl rfl (hK.1.2.1 _ q479 rfl) (hC.2.2.2.2 _ q63) (by decide +kernel) ⟨(Nat.le_of_ble_eq_true rfl), (Nat.le_of_ble_eq_true rfl)⟩, hC.2.2.2.2 _ q266, trivial⟩ rfl hl.1 rfl (lv_room (Nat.le_of_ble_eq_true rfl)) dX6_next_172 ⟨(Nat.le_of_ble_eq_true rfl), (Nat.le_of_ble_eq_true rfl)⟩ ?_
            refine lv_if_eq (tgt := 230) hC.1 hC.2.1 dX6_next_175 (by decide) (fun c7 => ?_) (fun c7 => ?_)
            ·
              skip
              rw [bI_0] at c7
              have kq := c7
              have hst := cl_stop kq
              refine lv_aload_n hC.1 hC.2.1 dX6_next_230 rfl (lv_at hl 0 rfl) ?_
              refine lv_aload_n hC.1 hC.2.1 dX6_next_231 rfl (lv_at hl 0 rfl) ?_
              refine p_get hC hK hM 0 rfl in_X6 rfl 2 (by decide) q440 (fun x h => h) rfl dX6_next_232 ?_
              refine lv_aload_n hC.1 hC.2.1 dX6_next_235 rfl (lv_at hl 0 rfl) ?_
              refine p_get hC hK hM 0 rfl in_X6 rfl 4 (by decide) q442 (fun x h => h) rfl dX6_next_236 ?_
              refine lv_isub hC.1 hC.2.1 dX6_next_239 ?_
              rw [show fgv (upd (upd v 2 (nI j)) 4 (nI j)) (nI (j + i)) x 2 - fgv (upd (upd v 2 (nI j)) 4 (nI j)) (nI (j + i)) x 4 = nI i from by show nI (j + i) - nI j = nI i; rw [nI_subn (by omega), show j + i - j = i by omega]]
              refine lv_iconst (v := 3) hC.1 hC.2.1 dX6_next_240 (by decide) ?_
              refine lv_icmp_gt (tgt := 248) hC.1 hC.2.1 dX6_next_241 (by decide) (fun c8 => ?_) (fun c8 => ?_)
              ·
                have nc8 := Int32.not_le.mpr c8
                have hi3 := nlt_t (a := 3) (b := i) c8
                refine lv_iconst (v := 4) hC.1 hC.2.1 dX6_next_248 (by decide) ?_
                refine p_put (L' := [_, _]) hC hK hM 0 rfl in_X6 tyX6 tyX6_ok nmX6 rfl 3 (by decide) q441 (fun x h => h) rfl rfl rfl (Nat.le_of_ble_eq_true rfl) rfl rfl rfl dX6_next_249 (fun H locs hM => ?_)
                refine lv_goto (tgt := 280) hC.1 hC.2.1 dX6_next_252 (by decide) ?_
                refine W.widen (k := 9) (n := 1530) (Nat.le_of_ble_eq_true rfl) (Nat.le_of_ble_eq_true rfl) ?_
                refine p_vret hC hr hlocks hM dX6_next_280 ?_
                refine ⟨rfl, rdNx.of hM.2 rfl ⟨Or.inl rfl, Or.inr (Or.inr hN), trivial⟩ rfl rfl rfl ((nx_f hs hjl kl kf (e := j + i) (by rw [← hI161.2.2]; exact hst)).trans (by rw [if_neg (by omega)])) ⟨rfl, rfl, rfl, fun h => absurd (show (0 : Nat) = 3 from h) (by decide), fun h => absurd (show (0 : Nat) = 2 from h) (by decide)⟩⟩
              ·
                have nc8 := Int32.not_lt.mp c8
                have hi3 := nlt_f (a := 3) (b := i) c8
                refine lv_iconst (v := 2) hC.1 hC.2.1 dX6_next_244 (by decide) ?_
                refine lv_goto (tgt := 249) hC.1 hC.2.1 dX6_next_245 (by decide) ?_
                refine p_put (L' := [_, _]) hC hK hM 0 rfl in_X6 tyX6 tyX6_ok nmX6 rfl 3 (by decide) q441 (fun x h => h) rfl rfl rfl (Nat.le_of_ble_eq_true rfl) rfl rfl rfl dX6_next_249 (fun H locs hM => ?_)
                refine lv_goto (tgt := 280) hC.1 hC.2.1 dX6_next_252 (by decide) ?_
                refine W.widen (k := 9) (n := 1530) (Nat.le_of_ble_eq_true rfl) (Nat.le_of_ble_eq_true rfl) ?_
                refine p_vret hC hr hlocks hM dX6_next_280 ?_
                refine ⟨rfl, rdNx.of hM.2 rfl ⟨Or.inl rfl, Or.inr (Or.inr hN), trivial⟩ rfl rfl rfl ((nx_f hs hjl kl kf (e := j + i) (by rw [← hI161.2.2]; exact hst)).trans (by rw [if_pos (by omega)])) ⟨rfl, rfl, rfl, fun _ => by show x = fgL tp j (j + i - j); rw [hxi, show min i 3 = j + i - j by omega], fun h => absurd (show (3 : Nat) = 2 from h) (by decide)⟩⟩
            ·
              skip
              rw [bI_n0] at c7
              have kq := c7
              have hgo := cl_go (by decide) kq
              have hgl := hgo.1
              refine lv_aload_n hC.1 hC.2.1 dX6_next_178 rfl (lv_at hl 0 rfl) ?_
              refine lv_aload_n hC.1 hC.2.1 dX6_next_179 rfl (lv_at hl 0 rfl) ?_
              refine p_get hC hK hM 0 rfl in_X6 rfl 2 (by decide) q440 (fun x h => h) rfl dX6_next_180 ?_
              refine lv_aload_n hC.1 hC.2.1 dX6_next_183 rfl (lv_at hl 0 rfl) ?_
              refine p_get hC hK hM 0 rfl in_X6 rfl 4 (by decide) q442 (fun x h => h) rfl dX6_next_184 ?_
              refine lv_isub hC.1 hC.2.1 dX6_next_187 ?_
              rw [show fgv (upd (upd v 2 (nI j)) 4 (nI j)) (nI (j + i)) x 2 - fgv (upd (upd v 2 (nI j)) 4 (nI j)) (nI (j + i)) x 4 = nI i from by show nI (j + i) - nI j = nI i; rw [nI_subn (by omega), show j + i - j = i by omega]]
              refine lv_iconst (v := 3) hC.1 hC.2.1 dX6_next_188 (by decide) ?_
              refine lv_icmp_ge (tgt := 210) hC.1 hC.2.1 dX6_next_189 (by decide) (fun c9 => ?_) (fun c9 => ?_)
              ·
                have nc9 := Int32.not_lt.mpr c9
                have hi3 := nle_t (a := 3) (b := i) c9
                refine lv_aload_n hC.1 hC.2.1 dX6_next_210 rfl (lv_at hl 0 rfl) ?_
                refine p_get hC hK hM 0 rfl in_X6 rfl 5 (by decide) q443 (fun x h => h) rfl dX6_next_211 ?_
                refine p_put (L' := [_, _]) hC hK hM 0 rfl in_X6 tyX6 tyX6_ok nmX6 rfl 5 (by decide) q443 (fun x h => h) rfl rfl rfl (Nat.le_of_ble_eq_true rfl) rfl rfl rfl dX6_next_214 (fun H locs hM => ?_)
                refine lv_aload_n hC.1 hC.2.1 dX6_next_217 rfl (lv_at hl 0 rfl) ?_
                refine lv_dup hC.1 hC.2.1 dX6_next_218 rfl ?_
                refine p_get hC hK hM 0 rfl in_X6 rfl 2 (by decide) q440 (fun x h => h) rfl dX6_next_219 ?_
                rw [show upd (fgv (upd (upd v 2 (nI j)) 4 (nI j)) (nI (j + i)) x) 5 _ 2 = nI (j + i) from rfl]
                refine lv_iconst (v := 1) hC.1 hC.2.1 dX6_next_222 (by decide) ?_
                refine lv_iadd hC.1 hC.2.1 dX6_next_223 ?_
                rw [nI_1]
                refine p_put (L' := [_, _]) hC hK hM 0 rfl in_X6 tyX6 tyX6_ok nmX6 rfl 2 (by decide) q440 (fun x h => h) rfl rfl rfl (Nat.le_of_ble_eq_true rfl) rfl rfl rfl dX6_next_224 (fun H locs hM => ?_)
                refine lv_goto (tgt := 161) hC.1 hC.2.1 dX6_next_227 (by decide) ?_
                exact ih161 ((i + 1, x)) _ _ _ (by show L - (j + (i + 1)) < L - (j + i); omega) ⟨⟨by omega, by rw [hxi, show min i 3 = min (i + 1) 3 by omega], hgo.2.symm.trans hI161.2.2⟩, (by rw [fgv_s] at hM; exact hM), lv_sub hl [0] rfl⟩
              ·
                have nc9 := Int32.not_le.mp c9
                have hi3 := nle_f (a := 3) (b := i) c9
                refine lv_bipush (v := 10) hC.1 hC.2.1 dX6_next_192 (by decide) ?_
                refine lv_aload_n hC.1 hC.2.1 dX6_next_194 rfl (lv_at hl 0 rfl) ?_
                refine p_get hC hK hM 0 rfl in_X6 rfl 5 (by decide) q443 (fun x h => h) rfl dX6_next_195 ?_
                refine lv_imul hC.1 hC.2.1 dX6_next_198 ?_
                refine lv_aload_n hC.1 hC.2.1 dX6_next_199 rfl (lv_at hl 0 rfl) ?_
                refine p_cVe (L' := [_, _]) hC hK hM (hM.at 0 rfl) rfl (cl_look l κ _ a (fgv (upd (upd v 2 (nI j)) 4 (nI j)) (nI (j + i)) x) rd no cv nd g cw tp L (j + i) (hM.at 0 rfl) (hM.at 1 rfl) h0 h1 hL rfl (by omega) htp) (cwV 0 hC.2.2.2.2 (lw_V q472 q474 qs5 q79 q475) rfl rfl rfl (by decide +kernel) ⟨(Nat.le_of_ble_eq_true rfl), (Nat.le_of_ble_eq_true rfl)⟩) rfl hl.1 rfl (lv_room (Nat.le_of_ble_eq_true rfl)) dX6_next_200 ⟨(Nat.le_of_ble_eq_true rfl), (Nat.le_of_ble_eq_true rfl)⟩ rfl hM.2 (fun H locs hM => ?_)
                refine lv_iadd hC.1 hC.2.1 dX6_next_203 ?_
                refine lv_bipush (v := 48) hC.1 hC.2.1 dX6_next_204 (by decide) ?_
                refine lv_isub hC.1 hC.2.1 dX6_next_206 ?_
                refine lv_goto (tgt := 214) hC.1 hC.2.1 dX6_next_207 (by decide) ?_
                refine p_put (L' := [_, _]) hC hK hM 0 rfl in_X6 tyX6 tyX6_ok nmX6 rfl 5 (by decide) q443 (fun x h => h) rfl rfl rfl (Nat.le_of_ble_eq_true rfl) rfl rfl rfl dX6_next_214 (fun H locs hM => ?_)
                refine lv_aload_n hC.1 hC.2.1 dX6_next_217 rfl (lv_at hl 0 rfl) ?_
                refine lv_dup hC.1 hC.2.1 dX6_next_218 rfl ?_
                refine p_get hC hK hM 0 rfl in_X6 rfl 2 (by decide) q440 (fun x h => h) rfl dX6_next_219 ?_
                rw [show upd (fgv (upd (upd v 2 (nI j)) 4 (nI j)) (nI (j + i)) x) 5 _ 2 = nI (j + i) from rfl]
                refine lv_iconst (v := 1) hC.1 hC.2.1 dX6_next_222 (by decide) ?_
                refine lv_iadd hC.1 hC.2.1 dX6_next_223 ?_
                rw [nI_1]
                refine p_put (L' := [_, _]) hC hK hM 0 rfl in_X6 tyX6 tyX6_ok nmX6 rfl 2 (by decide) q440 (fun x h => h) rfl rfl rfl (Nat.le_of_ble_eq_true rfl) rfl rfl rfl dX6_next_224 (fun H locs hM => ?_)
                refine lv_goto (tgt := 161) hC.1 hC.2.1 dX6_next_227 (by decide) ?_
                exact ih161 ((i + 1, 10 * x + tokB tp L (j + i) - 48)) _ _ _ (by show L - (j + (i + 1)) < L - (j + i); omega) ⟨⟨by omega, by rw [tokB_lt hgo.1, show min (i + 1) 3 = min i 3 + 1 by omega, fgL, ← hxi, show j + min i 3 = j + i by omega], hgo.2.symm.trans hI161.2.2⟩, (by rw [fgv_s] at hM; exact hM), lv_sub hl [0] rfl⟩
        ·
          skip
          rw [bI_n0] at c4
          have kl := c4
          refine p_new (L' := fun q => [_, _, _]) hC hK hM (ci := 14) in_J10 tyJ10 tyJ10_ok q480 q481 q81 rfl (fs := [.null, .int 0, .int 0, .int 0]) (by decide) (Nat.le_of_ble_eq_true rfl) (Nat.le_of_ble_eq_true rfl) dX6_next_72 (fun q => rfl) (fun q_10 H hq_10 hM => ?_)
          refine lv_dup hC.1 hC.2.1 dX6_next_75 rfl ?_
          refine o_cI hC hK hM.1 (cs_init l κ _ q_10 (hM.at 2 rfl)) (cwI 0 hC.2.2.2.2 (lw_meth q484) rfl rfl rfl (hC.2.2.2.2 _ q81) (hC.2.2.2.2 _ q482) (hC.2.2.2.2 _ q483) rfl (by decide +kernel) ⟨(Nat.le_of_ble_eq_true rfl), (Nat.le_of_ble_eq_true rfl)⟩) rfl hl.1 rfl (lv_room (Nat.le_of_ble_eq_true rfl)) dX6_next_76 ⟨(Nat.le_of_ble_eq_true rfl), (Nat.le_of_ble_eq_true rfl)⟩ (fun rv O1 H locs hp hM1 => ?_)
          obtain ⟨sq, rfl, rfl⟩ := hp
          have hM := hM.set (L' := [_, _, _]) (i := 2) rfl hM1 rfl
          refine lv_astore_n (lv' := [(2, _), (1, _), (0, _)]) hC.1 hC.2.1 dX6_next_79 rfl hl (by decide) rfl (fun ls hl => ?_)
          refine w_indC (α := Nat × Nat × Nat × Nat × Nat × (Nat → Int32)) 80 (fun (x_ : Nat × Nat × Nat × Nat × Nat × (Nat → Int32)) => (fun (i : Nat) (gr : Nat) (cap : Nat) (sl : Nat) (q : Nat) (f : Nat → Int32) => L - (j + i)) x_.1 x_.2.1 x_.2.2.1 x_.2.2.2.1 x_.2.2.2.2.1 x_.2.2.2.2.2) (fun (x_ : Nat × Nat × Nat × Nat × Nat × (Nat → Int32)) => (fun (i : Nat) (gr : Nat) (cap : Nat) (sl : Nat) (q : Nat) (f : Nat → Int32) => 2 + gr) x_.1 x_.2.1 x_.2.2.1 x_.2.2.2.1 x_.2.2.2.2.1 x_.2.2.2.2.2) (fun (x_ : Nat × Nat × Nat × Nat × Nat × (Nat → Int32)) => (fun (i : Nat) (gr : Nat) (cap : Nat) (sl : Nat) (q : Nat) (f : Nat → Int32) => 20 + sl) x_.1 x_.2.1 x_.2.2.1 x_.2.2.2.1 x_.2.2.2.2.1 x_.2.2.2.2.2) (fun (x_ : Nat × Nat × Nat × Nat × Nat × (Nat → Int32)) (H : Heap) (locs : List Loc) (ls : Array Slot) => (fun (i : Nat) (gr : Nat) (cap : Nat) (sl : Nat) (q : Nat) (f : Nat → Int32) => (grI gr cap sl ∧ i ≤ cap ∧ j + i ≤ L ∧ spn pLe tp (L - (j + i)) (j + i) = spn pLe tp (L - j) j ∧ (∀ u, fits .byte (.int (f u)) = true) ∧ ∀ u, u < i → f u = tp (j + u)) ∧ PS D ac A s.heap O [(a, rrU (upd (upd (upd v 2 (nI j)) 4 (nI j)) 2 (nI (j + i))) rd), (no, nsU cv nd g cw), (q_10, sbU q cap f (nI i))] H locs ∧ lv_has ls 3 [(0, .ref a), (2, .ref q_10)]) x_.1 x_.2.1 x_.2.2.1 x_.2.2.2.1 x_.2.2.2.2.1 x_.2.2.2.2.2) ?_ ((0, 0, 16, 0, sq, fun _ => 0)) (Nat.le_of_ble_eq_true rfl) (Nat.le_of_ble_eq_true rfl) ⟨⟨Or.inl ⟨rfl, rfl, rfl⟩, by omega, by omega, rfl, fun _ => rfl, fun u hu => absurd hu (by omega)⟩, (by rw [upd4c] at hM; exact hM), lv_sub hl [2, 0] rfl⟩
          intro x_ H locs ls hI ih80
          obtain ⟨i, gr, cap, sl, q, f⟩ := x_
          dsimp only at hI
          obtain ⟨hI80, hM, hl⟩ := hI
          show W _ _ _ _ _ _ _ _ _ _ _ _ (2 + gr) (20 + sl) _ _
          have hgb := hI80.1.b
          have hic : i ≤ cap := hI80.2.1
          have hij : j + i ≤ L := hI80.2.2.1
          refine lv_aload_n hC.1 hC.2.1 dX6_next_80 rfl (lv_at hl 0 rfl) ?_
          refine p_cVe (L' := [_, _, _]) hC hK hM (hM.at 0 rfl) rfl (cl_look l κ _ a (upd (upd (upd v 2 (nI j)) 4 (nI j)) 2 (nI (j + i))) rd no cv nd g cw tp L (j + i) (hM.at 0 rfl) (hM.at 1 rfl) h0 h1 hL rfl (by omega) htp) (cwV 0 hC.2.2.2.2 (lw_V q472 q474 qs5 q79 q475) rfl rfl rfl (by decide +kernel) ⟨(Nat.le_of_ble_eq_true rfl), (Nat.le_of_ble_eq_true rfl)⟩) rfl hl.1 rfl (lv_room (Nat.le_of_ble_eq_true rfl)) dX6_next_81 ⟨by dsimp only; omega, by dsimp only; omega⟩ rfl hM.2 (fun H locs hM => ?_)
          refine lv_i2l hC.1 hC.2.1 dX6_next_84 rfl ?_
          refine lv_ldc2 hC.1 hC.2.1 hC.2.2.2.1 (hC.2.2.2.2 _ q477) dX6_next_85 ?_
          refine lv_ldc2 hC.1 hC.2.1 hC.2.2.2.1 (hC.2.2.2.2 _ q478) dX6_next_88 ?_
          refine s_cin hC ((cc_isIn l (a := 97) (b := 122) rfl rfl rfl)) ⟨va_cnB 3 hC.2.2.2.2 (lw_meth q267) rfl rfl rfl (hK.1.2.1 _ q479 rfl) (hC.2.2.2.2 _ q63) (by decide +kernel) ⟨(Nat.le_of_ble_eq_true rfl), (Nat.le_of_ble_eq_true rfl)⟩, hC.2.2.2.2 _ q266, trivial⟩ rfl hl.1 rfl (lv_room (Nat.le_of_ble_eq_true rfl)) dX6_next_91 ⟨by dsimp only; omega, by dsimp only; omega⟩ ?_
          refine lv_if_eq (tgt := 126) hC.1 hC.2.1 dX6_next_94 (by decide) (fun c11 => ?_) (fun c11 => ?_)
          ·
            skip
            rw [bI_0] at c11
            have kq := c11
            have hst := cl_stop kq
            refine lv_aload_n hC.1 hC.2.1 dX6_next_126 rfl (lv_at hl 0 rfl) ?_
            refine lv_aload_n hC.1 hC.2.1 dX6_next_127 rfl (lv_at hl 1 rfl) ?_
            refine o_cV hC hK hM.1 (hM.at 2 rfl) rfl (cs_toS l κ _ q_10 q cap f i (hM.at 2 rfl) hI80.2.2.2.2.1 (by omega) hic (by omega)) (cwV 0 hC.2.2.2.2 (lw_V q604 q605 q606 q81 q607) rfl rfl rfl (by decide +kernel) ⟨(Nat.le_of_ble_eq_true rfl), (Nat.le_of_ble_eq_true rfl)⟩) rfl hl.1 rfl (lv_room (Nat.le_of_ble_eq_true rfl)) dX6_next_128 ⟨by dsimp only; omega, by dsimp only; omega⟩ (fun rv O1 H locs hp hM1 => ?_)
            obtain ⟨sb2, r2, g2, rfl, hz0, hzO, hzg⟩ := hp
            rw [hzO] at hM1
            obtain ⟨hz1, hz2, hM⟩ := PS.app (L' := [_, _, _, _]) hM.2 hz0 hM1 rfl
            refine p_putr (L' := [_, _, _, _]) hC hK hM 0 rfl in_X6 tyX6 tyX6_ok nmX6 rfl 6 (by decide) q444 (fun x h => h) rfl rfl rfl (Nat.le_of_ble_eq_true rfl) rfl rfl rfl dX6_next_131 (fun H locs hM => ?_)
            refine lv_aload_n hC.1 hC.2.1 dX6_next_134 rfl (lv_at hl 0 rfl) ?_
            refine lv_iconst (v := 1) hC.1 hC.2.1 dX6_next_135 (by decide) ?_
            refine p_put (L' := [_, _, _, _]) hC hK hM 0 rfl in_X6 tyX6 tyX6_ok nmX6 rfl 3 (by decide) q441 (fun x h => h) rfl rfl rfl (Nat.le_of_ble_eq_true rfl) rfl rfl rfl dX6_next_136 (fun H locs hM => ?_)
            refine lv_goto (tgt := 280) hC.1 hC.2.1 dX6_next_139 (by decide) ?_
            refine W.widen (k := 9) (n := 1530) (by first | exact Nat.le_of_ble_eq_true rfl | (dsimp only; omega)) (by first | exact Nat.le_of_ble_eq_true rfl | (dsimp only; omega)) ?_
            refine p_vret hC hr hlocks hM dX6_next_280 ?_
            refine ⟨rfl, rdNx.of hM.2 rfl ⟨Or.inl rfl, Or.inr (Or.inr hN), Or.inr (Or.inl hq_10), Or.inr (Or.inl hz1), trivial⟩ rfl rfl rfl (nx_w hs hjl kl (e := j + i) (by rw [← hI80.2.2.2.1]; exact hst)) ⟨rfl, rfl, rfl, fun h => absurd (show (2 : Nat) = 3 from h) (by decide), fun _ => ⟨r2, g2, ?_, ?_⟩⟩⟩
            · show oups O _ _ = some (strU r2 (j + i - j) g2); rw [show j + i - j = i by omega]; exact oups_at hM.2 (i := 3) rfl
            · intro u hu; have hu2 : u < j + i - j := hu; rw [hzg u (by omega)]; exact hI80.2.2.2.2.2 u (by omega)
          ·
            skip
            rw [bI_n0] at c11
            have kq := c11
            have hgo := cl_go (by decide) kq
            have hx : 0 ≤ tp (j + i) ∧ tp (j + i) ≤ 127 := by rw [tokB_lt hgo.1] at kq; exact ⟨Int32.le_trans (by decide) kq.1, Int32.le_trans kq.2 (by decide)⟩
            have hxb : -128 ≤ tp (j + i) ∧ tp (j + i) ≤ 127 := ⟨Int32.le_trans (by decide) hx.1, hx.2⟩
            have hgl := hgo.1
            refine lv_aload_n hC.1 hC.2.1 dX6_next_97 rfl (lv_at hl 1 rfl) ?_
            rcases hI80.1.c hic (by omega) with hgc | hgc | hgc | hgc | hgc | hgc
            ·
              skip
              refine lv_aload_n hC.1 hC.2.1 dX6_next_98 rfl (lv_at hl 0 rfl) ?_
              refine p_get hC hK hM 0 rfl in_X6 rfl 0 (by decide) q438 (fun x h => h) rfl dX6_next_99 ?_
              rw [h0]
              refine lv_aload_n hC.1 hC.2.1 dX6_next_102 rfl (lv_at hl 0 rfl) ?_
              refine lv_dup hC.1 hC.2.1 dX6_next_103 rfl ?_
              refine p_get hC hK hM 0 rfl in_X6 rfl 2 (by decide) q440 (fun x h => h) rfl dX6_next_104 ?_
              rw [upd_s]
              refine lv_dup_x1 hC.1 hC.2.1 dX6_next_107 rfl rfl ?_
              refine lv_iconst (v := 1) hC.1 hC.2.1 dX6_next_108 (by decide) ?_
              refine lv_iadd hC.1 hC.2.1 dX6_next_109 ?_
              rw [nI_1]
              refine p_put (L' := [_, _, _]) hC hK hM 0 rfl in_X6 tyX6 tyX6_ok nmX6 rfl 2 (by decide) q440 (fun x h => h) rfl rfl rfl (Nat.le_of_ble_eq_true rfl) rfl rfl rfl dX6_next_110 (fun H locs hM => ?_)
              refine p_bald hC hK hM 1 rfl 1 rfl rfl (n := (j + i)) rfl (by show _ < 400; omega) (by decide) dX6_next_113 ?_
              refine lv_sipush (v := 255) hC.1 hC.2.1 dX6_next_114 (by decide) ?_
              refine lv_iand hC.1 hC.2.1 dX6_next_117 ?_
              refine lv_i2c hC.1 hC.2.1 dX6_next_118 rfl ?_
              rw [sc_c2, htp (j + i) (by omega)]
              refine p_cVe (L' := [_, _, _]) hC hK hM (hM.at 2 rfl) rfl (cs_sapp0 l κ _ q_10 q cap f i (tp (j + i)) (hM.at 2 rfl) hx hgc (by omega)) (cwV 1 hC.2.2.2.2 (lw_V q511 q512 q513 q81 q514) rfl rfl rfl (by decide +kernel) ⟨(Nat.le_of_ble_eq_true rfl), (Nat.le_of_ble_eq_true rfl)⟩) rfl hl.1 rfl (lv_room (Nat.le_of_ble_eq_true rfl)) dX6_next_119 ⟨by dsimp only; omega, by dsimp only; omega⟩ (oups_set hM.2 (i := 2) rfl) (oad_nd hM.2 (i := 2) rfl rfl) (fun H locs hM => ?_)
              refine lv_pop hC.1 hC.2.1 dX6_next_122 rfl ?_
              refine lv_goto (tgt := 80) hC.1 hC.2.1 dX6_next_123 (by decide) ?_
              refine W.widen (k := 2 + gr) (n := 20 + sl) (by dsimp only; omega) (by dsimp only; omega) ?_
              exact ih80 ((i + 1, gr, cap, sl, q, upd f i (tp (j + i)))) _ _ _ (by show L - (j + (i + 1)) < L - (j + i); omega) ⟨⟨hI80.1, by show i + 1 ≤ cap; omega, by show j + (i + 1) ≤ L; omega, hgo.2.symm.trans hI80.2.2.2.1, fits_upd (hI80.2.2.2.2.1) hxb, cnt_0 hI80.2.2.2.2.2⟩, (by rw [upd_upd] at hM; exact hM), lv_sub hl [0, 1] rfl⟩
            ·
              skip
              refine lv_aload_n hC.1 hC.2.1 dX6_next_98 rfl (lv_at hl 0 rfl) ?_
              refine p_get hC hK hM 0 rfl in_X6 rfl 0 (by decide) q438 (fun x h => h) rfl dX6_next_99 ?_
              rw [h0]
              refine lv_aload_n hC.1 hC.2.1 dX6_next_102 rfl (lv_at hl 0 rfl) ?_
              refine lv_dup hC.1 hC.2.1 dX6_next_103 rfl ?_
              refine p_get hC hK hM 0 rfl in_X6 rfl 2 (by decide) q440 (fun x h => h) rfl dX6_next_104 ?_
              rw [upd_s]
              refine lv_dup_x1 hC.1 hC.2.1 dX6_next_107 rfl rfl ?_
              refine lv_iconst (v := 1) hC.1 hC.2.1 dX6_next_108 (by decide) ?_
              refine lv_iadd hC.1 hC.2.1 dX6_next_109 ?_
              rw [nI_1]
              refine p_put (L' := [_, _, _]) hC hK hM 0 rfl in_X6 tyX6 tyX6_ok nmX6 rfl 2 (by decide) q440 (fun x h => h) rfl rfl rfl (Nat.le_of_ble_eq_true rfl) rfl rfl rfl dX6_next_110 (fun H locs hM => ?_)
              refine p_bald hC hK hM 1 rfl 1 rfl rfl (n := (j + i)) rfl (by show _ < 400; omega) (by decide) dX6_next_113 ?_
              refine lv_sipush (v := 255) hC.1 hC.2.1 dX6_next_114 (by decide) ?_
              refine lv_iand hC.1 hC.2.1 dX6_next_117 ?_
              refine lv_i2c hC.1 hC.2.1 dX6_next_118 rfl ?_
              rw [sc_c2, htp (j + i) (by omega)]
              refine o_cV hC hK hM.1 (hM.at 2 rfl) rfl (cs_sappG16 l κ _ q_10 q cap f i (tp (j + i)) (hM.at 2 rfl) hx hI80.2.2.2.2.1 hgc.1 (by omega)) (cwV 1 hC.2.2.2.2 (lw_V q511 q512 q513 q81 q514) rfl rfl rfl (by decide +kernel) ⟨(Nat.le_of_ble_eq_true rfl), (Nat.le_of_ble_eq_true rfl)⟩) rfl hl.1 rfl (lv_room (Nat.le_of_ble_eq_true rfl)) dX6_next_119 ⟨by dsimp only; omega, by dsimp only; omega⟩ (fun rv O1 H locs hp hM1 => ?_)
              obtain ⟨r, rfl, rfl⟩ := hp
              have hM := hM.set (L' := [_, _, _]) (i := 2) rfl hM1 rfl
              refine lv_pop hC.1 hC.2.1 dX6_next_122 rfl ?_
              refine lv_goto (tgt := 80) hC.1 hC.2.1 dX6_next_123 (by decide) ?_
              refine W.widen (k := 2 + (gr + 1)) (n := 20 + (sl + 34)) (by dsimp only; omega) (by dsimp only; omega) ?_
              exact ih80 ((i + 1, gr + 1, cap + (cap + 2), sl + 34, r, upd (va_cpy f (fun _ => 0) 0 0 cap) i (tp (j + i)))) _ _ _ (by show L - (j + (i + 1)) < L - (j + i); omega) ⟨⟨grI.s16 hgc, by show i + 1 ≤ cap + (cap + 2); omega, by show j + (i + 1) ≤ L; omega, hgo.2.symm.trans hI80.2.2.2.1, fits_upd (fits_cpy hI80.2.2.2.2.1 _) hxb, cnt_g hI80.2.2.2.2.2 hgc.1⟩, (by rw [upd_upd] at hM; exact hM), lv_sub hl [0, 1] rfl⟩
            ·
              skip
              refine lv_aload_n hC.1 hC.2.1 dX6_next_98 rfl (lv_at hl 0 rfl) ?_
              refine p_get hC hK hM 0 rfl in_X6 rfl 0 (by decide) q438 (fun x h => h) rfl dX6_next_99 ?_
              rw [h0]
              refine lv_aload_n hC.1 hC.2.1 dX6_next_102 rfl (lv_at hl 0 rfl) ?_
              refine lv_dup hC.1 hC.2.1 dX6_next_103 rfl ?_
              refine p_get hC hK hM 0 rfl in_X6 rfl 2 (by decide) q440 (fun x h => h) rfl dX6_next_104 ?_
              rw [upd_s]
              refine lv_dup_x1 hC.1 hC.2.1 dX6_next_107 rfl rfl ?_
              refine lv_iconst (v := 1) hC.1 hC.2.1 dX6_next_108 (by decide) ?_
              refine lv_iadd hC.1 hC.2.1 dX6_next_109 ?_
              rw [nI_1]
              refine p_put (L' := [_, _, _]) hC hK hM 0 rfl in_X6 tyX6 tyX6_ok nmX6 rfl 2 (by decide) q440 (fun x h => h) rfl rfl rfl (Nat.le_of_ble_eq_true rfl) rfl rfl rfl dX6_next_110 (fun H locs hM => ?_)
              refine p_bald hC hK hM 1 rfl 1 rfl rfl (n := (j + i)) rfl (by show _ < 400; omega) (by decide) dX6_next_113 ?_
              refine lv_sipush (v := 255) hC.1 hC.2.1 dX6_next_114 (by decide) ?_
              refine lv_iand hC.1 hC.2.1 dX6_next_117 ?_
              refine lv_i2c hC.1 hC.2.1 dX6_next_118 rfl ?_
              rw [sc_c2, htp (j + i) (by omega)]
              refine o_cV hC hK hM.1 (hM.at 2 rfl) rfl (cs_sappG34 l κ _ q_10 q cap f i (tp (j + i)) (hM.at 2 rfl) hx hI80.2.2.2.2.1 hgc.1 (by omega)) (cwV 1 hC.2.2.2.2 (lw_V q511 q512 q513 q81 q514) rfl rfl rfl (by decide +kernel) ⟨(Nat.le_of_ble_eq_true rfl), (Nat.le_of_ble_eq_true rfl)⟩) rfl hl.1 rfl (lv_room (Nat.le_of_ble_eq_true rfl)) dX6_next_119 ⟨by dsimp only; omega, by dsimp only; omega⟩ (fun rv O1 H locs hp hM1 => ?_)
              obtain ⟨r, rfl, rfl⟩ := hp
              have hM := hM.set (L' := [_, _, _]) (i := 2) rfl hM1 rfl
              refine lv_pop hC.1 hC.2.1 dX6_next_122 rfl ?_
              refine lv_goto (tgt := 80) hC.1 hC.2.1 dX6_next_123 (by decide) ?_
              refine W.widen (k := 2 + (gr + 1)) (n := 20 + (sl + 70)) (by dsimp only; omega) (by dsimp only; omega) ?_
              exact ih80 ((i + 1, gr + 1, cap + (cap + 2), sl + 70, r, upd (va_cpy f (fun _ => 0) 0 0 cap) i (tp (j + i)))) _ _ _ (by show L - (j + (i + 1)) < L - (j + i); omega) ⟨⟨grI.s34 hgc, by show i + 1 ≤ cap + (cap + 2); omega, by show j + (i + 1) ≤ L; omega, hgo.2.symm.trans hI80.2.2.2.1, fits_upd (fits_cpy hI80.2.2.2.2.1 _) hxb, cnt_g hI80.2.2.2.2.2 hgc.1⟩, (by rw [upd_upd] at hM; exact hM), lv_sub hl [0, 1] rfl⟩
            ·
              skip
              refine lv_aload_n hC.1 hC.2.1 dX6_next_98 rfl (lv_at hl 0 rfl) ?_
              refine p_get hC hK hM 0 rfl in_X6 rfl 0 (by decide) q438 (fun x h => h) rfl dX6_next_99 ?_
              rw [h0]
              refine lv_aload_n hC.1 hC.2.1 dX6_next_102 rfl (lv_at hl 0 rfl) ?_
              refine lv_dup hC.1 hC.2.1 dX6_next_103 rfl ?_
              refine p_get hC hK hM 0 rfl in_X6 rfl 2 (by decide) q440 (fun x h => h) rfl dX6_next_104 ?_
              rw [upd_s]
              refine lv_dup_x1 hC.1 hC.2.1 dX6_next_107 rfl rfl ?_
              refine lv_iconst (v := 1) hC.1 hC.2.1 dX6_next_108 (by decide) ?_
              refine lv_iadd hC.1 hC.2.1 dX6_next_109 ?_
              rw [nI_1]
              refine p_put (L' := [_, _, _]) hC hK hM 0 rfl in_X6 tyX6 tyX6_ok nmX6 rfl 2 (by decide) q440 (fun x h => h) rfl rfl rfl (Nat.le_of_ble_eq_true rfl) rfl rfl rfl dX6_next_110 (fun H locs hM => ?_)
              refine p_bald hC hK hM 1 rfl 1 rfl rfl (n := (j + i)) rfl (by show _ < 400; omega) (by decide) dX6_next_113 ?_
              refine lv_sipush (v := 255) hC.1 hC.2.1 dX6_next_114 (by decide) ?_
              refine lv_iand hC.1 hC.2.1 dX6_next_117 ?_
              refine lv_i2c hC.1 hC.2.1 dX6_next_118 rfl ?_
              rw [sc_c2, htp (j + i) (by omega)]
              refine o_cV hC hK hM.1 (hM.at 2 rfl) rfl (cs_sappG70 l κ _ q_10 q cap f i (tp (j + i)) (hM.at 2 rfl) hx hI80.2.2.2.2.1 hgc.1 (by omega)) (cwV 1 hC.2.2.2.2 (lw_V q511 q512 q513 q81 q514) rfl rfl rfl (by decide +kernel) ⟨(Nat.le_of_ble_eq_true rfl), (Nat.le_of_ble_eq_true rfl)⟩) rfl hl.1 rfl (lv_room (Nat.le_of_ble_eq_true rfl)) dX6_next_119 ⟨by dsimp only; omega, by dsimp only; omega⟩ (fun rv O1 H locs hp hM1 => ?_)
              obtain ⟨r, rfl, rfl⟩ := hp
              have hM := hM.set (L' := [_, _, _]) (i := 2) rfl hM1 rfl
              refine lv_pop hC.1 hC.2.1 dX6_next_122 rfl ?_
              refine lv_goto (tgt := 80) hC.1 hC.2.1 dX6_next_123 (by decide) ?_
              refine W.widen (k := 2 + (gr + 1)) (n := 20 + (sl + 142)) (by dsimp only; omega) (by dsimp only; omega) ?_
              exact ih80 ((i + 1, gr + 1, cap + (cap + 2), sl + 142, r, upd (va_cpy f (fun _ => 0) 0 0 cap) i (tp (j + i)))) _ _ _ (by show L - (j + (i + 1)) < L - (j + i); omega) ⟨⟨grI.s70 hgc, by show i + 1 ≤ cap + (cap + 2); omega, by show j + (i + 1) ≤ L; omega, hgo.2.symm.trans hI80.2.2.2.1, fits_upd (fits_cpy hI80.2.2.2.2.1 _) hxb, cnt_g hI80.2.2.2.2.2 hgc.1⟩, (by rw [upd_upd] at hM; exact hM), lv_sub hl [0, 1] rfl⟩
            ·
              skip
              refine lv_aload_n hC.1 hC.2.1 dX6_next_98 rfl (lv_at hl 0 rfl) ?_
              refine p_get hC hK hM 0 rfl in_X6 rfl 0 (by decide) q438 (fun x h => h) rfl dX6_next_99 ?_
              rw [h0]
              refine lv_aload_n hC.1 hC.2.1 dX6_next_102 rfl (lv_at hl 0 rfl) ?_
              refine lv_dup hC.1 hC.2.1 dX6_next_103 rfl ?_
              refine p_get hC hK hM 0 rfl in_X6 rfl 2 (by decide) q440 (fun x h => h) rfl dX6_next_104 ?_
              rw [upd_s]
              refine lv_dup_x1 hC.1 hC.2.1 dX6_next_107 rfl rfl ?_
              refine lv_iconst (v := 1) hC.1 hC.2.1 dX6_next_108 (by decide) ?_
              refine lv_iadd hC.1 hC.2.1 dX6_next_109 ?_
              rw [nI_1]
              refine p_put (L' := [_, _, _]) hC hK hM 0 rfl in_X6 tyX6 tyX6_ok nmX6 rfl 2 (by decide) q440 (fun x h => h) rfl rfl rfl (Nat.le_of_ble_eq_true rfl) rfl rfl rfl dX6_next_110 (fun H locs hM => ?_)
              refine p_bald hC hK hM 1 rfl 1 rfl rfl (n := (j + i)) rfl (by show _ < 400; omega) (by decide) dX6_next_113 ?_
              refine lv_sipush (v := 255) hC.1 hC.2.1 dX6_next_114 (by decide) ?_
              refine lv_iand hC.1 hC.2.1 dX6_next_117 ?_
              refine lv_i2c hC.1 hC.2.1 dX6_next_118 rfl ?_
              rw [sc_c2, htp (j + i) (by omega)]
              refine o_cV hC hK hM.1 (hM.at 2 rfl) rfl (cs_sappG142 l κ _ q_10 q cap f i (tp (j + i)) (hM.at 2 rfl) hx hI80.2.2.2.2.1 hgc.1 (by omega)) (cwV 1 hC.2.2.2.2 (lw_V q511 q512 q513 q81 q514) rfl rfl rfl (by decide +kernel) ⟨(Nat.le_of_ble_eq_true rfl), (Nat.le_of_ble_eq_true rfl)⟩) rfl hl.1 rfl (lv_room (Nat.le_of_ble_eq_true rfl)) dX6_next_119 ⟨by dsimp only; omega, by dsimp only; omega⟩ (fun rv O1 H locs hp hM1 => ?_)
              obtain ⟨r, rfl, rfl⟩ := hp
              have hM := hM.set (L' := [_, _, _]) (i := 2) rfl hM1 rfl
              refine lv_pop hC.1 hC.2.1 dX6_next_122 rfl ?_
              refine lv_goto (tgt := 80) hC.1 hC.2.1 dX6_next_123 (by decide) ?_
              refine W.widen (k := 2 + (gr + 1)) (n := 20 + (sl + 286)) (by dsimp only; omega) (by dsimp only; omega) ?_
              exact ih80 ((i + 1, gr + 1, cap + (cap + 2), sl + 286, r, upd (va_cpy f (fun _ => 0) 0 0 cap) i (tp (j + i)))) _ _ _ (by show L - (j + (i + 1)) < L - (j + i); omega) ⟨⟨grI.s142 hgc, by show i + 1 ≤ cap + (cap + 2); omega, by show j + (i + 1) ≤ L; omega, hgo.2.symm.trans hI80.2.2.2.1, fits_upd (fits_cpy hI80.2.2.2.2.1 _) hxb, cnt_g hI80.2.2.2.2.2 hgc.1⟩, (by rw [upd_upd] at hM; exact hM), lv_sub hl [0, 1] rfl⟩
            ·
              skip
              refine lv_aload_n hC.1 hC.2.1 dX6_next_98 rfl (lv_at hl 0 rfl) ?_
              refine p_get hC hK hM 0 rfl in_X6 rfl 0 (by decide) q438 (fun x h => h) rfl dX6_next_99 ?_
              rw [h0]
              refine lv_aload_n hC.1 hC.2.1 dX6_next_102 rfl (lv_at hl 0 rfl) ?_
              refine lv_dup hC.1 hC.2.1 dX6_next_103 rfl ?_
              refine p_get hC hK hM 0 rfl in_X6 rfl 2 (by decide) q440 (fun x h => h) rfl dX6_next_104 ?_
              rw [upd_s]
              refine lv_dup_x1 hC.1 hC.2.1 dX6_next_107 rfl rfl ?_
              refine lv_iconst (v := 1) hC.1 hC.2.1 dX6_next_108 (by decide) ?_
              refine lv_iadd hC.1 hC.2.1 dX6_next_109 ?_
              rw [nI_1]
              refine p_put (L' := [_, _, _]) hC hK hM 0 rfl in_X6 tyX6 tyX6_ok nmX6 rfl 2 (by decide) q440 (fun x h => h) rfl rfl rfl (Nat.le_of_ble_eq_true rfl) rfl rfl rfl dX6_next_110 (fun H locs hM => ?_)
              refine p_bald hC hK hM 1 rfl 1 rfl rfl (n := (j + i)) rfl (by show _ < 400; omega) (by decide) dX6_next_113 ?_
              refine lv_sipush (v := 255) hC.1 hC.2.1 dX6_next_114 (by decide) ?_
              refine lv_iand hC.1 hC.2.1 dX6_next_117 ?_
              refine lv_i2c hC.1 hC.2.1 dX6_next_118 rfl ?_
              rw [sc_c2, htp (j + i) (by omega)]
              refine o_cV hC hK hM.1 (hM.at 2 rfl) rfl (cs_sappG286 l κ _ q_10 q cap f i (tp (j + i)) (hM.at 2 rfl) hx hI80.2.2.2.2.1 hgc.1 (by omega)) (cwV 1 hC.2.2.2.2 (lw_V q511 q512 q513 q81 q514) rfl rfl rfl (by decide +kernel) ⟨(Nat.le_of_ble_eq_true rfl), (Nat.le_of_ble_eq_true rfl)⟩) rfl hl.1 rfl (lv_room (Nat.le_of_ble_eq_true rfl)) dX6_next_119 ⟨by dsimp only; omega, by dsimp only; omega⟩ (fun rv O1 H locs hp hM1 => ?_)
              obtain ⟨r, rfl, rfl⟩ := hp
              have hM := hM.set (L' := [_, _, _]) (i := 2) rfl hM1 rfl
              refine lv_pop hC.1 hC.2.1 dX6_next_122 rfl ?_
              refine lv_goto (tgt := 80) hC.1 hC.2.1 dX6_next_123 (by decide) ?_
              refine W.widen (k := 2 + (gr + 1)) (n := 20 + (sl + 574)) (by dsimp only; omega) (by dsimp only; omega) ?_
              exact ih80 ((i + 1, gr + 1, cap + (cap + 2), sl + 574, r, upd (va_cpy f (fun _ => 0) 0 0 cap) i (tp (j + i)))) _ _ _ (by show L - (j + (i + 1)) < L - (j + i); omega) ⟨⟨grI.s286 hgc, by show i + 1 ≤ cap + (cap + 2); omega, by show j + (i + 1) ≤ L; omega, hgo.2.symm.trans hI80.2.2.2.1, fits_upd (fits_cpy hI80.2.2.2.2.1 _) hxb, cnt_g hI80.2.2.2.2.2 hgc.1⟩, (by rw [upd_upd] at hM; exact hM), lv_sub hl [0, 1] rfl⟩
      ·
        skip
        have ce := c3
        refine lv_aload_n hC.1 hC.2.1 dX6_next_50 rfl (lv_at hl 1 rfl) ?_
        refine lv_iconst (v := 0) hC.1 hC.2.1 dX6_next_51 (by decide) ?_
        refine p_put (L' := [_, _]) hC hK hM 0 rfl in_X6 tyX6 tyX6_ok nmX6 rfl 3 (by decide) q441 (fun x h => h) rfl rfl rfl (Nat.le_of_ble_eq_true rfl) rfl rfl rfl dX6_next_52 (fun H locs hM => ?_)
        refine lv_goto (tgt := 280) hC.1 hC.2.1 dX6_next_55 (by decide) ?_
        refine W.widen (k := 9) (n := 1530) (by first | exact Nat.le_of_ble_eq_true rfl | (dsimp only; omega)) (by first | exact Nat.le_of_ble_eq_true rfl | (dsimp only; omega)) ?_
        refine p_vret hC hr hlocks hM dX6_next_280 ?_
        refine ⟨rfl, rdNx.of hM.2 rfl ⟨Or.inl rfl, Or.inr (Or.inr hN), trivial⟩ rfl rfl rfl (nx_e hs ((tokB_N ht).mp ce)) ⟨rfl, rfl, rfl, fun h => absurd (show (1 : Nat) = 3 from h) (by decide), fun h => absurd (show (1 : Nat) = 2 from h) (by decide)⟩⟩
    ·
      skip
      have hg2 := ws_go (Or.inr c2)
      refine lv_aload_n hC.1 hC.2.1 dX6_next_18 rfl (lv_at hl 0 rfl) ?_
      refine lv_dup hC.1 hC.2.1 dX6_next_19 rfl ?_
      refine p_get hC hK hM 0 rfl in_X6 rfl 2 (by decide) q440 (fun x h => h) rfl dX6_next_20 ?_
      rw [upd_s]
      refine lv_iconst (v := 1) hC.1 hC.2.1 dX6_next_23 (by decide) ?_
      refine lv_iadd hC.1 hC.2.1 dX6_next_24 ?_
      rw [nI_1]
      refine p_put (L' := [_, _]) hC hK hM 0 rfl in_X6 tyX6 tyX6_ok nmX6 rfl 2 (by decide) q440 (fun x h => h) rfl rfl rfl (Nat.le_of_ble_eq_true rfl) rfl rfl rfl dX6_next_25 (fun H locs hM => ?_)
      refine lv_goto (tgt := 0) hC.1 hC.2.1 dX6_next_28 (by decide) ?_
      exact ih0 (j + 1) _ _ _ (by omega) ⟨⟨by omega, by rw [← hg2.2]; exact hI0.2⟩, (by rw [upd_upd] at hM; exact hM), lv_sub hl [0] rfl⟩
