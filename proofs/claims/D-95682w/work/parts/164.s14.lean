set_option maxHeartbeats 1000000 in
set_option maxRecDepth 100000 in
theorem cl_mover (l : Launch) (κ : Nat → Nat) (O : gO) (a no md la : Nat) (cv : Nat → Int32) (nd : Nat → Nat) (g : Nat → Nat → Option Nat) (cw : Nat → Nat → Int32) (tp : Nat → Int32) (L : Nat) (u v : Nat → Int32) (rd : Nat → Nat) (dv : Nat → Int32) (dd : Nat → Nat) (dw : Nat → Nat → Int32) (mm : Nat) (kd : Nat → Nat) (mv : Nat → Nat → Int32) (hB : PB κ O O a no md la cv nd g cw tp L u v rd dv dd dw mm kd mv) (htp : ∀ j, j < L → cw 1 j &&& 255 = tp j) (ht : tpOk tp L) (f : Nat → Int32) (hf4 : f 4 = dv 4) (hf5 : f 5 = nI mm) (hmm : mm ≤ 5) (hok : rmV tp L u f 17 = 0) : oM l κ yX6_mover cX6_mover 5 none ({ frames := 8, cells := 56, slots := 9194, locals := 196 }) [.ref a] O (fun rv O1 => rv = none ∧ ∃ (v1 : Nat → Int32) (rd1 kd1 : Nat → Nat) (mv1 : Nat → Nat → Int32), PB κ O O1 a no md la cv nd g cw tp L (rmV tp L u f) v1 rd1 dv dd dw (mm + 1) kd1 mv1 ∧ (∀ j, j < mm → kd1 j = kd j ∧ mv1 j = mv j) ∧ nI (kd1 mm) = rmK tp L u f ∧ mv1 mm = mvN (nI mm) (numR tp (rm2 tp L u f)) (if numR tp (rm3 tp L u f) = 1 then 1 else 0) (numR tp (rm4 tp L u f))) := by
  intro D ac A
  refine o_body (own := RX6) rfl (plainFor_of_name (by decide)) (Nat.le_of_ble_eq_true rfl) ?_
  intro p e s m args below meth c ls hC hr hlocks hK hM hl hnamed hmeth
  have hl : lv_has ls 5 [(0, .ref a)] := hl
  have hM := PS.of hM [(a, rrU v rd), (no, nsU cv nd g cw), (md, rdU dv dd dw)] ⟨hB.1.1, hB.2.1, hB.2.2.1, trivial⟩ (hB.nodup)
  have k6 := hok
  have k5 : rm5 tp L u f 17 = 0 := endV_17 hok
  have k4 : rm4 tp L u f 17 = 0 := numV_17 k5
  have k3 : rm3 tp L u f 17 = 0 := numV_17 k4
  have k2 : rm2 tp L u f 17 = 0 := numV_17 k3
  have k1 : rm1 tp L u f 17 = 0 := rm2_17 k2
  have h17 : u 17 = 0 := (rm_ok hok).1
  have hm4 : mm < 5 := Nat.lt_of_le_of_ne hmm (fun e => (rm_ok hok).2 (by rw [hf5, e]; rfl))
  obtain ⟨O1, hM, hB⟩ := hB.re hM
  obtain ⟨mc, ea, lf, lr, hl1, hl5, hlE, hlN, hlJ⟩ := hB.2.2.2.2.1
  refine lv_aload_n hC.1 hC.2.1 dX6_mover_0 rfl (lv_at hl 0 rfl) ?_
  refine p_get hC hK hM 0 rfl in_X6 rfl 7 (by decide) q445 (fun x h => h) rfl dX6_mover_1 ?_
  rw [hB.1.2.2.1]
  refine p_get hC hK hM 2 rfl in_X1 rfl 8 (by decide) q167 (fun x h => h) rfl dX6_mover_4 ?_
  rw [hB.2.2.2.1]
  refine p_cFe (L' := [_, _, _]) hC hK hM (show oups O1 [(a, rrU v rd), (no, nsU cv nd g cw), (md, rdU dv dd dw)] la = some (lsU mc ea (nI mm) lr) from by rw [hB.e]; exact hl1) rfl (oM.at hB.e (cj_size l κ O1 la mc ea (nI mm) lr hl1)) (va_cwF 0 hC.2.2.2.2 (lw_F q721 q725 q727 q67 q729) rfl rfl rfl (hK.1.2.2.2 _ (List.mem_of_getElem? (i := 0) (rfl : nFw[0]? = some _))) (by decide +kernel) ⟨(Nat.le_of_ble_eq_true rfl), (Nat.le_of_ble_eq_true rfl)⟩) rfl hl.1 rfl (lv_room (Nat.le_of_ble_eq_true rfl)) dX6_mover_7 ⟨(Nat.le_of_ble_eq_true rfl), (Nat.le_of_ble_eq_true rfl)⟩ hB.e.symm hM.2 (fun H locs hM => ?_)
  refine lv_istore_n (lv' := [(1, _), (0, _)]) hC.1 hC.2.1 dX6_mover_12 rfl hl (by decide) rfl (fun ls hl => ?_)
  refine lv_aload_n hC.1 hC.2.1 dX6_mover_13 rfl (lv_at hl 1 rfl) ?_
  refine lv_iload_n hC.1 hC.2.1 dX6_mover_14 rfl (lv_at hl 0 rfl) ?_
  refine lv_iconst (v := 5) hC.1 hC.2.1 dX6_mover_15 (by decide) ?_
  refine o_cV hC hK hM.1 (hM.at 0 rfl) rfl (oM.at hB.e (cl_begK l κ O1 a v rd no cv nd g cw md tp L (u) f 5 mm 5 hB.1 hB.2.1 htp ht h17 hf5 hmm (by decide) k1)) (cwV 2 hC.2.2.2.2 (lw_V q711 q713 qs10 q79 q714) rfl rfl rfl (by decide +kernel) ⟨(Nat.le_of_ble_eq_true rfl), (Nat.le_of_ble_eq_true rfl)⟩) rfl hl.1 rfl (lv_room (Nat.le_of_ble_eq_true rfl)) dX6_mover_16 ⟨(Nat.le_of_ble_eq_true rfl), (Nat.le_of_ble_eq_true rfl)⟩ (fun rv O1 H locs hp hM1 => ?_)
  obtain ⟨rfl, hkp, v, rd, hR⟩ := hp
  have hB := hB.call hkp hR
  have hM := hB.ps hM1
  refine lv_iconst (v := 0) hC.1 hC.2.1 dX6_mover_19 (by decide) ?_
  refine lv_istore_n (lv' := [(2, _), (1, _), (0, _)]) hC.1 hC.2.1 dX6_mover_20 rfl hl (by decide) rfl (fun ls hl => ?_)
  refine w_ind (α := Nat) 21 (fun (k : Nat) => 5 - k) (fun (k : Nat) (H : Heap) (locs : List Loc) (ls : Array Slot) => (k ≤ 5 ∧ ∀ j, j < k → ¬ isW tp (rm1 tp L u f) (4 + j)) ∧ (PS D ac A s.heap O1 [(a, rrU v rd), (no, nsU cv nd g cw), (md, rdU dv dd dw)] H locs) ∧ lv_has ls 5 [(0, .ref a), (1, .int (nI mm)), (2, .int (nI k))]) ?_ (0) ⟨⟨by omega, fun j hj => absurd hj (by omega)⟩, hM, lv_sub hl [2, 1, 0] rfl⟩
  intro k H locs ls hI ih21
  obtain ⟨hI21, hM, hl⟩ := hI
  refine lv_iload_n hC.1 hC.2.1 dX6_mover_21 rfl (lv_at hl 2 rfl) ?_
  refine va_getsN hC.1 hC.2.1 hK.2.2.2.2.2.1.1 hM.s hC.2.2.2.1 (va_Nw.use rfl (hK.1.2.1 _ q730 rfl)) (fun x h => h) dX6_mover_22 ?_
  refine va_tlen hC.1 hC.2.1 hK.2.2.2.2.2.1.2 hM.s (v := nI 5) rfl dX6_mover_25 ?_
  refine lv_icmp_ge (tgt := 47) hC.1 hC.2.1 dX6_mover_26 (by decide) (fun c1 => ?_) (fun c1 => ?_)
  ·
    have nc1 := Int32.not_lt.mpr c1
    exact absurd k2 (pos_n (rm2_none k1 hB.1.2.2.2.2.1 hB.1.2.2.2.2.2.2 (fun j hj => hI21.2 j (by have := nle_t (a := 5) (b := k) c1; omega))).2.2)
  ·
    have nc1 := Int32.not_le.mp c1
    have hk5 := nle_f (a := 5) (b := k) c1
    refine lv_aload_n hC.1 hC.2.1 dX6_mover_29 rfl (lv_at hl 0 rfl) ?_
    refine va_getsN hC.1 hC.2.1 hK.2.2.2.2.2.1.1 hM.s hC.2.2.2.1 (va_Nw.use rfl (hK.1.2.1 _ q730 rfl)) (fun x h => h) dX6_mover_30 ?_
    refine lv_iload_n hC.1 hC.2.1 dX6_mover_33 rfl (lv_at hl 2 rfl) ?_
    refine vb_tq hC.1 hC.2.1 hK.2.2.2.2.2.1.2 hM.s (i := nI k) (vp_in_nI (by omega) (by decide)) (v := .ref (κ (10 + (4 + k)))) (by rw [nI_clamp (by omega), show 10 + (4 + k) = 14 + k by omega]) dX6_mover_34 ?_
    refine p_cVe (L' := [_, _, _]) hC hK hM (hM.at 0 rfl) rfl (oM.at hB.e (cl_isWord l κ O1 a v rd (nd 1) md tp L (rm1 tp L u f) (4 + k) hB.1 (by omega))) (cwV 1 hC.2.2.2.2 (lw_V q663 q665 qs6 q79 q666) rfl rfl rfl (by decide +kernel) ⟨(Nat.le_of_ble_eq_true rfl), (Nat.le_of_ble_eq_true rfl)⟩) rfl hl.1 rfl (lv_room (Nat.le_of_ble_eq_true rfl)) dX6_mover_35 ⟨(Nat.le_of_ble_eq_true rfl), (Nat.le_of_ble_eq_true rfl)⟩ hB.e.symm hM.2 (fun H locs hM => ?_)
    refine lv_if_ne (tgt := 47) hC.1 hC.2.1 dX6_mover_38 (by decide) (fun c2 => ?_) (fun c2 => ?_)
    ·
      skip
      rw [bI_n0] at c2
      have kw := c2
      have hsm := rm2_some k1 hB.1.2.2.2.2.1 hB.1.2.2.2.2.2.2 (k := k) (by omega) kw
      have k2 := hsm.2.2
      refine lv_aload_n hC.1 hC.2.1 dX6_mover_47 rfl (lv_at hl 0 rfl) ?_
      refine lv_iload_n hC.1 hC.2.1 dX6_mover_48 rfl (lv_at hl 2 rfl) ?_
      refine va_getsN hC.1 hC.2.1 hK.2.2.2.2.2.1.1 hM.s hC.2.2.2.1 (va_Nw.use rfl (hK.1.2.1 _ q730 rfl)) (fun x h => h) dX6_mover_49 ?_
      refine va_tlen hC.1 hC.2.1 hK.2.2.2.2.2.1.2 hM.s (v := nI 5) rfl dX6_mover_52 ?_
      refine lv_icmp_ge (tgt := 60) hC.1 hC.2.1 dX6_mover_53 (by decide) (fun c3 => ?_) (fun c3 => ?_)
      ·
        have nc3 := Int32.not_lt.mpr c3
        exact absurd (nle_t (a := 5) (b := k) c3) (by omega)
      ·
        have nc3 := Int32.not_le.mp c3
        refine lv_iconst (v := 1) hC.1 hC.2.1 dX6_mover_56 (by decide) ?_
        refine lv_goto (tgt := 61) hC.1 hC.2.1 dX6_mover_57 (by decide) ?_
        refine lv_iconst (v := 1) hC.1 hC.2.1 dX6_mover_61 (by decide) ?_
        refine p_cVv (L' := [_, _, _]) hC hK hM (hM.at 0 rfl) rfl (oM.at hB.e (cl_must l κ O1 a v rd 1 1 hB.1.1 (by decide))) (cwV 2 hC.2.2.2.2 (lw_V q675 q677 qs7 q79 q678) rfl rfl rfl (by decide +kernel) ⟨(Nat.le_of_ble_eq_true rfl), (Nat.le_of_ble_eq_true rfl)⟩) rfl hl.1 rfl (lv_room (Nat.le_of_ble_eq_true rfl)) dX6_mover_62 ⟨(Nat.le_of_ble_eq_true rfl), (Nat.le_of_ble_eq_true rfl)⟩ hB.e.symm hM.2 (fun H locs hM => ?_)
        refine lv_aload_n hC.1 hC.2.1 dX6_mover_65 rfl (lv_at hl 0 rfl) ?_
        refine o_cV hC hK hM.1 (hM.at 0 rfl) rfl (oM.at hB.e (cl_next l κ O1 a v rd no cv nd g cw tp L (iN (rm1 tp L u f 13)) hB.1.1 hB.2.1 hB.1.2.1 hB.1.2.2.2.1 hB.1.at.2.2.1 hB.1.at.1 hB.1.at.2.1 htp ht)) (cwV 0 hC.2.2.2.2 (lw_V q468 q470 qs4 q79 q471) rfl rfl rfl (by decide +kernel) ⟨(Nat.le_of_ble_eq_true rfl), (Nat.le_of_ble_eq_true rfl)⟩) rfl hl.1 rfl (lv_room (Nat.le_of_ble_eq_true rfl)) dX6_mover_66 ⟨(Nat.le_of_ble_eq_true rfl), (Nat.le_of_ble_eq_true rfl)⟩ (fun rv O1 H locs hp hM1 => ?_)
        obtain ⟨rfl, hnx⟩ := hp
        obtain ⟨v, rd, hR⟩ := hB.1.next hnx
        have hR : RT O1 a (nd 1) md tp L (rm2 tp L u f) v rd := by rw [hsm.2.1]; exact hR
        have hB := hB.call hnx.kp hR
        have hM := hB.ps hM1
        refine lv_aload_n hC.1 hC.2.1 dX6_mover_69 rfl (lv_at hl 0 rfl) ?_
        refine lv_iconst (v := 0) hC.1 hC.2.1 dX6_mover_70 (by decide) ?_
        refine lv_aload_n hC.1 hC.2.1 dX6_mover_71 rfl (lv_at hl 0 rfl) ?_
        refine p_get hC hK hM 0 rfl in_X6 rfl 7 (by decide) q445 (fun x h => h) rfl dX6_mover_72 ?_
        rw [hB.1.2.2.1]
        refine p_get hC hK hM 2 rfl in_X1 rfl 4 (by decide) q155 (fun x h => h) rfl dX6_mover_75 ?_
        rw [← hf4]
        refine lv_iconst (v := 1) hC.1 hC.2.1 dX6_mover_78 (by decide) ?_
        refine lv_isub hC.1 hC.2.1 dX6_mover_79 ?_
        refine o_cV hC hK hM.1 (hM.at 0 rfl) rfl (oM.at hB.e (cl_figK l κ O1 a v rd no cv nd g cw md tp L (rm2 tp L u f) 0 (f 4 - 1) hB.1 hB.2.1 htp ht k2 k3)) (cwV 2 hC.2.2.2.2 (lw_V q702 q704 qs8 q79 q705) rfl rfl rfl (by decide +kernel) ⟨(Nat.le_of_ble_eq_true rfl), (Nat.le_of_ble_eq_true rfl)⟩) rfl hl.1 rfl (lv_room (Nat.le_of_ble_eq_true rfl)) dX6_mover_80 ⟨(Nat.le_of_ble_eq_true rfl), (Nat.le_of_ble_eq_true rfl)⟩ (fun rv O1 H locs hp hM1 => ?_)
        obtain ⟨rfl, hkp, v, rd, hR⟩ := hp
        have hB := hB.call hkp hR
        have hM := hB.ps hM1
        refine lv_istore_n (lv' := [(3, _), (0, _), (1, _), (2, _)]) hC.1 hC.2.1 dX6_mover_83 rfl hl (by decide) rfl (fun ls hl => ?_)
        refine lv_aload_n hC.1 hC.2.1 dX6_mover_84 rfl (lv_at hl 1 rfl) ?_
        refine lv_iconst (v := 0) hC.1 hC.2.1 dX6_mover_85 (by decide) ?_
        refine lv_iconst (v := 1) hC.1 hC.2.1 dX6_mover_86 (by decide) ?_
        refine o_cV hC hK hM.1 (hM.at 0 rfl) rfl (oM.at hB.e (cl_figK l κ O1 a v rd no cv nd g cw md tp L (rm3 tp L u f) 0 1 hB.1 hB.2.1 htp ht k3 k4)) (cwV 2 hC.2.2.2.2 (lw_V q702 q704 qs8 q79 q705) rfl rfl rfl (by decide +kernel) ⟨(Nat.le_of_ble_eq_true rfl), (Nat.le_of_ble_eq_true rfl)⟩) rfl hl.1 rfl (lv_room (Nat.le_of_ble_eq_true rfl)) dX6_mover_87 ⟨(Nat.le_of_ble_eq_true rfl), (Nat.le_of_ble_eq_true rfl)⟩ (fun rv O1 H locs hp hM1 => ?_)
        obtain ⟨rfl, hkp, v, rd, hR⟩ := hp
        have hB := hB.call hkp hR
        have hM := hB.ps hM1
        refine lv_iconst (v := 1) hC.1 hC.2.1 dX6_mover_90 (by decide) ?_
        refine w_tern2 (cond := numR tp (rm3 tp L u f) = 1) (a := 1) (b := 0) 99 ?_ (fun jt91 jf91 => ?_)
        ·
          skip
          refine lv_istore (lv' := [(4, _), (3, _), (0, _), (1, _), (2, _)]) hC.1 hC.2.1 dX6_mover_99 hl (by decide) rfl (fun ls hl => ?_)
          refine lv_aload_n hC.1 hC.2.1 dX6_mover_101 rfl (lv_at hl 2 rfl) ?_
          refine p_get hC hK hM 0 rfl in_X6 rfl 7 (by decide) q445 (fun x h => h) rfl dX6_mover_102 ?_
          rw [hB.1.2.2.1]
          refine p_get hC hK hM 2 rfl in_X1 rfl 8 (by decide) q167 (fun x h => h) rfl dX6_mover_105 ?_
          rw [hB.2.2.2.1]
          refine lv_iload_n hC.1 hC.2.1 dX6_mover_108 rfl (lv_at hl 4 rfl) ?_
          refine lv_iload_n hC.1 hC.2.1 dX6_mover_109 rfl (lv_at hl 3 rfl) ?_
          refine lv_iload_n hC.1 hC.2.1 dX6_mover_110 rfl (lv_at hl 1 rfl) ?_
          refine lv_iload hC.1 hC.2.1 dX6_mover_111 (lv_at hl 0 rfl) ?_
          refine lv_aload_n hC.1 hC.2.1 dX6_mover_113 rfl (lv_at hl 2 rfl) ?_
          refine lv_iconst (v := 1) hC.1 hC.2.1 dX6_mover_114 (by decide) ?_
          refine lv_iconst (v := 5) hC.1 hC.2.1 dX6_mover_115 (by decide) ?_
          refine o_cV hC hK hM.1 (hM.at 0 rfl) rfl (oM.at hB.e (cl_figK l κ O1 a v rd no cv nd g cw md tp L (rm4 tp L u f) 1 5 hB.1 hB.2.1 htp ht k4 k5)) (cwV 2 hC.2.2.2.2 (lw_V q702 q704 qs8 q79 q705) rfl rfl rfl (by decide +kernel) ⟨(Nat.le_of_ble_eq_true rfl), (Nat.le_of_ble_eq_true rfl)⟩) rfl hl.1 rfl (lv_room (Nat.le_of_ble_eq_true rfl)) dX6_mover_116 ⟨(Nat.le_of_ble_eq_true rfl), (Nat.le_of_ble_eq_true rfl)⟩ (fun rv O1 H locs hp hM1 => ?_)
          obtain ⟨rfl, hkp, v, rd, hR⟩ := hp
          have hB := hB.call hkp hR
          have hM := hB.ps hM1
          refine o_cSN hC hK hM.1 (oM.at hB.e (cn_moverBy l κ O1 (k + 1) (nI mm) (numR tp (rm2 tp L u f)) (if numR tp (rm3 tp L u f) = 1 then 1 else 0) (numR tp (rm4 tp L u f)) (by omega) (by omega) (by split; exact Or.inr rfl; exact Or.inl rfl))) ⟨va_cnB 5 hC.2.2.2.2 (lw_meth q734) rfl rfl rfl (hK.1.2.1 _ q732 rfl) (hC.2.2.2.2 _ q63) (by decide +kernel) ⟨(Nat.le_of_ble_eq_true rfl), (Nat.le_of_ble_eq_true rfl)⟩, hC.2.2.2.2 _ q733, trivial⟩ rfl hl.1 rfl (lv_room (Nat.le_of_ble_eq_true rfl)) dX6_mover_119 ⟨(Nat.le_of_ble_eq_true rfl), (Nat.le_of_ble_eq_true rfl)⟩ (fun rv O1 H locs hp hM1 => ?_)
          obtain ⟨q, rfl, hq0, hqO⟩ := hp
          have hQ : O1 q = some (mvU (k + 1) (mvN (nI mm) (numR tp (rm2 tp L u f)) (if numR tp (rm3 tp L u f) = 1 then 1 else 0) (numR tp (rm4 tp L u f)))) := by rw [hqO]; exact oup_s _ _ _
          have hB := hB.new hq0 hqO
          have hM := hB.ps hM1
          obtain ⟨mc, ea, lf, lr, hl1, hl5, hlE, hlN, hlJ⟩ := hB.2.2.2.2.1
          refine o_cF hC hK hM.1 (show oups O1 [(a, rrU v rd), (no, nsU cv nd g cw), (md, rdU dv dd dw)] la = some (lsU mc ea (nI mm) lr) from by rw [hB.e]; exact hl1) rfl (oM.at hB.e (cj_addA l κ O1 la mc ea mm lf lr q (k + 1) _ hl1 hlE hlN (by omega) hQ (by omega) (by omega))) (va_cwF 1 hC.2.2.2.2 (lw_F q809 q812 q814 q67 q816) rfl rfl rfl (hK.1.2.2.2 _ (List.mem_of_getElem? (i := 1) (rfl : nFw[1]? = some _))) (by decide +kernel) ⟨(Nat.le_of_ble_eq_true rfl), (Nat.le_of_ble_eq_true rfl)⟩) rfl hl.1 rfl (lv_room (Nat.le_of_ble_eq_true rfl)) dX6_mover_122 ⟨(Nat.le_of_ble_eq_true rfl), (Nat.le_of_ble_eq_true rfl)⟩ (fun rv O1 H locs hp hM1 => ?_)
          obtain ⟨qa, mc2, lf2, rfl, hao, hf1, hf2⟩ := hp
          have hB := hB.add hl1 hlJ (by omega) hQ (by omega) (by omega) hao hf1 hf2
          have hM := hB.ps hM1
          refine lv_pop hC.1 hC.2.1 dX6_mover_127 rfl ?_
          refine lv_aload_n hC.1 hC.2.1 dX6_mover_128 rfl (lv_at hl 2 rfl) ?_
          refine o_cV hC hK hM.1 (hM.at 0 rfl) rfl (oM.at hB.e (cl_signK l κ O1 a v rd no cv nd g cw md tp L (rm5 tp L u f) hB.1 hB.2.1 htp ht k5 k6)) (cwV 0 hC.2.2.2.2 (lw_V q706 q708 qs9 q79 q709) rfl rfl rfl (by decide +kernel) ⟨(Nat.le_of_ble_eq_true rfl), (Nat.le_of_ble_eq_true rfl)⟩) rfl hl.1 rfl (lv_room (Nat.le_of_ble_eq_true rfl)) dX6_mover_129 ⟨(Nat.le_of_ble_eq_true rfl), (Nat.le_of_ble_eq_true rfl)⟩ (fun rv O1 H locs hp hM1 => ?_)
          obtain ⟨rfl, hkp, v, rd, hR⟩ := hp
          have hB := hB.call hkp hR
          have hM := hB.ps hM1
          refine W.widen (k := 56) (n := 9194) (Nat.le_of_ble_eq_true rfl) (Nat.le_of_ble_eq_true rfl) ?_
          refine p_vret hC hr hlocks hM dX6_mover_132 ?_
          rw [hB.e]
          refine ⟨rfl, v, rd, _, _, hB, fun j hj => ?_, ?_, if_pos rfl⟩
          · have hne : j ≠ mm := Nat.ne_of_lt hj
            exact ⟨if_neg hne, if_neg hne⟩
          · rw [hsm.1]
            exact congrArg nI (if_pos rfl)
        ·
          skip
          refine lv_icmp_ne (tgt := 98) hC.1 hC.2.1 dX6_mover_91 (by decide) (fun c4 => ?_) (fun c4 => ?_)
          ·
            skip
            have cw91 := c4
            refine lv_iconst (v := 0) hC.1 hC.2.1 dX6_mover_98 (by decide) ?_
            first | exact jt91 (by exact cw91) | exact jf91 (by exact cw91)
          ·
            skip
            have cw91 := c4
            refine lv_iconst (v := 1) hC.1 hC.2.1 dX6_mover_94 (by decide) ?_
            refine lv_goto (tgt := 99) hC.1 hC.2.1 dX6_mover_95 (by decide) ?_
            first | exact jt91 (by exact cw91) | exact jf91 (by exact cw91)
    ·
      skip
      rw [bI_0] at c2
      have kw := c2
      refine lv_iinc (v := nI (k + 1)) (lv' := [(2, _), (0, _), (1, _)]) hC.1 hC.2.1 dX6_mover_41 hl (k := 2) rfl (nI_1 _) (by decide) rfl (fun ls hl => ?_)
      refine lv_goto (tgt := 21) hC.1 hC.2.1 dX6_mover_44 (by decide) ?_
      exact ih21 (k + 1) _ _ _ (by omega) ⟨⟨by omega, fun j hj => by rcases (show j < k ∨ j = k by omega) with h | h; exact hI21.2 j h; rw [h]; exact kw⟩, hM, lv_sub hl [1, 2, 0] rfl⟩

set_option maxHeartbeats 1000000 in
set_option maxRecDepth 100000 in
theorem cl_moverT (l : Launch) (κ : Nat → Nat) (O : gO) (a no md la : Nat) (cv : Nat → Int32) (nd : Nat → Nat) (g : Nat → Nat → Option Nat) (cw : Nat → Nat → Int32) (tp : Nat → Int32) (L : Nat) (u v : Nat → Int32) (rd : Nat → Nat) (dv : Nat → Int32) (dd : Nat → Nat) (dw : Nat → Nat → Int32) (mm : Nat) (kd : Nat → Nat) (mv : Nat → Nat → Int32) (hB : PB κ O O a no md la cv nd g cw tp L u v rd dv dd dw mm kd mv) (htp : ∀ j, j < L → cw 1 j &&& 255 = tp j) (ht : tpOk tp L) (f : Nat → Int32) (hf4 : f 4 = dv 4) (hf5 : f 5 = nI mm) (hmm : mm ≤ 5) (h17 : u 17 = 0) (hbad : ¬ rmV tp L u f 17 = 0) : oT l κ yX6_mover cX6_mover 5 none ({ frames := 8, cells := 56, slots := 9194, locals := 196 }) [.ref a] O (fun z O1 => O1 z = some (ftU (rmV tp L u f 17) (rmV tp L u f 18)) ∧ kpL O O1 [a, md, la]) := by
  intro D ac A
  refine o_bodyT (own := RX6) rfl (by decide) (Nat.le_of_ble_eq_true rfl) ?_
  intro p e s m args below meth c ls hC hem hlocks hK hM hl
  have hl : lv_has ls 5 [(0, .ref a)] := hl
  have hM := PS.of hM [(a, rrU v rd), (no, nsU cv nd g cw), (md, rdU dv dd dw)] ⟨hB.1.1, hB.2.1, hB.2.2.1, trivial⟩ (hB.nodup)
  obtain ⟨O1, hM, hB⟩ := hB.re hM
  obtain ⟨mc, ea, lf, lr, hl1, hl5, hlE, hlN, hlJ⟩ := hB.2.2.2.2.1
  refine lv_aload_n hC.1 hC.2.1 dX6_mover_0 rfl (lv_at hl 0 rfl) ?_
  refine p_get hC hK hM 0 rfl in_X6 rfl 7 (by decide) q445 (fun x h => h) rfl dX6_mover_1 ?_
  rw [hB.1.2.2.1]
  refine p_get hC hK hM 2 rfl in_X1 rfl 8 (by decide) q167 (fun x h => h) rfl dX6_mover_4 ?_
  rw [hB.2.2.2.1]
  refine p_cFe (L' := [_, _, _]) hC hK hM (show oups O1 [(a, rrU v rd), (no, nsU cv nd g cw), (md, rdU dv dd dw)] la = some (lsU mc ea (nI mm) lr) from by rw [hB.e]; exact hl1) rfl (oM.at hB.e (cj_size l κ O1 la mc ea (nI mm) lr hl1)) (va_cwF 0 hC.2.2.2.2 (lw_F q721 q725 q727 q67 q729) rfl rfl rfl (hK.1.2.2.2 _ (List.mem_of_getElem? (i := 0) (rfl : nFw[0]? = some _))) (by decide +kernel) ⟨(Nat.le_of_ble_eq_true rfl), (Nat.le_of_ble_eq_true rfl)⟩) rfl hl.1 rfl (lv_room (Nat.le_of_ble_eq_true rfl)) dX6_mover_7 ⟨(Nat.le_of_ble_eq_true rfl), (Nat.le_of_ble_eq_true rfl)⟩ hB.e.symm hM.2 (fun H locs hM => ?_)
  refine lv_istore_n (lv' := [(1, _), (0, _)]) hC.1 hC.2.1 dX6_mover_12 rfl hl (by decide) rfl (fun ls hl => ?_)
  refine lv_aload_n hC.1 hC.2.1 dX6_mover_13 rfl (lv_at hl 1 rfl) ?_
  refine lv_iload_n hC.1 hC.2.1 dX6_mover_14 rfl (lv_at hl 0 rfl) ?_
  refine lv_iconst (v := 5) hC.1 hC.2.1 dX6_mover_15 (by decide) ?_
  by_cases k1 : rm1 tp L u f 17 = 0
  ·
    skip
    refine o_cV hC hK hM.1 (hM.at 0 rfl) rfl (oM.at hB.e (cl_begK l κ O1 a v rd no cv nd g cw md tp L (u) f 5 mm 5 hB.1 hB.2.1 htp ht h17 hf5 hmm (by decide) k1)) (cwV 2 hC.2.2.2.2 (lw_V q711 q713 qs10 q79 q714) rfl rfl rfl (by decide +kernel) ⟨(Nat.le_of_ble_eq_true rfl), (Nat.le_of_ble_eq_true rfl)⟩) rfl hl.1 rfl (lv_room (Nat.le_of_ble_eq_true rfl)) dX6_mover_16 ⟨(Nat.le_of_ble_eq_true rfl), (Nat.le_of_ble_eq_true rfl)⟩ (fun rv O1 H locs hp hM1 => ?_)
    obtain ⟨rfl, hkp, v, rd, hR⟩ := hp
    have hB := hB.call hkp hR
    have hM := hB.ps hM1
    have hm4 : mm < 5 := Nat.lt_of_le_of_ne hmm (fun e => (begV_17 k1).2 (by rw [hf5, e]; rfl))
    refine lv_iconst (v := 0) hC.1 hC.2.1 dX6_mover_19 (by decide) ?_
    refine lv_istore_n (lv' := [(2, _), (1, _), (0, _)]) hC.1 hC.2.1 dX6_mover_20 rfl hl (by decide) rfl (fun ls hl => ?_)
    refine w_ind (α := Nat) 21 (fun (k : Nat) => 5 - k) (fun (k : Nat) (H : Heap) (locs : List Loc) (ls : Array Slot) => (k ≤ 5 ∧ ∀ j, j < k → ¬ isW tp (rm1 tp L u f) (4 + j)) ∧ (PS D ac A s.heap O1 [(a, rrU v rd), (no, nsU cv nd g cw), (md, rdU dv dd dw)] H locs) ∧ lv_has ls 5 [(0, .ref a), (1, .int (nI mm)), (2, .int (nI k))]) ?_ (0) ⟨⟨by omega, fun j hj => absurd hj (by omega)⟩, hM, lv_sub hl [2, 1, 0] rfl⟩
    intro k H locs ls hI ih21
    obtain ⟨hI21, hM, hl⟩ := hI
    refine lv_iload_n hC.1 hC.2.1 dX6_mover_21 rfl (lv_at hl 2 rfl) ?_
    refine va_getsN hC.1 hC.2.1 hK.2.2.2.2.2.1.1 hM.s hC.2.2.2.1 (va_Nw.use rfl (hK.1.2.1 _ q730 rfl)) (fun x h => h) dX6_mover_22 ?_
    refine va_tlen hC.1 hC.2.1 hK.2.2.2.2.2.1.2 hM.s (v := nI 5) rfl dX6_mover_25 ?_
    refine lv_icmp_ge (tgt := 47) hC.1 hC.2.1 dX6_mover_26 (by decide) (fun c1 => ?_) (fun c1 => ?_)
    ·
      have nc1 := Int32.not_lt.mpr c1
      have hk5 := nle_t (a := 5) (b := k) c1
      refine lv_aload_n hC.1 hC.2.1 dX6_mover_47 rfl (lv_at hl 0 rfl) ?_
      refine lv_iload_n hC.1 hC.2.1 dX6_mover_48 rfl (lv_at hl 2 rfl) ?_
      refine va_getsN hC.1 hC.2.1 hK.2.2.2.2.2.1.1 hM.s hC.2.2.2.1 (va_Nw.use rfl (hK.1.2.1 _ q730 rfl)) (fun x h => h) dX6_mover_49 ?_
      refine va_tlen hC.1 hC.2.1 hK.2.2.2.2.2.1.2 hM.s (v := nI 5) rfl dX6_mover_52 ?_
      refine lv_icmp_ge (tgt := 60) hC.1 hC.2.1 dX6_mover_53 (by decide) (fun c2 => ?_) (fun c2 => ?_)
      ·
        have nc2 := Int32.not_lt.mpr c2
        skip
        refine lv_iconst (v := 0) hC.1 hC.2.1 dX6_mover_60 (by decide) ?_
        refine lv_iconst (v := 1) hC.1 hC.2.1 dX6_mover_61 (by decide) ?_
        refine W.widen (k := 55) (n := 9186) (Nat.le_of_ble_eq_true rfl) (Nat.le_of_ble_eq_true rfl) ?_
        refine p_pass hem hlocks hM (runVT hC ((oT.at hB.e (cl_mustT l κ O1 a v rd 1 hB.1.1)) D ac A) (cwV 2 hC.2.2.2.2 (lw_V q675 q677 qs7 q79 q678) rfl rfl rfl (by decide +kernel) ⟨(Nat.le_of_ble_eq_true rfl), (Nat.le_of_ble_eq_true rfl)⟩) ⟨oPre.blind, OS.recv hK hM.1 (hM.at 0 rfl) rfl, fun U hU hW => ⟨rfl, OS.pre hK hM.1 hU hW⟩⟩ rfl rfl hl.1 rfl (lv_room (Nat.le_of_ble_eq_true rfl)) dX6_mover_62 ⟨(Nat.le_of_ble_eq_true rfl), (Nat.le_of_ble_eq_true rfl)⟩) (fun x_ O1 hp => ?_)
        have hrn := rm2_none k1 hB.1.2.2.2.2.1 hB.1.2.2.2.2.2.2 (fun j hj => hI21.2 j (by omega))
        have hz := hB.thr hp
        rw [hB.1.at.2.2.2] at hz
        rw [rm_st2 hrn.2.2, hrn.1, hrn.2.1]
        exact hz
      ·
        have nc2 := Int32.not_le.mp c2
        exact absurd (nle_f (a := 5) (b := k) c2) (by omega)
    ·
      have nc1 := Int32.not_le.mp c1
      have hk5 := nle_f (a := 5) (b := k) c1
      refine lv_aload_n hC.1 hC.2.1 dX6_mover_29 rfl (lv_at hl 0 rfl) ?_
      refine va_getsN hC.1 hC.2.1 hK.2.2.2.2.2.1.1 hM.s hC.2.2.2.1 (va_Nw.use rfl (hK.1.2.1 _ q730 rfl)) (fun x h => h) dX6_mover_30 ?_
      refine lv_iload_n hC.1 hC.2.1 dX6_mover_33 rfl (lv_at hl 2 rfl) ?_
      refine vb_tq hC.1 hC.2.1 hK.2.2.2.2.2.1.2 hM.s (i := nI k) (vp_in_nI (by omega) (by decide)) (v := .ref (κ (10 + (4 + k)))) (by rw [nI_clamp (by omega), show 10 + (4 + k) = 14 + k by omega]) dX6_mover_34 ?_
      refine p_cVe (L' := [_, _, _]) hC hK hM (hM.at 0 rfl) rfl (oM.at hB.e (cl_isWord l κ O1 a v rd (nd 1) md tp L (rm1 tp L u f) (4 + k) hB.1 (by omega))) (cwV 1 hC.2.2.2.2 (lw_V q663 q665 qs6 q79 q666) rfl rfl rfl (by decide +kernel) ⟨(Nat.le_of_ble_eq_true rfl), (Nat.le_of_ble_eq_true rfl)⟩) rfl hl.1 rfl (lv_room (Nat.le_of_ble_eq_true rfl)) dX6_mover_35 ⟨(Nat.le_of_ble_eq_true rfl), (Nat.le_of_ble_eq_true rfl)⟩ hB.e.symm hM.2 (fun H locs hM => ?_)
      refine lv_if_ne (tgt := 47) hC.1 hC.2.1 dX6_mover_38 (by decide) (fun c3 => ?_) (fun c3 => ?_)
      ·
        skip
        rw [bI_n0] at c3
        have kw := c3
        have hsm := rm2_some k1 hB.1.2.2.2.2.1 hB.1.2.2.2.2.2.2 (k := k) (by omega) kw
        have k2 := hsm.2.2
        refine lv_aload_n hC.1 hC.2.1 dX6_mover_47 rfl (lv_at hl 0 rfl) ?_
        refine lv_iload_n hC.1 hC.2.1 dX6_mover_48 rfl (lv_at hl 2 rfl) ?_
        refine va_getsN hC.1 hC.2.1 hK.2.2.2.2.2.1.1 hM.s hC.2.2.2.1 (va_Nw.use rfl (hK.1.2.1 _ q730 rfl)) (fun x h => h) dX6_mover_49 ?_
        refine va_tlen hC.1 hC.2.1 hK.2.2.2.2.2.1.2 hM.s (v := nI 5) rfl dX6_mover_52 ?_
        refine lv_icmp_ge (tgt := 60) hC.1 hC.2.1 dX6_mover_53 (by decide) (fun c4 => ?_) (fun c4 => ?_)
        ·
          have nc4 := Int32.not_lt.mpr c4
          exact absurd (nle_t (a := 5) (b := k) c4) (by omega)
        ·
          have nc4 := Int32.not_le.mp c4
          skip
          refine lv_iconst (v := 1) hC.1 hC.2.1 dX6_mover_56 (by decide) ?_
          refine lv_goto (tgt := 61) hC.1 hC.2.1 dX6_mover_57 (by decide) ?_
          refine lv_iconst (v := 1) hC.1 hC.2.1 dX6_mover_61 (by decide) ?_
          refine p_cVv (L' := [_, _, _]) hC hK hM (hM.at 0 rfl) rfl (oM.at hB.e (cl_must l κ O1 a v rd 1 1 hB.1.1 (by decide))) (cwV 2 hC.2.2.2.2 (lw_V q675 q677 qs7 q79 q678) rfl rfl rfl (by decide +kernel) ⟨(Nat.le_of_ble_eq_true rfl), (Nat.le_of_ble_eq_true rfl)⟩) rfl hl.1 rfl (lv_room (Nat.le_of_ble_eq_true rfl)) dX6_mover_62 ⟨(Nat.le_of_ble_eq_true rfl), (Nat.le_of_ble_eq_true rfl)⟩ hB.e.symm hM.2 (fun H locs hM => ?_)
          refine lv_aload_n hC.1 hC.2.1 dX6_mover_65 rfl (lv_at hl 0 rfl) ?_
          refine o_cV hC hK hM.1 (hM.at 0 rfl) rfl (oM.at hB.e (cl_next l κ O1 a v rd no cv nd g cw tp L (iN (rm1 tp L u f 13)) hB.1.1 hB.2.1 hB.1.2.1 hB.1.2.2.2.1 hB.1.at.2.2.1 hB.1.at.1 hB.1.at.2.1 htp ht)) (cwV 0 hC.2.2.2.2 (lw_V q468 q470 qs4 q79 q471) rfl rfl rfl (by decide +kernel) ⟨(Nat.le_of_ble_eq_true rfl), (Nat.le_of_ble_eq_true rfl)⟩) rfl hl.1 rfl (lv_room (Nat.le_of_ble_eq_true rfl)) dX6_mover_66 ⟨(Nat.le_of_ble_eq_true rfl), (Nat.le_of_ble_eq_true rfl)⟩ (fun rv O1 H locs hp hM1 => ?_)
          obtain ⟨rfl, hnx⟩ := hp
          obtain ⟨v, rd, hR⟩ := hB.1.next hnx
          have hR : RT O1 a (nd 1) md tp L (rm2 tp L u f) v rd := by rw [hsm.2.1]; exact hR
          have hB := hB.call hnx.kp hR
          have hM := hB.ps hM1
          refine lv_aload_n hC.1 hC.2.1 dX6_mover_69 rfl (lv_at hl 0 rfl) ?_
          refine lv_iconst (v := 0) hC.1 hC.2.1 dX6_mover_70 (by decide) ?_
          refine lv_aload_n hC.1 hC.2.1 dX6_mover_71 rfl (lv_at hl 0 rfl) ?_
          refine p_get hC hK hM 0 rfl in_X6 rfl 7 (by decide) q445 (fun x h => h) rfl dX6_mover_72 ?_
          rw [hB.1.2.2.1]
          refine p_get hC hK hM 2 rfl in_X1 rfl 4 (by decide) q155 (fun x h => h) rfl dX6_mover_75 ?_
          rw [← hf4]
          refine lv_iconst (v := 1) hC.1 hC.2.1 dX6_mover_78 (by decide) ?_
          refine lv_isub hC.1 hC.2.1 dX6_mover_79 ?_
          by_cases k3 : rm3 tp L u f 17 = 0
          ·
            skip
            refine o_cV hC hK hM.1 (hM.at 0 rfl) rfl (oM.at hB.e (cl_figK l κ O1 a v rd no cv nd g cw md tp L (rm2 tp L u f) 0 (f 4 - 1) hB.1 hB.2.1 htp ht k2 k3)) (cwV 2 hC.2.2.2.2 (lw_V q702 q704 qs8 q79 q705) rfl rfl rfl (by decide +kernel) ⟨(Nat.le_of_ble_eq_true rfl), (Nat.le_of_ble_eq_true rfl)⟩) rfl hl.1 rfl (lv_room (Nat.le_of_ble_eq_true rfl)) dX6_mover_80 ⟨(Nat.le_of_ble_eq_true rfl), (Nat.le_of_ble_eq_true rfl)⟩ (fun rv O1 H locs hp hM1 => ?_)
            obtain ⟨rfl, hkp, v, rd, hR⟩ := hp
            have hB := hB.call hkp hR
            have hM := hB.ps hM1
            refine lv_istore_n (lv' := [(3, _), (0, _), (1, _), (2, _)]) hC.1 hC.2.1 dX6_mover_83 rfl hl (by decide) rfl (fun ls hl => ?_)
            refine lv_aload_n hC.1 hC.2.1 dX6_mover_84 rfl (lv_at hl 1 rfl) ?_
            refine lv_iconst (v := 0) hC.1 hC.2.1 dX6_mover_85 (by decide) ?_
            refine lv_iconst (v := 1) hC.1 hC.2.1 dX6_mover_86 (by decide) ?_
            by_cases k4 : rm4 tp L u f 17 = 0
            ·
              skip
              refine o_cV hC hK hM.1 (hM.at 0 rfl) rfl (oM.at hB.e (cl_figK l κ O1 a v rd no cv nd g cw md tp L (rm3 tp L u f) 0 1 hB.1 hB.2.1 htp ht k3 k4)) (cwV 2 hC.2.2.2.2 (lw_V q702 q704 qs8 q79 q705) rfl rfl rfl (by decide +kernel) ⟨(Nat.le_of_ble_eq_true rfl), (Nat.le_of_ble_eq_true rfl)⟩) rfl hl.1 rfl (lv_room (Nat.le_of_ble_eq_true rfl)) dX6_mover_87 ⟨(Nat.le_of_ble_eq_true rfl), (Nat.le_of_ble_eq_true rfl)⟩ (fun rv O1 H locs hp hM1 => ?_)
              obtain ⟨rfl, hkp, v, rd, hR⟩ := hp
              have hB := hB.call hkp hR
              have hM := hB.ps hM1
              refine lv_iconst (v := 1) hC.1 hC.2.1 dX6_mover_90 (by decide) ?_
              refine w_tern2 (cond := numR tp (rm3 tp L u f) = 1) (a := 1) (b := 0) 99 ?_ (fun jt91 jf91 => ?_)
              ·
                skip
                refine lv_istore (lv' := [(4, _), (3, _), (0, _), (1, _), (2, _)]) hC.1 hC.2.1 dX6_mover_99 hl (by decide) rfl (fun ls hl => ?_)
                refine lv_aload_n hC.1 hC.2.1 dX6_mover_101 rfl (lv_at hl 2 rfl) ?_
                refine p_get hC hK hM 0 rfl in_X6 rfl 7 (by decide) q445 (fun x h => h) rfl dX6_mover_102 ?_
                rw [hB.1.2.2.1]
                refine p_get hC hK hM 2 rfl in_X1 rfl 8 (by decide) q167 (fun x h => h) rfl dX6_mover_105 ?_
                rw [hB.2.2.2.1]
                refine lv_iload_n hC.1 hC.2.1 dX6_mover_108 rfl (lv_at hl 4 rfl) ?_
                refine lv_iload_n hC.1 hC.2.1 dX6_mover_109 rfl (lv_at hl 3 rfl) ?_
                refine lv_iload_n hC.1 hC.2.1 dX6_mover_110 rfl (lv_at hl 1 rfl) ?_
                refine lv_iload hC.1 hC.2.1 dX6_mover_111 (lv_at hl 0 rfl) ?_
                refine lv_aload_n hC.1 hC.2.1 dX6_mover_113 rfl (lv_at hl 2 rfl) ?_
                refine lv_iconst (v := 1) hC.1 hC.2.1 dX6_mover_114 (by decide) ?_
                refine lv_iconst (v := 5) hC.1 hC.2.1 dX6_mover_115 (by decide) ?_
                by_cases k5 : rm5 tp L u f 17 = 0
                ·
                  skip
                  refine o_cV hC hK hM.1 (hM.at 0 rfl) rfl (oM.at hB.e (cl_figK l κ O1 a v rd no cv nd g cw md tp L (rm4 tp L u f) 1 5 hB.1 hB.2.1 htp ht k4 k5)) (cwV 2 hC.2.2.2.2 (lw_V q702 q704 qs8 q79 q705) rfl rfl rfl (by decide +kernel) ⟨(Nat.le_of_ble_eq_true rfl), (Nat.le_of_ble_eq_true rfl)⟩) rfl hl.1 rfl (lv_room (Nat.le_of_ble_eq_true rfl)) dX6_mover_116 ⟨(Nat.le_of_ble_eq_true rfl), (Nat.le_of_ble_eq_true rfl)⟩ (fun rv O1 H locs hp hM1 => ?_)
                  obtain ⟨rfl, hkp, v, rd, hR⟩ := hp
                  have hB := hB.call hkp hR
                  have hM := hB.ps hM1
                  refine o_cSN hC hK hM.1 (oM.at hB.e (cn_moverBy l κ O1 (k + 1) (nI mm) (numR tp (rm2 tp L u f)) (if numR tp (rm3 tp L u f) = 1 then 1 else 0) (numR tp (rm4 tp L u f)) (by omega) (by omega) (by split; exact Or.inr rfl; exact Or.inl rfl))) ⟨va_cnB 5 hC.2.2.2.2 (lw_meth q734) rfl rfl rfl (hK.1.2.1 _ q732 rfl) (hC.2.2.2.2 _ q63) (by decide +kernel) ⟨(Nat.le_of_ble_eq_true rfl), (Nat.le_of_ble_eq_true rfl)⟩, hC.2.2.2.2 _ q733, trivial⟩ rfl hl.1 rfl (lv_room (Nat.le_of_ble_eq_true rfl)) dX6_mover_119 ⟨(Nat.le_of_ble_eq_true rfl), (Nat.le_of_ble_eq_true rfl)⟩ (fun rv O1 H locs hp hM1 => ?_)
                  obtain ⟨q, rfl, hq0, hqO⟩ := hp
                  have hQ : O1 q = some (mvU (k + 1) (mvN (nI mm) (numR tp (rm2 tp L u f)) (if numR tp (rm3 tp L u f) = 1 then 1 else 0) (numR tp (rm4 tp L u f)))) := by rw [hqO]; exact oup_s _ _ _
                  have hB := hB.new hq0 hqO
                  have hM := hB.ps hM1
                  obtain ⟨mc, ea, lf, lr, hl1, hl5, hlE, hlN, hlJ⟩ := hB.2.2.2.2.1
                  refine o_cF hC hK hM.1 (show oups O1 [(a, rrU v rd), (no, nsU cv nd g cw), (md, rdU dv dd dw)] la = some (lsU mc ea (nI mm) lr) from by rw [hB.e]; exact hl1) rfl (oM.at hB.e (cj_addA l κ O1 la mc ea mm lf lr q (k + 1) _ hl1 hlE hlN (by omega) hQ (by omega) (by omega))) (va_cwF 1 hC.2.2.2.2 (lw_F q809 q812 q814 q67 q816) rfl rfl rfl (hK.1.2.2.2 _ (List.mem_of_getElem? (i := 1) (rfl : nFw[1]? = some _))) (by decide +kernel) ⟨(Nat.le_of_ble_eq_true rfl), (Nat.le_of_ble_eq_true rfl)⟩) rfl hl.1 rfl (lv_room (Nat.le_of_ble_eq_true rfl)) dX6_mover_122 ⟨(Nat.le_of_ble_eq_true rfl), (Nat.le_of_ble_eq_true rfl)⟩ (fun rv O1 H locs hp hM1 => ?_)
                  obtain ⟨qa, mc2, lf2, rfl, hao, hf1, hf2⟩ := hp
                  have hB := hB.add hl1 hlJ (by omega) hQ (by omega) (by omega) hao hf1 hf2
                  have hM := hB.ps hM1
                  refine lv_pop hC.1 hC.2.1 dX6_mover_127 rfl ?_
                  refine lv_aload_n hC.1 hC.2.1 dX6_mover_128 rfl (lv_at hl 2 rfl) ?_
                  by_cases k6 : rmV tp L u f 17 = 0
                  ·
                    skip
                    refine o_cV hC hK hM.1 (hM.at 0 rfl) rfl (oM.at hB.e (cl_signK l κ O1 a v rd no cv nd g cw md tp L (rm5 tp L u f) hB.1 hB.2.1 htp ht k5 k6)) (cwV 0 hC.2.2.2.2 (lw_V q706 q708 qs9 q79 q709) rfl rfl rfl (by decide +kernel) ⟨(Nat.le_of_ble_eq_true rfl), (Nat.le_of_ble_eq_true rfl)⟩) rfl hl.1 rfl (lv_room (Nat.le_of_ble_eq_true rfl)) dX6_mover_129 ⟨(Nat.le_of_ble_eq_true rfl), (Nat.le_of_ble_eq_true rfl)⟩ (fun rv O1 H locs hp hM1 => ?_)
                    obtain ⟨rfl, hkp, v, rd, hR⟩ := hp
                    have hB := hB.call hkp hR
                    have hM := hB.ps hM1
                    exact absurd k6 hbad
                  ·
                    skip
                    refine W.widen (k := 55) (n := 9186) (Nat.le_of_ble_eq_true rfl) (Nat.le_of_ble_eq_true rfl) ?_
                    refine p_pass hem hlocks hM (runVT hC ((oT.at hB.e (cl_signB l κ O1 a v rd no cv nd g cw md tp L (rm5 tp L u f) hB.1 hB.2.1 htp ht k5 k6)) D ac A) (cwV 0 hC.2.2.2.2 (lw_V q706 q708 qs9 q79 q709) rfl rfl rfl (by decide +kernel) ⟨(Nat.le_of_ble_eq_true rfl), (Nat.le_of_ble_eq_true rfl)⟩) ⟨oPre.blind, OS.recv hK hM.1 (hM.at 0 rfl) rfl, fun U hU hW => ⟨rfl, OS.pre hK hM.1 hU hW⟩⟩ rfl rfl hl.1 rfl (lv_room (Nat.le_of_ble_eq_true rfl)) dX6_mover_129 ⟨(Nat.le_of_ble_eq_true rfl), (Nat.le_of_ble_eq_true rfl)⟩) (fun x_ O1 hp => ?_)
                    have hz := hB.thr hp
                    rw [show rmV tp L u f = endV tp L (rm5 tp L u f) from rfl]
                    exact hz
                ·
                  skip
                  refine W.widen (k := 55) (n := 9186) (Nat.le_of_ble_eq_true rfl) (Nat.le_of_ble_eq_true rfl) ?_
                  refine p_pass hem hlocks hM (runVT hC ((oT.at hB.e (cl_figB l κ O1 a v rd no cv nd g cw md tp L (rm4 tp L u f) 1 5 hB.1 hB.2.1 htp ht k4 k5)) D ac A) (cwV 2 hC.2.2.2.2 (lw_V q702 q704 qs8 q79 q705) rfl rfl rfl (by decide +kernel) ⟨(Nat.le_of_ble_eq_true rfl), (Nat.le_of_ble_eq_true rfl)⟩) ⟨oPre.blind, OS.recv hK hM.1 (hM.at 0 rfl) rfl, fun U hU hW => ⟨rfl, OS.pre hK hM.1 hU hW⟩⟩ rfl rfl hl.1 rfl (lv_room (Nat.le_of_ble_eq_true rfl)) dX6_mover_116 ⟨(Nat.le_of_ble_eq_true rfl), (Nat.le_of_ble_eq_true rfl)⟩) (fun x_ O1 hp => ?_)
                  have hz := hB.thr hp
                  rw [show rmV tp L u f = rm5 tp L u f from rm_st5 (numV_p k4 k5)]
                  exact hz
              ·
                skip
                refine lv_icmp_ne (tgt := 98) hC.1 hC.2.1 dX6_mover_91 (by decide) (fun c5 => ?_) (fun c5 => ?_)
                ·
                  skip
                  have cw91 := c5
                  refine lv_iconst (v := 0) hC.1 hC.2.1 dX6_mover_98 (by decide) ?_
                  first | exact jt91 (by exact cw91) | exact jf91 (by exact cw91)
                ·
                  skip
                  have cw91 := c5
                  refine lv_iconst (v := 1) hC.1 hC.2.1 dX6_mover_94 (by decide) ?_
                  refine lv_goto (tgt := 99) hC.1 hC.2.1 dX6_mover_95 (by decide) ?_
                  first | exact jt91 (by exact cw91) | exact jf91 (by exact cw91)
            ·
              skip
              refine W.widen (k := 55) (n := 9186) (Nat.le_of_ble_eq_true rfl) (Nat.le_of_ble_eq_true rfl) ?_
              refine p_pass hem hlocks hM (runVT hC ((oT.at hB.e (cl_figB l κ O1 a v rd no cv nd g cw md tp L (rm3 tp L u f) 0 1 hB.1 hB.2.1 htp ht k3 k4)) D ac A) (cwV 2 hC.2.2.2.2 (lw_V q702 q704 qs8 q79 q705) rfl rfl rfl (by decide +kernel) ⟨(Nat.le_of_ble_eq_true rfl), (Nat.le_of_ble_eq_true rfl)⟩) ⟨oPre.blind, OS.recv hK hM.1 (hM.at 0 rfl) rfl, fun U hU hW => ⟨rfl, OS.pre hK hM.1 hU hW⟩⟩ rfl rfl hl.1 rfl (lv_room (Nat.le_of_ble_eq_true rfl)) dX6_mover_87 ⟨(Nat.le_of_ble_eq_true rfl), (Nat.le_of_ble_eq_true rfl)⟩) (fun x_ O1 hp => ?_)
              have hz := hB.thr hp
              rw [show rmV tp L u f = rm4 tp L u f from rm_st4 (numV_p k3 k4)]
              exact hz
          ·
            skip
            refine W.widen (k := 55) (n := 9186) (Nat.le_of_ble_eq_true rfl) (Nat.le_of_ble_eq_true rfl) ?_
            refine p_pass hem hlocks hM (runVT hC ((oT.at hB.e (cl_figB l κ O1 a v rd no cv nd g cw md tp L (rm2 tp L u f) 0 (f 4 - 1) hB.1 hB.2.1 htp ht k2 k3)) D ac A) (cwV 2 hC.2.2.2.2 (lw_V q702 q704 qs8 q79 q705) rfl rfl rfl (by decide +kernel) ⟨(Nat.le_of_ble_eq_true rfl), (Nat.le_of_ble_eq_true rfl)⟩) ⟨oPre.blind, OS.recv hK hM.1 (hM.at 0 rfl) rfl, fun U hU hW => ⟨rfl, OS.pre hK hM.1 hU hW⟩⟩ rfl rfl hl.1 rfl (lv_room (Nat.le_of_ble_eq_true rfl)) dX6_mover_80 ⟨(Nat.le_of_ble_eq_true rfl), (Nat.le_of_ble_eq_true rfl)⟩) (fun x_ O1 hp => ?_)
            have hz := hB.thr hp
            rw [show rmV tp L u f = rm3 tp L u f from rm_st3 (numV_p k2 k3)]
            exact hz
      ·
        skip
        rw [bI_0] at c3
        have kw := c3
        refine lv_iinc (v := nI (k + 1)) (lv' := [(2, _), (0, _), (1, _)]) hC.1 hC.2.1 dX6_mover_41 hl (k := 2) rfl (nI_1 _) (by decide) rfl (fun ls hl => ?_)
        refine lv_goto (tgt := 21) hC.1 hC.2.1 dX6_mover_44 (by decide) ?_
        exact ih21 (k + 1) _ _ _ (by omega) ⟨⟨by omega, fun j hj => by rcases (show j < k ∨ j = k by omega) with h | h; exact hI21.2 j h; rw [h]; exact kw⟩, hM, lv_sub hl [1, 2, 0] rfl⟩
  ·
    skip
    refine W.widen (k := 55) (n := 9186) (Nat.le_of_ble_eq_true rfl) (Nat.le_of_ble_eq_true rfl) ?_
    refine p_pass hem hlocks hM (runVT hC ((oT.at hB.e (cl_begB l κ O1 a v rd no cv nd g cw md tp L (u) f 5 mm 5 hB.1 hB.2.1 htp ht h17 hf5 hmm (by decide) k1)) D ac A) (cwV 2 hC.2.2.2.2 (lw_V q711 q713 qs10 q79 q714) rfl rfl rfl (by decide +kernel) ⟨(Nat.le_of_ble_eq_true rfl), (Nat.le_of_ble_eq_true rfl)⟩) ⟨oPre.blind, OS.recv hK hM.1 (hM.at 0 rfl) rfl, fun U hU hW => ⟨rfl, OS.pre hK hM.1 hU hW⟩⟩ rfl rfl hl.1 rfl (lv_room (Nat.le_of_ble_eq_true rfl)) dX6_mover_16 ⟨(Nat.le_of_ble_eq_true rfl), (Nat.le_of_ble_eq_true rfl)⟩) (fun x_ O1 hp => ?_)
    have hz := hB.thr hp
    rw [show rmV tp L u f = rm1 tp L u f from rm_st1 (begV_p h17 k1)]
    exact hz
