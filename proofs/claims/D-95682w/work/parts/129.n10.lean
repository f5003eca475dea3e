set_option maxHeartbeats 400000 in
set_option maxRecDepth 100000 in
theorem cn_imageX (l : Launch) (κ : Nat → Nat) (O : gO) (no : Nat) (cv : Nat → Int32) (ad : Nat → Nat) (g : Nat → Nat → Option Nat) (cw : Nat → Nat → Int32) (x : Int32) (hN : O no = some (nsU cv ad g cw)) (hx : ¬ (0 ≤ x ∧ x ≤ 1)) : oM l κ yX0_image cX0_image 2 (some .int) ({ frames := 1, cells := 0, slots := 0, locals := 25 }) [.ref no, .int x] O (fun rv O1 => rv = some (.int (-1000001)) ∧ O1 = O) := by
  intro D ac A
  refine o_body (own := RX0) rfl (plainFor_of_name (by decide)) (Nat.le_of_ble_eq_true rfl) ?_
  intro p e s m args below meth c ls hC hr hlocks hK hM hl hnamed hmeth
  have hl : lv_has ls 2 [(0, .ref no), (1, .int x)] := hl
  have hM := PS.of hM [(no, nsU cv ad g cw)] ⟨hN, trivial⟩ (by simp [oad])
  refine lv_iload_n hC.1 hC.2.1 dX0_image_0 rfl (lv_at hl 1 rfl) ?_
  refine lv_i2l hC.1 hC.2.1 dX0_image_1 rfl ?_
  refine lv_lconst (v := 0) hC.1 hC.2.1 dX0_image_2 (by decide) ?_
  refine lv_lconst (v := 1) hC.1 hC.2.1 dX0_image_3 (by decide) ?_
  refine s_ci hC ((cc_isIn l (a := 0) (b := 1) rfl rfl rfl)) (va_cwS 3 hC.2.2.2.2 (lw_S q265 q266 q63 q267) rfl rfl rfl (by decide +kernel) ⟨(Nat.le_of_ble_eq_true rfl), (Nat.le_of_ble_eq_true rfl)⟩) rfl hl.1 rfl (lv_room (Nat.le_of_ble_eq_true rfl)) dX0_image_4 ⟨(Nat.le_of_ble_eq_true rfl), (Nat.le_of_ble_eq_true rfl)⟩ ?_
  refine lv_if_ne (tgt := 13) hC.1 hC.2.1 dX0_image_7 (by decide) (fun c1 => ?_) (fun c1 => ?_)
  ·
    skip
    exact absurd (bI_n0.mp c1) hx
  ·
    skip
    refine lv_ldc hC.1 hC.2.1 hC.2.2.2.1 (hC.2.2.2.2 _ q269) dX0_image_10 ?_
    skip
    refine p_iret hC hr hlocks hM dX0_image_12 ?_
    exact ⟨rfl, oup_same hN⟩

set_option maxHeartbeats 400000 in
set_option maxRecDepth 100000 in
theorem cn_imageR (l : Launch) (κ : Nat → Nat) (O : gO) (no : Nat) (cv : Nat → Int32) (ad : Nat → Nat) (g : Nat → Nat → Option Nat) (cw : Nat → Nat → Int32) (rx : Nat → Int32) (rd : Nat → Nat) (rw : Nat → Nat → Int32) (x : Int32) (hN : O no = some (nsU cv ad g cw)) (hR : O (ad 4) = some (rdU rx rd rw)) (hx : 0 ≤ x ∧ x ≤ 1) (hr0 : ¬ 0 < rx 0) : oM l κ yX0_image cX0_image 2 (some .int) ({ frames := 1, cells := 0, slots := 0, locals := 25 }) [.ref no, .int x] O (fun rv O1 => rv = some (.int (-1000002)) ∧ O1 = O) := by
  intro D ac A
  refine o_body (own := RX0) rfl (plainFor_of_name (by decide)) (Nat.le_of_ble_eq_true rfl) ?_
  intro p e s m args below meth c ls hC hr hlocks hK hM hl hnamed hmeth
  have hl : lv_has ls 2 [(0, .ref no), (1, .int x)] := hl
  have hM := PS.of hM [(no, nsU cv ad g cw), (ad 4, rdU rx rd rw)] ⟨hN, hR, trivial⟩ (by simp only [oad, List.map, List.nodup_cons, List.mem_singleton, List.not_mem_nil, not_false_eq_true, List.nodup_nil, and_true]; exact o_ne hN hR (by decide))
  refine lv_iload_n hC.1 hC.2.1 dX0_image_0 rfl (lv_at hl 1 rfl) ?_
  refine lv_i2l hC.1 hC.2.1 dX0_image_1 rfl ?_
  refine lv_lconst (v := 0) hC.1 hC.2.1 dX0_image_2 (by decide) ?_
  refine lv_lconst (v := 1) hC.1 hC.2.1 dX0_image_3 (by decide) ?_
  refine s_ci hC ((cc_isIn l (a := 0) (b := 1) rfl rfl rfl)) (va_cwS 3 hC.2.2.2.2 (lw_S q265 q266 q63 q267) rfl rfl rfl (by decide +kernel) ⟨(Nat.le_of_ble_eq_true rfl), (Nat.le_of_ble_eq_true rfl)⟩) rfl hl.1 rfl (lv_room (Nat.le_of_ble_eq_true rfl)) dX0_image_4 ⟨(Nat.le_of_ble_eq_true rfl), (Nat.le_of_ble_eq_true rfl)⟩ ?_
  refine lv_if_ne (tgt := 13) hC.1 hC.2.1 dX0_image_7 (by decide) (fun c1 => ?_) (fun c1 => ?_)
  ·
    skip
    refine lv_aload_n hC.1 hC.2.1 dX0_image_13 rfl (lv_at hl 0 rfl) ?_
    refine p_cVe (L' := [_, _]) hC hK hM (hM.at 0 rfl) rfl (cn_isRoad l κ _ no cv ad g cw rx rd rw (hM.at 0 rfl) (hM.at 1 rfl)) (cwV 0 hC.2.2.2.2 (lw_V q881 q883 qs15 q63 q884) rfl rfl rfl (by decide +kernel) ⟨(Nat.le_of_ble_eq_true rfl), (Nat.le_of_ble_eq_true rfl)⟩) rfl hl.1 rfl (lv_room (Nat.le_of_ble_eq_true rfl)) dX0_image_14 ⟨(Nat.le_of_ble_eq_true rfl), (Nat.le_of_ble_eq_true rfl)⟩ rfl hM.2 (fun H locs hM => ?_)
    refine lv_if_ne (tgt := 23) hC.1 hC.2.1 dX0_image_17 (by decide) (fun c2 => ?_) (fun c2 => ?_)
    ·
      skip
      exact absurd (bI_n0.mp c2) hr0
    ·
      skip
      refine lv_ldc hC.1 hC.2.1 hC.2.2.2.1 (hC.2.2.2.2 _ q885) dX0_image_20 ?_
      skip
      refine p_iret hC hr hlocks hM dX0_image_22 ?_
      exact ⟨rfl, by rw [oups, oups, oups, oup_same hR]; exact oup_same hN⟩
  ·
    skip
    exact absurd (c1 : bI _ = 0) (by rw [bI_t hx]; decide)

set_option maxHeartbeats 400000 in
set_option maxRecDepth 100000 in
theorem cn_imageA (l : Launch) (κ : Nat → Nat) (O : gO) (no : Nat) (cv : Nat → Int32) (ad : Nat → Nat) (g : Nat → Nat → Option Nat) (cw : Nat → Nat → Int32) (rx : Nat → Int32) (rd : Nat → Nat) (rw : Nat → Nat → Int32) (pq : Nat) (pv : Nat → Int32) (pd : Nat → Nat) (pw : Nat → Nat → Int32) (k : Nat) (hN : O no = some (nsU cv ad g cw)) (hR : O (ad 4) = some (rdU rx rd rw)) (hP : O pq = some (rdU pv pd pw)) (hne : ad 4 ≠ pq) (hk : k < 2) (hr0 : 0 < rx 0) (hg : g 8 k = some pq) : oM l κ yX0_image cX0_image 2 (some .int) ({ frames := 2, cells := 0, slots := 0, locals := 61 }) [.ref no, .int (nI k)] O (fun rv O1 => rv = some (.int 1) ∧ O1 = oup O pq (rdU rx (updN pd 8 (rd 8)) (becW pw rw))) := by
  intro D ac A
  refine o_body (own := RX0) rfl (plainFor_of_name (by decide)) (Nat.le_of_ble_eq_true rfl) ?_
  intro p e s m args below meth c ls hC hr hlocks hK hM hl hnamed hmeth
  have hl : lv_has ls 2 [(0, .ref no), (1, .int (nI k))] := hl
  have hM := PS.of hM [(no, nsU cv ad g cw), (ad 4, rdU rx rd rw), (pq, rdU pv pd pw)] ⟨hN, hR, hP, trivial⟩ (by simp only [oad, List.map, List.nodup_cons, List.mem_cons, List.mem_singleton, List.not_mem_nil, not_or, or_false, not_false_eq_true, List.nodup_nil, and_true]; exact ⟨⟨o_ne hN hR (by decide), o_ne hN hP (by decide)⟩, hne⟩)
  refine lv_iload_n hC.1 hC.2.1 dX0_image_0 rfl (lv_at hl 1 rfl) ?_
  refine lv_i2l hC.1 hC.2.1 dX0_image_1 rfl ?_
  refine lv_lconst (v := 0) hC.1 hC.2.1 dX0_image_2 (by decide) ?_
  refine lv_lconst (v := 1) hC.1 hC.2.1 dX0_image_3 (by decide) ?_
  refine s_ci hC ((cc_isIn l (a := 0) (b := 1) rfl rfl rfl)) (va_cwS 3 hC.2.2.2.2 (lw_S q265 q266 q63 q267) rfl rfl rfl (by decide +kernel) ⟨(Nat.le_of_ble_eq_true rfl), (Nat.le_of_ble_eq_true rfl)⟩) rfl hl.1 rfl (lv_room (Nat.le_of_ble_eq_true rfl)) dX0_image_4 ⟨(Nat.le_of_ble_eq_true rfl), (Nat.le_of_ble_eq_true rfl)⟩ ?_
  refine lv_if_ne (tgt := 13) hC.1 hC.2.1 dX0_image_7 (by decide) (fun c1 => ?_) (fun c1 => ?_)
  ·
    skip
    refine lv_aload_n hC.1 hC.2.1 dX0_image_13 rfl (lv_at hl 0 rfl) ?_
    refine p_cVe (L' := [_, _, _]) hC hK hM (hM.at 0 rfl) rfl (cn_isRoad l κ _ no cv ad g cw rx rd rw (hM.at 0 rfl) (hM.at 1 rfl)) (cwV 0 hC.2.2.2.2 (lw_V q881 q883 qs15 q63 q884) rfl rfl rfl (by decide +kernel) ⟨(Nat.le_of_ble_eq_true rfl), (Nat.le_of_ble_eq_true rfl)⟩) rfl hl.1 rfl (lv_room (Nat.le_of_ble_eq_true rfl)) dX0_image_14 ⟨(Nat.le_of_ble_eq_true rfl), (Nat.le_of_ble_eq_true rfl)⟩ rfl hM.2 (fun H locs hM => ?_)
    refine lv_if_ne (tgt := 23) hC.1 hC.2.1 dX0_image_17 (by decide) (fun c2 => ?_) (fun c2 => ?_)
    ·
      skip
      refine lv_aload_n hC.1 hC.2.1 dX0_image_23 rfl (lv_at hl 0 rfl) ?_
      refine p_get hC hK hM 0 rfl in_X0 rfl 8 (by decide) q227 (fun x h => h) rfl dX0_image_24 ?_
      refine lv_iload_n hC.1 hC.2.1 dX0_image_27 rfl (lv_at hl 1 rfl) ?_
      refine p_aald hC hK hM 0 rfl 8 rfl rfl rfl (n := k) (by first | rfl | (simp only [← nI_add, ← pk_mul]; rfl)) (by first | decide | (show _ < 2; omega)) (by decide) dX0_image_28 ?_
      rw [hg]
      refine lv_ifnonnull (tgt := 45) hC.1 hC.2.1 dX0_image_29 (by decide) ?_
      refine lv_aload_n hC.1 hC.2.1 dX0_image_45 rfl (lv_at hl 0 rfl) ?_
      refine p_get hC hK hM 0 rfl in_X0 rfl 8 (by decide) q227 (fun x h => h) rfl dX0_image_46 ?_
      refine lv_iload_n hC.1 hC.2.1 dX0_image_49 rfl (lv_at hl 1 rfl) ?_
      refine p_aald hC hK hM 0 rfl 8 rfl rfl rfl (n := k) (by first | rfl | (simp only [← nI_add, ← pk_mul]; rfl)) (by first | decide | (show _ < 2; omega)) (by decide) dX0_image_50 ?_
      rw [hg]
      refine lv_aload_n hC.1 hC.2.1 dX0_image_51 rfl (lv_at hl 0 rfl) ?_
      refine p_get hC hK hM 0 rfl in_X0 rfl 4 (by decide) q223 (fun x h => h) rfl dX0_image_52 ?_
      refine p_cVe (L' := [_, _, _]) hC hK hM (hM.at 2 rfl) rfl (cr_become l κ _ pq pv pd pw (ad 4) rx rd rw (hM.at 2 rfl) (hM.at 1 rfl) (fun e => hne e.symm)) (cwV 1 hC.2.2.2.2 (lw_V q869 q870 q871 q64 q872) rfl rfl rfl (by decide +kernel) ⟨(Nat.le_of_ble_eq_true rfl), (Nat.le_of_ble_eq_true rfl)⟩) rfl hl.1 rfl (lv_room (Nat.le_of_ble_eq_true rfl)) dX0_image_55 ⟨(Nat.le_of_ble_eq_true rfl), (Nat.le_of_ble_eq_true rfl)⟩ (oups_set hM.2 (i := 2) rfl) (oad_nd hM.2 (i := 2) rfl rfl) (fun H locs hM => ?_)
      refine lv_pop hC.1 hC.2.1 dX0_image_58 rfl ?_
      refine lv_iconst (v := 1) hC.1 hC.2.1 dX0_image_59 (by decide) ?_
      skip
      refine p_iret hC hr hlocks hM dX0_image_60 ?_
      refine ⟨rfl, ?_⟩
      rw [oups, oups, oups, oups, oup_comm (a := pq) (b := ad 4) (fun e => hne e.symm), oup_same hR, oup_comm (a := pq) (b := no) (fun e => o_ne hN hP (by decide) e.symm), oup_same hN]
    ·
      skip
      exact absurd (c2 : bI _ = 0) (by rw [bI_t hr0]; decide)
  ·
    skip
    exact absurd (c1 : bI _ = 0) (by rw [bI_t ⟨nI_pos' (by omega), nI_le (b := 1) (by omega) (by omega)⟩]; decide)

set_option maxHeartbeats 400000 in
set_option maxRecDepth 100000 in
theorem cn_imageB (l : Launch) (κ : Nat → Nat) (O : gO) (no : Nat) (cv : Nat → Int32) (ad : Nat → Nat) (g : Nat → Nat → Option Nat) (cw : Nat → Nat → Int32) (rx : Nat → Int32) (rd : Nat → Nat) (rw : Nat → Nat → Int32) (k : Nat) (hN : O no = some (nsU cv ad g cw)) (hR : O (ad 4) = some (rdU rx rd rw)) (hk : k < 2) (hr0 : 0 < rx 0) (hg : g 8 k = none) : oM l κ yX0_image cX0_image 2 (some .int) ({ frames := 5, cells := 7, slots := 88, locals := 92 }) [.ref no, .int (nI k)] O (fun rv O1 => rv = some (.int 1) ∧ ∃ (pq : Nat) (pd : Nat → Nat), O pq = none ∧ O (pd 8) = none ∧ pq ≠ pd 8 ∧ O1 = oup (oup (oup O (pd 8) (lsU 0 (κ 0) 0 aNo)) pq (rdU rx (updN pd 8 (rd 8)) (becW (fun _ _ => 0) rw))) no (nsU cv ad (gput g 8 (va_up (g 8) k (some pq))) cw)) := by
  intro D ac A
  refine o_body (own := RX0) rfl (plainFor_of_name (by decide)) (Nat.le_of_ble_eq_true rfl) ?_
  intro p e s m args below meth c ls hC hr hlocks hK hM hl hnamed hmeth
  have hl : lv_has ls 2 [(0, .ref no), (1, .int (nI k))] := hl
  have hM := PS.of hM [(no, nsU cv ad g cw), (ad 4, rdU rx rd rw)] ⟨hN, hR, trivial⟩ (by simp only [oad, List.map, List.nodup_cons, List.mem_singleton, List.not_mem_nil, not_false_eq_true, List.nodup_nil, and_true]; exact o_ne hN hR (by decide))
  refine lv_iload_n hC.1 hC.2.1 dX0_image_0 rfl (lv_at hl 1 rfl) ?_
  refine lv_i2l hC.1 hC.2.1 dX0_image_1 rfl ?_
  refine lv_lconst (v := 0) hC.1 hC.2.1 dX0_image_2 (by decide) ?_
  refine lv_lconst (v := 1) hC.1 hC.2.1 dX0_image_3 (by decide) ?_
  refine s_ci hC ((cc_isIn l (a := 0) (b := 1) rfl rfl rfl)) (va_cwS 3 hC.2.2.2.2 (lw_S q265 q266 q63 q267) rfl rfl rfl (by decide +kernel) ⟨(Nat.le_of_ble_eq_true rfl), (Nat.le_of_ble_eq_true rfl)⟩) rfl hl.1 rfl (lv_room (Nat.le_of_ble_eq_true rfl)) dX0_image_4 ⟨(Nat.le_of_ble_eq_true rfl), (Nat.le_of_ble_eq_true rfl)⟩ ?_
  refine lv_if_ne (tgt := 13) hC.1 hC.2.1 dX0_image_7 (by decide) (fun c1 => ?_) (fun c1 => ?_)
  ·
    skip
    refine lv_aload_n hC.1 hC.2.1 dX0_image_13 rfl (lv_at hl 0 rfl) ?_
    refine p_cVe (L' := [_, _]) hC hK hM (hM.at 0 rfl) rfl (cn_isRoad l κ _ no cv ad g cw rx rd rw (hM.at 0 rfl) (hM.at 1 rfl)) (cwV 0 hC.2.2.2.2 (lw_V q881 q883 qs15 q63 q884) rfl rfl rfl (by decide +kernel) ⟨(Nat.le_of_ble_eq_true rfl), (Nat.le_of_ble_eq_true rfl)⟩) rfl hl.1 rfl (lv_room (Nat.le_of_ble_eq_true rfl)) dX0_image_14 ⟨(Nat.le_of_ble_eq_true rfl), (Nat.le_of_ble_eq_true rfl)⟩ rfl hM.2 (fun H locs hM => ?_)
    refine lv_if_ne (tgt := 23) hC.1 hC.2.1 dX0_image_17 (by decide) (fun c2 => ?_) (fun c2 => ?_)
    ·
      skip
      refine lv_aload_n hC.1 hC.2.1 dX0_image_23 rfl (lv_at hl 0 rfl) ?_
      refine p_get hC hK hM 0 rfl in_X0 rfl 8 (by decide) q227 (fun x h => h) rfl dX0_image_24 ?_
      refine lv_iload_n hC.1 hC.2.1 dX0_image_27 rfl (lv_at hl 1 rfl) ?_
      refine p_aald hC hK hM 0 rfl 8 rfl rfl rfl (n := k) (by first | rfl | (simp only [← nI_add, ← pk_mul]; rfl)) (by first | decide | (show _ < 2; omega)) (by decide) dX0_image_28 ?_
      rw [hg]
      refine lv_ifnonnullN hC.1 hC.2.1 dX0_image_29 ?_
      refine lv_aload_n hC.1 hC.2.1 dX0_image_32 rfl (lv_at hl 0 rfl) ?_
      refine p_get hC hK hM 0 rfl in_X0 rfl 8 (by decide) q227 (fun x h => h) rfl dX0_image_33 ?_
      refine lv_iload_n hC.1 hC.2.1 dX0_image_36 rfl (lv_at hl 1 rfl) ?_
      refine p_new (L' := fun q => [_, _, _]) hC hK hM (ci := 1) in_X1 tyX1 tyX1_ok q108 q109 q64 rfl (fs := [.int 0, .int 0, .int 0, .int 0, .int 0, .null, .null, .null, .null, .int 0, .null, .int 0, .null]) (by decide) (Nat.le_of_ble_eq_true rfl) (Nat.le_of_ble_eq_true rfl) dX0_image_37 (fun q => rfl) (fun q_3 H hq_3 hM => ?_)
      refine lv_dup hC.1 hC.2.1 dX0_image_40 rfl ?_
      refine o_cIN hC hK hM.1 (cr_init l κ _ q_3 (hM.at 2 rfl)) ⟨va_cnB 0 hC.2.2.2.2 (lw_meth q112) rfl rfl rfl (hK.1.2.1 _ q110 rfl) (hC.2.2.2.2 _ q64) (by decide +kernel) ⟨(Nat.le_of_ble_eq_true rfl), (Nat.le_of_ble_eq_true rfl)⟩, rfl, hC.2.2.2.2 _ q111⟩ rfl hl.1 rfl (lv_room (Nat.le_of_ble_eq_true rfl)) dX0_image_41 ⟨(Nat.le_of_ble_eq_true rfl), (Nat.le_of_ble_eq_true rfl)⟩ (fun rv O1 H locs hp hM1 => ?_)
      obtain ⟨pd, hp1, hp2, hp3⟩ := hp
      subst hp3
      rw [hp2] at hM1
      obtain ⟨hpn, hpo, hM⟩ := PS.newR (L' := [_, _, _, _]) hM.2 (i := 2) rfl hp1 hM1 rfl
      refine p_aast (L' := [_, _, _, _]) hC hK hM 0 rfl 8 rfl rfl rfl (hM.at 2 rfl) rfl (fun comp c0 h1 h2 => by rw [Option.some.inj (h2.symm.trans h1)]; exact va_asg _ _) (n := k) (by first | rfl | (simp only [← nI_add, ← pk_mul]; rfl)) (by first | decide | (show _ < 2; omega)) (by decide) (nar_8 _ _ _) rfl dX0_image_44 (fun H locs hM => ?_)
      refine lv_aload_n hC.1 hC.2.1 dX0_image_45 rfl (lv_at hl 0 rfl) ?_
      refine p_get hC hK hM 0 rfl in_X0 rfl 8 (by decide) q227 (fun x h => h) rfl dX0_image_46 ?_
      refine lv_iload_n hC.1 hC.2.1 dX0_image_49 rfl (lv_at hl 1 rfl) ?_
      refine p_aald hC hK hM 0 rfl 8 rfl rfl rfl (n := k) (by first | rfl | (simp only [← nI_add, ← pk_mul]; rfl)) (by first | decide | (show _ < 2; omega)) (by decide) dX0_image_50 ?_
      rw [show gput g 8 (va_up (g 8) k (some q_3)) 8 k = some q_3 from va_up_self _ _ _]
      refine lv_aload_n hC.1 hC.2.1 dX0_image_51 rfl (lv_at hl 0 rfl) ?_
      refine p_get hC hK hM 0 rfl in_X0 rfl 4 (by decide) q223 (fun x h => h) rfl dX0_image_52 ?_
      refine p_cVe (L' := [_, _, _, _]) hC hK hM (hM.at 2 rfl) rfl (cr_become l κ _ q_3 (fun _ => 0) pd (fun _ _ => 0) (ad 4) rx rd rw (hM.at 2 rfl) (hM.at 1 rfl) (fun e => by rw [e] at hq_3; rw [hR] at hq_3; cases hq_3)) (cwV 1 hC.2.2.2.2 (lw_V q869 q870 q871 q64 q872) rfl rfl rfl (by decide +kernel) ⟨(Nat.le_of_ble_eq_true rfl), (Nat.le_of_ble_eq_true rfl)⟩) rfl hl.1 rfl (lv_room (Nat.le_of_ble_eq_true rfl)) dX0_image_55 ⟨(Nat.le_of_ble_eq_true rfl), (Nat.le_of_ble_eq_true rfl)⟩ (oups_set hM.2 (i := 2) rfl) (oad_nd hM.2 (i := 2) rfl rfl) (fun H locs hM => ?_)
      refine lv_pop hC.1 hC.2.1 dX0_image_58 rfl ?_
      refine lv_iconst (v := 1) hC.1 hC.2.1 dX0_image_59 (by decide) ?_
      refine W.widen (k := 7) (n := 88) (Nat.le_of_ble_eq_true rfl) (Nat.le_of_ble_eq_true rfl) ?_
      refine p_iret hC hr hlocks hM dX0_image_60 ?_
      refine ⟨rfl, q_3, pd, hq_3, hpn, fun e => hpo (by rw [← e]; simp [oad]), ?_⟩
      rw [oups, oups, oups, oups, oups, oup_comm (a := q_3) (b := ad 4) (fun e => by rw [e] at hq_3; rw [hR] at hq_3; cases hq_3), oup_comm (a := pd 8) (b := ad 4) (fun e => by rw [e] at hpn; rw [hR] at hpn; cases hpn), oup_same hR]
    ·
      skip
      exact absurd (c2 : bI _ = 0) (by rw [bI_t hr0]; decide)
  ·
    skip
    exact absurd (c1 : bI _ = 0) (by rw [bI_t ⟨nI_pos' (by omega), nI_le (b := 1) (by omega) (by omega)⟩]; decide)

set_option maxHeartbeats 400000 in
set_option maxRecDepth 100000 in
theorem cn_nightR (l : Launch) (κ : Nat → Nat) (O : gO) (no : Nat) (cv : Nat → Int32) (ad : Nat → Nat) (g : Nat → Nat → Option Nat) (cw : Nat → Nat → Int32) (rx : Nat → Int32) (rd : Nat → Nat) (rw : Nat → Nat → Int32) (hN : O no = some (nsU cv ad g cw)) (hR : O (ad 4) = some (rdU rx rd rw)) (hr0 : ¬ 0 < rx 0) : oM l κ yX0_night cX0_night 1 (some .int) ({ frames := 1, cells := 0, slots := 0, locals := 20 }) [.ref no] O (fun rv O1 => rv = some (.int (-1000002)) ∧ O1 = O) := by
  intro D ac A
  refine o_body (own := RX0) rfl (plainFor_of_name (by decide)) (Nat.le_of_ble_eq_true rfl) ?_
  intro p e s m args below meth c ls hC hr hlocks hK hM hl hnamed hmeth
  have hl : lv_has ls 1 [(0, .ref no)] := hl
  have hM := PS.of hM [(no, nsU cv ad g cw), (ad 4, rdU rx rd rw)] ⟨hN, hR, trivial⟩ (by simp only [oad, List.map, List.nodup_cons, List.mem_singleton, List.not_mem_nil, not_false_eq_true, List.nodup_nil, and_true]; exact o_ne hN hR (by decide))
  refine lv_aload_n hC.1 hC.2.1 dX0_night_0 rfl (lv_at hl 0 rfl) ?_
  refine p_cVe (L' := [_, _]) hC hK hM (hM.at 0 rfl) rfl (cn_isRoad l κ _ no cv ad g cw rx rd rw (hM.at 0 rfl) (hM.at 1 rfl)) (cwV 0 hC.2.2.2.2 (lw_V q881 q883 qs15 q63 q884) rfl rfl rfl (by decide +kernel) ⟨(Nat.le_of_ble_eq_true rfl), (Nat.le_of_ble_eq_true rfl)⟩) rfl hl.1 rfl (lv_room (Nat.le_of_ble_eq_true rfl)) dX0_night_1 ⟨(Nat.le_of_ble_eq_true rfl), (Nat.le_of_ble_eq_true rfl)⟩ rfl hM.2 (fun H locs hM => ?_)
  refine lv_if_ne (tgt := 10) hC.1 hC.2.1 dX0_night_4 (by decide) (fun c1 => ?_) (fun c1 => ?_)
  ·
    skip
    exact absurd (bI_n0.mp c1) hr0
  ·
    skip
    refine lv_ldc hC.1 hC.2.1 hC.2.2.2.1 (hC.2.2.2.2 _ q885) dX0_night_7 ?_
    skip
    refine p_iret hC hr hlocks hM dX0_night_9 ?_
    exact ⟨rfl, by rw [oups, oups, oups, oup_same hR]; exact oup_same hN⟩

set_option maxHeartbeats 400000 in
set_option maxRecDepth 100000 in
theorem cn_nightF (l : Launch) (κ : Nat → Nat) (O : gO) (no : Nat) (cv : Nat → Int32) (ad : Nat → Nat) (g : Nat → Nat → Option Nat) (cw : Nat → Nat → Int32) (rx : Nat → Int32) (rd : Nat → Nat) (rw : Nat → Nat → Int32) (hN : O no = some (nsU cv ad g cw)) (hR : O (ad 4) = some (rdU rx rd rw)) (hr0 : 0 < rx 0) (h9 : rx 9 = 9999) : oM l κ yX0_night cX0_night 1 (some .int) ({ frames := 1, cells := 0, slots := 0, locals := 20 }) [.ref no] O (fun rv O1 => rv = some (.int (-1000003)) ∧ O1 = O) := by
  intro D ac A
  refine o_body (own := RX0) rfl (plainFor_of_name (by decide)) (Nat.le_of_ble_eq_true rfl) ?_
  intro p e s m args below meth c ls hC hr hlocks hK hM hl hnamed hmeth
  have hl : lv_has ls 1 [(0, .ref no)] := hl
  have hM := PS.of hM [(no, nsU cv ad g cw), (ad 4, rdU rx rd rw)] ⟨hN, hR, trivial⟩ (by simp only [oad, List.map, List.nodup_cons, List.mem_singleton, List.not_mem_nil, not_false_eq_true, List.nodup_nil, and_true]; exact o_ne hN hR (by decide))
  refine lv_aload_n hC.1 hC.2.1 dX0_night_0 rfl (lv_at hl 0 rfl) ?_
  refine p_cVe (L' := [_, _]) hC hK hM (hM.at 0 rfl) rfl (cn_isRoad l κ _ no cv ad g cw rx rd rw (hM.at 0 rfl) (hM.at 1 rfl)) (cwV 0 hC.2.2.2.2 (lw_V q881 q883 qs15 q63 q884) rfl rfl rfl (by decide +kernel) ⟨(Nat.le_of_ble_eq_true rfl), (Nat.le_of_ble_eq_true rfl)⟩) rfl hl.1 rfl (lv_room (Nat.le_of_ble_eq_true rfl)) dX0_night_1 ⟨(Nat.le_of_ble_eq_true rfl), (Nat.le_of_ble_eq_true rfl)⟩ rfl hM.2 (fun H locs hM => ?_)
  refine lv_if_ne (tgt := 10) hC.1 hC.2.1 dX0_night_4 (by decide) (fun c1 => ?_) (fun c1 => ?_)
  ·
    skip
    refine lv_aload_n hC.1 hC.2.1 dX0_night_10 rfl (lv_at hl 0 rfl) ?_
    refine p_get hC hK hM 0 rfl in_X0 rfl 4 (by decide) q223 (fun x h => h) rfl dX0_night_11 ?_
    refine p_get hC hK hM 1 rfl in_X1 rfl 9 (by decide) q170 (fun x h => h) rfl dX0_night_14 ?_
    refine lv_sipush (v := 9999) hC.1 hC.2.1 dX0_night_17 (by decide) ?_
    refine lv_icmp_ne (tgt := 26) hC.1 hC.2.1 dX0_night_20 (by decide) (fun c2 => ?_) (fun c2 => ?_)
    ·
      skip
      exact absurd h9 c2
    ·
      skip
      refine lv_ldc hC.1 hC.2.1 hC.2.2.2.1 (hC.2.2.2.2 _ q423) dX0_night_23 ?_
      skip
      refine p_iret hC hr hlocks hM dX0_night_25 ?_
      exact ⟨rfl, by rw [oups, oups, oups, oup_same hR]; exact oup_same hN⟩
  ·
    skip
    exact absurd (c1 : bI _ = 0) (by rw [bI_t hr0]; decide)

set_option maxHeartbeats 400000 in
set_option maxRecDepth 100000 in
theorem cn_night (l : Launch) (κ : Nat → Nat) (O : gO) (no : Nat) (cv : Nat → Int32) (ad : Nat → Nat) (g : Nat → Nat → Option Nat) (cw : Nat → Nat → Int32) (rx : Nat → Int32) (rd : Nat → Nat) (rw : Nat → Nat → Int32) (hN : O no = some (nsU cv ad g cw)) (hR : O (ad 4) = some (rdU rx rd rw)) (mm : Nat) (kd : Nat → Nat) (mv : Nat → Nat → Int32) (hmvs : mvs κ O (rd 8) mm kd mv) (n : Nat) (en : rx 4 = nI n) (hn : n ≤ 6) (hmo : mvOk n mm mv) (ro : Nat → Int32) (hro : rdX ro rx rw mm kd mv) (a : Nat) (ea : cv 7 = nI a) (ha : a ≤ 24) (hpast : ∀ j, j < 24 → (g 6 j = none → a ≤ j) ∧ ∀ q, g 6 j = some q → (∃ v d w, O q = some (rdU v d w)) ∧ q ≠ ad 4) (hr0 : 0 < rx 0) (nt : Nat) (ent : rx 9 = nI nt) (hnt : nt < 9999) : oM l κ yX0_night cX0_night 1 (some .int) ({ frames := 6, cells := 7, slots := 88, locals := 114 }) [.ref no] O (fun rv O1 => rv = some (.int (difL (goF ro n nt 31 (rw 6) mm) (rw 6) n)) ∧ ∃ O2, keepP O no cv ad g cw rx rd rw a O2 ∧ O1 = oup O2 (ad 4) (rdU (upd rx 9 (nI (nt + 1))) rd (wput (wput rw 12 (va_cpy (rw 6) (rw 12) 0 0 n)) 6 (goF ro n nt 31 (rw 6) mm)))) := by
  have hmvs0 := hmvs
  obtain ⟨mc, ls0, lf, ar, hls, hm5, hl0, hlr, hmv⟩ := hmvs
  intro D ac A
  refine o_body (own := RX0) rfl (plainFor_of_name (by decide)) (Nat.le_of_ble_eq_true rfl) ?_
  intro p e s m args below meth c ls hC hr hlocks hK hM hl hnamed hmeth
  have hl : lv_has ls 1 [(0, .ref no)] := hl
  have hM := PS.of hM [(no, nsU cv ad g cw), (ad 4, rdU rx rd rw), (rd 8, lsU mc ls0 (nI mm) ar)] ⟨hN, hR, hls, trivial⟩ (by simp only [oad, List.map, List.nodup_cons, List.mem_cons, List.mem_singleton, List.not_mem_nil, not_or, or_false, not_false_eq_true, List.nodup_nil, and_true]; exact ⟨⟨o_ne hN hR (by decide), o_ne hN hls (by decide)⟩, o_ne hR hls (by decide)⟩)
  refine lv_aload_n hC.1 hC.2.1 dX0_night_0 rfl (lv_at hl 0 rfl) ?_
  refine p_cVe (L' := [_, _, _]) hC hK hM (hM.at 0 rfl) rfl (cn_isRoad l κ _ no cv ad g cw rx rd rw (hM.at 0 rfl) (hM.at 1 rfl)) (cwV 0 hC.2.2.2.2 (lw_V q881 q883 qs15 q63 q884) rfl rfl rfl (by decide +kernel) ⟨(Nat.le_of_ble_eq_true rfl), (Nat.le_of_ble_eq_true rfl)⟩) rfl hl.1 rfl (lv_room (Nat.le_of_ble_eq_true rfl)) dX0_night_1 ⟨(Nat.le_of_ble_eq_true rfl), (Nat.le_of_ble_eq_true rfl)⟩ rfl hM.2 (fun H locs hM => ?_)
  refine lv_if_ne (tgt := 10) hC.1 hC.2.1 dX0_night_4 (by decide) (fun c1 => ?_) (fun c1 => ?_)
  ·
    skip
    refine lv_aload_n hC.1 hC.2.1 dX0_night_10 rfl (lv_at hl 0 rfl) ?_
    refine p_get hC hK hM 0 rfl in_X0 rfl 4 (by decide) q223 (fun x h => h) rfl dX0_night_11 ?_
    refine p_get hC hK hM 1 rfl in_X1 rfl 9 (by decide) q170 (fun x h => h) rfl dX0_night_14 ?_
    rw [ent]
    refine lv_sipush (v := 9999) hC.1 hC.2.1 dX0_night_17 (by decide) ?_
    refine lv_icmp_ne (tgt := 26) hC.1 hC.2.1 dX0_night_20 (by decide) (fun c2 => ?_) (fun c2 => ?_)
    ·
      skip
      refine lv_aload_n hC.1 hC.2.1 dX0_night_26 rfl (lv_at hl 0 rfl) ?_
      refine o_cV hC hK hM.1 (hM.at 0 rfl) rfl (cn_keep l κ _ no cv ad g cw rx rd rw (hM.at 0 rfl) (hM.at 1 rfl) a ea ha (by rw [show oups O _ = O from by rw [oups, oups, oups, oups, oup_same hls, oup_same hR]; exact oup_same hN]; exact hpast)) (cwV 0 hC.2.2.2.2 (lw_V q886 q888 qs16 q63 q889) rfl rfl rfl (by decide +kernel) ⟨(Nat.le_of_ble_eq_true rfl), (Nat.le_of_ble_eq_true rfl)⟩) rfl hl.1 rfl (lv_room (Nat.le_of_ble_eq_true rfl)) dX0_night_27 ⟨(Nat.le_of_ble_eq_true rfl), (Nat.le_of_ble_eq_true rfl)⟩ (fun rv O1 H locs hp hM1 => ?_)
      obtain ⟨kP, rfl⟩ := hp
      have hO0 : oups O [(no, nsU cv ad g cw), (ad 4, rdU rx rd rw), (rd 8, lsU mc ls0 (nI mm) ar)] = O := by rw [oups, oups, oups, oups, oup_same hls, oup_same hR]; exact oup_same hN
      rw [hO0] at kP
      obtain ⟨cv1, g1, hN1⟩ := kP.no
      have hR1 := kP.kp hR (o_ne hR hN (by decide)) (Or.inr rfl)
      have hls1 := kP.kp hls (o_ne hls hN (by decide)) (Or.inl (by decide))
      have hkM := kP.kpM hN
      have hM := PS.of hM1 [(no, nsU cv1 ad g1 cw), (ad 4, rdU rx rd rw), (rd 8, lsU mc ls0 (nI mm) ar)] ⟨hN1, hR1, hls1, trivial⟩ (by simp only [oad, List.map, List.nodup_cons, List.mem_cons, List.mem_singleton, List.not_mem_nil, not_or, or_false, not_false_eq_true, List.nodup_nil, and_true]; exact ⟨⟨o_ne hN hR (by decide), o_ne hN hls (by decide)⟩, o_ne hR hls (by decide)⟩)
      have hO1 : oups O1 [(no, nsU cv1 ad g1 cw), (ad 4, rdU rx rd rw), (rd 8, lsU mc ls0 (nI mm) ar)] = O1 := by rw [oups, oups, oups, oups, oup_same hls1, oup_same hR1]; exact oup_same hN1
      refine lv_aload_n hC.1 hC.2.1 dX0_night_30 rfl (lv_at hl 0 rfl) ?_
      refine p_get hC hK hM 0 rfl in_X0 rfl 4 (by decide) q223 (fun x h => h) rfl dX0_night_31 ?_
      refine lv_aload_n hC.1 hC.2.1 dX0_night_34 rfl (lv_at hl 0 rfl) ?_
      refine p_get hC hK hM 0 rfl in_X0 rfl 4 (by decide) q223 (fun x h => h) rfl dX0_night_35 ?_
      refine p_cVe (L' := [_, _, _]) hC hK hM (hM.at 1 rfl) rfl (cr_all l κ _ (ad 4) rx rd rw mc ls0 mm ar (hM.at 1 rfl) (hM.at 2 rfl)) (cwV 0 hC.2.2.2.2 (lw_V q890 q891 q892 q64 q893) rfl rfl rfl (by decide +kernel) ⟨(Nat.le_of_ble_eq_true rfl), (Nat.le_of_ble_eq_true rfl)⟩) rfl hl.1 rfl (lv_room (Nat.le_of_ble_eq_true rfl)) dX0_night_38 ⟨(Nat.le_of_ble_eq_true rfl), (Nat.le_of_ble_eq_true rfl)⟩ rfl hM.2 (fun H locs hM => ?_)
      refine p_cVe (L' := [_, _, _]) hC hK hM (hM.at 1 rfl) rfl (cr_pass l κ _ (ad 4) rx rd rw ((1 : Int32) <<< (nI mm &&& 31) - 1) (hM.at 1 rfl) n en hn mm kd mv (by rw [hO1]; exact hmvs0.kp hkM) hmo ro hro nt ent (by omega)) (cwV 1 hC.2.2.2.2 (lw_V q896 q897 q898 q64 q899) rfl rfl rfl (by decide +kernel) ⟨(Nat.le_of_ble_eq_true rfl), (Nat.le_of_ble_eq_true rfl)⟩) rfl hl.1 rfl (lv_room (Nat.le_of_ble_eq_true rfl)) dX0_night_41 ⟨(Nat.le_of_ble_eq_true rfl), (Nat.le_of_ble_eq_true rfl)⟩ (oups_set hM.2 (i := 1) rfl) (oad_nd hM.2 (i := 1) rfl rfl) (fun H locs hM => ?_)
      rw [goF_all hm5 mm (Nat.le_refl mm)]
      rw [goF_all hm5 mm (Nat.le_refl mm)] at hM
      refine W.widen (k := 7) (n := 88) (Nat.le_of_ble_eq_true rfl) (Nat.le_of_ble_eq_true rfl) ?_
      refine p_iret hC hr hlocks hM dX0_night_44 ?_
      refine ⟨rfl, _, kP, ?_⟩
      rw [oups, oups, oups, oups, oup_same hls1, oup_comm (a := ad 4) (b := no) (fun e => o_ne hN hR (by decide) e.symm), oup_same hN1]
    ·
      skip
      exact absurd (neq_t (a := nt) (b := 9999) c2) (by omega)
  ·
    skip
    exact absurd (c1 : bI _ = 0) (by rw [bI_t hr0]; decide)

set_option maxHeartbeats 400000 in
set_option maxRecDepth 100000 in
theorem cn_proveX (l : Launch) (κ : Nat → Nat) (O : gO) (no : Nat) (cv : Nat → Int32) (ad : Nat → Nat) (g : Nat → Nat → Option Nat) (cw : Nat → Nat → Int32) (rx : Nat → Int32) (rd : Nat → Nat) (rw : Nat → Nat → Int32) (x : Int32) (hN : O no = some (nsU cv ad g cw)) (hR : O (ad 4) = some (rdU rx rd rw)) (hx : ¬ (0 ≤ x ∧ x ≤ rx 4 - 1)) : oM l κ yX0_prove cX0_prove 3 (some .int) ({ frames := 2, cells := 0, slots := 0, locals := 46 }) [.ref no, .int x] O (fun rv O1 => rv = some (.int (-1000001)) ∧ O1 = O) := by
  intro D ac A
  refine o_body (own := RX0) rfl (plainFor_of_name (by decide)) (Nat.le_of_ble_eq_true rfl) ?_
  intro p e s m args below meth c ls hC hr hlocks hK hM hl hnamed hmeth
  have hl : lv_has ls 3 [(0, .ref no), (1, .int x)] := hl
  have hM := PS.of hM [(no, nsU cv ad g cw), (ad 4, rdU rx rd rw)] ⟨hN, hR, trivial⟩ (by simp only [oad, List.map, List.nodup_cons, List.mem_singleton, List.not_mem_nil, not_false_eq_true, List.nodup_nil, and_true]; exact o_ne hN hR (by decide))
  refine lv_aload_n hC.1 hC.2.1 dX0_prove_0 rfl (lv_at hl 0 rfl) ?_
  refine lv_iload_n hC.1 hC.2.1 dX0_prove_1 rfl (lv_at hl 1 rfl) ?_
  refine p_cVe (L' := [_, _]) hC hK hM (hM.at 0 rfl) rfl (cn_isStone l κ _ no cv ad g cw rx rd rw x (hM.at 0 rfl) (hM.at 1 rfl)) (cwV 1 hC.2.2.2.2 (lw_V q974 q976 qs19 q63 q977) rfl rfl rfl (by decide +kernel) ⟨(Nat.le_of_ble_eq_true rfl), (Nat.le_of_ble_eq_true rfl)⟩) rfl hl.1 rfl (lv_room (Nat.le_of_ble_eq_true rfl)) dX0_prove_2 ⟨(Nat.le_of_ble_eq_true rfl), (Nat.le_of_ble_eq_true rfl)⟩ rfl hM.2 (fun H locs hM => ?_)
  refine lv_if_ne (tgt := 11) hC.1 hC.2.1 dX0_prove_5 (by decide) (fun c1 => ?_) (fun c1 => ?_)
  ·
    skip
    exact absurd (bI_n0.mp c1) hx
  ·
    skip
    refine lv_ldc hC.1 hC.2.1 hC.2.2.2.1 (hC.2.2.2.2 _ q269) dX0_prove_8 ?_
    skip
    refine p_iret hC hr hlocks hM dX0_prove_10 ?_
    exact ⟨rfl, by rw [oups, oups, oups, oup_same hR]; exact oup_same hN⟩

set_option maxHeartbeats 400000 in
set_option maxRecDepth 100000 in
theorem cn_proveN (l : Launch) (κ : Nat → Nat) (O : gO) (no : Nat) (cv : Nat → Int32) (ad : Nat → Nat) (g : Nat → Nat → Option Nat) (cw : Nat → Nat → Int32) (rx : Nat → Int32) (rd : Nat → Nat) (rw : Nat → Nat → Int32) (k : Nat) (n : Nat) (en : rx 4 = nI n) (hn : n ≤ 6) (hN : O no = some (nsU cv ad g cw)) (hR : O (ad 4) = some (rdU rx rd rw)) (hk : k < n) (hb : ¬ cgL (rw 6) k (minI (rw 6 k) (rw 7 k)) (maxI (rw 6 k) (rw 7 k)) (decide (rw 6 k ≠ rw 7 k)) n = true) : oM l κ yX0_prove cX0_prove 3 (some .int) ({ frames := 2, cells := 0, slots := 0, locals := 50 }) [.ref no, .int (nI k)] O (fun rv O1 => rv = some (.int (-1000002)) ∧ O1 = O) := by
  intro D ac A
  refine o_body (own := RX0) rfl (plainFor_of_name (by decide)) (Nat.le_of_ble_eq_true rfl) ?_
  intro p e s m args below meth c ls hC hr hlocks hK hM hl hnamed hmeth
  have hl : lv_has ls 3 [(0, .ref no), (1, .int (nI k))] := hl
  have hM := PS.of hM [(no, nsU cv ad g cw), (ad 4, rdU rx rd rw)] ⟨hN, hR, trivial⟩ (by simp only [oad, List.map, List.nodup_cons, List.mem_singleton, List.not_mem_nil, not_false_eq_true, List.nodup_nil, and_true]; exact o_ne hN hR (by decide))
  refine lv_aload_n hC.1 hC.2.1 dX0_prove_0 rfl (lv_at hl 0 rfl) ?_
  refine lv_iload_n hC.1 hC.2.1 dX0_prove_1 rfl (lv_at hl 1 rfl) ?_
  refine p_cVe (L' := [_, _]) hC hK hM (hM.at 0 rfl) rfl (cn_isStone l κ _ no cv ad g cw rx rd rw (nI k) (hM.at 0 rfl) (hM.at 1 rfl)) (cwV 1 hC.2.2.2.2 (lw_V q974 q976 qs19 q63 q977) rfl rfl rfl (by decide +kernel) ⟨(Nat.le_of_ble_eq_true rfl), (Nat.le_of_ble_eq_true rfl)⟩) rfl hl.1 rfl (lv_room (Nat.le_of_ble_eq_true rfl)) dX0_prove_2 ⟨(Nat.le_of_ble_eq_true rfl), (Nat.le_of_ble_eq_true rfl)⟩ rfl hM.2 (fun H locs hM => ?_)
  refine lv_if_ne (tgt := 11) hC.1 hC.2.1 dX0_prove_5 (by decide) (fun c1 => ?_) (fun c1 => ?_)
  ·
    skip
    refine lv_aload_n hC.1 hC.2.1 dX0_prove_11 rfl (lv_at hl 0 rfl) ?_
    refine p_get hC hK hM 0 rfl in_X0 rfl 4 (by decide) q223 (fun x h => h) rfl dX0_prove_12 ?_
    refine lv_iload_n hC.1 hC.2.1 dX0_prove_15 rfl (lv_at hl 1 rfl) ?_
    refine p_cVe (L' := [_, _]) hC hK hM (hM.at 1 rfl) rfl (cr_canGoHome l κ _ (ad 4) rx rd rw k (hM.at 1 rfl) n en hn hk) (cwV 1 hC.2.2.2.2 (lw_V q978 q979 q980 q64 q981) rfl rfl rfl (by decide +kernel) ⟨(Nat.le_of_ble_eq_true rfl), (Nat.le_of_ble_eq_true rfl)⟩) rfl hl.1 rfl (lv_room (Nat.le_of_ble_eq_true rfl)) dX0_prove_16 ⟨(Nat.le_of_ble_eq_true rfl), (Nat.le_of_ble_eq_true rfl)⟩ rfl hM.2 (fun H locs hM => ?_)
    refine lv_if_ne (tgt := 25) hC.1 hC.2.1 dX0_prove_19 (by decide) (fun c2 => ?_) (fun c2 => ?_)
    ·
      skip
      exact absurd (bI_n0.mp c2) hb
    ·
      skip
      refine lv_ldc hC.1 hC.2.1 hC.2.2.2.1 (hC.2.2.2.2 _ q885) dX0_prove_22 ?_
      skip
      refine p_iret hC hr hlocks hM dX0_prove_24 ?_
      exact ⟨rfl, by rw [oups, oups, oups, oup_same hR]; exact oup_same hN⟩
  ·
    skip
    exact absurd (c1 : bI _ = 0) (by rw [bI_t ⟨nI_pos' (by omega), by rw [en, show n = (n - 1) + 1 by omega, nI_pred]; exact nI_le (by omega) (by omega)⟩]; decide)

set_option maxHeartbeats 400000 in
set_option maxRecDepth 100000 in
theorem cn_prove (l : Launch) (κ : Nat → Nat) (O : gO) (no : Nat) (cv : Nat → Int32) (ad : Nat → Nat) (g : Nat → Nat → Option Nat) (cw : Nat → Nat → Int32) (rx : Nat → Int32) (rd : Nat → Nat) (rw : Nat → Nat → Int32) (k : Nat) (n : Nat) (en : rx 4 = nI n) (hn : n ≤ 6) (hN : O no = some (nsU cv ad g cw)) (hR : O (ad 4) = some (rdU rx rd rw)) (a : Nat) (ea : cv 7 = nI a) (ha : a ≤ 24) (hpast : ∀ j, j < 24 → (g 6 j = none → a ≤ j) ∧ ∀ q, g 6 j = some q → (∃ v d w, O q = some (rdU v d w)) ∧ q ≠ ad 4) (hk : k < n) (hb : cgL (rw 6) k (minI (rw 6 k) (rw 7 k)) (maxI (rw 6 k) (rw 7 k)) (decide (rw 6 k ≠ rw 7 k)) n = true) : oM l κ yX0_prove cX0_prove 3 (some .int) ({ frames := 6, cells := 7, slots := 88, locals := 114 }) [.ref no, .int (nI k)] O (fun rv O1 => rv = some (.int (absI (rw 6 k - rw 7 k))) ∧ ∃ O2, keepP O no cv ad g cw rx rd rw a O2 ∧ O1 = oup O2 (ad 4) (rdU rx rd (wput rw 6 (upd (rw 6) k (rw 7 k))))) := by
  intro D ac A
  refine o_body (own := RX0) rfl (plainFor_of_name (by decide)) (Nat.le_of_ble_eq_true rfl) ?_
  intro p e s m args below meth c ls hC hr hlocks hK hM hl hnamed hmeth
  have hl : lv_has ls 3 [(0, .ref no), (1, .int (nI k))] := hl
  have hM := PS.of hM [(no, nsU cv ad g cw), (ad 4, rdU rx rd rw)] ⟨hN, hR, trivial⟩ (by simp only [oad, List.map, List.nodup_cons, List.mem_singleton, List.not_mem_nil, not_false_eq_true, List.nodup_nil, and_true]; exact o_ne hN hR (by decide))
  refine lv_aload_n hC.1 hC.2.1 dX0_prove_0 rfl (lv_at hl 0 rfl) ?_
  refine lv_iload_n hC.1 hC.2.1 dX0_prove_1 rfl (lv_at hl 1 rfl) ?_
  refine p_cVe (L' := [_, _]) hC hK hM (hM.at 0 rfl) rfl (cn_isStone l κ _ no cv ad g cw rx rd rw (nI k) (hM.at 0 rfl) (hM.at 1 rfl)) (cwV 1 hC.2.2.2.2 (lw_V q974 q976 qs19 q63 q977) rfl rfl rfl (by decide +kernel) ⟨(Nat.le_of_ble_eq_true rfl), (Nat.le_of_ble_eq_true rfl)⟩) rfl hl.1 rfl (lv_room (Nat.le_of_ble_eq_true rfl)) dX0_prove_2 ⟨(Nat.le_of_ble_eq_true rfl), (Nat.le_of_ble_eq_true rfl)⟩ rfl hM.2 (fun H locs hM => ?_)
  refine lv_if_ne (tgt := 11) hC.1 hC.2.1 dX0_prove_5 (by decide) (fun c1 => ?_) (fun c1 => ?_)
  ·
    skip
    refine lv_aload_n hC.1 hC.2.1 dX0_prove_11 rfl (lv_at hl 0 rfl) ?_
    refine p_get hC hK hM 0 rfl in_X0 rfl 4 (by decide) q223 (fun x h => h) rfl dX0_prove_12 ?_
    refine lv_iload_n hC.1 hC.2.1 dX0_prove_15 rfl (lv_at hl 1 rfl) ?_
    refine p_cVe (L' := [_, _]) hC hK hM (hM.at 1 rfl) rfl (cr_canGoHome l κ _ (ad 4) rx rd rw k (hM.at 1 rfl) n en hn hk) (cwV 1 hC.2.2.2.2 (lw_V q978 q979 q980 q64 q981) rfl rfl rfl (by decide +kernel) ⟨(Nat.le_of_ble_eq_true rfl), (Nat.le_of_ble_eq_true rfl)⟩) rfl hl.1 rfl (lv_room (Nat.le_of_ble_eq_true rfl)) dX0_prove_16 ⟨(Nat.le_of_ble_eq_true rfl), (Nat.le_of_ble_eq_true rfl)⟩ rfl hM.2 (fun H locs hM => ?_)
    refine lv_if_ne (tgt := 25) hC.1 hC.2.1 dX0_prove_19 (by decide) (fun c2 => ?_) (fun c2 => ?_)
    ·
      skip
      refine lv_aload_n hC.1 hC.2.1 dX0_prove_25 rfl (lv_at hl 0 rfl) ?_
      refine o_cV hC hK hM.1 (hM.at 0 rfl) rfl (cn_keep l κ _ no cv ad g cw rx rd rw (hM.at 0 rfl) (hM.at 1 rfl) a ea ha (by rw [show oups O _ = O from by rw [oups, oups, oups, oup_same hR]; exact oup_same hN]; exact hpast)) (cwV 0 hC.2.2.2.2 (lw_V q886 q888 qs16 q63 q889) rfl rfl rfl (by decide +kernel) ⟨(Nat.le_of_ble_eq_true rfl), (Nat.le_of_ble_eq_true rfl)⟩) rfl hl.1 rfl (lv_room (Nat.le_of_ble_eq_true rfl)) dX0_prove_26 ⟨(Nat.le_of_ble_eq_true rfl), (Nat.le_of_ble_eq_true rfl)⟩ (fun rv O1 H locs hp hM1 => ?_)
      obtain ⟨kP, rfl⟩ := hp
      have hO0 : oups O [(no, nsU cv ad g cw), (ad 4, rdU rx rd rw)] = O := by rw [oups, oups, oups, oup_same hR]; exact oup_same hN
      rw [hO0] at kP
      obtain ⟨cv1, g1, hN1⟩ := kP.no
      have hR1 := kP.kp hR (o_ne hR hN (by decide)) (Or.inr rfl)
      have hM := PS.of hM1 [(no, nsU cv1 ad g1 cw), (ad 4, rdU rx rd rw)] ⟨hN1, hR1, trivial⟩ (by simp only [oad, List.map, List.nodup_cons, List.mem_cons, List.mem_singleton, List.not_mem_nil, not_or, or_false, not_false_eq_true, List.nodup_nil, and_true]; exact o_ne hN hR (by decide))
      refine lv_aload_n hC.1 hC.2.1 dX0_prove_29 rfl (lv_at hl 0 rfl) ?_
      refine p_get hC hK hM 0 rfl in_X0 rfl 4 (by decide) q223 (fun x h => h) rfl dX0_prove_30 ?_
      refine p_get hC hK hM 1 rfl in_X1 rfl 6 (by decide) q162 (fun x h => h) rfl dX0_prove_33 ?_
      refine lv_iload_n hC.1 hC.2.1 dX0_prove_36 rfl (lv_at hl 1 rfl) ?_
      refine p_iald hC hK hM 1 rfl 6 rfl rfl (n := k) rfl (by show _ < 6; omega) (by decide) dX0_prove_37 ?_
      refine lv_aload_n hC.1 hC.2.1 dX0_prove_38 rfl (lv_at hl 0 rfl) ?_
      refine p_get hC hK hM 0 rfl in_X0 rfl 4 (by decide) q223 (fun x h => h) rfl dX0_prove_39 ?_
      refine p_get hC hK hM 1 rfl in_X1 rfl 7 (by decide) q165 (fun x h => h) rfl dX0_prove_42 ?_
      refine lv_iload_n hC.1 hC.2.1 dX0_prove_45 rfl (lv_at hl 1 rfl) ?_
      refine p_iald hC hK hM 1 rfl 7 rfl rfl (n := k) rfl (by show _ < 6; omega) (by decide) dX0_prove_46 ?_
      refine lv_isub hC.1 hC.2.1 dX0_prove_47 ?_
      refine va_mabs hC.1 hC.2.1 (hC.2.2.1.trans hl.1.symm) hC.2.2.2.1 (hC.2.2.2.2 _ q984) (hC.2.2.2.2 _ q985) (hC.2.2.2.2 _ q84) (hC.2.2.2.2 _ q986) (Nat.le_of_ble_eq_true rfl) (Nat.le_of_ble_eq_true rfl) (Nat.le_of_ble_eq_true rfl) (Nat.le_of_ble_eq_true rfl) dX0_prove_48 ?_
      refine lv_istore_n (lv' := [(2, _), (0, _), (1, _)]) hC.1 hC.2.1 dX0_prove_51 rfl hl (by decide) rfl (fun ls hl => ?_)
      refine lv_aload_n hC.1 hC.2.1 dX0_prove_52 rfl (lv_at hl 1 rfl) ?_
      refine p_get hC hK hM 0 rfl in_X0 rfl 4 (by decide) q223 (fun x h => h) rfl dX0_prove_53 ?_
      refine p_get hC hK hM 1 rfl in_X1 rfl 6 (by decide) q162 (fun x h => h) rfl dX0_prove_56 ?_
      refine lv_iload_n hC.1 hC.2.1 dX0_prove_59 rfl (lv_at hl 2 rfl) ?_
      refine lv_aload_n hC.1 hC.2.1 dX0_prove_60 rfl (lv_at hl 1 rfl) ?_
      refine p_get hC hK hM 0 rfl in_X0 rfl 4 (by decide) q223 (fun x h => h) rfl dX0_prove_61 ?_
      refine p_get hC hK hM 1 rfl in_X1 rfl 7 (by decide) q165 (fun x h => h) rfl dX0_prove_64 ?_
      refine lv_iload_n hC.1 hC.2.1 dX0_prove_67 rfl (lv_at hl 2 rfl) ?_
      refine p_iald hC hK hM 1 rfl 7 rfl rfl (n := k) rfl (by show _ < 6; omega) (by decide) dX0_prove_68 ?_
      refine p_iast (L' := [_, _]) hC hK hM 1 rfl 6 rfl rfl (n := k) rfl (by show _ < 6; omega) (by decide) (rar_set _ (k := 6) (by decide) _) rfl dX0_prove_69 (fun H locs hM => ?_)
      refine lv_iload_n hC.1 hC.2.1 dX0_prove_70 rfl (lv_at hl 0 rfl) ?_
      refine W.widen (k := 7) (n := 88) (Nat.le_of_ble_eq_true rfl) (Nat.le_of_ble_eq_true rfl) ?_
      refine p_iret hC hr hlocks hM dX0_prove_71 ?_
      refine ⟨rfl, _, kP, ?_⟩
      rw [oups, oups, oups, oup_comm (a := ad 4) (b := no) (fun e => o_ne hN hR (by decide) e.symm), oup_same hN1]
    ·
      skip
      exact absurd (c2 : bI _ = 0) (by rw [bI_t hb]; decide)
  ·
    skip
    exact absurd (c1 : bI _ = 0) (by rw [bI_t ⟨nI_pos' (by omega), by rw [en, show n = (n - 1) + 1 by omega, nI_pred]; exact nI_le (by omega) (by omega)⟩]; decide)
