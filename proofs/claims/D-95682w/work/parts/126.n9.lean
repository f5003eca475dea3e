set_option maxHeartbeats 400000 in
set_option maxRecDepth 100000 in
theorem cn_keepA (l : Launch) (κ : Nat → Nat) (O : gO) (no : Nat) (cv : Nat → Int32) (ad : Nat → Nat) (g : Nat → Nat → Option Nat) (cw : Nat → Nat → Int32) (rx : Nat → Int32) (rd : Nat → Nat) (rw : Nat → Nat → Int32) (pq : Nat) (pv : Nat → Int32) (pd : Nat → Nat) (pw : Nat → Nat → Int32) (b : Nat) (hN : O no = some (nsU cv ad g cw)) (hR : O (ad 4) = some (rdU rx rd rw)) (hP : O pq = some (rdU pv pd pw)) (hne : ad 4 ≠ pq) (ea : cv 7 = nI b) (hb : b < 24) (hg : g 6 b = some pq) : oM l κ yX0_keep cX0_keep 3 none ({ frames := 5, cells := 7, slots := 88, locals := 92 }) [.ref no] O (fun rv O1 => O1 = oup (oup O pq (rdU rx (updN pd 8 (rd 8)) (becW pw rw))) no (nsU (upd cv 7 (nI (b + 1))) ad g cw) ∧ rv = none) := by
  intro D ac A
  refine o_body (own := RX0) rfl (plainFor_of_name (by decide)) (Nat.le_of_ble_eq_true rfl) ?_
  intro p e s m args below meth c ls hC hr hlocks hK hM hl hnamed hmeth
  have hl : lv_has ls 3 [(0, .ref no)] := hl
  have hM := PS.of hM [(no, nsU cv ad g cw), (ad 4, rdU rx rd rw), (pq, rdU pv pd pw)] ⟨hN, hR, hP, trivial⟩ (by simp only [oad, List.map, List.nodup_cons, List.mem_cons, List.mem_singleton, List.not_mem_nil, not_or, or_false, not_false_eq_true, List.nodup_nil, and_true]; exact ⟨⟨o_ne hN hR (by decide), o_ne hN hP (by decide)⟩, hne⟩)
  refine lv_aload_n hC.1 hC.2.1 dX0_keep_0 rfl (lv_at hl 0 rfl) ?_
  refine p_get hC hK hM 0 rfl in_X0 rfl 7 (by decide) q226 (fun x h => h) rfl dX0_keep_1 ?_
  rw [ea]
  refine lv_bipush (v := 24) hC.1 hC.2.1 dX0_keep_4 (by decide) ?_
  refine lv_icmp_ne (tgt := 62) hC.1 hC.2.1 dX0_keep_6 (by decide) (fun c1 => ?_) (fun c1 => ?_)
  ·
    skip
    refine lv_aload_n hC.1 hC.2.1 dX0_keep_62 rfl (lv_at hl 0 rfl) ?_
    refine p_get hC hK hM 0 rfl in_X0 rfl 6 (by decide) q225 (fun x h => h) rfl dX0_keep_63 ?_
    refine lv_aload_n hC.1 hC.2.1 dX0_keep_66 rfl (lv_at hl 0 rfl) ?_
    refine p_get hC hK hM 0 rfl in_X0 rfl 7 (by decide) q226 (fun x h => h) rfl dX0_keep_67 ?_
    rw [ea]
    refine p_aald hC hK hM 0 rfl 6 rfl rfl rfl (n := b) (by first | rfl | (simp only [← nI_add, ← pk_mul]; rfl)) (by first | decide | (show _ < 24; omega)) (by decide) dX0_keep_70 ?_
    rw [hg]
    refine lv_ifnonnull (tgt := 90) hC.1 hC.2.1 dX0_keep_71 (by decide) ?_
    refine lv_aload_n hC.1 hC.2.1 dX0_keep_90 rfl (lv_at hl 0 rfl) ?_
    refine p_get hC hK hM 0 rfl in_X0 rfl 6 (by decide) q225 (fun x h => h) rfl dX0_keep_91 ?_
    refine lv_aload_n hC.1 hC.2.1 dX0_keep_94 rfl (lv_at hl 0 rfl) ?_
    refine p_get hC hK hM 0 rfl in_X0 rfl 7 (by decide) q226 (fun x h => h) rfl dX0_keep_95 ?_
    rw [ea]
    refine p_aald hC hK hM 0 rfl 6 rfl rfl rfl (n := b) (by first | rfl | (simp only [← nI_add, ← pk_mul]; rfl)) (by first | decide | (show _ < 24; omega)) (by decide) dX0_keep_98 ?_
    rw [hg]
    refine lv_aload_n hC.1 hC.2.1 dX0_keep_99 rfl (lv_at hl 0 rfl) ?_
    refine p_get hC hK hM 0 rfl in_X0 rfl 4 (by decide) q223 (fun x h => h) rfl dX0_keep_100 ?_
    refine p_cVe (L' := [_, _, _]) hC hK hM (hM.at 2 rfl) rfl (cr_become l κ _ pq pv pd pw (ad 4) rx rd rw (hM.at 2 rfl) (hM.at 1 rfl) (fun e => hne e.symm)) (cwV 1 hC.2.2.2.2 (lw_V q869 q870 q871 q64 q872) rfl rfl rfl (by decide +kernel) ⟨(Nat.le_of_ble_eq_true rfl), (Nat.le_of_ble_eq_true rfl)⟩) rfl hl.1 rfl (lv_room (Nat.le_of_ble_eq_true rfl)) dX0_keep_103 ⟨(Nat.le_of_ble_eq_true rfl), (Nat.le_of_ble_eq_true rfl)⟩ (oups_set hM.2 (i := 2) rfl) (oad_nd hM.2 (i := 2) rfl rfl) (fun H locs hM => ?_)
    refine lv_pop hC.1 hC.2.1 dX0_keep_106 rfl ?_
    refine lv_aload_n hC.1 hC.2.1 dX0_keep_107 rfl (lv_at hl 0 rfl) ?_
    refine lv_dup hC.1 hC.2.1 dX0_keep_108 rfl ?_
    refine p_get hC hK hM 0 rfl in_X0 rfl 7 (by decide) q226 (fun x h => h) rfl dX0_keep_109 ?_
    rw [ea]
    refine lv_iconst (v := 1) hC.1 hC.2.1 dX0_keep_112 (by decide) ?_
    refine lv_iadd hC.1 hC.2.1 dX0_keep_113 ?_
    rw [nI_1]
    refine p_put (L' := [_, _, _]) hC hK hM 0 rfl in_X0 tyX0 tyX0_ok nmX0 rfl 7 (by decide) q226 (fun x h => h) rfl rfl rfl (Nat.le_of_ble_eq_true rfl) rfl rfl rfl dX0_keep_114 (fun H locs hM => ?_)
    refine W.widen (k := 7) (n := 88) (Nat.le_of_ble_eq_true rfl) (Nat.le_of_ble_eq_true rfl) ?_
    refine p_vret hC hr hlocks hM dX0_keep_117 ?_
    refine ⟨?_, rfl⟩
    rw [oups, oups, oups, oups, oup_comm (a := pq) (b := ad 4) (fun e => hne e.symm), oup_same hR]
  ·
    skip
    exact absurd (neq_t (a := b) (b := 24) c1) (by omega)

set_option maxHeartbeats 400000 in
set_option maxRecDepth 100000 in
theorem cn_keepB (l : Launch) (κ : Nat → Nat) (O : gO) (no : Nat) (cv : Nat → Int32) (ad : Nat → Nat) (g : Nat → Nat → Option Nat) (cw : Nat → Nat → Int32) (rx : Nat → Int32) (rd : Nat → Nat) (rw : Nat → Nat → Int32) (b : Nat) (hN : O no = some (nsU cv ad g cw)) (hR : O (ad 4) = some (rdU rx rd rw)) (ea : cv 7 = nI b) (hb : b < 24) (hg : g 6 b = none) : oM l κ yX0_keep cX0_keep 3 none ({ frames := 5, cells := 7, slots := 88, locals := 92 }) [.ref no] O (fun rv O1 => (∃ (pq : Nat) (pd : Nat → Nat), O pq = none ∧ O (pd 8) = none ∧ pq ≠ pd 8 ∧ O1 = oup (oup (oup O (pd 8) (lsU 0 (κ 0) 0 aNo)) pq (rdU rx (updN pd 8 (rd 8)) (becW (fun _ _ => 0) rw))) no (nsU (upd cv 7 (nI (b + 1))) ad (gput g 6 (va_up (g 6) b (some pq))) cw)) ∧ rv = none) := by
  intro D ac A
  refine o_body (own := RX0) rfl (plainFor_of_name (by decide)) (Nat.le_of_ble_eq_true rfl) ?_
  intro p e s m args below meth c ls hC hr hlocks hK hM hl hnamed hmeth
  have hl : lv_has ls 3 [(0, .ref no)] := hl
  have hM := PS.of hM [(no, nsU cv ad g cw), (ad 4, rdU rx rd rw)] ⟨hN, hR, trivial⟩ (by simp only [oad, List.map, List.nodup_cons, List.mem_singleton, List.not_mem_nil, not_false_eq_true, List.nodup_nil, and_true]; exact o_ne hN hR (by decide))
  refine lv_aload_n hC.1 hC.2.1 dX0_keep_0 rfl (lv_at hl 0 rfl) ?_
  refine p_get hC hK hM 0 rfl in_X0 rfl 7 (by decide) q226 (fun x h => h) rfl dX0_keep_1 ?_
  rw [ea]
  refine lv_bipush (v := 24) hC.1 hC.2.1 dX0_keep_4 (by decide) ?_
  refine lv_icmp_ne (tgt := 62) hC.1 hC.2.1 dX0_keep_6 (by decide) (fun c1 => ?_) (fun c1 => ?_)
  ·
    skip
    refine lv_aload_n hC.1 hC.2.1 dX0_keep_62 rfl (lv_at hl 0 rfl) ?_
    refine p_get hC hK hM 0 rfl in_X0 rfl 6 (by decide) q225 (fun x h => h) rfl dX0_keep_63 ?_
    refine lv_aload_n hC.1 hC.2.1 dX0_keep_66 rfl (lv_at hl 0 rfl) ?_
    refine p_get hC hK hM 0 rfl in_X0 rfl 7 (by decide) q226 (fun x h => h) rfl dX0_keep_67 ?_
    rw [ea]
    refine p_aald hC hK hM 0 rfl 6 rfl rfl rfl (n := b) (by first | rfl | (simp only [← nI_add, ← pk_mul]; rfl)) (by first | decide | (show _ < 24; omega)) (by decide) dX0_keep_70 ?_
    rw [hg]
    refine lv_ifnonnullN hC.1 hC.2.1 dX0_keep_71 ?_
    refine lv_aload_n hC.1 hC.2.1 dX0_keep_74 rfl (lv_at hl 0 rfl) ?_
    refine p_get hC hK hM 0 rfl in_X0 rfl 6 (by decide) q225 (fun x h => h) rfl dX0_keep_75 ?_
    refine lv_aload_n hC.1 hC.2.1 dX0_keep_78 rfl (lv_at hl 0 rfl) ?_
    refine p_get hC hK hM 0 rfl in_X0 rfl 7 (by decide) q226 (fun x h => h) rfl dX0_keep_79 ?_
    rw [ea]
    refine p_new (L' := fun q => [_, _, _]) hC hK hM (ci := 1) in_X1 tyX1 tyX1_ok q108 q109 q64 rfl (fs := [.int 0, .int 0, .int 0, .int 0, .int 0, .null, .null, .null, .null, .int 0, .null, .int 0, .null]) (by decide) (Nat.le_of_ble_eq_true rfl) (Nat.le_of_ble_eq_true rfl) dX0_keep_82 (fun q => rfl) (fun q_2 H hq_2 hM => ?_)
    refine lv_dup hC.1 hC.2.1 dX0_keep_85 rfl ?_
    refine o_cIN hC hK hM.1 (cr_init l κ _ q_2 (hM.at 2 rfl)) ⟨va_cnB 0 hC.2.2.2.2 (lw_meth q112) rfl rfl rfl (hK.1.2.1 _ q110 rfl) (hC.2.2.2.2 _ q64) (by decide +kernel) ⟨(Nat.le_of_ble_eq_true rfl), (Nat.le_of_ble_eq_true rfl)⟩, rfl, hC.2.2.2.2 _ q111⟩ rfl hl.1 rfl (lv_room (Nat.le_of_ble_eq_true rfl)) dX0_keep_86 ⟨(Nat.le_of_ble_eq_true rfl), (Nat.le_of_ble_eq_true rfl)⟩ (fun rv O1 H locs hp hM1 => ?_)
    obtain ⟨pd, hp1, hp2, hp3⟩ := hp
    subst hp3
    rw [hp2] at hM1
    obtain ⟨hpn, hpo, hM⟩ := PS.newR (L' := [_, _, _, _]) hM.2 (i := 2) rfl hp1 hM1 rfl
    refine p_aast (L' := [_, _, _, _]) hC hK hM 0 rfl 6 rfl rfl rfl (hM.at 2 rfl) rfl (fun comp c0 h1 h2 => by rw [Option.some.inj (h2.symm.trans h1)]; exact va_asg _ _) (n := b) (by first | rfl | (simp only [← nI_add, ← pk_mul]; rfl)) (by first | decide | (show _ < 24; omega)) (by decide) (nar_6 _ _ _) rfl dX0_keep_89 (fun H locs hM => ?_)
    refine lv_aload_n hC.1 hC.2.1 dX0_keep_90 rfl (lv_at hl 0 rfl) ?_
    refine p_get hC hK hM 0 rfl in_X0 rfl 6 (by decide) q225 (fun x h => h) rfl dX0_keep_91 ?_
    refine lv_aload_n hC.1 hC.2.1 dX0_keep_94 rfl (lv_at hl 0 rfl) ?_
    refine p_get hC hK hM 0 rfl in_X0 rfl 7 (by decide) q226 (fun x h => h) rfl dX0_keep_95 ?_
    rw [ea]
    refine p_aald hC hK hM 0 rfl 6 rfl rfl rfl (n := b) (by first | rfl | (simp only [← nI_add, ← pk_mul]; rfl)) (by first | decide | (show _ < 24; omega)) (by decide) dX0_keep_98 ?_
    rw [show gput g 6 (va_up (g 6) b (some q_2)) 6 b = some q_2 from va_up_self _ _ _]
    refine lv_aload_n hC.1 hC.2.1 dX0_keep_99 rfl (lv_at hl 0 rfl) ?_
    refine p_get hC hK hM 0 rfl in_X0 rfl 4 (by decide) q223 (fun x h => h) rfl dX0_keep_100 ?_
    refine p_cVe (L' := [_, _, _, _]) hC hK hM (hM.at 2 rfl) rfl (cr_become l κ _ q_2 (fun _ => 0) pd (fun _ _ => 0) (ad 4) rx rd rw (hM.at 2 rfl) (hM.at 1 rfl) (fun e => by rw [e] at hq_2; rw [hR] at hq_2; cases hq_2)) (cwV 1 hC.2.2.2.2 (lw_V q869 q870 q871 q64 q872) rfl rfl rfl (by decide +kernel) ⟨(Nat.le_of_ble_eq_true rfl), (Nat.le_of_ble_eq_true rfl)⟩) rfl hl.1 rfl (lv_room (Nat.le_of_ble_eq_true rfl)) dX0_keep_103 ⟨(Nat.le_of_ble_eq_true rfl), (Nat.le_of_ble_eq_true rfl)⟩ (oups_set hM.2 (i := 2) rfl) (oad_nd hM.2 (i := 2) rfl rfl) (fun H locs hM => ?_)
    refine lv_pop hC.1 hC.2.1 dX0_keep_106 rfl ?_
    refine lv_aload_n hC.1 hC.2.1 dX0_keep_107 rfl (lv_at hl 0 rfl) ?_
    refine lv_dup hC.1 hC.2.1 dX0_keep_108 rfl ?_
    refine p_get hC hK hM 0 rfl in_X0 rfl 7 (by decide) q226 (fun x h => h) rfl dX0_keep_109 ?_
    rw [ea]
    refine lv_iconst (v := 1) hC.1 hC.2.1 dX0_keep_112 (by decide) ?_
    refine lv_iadd hC.1 hC.2.1 dX0_keep_113 ?_
    rw [nI_1]
    refine p_put (L' := [_, _, _, _]) hC hK hM 0 rfl in_X0 tyX0 tyX0_ok nmX0 rfl 7 (by decide) q226 (fun x h => h) rfl rfl rfl (Nat.le_of_ble_eq_true rfl) rfl rfl rfl dX0_keep_114 (fun H locs hM => ?_)
    refine W.widen (k := 7) (n := 88) (Nat.le_of_ble_eq_true rfl) (Nat.le_of_ble_eq_true rfl) ?_
    refine p_vret hC hr hlocks hM dX0_keep_117 ?_
    refine ⟨⟨q_2, pd, hq_2, hpn, fun e => hpo (by rw [← e]; simp [oad]), ?_⟩, rfl⟩
    rw [oups, oups, oups, oups, oups, oup_comm (a := q_2) (b := ad 4) (fun e => by rw [e] at hq_2; rw [hR] at hq_2; cases hq_2), oup_comm (a := pd 8) (b := ad 4) (fun e => by rw [e] at hpn; rw [hR] at hpn; cases hpn), oup_same hR]
  ·
    skip
    exact absurd (neq_t (a := b) (b := 24) c1) (by omega)

set_option maxHeartbeats 400000 in
set_option maxRecDepth 100000 in
theorem cn_keepC (l : Launch) (κ : Nat → Nat) (O : gO) (no : Nat) (cv : Nat → Int32) (ad : Nat → Nat) (g : Nat → Nat → Option Nat) (cw : Nat → Nat → Int32) (rx : Nat → Int32) (rd : Nat → Nat) (rw : Nat → Nat → Int32) (pq : Nat) (pv : Nat → Int32) (pd : Nat → Nat) (pw : Nat → Nat → Int32) (hN : O no = some (nsU cv ad g cw)) (hR : O (ad 4) = some (rdU rx rd rw)) (hP : O pq = some (rdU pv pd pw)) (hne : ad 4 ≠ pq) (hall : ∀ j, j < 24 → ∃ (q : Nat) (v : Nat → Int32) (d : Nat → Nat) (w : Nat → Nat → Int32), g 6 j = some q ∧ O q = some (rdU v d w) ∧ q ≠ ad 4) (ea : cv 7 = 24) (hg0 : g 6 0 = some pq) : oM l κ yX0_keep cX0_keep 3 none ({ frames := 5, cells := 7, slots := 88, locals := 92 }) [.ref no] O (fun rv O1 => O1 = oup (oup O pq (rdU rx (updN pd 8 (rd 8)) (becW pw rw))) no (nsU (upd cv 7 (nI 24)) ad (gput g 6 (va_up (rotK (g 6) 23) 23 (some pq))) cw) ∧ rv = none) := by
  intro D ac A
  refine o_body (own := RX0) rfl (plainFor_of_name (by decide)) (Nat.le_of_ble_eq_true rfl) ?_
  intro p e s m args below meth c ls hC hr hlocks hK hM hl hnamed hmeth
  have hl : lv_has ls 3 [(0, .ref no)] := hl
  have hM := PS.of hM [(no, nsU cv ad g cw), (ad 4, rdU rx rd rw), (pq, rdU pv pd pw)] ⟨hN, hR, hP, trivial⟩ (by simp only [oad, List.map, List.nodup_cons, List.mem_cons, List.mem_singleton, List.not_mem_nil, not_or, or_false, not_false_eq_true, List.nodup_nil, and_true]; exact ⟨⟨o_ne hN hR (by decide), o_ne hN hP (by decide)⟩, hne⟩)
  have hNd : ([no, ad 4, pq] : List Nat).Nodup := hM.2
  refine lv_aload_n hC.1 hC.2.1 dX0_keep_0 rfl (lv_at hl 0 rfl) ?_
  refine p_get hC hK hM 0 rfl in_X0 rfl 7 (by decide) q226 (fun x h => h) rfl dX0_keep_1 ?_
  rw [ea]
  refine lv_bipush (v := 24) hC.1 hC.2.1 dX0_keep_4 (by decide) ?_
  refine lv_icmp_ne (tgt := 62) hC.1 hC.2.1 dX0_keep_6 (by decide) (fun c1 => ?_) (fun c1 => ?_)
  ·
    skip
    exact absurd rfl c1
  ·
    skip
    refine lv_aload_n hC.1 hC.2.1 dX0_keep_9 rfl (lv_at hl 0 rfl) ?_
    refine p_get hC hK hM 0 rfl in_X0 rfl 6 (by decide) q225 (fun x h => h) rfl dX0_keep_10 ?_
    refine lv_iconst (v := 0) hC.1 hC.2.1 dX0_keep_13 (by decide) ?_
    refine p_aald hC hK hM 0 rfl 6 rfl rfl rfl (n := 0) (by first | rfl | (simp only [← nI_add, ← pk_mul]; rfl)) (by first | decide | (show _ < 24; omega)) (by decide) dX0_keep_14 ?_
    rw [hg0]
    refine lv_astore_n (lv' := [(1, _), (0, _)]) hC.1 hC.2.1 dX0_keep_15 rfl hl (by decide) rfl (fun ls hl => ?_)
    refine lv_iconst (v := 1) hC.1 hC.2.1 dX0_keep_16 (by decide) ?_
    refine lv_istore_n (lv' := [(2, _), (1, _), (0, _)]) hC.1 hC.2.1 dX0_keep_17 rfl hl (by decide) rfl (fun ls hl => ?_)
    refine w_ind (α := Nat) 18 (fun (k : Nat) => 23 - k) (fun (k : Nat) (H : Heap) (locs : List Loc) (ls : Array Slot) => (k ≤ 23) ∧ PS D ac A s.heap O [(no, nsU cv ad (gput g 6 (rotK (g 6) k)) cw), (ad 4, rdU rx rd rw), (pq, rdU pv pd pw)] H locs ∧ lv_has ls 3 [(0, .ref no), (1, .ref pq), (2, .int (nI (k + 1)))]) ?_ (0) ⟨by omega, by rw [rotK_0, gput_self]; exact hM, lv_sub hl [2, 1, 0] rfl⟩
    intro k H locs ls hI ih18
    obtain ⟨hI18, hM, hl⟩ := hI
    refine lv_iload_n hC.1 hC.2.1 dX0_keep_18 rfl (lv_at hl 2 rfl) ?_
    refine lv_bipush (v := 24) hC.1 hC.2.1 dX0_keep_19 (by decide) ?_
    refine lv_icmp_ge (tgt := 44) hC.1 hC.2.1 dX0_keep_21 (by decide) (fun c2 => ?_) (fun c2 => ?_)
    ·
      have nc2 := Int32.not_lt.mpr c2
      have hx21 := nle_t (a := 24) (b := k + 1) c2
      obtain rfl : k = 23 := by omega
      refine lv_aload_n hC.1 hC.2.1 dX0_keep_44 rfl (lv_at hl 0 rfl) ?_
      refine p_get hC hK hM 0 rfl in_X0 rfl 6 (by decide) q225 (fun x h => h) rfl dX0_keep_45 ?_
      refine lv_bipush (v := 23) hC.1 hC.2.1 dX0_keep_48 (by decide) ?_
      refine lv_aload_n hC.1 hC.2.1 dX0_keep_50 rfl (lv_at hl 1 rfl) ?_
      refine p_aast (L' := [_, _, _]) hC hK hM 0 rfl 6 rfl rfl rfl (hM.at 2 rfl) rfl (fun comp c0 h1 h2 => by rw [Option.some.inj (h2.symm.trans h1)]; exact va_asg _ _) (n := 23) (by first | rfl | (simp only [← nI_add, ← pk_mul]; rfl)) (by first | decide | (show _ < 24; omega)) (by decide) (nar_6 _ _ _) rfl dX0_keep_51 (fun H locs hM => ?_)
      rw [gput_gput, gput_s] at hM
      refine lv_aload_n hC.1 hC.2.1 dX0_keep_52 rfl (lv_at hl 0 rfl) ?_
      refine lv_dup hC.1 hC.2.1 dX0_keep_53 rfl ?_
      refine p_get hC hK hM 0 rfl in_X0 rfl 7 (by decide) q226 (fun x h => h) rfl dX0_keep_54 ?_
      rw [ea]
      refine lv_iconst (v := 1) hC.1 hC.2.1 dX0_keep_57 (by decide) ?_
      refine lv_isub hC.1 hC.2.1 dX0_keep_58 ?_
      rw [show (24 : Int32) - 1 = nI 23 from rfl]
      refine p_put (L' := [_, _, _]) hC hK hM 0 rfl in_X0 tyX0 tyX0_ok nmX0 rfl 7 (by decide) q226 (fun x h => h) rfl rfl rfl (Nat.le_of_ble_eq_true rfl) rfl rfl rfl dX0_keep_59 (fun H locs hM => ?_)
      refine lv_aload_n hC.1 hC.2.1 dX0_keep_62 rfl (lv_at hl 0 rfl) ?_
      refine p_get hC hK hM 0 rfl in_X0 rfl 6 (by decide) q225 (fun x h => h) rfl dX0_keep_63 ?_
      refine lv_aload_n hC.1 hC.2.1 dX0_keep_66 rfl (lv_at hl 0 rfl) ?_
      refine p_get hC hK hM 0 rfl in_X0 rfl 7 (by decide) q226 (fun x h => h) rfl dX0_keep_67 ?_
      rw [upd_s]
      refine p_aald hC hK hM 0 rfl 6 rfl rfl rfl (n := 23) (by first | rfl | (simp only [← nI_add, ← pk_mul]; rfl)) (by first | decide | (show _ < 24; omega)) (by decide) dX0_keep_70 ?_
      rw [show gput g 6 (va_up (rotK (g 6) 23) 23 (some pq)) 6 23 = some pq from by rw [gput_s]; exact va_up_self _ _ _]
      refine lv_ifnonnull (tgt := 90) hC.1 hC.2.1 dX0_keep_71 (by decide) ?_
      refine lv_aload_n hC.1 hC.2.1 dX0_keep_90 rfl (lv_at hl 0 rfl) ?_
      refine p_get hC hK hM 0 rfl in_X0 rfl 6 (by decide) q225 (fun x h => h) rfl dX0_keep_91 ?_
      refine lv_aload_n hC.1 hC.2.1 dX0_keep_94 rfl (lv_at hl 0 rfl) ?_
      refine p_get hC hK hM 0 rfl in_X0 rfl 7 (by decide) q226 (fun x h => h) rfl dX0_keep_95 ?_
      rw [upd_s]
      refine p_aald hC hK hM 0 rfl 6 rfl rfl rfl (n := 23) (by first | rfl | (simp only [← nI_add, ← pk_mul]; rfl)) (by first | decide | (show _ < 24; omega)) (by decide) dX0_keep_98 ?_
      rw [show gput g 6 (va_up (rotK (g 6) 23) 23 (some pq)) 6 23 = some pq from by rw [gput_s]; exact va_up_self _ _ _]
      refine lv_aload_n hC.1 hC.2.1 dX0_keep_99 rfl (lv_at hl 0 rfl) ?_
      refine p_get hC hK hM 0 rfl in_X0 rfl 4 (by decide) q223 (fun x h => h) rfl dX0_keep_100 ?_
      refine p_cVe (L' := [_, _, _]) hC hK hM (hM.at 2 rfl) rfl (cr_become l κ _ pq pv pd pw (ad 4) rx rd rw (hM.at 2 rfl) (hM.at 1 rfl) (fun e => hne e.symm)) (cwV 1 hC.2.2.2.2 (lw_V q869 q870 q871 q64 q872) rfl rfl rfl (by decide +kernel) ⟨(Nat.le_of_ble_eq_true rfl), (Nat.le_of_ble_eq_true rfl)⟩) rfl hl.1 rfl (lv_room (Nat.le_of_ble_eq_true rfl)) dX0_keep_103 ⟨(Nat.le_of_ble_eq_true rfl), (Nat.le_of_ble_eq_true rfl)⟩ (oups_set hM.2 (i := 2) rfl) (oad_nd hM.2 (i := 2) rfl rfl) (fun H locs hM => ?_)
      refine lv_pop hC.1 hC.2.1 dX0_keep_106 rfl ?_
      refine lv_aload_n hC.1 hC.2.1 dX0_keep_107 rfl (lv_at hl 0 rfl) ?_
      refine lv_dup hC.1 hC.2.1 dX0_keep_108 rfl ?_
      refine p_get hC hK hM 0 rfl in_X0 rfl 7 (by decide) q226 (fun x h => h) rfl dX0_keep_109 ?_
      rw [upd_s]
      refine lv_iconst (v := 1) hC.1 hC.2.1 dX0_keep_112 (by decide) ?_
      refine lv_iadd hC.1 hC.2.1 dX0_keep_113 ?_
      rw [nI_1]
      refine p_put (L' := [_, _, _]) hC hK hM 0 rfl in_X0 tyX0 tyX0_ok nmX0 rfl 7 (by decide) q226 (fun x h => h) rfl rfl rfl (Nat.le_of_ble_eq_true rfl) rfl rfl rfl dX0_keep_114 (fun H locs hM => ?_)
      refine W.widen (k := 7) (n := 88) (Nat.le_of_ble_eq_true rfl) (Nat.le_of_ble_eq_true rfl) ?_
      refine p_vret hC hr hlocks hM dX0_keep_117 ?_
      refine ⟨?_, rfl⟩
      rw [oups, oups, oups, oups, oup_comm (a := pq) (b := ad 4) (fun e => hne e.symm), oup_same hR, upd_upd]
    ·
      have nc2 := Int32.not_le.mp c2
      have hx21 := nle_f (a := 24) (b := k + 1) c2
      obtain ⟨zq, zv, zd, zw, hz1, hz2, hz3⟩ := hall (k + 1) (by omega)
      have hz4 : ∀ L : List (Nat × gU), oad L = [no, ad 4, pq] → L[2]? = some (pq, rdU pv pd pw) → ∃ zv zd zw, oups O L zq = some (rdU zv zd zw) := fun L hL h2 => by
        by_cases e : zq = pq
        · subst e
          exact ⟨pv, pd, pw, oups_at (by rw [hL]; exact hNd) h2⟩
        · exact ⟨zv, zd, zw, by rw [oups_off (by rw [hL]; simp only [List.mem_cons, List.not_mem_nil, or_false, not_or]; exact ⟨o_ne hz2 hN (by decide), hz3, e⟩)]; exact hz2⟩
      refine lv_aload_n hC.1 hC.2.1 dX0_keep_24 rfl (lv_at hl 0 rfl) ?_
      refine p_get hC hK hM 0 rfl in_X0 rfl 6 (by decide) q225 (fun x h => h) rfl dX0_keep_25 ?_
      refine lv_iload_n hC.1 hC.2.1 dX0_keep_28 rfl (lv_at hl 2 rfl) ?_
      refine lv_iconst (v := 1) hC.1 hC.2.1 dX0_keep_29 (by decide) ?_
      refine lv_isub hC.1 hC.2.1 dX0_keep_30 ?_
      rw [nI_pred]
      refine lv_aload_n hC.1 hC.2.1 dX0_keep_31 rfl (lv_at hl 0 rfl) ?_
      refine p_get hC hK hM 0 rfl in_X0 rfl 6 (by decide) q225 (fun x h => h) rfl dX0_keep_32 ?_
      refine lv_iload_n hC.1 hC.2.1 dX0_keep_35 rfl (lv_at hl 2 rfl) ?_
      refine p_aald hC hK hM 0 rfl 6 rfl rfl rfl (n := (k + 1)) (by first | rfl | (simp only [← nI_add, ← pk_mul]; rfl)) (by first | decide | (show _ < 24; omega)) (by decide) dX0_keep_36 ?_
      rw [show gput g 6 (rotK (g 6) k) 6 (k + 1) = g 6 (k + 1) from by rw [gput_s]; unfold rotK; rw [if_neg (by omega)]]
      obtain ⟨yv, yd, yw, hz5⟩ := hz4 [(no, nsU cv ad (gput g 6 (rotK (g 6) k)) cw), (ad 4, rdU rx rd rw), (pq, rdU pv pd pw)] rfl rfl
      rw [hz1]
      refine p_aast (L' := [_, _, _]) hC hK hM 0 rfl 6 rfl rfl rfl (hz5) rfl (fun comp c0 h1 h2 => by rw [Option.some.inj (h2.symm.trans h1)]; exact va_asg _ _) (n := k) (by first | rfl | (simp only [← nI_add, ← pk_mul]; rfl)) (by first | decide | (show _ < 24; omega)) (by decide) (nar_6 _ _ _) rfl dX0_keep_37 (fun H locs hM => ?_)
      rw [gput_gput, gput_s, ← hz1, rotK_s] at hM
      refine lv_iinc (v := nI ((k + 1) + 1)) (lv' := [(2, _), (0, _), (1, _)]) hC.1 hC.2.1 dX0_keep_38 hl (k := 2) rfl (nI_1 _) (by decide) rfl (fun ls hl => ?_)
      refine lv_goto (tgt := 18) hC.1 hC.2.1 dX0_keep_41 (by decide) ?_
      exact ih18 (k + 1) _ _ _ (by omega) ⟨by omega, hM, lv_sub hl [1, 2, 0] rfl⟩
