set_option maxHeartbeats 400000 in
set_option maxRecDepth 100000 in
theorem cw_row (l : Launch) (κ : Nat → Nat) (O : gO) (a : Nat) (v : Nat → Int32) (ad : Nat → Nat) (n : Nat) (f : Nat → Int32) (i k : Nat) (hO : O a = some (cU 5 v ad (oar 1 0 n f))) (hn : n ≤ 40) (hi : i + k ≤ n) : oM l κ yX5_row cX5_row 4 (some (.array .int)) ({ frames := 1, cells := 1, slots := 40, locals := 40 }) [.ref a, .int (nI i), .int (nI k)] O (fun rv O1 => ∃ q, rv = some (.ref q) ∧ O q = none ∧ O1 = oup O q (.inl (0, k, .inl (va_cpy f (fun _ => 0) i 0 k)))) := by
  intro D ac A
  refine o_body (own := RX5) rfl (plainFor_of_name (by decide)) (Nat.le_of_ble_eq_true rfl) ?_
  intro p e s m args below meth c ls hC hr hlocks hK hM hl hnamed hmeth
  have hl : lv_has ls 4 [(0, .ref a), (1, .int (nI i)), (2, .int (nI k))] := hl
  have hM := PS.of hM [(a, cU 5 v ad (oar 1 0 n f))] ⟨hO, trivial⟩ (by simp [oad])
  refine lv_iload_n hC.1 hC.2.1 dX5_row_0 rfl (lv_at hl 1 rfl) ?_
  refine lv_if_lt (tgt := 23) hC.1 hC.2.1 dX5_row_1 (by decide) (fun c1 => ?_) (fun c1 => ?_)
  ·
    have nc1 := Int32.not_le.mpr c1
    exact absurd c1 (Int32.not_lt.mpr (nI_pos' (by omega)))
  ·
    have nc1 := Int32.not_lt.mp c1
    refine lv_iload_n hC.1 hC.2.1 dX5_row_4 rfl (lv_at hl 1 rfl) ?_
    refine lv_i2l hC.1 hC.2.1 dX5_row_5 rfl ?_
    refine lv_iload_n hC.1 hC.2.1 dX5_row_6 rfl (lv_at hl 2 rfl) ?_
    refine lv_i2l hC.1 hC.2.1 dX5_row_7 rfl ?_
    refine lv_ladd hC.1 hC.2.1 dX5_row_8 ?_
    refine lv_aload_n hC.1 hC.2.1 dX5_row_9 rfl (lv_at hl 0 rfl) ?_
    refine p_get hC hK hM 0 rfl in_X5 rfl 1 (by decide) q345 (fun x h => h) rfl dX5_row_10 ?_
    refine p_alen hC hK hM 0 rfl 1 rfl rfl (by omega) dX5_row_13 ?_
    refine lv_i2l hC.1 hC.2.1 dX5_row_14 rfl ?_
    refine W.lcmp hC.1 hC.2.1 dX5_row_15 ?_
    refine lv_if_gt (tgt := 23) hC.1 hC.2.1 dX5_row_16 (by decide) (fun c2 => ?_) (fun c2 => ?_)
    ·
      have nc2 := Int32.not_le.mpr c2
      rw [lg_cmp_gt, lsum3 (by omega) (by omega) (by omega)] at c2
      exact absurd c2 (by omega)
    ·
      have nc2 := Int32.not_lt.mp c2
      refine lv_iconst (v := 1) hC.1 hC.2.1 dX5_row_19 (by decide) ?_
      refine lv_goto (tgt := 24) hC.1 hC.2.1 dX5_row_20 (by decide) ?_
      refine lv_iconst (v := 2) hC.1 hC.2.1 dX5_row_24 (by decide) ?_
      refine p_cSNv (L' := [_]) hC hK hM (cn_must l κ _ 1 2 (by decide)) ⟨va_cnB 2 hC.2.2.2.2 (lw_meth q272) rfl rfl rfl (hK.1.2.1 _ q1021 rfl) (hC.2.2.2.2 _ q63) (by decide +kernel) ⟨(Nat.le_of_ble_eq_true rfl), (Nat.le_of_ble_eq_true rfl)⟩, hC.2.2.2.2 _ q271, trivial⟩ rfl hl.1 rfl (lv_room (Nat.le_of_ble_eq_true rfl)) dX5_row_25 ⟨(Nat.le_of_ble_eq_true rfl), (Nat.le_of_ble_eq_true rfl)⟩ rfl hM.2 (fun H locs hM => ?_)
      refine lv_iload_n hC.1 hC.2.1 dX5_row_28 rfl (lv_at hl 2 rfl) ?_
      refine p_newi (L' := fun q => [_, _]) hC hK hM q141 (N := k) rfl (by omega) (Nat.le_of_ble_eq_true rfl) (by show 0 + k ≤ 40; omega) dX5_row_29 (fun q => rfl) (fun q_3 H hq_3 hM => ?_)
      refine lv_astore_n (lv' := [(3, _), (0, _), (1, _), (2, _)]) hC.1 hC.2.1 dX5_row_31 rfl hl (by decide) rfl (fun ls hl => ?_)
      refine lv_aload_n hC.1 hC.2.1 dX5_row_32 rfl (lv_at hl 1 rfl) ?_
      refine p_get hC hK hM 0 rfl in_X5 rfl 1 (by decide) q345 (fun x h => h) rfl dX5_row_33 ?_
      refine lv_iload_n hC.1 hC.2.1 dX5_row_36 rfl (lv_at hl 2 rfl) ?_
      refine lv_aload_n hC.1 hC.2.1 dX5_row_37 rfl (lv_at hl 0 rfl) ?_
      refine lv_iconst (v := 0) hC.1 hC.2.1 dX5_row_38 (by decide) ?_
      refine lv_iload_n hC.1 hC.2.1 dX5_row_39 rfl (lv_at hl 3 rfl) ?_
      refine pl_copy (L' := [_, _]) hC hK hM hl.1 q1022 1 (aAt.own (hM.at 0 rfl) (k := 1) rfl rfl) rfl (np := i) (nd := 0) (nn := k) rfl rfl rfl (by omega) (by omega) (by omega) (by omega) (Nat.le_of_ble_eq_true rfl) (Nat.le_of_ble_eq_true rfl) dX5_row_40 rfl (fun H locs hM => ?_)
      refine lv_aload_n hC.1 hC.2.1 dX5_row_43 rfl (lv_at hl 0 rfl) ?_
      refine W.widen (k := 1) (n := 40) (Nat.le_of_ble_eq_true rfl) (by show 0 + k ≤ 40; omega) ?_
      refine p_aret hC hr (Or.inr ⟨_, rfl⟩) hlocks hM (Or.inr ⟨_, rfl⟩) dX5_row_44 ?_
      refine ⟨q_3, rfl, hq_3, ?_⟩
      rw [oups, oups, oups]
      rw [oup_comm (a := q_3) (b := a) (fun e => by rw [e, hO] at hq_3; cases hq_3), oup_same hO]

set_option maxHeartbeats 400000 in
set_option maxRecDepth 100000 in
theorem cw_rowT1 (l : Launch) (κ : Nat → Nat) (O : gO) (a : Nat) (v : Nat → Int32) (ad : Nat → Nat) (n : Nat) (f : Nat → Int32) (x k : Int32) (hO : O a = some (cU 5 v ad (oar 1 0 n f))) (hn : n ≤ 40) (hx : x < 0) : oT l κ yX5_row cX5_row 4 (some (.array .int)) ({ frames := 5, cells := 1, slots := 7, locals := 102 }) [.ref a, .int x, .int k] O (fun z O1 => O z = none ∧ O1 = oup O z (fnU 2)) := by
  intro D ac A
  refine o_bodyT (own := RX5) rfl (by decide) (Nat.le_of_ble_eq_true rfl) ?_
  intro p e s m args below meth c ls hC hem hlocks hK hM hl
  have hl : lv_has ls 4 [(0, .ref a), (1, .int x), (2, .int k)] := hl
  have hM := PS.of hM [(a, cU 5 v ad (oar 1 0 n f))] ⟨hO, trivial⟩ (by simp [oad])
  refine lv_iload_n hC.1 hC.2.1 dX5_row_0 rfl (lv_at hl 1 rfl) ?_
  refine lv_if_lt (tgt := 23) hC.1 hC.2.1 dX5_row_1 (by decide) (fun c1 => ?_) (fun c1 => ?_)
  ·
    have nc1 := Int32.not_le.mpr c1
    refine lv_iconst (v := 0) hC.1 hC.2.1 dX5_row_23 (by decide) ?_
    refine lv_iconst (v := 2) hC.1 hC.2.1 dX5_row_24 (by decide) ?_
    refine W.widen (k := 0) (n := 0) (Nat.le_of_ble_eq_true rfl) (Nat.le_of_ble_eq_true rfl) ?_
    refine p_pass hem hlocks hM (runSNT hC ((cn_mustT l κ _ 2) D ac A) ⟨va_cnB 2 hC.2.2.2.2 (lw_meth q272) rfl rfl rfl (hK.1.2.1 _ q1021 rfl) (hC.2.2.2.2 _ q63) (by decide +kernel) ⟨(Nat.le_of_ble_eq_true rfl), (Nat.le_of_ble_eq_true rfl)⟩, hC.2.2.2.2 _ q271, trivial⟩ ⟨oPre.blind, fun U hU hW => ⟨rfl, OS.pre hK hM.1 hU hW⟩⟩ rfl rfl hl.1 rfl (lv_room (Nat.le_of_ble_eq_true rfl)) dX5_row_25 ⟨(Nat.le_of_ble_eq_true rfl), (Nat.le_of_ble_eq_true rfl)⟩) (fun x_ O1 hp => ?_)
    rw [show oups O [(a, cU 5 v ad (oar 1 0 n f))] = O from oup_same hO] at hp
    exact hp
  ·
    have nc1 := Int32.not_lt.mp c1
    exact absurd hx c1

set_option maxHeartbeats 400000 in
set_option maxRecDepth 100000 in
theorem cw_rowT2 (l : Launch) (κ : Nat → Nat) (O : gO) (a : Nat) (v : Nat → Int32) (ad : Nat → Nat) (n : Nat) (f : Nat → Int32) (i k : Nat) (hO : O a = some (cU 5 v ad (oar 1 0 n f))) (hn : n ≤ 40) (hi : i < 2 ^ 31) (hk : k < 2 ^ 31) (hx : n < i + k) : oT l κ yX5_row cX5_row 4 (some (.array .int)) ({ frames := 5, cells := 1, slots := 7, locals := 102 }) [.ref a, .int (nI i), .int (nI k)] O (fun z O1 => O z = none ∧ O1 = oup O z (fnU 2)) := by
  intro D ac A
  refine o_bodyT (own := RX5) rfl (by decide) (Nat.le_of_ble_eq_true rfl) ?_
  intro p e s m args below meth c ls hC hem hlocks hK hM hl
  have hl : lv_has ls 4 [(0, .ref a), (1, .int (nI i)), (2, .int (nI k))] := hl
  have hM := PS.of hM [(a, cU 5 v ad (oar 1 0 n f))] ⟨hO, trivial⟩ (by simp [oad])
  refine lv_iload_n hC.1 hC.2.1 dX5_row_0 rfl (lv_at hl 1 rfl) ?_
  refine lv_if_lt (tgt := 23) hC.1 hC.2.1 dX5_row_1 (by decide) (fun c1 => ?_) (fun c1 => ?_)
  ·
    have nc1 := Int32.not_le.mpr c1
    exact absurd c1 (Int32.not_lt.mpr (nI_pos' (by omega)))
  ·
    have nc1 := Int32.not_lt.mp c1
    refine lv_iload_n hC.1 hC.2.1 dX5_row_4 rfl (lv_at hl 1 rfl) ?_
    refine lv_i2l hC.1 hC.2.1 dX5_row_5 rfl ?_
    refine lv_iload_n hC.1 hC.2.1 dX5_row_6 rfl (lv_at hl 2 rfl) ?_
    refine lv_i2l hC.1 hC.2.1 dX5_row_7 rfl ?_
    refine lv_ladd hC.1 hC.2.1 dX5_row_8 ?_
    refine lv_aload_n hC.1 hC.2.1 dX5_row_9 rfl (lv_at hl 0 rfl) ?_
    refine p_get hC hK hM 0 rfl in_X5 rfl 1 (by decide) q345 (fun x h => h) rfl dX5_row_10 ?_
    refine p_alen hC hK hM 0 rfl 1 rfl rfl (by omega) dX5_row_13 ?_
    refine lv_i2l hC.1 hC.2.1 dX5_row_14 rfl ?_
    refine W.lcmp hC.1 hC.2.1 dX5_row_15 ?_
    refine lv_if_gt (tgt := 23) hC.1 hC.2.1 dX5_row_16 (by decide) (fun c2 => ?_) (fun c2 => ?_)
    ·
      have nc2 := Int32.not_le.mpr c2
      refine lv_iconst (v := 0) hC.1 hC.2.1 dX5_row_23 (by decide) ?_
      refine lv_iconst (v := 2) hC.1 hC.2.1 dX5_row_24 (by decide) ?_
      refine W.widen (k := 0) (n := 0) (Nat.le_of_ble_eq_true rfl) (Nat.le_of_ble_eq_true rfl) ?_
      refine p_pass hem hlocks hM (runSNT hC ((cn_mustT l κ _ 2) D ac A) ⟨va_cnB 2 hC.2.2.2.2 (lw_meth q272) rfl rfl rfl (hK.1.2.1 _ q1021 rfl) (hC.2.2.2.2 _ q63) (by decide +kernel) ⟨(Nat.le_of_ble_eq_true rfl), (Nat.le_of_ble_eq_true rfl)⟩, hC.2.2.2.2 _ q271, trivial⟩ ⟨oPre.blind, fun U hU hW => ⟨rfl, OS.pre hK hM.1 hU hW⟩⟩ rfl rfl hl.1 rfl (lv_room (Nat.le_of_ble_eq_true rfl)) dX5_row_25 ⟨(Nat.le_of_ble_eq_true rfl), (Nat.le_of_ble_eq_true rfl)⟩) (fun x_ O1 hp => ?_)
      rw [show oups O [(a, cU 5 v ad (oar 1 0 n f))] = O from oup_same hO] at hp
      exact hp
    ·
      have nc2 := Int32.not_lt.mp c2
      rw [lg_cmp_gt, lsum3 (by omega) (by omega) (by omega)] at c2
      exact absurd hx c2

theorem cw_rowT (l : Launch) (κ : Nat → Nat) (O : gO) (a : Nat) (v : Nat → Int32) (ad : Nat → Nat) (n : Nat) (f : Nat → Int32) (x : Int32) (k : Nat) (hO : O a = some (cU 5 v ad (oar 1 0 n f))) (hn : n ≤ 40) (hk : k < 2 ^ 31) (hx : x < 0 ∨ ∃ i, x = nI i ∧ i < 2 ^ 31 ∧ n < i + k) : oT l κ yX5_row cX5_row 4 (some (.array .int)) ({ frames := 5, cells := 1, slots := 7, locals := 102 }) [.ref a, .int x, .int (nI k)] O (fun z O1 => O z = none ∧ O1 = oup O z (fnU 2)) := by
  rcases hx with hx | ⟨i, rfl, h1, h2⟩
  · exact cw_rowT1 l κ O a v ad n f x (nI k) hO hn hx
  · exact cw_rowT2 l κ O a v ad n f i k hO hn h1 hk h2

set_option maxHeartbeats 400000 in
set_option maxRecDepth 100000 in
theorem cn_timesR (l : Launch) (κ : Nat → Nat) (O : gO) (no : Nat) (cv : Nat → Int32) (ad : Nat → Nat) (g : Nat → Nat → Option Nat) (cw : Nat → Nat → Int32) (rx : Nat → Int32) (rd : Nat → Nat) (rw : Nat → Nat → Int32) (x y z : Int32) (hN : O no = some (nsU cv ad g cw)) (hR : O (ad 4) = some (rdU rx rd rw)) (hr0 : ¬ 0 < rx 0) : oW l κ yX0_times cX0_times 6 (some .int) [(32, 121, 214, 71), (122, 144, 214, 71), (145, 213, 214, 71)] ({ frames := 1, cells := 0, slots := 0, locals := 20 }) [.ref no, .int x, .int y, .int z] O (fun rv O1 => rv = some (.int (-1000002)) ∧ O1 = O) := by
  intro D ac A
  refine o_bodyW (own := RX0) rfl (by decide) (Nat.le_of_ble_eq_true rfl) ?_
  intro p e s m args below meth c ls hC hr hlocks hK hM hl htab
  have hl : lv_has ls 6 [(0, .ref no), (1, .int x), (2, .int y), (3, .int z)] := hl
  have hM := PS.of hM [(no, nsU cv ad g cw), (ad 4, rdU rx rd rw)] ⟨hN, hR, trivial⟩ (by simp only [oad, List.map, List.nodup_cons, List.mem_singleton, List.not_mem_nil, not_false_eq_true, List.nodup_nil, and_true]; exact o_ne hN hR (by decide))
  refine lv_aload_n hC.1 hC.2.1 dX0_times_0 rfl (lv_at hl 0 rfl) ?_
  refine p_cVe (L' := [_, _]) hC hK hM (hM.at 0 rfl) rfl (cn_isRoad l κ _ no cv ad g cw rx rd rw (hM.at 0 rfl) (hM.at 1 rfl)) (cwV 0 hC.2.2.2.2 (lw_V q881 q883 qs15 q63 q884) rfl rfl rfl (by decide +kernel) ⟨(Nat.le_of_ble_eq_true rfl), (Nat.le_of_ble_eq_true rfl)⟩) rfl hl.1 rfl (lv_room (Nat.le_of_ble_eq_true rfl)) dX0_times_1 ⟨(Nat.le_of_ble_eq_true rfl), (Nat.le_of_ble_eq_true rfl)⟩ rfl hM.2 (fun H locs hM => ?_)
  refine lv_if_ne (tgt := 10) hC.1 hC.2.1 dX0_times_4 (by decide) (fun c1 => ?_) (fun c1 => ?_)
  ·
    skip
    exact absurd (bI_n0.mp c1) hr0
  ·
    skip
    refine lv_ldc hC.1 hC.2.1 hC.2.2.2.1 (hC.2.2.2.2 _ q885) dX0_times_7 ?_
    skip
    refine p_iret hC hr hlocks hM dX0_times_9 ?_
    exact ⟨rfl, by rw [oups, oups, oups, oup_same hR]; exact oup_same hN⟩

set_option maxHeartbeats 400000 in
set_option maxRecDepth 100000 in
theorem cn_timesX (l : Launch) (κ : Nat → Nat) (O : gO) (no : Nat) (cv : Nat → Int32) (ad : Nat → Nat) (g : Nat → Nat → Option Nat) (cw : Nat → Nat → Int32) (rx : Nat → Int32) (rd : Nat → Nat) (rw : Nat → Nat → Int32) (x y z : Int32) (hN : O no = some (nsU cv ad g cw)) (hR : O (ad 4) = some (rdU rx rd rw)) (hr0 : 0 < rx 0) (hb : ¬ (0 ≤ x ∧ x ≤ 7) ∨ ¬ (1 ≤ z ∧ z ≤ 10)) : oW l κ yX0_times cX0_times 6 (some .int) [(32, 121, 214, 71), (122, 144, 214, 71), (145, 213, 214, 71)] ({ frames := 2, cells := 0, slots := 0, locals := 45 }) [.ref no, .int x, .int y, .int z] O (fun rv O1 => rv = some (.int (-1000001)) ∧ O1 = O) := by
  intro D ac A
  refine o_bodyW (own := RX0) rfl (by decide) (Nat.le_of_ble_eq_true rfl) ?_
  intro p e s m args below meth c ls hC hr hlocks hK hM hl htab
  have hl : lv_has ls 6 [(0, .ref no), (1, .int x), (2, .int y), (3, .int z)] := hl
  have hM := PS.of hM [(no, nsU cv ad g cw), (ad 4, rdU rx rd rw)] ⟨hN, hR, trivial⟩ (by simp only [oad, List.map, List.nodup_cons, List.mem_singleton, List.not_mem_nil, not_false_eq_true, List.nodup_nil, and_true]; exact o_ne hN hR (by decide))
  refine lv_aload_n hC.1 hC.2.1 dX0_times_0 rfl (lv_at hl 0 rfl) ?_
  refine p_cVe (L' := [_, _]) hC hK hM (hM.at 0 rfl) rfl (cn_isRoad l κ _ no cv ad g cw rx rd rw (hM.at 0 rfl) (hM.at 1 rfl)) (cwV 0 hC.2.2.2.2 (lw_V q881 q883 qs15 q63 q884) rfl rfl rfl (by decide +kernel) ⟨(Nat.le_of_ble_eq_true rfl), (Nat.le_of_ble_eq_true rfl)⟩) rfl hl.1 rfl (lv_room (Nat.le_of_ble_eq_true rfl)) dX0_times_1 ⟨(Nat.le_of_ble_eq_true rfl), (Nat.le_of_ble_eq_true rfl)⟩ rfl hM.2 (fun H locs hM => ?_)
  refine lv_if_ne (tgt := 10) hC.1 hC.2.1 dX0_times_4 (by decide) (fun c1 => ?_) (fun c1 => ?_)
  ·
    skip
    refine lv_iload_n hC.1 hC.2.1 dX0_times_10 rfl (lv_at hl 1 rfl) ?_
    refine s_ci hC (cc_isRow l x) (va_cwS 1 hC.2.2.2.2 (lw_S q261 q262 q63 q263) rfl rfl rfl (by decide +kernel) ⟨(Nat.le_of_ble_eq_true rfl), (Nat.le_of_ble_eq_true rfl)⟩) rfl hl.1 rfl (lv_room (Nat.le_of_ble_eq_true rfl)) dX0_times_11 ⟨(Nat.le_of_ble_eq_true rfl), (Nat.le_of_ble_eq_true rfl)⟩ ?_
    refine lv_if_eq (tgt := 29) hC.1 hC.2.1 dX0_times_14 (by decide) (fun c2 => ?_) (fun c2 => ?_)
    ·
      skip
      rw [bI_0] at c2
      have k1 := c2
      refine lv_ldc hC.1 hC.2.1 hC.2.2.2.1 (hC.2.2.2.2 _ q269) dX0_times_29 ?_
      skip
      refine p_iret hC hr hlocks hM dX0_times_31 ?_
      exact ⟨rfl, by rw [oups, oups, oups, oup_same hR]; exact oup_same hN⟩
    ·
      skip
      rw [bI_n0] at c2
      have k1 := c2
      refine lv_iload_n hC.1 hC.2.1 dX0_times_17 rfl (lv_at hl 3 rfl) ?_
      refine lv_i2l hC.1 hC.2.1 dX0_times_18 rfl ?_
      refine lv_lconst (v := 1) hC.1 hC.2.1 dX0_times_19 (by decide) ?_
      refine lv_ldc2 hC.1 hC.2.1 hC.2.2.2.1 (hC.2.2.2.2 _ q1016) dX0_times_20 ?_
      refine s_ci hC ((cc_isIn l (a := 1) (b := 10) rfl rfl rfl)) (va_cwS 3 hC.2.2.2.2 (lw_S q265 q266 q63 q267) rfl rfl rfl (by decide +kernel) ⟨(Nat.le_of_ble_eq_true rfl), (Nat.le_of_ble_eq_true rfl)⟩) rfl hl.1 rfl (lv_room (Nat.le_of_ble_eq_true rfl)) dX0_times_23 ⟨(Nat.le_of_ble_eq_true rfl), (Nat.le_of_ble_eq_true rfl)⟩ ?_
      refine lv_if_ne (tgt := 32) hC.1 hC.2.1 dX0_times_26 (by decide) (fun c3 => ?_) (fun c3 => ?_)
      ·
        skip
        exact hb.elim (fun h => absurd k1 h) (fun h => absurd (bI_n0.mp c3) h)
      ·
        skip
        refine lv_ldc hC.1 hC.2.1 hC.2.2.2.1 (hC.2.2.2.2 _ q269) dX0_times_29 ?_
        skip
        refine p_iret hC hr hlocks hM dX0_times_31 ?_
        exact ⟨rfl, by rw [oups, oups, oups, oup_same hR]; exact oup_same hN⟩
  ·
    skip
    exact absurd (c1 : bI _ = 0) (by rw [bI_t hr0]; decide)

set_option maxHeartbeats 400000 in
set_option maxRecDepth 100000 in
theorem cn_timesT (l : Launch) (κ : Nat → Nat) (O : gO) (no : Nat) (cv : Nat → Int32) (ad : Nat → Nat) (g : Nat → Nat → Option Nat) (cw : Nat → Nat → Int32) (rx : Nat → Int32) (rd : Nat → Nat) (rw : Nat → Nat → Int32) (j : Nat) (y : Int32) (k : Nat) (hN : O no = some (nsU cv ad g cw)) (hR : O (ad 4) = some (rdU rx rd rw)) (hr0 : 0 < rx 0) (hk1 : 1 ≤ k) (hk10 : k ≤ 10) (hj : j < 8) (hg : g 0 j = none) : oW l κ yX0_times cX0_times 6 (some .int) [(32, 121, 214, 71), (122, 144, 214, 71), (145, 213, 214, 71)] ({ frames := 6, cells := 1, slots := 7, locals := 123 }) [.ref no, .int (nI j), .int y, .int (nI k)] O (fun rv O1 => rv = some (.int (-1000011)) ∧ ∃ zq, O zq = none ∧ O1 = oup (oup O zq (fnU 1)) no (nsU (upd cv 10 1) ad g cw)) := by
  intro D ac A
  refine o_bodyW (own := RX0) rfl (by decide) (Nat.le_of_ble_eq_true rfl) ?_
  intro p e s m args below meth c ls hC hr hlocks hK hM hl htab
  have hl : lv_has ls 6 [(0, .ref no), (1, .int (nI j)), (2, .int y), (3, .int (nI k))] := hl
  have hM := PS.of hM [(no, nsU cv ad g cw), (ad 4, rdU rx rd rw)] ⟨hN, hR, trivial⟩ (by simp only [oad, List.map, List.nodup_cons, List.mem_singleton, List.not_mem_nil, not_false_eq_true, List.nodup_nil, and_true]; exact o_ne hN hR (by decide))
  refine lv_aload_n hC.1 hC.2.1 dX0_times_0 rfl (lv_at hl 0 rfl) ?_
  refine p_cVe (L' := [_, _]) hC hK hM (hM.at 0 rfl) rfl (cn_isRoad l κ _ no cv ad g cw rx rd rw (hM.at 0 rfl) (hM.at 1 rfl)) (cwV 0 hC.2.2.2.2 (lw_V q881 q883 qs15 q63 q884) rfl rfl rfl (by decide +kernel) ⟨(Nat.le_of_ble_eq_true rfl), (Nat.le_of_ble_eq_true rfl)⟩) rfl hl.1 rfl (lv_room (Nat.le_of_ble_eq_true rfl)) dX0_times_1 ⟨(Nat.le_of_ble_eq_true rfl), (Nat.le_of_ble_eq_true rfl)⟩ rfl hM.2 (fun H locs hM => ?_)
  refine lv_if_ne (tgt := 10) hC.1 hC.2.1 dX0_times_4 (by decide) (fun c1 => ?_) (fun c1 => ?_)
  ·
    skip
    refine lv_iload_n hC.1 hC.2.1 dX0_times_10 rfl (lv_at hl 1 rfl) ?_
    refine s_ci hC (cc_isRow l (nI j)) (va_cwS 1 hC.2.2.2.2 (lw_S q261 q262 q63 q263) rfl rfl rfl (by decide +kernel) ⟨(Nat.le_of_ble_eq_true rfl), (Nat.le_of_ble_eq_true rfl)⟩) rfl hl.1 rfl (lv_room (Nat.le_of_ble_eq_true rfl)) dX0_times_11 ⟨(Nat.le_of_ble_eq_true rfl), (Nat.le_of_ble_eq_true rfl)⟩ ?_
    refine lv_if_eq (tgt := 29) hC.1 hC.2.1 dX0_times_14 (by decide) (fun c2 => ?_) (fun c2 => ?_)
    ·
      skip
      exact absurd (c2 : bI _ = 0) (by rw [bI_t ⟨nI_pos' (by omega), nI_le (b := 7) (by omega) (by omega)⟩]; decide)
    ·
      skip
      refine lv_iload_n hC.1 hC.2.1 dX0_times_17 rfl (lv_at hl 3 rfl) ?_
      refine lv_i2l hC.1 hC.2.1 dX0_times_18 rfl ?_
      refine lv_lconst (v := 1) hC.1 hC.2.1 dX0_times_19 (by decide) ?_
      refine lv_ldc2 hC.1 hC.2.1 hC.2.2.2.1 (hC.2.2.2.2 _ q1016) dX0_times_20 ?_
      refine s_ci hC ((cc_isIn l (a := 1) (b := 10) rfl rfl rfl)) (va_cwS 3 hC.2.2.2.2 (lw_S q265 q266 q63 q267) rfl rfl rfl (by decide +kernel) ⟨(Nat.le_of_ble_eq_true rfl), (Nat.le_of_ble_eq_true rfl)⟩) rfl hl.1 rfl (lv_room (Nat.le_of_ble_eq_true rfl)) dX0_times_23 ⟨(Nat.le_of_ble_eq_true rfl), (Nat.le_of_ble_eq_true rfl)⟩ ?_
      refine lv_if_ne (tgt := 32) hC.1 hC.2.1 dX0_times_26 (by decide) (fun c3 => ?_) (fun c3 => ?_)
      ·
        skip
        refine lv_aload_n hC.1 hC.2.1 dX0_times_32 rfl (lv_at hl 0 rfl) ?_
        refine lv_iload_n hC.1 hC.2.1 dX0_times_33 rfl (lv_at hl 1 rfl) ?_
        refine p_catch hC hK hM (runVT hC ((cn_rowAtT l κ _ no cv ad g cw j (hM.at 0 rfl) hj hg) D ac A) (cwV 1 hC.2.2.2.2 (lw_V q365 q367 qs3 q63 q368) rfl rfl rfl (by decide +kernel) ⟨(Nat.le_of_ble_eq_true rfl), (Nat.le_of_ble_eq_true rfl)⟩) ⟨oPre.blind, OS.recv hK hM.1 (hM.at 0 rfl) rfl, fun U hU hW => ⟨rfl, OS.pre hK hM.1 hU hW⟩⟩ rfl rfl hl.1 rfl (lv_room (Nat.le_of_ble_eq_true rfl)) dX0_times_34 ⟨(Nat.le_of_ble_eq_true rfl), (Nat.le_of_ble_eq_true rfl)⟩) htab 0 (hpc := 214) (ct := 71) (hAt_of rfl) (by decide) q260 (hK.1.2.1 _ q274 rfl) (fun x O1 h => ⟨4, _, _, _, _, (congrFun h.2 x).trans (oup_s _ _ _), rfl⟩) (fun x_ O1 H locs hp hM1 => ?_)
        obtain ⟨hz0, hzO⟩ := hp
        rw [hzO] at hM1
        obtain ⟨hz1, hz2, hM⟩ := PS.app (L' := [_, _, _]) hM.2 hz0 hM1 rfl
        refine lv_astore (lv' := [(4, _), (0, _), (1, _), (2, _), (3, _)]) hC.1 hC.2.1 dX0_times_214 hl (by decide) rfl (fun ls hl => ?_)
        refine lv_aload_n hC.1 hC.2.1 dX0_times_216 rfl (lv_at hl 1 rfl) ?_
        refine lv_aload hC.1 hC.2.1 dX0_times_217 (lv_at hl 0 rfl) ?_
        refine p_cVe (L' := [_, _, _]) hC hK hM (hM.at 0 rfl) rfl (cn_found l κ _ no cv ad g cw x_ 1 (hM.at 0 rfl) (hM.at 2 rfl)) (cwV 1 hC.2.2.2.2 (lw_V q356 q358 qs2 q63 q359) rfl rfl rfl (by decide +kernel) ⟨(Nat.le_of_ble_eq_true rfl), (Nat.le_of_ble_eq_true rfl)⟩) rfl hl.1 rfl (lv_room (Nat.le_of_ble_eq_true rfl)) dX0_times_219 ⟨(Nat.le_of_ble_eq_true rfl), (Nat.le_of_ble_eq_true rfl)⟩ (oups_set hM.2 (i := 0) rfl) (oad_nd hM.2 (i := 0) rfl rfl) (fun H locs hM => ?_)
        refine W.widen (k := 1) (n := 7) (Nat.le_of_ble_eq_true rfl) (Nat.le_of_ble_eq_true rfl) ?_
        refine p_iret hC hr hlocks hM dX0_times_222 ?_
        refine ⟨rfl, x_, hz1, ?_⟩
        rw [oups, oups, oups, oups, oup_comm (a := x_) (b := ad 4) (fun e => by rw [e, hR] at hz1; cases hz1), oup_same hR]
      ·
        skip
        exact absurd (c3 : bI _ = 0) (by rw [bI_t ⟨nI_le (a := 1) (by omega) (by omega), nI_le (b := 10) (by omega) (by omega)⟩]; decide)
  ·
    skip
    exact absurd (c1 : bI _ = 0) (by rw [bI_t hr0]; decide)

set_option maxHeartbeats 400000 in
set_option maxRecDepth 100000 in
theorem cn_timesT2 (l : Launch) (κ : Nat → Nat) (O : gO) (no : Nat) (cv : Nat → Int32) (ad : Nat → Nat) (g : Nat → Nat → Option Nat) (cw : Nat → Nat → Int32) (rx : Nat → Int32) (rd : Nat → Nat) (rw : Nat → Nat → Int32) (j q : Nat) (lane : Int32) (b n : Nat) (f : Nat → Int32) (y : Int32) (k : Nat) (hN : O no = some (nsU cv ad g cw)) (hR : O (ad 4) = some (rdU rx rd rw)) (hj : j < 8) (hg : g 0 j = some q) (hQ : O q = some (cU 5 (fun _ => lane) (fun _ => b) (oar 1 0 n f))) (hn : n ≤ 40) (hr0 : 0 < rx 0) (hk1 : 1 ≤ k) (hk10 : k ≤ 10) (hx : y < 0 ∨ ∃ i, y = nI i ∧ i < 2 ^ 31 ∧ n < i + 4 * k) : oW l κ yX0_times cX0_times 6 (some .int) [(32, 121, 214, 71), (122, 144, 214, 71), (145, 213, 214, 71)] ({ frames := 6, cells := 1, slots := 7, locals := 125 }) [.ref no, .int (nI j), .int y, .int (nI k)] O (fun rv O1 => rv = some (.int (-1000012)) ∧ ∃ zq, O zq = none ∧ O1 = oup (oup O zq (fnU 2)) no (nsU (upd cv 10 2) ad g cw)) := by
  intro D ac A
  refine o_bodyW (own := RX0) rfl (by decide) (Nat.le_of_ble_eq_true rfl) ?_
  intro p e s m args below meth c ls hC hr hlocks hK hM hl htab
  have hl : lv_has ls 6 [(0, .ref no), (1, .int (nI j)), (2, .int y), (3, .int (nI k))] := hl
  have hM := PS.of hM [(no, nsU cv ad g cw), (ad 4, rdU rx rd rw), (q, cU 5 (fun _ => lane) (fun _ => b) (oar 1 0 n f))] ⟨hN, hR, hQ, trivial⟩ (by simp only [oad, List.map, List.nodup_cons, List.mem_cons, List.mem_singleton, List.not_mem_nil, not_or, or_false, not_false_eq_true, List.nodup_nil, and_true]; exact ⟨⟨o_ne hN hR (by decide), o_ne hN hQ (by decide)⟩, o_ne hR hQ (by decide)⟩)
  refine lv_aload_n hC.1 hC.2.1 dX0_times_0 rfl (lv_at hl 0 rfl) ?_
  refine p_cVe (L' := [_, _, _]) hC hK hM (hM.at 0 rfl) rfl (cn_isRoad l κ _ no cv ad g cw rx rd rw (hM.at 0 rfl) (hM.at 1 rfl)) (cwV 0 hC.2.2.2.2 (lw_V q881 q883 qs15 q63 q884) rfl rfl rfl (by decide +kernel) ⟨(Nat.le_of_ble_eq_true rfl), (Nat.le_of_ble_eq_true rfl)⟩) rfl hl.1 rfl (lv_room (Nat.le_of_ble_eq_true rfl)) dX0_times_1 ⟨(Nat.le_of_ble_eq_true rfl), (Nat.le_of_ble_eq_true rfl)⟩ rfl hM.2 (fun H locs hM => ?_)
  refine lv_if_ne (tgt := 10) hC.1 hC.2.1 dX0_times_4 (by decide) (fun c1 => ?_) (fun c1 => ?_)
  ·
    skip
    refine lv_iload_n hC.1 hC.2.1 dX0_times_10 rfl (lv_at hl 1 rfl) ?_
    refine s_ci hC (cc_isRow l (nI j)) (va_cwS 1 hC.2.2.2.2 (lw_S q261 q262 q63 q263) rfl rfl rfl (by decide +kernel) ⟨(Nat.le_of_ble_eq_true rfl), (Nat.le_of_ble_eq_true rfl)⟩) rfl hl.1 rfl (lv_room (Nat.le_of_ble_eq_true rfl)) dX0_times_11 ⟨(Nat.le_of_ble_eq_true rfl), (Nat.le_of_ble_eq_true rfl)⟩ ?_
    refine lv_if_eq (tgt := 29) hC.1 hC.2.1 dX0_times_14 (by decide) (fun c2 => ?_) (fun c2 => ?_)
    ·
      skip
      exact absurd (c2 : bI _ = 0) (by rw [bI_t ⟨nI_pos' (by omega), nI_le (b := 7) (by omega) (by omega)⟩]; decide)
    ·
      skip
      refine lv_iload_n hC.1 hC.2.1 dX0_times_17 rfl (lv_at hl 3 rfl) ?_
      refine lv_i2l hC.1 hC.2.1 dX0_times_18 rfl ?_
      refine lv_lconst (v := 1) hC.1 hC.2.1 dX0_times_19 (by decide) ?_
      refine lv_ldc2 hC.1 hC.2.1 hC.2.2.2.1 (hC.2.2.2.2 _ q1016) dX0_times_20 ?_
      refine s_ci hC ((cc_isIn l (a := 1) (b := 10) rfl rfl rfl)) (va_cwS 3 hC.2.2.2.2 (lw_S q265 q266 q63 q267) rfl rfl rfl (by decide +kernel) ⟨(Nat.le_of_ble_eq_true rfl), (Nat.le_of_ble_eq_true rfl)⟩) rfl hl.1 rfl (lv_room (Nat.le_of_ble_eq_true rfl)) dX0_times_23 ⟨(Nat.le_of_ble_eq_true rfl), (Nat.le_of_ble_eq_true rfl)⟩ ?_
      refine lv_if_ne (tgt := 32) hC.1 hC.2.1 dX0_times_26 (by decide) (fun c3 => ?_) (fun c3 => ?_)
      ·
        skip
        refine lv_aload_n hC.1 hC.2.1 dX0_times_32 rfl (lv_at hl 0 rfl) ?_
        refine lv_iload_n hC.1 hC.2.1 dX0_times_33 rfl (lv_at hl 1 rfl) ?_
        refine p_cVe (L' := [_, _, _]) hC hK hM (hM.at 0 rfl) rfl (cn_rowAt l κ _ no cv ad g cw j q (hM.at 0 rfl) hj hg) (cwV 1 hC.2.2.2.2 (lw_V q365 q367 qs3 q63 q368) rfl rfl rfl (by decide +kernel) ⟨(Nat.le_of_ble_eq_true rfl), (Nat.le_of_ble_eq_true rfl)⟩) rfl hl.1 rfl (lv_room (Nat.le_of_ble_eq_true rfl)) dX0_times_34 ⟨(Nat.le_of_ble_eq_true rfl), (Nat.le_of_ble_eq_true rfl)⟩ rfl hM.2 (fun H locs hM => ?_)
        refine lv_iload_n hC.1 hC.2.1 dX0_times_37 rfl (lv_at hl 2 rfl) ?_
        refine lv_iconst (v := 4) hC.1 hC.2.1 dX0_times_38 (by decide) ?_
        refine lv_iload_n hC.1 hC.2.1 dX0_times_39 rfl (lv_at hl 3 rfl) ?_
        refine lv_imul hC.1 hC.2.1 dX0_times_40 ?_
        rw [show (4 : Int32) * nI k = nI (4 * k) from pk_mul 4 k]
        refine p_catch hC hK hM (runVT hC ((cw_rowT l κ _ q (fun _ => lane) (fun _ => b) n f y (4 * k) (hM.at 2 rfl) hn (by omega) hx) D ac A) (cwV 2 hC.2.2.2.2 (lw_V q1017 q1018 q1019 q73 q1020) rfl rfl rfl (by decide +kernel) ⟨(Nat.le_of_ble_eq_true rfl), (Nat.le_of_ble_eq_true rfl)⟩) ⟨oPre.blind, OS.recv hK hM.1 (hM.at 2 rfl) rfl, fun U hU hW => ⟨rfl, OS.pre hK hM.1 hU hW⟩⟩ rfl rfl hl.1 rfl (lv_room (Nat.le_of_ble_eq_true rfl)) dX0_times_41 ⟨(Nat.le_of_ble_eq_true rfl), (Nat.le_of_ble_eq_true rfl)⟩) htab 0 (hpc := 214) (ct := 71) (hAt_of rfl) (by decide) q260 (hK.1.2.1 _ q274 rfl) (fun x O1 h => ⟨4, _, _, _, _, (congrFun h.2 x).trans (oup_s _ _ _), rfl⟩) (fun x_ O1 H locs hp hM1 => ?_)
        obtain ⟨hz0, hzO⟩ := hp
        rw [hzO] at hM1
        obtain ⟨hz1, hz2, hM⟩ := PS.app (L' := [_, _, _, _]) hM.2 hz0 hM1 rfl
        refine lv_astore (lv' := [(4, _), (0, _), (1, _), (2, _), (3, _)]) hC.1 hC.2.1 dX0_times_214 hl (by decide) rfl (fun ls hl => ?_)
        refine lv_aload_n hC.1 hC.2.1 dX0_times_216 rfl (lv_at hl 1 rfl) ?_
        refine lv_aload hC.1 hC.2.1 dX0_times_217 (lv_at hl 0 rfl) ?_
        refine p_cVe (L' := [_, _, _, _]) hC hK hM (hM.at 0 rfl) rfl (cn_found l κ _ no cv ad g cw x_ 2 (hM.at 0 rfl) (hM.at 3 rfl)) (cwV 1 hC.2.2.2.2 (lw_V q356 q358 qs2 q63 q359) rfl rfl rfl (by decide +kernel) ⟨(Nat.le_of_ble_eq_true rfl), (Nat.le_of_ble_eq_true rfl)⟩) rfl hl.1 rfl (lv_room (Nat.le_of_ble_eq_true rfl)) dX0_times_219 ⟨(Nat.le_of_ble_eq_true rfl), (Nat.le_of_ble_eq_true rfl)⟩ (oups_set hM.2 (i := 0) rfl) (oad_nd hM.2 (i := 0) rfl rfl) (fun H locs hM => ?_)
        refine W.widen (k := 1) (n := 7) (Nat.le_of_ble_eq_true rfl) (Nat.le_of_ble_eq_true rfl) ?_
        refine p_iret hC hr hlocks hM dX0_times_222 ?_
        refine ⟨rfl, x_, hz1, ?_⟩
        rw [oups, oups, oups, oups, oups, oup_comm (a := x_) (b := q) (fun e => by rw [e, hQ] at hz1; cases hz1), oup_same hQ, oup_comm (a := x_) (b := ad 4) (fun e => by rw [e, hR] at hz1; cases hz1), oup_same hR]
      ·
        skip
        exact absurd (c3 : bI _ = 0) (by rw [bI_t ⟨nI_le (a := 1) (by omega) (by omega), nI_le (b := 10) (by omega) (by omega)⟩]; decide)
  ·
    skip
    exact absurd (c1 : bI _ = 0) (by rw [bI_t hr0]; decide)

set_option maxHeartbeats 400000 in
set_option maxRecDepth 100000 in
theorem cn_times (l : Launch) (κ : Nat → Nat) (O : gO) (no : Nat) (cv : Nat → Int32) (ad : Nat → Nat) (g : Nat → Nat → Option Nat) (cw : Nat → Nat → Int32) (rx : Nat → Int32) (rd : Nat → Nat) (rw : Nat → Nat → Int32) (tx : Nat → Int32) (td : Nat → Nat) (tw : Nat → Nat → Int32) (j q : Nat) (lane : Int32) (b n : Nat) (f : Nat → Int32) (i k tm : Nat) (hN : O no = some (nsU cv ad g cw)) (hR : O (ad 4) = some (rdU rx rd rw)) (hT : O (ad 5) = some (rdU tx td tw)) (hRT : ad 4 ≠ ad 5) (hj : j < 8) (hg : g 0 j = some q) (hQ : O q = some (cU 5 (fun _ => lane) (fun _ => b) (oar 1 0 n f))) (hn : n ≤ 40) (hr0 : 0 < rx 0) (hk1 : 1 ≤ k) (hk10 : k ≤ 10) (hi : i + 4 * k ≤ n) (et : rx 11 = nI tm) (htm : tm ≤ 12) : oW l κ yX0_times cX0_times 6 (some .int) [(32, 121, 214, 71), (122, 144, 214, 71), (145, 213, 214, 71)] ({ frames := 2, cells := 1, slots := 40, locals := 63 }) [.ref no, .int (nI j), .int (nI i), .int (nI k)] O (fun rv O1 => (¬ (∀ u, u < k → tmC (rx 4) ((va_cpy f (fun _ => 0) i 0 (4 * k)) (4 * u)) ((va_cpy f (fun _ => 0) i 0 (4 * k)) (4 * u + 1)) ((va_cpy f (fun _ => 0) i 0 (4 * k)) (4 * u + 2)) ((va_cpy f (fun _ => 0) i 0 (4 * k)) (4 * u + 3))) → rv = some (.int (-1000001)) ∧ ∃ (bq : Nat) (ub : gU) (tx1 : Nat → Int32) (td1 : Nat → Nat) (tw1 : Nat → Nat → Int32), O bq = none ∧ O1 = oup (oup O bq ub) (ad 5) (rdU tx1 td1 tw1)) ∧ ((∀ u, u < k → tmC (rx 4) ((va_cpy f (fun _ => 0) i 0 (4 * k)) (4 * u)) ((va_cpy f (fun _ => 0) i 0 (4 * k)) (4 * u + 1)) ((va_cpy f (fun _ => 0) i 0 (4 * k)) (4 * u + 2)) ((va_cpy f (fun _ => 0) i 0 (4 * k)) (4 * u + 3))) → 12 < tm + k → rv = some (.int (-1000003)) ∧ ∃ (bq : Nat) (ub : gU) (tx1 : Nat → Int32) (td1 : Nat → Nat) (tw1 : Nat → Nat → Int32), O bq = none ∧ O1 = oup (oup O bq ub) (ad 5) (rdU tx1 td1 tw1)) ∧ ((∀ u, u < k → tmC (rx 4) ((va_cpy f (fun _ => 0) i 0 (4 * k)) (4 * u)) ((va_cpy f (fun _ => 0) i 0 (4 * k)) (4 * u + 1)) ((va_cpy f (fun _ => 0) i 0 (4 * k)) (4 * u + 2)) ((va_cpy f (fun _ => 0) i 0 (4 * k)) (4 * u + 3))) → tm + k ≤ 12 → rv = some (.int (nI (tm + k))) ∧ ∃ (bq : Nat) (ub : gU) (tx1 : Nat → Int32) (td1 : Nat → Nat) (tw1 : Nat → Nat → Int32), O bq = none ∧ O1 = oup (oup (oup (oup O bq ub) (ad 5) (rdU tx1 td1 tw1)) (ad 4) (rdU (upd rx 11 (nI (tm + k))) rd (wput rw 10 (adL (rw 10) tm (va_cpy f (fun _ => 0) i 0 (4 * k)) k)))) no (nsU (upd cv 10 0) ad g cw))) := by
  intro D ac A
  refine o_bodyW (own := RX0) rfl (by decide) (Nat.le_of_ble_eq_true rfl) ?_
  intro p e s m args below meth c ls hC hr hlocks hK hM hl htab
  have hl : lv_has ls 6 [(0, .ref no), (1, .int (nI j)), (2, .int (nI i)), (3, .int (nI k))] := hl
  have hM := PS.of hM [(no, nsU cv ad g cw), (ad 4, rdU rx rd rw), (ad 5, rdU tx td tw), (q, cU 5 (fun _ => lane) (fun _ => b) (oar 1 0 n f))] ⟨hN, hR, hT, hQ, trivial⟩ (by simp only [oad, List.map, List.nodup_cons, List.mem_cons, List.mem_singleton, List.not_mem_nil, not_or, or_false, not_false_eq_true, List.nodup_nil, and_true]; exact ⟨⟨o_ne hN hR (by decide), o_ne hN hT (by decide), o_ne hN hQ (by decide)⟩, ⟨hRT, o_ne hR hQ (by decide)⟩, o_ne hT hQ (by decide)⟩)
  refine lv_aload_n hC.1 hC.2.1 dX0_times_0 rfl (lv_at hl 0 rfl) ?_
  refine p_cVe (L' := [_, _, _, _]) hC hK hM (hM.at 0 rfl) rfl (cn_isRoad l κ _ no cv ad g cw rx rd rw (hM.at 0 rfl) (hM.at 1 rfl)) (cwV 0 hC.2.2.2.2 (lw_V q881 q883 qs15 q63 q884) rfl rfl rfl (by decide +kernel) ⟨(Nat.le_of_ble_eq_true rfl), (Nat.le_of_ble_eq_true rfl)⟩) rfl hl.1 rfl (lv_room (Nat.le_of_ble_eq_true rfl)) dX0_times_1 ⟨(Nat.le_of_ble_eq_true rfl), (Nat.le_of_ble_eq_true rfl)⟩ rfl hM.2 (fun H locs hM => ?_)
  refine lv_if_ne (tgt := 10) hC.1 hC.2.1 dX0_times_4 (by decide) (fun c1 => ?_) (fun c1 => ?_)
  ·
    skip
    refine lv_iload_n hC.1 hC.2.1 dX0_times_10 rfl (lv_at hl 1 rfl) ?_
    refine s_ci hC (cc_isRow l (nI j)) (va_cwS 1 hC.2.2.2.2 (lw_S q261 q262 q63 q263) rfl rfl rfl (by decide +kernel) ⟨(Nat.le_of_ble_eq_true rfl), (Nat.le_of_ble_eq_true rfl)⟩) rfl hl.1 rfl (lv_room (Nat.le_of_ble_eq_true rfl)) dX0_times_11 ⟨(Nat.le_of_ble_eq_true rfl), (Nat.le_of_ble_eq_true rfl)⟩ ?_
    refine lv_if_eq (tgt := 29) hC.1 hC.2.1 dX0_times_14 (by decide) (fun c2 => ?_) (fun c2 => ?_)
    ·
      skip
      exact absurd (c2 : bI _ = 0) (by rw [bI_t ⟨nI_pos' (by omega), nI_le (b := 7) (by omega) (by omega)⟩]; decide)
    ·
      skip
      refine lv_iload_n hC.1 hC.2.1 dX0_times_17 rfl (lv_at hl 3 rfl) ?_
      refine lv_i2l hC.1 hC.2.1 dX0_times_18 rfl ?_
      refine lv_lconst (v := 1) hC.1 hC.2.1 dX0_times_19 (by decide) ?_
      refine lv_ldc2 hC.1 hC.2.1 hC.2.2.2.1 (hC.2.2.2.2 _ q1016) dX0_times_20 ?_
      refine s_ci hC ((cc_isIn l (a := 1) (b := 10) rfl rfl rfl)) (va_cwS 3 hC.2.2.2.2 (lw_S q265 q266 q63 q267) rfl rfl rfl (by decide +kernel) ⟨(Nat.le_of_ble_eq_true rfl), (Nat.le_of_ble_eq_true rfl)⟩) rfl hl.1 rfl (lv_room (Nat.le_of_ble_eq_true rfl)) dX0_times_23 ⟨(Nat.le_of_ble_eq_true rfl), (Nat.le_of_ble_eq_true rfl)⟩ ?_
      refine lv_if_ne (tgt := 32) hC.1 hC.2.1 dX0_times_26 (by decide) (fun c3 => ?_) (fun c3 => ?_)
      ·
        skip
        refine lv_aload_n hC.1 hC.2.1 dX0_times_32 rfl (lv_at hl 0 rfl) ?_
        refine lv_iload_n hC.1 hC.2.1 dX0_times_33 rfl (lv_at hl 1 rfl) ?_
        refine p_cVe (L' := [_, _, _, _]) hC hK hM (hM.at 0 rfl) rfl (cn_rowAt l κ _ no cv ad g cw j q (hM.at 0 rfl) hj hg) (cwV 1 hC.2.2.2.2 (lw_V q365 q367 qs3 q63 q368) rfl rfl rfl (by decide +kernel) ⟨(Nat.le_of_ble_eq_true rfl), (Nat.le_of_ble_eq_true rfl)⟩) rfl hl.1 rfl (lv_room (Nat.le_of_ble_eq_true rfl)) dX0_times_34 ⟨(Nat.le_of_ble_eq_true rfl), (Nat.le_of_ble_eq_true rfl)⟩ rfl hM.2 (fun H locs hM => ?_)
        refine lv_iload_n hC.1 hC.2.1 dX0_times_37 rfl (lv_at hl 2 rfl) ?_
        refine lv_iconst (v := 4) hC.1 hC.2.1 dX0_times_38 (by decide) ?_
        refine lv_iload_n hC.1 hC.2.1 dX0_times_39 rfl (lv_at hl 3 rfl) ?_
        refine lv_imul hC.1 hC.2.1 dX0_times_40 ?_
        rw [show (4 : Int32) * nI k = nI (4 * k) from pk_mul 4 k]
        refine o_cV hC hK hM.1 (hM.at 3 rfl) rfl (cw_row l κ _ q (fun _ => lane) (fun _ => b) n f i (4 * k) (hM.at 3 rfl) hn hi) (cwV 2 hC.2.2.2.2 (lw_V q1017 q1018 q1019 q73 q1020) rfl rfl rfl (by decide +kernel) ⟨(Nat.le_of_ble_eq_true rfl), (Nat.le_of_ble_eq_true rfl)⟩) rfl hl.1 rfl (lv_room (Nat.le_of_ble_eq_true rfl)) dX0_times_41 ⟨(Nat.le_of_ble_eq_true rfl), (Nat.le_of_ble_eq_true rfl)⟩ (fun rv O1 H locs hp hM1 => ?_)
        obtain ⟨bq, rfl, hz0, hzO⟩ := hp
        rw [hzO] at hM1
        obtain ⟨hz1, hz2, hM⟩ := PS.app (L' := [_, _, _, _, _]) hM.2 hz0 hM1 rfl
        refine lv_astore (lv' := [(4, _), (0, _), (1, _), (2, _), (3, _)]) hC.1 hC.2.1 dX0_times_44 hl (by decide) rfl (fun ls hl => ?_)
        refine lv_aload_n hC.1 hC.2.1 dX0_times_46 rfl (lv_at hl 1 rfl) ?_
        refine p_get hC hK hM 0 rfl in_X0 rfl 5 (by decide) q224 (fun x h => h) rfl dX0_times_47 ?_
        refine lv_aload_n hC.1 hC.2.1 dX0_times_50 rfl (lv_at hl 1 rfl) ?_
        refine p_get hC hK hM 0 rfl in_X0 rfl 4 (by decide) q223 (fun x h => h) rfl dX0_times_51 ?_
        refine p_cVe (L' := [_, _, _, _, _]) hC hK hM (hM.at 2 rfl) rfl (cr_become l κ _ (ad 5) tx td tw (ad 4) rx rd rw (hM.at 2 rfl) (hM.at 1 rfl) (fun e => hRT e.symm)) (cwV 1 hC.2.2.2.2 (lw_V q869 q870 q871 q64 q872) rfl rfl rfl (by decide +kernel) ⟨(Nat.le_of_ble_eq_true rfl), (Nat.le_of_ble_eq_true rfl)⟩) rfl hl.1 rfl (lv_room (Nat.le_of_ble_eq_true rfl)) dX0_times_54 ⟨(Nat.le_of_ble_eq_true rfl), (Nat.le_of_ble_eq_true rfl)⟩ (oups_set hM.2 (i := 2) rfl) (oad_nd hM.2 (i := 2) rfl rfl) (fun H locs hM => ?_)
        refine lv_pop hC.1 hC.2.1 dX0_times_57 rfl ?_
        refine lv_aload_n hC.1 hC.2.1 dX0_times_58 rfl (lv_at hl 1 rfl) ?_
        refine p_get hC hK hM 0 rfl in_X0 rfl 5 (by decide) q224 (fun x h => h) rfl dX0_times_59 ?_
        refine lv_iconst (v := 0) hC.1 hC.2.1 dX0_times_62 (by decide) ?_
        refine p_put (L' := [_, _, _, _, _]) hC hK hM 2 rfl in_X1 tyX1 tyX1_ok nmX1 rfl 11 (by decide) q174 (fun x h => h) rfl rfl rfl (Nat.le_of_ble_eq_true rfl) rfl rfl rfl dX0_times_63 (fun H locs hM => ?_)
        refine lv_iconst (v := 0) hC.1 hC.2.1 dX0_times_66 (by decide) ?_
        refine lv_istore (lv' := [(5, _), (4, _), (0, _), (1, _), (2, _), (3, _)]) hC.1 hC.2.1 dX0_times_67 hl (by decide) rfl (fun ls hl => ?_)
        refine w_ind (α := Nat) 69 (fun (u : Nat) => k - u) (fun (u : Nat) (H : Heap) (locs : List Loc) (ls : Array Slot) => (u ≤ k ∧ ∀ u2, u2 < u → tmC (rx 4) ((va_cpy f (fun _ => 0) i 0 (4 * k)) (4 * u2)) ((va_cpy f (fun _ => 0) i 0 (4 * k)) (4 * u2 + 1)) ((va_cpy f (fun _ => 0) i 0 (4 * k)) (4 * u2 + 2)) ((va_cpy f (fun _ => 0) i 0 (4 * k)) (4 * u2 + 3))) ∧ PS D ac A s.heap O [(no, nsU cv ad g cw), (ad 4, rdU rx rd rw), (ad 5, rdU (upd rx 11 (nI u)) (updN td 8 (rd 8)) (wput (becW tw rw) 10 (adL (rw 10) 0 (va_cpy f (fun _ => 0) i 0 (4 * k)) u))), (q, cU 5 (fun _ => lane) (fun _ => b) (oar 1 0 n f)), (bq, .inl (0, 4 * k, .inl (va_cpy f (fun _ => 0) i 0 (4 * k))))] H locs ∧ lv_has ls 6 [(0, .ref no), (3, .int (nI k)), (4, .ref bq), (5, .int (nI u))]) ?_ (0) ⟨⟨Nat.zero_le _, fun u2 h2 => absurd h2 (by omega)⟩, by rw [adL, bec10]; exact hM, lv_sub hl [2, 5, 1, 0] rfl⟩
        intro u H locs ls hI ih69
        obtain ⟨hI69, hM, hl⟩ := hI
        refine lv_iload hC.1 hC.2.1 dX0_times_69 (lv_at hl 3 rfl) ?_
        refine lv_iload_n hC.1 hC.2.1 dX0_times_71 rfl (lv_at hl 1 rfl) ?_
        refine lv_icmp_ge (tgt := 128) hC.1 hC.2.1 dX0_times_72 (by decide) (fun c4 => ?_) (fun c4 => ?_)
        ·
          have nc4 := Int32.not_lt.mpr c4
          have hx72 := nle_t (a := k) (b := u) c4
          obtain rfl : k = u := by omega
          refine lv_aload_n hC.1 hC.2.1 dX0_times_128 rfl (lv_at hl 0 rfl) ?_
          refine p_get hC hK hM 0 rfl in_X0 rfl 4 (by decide) q223 (fun x h => h) rfl dX0_times_129 ?_
          refine p_get hC hK hM 1 rfl in_X1 rfl 11 (by decide) q174 (fun x h => h) rfl dX0_times_132 ?_
          rw [et]
          refine lv_iload_n hC.1 hC.2.1 dX0_times_135 rfl (lv_at hl 1 rfl) ?_
          refine lv_iadd hC.1 hC.2.1 dX0_times_136 ?_
          rw [nI_add]
          refine lv_bipush (v := 12) hC.1 hC.2.1 dX0_times_137 (by decide) ?_
          refine lv_icmp_le (tgt := 145) hC.1 hC.2.1 dX0_times_139 (by decide) (fun c5 => ?_) (fun c5 => ?_)
          ·
            have nc5 := Int32.not_lt.mpr c5
            have hx139 := nle_t (a := tm + k) (b := 12) c5
            have hal := hI69.2
            refine lv_iconst (v := 0) hC.1 hC.2.1 dX0_times_145 (by decide) ?_
            refine lv_istore (lv' := [(5, _), (0, _), (3, _), (4, _)]) hC.1 hC.2.1 dX0_times_146 hl (by decide) rfl (fun ls hl => ?_)
            refine w_ind (α := Nat) 148 (fun (s2 : Nat) => k - s2) (fun (s2 : Nat) (H : Heap) (locs : List Loc) (ls : Array Slot) => (s2 ≤ k) ∧ PS D ac A s.heap O [(no, nsU cv ad g cw), (ad 4, rdU (upd rx 11 (nI (tm + s2))) rd (wput rw 10 (adL (rw 10) tm (va_cpy f (fun _ => 0) i 0 (4 * k)) s2))), (ad 5, rdU (upd rx 11 (nI k)) (updN td 8 (rd 8)) (wput (becW tw rw) 10 (adL (rw 10) 0 (va_cpy f (fun _ => 0) i 0 (4 * k)) k))), (q, cU 5 (fun _ => lane) (fun _ => b) (oar 1 0 n f)), (bq, .inl (0, 4 * k, .inl (va_cpy f (fun _ => 0) i 0 (4 * k))))] H locs ∧ lv_has ls 6 [(0, .ref no), (3, .int (nI k)), (4, .ref bq), (5, .int (nI s2))]) ?_ (0) ⟨Nat.zero_le _, by rw [adL, Nat.add_zero, ← et, upd_self, wput_self]; exact hM, lv_sub hl [1, 2, 3, 0] rfl⟩
            intro s2 H locs ls hI ih148
            obtain ⟨hI148, hM, hl⟩ := hI
            refine lv_iload hC.1 hC.2.1 dX0_times_148 (lv_at hl 3 rfl) ?_
            refine lv_iload_n hC.1 hC.2.1 dX0_times_150 rfl (lv_at hl 1 rfl) ?_
            refine lv_icmp_ge (tgt := 202) hC.1 hC.2.1 dX0_times_151 (by decide) (fun c6 => ?_) (fun c6 => ?_)
            ·
              have nc6 := Int32.not_lt.mpr c6
              have hx151 := nle_t (a := k) (b := s2) c6
              obtain rfl : k = s2 := by omega
              refine lv_aload_n hC.1 hC.2.1 dX0_times_202 rfl (lv_at hl 0 rfl) ?_
              refine lv_aload_n hC.1 hC.2.1 dX0_times_203 rfl (lv_at hl 0 rfl) ?_
              refine p_get hC hK hM 0 rfl in_X0 rfl 4 (by decide) q223 (fun x h => h) rfl dX0_times_204 ?_
              refine p_get hC hK hM 1 rfl in_X1 rfl 11 (by decide) q174 (fun x h => h) rfl dX0_times_207 ?_
              refine p_cVe (L' := [_, _, _, _, _]) hC hK hM (hM.at 0 rfl) rfl (cn_well l κ _ no cv ad g cw (nI (tm + k)) (hM.at 0 rfl)) (cwV 1 hC.2.2.2.2 (lw_V q352 q354 qs1 q63 q355) rfl rfl rfl (by decide +kernel) ⟨(Nat.le_of_ble_eq_true rfl), (Nat.le_of_ble_eq_true rfl)⟩) rfl hl.1 rfl (lv_room (Nat.le_of_ble_eq_true rfl)) dX0_times_210 ⟨(Nat.le_of_ble_eq_true rfl), (Nat.le_of_ble_eq_true rfl)⟩ (oups_set hM.2 (i := 0) rfl) (oad_nd hM.2 (i := 0) rfl rfl) (fun H locs hM => ?_)
              refine W.widen (k := 1) (n := 40) (Nat.le_of_ble_eq_true rfl) (Nat.le_of_ble_eq_true rfl) ?_
              refine p_iret hC hr hlocks hM dX0_times_213 ?_
              exact ⟨fun h => absurd hal h, fun _ h => absurd h (by omega), fun _ _ => ⟨rfl, bq, _, _, _, _, hz1, tm_end2 hQ hz1⟩⟩
            ·
              have nc6 := Int32.not_le.mp c6
              have hx151 := nle_f (a := k) (b := s2) c6
              refine lv_aload_n hC.1 hC.2.1 dX0_times_154 rfl (lv_at hl 0 rfl) ?_
              refine p_get hC hK hM 0 rfl in_X0 rfl 4 (by decide) q223 (fun x h => h) rfl dX0_times_155 ?_
              refine lv_aload hC.1 hC.2.1 dX0_times_158 (lv_at hl 2 rfl) ?_
              refine lv_iconst (v := 4) hC.1 hC.2.1 dX0_times_160 (by decide) ?_
              refine lv_iload hC.1 hC.2.1 dX0_times_161 (lv_at hl 3 rfl) ?_
              refine lv_imul hC.1 hC.2.1 dX0_times_163 ?_
              refine pl_iald hC hK hM 4 rfl (n := (4 * s2)) (by first | rfl | (simp only [← nI_add, ← pk_mul]; rfl)) (by first | decide | (show _ < _; omega)) (by omega) dX0_times_164 ?_
              refine lv_aload hC.1 hC.2.1 dX0_times_165 (lv_at hl 2 rfl) ?_
              refine lv_iconst (v := 4) hC.1 hC.2.1 dX0_times_167 (by decide) ?_
              refine lv_iload hC.1 hC.2.1 dX0_times_168 (lv_at hl 3 rfl) ?_
              refine lv_imul hC.1 hC.2.1 dX0_times_170 ?_
              refine lv_iconst (v := 1) hC.1 hC.2.1 dX0_times_171 (by decide) ?_
              refine lv_iadd hC.1 hC.2.1 dX0_times_172 ?_
              refine pl_iald hC hK hM 4 rfl (n := ((4 * s2) + 1)) (by first | rfl | (simp only [← nI_add, ← pk_mul]; rfl)) (by first | decide | (show _ < _; omega)) (by omega) dX0_times_173 ?_
              refine lv_aload hC.1 hC.2.1 dX0_times_174 (lv_at hl 2 rfl) ?_
              refine lv_iconst (v := 4) hC.1 hC.2.1 dX0_times_176 (by decide) ?_
              refine lv_iload hC.1 hC.2.1 dX0_times_177 (lv_at hl 3 rfl) ?_
              refine lv_imul hC.1 hC.2.1 dX0_times_179 ?_
              refine lv_iconst (v := 2) hC.1 hC.2.1 dX0_times_180 (by decide) ?_
              refine lv_iadd hC.1 hC.2.1 dX0_times_181 ?_
              refine pl_iald hC hK hM 4 rfl (n := ((4 * s2) + 2)) (by first | rfl | (simp only [← nI_add, ← pk_mul]; rfl)) (by first | decide | (show _ < _; omega)) (by omega) dX0_times_182 ?_
              refine lv_aload hC.1 hC.2.1 dX0_times_183 (lv_at hl 2 rfl) ?_
              refine lv_iconst (v := 4) hC.1 hC.2.1 dX0_times_185 (by decide) ?_
              refine lv_iload hC.1 hC.2.1 dX0_times_186 (lv_at hl 3 rfl) ?_
              refine lv_imul hC.1 hC.2.1 dX0_times_188 ?_
              refine lv_iconst (v := 3) hC.1 hC.2.1 dX0_times_189 (by decide) ?_
              refine lv_iadd hC.1 hC.2.1 dX0_times_190 ?_
              refine pl_iald hC hK hM 4 rfl (n := ((4 * s2) + 3)) (by first | rfl | (simp only [← nI_add, ← pk_mul]; rfl)) (by first | decide | (show _ < _; omega)) (by omega) dX0_times_191 ?_
              refine p_cVe (L' := [_, _, _, _, _]) hC hK hM (hM.at 1 rfl) rfl (cr_addT l κ _ (ad 4) (upd rx 11 (nI (tm + s2))) rd (wput rw 10 (adL (rw 10) tm (va_cpy f (fun _ => 0) i 0 (4 * k)) s2)) ((va_cpy f (fun _ => 0) i 0 (4 * k)) (4 * s2)) ((va_cpy f (fun _ => 0) i 0 (4 * k)) (4 * s2 + 1)) ((va_cpy f (fun _ => 0) i 0 (4 * k)) (4 * s2 + 2)) ((va_cpy f (fun _ => 0) i 0 (4 * k)) (4 * s2 + 3)) (tm + s2) (hM.at 1 rfl) rfl (by omega) (hal s2 (by omega))) (cwV 4 hC.2.2.2.2 (lw_V q1006 q1007 q1008 q64 q1009) rfl rfl rfl (by decide +kernel) ⟨(Nat.le_of_ble_eq_true rfl), (Nat.le_of_ble_eq_true rfl)⟩) rfl hl.1 rfl (lv_room (Nat.le_of_ble_eq_true rfl)) dX0_times_192 ⟨(Nat.le_of_ble_eq_true rfl), (Nat.le_of_ble_eq_true rfl)⟩ (oups_set hM.2 (i := 1) rfl) (oad_nd hM.2 (i := 1) rfl rfl) (fun H locs hM => ?_)
              refine lv_pop hC.1 hC.2.1 dX0_times_195 rfl ?_
              refine lv_iinc (v := nI (s2 + 1)) (lv' := [(5, _), (0, _), (3, _), (4, _)]) hC.1 hC.2.1 dX0_times_196 hl (k := 3) rfl (nI_1 _) (by decide) rfl (fun ls hl => ?_)
              refine lv_goto (tgt := 148) hC.1 hC.2.1 dX0_times_199 (by decide) ?_
              exact ih148 (s2 + 1) _ _ _ (by omega) ⟨by omega, by rw [upd_upd, upd_s, nI_1, wput_wput, wput_s] at hM; rw [adL]; exact hM, lv_sub hl [1, 2, 3, 0] rfl⟩
          ·
            have nc5 := Int32.not_le.mp c5
            have hx139 := nle_f (a := tm + k) (b := 12) c5
            refine lv_ldc hC.1 hC.2.1 hC.2.2.2.1 (hC.2.2.2.2 _ q423) dX0_times_142 ?_
            refine W.widen (k := 1) (n := 40) (Nat.le_of_ble_eq_true rfl) (Nat.le_of_ble_eq_true rfl) ?_
            refine p_iret hC hr hlocks hM dX0_times_144 ?_
            exact ⟨fun h => absurd hI69.2 h, fun _ _ => ⟨rfl, ⟨bq, _, _, _, _, hz1, tm_end1 hN hR hQ hz1 (o_ne hN hT (by decide)) hRT⟩⟩, fun _ h => absurd h (by omega)⟩
        ·
          have nc4 := Int32.not_le.mp c4
          have hx72 := nle_f (a := k) (b := u) c4
          refine lv_aload_n hC.1 hC.2.1 dX0_times_75 rfl (lv_at hl 0 rfl) ?_
          refine p_get hC hK hM 0 rfl in_X0 rfl 5 (by decide) q224 (fun x h => h) rfl dX0_times_76 ?_
          refine lv_aload hC.1 hC.2.1 dX0_times_79 (lv_at hl 2 rfl) ?_
          by_cases hcc : tmC (rx 4) ((va_cpy f (fun _ => 0) i 0 (4 * k)) (4 * u)) ((va_cpy f (fun _ => 0) i 0 (4 * k)) (4 * u + 1)) ((va_cpy f (fun _ => 0) i 0 (4 * k)) (4 * u + 2)) ((va_cpy f (fun _ => 0) i 0 (4 * k)) (4 * u + 3))
          ·
            skip
            refine lv_iconst (v := 4) hC.1 hC.2.1 dX0_times_81 (by decide) ?_
            refine lv_iload hC.1 hC.2.1 dX0_times_82 (lv_at hl 3 rfl) ?_
            refine lv_imul hC.1 hC.2.1 dX0_times_84 ?_
            refine pl_iald hC hK hM 4 rfl (n := (4 * u)) (by first | rfl | (simp only [← nI_add, ← pk_mul]; rfl)) (by first | decide | (show _ < _; omega)) (by omega) dX0_times_85 ?_
            refine lv_aload hC.1 hC.2.1 dX0_times_86 (lv_at hl 2 rfl) ?_
            refine lv_iconst (v := 4) hC.1 hC.2.1 dX0_times_88 (by decide) ?_
            refine lv_iload hC.1 hC.2.1 dX0_times_89 (lv_at hl 3 rfl) ?_
            refine lv_imul hC.1 hC.2.1 dX0_times_91 ?_
            refine lv_iconst (v := 1) hC.1 hC.2.1 dX0_times_92 (by decide) ?_
            refine lv_iadd hC.1 hC.2.1 dX0_times_93 ?_
            refine pl_iald hC hK hM 4 rfl (n := ((4 * u) + 1)) (by first | rfl | (simp only [← nI_add, ← pk_mul]; rfl)) (by first | decide | (show _ < _; omega)) (by omega) dX0_times_94 ?_
            refine lv_aload hC.1 hC.2.1 dX0_times_95 (lv_at hl 2 rfl) ?_
            refine lv_iconst (v := 4) hC.1 hC.2.1 dX0_times_97 (by decide) ?_
            refine lv_iload hC.1 hC.2.1 dX0_times_98 (lv_at hl 3 rfl) ?_
            refine lv_imul hC.1 hC.2.1 dX0_times_100 ?_
            refine lv_iconst (v := 2) hC.1 hC.2.1 dX0_times_101 (by decide) ?_
            refine lv_iadd hC.1 hC.2.1 dX0_times_102 ?_
            refine pl_iald hC hK hM 4 rfl (n := ((4 * u) + 2)) (by first | rfl | (simp only [← nI_add, ← pk_mul]; rfl)) (by first | decide | (show _ < _; omega)) (by omega) dX0_times_103 ?_
            refine lv_aload hC.1 hC.2.1 dX0_times_104 (lv_at hl 2 rfl) ?_
            refine lv_iconst (v := 4) hC.1 hC.2.1 dX0_times_106 (by decide) ?_
            refine lv_iload hC.1 hC.2.1 dX0_times_107 (lv_at hl 3 rfl) ?_
            refine lv_imul hC.1 hC.2.1 dX0_times_109 ?_
            refine lv_iconst (v := 3) hC.1 hC.2.1 dX0_times_110 (by decide) ?_
            refine lv_iadd hC.1 hC.2.1 dX0_times_111 ?_
            refine pl_iald hC hK hM 4 rfl (n := ((4 * u) + 3)) (by first | rfl | (simp only [← nI_add, ← pk_mul]; rfl)) (by first | decide | (show _ < _; omega)) (by omega) dX0_times_112 ?_
            refine p_cVe (L' := [_, _, _, _, _]) hC hK hM (hM.at 2 rfl) rfl (cr_addT l κ _ (ad 5) (upd rx 11 (nI u)) (updN td 8 (rd 8)) (wput (becW tw rw) 10 (adL (rw 10) 0 (va_cpy f (fun _ => 0) i 0 (4 * k)) u)) ((va_cpy f (fun _ => 0) i 0 (4 * k)) (4 * u)) ((va_cpy f (fun _ => 0) i 0 (4 * k)) (4 * u + 1)) ((va_cpy f (fun _ => 0) i 0 (4 * k)) (4 * u + 2)) ((va_cpy f (fun _ => 0) i 0 (4 * k)) (4 * u + 3)) u (hM.at 2 rfl) rfl (by omega) hcc) (cwV 4 hC.2.2.2.2 (lw_V q1006 q1007 q1008 q64 q1009) rfl rfl rfl (by decide +kernel) ⟨(Nat.le_of_ble_eq_true rfl), (Nat.le_of_ble_eq_true rfl)⟩) rfl hl.1 rfl (lv_room (Nat.le_of_ble_eq_true rfl)) dX0_times_113 ⟨(Nat.le_of_ble_eq_true rfl), (Nat.le_of_ble_eq_true rfl)⟩ (oups_set hM.2 (i := 2) rfl) (oad_nd hM.2 (i := 2) rfl rfl) (fun H locs hM => ?_)
            refine lv_if_ne (tgt := 122) hC.1 hC.2.1 dX0_times_116 (by decide) (fun c7 => ?_) (fun c7 => ?_)
            ·
              skip
              skip
              refine lv_iinc (v := nI (u + 1)) (lv' := [(5, _), (0, _), (3, _), (4, _)]) hC.1 hC.2.1 dX0_times_122 hl (k := 3) rfl (nI_1 _) (by decide) rfl (fun ls hl => ?_)
              refine lv_goto (tgt := 69) hC.1 hC.2.1 dX0_times_125 (by decide) ?_
              exact ih69 (u + 1) _ _ _ (by show k - (u + 1) < k - u; omega) ⟨⟨by omega, fun u2 h2 => (Nat.lt_or_ge u2 u).elim (fun h => hI69.2 u2 h) (fun h => by rw [show u2 = u by omega]; exact hcc)⟩, by rw [upd_upd, upd_s, nI_1, wput_wput, wput_s] at hM; rw [adL, Nat.zero_add]; exact hM, lv_sub hl [1, 2, 3, 0] rfl⟩
            ·
              skip
              exact absurd c7 (by decide)
          ·
            skip
            refine lv_iconst (v := 4) hC.1 hC.2.1 dX0_times_81 (by decide) ?_
            refine lv_iload hC.1 hC.2.1 dX0_times_82 (lv_at hl 3 rfl) ?_
            refine lv_imul hC.1 hC.2.1 dX0_times_84 ?_
            refine pl_iald hC hK hM 4 rfl (n := (4 * u)) (by first | rfl | (simp only [← nI_add, ← pk_mul]; rfl)) (by first | decide | (show _ < _; omega)) (by omega) dX0_times_85 ?_
            refine lv_aload hC.1 hC.2.1 dX0_times_86 (lv_at hl 2 rfl) ?_
            refine lv_iconst (v := 4) hC.1 hC.2.1 dX0_times_88 (by decide) ?_
            refine lv_iload hC.1 hC.2.1 dX0_times_89 (lv_at hl 3 rfl) ?_
            refine lv_imul hC.1 hC.2.1 dX0_times_91 ?_
            refine lv_iconst (v := 1) hC.1 hC.2.1 dX0_times_92 (by decide) ?_
            refine lv_iadd hC.1 hC.2.1 dX0_times_93 ?_
            refine pl_iald hC hK hM 4 rfl (n := ((4 * u) + 1)) (by first | rfl | (simp only [← nI_add, ← pk_mul]; rfl)) (by first | decide | (show _ < _; omega)) (by omega) dX0_times_94 ?_
            refine lv_aload hC.1 hC.2.1 dX0_times_95 (lv_at hl 2 rfl) ?_
            refine lv_iconst (v := 4) hC.1 hC.2.1 dX0_times_97 (by decide) ?_
            refine lv_iload hC.1 hC.2.1 dX0_times_98 (lv_at hl 3 rfl) ?_
            refine lv_imul hC.1 hC.2.1 dX0_times_100 ?_
            refine lv_iconst (v := 2) hC.1 hC.2.1 dX0_times_101 (by decide) ?_
            refine lv_iadd hC.1 hC.2.1 dX0_times_102 ?_
            refine pl_iald hC hK hM 4 rfl (n := ((4 * u) + 2)) (by first | rfl | (simp only [← nI_add, ← pk_mul]; rfl)) (by first | decide | (show _ < _; omega)) (by omega) dX0_times_103 ?_
            refine lv_aload hC.1 hC.2.1 dX0_times_104 (lv_at hl 2 rfl) ?_
            refine lv_iconst (v := 4) hC.1 hC.2.1 dX0_times_106 (by decide) ?_
            refine lv_iload hC.1 hC.2.1 dX0_times_107 (lv_at hl 3 rfl) ?_
            refine lv_imul hC.1 hC.2.1 dX0_times_109 ?_
            refine lv_iconst (v := 3) hC.1 hC.2.1 dX0_times_110 (by decide) ?_
            refine lv_iadd hC.1 hC.2.1 dX0_times_111 ?_
            refine pl_iald hC hK hM 4 rfl (n := ((4 * u) + 3)) (by first | rfl | (simp only [← nI_add, ← pk_mul]; rfl)) (by first | decide | (show _ < _; omega)) (by omega) dX0_times_112 ?_
            refine p_cVe (L' := [_, _, _, _, _]) hC hK hM (hM.at 2 rfl) rfl (cr_addF l κ _ (ad 5) (upd rx 11 (nI u)) (updN td 8 (rd 8)) (wput (becW tw rw) 10 (adL (rw 10) 0 (va_cpy f (fun _ => 0) i 0 (4 * k)) u)) ((va_cpy f (fun _ => 0) i 0 (4 * k)) (4 * u)) ((va_cpy f (fun _ => 0) i 0 (4 * k)) (4 * u + 1)) ((va_cpy f (fun _ => 0) i 0 (4 * k)) (4 * u + 2)) ((va_cpy f (fun _ => 0) i 0 (4 * k)) (4 * u + 3)) u (hM.at 2 rfl) rfl (by omega) hcc) (cwV 4 hC.2.2.2.2 (lw_V q1006 q1007 q1008 q64 q1009) rfl rfl rfl (by decide +kernel) ⟨(Nat.le_of_ble_eq_true rfl), (Nat.le_of_ble_eq_true rfl)⟩) rfl hl.1 rfl (lv_room (Nat.le_of_ble_eq_true rfl)) dX0_times_113 ⟨(Nat.le_of_ble_eq_true rfl), (Nat.le_of_ble_eq_true rfl)⟩ rfl hM.2 (fun H locs hM => ?_)
            refine lv_if_ne (tgt := 122) hC.1 hC.2.1 dX0_times_116 (by decide) (fun c8 => ?_) (fun c8 => ?_)
            ·
              skip
              exact absurd rfl c8
            ·
              skip
              skip
              refine lv_ldc hC.1 hC.2.1 hC.2.2.2.1 (hC.2.2.2.2 _ q269) dX0_times_119 ?_
              refine W.widen (k := 1) (n := 40) (Nat.le_of_ble_eq_true rfl) (Nat.le_of_ble_eq_true rfl) ?_
              refine p_iret hC hr hlocks hM dX0_times_121 ?_
              exact ⟨fun _ => ⟨rfl, ⟨bq, _, _, _, _, hz1, tm_end1 hN hR hQ hz1 (o_ne hN hT (by decide)) hRT⟩⟩, fun hal => absurd (hal u (by omega)) hcc, fun hal => absurd (hal u (by omega)) hcc⟩
      ·
        skip
        exact absurd (c3 : bI _ = 0) (by rw [bI_t ⟨nI_le (a := 1) (by omega) (by omega), nI_le (b := 10) (by omega) (by omega)⟩]; decide)
  ·
    skip
    exact absurd (c1 : bI _ = 0) (by rw [bI_t hr0]; decide)
