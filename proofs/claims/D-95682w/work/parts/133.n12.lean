set_option maxHeartbeats 400000 in
set_option maxRecDepth 100000 in
theorem cn_rowAt (l : Launch) (κ : Nat → Nat) (O : gO) (no : Nat) (cv : Nat → Int32) (ad : Nat → Nat) (g : Nat → Nat → Option Nat) (cw : Nat → Nat → Int32) (j q : Nat) (hN : O no = some (nsU cv ad g cw)) (hj : j < 8) (hg : g 0 j = some q) : oM l κ yX0_rowAt cX0_rowAt 2 (some (.object "NightStones$Row")) ({ frames := 1, cells := 0, slots := 0, locals := 21 }) [.ref no, .int (nI j)] O (fun rv O1 => rv = some (.ref q) ∧ O1 = O) := by
  intro D ac A
  refine o_body (own := RX0) rfl (plainFor_of_name (by decide)) (Nat.le_of_ble_eq_true rfl) ?_
  intro p e s m args below meth c ls hC hr hlocks hK hM hl hnamed hmeth
  have hl : lv_has ls 2 [(0, .ref no), (1, .int (nI j))] := hl
  have hM := PS.of hM [(no, nsU cv ad g cw)] ⟨hN, trivial⟩ (by simp [oad])
  refine lv_aload_n hC.1 hC.2.1 dX0_rowAt_0 rfl (lv_at hl 0 rfl) ?_
  refine p_get hC hK hM 0 rfl in_X0 rfl 0 (by decide) q219 (fun x h => h) rfl dX0_rowAt_1 ?_
  refine lv_iload_n hC.1 hC.2.1 dX0_rowAt_4 rfl (lv_at hl 1 rfl) ?_
  refine p_aald hC hK hM 0 rfl 0 rfl rfl rfl (n := j) (by first | rfl | (simp only [← nI_add, ← pk_mul]; rfl)) (by first | decide | (show _ < 8; omega)) (by decide) dX0_rowAt_5 ?_
  rw [hg]
  refine lv_ifnull hC.1 hC.2.1 dX0_rowAt_6 ?_
  refine lv_iconst (v := 1) hC.1 hC.2.1 dX0_rowAt_9 (by decide) ?_
  refine lv_goto (tgt := 14) hC.1 hC.2.1 dX0_rowAt_10 (by decide) ?_
  refine lv_iconst (v := 1) hC.1 hC.2.1 dX0_rowAt_14 (by decide) ?_
  refine p_cSv (L' := [_]) hC hK hM (cn_must l κ _ 1 1 (by decide)) (va_cwS 2 hC.2.2.2.2 (lw_S q270 q271 q63 q272) rfl rfl rfl (by decide +kernel) ⟨(Nat.le_of_ble_eq_true rfl), (Nat.le_of_ble_eq_true rfl)⟩) rfl hl.1 rfl (lv_room (Nat.le_of_ble_eq_true rfl)) dX0_rowAt_15 ⟨(Nat.le_of_ble_eq_true rfl), (Nat.le_of_ble_eq_true rfl)⟩ rfl hM.2 (fun H locs hM => ?_)
  refine lv_aload_n hC.1 hC.2.1 dX0_rowAt_18 rfl (lv_at hl 0 rfl) ?_
  refine p_get hC hK hM 0 rfl in_X0 rfl 0 (by decide) q219 (fun x h => h) rfl dX0_rowAt_19 ?_
  refine lv_iload_n hC.1 hC.2.1 dX0_rowAt_22 rfl (lv_at hl 1 rfl) ?_
  refine p_aald hC hK hM 0 rfl 0 rfl rfl rfl (n := j) (by first | rfl | (simp only [← nI_add, ← pk_mul]; rfl)) (by first | decide | (show _ < 8; omega)) (by decide) dX0_rowAt_23 ?_
  rw [hg]
  skip
  refine p_aret hC hr (Or.inl ⟨_, rfl⟩) hlocks hM (Or.inr ⟨_, rfl⟩) dX0_rowAt_24 ?_
  exact ⟨rfl, oup_same hN⟩

set_option maxHeartbeats 400000 in
set_option maxRecDepth 100000 in
theorem cn_rowAtT (l : Launch) (κ : Nat → Nat) (O : gO) (no : Nat) (cv : Nat → Int32) (ad : Nat → Nat) (g : Nat → Nat → Option Nat) (cw : Nat → Nat → Int32) (j : Nat) (hN : O no = some (nsU cv ad g cw)) (hj : j < 8) (hg : g 0 j = none) : oT l κ yX0_rowAt cX0_rowAt 2 (some (.object "NightStones$Row")) ({ frames := 5, cells := 1, slots := 7, locals := 102 }) [.ref no, .int (nI j)] O (fun z O1 => O z = none ∧ O1 = oup O z (fnU 1)) := by
  intro D ac A
  refine o_bodyT (own := RX0) rfl (by decide) (Nat.le_of_ble_eq_true rfl) ?_
  intro p e s m args below meth c ls hC hem hlocks hK hM hl
  have hl : lv_has ls 2 [(0, .ref no), (1, .int (nI j))] := hl
  have hM := PS.of hM [(no, nsU cv ad g cw)] ⟨hN, trivial⟩ (by simp [oad])
  refine lv_aload_n hC.1 hC.2.1 dX0_rowAt_0 rfl (lv_at hl 0 rfl) ?_
  refine p_get hC hK hM 0 rfl in_X0 rfl 0 (by decide) q219 (fun x h => h) rfl dX0_rowAt_1 ?_
  refine lv_iload_n hC.1 hC.2.1 dX0_rowAt_4 rfl (lv_at hl 1 rfl) ?_
  refine p_aald hC hK hM 0 rfl 0 rfl rfl rfl (n := j) (by first | rfl | (simp only [← nI_add, ← pk_mul]; rfl)) (by first | decide | (show _ < 8; omega)) (by decide) dX0_rowAt_5 ?_
  rw [hg]
  refine lv_ifnullN (tgt := 13) hC.1 hC.2.1 dX0_rowAt_6 (by decide) ?_
  refine lv_iconst (v := 0) hC.1 hC.2.1 dX0_rowAt_13 (by decide) ?_
  refine lv_iconst (v := 1) hC.1 hC.2.1 dX0_rowAt_14 (by decide) ?_
  refine W.widen (k := 0) (n := 0) (Nat.le_of_ble_eq_true rfl) (Nat.le_of_ble_eq_true rfl) ?_
  refine p_pass hem hlocks hM (runST hC ((cn_mustT l κ _ 1) D ac A) (va_cwS 2 hC.2.2.2.2 (lw_S q270 q271 q63 q272) rfl rfl rfl (by decide +kernel) ⟨(Nat.le_of_ble_eq_true rfl), (Nat.le_of_ble_eq_true rfl)⟩) ⟨oPre.blind, fun U hU hW => ⟨rfl, OS.pre hK hM.1 hU hW⟩⟩ rfl rfl hl.1 rfl (lv_room (Nat.le_of_ble_eq_true rfl)) dX0_rowAt_15 ⟨(Nat.le_of_ble_eq_true rfl), (Nat.le_of_ble_eq_true rfl)⟩) (fun x_ O1 hp => ?_)
  rw [show oups O [(no, nsU cv ad g cw)] = O from oup_same hN] at hp
  exact hp

set_option maxHeartbeats 400000 in
set_option maxRecDepth 100000 in
theorem cn_rowX (l : Launch) (κ : Nat → Nat) (O : gO) (no : Nat) (cv : Nat → Int32) (ad : Nat → Nat) (g : Nat → Nat → Option Nat) (cw : Nat → Nat → Int32) (x y z : Int32) (hN : O no = some (nsU cv ad g cw)) (hb : ¬ (0 ≤ x ∧ x ≤ 7) ∨ ¬ (0 ≤ y ∧ y ≤ 2) ∨ ¬ z ≤ 40) : oW l κ yX0_row cX0_row 5 (some .int) [(28, 61, 62, 71)] ({ frames := 2, cells := 0, slots := 0, locals := 45 }) [.ref no, .int x, .int y, .int z] O (fun rv O1 => rv = some (.int (-1000001)) ∧ O1 = O) := by
  intro D ac A
  refine o_bodyW (own := RX0) rfl (by decide) (Nat.le_of_ble_eq_true rfl) ?_
  intro p e s m args below meth c ls hC hr hlocks hK hM hl htab
  have hl : lv_has ls 5 [(0, .ref no), (1, .int x), (2, .int y), (3, .int z)] := hl
  have hM := PS.of hM [(no, nsU cv ad g cw)] ⟨hN, trivial⟩ (by simp [oad])
  refine lv_iload_n hC.1 hC.2.1 dX0_row_0 rfl (lv_at hl 1 rfl) ?_
  refine s_ci hC (cc_isRow l x) (va_cwS 1 hC.2.2.2.2 (lw_S q261 q262 q63 q263) rfl rfl rfl (by decide +kernel) ⟨(Nat.le_of_ble_eq_true rfl), (Nat.le_of_ble_eq_true rfl)⟩) rfl hl.1 rfl (lv_room (Nat.le_of_ble_eq_true rfl)) dX0_row_1 ⟨(Nat.le_of_ble_eq_true rfl), (Nat.le_of_ble_eq_true rfl)⟩ ?_
  refine lv_if_eq (tgt := 25) hC.1 hC.2.1 dX0_row_4 (by decide) (fun c1 => ?_) (fun c1 => ?_)
  ·
    skip
    rw [bI_0] at c1
    have k1 := c1
    refine lv_ldc hC.1 hC.2.1 hC.2.2.2.1 (hC.2.2.2.2 _ q269) dX0_row_25 ?_
    skip
    refine p_iret hC hr hlocks hM dX0_row_27 ?_
    exact ⟨rfl, oup_same hN⟩
  ·
    skip
    rw [bI_n0] at c1
    have k1 := c1
    refine lv_iload_n hC.1 hC.2.1 dX0_row_7 rfl (lv_at hl 2 rfl) ?_
    refine lv_i2l hC.1 hC.2.1 dX0_row_8 rfl ?_
    refine lv_lconst (v := 0) hC.1 hC.2.1 dX0_row_9 (by decide) ?_
    refine lv_ldc2 hC.1 hC.2.1 hC.2.2.2.1 (hC.2.2.2.2 _ q268) dX0_row_10 ?_
    refine s_ci hC ((cc_isIn l (a := 0) (b := 2) rfl rfl rfl)) (va_cwS 3 hC.2.2.2.2 (lw_S q265 q266 q63 q267) rfl rfl rfl (by decide +kernel) ⟨(Nat.le_of_ble_eq_true rfl), (Nat.le_of_ble_eq_true rfl)⟩) rfl hl.1 rfl (lv_room (Nat.le_of_ble_eq_true rfl)) dX0_row_13 ⟨(Nat.le_of_ble_eq_true rfl), (Nat.le_of_ble_eq_true rfl)⟩ ?_
    refine lv_if_eq (tgt := 25) hC.1 hC.2.1 dX0_row_16 (by decide) (fun c2 => ?_) (fun c2 => ?_)
    ·
      skip
      rw [bI_0] at c2
      have k2 := c2
      refine lv_ldc hC.1 hC.2.1 hC.2.2.2.1 (hC.2.2.2.2 _ q269) dX0_row_25 ?_
      skip
      refine p_iret hC hr hlocks hM dX0_row_27 ?_
      exact ⟨rfl, oup_same hN⟩
    ·
      skip
      rw [bI_n0] at c2
      have k2 := c2
      refine lv_iload_n hC.1 hC.2.1 dX0_row_19 rfl (lv_at hl 3 rfl) ?_
      refine lv_bipush (v := 40) hC.1 hC.2.1 dX0_row_20 (by decide) ?_
      refine lv_icmp_le (tgt := 28) hC.1 hC.2.1 dX0_row_22 (by decide) (fun c3 => ?_) (fun c3 => ?_)
      ·
        have nc3 := Int32.not_lt.mpr c3
        exact hb.elim (fun h => absurd k1 h) (fun h => h.elim (fun h => absurd k2 h) (fun h => absurd c3 h))
      ·
        have nc3 := Int32.not_le.mp c3
        refine lv_ldc hC.1 hC.2.1 hC.2.2.2.1 (hC.2.2.2.2 _ q269) dX0_row_25 ?_
        skip
        refine p_iret hC hr hlocks hM dX0_row_27 ?_
        exact ⟨rfl, oup_same hN⟩

set_option maxHeartbeats 400000 in
set_option maxRecDepth 100000 in
theorem cn_rowT (l : Launch) (κ : Nat → Nat) (O : gO) (no : Nat) (cv : Nat → Int32) (ad : Nat → Nat) (g : Nat → Nat → Option Nat) (cw : Nat → Nat → Int32) (x y z : Int32) (hN : O no = some (nsU cv ad g cw)) (hx : 0 ≤ x ∧ x ≤ 7) (hy : 0 ≤ y ∧ y ≤ 2) (hz : z ≤ 40) (hn : z < 0) : oW l κ yX0_row cX0_row 5 (some .int) [(28, 61, 62, 71)] ({ frames := 5, cells := 1, slots := 7, locals := 102 }) [.ref no, .int x, .int y, .int z] O (fun rv O1 => rv = some (.int (-1000014)) ∧ ∃ zq, O zq = none ∧ O1 = oup (oup O zq (fnU 4)) no (nsU (upd cv 10 4) ad g cw)) := by
  intro D ac A
  refine o_bodyW (own := RX0) rfl (by decide) (Nat.le_of_ble_eq_true rfl) ?_
  intro p e s m args below meth c ls hC hr hlocks hK hM hl htab
  have hl : lv_has ls 5 [(0, .ref no), (1, .int x), (2, .int y), (3, .int z)] := hl
  have hM := PS.of hM [(no, nsU cv ad g cw)] ⟨hN, trivial⟩ (by simp [oad])
  refine lv_iload_n hC.1 hC.2.1 dX0_row_0 rfl (lv_at hl 1 rfl) ?_
  refine s_ci hC (cc_isRow l x) (va_cwS 1 hC.2.2.2.2 (lw_S q261 q262 q63 q263) rfl rfl rfl (by decide +kernel) ⟨(Nat.le_of_ble_eq_true rfl), (Nat.le_of_ble_eq_true rfl)⟩) rfl hl.1 rfl (lv_room (Nat.le_of_ble_eq_true rfl)) dX0_row_1 ⟨(Nat.le_of_ble_eq_true rfl), (Nat.le_of_ble_eq_true rfl)⟩ ?_
  refine lv_if_eq (tgt := 25) hC.1 hC.2.1 dX0_row_4 (by decide) (fun c1 => ?_) (fun c1 => ?_)
  ·
    skip
    exact absurd (c1 : bI _ = 0) (by rw [bI_t hx]; decide)
  ·
    skip
    refine lv_iload_n hC.1 hC.2.1 dX0_row_7 rfl (lv_at hl 2 rfl) ?_
    refine lv_i2l hC.1 hC.2.1 dX0_row_8 rfl ?_
    refine lv_lconst (v := 0) hC.1 hC.2.1 dX0_row_9 (by decide) ?_
    refine lv_ldc2 hC.1 hC.2.1 hC.2.2.2.1 (hC.2.2.2.2 _ q268) dX0_row_10 ?_
    refine s_ci hC ((cc_isIn l (a := 0) (b := 2) rfl rfl rfl)) (va_cwS 3 hC.2.2.2.2 (lw_S q265 q266 q63 q267) rfl rfl rfl (by decide +kernel) ⟨(Nat.le_of_ble_eq_true rfl), (Nat.le_of_ble_eq_true rfl)⟩) rfl hl.1 rfl (lv_room (Nat.le_of_ble_eq_true rfl)) dX0_row_13 ⟨(Nat.le_of_ble_eq_true rfl), (Nat.le_of_ble_eq_true rfl)⟩ ?_
    refine lv_if_eq (tgt := 25) hC.1 hC.2.1 dX0_row_16 (by decide) (fun c2 => ?_) (fun c2 => ?_)
    ·
      skip
      exact absurd (c2 : bI _ = 0) (by rw [bI_t hy]; decide)
    ·
      skip
      refine lv_iload_n hC.1 hC.2.1 dX0_row_19 rfl (lv_at hl 3 rfl) ?_
      refine lv_bipush (v := 40) hC.1 hC.2.1 dX0_row_20 (by decide) ?_
      refine lv_icmp_le (tgt := 28) hC.1 hC.2.1 dX0_row_22 (by decide) (fun c3 => ?_) (fun c3 => ?_)
      ·
        have nc3 := Int32.not_lt.mpr c3
        refine lv_iload_n hC.1 hC.2.1 dX0_row_28 rfl (lv_at hl 3 rfl) ?_
        refine lv_if_lt (tgt := 36) hC.1 hC.2.1 dX0_row_29 (by decide) (fun c4 => ?_) (fun c4 => ?_)
        ·
          have nc4 := Int32.not_le.mpr c4
          refine lv_iconst (v := 0) hC.1 hC.2.1 dX0_row_36 (by decide) ?_
          refine lv_iconst (v := 4) hC.1 hC.2.1 dX0_row_37 (by decide) ?_
          refine p_catch hC hK hM (runST hC ((cn_mustT l κ _ 4) D ac A) (va_cwS 2 hC.2.2.2.2 (lw_S q270 q271 q63 q272) rfl rfl rfl (by decide +kernel) ⟨(Nat.le_of_ble_eq_true rfl), (Nat.le_of_ble_eq_true rfl)⟩) ⟨oPre.blind, fun U hU hW => ⟨rfl, OS.pre hK hM.1 hU hW⟩⟩ rfl rfl hl.1 rfl (lv_room (Nat.le_of_ble_eq_true rfl)) dX0_row_38 ⟨(Nat.le_of_ble_eq_true rfl), (Nat.le_of_ble_eq_true rfl)⟩) htab 0 (hpc := 62) (ct := 71) (hAt_of rfl) (by decide) q260 (hK.1.2.1 _ q274 rfl) (fun x O1 h => ⟨4, _, _, _, _, (congrFun h.2 x).trans (oup_s _ _ _), rfl⟩) (fun x_ O1 H locs hp hM1 => ?_)
          obtain ⟨hz0, hzO⟩ := hp
          rw [hzO] at hM1
          obtain ⟨hz1, hz2, hM⟩ := PS.app (L' := [_, _]) hM.2 hz0 hM1 rfl
          refine lv_astore (lv' := [(4, _), (0, _), (1, _), (2, _), (3, _)]) hC.1 hC.2.1 dX0_row_62 hl (by decide) rfl (fun ls hl => ?_)
          refine lv_aload_n hC.1 hC.2.1 dX0_row_64 rfl (lv_at hl 1 rfl) ?_
          refine lv_aload hC.1 hC.2.1 dX0_row_65 (lv_at hl 0 rfl) ?_
          refine p_cVe (L' := [_, _]) hC hK hM (hM.at 0 rfl) rfl (cn_found l κ _ no cv ad g cw x_ 4 (hM.at 0 rfl) (hM.at 1 rfl)) (cwV 1 hC.2.2.2.2 (lw_V q356 q358 qs2 q63 q359) rfl rfl rfl (by decide +kernel) ⟨(Nat.le_of_ble_eq_true rfl), (Nat.le_of_ble_eq_true rfl)⟩) rfl hl.1 rfl (lv_room (Nat.le_of_ble_eq_true rfl)) dX0_row_67 ⟨(Nat.le_of_ble_eq_true rfl), (Nat.le_of_ble_eq_true rfl)⟩ (oups_set hM.2 (i := 0) rfl) (oad_nd hM.2 (i := 0) rfl rfl) (fun H locs hM => ?_)
          refine W.widen (k := 1) (n := 7) (Nat.le_of_ble_eq_true rfl) (Nat.le_of_ble_eq_true rfl) ?_
          refine p_iret hC hr hlocks hM dX0_row_70 ?_
          refine ⟨rfl, x_, hz1, ?_⟩
          rw [oups, oups, oups]
        ·
          have nc4 := Int32.not_lt.mp c4
          exact absurd hn c4
      ·
        have nc3 := Int32.not_le.mp c3
        exact absurd hz c3

set_option maxHeartbeats 400000 in
set_option maxRecDepth 100000 in
theorem cn_row (l : Launch) (κ : Nat → Nat) (O : gO) (no : Nat) (cv : Nat → Int32) (ad : Nat → Nat) (g : Nat → Nat → Option Nat) (cw : Nat → Nat → Int32) (j : Nat) (y : Int32) (n : Nat) (hN : O no = some (nsU cv ad g cw)) (hj : j < 8) (hy : 0 ≤ y ∧ y ≤ 2) (hn : n ≤ 40) : oW l κ yX0_row cX0_row 5 (some .int) [(28, 61, 62, 71)] ({ frames := 2, cells := 2, slots := 42, locals := 45 }) [.ref no, .int (nI j), .int y, .int (nI n)] O (fun rv O1 => rv = some (.int (nI n)) ∧ ∃ q b, O q = none ∧ O1 = oup (oup O q (cU 5 (fun _ => y) (fun _ => b) (oar 1 0 n (fun _ => 0)))) no (nsU (upd cv 10 0) ad (gput g 0 (va_up (g 0) j (some q))) cw)) := by
  intro D ac A
  refine o_bodyW (own := RX0) rfl (by decide) (Nat.le_of_ble_eq_true rfl) ?_
  intro p e s m args below meth c ls hC hr hlocks hK hM hl htab
  have hl : lv_has ls 5 [(0, .ref no), (1, .int (nI j)), (2, .int y), (3, .int (nI n))] := hl
  have hM := PS.of hM [(no, nsU cv ad g cw)] ⟨hN, trivial⟩ (by simp [oad])
  refine lv_iload_n hC.1 hC.2.1 dX0_row_0 rfl (lv_at hl 1 rfl) ?_
  refine s_ci hC (cc_isRow l (nI j)) (va_cwS 1 hC.2.2.2.2 (lw_S q261 q262 q63 q263) rfl rfl rfl (by decide +kernel) ⟨(Nat.le_of_ble_eq_true rfl), (Nat.le_of_ble_eq_true rfl)⟩) rfl hl.1 rfl (lv_room (Nat.le_of_ble_eq_true rfl)) dX0_row_1 ⟨(Nat.le_of_ble_eq_true rfl), (Nat.le_of_ble_eq_true rfl)⟩ ?_
  refine lv_if_eq (tgt := 25) hC.1 hC.2.1 dX0_row_4 (by decide) (fun c1 => ?_) (fun c1 => ?_)
  ·
    skip
    exact absurd (c1 : bI _ = 0) (by rw [bI_t ⟨nI_pos' (by omega), nI_le (b := 7) (by omega) (by omega)⟩]; decide)
  ·
    skip
    refine lv_iload_n hC.1 hC.2.1 dX0_row_7 rfl (lv_at hl 2 rfl) ?_
    refine lv_i2l hC.1 hC.2.1 dX0_row_8 rfl ?_
    refine lv_lconst (v := 0) hC.1 hC.2.1 dX0_row_9 (by decide) ?_
    refine lv_ldc2 hC.1 hC.2.1 hC.2.2.2.1 (hC.2.2.2.2 _ q268) dX0_row_10 ?_
    refine s_ci hC ((cc_isIn l (a := 0) (b := 2) rfl rfl rfl)) (va_cwS 3 hC.2.2.2.2 (lw_S q265 q266 q63 q267) rfl rfl rfl (by decide +kernel) ⟨(Nat.le_of_ble_eq_true rfl), (Nat.le_of_ble_eq_true rfl)⟩) rfl hl.1 rfl (lv_room (Nat.le_of_ble_eq_true rfl)) dX0_row_13 ⟨(Nat.le_of_ble_eq_true rfl), (Nat.le_of_ble_eq_true rfl)⟩ ?_
    refine lv_if_eq (tgt := 25) hC.1 hC.2.1 dX0_row_16 (by decide) (fun c2 => ?_) (fun c2 => ?_)
    ·
      skip
      exact absurd (c2 : bI _ = 0) (by rw [bI_t hy]; decide)
    ·
      skip
      refine lv_iload_n hC.1 hC.2.1 dX0_row_19 rfl (lv_at hl 3 rfl) ?_
      refine lv_bipush (v := 40) hC.1 hC.2.1 dX0_row_20 (by decide) ?_
      refine lv_icmp_le (tgt := 28) hC.1 hC.2.1 dX0_row_22 (by decide) (fun c3 => ?_) (fun c3 => ?_)
      ·
        have nc3 := Int32.not_lt.mpr c3
        refine lv_iload_n hC.1 hC.2.1 dX0_row_28 rfl (lv_at hl 3 rfl) ?_
        refine lv_if_lt (tgt := 36) hC.1 hC.2.1 dX0_row_29 (by decide) (fun c4 => ?_) (fun c4 => ?_)
        ·
          have nc4 := Int32.not_le.mpr c4
          exact absurd c4 (Int32.not_lt.mpr (nI_pos' (by omega)))
        ·
          have nc4 := Int32.not_lt.mp c4
          refine lv_iconst (v := 1) hC.1 hC.2.1 dX0_row_32 (by decide) ?_
          refine lv_goto (tgt := 37) hC.1 hC.2.1 dX0_row_33 (by decide) ?_
          refine lv_iconst (v := 4) hC.1 hC.2.1 dX0_row_37 (by decide) ?_
          refine p_cSv (L' := [_]) hC hK hM (cn_must l κ _ 1 4 (by decide)) (va_cwS 2 hC.2.2.2.2 (lw_S q270 q271 q63 q272) rfl rfl rfl (by decide +kernel) ⟨(Nat.le_of_ble_eq_true rfl), (Nat.le_of_ble_eq_true rfl)⟩) rfl hl.1 rfl (lv_room (Nat.le_of_ble_eq_true rfl)) dX0_row_38 ⟨(Nat.le_of_ble_eq_true rfl), (Nat.le_of_ble_eq_true rfl)⟩ rfl hM.2 (fun H locs hM => ?_)
          refine lv_aload_n hC.1 hC.2.1 dX0_row_41 rfl (lv_at hl 0 rfl) ?_
          refine p_get hC hK hM 0 rfl in_X0 rfl 0 (by decide) q219 (fun x h => h) rfl dX0_row_42 ?_
          refine lv_iload_n hC.1 hC.2.1 dX0_row_45 rfl (lv_at hl 1 rfl) ?_
          refine p_new (L' := fun q => [_, _]) hC hK hM (ci := 5) in_X5 tyX5 tyX5_ok q106 q338 q73 rfl (fs := [.int 0, .null]) (by decide) (Nat.le_of_ble_eq_true rfl) (Nat.le_of_ble_eq_true rfl) dX0_row_46 (fun q => rfl) (fun q_5 H hq_5 hM => ?_)
          refine lv_dup hC.1 hC.2.1 dX0_row_49 rfl ?_
          refine lv_iload_n hC.1 hC.2.1 dX0_row_50 rfl (lv_at hl 2 rfl) ?_
          refine lv_iload_n hC.1 hC.2.1 dX0_row_51 rfl (lv_at hl 3 rfl) ?_
          refine o_cI hC hK hM.1 (cw_init l κ _ q_5 y n (hM.at 1 rfl) hn) (cwI 2 hC.2.2.2.2 (lw_meth q341) rfl rfl rfl (hC.2.2.2.2 _ q73) (hC.2.2.2.2 _ q339) (hC.2.2.2.2 _ q340) rfl (by decide +kernel) ⟨(Nat.le_of_ble_eq_true rfl), (Nat.le_of_ble_eq_true rfl)⟩) rfl hl.1 rfl (lv_room (Nat.le_of_ble_eq_true rfl)) dX0_row_52 ⟨(Nat.le_of_ble_eq_true rfl), (Nat.le_of_ble_eq_true rfl)⟩ (fun rv O1 H locs hp hM1 => ?_)
          obtain ⟨rb, rfl, rfl⟩ := hp
          have hM := hM.set (L' := [_, _]) (i := 1) rfl hM1 rfl
          refine p_aast (L' := [_, _]) hC hK hM 0 rfl 0 rfl rfl rfl (hM.at 1 rfl) rfl (fun comp c0 h1 h2 => by rw [Option.some.inj (h2.symm.trans h1)]; exact va_asg _ _) (n := j) (by first | rfl | (simp only [← nI_add, ← pk_mul]; rfl)) (by first | decide | (show _ < 8; omega)) (by decide) (nar_0 _ _ _) rfl dX0_row_55 (fun H locs hM => ?_)
          refine lv_aload_n hC.1 hC.2.1 dX0_row_56 rfl (lv_at hl 0 rfl) ?_
          refine lv_iload_n hC.1 hC.2.1 dX0_row_57 rfl (lv_at hl 3 rfl) ?_
          refine p_cVe (L' := [_, _]) hC hK hM (hM.at 0 rfl) rfl (cn_well l κ _ no cv ad (gput g 0 (va_up (g 0) j (some q_5))) cw (nI n) (hM.at 0 rfl)) (cwV 1 hC.2.2.2.2 (lw_V q352 q354 qs1 q63 q355) rfl rfl rfl (by decide +kernel) ⟨(Nat.le_of_ble_eq_true rfl), (Nat.le_of_ble_eq_true rfl)⟩) rfl hl.1 rfl (lv_room (Nat.le_of_ble_eq_true rfl)) dX0_row_58 ⟨(Nat.le_of_ble_eq_true rfl), (Nat.le_of_ble_eq_true rfl)⟩ (oups_set hM.2 (i := 0) rfl) (oad_nd hM.2 (i := 0) rfl rfl) (fun H locs hM => ?_)
          refine W.widen (k := 2) (n := 42) (Nat.le_of_ble_eq_true rfl) (Nat.le_of_ble_eq_true rfl) ?_
          refine p_iret hC hr hlocks hM dX0_row_61 ?_
          refine ⟨rfl, q_5, rb, hq_5, ?_⟩
          rw [oups, oups, oups]
      ·
        have nc3 := Int32.not_le.mp c3
        exact absurd (nI_le (a := n) (b := 40) (by omega) (by omega)) c3

set_option maxHeartbeats 400000 in
set_option maxRecDepth 100000 in
theorem cn_setX (l : Launch) (κ : Nat → Nat) (O : gO) (no : Nat) (cv : Nat → Int32) (ad : Nat → Nat) (g : Nat → Nat → Option Nat) (cw : Nat → Nat → Int32) (x y z : Int32) (hN : O no = some (nsU cv ad g cw)) (hb : ¬ (0 ≤ x ∧ x ≤ 7)) : oW l κ yX0_set cX0_set 5 (some .int) [(10, 60, 61, 71)] ({ frames := 2, cells := 0, slots := 0, locals := 45 }) [.ref no, .int x, .int y, .int z] O (fun rv O1 => rv = some (.int (-1000001)) ∧ O1 = O) := by
  intro D ac A
  refine o_bodyW (own := RX0) rfl (by decide) (Nat.le_of_ble_eq_true rfl) ?_
  intro p e s m args below meth c ls hC hr hlocks hK hM hl htab
  have hl : lv_has ls 5 [(0, .ref no), (1, .int x), (2, .int y), (3, .int z)] := hl
  have hM := PS.of hM [(no, nsU cv ad g cw)] ⟨hN, trivial⟩ (by simp [oad])
  refine lv_iload_n hC.1 hC.2.1 dX0_set_0 rfl (lv_at hl 1 rfl) ?_
  refine s_ci hC (cc_isRow l x) (va_cwS 1 hC.2.2.2.2 (lw_S q261 q262 q63 q263) rfl rfl rfl (by decide +kernel) ⟨(Nat.le_of_ble_eq_true rfl), (Nat.le_of_ble_eq_true rfl)⟩) rfl hl.1 rfl (lv_room (Nat.le_of_ble_eq_true rfl)) dX0_set_1 ⟨(Nat.le_of_ble_eq_true rfl), (Nat.le_of_ble_eq_true rfl)⟩ ?_
  refine lv_if_ne (tgt := 10) hC.1 hC.2.1 dX0_set_4 (by decide) (fun c1 => ?_) (fun c1 => ?_)
  ·
    skip
    exact absurd (bI_n0.mp c1) hb
  ·
    skip
    refine lv_ldc hC.1 hC.2.1 hC.2.2.2.1 (hC.2.2.2.2 _ q269) dX0_set_7 ?_
    skip
    refine p_iret hC hr hlocks hM dX0_set_9 ?_
    exact ⟨rfl, oup_same hN⟩

set_option maxHeartbeats 400000 in
set_option maxRecDepth 100000 in
theorem cn_setT (l : Launch) (κ : Nat → Nat) (O : gO) (no : Nat) (cv : Nat → Int32) (ad : Nat → Nat) (g : Nat → Nat → Option Nat) (cw : Nat → Nat → Int32) (j : Nat) (y z : Int32) (hN : O no = some (nsU cv ad g cw)) (hj : j < 8) (hg : g 0 j = none) : oW l κ yX0_set cX0_set 5 (some .int) [(10, 60, 61, 71)] ({ frames := 6, cells := 1, slots := 7, locals := 123 }) [.ref no, .int (nI j), .int y, .int z] O (fun rv O1 => rv = some (.int (-1000011)) ∧ ∃ zq, O zq = none ∧ O1 = oup (oup O zq (fnU 1)) no (nsU (upd cv 10 1) ad g cw)) := by
  intro D ac A
  refine o_bodyW (own := RX0) rfl (by decide) (Nat.le_of_ble_eq_true rfl) ?_
  intro p e s m args below meth c ls hC hr hlocks hK hM hl htab
  have hl : lv_has ls 5 [(0, .ref no), (1, .int (nI j)), (2, .int y), (3, .int z)] := hl
  have hM := PS.of hM [(no, nsU cv ad g cw)] ⟨hN, trivial⟩ (by simp [oad])
  refine lv_iload_n hC.1 hC.2.1 dX0_set_0 rfl (lv_at hl 1 rfl) ?_
  refine s_ci hC (cc_isRow l (nI j)) (va_cwS 1 hC.2.2.2.2 (lw_S q261 q262 q63 q263) rfl rfl rfl (by decide +kernel) ⟨(Nat.le_of_ble_eq_true rfl), (Nat.le_of_ble_eq_true rfl)⟩) rfl hl.1 rfl (lv_room (Nat.le_of_ble_eq_true rfl)) dX0_set_1 ⟨(Nat.le_of_ble_eq_true rfl), (Nat.le_of_ble_eq_true rfl)⟩ ?_
  refine lv_if_ne (tgt := 10) hC.1 hC.2.1 dX0_set_4 (by decide) (fun c1 => ?_) (fun c1 => ?_)
  ·
    skip
    refine lv_aload_n hC.1 hC.2.1 dX0_set_10 rfl (lv_at hl 0 rfl) ?_
    refine lv_iload_n hC.1 hC.2.1 dX0_set_11 rfl (lv_at hl 1 rfl) ?_
    refine p_catch hC hK hM (runVT hC ((cn_rowAtT l κ _ no cv ad g cw j (hM.at 0 rfl) hj hg) D ac A) (cwV 1 hC.2.2.2.2 (lw_V q365 q367 qs3 q63 q368) rfl rfl rfl (by decide +kernel) ⟨(Nat.le_of_ble_eq_true rfl), (Nat.le_of_ble_eq_true rfl)⟩) ⟨oPre.blind, OS.recv hK hM.1 (hM.at 0 rfl) rfl, fun U hU hW => ⟨rfl, OS.pre hK hM.1 hU hW⟩⟩ rfl rfl hl.1 rfl (lv_room (Nat.le_of_ble_eq_true rfl)) dX0_set_12 ⟨(Nat.le_of_ble_eq_true rfl), (Nat.le_of_ble_eq_true rfl)⟩) htab 0 (hpc := 61) (ct := 71) (hAt_of rfl) (by decide) q260 (hK.1.2.1 _ q274 rfl) (fun x O1 h => ⟨4, _, _, _, _, (congrFun h.2 x).trans (oup_s _ _ _), rfl⟩) (fun x_ O1 H locs hp hM1 => ?_)
    obtain ⟨hz0, hzO⟩ := hp
    rw [hzO] at hM1
    obtain ⟨hz1, hz2, hM⟩ := PS.app (L' := [_, _]) hM.2 hz0 hM1 rfl
    refine lv_astore (lv' := [(4, _), (0, _), (1, _), (2, _), (3, _)]) hC.1 hC.2.1 dX0_set_61 hl (by decide) rfl (fun ls hl => ?_)
    refine lv_aload_n hC.1 hC.2.1 dX0_set_63 rfl (lv_at hl 1 rfl) ?_
    refine lv_aload hC.1 hC.2.1 dX0_set_64 (lv_at hl 0 rfl) ?_
    refine p_cVe (L' := [_, _]) hC hK hM (hM.at 0 rfl) rfl (cn_found l κ _ no cv ad g cw x_ 1 (hM.at 0 rfl) (hM.at 1 rfl)) (cwV 1 hC.2.2.2.2 (lw_V q356 q358 qs2 q63 q359) rfl rfl rfl (by decide +kernel) ⟨(Nat.le_of_ble_eq_true rfl), (Nat.le_of_ble_eq_true rfl)⟩) rfl hl.1 rfl (lv_room (Nat.le_of_ble_eq_true rfl)) dX0_set_66 ⟨(Nat.le_of_ble_eq_true rfl), (Nat.le_of_ble_eq_true rfl)⟩ (oups_set hM.2 (i := 0) rfl) (oad_nd hM.2 (i := 0) rfl rfl) (fun H locs hM => ?_)
    refine W.widen (k := 1) (n := 7) (Nat.le_of_ble_eq_true rfl) (Nat.le_of_ble_eq_true rfl) ?_
    refine p_iret hC hr hlocks hM dX0_set_69 ?_
    refine ⟨rfl, x_, hz1, ?_⟩
    rw [oups, oups, oups]
  ·
    skip
    exact absurd (c1 : bI _ = 0) (by rw [bI_t ⟨nI_pos' (by omega), nI_le (b := 7) (by omega) (by omega)⟩]; decide)

set_option maxHeartbeats 400000 in
set_option maxRecDepth 100000 in
theorem cn_setT2 (l : Launch) (κ : Nat → Nat) (O : gO) (no : Nat) (cv : Nat → Int32) (ad : Nat → Nat) (g : Nat → Nat → Option Nat) (cw : Nat → Nat → Int32) (j q : Nat) (lane : Int32) (b n : Nat) (f : Nat → Int32) (y z : Int32) (hN : O no = some (nsU cv ad g cw)) (hj : j < 8) (hg : g 0 j = some q) (hQ : O q = some (cU 5 (fun _ => lane) (fun _ => b) (oar 1 0 n f))) (hn : n ≤ 40) (hy : ¬ (0 ≤ y ∧ y ≤ nI n - 1)) : oW l κ yX0_set cX0_set 5 (some .int) [(10, 60, 61, 71)] ({ frames := 5, cells := 1, slots := 7, locals := 102 }) [.ref no, .int (nI j), .int y, .int z] O (fun rv O1 => rv = some (.int (-1000012)) ∧ ∃ zq, O zq = none ∧ O1 = oup (oup O zq (fnU 2)) no (nsU (upd cv 10 2) ad g cw)) := by
  intro D ac A
  refine o_bodyW (own := RX0) rfl (by decide) (Nat.le_of_ble_eq_true rfl) ?_
  intro p e s m args below meth c ls hC hr hlocks hK hM hl htab
  have hl : lv_has ls 5 [(0, .ref no), (1, .int (nI j)), (2, .int y), (3, .int z)] := hl
  have hM := PS.of hM [(no, nsU cv ad g cw), (q, cU 5 (fun _ => lane) (fun _ => b) (oar 1 0 n f))] ⟨hN, hQ, trivial⟩ (by simp only [oad, List.map, List.nodup_cons, List.mem_singleton, List.not_mem_nil, not_false_eq_true, List.nodup_nil, and_true]; exact o_ne hN hQ (by decide))
  refine lv_iload_n hC.1 hC.2.1 dX0_set_0 rfl (lv_at hl 1 rfl) ?_
  refine s_ci hC (cc_isRow l (nI j)) (va_cwS 1 hC.2.2.2.2 (lw_S q261 q262 q63 q263) rfl rfl rfl (by decide +kernel) ⟨(Nat.le_of_ble_eq_true rfl), (Nat.le_of_ble_eq_true rfl)⟩) rfl hl.1 rfl (lv_room (Nat.le_of_ble_eq_true rfl)) dX0_set_1 ⟨(Nat.le_of_ble_eq_true rfl), (Nat.le_of_ble_eq_true rfl)⟩ ?_
  refine lv_if_ne (tgt := 10) hC.1 hC.2.1 dX0_set_4 (by decide) (fun c1 => ?_) (fun c1 => ?_)
  ·
    skip
    refine lv_aload_n hC.1 hC.2.1 dX0_set_10 rfl (lv_at hl 0 rfl) ?_
    refine lv_iload_n hC.1 hC.2.1 dX0_set_11 rfl (lv_at hl 1 rfl) ?_
    refine p_cVe (L' := [_, _]) hC hK hM (hM.at 0 rfl) rfl (cn_rowAt l κ _ no cv ad g cw j q (hM.at 0 rfl) hj hg) (cwV 1 hC.2.2.2.2 (lw_V q365 q367 qs3 q63 q368) rfl rfl rfl (by decide +kernel) ⟨(Nat.le_of_ble_eq_true rfl), (Nat.le_of_ble_eq_true rfl)⟩) rfl hl.1 rfl (lv_room (Nat.le_of_ble_eq_true rfl)) dX0_set_12 ⟨(Nat.le_of_ble_eq_true rfl), (Nat.le_of_ble_eq_true rfl)⟩ rfl hM.2 (fun H locs hM => ?_)
    refine lv_astore (lv' := [(4, _), (0, _), (1, _), (2, _), (3, _)]) hC.1 hC.2.1 dX0_set_15 hl (by decide) rfl (fun ls hl => ?_)
    refine lv_iload_n hC.1 hC.2.1 dX0_set_17 rfl (lv_at hl 3 rfl) ?_
    refine lv_i2l hC.1 hC.2.1 dX0_set_18 rfl ?_
    refine lv_lconst (v := 0) hC.1 hC.2.1 dX0_set_19 (by decide) ?_
    refine lv_aload hC.1 hC.2.1 dX0_set_20 (lv_at hl 0 rfl) ?_
    refine p_get hC hK hM 1 rfl in_X5 rfl 1 (by decide) q346 (fun x h => h) rfl dX0_set_22 ?_
    refine p_alen hC hK hM 1 rfl 1 rfl rfl (by omega) dX0_set_25 ?_
    refine lv_iconst (v := 1) hC.1 hC.2.1 dX0_set_26 (by decide) ?_
    refine lv_isub hC.1 hC.2.1 dX0_set_27 ?_
    refine lv_i2l hC.1 hC.2.1 dX0_set_28 rfl ?_
    refine s_ci hC ((cc_isIn l (a := 0) (b := nI n - 1) rfl rfl rfl)) (va_cwS 3 hC.2.2.2.2 (lw_S q265 q266 q63 q267) rfl rfl rfl (by decide +kernel) ⟨(Nat.le_of_ble_eq_true rfl), (Nat.le_of_ble_eq_true rfl)⟩) rfl hl.1 rfl (lv_room (Nat.le_of_ble_eq_true rfl)) dX0_set_29 ⟨(Nat.le_of_ble_eq_true rfl), (Nat.le_of_ble_eq_true rfl)⟩ ?_
    rw [bI_f hy]
    refine lv_iconst (v := 2) hC.1 hC.2.1 dX0_set_32 (by decide) ?_
    refine p_catch hC hK hM (runST hC ((cn_mustT l κ _ 2) D ac A) (va_cwS 2 hC.2.2.2.2 (lw_S q270 q271 q63 q272) rfl rfl rfl (by decide +kernel) ⟨(Nat.le_of_ble_eq_true rfl), (Nat.le_of_ble_eq_true rfl)⟩) ⟨oPre.blind, fun U hU hW => ⟨rfl, OS.pre hK hM.1 hU hW⟩⟩ rfl rfl hl.1 rfl (lv_room (Nat.le_of_ble_eq_true rfl)) dX0_set_33 ⟨(Nat.le_of_ble_eq_true rfl), (Nat.le_of_ble_eq_true rfl)⟩) htab 0 (hpc := 61) (ct := 71) (hAt_of rfl) (by decide) q260 (hK.1.2.1 _ q274 rfl) (fun x O1 h => ⟨4, _, _, _, _, (congrFun h.2 x).trans (oup_s _ _ _), rfl⟩) (fun x_ O1 H locs hp hM1 => ?_)
    obtain ⟨hz0, hzO⟩ := hp
    rw [hzO] at hM1
    obtain ⟨hz1, hz2, hM⟩ := PS.app (L' := [_, _, _]) hM.2 hz0 hM1 rfl
    refine lv_astore (lv' := [(4, _), (0, _), (1, _), (2, _), (3, _)]) hC.1 hC.2.1 dX0_set_61 hl (by decide) rfl (fun ls hl => ?_)
    refine lv_aload_n hC.1 hC.2.1 dX0_set_63 rfl (lv_at hl 1 rfl) ?_
    refine lv_aload hC.1 hC.2.1 dX0_set_64 (lv_at hl 0 rfl) ?_
    refine p_cVe (L' := [_, _, _]) hC hK hM (hM.at 0 rfl) rfl (cn_found l κ _ no cv ad g cw x_ 2 (hM.at 0 rfl) (hM.at 2 rfl)) (cwV 1 hC.2.2.2.2 (lw_V q356 q358 qs2 q63 q359) rfl rfl rfl (by decide +kernel) ⟨(Nat.le_of_ble_eq_true rfl), (Nat.le_of_ble_eq_true rfl)⟩) rfl hl.1 rfl (lv_room (Nat.le_of_ble_eq_true rfl)) dX0_set_66 ⟨(Nat.le_of_ble_eq_true rfl), (Nat.le_of_ble_eq_true rfl)⟩ (oups_set hM.2 (i := 0) rfl) (oad_nd hM.2 (i := 0) rfl rfl) (fun H locs hM => ?_)
    refine W.widen (k := 1) (n := 7) (Nat.le_of_ble_eq_true rfl) (Nat.le_of_ble_eq_true rfl) ?_
    refine p_iret hC hr hlocks hM dX0_set_69 ?_
    refine ⟨rfl, x_, hz1, ?_⟩
    rw [oups, oups, oups, oups, oup_comm (a := x_) (b := q) (fun e => by rw [e, hQ] at hz1; cases hz1), oup_same hQ]
  ·
    skip
    exact absurd (c1 : bI _ = 0) (by rw [bI_t ⟨nI_pos' (by omega), nI_le (b := 7) (by omega) (by omega)⟩]; decide)

set_option maxHeartbeats 400000 in
set_option maxRecDepth 100000 in
theorem cn_set (l : Launch) (κ : Nat → Nat) (O : gO) (no : Nat) (cv : Nat → Int32) (ad : Nat → Nat) (g : Nat → Nat → Option Nat) (cw : Nat → Nat → Int32) (j q : Nat) (lane : Int32) (b n : Nat) (f : Nat → Int32) (i : Nat) (z : Int32) (hN : O no = some (nsU cv ad g cw)) (hj : j < 8) (hg : g 0 j = some q) (hQ : O q = some (cU 5 (fun _ => lane) (fun _ => b) (oar 1 0 n f))) (hn : n ≤ 40) (hi : i < n) : oW l κ yX0_set cX0_set 5 (some .int) [(10, 60, 61, 71)] ({ frames := 2, cells := 0, slots := 0, locals := 45 }) [.ref no, .int (nI j), .int (nI i), .int z] O (fun rv O1 => rv = some (.int (cutL lane z)) ∧ O1 = oup (oup O q (cU 5 (fun _ => lane) (fun _ => b) (oar 1 0 n (upd f i (cutL lane z))))) no (nsU (upd cv 10 0) ad g cw)) := by
  intro D ac A
  refine o_bodyW (own := RX0) rfl (by decide) (Nat.le_of_ble_eq_true rfl) ?_
  intro p e s m args below meth c ls hC hr hlocks hK hM hl htab
  have hl : lv_has ls 5 [(0, .ref no), (1, .int (nI j)), (2, .int (nI i)), (3, .int z)] := hl
  have hM := PS.of hM [(no, nsU cv ad g cw), (q, cU 5 (fun _ => lane) (fun _ => b) (oar 1 0 n f))] ⟨hN, hQ, trivial⟩ (by simp only [oad, List.map, List.nodup_cons, List.mem_singleton, List.not_mem_nil, not_false_eq_true, List.nodup_nil, and_true]; exact o_ne hN hQ (by decide))
  refine lv_iload_n hC.1 hC.2.1 dX0_set_0 rfl (lv_at hl 1 rfl) ?_
  refine s_ci hC (cc_isRow l (nI j)) (va_cwS 1 hC.2.2.2.2 (lw_S q261 q262 q63 q263) rfl rfl rfl (by decide +kernel) ⟨(Nat.le_of_ble_eq_true rfl), (Nat.le_of_ble_eq_true rfl)⟩) rfl hl.1 rfl (lv_room (Nat.le_of_ble_eq_true rfl)) dX0_set_1 ⟨(Nat.le_of_ble_eq_true rfl), (Nat.le_of_ble_eq_true rfl)⟩ ?_
  refine lv_if_ne (tgt := 10) hC.1 hC.2.1 dX0_set_4 (by decide) (fun c1 => ?_) (fun c1 => ?_)
  ·
    skip
    refine lv_aload_n hC.1 hC.2.1 dX0_set_10 rfl (lv_at hl 0 rfl) ?_
    refine lv_iload_n hC.1 hC.2.1 dX0_set_11 rfl (lv_at hl 1 rfl) ?_
    refine p_cVe (L' := [_, _]) hC hK hM (hM.at 0 rfl) rfl (cn_rowAt l κ _ no cv ad g cw j q (hM.at 0 rfl) hj hg) (cwV 1 hC.2.2.2.2 (lw_V q365 q367 qs3 q63 q368) rfl rfl rfl (by decide +kernel) ⟨(Nat.le_of_ble_eq_true rfl), (Nat.le_of_ble_eq_true rfl)⟩) rfl hl.1 rfl (lv_room (Nat.le_of_ble_eq_true rfl)) dX0_set_12 ⟨(Nat.le_of_ble_eq_true rfl), (Nat.le_of_ble_eq_true rfl)⟩ rfl hM.2 (fun H locs hM => ?_)
    refine lv_astore (lv' := [(4, _), (0, _), (1, _), (2, _), (3, _)]) hC.1 hC.2.1 dX0_set_15 hl (by decide) rfl (fun ls hl => ?_)
    refine lv_iload_n hC.1 hC.2.1 dX0_set_17 rfl (lv_at hl 3 rfl) ?_
    refine lv_i2l hC.1 hC.2.1 dX0_set_18 rfl ?_
    refine lv_lconst (v := 0) hC.1 hC.2.1 dX0_set_19 (by decide) ?_
    refine lv_aload hC.1 hC.2.1 dX0_set_20 (lv_at hl 0 rfl) ?_
    refine p_get hC hK hM 1 rfl in_X5 rfl 1 (by decide) q346 (fun x h => h) rfl dX0_set_22 ?_
    refine p_alen hC hK hM 1 rfl 1 rfl rfl (by omega) dX0_set_25 ?_
    refine lv_iconst (v := 1) hC.1 hC.2.1 dX0_set_26 (by decide) ?_
    refine lv_isub hC.1 hC.2.1 dX0_set_27 ?_
    refine lv_i2l hC.1 hC.2.1 dX0_set_28 rfl ?_
    refine s_ci hC ((cc_isIn l (a := 0) (b := nI n - 1) rfl rfl rfl)) (va_cwS 3 hC.2.2.2.2 (lw_S q265 q266 q63 q267) rfl rfl rfl (by decide +kernel) ⟨(Nat.le_of_ble_eq_true rfl), (Nat.le_of_ble_eq_true rfl)⟩) rfl hl.1 rfl (lv_room (Nat.le_of_ble_eq_true rfl)) dX0_set_29 ⟨(Nat.le_of_ble_eq_true rfl), (Nat.le_of_ble_eq_true rfl)⟩ ?_
    rw [bI_t ⟨nI_pos' (by omega), by rw [show n = (n - 1) + 1 by omega, nI_pred]; exact nI_le (by omega) (by omega)⟩]
    refine lv_iconst (v := 2) hC.1 hC.2.1 dX0_set_32 (by decide) ?_
    refine p_cSv (L' := [_, _]) hC hK hM (cn_must l κ _ 1 2 (by decide)) (va_cwS 2 hC.2.2.2.2 (lw_S q270 q271 q63 q272) rfl rfl rfl (by decide +kernel) ⟨(Nat.le_of_ble_eq_true rfl), (Nat.le_of_ble_eq_true rfl)⟩) rfl hl.1 rfl (lv_room (Nat.le_of_ble_eq_true rfl)) dX0_set_33 ⟨(Nat.le_of_ble_eq_true rfl), (Nat.le_of_ble_eq_true rfl)⟩ rfl hM.2 (fun H locs hM => ?_)
    refine lv_aload hC.1 hC.2.1 dX0_set_36 (lv_at hl 0 rfl) ?_
    refine p_get hC hK hM 1 rfl in_X5 rfl 1 (by decide) q346 (fun x h => h) rfl dX0_set_38 ?_
    refine lv_iload_n hC.1 hC.2.1 dX0_set_41 rfl (lv_at hl 3 rfl) ?_
    refine lv_aload hC.1 hC.2.1 dX0_set_42 (lv_at hl 0 rfl) ?_
    refine lv_iload_n hC.1 hC.2.1 dX0_set_44 rfl (lv_at hl 4 rfl) ?_
    refine p_cVe (L' := [_, _]) hC hK hM (hM.at 1 rfl) rfl (cw_cut l κ _ q (fun _ => lane) (fun _ => b) (oar 1 0 n f) z (hM.at 1 rfl)) (cwV 1 hC.2.2.2.2 (lw_V q369 q370 q371 q73 q372) rfl rfl rfl (by decide +kernel) ⟨(Nat.le_of_ble_eq_true rfl), (Nat.le_of_ble_eq_true rfl)⟩) rfl hl.1 rfl (lv_room (Nat.le_of_ble_eq_true rfl)) dX0_set_45 ⟨(Nat.le_of_ble_eq_true rfl), (Nat.le_of_ble_eq_true rfl)⟩ rfl hM.2 (fun H locs hM => ?_)
    refine p_iast (L' := [_, _]) hC hK hM 1 rfl 1 rfl rfl (n := i) rfl hi (by omega) (oar_set _ _ _ _ _) rfl dX0_set_48 (fun H locs hM => ?_)
    refine lv_aload_n hC.1 hC.2.1 dX0_set_49 rfl (lv_at hl 1 rfl) ?_
    refine lv_aload hC.1 hC.2.1 dX0_set_50 (lv_at hl 0 rfl) ?_
    refine p_get hC hK hM 1 rfl in_X5 rfl 1 (by decide) q346 (fun x h => h) rfl dX0_set_52 ?_
    refine lv_iload_n hC.1 hC.2.1 dX0_set_55 rfl (lv_at hl 3 rfl) ?_
    refine p_iald hC hK hM 1 rfl 1 rfl rfl (n := i) rfl hi (by omega) dX0_set_56 ?_
    rw [upd_s]
    refine p_cVe (L' := [_, _]) hC hK hM (hM.at 0 rfl) rfl (cn_well l κ _ no cv ad g cw (cutL lane z) (hM.at 0 rfl)) (cwV 1 hC.2.2.2.2 (lw_V q352 q354 qs1 q63 q355) rfl rfl rfl (by decide +kernel) ⟨(Nat.le_of_ble_eq_true rfl), (Nat.le_of_ble_eq_true rfl)⟩) rfl hl.1 rfl (lv_room (Nat.le_of_ble_eq_true rfl)) dX0_set_57 ⟨(Nat.le_of_ble_eq_true rfl), (Nat.le_of_ble_eq_true rfl)⟩ (oups_set hM.2 (i := 0) rfl) (oad_nd hM.2 (i := 0) rfl rfl) (fun H locs hM => ?_)
    skip
    refine p_iret hC hr hlocks hM dX0_set_60 ?_
    refine ⟨rfl, ?_⟩
    rw [oups, oups, oups]
  ·
    skip
    exact absurd (c1 : bI _ = 0) (by rw [bI_t ⟨nI_pos' (by omega), nI_le (b := 7) (by omega) (by omega)⟩]; decide)

set_option maxHeartbeats 400000 in
set_option maxRecDepth 100000 in
theorem cn_dropX (l : Launch) (κ : Nat → Nat) (O : gO) (no : Nat) (cv : Nat → Int32) (ad : Nat → Nat) (g : Nat → Nat → Option Nat) (cw : Nat → Nat → Int32) (x : Int32) (hN : O no = some (nsU cv ad g cw)) (hb : ¬ (0 ≤ x ∧ x ≤ 7)) : oW l κ yX0_drop cX0_drop 3 (some .int) [(10, 32, 33, 71)] ({ frames := 2, cells := 0, slots := 0, locals := 45 }) [.ref no, .int x] O (fun rv O1 => rv = some (.int (-1000001)) ∧ O1 = O) := by
  intro D ac A
  refine o_bodyW (own := RX0) rfl (by decide) (Nat.le_of_ble_eq_true rfl) ?_
  intro p e s m args below meth c ls hC hr hlocks hK hM hl htab
  have hl : lv_has ls 3 [(0, .ref no), (1, .int x)] := hl
  have hM := PS.of hM [(no, nsU cv ad g cw)] ⟨hN, trivial⟩ (by simp [oad])
  refine lv_iload_n hC.1 hC.2.1 dX0_drop_0 rfl (lv_at hl 1 rfl) ?_
  refine s_ci hC (cc_isRow l x) (va_cwS 1 hC.2.2.2.2 (lw_S q261 q262 q63 q263) rfl rfl rfl (by decide +kernel) ⟨(Nat.le_of_ble_eq_true rfl), (Nat.le_of_ble_eq_true rfl)⟩) rfl hl.1 rfl (lv_room (Nat.le_of_ble_eq_true rfl)) dX0_drop_1 ⟨(Nat.le_of_ble_eq_true rfl), (Nat.le_of_ble_eq_true rfl)⟩ ?_
  refine lv_if_ne (tgt := 10) hC.1 hC.2.1 dX0_drop_4 (by decide) (fun c1 => ?_) (fun c1 => ?_)
  ·
    skip
    exact absurd (bI_n0.mp c1) hb
  ·
    skip
    refine lv_ldc hC.1 hC.2.1 hC.2.2.2.1 (hC.2.2.2.2 _ q269) dX0_drop_7 ?_
    skip
    refine p_iret hC hr hlocks hM dX0_drop_9 ?_
    exact ⟨rfl, oup_same hN⟩

set_option maxHeartbeats 400000 in
set_option maxRecDepth 100000 in
theorem cn_dropT (l : Launch) (κ : Nat → Nat) (O : gO) (no : Nat) (cv : Nat → Int32) (ad : Nat → Nat) (g : Nat → Nat → Option Nat) (cw : Nat → Nat → Int32) (j : Nat) (hN : O no = some (nsU cv ad g cw)) (hj : j < 8) (hg : g 0 j = none) : oW l κ yX0_drop cX0_drop 3 (some .int) [(10, 32, 33, 71)] ({ frames := 6, cells := 1, slots := 7, locals := 123 }) [.ref no, .int (nI j)] O (fun rv O1 => rv = some (.int (-1000011)) ∧ ∃ z, O z = none ∧ O1 = oup (oup O z (fnU 1)) no (nsU (upd cv 10 1) ad g cw)) := by
  intro D ac A
  refine o_bodyW (own := RX0) rfl (by decide) (Nat.le_of_ble_eq_true rfl) ?_
  intro p e s m args below meth c ls hC hr hlocks hK hM hl htab
  have hl : lv_has ls 3 [(0, .ref no), (1, .int (nI j))] := hl
  have hM := PS.of hM [(no, nsU cv ad g cw)] ⟨hN, trivial⟩ (by simp [oad])
  refine lv_iload_n hC.1 hC.2.1 dX0_drop_0 rfl (lv_at hl 1 rfl) ?_
  refine s_ci hC (cc_isRow l (nI j)) (va_cwS 1 hC.2.2.2.2 (lw_S q261 q262 q63 q263) rfl rfl rfl (by decide +kernel) ⟨(Nat.le_of_ble_eq_true rfl), (Nat.le_of_ble_eq_true rfl)⟩) rfl hl.1 rfl (lv_room (Nat.le_of_ble_eq_true rfl)) dX0_drop_1 ⟨(Nat.le_of_ble_eq_true rfl), (Nat.le_of_ble_eq_true rfl)⟩ ?_
  refine lv_if_ne (tgt := 10) hC.1 hC.2.1 dX0_drop_4 (by decide) (fun c1 => ?_) (fun c1 => ?_)
  ·
    skip
    refine lv_aload_n hC.1 hC.2.1 dX0_drop_10 rfl (lv_at hl 0 rfl) ?_
    refine lv_iload_n hC.1 hC.2.1 dX0_drop_11 rfl (lv_at hl 1 rfl) ?_
    refine p_catch hC hK hM (runVT hC ((cn_rowAtT l κ _ no cv ad g cw j (hM.at 0 rfl) hj hg) D ac A) (cwV 1 hC.2.2.2.2 (lw_V q365 q367 qs3 q63 q368) rfl rfl rfl (by decide +kernel) ⟨(Nat.le_of_ble_eq_true rfl), (Nat.le_of_ble_eq_true rfl)⟩) ⟨oPre.blind, OS.recv hK hM.1 (hM.at 0 rfl) rfl, fun U hU hW => ⟨rfl, OS.pre hK hM.1 hU hW⟩⟩ rfl rfl hl.1 rfl (lv_room (Nat.le_of_ble_eq_true rfl)) dX0_drop_12 ⟨(Nat.le_of_ble_eq_true rfl), (Nat.le_of_ble_eq_true rfl)⟩) htab 0 (hpc := 33) (ct := 71) (hAt_of rfl) (by decide) q260 (hK.1.2.1 _ q274 rfl) (fun x O1 h => ⟨4, _, _, _, _, (congrFun h.2 x).trans (oup_s _ _ _), rfl⟩) (fun x_ O1 H locs hp hM1 => ?_)
    obtain ⟨hz0, hzO⟩ := hp
    rw [hzO] at hM1
    obtain ⟨hz1, hz2, hM⟩ := PS.app (L' := [_, _]) hM.2 hz0 hM1 rfl
    refine lv_astore_n (lv' := [(2, _), (0, _), (1, _)]) hC.1 hC.2.1 dX0_drop_33 rfl hl (by decide) rfl (fun ls hl => ?_)
    refine lv_aload_n hC.1 hC.2.1 dX0_drop_34 rfl (lv_at hl 1 rfl) ?_
    refine lv_aload_n hC.1 hC.2.1 dX0_drop_35 rfl (lv_at hl 0 rfl) ?_
    refine p_cVe (L' := [_, _]) hC hK hM (hM.at 0 rfl) rfl (cn_found l κ _ no cv ad g cw x_ 1 (hM.at 0 rfl) (hM.at 1 rfl)) (cwV 1 hC.2.2.2.2 (lw_V q356 q358 qs2 q63 q359) rfl rfl rfl (by decide +kernel) ⟨(Nat.le_of_ble_eq_true rfl), (Nat.le_of_ble_eq_true rfl)⟩) rfl hl.1 rfl (lv_room (Nat.le_of_ble_eq_true rfl)) dX0_drop_36 ⟨(Nat.le_of_ble_eq_true rfl), (Nat.le_of_ble_eq_true rfl)⟩ (oups_set hM.2 (i := 0) rfl) (oad_nd hM.2 (i := 0) rfl rfl) (fun H locs hM => ?_)
    refine W.widen (k := 1) (n := 7) (Nat.le_of_ble_eq_true rfl) (Nat.le_of_ble_eq_true rfl) ?_
    refine p_iret hC hr hlocks hM dX0_drop_39 ?_
    refine ⟨rfl, x_, hz1, ?_⟩
    rw [oups, oups, oups]
  ·
    skip
    exact absurd (c1 : bI _ = 0) (by rw [bI_t ⟨nI_pos' (by omega), nI_le (b := 7) (by omega) (by omega)⟩]; decide)

set_option maxHeartbeats 400000 in
set_option maxRecDepth 100000 in
theorem cn_drop (l : Launch) (κ : Nat → Nat) (O : gO) (no : Nat) (cv : Nat → Int32) (ad : Nat → Nat) (g : Nat → Nat → Option Nat) (cw : Nat → Nat → Int32) (j q : Nat) (lane : Int32) (b n : Nat) (f : Nat → Int32) (hN : O no = some (nsU cv ad g cw)) (hj : j < 8) (hg : g 0 j = some q) (hQ : O q = some (cU 5 (fun _ => lane) (fun _ => b) (oar 1 0 n f))) (hn : n ≤ 40) : oW l κ yX0_drop cX0_drop 3 (some .int) [(10, 32, 33, 71)] ({ frames := 2, cells := 0, slots := 0, locals := 45 }) [.ref no, .int (nI j)] O (fun rv O1 => rv = some (.int (nI n)) ∧ O1 = oup O no (nsU (upd cv 10 0) ad (gput g 0 (va_up (g 0) j none)) cw)) := by
  intro D ac A
  refine o_bodyW (own := RX0) rfl (by decide) (Nat.le_of_ble_eq_true rfl) ?_
  intro p e s m args below meth c ls hC hr hlocks hK hM hl htab
  have hl : lv_has ls 3 [(0, .ref no), (1, .int (nI j))] := hl
  have hM := PS.of hM [(no, nsU cv ad g cw), (q, cU 5 (fun _ => lane) (fun _ => b) (oar 1 0 n f))] ⟨hN, hQ, trivial⟩ (by simp only [oad, List.map, List.nodup_cons, List.mem_singleton, List.not_mem_nil, not_false_eq_true, List.nodup_nil, and_true]; exact o_ne hN hQ (by decide))
  refine lv_iload_n hC.1 hC.2.1 dX0_drop_0 rfl (lv_at hl 1 rfl) ?_
  refine s_ci hC (cc_isRow l (nI j)) (va_cwS 1 hC.2.2.2.2 (lw_S q261 q262 q63 q263) rfl rfl rfl (by decide +kernel) ⟨(Nat.le_of_ble_eq_true rfl), (Nat.le_of_ble_eq_true rfl)⟩) rfl hl.1 rfl (lv_room (Nat.le_of_ble_eq_true rfl)) dX0_drop_1 ⟨(Nat.le_of_ble_eq_true rfl), (Nat.le_of_ble_eq_true rfl)⟩ ?_
  refine lv_if_ne (tgt := 10) hC.1 hC.2.1 dX0_drop_4 (by decide) (fun c1 => ?_) (fun c1 => ?_)
  ·
    skip
    refine lv_aload_n hC.1 hC.2.1 dX0_drop_10 rfl (lv_at hl 0 rfl) ?_
    refine lv_iload_n hC.1 hC.2.1 dX0_drop_11 rfl (lv_at hl 1 rfl) ?_
    refine p_cVe (L' := [_, _]) hC hK hM (hM.at 0 rfl) rfl (cn_rowAt l κ _ no cv ad g cw j q (hM.at 0 rfl) hj hg) (cwV 1 hC.2.2.2.2 (lw_V q365 q367 qs3 q63 q368) rfl rfl rfl (by decide +kernel) ⟨(Nat.le_of_ble_eq_true rfl), (Nat.le_of_ble_eq_true rfl)⟩) rfl hl.1 rfl (lv_room (Nat.le_of_ble_eq_true rfl)) dX0_drop_12 ⟨(Nat.le_of_ble_eq_true rfl), (Nat.le_of_ble_eq_true rfl)⟩ rfl hM.2 (fun H locs hM => ?_)
    refine p_get hC hK hM 1 rfl in_X5 rfl 1 (by decide) q346 (fun x h => h) rfl dX0_drop_15 ?_
    refine p_alen hC hK hM 1 rfl 1 rfl rfl (by omega) dX0_drop_18 ?_
    refine lv_istore_n (lv' := [(2, _), (0, _), (1, _)]) hC.1 hC.2.1 dX0_drop_19 rfl hl (by decide) rfl (fun ls hl => ?_)
    refine lv_aload_n hC.1 hC.2.1 dX0_drop_20 rfl (lv_at hl 1 rfl) ?_
    refine p_get hC hK hM 0 rfl in_X0 rfl 0 (by decide) q219 (fun x h => h) rfl dX0_drop_21 ?_
    refine lv_iload_n hC.1 hC.2.1 dX0_drop_24 rfl (lv_at hl 2 rfl) ?_
    refine lv_null hC.1 hC.2.1 dX0_drop_25 ?_
    refine p_aastN (L' := [_, _]) hC hK hM 0 rfl 0 rfl rfl rfl (n := j) (by first | rfl | (simp only [← nI_add, ← pk_mul]; rfl)) (by first | decide | (show _ < 8; omega)) (by decide) (nar_0 _ _ _) rfl dX0_drop_26 (fun H locs hM => ?_)
    refine lv_aload_n hC.1 hC.2.1 dX0_drop_27 rfl (lv_at hl 1 rfl) ?_
    refine lv_iload_n hC.1 hC.2.1 dX0_drop_28 rfl (lv_at hl 0 rfl) ?_
    refine p_cVe (L' := [_, _]) hC hK hM (hM.at 0 rfl) rfl (cn_well l κ _ no cv ad (gput g 0 (va_up (g 0) j none)) cw (nI n) (hM.at 0 rfl)) (cwV 1 hC.2.2.2.2 (lw_V q352 q354 qs1 q63 q355) rfl rfl rfl (by decide +kernel) ⟨(Nat.le_of_ble_eq_true rfl), (Nat.le_of_ble_eq_true rfl)⟩) rfl hl.1 rfl (lv_room (Nat.le_of_ble_eq_true rfl)) dX0_drop_29 ⟨(Nat.le_of_ble_eq_true rfl), (Nat.le_of_ble_eq_true rfl)⟩ (oups_set hM.2 (i := 0) rfl) (oad_nd hM.2 (i := 0) rfl rfl) (fun H locs hM => ?_)
    skip
    refine p_iret hC hr hlocks hM dX0_drop_32 ?_
    refine ⟨rfl, ?_⟩
    rw [oups, oups, oups, oup_same hQ]
  ·
    skip
    exact absurd (c1 : bI _ = 0) (by rw [bI_t ⟨nI_pos' (by omega), nI_le (b := 7) (by omega) (by omega)⟩]; decide)
