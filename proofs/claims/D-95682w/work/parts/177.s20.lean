set_option maxHeartbeats 400000 in
set_option maxRecDepth 100000 in
theorem cn_copyX (l : Launch) (κ : Nat → Nat) (O : gO) (no : Nat) (cv : Nat → Int32) (ad : Nat → Nat) (g : Nat → Nat → Option Nat) (cw : Nat → Nat → Int32) (a1 x a2 y z : Int32) (hN : O no = some (nsU cv ad g cw)) (hb : ¬ (0 ≤ a1 ∧ a1 ≤ 7) ∨ ¬ (0 ≤ a2 ∧ a2 ≤ 7)) : oW l κ yX0_copy cX0_copy 9 (some .int) [(53, 71, 74, 129), (17, 91, 92, 71)] ({ frames := 2, cells := 0, slots := 0, locals := 45 }) [.ref no, .int a1, .int x, .int a2, .int y, .int z] O (fun rv O1 => rv = some (.int (-1000001)) ∧ O1 = O) := by
  intro D ac A
  refine o_bodyW (own := RX0) rfl (by decide) (Nat.le_of_ble_eq_true rfl) ?_
  intro p e s m args below meth c ls hC hr hlocks hK hM hl htab
  have hl : lv_has ls 9 [(0, .ref no), (1, .int a1), (2, .int x), (3, .int a2), (4, .int y), (5, .int z)] := hl
  have hM := PS.of hM [(no, nsU cv ad g cw)] ⟨hN, trivial⟩ (by simp [oad])
  refine lv_iload_n hC.1 hC.2.1 dX0_copy_0 rfl (lv_at hl 1 rfl) ?_
  refine s_ci hC (cc_isRow l a1) (va_cwS 1 hC.2.2.2.2 (lw_S q261 q262 q63 q263) rfl rfl rfl (by decide +kernel) ⟨(Nat.le_of_ble_eq_true rfl), (Nat.le_of_ble_eq_true rfl)⟩) rfl hl.1 rfl (lv_room (Nat.le_of_ble_eq_true rfl)) dX0_copy_1 ⟨(Nat.le_of_ble_eq_true rfl), (Nat.le_of_ble_eq_true rfl)⟩ ?_
  refine lv_if_eq (tgt := 14) hC.1 hC.2.1 dX0_copy_4 (by decide) (fun c1 => ?_) (fun c1 => ?_)
  ·
    skip
    rw [bI_0] at c1
    have k1 := c1
    refine lv_ldc hC.1 hC.2.1 hC.2.2.2.1 (hC.2.2.2.2 _ q269) dX0_copy_14 ?_
    skip
    refine p_iret hC hr hlocks hM dX0_copy_16 ?_
    exact ⟨rfl, oup_same hN⟩
  ·
    skip
    rw [bI_n0] at c1
    have k1 := c1
    refine lv_iload_n hC.1 hC.2.1 dX0_copy_7 rfl (lv_at hl 3 rfl) ?_
    refine s_ci hC (cc_isRow l a2) (va_cwS 1 hC.2.2.2.2 (lw_S q261 q262 q63 q263) rfl rfl rfl (by decide +kernel) ⟨(Nat.le_of_ble_eq_true rfl), (Nat.le_of_ble_eq_true rfl)⟩) rfl hl.1 rfl (lv_room (Nat.le_of_ble_eq_true rfl)) dX0_copy_8 ⟨(Nat.le_of_ble_eq_true rfl), (Nat.le_of_ble_eq_true rfl)⟩ ?_
    refine lv_if_ne (tgt := 17) hC.1 hC.2.1 dX0_copy_11 (by decide) (fun c2 => ?_) (fun c2 => ?_)
    ·
      skip
      exact hb.elim (fun h => absurd k1 h) (fun h => absurd (bI_n0.mp c2) h)
    ·
      skip
      refine lv_ldc hC.1 hC.2.1 hC.2.2.2.1 (hC.2.2.2.2 _ q269) dX0_copy_14 ?_
      skip
      refine p_iret hC hr hlocks hM dX0_copy_16 ?_
      exact ⟨rfl, oup_same hN⟩

set_option maxHeartbeats 400000 in
set_option maxRecDepth 100000 in
theorem cn_copyN1 (l : Launch) (κ : Nat → Nat) (O : gO) (no : Nat) (cv : Nat → Int32) (ad : Nat → Nat) (g : Nat → Nat → Option Nat) (cw : Nat → Nat → Int32) (j1 j2 : Nat) (x y z : Int32) (hN : O no = some (nsU cv ad g cw)) (hj1 : j1 < 8) (hj2 : j2 < 8) (hg : g 0 j1 = none) : oW l κ yX0_copy cX0_copy 9 (some .int) [(53, 71, 74, 129), (17, 91, 92, 71)] ({ frames := 6, cells := 1, slots := 7, locals := 123 }) [.ref no, .int (nI j1), .int x, .int (nI j2), .int y, .int z] O (fun rv O1 => rv = some (.int (-1000011)) ∧ ∃ zq, O zq = none ∧ O1 = oup (oup O zq (fnU 1)) no (nsU (upd cv 10 1) ad g cw)) := by
  intro D ac A
  refine o_bodyW (own := RX0) rfl (by decide) (Nat.le_of_ble_eq_true rfl) ?_
  intro p e s m args below meth c ls hC hr hlocks hK hM hl htab
  have hl : lv_has ls 9 [(0, .ref no), (1, .int (nI j1)), (2, .int x), (3, .int (nI j2)), (4, .int y), (5, .int z)] := hl
  have hM := PS.of hM [(no, nsU cv ad g cw)] ⟨hN, trivial⟩ (by simp [oad])
  refine lv_iload_n hC.1 hC.2.1 dX0_copy_0 rfl (lv_at hl 1 rfl) ?_
  refine s_ci hC (cc_isRow l (nI j1)) (va_cwS 1 hC.2.2.2.2 (lw_S q261 q262 q63 q263) rfl rfl rfl (by decide +kernel) ⟨(Nat.le_of_ble_eq_true rfl), (Nat.le_of_ble_eq_true rfl)⟩) rfl hl.1 rfl (lv_room (Nat.le_of_ble_eq_true rfl)) dX0_copy_1 ⟨(Nat.le_of_ble_eq_true rfl), (Nat.le_of_ble_eq_true rfl)⟩ ?_
  refine lv_if_eq (tgt := 14) hC.1 hC.2.1 dX0_copy_4 (by decide) (fun c1 => ?_) (fun c1 => ?_)
  ·
    skip
    exact absurd (c1 : bI _ = 0) (by rw [bI_t ⟨nI_pos' (by omega), nI_le (b := 7) (by omega) (by omega)⟩]; decide)
  ·
    skip
    refine lv_iload_n hC.1 hC.2.1 dX0_copy_7 rfl (lv_at hl 3 rfl) ?_
    refine s_ci hC (cc_isRow l (nI j2)) (va_cwS 1 hC.2.2.2.2 (lw_S q261 q262 q63 q263) rfl rfl rfl (by decide +kernel) ⟨(Nat.le_of_ble_eq_true rfl), (Nat.le_of_ble_eq_true rfl)⟩) rfl hl.1 rfl (lv_room (Nat.le_of_ble_eq_true rfl)) dX0_copy_8 ⟨(Nat.le_of_ble_eq_true rfl), (Nat.le_of_ble_eq_true rfl)⟩ ?_
    refine lv_if_ne (tgt := 17) hC.1 hC.2.1 dX0_copy_11 (by decide) (fun c2 => ?_) (fun c2 => ?_)
    ·
      skip
      refine lv_aload_n hC.1 hC.2.1 dX0_copy_17 rfl (lv_at hl 0 rfl) ?_
      refine lv_iload_n hC.1 hC.2.1 dX0_copy_18 rfl (lv_at hl 1 rfl) ?_
      refine p_catch hC hK hM (runVT hC ((cn_rowAtT l κ _ no cv ad g cw j1 (hM.at 0 rfl) hj1 hg) D ac A) (cwV 1 hC.2.2.2.2 (lw_V q365 q367 qs3 q63 q368) rfl rfl rfl (by decide +kernel) ⟨(Nat.le_of_ble_eq_true rfl), (Nat.le_of_ble_eq_true rfl)⟩) ⟨oPre.blind, OS.recv hK hM.1 (hM.at 0 rfl) rfl, fun U hU hW => ⟨rfl, OS.pre hK hM.1 hU hW⟩⟩ rfl rfl hl.1 rfl (lv_room (Nat.le_of_ble_eq_true rfl)) dX0_copy_19 ⟨(Nat.le_of_ble_eq_true rfl), (Nat.le_of_ble_eq_true rfl)⟩) htab 1 (hpc := 92) (ct := 71) (hAt_of rfl) (by decide) q260 (hK.1.2.1 _ q274 rfl) (fun x O1 h => ⟨4, _, _, _, _, (congrFun h.2 x).trans (oup_s _ _ _), rfl⟩) (fun x_ O1 H locs hp hM1 => ?_)
      obtain ⟨hz0, hzO⟩ := hp
      rw [hzO] at hM1
      obtain ⟨hz1, hz2, hM⟩ := PS.app (L' := [_, _]) hM.2 hz0 hM1 rfl
      refine lv_astore (lv' := [(6, _), (0, _), (1, _), (2, _), (3, _), (4, _), (5, _)]) hC.1 hC.2.1 dX0_copy_92 hl (by decide) rfl (fun ls hl => ?_)
      refine lv_aload_n hC.1 hC.2.1 dX0_copy_94 rfl (lv_at hl 1 rfl) ?_
      refine lv_aload hC.1 hC.2.1 dX0_copy_95 (lv_at hl 0 rfl) ?_
      refine p_cVe (L' := [_, _]) hC hK hM (hM.at 0 rfl) rfl (cn_found l κ _ no cv ad g cw x_ 1 (hM.at 0 rfl) (hM.at 1 rfl)) (cwV 1 hC.2.2.2.2 (lw_V q356 q358 qs2 q63 q359) rfl rfl rfl (by decide +kernel) ⟨(Nat.le_of_ble_eq_true rfl), (Nat.le_of_ble_eq_true rfl)⟩) rfl hl.1 rfl (lv_room (Nat.le_of_ble_eq_true rfl)) dX0_copy_97 ⟨(Nat.le_of_ble_eq_true rfl), (Nat.le_of_ble_eq_true rfl)⟩ (oups_set hM.2 (i := 0) rfl) (oad_nd hM.2 (i := 0) rfl rfl) (fun H locs hM => ?_)
      refine W.widen (k := 1) (n := 7) (Nat.le_of_ble_eq_true rfl) (Nat.le_of_ble_eq_true rfl) ?_
      refine p_iret hC hr hlocks hM dX0_copy_100 ?_
      refine ⟨rfl, x_, hz1, ?_⟩
      rw [oups, oups, oups]
    ·
      skip
      exact absurd (c2 : bI _ = 0) (by rw [bI_t ⟨nI_pos' (by omega), nI_le (b := 7) (by omega) (by omega)⟩]; decide)

set_option maxHeartbeats 400000 in
set_option maxRecDepth 100000 in
theorem cn_copyN2 (l : Launch) (κ : Nat → Nat) (O : gO) (no : Nat) (cv : Nat → Int32) (ad : Nat → Nat) (g : Nat → Nat → Option Nat) (cw : Nat → Nat → Int32) (q1 : Nat) (l1 : Int32) (b1 n1 : Nat) (f1 : Nat → Int32) (j1 j2 : Nat) (x y z : Int32) (hN : O no = some (nsU cv ad g cw)) (hg1 : g 0 j1 = some q1) (hQ1 : O q1 = some (cU 5 (fun _ => l1) (fun _ => b1) (oar 1 0 n1 f1))) (hn1 : n1 ≤ 40) (hj1 : j1 < 8) (hj2 : j2 < 8) (hg : g 0 j2 = none) : oW l κ yX0_copy cX0_copy 9 (some .int) [(53, 71, 74, 129), (17, 91, 92, 71)] ({ frames := 6, cells := 1, slots := 7, locals := 123 }) [.ref no, .int (nI j1), .int x, .int (nI j2), .int y, .int z] O (fun rv O1 => rv = some (.int (-1000011)) ∧ ∃ zq, O zq = none ∧ O1 = oup (oup O zq (fnU 1)) no (nsU (upd cv 10 1) ad g cw)) := by
  intro D ac A
  refine o_bodyW (own := RX0) rfl (by decide) (Nat.le_of_ble_eq_true rfl) ?_
  intro p e s m args below meth c ls hC hr hlocks hK hM hl htab
  have hl : lv_has ls 9 [(0, .ref no), (1, .int (nI j1)), (2, .int x), (3, .int (nI j2)), (4, .int y), (5, .int z)] := hl
  have hM := PS.of hM [(no, nsU cv ad g cw), (q1, cU 5 (fun _ => l1) (fun _ => b1) (oar 1 0 n1 f1))] ⟨hN, hQ1, trivial⟩ (by simp only [oad, List.map, List.nodup_cons, List.mem_singleton, List.not_mem_nil, not_false_eq_true, List.nodup_nil, and_true]; exact o_ne hN hQ1 (by decide))
  refine lv_iload_n hC.1 hC.2.1 dX0_copy_0 rfl (lv_at hl 1 rfl) ?_
  refine s_ci hC (cc_isRow l (nI j1)) (va_cwS 1 hC.2.2.2.2 (lw_S q261 q262 q63 q263) rfl rfl rfl (by decide +kernel) ⟨(Nat.le_of_ble_eq_true rfl), (Nat.le_of_ble_eq_true rfl)⟩) rfl hl.1 rfl (lv_room (Nat.le_of_ble_eq_true rfl)) dX0_copy_1 ⟨(Nat.le_of_ble_eq_true rfl), (Nat.le_of_ble_eq_true rfl)⟩ ?_
  refine lv_if_eq (tgt := 14) hC.1 hC.2.1 dX0_copy_4 (by decide) (fun c1 => ?_) (fun c1 => ?_)
  ·
    skip
    exact absurd (c1 : bI _ = 0) (by rw [bI_t ⟨nI_pos' (by omega), nI_le (b := 7) (by omega) (by omega)⟩]; decide)
  ·
    skip
    refine lv_iload_n hC.1 hC.2.1 dX0_copy_7 rfl (lv_at hl 3 rfl) ?_
    refine s_ci hC (cc_isRow l (nI j2)) (va_cwS 1 hC.2.2.2.2 (lw_S q261 q262 q63 q263) rfl rfl rfl (by decide +kernel) ⟨(Nat.le_of_ble_eq_true rfl), (Nat.le_of_ble_eq_true rfl)⟩) rfl hl.1 rfl (lv_room (Nat.le_of_ble_eq_true rfl)) dX0_copy_8 ⟨(Nat.le_of_ble_eq_true rfl), (Nat.le_of_ble_eq_true rfl)⟩ ?_
    refine lv_if_ne (tgt := 17) hC.1 hC.2.1 dX0_copy_11 (by decide) (fun c2 => ?_) (fun c2 => ?_)
    ·
      skip
      refine lv_aload_n hC.1 hC.2.1 dX0_copy_17 rfl (lv_at hl 0 rfl) ?_
      refine lv_iload_n hC.1 hC.2.1 dX0_copy_18 rfl (lv_at hl 1 rfl) ?_
      refine p_cVe (L' := [_, _]) hC hK hM (hM.at 0 rfl) rfl (cn_rowAt l κ _ no cv ad g cw j1 q1 (hM.at 0 rfl) hj1 hg1) (cwV 1 hC.2.2.2.2 (lw_V q365 q367 qs3 q63 q368) rfl rfl rfl (by decide +kernel) ⟨(Nat.le_of_ble_eq_true rfl), (Nat.le_of_ble_eq_true rfl)⟩) rfl hl.1 rfl (lv_room (Nat.le_of_ble_eq_true rfl)) dX0_copy_19 ⟨(Nat.le_of_ble_eq_true rfl), (Nat.le_of_ble_eq_true rfl)⟩ rfl hM.2 (fun H locs hM => ?_)
      refine lv_astore (lv' := [(6, _), (0, _), (1, _), (2, _), (3, _), (4, _), (5, _)]) hC.1 hC.2.1 dX0_copy_22 hl (by decide) rfl (fun ls hl => ?_)
      refine lv_aload_n hC.1 hC.2.1 dX0_copy_24 rfl (lv_at hl 1 rfl) ?_
      refine lv_iload_n hC.1 hC.2.1 dX0_copy_25 rfl (lv_at hl 4 rfl) ?_
      refine p_catch hC hK hM (runVT hC ((cn_rowAtT l κ _ no cv ad g cw j2 (hM.at 0 rfl) hj2 hg) D ac A) (cwV 1 hC.2.2.2.2 (lw_V q365 q367 qs3 q63 q368) rfl rfl rfl (by decide +kernel) ⟨(Nat.le_of_ble_eq_true rfl), (Nat.le_of_ble_eq_true rfl)⟩) ⟨oPre.blind, OS.recv hK hM.1 (hM.at 0 rfl) rfl, fun U hU hW => ⟨rfl, OS.pre hK hM.1 hU hW⟩⟩ rfl rfl hl.1 rfl (lv_room (Nat.le_of_ble_eq_true rfl)) dX0_copy_26 ⟨(Nat.le_of_ble_eq_true rfl), (Nat.le_of_ble_eq_true rfl)⟩) htab 1 (hpc := 92) (ct := 71) (hAt_of rfl) (by decide) q260 (hK.1.2.1 _ q274 rfl) (fun x O1 h => ⟨4, _, _, _, _, (congrFun h.2 x).trans (oup_s _ _ _), rfl⟩) (fun x_ O1 H locs hp hM1 => ?_)
      obtain ⟨hz0, hzO⟩ := hp
      rw [hzO] at hM1
      obtain ⟨hz1, hz2, hM⟩ := PS.app (L' := [_, _, _]) hM.2 hz0 hM1 rfl
      refine lv_astore (lv' := [(6, _), (0, _), (1, _), (2, _), (3, _), (4, _), (5, _)]) hC.1 hC.2.1 dX0_copy_92 hl (by decide) rfl (fun ls hl => ?_)
      refine lv_aload_n hC.1 hC.2.1 dX0_copy_94 rfl (lv_at hl 1 rfl) ?_
      refine lv_aload hC.1 hC.2.1 dX0_copy_95 (lv_at hl 0 rfl) ?_
      refine p_cVe (L' := [_, _, _]) hC hK hM (hM.at 0 rfl) rfl (cn_found l κ _ no cv ad g cw x_ 1 (hM.at 0 rfl) (hM.at 2 rfl)) (cwV 1 hC.2.2.2.2 (lw_V q356 q358 qs2 q63 q359) rfl rfl rfl (by decide +kernel) ⟨(Nat.le_of_ble_eq_true rfl), (Nat.le_of_ble_eq_true rfl)⟩) rfl hl.1 rfl (lv_room (Nat.le_of_ble_eq_true rfl)) dX0_copy_97 ⟨(Nat.le_of_ble_eq_true rfl), (Nat.le_of_ble_eq_true rfl)⟩ (oups_set hM.2 (i := 0) rfl) (oad_nd hM.2 (i := 0) rfl rfl) (fun H locs hM => ?_)
      refine W.widen (k := 1) (n := 7) (Nat.le_of_ble_eq_true rfl) (Nat.le_of_ble_eq_true rfl) ?_
      refine p_iret hC hr hlocks hM dX0_copy_100 ?_
      refine ⟨rfl, x_, hz1, ?_⟩
      rw [oups, oups, oups, oups, oup_comm (a := x_) (b := q1) (fun e => by rw [e, hQ1] at hz1; cases hz1), oup_same hQ1]
    ·
      skip
      exact absurd (c2 : bI _ = 0) (by rw [bI_t ⟨nI_pos' (by omega), nI_le (b := 7) (by omega) (by omega)⟩]; decide)

set_option maxHeartbeats 400000 in
set_option maxRecDepth 100000 in
theorem cn_copyS (l : Launch) (κ : Nat → Nat) (O : gO) (no : Nat) (cv : Nat → Int32) (ad : Nat → Nat) (g : Nat → Nat → Option Nat) (cw : Nat → Nat → Int32) (q1 : Nat) (l1 : Int32) (b1 n1 : Nat) (f1 : Nat → Int32) (q2 : Nat) (l2 : Int32) (b2 n2 : Nat) (f2 : Nat → Int32) (j1 j2 : Nat) (x y z : Int32) (hN : O no = some (nsU cv ad g cw)) (hg1 : g 0 j1 = some q1) (hQ1 : O q1 = some (cU 5 (fun _ => l1) (fun _ => b1) (oar 1 0 n1 f1))) (hn1 : n1 ≤ 40) (hg2 : g 0 j2 = some q2) (hQ2 : O q2 = some (cU 5 (fun _ => l2) (fun _ => b2) (oar 1 0 n2 f2))) (hn2 : n2 ≤ 40) (hj1 : j1 < 8) (hj2 : j2 < 8) (hne : q1 ≠ q2) (hln : l1 ≠ l2) : oW l κ yX0_copy cX0_copy 9 (some .int) [(53, 71, 74, 129), (17, 91, 92, 71)] ({ frames := 5, cells := 1, slots := 7, locals := 102 }) [.ref no, .int (nI j1), .int x, .int (nI j2), .int y, .int z] O (fun rv O1 => rv = some (.int (-1000015)) ∧ ∃ zq, O zq = none ∧ O1 = oup (oup O zq (fnU 5)) no (nsU (upd cv 10 5) ad g cw)) := by
  intro D ac A
  refine o_bodyW (own := RX0) rfl (by decide) (Nat.le_of_ble_eq_true rfl) ?_
  intro p e s m args below meth c ls hC hr hlocks hK hM hl htab
  have hl : lv_has ls 9 [(0, .ref no), (1, .int (nI j1)), (2, .int x), (3, .int (nI j2)), (4, .int y), (5, .int z)] := hl
  have hM := PS.of hM [(no, nsU cv ad g cw), (q1, cU 5 (fun _ => l1) (fun _ => b1) (oar 1 0 n1 f1)), (q2, cU 5 (fun _ => l2) (fun _ => b2) (oar 1 0 n2 f2))] ⟨hN, hQ1, hQ2, trivial⟩ (by simp only [oad, List.map, List.nodup_cons, List.mem_cons, List.mem_singleton, List.not_mem_nil, not_or, or_false, not_false_eq_true, List.nodup_nil, and_true]; exact ⟨⟨o_ne hN hQ1 (by decide), o_ne hN hQ2 (by decide)⟩, hne⟩)
  refine lv_iload_n hC.1 hC.2.1 dX0_copy_0 rfl (lv_at hl 1 rfl) ?_
  refine s_ci hC (cc_isRow l (nI j1)) (va_cwS 1 hC.2.2.2.2 (lw_S q261 q262 q63 q263) rfl rfl rfl (by decide +kernel) ⟨(Nat.le_of_ble_eq_true rfl), (Nat.le_of_ble_eq_true rfl)⟩) rfl hl.1 rfl (lv_room (Nat.le_of_ble_eq_true rfl)) dX0_copy_1 ⟨(Nat.le_of_ble_eq_true rfl), (Nat.le_of_ble_eq_true rfl)⟩ ?_
  refine lv_if_eq (tgt := 14) hC.1 hC.2.1 dX0_copy_4 (by decide) (fun c1 => ?_) (fun c1 => ?_)
  ·
    skip
    exact absurd (c1 : bI _ = 0) (by rw [bI_t ⟨nI_pos' (by omega), nI_le (b := 7) (by omega) (by omega)⟩]; decide)
  ·
    skip
    refine lv_iload_n hC.1 hC.2.1 dX0_copy_7 rfl (lv_at hl 3 rfl) ?_
    refine s_ci hC (cc_isRow l (nI j2)) (va_cwS 1 hC.2.2.2.2 (lw_S q261 q262 q63 q263) rfl rfl rfl (by decide +kernel) ⟨(Nat.le_of_ble_eq_true rfl), (Nat.le_of_ble_eq_true rfl)⟩) rfl hl.1 rfl (lv_room (Nat.le_of_ble_eq_true rfl)) dX0_copy_8 ⟨(Nat.le_of_ble_eq_true rfl), (Nat.le_of_ble_eq_true rfl)⟩ ?_
    refine lv_if_ne (tgt := 17) hC.1 hC.2.1 dX0_copy_11 (by decide) (fun c2 => ?_) (fun c2 => ?_)
    ·
      skip
      refine lv_aload_n hC.1 hC.2.1 dX0_copy_17 rfl (lv_at hl 0 rfl) ?_
      refine lv_iload_n hC.1 hC.2.1 dX0_copy_18 rfl (lv_at hl 1 rfl) ?_
      refine p_cVe (L' := [_, _, _]) hC hK hM (hM.at 0 rfl) rfl (cn_rowAt l κ _ no cv ad g cw j1 q1 (hM.at 0 rfl) hj1 hg1) (cwV 1 hC.2.2.2.2 (lw_V q365 q367 qs3 q63 q368) rfl rfl rfl (by decide +kernel) ⟨(Nat.le_of_ble_eq_true rfl), (Nat.le_of_ble_eq_true rfl)⟩) rfl hl.1 rfl (lv_room (Nat.le_of_ble_eq_true rfl)) dX0_copy_19 ⟨(Nat.le_of_ble_eq_true rfl), (Nat.le_of_ble_eq_true rfl)⟩ rfl hM.2 (fun H locs hM => ?_)
      refine lv_astore (lv' := [(6, _), (0, _), (1, _), (2, _), (3, _), (4, _), (5, _)]) hC.1 hC.2.1 dX0_copy_22 hl (by decide) rfl (fun ls hl => ?_)
      refine lv_aload_n hC.1 hC.2.1 dX0_copy_24 rfl (lv_at hl 1 rfl) ?_
      refine lv_iload_n hC.1 hC.2.1 dX0_copy_25 rfl (lv_at hl 4 rfl) ?_
      refine p_cVe (L' := [_, _, _]) hC hK hM (hM.at 0 rfl) rfl (cn_rowAt l κ _ no cv ad g cw j2 q2 (hM.at 0 rfl) hj2 hg2) (cwV 1 hC.2.2.2.2 (lw_V q365 q367 qs3 q63 q368) rfl rfl rfl (by decide +kernel) ⟨(Nat.le_of_ble_eq_true rfl), (Nat.le_of_ble_eq_true rfl)⟩) rfl hl.1 rfl (lv_room (Nat.le_of_ble_eq_true rfl)) dX0_copy_26 ⟨(Nat.le_of_ble_eq_true rfl), (Nat.le_of_ble_eq_true rfl)⟩ rfl hM.2 (fun H locs hM => ?_)
      refine lv_astore (lv' := [(7, _), (6, _), (0, _), (1, _), (2, _), (3, _), (4, _), (5, _)]) hC.1 hC.2.1 dX0_copy_29 hl (by decide) rfl (fun ls hl => ?_)
      refine lv_aload hC.1 hC.2.1 dX0_copy_31 (lv_at hl 1 rfl) ?_
      refine p_get hC hK hM 1 rfl in_X5 rfl 0 (by decide) q344 (fun x h => h) rfl dX0_copy_33 ?_
      refine lv_aload hC.1 hC.2.1 dX0_copy_36 (lv_at hl 0 rfl) ?_
      refine p_get hC hK hM 2 rfl in_X5 rfl 0 (by decide) q344 (fun x h => h) rfl dX0_copy_38 ?_
      refine lv_icmp_ne (tgt := 48) hC.1 hC.2.1 dX0_copy_41 (by decide) (fun c3 => ?_) (fun c3 => ?_)
      ·
        skip
        refine lv_iconst (v := 0) hC.1 hC.2.1 dX0_copy_48 (by decide) ?_
        refine lv_iconst (v := 5) hC.1 hC.2.1 dX0_copy_49 (by decide) ?_
        refine p_catch hC hK hM (runST hC ((cn_mustT l κ _ 5) D ac A) (va_cwS 2 hC.2.2.2.2 (lw_S q270 q271 q63 q272) rfl rfl rfl (by decide +kernel) ⟨(Nat.le_of_ble_eq_true rfl), (Nat.le_of_ble_eq_true rfl)⟩) ⟨oPre.blind, fun U hU hW => ⟨rfl, OS.pre hK hM.1 hU hW⟩⟩ rfl rfl hl.1 rfl (lv_room (Nat.le_of_ble_eq_true rfl)) dX0_copy_50 ⟨(Nat.le_of_ble_eq_true rfl), (Nat.le_of_ble_eq_true rfl)⟩) htab 1 (hpc := 92) (ct := 71) (hAt_of rfl) (by decide) q260 (hK.1.2.1 _ q274 rfl) (fun x O1 h => ⟨4, _, _, _, _, (congrFun h.2 x).trans (oup_s _ _ _), rfl⟩) (fun x_ O1 H locs hp hM1 => ?_)
        obtain ⟨hz0, hzO⟩ := hp
        rw [hzO] at hM1
        obtain ⟨hz1, hz2, hM⟩ := PS.app (L' := [_, _, _, _]) hM.2 hz0 hM1 rfl
        refine lv_astore (lv' := [(6, _), (7, _), (0, _), (1, _), (2, _), (3, _), (4, _), (5, _)]) hC.1 hC.2.1 dX0_copy_92 hl (by decide) rfl (fun ls hl => ?_)
        refine lv_aload_n hC.1 hC.2.1 dX0_copy_94 rfl (lv_at hl 2 rfl) ?_
        refine lv_aload hC.1 hC.2.1 dX0_copy_95 (lv_at hl 0 rfl) ?_
        refine p_cVe (L' := [_, _, _, _]) hC hK hM (hM.at 0 rfl) rfl (cn_found l κ _ no cv ad g cw x_ 5 (hM.at 0 rfl) (hM.at 3 rfl)) (cwV 1 hC.2.2.2.2 (lw_V q356 q358 qs2 q63 q359) rfl rfl rfl (by decide +kernel) ⟨(Nat.le_of_ble_eq_true rfl), (Nat.le_of_ble_eq_true rfl)⟩) rfl hl.1 rfl (lv_room (Nat.le_of_ble_eq_true rfl)) dX0_copy_97 ⟨(Nat.le_of_ble_eq_true rfl), (Nat.le_of_ble_eq_true rfl)⟩ (oups_set hM.2 (i := 0) rfl) (oad_nd hM.2 (i := 0) rfl rfl) (fun H locs hM => ?_)
        refine W.widen (k := 1) (n := 7) (Nat.le_of_ble_eq_true rfl) (Nat.le_of_ble_eq_true rfl) ?_
        refine p_iret hC hr hlocks hM dX0_copy_100 ?_
        refine ⟨rfl, x_, hz1, ?_⟩
        rw [oups, oups, oups, oups, oups, oup_comm (a := x_) (b := q2) (fun e => by rw [e, hQ2] at hz1; cases hz1), oup_same hQ2, oup_comm (a := x_) (b := q1) (fun e => by rw [e, hQ1] at hz1; cases hz1), oup_same hQ1]
      ·
        skip
        exact absurd c3 hln
    ·
      skip
      exact absurd (c2 : bI _ = 0) (by rw [bI_t ⟨nI_pos' (by omega), nI_le (b := 7) (by omega) (by omega)⟩]; decide)

set_option maxHeartbeats 400000 in
set_option maxRecDepth 100000 in
theorem cn_copy2 (l : Launch) (κ : Nat → Nat) (O : gO) (no : Nat) (cv : Nat → Int32) (ad : Nat → Nat) (g : Nat → Nat → Option Nat) (cw : Nat → Nat → Int32) (q1 : Nat) (l1 : Int32) (b1 n1 : Nat) (f1 : Nat → Int32) (q2 : Nat) (l2 : Int32) (b2 n2 : Nat) (f2 : Nat → Int32) (j1 j2 : Nat) (i1 i2 n : Nat) (hN : O no = some (nsU cv ad g cw)) (hg1 : g 0 j1 = some q1) (hQ1 : O q1 = some (cU 5 (fun _ => l1) (fun _ => b1) (oar 1 0 n1 f1))) (hn1 : n1 ≤ 40) (hg2 : g 0 j2 = some q2) (hQ2 : O q2 = some (cU 5 (fun _ => l2) (fun _ => b2) (oar 1 0 n2 f2))) (hn2 : n2 ≤ 40) (hj1 : j1 < 8) (hj2 : j2 < 8) (hne : q1 ≠ q2) (hln : l1 = l2) (h1 : i1 + n ≤ n1) (h2 : i2 + n ≤ n2) : oW l κ yX0_copy cX0_copy 9 (some .int) [(53, 71, 74, 129), (17, 91, 92, 71)] ({ frames := 2, cells := 0, slots := 0, locals := 45 }) [.ref no, .int (nI j1), .int (nI i1), .int (nI j2), .int (nI i2), .int (nI n)] O (fun rv O1 => rv = some (.int (nI n)) ∧ O1 = oup (oup O q2 (cU 5 (fun _ => l2) (fun _ => b2) (oar 1 0 n2 (va_cpy f1 f2 i1 i2 n)))) no (nsU (upd cv 10 0) ad g cw)) := by
  intro D ac A
  refine o_bodyW (own := RX0) rfl (by decide) (Nat.le_of_ble_eq_true rfl) ?_
  intro p e s m args below meth c ls hC hr hlocks hK hM hl htab
  have hl : lv_has ls 9 [(0, .ref no), (1, .int (nI j1)), (2, .int (nI i1)), (3, .int (nI j2)), (4, .int (nI i2)), (5, .int (nI n))] := hl
  have hM := PS.of hM [(no, nsU cv ad g cw), (q1, cU 5 (fun _ => l1) (fun _ => b1) (oar 1 0 n1 f1)), (q2, cU 5 (fun _ => l2) (fun _ => b2) (oar 1 0 n2 f2))] ⟨hN, hQ1, hQ2, trivial⟩ (by simp only [oad, List.map, List.nodup_cons, List.mem_cons, List.mem_singleton, List.not_mem_nil, not_or, or_false, not_false_eq_true, List.nodup_nil, and_true]; exact ⟨⟨o_ne hN hQ1 (by decide), o_ne hN hQ2 (by decide)⟩, hne⟩)
  refine lv_iload_n hC.1 hC.2.1 dX0_copy_0 rfl (lv_at hl 1 rfl) ?_
  refine s_ci hC (cc_isRow l (nI j1)) (va_cwS 1 hC.2.2.2.2 (lw_S q261 q262 q63 q263) rfl rfl rfl (by decide +kernel) ⟨(Nat.le_of_ble_eq_true rfl), (Nat.le_of_ble_eq_true rfl)⟩) rfl hl.1 rfl (lv_room (Nat.le_of_ble_eq_true rfl)) dX0_copy_1 ⟨(Nat.le_of_ble_eq_true rfl), (Nat.le_of_ble_eq_true rfl)⟩ ?_
  refine lv_if_eq (tgt := 14) hC.1 hC.2.1 dX0_copy_4 (by decide) (fun c1 => ?_) (fun c1 => ?_)
  ·
    skip
    exact absurd (c1 : bI _ = 0) (by rw [bI_t ⟨nI_pos' (by omega), nI_le (b := 7) (by omega) (by omega)⟩]; decide)
  ·
    skip
    refine lv_iload_n hC.1 hC.2.1 dX0_copy_7 rfl (lv_at hl 3 rfl) ?_
    refine s_ci hC (cc_isRow l (nI j2)) (va_cwS 1 hC.2.2.2.2 (lw_S q261 q262 q63 q263) rfl rfl rfl (by decide +kernel) ⟨(Nat.le_of_ble_eq_true rfl), (Nat.le_of_ble_eq_true rfl)⟩) rfl hl.1 rfl (lv_room (Nat.le_of_ble_eq_true rfl)) dX0_copy_8 ⟨(Nat.le_of_ble_eq_true rfl), (Nat.le_of_ble_eq_true rfl)⟩ ?_
    refine lv_if_ne (tgt := 17) hC.1 hC.2.1 dX0_copy_11 (by decide) (fun c2 => ?_) (fun c2 => ?_)
    ·
      skip
      refine lv_aload_n hC.1 hC.2.1 dX0_copy_17 rfl (lv_at hl 0 rfl) ?_
      refine lv_iload_n hC.1 hC.2.1 dX0_copy_18 rfl (lv_at hl 1 rfl) ?_
      refine p_cVe (L' := [_, _, _]) hC hK hM (hM.at 0 rfl) rfl (cn_rowAt l κ _ no cv ad g cw j1 q1 (hM.at 0 rfl) hj1 hg1) (cwV 1 hC.2.2.2.2 (lw_V q365 q367 qs3 q63 q368) rfl rfl rfl (by decide +kernel) ⟨(Nat.le_of_ble_eq_true rfl), (Nat.le_of_ble_eq_true rfl)⟩) rfl hl.1 rfl (lv_room (Nat.le_of_ble_eq_true rfl)) dX0_copy_19 ⟨(Nat.le_of_ble_eq_true rfl), (Nat.le_of_ble_eq_true rfl)⟩ rfl hM.2 (fun H locs hM => ?_)
      refine lv_astore (lv' := [(6, _), (0, _), (1, _), (2, _), (3, _), (4, _), (5, _)]) hC.1 hC.2.1 dX0_copy_22 hl (by decide) rfl (fun ls hl => ?_)
      refine lv_aload_n hC.1 hC.2.1 dX0_copy_24 rfl (lv_at hl 1 rfl) ?_
      refine lv_iload_n hC.1 hC.2.1 dX0_copy_25 rfl (lv_at hl 4 rfl) ?_
      refine p_cVe (L' := [_, _, _]) hC hK hM (hM.at 0 rfl) rfl (cn_rowAt l κ _ no cv ad g cw j2 q2 (hM.at 0 rfl) hj2 hg2) (cwV 1 hC.2.2.2.2 (lw_V q365 q367 qs3 q63 q368) rfl rfl rfl (by decide +kernel) ⟨(Nat.le_of_ble_eq_true rfl), (Nat.le_of_ble_eq_true rfl)⟩) rfl hl.1 rfl (lv_room (Nat.le_of_ble_eq_true rfl)) dX0_copy_26 ⟨(Nat.le_of_ble_eq_true rfl), (Nat.le_of_ble_eq_true rfl)⟩ rfl hM.2 (fun H locs hM => ?_)
      refine lv_astore (lv' := [(7, _), (6, _), (0, _), (1, _), (2, _), (3, _), (4, _), (5, _)]) hC.1 hC.2.1 dX0_copy_29 hl (by decide) rfl (fun ls hl => ?_)
      refine lv_aload hC.1 hC.2.1 dX0_copy_31 (lv_at hl 1 rfl) ?_
      refine p_get hC hK hM 1 rfl in_X5 rfl 0 (by decide) q344 (fun x h => h) rfl dX0_copy_33 ?_
      refine lv_aload hC.1 hC.2.1 dX0_copy_36 (lv_at hl 0 rfl) ?_
      refine p_get hC hK hM 2 rfl in_X5 rfl 0 (by decide) q344 (fun x h => h) rfl dX0_copy_38 ?_
      refine lv_icmp_ne (tgt := 48) hC.1 hC.2.1 dX0_copy_41 (by decide) (fun c3 => ?_) (fun c3 => ?_)
      ·
        skip
        exact absurd hln c3
      ·
        skip
        refine lv_iconst (v := 1) hC.1 hC.2.1 dX0_copy_44 (by decide) ?_
        refine lv_goto (tgt := 49) hC.1 hC.2.1 dX0_copy_45 (by decide) ?_
        refine lv_iconst (v := 5) hC.1 hC.2.1 dX0_copy_49 (by decide) ?_
        refine p_cSv (L' := [_, _, _]) hC hK hM (cn_must l κ _ 1 5 (by decide)) (va_cwS 2 hC.2.2.2.2 (lw_S q270 q271 q63 q272) rfl rfl rfl (by decide +kernel) ⟨(Nat.le_of_ble_eq_true rfl), (Nat.le_of_ble_eq_true rfl)⟩) rfl hl.1 rfl (lv_room (Nat.le_of_ble_eq_true rfl)) dX0_copy_50 ⟨(Nat.le_of_ble_eq_true rfl), (Nat.le_of_ble_eq_true rfl)⟩ rfl hM.2 (fun H locs hM => ?_)
        refine lv_aload hC.1 hC.2.1 dX0_copy_53 (lv_at hl 1 rfl) ?_
        refine p_get hC hK hM 1 rfl in_X5 rfl 1 (by decide) q346 (fun x h => h) rfl dX0_copy_55 ?_
        refine lv_iload_n hC.1 hC.2.1 dX0_copy_58 rfl (lv_at hl 4 rfl) ?_
        refine lv_aload hC.1 hC.2.1 dX0_copy_59 (lv_at hl 0 rfl) ?_
        refine p_get hC hK hM 2 rfl in_X5 rfl 1 (by decide) q346 (fun x h => h) rfl dX0_copy_61 ?_
        refine lv_iload hC.1 hC.2.1 dX0_copy_64 (lv_at hl 6 rfl) ?_
        refine lv_iload hC.1 hC.2.1 dX0_copy_66 (lv_at hl 7 rfl) ?_
        refine p_copy (L' := [_, _, _]) hC hK hM hl.1 q411 2 rfl 1 rfl (aAt.own (hM.at 1 rfl) (k := 1) rfl rfl) rfl (np := i1) (nd := i2) (nn := n) rfl rfl rfl (by omega) (by omega) (by omega) (by omega) (Nat.le_of_ble_eq_true rfl) (Nat.le_of_ble_eq_true rfl) dX0_copy_68 (oar_set _ _ _ _ _) rfl (fun H locs hM => ?_)
        refine lv_goto (tgt := 85) hC.1 hC.2.1 dX0_copy_71 (by decide) ?_
        refine lv_aload_n hC.1 hC.2.1 dX0_copy_85 rfl (lv_at hl 2 rfl) ?_
        refine lv_iload hC.1 hC.2.1 dX0_copy_86 (lv_at hl 7 rfl) ?_
        refine p_cVe (L' := [_, _, _]) hC hK hM (hM.at 0 rfl) rfl (cn_well l κ _ no cv ad g cw (nI n) (hM.at 0 rfl)) (cwV 1 hC.2.2.2.2 (lw_V q352 q354 qs1 q63 q355) rfl rfl rfl (by decide +kernel) ⟨(Nat.le_of_ble_eq_true rfl), (Nat.le_of_ble_eq_true rfl)⟩) rfl hl.1 rfl (lv_room (Nat.le_of_ble_eq_true rfl)) dX0_copy_88 ⟨(Nat.le_of_ble_eq_true rfl), (Nat.le_of_ble_eq_true rfl)⟩ (oups_set hM.2 (i := 0) rfl) (oad_nd hM.2 (i := 0) rfl rfl) (fun H locs hM => ?_)
        skip
        refine p_iret hC hr hlocks hM dX0_copy_91 ?_
        refine ⟨rfl, ?_⟩
        rw [oups, oups, oups, oups, oup_comm (a := q2) (b := q1) (fun e => hne e.symm), oup_same hQ1]
    ·
      skip
      exact absurd (c2 : bI _ = 0) (by rw [bI_t ⟨nI_pos' (by omega), nI_le (b := 7) (by omega) (by omega)⟩]; decide)

set_option maxHeartbeats 400000 in
set_option maxRecDepth 100000 in
theorem cn_copy1 (l : Launch) (κ : Nat → Nat) (O : gO) (no : Nat) (cv : Nat → Int32) (ad : Nat → Nat) (g : Nat → Nat → Option Nat) (cw : Nat → Nat → Int32) (q1 : Nat) (l1 : Int32) (b1 n1 : Nat) (f1 : Nat → Int32) (j1 j2 : Nat) (i1 i2 n : Nat) (hN : O no = some (nsU cv ad g cw)) (hg1 : g 0 j1 = some q1) (hQ1 : O q1 = some (cU 5 (fun _ => l1) (fun _ => b1) (oar 1 0 n1 f1))) (hn1 : n1 ≤ 40) (hj1 : j1 < 8) (hj2 : j2 < 8) (hg2 : g 0 j2 = some q1) (h1 : i1 + n ≤ n1) (h2 : i2 + n ≤ n1) : oW l κ yX0_copy cX0_copy 9 (some .int) [(53, 71, 74, 129), (17, 91, 92, 71)] ({ frames := 2, cells := 0, slots := 0, locals := 45 }) [.ref no, .int (nI j1), .int (nI i1), .int (nI j2), .int (nI i2), .int (nI n)] O (fun rv O1 => rv = some (.int (nI n)) ∧ O1 = oup (oup O q1 (cU 5 (fun _ => l1) (fun _ => b1) (oar 1 0 n1 (va_cpy f1 f1 i1 i2 n)))) no (nsU (upd cv 10 0) ad g cw)) := by
  intro D ac A
  refine o_bodyW (own := RX0) rfl (by decide) (Nat.le_of_ble_eq_true rfl) ?_
  intro p e s m args below meth c ls hC hr hlocks hK hM hl htab
  have hl : lv_has ls 9 [(0, .ref no), (1, .int (nI j1)), (2, .int (nI i1)), (3, .int (nI j2)), (4, .int (nI i2)), (5, .int (nI n))] := hl
  have hM := PS.of hM [(no, nsU cv ad g cw), (q1, cU 5 (fun _ => l1) (fun _ => b1) (oar 1 0 n1 f1))] ⟨hN, hQ1, trivial⟩ (by simp only [oad, List.map, List.nodup_cons, List.mem_singleton, List.not_mem_nil, not_false_eq_true, List.nodup_nil, and_true]; exact o_ne hN hQ1 (by decide))
  refine lv_iload_n hC.1 hC.2.1 dX0_copy_0 rfl (lv_at hl 1 rfl) ?_
  refine s_ci hC (cc_isRow l (nI j1)) (va_cwS 1 hC.2.2.2.2 (lw_S q261 q262 q63 q263) rfl rfl rfl (by decide +kernel) ⟨(Nat.le_of_ble_eq_true rfl), (Nat.le_of_ble_eq_true rfl)⟩) rfl hl.1 rfl (lv_room (Nat.le_of_ble_eq_true rfl)) dX0_copy_1 ⟨(Nat.le_of_ble_eq_true rfl), (Nat.le_of_ble_eq_true rfl)⟩ ?_
  refine lv_if_eq (tgt := 14) hC.1 hC.2.1 dX0_copy_4 (by decide) (fun c1 => ?_) (fun c1 => ?_)
  ·
    skip
    exact absurd (c1 : bI _ = 0) (by rw [bI_t ⟨nI_pos' (by omega), nI_le (b := 7) (by omega) (by omega)⟩]; decide)
  ·
    skip
    refine lv_iload_n hC.1 hC.2.1 dX0_copy_7 rfl (lv_at hl 3 rfl) ?_
    refine s_ci hC (cc_isRow l (nI j2)) (va_cwS 1 hC.2.2.2.2 (lw_S q261 q262 q63 q263) rfl rfl rfl (by decide +kernel) ⟨(Nat.le_of_ble_eq_true rfl), (Nat.le_of_ble_eq_true rfl)⟩) rfl hl.1 rfl (lv_room (Nat.le_of_ble_eq_true rfl)) dX0_copy_8 ⟨(Nat.le_of_ble_eq_true rfl), (Nat.le_of_ble_eq_true rfl)⟩ ?_
    refine lv_if_ne (tgt := 17) hC.1 hC.2.1 dX0_copy_11 (by decide) (fun c2 => ?_) (fun c2 => ?_)
    ·
      skip
      refine lv_aload_n hC.1 hC.2.1 dX0_copy_17 rfl (lv_at hl 0 rfl) ?_
      refine lv_iload_n hC.1 hC.2.1 dX0_copy_18 rfl (lv_at hl 1 rfl) ?_
      refine p_cVe (L' := [_, _]) hC hK hM (hM.at 0 rfl) rfl (cn_rowAt l κ _ no cv ad g cw j1 q1 (hM.at 0 rfl) hj1 hg1) (cwV 1 hC.2.2.2.2 (lw_V q365 q367 qs3 q63 q368) rfl rfl rfl (by decide +kernel) ⟨(Nat.le_of_ble_eq_true rfl), (Nat.le_of_ble_eq_true rfl)⟩) rfl hl.1 rfl (lv_room (Nat.le_of_ble_eq_true rfl)) dX0_copy_19 ⟨(Nat.le_of_ble_eq_true rfl), (Nat.le_of_ble_eq_true rfl)⟩ rfl hM.2 (fun H locs hM => ?_)
      refine lv_astore (lv' := [(6, _), (0, _), (1, _), (2, _), (3, _), (4, _), (5, _)]) hC.1 hC.2.1 dX0_copy_22 hl (by decide) rfl (fun ls hl => ?_)
      refine lv_aload_n hC.1 hC.2.1 dX0_copy_24 rfl (lv_at hl 1 rfl) ?_
      refine lv_iload_n hC.1 hC.2.1 dX0_copy_25 rfl (lv_at hl 4 rfl) ?_
      refine p_cVe (L' := [_, _]) hC hK hM (hM.at 0 rfl) rfl (cn_rowAt l κ _ no cv ad g cw j2 q1 (hM.at 0 rfl) hj2 hg2) (cwV 1 hC.2.2.2.2 (lw_V q365 q367 qs3 q63 q368) rfl rfl rfl (by decide +kernel) ⟨(Nat.le_of_ble_eq_true rfl), (Nat.le_of_ble_eq_true rfl)⟩) rfl hl.1 rfl (lv_room (Nat.le_of_ble_eq_true rfl)) dX0_copy_26 ⟨(Nat.le_of_ble_eq_true rfl), (Nat.le_of_ble_eq_true rfl)⟩ rfl hM.2 (fun H locs hM => ?_)
      refine lv_astore (lv' := [(7, _), (6, _), (0, _), (1, _), (2, _), (3, _), (4, _), (5, _)]) hC.1 hC.2.1 dX0_copy_29 hl (by decide) rfl (fun ls hl => ?_)
      refine lv_aload hC.1 hC.2.1 dX0_copy_31 (lv_at hl 1 rfl) ?_
      refine p_get hC hK hM 1 rfl in_X5 rfl 0 (by decide) q344 (fun x h => h) rfl dX0_copy_33 ?_
      refine lv_aload hC.1 hC.2.1 dX0_copy_36 (lv_at hl 0 rfl) ?_
      refine p_get hC hK hM 1 rfl in_X5 rfl 0 (by decide) q344 (fun x h => h) rfl dX0_copy_38 ?_
      refine lv_icmp_ne (tgt := 48) hC.1 hC.2.1 dX0_copy_41 (by decide) (fun c3 => ?_) (fun c3 => ?_)
      ·
        skip
        exact absurd rfl c3
      ·
        skip
        refine lv_iconst (v := 1) hC.1 hC.2.1 dX0_copy_44 (by decide) ?_
        refine lv_goto (tgt := 49) hC.1 hC.2.1 dX0_copy_45 (by decide) ?_
        refine lv_iconst (v := 5) hC.1 hC.2.1 dX0_copy_49 (by decide) ?_
        refine p_cSv (L' := [_, _]) hC hK hM (cn_must l κ _ 1 5 (by decide)) (va_cwS 2 hC.2.2.2.2 (lw_S q270 q271 q63 q272) rfl rfl rfl (by decide +kernel) ⟨(Nat.le_of_ble_eq_true rfl), (Nat.le_of_ble_eq_true rfl)⟩) rfl hl.1 rfl (lv_room (Nat.le_of_ble_eq_true rfl)) dX0_copy_50 ⟨(Nat.le_of_ble_eq_true rfl), (Nat.le_of_ble_eq_true rfl)⟩ rfl hM.2 (fun H locs hM => ?_)
        refine lv_aload hC.1 hC.2.1 dX0_copy_53 (lv_at hl 1 rfl) ?_
        refine p_get hC hK hM 1 rfl in_X5 rfl 1 (by decide) q346 (fun x h => h) rfl dX0_copy_55 ?_
        refine lv_iload_n hC.1 hC.2.1 dX0_copy_58 rfl (lv_at hl 4 rfl) ?_
        refine lv_aload hC.1 hC.2.1 dX0_copy_59 (lv_at hl 0 rfl) ?_
        refine p_get hC hK hM 1 rfl in_X5 rfl 1 (by decide) q346 (fun x h => h) rfl dX0_copy_61 ?_
        refine lv_iload hC.1 hC.2.1 dX0_copy_64 (lv_at hl 6 rfl) ?_
        refine lv_iload hC.1 hC.2.1 dX0_copy_66 (lv_at hl 7 rfl) ?_
        refine p_copy (L' := [_, _]) hC hK hM hl.1 q411 1 rfl 1 rfl (aAt.own (hM.at 1 rfl) (k := 1) rfl rfl) rfl (np := i1) (nd := i2) (nn := n) rfl rfl rfl (by omega) (by omega) (by omega) (by omega) (Nat.le_of_ble_eq_true rfl) (Nat.le_of_ble_eq_true rfl) dX0_copy_68 (oar_set _ _ _ _ _) rfl (fun H locs hM => ?_)
        refine lv_goto (tgt := 85) hC.1 hC.2.1 dX0_copy_71 (by decide) ?_
        refine lv_aload_n hC.1 hC.2.1 dX0_copy_85 rfl (lv_at hl 2 rfl) ?_
        refine lv_iload hC.1 hC.2.1 dX0_copy_86 (lv_at hl 7 rfl) ?_
        refine p_cVe (L' := [_, _]) hC hK hM (hM.at 0 rfl) rfl (cn_well l κ _ no cv ad g cw (nI n) (hM.at 0 rfl)) (cwV 1 hC.2.2.2.2 (lw_V q352 q354 qs1 q63 q355) rfl rfl rfl (by decide +kernel) ⟨(Nat.le_of_ble_eq_true rfl), (Nat.le_of_ble_eq_true rfl)⟩) rfl hl.1 rfl (lv_room (Nat.le_of_ble_eq_true rfl)) dX0_copy_88 ⟨(Nat.le_of_ble_eq_true rfl), (Nat.le_of_ble_eq_true rfl)⟩ (oups_set hM.2 (i := 0) rfl) (oad_nd hM.2 (i := 0) rfl rfl) (fun H locs hM => ?_)
        skip
        refine p_iret hC hr hlocks hM dX0_copy_91 ?_
        refine ⟨rfl, ?_⟩
        rw [oups, oups, oups]
    ·
      skip
      exact absurd (c2 : bI _ = 0) (by rw [bI_t ⟨nI_pos' (by omega), nI_le (b := 7) (by omega) (by omega)⟩]; decide)
