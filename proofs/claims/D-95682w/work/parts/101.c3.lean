/-! Movers' own methods, by class; a call of them whatever the class. -/
set_option maxRecDepth 100000

set_option maxHeartbeats 400000 in
set_option maxRecDepth 100000 in
theorem cm_go_9 (l : Launch) (κ : Nat → Nat) (O : gO) (a : Nat) (mv : Nat → Int32) (nt : Nat) (hO : O a = some (cU 9 mv (fun _ => 0) aNo)) (h01 : mv 2 = 0 ∨ mv 2 = 1) : oM l κ yX8_goesOutward cX8_goesOutward 2 (some .boolean) ({ frames := 0, cells := 0, slots := 0, locals := 0 }) [.ref a, .int (nI nt)] O (fun rv O1 => rv = some (.int (mv 2)) ∧ O1 = O) := by
  intro D ac A
  refine o_body (own := RX8) rfl (plainFor_of_name (by decide)) (Nat.le_of_ble_eq_true rfl) ?_
  intro p e s m args below meth c ls hC hr hlocks hK hM hl hnamed hmeth
  have hl : lv_has ls 2 [(0, .ref a), (1, .int (nI nt))] := hl
  have hM := PS.of hM [(a, cU 9 mv (fun _ => 0) aNo)] ⟨hO, trivial⟩ (by simp [oad])
  refine lv_aload_n hC.1 hC.2.1 dX8_goesOutward_0 rfl (lv_at hl 0 rfl) ?_
  refine p_get hC hK hM 0 rfl in_X9 rfl 2 (by decide) q749 (fun x h => h) rfl dX8_goesOutward_1 ?_
  skip
  refine p_zret hC hr hlocks hM h01 dX8_goesOutward_4 ?_
  exact ⟨rfl, oup_same hO⟩

set_option maxHeartbeats 400000 in
set_option maxRecDepth 100000 in
theorem cm_go_10 (l : Launch) (κ : Nat → Nat) (O : gO) (a : Nat) (mv : Nat → Int32) (nt : Nat) (hO : O a = some (cU 10 mv (fun _ => 0) aNo)) (h01 : mv 2 = 0 ∨ mv 2 = 1) : oM l κ yX8_goesOutward cX8_goesOutward 2 (some .boolean) ({ frames := 0, cells := 0, slots := 0, locals := 0 }) [.ref a, .int (nI nt)] O (fun rv O1 => rv = some (.int (mv 2)) ∧ O1 = O) := by
  intro D ac A
  refine o_body (own := RX8) rfl (plainFor_of_name (by decide)) (Nat.le_of_ble_eq_true rfl) ?_
  intro p e s m args below meth c ls hC hr hlocks hK hM hl hnamed hmeth
  have hl : lv_has ls 2 [(0, .ref a), (1, .int (nI nt))] := hl
  have hM := PS.of hM [(a, cU 10 mv (fun _ => 0) aNo)] ⟨hO, trivial⟩ (by simp [oad])
  refine lv_aload_n hC.1 hC.2.1 dX8_goesOutward_0 rfl (lv_at hl 0 rfl) ?_
  refine p_get hC hK hM 0 rfl in_X10 rfl 2 (by decide) q749 (fun x h => h) rfl dX8_goesOutward_1 ?_
  skip
  refine p_zret hC hr hlocks hM h01 dX8_goesOutward_4 ?_
  exact ⟨rfl, oup_same hO⟩

set_option maxHeartbeats 400000 in
set_option maxRecDepth 100000 in
theorem cm_go_11 (l : Launch) (κ : Nat → Nat) (O : gO) (a : Nat) (mv : Nat → Int32) (nt : Nat) (hO : O a = some (cU 11 mv (fun _ => 0) aNo)) (h01 : mv 2 = 0 ∨ mv 2 = 1) : oM l κ yX8_goesOutward cX8_goesOutward 2 (some .boolean) ({ frames := 0, cells := 0, slots := 0, locals := 0 }) [.ref a, .int (nI nt)] O (fun rv O1 => rv = some (.int (mv 2)) ∧ O1 = O) := by
  intro D ac A
  refine o_body (own := RX8) rfl (plainFor_of_name (by decide)) (Nat.le_of_ble_eq_true rfl) ?_
  intro p e s m args below meth c ls hC hr hlocks hK hM hl hnamed hmeth
  have hl : lv_has ls 2 [(0, .ref a), (1, .int (nI nt))] := hl
  have hM := PS.of hM [(a, cU 11 mv (fun _ => 0) aNo)] ⟨hO, trivial⟩ (by simp [oad])
  refine lv_aload_n hC.1 hC.2.1 dX8_goesOutward_0 rfl (lv_at hl 0 rfl) ?_
  refine p_get hC hK hM 0 rfl in_X11 rfl 2 (by decide) q749 (fun x h => h) rfl dX8_goesOutward_1 ?_
  skip
  refine p_zret hC hr hlocks hM h01 dX8_goesOutward_4 ?_
  exact ⟨rfl, oup_same hO⟩

set_option maxHeartbeats 400000 in
set_option maxRecDepth 100000 in
theorem cm_go_13 (l : Launch) (κ : Nat → Nat) (O : gO) (a : Nat) (mv : Nat → Int32) (nt : Nat) (hO : O a = some (cU 13 mv (fun _ => 0) aNo)) (h01 : mv 2 = 0 ∨ mv 2 = 1) : oM l κ yX13_goesOutward cX13_goesOutward 2 (some .boolean) ({ frames := 0, cells := 0, slots := 0, locals := 0 }) [.ref a, .int (nI nt)] O (fun rv O1 => rv = some (.int (mv 2)) ∧ O1 = O) := by
  intro D ac A
  refine o_body (own := RX13) rfl (plainFor_of_name (by decide)) (Nat.le_of_ble_eq_true rfl) ?_
  intro p e s m args below meth c ls hC hr hlocks hK hM hl hnamed hmeth
  have hl : lv_has ls 2 [(0, .ref a), (1, .int (nI nt))] := hl
  have hM := PS.of hM [(a, cU 13 mv (fun _ => 0) aNo)] ⟨hO, trivial⟩ (by simp [oad])
  refine lv_aload_n hC.1 hC.2.1 dX13_goesOutward_0 rfl (lv_at hl 0 rfl) ?_
  refine p_get hC hK hM 0 rfl in_X13 rfl 2 (by decide) q752 (u_same (hC.2.2.2.2 _ q753)) rfl dX13_goesOutward_1 ?_
  skip
  refine p_zret hC hr hlocks hM h01 dX13_goesOutward_4 ?_
  exact ⟨rfl, oup_same hO⟩

set_option maxHeartbeats 400000 in
set_option maxRecDepth 100000 in
theorem cm_go_12 (l : Launch) (κ : Nat → Nat) (O : gO) (a : Nat) (mv : Nat → Int32) (nt : Nat) (hO : O a = some (cU 12 mv (fun _ => 0) aNo)) (hnt : nt < 2 ^ 30) : oM l κ yX12_goesOutward cX12_goesOutward 2 (some .boolean) ({ frames := 0, cells := 0, slots := 0, locals := 0 }) [.ref a, .int (nI nt)] O (fun rv O1 => rv = some (.int (bI (mv 2 = (if nt % 2 = 0 then 1 else 0)))) ∧ O1 = O) := by
  intro D ac A
  refine o_body (own := RX12) rfl (plainFor_of_name (by decide)) (Nat.le_of_ble_eq_true rfl) ?_
  intro p e s m args below meth c ls hC hr hlocks hK hM hl hnamed hmeth
  have hl : lv_has ls 2 [(0, .ref a), (1, .int (nI nt))] := hl
  have hM := PS.of hM [(a, cU 12 mv (fun _ => 0) aNo)] ⟨hO, trivial⟩ (by simp [oad])
  refine lv_aload_n hC.1 hC.2.1 dX12_goesOutward_0 rfl (lv_at hl 0 rfl) ?_
  refine p_get hC hK hM 0 rfl in_X12 rfl 2 (by decide) q750 (u_same (hC.2.2.2.2 _ q751)) rfl dX12_goesOutward_1 ?_
  refine lv_iload_n hC.1 hC.2.1 dX12_goesOutward_4 rfl (lv_at hl 1 rfl) ?_
  refine lv_iconst (v := 2) hC.1 hC.2.1 dX12_goesOutward_5 (by decide) ?_
  refine lv_irem hC.1 hC.2.1 dX12_goesOutward_6 (by decide) ?_
  rw [show nI nt - nI nt / 2 * 2 = nI (nt % 2) from pk_rem (d := 2) (by omega) (by omega) (by omega)]
  refine lv_if_ne (tgt := 14) hC.1 hC.2.1 dX12_goesOutward_7 (by decide) (fun c1 => ?_) (fun c1 => ?_)
  ·
    skip
    have ce : ¬ nt % 2 = 0 := neq_f (b := 0) c1
    refine lv_iconst (v := 0) hC.1 hC.2.1 dX12_goesOutward_14 (by decide) ?_
    refine lv_icmp_ne (tgt := 22) hC.1 hC.2.1 dX12_goesOutward_15 (by decide) (fun c2 => ?_) (fun c2 => ?_)
    ·
      skip
      have cf := c2
      refine lv_iconst (v := 0) hC.1 hC.2.1 dX12_goesOutward_22 (by decide) ?_
      skip
      refine p_zret hC hr hlocks hM (by first | exact bI_01 _ | exact Or.inl rfl | exact Or.inr rfl) dX12_goesOutward_23 ?_
      refine ⟨?_, oup_same hO⟩
      simp [ce, bI] at cf ⊢
      simp [cf]
    ·
      skip
      have cf := c2
      refine lv_iconst (v := 1) hC.1 hC.2.1 dX12_goesOutward_18 (by decide) ?_
      refine lv_goto (tgt := 23) hC.1 hC.2.1 dX12_goesOutward_19 (by decide) ?_
      skip
      refine p_zret hC hr hlocks hM (by first | exact bI_01 _ | exact Or.inl rfl | exact Or.inr rfl) dX12_goesOutward_23 ?_
      refine ⟨?_, oup_same hO⟩
      simp [ce, bI] at cf ⊢
      simp [cf]
  ·
    skip
    have ce : nt % 2 = 0 := neq_t (b := 0) c1
    refine lv_iconst (v := 1) hC.1 hC.2.1 dX12_goesOutward_10 (by decide) ?_
    refine lv_goto (tgt := 15) hC.1 hC.2.1 dX12_goesOutward_11 (by decide) ?_
    refine lv_icmp_ne (tgt := 22) hC.1 hC.2.1 dX12_goesOutward_15 (by decide) (fun c3 => ?_) (fun c3 => ?_)
    ·
      skip
      have cf := c3
      refine lv_iconst (v := 0) hC.1 hC.2.1 dX12_goesOutward_22 (by decide) ?_
      skip
      refine p_zret hC hr hlocks hM (by first | exact bI_01 _ | exact Or.inl rfl | exact Or.inr rfl) dX12_goesOutward_23 ?_
      refine ⟨?_, oup_same hO⟩
      simp [ce, bI] at cf ⊢
      simp [cf]
    ·
      skip
      have cf := c3
      refine lv_iconst (v := 1) hC.1 hC.2.1 dX12_goesOutward_18 (by decide) ?_
      refine lv_goto (tgt := 23) hC.1 hC.2.1 dX12_goesOutward_19 (by decide) ?_
      skip
      refine p_zret hC hr hlocks hM (by first | exact bI_01 _ | exact Or.inl rfl | exact Or.inr rfl) dX12_goesOutward_23 ?_
      refine ⟨?_, oup_same hO⟩
      simp [ce, bI] at cf ⊢
      simp [cf]

set_option maxHeartbeats 400000 in
set_option maxRecDepth 100000 in
theorem cm_ya_9 (l : Launch) (κ : Nat → Nat) (O : gO) (a : Nat) (mv : Nat → Int32) (hO : O a = some (cU 9 mv (fun _ => 0) aNo)) : oM l κ yX8_yards cX8_yards 1 (some .int) ({ frames := 0, cells := 0, slots := 0, locals := 0 }) [.ref a] O (fun rv O1 => rv = some (.int (mv 3)) ∧ O1 = O) := by
  intro D ac A
  refine o_body (own := RX8) rfl (plainFor_of_name (by decide)) (Nat.le_of_ble_eq_true rfl) ?_
  intro p e s m args below meth c ls hC hr hlocks hK hM hl hnamed hmeth
  have hl : lv_has ls 1 [(0, .ref a)] := hl
  have hM := PS.of hM [(a, cU 9 mv (fun _ => 0) aNo)] ⟨hO, trivial⟩ (by simp [oad])
  refine lv_aload_n hC.1 hC.2.1 dX8_yards_0 rfl (lv_at hl 0 rfl) ?_
  refine p_get hC hK hM 0 rfl in_X9 rfl 3 (by decide) q754 (fun x h => h) rfl dX8_yards_1 ?_
  skip
  refine p_iret hC hr hlocks hM dX8_yards_4 ?_
  exact ⟨rfl, oup_same hO⟩

set_option maxHeartbeats 400000 in
set_option maxRecDepth 100000 in
theorem cm_ya_11 (l : Launch) (κ : Nat → Nat) (O : gO) (a : Nat) (mv : Nat → Int32) (hO : O a = some (cU 11 mv (fun _ => 0) aNo)) : oM l κ yX8_yards cX8_yards 1 (some .int) ({ frames := 0, cells := 0, slots := 0, locals := 0 }) [.ref a] O (fun rv O1 => rv = some (.int (mv 3)) ∧ O1 = O) := by
  intro D ac A
  refine o_body (own := RX8) rfl (plainFor_of_name (by decide)) (Nat.le_of_ble_eq_true rfl) ?_
  intro p e s m args below meth c ls hC hr hlocks hK hM hl hnamed hmeth
  have hl : lv_has ls 1 [(0, .ref a)] := hl
  have hM := PS.of hM [(a, cU 11 mv (fun _ => 0) aNo)] ⟨hO, trivial⟩ (by simp [oad])
  refine lv_aload_n hC.1 hC.2.1 dX8_yards_0 rfl (lv_at hl 0 rfl) ?_
  refine p_get hC hK hM 0 rfl in_X11 rfl 3 (by decide) q754 (fun x h => h) rfl dX8_yards_1 ?_
  skip
  refine p_iret hC hr hlocks hM dX8_yards_4 ?_
  exact ⟨rfl, oup_same hO⟩

set_option maxHeartbeats 400000 in
set_option maxRecDepth 100000 in
theorem cm_ya_12 (l : Launch) (κ : Nat → Nat) (O : gO) (a : Nat) (mv : Nat → Int32) (hO : O a = some (cU 12 mv (fun _ => 0) aNo)) : oM l κ yX8_yards cX8_yards 1 (some .int) ({ frames := 0, cells := 0, slots := 0, locals := 0 }) [.ref a] O (fun rv O1 => rv = some (.int (mv 3)) ∧ O1 = O) := by
  intro D ac A
  refine o_body (own := RX8) rfl (plainFor_of_name (by decide)) (Nat.le_of_ble_eq_true rfl) ?_
  intro p e s m args below meth c ls hC hr hlocks hK hM hl hnamed hmeth
  have hl : lv_has ls 1 [(0, .ref a)] := hl
  have hM := PS.of hM [(a, cU 12 mv (fun _ => 0) aNo)] ⟨hO, trivial⟩ (by simp [oad])
  refine lv_aload_n hC.1 hC.2.1 dX8_yards_0 rfl (lv_at hl 0 rfl) ?_
  refine p_get hC hK hM 0 rfl in_X12 rfl 3 (by decide) q754 (fun x h => h) rfl dX8_yards_1 ?_
  skip
  refine p_iret hC hr hlocks hM dX8_yards_4 ?_
  exact ⟨rfl, oup_same hO⟩

set_option maxHeartbeats 400000 in
set_option maxRecDepth 100000 in
theorem cm_ya_13 (l : Launch) (κ : Nat → Nat) (O : gO) (a : Nat) (mv : Nat → Int32) (hO : O a = some (cU 13 mv (fun _ => 0) aNo)) : oM l κ yX8_yards cX8_yards 1 (some .int) ({ frames := 0, cells := 0, slots := 0, locals := 0 }) [.ref a] O (fun rv O1 => rv = some (.int (mv 3)) ∧ O1 = O) := by
  intro D ac A
  refine o_body (own := RX8) rfl (plainFor_of_name (by decide)) (Nat.le_of_ble_eq_true rfl) ?_
  intro p e s m args below meth c ls hC hr hlocks hK hM hl hnamed hmeth
  have hl : lv_has ls 1 [(0, .ref a)] := hl
  have hM := PS.of hM [(a, cU 13 mv (fun _ => 0) aNo)] ⟨hO, trivial⟩ (by simp [oad])
  refine lv_aload_n hC.1 hC.2.1 dX8_yards_0 rfl (lv_at hl 0 rfl) ?_
  refine p_get hC hK hM 0 rfl in_X13 rfl 3 (by decide) q754 (fun x h => h) rfl dX8_yards_1 ?_
  skip
  refine p_iret hC hr hlocks hM dX8_yards_4 ?_
  exact ⟨rfl, oup_same hO⟩

set_option maxHeartbeats 400000 in
set_option maxRecDepth 100000 in
theorem cm_yb_10 (l : Launch) (κ : Nat → Nat) (O : gO) (a : Nat) (mv : Nat → Int32) (hO : O a = some (cU 10 mv (fun _ => 0) aNo)) : oM l κ yX8_yards cX8_yards 1 (some .int) ({ frames := 0, cells := 0, slots := 0, locals := 0 }) [.ref a] O (fun rv O1 => rv = some (.int (mv 3)) ∧ O1 = O) := by
  intro D ac A
  refine o_body (own := RX8) rfl (plainFor_of_name (by decide)) (Nat.le_of_ble_eq_true rfl) ?_
  intro p e s m args below meth c ls hC hr hlocks hK hM hl hnamed hmeth
  have hl : lv_has ls 1 [(0, .ref a)] := hl
  have hM := PS.of hM [(a, cU 10 mv (fun _ => 0) aNo)] ⟨hO, trivial⟩ (by simp [oad])
  refine lv_aload_n hC.1 hC.2.1 dX8_yards_0 rfl (lv_at hl 0 rfl) ?_
  refine p_get hC hK hM 0 rfl in_X10 rfl 3 (by decide) q754 (fun x h => h) rfl dX8_yards_1 ?_
  skip
  refine p_iret hC hr hlocks hM dX8_yards_4 ?_
  exact ⟨rfl, oup_same hO⟩

set_option maxHeartbeats 400000 in
set_option maxRecDepth 100000 in
theorem cm_ya_10 (l : Launch) (κ : Nat → Nat) (O : gO) (a : Nat) (mv : Nat → Int32) (hO : O a = some (cU 10 mv (fun _ => 0) aNo)) : oM l κ yX10_yards cX10_yards 1 (some .int) ({ frames := 1, cells := 0, slots := 0, locals := 20 }) [.ref a] O (fun rv O1 => rv = some (.int (2 * mv 3)) ∧ O1 = O) := by
  intro D ac A
  refine o_body (own := RX10) rfl (plainFor_of_name (by decide)) (Nat.le_of_ble_eq_true rfl) ?_
  intro p e s m args below meth c ls hC hr hlocks hK hM hl hnamed hmeth
  have hl : lv_has ls 1 [(0, .ref a)] := hl
  have hM := PS.of hM [(a, cU 10 mv (fun _ => 0) aNo)] ⟨hO, trivial⟩ (by simp [oad])
  refine lv_iconst (v := 2) hC.1 hC.2.1 dX10_yards_0 (by decide) ?_
  refine lv_aload_n hC.1 hC.2.1 dX10_yards_1 rfl (lv_at hl 0 rfl) ?_
  refine p_cSXe (L' := [_]) hC hK hM (hM.at 0 rfl) rfl (cm_yb_10 l κ _ a mv (hM.at 0 rfl)) q957 q958 q774 q763 q952 q89 q964 rfl (by decide) (by decide +kernel) ⟨Nat.le_of_ble_eq_true rfl, Nat.le_of_ble_eq_true rfl⟩ rfl hl.1 rfl (lv_room (Nat.le_of_ble_eq_true rfl)) dX10_yards_2 ⟨Nat.le_of_ble_eq_true rfl, Nat.le_of_ble_eq_true rfl⟩ rfl hM.2 (fun H locs hM => ?_)
  refine lv_imul hC.1 hC.2.1 dX10_yards_5 ?_
  skip
  refine p_iret hC hr hlocks hM dX10_yards_6 ?_
  exact ⟨rfl, oup_same hO⟩

set_option maxHeartbeats 400000 in
set_option maxRecDepth 100000 in
theorem cm_ou_9 (l : Launch) (κ : Nat → Nat) (O : gO) (a : Nat) (mv : Nat → Int32) (x y : Int32) (hO : O a = some (cU 9 mv (fun _ => 0) aNo)) : oM l κ yX8_isOut cX8_isOut 3 (some .boolean) ({ frames := 0, cells := 0, slots := 0, locals := 0 }) [.ref a, .int x, .int y] O (fun rv O1 => rv = some (.int 1) ∧ O1 = O) := by
  intro D ac A
  refine o_body (own := RX8) rfl (plainFor_of_name (by decide)) (Nat.le_of_ble_eq_true rfl) ?_
  intro p e s m args below meth c ls hC hr hlocks hK hM hl hnamed hmeth
  have hl : lv_has ls 3 [(0, .ref a), (1, .int x), (2, .int y)] := hl
  have hM := PS.of hM [(a, cU 9 mv (fun _ => 0) aNo)] ⟨hO, trivial⟩ (by simp [oad])
  refine lv_iconst (v := 1) hC.1 hC.2.1 dX8_isOut_0 (by decide) ?_
  skip
  refine p_zret hC hr hlocks hM (by first | exact bI_01 _ | exact Or.inl rfl | exact Or.inr rfl) dX8_isOut_1 ?_
  exact ⟨rfl, oup_same hO⟩

set_option maxHeartbeats 400000 in
set_option maxRecDepth 100000 in
theorem cm_ou_10 (l : Launch) (κ : Nat → Nat) (O : gO) (a : Nat) (mv : Nat → Int32) (x y : Int32) (hO : O a = some (cU 10 mv (fun _ => 0) aNo)) : oM l κ yX8_isOut cX8_isOut 3 (some .boolean) ({ frames := 0, cells := 0, slots := 0, locals := 0 }) [.ref a, .int x, .int y] O (fun rv O1 => rv = some (.int 1) ∧ O1 = O) := by
  intro D ac A
  refine o_body (own := RX8) rfl (plainFor_of_name (by decide)) (Nat.le_of_ble_eq_true rfl) ?_
  intro p e s m args below meth c ls hC hr hlocks hK hM hl hnamed hmeth
  have hl : lv_has ls 3 [(0, .ref a), (1, .int x), (2, .int y)] := hl
  have hM := PS.of hM [(a, cU 10 mv (fun _ => 0) aNo)] ⟨hO, trivial⟩ (by simp [oad])
  refine lv_iconst (v := 1) hC.1 hC.2.1 dX8_isOut_0 (by decide) ?_
  skip
  refine p_zret hC hr hlocks hM (by first | exact bI_01 _ | exact Or.inl rfl | exact Or.inr rfl) dX8_isOut_1 ?_
  exact ⟨rfl, oup_same hO⟩

set_option maxHeartbeats 400000 in
set_option maxRecDepth 100000 in
theorem cm_ou_12 (l : Launch) (κ : Nat → Nat) (O : gO) (a : Nat) (mv : Nat → Int32) (x y : Int32) (hO : O a = some (cU 12 mv (fun _ => 0) aNo)) : oM l κ yX8_isOut cX8_isOut 3 (some .boolean) ({ frames := 0, cells := 0, slots := 0, locals := 0 }) [.ref a, .int x, .int y] O (fun rv O1 => rv = some (.int 1) ∧ O1 = O) := by
  intro D ac A
  refine o_body (own := RX8) rfl (plainFor_of_name (by decide)) (Nat.le_of_ble_eq_true rfl) ?_
  intro p e s m args below meth c ls hC hr hlocks hK hM hl hnamed hmeth
  have hl : lv_has ls 3 [(0, .ref a), (1, .int x), (2, .int y)] := hl
  have hM := PS.of hM [(a, cU 12 mv (fun _ => 0) aNo)] ⟨hO, trivial⟩ (by simp [oad])
  refine lv_iconst (v := 1) hC.1 hC.2.1 dX8_isOut_0 (by decide) ?_
  skip
  refine p_zret hC hr hlocks hM (by first | exact bI_01 _ | exact Or.inl rfl | exact Or.inr rfl) dX8_isOut_1 ?_
  exact ⟨rfl, oup_same hO⟩

set_option maxHeartbeats 400000 in
set_option maxRecDepth 100000 in
theorem cm_ou_11 (l : Launch) (κ : Nat → Nat) (O : gO) (a : Nat) (mv : Nat → Int32) (nt : Nat) (y : Int32) (hO : O a = some (cU 11 mv (fun _ => 0) aNo)) (hnt : nt < 2 ^ 30) : oM l κ yX11_isOut cX11_isOut 3 (some .boolean) ({ frames := 0, cells := 0, slots := 0, locals := 0 }) [.ref a, .int (nI nt), .int y] O (fun rv O1 => rv = some (.int (bI (nt % 2 = 0))) ∧ O1 = O) := by
  intro D ac A
  refine o_body (own := RX11) rfl (plainFor_of_name (by decide)) (Nat.le_of_ble_eq_true rfl) ?_
  intro p e s m args below meth c ls hC hr hlocks hK hM hl hnamed hmeth
  have hl : lv_has ls 3 [(0, .ref a), (1, .int (nI nt)), (2, .int y)] := hl
  have hM := PS.of hM [(a, cU 11 mv (fun _ => 0) aNo)] ⟨hO, trivial⟩ (by simp [oad])
  refine lv_iload_n hC.1 hC.2.1 dX11_isOut_0 rfl (lv_at hl 1 rfl) ?_
  refine lv_iconst (v := 2) hC.1 hC.2.1 dX11_isOut_1 (by decide) ?_
  refine lv_irem hC.1 hC.2.1 dX11_isOut_2 (by decide) ?_
  rw [show nI nt - nI nt / 2 * 2 = nI (nt % 2) from pk_rem (d := 2) (by omega) (by omega) (by omega)]
  refine lv_if_ne (tgt := 10) hC.1 hC.2.1 dX11_isOut_3 (by decide) (fun c1 => ?_) (fun c1 => ?_)
  ·
    skip
    have ce : ¬ nt % 2 = 0 := neq_f (b := 0) c1
    refine lv_iconst (v := 0) hC.1 hC.2.1 dX11_isOut_10 (by decide) ?_
    skip
    refine p_zret hC hr hlocks hM (by first | exact bI_01 _ | exact Or.inl rfl | exact Or.inr rfl) dX11_isOut_11 ?_
    exact ⟨by simp [ce, bI], oup_same hO⟩
  ·
    skip
    have ce : nt % 2 = 0 := neq_t (b := 0) c1
    refine lv_iconst (v := 1) hC.1 hC.2.1 dX11_isOut_6 (by decide) ?_
    refine lv_goto (tgt := 11) hC.1 hC.2.1 dX11_isOut_7 (by decide) ?_
    skip
    refine p_zret hC hr hlocks hM (by first | exact bI_01 _ | exact Or.inl rfl | exact Or.inr rfl) dX11_isOut_11 ?_
    exact ⟨by simp [ce, bI], oup_same hO⟩

set_option maxHeartbeats 400000 in
set_option maxRecDepth 100000 in
theorem cm_ou_13 (l : Launch) (κ : Nat → Nat) (O : gO) (a : Nat) (mv : Nat → Int32) (x y : Int32) (hO : O a = some (cU 13 mv (fun _ => 0) aNo)) (h01 : y = 0 ∨ y = 1) : oM l κ yX13_isOut cX13_isOut 3 (some .boolean) ({ frames := 0, cells := 0, slots := 0, locals := 0 }) [.ref a, .int x, .int y] O (fun rv O1 => rv = some (.int y) ∧ O1 = O) := by
  intro D ac A
  refine o_body (own := RX13) rfl (plainFor_of_name (by decide)) (Nat.le_of_ble_eq_true rfl) ?_
  intro p e s m args below meth c ls hC hr hlocks hK hM hl hnamed hmeth
  have hl : lv_has ls 3 [(0, .ref a), (1, .int x), (2, .int y)] := hl
  have hM := PS.of hM [(a, cU 13 mv (fun _ => 0) aNo)] ⟨hO, trivial⟩ (by simp [oad])
  refine lv_iload_n hC.1 hC.2.1 dX13_isOut_0 rfl (lv_at hl 2 rfl) ?_
  skip
  refine p_zret hC hr hlocks hM h01 dX13_isOut_1 ?_
  exact ⟨rfl, oup_same hO⟩

set_option maxHeartbeats 400000 in
set_option maxRecDepth 100000 in
theorem cm_ki_9 (l : Launch) (κ : Nat → Nat) (O : gO) (a : Nat) (mv : Nat → Int32) (hO : O a = some (cU 9 mv (fun _ => 0) aNo)) : oM l κ yX9_kind cX9_kind 1 (some .int) ({ frames := 0, cells := 0, slots := 0, locals := 0 }) [.ref a] O (fun rv O1 => rv = some (.int 1) ∧ O1 = O) := by
  intro D ac A
  refine o_body (own := RX9) rfl (plainFor_of_name (by decide)) (Nat.le_of_ble_eq_true rfl) ?_
  intro p e s m args below meth c ls hC hr hlocks hK hM hl hnamed hmeth
  have hl : lv_has ls 1 [(0, .ref a)] := hl
  have hM := PS.of hM [(a, cU 9 mv (fun _ => 0) aNo)] ⟨hO, trivial⟩ (by simp [oad])
  refine lv_iconst (v := 1) hC.1 hC.2.1 dX9_kind_0 (by decide) ?_
  skip
  refine p_iret hC hr hlocks hM dX9_kind_1 ?_
  exact ⟨rfl, oup_same hO⟩

set_option maxHeartbeats 400000 in
set_option maxRecDepth 100000 in
theorem cm_ki_10 (l : Launch) (κ : Nat → Nat) (O : gO) (a : Nat) (mv : Nat → Int32) (hO : O a = some (cU 10 mv (fun _ => 0) aNo)) : oM l κ yX10_kind cX10_kind 1 (some .int) ({ frames := 0, cells := 0, slots := 0, locals := 0 }) [.ref a] O (fun rv O1 => rv = some (.int 2) ∧ O1 = O) := by
  intro D ac A
  refine o_body (own := RX10) rfl (plainFor_of_name (by decide)) (Nat.le_of_ble_eq_true rfl) ?_
  intro p e s m args below meth c ls hC hr hlocks hK hM hl hnamed hmeth
  have hl : lv_has ls 1 [(0, .ref a)] := hl
  have hM := PS.of hM [(a, cU 10 mv (fun _ => 0) aNo)] ⟨hO, trivial⟩ (by simp [oad])
  refine lv_iconst (v := 2) hC.1 hC.2.1 dX10_kind_0 (by decide) ?_
  skip
  refine p_iret hC hr hlocks hM dX10_kind_1 ?_
  exact ⟨rfl, oup_same hO⟩

set_option maxHeartbeats 400000 in
set_option maxRecDepth 100000 in
theorem cm_ki_11 (l : Launch) (κ : Nat → Nat) (O : gO) (a : Nat) (mv : Nat → Int32) (hO : O a = some (cU 11 mv (fun _ => 0) aNo)) : oM l κ yX11_kind cX11_kind 1 (some .int) ({ frames := 0, cells := 0, slots := 0, locals := 0 }) [.ref a] O (fun rv O1 => rv = some (.int 3) ∧ O1 = O) := by
  intro D ac A
  refine o_body (own := RX11) rfl (plainFor_of_name (by decide)) (Nat.le_of_ble_eq_true rfl) ?_
  intro p e s m args below meth c ls hC hr hlocks hK hM hl hnamed hmeth
  have hl : lv_has ls 1 [(0, .ref a)] := hl
  have hM := PS.of hM [(a, cU 11 mv (fun _ => 0) aNo)] ⟨hO, trivial⟩ (by simp [oad])
  refine lv_iconst (v := 3) hC.1 hC.2.1 dX11_kind_0 (by decide) ?_
  skip
  refine p_iret hC hr hlocks hM dX11_kind_1 ?_
  exact ⟨rfl, oup_same hO⟩

set_option maxHeartbeats 400000 in
set_option maxRecDepth 100000 in
theorem cm_ki_12 (l : Launch) (κ : Nat → Nat) (O : gO) (a : Nat) (mv : Nat → Int32) (hO : O a = some (cU 12 mv (fun _ => 0) aNo)) : oM l κ yX12_kind cX12_kind 1 (some .int) ({ frames := 0, cells := 0, slots := 0, locals := 0 }) [.ref a] O (fun rv O1 => rv = some (.int 4) ∧ O1 = O) := by
  intro D ac A
  refine o_body (own := RX12) rfl (plainFor_of_name (by decide)) (Nat.le_of_ble_eq_true rfl) ?_
  intro p e s m args below meth c ls hC hr hlocks hK hM hl hnamed hmeth
  have hl : lv_has ls 1 [(0, .ref a)] := hl
  have hM := PS.of hM [(a, cU 12 mv (fun _ => 0) aNo)] ⟨hO, trivial⟩ (by simp [oad])
  refine lv_iconst (v := 4) hC.1 hC.2.1 dX12_kind_0 (by decide) ?_
  skip
  refine p_iret hC hr hlocks hM dX12_kind_1 ?_
  exact ⟨rfl, oup_same hO⟩

set_option maxHeartbeats 400000 in
set_option maxRecDepth 100000 in
theorem cm_ki_13 (l : Launch) (κ : Nat → Nat) (O : gO) (a : Nat) (mv : Nat → Int32) (hO : O a = some (cU 13 mv (fun _ => 0) aNo)) : oM l κ yX13_kind cX13_kind 1 (some .int) ({ frames := 0, cells := 0, slots := 0, locals := 0 }) [.ref a] O (fun rv O1 => rv = some (.int 5) ∧ O1 = O) := by
  intro D ac A
  refine o_body (own := RX13) rfl (plainFor_of_name (by decide)) (Nat.le_of_ble_eq_true rfl) ?_
  intro p e s m args below meth c ls hC hr hlocks hK hM hl hnamed hmeth
  have hl : lv_has ls 1 [(0, .ref a)] := hl
  have hM := PS.of hM [(a, cU 13 mv (fun _ => 0) aNo)] ⟨hO, trivial⟩ (by simp [oad])
  refine lv_iconst (v := 5) hC.1 hC.2.1 dX13_kind_0 (by decide) ?_
  skip
  refine p_iret hC hr hlocks hM dX13_kind_1 ?_
  exact ⟨rfl, oup_same hO⟩

set_option maxHeartbeats 400000 in
set_option maxRecDepth 100000 in
theorem cm_nu_9 (l : Launch) (κ : Nat → Nat) (O : gO) (a : Nat) (mv : Nat → Int32) (hO : O a = some (cU 9 mv (fun _ => 0) aNo)) : oM l κ yX8_number cX8_number 1 (some .int) ({ frames := 0, cells := 0, slots := 0, locals := 0 }) [.ref a] O (fun rv O1 => rv = some (.int (mv 0)) ∧ O1 = O) := by
  intro D ac A
  refine o_body (own := RX8) rfl (plainFor_of_name (by decide)) (Nat.le_of_ble_eq_true rfl) ?_
  intro p e s m args below meth c ls hC hr hlocks hK hM hl hnamed hmeth
  have hl : lv_has ls 1 [(0, .ref a)] := hl
  have hM := PS.of hM [(a, cU 9 mv (fun _ => 0) aNo)] ⟨hO, trivial⟩ (by simp [oad])
  refine lv_aload_n hC.1 hC.2.1 dX8_number_0 rfl (lv_at hl 0 rfl) ?_
  refine p_get hC hK hM 0 rfl in_X9 rfl 0 (by decide) q744 (fun x h => h) rfl dX8_number_1 ?_
  skip
  refine p_iret hC hr hlocks hM dX8_number_4 ?_
  exact ⟨rfl, oup_same hO⟩

set_option maxHeartbeats 400000 in
set_option maxRecDepth 100000 in
theorem cm_nu_10 (l : Launch) (κ : Nat → Nat) (O : gO) (a : Nat) (mv : Nat → Int32) (hO : O a = some (cU 10 mv (fun _ => 0) aNo)) : oM l κ yX8_number cX8_number 1 (some .int) ({ frames := 0, cells := 0, slots := 0, locals := 0 }) [.ref a] O (fun rv O1 => rv = some (.int (mv 0)) ∧ O1 = O) := by
  intro D ac A
  refine o_body (own := RX8) rfl (plainFor_of_name (by decide)) (Nat.le_of_ble_eq_true rfl) ?_
  intro p e s m args below meth c ls hC hr hlocks hK hM hl hnamed hmeth
  have hl : lv_has ls 1 [(0, .ref a)] := hl
  have hM := PS.of hM [(a, cU 10 mv (fun _ => 0) aNo)] ⟨hO, trivial⟩ (by simp [oad])
  refine lv_aload_n hC.1 hC.2.1 dX8_number_0 rfl (lv_at hl 0 rfl) ?_
  refine p_get hC hK hM 0 rfl in_X10 rfl 0 (by decide) q744 (fun x h => h) rfl dX8_number_1 ?_
  skip
  refine p_iret hC hr hlocks hM dX8_number_4 ?_
  exact ⟨rfl, oup_same hO⟩

set_option maxHeartbeats 400000 in
set_option maxRecDepth 100000 in
theorem cm_nu_11 (l : Launch) (κ : Nat → Nat) (O : gO) (a : Nat) (mv : Nat → Int32) (hO : O a = some (cU 11 mv (fun _ => 0) aNo)) : oM l κ yX8_number cX8_number 1 (some .int) ({ frames := 0, cells := 0, slots := 0, locals := 0 }) [.ref a] O (fun rv O1 => rv = some (.int (mv 0)) ∧ O1 = O) := by
  intro D ac A
  refine o_body (own := RX8) rfl (plainFor_of_name (by decide)) (Nat.le_of_ble_eq_true rfl) ?_
  intro p e s m args below meth c ls hC hr hlocks hK hM hl hnamed hmeth
  have hl : lv_has ls 1 [(0, .ref a)] := hl
  have hM := PS.of hM [(a, cU 11 mv (fun _ => 0) aNo)] ⟨hO, trivial⟩ (by simp [oad])
  refine lv_aload_n hC.1 hC.2.1 dX8_number_0 rfl (lv_at hl 0 rfl) ?_
  refine p_get hC hK hM 0 rfl in_X11 rfl 0 (by decide) q744 (fun x h => h) rfl dX8_number_1 ?_
  skip
  refine p_iret hC hr hlocks hM dX8_number_4 ?_
  exact ⟨rfl, oup_same hO⟩

set_option maxHeartbeats 400000 in
set_option maxRecDepth 100000 in
theorem cm_nu_12 (l : Launch) (κ : Nat → Nat) (O : gO) (a : Nat) (mv : Nat → Int32) (hO : O a = some (cU 12 mv (fun _ => 0) aNo)) : oM l κ yX8_number cX8_number 1 (some .int) ({ frames := 0, cells := 0, slots := 0, locals := 0 }) [.ref a] O (fun rv O1 => rv = some (.int (mv 0)) ∧ O1 = O) := by
  intro D ac A
  refine o_body (own := RX8) rfl (plainFor_of_name (by decide)) (Nat.le_of_ble_eq_true rfl) ?_
  intro p e s m args below meth c ls hC hr hlocks hK hM hl hnamed hmeth
  have hl : lv_has ls 1 [(0, .ref a)] := hl
  have hM := PS.of hM [(a, cU 12 mv (fun _ => 0) aNo)] ⟨hO, trivial⟩ (by simp [oad])
  refine lv_aload_n hC.1 hC.2.1 dX8_number_0 rfl (lv_at hl 0 rfl) ?_
  refine p_get hC hK hM 0 rfl in_X12 rfl 0 (by decide) q744 (fun x h => h) rfl dX8_number_1 ?_
  skip
  refine p_iret hC hr hlocks hM dX8_number_4 ?_
  exact ⟨rfl, oup_same hO⟩

set_option maxHeartbeats 400000 in
set_option maxRecDepth 100000 in
theorem cm_nu_13 (l : Launch) (κ : Nat → Nat) (O : gO) (a : Nat) (mv : Nat → Int32) (hO : O a = some (cU 13 mv (fun _ => 0) aNo)) : oM l κ yX8_number cX8_number 1 (some .int) ({ frames := 0, cells := 0, slots := 0, locals := 0 }) [.ref a] O (fun rv O1 => rv = some (.int (mv 0)) ∧ O1 = O) := by
  intro D ac A
  refine o_body (own := RX8) rfl (plainFor_of_name (by decide)) (Nat.le_of_ble_eq_true rfl) ?_
  intro p e s m args below meth c ls hC hr hlocks hK hM hl hnamed hmeth
  have hl : lv_has ls 1 [(0, .ref a)] := hl
  have hM := PS.of hM [(a, cU 13 mv (fun _ => 0) aNo)] ⟨hO, trivial⟩ (by simp [oad])
  refine lv_aload_n hC.1 hC.2.1 dX8_number_0 rfl (lv_at hl 0 rfl) ?_
  refine p_get hC hK hM 0 rfl in_X13 rfl 0 (by decide) q744 (fun x h => h) rfl dX8_number_1 ?_
  skip
  refine p_iret hC hr hlocks hM dX8_number_4 ?_
  exact ⟨rfl, oup_same hO⟩
