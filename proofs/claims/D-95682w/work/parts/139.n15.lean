set_option maxHeartbeats 400000 in
set_option maxRecDepth 100000 in
theorem cn_init (l : Launch) (κ : Nat → Nat) (O : gO) (no : Nat) (hO : O no = some (.inr (0, [.null, .null, .int 0, .int 0, .null, .null, .null, .int 0, .null, .null, .int 0, .null], aNo))) : oM l κ yX0_init cX0_init 1 none ({ frames := 5, cells := 21, slots := 677, locals := 92 }) [.ref no] O (fun rv O1 => ∃ (ad d4 d5 : Nat → Nat) (b : Nat), O (ad 4) = none ∧ O (d4 8) = none ∧ O (ad 5) = none ∧ O (d5 8) = none ∧ O (ad 9) = none ∧ ([no, ad 4, d4 8, ad 5, d5 8, ad 9] : List Nat).Nodup ∧ O1 = oups O [(no, nsU (fun _ => 0) ad (fun _ _ => none) (fun _ _ => 0)), (ad 4, rdU (fun _ => 0) d4 (fun _ _ => 0)), (d4 8, lsU 0 (κ 0) 0 aNo), (ad 5, rdU (fun _ => 0) d5 (fun _ _ => 0)), (d5 8, lsU 0 (κ 0) 0 aNo), (ad 9, cU 2 (fun _ => 0) (fun _ => b) (oar 0 0 16 (fun _ => 0)))] ∧ rv = none) := by
  intro D ac A
  refine o_body (own := RX0) rfl (plainFor_of_name (by decide)) (Nat.le_of_ble_eq_true rfl) ?_
  intro p e s m args below meth c ls hC hr hlocks hK hM hl hnamed hmeth
  have hl : lv_has ls 1 [(0, .ref no)] := hl
  have hnm : meth.name = "<init>" := (name_of_methodNamed hnamed hmeth).1
  have hM := PS.of hM [(no, .inr (0, [.null, .null, .int 0, .int 0, .null, .null, .null, .int 0, .null, .null, .int 0, .null], aNo))] ⟨hO, trivial⟩ (by simp [oad])
  refine lv_aload_n hC.1 hC.2.1 dX0_init_0 rfl (lv_at hl 0 rfl) ?_
  refine W.objInit hC.1 hC.2.1 hC.2.2.2.1 (hC.2.2.2.2 _ q103) (hC.2.2.2.2 _ q104) (hC.2.2.2.2 _ q105) rfl (by rw [hC.2.2.1]; exact hl.1) rfl dX0_init_1 (Nat.le_of_ble_eq_true rfl) (Nat.le_of_ble_eq_true rfl) ?_
  refine W.eq (g2 := F0 m 4 ls []) rfl ?_
  refine lv_aload_n hC.1 hC.2.1 dX0_init_4 rfl (lv_at hl 0 rfl) ?_
  refine lv_bipush (v := 8) hC.1 hC.2.1 dX0_init_5 (by decide) ?_
  refine p_newq (L' := fun q => [_, _]) hC hK hM (k := 3) rfl q106 (by decide) (N := 8) rfl (by decide) (Nat.le_of_ble_eq_true rfl) (Nat.le_of_ble_eq_true rfl) dX0_init_7 (fun q => rfl) (fun q_1 H hq_1 hM => ?_)
  refine p_adoptF (L' := [_]) hC hK hM 0 rfl 1 rfl hq_1 (by decide) in_X0 tyX0 tyX0_ok nmX0 rfl 0 (by decide) q219 (fun x h => h) rfl hnm rfl rfl rfl (Nat.le_of_ble_eq_true rfl) (u' := .inr (0, [_, _, _, _, _, _, _, _, _, _, _, _], _)) rfl rfl dX0_init_10 (fun H locs hM => ?_)
  refine lv_aload_n hC.1 hC.2.1 dX0_init_13 rfl (lv_at hl 0 rfl) ?_
  refine lv_sipush (v := 400) hC.1 hC.2.1 dX0_init_14 (by decide) ?_
  refine p_newb (L' := fun q => [_, _]) hC hK hM q140 (N := 400) rfl (by decide) (Nat.le_of_ble_eq_true rfl) (Nat.le_of_ble_eq_true rfl) dX0_init_17 (fun q => rfl) (fun q_2 H hq_2 hM => ?_)
  refine p_adoptF (L' := [_]) hC hK hM 0 rfl 1 rfl hq_2 (by decide) in_X0 tyX0 tyX0_ok nmX0 rfl 1 (by decide) q220 (fun x h => h) rfl hnm rfl rfl rfl (Nat.le_of_ble_eq_true rfl) (u' := .inr (0, [_, _, _, _, _, _, _, _, _, _, _, _], _)) rfl rfl dX0_init_19 (fun H locs hM => ?_)
  refine lv_aload_n hC.1 hC.2.1 dX0_init_22 rfl (lv_at hl 0 rfl) ?_
  refine p_new (L' := fun q => [_, _]) hC hK hM (ci := 1) in_X1 tyX1 tyX1_ok q108 q109 q64 rfl (fs := [.int 0, .int 0, .int 0, .int 0, .int 0, .null, .null, .null, .null, .int 0, .null, .int 0, .null]) (by decide) (Nat.le_of_ble_eq_true rfl) (Nat.le_of_ble_eq_true rfl) dX0_init_23 (fun q => rfl) (fun q_3 H hq_3 hM => ?_)
  refine lv_dup hC.1 hC.2.1 dX0_init_26 rfl ?_
  refine o_cIN hC hK hM.1 (cr_init l κ _ q_3 (hM.at 1 rfl)) ⟨va_cnB 0 hC.2.2.2.2 (lw_meth q112) rfl rfl rfl (hK.1.2.1 _ q110 rfl) (hC.2.2.2.2 _ q64) (by decide +kernel) ⟨(Nat.le_of_ble_eq_true rfl), (Nat.le_of_ble_eq_true rfl)⟩, rfl, hC.2.2.2.2 _ q111⟩ rfl hl.1 rfl (lv_room (Nat.le_of_ble_eq_true rfl)) dX0_init_27 ⟨(Nat.le_of_ble_eq_true rfl), (Nat.le_of_ble_eq_true rfl)⟩ (fun rv O1 H locs hp hM1 => ?_)
  obtain ⟨d4, hp1, hp2, hp3⟩ := hp
  subst hp3
  rw [hp2] at hM1
  obtain ⟨hpn4, hpo4, hM⟩ := PS.newR (L' := [_, _, _]) hM.2 (i := 1) rfl hp1 hM1 rfl
  refine p_putFR (L' := [_, _, _]) hC hK hM 0 rfl in_X0 tyX0 tyX0_ok nmX0 rfl 4 (by decide) q223 (fun x h => h) rfl hnm rfl rfl rfl (Nat.le_of_ble_eq_true rfl) rfl (u' := .inr (0, [_, _, _, _, _, _, _, _, _, _, _, _], _)) rfl rfl dX0_init_30 (fun H locs hM => ?_)
  refine lv_aload_n hC.1 hC.2.1 dX0_init_33 rfl (lv_at hl 0 rfl) ?_
  refine p_new (L' := fun q => [_, _, _, _]) hC hK hM (ci := 1) in_X1 tyX1 tyX1_ok q108 q109 q64 rfl (fs := [.int 0, .int 0, .int 0, .int 0, .int 0, .null, .null, .null, .null, .int 0, .null, .int 0, .null]) (by decide) (Nat.le_of_ble_eq_true rfl) (Nat.le_of_ble_eq_true rfl) dX0_init_34 (fun q => rfl) (fun q_4 H hq_4 hM => ?_)
  refine lv_dup hC.1 hC.2.1 dX0_init_37 rfl ?_
  refine o_cIN hC hK hM.1 (cr_init l κ _ q_4 (hM.at 3 rfl)) ⟨va_cnB 0 hC.2.2.2.2 (lw_meth q112) rfl rfl rfl (hK.1.2.1 _ q110 rfl) (hC.2.2.2.2 _ q64) (by decide +kernel) ⟨(Nat.le_of_ble_eq_true rfl), (Nat.le_of_ble_eq_true rfl)⟩, rfl, hC.2.2.2.2 _ q111⟩ rfl hl.1 rfl (lv_room (Nat.le_of_ble_eq_true rfl)) dX0_init_38 ⟨(Nat.le_of_ble_eq_true rfl), (Nat.le_of_ble_eq_true rfl)⟩ (fun rv O1 H locs hp hM1 => ?_)
  obtain ⟨d5, hp1, hp2, hp3⟩ := hp
  subst hp3
  rw [hp2] at hM1
  obtain ⟨hpn5, hpo5, hM⟩ := PS.newR (L' := [_, _, _, _, _]) hM.2 (i := 3) rfl hp1 hM1 rfl
  refine p_putFR (L' := [_, _, _, _, _]) hC hK hM 0 rfl in_X0 tyX0 tyX0_ok nmX0 rfl 5 (by decide) q224 (fun x h => h) rfl hnm rfl rfl rfl (Nat.le_of_ble_eq_true rfl) rfl (u' := .inr (0, [_, _, _, _, _, _, _, _, _, _, _, _], _)) rfl rfl dX0_init_41 (fun H locs hM => ?_)
  refine lv_aload_n hC.1 hC.2.1 dX0_init_44 rfl (lv_at hl 0 rfl) ?_
  refine lv_bipush (v := 24) hC.1 hC.2.1 dX0_init_45 (by decide) ?_
  refine p_newq (L' := fun q => [_, _, _, _, _, _]) hC hK hM (k := 4) rfl q108 (by decide) (N := 24) rfl (by decide) (Nat.le_of_ble_eq_true rfl) (Nat.le_of_ble_eq_true rfl) dX0_init_47 (fun q => rfl) (fun q_5 H hq_5 hM => ?_)
  refine p_adoptF (L' := [_, _, _, _, _]) hC hK hM 0 rfl 5 rfl hq_5 (by decide) in_X0 tyX0 tyX0_ok nmX0 rfl 6 (by decide) q225 (fun x h => h) rfl hnm rfl rfl rfl (Nat.le_of_ble_eq_true rfl) (u' := .inr (0, [_, _, _, _, _, _, _, _, _, _, _, _], _)) rfl rfl dX0_init_50 (fun H locs hM => ?_)
  refine lv_aload_n hC.1 hC.2.1 dX0_init_53 rfl (lv_at hl 0 rfl) ?_
  refine lv_iconst (v := 2) hC.1 hC.2.1 dX0_init_54 (by decide) ?_
  refine p_newq (L' := fun q => [_, _, _, _, _, _]) hC hK hM (k := 4) rfl q108 (by decide) (N := 2) rfl (by decide) (Nat.le_of_ble_eq_true rfl) (Nat.le_of_ble_eq_true rfl) dX0_init_55 (fun q => rfl) (fun q_6 H hq_6 hM => ?_)
  refine p_adoptF (L' := [_, _, _, _, _]) hC hK hM 0 rfl 5 rfl hq_6 (by decide) in_X0 tyX0 tyX0_ok nmX0 rfl 8 (by decide) q227 (fun x h => h) rfl hnm rfl rfl rfl (Nat.le_of_ble_eq_true rfl) (u' := .inr (0, [_, _, _, _, _, _, _, _, _, _, _, _], _)) rfl rfl dX0_init_58 (fun H locs hM => ?_)
  refine lv_aload_n hC.1 hC.2.1 dX0_init_61 rfl (lv_at hl 0 rfl) ?_
  refine p_new (L' := fun q => [_, _, _, _, _, _]) hC hK hM (ci := 2) in_X2 tyX2 tyX2_ok q204 q205 q68 rfl (fs := [.null, .int 0]) (by decide) (Nat.le_of_ble_eq_true rfl) (Nat.le_of_ble_eq_true rfl) dX0_init_62 (fun q => rfl) (fun q_7 H hq_7 hM => ?_)
  refine lv_dup hC.1 hC.2.1 dX0_init_65 rfl ?_
  refine o_cIN hC hK hM.1 (ct_init l κ _ q_7 (hM.at 5 rfl)) ⟨va_cnB 0 hC.2.2.2.2 (lw_meth q208) rfl rfl rfl (hK.1.2.1 _ q206 rfl) (hC.2.2.2.2 _ q68) (by decide +kernel) ⟨(Nat.le_of_ble_eq_true rfl), (Nat.le_of_ble_eq_true rfl)⟩, rfl, hC.2.2.2.2 _ q207⟩ rfl hl.1 rfl (lv_room (Nat.le_of_ble_eq_true rfl)) dX0_init_66 ⟨(Nat.le_of_ble_eq_true rfl), (Nat.le_of_ble_eq_true rfl)⟩ (fun rv O1 H locs hp hM1 => ?_)
  obtain ⟨tb, rfl, rfl⟩ := hp
  have hM := hM.set (L' := [_, _, _, _, _, _]) (i := 5) rfl hM1 rfl
  refine p_putR (L' := [_, _, _, _, _, _]) hC hK hM 0 rfl in_X0 tyX0 tyX0_ok nmX0 rfl 9 (by decide) q228 (fun x h => h) rfl rfl rfl (Nat.le_of_ble_eq_true rfl) rfl (u' := .inr (0, [_, _, _, _, _, _, _, _, _, _, _, _], _)) rfl rfl dX0_init_69 (fun H locs hM => ?_)
  refine lv_aload_n hC.1 hC.2.1 dX0_init_72 rfl (lv_at hl 0 rfl) ?_
  refine lv_bipush (v := 49) hC.1 hC.2.1 dX0_init_73 (by decide) ?_
  refine p_newi (L' := fun q => [_, _, _, _, _, _, _]) hC hK hM q141 (N := 49) rfl (by decide) (Nat.le_of_ble_eq_true rfl) (Nat.le_of_ble_eq_true rfl) dX0_init_75 (fun q => rfl) (fun q_8 H hq_8 hM => ?_)
  refine p_adoptF (L' := [_, _, _, _, _, _]) hC hK hM 0 rfl 6 rfl hq_8 (by decide) in_X0 tyX0 tyX0_ok nmX0 rfl 11 (by decide) q230 (fun x h => h) rfl hnm rfl rfl rfl (Nat.le_of_ble_eq_true rfl) (u' := .inr (0, [_, _, _, _, _, _, _, _, _, _, _, _], _)) rfl rfl dX0_init_77 (fun H locs hM => ?_)
  refine W.widen (k := 21) (n := 677) (Nat.le_of_ble_eq_true rfl) (Nat.le_of_ble_eq_true rfl) ?_
  refine p_vret hC hr hlocks hM dX0_init_80 ?_
  refine ⟨updN (updN (updN (updN (updN (updN (updN (updN (fun _ => 0) 0 q_1) 1 q_2) 4 q_3) 5 q_4) 6 q_5) 8 q_6) 9 q_7) 11 q_8, d4, d5, tb, hq_3, hpn4, hq_4, hpn5, hq_7, hM.2, ?_, rfl⟩
  rw [nar_new]
  rfl
