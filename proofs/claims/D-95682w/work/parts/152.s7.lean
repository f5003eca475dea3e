set_option maxHeartbeats 400000 in
set_option maxRecDepth 100000 in
theorem cs_str2 (l : Launch) (κ : Nat → Nat) (O : gO) (b a q cap : Nat) (f : Nat → Int32) (n : Nat) (hB : O b = some (.inr (15, [.null, .int 0, .int 0, .int 0], aNo))) (hO : O a = some (sbU q cap f (nI n))) (hft : ∀ i, fits .byte (.int (f i)) = true) (h20 : cap < 2 ^ 15) (hn : n ≤ cap) (hn2 : n ≤ 400) : oM l κ yJ8_init_2 cJ8_init_2 5 none ({ frames := 3, cells := 1, slots := 400, locals := 86 }) [.ref b, .ref a, .null] O (fun rv O1 => ∃ r g, (O1 = oup O b (strU r n g) ∧ rv = none) ∧ ∀ i, i < n → g i = f i) := by
  intro D ac A
  refine o_body (own := RJ8) rfl (by decide +kernel) (Nat.le_of_ble_eq_true rfl) ?_
  intro p e s m args below meth c ls hC hr hlocks hK hM hl hnamed hmeth
  have hl : lv_has ls 5 [(0, .ref b), (1, .ref a), (2, .null)] := hl
  have hnm : meth.name = "<init>" := (name_of_methodNamed hnamed hmeth).1
  have hM := PS.of hM [(b, .inr (15, [.null, .int 0, .int 0, .int 0], aNo)), (a, sbU q cap f (nI n))] ⟨hB, hO, trivial⟩ (by simp only [oad, List.map, List.nodup_cons, List.mem_singleton, List.not_mem_nil, not_false_eq_true, List.nodup_nil, and_true]; exact o_ne hB hO (by decide))
  refine lv_aload_n hC.1 hC.2.1 dJ8_init_2_0 rfl (lv_at hl 0 rfl) ?_
  refine W.objInit hC.1 hC.2.1 hC.2.2.2.1 (hC.2.2.2.2 _ q615) (hC.2.2.2.2 _ q104) (hC.2.2.2.2 _ q105) rfl (by rw [hC.2.2.1]; exact hl.1) rfl dJ8_init_2_1 (Nat.le_of_ble_eq_true rfl) (Nat.le_of_ble_eq_true rfl) ?_
  refine W.eq (g2 := F0 m 4 ls []) rfl ?_
  refine lv_aload_n hC.1 hC.2.1 dJ8_init_2_4 rfl (lv_at hl 1 rfl) ?_
  refine p_cUe (L' := [_, _]) hC hK hM (hM.at 1 rfl) rfl (cs_val l κ _ a q cap f (nI n) (hM.at 1 rfl)) (va_cwU 0 hC.2.2.2.2 (lw_U q616 q618 q619 q617 q80 q620) rfl rfl rfl rfl (by decide +kernel) ⟨(Nat.le_of_ble_eq_true rfl), (Nat.le_of_ble_eq_true rfl)⟩) rfl hl.1 rfl (lv_room (Nat.le_of_ble_eq_true rfl)) dJ8_init_2_5 ⟨(Nat.le_of_ble_eq_true rfl), (Nat.le_of_ble_eq_true rfl)⟩ rfl hM.2 (fun H locs hM => ?_)
  refine lv_astore_n (lv' := [(3, _), (0, _), (1, _), (2, _)]) hC.1 hC.2.1 dJ8_init_2_8 rfl hl (by decide) rfl (fun ls hl => ?_)
  refine lv_aload_n hC.1 hC.2.1 dJ8_init_2_9 rfl (lv_at hl 2 rfl) ?_
  refine p_cUe (L' := [_, _]) hC hK hM (hM.at 1 rfl) rfl (cs_slen l κ _ a q cap f (nI n) (hM.at 1 rfl)) (va_cwO 0 hC.2.2.2.2 (lw_O q621 q623 q622 q624 q625 q81 q626) rfl rfl rfl q628 (by decide +kernel) ⟨(Nat.le_of_ble_eq_true rfl), (Nat.le_of_ble_eq_true rfl)⟩) rfl hl.1 rfl (lv_room (Nat.le_of_ble_eq_true rfl)) dJ8_init_2_10 ⟨(Nat.le_of_ble_eq_true rfl), (Nat.le_of_ble_eq_true rfl)⟩ rfl hM.2 (fun H locs hM => ?_)
  refine lv_istore (lv' := [(4, _), (3, _), (0, _), (1, _), (2, _)]) hC.1 hC.2.1 dJ8_init_2_13 hl (by decide) rfl (fun ls hl => ?_)
  refine lv_aload_n hC.1 hC.2.1 dJ8_init_2_15 rfl (lv_at hl 3 rfl) ?_
  refine p_cUe (L' := [_, _]) hC hK hM (hM.at 1 rfl) rfl (cs_isL l κ _ a q cap f (nI n) (hM.at 1 rfl)) (va_cwU 0 hC.2.2.2.2 (lw_U q629 q553 q554 q552 q80 q555) rfl rfl rfl rfl (by decide +kernel) ⟨(Nat.le_of_ble_eq_true rfl), (Nat.le_of_ble_eq_true rfl)⟩) rfl hl.1 rfl (lv_room (Nat.le_of_ble_eq_true rfl)) dJ8_init_2_16 ⟨(Nat.le_of_ble_eq_true rfl), (Nat.le_of_ble_eq_true rfl)⟩ rfl hM.2 (fun H locs hM => ?_)
  refine lv_if_eq (tgt := 41) hC.1 hC.2.1 dJ8_init_2_19 (by decide) (fun c1 => ?_) (fun c1 => ?_)
  ·
    skip
    exact absurd c1 (by decide)
  ·
    skip
    refine lv_aload_n hC.1 hC.2.1 dJ8_init_2_22 rfl (lv_at hl 2 rfl) ?_
    refine lv_iconst (v := 0) hC.1 hC.2.1 dJ8_init_2_23 (by decide) ?_
    refine p_putFR (L' := [_, _]) hC hK hM 0 rfl in_J8 tyJ8 tyJ8_ok nmJ8 rfl 1 (by decide) q654 (fun x h => h) rfl hnm rfl rfl rfl (Nat.le_of_ble_eq_true rfl) rfl (u' := .inr (15, [_, _, _, _], _)) rfl rfl dJ8_init_2_24 (fun H locs hM => ?_)
    refine lv_aload_n hC.1 hC.2.1 dJ8_init_2_27 rfl (lv_at hl 2 rfl) ?_
    refine lv_aload_n hC.1 hC.2.1 dJ8_init_2_28 rfl (lv_at hl 1 rfl) ?_
    refine lv_iconst (v := 0) hC.1 hC.2.1 dJ8_init_2_29 (by decide) ?_
    refine lv_iload hC.1 hC.2.1 dJ8_init_2_30 (lv_at hl 0 rfl) ?_
    refine o_cS hC hK hM.1 (cs_cor l κ _ a q cap f (nI n) n (hM.at 1 rfl) hft h20 hn hn2) (va_cwS 3 hC.2.2.2.2 (lw_S q630 q631 q85 q632) rfl rfl rfl (by decide +kernel) ⟨(Nat.le_of_ble_eq_true rfl), (Nat.le_of_ble_eq_true rfl)⟩) rfl hl.1 rfl (lv_room (Nat.le_of_ble_eq_true rfl)) dJ8_init_2_32 ⟨(Nat.le_of_ble_eq_true rfl), (Nat.le_of_ble_eq_true rfl)⟩ (fun rv O1 H locs hp hM1 => ?_)
    obtain ⟨r, g, rfl, hz0, hzO, hzg⟩ := hp
    rw [hzO] at hM1
    obtain ⟨hz1, hz2, hM⟩ := PS.app (L' := [_, _, _]) hM.2 hz0 hM1 rfl
    refine p_adoptF (L' := [_, _]) hC hK hM 0 rfl 2 rfl hz1 (by decide) in_J8 tyJ8 tyJ8_ok nmJ8 rfl 0 (by decide) q653 (fun x h => h) rfl hnm rfl rfl rfl (Nat.le_of_ble_eq_true rfl) (u' := .inr (15, [_, _, _, _], _)) rfl rfl dJ8_init_2_35 (fun H locs hM => ?_)
    refine lv_goto (tgt := 97) hC.1 hC.2.1 dJ8_init_2_38 (by decide) ?_
    refine W.widen (k := 1) (n := 400) (Nat.le_of_ble_eq_true rfl) (Nat.le_of_ble_eq_true rfl) ?_
    refine p_vret hC hr hlocks hM dJ8_init_2_97 ?_
    refine ⟨r, g, ⟨?_, rfl⟩, hzg⟩
    rw [oups, oups, oups, oup_same hO, oar_new]
    rfl
