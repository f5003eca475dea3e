set_option maxHeartbeats 400000 in
set_option maxRecDepth 100000 in
theorem cs_leq (l : Launch) (κ : Nat → Nat) (O : gO) (b q n : Nat) (g : Nat → Int32) (i : Nat) (hO : O b = some (strU q n g)) (hn : n ≤ 400) (hi : i < 9) : oM l κ yJ15_equals cJ15_equals 3 (some .boolean) ({ frames := 0, cells := 0, slots := 0, locals := 0 }) [.ref q, .ref (κ (20 + i))] O (fun rv O1 => rv = some (.int (bI (eqS i n g))) ∧ O1 = O) := by
  intro D ac A
  refine o_body (own := RJ15) rfl (by decide +kernel) (Nat.le_of_ble_eq_true rfl) ?_
  intro p e s m args below meth c ls hC hr hlocks hK hM hl hnamed hmeth
  have hl : lv_has ls 3 [(0, .ref q), (1, .ref (κ (20 + i)))] := hl
  have hM := PS.of hM [(b, strU q n g)] ⟨hO, trivial⟩ (by simp [oad])
  have hzl := zLen_le hi
  refine lv_aload_n hC.1 hC.2.1 dJ15_equals_0 rfl (lv_at hl 0 rfl) ?_
  refine p_alen hC hK hM 0 rfl 0 rfl rfl (by omega) dJ15_equals_1 ?_
  refine lv_aload_n hC.1 hC.2.1 dJ15_equals_2 rfl (lv_at hl 1 rfl) ?_
  refine va_tlen hC.1 hC.2.1 (hK.2.2.2.2.2.2.1.1 i hi).2.2.2 hM.s (v := nI (zLen.getD i 0)) rfl dJ15_equals_3 ?_
  refine lv_icmp_ne (tgt := 34) hC.1 hC.2.1 dJ15_equals_4 (by decide) (fun c1 => ?_) (fun c1 => ?_)
  ·
    skip
    have cz := c1
    refine lv_iconst (v := 0) hC.1 hC.2.1 dJ15_equals_34 (by decide) ?_
    skip
    refine p_zret hC hr hlocks hM (by first | exact bI_01 _ | exact Or.inl rfl | exact Or.inr rfl) dJ15_equals_35 ?_
    exact ⟨by rw [bI_f (fun h => cz (by rw [h.1]))], oup_same hO⟩
  ·
    skip
    have hnl : n = zLen.getD i 0 := neq_t c1
    refine lv_iconst (v := 0) hC.1 hC.2.1 dJ15_equals_7 (by decide) ?_
    refine lv_istore_n (lv' := [(2, _), (0, _), (1, _)]) hC.1 hC.2.1 dJ15_equals_8 rfl hl (by decide) rfl (fun ls hl => ?_)
    refine w_ind (α := Nat) 9 (fun (k : Nat) => n - k) (fun (k : Nat) (H : Heap) (locs : List Loc) (ls : Array Slot) => (k ≤ n ∧ ∀ j, j < k → g j = (zByt.getD i []).getD j 0) ∧ PS D ac A s.heap O [(b, strU q n g)] H locs ∧ lv_has ls 3 [(0, .ref q), (1, .ref (κ (20 + i))), (2, .int (nI k))]) ?_ (0) ⟨⟨by omega, fun j hj => absurd hj (by omega)⟩, hM, lv_sub hl [1, 2, 0] rfl⟩
    intro k H locs ls hI ih9
    obtain ⟨hI9, hM, hl⟩ := hI
    refine lv_iload_n hC.1 hC.2.1 dJ15_equals_9 rfl (lv_at hl 2 rfl) ?_
    refine lv_aload_n hC.1 hC.2.1 dJ15_equals_10 rfl (lv_at hl 0 rfl) ?_
    refine p_alen hC hK hM 0 rfl 0 rfl rfl (by omega) dJ15_equals_11 ?_
    refine lv_icmp_ge (tgt := 32) hC.1 hC.2.1 dJ15_equals_12 (by decide) (fun c2 => ?_) (fun c2 => ?_)
    ·
      have nc2 := Int32.not_lt.mpr c2
      have hkn := nle_t (a := n) (b := k) c2
      obtain rfl : n = k := by omega
      refine lv_iconst (v := 1) hC.1 hC.2.1 dJ15_equals_32 (by decide) ?_
      skip
      refine p_zret hC hr hlocks hM (by first | exact bI_01 _ | exact Or.inl rfl | exact Or.inr rfl) dJ15_equals_33 ?_
      exact ⟨by rw [bI_t ⟨hnl, hI9.2⟩], oup_same hO⟩
    ·
      have nc2 := Int32.not_le.mp c2
      have hkn := nle_f (a := n) (b := k) c2
      refine lv_aload_n hC.1 hC.2.1 dJ15_equals_15 rfl (lv_at hl 0 rfl) ?_
      refine lv_iload_n hC.1 hC.2.1 dJ15_equals_16 rfl (lv_at hl 2 rfl) ?_
      refine p_bald hC hK hM 0 rfl 0 rfl rfl (n := k) rfl hkn (by omega) dJ15_equals_17 ?_
      refine lv_aload_n hC.1 hC.2.1 dJ15_equals_18 rfl (lv_at hl 1 rfl) ?_
      refine lv_iload_n hC.1 hC.2.1 dJ15_equals_19 rfl (lv_at hl 2 rfl) ?_
      refine va_tb hC.1 hC.2.1 (hK.2.2.2.2.2.2.1.1 i hi).2.2.2 hM.s (i := nI k) (vp_in_nI (by omega) (by omega)) (v := .int ((zByt.getD i []).getD k 0)) (by rw [nI_clamp (by omega)]) dJ15_equals_20 ?_
      refine lv_icmp_eq (tgt := 26) hC.1 hC.2.1 dJ15_equals_21 (by decide) (fun c3 => ?_) (fun c3 => ?_)
      ·
        skip
        have ce := c3
        refine lv_iinc (v := nI (k + 1)) (lv' := [(2, _), (0, _), (1, _)]) hC.1 hC.2.1 dJ15_equals_26 hl (k := 2) rfl (nI_1 _) (by decide) rfl (fun ls hl => ?_)
        refine lv_goto (tgt := 9) hC.1 hC.2.1 dJ15_equals_29 (by decide) ?_
        exact ih9 (k + 1) _ _ _ (by omega) ⟨⟨by omega, fun j hj => by rcases (show j < k ∨ j = k by omega) with h | h; exact hI9.2 j h; rw [h]; exact ce⟩, hM, lv_sub hl [1, 2, 0] rfl⟩
      ·
        skip
        have ce := c3
        refine lv_iconst (v := 0) hC.1 hC.2.1 dJ15_equals_24 (by decide) ?_
        skip
        refine p_zret hC hr hlocks hM (by first | exact bI_01 _ | exact Or.inl rfl | exact Or.inr rfl) dJ15_equals_25 ?_
        exact ⟨by rw [bI_f (fun h => ce (h.2 k hkn))], oup_same hO⟩

set_option maxHeartbeats 400000 in
set_option maxRecDepth 100000 in
theorem cs_eq (l : Launch) (κ : Nat → Nat) (O : gO) (b q n : Nat) (g : Nat → Int32) (i : Nat) (hO : O b = some (strU q n g)) (hn : n ≤ 400) (hi : i < 9) : oM l κ yJ8_equals cJ8_equals 3 (some .boolean) ({ frames := 1, cells := 0, slots := 0, locals := 22 }) [.ref b, .ref (κ (10 + i))] O (fun rv O1 => rv = some (.int (bI (eqS i n g))) ∧ O1 = O) := by
  intro D ac A
  refine o_body (own := RJ8) rfl (by decide +kernel) (Nat.le_of_ble_eq_true rfl) ?_
  intro p e s m args below meth c ls hC hr hlocks hK hM hl hnamed hmeth
  have hl : lv_has ls 3 [(0, .ref b), (1, .ref (κ (10 + i)))] := hl
  have hM := PS.of hM [(b, strU q n g)] ⟨hO, trivial⟩ (by simp [oad])
  refine lv_aload_n hC.1 hC.2.1 dJ8_equals_0 rfl (lv_at hl 0 rfl) ?_
  refine lv_aload_n hC.1 hC.2.1 dJ8_equals_1 rfl (lv_at hl 1 rfl) ?_
  refine lv_acmp_ne (rx := some b) (ry := some (κ (10 + i))) (tgt := 7) hC.1 hC.2.1 dJ8_equals_2 (by decide) (fun cne => ?_) (fun ceq => ?_)
  ·
    skip
    refine lv_aload_n hC.1 hC.2.1 dJ8_equals_7 rfl (lv_at hl 1 rfl) ?_
    refine va_instE hC.1 hC.2.1 hC.2.2.2.1 (hC.2.2.2.2 _ q671) (vk_recv (adK := fun i => κ (10 + i)) (i := i) hK.2.2.2.2.2.2.1 hi hM.s) dJ8_equals_8 ?_
    refine lv_if_eq (tgt := 54) hC.1 hC.2.1 dJ8_equals_11 (by decide) (fun c1 => ?_) (fun c1 => ?_)
    ·
      skip
      exact absurd c1 (by decide)
    ·
      skip
      refine lv_aload_n hC.1 hC.2.1 dJ8_equals_14 rfl (lv_at hl 1 rfl) ?_
      refine va_castE hC.1 hC.2.1 hC.2.2.2.1 (hC.2.2.2.2 _ q671) (vk_recv (adK := fun i => κ (10 + i)) (i := i) hK.2.2.2.2.2.2.1 hi hM.s) dJ8_equals_15 ?_
      refine lv_astore_n (lv' := [(2, _), (0, _), (1, _)]) hC.1 hC.2.1 dJ8_equals_18 rfl hl (by decide) rfl (fun ls hl => ?_)
      refine va_gets hC.1 hC.2.1 hK.2.2.1 hM.s hC.2.2.2.1 (hC.2.2.2.2 _ q639) (fun x h => h) dJ8_equals_19 ?_
      refine lv_if_eq (tgt := 36) hC.1 hC.2.1 dJ8_equals_22 (by decide) (fun c2 => ?_) (fun c2 => ?_)
      ·
        skip
        exact absurd c2 (by decide)
      ·
        skip
        refine lv_aload_n hC.1 hC.2.1 dJ8_equals_25 rfl (lv_at hl 1 rfl) ?_
        refine p_get hC hK hM 0 rfl in_J8 rfl 1 (by decide) q654 (fun x h => h) rfl dJ8_equals_26 ?_
        refine lv_aload_n hC.1 hC.2.1 dJ8_equals_29 rfl (lv_at hl 0 rfl) ?_
        refine vk_getf hC.1 hC.2.1 (hK.2.2.2.2.2.2.1.1 i hi).2.1 hM.s hC.2.2.2.1 (hC.2.2.2.2 _ q654) (fun x h => h) dJ8_equals_30 ?_
        refine lv_icmp_ne (tgt := 54) hC.1 hC.2.1 dJ8_equals_33 (by decide) (fun c3 => ?_) (fun c3 => ?_)
        ·
          skip
          exact absurd rfl c3
        ·
          skip
          refine lv_aload_n hC.1 hC.2.1 dJ8_equals_36 rfl (lv_at hl 1 rfl) ?_
          refine p_get hC hK hM 0 rfl in_J8 rfl 0 (by decide) q653 (fun x h => h) rfl dJ8_equals_37 ?_
          refine lv_aload_n hC.1 hC.2.1 dJ8_equals_40 rfl (lv_at hl 0 rfl) ?_
          refine vk_getf hC.1 hC.2.1 (hK.2.2.2.2.2.2.1.1 i hi).2.2.1 hM.s hC.2.2.2.1 (hC.2.2.2.2 _ q653) (fun x h => h) dJ8_equals_41 ?_
          refine p_cSe (L' := [_]) hC hK hM (cs_leq l κ _ b q n g i (hM.at 0 rfl) hn hi) (va_cwS 2 hC.2.2.2.2 (lw_S q672 q673 q86 q674) rfl rfl rfl (by decide +kernel) ⟨(Nat.le_of_ble_eq_true rfl), (Nat.le_of_ble_eq_true rfl)⟩) rfl hl.1 rfl (lv_room (Nat.le_of_ble_eq_true rfl)) dJ8_equals_44 ⟨(Nat.le_of_ble_eq_true rfl), (Nat.le_of_ble_eq_true rfl)⟩ rfl hM.2 (fun H locs hM => ?_)
          refine lv_if_eq (tgt := 54) hC.1 hC.2.1 dJ8_equals_47 (by decide) (fun c4 => ?_) (fun c4 => ?_)
          ·
            skip
            have cz := c4
            refine lv_iconst (v := 0) hC.1 hC.2.1 dJ8_equals_54 (by decide) ?_
            skip
            refine p_zret hC hr hlocks hM (by first | exact bI_01 _ | exact Or.inl rfl | exact Or.inr rfl) dJ8_equals_55 ?_
            exact ⟨by rw [cz], oup_same hO⟩
          ·
            skip
            have cz := c4
            refine lv_iconst (v := 1) hC.1 hC.2.1 dJ8_equals_50 (by decide) ?_
            refine lv_goto (tgt := 55) hC.1 hC.2.1 dJ8_equals_51 (by decide) ?_
            skip
            refine p_zret hC hr hlocks hM (by first | exact bI_01 _ | exact Or.inl rfl | exact Or.inr rfl) dJ8_equals_55 ?_
            exact ⟨by rw [bI_t (bI_n0.mp cz)], oup_same hO⟩
  ·
    skip
    exact absurd (by rw [← Option.some.inj ceq]; exact hM.1.inA (hM.at 0 rfl)) (vk_notA hK.2.2.2.2.2.2.1 hi)
