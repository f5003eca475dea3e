set_option maxHeartbeats 400000 in
set_option maxRecDepth 100000 in
theorem cr_isFree (l : Launch) (κ : Nat → Nat) (O : gO) (a : Nat) (v : Nat → Int32) (ad : Nat → Nat) (w : Nat → Nat → Int32) (x : Int32) (hO : O a = some (rdU v ad w)) (n : Nat) (en : v 4 = nI n) (hn : n ≤ 6) : oM l κ yX1_isFree cX1_isFree 4 (some .boolean) ({ frames := 1, cells := 0, slots := 0, locals := 25 }) [.ref a, .int x] O (fun rv O1 => rv = some (.int (bI (isFr (v 0) n (w 6) x = true))) ∧ O1 = O) := by
  intro D ac A
  refine o_body (own := RX1) rfl (plainFor_of_name (by decide)) (Nat.le_of_ble_eq_true rfl) ?_
  intro p e s m args below meth c ls hC hr hlocks hK hM hl hnamed hmeth
  have hl : lv_has ls 4 [(0, .ref a), (1, .int x)] := hl
  have hM := PS.of hM [(a, rdU v ad w)] ⟨hO, trivial⟩ (by simp [oad])
  refine lv_iload_n hC.1 hC.2.1 dX1_isFree_0 rfl (lv_at hl 1 rfl) ?_
  refine lv_i2l hC.1 hC.2.1 dX1_isFree_1 rfl ?_
  refine lv_lconst (v := 0) hC.1 hC.2.1 dX1_isFree_2 (by decide) ?_
  refine lv_aload_n hC.1 hC.2.1 dX1_isFree_3 rfl (lv_at hl 0 rfl) ?_
  refine p_get hC hK hM 0 rfl in_X1 rfl 0 (by decide) q142 (fun x h => h) rfl dX1_isFree_4 ?_
  refine lv_i2l hC.1 hC.2.1 dX1_isFree_7 rfl ?_
  refine s_cin hC ((cc_isIn l (a := 0) (b := v 0) rfl rfl rfl)) ⟨va_cnB 3 hC.2.2.2.2 (lw_meth q267) rfl rfl rfl (hK.1.2.1 _ q969 rfl) (hC.2.2.2.2 _ q63) (by decide +kernel) ⟨(Nat.le_of_ble_eq_true rfl), (Nat.le_of_ble_eq_true rfl)⟩, hC.2.2.2.2 _ q266, trivial⟩ rfl hl.1 rfl (lv_room (Nat.le_of_ble_eq_true rfl)) dX1_isFree_8 ⟨(Nat.le_of_ble_eq_true rfl), (Nat.le_of_ble_eq_true rfl)⟩ ?_
  refine lv_istore_n (lv' := [(2, _), (0, _), (1, _)]) hC.1 hC.2.1 dX1_isFree_11 rfl hl (by decide) rfl (fun ls hl => ?_)
  refine lv_iconst (v := 0) hC.1 hC.2.1 dX1_isFree_12 (by decide) ?_
  refine lv_istore_n (lv' := [(3, _), (2, _), (0, _), (1, _)]) hC.1 hC.2.1 dX1_isFree_13 rfl hl (by decide) rfl (fun ls hl => ?_)
  rw [show bI (0 ≤ x ∧ x ≤ v 0) = bI (frL (decide (0 ≤ x ∧ x ≤ v 0)) (w 6) x 0 = true) by simp [frL]] at hl
  refine w_ind (α := Nat) 14 (fun (k : Nat) => n - k) (fun (k : Nat) (H : Heap) (locs : List Loc) (ls : Array Slot) => (k ≤ n) ∧ PS D ac A s.heap O [(a, rdU v ad w)] H locs ∧ lv_has ls 4 [(0, .ref a), (1, .int x), (2, .int (bI (frL (decide (0 ≤ x ∧ x ≤ v 0)) (w 6) x k = true))), (3, .int (nI k))]) ?_ (0) ⟨by omega, hM, lv_sub hl [2, 3, 1, 0] rfl⟩
  intro k H locs ls hI ih14
  obtain ⟨hI14, hM, hl⟩ := hI
  refine lv_iload_n hC.1 hC.2.1 dX1_isFree_14 rfl (lv_at hl 3 rfl) ?_
  refine lv_aload_n hC.1 hC.2.1 dX1_isFree_15 rfl (lv_at hl 0 rfl) ?_
  refine p_get hC hK hM 0 rfl in_X1 rfl 4 (by decide) q154 (fun x h => h) rfl dX1_isFree_16 ?_
  rw [en]
  refine lv_icmp_ge (tgt := 46) hC.1 hC.2.1 dX1_isFree_19 (by decide) (fun c1 => ?_) (fun c1 => ?_)
  ·
    have nc1 := Int32.not_lt.mpr c1
    have hx19 := nle_t (a := n) (b := k) c1
    obtain rfl : n = k := by omega
    refine lv_iload_n hC.1 hC.2.1 dX1_isFree_46 rfl (lv_at hl 2 rfl) ?_
    skip
    refine p_zret hC hr hlocks hM (by first | exact bI_01 _ | exact Or.inl rfl | exact Or.inr rfl) dX1_isFree_47 ?_
    exact ⟨rfl, oup_same hO⟩
  ·
    have nc1 := Int32.not_le.mp c1
    have hx19 := nle_f (a := n) (b := k) c1
    refine lv_iload_n hC.1 hC.2.1 dX1_isFree_22 rfl (lv_at hl 2 rfl) ?_
    refine lv_aload_n hC.1 hC.2.1 dX1_isFree_23 rfl (lv_at hl 0 rfl) ?_
    refine p_get hC hK hM 0 rfl in_X1 rfl 6 (by decide) q160 (fun x h => h) rfl dX1_isFree_24 ?_
    refine lv_iload_n hC.1 hC.2.1 dX1_isFree_27 rfl (lv_at hl 3 rfl) ?_
    refine p_iald hC hK hM 0 rfl 6 rfl rfl (n := k) (by first | rfl | (simp only [← nI_add, ← pk_mul]; rfl)) (by first | decide | (show _ < 6; omega)) (by decide) dX1_isFree_28 ?_
    refine lv_iload_n hC.1 hC.2.1 dX1_isFree_29 rfl (lv_at hl 1 rfl) ?_
    refine lv_icmp_eq (tgt := 37) hC.1 hC.2.1 dX1_isFree_30 (by decide) (fun c2 => ?_) (fun c2 => ?_)
    ·
      skip
      have ceq : w 6 k = x := c2
      refine lv_iconst (v := 0) hC.1 hC.2.1 dX1_isFree_37 (by decide) ?_
      refine lv_iand hC.1 hC.2.1 dX1_isFree_38 ?_
      refine lv_istore_n (lv' := [(2, _), (0, _), (1, _), (3, _)]) hC.1 hC.2.1 dX1_isFree_39 rfl hl (by decide) rfl (fun ls hl => ?_)
      refine lv_iinc (v := nI (k + 1)) (lv' := [(3, _), (2, _), (0, _), (1, _)]) hC.1 hC.2.1 dX1_isFree_40 hl (k := 3) rfl (nI_1 _) (by decide) rfl (fun ls hl => ?_)
      refine lv_goto (tgt := 14) hC.1 hC.2.1 dX1_isFree_43 (by decide) ?_
      rw [show bI (frL (decide (0 ≤ x ∧ x ≤ v 0)) (w 6) x k = true) &&& 0 = bI (frL (decide (0 ≤ x ∧ x ≤ v 0)) (w 6) x (k + 1) = true) from bI_and0 _ _ (by simp [ceq])] at hl
      exact ih14 (k + 1) _ _ _ (by omega) ⟨by omega, hM, lv_sub hl [2, 3, 1, 0] rfl⟩
    ·
      skip
      have ceq : ¬ w 6 k = x := c2
      refine lv_iconst (v := 1) hC.1 hC.2.1 dX1_isFree_33 (by decide) ?_
      refine lv_goto (tgt := 38) hC.1 hC.2.1 dX1_isFree_34 (by decide) ?_
      refine lv_iand hC.1 hC.2.1 dX1_isFree_38 ?_
      refine lv_istore_n (lv' := [(2, _), (0, _), (1, _), (3, _)]) hC.1 hC.2.1 dX1_isFree_39 rfl hl (by decide) rfl (fun ls hl => ?_)
      refine lv_iinc (v := nI (k + 1)) (lv' := [(3, _), (2, _), (0, _), (1, _)]) hC.1 hC.2.1 dX1_isFree_40 hl (k := 3) rfl (nI_1 _) (by decide) rfl (fun ls hl => ?_)
      refine lv_goto (tgt := 14) hC.1 hC.2.1 dX1_isFree_43 (by decide) ?_
      rw [show bI (frL (decide (0 ≤ x ∧ x ≤ v 0)) (w 6) x k = true) &&& 1 = bI (frL (decide (0 ≤ x ∧ x ≤ v 0)) (w 6) x (k + 1) = true) from bI_and1 _ _ (by simp [ceq])] at hl
      exact ih14 (k + 1) _ _ _ (by omega) ⟨by omega, hM, lv_sub hl [2, 3, 1, 0] rfl⟩

set_option maxHeartbeats 400000 in
set_option maxRecDepth 100000 in
theorem cr_goHome (l : Launch) (κ : Nat → Nat) (O : gO) (a : Nat) (v : Nat → Int32) (ad : Nat → Nat) (w : Nat → Nat → Int32) (hO : O a = some (rdU v ad w)) : oM l κ yX1_goHome cX1_goHome 1 (some (.object "NightStones$Road")) ({ frames := 1, cells := 0, slots := 0, locals := 40 }) [.ref a] O (fun rv O1 => rv = some (.ref a) ∧ O1 = oup O a (rdU (upd v 9 0) ad (wput w 6 (w 7)))) := by
  intro D ac A
  refine o_body (own := RX1) rfl (plainFor_of_name (by decide)) (Nat.le_of_ble_eq_true rfl) ?_
  intro p e s m args below meth c ls hC hr hlocks hK hM hl hnamed hmeth
  have hl : lv_has ls 1 [(0, .ref a)] := hl
  have hM := PS.of hM [(a, rdU v ad w)] ⟨hO, trivial⟩ (by simp [oad])
  refine lv_aload_n hC.1 hC.2.1 dX1_goHome_0 rfl (lv_at hl 0 rfl) ?_
  refine lv_iconst (v := 0) hC.1 hC.2.1 dX1_goHome_1 (by decide) ?_
  refine p_put (L' := [_]) hC hK hM 0 rfl in_X1 tyX1 tyX1_ok nmX1 rfl 9 (by decide) q169 (fun x h => h) rfl rfl rfl (Nat.le_of_ble_eq_true rfl) rfl rfl rfl dX1_goHome_2 (fun H locs hM => ?_)
  refine lv_aload_n hC.1 hC.2.1 dX1_goHome_5 rfl (lv_at hl 0 rfl) ?_
  refine p_get hC hK hM 0 rfl in_X1 rfl 7 (by decide) q163 (fun x h => h) rfl dX1_goHome_6 ?_
  refine lv_iconst (v := 0) hC.1 hC.2.1 dX1_goHome_9 (by decide) ?_
  refine lv_aload_n hC.1 hC.2.1 dX1_goHome_10 rfl (lv_at hl 0 rfl) ?_
  refine p_get hC hK hM 0 rfl in_X1 rfl 6 (by decide) q160 (fun x h => h) rfl dX1_goHome_11 ?_
  refine lv_iconst (v := 0) hC.1 hC.2.1 dX1_goHome_14 (by decide) ?_
  refine lv_bipush (v := 6) hC.1 hC.2.1 dX1_goHome_15 (by decide) ?_
  refine p_copy (L' := [_]) hC hK hM hl.1 q867 0 rfl 6 rfl (aAt.own (hM.at 0 rfl) (k := 7) rfl rfl) rfl (np := 0) (nd := 0) (nn := 6) rfl rfl rfl (by decide) (by decide) (by decide) (by decide) (Nat.le_of_ble_eq_true rfl) (Nat.le_of_ble_eq_true rfl) dX1_goHome_17 (rar_set _ (k := 6) (by decide) _) rfl (fun H locs hM => ?_)
  have hM := hM.rd (L' := [_]) 0 (wput w 6 (w 7)) rfl (fun k hk => by rcases rln_cases hk with rfl | rfl | rfl | rfl | rfl <;> first | exact agr.rf | exact va_cpy_agr _ _ 6) rfl
  refine lv_aload_n hC.1 hC.2.1 dX1_goHome_20 rfl (lv_at hl 0 rfl) ?_
  skip
  refine p_aret hC hr (Or.inl ⟨_, rfl⟩) hlocks hM (Or.inr ⟨_, rfl⟩) dX1_goHome_21 ?_
  exact ⟨rfl, rfl⟩

set_option maxHeartbeats 400000 in
set_option maxRecDepth 100000 in
theorem cr_become (l : Launch) (κ : Nat → Nat) (O : gO) (a : Nat) (v : Nat → Int32) (ad : Nat → Nat) (w : Nat → Nat → Int32) (b : Nat) (v' : Nat → Int32) (ad' : Nat → Nat) (w' : Nat → Nat → Int32) (hO : O a = some (rdU v ad w)) (hO' : O b = some (rdU v' ad' w')) (hab : a ≠ b) : oM l κ yX1_become cX1_become 2 (some (.object "NightStones$Road")) ({ frames := 1, cells := 0, slots := 0, locals := 40 }) [.ref a, .ref b] O (fun rv O1 => rv = some (.ref a) ∧ O1 = oup O a (rdU v' (updN ad 8 (ad' 8)) (becW w w'))) := by
  intro D ac A
  refine o_body (own := RX1) rfl (plainFor_of_name (by decide)) (Nat.le_of_ble_eq_true rfl) ?_
  intro p e s m args below meth c ls hC hr hlocks hK hM hl hnamed hmeth
  have hl : lv_has ls 2 [(0, .ref a), (1, .ref b)] := hl
  have hM := PS.of hM [(a, rdU v ad w), (b, rdU v' ad' w')] ⟨hO, hO', trivial⟩ (by simp [oad, hab])
  refine lv_aload_n hC.1 hC.2.1 dX1_become_0 rfl (lv_at hl 0 rfl) ?_
  skip
  refine lv_aload_n hC.1 hC.2.1 dX1_become_1 rfl (lv_at hl 1 rfl) ?_
  refine p_get hC hK hM 1 rfl in_X1 rfl 0 (by decide) q142 (fun x h => h) rfl dX1_become_2 ?_
  refine p_put (L' := [_, _]) hC hK hM 0 rfl in_X1 tyX1 tyX1_ok nmX1 rfl 0 (by decide) q142 (fun x h => h) rfl rfl rfl (Nat.le_of_ble_eq_true rfl) rfl rfl rfl dX1_become_5 (fun H locs hM => ?_)
  refine lv_aload_n hC.1 hC.2.1 dX1_become_8 rfl (lv_at hl 0 rfl) ?_
  refine lv_aload_n hC.1 hC.2.1 dX1_become_9 rfl (lv_at hl 1 rfl) ?_
  refine p_get hC hK hM 1 rfl in_X1 rfl 1 (by decide) q145 (fun x h => h) rfl dX1_become_10 ?_
  refine p_put (L' := [_, _]) hC hK hM 0 rfl in_X1 tyX1 tyX1_ok nmX1 rfl 1 (by decide) q145 (fun x h => h) rfl rfl rfl (Nat.le_of_ble_eq_true rfl) rfl rfl rfl dX1_become_13 (fun H locs hM => ?_)
  refine lv_aload_n hC.1 hC.2.1 dX1_become_16 rfl (lv_at hl 0 rfl) ?_
  refine lv_aload_n hC.1 hC.2.1 dX1_become_17 rfl (lv_at hl 1 rfl) ?_
  refine p_get hC hK hM 1 rfl in_X1 rfl 2 (by decide) q148 (fun x h => h) rfl dX1_become_18 ?_
  refine p_put (L' := [_, _]) hC hK hM 0 rfl in_X1 tyX1 tyX1_ok nmX1 rfl 2 (by decide) q148 (fun x h => h) rfl rfl rfl (Nat.le_of_ble_eq_true rfl) rfl rfl rfl dX1_become_21 (fun H locs hM => ?_)
  refine lv_aload_n hC.1 hC.2.1 dX1_become_24 rfl (lv_at hl 0 rfl) ?_
  refine lv_aload_n hC.1 hC.2.1 dX1_become_25 rfl (lv_at hl 1 rfl) ?_
  refine p_get hC hK hM 1 rfl in_X1 rfl 3 (by decide) q151 (fun x h => h) rfl dX1_become_26 ?_
  refine p_put (L' := [_, _]) hC hK hM 0 rfl in_X1 tyX1 tyX1_ok nmX1 rfl 3 (by decide) q151 (fun x h => h) rfl rfl rfl (Nat.le_of_ble_eq_true rfl) rfl rfl rfl dX1_become_29 (fun H locs hM => ?_)
  refine lv_aload_n hC.1 hC.2.1 dX1_become_32 rfl (lv_at hl 0 rfl) ?_
  refine lv_aload_n hC.1 hC.2.1 dX1_become_33 rfl (lv_at hl 1 rfl) ?_
  refine p_get hC hK hM 1 rfl in_X1 rfl 4 (by decide) q154 (fun x h => h) rfl dX1_become_34 ?_
  refine p_put (L' := [_, _]) hC hK hM 0 rfl in_X1 tyX1 tyX1_ok nmX1 rfl 4 (by decide) q154 (fun x h => h) rfl rfl rfl (Nat.le_of_ble_eq_true rfl) rfl rfl rfl dX1_become_37 (fun H locs hM => ?_)
  refine lv_aload_n hC.1 hC.2.1 dX1_become_40 rfl (lv_at hl 0 rfl) ?_
  refine lv_aload_n hC.1 hC.2.1 dX1_become_41 rfl (lv_at hl 1 rfl) ?_
  refine p_get hC hK hM 1 rfl in_X1 rfl 8 (by decide) q166 (fun x h => h) rfl dX1_become_42 ?_
  refine p_putr (L' := [_, _]) hC hK hM 0 rfl in_X1 tyX1 tyX1_ok nmX1 rfl 8 (by decide) q166 (fun x h => h) rfl rfl rfl (Nat.le_of_ble_eq_true rfl) rfl rfl rfl dX1_become_45 (fun H locs hM => ?_)
  refine lv_aload_n hC.1 hC.2.1 dX1_become_48 rfl (lv_at hl 0 rfl) ?_
  refine lv_aload_n hC.1 hC.2.1 dX1_become_49 rfl (lv_at hl 1 rfl) ?_
  refine p_get hC hK hM 1 rfl in_X1 rfl 9 (by decide) q169 (fun x h => h) rfl dX1_become_50 ?_
  refine p_put (L' := [_, _]) hC hK hM 0 rfl in_X1 tyX1 tyX1_ok nmX1 rfl 9 (by decide) q169 (fun x h => h) rfl rfl rfl (Nat.le_of_ble_eq_true rfl) rfl rfl rfl dX1_become_53 (fun H locs hM => ?_)
  refine lv_aload_n hC.1 hC.2.1 dX1_become_56 rfl (lv_at hl 0 rfl) ?_
  refine lv_aload_n hC.1 hC.2.1 dX1_become_57 rfl (lv_at hl 1 rfl) ?_
  refine p_get hC hK hM 1 rfl in_X1 rfl 11 (by decide) q173 (fun x h => h) rfl dX1_become_58 ?_
  refine p_put (L' := [_, _]) hC hK hM 0 rfl in_X1 tyX1 tyX1_ok nmX1 rfl 11 (by decide) q173 (fun x h => h) rfl rfl rfl (Nat.le_of_ble_eq_true rfl) rfl rfl rfl dX1_become_61 (fun H locs hM => ?_)
  refine lv_aload_n hC.1 hC.2.1 dX1_become_64 rfl (lv_at hl 1 rfl) ?_
  refine p_get hC hK hM 1 rfl in_X1 rfl 5 (by decide) q157 (fun x h => h) rfl dX1_become_65 ?_
  refine lv_iconst (v := 0) hC.1 hC.2.1 dX1_become_68 (by decide) ?_
  refine lv_aload_n hC.1 hC.2.1 dX1_become_69 rfl (lv_at hl 0 rfl) ?_
  refine p_get hC hK hM 0 rfl in_X1 rfl 5 (by decide) q157 (fun x h => h) rfl dX1_become_70 ?_
  refine lv_iconst (v := 0) hC.1 hC.2.1 dX1_become_73 (by decide) ?_
  refine lv_bipush (v := 6) hC.1 hC.2.1 dX1_become_74 (by decide) ?_
  refine p_copy (L' := [_, _]) hC hK hM hl.1 q867 0 rfl 5 rfl (aAt.own (hM.at 1 rfl) (k := 5) rfl rfl) rfl (np := 0) (nd := 0) (nn := 6) rfl rfl rfl (by decide) (by decide) (by decide) (by decide) (Nat.le_of_ble_eq_true rfl) (Nat.le_of_ble_eq_true rfl) dX1_become_76 (rar_set _ (k := 5) (by decide) _) rfl (fun H locs hM => ?_)
  refine lv_aload_n hC.1 hC.2.1 dX1_become_79 rfl (lv_at hl 1 rfl) ?_
  refine p_get hC hK hM 1 rfl in_X1 rfl 6 (by decide) q160 (fun x h => h) rfl dX1_become_80 ?_
  refine lv_iconst (v := 0) hC.1 hC.2.1 dX1_become_83 (by decide) ?_
  refine lv_aload_n hC.1 hC.2.1 dX1_become_84 rfl (lv_at hl 0 rfl) ?_
  refine p_get hC hK hM 0 rfl in_X1 rfl 6 (by decide) q160 (fun x h => h) rfl dX1_become_85 ?_
  refine lv_iconst (v := 0) hC.1 hC.2.1 dX1_become_88 (by decide) ?_
  refine lv_bipush (v := 6) hC.1 hC.2.1 dX1_become_89 (by decide) ?_
  refine p_copy (L' := [_, _]) hC hK hM hl.1 q867 0 rfl 6 rfl (aAt.own (hM.at 1 rfl) (k := 6) rfl rfl) rfl (np := 0) (nd := 0) (nn := 6) rfl rfl rfl (by decide) (by decide) (by decide) (by decide) (Nat.le_of_ble_eq_true rfl) (Nat.le_of_ble_eq_true rfl) dX1_become_91 (rar_set _ (k := 6) (by decide) _) rfl (fun H locs hM => ?_)
  refine lv_aload_n hC.1 hC.2.1 dX1_become_94 rfl (lv_at hl 1 rfl) ?_
  refine p_get hC hK hM 1 rfl in_X1 rfl 7 (by decide) q163 (fun x h => h) rfl dX1_become_95 ?_
  refine lv_iconst (v := 0) hC.1 hC.2.1 dX1_become_98 (by decide) ?_
  refine lv_aload_n hC.1 hC.2.1 dX1_become_99 rfl (lv_at hl 0 rfl) ?_
  refine p_get hC hK hM 0 rfl in_X1 rfl 7 (by decide) q163 (fun x h => h) rfl dX1_become_100 ?_
  refine lv_iconst (v := 0) hC.1 hC.2.1 dX1_become_103 (by decide) ?_
  refine lv_bipush (v := 6) hC.1 hC.2.1 dX1_become_104 (by decide) ?_
  refine p_copy (L' := [_, _]) hC hK hM hl.1 q867 0 rfl 7 rfl (aAt.own (hM.at 1 rfl) (k := 7) rfl rfl) rfl (np := 0) (nd := 0) (nn := 6) rfl rfl rfl (by decide) (by decide) (by decide) (by decide) (Nat.le_of_ble_eq_true rfl) (Nat.le_of_ble_eq_true rfl) dX1_become_106 (rar_set _ (k := 7) (by decide) _) rfl (fun H locs hM => ?_)
  refine lv_aload_n hC.1 hC.2.1 dX1_become_109 rfl (lv_at hl 1 rfl) ?_
  refine p_get hC hK hM 1 rfl in_X1 rfl 10 (by decide) q171 (fun x h => h) rfl dX1_become_110 ?_
  refine lv_iconst (v := 0) hC.1 hC.2.1 dX1_become_113 (by decide) ?_
  refine lv_aload_n hC.1 hC.2.1 dX1_become_114 rfl (lv_at hl 0 rfl) ?_
  refine p_get hC hK hM 0 rfl in_X1 rfl 10 (by decide) q171 (fun x h => h) rfl dX1_become_115 ?_
  refine lv_iconst (v := 0) hC.1 hC.2.1 dX1_become_118 (by decide) ?_
  refine lv_aload_n hC.1 hC.2.1 dX1_become_119 rfl (lv_at hl 0 rfl) ?_
  refine p_get hC hK hM 0 rfl in_X1 rfl 10 (by decide) q171 (fun x h => h) rfl dX1_become_120 ?_
  refine p_alen hC hK hM 0 rfl 10 rfl rfl (by decide) dX1_become_123 ?_
  refine p_copy (L' := [_, _]) hC hK hM hl.1 q867 0 rfl 10 rfl (aAt.own (hM.at 1 rfl) (k := 10) rfl rfl) rfl (np := 0) (nd := 0) (nn := 48) rfl rfl rfl (by decide) (by decide) (by decide) (by decide) (Nat.le_of_ble_eq_true rfl) (Nat.le_of_ble_eq_true rfl) dX1_become_124 (rar_set _ (k := 10) (by decide) _) rfl (fun H locs hM => ?_)
  have hM := hM.rd (L' := [_, _]) 0 (becW w w') rfl (fun k hk => by rcases rln_cases hk with rfl | rfl | rfl | rfl | rfl <;> first | exact agr.rf | exact va_cpy_agr _ _ _) rfl
  refine lv_aload_n hC.1 hC.2.1 dX1_become_127 rfl (lv_at hl 0 rfl) ?_
  skip
  refine p_aret hC hr (Or.inl ⟨_, rfl⟩) hlocks hM (Or.inr ⟨_, rfl⟩) dX1_become_128 ?_
  refine ⟨rfl, ?_⟩
  rw [oups, oups, oups, oup_same hO']
  rfl
