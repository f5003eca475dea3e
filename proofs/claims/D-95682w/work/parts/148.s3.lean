set_option maxHeartbeats 400000 in
set_option maxRecDepth 100000 in
theorem cs_ens0 (l : Launch) (κ : Nat → Nat) (O : gO) (a q cap : Nat) (f : Nat → Int32) (cnt : Int32) (need : Nat) (hO : O a = some (sbU q cap f cnt)) (h : need ≤ cap) (h20 : cap < 2 ^ 15) : oM l κ yJ9_ensureCapacityInternal cJ9_ensureCapacityInternal 3 none ({ frames := 0, cells := 0, slots := 0, locals := 0 }) [.ref a, .int (nI need)] O (fun rv O1 => O1 = O ∧ rv = none) := by
  intro D ac A
  refine o_body (own := RJ9) rfl (by decide +kernel) (Nat.le_of_ble_eq_true rfl) ?_
  intro p e s m args below meth c ls hC hr hlocks hK hM hl hnamed hmeth
  have hl : lv_has ls 3 [(0, .ref a), (1, .int (nI need))] := hl
  have hM := PS.of hM [(a, sbU q cap f cnt)] ⟨hO, trivial⟩ (by simp [oad])
  refine lv_aload_n hC.1 hC.2.1 dJ9_ensureCapacityInternal_0 rfl (lv_at hl 0 rfl) ?_
  refine p_get hC hK hM 0 rfl in_J10 rfl 0 (by decide) q498 (fun x h => h) rfl dJ9_ensureCapacityInternal_1 ?_
  refine p_alen hC hK hM 0 rfl 0 rfl rfl (by omega) dJ9_ensureCapacityInternal_4 ?_
  refine lv_aload_n hC.1 hC.2.1 dJ9_ensureCapacityInternal_5 rfl (lv_at hl 0 rfl) ?_
  refine p_get hC hK hM 0 rfl in_J10 rfl 1 (by decide) q499 (fun x h => h) rfl dJ9_ensureCapacityInternal_6 ?_
  refine lv_ishr hC.1 hC.2.1 dJ9_ensureCapacityInternal_9 ?_
  rw [show nI cap >>> (sbV cnt 1 &&& 31) = nI cap from by show nI cap >>> ((0 : Int32) &&& 31) = nI cap; rw [show (0 : Int32) &&& 31 = 0 from by decide]; exact Int32.shiftRight_zero]
  refine lv_istore_n (lv' := [(2, _), (0, _), (1, _)]) hC.1 hC.2.1 dJ9_ensureCapacityInternal_10 rfl hl (by decide) rfl (fun ls hl => ?_)
  refine lv_iload_n hC.1 hC.2.1 dJ9_ensureCapacityInternal_11 rfl (lv_at hl 2 rfl) ?_
  refine lv_iload_n hC.1 hC.2.1 dJ9_ensureCapacityInternal_12 rfl (lv_at hl 0 rfl) ?_
  refine lv_isub hC.1 hC.2.1 dJ9_ensureCapacityInternal_13 ?_
  refine lv_if_le (tgt := 38) hC.1 hC.2.1 dJ9_ensureCapacityInternal_14 (by decide) (fun c1 => ?_) (fun c1 => ?_)
  ·
    have nc1 := Int32.not_lt.mpr c1
    skip
    refine p_vret hC hr hlocks hM dJ9_ensureCapacityInternal_38 ?_
    exact ⟨oup_same hO, rfl⟩
  ·
    have nc1 := Int32.not_le.mp c1
    exact absurd (sub_le0 h (by omega)) c1

set_option maxHeartbeats 400000 in
set_option maxRecDepth 100000 in
theorem cs_ensG16 (l : Launch) (κ : Nat → Nat) (O : gO) (a q cap : Nat) (f : Nat → Int32) (cnt : Int32) (need : Nat) (hO : O a = some (sbU q cap f cnt)) (hft : ∀ i, fits .byte (.int (f i)) = true) (h : cap < need) (h2 : need ≤ 2 * cap + 2) (h20 : cap ≤ 16) : oM l κ yJ9_ensureCapacityInternal cJ9_ensureCapacityInternal 3 none ({ frames := 3, cells := 1, slots := 34, locals := 82 }) [.ref a, .int (nI need)] O (fun rv O1 => ∃ r, O1 = oup O a (sbU r (cap + (cap + 2)) (va_cpy f (fun _ => 0) 0 0 cap) cnt) ∧ rv = none) := by
  intro D ac A
  refine o_body (own := RJ9) rfl (by decide +kernel) (Nat.le_of_ble_eq_true rfl) ?_
  intro p e s m args below meth c ls hC hr hlocks hK hM hl hnamed hmeth
  have hl : lv_has ls 3 [(0, .ref a), (1, .int (nI need))] := hl
  have hM := PS.of hM [(a, sbU q cap f cnt)] ⟨hO, trivial⟩ (by simp [oad])
  refine lv_aload_n hC.1 hC.2.1 dJ9_ensureCapacityInternal_0 rfl (lv_at hl 0 rfl) ?_
  refine p_get hC hK hM 0 rfl in_J10 rfl 0 (by decide) q498 (fun x h => h) rfl dJ9_ensureCapacityInternal_1 ?_
  refine p_alen hC hK hM 0 rfl 0 rfl rfl (by omega) dJ9_ensureCapacityInternal_4 ?_
  refine lv_aload_n hC.1 hC.2.1 dJ9_ensureCapacityInternal_5 rfl (lv_at hl 0 rfl) ?_
  refine p_get hC hK hM 0 rfl in_J10 rfl 1 (by decide) q499 (fun x h => h) rfl dJ9_ensureCapacityInternal_6 ?_
  refine lv_ishr hC.1 hC.2.1 dJ9_ensureCapacityInternal_9 ?_
  rw [show nI cap >>> (sbV cnt 1 &&& 31) = nI cap from by show nI cap >>> ((0 : Int32) &&& 31) = nI cap; rw [show (0 : Int32) &&& 31 = 0 from by decide]; exact Int32.shiftRight_zero]
  refine lv_istore_n (lv' := [(2, _), (0, _), (1, _)]) hC.1 hC.2.1 dJ9_ensureCapacityInternal_10 rfl hl (by decide) rfl (fun ls hl => ?_)
  refine lv_iload_n hC.1 hC.2.1 dJ9_ensureCapacityInternal_11 rfl (lv_at hl 2 rfl) ?_
  refine lv_iload_n hC.1 hC.2.1 dJ9_ensureCapacityInternal_12 rfl (lv_at hl 0 rfl) ?_
  refine lv_isub hC.1 hC.2.1 dJ9_ensureCapacityInternal_13 ?_
  refine lv_if_le (tgt := 38) hC.1 hC.2.1 dJ9_ensureCapacityInternal_14 (by decide) (fun c1 => ?_) (fun c1 => ?_)
  ·
    have nc1 := Int32.not_lt.mpr c1
    exact absurd c1 (sub_gt0 h (by omega))
  ·
    have nc1 := Int32.not_le.mp c1
    refine lv_aload_n hC.1 hC.2.1 dJ9_ensureCapacityInternal_17 rfl (lv_at hl 1 rfl) ?_
    refine lv_aload_n hC.1 hC.2.1 dJ9_ensureCapacityInternal_18 rfl (lv_at hl 1 rfl) ?_
    refine p_get hC hK hM 0 rfl in_J10 rfl 0 (by decide) q498 (fun x h => h) rfl dJ9_ensureCapacityInternal_19 ?_
    refine lv_aload_n hC.1 hC.2.1 dJ9_ensureCapacityInternal_22 rfl (lv_at hl 1 rfl) ?_
    refine lv_iload_n hC.1 hC.2.1 dJ9_ensureCapacityInternal_23 rfl (lv_at hl 2 rfl) ?_
    refine p_cVe (L' := [_]) hC hK hM (hM.at 0 rfl) rfl (cs_newCap l κ _ a q cap f cnt need (hM.at 0 rfl) (by omega) (by omega) (by omega)) ⟨callB_of 1 hC.2.2.2.2 (lw_meth q525) rfl rfl rfl (hC.2.2.2.2 _ q80) (hC.2.2.2.2 _ q522) (by decide +kernel) ⟨(Nat.le_of_ble_eq_true rfl), (Nat.le_of_ble_eq_true rfl)⟩, hC.2.2.2.2 _ q524, (by obtain ⟨cell, g1, g2, g3⟩ := OS.recv hK hM.1 (hM.at 0 rfl) rfl ; exact sel_priv g3 (hC.2.2.2.2 _ q1660) (hC.2.2.2.2 _ q524) (va_Nw.use rfl (hK.1.2.1 _ q523 rfl)) (by decide))⟩ rfl hl.1 rfl (lv_room (Nat.le_of_ble_eq_true rfl)) dJ9_ensureCapacityInternal_24 ⟨(Nat.le_of_ble_eq_true rfl), (Nat.le_of_ble_eq_true rfl)⟩ rfl hM.2 (fun H locs hM => ?_)
    refine lv_aload_n hC.1 hC.2.1 dJ9_ensureCapacityInternal_27 rfl (lv_at hl 1 rfl) ?_
    refine p_get hC hK hM 0 rfl in_J10 rfl 1 (by decide) q499 (fun x h => h) rfl dJ9_ensureCapacityInternal_28 ?_
    refine lv_ishl hC.1 hC.2.1 dJ9_ensureCapacityInternal_31 ?_
    rw [show nI (cap + (cap + 2)) <<< (sbV cnt 1 &&& 31) = nI (cap + (cap + 2)) from by show nI (cap + (cap + 2)) <<< ((0 : Int32) &&& 31) = _; rw [show (0 : Int32) &&& 31 = 0 from by decide]; exact Int32.shiftLeft_zero]
    refine o_cS hC hK hM.1 (cs_copyOf16 l κ _ a q cap f cnt (cap + (cap + 2)) (hM.at 0 rfl) hft (by omega) (by omega) (by omega)) (va_cwS 2 hC.2.2.2.2 (lw_S q537 q538 q85 q539) rfl rfl rfl (by decide +kernel) ⟨(Nat.le_of_ble_eq_true rfl), (Nat.le_of_ble_eq_true rfl)⟩) rfl hl.1 rfl (lv_room (Nat.le_of_ble_eq_true rfl)) dJ9_ensureCapacityInternal_32 ⟨(Nat.le_of_ble_eq_true rfl), (Nat.le_of_ble_eq_true rfl)⟩ (fun rv O1 H locs hp hM1 => ?_)
    obtain ⟨r, rfl, hz0, hzO⟩ := hp
    rw [hzO] at hM1
    obtain ⟨hz1, hz2, hM⟩ := PS.app (L' := [_, _]) hM.2 hz0 hM1 rfl
    refine p_adopt (L' := [_]) hC hK hM 0 rfl 1 rfl hz1 (by decide) in_J10 tyJ10 tyJ10_ok nmJ10 rfl 0 (by decide) q498 (fun x h => h) rfl rfl rfl (Nat.le_of_ble_eq_true rfl) (u' := .inr (14, [_, _, _, _], _)) rfl rfl dJ9_ensureCapacityInternal_35 (fun H locs hM => ?_)
    refine W.widen (k := 1) (n := 34) (Nat.le_of_ble_eq_true rfl) (Nat.le_of_ble_eq_true rfl) ?_
    refine p_vret hC hr hlocks hM dJ9_ensureCapacityInternal_38 ?_
    refine ⟨r, ?_, rfl⟩
    rw [oar_re]
    rfl

set_option maxHeartbeats 400000 in
set_option maxRecDepth 100000 in
theorem cs_ensG34 (l : Launch) (κ : Nat → Nat) (O : gO) (a q cap : Nat) (f : Nat → Int32) (cnt : Int32) (need : Nat) (hO : O a = some (sbU q cap f cnt)) (hft : ∀ i, fits .byte (.int (f i)) = true) (h : cap < need) (h2 : need ≤ 2 * cap + 2) (h20 : cap ≤ 34) : oM l κ yJ9_ensureCapacityInternal cJ9_ensureCapacityInternal 3 none ({ frames := 3, cells := 1, slots := 70, locals := 82 }) [.ref a, .int (nI need)] O (fun rv O1 => ∃ r, O1 = oup O a (sbU r (cap + (cap + 2)) (va_cpy f (fun _ => 0) 0 0 cap) cnt) ∧ rv = none) := by
  intro D ac A
  refine o_body (own := RJ9) rfl (by decide +kernel) (Nat.le_of_ble_eq_true rfl) ?_
  intro p e s m args below meth c ls hC hr hlocks hK hM hl hnamed hmeth
  have hl : lv_has ls 3 [(0, .ref a), (1, .int (nI need))] := hl
  have hM := PS.of hM [(a, sbU q cap f cnt)] ⟨hO, trivial⟩ (by simp [oad])
  refine lv_aload_n hC.1 hC.2.1 dJ9_ensureCapacityInternal_0 rfl (lv_at hl 0 rfl) ?_
  refine p_get hC hK hM 0 rfl in_J10 rfl 0 (by decide) q498 (fun x h => h) rfl dJ9_ensureCapacityInternal_1 ?_
  refine p_alen hC hK hM 0 rfl 0 rfl rfl (by omega) dJ9_ensureCapacityInternal_4 ?_
  refine lv_aload_n hC.1 hC.2.1 dJ9_ensureCapacityInternal_5 rfl (lv_at hl 0 rfl) ?_
  refine p_get hC hK hM 0 rfl in_J10 rfl 1 (by decide) q499 (fun x h => h) rfl dJ9_ensureCapacityInternal_6 ?_
  refine lv_ishr hC.1 hC.2.1 dJ9_ensureCapacityInternal_9 ?_
  rw [show nI cap >>> (sbV cnt 1 &&& 31) = nI cap from by show nI cap >>> ((0 : Int32) &&& 31) = nI cap; rw [show (0 : Int32) &&& 31 = 0 from by decide]; exact Int32.shiftRight_zero]
  refine lv_istore_n (lv' := [(2, _), (0, _), (1, _)]) hC.1 hC.2.1 dJ9_ensureCapacityInternal_10 rfl hl (by decide) rfl (fun ls hl => ?_)
  refine lv_iload_n hC.1 hC.2.1 dJ9_ensureCapacityInternal_11 rfl (lv_at hl 2 rfl) ?_
  refine lv_iload_n hC.1 hC.2.1 dJ9_ensureCapacityInternal_12 rfl (lv_at hl 0 rfl) ?_
  refine lv_isub hC.1 hC.2.1 dJ9_ensureCapacityInternal_13 ?_
  refine lv_if_le (tgt := 38) hC.1 hC.2.1 dJ9_ensureCapacityInternal_14 (by decide) (fun c1 => ?_) (fun c1 => ?_)
  ·
    have nc1 := Int32.not_lt.mpr c1
    exact absurd c1 (sub_gt0 h (by omega))
  ·
    have nc1 := Int32.not_le.mp c1
    refine lv_aload_n hC.1 hC.2.1 dJ9_ensureCapacityInternal_17 rfl (lv_at hl 1 rfl) ?_
    refine lv_aload_n hC.1 hC.2.1 dJ9_ensureCapacityInternal_18 rfl (lv_at hl 1 rfl) ?_
    refine p_get hC hK hM 0 rfl in_J10 rfl 0 (by decide) q498 (fun x h => h) rfl dJ9_ensureCapacityInternal_19 ?_
    refine lv_aload_n hC.1 hC.2.1 dJ9_ensureCapacityInternal_22 rfl (lv_at hl 1 rfl) ?_
    refine lv_iload_n hC.1 hC.2.1 dJ9_ensureCapacityInternal_23 rfl (lv_at hl 2 rfl) ?_
    refine p_cVe (L' := [_]) hC hK hM (hM.at 0 rfl) rfl (cs_newCap l κ _ a q cap f cnt need (hM.at 0 rfl) (by omega) (by omega) (by omega)) ⟨callB_of 1 hC.2.2.2.2 (lw_meth q525) rfl rfl rfl (hC.2.2.2.2 _ q80) (hC.2.2.2.2 _ q522) (by decide +kernel) ⟨(Nat.le_of_ble_eq_true rfl), (Nat.le_of_ble_eq_true rfl)⟩, hC.2.2.2.2 _ q524, (by obtain ⟨cell, g1, g2, g3⟩ := OS.recv hK hM.1 (hM.at 0 rfl) rfl ; exact sel_priv g3 (hC.2.2.2.2 _ q1660) (hC.2.2.2.2 _ q524) (va_Nw.use rfl (hK.1.2.1 _ q523 rfl)) (by decide))⟩ rfl hl.1 rfl (lv_room (Nat.le_of_ble_eq_true rfl)) dJ9_ensureCapacityInternal_24 ⟨(Nat.le_of_ble_eq_true rfl), (Nat.le_of_ble_eq_true rfl)⟩ rfl hM.2 (fun H locs hM => ?_)
    refine lv_aload_n hC.1 hC.2.1 dJ9_ensureCapacityInternal_27 rfl (lv_at hl 1 rfl) ?_
    refine p_get hC hK hM 0 rfl in_J10 rfl 1 (by decide) q499 (fun x h => h) rfl dJ9_ensureCapacityInternal_28 ?_
    refine lv_ishl hC.1 hC.2.1 dJ9_ensureCapacityInternal_31 ?_
    rw [show nI (cap + (cap + 2)) <<< (sbV cnt 1 &&& 31) = nI (cap + (cap + 2)) from by show nI (cap + (cap + 2)) <<< ((0 : Int32) &&& 31) = _; rw [show (0 : Int32) &&& 31 = 0 from by decide]; exact Int32.shiftLeft_zero]
    refine o_cS hC hK hM.1 (cs_copyOf34 l κ _ a q cap f cnt (cap + (cap + 2)) (hM.at 0 rfl) hft (by omega) (by omega) (by omega)) (va_cwS 2 hC.2.2.2.2 (lw_S q537 q538 q85 q539) rfl rfl rfl (by decide +kernel) ⟨(Nat.le_of_ble_eq_true rfl), (Nat.le_of_ble_eq_true rfl)⟩) rfl hl.1 rfl (lv_room (Nat.le_of_ble_eq_true rfl)) dJ9_ensureCapacityInternal_32 ⟨(Nat.le_of_ble_eq_true rfl), (Nat.le_of_ble_eq_true rfl)⟩ (fun rv O1 H locs hp hM1 => ?_)
    obtain ⟨r, rfl, hz0, hzO⟩ := hp
    rw [hzO] at hM1
    obtain ⟨hz1, hz2, hM⟩ := PS.app (L' := [_, _]) hM.2 hz0 hM1 rfl
    refine p_adopt (L' := [_]) hC hK hM 0 rfl 1 rfl hz1 (by decide) in_J10 tyJ10 tyJ10_ok nmJ10 rfl 0 (by decide) q498 (fun x h => h) rfl rfl rfl (Nat.le_of_ble_eq_true rfl) (u' := .inr (14, [_, _, _, _], _)) rfl rfl dJ9_ensureCapacityInternal_35 (fun H locs hM => ?_)
    refine W.widen (k := 1) (n := 70) (Nat.le_of_ble_eq_true rfl) (Nat.le_of_ble_eq_true rfl) ?_
    refine p_vret hC hr hlocks hM dJ9_ensureCapacityInternal_38 ?_
    refine ⟨r, ?_, rfl⟩
    rw [oar_re]
    rfl

set_option maxHeartbeats 400000 in
set_option maxRecDepth 100000 in
theorem cs_ensG70 (l : Launch) (κ : Nat → Nat) (O : gO) (a q cap : Nat) (f : Nat → Int32) (cnt : Int32) (need : Nat) (hO : O a = some (sbU q cap f cnt)) (hft : ∀ i, fits .byte (.int (f i)) = true) (h : cap < need) (h2 : need ≤ 2 * cap + 2) (h20 : cap ≤ 70) : oM l κ yJ9_ensureCapacityInternal cJ9_ensureCapacityInternal 3 none ({ frames := 3, cells := 1, slots := 142, locals := 82 }) [.ref a, .int (nI need)] O (fun rv O1 => ∃ r, O1 = oup O a (sbU r (cap + (cap + 2)) (va_cpy f (fun _ => 0) 0 0 cap) cnt) ∧ rv = none) := by
  intro D ac A
  refine o_body (own := RJ9) rfl (by decide +kernel) (Nat.le_of_ble_eq_true rfl) ?_
  intro p e s m args below meth c ls hC hr hlocks hK hM hl hnamed hmeth
  have hl : lv_has ls 3 [(0, .ref a), (1, .int (nI need))] := hl
  have hM := PS.of hM [(a, sbU q cap f cnt)] ⟨hO, trivial⟩ (by simp [oad])
  refine lv_aload_n hC.1 hC.2.1 dJ9_ensureCapacityInternal_0 rfl (lv_at hl 0 rfl) ?_
  refine p_get hC hK hM 0 rfl in_J10 rfl 0 (by decide) q498 (fun x h => h) rfl dJ9_ensureCapacityInternal_1 ?_
  refine p_alen hC hK hM 0 rfl 0 rfl rfl (by omega) dJ9_ensureCapacityInternal_4 ?_
  refine lv_aload_n hC.1 hC.2.1 dJ9_ensureCapacityInternal_5 rfl (lv_at hl 0 rfl) ?_
  refine p_get hC hK hM 0 rfl in_J10 rfl 1 (by decide) q499 (fun x h => h) rfl dJ9_ensureCapacityInternal_6 ?_
  refine lv_ishr hC.1 hC.2.1 dJ9_ensureCapacityInternal_9 ?_
  rw [show nI cap >>> (sbV cnt 1 &&& 31) = nI cap from by show nI cap >>> ((0 : Int32) &&& 31) = nI cap; rw [show (0 : Int32) &&& 31 = 0 from by decide]; exact Int32.shiftRight_zero]
  refine lv_istore_n (lv' := [(2, _), (0, _), (1, _)]) hC.1 hC.2.1 dJ9_ensureCapacityInternal_10 rfl hl (by decide) rfl (fun ls hl => ?_)
  refine lv_iload_n hC.1 hC.2.1 dJ9_ensureCapacityInternal_11 rfl (lv_at hl 2 rfl) ?_
  refine lv_iload_n hC.1 hC.2.1 dJ9_ensureCapacityInternal_12 rfl (lv_at hl 0 rfl) ?_
  refine lv_isub hC.1 hC.2.1 dJ9_ensureCapacityInternal_13 ?_
  refine lv_if_le (tgt := 38) hC.1 hC.2.1 dJ9_ensureCapacityInternal_14 (by decide) (fun c1 => ?_) (fun c1 => ?_)
  ·
    have nc1 := Int32.not_lt.mpr c1
    exact absurd c1 (sub_gt0 h (by omega))
  ·
    have nc1 := Int32.not_le.mp c1
    refine lv_aload_n hC.1 hC.2.1 dJ9_ensureCapacityInternal_17 rfl (lv_at hl 1 rfl) ?_
    refine lv_aload_n hC.1 hC.2.1 dJ9_ensureCapacityInternal_18 rfl (lv_at hl 1 rfl) ?_
    refine p_get hC hK hM 0 rfl in_J10 rfl 0 (by decide) q498 (fun x h => h) rfl dJ9_ensureCapacityInternal_19 ?_
    refine lv_aload_n hC.1 hC.2.1 dJ9_ensureCapacityInternal_22 rfl (lv_at hl 1 rfl) ?_
    refine lv_iload_n hC.1 hC.2.1 dJ9_ensureCapacityInternal_23 rfl (lv_at hl 2 rfl) ?_
    refine p_cVe (L' := [_]) hC hK hM (hM.at 0 rfl) rfl (cs_newCap l κ _ a q cap f cnt need (hM.at 0 rfl) (by omega) (by omega) (by omega)) ⟨callB_of 1 hC.2.2.2.2 (lw_meth q525) rfl rfl rfl (hC.2.2.2.2 _ q80) (hC.2.2.2.2 _ q522) (by decide +kernel) ⟨(Nat.le_of_ble_eq_true rfl), (Nat.le_of_ble_eq_true rfl)⟩, hC.2.2.2.2 _ q524, (by obtain ⟨cell, g1, g2, g3⟩ := OS.recv hK hM.1 (hM.at 0 rfl) rfl ; exact sel_priv g3 (hC.2.2.2.2 _ q1660) (hC.2.2.2.2 _ q524) (va_Nw.use rfl (hK.1.2.1 _ q523 rfl)) (by decide))⟩ rfl hl.1 rfl (lv_room (Nat.le_of_ble_eq_true rfl)) dJ9_ensureCapacityInternal_24 ⟨(Nat.le_of_ble_eq_true rfl), (Nat.le_of_ble_eq_true rfl)⟩ rfl hM.2 (fun H locs hM => ?_)
    refine lv_aload_n hC.1 hC.2.1 dJ9_ensureCapacityInternal_27 rfl (lv_at hl 1 rfl) ?_
    refine p_get hC hK hM 0 rfl in_J10 rfl 1 (by decide) q499 (fun x h => h) rfl dJ9_ensureCapacityInternal_28 ?_
    refine lv_ishl hC.1 hC.2.1 dJ9_ensureCapacityInternal_31 ?_
    rw [show nI (cap + (cap + 2)) <<< (sbV cnt 1 &&& 31) = nI (cap + (cap + 2)) from by show nI (cap + (cap + 2)) <<< ((0 : Int32) &&& 31) = _; rw [show (0 : Int32) &&& 31 = 0 from by decide]; exact Int32.shiftLeft_zero]
    refine o_cS hC hK hM.1 (cs_copyOf70 l κ _ a q cap f cnt (cap + (cap + 2)) (hM.at 0 rfl) hft (by omega) (by omega) (by omega)) (va_cwS 2 hC.2.2.2.2 (lw_S q537 q538 q85 q539) rfl rfl rfl (by decide +kernel) ⟨(Nat.le_of_ble_eq_true rfl), (Nat.le_of_ble_eq_true rfl)⟩) rfl hl.1 rfl (lv_room (Nat.le_of_ble_eq_true rfl)) dJ9_ensureCapacityInternal_32 ⟨(Nat.le_of_ble_eq_true rfl), (Nat.le_of_ble_eq_true rfl)⟩ (fun rv O1 H locs hp hM1 => ?_)
    obtain ⟨r, rfl, hz0, hzO⟩ := hp
    rw [hzO] at hM1
    obtain ⟨hz1, hz2, hM⟩ := PS.app (L' := [_, _]) hM.2 hz0 hM1 rfl
    refine p_adopt (L' := [_]) hC hK hM 0 rfl 1 rfl hz1 (by decide) in_J10 tyJ10 tyJ10_ok nmJ10 rfl 0 (by decide) q498 (fun x h => h) rfl rfl rfl (Nat.le_of_ble_eq_true rfl) (u' := .inr (14, [_, _, _, _], _)) rfl rfl dJ9_ensureCapacityInternal_35 (fun H locs hM => ?_)
    refine W.widen (k := 1) (n := 142) (Nat.le_of_ble_eq_true rfl) (Nat.le_of_ble_eq_true rfl) ?_
    refine p_vret hC hr hlocks hM dJ9_ensureCapacityInternal_38 ?_
    refine ⟨r, ?_, rfl⟩
    rw [oar_re]
    rfl

set_option maxHeartbeats 400000 in
set_option maxRecDepth 100000 in
theorem cs_ensG142 (l : Launch) (κ : Nat → Nat) (O : gO) (a q cap : Nat) (f : Nat → Int32) (cnt : Int32) (need : Nat) (hO : O a = some (sbU q cap f cnt)) (hft : ∀ i, fits .byte (.int (f i)) = true) (h : cap < need) (h2 : need ≤ 2 * cap + 2) (h20 : cap ≤ 142) : oM l κ yJ9_ensureCapacityInternal cJ9_ensureCapacityInternal 3 none ({ frames := 3, cells := 1, slots := 286, locals := 82 }) [.ref a, .int (nI need)] O (fun rv O1 => ∃ r, O1 = oup O a (sbU r (cap + (cap + 2)) (va_cpy f (fun _ => 0) 0 0 cap) cnt) ∧ rv = none) := by
  intro D ac A
  refine o_body (own := RJ9) rfl (by decide +kernel) (Nat.le_of_ble_eq_true rfl) ?_
  intro p e s m args below meth c ls hC hr hlocks hK hM hl hnamed hmeth
  have hl : lv_has ls 3 [(0, .ref a), (1, .int (nI need))] := hl
  have hM := PS.of hM [(a, sbU q cap f cnt)] ⟨hO, trivial⟩ (by simp [oad])
  refine lv_aload_n hC.1 hC.2.1 dJ9_ensureCapacityInternal_0 rfl (lv_at hl 0 rfl) ?_
  refine p_get hC hK hM 0 rfl in_J10 rfl 0 (by decide) q498 (fun x h => h) rfl dJ9_ensureCapacityInternal_1 ?_
  refine p_alen hC hK hM 0 rfl 0 rfl rfl (by omega) dJ9_ensureCapacityInternal_4 ?_
  refine lv_aload_n hC.1 hC.2.1 dJ9_ensureCapacityInternal_5 rfl (lv_at hl 0 rfl) ?_
  refine p_get hC hK hM 0 rfl in_J10 rfl 1 (by decide) q499 (fun x h => h) rfl dJ9_ensureCapacityInternal_6 ?_
  refine lv_ishr hC.1 hC.2.1 dJ9_ensureCapacityInternal_9 ?_
  rw [show nI cap >>> (sbV cnt 1 &&& 31) = nI cap from by show nI cap >>> ((0 : Int32) &&& 31) = nI cap; rw [show (0 : Int32) &&& 31 = 0 from by decide]; exact Int32.shiftRight_zero]
  refine lv_istore_n (lv' := [(2, _), (0, _), (1, _)]) hC.1 hC.2.1 dJ9_ensureCapacityInternal_10 rfl hl (by decide) rfl (fun ls hl => ?_)
  refine lv_iload_n hC.1 hC.2.1 dJ9_ensureCapacityInternal_11 rfl (lv_at hl 2 rfl) ?_
  refine lv_iload_n hC.1 hC.2.1 dJ9_ensureCapacityInternal_12 rfl (lv_at hl 0 rfl) ?_
  refine lv_isub hC.1 hC.2.1 dJ9_ensureCapacityInternal_13 ?_
  refine lv_if_le (tgt := 38) hC.1 hC.2.1 dJ9_ensureCapacityInternal_14 (by decide) (fun c1 => ?_) (fun c1 => ?_)
  ·
    have nc1 := Int32.not_lt.mpr c1
    exact absurd c1 (sub_gt0 h (by omega))
  ·
    have nc1 := Int32.not_le.mp c1
    refine lv_aload_n hC.1 hC.2.1 dJ9_ensureCapacityInternal_17 rfl (lv_at hl 1 rfl) ?_
    refine lv_aload_n hC.1 hC.2.1 dJ9_ensureCapacityInternal_18 rfl (lv_at hl 1 rfl) ?_
    refine p_get hC hK hM 0 rfl in_J10 rfl 0 (by decide) q498 (fun x h => h) rfl dJ9_ensureCapacityInternal_19 ?_
    refine lv_aload_n hC.1 hC.2.1 dJ9_ensureCapacityInternal_22 rfl (lv_at hl 1 rfl) ?_
    refine lv_iload_n hC.1 hC.2.1 dJ9_ensureCapacityInternal_23 rfl (lv_at hl 2 rfl) ?_
    refine p_cVe (L' := [_]) hC hK hM (hM.at 0 rfl) rfl (cs_newCap l κ _ a q cap f cnt need (hM.at 0 rfl) (by omega) (by omega) (by omega)) ⟨callB_of 1 hC.2.2.2.2 (lw_meth q525) rfl rfl rfl (hC.2.2.2.2 _ q80) (hC.2.2.2.2 _ q522) (by decide +kernel) ⟨(Nat.le_of_ble_eq_true rfl), (Nat.le_of_ble_eq_true rfl)⟩, hC.2.2.2.2 _ q524, (by obtain ⟨cell, g1, g2, g3⟩ := OS.recv hK hM.1 (hM.at 0 rfl) rfl ; exact sel_priv g3 (hC.2.2.2.2 _ q1660) (hC.2.2.2.2 _ q524) (va_Nw.use rfl (hK.1.2.1 _ q523 rfl)) (by decide))⟩ rfl hl.1 rfl (lv_room (Nat.le_of_ble_eq_true rfl)) dJ9_ensureCapacityInternal_24 ⟨(Nat.le_of_ble_eq_true rfl), (Nat.le_of_ble_eq_true rfl)⟩ rfl hM.2 (fun H locs hM => ?_)
    refine lv_aload_n hC.1 hC.2.1 dJ9_ensureCapacityInternal_27 rfl (lv_at hl 1 rfl) ?_
    refine p_get hC hK hM 0 rfl in_J10 rfl 1 (by decide) q499 (fun x h => h) rfl dJ9_ensureCapacityInternal_28 ?_
    refine lv_ishl hC.1 hC.2.1 dJ9_ensureCapacityInternal_31 ?_
    rw [show nI (cap + (cap + 2)) <<< (sbV cnt 1 &&& 31) = nI (cap + (cap + 2)) from by show nI (cap + (cap + 2)) <<< ((0 : Int32) &&& 31) = _; rw [show (0 : Int32) &&& 31 = 0 from by decide]; exact Int32.shiftLeft_zero]
    refine o_cS hC hK hM.1 (cs_copyOf142 l κ _ a q cap f cnt (cap + (cap + 2)) (hM.at 0 rfl) hft (by omega) (by omega) (by omega)) (va_cwS 2 hC.2.2.2.2 (lw_S q537 q538 q85 q539) rfl rfl rfl (by decide +kernel) ⟨(Nat.le_of_ble_eq_true rfl), (Nat.le_of_ble_eq_true rfl)⟩) rfl hl.1 rfl (lv_room (Nat.le_of_ble_eq_true rfl)) dJ9_ensureCapacityInternal_32 ⟨(Nat.le_of_ble_eq_true rfl), (Nat.le_of_ble_eq_true rfl)⟩ (fun rv O1 H locs hp hM1 => ?_)
    obtain ⟨r, rfl, hz0, hzO⟩ := hp
    rw [hzO] at hM1
    obtain ⟨hz1, hz2, hM⟩ := PS.app (L' := [_, _]) hM.2 hz0 hM1 rfl
    refine p_adopt (L' := [_]) hC hK hM 0 rfl 1 rfl hz1 (by decide) in_J10 tyJ10 tyJ10_ok nmJ10 rfl 0 (by decide) q498 (fun x h => h) rfl rfl rfl (Nat.le_of_ble_eq_true rfl) (u' := .inr (14, [_, _, _, _], _)) rfl rfl dJ9_ensureCapacityInternal_35 (fun H locs hM => ?_)
    refine W.widen (k := 1) (n := 286) (Nat.le_of_ble_eq_true rfl) (Nat.le_of_ble_eq_true rfl) ?_
    refine p_vret hC hr hlocks hM dJ9_ensureCapacityInternal_38 ?_
    refine ⟨r, ?_, rfl⟩
    rw [oar_re]
    rfl

set_option maxHeartbeats 400000 in
set_option maxRecDepth 100000 in
theorem cs_ensG286 (l : Launch) (κ : Nat → Nat) (O : gO) (a q cap : Nat) (f : Nat → Int32) (cnt : Int32) (need : Nat) (hO : O a = some (sbU q cap f cnt)) (hft : ∀ i, fits .byte (.int (f i)) = true) (h : cap < need) (h2 : need ≤ 2 * cap + 2) (h20 : cap ≤ 286) : oM l κ yJ9_ensureCapacityInternal cJ9_ensureCapacityInternal 3 none ({ frames := 3, cells := 1, slots := 574, locals := 82 }) [.ref a, .int (nI need)] O (fun rv O1 => ∃ r, O1 = oup O a (sbU r (cap + (cap + 2)) (va_cpy f (fun _ => 0) 0 0 cap) cnt) ∧ rv = none) := by
  intro D ac A
  refine o_body (own := RJ9) rfl (by decide +kernel) (Nat.le_of_ble_eq_true rfl) ?_
  intro p e s m args below meth c ls hC hr hlocks hK hM hl hnamed hmeth
  have hl : lv_has ls 3 [(0, .ref a), (1, .int (nI need))] := hl
  have hM := PS.of hM [(a, sbU q cap f cnt)] ⟨hO, trivial⟩ (by simp [oad])
  refine lv_aload_n hC.1 hC.2.1 dJ9_ensureCapacityInternal_0 rfl (lv_at hl 0 rfl) ?_
  refine p_get hC hK hM 0 rfl in_J10 rfl 0 (by decide) q498 (fun x h => h) rfl dJ9_ensureCapacityInternal_1 ?_
  refine p_alen hC hK hM 0 rfl 0 rfl rfl (by omega) dJ9_ensureCapacityInternal_4 ?_
  refine lv_aload_n hC.1 hC.2.1 dJ9_ensureCapacityInternal_5 rfl (lv_at hl 0 rfl) ?_
  refine p_get hC hK hM 0 rfl in_J10 rfl 1 (by decide) q499 (fun x h => h) rfl dJ9_ensureCapacityInternal_6 ?_
  refine lv_ishr hC.1 hC.2.1 dJ9_ensureCapacityInternal_9 ?_
  rw [show nI cap >>> (sbV cnt 1 &&& 31) = nI cap from by show nI cap >>> ((0 : Int32) &&& 31) = nI cap; rw [show (0 : Int32) &&& 31 = 0 from by decide]; exact Int32.shiftRight_zero]
  refine lv_istore_n (lv' := [(2, _), (0, _), (1, _)]) hC.1 hC.2.1 dJ9_ensureCapacityInternal_10 rfl hl (by decide) rfl (fun ls hl => ?_)
  refine lv_iload_n hC.1 hC.2.1 dJ9_ensureCapacityInternal_11 rfl (lv_at hl 2 rfl) ?_
  refine lv_iload_n hC.1 hC.2.1 dJ9_ensureCapacityInternal_12 rfl (lv_at hl 0 rfl) ?_
  refine lv_isub hC.1 hC.2.1 dJ9_ensureCapacityInternal_13 ?_
  refine lv_if_le (tgt := 38) hC.1 hC.2.1 dJ9_ensureCapacityInternal_14 (by decide) (fun c1 => ?_) (fun c1 => ?_)
  ·
    have nc1 := Int32.not_lt.mpr c1
    exact absurd c1 (sub_gt0 h (by omega))
  ·
    have nc1 := Int32.not_le.mp c1
    refine lv_aload_n hC.1 hC.2.1 dJ9_ensureCapacityInternal_17 rfl (lv_at hl 1 rfl) ?_
    refine lv_aload_n hC.1 hC.2.1 dJ9_ensureCapacityInternal_18 rfl (lv_at hl 1 rfl) ?_
    refine p_get hC hK hM 0 rfl in_J10 rfl 0 (by decide) q498 (fun x h => h) rfl dJ9_ensureCapacityInternal_19 ?_
    refine lv_aload_n hC.1 hC.2.1 dJ9_ensureCapacityInternal_22 rfl (lv_at hl 1 rfl) ?_
    refine lv_iload_n hC.1 hC.2.1 dJ9_ensureCapacityInternal_23 rfl (lv_at hl 2 rfl) ?_
    refine p_cVe (L' := [_]) hC hK hM (hM.at 0 rfl) rfl (cs_newCap l κ _ a q cap f cnt need (hM.at 0 rfl) (by omega) (by omega) (by omega)) ⟨callB_of 1 hC.2.2.2.2 (lw_meth q525) rfl rfl rfl (hC.2.2.2.2 _ q80) (hC.2.2.2.2 _ q522) (by decide +kernel) ⟨(Nat.le_of_ble_eq_true rfl), (Nat.le_of_ble_eq_true rfl)⟩, hC.2.2.2.2 _ q524, (by obtain ⟨cell, g1, g2, g3⟩ := OS.recv hK hM.1 (hM.at 0 rfl) rfl ; exact sel_priv g3 (hC.2.2.2.2 _ q1660) (hC.2.2.2.2 _ q524) (va_Nw.use rfl (hK.1.2.1 _ q523 rfl)) (by decide))⟩ rfl hl.1 rfl (lv_room (Nat.le_of_ble_eq_true rfl)) dJ9_ensureCapacityInternal_24 ⟨(Nat.le_of_ble_eq_true rfl), (Nat.le_of_ble_eq_true rfl)⟩ rfl hM.2 (fun H locs hM => ?_)
    refine lv_aload_n hC.1 hC.2.1 dJ9_ensureCapacityInternal_27 rfl (lv_at hl 1 rfl) ?_
    refine p_get hC hK hM 0 rfl in_J10 rfl 1 (by decide) q499 (fun x h => h) rfl dJ9_ensureCapacityInternal_28 ?_
    refine lv_ishl hC.1 hC.2.1 dJ9_ensureCapacityInternal_31 ?_
    rw [show nI (cap + (cap + 2)) <<< (sbV cnt 1 &&& 31) = nI (cap + (cap + 2)) from by show nI (cap + (cap + 2)) <<< ((0 : Int32) &&& 31) = _; rw [show (0 : Int32) &&& 31 = 0 from by decide]; exact Int32.shiftLeft_zero]
    refine o_cS hC hK hM.1 (cs_copyOf286 l κ _ a q cap f cnt (cap + (cap + 2)) (hM.at 0 rfl) hft (by omega) (by omega) (by omega)) (va_cwS 2 hC.2.2.2.2 (lw_S q537 q538 q85 q539) rfl rfl rfl (by decide +kernel) ⟨(Nat.le_of_ble_eq_true rfl), (Nat.le_of_ble_eq_true rfl)⟩) rfl hl.1 rfl (lv_room (Nat.le_of_ble_eq_true rfl)) dJ9_ensureCapacityInternal_32 ⟨(Nat.le_of_ble_eq_true rfl), (Nat.le_of_ble_eq_true rfl)⟩ (fun rv O1 H locs hp hM1 => ?_)
    obtain ⟨r, rfl, hz0, hzO⟩ := hp
    rw [hzO] at hM1
    obtain ⟨hz1, hz2, hM⟩ := PS.app (L' := [_, _]) hM.2 hz0 hM1 rfl
    refine p_adopt (L' := [_]) hC hK hM 0 rfl 1 rfl hz1 (by decide) in_J10 tyJ10 tyJ10_ok nmJ10 rfl 0 (by decide) q498 (fun x h => h) rfl rfl rfl (Nat.le_of_ble_eq_true rfl) (u' := .inr (14, [_, _, _, _], _)) rfl rfl dJ9_ensureCapacityInternal_35 (fun H locs hM => ?_)
    refine W.widen (k := 1) (n := 574) (Nat.le_of_ble_eq_true rfl) (Nat.le_of_ble_eq_true rfl) ?_
    refine p_vret hC hr hlocks hM dJ9_ensureCapacityInternal_38 ?_
    refine ⟨r, ?_, rfl⟩
    rw [oar_re]
    rfl

set_option maxHeartbeats 400000 in
set_option maxRecDepth 100000 in
theorem cs_app0 (l : Launch) (κ : Nat → Nat) (O : gO) (a q cap : Nat) (f : Nat → Int32)  (n : Nat) (x : Int32) (hO : O a = some (sbU q cap f (nI n))) (hx : 0 ≤ x ∧ x ≤ 127) (hn : n < cap) (h20 : cap < 2 ^ 15) : oM l κ yJ9_append cJ9_append 2 (some (.object "java/lang/AbstractStringBuilder")) ({ frames := 1, cells := 0, slots := 0, locals := 22 }) [.ref a, .int x] O (fun rv O1 => rv = some (.ref a) ∧ O1 = oup O a (sbU q cap (upd f n x) (nI (n + 1)))) := by
  intro D ac A
  refine o_body (own := RJ9) rfl (by decide +kernel) (Nat.le_of_ble_eq_true rfl) ?_
  intro p e s m args below meth c ls hC hr hlocks hK hM hl hnamed hmeth
  have hl : lv_has ls 2 [(0, .ref a), (1, .int x)] := hl
  have hM := PS.of hM [(a, sbU q cap f (nI n))] ⟨hO, trivial⟩ (by simp [oad])
  have hx255 : x ≤ 255 := Int32.le_trans hx.2 (by decide)
  refine lv_aload_n hC.1 hC.2.1 dJ9_append_0 rfl (lv_at hl 0 rfl) ?_
  refine lv_aload_n hC.1 hC.2.1 dJ9_append_1 rfl (lv_at hl 0 rfl) ?_
  refine p_get hC hK hM 0 rfl in_J10 rfl 3 (by decide) q501 (fun x h => h) rfl dJ9_append_2 ?_
  rw [show sbV (nI n) 3 = nI n from rfl]
  refine lv_iconst (v := 1) hC.1 hC.2.1 dJ9_append_5 (by decide) ?_
  refine lv_iadd hC.1 hC.2.1 dJ9_append_6 ?_
  rw [nI_1]
  refine p_cVv (L' := [_]) hC hK hM (hM.at 0 rfl) rfl (cs_ens0 l κ _ a q cap f (nI n) (n + 1) (hM.at 0 rfl) (by omega) h20) ⟨callB_of 1 hC.2.2.2.2 (lw_meth q521) rfl rfl rfl (hC.2.2.2.2 _ q80) (hC.2.2.2.2 _ q518) (by decide +kernel) ⟨(Nat.le_of_ble_eq_true rfl), (Nat.le_of_ble_eq_true rfl)⟩, hC.2.2.2.2 _ q520, (by obtain ⟨cell, g1, g2, g3⟩ := OS.recv hK hM.1 (hM.at 0 rfl) rfl ; exact sel_priv g3 (hC.2.2.2.2 _ q1659) (hC.2.2.2.2 _ q520) (va_Nw.use rfl (hK.1.2.1 _ q519 rfl)) (by decide))⟩ rfl hl.1 rfl (lv_room (Nat.le_of_ble_eq_true rfl)) dJ9_append_7 ⟨(Nat.le_of_ble_eq_true rfl), (Nat.le_of_ble_eq_true rfl)⟩ rfl hM.2 (fun H locs hM => ?_)
  refine lv_aload_n hC.1 hC.2.1 dJ9_append_10 rfl (lv_at hl 0 rfl) ?_
  refine p_cUe (L' := [_]) hC hK hM (hM.at 0 rfl) rfl (cs_isL l κ _ a q cap f (nI n) (hM.at 0 rfl)) (va_cwU 0 hC.2.2.2.2 (lw_U q551 q553 q554 q552 q80 q555) rfl rfl rfl rfl (by decide +kernel) ⟨(Nat.le_of_ble_eq_true rfl), (Nat.le_of_ble_eq_true rfl)⟩) rfl hl.1 rfl (lv_room (Nat.le_of_ble_eq_true rfl)) dJ9_append_11 ⟨(Nat.le_of_ble_eq_true rfl), (Nat.le_of_ble_eq_true rfl)⟩ rfl hM.2 (fun H locs hM => ?_)
  refine lv_if_eq (tgt := 45) hC.1 hC.2.1 dJ9_append_14 (by decide) (fun c1 => ?_) (fun c1 => ?_)
  ·
    skip
    exact absurd c1 (by decide)
  ·
    skip
    refine lv_iload_n hC.1 hC.2.1 dJ9_append_17 rfl (lv_at hl 1 rfl) ?_
    refine s_ci hC (cs_can l x hx255) (va_cwS 1 hC.2.2.2.2 (lw_S q556 q557 q86 q558) rfl rfl rfl (by decide +kernel) ⟨(Nat.le_of_ble_eq_true rfl), (Nat.le_of_ble_eq_true rfl)⟩) rfl hl.1 rfl (lv_room (Nat.le_of_ble_eq_true rfl)) dJ9_append_18 ⟨(Nat.le_of_ble_eq_true rfl), (Nat.le_of_ble_eq_true rfl)⟩ ?_
    refine lv_if_eq (tgt := 45) hC.1 hC.2.1 dJ9_append_21 (by decide) (fun c2 => ?_) (fun c2 => ?_)
    ·
      skip
      exact absurd c2 (by decide)
    ·
      skip
      refine lv_aload_n hC.1 hC.2.1 dJ9_append_24 rfl (lv_at hl 0 rfl) ?_
      refine p_get hC hK hM 0 rfl in_J10 rfl 0 (by decide) q498 (fun x h => h) rfl dJ9_append_25 ?_
      refine lv_aload_n hC.1 hC.2.1 dJ9_append_28 rfl (lv_at hl 0 rfl) ?_
      refine lv_dup hC.1 hC.2.1 dJ9_append_29 rfl ?_
      refine p_get hC hK hM 0 rfl in_J10 rfl 3 (by decide) q501 (fun x h => h) rfl dJ9_append_30 ?_
      rw [show sbV (nI n) 3 = nI n from rfl]
      refine lv_dup_x1 hC.1 hC.2.1 dJ9_append_33 rfl rfl ?_
      refine lv_iconst (v := 1) hC.1 hC.2.1 dJ9_append_34 (by decide) ?_
      refine lv_iadd hC.1 hC.2.1 dJ9_append_35 ?_
      rw [nI_1]
      refine p_put (L' := [_]) hC hK hM 0 rfl in_J10 tyJ10 tyJ10_ok nmJ10 rfl 3 (by decide) q501 (fun x h => h) rfl rfl rfl (Nat.le_of_ble_eq_true rfl) rfl rfl rfl dJ9_append_36 (fun H locs hM => ?_)
      refine lv_iload_n hC.1 hC.2.1 dJ9_append_39 rfl (lv_at hl 1 rfl) ?_
      refine lv_i2b hC.1 hC.2.1 dJ9_append_40 rfl ?_
      refine p_bast (L' := [_]) hC hK hM 0 rfl 0 rfl rfl (n := n) rfl (by omega) (by omega) (oar_set _ _ _ _ _) rfl dJ9_append_41 (fun H locs hM => ?_)
      refine lv_goto (tgt := 75) hC.1 hC.2.1 dJ9_append_42 (by decide) ?_
      refine lv_aload_n hC.1 hC.2.1 dJ9_append_75 rfl (lv_at hl 0 rfl) ?_
      skip
      refine p_aret hC hr (Or.inl ⟨_, rfl⟩) hlocks hM (Or.inr ⟨_, rfl⟩) dJ9_append_76 ?_
      refine ⟨rfl, ?_⟩
      rw [nar_b hx, sbV_up]
      rfl

set_option maxHeartbeats 400000 in
set_option maxRecDepth 100000 in
theorem cs_appG16 (l : Launch) (κ : Nat → Nat) (O : gO) (a q cap : Nat) (f : Nat → Int32)  (n : Nat) (x : Int32) (hO : O a = some (sbU q cap f (nI n))) (hx : 0 ≤ x ∧ x ≤ 127) (hft : ∀ i, fits .byte (.int (f i)) = true) (hn : n = cap) (h20 : cap ≤ 16) : oM l κ yJ9_append cJ9_append 2 (some (.object "java/lang/AbstractStringBuilder")) ({ frames := 4, cells := 1, slots := 34, locals := 104 }) [.ref a, .int x] O (fun rv O1 => ∃ r, rv = some (.ref a) ∧ O1 = oup O a (sbU r (cap + (cap + 2)) (upd (va_cpy f (fun _ => 0) 0 0 cap) n x) (nI (n + 1)))) := by
  intro D ac A
  refine o_body (own := RJ9) rfl (by decide +kernel) (Nat.le_of_ble_eq_true rfl) ?_
  intro p e s m args below meth c ls hC hr hlocks hK hM hl hnamed hmeth
  have hl : lv_has ls 2 [(0, .ref a), (1, .int x)] := hl
  have hM := PS.of hM [(a, sbU q cap f (nI n))] ⟨hO, trivial⟩ (by simp [oad])
  have hx255 : x ≤ 255 := Int32.le_trans hx.2 (by decide)
  refine lv_aload_n hC.1 hC.2.1 dJ9_append_0 rfl (lv_at hl 0 rfl) ?_
  refine lv_aload_n hC.1 hC.2.1 dJ9_append_1 rfl (lv_at hl 0 rfl) ?_
  refine p_get hC hK hM 0 rfl in_J10 rfl 3 (by decide) q501 (fun x h => h) rfl dJ9_append_2 ?_
  rw [show sbV (nI n) 3 = nI n from rfl]
  refine lv_iconst (v := 1) hC.1 hC.2.1 dJ9_append_5 (by decide) ?_
  refine lv_iadd hC.1 hC.2.1 dJ9_append_6 ?_
  rw [nI_1]
  refine o_cV hC hK hM.1 (hM.at 0 rfl) rfl (cs_ensG16 l κ _ a q cap f (nI n) (n + 1) (hM.at 0 rfl) hft (by omega) (by omega) h20) ⟨callB_of 1 hC.2.2.2.2 (lw_meth q521) rfl rfl rfl (hC.2.2.2.2 _ q80) (hC.2.2.2.2 _ q518) (by decide +kernel) ⟨(Nat.le_of_ble_eq_true rfl), (Nat.le_of_ble_eq_true rfl)⟩, hC.2.2.2.2 _ q520, (by obtain ⟨cell, g1, g2, g3⟩ := OS.recv hK hM.1 (hM.at 0 rfl) rfl ; exact sel_priv g3 (hC.2.2.2.2 _ q1659) (hC.2.2.2.2 _ q520) (va_Nw.use rfl (hK.1.2.1 _ q519 rfl)) (by decide))⟩ rfl hl.1 rfl (lv_room (Nat.le_of_ble_eq_true rfl)) dJ9_append_7 ⟨(Nat.le_of_ble_eq_true rfl), (Nat.le_of_ble_eq_true rfl)⟩ (fun rv O1 H locs hp hM1 => ?_)
  obtain ⟨r, rfl, rfl⟩ := hp
  have hM := hM.set (L' := [_]) (i := 0) rfl hM1 rfl
  refine lv_aload_n hC.1 hC.2.1 dJ9_append_10 rfl (lv_at hl 0 rfl) ?_
  refine p_cUe (L' := [_]) hC hK hM (hM.at 0 rfl) rfl (cs_isL l κ _ a r (cap + (cap + 2)) (va_cpy f (fun _ => 0) 0 0 cap) (nI n) (hM.at 0 rfl)) (va_cwU 0 hC.2.2.2.2 (lw_U q551 q553 q554 q552 q80 q555) rfl rfl rfl rfl (by decide +kernel) ⟨(Nat.le_of_ble_eq_true rfl), (Nat.le_of_ble_eq_true rfl)⟩) rfl hl.1 rfl (lv_room (Nat.le_of_ble_eq_true rfl)) dJ9_append_11 ⟨(Nat.le_of_ble_eq_true rfl), (Nat.le_of_ble_eq_true rfl)⟩ rfl hM.2 (fun H locs hM => ?_)
  refine lv_if_eq (tgt := 45) hC.1 hC.2.1 dJ9_append_14 (by decide) (fun c1 => ?_) (fun c1 => ?_)
  ·
    skip
    exact absurd c1 (by decide)
  ·
    skip
    refine lv_iload_n hC.1 hC.2.1 dJ9_append_17 rfl (lv_at hl 1 rfl) ?_
    refine s_ci hC (cs_can l x hx255) (va_cwS 1 hC.2.2.2.2 (lw_S q556 q557 q86 q558) rfl rfl rfl (by decide +kernel) ⟨(Nat.le_of_ble_eq_true rfl), (Nat.le_of_ble_eq_true rfl)⟩) rfl hl.1 rfl (lv_room (Nat.le_of_ble_eq_true rfl)) dJ9_append_18 ⟨(Nat.le_of_ble_eq_true rfl), (Nat.le_of_ble_eq_true rfl)⟩ ?_
    refine lv_if_eq (tgt := 45) hC.1 hC.2.1 dJ9_append_21 (by decide) (fun c2 => ?_) (fun c2 => ?_)
    ·
      skip
      exact absurd c2 (by decide)
    ·
      skip
      refine lv_aload_n hC.1 hC.2.1 dJ9_append_24 rfl (lv_at hl 0 rfl) ?_
      refine p_get hC hK hM 0 rfl in_J10 rfl 0 (by decide) q498 (fun x h => h) rfl dJ9_append_25 ?_
      refine lv_aload_n hC.1 hC.2.1 dJ9_append_28 rfl (lv_at hl 0 rfl) ?_
      refine lv_dup hC.1 hC.2.1 dJ9_append_29 rfl ?_
      refine p_get hC hK hM 0 rfl in_J10 rfl 3 (by decide) q501 (fun x h => h) rfl dJ9_append_30 ?_
      rw [show sbV (nI n) 3 = nI n from rfl]
      refine lv_dup_x1 hC.1 hC.2.1 dJ9_append_33 rfl rfl ?_
      refine lv_iconst (v := 1) hC.1 hC.2.1 dJ9_append_34 (by decide) ?_
      refine lv_iadd hC.1 hC.2.1 dJ9_append_35 ?_
      rw [nI_1]
      refine p_put (L' := [_]) hC hK hM 0 rfl in_J10 tyJ10 tyJ10_ok nmJ10 rfl 3 (by decide) q501 (fun x h => h) rfl rfl rfl (Nat.le_of_ble_eq_true rfl) rfl rfl rfl dJ9_append_36 (fun H locs hM => ?_)
      refine lv_iload_n hC.1 hC.2.1 dJ9_append_39 rfl (lv_at hl 1 rfl) ?_
      refine lv_i2b hC.1 hC.2.1 dJ9_append_40 rfl ?_
      refine p_bast (L' := [_]) hC hK hM 0 rfl 0 rfl rfl (n := n) rfl (by omega) (by omega) (oar_set _ _ _ _ _) rfl dJ9_append_41 (fun H locs hM => ?_)
      refine lv_goto (tgt := 75) hC.1 hC.2.1 dJ9_append_42 (by decide) ?_
      refine lv_aload_n hC.1 hC.2.1 dJ9_append_75 rfl (lv_at hl 0 rfl) ?_
      refine W.widen (k := 1) (n := 34) (Nat.le_of_ble_eq_true rfl) (Nat.le_of_ble_eq_true rfl) ?_
      refine p_aret hC hr (Or.inl ⟨_, rfl⟩) hlocks hM (Or.inr ⟨_, rfl⟩) dJ9_append_76 ?_
      refine ⟨r, rfl, ?_⟩
      rw [nar_b hx, sbV_up]
      rfl

set_option maxHeartbeats 400000 in
set_option maxRecDepth 100000 in
theorem cs_appG34 (l : Launch) (κ : Nat → Nat) (O : gO) (a q cap : Nat) (f : Nat → Int32)  (n : Nat) (x : Int32) (hO : O a = some (sbU q cap f (nI n))) (hx : 0 ≤ x ∧ x ≤ 127) (hft : ∀ i, fits .byte (.int (f i)) = true) (hn : n = cap) (h20 : cap ≤ 34) : oM l κ yJ9_append cJ9_append 2 (some (.object "java/lang/AbstractStringBuilder")) ({ frames := 4, cells := 1, slots := 70, locals := 104 }) [.ref a, .int x] O (fun rv O1 => ∃ r, rv = some (.ref a) ∧ O1 = oup O a (sbU r (cap + (cap + 2)) (upd (va_cpy f (fun _ => 0) 0 0 cap) n x) (nI (n + 1)))) := by
  intro D ac A
  refine o_body (own := RJ9) rfl (by decide +kernel) (Nat.le_of_ble_eq_true rfl) ?_
  intro p e s m args below meth c ls hC hr hlocks hK hM hl hnamed hmeth
  have hl : lv_has ls 2 [(0, .ref a), (1, .int x)] := hl
  have hM := PS.of hM [(a, sbU q cap f (nI n))] ⟨hO, trivial⟩ (by simp [oad])
  have hx255 : x ≤ 255 := Int32.le_trans hx.2 (by decide)
  refine lv_aload_n hC.1 hC.2.1 dJ9_append_0 rfl (lv_at hl 0 rfl) ?_
  refine lv_aload_n hC.1 hC.2.1 dJ9_append_1 rfl (lv_at hl 0 rfl) ?_
  refine p_get hC hK hM 0 rfl in_J10 rfl 3 (by decide) q501 (fun x h => h) rfl dJ9_append_2 ?_
  rw [show sbV (nI n) 3 = nI n from rfl]
  refine lv_iconst (v := 1) hC.1 hC.2.1 dJ9_append_5 (by decide) ?_
  refine lv_iadd hC.1 hC.2.1 dJ9_append_6 ?_
  rw [nI_1]
  refine o_cV hC hK hM.1 (hM.at 0 rfl) rfl (cs_ensG34 l κ _ a q cap f (nI n) (n + 1) (hM.at 0 rfl) hft (by omega) (by omega) h20) ⟨callB_of 1 hC.2.2.2.2 (lw_meth q521) rfl rfl rfl (hC.2.2.2.2 _ q80) (hC.2.2.2.2 _ q518) (by decide +kernel) ⟨(Nat.le_of_ble_eq_true rfl), (Nat.le_of_ble_eq_true rfl)⟩, hC.2.2.2.2 _ q520, (by obtain ⟨cell, g1, g2, g3⟩ := OS.recv hK hM.1 (hM.at 0 rfl) rfl ; exact sel_priv g3 (hC.2.2.2.2 _ q1659) (hC.2.2.2.2 _ q520) (va_Nw.use rfl (hK.1.2.1 _ q519 rfl)) (by decide))⟩ rfl hl.1 rfl (lv_room (Nat.le_of_ble_eq_true rfl)) dJ9_append_7 ⟨(Nat.le_of_ble_eq_true rfl), (Nat.le_of_ble_eq_true rfl)⟩ (fun rv O1 H locs hp hM1 => ?_)
  obtain ⟨r, rfl, rfl⟩ := hp
  have hM := hM.set (L' := [_]) (i := 0) rfl hM1 rfl
  refine lv_aload_n hC.1 hC.2.1 dJ9_append_10 rfl (lv_at hl 0 rfl) ?_
  refine p_cUe (L' := [_]) hC hK hM (hM.at 0 rfl) rfl (cs_isL l κ _ a r (cap + (cap + 2)) (va_cpy f (fun _ => 0) 0 0 cap) (nI n) (hM.at 0 rfl)) (va_cwU 0 hC.2.2.2.2 (lw_U q551 q553 q554 q552 q80 q555) rfl rfl rfl rfl (by decide +kernel) ⟨(Nat.le_of_ble_eq_true rfl), (Nat.le_of_ble_eq_true rfl)⟩) rfl hl.1 rfl (lv_room (Nat.le_of_ble_eq_true rfl)) dJ9_append_11 ⟨(Nat.le_of_ble_eq_true rfl), (Nat.le_of_ble_eq_true rfl)⟩ rfl hM.2 (fun H locs hM => ?_)
  refine lv_if_eq (tgt := 45) hC.1 hC.2.1 dJ9_append_14 (by decide) (fun c1 => ?_) (fun c1 => ?_)
  ·
    skip
    exact absurd c1 (by decide)
  ·
    skip
    refine lv_iload_n hC.1 hC.2.1 dJ9_append_17 rfl (lv_at hl 1 rfl) ?_
    refine s_ci hC (cs_can l x hx255) (va_cwS 1 hC.2.2.2.2 (lw_S q556 q557 q86 q558) rfl rfl rfl (by decide +kernel) ⟨(Nat.le_of_ble_eq_true rfl), (Nat.le_of_ble_eq_true rfl)⟩) rfl hl.1 rfl (lv_room (Nat.le_of_ble_eq_true rfl)) dJ9_append_18 ⟨(Nat.le_of_ble_eq_true rfl), (Nat.le_of_ble_eq_true rfl)⟩ ?_
    refine lv_if_eq (tgt := 45) hC.1 hC.2.1 dJ9_append_21 (by decide) (fun c2 => ?_) (fun c2 => ?_)
    ·
      skip
      exact absurd c2 (by decide)
    ·
      skip
      refine lv_aload_n hC.1 hC.2.1 dJ9_append_24 rfl (lv_at hl 0 rfl) ?_
      refine p_get hC hK hM 0 rfl in_J10 rfl 0 (by decide) q498 (fun x h => h) rfl dJ9_append_25 ?_
      refine lv_aload_n hC.1 hC.2.1 dJ9_append_28 rfl (lv_at hl 0 rfl) ?_
      refine lv_dup hC.1 hC.2.1 dJ9_append_29 rfl ?_
      refine p_get hC hK hM 0 rfl in_J10 rfl 3 (by decide) q501 (fun x h => h) rfl dJ9_append_30 ?_
      rw [show sbV (nI n) 3 = nI n from rfl]
      refine lv_dup_x1 hC.1 hC.2.1 dJ9_append_33 rfl rfl ?_
      refine lv_iconst (v := 1) hC.1 hC.2.1 dJ9_append_34 (by decide) ?_
      refine lv_iadd hC.1 hC.2.1 dJ9_append_35 ?_
      rw [nI_1]
      refine p_put (L' := [_]) hC hK hM 0 rfl in_J10 tyJ10 tyJ10_ok nmJ10 rfl 3 (by decide) q501 (fun x h => h) rfl rfl rfl (Nat.le_of_ble_eq_true rfl) rfl rfl rfl dJ9_append_36 (fun H locs hM => ?_)
      refine lv_iload_n hC.1 hC.2.1 dJ9_append_39 rfl (lv_at hl 1 rfl) ?_
      refine lv_i2b hC.1 hC.2.1 dJ9_append_40 rfl ?_
      refine p_bast (L' := [_]) hC hK hM 0 rfl 0 rfl rfl (n := n) rfl (by omega) (by omega) (oar_set _ _ _ _ _) rfl dJ9_append_41 (fun H locs hM => ?_)
      refine lv_goto (tgt := 75) hC.1 hC.2.1 dJ9_append_42 (by decide) ?_
      refine lv_aload_n hC.1 hC.2.1 dJ9_append_75 rfl (lv_at hl 0 rfl) ?_
      refine W.widen (k := 1) (n := 70) (Nat.le_of_ble_eq_true rfl) (Nat.le_of_ble_eq_true rfl) ?_
      refine p_aret hC hr (Or.inl ⟨_, rfl⟩) hlocks hM (Or.inr ⟨_, rfl⟩) dJ9_append_76 ?_
      refine ⟨r, rfl, ?_⟩
      rw [nar_b hx, sbV_up]
      rfl

set_option maxHeartbeats 400000 in
set_option maxRecDepth 100000 in
theorem cs_appG70 (l : Launch) (κ : Nat → Nat) (O : gO) (a q cap : Nat) (f : Nat → Int32)  (n : Nat) (x : Int32) (hO : O a = some (sbU q cap f (nI n))) (hx : 0 ≤ x ∧ x ≤ 127) (hft : ∀ i, fits .byte (.int (f i)) = true) (hn : n = cap) (h20 : cap ≤ 70) : oM l κ yJ9_append cJ9_append 2 (some (.object "java/lang/AbstractStringBuilder")) ({ frames := 4, cells := 1, slots := 142, locals := 104 }) [.ref a, .int x] O (fun rv O1 => ∃ r, rv = some (.ref a) ∧ O1 = oup O a (sbU r (cap + (cap + 2)) (upd (va_cpy f (fun _ => 0) 0 0 cap) n x) (nI (n + 1)))) := by
  intro D ac A
  refine o_body (own := RJ9) rfl (by decide +kernel) (Nat.le_of_ble_eq_true rfl) ?_
  intro p e s m args below meth c ls hC hr hlocks hK hM hl hnamed hmeth
  have hl : lv_has ls 2 [(0, .ref a), (1, .int x)] := hl
  have hM := PS.of hM [(a, sbU q cap f (nI n))] ⟨hO, trivial⟩ (by simp [oad])
  have hx255 : x ≤ 255 := Int32.le_trans hx.2 (by decide)
  refine lv_aload_n hC.1 hC.2.1 dJ9_append_0 rfl (lv_at hl 0 rfl) ?_
  refine lv_aload_n hC.1 hC.2.1 dJ9_append_1 rfl (lv_at hl 0 rfl) ?_
  refine p_get hC hK hM 0 rfl in_J10 rfl 3 (by decide) q501 (fun x h => h) rfl dJ9_append_2 ?_
  rw [show sbV (nI n) 3 = nI n from rfl]
  refine lv_iconst (v := 1) hC.1 hC.2.1 dJ9_append_5 (by decide) ?_
  refine lv_iadd hC.1 hC.2.1 dJ9_append_6 ?_
  rw [nI_1]
  refine o_cV hC hK hM.1 (hM.at 0 rfl) rfl (cs_ensG70 l κ _ a q cap f (nI n) (n + 1) (hM.at 0 rfl) hft (by omega) (by omega) h20) ⟨callB_of 1 hC.2.2.2.2 (lw_meth q521) rfl rfl rfl (hC.2.2.2.2 _ q80) (hC.2.2.2.2 _ q518) (by decide +kernel) ⟨(Nat.le_of_ble_eq_true rfl), (Nat.le_of_ble_eq_true rfl)⟩, hC.2.2.2.2 _ q520, (by obtain ⟨cell, g1, g2, g3⟩ := OS.recv hK hM.1 (hM.at 0 rfl) rfl ; exact sel_priv g3 (hC.2.2.2.2 _ q1659) (hC.2.2.2.2 _ q520) (va_Nw.use rfl (hK.1.2.1 _ q519 rfl)) (by decide))⟩ rfl hl.1 rfl (lv_room (Nat.le_of_ble_eq_true rfl)) dJ9_append_7 ⟨(Nat.le_of_ble_eq_true rfl), (Nat.le_of_ble_eq_true rfl)⟩ (fun rv O1 H locs hp hM1 => ?_)
  obtain ⟨r, rfl, rfl⟩ := hp
  have hM := hM.set (L' := [_]) (i := 0) rfl hM1 rfl
  refine lv_aload_n hC.1 hC.2.1 dJ9_append_10 rfl (lv_at hl 0 rfl) ?_
  refine p_cUe (L' := [_]) hC hK hM (hM.at 0 rfl) rfl (cs_isL l κ _ a r (cap + (cap + 2)) (va_cpy f (fun _ => 0) 0 0 cap) (nI n) (hM.at 0 rfl)) (va_cwU 0 hC.2.2.2.2 (lw_U q551 q553 q554 q552 q80 q555) rfl rfl rfl rfl (by decide +kernel) ⟨(Nat.le_of_ble_eq_true rfl), (Nat.le_of_ble_eq_true rfl)⟩) rfl hl.1 rfl (lv_room (Nat.le_of_ble_eq_true rfl)) dJ9_append_11 ⟨(Nat.le_of_ble_eq_true rfl), (Nat.le_of_ble_eq_true rfl)⟩ rfl hM.2 (fun H locs hM => ?_)
  refine lv_if_eq (tgt := 45) hC.1 hC.2.1 dJ9_append_14 (by decide) (fun c1 => ?_) (fun c1 => ?_)
  ·
    skip
    exact absurd c1 (by decide)
  ·
    skip
    refine lv_iload_n hC.1 hC.2.1 dJ9_append_17 rfl (lv_at hl 1 rfl) ?_
    refine s_ci hC (cs_can l x hx255) (va_cwS 1 hC.2.2.2.2 (lw_S q556 q557 q86 q558) rfl rfl rfl (by decide +kernel) ⟨(Nat.le_of_ble_eq_true rfl), (Nat.le_of_ble_eq_true rfl)⟩) rfl hl.1 rfl (lv_room (Nat.le_of_ble_eq_true rfl)) dJ9_append_18 ⟨(Nat.le_of_ble_eq_true rfl), (Nat.le_of_ble_eq_true rfl)⟩ ?_
    refine lv_if_eq (tgt := 45) hC.1 hC.2.1 dJ9_append_21 (by decide) (fun c2 => ?_) (fun c2 => ?_)
    ·
      skip
      exact absurd c2 (by decide)
    ·
      skip
      refine lv_aload_n hC.1 hC.2.1 dJ9_append_24 rfl (lv_at hl 0 rfl) ?_
      refine p_get hC hK hM 0 rfl in_J10 rfl 0 (by decide) q498 (fun x h => h) rfl dJ9_append_25 ?_
      refine lv_aload_n hC.1 hC.2.1 dJ9_append_28 rfl (lv_at hl 0 rfl) ?_
      refine lv_dup hC.1 hC.2.1 dJ9_append_29 rfl ?_
      refine p_get hC hK hM 0 rfl in_J10 rfl 3 (by decide) q501 (fun x h => h) rfl dJ9_append_30 ?_
      rw [show sbV (nI n) 3 = nI n from rfl]
      refine lv_dup_x1 hC.1 hC.2.1 dJ9_append_33 rfl rfl ?_
      refine lv_iconst (v := 1) hC.1 hC.2.1 dJ9_append_34 (by decide) ?_
      refine lv_iadd hC.1 hC.2.1 dJ9_append_35 ?_
      rw [nI_1]
      refine p_put (L' := [_]) hC hK hM 0 rfl in_J10 tyJ10 tyJ10_ok nmJ10 rfl 3 (by decide) q501 (fun x h => h) rfl rfl rfl (Nat.le_of_ble_eq_true rfl) rfl rfl rfl dJ9_append_36 (fun H locs hM => ?_)
      refine lv_iload_n hC.1 hC.2.1 dJ9_append_39 rfl (lv_at hl 1 rfl) ?_
      refine lv_i2b hC.1 hC.2.1 dJ9_append_40 rfl ?_
      refine p_bast (L' := [_]) hC hK hM 0 rfl 0 rfl rfl (n := n) rfl (by omega) (by omega) (oar_set _ _ _ _ _) rfl dJ9_append_41 (fun H locs hM => ?_)
      refine lv_goto (tgt := 75) hC.1 hC.2.1 dJ9_append_42 (by decide) ?_
      refine lv_aload_n hC.1 hC.2.1 dJ9_append_75 rfl (lv_at hl 0 rfl) ?_
      refine W.widen (k := 1) (n := 142) (Nat.le_of_ble_eq_true rfl) (Nat.le_of_ble_eq_true rfl) ?_
      refine p_aret hC hr (Or.inl ⟨_, rfl⟩) hlocks hM (Or.inr ⟨_, rfl⟩) dJ9_append_76 ?_
      refine ⟨r, rfl, ?_⟩
      rw [nar_b hx, sbV_up]
      rfl

set_option maxHeartbeats 400000 in
set_option maxRecDepth 100000 in
theorem cs_appG142 (l : Launch) (κ : Nat → Nat) (O : gO) (a q cap : Nat) (f : Nat → Int32)  (n : Nat) (x : Int32) (hO : O a = some (sbU q cap f (nI n))) (hx : 0 ≤ x ∧ x ≤ 127) (hft : ∀ i, fits .byte (.int (f i)) = true) (hn : n = cap) (h20 : cap ≤ 142) : oM l κ yJ9_append cJ9_append 2 (some (.object "java/lang/AbstractStringBuilder")) ({ frames := 4, cells := 1, slots := 286, locals := 104 }) [.ref a, .int x] O (fun rv O1 => ∃ r, rv = some (.ref a) ∧ O1 = oup O a (sbU r (cap + (cap + 2)) (upd (va_cpy f (fun _ => 0) 0 0 cap) n x) (nI (n + 1)))) := by
  intro D ac A
  refine o_body (own := RJ9) rfl (by decide +kernel) (Nat.le_of_ble_eq_true rfl) ?_
  intro p e s m args below meth c ls hC hr hlocks hK hM hl hnamed hmeth
  have hl : lv_has ls 2 [(0, .ref a), (1, .int x)] := hl
  have hM := PS.of hM [(a, sbU q cap f (nI n))] ⟨hO, trivial⟩ (by simp [oad])
  have hx255 : x ≤ 255 := Int32.le_trans hx.2 (by decide)
  refine lv_aload_n hC.1 hC.2.1 dJ9_append_0 rfl (lv_at hl 0 rfl) ?_
  refine lv_aload_n hC.1 hC.2.1 dJ9_append_1 rfl (lv_at hl 0 rfl) ?_
  refine p_get hC hK hM 0 rfl in_J10 rfl 3 (by decide) q501 (fun x h => h) rfl dJ9_append_2 ?_
  rw [show sbV (nI n) 3 = nI n from rfl]
  refine lv_iconst (v := 1) hC.1 hC.2.1 dJ9_append_5 (by decide) ?_
  refine lv_iadd hC.1 hC.2.1 dJ9_append_6 ?_
  rw [nI_1]
  refine o_cV hC hK hM.1 (hM.at 0 rfl) rfl (cs_ensG142 l κ _ a q cap f (nI n) (n + 1) (hM.at 0 rfl) hft (by omega) (by omega) h20) ⟨callB_of 1 hC.2.2.2.2 (lw_meth q521) rfl rfl rfl (hC.2.2.2.2 _ q80) (hC.2.2.2.2 _ q518) (by decide +kernel) ⟨(Nat.le_of_ble_eq_true rfl), (Nat.le_of_ble_eq_true rfl)⟩, hC.2.2.2.2 _ q520, (by obtain ⟨cell, g1, g2, g3⟩ := OS.recv hK hM.1 (hM.at 0 rfl) rfl ; exact sel_priv g3 (hC.2.2.2.2 _ q1659) (hC.2.2.2.2 _ q520) (va_Nw.use rfl (hK.1.2.1 _ q519 rfl)) (by decide))⟩ rfl hl.1 rfl (lv_room (Nat.le_of_ble_eq_true rfl)) dJ9_append_7 ⟨(Nat.le_of_ble_eq_true rfl), (Nat.le_of_ble_eq_true rfl)⟩ (fun rv O1 H locs hp hM1 => ?_)
  obtain ⟨r, rfl, rfl⟩ := hp
  have hM := hM.set (L' := [_]) (i := 0) rfl hM1 rfl
  refine lv_aload_n hC.1 hC.2.1 dJ9_append_10 rfl (lv_at hl 0 rfl) ?_
  refine p_cUe (L' := [_]) hC hK hM (hM.at 0 rfl) rfl (cs_isL l κ _ a r (cap + (cap + 2)) (va_cpy f (fun _ => 0) 0 0 cap) (nI n) (hM.at 0 rfl)) (va_cwU 0 hC.2.2.2.2 (lw_U q551 q553 q554 q552 q80 q555) rfl rfl rfl rfl (by decide +kernel) ⟨(Nat.le_of_ble_eq_true rfl), (Nat.le_of_ble_eq_true rfl)⟩) rfl hl.1 rfl (lv_room (Nat.le_of_ble_eq_true rfl)) dJ9_append_11 ⟨(Nat.le_of_ble_eq_true rfl), (Nat.le_of_ble_eq_true rfl)⟩ rfl hM.2 (fun H locs hM => ?_)
  refine lv_if_eq (tgt := 45) hC.1 hC.2.1 dJ9_append_14 (by decide) (fun c1 => ?_) (fun c1 => ?_)
  ·
    skip
    exact absurd c1 (by decide)
  ·
    skip
    refine lv_iload_n hC.1 hC.2.1 dJ9_append_17 rfl (lv_at hl 1 rfl) ?_
    refine s_ci hC (cs_can l x hx255) (va_cwS 1 hC.2.2.2.2 (lw_S q556 q557 q86 q558) rfl rfl rfl (by decide +kernel) ⟨(Nat.le_of_ble_eq_true rfl), (Nat.le_of_ble_eq_true rfl)⟩) rfl hl.1 rfl (lv_room (Nat.le_of_ble_eq_true rfl)) dJ9_append_18 ⟨(Nat.le_of_ble_eq_true rfl), (Nat.le_of_ble_eq_true rfl)⟩ ?_
    refine lv_if_eq (tgt := 45) hC.1 hC.2.1 dJ9_append_21 (by decide) (fun c2 => ?_) (fun c2 => ?_)
    ·
      skip
      exact absurd c2 (by decide)
    ·
      skip
      refine lv_aload_n hC.1 hC.2.1 dJ9_append_24 rfl (lv_at hl 0 rfl) ?_
      refine p_get hC hK hM 0 rfl in_J10 rfl 0 (by decide) q498 (fun x h => h) rfl dJ9_append_25 ?_
      refine lv_aload_n hC.1 hC.2.1 dJ9_append_28 rfl (lv_at hl 0 rfl) ?_
      refine lv_dup hC.1 hC.2.1 dJ9_append_29 rfl ?_
      refine p_get hC hK hM 0 rfl in_J10 rfl 3 (by decide) q501 (fun x h => h) rfl dJ9_append_30 ?_
      rw [show sbV (nI n) 3 = nI n from rfl]
      refine lv_dup_x1 hC.1 hC.2.1 dJ9_append_33 rfl rfl ?_
      refine lv_iconst (v := 1) hC.1 hC.2.1 dJ9_append_34 (by decide) ?_
      refine lv_iadd hC.1 hC.2.1 dJ9_append_35 ?_
      rw [nI_1]
      refine p_put (L' := [_]) hC hK hM 0 rfl in_J10 tyJ10 tyJ10_ok nmJ10 rfl 3 (by decide) q501 (fun x h => h) rfl rfl rfl (Nat.le_of_ble_eq_true rfl) rfl rfl rfl dJ9_append_36 (fun H locs hM => ?_)
      refine lv_iload_n hC.1 hC.2.1 dJ9_append_39 rfl (lv_at hl 1 rfl) ?_
      refine lv_i2b hC.1 hC.2.1 dJ9_append_40 rfl ?_
      refine p_bast (L' := [_]) hC hK hM 0 rfl 0 rfl rfl (n := n) rfl (by omega) (by omega) (oar_set _ _ _ _ _) rfl dJ9_append_41 (fun H locs hM => ?_)
      refine lv_goto (tgt := 75) hC.1 hC.2.1 dJ9_append_42 (by decide) ?_
      refine lv_aload_n hC.1 hC.2.1 dJ9_append_75 rfl (lv_at hl 0 rfl) ?_
      refine W.widen (k := 1) (n := 286) (Nat.le_of_ble_eq_true rfl) (Nat.le_of_ble_eq_true rfl) ?_
      refine p_aret hC hr (Or.inl ⟨_, rfl⟩) hlocks hM (Or.inr ⟨_, rfl⟩) dJ9_append_76 ?_
      refine ⟨r, rfl, ?_⟩
      rw [nar_b hx, sbV_up]
      rfl

set_option maxHeartbeats 400000 in
set_option maxRecDepth 100000 in
theorem cs_appG286 (l : Launch) (κ : Nat → Nat) (O : gO) (a q cap : Nat) (f : Nat → Int32)  (n : Nat) (x : Int32) (hO : O a = some (sbU q cap f (nI n))) (hx : 0 ≤ x ∧ x ≤ 127) (hft : ∀ i, fits .byte (.int (f i)) = true) (hn : n = cap) (h20 : cap ≤ 286) : oM l κ yJ9_append cJ9_append 2 (some (.object "java/lang/AbstractStringBuilder")) ({ frames := 4, cells := 1, slots := 574, locals := 104 }) [.ref a, .int x] O (fun rv O1 => ∃ r, rv = some (.ref a) ∧ O1 = oup O a (sbU r (cap + (cap + 2)) (upd (va_cpy f (fun _ => 0) 0 0 cap) n x) (nI (n + 1)))) := by
  intro D ac A
  refine o_body (own := RJ9) rfl (by decide +kernel) (Nat.le_of_ble_eq_true rfl) ?_
  intro p e s m args below meth c ls hC hr hlocks hK hM hl hnamed hmeth
  have hl : lv_has ls 2 [(0, .ref a), (1, .int x)] := hl
  have hM := PS.of hM [(a, sbU q cap f (nI n))] ⟨hO, trivial⟩ (by simp [oad])
  have hx255 : x ≤ 255 := Int32.le_trans hx.2 (by decide)
  refine lv_aload_n hC.1 hC.2.1 dJ9_append_0 rfl (lv_at hl 0 rfl) ?_
  refine lv_aload_n hC.1 hC.2.1 dJ9_append_1 rfl (lv_at hl 0 rfl) ?_
  refine p_get hC hK hM 0 rfl in_J10 rfl 3 (by decide) q501 (fun x h => h) rfl dJ9_append_2 ?_
  rw [show sbV (nI n) 3 = nI n from rfl]
  refine lv_iconst (v := 1) hC.1 hC.2.1 dJ9_append_5 (by decide) ?_
  refine lv_iadd hC.1 hC.2.1 dJ9_append_6 ?_
  rw [nI_1]
  refine o_cV hC hK hM.1 (hM.at 0 rfl) rfl (cs_ensG286 l κ _ a q cap f (nI n) (n + 1) (hM.at 0 rfl) hft (by omega) (by omega) h20) ⟨callB_of 1 hC.2.2.2.2 (lw_meth q521) rfl rfl rfl (hC.2.2.2.2 _ q80) (hC.2.2.2.2 _ q518) (by decide +kernel) ⟨(Nat.le_of_ble_eq_true rfl), (Nat.le_of_ble_eq_true rfl)⟩, hC.2.2.2.2 _ q520, (by obtain ⟨cell, g1, g2, g3⟩ := OS.recv hK hM.1 (hM.at 0 rfl) rfl ; exact sel_priv g3 (hC.2.2.2.2 _ q1659) (hC.2.2.2.2 _ q520) (va_Nw.use rfl (hK.1.2.1 _ q519 rfl)) (by decide))⟩ rfl hl.1 rfl (lv_room (Nat.le_of_ble_eq_true rfl)) dJ9_append_7 ⟨(Nat.le_of_ble_eq_true rfl), (Nat.le_of_ble_eq_true rfl)⟩ (fun rv O1 H locs hp hM1 => ?_)
  obtain ⟨r, rfl, rfl⟩ := hp
  have hM := hM.set (L' := [_]) (i := 0) rfl hM1 rfl
  refine lv_aload_n hC.1 hC.2.1 dJ9_append_10 rfl (lv_at hl 0 rfl) ?_
  refine p_cUe (L' := [_]) hC hK hM (hM.at 0 rfl) rfl (cs_isL l κ _ a r (cap + (cap + 2)) (va_cpy f (fun _ => 0) 0 0 cap) (nI n) (hM.at 0 rfl)) (va_cwU 0 hC.2.2.2.2 (lw_U q551 q553 q554 q552 q80 q555) rfl rfl rfl rfl (by decide +kernel) ⟨(Nat.le_of_ble_eq_true rfl), (Nat.le_of_ble_eq_true rfl)⟩) rfl hl.1 rfl (lv_room (Nat.le_of_ble_eq_true rfl)) dJ9_append_11 ⟨(Nat.le_of_ble_eq_true rfl), (Nat.le_of_ble_eq_true rfl)⟩ rfl hM.2 (fun H locs hM => ?_)
  refine lv_if_eq (tgt := 45) hC.1 hC.2.1 dJ9_append_14 (by decide) (fun c1 => ?_) (fun c1 => ?_)
  ·
    skip
    exact absurd c1 (by decide)
  ·
    skip
    refine lv_iload_n hC.1 hC.2.1 dJ9_append_17 rfl (lv_at hl 1 rfl) ?_
    refine s_ci hC (cs_can l x hx255) (va_cwS 1 hC.2.2.2.2 (lw_S q556 q557 q86 q558) rfl rfl rfl (by decide +kernel) ⟨(Nat.le_of_ble_eq_true rfl), (Nat.le_of_ble_eq_true rfl)⟩) rfl hl.1 rfl (lv_room (Nat.le_of_ble_eq_true rfl)) dJ9_append_18 ⟨(Nat.le_of_ble_eq_true rfl), (Nat.le_of_ble_eq_true rfl)⟩ ?_
    refine lv_if_eq (tgt := 45) hC.1 hC.2.1 dJ9_append_21 (by decide) (fun c2 => ?_) (fun c2 => ?_)
    ·
      skip
      exact absurd c2 (by decide)
    ·
      skip
      refine lv_aload_n hC.1 hC.2.1 dJ9_append_24 rfl (lv_at hl 0 rfl) ?_
      refine p_get hC hK hM 0 rfl in_J10 rfl 0 (by decide) q498 (fun x h => h) rfl dJ9_append_25 ?_
      refine lv_aload_n hC.1 hC.2.1 dJ9_append_28 rfl (lv_at hl 0 rfl) ?_
      refine lv_dup hC.1 hC.2.1 dJ9_append_29 rfl ?_
      refine p_get hC hK hM 0 rfl in_J10 rfl 3 (by decide) q501 (fun x h => h) rfl dJ9_append_30 ?_
      rw [show sbV (nI n) 3 = nI n from rfl]
      refine lv_dup_x1 hC.1 hC.2.1 dJ9_append_33 rfl rfl ?_
      refine lv_iconst (v := 1) hC.1 hC.2.1 dJ9_append_34 (by decide) ?_
      refine lv_iadd hC.1 hC.2.1 dJ9_append_35 ?_
      rw [nI_1]
      refine p_put (L' := [_]) hC hK hM 0 rfl in_J10 tyJ10 tyJ10_ok nmJ10 rfl 3 (by decide) q501 (fun x h => h) rfl rfl rfl (Nat.le_of_ble_eq_true rfl) rfl rfl rfl dJ9_append_36 (fun H locs hM => ?_)
      refine lv_iload_n hC.1 hC.2.1 dJ9_append_39 rfl (lv_at hl 1 rfl) ?_
      refine lv_i2b hC.1 hC.2.1 dJ9_append_40 rfl ?_
      refine p_bast (L' := [_]) hC hK hM 0 rfl 0 rfl rfl (n := n) rfl (by omega) (by omega) (oar_set _ _ _ _ _) rfl dJ9_append_41 (fun H locs hM => ?_)
      refine lv_goto (tgt := 75) hC.1 hC.2.1 dJ9_append_42 (by decide) ?_
      refine lv_aload_n hC.1 hC.2.1 dJ9_append_75 rfl (lv_at hl 0 rfl) ?_
      refine W.widen (k := 1) (n := 574) (Nat.le_of_ble_eq_true rfl) (Nat.le_of_ble_eq_true rfl) ?_
      refine p_aret hC hr (Or.inl ⟨_, rfl⟩) hlocks hM (Or.inr ⟨_, rfl⟩) dJ9_append_76 ?_
      refine ⟨r, rfl, ?_⟩
      rw [nar_b hx, sbV_up]
      rfl
