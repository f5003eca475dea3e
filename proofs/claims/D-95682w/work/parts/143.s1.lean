set_option maxHeartbeats 400000 in
set_option maxRecDepth 100000 in
theorem cs_i9 (l : Launch) (κ : Nat → Nat) (O : gO) (a : Nat) (hO : O a = some (.inr (14, [.null, .int 0, .int 0, .int 0], aNo))) : oM l κ yJ9_init cJ9_init 2 none ({ frames := 1, cells := 1, slots := 16, locals := 12 }) [.ref a, .int 16] O (fun rv O1 => ∃ q, O1 = oup O a (sbU q 16 (fun _ => 0) 0) ∧ rv = none) := by
  intro D ac A
  refine o_body (own := RJ9) rfl (by decide +kernel) (Nat.le_of_ble_eq_true rfl) ?_
  intro p e s m args below meth c ls hC hr hlocks hK hM hl hnamed hmeth
  have hl : lv_has ls 2 [(0, .ref a), (1, .int 16)] := hl
  have hnm : meth.name = "<init>" := (name_of_methodNamed hnamed hmeth).1
  have hM := PS.of hM [(a, .inr (14, [.null, .int 0, .int 0, .int 0], aNo))] ⟨hO, trivial⟩ (by simp [oad])
  refine lv_aload_n hC.1 hC.2.1 dJ9_init_0 rfl (lv_at hl 0 rfl) ?_
  refine W.objInit hC.1 hC.2.1 hC.2.2.2.1 (hC.2.2.2.2 _ q488) (hC.2.2.2.2 _ q104) (hC.2.2.2.2 _ q105) rfl (by rw [hC.2.2.1]; exact hl.1) rfl dJ9_init_1 (Nat.le_of_ble_eq_true rfl) (Nat.le_of_ble_eq_true rfl) ?_
  refine W.eq (g2 := F0 m 4 ls []) rfl ?_
  refine va_gets hC.1 hC.2.1 hK.2.2.1 hM.s hC.2.2.2.1 (hC.2.2.2.2 _ q489) (fun x h => h) dJ9_init_4 ?_
  refine lv_if_eq (tgt := 25) hC.1 hC.2.1 dJ9_init_7 (by decide) (fun c1 => ?_) (fun c1 => ?_)
  ·
    skip
    exact absurd c1 (by decide)
  ·
    skip
    refine lv_aload_n hC.1 hC.2.1 dJ9_init_10 rfl (lv_at hl 0 rfl) ?_
    refine lv_iload_n hC.1 hC.2.1 dJ9_init_11 rfl (lv_at hl 1 rfl) ?_
    refine p_newb (L' := fun q => [_, _]) hC hK hM q140 (N := 16) rfl (by decide) (Nat.le_of_ble_eq_true rfl) (Nat.le_of_ble_eq_true rfl) dJ9_init_12 (fun q => rfl) (fun q_2 H hq_2 hM => ?_)
    refine p_adopt (L' := [_]) hC hK hM 0 rfl 1 rfl hq_2 (by decide) in_J10 tyJ10 tyJ10_ok nmJ10 rfl 0 (by decide) q498 (fun x h => h) rfl rfl rfl (Nat.le_of_ble_eq_true rfl) (u' := .inr (14, [_, _, _, _], _)) rfl rfl dJ9_init_14 (fun H locs hM => ?_)
    refine lv_aload_n hC.1 hC.2.1 dJ9_init_17 rfl (lv_at hl 0 rfl) ?_
    refine lv_iconst (v := 0) hC.1 hC.2.1 dJ9_init_18 (by decide) ?_
    refine p_putR (L' := [_]) hC hK hM 0 rfl in_J10 tyJ10 tyJ10_ok nmJ10 rfl 1 (by decide) q499 (fun x h => h) rfl rfl rfl (Nat.le_of_ble_eq_true rfl) rfl (u' := .inr (14, [_, _, _, _], _)) rfl rfl dJ9_init_19 (fun H locs hM => ?_)
    refine lv_goto (tgt := 38) hC.1 hC.2.1 dJ9_init_22 (by decide) ?_
    refine W.widen (k := 1) (n := 16) (Nat.le_of_ble_eq_true rfl) (Nat.le_of_ble_eq_true rfl) ?_
    refine p_vret hC hr hlocks hM dJ9_init_38 ?_
    refine ⟨q_2, ?_, rfl⟩
    rw [oar_new]
    rfl

set_option maxHeartbeats 400000 in
set_option maxRecDepth 100000 in
theorem cs_init (l : Launch) (κ : Nat → Nat) (O : gO) (a : Nat) (hO : O a = some (.inr (14, [.null, .int 0, .int 0, .int 0], aNo))) : oM l κ yJ10_init cJ10_init 1 none ({ frames := 2, cells := 1, slots := 16, locals := 33 }) [.ref a] O (fun rv O1 => ∃ q, O1 = oup O a (sbU q 16 (fun _ => 0) 0) ∧ rv = none) := by
  intro D ac A
  refine o_body (own := RJ10) rfl (by decide +kernel) (Nat.le_of_ble_eq_true rfl) ?_
  intro p e s m args below meth c ls hC hr hlocks hK hM hl hnamed hmeth
  have hl : lv_has ls 1 [(0, .ref a)] := hl
  have hnm : meth.name = "<init>" := (name_of_methodNamed hnamed hmeth).1
  have hM := PS.of hM [(a, .inr (14, [.null, .int 0, .int 0, .int 0], aNo))] ⟨hO, trivial⟩ (by simp [oad])
  refine lv_aload_n hC.1 hC.2.1 dJ10_init_0 rfl (lv_at hl 0 rfl) ?_
  refine lv_bipush (v := 16) hC.1 hC.2.1 dJ10_init_1 (by decide) ?_
  refine o_cI hC hK hM.1 (cs_i9 l κ _ a (hM.at 0 rfl)) (cwI 1 hC.2.2.2.2 (lw_meth q487) rfl rfl rfl (hC.2.2.2.2 _ q80) (hC.2.2.2.2 _ q485) (hC.2.2.2.2 _ q486) rfl (by decide +kernel) ⟨(Nat.le_of_ble_eq_true rfl), (Nat.le_of_ble_eq_true rfl)⟩) rfl hl.1 rfl (lv_room (Nat.le_of_ble_eq_true rfl)) dJ10_init_3 ⟨(Nat.le_of_ble_eq_true rfl), (Nat.le_of_ble_eq_true rfl)⟩ (fun rv O1 H locs hp hM1 => ?_)
  obtain ⟨q, rfl, rfl⟩ := hp
  have hM := hM.set (L' := [_]) (i := 0) rfl hM1 rfl
  refine W.widen (k := 1) (n := 16) (Nat.le_of_ble_eq_true rfl) (Nat.le_of_ble_eq_true rfl) ?_
  refine p_vret hC hr hlocks hM dJ10_init_6 ?_
  exact ⟨q, rfl, rfl⟩

set_option maxHeartbeats 400000 in
set_option maxRecDepth 100000 in
theorem cs_isL (l : Launch) (κ : Nat → Nat) (O : gO) (a q cap : Nat) (f : Nat → Int32) (cnt : Int32) (hO : O a = some (sbU q cap f cnt)) : oM l κ yJ9_isLatin1 cJ9_isLatin1 1 (some .boolean) ({ frames := 0, cells := 0, slots := 0, locals := 0 }) [.ref a] O (fun rv O1 => rv = some (.int 1) ∧ O1 = O) := by
  intro D ac A
  refine o_body (own := RJ9) rfl (by decide +kernel) (Nat.le_of_ble_eq_true rfl) ?_
  intro p e s m args below meth c ls hC hr hlocks hK hM hl hnamed hmeth
  have hl : lv_has ls 1 [(0, .ref a)] := hl
  have hM := PS.of hM [(a, sbU q cap f cnt)] ⟨hO, trivial⟩ (by simp [oad])
  refine va_gets hC.1 hC.2.1 hK.2.2.1 hM.s hC.2.2.2.1 (hC.2.2.2.2 _ q489) (fun x h => h) dJ9_isLatin1_0 ?_
  refine lv_if_eq (tgt := 17) hC.1 hC.2.1 dJ9_isLatin1_3 (by decide) (fun c1 => ?_) (fun c1 => ?_)
  ·
    skip
    exact absurd c1 (by decide)
  ·
    skip
    refine lv_aload_n hC.1 hC.2.1 dJ9_isLatin1_6 rfl (lv_at hl 0 rfl) ?_
    refine p_get hC hK hM 0 rfl in_J10 rfl 1 (by decide) q499 (fun x h => h) rfl dJ9_isLatin1_7 ?_
    refine lv_if_ne (tgt := 17) hC.1 hC.2.1 dJ9_isLatin1_10 (by decide) (fun c2 => ?_) (fun c2 => ?_)
    ·
      skip
      exact absurd rfl c2
    ·
      skip
      refine lv_iconst (v := 1) hC.1 hC.2.1 dJ9_isLatin1_13 (by decide) ?_
      refine lv_goto (tgt := 18) hC.1 hC.2.1 dJ9_isLatin1_14 (by decide) ?_
      skip
      refine p_zret hC hr hlocks hM (by first | exact bI_01 _ | exact Or.inl rfl | exact Or.inr rfl) dJ9_isLatin1_18 ?_
      exact ⟨rfl, oup_same hO⟩

set_option maxHeartbeats 400000 in
set_option maxRecDepth 100000 in
theorem cs_val (l : Launch) (κ : Nat → Nat) (O : gO) (a q cap : Nat) (f : Nat → Int32) (cnt : Int32) (hO : O a = some (sbU q cap f cnt)) : oM l κ yJ9_getValue cJ9_getValue 1 (some (.array .byte)) ({ frames := 0, cells := 0, slots := 0, locals := 0 }) [.ref a] O (fun rv O1 => rv = some (.ref q) ∧ O1 = O) := by
  intro D ac A
  refine o_body (own := RJ9) rfl (by decide +kernel) (Nat.le_of_ble_eq_true rfl) ?_
  intro p e s m args below meth c ls hC hr hlocks hK hM hl hnamed hmeth
  have hl : lv_has ls 1 [(0, .ref a)] := hl
  have hM := PS.of hM [(a, sbU q cap f cnt)] ⟨hO, trivial⟩ (by simp [oad])
  refine lv_aload_n hC.1 hC.2.1 dJ9_getValue_0 rfl (lv_at hl 0 rfl) ?_
  refine p_get hC hK hM 0 rfl in_J10 rfl 0 (by decide) q498 (fun x h => h) rfl dJ9_getValue_1 ?_
  skip
  refine p_aret hC hr (Or.inr ⟨_, rfl⟩) hlocks hM (Or.inr ⟨_, rfl⟩) dJ9_getValue_4 ?_
  exact ⟨rfl, oup_same hO⟩

set_option maxHeartbeats 400000 in
set_option maxRecDepth 100000 in
theorem cs_len (l : Launch) (κ : Nat → Nat) (O : gO) (a q cap : Nat) (f : Nat → Int32) (cnt : Int32) (hO : O a = some (sbU q cap f cnt)) : oM l κ yJ9_length cJ9_length 1 (some .int) ({ frames := 0, cells := 0, slots := 0, locals := 0 }) [.ref a] O (fun rv O1 => rv = some (.int cnt) ∧ O1 = O) := by
  intro D ac A
  refine o_body (own := RJ9) rfl (by decide +kernel) (Nat.le_of_ble_eq_true rfl) ?_
  intro p e s m args below meth c ls hC hr hlocks hK hM hl hnamed hmeth
  have hl : lv_has ls 1 [(0, .ref a)] := hl
  have hM := PS.of hM [(a, sbU q cap f cnt)] ⟨hO, trivial⟩ (by simp [oad])
  refine lv_aload_n hC.1 hC.2.1 dJ9_length_0 rfl (lv_at hl 0 rfl) ?_
  refine p_get hC hK hM 0 rfl in_J10 rfl 3 (by decide) q501 (fun x h => h) rfl dJ9_length_1 ?_
  skip
  refine p_iret hC hr hlocks hM dJ9_length_4 ?_
  exact ⟨rfl, oup_same hO⟩

set_option maxHeartbeats 400000 in
set_option maxRecDepth 100000 in
theorem cs_can (l : Launch) (x : Int32) (hx : x ≤ 255) : sMi l yJ15_canEncode cJ15_canEncode 1 (some .boolean) ({ frames := 0, cells := 0, slots := 0, locals := 0 }) [.int x] (1) := by
  refine s_body (own := RJ15) rfl (by decide) (Nat.le_of_ble_eq_true rfl) ?_
  intro p e s m args below meth c ls hC hr hlocks hl
  have hl : lv_has ls 1 [(0, .int x)] := hl
  refine lv_iload_n hC.1 hC.2.1 dJ15_canEncode_0 rfl (lv_at hl 0 rfl) ?_
  refine lv_sipush (v := 255) hC.1 hC.2.1 dJ15_canEncode_1 (by decide) ?_
  refine lv_icmp_gt (tgt := 11) hC.1 hC.2.1 dJ15_canEncode_4 (by decide) (fun c1 => ?_) (fun c1 => ?_)
  ·
    have nc1 := Int32.not_le.mpr c1
    exact absurd c1 (Int32.not_lt.mpr hx)
  ·
    have nc1 := Int32.not_lt.mp c1
    refine lv_iconst (v := 1) hC.1 hC.2.1 dJ15_canEncode_7 (by decide) ?_
    refine lv_goto (tgt := 12) hC.1 hC.2.1 dJ15_canEncode_8 (by decide) ?_
    refine s_zret hC hr hlocks (by first | exact bI_01 _ | exact Or.inl rfl | exact Or.inr rfl) dJ15_canEncode_12 ?_
    rfl

set_option maxHeartbeats 400000 in
set_option maxRecDepth 100000 in
theorem cs_newLen (l : Launch) (a b d2 : Nat) (hb : b ≤ d2) (hc : a + d2 < 2 ^ 20) (h0 : 0 < a + d2) : sMi l yJ12_newLength cJ12_newLength 4 (some .int) ({ frames := 1, cells := 0, slots := 0, locals := 21 }) [.int (nI a), .int (nI b), .int (nI d2)] (nI (a + d2)) := by
  refine s_body (own := RJ12) rfl (by decide) (Nat.le_of_ble_eq_true rfl) ?_
  intro p e s m args below meth c ls hC hr hlocks hl
  have hl : lv_has ls 4 [(0, .int (nI a)), (1, .int (nI b)), (2, .int (nI d2))] := hl
  refine lv_iload_n hC.1 hC.2.1 dJ12_newLength_0 rfl (lv_at hl 0 rfl) ?_
  refine lv_iload_n hC.1 hC.2.1 dJ12_newLength_1 rfl (lv_at hl 1 rfl) ?_
  refine lv_iload_n hC.1 hC.2.1 dJ12_newLength_2 rfl (lv_at hl 2 rfl) ?_
  refine va_mmax hC.1 hC.2.1 (hC.2.2.1.trans hl.1.symm) hC.2.2.2.1 (hC.2.2.2.2 _ q529) (hC.2.2.2.2 _ q530) (hC.2.2.2.2 _ q84) (hC.2.2.2.2 _ q531) (Nat.le_of_ble_eq_true rfl) (Nat.le_of_ble_eq_true rfl) (Nat.le_of_ble_eq_true rfl) (Nat.le_of_ble_eq_true rfl) dJ12_newLength_3 ?_
  rw [show (if nI b < nI d2 then nI d2 else nI b) = nI d2 from by split; rfl; rename_i h; rw [show b = d2 from Nat.le_antisymm hb (Nat.le_of_not_lt (fun h2 => h (nI_lt h2 (by omega))))]]
  refine lv_iadd hC.1 hC.2.1 dJ12_newLength_6 ?_
  rw [nI_add]
  refine lv_istore_n (lv' := [(3, _), (0, _), (1, _), (2, _)]) hC.1 hC.2.1 dJ12_newLength_7 rfl hl (by decide) rfl (fun ls hl => ?_)
  refine lv_iconst (v := 0) hC.1 hC.2.1 dJ12_newLength_8 (by decide) ?_
  refine lv_iload_n hC.1 hC.2.1 dJ12_newLength_9 rfl (lv_at hl 0 rfl) ?_
  refine lv_icmp_ge (tgt := 21) hC.1 hC.2.1 dJ12_newLength_10 (by decide) (fun c1 => ?_) (fun c1 => ?_)
  ·
    have nc1 := Int32.not_lt.mpr c1
    exact absurd (nle_t (a := a + d2) (b := 0) c1) (by omega)
  ·
    have nc1 := Int32.not_le.mp c1
    refine lv_iload_n hC.1 hC.2.1 dJ12_newLength_13 rfl (lv_at hl 0 rfl) ?_
    refine lv_ldc hC.1 hC.2.1 hC.2.2.2.1 (hC.2.2.2.2 _ q532) dJ12_newLength_14 ?_
    refine lv_icmp_gt (tgt := 21) hC.1 hC.2.1 dJ12_newLength_16 (by decide) (fun c2 => ?_) (fun c2 => ?_)
    ·
      have nc2 := Int32.not_le.mpr c2
      exact absurd (nlt_t (a := 2147483639) (b := a + d2) c2) (by omega)
    ·
      have nc2 := Int32.not_lt.mp c2
      refine lv_iload_n hC.1 hC.2.1 dJ12_newLength_19 rfl (lv_at hl 0 rfl) ?_
      refine s_iret hC hr hlocks dJ12_newLength_20 ?_
      rfl

set_option maxHeartbeats 400000 in
set_option maxRecDepth 100000 in
theorem cs_newCap (l : Launch) (κ : Nat → Nat) (O : gO) (a q cap : Nat) (f : Nat → Int32) (cnt : Int32) (need : Nat) (hO : O a = some (sbU q cap f cnt)) (hc : need ≤ 2 * cap + 2) (hlt : cap < need) (h20 : cap < 2 ^ 18) : oM l κ yJ9_newCapacity cJ9_newCapacity 6 (some .int) ({ frames := 2, cells := 0, slots := 0, locals := 44 }) [.ref a, .int (nI need)] O (fun rv O1 => rv = some (.int (nI (cap + (cap + 2)))) ∧ O1 = O) := by
  intro D ac A
  refine o_body (own := RJ9) rfl (by decide +kernel) (Nat.le_of_ble_eq_true rfl) ?_
  intro p e s m args below meth c ls hC hr hlocks hK hM hl hnamed hmeth
  have hl : lv_has ls 6 [(0, .ref a), (1, .int (nI need))] := hl
  have hM := PS.of hM [(a, sbU q cap f cnt)] ⟨hO, trivial⟩ (by simp [oad])
  refine lv_aload_n hC.1 hC.2.1 dJ9_newCapacity_0 rfl (lv_at hl 0 rfl) ?_
  refine p_get hC hK hM 0 rfl in_J10 rfl 0 (by decide) q498 (fun x h => h) rfl dJ9_newCapacity_1 ?_
  refine p_alen hC hK hM 0 rfl 0 rfl rfl (by omega) dJ9_newCapacity_4 ?_
  skip
  refine lv_istore_n (lv' := [(2, _), (0, _), (1, _)]) hC.1 hC.2.1 dJ9_newCapacity_5 rfl hl (by decide) rfl (fun ls hl => ?_)
  refine lv_iload_n hC.1 hC.2.1 dJ9_newCapacity_6 rfl (lv_at hl 2 rfl) ?_
  refine lv_aload_n hC.1 hC.2.1 dJ9_newCapacity_7 rfl (lv_at hl 1 rfl) ?_
  refine p_get hC hK hM 0 rfl in_J10 rfl 1 (by decide) q499 (fun x h => h) rfl dJ9_newCapacity_8 ?_
  refine lv_ishl hC.1 hC.2.1 dJ9_newCapacity_11 ?_
  rw [show nI need <<< (sbV cnt 1 &&& 31) = nI need from by show nI need <<< ((0 : Int32) &&& 31) = nI need; rw [show (0 : Int32) &&& 31 = 0 from by decide]; exact Int32.shiftLeft_zero]
  refine lv_istore_n (lv' := [(3, _), (2, _), (0, _), (1, _)]) hC.1 hC.2.1 dJ9_newCapacity_12 rfl hl (by decide) rfl (fun ls hl => ?_)
  refine lv_iload_n hC.1 hC.2.1 dJ9_newCapacity_13 rfl (lv_at hl 0 rfl) ?_
  refine lv_iload_n hC.1 hC.2.1 dJ9_newCapacity_14 rfl (lv_at hl 1 rfl) ?_
  refine lv_isub hC.1 hC.2.1 dJ9_newCapacity_15 ?_
  rw [show nI need - nI cap = nI (need - cap) from nI_subn (by omega)]
  refine lv_istore (lv' := [(4, _), (3, _), (2, _), (0, _), (1, _)]) hC.1 hC.2.1 dJ9_newCapacity_16 hl (by decide) rfl (fun ls hl => ?_)
  refine lv_iload_n hC.1 hC.2.1 dJ9_newCapacity_18 rfl (lv_at hl 2 rfl) ?_
  refine lv_iload hC.1 hC.2.1 dJ9_newCapacity_19 (lv_at hl 0 rfl) ?_
  refine lv_iload_n hC.1 hC.2.1 dJ9_newCapacity_21 rfl (lv_at hl 2 rfl) ?_
  refine lv_iconst (v := 2) hC.1 hC.2.1 dJ9_newCapacity_22 (by decide) ?_
  refine lv_aload_n hC.1 hC.2.1 dJ9_newCapacity_23 rfl (lv_at hl 3 rfl) ?_
  refine p_get hC hK hM 0 rfl in_J10 rfl 1 (by decide) q499 (fun x h => h) rfl dJ9_newCapacity_24 ?_
  refine lv_ishl hC.1 hC.2.1 dJ9_newCapacity_27 ?_
  rw [show (2 : Int32) <<< (sbV cnt 1 &&& 31) = nI 2 from by show (2 : Int32) <<< ((0 : Int32) &&& 31) = nI 2; decide]
  refine lv_iadd hC.1 hC.2.1 dJ9_newCapacity_28 ?_
  rw [nI_add]
  refine s_ci hC (cs_newLen l cap (need - cap) (cap + 2) (by omega) (by omega) (by omega)) (va_cwS 3 hC.2.2.2.2 (lw_S q526 q527 q83 q528) rfl rfl rfl (by decide +kernel) ⟨(Nat.le_of_ble_eq_true rfl), (Nat.le_of_ble_eq_true rfl)⟩) rfl hl.1 rfl (lv_room (Nat.le_of_ble_eq_true rfl)) dJ9_newCapacity_29 ⟨(Nat.le_of_ble_eq_true rfl), (Nat.le_of_ble_eq_true rfl)⟩ ?_
  refine lv_istore (lv' := [(5, _), (4, _), (3, _), (2, _), (0, _), (1, _)]) hC.1 hC.2.1 dJ9_newCapacity_32 hl (by decide) rfl (fun ls hl => ?_)
  refine lv_iload hC.1 hC.2.1 dJ9_newCapacity_34 (lv_at hl 0 rfl) ?_
  refine lv_ldc hC.1 hC.2.1 hC.2.2.2.1 (hC.2.2.2.2 _ q536) dJ9_newCapacity_36 ?_
  refine lv_icmp_ne (tgt := 51) hC.1 hC.2.1 dJ9_newCapacity_38 (by decide) (fun c1 => ?_) (fun c1 => ?_)
  ·
    skip
    refine lv_iload hC.1 hC.2.1 dJ9_newCapacity_51 (lv_at hl 0 rfl) ?_
    refine lv_aload_n hC.1 hC.2.1 dJ9_newCapacity_53 rfl (lv_at hl 4 rfl) ?_
    refine p_get hC hK hM 0 rfl in_J10 rfl 1 (by decide) q499 (fun x h => h) rfl dJ9_newCapacity_54 ?_
    refine lv_ishr hC.1 hC.2.1 dJ9_newCapacity_57 ?_
    rw [show nI (cap + (cap + 2)) >>> (sbV cnt 1 &&& 31) = nI (cap + (cap + 2)) from by show nI (cap + (cap + 2)) >>> ((0 : Int32) &&& 31) = _; rw [show (0 : Int32) &&& 31 = 0 from by decide]; exact Int32.shiftRight_zero]
    skip
    refine p_iret hC hr hlocks hM dJ9_newCapacity_58 ?_
    exact ⟨rfl, oup_same hO⟩
  ·
    skip
    exact absurd (neq_t (a := cap + (cap + 2)) (b := 2147483647) c1) (by omega)
