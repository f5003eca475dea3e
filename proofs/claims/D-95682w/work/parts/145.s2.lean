set_option maxHeartbeats 400000 in
set_option maxRecDepth 100000 in
theorem cs_copyOf16 (l : Launch) (κ : Nat → Nat) (O : gO) (a q cap : Nat) (f : Nat → Int32) (cnt : Int32) (N : Nat) (hO : O a = some (sbU q cap f cnt)) (hft : ∀ i, fits .byte (.int (f i)) = true) (h20 : cap < 2 ^ 15) (hN : cap < N) (hN2 : N ≤ 34) : oM l κ yJ14_copyOf cJ14_copyOf 3 (some (.array .byte)) ({ frames := 2, cells := 1, slots := 34, locals := 60 }) [.ref q, .int (nI N)] O (fun rv O1 => ∃ r, rv = some (.ref r) ∧ O r = none ∧ O1 = oup O r (.inl (1, N, .inl (va_cpy f (fun _ => 0) 0 0 cap)))) := by
  intro D ac A
  refine o_body (own := RJ14) rfl (by decide +kernel) (Nat.le_of_ble_eq_true rfl) ?_
  intro p e s m args below meth c ls hC hr hlocks hK hM hl hnamed hmeth
  have hl : lv_has ls 3 [(0, .ref q), (1, .int (nI N))] := hl
  have hM := PS.of hM [(a, sbU q cap f cnt)] ⟨hO, trivial⟩ (by simp [oad])
  refine lv_iload_n hC.1 hC.2.1 dJ14_copyOf_0 rfl (lv_at hl 1 rfl) ?_
  refine lv_aload_n hC.1 hC.2.1 dJ14_copyOf_1 rfl (lv_at hl 0 rfl) ?_
  refine p_alen hC hK hM 0 rfl 0 rfl rfl (by omega) dJ14_copyOf_2 ?_
  refine lv_icmp_ne (tgt := 14) hC.1 hC.2.1 dJ14_copyOf_3 (by decide) (fun c1 => ?_) (fun c1 => ?_)
  ·
    skip
    refine lv_iload_n hC.1 hC.2.1 dJ14_copyOf_14 rfl (lv_at hl 1 rfl) ?_
    refine p_newb (L' := fun q => [_, _]) hC hK hM q140 (N := N) rfl (by omega) (Nat.le_of_ble_eq_true rfl) (by show 0 + N ≤ 34; omega) dJ14_copyOf_15 (fun q => rfl) (fun q_2 H hq_2 hM => ?_)
    refine lv_astore_n (lv' := [(2, _), (0, _), (1, _)]) hC.1 hC.2.1 dJ14_copyOf_17 rfl hl (by decide) rfl (fun ls hl => ?_)
    refine lv_aload_n hC.1 hC.2.1 dJ14_copyOf_18 rfl (lv_at hl 1 rfl) ?_
    refine lv_iconst (v := 0) hC.1 hC.2.1 dJ14_copyOf_19 (by decide) ?_
    refine lv_aload_n hC.1 hC.2.1 dJ14_copyOf_20 rfl (lv_at hl 0 rfl) ?_
    refine lv_iconst (v := 0) hC.1 hC.2.1 dJ14_copyOf_21 (by decide) ?_
    refine lv_aload_n hC.1 hC.2.1 dJ14_copyOf_22 rfl (lv_at hl 1 rfl) ?_
    refine p_alen hC hK hM 0 rfl 0 rfl rfl (by omega) dJ14_copyOf_23 ?_
    refine lv_iload_n hC.1 hC.2.1 dJ14_copyOf_24 rfl (lv_at hl 2 rfl) ?_
    refine va_mmin hC.1 hC.2.1 (hC.2.2.1.trans hl.1.symm) hC.2.2.2.1 (hC.2.2.2.2 _ q547) (hC.2.2.2.2 _ q548) (hC.2.2.2.2 _ q84) (hC.2.2.2.2 _ q549) (Nat.le_of_ble_eq_true rfl) (Nat.le_of_ble_eq_true rfl) (Nat.le_of_ble_eq_true rfl) (by show 0 + N ≤ 34; omega) dJ14_copyOf_25 ?_
    rw [show (if nI N < nI cap then nI N else nI cap) = nI cap from if_neg (Int32.not_lt.mpr (nI_le (by omega) (by omega)))]
    refine pl_bcopy (L' := [_, _]) hC hK hM hl.1 q550 1 (aAt.own (hM.at 0 rfl) (k := 0) rfl rfl) rfl (np := 0) (nd := 0) (nn := cap) rfl rfl rfl (by omega) (by omega) (by omega) (by omega) hft (Nat.le_of_ble_eq_true rfl) (Nat.le_of_ble_eq_true rfl) dJ14_copyOf_28 rfl (fun H locs hM => ?_)
    refine lv_aload_n hC.1 hC.2.1 dJ14_copyOf_31 rfl (lv_at hl 0 rfl) ?_
    refine W.widen (k := 1) (n := 34) (Nat.le_of_ble_eq_true rfl) (by show 0 + N ≤ 34; omega) ?_
    refine p_aret hC hr (Or.inr ⟨_, rfl⟩) hlocks hM (Or.inr ⟨_, rfl⟩) dJ14_copyOf_32 ?_
    refine ⟨q_2, rfl, hq_2, ?_⟩
    rw [oups, oups, oups, oup_comm (a := q_2) (b := a) (fun e => by rw [e, hO] at hq_2; cases hq_2), oup_same hO]
  ·
    skip
    exact absurd (neq_t (a := N) (b := cap) c1) (by omega)

set_option maxHeartbeats 400000 in
set_option maxRecDepth 100000 in
theorem cs_copyOf34 (l : Launch) (κ : Nat → Nat) (O : gO) (a q cap : Nat) (f : Nat → Int32) (cnt : Int32) (N : Nat) (hO : O a = some (sbU q cap f cnt)) (hft : ∀ i, fits .byte (.int (f i)) = true) (h20 : cap < 2 ^ 15) (hN : cap < N) (hN2 : N ≤ 70) : oM l κ yJ14_copyOf cJ14_copyOf 3 (some (.array .byte)) ({ frames := 2, cells := 1, slots := 70, locals := 60 }) [.ref q, .int (nI N)] O (fun rv O1 => ∃ r, rv = some (.ref r) ∧ O r = none ∧ O1 = oup O r (.inl (1, N, .inl (va_cpy f (fun _ => 0) 0 0 cap)))) := by
  intro D ac A
  refine o_body (own := RJ14) rfl (by decide +kernel) (Nat.le_of_ble_eq_true rfl) ?_
  intro p e s m args below meth c ls hC hr hlocks hK hM hl hnamed hmeth
  have hl : lv_has ls 3 [(0, .ref q), (1, .int (nI N))] := hl
  have hM := PS.of hM [(a, sbU q cap f cnt)] ⟨hO, trivial⟩ (by simp [oad])
  refine lv_iload_n hC.1 hC.2.1 dJ14_copyOf_0 rfl (lv_at hl 1 rfl) ?_
  refine lv_aload_n hC.1 hC.2.1 dJ14_copyOf_1 rfl (lv_at hl 0 rfl) ?_
  refine p_alen hC hK hM 0 rfl 0 rfl rfl (by omega) dJ14_copyOf_2 ?_
  refine lv_icmp_ne (tgt := 14) hC.1 hC.2.1 dJ14_copyOf_3 (by decide) (fun c1 => ?_) (fun c1 => ?_)
  ·
    skip
    refine lv_iload_n hC.1 hC.2.1 dJ14_copyOf_14 rfl (lv_at hl 1 rfl) ?_
    refine p_newb (L' := fun q => [_, _]) hC hK hM q140 (N := N) rfl (by omega) (Nat.le_of_ble_eq_true rfl) (by show 0 + N ≤ 70; omega) dJ14_copyOf_15 (fun q => rfl) (fun q_2 H hq_2 hM => ?_)
    refine lv_astore_n (lv' := [(2, _), (0, _), (1, _)]) hC.1 hC.2.1 dJ14_copyOf_17 rfl hl (by decide) rfl (fun ls hl => ?_)
    refine lv_aload_n hC.1 hC.2.1 dJ14_copyOf_18 rfl (lv_at hl 1 rfl) ?_
    refine lv_iconst (v := 0) hC.1 hC.2.1 dJ14_copyOf_19 (by decide) ?_
    refine lv_aload_n hC.1 hC.2.1 dJ14_copyOf_20 rfl (lv_at hl 0 rfl) ?_
    refine lv_iconst (v := 0) hC.1 hC.2.1 dJ14_copyOf_21 (by decide) ?_
    refine lv_aload_n hC.1 hC.2.1 dJ14_copyOf_22 rfl (lv_at hl 1 rfl) ?_
    refine p_alen hC hK hM 0 rfl 0 rfl rfl (by omega) dJ14_copyOf_23 ?_
    refine lv_iload_n hC.1 hC.2.1 dJ14_copyOf_24 rfl (lv_at hl 2 rfl) ?_
    refine va_mmin hC.1 hC.2.1 (hC.2.2.1.trans hl.1.symm) hC.2.2.2.1 (hC.2.2.2.2 _ q547) (hC.2.2.2.2 _ q548) (hC.2.2.2.2 _ q84) (hC.2.2.2.2 _ q549) (Nat.le_of_ble_eq_true rfl) (Nat.le_of_ble_eq_true rfl) (Nat.le_of_ble_eq_true rfl) (by show 0 + N ≤ 70; omega) dJ14_copyOf_25 ?_
    rw [show (if nI N < nI cap then nI N else nI cap) = nI cap from if_neg (Int32.not_lt.mpr (nI_le (by omega) (by omega)))]
    refine pl_bcopy (L' := [_, _]) hC hK hM hl.1 q550 1 (aAt.own (hM.at 0 rfl) (k := 0) rfl rfl) rfl (np := 0) (nd := 0) (nn := cap) rfl rfl rfl (by omega) (by omega) (by omega) (by omega) hft (Nat.le_of_ble_eq_true rfl) (Nat.le_of_ble_eq_true rfl) dJ14_copyOf_28 rfl (fun H locs hM => ?_)
    refine lv_aload_n hC.1 hC.2.1 dJ14_copyOf_31 rfl (lv_at hl 0 rfl) ?_
    refine W.widen (k := 1) (n := 70) (Nat.le_of_ble_eq_true rfl) (by show 0 + N ≤ 70; omega) ?_
    refine p_aret hC hr (Or.inr ⟨_, rfl⟩) hlocks hM (Or.inr ⟨_, rfl⟩) dJ14_copyOf_32 ?_
    refine ⟨q_2, rfl, hq_2, ?_⟩
    rw [oups, oups, oups, oup_comm (a := q_2) (b := a) (fun e => by rw [e, hO] at hq_2; cases hq_2), oup_same hO]
  ·
    skip
    exact absurd (neq_t (a := N) (b := cap) c1) (by omega)

set_option maxHeartbeats 400000 in
set_option maxRecDepth 100000 in
theorem cs_copyOf70 (l : Launch) (κ : Nat → Nat) (O : gO) (a q cap : Nat) (f : Nat → Int32) (cnt : Int32) (N : Nat) (hO : O a = some (sbU q cap f cnt)) (hft : ∀ i, fits .byte (.int (f i)) = true) (h20 : cap < 2 ^ 15) (hN : cap < N) (hN2 : N ≤ 142) : oM l κ yJ14_copyOf cJ14_copyOf 3 (some (.array .byte)) ({ frames := 2, cells := 1, slots := 142, locals := 60 }) [.ref q, .int (nI N)] O (fun rv O1 => ∃ r, rv = some (.ref r) ∧ O r = none ∧ O1 = oup O r (.inl (1, N, .inl (va_cpy f (fun _ => 0) 0 0 cap)))) := by
  intro D ac A
  refine o_body (own := RJ14) rfl (by decide +kernel) (Nat.le_of_ble_eq_true rfl) ?_
  intro p e s m args below meth c ls hC hr hlocks hK hM hl hnamed hmeth
  have hl : lv_has ls 3 [(0, .ref q), (1, .int (nI N))] := hl
  have hM := PS.of hM [(a, sbU q cap f cnt)] ⟨hO, trivial⟩ (by simp [oad])
  refine lv_iload_n hC.1 hC.2.1 dJ14_copyOf_0 rfl (lv_at hl 1 rfl) ?_
  refine lv_aload_n hC.1 hC.2.1 dJ14_copyOf_1 rfl (lv_at hl 0 rfl) ?_
  refine p_alen hC hK hM 0 rfl 0 rfl rfl (by omega) dJ14_copyOf_2 ?_
  refine lv_icmp_ne (tgt := 14) hC.1 hC.2.1 dJ14_copyOf_3 (by decide) (fun c1 => ?_) (fun c1 => ?_)
  ·
    skip
    refine lv_iload_n hC.1 hC.2.1 dJ14_copyOf_14 rfl (lv_at hl 1 rfl) ?_
    refine p_newb (L' := fun q => [_, _]) hC hK hM q140 (N := N) rfl (by omega) (Nat.le_of_ble_eq_true rfl) (by show 0 + N ≤ 142; omega) dJ14_copyOf_15 (fun q => rfl) (fun q_2 H hq_2 hM => ?_)
    refine lv_astore_n (lv' := [(2, _), (0, _), (1, _)]) hC.1 hC.2.1 dJ14_copyOf_17 rfl hl (by decide) rfl (fun ls hl => ?_)
    refine lv_aload_n hC.1 hC.2.1 dJ14_copyOf_18 rfl (lv_at hl 1 rfl) ?_
    refine lv_iconst (v := 0) hC.1 hC.2.1 dJ14_copyOf_19 (by decide) ?_
    refine lv_aload_n hC.1 hC.2.1 dJ14_copyOf_20 rfl (lv_at hl 0 rfl) ?_
    refine lv_iconst (v := 0) hC.1 hC.2.1 dJ14_copyOf_21 (by decide) ?_
    refine lv_aload_n hC.1 hC.2.1 dJ14_copyOf_22 rfl (lv_at hl 1 rfl) ?_
    refine p_alen hC hK hM 0 rfl 0 rfl rfl (by omega) dJ14_copyOf_23 ?_
    refine lv_iload_n hC.1 hC.2.1 dJ14_copyOf_24 rfl (lv_at hl 2 rfl) ?_
    refine va_mmin hC.1 hC.2.1 (hC.2.2.1.trans hl.1.symm) hC.2.2.2.1 (hC.2.2.2.2 _ q547) (hC.2.2.2.2 _ q548) (hC.2.2.2.2 _ q84) (hC.2.2.2.2 _ q549) (Nat.le_of_ble_eq_true rfl) (Nat.le_of_ble_eq_true rfl) (Nat.le_of_ble_eq_true rfl) (by show 0 + N ≤ 142; omega) dJ14_copyOf_25 ?_
    rw [show (if nI N < nI cap then nI N else nI cap) = nI cap from if_neg (Int32.not_lt.mpr (nI_le (by omega) (by omega)))]
    refine pl_bcopy (L' := [_, _]) hC hK hM hl.1 q550 1 (aAt.own (hM.at 0 rfl) (k := 0) rfl rfl) rfl (np := 0) (nd := 0) (nn := cap) rfl rfl rfl (by omega) (by omega) (by omega) (by omega) hft (Nat.le_of_ble_eq_true rfl) (Nat.le_of_ble_eq_true rfl) dJ14_copyOf_28 rfl (fun H locs hM => ?_)
    refine lv_aload_n hC.1 hC.2.1 dJ14_copyOf_31 rfl (lv_at hl 0 rfl) ?_
    refine W.widen (k := 1) (n := 142) (Nat.le_of_ble_eq_true rfl) (by show 0 + N ≤ 142; omega) ?_
    refine p_aret hC hr (Or.inr ⟨_, rfl⟩) hlocks hM (Or.inr ⟨_, rfl⟩) dJ14_copyOf_32 ?_
    refine ⟨q_2, rfl, hq_2, ?_⟩
    rw [oups, oups, oups, oup_comm (a := q_2) (b := a) (fun e => by rw [e, hO] at hq_2; cases hq_2), oup_same hO]
  ·
    skip
    exact absurd (neq_t (a := N) (b := cap) c1) (by omega)

set_option maxHeartbeats 400000 in
set_option maxRecDepth 100000 in
theorem cs_copyOf142 (l : Launch) (κ : Nat → Nat) (O : gO) (a q cap : Nat) (f : Nat → Int32) (cnt : Int32) (N : Nat) (hO : O a = some (sbU q cap f cnt)) (hft : ∀ i, fits .byte (.int (f i)) = true) (h20 : cap < 2 ^ 15) (hN : cap < N) (hN2 : N ≤ 286) : oM l κ yJ14_copyOf cJ14_copyOf 3 (some (.array .byte)) ({ frames := 2, cells := 1, slots := 286, locals := 60 }) [.ref q, .int (nI N)] O (fun rv O1 => ∃ r, rv = some (.ref r) ∧ O r = none ∧ O1 = oup O r (.inl (1, N, .inl (va_cpy f (fun _ => 0) 0 0 cap)))) := by
  intro D ac A
  refine o_body (own := RJ14) rfl (by decide +kernel) (Nat.le_of_ble_eq_true rfl) ?_
  intro p e s m args below meth c ls hC hr hlocks hK hM hl hnamed hmeth
  have hl : lv_has ls 3 [(0, .ref q), (1, .int (nI N))] := hl
  have hM := PS.of hM [(a, sbU q cap f cnt)] ⟨hO, trivial⟩ (by simp [oad])
  refine lv_iload_n hC.1 hC.2.1 dJ14_copyOf_0 rfl (lv_at hl 1 rfl) ?_
  refine lv_aload_n hC.1 hC.2.1 dJ14_copyOf_1 rfl (lv_at hl 0 rfl) ?_
  refine p_alen hC hK hM 0 rfl 0 rfl rfl (by omega) dJ14_copyOf_2 ?_
  refine lv_icmp_ne (tgt := 14) hC.1 hC.2.1 dJ14_copyOf_3 (by decide) (fun c1 => ?_) (fun c1 => ?_)
  ·
    skip
    refine lv_iload_n hC.1 hC.2.1 dJ14_copyOf_14 rfl (lv_at hl 1 rfl) ?_
    refine p_newb (L' := fun q => [_, _]) hC hK hM q140 (N := N) rfl (by omega) (Nat.le_of_ble_eq_true rfl) (by show 0 + N ≤ 286; omega) dJ14_copyOf_15 (fun q => rfl) (fun q_2 H hq_2 hM => ?_)
    refine lv_astore_n (lv' := [(2, _), (0, _), (1, _)]) hC.1 hC.2.1 dJ14_copyOf_17 rfl hl (by decide) rfl (fun ls hl => ?_)
    refine lv_aload_n hC.1 hC.2.1 dJ14_copyOf_18 rfl (lv_at hl 1 rfl) ?_
    refine lv_iconst (v := 0) hC.1 hC.2.1 dJ14_copyOf_19 (by decide) ?_
    refine lv_aload_n hC.1 hC.2.1 dJ14_copyOf_20 rfl (lv_at hl 0 rfl) ?_
    refine lv_iconst (v := 0) hC.1 hC.2.1 dJ14_copyOf_21 (by decide) ?_
    refine lv_aload_n hC.1 hC.2.1 dJ14_copyOf_22 rfl (lv_at hl 1 rfl) ?_
    refine p_alen hC hK hM 0 rfl 0 rfl rfl (by omega) dJ14_copyOf_23 ?_
    refine lv_iload_n hC.1 hC.2.1 dJ14_copyOf_24 rfl (lv_at hl 2 rfl) ?_
    refine va_mmin hC.1 hC.2.1 (hC.2.2.1.trans hl.1.symm) hC.2.2.2.1 (hC.2.2.2.2 _ q547) (hC.2.2.2.2 _ q548) (hC.2.2.2.2 _ q84) (hC.2.2.2.2 _ q549) (Nat.le_of_ble_eq_true rfl) (Nat.le_of_ble_eq_true rfl) (Nat.le_of_ble_eq_true rfl) (by show 0 + N ≤ 286; omega) dJ14_copyOf_25 ?_
    rw [show (if nI N < nI cap then nI N else nI cap) = nI cap from if_neg (Int32.not_lt.mpr (nI_le (by omega) (by omega)))]
    refine pl_bcopy (L' := [_, _]) hC hK hM hl.1 q550 1 (aAt.own (hM.at 0 rfl) (k := 0) rfl rfl) rfl (np := 0) (nd := 0) (nn := cap) rfl rfl rfl (by omega) (by omega) (by omega) (by omega) hft (Nat.le_of_ble_eq_true rfl) (Nat.le_of_ble_eq_true rfl) dJ14_copyOf_28 rfl (fun H locs hM => ?_)
    refine lv_aload_n hC.1 hC.2.1 dJ14_copyOf_31 rfl (lv_at hl 0 rfl) ?_
    refine W.widen (k := 1) (n := 286) (Nat.le_of_ble_eq_true rfl) (by show 0 + N ≤ 286; omega) ?_
    refine p_aret hC hr (Or.inr ⟨_, rfl⟩) hlocks hM (Or.inr ⟨_, rfl⟩) dJ14_copyOf_32 ?_
    refine ⟨q_2, rfl, hq_2, ?_⟩
    rw [oups, oups, oups, oup_comm (a := q_2) (b := a) (fun e => by rw [e, hO] at hq_2; cases hq_2), oup_same hO]
  ·
    skip
    exact absurd (neq_t (a := N) (b := cap) c1) (by omega)

set_option maxHeartbeats 400000 in
set_option maxRecDepth 100000 in
theorem cs_copyOf286 (l : Launch) (κ : Nat → Nat) (O : gO) (a q cap : Nat) (f : Nat → Int32) (cnt : Int32) (N : Nat) (hO : O a = some (sbU q cap f cnt)) (hft : ∀ i, fits .byte (.int (f i)) = true) (h20 : cap < 2 ^ 15) (hN : cap < N) (hN2 : N ≤ 574) : oM l κ yJ14_copyOf cJ14_copyOf 3 (some (.array .byte)) ({ frames := 2, cells := 1, slots := 574, locals := 60 }) [.ref q, .int (nI N)] O (fun rv O1 => ∃ r, rv = some (.ref r) ∧ O r = none ∧ O1 = oup O r (.inl (1, N, .inl (va_cpy f (fun _ => 0) 0 0 cap)))) := by
  intro D ac A
  refine o_body (own := RJ14) rfl (by decide +kernel) (Nat.le_of_ble_eq_true rfl) ?_
  intro p e s m args below meth c ls hC hr hlocks hK hM hl hnamed hmeth
  have hl : lv_has ls 3 [(0, .ref q), (1, .int (nI N))] := hl
  have hM := PS.of hM [(a, sbU q cap f cnt)] ⟨hO, trivial⟩ (by simp [oad])
  refine lv_iload_n hC.1 hC.2.1 dJ14_copyOf_0 rfl (lv_at hl 1 rfl) ?_
  refine lv_aload_n hC.1 hC.2.1 dJ14_copyOf_1 rfl (lv_at hl 0 rfl) ?_
  refine p_alen hC hK hM 0 rfl 0 rfl rfl (by omega) dJ14_copyOf_2 ?_
  refine lv_icmp_ne (tgt := 14) hC.1 hC.2.1 dJ14_copyOf_3 (by decide) (fun c1 => ?_) (fun c1 => ?_)
  ·
    skip
    refine lv_iload_n hC.1 hC.2.1 dJ14_copyOf_14 rfl (lv_at hl 1 rfl) ?_
    refine p_newb (L' := fun q => [_, _]) hC hK hM q140 (N := N) rfl (by omega) (Nat.le_of_ble_eq_true rfl) (by show 0 + N ≤ 574; omega) dJ14_copyOf_15 (fun q => rfl) (fun q_2 H hq_2 hM => ?_)
    refine lv_astore_n (lv' := [(2, _), (0, _), (1, _)]) hC.1 hC.2.1 dJ14_copyOf_17 rfl hl (by decide) rfl (fun ls hl => ?_)
    refine lv_aload_n hC.1 hC.2.1 dJ14_copyOf_18 rfl (lv_at hl 1 rfl) ?_
    refine lv_iconst (v := 0) hC.1 hC.2.1 dJ14_copyOf_19 (by decide) ?_
    refine lv_aload_n hC.1 hC.2.1 dJ14_copyOf_20 rfl (lv_at hl 0 rfl) ?_
    refine lv_iconst (v := 0) hC.1 hC.2.1 dJ14_copyOf_21 (by decide) ?_
    refine lv_aload_n hC.1 hC.2.1 dJ14_copyOf_22 rfl (lv_at hl 1 rfl) ?_
    refine p_alen hC hK hM 0 rfl 0 rfl rfl (by omega) dJ14_copyOf_23 ?_
    refine lv_iload_n hC.1 hC.2.1 dJ14_copyOf_24 rfl (lv_at hl 2 rfl) ?_
    refine va_mmin hC.1 hC.2.1 (hC.2.2.1.trans hl.1.symm) hC.2.2.2.1 (hC.2.2.2.2 _ q547) (hC.2.2.2.2 _ q548) (hC.2.2.2.2 _ q84) (hC.2.2.2.2 _ q549) (Nat.le_of_ble_eq_true rfl) (Nat.le_of_ble_eq_true rfl) (Nat.le_of_ble_eq_true rfl) (by show 0 + N ≤ 574; omega) dJ14_copyOf_25 ?_
    rw [show (if nI N < nI cap then nI N else nI cap) = nI cap from if_neg (Int32.not_lt.mpr (nI_le (by omega) (by omega)))]
    refine pl_bcopy (L' := [_, _]) hC hK hM hl.1 q550 1 (aAt.own (hM.at 0 rfl) (k := 0) rfl rfl) rfl (np := 0) (nd := 0) (nn := cap) rfl rfl rfl (by omega) (by omega) (by omega) (by omega) hft (Nat.le_of_ble_eq_true rfl) (Nat.le_of_ble_eq_true rfl) dJ14_copyOf_28 rfl (fun H locs hM => ?_)
    refine lv_aload_n hC.1 hC.2.1 dJ14_copyOf_31 rfl (lv_at hl 0 rfl) ?_
    refine W.widen (k := 1) (n := 574) (Nat.le_of_ble_eq_true rfl) (by show 0 + N ≤ 574; omega) ?_
    refine p_aret hC hr (Or.inr ⟨_, rfl⟩) hlocks hM (Or.inr ⟨_, rfl⟩) dJ14_copyOf_32 ?_
    refine ⟨q_2, rfl, hq_2, ?_⟩
    rw [oups, oups, oups, oup_comm (a := q_2) (b := a) (fun e => by rw [e, hO] at hq_2; cases hq_2), oup_same hO]
  ·
    skip
    exact absurd (neq_t (a := N) (b := cap) c1) (by omega)
