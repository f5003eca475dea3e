set_option maxHeartbeats 400000 in
set_option maxRecDepth 100000 in
theorem cs_slen (l : Launch) (κ : Nat → Nat) (O : gO) (a q cap : Nat) (f : Nat → Int32) (cnt : Int32) (hO : O a = some (sbU q cap f cnt)) : oM l κ yJ10_length cJ10_length 1 (some .int) ({ frames := 1, cells := 0, slots := 0, locals := 20 }) [.ref a] O (fun rv O1 => rv = some (.int cnt) ∧ O1 = O) := by
  intro D ac A
  refine o_body (own := RJ10) rfl (by decide +kernel) (Nat.le_of_ble_eq_true rfl) ?_
  intro p e s m args below meth c ls hC hr hlocks hK hM hl hnamed hmeth
  have hl : lv_has ls 1 [(0, .ref a)] := hl
  have hM := PS.of hM [(a, sbU q cap f cnt)] ⟨hO, trivial⟩ (by simp [oad])
  refine lv_aload_n hC.1 hC.2.1 dJ10_length_0 rfl (lv_at hl 0 rfl) ?_
  refine p_cSUe (L' := [_]) hC hK hM (hM.at 0 rfl) rfl (cs_len l κ _ a q cap f cnt (hM.at 0 rfl)) (va_cwSU 0 hC.2.2.2.2 (lw_SU q627 q623 q510 q622 q80 q628) rfl rfl rfl (by decide +kernel) ⟨(Nat.le_of_ble_eq_true rfl), (Nat.le_of_ble_eq_true rfl)⟩) rfl hl.1 rfl (lv_room (Nat.le_of_ble_eq_true rfl)) dJ10_length_1 ⟨(Nat.le_of_ble_eq_true rfl), (Nat.le_of_ble_eq_true rfl)⟩ rfl hM.2 (fun H locs hM => ?_)
  skip
  refine p_iret hC hr hlocks hM dJ10_length_4 ?_
  exact ⟨rfl, oup_same hO⟩

set_option maxHeartbeats 400000 in
set_option maxRecDepth 100000 in
theorem cs_cor (l : Launch) (κ : Nat → Nat) (O : gO) (a q cap : Nat) (f : Nat → Int32) (cnt : Int32) (n : Nat) (hO : O a = some (sbU q cap f cnt)) (hft : ∀ i, fits .byte (.int (f i)) = true) (h20 : cap < 2 ^ 15) (hn : n ≤ cap) (hn2 : n ≤ 400) : oM l κ yJ14_copyOfRange cJ14_copyOfRange 3 (some (.array .byte)) ({ frames := 2, cells := 1, slots := 400, locals := 64 }) [.ref q, .int 0, .int (nI n)] O (fun rv O1 => ∃ r g, rv = some (.ref r) ∧ O r = none ∧ O1 = oup O r (.inl (1, n, .inl g)) ∧ ∀ i, i < n → g i = f i) := by
  intro D ac A
  refine o_body (own := RJ14) rfl (by decide +kernel) (Nat.le_of_ble_eq_true rfl) ?_
  intro p e s m args below meth c ls hC hr hlocks hK hM hl hnamed hmeth
  have hl : lv_has ls 3 [(0, .ref q), (1, .int 0), (2, .int (nI n))] := hl
  have hM := PS.of hM [(a, sbU q cap f cnt)] ⟨hO, trivial⟩ (by simp [oad])
  refine lv_iload_n hC.1 hC.2.1 dJ14_copyOfRange_0 rfl (lv_at hl 1 rfl) ?_
  refine lv_if_ne (tgt := 10) hC.1 hC.2.1 dJ14_copyOfRange_1 (by decide) (fun c1 => ?_) (fun c1 => ?_)
  ·
    skip
    exact absurd rfl c1
  ·
    skip
    refine lv_iload_n hC.1 hC.2.1 dJ14_copyOfRange_4 rfl (lv_at hl 2 rfl) ?_
    refine lv_aload_n hC.1 hC.2.1 dJ14_copyOfRange_5 rfl (lv_at hl 0 rfl) ?_
    refine p_alen hC hK hM 0 rfl 0 rfl rfl (by omega) dJ14_copyOfRange_6 ?_
    refine lv_icmp_eq (tgt := 17) hC.1 hC.2.1 dJ14_copyOfRange_7 (by decide) (fun c2 => ?_) (fun c2 => ?_)
    ·
      skip
      have hnc : n = cap := neq_t (a := n) (b := cap) c2 (by omega) (by omega)
      subst hnc
      refine lv_aload_n hC.1 hC.2.1 dJ14_copyOfRange_17 rfl (lv_at hl 0 rfl) ?_
      refine pl_clone (L' := fun q => [_, _]) hC hK hM hl.1 q540 (aAt.own (hM.at 0 rfl) (k := 0) rfl rfl) hft (Nat.le_of_ble_eq_true rfl) (Nat.le_of_ble_eq_true rfl) (Nat.le_of_ble_eq_true rfl) (by show 0 + n ≤ 400; omega) dJ14_copyOfRange_18 (fun q => rfl) (fun qc H hqc hM => ?_)
      refine pl_castB hC hK hM q546 (Or.inl (hM.at 1 rfl)) dJ14_copyOfRange_21 ?_
      refine W.widen (k := 1) (n := 400) (Nat.le_of_ble_eq_true rfl) (by first | exact Nat.le_of_ble_eq_true rfl | (show 0 + n ≤ 400; omega)) ?_
      refine p_aret hC hr (Or.inr ⟨_, rfl⟩) hlocks hM (Or.inr ⟨_, rfl⟩) dJ14_copyOfRange_24 ?_
      refine ⟨qc, f, rfl, hqc, ?_, fun i _ => rfl⟩
      rw [oups, oups, oups, oup_comm (a := qc) (b := a) (fun e => by rw [e, hO] at hqc; cases hqc), oup_same hO]
    ·
      skip
      have hnc : n ≠ cap := fun e => c2 (by rw [e])
      refine lv_aload_n hC.1 hC.2.1 dJ14_copyOfRange_10 rfl (lv_at hl 0 rfl) ?_
      refine lv_iload_n hC.1 hC.2.1 dJ14_copyOfRange_11 rfl (lv_at hl 1 rfl) ?_
      refine lv_iload_n hC.1 hC.2.1 dJ14_copyOfRange_12 rfl (lv_at hl 2 rfl) ?_
      refine o_cS hC hK hM.1 (cs_corb l κ _ a q cap f cnt n (hM.at 0 rfl) hft h20 (by omega) hn2) (va_cwS 3 hC.2.2.2.2 (lw_S q633 q634 q85 q635) rfl rfl rfl (by decide +kernel) ⟨(Nat.le_of_ble_eq_true rfl), (Nat.le_of_ble_eq_true rfl)⟩) rfl hl.1 rfl (lv_room (Nat.le_of_ble_eq_true rfl)) dJ14_copyOfRange_13 ⟨(Nat.le_of_ble_eq_true rfl), (Nat.le_of_ble_eq_true rfl)⟩ (fun rv O1 H locs hp hM1 => ?_)
      obtain ⟨r, rfl, hz0, hzO⟩ := hp
      rw [hzO] at hM1
      obtain ⟨hz1, hz2, hM⟩ := PS.app (L' := [_, _]) hM.2 hz0 hM1 rfl
      refine W.widen (k := 1) (n := 400) (Nat.le_of_ble_eq_true rfl) (by first | exact Nat.le_of_ble_eq_true rfl | (show 0 + n ≤ 400; omega)) ?_
      refine p_aret hC hr (Or.inr ⟨_, rfl⟩) hlocks hM (Or.inr ⟨_, rfl⟩) dJ14_copyOfRange_16 ?_
      refine ⟨r, _, rfl, hz1, ?_, fun i hi => cpy_0 hi⟩
      rw [oups, oups, oups, oup_comm (a := r) (b := a) (fun e => by rw [e, hO] at hz1; cases hz1), oup_same hO]
