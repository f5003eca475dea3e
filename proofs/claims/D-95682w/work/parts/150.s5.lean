set_option maxHeartbeats 400000 in
set_option maxRecDepth 100000 in
theorem cs_chk (l : Launch) (κ : Nat → Nat) (O : gO) (n : Nat) (hn : n < 2 ^ 20) : oM l κ yJ14_checkLength cJ14_checkLength 2 none ({ frames := 0, cells := 0, slots := 0, locals := 0 }) [.int 0, .int (nI n)] O (fun rv O1 => O1 = O ∧ rv = none) := by
  intro D ac A
  refine o_body (own := RJ14) rfl (by decide +kernel) (Nat.le_of_ble_eq_true rfl) ?_
  intro p e s m args below meth c ls hC hr hlocks hK hM hl hnamed hmeth
  have hl : lv_has ls 2 [(0, .int 0), (1, .int (nI n))] := hl
  have hM := PS.of hM [] trivial (by simp [oad])
  refine lv_iload_n hC.1 hC.2.1 dJ14_checkLength_0 rfl (lv_at hl 1 rfl) ?_
  refine lv_iload_n hC.1 hC.2.1 dJ14_checkLength_1 rfl (lv_at hl 0 rfl) ?_
  refine lv_icmp_ge (tgt := 37) hC.1 hC.2.1 dJ14_checkLength_2 (by decide) (fun c1 => ?_) (fun c1 => ?_)
  ·
    have nc1 := Int32.not_lt.mpr c1
    skip
    refine p_vret hC hr hlocks hM dJ14_checkLength_37 ?_
    exact ⟨rfl, rfl⟩
  ·
    have nc1 := Int32.not_le.mp c1
    exact absurd (nI_pos' (by omega)) c1

set_option maxHeartbeats 400000 in
set_option maxRecDepth 100000 in
theorem cs_corb (l : Launch) (κ : Nat → Nat) (O : gO) (a q cap : Nat) (f : Nat → Int32) (cnt : Int32) (n : Nat) (hO : O a = some (sbU q cap f cnt)) (hft : ∀ i, fits .byte (.int (f i)) = true) (h20 : cap < 2 ^ 15) (hn : n < cap) (hn2 : n ≤ 400) : oM l κ yJ14_copyOfRangeByte cJ14_copyOfRangeByte 5 (some (.array .byte)) ({ frames := 1, cells := 1, slots := 400, locals := 40 }) [.ref q, .int 0, .int (nI n)] O (fun rv O1 => ∃ r, rv = some (.ref r) ∧ O r = none ∧ O1 = oup O r (.inl (1, n, .inl (va_cpy f (fun _ => 0) 0 0 n)))) := by
  intro D ac A
  refine o_body (own := RJ14) rfl (by decide +kernel) (Nat.le_of_ble_eq_true rfl) ?_
  intro p e s m args below meth c ls hC hr hlocks hK hM hl hnamed hmeth
  have hl : lv_has ls 5 [(0, .ref q), (1, .int 0), (2, .int (nI n))] := hl
  have hM := PS.of hM [(a, sbU q cap f cnt)] ⟨hO, trivial⟩ (by simp [oad])
  refine lv_iload_n hC.1 hC.2.1 dJ14_copyOfRangeByte_0 rfl (lv_at hl 1 rfl) ?_
  refine lv_iload_n hC.1 hC.2.1 dJ14_copyOfRangeByte_1 rfl (lv_at hl 2 rfl) ?_
  refine p_cSv (L' := [_]) hC hK hM (cs_chk l κ _ n (by omega)) (va_cwS 2 hC.2.2.2.2 (lw_S q636 q637 q85 q638) rfl rfl rfl (by decide +kernel) ⟨(Nat.le_of_ble_eq_true rfl), (Nat.le_of_ble_eq_true rfl)⟩) rfl hl.1 rfl (lv_room (Nat.le_of_ble_eq_true rfl)) dJ14_copyOfRangeByte_2 ⟨(Nat.le_of_ble_eq_true rfl), (Nat.le_of_ble_eq_true rfl)⟩ rfl hM.2 (fun H locs hM => ?_)
  refine lv_iload_n hC.1 hC.2.1 dJ14_copyOfRangeByte_5 rfl (lv_at hl 2 rfl) ?_
  refine lv_iload_n hC.1 hC.2.1 dJ14_copyOfRangeByte_6 rfl (lv_at hl 1 rfl) ?_
  refine lv_isub hC.1 hC.2.1 dJ14_copyOfRangeByte_7 ?_
  rw [show nI n - 0 = nI n from Int32.sub_zero _]
  refine lv_istore_n (lv' := [(3, _), (0, _), (1, _), (2, _)]) hC.1 hC.2.1 dJ14_copyOfRangeByte_8 rfl hl (by decide) rfl (fun ls hl => ?_)
  refine lv_iload_n hC.1 hC.2.1 dJ14_copyOfRangeByte_9 rfl (lv_at hl 0 rfl) ?_
  refine p_newb (L' := fun q => [_, _]) hC hK hM q140 (N := n) rfl (by omega) (Nat.le_of_ble_eq_true rfl) (by show 0 + n ≤ 400; omega) dJ14_copyOfRangeByte_10 (fun q => rfl) (fun q_1 H hq_1 hM => ?_)
  refine lv_astore (lv' := [(4, _), (3, _), (0, _), (1, _), (2, _)]) hC.1 hC.2.1 dJ14_copyOfRangeByte_12 hl (by decide) rfl (fun ls hl => ?_)
  refine lv_aload_n hC.1 hC.2.1 dJ14_copyOfRangeByte_14 rfl (lv_at hl 2 rfl) ?_
  refine lv_iload_n hC.1 hC.2.1 dJ14_copyOfRangeByte_15 rfl (lv_at hl 3 rfl) ?_
  refine lv_aload hC.1 hC.2.1 dJ14_copyOfRangeByte_16 (lv_at hl 0 rfl) ?_
  refine lv_iconst (v := 0) hC.1 hC.2.1 dJ14_copyOfRangeByte_18 (by decide) ?_
  refine lv_aload_n hC.1 hC.2.1 dJ14_copyOfRangeByte_19 rfl (lv_at hl 2 rfl) ?_
  refine p_alen hC hK hM 0 rfl 0 rfl rfl (by omega) dJ14_copyOfRangeByte_20 ?_
  refine lv_iload_n hC.1 hC.2.1 dJ14_copyOfRangeByte_21 rfl (lv_at hl 3 rfl) ?_
  refine lv_isub hC.1 hC.2.1 dJ14_copyOfRangeByte_22 ?_
  rw [show nI cap - 0 = nI cap from Int32.sub_zero _]
  refine lv_iload_n hC.1 hC.2.1 dJ14_copyOfRangeByte_23 rfl (lv_at hl 1 rfl) ?_
  refine va_mmin hC.1 hC.2.1 (hC.2.2.1.trans hl.1.symm) hC.2.2.2.1 (hC.2.2.2.2 _ q547) (hC.2.2.2.2 _ q548) (hC.2.2.2.2 _ q84) (hC.2.2.2.2 _ q549) (Nat.le_of_ble_eq_true rfl) (Nat.le_of_ble_eq_true rfl) (Nat.le_of_ble_eq_true rfl) (by show 0 + n ≤ 400; omega) dJ14_copyOfRangeByte_24 ?_
  rw [show (if nI n < nI cap then nI n else nI cap) = nI n from if_pos (nI_lt (by omega) (by omega))]
  refine pl_bcopy (L' := [_, _]) hC hK hM hl.1 q550 1 (aAt.own (hM.at 0 rfl) (k := 0) rfl rfl) rfl (np := 0) (nd := 0) (nn := n) rfl rfl rfl (by omega) (by omega) (by omega) (by omega) hft (Nat.le_of_ble_eq_true rfl) (Nat.le_of_ble_eq_true rfl) dJ14_copyOfRangeByte_27 rfl (fun H locs hM => ?_)
  refine lv_aload hC.1 hC.2.1 dJ14_copyOfRangeByte_30 (lv_at hl 0 rfl) ?_
  refine W.widen (k := 1) (n := 400) (Nat.le_of_ble_eq_true rfl) (by show 0 + n ≤ 400; omega) ?_
  refine p_aret hC hr (Or.inr ⟨_, rfl⟩) hlocks hM (Or.inr ⟨_, rfl⟩) dJ14_copyOfRangeByte_32 ?_
  refine ⟨q_1, rfl, hq_1, ?_⟩
  rw [oups, oups, oups, oup_comm (a := q_1) (b := a) (fun e => by rw [e, hO] at hq_1; cases hq_1), oup_same hO]
