set_option maxHeartbeats 400000 in
set_option maxRecDepth 100000 in
theorem cj_size (l : Launch) (κ : Nat → Nat) (O : gO) (la : Nat) (mc : Int32) (ea : Nat) (z : Int32) (ar : gA) (hO : O la = some (lsU mc ea z ar)) : oM l κ yJ2_size cJ2_size 1 (some .int) ({ frames := 0, cells := 0, slots := 0, locals := 0 }) [.ref la] O (fun rv O1 => rv = some (.int z) ∧ O1 = O) := by
  intro D ac A
  refine o_body (own := RJ2) rfl (by decide +kernel) (Nat.le_of_ble_eq_true rfl) ?_
  intro p e s m args below meth c ls hC hr hlocks hK hM hl hnamed hmeth
  have hl : lv_has ls 1 [(0, .ref la)] := hl
  have hM := PS.of hM [(la, lsU mc ea z ar)] ⟨hO, trivial⟩ (by simp [oad])
  refine lv_aload_n hC.1 hC.2.1 dJ2_size_0 rfl (lv_at hl 0 rfl) ?_
  refine p_getR hC hK hM 0 rfl in_J2 rfl 2 (by decide) q129 (fun x h => h) rfl dJ2_size_1 ?_
  skip
  refine p_iret hC hr hlocks hM dJ2_size_4 ?_
  exact ⟨rfl, oup_same hO⟩

set_option maxHeartbeats 400000 in
set_option maxRecDepth 100000 in
theorem cj_check0 (l : Launch) (κ : Nat → Nat) (O : gO) (j n : Nat) (hj : j < n) (hn : n < 2 ^ 31) : oM l κ yJ16_checkIndex cJ16_checkIndex 3 (some .int) ({ frames := 0, cells := 0, slots := 0, locals := 0 }) [.int (nI j), .int (nI n), .null] O (fun rv O1 => rv = some (.int (nI j)) ∧ O1 = O) := by
  intro D ac A
  refine o_body (own := RJ16) rfl (by decide +kernel) (Nat.le_of_ble_eq_true rfl) ?_
  intro p e s m args below meth c ls hC hr hlocks hK hM hl hnamed hmeth
  have hl : lv_has ls 3 [(0, .int (nI j)), (1, .int (nI n)), (2, .null)] := hl
  have hM := PS.of hM [] trivial (by simp [oad])
  refine lv_iload_n hC.1 hC.2.1 dJ16_checkIndex_0 rfl (lv_at hl 0 rfl) ?_
  refine lv_if_lt (tgt := 9) hC.1 hC.2.1 dJ16_checkIndex_1 (by decide) (fun c1 => ?_) (fun c1 => ?_)
  ·
    have nc1 := Int32.not_le.mpr c1
    exact absurd c1 (nI_pos (by omega))
  ·
    have nc1 := Int32.not_lt.mp c1
    refine lv_iload_n hC.1 hC.2.1 dJ16_checkIndex_4 rfl (lv_at hl 0 rfl) ?_
    refine lv_iload_n hC.1 hC.2.1 dJ16_checkIndex_5 rfl (lv_at hl 1 rfl) ?_
    refine lv_icmp_lt (tgt := 16) hC.1 hC.2.1 dJ16_checkIndex_6 (by decide) (fun c2 => ?_) (fun c2 => ?_)
    ·
      have nc2 := Int32.not_le.mpr c2
      refine lv_iload_n hC.1 hC.2.1 dJ16_checkIndex_16 rfl (lv_at hl 0 rfl) ?_
      skip
      refine p_iret hC hr hlocks hM dJ16_checkIndex_17 ?_
      exact ⟨rfl, rfl⟩
    ·
      have nc2 := Int32.not_lt.mp c2
      exact absurd (nI_lt hj hn) c2

set_option maxHeartbeats 400000 in
set_option maxRecDepth 100000 in
theorem cj_check (l : Launch) (κ : Nat → Nat) (O : gO) (j n : Nat) (hj : j < n) (hn : n < 2 ^ 31) : oM l κ yJ17_checkIndex cJ17_checkIndex 2 (some .int) ({ frames := 1, cells := 0, slots := 0, locals := 22 }) [.int (nI j), .int (nI n)] O (fun rv O1 => rv = some (.int (nI j)) ∧ O1 = O) := by
  intro D ac A
  refine o_body (own := RJ17) rfl (by decide +kernel) (Nat.le_of_ble_eq_true rfl) ?_
  intro p e s m args below meth c ls hC hr hlocks hK hM hl hnamed hmeth
  have hl : lv_has ls 2 [(0, .int (nI j)), (1, .int (nI n))] := hl
  have hM := PS.of hM [] trivial (by simp [oad])
  refine lv_iload_n hC.1 hC.2.1 dJ17_checkIndex_0 rfl (lv_at hl 0 rfl) ?_
  refine lv_iload_n hC.1 hC.2.1 dJ17_checkIndex_1 rfl (lv_at hl 1 rfl) ?_
  refine lv_null hC.1 hC.2.1 dJ17_checkIndex_2 ?_
  refine p_cSe (L' := []) hC hK hM (cj_check0 l κ _ j n hj hn) (va_cwS 3 hC.2.2.2.2 (lw_S q912 q602 q87 q603) rfl rfl rfl (by decide +kernel) ⟨(Nat.le_of_ble_eq_true rfl), (Nat.le_of_ble_eq_true rfl)⟩) rfl hl.1 rfl (lv_room (Nat.le_of_ble_eq_true rfl)) dJ17_checkIndex_3 ⟨(Nat.le_of_ble_eq_true rfl), (Nat.le_of_ble_eq_true rfl)⟩ rfl hM.2 (fun H locs hM => ?_)
  skip
  refine p_iret hC hr hlocks hM dJ17_checkIndex_6 ?_
  exact ⟨rfl, rfl⟩

set_option maxHeartbeats 400000 in
set_option maxRecDepth 100000 in
theorem cj_elem (l : Launch) (κ : Nat → Nat) (O : gO) (la : Nat) (mc : Int32) (ea n : Nat) (f : Nat → Option Nat) (j q : Nat) (hO : O la = some (lsU mc ea (nI n) (lar f))) (hj : j < n) (hn : n ≤ 10) (hq : f j = some q) : oM l κ yJ2_elementData cJ2_elementData 2 (some (.object "java/lang/Object")) ({ frames := 0, cells := 0, slots := 0, locals := 0 }) [.ref la, .int (nI j)] O (fun rv O1 => rv = some (.ref q) ∧ O1 = O) := by
  intro D ac A
  refine o_body (own := RJ2) rfl (by decide +kernel) (Nat.le_of_ble_eq_true rfl) ?_
  intro p e s m args below meth c ls hC hr hlocks hK hM hl hnamed hmeth
  have hl : lv_has ls 2 [(0, .ref la), (1, .int (nI j))] := hl
  have hM := PS.of hM [(la, lsU mc ea (nI n) (lar f))] ⟨hO, trivial⟩ (by simp [oad])
  refine lv_aload_n hC.1 hC.2.1 dJ2_elementData_0 rfl (lv_at hl 0 rfl) ?_
  refine p_getR hC hK hM 0 rfl in_J2 rfl 1 (by decide) q128 (fun x h => h) rfl dJ2_elementData_1 ?_
  refine lv_iload_n hC.1 hC.2.1 dJ2_elementData_4 rfl (lv_at hl 1 rfl) ?_
  refine p_aald hC hK hM 0 rfl 1 rfl rfl rfl (n := j) (by first | rfl | (simp only [← nI_add, ← pk_mul]; rfl)) (by first | decide | (show _ < 10; omega)) (by decide) dJ2_elementData_5 ?_
  rw [hq]
  skip
  refine p_aret hC hr (Or.inl ⟨_, rfl⟩) hlocks hM (Or.inr ⟨_, rfl⟩) dJ2_elementData_6 ?_
  exact ⟨rfl, oup_same hO⟩

set_option maxHeartbeats 400000 in
set_option maxRecDepth 100000 in
theorem cj_get (l : Launch) (κ : Nat → Nat) (O : gO) (la : Nat) (mc : Int32) (ea n : Nat) (f : Nat → Option Nat) (j q : Nat) (hO : O la = some (lsU mc ea (nI n) (lar f))) (hj : j < n) (hn : n ≤ 10) (hq : f j = some q) : oM l κ yJ2_get cJ2_get 2 (some (.object "java/lang/Object")) ({ frames := 2, cells := 0, slots := 0, locals := 43 }) [.ref la, .int (nI j)] O (fun rv O1 => rv = some (.ref q) ∧ O1 = O) := by
  intro D ac A
  refine o_body (own := RJ2) rfl (by decide +kernel) (Nat.le_of_ble_eq_true rfl) ?_
  intro p e s m args below meth c ls hC hr hlocks hK hM hl hnamed hmeth
  have hl : lv_has ls 2 [(0, .ref la), (1, .int (nI j))] := hl
  have hM := PS.of hM [(la, lsU mc ea (nI n) (lar f))] ⟨hO, trivial⟩ (by simp [oad])
  refine lv_iload_n hC.1 hC.2.1 dJ2_get_0 rfl (lv_at hl 1 rfl) ?_
  refine lv_aload_n hC.1 hC.2.1 dJ2_get_1 rfl (lv_at hl 0 rfl) ?_
  refine p_getR hC hK hM 0 rfl in_J2 rfl 2 (by decide) q129 (fun x h => h) rfl dJ2_get_2 ?_
  refine p_cSe (L' := [_]) hC hK hM (cj_check l κ _ j n hj (by omega)) (va_cwS 2 hC.2.2.2.2 (lw_S q909 q910 q95 q911) rfl rfl rfl (by decide +kernel) ⟨(Nat.le_of_ble_eq_true rfl), (Nat.le_of_ble_eq_true rfl)⟩) rfl hl.1 rfl (lv_room (Nat.le_of_ble_eq_true rfl)) dJ2_get_5 ⟨(Nat.le_of_ble_eq_true rfl), (Nat.le_of_ble_eq_true rfl)⟩ rfl hM.2 (fun H locs hM => ?_)
  refine lv_pop hC.1 hC.2.1 dJ2_get_8 rfl ?_
  refine lv_aload_n hC.1 hC.2.1 dJ2_get_9 rfl (lv_at hl 0 rfl) ?_
  refine lv_iload_n hC.1 hC.2.1 dJ2_get_10 rfl (lv_at hl 1 rfl) ?_
  refine p_cVe (L' := [_]) hC hK hM (hM.at 0 rfl) rfl (cj_elem l κ _ la mc ea n f j q (hM.at 0 rfl) hj hn hq) (cwV 1 hC.2.2.2.2 (lw_V q913 q914 q915 q67 q916) rfl rfl rfl (by decide +kernel) ⟨(Nat.le_of_ble_eq_true rfl), (Nat.le_of_ble_eq_true rfl)⟩) rfl hl.1 rfl (lv_room (Nat.le_of_ble_eq_true rfl)) dJ2_get_11 ⟨(Nat.le_of_ble_eq_true rfl), (Nat.le_of_ble_eq_true rfl)⟩ rfl hM.2 (fun H locs hM => ?_)
  skip
  refine p_aret hC hr (Or.inl ⟨_, rfl⟩) hlocks hM (Or.inr ⟨_, rfl⟩) dJ2_get_14 ?_
  exact ⟨rfl, oup_same hO⟩
