set_option maxHeartbeats 400000 in
set_option maxRecDepth 100000 in
theorem cs_sapp0 (l : Launch) (κ : Nat → Nat) (O : gO) (a q cap : Nat) (f : Nat → Int32)  (n : Nat) (x : Int32) (hO : O a = some (sbU q cap f (nI n))) (hx : 0 ≤ x ∧ x ≤ 127) (hn : n < cap) (h20 : cap < 2 ^ 15) : oM l κ yJ10_append cJ10_append 2 (some (.object "java/lang/StringBuilder")) ({ frames := 2, cells := 0, slots := 0, locals := 43 }) [.ref a, .int x] O (fun rv O1 => rv = some (.ref a) ∧ O1 = oup O a (sbU q cap (upd f n x) (nI (n + 1)))) := by
  intro D ac A
  refine o_body (own := RJ10) rfl (by decide +kernel) (Nat.le_of_ble_eq_true rfl) ?_
  intro p e s m args below meth c ls hC hr hlocks hK hM hl hnamed hmeth
  have hl : lv_has ls 2 [(0, .ref a), (1, .int x)] := hl
  have hM := PS.of hM [(a, sbU q cap f (nI n))] ⟨hO, trivial⟩ (by simp [oad])
  refine lv_aload_n hC.1 hC.2.1 dJ10_append_0 rfl (lv_at hl 0 rfl) ?_
  refine lv_iload_n hC.1 hC.2.1 dJ10_append_1 rfl (lv_at hl 1 rfl) ?_
  refine p_cSUe (L' := [_]) hC hK hM (hM.at 0 rfl) rfl (cs_app0 l κ _ a q cap f n x (hM.at 0 rfl) hx hn h20) (va_cwSU 1 hC.2.2.2.2 (lw_SU q515 q1658 q510 q516 q80 q517) rfl rfl rfl (by decide +kernel) ⟨(Nat.le_of_ble_eq_true rfl), (Nat.le_of_ble_eq_true rfl)⟩) rfl hl.1 rfl (lv_room (Nat.le_of_ble_eq_true rfl)) dJ10_append_2 ⟨(Nat.le_of_ble_eq_true rfl), (Nat.le_of_ble_eq_true rfl)⟩ (oups_set hM.2 (i := 0) rfl) (oad_nd hM.2 (i := 0) rfl rfl) (fun H locs hM => ?_)
  refine lv_pop hC.1 hC.2.1 dJ10_append_5 rfl ?_
  refine lv_aload_n hC.1 hC.2.1 dJ10_append_6 rfl (lv_at hl 0 rfl) ?_
  skip
  refine p_aret hC hr (Or.inl ⟨_, rfl⟩) hlocks hM (Or.inr ⟨_, rfl⟩) dJ10_append_7 ?_
  exact ⟨rfl, rfl⟩

set_option maxHeartbeats 400000 in
set_option maxRecDepth 100000 in
theorem cs_sappG16 (l : Launch) (κ : Nat → Nat) (O : gO) (a q cap : Nat) (f : Nat → Int32)  (n : Nat) (x : Int32) (hO : O a = some (sbU q cap f (nI n))) (hx : 0 ≤ x ∧ x ≤ 127) (hft : ∀ i, fits .byte (.int (f i)) = true) (hn : n = cap) (h20 : cap ≤ 16) : oM l κ yJ10_append cJ10_append 2 (some (.object "java/lang/StringBuilder")) ({ frames := 5, cells := 1, slots := 34, locals := 125 }) [.ref a, .int x] O (fun rv O1 => ∃ r, rv = some (.ref a) ∧ O1 = oup O a (sbU r (cap + (cap + 2)) (upd (va_cpy f (fun _ => 0) 0 0 cap) n x) (nI (n + 1)))) := by
  intro D ac A
  refine o_body (own := RJ10) rfl (by decide +kernel) (Nat.le_of_ble_eq_true rfl) ?_
  intro p e s m args below meth c ls hC hr hlocks hK hM hl hnamed hmeth
  have hl : lv_has ls 2 [(0, .ref a), (1, .int x)] := hl
  have hM := PS.of hM [(a, sbU q cap f (nI n))] ⟨hO, trivial⟩ (by simp [oad])
  refine lv_aload_n hC.1 hC.2.1 dJ10_append_0 rfl (lv_at hl 0 rfl) ?_
  refine lv_iload_n hC.1 hC.2.1 dJ10_append_1 rfl (lv_at hl 1 rfl) ?_
  refine o_cSU hC hK hM.1 (hM.at 0 rfl) rfl (cs_appG16 l κ _ a q cap f n x (hM.at 0 rfl) hx hft hn h20) (va_cwSU 1 hC.2.2.2.2 (lw_SU q515 q1658 q510 q516 q80 q517) rfl rfl rfl (by decide +kernel) ⟨(Nat.le_of_ble_eq_true rfl), (Nat.le_of_ble_eq_true rfl)⟩) rfl hl.1 rfl (lv_room (Nat.le_of_ble_eq_true rfl)) dJ10_append_2 ⟨(Nat.le_of_ble_eq_true rfl), (Nat.le_of_ble_eq_true rfl)⟩ (fun rv O1 H locs hp hM1 => ?_)
  obtain ⟨r, rfl, rfl⟩ := hp
  have hM := hM.set (L' := [_]) (i := 0) rfl hM1 rfl
  refine lv_pop hC.1 hC.2.1 dJ10_append_5 rfl ?_
  refine lv_aload_n hC.1 hC.2.1 dJ10_append_6 rfl (lv_at hl 0 rfl) ?_
  refine W.widen (k := 1) (n := 34) (Nat.le_of_ble_eq_true rfl) (Nat.le_of_ble_eq_true rfl) ?_
  refine p_aret hC hr (Or.inl ⟨_, rfl⟩) hlocks hM (Or.inr ⟨_, rfl⟩) dJ10_append_7 ?_
  exact ⟨r, rfl, rfl⟩

set_option maxHeartbeats 400000 in
set_option maxRecDepth 100000 in
theorem cs_sappG34 (l : Launch) (κ : Nat → Nat) (O : gO) (a q cap : Nat) (f : Nat → Int32)  (n : Nat) (x : Int32) (hO : O a = some (sbU q cap f (nI n))) (hx : 0 ≤ x ∧ x ≤ 127) (hft : ∀ i, fits .byte (.int (f i)) = true) (hn : n = cap) (h20 : cap ≤ 34) : oM l κ yJ10_append cJ10_append 2 (some (.object "java/lang/StringBuilder")) ({ frames := 5, cells := 1, slots := 70, locals := 125 }) [.ref a, .int x] O (fun rv O1 => ∃ r, rv = some (.ref a) ∧ O1 = oup O a (sbU r (cap + (cap + 2)) (upd (va_cpy f (fun _ => 0) 0 0 cap) n x) (nI (n + 1)))) := by
  intro D ac A
  refine o_body (own := RJ10) rfl (by decide +kernel) (Nat.le_of_ble_eq_true rfl) ?_
  intro p e s m args below meth c ls hC hr hlocks hK hM hl hnamed hmeth
  have hl : lv_has ls 2 [(0, .ref a), (1, .int x)] := hl
  have hM := PS.of hM [(a, sbU q cap f (nI n))] ⟨hO, trivial⟩ (by simp [oad])
  refine lv_aload_n hC.1 hC.2.1 dJ10_append_0 rfl (lv_at hl 0 rfl) ?_
  refine lv_iload_n hC.1 hC.2.1 dJ10_append_1 rfl (lv_at hl 1 rfl) ?_
  refine o_cSU hC hK hM.1 (hM.at 0 rfl) rfl (cs_appG34 l κ _ a q cap f n x (hM.at 0 rfl) hx hft hn h20) (va_cwSU 1 hC.2.2.2.2 (lw_SU q515 q1658 q510 q516 q80 q517) rfl rfl rfl (by decide +kernel) ⟨(Nat.le_of_ble_eq_true rfl), (Nat.le_of_ble_eq_true rfl)⟩) rfl hl.1 rfl (lv_room (Nat.le_of_ble_eq_true rfl)) dJ10_append_2 ⟨(Nat.le_of_ble_eq_true rfl), (Nat.le_of_ble_eq_true rfl)⟩ (fun rv O1 H locs hp hM1 => ?_)
  obtain ⟨r, rfl, rfl⟩ := hp
  have hM := hM.set (L' := [_]) (i := 0) rfl hM1 rfl
  refine lv_pop hC.1 hC.2.1 dJ10_append_5 rfl ?_
  refine lv_aload_n hC.1 hC.2.1 dJ10_append_6 rfl (lv_at hl 0 rfl) ?_
  refine W.widen (k := 1) (n := 70) (Nat.le_of_ble_eq_true rfl) (Nat.le_of_ble_eq_true rfl) ?_
  refine p_aret hC hr (Or.inl ⟨_, rfl⟩) hlocks hM (Or.inr ⟨_, rfl⟩) dJ10_append_7 ?_
  exact ⟨r, rfl, rfl⟩

set_option maxHeartbeats 400000 in
set_option maxRecDepth 100000 in
theorem cs_sappG70 (l : Launch) (κ : Nat → Nat) (O : gO) (a q cap : Nat) (f : Nat → Int32)  (n : Nat) (x : Int32) (hO : O a = some (sbU q cap f (nI n))) (hx : 0 ≤ x ∧ x ≤ 127) (hft : ∀ i, fits .byte (.int (f i)) = true) (hn : n = cap) (h20 : cap ≤ 70) : oM l κ yJ10_append cJ10_append 2 (some (.object "java/lang/StringBuilder")) ({ frames := 5, cells := 1, slots := 142, locals := 125 }) [.ref a, .int x] O (fun rv O1 => ∃ r, rv = some (.ref a) ∧ O1 = oup O a (sbU r (cap + (cap + 2)) (upd (va_cpy f (fun _ => 0) 0 0 cap) n x) (nI (n + 1)))) := by
  intro D ac A
  refine o_body (own := RJ10) rfl (by decide +kernel) (Nat.le_of_ble_eq_true rfl) ?_
  intro p e s m args below meth c ls hC hr hlocks hK hM hl hnamed hmeth
  have hl : lv_has ls 2 [(0, .ref a), (1, .int x)] := hl
  have hM := PS.of hM [(a, sbU q cap f (nI n))] ⟨hO, trivial⟩ (by simp [oad])
  refine lv_aload_n hC.1 hC.2.1 dJ10_append_0 rfl (lv_at hl 0 rfl) ?_
  refine lv_iload_n hC.1 hC.2.1 dJ10_append_1 rfl (lv_at hl 1 rfl) ?_
  refine o_cSU hC hK hM.1 (hM.at 0 rfl) rfl (cs_appG70 l κ _ a q cap f n x (hM.at 0 rfl) hx hft hn h20) (va_cwSU 1 hC.2.2.2.2 (lw_SU q515 q1658 q510 q516 q80 q517) rfl rfl rfl (by decide +kernel) ⟨(Nat.le_of_ble_eq_true rfl), (Nat.le_of_ble_eq_true rfl)⟩) rfl hl.1 rfl (lv_room (Nat.le_of_ble_eq_true rfl)) dJ10_append_2 ⟨(Nat.le_of_ble_eq_true rfl), (Nat.le_of_ble_eq_true rfl)⟩ (fun rv O1 H locs hp hM1 => ?_)
  obtain ⟨r, rfl, rfl⟩ := hp
  have hM := hM.set (L' := [_]) (i := 0) rfl hM1 rfl
  refine lv_pop hC.1 hC.2.1 dJ10_append_5 rfl ?_
  refine lv_aload_n hC.1 hC.2.1 dJ10_append_6 rfl (lv_at hl 0 rfl) ?_
  refine W.widen (k := 1) (n := 142) (Nat.le_of_ble_eq_true rfl) (Nat.le_of_ble_eq_true rfl) ?_
  refine p_aret hC hr (Or.inl ⟨_, rfl⟩) hlocks hM (Or.inr ⟨_, rfl⟩) dJ10_append_7 ?_
  exact ⟨r, rfl, rfl⟩

set_option maxHeartbeats 400000 in
set_option maxRecDepth 100000 in
theorem cs_sappG142 (l : Launch) (κ : Nat → Nat) (O : gO) (a q cap : Nat) (f : Nat → Int32)  (n : Nat) (x : Int32) (hO : O a = some (sbU q cap f (nI n))) (hx : 0 ≤ x ∧ x ≤ 127) (hft : ∀ i, fits .byte (.int (f i)) = true) (hn : n = cap) (h20 : cap ≤ 142) : oM l κ yJ10_append cJ10_append 2 (some (.object "java/lang/StringBuilder")) ({ frames := 5, cells := 1, slots := 286, locals := 125 }) [.ref a, .int x] O (fun rv O1 => ∃ r, rv = some (.ref a) ∧ O1 = oup O a (sbU r (cap + (cap + 2)) (upd (va_cpy f (fun _ => 0) 0 0 cap) n x) (nI (n + 1)))) := by
  intro D ac A
  refine o_body (own := RJ10) rfl (by decide +kernel) (Nat.le_of_ble_eq_true rfl) ?_
  intro p e s m args below meth c ls hC hr hlocks hK hM hl hnamed hmeth
  have hl : lv_has ls 2 [(0, .ref a), (1, .int x)] := hl
  have hM := PS.of hM [(a, sbU q cap f (nI n))] ⟨hO, trivial⟩ (by simp [oad])
  refine lv_aload_n hC.1 hC.2.1 dJ10_append_0 rfl (lv_at hl 0 rfl) ?_
  refine lv_iload_n hC.1 hC.2.1 dJ10_append_1 rfl (lv_at hl 1 rfl) ?_
  refine o_cSU hC hK hM.1 (hM.at 0 rfl) rfl (cs_appG142 l κ _ a q cap f n x (hM.at 0 rfl) hx hft hn h20) (va_cwSU 1 hC.2.2.2.2 (lw_SU q515 q1658 q510 q516 q80 q517) rfl rfl rfl (by decide +kernel) ⟨(Nat.le_of_ble_eq_true rfl), (Nat.le_of_ble_eq_true rfl)⟩) rfl hl.1 rfl (lv_room (Nat.le_of_ble_eq_true rfl)) dJ10_append_2 ⟨(Nat.le_of_ble_eq_true rfl), (Nat.le_of_ble_eq_true rfl)⟩ (fun rv O1 H locs hp hM1 => ?_)
  obtain ⟨r, rfl, rfl⟩ := hp
  have hM := hM.set (L' := [_]) (i := 0) rfl hM1 rfl
  refine lv_pop hC.1 hC.2.1 dJ10_append_5 rfl ?_
  refine lv_aload_n hC.1 hC.2.1 dJ10_append_6 rfl (lv_at hl 0 rfl) ?_
  refine W.widen (k := 1) (n := 286) (Nat.le_of_ble_eq_true rfl) (Nat.le_of_ble_eq_true rfl) ?_
  refine p_aret hC hr (Or.inl ⟨_, rfl⟩) hlocks hM (Or.inr ⟨_, rfl⟩) dJ10_append_7 ?_
  exact ⟨r, rfl, rfl⟩

set_option maxHeartbeats 400000 in
set_option maxRecDepth 100000 in
theorem cs_sappG286 (l : Launch) (κ : Nat → Nat) (O : gO) (a q cap : Nat) (f : Nat → Int32)  (n : Nat) (x : Int32) (hO : O a = some (sbU q cap f (nI n))) (hx : 0 ≤ x ∧ x ≤ 127) (hft : ∀ i, fits .byte (.int (f i)) = true) (hn : n = cap) (h20 : cap ≤ 286) : oM l κ yJ10_append cJ10_append 2 (some (.object "java/lang/StringBuilder")) ({ frames := 5, cells := 1, slots := 574, locals := 125 }) [.ref a, .int x] O (fun rv O1 => ∃ r, rv = some (.ref a) ∧ O1 = oup O a (sbU r (cap + (cap + 2)) (upd (va_cpy f (fun _ => 0) 0 0 cap) n x) (nI (n + 1)))) := by
  intro D ac A
  refine o_body (own := RJ10) rfl (by decide +kernel) (Nat.le_of_ble_eq_true rfl) ?_
  intro p e s m args below meth c ls hC hr hlocks hK hM hl hnamed hmeth
  have hl : lv_has ls 2 [(0, .ref a), (1, .int x)] := hl
  have hM := PS.of hM [(a, sbU q cap f (nI n))] ⟨hO, trivial⟩ (by simp [oad])
  refine lv_aload_n hC.1 hC.2.1 dJ10_append_0 rfl (lv_at hl 0 rfl) ?_
  refine lv_iload_n hC.1 hC.2.1 dJ10_append_1 rfl (lv_at hl 1 rfl) ?_
  refine o_cSU hC hK hM.1 (hM.at 0 rfl) rfl (cs_appG286 l κ _ a q cap f n x (hM.at 0 rfl) hx hft hn h20) (va_cwSU 1 hC.2.2.2.2 (lw_SU q515 q1658 q510 q516 q80 q517) rfl rfl rfl (by decide +kernel) ⟨(Nat.le_of_ble_eq_true rfl), (Nat.le_of_ble_eq_true rfl)⟩) rfl hl.1 rfl (lv_room (Nat.le_of_ble_eq_true rfl)) dJ10_append_2 ⟨(Nat.le_of_ble_eq_true rfl), (Nat.le_of_ble_eq_true rfl)⟩ (fun rv O1 H locs hp hM1 => ?_)
  obtain ⟨r, rfl, rfl⟩ := hp
  have hM := hM.set (L' := [_]) (i := 0) rfl hM1 rfl
  refine lv_pop hC.1 hC.2.1 dJ10_append_5 rfl ?_
  refine lv_aload_n hC.1 hC.2.1 dJ10_append_6 rfl (lv_at hl 0 rfl) ?_
  refine W.widen (k := 1) (n := 574) (Nat.le_of_ble_eq_true rfl) (Nat.le_of_ble_eq_true rfl) ?_
  refine p_aret hC hr (Or.inl ⟨_, rfl⟩) hlocks hM (Or.inr ⟨_, rfl⟩) dJ10_append_7 ?_
  exact ⟨r, rfl, rfl⟩
