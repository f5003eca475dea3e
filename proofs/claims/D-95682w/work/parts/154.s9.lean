set_option maxHeartbeats 400000 in
set_option maxRecDepth 100000 in
theorem cs_toS (l : Launch) (κ : Nat → Nat) (O : gO) (a q cap : Nat) (f : Nat → Int32) (n : Nat) (hO : O a = some (sbU q cap f (nI n))) (hft : ∀ i, fits .byte (.int (f i)) = true) (h20 : cap < 2 ^ 15) (hn : n ≤ cap) (hn2 : n ≤ 400) : oM l κ yJ10_toString cJ10_toString 1 (some (.object "java/lang/String")) ({ frames := 5, cells := 2, slots := 404, locals := 131 }) [.ref a] O (fun rv O1 => ∃ b r g, rv = some (.ref b) ∧ O b = none ∧ O1 = oup O b (strU r n g) ∧ ∀ i, i < n → g i = f i) := by
  intro D ac A
  refine o_body (own := RJ10) rfl (by decide +kernel) (Nat.le_of_ble_eq_true rfl) ?_
  intro p e s m args below meth c ls hC hr hlocks hK hM hl hnamed hmeth
  have hl : lv_has ls 1 [(0, .ref a)] := hl
  have hM := PS.of hM [(a, sbU q cap f (nI n))] ⟨hO, trivial⟩ (by simp [oad])
  refine p_new (L' := fun q => [_, _]) hC hK hM (ci := 15) in_J8 tyJ8 tyJ8_ok q608 q406 q77 rfl (fs := [.null, .int 0, .int 0, .int 0]) (by decide) (Nat.le_of_ble_eq_true rfl) (Nat.le_of_ble_eq_true rfl) dJ10_toString_0 (fun q => rfl) (fun q_1 H hq_1 hM => ?_)
  refine lv_dup hC.1 hC.2.1 dJ10_toString_3 rfl ?_
  refine lv_aload_n hC.1 hC.2.1 dJ10_toString_4 rfl (lv_at hl 0 rfl) ?_
  refine o_cI hC hK hM.1 (cs_str1 l κ _ q_1 a q cap f n (hM.at 1 rfl) (hM.at 0 rfl) hft h20 hn hn2) (cwI 1 hC.2.2.2.2 (lw_meth q611) rfl rfl rfl (hC.2.2.2.2 _ q77) (hC.2.2.2.2 _ q609) (hC.2.2.2.2 _ q610) rfl (by decide +kernel) ⟨(Nat.le_of_ble_eq_true rfl), (Nat.le_of_ble_eq_true rfl)⟩) rfl hl.1 rfl (lv_room (Nat.le_of_ble_eq_true rfl)) dJ10_toString_5 ⟨(Nat.le_of_ble_eq_true rfl), (Nat.le_of_ble_eq_true rfl)⟩ (fun rv O1 H locs hp hM1 => ?_)
  obtain ⟨r, g, ⟨rfl, rfl⟩, hzg⟩ := hp
  have hM := hM.set (L' := [_, _]) (i := 1) rfl hM1 rfl
  refine W.widen (k := 2) (n := 404) (Nat.le_of_ble_eq_true rfl) (Nat.le_of_ble_eq_true rfl) ?_
  refine p_aret hC hr (Or.inl ⟨_, rfl⟩) hlocks hM (Or.inr ⟨_, rfl⟩) dJ10_toString_8 ?_
  refine ⟨q_1, r, g, rfl, hq_1, ?_, hzg⟩
  rw [oups, oups, oups, oup_comm (a := q_1) (b := a) (fun e => by rw [e, hO] at hq_1; cases hq_1), oup_same hO]
