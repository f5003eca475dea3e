set_option maxHeartbeats 400000 in
set_option maxRecDepth 100000 in
theorem cs_str1 (l : Launch) (κ : Nat → Nat) (O : gO) (b a q cap : Nat) (f : Nat → Int32) (n : Nat) (hB : O b = some (.inr (15, [.null, .int 0, .int 0, .int 0], aNo))) (hO : O a = some (sbU q cap f (nI n))) (hft : ∀ i, fits .byte (.int (f i)) = true) (h20 : cap < 2 ^ 15) (hn : n ≤ cap) (hn2 : n ≤ 400) : oM l κ yJ8_init cJ8_init 2 none ({ frames := 4, cells := 1, slots := 400, locals := 110 }) [.ref b, .ref a] O (fun rv O1 => ∃ r g, (O1 = oup O b (strU r n g) ∧ rv = none) ∧ ∀ i, i < n → g i = f i) := by
  intro D ac A
  refine o_body (own := RJ8) rfl (by decide +kernel) (Nat.le_of_ble_eq_true rfl) ?_
  intro p e s m args below meth c ls hC hr hlocks hK hM hl hnamed hmeth
  have hl : lv_has ls 2 [(0, .ref b), (1, .ref a)] := hl
  have hnm : meth.name = "<init>" := (name_of_methodNamed hnamed hmeth).1
  have hM := PS.of hM [(b, .inr (15, [.null, .int 0, .int 0, .int 0], aNo)), (a, sbU q cap f (nI n))] ⟨hB, hO, trivial⟩ (by simp only [oad, List.map, List.nodup_cons, List.mem_singleton, List.not_mem_nil, not_false_eq_true, List.nodup_nil, and_true]; exact o_ne hB hO (by decide))
  refine lv_aload_n hC.1 hC.2.1 dJ8_init_0 rfl (lv_at hl 0 rfl) ?_
  refine lv_aload_n hC.1 hC.2.1 dJ8_init_1 rfl (lv_at hl 1 rfl) ?_
  refine lv_null hC.1 hC.2.1 dJ8_init_2 ?_
  refine o_cI hC hK hM.1 (cs_str2 l κ _ b a q cap f n (hM.at 0 rfl) (hM.at 1 rfl) hft h20 hn hn2) (cwI 2 hC.2.2.2.2 (lw_meth q614) rfl rfl rfl (hC.2.2.2.2 _ q77) (hC.2.2.2.2 _ q612) (hC.2.2.2.2 _ q613) rfl (by decide +kernel) ⟨(Nat.le_of_ble_eq_true rfl), (Nat.le_of_ble_eq_true rfl)⟩) rfl hl.1 rfl (lv_room (Nat.le_of_ble_eq_true rfl)) dJ8_init_3 ⟨(Nat.le_of_ble_eq_true rfl), (Nat.le_of_ble_eq_true rfl)⟩ (fun rv O1 H locs hp hM1 => ?_)
  obtain ⟨r, g, ⟨rfl, rfl⟩, hzg⟩ := hp
  have hM := hM.set (L' := [_, _]) (i := 0) rfl hM1 rfl
  refine W.widen (k := 1) (n := 400) (Nat.le_of_ble_eq_true rfl) (Nat.le_of_ble_eq_true rfl) ?_
  refine p_vret hC hr hlocks hM dJ8_init_6 ?_
  refine ⟨r, g, ⟨?_, rfl⟩, hzg⟩
  rw [oups, oups, oups, oup_same hO]
