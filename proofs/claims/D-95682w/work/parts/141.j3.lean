set_option maxHeartbeats 400000 in
set_option maxRecDepth 100000 in
theorem cj_grow2 (l : Launch) (κ : Nat → Nat) (O : gO) (la : Nat) (mc : Int32) (hO : O la = some (lsU mc (κ 0) 0 aNo)) : oM l κ yJ2_grow_2 cJ2_grow_2 4 (some (.array (.object "java/lang/Object"))) ({ frames := 1, cells := 1, slots := 10, locals := 21 }) [.ref la, .int 1] O (fun rv O1 => ∃ qa, rv = some (.ref qa) ∧ O1 = oup O la (lsU mc qa 0 (lar (fun _ => none)))) := by
  intro D ac A
  refine o_body (own := RJ2) rfl (by decide +kernel) (Nat.le_of_ble_eq_true rfl) ?_
  intro p e s m args below meth c ls hC hr hlocks hK hM hl hnamed hmeth
  have hl : lv_has ls 4 [(0, .ref la), (1, .int 1)] := hl
  have hM := PS.of hM [(la, lsU mc (κ 0) 0 aNo)] ⟨hO, trivial⟩ (by simp [oad])
  refine lv_aload_n hC.1 hC.2.1 dJ2_grow_2_0 rfl (lv_at hl 0 rfl) ?_
  refine p_getR hC hK hM 0 rfl in_J2 rfl 1 (by decide) q128 (fun x h => h) rfl dJ2_grow_2_1 ?_
  refine va_tlen hC.1 hC.2.1 hK.2.2.2.1.2 hM.s (v := 0) rfl dJ2_grow_2_4 ?_
  refine lv_istore_n (lv' := [(2, _), (0, _), (1, _)]) hC.1 hC.2.1 dJ2_grow_2_5 rfl hl (by decide) rfl (fun ls hl => ?_)
  refine lv_iload_n hC.1 hC.2.1 dJ2_grow_2_6 rfl (lv_at hl 0 rfl) ?_
  refine lv_if_gt (tgt := 20) hC.1 hC.2.1 dJ2_grow_2_7 (by decide) (fun c1 => ?_) (fun c1 => ?_)
  ·
    have nc1 := Int32.not_le.mpr c1
    exact absurd c1 (by decide)
  ·
    have nc1 := Int32.not_lt.mp c1
    refine lv_aload_n hC.1 hC.2.1 dJ2_grow_2_10 rfl (lv_at hl 1 rfl) ?_
    refine p_getR hC hK hM 0 rfl in_J2 rfl 1 (by decide) q128 (fun x h => h) rfl dJ2_grow_2_11 ?_
    refine va_gets hC.1 hC.2.1 hK.2.2.2.1.1 hM.s hC.2.2.2.1 (hC.2.2.2.2 _ q126) (fun x h => h) dJ2_grow_2_14 ?_
    refine lv_acmp_eq (rx := some (κ 0)) (ry := some (κ 0)) (tgt := 45) hC.1 hC.2.1 dJ2_grow_2_17 (by decide) (fun _ => ?_) (fun h => absurd rfl h)
    refine lv_aload_n hC.1 hC.2.1 dJ2_grow_2_45 rfl (lv_at hl 1 rfl) ?_
    refine lv_bipush (v := 10) hC.1 hC.2.1 dJ2_grow_2_46 (by decide) ?_
    refine lv_iload_n hC.1 hC.2.1 dJ2_grow_2_48 rfl (lv_at hl 2 rfl) ?_
    refine va_mmax hC.1 hC.2.1 (hC.2.2.1.trans hl.1.symm) hC.2.2.2.1 (hC.2.2.2.2 _ q861) (hC.2.2.2.2 _ q530) (hC.2.2.2.2 _ q84) (hC.2.2.2.2 _ q531) (Nat.le_of_ble_eq_true rfl) (Nat.le_of_ble_eq_true rfl) (Nat.le_of_ble_eq_true rfl) (Nat.le_of_ble_eq_true rfl) dJ2_grow_2_49 ?_
    rw [show (if (10 : Int32) < 1 then (1 : Int32) else 10) = nI 10 from by decide]
    refine p_newq (L' := fun q => [_, _]) hC hK hM (k := 5) rfl q862 (by decide) (N := 10) rfl (by decide) (Nat.le_of_ble_eq_true rfl) (Nat.le_of_ble_eq_true rfl) dJ2_grow_2_52 (fun q => rfl) (fun q_2 H hq_2 hM => ?_)
    refine lv_dup_x1 hC.1 hC.2.1 dJ2_grow_2_55 rfl rfl ?_
    refine p_adopt (L' := [_]) hC hK hM 0 rfl 1 rfl hq_2 (by decide) in_J2 tyJ2 tyJ2_ok nmJ2 rfl 1 (by decide) q128 (fun x h => h) rfl rfl rfl (Nat.le_of_ble_eq_true rfl) (u' := .inr (8, [_, _, _], _)) rfl rfl dJ2_grow_2_56 (fun H locs hM => ?_)
    refine W.widen (k := 1) (n := 10) (Nat.le_of_ble_eq_true rfl) (Nat.le_of_ble_eq_true rfl) ?_
    refine p_aret hC hr (Or.inr ⟨_, rfl⟩) hlocks hM (Or.inr ⟨_, rfl⟩) dJ2_grow_2_59 ?_
    refine ⟨q_2, rfl, ?_⟩
    rw [← lar_new]
    rfl

set_option maxHeartbeats 400000 in
set_option maxRecDepth 100000 in
theorem cj_grow (l : Launch) (κ : Nat → Nat) (O : gO) (la : Nat) (mc : Int32) (hO : O la = some (lsU mc (κ 0) 0 aNo)) : oM l κ yJ2_grow cJ2_grow 1 (some (.array (.object "java/lang/Object"))) ({ frames := 2, cells := 1, slots := 10, locals := 44 }) [.ref la] O (fun rv O1 => ∃ qa, rv = some (.ref qa) ∧ O1 = oup O la (lsU mc qa 0 (lar (fun _ => none)))) := by
  intro D ac A
  refine o_body (own := RJ2) rfl (by decide +kernel) (Nat.le_of_ble_eq_true rfl) ?_
  intro p e s m args below meth c ls hC hr hlocks hK hM hl hnamed hmeth
  have hl : lv_has ls 1 [(0, .ref la)] := hl
  have hM := PS.of hM [(la, lsU mc (κ 0) 0 aNo)] ⟨hO, trivial⟩ (by simp [oad])
  refine lv_aload_n hC.1 hC.2.1 dJ2_grow_0 rfl (lv_at hl 0 rfl) ?_
  refine lv_aload_n hC.1 hC.2.1 dJ2_grow_1 rfl (lv_at hl 0 rfl) ?_
  refine p_getR hC hK hM 0 rfl in_J2 rfl 2 (by decide) q129 (fun x h => h) rfl dJ2_grow_2 ?_
  refine lv_iconst (v := 1) hC.1 hC.2.1 dJ2_grow_5 (by decide) ?_
  refine lv_iadd hC.1 hC.2.1 dJ2_grow_6 ?_
  rw [show (0 : Int32) + 1 = 1 from by decide]
  refine o_cV hC hK hM.1 (hM.at 0 rfl) rfl (cj_grow2 l κ _ la mc (hM.at 0 rfl)) (cwV 1 hC.2.2.2.2 (lw_V q825 q827 qs14 q67 q828) rfl rfl rfl (by decide +kernel) ⟨(Nat.le_of_ble_eq_true rfl), (Nat.le_of_ble_eq_true rfl)⟩) rfl hl.1 rfl (lv_room (Nat.le_of_ble_eq_true rfl)) dJ2_grow_7 ⟨(Nat.le_of_ble_eq_true rfl), (Nat.le_of_ble_eq_true rfl)⟩ (fun rv O1 H locs hp hM1 => ?_)
  obtain ⟨qa, rfl, rfl⟩ := hp
  have hM := hM.set (L' := [_]) (i := 0) rfl hM1 rfl
  refine W.widen (k := 1) (n := 10) (Nat.le_of_ble_eq_true rfl) (Nat.le_of_ble_eq_true rfl) ?_
  refine p_aret hC hr (Or.inr ⟨_, rfl⟩) hlocks hM (Or.inr ⟨_, rfl⟩) dJ2_grow_10 ?_
  exact ⟨qa, rfl, rfl⟩

set_option maxHeartbeats 400000 in
set_option maxRecDepth 100000 in
theorem cj_addN (l : Launch) (κ : Nat → Nat) (O : gO) (la : Nat) (mc : Int32) (ea n : Nat) (f : Nat → Option Nat) (q kd : Nat) (mv : Nat → Int32) (hO : O la = some (lsU mc ea (nI n) (lar f))) (hn : n < 10) (hQ : O q = some (mvU kd mv)) (h1 : 1 ≤ kd) (h5 : kd ≤ 5) : oM l κ yJ2_add_2 cJ2_add_2 4 none ({ frames := 3, cells := 1, slots := 10, locals := 64 }) [.ref la, .ref q, .ref ea, .int (nI n)] O (fun rv O1 => O1 = oup O la (lsU mc ea (nI (n + 1)) (lar (va_up f n (some q)))) ∧ rv = none) := by
  intro D ac A
  refine o_body (own := RJ2) rfl (by decide +kernel) (Nat.le_of_ble_eq_true rfl) ?_
  intro p e s m args below meth c ls hC hr hlocks hK hM hl hnamed hmeth
  have hl : lv_has ls 4 [(0, .ref la), (1, .ref q), (2, .ref ea), (3, .int (nI n))] := hl
  have hM := PS.of hM [(la, lsU mc ea (nI n) (lar f)), (q, mvU kd mv)] ⟨hO, hQ, trivial⟩ (by simp only [oad, List.map, List.nodup_cons, List.mem_singleton, List.not_mem_nil, not_false_eq_true, List.nodup_nil, and_true]; exact o_ne hO hQ (by omega))
  refine lv_iload_n hC.1 hC.2.1 dJ2_add_2_0 rfl (lv_at hl 3 rfl) ?_
  refine lv_aload_n hC.1 hC.2.1 dJ2_add_2_1 rfl (lv_at hl 2 rfl) ?_
  refine p_alen hC hK hM 0 rfl 1 rfl rfl (by decide) dJ2_add_2_2 ?_
  refine lv_icmp_ne (tgt := 11) hC.1 hC.2.1 dJ2_add_2_3 (by decide) (fun c1 => ?_) (fun c1 => ?_)
  ·
    skip
    refine lv_aload_n hC.1 hC.2.1 dJ2_add_2_11 rfl (lv_at hl 2 rfl) ?_
    refine lv_iload_n hC.1 hC.2.1 dJ2_add_2_12 rfl (lv_at hl 3 rfl) ?_
    refine lv_aload_n hC.1 hC.2.1 dJ2_add_2_13 rfl (lv_at hl 1 rfl) ?_
    obtain ⟨r, hvr⟩ := mv_row h1 h5
    refine p_aast (L' := [_, _]) hC hK hM 0 rfl 1 rfl rfl rfl (hM.at 1 rfl) hvr (mv_asg hK h1 h5 hvr) (n := n) rfl (by show _ < 10; omega) (by decide) (lar_set _ _) rfl dJ2_add_2_14 (fun H locs hM => ?_)
    refine lv_aload_n hC.1 hC.2.1 dJ2_add_2_15 rfl (lv_at hl 0 rfl) ?_
    refine lv_iload_n hC.1 hC.2.1 dJ2_add_2_16 rfl (lv_at hl 3 rfl) ?_
    refine lv_iconst (v := 1) hC.1 hC.2.1 dJ2_add_2_17 (by decide) ?_
    refine lv_iadd hC.1 hC.2.1 dJ2_add_2_18 ?_
    rw [nI_1]
    refine p_putR (L' := [_, _]) hC hK hM 0 rfl in_J2 tyJ2 tyJ2_ok nmJ2 rfl 2 (by decide) q129 (fun x h => h) rfl rfl rfl (Nat.le_of_ble_eq_true rfl) rfl (u' := .inr (8, [_, _, _], _)) rfl rfl dJ2_add_2_19 (fun H locs hM => ?_)
    refine W.widen (k := 1) (n := 10) (Nat.le_of_ble_eq_true rfl) (Nat.le_of_ble_eq_true rfl) ?_
    refine p_vret hC hr hlocks hM dJ2_add_2_22 ?_
    refine ⟨?_, rfl⟩
    rw [oups, oups, oups, oup_same hQ]
  ·
    skip
    exact absurd (neq_t (a := n) (b := 10) c1) (by omega)

set_option maxHeartbeats 400000 in
set_option maxRecDepth 100000 in
theorem cj_addE (l : Launch) (κ : Nat → Nat) (O : gO) (la : Nat) (mc : Int32) (q kd : Nat) (mv : Nat → Int32) (hO : O la = some (lsU mc (κ 0) 0 aNo)) (hQ : O q = some (mvU kd mv)) (h1 : 1 ≤ kd) (h5 : kd ≤ 5) : oM l κ yJ2_add_2 cJ2_add_2 4 none ({ frames := 3, cells := 1, slots := 10, locals := 64 }) [.ref la, .ref q, .ref (κ 0), .int 0] O (fun rv O1 => ∃ qa, O1 = oup O la (lsU mc qa (nI 1) (lar (va_up (fun _ => none) 0 (some q)))) ∧ rv = none) := by
  intro D ac A
  refine o_body (own := RJ2) rfl (by decide +kernel) (Nat.le_of_ble_eq_true rfl) ?_
  intro p e s m args below meth c ls hC hr hlocks hK hM hl hnamed hmeth
  have hl : lv_has ls 4 [(0, .ref la), (1, .ref q), (2, .ref (κ 0)), (3, .int 0)] := hl
  have hM := PS.of hM [(la, lsU mc (κ 0) 0 aNo), (q, mvU kd mv)] ⟨hO, hQ, trivial⟩ (by simp only [oad, List.map, List.nodup_cons, List.mem_singleton, List.not_mem_nil, not_false_eq_true, List.nodup_nil, and_true]; exact o_ne hO hQ (by omega))
  refine lv_iload_n hC.1 hC.2.1 dJ2_add_2_0 rfl (lv_at hl 3 rfl) ?_
  refine lv_aload_n hC.1 hC.2.1 dJ2_add_2_1 rfl (lv_at hl 2 rfl) ?_
  refine va_tlen hC.1 hC.2.1 hK.2.2.2.1.2 hM.s (v := 0) rfl dJ2_add_2_2 ?_
  refine lv_icmp_ne (tgt := 11) hC.1 hC.2.1 dJ2_add_2_3 (by decide) (fun c1 => ?_) (fun c1 => ?_)
  ·
    skip
    exact absurd rfl c1
  ·
    skip
    refine lv_aload_n hC.1 hC.2.1 dJ2_add_2_6 rfl (lv_at hl 0 rfl) ?_
    refine o_cV hC hK hM.1 (hM.at 0 rfl) rfl (cj_grow l κ _ la mc (hM.at 0 rfl)) (cwV 0 hC.2.2.2.2 (lw_V q821 q823 qs13 q67 q824) rfl rfl rfl (by decide +kernel) ⟨(Nat.le_of_ble_eq_true rfl), (Nat.le_of_ble_eq_true rfl)⟩) rfl hl.1 rfl (lv_room (Nat.le_of_ble_eq_true rfl)) dJ2_add_2_7 ⟨(Nat.le_of_ble_eq_true rfl), (Nat.le_of_ble_eq_true rfl)⟩ (fun rv O1 H locs hp hM1 => ?_)
    obtain ⟨qa, rfl, rfl⟩ := hp
    have hM := hM.set (L' := [_, _]) (i := 0) rfl hM1 rfl
    refine lv_astore_n (lv' := [(2, _), (0, _), (1, _), (3, _)]) hC.1 hC.2.1 dJ2_add_2_10 rfl hl (by decide) rfl (fun ls hl => ?_)
    refine lv_aload_n hC.1 hC.2.1 dJ2_add_2_11 rfl (lv_at hl 0 rfl) ?_
    refine lv_iload_n hC.1 hC.2.1 dJ2_add_2_12 rfl (lv_at hl 3 rfl) ?_
    refine lv_aload_n hC.1 hC.2.1 dJ2_add_2_13 rfl (lv_at hl 2 rfl) ?_
    obtain ⟨r, hvr⟩ := mv_row h1 h5
    refine p_aast (L' := [_, _]) hC hK hM 0 rfl 1 rfl rfl rfl (hM.at 1 rfl) hvr (mv_asg hK h1 h5 hvr) (n := 0) rfl (by show _ < 10; omega) (by decide) (lar_set _ _) rfl dJ2_add_2_14 (fun H locs hM => ?_)
    refine lv_aload_n hC.1 hC.2.1 dJ2_add_2_15 rfl (lv_at hl 1 rfl) ?_
    refine lv_iload_n hC.1 hC.2.1 dJ2_add_2_16 rfl (lv_at hl 3 rfl) ?_
    refine lv_iconst (v := 1) hC.1 hC.2.1 dJ2_add_2_17 (by decide) ?_
    refine lv_iadd hC.1 hC.2.1 dJ2_add_2_18 ?_
    rw [show (0 : Int32) + 1 = nI 1 from by decide]
    refine p_putR (L' := [_, _]) hC hK hM 0 rfl in_J2 tyJ2 tyJ2_ok nmJ2 rfl 2 (by decide) q129 (fun x h => h) rfl rfl rfl (Nat.le_of_ble_eq_true rfl) rfl (u' := .inr (8, [_, _, _], _)) rfl rfl dJ2_add_2_19 (fun H locs hM => ?_)
    refine W.widen (k := 1) (n := 10) (Nat.le_of_ble_eq_true rfl) (Nat.le_of_ble_eq_true rfl) ?_
    refine p_vret hC hr hlocks hM dJ2_add_2_22 ?_
    refine ⟨qa, ?_, rfl⟩
    rw [oups, oups, oups, oup_same hQ]

set_option maxHeartbeats 400000 in
set_option maxRecDepth 100000 in
theorem cj_listAddN (l : Launch) (κ : Nat → Nat) (O : gO) (la : Nat) (mc : Int32) (ea n : Nat) (f : Nat → Option Nat) (q kd : Nat) (mv : Nat → Int32) (hO : O la = some (lsU mc ea (nI n) (lar f))) (hn : n < 10) (hQ : O q = some (mvU kd mv)) (h1 : 1 ≤ kd) (h5 : kd ≤ 5) : oM l κ yJ2_add cJ2_add 2 (some .boolean) ({ frames := 4, cells := 1, slots := 10, locals := 87 }) [.ref la, .ref q] O (fun rv O1 => rv = some (.int 1) ∧ O1 = oup O la (lsU (mc + 1) ea (nI (n + 1)) (lar (va_up f n (some q))))) := by
  intro D ac A
  refine o_body (own := RJ2) rfl (by decide +kernel) (Nat.le_of_ble_eq_true rfl) ?_
  intro p e s m args below meth c ls hC hr hlocks hK hM hl hnamed hmeth
  have hl : lv_has ls 2 [(0, .ref la), (1, .ref q)] := hl
  have hM := PS.of hM [(la, lsU mc ea (nI n) (lar f)), (q, mvU kd mv)] ⟨hO, hQ, trivial⟩ (by simp only [oad, List.map, List.nodup_cons, List.mem_singleton, List.not_mem_nil, not_false_eq_true, List.nodup_nil, and_true]; exact o_ne hO hQ (by omega))
  refine lv_aload_n hC.1 hC.2.1 dJ2_add_0 rfl (lv_at hl 0 rfl) ?_
  refine lv_dup hC.1 hC.2.1 dJ2_add_1 rfl ?_
  refine p_getR hC hK hM 0 rfl in_J2 rfl 0 (by decide) q131 (u_same (hC.2.2.2.2 _ q132)) rfl dJ2_add_2 ?_
  refine lv_iconst (v := 1) hC.1 hC.2.1 dJ2_add_5 (by decide) ?_
  refine lv_iadd hC.1 hC.2.1 dJ2_add_6 ?_
  refine p_putR (L' := [_, _]) hC hK hM 0 rfl in_J2 tyJ2 tyJ2_ok nmJ2 rfl 0 (by decide) q131 (u_same (hC.2.2.2.2 _ q132)) rfl rfl rfl (Nat.le_of_ble_eq_true rfl) rfl (u' := .inr (8, [_, _, _], _)) rfl rfl dJ2_add_7 (fun H locs hM => ?_)
  refine lv_aload_n hC.1 hC.2.1 dJ2_add_10 rfl (lv_at hl 0 rfl) ?_
  refine lv_aload_n hC.1 hC.2.1 dJ2_add_11 rfl (lv_at hl 1 rfl) ?_
  refine lv_aload_n hC.1 hC.2.1 dJ2_add_12 rfl (lv_at hl 0 rfl) ?_
  refine p_getR hC hK hM 0 rfl in_J2 rfl 1 (by decide) q128 (fun x h => h) rfl dJ2_add_13 ?_
  refine lv_aload_n hC.1 hC.2.1 dJ2_add_16 rfl (lv_at hl 0 rfl) ?_
  refine p_getR hC hK hM 0 rfl in_J2 rfl 2 (by decide) q129 (fun x h => h) rfl dJ2_add_17 ?_
  refine p_cVv (L' := [_, _]) hC hK hM (hM.at 0 rfl) rfl (cj_addN l κ _ la (mc + 1) ea n f q kd mv (hM.at 0 rfl) hn (hM.at 1 rfl) h1 h5) (cwV 3 hC.2.2.2.2 (lw_V q817 q819 qs12 q67 q820) rfl rfl rfl (by decide +kernel) ⟨(Nat.le_of_ble_eq_true rfl), (Nat.le_of_ble_eq_true rfl)⟩) rfl hl.1 rfl (lv_room (Nat.le_of_ble_eq_true rfl)) dJ2_add_20 ⟨(Nat.le_of_ble_eq_true rfl), (Nat.le_of_ble_eq_true rfl)⟩ (oups_set hM.2 (i := 0) rfl) (oad_nd hM.2 (i := 0) rfl rfl) (fun H locs hM => ?_)
  refine lv_iconst (v := 1) hC.1 hC.2.1 dJ2_add_23 (by decide) ?_
  refine W.widen (k := 1) (n := 10) (Nat.le_of_ble_eq_true rfl) (Nat.le_of_ble_eq_true rfl) ?_
  refine p_zret hC hr hlocks hM (by first | exact bI_01 _ | exact Or.inl rfl | exact Or.inr rfl) dJ2_add_24 ?_
  refine ⟨rfl, ?_⟩
  rw [oups, oups, oups, oup_same hQ]

set_option maxHeartbeats 400000 in
set_option maxRecDepth 100000 in
theorem cj_listAddE (l : Launch) (κ : Nat → Nat) (O : gO) (la : Nat) (mc : Int32) (q kd : Nat) (mv : Nat → Int32) (hO : O la = some (lsU mc (κ 0) 0 aNo)) (hQ : O q = some (mvU kd mv)) (h1 : 1 ≤ kd) (h5 : kd ≤ 5) : oM l κ yJ2_add cJ2_add 2 (some .boolean) ({ frames := 4, cells := 1, slots := 10, locals := 87 }) [.ref la, .ref q] O (fun rv O1 => ∃ qa, rv = some (.int 1) ∧ O1 = oup O la (lsU (mc + 1) qa (nI 1) (lar (va_up (fun _ => none) 0 (some q))))) := by
  intro D ac A
  refine o_body (own := RJ2) rfl (by decide +kernel) (Nat.le_of_ble_eq_true rfl) ?_
  intro p e s m args below meth c ls hC hr hlocks hK hM hl hnamed hmeth
  have hl : lv_has ls 2 [(0, .ref la), (1, .ref q)] := hl
  have hM := PS.of hM [(la, lsU mc (κ 0) 0 aNo), (q, mvU kd mv)] ⟨hO, hQ, trivial⟩ (by simp only [oad, List.map, List.nodup_cons, List.mem_singleton, List.not_mem_nil, not_false_eq_true, List.nodup_nil, and_true]; exact o_ne hO hQ (by omega))
  refine lv_aload_n hC.1 hC.2.1 dJ2_add_0 rfl (lv_at hl 0 rfl) ?_
  refine lv_dup hC.1 hC.2.1 dJ2_add_1 rfl ?_
  refine p_getR hC hK hM 0 rfl in_J2 rfl 0 (by decide) q131 (u_same (hC.2.2.2.2 _ q132)) rfl dJ2_add_2 ?_
  refine lv_iconst (v := 1) hC.1 hC.2.1 dJ2_add_5 (by decide) ?_
  refine lv_iadd hC.1 hC.2.1 dJ2_add_6 ?_
  refine p_putR (L' := [_, _]) hC hK hM 0 rfl in_J2 tyJ2 tyJ2_ok nmJ2 rfl 0 (by decide) q131 (u_same (hC.2.2.2.2 _ q132)) rfl rfl rfl (Nat.le_of_ble_eq_true rfl) rfl (u' := .inr (8, [_, _, _], _)) rfl rfl dJ2_add_7 (fun H locs hM => ?_)
  refine lv_aload_n hC.1 hC.2.1 dJ2_add_10 rfl (lv_at hl 0 rfl) ?_
  refine lv_aload_n hC.1 hC.2.1 dJ2_add_11 rfl (lv_at hl 1 rfl) ?_
  refine lv_aload_n hC.1 hC.2.1 dJ2_add_12 rfl (lv_at hl 0 rfl) ?_
  refine p_getR hC hK hM 0 rfl in_J2 rfl 1 (by decide) q128 (fun x h => h) rfl dJ2_add_13 ?_
  refine lv_aload_n hC.1 hC.2.1 dJ2_add_16 rfl (lv_at hl 0 rfl) ?_
  refine p_getR hC hK hM 0 rfl in_J2 rfl 2 (by decide) q129 (fun x h => h) rfl dJ2_add_17 ?_
  refine o_cV hC hK hM.1 (hM.at 0 rfl) rfl (cj_addE l κ _ la (mc + 1) q kd mv (hM.at 0 rfl) (hM.at 1 rfl) h1 h5) (cwV 3 hC.2.2.2.2 (lw_V q817 q819 qs12 q67 q820) rfl rfl rfl (by decide +kernel) ⟨(Nat.le_of_ble_eq_true rfl), (Nat.le_of_ble_eq_true rfl)⟩) rfl hl.1 rfl (lv_room (Nat.le_of_ble_eq_true rfl)) dJ2_add_20 ⟨(Nat.le_of_ble_eq_true rfl), (Nat.le_of_ble_eq_true rfl)⟩ (fun rv O1 H locs hp hM1 => ?_)
  obtain ⟨qa, rfl, rfl⟩ := hp
  have hM := hM.set (L' := [_, _]) (i := 0) rfl hM1 rfl
  refine lv_iconst (v := 1) hC.1 hC.2.1 dJ2_add_23 (by decide) ?_
  refine W.widen (k := 1) (n := 10) (Nat.le_of_ble_eq_true rfl) (Nat.le_of_ble_eq_true rfl) ?_
  refine p_zret hC hr hlocks hM (by first | exact bI_01 _ | exact Or.inl rfl | exact Or.inr rfl) dJ2_add_24 ?_
  refine ⟨qa, rfl, ?_⟩
  rw [oups, oups, oups, oup_same hQ]
