set_option maxHeartbeats 400000 in
set_option maxRecDepth 100000 in
theorem cr_all (l : Launch) (κ : Nat → Nat) (O : gO) (a : Nat) (v : Nat → Int32) (ad : Nat → Nat) (w : Nat → Nat → Int32) (mc : Int32) (ea mm : Nat) (ar : gA) (hO : O a = some (rdU v ad w)) (hls : O (ad 8) = some (lsU mc ea (nI mm) ar)) : oM l κ yX1_all cX1_all 1 (some .int) ({ frames := 1, cells := 0, slots := 0, locals := 20 }) [.ref a] O (fun rv O1 => rv = some (.int ((1 : Int32) <<< (nI mm &&& 31) - 1)) ∧ O1 = O) := by
  intro D ac A
  refine o_body (own := RX1) rfl (plainFor_of_name (by decide)) (Nat.le_of_ble_eq_true rfl) ?_
  intro p e s m args below meth c ls hC hr hlocks hK hM hl hnamed hmeth
  have hl : lv_has ls 1 [(0, .ref a)] := hl
  have hM := PS.of hM [(a, rdU v ad w), (ad 8, lsU mc ea (nI mm) ar)] ⟨hO, hls, trivial⟩ (by simp only [oad, List.map, List.nodup_cons, List.mem_singleton, List.not_mem_nil, not_false_eq_true, List.nodup_nil, and_true]; exact o_ne hO hls (by decide))
  refine lv_iconst (v := 1) hC.1 hC.2.1 dX1_all_0 (by decide) ?_
  refine lv_aload_n hC.1 hC.2.1 dX1_all_1 rfl (lv_at hl 0 rfl) ?_
  refine p_get hC hK hM 0 rfl in_X1 rfl 8 (by decide) q166 (fun x h => h) rfl dX1_all_2 ?_
  refine p_cFe (L' := [_, _]) hC hK hM (hM.at 1 rfl) rfl (cj_size l κ _ (ad 8) mc ea (nI mm) ar (hM.at 1 rfl)) (va_cwF 0 hC.2.2.2.2 (lw_F q895 q725 q727 q67 q729) rfl rfl rfl (hK.1.2.2.2 _ (List.mem_of_getElem? (i := 0) (rfl : nFw[0]? = some _))) (by decide +kernel) ⟨(Nat.le_of_ble_eq_true rfl), (Nat.le_of_ble_eq_true rfl)⟩) rfl hl.1 rfl (lv_room (Nat.le_of_ble_eq_true rfl)) dX1_all_5 ⟨(Nat.le_of_ble_eq_true rfl), (Nat.le_of_ble_eq_true rfl)⟩ rfl hM.2 (fun H locs hM => ?_)
  refine lv_ishl hC.1 hC.2.1 dX1_all_10 ?_
  refine lv_iconst (v := 1) hC.1 hC.2.1 dX1_all_11 (by decide) ?_
  refine lv_isub hC.1 hC.2.1 dX1_all_12 ?_
  skip
  refine p_iret hC hr hlocks hM dX1_all_13 ?_
  exact ⟨rfl, by rw [oups, oups, oups, oup_same hls]; exact oup_same hO⟩

set_option maxHeartbeats 400000 in
set_option maxRecDepth 100000 in
theorem cr_standsAs (l : Launch) (κ : Nat → Nat) (O : gO) (a : Nat) (v : Nat → Int32) (ad : Nat → Nat) (w : Nat → Nat → Int32) (b : Nat) (v' : Nat → Int32) (ad' : Nat → Nat) (w' : Nat → Nat → Int32) (hO : O a = some (rdU v ad w)) (hO' : O b = some (rdU v' ad' w')) (hab : a ≠ b) (n : Nat) (en : v 4 = nI n) (hn : n ≤ 6) : oM l κ yX1_standsAs cX1_standsAs 4 (some .boolean) ({ frames := 0, cells := 0, slots := 0, locals := 0 }) [.ref a, .ref b] O (fun rv O1 => rv = some (.int (bI (eqL (w 6) (w' 6) n = true))) ∧ O1 = O) := by
  intro D ac A
  refine o_body (own := RX1) rfl (plainFor_of_name (by decide)) (Nat.le_of_ble_eq_true rfl) ?_
  intro p e s m args below meth c ls hC hr hlocks hK hM hl hnamed hmeth
  have hl : lv_has ls 4 [(0, .ref a), (1, .ref b)] := hl
  have hM := PS.of hM [(a, rdU v ad w), (b, rdU v' ad' w')] ⟨hO, hO', trivial⟩ (by simp [oad, hab])
  refine lv_iconst (v := 1) hC.1 hC.2.1 dX1_standsAs_0 (by decide) ?_
  refine lv_istore_n (lv' := [(2, _), (0, _), (1, _)]) hC.1 hC.2.1 dX1_standsAs_1 rfl hl (by decide) rfl (fun ls hl => ?_)
  refine lv_iconst (v := 0) hC.1 hC.2.1 dX1_standsAs_2 (by decide) ?_
  refine lv_istore_n (lv' := [(3, _), (2, _), (0, _), (1, _)]) hC.1 hC.2.1 dX1_standsAs_3 rfl hl (by decide) rfl (fun ls hl => ?_)
  refine w_ind (α := Nat) 4 (fun (k : Nat) => n - k) (fun (k : Nat) (H : Heap) (locs : List Loc) (ls : Array Slot) => (k ≤ n) ∧ PS D ac A s.heap O [(a, rdU v ad w), (b, rdU v' ad' w')] H locs ∧ lv_has ls 4 [(0, .ref a), (1, .ref b), (2, .int (bI (eqL (w 6) (w' 6) k = true))), (3, .int (nI k))]) ?_ (0) ⟨by omega, hM, lv_sub hl [2, 3, 1, 0] rfl⟩
  intro k H locs ls hI ih4
  obtain ⟨hI4, hM, hl⟩ := hI
  refine lv_iload_n hC.1 hC.2.1 dX1_standsAs_4 rfl (lv_at hl 3 rfl) ?_
  refine lv_aload_n hC.1 hC.2.1 dX1_standsAs_5 rfl (lv_at hl 0 rfl) ?_
  refine p_get hC hK hM 0 rfl in_X1 rfl 4 (by decide) q154 (fun x h => h) rfl dX1_standsAs_6 ?_
  rw [en]
  refine lv_icmp_ge (tgt := 41) hC.1 hC.2.1 dX1_standsAs_9 (by decide) (fun c1 => ?_) (fun c1 => ?_)
  ·
    have nc1 := Int32.not_lt.mpr c1
    have hx9 := nle_t (a := n) (b := k) c1
    obtain rfl : n = k := by omega
    refine lv_iload_n hC.1 hC.2.1 dX1_standsAs_41 rfl (lv_at hl 2 rfl) ?_
    skip
    refine p_zret hC hr hlocks hM (by first | exact bI_01 _ | exact Or.inl rfl | exact Or.inr rfl) dX1_standsAs_42 ?_
    exact ⟨rfl, by rw [oups, oups, oups, oup_same hO']; exact oup_same hO⟩
  ·
    have nc1 := Int32.not_le.mp c1
    have hx9 := nle_f (a := n) (b := k) c1
    refine lv_iload_n hC.1 hC.2.1 dX1_standsAs_12 rfl (lv_at hl 2 rfl) ?_
    refine lv_aload_n hC.1 hC.2.1 dX1_standsAs_13 rfl (lv_at hl 0 rfl) ?_
    refine p_get hC hK hM 0 rfl in_X1 rfl 6 (by decide) q160 (fun x h => h) rfl dX1_standsAs_14 ?_
    refine lv_iload_n hC.1 hC.2.1 dX1_standsAs_17 rfl (lv_at hl 3 rfl) ?_
    refine p_iald hC hK hM 0 rfl 6 rfl rfl (n := k) (by first | rfl | (simp only [← nI_add, ← pk_mul]; rfl)) (by first | decide | (show _ < 6; omega)) (by decide) dX1_standsAs_18 ?_
    refine lv_aload_n hC.1 hC.2.1 dX1_standsAs_19 rfl (lv_at hl 1 rfl) ?_
    refine p_get hC hK hM 1 rfl in_X1 rfl 6 (by decide) q160 (fun x h => h) rfl dX1_standsAs_20 ?_
    refine lv_iload_n hC.1 hC.2.1 dX1_standsAs_23 rfl (lv_at hl 3 rfl) ?_
    refine p_iald hC hK hM 1 rfl 6 rfl rfl (n := k) (by first | rfl | (simp only [← nI_add, ← pk_mul]; rfl)) (by first | decide | (show _ < 6; omega)) (by decide) dX1_standsAs_24 ?_
    refine lv_icmp_ne (tgt := 32) hC.1 hC.2.1 dX1_standsAs_25 (by decide) (fun c2 => ?_) (fun c2 => ?_)
    ·
      skip
      have ceq : ¬ w 6 k = w' 6 k := c2
      refine lv_iconst (v := 0) hC.1 hC.2.1 dX1_standsAs_32 (by decide) ?_
      refine lv_iand hC.1 hC.2.1 dX1_standsAs_33 ?_
      refine lv_istore_n (lv' := [(2, _), (0, _), (1, _), (3, _)]) hC.1 hC.2.1 dX1_standsAs_34 rfl hl (by decide) rfl (fun ls hl => ?_)
      refine lv_iinc (v := nI (k + 1)) (lv' := [(3, _), (2, _), (0, _), (1, _)]) hC.1 hC.2.1 dX1_standsAs_35 hl (k := 3) rfl (nI_1 _) (by decide) rfl (fun ls hl => ?_)
      refine lv_goto (tgt := 4) hC.1 hC.2.1 dX1_standsAs_38 (by decide) ?_
      rw [show bI (eqL (w 6) (w' 6) k = true) &&& 0 = bI (eqL (w 6) (w' 6) (k + 1) = true) from bI_and0 _ _ (by simp [ceq])] at hl
      exact ih4 (k + 1) _ _ _ (by omega) ⟨by omega, hM, lv_sub hl [2, 3, 1, 0] rfl⟩
    ·
      skip
      have ceq : w 6 k = w' 6 k := c2
      refine lv_iconst (v := 1) hC.1 hC.2.1 dX1_standsAs_28 (by decide) ?_
      refine lv_goto (tgt := 33) hC.1 hC.2.1 dX1_standsAs_29 (by decide) ?_
      refine lv_iand hC.1 hC.2.1 dX1_standsAs_33 ?_
      refine lv_istore_n (lv' := [(2, _), (0, _), (1, _), (3, _)]) hC.1 hC.2.1 dX1_standsAs_34 rfl hl (by decide) rfl (fun ls hl => ?_)
      refine lv_iinc (v := nI (k + 1)) (lv' := [(3, _), (2, _), (0, _), (1, _)]) hC.1 hC.2.1 dX1_standsAs_35 hl (k := 3) rfl (nI_1 _) (by decide) rfl (fun ls hl => ?_)
      refine lv_goto (tgt := 4) hC.1 hC.2.1 dX1_standsAs_38 (by decide) ?_
      rw [show bI (eqL (w 6) (w' 6) k = true) &&& 1 = bI (eqL (w 6) (w' 6) (k + 1) = true) from bI_and1 _ _ (by simp [ceq])] at hl
      exact ih4 (k + 1) _ _ _ (by omega) ⟨by omega, hM, lv_sub hl [2, 3, 1, 0] rfl⟩

set_option maxHeartbeats 400000 in
set_option maxRecDepth 100000 in
theorem cr_canGoHome (l : Launch) (κ : Nat → Nat) (O : gO) (a : Nat) (v : Nat → Int32) (ad : Nat → Nat) (w : Nat → Nat → Int32) (k : Nat) (hO : O a = some (rdU v ad w)) (n : Nat) (en : v 4 = nI n) (hn : n ≤ 6) (hk : k < n) : oM l κ yX1_canGoHome cX1_canGoHome 6 (some .boolean) ({ frames := 1, cells := 0, slots := 0, locals := 25 }) [.ref a, .int (nI k)] O (fun rv O1 => rv = some (.int (bI (cgL (w 6) k (minI (w 6 k) (w 7 k)) (maxI (w 6 k) (w 7 k)) (decide (w 6 k ≠ w 7 k)) n = true))) ∧ O1 = O) := by
  intro D ac A
  refine o_body (own := RX1) rfl (plainFor_of_name (by decide)) (Nat.le_of_ble_eq_true rfl) ?_
  intro p e s m args below meth c ls hC hr hlocks hK hM hl hnamed hmeth
  have hl : lv_has ls 6 [(0, .ref a), (1, .int (nI k))] := hl
  have hM := PS.of hM [(a, rdU v ad w)] ⟨hO, trivial⟩ (by simp [oad])
  refine lv_aload_n hC.1 hC.2.1 dX1_canGoHome_0 rfl (lv_at hl 0 rfl) ?_
  refine p_get hC hK hM 0 rfl in_X1 rfl 6 (by decide) q160 (fun x h => h) rfl dX1_canGoHome_1 ?_
  refine lv_iload_n hC.1 hC.2.1 dX1_canGoHome_4 rfl (lv_at hl 1 rfl) ?_
  refine p_iald hC hK hM 0 rfl 6 rfl rfl (n := k) (by first | rfl | (simp only [← nI_add, ← pk_mul]; rfl)) (by first | decide | (show _ < 6; omega)) (by decide) dX1_canGoHome_5 ?_
  refine lv_aload_n hC.1 hC.2.1 dX1_canGoHome_6 rfl (lv_at hl 0 rfl) ?_
  refine p_get hC hK hM 0 rfl in_X1 rfl 7 (by decide) q163 (fun x h => h) rfl dX1_canGoHome_7 ?_
  refine lv_iload_n hC.1 hC.2.1 dX1_canGoHome_10 rfl (lv_at hl 1 rfl) ?_
  refine p_iald hC hK hM 0 rfl 7 rfl rfl (n := k) (by first | rfl | (simp only [← nI_add, ← pk_mul]; rfl)) (by first | decide | (show _ < 6; omega)) (by decide) dX1_canGoHome_11 ?_
  refine va_mmin hC.1 hC.2.1 (hC.2.2.1.trans hl.1.symm) hC.2.2.2.1 (hC.2.2.2.2 _ q982) (hC.2.2.2.2 _ q548) (hC.2.2.2.2 _ q84) (hC.2.2.2.2 _ q549) (Nat.le_of_ble_eq_true rfl) (Nat.le_of_ble_eq_true rfl) (Nat.le_of_ble_eq_true rfl) (Nat.le_of_ble_eq_true rfl) dX1_canGoHome_12 ?_
  refine lv_istore_n (lv' := [(2, _), (0, _), (1, _)]) hC.1 hC.2.1 dX1_canGoHome_15 rfl hl (by decide) rfl (fun ls hl => ?_)
  refine lv_aload_n hC.1 hC.2.1 dX1_canGoHome_16 rfl (lv_at hl 1 rfl) ?_
  refine p_get hC hK hM 0 rfl in_X1 rfl 6 (by decide) q160 (fun x h => h) rfl dX1_canGoHome_17 ?_
  refine lv_iload_n hC.1 hC.2.1 dX1_canGoHome_20 rfl (lv_at hl 2 rfl) ?_
  refine p_iald hC hK hM 0 rfl 6 rfl rfl (n := k) (by first | rfl | (simp only [← nI_add, ← pk_mul]; rfl)) (by first | decide | (show _ < 6; omega)) (by decide) dX1_canGoHome_21 ?_
  refine lv_aload_n hC.1 hC.2.1 dX1_canGoHome_22 rfl (lv_at hl 1 rfl) ?_
  refine p_get hC hK hM 0 rfl in_X1 rfl 7 (by decide) q163 (fun x h => h) rfl dX1_canGoHome_23 ?_
  refine lv_iload_n hC.1 hC.2.1 dX1_canGoHome_26 rfl (lv_at hl 2 rfl) ?_
  refine p_iald hC hK hM 0 rfl 7 rfl rfl (n := k) (by first | rfl | (simp only [← nI_add, ← pk_mul]; rfl)) (by first | decide | (show _ < 6; omega)) (by decide) dX1_canGoHome_27 ?_
  refine va_mmax hC.1 hC.2.1 (hC.2.2.1.trans hl.1.symm) hC.2.2.2.1 (hC.2.2.2.2 _ q983) (hC.2.2.2.2 _ q530) (hC.2.2.2.2 _ q84) (hC.2.2.2.2 _ q531) (Nat.le_of_ble_eq_true rfl) (Nat.le_of_ble_eq_true rfl) (Nat.le_of_ble_eq_true rfl) (Nat.le_of_ble_eq_true rfl) dX1_canGoHome_28 ?_
  refine lv_istore_n (lv' := [(3, _), (2, _), (0, _), (1, _)]) hC.1 hC.2.1 dX1_canGoHome_31 rfl hl (by decide) rfl (fun ls hl => ?_)
  refine lv_aload_n hC.1 hC.2.1 dX1_canGoHome_32 rfl (lv_at hl 2 rfl) ?_
  refine p_get hC hK hM 0 rfl in_X1 rfl 6 (by decide) q160 (fun x h => h) rfl dX1_canGoHome_33 ?_
  refine lv_iload_n hC.1 hC.2.1 dX1_canGoHome_36 rfl (lv_at hl 3 rfl) ?_
  refine p_iald hC hK hM 0 rfl 6 rfl rfl (n := k) (by first | rfl | (simp only [← nI_add, ← pk_mul]; rfl)) (by first | decide | (show _ < 6; omega)) (by decide) dX1_canGoHome_37 ?_
  refine lv_aload_n hC.1 hC.2.1 dX1_canGoHome_38 rfl (lv_at hl 2 rfl) ?_
  refine p_get hC hK hM 0 rfl in_X1 rfl 7 (by decide) q163 (fun x h => h) rfl dX1_canGoHome_39 ?_
  refine lv_iload_n hC.1 hC.2.1 dX1_canGoHome_42 rfl (lv_at hl 3 rfl) ?_
  refine p_iald hC hK hM 0 rfl 7 rfl rfl (n := k) (by first | rfl | (simp only [← nI_add, ← pk_mul]; rfl)) (by first | decide | (show _ < 6; omega)) (by decide) dX1_canGoHome_43 ?_
  refine w_tern2 (cond := ¬ w 6 k = w 7 k) (a := 1) (b := 0) 52 ?_ (fun jt44 jf44 => ?_)
  ·
    skip
    refine lv_istore (lv' := [(4, _), (3, _), (2, _), (0, _), (1, _)]) hC.1 hC.2.1 dX1_canGoHome_52 hl (by decide) rfl (fun ls hl => ?_)
    refine lv_iconst (v := 0) hC.1 hC.2.1 dX1_canGoHome_54 (by decide) ?_
    refine lv_istore (lv' := [(5, _), (4, _), (3, _), (2, _), (0, _), (1, _)]) hC.1 hC.2.1 dX1_canGoHome_55 hl (by decide) rfl (fun ls hl => ?_)
    rw [show (if ¬ w 6 k = w 7 k then (1 : Int32) else 0) = bI (cgL (w 6) k (minI (w 6 k) (w 7 k)) (maxI (w 6 k) (w 7 k)) (decide (w 6 k ≠ w 7 k)) 0 = true) by simp [cgL, bI]] at hl
    refine w_ind (α := Nat) 57 (fun (q : Nat) => n - q) (fun (q : Nat) (H : Heap) (locs : List Loc) (ls : Array Slot) => (q ≤ n) ∧ PS D ac A s.heap O [(a, rdU v ad w)] H locs ∧ lv_has ls 6 [(0, .ref a), (1, .int (nI k)), (2, .int (minI (w 6 k) (w 7 k))), (3, .int (maxI (w 6 k) (w 7 k))), (4, .int (bI (cgL (w 6) k (minI (w 6 k) (w 7 k)) (maxI (w 6 k) (w 7 k)) (decide (w 6 k ≠ w 7 k)) q = true))), (5, .int (nI q))]) ?_ (0) ⟨by omega, hM, lv_sub hl [4, 5, 3, 2, 1, 0] rfl⟩
    intro q H locs ls hI ih57
    obtain ⟨hI57, hM, hl⟩ := hI
    refine lv_iload hC.1 hC.2.1 dX1_canGoHome_57 (lv_at hl 5 rfl) ?_
    refine lv_aload_n hC.1 hC.2.1 dX1_canGoHome_59 rfl (lv_at hl 0 rfl) ?_
    refine p_get hC hK hM 0 rfl in_X1 rfl 4 (by decide) q154 (fun x h => h) rfl dX1_canGoHome_60 ?_
    rw [en]
    refine lv_icmp_ge (tgt := 106) hC.1 hC.2.1 dX1_canGoHome_63 (by decide) (fun c1 => ?_) (fun c1 => ?_)
    ·
      have nc1 := Int32.not_lt.mpr c1
      have hx63 := nle_t (a := n) (b := q) c1
      obtain rfl : n = q := by omega
      refine lv_iload hC.1 hC.2.1 dX1_canGoHome_106 (lv_at hl 4 rfl) ?_
      skip
      refine p_zret hC hr hlocks hM (by first | exact bI_01 _ | exact Or.inl rfl | exact Or.inr rfl) dX1_canGoHome_108 ?_
      exact ⟨rfl, oup_same hO⟩
    ·
      have nc1 := Int32.not_le.mp c1
      have hx63 := nle_f (a := n) (b := q) c1
      refine lv_iload hC.1 hC.2.1 dX1_canGoHome_66 (lv_at hl 4 rfl) ?_
      refine lv_iload hC.1 hC.2.1 dX1_canGoHome_68 (lv_at hl 5 rfl) ?_
      refine lv_iload_n hC.1 hC.2.1 dX1_canGoHome_70 rfl (lv_at hl 1 rfl) ?_
      refine lv_icmp_eq (tgt := 92) hC.1 hC.2.1 dX1_canGoHome_71 (by decide) (fun c2 => ?_) (fun c2 => ?_)
      ·
        skip
        have cq : q = k := neq_t c2
        refine lv_iconst (v := 1) hC.1 hC.2.1 dX1_canGoHome_92 (by decide) ?_
        refine lv_goto (tgt := 97) hC.1 hC.2.1 dX1_canGoHome_93 (by decide) ?_
        refine lv_iand hC.1 hC.2.1 dX1_canGoHome_97 ?_
        refine lv_istore (lv' := [(4, _), (0, _), (1, _), (2, _), (3, _), (5, _)]) hC.1 hC.2.1 dX1_canGoHome_98 hl (by decide) rfl (fun ls hl => ?_)
        refine lv_iinc (v := nI (q + 1)) (lv' := [(5, _), (4, _), (0, _), (1, _), (2, _), (3, _)]) hC.1 hC.2.1 dX1_canGoHome_100 hl (k := 5) rfl (nI_1 _) (by decide) rfl (fun ls hl => ?_)
        refine lv_goto (tgt := 57) hC.1 hC.2.1 dX1_canGoHome_103 (by decide) ?_
        rw [show bI (cgL (w 6) k (minI (w 6 k) (w 7 k)) (maxI (w 6 k) (w 7 k)) (decide (w 6 k ≠ w 7 k)) q = true) &&& 1 = bI (cgL (w 6) k (minI (w 6 k) (w 7 k)) (maxI (w 6 k) (w 7 k)) (decide (w 6 k ≠ w 7 k)) (q + 1) = true) from bI_and1 _ _ (by simp [cq])] at hl
        exact ih57 (q + 1) _ _ _ (by omega) ⟨by omega, hM, lv_sub hl [2, 3, 4, 5, 1, 0] rfl⟩
      ·
        skip
        have cq : q ≠ k := neq_f c2
        refine lv_aload_n hC.1 hC.2.1 dX1_canGoHome_74 rfl (lv_at hl 0 rfl) ?_
        refine p_get hC hK hM 0 rfl in_X1 rfl 6 (by decide) q160 (fun x h => h) rfl dX1_canGoHome_75 ?_
        refine lv_iload hC.1 hC.2.1 dX1_canGoHome_78 (lv_at hl 5 rfl) ?_
        refine p_iald hC hK hM 0 rfl 6 rfl rfl (n := q) (by first | rfl | (simp only [← nI_add, ← pk_mul]; rfl)) (by first | decide | (show _ < 6; omega)) (by decide) dX1_canGoHome_80 ?_
        refine lv_i2l hC.1 hC.2.1 dX1_canGoHome_81 rfl ?_
        refine lv_iload_n hC.1 hC.2.1 dX1_canGoHome_82 rfl (lv_at hl 2 rfl) ?_
        refine lv_i2l hC.1 hC.2.1 dX1_canGoHome_83 rfl ?_
        refine lv_iload_n hC.1 hC.2.1 dX1_canGoHome_84 rfl (lv_at hl 3 rfl) ?_
        refine lv_i2l hC.1 hC.2.1 dX1_canGoHome_85 rfl ?_
        refine s_cin hC ((cc_isIn l (a := minI (w 6 k) (w 7 k)) (b := maxI (w 6 k) (w 7 k)) rfl rfl rfl)) ⟨va_cnB 3 hC.2.2.2.2 (lw_meth q267) rfl rfl rfl (hK.1.2.1 _ q969 rfl) (hC.2.2.2.2 _ q63) (by decide +kernel) ⟨(Nat.le_of_ble_eq_true rfl), (Nat.le_of_ble_eq_true rfl)⟩, hC.2.2.2.2 _ q266, trivial⟩ rfl hl.1 rfl (lv_room (Nat.le_of_ble_eq_true rfl)) dX1_canGoHome_86 ⟨(Nat.le_of_ble_eq_true rfl), (Nat.le_of_ble_eq_true rfl)⟩ ?_
        refine lv_if_ne (tgt := 96) hC.1 hC.2.1 dX1_canGoHome_89 (by decide) (fun c3 => ?_) (fun c3 => ?_)
        ·
          skip
          rw [bI_n0] at c3
          have ci := c3
          refine lv_iconst (v := 0) hC.1 hC.2.1 dX1_canGoHome_96 (by decide) ?_
          refine lv_iand hC.1 hC.2.1 dX1_canGoHome_97 ?_
          refine lv_istore (lv' := [(4, _), (0, _), (1, _), (2, _), (3, _), (5, _)]) hC.1 hC.2.1 dX1_canGoHome_98 hl (by decide) rfl (fun ls hl => ?_)
          refine lv_iinc (v := nI (q + 1)) (lv' := [(5, _), (4, _), (0, _), (1, _), (2, _), (3, _)]) hC.1 hC.2.1 dX1_canGoHome_100 hl (k := 5) rfl (nI_1 _) (by decide) rfl (fun ls hl => ?_)
          refine lv_goto (tgt := 57) hC.1 hC.2.1 dX1_canGoHome_103 (by decide) ?_
          rw [show bI (cgL (w 6) k (minI (w 6 k) (w 7 k)) (maxI (w 6 k) (w 7 k)) (decide (w 6 k ≠ w 7 k)) q = true) &&& 0 = bI (cgL (w 6) k (minI (w 6 k) (w 7 k)) (maxI (w 6 k) (w 7 k)) (decide (w 6 k ≠ w 7 k)) (q + 1) = true) from bI_and0 _ _ (by simp [cq, ci])] at hl
          exact ih57 (q + 1) _ _ _ (by omega) ⟨by omega, hM, lv_sub hl [2, 3, 4, 5, 1, 0] rfl⟩
        ·
          skip
          rw [bI_0] at c3
          have ci := c3
          refine lv_iconst (v := 1) hC.1 hC.2.1 dX1_canGoHome_92 (by decide) ?_
          refine lv_goto (tgt := 97) hC.1 hC.2.1 dX1_canGoHome_93 (by decide) ?_
          refine lv_iand hC.1 hC.2.1 dX1_canGoHome_97 ?_
          refine lv_istore (lv' := [(4, _), (0, _), (1, _), (2, _), (3, _), (5, _)]) hC.1 hC.2.1 dX1_canGoHome_98 hl (by decide) rfl (fun ls hl => ?_)
          refine lv_iinc (v := nI (q + 1)) (lv' := [(5, _), (4, _), (0, _), (1, _), (2, _), (3, _)]) hC.1 hC.2.1 dX1_canGoHome_100 hl (k := 5) rfl (nI_1 _) (by decide) rfl (fun ls hl => ?_)
          refine lv_goto (tgt := 57) hC.1 hC.2.1 dX1_canGoHome_103 (by decide) ?_
          rw [show bI (cgL (w 6) k (minI (w 6 k) (w 7 k)) (maxI (w 6 k) (w 7 k)) (decide (w 6 k ≠ w 7 k)) q = true) &&& 1 = bI (cgL (w 6) k (minI (w 6 k) (w 7 k)) (maxI (w 6 k) (w 7 k)) (decide (w 6 k ≠ w 7 k)) (q + 1) = true) from bI_and1 _ _ (by simp [ci])] at hl
          exact ih57 (q + 1) _ _ _ (by omega) ⟨by omega, hM, lv_sub hl [2, 3, 4, 5, 1, 0] rfl⟩
  ·
    skip
    refine lv_icmp_eq (tgt := 51) hC.1 hC.2.1 dX1_canGoHome_44 (by decide) (fun c4 => ?_) (fun c4 => ?_)
    ·
      skip
      refine lv_iconst (v := 0) hC.1 hC.2.1 dX1_canGoHome_51 (by decide) ?_
      first | exact jt44 (by first | assumption | exact not_not.mpr (by assumption) | exact not_not_intro (by assumption)) | exact jf44 (by first | assumption | exact not_not.mpr (by assumption) | exact not_not_intro (by assumption))
    ·
      skip
      refine lv_iconst (v := 1) hC.1 hC.2.1 dX1_canGoHome_47 (by decide) ?_
      refine lv_goto (tgt := 52) hC.1 hC.2.1 dX1_canGoHome_48 (by decide) ?_
      first | exact jt44 (by first | assumption | exact not_not.mpr (by assumption) | exact not_not_intro (by assumption)) | exact jf44 (by first | assumption | exact not_not.mpr (by assumption) | exact not_not_intro (by assumption))

set_option maxHeartbeats 400000 in
set_option maxRecDepth 100000 in
theorem cr_addTime (l : Launch) (κ : Nat → Nat) (O : gO) (a : Nat) (v : Nat → Int32) (ad : Nat → Nat) (w : Nat → Nat → Int32) (x y z t : Int32) (tm : Nat) (hO : O a = some (rdU v ad w)) (et : v 11 = nI tm) (htm : tm < 12) : oM l κ yX1_addTime cX1_addTime 5 (some .boolean) ({ frames := 1, cells := 0, slots := 0, locals := 25 }) [.ref a, .int x, .int y, .int z, .int t] O (fun rv O1 => (tmC (v 4) x y z t → rv = some (.int 1) ∧ O1 = oup O a (rdU (upd v 11 (v 11 + 1)) ad (wput w 10 (adC (w 10) tm x y z t)))) ∧ (¬ tmC (v 4) x y z t → rv = some (.int 0) ∧ O1 = O)) := by
  intro D ac A
  refine o_body (own := RX1) rfl (plainFor_of_name (by decide)) (Nat.le_of_ble_eq_true rfl) ?_
  intro p e s m args below meth c ls hC hr hlocks hK hM hl hnamed hmeth
  have hl : lv_has ls 5 [(0, .ref a), (1, .int x), (2, .int y), (3, .int z), (4, .int t)] := hl
  have hM := PS.of hM [(a, rdU v ad w)] ⟨hO, trivial⟩ (by simp [oad])
  refine lv_iload_n hC.1 hC.2.1 dX1_addTime_0 rfl (lv_at hl 1 rfl) ?_
  refine lv_i2l hC.1 hC.2.1 dX1_addTime_1 rfl ?_
  refine lv_lconst (v := 0) hC.1 hC.2.1 dX1_addTime_2 (by decide) ?_
  refine lv_aload_n hC.1 hC.2.1 dX1_addTime_3 rfl (lv_at hl 0 rfl) ?_
  refine p_get hC hK hM 0 rfl in_X1 rfl 4 (by decide) q154 (fun x h => h) rfl dX1_addTime_4 ?_
  refine lv_iconst (v := 1) hC.1 hC.2.1 dX1_addTime_7 (by decide) ?_
  refine lv_isub hC.1 hC.2.1 dX1_addTime_8 ?_
  refine lv_i2l hC.1 hC.2.1 dX1_addTime_9 rfl ?_
  refine s_cin hC ((cc_isIn l (a := 0) (b := v 4 - 1) rfl rfl rfl)) ⟨va_cnB 3 hC.2.2.2.2 (lw_meth q267) rfl rfl rfl (hK.1.2.1 _ q969 rfl) (hC.2.2.2.2 _ q63) (by decide +kernel) ⟨(Nat.le_of_ble_eq_true rfl), (Nat.le_of_ble_eq_true rfl)⟩, hC.2.2.2.2 _ q266, trivial⟩ rfl hl.1 rfl (lv_room (Nat.le_of_ble_eq_true rfl)) dX1_addTime_10 ⟨(Nat.le_of_ble_eq_true rfl), (Nat.le_of_ble_eq_true rfl)⟩ ?_
  refine lv_if_eq (tgt := 60) hC.1 hC.2.1 dX1_addTime_13 (by decide) (fun c1 => ?_) (fun c1 => ?_)
  ·
    skip
    rw [bI_0] at c1
    have cn : ¬ tmC (v 4) x y z t := fun h => c1 h.1
    refine lv_iconst (v := 0) hC.1 hC.2.1 dX1_addTime_60 (by decide) ?_
    skip
    refine p_zret hC hr hlocks hM (by first | exact bI_01 _ | exact Or.inl rfl | exact Or.inr rfl) dX1_addTime_61 ?_
    exact ⟨fun h => absurd h cn, fun _ => ⟨rfl, oup_same hO⟩⟩
  ·
    skip
    rw [bI_n0] at c1
    have cy0 := c1
    refine lv_iload_n hC.1 hC.2.1 dX1_addTime_16 rfl (lv_at hl 2 rfl) ?_
    refine lv_i2l hC.1 hC.2.1 dX1_addTime_17 rfl ?_
    refine lv_iload_n hC.1 hC.2.1 dX1_addTime_18 rfl (lv_at hl 1 rfl) ?_
    refine lv_iconst (v := 1) hC.1 hC.2.1 dX1_addTime_19 (by decide) ?_
    refine lv_iadd hC.1 hC.2.1 dX1_addTime_20 ?_
    refine lv_i2l hC.1 hC.2.1 dX1_addTime_21 rfl ?_
    refine lv_aload_n hC.1 hC.2.1 dX1_addTime_22 rfl (lv_at hl 0 rfl) ?_
    refine p_get hC hK hM 0 rfl in_X1 rfl 4 (by decide) q154 (fun x h => h) rfl dX1_addTime_23 ?_
    refine lv_iconst (v := 1) hC.1 hC.2.1 dX1_addTime_26 (by decide) ?_
    refine lv_isub hC.1 hC.2.1 dX1_addTime_27 ?_
    refine lv_i2l hC.1 hC.2.1 dX1_addTime_28 rfl ?_
    refine s_cin hC ((cc_isIn l (a := x + 1) (b := v 4 - 1) rfl rfl rfl)) ⟨va_cnB 3 hC.2.2.2.2 (lw_meth q267) rfl rfl rfl (hK.1.2.1 _ q969 rfl) (hC.2.2.2.2 _ q63) (by decide +kernel) ⟨(Nat.le_of_ble_eq_true rfl), (Nat.le_of_ble_eq_true rfl)⟩, hC.2.2.2.2 _ q266, trivial⟩ rfl hl.1 rfl (lv_room (Nat.le_of_ble_eq_true rfl)) dX1_addTime_29 ⟨(Nat.le_of_ble_eq_true rfl), (Nat.le_of_ble_eq_true rfl)⟩ ?_
    refine lv_if_eq (tgt := 60) hC.1 hC.2.1 dX1_addTime_32 (by decide) (fun c2 => ?_) (fun c2 => ?_)
    ·
      skip
      rw [bI_0] at c2
      have cn : ¬ tmC (v 4) x y z t := fun h => c2 h.2.1
      refine lv_iconst (v := 0) hC.1 hC.2.1 dX1_addTime_60 (by decide) ?_
      skip
      refine p_zret hC hr hlocks hM (by first | exact bI_01 _ | exact Or.inl rfl | exact Or.inr rfl) dX1_addTime_61 ?_
      exact ⟨fun h => absurd h cn, fun _ => ⟨rfl, oup_same hO⟩⟩
    ·
      skip
      rw [bI_n0] at c2
      have cy1 := c2
      refine lv_iload_n hC.1 hC.2.1 dX1_addTime_35 rfl (lv_at hl 3 rfl) ?_
      refine lv_i2l hC.1 hC.2.1 dX1_addTime_36 rfl ?_
      refine lv_lconst (v := 1) hC.1 hC.2.1 dX1_addTime_37 (by decide) ?_
      refine lv_ldc2 hC.1 hC.2.1 hC.2.2.2.1 (hC.2.2.2.2 _ q1010) dX1_addTime_38 ?_
      refine s_cin hC ((cc_isIn l (a := 1) (b := 20) rfl rfl rfl)) ⟨va_cnB 3 hC.2.2.2.2 (lw_meth q267) rfl rfl rfl (hK.1.2.1 _ q969 rfl) (hC.2.2.2.2 _ q63) (by decide +kernel) ⟨(Nat.le_of_ble_eq_true rfl), (Nat.le_of_ble_eq_true rfl)⟩, hC.2.2.2.2 _ q266, trivial⟩ rfl hl.1 rfl (lv_room (Nat.le_of_ble_eq_true rfl)) dX1_addTime_41 ⟨(Nat.le_of_ble_eq_true rfl), (Nat.le_of_ble_eq_true rfl)⟩ ?_
      refine lv_if_eq (tgt := 60) hC.1 hC.2.1 dX1_addTime_44 (by decide) (fun c3 => ?_) (fun c3 => ?_)
      ·
        skip
        rw [bI_0] at c3
        have cn : ¬ tmC (v 4) x y z t := fun h => c3 h.2.2.1
        refine lv_iconst (v := 0) hC.1 hC.2.1 dX1_addTime_60 (by decide) ?_
        skip
        refine p_zret hC hr hlocks hM (by first | exact bI_01 _ | exact Or.inl rfl | exact Or.inr rfl) dX1_addTime_61 ?_
        exact ⟨fun h => absurd h cn, fun _ => ⟨rfl, oup_same hO⟩⟩
      ·
        skip
        rw [bI_n0] at c3
        have cy2 := c3
        refine lv_iload hC.1 hC.2.1 dX1_addTime_47 (lv_at hl 4 rfl) ?_
        refine lv_i2l hC.1 hC.2.1 dX1_addTime_49 rfl ?_
        refine lv_lconst (v := 0) hC.1 hC.2.1 dX1_addTime_50 (by decide) ?_
        refine lv_ldc2 hC.1 hC.2.1 hC.2.2.2.1 (hC.2.2.2.2 _ q1011) dX1_addTime_51 ?_
        refine s_cin hC ((cc_isIn l (a := 0) (b := 99) rfl rfl rfl)) ⟨va_cnB 3 hC.2.2.2.2 (lw_meth q267) rfl rfl rfl (hK.1.2.1 _ q969 rfl) (hC.2.2.2.2 _ q63) (by decide +kernel) ⟨(Nat.le_of_ble_eq_true rfl), (Nat.le_of_ble_eq_true rfl)⟩, hC.2.2.2.2 _ q266, trivial⟩ rfl hl.1 rfl (lv_room (Nat.le_of_ble_eq_true rfl)) dX1_addTime_54 ⟨(Nat.le_of_ble_eq_true rfl), (Nat.le_of_ble_eq_true rfl)⟩ ?_
        refine lv_if_ne (tgt := 62) hC.1 hC.2.1 dX1_addTime_57 (by decide) (fun c4 => ?_) (fun c4 => ?_)
        ·
          skip
          rw [bI_n0] at c4
          have cy3 := c4
          refine lv_aload_n hC.1 hC.2.1 dX1_addTime_62 rfl (lv_at hl 0 rfl) ?_
          refine p_get hC hK hM 0 rfl in_X1 rfl 10 (by decide) q171 (fun x h => h) rfl dX1_addTime_63 ?_
          refine lv_iconst (v := 4) hC.1 hC.2.1 dX1_addTime_66 (by decide) ?_
          refine lv_aload_n hC.1 hC.2.1 dX1_addTime_67 rfl (lv_at hl 0 rfl) ?_
          refine p_get hC hK hM 0 rfl in_X1 rfl 11 (by decide) q173 (fun x h => h) rfl dX1_addTime_68 ?_
          rw [et]
          refine lv_imul hC.1 hC.2.1 dX1_addTime_71 ?_
          refine lv_iload_n hC.1 hC.2.1 dX1_addTime_72 rfl (lv_at hl 1 rfl) ?_
          refine p_iast (L' := [_]) hC hK hM 0 rfl 10 rfl rfl (n := (4 * tm)) (by first | rfl | (simp only [← nI_add, ← pk_mul]; rfl)) (by first | decide | (show _ < 48; omega)) (by decide) (rar_set _ (k := 10) (by decide) _) rfl dX1_addTime_73 (fun H locs hM => ?_)
          refine lv_aload_n hC.1 hC.2.1 dX1_addTime_74 rfl (lv_at hl 0 rfl) ?_
          refine p_get hC hK hM 0 rfl in_X1 rfl 10 (by decide) q171 (fun x h => h) rfl dX1_addTime_75 ?_
          refine lv_iconst (v := 4) hC.1 hC.2.1 dX1_addTime_78 (by decide) ?_
          refine lv_aload_n hC.1 hC.2.1 dX1_addTime_79 rfl (lv_at hl 0 rfl) ?_
          refine p_get hC hK hM 0 rfl in_X1 rfl 11 (by decide) q173 (fun x h => h) rfl dX1_addTime_80 ?_
          rw [et]
          refine lv_imul hC.1 hC.2.1 dX1_addTime_83 ?_
          refine lv_iconst (v := 1) hC.1 hC.2.1 dX1_addTime_84 (by decide) ?_
          refine lv_iadd hC.1 hC.2.1 dX1_addTime_85 ?_
          refine lv_iload_n hC.1 hC.2.1 dX1_addTime_86 rfl (lv_at hl 2 rfl) ?_
          refine p_iast (L' := [_]) hC hK hM 0 rfl 10 rfl rfl (n := ((4 * tm) + 1)) (by first | rfl | (simp only [← nI_add, ← pk_mul]; rfl)) (by first | decide | (show _ < 48; omega)) (by decide) (rar_set _ (k := 10) (by decide) _) rfl dX1_addTime_87 (fun H locs hM => ?_)
          refine lv_aload_n hC.1 hC.2.1 dX1_addTime_88 rfl (lv_at hl 0 rfl) ?_
          refine p_get hC hK hM 0 rfl in_X1 rfl 10 (by decide) q171 (fun x h => h) rfl dX1_addTime_89 ?_
          refine lv_iconst (v := 4) hC.1 hC.2.1 dX1_addTime_92 (by decide) ?_
          refine lv_aload_n hC.1 hC.2.1 dX1_addTime_93 rfl (lv_at hl 0 rfl) ?_
          refine p_get hC hK hM 0 rfl in_X1 rfl 11 (by decide) q173 (fun x h => h) rfl dX1_addTime_94 ?_
          rw [et]
          refine lv_imul hC.1 hC.2.1 dX1_addTime_97 ?_
          refine lv_iconst (v := 2) hC.1 hC.2.1 dX1_addTime_98 (by decide) ?_
          refine lv_iadd hC.1 hC.2.1 dX1_addTime_99 ?_
          refine lv_iload_n hC.1 hC.2.1 dX1_addTime_100 rfl (lv_at hl 3 rfl) ?_
          refine p_iast (L' := [_]) hC hK hM 0 rfl 10 rfl rfl (n := ((4 * tm) + 2)) (by first | rfl | (simp only [← nI_add, ← pk_mul]; rfl)) (by first | decide | (show _ < 48; omega)) (by decide) (rar_set _ (k := 10) (by decide) _) rfl dX1_addTime_101 (fun H locs hM => ?_)
          refine lv_aload_n hC.1 hC.2.1 dX1_addTime_102 rfl (lv_at hl 0 rfl) ?_
          refine p_get hC hK hM 0 rfl in_X1 rfl 10 (by decide) q171 (fun x h => h) rfl dX1_addTime_103 ?_
          refine lv_iconst (v := 4) hC.1 hC.2.1 dX1_addTime_106 (by decide) ?_
          refine lv_aload_n hC.1 hC.2.1 dX1_addTime_107 rfl (lv_at hl 0 rfl) ?_
          refine p_get hC hK hM 0 rfl in_X1 rfl 11 (by decide) q173 (fun x h => h) rfl dX1_addTime_108 ?_
          rw [et]
          refine lv_imul hC.1 hC.2.1 dX1_addTime_111 ?_
          refine lv_iconst (v := 3) hC.1 hC.2.1 dX1_addTime_112 (by decide) ?_
          refine lv_iadd hC.1 hC.2.1 dX1_addTime_113 ?_
          refine lv_iload hC.1 hC.2.1 dX1_addTime_114 (lv_at hl 4 rfl) ?_
          refine p_iast (L' := [_]) hC hK hM 0 rfl 10 rfl rfl (n := ((4 * tm) + 3)) (by first | rfl | (simp only [← nI_add, ← pk_mul]; rfl)) (by first | decide | (show _ < 48; omega)) (by decide) (rar_set _ (k := 10) (by decide) _) rfl dX1_addTime_116 (fun H locs hM => ?_)
          refine lv_aload_n hC.1 hC.2.1 dX1_addTime_117 rfl (lv_at hl 0 rfl) ?_
          refine lv_dup hC.1 hC.2.1 dX1_addTime_118 rfl ?_
          refine p_get hC hK hM 0 rfl in_X1 rfl 11 (by decide) q173 (fun x h => h) rfl dX1_addTime_119 ?_
          refine lv_iconst (v := 1) hC.1 hC.2.1 dX1_addTime_122 (by decide) ?_
          refine lv_iadd hC.1 hC.2.1 dX1_addTime_123 ?_
          refine p_put (L' := [_]) hC hK hM 0 rfl in_X1 tyX1 tyX1_ok nmX1 rfl 11 (by decide) q173 (fun x h => h) rfl rfl rfl (Nat.le_of_ble_eq_true rfl) rfl rfl rfl dX1_addTime_124 (fun H locs hM => ?_)
          refine lv_iconst (v := 1) hC.1 hC.2.1 dX1_addTime_127 (by decide) ?_
          skip
          refine p_zret hC hr hlocks hM (by first | exact bI_01 _ | exact Or.inl rfl | exact Or.inr rfl) dX1_addTime_128 ?_
          exact ⟨fun _ => ⟨rfl, by simp only [wput_wput]; rw [et]; rfl⟩, fun h => absurd ⟨cy0, cy1, cy2, cy3⟩ h⟩
        ·
          skip
          rw [bI_0] at c4
          have cn : ¬ tmC (v 4) x y z t := fun h => c4 h.2.2.2
          refine lv_iconst (v := 0) hC.1 hC.2.1 dX1_addTime_60 (by decide) ?_
          skip
          refine p_zret hC hr hlocks hM (by first | exact bI_01 _ | exact Or.inl rfl | exact Or.inr rfl) dX1_addTime_61 ?_
          exact ⟨fun h => absurd h cn, fun _ => ⟨rfl, oup_same hO⟩⟩

set_option maxHeartbeats 400000 in
set_option maxRecDepth 100000 in
theorem cr_push (l : Launch) (κ : Nat → Nat) (O : gO) (a : Nat) (v : Nat → Int32) (ad : Nat → Nat) (w : Nat → Nat → Int32) (hO : O a = some (rdU v ad w)) (n : Nat) (en : v 4 = nI n) (hn : n ≤ 6) (am kd : Nat) (mv : Nat → Int32) (hm : O am = some (mvU kd mv)) (hk1 : 1 ≤ kd) (hk5 : kd ≤ 5) (k r nt : Nat) (ek : mv 1 = nI k) (hk : k < n) (h01 : mv 2 = 0 ∨ mv 2 = 1) (er : mv 3 = nI r) (hr5 : r ≤ 5) (ent : v 9 = nI nt) (hnt : nt < 2 ^ 30) : oM l κ yX1_push cX1_push 4 none ({ frames := 2, cells := 0, slots := 0, locals := 48 }) [.ref a, .ref am] O (fun rv O1 => O1 = oup O a (rdU v ad (wput w 6 (psh (v 0) n k (if goI kd mv nt = 0 then -1 else 1) (if kd = 2 then 2 * r else r) (w 6)))) ∧ rv = none) := by
  intro D ac A
  refine o_body (own := RX1) rfl (plainFor_of_name (by decide)) (Nat.le_of_ble_eq_true rfl) ?_
  intro p e s m args below meth c ls hC hr hlocks hK hM hl hnamed hmeth
  have hl : lv_has ls 4 [(0, .ref a), (1, .ref am)] := hl
  have hM := PS.of hM [(a, rdU v ad w)] ⟨hO, trivial⟩ (by simp [oad])
  have hY10 : (if kd = 2 then 2 * r else r) ≤ 10 := by split <;> omega
  have eY : yaI kd mv = nI (if kd = 2 then 2 * r else r) := by unfold yaI; rw [er]; split <;> first | exact pk_mul 2 r | rfl
  refine lv_aload_n hC.1 hC.2.1 dX1_push_0 rfl (lv_at hl 1 rfl) ?_
  refine lv_aload_n hC.1 hC.2.1 dX1_push_1 rfl (lv_at hl 0 rfl) ?_
  refine p_get hC hK hM 0 rfl in_X1 rfl 9 (by decide) q169 (fun x h => h) rfl dX1_push_2 ?_
  rw [ent]
  refine v_go hC hK hM (show oups O _ am = some (mvU kd mv) from by rw [oups_off (by simp [oad]; exact o_ne hm hO (by omega))]; exact hm) hk1 hk5 nt hnt h01 hl.1 (lv_room (Nat.le_of_ble_eq_true rfl)) ⟨Nat.le_of_ble_eq_true rfl, Nat.le_of_ble_eq_true rfl⟩ dX1_push_5 ⟨Nat.le_of_ble_eq_true rfl, Nat.le_of_ble_eq_true rfl⟩ (fun H locs hM => ?_)
  refine w_tern1 (cond := goI kd mv nt = 0) (a := -1) (b := 1) 16 ?_ (fun jt8 jf8 => ?_)
  ·
    skip
    refine lv_istore_n (lv' := [(2, _), (0, _), (1, _)]) hC.1 hC.2.1 dX1_push_16 rfl hl (by decide) rfl (fun ls hl => ?_)
    refine lv_iconst (v := 0) hC.1 hC.2.1 dX1_push_17 (by decide) ?_
    refine lv_istore_n (lv' := [(3, _), (2, _), (0, _), (1, _)]) hC.1 hC.2.1 dX1_push_18 rfl hl (by decide) rfl (fun ls hl => ?_)
    refine w_ind (α := Nat × (Nat → Int32)) 19 (fun (x_ : Nat × (Nat → Int32)) => (fun (y : Nat) (f : (Nat → Int32)) => (if kd = 2 then 2 * r else r) - y) x_.1 x_.2) (fun (x_ : Nat × (Nat → Int32)) (H : Heap) (locs : List Loc) (ls : Array Slot) => (fun (y : Nat) (f : (Nat → Int32)) => (y ≤ (if kd = 2 then 2 * r else r) ∧ psh (v 0) n k (if goI kd mv nt = 0 then -1 else 1) ((if kd = 2 then 2 * r else r) - y) f = psh (v 0) n k (if goI kd mv nt = 0 then -1 else 1) (if kd = 2 then 2 * r else r) (w 6)) ∧ PS D ac A s.heap O [(a, rdU v ad (wput w 6 f))] H locs ∧ lv_has ls 4 [(0, .ref a), (1, .ref am), (2, .int (if goI kd mv nt = 0 then -1 else 1)), (3, .int (nI y))]) x_.1 x_.2) ?_ ((0, w 6)) ⟨⟨Nat.zero_le _, rfl⟩, by rw [wput_self]; exact hM, lv_sub hl [2, 3, 1, 0] rfl⟩
    intro x_ H locs ls hI ih19
    obtain ⟨y, f⟩ := x_
    dsimp only at hI
    obtain ⟨hI19, hM, hl⟩ := hI
    refine lv_iload_n hC.1 hC.2.1 dX1_push_19 rfl (lv_at hl 3 rfl) ?_
    refine lv_aload_n hC.1 hC.2.1 dX1_push_20 rfl (lv_at hl 1 rfl) ?_
    refine v_ya hC hK hM (show oups O _ am = some (mvU kd mv) from by rw [oups_off (by simp [oad]; exact o_ne hm hO (by omega))]; exact hm) hk1 hk5 hl.1 (lv_room (Nat.le_of_ble_eq_true rfl)) ⟨Nat.le_of_ble_eq_true rfl, Nat.le_of_ble_eq_true rfl⟩ dX1_push_21 ⟨Nat.le_of_ble_eq_true rfl, Nat.le_of_ble_eq_true rfl⟩ (fun H locs hM => ?_)
    rw [eY]
    refine lv_icmp_ge (tgt := 64) hC.1 hC.2.1 dX1_push_24 (by decide) (fun c1 => ?_) (fun c1 => ?_)
    ·
      have nc1 := Int32.not_lt.mpr c1
      have hx24 := nle_t (a := (if kd = 2 then 2 * r else r)) (b := y) c1 (by split <;> omega) (by omega)
      have hfin : f = psh (v 0) n k (if goI kd mv nt = 0 then -1 else 1) (if kd = 2 then 2 * r else r) (w 6) := by rw [← hI19.2, show (if kd = 2 then 2 * r else r) - y = 0 by omega]; rfl
      skip
      refine p_vret hC hr hlocks hM dX1_push_64 ?_
      exact ⟨by rw [hfin]; rfl, rfl⟩
    ·
      have nc1 := Int32.not_le.mp c1
      have hx24 := nle_f (a := (if kd = 2 then 2 * r else r)) (b := y) c1 (by split <;> omega) (by omega)
      refine lv_aload_n hC.1 hC.2.1 dX1_push_27 rfl (lv_at hl 0 rfl) ?_
      refine lv_aload_n hC.1 hC.2.1 dX1_push_28 rfl (lv_at hl 0 rfl) ?_
      refine p_get hC hK hM 0 rfl in_X1 rfl 6 (by decide) q160 (fun x h => h) rfl dX1_push_29 ?_
      refine lv_aload_n hC.1 hC.2.1 dX1_push_32 rfl (lv_at hl 1 rfl) ?_
      refine v_st hC hK hM (show oups O _ am = some (mvU kd mv) from by rw [oups_off (by simp [oad]; exact o_ne hm hO (by omega))]; exact hm) hk1 hk5 dX1_push_33 ?_
      rw [ek]
      refine p_iald hC hK hM 0 rfl 6 rfl rfl (n := k) rfl (by show _ < 6; omega) (by decide) dX1_push_36 ?_
      refine lv_iload_n hC.1 hC.2.1 dX1_push_37 rfl (lv_at hl 2 rfl) ?_
      refine lv_iadd hC.1 hC.2.1 dX1_push_38 ?_
      refine p_cVe (L' := [_]) hC hK hM (hM.at 0 rfl) rfl (cr_isFree l κ _ a v ad (wput w 6 f) _ (hM.at 0 rfl) n en hn) (cwV 1 hC.2.2.2.2 (lw_V q965 q967 qs18 q64 q968) rfl rfl rfl (by decide +kernel) ⟨(Nat.le_of_ble_eq_true rfl), (Nat.le_of_ble_eq_true rfl)⟩) rfl hl.1 rfl (lv_room (Nat.le_of_ble_eq_true rfl)) dX1_push_39 ⟨(Nat.le_of_ble_eq_true rfl), (Nat.le_of_ble_eq_true rfl)⟩ rfl hM.2 (fun H locs hM => ?_)
      refine lv_if_eq (tgt := 64) hC.1 hC.2.1 dX1_push_42 (by decide) (fun c2 => ?_) (fun c2 => ?_)
      ·
        skip
        rw [bI_0] at c2
        have cfr : ¬ isFr (v 0) n f (f k + (if goI kd mv nt = 0 then -1 else 1)) = true := c2
        have hfin : f = psh (v 0) n k (if goI kd mv nt = 0 then -1 else 1) (if kd = 2 then 2 * r else r) (w 6) := by rw [← hI19.2, show (if kd = 2 then 2 * r else r) - y = ((if kd = 2 then 2 * r else r) - (y + 1)) + 1 by omega]; simp only [psh]; rw [if_neg cfr]
        skip
        refine p_vret hC hr hlocks hM dX1_push_64 ?_
        exact ⟨by rw [hfin]; rfl, rfl⟩
      ·
        skip
        rw [bI_n0] at c2
        have cfr : isFr (v 0) n f (f k + (if goI kd mv nt = 0 then -1 else 1)) = true := c2
        refine lv_aload_n hC.1 hC.2.1 dX1_push_45 rfl (lv_at hl 0 rfl) ?_
        refine p_get hC hK hM 0 rfl in_X1 rfl 6 (by decide) q160 (fun x h => h) rfl dX1_push_46 ?_
        refine lv_aload_n hC.1 hC.2.1 dX1_push_49 rfl (lv_at hl 1 rfl) ?_
        refine v_st hC hK hM (show oups O _ am = some (mvU kd mv) from by rw [oups_off (by simp [oad]; exact o_ne hm hO (by omega))]; exact hm) hk1 hk5 dX1_push_50 ?_
        rw [ek]
        refine lv_dup2_11 hC.1 hC.2.1 dX1_push_53 rfl rfl ?_
        refine p_iald hC hK hM 0 rfl 6 rfl rfl (n := k) rfl (by show _ < 6; omega) (by decide) dX1_push_54 ?_
        refine lv_iload_n hC.1 hC.2.1 dX1_push_55 rfl (lv_at hl 2 rfl) ?_
        refine lv_iadd hC.1 hC.2.1 dX1_push_56 ?_
        refine p_iast (L' := [_]) hC hK hM 0 rfl 6 rfl rfl (n := k) rfl (by show _ < 6; omega) (by decide) (rar_set _ (k := 6) (by decide) _) rfl dX1_push_57 (fun H locs hM => ?_)
        refine lv_iinc (v := nI (y + 1)) (lv' := [(3, _), (0, _), (1, _), (2, _)]) hC.1 hC.2.1 dX1_push_58 hl (k := 3) rfl (nI_1 _) (by decide) rfl (fun ls hl => ?_)
        refine lv_goto (tgt := 19) hC.1 hC.2.1 dX1_push_61 (by decide) ?_
        exact ih19 ((y + 1, upd f k (f k + (if goI kd mv nt = 0 then -1 else 1)))) _ _ _ (by show (if kd = 2 then 2 * r else r) - (y + 1) < (if kd = 2 then 2 * r else r) - y; omega) ⟨⟨by omega, by rw [← hI19.2, show (if kd = 2 then 2 * r else r) - y = ((if kd = 2 then 2 * r else r) - (y + 1)) + 1 by omega]; simp only [psh]; rw [if_pos cfr]⟩, by rw [wput_wput] at hM; exact hM, lv_sub hl [1, 2, 3, 0] rfl⟩
  ·
    skip
    refine lv_if_eq (tgt := 15) hC.1 hC.2.1 dX1_push_8 (by decide) (fun c3 => ?_) (fun c3 => ?_)
    ·
      skip
      have cg : goI kd mv nt = 0 := c3
      refine lv_iconst (v := (-1)) hC.1 hC.2.1 dX1_push_15 (by decide) ?_
      first | exact jt8 (by exact cg) | exact jf8 (by exact cg)
    ·
      skip
      have cg : ¬ goI kd mv nt = 0 := c3
      refine lv_iconst (v := 1) hC.1 hC.2.1 dX1_push_11 (by decide) ?_
      refine lv_goto (tgt := 16) hC.1 hC.2.1 dX1_push_12 (by decide) ?_
      first | exact jt8 (by exact cg) | exact jf8 (by exact cg)
