set_option maxHeartbeats 400000 in
set_option maxRecDepth 100000 in
theorem mc_layNow (l : Launch) (v : Nat → Int32) (w : Nat → Nat → Int32) (f : Nat) (hf : f < 3) (n : Nat) (en : w 5 4 = nI n) (hn : n ≤ 6) : mMv l yX3_layNow cX3_layNow 3 none ({ frames := 1, cells := 0, slots := 0, locals := 22 }) [.int (nI f)] v w (fun v1 w1 => v1 = v ∧ w1 = wput w 19 (layF (w 5) (w 19) n f)) := by
  intro D ac A G mo ad
  refine m_body rfl (Nat.le_of_ble_eq_true rfl) ?_
  intro p e s m args below meth c ls hC hr hlocks hK hM hl
  have hl : lv_has ls 3 [(0, .ref mo), (1, .int (nI f))] := hl
  refine lv_iconst (v := 0) hC.1 hC.2.1 dX3_layNow_0 (by decide) ?_
  refine lv_istore_n (lv' := [(2, _), (0, _), (1, _)]) hC.1 hC.2.1 dX3_layNow_1 rfl hl (by decide) rfl (fun ls hl => ?_)
  refine w_ind (α := Nat) 2 (fun (k : Nat) => n - k) (fun (k : Nat) (H : Heap) (locs : List Loc) (ls : Array Slot) => (k ≤ n) ∧ MS D ac A G s.heap mo ad (v) (wput w 19 (layF (w 5) (w 19) k f)) H locs ∧ lv_has ls 3 [(0, .ref mo), (1, .int (nI f)), (2, .int (nI k))]) ?_ (0) ⟨by omega, by rw [layF_0, wput_self]; exact hM, lv_sub hl [1, 2, 0] rfl⟩
  intro k H locs ls hI ih2
  obtain ⟨hI2, hM, hl⟩ := hI
  refine lv_iload_n hC.1 hC.2.1 dX3_layNow_2 rfl (lv_at hl 2 rfl) ?_
  refine lv_aload_n hC.1 hC.2.1 dX3_layNow_3 rfl (lv_at hl 0 rfl) ?_
  refine m_get hC hK hM 5 (by decide) q1267 rfl rfl dX3_layNow_4 ?_
  refine lv_iconst (v := 4) hC.1 hC.2.1 dX3_layNow_7 (by decide) ?_
  refine m_iald hC hK hM 5 rfl (n := 4) (by first | rfl | (simp only [← nI_add, ← pk_mul]; rfl)) (by first | decide | (show _ < 94; omega)) dX3_layNow_8 ?_
  rw [show wput w 19 (layF (w 5) (w 19) k f) 5 4 = nI n from en]
  refine lv_icmp_ge (tgt := 30) hC.1 hC.2.1 dX3_layNow_9 (by decide) (fun c1 => ?_) (fun c1 => ?_)
  ·
    have nc1 := Int32.not_lt.mpr c1
    have hx9 := nle_t (a := n) (b := k) c1
    obtain rfl : n = k := by omega
    refine m_vret hC hr hlocks hM dX3_layNow_30 ?_
    exact ⟨rfl, rfl⟩
  ·
    have nc1 := Int32.not_le.mp c1
    have hx9 := nle_f (a := n) (b := k) c1
    refine lv_aload_n hC.1 hC.2.1 dX3_layNow_12 rfl (lv_at hl 0 rfl) ?_
    refine m_get hC hK hM 19 (by decide) q1281 rfl rfl dX3_layNow_13 ?_
    refine lv_iload_n hC.1 hC.2.1 dX3_layNow_16 rfl (lv_at hl 2 rfl) ?_
    refine lv_aload_n hC.1 hC.2.1 dX3_layNow_17 rfl (lv_at hl 0 rfl) ?_
    refine lv_iload_n hC.1 hC.2.1 dX3_layNow_18 rfl (lv_at hl 2 rfl) ?_
    refine lv_iload_n hC.1 hC.2.1 dX3_layNow_19 rfl (lv_at hl 1 rfl) ?_
    refine m_cr hC hK hM (mc_stoneOf l _ _ k f (by omega) (by omega)) (cw_m 2 hC.2.2.2.2 q1467 q1469 qs41 q1470 ⟨rfl, rfl⟩ rfl (by decide +kernel) ⟨Nat.le_of_ble_eq_true rfl, Nat.le_of_ble_eq_true rfl⟩) rfl hl.1 rfl (lv_room (Nat.le_of_ble_eq_true rfl)) dX3_layNow_20 ⟨Nat.le_of_ble_eq_true rfl, Nat.le_of_ble_eq_true rfl⟩ ?_
    refine m_iast hC hK hM 19 rfl (n := k) (by first | rfl | (simp only [← nI_add, ← pk_mul]; rfl)) (by first | decide | (show _ < 6; omega)) dX3_layNow_23 (fun H locs hM => ?_)
    refine lv_iinc (v := nI (k + 1)) (lv' := [(2, _), (0, _), (1, _)]) hC.1 hC.2.1 dX3_layNow_24 hl (k := 2) rfl (nI_1 _) (by decide) rfl (fun ls hl => ?_)
    refine lv_goto (tgt := 2) hC.1 hC.2.1 dX3_layNow_27 (by decide) ?_
    exact ih2 (k + 1) _ _ _ (by omega) ⟨by omega, by rw [← layF_s, ← wup_wput]; exact hM, lv_sub hl [1, 2, 0] rfl⟩

set_option maxHeartbeats 400000 in
set_option maxRecDepth 100000 in
theorem mc_isFree (l : Launch) (v : Nat → Int32) (w : Nat → Nat → Int32) (x : Int32) (n : Nat) (en : w 5 4 = nI n) (hn : n ≤ 6) : mRi l yX3_isFree cX3_isFree 4 (some .boolean) ({ frames := 0, cells := 0, slots := 0, locals := 0 }) [.int x] v w (bI (isFr (w 5 0) n (w 19) x = true)) := by
  intro D ac A G mo ad
  refine m_bodyR rfl (Nat.le_of_ble_eq_true rfl) ?_
  intro p e s m args below meth c ls hC hr hlocks hK hM hl
  have hl : lv_has ls 4 [(0, .ref mo), (1, .int x)] := hl
  refine lv_iload_n hC.1 hC.2.1 dX3_isFree_0 rfl (lv_at hl 1 rfl) ?_
  refine w_tern1 (cond := (0 ≤ x ∧ x ≤ w 5 0)) (a := 1) (b := 0) 19 ?_ (fun jt1 jf1 => ?_)
  ·
    skip
    refine lv_istore_n (lv' := [(2, _), (0, _), (1, _)]) hC.1 hC.2.1 dX3_isFree_19 rfl hl (by decide) rfl (fun ls hl => ?_)
    refine lv_iconst (v := 0) hC.1 hC.2.1 dX3_isFree_20 (by decide) ?_
    refine lv_istore_n (lv' := [(3, _), (2, _), (0, _), (1, _)]) hC.1 hC.2.1 dX3_isFree_21 rfl hl (by decide) rfl (fun ls hl => ?_)
    rw [show (if 0 ≤ x ∧ x ≤ w 5 0 then (1 : Int32) else 0) = bI (frL (decide (0 ≤ x ∧ x ≤ w 5 0)) (w 19) x 0 = true) by simp [frL, bI]] at hl
    refine w_ind (α := Nat) 22 (fun (k : Nat) => n - k) (fun (k : Nat) (H : Heap) (locs : List Loc) (ls : Array Slot) => (k ≤ n) ∧ H = s.heap ∧ locs = [] ∧ lv_has ls 4 [(0, .ref mo), (1, .int x), (2, .int (bI (frL (decide (0 ≤ x ∧ x ≤ w 5 0)) (w 19) x k = true))), (3, .int (nI k))]) ?_ (0) ⟨by omega, rfl, rfl, lv_sub hl [2, 3, 1, 0] rfl⟩
    intro k H locs ls hI ih22
    obtain ⟨hI22, rfl, rfl, hl⟩ := hI
    refine lv_iload_n hC.1 hC.2.1 dX3_isFree_22 rfl (lv_at hl 3 rfl) ?_
    refine lv_aload_n hC.1 hC.2.1 dX3_isFree_23 rfl (lv_at hl 0 rfl) ?_
    refine m_get hC hK hM 5 (by decide) q1267 rfl rfl dX3_isFree_24 ?_
    refine lv_iconst (v := 4) hC.1 hC.2.1 dX3_isFree_27 (by decide) ?_
    refine m_iald hC hK hM 5 rfl (n := 4) (by first | rfl | (simp only [← nI_add, ← pk_mul]; rfl)) (by first | decide | (show _ < 94; omega)) dX3_isFree_28 ?_
    rw [en]
    refine lv_icmp_ge (tgt := 58) hC.1 hC.2.1 dX3_isFree_29 (by decide) (fun c1 => ?_) (fun c1 => ?_)
    ·
      have nc1 := Int32.not_lt.mpr c1
      have hx29 := nle_t (a := n) (b := k) c1
      obtain rfl : n = k := by omega
      refine lv_iload_n hC.1 hC.2.1 dX3_isFree_58 rfl (lv_at hl 2 rfl) ?_
      refine s_zret hC hr hlocks (by first | exact bI_01 _ | exact Or.inl rfl | exact Or.inr rfl) dX3_isFree_59 ?_
      rfl
    ·
      have nc1 := Int32.not_le.mp c1
      have hx29 := nle_f (a := n) (b := k) c1
      refine lv_iload_n hC.1 hC.2.1 dX3_isFree_32 rfl (lv_at hl 2 rfl) ?_
      refine w_tern1 (cond := frL (decide (0 ≤ x ∧ x ≤ w 5 0)) (w 19) x (k + 1) = true) (a := 1) (b := 0) 51 ?_ (fun jt33 jf33 => ?_)
      ·
        skip
        refine lv_istore_n (lv' := [(2, _), (0, _), (1, _), (3, _)]) hC.1 hC.2.1 dX3_isFree_51 rfl hl (by decide) rfl (fun ls hl => ?_)
        refine lv_iinc (v := nI (k + 1)) (lv' := [(3, _), (2, _), (0, _), (1, _)]) hC.1 hC.2.1 dX3_isFree_52 hl (k := 3) rfl (nI_1 _) (by decide) rfl (fun ls hl => ?_)
        refine lv_goto (tgt := 22) hC.1 hC.2.1 dX3_isFree_55 (by decide) ?_
        exact ih22 (k + 1) _ _ _ (by omega) ⟨by omega, rfl, rfl, lv_sub hl [2, 3, 1, 0] rfl⟩
      ·
        skip
        refine lv_if_eq (tgt := 50) hC.1 hC.2.1 dX3_isFree_33 (by decide) (fun c2 => ?_) (fun c2 => ?_)
        ·
          skip
          refine lv_iconst (v := 0) hC.1 hC.2.1 dX3_isFree_50 (by decide) ?_
          first | exact jt33 (by grind [frL, bI]) | exact jf33 (by grind [frL, bI])
        ·
          skip
          refine lv_aload_n hC.1 hC.2.1 dX3_isFree_36 rfl (lv_at hl 0 rfl) ?_
          refine m_get hC hK hM 19 (by decide) q1281 rfl rfl dX3_isFree_37 ?_
          refine lv_iload_n hC.1 hC.2.1 dX3_isFree_40 rfl (lv_at hl 3 rfl) ?_
          refine m_iald hC hK hM 19 rfl (n := k) (by first | rfl | (simp only [← nI_add, ← pk_mul]; rfl)) (by first | decide | (show _ < 6; omega)) dX3_isFree_41 ?_
          refine lv_iload_n hC.1 hC.2.1 dX3_isFree_42 rfl (lv_at hl 1 rfl) ?_
          refine lv_icmp_eq (tgt := 50) hC.1 hC.2.1 dX3_isFree_43 (by decide) (fun c3 => ?_) (fun c3 => ?_)
          ·
            skip
            refine lv_iconst (v := 0) hC.1 hC.2.1 dX3_isFree_50 (by decide) ?_
            first | exact jt33 (by grind [frL, bI]) | exact jf33 (by grind [frL, bI])
          ·
            skip
            refine lv_iconst (v := 1) hC.1 hC.2.1 dX3_isFree_46 (by decide) ?_
            refine lv_goto (tgt := 51) hC.1 hC.2.1 dX3_isFree_47 (by decide) ?_
            first | exact jt33 (by grind [frL, bI]) | exact jf33 (by grind [frL, bI])
  ·
    skip
    refine lv_if_lt (tgt := 18) hC.1 hC.2.1 dX3_isFree_1 (by decide) (fun c4 => ?_) (fun c4 => ?_)
    ·
      have nc4 := Int32.not_le.mpr c4
      refine lv_iconst (v := 0) hC.1 hC.2.1 dX3_isFree_18 (by decide) ?_
      first | exact jt1 (by first | assumption | (simp_all; done) | grind) | exact jf1 (by first | assumption | (simp_all; done) | grind)
    ·
      have nc4 := Int32.not_lt.mp c4
      refine lv_iload_n hC.1 hC.2.1 dX3_isFree_4 rfl (lv_at hl 1 rfl) ?_
      refine lv_aload_n hC.1 hC.2.1 dX3_isFree_5 rfl (lv_at hl 0 rfl) ?_
      refine m_get hC hK hM 5 (by decide) q1267 rfl rfl dX3_isFree_6 ?_
      refine lv_iconst (v := 0) hC.1 hC.2.1 dX3_isFree_9 (by decide) ?_
      refine m_iald hC hK hM 5 rfl (n := 0) (by first | rfl | (simp only [← nI_add, ← pk_mul]; rfl)) (by first | decide | (show _ < 94; omega)) dX3_isFree_10 ?_
      refine lv_icmp_gt (tgt := 18) hC.1 hC.2.1 dX3_isFree_11 (by decide) (fun c5 => ?_) (fun c5 => ?_)
      ·
        have nc5 := Int32.not_le.mpr c5
        refine lv_iconst (v := 0) hC.1 hC.2.1 dX3_isFree_18 (by decide) ?_
        first | exact jt1 (by first | assumption | (simp_all; done) | grind) | exact jf1 (by first | assumption | (simp_all; done) | grind)
      ·
        have nc5 := Int32.not_lt.mp c5
        refine lv_iconst (v := 1) hC.1 hC.2.1 dX3_isFree_14 (by decide) ?_
        refine lv_goto (tgt := 19) hC.1 hC.2.1 dX3_isFree_15 (by decide) ?_
        first | exact jt1 (by first | assumption | (simp_all; done) | grind) | exact jf1 (by first | assumption | (simp_all; done) | grind)

set_option maxHeartbeats 400000 in
set_option maxRecDepth 100000 in
theorem mc_pushes (l : Launch) (v : Nat → Int32) (w : Nat → Nat → Int32) (j nt k0 r0 : Nat) (n : Nat) (en : w 5 4 = nI n) (hn : n ≤ 6) (hj : j < 5) (hnt : nt < 2 ^ 30) (ek : w 5 (26 + 4 * j + 1) = nI k0) (hk0 : k0 < n) (er : w 5 (26 + 4 * j + 3) = nI r0) (hr0 : r0 ≤ 5) : mMv l yX3_pushes cX3_pushes 9 none ({ frames := 1, cells := 0, slots := 0, locals := 23 }) [.int (nI j), .int (nI nt)] v w (fun v1 w1 => v1 = v ∧ w1 = wput w 19 (pushF (w 5) n (w 19) j nt)) := by
  intro D ac A G mo ad
  refine m_body rfl (Nat.le_of_ble_eq_true rfl) ?_
  intro p e s m args below meth c ls hC hr hlocks hK hM hl
  have hl : lv_has ls 9 [(0, .ref mo), (1, .int (nI j)), (2, .int (nI nt))] := hl
  have ik : iN (w 5 (26 + 4 * j + 1)) = k0 := by rw [ek]; exact iN_nI (by omega)
  have ir : iN (w 5 (26 + 4 * j + 3)) = r0 := by rw [er]; exact iN_nI (by omega)
  refine lv_aload_n hC.1 hC.2.1 dX3_pushes_0 rfl (lv_at hl 0 rfl) ?_
  refine lv_iload_n hC.1 hC.2.1 dX3_pushes_1 rfl (lv_at hl 1 rfl) ?_
  refine lv_iconst (v := 1) hC.1 hC.2.1 dX3_pushes_2 (by decide) ?_
  refine m_cr hC hK hM (mc_of l _ _ j 1 (by omega) (by omega)) (cw_m 2 hC.2.2.2.2 q1483 q1485 qs45 q1486 ⟨rfl, rfl⟩ rfl (by decide +kernel) ⟨Nat.le_of_ble_eq_true rfl, Nat.le_of_ble_eq_true rfl⟩) rfl hl.1 rfl (lv_room (Nat.le_of_ble_eq_true rfl)) dX3_pushes_3 ⟨Nat.le_of_ble_eq_true rfl, Nat.le_of_ble_eq_true rfl⟩ ?_
  rw [ek]
  refine lv_istore_n (lv' := [(3, _), (0, _), (1, _), (2, _)]) hC.1 hC.2.1 dX3_pushes_6 rfl hl (by decide) rfl (fun ls hl => ?_)
  refine lv_aload_n hC.1 hC.2.1 dX3_pushes_7 rfl (lv_at hl 1 rfl) ?_
  refine lv_iload_n hC.1 hC.2.1 dX3_pushes_8 rfl (lv_at hl 2 rfl) ?_
  refine lv_iconst (v := 0) hC.1 hC.2.1 dX3_pushes_9 (by decide) ?_
  refine m_cr hC hK hM (mc_of l _ _ j 0 (by omega) (by omega)) (cw_m 2 hC.2.2.2.2 q1483 q1485 qs45 q1486 ⟨rfl, rfl⟩ rfl (by decide +kernel) ⟨Nat.le_of_ble_eq_true rfl, Nat.le_of_ble_eq_true rfl⟩) rfl hl.1 rfl (lv_room (Nat.le_of_ble_eq_true rfl)) dX3_pushes_10 ⟨Nat.le_of_ble_eq_true rfl, Nat.le_of_ble_eq_true rfl⟩ ?_
  refine lv_istore (lv' := [(4, _), (3, _), (0, _), (1, _), (2, _)]) hC.1 hC.2.1 dX3_pushes_13 hl (by decide) rfl (fun ls hl => ?_)
  refine lv_iload_n hC.1 hC.2.1 dX3_pushes_15 rfl (lv_at hl 4 rfl) ?_
  refine lv_iconst (v := 2) hC.1 hC.2.1 dX3_pushes_16 (by decide) ?_
  refine lv_irem hC.1 hC.2.1 dX3_pushes_17 (by decide) ?_
  rw [show nI nt - nI nt / 2 * 2 = nI (nt % 2) from pk_rem (d := 2) (by omega) (by omega) (by omega)]
  refine lv_iconst (v := 1) hC.1 hC.2.1 dX3_pushes_18 (by decide) ?_
  refine w_tern2 (cond := nt % 2 = 1) (a := 1) (b := 0) 27 ?_ (fun jt19 jf19 => ?_)
  ·
    skip
    refine lv_istore (lv' := [(5, _), (4, _), (3, _), (0, _), (1, _), (2, _)]) hC.1 hC.2.1 dX3_pushes_27 hl (by decide) rfl (fun ls hl => ?_)
    refine w_meet (cond := ¬ ((w 5 (26 + 4 * j) = 3 ∧ nt % 2 = 1) ∨ (w 5 (26 + 4 * j) = 5 ∧ ¬ w 19 (iN (w 5 (26 + 4 * j + 1))) = w 5 (8 + 3 * iN (w 5 (26 + 4 * j + 1)) + 2)))) (ls := ls) (rest := []) 62 (fun hm29 => ?_) (fun jm29 => ?_)
    ·
      skip
      refine lv_aload_n hC.1 hC.2.1 dX3_pushes_62 rfl (lv_at hl 3 rfl) ?_
      refine lv_iload_n hC.1 hC.2.1 dX3_pushes_63 rfl (lv_at hl 4 rfl) ?_
      refine lv_iconst (v := 2) hC.1 hC.2.1 dX3_pushes_64 (by decide) ?_
      refine m_cr hC hK hM (mc_of l _ _ j 2 (by omega) (by omega)) (cw_m 2 hC.2.2.2.2 q1483 q1485 qs45 q1486 ⟨rfl, rfl⟩ rfl (by decide +kernel) ⟨Nat.le_of_ble_eq_true rfl, Nat.le_of_ble_eq_true rfl⟩) rfl hl.1 rfl (lv_room (Nat.le_of_ble_eq_true rfl)) dX3_pushes_65 ⟨Nat.le_of_ble_eq_true rfl, Nat.le_of_ble_eq_true rfl⟩ ?_
      refine lv_iconst (v := 1) hC.1 hC.2.1 dX3_pushes_68 (by decide) ?_
      refine w_tern2 (cond := w 5 (26 + 4 * j + 2) = 1) (a := 1) (b := -1) 77 ?_ (fun jt69 jf69 => ?_)
      ·
        skip
        refine lv_istore (lv' := [(6, _), (5, _), (4, _), (3, _), (0, _), (1, _), (2, _)]) hC.1 hC.2.1 dX3_pushes_77 hl (by decide) rfl (fun ls hl => ?_)
        refine lv_iload hC.1 hC.2.1 dX3_pushes_79 (lv_at hl 2 rfl) ?_
        refine lv_iconst (v := 4) hC.1 hC.2.1 dX3_pushes_81 (by decide) ?_
        refine w_tern2 (cond := w 5 (26 + 4 * j) = 4 ∧ nt % 2 = 1) (a := -(if w 5 (26 + 4 * j + 2) = 1 then 1 else -1)) (b := if w 5 (26 + 4 * j + 2) = 1 then 1 else -1) 98 ?_ (fun jt82 jf82 => ?_)
        ·
          skip
          refine lv_istore (lv' := [(6, _), (5, _), (4, _), (3, _), (0, _), (1, _), (2, _)]) hC.1 hC.2.1 dX3_pushes_98 hl (by decide) rfl (fun ls hl => ?_)
          refine lv_iload hC.1 hC.2.1 dX3_pushes_100 (lv_at hl 2 rfl) ?_
          refine lv_iconst (v := 2) hC.1 hC.2.1 dX3_pushes_102 (by decide) ?_
          refine w_tern2 (cond := w 5 (26 + 4 * j) = 2) (a := 2 * w 5 (26 + 4 * j + 3)) (b := w 5 (26 + 4 * j + 3)) 123 ?_ (fun jt103 jf103 => ?_)
          ·
            skip
            refine lv_istore (lv' := [(7, _), (6, _), (5, _), (4, _), (3, _), (0, _), (1, _), (2, _)]) hC.1 hC.2.1 dX3_pushes_123 hl (by decide) rfl (fun ls hl => ?_)
            refine lv_iconst (v := 0) hC.1 hC.2.1 dX3_pushes_125 (by decide) ?_
            refine lv_istore (lv' := [(8, _), (7, _), (6, _), (5, _), (4, _), (3, _), (0, _), (1, _), (2, _)]) hC.1 hC.2.1 dX3_pushes_126 hl (by decide) rfl (fun ls hl => ?_)
            have hY : yardM (w 5) j ≤ 10 := by unfold yardM; rw [ir]; split <;> omega
            have eY : (if w 5 (26 + 4 * j) = 2 then 2 * w 5 (26 + 4 * j + 3) else w 5 (26 + 4 * j + 3)) = nI (yardM (w 5) j) := by
              unfold yardM
              rw [ir, er]
              split
              · exact pk_mul 2 r0
              · rfl
            rw [eY] at hl
            refine w_ind (α := Nat × (Nat → Int32)) 128 (fun (x_ : Nat × (Nat → Int32)) => (fun (y : Nat) (f : (Nat → Int32)) => yardM (w 5) j - y) x_.1 x_.2) (fun (x_ : Nat × (Nat → Int32)) (H : Heap) (locs : List Loc) (ls : Array Slot) => (fun (y : Nat) (f : (Nat → Int32)) => (y ≤ yardM (w 5) j ∧ psh (w 5 0) n k0 (stepM (w 5) j nt) (yardM (w 5) j - y) f = psh (w 5 0) n k0 (stepM (w 5) j nt) (yardM (w 5) j) (w 19)) ∧ MS D ac A G s.heap mo ad (v) (wput w 19 f) H locs ∧ lv_has ls 9 [(0, .ref mo), (3, .int (nI k0)), (6, .int (stepM (w 5) j nt)), (7, .int (nI (yardM (w 5) j))), (8, .int (nI y))]) x_.1 x_.2) ?_ ((0, w 19)) ⟨⟨Nat.zero_le _, rfl⟩, by rw [wput_self]; exact hM, lv_sub hl [6, 5, 2, 1, 0] rfl⟩
            intro x_ H locs ls hI ih128
            obtain ⟨y, f⟩ := x_
            dsimp only at hI
            obtain ⟨hI128, hM, hl⟩ := hI
            refine lv_iload hC.1 hC.2.1 dX3_pushes_128 (lv_at hl 4 rfl) ?_
            refine lv_iload hC.1 hC.2.1 dX3_pushes_130 (lv_at hl 3 rfl) ?_
            refine lv_icmp_ge (tgt := 168) hC.1 hC.2.1 dX3_pushes_132 (by decide) (fun c4 => ?_) (fun c4 => ?_)
            ·
              have nc4 := Int32.not_lt.mpr c4
              have hx132 := nle_t (a := yardM (w 5) j) (b := y) c4 (by omega) (by omega)
              have hfin : f = psh (w 5 0) n k0 (stepM (w 5) j nt) (yardM (w 5) j) (w 19) := by rw [← hI128.2, show yardM (w 5) j - y = 0 by omega]; rfl
              refine m_vret hC hr hlocks hM dX3_pushes_168 ?_
              exact ⟨rfl, by rw [pushF, if_neg hm29, ik, ← hfin]⟩
            ·
              have nc4 := Int32.not_le.mp c4
              have hx132 := nle_f (a := yardM (w 5) j) (b := y) c4 (by omega) (by omega)
              refine lv_aload_n hC.1 hC.2.1 dX3_pushes_135 rfl (lv_at hl 0 rfl) ?_
              refine lv_aload_n hC.1 hC.2.1 dX3_pushes_136 rfl (lv_at hl 0 rfl) ?_
              refine m_get hC hK hM 19 (by decide) q1281 rfl rfl dX3_pushes_137 ?_
              refine lv_iload_n hC.1 hC.2.1 dX3_pushes_140 rfl (lv_at hl 1 rfl) ?_
              refine m_iald hC hK hM 19 rfl (n := k0) (by first | rfl | (simp only [← nI_add, ← pk_mul]; rfl)) (by first | decide | (show _ < 6; omega)) dX3_pushes_141 ?_
              refine lv_iload hC.1 hC.2.1 dX3_pushes_142 (lv_at hl 2 rfl) ?_
              refine lv_iadd hC.1 hC.2.1 dX3_pushes_144 ?_
              refine m_cr hC hK hM (mc_isFree l _ _ _ n en hn) (cw_m 1 hC.2.2.2.2 q1487 q1489 qs46 q1490 ⟨rfl, rfl⟩ rfl (by decide +kernel) ⟨Nat.le_of_ble_eq_true rfl, Nat.le_of_ble_eq_true rfl⟩) rfl hl.1 rfl (lv_room (Nat.le_of_ble_eq_true rfl)) dX3_pushes_145 ⟨Nat.le_of_ble_eq_true rfl, Nat.le_of_ble_eq_true rfl⟩ ?_
              refine lv_if_eq (tgt := 168) hC.1 hC.2.1 dX3_pushes_148 (by decide) (fun c6 => ?_) (fun c6 => ?_)
              ·
                skip
                rw [bI_0] at c6
                have cfr : ¬ isFr (w 5 0) n f (f k0 + stepM (w 5) j nt) = true := c6
                have hfin : f = psh (w 5 0) n k0 (stepM (w 5) j nt) (yardM (w 5) j) (w 19) := by rw [← hI128.2, show yardM (w 5) j - y = (yardM (w 5) j - (y + 1)) + 1 by omega]; simp only [psh]; rw [if_neg cfr]
                refine m_vret hC hr hlocks hM dX3_pushes_168 ?_
                exact ⟨rfl, by rw [pushF, if_neg hm29, ik, ← hfin]⟩
              ·
                skip
                rw [bI_n0] at c6
                have cfr : isFr (w 5 0) n f (f k0 + stepM (w 5) j nt) = true := c6
                refine lv_aload_n hC.1 hC.2.1 dX3_pushes_151 rfl (lv_at hl 0 rfl) ?_
                refine m_get hC hK hM 19 (by decide) q1281 rfl rfl dX3_pushes_152 ?_
                refine lv_iload_n hC.1 hC.2.1 dX3_pushes_155 rfl (lv_at hl 1 rfl) ?_
                refine lv_dup2_11 hC.1 hC.2.1 dX3_pushes_156 rfl rfl ?_
                refine m_iald hC hK hM 19 rfl (n := k0) rfl (by show _ < 6; omega) dX3_pushes_157 ?_
                refine lv_iload hC.1 hC.2.1 dX3_pushes_158 (lv_at hl 2 rfl) ?_
                refine lv_iadd hC.1 hC.2.1 dX3_pushes_160 ?_
                refine m_iast hC hK hM 19 rfl (n := k0) rfl (by show _ < 6; omega) dX3_pushes_161 (fun H locs hM => ?_)
                refine lv_iinc (v := nI (y + 1)) (lv' := [(8, _), (0, _), (3, _), (6, _), (7, _)]) hC.1 hC.2.1 dX3_pushes_162 hl (k := 4) rfl (nI_1 _) (by decide) rfl (fun ls hl => ?_)
                refine lv_goto (tgt := 128) hC.1 hC.2.1 dX3_pushes_165 (by decide) ?_
                exact ih128 ((y + 1, upd f k0 (f k0 + stepM (w 5) j nt))) _ _ _ (by show yardM (w 5) j - (y + 1) < yardM (w 5) j - y; omega) ⟨⟨by omega, by rw [← hI128.2, show yardM (w 5) j - y = (yardM (w 5) j - (y + 1)) + 1 by omega]; simp only [psh]; rw [if_pos cfr]⟩, by rw [← wup_wput]; exact hM, lv_sub hl [1, 2, 3, 4, 0] rfl⟩
          ·
            skip
            refine lv_icmp_ne (tgt := 117) hC.1 hC.2.1 dX3_pushes_103 (by decide) (fun c7 => ?_) (fun c7 => ?_)
            ·
              skip
              refine lv_aload_n hC.1 hC.2.1 dX3_pushes_117 rfl (lv_at hl 4 rfl) ?_
              refine lv_iload_n hC.1 hC.2.1 dX3_pushes_118 rfl (lv_at hl 5 rfl) ?_
              refine lv_iconst (v := 3) hC.1 hC.2.1 dX3_pushes_119 (by decide) ?_
              refine m_cr hC hK hM (mc_of l _ _ j 3 (by omega) (by omega)) (cw_m 2 hC.2.2.2.2 q1483 q1485 qs45 q1486 ⟨rfl, rfl⟩ rfl (by decide +kernel) ⟨Nat.le_of_ble_eq_true rfl, Nat.le_of_ble_eq_true rfl⟩) rfl hl.1 rfl (lv_room (Nat.le_of_ble_eq_true rfl)) dX3_pushes_120 ⟨Nat.le_of_ble_eq_true rfl, Nat.le_of_ble_eq_true rfl⟩ ?_
              first | exact jt103 (by first | assumption | (simp_all; done) | grind) | exact jf103 (by first | assumption | (simp_all; done) | grind)
            ·
              skip
              refine lv_iconst (v := 2) hC.1 hC.2.1 dX3_pushes_106 (by decide) ?_
              refine lv_aload_n hC.1 hC.2.1 dX3_pushes_107 rfl (lv_at hl 4 rfl) ?_
              refine lv_iload_n hC.1 hC.2.1 dX3_pushes_108 rfl (lv_at hl 5 rfl) ?_
              refine lv_iconst (v := 3) hC.1 hC.2.1 dX3_pushes_109 (by decide) ?_
              refine m_cr hC hK hM (mc_of l _ _ j 3 (by omega) (by omega)) (cw_m 2 hC.2.2.2.2 q1483 q1485 qs45 q1486 ⟨rfl, rfl⟩ rfl (by decide +kernel) ⟨Nat.le_of_ble_eq_true rfl, Nat.le_of_ble_eq_true rfl⟩) rfl hl.1 rfl (lv_room (Nat.le_of_ble_eq_true rfl)) dX3_pushes_110 ⟨Nat.le_of_ble_eq_true rfl, Nat.le_of_ble_eq_true rfl⟩ ?_
              refine lv_imul hC.1 hC.2.1 dX3_pushes_113 ?_
              refine lv_goto (tgt := 123) hC.1 hC.2.1 dX3_pushes_114 (by decide) ?_
              first | exact jt103 (by first | assumption | (simp_all; done) | grind) | exact jf103 (by first | assumption | (simp_all; done) | grind)
        ·
          skip
          refine lv_icmp_ne (tgt := 96) hC.1 hC.2.1 dX3_pushes_82 (by decide) (fun c10 => ?_) (fun c10 => ?_)
          ·
            skip
            refine lv_iload hC.1 hC.2.1 dX3_pushes_96 (lv_at hl 0 rfl) ?_
            first | exact jt82 (by grind) | exact jf82 (by grind)
          ·
            skip
            refine lv_iload hC.1 hC.2.1 dX3_pushes_85 (lv_at hl 1 rfl) ?_
            refine lv_if_eq (tgt := 96) hC.1 hC.2.1 dX3_pushes_87 (by decide) (fun c11 => ?_) (fun c11 => ?_)
            ·
              skip
              refine lv_iload hC.1 hC.2.1 dX3_pushes_96 (lv_at hl 0 rfl) ?_
              first | exact jt82 (by grind) | exact jf82 (by grind)
            ·
              skip
              refine lv_iload hC.1 hC.2.1 dX3_pushes_90 (lv_at hl 0 rfl) ?_
              refine lv_ineg hC.1 hC.2.1 dX3_pushes_92 ?_
              refine lv_goto (tgt := 98) hC.1 hC.2.1 dX3_pushes_93 (by decide) ?_
              first | exact jt82 (by grind) | exact jf82 (by grind)
      ·
        skip
        refine lv_icmp_ne (tgt := 76) hC.1 hC.2.1 dX3_pushes_69 (by decide) (fun c12 => ?_) (fun c12 => ?_)
        ·
          skip
          refine lv_iconst (v := (-1)) hC.1 hC.2.1 dX3_pushes_76 (by decide) ?_
          first | exact jt69 (by first | assumption | (simp_all; done) | grind) | exact jf69 (by first | assumption | (simp_all; done) | grind)
        ·
          skip
          refine lv_iconst (v := 1) hC.1 hC.2.1 dX3_pushes_72 (by decide) ?_
          refine lv_goto (tgt := 77) hC.1 hC.2.1 dX3_pushes_73 (by decide) ?_
          first | exact jt69 (by first | assumption | (simp_all; done) | grind) | exact jf69 (by first | assumption | (simp_all; done) | grind)
    ·
      skip
      refine lv_iload hC.1 hC.2.1 dX3_pushes_29 (lv_at hl 1 rfl) ?_
      refine lv_iconst (v := 3) hC.1 hC.2.1 dX3_pushes_31 (by decide) ?_
      refine lv_icmp_ne (tgt := 40) hC.1 hC.2.1 dX3_pushes_32 (by decide) (fun c13 => ?_) (fun c13 => ?_)
      ·
        skip
        refine lv_iload hC.1 hC.2.1 dX3_pushes_40 (lv_at hl 1 rfl) ?_
        refine lv_iconst (v := 5) hC.1 hC.2.1 dX3_pushes_42 (by decide) ?_
        refine lv_icmp_ne (tgt := 62) hC.1 hC.2.1 dX3_pushes_43 (by decide) (fun c14 => ?_) (fun c14 => ?_)
        ·
          skip
          exact jm29 (by rw [ik]; grind)
        ·
          skip
          refine lv_aload_n hC.1 hC.2.1 dX3_pushes_46 rfl (lv_at hl 3 rfl) ?_
          refine m_get hC hK hM 19 (by decide) q1281 rfl rfl dX3_pushes_47 ?_
          refine lv_iload_n hC.1 hC.2.1 dX3_pushes_50 rfl (lv_at hl 2 rfl) ?_
          refine m_iald hC hK hM 19 rfl (n := k0) (by first | rfl | (simp only [← nI_add, ← pk_mul]; rfl)) (by first | decide | (show _ < 6; omega)) dX3_pushes_51 ?_
          refine lv_aload_n hC.1 hC.2.1 dX3_pushes_52 rfl (lv_at hl 3 rfl) ?_
          refine lv_iload_n hC.1 hC.2.1 dX3_pushes_53 rfl (lv_at hl 2 rfl) ?_
          refine lv_iconst (v := 2) hC.1 hC.2.1 dX3_pushes_54 (by decide) ?_
          refine m_cr hC hK hM (mc_stoneOf l _ _ k0 2 (by omega) (by omega)) (cw_m 2 hC.2.2.2.2 q1467 q1469 qs41 q1470 ⟨rfl, rfl⟩ rfl (by decide +kernel) ⟨Nat.le_of_ble_eq_true rfl, Nat.le_of_ble_eq_true rfl⟩) rfl hl.1 rfl (lv_room (Nat.le_of_ble_eq_true rfl)) dX3_pushes_55 ⟨Nat.le_of_ble_eq_true rfl, Nat.le_of_ble_eq_true rfl⟩ ?_
          refine lv_icmp_eq (tgt := 62) hC.1 hC.2.1 dX3_pushes_58 (by decide) (fun c16 => ?_) (fun c16 => ?_)
          ·
            skip
            exact jm29 (by rw [ik]; grind)
          ·
            skip
            have hsk : (w 5 (26 + 4 * j) = 3 ∧ nt % 2 = 1) ∨ (w 5 (26 + 4 * j) = 5 ∧ ¬ w 19 (iN (w 5 (26 + 4 * j + 1))) = w 5 (8 + 3 * iN (w 5 (26 + 4 * j + 1)) + 2)) := by rw [ik]; grind
            refine m_vret hC hr hlocks hM dX3_pushes_61 ?_
            exact ⟨rfl, by rw [pushF, if_pos hsk, wput_self]⟩
      ·
        skip
        refine lv_iload hC.1 hC.2.1 dX3_pushes_35 (lv_at hl 0 rfl) ?_
        refine lv_if_ne (tgt := 61) hC.1 hC.2.1 dX3_pushes_37 (by decide) (fun c17 => ?_) (fun c17 => ?_)
        ·
          skip
          have hsk : (w 5 (26 + 4 * j) = 3 ∧ nt % 2 = 1) ∨ (w 5 (26 + 4 * j) = 5 ∧ ¬ w 19 (iN (w 5 (26 + 4 * j + 1))) = w 5 (8 + 3 * iN (w 5 (26 + 4 * j + 1)) + 2)) := by rw [ik]; grind
          refine m_vret hC hr hlocks hM dX3_pushes_61 ?_
          exact ⟨rfl, by rw [pushF, if_pos hsk, wput_self]⟩
        ·
          skip
          refine lv_iload hC.1 hC.2.1 dX3_pushes_40 (lv_at hl 1 rfl) ?_
          refine lv_iconst (v := 5) hC.1 hC.2.1 dX3_pushes_42 (by decide) ?_
          refine lv_icmp_ne (tgt := 62) hC.1 hC.2.1 dX3_pushes_43 (by decide) (fun c18 => ?_) (fun c18 => ?_)
          ·
            skip
            exact jm29 (by rw [ik]; grind)
          ·
            skip
            refine lv_aload_n hC.1 hC.2.1 dX3_pushes_46 rfl (lv_at hl 3 rfl) ?_
            refine m_get hC hK hM 19 (by decide) q1281 rfl rfl dX3_pushes_47 ?_
            refine lv_iload_n hC.1 hC.2.1 dX3_pushes_50 rfl (lv_at hl 2 rfl) ?_
            refine m_iald hC hK hM 19 rfl (n := k0) (by first | rfl | (simp only [← nI_add, ← pk_mul]; rfl)) (by first | decide | (show _ < 6; omega)) dX3_pushes_51 ?_
            refine lv_aload_n hC.1 hC.2.1 dX3_pushes_52 rfl (lv_at hl 3 rfl) ?_
            refine lv_iload_n hC.1 hC.2.1 dX3_pushes_53 rfl (lv_at hl 2 rfl) ?_
            refine lv_iconst (v := 2) hC.1 hC.2.1 dX3_pushes_54 (by decide) ?_
            refine m_cr hC hK hM (mc_stoneOf l _ _ k0 2 (by omega) (by omega)) (cw_m 2 hC.2.2.2.2 q1467 q1469 qs41 q1470 ⟨rfl, rfl⟩ rfl (by decide +kernel) ⟨Nat.le_of_ble_eq_true rfl, Nat.le_of_ble_eq_true rfl⟩) rfl hl.1 rfl (lv_room (Nat.le_of_ble_eq_true rfl)) dX3_pushes_55 ⟨Nat.le_of_ble_eq_true rfl, Nat.le_of_ble_eq_true rfl⟩ ?_
            refine lv_icmp_eq (tgt := 62) hC.1 hC.2.1 dX3_pushes_58 (by decide) (fun c20 => ?_) (fun c20 => ?_)
            ·
              skip
              exact jm29 (by rw [ik]; grind)
            ·
              skip
              have hsk : (w 5 (26 + 4 * j) = 3 ∧ nt % 2 = 1) ∨ (w 5 (26 + 4 * j) = 5 ∧ ¬ w 19 (iN (w 5 (26 + 4 * j + 1))) = w 5 (8 + 3 * iN (w 5 (26 + 4 * j + 1)) + 2)) := by rw [ik]; grind
              refine m_vret hC hr hlocks hM dX3_pushes_61 ?_
              exact ⟨rfl, by rw [pushF, if_pos hsk, wput_self]⟩
  ·
    skip
    refine lv_icmp_ne (tgt := 26) hC.1 hC.2.1 dX3_pushes_19 (by decide) (fun c21 => ?_) (fun c21 => ?_)
    ·
      skip
      refine lv_iconst (v := 0) hC.1 hC.2.1 dX3_pushes_26 (by decide) ?_
      first | exact jt19 (by first | exact neq_t (a := nt % 2) (b := 1) (by assumption) | exact neq_f (a := nt % 2) (b := 1) (by assumption)) | exact jf19 (by first | exact neq_t (a := nt % 2) (b := 1) (by assumption) | exact neq_f (a := nt % 2) (b := 1) (by assumption))
    ·
      skip
      refine lv_iconst (v := 1) hC.1 hC.2.1 dX3_pushes_22 (by decide) ?_
      refine lv_goto (tgt := 27) hC.1 hC.2.1 dX3_pushes_23 (by decide) ?_
      first | exact jt19 (by first | exact neq_t (a := nt % 2) (b := 1) (by assumption) | exact neq_f (a := nt % 2) (b := 1) (by assumption)) | exact jf19 (by first | exact neq_t (a := nt % 2) (b := 1) (by assumption) | exact neq_f (a := nt % 2) (b := 1) (by assumption))
