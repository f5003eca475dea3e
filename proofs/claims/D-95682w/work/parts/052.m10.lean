set_option maxHeartbeats 400000 in
set_option maxRecDepth 100000 in
theorem mc_ends (l : Launch) (v : Nat → Int32) (w : Nat → Nat → Int32) (x y f : Int32) (n : Nat) (en : w 5 4 = nI n) (hn : n ≤ 6) (tm : Nat) (et : w 5 7 = nI tm) (ht : tm ≤ 12) (hto : tmOk (w 5) n tm) : mMi l yX3_ends cX3_ends 4 (some .int) ({ frames := 2, cells := 0, slots := 0, locals := 48 }) [.int x, .int y, .int f] v w (fun r v1 w1 => r = op_ends w x y f ∧ v1 = upd v 0 0 ∧ ∀ q, q ≠ 20 → w1 q = w q) := by
  intro D ac A G mo ad
  refine m_body rfl (Nat.le_of_ble_eq_true rfl) ?_
  intro p e s m args below meth c ls hC hr hlocks hK hM hl
  have hl : lv_has ls 4 [(0, .ref mo), (1, .int x), (2, .int y), (3, .int f)] := hl
  have i4 : iN (w 5 4) = n := by rw [en]; exact iN_nI (by omega)
  have i7 : iN (w 5 7) = tm := by rw [et]; exact iN_nI (by omega)
  have hA := layM_agr (ro := w 5) (w 20) (fun _ => 0) hn hto
  have hO := okL_agr hA 7 (Nat.le_refl 7)
  refine lv_aload_n hC.1 hC.2.1 dX3_ends_0 rfl (lv_at hl 0 rfl) ?_
  refine lv_iconst (v := 0) hC.1 hC.2.1 dX3_ends_1 (by decide) ?_
  refine m_put hC hK hM 0 (by decide) q1262 rfl rfl rfl rfl dX3_ends_2 (fun H locs hM => ?_)
  refine lv_aload_n hC.1 hC.2.1 dX3_ends_5 rfl (lv_at hl 0 rfl) ?_
  refine lv_iload_n hC.1 hC.2.1 dX3_ends_6 rfl (lv_at hl 1 rfl) ?_
  refine m_cr hC hK hM (mc_isStone l _ _ _) (cw_m 1 hC.2.2.2.2 q1495 q1497 qs47 q1498 ⟨rfl, rfl⟩ rfl (by decide +kernel) ⟨Nat.le_of_ble_eq_true rfl, Nat.le_of_ble_eq_true rfl⟩) rfl hl.1 rfl (lv_room (Nat.le_of_ble_eq_true rfl)) dX3_ends_7 ⟨Nat.le_of_ble_eq_true rfl, Nat.le_of_ble_eq_true rfl⟩ ?_
  refine lv_if_eq (tgt := 36) hC.1 hC.2.1 dX3_ends_10 (by decide) (fun c2 => ?_) (fun c2 => ?_)
  ·
    skip
    rw [bI_0] at c2
    have qb := c2
    refine lv_ldc hC.1 hC.2.1 hC.2.2.2.1 (hC.2.2.2.2 _ q1354) dX3_ends_36 ?_
    refine m_iret hC hr hlocks hM dX3_ends_38 ?_
    exact ⟨by rw [op_ends, if_pos (Or.inl qb)], rfl, fun _ _ => rfl⟩
  ·
    skip
    rw [bI_n0, en] at c2
    obtain ⟨j, hj, rfl⟩ := in_nI1 (by omega) c2
    have ej : iN (nI j) = j := iN_nI (by omega)
    have q1 := c2
    refine lv_aload_n hC.1 hC.2.1 dX3_ends_13 rfl (lv_at hl 0 rfl) ?_
    refine lv_iload_n hC.1 hC.2.1 dX3_ends_14 rfl (lv_at hl 2 rfl) ?_
    refine m_cr hC hK hM (mc_isStone l _ _ _) (cw_m 1 hC.2.2.2.2 q1495 q1497 qs47 q1498 ⟨rfl, rfl⟩ rfl (by decide +kernel) ⟨Nat.le_of_ble_eq_true rfl, Nat.le_of_ble_eq_true rfl⟩) rfl hl.1 rfl (lv_room (Nat.le_of_ble_eq_true rfl)) dX3_ends_15 ⟨Nat.le_of_ble_eq_true rfl, Nat.le_of_ble_eq_true rfl⟩ ?_
    refine lv_if_eq (tgt := 36) hC.1 hC.2.1 dX3_ends_18 (by decide) (fun c4 => ?_) (fun c4 => ?_)
    ·
      skip
      rw [bI_0] at c4
      have qb := c4
      refine lv_ldc hC.1 hC.2.1 hC.2.2.2.1 (hC.2.2.2.2 _ q1354) dX3_ends_36 ?_
      refine m_iret hC hr hlocks hM dX3_ends_38 ?_
      exact ⟨by rw [op_ends, if_pos (Or.inr (Or.inl qb))], rfl, fun _ _ => rfl⟩
    ·
      skip
      rw [bI_n0, en] at c4
      obtain ⟨q, hq, rfl⟩ := in_nI1 (by omega) c4
      have eq : iN (nI q) = q := iN_nI (by omega)
      have q2 := c4
      refine lv_iload_n hC.1 hC.2.1 dX3_ends_21 rfl (lv_at hl 1 rfl) ?_
      refine lv_iload_n hC.1 hC.2.1 dX3_ends_22 rfl (lv_at hl 2 rfl) ?_
      refine lv_icmp_ge (tgt := 36) hC.1 hC.2.1 dX3_ends_23 (by decide) (fun c5 => ?_) (fun c5 => ?_)
      ·
        have nc5 := Int32.not_lt.mpr c5
        have qb := nc5
        refine lv_ldc hC.1 hC.2.1 hC.2.2.2.1 (hC.2.2.2.2 _ q1354) dX3_ends_36 ?_
        refine m_iret hC hr hlocks hM dX3_ends_38 ?_
        exact ⟨by rw [op_ends, if_pos (Or.inr (Or.inr (Or.inl qb)))], rfl, fun _ _ => rfl⟩
      ·
        have nc5 := Int32.not_le.mp c5
        have q3 := nc5
        refine lv_iload_n hC.1 hC.2.1 dX3_ends_26 rfl (lv_at hl 3 rfl) ?_
        refine lv_i2l hC.1 hC.2.1 dX3_ends_27 rfl ?_
        refine lv_lconst (v := 0) hC.1 hC.2.1 dX3_ends_28 (by decide) ?_
        refine lv_lconst (v := 1) hC.1 hC.2.1 dX3_ends_29 (by decide) ?_
        refine s_ci hC ((mc_in l (a := 0) (b := 1) rfl rfl rfl)) (cw_ms 3 hC.2.2.2.2 q1350 q1351 q1352 ⟨rfl, rfl⟩ rfl (by decide +kernel) ⟨Nat.le_of_ble_eq_true rfl, Nat.le_of_ble_eq_true rfl⟩) rfl hl.1 rfl (lv_room (Nat.le_of_ble_eq_true rfl)) dX3_ends_30 ⟨Nat.le_of_ble_eq_true rfl, Nat.le_of_ble_eq_true rfl⟩ ?_
        refine lv_if_ne (tgt := 39) hC.1 hC.2.1 dX3_ends_33 (by decide) (fun c7 => ?_) (fun c7 => ?_)
        ·
          skip
          rw [bI_n0] at c7
          have q4 := c7
          refine lv_aload_n hC.1 hC.2.1 dX3_ends_39 rfl (lv_at hl 0 rfl) ?_
          refine m_cie hC hK hM (mc_layMost l _ _ n en hn tm et ht hto) (cw_m 0 hC.2.2.2.2 q1541 q1543 qs50 q1544 ⟨rfl, rfl⟩ rfl (by decide +kernel) ⟨Nat.le_of_ble_eq_true rfl, Nat.le_of_ble_eq_true rfl⟩) rfl hl.1 rfl (lv_room (Nat.le_of_ble_eq_true rfl)) dX3_ends_40 ⟨Nat.le_of_ble_eq_true rfl, Nat.le_of_ble_eq_true rfl⟩ (fun H locs hM => ?_)
          generalize hF : layM (w 5) (w 20) n tm = F at hM hA hO ⊢
          generalize hZ : layM (w 5) (fun _ => 0) n tm = Z at hA hO
          refine lv_if_ne (tgt := 49) hC.1 hC.2.1 dX3_ends_43 (by decide) (fun c9 => ?_) (fun c9 => ?_)
          ·
            skip
            rw [bI_n0, hO] at c9
            have co := c9
            refine lv_iload_n hC.1 hC.2.1 dX3_ends_49 rfl (lv_at hl 3 rfl) ?_
            refine lv_if_ne (tgt := 68) hC.1 hC.2.1 dX3_ends_50 (by decide) (fun c10 => ?_) (fun c10 => ?_)
            ·
              skip
              have cf := c10
              refine lv_aload_n hC.1 hC.2.1 dX3_ends_68 rfl (lv_at hl 0 rfl) ?_
              refine m_get hC hK hM 20 (by decide) q1282 rfl rfl dX3_ends_69 ?_
              refine lv_bipush (v := 7) hC.1 hC.2.1 dX3_ends_72 (by decide) ?_
              refine lv_iload_n hC.1 hC.2.1 dX3_ends_74 rfl (lv_at hl 1 rfl) ?_
              refine lv_imul hC.1 hC.2.1 dX3_ends_75 ?_
              refine lv_iload_n hC.1 hC.2.1 dX3_ends_76 rfl (lv_at hl 2 rfl) ?_
              refine lv_iadd hC.1 hC.2.1 dX3_ends_77 ?_
              refine m_iald hC hK hM 20 rfl (n := ((7 * j) + q)) (by first | rfl | (simp only [← nI_add, ← pk_mul]; rfl)) (by first | decide | (show _ < 49; omega)) dX3_ends_78 ?_
              rw [wput_s, hA (7 * j + q) (by omega)]
              refine m_iret hC hr hlocks hM dX3_ends_79 ?_
              have hx : ¬ (¬ (0 ≤ nI j ∧ nI j ≤ w 5 4 - 1) ∨ ¬ (0 ≤ nI q ∧ nI q ≤ w 5 4 - 1) ∨ ¬ nI j < nI q ∨ ¬ (0 ≤ f ∧ f ≤ 1)) := by
                intro h
                rcases h with h | h | h | h
                · exact h (by rw [en]; exact q1)
                · exact h (by rw [en]; exact q2)
                · exact h q3
                · exact h q4
              have hZ2 : layZ (w 5) n tm = Z := hZ
              exact ⟨by rw [op_ends, if_neg hx, i4, i7, hZ2, if_neg (fun h => h co), if_neg cf, ej, eq], rfl, fun q h => wput_n h⟩
            ·
              skip
              have cf := c10
              refine lv_aload_n hC.1 hC.2.1 dX3_ends_53 rfl (lv_at hl 0 rfl) ?_
              refine m_get hC hK hM 20 (by decide) q1282 rfl rfl dX3_ends_54 ?_
              refine lv_bipush (v := 7) hC.1 hC.2.1 dX3_ends_57 (by decide) ?_
              refine lv_iload_n hC.1 hC.2.1 dX3_ends_59 rfl (lv_at hl 2 rfl) ?_
              refine lv_imul hC.1 hC.2.1 dX3_ends_60 ?_
              refine lv_iload_n hC.1 hC.2.1 dX3_ends_61 rfl (lv_at hl 1 rfl) ?_
              refine lv_iadd hC.1 hC.2.1 dX3_ends_62 ?_
              refine m_iald hC hK hM 20 rfl (n := ((7 * q) + j)) (by first | rfl | (simp only [← nI_add, ← pk_mul]; rfl)) (by first | decide | (show _ < 49; omega)) dX3_ends_63 ?_
              rw [wput_s, hA (7 * q + j) (by omega)]
              refine lv_ineg hC.1 hC.2.1 dX3_ends_64 ?_
              refine lv_goto (tgt := 79) hC.1 hC.2.1 dX3_ends_65 (by decide) ?_
              refine m_iret hC hr hlocks hM dX3_ends_79 ?_
              have hx : ¬ (¬ (0 ≤ nI j ∧ nI j ≤ w 5 4 - 1) ∨ ¬ (0 ≤ nI q ∧ nI q ≤ w 5 4 - 1) ∨ ¬ nI j < nI q ∨ ¬ (0 ≤ f ∧ f ≤ 1)) := by
                intro h
                rcases h with h | h | h | h
                · exact h (by rw [en]; exact q1)
                · exact h (by rw [en]; exact q2)
                · exact h q3
                · exact h q4
              have hZ2 : layZ (w 5) n tm = Z := hZ
              exact ⟨by rw [op_ends, if_neg hx, i4, i7, hZ2, if_neg (fun h => h co), if_pos cf, ej, eq], rfl, fun q h => wput_n h⟩
          ·
            skip
            rw [bI_0, hO] at c9
            have co := c9
            refine lv_ldc hC.1 hC.2.1 hC.2.2.2.1 (hC.2.2.2.2 _ q1395) dX3_ends_46 ?_
            refine m_iret hC hr hlocks hM dX3_ends_48 ?_
            have hx : ¬ (¬ (0 ≤ nI j ∧ nI j ≤ w 5 4 - 1) ∨ ¬ (0 ≤ nI q ∧ nI q ≤ w 5 4 - 1) ∨ ¬ nI j < nI q ∨ ¬ (0 ≤ f ∧ f ≤ 1)) := by
              intro h
              rcases h with h | h | h | h
              · exact h (by rw [en]; exact q1)
              · exact h (by rw [en]; exact q2)
              · exact h q3
              · exact h q4
            have hZ2 : layZ (w 5) n tm = Z := hZ
            exact ⟨by rw [op_ends, if_neg hx, i4, i7, hZ2, if_pos co], rfl, fun q h => wput_n h⟩
        ·
          skip
          rw [bI_0] at c7
          have qb := c7
          refine lv_ldc hC.1 hC.2.1 hC.2.2.2.1 (hC.2.2.2.2 _ q1354) dX3_ends_36 ?_
          refine m_iret hC hr hlocks hM dX3_ends_38 ?_
          exact ⟨by rw [op_ends, if_pos (Or.inr (Or.inr (Or.inr qb)))], rfl, fun _ _ => rfl⟩

set_option maxHeartbeats 400000 in
set_option maxRecDepth 100000 in
theorem mc_widest (l : Launch) (v : Nat → Int32) (w : Nat → Nat → Int32) (n : Nat) (en : w 5 4 = nI n) (hn : n ≤ 6) (tm : Nat) (et : w 5 7 = nI tm) (ht : tm ≤ 12) (hto : tmOk (w 5) n tm) : mMi l yX3_widest cX3_widest 6 (some .int) ({ frames := 2, cells := 0, slots := 0, locals := 48 }) [] v w (fun r v1 w1 => r = op_widest w ∧ v1 = upd v 0 0 ∧ ∀ q, q ≠ 20 → w1 q = w q) := by
  intro D ac A G mo ad
  refine m_body rfl (Nat.le_of_ble_eq_true rfl) ?_
  intro p e s m args below meth c ls hC hr hlocks hK hM hl
  have hl : lv_has ls 6 [(0, .ref mo)] := hl
  have i4 : iN (w 5 4) = n := by rw [en]; exact iN_nI (by omega)
  have i7 : iN (w 5 7) = tm := by rw [et]; exact iN_nI (by omega)
  have hA := layM_agr (ro := w 5) (w 20) (fun _ => 0) hn hto
  have hO := okL_agr hA 7 (Nat.le_refl 7)
  refine lv_aload_n hC.1 hC.2.1 dX3_widest_0 rfl (lv_at hl 0 rfl) ?_
  refine lv_iconst (v := 0) hC.1 hC.2.1 dX3_widest_1 (by decide) ?_
  refine m_put hC hK hM 0 (by decide) q1262 rfl rfl rfl rfl dX3_widest_2 (fun H locs hM => ?_)
  refine lv_aload_n hC.1 hC.2.1 dX3_widest_5 rfl (lv_at hl 0 rfl) ?_
  refine m_cr hC hK hM (mc_isThere l _ _) (cw_m 0 hC.2.2.2.2 q1458 q1460 qs39 q1461 ⟨rfl, rfl⟩ rfl (by decide +kernel) ⟨Nat.le_of_ble_eq_true rfl, Nat.le_of_ble_eq_true rfl⟩) rfl hl.1 rfl (lv_room (Nat.le_of_ble_eq_true rfl)) dX3_widest_6 ⟨Nat.le_of_ble_eq_true rfl, Nat.le_of_ble_eq_true rfl⟩ ?_
  refine lv_if_ne (tgt := 15) hC.1 hC.2.1 dX3_widest_9 (by decide) (fun c2 => ?_) (fun c2 => ?_)
  ·
    skip
    rw [bI_n0] at c2
    have cT := c2
    refine lv_aload_n hC.1 hC.2.1 dX3_widest_15 rfl (lv_at hl 0 rfl) ?_
    refine m_cie hC hK hM (mc_layMost l _ _ n en hn tm et ht hto) (cw_m 0 hC.2.2.2.2 q1541 q1543 qs50 q1544 ⟨rfl, rfl⟩ rfl (by decide +kernel) ⟨Nat.le_of_ble_eq_true rfl, Nat.le_of_ble_eq_true rfl⟩) rfl hl.1 rfl (lv_room (Nat.le_of_ble_eq_true rfl)) dX3_widest_16 ⟨Nat.le_of_ble_eq_true rfl, Nat.le_of_ble_eq_true rfl⟩ (fun H locs hM => ?_)
    generalize hF : layM (w 5) (w 20) n tm = F at hM hA hO ⊢
    generalize hZ : layM (w 5) (fun _ => 0) n tm = Z at hA hO
    refine lv_if_ne (tgt := 25) hC.1 hC.2.1 dX3_widest_19 (by decide) (fun c4 => ?_) (fun c4 => ?_)
    ·
      skip
      rw [bI_n0, hO] at c4
      have co := c4
      refine lv_ldc hC.1 hC.2.1 hC.2.2.2.1 (hC.2.2.2.2 _ q1395) dX3_widest_25 ?_
      refine lv_istore_n (lv' := [(1, _), (0, _)]) hC.1 hC.2.1 dX3_widest_27 rfl hl (by decide) rfl (fun ls hl => ?_)
      refine lv_iconst (v := (-1)) hC.1 hC.2.1 dX3_widest_28 (by decide) ?_
      refine lv_istore_n (lv' := [(2, _), (1, _), (0, _)]) hC.1 hC.2.1 dX3_widest_29 rfl hl (by decide) rfl (fun ls hl => ?_)
      refine lv_iconst (v := 0) hC.1 hC.2.1 dX3_widest_30 (by decide) ?_
      refine lv_istore_n (lv' := [(3, _), (2, _), (1, _), (0, _)]) hC.1 hC.2.1 dX3_widest_31 rfl hl (by decide) rfl (fun ls hl => ?_)
      refine w_ind (α := Nat) 32 (fun (a : Nat) => n - a) (fun (a : Nat) (H : Heap) (locs : List Loc) (ls : Array Slot) => (a ≤ n) ∧ MS D ac A G s.heap mo ad (upd v 0 0) (wput w 20 F) H locs ∧ lv_has ls 6 [(0, .ref mo), (1, .int (wdO F n a).1), (2, .int (wdO F n a).2), (3, .int (nI a))]) ?_ (0) ⟨by omega, hM, lv_sub hl [3, 2, 1, 0] rfl⟩
      intro a H locs ls hI ih32
      obtain ⟨hI32, hM, hl⟩ := hI
      refine lv_iload_n hC.1 hC.2.1 dX3_widest_32 rfl (lv_at hl 3 rfl) ?_
      refine lv_aload_n hC.1 hC.2.1 dX3_widest_33 rfl (lv_at hl 0 rfl) ?_
      refine m_get hC hK hM 5 (by decide) q1267 rfl rfl dX3_widest_34 ?_
      refine lv_iconst (v := 4) hC.1 hC.2.1 dX3_widest_37 (by decide) ?_
      refine m_iald hC hK hM 5 rfl (n := 4) (by first | rfl | (simp only [← nI_add, ← pk_mul]; rfl)) (by first | decide | (show _ < 94; omega)) dX3_widest_38 ?_
      rw [show wput w 20 F 5 4 = nI n from en]
      refine lv_icmp_ge (tgt := 128) hC.1 hC.2.1 dX3_widest_39 (by decide) (fun c5 => ?_) (fun c5 => ?_)
      ·
        have nc5 := Int32.not_lt.mpr c5
        have hx39 := nle_t (a := n) (b := a) c5
        obtain rfl : n = a := by omega
        refine lv_iload_n hC.1 hC.2.1 dX3_widest_128 rfl (lv_at hl 1 rfl) ?_
        refine m_iret hC hr hlocks hM dX3_widest_129 ?_
        exact ⟨by rw [op_widest, if_neg (fun h => h cT), i4, i7, show layZ (w 5) n tm = Z from hZ, if_neg (fun h => h co), ← wdO_agr hA hn n (Nat.le_refl n)], rfl, fun q h => wput_n h⟩
      ·
        have nc5 := Int32.not_le.mp c5
        have hx39 := nle_f (a := n) (b := a) c5
        refine lv_iload_n hC.1 hC.2.1 dX3_widest_42 rfl (lv_at hl 3 rfl) ?_
        refine lv_iconst (v := 1) hC.1 hC.2.1 dX3_widest_43 (by decide) ?_
        refine lv_iadd hC.1 hC.2.1 dX3_widest_44 ?_
        rw [nI_1]
        refine lv_istore (lv' := [(4, _), (0, _), (1, _), (2, _), (3, _)]) hC.1 hC.2.1 dX3_widest_45 hl (by decide) rfl (fun ls hl => ?_)
        refine w_ind (α := Nat) 47 (fun (i : Nat) => n - (a + 1) - i) (fun (i : Nat) (H : Heap) (locs : List Loc) (ls : Array Slot) => (i ≤ n - (a + 1)) ∧ MS D ac A G s.heap mo ad (upd v 0 0) (wput w 20 F) H locs ∧ lv_has ls 6 [(0, .ref mo), (1, .int (wdI F a (wdO F n a) i).1), (2, .int (wdI F a (wdO F n a) i).2), (3, .int (nI a)), (4, .int (nI (a + 1 + i)))]) ?_ (0) ⟨by omega, hM, lv_sub hl [1, 2, 3, 4, 0] rfl⟩
        intro i H locs ls hI ih47
        obtain ⟨hI47, hM, hl⟩ := hI
        refine lv_iload hC.1 hC.2.1 dX3_widest_47 (lv_at hl 4 rfl) ?_
        refine lv_aload_n hC.1 hC.2.1 dX3_widest_49 rfl (lv_at hl 0 rfl) ?_
        refine m_get hC hK hM 5 (by decide) q1267 rfl rfl dX3_widest_50 ?_
        refine lv_iconst (v := 4) hC.1 hC.2.1 dX3_widest_53 (by decide) ?_
        refine m_iald hC hK hM 5 rfl (n := 4) (by first | rfl | (simp only [← nI_add, ← pk_mul]; rfl)) (by first | decide | (show _ < 94; omega)) dX3_widest_54 ?_
        rw [show wput w 20 F 5 4 = nI n from en]
        refine lv_icmp_ge (tgt := 122) hC.1 hC.2.1 dX3_widest_55 (by decide) (fun c6 => ?_) (fun c6 => ?_)
        ·
          have nc6 := Int32.not_lt.mpr c6
          have hx55 := nle_t (a := n) (b := a + 1 + i) c6
          obtain rfl : i = n - (a + 1) := by omega
          refine lv_iinc (v := nI (a + 1)) (lv' := [(3, _), (0, _), (1, _), (2, _), (4, _)]) hC.1 hC.2.1 dX3_widest_122 hl (k := 3) rfl (nI_1 _) (by decide) rfl (fun ls hl => ?_)
          refine lv_goto (tgt := 32) hC.1 hC.2.1 dX3_widest_125 (by decide) ?_
          exact ih32 (a + 1) _ _ _ (by omega) ⟨by omega, hM, lv_sub hl [1, 2, 3, 0] rfl⟩
        ·
          have nc6 := Int32.not_le.mp c6
          have hx55 := nle_f (a := n) (b := a + 1 + i) c6
          refine lv_aload_n hC.1 hC.2.1 dX3_widest_58 rfl (lv_at hl 0 rfl) ?_
          refine m_get hC hK hM 20 (by decide) q1282 rfl rfl dX3_widest_59 ?_
          refine lv_bipush (v := 7) hC.1 hC.2.1 dX3_widest_62 (by decide) ?_
          refine lv_iload_n hC.1 hC.2.1 dX3_widest_64 rfl (lv_at hl 3 rfl) ?_
          refine lv_imul hC.1 hC.2.1 dX3_widest_65 ?_
          refine lv_iload hC.1 hC.2.1 dX3_widest_66 (lv_at hl 4 rfl) ?_
          refine lv_iadd hC.1 hC.2.1 dX3_widest_68 ?_
          refine m_iald hC hK hM 20 rfl (n := ((7 * a) + (a + 1 + i))) (by first | rfl | (simp only [← nI_add, ← pk_mul]; rfl)) (by first | decide | (show _ < 49; omega)) dX3_widest_69 ?_
          rw [wput_s]
          refine lv_aload_n hC.1 hC.2.1 dX3_widest_70 rfl (lv_at hl 0 rfl) ?_
          refine m_get hC hK hM 20 (by decide) q1282 rfl rfl dX3_widest_71 ?_
          refine lv_bipush (v := 7) hC.1 hC.2.1 dX3_widest_74 (by decide) ?_
          refine lv_iload hC.1 hC.2.1 dX3_widest_76 (lv_at hl 4 rfl) ?_
          refine lv_imul hC.1 hC.2.1 dX3_widest_78 ?_
          refine lv_iload_n hC.1 hC.2.1 dX3_widest_79 rfl (lv_at hl 3 rfl) ?_
          refine lv_iadd hC.1 hC.2.1 dX3_widest_80 ?_
          refine m_iald hC hK hM 20 rfl (n := ((7 * (a + 1 + i)) + a)) (by first | rfl | (simp only [← nI_add, ← pk_mul]; rfl)) (by first | decide | (show _ < 49; omega)) dX3_widest_81 ?_
          rw [wput_s]
          refine lv_iadd hC.1 hC.2.1 dX3_widest_82 ?_
          refine lv_istore (lv' := [(5, _), (0, _), (1, _), (2, _), (3, _), (4, _)]) hC.1 hC.2.1 dX3_widest_83 hl (by decide) rfl (fun ls hl => ?_)
          refine lv_iload hC.1 hC.2.1 dX3_widest_85 (lv_at hl 0 rfl) ?_
          refine lv_iload_n hC.1 hC.2.1 dX3_widest_87 rfl (lv_at hl 3 rfl) ?_
          refine w_tern2 (cond := (wdI F a (wdO F n a) i).2 < F (7 * a + (a + 1 + i)) + F (7 * (a + 1 + i) + a)) (a := 6 * nI a + nI (a + 1 + i)) (b := (wdI F a (wdO F n a) i).1) 102 ?_ (fun jt88 jf88 => ?_)
          ·
            skip
            refine lv_istore_n (lv' := [(1, _), (5, _), (0, _), (2, _), (3, _), (4, _)]) hC.1 hC.2.1 dX3_widest_102 rfl hl (by decide) rfl (fun ls hl => ?_)
            refine lv_iload hC.1 hC.2.1 dX3_widest_103 (lv_at hl 1 rfl) ?_
            refine lv_iload_n hC.1 hC.2.1 dX3_widest_105 rfl (lv_at hl 3 rfl) ?_
            refine w_tern2 (cond := (wdI F a (wdO F n a) i).2 < F (7 * a + (a + 1 + i)) + F (7 * (a + 1 + i) + a)) (a := F (7 * a + (a + 1 + i)) + F (7 * (a + 1 + i) + a)) (b := (wdI F a (wdO F n a) i).2) 115 ?_ (fun jt106 jf106 => ?_)
            ·
              skip
              refine lv_istore_n (lv' := [(2, _), (1, _), (5, _), (0, _), (3, _), (4, _)]) hC.1 hC.2.1 dX3_widest_115 rfl hl (by decide) rfl (fun ls hl => ?_)
              refine lv_iinc (v := nI ((a + 1 + i) + 1)) (lv' := [(4, _), (2, _), (1, _), (5, _), (0, _), (3, _)]) hC.1 hC.2.1 dX3_widest_116 hl (k := 5) rfl (nI_1 _) (by decide) rfl (fun ls hl => ?_)
              refine lv_goto (tgt := 47) hC.1 hC.2.1 dX3_widest_119 (by decide) ?_
              rw [show (if (wdI F a (wdO F n a) i).2 < F (7 * a + (a + 1 + i)) + F (7 * (a + 1 + i) + a) then 6 * nI a + nI (a + 1 + i) else (wdI F a (wdO F n a) i).1) = (wdI F a (wdO F n a) (i + 1)).1 by rw [wdI]; split <;> rfl, show (if (wdI F a (wdO F n a) i).2 < F (7 * a + (a + 1 + i)) + F (7 * (a + 1 + i) + a) then F (7 * a + (a + 1 + i)) + F (7 * (a + 1 + i) + a) else (wdI F a (wdO F n a) i).2) = (wdI F a (wdO F n a) (i + 1)).2 by rw [wdI]; split <;> rfl] at hl
              exact ih47 (i + 1) _ _ _ (by omega) ⟨by omega, hM, lv_sub hl [4, 2, 1, 5, 0] rfl⟩
            ·
              skip
              refine lv_icmp_le (tgt := 114) hC.1 hC.2.1 dX3_widest_106 (by decide) (fun c7 => ?_) (fun c7 => ?_)
              ·
                have nc7 := Int32.not_lt.mpr c7
                have cw := nc7
                refine lv_iload_n hC.1 hC.2.1 dX3_widest_114 rfl (lv_at hl 3 rfl) ?_
                first | exact jt106 (by exact cw) | exact jf106 (by exact cw)
              ·
                have nc7 := Int32.not_le.mp c7
                have cw := nc7
                refine lv_iload hC.1 hC.2.1 dX3_widest_109 (lv_at hl 1 rfl) ?_
                refine lv_goto (tgt := 115) hC.1 hC.2.1 dX3_widest_111 (by decide) ?_
                first | exact jt106 (by exact cw) | exact jf106 (by exact cw)
          ·
            skip
            refine lv_icmp_le (tgt := 101) hC.1 hC.2.1 dX3_widest_88 (by decide) (fun c8 => ?_) (fun c8 => ?_)
            ·
              have nc8 := Int32.not_lt.mpr c8
              have cw := nc8
              refine lv_iload_n hC.1 hC.2.1 dX3_widest_101 rfl (lv_at hl 2 rfl) ?_
              first | exact jt88 (by exact cw) | exact jf88 (by exact cw)
            ·
              have nc8 := Int32.not_le.mp c8
              have cw := nc8
              refine lv_bipush (v := 6) hC.1 hC.2.1 dX3_widest_91 (by decide) ?_
              refine lv_iload_n hC.1 hC.2.1 dX3_widest_93 rfl (lv_at hl 4 rfl) ?_
              refine lv_imul hC.1 hC.2.1 dX3_widest_94 ?_
              refine lv_iload hC.1 hC.2.1 dX3_widest_95 (lv_at hl 5 rfl) ?_
              refine lv_iadd hC.1 hC.2.1 dX3_widest_97 ?_
              refine lv_goto (tgt := 102) hC.1 hC.2.1 dX3_widest_98 (by decide) ?_
              first | exact jt88 (by exact cw) | exact jf88 (by exact cw)
    ·
      skip
      rw [bI_0, hO] at c4
      have co := c4
      refine lv_ldc hC.1 hC.2.1 hC.2.2.2.1 (hC.2.2.2.2 _ q1395) dX3_widest_22 ?_
      refine m_iret hC hr hlocks hM dX3_widest_24 ?_
      exact ⟨by rw [op_widest, if_neg (fun h => h cT), i4, i7, show layZ (w 5) n tm = Z from hZ, if_pos co], rfl, fun q h => wput_n h⟩
  ·
    skip
    rw [bI_0] at c2
    have cT := c2
    refine lv_ldc hC.1 hC.2.1 hC.2.2.2.1 (hC.2.2.2.2 _ q1462) dX3_widest_12 ?_
    refine m_iret hC hr hlocks hM dX3_widest_14 ?_
    exact ⟨by rw [op_widest, if_pos cT], rfl, fun _ _ => rfl⟩
