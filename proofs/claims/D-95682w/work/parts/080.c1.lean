set_option maxHeartbeats 400000 in
set_option maxRecDepth 100000 in
theorem cc_isIn0 (l : Launch) (V L Hh : Int64) : sMi l yX0_isIn cX0_isIn 6 (some .boolean) ({ frames := 0, cells := 0, slots := 0, locals := 0 }) [.long V, .long L, .long Hh] (bI (L ≤ V ∧ V ≤ Hh)) := by
  refine s_body (own := RX0) rfl (by decide) (Nat.le_of_ble_eq_true rfl) ?_
  intro p e s m args below meth c ls hC hr hlocks hl
  have hl : lv_has ls 6 [(0, .long V), (2, .long L), (4, .long Hh)] := hl
  refine lv_lload_n hC.1 hC.2.1 dX0_isIn_0 rfl (lv_at hl 0 rfl) ?_
  refine lv_lload_n hC.1 hC.2.1 dX0_isIn_1 rfl (lv_at hl 1 rfl) ?_
  refine W.lcmp hC.1 hC.2.1 dX0_isIn_2 ?_
  refine lv_if_lt (tgt := 17) hC.1 hC.2.1 dX0_isIn_3 (by decide) (fun c1 => ?_) (fun c1 => ?_)
  ·
    have nc1 := Int32.not_le.mpr c1
    rw [lg_cmp_lt] at c1
    refine lv_iconst (v := 0) hC.1 hC.2.1 dX0_isIn_17 (by decide) ?_
    refine s_zret hC hr hlocks (by first | exact bI_01 _ | exact Or.inl rfl | exact Or.inr rfl) dX0_isIn_18 ?_
    grind [bI]
  ·
    have nc1 := Int32.not_lt.mp c1
    rw [lg_cmp_lt] at c1
    refine lv_lload_n hC.1 hC.2.1 dX0_isIn_6 rfl (lv_at hl 0 rfl) ?_
    refine lv_lload hC.1 hC.2.1 dX0_isIn_7 (lv_at hl 2 rfl) ?_
    refine W.lcmp hC.1 hC.2.1 dX0_isIn_9 ?_
    refine lv_if_gt (tgt := 17) hC.1 hC.2.1 dX0_isIn_10 (by decide) (fun c2 => ?_) (fun c2 => ?_)
    ·
      have nc2 := Int32.not_le.mpr c2
      rw [lg_cmp_gt] at c2
      refine lv_iconst (v := 0) hC.1 hC.2.1 dX0_isIn_17 (by decide) ?_
      refine s_zret hC hr hlocks (by first | exact bI_01 _ | exact Or.inl rfl | exact Or.inr rfl) dX0_isIn_18 ?_
      grind [bI]
    ·
      have nc2 := Int32.not_lt.mp c2
      rw [lg_cmp_gt] at c2
      refine lv_iconst (v := 1) hC.1 hC.2.1 dX0_isIn_13 (by decide) ?_
      refine lv_goto (tgt := 18) hC.1 hC.2.1 dX0_isIn_14 (by decide) ?_
      refine s_zret hC hr hlocks (by first | exact bI_01 _ | exact Or.inl rfl | exact Or.inr rfl) dX0_isIn_18 ?_
      grind [bI]

theorem cc_isIn (l : Launch) {V L Hh : Int64} {x a b : Int32} (hV : V = x.toInt64) (hL : L = a.toInt64) (hH : Hh = b.toInt64) : sMi l yX0_isIn cX0_isIn 6 (some .boolean) ({ frames := 0, cells := 0, slots := 0, locals := 0 }) [.long V, .long L, .long Hh] (bI (a ≤ x ∧ x ≤ b)) := by
  subst hV; subst hL; subst hH
  have h := cc_isIn0 l x.toInt64 a.toInt64 b.toInt64
  rw [bI_c (q := a ≤ x ∧ x ≤ b) (by rw [i64_le, i64_le])] at h
  exact h

set_option maxHeartbeats 400000 in
set_option maxRecDepth 100000 in
theorem cc_isRow (l : Launch) (x : Int32) : sMi l yX0_isRow cX0_isRow 1 (some .boolean) ({ frames := 1, cells := 0, slots := 0, locals := 25 }) [.int x] (bI (0 ≤ x ∧ x ≤ 7)) := by
  refine s_body (own := RX0) rfl (by decide) (Nat.le_of_ble_eq_true rfl) ?_
  intro p e s m args below meth c ls hC hr hlocks hl
  have hl : lv_has ls 1 [(0, .int x)] := hl
  refine lv_iload_n hC.1 hC.2.1 dX0_isRow_0 rfl (lv_at hl 0 rfl) ?_
  refine lv_i2l hC.1 hC.2.1 dX0_isRow_1 rfl ?_
  refine lv_lconst (v := 0) hC.1 hC.2.1 dX0_isRow_2 (by decide) ?_
  refine lv_ldc2 hC.1 hC.2.1 hC.2.2.2.1 (hC.2.2.2.2 _ q264) dX0_isRow_3 ?_
  refine s_ci hC ((cc_isIn l (a := 0) (b := 7) rfl rfl rfl)) (va_cwS 3 hC.2.2.2.2 (lw_S q265 q266 q63 q267) rfl rfl rfl (by decide +kernel) ⟨Nat.le_of_ble_eq_true rfl, Nat.le_of_ble_eq_true rfl⟩) rfl hl.1 rfl (lv_room (Nat.le_of_ble_eq_true rfl)) dX0_isRow_6 ⟨Nat.le_of_ble_eq_true rfl, Nat.le_of_ble_eq_true rfl⟩ ?_
  refine s_zret hC hr hlocks (by first | exact bI_01 _ | exact Or.inl rfl | exact Or.inr rfl) dX0_isRow_9 ?_
  rfl

set_option maxHeartbeats 400000 in
set_option maxRecDepth 100000 in
theorem cc_isHalf (l : Launch) (x : Int32) : sMi l yX0_isHalf cX0_isHalf 1 (some .boolean) ({ frames := 1, cells := 0, slots := 0, locals := 25 }) [.int x] (bI (0 ≤ x ∧ x ≤ 1)) := by
  refine s_body (own := RX0) rfl (by decide) (Nat.le_of_ble_eq_true rfl) ?_
  intro p e s m args below meth c ls hC hr hlocks hl
  have hl : lv_has ls 1 [(0, .int x)] := hl
  refine lv_iload_n hC.1 hC.2.1 dX0_isHalf_0 rfl (lv_at hl 0 rfl) ?_
  refine lv_i2l hC.1 hC.2.1 dX0_isHalf_1 rfl ?_
  refine lv_lconst (v := 0) hC.1 hC.2.1 dX0_isHalf_2 (by decide) ?_
  refine lv_lconst (v := 1) hC.1 hC.2.1 dX0_isHalf_3 (by decide) ?_
  refine s_ci hC ((cc_isIn l (a := 0) (b := 1) rfl rfl rfl)) (va_cwS 3 hC.2.2.2.2 (lw_S q265 q266 q63 q267) rfl rfl rfl (by decide +kernel) ⟨Nat.le_of_ble_eq_true rfl, Nat.le_of_ble_eq_true rfl⟩) rfl hl.1 rfl (lv_room (Nat.le_of_ble_eq_true rfl)) dX0_isHalf_4 ⟨Nat.le_of_ble_eq_true rfl, Nat.le_of_ble_eq_true rfl⟩ ?_
  refine s_zret hC hr hlocks (by first | exact bI_01 _ | exact Or.inl rfl | exact Or.inr rfl) dX0_isHalf_7 ?_
  rfl

set_option maxHeartbeats 400000 in
set_option maxRecDepth 100000 in
theorem cc_has (l : Launch) (x k : Int32) : sMi l yX0_has cX0_has 2 (some .boolean) ({ frames := 0, cells := 0, slots := 0, locals := 0 }) [.int x, .int k] (bI ((x >>> (k &&& 31)) &&& 1 = 1)) := by
  refine s_body (own := RX0) rfl (by decide) (Nat.le_of_ble_eq_true rfl) ?_
  intro p e s m args below meth c ls hC hr hlocks hl
  have hl : lv_has ls 2 [(0, .int x), (1, .int k)] := hl
  refine lv_iload_n hC.1 hC.2.1 dX0_has_0 rfl (lv_at hl 0 rfl) ?_
  refine lv_iload_n hC.1 hC.2.1 dX0_has_1 rfl (lv_at hl 1 rfl) ?_
  refine lv_ishr hC.1 hC.2.1 dX0_has_2 ?_
  refine lv_iconst (v := 1) hC.1 hC.2.1 dX0_has_3 (by decide) ?_
  refine lv_iand hC.1 hC.2.1 dX0_has_4 ?_
  refine lv_iconst (v := 1) hC.1 hC.2.1 dX0_has_5 (by decide) ?_
  refine lv_icmp_ne (tgt := 13) hC.1 hC.2.1 dX0_has_6 (by decide) (fun c1 => ?_) (fun c1 => ?_)
  ·
    skip
    have ch := c1
    refine lv_iconst (v := 0) hC.1 hC.2.1 dX0_has_13 (by decide) ?_
    refine s_zret hC hr hlocks (by first | exact bI_01 _ | exact Or.inl rfl | exact Or.inr rfl) dX0_has_14 ?_
    exact (bI_f ch).symm
  ·
    skip
    have ch := c1
    refine lv_iconst (v := 1) hC.1 hC.2.1 dX0_has_9 (by decide) ?_
    refine lv_goto (tgt := 14) hC.1 hC.2.1 dX0_has_10 (by decide) ?_
    refine s_zret hC hr hlocks (by first | exact bI_01 _ | exact Or.inl rfl | exact Or.inr rfl) dX0_has_14 ?_
    exact (bI_t ch).symm

set_option maxHeartbeats 400000 in
set_option maxRecDepth 100000 in
theorem cc_power (l : Launch) (x : Int32) (t : Nat) (ht : t ≤ 3) : sMi l yX0_power cX0_power 4 (some .int) ({ frames := 0, cells := 0, slots := 0, locals := 0 }) [.int x, .int (nI t)] (powL x t) := by
  refine s_body (own := RX0) rfl (by decide) (Nat.le_of_ble_eq_true rfl) ?_
  intro p e s m args below meth c ls hC hr hlocks hl
  have hl : lv_has ls 4 [(0, .int x), (1, .int (nI t))] := hl
  refine lv_iconst (v := 1) hC.1 hC.2.1 dX0_power_0 (by decide) ?_
  refine lv_istore_n (lv' := [(2, _), (0, _), (1, _)]) hC.1 hC.2.1 dX0_power_1 rfl hl (by decide) rfl (fun ls hl => ?_)
  refine lv_iconst (v := 0) hC.1 hC.2.1 dX0_power_2 (by decide) ?_
  refine lv_istore_n (lv' := [(3, _), (2, _), (0, _), (1, _)]) hC.1 hC.2.1 dX0_power_3 rfl hl (by decide) rfl (fun ls hl => ?_)
  refine w_ind (α := Nat) 4 (fun (k : Nat) => t - k) (fun (k : Nat) (H : Heap) (locs : List Loc) (ls : Array Slot) => (k ≤ t) ∧ H = s.heap ∧ locs = [] ∧ lv_has ls 4 [(0, .int x), (1, .int (nI t)), (2, .int (powL x k)), (3, .int (nI k))]) ?_ (0) ⟨by omega, rfl, rfl, lv_sub hl [2, 3, 1, 0] rfl⟩
  intro k H locs ls hI ih4
  obtain ⟨hI4, rfl, rfl, hl⟩ := hI
  refine lv_iload_n hC.1 hC.2.1 dX0_power_4 rfl (lv_at hl 3 rfl) ?_
  refine lv_iload_n hC.1 hC.2.1 dX0_power_5 rfl (lv_at hl 1 rfl) ?_
  refine lv_icmp_ge (tgt := 19) hC.1 hC.2.1 dX0_power_6 (by decide) (fun c1 => ?_) (fun c1 => ?_)
  ·
    have nc1 := Int32.not_lt.mpr c1
    have hx6 := nle_t (a := t) (b := k) c1
    obtain rfl : t = k := by omega
    refine lv_iload_n hC.1 hC.2.1 dX0_power_19 rfl (lv_at hl 2 rfl) ?_
    refine s_iret hC hr hlocks dX0_power_20 ?_
    rfl
  ·
    have nc1 := Int32.not_le.mp c1
    have hx6 := nle_f (a := t) (b := k) c1
    refine lv_iload_n hC.1 hC.2.1 dX0_power_9 rfl (lv_at hl 2 rfl) ?_
    refine lv_iload_n hC.1 hC.2.1 dX0_power_10 rfl (lv_at hl 0 rfl) ?_
    refine lv_imul hC.1 hC.2.1 dX0_power_11 ?_
    refine lv_istore_n (lv' := [(2, _), (0, _), (1, _), (3, _)]) hC.1 hC.2.1 dX0_power_12 rfl hl (by decide) rfl (fun ls hl => ?_)
    refine lv_iinc (v := nI (k + 1)) (lv' := [(3, _), (2, _), (0, _), (1, _)]) hC.1 hC.2.1 dX0_power_13 hl (k := 3) rfl (nI_1 _) (by decide) rfl (fun ls hl => ?_)
    refine lv_goto (tgt := 4) hC.1 hC.2.1 dX0_power_16 (by decide) ?_
    exact ih4 (k + 1) _ _ _ (by omega) ⟨by omega, rfl, rfl, lv_sub hl [2, 3, 1, 0] rfl⟩

set_option maxHeartbeats 400000 in
set_option maxRecDepth 100000 in
theorem cc_common (l : Launch) (x : Int32) (A0 B0 : Nat) (hA : absI x = nI A0) (hA1 : A0 < 2 ^ 31) (hB : B0 < 2 ^ 31) : sMi l yX0_common cX0_common 5 (some .int) ({ frames := 1, cells := 0, slots := 0, locals := 21 }) [.int x, .int (nI B0)] (nI (Nat.gcd A0 B0)) := by
  refine s_body (own := RX0) rfl (by decide) (Nat.le_of_ble_eq_true rfl) ?_
  intro p e s m args below meth c ls hC hr hlocks hl
  have hl : lv_has ls 5 [(0, .int x), (1, .int (nI B0))] := hl
  refine lv_iload_n hC.1 hC.2.1 dX0_common_0 rfl (lv_at hl 0 rfl) ?_
  refine va_mabs hC.1 hC.2.1 (hC.2.2.1.trans hl.1.symm) hC.2.2.2.1 (hC.2.2.2.2 _ q984) (hC.2.2.2.2 _ q985) (hC.2.2.2.2 _ q84) (hC.2.2.2.2 _ q986) (Nat.le_of_ble_eq_true rfl) (Nat.le_of_ble_eq_true rfl) (Nat.le_of_ble_eq_true rfl) (Nat.le_of_ble_eq_true rfl) dX0_common_1 ?_
  rw [show (if 0 ≤ x then x else 0 - x) = nI A0 by rw [← hA, absI]; split <;> grind]
  refine lv_istore_n (lv' := [(2, _), (0, _), (1, _)]) hC.1 hC.2.1 dX0_common_4 rfl hl (by decide) rfl (fun ls hl => ?_)
  refine lv_iload_n hC.1 hC.2.1 dX0_common_5 rfl (lv_at hl 2 rfl) ?_
  refine lv_istore_n (lv' := [(3, _), (2, _), (0, _), (1, _)]) hC.1 hC.2.1 dX0_common_6 rfl hl (by decide) rfl (fun ls hl => ?_)
  refine w_ind (α := Nat × Nat) 7 (fun (x_ : Nat × Nat) => (fun (a : Nat) (b : Nat) => b) x_.1 x_.2) (fun (x_ : Nat × Nat) (H : Heap) (locs : List Loc) (ls : Array Slot) => (fun (a : Nat) (b : Nat) => (a < 2 ^ 31 ∧ b < 2 ^ 31 ∧ Nat.gcd a b = Nat.gcd A0 B0) ∧ H = s.heap ∧ locs = [] ∧ lv_has ls 5 [(2, .int (nI a)), (3, .int (nI b))]) x_.1 x_.2) ?_ ((A0, B0)) ⟨⟨hA1, hB, rfl⟩, rfl, rfl, lv_sub hl [1, 0] rfl⟩
  intro x_ H locs ls hI ih7
  obtain ⟨a, b⟩ := x_
  dsimp only at hI
  obtain ⟨hI7, rfl, rfl, hl⟩ := hI
  refine lv_iload_n hC.1 hC.2.1 dX0_common_7 rfl (lv_at hl 1 rfl) ?_
  refine lv_if_eq (tgt := 24) hC.1 hC.2.1 dX0_common_8 (by decide) (fun c1 => ?_) (fun c1 => ?_)
  ·
    skip
    have c0 : b = 0 := neq_t (b := 0) c1
    have hg : a = Nat.gcd A0 B0 := by rw [← hI7.2.2, c0, Nat.gcd_zero_right]
    refine lv_iload_n hC.1 hC.2.1 dX0_common_24 rfl (lv_at hl 0 rfl) ?_
    refine s_iret hC hr hlocks dX0_common_25 ?_
    rw [hg]
  ·
    skip
    have c0 : ¬ nI b = 0 := c1
    have c1 : b ≠ 0 := neq_f (b := 0) c1
    refine lv_iload_n hC.1 hC.2.1 dX0_common_11 rfl (lv_at hl 0 rfl) ?_
    refine lv_iload_n hC.1 hC.2.1 dX0_common_12 rfl (lv_at hl 1 rfl) ?_
    refine lv_irem hC.1 hC.2.1 dX0_common_13 c0 ?_
    rw [show nI a - nI a / nI b * nI b = nI (a % b) from pk_rem (by omega) (by omega) (by omega)]
    refine lv_istore (lv' := [(4, _), (2, _), (3, _)]) hC.1 hC.2.1 dX0_common_14 hl (by decide) rfl (fun ls hl => ?_)
    refine lv_iload_n hC.1 hC.2.1 dX0_common_16 rfl (lv_at hl 2 rfl) ?_
    refine lv_istore_n (lv' := [(2, _), (4, _), (3, _)]) hC.1 hC.2.1 dX0_common_17 rfl hl (by decide) rfl (fun ls hl => ?_)
    refine lv_iload hC.1 hC.2.1 dX0_common_18 (lv_at hl 1 rfl) ?_
    refine lv_istore_n (lv' := [(3, _), (2, _), (4, _)]) hC.1 hC.2.1 dX0_common_20 rfl hl (by decide) rfl (fun ls hl => ?_)
    refine lv_goto (tgt := 7) hC.1 hC.2.1 dX0_common_21 (by decide) ?_
    exact ih7 ((b, a % b)) _ _ _ (by show a % b < b; exact Nat.mod_lt _ (by omega)) ⟨⟨by omega, by have := Nat.mod_lt a (show 0 < b by omega); omega, by rw [← hI7.2.2, Nat.gcd_comm a b, Nat.gcd_rec b a, Nat.gcd_comm]⟩, rfl, rfl, lv_sub hl [1, 0] rfl⟩
