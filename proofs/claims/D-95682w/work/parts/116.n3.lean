set_option maxHeartbeats 400000 in
set_option maxRecDepth 100000 in
theorem cn_dareOf (l : Launch) (κ : Nat → Nat) (O : gO) (no : Nat) (cv : Nat → Int32) (ad : Nat → Nat) (g : Nat → Nat → Option Nat) (cw : Nat → Nat → Int32) (rx : Nat → Int32) (rd : Nat → Nat) (rw : Nat → Nat → Int32) (d : Nat) (fee : Int32) (hN : O no = some (nsU cv ad g cw)) (hR : O (ad 4) = some (rdU rx rd rw)) (ro : Nat → Int32) (e2 : ro 2 = rx 2) (e3 : ro 3 = rx 3) (hd : d ≤ 3) : oM l κ yX0_dareOf cX0_dareOf 4 (some .int) ({ frames := 1, cells := 0, slots := 0, locals := 23 }) [.ref no, .int (nI d), .int fee] O (fun rv O1 => rv = some (.int (brF ro d fee)) ∧ O1 = O) := by
  intro D ac A
  refine o_body (own := RX0) rfl (plainFor_of_name (by decide)) (Nat.le_of_ble_eq_true rfl) ?_
  intro p e s m args below meth c ls hC hr hlocks hK hM hl hnamed hmeth
  have hl : lv_has ls 4 [(0, .ref no), (1, .int (nI d)), (2, .int fee)] := hl
  have hM := PS.of hM [(no, nsU cv ad g cw), (ad 4, rdU rx rd rw)] ⟨hN, hR, trivial⟩ (by simp only [oad, List.map, List.nodup_cons, List.mem_singleton, List.not_mem_nil, not_false_eq_true, List.nodup_nil, and_true]; exact o_ne hN hR (by decide))
  refine lv_bipush (v := 100) hC.1 hC.2.1 dX0_dareOf_0 (by decide) ?_
  refine lv_aload_n hC.1 hC.2.1 dX0_dareOf_2 rfl (lv_at hl 0 rfl) ?_
  refine p_get hC hK hM 0 rfl in_X0 rfl 4 (by decide) q223 (fun x h => h) rfl dX0_dareOf_3 ?_
  refine p_get hC hK hM 1 rfl in_X1 rfl 2 (by decide) q150 (fun x h => h) rfl dX0_dareOf_6 ?_
  refine lv_isub hC.1 hC.2.1 dX0_dareOf_9 ?_
  refine lv_iload_n hC.1 hC.2.1 dX0_dareOf_10 rfl (lv_at hl 1 rfl) ?_
  refine s_ci hC (cc_power l (100 - rx 2) d hd) (va_cwS 2 hC.2.2.2.2 (lw_S q1083 q1084 q63 q1085) rfl rfl rfl (by decide +kernel) ⟨(Nat.le_of_ble_eq_true rfl), (Nat.le_of_ble_eq_true rfl)⟩) rfl hl.1 rfl (lv_room (Nat.le_of_ble_eq_true rfl)) dX0_dareOf_11 ⟨(Nat.le_of_ble_eq_true rfl), (Nat.le_of_ble_eq_true rfl)⟩ ?_
  refine lv_bipush (v := 100) hC.1 hC.2.1 dX0_dareOf_14 (by decide) ?_
  refine lv_iconst (v := 3) hC.1 hC.2.1 dX0_dareOf_16 (by decide) ?_
  refine lv_iload_n hC.1 hC.2.1 dX0_dareOf_17 rfl (lv_at hl 1 rfl) ?_
  refine lv_isub hC.1 hC.2.1 dX0_dareOf_18 ?_
  rw [sub3 hd]
  refine s_ci hC (cc_power l 100 (3 - d) (by omega)) (va_cwS 2 hC.2.2.2.2 (lw_S q1083 q1084 q63 q1085) rfl rfl rfl (by decide +kernel) ⟨(Nat.le_of_ble_eq_true rfl), (Nat.le_of_ble_eq_true rfl)⟩) rfl hl.1 rfl (lv_room (Nat.le_of_ble_eq_true rfl)) dX0_dareOf_19 ⟨(Nat.le_of_ble_eq_true rfl), (Nat.le_of_ble_eq_true rfl)⟩ ?_
  refine lv_imul hC.1 hC.2.1 dX0_dareOf_22 ?_
  refine lv_istore_n (lv' := [(3, _), (0, _), (1, _), (2, _)]) hC.1 hC.2.1 dX0_dareOf_23 rfl hl (by decide) rfl (fun ls hl => ?_)
  refine lv_iload_n hC.1 hC.2.1 dX0_dareOf_24 rfl (lv_at hl 3 rfl) ?_
  refine lv_iload_n hC.1 hC.2.1 dX0_dareOf_25 rfl (lv_at hl 2 rfl) ?_
  refine lv_imul hC.1 hC.2.1 dX0_dareOf_26 ?_
  refine lv_iload_n hC.1 hC.2.1 dX0_dareOf_27 rfl (lv_at hl 0 rfl) ?_
  refine lv_imul hC.1 hC.2.1 dX0_dareOf_28 ?_
  refine lv_aload_n hC.1 hC.2.1 dX0_dareOf_29 rfl (lv_at hl 1 rfl) ?_
  refine p_get hC hK hM 0 rfl in_X0 rfl 4 (by decide) q223 (fun x h => h) rfl dX0_dareOf_30 ?_
  refine p_get hC hK hM 1 rfl in_X1 rfl 3 (by decide) q153 (fun x h => h) rfl dX0_dareOf_33 ?_
  refine lv_bipush (v := 100) hC.1 hC.2.1 dX0_dareOf_36 (by decide) ?_
  refine lv_iconst (v := 3) hC.1 hC.2.1 dX0_dareOf_38 (by decide) ?_
  refine s_ci hC (cc_power l 100 3 (by decide)) (va_cwS 2 hC.2.2.2.2 (lw_S q1083 q1084 q63 q1085) rfl rfl rfl (by decide +kernel) ⟨(Nat.le_of_ble_eq_true rfl), (Nat.le_of_ble_eq_true rfl)⟩) rfl hl.1 rfl (lv_room (Nat.le_of_ble_eq_true rfl)) dX0_dareOf_39 ⟨(Nat.le_of_ble_eq_true rfl), (Nat.le_of_ble_eq_true rfl)⟩ ?_
  refine lv_iload_n hC.1 hC.2.1 dX0_dareOf_42 rfl (lv_at hl 0 rfl) ?_
  refine lv_isub hC.1 hC.2.1 dX0_dareOf_43 ?_
  refine lv_imul hC.1 hC.2.1 dX0_dareOf_44 ?_
  refine lv_isub hC.1 hC.2.1 dX0_dareOf_45 ?_
  skip
  refine p_iret hC hr hlocks hM dX0_dareOf_46 ?_
  exact ⟨by rw [← e2, ← e3, brF_c], by rw [oups, oups, oups, oup_same hR]; exact oup_same hN⟩

set_option maxHeartbeats 400000 in
set_option maxRecDepth 100000 in
theorem cn_bestBy (l : Launch) (κ : Nat → Nat) (O : gO) (no : Nat) (cv : Nat → Int32) (ad : Nat → Nat) (g : Nat → Nat → Option Nat) (cw : Nat → Nat → Int32) (rx : Nat → Int32) (rd : Nat → Nat) (rw : Nat → Nat → Int32) (fee : Int32) (hN : O no = some (nsU cv ad g cw)) (hR : O (ad 4) = some (rdU rx rd rw)) (ro : Nat → Int32) (e2 : ro 2 = rx 2) (e3 : ro 3 = rx 3) : oM l κ yX0_bestBy cX0_bestBy 4 (some .int) ({ frames := 2, cells := 0, slots := 0, locals := 46 }) [.ref no, .int fee] O (fun rv O1 => rv = some (.int (nI (bestB ro fee 3))) ∧ O1 = O) := by
  intro D ac A
  refine o_body (own := RX0) rfl (plainFor_of_name (by decide)) (Nat.le_of_ble_eq_true rfl) ?_
  intro p e s m args below meth c ls hC hr hlocks hK hM hl hnamed hmeth
  have hl : lv_has ls 4 [(0, .ref no), (1, .int fee)] := hl
  have hM := PS.of hM [(no, nsU cv ad g cw), (ad 4, rdU rx rd rw)] ⟨hN, hR, trivial⟩ (by simp only [oad, List.map, List.nodup_cons, List.mem_singleton, List.not_mem_nil, not_false_eq_true, List.nodup_nil, and_true]; exact o_ne hN hR (by decide))
  refine lv_iconst (v := 0) hC.1 hC.2.1 dX0_bestBy_0 (by decide) ?_
  refine lv_istore_n (lv' := [(2, _), (0, _), (1, _)]) hC.1 hC.2.1 dX0_bestBy_1 rfl hl (by decide) rfl (fun ls hl => ?_)
  refine lv_iconst (v := 1) hC.1 hC.2.1 dX0_bestBy_2 (by decide) ?_
  refine lv_istore_n (lv' := [(3, _), (2, _), (0, _), (1, _)]) hC.1 hC.2.1 dX0_bestBy_3 rfl hl (by decide) rfl (fun ls hl => ?_)
  refine w_ind (α := Nat) 4 (fun (k : Nat) => 3 - k) (fun (k : Nat) (H : Heap) (locs : List Loc) (ls : Array Slot) => (k ≤ 3) ∧ PS D ac A s.heap O [(no, nsU cv ad g cw), (ad 4, rdU rx rd rw)] H locs ∧ lv_has ls 4 [(0, .ref no), (1, .int fee), (2, .int (nI (bestB ro fee k))), (3, .int (nI (k + 1)))]) ?_ (0) ⟨by omega, hM, lv_sub hl [2, 3, 1, 0] rfl⟩
  intro k H locs ls hI ih4
  obtain ⟨hI4, hM, hl⟩ := hI
  refine lv_iload_n hC.1 hC.2.1 dX0_bestBy_4 rfl (lv_at hl 3 rfl) ?_
  refine lv_iconst (v := 3) hC.1 hC.2.1 dX0_bestBy_5 (by decide) ?_
  refine lv_icmp_gt (tgt := 36) hC.1 hC.2.1 dX0_bestBy_6 (by decide) (fun c1 => ?_) (fun c1 => ?_)
  ·
    have nc1 := Int32.not_le.mpr c1
    have hx6 := nlt_t (a := 3) (b := k + 1) c1
    obtain rfl : 3 = k := by omega
    refine lv_iload_n hC.1 hC.2.1 dX0_bestBy_36 rfl (lv_at hl 2 rfl) ?_
    skip
    refine p_iret hC hr hlocks hM dX0_bestBy_37 ?_
    exact ⟨rfl, by rw [oups, oups, oups, oup_same hR]; exact oup_same hN⟩
  ·
    have nc1 := Int32.not_lt.mp c1
    have hx6 := nlt_f (a := 3) (b := k + 1) c1
    refine lv_aload_n hC.1 hC.2.1 dX0_bestBy_9 rfl (lv_at hl 0 rfl) ?_
    refine lv_iload_n hC.1 hC.2.1 dX0_bestBy_10 rfl (lv_at hl 3 rfl) ?_
    refine lv_iload_n hC.1 hC.2.1 dX0_bestBy_11 rfl (lv_at hl 1 rfl) ?_
    refine p_cVe (L' := [_, _]) hC hK hM (hM.at 0 rfl) rfl (cn_dareOf l κ _ no cv ad g cw rx rd rw (k + 1) fee (hM.at 0 rfl) (hM.at 1 rfl) ro e2 e3 (by omega)) (cwV 2 hC.2.2.2.2 (lw_V q1079 q1081 qs23 q63 q1082) rfl rfl rfl (by decide +kernel) ⟨(Nat.le_of_ble_eq_true rfl), (Nat.le_of_ble_eq_true rfl)⟩) rfl hl.1 rfl (lv_room (Nat.le_of_ble_eq_true rfl)) dX0_bestBy_12 ⟨(Nat.le_of_ble_eq_true rfl), (Nat.le_of_ble_eq_true rfl)⟩ rfl hM.2 (fun H locs hM => ?_)
    refine lv_aload_n hC.1 hC.2.1 dX0_bestBy_15 rfl (lv_at hl 0 rfl) ?_
    refine lv_iload_n hC.1 hC.2.1 dX0_bestBy_16 rfl (lv_at hl 2 rfl) ?_
    refine lv_iload_n hC.1 hC.2.1 dX0_bestBy_17 rfl (lv_at hl 1 rfl) ?_
    refine p_cVe (L' := [_, _]) hC hK hM (hM.at 0 rfl) rfl (cn_dareOf l κ _ no cv ad g cw rx rd rw (bestB ro fee k) fee (hM.at 0 rfl) (hM.at 1 rfl) ro e2 e3 (by have := bestB_le ro fee k; omega)) (cwV 2 hC.2.2.2.2 (lw_V q1079 q1081 qs23 q63 q1082) rfl rfl rfl (by decide +kernel) ⟨(Nat.le_of_ble_eq_true rfl), (Nat.le_of_ble_eq_true rfl)⟩) rfl hl.1 rfl (lv_room (Nat.le_of_ble_eq_true rfl)) dX0_bestBy_18 ⟨(Nat.le_of_ble_eq_true rfl), (Nat.le_of_ble_eq_true rfl)⟩ rfl hM.2 (fun H locs hM => ?_)
    refine w_tern2 (cond := brF ro (bestB ro fee k) fee < brF ro (k + 1) fee) (a := nI (k + 1)) (b := nI (bestB ro fee k)) 29 ?_ (fun jt21 jf21 => ?_)
    ·
      skip
      refine lv_istore_n (lv' := [(2, _), (0, _), (1, _), (3, _)]) hC.1 hC.2.1 dX0_bestBy_29 rfl hl (by decide) rfl (fun ls hl => ?_)
      refine lv_iinc (v := nI ((k + 1) + 1)) (lv' := [(3, _), (2, _), (0, _), (1, _)]) hC.1 hC.2.1 dX0_bestBy_30 hl (k := 3) rfl (nI_1 _) (by decide) rfl (fun ls hl => ?_)
      refine lv_goto (tgt := 4) hC.1 hC.2.1 dX0_bestBy_33 (by decide) ?_
      have e1 : (if brF ro (bestB ro fee k) fee < brF ro (k + 1) fee then nI (k + 1) else nI (bestB ro fee k)) = nI (bestB ro fee (k + 1)) := by rw [bestB]; split <;> rfl
      rw [e1] at hl
      exact ih4 (k + 1) _ _ _ (by omega) ⟨by omega, hM, lv_sub hl [2, 3, 1, 0] rfl⟩
    ·
      skip
      refine lv_icmp_le (tgt := 28) hC.1 hC.2.1 dX0_bestBy_21 (by decide) (fun c2 => ?_) (fun c2 => ?_)
      ·
        have nc2 := Int32.not_lt.mpr c2
        have cb := Int32.not_lt.mpr c2
        refine lv_iload_n hC.1 hC.2.1 dX0_bestBy_28 rfl (lv_at hl 2 rfl) ?_
        first | exact jt21 (by exact cb) | exact jf21 (by exact cb)
      ·
        have nc2 := Int32.not_le.mp c2
        have cb := Int32.not_le.mp c2
        refine lv_iload_n hC.1 hC.2.1 dX0_bestBy_24 rfl (lv_at hl 3 rfl) ?_
        refine lv_goto (tgt := 29) hC.1 hC.2.1 dX0_bestBy_25 (by decide) ?_
        first | exact jt21 (by exact cb) | exact jf21 (by exact cb)

set_option maxHeartbeats 400000 in
set_option maxRecDepth 100000 in
theorem cn_best (l : Launch) (κ : Nat → Nat) (O : gO) (no : Nat) (cv : Nat → Int32) (ad : Nat → Nat) (g : Nat → Nat → Option Nat) (cw : Nat → Nat → Int32) (rx : Nat → Int32) (rd : Nat → Nat) (rw : Nat → Nat → Int32) (v : Nat → Int32) (w : Nat → Nat → Int32) (x : Int32) (hN : O no = some (nsU cv ad g cw)) (hR : O (ad 4) = some (rdU rx rd rw)) (mm : Nat) (kd : Nat → Nat) (mv : Nat → Nat → Int32) (hro : rdR (w 5) rx rw mm kd mv) (n : Nat) (en : rx 4 = nI n) (hn : n ≤ 6) (hb0 : bestB (w 5) 0 3 = 0) : oM l κ yX0_best cX0_best 4 (some .int) ({ frames := 3, cells := 0, slots := 0, locals := 69 }) [.ref no, .int x] O (fun rv O1 => rv = some (.int (op_best v w x).1) ∧ O1 = O) := by
  intro D ac A
  refine o_body (own := RX0) rfl (plainFor_of_name (by decide)) (Nat.le_of_ble_eq_true rfl) ?_
  intro p e s m args below meth c ls hC hr hlocks hK hM hl hnamed hmeth
  have hl : lv_has ls 4 [(0, .ref no), (1, .int x)] := hl
  have hM := PS.of hM [(no, nsU cv ad g cw), (ad 4, rdU rx rd rw)] ⟨hN, hR, trivial⟩ (by simp only [oad, List.map, List.nodup_cons, List.mem_singleton, List.not_mem_nil, not_false_eq_true, List.nodup_nil, and_true]; exact o_ne hN hR (by decide))
  obtain ⟨r0, r1, r2, r3, r4, r5, r6, r7, rS, rM, rT⟩ := hro
  refine lv_aload_n hC.1 hC.2.1 dX0_best_0 rfl (lv_at hl 0 rfl) ?_
  refine p_cVe (L' := [_, _]) hC hK hM (hM.at 0 rfl) rfl (cn_isRoad l κ _ no cv ad g cw rx rd rw (hM.at 0 rfl) (hM.at 1 rfl)) (cwV 0 hC.2.2.2.2 (lw_V q881 q883 qs15 q63 q884) rfl rfl rfl (by decide +kernel) ⟨(Nat.le_of_ble_eq_true rfl), (Nat.le_of_ble_eq_true rfl)⟩) rfl hl.1 rfl (lv_room (Nat.le_of_ble_eq_true rfl)) dX0_best_1 ⟨(Nat.le_of_ble_eq_true rfl), (Nat.le_of_ble_eq_true rfl)⟩ rfl hM.2 (fun H locs hM => ?_)
  refine lv_if_ne (tgt := 10) hC.1 hC.2.1 dX0_best_4 (by decide) (fun c1 => ?_) (fun c1 => ?_)
  ·
    skip
    rw [bI_n0] at c1
    have cr := c1
    refine lv_iload_n hC.1 hC.2.1 dX0_best_10 rfl (lv_at hl 1 rfl) ?_
    refine s_ci hC (cc_isHalf l x) (va_cwS 1 hC.2.2.2.2 (lw_S q999 q1000 q63 q1001) rfl rfl rfl (by decide +kernel) ⟨(Nat.le_of_ble_eq_true rfl), (Nat.le_of_ble_eq_true rfl)⟩) rfl hl.1 rfl (lv_room (Nat.le_of_ble_eq_true rfl)) dX0_best_11 ⟨(Nat.le_of_ble_eq_true rfl), (Nat.le_of_ble_eq_true rfl)⟩ ?_
    refine lv_if_ne (tgt := 20) hC.1 hC.2.1 dX0_best_14 (by decide) (fun c2 => ?_) (fun c2 => ?_)
    ·
      skip
      rw [bI_n0] at c2
      have ch := c2
      refine lv_iload_n hC.1 hC.2.1 dX0_best_20 rfl (lv_at hl 1 rfl) ?_
      refine lv_if_ne (tgt := 36) hC.1 hC.2.1 dX0_best_21 (by decide) (fun c3 => ?_) (fun c3 => ?_)
      ·
        skip
        have f0 := c3
        refine lv_ldc hC.1 hC.2.1 hC.2.2.2.1 (hC.2.2.2.2 _ q1044) dX0_best_36 ?_
        refine lv_istore_n (lv' := [(2, _), (0, _), (1, _)]) hC.1 hC.2.1 dX0_best_38 rfl hl (by decide) rfl (fun ls hl => ?_)
        refine lv_iconst (v := 0) hC.1 hC.2.1 dX0_best_39 (by decide) ?_
        refine lv_istore_n (lv' := [(3, _), (2, _), (0, _), (1, _)]) hC.1 hC.2.1 dX0_best_40 rfl hl (by decide) rfl (fun ls hl => ?_)
        refine w_ind (α := Nat) 41 (fun (f : Nat) => 21 - f) (fun (f : Nat) (H : Heap) (locs : List Loc) (ls : Array Slot) => (f ≤ 21) ∧ PS D ac A s.heap O [(no, nsU cv ad g cw), (ad 4, rdU rx rd rw)] H locs ∧ lv_has ls 4 [(0, .ref no), (1, .int x), (2, .int (lastF (w 5) f)), (3, .int (nI f))]) ?_ (0) ⟨by omega, hM, lv_sub hl [2, 3, 1, 0] rfl⟩
        intro f H locs ls hI ih41
        obtain ⟨hI41, hM, hl⟩ := hI
        refine lv_iload_n hC.1 hC.2.1 dX0_best_41 rfl (lv_at hl 3 rfl) ?_
        refine lv_bipush (v := 20) hC.1 hC.2.1 dX0_best_42 (by decide) ?_
        refine lv_icmp_gt (tgt := 67) hC.1 hC.2.1 dX0_best_44 (by decide) (fun c4 => ?_) (fun c4 => ?_)
        ·
          have nc4 := Int32.not_le.mpr c4
          have hx44 := nlt_t (a := 20) (b := f) c4
          obtain rfl : 21 = f := by omega
          refine lv_iload_n hC.1 hC.2.1 dX0_best_67 rfl (lv_at hl 2 rfl) ?_
          skip
          refine p_iret hC hr hlocks hM dX0_best_68 ?_
          exact ⟨by rw [op_best, if_neg (by rw [r0]; exact fun h => h cr), if_neg (fun h => h ch), if_neg f0, lastF_fdn hb0], by rw [oups, oups, oups, oup_same hR]; exact oup_same hN⟩
        ·
          have nc4 := Int32.not_lt.mp c4
          have hx44 := nlt_f (a := 20) (b := f) c4
          refine lv_aload_n hC.1 hC.2.1 dX0_best_47 rfl (lv_at hl 0 rfl) ?_
          refine lv_iload_n hC.1 hC.2.1 dX0_best_48 rfl (lv_at hl 3 rfl) ?_
          refine p_cVe (L' := [_, _]) hC hK hM (hM.at 0 rfl) rfl (cn_bestBy l κ _ no cv ad g cw rx rd rw (nI f) (hM.at 0 rfl) (hM.at 1 rfl) (w 5) r2 r3) (cwV 1 hC.2.2.2.2 (lw_V q1093 q1095 qs24 q63 q1096) rfl rfl rfl (by decide +kernel) ⟨(Nat.le_of_ble_eq_true rfl), (Nat.le_of_ble_eq_true rfl)⟩) rfl hl.1 rfl (lv_room (Nat.le_of_ble_eq_true rfl)) dX0_best_49 ⟨(Nat.le_of_ble_eq_true rfl), (Nat.le_of_ble_eq_true rfl)⟩ rfl hM.2 (fun H locs hM => ?_)
          refine w_tern1 (cond := bestB (w 5) (nI f) 3 = 0) (a := nI f) (b := lastF (w 5) f) 60 ?_ (fun jt52 jf52 => ?_)
          ·
            skip
            refine lv_istore_n (lv' := [(2, _), (0, _), (1, _), (3, _)]) hC.1 hC.2.1 dX0_best_60 rfl hl (by decide) rfl (fun ls hl => ?_)
            refine lv_iinc (v := nI (f + 1)) (lv' := [(3, _), (2, _), (0, _), (1, _)]) hC.1 hC.2.1 dX0_best_61 hl (k := 3) rfl (nI_1 _) (by decide) rfl (fun ls hl => ?_)
            refine lv_goto (tgt := 41) hC.1 hC.2.1 dX0_best_64 (by decide) ?_
            exact ih41 (f + 1) _ _ _ (by omega) ⟨by omega, hM, lv_sub hl [2, 3, 1, 0] rfl⟩
          ·
            skip
            refine lv_if_ne (tgt := 59) hC.1 hC.2.1 dX0_best_52 (by decide) (fun c5 => ?_) (fun c5 => ?_)
            ·
              skip
              have cb : ¬ bestB (w 5) (nI f) 3 = 0 := neq_f (b := 0) c5 (by have := bestB_le (w 5) (nI f) 3; omega) (by omega)
              refine lv_iload_n hC.1 hC.2.1 dX0_best_59 rfl (lv_at hl 2 rfl) ?_
              first | exact jt52 (by exact cb) | exact jf52 (by exact cb)
            ·
              skip
              have cb : bestB (w 5) (nI f) 3 = 0 := neq_t (b := 0) c5 (by have := bestB_le (w 5) (nI f) 3; omega) (by omega)
              refine lv_iload_n hC.1 hC.2.1 dX0_best_55 rfl (lv_at hl 3 rfl) ?_
              refine lv_goto (tgt := 60) hC.1 hC.2.1 dX0_best_56 (by decide) ?_
              first | exact jt52 (by exact cb) | exact jf52 (by exact cb)
      ·
        skip
        have f0 := c3
        refine lv_aload_n hC.1 hC.2.1 dX0_best_24 rfl (lv_at hl 0 rfl) ?_
        refine lv_aload_n hC.1 hC.2.1 dX0_best_25 rfl (lv_at hl 0 rfl) ?_
        refine p_get hC hK hM 0 rfl in_X0 rfl 4 (by decide) q223 (fun x h => h) rfl dX0_best_26 ?_
        refine p_get hC hK hM 1 rfl in_X1 rfl 1 (by decide) q147 (fun x h => h) rfl dX0_best_29 ?_
        refine p_cVe (L' := [_, _]) hC hK hM (hM.at 0 rfl) rfl (cn_bestBy l κ _ no cv ad g cw rx rd rw _ (hM.at 0 rfl) (hM.at 1 rfl) (w 5) r2 r3) (cwV 1 hC.2.2.2.2 (lw_V q1093 q1095 qs24 q63 q1096) rfl rfl rfl (by decide +kernel) ⟨(Nat.le_of_ble_eq_true rfl), (Nat.le_of_ble_eq_true rfl)⟩) rfl hl.1 rfl (lv_room (Nat.le_of_ble_eq_true rfl)) dX0_best_32 ⟨(Nat.le_of_ble_eq_true rfl), (Nat.le_of_ble_eq_true rfl)⟩ rfl hM.2 (fun H locs hM => ?_)
        skip
        refine p_iret hC hr hlocks hM dX0_best_35 ?_
        exact ⟨by rw [op_best, if_neg (by rw [r0]; exact fun h => h cr), if_neg (fun h => h ch), if_pos f0, r1], by rw [oups, oups, oups, oup_same hR]; exact oup_same hN⟩
    ·
      skip
      rw [bI_0] at c2
      have ch := c2
      refine lv_ldc hC.1 hC.2.1 hC.2.2.2.1 (hC.2.2.2.2 _ q269) dX0_best_17 ?_
      skip
      refine p_iret hC hr hlocks hM dX0_best_19 ?_
      exact ⟨by rw [op_best, if_neg (by rw [r0]; exact fun h => h cr), if_pos ch], by rw [oups, oups, oups, oup_same hR]; exact oup_same hN⟩
  ·
    skip
    rw [bI_0] at c1
    have cr := c1
    refine lv_ldc hC.1 hC.2.1 hC.2.2.2.1 (hC.2.2.2.2 _ q885) dX0_best_7 ?_
    skip
    refine p_iret hC hr hlocks hM dX0_best_9 ?_
    exact ⟨by rw [op_best, if_pos (by rw [r0]; exact cr)], by rw [oups, oups, oups, oup_same hR]; exact oup_same hN⟩

set_option maxHeartbeats 400000 in
set_option maxRecDepth 100000 in
theorem cn_dare (l : Launch) (κ : Nat → Nat) (O : gO) (no : Nat) (cv : Nat → Int32) (ad : Nat → Nat) (g : Nat → Nat → Option Nat) (cw : Nat → Nat → Int32) (rx : Nat → Int32) (rd : Nat → Nat) (rw : Nat → Nat → Int32) (v : Nat → Int32) (w : Nat → Nat → Int32) (x y : Int32) (hN : O no = some (nsU cv ad g cw)) (hR : O (ad 4) = some (rdU rx rd rw)) (mm : Nat) (kd : Nat → Nat) (mv : Nat → Nat → Int32) (hro : rdR (w 5) rx rw mm kd mv) (n : Nat) (en : rx 4 = nI n) (hn : n ≤ 6) (hab : ∀ d, d ≤ 3 → ∃ A, A < 2 ^ 31 ∧ absI (brF (w 5) d (w 5 1)) = nI A) : oM l κ yX0_dare cX0_dare 5 (some .int) ({ frames := 2, cells := 0, slots := 0, locals := 46 }) [.ref no, .int x, .int y] O (fun rv O1 => rv = some (.int (op_dare v w x y).1) ∧ O1 = O) := by
  intro D ac A
  refine o_body (own := RX0) rfl (plainFor_of_name (by decide)) (Nat.le_of_ble_eq_true rfl) ?_
  intro p e s m args below meth c ls hC hr hlocks hK hM hl hnamed hmeth
  have hl : lv_has ls 5 [(0, .ref no), (1, .int x), (2, .int y)] := hl
  have hM := PS.of hM [(no, nsU cv ad g cw), (ad 4, rdU rx rd rw)] ⟨hN, hR, trivial⟩ (by simp only [oad, List.map, List.nodup_cons, List.mem_singleton, List.not_mem_nil, not_false_eq_true, List.nodup_nil, and_true]; exact o_ne hN hR (by decide))
  obtain ⟨r0, r1, r2, r3, r4, r5, r6, r7, rS, rM, rT⟩ := hro
  refine lv_aload_n hC.1 hC.2.1 dX0_dare_0 rfl (lv_at hl 0 rfl) ?_
  refine p_cVe (L' := [_, _]) hC hK hM (hM.at 0 rfl) rfl (cn_isRoad l κ _ no cv ad g cw rx rd rw (hM.at 0 rfl) (hM.at 1 rfl)) (cwV 0 hC.2.2.2.2 (lw_V q881 q883 qs15 q63 q884) rfl rfl rfl (by decide +kernel) ⟨(Nat.le_of_ble_eq_true rfl), (Nat.le_of_ble_eq_true rfl)⟩) rfl hl.1 rfl (lv_room (Nat.le_of_ble_eq_true rfl)) dX0_dare_1 ⟨(Nat.le_of_ble_eq_true rfl), (Nat.le_of_ble_eq_true rfl)⟩ rfl hM.2 (fun H locs hM => ?_)
  refine lv_if_ne (tgt := 10) hC.1 hC.2.1 dX0_dare_4 (by decide) (fun c1 => ?_) (fun c1 => ?_)
  ·
    skip
    rw [bI_n0] at c1
    have cr := c1
    refine lv_iload_n hC.1 hC.2.1 dX0_dare_10 rfl (lv_at hl 1 rfl) ?_
    refine lv_i2l hC.1 hC.2.1 dX0_dare_11 rfl ?_
    refine lv_lconst (v := 0) hC.1 hC.2.1 dX0_dare_12 (by decide) ?_
    refine lv_ldc2 hC.1 hC.2.1 hC.2.2.2.1 (hC.2.2.2.2 _ q1078) dX0_dare_13 ?_
    refine s_ci hC ((cc_isIn l (a := 0) (b := 3) rfl rfl rfl)) (va_cwS 3 hC.2.2.2.2 (lw_S q265 q266 q63 q267) rfl rfl rfl (by decide +kernel) ⟨(Nat.le_of_ble_eq_true rfl), (Nat.le_of_ble_eq_true rfl)⟩) rfl hl.1 rfl (lv_room (Nat.le_of_ble_eq_true rfl)) dX0_dare_16 ⟨(Nat.le_of_ble_eq_true rfl), (Nat.le_of_ble_eq_true rfl)⟩ ?_
    refine lv_if_eq (tgt := 29) hC.1 hC.2.1 dX0_dare_19 (by decide) (fun c2 => ?_) (fun c2 => ?_)
    ·
      skip
      rw [bI_0] at c2
      have cd := c2
      refine lv_ldc hC.1 hC.2.1 hC.2.2.2.1 (hC.2.2.2.2 _ q269) dX0_dare_29 ?_
      skip
      refine p_iret hC hr hlocks hM dX0_dare_31 ?_
      exact ⟨by rw [op_dare, if_neg (by rw [r0]; exact fun h => h cr), if_pos (Or.inl cd)], by rw [oups, oups, oups, oup_same hR]; exact oup_same hN⟩
    ·
      skip
      rw [bI_n0] at c2
      have cd := c2
      obtain ⟨d, hd, rfl⟩ := in_nI (N := 3) (by decide) rfl cd
      have id_ : iN (nI d) = d := iN_nI (by omega)
      obtain ⟨U, hU, eU⟩ := hab d hd
      have iU : iN (absI (brF (w 5) d (w 5 1))) = U := by rw [eU]; exact iN_nI hU
      have hg1 : 0 < Nat.gcd U 1000000 := Nat.gcd_pos_of_pos_right _ (by decide)
      have hg2 : Nat.gcd U 1000000 ≤ 1000000 := Nat.gcd_le_right _ (by decide)
      refine lv_iload_n hC.1 hC.2.1 dX0_dare_22 rfl (lv_at hl 2 rfl) ?_
      refine s_ci hC (cc_isHalf l y) (va_cwS 1 hC.2.2.2.2 (lw_S q999 q1000 q63 q1001) rfl rfl rfl (by decide +kernel) ⟨(Nat.le_of_ble_eq_true rfl), (Nat.le_of_ble_eq_true rfl)⟩) rfl hl.1 rfl (lv_room (Nat.le_of_ble_eq_true rfl)) dX0_dare_23 ⟨(Nat.le_of_ble_eq_true rfl), (Nat.le_of_ble_eq_true rfl)⟩ ?_
      refine lv_if_ne (tgt := 32) hC.1 hC.2.1 dX0_dare_26 (by decide) (fun c3 => ?_) (fun c3 => ?_)
      ·
        skip
        rw [bI_n0] at c3
        have ch := c3
        refine lv_aload_n hC.1 hC.2.1 dX0_dare_32 rfl (lv_at hl 0 rfl) ?_
        refine lv_iload_n hC.1 hC.2.1 dX0_dare_33 rfl (lv_at hl 1 rfl) ?_
        refine lv_aload_n hC.1 hC.2.1 dX0_dare_34 rfl (lv_at hl 0 rfl) ?_
        refine p_get hC hK hM 0 rfl in_X0 rfl 4 (by decide) q223 (fun x h => h) rfl dX0_dare_35 ?_
        refine p_get hC hK hM 1 rfl in_X1 rfl 1 (by decide) q147 (fun x h => h) rfl dX0_dare_38 ?_
        rw [← r1]
        refine p_cVe (L' := [_, _]) hC hK hM (hM.at 0 rfl) rfl (cn_dareOf l κ _ no cv ad g cw rx rd rw d _ (hM.at 0 rfl) (hM.at 1 rfl) (w 5) r2 r3 hd) (cwV 2 hC.2.2.2.2 (lw_V q1079 q1081 qs23 q63 q1082) rfl rfl rfl (by decide +kernel) ⟨(Nat.le_of_ble_eq_true rfl), (Nat.le_of_ble_eq_true rfl)⟩) rfl hl.1 rfl (lv_room (Nat.le_of_ble_eq_true rfl)) dX0_dare_41 ⟨(Nat.le_of_ble_eq_true rfl), (Nat.le_of_ble_eq_true rfl)⟩ rfl hM.2 (fun H locs hM => ?_)
        refine lv_istore_n (lv' := [(3, _), (0, _), (1, _), (2, _)]) hC.1 hC.2.1 dX0_dare_44 rfl hl (by decide) rfl (fun ls hl => ?_)
        refine lv_bipush (v := 100) hC.1 hC.2.1 dX0_dare_45 (by decide) ?_
        refine lv_iconst (v := 3) hC.1 hC.2.1 dX0_dare_47 (by decide) ?_
        refine s_ci hC (cc_power l 100 3 (by decide)) (va_cwS 2 hC.2.2.2.2 (lw_S q1083 q1084 q63 q1085) rfl rfl rfl (by decide +kernel) ⟨(Nat.le_of_ble_eq_true rfl), (Nat.le_of_ble_eq_true rfl)⟩) rfl hl.1 rfl (lv_room (Nat.le_of_ble_eq_true rfl)) dX0_dare_48 ⟨(Nat.le_of_ble_eq_true rfl), (Nat.le_of_ble_eq_true rfl)⟩ ?_
        rw [show powL 100 3 = 1000000 from by decide]
        refine lv_istore (lv' := [(4, _), (3, _), (0, _), (1, _), (2, _)]) hC.1 hC.2.1 dX0_dare_51 hl (by decide) rfl (fun ls hl => ?_)
        refine lv_iload_n hC.1 hC.2.1 dX0_dare_53 rfl (lv_at hl 4 rfl) ?_
        refine w_tern1 (cond := y = 0) (a := brF (w 5) d (w 5 1)) (b := 1000000) 63 ?_ (fun jt54 jf54 => ?_)
        ·
          skip
          refine lv_iload_n hC.1 hC.2.1 dX0_dare_63 rfl (lv_at hl 1 rfl) ?_
          refine lv_iload hC.1 hC.2.1 dX0_dare_64 (lv_at hl 0 rfl) ?_
          refine s_ci hC (cc_common l (brF (w 5) d (w 5 1)) U 1000000 eU hU (by decide)) (va_cwS 2 hC.2.2.2.2 (lw_S q1086 q1087 q63 q1088) rfl rfl rfl (by decide +kernel) ⟨(Nat.le_of_ble_eq_true rfl), (Nat.le_of_ble_eq_true rfl)⟩) rfl hl.1 rfl (lv_room (Nat.le_of_ble_eq_true rfl)) dX0_dare_66 ⟨(Nat.le_of_ble_eq_true rfl), (Nat.le_of_ble_eq_true rfl)⟩ ?_
          refine lv_idiv hC.1 hC.2.1 dX0_dare_69 (nI_ne0 hg1 (by omega)) ?_
          skip
          refine p_iret hC hr hlocks hM dX0_dare_70 ?_
          have hd1 : (op_dare v w (nI d) y).1 = (if y = 0 then brF (w 5) d (w 5 1) else 1000000) / nI (Nat.gcd U 1000000) := by rw [op_dare, if_neg (by rw [r0]; exact fun h => h cr), if_neg (fun h => h.elim (fun h => h cd) (fun h => h ch)), id_, iU]
          exact ⟨by rw [hd1], by rw [oups, oups, oups, oup_same hR]; exact oup_same hN⟩
        ·
          skip
          refine lv_if_ne (tgt := 61) hC.1 hC.2.1 dX0_dare_54 (by decide) (fun c4 => ?_) (fun c4 => ?_)
          ·
            skip
            have y0 := c4
            refine lv_iload hC.1 hC.2.1 dX0_dare_61 (lv_at hl 0 rfl) ?_
            first | exact jt54 (by exact y0) | exact jf54 (by exact y0)
          ·
            skip
            have y0 := c4
            refine lv_iload_n hC.1 hC.2.1 dX0_dare_57 rfl (lv_at hl 1 rfl) ?_
            refine lv_goto (tgt := 63) hC.1 hC.2.1 dX0_dare_58 (by decide) ?_
            first | exact jt54 (by exact y0) | exact jf54 (by exact y0)
      ·
        skip
        rw [bI_0] at c3
        have ch := c3
        refine lv_ldc hC.1 hC.2.1 hC.2.2.2.1 (hC.2.2.2.2 _ q269) dX0_dare_29 ?_
        skip
        refine p_iret hC hr hlocks hM dX0_dare_31 ?_
        exact ⟨by rw [op_dare, if_neg (by rw [r0]; exact fun h => h cr), if_pos (Or.inr ch)], by rw [oups, oups, oups, oup_same hR]; exact oup_same hN⟩
  ·
    skip
    rw [bI_0] at c1
    have cr := c1
    refine lv_ldc hC.1 hC.2.1 hC.2.2.2.1 (hC.2.2.2.2 _ q885) dX0_dare_7 ?_
    skip
    refine p_iret hC hr hlocks hM dX0_dare_9 ?_
    exact ⟨by rw [op_dare, if_pos (by rw [r0]; exact cr)], by rw [oups, oups, oups, oup_same hR]; exact oup_same hN⟩
