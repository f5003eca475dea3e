set_option maxHeartbeats 400000 in
set_option maxRecDepth 100000 in
theorem cc_bitCount (l : Launch) (x : Int32) : sMi l yJ18_bitCount cJ18_bitCount 1 (some .int) ({ frames := 0, cells := 0, slots := 0, locals := 0 }) [.int x] (bcF x) := by
  refine s_body (own := RJ18) rfl (by decide) (Nat.le_of_ble_eq_true rfl) ?_
  intro p e s m args below meth c ls hC hr hlocks hl
  have hl : lv_has ls 1 [(0, .int x)] := hl
  refine lv_iload_n hC.1 hC.2.1 dJ18_bitCount_0 rfl (lv_at hl 0 rfl) ?_
  refine lv_iload_n hC.1 hC.2.1 dJ18_bitCount_1 rfl (lv_at hl 0 rfl) ?_
  refine lv_iconst (v := 1) hC.1 hC.2.1 dJ18_bitCount_2 (by decide) ?_
  refine lv_iushr hC.1 hC.2.1 dJ18_bitCount_3 rfl ?_
  refine lv_ldcw hC.1 hC.2.1 hC.2.2.2.1 (hC.2.2.2.2 _ q1061) dJ18_bitCount_4 ?_
  refine lv_iand hC.1 hC.2.1 dJ18_bitCount_7 ?_
  refine lv_isub hC.1 hC.2.1 dJ18_bitCount_8 ?_
  refine lv_istore_n (lv' := [(0, _)]) hC.1 hC.2.1 dJ18_bitCount_9 rfl hl (by decide) rfl (fun ls hl => ?_)
  refine lv_iload_n hC.1 hC.2.1 dJ18_bitCount_10 rfl (lv_at hl 0 rfl) ?_
  refine lv_ldcw hC.1 hC.2.1 hC.2.2.2.1 (hC.2.2.2.2 _ q1062) dJ18_bitCount_11 ?_
  refine lv_iand hC.1 hC.2.1 dJ18_bitCount_14 ?_
  refine lv_iload_n hC.1 hC.2.1 dJ18_bitCount_15 rfl (lv_at hl 0 rfl) ?_
  refine lv_iconst (v := 2) hC.1 hC.2.1 dJ18_bitCount_16 (by decide) ?_
  refine lv_iushr hC.1 hC.2.1 dJ18_bitCount_17 rfl ?_
  refine lv_ldcw hC.1 hC.2.1 hC.2.2.2.1 (hC.2.2.2.2 _ q1062) dJ18_bitCount_18 ?_
  refine lv_iand hC.1 hC.2.1 dJ18_bitCount_21 ?_
  refine lv_iadd hC.1 hC.2.1 dJ18_bitCount_22 ?_
  refine lv_istore_n (lv' := [(0, _)]) hC.1 hC.2.1 dJ18_bitCount_23 rfl hl (by decide) rfl (fun ls hl => ?_)
  refine lv_iload_n hC.1 hC.2.1 dJ18_bitCount_24 rfl (lv_at hl 0 rfl) ?_
  refine lv_iload_n hC.1 hC.2.1 dJ18_bitCount_25 rfl (lv_at hl 0 rfl) ?_
  refine lv_iconst (v := 4) hC.1 hC.2.1 dJ18_bitCount_26 (by decide) ?_
  refine lv_iushr hC.1 hC.2.1 dJ18_bitCount_27 rfl ?_
  refine lv_iadd hC.1 hC.2.1 dJ18_bitCount_28 ?_
  refine lv_ldcw hC.1 hC.2.1 hC.2.2.2.1 (hC.2.2.2.2 _ q1063) dJ18_bitCount_29 ?_
  refine lv_iand hC.1 hC.2.1 dJ18_bitCount_32 ?_
  refine lv_istore_n (lv' := [(0, _)]) hC.1 hC.2.1 dJ18_bitCount_33 rfl hl (by decide) rfl (fun ls hl => ?_)
  refine lv_iload_n hC.1 hC.2.1 dJ18_bitCount_34 rfl (lv_at hl 0 rfl) ?_
  refine lv_iload_n hC.1 hC.2.1 dJ18_bitCount_35 rfl (lv_at hl 0 rfl) ?_
  refine lv_bipush (v := 8) hC.1 hC.2.1 dJ18_bitCount_36 (by decide) ?_
  refine lv_iushr hC.1 hC.2.1 dJ18_bitCount_38 rfl ?_
  refine lv_iadd hC.1 hC.2.1 dJ18_bitCount_39 ?_
  refine lv_istore_n (lv' := [(0, _)]) hC.1 hC.2.1 dJ18_bitCount_40 rfl hl (by decide) rfl (fun ls hl => ?_)
  refine lv_iload_n hC.1 hC.2.1 dJ18_bitCount_41 rfl (lv_at hl 0 rfl) ?_
  refine lv_iload_n hC.1 hC.2.1 dJ18_bitCount_42 rfl (lv_at hl 0 rfl) ?_
  refine lv_bipush (v := 16) hC.1 hC.2.1 dJ18_bitCount_43 (by decide) ?_
  refine lv_iushr hC.1 hC.2.1 dJ18_bitCount_45 rfl ?_
  refine lv_iadd hC.1 hC.2.1 dJ18_bitCount_46 ?_
  refine lv_istore_n (lv' := [(0, _)]) hC.1 hC.2.1 dJ18_bitCount_47 rfl hl (by decide) rfl (fun ls hl => ?_)
  refine lv_iload_n hC.1 hC.2.1 dJ18_bitCount_48 rfl (lv_at hl 0 rfl) ?_
  refine lv_bipush (v := 63) hC.1 hC.2.1 dJ18_bitCount_49 (by decide) ?_
  refine lv_iand hC.1 hC.2.1 dJ18_bitCount_51 ?_
  refine s_iret hC hr hlocks dJ18_bitCount_52 ?_
  rfl

set_option maxHeartbeats 400000 in
set_option maxRecDepth 100000 in
theorem cn_moved (l : Launch) (κ : Nat → Nat) (O : gO) (no : Nat) (cv : Nat → Int32) (ad : Nat → Nat) (g : Nat → Nat → Option Nat) (cw : Nat → Nat → Int32) (rx : Nat → Int32) (rd : Nat → Nat) (rw : Nat → Nat → Int32) (v : Nat → Int32) (w : Nat → Nat → Int32) (x : Int32) (hN : O no = some (nsU cv ad g cw)) (hR : O (ad 4) = some (rdU rx rd rw)) (mm : Nat) (kd : Nat → Nat) (mv : Nat → Nat → Int32) (hro : rdR (w 5) rx rw mm kd mv) (n : Nat) (en : rx 4 = nI n) (hn : n ≤ 6) : oM l κ yX0_moved cX0_moved 8 (some .int) ({ frames := 2, cells := 0, slots := 0, locals := 45 }) [.ref no, .int x] O (fun rv O1 => rv = some (.int (op_moved v w x).1) ∧ O1 = O) := by
  intro D ac A
  refine o_body (own := RX0) rfl (plainFor_of_name (by decide)) (Nat.le_of_ble_eq_true rfl) ?_
  intro p e s m args below meth c ls hC hr hlocks hK hM hl hnamed hmeth
  have hl : lv_has ls 8 [(0, .ref no), (1, .int x)] := hl
  have hM := PS.of hM [(no, nsU cv ad g cw), (ad 4, rdU rx rd rw)] ⟨hN, hR, trivial⟩ (by simp only [oad, List.map, List.nodup_cons, List.mem_singleton, List.not_mem_nil, not_false_eq_true, List.nodup_nil, and_true]; exact o_ne hN hR (by decide))
  obtain ⟨r0, r1, r2, r3, r4, r5, r6, r7, rS, rM, rT⟩ := hro
  have i4 : iN (w 5 4) = n := by rw [r4, en]; exact iN_nI (by omega)
  refine lv_aload_n hC.1 hC.2.1 dX0_moved_0 rfl (lv_at hl 0 rfl) ?_
  refine p_cVe (L' := [_, _]) hC hK hM (hM.at 0 rfl) rfl (cn_isRoad l κ _ no cv ad g cw rx rd rw (hM.at 0 rfl) (hM.at 1 rfl)) (cwV 0 hC.2.2.2.2 (lw_V q881 q883 qs15 q63 q884) rfl rfl rfl (by decide +kernel) ⟨(Nat.le_of_ble_eq_true rfl), (Nat.le_of_ble_eq_true rfl)⟩) rfl hl.1 rfl (lv_room (Nat.le_of_ble_eq_true rfl)) dX0_moved_1 ⟨(Nat.le_of_ble_eq_true rfl), (Nat.le_of_ble_eq_true rfl)⟩ rfl hM.2 (fun H locs hM => ?_)
  refine lv_if_ne (tgt := 10) hC.1 hC.2.1 dX0_moved_4 (by decide) (fun c1 => ?_) (fun c1 => ?_)
  ·
    skip
    rw [bI_n0] at c1
    have cr := c1
    refine lv_iload_n hC.1 hC.2.1 dX0_moved_10 rfl (lv_at hl 1 rfl) ?_
    refine s_ci hC (cc_isHalf l x) (va_cwS 1 hC.2.2.2.2 (lw_S q999 q1000 q63 q1001) rfl rfl rfl (by decide +kernel) ⟨(Nat.le_of_ble_eq_true rfl), (Nat.le_of_ble_eq_true rfl)⟩) rfl hl.1 rfl (lv_room (Nat.le_of_ble_eq_true rfl)) dX0_moved_11 ⟨(Nat.le_of_ble_eq_true rfl), (Nat.le_of_ble_eq_true rfl)⟩ ?_
    refine lv_if_ne (tgt := 20) hC.1 hC.2.1 dX0_moved_14 (by decide) (fun c2 => ?_) (fun c2 => ?_)
    ·
      skip
      rw [bI_n0] at c2
      have cx := c2
      refine lv_iconst (v := 0) hC.1 hC.2.1 dX0_moved_20 (by decide) ?_
      refine lv_istore_n (lv' := [(2, _), (0, _), (1, _)]) hC.1 hC.2.1 dX0_moved_21 rfl hl (by decide) rfl (fun ls hl => ?_)
      refine lv_ldc hC.1 hC.2.1 hC.2.2.2.1 (hC.2.2.2.2 _ q1044) dX0_moved_22 ?_
      refine lv_istore_n (lv' := [(3, _), (2, _), (0, _), (1, _)]) hC.1 hC.2.1 dX0_moved_24 rfl hl (by decide) rfl (fun ls hl => ?_)
      refine lv_iconst (v := 0) hC.1 hC.2.1 dX0_moved_25 (by decide) ?_
      refine lv_istore (lv' := [(4, _), (3, _), (2, _), (0, _), (1, _)]) hC.1 hC.2.1 dX0_moved_26 hl (by decide) rfl (fun ls hl => ?_)
      refine w_ind (α := Nat) 28 (fun (k : Nat) => n - k) (fun (k : Nat) (H : Heap) (locs : List Loc) (ls : Array Slot) => (k ≤ n) ∧ PS D ac A s.heap O [(no, nsU cv ad g cw), (ad 4, rdU rx rd rw)] H locs ∧ lv_has ls 8 [(0, .ref no), (1, .int x), (2, .int (mCB (w 5) n k).2), (3, .int (mCB (w 5) n k).1), (4, .int (nI k))]) ?_ (0) ⟨by omega, hM, lv_sub hl [3, 4, 2, 1, 0] rfl⟩
      intro k H locs ls hI ih28
      obtain ⟨hI28, hM, hl⟩ := hI
      refine lv_iload hC.1 hC.2.1 dX0_moved_28 (lv_at hl 4 rfl) ?_
      refine lv_aload_n hC.1 hC.2.1 dX0_moved_30 rfl (lv_at hl 0 rfl) ?_
      refine p_get hC hK hM 0 rfl in_X0 rfl 4 (by decide) q223 (fun x h => h) rfl dX0_moved_31 ?_
      refine p_get hC hK hM 1 rfl in_X1 rfl 4 (by decide) q156 (fun x h => h) rfl dX0_moved_34 ?_
      rw [en]
      refine lv_icmp_ge (tgt := 190) hC.1 hC.2.1 dX0_moved_37 (by decide) (fun c3 => ?_) (fun c3 => ?_)
      ·
        have nc3 := Int32.not_lt.mpr c3
        have hx37 := nle_t (a := n) (b := k) c3
        obtain rfl : n = k := by omega
        refine lv_iload_n hC.1 hC.2.1 dX0_moved_190 rfl (lv_at hl 1 rfl) ?_
        refine lv_iconst (v := 1) hC.1 hC.2.1 dX0_moved_191 (by decide) ?_
        refine lv_icmp_ne (tgt := 199) hC.1 hC.2.1 dX0_moved_192 (by decide) (fun c4 => ?_) (fun c4 => ?_)
        ·
          skip
          have x1 := c4
          refine lv_iload_n hC.1 hC.2.1 dX0_moved_199 rfl (lv_at hl 3 rfl) ?_
          refine lv_ldc hC.1 hC.2.1 hC.2.2.2.1 (hC.2.2.2.2 _ q1044) dX0_moved_200 ?_
          refine lv_icmp_ne (tgt := 209) hC.1 hC.2.1 dX0_moved_202 (by decide) (fun c5 => ?_) (fun c5 => ?_)
          ·
            skip
            have o1 := c5
            refine lv_iload_n hC.1 hC.2.1 dX0_moved_209 rfl (lv_at hl 3 rfl) ?_
            skip
            refine p_iret hC hr hlocks hM dX0_moved_210 ?_
            refine ⟨?_, by rw [oups, oups, oups, oup_same hR]; exact oup_same hN⟩
            have hE := mCB_end (w 5) n hn
            have hx1 : x = 0 ∨ x = 1 := half_01 cx
            have hop : op_moved v w x = if x = 0 then ((mBst (w 5) n n).1, upd v 0 0, w) else ((mBst (w 5) n n).2, upd v 0 0, w) := by
              rw [op_moved, if_neg (fun h => h (by rw [r0]; exact cr)), if_neg (fun h => h cx), i4]
            rw [hop]
            rw [if_pos (hx1.resolve_right x1), ← hE.1, if_neg o1]
          ·
            skip
            have o1 := c5
            refine lv_iconst (v := 0) hC.1 hC.2.1 dX0_moved_205 (by decide) ?_
            refine lv_goto (tgt := 210) hC.1 hC.2.1 dX0_moved_206 (by decide) ?_
            skip
            refine p_iret hC hr hlocks hM dX0_moved_210 ?_
            refine ⟨?_, by rw [oups, oups, oups, oup_same hR]; exact oup_same hN⟩
            have hE := mCB_end (w 5) n hn
            have hx1 : x = 0 ∨ x = 1 := half_01 cx
            have hop : op_moved v w x = if x = 0 then ((mBst (w 5) n n).1, upd v 0 0, w) else ((mBst (w 5) n n).2, upd v 0 0, w) := by
              rw [op_moved, if_neg (fun h => h (by rw [r0]; exact cr)), if_neg (fun h => h cx), i4]
            rw [hop]
            rw [if_pos (hx1.resolve_right x1), ← hE.1, if_pos o1]
        ·
          skip
          have x1 := c4
          refine lv_iload_n hC.1 hC.2.1 dX0_moved_195 rfl (lv_at hl 2 rfl) ?_
          refine lv_goto (tgt := 210) hC.1 hC.2.1 dX0_moved_196 (by decide) ?_
          skip
          refine p_iret hC hr hlocks hM dX0_moved_210 ?_
          refine ⟨?_, by rw [oups, oups, oups, oup_same hR]; exact oup_same hN⟩
          have hE := mCB_end (w 5) n hn
          have hx1 : x = 0 ∨ x = 1 := half_01 cx
          have hop : op_moved v w x = if x = 0 then ((mBst (w 5) n n).1, upd v 0 0, w) else ((mBst (w 5) n n).2, upd v 0 0, w) := by
            rw [op_moved, if_neg (fun h => h (by rw [r0]; exact cr)), if_neg (fun h => h cx), i4]
          rw [hop]
          rw [if_neg (by rw [x1]; decide), hE.2]
      ·
        have nc3 := Int32.not_le.mp c3
        have hx37 := nle_f (a := n) (b := k) c3
        refine lv_iconst (v := 0) hC.1 hC.2.1 dX0_moved_40 (by decide) ?_
        refine lv_istore (lv' := [(5, _), (0, _), (1, _), (2, _), (3, _), (4, _)]) hC.1 hC.2.1 dX0_moved_41 hl (by decide) rfl (fun ls hl => ?_)
        refine lv_iconst (v := 0) hC.1 hC.2.1 dX0_moved_43 (by decide) ?_
        refine lv_istore (lv' := [(6, _), (5, _), (0, _), (1, _), (2, _), (3, _), (4, _)]) hC.1 hC.2.1 dX0_moved_44 hl (by decide) rfl (fun ls hl => ?_)
        refine w_ind (α := Nat) 46 (fun (q : Nat) => n - q) (fun (q : Nat) (H : Heap) (locs : List Loc) (ls : Array Slot) => (q ≤ n) ∧ PS D ac A s.heap O [(no, nsU cv ad g cw), (ad 4, rdU rx rd rw)] H locs ∧ lv_has ls 8 [(0, .ref no), (1, .int x), (2, .int (mCB (w 5) n k).2), (3, .int (mCB (w 5) n k).1), (4, .int (nI k)), (5, .int (mSet (w 5) k q)), (6, .int (nI q))]) ?_ (0) ⟨by omega, hM, lv_sub hl [2, 3, 4, 5, 6, 1, 0] rfl⟩
        intro q H locs ls hI ih46
        obtain ⟨hI46, hM, hl⟩ := hI
        refine lv_iload hC.1 hC.2.1 dX0_moved_46 (lv_at hl 6 rfl) ?_
        refine lv_aload_n hC.1 hC.2.1 dX0_moved_48 rfl (lv_at hl 0 rfl) ?_
        refine p_get hC hK hM 0 rfl in_X0 rfl 4 (by decide) q223 (fun x h => h) rfl dX0_moved_49 ?_
        refine p_get hC hK hM 1 rfl in_X1 rfl 4 (by decide) q156 (fun x h => h) rfl dX0_moved_52 ?_
        rw [en]
        refine lv_icmp_ge (tgt := 122) hC.1 hC.2.1 dX0_moved_55 (by decide) (fun c6 => ?_) (fun c6 => ?_)
        ·
          have nc6 := Int32.not_lt.mpr c6
          have hx55 := nle_t (a := n) (b := q) c6
          obtain rfl : n = q := by omega
          obtain ⟨ab, hb1, hb2, hb3⟩ := mSet_bits (w 5) k n hn
          have hbc : bcF (mSet (w 5) k n) = mOut (w 5) k n := by rw [hb2]; exact hb3
          refine lv_iload hC.1 hC.2.1 dX0_moved_122 (lv_at hl 5 rfl) ?_
          refine s_ci hC (cc_bitCount l (mSet (w 5) k n)) (va_cwS 1 hC.2.2.2.2 (lw_S q1058 q1059 q96 q1060) rfl rfl rfl (by decide +kernel) ⟨(Nat.le_of_ble_eq_true rfl), (Nat.le_of_ble_eq_true rfl)⟩) rfl hl.1 rfl (lv_room (Nat.le_of_ble_eq_true rfl)) dX0_moved_124 ⟨(Nat.le_of_ble_eq_true rfl), (Nat.le_of_ble_eq_true rfl)⟩ ?_
          rw [hbc]
          refine lv_istore (lv' := [(6, _), (0, _), (1, _), (2, _), (3, _), (4, _), (5, _)]) hC.1 hC.2.1 dX0_moved_127 hl (by decide) rfl (fun ls hl => ?_)
          refine lv_iload_n hC.1 hC.2.1 dX0_moved_129 rfl (lv_at hl 4 rfl) ?_
          refine lv_ldc hC.1 hC.2.1 hC.2.2.2.1 (hC.2.2.2.2 _ q1044) dX0_moved_130 ?_
          refine w_tern2 (cond := (mCB (w 5) n k).1 = -1000000 ∨ mOut (w 5) k n < (mCB (w 5) n k).1 ∨ (mOut (w 5) k n = (mCB (w 5) n k).1 ∧ mSet (w 5) k n < (mCB (w 5) n k).2)) (a := 1) (b := 0) 158 ?_ (fun jt132 jf132 => ?_)
          ·
            skip
            refine lv_istore (lv' := [(7, _), (6, _), (0, _), (1, _), (2, _), (3, _), (4, _), (5, _)]) hC.1 hC.2.1 dX0_moved_158 hl (by decide) rfl (fun ls hl => ?_)
            refine lv_iload hC.1 hC.2.1 dX0_moved_160 (lv_at hl 0 rfl) ?_
            refine w_tern1 (cond := (mCB (w 5) n k).1 = -1000000 ∨ mOut (w 5) k n < (mCB (w 5) n k).1 ∨ (mOut (w 5) k n = (mCB (w 5) n k).1 ∧ mSet (w 5) k n < (mCB (w 5) n k).2)) (a := mSet (w 5) k n) (b := (mCB (w 5) n k).2) 171 ?_ (fun jt162 jf162 => ?_)
            ·
              skip
              refine lv_istore_n (lv' := [(2, _), (7, _), (6, _), (0, _), (1, _), (3, _), (4, _), (5, _)]) hC.1 hC.2.1 dX0_moved_171 rfl hl (by decide) rfl (fun ls hl => ?_)
              refine lv_iload hC.1 hC.2.1 dX0_moved_172 (lv_at hl 1 rfl) ?_
              refine w_tern1 (cond := (mCB (w 5) n k).1 = -1000000 ∨ mOut (w 5) k n < (mCB (w 5) n k).1 ∨ (mOut (w 5) k n = (mCB (w 5) n k).1 ∧ mSet (w 5) k n < (mCB (w 5) n k).2)) (a := mOut (w 5) k n) (b := (mCB (w 5) n k).1) 183 ?_ (fun jt174 jf174 => ?_)
              ·
                skip
                refine lv_istore_n (lv' := [(3, _), (2, _), (7, _), (6, _), (0, _), (1, _), (4, _), (5, _)]) hC.1 hC.2.1 dX0_moved_183 rfl hl (by decide) rfl (fun ls hl => ?_)
                refine lv_iinc (v := nI (k + 1)) (lv' := [(4, _), (3, _), (2, _), (7, _), (6, _), (0, _), (1, _), (5, _)]) hC.1 hC.2.1 dX0_moved_184 hl (k := 6) rfl (nI_1 _) (by decide) rfl (fun ls hl => ?_)
                refine lv_goto (tgt := 28) hC.1 hC.2.1 dX0_moved_187 (by decide) ?_
                rw [show (if (mCB (w 5) n k).1 = -1000000 ∨ mOut (w 5) k n < (mCB (w 5) n k).1 ∨ (mOut (w 5) k n = (mCB (w 5) n k).1 ∧ mSet (w 5) k n < (mCB (w 5) n k).2) then mOut (w 5) k n else (mCB (w 5) n k).1) = (mCB (w 5) n (k + 1)).1 by rw [mCB]; split <;> rfl, show (if (mCB (w 5) n k).1 = -1000000 ∨ mOut (w 5) k n < (mCB (w 5) n k).1 ∨ (mOut (w 5) k n = (mCB (w 5) n k).1 ∧ mSet (w 5) k n < (mCB (w 5) n k).2) then mSet (w 5) k n else (mCB (w 5) n k).2) = (mCB (w 5) n (k + 1)).2 by rw [mCB]; split <;> rfl] at hl
                exact ih28 (k + 1) _ _ _ (by omega) ⟨by omega, hM, lv_sub hl [5, 6, 2, 1, 0] rfl⟩
              ·
                skip
                refine lv_if_eq (tgt := 182) hC.1 hC.2.1 dX0_moved_174 (by decide) (fun c7 => ?_) (fun c7 => ?_)
                ·
                  skip
                  refine lv_iload_n hC.1 hC.2.1 dX0_moved_182 rfl (lv_at hl 5 rfl) ?_
                  first | exact jt174 (by grind) | exact jf174 (by grind)
                ·
                  skip
                  refine lv_iload hC.1 hC.2.1 dX0_moved_177 (lv_at hl 2 rfl) ?_
                  refine lv_goto (tgt := 183) hC.1 hC.2.1 dX0_moved_179 (by decide) ?_
                  first | exact jt174 (by grind) | exact jf174 (by grind)
            ·
              skip
              refine lv_if_eq (tgt := 170) hC.1 hC.2.1 dX0_moved_162 (by decide) (fun c8 => ?_) (fun c8 => ?_)
              ·
                skip
                refine lv_iload_n hC.1 hC.2.1 dX0_moved_170 rfl (lv_at hl 4 rfl) ?_
                first | exact jt162 (by grind) | exact jf162 (by grind)
              ·
                skip
                refine lv_iload hC.1 hC.2.1 dX0_moved_165 (lv_at hl 7 rfl) ?_
                refine lv_goto (tgt := 171) hC.1 hC.2.1 dX0_moved_167 (by decide) ?_
                first | exact jt162 (by grind) | exact jf162 (by grind)
          ·
            skip
            refine lv_icmp_eq (tgt := 153) hC.1 hC.2.1 dX0_moved_132 (by decide) (fun c9 => ?_) (fun c9 => ?_)
            ·
              skip
              refine lv_iconst (v := 1) hC.1 hC.2.1 dX0_moved_153 (by decide) ?_
              refine lv_goto (tgt := 158) hC.1 hC.2.1 dX0_moved_154 (by decide) ?_
              first | exact jt132 (by grind) | exact jf132 (by grind)
            ·
              skip
              refine lv_iload hC.1 hC.2.1 dX0_moved_135 (lv_at hl 0 rfl) ?_
              refine lv_iload_n hC.1 hC.2.1 dX0_moved_137 rfl (lv_at hl 4 rfl) ?_
              refine lv_icmp_lt (tgt := 153) hC.1 hC.2.1 dX0_moved_138 (by decide) (fun c10 => ?_) (fun c10 => ?_)
              ·
                have nc10 := Int32.not_le.mpr c10
                refine lv_iconst (v := 1) hC.1 hC.2.1 dX0_moved_153 (by decide) ?_
                refine lv_goto (tgt := 158) hC.1 hC.2.1 dX0_moved_154 (by decide) ?_
                first | exact jt132 (by grind) | exact jf132 (by grind)
              ·
                have nc10 := Int32.not_lt.mp c10
                refine lv_iload hC.1 hC.2.1 dX0_moved_141 (lv_at hl 0 rfl) ?_
                refine lv_iload_n hC.1 hC.2.1 dX0_moved_143 rfl (lv_at hl 4 rfl) ?_
                refine lv_icmp_ne (tgt := 157) hC.1 hC.2.1 dX0_moved_144 (by decide) (fun c11 => ?_) (fun c11 => ?_)
                ·
                  skip
                  refine lv_iconst (v := 0) hC.1 hC.2.1 dX0_moved_157 (by decide) ?_
                  first | exact jt132 (by grind) | exact jf132 (by grind)
                ·
                  skip
                  refine lv_iload hC.1 hC.2.1 dX0_moved_147 (lv_at hl 6 rfl) ?_
                  refine lv_iload_n hC.1 hC.2.1 dX0_moved_149 rfl (lv_at hl 3 rfl) ?_
                  refine lv_icmp_ge (tgt := 157) hC.1 hC.2.1 dX0_moved_150 (by decide) (fun c12 => ?_) (fun c12 => ?_)
                  ·
                    have nc12 := Int32.not_lt.mpr c12
                    refine lv_iconst (v := 0) hC.1 hC.2.1 dX0_moved_157 (by decide) ?_
                    first | exact jt132 (by grind) | exact jf132 (by grind)
                  ·
                    have nc12 := Int32.not_le.mp c12
                    refine lv_iconst (v := 1) hC.1 hC.2.1 dX0_moved_153 (by decide) ?_
                    refine lv_goto (tgt := 158) hC.1 hC.2.1 dX0_moved_154 (by decide) ?_
                    first | exact jt132 (by grind) | exact jf132 (by grind)
        ·
          have nc6 := Int32.not_le.mp c6
          have hx55 := nle_f (a := n) (b := q) c6
          refine lv_iload hC.1 hC.2.1 dX0_moved_58 (lv_at hl 5 rfl) ?_
          refine lv_aload_n hC.1 hC.2.1 dX0_moved_60 rfl (lv_at hl 0 rfl) ?_
          refine p_get hC hK hM 0 rfl in_X0 rfl 4 (by decide) q223 (fun x h => h) rfl dX0_moved_61 ?_
          refine p_get hC hK hM 1 rfl in_X1 rfl 6 (by decide) q162 (fun x h => h) rfl dX0_moved_64 ?_
          refine lv_iload hC.1 hC.2.1 dX0_moved_67 (lv_at hl 6 rfl) ?_
          refine p_iald hC hK hM 1 rfl 6 rfl rfl (n := q) rfl (by show _ < 6; omega) (by decide) dX0_moved_69 ?_
          rw [← (rS q (by omega)).2.1]
          refine lv_aload_n hC.1 hC.2.1 dX0_moved_70 rfl (lv_at hl 0 rfl) ?_
          refine p_get hC hK hM 0 rfl in_X0 rfl 4 (by decide) q223 (fun x h => h) rfl dX0_moved_71 ?_
          refine p_get hC hK hM 1 rfl in_X1 rfl 5 (by decide) q159 (fun x h => h) rfl dX0_moved_74 ?_
          refine lv_iload hC.1 hC.2.1 dX0_moved_77 (lv_at hl 6 rfl) ?_
          refine p_iald hC hK hM 1 rfl 5 rfl rfl (n := q) rfl (by show _ < 6; omega) (by decide) dX0_moved_79 ?_
          rw [← (rS q (by omega)).1]
          refine lv_isub hC.1 hC.2.1 dX0_moved_80 ?_
          refine lv_aload_n hC.1 hC.2.1 dX0_moved_81 rfl (lv_at hl 0 rfl) ?_
          refine p_get hC hK hM 0 rfl in_X0 rfl 4 (by decide) q223 (fun x h => h) rfl dX0_moved_82 ?_
          refine p_get hC hK hM 1 rfl in_X1 rfl 6 (by decide) q162 (fun x h => h) rfl dX0_moved_85 ?_
          refine lv_iload hC.1 hC.2.1 dX0_moved_88 (lv_at hl 4 rfl) ?_
          refine p_iald hC hK hM 1 rfl 6 rfl rfl (n := k) rfl (by show _ < 6; omega) (by decide) dX0_moved_90 ?_
          rw [← (rS k (by omega)).2.1]
          refine lv_aload_n hC.1 hC.2.1 dX0_moved_91 rfl (lv_at hl 0 rfl) ?_
          refine p_get hC hK hM 0 rfl in_X0 rfl 4 (by decide) q223 (fun x h => h) rfl dX0_moved_92 ?_
          refine p_get hC hK hM 1 rfl in_X1 rfl 5 (by decide) q159 (fun x h => h) rfl dX0_moved_95 ?_
          refine lv_iload hC.1 hC.2.1 dX0_moved_98 (lv_at hl 4 rfl) ?_
          refine p_iald hC hK hM 1 rfl 5 rfl rfl (n := k) rfl (by show _ < 6; omega) (by decide) dX0_moved_100 ?_
          rw [← (rS k (by omega)).1]
          refine lv_isub hC.1 hC.2.1 dX0_moved_101 ?_
          refine w_tern2 (cond := w 5 (8 + 3 * q + 1) - w 5 (8 + 3 * q) = w 5 (8 + 3 * k + 1) - w 5 (8 + 3 * k)) (a := 0) (b := 1 <<< (nI q &&& 31)) 113 ?_ (fun jt102 jf102 => ?_)
          ·
            skip
            refine lv_ior hC.1 hC.2.1 dX0_moved_113 ?_
            refine lv_istore (lv' := [(5, _), (0, _), (1, _), (2, _), (3, _), (4, _), (6, _)]) hC.1 hC.2.1 dX0_moved_114 hl (by decide) rfl (fun ls hl => ?_)
            refine lv_iinc (v := nI (q + 1)) (lv' := [(6, _), (5, _), (0, _), (1, _), (2, _), (3, _), (4, _)]) hC.1 hC.2.1 dX0_moved_116 hl (k := 6) rfl (nI_1 _) (by decide) rfl (fun ls hl => ?_)
            refine lv_goto (tgt := 46) hC.1 hC.2.1 dX0_moved_119 (by decide) ?_
            exact ih46 (q + 1) _ _ _ (by omega) ⟨by omega, hM, lv_sub hl [2, 3, 4, 5, 6, 1, 0] rfl⟩
          ·
            skip
            refine lv_icmp_eq (tgt := 112) hC.1 hC.2.1 dX0_moved_102 (by decide) (fun c13 => ?_) (fun c13 => ?_)
            ·
              skip
              refine lv_iconst (v := 0) hC.1 hC.2.1 dX0_moved_112 (by decide) ?_
              first | exact jt102 (by assumption) | exact jf102 (by assumption)
            ·
              skip
              refine lv_iconst (v := 1) hC.1 hC.2.1 dX0_moved_105 (by decide) ?_
              refine lv_iload hC.1 hC.2.1 dX0_moved_106 (lv_at hl 6 rfl) ?_
              refine lv_ishl hC.1 hC.2.1 dX0_moved_108 ?_
              refine lv_goto (tgt := 113) hC.1 hC.2.1 dX0_moved_109 (by decide) ?_
              first | exact jt102 (by assumption) | exact jf102 (by assumption)
    ·
      skip
      rw [bI_0] at c2
      have cx := c2
      refine lv_ldc hC.1 hC.2.1 hC.2.2.2.1 (hC.2.2.2.2 _ q269) dX0_moved_17 ?_
      skip
      refine p_iret hC hr hlocks hM dX0_moved_19 ?_
      exact ⟨by rw [op_moved, if_neg (fun h => h (by rw [r0]; exact cr)), if_pos cx], by rw [oups, oups, oups, oup_same hR]; exact oup_same hN⟩
  ·
    skip
    rw [bI_0] at c1
    have cr := c1
    refine lv_ldc hC.1 hC.2.1 hC.2.2.2.1 (hC.2.2.2.2 _ q885) dX0_moved_7 ?_
    skip
    refine p_iret hC hr hlocks hM dX0_moved_9 ?_
    exact ⟨by rw [op_moved, if_pos (by rw [r0]; exact cr)], by rw [oups, oups, oups, oup_same hR]; exact oup_same hN⟩
