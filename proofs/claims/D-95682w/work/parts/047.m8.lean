set_option maxHeartbeats 400000 in
set_option maxRecDepth 100000 in
theorem mc_moved (l : Launch) (v : Nat → Int32) (w : Nat → Nat → Int32) (x : Int32) (n : Nat) (en : w 5 4 = nI n) (hn : n ≤ 6) : mMi l yX3_moved cX3_moved 10 (some .int) ({ frames := 1, cells := 0, slots := 0, locals := 25 }) [.int x] v w (fun r v1 w1 => (r, v1, w1) = op_moved v w x) := by
  intro D ac A G mo ad
  refine m_body rfl (Nat.le_of_ble_eq_true rfl) ?_
  intro p e s m args below meth c ls hC hr hlocks hK hM hl
  have hl : lv_has ls 10 [(0, .ref mo), (1, .int x)] := hl
  have i4 : iN (w 5 4) = n := by rw [en]; exact iN_nI (by omega)
  refine lv_aload_n hC.1 hC.2.1 dX3_moved_0 rfl (lv_at hl 0 rfl) ?_
  refine lv_iconst (v := 0) hC.1 hC.2.1 dX3_moved_1 (by decide) ?_
  refine m_put hC hK hM 0 (by decide) q1262 rfl rfl rfl rfl dX3_moved_2 (fun H locs hM => ?_)
  refine lv_aload_n hC.1 hC.2.1 dX3_moved_5 rfl (lv_at hl 0 rfl) ?_
  refine m_cr hC hK hM (mc_isThere l _ _) (cw_m 0 hC.2.2.2.2 q1458 q1460 qs39 q1461 ⟨rfl, rfl⟩ rfl (by decide +kernel) ⟨Nat.le_of_ble_eq_true rfl, Nat.le_of_ble_eq_true rfl⟩) rfl hl.1 rfl (lv_room (Nat.le_of_ble_eq_true rfl)) dX3_moved_6 ⟨Nat.le_of_ble_eq_true rfl, Nat.le_of_ble_eq_true rfl⟩ ?_
  refine lv_if_ne (tgt := 15) hC.1 hC.2.1 dX3_moved_9 (by decide) (fun c2 => ?_) (fun c2 => ?_)
  ·
    skip
    rw [bI_n0] at c2
    refine lv_iload_n hC.1 hC.2.1 dX3_moved_15 rfl (lv_at hl 1 rfl) ?_
    refine lv_i2l hC.1 hC.2.1 dX3_moved_16 rfl ?_
    refine lv_lconst (v := 0) hC.1 hC.2.1 dX3_moved_17 (by decide) ?_
    refine lv_lconst (v := 1) hC.1 hC.2.1 dX3_moved_18 (by decide) ?_
    refine s_ci hC ((mc_in l (a := 0) (b := 1) rfl rfl rfl)) (cw_ms 3 hC.2.2.2.2 q1350 q1351 q1352 ⟨rfl, rfl⟩ rfl (by decide +kernel) ⟨Nat.le_of_ble_eq_true rfl, Nat.le_of_ble_eq_true rfl⟩) rfl hl.1 rfl (lv_room (Nat.le_of_ble_eq_true rfl)) dX3_moved_19 ⟨Nat.le_of_ble_eq_true rfl, Nat.le_of_ble_eq_true rfl⟩ ?_
    refine lv_if_ne (tgt := 28) hC.1 hC.2.1 dX3_moved_22 (by decide) (fun c4 => ?_) (fun c4 => ?_)
    ·
      skip
      rw [bI_n0] at c4
      refine lv_aload_n hC.1 hC.2.1 dX3_moved_28 rfl (lv_at hl 0 rfl) ?_
      refine m_get hC hK hM 5 (by decide) q1267 rfl rfl dX3_moved_29 ?_
      refine lv_iconst (v := 4) hC.1 hC.2.1 dX3_moved_32 (by decide) ?_
      refine m_iald hC hK hM 5 rfl (n := 4) (by first | rfl | (simp only [← nI_add, ← pk_mul]; rfl)) (by first | decide | (show _ < 94; omega)) dX3_moved_33 ?_
      rw [en]
      refine lv_istore_n (lv' := [(2, _), (0, _), (1, _)]) hC.1 hC.2.1 dX3_moved_34 rfl hl (by decide) rfl (fun ls hl => ?_)
      refine lv_iload_n hC.1 hC.2.1 dX3_moved_35 rfl (lv_at hl 0 rfl) ?_
      refine lv_istore_n (lv' := [(3, _), (2, _), (0, _), (1, _)]) hC.1 hC.2.1 dX3_moved_36 rfl hl (by decide) rfl (fun ls hl => ?_)
      refine lv_iconst (v := 1) hC.1 hC.2.1 dX3_moved_37 (by decide) ?_
      refine lv_iload_n hC.1 hC.2.1 dX3_moved_38 rfl (lv_at hl 1 rfl) ?_
      refine lv_ishl hC.1 hC.2.1 dX3_moved_39 ?_
      refine lv_iconst (v := 1) hC.1 hC.2.1 dX3_moved_40 (by decide) ?_
      refine lv_isub hC.1 hC.2.1 dX3_moved_41 ?_
      refine lv_istore (lv' := [(4, _), (3, _), (2, _), (0, _), (1, _)]) hC.1 hC.2.1 dX3_moved_42 hl (by decide) rfl (fun ls hl => ?_)
      refine lv_iconst (v := 0) hC.1 hC.2.1 dX3_moved_44 (by decide) ?_
      refine lv_istore (lv' := [(5, _), (4, _), (3, _), (2, _), (0, _), (1, _)]) hC.1 hC.2.1 dX3_moved_45 hl (by decide) rfl (fun ls hl => ?_)
      refine w_ind (α := Nat) 47 (fun (k : Nat) => n - k) (fun (k : Nat) (H : Heap) (locs : List Loc) (ls : Array Slot) => (k ≤ n) ∧ MS D ac A G s.heap mo ad (upd v 0 0) (w) H locs ∧ lv_has ls 10 [(0, .ref mo), (1, .int x), (2, .int (nI n)), (3, .int (mBst (w 5) n k).1), (4, .int (mBst (w 5) n k).2), (5, .int (nI k))]) ?_ (0) ⟨by omega, hM, lv_sub hl [4, 5, 3, 2, 1, 0] rfl⟩
      intro k H locs ls hI ih47
      obtain ⟨hI47, hM, hl⟩ := hI
      refine lv_iload hC.1 hC.2.1 dX3_moved_47 (lv_at hl 5 rfl) ?_
      refine lv_iload_n hC.1 hC.2.1 dX3_moved_49 rfl (lv_at hl 2 rfl) ?_
      refine lv_icmp_ge (tgt := 205) hC.1 hC.2.1 dX3_moved_50 (by decide) (fun c5 => ?_) (fun c5 => ?_)
      ·
        have nc5 := Int32.not_lt.mpr c5
        have hx50 := nle_t (a := n) (b := k) c5
        obtain rfl : n = k := by omega
        refine lv_iload_n hC.1 hC.2.1 dX3_moved_205 rfl (lv_at hl 1 rfl) ?_
        refine w_tern1 (cond := x = 0) (a := (mBst (w 5) n n).1) (b := (mBst (w 5) n n).2) 215 ?_ (fun jt206 jf206 => ?_)
        ·
          skip
          refine m_iret hC hr hlocks hM dX3_moved_215 ?_
          have e : op_moved v w x = ((if x = 0 then (mBst (w 5) n n).1 else (mBst (w 5) n n).2), upd v 0 0, w) := by
            rw [op_moved, if_neg (fun h => h (by assumption)), if_neg (fun h => h (by assumption)), i4]
            split <;> rfl
          exact e.symm
        ·
          skip
          refine lv_if_ne (tgt := 213) hC.1 hC.2.1 dX3_moved_206 (by decide) (fun c6 => ?_) (fun c6 => ?_)
          ·
            skip
            refine lv_iload hC.1 hC.2.1 dX3_moved_213 (lv_at hl 4 rfl) ?_
            first | exact jt206 (by first | assumption | (simp_all; done) | grind) | exact jf206 (by first | assumption | (simp_all; done) | grind)
          ·
            skip
            refine lv_iload_n hC.1 hC.2.1 dX3_moved_209 rfl (lv_at hl 3 rfl) ?_
            refine lv_goto (tgt := 215) hC.1 hC.2.1 dX3_moved_210 (by decide) ?_
            first | exact jt206 (by first | assumption | (simp_all; done) | grind) | exact jf206 (by first | assumption | (simp_all; done) | grind)
      ·
        have nc5 := Int32.not_le.mp c5
        have hx50 := nle_f (a := n) (b := k) c5
        refine lv_iconst (v := 0) hC.1 hC.2.1 dX3_moved_53 (by decide) ?_
        refine lv_istore (lv' := [(6, _), (0, _), (1, _), (2, _), (3, _), (4, _), (5, _)]) hC.1 hC.2.1 dX3_moved_54 hl (by decide) rfl (fun ls hl => ?_)
        refine lv_iconst (v := 0) hC.1 hC.2.1 dX3_moved_56 (by decide) ?_
        refine lv_istore (lv' := [(7, _), (6, _), (0, _), (1, _), (2, _), (3, _), (4, _), (5, _)]) hC.1 hC.2.1 dX3_moved_57 hl (by decide) rfl (fun ls hl => ?_)
        refine lv_iconst (v := 0) hC.1 hC.2.1 dX3_moved_59 (by decide) ?_
        refine lv_istore (lv' := [(8, _), (7, _), (6, _), (0, _), (1, _), (2, _), (3, _), (4, _), (5, _)]) hC.1 hC.2.1 dX3_moved_60 hl (by decide) rfl (fun ls hl => ?_)
        refine w_ind (α := Nat) 62 (fun (q : Nat) => n - q) (fun (q : Nat) (H : Heap) (locs : List Loc) (ls : Array Slot) => (q ≤ n) ∧ MS D ac A G s.heap mo ad (upd v 0 0) (w) H locs ∧ lv_has ls 10 [(0, .ref mo), (1, .int x), (2, .int (nI n)), (3, .int (mBst (w 5) n k).1), (4, .int (mBst (w 5) n k).2), (5, .int (nI k)), (6, .int (mSet (w 5) k q)), (7, .int (mOut (w 5) k q)), (8, .int (nI q))]) ?_ (0) ⟨by omega, hM, lv_sub hl [3, 4, 5, 6, 7, 8, 2, 1, 0] rfl⟩
        intro q H locs ls hI ih62
        obtain ⟨hI62, hM, hl⟩ := hI
        refine lv_iload hC.1 hC.2.1 dX3_moved_62 (lv_at hl 8 rfl) ?_
        refine lv_iload_n hC.1 hC.2.1 dX3_moved_64 rfl (lv_at hl 2 rfl) ?_
        refine lv_icmp_ge (tgt := 147) hC.1 hC.2.1 dX3_moved_65 (by decide) (fun c7 => ?_) (fun c7 => ?_)
        ·
          have nc7 := Int32.not_lt.mpr c7
          have hx65 := nle_t (a := n) (b := q) c7
          obtain rfl : n = q := by omega
          refine lv_iload hC.1 hC.2.1 dX3_moved_147 (lv_at hl 7 rfl) ?_
          refine lv_iload_n hC.1 hC.2.1 dX3_moved_149 rfl (lv_at hl 3 rfl) ?_
          refine w_tern2 (cond := mOut (w 5) k n < (mBst (w 5) n k).1 ∨ (mOut (w 5) k n = (mBst (w 5) n k).1 ∧ mSet (w 5) k n < (mBst (w 5) n k).2)) (a := 1) (b := 0) 171 ?_ (fun jt150 jf150 => ?_)
          ·
            skip
            refine lv_istore (lv' := [(8, _), (0, _), (1, _), (2, _), (3, _), (4, _), (5, _), (6, _), (7, _)]) hC.1 hC.2.1 dX3_moved_171 hl (by decide) rfl (fun ls hl => ?_)
            refine lv_iload hC.1 hC.2.1 dX3_moved_173 (lv_at hl 0 rfl) ?_
            refine w_tern1 (cond := mOut (w 5) k n < (mBst (w 5) n k).1 ∨ (mOut (w 5) k n = (mBst (w 5) n k).1 ∧ mSet (w 5) k n < (mBst (w 5) n k).2)) (a := mOut (w 5) k n) (b := (mBst (w 5) n k).1) 184 ?_ (fun jt175 jf175 => ?_)
            ·
              skip
              refine lv_istore_n (lv' := [(3, _), (8, _), (0, _), (1, _), (2, _), (4, _), (5, _), (6, _), (7, _)]) hC.1 hC.2.1 dX3_moved_184 rfl hl (by decide) rfl (fun ls hl => ?_)
              refine lv_iload hC.1 hC.2.1 dX3_moved_185 (lv_at hl 1 rfl) ?_
              refine w_tern1 (cond := mOut (w 5) k n < (mBst (w 5) n k).1 ∨ (mOut (w 5) k n = (mBst (w 5) n k).1 ∧ mSet (w 5) k n < (mBst (w 5) n k).2)) (a := mSet (w 5) k n) (b := (mBst (w 5) n k).2) 197 ?_ (fun jt187 jf187 => ?_)
              ·
                skip
                refine lv_istore (lv' := [(4, _), (3, _), (8, _), (0, _), (1, _), (2, _), (5, _), (6, _), (7, _)]) hC.1 hC.2.1 dX3_moved_197 hl (by decide) rfl (fun ls hl => ?_)
                refine lv_iinc (v := nI (k + 1)) (lv' := [(5, _), (4, _), (3, _), (8, _), (0, _), (1, _), (2, _), (6, _), (7, _)]) hC.1 hC.2.1 dX3_moved_199 hl (k := 6) rfl (nI_1 _) (by decide) rfl (fun ls hl => ?_)
                refine lv_goto (tgt := 47) hC.1 hC.2.1 dX3_moved_202 (by decide) ?_
                rw [show (if mOut (w 5) k n < (mBst (w 5) n k).1 ∨ (mOut (w 5) k n = (mBst (w 5) n k).1 ∧ mSet (w 5) k n < (mBst (w 5) n k).2) then mOut (w 5) k n else (mBst (w 5) n k).1) = (mBst (w 5) n (k + 1)).1 by rw [mBst]; split <;> rfl, show (if mOut (w 5) k n < (mBst (w 5) n k).1 ∨ (mOut (w 5) k n = (mBst (w 5) n k).1 ∧ mSet (w 5) k n < (mBst (w 5) n k).2) then mSet (w 5) k n else (mBst (w 5) n k).2) = (mBst (w 5) n (k + 1)).2 by rw [mBst]; split <;> rfl] at hl
                exact ih47 (k + 1) _ _ _ (by omega) ⟨by omega, hM, lv_sub hl [4, 5, 6, 2, 1, 0] rfl⟩
              ·
                skip
                refine lv_if_eq (tgt := 195) hC.1 hC.2.1 dX3_moved_187 (by decide) (fun c8 => ?_) (fun c8 => ?_)
                ·
                  skip
                  refine lv_iload hC.1 hC.2.1 dX3_moved_195 (lv_at hl 5 rfl) ?_
                  first | exact jt187 (by grind) | exact jf187 (by grind)
                ·
                  skip
                  refine lv_iload hC.1 hC.2.1 dX3_moved_190 (lv_at hl 7 rfl) ?_
                  refine lv_goto (tgt := 197) hC.1 hC.2.1 dX3_moved_192 (by decide) ?_
                  first | exact jt187 (by grind) | exact jf187 (by grind)
            ·
              skip
              refine lv_if_eq (tgt := 183) hC.1 hC.2.1 dX3_moved_175 (by decide) (fun c9 => ?_) (fun c9 => ?_)
              ·
                skip
                refine lv_iload_n hC.1 hC.2.1 dX3_moved_183 rfl (lv_at hl 4 rfl) ?_
                first | exact jt175 (by grind) | exact jf175 (by grind)
              ·
                skip
                refine lv_iload hC.1 hC.2.1 dX3_moved_178 (lv_at hl 8 rfl) ?_
                refine lv_goto (tgt := 184) hC.1 hC.2.1 dX3_moved_180 (by decide) ?_
                first | exact jt175 (by grind) | exact jf175 (by grind)
          ·
            skip
            refine lv_icmp_lt (tgt := 166) hC.1 hC.2.1 dX3_moved_150 (by decide) (fun c10 => ?_) (fun c10 => ?_)
            ·
              have nc10 := Int32.not_le.mpr c10
              refine lv_iconst (v := 1) hC.1 hC.2.1 dX3_moved_166 (by decide) ?_
              refine lv_goto (tgt := 171) hC.1 hC.2.1 dX3_moved_167 (by decide) ?_
              first | exact jt150 (by grind) | exact jf150 (by grind)
            ·
              have nc10 := Int32.not_lt.mp c10
              refine lv_iload hC.1 hC.2.1 dX3_moved_153 (lv_at hl 7 rfl) ?_
              refine lv_iload_n hC.1 hC.2.1 dX3_moved_155 rfl (lv_at hl 3 rfl) ?_
              refine lv_icmp_ne (tgt := 170) hC.1 hC.2.1 dX3_moved_156 (by decide) (fun c11 => ?_) (fun c11 => ?_)
              ·
                skip
                refine lv_iconst (v := 0) hC.1 hC.2.1 dX3_moved_170 (by decide) ?_
                first | exact jt150 (by grind) | exact jf150 (by grind)
              ·
                skip
                refine lv_iload hC.1 hC.2.1 dX3_moved_159 (lv_at hl 6 rfl) ?_
                refine lv_iload hC.1 hC.2.1 dX3_moved_161 (lv_at hl 4 rfl) ?_
                refine lv_icmp_ge (tgt := 170) hC.1 hC.2.1 dX3_moved_163 (by decide) (fun c12 => ?_) (fun c12 => ?_)
                ·
                  have nc12 := Int32.not_lt.mpr c12
                  refine lv_iconst (v := 0) hC.1 hC.2.1 dX3_moved_170 (by decide) ?_
                  first | exact jt150 (by grind) | exact jf150 (by grind)
                ·
                  have nc12 := Int32.not_le.mp c12
                  refine lv_iconst (v := 1) hC.1 hC.2.1 dX3_moved_166 (by decide) ?_
                  refine lv_goto (tgt := 171) hC.1 hC.2.1 dX3_moved_167 (by decide) ?_
                  first | exact jt150 (by grind) | exact jf150 (by grind)
        ·
          have nc7 := Int32.not_le.mp c7
          have hx65 := nle_f (a := n) (b := q) c7
          refine lv_aload_n hC.1 hC.2.1 dX3_moved_68 rfl (lv_at hl 0 rfl) ?_
          refine lv_iload hC.1 hC.2.1 dX3_moved_69 (lv_at hl 8 rfl) ?_
          refine lv_iconst (v := 1) hC.1 hC.2.1 dX3_moved_71 (by decide) ?_
          refine m_cr hC hK hM (mc_stoneOf l _ _ q 1 (by omega) (by omega)) (cw_m 2 hC.2.2.2.2 q1467 q1469 qs41 q1470 ⟨rfl, rfl⟩ rfl (by decide +kernel) ⟨Nat.le_of_ble_eq_true rfl, Nat.le_of_ble_eq_true rfl⟩) rfl hl.1 rfl (lv_room (Nat.le_of_ble_eq_true rfl)) dX3_moved_72 ⟨Nat.le_of_ble_eq_true rfl, Nat.le_of_ble_eq_true rfl⟩ ?_
          refine lv_aload_n hC.1 hC.2.1 dX3_moved_75 rfl (lv_at hl 0 rfl) ?_
          refine lv_iload hC.1 hC.2.1 dX3_moved_76 (lv_at hl 8 rfl) ?_
          refine lv_iconst (v := 0) hC.1 hC.2.1 dX3_moved_78 (by decide) ?_
          refine m_cr hC hK hM (mc_stoneOf l _ _ q 0 (by omega) (by omega)) (cw_m 2 hC.2.2.2.2 q1467 q1469 qs41 q1470 ⟨rfl, rfl⟩ rfl (by decide +kernel) ⟨Nat.le_of_ble_eq_true rfl, Nat.le_of_ble_eq_true rfl⟩) rfl hl.1 rfl (lv_room (Nat.le_of_ble_eq_true rfl)) dX3_moved_79 ⟨Nat.le_of_ble_eq_true rfl, Nat.le_of_ble_eq_true rfl⟩ ?_
          refine lv_isub hC.1 hC.2.1 dX3_moved_82 ?_
          refine lv_aload_n hC.1 hC.2.1 dX3_moved_83 rfl (lv_at hl 0 rfl) ?_
          refine lv_iload hC.1 hC.2.1 dX3_moved_84 (lv_at hl 5 rfl) ?_
          refine lv_iconst (v := 1) hC.1 hC.2.1 dX3_moved_86 (by decide) ?_
          refine m_cr hC hK hM (mc_stoneOf l _ _ k 1 (by omega) (by omega)) (cw_m 2 hC.2.2.2.2 q1467 q1469 qs41 q1470 ⟨rfl, rfl⟩ rfl (by decide +kernel) ⟨Nat.le_of_ble_eq_true rfl, Nat.le_of_ble_eq_true rfl⟩) rfl hl.1 rfl (lv_room (Nat.le_of_ble_eq_true rfl)) dX3_moved_87 ⟨Nat.le_of_ble_eq_true rfl, Nat.le_of_ble_eq_true rfl⟩ ?_
          refine lv_aload_n hC.1 hC.2.1 dX3_moved_90 rfl (lv_at hl 0 rfl) ?_
          refine lv_iload hC.1 hC.2.1 dX3_moved_91 (lv_at hl 5 rfl) ?_
          refine lv_iconst (v := 0) hC.1 hC.2.1 dX3_moved_93 (by decide) ?_
          refine m_cr hC hK hM (mc_stoneOf l _ _ k 0 (by omega) (by omega)) (cw_m 2 hC.2.2.2.2 q1467 q1469 qs41 q1470 ⟨rfl, rfl⟩ rfl (by decide +kernel) ⟨Nat.le_of_ble_eq_true rfl, Nat.le_of_ble_eq_true rfl⟩) rfl hl.1 rfl (lv_room (Nat.le_of_ble_eq_true rfl)) dX3_moved_94 ⟨Nat.le_of_ble_eq_true rfl, Nat.le_of_ble_eq_true rfl⟩ ?_
          refine lv_isub hC.1 hC.2.1 dX3_moved_97 ?_
          refine w_tern2 (cond := w 5 (8 + 3 * q + 1) - w 5 (8 + 3 * q) = w 5 (8 + 3 * k + 1) - w 5 (8 + 3 * k)) (a := 0) (b := 1) 106 ?_ (fun jt98 jf98 => ?_)
          ·
            skip
            refine lv_istore (lv' := [(9, _), (0, _), (1, _), (2, _), (3, _), (4, _), (5, _), (6, _), (7, _), (8, _)]) hC.1 hC.2.1 dX3_moved_106 hl (by decide) rfl (fun ls hl => ?_)
            refine lv_iload hC.1 hC.2.1 dX3_moved_108 (lv_at hl 7 rfl) ?_
            refine lv_iload hC.1 hC.2.1 dX3_moved_110 (lv_at hl 0 rfl) ?_
            refine w_tern1 (cond := w 5 (8 + 3 * q + 1) - w 5 (8 + 3 * q) = w 5 (8 + 3 * k + 1) - w 5 (8 + 3 * k)) (a := 0) (b := 1 <<< (nI q &&& 31)) 123 ?_ (fun jt112 jf112 => ?_)
            ·
              skip
              refine lv_ior hC.1 hC.2.1 dX3_moved_123 ?_
              refine lv_istore (lv' := [(6, _), (9, _), (0, _), (1, _), (2, _), (3, _), (4, _), (5, _), (7, _), (8, _)]) hC.1 hC.2.1 dX3_moved_124 hl (by decide) rfl (fun ls hl => ?_)
              refine lv_iload hC.1 hC.2.1 dX3_moved_126 (lv_at hl 8 rfl) ?_
              refine lv_iload hC.1 hC.2.1 dX3_moved_128 (lv_at hl 1 rfl) ?_
              refine w_tern1 (cond := w 5 (8 + 3 * q + 1) - w 5 (8 + 3 * q) = w 5 (8 + 3 * k + 1) - w 5 (8 + 3 * k)) (a := 0) (b := 1) 138 ?_ (fun jt130 jf130 => ?_)
              ·
                skip
                refine lv_iadd hC.1 hC.2.1 dX3_moved_138 ?_
                refine lv_istore (lv' := [(7, _), (6, _), (9, _), (0, _), (1, _), (2, _), (3, _), (4, _), (5, _), (8, _)]) hC.1 hC.2.1 dX3_moved_139 hl (by decide) rfl (fun ls hl => ?_)
                refine lv_iinc (v := nI (q + 1)) (lv' := [(8, _), (7, _), (6, _), (9, _), (0, _), (1, _), (2, _), (3, _), (4, _), (5, _)]) hC.1 hC.2.1 dX3_moved_141 hl (k := 9) rfl (nI_1 _) (by decide) rfl (fun ls hl => ?_)
                refine lv_goto (tgt := 62) hC.1 hC.2.1 dX3_moved_144 (by decide) ?_
                exact ih62 (q + 1) _ _ _ (by omega) ⟨by omega, hM, lv_sub hl [4, 5, 6, 7, 8, 9, 2, 1, 0] rfl⟩
              ·
                skip
                refine lv_if_eq (tgt := 137) hC.1 hC.2.1 dX3_moved_130 (by decide) (fun c17 => ?_) (fun c17 => ?_)
                ·
                  skip
                  refine lv_iconst (v := 0) hC.1 hC.2.1 dX3_moved_137 (by decide) ?_
                  first | exact jt130 (by grind) | exact jf130 (by grind)
                ·
                  skip
                  refine lv_iconst (v := 1) hC.1 hC.2.1 dX3_moved_133 (by decide) ?_
                  refine lv_goto (tgt := 138) hC.1 hC.2.1 dX3_moved_134 (by decide) ?_
                  first | exact jt130 (by grind) | exact jf130 (by grind)
            ·
              skip
              refine lv_if_eq (tgt := 122) hC.1 hC.2.1 dX3_moved_112 (by decide) (fun c18 => ?_) (fun c18 => ?_)
              ·
                skip
                refine lv_iconst (v := 0) hC.1 hC.2.1 dX3_moved_122 (by decide) ?_
                first | exact jt112 (by grind) | exact jf112 (by grind)
              ·
                skip
                refine lv_iconst (v := 1) hC.1 hC.2.1 dX3_moved_115 (by decide) ?_
                refine lv_iload hC.1 hC.2.1 dX3_moved_116 (lv_at hl 9 rfl) ?_
                refine lv_ishl hC.1 hC.2.1 dX3_moved_118 ?_
                refine lv_goto (tgt := 123) hC.1 hC.2.1 dX3_moved_119 (by decide) ?_
                first | exact jt112 (by grind) | exact jf112 (by grind)
          ·
            skip
            refine lv_icmp_eq (tgt := 105) hC.1 hC.2.1 dX3_moved_98 (by decide) (fun c19 => ?_) (fun c19 => ?_)
            ·
              skip
              refine lv_iconst (v := 0) hC.1 hC.2.1 dX3_moved_105 (by decide) ?_
              first | exact jt98 (by first | assumption | (simp_all; done) | grind) | exact jf98 (by first | assumption | (simp_all; done) | grind)
            ·
              skip
              refine lv_iconst (v := 1) hC.1 hC.2.1 dX3_moved_101 (by decide) ?_
              refine lv_goto (tgt := 106) hC.1 hC.2.1 dX3_moved_102 (by decide) ?_
              first | exact jt98 (by first | assumption | (simp_all; done) | grind) | exact jf98 (by first | assumption | (simp_all; done) | grind)
    ·
      skip
      rw [bI_0] at c4
      refine lv_ldc hC.1 hC.2.1 hC.2.2.2.1 (hC.2.2.2.2 _ q1354) dX3_moved_25 ?_
      refine m_iret hC hr hlocks hM dX3_moved_27 ?_
      first | (simp [op_moved, wup_s, upd_s, wup_n, upd_n, *]; done) | (simp_all [op_moved, wup_s, upd_s, wup_n, upd_n]; done) | grind [op_moved, wup_s, upd_s, wup_n, upd_n]
  ·
    skip
    rw [bI_0] at c2
    refine lv_ldc hC.1 hC.2.1 hC.2.2.2.1 (hC.2.2.2.2 _ q1462) dX3_moved_12 ?_
    refine m_iret hC hr hlocks hM dX3_moved_14 ?_
    first | (simp [op_moved, wup_s, upd_s, wup_n, upd_n, *]; done) | (simp_all [op_moved, wup_s, upd_s, wup_n, upd_n]; done) | grind [op_moved, wup_s, upd_s, wup_n, upd_n]

set_option maxHeartbeats 400000 in
set_option maxRecDepth 100000 in
theorem mc_dare (l : Launch) (v : Nat → Int32) (w : Nat → Nat → Int32) (x y : Int32) (hab : ∀ d, d ≤ 3 → ∃ A, A < 2 ^ 31 ∧ absI (brF (w 5) d (w 5 1)) = nI A) : mMi l yX3_dare cX3_dare 7 (some .int) ({ frames := 2, cells := 0, slots := 0, locals := 46 }) [.int x, .int y] v w (fun r v1 w1 => (r, v1, w1) = op_dare v w x y) := by
  intro D ac A G mo ad
  refine m_body rfl (Nat.le_of_ble_eq_true rfl) ?_
  intro p e s m args below meth c ls hC hr hlocks hK hM hl
  have hl : lv_has ls 7 [(0, .ref mo), (1, .int x), (2, .int y)] := hl
  refine lv_aload_n hC.1 hC.2.1 dX3_dare_0 rfl (lv_at hl 0 rfl) ?_
  refine lv_iconst (v := 0) hC.1 hC.2.1 dX3_dare_1 (by decide) ?_
  refine m_put hC hK hM 0 (by decide) q1262 rfl rfl rfl rfl dX3_dare_2 (fun H locs hM => ?_)
  refine lv_aload_n hC.1 hC.2.1 dX3_dare_5 rfl (lv_at hl 0 rfl) ?_
  refine m_cr hC hK hM (mc_isThere l _ _) (cw_m 0 hC.2.2.2.2 q1458 q1460 qs39 q1461 ⟨rfl, rfl⟩ rfl (by decide +kernel) ⟨Nat.le_of_ble_eq_true rfl, Nat.le_of_ble_eq_true rfl⟩) rfl hl.1 rfl (lv_room (Nat.le_of_ble_eq_true rfl)) dX3_dare_6 ⟨Nat.le_of_ble_eq_true rfl, Nat.le_of_ble_eq_true rfl⟩ ?_
  refine lv_if_ne (tgt := 15) hC.1 hC.2.1 dX3_dare_9 (by decide) (fun c2 => ?_) (fun c2 => ?_)
  ·
    skip
    rw [bI_n0] at c2
    refine lv_iload_n hC.1 hC.2.1 dX3_dare_15 rfl (lv_at hl 1 rfl) ?_
    refine lv_i2l hC.1 hC.2.1 dX3_dare_16 rfl ?_
    refine lv_lconst (v := 0) hC.1 hC.2.1 dX3_dare_17 (by decide) ?_
    refine lv_ldc2 hC.1 hC.2.1 hC.2.2.2.1 (hC.2.2.2.2 _ q1579) dX3_dare_18 ?_
    refine s_ci hC ((mc_in l (a := 0) (b := 3) rfl rfl rfl)) (cw_ms 3 hC.2.2.2.2 q1350 q1351 q1352 ⟨rfl, rfl⟩ rfl (by decide +kernel) ⟨Nat.le_of_ble_eq_true rfl, Nat.le_of_ble_eq_true rfl⟩) rfl hl.1 rfl (lv_room (Nat.le_of_ble_eq_true rfl)) dX3_dare_21 ⟨Nat.le_of_ble_eq_true rfl, Nat.le_of_ble_eq_true rfl⟩ ?_
    refine lv_if_eq (tgt := 37) hC.1 hC.2.1 dX3_dare_24 (by decide) (fun c4 => ?_) (fun c4 => ?_)
    ·
      skip
      rw [bI_0] at c4
      refine lv_ldc hC.1 hC.2.1 hC.2.2.2.1 (hC.2.2.2.2 _ q1354) dX3_dare_37 ?_
      refine m_iret hC hr hlocks hM dX3_dare_39 ?_
      first | (simp [op_dare, wup_s, upd_s, wup_n, upd_n, *]; done) | (simp_all [op_dare, wup_s, upd_s, wup_n, upd_n]; done) | grind [op_dare, wup_s, upd_s, wup_n, upd_n]
    ·
      skip
      rw [bI_n0] at c4
      obtain ⟨d, hd, rfl⟩ := in_nI (N := 3) rfl rfl c4
      have ed : iN (nI d) = d := iN_nI (by omega)
      obtain ⟨U, hU, eU⟩ := hab d hd
      have iU : iN (absI (brF (w 5) d (w 5 1))) = U := by rw [eU]; exact iN_nI hU
      refine lv_iload_n hC.1 hC.2.1 dX3_dare_27 rfl (lv_at hl 2 rfl) ?_
      refine lv_i2l hC.1 hC.2.1 dX3_dare_28 rfl ?_
      refine lv_lconst (v := 0) hC.1 hC.2.1 dX3_dare_29 (by decide) ?_
      refine lv_lconst (v := 1) hC.1 hC.2.1 dX3_dare_30 (by decide) ?_
      refine s_ci hC ((mc_in l (a := 0) (b := 1) rfl rfl rfl)) (cw_ms 3 hC.2.2.2.2 q1350 q1351 q1352 ⟨rfl, rfl⟩ rfl (by decide +kernel) ⟨Nat.le_of_ble_eq_true rfl, Nat.le_of_ble_eq_true rfl⟩) rfl hl.1 rfl (lv_room (Nat.le_of_ble_eq_true rfl)) dX3_dare_31 ⟨Nat.le_of_ble_eq_true rfl, Nat.le_of_ble_eq_true rfl⟩ ?_
      refine lv_if_ne (tgt := 40) hC.1 hC.2.1 dX3_dare_34 (by decide) (fun c6 => ?_) (fun c6 => ?_)
      ·
        skip
        rw [bI_n0] at c6
        refine lv_aload_n hC.1 hC.2.1 dX3_dare_40 rfl (lv_at hl 0 rfl) ?_
        refine lv_iload_n hC.1 hC.2.1 dX3_dare_41 rfl (lv_at hl 1 rfl) ?_
        refine lv_aload_n hC.1 hC.2.1 dX3_dare_42 rfl (lv_at hl 0 rfl) ?_
        refine m_get hC hK hM 5 (by decide) q1267 rfl rfl dX3_dare_43 ?_
        refine lv_iconst (v := 1) hC.1 hC.2.1 dX3_dare_46 (by decide) ?_
        refine m_iald hC hK hM 5 rfl (n := 1) (by first | rfl | (simp only [← nI_add, ← pk_mul]; rfl)) (by first | decide | (show _ < 94; omega)) dX3_dare_47 ?_
        refine m_cr hC hK hM (mc_brings l _ _ d _ hd) (cw_m 2 hC.2.2.2.2 q1580 q1582 qs54 q1583 ⟨rfl, rfl⟩ rfl (by decide +kernel) ⟨Nat.le_of_ble_eq_true rfl, Nat.le_of_ble_eq_true rfl⟩) rfl hl.1 rfl (lv_room (Nat.le_of_ble_eq_true rfl)) dX3_dare_48 ⟨Nat.le_of_ble_eq_true rfl, Nat.le_of_ble_eq_true rfl⟩ ?_
        refine lv_istore_n (lv' := [(3, _), (0, _), (1, _), (2, _)]) hC.1 hC.2.1 dX3_dare_51 rfl hl (by decide) rfl (fun ls hl => ?_)
        refine lv_iload_n hC.1 hC.2.1 dX3_dare_52 rfl (lv_at hl 0 rfl) ?_
        refine w_tern1 (cond := 0 ≤ brF (w 5) d (w 5 1)) (a := brF (w 5) d (w 5 1)) (b := -(brF (w 5) d (w 5 1))) 62 ?_ (fun jt53 jf53 => ?_)
        ·
          skip
          refine lv_istore (lv' := [(4, _), (3, _), (0, _), (1, _), (2, _)]) hC.1 hC.2.1 dX3_dare_62 hl (by decide) rfl (fun ls hl => ?_)
          refine lv_ldc hC.1 hC.2.1 hC.2.2.2.1 (hC.2.2.2.2 _ q1587) dX3_dare_64 ?_
          refine lv_istore (lv' := [(5, _), (4, _), (3, _), (0, _), (1, _), (2, _)]) hC.1 hC.2.1 dX3_dare_66 hl (by decide) rfl (fun ls hl => ?_)
          rw [show (if 0 ≤ brF (w 5) d (w 5 1) then brF (w 5) d (w 5 1) else -(brF (w 5) d (w 5 1))) = nI U from eU] at hl
          refine w_ind (α := Nat × Nat) 68 (fun (x_ : Nat × Nat) => (fun (a : Nat) (b : Nat) => b) x_.1 x_.2) (fun (x_ : Nat × Nat) (H : Heap) (locs : List Loc) (ls : Array Slot) => (fun (a : Nat) (b : Nat) => (a < 2 ^ 31 ∧ b ≤ 1000000 ∧ Nat.gcd a b = Nat.gcd U 1000000) ∧ MS D ac A G s.heap mo ad (upd v 0 0) (w) H locs ∧ lv_has ls 7 [(0, .ref mo), (1, .int (nI d)), (2, .int y), (3, .int (brF (w 5) d (w 5 1))), (4, .int (nI a)), (5, .int (nI b))]) x_.1 x_.2) ?_ ((U, 1000000)) ⟨⟨hU, Nat.le_refl _, rfl⟩, hM, lv_sub hl [3, 4, 5, 2, 1, 0] rfl⟩
          intro x_ H locs ls hI ih68
          obtain ⟨a, b⟩ := x_
          dsimp only at hI
          obtain ⟨hI68, hM, hl⟩ := hI
          refine lv_iload hC.1 hC.2.1 dX3_dare_68 (lv_at hl 5 rfl) ?_
          refine lv_if_eq (tgt := 91) hC.1 hC.2.1 dX3_dare_70 (by decide) (fun c8 => ?_) (fun c8 => ?_)
          ·
            skip
            have c0 : b = 0 := neq_t (b := 0) c8
            have hg : a = Nat.gcd U 1000000 := by rw [← hI68.2.2, c0, Nat.gcd_zero_right]
            have hg1 : 0 < Nat.gcd U 1000000 := Nat.gcd_pos_of_pos_right _ (by decide)
            have hg2 : Nat.gcd U 1000000 ≤ 1000000 := Nat.gcd_le_right _ (by decide)
            subst hg
            refine lv_iload_n hC.1 hC.2.1 dX3_dare_91 rfl (lv_at hl 2 rfl) ?_
            refine w_tern1 (cond := y = 0) (a := brF (w 5) d (w 5 1)) (b := 1000000) 101 ?_ (fun jt92 jf92 => ?_)
            ·
              skip
              refine lv_iload hC.1 hC.2.1 dX3_dare_101 (lv_at hl 4 rfl) ?_
              refine lv_idiv hC.1 hC.2.1 dX3_dare_103 (nI_ne0 hg1 (by omega)) ?_
              refine m_iret hC hr hlocks hM dX3_dare_104 ?_
              have e : op_dare v w (nI d) y = ((if y = 0 then brF (w 5) d (w 5 1) else 1000000) / nI (Nat.gcd U 1000000), upd v 0 0, w) := by
                rw [op_dare, if_neg (fun h => h (by assumption)), if_neg (by intro h; rcases h with h | h <;> exact h (by assumption)), ed, iU]
              exact e.symm
            ·
              skip
              refine lv_if_ne (tgt := 99) hC.1 hC.2.1 dX3_dare_92 (by decide) (fun c9 => ?_) (fun c9 => ?_)
              ·
                skip
                refine lv_ldc hC.1 hC.2.1 hC.2.2.2.1 (hC.2.2.2.2 _ q1587) dX3_dare_99 ?_
                first | exact jt92 (by first | assumption | (simp_all; done) | grind) | exact jf92 (by first | assumption | (simp_all; done) | grind)
              ·
                skip
                refine lv_iload_n hC.1 hC.2.1 dX3_dare_95 rfl (lv_at hl 3 rfl) ?_
                refine lv_goto (tgt := 101) hC.1 hC.2.1 dX3_dare_96 (by decide) ?_
                first | exact jt92 (by first | assumption | (simp_all; done) | grind) | exact jf92 (by first | assumption | (simp_all; done) | grind)
          ·
            skip
            have c0 : ¬ nI b = 0 := c8
            have c1 : b ≠ 0 := neq_f (b := 0) c8
            refine lv_iload hC.1 hC.2.1 dX3_dare_73 (lv_at hl 4 rfl) ?_
            refine lv_iload hC.1 hC.2.1 dX3_dare_75 (lv_at hl 5 rfl) ?_
            refine lv_irem hC.1 hC.2.1 dX3_dare_77 c0 ?_
            rw [show nI a - nI a / nI b * nI b = nI (a % b) from pk_rem (by omega) (by omega) (by omega)]
            refine lv_istore (lv' := [(6, _), (0, _), (1, _), (2, _), (3, _), (4, _), (5, _)]) hC.1 hC.2.1 dX3_dare_78 hl (by decide) rfl (fun ls hl => ?_)
            refine lv_iload hC.1 hC.2.1 dX3_dare_80 (lv_at hl 6 rfl) ?_
            refine lv_istore (lv' := [(4, _), (6, _), (0, _), (1, _), (2, _), (3, _), (5, _)]) hC.1 hC.2.1 dX3_dare_82 hl (by decide) rfl (fun ls hl => ?_)
            refine lv_iload hC.1 hC.2.1 dX3_dare_84 (lv_at hl 1 rfl) ?_
            refine lv_istore (lv' := [(5, _), (4, _), (6, _), (0, _), (1, _), (2, _), (3, _)]) hC.1 hC.2.1 dX3_dare_86 hl (by decide) rfl (fun ls hl => ?_)
            refine lv_goto (tgt := 68) hC.1 hC.2.1 dX3_dare_88 (by decide) ?_
            exact ih68 ((b, a % b)) _ _ _ (by show a % b < b; exact Nat.mod_lt _ (by omega)) ⟨⟨by omega, by have := Nat.mod_lt a (show 0 < b by omega); omega, by rw [← hI68.2.2, Nat.gcd_comm a b, Nat.gcd_rec b a, Nat.gcd_comm]⟩, hM, lv_sub hl [3, 4, 5, 6, 1, 0] rfl⟩
        ·
          skip
          refine lv_if_ge (tgt := 61) hC.1 hC.2.1 dX3_dare_53 (by decide) (fun c10 => ?_) (fun c10 => ?_)
          ·
            have nc10 := Int32.not_lt.mpr c10
            refine lv_iload_n hC.1 hC.2.1 dX3_dare_61 rfl (lv_at hl 0 rfl) ?_
            first | exact jt53 (by first | assumption | (intro h; exact absurd h (by assumption)) | grind) | exact jf53 (by first | assumption | (intro h; exact absurd h (by assumption)) | grind)
          ·
            have nc10 := Int32.not_le.mp c10
            refine lv_iload_n hC.1 hC.2.1 dX3_dare_56 rfl (lv_at hl 0 rfl) ?_
            refine lv_ineg hC.1 hC.2.1 dX3_dare_57 ?_
            refine lv_goto (tgt := 62) hC.1 hC.2.1 dX3_dare_58 (by decide) ?_
            first | exact jt53 (by first | assumption | (intro h; exact absurd h (by assumption)) | grind) | exact jf53 (by first | assumption | (intro h; exact absurd h (by assumption)) | grind)
      ·
        skip
        rw [bI_0] at c6
        refine lv_ldc hC.1 hC.2.1 hC.2.2.2.1 (hC.2.2.2.2 _ q1354) dX3_dare_37 ?_
        refine m_iret hC hr hlocks hM dX3_dare_39 ?_
        first | (simp [op_dare, wup_s, upd_s, wup_n, upd_n, *]; done) | (simp_all [op_dare, wup_s, upd_s, wup_n, upd_n]; done) | grind [op_dare, wup_s, upd_s, wup_n, upd_n]
  ·
    skip
    rw [bI_0] at c2
    refine lv_ldc hC.1 hC.2.1 hC.2.2.2.1 (hC.2.2.2.2 _ q1462) dX3_dare_12 ?_
    refine m_iret hC hr hlocks hM dX3_dare_14 ?_
    first | (simp [op_dare, wup_s, upd_s, wup_n, upd_n, *]; done) | (simp_all [op_dare, wup_s, upd_s, wup_n, upd_n]; done) | grind [op_dare, wup_s, upd_s, wup_n, upd_n]

set_option maxHeartbeats 400000 in
set_option maxRecDepth 100000 in
theorem mc_undo (l : Launch) (v : Nat → Int32) (w : Nat → Nat → Int32) (a : Nat) (ea : v 8 = nI a) (ha : a ≤ 24) : mMi l yX3_undo cX3_undo 2 (some .int) ({ frames := 0, cells := 0, slots := 0, locals := 0 }) [] v w (fun r v1 w1 => (r, v1, w1) = op_undo v w) := by
  intro D ac A G mo ad
  refine m_body rfl (Nat.le_of_ble_eq_true rfl) ?_
  intro p e s m args below meth c ls hC hr hlocks hK hM hl
  have hl : lv_has ls 2 [(0, .ref mo)] := hl
  refine lv_aload_n hC.1 hC.2.1 dX3_undo_0 rfl (lv_at hl 0 rfl) ?_
  refine lv_iconst (v := 0) hC.1 hC.2.1 dX3_undo_1 (by decide) ?_
  refine m_put hC hK hM 0 (by decide) q1262 rfl rfl rfl rfl dX3_undo_2 (fun H locs hM => ?_)
  refine lv_aload_n hC.1 hC.2.1 dX3_undo_5 rfl (lv_at hl 0 rfl) ?_
  refine m_get hC hK hM 8 (by decide) q1270 rfl rfl dX3_undo_6 ?_
  refine lv_if_ne (tgt := 15) hC.1 hC.2.1 dX3_undo_9 (by decide) (fun c1 => ?_) (fun c1 => ?_)
  ·
    skip
    obtain ⟨b, rfl⟩ : ∃ b, a = b + 1 := ⟨a - 1, by
      rcases Nat.eq_zero_or_pos a with h | h
      · subst h; exact absurd ea c1
      · omega⟩
    have eb : v 8 - 1 = nI b := by rw [ea]; exact nI_pred b
    have ib : iN (v 8 - 1) = b := by rw [eb]; exact iN_nI (by omega)
    refine lv_aload_n hC.1 hC.2.1 dX3_undo_15 rfl (lv_at hl 0 rfl) ?_
    refine lv_dup hC.1 hC.2.1 dX3_undo_16 rfl ?_
    refine m_get hC hK hM 8 (by decide) q1270 rfl rfl dX3_undo_17 ?_
    refine lv_iconst (v := 1) hC.1 hC.2.1 dX3_undo_20 (by decide) ?_
    refine lv_isub hC.1 hC.2.1 dX3_undo_21 ?_
    refine m_put hC hK hM 8 (by decide) q1270 rfl rfl rfl rfl dX3_undo_22 (fun H locs hM => ?_)
    refine lv_iconst (v := 0) hC.1 hC.2.1 dX3_undo_25 (by decide) ?_
    refine lv_istore_n (lv' := [(1, _), (0, _)]) hC.1 hC.2.1 dX3_undo_26 rfl hl (by decide) rfl (fun ls hl => ?_)
    refine w_ind (α := Nat) 27 (fun (k : Nat) => 6 - k) (fun (k : Nat) (H : Heap) (locs : List Loc) (ls : Array Slot) => (k ≤ 6) ∧ MS D ac A G s.heap mo ad (upd (upd v 0 0) 8 (v 8 - 1)) (wst w k (fun k => w 7 (7 * b + k))) H locs ∧ lv_has ls 2 [(0, .ref mo), (1, .int (nI k))]) ?_ (0) ⟨by omega, by rw [wst_0]; exact hM, lv_sub hl [1, 0] rfl⟩
    intro k H locs ls hI ih27
    obtain ⟨hI27, hM, hl⟩ := hI
    refine lv_iload_n hC.1 hC.2.1 dX3_undo_27 rfl (lv_at hl 1 rfl) ?_
    refine lv_bipush (v := 6) hC.1 hC.2.1 dX3_undo_28 (by decide) ?_
    refine lv_icmp_ge (tgt := 66) hC.1 hC.2.1 dX3_undo_30 (by decide) (fun c2 => ?_) (fun c2 => ?_)
    ·
      have nc2 := Int32.not_lt.mpr c2
      have hx30 := nle_t (a := 6) (b := k) c2
      obtain rfl : k = 6 := by omega
      refine lv_aload_n hC.1 hC.2.1 dX3_undo_66 rfl (lv_at hl 0 rfl) ?_
      refine m_get hC hK hM 5 (by decide) q1267 rfl rfl dX3_undo_67 ?_
      refine lv_bipush (v := 6) hC.1 hC.2.1 dX3_undo_70 (by decide) ?_
      refine lv_aload_n hC.1 hC.2.1 dX3_undo_72 rfl (lv_at hl 0 rfl) ?_
      refine m_get hC hK hM 7 (by decide) q1269 rfl rfl dX3_undo_73 ?_
      refine lv_bipush (v := 7) hC.1 hC.2.1 dX3_undo_76 (by decide) ?_
      refine lv_aload_n hC.1 hC.2.1 dX3_undo_78 rfl (lv_at hl 0 rfl) ?_
      refine m_get hC hK hM 8 (by decide) q1270 rfl rfl dX3_undo_79 ?_
      rw [show upd (upd v 0 0) 8 (v 8 - 1) 8 = nI b from eb]
      refine lv_imul hC.1 hC.2.1 dX3_undo_82 ?_
      refine lv_bipush (v := 6) hC.1 hC.2.1 dX3_undo_83 (by decide) ?_
      refine lv_iadd hC.1 hC.2.1 dX3_undo_85 ?_
      refine m_iald hC hK hM 7 rfl (n := ((7 * b) + 6)) (by first | rfl | (simp only [← nI_add, ← pk_mul]; rfl)) (by first | decide | (show _ < 168; omega)) dX3_undo_86 ?_
      refine m_iast hC hK hM 5 rfl (n := 6) (by first | rfl | (simp only [← nI_add, ← pk_mul]; rfl)) (by first | decide | (show _ < 94; omega)) dX3_undo_87 (fun H locs hM => ?_)
      refine lv_aload_n hC.1 hC.2.1 dX3_undo_88 rfl (lv_at hl 0 rfl) ?_
      refine m_get hC hK hM 8 (by decide) q1270 rfl rfl dX3_undo_89 ?_
      refine m_iret hC hr hlocks hM dX3_undo_92 ?_
      rw [op_undo, if_neg (by assumption), ib]; rfl
    ·
      have nc2 := Int32.not_le.mp c2
      have hx30 := nle_f (a := 6) (b := k) c2
      refine lv_aload_n hC.1 hC.2.1 dX3_undo_33 rfl (lv_at hl 0 rfl) ?_
      refine m_get hC hK hM 5 (by decide) q1267 rfl rfl dX3_undo_34 ?_
      refine lv_bipush (v := 8) hC.1 hC.2.1 dX3_undo_37 (by decide) ?_
      refine lv_iconst (v := 3) hC.1 hC.2.1 dX3_undo_39 (by decide) ?_
      refine lv_iload_n hC.1 hC.2.1 dX3_undo_40 rfl (lv_at hl 1 rfl) ?_
      refine lv_imul hC.1 hC.2.1 dX3_undo_41 ?_
      refine lv_iadd hC.1 hC.2.1 dX3_undo_42 ?_
      refine lv_iconst (v := 1) hC.1 hC.2.1 dX3_undo_43 (by decide) ?_
      refine lv_iadd hC.1 hC.2.1 dX3_undo_44 ?_
      refine lv_aload_n hC.1 hC.2.1 dX3_undo_45 rfl (lv_at hl 0 rfl) ?_
      refine m_get hC hK hM 7 (by decide) q1269 rfl rfl dX3_undo_46 ?_
      refine lv_bipush (v := 7) hC.1 hC.2.1 dX3_undo_49 (by decide) ?_
      refine lv_aload_n hC.1 hC.2.1 dX3_undo_51 rfl (lv_at hl 0 rfl) ?_
      refine m_get hC hK hM 8 (by decide) q1270 rfl rfl dX3_undo_52 ?_
      rw [show upd (upd v 0 0) 8 (v 8 - 1) 8 = nI b from eb]
      refine lv_imul hC.1 hC.2.1 dX3_undo_55 ?_
      refine lv_iload_n hC.1 hC.2.1 dX3_undo_56 rfl (lv_at hl 1 rfl) ?_
      refine lv_iadd hC.1 hC.2.1 dX3_undo_57 ?_
      refine m_iald hC hK hM 7 rfl (n := ((7 * b) + k)) (by first | rfl | (simp only [← nI_add, ← pk_mul]; rfl)) (by first | decide | (show _ < 168; omega)) dX3_undo_58 ?_
      refine m_iast hC hK hM 5 rfl (n := ((8 + (3 * k)) + 1)) (by first | rfl | (simp only [← nI_add, ← pk_mul]; rfl)) (by first | decide | (show _ < 94; omega)) dX3_undo_59 (fun H locs hM => ?_)
      refine lv_iinc (v := nI (k + 1)) (lv' := [(1, _), (0, _)]) hC.1 hC.2.1 dX3_undo_60 hl (k := 1) rfl (nI_1 _) (by decide) rfl (fun ls hl => ?_)
      refine lv_goto (tgt := 27) hC.1 hC.2.1 dX3_undo_63 (by decide) ?_
      exact ih27 (k + 1) _ _ _ (by omega) ⟨by omega, by rw [← wst_s (w := w) (f := fun k => w 7 (7 * b + k)) (n := k) rfl rfl]; exact hM, lv_sub hl [1, 0] rfl⟩
  ·
    skip
    refine lv_ldc hC.1 hC.2.1 hC.2.2.2.1 (hC.2.2.2.2 _ q1462) dX3_undo_12 ?_
    refine m_iret hC hr hlocks hM dX3_undo_14 ?_
    rw [op_undo, if_pos (by assumption)]

set_option maxHeartbeats 400000 in
set_option maxRecDepth 100000 in
theorem mc_feed (l : Launch) (v : Nat → Int32) (w : Nat → Nat → Int32) (x : Int64) (y : Int32) (T0 : Nat) (eT : v 10 = nI T0) (hT : T0 ≤ 400) : mMi l yX3_feed cX3_feed 5 (some .int) ({ frames := 1, cells := 0, slots := 0, locals := 25 }) [.long x, .int y] v w (fun r v1 w1 => (r, v1, w1) = op_feed v w x y) := by
  intro D ac A G mo ad
  refine m_body rfl (Nat.le_of_ble_eq_true rfl) ?_
  intro p e s m args below meth c ls hC hr hlocks hK hM hl
  have hl : lv_has ls 5 [(0, .ref mo), (1, .long x), (3, .int y)] := hl
  have iT : iN (v 10) = T0 := by rw [eT]; exact iN_nI (by omega)
  refine lv_aload_n hC.1 hC.2.1 dX3_feed_0 rfl (lv_at hl 0 rfl) ?_
  refine lv_iconst (v := 0) hC.1 hC.2.1 dX3_feed_1 (by decide) ?_
  refine m_put hC hK hM 0 (by decide) q1262 rfl rfl rfl rfl dX3_feed_2 (fun H locs hM => ?_)
  refine lv_iload_n hC.1 hC.2.1 dX3_feed_5 rfl (lv_at hl 2 rfl) ?_
  refine lv_i2l hC.1 hC.2.1 dX3_feed_6 rfl ?_
  refine lv_lconst (v := 1) hC.1 hC.2.1 dX3_feed_7 (by decide) ?_
  refine lv_ldc2 hC.1 hC.2.1 hC.2.2.2.1 (hC.2.2.2.2 _ q1376) dX3_feed_8 ?_
  refine s_ci hC ((mc_in l (a := 1) (b := 8) rfl rfl rfl)) (cw_ms 3 hC.2.2.2.2 q1350 q1351 q1352 ⟨rfl, rfl⟩ rfl (by decide +kernel) ⟨Nat.le_of_ble_eq_true rfl, Nat.le_of_ble_eq_true rfl⟩) rfl hl.1 rfl (lv_room (Nat.le_of_ble_eq_true rfl)) dX3_feed_11 ⟨Nat.le_of_ble_eq_true rfl, Nat.le_of_ble_eq_true rfl⟩ ?_
  refine lv_if_ne (tgt := 20) hC.1 hC.2.1 dX3_feed_14 (by decide) (fun c2 => ?_) (fun c2 => ?_)
  ·
    skip
    rw [bI_n0] at c2
    have cy := c2
    obtain ⟨N, hN, rfl⟩ := in_nI (a := 0) (N := 8) rfl rfl (show 0 ≤ y ∧ y ≤ 8 from ⟨Int32.le_trans (by decide) c2.1, c2.2⟩)
    have iNN : iN (nI N) = N := iN_nI (by omega)
    have hN1 : 1 ≤ N := nle_t (a := 1) (b := N) c2.1
    refine lv_aload_n hC.1 hC.2.1 dX3_feed_20 rfl (lv_at hl 0 rfl) ?_
    refine m_get hC hK hM 10 (by decide) q1272 rfl rfl dX3_feed_21 ?_
    rw [show upd v 0 0 10 = nI T0 from eT]
    refine lv_iload_n hC.1 hC.2.1 dX3_feed_24 rfl (lv_at hl 2 rfl) ?_
    refine lv_iadd hC.1 hC.2.1 dX3_feed_25 ?_
    rw [nI_add]
    refine lv_sipush (v := 400) hC.1 hC.2.1 dX3_feed_26 (by decide) ?_
    refine lv_icmp_le (tgt := 35) hC.1 hC.2.1 dX3_feed_29 (by decide) (fun c3 => ?_) (fun c3 => ?_)
    ·
      have nc3 := Int32.not_lt.mpr c3
      have hx29 := nle_t (a := T0 + N) (b := 400) c3
      refine lv_iload_n hC.1 hC.2.1 dX3_feed_35 rfl (lv_at hl 2 rfl) ?_
      refine lv_iconst (v := 1) hC.1 hC.2.1 dX3_feed_36 (by decide) ?_
      refine lv_isub hC.1 hC.2.1 dX3_feed_37 ?_
      refine lv_istore (lv' := [(4, _), (0, _), (1, _), (3, _)]) hC.1 hC.2.1 dX3_feed_38 hl (by decide) rfl (fun ls hl => ?_)
      refine w_ind (α := Nat) 40 (fun (t : Nat) => t) (fun (t : Nat) (H : Heap) (locs : List Loc) (ls : Array Slot) => (t ≤ N) ∧ MS D ac A G s.heap mo ad (upd (upd v 0 0) 10 (nI (T0 + (N - t)))) (wseg w 9 T0 (N - t) (fun q => ((x >>> ((8 * nI (N - 1 - q)).toInt64 &&& 63)) &&& 255).toInt32)) H locs ∧ lv_has ls 5 [(0, .ref mo), (1, .long x), (3, .int (nI N)), (4, .int (nI t - 1))]) ?_ (N) ⟨Nat.le_refl N, by rw [Nat.sub_self, wseg_0, Nat.add_zero, ← eT, show upd (upd v 0 0) 10 (v 10) = upd v 0 0 from upd_self (upd v 0 0) 10]; exact hM, lv_sub hl [1, 2, 3, 0] rfl⟩
      intro t H locs ls hI ih40
      obtain ⟨hI40, hM, hl⟩ := hI
      refine lv_iload hC.1 hC.2.1 dX3_feed_40 (lv_at hl 3 rfl) ?_
      refine lv_if_lt (tgt := 82) hC.1 hC.2.1 dX3_feed_42 (by decide) (fun c4 => ?_) (fun c4 => ?_)
      ·
        have nc4 := Int32.not_le.mpr c4
        have ct := (nI_m1 (by omega)).mp c4
        subst ct
        refine lv_aload_n hC.1 hC.2.1 dX3_feed_82 rfl (lv_at hl 0 rfl) ?_
        refine m_get hC hK hM 10 (by decide) q1272 rfl rfl dX3_feed_83 ?_
        rw [upd_s]
        refine m_iret hC hr hlocks hM dX3_feed_86 ?_
        rw [op_feed, if_neg (fun h => h cy), if_neg (fun h => h (by rw [eT, nI_add]; assumption)), eT, nI_add, iNN, iN_nI (show T0 < 2 ^ 31 by omega), Nat.sub_zero]
      ·
        have nc4 := Int32.not_lt.mp c4
        obtain ⟨u, rfl⟩ : ∃ u, t = u + 1 := ⟨t - 1, by
          rcases Nat.eq_zero_or_pos t with h | h
          · exact absurd ((nI_m1 (by omega)).mpr h) c4
          · omega⟩
        rw [nI_pred] at hl
        refine lv_aload_n hC.1 hC.2.1 dX3_feed_45 rfl (lv_at hl 0 rfl) ?_
        refine m_get hC hK hM 9 (by decide) q1271 rfl rfl dX3_feed_46 ?_
        refine lv_aload_n hC.1 hC.2.1 dX3_feed_49 rfl (lv_at hl 0 rfl) ?_
        refine m_get hC hK hM 10 (by decide) q1272 rfl rfl dX3_feed_50 ?_
        rw [upd_s]
        refine lv_lload_n hC.1 hC.2.1 dX3_feed_53 rfl (lv_at hl 1 rfl) ?_
        refine lv_bipush (v := 8) hC.1 hC.2.1 dX3_feed_54 (by decide) ?_
        refine lv_iload hC.1 hC.2.1 dX3_feed_56 (lv_at hl 3 rfl) ?_
        refine lv_imul hC.1 hC.2.1 dX3_feed_58 ?_
        refine lv_lshr hC.1 hC.2.1 dX3_feed_59 rfl ?_
        refine lv_ldc2 hC.1 hC.2.1 hC.2.2.2.1 (hC.2.2.2.2 _ q1378) dX3_feed_60 ?_
        refine lv_land hC.1 hC.2.1 dX3_feed_63 ?_
        refine lv_l2i hC.1 hC.2.1 dX3_feed_64 rfl ?_
        refine m_iast hC hK hM 9 rfl (n := (T0 + (N - (u + 1)))) (by first | rfl | (simp only [← nI_add, ← pk_mul]; rfl)) (by first | decide | (show _ < 400; omega)) dX3_feed_65 (fun H locs hM => ?_)
        refine lv_aload_n hC.1 hC.2.1 dX3_feed_66 rfl (lv_at hl 0 rfl) ?_
        refine lv_dup hC.1 hC.2.1 dX3_feed_67 rfl ?_
        refine m_get hC hK hM 10 (by decide) q1272 rfl rfl dX3_feed_68 ?_
        rw [upd_s]
        refine lv_iconst (v := 1) hC.1 hC.2.1 dX3_feed_71 (by decide) ?_
        refine lv_iadd hC.1 hC.2.1 dX3_feed_72 ?_
        rw [nI_1]
        refine m_put hC hK hM 10 (by decide) q1272 rfl rfl rfl rfl dX3_feed_73 (fun H locs hM => ?_)
        refine lv_iinc (lv' := [(4, _), (0, _), (1, _), (3, _)]) hC.1 hC.2.1 dX3_feed_76 hl (k := 3) rfl rfl (by decide) rfl (fun ls hl => ?_)
        refine lv_goto (tgt := 40) hC.1 hC.2.1 dX3_feed_79 (by decide) ?_
        rw [dec1] at hl
        rw [upd_upd, wseg_sx (w := w) (a := 9) (lo := T0) (n := N - (u + 1)) (f := fun q => ((x >>> ((8 * nI (N - 1 - q)).toInt64 &&& 63)) &&& 255).toInt32) rfl (by show _ = Int64.toInt32 _; rw [show N - 1 - (N - (u + 1)) = u by omega]), show N - (u + 1) + 1 = N - u by omega, show T0 + (N - (u + 1)) + 1 = T0 + (N - u) by omega] at hM
        exact ih40 (u) _ _ _ (by omega) ⟨by omega, hM, lv_sub hl [1, 2, 3, 0] rfl⟩
    ·
      have nc3 := Int32.not_le.mp c3
      have hx29 := nle_f (a := T0 + N) (b := 400) c3
      refine lv_ldc hC.1 hC.2.1 hC.2.2.2.1 (hC.2.2.2.2 _ q1377) dX3_feed_32 ?_
      refine m_iret hC hr hlocks hM dX3_feed_34 ?_
      rw [op_feed, if_neg (fun h => h cy), if_pos (by rw [eT, nI_add]; assumption)]
  ·
    skip
    rw [bI_0] at c2
    refine lv_ldc hC.1 hC.2.1 hC.2.2.2.1 (hC.2.2.2.2 _ q1354) dX3_feed_17 ?_
    refine m_iret hC hr hlocks hM dX3_feed_19 ?_
    simp [op_feed, *]
