set_option maxHeartbeats 400000 in
set_option maxRecDepth 100000 in
theorem mc_atMost (l : Launch) (v : Nat → Int32) (w : Nat → Nat → Int32) (a b : Nat) (x : Int32) (ha : a ≤ 6) (hb : b ≤ 6) : mMv l yX3_atMost cX3_atMost 4 none ({ frames := 0, cells := 0, slots := 0, locals := 0 }) [.int (nI a), .int (nI b), .int x] v w (fun v1 w1 => v1 = v ∧ w1 = wput w 20 (atM (w 20) a b x)) := by
  intro D ac A G mo ad
  refine m_body rfl (Nat.le_of_ble_eq_true rfl) ?_
  intro p e s m args below meth c ls hC hr hlocks hK hM hl
  have hl : lv_has ls 4 [(0, .ref mo), (1, .int (nI a)), (2, .int (nI b)), (3, .int x)] := hl
  refine lv_aload_n hC.1 hC.2.1 dX3_atMost_0 rfl (lv_at hl 0 rfl) ?_
  refine m_get hC hK hM 20 (by decide) q1282 rfl rfl dX3_atMost_1 ?_
  refine lv_bipush (v := 7) hC.1 hC.2.1 dX3_atMost_4 (by decide) ?_
  refine lv_iload_n hC.1 hC.2.1 dX3_atMost_6 rfl (lv_at hl 1 rfl) ?_
  refine lv_imul hC.1 hC.2.1 dX3_atMost_7 ?_
  refine lv_iload_n hC.1 hC.2.1 dX3_atMost_8 rfl (lv_at hl 2 rfl) ?_
  refine lv_iadd hC.1 hC.2.1 dX3_atMost_9 ?_
  refine lv_iload_n hC.1 hC.2.1 dX3_atMost_10 rfl (lv_at hl 3 rfl) ?_
  refine lv_aload_n hC.1 hC.2.1 dX3_atMost_11 rfl (lv_at hl 0 rfl) ?_
  refine m_get hC hK hM 20 (by decide) q1282 rfl rfl dX3_atMost_12 ?_
  refine lv_bipush (v := 7) hC.1 hC.2.1 dX3_atMost_15 (by decide) ?_
  refine lv_iload_n hC.1 hC.2.1 dX3_atMost_17 rfl (lv_at hl 1 rfl) ?_
  refine lv_imul hC.1 hC.2.1 dX3_atMost_18 ?_
  refine lv_iload_n hC.1 hC.2.1 dX3_atMost_19 rfl (lv_at hl 2 rfl) ?_
  refine lv_iadd hC.1 hC.2.1 dX3_atMost_20 ?_
  refine m_iald hC hK hM 20 rfl (n := ((7 * a) + b)) (by first | rfl | (simp only [← nI_add, ← pk_mul]; rfl)) (by first | decide | (show _ < 49; omega)) dX3_atMost_21 ?_
  refine w_tern2 (cond := x < w 20 (7 * a + b)) (a := x) (b := w 20 (7 * a + b)) 40 ?_ (fun jt22 jf22 => ?_)
  ·
    skip
    refine m_iast hC hK hM 20 rfl (n := ((7 * a) + b)) (by first | rfl | (simp only [← nI_add, ← pk_mul]; rfl)) (by first | decide | (show _ < 49; omega)) dX3_atMost_40 (fun H locs hM => ?_)
    refine m_vret hC hr hlocks hM dX3_atMost_41 ?_
    exact ⟨rfl, rfl⟩
  ·
    skip
    refine lv_icmp_ge (tgt := 29) hC.1 hC.2.1 dX3_atMost_22 (by decide) (fun c1 => ?_) (fun c1 => ?_)
    ·
      have nc1 := Int32.not_lt.mpr c1
      refine lv_aload_n hC.1 hC.2.1 dX3_atMost_29 rfl (lv_at hl 0 rfl) ?_
      refine m_get hC hK hM 20 (by decide) q1282 rfl rfl dX3_atMost_30 ?_
      refine lv_bipush (v := 7) hC.1 hC.2.1 dX3_atMost_33 (by decide) ?_
      refine lv_iload_n hC.1 hC.2.1 dX3_atMost_35 rfl (lv_at hl 1 rfl) ?_
      refine lv_imul hC.1 hC.2.1 dX3_atMost_36 ?_
      refine lv_iload_n hC.1 hC.2.1 dX3_atMost_37 rfl (lv_at hl 2 rfl) ?_
      refine lv_iadd hC.1 hC.2.1 dX3_atMost_38 ?_
      refine m_iald hC hK hM 20 rfl (n := ((7 * a) + b)) (by first | rfl | (simp only [← nI_add, ← pk_mul]; rfl)) (by first | decide | (show _ < 49; omega)) dX3_atMost_39 ?_
      first | exact jt22 (by first | assumption | (simp_all; done) | grind) | exact jf22 (by first | assumption | (simp_all; done) | grind)
    ·
      have nc1 := Int32.not_le.mp c1
      refine lv_iload_n hC.1 hC.2.1 dX3_atMost_25 rfl (lv_at hl 3 rfl) ?_
      refine lv_goto (tgt := 40) hC.1 hC.2.1 dX3_atMost_26 (by decide) ?_
      first | exact jt22 (by first | assumption | (simp_all; done) | grind) | exact jf22 (by first | assumption | (simp_all; done) | grind)

set_option maxHeartbeats 400000 in
set_option maxRecDepth 100000 in
theorem mc_layMost (l : Launch) (v : Nat → Int32) (w : Nat → Nat → Int32) (n : Nat) (en : w 5 4 = nI n) (hn : n ≤ 6) (tm : Nat) (et : w 5 7 = nI tm) (ht : tm ≤ 12) (hto : tmOk (w 5) n tm) : mMi l yX3_layMost cX3_layMost 6 (some .boolean) ({ frames := 1, cells := 0, slots := 0, locals := 23 }) [] v w (fun r v1 w1 => r = bI (okL (layM (w 5) (w 20) n tm) 7 = true) ∧ v1 = v ∧ w1 = wput w 20 (layM (w 5) (w 20) n tm)) := by
  intro D ac A G mo ad
  refine m_body rfl (Nat.le_of_ble_eq_true rfl) ?_
  intro p e s m args below meth c ls hC hr hlocks hK hM hl
  have hl : lv_has ls 6 [(0, .ref mo)] := hl
  refine lv_iconst (v := 0) hC.1 hC.2.1 dX3_layMost_0 (by decide) ?_
  refine lv_istore_n (lv' := [(1, _), (0, _)]) hC.1 hC.2.1 dX3_layMost_1 rfl hl (by decide) rfl (fun ls hl => ?_)
  refine w_ind (α := Nat) 2 (fun (k : Nat) => 49 - k) (fun (k : Nat) (H : Heap) (locs : List Loc) (ls : Array Slot) => (k ≤ 49) ∧ MS D ac A G s.heap mo ad (v) (wput w 20 (ini (w 20) k)) H locs ∧ lv_has ls 6 [(0, .ref mo), (1, .int (nI k))]) ?_ (0) ⟨by omega, by rw [show ini (w 20) 0 = w 20 from rfl, wput_self]; exact hM, lv_sub hl [1, 0] rfl⟩
  intro k H locs ls hI ih2
  obtain ⟨hI2, hM, hl⟩ := hI
  refine lv_iload_n hC.1 hC.2.1 dX3_layMost_2 rfl (lv_at hl 1 rfl) ?_
  refine lv_bipush (v := 49) hC.1 hC.2.1 dX3_layMost_3 (by decide) ?_
  refine lv_icmp_ge (tgt := 33) hC.1 hC.2.1 dX3_layMost_5 (by decide) (fun c1 => ?_) (fun c1 => ?_)
  ·
    have nc1 := Int32.not_lt.mpr c1
    have hx5 := nle_t (a := 49) (b := k) c1
    obtain rfl : k = 49 := by omega
    refine lv_aload_n hC.1 hC.2.1 dX3_layMost_33 rfl (lv_at hl 0 rfl) ?_
    refine m_get hC hK hM 5 (by decide) q1267 rfl rfl dX3_layMost_34 ?_
    refine lv_iconst (v := 4) hC.1 hC.2.1 dX3_layMost_37 (by decide) ?_
    refine m_iald hC hK hM 5 rfl (n := 4) (by first | rfl | (simp only [← nI_add, ← pk_mul]; rfl)) (by first | decide | (show _ < 94; omega)) dX3_layMost_38 ?_
    rw [show wput w 20 (ini (w 20) 49) 5 4 = nI n from en]
    refine lv_istore_n (lv' := [(1, _), (0, _)]) hC.1 hC.2.1 dX3_layMost_39 rfl hl (by decide) rfl (fun ls hl => ?_)
    refine lv_iconst (v := 0) hC.1 hC.2.1 dX3_layMost_40 (by decide) ?_
    refine lv_istore_n (lv' := [(2, _), (1, _), (0, _)]) hC.1 hC.2.1 dX3_layMost_41 rfl hl (by decide) rfl (fun ls hl => ?_)
    refine w_ind (α := Nat) 42 (fun (k : Nat) => n - k) (fun (k : Nat) (H : Heap) (locs : List Loc) (ls : Array Slot) => (k ≤ n) ∧ MS D ac A G s.heap mo ad (v) (wput w 20 (fwS (w 5 0) (ini (w 20) 49) k)) H locs ∧ lv_has ls 6 [(0, .ref mo), (1, .int (nI n)), (2, .int (nI k))]) ?_ (0) ⟨by omega, hM, lv_sub hl [2, 1, 0] rfl⟩
    intro k H locs ls hI ih42
    obtain ⟨hI42, hM, hl⟩ := hI
    refine lv_iload_n hC.1 hC.2.1 dX3_layMost_42 rfl (lv_at hl 2 rfl) ?_
    refine lv_iload_n hC.1 hC.2.1 dX3_layMost_43 rfl (lv_at hl 1 rfl) ?_
    refine lv_icmp_ge (tgt := 87) hC.1 hC.2.1 dX3_layMost_44 (by decide) (fun c2 => ?_) (fun c2 => ?_)
    ·
      have nc2 := Int32.not_lt.mpr c2
      have hx44 := nle_t (a := n) (b := k) c2
      obtain rfl : n = k := by omega
      refine lv_iconst (v := 0) hC.1 hC.2.1 dX3_layMost_87 (by decide) ?_
      refine lv_istore_n (lv' := [(2, _), (0, _), (1, _)]) hC.1 hC.2.1 dX3_layMost_88 rfl hl (by decide) rfl (fun ls hl => ?_)
      refine w_ind (α := Nat) 89 (fun (q : Nat) => tm - q) (fun (q : Nat) (H : Heap) (locs : List Loc) (ls : Array Slot) => (q ≤ tm) ∧ MS D ac A G s.heap mo ad (v) (wput w 20 (fwT (w 5) (fwS (w 5 0) (ini (w 20) 49) n) q)) H locs ∧ lv_has ls 6 [(0, .ref mo), (2, .int (nI q))]) ?_ (0) ⟨by omega, hM, lv_sub hl [1, 0] rfl⟩
      intro q H locs ls hI ih89
      obtain ⟨hI89, hM, hl⟩ := hI
      refine lv_iload_n hC.1 hC.2.1 dX3_layMost_89 rfl (lv_at hl 1 rfl) ?_
      refine lv_aload_n hC.1 hC.2.1 dX3_layMost_90 rfl (lv_at hl 0 rfl) ?_
      refine m_get hC hK hM 5 (by decide) q1267 rfl rfl dX3_layMost_91 ?_
      refine lv_bipush (v := 7) hC.1 hC.2.1 dX3_layMost_94 (by decide) ?_
      refine m_iald hC hK hM 5 rfl (n := 7) (by first | rfl | (simp only [← nI_add, ← pk_mul]; rfl)) (by first | decide | (show _ < 94; omega)) dX3_layMost_96 ?_
      rw [show wput w 20 (fwT (w 5) (fwS (w 5 0) (ini (w 20) 49) n) q) 5 7 = nI tm from et]
      refine lv_icmp_ge (tgt := 185) hC.1 hC.2.1 dX3_layMost_97 (by decide) (fun c3 => ?_) (fun c3 => ?_)
      ·
        have nc3 := Int32.not_lt.mpr c3
        have hx97 := nle_t (a := tm) (b := q) c3
        obtain rfl : tm = q := by omega
        refine lv_iconst (v := 0) hC.1 hC.2.1 dX3_layMost_185 (by decide) ?_
        refine lv_istore_n (lv' := [(2, _), (0, _)]) hC.1 hC.2.1 dX3_layMost_186 rfl hl (by decide) rfl (fun ls hl => ?_)
        refine w_ind (α := Nat) 187 (fun (m_ : Nat) => 7 - m_) (fun (m_ : Nat) (H : Heap) (locs : List Loc) (ls : Array Slot) => (m_ ≤ 7) ∧ MS D ac A G s.heap mo ad (v) (wput w 20 (fwM (fwT (w 5) (fwS (w 5 0) (ini (w 20) 49) n) tm) m_)) H locs ∧ lv_has ls 6 [(0, .ref mo), (2, .int (nI m_))]) ?_ (0) ⟨by omega, hM, lv_sub hl [1, 0] rfl⟩
        intro m_ H locs ls hI ih187
        obtain ⟨hI187, hM, hl⟩ := hI
        refine lv_iload_n hC.1 hC.2.1 dX3_layMost_187 rfl (lv_at hl 1 rfl) ?_
        refine lv_bipush (v := 7) hC.1 hC.2.1 dX3_layMost_188 (by decide) ?_
        refine lv_icmp_ge (tgt := 293) hC.1 hC.2.1 dX3_layMost_190 (by decide) (fun c4 => ?_) (fun c4 => ?_)
        ·
          have nc4 := Int32.not_lt.mpr c4
          have hx190 := nle_t (a := 7) (b := m_) c4
          obtain rfl : m_ = 7 := by omega
          refine lv_iconst (v := 1) hC.1 hC.2.1 dX3_layMost_293 (by decide) ?_
          refine lv_istore_n (lv' := [(2, _), (0, _)]) hC.1 hC.2.1 dX3_layMost_294 rfl hl (by decide) rfl (fun ls hl => ?_)
          refine lv_iconst (v := 0) hC.1 hC.2.1 dX3_layMost_295 (by decide) ?_
          refine lv_istore_n (lv' := [(3, _), (2, _), (0, _)]) hC.1 hC.2.1 dX3_layMost_296 rfl hl (by decide) rfl (fun ls hl => ?_)
          refine w_ind (α := Nat) 297 (fun (a : Nat) => 7 - a) (fun (a : Nat) (H : Heap) (locs : List Loc) (ls : Array Slot) => (a ≤ 7) ∧ MS D ac A G s.heap mo ad (v) (wput w 20 (fwM (fwT (w 5) (fwS (w 5 0) (ini (w 20) 49) n) tm) 7)) H locs ∧ lv_has ls 6 [(0, .ref mo), (2, .int (bI (okL (fwM (fwT (w 5) (fwS (w 5 0) (ini (w 20) 49) n) tm) 7) a = true))), (3, .int (nI a))]) ?_ (0) ⟨by omega, hM, lv_sub hl [2, 1, 0] rfl⟩
          intro a H locs ls hI ih297
          obtain ⟨hI297, hM, hl⟩ := hI
          refine lv_iload_n hC.1 hC.2.1 dX3_layMost_297 rfl (lv_at hl 2 rfl) ?_
          refine lv_bipush (v := 7) hC.1 hC.2.1 dX3_layMost_298 (by decide) ?_
          refine lv_icmp_ge (tgt := 331) hC.1 hC.2.1 dX3_layMost_300 (by decide) (fun c5 => ?_) (fun c5 => ?_)
          ·
            have nc5 := Int32.not_lt.mpr c5
            have hx300 := nle_t (a := 7) (b := a) c5
            obtain rfl : a = 7 := by omega
            refine lv_iload_n hC.1 hC.2.1 dX3_layMost_331 rfl (lv_at hl 1 rfl) ?_
            refine m_zret hC hr hlocks hM (by first | exact bI_01 _ | exact Or.inl rfl | exact Or.inr rfl) dX3_layMost_332 ?_
            exact ⟨rfl, rfl, rfl⟩
          ·
            have nc5 := Int32.not_le.mp c5
            have hx300 := nle_f (a := 7) (b := a) c5
            refine lv_iload_n hC.1 hC.2.1 dX3_layMost_303 rfl (lv_at hl 1 rfl) ?_
            refine w_tern1 (cond := okL (fwM (fwT (w 5) (fwS (w 5 0) (ini (w 20) 49) n) tm) 7) (a + 1) = true) (a := 1) (b := 0) 324 ?_ (fun jt304 jf304 => ?_)
            ·
              skip
              refine lv_istore_n (lv' := [(2, _), (0, _), (3, _)]) hC.1 hC.2.1 dX3_layMost_324 rfl hl (by decide) rfl (fun ls hl => ?_)
              refine lv_iinc (v := nI (a + 1)) (lv' := [(3, _), (2, _), (0, _)]) hC.1 hC.2.1 dX3_layMost_325 hl (k := 2) rfl (nI_1 _) (by decide) rfl (fun ls hl => ?_)
              refine lv_goto (tgt := 297) hC.1 hC.2.1 dX3_layMost_328 (by decide) ?_
              exact ih297 (a + 1) _ _ _ (by omega) ⟨by omega, hM, lv_sub hl [2, 1, 0] rfl⟩
            ·
              skip
              refine lv_if_eq (tgt := 323) hC.1 hC.2.1 dX3_layMost_304 (by decide) (fun c6 => ?_) (fun c6 => ?_)
              ·
                skip
                refine lv_iconst (v := 0) hC.1 hC.2.1 dX3_layMost_323 (by decide) ?_
                first | exact jt304 (by grind [okL, bI]) | exact jf304 (by grind [okL, bI])
              ·
                skip
                refine lv_aload_n hC.1 hC.2.1 dX3_layMost_307 rfl (lv_at hl 0 rfl) ?_
                refine m_get hC hK hM 20 (by decide) q1282 rfl rfl dX3_layMost_308 ?_
                refine lv_bipush (v := 8) hC.1 hC.2.1 dX3_layMost_311 (by decide) ?_
                refine lv_iload_n hC.1 hC.2.1 dX3_layMost_313 rfl (lv_at hl 2 rfl) ?_
                refine lv_imul hC.1 hC.2.1 dX3_layMost_314 ?_
                refine m_iald hC hK hM 20 rfl (n := (8 * a)) (by first | rfl | (simp only [← nI_add, ← pk_mul]; rfl)) (by first | decide | (show _ < 49; omega)) dX3_layMost_315 ?_
                rw [wput_s]
                refine lv_if_lt (tgt := 323) hC.1 hC.2.1 dX3_layMost_316 (by decide) (fun c7 => ?_) (fun c7 => ?_)
                ·
                  have nc7 := Int32.not_le.mpr c7
                  refine lv_iconst (v := 0) hC.1 hC.2.1 dX3_layMost_323 (by decide) ?_
                  first | exact jt304 (by grind [okL, bI]) | exact jf304 (by grind [okL, bI])
                ·
                  have nc7 := Int32.not_lt.mp c7
                  refine lv_iconst (v := 1) hC.1 hC.2.1 dX3_layMost_319 (by decide) ?_
                  refine lv_goto (tgt := 324) hC.1 hC.2.1 dX3_layMost_320 (by decide) ?_
                  first | exact jt304 (by grind [okL, bI]) | exact jf304 (by grind [okL, bI])
        ·
          have nc4 := Int32.not_le.mp c4
          have hx190 := nle_f (a := 7) (b := m_) c4
          refine lv_iconst (v := 0) hC.1 hC.2.1 dX3_layMost_193 (by decide) ?_
          refine lv_istore_n (lv' := [(3, _), (0, _), (2, _)]) hC.1 hC.2.1 dX3_layMost_194 rfl hl (by decide) rfl (fun ls hl => ?_)
          refine w_ind (α := Nat) 195 (fun (a : Nat) => 7 - a) (fun (a : Nat) (H : Heap) (locs : List Loc) (ls : Array Slot) => (a ≤ 7) ∧ MS D ac A G s.heap mo ad (v) (wput w 20 (fwA (fwM (fwT (w 5) (fwS (w 5 0) (ini (w 20) 49) n) tm) m_) m_ a)) H locs ∧ lv_has ls 6 [(0, .ref mo), (2, .int (nI m_)), (3, .int (nI a))]) ?_ (0) ⟨by omega, hM, lv_sub hl [1, 2, 0] rfl⟩
          intro a H locs ls hI ih195
          obtain ⟨hI195, hM, hl⟩ := hI
          refine lv_iload_n hC.1 hC.2.1 dX3_layMost_195 rfl (lv_at hl 2 rfl) ?_
          refine lv_bipush (v := 7) hC.1 hC.2.1 dX3_layMost_196 (by decide) ?_
          refine lv_icmp_ge (tgt := 287) hC.1 hC.2.1 dX3_layMost_198 (by decide) (fun c8 => ?_) (fun c8 => ?_)
          ·
            have nc8 := Int32.not_lt.mpr c8
            have hx198 := nle_t (a := 7) (b := a) c8
            obtain rfl : a = 7 := by omega
            refine lv_iinc (v := nI (m_ + 1)) (lv' := [(2, _), (0, _), (3, _)]) hC.1 hC.2.1 dX3_layMost_287 hl (k := 1) rfl (nI_1 _) (by decide) rfl (fun ls hl => ?_)
            refine lv_goto (tgt := 187) hC.1 hC.2.1 dX3_layMost_290 (by decide) ?_
            exact ih187 (m_ + 1) _ _ _ (by omega) ⟨by omega, hM, lv_sub hl [1, 0] rfl⟩
          ·
            have nc8 := Int32.not_le.mp c8
            have hx198 := nle_f (a := 7) (b := a) c8
            refine lv_iconst (v := 0) hC.1 hC.2.1 dX3_layMost_201 (by decide) ?_
            refine lv_istore (lv' := [(4, _), (0, _), (2, _), (3, _)]) hC.1 hC.2.1 dX3_layMost_202 hl (by decide) rfl (fun ls hl => ?_)
            refine w_ind (α := Nat) 204 (fun (b : Nat) => 7 - b) (fun (b : Nat) (H : Heap) (locs : List Loc) (ls : Array Slot) => (b ≤ 7) ∧ MS D ac A G s.heap mo ad (v) (wput w 20 (fwB (fwA (fwM (fwT (w 5) (fwS (w 5 0) (ini (w 20) 49) n) tm) m_) m_ a) m_ a b)) H locs ∧ lv_has ls 6 [(0, .ref mo), (2, .int (nI m_)), (3, .int (nI a)), (4, .int (nI b))]) ?_ (0) ⟨by omega, hM, lv_sub hl [1, 2, 3, 0] rfl⟩
            intro b H locs ls hI ih204
            obtain ⟨hI204, hM, hl⟩ := hI
            refine lv_iload hC.1 hC.2.1 dX3_layMost_204 (lv_at hl 3 rfl) ?_
            refine lv_bipush (v := 7) hC.1 hC.2.1 dX3_layMost_206 (by decide) ?_
            refine lv_icmp_ge (tgt := 281) hC.1 hC.2.1 dX3_layMost_208 (by decide) (fun c9 => ?_) (fun c9 => ?_)
            ·
              have nc9 := Int32.not_lt.mpr c9
              have hx208 := nle_t (a := 7) (b := b) c9
              obtain rfl : b = 7 := by omega
              refine lv_iinc (v := nI (a + 1)) (lv' := [(3, _), (0, _), (2, _), (4, _)]) hC.1 hC.2.1 dX3_layMost_281 hl (k := 2) rfl (nI_1 _) (by decide) rfl (fun ls hl => ?_)
              refine lv_goto (tgt := 195) hC.1 hC.2.1 dX3_layMost_284 (by decide) ?_
              exact ih195 (a + 1) _ _ _ (by omega) ⟨by omega, hM, lv_sub hl [1, 2, 0] rfl⟩
            ·
              have nc9 := Int32.not_le.mp c9
              have hx208 := nle_f (a := 7) (b := b) c9
              refine lv_aload_n hC.1 hC.2.1 dX3_layMost_211 rfl (lv_at hl 0 rfl) ?_
              refine m_get hC hK hM 20 (by decide) q1282 rfl rfl dX3_layMost_212 ?_
              refine lv_bipush (v := 7) hC.1 hC.2.1 dX3_layMost_215 (by decide) ?_
              refine lv_iload_n hC.1 hC.2.1 dX3_layMost_217 rfl (lv_at hl 2 rfl) ?_
              refine lv_imul hC.1 hC.2.1 dX3_layMost_218 ?_
              refine lv_iload_n hC.1 hC.2.1 dX3_layMost_219 rfl (lv_at hl 1 rfl) ?_
              refine lv_iadd hC.1 hC.2.1 dX3_layMost_220 ?_
              refine m_iald hC hK hM 20 rfl (n := ((7 * a) + m_)) (by first | rfl | (simp only [← nI_add, ← pk_mul]; rfl)) (by first | decide | (show _ < 49; omega)) dX3_layMost_221 ?_
              rw [wput_s]
              refine lv_ldc hC.1 hC.2.1 hC.2.2.2.1 (hC.2.2.2.2 _ q1545) dX3_layMost_222 ?_
              refine lv_icmp_ge (tgt := 275) hC.1 hC.2.1 dX3_layMost_224 (by decide) (fun c10 => ?_) (fun c10 => ?_)
              ·
                have nc10 := Int32.not_lt.mpr c10
                have cf := c10
                have cg := nc10
                refine lv_iinc (v := nI (b + 1)) (lv' := [(4, _), (0, _), (2, _), (3, _)]) hC.1 hC.2.1 dX3_layMost_275 hl (k := 3) rfl (nI_1 _) (by decide) rfl (fun ls hl => ?_)
                refine lv_goto (tgt := 204) hC.1 hC.2.1 dX3_layMost_278 (by decide) ?_
                exact ih204 (b + 1) _ _ _ (by omega) ⟨by omega, by rw [fwB, if_neg (fun h => cg h.1)]; exact hM, lv_sub hl [1, 2, 3, 0] rfl⟩
              ·
                have nc10 := Int32.not_le.mp c10
                have ca := nc10
                refine lv_aload_n hC.1 hC.2.1 dX3_layMost_227 rfl (lv_at hl 0 rfl) ?_
                refine m_get hC hK hM 20 (by decide) q1282 rfl rfl dX3_layMost_228 ?_
                refine lv_bipush (v := 7) hC.1 hC.2.1 dX3_layMost_231 (by decide) ?_
                refine lv_iload_n hC.1 hC.2.1 dX3_layMost_233 rfl (lv_at hl 1 rfl) ?_
                refine lv_imul hC.1 hC.2.1 dX3_layMost_234 ?_
                refine lv_iload hC.1 hC.2.1 dX3_layMost_235 (lv_at hl 3 rfl) ?_
                refine lv_iadd hC.1 hC.2.1 dX3_layMost_237 ?_
                refine m_iald hC hK hM 20 rfl (n := ((7 * m_) + b)) (by first | rfl | (simp only [← nI_add, ← pk_mul]; rfl)) (by first | decide | (show _ < 49; omega)) dX3_layMost_238 ?_
                rw [wput_s]
                refine lv_ldc hC.1 hC.2.1 hC.2.2.2.1 (hC.2.2.2.2 _ q1545) dX3_layMost_239 ?_
                refine lv_icmp_ge (tgt := 275) hC.1 hC.2.1 dX3_layMost_241 (by decide) (fun c11 => ?_) (fun c11 => ?_)
                ·
                  have nc11 := Int32.not_lt.mpr c11
                  have cg := nc11
                  refine lv_iinc (v := nI (b + 1)) (lv' := [(4, _), (0, _), (2, _), (3, _)]) hC.1 hC.2.1 dX3_layMost_275 hl (k := 3) rfl (nI_1 _) (by decide) rfl (fun ls hl => ?_)
                  refine lv_goto (tgt := 204) hC.1 hC.2.1 dX3_layMost_278 (by decide) ?_
                  exact ih204 (b + 1) _ _ _ (by omega) ⟨by omega, by rw [fwB, if_neg (fun h => cg h.2)]; exact hM, lv_sub hl [1, 2, 3, 0] rfl⟩
                ·
                  have nc11 := Int32.not_le.mp c11
                  have cb := nc11
                  refine lv_aload_n hC.1 hC.2.1 dX3_layMost_244 rfl (lv_at hl 0 rfl) ?_
                  refine lv_iload_n hC.1 hC.2.1 dX3_layMost_245 rfl (lv_at hl 2 rfl) ?_
                  refine lv_iload hC.1 hC.2.1 dX3_layMost_246 (lv_at hl 3 rfl) ?_
                  refine lv_aload_n hC.1 hC.2.1 dX3_layMost_248 rfl (lv_at hl 0 rfl) ?_
                  refine m_get hC hK hM 20 (by decide) q1282 rfl rfl dX3_layMost_249 ?_
                  refine lv_bipush (v := 7) hC.1 hC.2.1 dX3_layMost_252 (by decide) ?_
                  refine lv_iload_n hC.1 hC.2.1 dX3_layMost_254 rfl (lv_at hl 2 rfl) ?_
                  refine lv_imul hC.1 hC.2.1 dX3_layMost_255 ?_
                  refine lv_iload_n hC.1 hC.2.1 dX3_layMost_256 rfl (lv_at hl 1 rfl) ?_
                  refine lv_iadd hC.1 hC.2.1 dX3_layMost_257 ?_
                  refine m_iald hC hK hM 20 rfl (n := ((7 * a) + m_)) (by first | rfl | (simp only [← nI_add, ← pk_mul]; rfl)) (by first | decide | (show _ < 49; omega)) dX3_layMost_258 ?_
                  rw [wput_s]
                  refine lv_aload_n hC.1 hC.2.1 dX3_layMost_259 rfl (lv_at hl 0 rfl) ?_
                  refine m_get hC hK hM 20 (by decide) q1282 rfl rfl dX3_layMost_260 ?_
                  refine lv_bipush (v := 7) hC.1 hC.2.1 dX3_layMost_263 (by decide) ?_
                  refine lv_iload_n hC.1 hC.2.1 dX3_layMost_265 rfl (lv_at hl 1 rfl) ?_
                  refine lv_imul hC.1 hC.2.1 dX3_layMost_266 ?_
                  refine lv_iload hC.1 hC.2.1 dX3_layMost_267 (lv_at hl 3 rfl) ?_
                  refine lv_iadd hC.1 hC.2.1 dX3_layMost_269 ?_
                  refine m_iald hC hK hM 20 rfl (n := ((7 * m_) + b)) (by first | rfl | (simp only [← nI_add, ← pk_mul]; rfl)) (by first | decide | (show _ < 49; omega)) dX3_layMost_270 ?_
                  rw [wput_s]
                  refine lv_iadd hC.1 hC.2.1 dX3_layMost_271 ?_
                  refine m_cve hC hK hM (mc_atMost l _ _ a b _ (by omega) (by omega)) (cw_m 3 hC.2.2.2.2 q1546 q1548 qs51 q1549 ⟨rfl, rfl⟩ rfl (by decide +kernel) ⟨Nat.le_of_ble_eq_true rfl, Nat.le_of_ble_eq_true rfl⟩) rfl hl.1 rfl (lv_room (Nat.le_of_ble_eq_true rfl)) dX3_layMost_272 ⟨Nat.le_of_ble_eq_true rfl, Nat.le_of_ble_eq_true rfl⟩ (fun H locs hM => ?_)
                  simp only [wput_wput, wput_s] at hM
                  refine lv_iinc (v := nI (b + 1)) (lv' := [(4, _), (0, _), (2, _), (3, _)]) hC.1 hC.2.1 dX3_layMost_275 hl (k := 3) rfl (nI_1 _) (by decide) rfl (fun ls hl => ?_)
                  refine lv_goto (tgt := 204) hC.1 hC.2.1 dX3_layMost_278 (by decide) ?_
                  exact ih204 (b + 1) _ _ _ (by omega) ⟨by omega, by rw [fwB, if_pos ⟨ca, cb⟩]; exact hM, lv_sub hl [1, 2, 3, 0] rfl⟩
      ·
        have nc3 := Int32.not_le.mp c3
        have hx97 := nle_f (a := tm) (b := q) c3
        obtain ⟨a, b, x0, t0, ea, eb, hab, hbn, ex, hx1, hx2, et0, ht0⟩ := hto q hx97
        have ia : iN (w 5 (46 + 4 * q)) = a := by rw [ea]; exact iN_nI (by omega)
        have ib : iN (w 5 (46 + 4 * q + 1)) = b := by rw [eb]; exact iN_nI (by omega)
        refine lv_bipush (v := 46) hC.1 hC.2.1 dX3_layMost_100 (by decide) ?_
        refine lv_iconst (v := 4) hC.1 hC.2.1 dX3_layMost_102 (by decide) ?_
        refine lv_iload_n hC.1 hC.2.1 dX3_layMost_103 rfl (lv_at hl 1 rfl) ?_
        refine lv_imul hC.1 hC.2.1 dX3_layMost_104 ?_
        refine lv_iadd hC.1 hC.2.1 dX3_layMost_105 ?_
        refine lv_istore_n (lv' := [(3, _), (0, _), (2, _)]) hC.1 hC.2.1 dX3_layMost_106 rfl hl (by decide) rfl (fun ls hl => ?_)
        refine lv_aload_n hC.1 hC.2.1 dX3_layMost_107 rfl (lv_at hl 1 rfl) ?_
        refine m_get hC hK hM 5 (by decide) q1267 rfl rfl dX3_layMost_108 ?_
        refine lv_iload_n hC.1 hC.2.1 dX3_layMost_111 rfl (lv_at hl 0 rfl) ?_
        refine lv_iconst (v := 2) hC.1 hC.2.1 dX3_layMost_112 (by decide) ?_
        refine lv_iadd hC.1 hC.2.1 dX3_layMost_113 ?_
        refine m_iald hC hK hM 5 rfl (n := ((46 + (4 * q)) + 2)) (by first | rfl | (simp only [← nI_add, ← pk_mul]; rfl)) (by first | decide | (show _ < 94; omega)) dX3_layMost_114 ?_
        refine lv_istore (lv' := [(4, _), (3, _), (0, _), (2, _)]) hC.1 hC.2.1 dX3_layMost_115 hl (by decide) rfl (fun ls hl => ?_)
        refine lv_aload_n hC.1 hC.2.1 dX3_layMost_117 rfl (lv_at hl 2 rfl) ?_
        refine m_get hC hK hM 5 (by decide) q1267 rfl rfl dX3_layMost_118 ?_
        refine lv_iload_n hC.1 hC.2.1 dX3_layMost_121 rfl (lv_at hl 1 rfl) ?_
        refine lv_iconst (v := 3) hC.1 hC.2.1 dX3_layMost_122 (by decide) ?_
        refine lv_iadd hC.1 hC.2.1 dX3_layMost_123 ?_
        refine m_iald hC hK hM 5 rfl (n := ((46 + (4 * q)) + 3)) (by first | rfl | (simp only [← nI_add, ← pk_mul]; rfl)) (by first | decide | (show _ < 94; omega)) dX3_layMost_124 ?_
        refine lv_istore (lv' := [(5, _), (4, _), (3, _), (0, _), (2, _)]) hC.1 hC.2.1 dX3_layMost_125 hl (by decide) rfl (fun ls hl => ?_)
        refine lv_aload_n hC.1 hC.2.1 dX3_layMost_127 rfl (lv_at hl 3 rfl) ?_
        refine lv_aload_n hC.1 hC.2.1 dX3_layMost_128 rfl (lv_at hl 3 rfl) ?_
        refine m_get hC hK hM 5 (by decide) q1267 rfl rfl dX3_layMost_129 ?_
        refine lv_iload_n hC.1 hC.2.1 dX3_layMost_132 rfl (lv_at hl 2 rfl) ?_
        refine m_iald hC hK hM 5 rfl (n := (46 + (4 * q))) (by first | rfl | (simp only [← nI_add, ← pk_mul]; rfl)) (by first | decide | (show _ < 94; omega)) dX3_layMost_133 ?_
        rw [wput_n (show (5 : Nat) ≠ 20 by decide), ea]
        refine lv_aload_n hC.1 hC.2.1 dX3_layMost_134 rfl (lv_at hl 3 rfl) ?_
        refine m_get hC hK hM 5 (by decide) q1267 rfl rfl dX3_layMost_135 ?_
        refine lv_iload_n hC.1 hC.2.1 dX3_layMost_138 rfl (lv_at hl 2 rfl) ?_
        refine lv_iconst (v := 1) hC.1 hC.2.1 dX3_layMost_139 (by decide) ?_
        refine lv_iadd hC.1 hC.2.1 dX3_layMost_140 ?_
        refine m_iald hC hK hM 5 rfl (n := ((46 + (4 * q)) + 1)) (by first | rfl | (simp only [← nI_add, ← pk_mul]; rfl)) (by first | decide | (show _ < 94; omega)) dX3_layMost_141 ?_
        rw [wput_n (show (5 : Nat) ≠ 20 by decide), eb]
        refine lv_iload hC.1 hC.2.1 dX3_layMost_142 (lv_at hl 1 rfl) ?_
        refine lv_iload hC.1 hC.2.1 dX3_layMost_144 (lv_at hl 0 rfl) ?_
        refine lv_imul hC.1 hC.2.1 dX3_layMost_146 ?_
        refine lv_iload hC.1 hC.2.1 dX3_layMost_147 (lv_at hl 1 rfl) ?_
        refine lv_iadd hC.1 hC.2.1 dX3_layMost_149 ?_
        refine lv_iconst (v := 1) hC.1 hC.2.1 dX3_layMost_150 (by decide) ?_
        refine lv_isub hC.1 hC.2.1 dX3_layMost_151 ?_
        refine m_cve hC hK hM (mc_atMost l _ _ a b _ (by omega) (by omega)) (cw_m 3 hC.2.2.2.2 q1546 q1548 qs51 q1549 ⟨rfl, rfl⟩ rfl (by decide +kernel) ⟨Nat.le_of_ble_eq_true rfl, Nat.le_of_ble_eq_true rfl⟩) rfl hl.1 rfl (lv_room (Nat.le_of_ble_eq_true rfl)) dX3_layMost_152 ⟨Nat.le_of_ble_eq_true rfl, Nat.le_of_ble_eq_true rfl⟩ (fun H locs hM => ?_)
        refine lv_aload_n hC.1 hC.2.1 dX3_layMost_155 rfl (lv_at hl 3 rfl) ?_
        refine lv_aload_n hC.1 hC.2.1 dX3_layMost_156 rfl (lv_at hl 3 rfl) ?_
        refine m_get hC hK hM 5 (by decide) q1267 rfl rfl dX3_layMost_157 ?_
        refine lv_iload_n hC.1 hC.2.1 dX3_layMost_160 rfl (lv_at hl 2 rfl) ?_
        refine lv_iconst (v := 1) hC.1 hC.2.1 dX3_layMost_161 (by decide) ?_
        refine lv_iadd hC.1 hC.2.1 dX3_layMost_162 ?_
        refine m_iald hC hK hM 5 rfl (n := ((46 + (4 * q)) + 1)) (by first | rfl | (simp only [← nI_add, ← pk_mul]; rfl)) (by first | decide | (show _ < 94; omega)) dX3_layMost_163 ?_
        rw [wput_n (show (5 : Nat) ≠ 20 by decide), wput_n (show (5 : Nat) ≠ 20 by decide), eb]
        refine lv_aload_n hC.1 hC.2.1 dX3_layMost_164 rfl (lv_at hl 3 rfl) ?_
        refine m_get hC hK hM 5 (by decide) q1267 rfl rfl dX3_layMost_165 ?_
        refine lv_iload_n hC.1 hC.2.1 dX3_layMost_168 rfl (lv_at hl 2 rfl) ?_
        refine m_iald hC hK hM 5 rfl (n := (46 + (4 * q))) (by first | rfl | (simp only [← nI_add, ← pk_mul]; rfl)) (by first | decide | (show _ < 94; omega)) dX3_layMost_169 ?_
        rw [wput_n (show (5 : Nat) ≠ 20 by decide), wput_n (show (5 : Nat) ≠ 20 by decide), ea]
        refine lv_iload hC.1 hC.2.1 dX3_layMost_170 (lv_at hl 1 rfl) ?_
        refine lv_ineg hC.1 hC.2.1 dX3_layMost_172 ?_
        refine lv_iload hC.1 hC.2.1 dX3_layMost_173 (lv_at hl 0 rfl) ?_
        refine lv_imul hC.1 hC.2.1 dX3_layMost_175 ?_
        refine m_cve hC hK hM (mc_atMost l _ _ b a _ (by omega) (by omega)) (cw_m 3 hC.2.2.2.2 q1546 q1548 qs51 q1549 ⟨rfl, rfl⟩ rfl (by decide +kernel) ⟨Nat.le_of_ble_eq_true rfl, Nat.le_of_ble_eq_true rfl⟩) rfl hl.1 rfl (lv_room (Nat.le_of_ble_eq_true rfl)) dX3_layMost_176 ⟨Nat.le_of_ble_eq_true rfl, Nat.le_of_ble_eq_true rfl⟩ (fun H locs hM => ?_)
        simp only [wput_wput, wput_s, wput_n (show (5 : Nat) ≠ 20 by decide)] at hM
        refine lv_iinc (v := nI (q + 1)) (lv' := [(2, _), (5, _), (4, _), (3, _), (0, _)]) hC.1 hC.2.1 dX3_layMost_179 hl (k := 4) rfl (nI_1 _) (by decide) rfl (fun ls hl => ?_)
        refine lv_goto (tgt := 89) hC.1 hC.2.1 dX3_layMost_182 (by decide) ?_
        exact ih89 (q + 1) _ _ _ (by omega) ⟨by omega, by rw [fwT, ia, ib]; exact hM, lv_sub hl [4, 0] rfl⟩
    ·
      have nc2 := Int32.not_le.mp c2
      have hx44 := nle_f (a := n) (b := k) c2
      refine lv_aload_n hC.1 hC.2.1 dX3_layMost_47 rfl (lv_at hl 0 rfl) ?_
      refine lv_bipush (v := 6) hC.1 hC.2.1 dX3_layMost_48 (by decide) ?_
      refine lv_iload_n hC.1 hC.2.1 dX3_layMost_50 rfl (lv_at hl 2 rfl) ?_
      refine lv_aload_n hC.1 hC.2.1 dX3_layMost_51 rfl (lv_at hl 0 rfl) ?_
      refine m_get hC hK hM 5 (by decide) q1267 rfl rfl dX3_layMost_52 ?_
      refine lv_iconst (v := 0) hC.1 hC.2.1 dX3_layMost_55 (by decide) ?_
      refine m_iald hC hK hM 5 rfl (n := 0) (by first | rfl | (simp only [← nI_add, ← pk_mul]; rfl)) (by first | decide | (show _ < 94; omega)) dX3_layMost_56 ?_
      refine m_cve hC hK hM (mc_atMost l _ _ 6 k _ (by omega) (by omega)) (cw_m 3 hC.2.2.2.2 q1546 q1548 qs51 q1549 ⟨rfl, rfl⟩ rfl (by decide +kernel) ⟨Nat.le_of_ble_eq_true rfl, Nat.le_of_ble_eq_true rfl⟩) rfl hl.1 rfl (lv_room (Nat.le_of_ble_eq_true rfl)) dX3_layMost_57 ⟨Nat.le_of_ble_eq_true rfl, Nat.le_of_ble_eq_true rfl⟩ (fun H locs hM => ?_)
      refine lv_aload_n hC.1 hC.2.1 dX3_layMost_60 rfl (lv_at hl 0 rfl) ?_
      refine lv_iload_n hC.1 hC.2.1 dX3_layMost_61 rfl (lv_at hl 2 rfl) ?_
      refine lv_bipush (v := 6) hC.1 hC.2.1 dX3_layMost_62 (by decide) ?_
      refine lv_iconst (v := 0) hC.1 hC.2.1 dX3_layMost_64 (by decide) ?_
      refine m_cve hC hK hM (mc_atMost l _ _ k 6 _ (by omega) (by omega)) (cw_m 3 hC.2.2.2.2 q1546 q1548 qs51 q1549 ⟨rfl, rfl⟩ rfl (by decide +kernel) ⟨Nat.le_of_ble_eq_true rfl, Nat.le_of_ble_eq_true rfl⟩) rfl hl.1 rfl (lv_room (Nat.le_of_ble_eq_true rfl)) dX3_layMost_65 ⟨Nat.le_of_ble_eq_true rfl, Nat.le_of_ble_eq_true rfl⟩ (fun H locs hM => ?_)
      simp only [wput_wput, wput_s] at hM
      refine lv_iload_n hC.1 hC.2.1 dX3_layMost_68 rfl (lv_at hl 2 rfl) ?_
      refine lv_if_le (tgt := 81) hC.1 hC.2.1 dX3_layMost_69 (by decide) (fun c17 => ?_) (fun c17 => ?_)
      ·
        have nc17 := Int32.not_lt.mpr c17
        have hk0 : k = 0 := by
          rcases Nat.eq_zero_or_pos k with h | h
          · exact h
          · exact absurd c17 (nI_nle h (by omega))
        refine lv_iinc (v := nI (k + 1)) (lv' := [(2, _), (0, _), (1, _)]) hC.1 hC.2.1 dX3_layMost_81 hl (k := 2) rfl (nI_1 _) (by decide) rfl (fun ls hl => ?_)
        refine lv_goto (tgt := 42) hC.1 hC.2.1 dX3_layMost_84 (by decide) ?_
        exact ih42 (k + 1) _ _ _ (by omega) ⟨by omega, by rw [fwS, if_pos hk0]; exact hM, lv_sub hl [1, 2, 0] rfl⟩
      ·
        have nc17 := Int32.not_le.mp c17
        have hk0 : ¬ k = 0 := fun h => c17 (by rw [h]; decide)
        refine lv_aload_n hC.1 hC.2.1 dX3_layMost_72 rfl (lv_at hl 0 rfl) ?_
        refine lv_iload_n hC.1 hC.2.1 dX3_layMost_73 rfl (lv_at hl 2 rfl) ?_
        refine lv_iload_n hC.1 hC.2.1 dX3_layMost_74 rfl (lv_at hl 2 rfl) ?_
        refine lv_iconst (v := 1) hC.1 hC.2.1 dX3_layMost_75 (by decide) ?_
        refine lv_isub hC.1 hC.2.1 dX3_layMost_76 ?_
        rw [show nI k - 1 = nI (k - 1) from pk_sub (b := 1) (by omega)]
        refine lv_iconst (v := (-1)) hC.1 hC.2.1 dX3_layMost_77 (by decide) ?_
        refine m_cve hC hK hM (mc_atMost l _ _ k (k - 1) _ (by omega) (by omega)) (cw_m 3 hC.2.2.2.2 q1546 q1548 qs51 q1549 ⟨rfl, rfl⟩ rfl (by decide +kernel) ⟨Nat.le_of_ble_eq_true rfl, Nat.le_of_ble_eq_true rfl⟩) rfl hl.1 rfl (lv_room (Nat.le_of_ble_eq_true rfl)) dX3_layMost_78 ⟨Nat.le_of_ble_eq_true rfl, Nat.le_of_ble_eq_true rfl⟩ (fun H locs hM => ?_)
        simp only [wput_wput, wput_s] at hM
        refine lv_iinc (v := nI (k + 1)) (lv' := [(2, _), (0, _), (1, _)]) hC.1 hC.2.1 dX3_layMost_81 hl (k := 2) rfl (nI_1 _) (by decide) rfl (fun ls hl => ?_)
        refine lv_goto (tgt := 42) hC.1 hC.2.1 dX3_layMost_84 (by decide) ?_
        exact ih42 (k + 1) _ _ _ (by omega) ⟨by omega, by rw [fwS, if_neg hk0]; exact hM, lv_sub hl [1, 2, 0] rfl⟩
  ·
    have nc1 := Int32.not_le.mp c1
    have hx5 := nle_f (a := 49) (b := k) c1
    refine lv_aload_n hC.1 hC.2.1 dX3_layMost_8 rfl (lv_at hl 0 rfl) ?_
    refine m_get hC hK hM 20 (by decide) q1282 rfl rfl dX3_layMost_9 ?_
    refine lv_iload_n hC.1 hC.2.1 dX3_layMost_12 rfl (lv_at hl 1 rfl) ?_
    refine lv_iload_n hC.1 hC.2.1 dX3_layMost_13 rfl (lv_at hl 1 rfl) ?_
    refine lv_bipush (v := 8) hC.1 hC.2.1 dX3_layMost_14 (by decide) ?_
    refine lv_irem hC.1 hC.2.1 dX3_layMost_16 (by decide) ?_
    rw [show nI k - nI k / 8 * 8 = nI (k % 8) from pk_rem (d := 8) (by omega) (by omega) (by omega)]
    refine w_tern1 (cond := k % 8 = 0) (a := 0) (b := 100000) 26 ?_ (fun jt17 jf17 => ?_)
    ·
      skip
      refine m_iast hC hK hM 20 rfl (n := k) (by first | rfl | (simp only [← nI_add, ← pk_mul]; rfl)) (by first | decide | (show _ < 49; omega)) dX3_layMost_26 (fun H locs hM => ?_)
      refine lv_iinc (v := nI (k + 1)) (lv' := [(1, _), (0, _)]) hC.1 hC.2.1 dX3_layMost_27 hl (k := 1) rfl (nI_1 _) (by decide) rfl (fun ls hl => ?_)
      refine lv_goto (tgt := 2) hC.1 hC.2.1 dX3_layMost_30 (by decide) ?_
      exact ih2 (k + 1) _ _ _ (by omega) ⟨by omega, by rw [ini, ← wup_wput]; exact hM, lv_sub hl [1, 0] rfl⟩
    ·
      skip
      refine lv_if_ne (tgt := 24) hC.1 hC.2.1 dX3_layMost_17 (by decide) (fun c19 => ?_) (fun c19 => ?_)
      ·
        skip
        refine lv_ldc hC.1 hC.2.1 hC.2.2.2.1 (hC.2.2.2.2 _ q1545) dX3_layMost_24 ?_
        first | exact jt17 (by first | exact neq_t (a := k % 8) (b := 0) (by assumption) | exact neq_f (a := k % 8) (b := 0) (by assumption)) | exact jf17 (by first | exact neq_t (a := k % 8) (b := 0) (by assumption) | exact neq_f (a := k % 8) (b := 0) (by assumption))
      ·
        skip
        refine lv_iconst (v := 0) hC.1 hC.2.1 dX3_layMost_20 (by decide) ?_
        refine lv_goto (tgt := 26) hC.1 hC.2.1 dX3_layMost_21 (by decide) ?_
        first | exact jt17 (by first | exact neq_t (a := k % 8) (b := 0) (by assumption) | exact neq_f (a := k % 8) (b := 0) (by assumption)) | exact jf17 (by first | exact neq_t (a := k % 8) (b := 0) (by assumption) | exact neq_f (a := k % 8) (b := 0) (by assumption))
