set_option maxHeartbeats 400000 in
set_option maxRecDepth 100000 in
theorem cl_all_c (l : Launch) (κ : Nat → Nat) (O : gO) (a no md la : Nat) (cv : Nat → Int32) (nd : Nat → Nat) (g : Nat → Nat → Option Nat) (cw : Nat → Nat → Int32) (tp : Nat → Int32) (L : Nat) (ru f0 vI : Nat → Int32) (rI dd : Nat → Nat) (kd : Nat → Nat) (mv : Nat → Nat → Int32) (hO : O a = some (rrU vI rI)) (hN : O no = some (nsU cv nd g cw)) (hD : O md = some (rdU (fun _ => 0) dd (fun _ _ => 0))) (h8 : dd 8 = la) (hm : mvs κ O la 0 kd mv) (h0 : rI 0 = nd 1) (h7 : rI 7 = md) (h1 : vI 1 = nI L) (h2 : vI 2 = 0) (hL : L ≤ 400) (hr10 : ru 10 = nI L) (htp : ∀ j, j < L → cw 1 j &&& 255 = tp j) (ht : tpOk tp L) (hok : rdT tp L ru f0 17 = 0) (O1 : gO) (u f v2 : Nat → Int32) (rd2 : Nat → Nat) (dv : Nat → Int32) (dw : Nat → Nat → Int32) (n : Nat) (hn6 : n ≤ 6) (hM0 : rdM tp L ru f0 = movL tp L 7 u f) (h17 : u 17 = 0) (hmd : mdR f dv dw 0 kd mv) (hB : PB κ O O1 a no md la cv nd g cw tp L u v2 rd2 dv dd dw 0 kd mv) {D : va_G} {ac : Nat → ClassId} {A : Nat → Prop} {p : Program} {e : Env} {s : State} {m : MethodId} {args : Array Value} {below : List Frame} {meth : Method} {c : Code} {ls : Array Slot} {H : Heap} {locs : List Loc} (hC : CallFix p m c cX6_all 2 s args lw_all RX6) (hr : meth.sig.returnType = none) (hlocks : meth.locks = false) (hK : KZ D ac A κ s) (hM : PS D ac A s.heap O1 [(a, rrU v2 rd2), (no, nsU cv nd g cw), (md, rdU dv dd dw)] H locs) (hl : lv_has ls 2 [(0, .ref a)]) : W p l e ({ frames := 9, cells := 615, slots := 102594, locals := 220 }) s m args below meth c H locs (63 + 36 * n) (10710 + 6120 * n) (MQ below (oQ D ac A (fun rv O1 => rv = none ∧ RI κ O1 md (rdM tp L ru f0).2 ∧ kpL O O1 [a, md, la] ∧ O1 no = some (nsU cv nd g cw) ∧ ∃ (v1 : Nat → Int32) (rd1 : Nat → Nat), O1 a = some (rrU v1 rd1) ∧ rd1 7 = md)) args s 615 102594 A) (F0 m 189 ls []) := by
  refine w_indC (α := gO × (Nat → Int32) × (Nat → Int32) × (Nat → Int32) × (Nat → Nat) × Nat × (Nat → Nat) × (Nat → Nat → Int32) × Nat) 189 (fun (x_ : gO × (Nat → Int32) × (Nat → Int32) × (Nat → Int32) × (Nat → Nat) × Nat × (Nat → Nat) × (Nat → Nat → Int32) × Nat) => (fun (O1 : gO) (y2 : Nat → Int32) (z2 : Nat → Int32) (v : Nat → Int32) (rd : Nat → Nat) (mm : Nat) (kd : Nat → Nat) (mv : Nat → Nat → Int32) (j2 : Nat) => j2) x_.1 x_.2.1 x_.2.2.1 x_.2.2.2.1 x_.2.2.2.2.1 x_.2.2.2.2.2.1 x_.2.2.2.2.2.2.1 x_.2.2.2.2.2.2.2.1 x_.2.2.2.2.2.2.2.2) (fun (x_ : gO × (Nat → Int32) × (Nat → Int32) × (Nat → Int32) × (Nat → Nat) × Nat × (Nat → Nat) × (Nat → Nat → Int32) × Nat) => (fun (O1 : gO) (y2 : Nat → Int32) (z2 : Nat → Int32) (v : Nat → Int32) (rd : Nat → Nat) (mm : Nat) (kd : Nat → Nat) (mv : Nat → Nat → Int32) (j2 : Nat) => 63 + 36 * n + 56 * mm) x_.1 x_.2.1 x_.2.2.1 x_.2.2.2.1 x_.2.2.2.2.1 x_.2.2.2.2.2.1 x_.2.2.2.2.2.2.1 x_.2.2.2.2.2.2.2.1 x_.2.2.2.2.2.2.2.2) (fun (x_ : gO × (Nat → Int32) × (Nat → Int32) × (Nat → Int32) × (Nat → Nat) × Nat × (Nat → Nat) × (Nat → Nat → Int32) × Nat) => (fun (O1 : gO) (y2 : Nat → Int32) (z2 : Nat → Int32) (v : Nat → Int32) (rd : Nat → Nat) (mm : Nat) (kd : Nat → Nat) (mv : Nat → Nat → Int32) (j2 : Nat) => 10710 + 6120 * n + 9194 * mm) x_.1 x_.2.1 x_.2.2.1 x_.2.2.2.1 x_.2.2.2.2.1 x_.2.2.2.2.2.1 x_.2.2.2.2.2.2.1 x_.2.2.2.2.2.2.2.1 x_.2.2.2.2.2.2.2.2) (fun (x_ : gO × (Nat → Int32) × (Nat → Int32) × (Nat → Int32) × (Nat → Nat) × Nat × (Nat → Nat) × (Nat → Nat → Int32) × Nat) (H : Heap) (locs : List Loc) (ls : Array Slot) => (fun (O1 : gO) (y2 : Nat → Int32) (z2 : Nat → Int32) (v : Nat → Int32) (rd : Nat → Nat) (mm : Nat) (kd : Nat → Nat) (mv : Nat → Nat → Int32) (j2 : Nat) => (rdM tp L ru f0 = movL tp L j2 y2 z2 ∧ 7 - mm ≤ j2 ∧ y2 17 = 0 ∧ z2 5 = nI mm ∧ mm ≤ 5 ∧ mdR z2 dv dw mm kd mv ∧ PB κ O O1 a no md la cv nd g cw tp L y2 v rd dv dd dw mm kd mv) ∧ (PS D ac A s.heap O1 [(a, rrU v rd), (no, nsU cv nd g cw), (md, rdU dv dd dw)] H locs) ∧ lv_has ls 2 [(0, .ref a)]) x_.1 x_.2.1 x_.2.2.1 x_.2.2.2.1 x_.2.2.2.2.1 x_.2.2.2.2.2.1 x_.2.2.2.2.2.2.1 x_.2.2.2.2.2.2.2.1 x_.2.2.2.2.2.2.2.2) ?_ ((O1, u, f, v2, rd2, 0, kd, mv, 7)) (by dsimp only; omega) (by dsimp only; omega) ⟨⟨hM0, Nat.le_refl 7, h17, hmd.2.2.2.2.2.1, Nat.zero_le 5, hmd, hB⟩, hM, lv_sub hl [0] rfl⟩
  intro x_ H locs ls hI ih189
  obtain ⟨O1, y2, z2, v, rd, mm, kd, mv, j2⟩ := x_
  dsimp only at hI
  obtain ⟨hI189, hM, hl⟩ := hI
  show W _ _ _ _ _ _ _ _ _ _ _ _ (63 + 36 * n + 56 * mm) (10710 + 6120 * n + 9194 * mm) _ _
  have hB := hI189.2.2.2.2.2.2
  have hmd := hI189.2.2.2.2.2.1
  have g17 := hI189.2.2.1
  have hf5 := hI189.2.2.2.1
  have hm5 : mm ≤ 5 := hI189.2.2.2.2.1
  have hj7 : 7 - mm ≤ j2 := hI189.2.1
  refine lv_aload_n hC.1 hC.2.1 dX6_all_189 rfl (lv_at hl 0 rfl) ?_
  refine va_ldcS hC.1 hC.2.1 hC.2.2.2.1 hK.2.2.2.2.2.2.2.2.2.2.1 dX6_all_190 ?_
  refine p_cVe (L' := [_, _, _]) hC hK hM (hM.at 0 rfl) rfl (oM.at hB.e (cl_isWord l κ O1 a v rd (nd 1) md tp L (y2) (3) hB.1 (by omega))) (cwV 1 hC.2.2.2.2 (lw_V q663 q665 qs6 q79 q666) rfl rfl rfl (by decide +kernel) ⟨(Nat.le_of_ble_eq_true rfl), (Nat.le_of_ble_eq_true rfl)⟩) rfl hl.1 rfl (lv_room (Nat.le_of_ble_eq_true rfl)) dX6_all_192 ⟨by dsimp only; omega, by dsimp only; omega⟩ hB.e.symm hM.2 (fun H locs hM => ?_)
  refine lv_if_eq (tgt := 205) hC.1 hC.2.1 dX6_all_195 (by decide) (fun c2 => ?_) (fun c2 => ?_)
  ·
    skip
    rw [bI_0] at c2
    have kx := c2
    have hmf : rdM tp L ru f0 = (y2, z2) := by rw [hI189.1]; exact movL_stop (fun h => kx ((nw_3 hB.1.2.2.2.2.1 hB.1.2.2.2.2.2.2 g17).mp h)) _
    refine lv_aload_n hC.1 hC.2.1 dX6_all_205 rfl (lv_at hl 0 rfl) ?_
    refine lv_aload_n hC.1 hC.2.1 dX6_all_206 rfl (lv_at hl 0 rfl) ?_
    refine p_get hC hK hM 0 rfl in_X6 rfl 3 (by decide) q441 (fun x h => h) rfl dX6_all_207 ?_
    refine lv_if_ne (tgt := 217) hC.1 hC.2.1 dX6_all_210 (by decide) (fun c3 => ?_) (fun c3 => ?_)
    ·
      skip
      exact absurd hok (by rw [rdT, hmf, if_pos ⟨g17, fun h => c3 (hB.1.tok.2.2.2.mpr h)⟩]; exact badV_n y2 (by decide))
    ·
      skip
      refine lv_iconst (v := 1) hC.1 hC.2.1 dX6_all_213 (by decide) ?_
      refine lv_goto (tgt := 218) hC.1 hC.2.1 dX6_all_214 (by decide) ?_
      refine lv_iconst (v := 1) hC.1 hC.2.1 dX6_all_218 (by decide) ?_
      refine p_cVv (L' := [_, _, _]) hC hK hM (hM.at 0 rfl) rfl (oM.at hB.e (cl_must l κ O1 a v rd 1 1 hB.1.1 (by decide))) (cwV 2 hC.2.2.2.2 (lw_V q675 q677 qs7 q79 q678) rfl rfl rfl (by decide +kernel) ⟨(Nat.le_of_ble_eq_true rfl), (Nat.le_of_ble_eq_true rfl)⟩) rfl hl.1 rfl (lv_room (Nat.le_of_ble_eq_true rfl)) dX6_all_219 ⟨by dsimp only; omega, by dsimp only; omega⟩ hB.e.symm hM.2 (fun H locs hM => ?_)
      refine lv_aload_n hC.1 hC.2.1 dX6_all_222 rfl (lv_at hl 0 rfl) ?_
      refine p_get hC hK hM 0 rfl in_X6 rfl 7 (by decide) q445 (fun x h => h) rfl dX6_all_223 ?_
      rw [hB.1.2.2.1]
      refine p_cVe (L' := [_, _, _]) hC hK hM (hM.at 2 rfl) rfl (cr_goHome l κ _ md dv dd dw (hM.at 2 rfl)) (cwV 0 hC.2.2.2.2 (lw_V q863 q864 q865 q64 q866) rfl rfl rfl (by decide +kernel) ⟨(Nat.le_of_ble_eq_true rfl), (Nat.le_of_ble_eq_true rfl)⟩) rfl hl.1 rfl (lv_room (Nat.le_of_ble_eq_true rfl)) dX6_all_226 ⟨by dsimp only; omega, by dsimp only; omega⟩ (oups_set hM.2 (i := 2) rfl) (oad_nd hM.2 (i := 2) rfl rfl) (fun H locs hM => ?_)
      obtain ⟨O1, hM, hB⟩ := hB.re hM
      refine lv_pop hC.1 hC.2.1 dX6_all_229 rfl ?_
      refine W.widen (k := 615) (n := 102594) (by first | exact Nat.le_of_ble_eq_true rfl | (dsimp only; omega)) (by first | exact Nat.le_of_ble_eq_true rfl | (dsimp only; omega)) ?_
      refine p_vret hC hr hlocks hM dX6_all_230 ?_
      rw [hB.e]
      have hf2 : (rdM tp L ru f0).2 = z2 := by rw [hmf]
      rw [hf2]
      exact ⟨rfl, ⟨_, _, _, mm, kd, mv, hB.2.2.1, hmd.home, by rw [hB.2.2.2.1]; exact hB.2.2.2.2.1⟩, hB.2.2.2.2.2, hB.2.1, v, rd, hB.1.1, hB.1.2.2.1⟩
  ·
    skip
    rw [bI_n0] at c2
    have kx := c2
    have hmn := (nw_3 hB.1.2.2.2.2.1 hB.1.2.2.2.2.2.2 g17).mpr kx
    obtain ⟨j3, rfl⟩ : ∃ j3, j2 = j3 + 1 := ⟨j2 - 1, by omega⟩
    obtain ⟨yV, dy⟩ : ∃ x, x = rmV tp L y2 z2 := ⟨_, rfl⟩
    obtain ⟨zV, dz⟩ : ∃ x, x = rmF tp L y2 z2 := ⟨_, rfl⟩
    have hmf := rm_fin hI189.1 g17 hmn
    rw [← dy, ← dz] at hmf
    have c6 := hmf.2 hok
    have hmne : mm < 5 := Nat.lt_of_le_of_ne hm5 (fun e => (rm_ok (by rw [← dy]; exact c6)).2 (by rw [hf5, e]; rfl))
    refine lv_aload_n hC.1 hC.2.1 dX6_all_198 rfl (lv_at hl 0 rfl) ?_
    refine o_cV hC hK hM.1 (hM.at 0 rfl) rfl (oM.at hB.e (cl_mover l κ O1 a no md la cv nd g cw tp L y2 v rd dv dd dw mm kd mv hB.self htp ht z2 hmd.2.2.2.2.1 hf5 hm5 (by rw [← dy]; exact c6))) (cwV 0 hC.2.2.2.2 (lw_V q716 q718 qs11 q79 q719) rfl rfl rfl (by decide +kernel) ⟨(Nat.le_of_ble_eq_true rfl), (Nat.le_of_ble_eq_true rfl)⟩) rfl hl.1 rfl (lv_room (Nat.le_of_ble_eq_true rfl)) dX6_all_199 ⟨by dsimp only; omega, by dsimp only; omega⟩ (fun rv O1 H locs hp hM1 => ?_)
    obtain ⟨rfl, v, rd, kd1, mv1, hB2, hold, hKm, hNm⟩ := hp
    rw [← dy] at hB2
    have hB := hB.lift hB2
    have hM := hB.ps hM1
    have hmd2 : mdR zV dv dw (mm + 1) kd1 mv1 := rm_md dz dy hmd hf5 hmne c6 hold hKm hNm
    have hz5 : zV 5 = nI (mm + 1) := hmd2.2.2.2.2.2.1
    refine lv_goto (tgt := 189) hC.1 hC.2.1 dX6_all_202 (by decide) ?_
    have hj32 : 7 - (mm + 1) ≤ j3 := by omega
    have hm15 : mm + 1 ≤ 5 := by omega
    refine W.widen (k := 63 + 36 * n + 56 * (mm + 1)) (n := 10710 + 6120 * n + 9194 * (mm + 1)) (by dsimp only; omega) (by dsimp only; omega) ?_
    exact ih189 ((O1, yV, zV, v, rd, mm + 1, kd1, mv1, j3)) _ _ _ (by show j3 < j3 + 1; omega) ⟨⟨hmf.1, hj32, c6, hz5, hm15, hmd2, hB⟩, hM, lv_sub hl [0] rfl⟩
set_option maxHeartbeats 400000 in
set_option maxRecDepth 100000 in
theorem cl_all_b (l : Launch) (κ : Nat → Nat) (O : gO) (a no md la : Nat) (cv : Nat → Int32) (nd : Nat → Nat) (g : Nat → Nat → Option Nat) (cw : Nat → Nat → Int32) (tp : Nat → Int32) (L : Nat) (ru f0 vI : Nat → Int32) (rI dd : Nat → Nat) (kd : Nat → Nat) (mv : Nat → Nat → Int32) (hO : O a = some (rrU vI rI)) (hN : O no = some (nsU cv nd g cw)) (hD : O md = some (rdU (fun _ => 0) dd (fun _ _ => 0))) (h8 : dd 8 = la) (hm : mvs κ O la 0 kd mv) (h0 : rI 0 = nd 1) (h7 : rI 7 = md) (h1 : vI 1 = nI L) (h2 : vI 2 = 0) (hL : L ≤ 400) (hr10 : ru 10 = nI L) (htp : ∀ j, j < L → cw 1 j &&& 255 = tp j) (ht : tpOk tp L) (hok : rdT tp L ru f0 17 = 0) (O1 : gO) (uE fE v1 : Nat → Int32) (rd1 : Nat → Nat) (dv : Nat → Int32) (dw : Nat → Nat → Int32) (hB : PB κ O O1 a no md la cv nd g cw tp L uE v1 rd1 dv dd dw 0 kd mv) (hmd0 : mdR fE dv dw 0 kd mv) (hf40 : fE 4 = nI 0) (kE : uE 17 = 0) (hS0 : rdS tp L ru f0 = stnL tp L 8 uE fE) {D : va_G} {ac : Nat → ClassId} {A : Nat → Prop} {p : Program} {e : Env} {s : State} {m : MethodId} {args : Array Value} {below : List Frame} {meth : Method} {c : Code} {ls : Array Slot} {H : Heap} {locs : List Loc} (hC : CallFix p m c cX6_all 2 s args lw_all RX6) (hr : meth.sig.returnType = none) (hlocks : meth.locks = false) (hK : KZ D ac A κ s) (hM : PS D ac A s.heap O1 [(a, rrU v1 rd1), (no, nsU cv nd g cw), (md, rdU dv dd dw)] H locs) (hl : lv_has ls 2 [(0, .ref a)]) : W p l e ({ frames := 9, cells := 615, slots := 102594, locals := 220 }) s m args below meth c H locs (63) (10710) (MQ below (oQ D ac A (fun rv O1 => rv = none ∧ RI κ O1 md (rdM tp L ru f0).2 ∧ kpL O O1 [a, md, la] ∧ O1 no = some (nsU cv nd g cw) ∧ ∃ (v1 : Nat → Int32) (rd1 : Nat → Nat), O1 a = some (rrU v1 rd1) ∧ rd1 7 = md)) args s 615 102594 A) (F0 m 81 ls []) := by
  refine w_indC (α := gO × (Nat → Int32) × (Nat → Int32) × (Nat → Int32) × (Nat → Nat) × (Nat → Int32) × (Nat → Nat → Int32) × Nat × Nat) 81 (fun (x_ : gO × (Nat → Int32) × (Nat → Int32) × (Nat → Int32) × (Nat → Nat) × (Nat → Int32) × (Nat → Nat → Int32) × Nat × Nat) => (fun (O1 : gO) (u : Nat → Int32) (f : Nat → Int32) (v : Nat → Int32) (rd : Nat → Nat) (dv : Nat → Int32) (dw : Nat → Nat → Int32) (n : Nat) (j : Nat) => j) x_.1 x_.2.1 x_.2.2.1 x_.2.2.2.1 x_.2.2.2.2.1 x_.2.2.2.2.2.1 x_.2.2.2.2.2.2.1 x_.2.2.2.2.2.2.2.1 x_.2.2.2.2.2.2.2.2) (fun (x_ : gO × (Nat → Int32) × (Nat → Int32) × (Nat → Int32) × (Nat → Nat) × (Nat → Int32) × (Nat → Nat → Int32) × Nat × Nat) => (fun (O1 : gO) (u : Nat → Int32) (f : Nat → Int32) (v : Nat → Int32) (rd : Nat → Nat) (dv : Nat → Int32) (dw : Nat → Nat → Int32) (n : Nat) (j : Nat) => 63 + 36 * n) x_.1 x_.2.1 x_.2.2.1 x_.2.2.2.1 x_.2.2.2.2.1 x_.2.2.2.2.2.1 x_.2.2.2.2.2.2.1 x_.2.2.2.2.2.2.2.1 x_.2.2.2.2.2.2.2.2) (fun (x_ : gO × (Nat → Int32) × (Nat → Int32) × (Nat → Int32) × (Nat → Nat) × (Nat → Int32) × (Nat → Nat → Int32) × Nat × Nat) => (fun (O1 : gO) (u : Nat → Int32) (f : Nat → Int32) (v : Nat → Int32) (rd : Nat → Nat) (dv : Nat → Int32) (dw : Nat → Nat → Int32) (n : Nat) (j : Nat) => 10710 + 6120 * n) x_.1 x_.2.1 x_.2.2.1 x_.2.2.2.1 x_.2.2.2.2.1 x_.2.2.2.2.2.1 x_.2.2.2.2.2.2.1 x_.2.2.2.2.2.2.2.1 x_.2.2.2.2.2.2.2.2) (fun (x_ : gO × (Nat → Int32) × (Nat → Int32) × (Nat → Int32) × (Nat → Nat) × (Nat → Int32) × (Nat → Nat → Int32) × Nat × Nat) (H : Heap) (locs : List Loc) (ls : Array Slot) => (fun (O1 : gO) (u : Nat → Int32) (f : Nat → Int32) (v : Nat → Int32) (rd : Nat → Nat) (dv : Nat → Int32) (dw : Nat → Nat → Int32) (n : Nat) (j : Nat) => (rdS tp L ru f0 = stnL tp L j u f ∧ 8 - n ≤ j ∧ u 17 = 0 ∧ f 4 = nI n ∧ n ≤ 6 ∧ mdR f dv dw 0 kd mv ∧ PB κ O O1 a no md la cv nd g cw tp L u v rd dv dd dw 0 kd mv) ∧ (PS D ac A s.heap O1 [(a, rrU v rd), (no, nsU cv nd g cw), (md, rdU dv dd dw)] H locs) ∧ lv_has ls 2 [(0, .ref a)]) x_.1 x_.2.1 x_.2.2.1 x_.2.2.2.1 x_.2.2.2.2.1 x_.2.2.2.2.2.1 x_.2.2.2.2.2.2.1 x_.2.2.2.2.2.2.2.1 x_.2.2.2.2.2.2.2.2) ?_ ((O1, uE, fE, v1, rd1, dv, dw, 0, 8)) (Nat.le_of_ble_eq_true rfl) (Nat.le_of_ble_eq_true rfl) ⟨⟨hS0, Nat.le_refl 8, kE, hf40, Nat.zero_le 6, hmd0, hB⟩, hM, lv_sub hl [0] rfl⟩
  intro x_ H locs ls hI ih81
  obtain ⟨O1, u, f, v, rd, dv, dw, n, j⟩ := x_
  dsimp only at hI
  obtain ⟨hI81, hM, hl⟩ := hI
  show W _ _ _ _ _ _ _ _ _ _ _ _ (63 + 36 * n) (10710 + 6120 * n) _ _
  have hB := hI81.2.2.2.2.2.2
  have hmd := hI81.2.2.2.2.2.1
  have h17 := hI81.2.2.1
  have hf4 := hI81.2.2.2.1
  have hn6 : n ≤ 6 := hI81.2.2.2.2.1
  have hj8 : 8 - n ≤ j := hI81.2.1
  refine lv_aload_n hC.1 hC.2.1 dX6_all_81 rfl (lv_at hl 0 rfl) ?_
  refine va_ldcS hC.1 hC.2.1 hC.2.2.2.1 hK.2.2.2.2.2.2.2.2.2.1 dX6_all_82 ?_
  refine p_cVe (L' := [_, _, _]) hC hK hM (hM.at 0 rfl) rfl (oM.at hB.e (cl_isWord l κ O1 a v rd (nd 1) md tp L (u) (2) hB.1 (by omega))) (cwV 1 hC.2.2.2.2 (lw_V q663 q665 qs6 q79 q666) rfl rfl rfl (by decide +kernel) ⟨(Nat.le_of_ble_eq_true rfl), (Nat.le_of_ble_eq_true rfl)⟩) rfl hl.1 rfl (lv_room (Nat.le_of_ble_eq_true rfl)) dX6_all_84 ⟨by dsimp only; omega, by dsimp only; omega⟩ hB.e.symm hM.2 (fun H locs hM => ?_)
  refine lv_if_eq (tgt := 189) hC.1 hC.2.1 dX6_all_87 (by decide) (fun c1 => ?_) (fun c1 => ?_)
  ·
    skip
    rw [bI_0] at c1
    have kw := c1
    have hns := fun h => kw ((nw_2 hB.1.2.2.2.2.1 hB.1.2.2.2.2.2.2 h17).mp h)
    have hM0 : rdM tp L ru f0 = movL tp L 7 u f := by rw [rdM, hI81.1, stnL_stop hns]
    refine W.widen (k := 63 + 36 * n) (n := 10710 + 6120 * n) (by dsimp only; omega) (by dsimp only; omega) ?_
    exact cl_all_c l κ O a no md la cv nd g cw tp L ru f0 vI rI dd kd mv hO hN hD h8 hm h0 h7 h1 h2 hL hr10 htp ht hok O1 u f v rd dv dw n hn6 hM0 h17 hmd hB hC hr hlocks hK (hM) (lv_sub hl [0] rfl)
  ·
    skip
    rw [bI_n0] at c1
    have kw := c1
    have hsn := (nw_2 hB.1.2.2.2.2.1 hB.1.2.2.2.2.2.2 h17).mpr kw
    obtain ⟨j1, rfl⟩ : ∃ j1, j = j1 + 1 := ⟨j - 1, by omega⟩
    obtain ⟨t1, c1⟩ : ∃ x, x = rs1 tp L u f := ⟨_, rfl⟩
    obtain ⟨t2, c2⟩ : ∃ x, x = rs2 tp L u f := ⟨_, rfl⟩
    obtain ⟨t3, c3⟩ : ∃ x, x = rs3 tp L u f := ⟨_, rfl⟩
    obtain ⟨tV, dV⟩ : ∃ x, x = rsV tp L u f := ⟨_, rfl⟩
    obtain ⟨fV, dF⟩ : ∃ x, x = rsF tp L u f := ⟨_, rfl⟩
    obtain ⟨sA, sAe⟩ : ∃ x, x = numR tp t1 := ⟨_, rfl⟩
    obtain ⟨sB, sBe⟩ : ∃ x, x = numR tp t2 := ⟨_, rfl⟩
    have g1 : t1 = begV tp L u f 4 (nI 6) := c1
    have g2 : t2 = numV tp L t1 0 200 := by rw [c2, c1]; rfl
    have g3 : t3 = numV tp L t2 (rsLo f) (f 0) := by rw [c3, c2]; rfl
    have g4 : tV = endV tp L t3 := by rw [dV, c3]; rfl
    have hsf := rs_fin hI81.1 h17 hsn
    rw [← dV, ← dF] at hsf
    have b4 := hsf.2 hok
    have b3 : t3 17 = 0 := endV_17 (by rw [← g4]; exact b4)
    have b2 : t2 17 = 0 := numV_17 (by rw [← g3]; exact b3)
    have b1 : t1 17 = 0 := numV_17 (by rw [← g2]; exact b2)
    have hn5 : n < 6 := Nat.lt_of_le_of_ne hn6 (fun e => (begV_17 (by rw [← g1]; exact b1)).2 (by rw [hf4, e]))
    refine lv_aload_n hC.1 hC.2.1 dX6_all_90 rfl (lv_at hl 0 rfl) ?_
    refine lv_aload_n hC.1 hC.2.1 dX6_all_91 rfl (lv_at hl 0 rfl) ?_
    refine p_get hC hK hM 0 rfl in_X6 rfl 7 (by decide) q445 (fun x h => h) rfl dX6_all_92 ?_
    rw [hB.1.2.2.1]
    refine p_get hC hK hM 2 rfl in_X1 rfl 4 (by decide) q155 (fun x h => h) rfl dX6_all_95 ?_
    rw [← hmd.2.2.2.2.1, hf4]
    refine lv_bipush (v := 6) hC.1 hC.2.1 dX6_all_98 (by decide) ?_
    refine o_cV hC hK hM.1 (hM.at 0 rfl) rfl (oM.at hB.e (cl_begK l κ O1 a v rd no cv nd g cw md tp L (u) f 4 n 6 hB.1 hB.2.1 htp ht h17 hf4 hn6 (by decide) (by rw [← g1]; exact b1))) (cwV 2 hC.2.2.2.2 (lw_V q711 q713 qs10 q79 q714) rfl rfl rfl (by decide +kernel) ⟨(Nat.le_of_ble_eq_true rfl), (Nat.le_of_ble_eq_true rfl)⟩) rfl hl.1 rfl (lv_room (Nat.le_of_ble_eq_true rfl)) dX6_all_100 ⟨by dsimp only; omega, by dsimp only; omega⟩ (fun rv O1 H locs hp hM1 => ?_)
    obtain ⟨rfl, hkp, v, rd, hR⟩ := hp
    rw [← g1] at hR
    have hB := hB.call hkp hR
    have hM := hB.ps hM1
    refine lv_aload_n hC.1 hC.2.1 dX6_all_103 rfl (lv_at hl 0 rfl) ?_
    refine p_get hC hK hM 0 rfl in_X6 rfl 7 (by decide) q445 (fun x h => h) rfl dX6_all_104 ?_
    rw [hB.1.2.2.1]
    refine p_get hC hK hM 2 rfl in_X1 rfl 4 (by decide) q155 (fun x h => h) rfl dX6_all_107 ?_
    rw [← hmd.2.2.2.2.1, hf4]
    refine lv_istore_n (lv' := [(1, _), (0, _)]) hC.1 hC.2.1 dX6_all_110 rfl hl (by decide) rfl (fun ls hl => ?_)
    refine lv_aload_n hC.1 hC.2.1 dX6_all_111 rfl (lv_at hl 1 rfl) ?_
    refine p_get hC hK hM 0 rfl in_X6 rfl 7 (by decide) q445 (fun x h => h) rfl dX6_all_112 ?_
    rw [hB.1.2.2.1]
    refine p_get hC hK hM 2 rfl in_X1 rfl 5 (by decide) q158 (fun x h => h) rfl dX6_all_115 ?_
    refine lv_iload_n hC.1 hC.2.1 dX6_all_118 rfl (lv_at hl 0 rfl) ?_
    refine lv_aload_n hC.1 hC.2.1 dX6_all_119 rfl (lv_at hl 1 rfl) ?_
    refine lv_iconst (v := 0) hC.1 hC.2.1 dX6_all_120 (by decide) ?_
    refine lv_sipush (v := 200) hC.1 hC.2.1 dX6_all_121 (by decide) ?_
    refine o_cV hC hK hM.1 (hM.at 0 rfl) rfl (oM.at hB.e (cl_figK l κ O1 a v rd no cv nd g cw md tp L (t1) 0 200 hB.1 hB.2.1 htp ht b1 (by rw [← g2]; exact b2))) (cwV 2 hC.2.2.2.2 (lw_V q702 q704 qs8 q79 q705) rfl rfl rfl (by decide +kernel) ⟨(Nat.le_of_ble_eq_true rfl), (Nat.le_of_ble_eq_true rfl)⟩) rfl hl.1 rfl (lv_room (Nat.le_of_ble_eq_true rfl)) dX6_all_124 ⟨by dsimp only; omega, by dsimp only; omega⟩ (fun rv O1 H locs hp hM1 => ?_)
    obtain ⟨rfl, hkp, v, rd, hR⟩ := hp
    rw [← g2] at hR
    have hB := hB.call hkp hR
    have hM := hB.ps hM1
    rw [← sAe]
    refine p_iast (L' := [_, _, _]) hC hK hM 2 rfl 5 rfl rfl (n := n) rfl (by show _ < 6; omega) (by decide) (rar_set _ (k := 5) (by decide) _) rfl dX6_all_127 (fun H locs hM => ?_)
    obtain ⟨O1, hM, hB⟩ := hB.re hM
    refine lv_aload_n hC.1 hC.2.1 dX6_all_128 rfl (lv_at hl 1 rfl) ?_
    refine p_get hC hK hM 0 rfl in_X6 rfl 7 (by decide) q445 (fun x h => h) rfl dX6_all_129 ?_
    rw [hB.1.2.2.1]
    refine p_get hC hK hM 2 rfl in_X1 rfl 7 (by decide) q164 (fun x h => h) rfl dX6_all_132 ?_
    refine lv_iload_n hC.1 hC.2.1 dX6_all_135 rfl (lv_at hl 0 rfl) ?_
    refine lv_aload_n hC.1 hC.2.1 dX6_all_136 rfl (lv_at hl 1 rfl) ?_
    refine lv_iload_n hC.1 hC.2.1 dX6_all_137 rfl (lv_at hl 0 rfl) ?_
    refine w_tern1 (cond := n = 0) (a := 0) (b := dw 7 (n - 1) + 1) 158 ?_ (fun jt138 jf138 => ?_)
    ·
      skip
      rw [show (if n = 0 then (0 : Int32) else dw 7 (n - 1) + 1) = rsLo f from rsLo_of hf4 hn6 hmd]
      refine lv_aload_n hC.1 hC.2.1 dX6_all_158 rfl (lv_at hl 1 rfl) ?_
      refine p_get hC hK hM 0 rfl in_X6 rfl 7 (by decide) q445 (fun x h => h) rfl dX6_all_159 ?_
      rw [hB.1.2.2.1]
      refine p_get hC hK hM 2 rfl in_X1 rfl 0 (by decide) q143 (fun x h => h) rfl dX6_all_162 ?_
      rw [← hmd.1]
      refine o_cV hC hK hM.1 (hM.at 0 rfl) rfl (oM.at hB.e (cl_figK l κ O1 a v rd no cv nd g cw md tp L (t2) (rsLo f) (f 0) hB.1 hB.2.1 htp ht b2 (by rw [← g3]; exact b3))) (cwV 2 hC.2.2.2.2 (lw_V q702 q704 qs8 q79 q705) rfl rfl rfl (by decide +kernel) ⟨(Nat.le_of_ble_eq_true rfl), (Nat.le_of_ble_eq_true rfl)⟩) rfl hl.1 rfl (lv_room (Nat.le_of_ble_eq_true rfl)) dX6_all_165 ⟨by dsimp only; omega, by dsimp only; omega⟩ (fun rv O1 H locs hp hM1 => ?_)
      obtain ⟨rfl, hkp, v, rd, hR⟩ := hp
      rw [← g3] at hR
      have hB := hB.call hkp hR
      have hM := hB.ps hM1
      rw [← sBe]
      refine p_iast (L' := [_, _, _]) hC hK hM 2 rfl 7 rfl rfl (n := n) rfl (by show _ < 6; omega) (by decide) (rar_set _ (k := 7) (by decide) _) rfl dX6_all_168 (fun H locs hM => ?_)
      obtain ⟨O1, hM, hB⟩ := hB.re hM
      refine lv_aload_n hC.1 hC.2.1 dX6_all_169 rfl (lv_at hl 1 rfl) ?_
      refine p_get hC hK hM 0 rfl in_X6 rfl 7 (by decide) q445 (fun x h => h) rfl dX6_all_170 ?_
      rw [hB.1.2.2.1]
      refine lv_dup hC.1 hC.2.1 dX6_all_173 rfl ?_
      refine p_get hC hK hM 2 rfl in_X1 rfl 4 (by decide) q155 (fun x h => h) rfl dX6_all_174 ?_
      rw [← hmd.2.2.2.2.1, hf4]
      refine lv_iconst (v := 1) hC.1 hC.2.1 dX6_all_177 (by decide) ?_
      refine lv_iadd hC.1 hC.2.1 dX6_all_178 ?_
      rw [nI_1]
      refine p_put (L' := [_, _, _]) hC hK hM 2 rfl in_X1 tyX1 tyX1_ok nmX1 rfl 4 (by decide) q155 (fun x h => h) rfl rfl rfl (Nat.le_of_ble_eq_true rfl) rfl rfl rfl dX6_all_179 (fun H locs hM => ?_)
      obtain ⟨O1, hM, hB⟩ := hB.re hM
      refine lv_aload_n hC.1 hC.2.1 dX6_all_182 rfl (lv_at hl 1 rfl) ?_
      refine o_cV hC hK hM.1 (hM.at 0 rfl) rfl (oM.at hB.e (cl_signK l κ O1 a v rd no cv nd g cw md tp L (t3) hB.1 hB.2.1 htp ht b3 (by rw [← g4]; exact b4))) (cwV 0 hC.2.2.2.2 (lw_V q706 q708 qs9 q79 q709) rfl rfl rfl (by decide +kernel) ⟨(Nat.le_of_ble_eq_true rfl), (Nat.le_of_ble_eq_true rfl)⟩) rfl hl.1 rfl (lv_room (Nat.le_of_ble_eq_true rfl)) dX6_all_183 ⟨by dsimp only; omega, by dsimp only; omega⟩ (fun rv O1 H locs hp hM1 => ?_)
      obtain ⟨rfl, hkp, v, rd, hR⟩ := hp
      rw [← g4] at hR
      have hB := hB.call hkp hR
      have hM := hB.ps hM1
      refine lv_goto (tgt := 81) hC.1 hC.2.1 dX6_all_186 (by decide) ?_
      have hmd2 : mdR fV (upd dv 4 (nI (n + 1))) (wput (wput dw 5 (upd (dw 5) n sA)) 7 (upd (dw 7) n sB)) 0 kd mv := by rw [sAe, sBe]; exact rs_md dF dV c1 c2 hmd hf4 b4 hn5
      have hf42 : fV 4 = nI (n + 1) := hmd2.2.2.2.2.1
      have hj12 : 8 - (n + 1) ≤ j1 := by omega
      have hn16 : n + 1 ≤ 6 := by omega
      refine W.widen (k := 63 + 36 * (n + 1)) (n := 10710 + 6120 * (n + 1)) (by dsimp only; omega) (by dsimp only; omega) ?_
      exact ih81 ((O1, tV, fV, v, rd, upd dv 4 (nI (n + 1)), wput (wput dw 5 (upd (dw 5) n sA)) 7 (upd (dw 7) n sB), n + 1, j1)) _ _ _ (by show j1 < j1 + 1; omega) ⟨⟨hsf.1, hj12, b4, hf42, hn16, hmd2, hB⟩, hM, lv_sub hl [1] rfl⟩
    ·
      skip
      refine lv_if_ne (tgt := 145) hC.1 hC.2.1 dX6_all_138 (by decide) (fun c4 => ?_) (fun c4 => ?_)
      ·
        skip
        have cn0 : n ≠ 0 := fun e => c4 (by rw [e]; rfl)
        refine lv_aload_n hC.1 hC.2.1 dX6_all_145 rfl (lv_at hl 1 rfl) ?_
        refine p_get hC hK hM 0 rfl in_X6 rfl 7 (by decide) q445 (fun x h => h) rfl dX6_all_146 ?_
        rw [hB.1.2.2.1]
        refine p_get hC hK hM 2 rfl in_X1 rfl 7 (by decide) q164 (fun x h => h) rfl dX6_all_149 ?_
        refine lv_iload_n hC.1 hC.2.1 dX6_all_152 rfl (lv_at hl 0 rfl) ?_
        refine lv_iconst (v := 1) hC.1 hC.2.1 dX6_all_153 (by decide) ?_
        refine lv_isub hC.1 hC.2.1 dX6_all_154 ?_
        rw [show nI n - 1 = nI (n - 1) from nI_subn (b := 1) (by omega)]
        refine p_iald hC hK hM 2 rfl 7 rfl rfl (n := (n - 1)) rfl (by show _ < 6; omega) (by decide) dX6_all_155 ?_
        refine lv_iconst (v := 1) hC.1 hC.2.1 dX6_all_156 (by decide) ?_
        refine lv_iadd hC.1 hC.2.1 dX6_all_157 ?_
        first | exact jt138 (by exact cn0) | exact jf138 (by exact cn0)
      ·
        skip
        have cn0 : n = 0 := neq_t (b := 0) c4
        refine lv_iconst (v := 0) hC.1 hC.2.1 dX6_all_141 (by decide) ?_
        refine lv_goto (tgt := 158) hC.1 hC.2.1 dX6_all_142 (by decide) ?_
        first | exact jt138 (by exact cn0) | exact jf138 (by exact cn0)
