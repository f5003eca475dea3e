set_option maxHeartbeats 400000 in
set_option maxRecDepth 100000 in
theorem cl_allT_s (l : Launch) (κ : Nat → Nat) (O : gO) (a no md la : Nat) (cv : Nat → Int32) (nd : Nat → Nat) (g : Nat → Nat → Option Nat) (cw : Nat → Nat → Int32) (tp : Nat → Int32) (L : Nat) (ru f0 vI : Nat → Int32) (rI dd : Nat → Nat) (kd : Nat → Nat) (mv : Nat → Nat → Int32) (hO : O a = some (rrU vI rI)) (hN : O no = some (nsU cv nd g cw)) (hD : O md = some (rdU (fun _ => 0) dd (fun _ _ => 0))) (h8 : dd 8 = la) (hm : mvs κ O la 0 kd mv) (h0 : rI 0 = nd 1) (h7 : rI 7 = md) (h1 : vI 1 = nI L) (h2 : vI 2 = 0) (hL : L ≤ 400) (hr10 : ru 10 = nI L) (htp : ∀ j, j < L → cw 1 j &&& 255 = tp j) (ht : tpOk tp L) (hbad : ¬ rdT tp L ru f0 17 = 0) (O1 : gO) (uB u0 u1 u2 u3 uE v : Nat → Int32) (rd : Nat → Nat) (dB : uB = rdB tp L ru) (d0 : u0 = rd0 tp L ru) (d1 : u1 = rd1 tp L ru) (d2 : u2 = rd2 tp L ru) (d3 : u3 = rd3 tp L ru) (dE : uE = rdE tp L ru) (x0 x1 x2 x3 : Int32) (x0e : x0 = numR tp uB) (x1e : x1 = numR tp u0) (x2e : x2 = numR tp u1) (x3e : x3 = numR tp u2) (eE : uE = endV tp L u3) (k3 : u3 17 = 0) (hB : PB κ O O1 a no md la cv nd g cw tp L u3 v rd (upd (upd (upd (upd (fun _ => 0) 0 x0) 1 x1) 2 x2) 3 x3) dd (fun _ _ => 0) 0 kd mv) {D : va_G} {ac : Nat → ClassId} {A : Nat → Prop} {p : Program} {e : Env} {s : State} {m : MethodId} {args : Array Value} {below : List Frame} {meth : Method} {c : Code} {ls : Array Slot} {H : Heap} {locs : List Loc} (hC : CallFix p m c cX6_all 2 s args lw_all RX6) (hem : c.exceptionTable.isEmpty = true) (hlocks : meth.locks = false) (hK : KZ D ac A κ s) (hM : PS D ac A s.heap O1 [(a, rrU v rd), (no, nsU cv nd g cw), (md, rdU (upd (upd (upd (upd (fun _ => 0) 0 x0) 1 x1) 2 x2) 3 x3) dd (fun _ _ => 0))] H locs) (hl : lv_has ls 2 [(0, .ref a)]) : W p l e ({ frames := 9, cells := 615, slots := 102594, locals := 220 }) s m args below meth c H locs (54) (9180) (MQT below (oQT D ac A (fun z O1 => O1 z = some (ftU (rdT tp L ru f0 17) (rdT tp L ru f0 18)) ∧ kpL O O1 [a, md, la])) args s 615 102594 A) (F0 m 77 ls []) := by
  refine lv_aload_n hC.1 hC.2.1 dX6_all_77 rfl (lv_at hl 0 rfl) ?_
  by_cases kE : uE 17 = 0
  ·
    skip
    refine o_cV hC hK hM.1 (hM.at 0 rfl) rfl (oM.at hB.e (cl_signK l κ O1 a v rd no cv nd g cw md tp L (u3) hB.1 hB.2.1 htp ht k3 (by rw [← eE]; exact kE))) (cwV 0 hC.2.2.2.2 (lw_V q706 q708 qs9 q79 q709) rfl rfl rfl (by decide +kernel) ⟨(Nat.le_of_ble_eq_true rfl), (Nat.le_of_ble_eq_true rfl)⟩) rfl hl.1 rfl (lv_room (Nat.le_of_ble_eq_true rfl)) dX6_all_78 ⟨(Nat.le_of_ble_eq_true rfl), (Nat.le_of_ble_eq_true rfl)⟩ (fun rv O1 H locs hp hM1 => ?_)
    obtain ⟨rfl, hkp, v, rd, hR⟩ := hp
    rw [← eE] at hR
    have hB := hB.call hkp hR
    have hM := hB.ps hM1
    refine W.widen (k := 63) (n := 10710) (Nat.le_of_ble_eq_true rfl) (Nat.le_of_ble_eq_true rfl) ?_
    obtain ⟨fE, dFE⟩ : ∃ x, x = fr1 tp L ru f0 := ⟨_, rfl⟩
    have hmd0 := fr1_md dFE dB d0 d1 d2 kd mv
    rw [← x0e, ← x1e, ← x2e, ← x3e] at hmd0
    have hS0 : rdS tp L ru f0 = stnL tp L 8 uE fE := by rw [dE, dFE]; rfl
    exact cl_allT_b l κ O a no md la cv nd g cw tp L ru f0 vI rI dd kd mv hO hN hD h8 hm h0 h7 h1 h2 hL hr10 htp ht hbad O1 uE fE v rd _ _ hB hmd0 hmd0.2.2.2.2.1 kE hS0 hC hem hlocks hK (hM) (lv_sub hl [0] rfl)
  ·
    skip
    refine W.widen (k := 614) (n := 102586) (Nat.le_of_ble_eq_true rfl) (Nat.le_of_ble_eq_true rfl) ?_
    refine p_pass hem hlocks hM (runVT hC ((oT.at hB.e (cl_signB l κ O1 a v rd no cv nd g cw md tp L (u3) hB.1 hB.2.1 htp ht k3 (by rw [← eE]; exact kE))) D ac A) (cwV 0 hC.2.2.2.2 (lw_V q706 q708 qs9 q79 q709) rfl rfl rfl (by decide +kernel) ⟨(Nat.le_of_ble_eq_true rfl), (Nat.le_of_ble_eq_true rfl)⟩) ⟨oPre.blind, OS.recv hK hM.1 (hM.at 0 rfl) rfl, fun U hU hW => ⟨rfl, OS.pre hK hM.1 hU hW⟩⟩ rfl rfl hl.1 rfl (lv_room (Nat.le_of_ble_eq_true rfl)) dX6_all_78 ⟨(Nat.le_of_ble_eq_true rfl), (Nat.le_of_ble_eq_true rfl)⟩) (fun x_ O1 hp => ?_)
    have hz := hB.thr hp
    rw [← eE] at hz
    rw [show rdT tp L ru f0 = uE from rdT_E (f := f0) dE.symm (by rw [eE]; exact endV_p k3 (by rw [← eE]; exact kE))]
    exact hz
set_option maxHeartbeats 400000 in
set_option maxRecDepth 100000 in
theorem cl_allT_a (l : Launch) (κ : Nat → Nat) (O : gO) (a no md la : Nat) (cv : Nat → Int32) (nd : Nat → Nat) (g : Nat → Nat → Option Nat) (cw : Nat → Nat → Int32) (tp : Nat → Int32) (L : Nat) (ru f0 vI : Nat → Int32) (rI dd : Nat → Nat) (kd : Nat → Nat) (mv : Nat → Nat → Int32) (hO : O a = some (rrU vI rI)) (hN : O no = some (nsU cv nd g cw)) (hD : O md = some (rdU (fun _ => 0) dd (fun _ _ => 0))) (h8 : dd 8 = la) (hm : mvs κ O la 0 kd mv) (h0 : rI 0 = nd 1) (h7 : rI 7 = md) (h1 : vI 1 = nI L) (h2 : vI 2 = 0) (hL : L ≤ 400) (hr10 : ru 10 = nI L) (htp : ∀ j, j < L → cw 1 j &&& 255 = tp j) (ht : tpOk tp L) (hbad : ¬ rdT tp L ru f0 17 = 0) (O1 : gO) (uB u0 u1 u2 u3 uE v : Nat → Int32) (rd : Nat → Nat) (dB : uB = rdB tp L ru) (d0 : u0 = rd0 tp L ru) (d1 : u1 = rd1 tp L ru) (d2 : u2 = rd2 tp L ru) (d3 : u3 = rd3 tp L ru) (dE : uE = rdE tp L ru) (x0 x1 x2 x3 : Int32) (x0e : x0 = numR tp uB) (x1e : x1 = numR tp u0) (x2e : x2 = numR tp u1) (x3e : x3 = numR tp u2) (e2 : u2 = numV tp L u1 0 100) (e3 : u3 = numV tp L u2 0 99) (eE : uE = endV tp L u3) (k1 : u1 17 = 0) (hB : PB κ O O1 a no md la cv nd g cw tp L u1 v rd (upd (upd (fun _ => 0) 0 x0) 1 x1) dd (fun _ _ => 0) 0 kd mv) {D : va_G} {ac : Nat → ClassId} {A : Nat → Prop} {p : Program} {e : Env} {s : State} {m : MethodId} {args : Array Value} {below : List Frame} {meth : Method} {c : Code} {ls : Array Slot} {H : Heap} {locs : List Loc} (hC : CallFix p m c cX6_all 2 s args lw_all RX6) (hem : c.exceptionTable.isEmpty = true) (hlocks : meth.locks = false) (hK : KZ D ac A κ s) (hM : PS D ac A s.heap O1 [(a, rrU v rd), (no, nsU cv nd g cw), (md, rdU (upd (upd (fun _ => 0) 0 x0) 1 x1) dd (fun _ _ => 0))] H locs) (hl : lv_has ls 2 [(0, .ref a)]) : W p l e ({ frames := 9, cells := 615, slots := 102594, locals := 220 }) s m args below meth c H locs (36) (6120) (MQT below (oQT D ac A (fun z O1 => O1 z = some (ftU (rdT tp L ru f0 17) (rdT tp L ru f0 18)) ∧ kpL O O1 [a, md, la])) args s 615 102594 A) (F0 m 49 ls []) := by
  refine lv_aload_n hC.1 hC.2.1 dX6_all_49 rfl (lv_at hl 0 rfl) ?_
  refine p_get hC hK hM 0 rfl in_X6 rfl 7 (by decide) q445 (fun x h => h) rfl dX6_all_50 ?_
  rw [hB.1.2.2.1]
  refine lv_aload_n hC.1 hC.2.1 dX6_all_53 rfl (lv_at hl 0 rfl) ?_
  refine lv_iconst (v := 0) hC.1 hC.2.1 dX6_all_54 (by decide) ?_
  refine lv_bipush (v := 100) hC.1 hC.2.1 dX6_all_55 (by decide) ?_
  by_cases k2 : u2 17 = 0
  ·
    skip
    refine o_cV hC hK hM.1 (hM.at 0 rfl) rfl (oM.at hB.e (cl_figK l κ O1 a v rd no cv nd g cw md tp L (u1) 0 100 hB.1 hB.2.1 htp ht k1 (by rw [← e2]; exact k2))) (cwV 2 hC.2.2.2.2 (lw_V q702 q704 qs8 q79 q705) rfl rfl rfl (by decide +kernel) ⟨(Nat.le_of_ble_eq_true rfl), (Nat.le_of_ble_eq_true rfl)⟩) rfl hl.1 rfl (lv_room (Nat.le_of_ble_eq_true rfl)) dX6_all_57 ⟨(Nat.le_of_ble_eq_true rfl), (Nat.le_of_ble_eq_true rfl)⟩ (fun rv O1 H locs hp hM1 => ?_)
    obtain ⟨rfl, hkp, v, rd, hR⟩ := hp
    rw [← e2] at hR
    have hB := hB.call hkp hR
    have hM := hB.ps hM1
    rw [← x2e]
    refine p_put (L' := [_, _, _]) hC hK hM 2 rfl in_X1 tyX1 tyX1_ok nmX1 rfl 2 (by decide) q149 (fun x h => h) rfl rfl rfl (Nat.le_of_ble_eq_true rfl) rfl rfl rfl dX6_all_60 (fun H locs hM => ?_)
    obtain ⟨O1, hM, hB⟩ := hB.re hM
    refine lv_aload_n hC.1 hC.2.1 dX6_all_63 rfl (lv_at hl 0 rfl) ?_
    refine p_get hC hK hM 0 rfl in_X6 rfl 7 (by decide) q445 (fun x h => h) rfl dX6_all_64 ?_
    rw [hB.1.2.2.1]
    refine lv_aload_n hC.1 hC.2.1 dX6_all_67 rfl (lv_at hl 0 rfl) ?_
    refine lv_iconst (v := 0) hC.1 hC.2.1 dX6_all_68 (by decide) ?_
    refine lv_bipush (v := 99) hC.1 hC.2.1 dX6_all_69 (by decide) ?_
    by_cases k3 : u3 17 = 0
    ·
      skip
      refine o_cV hC hK hM.1 (hM.at 0 rfl) rfl (oM.at hB.e (cl_figK l κ O1 a v rd no cv nd g cw md tp L (u2) 0 99 hB.1 hB.2.1 htp ht k2 (by rw [← e3]; exact k3))) (cwV 2 hC.2.2.2.2 (lw_V q702 q704 qs8 q79 q705) rfl rfl rfl (by decide +kernel) ⟨(Nat.le_of_ble_eq_true rfl), (Nat.le_of_ble_eq_true rfl)⟩) rfl hl.1 rfl (lv_room (Nat.le_of_ble_eq_true rfl)) dX6_all_71 ⟨(Nat.le_of_ble_eq_true rfl), (Nat.le_of_ble_eq_true rfl)⟩ (fun rv O1 H locs hp hM1 => ?_)
      obtain ⟨rfl, hkp, v, rd, hR⟩ := hp
      rw [← e3] at hR
      have hB := hB.call hkp hR
      have hM := hB.ps hM1
      rw [← x3e]
      refine p_put (L' := [_, _, _]) hC hK hM 2 rfl in_X1 tyX1 tyX1_ok nmX1 rfl 3 (by decide) q152 (fun x h => h) rfl rfl rfl (Nat.le_of_ble_eq_true rfl) rfl rfl rfl dX6_all_74 (fun H locs hM => ?_)
      obtain ⟨O1, hM, hB⟩ := hB.re hM
      refine W.widen (k := 54) (n := 9180) (Nat.le_of_ble_eq_true rfl) (Nat.le_of_ble_eq_true rfl) ?_
      exact cl_allT_s l κ O a no md la cv nd g cw tp L ru f0 vI rI dd kd mv hO hN hD h8 hm h0 h7 h1 h2 hL hr10 htp ht hbad O1 uB u0 u1 u2 u3 uE v rd dB d0 d1 d2 d3 dE x0 x1 x2 x3 x0e x1e x2e x3e eE k3 hB hC hem hlocks hK (hM) (lv_sub hl [0] rfl)
    ·
      skip
      refine W.widen (k := 614) (n := 102586) (Nat.le_of_ble_eq_true rfl) (Nat.le_of_ble_eq_true rfl) ?_
      refine p_pass hem hlocks hM (runVT hC ((oT.at hB.e (cl_figB l κ O1 a v rd no cv nd g cw md tp L (u2) 0 99 hB.1 hB.2.1 htp ht k2 (by rw [← e3]; exact k3))) D ac A) (cwV 2 hC.2.2.2.2 (lw_V q702 q704 qs8 q79 q705) rfl rfl rfl (by decide +kernel) ⟨(Nat.le_of_ble_eq_true rfl), (Nat.le_of_ble_eq_true rfl)⟩) ⟨oPre.blind, OS.recv hK hM.1 (hM.at 0 rfl) rfl, fun U hU hW => ⟨rfl, OS.pre hK hM.1 hU hW⟩⟩ rfl rfl hl.1 rfl (lv_room (Nat.le_of_ble_eq_true rfl)) dX6_all_71 ⟨(Nat.le_of_ble_eq_true rfl), (Nat.le_of_ble_eq_true rfl)⟩) (fun x_ O1 hp => ?_)
      have hz := hB.thr hp
      rw [← e3] at hz
      rw [show rdT tp L ru f0 = u3 from rdT_3 (f := f0) d3.symm (by rw [e3]; exact numV_p k2 (by rw [← e3]; exact k3))]
      exact hz
  ·
    skip
    refine W.widen (k := 614) (n := 102586) (Nat.le_of_ble_eq_true rfl) (Nat.le_of_ble_eq_true rfl) ?_
    refine p_pass hem hlocks hM (runVT hC ((oT.at hB.e (cl_figB l κ O1 a v rd no cv nd g cw md tp L (u1) 0 100 hB.1 hB.2.1 htp ht k1 (by rw [← e2]; exact k2))) D ac A) (cwV 2 hC.2.2.2.2 (lw_V q702 q704 qs8 q79 q705) rfl rfl rfl (by decide +kernel) ⟨(Nat.le_of_ble_eq_true rfl), (Nat.le_of_ble_eq_true rfl)⟩) ⟨oPre.blind, OS.recv hK hM.1 (hM.at 0 rfl) rfl, fun U hU hW => ⟨rfl, OS.pre hK hM.1 hU hW⟩⟩ rfl rfl hl.1 rfl (lv_room (Nat.le_of_ble_eq_true rfl)) dX6_all_57 ⟨(Nat.le_of_ble_eq_true rfl), (Nat.le_of_ble_eq_true rfl)⟩) (fun x_ O1 hp => ?_)
    have hz := hB.thr hp
    rw [← e2] at hz
    rw [show rdT tp L ru f0 = u2 from rdT_2 (f := f0) d2.symm (by rw [e2]; exact numV_p k1 (by rw [← e2]; exact k2))]
    exact hz
set_option maxHeartbeats 400000 in
set_option maxRecDepth 100000 in
theorem cl_allT (l : Launch) (κ : Nat → Nat) (O : gO) (a no md la : Nat) (cv : Nat → Int32) (nd : Nat → Nat) (g : Nat → Nat → Option Nat) (cw : Nat → Nat → Int32) (tp : Nat → Int32) (L : Nat) (ru f0 vI : Nat → Int32) (rI dd : Nat → Nat) (kd : Nat → Nat) (mv : Nat → Nat → Int32) (hO : O a = some (rrU vI rI)) (hN : O no = some (nsU cv nd g cw)) (hD : O md = some (rdU (fun _ => 0) dd (fun _ _ => 0))) (h8 : dd 8 = la) (hm : mvs κ O la 0 kd mv) (h0 : rI 0 = nd 1) (h7 : rI 7 = md) (h1 : vI 1 = nI L) (h2 : vI 2 = 0) (hL : L ≤ 400) (hr10 : ru 10 = nI L) (htp : ∀ j, j < L → cw 1 j &&& 255 = tp j) (ht : tpOk tp L) (hbad : ¬ rdT tp L ru f0 17 = 0) : oT l κ yX6_all cX6_all 2 none ({ frames := 9, cells := 615, slots := 102594, locals := 220 }) [.ref a] O (fun z O1 => O1 z = some (ftU (rdT tp L ru f0 17) (rdT tp L ru f0 18)) ∧ kpL O O1 [a, md, la]) := by
  intro D ac A
  refine o_bodyT (own := RX6) rfl (by decide) (Nat.le_of_ble_eq_true rfl) ?_
  intro p e s m args below meth c ls hC hem hlocks hK hM hl
  have hl : lv_has ls 2 [(0, .ref a)] := hl
  have hM := PS.of hM [(a, rrU vI rI), (no, nsU cv nd g cw), (md, rdU (fun _ => 0) dd (fun _ _ => 0))] ⟨hO, hN, hD, trivial⟩ (by simp only [oad, List.map, List.nodup_cons, List.mem_cons, List.mem_singleton, List.not_mem_nil, not_or, or_false, not_false_eq_true, List.nodup_nil, and_true]; exact ⟨⟨o_ne hO hN (by decide), o_ne hO hD (by decide)⟩, o_ne hN hD (by decide)⟩)
  obtain ⟨uA, dA⟩ : ∃ x, x = rdA tp L ru := ⟨_, rfl⟩
  obtain ⟨uB, dB⟩ : ∃ x, x = rdB tp L ru := ⟨_, rfl⟩
  obtain ⟨u0, d0⟩ : ∃ x, x = rd0 tp L ru := ⟨_, rfl⟩
  obtain ⟨u1, d1⟩ : ∃ x, x = rd1 tp L ru := ⟨_, rfl⟩
  obtain ⟨u2, d2⟩ : ∃ x, x = rd2 tp L ru := ⟨_, rfl⟩
  obtain ⟨u3, d3⟩ : ∃ x, x = rd3 tp L ru := ⟨_, rfl⟩
  obtain ⟨uE, dE⟩ : ∃ x, x = rdE tp L ru := ⟨_, rfl⟩
  have e0 : u0 = numV tp L uB 10 200 := by rw [d0, dB]; rfl
  have e1 : u1 = numV tp L u0 0 20 := by rw [d1, d0]; rfl
  have e2 : u2 = numV tp L u1 0 100 := by rw [d2, d1]; rfl
  have e3 : u3 = numV tp L u2 0 99 := by rw [d3, d2]; rfl
  have eE : uE = endV tp L u3 := by rw [dE, d3]; rfl
  obtain ⟨x0, x0e⟩ : ∃ x, x = numR tp uB := ⟨_, rfl⟩
  obtain ⟨x1, x1e⟩ : ∃ x, x = numR tp u0 := ⟨_, rfl⟩
  obtain ⟨x2, x2e⟩ : ∃ x, x = numR tp u1 := ⟨_, rfl⟩
  obtain ⟨x3, x3e⟩ : ∃ x, x = numR tp u2 := ⟨_, rfl⟩
  refine lv_aload_n hC.1 hC.2.1 dX6_all_0 rfl (lv_at hl 0 rfl) ?_
  refine o_cV hC hK hM.1 (hM.at 0 rfl) rfl (oM.at (show oups O [(a, rrU vI rI), (no, nsU cv nd g cw), (md, rdU (fun _ => 0) dd (fun _ _ => 0))] = O from by rw [oups, oups, oups, oups, oup_same hD, oup_same hN, oup_same hO]) (cl_next l κ O a vI rI no cv nd g cw tp L 0 hO hN h0 h1 hL h2 (by omega) htp ht)) (cwV 0 hC.2.2.2.2 (lw_V q468 q470 qs4 q79 q471) rfl rfl rfl (by decide +kernel) ⟨(Nat.le_of_ble_eq_true rfl), (Nat.le_of_ble_eq_true rfl)⟩) rfl hl.1 rfl (lv_room (Nat.le_of_ble_eq_true rfl)) dX6_all_1 ⟨(Nat.le_of_ble_eq_true rfl), (Nat.le_of_ble_eq_true rfl)⟩ (fun rv O1 H locs hp hM1 => ?_)
  obtain ⟨rfl, hnx⟩ := hp
  obtain ⟨v, rd, hR⟩ := rdA_RT h0 h7 h1 hr10 hL hnx
  rw [← dA] at hR
  have hB := PB.first hO hN hD h8 hm hnx.kp hR
  have hM := hB.ps hM1
  refine lv_aload_n hC.1 hC.2.1 dX6_all_4 rfl (lv_at hl 0 rfl) ?_
  refine lv_aload_n hC.1 hC.2.1 dX6_all_5 rfl (lv_at hl 0 rfl) ?_
  refine va_ldcS hC.1 hC.2.1 hC.2.2.2.1 hK.2.2.2.2.2.2.2.2.1 dX6_all_6 ?_
  by_cases hlaw : isW tp uA 1
  ·
    skip
    refine p_cVe (L' := [_, _, _]) hC hK hM (hM.at 0 rfl) rfl (oM.at hB.e (cl_isWord l κ O1 a v rd (nd 1) md tp L (uA) (1) hB.1 (by omega))) (cwV 1 hC.2.2.2.2 (lw_V q663 q665 qs6 q79 q666) rfl rfl rfl (by decide +kernel) ⟨(Nat.le_of_ble_eq_true rfl), (Nat.le_of_ble_eq_true rfl)⟩) rfl hl.1 rfl (lv_room (Nat.le_of_ble_eq_true rfl)) dX6_all_8 ⟨(Nat.le_of_ble_eq_true rfl), (Nat.le_of_ble_eq_true rfl)⟩ hB.e.symm hM.2 (fun H locs hM => ?_)
    have hsb := rdB_so dA dB hB.1.2.2.2.2.1 hB.1.2.2.2.2.2.2 hlaw
    have kB := hsb.2
    rw [bI_t hlaw]
    refine lv_iconst (v := 1) hC.1 hC.2.1 dX6_all_11 (by decide) ?_
    refine p_cVv (L' := [_, _, _]) hC hK hM (hM.at 0 rfl) rfl (oM.at hB.e (cl_must l κ O1 a v rd 1 1 hB.1.1 (by decide))) (cwV 2 hC.2.2.2.2 (lw_V q675 q677 qs7 q79 q678) rfl rfl rfl (by decide +kernel) ⟨(Nat.le_of_ble_eq_true rfl), (Nat.le_of_ble_eq_true rfl)⟩) rfl hl.1 rfl (lv_room (Nat.le_of_ble_eq_true rfl)) dX6_all_12 ⟨(Nat.le_of_ble_eq_true rfl), (Nat.le_of_ble_eq_true rfl)⟩ hB.e.symm hM.2 (fun H locs hM => ?_)
    refine lv_aload_n hC.1 hC.2.1 dX6_all_15 rfl (lv_at hl 0 rfl) ?_
    refine o_cV hC hK hM.1 (hM.at 0 rfl) rfl (oM.at hB.e (cl_next l κ O1 a v rd no cv nd g cw tp L (iN (uA 13)) hB.1.1 hB.2.1 hB.1.2.1 hB.1.2.2.2.1 hB.1.at.2.2.1 hB.1.at.1 hB.1.at.2.1 htp ht)) (cwV 0 hC.2.2.2.2 (lw_V q468 q470 qs4 q79 q471) rfl rfl rfl (by decide +kernel) ⟨(Nat.le_of_ble_eq_true rfl), (Nat.le_of_ble_eq_true rfl)⟩) rfl hl.1 rfl (lv_room (Nat.le_of_ble_eq_true rfl)) dX6_all_16 ⟨(Nat.le_of_ble_eq_true rfl), (Nat.le_of_ble_eq_true rfl)⟩ (fun rv O1 H locs hp hM1 => ?_)
    obtain ⟨rfl, hnx⟩ := hp
    obtain ⟨v, rd, hR⟩ := hB.1.next hnx
    have hR : RT O1 a (nd 1) md tp L (uB) v rd := by rw [hsb.1]; exact hR
    have hB := hB.call hnx.kp hR
    have hM := hB.ps hM1
    refine lv_aload_n hC.1 hC.2.1 dX6_all_19 rfl (lv_at hl 0 rfl) ?_
    refine p_get hC hK hM 0 rfl in_X6 rfl 7 (by decide) q445 (fun x h => h) rfl dX6_all_20 ?_
    rw [hB.1.2.2.1]
    refine lv_aload_n hC.1 hC.2.1 dX6_all_23 rfl (lv_at hl 0 rfl) ?_
    refine lv_bipush (v := 10) hC.1 hC.2.1 dX6_all_24 (by decide) ?_
    refine lv_sipush (v := 200) hC.1 hC.2.1 dX6_all_26 (by decide) ?_
    by_cases k0 : u0 17 = 0
    ·
      skip
      refine o_cV hC hK hM.1 (hM.at 0 rfl) rfl (oM.at hB.e (cl_figK l κ O1 a v rd no cv nd g cw md tp L (uB) 10 200 hB.1 hB.2.1 htp ht kB (by rw [← e0]; exact k0))) (cwV 2 hC.2.2.2.2 (lw_V q702 q704 qs8 q79 q705) rfl rfl rfl (by decide +kernel) ⟨(Nat.le_of_ble_eq_true rfl), (Nat.le_of_ble_eq_true rfl)⟩) rfl hl.1 rfl (lv_room (Nat.le_of_ble_eq_true rfl)) dX6_all_29 ⟨(Nat.le_of_ble_eq_true rfl), (Nat.le_of_ble_eq_true rfl)⟩ (fun rv O1 H locs hp hM1 => ?_)
      obtain ⟨rfl, hkp, v, rd, hR⟩ := hp
      rw [← e0] at hR
      have hB := hB.call hkp hR
      have hM := hB.ps hM1
      rw [← x0e]
      refine p_put (L' := [_, _, _]) hC hK hM 2 rfl in_X1 tyX1 tyX1_ok nmX1 rfl 0 (by decide) q143 (fun x h => h) rfl rfl rfl (Nat.le_of_ble_eq_true rfl) rfl rfl rfl dX6_all_32 (fun H locs hM => ?_)
      obtain ⟨O1, hM, hB⟩ := hB.re hM
      refine lv_aload_n hC.1 hC.2.1 dX6_all_35 rfl (lv_at hl 0 rfl) ?_
      refine p_get hC hK hM 0 rfl in_X6 rfl 7 (by decide) q445 (fun x h => h) rfl dX6_all_36 ?_
      rw [hB.1.2.2.1]
      refine lv_aload_n hC.1 hC.2.1 dX6_all_39 rfl (lv_at hl 0 rfl) ?_
      refine lv_iconst (v := 0) hC.1 hC.2.1 dX6_all_40 (by decide) ?_
      refine lv_bipush (v := 20) hC.1 hC.2.1 dX6_all_41 (by decide) ?_
      by_cases k1 : u1 17 = 0
      ·
        skip
        refine o_cV hC hK hM.1 (hM.at 0 rfl) rfl (oM.at hB.e (cl_figK l κ O1 a v rd no cv nd g cw md tp L (u0) 0 20 hB.1 hB.2.1 htp ht k0 (by rw [← e1]; exact k1))) (cwV 2 hC.2.2.2.2 (lw_V q702 q704 qs8 q79 q705) rfl rfl rfl (by decide +kernel) ⟨(Nat.le_of_ble_eq_true rfl), (Nat.le_of_ble_eq_true rfl)⟩) rfl hl.1 rfl (lv_room (Nat.le_of_ble_eq_true rfl)) dX6_all_43 ⟨(Nat.le_of_ble_eq_true rfl), (Nat.le_of_ble_eq_true rfl)⟩ (fun rv O1 H locs hp hM1 => ?_)
        obtain ⟨rfl, hkp, v, rd, hR⟩ := hp
        rw [← e1] at hR
        have hB := hB.call hkp hR
        have hM := hB.ps hM1
        rw [← x1e]
        refine p_put (L' := [_, _, _]) hC hK hM 2 rfl in_X1 tyX1 tyX1_ok nmX1 rfl 1 (by decide) q146 (fun x h => h) rfl rfl rfl (Nat.le_of_ble_eq_true rfl) rfl rfl rfl dX6_all_46 (fun H locs hM => ?_)
        obtain ⟨O1, hM, hB⟩ := hB.re hM
        refine W.widen (k := 36) (n := 6120) (Nat.le_of_ble_eq_true rfl) (Nat.le_of_ble_eq_true rfl) ?_
        exact cl_allT_a l κ O a no md la cv nd g cw tp L ru f0 vI rI dd kd mv hO hN hD h8 hm h0 h7 h1 h2 hL hr10 htp ht hbad O1 uB u0 u1 u2 u3 uE v rd dB d0 d1 d2 d3 dE x0 x1 x2 x3 x0e x1e x2e x3e e2 e3 eE k1 hB hC hem hlocks hK (hM) (lv_sub hl [0] rfl)
      ·
        skip
        refine W.widen (k := 614) (n := 102586) (Nat.le_of_ble_eq_true rfl) (Nat.le_of_ble_eq_true rfl) ?_
        refine p_pass hem hlocks hM (runVT hC ((oT.at hB.e (cl_figB l κ O1 a v rd no cv nd g cw md tp L (u0) 0 20 hB.1 hB.2.1 htp ht k0 (by rw [← e1]; exact k1))) D ac A) (cwV 2 hC.2.2.2.2 (lw_V q702 q704 qs8 q79 q705) rfl rfl rfl (by decide +kernel) ⟨(Nat.le_of_ble_eq_true rfl), (Nat.le_of_ble_eq_true rfl)⟩) ⟨oPre.blind, OS.recv hK hM.1 (hM.at 0 rfl) rfl, fun U hU hW => ⟨rfl, OS.pre hK hM.1 hU hW⟩⟩ rfl rfl hl.1 rfl (lv_room (Nat.le_of_ble_eq_true rfl)) dX6_all_43 ⟨(Nat.le_of_ble_eq_true rfl), (Nat.le_of_ble_eq_true rfl)⟩) (fun x_ O1 hp => ?_)
        have hz := hB.thr hp
        rw [← e1] at hz
        rw [show rdT tp L ru f0 = u1 from rdT_1 (f := f0) d1.symm (by rw [e1]; exact numV_p k0 (by rw [← e1]; exact k1))]
        exact hz
    ·
      skip
      refine W.widen (k := 614) (n := 102586) (Nat.le_of_ble_eq_true rfl) (Nat.le_of_ble_eq_true rfl) ?_
      refine p_pass hem hlocks hM (runVT hC ((oT.at hB.e (cl_figB l κ O1 a v rd no cv nd g cw md tp L (uB) 10 200 hB.1 hB.2.1 htp ht kB (by rw [← e0]; exact k0))) D ac A) (cwV 2 hC.2.2.2.2 (lw_V q702 q704 qs8 q79 q705) rfl rfl rfl (by decide +kernel) ⟨(Nat.le_of_ble_eq_true rfl), (Nat.le_of_ble_eq_true rfl)⟩) ⟨oPre.blind, OS.recv hK hM.1 (hM.at 0 rfl) rfl, fun U hU hW => ⟨rfl, OS.pre hK hM.1 hU hW⟩⟩ rfl rfl hl.1 rfl (lv_room (Nat.le_of_ble_eq_true rfl)) dX6_all_29 ⟨(Nat.le_of_ble_eq_true rfl), (Nat.le_of_ble_eq_true rfl)⟩) (fun x_ O1 hp => ?_)
      have hz := hB.thr hp
      rw [← e0] at hz
      rw [show rdT tp L ru f0 = u0 from rdT_0 (f := f0) d0.symm (by rw [e0]; exact numV_p kB (by rw [← e0]; exact k0))]
      exact hz
  ·
    skip
    refine p_cVe (L' := [_, _, _]) hC hK hM (hM.at 0 rfl) rfl (oM.at hB.e (cl_isWord l κ O1 a v rd (nd 1) md tp L (uA) (1) hB.1 (by omega))) (cwV 1 hC.2.2.2.2 (lw_V q663 q665 qs6 q79 q666) rfl rfl rfl (by decide +kernel) ⟨(Nat.le_of_ble_eq_true rfl), (Nat.le_of_ble_eq_true rfl)⟩) rfl hl.1 rfl (lv_room (Nat.le_of_ble_eq_true rfl)) dX6_all_8 ⟨(Nat.le_of_ble_eq_true rfl), (Nat.le_of_ble_eq_true rfl)⟩ hB.e.symm hM.2 (fun H locs hM => ?_)
    rw [bI_f hlaw]
    refine lv_iconst (v := 1) hC.1 hC.2.1 dX6_all_11 (by decide) ?_
    refine W.widen (k := 614) (n := 102586) (Nat.le_of_ble_eq_true rfl) (Nat.le_of_ble_eq_true rfl) ?_
    refine p_pass hem hlocks hM (runVT hC ((oT.at hB.e (cl_mustT l κ O1 a v rd 1 hB.1.1)) D ac A) (cwV 2 hC.2.2.2.2 (lw_V q675 q677 qs7 q79 q678) rfl rfl rfl (by decide +kernel) ⟨(Nat.le_of_ble_eq_true rfl), (Nat.le_of_ble_eq_true rfl)⟩) ⟨oPre.blind, OS.recv hK hM.1 (hM.at 0 rfl) rfl, fun U hU hW => ⟨rfl, OS.pre hK hM.1 hU hW⟩⟩ rfl rfl hl.1 rfl (lv_room (Nat.le_of_ble_eq_true rfl)) dX6_all_12 ⟨(Nat.le_of_ble_eq_true rfl), (Nat.le_of_ble_eq_true rfl)⟩) (fun x_ O1 hp => ?_)
    have hrn := rdB_no dA dB hB.1.2.2.2.2.1 hB.1.2.2.2.2.2.2 hlaw
    have hz := hB.thr hp
    rw [hB.1.at.2.2.2] at hz
    rw [rdT_B (f := f0) dB.symm hrn.2.2, hrn.1, hrn.2.1]
    exact hz
