set_option maxHeartbeats 400000 in
set_option maxRecDepth 100000 in
theorem cn_rest (l : Launch) (κ : Nat → Nat) (O : gO) (no : Nat) (cv : Nat → Int32) (ad : Nat → Nat) (g : Nat → Nat → Option Nat) (cw : Nat → Nat → Int32) (rx : Nat → Int32) (rd : Nat → Nat) (rw : Nat → Nat → Int32) (tx : Nat → Int32) (td : Nat → Nat) (tw : Nat → Nat → Int32) (hN : O no = some (nsU cv ad g cw)) (hR : O (ad 4) = some (rdU rx rd rw)) (hT : O (ad 5) = some (rdU tx td tw)) (hRT : ad 4 ≠ ad 5) (mm : Nat) (kd : Nat → Nat) (mv : Nat → Nat → Int32) (hmvs : mvs κ O (rd 8) mm kd mv) (n : Nat) (en : rx 4 = nI n) (hn : n ≤ 6) (hmo : mvOk n mm mv) (ro : Nat → Int32) (hro : rdX ro rx rw mm kd mv) (nt : Nat) (ent : rx 9 = nI nt) (hnt : nt < 2 ^ 29) : oM l κ yX0_rest cX0_rest 4 (some .int) ({ frames := 4, cells := 0, slots := 0, locals := 94 }) [.ref no] O (fun rv O1 => rv = some (.int (if ¬ 0 < rx 0 then -1000002 else restF ro n mm nt 62 0 0 (rw 6))) ∧ ∃ td1 tw1 tx1, O1 = oup O (ad 5) (rdU tx1 td1 tw1)) := by
  have hmvs0 := hmvs
  obtain ⟨mc, ea, lf, ar, hls, hm5, hl0, hlr, hmv⟩ := hmvs
  intro D ac A
  refine o_body (own := RX0) rfl (plainFor_of_name (by decide)) (Nat.le_of_ble_eq_true rfl) ?_
  intro p e s m args below meth c ls hC hr hlocks hK hM hl hnamed hmeth
  have hl : lv_has ls 4 [(0, .ref no)] := hl
  have hM := PS.of hM [(no, nsU cv ad g cw), (ad 4, rdU rx rd rw), (ad 5, rdU tx td tw), (rd 8, lsU mc ea (nI mm) ar)] ⟨hN, hR, hT, hls, trivial⟩ (by simp only [oad, List.map, List.nodup_cons, List.mem_cons, List.mem_singleton, List.not_mem_nil, not_or, or_false, not_false_eq_true, List.nodup_nil, and_true]; exact ⟨⟨o_ne hN hR (by decide), o_ne hN hT (by decide), o_ne hN hls (by decide)⟩, ⟨hRT, o_ne hR hls (by decide)⟩, o_ne hT hls (by decide)⟩)
  have hkp : ∀ (L : List (Nat × gU)) (U0 U1 U2 : gU), L = [(no, U0), (ad 4, U1), (ad 5, U2), (rd 8, lsU mc ea (nI mm) ar)] → mvs κ (oups O L) (rd 8) mm kd mv := fun L U0 U1 U2 hL => by subst hL; refine hmvs0.kp ?_; rw [oups, oups, oups, oups, oups, oup_same hls]; exact kpM3 hN hR hT (by decide) (by decide) (by decide)
  refine lv_aload_n hC.1 hC.2.1 dX0_rest_0 rfl (lv_at hl 0 rfl) ?_
  refine p_cVe (L' := [_, _, _, _]) hC hK hM (hM.at 0 rfl) rfl (cn_isRoad l κ _ no cv ad g cw rx rd rw (hM.at 0 rfl) (hM.at 1 rfl)) (cwV 0 hC.2.2.2.2 (lw_V q881 q883 qs15 q63 q884) rfl rfl rfl (by decide +kernel) ⟨(Nat.le_of_ble_eq_true rfl), (Nat.le_of_ble_eq_true rfl)⟩) rfl hl.1 rfl (lv_room (Nat.le_of_ble_eq_true rfl)) dX0_rest_1 ⟨(Nat.le_of_ble_eq_true rfl), (Nat.le_of_ble_eq_true rfl)⟩ rfl hM.2 (fun H locs hM => ?_)
  refine lv_if_ne (tgt := 10) hC.1 hC.2.1 dX0_rest_4 (by decide) (fun c1 => ?_) (fun c1 => ?_)
  ·
    skip
    rw [bI_n0] at c1
    have cr := c1
    refine lv_aload_n hC.1 hC.2.1 dX0_rest_10 rfl (lv_at hl 0 rfl) ?_
    refine p_get hC hK hM 0 rfl in_X0 rfl 5 (by decide) q224 (fun x h => h) rfl dX0_rest_11 ?_
    refine lv_aload_n hC.1 hC.2.1 dX0_rest_14 rfl (lv_at hl 0 rfl) ?_
    refine p_get hC hK hM 0 rfl in_X0 rfl 4 (by decide) q223 (fun x h => h) rfl dX0_rest_15 ?_
    refine p_cVe (L' := [_, _, _, _]) hC hK hM (hM.at 2 rfl) rfl (cr_become l κ _ (ad 5) tx td tw (ad 4) rx rd rw (hM.at 2 rfl) (hM.at 1 rfl) (fun e => hRT e.symm)) (cwV 1 hC.2.2.2.2 (lw_V q869 q870 q871 q64 q872) rfl rfl rfl (by decide +kernel) ⟨(Nat.le_of_ble_eq_true rfl), (Nat.le_of_ble_eq_true rfl)⟩) rfl hl.1 rfl (lv_room (Nat.le_of_ble_eq_true rfl)) dX0_rest_18 ⟨(Nat.le_of_ble_eq_true rfl), (Nat.le_of_ble_eq_true rfl)⟩ (oups_set hM.2 (i := 2) rfl) (oad_nd hM.2 (i := 2) rfl rfl) (fun H locs hM => ?_)
    refine lv_pop hC.1 hC.2.1 dX0_rest_21 rfl ?_
    refine lv_iconst (v := 0) hC.1 hC.2.1 dX0_rest_22 (by decide) ?_
    refine lv_istore_n (lv' := [(1, _), (0, _)]) hC.1 hC.2.1 dX0_rest_23 rfl hl (by decide) rfl (fun ls hl => ?_)
    refine lv_iconst (v := 0) hC.1 hC.2.1 dX0_rest_24 (by decide) ?_
    refine lv_istore_n (lv' := [(2, _), (1, _), (0, _)]) hC.1 hC.2.1 dX0_rest_25 rfl hl (by decide) rfl (fun ls hl => ?_)
    refine w_ind (α := Nat × Int32 × (Nat → Int32) × (Nat → Int32)) 26 (fun (x_ : Nat × Int32 × (Nat → Int32) × (Nat → Int32)) => (fun (k : Nat) (st : Int32) (f : (Nat → Int32)) (W : (Nat → Int32)) => 62 - k) x_.1 x_.2.1 x_.2.2.1 x_.2.2.2) (fun (x_ : Nat × Int32 × (Nat → Int32) × (Nat → Int32)) (H : Heap) (locs : List Loc) (ls : Array Slot) => (fun (k : Nat) (st : Int32) (f : (Nat → Int32)) (W : (Nat → Int32)) => (k ≤ 62 ∧ (st = 0 ∨ st = 1) ∧ restF ro n mm nt (62 - k) k st f = restF ro n mm nt 62 0 0 (rw 6)) ∧ PS D ac A s.heap O [(no, nsU cv ad g cw), (ad 4, rdU rx rd rw), (ad 5, rdU (upd rx 9 (nI (nt + k))) (updN td 8 (rd 8)) (wput (wput (becW tw rw) 12 W) 6 f)), (rd 8, lsU mc ea (nI mm) ar)] H locs ∧ lv_has ls 4 [(0, .ref no), (1, .int st), (2, .int (nI k))]) x_.1 x_.2.1 x_.2.2.1 x_.2.2.2) ?_ ((0, 0, rw 6, tw 12)) ⟨⟨by omega, Or.inl rfl, rfl⟩, by rw [Nat.add_zero, ← ent, upd_self, show wput (wput (becW tw rw) 12 (tw 12)) 6 (rw 6) = becW tw rw from by funext i; unfold becW wput; by_cases h6 : i = 6 <;> by_cases h12 : i = 12 <;> simp [h6, h12]]; exact hM, lv_sub hl [2, 1, 0] rfl⟩
    intro x_ H locs ls hI ih26
    obtain ⟨k, st, f, W⟩ := x_
    dsimp only at hI
    obtain ⟨hI26, hM, hl⟩ := hI
    refine lv_iload_n hC.1 hC.2.1 dX0_rest_26 rfl (lv_at hl 2 rfl) ?_
    refine lv_bipush (v := 61) hC.1 hC.2.1 dX0_rest_27 (by decide) ?_
    refine lv_icmp_gt (tgt := 75) hC.1 hC.2.1 dX0_rest_29 (by decide) (fun c2 => ?_) (fun c2 => ?_)
    ·
      have nc2 := Int32.not_le.mpr c2
      have hx29 := nlt_t (a := 61) (b := k) c2
      obtain rfl : k = 62 := by omega
      refine lv_ldc hC.1 hC.2.1 hC.2.2.2.1 (hC.2.2.2.2 _ q1044) dX0_rest_75 ?_
      skip
      refine p_iret hC hr hlocks hM dX0_rest_77 ?_
      refine ⟨?_, updN td 8 (rd 8), wput (wput (becW tw rw) 12 W) 6 f, upd rx 9 (nI (nt + 62)), by rw [oups, oups, oups, oups, oups, oup_same hls, oup_comm (a := ad 5) (b := ad 4) (fun e => hRT e.symm), oup_same hR, oup_comm (a := ad 5) (b := no) (fun e => o_ne hN hT (by decide) e.symm), oup_same hN]⟩
      rw [if_neg (fun h => h cr), ← hI26.2.2]
      rfl
    ·
      have nc2 := Int32.not_lt.mp c2
      have hx29 := nlt_f (a := 61) (b := k) c2
      refine lv_aload_n hC.1 hC.2.1 dX0_rest_32 rfl (lv_at hl 0 rfl) ?_
      refine p_get hC hK hM 0 rfl in_X0 rfl 5 (by decide) q224 (fun x h => h) rfl dX0_rest_33 ?_
      refine lv_aload_n hC.1 hC.2.1 dX0_rest_36 rfl (lv_at hl 0 rfl) ?_
      refine p_get hC hK hM 0 rfl in_X0 rfl 5 (by decide) q224 (fun x h => h) rfl dX0_rest_37 ?_
      refine p_cVe (L' := [_, _, _, _]) hC hK hM (hM.at 2 rfl) rfl (cr_all l κ _ (ad 5) (upd rx 9 (nI (nt + k))) (updN td 8 (rd 8)) (wput (wput (becW tw rw) 12 W) 6 f) mc ea mm ar (hM.at 2 rfl) (hM.at 3 rfl)) (cwV 0 hC.2.2.2.2 (lw_V q890 q891 q892 q64 q893) rfl rfl rfl (by decide +kernel) ⟨(Nat.le_of_ble_eq_true rfl), (Nat.le_of_ble_eq_true rfl)⟩) rfl hl.1 rfl (lv_room (Nat.le_of_ble_eq_true rfl)) dX0_rest_40 ⟨(Nat.le_of_ble_eq_true rfl), (Nat.le_of_ble_eq_true rfl)⟩ rfl hM.2 (fun H locs hM => ?_)
      refine p_cVe (L' := [_, _, _, _]) hC hK hM (hM.at 2 rfl) rfl (cr_pass l κ _ (ad 5) (upd rx 9 (nI (nt + k))) (updN td 8 (rd 8)) (wput (wput (becW tw rw) 12 W) 6 f) ((1 : Int32) <<< (nI mm &&& 31) - 1) (hM.at 2 rfl) n en hn mm kd mv (hkp _ _ _ _ rfl) hmo ro hro (nt + k) rfl (by omega)) (cwV 1 hC.2.2.2.2 (lw_V q896 q897 q898 q64 q899) rfl rfl rfl (by decide +kernel) ⟨(Nat.le_of_ble_eq_true rfl), (Nat.le_of_ble_eq_true rfl)⟩) rfl hl.1 rfl (lv_room (Nat.le_of_ble_eq_true rfl)) dX0_rest_43 ⟨(Nat.le_of_ble_eq_true rfl), (Nat.le_of_ble_eq_true rfl)⟩ (oups_set hM.2 (i := 2) rfl) (oad_nd hM.2 (i := 2) rfl rfl) (fun H locs hM => ?_)
      rw [show (wput (wput (becW tw rw) 12 W) 6 f) 6 = f from rfl, goF_all hm5 mm (Nat.le_refl mm)]
      rw [show (wput (wput (becW tw rw) 12 W) 6 f) 6 = f from rfl, goF_all hm5 mm (Nat.le_refl mm), wpp, upd_upd] at hM
      refine w_tern1 (cond := eqL (goF ro n (nt + k) 31 f mm) f n = true) (a := 1) (b := 0) 54 ?_ (fun jt46 jf46 => ?_)
      ·
        skip
        refine lv_istore_n (lv' := [(3, _), (0, _), (1, _), (2, _)]) hC.1 hC.2.1 dX0_rest_54 rfl hl (by decide) rfl (fun ls hl => ?_)
        refine lv_iload_n hC.1 hC.2.1 dX0_rest_55 rfl (lv_at hl 2 rfl) ?_
        refine lv_if_eq (tgt := 67) hC.1 hC.2.1 dX0_rest_56 (by decide) (fun c3 => ?_) (fun c3 => ?_)
        ·
          skip
          have cs : ¬ st = 1 := by intro h; rw [h] at c3; exact absurd c3 (by decide)
          refine lv_iload_n hC.1 hC.2.1 dX0_rest_67 rfl (lv_at hl 0 rfl) ?_
          refine lv_istore_n (lv' := [(1, _), (3, _), (0, _), (2, _)]) hC.1 hC.2.1 dX0_rest_68 rfl hl (by decide) rfl (fun ls hl => ?_)
          refine lv_iinc (v := nI (k + 1)) (lv' := [(2, _), (1, _), (3, _), (0, _)]) hC.1 hC.2.1 dX0_rest_69 hl (k := 3) rfl (nI_1 _) (by decide) rfl (fun ls hl => ?_)
          refine lv_goto (tgt := 26) hC.1 hC.2.1 dX0_rest_72 (by decide) ?_
          exact ih26 ((k + 1, (if eqL (goF ro n (nt + k) 31 f mm) f n = true then 1 else 0), (goF ro n (nt + k) 31 f mm), va_cpy f W 0 0 n)) _ _ _ (by show 62 - (k + 1) < 62 - k; omega) ⟨⟨by omega, by split <;> simp, (restF_A (by omega) (hI26.2.1.resolve_right cs)).trans hI26.2.2⟩, hM, lv_sub hl [3, 1, 0] rfl⟩
        ·
          skip
          have cs : st = 1 := hI26.2.1.resolve_left (fun h => c3 h)
          refine lv_iload_n hC.1 hC.2.1 dX0_rest_59 rfl (lv_at hl 0 rfl) ?_
          refine lv_if_eq (tgt := 67) hC.1 hC.2.1 dX0_rest_60 (by decide) (fun c4 => ?_) (fun c4 => ?_)
          ·
            skip
            have cq2 : ¬ eqL (goF ro n (nt + k) 31 f mm) f n = true := fun h => by rw [if_pos h] at c4; exact absurd c4 (by decide)
            refine lv_iload_n hC.1 hC.2.1 dX0_rest_67 rfl (lv_at hl 0 rfl) ?_
            refine lv_istore_n (lv' := [(1, _), (3, _), (0, _), (2, _)]) hC.1 hC.2.1 dX0_rest_68 rfl hl (by decide) rfl (fun ls hl => ?_)
            refine lv_iinc (v := nI (k + 1)) (lv' := [(2, _), (1, _), (3, _), (0, _)]) hC.1 hC.2.1 dX0_rest_69 hl (k := 3) rfl (nI_1 _) (by decide) rfl (fun ls hl => ?_)
            refine lv_goto (tgt := 26) hC.1 hC.2.1 dX0_rest_72 (by decide) ?_
            exact ih26 ((k + 1, (if eqL (goF ro n (nt + k) 31 f mm) f n = true then 1 else 0), (goF ro n (nt + k) 31 f mm), va_cpy f W 0 0 n)) _ _ _ (by show 62 - (k + 1) < 62 - k; omega) ⟨⟨by omega, by split <;> simp, (restF_B (by omega) cq2).trans hI26.2.2⟩, hM, lv_sub hl [3, 1, 0] rfl⟩
          ·
            skip
            have cq2 : eqL (goF ro n (nt + k) 31 f mm) f n = true := Decidable.byContradiction (fun h => c4 (by rw [if_neg h]))
            refine lv_iload_n hC.1 hC.2.1 dX0_rest_63 rfl (lv_at hl 3 rfl) ?_
            refine lv_iconst (v := 1) hC.1 hC.2.1 dX0_rest_64 (by decide) ?_
            refine lv_isub hC.1 hC.2.1 dX0_rest_65 ?_
            skip
            refine p_iret hC hr hlocks hM dX0_rest_66 ?_
            refine ⟨?_, updN td 8 (rd 8), wput (wput (becW tw rw) 12 (va_cpy f W 0 0 n)) 6 (goF ro n (nt + k) 31 f mm), upd rx 9 (nI (nt + k + 1)), by rw [oups, oups, oups, oups, oups, oup_same hls, oup_comm (a := ad 5) (b := ad 4) (fun e => hRT e.symm), oup_same hR, oup_comm (a := ad 5) (b := no) (fun e => o_ne hN hT (by decide) e.symm), oup_same hN]; rfl⟩
            rw [if_neg (fun h => h cr), ← hI26.2.2, restF_C (by omega) cs cq2]
      ·
        skip
        refine lv_if_ne (tgt := 53) hC.1 hC.2.1 dX0_rest_46 (by decide) (fun c5 => ?_) (fun c5 => ?_)
        ·
          skip
          have cq : ¬ eqL (goF ro n (nt + k) 31 f mm) f n = true := fun h => c5 ((difL_0 n hn).mpr h)
          refine lv_iconst (v := 0) hC.1 hC.2.1 dX0_rest_53 (by decide) ?_
          first | exact jt46 (by exact cq) | exact jf46 (by exact cq)
        ·
          skip
          have cq : eqL (goF ro n (nt + k) 31 f mm) f n = true := (difL_0 n hn).mp c5
          refine lv_iconst (v := 1) hC.1 hC.2.1 dX0_rest_49 (by decide) ?_
          refine lv_goto (tgt := 54) hC.1 hC.2.1 dX0_rest_50 (by decide) ?_
          first | exact jt46 (by exact cq) | exact jf46 (by exact cq)
  ·
    skip
    rw [bI_0] at c1
    have cr := c1
    refine lv_ldc hC.1 hC.2.1 hC.2.2.2.1 (hC.2.2.2.2 _ q885) dX0_rest_7 ?_
    skip
    refine p_iret hC hr hlocks hM dX0_rest_9 ?_
    refine ⟨by rw [if_pos cr], td, tw, tx, ?_⟩
    rw [oup_same hT]
    rw [oups, oups, oups, oups, oups, oup_same hls, oup_same hT, oup_same hR, oup_same hN]

set_option maxHeartbeats 400000 in
set_option maxRecDepth 100000 in
theorem cn_who (l : Launch) (κ : Nat → Nat) (O : gO) (no : Nat) (cv : Nat → Int32) (ad : Nat → Nat) (g : Nat → Nat → Option Nat) (cw : Nat → Nat → Int32) (rx : Nat → Int32) (rd : Nat → Nat) (rw : Nat → Nat → Int32) (tx : Nat → Int32) (td : Nat → Nat) (tw : Nat → Nat → Int32) (hN : O no = some (nsU cv ad g cw)) (hR : O (ad 4) = some (rdU rx rd rw)) (hT : O (ad 5) = some (rdU tx td tw)) (hRT : ad 4 ≠ ad 5) (mm : Nat) (kd : Nat → Nat) (mv : Nat → Nat → Int32) (hmvs : mvs κ O (rd 8) mm kd mv) (n : Nat) (en : rx 4 = nI n) (hn : n ≤ 6) (hmo : mvOk n mm mv) (ro : Nat → Int32) (hro : rdX ro rx rw mm kd mv) (x y : Int32) : oM l κ yX0_who cX0_who 7 (some .int) ({ frames := 4, cells := 0, slots := 0, locals := 94 }) [.ref no, .int x, .int y] O (fun rv O1 => rv = some (.int (if ¬ 0 < rx 0 then -1000002 else if ¬ (0 ≤ x ∧ x ≤ 9) ∨ ¬ (0 ≤ y ∧ y ≤ 1) then -1000001 else if y = 0 then wcU (stC ro n mm (iN x) rw) (2 ^ mm) else wlU (stC ro n mm (iN x) rw) (2 ^ mm))) ∧ ∃ td1 tw1 tx1, O1 = oup O (ad 5) (rdU tx1 td1 tw1)) := by
  have hmvs0 := hmvs
  obtain ⟨mc, ea, lf, ar, hls, hm5, hl0, hlr, hmv⟩ := hmvs
  intro D ac A
  refine o_body (own := RX0) rfl (plainFor_of_name (by decide)) (Nat.le_of_ble_eq_true rfl) ?_
  intro p e s m args below meth c ls hC hr hlocks hK hM hl hnamed hmeth
  have hl : lv_has ls 7 [(0, .ref no), (1, .int x), (2, .int y)] := hl
  have hM := PS.of hM [(no, nsU cv ad g cw), (ad 4, rdU rx rd rw), (ad 5, rdU tx td tw), (rd 8, lsU mc ea (nI mm) ar)] ⟨hN, hR, hT, hls, trivial⟩ (by simp only [oad, List.map, List.nodup_cons, List.mem_cons, List.mem_singleton, List.not_mem_nil, not_or, or_false, not_false_eq_true, List.nodup_nil, and_true]; exact ⟨⟨o_ne hN hR (by decide), o_ne hN hT (by decide), o_ne hN hls (by decide)⟩, ⟨hRT, o_ne hR hls (by decide)⟩, o_ne hT hls (by decide)⟩)
  have hkp : ∀ (L : List (Nat × gU)) (U0 U1 U2 : gU), L = [(no, U0), (ad 4, U1), (ad 5, U2), (rd 8, lsU mc ea (nI mm) ar)] → mvs κ (oups O L) (rd 8) mm kd mv := fun L U0 U1 U2 hL => by subst hL; refine hmvs0.kp ?_; rw [oups, oups, oups, oups, oups, oup_same hls]; exact kpM3 hN hR hT (by decide) (by decide) (by decide)
  have hS := shl1 hm5
  have eAll : (1 : Int32) <<< (nI mm &&& 31) - 1 = nI (2 ^ mm - 1) := by rw [hS.1]; exact nI_subn (a := 2 ^ mm) (b := 1) hS.2.2
  refine lv_aload_n hC.1 hC.2.1 dX0_who_0 rfl (lv_at hl 0 rfl) ?_
  refine p_cVe (L' := [_, _, _, _]) hC hK hM (hM.at 0 rfl) rfl (cn_isRoad l κ _ no cv ad g cw rx rd rw (hM.at 0 rfl) (hM.at 1 rfl)) (cwV 0 hC.2.2.2.2 (lw_V q881 q883 qs15 q63 q884) rfl rfl rfl (by decide +kernel) ⟨(Nat.le_of_ble_eq_true rfl), (Nat.le_of_ble_eq_true rfl)⟩) rfl hl.1 rfl (lv_room (Nat.le_of_ble_eq_true rfl)) dX0_who_1 ⟨(Nat.le_of_ble_eq_true rfl), (Nat.le_of_ble_eq_true rfl)⟩ rfl hM.2 (fun H locs hM => ?_)
  refine lv_if_ne (tgt := 10) hC.1 hC.2.1 dX0_who_4 (by decide) (fun c1 => ?_) (fun c1 => ?_)
  ·
    skip
    rw [bI_n0] at c1
    have cr := c1
    refine lv_iload_n hC.1 hC.2.1 dX0_who_10 rfl (lv_at hl 1 rfl) ?_
    refine lv_i2l hC.1 hC.2.1 dX0_who_11 rfl ?_
    refine lv_lconst (v := 0) hC.1 hC.2.1 dX0_who_12 (by decide) ?_
    refine lv_ldc2 hC.1 hC.2.1 hC.2.2.2.1 (hC.2.2.2.2 _ q1068) dX0_who_13 ?_
    refine s_ci hC ((cc_isIn l (a := 0) (b := 9) rfl rfl rfl)) (va_cwS 3 hC.2.2.2.2 (lw_S q265 q266 q63 q267) rfl rfl rfl (by decide +kernel) ⟨(Nat.le_of_ble_eq_true rfl), (Nat.le_of_ble_eq_true rfl)⟩) rfl hl.1 rfl (lv_room (Nat.le_of_ble_eq_true rfl)) dX0_who_16 ⟨(Nat.le_of_ble_eq_true rfl), (Nat.le_of_ble_eq_true rfl)⟩ ?_
    refine lv_if_eq (tgt := 29) hC.1 hC.2.1 dX0_who_19 (by decide) (fun c2 => ?_) (fun c2 => ?_)
    ·
      skip
      rw [bI_0] at c2
      have ct := c2
      refine lv_ldc hC.1 hC.2.1 hC.2.2.2.1 (hC.2.2.2.2 _ q269) dX0_who_29 ?_
      skip
      refine p_iret hC hr hlocks hM dX0_who_31 ?_
      refine ⟨by rw [if_neg (fun h => h cr), if_pos (Or.inl ct)], td, tw, tx, ?_⟩
      rw [oup_same hT]
      rw [oups, oups, oups, oups, oups, oup_same hls, oup_same hT, oup_same hR, oup_same hN]
    ·
      skip
      rw [bI_n0] at c2
      have ct := c2
      obtain ⟨t, ht9, rfl⟩ := in_nI (N := 9) (by decide) rfl ct
      have it : iN (nI t) = t := iN_nI (by omega)
      refine lv_iload_n hC.1 hC.2.1 dX0_who_22 rfl (lv_at hl 2 rfl) ?_
      refine s_ci hC (cc_isHalf l y) (va_cwS 1 hC.2.2.2.2 (lw_S q999 q1000 q63 q1001) rfl rfl rfl (by decide +kernel) ⟨(Nat.le_of_ble_eq_true rfl), (Nat.le_of_ble_eq_true rfl)⟩) rfl hl.1 rfl (lv_room (Nat.le_of_ble_eq_true rfl)) dX0_who_23 ⟨(Nat.le_of_ble_eq_true rfl), (Nat.le_of_ble_eq_true rfl)⟩ ?_
      refine lv_if_ne (tgt := 32) hC.1 hC.2.1 dX0_who_26 (by decide) (fun c3 => ?_) (fun c3 => ?_)
      ·
        skip
        rw [bI_n0] at c3
        have ch := c3
        refine lv_iconst (v := 0) hC.1 hC.2.1 dX0_who_32 (by decide) ?_
        refine lv_istore_n (lv' := [(3, _), (0, _), (1, _), (2, _)]) hC.1 hC.2.1 dX0_who_33 rfl hl (by decide) rfl (fun ls hl => ?_)
        refine lv_ldc hC.1 hC.2.1 hC.2.2.2.1 (hC.2.2.2.2 _ q1044) dX0_who_34 ?_
        refine lv_istore (lv' := [(4, _), (3, _), (0, _), (1, _), (2, _)]) hC.1 hC.2.1 dX0_who_36 hl (by decide) rfl (fun ls hl => ?_)
        refine lv_iconst (v := 0) hC.1 hC.2.1 dX0_who_38 (by decide) ?_
        refine lv_istore (lv' := [(5, _), (4, _), (3, _), (0, _), (1, _), (2, _)]) hC.1 hC.2.1 dX0_who_39 hl (by decide) rfl (fun ls hl => ?_)
        refine w_ind (α := Nat × (Nat → Int32) × (Nat → Nat) × (Nat → Nat → Int32)) 41 (fun (x_ : Nat × (Nat → Int32) × (Nat → Nat) × (Nat → Nat → Int32)) => (fun (z : Nat) (ux : (Nat → Int32)) (ud : (Nat → Nat)) (uw : (Nat → Nat → Int32)) => 2 ^ mm - z) x_.1 x_.2.1 x_.2.2.1 x_.2.2.2) (fun (x_ : Nat × (Nat → Int32) × (Nat → Nat) × (Nat → Nat → Int32)) (H : Heap) (locs : List Loc) (ls : Array Slot) => (fun (z : Nat) (ux : (Nat → Int32)) (ud : (Nat → Nat)) (uw : (Nat → Nat → Int32)) => (z ≤ 2 ^ mm) ∧ PS D ac A s.heap O [(no, nsU cv ad g cw), (ad 4, rdU rx rd rw), (ad 5, rdU ux ud uw), (rd 8, lsU mc ea (nI mm) ar)] H locs ∧ lv_has ls 7 [(0, .ref no), (1, .int (nI t)), (2, .int y), (3, .int (wcU (stC ro n mm t rw) z)), (4, .int (wlU (stC ro n mm t rw) z)), (5, .int (nI z))]) x_.1 x_.2.1 x_.2.2.1 x_.2.2.2) ?_ ((0, tx, td, tw)) ⟨Nat.zero_le _, hM, lv_sub hl [3, 4, 5, 2, 1, 0] rfl⟩
        intro x_ H locs ls hI ih41
        obtain ⟨z, ux, ud, uw⟩ := x_
        dsimp only at hI
        obtain ⟨hI41, hM, hl⟩ := hI
        refine lv_iload hC.1 hC.2.1 dX0_who_41 (lv_at hl 5 rfl) ?_
        refine lv_aload_n hC.1 hC.2.1 dX0_who_43 rfl (lv_at hl 0 rfl) ?_
        refine p_get hC hK hM 0 rfl in_X0 rfl 4 (by decide) q223 (fun x h => h) rfl dX0_who_44 ?_
        refine p_cVe (L' := [_, _, _, _]) hC hK hM (hM.at 1 rfl) rfl (cr_all l κ _ (ad 4) rx rd rw mc ea mm ar (hM.at 1 rfl) (hM.at 3 rfl)) (cwV 0 hC.2.2.2.2 (lw_V q890 q891 q892 q64 q893) rfl rfl rfl (by decide +kernel) ⟨(Nat.le_of_ble_eq_true rfl), (Nat.le_of_ble_eq_true rfl)⟩) rfl hl.1 rfl (lv_room (Nat.le_of_ble_eq_true rfl)) dX0_who_47 ⟨(Nat.le_of_ble_eq_true rfl), (Nat.le_of_ble_eq_true rfl)⟩ rfl hM.2 (fun H locs hM => ?_)
        rw [eAll]
        refine lv_icmp_gt (tgt := 132) hC.1 hC.2.1 dX0_who_50 (by decide) (fun c4 => ?_) (fun c4 => ?_)
        ·
          have nc4 := Int32.not_le.mpr c4
          have hx50 := nlt_t (a := 2 ^ mm - 1) (b := z) c4
          obtain rfl : z = 2 ^ mm := by omega
          refine lv_iload_n hC.1 hC.2.1 dX0_who_132 rfl (lv_at hl 2 rfl) ?_
          refine lv_if_ne (tgt := 140) hC.1 hC.2.1 dX0_who_133 (by decide) (fun c5 => ?_) (fun c5 => ?_)
          ·
            skip
            have y0 := c5
            refine lv_iload hC.1 hC.2.1 dX0_who_140 (lv_at hl 4 rfl) ?_
            skip
            refine p_iret hC hr hlocks hM dX0_who_142 ?_
            refine ⟨?_, ud, uw, ux, by rw [oups, oups, oups, oups, oups, oup_same hls, oup_comm (a := ad 5) (b := ad 4) (fun e => hRT e.symm), oup_same hR, oup_comm (a := ad 5) (b := no) (fun e => o_ne hN hT (by decide) e.symm), oup_same hN]⟩
            rw [if_neg (fun h => h cr), if_neg (fun h => h.elim (fun h => h ct) (fun h => h ch)), if_neg y0, it]
          ·
            skip
            have y0 := c5
            refine lv_iload_n hC.1 hC.2.1 dX0_who_136 rfl (lv_at hl 3 rfl) ?_
            refine lv_goto (tgt := 142) hC.1 hC.2.1 dX0_who_137 (by decide) ?_
            skip
            refine p_iret hC hr hlocks hM dX0_who_142 ?_
            refine ⟨?_, ud, uw, ux, by rw [oups, oups, oups, oups, oups, oup_same hls, oup_comm (a := ad 5) (b := ad 4) (fun e => hRT e.symm), oup_same hR, oup_comm (a := ad 5) (b := no) (fun e => o_ne hN hT (by decide) e.symm), oup_same hN]⟩
            rw [if_neg (fun h => h cr), if_neg (fun h => h.elim (fun h => h ct) (fun h => h ch)), if_pos y0, it]
        ·
          have nc4 := Int32.not_lt.mp c4
          have hx50 := nlt_f (a := 2 ^ mm - 1) (b := z) c4
          refine lv_aload_n hC.1 hC.2.1 dX0_who_53 rfl (lv_at hl 0 rfl) ?_
          refine p_get hC hK hM 0 rfl in_X0 rfl 5 (by decide) q224 (fun x h => h) rfl dX0_who_54 ?_
          refine lv_aload_n hC.1 hC.2.1 dX0_who_57 rfl (lv_at hl 0 rfl) ?_
          refine p_get hC hK hM 0 rfl in_X0 rfl 4 (by decide) q223 (fun x h => h) rfl dX0_who_58 ?_
          refine p_cVe (L' := [_, _, _, _]) hC hK hM (hM.at 2 rfl) rfl (cr_become l κ _ (ad 5) ux ud uw (ad 4) rx rd rw (hM.at 2 rfl) (hM.at 1 rfl) (fun e => hRT e.symm)) (cwV 1 hC.2.2.2.2 (lw_V q869 q870 q871 q64 q872) rfl rfl rfl (by decide +kernel) ⟨(Nat.le_of_ble_eq_true rfl), (Nat.le_of_ble_eq_true rfl)⟩) rfl hl.1 rfl (lv_room (Nat.le_of_ble_eq_true rfl)) dX0_who_61 ⟨(Nat.le_of_ble_eq_true rfl), (Nat.le_of_ble_eq_true rfl)⟩ (oups_set hM.2 (i := 2) rfl) (oad_nd hM.2 (i := 2) rfl rfl) (fun H locs hM => ?_)
          refine p_cVe (L' := [_, _, _, _]) hC hK hM (hM.at 2 rfl) rfl (cr_goHome l κ _ (ad 5) rx (updN ud 8 (rd 8)) (becW uw rw) (hM.at 2 rfl)) (cwV 0 hC.2.2.2.2 (lw_V q1069 q864 q865 q64 q866) rfl rfl rfl (by decide +kernel) ⟨(Nat.le_of_ble_eq_true rfl), (Nat.le_of_ble_eq_true rfl)⟩) rfl hl.1 rfl (lv_room (Nat.le_of_ble_eq_true rfl)) dX0_who_64 ⟨(Nat.le_of_ble_eq_true rfl), (Nat.le_of_ble_eq_true rfl)⟩ (oups_set hM.2 (i := 2) rfl) (oad_nd hM.2 (i := 2) rfl rfl) (fun H locs hM => ?_)
          refine lv_pop hC.1 hC.2.1 dX0_who_67 rfl ?_
          refine lv_iconst (v := 0) hC.1 hC.2.1 dX0_who_68 (by decide) ?_
          refine lv_istore (lv' := [(6, _), (0, _), (1, _), (2, _), (3, _), (4, _), (5, _)]) hC.1 hC.2.1 dX0_who_69 hl (by decide) rfl (fun ls hl => ?_)
          refine w_ind (α := Nat × (Nat → Int32)) 71 (fun (x_ : Nat × (Nat → Int32)) => (fun (u : Nat) (W : (Nat → Int32)) => t - u) x_.1 x_.2) (fun (x_ : Nat × (Nat → Int32)) (H : Heap) (locs : List Loc) (ls : Array Slot) => (fun (u : Nat) (W : (Nat → Int32)) => (u ≤ t) ∧ PS D ac A s.heap O [(no, nsU cv ad g cw), (ad 4, rdU rx rd rw), (ad 5, rdU (upd rx 9 (nI u)) (updN ud 8 (rd 8)) (wput (wput (becW uw rw) 12 W) 6 (ntsF ro n mm (nI z) (rw 7) u))), (rd 8, lsU mc ea (nI mm) ar)] H locs ∧ lv_has ls 7 [(0, .ref no), (1, .int (nI t)), (2, .int y), (3, .int (wcU (stC ro n mm t rw) z)), (4, .int (wlU (stC ro n mm t rw) z)), (5, .int (nI z)), (6, .int (nI u))]) x_.1 x_.2) ?_ ((0, uw 12)) ⟨Nat.zero_le _, by rw [show wput (wput (becW uw rw) 12 (uw 12)) 6 (ntsF ro n mm (nI z) (rw 7) 0) = wput (becW uw rw) 6 (rw 7) from by funext i; unfold becW wput ntsF; by_cases h6 : i = 6 <;> by_cases h12 : i = 12 <;> simp [h6, h12]]; exact hM, lv_sub hl [1, 2, 3, 4, 5, 6, 0] rfl⟩
          intro x_ H locs ls hI ih71
          obtain ⟨u, W⟩ := x_
          dsimp only at hI
          obtain ⟨hI71, hM, hl⟩ := hI
          refine lv_iload hC.1 hC.2.1 dX0_who_71 (lv_at hl 6 rfl) ?_
          refine lv_iload_n hC.1 hC.2.1 dX0_who_73 rfl (lv_at hl 1 rfl) ?_
          refine lv_icmp_ge (tgt := 93) hC.1 hC.2.1 dX0_who_74 (by decide) (fun c6 => ?_) (fun c6 => ?_)
          ·
            have nc6 := Int32.not_lt.mpr c6
            have hx74 := nle_t (a := t) (b := u) c6
            obtain rfl : t = u := by omega
            refine lv_aload_n hC.1 hC.2.1 dX0_who_93 rfl (lv_at hl 0 rfl) ?_
            refine p_get hC hK hM 0 rfl in_X0 rfl 5 (by decide) q224 (fun x h => h) rfl dX0_who_94 ?_
            refine lv_aload_n hC.1 hC.2.1 dX0_who_97 rfl (lv_at hl 0 rfl) ?_
            refine p_get hC hK hM 0 rfl in_X0 rfl 4 (by decide) q223 (fun x h => h) rfl dX0_who_98 ?_
            refine p_cVe (L' := [_, _, _, _]) hC hK hM (hM.at 2 rfl) rfl (cr_standsAs l κ _ (ad 5) (upd rx 9 (nI t)) (updN ud 8 (rd 8)) (wput (wput (becW uw rw) 12 W) 6 (ntsF ro n mm (nI z) (rw 7) t)) (ad 4) rx rd rw (hM.at 2 rfl) (hM.at 1 rfl) (fun e => hRT e.symm) n en hn) (cwV 1 hC.2.2.2.2 (lw_V q1070 q1071 q1072 q64 q1073) rfl rfl rfl (by decide +kernel) ⟨(Nat.le_of_ble_eq_true rfl), (Nat.le_of_ble_eq_true rfl)⟩) rfl hl.1 rfl (lv_room (Nat.le_of_ble_eq_true rfl)) dX0_who_101 ⟨(Nat.le_of_ble_eq_true rfl), (Nat.le_of_ble_eq_true rfl)⟩ rfl hM.2 (fun H locs hM => ?_)
            rw [show (wput (wput (becW uw rw) 12 W) 6 (ntsF ro n mm (nI z) (rw 7) t)) 6 = ntsF ro n mm (nI z) (rw 7) t from rfl]
            refine lv_if_ne (tgt := 110) hC.1 hC.2.1 dX0_who_104 (by decide) (fun c7 => ?_) (fun c7 => ?_)
            ·
              skip
              rw [bI_n0] at c7
              have cst := c7
              have cst : stC ro n mm t rw z = true := cst
              refine lv_iload_n hC.1 hC.2.1 dX0_who_110 rfl (lv_at hl 3 rfl) ?_
              refine w_tern1 (cond := wcU (stC ro n mm t rw) z = 0) (a := nI z) (b := wlU (stC ro n mm t rw) z) 121 ?_ (fun jt111 jf111 => ?_)
              ·
                skip
                refine lv_istore (lv' := [(4, _), (0, _), (1, _), (2, _), (3, _), (5, _), (6, _)]) hC.1 hC.2.1 dX0_who_121 hl (by decide) rfl (fun ls hl => ?_)
                refine lv_iinc (lv' := [(3, _), (4, _), (0, _), (1, _), (2, _), (5, _), (6, _)]) hC.1 hC.2.1 dX0_who_123 hl (k := 4) rfl rfl (by decide) rfl (fun ls hl => ?_)
                refine lv_iinc (v := nI (z + 1)) (lv' := [(5, _), (3, _), (4, _), (0, _), (1, _), (2, _), (6, _)]) hC.1 hC.2.1 dX0_who_126 hl (k := 5) rfl (nI_1 _) (by decide) rfl (fun ls hl => ?_)
                refine lv_goto (tgt := 41) hC.1 hC.2.1 dX0_who_129 (by decide) ?_
                rw [show wcU (stC ro n mm t rw) z + Int32.ofInt 1 = wcU (stC ro n mm t rw) (z + 1) by rw [wcU, if_pos cst]; rfl, show (if wcU (stC ro n mm t rw) z = 0 then nI z else wlU (stC ro n mm t rw) z) = wlU (stC ro n mm t rw) (z + 1) by rw [wlU, if_pos cst]] at hl
                exact ih41 ((z + 1, upd rx 9 (nI t), updN ud 8 (rd 8), wput (wput (becW uw rw) 12 W) 6 (ntsF ro n mm (nI z) (rw 7) t))) _ _ _ (by show 2 ^ mm - (z + 1) < 2 ^ mm - z; omega) ⟨by show z + 1 ≤ 2 ^ mm; omega, hM, lv_sub hl [3, 4, 5, 1, 2, 0] rfl⟩
              ·
                skip
                refine lv_if_ne (tgt := 119) hC.1 hC.2.1 dX0_who_111 (by decide) (fun c8 => ?_) (fun c8 => ?_)
                ·
                  skip
                  have c3 := c8
                  refine lv_iload hC.1 hC.2.1 dX0_who_119 (lv_at hl 4 rfl) ?_
                  first | exact jt111 (by exact c3) | exact jf111 (by exact c3)
                ·
                  skip
                  have c3 := c8
                  refine lv_iload hC.1 hC.2.1 dX0_who_114 (lv_at hl 5 rfl) ?_
                  refine lv_goto (tgt := 121) hC.1 hC.2.1 dX0_who_116 (by decide) ?_
                  first | exact jt111 (by exact c3) | exact jf111 (by exact c3)
            ·
              skip
              rw [bI_0] at c7
              have cst := c7
              have cst : ¬ stC ro n mm t rw z = true := cst
              refine lv_goto (tgt := 126) hC.1 hC.2.1 dX0_who_107 (by decide) ?_
              refine lv_iinc (v := nI (z + 1)) (lv' := [(5, _), (0, _), (1, _), (2, _), (3, _), (4, _), (6, _)]) hC.1 hC.2.1 dX0_who_126 hl (k := 5) rfl (nI_1 _) (by decide) rfl (fun ls hl => ?_)
              refine lv_goto (tgt := 41) hC.1 hC.2.1 dX0_who_129 (by decide) ?_
              rw [show wcU (stC ro n mm t rw) z = wcU (stC ro n mm t rw) (z + 1) by rw [wcU, if_neg cst], show wlU (stC ro n mm t rw) z = wlU (stC ro n mm t rw) (z + 1) by rw [wlU, if_neg cst]] at hl
              exact ih41 ((z + 1, upd rx 9 (nI t), updN ud 8 (rd 8), wput (wput (becW uw rw) 12 W) 6 (ntsF ro n mm (nI z) (rw 7) t))) _ _ _ (by show 2 ^ mm - (z + 1) < 2 ^ mm - z; omega) ⟨by show z + 1 ≤ 2 ^ mm; omega, hM, lv_sub hl [1, 2, 3, 4, 5, 0] rfl⟩
          ·
            have nc6 := Int32.not_le.mp c6
            have hx74 := nle_f (a := t) (b := u) c6
            refine lv_aload_n hC.1 hC.2.1 dX0_who_77 rfl (lv_at hl 0 rfl) ?_
            refine p_get hC hK hM 0 rfl in_X0 rfl 5 (by decide) q224 (fun x h => h) rfl dX0_who_78 ?_
            refine lv_iload hC.1 hC.2.1 dX0_who_81 (lv_at hl 5 rfl) ?_
            refine p_cVe (L' := [_, _, _, _]) hC hK hM (hM.at 2 rfl) rfl (cr_pass l κ _ (ad 5) (upd rx 9 (nI u)) (updN ud 8 (rd 8)) (wput (wput (becW uw rw) 12 W) 6 (ntsF ro n mm (nI z) (rw 7) u)) (nI z) (hM.at 2 rfl) n en hn mm kd mv (hkp _ _ _ _ rfl) hmo ro hro u rfl (by omega)) (cwV 1 hC.2.2.2.2 (lw_V q896 q897 q898 q64 q899) rfl rfl rfl (by decide +kernel) ⟨(Nat.le_of_ble_eq_true rfl), (Nat.le_of_ble_eq_true rfl)⟩) rfl hl.1 rfl (lv_room (Nat.le_of_ble_eq_true rfl)) dX0_who_83 ⟨(Nat.le_of_ble_eq_true rfl), (Nat.le_of_ble_eq_true rfl)⟩ (oups_set hM.2 (i := 2) rfl) (oad_nd hM.2 (i := 2) rfl rfl) (fun H locs hM => ?_)
            refine lv_pop hC.1 hC.2.1 dX0_who_86 rfl ?_
            refine lv_iinc (v := nI (u + 1)) (lv' := [(6, _), (0, _), (1, _), (2, _), (3, _), (4, _), (5, _)]) hC.1 hC.2.1 dX0_who_87 hl (k := 6) rfl (nI_1 _) (by decide) rfl (fun ls hl => ?_)
            refine lv_goto (tgt := 71) hC.1 hC.2.1 dX0_who_90 (by decide) ?_
            exact ih71 ((u + 1, va_cpy (ntsF ro n mm (nI z) (rw 7) u) W 0 0 n)) _ _ _ (by show t - (u + 1) < t - u; omega) ⟨by show u + 1 ≤ t; omega, by rw [wpp, upd_upd] at hM; rw [ntsF]; exact hM, lv_sub hl [1, 2, 3, 4, 5, 6, 0] rfl⟩
      ·
        skip
        rw [bI_0] at c3
        have ch := c3
        refine lv_ldc hC.1 hC.2.1 hC.2.2.2.1 (hC.2.2.2.2 _ q269) dX0_who_29 ?_
        skip
        refine p_iret hC hr hlocks hM dX0_who_31 ?_
        refine ⟨by rw [if_neg (fun h => h cr), if_pos (Or.inr ch)], td, tw, tx, ?_⟩
        rw [oup_same hT]
        rw [oups, oups, oups, oups, oups, oup_same hls, oup_same hT, oup_same hR, oup_same hN]
  ·
    skip
    rw [bI_0] at c1
    have cr := c1
    refine lv_ldc hC.1 hC.2.1 hC.2.2.2.1 (hC.2.2.2.2 _ q885) dX0_who_7 ?_
    skip
    refine p_iret hC hr hlocks hM dX0_who_9 ?_
    refine ⟨by rw [if_pos cr], td, tw, tx, ?_⟩
    rw [oup_same hT]
    rw [oups, oups, oups, oups, oups, oup_same hls, oup_same hT, oup_same hR, oup_same hN]
