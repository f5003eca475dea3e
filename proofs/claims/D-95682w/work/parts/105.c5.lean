set_option maxHeartbeats 400000 in
set_option maxRecDepth 100000 in
theorem cr_pass (l : Launch) (κ : Nat → Nat) (O : gO) (a : Nat) (v : Nat → Int32) (ad : Nat → Nat) (w : Nat → Nat → Int32) (x : Int32) (hO : O a = some (rdU v ad w)) (n : Nat) (en : v 4 = nI n) (hn : n ≤ 6) (mm : Nat) (kd : Nat → Nat) (mv : Nat → Nat → Int32) (hmvs : mvs κ O (ad 8) mm kd mv) (hmo : mvOk n mm mv) (ro : Nat → Int32) (hro : rdX ro v w mm kd mv) (nt : Nat) (ent : v 9 = nI nt) (hnt : nt < 2 ^ 30) : oM l κ yX1_pass cX1_pass 4 (some .int) ({ frames := 3, cells := 0, slots := 0, locals := 71 }) [.ref a, .int x] O (fun rv O1 => rv = some (.int (difL (goF ro n nt x (w 6) mm) (w 6) n)) ∧ O1 = oup O a (rdU (upd v 9 (nI (nt + 1))) ad (wput (wput w 12 (va_cpy (w 6) (w 12) 0 0 n)) 6 (goF ro n nt x (w 6) mm)))) := by
  obtain ⟨mc, ea, f, ar, hls, hm5, hl0, hlr, hmv⟩ := hmvs
  intro D ac A
  refine o_body (own := RX1) rfl (plainFor_of_name (by decide)) (Nat.le_of_ble_eq_true rfl) ?_
  intro p e s m args below meth c ls hC hr hlocks hK hM hl hnamed hmeth
  have hl : lv_has ls 4 [(0, .ref a), (1, .int x)] := hl
  have hM := PS.of hM [(a, rdU v ad w), (ad 8, lsU mc ea (nI mm) ar)] ⟨hO, hls, trivial⟩ (by simp only [oad, List.map, List.nodup_cons, List.mem_singleton, List.not_mem_nil, not_false_eq_true, List.nodup_nil, and_true]; exact o_ne hO hls (by decide))
  refine lv_aload_n hC.1 hC.2.1 dX1_pass_0 rfl (lv_at hl 0 rfl) ?_
  refine p_get hC hK hM 0 rfl in_X1 rfl 6 (by decide) q160 (fun x h => h) rfl dX1_pass_1 ?_
  refine lv_iconst (v := 0) hC.1 hC.2.1 dX1_pass_4 (by decide) ?_
  refine lv_aload_n hC.1 hC.2.1 dX1_pass_5 rfl (lv_at hl 0 rfl) ?_
  refine p_get hC hK hM 0 rfl in_X1 rfl 12 (by decide) q175 (fun x h => h) rfl dX1_pass_6 ?_
  refine lv_iconst (v := 0) hC.1 hC.2.1 dX1_pass_9 (by decide) ?_
  refine lv_aload_n hC.1 hC.2.1 dX1_pass_10 rfl (lv_at hl 0 rfl) ?_
  refine p_get hC hK hM 0 rfl in_X1 rfl 4 (by decide) q154 (fun x h => h) rfl dX1_pass_11 ?_
  rw [en]
  refine p_copy (L' := [_, _]) hC hK hM hl.1 q867 0 rfl 12 rfl (aAt.own (hM.at 0 rfl) (k := 6) rfl rfl) rfl (np := 0) (nd := 0) (nn := n) rfl rfl rfl (by show 0 + n ≤ 6; omega) (by show 0 + n ≤ 6; omega) (by decide) (by decide) (Nat.le_of_ble_eq_true rfl) (Nat.le_of_ble_eq_true rfl) dX1_pass_14 (rar_set _ (k := 12) (by decide) _) rfl (fun H locs hM => ?_)
  refine lv_iconst (v := 0) hC.1 hC.2.1 dX1_pass_17 (by decide) ?_
  refine lv_istore_n (lv' := [(2, _), (0, _), (1, _)]) hC.1 hC.2.1 dX1_pass_18 rfl hl (by decide) rfl (fun ls hl => ?_)
  refine w_ind (α := Nat) 19 (fun (k : Nat) => mm - k) (fun (k : Nat) (H : Heap) (locs : List Loc) (ls : Array Slot) => (k ≤ mm) ∧ PS D ac A s.heap O [(a, rdU v ad (wput (wput w 12 (va_cpy (w 6) (w 12) 0 0 n)) 6 (goF ro n nt x (w 6) k))), (ad 8, lsU mc ea (nI mm) ar)] H locs ∧ lv_has ls 4 [(0, .ref a), (1, .int x), (2, .int (nI k))]) ?_ (0) ⟨by omega, by rw [show goF ro n nt x (w 6) 0 = wput w 12 (va_cpy (w 6) (w 12) 0 0 n) 6 from rfl, wput_self]; exact hM, lv_sub hl [1, 2, 0] rfl⟩
  intro k H locs ls hI ih19
  obtain ⟨hI19, hM, hl⟩ := hI
  refine lv_iload_n hC.1 hC.2.1 dX1_pass_19 rfl (lv_at hl 2 rfl) ?_
  refine lv_aload_n hC.1 hC.2.1 dX1_pass_20 rfl (lv_at hl 0 rfl) ?_
  refine p_get hC hK hM 0 rfl in_X1 rfl 8 (by decide) q166 (fun x h => h) rfl dX1_pass_21 ?_
  refine p_cFe (L' := [_, _]) hC hK hM (hM.at 1 rfl) rfl (cj_size l κ _ (ad 8) mc ea (nI mm) ar (hM.at 1 rfl)) (va_cwF 0 hC.2.2.2.2 (lw_F q895 q725 q727 q67 q729) rfl rfl rfl (hK.1.2.2.2 _ (List.mem_of_getElem? (i := 0) (rfl : nFw[0]? = some _))) (by decide +kernel) ⟨(Nat.le_of_ble_eq_true rfl), (Nat.le_of_ble_eq_true rfl)⟩) rfl hl.1 rfl (lv_room (Nat.le_of_ble_eq_true rfl)) dX1_pass_24 ⟨(Nat.le_of_ble_eq_true rfl), (Nat.le_of_ble_eq_true rfl)⟩ rfl hM.2 (fun H locs hM => ?_)
  refine lv_icmp_ge (tgt := 102) hC.1 hC.2.1 dX1_pass_29 (by decide) (fun c1 => ?_) (fun c1 => ?_)
  ·
    have nc1 := Int32.not_lt.mpr c1
    have hx29 := nle_t (a := mm) (b := k) c1
    obtain rfl : mm = k := by omega
    refine lv_aload_n hC.1 hC.2.1 dX1_pass_102 rfl (lv_at hl 0 rfl) ?_
    refine lv_dup hC.1 hC.2.1 dX1_pass_103 rfl ?_
    refine p_get hC hK hM 0 rfl in_X1 rfl 9 (by decide) q169 (fun x h => h) rfl dX1_pass_104 ?_
    rw [ent]
    refine lv_iconst (v := 1) hC.1 hC.2.1 dX1_pass_107 (by decide) ?_
    refine lv_iadd hC.1 hC.2.1 dX1_pass_108 ?_
    rw [nI_1]
    refine p_put (L' := [_, _]) hC hK hM 0 rfl in_X1 tyX1 tyX1_ok nmX1 rfl 9 (by decide) q169 (fun x h => h) rfl rfl rfl (Nat.le_of_ble_eq_true rfl) rfl rfl rfl dX1_pass_109 (fun H locs hM => ?_)
    refine lv_iconst (v := 0) hC.1 hC.2.1 dX1_pass_112 (by decide) ?_
    refine lv_istore_n (lv' := [(2, _), (0, _), (1, _)]) hC.1 hC.2.1 dX1_pass_113 rfl hl (by decide) rfl (fun ls hl => ?_)
    refine lv_iconst (v := 0) hC.1 hC.2.1 dX1_pass_114 (by decide) ?_
    refine lv_istore_n (lv' := [(3, _), (2, _), (0, _), (1, _)]) hC.1 hC.2.1 dX1_pass_115 rfl hl (by decide) rfl (fun ls hl => ?_)
    refine w_ind (α := Nat) 116 (fun (k : Nat) => n - k) (fun (k : Nat) (H : Heap) (locs : List Loc) (ls : Array Slot) => (k ≤ n) ∧ PS D ac A s.heap O [(a, rdU (upd v 9 (nI (nt + 1))) ad (wput (wput w 12 (va_cpy (w 6) (w 12) 0 0 n)) 6 (goF ro n nt x (w 6) mm))), (ad 8, lsU mc ea (nI mm) ar)] H locs ∧ lv_has ls 4 [(0, .ref a), (2, .int (difL (goF ro n nt x (w 6) mm) (w 6) k)), (3, .int (nI k))]) ?_ (0) ⟨by omega, hM, lv_sub hl [2, 1, 0] rfl⟩
    intro k H locs ls hI ih116
    obtain ⟨hI116, hM, hl⟩ := hI
    refine lv_iload_n hC.1 hC.2.1 dX1_pass_116 rfl (lv_at hl 2 rfl) ?_
    refine lv_aload_n hC.1 hC.2.1 dX1_pass_117 rfl (lv_at hl 0 rfl) ?_
    refine p_get hC hK hM 0 rfl in_X1 rfl 4 (by decide) q154 (fun x h => h) rfl dX1_pass_118 ?_
    rw [show upd v 9 (nI (nt + 1)) 4 = nI n from en]
    refine lv_icmp_ge (tgt := 155) hC.1 hC.2.1 dX1_pass_121 (by decide) (fun c2 => ?_) (fun c2 => ?_)
    ·
      have nc2 := Int32.not_lt.mpr c2
      have hx121 := nle_t (a := n) (b := k) c2
      obtain rfl : n = k := by omega
      refine lv_iload_n hC.1 hC.2.1 dX1_pass_155 rfl (lv_at hl 1 rfl) ?_
      skip
      refine p_iret hC hr hlocks hM dX1_pass_156 ?_
      refine ⟨rfl, ?_⟩
      rw [oups, oups, oups, oup_same hls]
    ·
      have nc2 := Int32.not_le.mp c2
      have hx121 := nle_f (a := n) (b := k) c2
      refine lv_iload_n hC.1 hC.2.1 dX1_pass_124 rfl (lv_at hl 1 rfl) ?_
      refine lv_aload_n hC.1 hC.2.1 dX1_pass_125 rfl (lv_at hl 0 rfl) ?_
      refine p_get hC hK hM 0 rfl in_X1 rfl 6 (by decide) q160 (fun x h => h) rfl dX1_pass_126 ?_
      refine lv_iload_n hC.1 hC.2.1 dX1_pass_129 rfl (lv_at hl 2 rfl) ?_
      refine p_iald hC hK hM 0 rfl 6 rfl rfl (n := k) (by first | rfl | (simp only [← nI_add, ← pk_mul]; rfl)) (by first | decide | (show _ < 6; omega)) (by decide) dX1_pass_130 ?_
      refine lv_aload_n hC.1 hC.2.1 dX1_pass_131 rfl (lv_at hl 0 rfl) ?_
      refine p_get hC hK hM 0 rfl in_X1 rfl 12 (by decide) q175 (fun x h => h) rfl dX1_pass_132 ?_
      refine lv_iload_n hC.1 hC.2.1 dX1_pass_135 rfl (lv_at hl 2 rfl) ?_
      refine p_iald hC hK hM 0 rfl 12 rfl rfl (n := k) (by first | rfl | (simp only [← nI_add, ← pk_mul]; rfl)) (by first | decide | (show _ < 6; omega)) (by decide) dX1_pass_136 ?_
      refine w_tern2 (cond := (goF ro n nt x (w 6) mm) k = w 6 k) (a := 0) (b := (1 : Int32) <<< (nI k &&& 31)) 147 ?_ (fun jt137 jf137 => ?_)
      ·
        skip
        refine lv_ior hC.1 hC.2.1 dX1_pass_147 ?_
        refine lv_istore_n (lv' := [(2, _), (0, _), (3, _)]) hC.1 hC.2.1 dX1_pass_148 rfl hl (by decide) rfl (fun ls hl => ?_)
        refine lv_iinc (v := nI (k + 1)) (lv' := [(3, _), (2, _), (0, _)]) hC.1 hC.2.1 dX1_pass_149 hl (k := 2) rfl (nI_1 _) (by decide) rfl (fun ls hl => ?_)
        refine lv_goto (tgt := 116) hC.1 hC.2.1 dX1_pass_152 (by decide) ?_
        exact ih116 (k + 1) _ _ _ (by omega) ⟨by omega, hM, lv_sub hl [2, 1, 0] rfl⟩
      ·
        skip
        refine lv_icmp_eq (tgt := 146) hC.1 hC.2.1 dX1_pass_137 (by decide) (fun c3 => ?_) (fun c3 => ?_)
        ·
          skip
          have cd : (goF ro n nt x (w 6) mm) k = w 6 k := (c3 : _ = va_cpy (w 6) (w 12) 0 0 n k).trans (va_cpy_agr _ _ n k hx121)
          refine lv_iconst (v := 0) hC.1 hC.2.1 dX1_pass_146 (by decide) ?_
          first | exact jt137 (by exact cd) | exact jf137 (by exact cd)
        ·
          skip
          have cd : ¬ (goF ro n nt x (w 6) mm) k = w 6 k := fun h => c3 (h.trans (va_cpy_agr _ _ n k hx121).symm)
          refine lv_iconst (v := 1) hC.1 hC.2.1 dX1_pass_140 (by decide) ?_
          refine lv_iload_n hC.1 hC.2.1 dX1_pass_141 rfl (lv_at hl 2 rfl) ?_
          refine lv_ishl hC.1 hC.2.1 dX1_pass_142 ?_
          refine lv_goto (tgt := 147) hC.1 hC.2.1 dX1_pass_143 (by decide) ?_
          first | exact jt137 (by exact cd) | exact jf137 (by exact cd)
  ·
    have nc1 := Int32.not_le.mp c1
    have hx29 := nle_f (a := mm) (b := k) c1
    obtain rfl := hlr (by omega)
    obtain ⟨hk1, hk5, q, hfq, hOm⟩ := hmv k hx29
    obtain ⟨⟨k0, hk0, ek⟩, h01, r0, hr5, er⟩ := hmo k hx29
    have hOq : ∀ L : List (Nat × gU), oad L = [a, ad 8] → oups O L q = some (mvU (kd k) (mv k)) := fun L hL => by rw [oups_off (by rw [hL]; simp only [List.mem_cons, List.not_mem_nil, or_false, not_or]; exact ⟨o_ne hOm hO (by omega), o_ne hOm hls (by omega)⟩)]; exact hOm
    have hpf := pushF_c (n := n) (nt := nt) (f := (goF ro n nt x (w 6) k)) hro hx29 hk1 hk5 ek (by omega) h01 er hr5
    refine lv_aload_n hC.1 hC.2.1 dX1_pass_32 rfl (lv_at hl 0 rfl) ?_
    refine p_get hC hK hM 0 rfl in_X1 rfl 8 (by decide) q166 (fun x h => h) rfl dX1_pass_33 ?_
    refine lv_iload_n hC.1 hC.2.1 dX1_pass_36 rfl (lv_at hl 2 rfl) ?_
    refine p_cFe (L' := [_, _]) hC hK hM (hM.at 1 rfl) rfl (cj_get l κ _ (ad 8) mc ea mm f k q (hM.at 1 rfl) hx29 (by omega) hfq) (va_cwF 1 hC.2.2.2.2 (lw_F q901 q904 q906 q67 q908) rfl rfl rfl (hK.1.2.2.2 _ (List.mem_of_getElem? (i := 2) (rfl : nFw[2]? = some _))) (by decide +kernel) ⟨(Nat.le_of_ble_eq_true rfl), (Nat.le_of_ble_eq_true rfl)⟩) rfl hl.1 rfl (lv_room (Nat.le_of_ble_eq_true rfl)) dX1_pass_37 ⟨(Nat.le_of_ble_eq_true rfl), (Nat.le_of_ble_eq_true rfl)⟩ rfl hM.2 (fun H locs hM => ?_)
    refine v_cm hC hK hM (show oups O _ q = some (mvU (kd k) (mv k)) from hOq _ rfl) hk1 hk5 dX1_pass_42 ?_
    refine lv_astore_n (lv' := [(3, _), (0, _), (1, _), (2, _)]) hC.1 hC.2.1 dX1_pass_45 rfl hl (by decide) rfl (fun ls hl => ?_)
    refine lv_iload_n hC.1 hC.2.1 dX1_pass_46 rfl (lv_at hl 2 rfl) ?_
    refine lv_iload_n hC.1 hC.2.1 dX1_pass_47 rfl (lv_at hl 3 rfl) ?_
    refine s_cin hC (cc_has l x (nI k)) ⟨va_cnB 2 hC.2.2.2.2 (lw_meth q920) rfl rfl rfl (hK.1.2.1 _ q918 rfl) (hC.2.2.2.2 _ q63) (by decide +kernel) ⟨(Nat.le_of_ble_eq_true rfl), (Nat.le_of_ble_eq_true rfl)⟩, hC.2.2.2.2 _ q919, trivial⟩ rfl hl.1 rfl (lv_room (Nat.le_of_ble_eq_true rfl)) dX1_pass_48 ⟨(Nat.le_of_ble_eq_true rfl), (Nat.le_of_ble_eq_true rfl)⟩ ?_
    refine lv_if_eq (tgt := 96) hC.1 hC.2.1 dX1_pass_51 (by decide) (fun c4 => ?_) (fun c4 => ?_)
    ·
      skip
      rw [bI_0] at c4
      have ch : ¬ (x >>> (nI k &&& 31)) &&& 1 = 1 := c4
      refine lv_iinc (v := nI (k + 1)) (lv' := [(2, _), (3, _), (0, _), (1, _)]) hC.1 hC.2.1 dX1_pass_96 hl (k := 3) rfl (nI_1 _) (by decide) rfl (fun ls hl => ?_)
      refine lv_goto (tgt := 19) hC.1 hC.2.1 dX1_pass_99 (by decide) ?_
      exact ih19 (k + 1) _ _ _ (by omega) ⟨by omega, by rw [goF_f ch]; exact hM, lv_sub hl [2, 3, 0] rfl⟩
    ·
      skip
      rw [bI_n0] at c4
      have ch : (x >>> (nI k &&& 31)) &&& 1 = 1 := c4
      refine lv_aload_n hC.1 hC.2.1 dX1_pass_54 rfl (lv_at hl 0 rfl) ?_
      refine lv_aload_n hC.1 hC.2.1 dX1_pass_55 rfl (lv_at hl 1 rfl) ?_
      refine p_get hC hK hM 0 rfl in_X1 rfl 9 (by decide) q169 (fun x h => h) rfl dX1_pass_56 ?_
      rw [ent]
      refine lv_aload_n hC.1 hC.2.1 dX1_pass_59 rfl (lv_at hl 1 rfl) ?_
      refine p_get hC hK hM 0 rfl in_X1 rfl 6 (by decide) q160 (fun x h => h) rfl dX1_pass_60 ?_
      refine lv_aload_n hC.1 hC.2.1 dX1_pass_63 rfl (lv_at hl 0 rfl) ?_
      refine v_st hC hK hM (show oups O _ q = some (mvU (kd k) (mv k)) from hOq _ rfl) hk1 hk5 dX1_pass_64 ?_
      rw [ek]
      refine p_iald hC hK hM 0 rfl 6 rfl rfl (n := k0) rfl (by show _ < 6; omega) (by decide) dX1_pass_67 ?_
      refine lv_aload_n hC.1 hC.2.1 dX1_pass_68 rfl (lv_at hl 1 rfl) ?_
      refine p_get hC hK hM 0 rfl in_X1 rfl 7 (by decide) q163 (fun x h => h) rfl dX1_pass_69 ?_
      refine lv_aload_n hC.1 hC.2.1 dX1_pass_72 rfl (lv_at hl 0 rfl) ?_
      refine v_st hC hK hM (show oups O _ q = some (mvU (kd k) (mv k)) from hOq _ rfl) hk1 hk5 dX1_pass_73 ?_
      rw [ek]
      refine p_iald hC hK hM 0 rfl 7 rfl rfl (n := k0) rfl (by show _ < 6; omega) (by decide) dX1_pass_76 ?_
      refine w_tern2 (cond := (goF ro n nt x (w 6) k) k0 = w 7 k0) (a := 1) (b := 0) 85 ?_ (fun jt77 jf77 => ?_)
      ·
        skip
        refine v_ou hC hK hM (show oups O _ q = some (mvU (kd k) (mv k)) from hOq _ rfl) hk1 hk5 nt _ hnt (by split <;> simp) hl.1 (lv_room (Nat.le_of_ble_eq_true rfl)) ⟨Nat.le_of_ble_eq_true rfl, Nat.le_of_ble_eq_true rfl⟩ dX1_pass_85 ⟨Nat.le_of_ble_eq_true rfl, Nat.le_of_ble_eq_true rfl⟩ (fun H locs hM => ?_)
        refine lv_if_eq (tgt := 96) hC.1 hC.2.1 dX1_pass_88 (by decide) (fun c5 => ?_) (fun c5 => ?_)
        ·
          skip
          have co := c5
          refine lv_iinc (v := nI (k + 1)) (lv' := [(2, _), (3, _), (0, _), (1, _)]) hC.1 hC.2.1 dX1_pass_96 hl (k := 3) rfl (nI_1 _) (by decide) rfl (fun ls hl => ?_)
          refine lv_goto (tgt := 19) hC.1 hC.2.1 dX1_pass_99 (by decide) ?_
          exact ih19 (k + 1) _ _ _ (by omega) ⟨by omega, by rw [goF_t ch, hpf, if_pos co]; exact hM, lv_sub hl [2, 3, 0] rfl⟩
        ·
          skip
          have co := c5
          refine lv_aload_n hC.1 hC.2.1 dX1_pass_91 rfl (lv_at hl 1 rfl) ?_
          refine lv_aload_n hC.1 hC.2.1 dX1_pass_92 rfl (lv_at hl 0 rfl) ?_
          refine p_cVv (L' := [_, _]) hC hK hM (hM.at 0 rfl) rfl (cr_push l κ _ a v ad (wput (wput w 12 (va_cpy (w 6) (w 12) 0 0 n)) 6 (goF ro n nt x (w 6) k)) (hM.at 0 rfl) n en hn q (kd k) (mv k) (show oups O _ q = some (mvU (kd k) (mv k)) from hOq _ rfl) hk1 hk5 k0 r0 nt ek hk0 h01 er hr5 ent hnt) (cwV 1 hC.2.2.2.2 (lw_V q934 q936 qs17 q64 q937) rfl rfl rfl (by decide +kernel) ⟨(Nat.le_of_ble_eq_true rfl), (Nat.le_of_ble_eq_true rfl)⟩) rfl hl.1 rfl (lv_room (Nat.le_of_ble_eq_true rfl)) dX1_pass_93 ⟨(Nat.le_of_ble_eq_true rfl), (Nat.le_of_ble_eq_true rfl)⟩ (oups_set hM.2 (i := 0) rfl) (oad_nd hM.2 (i := 0) rfl rfl) (fun H locs hM => ?_)
          refine lv_iinc (v := nI (k + 1)) (lv' := [(2, _), (3, _), (0, _), (1, _)]) hC.1 hC.2.1 dX1_pass_96 hl (k := 3) rfl (nI_1 _) (by decide) rfl (fun ls hl => ?_)
          refine lv_goto (tgt := 19) hC.1 hC.2.1 dX1_pass_99 (by decide) ?_
          exact ih19 (k + 1) _ _ _ (by omega) ⟨by omega, by rw [goF_t ch, hpf, if_neg co]; rw [wput_wput] at hM; exact hM, lv_sub hl [2, 3, 0] rfl⟩
      ·
        skip
        refine lv_icmp_ne (tgt := 84) hC.1 hC.2.1 dX1_pass_77 (by decide) (fun c6 => ?_) (fun c6 => ?_)
        ·
          skip
          have cz : ¬ (goF ro n nt x (w 6) k) k0 = w 7 k0 := c6
          refine lv_iconst (v := 0) hC.1 hC.2.1 dX1_pass_84 (by decide) ?_
          first | exact jt77 (by exact cz) | exact jf77 (by exact cz)
        ·
          skip
          have cz : (goF ro n nt x (w 6) k) k0 = w 7 k0 := c6
          refine lv_iconst (v := 1) hC.1 hC.2.1 dX1_pass_80 (by decide) ?_
          refine lv_goto (tgt := 85) hC.1 hC.2.1 dX1_pass_81 (by decide) ?_
          first | exact jt77 (by exact cz) | exact jf77 (by exact cz)
