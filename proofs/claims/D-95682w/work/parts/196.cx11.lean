/-! Image, road. -/
set_option maxRecDepth 100000
theorem rdR.cg {ro ro' v : Nat → Int32} {w : Nat → Nat → Int32} {mm : Nat} {kd : Nat → Nat} {mv : Nat → Nat → Int32} (hm : mm ≤ 5) (h : rdR ro v w mm kd mv) (e : ∀ i, i < 94 → ro' i = ro i) : rdR ro' v w mm kd mv := by
  obtain ⟨a0, a1, a2, a3, a4, a5, a6, a7, a8, a9, a10⟩ := h
  refine ⟨by rw [e 0 (by omega)]; exact a0, by rw [e 1 (by omega)]; exact a1, by rw [e 2 (by omega)]; exact a2, by rw [e 3 (by omega)]; exact a3, by rw [e 4 (by omega)]; exact a4, by rw [e 5 (by omega)]; exact a5, by rw [e 6 (by omega)]; exact a6, by rw [e 7 (by omega)]; exact a7, fun k hk => ?_, fun j hj => ?_, fun q hq => ?_⟩
  · rw [e _ (by omega), e _ (by omega), e _ (by omega)]; exact a8 k hk
  · rw [e _ (by omega), e _ (by omega), e _ (by omega), e _ (by omega)]; exact a9 j hj
  · rw [e _ (by omega)]; exact a10 q hq
theorem RI.cg {κ : Nat → Nat} {O : gO} {q : Nat} {ro ro' : Nat → Int32} (h : RI κ O q ro) (e : ∀ i, i < 94 → ro' i = ro i) : RI κ O q ro' := by
  obtain ⟨v, ad, w, mm, kd, mv, h1, h2, h3⟩ := h
  have hm : mm ≤ 5 := by obtain ⟨_, _, _, _, _, h5, -⟩ := h3; exact h5
  exact ⟨v, ad, w, mm, kd, mv, h1, h2.cg hm e, h3⟩
section CI1
variable {κ : Nat → Nat} {O O1 : gO} {no : Nat} {v v' : Nat → Int32} {w w' : Nat → Nat → Int32} {cv cv' : Nat → Int32} {ad : Nat → Nat} {g g' : Nat → Nat → Option Nat} {cw cw' : Nat → Nat → Int32}
theorem rol_im {k i pq : Nat} (hk : k < 2) (e6 : g' 6 = g 6) (e8 : g' 8 = va_up (g 8) k (some pq)) : rol ad g' i = if i = 26 + k then some pq else rol ad g i := by
  by_cases h : i = 26 + k
  · rw [if_pos h]
    unfold rol
    rw [if_neg (by omega), if_neg (by omega), if_neg (by omega), if_pos (by omega), e8, show i - 26 = k by omega, va_up_self]
  · rw [if_neg h]
    unfold rol
    rw [e6, e8]
    by_cases h28 : 26 ≤ i ∧ i < 28
    · rw [va_up_ne _ _ (by omega)]
    · by_cases a1 : i = 0
      · rw [if_pos a1, if_pos a1]
      · rw [if_neg a1, if_neg a1]
        by_cases a2 : i = 1
        · rw [if_pos a2, if_pos a2]
        · rw [if_neg a2, if_neg a2]
          by_cases a3 : i < 26
          · rw [if_pos a3, if_pos a3]
          · rw [if_neg a3, if_neg a3, if_neg (by omega), if_neg (by omega)]
/-- an image is laid -/
theorem CIx.img (h : CIx κ O no v w cv ad g cw) (h8 : ∃ a : Nat, v 8 = nI a ∧ a ≤ 24) {k pq : Nat} (hk : k < 2) (e0 : g' 0 = g 0) (e6 : g' 6 = g 6) (e8 : g' 8 = va_up (g 8) k (some pq)) (hN' : O1 no = some (nsU cv ad g' cw)) (hkp : ∀ b x, b ≠ no → b ≠ pq → O b = some x → O1 b = some x) (hpn : ∀ (ci : Nat) (fs : List Value) (ar : gA), O pq = some (.inr (ci, fs, ar)) → ci = 1) (hpr : ∀ i, i ≠ 26 + k → rol ad g i ≠ some pq) (hRI : RI κ O1 pq (w 5)) : CIx κ O1 no v (wup (wseg w 23 (94 * k) 94 (w 5)) 22 k 1) cv ad g' cw := by
  obtain ⟨h1, h2, h3, h4, hrr, hR, hA, hP, hI, hT⟩ := CIx.iff.mp h
  have kc : ∀ (q ci : Nat) (fs : List Value) (ar : gA), ci ≠ 0 → ci ≠ 1 → O q = some (.inr (ci, fs, ar)) → O1 q = some (.inr (ci, fs, ar)) := by
    intro q ci fs ar n0 n1 hq
    exact hkp q _ (o_ne hq h1 n0) (fun e => n1 (hpn ci fs ar (by rw [← e]; exact hq))) hq
  have kr : ∀ i q x, i ≠ 26 + k → rol ad g i = some q → (∃ fs ar, O q = some (.inr (1, fs, ar))) → O q = some x → O1 q = some x := by
    intro i q x n0 hi ⟨fs, ar, hc⟩ hq
    exact hkp q x (o_ne hc h1 (by decide)) (fun e => hpr i n0 (by rw [← e]; exact hi)) hq
  have hm : kpM O O1 := fun b ci fs ar h8 hb => kc b ci fs ar (by omega) (by omega) hb
  refine CIx.iff.mpr ⟨hN', h2, h3, h4.kp (fun q fs ar => kc q 5 fs ar (by decide) (by decide)) e0 rfl rfl rfl, ?_, ?_, ?_, hP.kp (fun j q x hj hq hx => ?_) e6 (fun a ha ha2 => ⟨a, ha, ha2, Nat.le_refl a⟩) rfl, ?_, hT.kp (fun q fs ar => kc q 2 fs ar (by decide) (by decide)) rfl rfl⟩
  · intro i j q hi hj
    rw [rol_im hk e6 e8] at hi hj
    by_cases a1 : i = 26 + k
    · by_cases a2 : j = 26 + k
      · omega
      · rw [if_pos a1] at hi
        rw [if_neg a2] at hj
        cases hi
        exact absurd hj (hpr j a2)
    · by_cases a2 : j = 26 + k
      · rw [if_pos a2] at hj
        rw [if_neg a1] at hi
        cases hj
        exact absurd hi (hpr i a1)
      · rw [if_neg a1] at hi
        rw [if_neg a2] at hj
        exact hrr i j q hi hj
  · obtain ⟨_, _, _, _, _, _, c4, -⟩ := id hR
    exact hR.kp (fun x hx => kr 0 _ x (by omega) rfl ⟨_, _, c4⟩ hx) hm
  · obtain ⟨_, _, _, c5⟩ := id hA
    exact hA.kp (fun x hx => kr 1 _ x (by omega) rfl ⟨_, _, c5⟩ hx)
  · obtain ⟨n, hn, hn2⟩ := h8
    obtain ⟨pv, pd, pw, z1, -⟩ := (hP n hn hn2 j hj).2 q hq
    exact kr (j + 2) q x (by omega) (rol_p hj hq) ⟨_, _, z1⟩ hx
  · intro j hj
    rw [e8]
    by_cases e : j = k
    · subst e
      rw [va_up_self]
      refine ⟨⟨fun q => (by cases q), fun q => ?_⟩, fun q hq => ?_⟩
      · rw [wup_s, upd_s] at q
        exact absurd q (by decide)
      · cases hq
        refine hRI.cg (fun i hi => ?_)
        rw [wup_n (by decide)]
        unfold wseg
        rw [if_pos rfl, if_pos (by omega)]
        congr 1
        omega
    · rw [va_up_ne _ _ e]
      refine ⟨?_, fun q hq => ?_⟩
      · rw [wup_s, upd_n e]
        exact (hI j hj).1
      · have hq' := (hI j hj).2 q hq
        obtain ⟨_, _, _, _, _, _, c4, -⟩ := id hq'
        refine (hq'.kp (fun x hx => kr (j + 26) q x (by omega) (rol_i hj hq) ⟨_, _, c4⟩ hx) hm).cg (fun i hi => ?_)
        rw [wup_n (by decide)]
        unfold wseg
        rw [if_pos rfl, if_neg (by omega)]
end CI1
section CX11
variable (l : Launch) (κ : Nat → Nat) (O : gO) (no : Nat) (v : Nat → Int32) (w : Nat → Nat → Int32)
theorem cx_image (hI : INV v w) (hC : CI κ O no v w) (x : Int32) : cX l κ yX0_image (ws_ yX0_image cX0_image 2 (some .int)) [.int x] O no (op_image v w x) := by
  obtain ⟨cv, ad, g, cw, rx, rd, rw, mm, kd, mv, n, tm, nt, hx, hN, hR, hro, hmv, hm, ⟨en, hn⟩, ⟨et, ht⟩, ⟨ent, hnt⟩, hto, hmo, hbd⟩ := CI.un hI hC
  obtain ⟨q1, q2, q3, h4, hrr, q5, q6, q7, hIm, q8⟩ := CIx.iff.mp hx
  have e0 : w 5 0 = rx 0 := hro.1
  unfold op_image
  by_cases hb : 0 ≤ x ∧ x ≤ 1
  · rw [if_neg (not_not_intro hb)]
    by_cases h0 : 0 < rx 0
    · rw [if_neg (not_not_intro (by rw [e0]; exact h0))]
      obtain ⟨k, hk, rfl⟩ := in_nI (N := 1) (b := 1) rfl rfl hb
      rw [iN_nI (by omega)]
      cases hg : g 8 k with
      | none =>
        refine (cn_imageB l κ O no cv ad g cw rx rd rw k hN hR (by omega) h0 hg).cx (Nat.le_of_ble_eq_true rfl) (Nat.le_of_ble_eq_true rfl) (Nat.le_of_ble_eq_true rfl) (Nat.le_of_ble_eq_true rfl) (fun rv O1 hp => ?_)
        obtain ⟨r1, pq, pd, z1, z2, z3, rfl⟩ := hp
        have hnp : no ≠ pq := fun e => by rw [e, z1] at hN; cases hN
        have hnd : no ≠ pd 8 := fun e => by rw [e, z2] at hN; cases hN
        have hk3 : kp3 O (oup (oup (oup O (pd 8) (lsU 0 (κ 0) 0 aNo)) pq (rdU rx (updN pd 8 (rd 8)) (becW (fun _ _ => 0) rw))) no (nsU cv ad (gput g 8 (va_up (g 8) k (some pq))) cw)) := by
          refine ((kp3.new z2).tr (kp3.new (by rw [oup_n z3]; exact z1))).tr (kp3.up (a := no) (by rw [oup_n hnp, oup_n hnd]; exact hN) (by decide))
        have hkM : kpM O (oup (oup (oup O (pd 8) (lsU 0 (κ 0) 0 aNo)) pq (rdU rx (updN pd 8 (rd 8)) (becW (fun _ _ => 0) rw))) no (nsU cv ad (gput g 8 (va_up (g 8) k (some pq))) cw)) := by
          intro b ci fs ar h8 hb'
          rw [oup_n (o_ne hb' hN (by omega)), oup_n (fun e => by rw [e, z1] at hb'; cases hb'), oup_n (fun e => by rw [e, z2] at hb'; cases hb')]
          exact hb'
        refine ⟨r1, (CIx.img (O1 := oup (oup (oup O (pd 8) (lsU 0 (κ 0) 0 aNo)) pq (rdU rx (updN pd 8 (rd 8)) (becW (fun _ _ => 0) rw))) no (nsU cv ad (gput g 8 (va_up (g 8) k (some pq))) cw)) (g' := gput g 8 (va_up (g 8) k (some pq))) (pq := pq) hx hI.a (by omega : k < 2) (gput_n (by decide)) (gput_n (by decide)) (gput_s _ _ _) (oup_s _ _ _) (fun b x hb1 hb2 hb3 => ?_) (fun ci fs ar e => by rw [z1] at e; cases e) (fun i _ e => ?_) ?_).ci.agr vA.z wA.rf, hk3⟩
        · rw [oup_n hb1, oup_n hb2, oup_n (fun e => by rw [e, z2] at hb3; cases hb3)]
          exact hb3
        · obtain ⟨_, _, _, z⟩ := hx.rol1 hI.a e
          rw [z1] at z
          cases z
        · refine ⟨rx, updN pd 8 (rd 8), becW (fun _ _ => 0) rw, mm, kd, mv, ?_, rdR_bec hro, hmv.kp hkM⟩
          rw [oup_n (fun e => hnp e.symm), oup_s]
      | some pq =>
        obtain ⟨pv, pd, pw, m2, kd2, mv2, z1, -⟩ := (hIm k (by omega)).2 pq hg
        have hne : ad 4 ≠ pq := hrr.ne (i := 0) (j := k + 26) rfl (rol_i (by omega) hg) (by omega)
        have hnp : no ≠ pq := o_ne hN z1 (by decide)
        refine (cn_imageA l κ O no cv ad g cw rx rd rw pq pv pd pw k hN hR z1 hne (by omega) h0 hg).cx (Nat.le_of_ble_eq_true rfl) (Nat.le_of_ble_eq_true rfl) (Nat.le_of_ble_eq_true rfl) (Nat.le_of_ble_eq_true rfl) (fun rv O1 hp => ?_)
        obtain ⟨r1, rfl⟩ := hp
        refine ⟨r1, (CIx.img (O1 := oup O pq (rdU rx (updN pd 8 (rd 8)) (becW pw rw))) (g' := g) (pq := pq) hx hI.a (by omega : k < 2) rfl rfl ?_ (by rw [oup_n hnp]; exact hN) (fun b x hb1 hb2 hb3 => by rw [oup_n hb2]; exact hb3) (fun ci fs ar e => ?_) (fun i hi e => ?_) ?_).ci.agr vA.z wA.rf, kp3.up z1 (by decide)⟩
        · funext j
          by_cases e : j = k
          · rw [e, va_up_self, hg]
          · rw [va_up_ne _ _ e]
        · rw [z1] at e
          simp only [Option.some.injEq, Sum.inr.injEq, Prod.mk.injEq] at e
          exact e.1.symm
        · exact hi (by have := hrr i (k + 26) pq e (rol_i (by omega) hg); omega)
        · exact ⟨rx, updN pd 8 (rd 8), becW pw rw, mm, kd, mv, oup_s _ _ _, rdR_bec hro, hmv.kp (kpM.up z1 (by decide))⟩
    · rw [if_pos (by rw [e0]; exact h0)]
      exact (cn_imageR l κ O no cv ad g cw rx rd rw x hN hR hb h0).cx (Nat.le_of_ble_eq_true rfl) (Nat.le_of_ble_eq_true rfl) (Nat.le_of_ble_eq_true rfl) (Nat.le_of_ble_eq_true rfl) (fun rv O1 hp => same_ci hC hp)
  · rw [if_pos hb]
    exact (cn_imageX l κ O no cv ad g cw x hN hb).cx (Nat.le_of_ble_eq_true rfl) (Nat.le_of_ble_eq_true rfl) (Nat.le_of_ble_eq_true rfl) (Nat.le_of_ble_eq_true rfl) (fun rv O1 hp => same_ci hC hp)
theorem cx_road (hI : INV v w) (hC : CI κ O no v w) : cX l κ yX0_road (wsW_ yX0_road cX0_road 3 (some .int) [(21, 25, 28, 145)]) [] O no (op_road v w) := by
  obtain ⟨cv, ad, g, cw, rx, rd, rw, mm, kd, mv, n, tm, nt, hx, hN, hR, hro, hmv, hm, ⟨en, hn⟩, ⟨et, ht⟩, ⟨ent, hnt⟩, hto, hmo, hbd⟩ := CI.un hI hC
  obtain ⟨q1, q2, q3, h4, hrr, q5, hA, q7, hIm, q8⟩ := CIx.iff.mp hx
  obtain ⟨tx, td, tw, c5⟩ := id hA
  obtain ⟨L, eL, hL, hT⟩ := hI.2.1
  have hd : ad 5 ≠ ad 4 := hrr.ne (i := 1) (j := 0) rfl rfl (by decide)
  have hn5 : ad 5 ≠ no := o_ne c5 hN (by decide)
  have hrv := RV.T (w 9) L (upd v 0 0) (w 6)
  unfold op_road
  rw [eL, iN_nI (by omega)]
  obtain ⟨T, eT⟩ : ∃ T, T = rdT (w 9) L (upd v 0 0) (w 6) := ⟨_, rfl⟩
  obtain ⟨F, eF⟩ : ∃ F, F = (rdM (w 9) L (upd v 0 0) (w 6)).2 := ⟨_, rfl⟩
  rw [← eT] at hrv
  rw [← eT, ← eF]
  obtain ⟨r1, r10, r11, r19, r17⟩ := hrv
  have k3 : ∀ {S : List Nat} {O1 : gO}, kpL O O1 S → (∀ b, b ∈ S → b = no ∨ b = ad 4) → kp3 O O1 := by
    intro S O1 hk hS a fs ar ha
    refine hk a _ (fun hm => ?_) ha
    rcases hS a hm with e | e
    · exact o_ne ha hN (by decide) e
    · exact o_ne ha hR (by decide) e
  by_cases hbad : T 17 = 0
  · rw [if_neg (by rw [hbad]; decide)]
    refine (cn_road l κ O no cv ad g cw rx rd rw (w 9) L (upd v 0 0) (w 6) F hN hR (q2.1.trans eL) hL eL (q3 L eL hL) hT (by rw [← eT]; exact hbad) eF.symm).cx (Nat.le_of_ble_eq_true rfl) (Nat.le_of_ble_eq_true rfl) (Nat.le_of_ble_eq_true rfl) (Nat.le_of_ble_eq_true rfl) (fun rv O1 hp => ?_)
    obtain ⟨p1, p2, p3, p4⟩ := hp
    refine ⟨p1, ?_, k3 p4 (fun b hb => by simpa using hb)⟩
    refine (CIx.upS (O1 := O1) (v' := upd T 8 0) (w' := wseg (wput w 6 F) 5 0 94 F) hx hI.a (fun b x hb hbx => p4 b x (fun hm => hb ?_) hbx) p2 ⟨?_, ?_, rfl, ?_⟩ ?_ (p3.cg (fun i hi => ?_)) (hA.kp (fun x hx' => p4 _ _ ?_ hx')) (fun a ha ha2 => ?_) ?_ rfl rfl rfl rfl rfl rfl rfl).ci
    · simp only [List.mem_cons, List.not_mem_nil, or_false] at hm ⊢
      rcases hm with e | e
      · exact Or.inl e
      · exact Or.inr (Or.inl e)
    · exact r10.symm
    · exact q2.2.1.trans r11.symm
    · exact q2.2.2.2.trans (r1 1 (by omega)).symm
    · intro T0 hT0 _ j hj
      rw [upd_n (by decide), r10] at hT0
      have : T0 < 2 ^ 31 := by omega
      exact absurd (neq_t (a := 0) (b := T0) hT0) (by omega)
    · unfold wseg
      rw [if_pos rfl, if_pos (by omega), Nat.sub_zero]
    · simp only [List.mem_cons, List.not_mem_nil, or_false, not_or]
      exact ⟨hn5, hd⟩
    · obtain ⟨a0, ea, ha0⟩ := hI.a
      exact ⟨a0, ea, ha0, by
        rw [upd_s] at ha
        have := neq_t (a := 0) (b := a) ha
        omega⟩
    · rw [upd_n (by decide), r19 25 (by omega)]; rfl
  · have hpos : 0 < T 17 := by
      rcases Int32.lt_or_eq_of_le r17 with q | q
      · exact q
      · exact absurd q.symm hbad
    rw [if_pos hpos]
    refine (cn_roadT l κ O no cv ad g cw rx rd rw (w 9) L (upd v 0 0) (w 6) (T 17) (T 18) hN hR (q2.1.trans eL) hL eL (q3 L eL hL) hT (by rw [← eT]; exact hbad) (by rw [← eT]) (by rw [← eT])).cx (Nat.le_of_ble_eq_true rfl) (Nat.le_of_ble_eq_true rfl) (Nat.le_of_ble_eq_true rfl) (Nat.le_of_ble_eq_true rfl) (fun rv O1 hp => ?_)
    obtain ⟨p1, p2, p4⟩ := hp
    refine ⟨p1, ?_, k3 p4 (fun b hb => Or.inl (by simpa using hb))⟩
    have hn4 : ad 4 ≠ no := o_ne hR hN (by decide)
    refine (CIx.upS (O1 := O1) (v' := upd T 11 (T 17)) (w' := wput w 6 F) hx hI.a (fun b x hb hbx => p4 b x (fun hm => hb ?_) hbx) p2 ⟨?_, ?_, ?_, ?_⟩ ?_ (q5.kp (fun x hx' => p4 _ _ ?_ hx') (fun b ci fs ar h8 hb => p4 b _ ?_ hb)) (hA.kp (fun x hx' => p4 _ _ ?_ hx')) (fun a ha ha2 => ?_) ?_ rfl rfl rfl rfl rfl rfl rfl).ci
    · simp only [List.mem_cons, List.not_mem_nil, or_false] at hm ⊢
      exact Or.inl hm
    · exact r10.symm
    · rfl
    · exact q2.2.2.1.trans (r1 8 (by omega)).symm
    · exact q2.2.2.2.trans (r1 1 (by omega)).symm
    · intro T0 hT0 _ j hj
      rw [upd_n (by decide), r10] at hT0
      exact absurd (neq_t (a := 0) (b := T0) hT0) (by omega)
    · simpa using hn4
    · simpa using o_ne hb hN (by omega)
    · simpa using hn5
    · rw [upd_n (by decide), r1 8 (by omega)] at ha
      exact ⟨a, ha, ha2, Nat.le_refl a⟩
    · rw [upd_n (by decide), r19 25 (by omega)]; rfl
end CX11
