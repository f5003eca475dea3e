/-! The public calls that change the road. -/
set_option maxRecDepth 100000
section C2
variable {κ : Nat → Nat} {O O1 : gO} {no : Nat} {v v' : Nat → Int32} {w w' : Nat → Nat → Int32} {cv cv' : Nat → Int32} {ad : Nat → Nat} {g g' : Nat → Nat → Option Nat} {cw cw' : Nat → Nat → Int32}
theorem anyR.kp {q : Nat} (h : anyR O q) (hk : ∀ x, O q = some x → O1 q = some x) : anyR O1 q := by
  obtain ⟨a, b, c, h⟩ := h
  exact ⟨a, b, c, hk _ h⟩
/-- the road becomes another one -/
theorem CIx.rd4 (h : CIx κ O no v w cv ad g cw) (h8 : ∃ a : Nat, v 8 = nI a ∧ a ≤ 24) {rx' : Nat → Int32} {rd' : Nat → Nat} {rw' : Nat → Nat → Int32} {mm : Nat} {kd : Nat → Nat} {mv : Nat → Nat → Int32} (hr : rdR (w' 5) rx' rw' mm kd mv) (hm : mvs κ O (rd' 8) mm kd mv) (e2 : w' 2 = w 2) (e3 : w' 3 = w 3) (e4 : w' 4 = w 4) (e7 : w' 7 = w 7) (e9 : w' 9 = w 9) (e22 : w' 22 = w 22) (e23 : w' 23 = w 23) (e24 : w' 24 = w 24) : CIx κ (oup O (ad 4) (rdU rx' rd' rw')) no v w' cv ad g cw := by
  obtain ⟨h1, h2, h3, h4, hrr, hR, hA, hP, hI, hT⟩ := CIx.iff.mp h
  obtain ⟨x0, x1, x2, x3, x4, x5, c4, -⟩ := hR
  have hd : ad 5 ≠ ad 4 := hrr.ne (i := 1) (j := 0) rfl rfl (by decide)
  refine h.upS h8 ?_ ?_ h2 ?_ ⟨rx', rd', rw', mm, kd, mv, oup_s _ _ _, hr, hm.kp (kpM.up c4 (by decide))⟩ (hA.kp (fun x hx => by rw [oup_n hd]; exact hx)) (fun a ha ha2 => ⟨a, ha, ha2, Nat.le_refl a⟩) rfl e2 e3 e4 e7 e22 e23 e24
  · intro b x hb hx
    simp only [List.mem_cons, List.not_mem_nil, or_false, not_or] at hb
    rw [oup_n hb.2.1]
    exact hx
  · rw [oup_n (o_ne h1 c4 (by decide))]; exact h1
  · unfold ciA; rw [e9]; exact h3
/-- the component's own numbers become others -/
theorem CIx.cvw (h : CIx κ O no v w cv ad g cw) (h8 : ∃ a : Nat, v 8 = nI a ∧ a ≤ 24) (h2' : ciV cv' v') (h3' : ciA cw' v' w') (e8 : ∀ a : Nat, v' 8 = nI a → a ≤ 24 → ∃ a0 : Nat, v 8 = nI a0 ∧ a0 ≤ 24 ∧ a ≤ a0) (e25 : v' 25 = v 25) (e2 : w' 2 = w 2) (e3 : w' 3 = w 3) (e4 : w' 4 = w 4) (e5 : w' 5 = w 5) (e7 : w' 7 = w 7) (e22 : w' 22 = w 22) (e23 : w' 23 = w 23) (e24 : w' 24 = w 24) : CIx κ (oup O no (nsU cv' ad g cw')) no v' w' cv' ad g cw' := by
  obtain ⟨h1, h2, h3, h4, hrr, hR, hA, hP, hI, hT⟩ := CIx.iff.mp h
  have c4 := hR
  obtain ⟨x0, x1, x2, x3, x4, x5, c4, -⟩ := c4
  have c5 := hA
  obtain ⟨y0, y1, y2, c5⟩ := c5
  refine h.upS h8 ?_ (oup_s _ _ _) h2' h3' ?_ (hA.kp (fun x hx => by rw [oup_n (o_ne c5 h1 (by decide))]; exact hx)) e8 e25 e2 e3 e4 e7 e22 e23 e24
  · intro b x hb hx
    simp only [List.mem_cons, List.not_mem_nil, or_false, not_or] at hb
    rw [oup_n hb.1]
    exact hx
  · rw [e5]
    exact hR.kp (fun x hx => by rw [oup_n (o_ne c4 h1 (by decide))]; exact hx) (kpM.up h1 (by decide))
/-- the status alone -/
theorem CIx.st (h : CIx κ O no v w cv ad g cw) (h8 : ∃ a : Nat, v 8 = nI a ∧ a ≤ 24) (x : Int32) : CIx κ (oup O no (nsU (upd cv 10 x) ad g cw)) no (upd v 1 x) w (upd cv 10 x) ad g cw :=
  h.cvw h8 ⟨h.2.1.1, h.2.1.2.1, h.2.1.2.2.1, rfl⟩ h.2.2.1 (fun a ha ha2 => ⟨a, ha, ha2, Nat.le_refl a⟩) rfl rfl rfl rfl rfl rfl rfl rfl rfl
/-- a new unit -/
theorem CIx.nw (h : CIx κ O no v w cv ad g cw) (h8 : ∃ a : Nat, v 8 = nI a ∧ a ≤ 24) {z : Nat} {u : gU} (hz : O z = none) : CIx κ (oup O z u) no v w cv ad g cw := by
  obtain ⟨h1, h2, h3, h4, hrr, hR, hA, hP, hI, hT⟩ := CIx.iff.mp h
  have hk : ∀ b x, O b = some x → oup O z u b = some x := by
    intro b x hb
    rw [oup_n (fun e => by rw [e, hz] at hb; cases hb)]
    exact hb
  exact h.upS h8 (fun b x _ hx => hk b x hx) (hk _ _ h1) h2 h3 (hR.kp (fun x hx => hk _ x hx) (kpM.new hz)) (hA.kp (fun x hx => hk _ x hx)) (fun a ha ha2 => ⟨a, ha, ha2, Nat.le_refl a⟩) rfl rfl rfl rfl rfl rfl rfl rfl
/-- the trial -/
theorem CIx.tr5 (h : CIx κ O no v w cv ad g cw) (h8 : ∃ a : Nat, v 8 = nI a ∧ a ≤ 24) {tx : Nat → Int32} {td : Nat → Nat} {tw : Nat → Nat → Int32} : CIx κ (oup O (ad 5) (rdU tx td tw)) no v w cv ad g cw := by
  obtain ⟨h1, h2, h3, h4, hrr, hR, hA, hP, hI, hT⟩ := CIx.iff.mp h
  obtain ⟨y0, y1, y2, c5⟩ := hA
  have hd : ad 4 ≠ ad 5 := hrr.ne (i := 0) (j := 1) rfl rfl (by decide)
  refine h.keep5 (fun b x hb hx => by rw [oup_n hb]; exact hx) ⟨tx, td, tw, oup_s _ _ _⟩
theorem INV.a (h : INV v w) : ∃ a : Nat, v 8 = nI a ∧ a ≤ 24 := by obtain ⟨⟨a, h1, h2, -⟩, -⟩ := h; exact ⟨a, h1, h2⟩
theorem CIx.k3no (h : CIx κ O no v w cv ad g cw) {u : gU} : kp3 O (oup O no u) := kp3.up h.1 (by decide)
theorem CIx.k34 (h : CIx κ O no v w cv ad g cw) {u : gU} : kp3 O (oup O (ad 4) u) := by
  obtain ⟨h1, h2, h3, h4, hrr, ⟨x0, x1, x2, x3, x4, x5, c4, -⟩, -⟩ := CIx.iff.mp h
  exact kp3.up c4 (by decide)
theorem CIx.k35 (h : CIx κ O no v w cv ad g cw) {u : gU} : kp3 O (oup O (ad 5) u) := by
  obtain ⟨h1, h2, h3, h4, hrr, -, ⟨y0, y1, y2, c5⟩, -⟩ := CIx.iff.mp h
  exact kp3.up c5 (by decide)
theorem CIx.ci (h : CIx κ O no v w cv ad g cw) : CI κ O no v w := CI.x.mpr ⟨cv, ad, g, cw, h⟩
end C2
theorem rdR.ct {ro ro' v f : Nat → Int32} {w : Nat → Nat → Int32} {mm : Nat} {kd : Nat → Nat} {mv : Nat → Nat → Int32} {x : Int32} (hm : mm ≤ 5) (h : rdR ro v w mm kd mv) (e : ∀ i, i < 46 → i ≠ 7 → ro' i = ro i) (e7 : ro' 7 = x) (et : ∀ q, q < 48 → ro' (46 + q) = f q) : rdR ro' (upd v 11 x) (wput w 10 f) mm kd mv := by
  obtain ⟨h0, h1, h2, h3, h4, h5, h6, h7, h8, h9, h10⟩ := h
  refine ⟨(e 0 (by omega) (by omega)).trans h0, (e 1 (by omega) (by omega)).trans h1, (e 2 (by omega) (by omega)).trans h2, (e 3 (by omega) (by omega)).trans h3, (e 4 (by omega) (by omega)).trans h4, (e 5 (by omega) (by omega)).trans h5, (e 6 (by omega) (by omega)).trans h6, e7, fun k hk => ?_, fun j hj => ?_, et⟩
  · rw [e _ (by omega) (by omega), e _ (by omega) (by omega), e _ (by omega) (by omega)]
    exact h8 k hk
  · rw [e _ (by omega) (by omega), e _ (by omega) (by omega), e _ (by omega) (by omega), e _ (by omega) (by omega)]
    exact h9 j hj
theorem rdR.ns {ro ro' v f : Nat → Int32} {w : Nat → Nat → Int32} {mm : Nat} {kd : Nat → Nat} {mv : Nat → Nat → Int32} {x : Int32} (hm : mm ≤ 5) (h : rdR ro v w mm kd mv) (e : ∀ i, i ≠ 6 → (∀ k, k < 6 → i ≠ 8 + 3 * k + 1) → ro' i = ro i) (e6 : ro' 6 = x) (ea : ∀ k, k < 6 → ro' (8 + 3 * k + 1) = f k) : rdR ro' (upd v 9 x) (wput w 6 f) mm kd mv := by
  obtain ⟨h0, h1, h2, h3, h4, h5, h6, h7, h8, h9, h10⟩ := h
  refine ⟨(e 0 (by omega) (by omega)).trans h0, (e 1 (by omega) (by omega)).trans h1, (e 2 (by omega) (by omega)).trans h2, (e 3 (by omega) (by omega)).trans h3, (e 4 (by omega) (by omega)).trans h4, (e 5 (by omega) (by omega)).trans h5, e6, (e 7 (by omega) (by omega)).trans h7, fun k hk => ?_, fun j hj => ?_, fun q hq => (e _ (by omega) (by omega)).trans (h10 q hq)⟩
  · rw [e (8 + 3 * k) (by omega) (by omega), e (8 + 3 * k + 2) (by omega) (by omega), ea k hk]
    exact ⟨(h8 k hk).1, rfl, (h8 k hk).2.2⟩
  · rw [e _ (by omega) (by omega), e _ (by omega) (by omega), e _ (by omega) (by omega), e _ (by omega) (by omega)]
    exact h9 j hj
section CX2
variable (l : Launch) (κ : Nat → Nat) (O : gO) (no : Nat) (v : Nat → Int32) (w : Nat → Nat → Int32)
theorem cx_forget (hI : INV v w) (hC : CI κ O no v w) : cX l κ yX0_forget (ws_ yX0_forget cX0_forget 2 (some .int)) [] O no (op_forget v w) := by
  obtain ⟨cv, ad, g, cw, rx, rd, rw, mm, kd, mv, n, tm, nt, hx, hN, hR, hro, hmv, hm, ⟨en, hn⟩, ⟨et, ht⟩, ⟨ent, hnt⟩, hto, hmo, hbd⟩ := CI.un hI hC
  refine (cn_forget l κ O no cv ad g cw rx rd rw hN hR).cx (Nat.le_of_ble_eq_true rfl) (Nat.le_of_ble_eq_true rfl) (Nat.le_of_ble_eq_true rfl) (Nat.le_of_ble_eq_true rfl) (fun rv O1 hp => ?_)
  obtain ⟨h1, rfl⟩ := hp
  have e7 : w 5 7 = rx 11 := hro.2.2.2.2.2.2.2.1
  refine ⟨by rw [h1, ← e7]; rfl, ?_, hx.k34⟩
  have hr' : rdR (upd (w 5) 7 0) (upd rx 11 0) (wput rw 10 (rw 10)) mm kd mv := hro.ct hm (fun i _ h7 => upd_n h7) rfl (fun q hq => by rw [upd_n (by omega)]; exact hro.2.2.2.2.2.2.2.2.2.2 q hq)
  rw [wput_self] at hr'
  have := hx.rd4 (w' := wup w 5 7 0) hI.a hr' hmv rfl rfl rfl rfl rfl rfl rfl rfl
  exact this.ci.agr vA.z wA.rf
theorem tmC_iff {n : Nat} (hn : n ≤ 6) {a b x t : Int32} : tmC (nI n) a b x t ↔ ((0 ≤ a ∧ a ≤ nI n - 1) ∧ (0 ≤ b ∧ b ≤ nI n - 1) ∧ a < b ∧ (1 ≤ x ∧ x ≤ 20) ∧ (0 ≤ t ∧ t ≤ 99)) := by
  unfold tmC
  constructor
  · rintro ⟨h1, h2, h3, h4⟩
    obtain ⟨i, hi, rfl⟩ := in_nI1 (by omega) h1
    rw [nI_1] at h2
    have hb : 0 ≤ b ∧ b ≤ nI n - 1 := ⟨Int32.le_trans (nI_pos' (by omega)) h2.1, h2.2⟩
    obtain ⟨j, hj, rfl⟩ := in_nI1 (by omega) hb
    have := nle_t h2.1
    exact ⟨h1, hb, (nI_ltI (by omega) (by omega)).mpr (by omega), h3, h4⟩
  · rintro ⟨h1, h2, h3, h4, h5⟩
    obtain ⟨i, hi, rfl⟩ := in_nI1 (by omega) h1
    obtain ⟨j, hj, rfl⟩ := in_nI1 (by omega) h2
    have := nlt_t h3
    refine ⟨h1, ⟨?_, h2.2⟩, h4, h5⟩
    rw [nI_1]
    exact (nI_leI (by omega) (by omega)).mpr (by omega)
theorem cx_time (hI : INV v w) (hC : CI κ O no v w) (x y z t : Int32) : cX l κ yX0_time (ws_ yX0_time cX0_time 5 (some .int)) [.int x, .int y, .int z, .int t] O no (op_time v w x y z t) := by
  obtain ⟨cv, ad, g, cw, rx, rd, rw, mm, kd, mv, n, tm, nt, hx, hN, hR, hro, hmv, hm, ⟨en, hn⟩, ⟨et, ht⟩, ⟨ent, hnt⟩, hto, hmo, hbd⟩ := CI.un hI hC
  obtain ⟨q1, q2, q3, q4, hrr, q5, ⟨tx, td, tw, c5⟩, q6⟩ := CIx.iff.mp hx
  have hd : ad 4 ≠ ad 5 := hrr.ne (i := 0) (j := 1) rfl rfl (by decide)
  have e4 : w 5 4 = nI n := hro.2.2.2.2.1.trans en
  have e7 : w 5 7 = nI tm := hro.2.2.2.2.2.2.2.1.trans et
  by_cases hb : tmC (rx 4) x y z t
  · have hb' := hb
    rw [en, tmC_iff hn, ← e4] at hb'
    by_cases h12 : tm = 12
    · refine (cn_time1 l κ O no cv ad g cw rx rd rw tx td tw hN hR c5 hd x y z t tm et ht hb h12).cx (Nat.le_of_ble_eq_true rfl) (Nat.le_of_ble_eq_true rfl) (Nat.le_of_ble_eq_true rfl) (Nat.le_of_ble_eq_true rfl) (fun rv O1 hp => ?_)
      obtain ⟨h1, td1, tw1, tx1, rfl⟩ := hp
      unfold op_time
      rw [if_neg (not_not_intro hb'), if_pos (by rw [e7, h12]; rfl)]
      exact ⟨h1, (hx.tr5 hI.a).ci.agr vA.z wA.rf, hx.k35⟩
    · refine (cn_time2 l κ O no cv ad g cw rx rd rw tx td tw hN hR c5 hd x y z t tm et ht hb (by omega)).cx (Nat.le_of_ble_eq_true rfl) (Nat.le_of_ble_eq_true rfl) (Nat.le_of_ble_eq_true rfl) (Nat.le_of_ble_eq_true rfl) (fun rv O1 hp => ?_)
      obtain ⟨h1, td1, tw1, tx1, rfl⟩ := hp
      unfold op_time
      rw [if_neg (not_not_intro hb'), if_neg (by rw [e7]; intro q; exact h12 (neq_t (b := 12) q))]
      have hx5 := hx.tr5 hI.a (tx := tx1) (td := td1) (tw := tw1)
      have e5 : addT w x y z t 5 = upd (upd (upd (upd (upd (w 5) (46 + 4 * tm) x) (46 + 4 * tm + 1) y) (46 + 4 * tm + 2) z) (46 + 4 * tm + 3) t) 7 (nI tm + 1) := by
        unfold addT
        rw [wup_s, wup_s, wup_s, wup_s, wup_s, e7, iN_nI (by omega)]
      have hr' : rdR (addT w x y z t 5) (upd rx 11 (nI tm + 1)) (wput rw 10 (adC (rw 10) tm x y z t)) mm kd mv := by
        refine hro.ct hm (fun i hi h7 => addT_lo hi h7) (by rw [addT_7, e7]) (fun q hq => ?_)
        rw [e5, upd_n (by omega)]
        have hq0 := hro.2.2.2.2.2.2.2.2.2.2 q hq
        unfold adC upd
        repeat' split
        all_goals first | omega | rfl | exact hq0
      refine ⟨by rw [h1, e7], ?_, hx.k35.tr hx5.k34⟩
      have := hx5.rd4 (w' := addT w x y z t) hI.a hr' (hmv.kp (kpM.up c5 (by decide))) (addT_o (by decide)) (addT_o (by decide)) (addT_o (by decide)) (addT_o (by decide)) (addT_o (by decide)) (addT_o (by decide)) (addT_o (by decide)) (addT_o (by decide))
      exact this.ci.agr vA.z wA.rf
  · have hb' := hb
    rw [en, tmC_iff hn, ← e4] at hb'
    refine (cn_time0 l κ O no cv ad g cw rx rd rw tx td tw hN hR c5 hd x y z t tm et ht hb).cx (Nat.le_of_ble_eq_true rfl) (Nat.le_of_ble_eq_true rfl) (Nat.le_of_ble_eq_true rfl) (Nat.le_of_ble_eq_true rfl) (fun rv O1 hp => ?_)
    obtain ⟨h1, td1, tw1, tx1, rfl⟩ := hp
    unfold op_time
    rw [if_pos hb']
    exact ⟨h1, (hx.tr5 hI.a).ci.agr vA.z wA.rf, hx.k35⟩
theorem cx_undo (hI : INV v w) (hC : CI κ O no v w) : cX l κ yX0_undo (ws_ yX0_undo cX0_undo 1 (some .int)) [] O no (op_undo v w) := by
  obtain ⟨cv, ad, g, cw, rx, rd, rw, mm, kd, mv, n, tm, nt, hx, hN, hR, hro, hmv, hm, ⟨en, hn⟩, ⟨et, ht⟩, ⟨ent, hnt⟩, hto, hmo, hbd⟩ := CI.un hI hC
  obtain ⟨q1, q2, q3, q4, hrr, q5, q6, hP, q7⟩ := CIx.iff.mp hx
  obtain ⟨a, ea, ha⟩ := hI.a
  have e7 : cv 7 = v 8 := q2.2.2.1
  rcases Nat.eq_zero_or_pos a with h0 | h0
  · subst h0
    refine (cn_undo0 l κ O no cv ad g cw hN (e7.trans ea)).cx (Nat.le_of_ble_eq_true rfl) (Nat.le_of_ble_eq_true rfl) (Nat.le_of_ble_eq_true rfl) (Nat.le_of_ble_eq_true rfl) (fun rv O1 hp => ?_)
    unfold op_undo
    rw [if_pos (show v 8 = 0 from ea)]
    exact same_ci hC hp
  · obtain ⟨b, rfl⟩ : ∃ b, a = b + 1 := ⟨a - 1, by omega⟩
    obtain ⟨pq, hg⟩ : ∃ pq, g 6 b = some pq := by
      cases hb : g 6 b with
      | none => exact absurd ((hP (b + 1) ea ha b (by omega)).1 hb) (by omega)
      | some q => exact ⟨q, rfl⟩
    obtain ⟨pv, pd, pw, z1, z2⟩ := (hP (b + 1) ea ha b (by omega)).2 pq hg
    obtain ⟨z3, z4⟩ := z2 (by omega)
    have hne : ad 4 ≠ pq := hrr.ne (i := 0) (j := b + 2) rfl (rol_p (by omega) hg) (by omega)
    refine (cn_undo l κ O no cv ad g cw rx rd rw b pq pv pd pw hN hR (e7.trans ea) (by omega) hg z1 hne).cx (Nat.le_of_ble_eq_true rfl) (Nat.le_of_ble_eq_true rfl) (Nat.le_of_ble_eq_true rfl) (Nat.le_of_ble_eq_true rfl) (fun rv O1 hp => ?_)
    obtain ⟨h1, rfl⟩ := hp
    unfold op_undo
    have e8 : v 8 - 1 = nI b := by rw [ea, nI_pred]
    rw [if_neg (by rw [ea]; intro q; exact absurd (neq_t (a := b + 1) (b := 0) q) (by omega)), e8, iN_nI (by omega)]
    have hw5 : (wup (wst w 6 (fun k => w 7 (7 * b + k))) 5 6 (w 7 (7 * b + 6))) 5 = upd (wst w 6 (fun k => w 7 (7 * b + k)) 5) 6 (w 7 (7 * b + 6)) := wup_s _ _ _ _
    have hr' : rdR ((wup (wst w 6 (fun k => w 7 (7 * b + k))) 5 6 (w 7 (7 * b + 6))) 5) (upd rx 9 (pv 9)) (wput rw 6 (pw 6)) mm kd mv := by
      rw [hw5]
      refine hro.ns hm (fun i h6 hk => ?_) (by rw [upd_s, z3]) (fun k hk => ?_)
      · rw [upd_n h6]
        unfold wst
        rw [if_pos rfl, if_neg]
        rintro ⟨u1, u2, u3⟩
        exact hk ((i - 9) / 3) (by omega) (by omega)
      · rw [upd_n (by omega), z4 k hk]
        unfold wst
        rw [if_pos rfl, if_pos (by omega)]
        congr 2
        omega
    have hx4 := hx.rd4 (w' := wup (wst w 6 (fun k => w 7 (7 * b + k))) 5 6 (w 7 (7 * b + 6))) hI.a hr' hmv rfl rfl rfl rfl rfl rfl rfl rfl
    refine ⟨h1, ?_, hx.k34.tr hx4.k3no⟩
    have := hx4.cvw (cv' := upd cv 7 (nI b)) (v' := upd (upd v 0 0) 8 (nI b)) (w' := wup (wst w 6 (fun k => w 7 (7 * b + k))) 5 6 (w 7 (7 * b + 6))) hI.a ⟨q2.1, q2.2.1, rfl, q2.2.2.2⟩ hx4.2.2.1 (fun a ha' ha2 => ⟨b + 1, ea, ha, by have := neq_t (a := b) (b := a) ha'; omega⟩) rfl rfl rfl rfl rfl rfl rfl rfl rfl
    exact this.ci
end CX2
