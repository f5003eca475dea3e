/-! row, set, drop. -/
set_option maxRecDepth 100000
section C4
variable {κ : Nat → Nat} {O O1 : gO} {no : Nat} {v v' : Nat → Int32} {w w' : Nat → Nat → Int32} {cv cv' : Nat → Int32} {ad : Nat → Nat} {g g' : Nat → Nat → Option Nat} {cw cw' : Nat → Nat → Int32}
theorem ciR.up (h : ciR O g w) {j : Nat} (hk : ∀ i q x, i < 8 → i ≠ j → g 0 i = some q → O q = some x → O1 q = some x) (e2 : ∀ i, i ≠ j → w' 2 i = w 2 i) (e3 : ∀ i, i ≠ j → w' 3 i = w 3 i) (e4 : ∀ i k, i ≠ j → k < 40 → w' 4 (40 * i + k) = w 4 (40 * i + k)) (eg : ∀ i, i ≠ j → g' 0 i = g 0 i) (hj : (g' 0 j = none → w' 2 j < 0) ∧ ∀ q, g' 0 j = some q → rwI O1 q w' j) (hinj : ∀ i q, i < 8 → i ≠ j → g 0 i = some q → g' 0 j ≠ some q) : ciR O1 g' w' := by
  refine ⟨fun i hi => ?_, fun i k q hi hk' h1 h2 => ?_⟩
  · by_cases e : i = j
    · subst e; exact hj
    · rw [eg i e]
      refine ⟨fun q => by rw [e2 i e]; exact (h.1 i hi).1 q, fun q hq => ?_⟩
      obtain ⟨x0, b0, n0, f0, z1, z2, z3, z4, z5, z6⟩ := (h.1 i hi).2 q hq
      exact ⟨x0, b0, n0, f0, hk i q _ hi e hq z1, by rw [e2 i e]; exact z2, z3, by rw [e3 i e]; exact z4, z5, fun k hk' => by rw [e4 i k e (by omega)]; exact z6 k hk'⟩
  · by_cases e : i = j
    · by_cases e' : k = j
      · rw [e, e']
      · subst e
        rw [eg k e'] at h2
        exact absurd h1 (hinj k q hk' e' h2)
    · by_cases e' : k = j
      · subst e'
        rw [eg i e] at h1
        exact absurd h2 (hinj i q hi e h1)
      · rw [eg i e] at h1
        rw [eg k e'] at h2
        exact h.2 i k q hi hk' h1 h2
/-- the rows become others -/
theorem CIx.rows (h : CIx κ O no v w cv ad g cw) (h8 : ∃ a : Nat, v 8 = nI a ∧ a ≤ 24) (hk : ∀ (q ci : Nat) (fs : List Value) (ar : gA), ci ≠ 0 → ci ≠ 5 → O q = some (.inr (ci, fs, ar)) → O1 q = some (.inr (ci, fs, ar))) (hN' : O1 no = some (nsU cv' ad g' cw)) (h2' : ciV cv' v') (eg6 : g' 6 = g 6) (eg8 : g' 8 = g 8) (hR' : ciR O1 g' w') (e10 : v' 10 = v 10) (e8 : v' 8 = v 8) (e25 : v' 25 = v 25) (e5 : w' 5 = w 5) (e7 : w' 7 = w 7) (e9 : w' 9 = w 9) (e22 : w' 22 = w 22) (e23 : w' 23 = w 23) (e24 : w' 24 = w 24) : CIx κ O1 no v' w' cv' ad g' cw := by
  obtain ⟨h1, h2, h3, h4, hr, hR, hA, hP, hI, hT⟩ := CIx.iff.mp h
  have hm : kpM O O1 := fun b ci fs ar h8 hb => hk b ci fs ar (by omega) (by omega) hb
  have erol : rol ad g' = rol ad g := by
    funext i
    unfold rol
    rw [eg6, eg8]
  refine CIx.iff.mpr ⟨hN', h2', ?_, hR', ?_, ?_, ?_, hP.kp (fun j q x hj hq hx => ?_) eg6 (fun a ha ha2 => ⟨a, by rw [← e8]; exact ha, ha2, Nat.le_refl a⟩) e7, hI.kp (fun j q x hj hq hx => ?_) hm eg8 e22 e23, hT.kp (fun q fs ar => hk q 2 fs ar (by decide) (by decide)) e25 e24⟩
  · unfold ciA; rw [e10, e9]; exact h3
  · unfold ciD; rw [erol]; exact hr
  · rw [e5]
    obtain ⟨x0, x1, x2, x3, x4, x5, c4, z⟩ := hR
    exact ⟨x0, x1, x2, x3, x4, x5, hk _ 1 _ _ (by decide) (by decide) c4, z.1, z.2.kp hm⟩
  · obtain ⟨y0, y1, y2, c5⟩ := hA
    exact ⟨y0, y1, y2, hk _ 1 _ _ (by decide) (by decide) c5⟩
  · obtain ⟨n, hn, hn2⟩ := h8
    obtain ⟨pv, pd, pw, z1, -⟩ := (hP n hn hn2 j hj).2 q hq
    rw [z1] at hx
    cases hx
    exact hk _ 1 _ _ (by decide) (by decide) z1
  · obtain ⟨x0, x1, x2, x3, x4, x5, z1, -⟩ := (hI j hj).2 q hq
    rw [z1] at hx
    cases hx
    exact hk _ 1 _ _ (by decide) (by decide) z1
/-- a finding is made, and the status told -/
theorem found_ci {z : Nat} {x r : Int32} {rv : Option Value} (h : CIx κ O no v w cv ad g cw) (h8 : ∃ a : Nat, v 8 = nI a ∧ a ≤ 24) (hp : rv = some (.int r) ∧ ∃ z, O z = none ∧ O1 = oup (oup O z (fnU x)) no (nsU (upd cv 10 x) ad g cw)) (hv : vA (upd v 1 x) v') : rv = some (.int r) ∧ CI κ O1 no v' w ∧ kp3 O O1 := by
  obtain ⟨h1, z, hz, rfl⟩ := hp
  have hx1 := h.nw h8 (u := fnU x) hz
  exact ⟨h1, (hx1.st h8 x).ci.agr hv wA.rf, (kp3.new hz).tr hx1.k3no⟩
end C4
theorem vA.s2 {v : Nat → Int32} {x : Int32} : vA (upd v 1 x) (upd (upd (upd v 0 0) 1 0) 1 x) := ⟨rfl, rfl, rfl, rfl, rfl⟩
theorem vA.s1 {v : Nat → Int32} {x : Int32} : vA (upd v 1 x) (upd (upd v 0 0) 1 x) := ⟨rfl, rfl, rfl, rfl, rfl⟩
section CX4
variable (l : Launch) (κ : Nat → Nat) (O : gO) (no : Nat) (v : Nat → Int32) (w : Nat → Nat → Int32)
theorem cx_drop (hI : INV v w) (hC : CI κ O no v w) (x : Int32) : cX l κ yX0_drop (wsW_ yX0_drop cX0_drop 3 (some .int) [(10, 32, 33, 71)]) [.int x] O no (op_drop v w x) := by
  obtain ⟨cv, ad, g, cw, hx⟩ := CI.x.mp hC
  obtain ⟨h1, h2, h3, h4, hrr, hR, hA, hP, hI2, hT⟩ := CIx.iff.mp hx
  unfold op_drop
  by_cases hb : 0 ≤ x ∧ x ≤ 7
  · rw [if_neg (not_not_intro hb)]
    obtain ⟨j, hj, rfl⟩ := in_nI (N := 7) (b := 7) rfl rfl hb
    rw [iN_nI (by omega)]
    cases hg : g 0 j with
    | none =>
      rw [if_pos ((h4.1 j (by omega)).1 hg)]
      exact (cn_dropT l κ O no cv ad g cw j h1 (by omega) hg).cx (Nat.le_of_ble_eq_true rfl) (Nat.le_of_ble_eq_true rfl) (Nat.le_of_ble_eq_true rfl) (Nat.le_of_ble_eq_true rfl) (fun rv O1 hp => found_ci (z := 0) hx hI.a hp vA.s2)
    | some q =>
      obtain ⟨x0, b0, n0, f0, z1, z2, z3, z4, z5, z6⟩ := (h4.1 j (by omega)).2 q hg
      rw [if_neg (by rw [z2]; exact Int32.not_lt.mpr z3)]
      refine (cn_drop l κ O no cv ad g cw j q x0 b0 n0 f0 h1 (by omega) hg z1 z5).cx (Nat.le_of_ble_eq_true rfl) (Nat.le_of_ble_eq_true rfl) (Nat.le_of_ble_eq_true rfl) (Nat.le_of_ble_eq_true rfl) (fun rv O1 hp => ?_)
      obtain ⟨g1, rfl⟩ := hp
      refine ⟨by rw [g1, z4], ?_, hx.k3no⟩
      refine (hx.rows (cv' := upd cv 10 0) (g' := gput g 0 (va_up (g 0) j none)) (v' := upd (upd v 0 0) 1 0) (w' := wup w 2 j (-1)) hI.a (fun q ci fs ar n0 n5 hq => by rw [oup_n (o_ne hq h1 n0)]; exact hq) (oup_s _ _ _) ⟨h2.1, h2.2.1, h2.2.2.1, rfl⟩ rfl rfl ?_ rfl rfl rfl rfl rfl rfl rfl rfl rfl).ci
      have eg0 : gput g 0 (va_up (g 0) j none) 0 = va_up (g 0) j none := if_pos rfl
      refine h4.up (j := j) (fun i q x hi hij hgi hq => ?_) (fun i hij => by rw [wup_s, upd_n hij]) (fun i _ => rfl) (fun i k _ _ => rfl) (fun i hij => by rw [eg0]; exact if_neg hij) ?_ (fun i q hi hij hgi => by rw [eg0]; unfold va_up; rw [if_pos rfl]; intro e; cases e)
      · obtain ⟨x1, b1, n1, f1, y1, -⟩ := (h4.1 i hi).2 q hgi
        rw [oup_n (o_ne y1 h1 (by decide))]; exact hq
      · rw [eg0]
        unfold va_up
        rw [if_pos rfl]
        exact ⟨fun _ => by rw [wup_s, upd_s]; decide, fun q hq => by cases hq⟩
  · rw [if_pos hb]
    exact (cn_dropX l κ O no cv ad g cw x h1 hb).cx (Nat.le_of_ble_eq_true rfl) (Nat.le_of_ble_eq_true rfl) (Nat.le_of_ble_eq_true rfl) (Nat.le_of_ble_eq_true rfl) (fun rv O1 hp => same_ci hC hp)
theorem cx_row (hI : INV v w) (hC : CI κ O no v w) (x y z : Int32) : cX l κ yX0_row (wsW_ yX0_row cX0_row 5 (some .int) [(28, 61, 62, 71)]) [.int x, .int y, .int z] O no (op_row v w x y z) := by
  obtain ⟨cv, ad, g, cw, hx⟩ := CI.x.mp hC
  obtain ⟨h1, h2, h3, h4, hrr, hR, hA, hP, hI2, hT⟩ := CIx.iff.mp hx
  unfold op_row
  by_cases hb : ¬ (0 ≤ x ∧ x ≤ 7) ∨ ¬ (0 ≤ y ∧ y ≤ 2) ∨ ¬ z ≤ 40
  · rw [if_pos hb]
    exact (cn_rowX l κ O no cv ad g cw x y z h1 hb).cx (Nat.le_of_ble_eq_true rfl) (Nat.le_of_ble_eq_true rfl) (Nat.le_of_ble_eq_true rfl) (Nat.le_of_ble_eq_true rfl) (fun rv O1 hp => same_ci hC hp)
  · rw [if_neg hb]
    simp only [not_or, Classical.not_not] at hb
    obtain ⟨hx7, hy2, hz⟩ := hb
    by_cases hn : z < 0
    · rw [if_pos hn]
      exact (cn_rowT l κ O no cv ad g cw x y z h1 hx7 hy2 hz hn).cx (Nat.le_of_ble_eq_true rfl) (Nat.le_of_ble_eq_true rfl) (Nat.le_of_ble_eq_true rfl) (Nat.le_of_ble_eq_true rfl) (fun rv O1 hp => found_ci (z := 0) hx hI.a hp vA.s2)
    · rw [if_neg hn]
      obtain ⟨j, hj, rfl⟩ := in_nI (N := 7) (b := 7) rfl rfl hx7
      obtain ⟨n, hn40, rfl⟩ := in_nI (N := 40) (b := 40) rfl rfl ⟨Int32.not_lt.mp hn, hz⟩
      rw [iN_nI (by omega)]
      refine (cn_row l κ O no cv ad g cw j y n h1 (by omega) hy2 hn40).cx (Nat.le_of_ble_eq_true rfl) (Nat.le_of_ble_eq_true rfl) (Nat.le_of_ble_eq_true rfl) (Nat.le_of_ble_eq_true rfl) (fun rv O1 hp => ?_)
      obtain ⟨g1, q, b, hq, rfl⟩ := hp
      have hno : no ≠ q := fun e => by rw [e, hq] at h1; cases h1
      have hkN : ∀ b x, b ≠ no → O b = some x → (oup (oup O q (cU 5 (fun _ => y) (fun _ => b) (oar 1 0 n (fun _ => 0)))) no (nsU (upd cv 10 0) ad (gput g 0 (va_up (g 0) j (some q))) cw)) b = some x := by
        intro b x hb hx
        rw [oup_n hb, oup_n (fun e => by rw [e, hq] at hx; cases hx)]
        exact hx
      refine ⟨g1, ?_, (kp3.new hq).tr (kp3.up (by rw [oup_n hno]; exact h1) (by decide))⟩
      have eg0 : gput g 0 (va_up (g 0) j (some q)) 0 = va_up (g 0) j (some q) := if_pos rfl
      refine (hx.rows (cv' := upd cv 10 0) (g' := gput g 0 (va_up (g 0) j (some q))) (v' := upd (upd v 0 0) 1 0) (w' := wseg (wup (wup w 2 j y) 3 j (nI n)) 4 (40 * j) 40 (fun _ => 0)) hI.a (fun q' ci fs ar n0 n5 hq' => ?_) (oup_s _ _ _) ⟨h2.1, h2.2.1, h2.2.2.1, rfl⟩ rfl rfl ?_ rfl rfl rfl rfl rfl rfl rfl rfl rfl).ci
      · rw [oup_n (o_ne hq' h1 n0), oup_n (fun e => by rw [e, hq] at hq'; cases hq')]
        exact hq'
      · refine h4.up (j := j) (fun i q' x hi hij hgi hq' => ?_) (fun i hij => ?_) (fun i hij => ?_) (fun i k hij hk => ?_) (fun i hij => by rw [eg0]; exact if_neg hij) ?_ (fun i q' hi hij hgi => ?_)
        · obtain ⟨x1, b1, n1, f1, y1, -⟩ := (h4.1 i hi).2 q' hgi
          rw [oup_n (o_ne y1 h1 (by decide)), oup_n (fun e => by rw [e, hq] at hq'; cases hq')]
          exact hq'
        · rw [wseg_o (by decide), wup_n (by decide), wup_s, upd_n hij]
        · rw [wseg_o (by decide), wup_s, upd_n hij]
          rfl
        · rw [wseg_out (by omega)]
          rfl
        · rw [eg0]
          unfold va_up
          rw [if_pos rfl]
          refine ⟨fun e => (by cases e), fun q' e => ?_⟩
          cases e
          refine ⟨y, b, n, fun _ => 0, by rw [oup_n (fun e => hno e.symm), oup_s], ?_, hy2.1, ?_, hn40, fun i hi => ?_⟩
          · rw [wseg_o (by decide), wup_n (by decide), wup_s, upd_s]
          · rw [wseg_o (by decide), wup_s, upd_s]
          · rw [wseg_in (by omega) (by omega)]
        · rw [eg0]
          unfold va_up
          rw [if_pos rfl]
          intro e
          cases e
          obtain ⟨x1, b1, n1, f1, y1, -⟩ := (h4.1 i hi).2 q hgi
          rw [hq] at y1
          cases y1
theorem cx_set (hI : INV v w) (hC : CI κ O no v w) (x y z : Int32) : cX l κ yX0_set (wsW_ yX0_set cX0_set 5 (some .int) [(10, 60, 61, 71)]) [.int x, .int y, .int z] O no (op_set v w x y z) := by
  obtain ⟨cv, ad, g, cw, hx⟩ := CI.x.mp hC
  obtain ⟨h1, h2, h3, h4, hrr, hR, hA, hP, hI2, hT⟩ := CIx.iff.mp hx
  unfold op_set
  by_cases hb : 0 ≤ x ∧ x ≤ 7
  · rw [if_neg (not_not_intro hb)]
    obtain ⟨j, hj, rfl⟩ := in_nI (N := 7) (b := 7) rfl rfl hb
    rw [iN_nI (by omega)]
    cases hg : g 0 j with
    | none =>
      rw [if_pos ((h4.1 j (by omega)).1 hg)]
      exact (cn_setT l κ O no cv ad g cw j y z h1 (by omega) hg).cx (Nat.le_of_ble_eq_true rfl) (Nat.le_of_ble_eq_true rfl) (Nat.le_of_ble_eq_true rfl) (Nat.le_of_ble_eq_true rfl) (fun rv O1 hp => found_ci (z := 0) hx hI.a hp vA.s2)
    | some q =>
      obtain ⟨x0, b0, n0, f0, z1, z2, z3, z4, z5, z6⟩ := (h4.1 j (by omega)).2 q hg
      rw [if_neg (by rw [z2]; exact Int32.not_lt.mpr z3), z4, z2]
      by_cases hy : 0 ≤ y ∧ y ≤ nI n0 - 1
      · rw [if_neg (not_not_intro hy)]
        obtain ⟨i, hi, rfl⟩ := in_nI1 (by omega) hy
        rw [iN_nI (by omega)]
        refine (cn_set l κ O no cv ad g cw j q x0 b0 n0 f0 i z h1 (by omega) hg z1 z5 hi).cx (Nat.le_of_ble_eq_true rfl) (Nat.le_of_ble_eq_true rfl) (Nat.le_of_ble_eq_true rfl) (Nat.le_of_ble_eq_true rfl) (fun rv O1 hp => ?_)
        obtain ⟨g1, rfl⟩ := hp
        have hno : no ≠ q := o_ne h1 z1 (by decide)
        refine ⟨g1, ?_, (kp3.up z1 (by decide)).tr (kp3.up (by rw [oup_n hno]; exact h1) (by decide))⟩
        refine (hx.rows (cv' := upd cv 10 0) (g' := g) (v' := upd (upd v 0 0) 1 0) (w' := wup w 4 (40 * j + i) (cutL x0 z)) hI.a (fun q' ci fs ar n0 n5 hq' => ?_) (oup_s _ _ _) ⟨h2.1, h2.2.1, h2.2.2.1, rfl⟩ rfl rfl ?_ rfl rfl rfl rfl rfl rfl rfl rfl rfl).ci
        · rw [oup_n (o_ne hq' h1 n0), oup_n (o_ne hq' z1 n5)]
          exact hq'
        · refine h4.up (j := j) (fun i q' x hi' hij hgi hq' => ?_) (fun i _ => rfl) (fun i _ => rfl) (fun i' k hij hk => ?_) (fun i hij => rfl) ⟨fun e => (by rw [hg] at e; cases e), fun q' e => ?_⟩ (fun i q' hi' hij hgi e => hij (h4.2 i j q' hi' (by omega) hgi e))
          · obtain ⟨x1, b1, n1, f1, y1, -⟩ := (h4.1 i hi').2 q' hgi
            rw [oup_n (o_ne y1 h1 (by decide)), oup_n (fun e => hij (h4.2 i j q hi' (by omega) (by rw [← e]; exact hgi) hg))]
            exact hq'
          · rw [wup_s, upd_n (by omega)]
          · rw [hg] at e
            cases e
            refine ⟨x0, b0, n0, upd f0 i (cutL x0 z), by rw [oup_n (fun e => hno e.symm), oup_s], z2, z3, z4, z5, fun k hk => ?_⟩
            rw [wup_s]
            unfold upd
            by_cases e : k = i
            · rw [if_pos e, if_pos (by omega)]
            · rw [if_neg e, if_neg (by omega)]
              exact z6 k hk
      · rw [if_pos hy]
        exact (cn_setT2 l κ O no cv ad g cw j q x0 b0 n0 f0 y z h1 (by omega) hg z1 z5 hy).cx (Nat.le_of_ble_eq_true rfl) (Nat.le_of_ble_eq_true rfl) (Nat.le_of_ble_eq_true rfl) (Nat.le_of_ble_eq_true rfl) (fun rv O1 hp => found_ci (z := 0) hx hI.a hp vA.s2)
  · rw [if_pos hb]
    exact (cn_setX l κ O no cv ad g cw x y z h1 hb).cx (Nat.le_of_ble_eq_true rfl) (Nat.le_of_ble_eq_true rfl) (Nat.le_of_ble_eq_true rfl) (Nat.le_of_ble_eq_true rfl) (fun rv O1 hp => same_ci hC hp)
end CX4
