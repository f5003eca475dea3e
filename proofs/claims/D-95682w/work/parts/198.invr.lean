/-! A road well read is a road; what the dares come to. -/
set_option maxRecDepth 100000
def roS (f : Nat → Int32) : Prop := roOk f ∧ f 5 = 0 ∧ f 7 = 0
def roM (f : Nat → Int32) : Prop := roOk f ∧ f 7 = 0
theorem roS.rs {tp : Nat → Int32} {L : Nat} {v f : Nat → Int32} (h : roS f) (hs : rsV tp L v f 17 = 0) : roS (rsF tp L v f) := by
  obtain ⟨⟨n, mm, tm, nt, h4, hn, h5, hm, h7, ht, h6, hnt, ⟨le, fe, se, fi, h0, b0, h1, b1, h2, b2, h3, b3⟩, hmv, htm, hst⟩, e5, e7⟩ := h
  obtain ⟨c1, c2, c3⟩ := numV_ok (endV_17 hs)
  obtain ⟨d1, d2, d3⟩ := numV_ok c1
  have hne : n ≠ 6 := fun e => (rs_ok hs).2 (by rw [h4, e]; rfl)
  obtain ⟨x, hx, ex⟩ := in_nI (N := 200) (b := 200) rfl rfl ⟨d2, d3⟩
  obtain ⟨lo, elo, hlo⟩ : ∃ lo, rsLo f = nI lo ∧ lo < 2 ^ 31 := by
    unfold rsLo
    split
    · exact ⟨0, rfl, by omega⟩
    · next h40 =>
      obtain ⟨y, hy, ey⟩ := hst (iN (f 4) - 1) (by rw [h4, show iN (nI n) = n from iN_nI (by omega)]; omega) 1 (by omega)
      rw [ey, nI_1]
      exact ⟨y + 1, rfl, by omega⟩
  obtain ⟨y, hy1, hy, ey⟩ := bet elo h0 hlo (by omega) ⟨c2, c3⟩
  have ea : rsA tp L v f = nI x := ex
  have eb : rsB tp L v f = nI y := ey
  have e4 : iN (f 4) = n := by rw [h4]; exact iN_nI (by omega)
  have em : mm = 0 := neq_t (b := 0) (h5.symm.trans e5)
  have et : tm = 0 := neq_t (b := 0) (h7.symm.trans e7)
  rw [rsF, if_pos hs, e4, ea, eb]
  have k : ∀ i, i ≠ 4 → (i < 8 ∨ 26 ≤ i) → upd (st3 f n (nI x) (nI y)) 4 (st3 f n (nI x) (nI y) 4 + 1) i = f i := by
    intro i hi4 hi
    rw [upd_n hi4, st3, upd_n (by omega), upd_n (by omega), upd_n (by omega)]
  refine ⟨⟨n + 1, mm, tm, nt, ?_, by omega, (k 5 (by omega) (by omega)).trans h5, hm, (k 7 (by omega) (by omega)).trans h7, ht, (k 6 (by omega) (by omega)).trans h6, hnt, ⟨le, fe, se, fi, (k 0 (by omega) (by omega)).trans h0, b0, (k 1 (by omega) (by omega)).trans h1, b1, (k 2 (by omega) (by omega)).trans h2, b2, (k 3 (by omega) (by omega)).trans h3, b3⟩, fun j hj => by omega, fun q hq => by omega, fun j hj g hg => ?_⟩, (k 5 (by omega) (by omega)).trans e5, (k 7 (by omega) (by omega)).trans e7⟩
  · rw [upd_s, st3, upd_n (by omega), upd_n (by omega), upd_n (by omega), h4, nI_1]
  · rw [upd_n (by omega), st3]
    unfold upd
    split
    · exact ⟨y, by omega, rfl⟩
    · split
      · exact ⟨y, by omega, rfl⟩
      · split
        · exact ⟨x, hx, rfl⟩
        · exact hst j hj g hg
theorem roM.rm {tp : Nat → Int32} {L : Nat} {v f : Nat → Int32} (h : roM f) (hs : rmV tp L v f 17 = 0) : roM (rmF tp L v f) := by
  obtain ⟨⟨n, mm, tm, nt, h4, hn, h5, hm, h7, ht, h6, hnt, ⟨le, fe, se, fi, h0, b0, h1, b1, h2, b2, h3, b3⟩, hmv, htm, hst⟩, e7⟩ := h
  obtain ⟨c1, c2, c3⟩ := numV_ok (endV_17 hs)
  obtain ⟨d1, d2, d3⟩ := numV_ok c1
  obtain ⟨f1, f2, f3⟩ := numV_ok d1
  have hne : mm ≠ 5 := fun e => (rm_ok hs).2 (by rw [h5, e]; rfl)
  rw [h4] at f3
  obtain ⟨x, hx, ex⟩ := in_nI1 (by omega) ⟨f2, f3⟩
  obtain ⟨y, hy, ey⟩ := in_nI (N := 1) (b := 1) rfl rfl ⟨d2, d3⟩
  obtain ⟨z, hz1, hz, ez⟩ := bet (a := 1) (b := 5) rfl rfl (by omega) (by omega) ⟨c2, c3⟩
  have e5 : iN (f 5) = mm := by rw [h5]; exact iN_nI (by omega)
  have et : tm = 0 := neq_t (b := 0) (h7.symm.trans e7)
  obtain ⟨kk, ek⟩ : ∃ kk, kk = rmK tp L v f := ⟨_, rfl⟩
  rw [rmF, if_pos hs, e5, ex, ey, ez, ← ek]
  have k : ∀ i, i ≠ 5 → (i < 26 + 4 * mm ∨ 46 ≤ i) → upd (mv4 f mm kk (nI x) (nI y) (nI z)) 5 (mv4 f mm kk (nI x) (nI y) (nI z) 5 + 1) i = f i := by
    intro i hi5 hi
    rw [upd_n hi5, mv4, upd_n (by omega), upd_n (by omega), upd_n (by omega), upd_n (by omega)]
  refine ⟨⟨n, mm + 1, tm, nt, (k 4 (by omega) (by omega)).trans h4, hn, ?_, by omega, (k 7 (by omega) (by omega)).trans h7, ht, (k 6 (by omega) (by omega)).trans h6, hnt, ⟨le, fe, se, fi, (k 0 (by omega) (by omega)).trans h0, b0, (k 1 (by omega) (by omega)).trans h1, b1, (k 2 (by omega) (by omega)).trans h2, b2, (k 3 (by omega) (by omega)).trans h3, b3⟩, fun j hj => ?_, fun q hq => by omega, fun j hj g hg => ?_⟩, (k 7 (by omega) (by omega)).trans e7⟩
  · rw [upd_s, mv4, upd_n (by omega), upd_n (by omega), upd_n (by omega), upd_n (by omega), h5, nI_1]
  · by_cases e : j = mm
    · subst e
      rw [upd_n (by omega), upd_n (by omega), upd_n (by omega), mv4, upd_n (by omega), upd_n (by omega), upd_s, upd_n (by omega), upd_s, upd_s]
      refine ⟨⟨x, hx, rfl⟩, ?_, z, hz, rfl⟩
      obtain rfl | rfl : y = 0 ∨ y = 1 := by omega
      · exact Or.inl rfl
      · exact Or.inr rfl
    · rw [k _ (by omega) (by omega), k _ (by omega) (by omega), k _ (by omega) (by omega)]
      exact hmv j (by omega)
  · rw [k _ (by omega) (by omega)]; exact hst j hj g hg
theorem roS.stn {tp : Nat → Int32} {L : Nat} : ∀ k v f, roS f → (stnL tp L k v f).1 17 = 0 → roS (stnL tp L k v f).2 := by
  intro k
  induction k with
  | zero => intro v f h _; exact h
  | succ k ih =>
    intro v f h hs
    rw [stnL] at hs ⊢
    split
    · next q =>
      rw [if_pos q] at hs
      exact ih _ _ (h.rs (stnL_17 _ _ _ hs)) hs
    · exact h
theorem roM.mov {tp : Nat → Int32} {L : Nat} : ∀ k v f, roM f → (movL tp L k v f).1 17 = 0 → roM (movL tp L k v f).2 := by
  intro k
  induction k with
  | zero => intro v f h _; exact h
  | succ k ih =>
    intro v f h hs
    rw [movL] at hs ⊢
    split
    · next q =>
      rw [if_pos q] at hs
      exact ih _ _ (h.rm (movL_17 _ _ _ hs)) hs
    · exact h
theorem roS.hd {tp : Nat → Int32} {L : Nat} {v f : Nat → Int32} (h : rdE tp L v 17 = 0) : roS (fr1 tp L v f) := by
  obtain ⟨a1, a2, a3⟩ := numV_ok (endV_17 h)
  obtain ⟨b1, b2, b3⟩ := numV_ok a1
  obtain ⟨c1, c2, c3⟩ := numV_ok b1
  obtain ⟨d1, d2, d3⟩ := numV_ok c1
  obtain ⟨x3, q3, e3⟩ := in_nI (N := 99) (b := 99) rfl rfl ⟨a2, a3⟩
  obtain ⟨x2, q2, e2⟩ := in_nI (N := 100) (b := 100) rfl rfl ⟨b2, b3⟩
  obtain ⟨x1, q1, e1⟩ := in_nI (N := 20) (b := 20) rfl rfl ⟨c2, c3⟩
  obtain ⟨x0, p0, q0, e0⟩ := bet (a := 10) (b := 200) rfl rfl (by omega) (by omega) ⟨d2, d3⟩
  have g3 : numR tp (rd2 tp L v) = nI x3 := e3
  have g2 : numR tp (rd1 tp L v) = nI x2 := e2
  have g1 : numR tp (rd0 tp L v) = nI x1 := e1
  have g0 : numR tp (rdB tp L v) = nI x0 := e0
  rw [fr1, g0, g1, g2, g3]
  have k : ∀ i, 3 < i → i < 94 → upd (upd (upd (upd (fz f 94) 0 (nI x0)) 1 (nI x1)) 2 (nI x2)) 3 (nI x3) i = 0 := by
    intro i h1 h2
    rw [upd_n (by omega), upd_n (by omega), upd_n (by omega), upd_n (by omega), fz, if_pos h2]
  refine ⟨⟨0, 0, 0, 0, k 4 (by omega) (by omega), by omega, k 5 (by omega) (by omega), by omega, k 7 (by omega) (by omega), by omega, k 6 (by omega) (by omega), by omega, ⟨x0, x1, x2, x3, ?_, q0, ?_, q1, ?_, q2, ?_, q3⟩, fun j hj => by omega, fun q hq => by omega, fun j hj g hg => ⟨0, by omega, k _ (by omega) (by omega)⟩⟩, k 5 (by omega) (by omega), k 7 (by omega) (by omega)⟩
  · rw [upd_n (by omega), upd_n (by omega), upd_n (by omega), upd_s]
  · rw [upd_n (by omega), upd_n (by omega), upd_s]
  · rw [upd_n (by omega), upd_s]
  · rw [upd_s]
theorem roM.rd {tp : Nat → Int32} {L : Nat} {v f : Nat → Int32} (h : (rdM tp L v f).1 17 = 0) : roM (rdM tp L v f).2 := by
  unfold rdM at h ⊢
  obtain ⟨S, eS⟩ : ∃ S, S = rdS tp L v f := ⟨_, rfl⟩
  rw [← eS] at h ⊢
  have h1 := movL_17 7 S.1 S.2 h
  rw [eS, rdS] at h1
  have h2 := stnL_17 8 (rdE tp L v) (fr1 tp L v f) h1
  have h3 := roS.stn 8 (rdE tp L v) (fr1 tp L v f) (roS.hd h2) h1
  rw [← rdS, ← eS] at h3
  exact roM.mov 7 S.1 S.2 ⟨h3.1, h3.2.2⟩ h
theorem iv_road {v : Nat → Int32} {w : Nat → Nat → Int32} (h : INV v w) : iV (op_road v w) := by
  have hT := RV.T (w 9) (iN (v 10)) (upd v 0 0) (w 6)
  obtain ⟨u, eu⟩ : ∃ u, u = rdT (w 9) (iN (v 10)) (upd v 0 0) (w 6) := ⟨_, rfl⟩
  obtain ⟨p, t, c, ro, d, im⟩ := INV.iff.mp h
  unfold op_road iV
  rw [← eu] at hT
  obtain ⟨r1, r2, r3, r4, r5⟩ := hT
  rw [← eu]
  have t0 : ∀ w' : Nat → Nat → Int32, ∀ v' : Nat → Int32, v' 10 = 0 → ivT v' w' := fun w' v' e => ⟨0, e, by omega, fun k hk => by omega⟩
  have c0 : ∀ v' : Nat → Int32, v' 25 = u 25 → ivC v' := by
    intro v' e
    obtain ⟨tt, e1, e2⟩ := c
    exact ⟨tt, by rw [e, r4 25 (by omega)]; exact e1, e2⟩
  by_cases hF : 0 < u 17
  · rw [if_pos hF]
    refine INV.iff.mpr ⟨?_, t0 _ _ r2, c0 _ rfl, ro, d, im⟩
    obtain ⟨a, e1, e2, e3⟩ := p
    exact ⟨a, (r1 8 (by omega)).trans e1, e2, e3⟩
  · rw [if_neg hF]
    have h0 : u 17 = 0 := Int32.le_antisymm (Int32.not_lt.mp hF) r5
    have hM : (rdM (w 9) (iN (v 10)) (upd v 0 0) (w 6)).1 17 = 0 := by
      rw [eu] at h0
      unfold rdT at h0
      split at h0
      · exact absurd h0 (badV_n _ (by decide))
      · exact h0
    have hR := (roM.rd hM).1
    obtain ⟨F, eF⟩ : ∃ F, F = (rdM (w 9) (iN (v 10)) (upd v 0 0) (w 6)).2 := ⟨_, rfl⟩
    rw [← eF] at hR ⊢
    refine INV.iff.mpr ⟨ivP.z (show upd u 8 0 8 = 0 from upd_s _ _ _), t0 _ _ r2, c0 _ rfl, ro, ?_, im⟩
    refine hR.cg (fun i hi => ?_)
    show wseg (wput w 6 F) 5 0 94 F 5 i = F i
    rw [wseg_in (by omega) (by omega)]
    rfl
/-! the dares -/
theorem powL_nI (a : Nat) : ∀ d, powL (nI a) d = nI (a ^ d) := by
  intro d
  induction d with
  | zero => rfl
  | succ d ih => rw [powL, ih, pk_mul, Nat.pow_succ]
/-- what d dares at a fee bring: won less lost -/
theorem brF_nI {ro : Nat → Int32} {se fi fe : Nat} (h2 : ro 2 = nI se) (hs : se ≤ 100) (h3 : ro 3 = nI fi) (d : Nat) (hd : d ≤ 3) : brF ro d (nI fe) = nI ((100 - se) ^ d * 100 ^ (3 - d) * fe * d) - nI ((1000000 - (100 - se) ^ d * 100 ^ (3 - d)) * fi) := by
  have hle : (100 - se) ^ d * 100 ^ (3 - d) ≤ 1000000 := by
    calc (100 - se) ^ d * 100 ^ (3 - d) ≤ 100 ^ d * 100 ^ (3 - d) := Nat.mul_le_mul_right _ (Nat.pow_le_pow_left (by omega) d)
      _ = 100 ^ 3 := by rw [← Nat.pow_add]; congr 1; omega
      _ = 1000000 := by decide
  unfold brF
  rw [h2, h3, show (100 : Int32) - nI se = nI (100 - se) from nI_subn (a := 100) (by omega), show (100 : Int32) = nI 100 from rfl, powL_nI, powL_nI, pk_mul, pk_mul, pk_mul, show (1000000 : Int32) = nI 1000000 from rfl, nI_subn hle, pk_mul]
theorem dif_abs {a b : Nat} (ha : a < 2 ^ 31) (hb : b < 2 ^ 31) : ∃ A, A < 2 ^ 31 ∧ absI (nI a - nI b) = nI A := by
  unfold absI
  by_cases h : b ≤ a
  · rw [nI_subn h, if_pos (Int32.not_lt.mp (nI_pos (by omega)))]
    exact ⟨a - b, by omega, rfl⟩
  · have e : nI a - nI b = -(nI (b - a)) := by rw [← nI_subn (by omega), Int32.neg_sub]
    rw [e]
    split
    · next q =>
      exfalso
      have : (0 : Int32).toInt ≤ (-(nI (b - a))).toInt := Int32.le_iff_toInt_le.mp q
      rw [Int32.toInt_neg, nI_toInt (by omega)] at this
      have e2 : (-((b - a : Nat) : Int)).bmod (2 ^ 32) = -((b - a : Nat) : Int) := Int.bmod_eq_of_le (by omega) (by omega)
      rw [e2] at this
      have : (0 : Int) ≤ -((b - a : Nat) : Int) := this
      omega
    · exact ⟨b - a, by omega, by rw [Int32.neg_neg]⟩
theorem INV.hab {v : Nat → Int32} {w : Nat → Nat → Int32} (h : INV v w) : ∀ d, d ≤ 3 → ∃ A, A < 2 ^ 31 ∧ absI (brF (w 5) d (w 5 1)) = nI A := by
  intro d hd
  obtain ⟨-, -, -, -, ⟨n, m2, tm, nt, -, -, -, -, -, -, -, -, ⟨le, fe, se, fi, h0, b0, h1, b1, h2, b2, h3, b3⟩, -⟩, -⟩ := h
  rw [h1, brF_nI h2 b2 h3 d hd]
  have hle : (100 - se) ^ d * 100 ^ (3 - d) ≤ 1000000 := by
    calc (100 - se) ^ d * 100 ^ (3 - d) ≤ 100 ^ d * 100 ^ (3 - d) := Nat.mul_le_mul_right _ (Nat.pow_le_pow_left (by omega) d)
      _ = 100 ^ 3 := by rw [← Nat.pow_add]; congr 1; omega
      _ = 1000000 := by decide
  have q1 : (100 - se) ^ d * 100 ^ (3 - d) * fe * d ≤ 1000000 * 20 * 3 := Nat.mul_le_mul (Nat.mul_le_mul hle b1) hd
  have q2 : (1000000 - (100 - se) ^ d * 100 ^ (3 - d)) * fi ≤ 1000000 * 99 := Nat.mul_le_mul (Nat.sub_le _ _) b3
  exact dif_abs (by omega) (by omega)
theorem INV.hb0 {v : Nat → Int32} {w : Nat → Nat → Int32} (h : INV v w) : bestB (w 5) 0 3 = 0 := by
  obtain ⟨-, -, -, -, ⟨n, m2, tm, nt, -, -, -, -, -, -, -, -, ⟨le, fe, se, fi, h0, b0, h1, b1, h2, b2, h3, b3⟩, -⟩, -⟩ := h
  have k : ∀ d, d ≤ 3 → bestB (w 5) 0 d = 0 := by
    intro d
    induction d with
    | zero => intro _; rfl
    | succ d ih =>
      intro hd
      rw [bestB, ih (by omega), if_neg]
      rw [show (0 : Int32) = nI 0 from rfl, brF_nI h2 b2 h3 0 (by omega), brF_nI h2 b2 h3 (d + 1) hd]
      have e0 : (100 - se) ^ 0 * 100 ^ (3 - 0) = 1000000 := by rw [Nat.pow_zero]
      rw [e0]
      simp only [Nat.mul_zero, Nat.zero_mul, Nat.sub_self]
      have q2 : (1000000 - (100 - se) ^ (d + 1) * 100 ^ (3 - (d + 1))) * fi ≤ 1000000 * 99 := Nat.mul_le_mul (Nat.sub_le _ _) b3
      obtain ⟨z, ez⟩ : ∃ z, z = (1000000 - (100 - se) ^ (d + 1) * 100 ^ (3 - (d + 1))) * fi := ⟨_, rfl⟩
      rw [← ez] at q2 ⊢
      intro hc
      have hc : (nI 0 - nI 0).toInt < (nI 0 - nI z).toInt := Int32.lt_iff_toInt_lt.mp hc
      rw [Int32.toInt_sub, Int32.toInt_sub, nI_toInt (by omega), nI_toInt (by omega), Int.bmod_eq_of_le (by omega) (by omega), Int.bmod_eq_of_le (by omega) (by omega)] at hc
      omega
  exact k 3 (Nat.le_refl 3)
