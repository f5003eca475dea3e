/-! Times, copy. -/
set_option maxRecDepth 100000
theorem nn_nI {y : Int32} (h : ¬ y < 0) : ∃ i, i < 2 ^ 31 ∧ y = nI i := by
  have h0 : 0 ≤ y.toInt := Int32.le_iff_toInt_le.mp (Int32.not_lt.mp h)
  have h1 := Int32.toInt_lt y
  refine ⟨y.toInt.toNat, by omega, ?_⟩
  apply Int32.toInt_inj.mp
  rw [nI_toInt (by omega)]
  omega
theorem tmAll_iff {n : Int32} {it : Nat → Int32} {s : Nat} : ∀ k, tmAll n it s k = true ↔ ∀ u, u < k → ((0 ≤ it (s + 4 * u) ∧ it (s + 4 * u) ≤ n - 1) ∧ (0 ≤ it (s + 4 * u + 1) ∧ it (s + 4 * u + 1) ≤ n - 1) ∧ it (s + 4 * u) < it (s + 4 * u + 1) ∧ (1 ≤ it (s + 4 * u + 2) ∧ it (s + 4 * u + 2) ≤ 20) ∧ (0 ≤ it (s + 4 * u + 3) ∧ it (s + 4 * u + 3) ≤ 99)) := by
  intro k
  induction k with
  | zero => exact ⟨fun _ u hu => absurd hu (by omega), fun _ => rfl⟩
  | succ k ih =>
    rw [tmAll, Bool.and_eq_true, ih, decide_eq_true_eq]
    constructor
    · rintro ⟨h1, h2⟩ u hu
      by_cases e : u = k
      · subst e; exact h2
      · exact h1 u (by omega)
    · intro h
      exact ⟨fun u hu => h u (by omega), h k (by omega)⟩
theorem addL_ad {w : Nat → Nat → Int32} {f it : Nat → Int32} {s tm : Nat} {jt : Nat → Int32} {K : Nat} (h7 : w 5 7 = nI tm) (h0 : ∀ q, q < 48 → w 5 (46 + q) = f q) (hj : ∀ q, q < 4 * K → jt q = it (s + q)) : ∀ k, k ≤ K → tm + k ≤ 12 → ∀ q, q < 48 → addL w it s k 5 (46 + q) = adL f tm jt k q := by
  intro k
  induction k with
  | zero => intro _ _ q hq; exact h0 q hq
  | succ k ih =>
    intro hk hk12 q hq
    have i := ih (by omega) (by omega) q hq
    have e7 := addL_7 (it := it) (s := s) (k := k) h7
    rw [addL, adL, hj (4 * k) (by omega), hj (4 * k + 1) (by omega), hj (4 * k + 2) (by omega), hj (4 * k + 3) (by omega), show s + (4 * k + 1) = s + 4 * k + 1 by omega, show s + (4 * k + 2) = s + 4 * k + 2 by omega, show s + (4 * k + 3) = s + 4 * k + 3 by omega]
    obtain ⟨x0, g0⟩ : ∃ x, x = it (s + 4 * k) := ⟨_, rfl⟩
    obtain ⟨x1, g1⟩ : ∃ x, x = it (s + 4 * k + 1) := ⟨_, rfl⟩
    obtain ⟨x2, g2⟩ : ∃ x, x = it (s + 4 * k + 2) := ⟨_, rfl⟩
    obtain ⟨x3, g3⟩ : ∃ x, x = it (s + 4 * k + 3) := ⟨_, rfl⟩
    obtain ⟨W, eW⟩ : ∃ W, W = addL w it s k := ⟨_, rfl⟩
    obtain ⟨F, eF⟩ : ∃ F, F = adL f tm jt k := ⟨_, rfl⟩
    rw [← eW] at i e7 ⊢
    rw [← eF] at i ⊢
    rw [← g0, ← g1, ← g2, ← g3]
    unfold addT
    rw [wup_s, upd_n (by omega), wup_s, wup_s, wup_s, wup_s, e7, iN_nI (by omega)]
    unfold adC upd
    repeat' split
    all_goals first | omega | rfl | exact i
section CX10
variable (l : Launch) (κ : Nat → Nat) (O : gO) (no : Nat) (v : Nat → Int32) (w : Nat → Nat → Int32)
theorem cx_times (hI : INV v w) (hC : CI κ O no v w) (x y z : Int32) : cX l κ yX0_times (wsW_ yX0_times cX0_times 6 (some .int) [(32, 121, 214, 71), (122, 144, 214, 71), (145, 213, 214, 71)]) [.int x, .int y, .int z] O no (op_times v w x y z) := by
  obtain ⟨cv, ad, g, cw, rx, rd, rw, mm, kd, mv, n, tm, nt, hx, hN, hR, hro, hmv, hm, ⟨en, hn⟩, ⟨et, ht⟩, ⟨ent, hnt⟩, hto, hmo, hbd⟩ := CI.un hI hC
  obtain ⟨q1, q2, q3, h4, hrr, q5, ⟨tx, td, tw, c5⟩, q6⟩ := CIx.iff.mp hx
  have hd : ad 4 ≠ ad 5 := hrr.ne (i := 0) (j := 1) rfl rfl (by decide)
  have e0 : w 5 0 = rx 0 := hro.1
  have e4 : w 5 4 = nI n := hro.2.2.2.2.1.trans en
  have e7 : w 5 7 = nI tm := hro.2.2.2.2.2.2.2.1.trans et
  unfold op_times
  by_cases h0 : 0 < rx 0
  · rw [if_neg (not_not_intro (by rw [e0]; exact h0))]
    by_cases hb : ¬ (0 ≤ x ∧ x ≤ 7) ∨ ¬ (1 ≤ z ∧ z ≤ 10)
    · rw [if_pos hb]
      exact (cn_timesX l κ O no cv ad g cw rx rd rw x y z hN hR h0 hb).cx (Nat.le_of_ble_eq_true rfl) (Nat.le_of_ble_eq_true rfl) (Nat.le_of_ble_eq_true rfl) (Nat.le_of_ble_eq_true rfl) (fun rv O1 hp => same_ci hC hp)
    · rw [if_neg hb]
      have hx1 : 0 ≤ x ∧ x ≤ 7 := Classical.byContradiction fun q => hb (Or.inl q)
      have hz1 : 1 ≤ z ∧ z ≤ 10 := Classical.byContradiction fun q => hb (Or.inr q)
      obtain ⟨j, hj, rfl⟩ := in_nI (N := 7) (b := 7) rfl rfl hx1
      obtain ⟨k, hk, rfl⟩ := in_nI (N := 10) (b := 10) rfl rfl ⟨Int32.le_trans (show (0 : Int32) ≤ 1 by decide) hz1.1, hz1.2⟩
      have hk1 : 1 ≤ k := nle_t (a := 1) hz1.1
      rw [iN_nI (n := j) (by omega), iN_nI (n := k) (by omega)]
      cases hg : g 0 j with
      | none =>
        rw [if_pos ((h4.1 j (by omega)).1 hg)]
        exact (cn_timesT l κ O no cv ad g cw rx rd rw j y k hN hR h0 hk1 hk (by omega) hg).cx (Nat.le_of_ble_eq_true rfl) (Nat.le_of_ble_eq_true rfl) (Nat.le_of_ble_eq_true rfl) (Nat.le_of_ble_eq_true rfl) (fun rv O1 hp => found_ci (z := 0) hx hI.a hp vA.s1)
      | some q =>
        obtain ⟨x0, b0, n0, f0, z1, z2, z3, z4, z5, z6⟩ := (h4.1 j (by omega)).2 q hg
        rw [if_neg (by rw [z2]; exact Int32.not_lt.mpr z3), z4, iN_nI (n := n0) (by omega)]
        by_cases hy : y < 0 ∨ n0 < iN y + 4 * k
        · rw [if_pos hy]
          refine (cn_timesT2 l κ O no cv ad g cw rx rd rw j q x0 b0 n0 f0 y k hN hR (by omega) hg z1 z5 h0 hk1 hk ?_).cx (Nat.le_of_ble_eq_true rfl) (Nat.le_of_ble_eq_true rfl) (Nat.le_of_ble_eq_true rfl) (Nat.le_of_ble_eq_true rfl) (fun rv O1 hp => found_ci (z := 0) hx hI.a hp vA.s1)
          by_cases hy0 : y < 0
          · exact Or.inl hy0
          · obtain ⟨i, hi, rfl⟩ := nn_nI hy0
            rw [iN_nI hi] at hy
            exact Or.inr ⟨i, rfl, hi, by rcases hy with q | q; exact absurd q hy0; exact q⟩
        · rw [if_neg hy]
          obtain ⟨i, hi, rfl⟩ := nn_nI (fun q => hy (Or.inl q))
          rw [iN_nI hi] at hy ⊢
          have hik : i + 4 * k ≤ n0 := by omega
          have hit : ∀ q, q < 4 * k → va_cpy f0 (fun _ => 0) i 0 (4 * k) q = w 4 (40 * j + i + q) := by
            intro q hq
            unfold va_cpy
            rw [if_pos (by omega), Nat.sub_zero, z6 (i + q) (by omega)]
            congr 1
            omega
          have hall : tmAll (w 5 4) (w 4) (40 * j + i) k = true ↔ ∀ u, u < k → tmC (rx 4) ((va_cpy f0 (fun _ => 0) i 0 (4 * k)) (4 * u)) ((va_cpy f0 (fun _ => 0) i 0 (4 * k)) (4 * u + 1)) ((va_cpy f0 (fun _ => 0) i 0 (4 * k)) (4 * u + 2)) ((va_cpy f0 (fun _ => 0) i 0 (4 * k)) (4 * u + 3)) := by
            rw [tmAll_iff, e4, en]
            constructor
            · intro h u hu
              rw [hit _ (by omega), hit _ (by omega), hit _ (by omega), hit _ (by omega), tmC_iff hn]
              exact h u hu
            · intro h u hu
              have := h u hu
              rw [hit _ (by omega), hit _ (by omega), hit _ (by omega), hit _ (by omega), tmC_iff hn] at this
              exact this
          refine (cn_times l κ O no cv ad g cw rx rd rw tx td tw j q x0 b0 n0 f0 i k tm hN hR c5 hd (by omega) hg z1 z5 h0 hk1 hk hik et ht).cx (Nat.le_of_ble_eq_true rfl) (Nat.le_of_ble_eq_true rfl) (Nat.le_of_ble_eq_true rfl) (Nat.le_of_ble_eq_true rfl) (fun rv O1 hp => ?_)
          obtain ⟨p1, p2, p3⟩ := hp
          rw [← hall] at p1 p2 p3
          by_cases ha : tmAll (w 5 4) (w 4) (40 * j + i) k = true
          · rw [if_neg (not_not_intro ha), e7, iN_nI (n := tm) (by omega)]
            by_cases h12 : 12 < tm + k
            · rw [if_pos h12]
              obtain ⟨r1, bq, ub, tx1, td1, tw1, hbq, rfl⟩ := p2 ha h12
              have hx2 := hx.nw hI.a (u := ub) hbq
              exact ⟨r1, (hx2.tr5 hI.a).ci.agr vA.z wA.rf, (kp3.new hbq).tr hx2.k35⟩
            · rw [if_neg h12]
              obtain ⟨r1, bq, ub, tx1, td1, tw1, hbq, rfl⟩ := p3 ha (by omega)
              have hx2 := hx.nw hI.a (u := ub) hbq
              have hx5 := hx2.tr5 hI.a (tx := tx1) (td := td1) (tw := tw1)
              obtain ⟨jt, ejt⟩ : ∃ jt, jt = va_cpy f0 (fun _ => 0) i 0 (4 * k) := ⟨_, rfl⟩
              rw [← ejt] at hit
              rw [← ejt]
              have hr' : rdR (addL w (w 4) (40 * j + i) k 5) (upd rx 11 (nI (tm + k))) (wput rw 10 (adL (rw 10) tm jt k)) mm kd mv :=
                hro.ct hm (fun i hi h7 => addL_lo hi h7) (addL_7 e7) (addL_ad (K := k) e7 (fun q hq => hro.2.2.2.2.2.2.2.2.2.2 q hq) hit k (Nat.le_refl k) (by omega))
              have c5' : oup O bq ub (ad 5) = some (rdU tx td tw) := by
                rw [oup_n (fun e => by rw [e, hbq] at c5; cases c5)]; exact c5
              have hy6 := hx5.rd4 (w' := addL w (w 4) (40 * j + i) k) hI.a hr' ((hmv.kp (kpM.new hbq)).kp (kpM.up c5' (by decide))) (addL_o (by decide)) (addL_o (by decide)) (addL_o (by decide)) (addL_o (by decide)) (addL_o (by decide)) (addL_o (by decide)) (addL_o (by decide)) (addL_o (by decide))
              refine ⟨r1, (hy6.st hI.a 0).ci.agr vA.s1 wA.rf, (((kp3.new hbq).tr hx2.k35).tr hx5.k34).tr hy6.k3no⟩
          · rw [if_pos ha]
            obtain ⟨r1, bq, ub, tx1, td1, tw1, hbq, rfl⟩ := p1 ha
            have hx2 := hx.nw hI.a (u := ub) hbq
            exact ⟨r1, (hx2.tr5 hI.a).ci.agr vA.z wA.rf, (kp3.new hbq).tr hx2.k35⟩
  · rw [if_pos (by rw [e0]; exact h0)]
    exact (cn_timesR l κ O no cv ad g cw rx rd rw x y z hN hR h0).cx (Nat.le_of_ble_eq_true rfl) (Nat.le_of_ble_eq_true rfl) (Nat.le_of_ble_eq_true rfl) (Nat.le_of_ble_eq_true rfl) (fun rv O1 hp => same_ci hC hp)
end CX10
