/-! night, prove: what is kept ahead of an act. -/
set_option maxRecDepth 100000
theorem keepV_n {v : Nat → Int32} {i : Nat} (h : i ≠ 8) : keepV v i = v i := by
  unfold keepV
  split
  · rw [upd_n h, upd_n h]
  · rw [upd_n h]
theorem keepV_8 {v : Nat → Int32} {a : Nat} (ea : v 8 = nI a) (ha : a ≤ 24) : keepV v 8 = nI ((if a = 24 then 23 else a) + 1) := by
  unfold keepV
  by_cases h : a = 24
  · subst h
    rw [if_pos (show v 8 = 24 from ea), if_pos rfl, upd_s, ea]
    rfl
  · rw [if_neg (show ¬ v 8 = 24 from fun q => h (neq_t (b := 24) (ea.symm.trans q))), if_neg h, upd_s, ea, nI_1]
theorem keepW_7 {v : Nat → Int32} {w : Nat → Nat → Int32} {a : Nat} (ea : v 8 = nI a) (ha : a ≤ 24) : (∀ k, k < 6 → keepW v w 7 (7 * (if a = 24 then 23 else a) + k) = w 5 (8 + 3 * k + 1)) ∧ keepW v w 7 (7 * (if a = 24 then 23 else a) + 6) = w 5 6 ∧ ∀ j k, k < 7 → j < (if a = 24 then 23 else a) → keepW v w 7 (7 * j + k) = w 7 (7 * (if a = 24 then j + 1 else j) + k) := by
  unfold keepW
  by_cases h : a = 24
  · subst h
    rw [if_pos (show v 8 = 24 from ea)]
    simp only [if_pos]
    refine ⟨fun k hk => ?_, ?_, fun j k hk hj => ?_⟩
    · rw [wup_s, upd_n (by omega), wseg_in (by omega) (by omega)]
      congr 2
      omega
    · rw [wup_s, upd_s]
    · rw [wup_s, upd_n (by omega), wseg_out (by omega), wseg_in (by omega) (by omega)]
      congr 1
      omega
  · rw [if_neg (show ¬ v 8 = 24 from fun q => h (neq_t (b := 24) (ea.symm.trans q))), ea, iN_nI (by omega)]
    simp only [if_neg h]
    refine ⟨fun k hk => ?_, ?_, fun j k hk hj => ?_⟩
    · rw [wup_s, upd_n (by omega), wseg_in (by omega) (by omega)]
      congr 2
      omega
    · rw [wup_s, upd_s]
    · rw [wup_s, upd_n (by omega), wseg_out (by omega)]
section C5
variable {κ : Nat → Nat} {O O1 : gO} {no : Nat} {v v' : Nat → Int32} {w w' : Nat → Nat → Int32} {cv cv' : Nat → Int32} {ad : Nat → Nat} {g g' : Nat → Nat → Option Nat} {cw cw' : Nat → Nat → Int32}
/-- where a road is told there is one -/
theorem CIx.rol1 (h : CIx κ O no v w cv ad g cw) (h8 : ∃ a : Nat, v 8 = nI a ∧ a ≤ 24) {i q : Nat} (hi : rol ad g i = some q) : ∃ (x : Nat → Int32) (y : Nat → Nat) (z : Nat → Nat → Int32), O q = some (rdU x y z) := by
  obtain ⟨h1, h2, h3, h4, hrr, hR, hA, hP, hI, hT⟩ := CIx.iff.mp h
  unfold rol at hi
  by_cases c0 : i = 0
  · rw [if_pos c0] at hi
    cases hi
    obtain ⟨x0, x1, x2, _, _, _, c4, -⟩ := hR
    exact ⟨x0, x1, x2, c4⟩
  · rw [if_neg c0] at hi
    by_cases c1 : i = 1
    · rw [if_pos c1] at hi
      cases hi
      exact hA
    · rw [if_neg c1] at hi
      by_cases c2 : i < 26
      · rw [if_pos c2] at hi
        obtain ⟨a, ea, ha⟩ := h8
        obtain ⟨pv, pd, pw, z1, -⟩ := (hP a ea ha (i - 2) (by omega)).2 q hi
        exact ⟨pv, pd, pw, z1⟩
      · rw [if_neg c2] at hi
        by_cases c3 : i < 28
        · rw [if_pos c3] at hi
          obtain ⟨x0, x1, x2, _, _, _, c4, -⟩ := (hI (i - 26) (by omega)).2 q hi
          exact ⟨x0, x1, x2, c4⟩
        · rw [if_neg c3] at hi
          cases hi
/-- a place of the past is given to pq -/
theorem CIx.kept (h : CIx κ O no v w cv ad g cw) {a : Nat} (ea : v 8 = nI a) (ha : a ≤ 24) {rx : Nat → Int32} {rd : Nat → Nat} {rw : Nat → Nat → Int32} {mm : Nat} {kd : Nat → Nat} {mv : Nat → Nat → Int32} (hR0 : O (ad 4) = some (rdU rx rd rw)) (hro : rdR (w 5) rx rw mm kd mv) (hK : keepP O no cv ad g cw rx rd rw a O1) : ∃ (cv' : Nat → Int32) (g' : Nat → Nat → Option Nat), CIx κ O1 no (keepV v) (keepW v w) cv' ad g' cw ∧ kp3 O O1 ∧ O1 (ad 4) = some (rdU rx rd rw) ∧ kpM O O1 := by
  have hx := h
  obtain ⟨h1, h2, h3, h4, hrr, hR, hA, hP, hI, hT⟩ := CIx.iff.mp h
  have hkM := hK.kpM h1
  have hk4 := hK.kp hR0 (o_ne hR0 h1 (by decide)) (Or.inr rfl)
  obtain ⟨kw1, kw2, kw3⟩ := keepW_7 (w := w) ea ha
  have kv8 := keepV_8 ea ha
  have ekp := fun (b ci : Nat) (fs : List Value) (ar : gA) (hb : O b = some (.inr (ci, fs, ar))) (h0 : ci ≠ 0) (h1' : ci ≠ 1) => hK.kp hb (o_ne hb h1 h0) (Or.inl h1')
  obtain ⟨a1, f1, pq, pd, pw, O', e1, e2, e3, e4, e5, e6, e7, e8⟩ := hK
  rw [← e1] at kw1 kw2 kw3 kv8
  have ha1 : a1 < 24 := by rw [e1]; split <;> omega
  -- the place that pq had
  have hpq : ∀ i q, rol ad g i = some q → i ≠ (if a = 24 then 2 else a + 2) → q ≠ pq := by
    intro i q hi hne e
    subst e
    rcases e8 with ⟨u1, u2, u3, u4⟩ | u
    · by_cases h24 : a = 24
      · rw [if_pos h24] at hne
        exact hne (hrr i 2 q hi (rol_p (j := 0) (by omega) (u1 h24)))
      · rw [if_neg h24] at hne
        exact hne (hrr i (a + 2) q hi (rol_p (j := a) (by omega) (u2 h24)))
    · obtain ⟨x, y, z, hz⟩ := h.rol1 ⟨a, ea, ha⟩ hi
      rw [u] at hz
      cases hz
  have hpno : pq ≠ no := by
    intro e
    subst e
    rcases e8 with ⟨u1, u2, ⟨x, y, z, u3⟩, u4⟩ | u
    · rw [h1] at u3
      simp only [nsU, rdU, cU, Option.some.injEq, Sum.inr.injEq, Prod.mk.injEq] at u3
      exact absurd u3.1 (by decide)
    · rw [h1] at u
      cases u
  -- kept roads
  have kr : ∀ i q x, rol ad g i = some q → i ≠ (if a = 24 then 2 else a + 2) → O q = some x → O1 q = some x := by
    intro i q x hi hne hq
    obtain ⟨_, _, _, hz⟩ := h.rol1 ⟨a, ea, ha⟩ hi
    rw [e3, oup_n (o_ne hz h1 (by decide))]
    exact e7 q x hq (hpq i q hi hne)
  -- the past's other places
  have hG : ∀ j, j < 24 → j ≠ a1 → va_up f1 a1 (some pq) j = g 6 (if a = 24 then j + 1 else j) ∧ (if a = 24 then j + 1 else j) < 24 ∧ (if a = 24 then j + 1 else j) + 2 ≠ (if a = 24 then 2 else a + 2) := by
    intro j hj hne
    rw [va_up_ne _ _ hne, e2]
    by_cases h24 : a = 24
    · simp only [if_pos h24] at e1 ⊢
      refine ⟨?_, by omega, by omega⟩
      unfold rotK
      rw [if_pos (by omega)]
    · simp only [if_neg h24] at e1 ⊢
      exact ⟨trivial, hj, by omega⟩
  have hGa : va_up f1 a1 (some pq) a1 = some pq := va_up_self _ _ _
  have gg6 : gput g 6 (va_up f1 a1 (some pq)) 6 = va_up f1 a1 (some pq) := if_pos rfl
  have gg8 : gput g 6 (va_up f1 a1 (some pq)) 8 = g 8 := if_neg (by decide)
  refine ⟨upd cv 7 (nI (a1 + 1)), gput g 6 (va_up f1 a1 (some pq)), CIx.iff.mpr ⟨by rw [e3]; exact oup_s _ _ _, ⟨by rw [keepV_n (by decide)]; exact h2.1, by rw [keepV_n (by decide)]; exact h2.2.1, by rw [kv8]; rfl, by rw [keepV_n (by decide)]; exact h2.2.2.2⟩, ?_, h4.kp (fun q fs ar hq => ekp q 5 fs ar hq (by decide) (by decide)) rfl (keepW_o (by decide)) (keepW_o (by decide)) (keepW_o (by decide)), ?_, ?_, ?_, ?_, hI.kp (fun j q x hj hq hx => kr (j + 26) q x (rol_i hj hq) (by split <;> omega) hx) hkM gg8 (keepW_o (by decide)) (keepW_o (by decide)), hT.kp (fun q fs ar hq => ekp q 2 fs ar hq (by decide) (by decide)) (keepV_n (by decide)) (keepW_o (by decide))⟩, ?_, hk4, hkM⟩
  · unfold ciA
    rw [keepV_n (by decide), keepW_o (by decide)]
    exact h3
  · -- the roads lie apart
    have key : ∀ i q, rol ad (gput g 6 (va_up f1 a1 (some pq))) i = some q → (i = a1 + 2 ∧ q = pq) ∨ (i ≠ a1 + 2 ∧ ∃ i', rol ad g i' = some q ∧ i' ≠ (if a = 24 then 2 else a + 2) ∧ i' = if 2 ≤ i ∧ i < 26 then (if a = 24 then i + 1 else i) else i) := by
      intro i q hi
      by_cases c : 2 ≤ i ∧ i < 26
      · have hi2 : va_up f1 a1 (some pq) (i - 2) = some q := by
          unfold rol at hi
          rw [if_neg (by omega), if_neg (by omega), if_pos (by omega), gg6] at hi
          exact hi
        by_cases ei : i - 2 = a1
        · rw [ei, hGa] at hi2
          cases hi2
          exact Or.inl ⟨by omega, rfl⟩
        · obtain ⟨k1, k2, k3⟩ := hG (i - 2) (by omega) ei
          rw [k1] at hi2
          refine Or.inr ⟨by omega, _, rol_p k2 hi2, k3, ?_⟩
          rw [if_pos c]
          split <;> omega
      · refine Or.inr ⟨by omega, i, ?_, ?_, (if_neg c).symm⟩
        · unfold rol at hi ⊢
          rw [gg6, gg8] at hi
          by_cases c0 : i = 0
          · rw [if_pos c0] at hi ⊢; exact hi
          · rw [if_neg c0] at hi ⊢
            by_cases c1 : i = 1
            · rw [if_pos c1] at hi ⊢; exact hi
            · rw [if_neg c1, if_neg (by omega)] at hi ⊢
              exact hi
        · split <;> omega
    intro i j q hi hj
    rcases key i q hi with ⟨u1, u2⟩ | ⟨u0, i', u1, u2, u3⟩
    · rcases key j q hj with ⟨t1, t2⟩ | ⟨t0, j', t1, t2, t3⟩
      · omega
      · exact absurd u2 (hpq j' q t1 t2)
    · rcases key j q hj with ⟨t1, t2⟩ | ⟨t0, j', t1, t2, t3⟩
      · exact absurd t2 (hpq i' q u1 u2)
      · have e := hrr i' j' q u1 t1
        by_cases h24 : a = 24
        · simp only [if_pos h24] at u2 u3 t2 t3 e1
          by_cases ci : 2 ≤ i ∧ i < 26
          · rw [if_pos ci] at u3
            by_cases cj : 2 ≤ j ∧ j < 26
            · rw [if_pos cj] at t3; omega
            · rw [if_neg cj] at t3; omega
          · rw [if_neg ci] at u3
            by_cases cj : 2 ≤ j ∧ j < 26
            · rw [if_pos cj] at t3; omega
            · rw [if_neg cj] at t3; omega
        · simp only [if_neg h24] at u3 t3
          have : (if 2 ≤ i ∧ i < 26 then i else i) = i := by split <;> rfl
          rw [this] at u3
          have : (if 2 ≤ j ∧ j < 26 then j else j) = j := by split <;> rfl
          rw [this] at t3
          omega
  · rw [keepW_o (by decide)]
    exact hR.kp (fun x hx => kr 0 _ x rfl (by split <;> omega) hx) hkM
  · exact hA.kp (fun x hx => kr 1 _ x rfl (by split <;> omega) hx)
  · intro a' ha' ha2 j hj
    rw [kv8] at ha'
    have : a1 + 1 = a' := neq_t ha'
    subst this
    rw [gg6]
    by_cases ej : j = a1
    · subst ej
      rw [hGa]
      refine ⟨fun e => (by cases e), fun q e => ?_⟩
      cases e
      refine ⟨rx, pd, pw, by rw [e3, oup_n hpno]; exact e4, fun _ => ⟨?_, fun k hk => ?_⟩⟩
      · rw [kw2]; exact hro.2.2.2.2.2.2.1.symm
      · rw [kw1 k hk, e6]; exact ((hro.2.2.2.2.2.2.2.2.1 k hk).2.1).symm
    · obtain ⟨k1, k2, k3⟩ := hG j hj ej
      rw [k1]
      refine ⟨fun e => ?_, fun q hq => ?_⟩
      · have := (hP a ea ha _ k2).1 e
        by_cases h24 : a = 24
        · simp only [if_pos h24] at this k2; omega
        · simp only [if_neg h24] at this e1; omega
      · obtain ⟨pv, pd', pw', z1, z2⟩ := (hP a ea ha _ k2).2 q hq
        refine ⟨pv, pd', pw', kr _ q _ (rol_p k2 hq) k3 z1, fun hja => ?_⟩
        have hja1 : j < a1 := by omega
        have := z2 (by
          by_cases h24 : a = 24
          · simp only [if_pos h24] at k2 ⊢; omega
          · simp only [if_neg h24] at e1 ⊢; omega)
        rw [kw3 j 6 (by omega) hja1]
        refine ⟨this.1, fun k hk => ?_⟩
        rw [kw3 j k (by omega) hja1]
        exact this.2 k hk
  · intro b fs ar hb
    exact ekp b 3 fs ar hb (by decide) (by decide)
end C5
