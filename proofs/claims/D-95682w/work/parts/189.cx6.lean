/-! night, prove. -/
set_option maxRecDepth 100000
theorem psh_out {len : Int32} {n k j : Nat} {step : Int32} (h : j ≠ k) : ∀ (y : Nat) (f : Nat → Int32), psh len n k step y f j = f j := by
  intro y
  induction y with
  | zero => intro f; rfl
  | succ y ih =>
    intro f
    rw [psh]
    split
    · rw [ih, upd_n h]
    · rfl
theorem frL_b {b : Bool} {f : Nat → Int32} {x : Int32} : ∀ k, frL b f x k = true → b = true := by
  intro k
  induction k with
  | zero => intro h; exact h
  | succ k ih =>
    intro h
    rw [frL, Bool.and_eq_true] at h
    exact ih h.1
theorem psh_bd {le n k : Nat} {step : Int32} (hle : le ≤ 200) : ∀ (y : Nat) (f : Nat → Int32), (∀ j, j < 6 → ∃ x, x ≤ 200 ∧ f j = nI x) → ∀ j, j < 6 → ∃ x, x ≤ 200 ∧ psh (nI le) n k step y f j = nI x := by
  intro y
  induction y with
  | zero => intro f h; exact h
  | succ y ih =>
    intro f h
    rw [psh]
    split
    · rename_i hf
      refine ih _ (fun j hj => ?_)
      unfold upd
      split
      · have := of_decide_eq_true (frL_b n hf)
        obtain ⟨x, hx, e⟩ := in_nI (N := le) (nI_toInt (by omega)) rfl this
        exact ⟨x, by omega, e⟩
      · exact h j hj
    · exact h
theorem pushF_out {ro f : Nat → Int32} {n mv m nt j : Nat} (hm : m < mv) (hmo : movOk ro n mv) (hj : n ≤ j) : pushF ro n f m nt j = f j := by
  unfold pushF
  split
  · rfl
  · obtain ⟨k, r, h1, h2, -⟩ := hmo m hm
    have hk : iN (ro (26 + 4 * m + 1)) = k ∨ 2 ^ 31 ≤ k := by
      rcases Nat.lt_or_ge k (2 ^ 31) with q | q
      · exact Or.inl (by rw [h1, iN_nI q])
      · exact Or.inr q
    rcases hk with e | e
    · rw [e]; exact psh_out (by omega) _ _
    · refine psh_out ?_ _ _
      intro q
      have : iN (ro (26 + 4 * m + 1)) < 2 ^ 31 := by
        unfold iN
        have := Int32.toInt_lt (ro (26 + 4 * m + 1))
        rw [Int32.toNatClampNeg]
        omega
      omega
theorem goF_out {ro f : Nat → Int32} {n mv nt j : Nat} {o : Int32} (hmo : movOk ro n mv) (hj : n ≤ j) : ∀ m, m ≤ mv → goF ro n nt o f m j = f j := by
  intro m
  induction m with
  | zero => intro _; rfl
  | succ m ih =>
    intro hm
    rw [goF]
    split
    · rw [pushF_out (by omega) hmo hj]; exact ih (by omega)
    · exact ih (by omega)
theorem goF_bd {ro f : Nat → Int32} {n nt le : Nat} {o : Int32} (h0 : ro 0 = nI le) (hle : le ≤ 200) (hf : ∀ j, j < 6 → ∃ x, x ≤ 200 ∧ f j = nI x) : ∀ m, ∀ j, j < 6 → ∃ x, x ≤ 200 ∧ goF ro n nt o f m j = nI x := by
  intro m
  induction m with
  | zero => exact hf
  | succ m ih =>
    rw [goF]
    split
    · unfold pushF
      split
      · exact ih
      · rw [h0]; exact psh_bd hle _ _ ih
    · exact ih
theorem difL_agr {f g f' g' : Nat → Int32} {n : Nat} (h : agr n f f') (h2 : agr n g g') : ∀ k, k ≤ n → difL f g k = difL f' g' k := by
  intro k
  induction k with
  | zero => intro _; rfl
  | succ k ih => intro hk; rw [difL, difL, ih (by omega), h k (by omega), h2 k (by omega)]
theorem rdR.x {ro v : Nat → Int32} {w : Nat → Nat → Int32} {mm : Nat} {kd : Nat → Nat} {mv : Nat → Nat → Int32} (h : rdR ro v w mm kd mv) : rdX ro v w mm kd mv :=
  ⟨h.1, fun k hk => (h.2.2.2.2.2.2.2.2.1 k hk).2.2, fun j hj => ⟨(h.2.2.2.2.2.2.2.2.2.1 j hj).1, (h.2.2.2.2.2.2.2.2.2.1 j hj).2.1, (h.2.2.2.2.2.2.2.2.2.1 j hj).2.2.1, (h.2.2.2.2.2.2.2.2.2.1 j hj).2.2.2.1⟩⟩
theorem rdR.mo {ro v : Nat → Int32} {w : Nat → Nat → Int32} {mm n : Nat} {kd : Nat → Nat} {mv : Nat → Nat → Int32} (h : rdR ro v w mm kd mv) (hmo : mvOk n mm mv) : movOk ro n mm := by
  intro m hm
  obtain ⟨⟨k, hk, e1⟩, -, r, hr, e3⟩ := hmo m hm
  obtain ⟨-, x1, x2, x3, -⟩ := h.2.2.2.2.2.2.2.2.2.1 m hm
  exact ⟨k, r, x1.trans e1, hk, x3.trans e3, hr⟩
theorem cgL_blk {ro f : Nat → Int32} {k : Nat} {lo hi : Int32} {b : Bool} (h : ∀ q, q < 6 → f q = ro (8 + 3 * q + 1)) : ∀ n, n ≤ 6 → cgL f k lo hi b n = (b && !blkL ro k lo hi n) := by
  intro n
  induction n with
  | zero => intro _; rw [cgL, blkL]; cases b <;> rfl
  | succ n ih =>
    intro hn
    rw [cgL, blkL, ih (by omega), h n (by omega)]
    by_cases e : n = k
    · simp [e]
    · simp [e, Bool.and_assoc]
theorem loI_min (a b : Int32) : minI a b = loI a b := by
  unfold minI loI
  by_cases h : a < b
  · rw [if_pos h, if_neg (fun q => Int32.lt_irrefl (Int32.lt_trans h q))]
  · rw [if_neg h]
    by_cases h2 : b < a
    · rw [if_pos h2]
    · rw [if_neg h2]
      exact Int32.le_antisymm (Int32.not_lt.mp h2) (Int32.not_lt.mp h)
theorem absI_hl {i j : Nat} (hi : i ≤ 200) (hj : j ≤ 200) : absI (nI i - nI j) = hiI (nI i) (nI j) - loI (nI i) (nI j) := by
  unfold absI hiI loI
  have e : (nI i - nI j).toInt = (i : Int) - j := by
    rw [Int32.toInt_sub, nI_toInt (by omega), nI_toInt (by omega)]
    exact Int.bmod_eq_of_le (by omega) (by omega)
  by_cases h : i < j
  · rw [if_pos ((nI_ltI (by omega) (by omega)).mpr h), if_pos ((nI_ltI (by omega) (by omega)).mpr h), if_neg, Int32.neg_sub]
    intro q
    have := Int32.le_iff_toInt_le.mp q
    rw [e] at this
    have z : (0 : Int32).toInt = 0 := rfl
    omega
  · rw [if_neg (fun q => h ((nI_ltI (by omega) (by omega)).mp q)), if_neg (fun q => h ((nI_ltI (by omega) (by omega)).mp q)), if_pos]
    apply Int32.le_iff_toInt_le.mpr
    rw [e]
    have z : (0 : Int32).toInt = 0 := rfl
    omega
theorem vA.keep {v : Nat → Int32} {a : Nat} (ea : v 8 = nI a) (ha : a ≤ 24) : vA (keepV v) (keepV (upd v 0 0)) := by
  refine ⟨?_, by rw [keepV_8 (v := upd v 0 0) (a := a) ea ha, keepV_8 ea ha], ?_, ?_, ?_⟩ <;> (rw [keepV_n (by decide), keepV_n (by decide)]; rfl)
section CX6
variable (l : Launch) (κ : Nat → Nat) (O : gO) (no : Nat) (v : Nat → Int32) (w : Nat → Nat → Int32)
theorem CIx.past {κ : Nat → Nat} {O : gO} {no : Nat} {v : Nat → Int32} {w : Nat → Nat → Int32} {cv : Nat → Int32} {ad : Nat → Nat} {g : Nat → Nat → Option Nat} {cw : Nat → Nat → Int32} (hx : CIx κ O no v w cv ad g cw) {a : Nat} (ea : v 8 = nI a) (ha : a ≤ 24) : ∀ j, j < 24 → (g 6 j = none → a ≤ j) ∧ ∀ q, g 6 j = some q → (∃ v d w, O q = some (rdU v d w)) ∧ q ≠ ad 4 := by
  obtain ⟨q1, q2, q3, q4, hrr, q5, q6, hP, q7⟩ := CIx.iff.mp hx
  intro j hj
  refine ⟨(hP a ea ha j hj).1, fun q hq => ⟨hx.rol1 ⟨a, ea, ha⟩ (rol_p hj hq), hrr.ne (rol_p hj hq) (j := 0) rfl (by omega)⟩⟩
theorem cx_night (hI : INV v w) (hC : CI κ O no v w) : cX l κ yX0_night (ws_ yX0_night cX0_night 1 (some .int)) [] O no (op_night v w) := by
  obtain ⟨cv, ad, g, cw, rx, rd, rw, mm, kd, mv, n, tm, nt, hx, hN, hR, hro, hmv, hm, ⟨en, hn⟩, ⟨et, ht⟩, ⟨ent, hnt⟩, hto, hmo, hbd⟩ := CI.un hI hC
  obtain ⟨q1, q2, q3, q4, hrr, q5, q6, hP, q7⟩ := CIx.iff.mp hx
  obtain ⟨a, ea, ha⟩ := hI.a
  have e0 : w 5 0 = rx 0 := hro.1
  have e4 : w 5 4 = nI n := hro.2.2.2.2.1.trans en
  have e5 : w 5 5 = nI mm := hro.2.2.2.2.2.1
  have e6 : w 5 6 = nI nt := hro.2.2.2.2.2.2.1.trans ent
  unfold op_night
  by_cases h0 : 0 < rx 0
  · rw [if_neg (not_not_intro (by rw [e0]; exact h0))]
    by_cases h9 : nt = 9999
    · rw [if_pos (by rw [e6, h9]; rfl)]
      exact (cn_nightF l κ O no cv ad g cw rx rd rw hN hR h0 (by rw [ent, h9]; rfl)).cx (Nat.le_of_ble_eq_true rfl) (Nat.le_of_ble_eq_true rfl) (Nat.le_of_ble_eq_true rfl) (Nat.le_of_ble_eq_true rfl) (fun rv O1 hp => same_ci hC hp)
    · rw [if_neg (by rw [e6]; intro q; exact h9 (neq_t (b := 9999) q))]
      refine (cn_night l κ O no cv ad g cw rx rd rw hN hR mm kd mv hmv n en hn hmo (w 5) hro.x a (q2.2.2.1.trans ea) ha (hx.past ea ha) h0 nt ent (by omega)).cx (Nat.le_of_ble_eq_true rfl) (Nat.le_of_ble_eq_true rfl) (Nat.le_of_ble_eq_true rfl) (Nat.le_of_ble_eq_true rfl) (fun rv O1 hp => ?_)
      obtain ⟨g1, O2, hK, rfl⟩ := hp
      rw [e4, e5, e6, iN_nI (by omega), iN_nI (by omega), iN_nI (by omega)]
      have hm6 : ∀ k, k < 6 → rw 6 k = w 5 (8 + 3 * k + 1) := fun k hk => ((hro.2.2.2.2.2.2.2.2.1 k hk).2.1).symm
      have ha6 : agr n (rw 6) (layF (w 5) (w 19) n 1) := fun k hk => by
        unfold layF
        rw [if_pos hk]
        exact hm6 k (by omega)
      have hmo' : movOk (w 5) n mm := hro.mo hmo
      have hgo := goF_agr (nt := nt) (o := 31) hmo' ha6 mm (Nat.le_refl mm)
      have hout := fun j hj => goF_out (f := rw 6) (nt := nt) (o := 31) hmo' hj mm (Nat.le_refl mm) (j := j)
      obtain ⟨F, eF⟩ : ∃ F, F = goF (w 5) n nt 31 (rw 6) mm := ⟨_, rfl⟩
      obtain ⟨F2, eF2⟩ : ∃ F2, F2 = goF (w 5) n nt 31 (layF (w 5) (w 19) n 1) mm := ⟨_, rfl⟩
      rw [← eF, ← eF2] at hgo
      rw [← eF] at hout g1 ⊢
      rw [← eF2]
      have hd : difL F (rw 6) n = difL F2 (fun k => w 5 (8 + 3 * k + 1)) n := difL_agr hgo (fun k hk => hm6 k (by omega)) n (Nat.le_refl n)
      obtain ⟨cv', g', hx2, hk3, hk4, hkM⟩ := hx.kept ea ha hR hro hK
      refine ⟨by rw [g1, hd], ?_, hk3.tr hx2.k34⟩
      have h8' : ∃ a : Nat, keepV v 8 = nI a ∧ a ≤ 24 := ⟨_, keepV_8 ea ha, by split <;> omega⟩
      have hw5 : (wup (wst (wput (keepW v w) 19 F2) n F2) 5 6 (nI nt + 1)) 5 = upd (wst (wput (keepW v w) 19 F2) n F2 5) 6 (nI nt + 1) := wup_s _ _ _ _
      have hkw5 : wput (keepW v w) 19 F2 5 = w 5 := keepW_o (by decide)
      have hr' : rdR ((wup (wst (wput (keepW v w) 19 F2) n F2) 5 6 (nI nt + 1)) 5) (upd rx 9 (nI (nt + 1))) (wput rw 6 F) mm kd mv := by
        rw [hw5]
        refine hro.ns hm (fun i h6 hk => ?_) (by rw [upd_s, nI_1]) (fun k hk => ?_)
        · rw [upd_n h6]
          unfold wst
          rw [if_pos rfl, if_neg, hkw5]
          rintro ⟨u1, u2, u3⟩
          exact hk ((i - 9) / 3) (by omega) (by omega)
        · rw [upd_n (by omega)]
          unfold wst
          rw [if_pos rfl]
          by_cases hkn : k < n
          · rw [if_pos (by omega), hgo k hkn]
            congr 1
            omega
          · rw [if_neg (by omega), hkw5, hout k (by omega), hm6 k hk]
      have := hx2.rd4 (w' := wup (wst (wput (keepW v w) 19 F2) n F2) 5 6 (nI nt + 1)) (rw' := wput (wput rw 12 (va_cpy (rw 6) (rw 12) 0 0 n)) 6 F) h8' hr' (hmv.kp hkM) rfl rfl rfl rfl rfl rfl rfl rfl
      exact this.ci.agr (vA.keep ea ha) wA.rf
  · rw [if_pos (by rw [e0]; exact h0)]
    exact (cn_nightR l κ O no cv ad g cw rx rd rw hN hR h0).cx (Nat.le_of_ble_eq_true rfl) (Nat.le_of_ble_eq_true rfl) (Nat.le_of_ble_eq_true rfl) (Nat.le_of_ble_eq_true rfl) (fun rv O1 hp => same_ci hC hp)
theorem cx_prove (hI : INV v w) (hC : CI κ O no v w) (x : Int32) : cX l κ yX0_prove (ws_ yX0_prove cX0_prove 3 (some .int)) [.int x] O no (op_prove v w x) := by
  obtain ⟨cv, ad, g, cw, rx, rd, rw, mm, kd, mv, n, tm, nt, hx, hN, hR, hro, hmv, hm, ⟨en, hn⟩, ⟨et, ht⟩, ⟨ent, hnt⟩, hto, hmo, hbd⟩ := CI.un hI hC
  obtain ⟨q1, q2, q3, q4, hrr, q5, q6, hP, q7⟩ := CIx.iff.mp hx
  obtain ⟨a, ea, ha⟩ := hI.a
  have e4 : w 5 4 = nI n := hro.2.2.2.2.1.trans en
  unfold op_prove
  by_cases hxn : 0 ≤ x ∧ x ≤ rx 4 - 1
  · have hxn' := hxn
    rw [en, ← e4] at hxn'
    rw [if_neg (not_not_intro hxn')]
    rw [en] at hxn
    obtain ⟨k, hk, rfl⟩ := in_nI1 (by omega) hxn
    rw [e4, iN_nI (by omega), iN_nI (by omega)]
    have hm6 : ∀ k, k < 6 → rw 6 k = w 5 (8 + 3 * k + 1) := fun k hk => ((hro.2.2.2.2.2.2.2.2.1 k hk).2.1).symm
    have hm7 : ∀ k, k < 6 → rw 7 k = w 5 (8 + 3 * k + 2) := fun k hk => ((hro.2.2.2.2.2.2.2.2.1 k hk).2.2).symm
    have hcg : cgL (rw 6) k (minI (rw 6 k) (rw 7 k)) (maxI (rw 6 k) (rw 7 k)) (decide (rw 6 k ≠ rw 7 k)) n = (decide (w 5 (8 + 3 * k + 1) ≠ w 5 (8 + 3 * k + 2)) && !blkL (w 5) k (loI (w 5 (8 + 3 * k + 1)) (w 5 (8 + 3 * k + 2))) (hiI (w 5 (8 + 3 * k + 1)) (w 5 (8 + 3 * k + 2))) n) := by
      rw [cgL_blk hm6 n hn, hm6 k (by omega), hm7 k (by omega), loI_min]
      rfl
    by_cases hb : cgL (rw 6) k (minI (rw 6 k) (rw 7 k)) (maxI (rw 6 k) (rw 7 k)) (decide (rw 6 k ≠ rw 7 k)) n = true
    · have hb' := hb
      rw [hcg, Bool.and_eq_true, Bool.not_eq_true'] at hb'
      have hne := of_decide_eq_true hb'.1
      rw [if_neg (by rw [hb'.2]; decide), if_neg hne]
      refine (cn_prove l κ O no cv ad g cw rx rd rw k n en hn hN hR a (q2.2.2.1.trans ea) ha (hx.past ea ha) hk hb).cx (Nat.le_of_ble_eq_true rfl) (Nat.le_of_ble_eq_true rfl) (Nat.le_of_ble_eq_true rfl) (Nat.le_of_ble_eq_true rfl) (fun rv O1 hp => ?_)
      obtain ⟨g1, O2, hK, rfl⟩ := hp
      obtain ⟨cv', g', hx2, hk3, hk4, hkM⟩ := hx.kept ea ha hR hro hK
      refine ⟨?_, ?_, hk3.tr hx2.k34⟩
      · rw [g1, hm6 k (by omega), hm7 k (by omega)]
        obtain ⟨i, hi, e1⟩ := hbd k (by omega) 1 (by omega)
        obtain ⟨j, hj, e2⟩ := hbd k (by omega) 2 (by omega)
        rw [e1, e2, absI_hl hi hj]
      · have h8' : ∃ a : Nat, keepV v 8 = nI a ∧ a ≤ 24 := ⟨_, keepV_8 ea ha, by split <;> omega⟩
        have hkw5 : keepW (upd v 0 0) w 5 = w 5 := keepW_o (by decide)
        have hr' : rdR ((wup (keepW (upd v 0 0) w) 5 (8 + 3 * k + 1) (w 5 (8 + 3 * k + 2))) 5) (upd rx 9 (rx 9)) (wput rw 6 (upd (rw 6) k (rw 7 k))) mm kd mv := by
          rw [wup_s, hkw5]
          refine hro.ns hm (fun i h6 hk' => upd_n (hk' k (by omega))) ?_ (fun k' hk' => ?_)
          · rw [upd_n (by omega)]; exact hro.2.2.2.2.2.2.1
          · by_cases e : k' = k
            · subst e
              rw [upd_s, upd_s, hm7 k' hk']
            · rw [upd_n (by omega), upd_n e, hm6 k' hk']
        rw [upd_self] at hr'
        have := hx2.rd4 (w' := wup (keepW (upd v 0 0) w) 5 (8 + 3 * k + 1) (w 5 (8 + 3 * k + 2))) h8' hr' (hmv.kp hkM) rfl rfl rfl rfl rfl rfl rfl rfl
        exact this.ci.agr (vA.keep ea ha) wA.rf
    · have hb' := hb
      rw [hcg, Bool.and_eq_true, Bool.not_eq_true'] at hb'
      by_cases h2 : blkL (w 5) k (loI (w 5 (8 + 3 * k + 1)) (w 5 (8 + 3 * k + 2))) (hiI (w 5 (8 + 3 * k + 1)) (w 5 (8 + 3 * k + 2))) n = true
      · rw [if_pos h2]
        exact (cn_proveN l κ O no cv ad g cw rx rd rw k n en hn hN hR hk hb).cx (Nat.le_of_ble_eq_true rfl) (Nat.le_of_ble_eq_true rfl) (Nat.le_of_ble_eq_true rfl) (Nat.le_of_ble_eq_true rfl) (fun rv O1 hp => same_ci hC hp)
      · rw [if_neg h2, if_pos]
        · exact (cn_proveN l κ O no cv ad g cw rx rd rw k n en hn hN hR hk hb).cx (Nat.le_of_ble_eq_true rfl) (Nat.le_of_ble_eq_true rfl) (Nat.le_of_ble_eq_true rfl) (Nat.le_of_ble_eq_true rfl) (fun rv O1 hp => same_ci hC hp)
        · exact Classical.byContradiction fun q => hb' ⟨decide_eq_true q, Bool.eq_false_iff.mpr h2⟩
  · have hxn' := hxn
    rw [en, ← e4] at hxn'
    rw [if_pos hxn']
    exact (cn_proveX l κ O no cv ad g cw rx rd rw x hN hR hxn).cx (Nat.le_of_ble_eq_true rfl) (Nat.le_of_ble_eq_true rfl) (Nat.le_of_ble_eq_true rfl) (Nat.le_of_ble_eq_true rfl) (fun rv O1 hp => same_ci hC hp)
end CX6
