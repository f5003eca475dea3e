/-! feed, restore, image. -/
set_option maxRecDepth 100000
theorem bt255 (z : Int64) : vp_nar .byte z.toInt32.toInt8.toInt32 &&& 255 = (z &&& 255).toInt32 := by
  have e : vp_nar .byte z.toInt32.toInt8.toInt32 = z.toInt32.toInt8.toInt32.toInt8.toInt32 := rfl
  rw [e]
  apply Int32.toBitVec_inj.mp
  simp only [Int32.toBitVec_and, Int8.toBitVec_toInt32, Int32.toBitVec_toInt8, Int64.toBitVec_toInt32, Int64.toBitVec_and]
  ext i hi
  by_cases h8 : i < 8
  · simp [BitVec.getElem_signExtend, h8, hi]
  · have : (255#32)[i] = false := by
      have h : i = 8 ∨ i = 9 ∨ i = 10 ∨ i = 11 ∨ i = 12 ∨ i = 13 ∨ i = 14 ∨ i = 15 ∨ i = 16 ∨ i = 17 ∨ i = 18 ∨ i = 19 ∨ i = 20 ∨ i = 21 ∨ i = 22 ∨ i = 23 ∨ i = 24 ∨ i = 25 ∨ i = 26 ∨ i = 27 ∨ i = 28 ∨ i = 29 ∨ i = 30 ∨ i = 31 := by omega
      rcases h with rfl | rfl | rfl | rfl | rfl | rfl | rfl | rfl | rfl | rfl | rfl | rfl | rfl | rfl | rfl | rfl | rfl | rfl | rfl | rfl | rfl | rfl | rfl | rfl <;> decide +revert
    simp [this]
section CX3
variable (l : Launch) (κ : Nat → Nat) (O : gO) (no : Nat) (v : Nat → Int32) (w : Nat → Nat → Int32)
theorem cx_feed (hI : INV v w) (hC : CI κ O no v w) (x : Int64) (y : Int32) : cX l κ yX0_feed (ws_ yX0_feed cX0_feed 5 (some .int)) [.long x, .int y] O no (op_feed v w x y) := by
  obtain ⟨cv, ad, g, cw, hx⟩ := CI.x.mp hC
  have hx' := hx
  obtain ⟨h1, h2, h3, h4, hrr, hR, hA, hP, hI2, hT⟩ := CIx.iff.mp hx'
  have hIa := hI.a
  obtain ⟨-, ⟨T0, eT, hT0, htp⟩, -⟩ := hI
  refine (cn_feed l κ O no cv ad g cw x y T0 h1 (h2.1.trans eT) hT0).cx (Nat.le_of_ble_eq_true rfl) (Nat.le_of_ble_eq_true rfl) (Nat.le_of_ble_eq_true rfl) (Nat.le_of_ble_eq_true rfl) (fun rv O1 hp => ?_)
  unfold op_feed
  rw [eT]
  by_cases hy : 1 ≤ y ∧ y ≤ 8
  · obtain ⟨N, hN8, rfl⟩ := in_nI (N := 8) (b := 8) rfl rfl ⟨Int32.le_trans (by decide) hy.1, hy.2⟩
    rw [if_neg (not_not_intro hy)]
    have es : nI T0 + nI N = nI (T0 + N) := by rw [nI_add]
    rw [es] at hp ⊢
    by_cases h4 : nI (T0 + N) ≤ 400
    · rw [if_neg (not_not_intro h4)]
      have hb : T0 + N ≤ 400 := nle_t (b := 400) h4
      obtain ⟨g1, rfl⟩ := hp.2.2 hy h4
      refine ⟨g1, ?_, hx.k3no⟩
      rw [iN_nI (show T0 < 2 ^ 31 by omega), iN_nI (show N < 2 ^ 31 by omega)]
      refine (hx.cvw (cv' := upd cv 2 (nI (T0 + N))) (v' := upd (upd v 0 0) 10 (nI (T0 + N))) (w' := wseg w 9 T0 N (fun q => ((x >>> ((8 * nI (N - 1 - q)).toInt64 &&& 63)) &&& 255).toInt32)) (cw' := wput cw 1 (fdC (cw 1) T0 N x N)) hIa ⟨rfl, h2.2.1, h2.2.2.1, h2.2.2.2⟩ ?_ (fun a ha ha2 => ⟨a, ha, ha2, Nat.le_refl a⟩) rfl rfl rfl rfl rfl rfl rfl rfl rfl).ci
      intro T e hT j hj
      have : T0 + N = T := neq_t (a := T0 + N) (b := T) e
      subst this
      rw [wput_s]
      unfold fdC
      by_cases hjT : T0 ≤ j
      · rw [if_pos ⟨hjT, hj⟩, wseg_in hjT hj]
        exact bt255 _
      · rw [if_neg (by omega), wseg_out (by omega)]
        exact h3 T0 eT hT0 j (by omega)
    · rw [if_pos h4]
      exact same_ci hC (hp.2.1 hy h4)
  · rw [if_pos hy]
    exact same_ci hC (hp.1 hy)
theorem cx_restore (hI : INV v w) (hC : CI κ O no v w) (x : Int32) : cX l κ yX0_restore (ws_ yX0_restore cX0_restore 2 (some .int)) [.int x] O no (op_restore v w x) := by
  obtain ⟨cv, ad, g, cw, rx, rd, rw, mm, kd, mv, n, tm, nt, hx, hN, hR, hro, hmv, hm, ⟨en, hn⟩, ⟨et, ht⟩, ⟨ent, hnt⟩, hto, hmo, hbd⟩ := CI.un hI hC
  obtain ⟨q1, q2, q3, q4, hrr, q5, q6, hP, hIm, hT⟩ := CIx.iff.mp hx
  unfold op_restore
  by_cases hb : 0 ≤ x ∧ x ≤ 1
  · rw [if_neg (not_not_intro hb)]
    obtain ⟨k, hk, rfl⟩ := in_nI (N := 1) (b := 1) rfl rfl hb
    rw [iN_nI (by omega)]
    cases hg : g 8 k with
    | none =>
      rw [if_pos ((hIm k (by omega)).1.mp hg)]
      exact (cn_restoreN l κ O no cv ad g cw k hN (by omega) hg).cx (Nat.le_of_ble_eq_true rfl) (Nat.le_of_ble_eq_true rfl) (Nat.le_of_ble_eq_true rfl) (Nat.le_of_ble_eq_true rfl) (fun rv O1 hp => same_ci hC hp)
    | some iq =>
      rw [if_neg (fun e => by rw [(hIm k (by omega)).1.mpr e] at hg; cases hg)]
      obtain ⟨ix, idd, iw, m2, kd2, mv2, z1, z2, z3⟩ := (hIm k (by omega)).2 iq hg
      have hne : ad 4 ≠ iq := hrr.ne (i := 0) (j := k + 26) rfl (rol_i (by omega) hg) (by omega)
      refine (cn_restore l κ O no cv ad g cw rx rd rw k iq ix idd iw hN hR (by omega) hg z1 hne).cx (Nat.le_of_ble_eq_true rfl) (Nat.le_of_ble_eq_true rfl) (Nat.le_of_ble_eq_true rfl) (Nat.le_of_ble_eq_true rfl) (fun rv O1 hp => ?_)
      obtain ⟨h1, rfl⟩ := hp
      have hr' : rdR ((wseg w 5 0 94 (fun q => w 23 (94 * k + q))) 5) ix (becW rw iw) m2 kd2 mv2 := by
        have hm2 : m2 ≤ 5 := by obtain ⟨_, _, _, _, _, q, -⟩ := z3; exact q
        have e : ∀ i, i < 94 → (wseg w 5 0 94 (fun q => w 23 (94 * k + q))) 5 i = w 23 (94 * k + i) := fun i hi => by rw [wseg_in (by omega) (by omega)]; rfl
        obtain ⟨h0, h1, h2, h3, h4, h5, h6, h7, h8, h9, h10⟩ := z2
        refine ⟨(e 0 (by omega)).trans h0, (e 1 (by omega)).trans h1, (e 2 (by omega)).trans h2, (e 3 (by omega)).trans h3, (e 4 (by omega)).trans h4, (e 5 (by omega)).trans h5, (e 6 (by omega)).trans h6, (e 7 (by omega)).trans h7, fun k hk => ?_, fun j hj => ?_, fun q hq => (e _ (by omega)).trans (h10 q hq)⟩
        · rw [e _ (by omega), e _ (by omega), e _ (by omega)]
          exact h8 k hk
        · rw [e _ (by omega), e _ (by omega), e _ (by omega), e _ (by omega)]
          exact h9 j hj
      have hx4 := hx.rd4 (rd' := updN rd 8 (idd 8)) (w' := wseg w 5 0 94 (fun q => w 23 (94 * k + q))) hI.a hr' z3 rfl rfl rfl rfl rfl rfl rfl rfl
      refine ⟨h1, ?_, hx.k34.tr hx4.k3no⟩
      exact (hx4.cvw (cv' := upd cv 7 0) (v' := upd (upd v 0 0) 8 0) (w' := wseg w 5 0 94 (fun q => w 23 (94 * k + q))) hI.a ⟨q2.1, q2.2.1, rfl, q2.2.2.2⟩ hx4.2.2.1 (fun a ha' ha2 => by
        obtain ⟨a0, e0, h0⟩ := hI.a
        exact ⟨a0, e0, h0, by have := neq_t (a := 0) (b := a) ha'; omega⟩) rfl rfl rfl rfl rfl rfl rfl rfl rfl).ci
  · rw [if_pos hb]
    exact (cn_restoreB l κ O no cv ad g cw x hN hb).cx (Nat.le_of_ble_eq_true rfl) (Nat.le_of_ble_eq_true rfl) (Nat.le_of_ble_eq_true rfl) (Nat.le_of_ble_eq_true rfl) (fun rv O1 hp => same_ci hC hp)
end CX3
