/-! Ask and as. -/
set_option maxRecDepth 100000
section CX8a
variable {κ : Nat → Nat} {O O1 : gO} {no : Nat} {v v' : Nat → Int32} {w w' : Nat → Nat → Int32} {cv cv' : Nat → Int32} {ad : Nat → Nat} {g g' : Nat → Nat → Option Nat} {cw cw' : Nat → Nat → Int32}
theorem rol_9 (ad : Nat → Nat) (g : Nat → Nat → Option Nat) (q : Nat) : rol (updN ad 9 q) g = rol ad g := by
  funext i
  unfold rol
  rfl
/-- another trail -/
theorem CIx.tra (h : CIx κ O no v w cv ad g cw) (h8 : ∃ a : Nat, v 8 = nI a ∧ a ≤ 24) {t q9 tq : Nat} {f : Nat → Int32} (hq : O q9 = some (tU t tq f)) (hf : ∀ i, i < t → f i = w' 24 i) (ht : t ≤ 16) (ew : ∀ q, q ≠ 24 → w' q = w q) : CIx κ (oup O no (nsU cv (updN ad 9 q9) g cw)) no (upd v 25 (nI t)) w' cv (updN ad 9 q9) g cw := by
  obtain ⟨h1, h2, h3, h4, hrr, hR, hA, hP, hI, hT⟩ := CIx.iff.mp h
  have kc : ∀ (q ci : Nat) (fs : List Value) (ar : gA), ci ≠ 0 → O q = some (.inr (ci, fs, ar)) → oup O no (nsU cv (updN ad 9 q9) g cw) q = some (.inr (ci, fs, ar)) := by
    intro q ci fs ar n0 hq'
    rw [oup_n (o_ne hq' h1 n0)]
    exact hq'
  have hm : kpM O (oup O no (nsU cv (updN ad 9 q9) g cw)) := kpM.up h1 (by decide)
  refine CIx.iff.mpr ⟨oup_s _ _ _, h2, ?_, h4.kp (fun q fs ar => kc q 5 fs ar (by decide)) rfl (ew 2 (by decide)) (ew 3 (by decide)) (ew 4 (by decide)), ?_, ?_, ?_, hP.kp (fun j q x hj hq' hx => ?_) rfl (fun a ha ha2 => ⟨a, ha, ha2, Nat.le_refl a⟩) (ew 7 (by decide)), hI.kp (fun j q x hj hq' hx => ?_) hm rfl (ew 22 (by decide)) (ew 23 (by decide)), ?_⟩
  · unfold ciA
    rw [ew 9 (by decide)]
    exact h3
  · unfold ciD
    rw [rol_9]
    exact hrr
  · rw [ew 5 (by decide)]
    exact hR.kp (fun x hx => by obtain ⟨_, _, _, _, _, _, c4, -⟩ := hR; rw [oup_n (o_ne c4 h1 (by decide))]; exact hx) hm
  · exact hA.kp (fun x hx => by obtain ⟨_, _, _, c5⟩ := hA; rw [oup_n (o_ne c5 h1 (by decide))]; exact hx)
  · obtain ⟨n, hn, hn2⟩ := h8
    obtain ⟨pv, pd, pw, z1, -⟩ := (hP n hn hn2 j hj).2 q hq'
    rw [oup_n (o_ne z1 h1 (by decide))]
    exact hx
  · obtain ⟨_, _, _, _, _, _, z1, -⟩ := (hI j hj).2 q hq'
    rw [oup_n (o_ne z1 h1 (by decide))]
    exact hx
  · refine ⟨fun _ => nI t, fun _ => tq, f, ?_, rfl, fun t' ht' h16 i hi => ?_⟩
    · rw [show updN ad 9 q9 9 = q9 from rfl, oup_n (o_ne hq h1 (by decide))]
      exact hq
    · have : t = t' := neq_t (a := t) (b := t') ht'
      exact hf i (by omega)
theorem ask_ci {rv : Option Value} {r R : Int32} {t : Nat} {f : Nat → Int32} {L : List Int32} (hx : CIx κ O no v w cv ad g cw) (h8 : ∃ a : Nat, v 8 = nI a ∧ a ≤ 24) (hp : rv = some (.int r) ∧ ∃ qt tq, O qt = none ∧ O1 = oup (oup O qt (tU t tq f)) no (nsU cv (updN ad 9 qt) g cw)) (hr : r = R) (hL : L.length = t) (ht : t ≤ 16) (hf : ∀ i, i < t → f i = bgF (w 24) 0 L i) : rv = some (.int R) ∧ CI κ O1 no (upd (upd v 0 0) 25 (nI L.length)) (bgW w 0 L) ∧ kp3 O O1 := by
  obtain ⟨h1, qt, tq, hz, rfl⟩ := hp
  have hy := hx.nw h8 (u := tU t tq f) hz
  refine ⟨by rw [h1, hr], ?_, (kp3.new hz).tr hy.k3no⟩
  have := hy.tra h8 (w' := bgW w 0 L) (oup_s _ _ _) (fun i hi => by rw [bgW_F]; exact hf i hi) ht (fun q hq => bgW_o w 0 L hq)
  rw [hL]
  exact this.ci.agr ⟨rfl, rfl, rfl, rfl, rfl⟩ wA.rf
end CX8a
theorem mvs.at {κ : Nat → Nat} {O : gO} {la n : Nat} {kd : Nat → Nat} {mv : Nat → Nat → Int32} (h : mvs κ O la n kd mv) : ∃ (mc : Int32) (ea : Nat) (ar : gA), O la = some (lsU mc ea (nI n) ar) ∧ ∀ j, j < n → ∃ lf q, ar = lar lf ∧ 1 ≤ kd j ∧ kd j ≤ 5 ∧ lf j = some q ∧ O q = some (mvU (kd j) (mv j)) := by
  obtain ⟨mc, ea, f, ar, h1, -, -, h3, h4⟩ := h
  refine ⟨mc, ea, ar, h1, fun j hj => ?_⟩
  obtain ⟨a, b, q, c, d⟩ := h4 j hj
  exact ⟨f, q, h3 (by omega), a, b, c, d⟩
section CX8
variable (l : Launch) (κ : Nat → Nat) (O : gO) (no : Nat) (v : Nat → Int32) (w : Nat → Nat → Int32)
theorem cx_ask (hI : INV v w) (hC : CI κ O no v w) (x y : Int32) : cX l κ yX0_ask (ws_ yX0_ask cX0_ask 4 (some .int)) [.int x, .int y] O no (op_ask v w x y) := by
  obtain ⟨cv, ad, g, cw, rx, rd, rw, mm, kd, mv, n, tm, nt, hx, hN, hR, hro, hmv, hm, ⟨en, hn⟩, ⟨et, ht⟩, ⟨ent, hnt⟩, hto, hmo, hbd⟩ := CI.un hI hC
  have e5 : w 5 5 = nI mm := hro.2.2.2.2.2.1
  obtain ⟨mc, ea, ar, hls, hat⟩ := hmv.at
  unfold op_ask
  rw [e5]
  by_cases hb : ¬ (0 ≤ x ∧ x ≤ nI mm - 1) ∨ ¬ (0 ≤ y ∧ y ≤ 1)
  · rw [if_pos hb]
    exact (cn_askX l κ O no cv ad g cw rx rd rw mc ea mm ar x y hN hR hls hb).cx (Nat.le_of_ble_eq_true rfl) (Nat.le_of_ble_eq_true rfl) (Nat.le_of_ble_eq_true rfl) (Nat.le_of_ble_eq_true rfl) (fun rv O1 hp => same_ci hC hp)
  · rw [if_neg hb]
    have hx1 : 0 ≤ x ∧ x ≤ nI mm - 1 := Classical.byContradiction fun q => hb (Or.inl q)
    have hy1 : 0 ≤ y ∧ y ≤ 1 := Classical.byContradiction fun q => hb (Or.inr q)
    obtain ⟨j, hj, rfl⟩ := in_nI1 (by omega) hx1
    obtain ⟨lf, a, rfl, k1, k5, hfq, hA⟩ := hat j hj
    obtain ⟨m0, m1, m2, m3, m4⟩ := hro.2.2.2.2.2.2.2.2.2.1 j hj
    obtain ⟨k, r, e1, hk, e2, -⟩ := hro.mo hmo j hj
    have hk6 : k < 6 := by omega
    have ek : mv j 1 = nI k := m1.symm.trans e1
    have e6 : w 5 (8 + 3 * k + 1) = rw 6 k := (hro.2.2.2.2.2.2.2.2.1 k hk6).2.1
    obtain ⟨f0, ef0⟩ : ∃ f0 : Nat → Int32, f0 = mv j := ⟨_, rfl⟩
    rw [← ef0] at hA m1 m2 m3 m4 ek
    rw [iN_nI (n := j) (by omega)]
    unfold szV mkV thV
    rw [m0, m3, e1, iN_nI (n := k) (by omega), e6]
    obtain ⟨kk, ekk⟩ : ∃ kk, kk = kd j := ⟨_, rfl⟩
    rw [← ekk] at hA k1 k5 ⊢
    obtain ⟨y1, hy1, rfl⟩ := in_nI (N := 1) (b := 1) rfl rfl hy1
    rcases (by omega : y1 = 0 ∨ y1 = 1) with rfl | rfl
    · rw [if_pos (show nI 0 = 0 from rfl)]
      rcases (by omega : kk = 1 ∨ kk = 2 ∨ kk = 3 ∨ kk = 4 ∨ kk = 5) with rfl | rfl | rfl | rfl | rfl
      · refine (cn_ask0_9 l κ O no cv ad g cw rx rd rw mc ea mm lf a j k f0 hN hR hls hj (by omega) hfq hA hk6 ek).cx (Nat.le_of_ble_eq_true rfl) (Nat.le_of_ble_eq_true rfl) (Nat.le_of_ble_eq_true rfl) (Nat.le_of_ble_eq_true rfl) (fun rv O1 hp => ?_)
        refine ask_ci hx hI.a hp ?_ rfl (by decide) (fun i hi => ?_)
        · first | (rw [m4]; rfl) | rfl
        · rcases (by omega : i = 0 ∨ i = 1 ∨ i = 2 ∨ i = 3) with rfl | rfl | rfl | rfl <;> rfl
      · refine (cn_ask0_10 l κ O no cv ad g cw rx rd rw mc ea mm lf a j k f0 hN hR hls hj (by omega) hfq hA hk6 ek).cx (Nat.le_of_ble_eq_true rfl) (Nat.le_of_ble_eq_true rfl) (Nat.le_of_ble_eq_true rfl) (Nat.le_of_ble_eq_true rfl) (fun rv O1 hp => ?_)
        refine ask_ci hx hI.a hp ?_ rfl (by decide) (fun i hi => ?_)
        · first | (rw [m4]; rfl) | rfl
        · rcases (by omega : i = 0 ∨ i = 1 ∨ i = 2 ∨ i = 3 ∨ i = 4 ∨ i = 5) with rfl | rfl | rfl | rfl | rfl | rfl <;> rfl
      · refine (cn_ask0_11 l κ O no cv ad g cw rx rd rw mc ea mm lf a j k f0 hN hR hls hj (by omega) hfq hA hk6 ek).cx (Nat.le_of_ble_eq_true rfl) (Nat.le_of_ble_eq_true rfl) (Nat.le_of_ble_eq_true rfl) (Nat.le_of_ble_eq_true rfl) (fun rv O1 hp => ?_)
        refine ask_ci hx hI.a hp ?_ rfl (by decide) (fun i hi => ?_)
        · first | (rw [m4]; rfl) | rfl
        · rcases (by omega : i = 0 ∨ i = 1 ∨ i = 2 ∨ i = 3 ∨ i = 4) with rfl | rfl | rfl | rfl | rfl <;> rfl
      · refine (cn_ask0_12 l κ O no cv ad g cw rx rd rw mc ea mm lf a j k f0 hN hR hls hj (by omega) hfq hA hk6 ek).cx (Nat.le_of_ble_eq_true rfl) (Nat.le_of_ble_eq_true rfl) (Nat.le_of_ble_eq_true rfl) (Nat.le_of_ble_eq_true rfl) (fun rv O1 hp => ?_)
        refine ask_ci hx hI.a hp ?_ rfl (by decide) (fun i hi => ?_)
        · first | (rw [m4]; rfl) | rfl
        · rcases (by omega : i = 0 ∨ i = 1) with rfl | rfl <;> rfl
      · refine (cn_ask0_13 l κ O no cv ad g cw rx rd rw mc ea mm lf a j k f0 hN hR hls hj (by omega) hfq hA hk6 ek).cx (Nat.le_of_ble_eq_true rfl) (Nat.le_of_ble_eq_true rfl) (Nat.le_of_ble_eq_true rfl) (Nat.le_of_ble_eq_true rfl) (fun rv O1 hp => ?_)
        refine ask_ci hx hI.a hp ?_ rfl (by decide) (fun i hi => ?_)
        · first | (rw [m4]; rfl) | rfl
        · rcases (by omega : i = 0 ∨ i = 1 ∨ i = 2) with rfl | rfl | rfl <;> rfl
    · rw [if_neg (show ¬ nI 1 = 0 by decide)]
      rcases (by omega : kk = 1 ∨ kk = 2 ∨ kk = 3 ∨ kk = 4 ∨ kk = 5) with rfl | rfl | rfl | rfl | rfl
      · refine (cn_ask1_9 l κ O no cv ad g cw rx rd rw mc ea mm lf a j k f0 hN hR hls hj (by omega) hfq hA hk6 ek).cx (Nat.le_of_ble_eq_true rfl) (Nat.le_of_ble_eq_true rfl) (Nat.le_of_ble_eq_true rfl) (Nat.le_of_ble_eq_true rfl) (fun rv O1 hp => ?_)
        refine ask_ci hx hI.a hp ?_ rfl (by decide) (fun i hi => ?_)
        · first | (rw [m4]; rfl) | rfl
        · rcases (by omega : i = 0 ∨ i = 1) with rfl | rfl <;> rfl
      · refine (cn_ask1_10 l κ O no cv ad g cw rx rd rw mc ea mm lf a j k f0 hN hR hls hj (by omega) hfq hA hk6 ek).cx (Nat.le_of_ble_eq_true rfl) (Nat.le_of_ble_eq_true rfl) (Nat.le_of_ble_eq_true rfl) (Nat.le_of_ble_eq_true rfl) (fun rv O1 hp => ?_)
        refine ask_ci hx hI.a hp ?_ rfl (by decide) (fun i hi => ?_)
        · first | (rw [m4]; rfl) | rfl
        · rcases (by omega : i = 0 ∨ i = 1 ∨ i = 2) with rfl | rfl | rfl <;> rfl
      · refine (cn_ask1_11 l κ O no cv ad g cw rx rd rw mc ea mm lf a j k f0 hN hR hls hj (by omega) hfq hA hk6 ek).cx (Nat.le_of_ble_eq_true rfl) (Nat.le_of_ble_eq_true rfl) (Nat.le_of_ble_eq_true rfl) (Nat.le_of_ble_eq_true rfl) (fun rv O1 hp => ?_)
        refine ask_ci hx hI.a hp ?_ rfl (by decide) (fun i hi => ?_)
        · first | (rw [m4]; rfl) | rfl
        · rcases (by omega : i = 0 ∨ i = 1 ∨ i = 2) with rfl | rfl | rfl <;> rfl
      · refine (cn_ask1_12 l κ O no cv ad g cw rx rd rw mc ea mm lf a j k f0 hN hR hls hj (by omega) hfq hA hk6 ek).cx (Nat.le_of_ble_eq_true rfl) (Nat.le_of_ble_eq_true rfl) (Nat.le_of_ble_eq_true rfl) (Nat.le_of_ble_eq_true rfl) (fun rv O1 hp => ?_)
        refine ask_ci hx hI.a hp ?_ rfl (by decide) (fun i hi => ?_)
        · first | (rw [m4]; rfl) | rfl
        · rcases (by omega : i = 0 ∨ i = 1 ∨ i = 2 ∨ i = 3) with rfl | rfl | rfl | rfl <;> rfl
      · refine (cn_ask1_13 l κ O no cv ad g cw rx rd rw mc ea mm lf a j k f0 hN hR hls hj (by omega) hfq hA hk6 ek).cx (Nat.le_of_ble_eq_true rfl) (Nat.le_of_ble_eq_true rfl) (Nat.le_of_ble_eq_true rfl) (Nat.le_of_ble_eq_true rfl) (fun rv O1 hp => ?_)
        refine ask_ci hx hI.a hp ?_ rfl (by decide) (fun i hi => ?_)
        · first | (rw [m4]; rfl) | rfl
        · rcases (by omega : i = 0 ∨ i = 1 ∨ i = 2 ∨ i = 3 ∨ i = 4) with rfl | rfl | rfl | rfl | rfl <;> rfl
end CX8
