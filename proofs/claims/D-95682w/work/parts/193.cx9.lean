/-! As. -/
set_option maxRecDepth 100000
section CX9
variable (l : Launch) (κ : Nat → Nat) (O : gO) (no : Nat) (v : Nat → Int32) (w : Nat → Nat → Int32)
theorem cx_as (htl : l.stackTraces = false) (hI : INV v w) (hC : CI κ O no v w) (x y : Int32) : cX l κ yX0_as (wsW_ yX0_as cX0_as 5 (some .int) [(40, 111, 112, 303), (23, 111, 123, 71), (112, 123, 123, 71)]) [.int x, .int y] O no (op_as v w x y) := by
  obtain ⟨cv, ad, g, cw, rx, rd, rw, mm, kd, mv, n, tm, nt, hx, hN, hR, hro, hmv, hm, ⟨en, hn⟩, ⟨et, ht⟩, ⟨ent, hnt⟩, hto, hmo, hbd⟩ := CI.un hI hC
  have e5 : w 5 5 = nI mm := hro.2.2.2.2.2.1
  obtain ⟨mc, ea, ar, hls, hat⟩ := hmv.at
  unfold op_as
  rw [e5]
  by_cases hb : ¬ (0 ≤ x ∧ x ≤ nI mm - 1) ∨ ¬ (0 ≤ y ∧ y ≤ 5)
  · rw [if_pos hb]
    exact (cn_asX l κ O no cv ad g cw rx rd rw mc ea mm ar x y hN hR hls hb).cx (Nat.le_of_ble_eq_true rfl) (Nat.le_of_ble_eq_true rfl) (Nat.le_of_ble_eq_true rfl) (Nat.le_of_ble_eq_true rfl) (fun rv O1 hp => same_ci hC hp)
  · rw [if_neg hb]
    have hx1 : 0 ≤ x ∧ x ≤ nI mm - 1 := Classical.byContradiction fun q => hb (Or.inl q)
    have hy1 : 0 ≤ y ∧ y ≤ 5 := Classical.byContradiction fun q => hb (Or.inr q)
    obtain ⟨j, hj, rfl⟩ := in_nI1 (by omega) hx1
    obtain ⟨lf, a, rfl, k1, k5, hfq, hA⟩ := hat j hj
    obtain ⟨m0, m1, m2, m3, m4⟩ := hro.2.2.2.2.2.2.2.2.2.1 j hj
    obtain ⟨f0, ef0⟩ : ∃ f0 : Nat → Int32, f0 = mv j := ⟨_, rfl⟩
    rw [← ef0] at hA m1 m2 m3 m4
    rw [iN_nI (n := j) (by omega), m0]
    obtain ⟨kk, ekk⟩ : ∃ kk, kk = kd j := ⟨_, rfl⟩
    rw [← ekk] at hA k1 k5 ⊢
    obtain ⟨y1, hy1, rfl⟩ := in_nI (N := 5) (b := 5) rfl rfl hy1
    have hok : ∀ (rv : Option Value) (O1 : gO), (rv = some (.int (f0 0)) ∧ O1 = oup O no (nsU (upd cv 10 0) ad g cw)) → rv = some (.int (nI j)) ∧ CI κ O1 no (upd (upd v 0 0) 1 0) w ∧ kp3 O O1 := by
      rintro rv O1 ⟨h1, rfl⟩
      exact ⟨by rw [h1, m4], (hx.st hI.a 0).ci.agr vA.s1 wA.rf, hx.k3no⟩
    have hno : ∀ (rv : Option Value) (O1 : gO), (rv = some (.int (-1000013)) ∧ ∃ z, O z = none ∧ O1 = oup (oup O z (fnU 3)) no (nsU (upd cv 10 3) ad g cw)) → rv = some (.int (-1000013)) ∧ CI κ O1 no (upd (upd (upd v 0 0) 1 0) 1 3) w ∧ kp3 O O1 := fun rv O1 hp => found_ci (z := 0) hx hI.a hp vA.s2
    rcases (by omega : kk = 1 ∨ kk = 2 ∨ kk = 3 ∨ kk = 4 ∨ kk = 5) with rfl | rfl | rfl | rfl | rfl
    · rcases (by omega : y1 = 0 ∨ y1 = 1 ∨ y1 = 2 ∨ y1 = 3 ∨ y1 = 4 ∨ y1 = 5) with rfl | rfl | rfl | rfl | rfl | rfl
      · rw [if_pos (by decide)]
        exact (cn_as_9_0 l κ O no cv ad g cw rx rd rw mc ea mm lf a j f0 hN hR htl hls hj (by omega) hfq hA).cx (Nat.le_of_ble_eq_true rfl) (Nat.le_of_ble_eq_true rfl) (Nat.le_of_ble_eq_true rfl) (Nat.le_of_ble_eq_true rfl) hok
      · rw [if_pos (by decide)]
        exact (cn_as_9_1 l κ O no cv ad g cw rx rd rw mc ea mm lf a j f0 hN hR htl hls hj (by omega) hfq hA).cx (Nat.le_of_ble_eq_true rfl) (Nat.le_of_ble_eq_true rfl) (Nat.le_of_ble_eq_true rfl) (Nat.le_of_ble_eq_true rfl) hok
      · rw [if_neg (by decide)]
        exact (cn_asT_9_2 l κ O no cv ad g cw rx rd rw mc ea mm lf a j f0 hN hR htl hls hj (by omega) hfq hA).cx (Nat.le_of_ble_eq_true rfl) (Nat.le_of_ble_eq_true rfl) (Nat.le_of_ble_eq_true rfl) (Nat.le_of_ble_eq_true rfl) hno
      · rw [if_neg (by decide)]
        exact (cn_asT_9_3 l κ O no cv ad g cw rx rd rw mc ea mm lf a j f0 hN hR htl hls hj (by omega) hfq hA).cx (Nat.le_of_ble_eq_true rfl) (Nat.le_of_ble_eq_true rfl) (Nat.le_of_ble_eq_true rfl) (Nat.le_of_ble_eq_true rfl) hno
      · rw [if_neg (by decide)]
        exact (cn_asT_9_4 l κ O no cv ad g cw rx rd rw mc ea mm lf a j f0 hN hR htl hls hj (by omega) hfq hA).cx (Nat.le_of_ble_eq_true rfl) (Nat.le_of_ble_eq_true rfl) (Nat.le_of_ble_eq_true rfl) (Nat.le_of_ble_eq_true rfl) hno
      · rw [if_neg (by decide)]
        exact (cn_asT_9_5 l κ O no cv ad g cw rx rd rw mc ea mm lf a j f0 hN hR htl hls hj (by omega) hfq hA).cx (Nat.le_of_ble_eq_true rfl) (Nat.le_of_ble_eq_true rfl) (Nat.le_of_ble_eq_true rfl) (Nat.le_of_ble_eq_true rfl) hno
    · rcases (by omega : y1 = 0 ∨ y1 = 1 ∨ y1 = 2 ∨ y1 = 3 ∨ y1 = 4 ∨ y1 = 5) with rfl | rfl | rfl | rfl | rfl | rfl
      · rw [if_pos (by decide)]
        exact (cn_as_10_0 l κ O no cv ad g cw rx rd rw mc ea mm lf a j f0 hN hR htl hls hj (by omega) hfq hA).cx (Nat.le_of_ble_eq_true rfl) (Nat.le_of_ble_eq_true rfl) (Nat.le_of_ble_eq_true rfl) (Nat.le_of_ble_eq_true rfl) hok
      · rw [if_pos (by decide)]
        exact (cn_as_10_1 l κ O no cv ad g cw rx rd rw mc ea mm lf a j f0 hN hR htl hls hj (by omega) hfq hA).cx (Nat.le_of_ble_eq_true rfl) (Nat.le_of_ble_eq_true rfl) (Nat.le_of_ble_eq_true rfl) (Nat.le_of_ble_eq_true rfl) hok
      · rw [if_pos (by decide)]
        exact (cn_as_10_2 l κ O no cv ad g cw rx rd rw mc ea mm lf a j f0 hN hR htl hls hj (by omega) hfq hA).cx (Nat.le_of_ble_eq_true rfl) (Nat.le_of_ble_eq_true rfl) (Nat.le_of_ble_eq_true rfl) (Nat.le_of_ble_eq_true rfl) hok
      · rw [if_neg (by decide)]
        exact (cn_asT_10_3 l κ O no cv ad g cw rx rd rw mc ea mm lf a j f0 hN hR htl hls hj (by omega) hfq hA).cx (Nat.le_of_ble_eq_true rfl) (Nat.le_of_ble_eq_true rfl) (Nat.le_of_ble_eq_true rfl) (Nat.le_of_ble_eq_true rfl) hno
      · rw [if_neg (by decide)]
        exact (cn_asT_10_4 l κ O no cv ad g cw rx rd rw mc ea mm lf a j f0 hN hR htl hls hj (by omega) hfq hA).cx (Nat.le_of_ble_eq_true rfl) (Nat.le_of_ble_eq_true rfl) (Nat.le_of_ble_eq_true rfl) (Nat.le_of_ble_eq_true rfl) hno
      · rw [if_neg (by decide)]
        exact (cn_asT_10_5 l κ O no cv ad g cw rx rd rw mc ea mm lf a j f0 hN hR htl hls hj (by omega) hfq hA).cx (Nat.le_of_ble_eq_true rfl) (Nat.le_of_ble_eq_true rfl) (Nat.le_of_ble_eq_true rfl) (Nat.le_of_ble_eq_true rfl) hno
    · rcases (by omega : y1 = 0 ∨ y1 = 1 ∨ y1 = 2 ∨ y1 = 3 ∨ y1 = 4 ∨ y1 = 5) with rfl | rfl | rfl | rfl | rfl | rfl
      · rw [if_pos (by decide)]
        exact (cn_as_11_0 l κ O no cv ad g cw rx rd rw mc ea mm lf a j f0 hN hR htl hls hj (by omega) hfq hA).cx (Nat.le_of_ble_eq_true rfl) (Nat.le_of_ble_eq_true rfl) (Nat.le_of_ble_eq_true rfl) (Nat.le_of_ble_eq_true rfl) hok
      · rw [if_pos (by decide)]
        exact (cn_as_11_1 l κ O no cv ad g cw rx rd rw mc ea mm lf a j f0 hN hR htl hls hj (by omega) hfq hA).cx (Nat.le_of_ble_eq_true rfl) (Nat.le_of_ble_eq_true rfl) (Nat.le_of_ble_eq_true rfl) (Nat.le_of_ble_eq_true rfl) hok
      · rw [if_neg (by decide)]
        exact (cn_asT_11_2 l κ O no cv ad g cw rx rd rw mc ea mm lf a j f0 hN hR htl hls hj (by omega) hfq hA).cx (Nat.le_of_ble_eq_true rfl) (Nat.le_of_ble_eq_true rfl) (Nat.le_of_ble_eq_true rfl) (Nat.le_of_ble_eq_true rfl) hno
      · rw [if_pos (by decide)]
        exact (cn_as_11_3 l κ O no cv ad g cw rx rd rw mc ea mm lf a j f0 hN hR htl hls hj (by omega) hfq hA).cx (Nat.le_of_ble_eq_true rfl) (Nat.le_of_ble_eq_true rfl) (Nat.le_of_ble_eq_true rfl) (Nat.le_of_ble_eq_true rfl) hok
      · rw [if_neg (by decide)]
        exact (cn_asT_11_4 l κ O no cv ad g cw rx rd rw mc ea mm lf a j f0 hN hR htl hls hj (by omega) hfq hA).cx (Nat.le_of_ble_eq_true rfl) (Nat.le_of_ble_eq_true rfl) (Nat.le_of_ble_eq_true rfl) (Nat.le_of_ble_eq_true rfl) hno
      · rw [if_neg (by decide)]
        exact (cn_asT_11_5 l κ O no cv ad g cw rx rd rw mc ea mm lf a j f0 hN hR htl hls hj (by omega) hfq hA).cx (Nat.le_of_ble_eq_true rfl) (Nat.le_of_ble_eq_true rfl) (Nat.le_of_ble_eq_true rfl) (Nat.le_of_ble_eq_true rfl) hno
    · rcases (by omega : y1 = 0 ∨ y1 = 1 ∨ y1 = 2 ∨ y1 = 3 ∨ y1 = 4 ∨ y1 = 5) with rfl | rfl | rfl | rfl | rfl | rfl
      · rw [if_pos (by decide)]
        exact (cn_as_12_0 l κ O no cv ad g cw rx rd rw mc ea mm lf a j f0 hN hR htl hls hj (by omega) hfq hA).cx (Nat.le_of_ble_eq_true rfl) (Nat.le_of_ble_eq_true rfl) (Nat.le_of_ble_eq_true rfl) (Nat.le_of_ble_eq_true rfl) hok
      · rw [if_neg (by decide)]
        exact (cn_asT_12_1 l κ O no cv ad g cw rx rd rw mc ea mm lf a j f0 hN hR htl hls hj (by omega) hfq hA).cx (Nat.le_of_ble_eq_true rfl) (Nat.le_of_ble_eq_true rfl) (Nat.le_of_ble_eq_true rfl) (Nat.le_of_ble_eq_true rfl) hno
      · rw [if_neg (by decide)]
        exact (cn_asT_12_2 l κ O no cv ad g cw rx rd rw mc ea mm lf a j f0 hN hR htl hls hj (by omega) hfq hA).cx (Nat.le_of_ble_eq_true rfl) (Nat.le_of_ble_eq_true rfl) (Nat.le_of_ble_eq_true rfl) (Nat.le_of_ble_eq_true rfl) hno
      · rw [if_neg (by decide)]
        exact (cn_asT_12_3 l κ O no cv ad g cw rx rd rw mc ea mm lf a j f0 hN hR htl hls hj (by omega) hfq hA).cx (Nat.le_of_ble_eq_true rfl) (Nat.le_of_ble_eq_true rfl) (Nat.le_of_ble_eq_true rfl) (Nat.le_of_ble_eq_true rfl) hno
      · rw [if_pos (by decide)]
        exact (cn_as_12_4 l κ O no cv ad g cw rx rd rw mc ea mm lf a j f0 hN hR htl hls hj (by omega) hfq hA).cx (Nat.le_of_ble_eq_true rfl) (Nat.le_of_ble_eq_true rfl) (Nat.le_of_ble_eq_true rfl) (Nat.le_of_ble_eq_true rfl) hok
      · rw [if_neg (by decide)]
        exact (cn_asT_12_5 l κ O no cv ad g cw rx rd rw mc ea mm lf a j f0 hN hR htl hls hj (by omega) hfq hA).cx (Nat.le_of_ble_eq_true rfl) (Nat.le_of_ble_eq_true rfl) (Nat.le_of_ble_eq_true rfl) (Nat.le_of_ble_eq_true rfl) hno
    · rcases (by omega : y1 = 0 ∨ y1 = 1 ∨ y1 = 2 ∨ y1 = 3 ∨ y1 = 4 ∨ y1 = 5) with rfl | rfl | rfl | rfl | rfl | rfl
      · rw [if_pos (by decide)]
        exact (cn_as_13_0 l κ O no cv ad g cw rx rd rw mc ea mm lf a j f0 hN hR htl hls hj (by omega) hfq hA).cx (Nat.le_of_ble_eq_true rfl) (Nat.le_of_ble_eq_true rfl) (Nat.le_of_ble_eq_true rfl) (Nat.le_of_ble_eq_true rfl) hok
      · rw [if_neg (by decide)]
        exact (cn_asT_13_1 l κ O no cv ad g cw rx rd rw mc ea mm lf a j f0 hN hR htl hls hj (by omega) hfq hA).cx (Nat.le_of_ble_eq_true rfl) (Nat.le_of_ble_eq_true rfl) (Nat.le_of_ble_eq_true rfl) (Nat.le_of_ble_eq_true rfl) hno
      · rw [if_neg (by decide)]
        exact (cn_asT_13_2 l κ O no cv ad g cw rx rd rw mc ea mm lf a j f0 hN hR htl hls hj (by omega) hfq hA).cx (Nat.le_of_ble_eq_true rfl) (Nat.le_of_ble_eq_true rfl) (Nat.le_of_ble_eq_true rfl) (Nat.le_of_ble_eq_true rfl) hno
      · rw [if_neg (by decide)]
        exact (cn_asT_13_3 l κ O no cv ad g cw rx rd rw mc ea mm lf a j f0 hN hR htl hls hj (by omega) hfq hA).cx (Nat.le_of_ble_eq_true rfl) (Nat.le_of_ble_eq_true rfl) (Nat.le_of_ble_eq_true rfl) (Nat.le_of_ble_eq_true rfl) hno
      · rw [if_pos (by decide)]
        exact (cn_as_13_4 l κ O no cv ad g cw rx rd rw mc ea mm lf a j f0 hN hR htl hls hj (by omega) hfq hA).cx (Nat.le_of_ble_eq_true rfl) (Nat.le_of_ble_eq_true rfl) (Nat.le_of_ble_eq_true rfl) (Nat.le_of_ble_eq_true rfl) hok
      · rw [if_pos (by decide)]
        exact (cn_as_13_5 l κ O no cv ad g cw rx rd rw mc ea mm lf a j f0 hN hR htl hls hj (by omega) hfq hA).cx (Nat.le_of_ble_eq_true rfl) (Nat.le_of_ble_eq_true rfl) (Nat.le_of_ble_eq_true rfl) (Nat.le_of_ble_eq_true rfl) hok
end CX9
