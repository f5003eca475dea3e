/-! What holds of the reference's numbers all through is kept by each public call. -/
set_option maxRecDepth 100000
def ivP (v : Nat → Int32) (w : Nat → Nat → Int32) : Prop := ∃ a, v 8 = nI a ∧ a ≤ 24 ∧ ∀ j, j < a → (∃ nt, nt ≤ 9999 ∧ w 7 (7 * j + 6) = nI nt) ∧ ∀ k, k < 6 → ∃ x, x ≤ 200 ∧ w 7 (7 * j + k) = nI x
def ivT (v : Nat → Int32) (w : Nat → Nat → Int32) : Prop := ∃ T, v 10 = nI T ∧ T ≤ 400 ∧ tpOk (w 9) T
def ivC (v : Nat → Int32) : Prop := ∃ t, v 25 = nI t ∧ t ≤ 16
def ivI (w : Nat → Nat → Int32) : Prop := ∀ j, j < 2 → ¬ w 22 j = 0 → roOk (fun i => w 23 (94 * j + i))
theorem INV.iff {v : Nat → Int32} {w : Nat → Nat → Int32} : INV v w ↔ (ivP v w ∧ ivT v w ∧ ivC v ∧ rowsOk w ∧ roOk (w 5) ∧ ivI w) := Iff.rfl
theorem INV.ag {v v' : Nat → Int32} {w w' : Nat → Nat → Int32} (h : INV v w) (v8 : v' 8 = v 8) (v10 : v' 10 = v 10) (v25 : v' 25 = v 25) (w3 : w' 3 = w 3) (w5 : w' 5 = w 5) (w7 : w' 7 = w 7) (w9 : w' 9 = w 9) (w22 : w' 22 = w 22) (w23 : w' 23 = w 23) : INV v' w' := by
  unfold INV rowsOk at h ⊢
  rw [v8, v10, v25, w3, w5, w7, w9, w22, w23]
  exact h
theorem INV.z {v : Nat → Int32} {w : Nat → Nat → Int32} (h : INV v w) (x : Int32) : INV (upd v 0 x) w := h.ag rfl rfl rfl rfl rfl rfl rfl rfl rfl
/-- only the road changes -/
theorem INV.ro {v v' : Nat → Int32} {w w' : Nat → Nat → Int32} (h : INV v w) (v8 : v' 8 = v 8) (v10 : v' 10 = v 10) (v25 : v' 25 = v 25) (w3 : w' 3 = w 3) (w5 : roOk (w' 5)) (w7 : w' 7 = w 7) (w9 : w' 9 = w 9) (w22 : w' 22 = w 22) (w23 : w' 23 = w 23) : INV v' w' := by
  obtain ⟨p, t, c, r, -, i⟩ := INV.iff.mp h
  unfold ivP at p
  unfold ivT at t
  unfold ivC at c
  unfold rowsOk at r
  unfold ivI at i
  rw [← v8, ← w7] at p
  rw [← v10, ← w9] at t
  rw [← v25] at c
  rw [← w3] at r
  rw [← w22, ← w23] at i
  exact INV.iff.mpr ⟨p, t, c, r, w5, i⟩
theorem roOk.cg {ro ro' : Nat → Int32} (h : roOk ro) (e : ∀ i, i < 94 → ro' i = ro i) : roOk ro' := by
  obtain ⟨n, mm, tm, nt, h4, hn, h5, hm, h7, ht, h6, hnt, ⟨le, fe, se, fi, h0, b0, h1, b1, h2, b2, h3, b3⟩, hmv, htm, hst⟩ := h
  refine ⟨n, mm, tm, nt, (e 4 (by omega)).trans h4, hn, (e 5 (by omega)).trans h5, hm, (e 7 (by omega)).trans h7, ht, (e 6 (by omega)).trans h6, hnt, ⟨le, fe, se, fi, (e 0 (by omega)).trans h0, b0, (e 1 (by omega)).trans h1, b1, (e 2 (by omega)).trans h2, b2, (e 3 (by omega)).trans h3, b3⟩, fun j hj => ?_, fun q hq => ?_, fun k hk f hf => ?_⟩
  · rw [e (26 + 4 * j + 1) (by omega), e (26 + 4 * j + 2) (by omega), e (26 + 4 * j + 3) (by omega)]; exact hmv j hj
  · rw [e (46 + 4 * q) (by omega), e (46 + 4 * q + 1) (by omega), e (46 + 4 * q + 2) (by omega), e (46 + 4 * q + 3) (by omega)]; exact htm q hq
  · rw [e (8 + 3 * k + f) (by omega)]; exact hst k hk f hf
/-- the nights and where the stones lie change -/
theorem roOk.ns {ro ro' : Nat → Int32} (h : roOk ro) (e : ∀ i, (i < 6 ∨ i = 7 ∨ 26 ≤ i) → ro' i = ro i) (h6' : ∃ nt, nt ≤ 9999 ∧ ro' 6 = nI nt) (hs : ∀ k, k < 6 → ∀ f, f < 3 → ∃ x, x ≤ 200 ∧ ro' (8 + 3 * k + f) = nI x) : roOk ro' := by
  obtain ⟨n, mm, tm, nt, h4, hn, h5, hm, h7, ht, h6, hnt, ⟨le, fe, se, fi, h0, b0, h1, b1, h2, b2, h3, b3⟩, hmv, htm, hst⟩ := h
  obtain ⟨nt', hnt', h6'⟩ := h6'
  refine ⟨n, mm, tm, nt', (e 4 (by omega)).trans h4, hn, (e 5 (by omega)).trans h5, hm, (e 7 (by omega)).trans h7, ht, h6', hnt', ⟨le, fe, se, fi, (e 0 (by omega)).trans h0, b0, (e 1 (by omega)).trans h1, b1, (e 2 (by omega)).trans h2, b2, (e 3 (by omega)).trans h3, b3⟩, fun j hj => ?_, fun q hq => ?_, hs⟩
  · rw [e (26 + 4 * j + 1) (by omega), e (26 + 4 * j + 2) (by omega), e (26 + 4 * j + 3) (by omega)]; exact hmv j hj
  · rw [e (46 + 4 * q) (by omega), e (46 + 4 * q + 1) (by omega), e (46 + 4 * q + 2) (by omega), e (46 + 4 * q + 3) (by omega)]; exact htm q hq
/-- the times change -/
theorem roOk.ct {ro ro' : Nat → Int32} (h : roOk ro) (e : ∀ i, i < 46 → i ≠ 7 → ro' i = ro i) {n tm' : Nat} (en : ro 4 = nI n) (hn6 : n ≤ 6) (h7' : ro' 7 = nI tm') (ht' : tm' ≤ 12) (htm' : tmOk ro' n tm') : roOk ro' := by
  obtain ⟨n0, mm, tm, nt, h4, hn, h5, hm, h7, ht, h6, hnt, ⟨le, fe, se, fi, h0, b0, h1, b1, h2, b2, h3, b3⟩, hmv, htm, hst⟩ := h
  obtain rfl : n0 = n := neq_t (h4.symm.trans en)
  refine ⟨n0, mm, tm', nt, (e 4 (by omega) (by omega)).trans h4, hn, (e 5 (by omega) (by omega)).trans h5, hm, h7', ht', (e 6 (by omega) (by omega)).trans h6, hnt, ⟨le, fe, se, fi, (e 0 (by omega) (by omega)).trans h0, b0, (e 1 (by omega) (by omega)).trans h1, b1, (e 2 (by omega) (by omega)).trans h2, b2, (e 3 (by omega) (by omega)).trans h3, b3⟩, fun j hj => ?_, htm', fun k hk f hf => ?_⟩
  · rw [e (26 + 4 * j + 1) (by omega) (by omega), e (26 + 4 * j + 2) (by omega) (by omega), e (26 + 4 * j + 3) (by omega) (by omega)]; exact hmv j hj
  · rw [e (8 + 3 * k + f) (by omega) (by omega)]; exact hst k hk f hf
abbrev iV (t : mR) : Prop := INV t.2.1 t.2.2
section IV
variable {v : Nat → Int32} {w : Nat → Nat → Int32} (h : INV v w)
theorem iv_s {v : Nat → Int32} {w : Nat → Nat → Int32} (h : INV v w) {t : mR} (e : t.2 = (upd v 0 0, w)) : iV t := by
  unfold iV
  rw [e]
  exact h.z 0
theorem iv_st {v : Nat → Int32} {w : Nat → Nat → Int32} (h : INV v w) (a : Int32) : INV (upd (upd v 0 0) 1 a) w := h.ag rfl rfl rfl rfl rfl rfl rfl rfl rfl
theorem iv_st2 {v : Nat → Int32} {w : Nat → Nat → Int32} (h : INV v w) (a b : Int32) : INV (upd (upd (upd v 0 0) 1 a) 1 b) w := h.ag rfl rfl rfl rfl rfl rfl rfl rfl rfl
theorem iv_stone (h : INV v w) (x f : Int32) : iV (op_stone v w x f) := iv_s h (op2_stone v w x f)
theorem iv_carry (h : INV v w) (x y f : Int32) : iV (op_carry v w x y f) := iv_s h (op2_carry v w x y f)
theorem iv_kind (h : INV v w) (x : Int32) : iV (op_kind v w x) := iv_s h (op2_kind v w x)
theorem iv_trace (h : INV v w) (x : Int32) : iV (op_trace v w x) := iv_s h (op2_trace v w x)
theorem iv_moved (h : INV v w) (x : Int32) : iV (op_moved v w x) := iv_s h (op2_moved v w x)
theorem iv_best (h : INV v w) (x : Int32) : iV (op_best v w x) := iv_s h (op2_best v w x)
theorem iv_dare (h : INV v w) (x y : Int32) : iV (op_dare v w x y) := iv_s h (op2_dare v w x y)
theorem iv_count (h : INV v w) (x : Int32) : iV (op_count v w x) := h.z 0
theorem iv_as (h : INV v w) (m k : Int32) : iV (op_as v w m k) := by
  unfold op_as iV
  split
  · exact h.z 0
  · split
    · exact iv_st h _
    · exact iv_st2 h _ _
theorem iv_set (h : INV v w) (r i x : Int32) : iV (op_set v w r i x) := by
  unfold op_set iV
  split
  · exact h.z 0
  · split
    · exact iv_st2 h _ _
    · split
      · exact iv_st2 h _ _
      · exact (iv_st h 0).ag rfl rfl rfl rfl rfl rfl rfl rfl rfl
theorem iv_drop (h : INV v w) (r : Int32) : iV (op_drop v w r) := by
  unfold op_drop iV
  split
  · exact h.z 0
  · split
    · exact iv_st2 h _ _
    · exact (iv_st h 0).ag rfl rfl rfl rfl rfl rfl rfl rfl rfl
theorem iv_copy (h : INV v w) (a i b j n : Int32) : iV (op_copy v w a i b j n) := by
  unfold op_copy iV
  split
  · exact h.z 0
  · split
    · exact iv_st2 h _ _
    · split
      · exact iv_st2 h _ _
      · split
        · exact iv_st2 h _ _
        · exact (iv_st h 0).ag rfl rfl rfl rfl rfl rfl rfl rfl rfl
theorem iv_row (h : INV v w) (r x n : Int32) : iV (op_row v w r x n) := by
  unfold op_row iV
  split
  · exact h.z 0
  · next hc =>
    split
    · exact iv_st2 h _ _
    · next hn =>
      obtain ⟨hr, hc2⟩ := not_or.mp hc
      obtain ⟨hl, hn4⟩ := not_or.mp hc2
      obtain ⟨i, hi, rfl⟩ := in_nI (N := 7) (b := 7) rfl rfl (Decidable.not_not.mp hr)
      obtain ⟨m, hm, rfl⟩ := in_nI (N := 40) (b := 40) rfl rfl ⟨Int32.not_lt.mp hn, Decidable.not_not.mp hn4⟩
      obtain ⟨p, t, c, ro, d, im⟩ := INV.iff.mp h
      refine INV.iff.mpr ⟨p, t, c, fun j hj => ?_, d, im⟩
      show ∃ n : Nat, n ≤ 40 ∧ wseg (wup (wup w 2 (iN (nI i)) x) 3 (iN (nI i)) (nI m)) 4 (40 * iN (nI i)) 40 (fun _ => 0) 3 j = nI n
      rw [wseg_o (by omega), wup_s]
      by_cases e : j = iN (nI i)
      · subst e; rw [upd_s]; exact ⟨m, hm, rfl⟩
      · rw [upd_n e, wup_n (by omega)]; exact ro j hj
theorem iv_forget (h : INV v w) : iV (op_forget v w) := by
  unfold op_forget iV
  refine h.ro rfl rfl rfl rfl ?_ rfl rfl rfl rfl
  obtain ⟨-, -, -, -, d, -⟩ := INV.iff.mp h
  have d' := d
  obtain ⟨n, mm, tm, nt, h4, hn, -⟩ := d'
  refine d.ct (fun i _ h7 => ?_) h4 hn (tm' := 0) ?_ (by omega) (fun q hq => by omega)
  · show wup w 5 7 0 5 i = _
    rw [wup_s, upd_n h7]
  · show wup w 5 7 0 5 7 = _
    rw [wup_s, upd_s]; rfl
theorem and_nI (y : Int32) (n : Nat) (hn : n < 2 ^ 31) : ∃ k, k ≤ n ∧ y &&& nI n = nI k := by
  refine ⟨(y &&& nI n).toBitVec.toNat, ?_, ?_⟩
  · rw [Int32.toBitVec_and, BitVec.toNat_and]
    refine Nat.le_trans Nat.and_le_right ?_
    show (BitVec.ofNat 32 n).toNat ≤ n
    rw [BitVec.toNat_ofNat]
    exact Nat.mod_le _ _
  · apply Int32.toBitVec_inj.mp
    show _ = BitVec.ofNat 32 _
    rw [BitVec.ofNat_toNat, BitVec.setWidth_eq]
theorem bt255i (z : Int64) : 0 ≤ (z &&& 255).toInt32 ∧ (z &&& 255).toInt32 ≤ 255 := by
  rw [← bt255]
  obtain ⟨k, hk, e⟩ := and_nI (vp_nar .byte z.toInt32.toInt8.toInt32) 255 (by omega)
  rw [show (255 : Int32) = nI 255 from rfl, e]
  exact ⟨(nI_leI (a := 0) (by omega) (by omega)).mpr (by omega), (nI_leI (by omega) (by omega)).mpr hk⟩
theorem addT_5 {w : Nat → Nat → Int32} {a b x t : Int32} {tm : Nat} (et : iN (w 5 7) = tm) (i : Nat) : addT w a b x t 5 i = if i = 7 then w 5 7 + 1 else if i = 46 + 4 * tm + 3 then t else if i = 46 + 4 * tm + 2 then x else if i = 46 + 4 * tm + 1 then b else if i = 46 + 4 * tm then a else w 5 i := by
  unfold addT
  rw [et]
  simp only [wup_s]
  unfold upd
  split
  · rfl
  · rfl
theorem ro_addT {w : Nat → Nat → Int32} (d : roOk (w 5)) {n tm : Nat} (en : w 5 4 = nI n) (hn : n ≤ 6) (et : w 5 7 = nI tm) (ht : tm < 12) {a b x t : Nat} (hab : a < b) (hb : b < n) (hx : 1 ≤ x) (hx2 : x ≤ 20) (ht2 : t ≤ 99) : roOk (addT w (nI a) (nI b) (nI x) (nI t) 5) := by
  have it : iN (w 5 7) = tm := by rw [et]; exact iN_nI (by omega)
  have to : tmOk (w 5) n tm := by
    obtain ⟨n0, mm, tm0, nt, h4, hn0, h5, hm, h7, ht0, h6, hnt, -, hmv, htm, hst⟩ := d
    obtain rfl : n0 = n := neq_t (h4.symm.trans en)
    obtain rfl : tm0 = tm := neq_t (h7.symm.trans et)
    exact htm
  refine d.ct (fun i h46 h7 => ?_) en hn (tm' := tm + 1) ?_ (by omega) (fun q hq => ?_)
  · exact addT_lo h46 h7
  · rw [addT_7, et, nI_1]
  · by_cases e : q = tm
    · subst e
      refine ⟨a, b, x, t, ?_, ?_, hab, hb, ?_, hx, hx2, ?_, ht2⟩
      · rw [addT_5 it, if_neg (by omega), if_neg (by omega), if_neg (by omega), if_neg (by omega), if_pos rfl]
      · rw [addT_5 it, if_neg (by omega), if_neg (by omega), if_neg (by omega), if_pos rfl]
      · rw [addT_5 it, if_neg (by omega), if_neg (by omega), if_pos rfl]
      · rw [addT_5 it, if_neg (by omega), if_pos rfl]
    · have k : ∀ f, f < 4 → addT w (nI a) (nI b) (nI x) (nI t) 5 (46 + 4 * q + f) = w 5 (46 + 4 * q + f) := by
        intro f hf
        rw [addT_5 it, if_neg (by omega), if_neg (by omega), if_neg (by omega), if_neg (by omega), if_neg (by omega)]
      have z := to q (by omega)
      rw [← k 1 (by omega), ← k 2 (by omega), ← k 3 (by omega)] at z
      rw [← (show _ = w 5 (46 + 4 * q) from k 0 (by omega))] at z
      exact z
theorem tm_nI {n : Nat} (hn : n ≤ 6) {a b x t : Int32} (h : (0 ≤ a ∧ a ≤ nI n - 1) ∧ (0 ≤ b ∧ b ≤ nI n - 1) ∧ a < b ∧ (1 ≤ x ∧ x ≤ 20) ∧ (0 ≤ t ∧ t ≤ 99)) : ∃ a' b' x' t' : Nat, a = nI a' ∧ b = nI b' ∧ x = nI x' ∧ t = nI t' ∧ a' < b' ∧ b' < n ∧ 1 ≤ x' ∧ x' ≤ 20 ∧ t' ≤ 99 := by
  obtain ⟨ha, hb, hab, hx, ht⟩ := h
  obtain ⟨a', ha', rfl⟩ := in_nI1 (by omega) ha
  obtain ⟨b', hb', rfl⟩ := in_nI1 (by omega) hb
  obtain ⟨x', hx1, hx2, rfl⟩ := bet (a := 1) (b := 20) rfl rfl (by omega) (by omega) hx
  obtain ⟨t', ht', rfl⟩ := in_nI (N := 99) (b := 99) rfl rfl ht
  exact ⟨a', b', x', t', rfl, rfl, rfl, rfl, nlt_t hab, hb', hx1, hx2, ht'⟩
theorem INV.ct {v : Nat → Int32} {w : Nat → Nat → Int32} (h : INV v w) : ∃ n tm nt mm : Nat, w 5 4 = nI n ∧ n ≤ 6 ∧ w 5 7 = nI tm ∧ tm ≤ 12 ∧ w 5 6 = nI nt ∧ nt ≤ 9999 ∧ w 5 5 = nI mm ∧ mm ≤ 5 := by
  obtain ⟨-, -, -, -, ⟨n, m2, tm, nt, k1, k2, k3, k4, k5, k6, k7, k8, -⟩, -⟩ := h
  exact ⟨n, tm, nt, m2, k1, k2, k5, k6, k7, k8, k3, k4⟩
theorem iv_time (h : INV v w) (a b x t : Int32) : iV (op_time v w a b x t) := by
  unfold op_time iV
  split
  · exact h.z 0
  · next hc =>
    split
    · exact h.z 0
    · next h12 =>
      obtain ⟨n, tm, nt, mm, en, hn, et, ht, -⟩ := h.ct
      have hc := Decidable.not_not.mp hc
      rw [en] at hc
      obtain ⟨a', b', x', t', rfl, rfl, rfl, rfl, q1, q2, q3, q4, q5⟩ := tm_nI hn hc
      have h12' : tm ≠ 12 := fun e => h12 (by rw [et, e]; rfl)
      show INV (upd v 0 0) (addT w (nI a') (nI b') (nI x') (nI t'))
      exact h.ro rfl rfl rfl (addT_o (i := 3) (by omega)) (ro_addT (INV.iff.mp h).2.2.2.2.1 en hn et (by omega) q1 q2 q3 q4 q5) (addT_o (i := 7) (by omega)) (addT_o (i := 9) (by omega)) (addT_o (i := 22) (by omega)) (addT_o (i := 23) (by omega))
theorem ro_addL {w : Nat → Nat → Int32} (d : roOk (w 5)) {n tm : Nat} (en : w 5 4 = nI n) (hn : n ≤ 6) (et : w 5 7 = nI tm) {it : Nat → Int32} {s K : Nat} (hK : tm + K ≤ 12) (ha : tmAll (nI n) it s K = true) : ∀ k, k ≤ K → roOk (addL w it s k 5) ∧ addL w it s k 5 4 = nI n ∧ addL w it s k 5 7 = nI (tm + k) := by
  intro k
  induction k with
  | zero => intro _; exact ⟨d, en, et⟩
  | succ k ih =>
    intro hk
    obtain ⟨d1, e1, e2⟩ := ih (by omega)
    obtain ⟨a', b', x', t', z1, z2, z3, z4, q1, q2, q3, q4, q5⟩ := tm_nI hn ((tmAll_iff K).mp ha k (by omega))
    rw [addL, z1, z2, z3, z4]
    refine ⟨ro_addT d1 e1 hn e2 (by omega) q1 q2 q3 q4 q5, ?_, ?_⟩
    · rw [addT_lo (by omega) (by omega)]; exact e1
    · rw [addT_7, e2, nI_1]; rfl
theorem iv_times (h : INV v w) (r i n : Int32) : iV (op_times v w r i n) := by
  unfold op_times iV
  split
  · exact h.z 0
  · split
    · exact h.z 0
    · next hc =>
      split
      · exact iv_st h _
      · split
        · exact iv_st h _
        · split
          · exact h.z 0
          · next hA =>
            split
            · exact h.z 0
            · next hB =>
              obtain ⟨n0, tm, nt, mm, en, hn, et, ht, -⟩ := h.ct
              have hA := Decidable.not_not.mp hA
              rw [en] at hA
              have it : iN (w 5 7) = tm := by rw [et]; exact iN_nI (by omega)
              rw [it] at hB
              exact (iv_st h 0).ro rfl rfl rfl (addL_o (i := 3) (by omega)) (ro_addL (INV.iff.mp h).2.2.2.2.1 en hn et (by omega) hA _ (Nat.le_refl _)).1 (addL_o (i := 7) (by omega)) (addL_o (i := 9) (by omega)) (addL_o (i := 22) (by omega)) (addL_o (i := 23) (by omega))
theorem iv_image (h : INV v w) (k : Int32) : iV (op_image v w k) := by
  unfold op_image iV
  split
  · exact h.z 0
  · next hk =>
    split
    · exact h.z 0
    · obtain ⟨i, hi, rfl⟩ := in_nI (N := 1) (b := 1) rfl rfl (Decidable.not_not.mp hk)
      obtain ⟨p, t, c, ro, d, im⟩ := INV.iff.mp h
      refine INV.iff.mpr ⟨p, t, c, ro, d, fun j hj h22 => ?_⟩
      have ei : iN (nI i) = i := iN_nI (by omega)
      revert h22
      show ¬ wup (wseg w 23 (94 * iN (nI i)) 94 (w 5)) 22 (iN (nI i)) 1 22 j = 0 → roOk (fun q => wup (wseg w 23 (94 * iN (nI i)) 94 (w 5)) 22 (iN (nI i)) 1 23 (94 * j + q))
      rw [ei, wup_s, wup_n (by omega), wseg_o (by omega)]
      intro h22
      by_cases e : j = i
      · subst e
        refine d.cg (fun q hq => ?_)
        show wseg w 23 (94 * j) 94 (w 5) 23 (94 * j + q) = _
        rw [wseg_in (by omega) (by omega)]
        congr 1
        omega
      · rw [upd_n e] at h22
        refine (im j hj h22).cg (fun q hq => ?_)
        show wseg w 23 (94 * i) 94 (w 5) 23 (94 * j + q) = _
        rw [wseg_out (by omega)]
theorem ivP.z {v : Nat → Int32} {w : Nat → Nat → Int32} (e : v 8 = 0) : ivP v w := ⟨0, e, by omega, fun j hj => by omega⟩
theorem iv_restore (h : INV v w) (k : Int32) : iV (op_restore v w k) := by
  unfold op_restore iV
  split
  · exact h.z 0
  · next hk =>
    split
    · exact h.z 0
    · next h22 =>
      obtain ⟨i, hi, rfl⟩ := in_nI (N := 1) (b := 1) rfl rfl (Decidable.not_not.mp hk)
      obtain ⟨p, t, c, ro, d, im⟩ := INV.iff.mp h
      have ei : iN (nI i) = i := iN_nI (by omega)
      rw [ei] at h22
      refine INV.iff.mpr ⟨ivP.z rfl, t, c, ro, ?_, im⟩
      refine (im i (by omega) h22).cg (fun q hq => ?_)
      show wseg w 5 0 94 (fun q => w 23 (94 * iN (nI i) + q)) 5 q = _
      rw [wseg_in (by omega) (by omega), ei]
      rfl
theorem wst_q {w : Nat → Nat → Int32} {n : Nat} {f : Nat → Int32} (q : Nat) : wst w n f 5 q = if 9 ≤ q ∧ q < 9 + 3 * n ∧ (q - 9) % 3 = 0 then f ((q - 9) / 3) else w 5 q := by
  unfold wst
  rw [if_pos rfl]
theorem ro_wst {w : Nat → Nat → Int32} (d : roOk (w 5)) {n : Nat} (hn : n ≤ 6) {f : Nat → Int32} (hf : ∀ k, k < n → ∃ x, x ≤ 200 ∧ f k = nI x) {y : Int32} (hy : ∃ nt, nt ≤ 9999 ∧ y = nI nt) : roOk (wup (wst w n f) 5 6 y 5) := by
  have d' := d
  obtain ⟨n0, mm, tm, nt, -, -, -, -, -, -, -, -, -, -, -, hst⟩ := d'
  rw [wup_s]
  refine d.ns (fun i hi => ?_) ?_ (fun k hk f0 hf0 => ?_)
  · rw [upd_n (by omega), wst_q, if_neg (by omega)]
  · rw [upd_s]; exact hy
  · rw [upd_n (by omega), wst_q]
    split
    · next hc =>
      obtain rfl : f0 = 1 := by omega
      exact hf _ (by omega)
    · exact hst k hk f0 hf0
theorem iv_undo (h : INV v w) : iV (op_undo v w) := by
  unfold op_undo iV
  split
  · exact h.z 0
  · next h8 =>
    obtain ⟨⟨a, ea, ha, hp⟩, t, c, ro, d, im⟩ := INV.iff.mp h
    cases a with
    | zero => exact absurd ea h8
    | succ a =>
      rw [ea, nI_pred, show iN (nI a) = a from iN_nI (by omega)]
      refine INV.iff.mpr ⟨⟨a, rfl, by omega, fun j hj => hp j (by omega)⟩, t, c, ro, ?_, im⟩
      exact ro_wst d (Nat.le_refl 6) (fun k hk => (hp a (by omega)).2 k hk) (hp a (by omega)).1
theorem iv_feed (h : INV v w) (x : Int64) (n : Int32) : iV (op_feed v w x n) := by
  unfold op_feed iV
  split
  · exact h.z 0
  · next hn =>
    split
    · exact h.z 0
    · next h4 =>
      obtain ⟨p, ⟨T, eT, hT, hok⟩, c, ro, d, im⟩ := INV.iff.mp h
      obtain ⟨m, hm1, hm2, rfl⟩ := bet (a := 1) (b := 8) rfl rfl (by omega) (by omega) (Decidable.not_not.mp hn)
      have h4 := Decidable.not_not.mp h4
      rw [eT, nI_add] at h4
      have h4 : T + m ≤ 400 := nle_t (b := 400) h4
      refine INV.iff.mpr ⟨p, ⟨T + m, ?_, h4, fun k hk => ?_⟩, c, ro, d, im⟩
      · show v 10 + nI m = _
        rw [eT, nI_add]
      · show 0 ≤ wseg w 9 (iN (v 10)) (iN (nI m)) _ 9 k ∧ wseg w 9 (iN (v 10)) (iN (nI m)) _ 9 k ≤ 255
        rw [eT, show iN (nI T) = T from iN_nI (by omega), show iN (nI m) = m from iN_nI (by omega)]
        by_cases e : k < T
        · rw [wseg_out (by omega)]; exact hok k e
        · rw [wseg_in (by omega) (by omega)]; exact bt255i _
theorem szL_len (k : Int32) : (szL k).length ≤ 8 := by
  unfold szL
  have := (thL_len k).1
  have := mkL_len k
  split
  · split <;> simp only [List.length_cons] <;> omega
  · omega
theorem iv_ask (h : INV v w) (x y : Int32) : iV (op_ask v w x y) := by
  unfold op_ask iV
  split
  · exact h.z 0
  · obtain ⟨p, t, c, ro, d, im⟩ := INV.iff.mp h
    split
    · refine (INV.iff.mpr ⟨p, t, ⟨_, rfl, Nat.le_trans (szL_len _) (by omega)⟩, ro, d, im⟩ : INV (upd (upd v 0 0) 25 (nI (szL (w 5 (26 + 4 * iN x))).length)) w).ag rfl rfl rfl ?_ ?_ ?_ ?_ ?_ ?_ <;> exact bgW_o _ _ _ (by omega)
    · refine (INV.iff.mpr ⟨p, t, ⟨_, rfl, Nat.le_trans (mkL_len _) (by omega)⟩, ro, d, im⟩ : INV (upd (upd v 0 0) 25 (nI (mkL (w 5 (26 + 4 * iN x))).length)) w).ag rfl rfl rfl ?_ ?_ ?_ ?_ ?_ ?_ <;> exact bgW_o _ _ _ (by omega)
/-- a night kept -/
theorem ivP.keep {v u : Nat → Int32} {w : Nat → Nat → Int32} (h : INV v w) (e8 : u 8 = v 8) : ivP (keepV u) (keepW u w) := by
  obtain ⟨⟨a, ea, ha, hp⟩, t, c, ro, d, im⟩ := INV.iff.mp h
  obtain ⟨n0, mm, tm, nt, -, -, -, -, -, -, h6, hnt, -, -, -, hst⟩ := d
  have eu : u 8 = nI a := e8.trans ea
  obtain ⟨k1, k2, k3⟩ := keepW_7 (w := w) eu ha
  refine ⟨_, keepV_8 eu ha, by split <;> omega, fun j hj => ?_⟩
  by_cases e : j = if a = 24 then 23 else a
  · subst e
    rw [k2]
    refine ⟨⟨nt, hnt, h6⟩, fun k hk => ?_⟩
    rw [k1 k hk]
    exact hst k hk 1 (by omega)
  · have hj' : j < if a = 24 then 23 else a := by omega
    have hb : (if a = 24 then j + 1 else j) < a := by
      split at hj'
      · next q => rw [if_pos q]; omega
      · next q => rw [if_neg q]; omega
    obtain ⟨z1, z2⟩ := hp _ hb
    refine ⟨?_, fun k hk => ?_⟩
    · rw [k3 j 6 (by omega) hj']; exact z1
    · rw [k3 j k (by omega) hj']; exact z2 k hk
theorem iv_night (h : INV v w) : iV (op_night v w) := by
  unfold op_night iV
  split
  · exact h.z 0
  · split
    · exact h.z 0
    · next h99 =>
      have hk : ivP (keepV (upd v 0 0)) (keepW (upd v 0 0) w) := ivP.keep h rfl
      obtain ⟨p, ⟨T, eT, hT⟩, ⟨tt, et, ht⟩, ro, d, im⟩ := INV.iff.mp h
      have d' := d
      obtain ⟨n, mm, tm, nt, h4, hn, -, -, -, -, h6, hnt, ⟨le, fe, se, fi, h0, b0, -⟩, -, -, hst⟩ := d'
      have hnt' : nt ≠ 9999 := fun e => h99 (by rw [h6, e]; rfl)
      have e4 : iN (w 5 4) = n := by rw [h4]; exact iN_nI (by omega)
      show INV (keepV (upd v 0 0)) (wup (wst (wput (keepW v w) 19 (goF (w 5) (iN (w 5 4)) (iN (w 5 6)) 31 (layF (w 5) (w 19) (iN (w 5 4)) 1) (iN (w 5 5)))) (iN (w 5 4)) (goF (w 5) (iN (w 5 4)) (iN (w 5 6)) 31 (layF (w 5) (w 19) (iN (w 5 4)) 1) (iN (w 5 5)))) 5 6 (w 5 6 + 1))
      rw [e4]
      obtain ⟨f, ef⟩ : ∃ f, f = goF (w 5) n (iN (w 5 6)) 31 (layF (w 5) (w 19) n 1) (iN (w 5 5)) := ⟨_, rfl⟩
      have hf : ∀ k, k < n → ∃ x, x ≤ 200 ∧ f k = nI x := by
        intro k hk
        have q0 : agr n f (goF (w 5) n (iN (w 5 6)) 31 (layF (w 5) (fun _ => 0) n 1) (iN (w 5 5))) := by
          rw [ef]
          refine goF_agr ?_ (fun k hk => ?_) _ (Nat.le_refl _)
          · intro m hm
            obtain ⟨n1, m1, tm1, nt1, y4, y41, y5, y51, -, -, -, -, -, ym, -⟩ := d
            rw [y5, show iN (nI m1) = m1 from iN_nI (by omega)] at hm
            obtain rfl : n1 = n := neq_t (y4.symm.trans h4)
            obtain ⟨⟨k, z1, z2⟩, -, r, z3, z4⟩ := ym m hm
            exact ⟨k, r, z2, z1, z4, z3⟩
          · unfold layF
            rw [if_pos hk, if_pos hk]
        rw [q0 k hk]
        refine goF_bd h0 b0 (fun j hj => ?_) _ k (by omega)
        unfold layF
        split
        · exact hst j hj 1 (by omega)
        · exact ⟨0, by omega, rfl⟩
      rw [← ef]
      have hk7 : keepW v w = keepW (upd v 0 0) w := rfl
      rw [hk7]
      refine INV.iff.mpr ⟨hk, ⟨T, ?_, ?_⟩, ⟨tt, ?_, ht⟩, ?_, ?_, ?_⟩
      · show keepV (upd v 0 0) 10 = _
        rw [keepV_n (by omega)]; exact eT
      · show T ≤ 400 ∧ tpOk (wup (wst (wput (keepW (upd v 0 0) w) 19 f) n f) 5 6 (w 5 6 + 1) 9) T
        rw [wup_n (by omega), wst_o (by omega), wput_n (by omega), keepW_o (by omega)]
        exact hT
      · show keepV (upd v 0 0) 25 = _
        rw [keepV_n (by omega)]; exact et
      · intro j hj
        show ∃ x : Nat, x ≤ 40 ∧ wup (wst (wput (keepW (upd v 0 0) w) 19 f) n f) 5 6 (w 5 6 + 1) 3 j = nI x
        rw [wup_n (by omega), wst_o (by omega), wput_n (by omega), keepW_o (by omega)]
        exact ro j hj
      · show roOk (wup (wst (wput (keepW (upd v 0 0) w) 19 f) n f) 5 6 (w 5 6 + 1) 5)
        refine ro_wst (by rw [wput_n (by omega), keepW_o (by omega)]; exact d) hn hf ⟨nt + 1, by omega, ?_⟩
        rw [h6, nI_1]
      · intro j hj
        show ¬ wup (wst (wput (keepW (upd v 0 0) w) 19 f) n f) 5 6 (w 5 6 + 1) 22 j = 0 → roOk (fun i => wup (wst (wput (keepW (upd v 0 0) w) 19 f) n f) 5 6 (w 5 6 + 1) 23 (94 * j + i))
        rw [wup_n (by omega), wst_o (by omega), wput_n (by omega), keepW_o (by omega), wup_n (by omega), wst_o (by omega), wput_n (by omega), keepW_o (by omega)]
        exact im j hj
theorem iv_prove (h : INV v w) (x : Int32) : iV (op_prove v w x) := by
  unfold op_prove iV
  split
  · exact h.z 0
  · next hx =>
    split
    · exact h.z 0
    · split
      · exact h.z 0
      · have hk : ivP (keepV (upd v 0 0)) (keepW (upd v 0 0) w) := ivP.keep h rfl
        obtain ⟨p, ⟨T, eT, hT⟩, ⟨tt, et, ht⟩, ro, d, im⟩ := INV.iff.mp h
        have d' := d
        obtain ⟨n, mm, tm, nt, h4, hn, -, -, -, -, h6, hnt, ⟨le, fe, se, fi, h0, b0, -⟩, -, -, hst⟩ := d'
        have hx := Decidable.not_not.mp hx
        rw [h4] at hx
        obtain ⟨i, hi, rfl⟩ := in_nI1 (by omega) hx
        have ei : iN (nI i) = i := iN_nI (by omega)
        rw [ei]
        refine INV.iff.mpr ⟨hk, ⟨T, ?_, ?_⟩, ⟨tt, ?_, ht⟩, ?_, ?_, ?_⟩
        · show keepV (upd v 0 0) 10 = _
          rw [keepV_n (by omega)]; exact eT
        · show T ≤ 400 ∧ tpOk (wup (keepW (upd v 0 0) w) 5 (8 + 3 * i + 1) (w 5 (8 + 3 * i + 2)) 9) T
          rw [wup_n (by omega), keepW_o (by omega)]
          exact hT
        · show keepV (upd v 0 0) 25 = _
          rw [keepV_n (by omega)]; exact et
        · intro j hj
          show ∃ n : Nat, n ≤ 40 ∧ wup (keepW (upd v 0 0) w) 5 (8 + 3 * i + 1) (w 5 (8 + 3 * i + 2)) 3 j = nI n
          rw [wup_n (by omega), keepW_o (by omega)]
          exact ro j hj
        · show roOk (wup (keepW (upd v 0 0) w) 5 (8 + 3 * i + 1) (w 5 (8 + 3 * i + 2)) 5)
          rw [wup_s, keepW_o (by omega)]
          refine d.ns (fun q hq => upd_n (by omega)) ⟨nt, hnt, ?_⟩ (fun k hk f hf => ?_)
          · rw [upd_n (by omega)]; exact h6
          · unfold upd
            split
            · exact hst i (by omega) 2 (by omega)
            · exact hst k hk f hf
        · intro j hj
          show ¬ wup (keepW (upd v 0 0) w) 5 (8 + 3 * i + 1) (w 5 (8 + 3 * i + 2)) 22 j = 0 → roOk (fun q => wup (keepW (upd v 0 0) w) 5 (8 + 3 * i + 1) (w 5 (8 + 3 * i + 2)) 23 (94 * j + q))
          rw [wup_n (by omega), keepW_o (by omega), wup_n (by omega), keepW_o (by omega)]
          exact im j hj
end IV
