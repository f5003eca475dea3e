/-! The two closures are one: what each computes is the greatest that the potentials allow. -/
def dD (F : Nat → Int32) (a b : Nat) : Int := (F (7 * a + b)).toInt
theorem dD_at {F : Nat → Int32} {a b : Nat} {x : Int32} {c d : Nat} (hb : b < 7) (hd : d < 7) : dD (atM F a b x) c d = if c = a ∧ d = b then min x.toInt (dD F a b) else dD F c d := by
  unfold dD atM
  by_cases h : c = a ∧ d = b
  · obtain ⟨rfl, rfl⟩ := h
    rw [upd_s, if_pos (⟨rfl, rfl⟩ : c = c ∧ d = d)]
    by_cases h2 : x < F (7 * c + d)
    · rw [if_pos h2]
      have := Int32.lt_iff_toInt_lt.mp h2
      omega
    · rw [if_neg h2]
      have := mt Int32.lt_iff_toInt_lt.mpr h2
      omega
  · rw [if_neg h, upd_n]
    intro q
    exact h ⟨by omega, by omega⟩
def parI (f : Nat → Int32) (m a b : Nat) : Int := if dD f a m < 100000 ∧ dD f m b < 100000 then min (dD f a m + dD f m b) (dD f a b) else dD f a b
def fwGA (N : Nat) (f : Nat → Int32) (m : Nat) : Nat → (Nat → Int32)
  | 0 => f
  | a + 1 => fwB (fwGA N f m a) m a N
def fwGM (N : Nat) (f : Nat → Int32) : Nat → (Nat → Int32)
  | 0 => f
  | m + 1 => fwGA N (fwGM N f m) m N
theorem fwA_g (f : Nat → Int32) (m a : Nat) : fwA f m a = fwGA 7 f m a := by
  induction a with
  | zero => rfl
  | succ a ih => rw [fwA, fwGA, ih]
theorem fwM_g (f : Nat → Int32) (m : Nat) : fwM f m = fwGM 7 f m := by
  induction m with
  | zero => rfl
  | succ a ih => rw [fwM, fwGM, ih, fwA_g]
theorem c100 (x : Int32) : x < 100000 ↔ x.toInt < 100000 := Int32.lt_iff_toInt_lt
theorem add_i {x y : Int32} (hx : -1000000000 ≤ x.toInt) (hx2 : x.toInt ≤ 1000000000) (hy : -1000000000 ≤ y.toInt) (hy2 : y.toInt ≤ 1000000000) : (x + y).toInt = x.toInt + y.toInt := by
  rw [Int32.toInt_add]
  exact Int.bmod_eq_of_le (by omega) (by omega)
theorem fwB_par {f : Nat → Int32} {m a B : Nat} (hB : B ≤ 7) (hm : m < 7) (h0 : dD f m m = 0) (hr : ∀ d, d < B → -1000000000 ≤ dD f m d ∧ dD f m d ≤ 1000000000) (hc : -1000000000 ≤ dD f a m ∧ dD f a m ≤ 1000000000) : ∀ b, b ≤ B → ∀ c d, d < 7 → dD (fwB f m a b) c d = if c = a ∧ d < b then parI f m c d else dD f c d := by
  intro b
  induction b with
  | zero => intro _ c d hd; rw [if_neg (by omega)]; rfl
  | succ b ih =>
    intro hb c d hd
    have i := ih (by omega)
    have e1 : dD (fwB f m a b) a m = dD f a m := by
      rw [i a m hm]
      split
      · unfold parI
        split <;> omega
      · rfl
    have e2 : dD (fwB f m a b) m b = dD f m b := by
      rw [i m b (by omega), if_neg (by omega)]
    have e3 : dD (fwB f m a b) a b = dD f a b := by
      rw [i a b (by omega), if_neg (by omega)]
    obtain ⟨g, eg⟩ : ∃ g, g = fwB f m a b := ⟨_, rfl⟩
    rw [fwB]
    rw [← eg] at i e1 e2 e3 ⊢
    have r := hr b (by omega)
    have es : (g (7 * a + m) + g (7 * m + b)).toInt = dD f a m + dD f m b := by
      rw [add_i]
      · exact congr (congrArg _ e1) e2
      · show _ ≤ dD g a m; omega
      · show dD g a m ≤ _; omega
      · show _ ≤ dD g m b; omega
      · show dD g m b ≤ _; omega
    have e1' : (g (7 * a + m)).toInt = dD f a m := e1
    have e2' : (g (7 * m + b)).toInt = dD f m b := e2
    have hgi : (g (7 * a + m) < 100000 ∧ g (7 * m + b) < 100000) ↔ (dD f a m < 100000 ∧ dD f m b < 100000) := by rw [c100, c100, e1', e2']
    by_cases hg : dD f a m < 100000 ∧ dD f m b < 100000
    · rw [if_pos (hgi.mpr hg), dD_at (by omega) hd]
      by_cases hcd : c = a ∧ d = b
      · obtain ⟨rfl, rfl⟩ := hcd
        rw [if_pos (⟨rfl, rfl⟩ : c = c ∧ d = d), if_pos (by omega), es, e3]
        unfold parI
        rw [if_pos hg]
      · rw [if_neg hcd, i c d hd]
        by_cases h3 : c = a ∧ d < b
        · rw [if_pos h3, if_pos (by omega)]
        · rw [if_neg h3, if_neg (by omega)]
    · rw [if_neg (mt hgi.mp hg), i c d hd]
      by_cases hcd : c = a ∧ d = b
      · obtain ⟨rfl, rfl⟩ := hcd
        rw [if_neg (by omega), if_pos (by omega)]
        unfold parI
        rw [if_neg hg]
      · by_cases h3 : c = a ∧ d < b
        · rw [if_pos h3, if_pos (by omega)]
        · rw [if_neg h3, if_neg (by omega)]
theorem fwGA_par {N : Nat} (hN : N ≤ 7) {f : Nat → Int32} {m : Nat} (hm : m < N) (h0 : dD f m m = 0) (hb : ∀ c d, c < N → d < N → -1000000000 ≤ dD f c d ∧ dD f c d ≤ 1000000000) : ∀ a, a ≤ N → ∀ c d, d < 7 → dD (fwGA N f m a) c d = if c < a ∧ d < N then parI f m c d else dD f c d := by
  intro a
  induction a with
  | zero => intro _ c d hd; rw [if_neg (by omega)]; rfl
  | succ a ih =>
    intro ha c d hd
    have i := ih (by omega)
    have pm : ∀ d, d < 7 → parI f m m d = dD f m d := by
      intro d hd
      unfold parI
      split <;> omega
    have em : ∀ d, d < 7 → dD (fwGA N f m a) m d = dD f m d := by
      intro d hd
      rw [i m d hd]
      split
      · exact pm d hd
      · rfl
    have ec : ∀ d, d < 7 → dD (fwGA N f m a) a d = dD f a d := by
      intro d hd
      rw [i a d hd, if_neg (by omega)]
    rw [fwGA, fwB_par (B := N) hN (by omega) ((em m (by omega)).trans h0) (fun d hd => by rw [em d (by omega)]; exact hb m d hm hd) (by rw [ec m (by omega)]; exact hb a m (by omega) (by omega)) N (Nat.le_refl N) c d hd]
    by_cases h : c = a ∧ d < N
    · rw [if_pos h, if_pos (by omega)]
      obtain ⟨rfl, -⟩ := h
      unfold parI
      rw [ec m (by omega), em d hd, ec d hd]
    · rw [if_neg h, i c d hd]
      by_cases h2 : c < a ∧ d < N
      · rw [if_pos h2, if_pos (by omega)]
      · rw [if_neg h2, if_neg (by omega)]
/-- values only fall -/
theorem at_dec {F : Nat → Int32} {a b : Nat} {x : Int32} (hb : b < 7) {c d : Nat} (hd : d < 7) : dD (atM F a b x) c d ≤ dD F c d := by
  rw [dD_at hb hd]
  split
  · next h => obtain ⟨rfl, rfl⟩ := h; omega
  · omega
theorem fwB_dec {f : Nat → Int32} {m a : Nat} : ∀ b, b ≤ 7 → ∀ c d, d < 7 → dD (fwB f m a b) c d ≤ dD f c d := by
  intro b
  induction b with
  | zero => intro _ c d _; exact Int.le_refl _
  | succ b ih =>
    intro hb c d hd
    have i := ih (by omega) c d hd
    rw [fwB]
    split
    · exact Int.le_trans (at_dec (by omega) hd) i
    · exact i
theorem fwGA_dec {N : Nat} (hN : N ≤ 7) {f : Nat → Int32} {m : Nat} : ∀ a c d, d < 7 → dD (fwGA N f m a) c d ≤ dD f c d := by
  intro a
  induction a with
  | zero => intro c d _; exact Int.le_refl _
  | succ a ih => intro c d hd; rw [fwGA]; exact Int.le_trans (fwB_dec N hN c d hd) (ih c d hd)
theorem fwGM_dec {N : Nat} (hN : N ≤ 7) {f : Nat → Int32} {m : Nat} : ∀ k c d, d < 7 → dD (fwGM N f (m + k)) c d ≤ dD (fwGM N f m) c d := by
  intro k
  induction k with
  | zero => intro c d _; exact Int.le_refl _
  | succ k ih => intro c d hd; rw [← Nat.add_assoc, fwGM]; exact Int.le_trans (fwGA_dec hN N c d hd) (ih c d hd)
theorem parI_le1 (f : Nat → Int32) (m a b : Nat) : parI f m a b ≤ dD f a b := by unfold parI; split <;> omega
theorem parI_le2 (f : Nat → Int32) (m a b : Nat) (h1 : dD f a m < 100000) (h2 : dD f m b < 100000) : parI f m a b ≤ dD f a m + dD f m b := by
  unfold parI
  rw [if_pos ⟨h1, h2⟩]
  omega
theorem parI_cs (f : Nat → Int32) (m a b : Nat) : parI f m a b = dD f a b ∨ (dD f a m < 100000 ∧ dD f m b < 100000 ∧ parI f m a b = dD f a m + dD f m b) := by
  unfold parI
  split
  · next h =>
    rcases Int.le_total (dD f a m + dD f m b) (dD f a b) with q | q
    · exact Or.inr ⟨h.1, h.2, by omega⟩
    · exact Or.inl (by omega)
  · exact Or.inl rfl
/-- what holds before phase m -/
def fwI (N m : Nat) (U L : Int) (f : Nat → Int32) : Prop :=
  (∀ a, a < N → dD f a a = 0) ∧ (∀ a b, a < N → b < N → -L ≤ dD f a b ∧ dD f a b ≤ 100000 ∧ (dD f a b < 100000 → dD f a b ≤ U)) ∧
  ∀ k, k < m → ∀ a b, a < N → b < N → dD f a k < 100000 → dD f k b < 100000 → dD f a b ≤ dD f a k + dD f k b
theorem fwI.step {N m : Nat} {U L U' : Int} {f : Nat → Int32} (hN : N ≤ 7) (hm : m < N) (h : fwI N m U L f) (hL : L ≤ 100000000) (hL0 : 0 ≤ L) (hU : U ≤ U') (hU' : U' < 100000)
    (hd : ∀ a, a < N → 0 ≤ dD (fwGA N f m N) a a)
    (hs : ∀ a b, a < N → b < N → dD f a m < 100000 → dD f m b < 100000 → min (dD f a m + dD f m b) (dD f a b) ≤ U')
    (h1 : ∀ a k, a < N → k < m → dD f a k < 100000 → dD f k m < 100000 → dD f a k + dD f k m < 100000)
    (h2 : ∀ b k, b < N → k < m → dD f m k < 100000 → dD f k b < 100000 → dD f m k + dD f k b < 100000) : fwI N (m + 1) U' (2 * L) (fwGA N f m N) := by
  obtain ⟨g0, gb, gt⟩ := h
  have P : ∀ c d, c < N → d < N → dD (fwGA N f m N) c d = parI f m c d := by
    intro c d hc hd
    rw [fwGA_par hN hm (g0 m hm) (fun c d hc hd => by have := gb c d hc hd; omega) N (Nat.le_refl N) c d (by omega), if_pos ⟨hc, hd⟩]
  refine ⟨fun a ha => ?_, fun a b ha hb => ?_, fun k hk a b ha hb hak hkb => ?_⟩
  · have q := hd a ha
    have q2 := fwGA_dec hN (f := f) (m := m) N a a (by omega)
    have q3 := g0 a ha
    omega
  · rw [P a b ha hb]
    have r1 := gb a b ha hb
    have r2 := gb a m ha hm
    have r3 := gb m b hm hb
    unfold parI
    split
    · next hg =>
      have r4 := hs a b ha hb hg.1 hg.2
      omega
    · omega
  · have hkN : k < N := by omega
    rw [P a k ha hkN] at hak ⊢
    rw [P k b hkN hb] at hkb ⊢
    rw [P a b ha hb]
    have zm := g0 m hm
    by_cases ek : k = m
    · subst ek
      have p1 : parI f k a k = dD f a k := by unfold parI; split <;> omega
      have p2 : parI f k k b = dD f k b := by unfold parI; split <;> omega
      rw [p1] at hak ⊢
      rw [p2] at hkb ⊢
      unfold parI
      rw [if_pos ⟨hak, hkb⟩]
      omega
    · have hkm : k < m := by omega
      have l1 := parI_le1 f m a b
      have l2 := parI_le2 f m a b
      rcases parI_cs f m a k with e1 | ⟨f1, f2, e1⟩ <;> rcases parI_cs f m k b with e2 | ⟨f3, f4, e2⟩ <;> rw [e1] at hak ⊢ <;> rw [e2] at hkb ⊢
      · have := gt k hkm a b ha hb hak hkb
        omega
      · have t2 := gt k hkm a m ha hm hak f3
        have s1 := h1 a k ha hkm hak f3
        have := l2 (by omega) f4
        omega
      · have t3 := gt k hkm m b hm hb f2 hkb
        have s2 := h2 b k hb hkm f2 hkb
        have := l2 f1 (by omega)
        omega
      · have t4 := gt k hkm m m hm hm f2 f3
        have := l2 f1 f4
        omega
theorem okL_iff {f : Nat → Int32} : ∀ a, okL f a = true ↔ ∀ k, k < a → 0 ≤ dD f k k := by
  intro a
  induction a with
  | zero => simp [okL]
  | succ a ih =>
    rw [okL, Bool.and_eq_true, ih, decide_eq_true_eq, Int32.le_iff_toInt_le]
    have e : dD f a a = (f (8 * a)).toInt := by unfold dD; congr 2; omega
    have z : (0 : Int32).toInt = 0 := rfl
    constructor
    · rintro ⟨h1, h2⟩ k hk
      by_cases ek : k = a
      · subst ek; omega
      · exact h1 k (by omega)
    · intro h
      exact ⟨fun k hk => h k (by omega), by have := h a (by omega); omega⟩
theorem okC_iff {f : Nat → Int32} : ∀ a, okC f a = true ↔ ∀ k, k < a → 0 ≤ dD f k k := by
  intro a
  induction a with
  | zero => simp [okC]
  | succ a ih =>
    rw [okC, Bool.and_eq_true, ih, decide_eq_true_eq, Int32.le_iff_toInt_le]
    have e : dD f a a = (f (7 * a + a)).toInt := rfl
    have z : (0 : Int32).toInt = 0 := rfl
    constructor
    · rintro ⟨h1, h2⟩ k hk
      by_cases ek : k = a
      · subst ek; omega
      · exact h1 k (by omega)
    · intro h
      exact ⟨fun k hk => h k (by omega), by have := h a (by omega); omega⟩
/-- a potential under the matrix -/
def pot (N : Nat) (p : Nat → Int) (f : Nat → Int32) : Prop := ∀ a b, a < N → b < N → p b - p a ≤ dD f a b ∧ dD f a b ≤ 100000
theorem pot.at {N : Nat} {p : Nat → Int} {f : Nat → Int32} {a b : Nat} {x : Int32} (hN : N ≤ 7) (h : pot N p f) (hb : b < N) (hx : p b - p a ≤ x.toInt) : pot N p (atM f a b x) := by
  intro c d hc hd
  rw [dD_at (by omega) (by omega)]
  have h0 := h c d hc hd
  split
  · next q =>
    obtain ⟨rfl, rfl⟩ := q
    omega
  · exact h0
theorem pot.kB {N : Nat} {p : Nat → Int} {f : Nat → Int32} {m a : Nat} (hN : N ≤ 7) (hp : ∀ a, a < N → -10000 ≤ p a ∧ p a ≤ 10000) (hm : m < N) (ha : a < N) (h : pot N p f) : ∀ b, b ≤ N → pot N p (fwB f m a b) := by
  intro b
  induction b with
  | zero => intro _; exact h
  | succ b ih =>
    intro hb
    have i := ih (by omega)
    unfold fwB
    split
    · refine i.at hN (by omega) ?_
      have r1 := i a m ha hm
      have r2 := i m b hm (by omega)
      have p1 := hp a ha
      have p2 := hp b (by omega)
      have p3 := hp m hm
      unfold dD at r1 r2
      rw [add_i] <;> omega
    · exact i
theorem pot.kA {N : Nat} {p : Nat → Int} {f : Nat → Int32} {m : Nat} (hN : N ≤ 7) (hp : ∀ a, a < N → -10000 ≤ p a ∧ p a ≤ 10000) (hm : m < N) (h : pot N p f) : ∀ a, a ≤ N → pot N p (fwGA N f m a) := by
  intro a
  induction a with
  | zero => intro _; exact h
  | succ a ih => intro ha; exact (ih (by omega)).kB hN hp hm (by omega) N (Nat.le_refl N)
theorem pot.kM {N : Nat} {p : Nat → Int} {f : Nat → Int32} (hN : N ≤ 7) (hp : ∀ a, a < N → -10000 ≤ p a ∧ p a ≤ 10000) (h : pot N p f) : ∀ m, m ≤ N → pot N p (fwGM N f m) := by
  intro m
  induction m with
  | zero => intro _; exact h
  | succ m ih => intro hm; exact (ih (by omega)).kA hN hp (by omega) N (Nat.le_refl N)
/-- what the numbers of a road ask -/
def conD (g : Nat) (ro : Nat → Int32) (n tm : Nat) (d : Nat → Nat → Int) : Prop :=
  (∀ k, k < n → d g k ≤ (ro 0).toInt ∧ d k g ≤ 0 ∧ (0 < k → d k (k - 1) ≤ -1)) ∧ ∀ q, q < tm → d (iN (ro (46 + 4 * q))) (iN (ro (46 + 4 * q + 1))) ≤ (ro (46 + 4 * q + 2) * ro (46 + 4 * q + 3) + ro (46 + 4 * q + 2) - 1).toInt ∧ d (iN (ro (46 + 4 * q + 1))) (iN (ro (46 + 4 * q))) ≤ (-(ro (46 + 4 * q + 2) * ro (46 + 4 * q + 3))).toInt
theorem tm_num {x t : Nat} (hx : 1 ≤ x) (hx2 : x ≤ 20) (ht : t ≤ 99) : (nI x * nI t + nI x - 1).toInt = (x * t : Nat) + x - 1 ∧ (-(nI x * nI t)).toInt = -((x * t : Nat) : Int) ∧ x * t ≤ 1980 := by
  have hb : x * t ≤ 20 * 99 := Nat.mul_le_mul hx2 ht
  have e1 : (nI x * nI t).toInt = (x * t : Nat) := by
    rw [Int32.toInt_mul, nI_toInt (by omega), nI_toInt (by omega), ← Int.natCast_mul]
    exact Int.bmod_eq_of_le (by omega) (by omega)
  have o : (1 : Int32).toInt = 1 := rfl
  refine ⟨?_, ?_, hb⟩
  · rw [Int32.toInt_sub, Int32.toInt_add, e1, nI_toInt (by omega), o]
    rw [Int.bmod_eq_of_le (n := (↑(x * t) + ↑x)) (by omega) (by omega)]
    exact Int.bmod_eq_of_le (by omega) (by omega)
  · rw [Int32.toInt_neg, e1]
    exact Int.bmod_eq_of_le (by omega) (by omega)
theorem ini_v {f : Nat → Int32} : ∀ K i, i < K → ini f K i = if i % 8 = 0 then 0 else 100000 := by
  intro K
  induction K with
  | zero => intro i h; omega
  | succ K ih =>
    intro i hi
    rw [ini]
    by_cases e : i = K
    · subst e
      rw [upd_s]
    · rw [upd_n e, ih i (by omega)]
theorem ini_d {f : Nat → Int32} {a b : Nat} (ha : a < 7) (hb : b < 7) : dD (ini f 49) a b = if a = b then 0 else 100000 := by
  unfold dD
  rw [ini_v 49 (7 * a + b) (by omega)]
  by_cases e : a = b
  · rw [if_pos e, if_pos (by omega)]; rfl
  · rw [if_neg e, if_neg (by omega)]; rfl
/-- the reference's numbers at the start -/
def rIn (n : Nat) (f : Nat → Int32) : Prop := ∀ a b, a < 7 → b < 7 → (a = b → dD f a b = 0) ∧ -1980 ≤ dD f a b ∧ (dD f a b = 100000 ∨ (dD f a b ≤ 1999 ∧ (b = 0 → dD f a b ≤ 200))) ∧ (a ≠ b → (n ≤ a ∧ a < 6 ∨ n ≤ b ∧ b < 6) → dD f a b = 100000)
theorem rIn.at {n : Nat} {f : Nat → Int32} {a b : Nat} {x : Int32} (h : rIn n f) (hb : b < 7) (hab : a ≠ b) (h1 : ¬ (n ≤ a ∧ a < 6)) (h2 : ¬ (n ≤ b ∧ b < 6)) (x1 : -1980 ≤ x.toInt) (x2 : x.toInt ≤ 1999) (x3 : b = 0 → x.toInt ≤ 200) : rIn n (atM f a b x) := by
  intro c d hc hd
  have h0 := h c d hc hd
  rw [dD_at hb hd]
  split
  · next q =>
    obtain ⟨rfl, rfl⟩ := q
    refine ⟨fun e => absurd e hab, by omega, Or.inr ⟨by omega, fun e => by have := x3 e; omega⟩, fun _ q => by omega⟩
  · exact h0
theorem rIn.kS {n : Nat} {f : Nat → Int32} {len : Int32} (hn : n ≤ 6) (l0 : 0 ≤ len.toInt) (l1 : len.toInt ≤ 200) (h : rIn n f) : ∀ k, k ≤ n → rIn n (fwS len f k) := by
  intro k
  induction k with
  | zero => intro _; exact h
  | succ k ih =>
    intro hk
    have i := ih (by omega)
    have z : (0 : Int32).toInt = 0 := rfl
    have o : (-1 : Int32).toInt = -1 := rfl
    have i1 : rIn n (atM (fwS len f k) 6 k len) := i.at (by omega) (by omega) (by omega) (by omega) (by omega) (by omega) (by omega)
    have i2 : rIn n (atM (atM (fwS len f k) 6 k len) k 6 0) := i1.at (by omega) (by omega) (by omega) (by omega) (by omega) (by omega) (by omega)
    unfold fwS
    split
    · exact i2
    · exact i2.at (by omega) (by omega) (by omega) (by omega) (by omega) (by omega) (by omega)
theorem rIn.kT {n tm : Nat} {ro f : Nat → Int32} (hn : n ≤ 6) (hto : tmOk ro n tm) (h : rIn n f) : ∀ k, k ≤ tm → rIn n (fwT ro f k) := by
  intro k
  induction k with
  | zero => intro _; exact h
  | succ k ih =>
    intro hk
    have i := ih (by omega)
    obtain ⟨a, b, x, t, ea, eb, hab, hbn, ex, hx, hx2, et, ht⟩ := hto k (by omega)
    obtain ⟨n1, n2, n3⟩ := tm_num hx hx2 ht
    unfold fwT
    rw [ea, eb, ex, et, iN_nI (by omega), iN_nI (by omega), Int32.neg_mul]
    exact (i.at (by omega) (by omega) (by omega) (by omega) (by omega) (by omega) (by omega)).at (by omega) (by omega) (by omega) (by omega) (by omega) (by omega) (by omega)
/-- the reference: the seven phases -/
theorem rIn.closed {n : Nat} {f : Nat → Int32} (h : rIn n f) (h6 : ∀ k, k < n → dD f 6 k ≤ 200 ∧ dD f k 6 ≤ 0) (hd : ∀ a, a < 7 → 0 ≤ dD (fwGM 7 f 7) a a) : ∃ U L, fwI 7 7 U L (fwGM 7 f 7) := by
  have D : ∀ m a, m ≤ 7 → a < 7 → 0 ≤ dD (fwGM 7 f m) a a := by
    intro m a hm ha
    have q := fwGM_dec (N := 7) (by omega) (f := f) (m := m) (7 - m) a a ha
    rw [show m + (7 - m) = 7 by omega] at q
    exact Int.le_trans (hd a ha) q
  have V : ∀ {m : Nat} {U L : Int} {g : Nat → Int32}, fwI 7 m U L g → L ≤ 1000000 → ∀ c d, c < 7 → d < 7 → -1000000000 ≤ dD g c d ∧ dD g c d ≤ 1000000000 := by
    intro m U L g hg hL c d hc hd
    have := hg.2.1 c d hc hd
    omega
  have i0 : fwI 7 0 1999 2000 (fwGM 7 f 0) := by
    have h' := h
    unfold rIn at h'
    unfold fwI
    refine ⟨fun a ha => (h a a ha ha).1 rfl, fun a b ha hb => ?_, fun k hk => by omega⟩
    have := h a b ha hb
    rw [show fwGM 7 f 0 = f from rfl]
    omega
  have i1 : fwI 7 1 2199 4000 (fwGM 7 f 1) := by
    refine fwI.step (N := 7) (m := 0) (U := 1999) (L := 2000) (f := fwGM 7 f 0) (U' := 2199) (Nat.le_refl 7) (by omega) i0 (by omega) (by omega) (by omega) (by omega) (D 1 · (by omega)) ?_ (fun a k _ hk => by omega) (fun a k _ hk => by omega)
    intro a b ha hb q1 q2
    have r1 := h a 0 ha (by omega)
    have r2 := h 0 b (by omega) hb
    rw [show fwGM 7 f 0 = f from rfl] at q1 q2 ⊢
    omega
  have stp : ∀ {m : Nat} {U L : Int}, m < 6 → fwI 7 m U L (fwGM 7 f m) → L ≤ 1000000 → 0 ≤ L → 0 ≤ U → 2 * U < 100000 → fwI 7 (m + 1) (2 * U) (2 * L) (fwGM 7 f (m + 1)) := by
    intro m U L hm i hL hL0 hU0 hU
    refine i.step (Nat.le_refl 7) (by omega) (by omega) (by omega) (by omega) (by omega) (D (m + 1) · (by omega)) ?_ ?_ ?_
    · intro a b ha hb q1 q2
      have r1 := (i.2.1 a m ha (by omega)).2.2 q1
      have r2 := (i.2.1 m b (by omega) hb).2.2 q2
      omega
    · intro a k ha hk q1 q2
      have r1 := (i.2.1 a k ha (by omega)).2.2 q1
      have r2 := (i.2.1 k m (by omega) (by omega)).2.2 q2
      omega
    · intro a k ha hk q1 q2
      have r1 := (i.2.1 m k (by omega) (by omega)).2.2 q1
      have r2 := (i.2.1 k a (by omega) ha).2.2 q2
      omega
  have i2 : fwI 7 2 4398 8000 (fwGM 7 f 2) := stp (m := 1) (U := 2199) (L := 4000) (by omega) i1 (by omega) (by omega) (by omega) (by omega)
  have i3 : fwI 7 3 8796 16000 (fwGM 7 f 3) := stp (m := 2) (U := 4398) (L := 8000) (by omega) i2 (by omega) (by omega) (by omega) (by omega)
  have i4 : fwI 7 4 17592 32000 (fwGM 7 f 4) := stp (m := 3) (U := 8796) (L := 16000) (by omega) i3 (by omega) (by omega) (by omega) (by omega)
  have i5 : fwI 7 5 35184 64000 (fwGM 7 f 5) := stp (m := 4) (U := 17592) (L := 32000) (by omega) i4 (by omega) (by omega) (by omega) (by omega)
  have i6 : fwI 7 6 70368 128000 (fwGM 7 f 6) := stp (m := 5) (U := 35184) (L := 64000) (by omega) i5 (by omega) (by omega) (by omega) (by omega)
  have iso : ∀ m, m ≤ 6 → ∀ a b, a < 7 → b < 7 → a ≠ b → (n ≤ a ∧ a < 6 ∨ n ≤ b ∧ b < 6) → dD (fwGM 7 f m) a b = 100000 := by
    intro m
    induction m with
    | zero => intro _ a b ha hb; exact (h a b ha hb).2.2.2
    | succ m ih =>
      intro hm a b ha hb hab hz
      have g0 : dD (fwGM 7 f m) m m = 0 := by
        have q1 := D m m (by omega) (by omega)
        have q2 := fwGM_dec (N := 7) (by omega) (f := f) (m := 0) m m m (by omega)
        rw [Nat.zero_add] at q2
        have q3 := (h m m (by omega) (by omega)).1 rfl
        have q4 : dD (fwGM 7 f 0) m m = dD f m m := rfl
        omega
      have hv : ∀ c d, c < 7 → d < 7 → -1000000000 ≤ dD (fwGM 7 f m) c d ∧ dD (fwGM 7 f m) c d ≤ 1000000000 := by
        rcases (by omega : m = 0 ∨ m = 1 ∨ m = 2 ∨ m = 3 ∨ m = 4 ∨ m = 5) with rfl | rfl | rfl | rfl | rfl | rfl
        · exact V i0 (by omega)
        · exact V i1 (by omega)
        · exact V i2 (by omega)
        · exact V i3 (by omega)
        · exact V i4 (by omega)
        · exact V i5 (by omega)
      rw [fwGM, fwGA_par (Nat.le_refl 7) (by omega) g0 hv 7 (Nat.le_refl 7) a b hb, if_pos ⟨ha, hb⟩]
      have i := ih (by omega)
      have e := i a b ha hb hab hz
      unfold parI
      rw [if_neg, e]
      rintro ⟨q1, q2⟩
      rcases hz with hz | hz
      · by_cases em : m = a
        · subst em; omega
        · have := i a m ha (by omega) (Ne.symm em) (Or.inl hz); omega
      · by_cases em : m = b
        · subst em; omega
        · have := i m b (by omega) hb em (Or.inr hz); omega
  have dc : ∀ a b, a < 7 → b < 7 → dD (fwGM 7 f 6) a b ≤ dD f a b := by
    intro a b ha hb
    have q2 := fwGM_dec (N := 7) (by omega) (f := f) (m := 0) 6 a b hb
    exact q2
  have c6 : ∀ a, a < 7 → dD (fwGM 7 f 6) a 6 < 100000 → dD (fwGM 7 f 6) a 6 ≤ 0 := by
    intro a ha q
    by_cases e : a = 6
    · subst e; have := i6.1 6 (by omega); omega
    · by_cases en : a < n
      · have := dc a 6 ha (by omega)
        have := (h6 a en).2
        omega
      · have := iso 6 (by omega) a 6 ha (by omega) e (Or.inl ⟨by omega, by omega⟩)
        omega
  have r6 : ∀ a, a < 7 → dD (fwGM 7 f 6) 6 a < 100000 → dD (fwGM 7 f 6) 6 a ≤ 200 := by
    intro a ha q
    by_cases e : a = 6
    · subst e; have := i6.1 6 (by omega); omega
    · by_cases en : a < n
      · have := dc 6 a (by omega) ha
        have := (h6 a en).1
        omega
      · have := iso 6 (by omega) 6 a (by omega) ha (Ne.symm e) (Or.inr ⟨by omega, by omega⟩)
        omega
  refine ⟨_, _, fwI.step (N := 7) (m := 6) (U := 70368) (L := 128000) (f := fwGM 7 f 6) (U' := 70368) (Nat.le_refl 7) (by omega) i6 (by omega) (by omega) (by omega) (by omega) (D 7 · (by omega)) ?_ ?_ ?_⟩
  · intro a b ha hb q1 q2
    have r1 := c6 a ha q1
    have r2 := r6 b hb q2
    omega
  · intro a k ha hk q1 q2
    have r1 := (i6.2.1 a k ha (by omega)).2.2 q1
    have r2 := c6 k (by omega) q2
    omega
  · intro a k ha hk q1 q2
    have r1 := r6 k (by omega) q1
    have r2 := (i6.2.1 k a (by omega) ha).2.2 q2
    omega
/-- the component: its n + 1 phases -/
def cIn (N : Nat) (f : Nat → Int32) : Prop := ∀ a b, a < N → b < N → (a = b → dD f a b = 0) ∧ -1980 ≤ dD f a b ∧ dD f a b ≤ 1999
theorem cIn.closed {N : Nat} {f : Nat → Int32} (hN : N ≤ 7) (h : cIn N f) (hd : ∀ a, a < N → 0 ≤ dD (fwGM N f N) a a) : ∃ L, fwI N N 1999 L (fwGM N f N) := by
  have D : ∀ m a, m ≤ N → a < N → 0 ≤ dD (fwGM N f m) a a := by
    intro m a hm ha
    have q := fwGM_dec hN (f := f) (m := m) (N - m) a a (by omega)
    rw [show m + (N - m) = N by omega] at q
    exact Int.le_trans (hd a ha) q
  have key : ∀ m, m ≤ N → fwI N m 1999 (2000 * 2 ^ m) (fwGM N f m) := by
    intro m
    induction m with
    | zero =>
      intro _
      refine ⟨fun a ha => (h a a ha ha).1 rfl, fun a b ha hb => ?_, fun k hk => by omega⟩
      have := h a b ha hb
      rw [show fwGM N f 0 = f from rfl]
      omega
    | succ m ih =>
      intro hm
      have i := ih (by omega)
      have pw : (0 : Int) ≤ 2000 * 2 ^ m ∧ (2000 * 2 ^ m : Int) ≤ 1000000 := by
        rcases (by omega : m = 0 ∨ m = 1 ∨ m = 2 ∨ m = 3 ∨ m = 4 ∨ m = 5 ∨ m = 6) with rfl | rfl | rfl | rfl | rfl | rfl | rfl <;> decide
      have bd : ∀ a b, a < N → b < N → dD (fwGM N f m) a b ≤ 1999 := by
        intro a b ha hb
        have q2 := fwGM_dec hN (f := f) (m := 0) m a b (by omega)
        rw [Nat.zero_add] at q2
        have := (h a b ha hb).2.2
        exact Int.le_trans q2 this
      have i' : fwI N (m + 1) 1999 (2 * (2000 * 2 ^ m)) (fwGM N f (m + 1)) := by
        refine i.step hN (by omega) (by omega) pw.1 (by omega) (by omega) (D (m + 1) · (by omega)) ?_ ?_ ?_
        · intro a b ha hb q1 q2
          have := bd a b ha hb
          omega
        · intro a k ha hk q1 q2
          have := bd a k ha (by omega)
          have := bd k m (by omega) (by omega)
          omega
        · intro a k ha hk q1 q2
          have := bd k a (by omega) ha
          have := bd m k (by omega) (by omega)
          omega
      rw [show (2000 * 2 ^ (m + 1) : Int) = 2 * (2000 * 2 ^ m) by rw [Int.pow_succ]; omega]
      exact i'
  exact ⟨_, key N (Nat.le_refl N)⟩
theorem cwB_g {N : Nat} (hN : N ≤ 7) {f : Nat → Int32} {m a : Nat} (hm : m < N) (ha : a < N) (h : ∀ a b, a < N → b < N → dD f a b < 100000) : ∀ b, b ≤ N → cwB f m a b = fwB f m a b := by
  intro b
  induction b with
  | zero => intro _; rfl
  | succ b ih =>
    intro hb
    rw [cwB, fwB, ih (by omega), if_pos]
    rw [c100, c100]
    exact ⟨Int.lt_of_le_of_lt (fwB_dec b (by omega) a m (by omega)) (h a m ha hm), Int.lt_of_le_of_lt (fwB_dec b (by omega) m b (by omega)) (h m b hm (by omega))⟩
theorem cwA_g {n : Nat} (hN : n + 1 ≤ 7) {f : Nat → Int32} {m : Nat} (hm : m < n + 1) (h : ∀ a b, a < n + 1 → b < n + 1 → dD f a b < 100000) : ∀ a, a ≤ n + 1 → cwA n f m a = fwGA (n + 1) f m a := by
  intro a
  induction a with
  | zero => intro _; rfl
  | succ a ih =>
    intro ha
    rw [cwA, fwGA, ih (by omega)]
    exact cwB_g hN hm (by omega) (fun c d hc hd => Int.lt_of_le_of_lt (fwGA_dec hN a c d (by omega)) (h c d hc hd)) (n + 1) (Nat.le_refl _)
theorem cwM_g {n : Nat} (hN : n + 1 ≤ 7) {f : Nat → Int32} (h : ∀ a b, a < n + 1 → b < n + 1 → dD f a b < 100000) : ∀ m, m ≤ n + 1 → cwM n f m = fwGM (n + 1) f m := by
  intro m
  induction m with
  | zero => intro _; rfl
  | succ m ih =>
    intro hm
    rw [cwM, fwGM, ih (by omega)]
    refine cwA_g hN (by omega) (fun c d hc hd => ?_) (n + 1) (Nat.le_refl _)
    have q := fwGM_dec hN (f := f) (m := 0) m c d (by omega)
    rw [Nat.zero_add] at q
    exact Int.lt_of_le_of_lt q (h c d hc hd)
theorem at_le {F : Nat → Int32} {a b : Nat} {x : Int32} (hb : b < 7) : dD (atM F a b x) a b ≤ x.toInt := by
  rw [dD_at hb hb, if_pos ⟨rfl, rfl⟩]
  omega
theorem at_leD {F : Nat → Int32} {a b c d : Nat} {x : Int32} {y : Int} (hb : b < 7) (hd : d < 7) (h : dD F c d ≤ y) : dD (atM F a b x) c d ≤ y := Int.le_trans (at_dec hb hd) h
theorem fwS_con {len : Int32} {f : Nat → Int32} : ∀ k, k ≤ 6 → ∀ j, j < k → dD (fwS len f k) 6 j ≤ len.toInt ∧ dD (fwS len f k) j 6 ≤ 0 ∧ (0 < j → dD (fwS len f k) j (j - 1) ≤ -1) := by
  intro k
  induction k with
  | zero => intro _ j hj; omega
  | succ k ih =>
    intro hk j hj
    rw [fwS]
    by_cases e : j = k
    · subst e
      have a1 : dD (atM (fwS len f j) 6 j len) 6 j ≤ len.toInt := at_le (by omega)
      have a2 : dD (atM (atM (fwS len f j) 6 j len) j 6 0) j 6 ≤ 0 := at_le (x := 0) (by omega)
      split
      · next q => exact ⟨at_leD (by omega) (by omega) a1, a2, fun q2 => by omega⟩
      · exact ⟨at_leD (by omega) (by omega) (at_leD (by omega) (by omega) a1), at_leD (by omega) (by omega) a2, fun _ => at_le (x := -1) (by omega)⟩
    · obtain ⟨i1, i2, i3⟩ := ih (by omega) j (by omega)
      split
      · exact ⟨at_leD (by omega) (by omega) (at_leD (by omega) (by omega) i1), at_leD (by omega) (by omega) (at_leD (by omega) (by omega) i2), fun q => at_leD (by omega) (by omega) (at_leD (by omega) (by omega) (i3 q))⟩
      · exact ⟨at_leD (by omega) (by omega) (at_leD (by omega) (by omega) (at_leD (by omega) (by omega) i1)), at_leD (by omega) (by omega) (at_leD (by omega) (by omega) (at_leD (by omega) (by omega) i2)), fun q => at_leD (by omega) (by omega) (at_leD (by omega) (by omega) (at_leD (by omega) (by omega) (i3 q)))⟩
theorem csS_con {n : Nat} (hn : n ≤ 6) {f : Nat → Int32} : ∀ k, k ≤ n → ∀ j, j < k → dD (csS n f k) j n ≤ 0 ∧ (0 < j → dD (csS n f k) j (j - 1) ≤ -1) := by
  intro k
  induction k with
  | zero => intro _ j hj; omega
  | succ k ih =>
    intro hk j hj
    rw [csS]
    by_cases e : j = k
    · subst e
      have a2 : dD (atM (csS n f j) j n 0) j n ≤ 0 := at_le (x := 0) (by omega)
      split
      · exact ⟨a2, fun q2 => by omega⟩
      · exact ⟨at_leD (by omega) (by omega) a2, fun _ => at_le (x := -1) (by omega)⟩
    · obtain ⟨i2, i3⟩ := ih (by omega) j (by omega)
      split
      · exact ⟨at_leD (by omega) (by omega) i2, fun q => at_leD (by omega) (by omega) (i3 q)⟩
      · exact ⟨at_leD (by omega) (by omega) (at_leD (by omega) (by omega) i2), fun q => at_leD (by omega) (by omega) (at_leD (by omega) (by omega) (i3 q))⟩
theorem csS_dec {n : Nat} (hn : n ≤ 6) {f : Nat → Int32} {c d : Nat} (hd : d < 7) : ∀ k, k ≤ n → dD (csS n f k) c d ≤ dD f c d := by
  intro k
  induction k with
  | zero => intro _; exact Int.le_refl _
  | succ k ih =>
    intro hk
    have i := ih (by omega)
    rw [csS]
    split
    · exact at_leD (by omega) hd i
    · exact at_leD (by omega) hd (at_leD (by omega) hd i)
/-- the times of a road, by either closure -/
theorem fwT_con {ro f : Nat → Int32} {n tm : Nat} (hn : n ≤ 6) (hto : tmOk ro n tm) : ∀ k, k ≤ tm → (∀ c d, d < 7 → dD (fwT ro f k) c d ≤ dD f c d) ∧ ∀ q, q < k → dD (fwT ro f k) (iN (ro (46 + 4 * q))) (iN (ro (46 + 4 * q + 1))) ≤ (ro (46 + 4 * q + 2) * ro (46 + 4 * q + 3) + ro (46 + 4 * q + 2) - 1).toInt ∧ dD (fwT ro f k) (iN (ro (46 + 4 * q + 1))) (iN (ro (46 + 4 * q))) ≤ (-(ro (46 + 4 * q + 2) * ro (46 + 4 * q + 3))).toInt := by
  intro k
  induction k with
  | zero => intro _; exact ⟨fun c d _ => Int.le_refl _, fun q hq => by omega⟩
  | succ k ih =>
    intro hk
    obtain ⟨i1, i2⟩ := ih (by omega)
    have hx : ∀ q, q < tm → iN (ro (46 + 4 * q)) < 7 ∧ iN (ro (46 + 4 * q + 1)) < 7 := by
      intro q hq
      obtain ⟨a, b, x, t, ea, eb, hab, hbn, -⟩ := hto q hq
      rw [ea, eb, iN_nI (by omega), iN_nI (by omega)]
      omega
    have hk7 := hx k (by omega)
    rw [fwT, Int32.neg_mul]
    refine ⟨fun c d hd => at_leD hk7.1 hd (at_leD hk7.2 hd (i1 c d hd)), fun q hq => ?_⟩
    have hq7 := hx q (by omega)
    by_cases e : q = k
    · subst e
      exact ⟨at_leD hk7.1 hq7.2 (at_le hk7.2), at_le hk7.1⟩
    · obtain ⟨j1, j2⟩ := i2 q (by omega)
      exact ⟨at_leD hk7.1 hq7.2 (at_leD hk7.2 hq7.2 j1), at_leD hk7.1 hq7.1 (at_leD hk7.2 hq7.1 j2)⟩
theorem csT_con {ro f : Nat → Int32} {n tm : Nat} (hn : n ≤ 6) (hto : tmOk ro n tm) : ∀ k, k ≤ tm → (∀ c d, d < 7 → dD (csT ro f k) c d ≤ dD f c d) ∧ ∀ q, q < k → dD (csT ro f k) (iN (ro (46 + 4 * q))) (iN (ro (46 + 4 * q + 1))) ≤ (ro (46 + 4 * q + 2) * ro (46 + 4 * q + 3) + ro (46 + 4 * q + 2) - 1).toInt ∧ dD (csT ro f k) (iN (ro (46 + 4 * q + 1))) (iN (ro (46 + 4 * q))) ≤ (-(ro (46 + 4 * q + 2) * ro (46 + 4 * q + 3))).toInt := by
  intro k
  induction k with
  | zero => intro _; exact ⟨fun c d _ => Int.le_refl _, fun q hq => by omega⟩
  | succ k ih =>
    intro hk
    obtain ⟨i1, i2⟩ := ih (by omega)
    have hx : ∀ q, q < tm → iN (ro (46 + 4 * q)) < 7 ∧ iN (ro (46 + 4 * q + 1)) < 7 := by
      intro q hq
      obtain ⟨a, b, x, t, ea, eb, hab, hbn, -⟩ := hto q hq
      rw [ea, eb, iN_nI (by omega), iN_nI (by omega)]
      omega
    have hk7 := hx k (by omega)
    rw [csT]
    refine ⟨fun c d hd => at_leD hk7.2 hd (at_leD hk7.1 hd (i1 c d hd)), fun q hq => ?_⟩
    have hq7 := hx q (by omega)
    by_cases e : q = k
    · subst e
      exact ⟨at_le hk7.2, at_leD hk7.2 hq7.1 (at_le hk7.1)⟩
    · obtain ⟨j1, j2⟩ := i2 q (by omega)
      exact ⟨at_leD hk7.2 hq7.2 (at_leD hk7.1 hq7.2 j1), at_leD hk7.2 hq7.1 (at_leD hk7.1 hq7.1 j2)⟩
theorem inB_d {len : Int32} {f : Nat → Int32} {a : Nat} : ∀ b, b ≤ 7 → ∀ c d, d < 7 → dD (inB len f a b) c d = if c = a ∧ d < b then (if c = d then 0 else len.toInt) else dD f c d := by
  intro b
  induction b with
  | zero => intro _ c d _; rw [if_neg (by omega)]; rfl
  | succ b ih =>
    intro hb c d hd
    have i := ih (by omega) c d hd
    unfold dD at i ⊢
    rw [inB]
    by_cases e : c = a ∧ d = b
    · obtain ⟨rfl, rfl⟩ := e
      rw [upd_s, if_pos (show c = c ∧ d < d + 1 from ⟨rfl, by omega⟩)]
      split <;> rfl
    · rw [upd_n (by omega), i]
      by_cases h : c = a ∧ d < b
      · rw [if_pos h, if_pos (show c = a ∧ d < b + 1 from ⟨h.1, by omega⟩)]
      · rw [if_neg h, if_neg (show ¬ (c = a ∧ d < b + 1) by omega)]
theorem inA_d {len : Int32} {f : Nat → Int32} {n : Nat} (hn : n ≤ 6) : ∀ a c d, d < 7 → dD (inA len n f a) c d = if c < a ∧ d < n + 1 then (if c = d then 0 else len.toInt) else dD f c d := by
  intro a
  induction a with
  | zero => intro c d _; rw [if_neg (by omega)]; rfl
  | succ a ih =>
    intro c d hd
    rw [inA, inB_d (n + 1) (by omega) c d hd, ih c d hd]
    by_cases h : c = a ∧ d < n + 1
    · rw [if_pos h, if_pos (show c < a + 1 ∧ d < n + 1 by omega)]
    · rw [if_neg h]
      by_cases h2 : c < a ∧ d < n + 1
      · rw [if_pos h2, if_pos (show c < a + 1 ∧ d < n + 1 by omega)]
      · rw [if_neg h2, if_neg (show ¬ (c < a + 1 ∧ d < n + 1) by omega)]
/-- the two matrices at the start -/
def erM (ro f : Nat → Int32) (n tm : Nat) : Nat → Int32 := fwT ro (fwS (ro 0) (ini f 49) n) tm
def ecM (ro f : Nat → Int32) (n tm : Nat) : Nat → Int32 := csT ro (csS n (inA (ro 0) n f (n + 1)) n) tm
theorem erM_con {ro f : Nat → Int32} {n tm : Nat} (hn : n ≤ 6) (hto : tmOk ro n tm) : conD 6 ro n tm (dD (erM ro f n tm)) := by
  obtain ⟨h1, h2⟩ := fwT_con (f := fwS (ro 0) (ini f 49) n) hn hto tm (Nat.le_refl tm)
  refine ⟨fun k hk => ?_, h2⟩
  obtain ⟨a1, a2, a3⟩ := fwS_con (len := ro 0) (f := ini f 49) n hn k hk
  exact ⟨Int.le_trans (h1 _ _ (by omega)) a1, Int.le_trans (h1 _ _ (by omega)) a2, fun q => Int.le_trans (h1 _ _ (by omega)) (a3 q)⟩
theorem erM_in {ro f : Nat → Int32} {n tm : Nat} (hn : n ≤ 6) (hto : tmOk ro n tm) (l0 : 0 ≤ (ro 0).toInt) (l1 : (ro 0).toInt ≤ 200) : rIn n (erM ro f n tm) := by
  refine rIn.kT hn hto (rIn.kS hn l0 l1 (fun a b ha hb => ?_) n (Nat.le_refl n)) tm (Nat.le_refl tm)
  rw [ini_d ha hb]
  by_cases e : a = b
  · rw [if_pos e]
    exact ⟨fun _ => rfl, by omega, Or.inr ⟨by omega, fun _ => by omega⟩, fun q => absurd e q⟩
  · rw [if_neg e]
    exact ⟨fun q => absurd q e, by omega, Or.inl rfl, fun _ _ => rfl⟩
theorem ecM_con {ro f : Nat → Int32} {n tm : Nat} (hn : n ≤ 6) (hto : tmOk ro n tm) (l0 : 0 ≤ (ro 0).toInt) : conD n ro n tm (dD (ecM ro f n tm)) ∧ ∀ a b, a < n + 1 → b < n + 1 → dD (ecM ro f n tm) a b ≤ (ro 0).toInt := by
  obtain ⟨h1, h2⟩ := csT_con (f := csS n (inA (ro 0) n f (n + 1)) n) hn hto tm (Nat.le_refl tm)
  have hl : ∀ a b, a < n + 1 → b < n + 1 → dD (ecM ro f n tm) a b ≤ (ro 0).toInt := by
    intro a b ha hb
    refine Int.le_trans (h1 a b (by omega)) (Int.le_trans (csS_dec hn (by omega) n (Nat.le_refl n)) ?_)
    rw [inA_d hn (n + 1) a b (by omega), if_pos ⟨ha, hb⟩]
    split <;> omega
  refine ⟨⟨fun k hk => ?_, h2⟩, hl⟩
  obtain ⟨a2, a3⟩ := csS_con hn (f := inA (ro 0) n f (n + 1)) n (Nat.le_refl n) k hk
  exact ⟨hl n k (by omega) (by omega), Int.le_trans (h1 _ _ (by omega)) a2, fun q => Int.le_trans (h1 _ _ (by omega)) (a3 q)⟩
theorem cIn.at {N : Nat} {f : Nat → Int32} {a b : Nat} {x : Int32} (hN : N ≤ 7) (h : cIn N f) (hb : b < N) (hab : a ≠ b) (x1 : -1980 ≤ x.toInt) : cIn N (atM f a b x) := by
  intro c d hc hd
  have h0 := h c d hc hd
  rw [dD_at (by omega) (by omega)]
  split
  · next q =>
    obtain ⟨rfl, rfl⟩ := q
    exact ⟨fun e => absurd e hab, by omega, by omega⟩
  · exact h0
theorem cIn.kS {n : Nat} {f : Nat → Int32} (hn : n ≤ 6) (h : cIn (n + 1) f) : ∀ k, k ≤ n → cIn (n + 1) (csS n f k) := by
  intro k
  induction k with
  | zero => intro _; exact h
  | succ k ih =>
    intro hk
    have z : (0 : Int32).toInt = 0 := rfl
    have o : (-1 : Int32).toInt = -1 := rfl
    have i := (ih (by omega)).at (a := k) (b := n) (x := 0) (by omega) (by omega) (by omega) (by omega)
    unfold csS
    split
    · exact i
    · exact i.at (by omega) (by omega) (by omega) (by omega)
theorem cIn.kT {n tm : Nat} {ro f : Nat → Int32} (hn : n ≤ 6) (hto : tmOk ro n tm) (h : cIn (n + 1) f) : ∀ k, k ≤ tm → cIn (n + 1) (csT ro f k) := by
  intro k
  induction k with
  | zero => intro _; exact h
  | succ k ih =>
    intro hk
    have i := ih (by omega)
    obtain ⟨a, b, x, t, ea, eb, hab, hbn, ex, hx, hx2, et, ht⟩ := hto k (by omega)
    obtain ⟨n1, n2, n3⟩ := tm_num hx hx2 ht
    unfold csT
    rw [ea, eb, ex, et, iN_nI (by omega), iN_nI (by omega)]
    exact (i.at (by omega) (by omega) (by omega) (by omega)).at (by omega) (by omega) (by omega) (by omega)
theorem ecM_in {ro f : Nat → Int32} {n tm : Nat} (hn : n ≤ 6) (hto : tmOk ro n tm) (l0 : 0 ≤ (ro 0).toInt) (l1 : (ro 0).toInt ≤ 200) : cIn (n + 1) (ecM ro f n tm) := by
  refine cIn.kT hn hto (cIn.kS hn (fun a b ha hb => ?_) n (Nat.le_refl n)) tm (Nat.le_refl tm)
  rw [inA_d hn (n + 1) a b (by omega), if_pos ⟨ha, hb⟩]
  split <;> refine ⟨fun e => ?_, by omega, by omega⟩ <;> omega
/-- a potential that the road's numbers allow lies under both -/
theorem pot_erM {ro f : Nat → Int32} {n tm : Nat} (hn : n ≤ 6) (hto : tmOk ro n tm) {p : Nat → Int} (hp : ∀ a, a < 7 → -10000 ≤ p a ∧ p a ≤ 10000) (hc : conD 6 ro n tm (fun a b => p b - p a)) : pot 7 p (erM ro f n tm) := by
  obtain ⟨c1, c2⟩ := hc
  have b0 : pot 7 p (ini f 49) := by
    intro a b ha hb
    rw [ini_d ha hb]
    have := hp a ha
    have := hp b hb
    split
    · next e => subst e; omega
    · omega
  have b1 : ∀ k, k ≤ n → pot 7 p (fwS (ro 0) (ini f 49) k) := by
    intro k
    induction k with
    | zero => intro _; exact b0
    | succ k ih =>
      intro hk
      obtain ⟨d1, d2, d3⟩ := c1 k (by omega)
      have i2 := ((ih (by omega)).at (a := 6) (b := k) (x := ro 0) (Nat.le_refl 7) (by omega) d1).at (a := k) (b := 6) (x := 0) (Nat.le_refl 7) (by omega) d2
      rw [fwS]
      split
      · exact i2
      · exact i2.at (Nat.le_refl 7) (by omega) (d3 (by omega))
  have b2 : ∀ k, k ≤ tm → pot 7 p (fwT ro (fwS (ro 0) (ini f 49) n) k) := by
    intro k
    induction k with
    | zero => intro _; exact b1 n (Nat.le_refl n)
    | succ k ih =>
      intro hk
      obtain ⟨d1, d2⟩ := c2 k (by omega)
      obtain ⟨a, b, x, t, ea, eb, hab, hbn, -⟩ := hto k (by omega)
      have hk7 : iN (ro (46 + 4 * k)) < 7 ∧ iN (ro (46 + 4 * k + 1)) < 7 := by
        rw [ea, eb, iN_nI (by omega), iN_nI (by omega)]; omega
      rw [fwT, Int32.neg_mul]
      exact ((ih (by omega)).at (Nat.le_refl 7) hk7.2 d1).at (Nat.le_refl 7) hk7.1 d2
  exact b2 tm (Nat.le_refl tm)
theorem pot_ecM {ro f : Nat → Int32} {n tm : Nat} (hn : n ≤ 6) (hto : tmOk ro n tm) {p : Nat → Int} (l1 : (ro 0).toInt ≤ 200) (hl : ∀ a b, a < n + 1 → b < n + 1 → p b - p a ≤ (ro 0).toInt) (hc : conD n ro n tm (fun a b => p b - p a)) : pot (n + 1) p (ecM ro f n tm) := by
  obtain ⟨c1, c2⟩ := hc
  have b0 : pot (n + 1) p (inA (ro 0) n f (n + 1)) := by
    intro a b ha hb
    rw [inA_d hn (n + 1) a b (by omega), if_pos ⟨ha, hb⟩]
    have := hl a b ha hb
    split
    · next e => subst e; omega
    · omega
  have b1 : ∀ k, k ≤ n → pot (n + 1) p (csS n (inA (ro 0) n f (n + 1)) k) := by
    intro k
    induction k with
    | zero => intro _; exact b0
    | succ k ih =>
      intro hk
      obtain ⟨d1, d2, d3⟩ := c1 k (by omega)
      have i2 := (ih (by omega)).at (a := k) (b := n) (x := 0) (by omega) (by omega) d2
      rw [csS]
      split
      · exact i2
      · exact i2.at (by omega) (by omega) (d3 (by omega))
  have b2 : ∀ k, k ≤ tm → pot (n + 1) p (csT ro (csS n (inA (ro 0) n f (n + 1)) n) k) := by
    intro k
    induction k with
    | zero => intro _; exact b1 n (Nat.le_refl n)
    | succ k ih =>
      intro hk
      obtain ⟨d1, d2⟩ := c2 k (by omega)
      obtain ⟨a, b, x, t, ea, eb, hab, hbn, -⟩ := hto k (by omega)
      have hk7 : iN (ro (46 + 4 * k)) < n + 1 ∧ iN (ro (46 + 4 * k + 1)) < n + 1 := by
        rw [ea, eb, iN_nI (by omega), iN_nI (by omega)]; omega
      rw [csT]
      exact ((ih (by omega)).at (by omega) hk7.1 d2).at (by omega) hk7.2 d1
  exact b2 tm (Nat.le_refl tm)
theorem layZ_g {ro : Nat → Int32} {n tm : Nat} : layZ ro n tm = fwGM 7 (erM ro (fun _ => 0) n tm) 7 := by
  unfold layZ layM erM
  exact fwM_g _ 7
theorem clC_g {ro f : Nat → Int32} {n tm : Nat} (hn : n ≤ 6) (hto : tmOk ro n tm) (l0 : 0 ≤ (ro 0).toInt) (l1 : (ro 0).toInt ≤ 200) : clC ro f n tm = fwGM (n + 1) (ecM ro f n tm) (n + 1) := by
  unfold clC
  have h := ecM_in (f := f) hn hto l0 l1
  exact cwM_g (by omega) (fun a b ha hb => by have := (h a b ha hb).2.2; show dD (ecM ro f n tm) a b < 100000; omega) (n + 1) (Nat.le_refl _)
theorem clo_1 {ro f : Nat → Int32} {n tm : Nat} (hn : n ≤ 6) (hto : tmOk ro n tm) (l0 : 0 ≤ (ro 0).toInt) (l1 : (ro 0).toInt ≤ 200) (h : ∀ k, k < 7 → 0 ≤ dD (layZ ro n tm) k k) : (∀ k, k < n + 1 → 0 ≤ dD (clC ro f n tm) k k) ∧ (∀ a b, a < n → b < n → dD (layZ ro n tm) a b ≤ dD (clC ro f n tm) a b) ∧ ∀ a b, a < n → b < n → 0 ≤ dD (layZ ro n tm) a b + dD (layZ ro n tm) b a ∧ dD (layZ ro n tm) a b ≤ 200 := by
  have hE := erM_in (f := fun _ => 0) hn hto l0 l1
  have hc := erM_con (f := fun _ => 0) hn hto
  rw [layZ_g] at h
  obtain ⟨U, L, hR⟩ := hE.closed (fun k hk => ⟨Int.le_trans (hc.1 k hk).1 l1, (hc.1 k hk).2.1⟩) h
  rw [layZ_g, clC_g hn hto l0 l1]
  obtain ⟨R, eR⟩ : ∃ R, R = fwGM 7 (erM ro (fun _ => 0) n tm) 7 := ⟨_, rfl⟩
  have dc : ∀ a b, b < 7 → dD R a b ≤ dD (erM ro (fun _ => 0) n tm) a b := by
    intro a b hb
    rw [eR]
    exact fwGM_dec (N := 7) (Nat.le_refl 7) (m := 0) 7 a b hb
  rw [← eR] at h hR ⊢
  obtain ⟨r0, rb, rt⟩ := hR
  obtain ⟨ρ, eρ⟩ : ∃ ρ : Nat → Nat, ρ = fun k => if k < n then k else 6 := ⟨_, rfl⟩
  have ρ1 : ∀ k, k < n → ρ k = k := fun k hk => by rw [eρ]; exact if_pos hk
  have ρn : ρ n = 6 := by rw [eρ]; exact if_neg (by omega)
  have ρ7 : ∀ k, ρ k < 7 := fun k => by rw [eρ]; show (if k < n then k else 6) < 7; split <;> omega
  have g1 : ∀ a, a < n + 1 → dD R (ρ a) 6 ≤ 0 := by
    intro a ha
    by_cases e : a < n
    · rw [ρ1 a e]; exact Int.le_trans (dc _ _ (by omega)) (hc.1 a e).2.1
    · rw [show a = n by omega, ρn, r0 6 (by omega)]; omega
  have g2 : ∀ a, a < n + 1 → dD R 6 (ρ a) ≤ (ro 0).toInt := by
    intro a ha
    by_cases e : a < n
    · rw [ρ1 a e]; exact Int.le_trans (dc _ _ (by omega)) (hc.1 a e).1
    · rw [show a = n by omega, ρn, r0 6 (by omega)]; omega
  have g3 : ∀ a b, a < n + 1 → b < n + 1 → dD R (ρ a) (ρ b) ≤ (ro 0).toInt := by
    intro a b ha hb
    have u1 := g1 a ha
    have u2 := g2 b hb
    have := rt 6 (by omega) (ρ a) (ρ b) (ρ7 a) (ρ7 b) (by omega) (by omega)
    omega
  have g4 : ∀ a b c, a < n + 1 → b < n + 1 → c < n + 1 → dD R (ρ a) (ρ c) ≤ dD R (ρ a) (ρ b) + dD R (ρ b) (ρ c) := by
    intro a b c ha hb hc'
    have u1 := g3 a b ha hb
    have u2 := g3 b c hb hc'
    exact rt (ρ b) (ρ7 b) (ρ a) (ρ c) (ρ7 a) (ρ7 c) (by omega) (by omega)
  have g5 : ∀ a b, a < n + 1 → b < n + 1 → 0 ≤ dD R (ρ a) (ρ b) + dD R (ρ b) (ρ a) := by
    intro a b ha hb
    have := g4 a b a ha hb ha
    rw [r0 (ρ a) (ρ7 a)] at this
    exact this
  have P : ∀ s, s < n + 1 → pot (n + 1) (fun b => dD R (ρ s) (ρ b)) (fwGM (n + 1) (ecM ro f n tm) (n + 1)) := by
    intro s hs
    refine pot.kM (by omega) (fun a ha => ?_) (pot_ecM hn hto l1 (fun a b ha hb => ?_) ⟨fun k hk => ?_, fun q hq => ?_⟩) (n + 1) (Nat.le_refl _)
    · have := g3 s a hs ha
      have := g3 a s ha hs
      have := g5 s a hs ha
      omega
    · have := g4 s a b hs ha hb
      have := g3 a b ha hb
      omega
    · refine ⟨?_, ?_, fun q => ?_⟩
      · have := g4 s n k hs (by omega) (by omega)
        have u := g3 n k (by omega) (by omega)
        show dD R (ρ s) (ρ k) - dD R (ρ s) (ρ n) ≤ _
        omega
      · have := g4 s k n hs (by omega) (by omega)
        have u := g1 k (by omega)
        rw [← ρn] at u
        show dD R (ρ s) (ρ n) - dD R (ρ s) (ρ k) ≤ _
        omega
      · have := g4 s k (k - 1) hs (by omega) (by omega)
        have u := Int.le_trans (dc k (k - 1) (by omega)) ((hc.1 k hk).2.2 q)
        rw [ρ1 k hk, ρ1 (k - 1) (by omega)] at this
        show dD R (ρ s) (ρ (k - 1)) - dD R (ρ s) (ρ k) ≤ _
        rw [ρ1 k hk, ρ1 (k - 1) (by omega)]
        omega
    · obtain ⟨a, b, x, t, ea, eb, hab, hbn, -⟩ := hto q hq
      obtain ⟨u1, u2⟩ := hc.2 q hq
      rw [ea, eb, iN_nI (by omega), iN_nI (by omega)] at u1 u2 ⊢
      have v1 := g4 s a b hs (by omega) (by omega)
      have v2 := g4 s b a hs (by omega) (by omega)
      have w1 := Int.le_trans (dc a b (by omega)) u1
      have w2 := Int.le_trans (dc b a (by omega)) u2
      rw [ρ1 a (by omega), ρ1 b (by omega)] at v1 v2
      show dD R (ρ s) (ρ b) - dD R (ρ s) (ρ a) ≤ _ ∧ dD R (ρ s) (ρ a) - dD R (ρ s) (ρ b) ≤ _
      rw [ρ1 a (by omega), ρ1 b (by omega)]
      exact ⟨by omega, by omega⟩
  refine ⟨fun k hk => ?_, fun a b ha hb => ?_, fun a b ha hb => ?_⟩
  · have := (P k hk k k hk hk).1
    omega
  · have : dD R (ρ a) (ρ b) - dD R (ρ a) (ρ a) ≤ _ := (P a (by omega) a b (by omega) (by omega)).1
    rw [ρ1 a ha, ρ1 b hb] at this
    have z := r0 a (by omega)
    omega
  · have := g5 a b (by omega) (by omega)
    have u := g3 a b (by omega) (by omega)
    rw [ρ1 a ha, ρ1 b hb] at this u
    omega
theorem clo_2 {ro f : Nat → Int32} {n tm : Nat} (hn : n ≤ 6) (hto : tmOk ro n tm) (l0 : 0 ≤ (ro 0).toInt) (l1 : (ro 0).toInt ≤ 200) (h : ∀ k, k < n + 1 → 0 ≤ dD (clC ro f n tm) k k) : (∀ k, k < 7 → 0 ≤ dD (layZ ro n tm) k k) ∧ (∀ a b, a < n → b < n → dD (clC ro f n tm) a b ≤ dD (layZ ro n tm) a b) := by
  have hE := ecM_in (f := f) hn hto l0 l1
  obtain ⟨hc, hl⟩ := ecM_con (f := f) hn hto l0
  rw [clC_g hn hto l0 l1] at h
  obtain ⟨L, hR⟩ := hE.closed (by omega) h
  rw [layZ_g, clC_g hn hto l0 l1]
  obtain ⟨R, eR⟩ : ∃ R, R = fwGM (n + 1) (ecM ro f n tm) (n + 1) := ⟨_, rfl⟩
  have dc : ∀ a b, b < 7 → dD R a b ≤ dD (ecM ro f n tm) a b := by
    intro a b hb
    rw [eR]
    have := fwGM_dec (N := n + 1) (f := ecM ro f n tm) (by omega) (m := 0) (n + 1) a b hb
    rw [Nat.zero_add] at this
    exact this
  rw [← eR] at h hR ⊢
  obtain ⟨r0, rb, rt⟩ := hR
  have g3 : ∀ a b, a < n + 1 → b < n + 1 → dD R a b ≤ (ro 0).toInt := fun a b ha hb => Int.le_trans (dc a b (by omega)) (hl a b ha hb)
  have g4 : ∀ a b c, a < n + 1 → b < n + 1 → c < n + 1 → dD R a c ≤ dD R a b + dD R b c := by
    intro a b c ha hb hc'
    have u1 := g3 a b ha hb
    have u2 := g3 b c hb hc'
    exact rt b hb a c ha hc' (by omega) (by omega)
  have g5 : ∀ a b, a < n + 1 → b < n + 1 → 0 ≤ dD R a b + dD R b a := by
    intro a b ha hb
    have := g4 a b a ha hb ha
    rw [r0 a ha] at this
    exact this
  have P : ∀ s, s < n + 1 → pot 7 (fun b => if b < n then dD R s b else if b = 6 then dD R s n else 0) (fwGM 7 (erM ro (fun _ => 0) n tm) 7) := by
    intro s hs
    obtain ⟨p, ep⟩ : ∃ p : Nat → Int, p = fun b => if b < n then dD R s b else if b = 6 then dD R s n else 0 := ⟨_, rfl⟩
    rw [← ep]
    have p1 : ∀ k, k < n → p k = dD R s k := fun k hk => by rw [ep]; exact if_pos hk
    have p6 : p 6 = dD R s n := by
      rw [ep]
      show (if 6 < n then dD R s 6 else if 6 = 6 then dD R s n else 0) = _
      rw [if_neg (by omega), if_pos rfl]
    have bd : ∀ a, a < n + 1 → -200 ≤ dD R s a ∧ dD R s a ≤ 200 := by
      intro a ha
      have := g3 s a hs ha
      have := g3 a s ha hs
      have := g5 s a hs ha
      omega
    refine pot.kM (Nat.le_refl 7) (fun a ha => ?_) (pot_erM hn hto (fun a ha => ?_) ⟨fun k hk => ?_, fun q hq => ?_⟩) 7 (Nat.le_refl _)
    · rw [ep]
      show -10000 ≤ (if a < n then dD R s a else if a = 6 then dD R s n else 0) ∧ (if a < n then dD R s a else if a = 6 then dD R s n else 0) ≤ 10000
      have b1 := bd n (by omega)
      split
      · have := bd a (by omega); omega
      · split <;> omega
    · rw [ep]
      show -10000 ≤ (if a < n then dD R s a else if a = 6 then dD R s n else 0) ∧ (if a < n then dD R s a else if a = 6 then dD R s n else 0) ≤ 10000
      have b1 := bd n (by omega)
      split
      · have := bd a (by omega); omega
      · split <;> omega
    · show p k - p 6 ≤ _ ∧ p 6 - p k ≤ _ ∧ (0 < k → p (k - 1) - p k ≤ _)
      rw [p1 k hk, p6]
      refine ⟨?_, ?_, fun q => ?_⟩
      · have := g4 s n k hs (by omega) (by omega)
        have u := g3 n k (by omega) (by omega)
        omega
      · have := g4 s k n hs (by omega) (by omega)
        have u := Int.le_trans (dc k n (by omega)) (hc.1 k hk).2.1
        omega
      · rw [p1 (k - 1) (by omega)]
        have := g4 s k (k - 1) hs (by omega) (by omega)
        have u := Int.le_trans (dc k (k - 1) (by omega)) ((hc.1 k hk).2.2 q)
        omega
    · obtain ⟨a, b, x, t, ea, eb, hab, hbn, -⟩ := hto q hq
      obtain ⟨u1, u2⟩ := hc.2 q hq
      rw [ea, eb, iN_nI (by omega), iN_nI (by omega)] at u1 u2 ⊢
      have v1 := g4 s a b hs (by omega) (by omega)
      have v2 := g4 s b a hs (by omega) (by omega)
      have w1 := Int.le_trans (dc a b (by omega)) u1
      have w2 := Int.le_trans (dc b a (by omega)) u2
      show p b - p a ≤ _ ∧ p a - p b ≤ _
      rw [p1 a (by omega), p1 b (by omega)]
      exact ⟨by omega, by omega⟩
  refine ⟨fun k hk => ?_, fun a b ha hb => ?_⟩
  · have := (P 0 (by omega) k k hk hk).1
    omega
  · have := (P a (by omega) a b (by omega) (by omega)).1
    simp only [if_pos ha, if_pos hb] at this
    have z := r0 a (by omega)
    omega
theorem clo {ro f : Nat → Int32} {n tm : Nat} (hn : n ≤ 6) (hto : tmOk ro n tm) (l0 : 0 ≤ (ro 0).toInt) (l1 : (ro 0).toInt ≤ 200) : okL (layZ ro n tm) 7 = okC (clC ro f n tm) (n + 1) ∧ (okL (layZ ro n tm) 7 = true → (∀ a b, a < n → b < n → layZ ro n tm (7 * a + b) = clC ro f n tm (7 * a + b)) ∧ ∀ a b, a < n → b < n → 0 ≤ dD (layZ ro n tm) a b + dD (layZ ro n tm) b a ∧ dD (layZ ro n tm) a b ≤ 200) := by
  constructor
  · rw [Bool.eq_iff_iff, okL_iff, okC_iff]
    exact ⟨fun h => (clo_1 hn hto l0 l1 h).1, fun h => (clo_2 hn hto l0 l1 h).1⟩
  · intro h
    rw [okL_iff] at h
    obtain ⟨h1, h2, h3⟩ := clo_1 (f := f) hn hto l0 l1 h
    obtain ⟨-, h4⟩ := clo_2 hn hto l0 l1 h1
    refine ⟨fun a b ha hb => ?_, h3⟩
    apply Int32.toInt_inj.mp
    exact Int.le_antisymm (h2 a b ha hb) (h4 a b ha hb)
/-- the widest pair, from either start -/
theorem wcO_wdO {F G : Nat → Int32} {n : Nat} (hn : n ≤ 6) (he : ∀ a b, a < n → b < n → F (7 * a + b) = G (7 * a + b)) (hs : ∀ a b, a < n → b < n → 0 ≤ dD F a b + dD F b a ∧ dD F a b ≤ 200) : (wdO F n n).1 = (wcO G n n).1 := by
  have hw : ∀ a b, a < n → b < n → ∀ c : Int32, c.toInt < 0 → c < F (7 * a + b) + F (7 * b + a) := by
    intro a b ha hb c hc
    have q1 := hs a b ha hb
    have q2 := hs b a hb ha
    unfold dD at q1 q2
    apply Int32.lt_iff_toInt_lt.mpr
    rw [add_i] <;> omega
  have stp : ∀ {a : Nat} {p q : Int32 × Int32}, a < n → (p = q ∨ (p = (-1000000, -1) ∧ q = (-1000000, -1000000))) → ∀ i, a + 1 + i ≤ n → (wdI F a p i = wdI G a q i ∨ (wdI F a p i = (-1000000, -1) ∧ wdI G a q i = (-1000000, -1000000))) := by
    intro a p q ha h i
    induction i with
    | zero => intro _; exact h
    | succ i ih =>
      intro hi
      rw [wdI, wdI, ← he a (a + 1 + i) ha (by omega), ← he (a + 1 + i) a (by omega) ha]
      rcases ih (by omega) with e | ⟨e1, e2⟩
      · rw [e]; exact Or.inl rfl
      · rw [e1, e2, if_pos (hw a (a + 1 + i) ha (by omega) (-1) (by decide)), if_pos (hw a (a + 1 + i) ha (by omega) (-1000000) (by decide))]
        exact Or.inl rfl
  have key : ∀ a, a ≤ n → (wdO F n a = wcO G n a ∨ (wdO F n a = (-1000000, -1) ∧ wcO G n a = (-1000000, -1000000))) := by
    intro a
    induction a with
    | zero => intro _; exact Or.inr ⟨rfl, rfl⟩
    | succ a ih =>
      intro ha
      rw [wdO, wcO]
      exact stp (by omega) (ih (by omega)) (n - (a + 1)) (by omega)
  rcases key n (Nat.le_refl n) with e | ⟨e1, e2⟩
  · rw [e]
  · rw [e1, e2]
