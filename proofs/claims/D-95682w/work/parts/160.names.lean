/-! Names: the reference's number of a word, and the word. -/
set_option maxRecDepth 100000
def nmN (tp : Nat → Int32) (s : Nat) : Nat → Nat
  | 0 => 0
  | k + 1 => 256 * nmN tp s k + iN (tp (s + k))
theorem nm_b {b : Nat} (h : b < 2 ^ 31) : (nI b).toInt64 = Int64.ofNat b := by
  apply Int64.toInt_inj.mp
  rw [Int32.toInt_toInt64, Int64.toInt_ofNat_of_lt (by omega)]
  exact nI_toInt h
theorem nm_step {X b : Nat} (hX : X < 2 ^ 48) (hb : b < 256) : ((Int64.ofNat X) <<< ((8 : Int32).toInt64 &&& 63)) ||| (nI b).toInt64 = Int64.ofNat (256 * X + b) := by
  rw [nm_b (by omega), show ((8 : Int32).toInt64 &&& 63) = (8 : Int64) from by decide]
  apply Int64.toBitVec_inj.mp
  rw [Int64.toBitVec_or, Int64.toBitVec_shiftLeft]
  apply BitVec.eq_of_toNat_eq
  rw [BitVec.toNat_or]
  show (BitVec.ofNat 64 X <<< 8).toNat ||| (BitVec.ofNat 64 b).toNat = (BitVec.ofNat 64 (256 * X + b)).toNat
  rw [BitVec.toNat_shiftLeft, BitVec.toNat_ofNat, BitVec.toNat_ofNat, BitVec.toNat_ofNat, Nat.mod_eq_of_lt (show X < 2 ^ 64 by omega), Nat.mod_eq_of_lt (show b < 2 ^ 64 by omega), Nat.mod_eq_of_lt (show 256 * X + b < 2 ^ 64 by omega), Nat.shiftLeft_eq, Nat.mod_eq_of_lt (show X * 2 ^ 8 < 2 ^ 64 by omega), ← Nat.shiftLeft_eq, ← Nat.shiftLeft_add_eq_or_of_lt (show b < 2 ^ 8 by omega), Nat.shiftLeft_eq]
  omega
theorem nm_eq {tp : Nat → Int32} {s : Nat} : ∀ n, n ≤ 7 → (∀ j, j < n → ∃ b, b < 256 ∧ tp (s + j) = nI b) → nmL tp s n = Int64.ofNat (nmN tp s n) ∧ nmN tp s n < 256 ^ n := by
  intro n
  induction n with
  | zero => intro _ _; exact ⟨rfl, Nat.zero_lt_one⟩
  | succ n ih =>
    intro hn hb
    obtain ⟨h1, h2⟩ := ih (by omega) (fun j hj => hb j (by omega))
    obtain ⟨b, hb1, hb2⟩ := hb n (by omega)
    have hp : 256 ^ n ≤ 2 ^ 48 := by
      rw [show (256 : Nat) = 2 ^ 8 from rfl, ← Nat.pow_mul]
      exact Nat.pow_le_pow_right (by decide) (by omega)
    have ib : iN (tp (s + n)) = b := by rw [hb2]; exact iN_nI (by omega)
    refine ⟨?_, ?_⟩
    · rw [nmL, h1, hb2, nm_step (by omega) hb1, nmN, ib]
    · rw [nmN, ib, Nat.pow_succ]; omega
theorem nm_inj {X Y : Nat} (hX : X < 2 ^ 56) (hY : Y < 2 ^ 56) : Int64.ofNat X = Int64.ofNat Y ↔ X = Y := by
  constructor
  · intro h
    have h2 := congrArg Int64.toInt h
    rw [Int64.toInt_ofNat_of_lt (by omega), Int64.toInt_ofNat_of_lt (by omega)] at h2
    omega
  · intro h; rw [h]
/-- a word of letters, shorter than 8, by its bytes -/
theorem nm_main {tp : Nat → Int32} {s n : Nat} (hn : n ≤ 7) (hb : ∀ j, j < n → 97 ≤ tp (s + j) ∧ tp (s + j) ≤ 122) {Y : Nat} (hY : Y < 2 ^ 56) {c : Int64} (hc : c = Int64.ofNat Y) : (nmL tp s n = c ↔ nmN tp s n = Y) ∧ ∃ b : Nat → Nat, ∀ j, j < n → 97 ≤ b j ∧ b j ≤ 122 ∧ tp (s + j) = nI (b j) ∧ iN (tp (s + j)) = b j := by
  have hb2 : ∀ j, j < n → 97 ≤ iN (tp (s + j)) ∧ iN (tp (s + j)) ≤ 122 ∧ tp (s + j) = nI (iN (tp (s + j))) := by
    intro j hj
    obtain ⟨b, hb2, hb0⟩ := in_nI (N := 122) (b := 122) (by decide) (a := 0) rfl ⟨Int32.le_trans (by decide) (hb j hj).1, (hb j hj).2⟩
    have hb1 : 97 ≤ b := nle_t (a := 97) (b := b) (by rw [← hb0]; exact (hb j hj).1)
    have e : iN (tp (s + j)) = b := by rw [hb0]; exact iN_nI (by omega)
    rw [e]
    exact ⟨hb1, hb2, hb0⟩
  have h := nm_eq (tp := tp) (s := s) n hn (fun j hj => ⟨iN (tp (s + j)), by have := hb2 j hj; omega, (hb2 j hj).2.2⟩)
  have hp : 256 ^ n ≤ 2 ^ 56 := by
    rw [show (256 : Nat) = 2 ^ 8 from rfl, ← Nat.pow_mul]
    exact Nat.pow_le_pow_right (by decide) (by omega)
  refine ⟨by rw [hc, h.1, nm_inj (by omega) hY], fun j => iN (tp (s + j)), fun j hj => ⟨(hb2 j hj).1, (hb2 j hj).2.1, (hb2 j hj).2.2, rfl⟩⟩
theorem nm_1 {tp : Nat → Int32} {s n : Nat} (hn : n ≤ 7) (hb : ∀ j, j < n → 97 ≤ tp (s + j) ∧ tp (s + j) ≤ 122) : nmL tp s n = 7102839 ↔ eqS 1 n (fun j => tp (s + j)) := by
  obtain ⟨h1, b, h2⟩ := nm_main hn hb (Y := 7102839) (by decide) (c := 7102839) (by decide)
  rw [h1]
  rcases (show n = 0 ∨ n = 1 ∨ n = 2 ∨ n = 3 ∨ n = 4 ∨ n = 5 ∨ n = 6 ∨ n = 7 by omega) with rfl | rfl | rfl | rfl | rfl | rfl | rfl | rfl
  · exact ⟨fun h => absurd (show (0 : Nat) = _ from h) (by decide), fun h => absurd h.1 (by decide)⟩
  · have q0 := h2 0 (by omega)
    have e : nmN tp s 1 = (256 * 0 + b 0) := by simp only [nmN]; rw [q0.2.2.2]
    rw [e]
    exact ⟨fun h => by exfalso; omega, fun h => absurd h.1 (by decide)⟩
  · have q0 := h2 0 (by omega)
    have q1 := h2 1 (by omega)
    have e : nmN tp s 2 = (256 * (256 * 0 + b 0) + b 1) := by simp only [nmN]; rw [q0.2.2.2, q1.2.2.2]
    rw [e]
    exact ⟨fun h => by exfalso; omega, fun h => absurd h.1 (by decide)⟩
  · have q0 := h2 0 (by omega)
    have q1 := h2 1 (by omega)
    have q2 := h2 2 (by omega)
    have e : nmN tp s 3 = (256 * (256 * (256 * 0 + b 0) + b 1) + b 2) := by simp only [nmN]; rw [q0.2.2.2, q1.2.2.2, q2.2.2.2]
    rw [e]
    constructor
    · intro h
      refine ⟨rfl, fun j hj => ?_⟩
      rcases (show j = 0 ∨ j = 1 ∨ j = 2 by omega) with rfl | rfl | rfl
      · show tp (s + 0) = 108; rw [q0.2.2.1, show b 0 = 108 by omega]; rfl
      · show tp (s + 1) = 97; rw [q1.2.2.1, show b 1 = 97 by omega]; rfl
      · show tp (s + 2) = 119; rw [q2.2.2.1, show b 2 = 119 by omega]; rfl
    · intro h
      have g0 : b 0 = 108 := neq_t (a := b 0) (b := 108) (by rw [← q0.2.2.1]; exact h.2 0 (by omega)) (by omega) (by omega)
      have g1 : b 1 = 97 := neq_t (a := b 1) (b := 97) (by rw [← q1.2.2.1]; exact h.2 1 (by omega)) (by omega) (by omega)
      have g2 : b 2 = 119 := neq_t (a := b 2) (b := 119) (by rw [← q2.2.2.1]; exact h.2 2 (by omega)) (by omega) (by omega)
      omega
  · have q0 := h2 0 (by omega)
    have q1 := h2 1 (by omega)
    have q2 := h2 2 (by omega)
    have q3 := h2 3 (by omega)
    have e : nmN tp s 4 = (256 * (256 * (256 * (256 * 0 + b 0) + b 1) + b 2) + b 3) := by simp only [nmN]; rw [q0.2.2.2, q1.2.2.2, q2.2.2.2, q3.2.2.2]
    rw [e]
    exact ⟨fun h => by exfalso; omega, fun h => absurd h.1 (by decide)⟩
  · have q0 := h2 0 (by omega)
    have q1 := h2 1 (by omega)
    have q2 := h2 2 (by omega)
    have q3 := h2 3 (by omega)
    have q4 := h2 4 (by omega)
    have e : nmN tp s 5 = (256 * (256 * (256 * (256 * (256 * 0 + b 0) + b 1) + b 2) + b 3) + b 4) := by simp only [nmN]; rw [q0.2.2.2, q1.2.2.2, q2.2.2.2, q3.2.2.2, q4.2.2.2]
    rw [e]
    exact ⟨fun h => by exfalso; omega, fun h => absurd h.1 (by decide)⟩
  · have q0 := h2 0 (by omega)
    have q1 := h2 1 (by omega)
    have q2 := h2 2 (by omega)
    have q3 := h2 3 (by omega)
    have q4 := h2 4 (by omega)
    have q5 := h2 5 (by omega)
    have e : nmN tp s 6 = (256 * (256 * (256 * (256 * (256 * (256 * 0 + b 0) + b 1) + b 2) + b 3) + b 4) + b 5) := by simp only [nmN]; rw [q0.2.2.2, q1.2.2.2, q2.2.2.2, q3.2.2.2, q4.2.2.2, q5.2.2.2]
    rw [e]
    exact ⟨fun h => by exfalso; omega, fun h => absurd h.1 (by decide)⟩
  · have q0 := h2 0 (by omega)
    have q1 := h2 1 (by omega)
    have q2 := h2 2 (by omega)
    have q3 := h2 3 (by omega)
    have q4 := h2 4 (by omega)
    have q5 := h2 5 (by omega)
    have q6 := h2 6 (by omega)
    have e : nmN tp s 7 = (256 * (256 * (256 * (256 * (256 * (256 * (256 * 0 + b 0) + b 1) + b 2) + b 3) + b 4) + b 5) + b 6) := by simp only [nmN]; rw [q0.2.2.2, q1.2.2.2, q2.2.2.2, q3.2.2.2, q4.2.2.2, q5.2.2.2, q6.2.2.2]
    rw [e]
    exact ⟨fun h => by exfalso; omega, fun h => absurd h.1 (by decide)⟩
theorem nw_1 {tp u : Nat → Int32} {L : Nat} (hP : PV L u) (hL : LT tp u) (h17 : u 17 = 0) : nameV tp u = 7102839 ↔ isW tp u 1 := by
  obtain ⟨s, e, t, p1, p2, p3, p4, p5, p6, p7, p8, p9⟩ := hP
  have i5 : iN (u 15) = s := by rw [p4]; exact iN_nI (by omega)
  have i6 : iN (u 16) = e := by rw [p5]; exact iN_nI (by omega)
  rw [nameV, if_pos h17, isW, i5, i6]
  by_cases h2 : u 14 = 2
  · by_cases h8 : e - s < 8
    · rw [if_pos ⟨h2, h8⟩, nm_1 (by omega) (fun j hj => hL h2 (s + j) (by omega) (by omega))]
      exact ⟨fun h => ⟨h2, h⟩, fun h => h.2⟩
    · rw [if_neg (fun h => h8 h.2)]
      exact ⟨fun h => absurd h (by decide), fun h => absurd h.2.1 (by show e - s ≠ 3; omega)⟩
  · rw [if_neg (fun h => h2 h.1)]
    exact ⟨fun h => absurd h (by decide), fun h => absurd h.1 h2⟩
theorem nm_2 {tp : Nat → Int32} {s n : Nat} (hn : n ≤ 7) (hb : ∀ j, j < n → 97 ≤ tp (s + j) ∧ tp (s + j) ≤ 122) : nmL tp s n = 495874698853 ↔ eqS 2 n (fun j => tp (s + j)) := by
  obtain ⟨h1, b, h2⟩ := nm_main hn hb (Y := 495874698853) (by decide) (c := 495874698853) (by decide)
  rw [h1]
  rcases (show n = 0 ∨ n = 1 ∨ n = 2 ∨ n = 3 ∨ n = 4 ∨ n = 5 ∨ n = 6 ∨ n = 7 by omega) with rfl | rfl | rfl | rfl | rfl | rfl | rfl | rfl
  · exact ⟨fun h => absurd (show (0 : Nat) = _ from h) (by decide), fun h => absurd h.1 (by decide)⟩
  · have q0 := h2 0 (by omega)
    have e : nmN tp s 1 = (256 * 0 + b 0) := by simp only [nmN]; rw [q0.2.2.2]
    rw [e]
    exact ⟨fun h => by exfalso; omega, fun h => absurd h.1 (by decide)⟩
  · have q0 := h2 0 (by omega)
    have q1 := h2 1 (by omega)
    have e : nmN tp s 2 = (256 * (256 * 0 + b 0) + b 1) := by simp only [nmN]; rw [q0.2.2.2, q1.2.2.2]
    rw [e]
    exact ⟨fun h => by exfalso; omega, fun h => absurd h.1 (by decide)⟩
  · have q0 := h2 0 (by omega)
    have q1 := h2 1 (by omega)
    have q2 := h2 2 (by omega)
    have e : nmN tp s 3 = (256 * (256 * (256 * 0 + b 0) + b 1) + b 2) := by simp only [nmN]; rw [q0.2.2.2, q1.2.2.2, q2.2.2.2]
    rw [e]
    exact ⟨fun h => by exfalso; omega, fun h => absurd h.1 (by decide)⟩
  · have q0 := h2 0 (by omega)
    have q1 := h2 1 (by omega)
    have q2 := h2 2 (by omega)
    have q3 := h2 3 (by omega)
    have e : nmN tp s 4 = (256 * (256 * (256 * (256 * 0 + b 0) + b 1) + b 2) + b 3) := by simp only [nmN]; rw [q0.2.2.2, q1.2.2.2, q2.2.2.2, q3.2.2.2]
    rw [e]
    exact ⟨fun h => by exfalso; omega, fun h => absurd h.1 (by decide)⟩
  · have q0 := h2 0 (by omega)
    have q1 := h2 1 (by omega)
    have q2 := h2 2 (by omega)
    have q3 := h2 3 (by omega)
    have q4 := h2 4 (by omega)
    have e : nmN tp s 5 = (256 * (256 * (256 * (256 * (256 * 0 + b 0) + b 1) + b 2) + b 3) + b 4) := by simp only [nmN]; rw [q0.2.2.2, q1.2.2.2, q2.2.2.2, q3.2.2.2, q4.2.2.2]
    rw [e]
    constructor
    · intro h
      refine ⟨rfl, fun j hj => ?_⟩
      rcases (show j = 0 ∨ j = 1 ∨ j = 2 ∨ j = 3 ∨ j = 4 by omega) with rfl | rfl | rfl | rfl | rfl
      · show tp (s + 0) = 115; rw [q0.2.2.1, show b 0 = 115 by omega]; rfl
      · show tp (s + 1) = 116; rw [q1.2.2.1, show b 1 = 116 by omega]; rfl
      · show tp (s + 2) = 111; rw [q2.2.2.1, show b 2 = 111 by omega]; rfl
      · show tp (s + 3) = 110; rw [q3.2.2.1, show b 3 = 110 by omega]; rfl
      · show tp (s + 4) = 101; rw [q4.2.2.1, show b 4 = 101 by omega]; rfl
    · intro h
      have g0 : b 0 = 115 := neq_t (a := b 0) (b := 115) (by rw [← q0.2.2.1]; exact h.2 0 (by omega)) (by omega) (by omega)
      have g1 : b 1 = 116 := neq_t (a := b 1) (b := 116) (by rw [← q1.2.2.1]; exact h.2 1 (by omega)) (by omega) (by omega)
      have g2 : b 2 = 111 := neq_t (a := b 2) (b := 111) (by rw [← q2.2.2.1]; exact h.2 2 (by omega)) (by omega) (by omega)
      have g3 : b 3 = 110 := neq_t (a := b 3) (b := 110) (by rw [← q3.2.2.1]; exact h.2 3 (by omega)) (by omega) (by omega)
      have g4 : b 4 = 101 := neq_t (a := b 4) (b := 101) (by rw [← q4.2.2.1]; exact h.2 4 (by omega)) (by omega) (by omega)
      omega
  · have q0 := h2 0 (by omega)
    have q1 := h2 1 (by omega)
    have q2 := h2 2 (by omega)
    have q3 := h2 3 (by omega)
    have q4 := h2 4 (by omega)
    have q5 := h2 5 (by omega)
    have e : nmN tp s 6 = (256 * (256 * (256 * (256 * (256 * (256 * 0 + b 0) + b 1) + b 2) + b 3) + b 4) + b 5) := by simp only [nmN]; rw [q0.2.2.2, q1.2.2.2, q2.2.2.2, q3.2.2.2, q4.2.2.2, q5.2.2.2]
    rw [e]
    exact ⟨fun h => by exfalso; omega, fun h => absurd h.1 (by decide)⟩
  · have q0 := h2 0 (by omega)
    have q1 := h2 1 (by omega)
    have q2 := h2 2 (by omega)
    have q3 := h2 3 (by omega)
    have q4 := h2 4 (by omega)
    have q5 := h2 5 (by omega)
    have q6 := h2 6 (by omega)
    have e : nmN tp s 7 = (256 * (256 * (256 * (256 * (256 * (256 * (256 * 0 + b 0) + b 1) + b 2) + b 3) + b 4) + b 5) + b 6) := by simp only [nmN]; rw [q0.2.2.2, q1.2.2.2, q2.2.2.2, q3.2.2.2, q4.2.2.2, q5.2.2.2, q6.2.2.2]
    rw [e]
    exact ⟨fun h => by exfalso; omega, fun h => absurd h.1 (by decide)⟩
theorem nw_2 {tp u : Nat → Int32} {L : Nat} (hP : PV L u) (hL : LT tp u) (h17 : u 17 = 0) : nameV tp u = 495874698853 ↔ isW tp u 2 := by
  obtain ⟨s, e, t, p1, p2, p3, p4, p5, p6, p7, p8, p9⟩ := hP
  have i5 : iN (u 15) = s := by rw [p4]; exact iN_nI (by omega)
  have i6 : iN (u 16) = e := by rw [p5]; exact iN_nI (by omega)
  rw [nameV, if_pos h17, isW, i5, i6]
  by_cases h2 : u 14 = 2
  · by_cases h8 : e - s < 8
    · rw [if_pos ⟨h2, h8⟩, nm_2 (by omega) (fun j hj => hL h2 (s + j) (by omega) (by omega))]
      exact ⟨fun h => ⟨h2, h⟩, fun h => h.2⟩
    · rw [if_neg (fun h => h8 h.2)]
      exact ⟨fun h => absurd h (by decide), fun h => absurd h.2.1 (by show e - s ≠ 5; omega)⟩
  · rw [if_neg (fun h => h2 h.1)]
    exact ⟨fun h => absurd h (by decide), fun h => absurd h.1 h2⟩
theorem nm_3 {tp : Nat → Int32} {s n : Nat} (hn : n ≤ 7) (hb : ∀ j, j < n → 97 ≤ tp (s + j) ∧ tp (s + j) ≤ 122) : nmL tp s n = 470021465458 ↔ eqS 3 n (fun j => tp (s + j)) := by
  obtain ⟨h1, b, h2⟩ := nm_main hn hb (Y := 470021465458) (by decide) (c := 470021465458) (by decide)
  rw [h1]
  rcases (show n = 0 ∨ n = 1 ∨ n = 2 ∨ n = 3 ∨ n = 4 ∨ n = 5 ∨ n = 6 ∨ n = 7 by omega) with rfl | rfl | rfl | rfl | rfl | rfl | rfl | rfl
  · exact ⟨fun h => absurd (show (0 : Nat) = _ from h) (by decide), fun h => absurd h.1 (by decide)⟩
  · have q0 := h2 0 (by omega)
    have e : nmN tp s 1 = (256 * 0 + b 0) := by simp only [nmN]; rw [q0.2.2.2]
    rw [e]
    exact ⟨fun h => by exfalso; omega, fun h => absurd h.1 (by decide)⟩
  · have q0 := h2 0 (by omega)
    have q1 := h2 1 (by omega)
    have e : nmN tp s 2 = (256 * (256 * 0 + b 0) + b 1) := by simp only [nmN]; rw [q0.2.2.2, q1.2.2.2]
    rw [e]
    exact ⟨fun h => by exfalso; omega, fun h => absurd h.1 (by decide)⟩
  · have q0 := h2 0 (by omega)
    have q1 := h2 1 (by omega)
    have q2 := h2 2 (by omega)
    have e : nmN tp s 3 = (256 * (256 * (256 * 0 + b 0) + b 1) + b 2) := by simp only [nmN]; rw [q0.2.2.2, q1.2.2.2, q2.2.2.2]
    rw [e]
    exact ⟨fun h => by exfalso; omega, fun h => absurd h.1 (by decide)⟩
  · have q0 := h2 0 (by omega)
    have q1 := h2 1 (by omega)
    have q2 := h2 2 (by omega)
    have q3 := h2 3 (by omega)
    have e : nmN tp s 4 = (256 * (256 * (256 * (256 * 0 + b 0) + b 1) + b 2) + b 3) := by simp only [nmN]; rw [q0.2.2.2, q1.2.2.2, q2.2.2.2, q3.2.2.2]
    rw [e]
    exact ⟨fun h => by exfalso; omega, fun h => absurd h.1 (by decide)⟩
  · have q0 := h2 0 (by omega)
    have q1 := h2 1 (by omega)
    have q2 := h2 2 (by omega)
    have q3 := h2 3 (by omega)
    have q4 := h2 4 (by omega)
    have e : nmN tp s 5 = (256 * (256 * (256 * (256 * (256 * 0 + b 0) + b 1) + b 2) + b 3) + b 4) := by simp only [nmN]; rw [q0.2.2.2, q1.2.2.2, q2.2.2.2, q3.2.2.2, q4.2.2.2]
    rw [e]
    constructor
    · intro h
      refine ⟨rfl, fun j hj => ?_⟩
      rcases (show j = 0 ∨ j = 1 ∨ j = 2 ∨ j = 3 ∨ j = 4 by omega) with rfl | rfl | rfl | rfl | rfl
      · show tp (s + 0) = 109; rw [q0.2.2.1, show b 0 = 109 by omega]; rfl
      · show tp (s + 1) = 111; rw [q1.2.2.1, show b 1 = 111 by omega]; rfl
      · show tp (s + 2) = 118; rw [q2.2.2.1, show b 2 = 118 by omega]; rfl
      · show tp (s + 3) = 101; rw [q3.2.2.1, show b 3 = 101 by omega]; rfl
      · show tp (s + 4) = 114; rw [q4.2.2.1, show b 4 = 114 by omega]; rfl
    · intro h
      have g0 : b 0 = 109 := neq_t (a := b 0) (b := 109) (by rw [← q0.2.2.1]; exact h.2 0 (by omega)) (by omega) (by omega)
      have g1 : b 1 = 111 := neq_t (a := b 1) (b := 111) (by rw [← q1.2.2.1]; exact h.2 1 (by omega)) (by omega) (by omega)
      have g2 : b 2 = 118 := neq_t (a := b 2) (b := 118) (by rw [← q2.2.2.1]; exact h.2 2 (by omega)) (by omega) (by omega)
      have g3 : b 3 = 101 := neq_t (a := b 3) (b := 101) (by rw [← q3.2.2.1]; exact h.2 3 (by omega)) (by omega) (by omega)
      have g4 : b 4 = 114 := neq_t (a := b 4) (b := 114) (by rw [← q4.2.2.1]; exact h.2 4 (by omega)) (by omega) (by omega)
      omega
  · have q0 := h2 0 (by omega)
    have q1 := h2 1 (by omega)
    have q2 := h2 2 (by omega)
    have q3 := h2 3 (by omega)
    have q4 := h2 4 (by omega)
    have q5 := h2 5 (by omega)
    have e : nmN tp s 6 = (256 * (256 * (256 * (256 * (256 * (256 * 0 + b 0) + b 1) + b 2) + b 3) + b 4) + b 5) := by simp only [nmN]; rw [q0.2.2.2, q1.2.2.2, q2.2.2.2, q3.2.2.2, q4.2.2.2, q5.2.2.2]
    rw [e]
    exact ⟨fun h => by exfalso; omega, fun h => absurd h.1 (by decide)⟩
  · have q0 := h2 0 (by omega)
    have q1 := h2 1 (by omega)
    have q2 := h2 2 (by omega)
    have q3 := h2 3 (by omega)
    have q4 := h2 4 (by omega)
    have q5 := h2 5 (by omega)
    have q6 := h2 6 (by omega)
    have e : nmN tp s 7 = (256 * (256 * (256 * (256 * (256 * (256 * (256 * 0 + b 0) + b 1) + b 2) + b 3) + b 4) + b 5) + b 6) := by simp only [nmN]; rw [q0.2.2.2, q1.2.2.2, q2.2.2.2, q3.2.2.2, q4.2.2.2, q5.2.2.2, q6.2.2.2]
    rw [e]
    exact ⟨fun h => by exfalso; omega, fun h => absurd h.1 (by decide)⟩
theorem nw_3 {tp u : Nat → Int32} {L : Nat} (hP : PV L u) (hL : LT tp u) (h17 : u 17 = 0) : nameV tp u = 470021465458 ↔ isW tp u 3 := by
  obtain ⟨s, e, t, p1, p2, p3, p4, p5, p6, p7, p8, p9⟩ := hP
  have i5 : iN (u 15) = s := by rw [p4]; exact iN_nI (by omega)
  have i6 : iN (u 16) = e := by rw [p5]; exact iN_nI (by omega)
  rw [nameV, if_pos h17, isW, i5, i6]
  by_cases h2 : u 14 = 2
  · by_cases h8 : e - s < 8
    · rw [if_pos ⟨h2, h8⟩, nm_3 (by omega) (fun j hj => hL h2 (s + j) (by omega) (by omega))]
      exact ⟨fun h => ⟨h2, h⟩, fun h => h.2⟩
    · rw [if_neg (fun h => h8 h.2)]
      exact ⟨fun h => absurd h (by decide), fun h => absurd h.2.1 (by show e - s ≠ 5; omega)⟩
  · rw [if_neg (fun h => h2 h.1)]
    exact ⟨fun h => absurd h (by decide), fun h => absurd h.1 h2⟩
theorem nm_4 {tp : Nat → Int32} {s n : Nat} (hn : n ≤ 7) (hb : ∀ j, j < n → 97 ≤ tp (s + j) ∧ tp (s + j) ≤ 122) : nmL tp s n = 6909550 ↔ eqS 4 n (fun j => tp (s + j)) := by
  obtain ⟨h1, b, h2⟩ := nm_main hn hb (Y := 6909550) (by decide) (c := 6909550) (by decide)
  rw [h1]
  rcases (show n = 0 ∨ n = 1 ∨ n = 2 ∨ n = 3 ∨ n = 4 ∨ n = 5 ∨ n = 6 ∨ n = 7 by omega) with rfl | rfl | rfl | rfl | rfl | rfl | rfl | rfl
  · exact ⟨fun h => absurd (show (0 : Nat) = _ from h) (by decide), fun h => absurd h.1 (by decide)⟩
  · have q0 := h2 0 (by omega)
    have e : nmN tp s 1 = (256 * 0 + b 0) := by simp only [nmN]; rw [q0.2.2.2]
    rw [e]
    exact ⟨fun h => by exfalso; omega, fun h => absurd h.1 (by decide)⟩
  · have q0 := h2 0 (by omega)
    have q1 := h2 1 (by omega)
    have e : nmN tp s 2 = (256 * (256 * 0 + b 0) + b 1) := by simp only [nmN]; rw [q0.2.2.2, q1.2.2.2]
    rw [e]
    exact ⟨fun h => by exfalso; omega, fun h => absurd h.1 (by decide)⟩
  · have q0 := h2 0 (by omega)
    have q1 := h2 1 (by omega)
    have q2 := h2 2 (by omega)
    have e : nmN tp s 3 = (256 * (256 * (256 * 0 + b 0) + b 1) + b 2) := by simp only [nmN]; rw [q0.2.2.2, q1.2.2.2, q2.2.2.2]
    rw [e]
    constructor
    · intro h
      refine ⟨rfl, fun j hj => ?_⟩
      rcases (show j = 0 ∨ j = 1 ∨ j = 2 by omega) with rfl | rfl | rfl
      · show tp (s + 0) = 105; rw [q0.2.2.1, show b 0 = 105 by omega]; rfl
      · show tp (s + 1) = 110; rw [q1.2.2.1, show b 1 = 110 by omega]; rfl
      · show tp (s + 2) = 110; rw [q2.2.2.1, show b 2 = 110 by omega]; rfl
    · intro h
      have g0 : b 0 = 105 := neq_t (a := b 0) (b := 105) (by rw [← q0.2.2.1]; exact h.2 0 (by omega)) (by omega) (by omega)
      have g1 : b 1 = 110 := neq_t (a := b 1) (b := 110) (by rw [← q1.2.2.1]; exact h.2 1 (by omega)) (by omega) (by omega)
      have g2 : b 2 = 110 := neq_t (a := b 2) (b := 110) (by rw [← q2.2.2.1]; exact h.2 2 (by omega)) (by omega) (by omega)
      omega
  · have q0 := h2 0 (by omega)
    have q1 := h2 1 (by omega)
    have q2 := h2 2 (by omega)
    have q3 := h2 3 (by omega)
    have e : nmN tp s 4 = (256 * (256 * (256 * (256 * 0 + b 0) + b 1) + b 2) + b 3) := by simp only [nmN]; rw [q0.2.2.2, q1.2.2.2, q2.2.2.2, q3.2.2.2]
    rw [e]
    exact ⟨fun h => by exfalso; omega, fun h => absurd h.1 (by decide)⟩
  · have q0 := h2 0 (by omega)
    have q1 := h2 1 (by omega)
    have q2 := h2 2 (by omega)
    have q3 := h2 3 (by omega)
    have q4 := h2 4 (by omega)
    have e : nmN tp s 5 = (256 * (256 * (256 * (256 * (256 * 0 + b 0) + b 1) + b 2) + b 3) + b 4) := by simp only [nmN]; rw [q0.2.2.2, q1.2.2.2, q2.2.2.2, q3.2.2.2, q4.2.2.2]
    rw [e]
    exact ⟨fun h => by exfalso; omega, fun h => absurd h.1 (by decide)⟩
  · have q0 := h2 0 (by omega)
    have q1 := h2 1 (by omega)
    have q2 := h2 2 (by omega)
    have q3 := h2 3 (by omega)
    have q4 := h2 4 (by omega)
    have q5 := h2 5 (by omega)
    have e : nmN tp s 6 = (256 * (256 * (256 * (256 * (256 * (256 * 0 + b 0) + b 1) + b 2) + b 3) + b 4) + b 5) := by simp only [nmN]; rw [q0.2.2.2, q1.2.2.2, q2.2.2.2, q3.2.2.2, q4.2.2.2, q5.2.2.2]
    rw [e]
    exact ⟨fun h => by exfalso; omega, fun h => absurd h.1 (by decide)⟩
  · have q0 := h2 0 (by omega)
    have q1 := h2 1 (by omega)
    have q2 := h2 2 (by omega)
    have q3 := h2 3 (by omega)
    have q4 := h2 4 (by omega)
    have q5 := h2 5 (by omega)
    have q6 := h2 6 (by omega)
    have e : nmN tp s 7 = (256 * (256 * (256 * (256 * (256 * (256 * (256 * 0 + b 0) + b 1) + b 2) + b 3) + b 4) + b 5) + b 6) := by simp only [nmN]; rw [q0.2.2.2, q1.2.2.2, q2.2.2.2, q3.2.2.2, q4.2.2.2, q5.2.2.2, q6.2.2.2]
    rw [e]
    exact ⟨fun h => by exfalso; omega, fun h => absurd h.1 (by decide)⟩
theorem nw_4 {tp u : Nat → Int32} {L : Nat} (hP : PV L u) (hL : LT tp u) (h17 : u 17 = 0) : nameV tp u = 6909550 ↔ isW tp u 4 := by
  obtain ⟨s, e, t, p1, p2, p3, p4, p5, p6, p7, p8, p9⟩ := hP
  have i5 : iN (u 15) = s := by rw [p4]; exact iN_nI (by omega)
  have i6 : iN (u 16) = e := by rw [p5]; exact iN_nI (by omega)
  rw [nameV, if_pos h17, isW, i5, i6]
  by_cases h2 : u 14 = 2
  · by_cases h8 : e - s < 8
    · rw [if_pos ⟨h2, h8⟩, nm_4 (by omega) (fun j hj => hL h2 (s + j) (by omega) (by omega))]
      exact ⟨fun h => ⟨h2, h⟩, fun h => h.2⟩
    · rw [if_neg (fun h => h8 h.2)]
      exact ⟨fun h => absurd h (by decide), fun h => absurd h.2.1 (by show e - s ≠ 3; omega)⟩
  · rw [if_neg (fun h => h2 h.1)]
    exact ⟨fun h => absurd h (by decide), fun h => absurd h.1 h2⟩
theorem nm_5 {tp : Nat → Int32} {s n : Nat} (hn : n ≤ 7) (hb : ∀ j, j < n → 97 ≤ tp (s + j) ∧ tp (s + j) ≤ 122) : nmL tp s n = 109270183208306 ↔ eqS 5 n (fun j => tp (s + j)) := by
  obtain ⟨h1, b, h2⟩ := nm_main hn hb (Y := 109270183208306) (by decide) (c := 109270183208306) (by decide)
  rw [h1]
  rcases (show n = 0 ∨ n = 1 ∨ n = 2 ∨ n = 3 ∨ n = 4 ∨ n = 5 ∨ n = 6 ∨ n = 7 by omega) with rfl | rfl | rfl | rfl | rfl | rfl | rfl | rfl
  · exact ⟨fun h => absurd (show (0 : Nat) = _ from h) (by decide), fun h => absurd h.1 (by decide)⟩
  · have q0 := h2 0 (by omega)
    have e : nmN tp s 1 = (256 * 0 + b 0) := by simp only [nmN]; rw [q0.2.2.2]
    rw [e]
    exact ⟨fun h => by exfalso; omega, fun h => absurd h.1 (by decide)⟩
  · have q0 := h2 0 (by omega)
    have q1 := h2 1 (by omega)
    have e : nmN tp s 2 = (256 * (256 * 0 + b 0) + b 1) := by simp only [nmN]; rw [q0.2.2.2, q1.2.2.2]
    rw [e]
    exact ⟨fun h => by exfalso; omega, fun h => absurd h.1 (by decide)⟩
  · have q0 := h2 0 (by omega)
    have q1 := h2 1 (by omega)
    have q2 := h2 2 (by omega)
    have e : nmN tp s 3 = (256 * (256 * (256 * 0 + b 0) + b 1) + b 2) := by simp only [nmN]; rw [q0.2.2.2, q1.2.2.2, q2.2.2.2]
    rw [e]
    exact ⟨fun h => by exfalso; omega, fun h => absurd h.1 (by decide)⟩
  · have q0 := h2 0 (by omega)
    have q1 := h2 1 (by omega)
    have q2 := h2 2 (by omega)
    have q3 := h2 3 (by omega)
    have e : nmN tp s 4 = (256 * (256 * (256 * (256 * 0 + b 0) + b 1) + b 2) + b 3) := by simp only [nmN]; rw [q0.2.2.2, q1.2.2.2, q2.2.2.2, q3.2.2.2]
    rw [e]
    exact ⟨fun h => by exfalso; omega, fun h => absurd h.1 (by decide)⟩
  · have q0 := h2 0 (by omega)
    have q1 := h2 1 (by omega)
    have q2 := h2 2 (by omega)
    have q3 := h2 3 (by omega)
    have q4 := h2 4 (by omega)
    have e : nmN tp s 5 = (256 * (256 * (256 * (256 * (256 * 0 + b 0) + b 1) + b 2) + b 3) + b 4) := by simp only [nmN]; rw [q0.2.2.2, q1.2.2.2, q2.2.2.2, q3.2.2.2, q4.2.2.2]
    rw [e]
    exact ⟨fun h => by exfalso; omega, fun h => absurd h.1 (by decide)⟩
  · have q0 := h2 0 (by omega)
    have q1 := h2 1 (by omega)
    have q2 := h2 2 (by omega)
    have q3 := h2 3 (by omega)
    have q4 := h2 4 (by omega)
    have q5 := h2 5 (by omega)
    have e : nmN tp s 6 = (256 * (256 * (256 * (256 * (256 * (256 * 0 + b 0) + b 1) + b 2) + b 3) + b 4) + b 5) := by simp only [nmN]; rw [q0.2.2.2, q1.2.2.2, q2.2.2.2, q3.2.2.2, q4.2.2.2, q5.2.2.2]
    rw [e]
    constructor
    · intro h
      refine ⟨rfl, fun j hj => ?_⟩
      rcases (show j = 0 ∨ j = 1 ∨ j = 2 ∨ j = 3 ∨ j = 4 ∨ j = 5 by omega) with rfl | rfl | rfl | rfl | rfl | rfl
      · show tp (s + 0) = 99; rw [q0.2.2.1, show b 0 = 99 by omega]; rfl
      · show tp (s + 1) = 97; rw [q1.2.2.1, show b 1 = 97 by omega]; rfl
      · show tp (s + 2) = 114; rw [q2.2.2.1, show b 2 = 114 by omega]; rfl
      · show tp (s + 3) = 116; rw [q3.2.2.1, show b 3 = 116 by omega]; rfl
      · show tp (s + 4) = 101; rw [q4.2.2.1, show b 4 = 101 by omega]; rfl
      · show tp (s + 5) = 114; rw [q5.2.2.1, show b 5 = 114 by omega]; rfl
    · intro h
      have g0 : b 0 = 99 := neq_t (a := b 0) (b := 99) (by rw [← q0.2.2.1]; exact h.2 0 (by omega)) (by omega) (by omega)
      have g1 : b 1 = 97 := neq_t (a := b 1) (b := 97) (by rw [← q1.2.2.1]; exact h.2 1 (by omega)) (by omega) (by omega)
      have g2 : b 2 = 114 := neq_t (a := b 2) (b := 114) (by rw [← q2.2.2.1]; exact h.2 2 (by omega)) (by omega) (by omega)
      have g3 : b 3 = 116 := neq_t (a := b 3) (b := 116) (by rw [← q3.2.2.1]; exact h.2 3 (by omega)) (by omega) (by omega)
      have g4 : b 4 = 101 := neq_t (a := b 4) (b := 101) (by rw [← q4.2.2.1]; exact h.2 4 (by omega)) (by omega) (by omega)
      have g5 : b 5 = 114 := neq_t (a := b 5) (b := 114) (by rw [← q5.2.2.1]; exact h.2 5 (by omega)) (by omega) (by omega)
      omega
  · have q0 := h2 0 (by omega)
    have q1 := h2 1 (by omega)
    have q2 := h2 2 (by omega)
    have q3 := h2 3 (by omega)
    have q4 := h2 4 (by omega)
    have q5 := h2 5 (by omega)
    have q6 := h2 6 (by omega)
    have e : nmN tp s 7 = (256 * (256 * (256 * (256 * (256 * (256 * (256 * 0 + b 0) + b 1) + b 2) + b 3) + b 4) + b 5) + b 6) := by simp only [nmN]; rw [q0.2.2.2, q1.2.2.2, q2.2.2.2, q3.2.2.2, q4.2.2.2, q5.2.2.2, q6.2.2.2]
    rw [e]
    exact ⟨fun h => by exfalso; omega, fun h => absurd h.1 (by decide)⟩
theorem nw_5 {tp u : Nat → Int32} {L : Nat} (hP : PV L u) (hL : LT tp u) (h17 : u 17 = 0) : nameV tp u = 109270183208306 ↔ isW tp u 5 := by
  obtain ⟨s, e, t, p1, p2, p3, p4, p5, p6, p7, p8, p9⟩ := hP
  have i5 : iN (u 15) = s := by rw [p4]; exact iN_nI (by omega)
  have i6 : iN (u 16) = e := by rw [p5]; exact iN_nI (by omega)
  rw [nameV, if_pos h17, isW, i5, i6]
  by_cases h2 : u 14 = 2
  · by_cases h8 : e - s < 8
    · rw [if_pos ⟨h2, h8⟩, nm_5 (by omega) (fun j hj => hL h2 (s + j) (by omega) (by omega))]
      exact ⟨fun h => ⟨h2, h⟩, fun h => h.2⟩
    · rw [if_neg (fun h => h8 h.2)]
      exact ⟨fun h => absurd h (by decide), fun h => absurd h.2.1 (by show e - s ≠ 6; omega)⟩
  · rw [if_neg (fun h => h2 h.1)]
    exact ⟨fun h => absurd h (by decide), fun h => absurd h.1 h2⟩
theorem nm_6 {tp : Nat → Int32} {s n : Nat} (hn : n ≤ 7) (hb : ∀ j, j < n → 97 ≤ tp (s + j) ∧ tp (s + j) ≤ 122) : nmL tp s n = 123563833652072 ↔ eqS 6 n (fun j => tp (s + j)) := by
  obtain ⟨h1, b, h2⟩ := nm_main hn hb (Y := 123563833652072) (by decide) (c := 123563833652072) (by decide)
  rw [h1]
  rcases (show n = 0 ∨ n = 1 ∨ n = 2 ∨ n = 3 ∨ n = 4 ∨ n = 5 ∨ n = 6 ∨ n = 7 by omega) with rfl | rfl | rfl | rfl | rfl | rfl | rfl | rfl
  · exact ⟨fun h => absurd (show (0 : Nat) = _ from h) (by decide), fun h => absurd h.1 (by decide)⟩
  · have q0 := h2 0 (by omega)
    have e : nmN tp s 1 = (256 * 0 + b 0) := by simp only [nmN]; rw [q0.2.2.2]
    rw [e]
    exact ⟨fun h => by exfalso; omega, fun h => absurd h.1 (by decide)⟩
  · have q0 := h2 0 (by omega)
    have q1 := h2 1 (by omega)
    have e : nmN tp s 2 = (256 * (256 * 0 + b 0) + b 1) := by simp only [nmN]; rw [q0.2.2.2, q1.2.2.2]
    rw [e]
    exact ⟨fun h => by exfalso; omega, fun h => absurd h.1 (by decide)⟩
  · have q0 := h2 0 (by omega)
    have q1 := h2 1 (by omega)
    have q2 := h2 2 (by omega)
    have e : nmN tp s 3 = (256 * (256 * (256 * 0 + b 0) + b 1) + b 2) := by simp only [nmN]; rw [q0.2.2.2, q1.2.2.2, q2.2.2.2]
    rw [e]
    exact ⟨fun h => by exfalso; omega, fun h => absurd h.1 (by decide)⟩
  · have q0 := h2 0 (by omega)
    have q1 := h2 1 (by omega)
    have q2 := h2 2 (by omega)
    have q3 := h2 3 (by omega)
    have e : nmN tp s 4 = (256 * (256 * (256 * (256 * 0 + b 0) + b 1) + b 2) + b 3) := by simp only [nmN]; rw [q0.2.2.2, q1.2.2.2, q2.2.2.2, q3.2.2.2]
    rw [e]
    exact ⟨fun h => by exfalso; omega, fun h => absurd h.1 (by decide)⟩
  · have q0 := h2 0 (by omega)
    have q1 := h2 1 (by omega)
    have q2 := h2 2 (by omega)
    have q3 := h2 3 (by omega)
    have q4 := h2 4 (by omega)
    have e : nmN tp s 5 = (256 * (256 * (256 * (256 * (256 * 0 + b 0) + b 1) + b 2) + b 3) + b 4) := by simp only [nmN]; rw [q0.2.2.2, q1.2.2.2, q2.2.2.2, q3.2.2.2, q4.2.2.2]
    rw [e]
    exact ⟨fun h => by exfalso; omega, fun h => absurd h.1 (by decide)⟩
  · have q0 := h2 0 (by omega)
    have q1 := h2 1 (by omega)
    have q2 := h2 2 (by omega)
    have q3 := h2 3 (by omega)
    have q4 := h2 4 (by omega)
    have q5 := h2 5 (by omega)
    have e : nmN tp s 6 = (256 * (256 * (256 * (256 * (256 * (256 * 0 + b 0) + b 1) + b 2) + b 3) + b 4) + b 5) := by simp only [nmN]; rw [q0.2.2.2, q1.2.2.2, q2.2.2.2, q3.2.2.2, q4.2.2.2, q5.2.2.2]
    rw [e]
    constructor
    · intro h
      refine ⟨rfl, fun j hj => ?_⟩
      rcases (show j = 0 ∨ j = 1 ∨ j = 2 ∨ j = 3 ∨ j = 4 ∨ j = 5 by omega) with rfl | rfl | rfl | rfl | rfl | rfl
      · show tp (s + 0) = 112; rw [q0.2.2.1, show b 0 = 112 by omega]; rfl
      · show tp (s + 1) = 97; rw [q1.2.2.1, show b 1 = 97 by omega]; rfl
      · show tp (s + 2) = 114; rw [q2.2.2.1, show b 2 = 114 by omega]; rfl
      · show tp (s + 3) = 105; rw [q3.2.2.1, show b 3 = 105 by omega]; rfl
      · show tp (s + 4) = 115; rw [q4.2.2.1, show b 4 = 115 by omega]; rfl
      · show tp (s + 5) = 104; rw [q5.2.2.1, show b 5 = 104 by omega]; rfl
    · intro h
      have g0 : b 0 = 112 := neq_t (a := b 0) (b := 112) (by rw [← q0.2.2.1]; exact h.2 0 (by omega)) (by omega) (by omega)
      have g1 : b 1 = 97 := neq_t (a := b 1) (b := 97) (by rw [← q1.2.2.1]; exact h.2 1 (by omega)) (by omega) (by omega)
      have g2 : b 2 = 114 := neq_t (a := b 2) (b := 114) (by rw [← q2.2.2.1]; exact h.2 2 (by omega)) (by omega) (by omega)
      have g3 : b 3 = 105 := neq_t (a := b 3) (b := 105) (by rw [← q3.2.2.1]; exact h.2 3 (by omega)) (by omega) (by omega)
      have g4 : b 4 = 115 := neq_t (a := b 4) (b := 115) (by rw [← q4.2.2.1]; exact h.2 4 (by omega)) (by omega) (by omega)
      have g5 : b 5 = 104 := neq_t (a := b 5) (b := 104) (by rw [← q5.2.2.1]; exact h.2 5 (by omega)) (by omega) (by omega)
      omega
  · have q0 := h2 0 (by omega)
    have q1 := h2 1 (by omega)
    have q2 := h2 2 (by omega)
    have q3 := h2 3 (by omega)
    have q4 := h2 4 (by omega)
    have q5 := h2 5 (by omega)
    have q6 := h2 6 (by omega)
    have e : nmN tp s 7 = (256 * (256 * (256 * (256 * (256 * (256 * (256 * 0 + b 0) + b 1) + b 2) + b 3) + b 4) + b 5) + b 6) := by simp only [nmN]; rw [q0.2.2.2, q1.2.2.2, q2.2.2.2, q3.2.2.2, q4.2.2.2, q5.2.2.2, q6.2.2.2]
    rw [e]
    exact ⟨fun h => by exfalso; omega, fun h => absurd h.1 (by decide)⟩
theorem nw_6 {tp u : Nat → Int32} {L : Nat} (hP : PV L u) (hL : LT tp u) (h17 : u 17 = 0) : nameV tp u = 123563833652072 ↔ isW tp u 6 := by
  obtain ⟨s, e, t, p1, p2, p3, p4, p5, p6, p7, p8, p9⟩ := hP
  have i5 : iN (u 15) = s := by rw [p4]; exact iN_nI (by omega)
  have i6 : iN (u 16) = e := by rw [p5]; exact iN_nI (by omega)
  rw [nameV, if_pos h17, isW, i5, i6]
  by_cases h2 : u 14 = 2
  · by_cases h8 : e - s < 8
    · rw [if_pos ⟨h2, h8⟩, nm_6 (by omega) (fun j hj => hL h2 (s + j) (by omega) (by omega))]
      exact ⟨fun h => ⟨h2, h⟩, fun h => h.2⟩
    · rw [if_neg (fun h => h8 h.2)]
      exact ⟨fun h => absurd h (by decide), fun h => absurd h.2.1 (by show e - s ≠ 6; omega)⟩
  · rw [if_neg (fun h => h2 h.1)]
    exact ⟨fun h => absurd h (by decide), fun h => absurd h.1 h2⟩
theorem nm_7 {tp : Nat → Int32} {s n : Nat} (hn : n ≤ 7) (hb : ∀ j, j < n → 97 ≤ tp (s + j) ∧ tp (s + j) ≤ 122) : nmL tp s n = 499967944038 ↔ eqS 7 n (fun j => tp (s + j)) := by
  obtain ⟨h1, b, h2⟩ := nm_main hn hb (Y := 499967944038) (by decide) (c := 499967944038) (by decide)
  rw [h1]
  rcases (show n = 0 ∨ n = 1 ∨ n = 2 ∨ n = 3 ∨ n = 4 ∨ n = 5 ∨ n = 6 ∨ n = 7 by omega) with rfl | rfl | rfl | rfl | rfl | rfl | rfl | rfl
  · exact ⟨fun h => absurd (show (0 : Nat) = _ from h) (by decide), fun h => absurd h.1 (by decide)⟩
  · have q0 := h2 0 (by omega)
    have e : nmN tp s 1 = (256 * 0 + b 0) := by simp only [nmN]; rw [q0.2.2.2]
    rw [e]
    exact ⟨fun h => by exfalso; omega, fun h => absurd h.1 (by decide)⟩
  · have q0 := h2 0 (by omega)
    have q1 := h2 1 (by omega)
    have e : nmN tp s 2 = (256 * (256 * 0 + b 0) + b 1) := by simp only [nmN]; rw [q0.2.2.2, q1.2.2.2]
    rw [e]
    exact ⟨fun h => by exfalso; omega, fun h => absurd h.1 (by decide)⟩
  · have q0 := h2 0 (by omega)
    have q1 := h2 1 (by omega)
    have q2 := h2 2 (by omega)
    have e : nmN tp s 3 = (256 * (256 * (256 * 0 + b 0) + b 1) + b 2) := by simp only [nmN]; rw [q0.2.2.2, q1.2.2.2, q2.2.2.2]
    rw [e]
    exact ⟨fun h => by exfalso; omega, fun h => absurd h.1 (by decide)⟩
  · have q0 := h2 0 (by omega)
    have q1 := h2 1 (by omega)
    have q2 := h2 2 (by omega)
    have q3 := h2 3 (by omega)
    have e : nmN tp s 4 = (256 * (256 * (256 * (256 * 0 + b 0) + b 1) + b 2) + b 3) := by simp only [nmN]; rw [q0.2.2.2, q1.2.2.2, q2.2.2.2, q3.2.2.2]
    rw [e]
    exact ⟨fun h => by exfalso; omega, fun h => absurd h.1 (by decide)⟩
  · have q0 := h2 0 (by omega)
    have q1 := h2 1 (by omega)
    have q2 := h2 2 (by omega)
    have q3 := h2 3 (by omega)
    have q4 := h2 4 (by omega)
    have e : nmN tp s 5 = (256 * (256 * (256 * (256 * (256 * 0 + b 0) + b 1) + b 2) + b 3) + b 4) := by simp only [nmN]; rw [q0.2.2.2, q1.2.2.2, q2.2.2.2, q3.2.2.2, q4.2.2.2]
    rw [e]
    constructor
    · intro h
      refine ⟨rfl, fun j hj => ?_⟩
      rcases (show j = 0 ∨ j = 1 ∨ j = 2 ∨ j = 3 ∨ j = 4 by omega) with rfl | rfl | rfl | rfl | rfl
      · show tp (s + 0) = 116; rw [q0.2.2.1, show b 0 = 116 by omega]; rfl
      · show tp (s + 1) = 104; rw [q1.2.2.1, show b 1 = 104 by omega]; rfl
      · show tp (s + 2) = 105; rw [q2.2.2.1, show b 2 = 105 by omega]; rfl
      · show tp (s + 3) = 101; rw [q3.2.2.1, show b 3 = 101 by omega]; rfl
      · show tp (s + 4) = 102; rw [q4.2.2.1, show b 4 = 102 by omega]; rfl
    · intro h
      have g0 : b 0 = 116 := neq_t (a := b 0) (b := 116) (by rw [← q0.2.2.1]; exact h.2 0 (by omega)) (by omega) (by omega)
      have g1 : b 1 = 104 := neq_t (a := b 1) (b := 104) (by rw [← q1.2.2.1]; exact h.2 1 (by omega)) (by omega) (by omega)
      have g2 : b 2 = 105 := neq_t (a := b 2) (b := 105) (by rw [← q2.2.2.1]; exact h.2 2 (by omega)) (by omega) (by omega)
      have g3 : b 3 = 101 := neq_t (a := b 3) (b := 101) (by rw [← q3.2.2.1]; exact h.2 3 (by omega)) (by omega) (by omega)
      have g4 : b 4 = 102 := neq_t (a := b 4) (b := 102) (by rw [← q4.2.2.1]; exact h.2 4 (by omega)) (by omega) (by omega)
      omega
  · have q0 := h2 0 (by omega)
    have q1 := h2 1 (by omega)
    have q2 := h2 2 (by omega)
    have q3 := h2 3 (by omega)
    have q4 := h2 4 (by omega)
    have q5 := h2 5 (by omega)
    have e : nmN tp s 6 = (256 * (256 * (256 * (256 * (256 * (256 * 0 + b 0) + b 1) + b 2) + b 3) + b 4) + b 5) := by simp only [nmN]; rw [q0.2.2.2, q1.2.2.2, q2.2.2.2, q3.2.2.2, q4.2.2.2, q5.2.2.2]
    rw [e]
    exact ⟨fun h => by exfalso; omega, fun h => absurd h.1 (by decide)⟩
  · have q0 := h2 0 (by omega)
    have q1 := h2 1 (by omega)
    have q2 := h2 2 (by omega)
    have q3 := h2 3 (by omega)
    have q4 := h2 4 (by omega)
    have q5 := h2 5 (by omega)
    have q6 := h2 6 (by omega)
    have e : nmN tp s 7 = (256 * (256 * (256 * (256 * (256 * (256 * (256 * 0 + b 0) + b 1) + b 2) + b 3) + b 4) + b 5) + b 6) := by simp only [nmN]; rw [q0.2.2.2, q1.2.2.2, q2.2.2.2, q3.2.2.2, q4.2.2.2, q5.2.2.2, q6.2.2.2]
    rw [e]
    exact ⟨fun h => by exfalso; omega, fun h => absurd h.1 (by decide)⟩
theorem nw_7 {tp u : Nat → Int32} {L : Nat} (hP : PV L u) (hL : LT tp u) (h17 : u 17 = 0) : nameV tp u = 499967944038 ↔ isW tp u 7 := by
  obtain ⟨s, e, t, p1, p2, p3, p4, p5, p6, p7, p8, p9⟩ := hP
  have i5 : iN (u 15) = s := by rw [p4]; exact iN_nI (by omega)
  have i6 : iN (u 16) = e := by rw [p5]; exact iN_nI (by omega)
  rw [nameV, if_pos h17, isW, i5, i6]
  by_cases h2 : u 14 = 2
  · by_cases h8 : e - s < 8
    · rw [if_pos ⟨h2, h8⟩, nm_7 (by omega) (fun j hj => hL h2 (s + j) (by omega) (by omega))]
      exact ⟨fun h => ⟨h2, h⟩, fun h => h.2⟩
    · rw [if_neg (fun h => h8 h.2)]
      exact ⟨fun h => absurd h (by decide), fun h => absurd h.2.1 (by show e - s ≠ 5; omega)⟩
  · rw [if_neg (fun h => h2 h.1)]
    exact ⟨fun h => absurd h (by decide), fun h => absurd h.1 h2⟩
theorem nm_8 {tp : Nat → Int32} {s n : Nat} (hn : n ≤ 7) (hb : ∀ j, j < n → 97 ≤ tp (s + j) ∧ tp (s + j) ≤ 122) : nmL tp s n = 123636696839028 ↔ eqS 8 n (fun j => tp (s + j)) := by
  obtain ⟨h1, b, h2⟩ := nm_main hn hb (Y := 123636696839028) (by decide) (c := 123636696839028) (by decide)
  rw [h1]
  rcases (show n = 0 ∨ n = 1 ∨ n = 2 ∨ n = 3 ∨ n = 4 ∨ n = 5 ∨ n = 6 ∨ n = 7 by omega) with rfl | rfl | rfl | rfl | rfl | rfl | rfl | rfl
  · exact ⟨fun h => absurd (show (0 : Nat) = _ from h) (by decide), fun h => absurd h.1 (by decide)⟩
  · have q0 := h2 0 (by omega)
    have e : nmN tp s 1 = (256 * 0 + b 0) := by simp only [nmN]; rw [q0.2.2.2]
    rw [e]
    exact ⟨fun h => by exfalso; omega, fun h => absurd h.1 (by decide)⟩
  · have q0 := h2 0 (by omega)
    have q1 := h2 1 (by omega)
    have e : nmN tp s 2 = (256 * (256 * 0 + b 0) + b 1) := by simp only [nmN]; rw [q0.2.2.2, q1.2.2.2]
    rw [e]
    exact ⟨fun h => by exfalso; omega, fun h => absurd h.1 (by decide)⟩
  · have q0 := h2 0 (by omega)
    have q1 := h2 1 (by omega)
    have q2 := h2 2 (by omega)
    have e : nmN tp s 3 = (256 * (256 * (256 * 0 + b 0) + b 1) + b 2) := by simp only [nmN]; rw [q0.2.2.2, q1.2.2.2, q2.2.2.2]
    rw [e]
    exact ⟨fun h => by exfalso; omega, fun h => absurd h.1 (by decide)⟩
  · have q0 := h2 0 (by omega)
    have q1 := h2 1 (by omega)
    have q2 := h2 2 (by omega)
    have q3 := h2 3 (by omega)
    have e : nmN tp s 4 = (256 * (256 * (256 * (256 * 0 + b 0) + b 1) + b 2) + b 3) := by simp only [nmN]; rw [q0.2.2.2, q1.2.2.2, q2.2.2.2, q3.2.2.2]
    rw [e]
    exact ⟨fun h => by exfalso; omega, fun h => absurd h.1 (by decide)⟩
  · have q0 := h2 0 (by omega)
    have q1 := h2 1 (by omega)
    have q2 := h2 2 (by omega)
    have q3 := h2 3 (by omega)
    have q4 := h2 4 (by omega)
    have e : nmN tp s 5 = (256 * (256 * (256 * (256 * (256 * 0 + b 0) + b 1) + b 2) + b 3) + b 4) := by simp only [nmN]; rw [q0.2.2.2, q1.2.2.2, q2.2.2.2, q3.2.2.2, q4.2.2.2]
    rw [e]
    exact ⟨fun h => by exfalso; omega, fun h => absurd h.1 (by decide)⟩
  · have q0 := h2 0 (by omega)
    have q1 := h2 1 (by omega)
    have q2 := h2 2 (by omega)
    have q3 := h2 3 (by omega)
    have q4 := h2 4 (by omega)
    have q5 := h2 5 (by omega)
    have e : nmN tp s 6 = (256 * (256 * (256 * (256 * (256 * (256 * 0 + b 0) + b 1) + b 2) + b 3) + b 4) + b 5) := by simp only [nmN]; rw [q0.2.2.2, q1.2.2.2, q2.2.2.2, q3.2.2.2, q4.2.2.2, q5.2.2.2]
    rw [e]
    constructor
    · intro h
      refine ⟨rfl, fun j hj => ?_⟩
      rcases (show j = 0 ∨ j = 1 ∨ j = 2 ∨ j = 3 ∨ j = 4 ∨ j = 5 by omega) with rfl | rfl | rfl | rfl | rfl | rfl
      · show tp (s + 0) = 112; rw [q0.2.2.1, show b 0 = 112 by omega]; rfl
      · show tp (s + 1) = 114; rw [q1.2.2.1, show b 1 = 114 by omega]; rfl
      · show tp (s + 2) = 105; rw [q2.2.2.1, show b 2 = 105 by omega]; rfl
      · show tp (s + 3) = 101; rw [q3.2.2.1, show b 3 = 101 by omega]; rfl
      · show tp (s + 4) = 115; rw [q4.2.2.1, show b 4 = 115 by omega]; rfl
      · show tp (s + 5) = 116; rw [q5.2.2.1, show b 5 = 116 by omega]; rfl
    · intro h
      have g0 : b 0 = 112 := neq_t (a := b 0) (b := 112) (by rw [← q0.2.2.1]; exact h.2 0 (by omega)) (by omega) (by omega)
      have g1 : b 1 = 114 := neq_t (a := b 1) (b := 114) (by rw [← q1.2.2.1]; exact h.2 1 (by omega)) (by omega) (by omega)
      have g2 : b 2 = 105 := neq_t (a := b 2) (b := 105) (by rw [← q2.2.2.1]; exact h.2 2 (by omega)) (by omega) (by omega)
      have g3 : b 3 = 101 := neq_t (a := b 3) (b := 101) (by rw [← q3.2.2.1]; exact h.2 3 (by omega)) (by omega) (by omega)
      have g4 : b 4 = 115 := neq_t (a := b 4) (b := 115) (by rw [← q4.2.2.1]; exact h.2 4 (by omega)) (by omega) (by omega)
      have g5 : b 5 = 116 := neq_t (a := b 5) (b := 116) (by rw [← q5.2.2.1]; exact h.2 5 (by omega)) (by omega) (by omega)
      omega
  · have q0 := h2 0 (by omega)
    have q1 := h2 1 (by omega)
    have q2 := h2 2 (by omega)
    have q3 := h2 3 (by omega)
    have q4 := h2 4 (by omega)
    have q5 := h2 5 (by omega)
    have q6 := h2 6 (by omega)
    have e : nmN tp s 7 = (256 * (256 * (256 * (256 * (256 * (256 * (256 * 0 + b 0) + b 1) + b 2) + b 3) + b 4) + b 5) + b 6) := by simp only [nmN]; rw [q0.2.2.2, q1.2.2.2, q2.2.2.2, q3.2.2.2, q4.2.2.2, q5.2.2.2, q6.2.2.2]
    rw [e]
    exact ⟨fun h => by exfalso; omega, fun h => absurd h.1 (by decide)⟩
theorem nw_8 {tp u : Nat → Int32} {L : Nat} (hP : PV L u) (hL : LT tp u) (h17 : u 17 = 0) : nameV tp u = 123636696839028 ↔ isW tp u 8 := by
  obtain ⟨s, e, t, p1, p2, p3, p4, p5, p6, p7, p8, p9⟩ := hP
  have i5 : iN (u 15) = s := by rw [p4]; exact iN_nI (by omega)
  have i6 : iN (u 16) = e := by rw [p5]; exact iN_nI (by omega)
  rw [nameV, if_pos h17, isW, i5, i6]
  by_cases h2 : u 14 = 2
  · by_cases h8 : e - s < 8
    · rw [if_pos ⟨h2, h8⟩, nm_8 (by omega) (fun j hj => hL h2 (s + j) (by omega) (by omega))]
      exact ⟨fun h => ⟨h2, h⟩, fun h => h.2⟩
    · rw [if_neg (fun h => h8 h.2)]
      exact ⟨fun h => absurd h (by decide), fun h => absurd h.2.1 (by show e - s ≠ 6; omega)⟩
  · rw [if_neg (fun h => h2 h.1)]
    exact ⟨fun h => absurd h (by decide), fun h => absurd h.1 h2⟩
