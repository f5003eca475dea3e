/-! Texts: tokens. tp: the bytes, L: how many. -/
def tokB (tp : Nat → Int32) (L k : Nat) : Int32 := if k < L then tp k else -1000000
def pWs (c : Int32) : Bool := decide (c = 32) || decide (c = 10)
def pLe (c : Int32) : Bool := decide (97 ≤ c ∧ c ≤ 122)
def pFi (c : Int32) : Bool := decide (48 ≤ c ∧ c ≤ 57)
def spn (P : Int32 → Bool) (tp : Nat → Int32) : Nat → Nat → Nat
  | 0, c => c
  | n + 1, c => if P (tp c) = true then spn P tp n (c + 1) else c
theorem spn_end {P : Int32 → Bool} {tp : Nat → Int32} {L k : Nat} (h : L ≤ k) : spn P tp (L - k) k = k := by
  rw [show L - k = 0 by omega]; rfl
theorem spn_stop {P : Int32 → Bool} {tp : Nat → Int32} {L k : Nat} (h : ¬ P (tp k) = true) : spn P tp (L - k) k = k := by
  cases e : L - k with
  | zero => rfl
  | succ n => rw [spn, if_neg h]
theorem spn_go {P : Int32 → Bool} {tp : Nat → Int32} {L k : Nat} (hk : k < L) (h : P (tp k) = true) : spn P tp (L - k) k = spn P tp (L - (k + 1)) (k + 1) := by
  rw [show L - k = (L - (k + 1)) + 1 by omega, spn, if_pos h]
theorem spn_le {P : Int32 → Bool} {tp : Nat → Int32} : ∀ (n k : Nat), k ≤ spn P tp n k ∧ spn P tp n k ≤ k + n := by
  intro n
  induction n with
  | zero => intro k; exact ⟨Nat.le_refl k, Nat.le_refl k⟩
  | succ n ih =>
    intro k
    rw [spn]
    split
    · have := ih (k + 1); omega
    · omega
/-- token (1 end, 2 name, 3 number, 4 sign, 0 strange), its start, its end -/
def nx (tp : Nat → Int32) (L c : Nat) : Nat × Nat × Nat :=
  if L ≤ spn pWs tp (L - c) c then (1, spn pWs tp (L - c) c, spn pWs tp (L - c) c)
  else if pLe (tp (spn pWs tp (L - c) c)) = true then (2, spn pWs tp (L - c) c, spn pLe tp (L - spn pWs tp (L - c) c) (spn pWs tp (L - c) c))
  else if pFi (tp (spn pWs tp (L - c) c)) = true then (if spn pFi tp (L - spn pWs tp (L - c) c) (spn pWs tp (L - c) c) - spn pWs tp (L - c) c ≤ 3 then 3 else 0, spn pWs tp (L - c) c, spn pFi tp (L - spn pWs tp (L - c) c) (spn pWs tp (L - c) c))
  else (if tp (spn pWs tp (L - c) c) = 59 then 4 else 0, spn pWs tp (L - c) c, spn pWs tp (L - c) c + 1)
def vNx (v : Nat → Int32) (t : Nat × Nat × Nat) : Nat → Int32 := fun i => if i = 13 then nI t.2.2 else if i = 14 then nI t.1 else if i = 15 then nI t.2.1 else if i = 16 then nI t.2.2 else v i
def tpOk (tp : Nat → Int32) (L : Nat) : Prop := ∀ k, k < L → 0 ≤ tp k ∧ tp k ≤ 255
theorem tokB_lt {tp : Nat → Int32} {L k : Nat} (h : k < L) : tokB tp L k = tp k := if_pos h
theorem tokB_ge {tp : Nat → Int32} {L k : Nat} (h : L ≤ k) : tokB tp L k = -1000000 := if_neg (by omega)
theorem tokB_N {tp : Nat → Int32} {L k : Nat} (ht : tpOk tp L) : tokB tp L k = -1000000 ↔ L ≤ k := by
  constructor
  · intro h
    rcases Nat.lt_or_ge k L with q | q
    · rw [tokB_lt q] at h
      have := (ht k q).1
      rw [h] at this
      exact absurd this (by decide)
    · exact q
  · exact tokB_ge
theorem spn_ws {tp : Nat → Int32} {L k : Nat} (h1 : ¬ tokB tp L k = 32) (h2 : ¬ tokB tp L k = 10) : spn pWs tp (L - k) k = k := by
  rcases Nat.lt_or_ge k L with q | q
  · rw [tokB_lt q] at h1 h2
    exact spn_stop (by simp [pWs, h1, h2])
  · exact spn_end q
theorem ws_go {tp : Nat → Int32} {L k : Nat} (h : tokB tp L k = 32 ∨ tokB tp L k = 10) : k < L ∧ spn pWs tp (L - k) k = spn pWs tp (L - (k + 1)) (k + 1) := by
  rcases Nat.lt_or_ge k L with q | q
  · refine ⟨q, spn_go q ?_⟩
    rw [tokB_lt q] at h
    simpa [pWs] using h
  · rw [tokB_ge q] at h
    exact absurd h (by decide)
theorem cl_go {lo hi : Int32} {tp : Nat → Int32} {L k : Nat} (hlo : ¬ lo ≤ -1000000) (h : lo ≤ tokB tp L k ∧ tokB tp L k ≤ hi) : k < L ∧ spn (fun c => decide (lo ≤ c ∧ c ≤ hi)) tp (L - k) k = spn (fun c => decide (lo ≤ c ∧ c ≤ hi)) tp (L - (k + 1)) (k + 1) := by
  rcases Nat.lt_or_ge k L with q | q
  · refine ⟨q, spn_go q ?_⟩
    rw [tokB_lt q] at h
    exact decide_eq_true h
  · rw [tokB_ge q] at h
    exact absurd h.1 hlo
theorem cl_stop {lo hi : Int32} {tp : Nat → Int32} {L k : Nat} (h : ¬ (lo ≤ tokB tp L k ∧ tokB tp L k ≤ hi)) : spn (fun c => decide (lo ≤ c ∧ c ≤ hi)) tp (L - k) k = k := by
  rcases Nat.lt_or_ge k L with q | q
  · rw [tokB_lt q] at h
    exact spn_stop (by simpa using h)
  · exact spn_end q
theorem vNx_of {v u : Nat → Int32} {t : Nat × Nat × Nat} (h3 : u 13 = nI t.2.2) (h4 : u 14 = nI t.1) (h5 : u 15 = nI t.2.1) (h6 : u 16 = nI t.2.2) (ho : ∀ i, i ≠ 13 → i ≠ 14 → i ≠ 15 → i ≠ 16 → u i = v i) : u = vNx v t := by
  funext i
  unfold vNx
  by_cases a : i = 13
  · subst a; rw [if_pos rfl]; exact h3
  · rw [if_neg a]
    by_cases b : i = 14
    · subst b; rw [if_pos rfl]; exact h4
    · rw [if_neg b]
      by_cases c : i = 15
      · subst c; rw [if_pos rfl]; exact h5
      · rw [if_neg c]
        by_cases d : i = 16
        · subst d; rw [if_pos rfl]; exact h6
        · rw [if_neg d]; exact ho i a b c d
