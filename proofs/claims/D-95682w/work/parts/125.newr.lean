/-! A road made anew beside the units in front; the past turned round. -/
set_option maxRecDepth 100000
theorem oups_app {O : gO} {p : Nat} {u : gU} : ∀ L : List (Nat × gU), p ∉ oad L → oups O (L ++ [(p, u)]) = oup (oups O L) p u := by
  intro L
  induction L with
  | nil => intro _; rfl
  | cons y L ih =>
    intro hy
    simp only [oad, List.map_cons, List.mem_cons, not_or] at hy
    rw [List.cons_append, oups, ih hy.2, oups, oup_comm hy.1]
theorem PS.newR {D : va_G} {ac : Nat → ClassId} {A : Nat → Prop} {H0 H1 : Heap} {locs1 : List Loc} {O : gO} {L L' : List (Nat × gU)} (hN : (oad L).Nodup) {i q p : Nat} {u0 u ls : gU} (hi : L[i]? = some (q, u0)) (hp : oups O L p = none) (hO : OS D ac A H0 (oup (oup (oups O L) p ls) q u) H1 locs1) (hL : L.set i (q, u) ++ [(p, ls)] = L') : O p = none ∧ p ∉ oad L ∧ PS D ac A H0 O L' H1 locs1 := by
  subst hL
  have hn : p ∉ oad L := by
    intro hm
    obtain ⟨x, hx, rfl⟩ := List.mem_map.mp hm
    obtain ⟨j, hj⟩ := List.getElem?_of_mem hx
    have := oups_at (O := O) hN (i := j) (a := x.1) (u := x.2) hj
    rw [hp] at this
    cases this
  have hpq : p ≠ q := by
    intro e
    subst e
    rw [oups_at hN hi] at hp
    cases hp
  have hn2 : p ∉ oad (L.set i (q, u)) := by rw [oad_set hi]; exact hn
  refine ⟨by rw [← oups_off (O := O) hn]; exact hp, hn, ?_, ?_⟩
  · rw [oups_app _ hn2, ← oups_set hN hi, oup_comm (fun e => hpq e.symm)]
    exact hO
  · rw [oad, List.map_append, List.nodup_append]
    refine ⟨by have := oad_set (u' := u) hi; rw [oad] at this; rw [this]; exact hN, by simp, fun x hx y hy => ?_⟩
    simp at hy
    rw [hy]
    exact fun e => hn2 (by rw [← e]; exact hx)
def rotK (f : Nat → Option Nat) (k : Nat) : Nat → Option Nat := fun i => if i < k then f (i + 1) else f i
theorem rotK_0 (f : Nat → Option Nat) : rotK f 0 = f := by
  funext i
  unfold rotK
  rw [if_neg (by omega)]
theorem rotK_s (f : Nat → Option Nat) (k : Nat) : va_up (rotK f k) k (f (k + 1)) = rotK f (k + 1) := by
  funext i
  unfold va_up rotK
  by_cases h : i = k
  · subst h
    rw [if_pos rfl, if_pos (by omega)]
  · rw [if_neg h]
    by_cases h2 : i < k
    · rw [if_pos h2, if_pos (by omega)]
    · rw [if_neg h2, if_neg (by omega)]
theorem gput_gput (g : Nat → Nat → Option Nat) (a : Nat) (f h : Nat → Option Nat) : gput (gput g a f) a h = gput g a h := by
  funext i
  unfold gput
  split <;> rfl
theorem gput_self (g : Nat → Nat → Option Nat) (a : Nat) : gput g a (g a) = g := by
  funext i
  unfold gput
  split
  · rename_i h; rw [h]
  · rfl
