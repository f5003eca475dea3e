/-! The reference being made: its arrays come one by one. -/
set_option maxRecDepth 100000
def prf (ad : Nat → Nat) (P : List Nat) (k : Nat) : Value := if k ∈ P then .ref (ad k) else .null
def mfsP (ad : Nat → Nat) (P : List Nat) : List Value := [.int 0, .int 0, prf ad P 2, prf ad P 3, prf ad P 4, prf ad P 5, prf ad P 6, prf ad P 7, .int 0, prf ad P 9, .int 0, .int 0, .int 0, .int 0, .int 0, .int 0, .int 0, .int 0, .int 0, prf ad P 19, prf ad P 20, prf ad P 21, prf ad P 22, prf ad P 23, prf ad P 24, .int 0]
def IU (ac : Nat → ClassId) (G : gG) (mo : Nat) (ad : Nat → Nat) (S P : List Nat) (w : Nat → Nat → Int32) : Prop :=
  G mo = some (mo, 0, .inr (3, mfsP ad P)) ∧ ∀ k, k ∈ S → G (ad k) = some (mo, k + 1, .inl (ac (mac k), mln k, .inl (w k)))
def IS (D : va_G) (ac : Nat → ClassId) (A : Nat → Prop) (G0 : gG) (H0 : Heap) (mo : Nat) (ad : Nat → Nat) (S P : List Nat) (w : Nat → Nat → Int32) (H : Heap) (locs : List Loc) : Prop :=
  ∃ G, gS D A H0 G H locs ∧ IU ac G mo ad S P w ∧ KP mo G0 G
theorem KP.new {mo : Nat} {G : gG} {a j : Nat} {e : va_E} (ha : G a = none) : KP mo G (gup G a (mo, j, e)) := by
  intro q t j' e1 hn h0
  by_cases hq : q = a
  · subst hq; rw [ha] at h0; cases h0
  · rw [gup_n hq]; exact h0
def aup (ad : Nat → Nat) (k a : Nat) : Nat → Nat := fun i => if i = k then a else ad i
theorem aup_s (ad : Nat → Nat) (k a : Nat) : aup ad k a k = a := if_pos rfl
theorem mfsP_aup {ad : Nat → Nat} {P : List Nat} {k a : Nat} (h : k ∉ P) : mfsP (aup ad k a) P = mfsP ad P := by
  have e : ∀ i, prf (aup ad k a) P i = prf ad P i := by
    intro i
    unfold prf
    split
    · rename_i hi
      rw [show aup ad k a i = ad i from if_neg (show ¬ i = k from fun q => h (q ▸ hi))]
    · rfl
  unfold mfsP
  simp only [e]
section IR
variable {p : Program} {l : Launch} {e : Env} {R : Room} {s : State} {m : MethodId} {args : Array Value} {below : List Frame} {meth : Method} {c : Code} {H : Heap} {locs : List Loc} {cells slots : Nat} {Q : State → Prop}
variable {cc : ByteArray} {pc nL : Nat} {ls : Array Slot} {rest : List Value} {D : va_G} {ac : Nat → ClassId} {A : Nat → Prop} {H0 : Heap} {G0 : gG} {own : String} {mo : Nat} {ad : Nat → Nat} {P : List Nat} {w : Nat → Nat → Int32}
theorem IU.new {G : gG} {H : Heap} {k : Nat} (hS : gS D A H0 G H locs) (h : IU ac G mo ad P P w) (hk : k ∉ P) (hw : w k = fun _ => 0) : IU ac (gup G H.size (mo, k + 1, .inl (ac (mac k), mln k, .inl (fun _ => 0)))) mo (aup ad k H.size) (k :: P) P w := by
  refine ⟨?_, fun i hi => ?_⟩
  · rw [gup_n (Nat.ne_of_lt (hS.1.lt h.1)), mfsP_aup hk]
    exact h.1
  · by_cases hik : i = k
    · subst hik
      rw [aup_s, gup_s, hw]
    · have hi2 : i ∈ P := by
        rcases List.mem_cons.mp hi with q | q
        · exact absurd q hik
        · exact q
      rw [show aup ad k H.size i = ad i from if_neg hik, gup_n (Nat.ne_of_lt (hS.1.lt (h.2 i hi2)))]
      exact h.2 i hi2
theorem i_newi (S : CallFix p m c cc nL s args lw_all own) (hK : KW D ac s) (hI : IS D ac A G0 H0 mo ad P P w H locs) (k : Nat) (hk : k ∉ P) (hw : w k = fun _ => 0) (hm : mac k = 0) {n : Int32} (hn : n = nI (mln k)) (hL : mln k ≤ 65536) (hcells : cells + 1 ≤ R.cells) (hslots : slots + mln k ≤ R.slots) (hdg : decode cc pc = .ok (.newarray .int, 2))
    (kk : ∀ (ad1 : Nat → Nat) (H1 : Heap), IS D ac A G0 H0 mo ad1 (k :: P) P w H1 locs → W p l e R s m args below meth c H1 locs (cells + 1) (slots + mln k) Q (F0 m (pc + 2) ls (.ref (ad1 k) :: rest))) : W p l e R s m args below meth c H locs cells slots Q (F0 m pc ls (.int n :: rest)) := by
  obtain ⟨G, h1, h2, h3⟩ := hI
  refine g_newi mo (k + 1) S hK h1 q141 hn hL hcells hslots hdg (fun H1 hS z => ?_)
  have h4 := IU.new (k := k) h1 h2 hk hw
  rw [hm] at h4
  have h5 := kk (aup ad k H.size) H1 ⟨_, hS, h4, h3.tr (KP.new h1.fresh)⟩
  rw [aup_s] at h5
  exact h5
theorem i_newz (S : CallFix p m c cc nL s args lw_all own) (hK : KW D ac s) (hI : IS D ac A G0 H0 mo ad P P w H locs) (k : Nat) (hk : k ∉ P) (hw : w k = fun _ => 0) (hm : mac k = 2) {n : Int32} (hn : n = nI (mln k)) (hL : mln k ≤ 65536) (hcells : cells + 1 ≤ R.cells) (hslots : slots + mln k ≤ R.slots) (hdg : decode cc pc = .ok (.newarray .boolean, 2))
    (kk : ∀ (ad1 : Nat → Nat) (H1 : Heap), IS D ac A G0 H0 mo ad1 (k :: P) P w H1 locs → W p l e R s m args below meth c H1 locs (cells + 1) (slots + mln k) Q (F0 m (pc + 2) ls (.ref (ad1 k) :: rest))) : W p l e R s m args below meth c H locs cells slots Q (F0 m pc ls (.int n :: rest)) := by
  obtain ⟨G, h1, h2, h3⟩ := hI
  refine g_newz mo (k + 1) S hK h1 q1341 hn hL hcells hslots hdg (fun H1 hS z => ?_)
  have h4 := IU.new (k := k) h1 h2 hk hw
  rw [hm] at h4
  have h5 := kk (aup ad k H.size) H1 ⟨_, hS, h4, h3.tr (KP.new h1.fresh)⟩
  rw [aup_s] at h5
  exact h5
theorem i_iast (S : CallFix p m c cc nL s args lw_all own) (hK : KW D ac s) {S0 : List Nat} (hI : IS D ac A G0 H0 mo ad S0 P w H locs) (k : Nat) (hk : k ∈ S0) (hm : mac k = 0) {n : Nat} {i x : Int32} (hi : i = nI n) (hn : n < mln k) (hdg : decode cc pc = .ok (.iastore, 1))
    (kk : ∀ (H1 : Heap) (locs1 : List Loc), IS D ac A G0 H0 mo ad S0 P (wup w k n x) H1 locs1 → W p l e R s m args below meth c H1 locs1 cells slots Q (F0 m (pc + 1) ls rest)) : W p l e R s m args below meth c H locs cells slots Q (F0 m pc ls (.int x :: .int i :: .ref (ad k) :: rest)) := by
  obtain ⟨G, h1, h2, h3⟩ := hI
  have h := h2.2 k hk
  have hp := KP.up (e' := .inl (ac (mac k), mln k, .inl (upd (w k) n x))) h
  have ha : IU ac (gup G (ad k) (mo, k + 1, .inl (ac (mac k), mln k, .inl (upd (w k) n x)))) mo ad S0 P (wup w k n x) := by
    refine ⟨?_, fun i hi => ?_⟩
    · rw [gup_n (g_ne h2.1 h (Or.inr (by omega)))]
      exact h2.1
    · by_cases hik : i = k
      · subst hik
        rw [gup_s, wup_s]
      · rw [gup_n (g_ne (h2.2 i hi) h (Or.inr (by omega))), wup_n hik]
        exact h2.2 i hi
  rw [hm] at h ha hp
  exact g_iast S hK h1 h hi hn (mln_lt k) hdg (fun H1 locs1 hS _ => kk H1 locs1 ⟨_, hS, ha, h3.tr hp⟩)
theorem i_put (S : CallFix p m c cc nL s args lw_all RX3) (hK : KW D ac s) {k : Nat} (hI : IS D ac A G0 H0 mo ad (k :: P) P w H locs) (hk : k < 26) {index : Nat} (hlink : Cond.fieldLink RX3 index RX3 (TX3 k).2.1 (TX3 k).2.2.1 ∈ lw_all) (hT : (TX3 k).1 = RX3) (hfin : (TX3 k).2.2.2 = true) (hin2 : meth.name = "<init>") (hn : narrow (tyX3 k) (.ref (ad k)) = .ref (ad k)) (hfit : fits (tyX3 k) (.ref (ad k)) = true) (hv : (mfsP ad P).set k (.ref (ad k)) = mfsP ad (k :: P)) (hdg : decode cc pc = .ok (.putfield index, 3))
    (kk : ∀ (H1 : Heap) (locs1 : List Loc), IS D ac A G0 H0 mo ad (k :: P) (k :: P) w H1 locs1 → W p l e R s m args below meth c H1 locs1 cells slots Q (F0 m (pc + 3) ls rest)) : W p l e R s m args below meth c H locs cells slots Q (F0 m pc ls (.ref (ad k) :: .ref mo :: rest)) := by
  obtain ⟨G, h1, h2, h3⟩ := hI
  refine g_putF S hK h1 h2.1 in_X3 tyX3 tyX3_ok nmX3 rfl k hk hlink (fun x h => by rw [hT] at h; exact h) hfin hin2 hT hn hfit (by show k < 26; exact hk) hdg (fun H1 locs1 hS _ => ?_)
  rw [hv] at hS
  refine kk H1 locs1 ⟨_, hS, ⟨gup_s _ _ _, fun i hi => ?_⟩, h3.tr (KP.up h2.1)⟩
  rw [gup_n (g_ne (h2.2 i hi) h2.1 (Or.inr (by omega)))]
  exact h2.2 i hi
end IR
