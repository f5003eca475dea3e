/-! A road told: its frame. -/
set_option maxRecDepth 100000
theorem PS.base {D : va_G} {ac : Nat → ClassId} {A : Nat → Prop} {H0 H : Heap} {locs : List Loc} {O : gO} {L : List (Nat × gU)} (h : PS D ac A H0 O L H locs) : ∃ O2, O2 = oups O L ∧ PS D ac A H0 O2 L H locs ∧ oups O2 L = O2 := by
  have e : oups (oups O L) L = oups O L := by
    refine oups_id (fun x hx => ?_)
    obtain ⟨j, hj⟩ := List.getElem?_of_mem hx
    exact oups_at h.2 (i := j) (a := x.1) (u := x.2) hj
  exact ⟨_, rfl, ⟨by rw [e]; exact h.1, h.2⟩, e⟩
def okK (O : gO) : List (Nat × gU) → Prop
  | [] => True
  | x :: L => (∃ (ci : Nat) (fs : List Value) (ar : gA), ci < 8 ∧ O x.1 = some (.inr (ci, fs, ar))) ∧ okK O L
theorem okK.off {O : gO} {b ci : Nat} {fs : List Value} {ar : gA} (h8 : 8 ≤ ci) (hb : O b = some (.inr (ci, fs, ar))) : ∀ {L : List (Nat × gU)}, okK O L → b ∉ oad L := by
  intro L
  induction L with
  | nil => intro _; simp
  | cons x L ih =>
    intro h
    obtain ⟨⟨cj, fs', ar', h1, h2⟩, h3⟩ := h
    simp only [oad, List.map_cons, List.mem_cons, not_or]
    exact ⟨o_ne hb h2 (by omega), ih h3⟩
theorem kpM.off {O : gO} {L : List (Nat × gU)} (h : okK O L) : kpM O (oups O L) := by
  intro b ci fs ar h8 hb
  rw [oups_off (okK.off h8 hb h)]
  exact hb
theorem rdR_bec {ro v : Nat → Int32} {w w0 : Nat → Nat → Int32} {mm : Nat} {kd : Nat → Nat} {mv : Nat → Nat → Int32} (h : rdR ro v w mm kd mv) : rdR ro v (becW w0 w) mm kd mv := h
theorem ne_of {O : gO} {b c : Nat} {x : gU} (hb : O b = some x) (hc : O c = none) : b ≠ c := fun e => by rw [e, hc] at hb; cases hb
/-- the reader is made: what lies where -/
theorem rd_made {O O1 : gO} {no n4 q m la : Nat} {uN u4 uR uA uM uL : gU} (hnd : ([no, n4, q] : List Nat).Nodup) (hm : oups O [(no, uN), (n4, u4), (q, uR)] m = none) (hl : oups O [(no, uN), (n4, u4), (q, uR)] la = none) (hq : O q = none) (h3 : ([q, m, la] : List Nat).Nodup) (h1 : O1 = oups (oups O [(no, uN), (n4, u4), (q, uR)]) [(q, uA), (m, uM), (la, uL)]) :
    O1 no = some uN ∧ O1 n4 = some u4 ∧ O1 q = some uA ∧ O1 m = some uM ∧ O1 la = some uL ∧ ([no, n4, q, m] : List Nat).Nodup ∧ (no ∉ [q, m, la] ∧ n4 ∉ [q, m, la]) ∧ ∀ b x, b ∉ [no, n4] → O b = some x → O1 b = some x ∧ b ∉ [q, m, la] ∧ b ∉ [no, n4, q] ∧ b ∉ [no, n4, q, m] := by
  have a0 : oups O [(no, uN), (n4, u4), (q, uR)] no = some uN := oups_at (L := [(no, uN), (n4, u4), (q, uR)]) hnd (i := 0) rfl
  have a1 : oups O [(no, uN), (n4, u4), (q, uR)] n4 = some u4 := oups_at (L := [(no, uN), (n4, u4), (q, uR)]) hnd (i := 1) rfl
  have a2 : oups O [(no, uN), (n4, u4), (q, uR)] q = some uR := oups_at (L := [(no, uN), (n4, u4), (q, uR)]) hnd (i := 2) rfl
  have hk : kpA (oups O [(no, uN), (n4, u4), (q, uR)]) O1 q := by rw [h1]; exact kpA.of ⟨Or.inl rfl, Or.inr (Or.inl hm), Or.inr (Or.inl hl), trivial⟩
  have hn := hnd
  simp only [List.nodup_cons, List.mem_cons, List.mem_singleton, List.not_mem_nil, not_or, or_false, not_false_eq_true, List.nodup_nil, and_true] at hn
  have i1 := ne_of a0 hm
  have i2 := ne_of a0 hl
  have i3 := ne_of a1 hm
  have i4 := ne_of a1 hl
  have i5 := ne_of a2 hm
  have i6 := ne_of a2 hl
  refine ⟨hk no _ hn.1.2 a0, hk n4 _ hn.2 a1, by rw [h1]; exact oups_at (L := [(q, uA), (m, uM), (la, uL)]) h3 (i := 0) rfl, by rw [h1]; exact oups_at (L := [(q, uA), (m, uM), (la, uL)]) h3 (i := 1) rfl, by rw [h1]; exact oups_at (L := [(q, uA), (m, uM), (la, uL)]) h3 (i := 2) rfl, ?_, ⟨?_, ?_⟩, fun b x hb hx => ?_⟩
  · simp only [List.nodup_cons, List.mem_cons, List.mem_singleton, List.not_mem_nil, not_or, or_false, not_false_eq_true, List.nodup_nil, and_true]
    exact ⟨⟨hn.1.1, hn.1.2, i1⟩, ⟨hn.2, i3⟩, i5⟩
  · simp only [List.mem_cons, List.not_mem_nil, not_or, or_false]
    exact ⟨hn.1.2, i1, i2⟩
  · simp only [List.mem_cons, List.not_mem_nil, not_or, or_false]
    exact ⟨hn.2, i3, i4⟩
  · simp only [List.mem_cons, List.not_mem_nil, not_or, or_false] at hb
    have hbq := ne_of hx hq
    have hx0 : oups O [(no, uN), (n4, u4), (q, uR)] b = some x := by
      rw [oups_off (by simp only [oad, List.map, List.mem_cons, List.not_mem_nil, not_or, or_false]; exact ⟨hb.1, hb.2, hbq⟩)]
      exact hx
    have j1 := ne_of hx0 hm
    have j2 := ne_of hx0 hl
    simp only [List.mem_cons, List.not_mem_nil, not_or, or_false]
    exact ⟨hk b x hbq hx0, ⟨hbq, j1, j2⟩, ⟨hb.1, hb.2, hbq⟩, hb.1, hb.2, hbq, j1⟩
theorem rd_based {O O1 O2 : gO} {no n4 q m la : Nat} {uN u4 uA uM uL : gU} (h2 : O2 = oups O1 [(no, uN), (n4, u4), (q, uA)]) (hm : O1 m = some uM) (hl : O1 la = some uL) (h6 : ([no, n4, q, m] : List Nat).Nodup) (h7 : no ∉ [q, m, la] ∧ n4 ∉ [q, m, la]) (h3 : ([q, m, la] : List Nat).Nodup) (hF : ∀ b x, b ∉ [no, n4] → O b = some x → O1 b = some x ∧ b ∉ [q, m, la] ∧ b ∉ [no, n4, q] ∧ b ∉ [no, n4, q, m]) : O2 m = some uM ∧ O2 la = some uL ∧ ∀ b x, b ∉ [no, n4] → O b = some x → O2 b = some x := by
  simp only [List.nodup_cons, List.mem_cons, List.mem_singleton, List.not_mem_nil, not_or, or_false, not_false_eq_true, List.nodup_nil, and_true] at h6 h7 h3
  refine ⟨?_, ?_, fun b x hb hx => ?_⟩
  · rw [h2, oups_off (by simp only [oad, List.map, List.mem_cons, List.not_mem_nil, not_or, or_false]; exact ⟨fun e => h6.1.2.2 e.symm, fun e => h6.2.1.2 e.symm, fun e => h3.1.1 e.symm⟩)]
    exact hm
  · rw [h2, oups_off (by simp only [oad, List.map, List.mem_cons, List.not_mem_nil, not_or, or_false]; exact ⟨fun e => h7.1.2.2 e.symm, fun e => h7.2.2.2 e.symm, fun e => h3.1.2 e.symm⟩)]
    exact hl
  · rw [h2, oups_off (L := [(no, uN), (n4, u4), (q, uA)]) (hF b x hb hx).2.2.1]
    exact (hF b x hb hx).1
