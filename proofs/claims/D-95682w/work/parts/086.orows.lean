/-! Rows over the object store. -/
set_option maxRecDepth 100000
/-- an array, bare or a unit's own -/
def aAt (O : gO) (q n : Nat) (x : vp_A) : Prop := O q = some (.inl (n, x)) ∨ ∃ (a ci k : Nat) (fs : List Value) (ar : Nat → Option (Nat × vp_A)), O a = some (.inr (ci, fs, ar)) ∧ fs[k]? = some (.ref q) ∧ ar k = some (n, x)
theorem aAt.own {O : gO} {q n a ci k : Nat} {x : vp_A} {fs : List Value} {ar : Nat → Option (Nat × vp_A)} (h : O a = some (.inr (ci, fs, ar))) (h1 : fs[k]? = some (.ref q)) (h2 : ar k = some (n, x)) : aAt O q n x := Or.inr ⟨a, ci, k, fs, ar, h, h1, h2⟩
theorem sup.aAt {ac : Nat → ClassId} {G : gG} {O : gO} {q n : Nat} {x : vp_A} (h : sup ac G O) (ha : aAt O q n x) : ∃ t j, G q = some (t, j, .inl (ac n, x)) := by
  rcases ha with h1 | ⟨a, ci, k, fs, ar, h1, h2, h3⟩
  · exact ⟨_, _, h q _ h1⟩
  · obtain ⟨q', e1, e2⟩ := (h a _ h1).2 k n x h3
    rw [h2] at e1
    cases e1
    exact ⟨_, _, e2⟩
theorem sup.fresh {D : va_G} {ac : Nat → ClassId} {A : Nat → Prop} {H0 : Heap} {G : gG} {O : gO} {H : Heap} {locs : List Loc} (h : sup ac G O) (hS : gS D A H0 G H locs) : O H.size = none := by
  cases e : O H.size with
  | none => rfl
  | some u =>
    obtain ⟨e', he⟩ := (h _ u e).root
    rw [hS.fresh] at he
    cases he
section OR
variable {p : Program} {l : Launch} {e : Env} {R : Room} {s : State} {m : MethodId} {args : Array Value} {below : List Frame} {meth : Method} {c : Code} {H : Heap} {locs : List Loc} {cells slots : Nat} {Q : State → Prop}
variable {cc : ByteArray} {pc nL : Nat} {ls : Array Slot} {rest : List Value} {D : va_G} {ac : Nat → ClassId} {A : Nat → Prop} {a : Nat} {H0 : Heap} {O : gO} {own : String}

theorem o_get (S : CallFix p m c cc nL s args lw_all own) (hK : KW D ac s) (hM : OS D ac A H0 O H locs) {ci : Nat} {fs : List Value} {ar : Nat → Option (Nat × vp_A)} (hO : O a = some (.inr (ci, fs, ar))) {C ref : String} {T : u_T} {N index : Nat} (hin : ∀ w ∈ u_ws C T N, w ∈ lw_all) (hc : vwCl[ci]? = some (C, T, N)) (k : Nat) (hk : k < N) (hlink : Cond.fieldLink own index ref (T k).2.1 (T k).2.2.1 ∈ lw_all) (hsame : ∀ x, s.fieldFound? (T k).1 (T k).2.1 (T k).2.2.1 = some x → s.fieldFound? ref (T k).2.1 (T k).2.2.1 = some x) {v : Value} (hv : fs[k]? = some v) (hdg : decode cc pc = .ok (.getfield index, 3))
    (kk : W p l e R s m args below meth c H locs cells slots Q (F0 m (pc + 3) ls (v :: rest))) : W p l e R s m args below meth c H locs cells slots Q (F0 m pc ls (.ref a :: rest)) := by
  obtain ⟨G, h1, h2⟩ := hM
  exact g_get S hK h1 (h2 a _ hO).1 hin hc k hk hlink hsame hv hdg kk
theorem o_getN (S : CallFix p m c cc nL s args lw_all own) (hK : KW D ac s) (hM : OS D ac A H0 O H locs) {ci : Nat} {fs : List Value} {ar : Nat → Option (Nat × vp_A)} (hO : O a = some (.inr (ci, fs, ar))) {C ref host : String} {T : u_T} {N index : Nat} (hin : ∀ w ∈ u_ws C T N, w ∈ lw_all) (hc : vwCl[ci]? = some (C, T, N)) (k : Nat) (hk : k < N) (hlink : va_Nw (.fieldLinkNest own index ref (T k).2.1 (T k).2.2.1 host) s) (hsame : ∀ x, s.fieldFound? (T k).1 (T k).2.1 (T k).2.2.1 = some x → s.fieldFound? ref (T k).2.1 (T k).2.2.1 = some x) {v : Value} (hv : fs[k]? = some v) (hdg : decode cc pc = .ok (.getfield index, 3))
    (kk : W p l e R s m args below meth c H locs cells slots Q (F0 m (pc + 3) ls (v :: rest))) : W p l e R s m args below meth c H locs cells slots Q (F0 m pc ls (.ref a :: rest)) := by
  obtain ⟨G, h1, h2⟩ := hM
  exact g_getN S hK h1 (h2 a _ hO).1 hin hc k hk hlink hsame hv hdg kk
theorem o_put (S : CallFix p m c cc nL s args lw_all own) (hK : KW D ac s) (hM : OS D ac A H0 O H locs) {ci : Nat} {fs : List Value} {ar : Nat → Option (Nat × vp_A)} (hO : O a = some (.inr (ci, fs, ar))) {C ref : String} {T : u_T} {N index : Nat} (hin : ∀ w ∈ u_ws C T N, w ∈ lw_all) (ty0 : Nat → FieldType) (hty : ∀ k, k < N → parseFieldDescriptor (T k).2.2.1 = some (ty0 k)) (hnm : ∀ a, a < N → ∀ b, b < N → a ≠ b → (T a).2.1 ≠ (T b).2.1) (hc : vwCl[ci]? = some (C, T, N)) (k : Nat) (hk : k < N) (hlink : Cond.fieldLink own index ref (T k).2.1 (T k).2.2.1 ∈ lw_all) (hsame : ∀ x, s.fieldFound? (T k).1 (T k).2.1 (T k).2.2.1 = some x → s.fieldFound? ref (T k).2.1 (T k).2.2.1 = some x) (hfin : (T k).2.2.2 = false) {v : Value} (hn : narrow (ty0 k) v = v) (hfit : fits (ty0 k) v = true) (hl : k < fs.length) (har : ar k = none) (hdg : decode cc pc = .ok (.putfield index, 3))
    (kk : ∀ (H1 : Heap) (locs1 : List Loc), OS D ac A H0 (oup O a (.inr (ci, fs.set k v, ar))) H1 locs1 → W p l e R s m args below meth c H1 locs1 cells slots Q (F0 m (pc + 3) ls rest)) : W p l e R s m args below meth c H locs cells slots Q (F0 m pc ls (v :: .ref a :: rest)) := by
  obtain ⟨G, h1, h2⟩ := hM
  exact g_put S hK h1 (h2 a _ hO).1 hin ty0 hty hnm hc k hk hlink hsame hfin hn hfit hl hdg (fun H1 locs1 hS _ => kk H1 locs1 ⟨_, hS, h2.put hO har⟩)
theorem o_putN (S : CallFix p m c cc nL s args lw_all own) (hK : KW D ac s) (hM : OS D ac A H0 O H locs) {ci : Nat} {fs : List Value} {ar : Nat → Option (Nat × vp_A)} (hO : O a = some (.inr (ci, fs, ar))) {C ref host : String} {T : u_T} {N index : Nat} (hin : ∀ w ∈ u_ws C T N, w ∈ lw_all) (ty0 : Nat → FieldType) (hty : ∀ k, k < N → parseFieldDescriptor (T k).2.2.1 = some (ty0 k)) (hnm : ∀ a, a < N → ∀ b, b < N → a ≠ b → (T a).2.1 ≠ (T b).2.1) (hc : vwCl[ci]? = some (C, T, N)) (k : Nat) (hk : k < N) (hlink : va_Nw (.fieldLinkNest own index ref (T k).2.1 (T k).2.2.1 host) s) (hsame : ∀ x, s.fieldFound? (T k).1 (T k).2.1 (T k).2.2.1 = some x → s.fieldFound? ref (T k).2.1 (T k).2.2.1 = some x) (hfin : (T k).2.2.2 = false) {v : Value} (hn : narrow (ty0 k) v = v) (hfit : fits (ty0 k) v = true) (hl : k < fs.length) (har : ar k = none) (hdg : decode cc pc = .ok (.putfield index, 3))
    (kk : ∀ (H1 : Heap) (locs1 : List Loc), OS D ac A H0 (oup O a (.inr (ci, fs.set k v, ar))) H1 locs1 → W p l e R s m args below meth c H1 locs1 cells slots Q (F0 m (pc + 3) ls rest)) : W p l e R s m args below meth c H locs cells slots Q (F0 m pc ls (v :: .ref a :: rest)) := by
  obtain ⟨G, h1, h2⟩ := hM
  exact g_putN S hK h1 (h2 a _ hO).1 hin ty0 hty hnm hc k hk hlink hsame hfin hn hfit hl hdg (fun H1 locs1 hS _ => kk H1 locs1 ⟨_, hS, h2.put hO har⟩)
theorem o_putF (S : CallFix p m c cc nL s args lw_all own) (hK : KW D ac s) (hM : OS D ac A H0 O H locs) {ci : Nat} {fs : List Value} {ar : Nat → Option (Nat × vp_A)} (hO : O a = some (.inr (ci, fs, ar))) {C ref : String} {T : u_T} {N index : Nat} (hin : ∀ w ∈ u_ws C T N, w ∈ lw_all) (ty0 : Nat → FieldType) (hty : ∀ k, k < N → parseFieldDescriptor (T k).2.2.1 = some (ty0 k)) (hnm : ∀ a, a < N → ∀ b, b < N → a ≠ b → (T a).2.1 ≠ (T b).2.1) (hc : vwCl[ci]? = some (C, T, N)) (k : Nat) (hk : k < N) (hlink : Cond.fieldLink own index ref (T k).2.1 (T k).2.2.1 ∈ lw_all) (hsame : ∀ x, s.fieldFound? (T k).1 (T k).2.1 (T k).2.2.1 = some x → s.fieldFound? ref (T k).2.1 (T k).2.2.1 = some x) (hfin : (T k).2.2.2 = true) (hin2 : meth.name = "<init>") (hdecl : (T k).1 = own) {v : Value} (hn : narrow (ty0 k) v = v) (hfit : fits (ty0 k) v = true) (hl : k < fs.length) (har : ar k = none) (hdg : decode cc pc = .ok (.putfield index, 3))
    (kk : ∀ (H1 : Heap) (locs1 : List Loc), OS D ac A H0 (oup O a (.inr (ci, fs.set k v, ar))) H1 locs1 → W p l e R s m args below meth c H1 locs1 cells slots Q (F0 m (pc + 3) ls rest)) : W p l e R s m args below meth c H locs cells slots Q (F0 m pc ls (v :: .ref a :: rest)) := by
  obtain ⟨G, h1, h2⟩ := hM
  exact g_putF S hK h1 (h2 a _ hO).1 hin ty0 hty hnm hc k hk hlink hsame hfin hin2 hdecl hn hfit hl hdg (fun H1 locs1 hS _ => kk H1 locs1 ⟨_, hS, h2.put hO har⟩)
theorem o_adopt (S : CallFix p m c cc nL s args lw_all own) (hK : KW D ac s) (hM : OS D ac A H0 O H locs) {ci : Nat} {fs : List Value} {ar : Nat → Option (Nat × vp_A)} (hO : O a = some (.inr (ci, fs, ar))) {C ref : String} {T : u_T} {N index : Nat} (hin : ∀ w ∈ u_ws C T N, w ∈ lw_all) (ty0 : Nat → FieldType) (hty : ∀ k, k < N → parseFieldDescriptor (T k).2.2.1 = some (ty0 k)) (hnm : ∀ a, a < N → ∀ b, b < N → a ≠ b → (T a).2.1 ≠ (T b).2.1) (hc : vwCl[ci]? = some (C, T, N)) (k : Nat) (hk : k < N) (hlink : Cond.fieldLink own index ref (T k).2.1 (T k).2.2.1 ∈ lw_all) (hsame : ∀ x, s.fieldFound? (T k).1 (T k).2.1 (T k).2.2.1 = some x → s.fieldFound? ref (T k).2.1 (T k).2.2.1 = some x) (hfin : (T k).2.2.2 = false) {q n : Nat} {x : vp_A} (hq : O q = some (.inl (n, x))) (hn : narrow (ty0 k) (.ref q) = .ref q) (hfit : fits (ty0 k) (.ref q) = true) (hl : k < fs.length) (hdg : decode cc pc = .ok (.putfield index, 3))
    (kk : ∀ (H1 : Heap) (locs1 : List Loc), OS D ac A H0 (oup (odel O q) a (.inr (ci, fs.set k (.ref q), aset ar k (n, x)))) H1 locs1 → W p l e R s m args below meth c H1 locs1 cells slots Q (F0 m (pc + 3) ls rest)) : W p l e R s m args below meth c H locs cells slots Q (F0 m pc ls (.ref q :: .ref a :: rest)) := by
  obtain ⟨G, h1, h2⟩ := hM
  refine g_put S hK h1 (h2 a _ hO).1 hin ty0 hty hnm hc k hk hlink hsame hfin hn hfit hl hdg (fun H1 locs1 hS _ => kk H1 locs1 ⟨_, ?_, h2.adopt hO hq hl⟩)
  have hne : q ≠ a := fun e => by rw [e, hO] at hq; cases hq
  refine ⟨fun b t j e' hb => ?_, hS.2⟩
  by_cases hbq : b = q
  · subst hbq
    rw [gup_s] at hb
    cases hb
    exact hS.1 b _ _ _ (by rw [gup_n hne]; exact h2 b _ hq)
  · rw [gup_n hbq] at hb
    exact hS.1 b _ _ _ hb
theorem o_adoptF (S : CallFix p m c cc nL s args lw_all own) (hK : KW D ac s) (hM : OS D ac A H0 O H locs) {ci : Nat} {fs : List Value} {ar : Nat → Option (Nat × vp_A)} (hO : O a = some (.inr (ci, fs, ar))) {C ref : String} {T : u_T} {N index : Nat} (hin : ∀ w ∈ u_ws C T N, w ∈ lw_all) (ty0 : Nat → FieldType) (hty : ∀ k, k < N → parseFieldDescriptor (T k).2.2.1 = some (ty0 k)) (hnm : ∀ a, a < N → ∀ b, b < N → a ≠ b → (T a).2.1 ≠ (T b).2.1) (hc : vwCl[ci]? = some (C, T, N)) (k : Nat) (hk : k < N) (hlink : Cond.fieldLink own index ref (T k).2.1 (T k).2.2.1 ∈ lw_all) (hsame : ∀ x, s.fieldFound? (T k).1 (T k).2.1 (T k).2.2.1 = some x → s.fieldFound? ref (T k).2.1 (T k).2.2.1 = some x) (hfin : (T k).2.2.2 = true) (hin2 : meth.name = "<init>") (hdecl : (T k).1 = own) {q n : Nat} {x : vp_A} (hq : O q = some (.inl (n, x))) (hn : narrow (ty0 k) (.ref q) = .ref q) (hfit : fits (ty0 k) (.ref q) = true) (hl : k < fs.length) (hdg : decode cc pc = .ok (.putfield index, 3))
    (kk : ∀ (H1 : Heap) (locs1 : List Loc), OS D ac A H0 (oup (odel O q) a (.inr (ci, fs.set k (.ref q), aset ar k (n, x)))) H1 locs1 → W p l e R s m args below meth c H1 locs1 cells slots Q (F0 m (pc + 3) ls rest)) : W p l e R s m args below meth c H locs cells slots Q (F0 m pc ls (.ref q :: .ref a :: rest)) := by
  obtain ⟨G, h1, h2⟩ := hM
  refine g_putF S hK h1 (h2 a _ hO).1 hin ty0 hty hnm hc k hk hlink hsame hfin hin2 hdecl hn hfit hl hdg (fun H1 locs1 hS _ => kk H1 locs1 ⟨_, ?_, h2.adopt hO hq hl⟩)
  have hne : q ≠ a := fun e => by rw [e, hO] at hq; cases hq
  refine ⟨fun b t j e' hb => ?_, hS.2⟩
  by_cases hbq : b = q
  · subst hbq
    rw [gup_s] at hb
    cases hb
    exact hS.1 b _ _ _ (by rw [gup_n hne]; exact h2 b _ hq)
  · rw [gup_n hbq] at hb
    exact hS.1 b _ _ _ hb
theorem o_iald (S : CallFix p m c cc nL s args lw_all own) (hK : KW D ac s) (hM : OS D ac A H0 O H locs) {q n N : Nat} {f : Nat → Int32} (hA : aAt O q 0 (N, .inl f)) {i : Int32} (hi : i = nI n) (hn : n < N) (hN : N < 2 ^ 31) (hdg : decode cc pc = .ok (.iaload, 1))
    (kk : W p l e R s m args below meth c H locs cells slots Q (F0 m (pc + 1) ls (.int (f n) :: rest))) : W p l e R s m args below meth c H locs cells slots Q (F0 m pc ls (.int i :: .ref q :: rest)) := by
  obtain ⟨G, h1, h2⟩ := hM
  obtain ⟨t, j, h3⟩ := h2.aAt hA
  exact g_iald S hK h1 h3 hi hn hN hdg kk
theorem o_bald (S : CallFix p m c cc nL s args lw_all own) (hK : KW D ac s) (hM : OS D ac A H0 O H locs) {q n N : Nat} {f : Nat → Int32} (hA : aAt O q 1 (N, .inl f)) {i : Int32} (hi : i = nI n) (hn : n < N) (hN : N < 2 ^ 31) (hdg : decode cc pc = .ok (.baload, 1))
    (kk : W p l e R s m args below meth c H locs cells slots Q (F0 m (pc + 1) ls (.int (f n) :: rest))) : W p l e R s m args below meth c H locs cells slots Q (F0 m pc ls (.int i :: .ref q :: rest)) := by
  obtain ⟨G, h1, h2⟩ := hM
  obtain ⟨t, j, h3⟩ := h2.aAt hA
  exact g_bald S hK h1 h3 hi hn hN hdg kk
theorem o_zald (S : CallFix p m c cc nL s args lw_all own) (hK : KW D ac s) (hM : OS D ac A H0 O H locs) {q n N : Nat} {f : Nat → Int32} (hA : aAt O q 2 (N, .inl f)) {i : Int32} (hi : i = nI n) (hn : n < N) (hN : N < 2 ^ 31) (hdg : decode cc pc = .ok (.baload, 1))
    (kk : W p l e R s m args below meth c H locs cells slots Q (F0 m (pc + 1) ls (.int (f n) :: rest))) : W p l e R s m args below meth c H locs cells slots Q (F0 m pc ls (.int i :: .ref q :: rest)) := by
  obtain ⟨G, h1, h2⟩ := hM
  obtain ⟨t, j, h3⟩ := h2.aAt hA
  exact g_zald S hK h1 h3 hi hn hN hdg kk
theorem o_aald (S : CallFix p m c cc nL s args lw_all own) (hK : KW D ac s) (hM : OS D ac A H0 O H locs) {q n N k : Nat} {C : String} {f : Nat → Option Nat} (hA : aAt O q k (N, .inr (.inr (.inr (.inr f))))) (hk : (acTy ac)[k]? = some (ac k, .object C)) {i : Int32} (hi : i = nI n) (hn : n < N) (hN : N < 2 ^ 31) (hdg : decode cc pc = .ok (.aaload, 1))
    (kk : W p l e R s m args below meth c H locs cells slots Q (F0 m (pc + 1) ls (va_rf (f n) :: rest))) : W p l e R s m args below meth c H locs cells slots Q (F0 m pc ls (.int i :: .ref q :: rest)) := by
  obtain ⟨G, h1, h2⟩ := hM
  obtain ⟨t, j, h3⟩ := h2.aAt hA
  exact g_aald S hK h1 h3 hk hi hn hN hdg kk
theorem o_alen (S : CallFix p m c cc nL s args lw_all own) (hK : KW D ac s) (hM : OS D ac A H0 O H locs) {q n : Nat} {x : vp_A} (hA : aAt O q n x) (hn : n < 7) (hdg : decode cc pc = .ok (.arraylength, 1))
    (kk : W p l e R s m args below meth c H locs cells slots Q (F0 m (pc + 1) ls (.int (nI x.1) :: rest))) : W p l e R s m args below meth c H locs cells slots Q (F0 m pc ls (.ref q :: rest)) := by
  obtain ⟨G, h1, h2⟩ := hM
  obtain ⟨t, j, h3⟩ := h2.aAt hA
  exact g_alen S hK h1 h3 hn hdg kk
theorem o_iast (S : CallFix p m c cc nL s args lw_all own) (hK : KW D ac s) (hM : OS D ac A H0 O H locs) {ci : Nat} {fs : List Value} {ar : Nat → Option (Nat × vp_A)} (hO : O a = some (.inr (ci, fs, ar))) {q n N k : Nat} {f : Nat → Int32} (hq : fs[k]? = some (.ref q)) (har : ar k = some (0, N, .inl f)) {i x : Int32} (hi : i = nI n) (hn : n < N) (hN : N < 2 ^ 31) (hdg : decode cc pc = .ok (.iastore, 1))
    (kk : ∀ (H1 : Heap) (locs1 : List Loc), OS D ac A H0 (oup O a (.inr (ci, fs, aset ar k (0, N, .inl (upd f n x))))) H1 locs1 → W p l e R s m args below meth c H1 locs1 cells slots Q (F0 m (pc + 1) ls rest)) : W p l e R s m args below meth c H locs cells slots Q (F0 m pc ls (.int x :: .int i :: .ref q :: rest)) := by
  obtain ⟨G, h1, h2⟩ := hM
  obtain ⟨q', e1, e2⟩ := (h2 a _ hO).2 k _ _ har
  rw [hq] at e1
  cases e1
  exact g_iast S hK h1 e2 hi hn hN hdg (fun H1 locs1 hS _ => kk H1 locs1 ⟨_, hS, h2.arr hO har hq⟩)
theorem l_iast (S : CallFix p m c cc nL s args lw_all own) (hK : KW D ac s) (hM : OS D ac A H0 O H locs) {q n N : Nat} {f : Nat → Int32} (hO : O q = some (.inl (0, N, .inl f))) {i x : Int32} (hi : i = nI n) (hn : n < N) (hN : N < 2 ^ 31) (hdg : decode cc pc = .ok (.iastore, 1))
    (kk : ∀ (H1 : Heap) (locs1 : List Loc), OS D ac A H0 (oup O q (.inl (0, N, .inl (upd f n x)))) H1 locs1 → W p l e R s m args below meth c H1 locs1 cells slots Q (F0 m (pc + 1) ls rest)) : W p l e R s m args below meth c H locs cells slots Q (F0 m pc ls (.int x :: .int i :: .ref q :: rest)) := by
  obtain ⟨G, h1, h2⟩ := hM
  exact g_iast S hK h1 (h2 q _ hO) hi hn hN hdg (fun H1 locs1 hS _ => kk H1 locs1 ⟨_, hS, h2.loose hO⟩)
theorem o_bast (S : CallFix p m c cc nL s args lw_all own) (hK : KW D ac s) (hM : OS D ac A H0 O H locs) {ci : Nat} {fs : List Value} {ar : Nat → Option (Nat × vp_A)} (hO : O a = some (.inr (ci, fs, ar))) {q n N k : Nat} {f : Nat → Int32} (hq : fs[k]? = some (.ref q)) (har : ar k = some (1, N, .inl f)) {i x : Int32} (hi : i = nI n) (hn : n < N) (hN : N < 2 ^ 31) (hdg : decode cc pc = .ok (.bastore, 1))
    (kk : ∀ (H1 : Heap) (locs1 : List Loc), OS D ac A H0 (oup O a (.inr (ci, fs, aset ar k (1, N, .inl (upd f n (vp_nar .byte x)))))) H1 locs1 → W p l e R s m args below meth c H1 locs1 cells slots Q (F0 m (pc + 1) ls rest)) : W p l e R s m args below meth c H locs cells slots Q (F0 m pc ls (.int x :: .int i :: .ref q :: rest)) := by
  obtain ⟨G, h1, h2⟩ := hM
  obtain ⟨q', e1, e2⟩ := (h2 a _ hO).2 k _ _ har
  rw [hq] at e1
  cases e1
  exact g_bast S hK h1 e2 hi hn hN hdg (fun H1 locs1 hS _ => kk H1 locs1 ⟨_, hS, h2.arr hO har hq⟩)
theorem l_bast (S : CallFix p m c cc nL s args lw_all own) (hK : KW D ac s) (hM : OS D ac A H0 O H locs) {q n N : Nat} {f : Nat → Int32} (hO : O q = some (.inl (1, N, .inl f))) {i x : Int32} (hi : i = nI n) (hn : n < N) (hN : N < 2 ^ 31) (hdg : decode cc pc = .ok (.bastore, 1))
    (kk : ∀ (H1 : Heap) (locs1 : List Loc), OS D ac A H0 (oup O q (.inl (1, N, .inl (upd f n (vp_nar .byte x))))) H1 locs1 → W p l e R s m args below meth c H1 locs1 cells slots Q (F0 m (pc + 1) ls rest)) : W p l e R s m args below meth c H locs cells slots Q (F0 m pc ls (.int x :: .int i :: .ref q :: rest)) := by
  obtain ⟨G, h1, h2⟩ := hM
  exact g_bast S hK h1 (h2 q _ hO) hi hn hN hdg (fun H1 locs1 hS _ => kk H1 locs1 ⟨_, hS, h2.loose hO⟩)
theorem o_zast (S : CallFix p m c cc nL s args lw_all own) (hK : KW D ac s) (hM : OS D ac A H0 O H locs) {ci : Nat} {fs : List Value} {ar : Nat → Option (Nat × vp_A)} (hO : O a = some (.inr (ci, fs, ar))) {q n N k : Nat} {f : Nat → Int32} (hq : fs[k]? = some (.ref q)) (har : ar k = some (2, N, .inl f)) {i x : Int32} (hi : i = nI n) (hn : n < N) (hN : N < 2 ^ 31) (hdg : decode cc pc = .ok (.bastore, 1))
    (kk : ∀ (H1 : Heap) (locs1 : List Loc), OS D ac A H0 (oup O a (.inr (ci, fs, aset ar k (2, N, .inl (upd f n (vp_nar .boolean x)))))) H1 locs1 → W p l e R s m args below meth c H1 locs1 cells slots Q (F0 m (pc + 1) ls rest)) : W p l e R s m args below meth c H locs cells slots Q (F0 m pc ls (.int x :: .int i :: .ref q :: rest)) := by
  obtain ⟨G, h1, h2⟩ := hM
  obtain ⟨q', e1, e2⟩ := (h2 a _ hO).2 k _ _ har
  rw [hq] at e1
  cases e1
  exact g_zast S hK h1 e2 hi hn hN hdg (fun H1 locs1 hS _ => kk H1 locs1 ⟨_, hS, h2.arr hO har hq⟩)
theorem l_zast (S : CallFix p m c cc nL s args lw_all own) (hK : KW D ac s) (hM : OS D ac A H0 O H locs) {q n N : Nat} {f : Nat → Int32} (hO : O q = some (.inl (2, N, .inl f))) {i x : Int32} (hi : i = nI n) (hn : n < N) (hN : N < 2 ^ 31) (hdg : decode cc pc = .ok (.bastore, 1))
    (kk : ∀ (H1 : Heap) (locs1 : List Loc), OS D ac A H0 (oup O q (.inl (2, N, .inl (upd f n (vp_nar .boolean x))))) H1 locs1 → W p l e R s m args below meth c H1 locs1 cells slots Q (F0 m (pc + 1) ls rest)) : W p l e R s m args below meth c H locs cells slots Q (F0 m pc ls (.int x :: .int i :: .ref q :: rest)) := by
  obtain ⟨G, h1, h2⟩ := hM
  exact g_zast S hK h1 (h2 q _ hO) hi hn hN hdg (fun H1 locs1 hS _ => kk H1 locs1 ⟨_, hS, h2.loose hO⟩)
theorem o_aastN (S : CallFix p m c cc nL s args lw_all own) (hK : KW D ac s) (hM : OS D ac A H0 O H locs) {ci : Nat} {fs : List Value} {ar : Nat → Option (Nat × vp_A)} (hO : O a = some (.inr (ci, fs, ar))) {q n N k k0 : Nat} {C : String} {f : Nat → Option Nat} (hq : fs[k]? = some (.ref q)) (har : ar k = some (k0, N, .inr (.inr (.inr (.inr f))))) (hk : (acTy ac)[k0]? = some (ac k0, .object C)) {i : Int32} (hi : i = nI n) (hn : n < N) (hN : N < 2 ^ 31) (hdg : decode cc pc = .ok (.aastore, 1))
    (kk : ∀ (H1 : Heap) (locs1 : List Loc), OS D ac A H0 (oup O a (.inr (ci, fs, aset ar k (k0, N, .inr (.inr (.inr (.inr (va_up f n none)))))))) H1 locs1 → W p l e R s m args below meth c H1 locs1 cells slots Q (F0 m (pc + 1) ls rest)) : W p l e R s m args below meth c H locs cells slots Q (F0 m pc ls (.null :: .int i :: .ref q :: rest)) := by
  obtain ⟨G, h1, h2⟩ := hM
  obtain ⟨q', e1, e2⟩ := (h2 a _ hO).2 k _ _ har
  rw [hq] at e1
  cases e1
  exact g_aastN S hK h1 e2 hk hi hn hN hdg (fun H1 locs1 hS _ => kk H1 locs1 ⟨_, hS, h2.arr hO har hq⟩)
theorem o_aast (S : CallFix p m c cc nL s args lw_all own) (hK : KW D ac s) (hM : OS D ac A H0 O H locs) {ci : Nat} {fs : List Value} {ar : Nat → Option (Nat × vp_A)} (hO : O a = some (.inr (ci, fs, ar))) {q n N k k0 v cv : Nat} {C : String} {f : Nat → Option Nat} (hq : fs[k]? = some (.ref q)) (har : ar k = some (k0, N, .inr (.inr (.inr (.inr f))))) (hk : (acTy ac)[k0]? = some (ac k0, .object C)) {vs : List Value} {va : Nat → Option (Nat × vp_A)} (hv : O v = some (.inr (cv, vs, va))) {r : vw_C} (hc : vwCl[cv]? = some r) (hasg : ∀ comp c0 : ClassId, s.vm.findClass C = some comp → s.vm.findClass r.1 = some c0 → s.vm.assignable c0 comp = true) {i : Int32} (hi : i = nI n) (hn : n < N) (hN : N < 2 ^ 31) (hdg : decode cc pc = .ok (.aastore, 1))
    (kk : ∀ (H1 : Heap) (locs1 : List Loc), OS D ac A H0 (oup O a (.inr (ci, fs, aset ar k (k0, N, .inr (.inr (.inr (.inr (va_up f n (some v))))))))) H1 locs1 → W p l e R s m args below meth c H1 locs1 cells slots Q (F0 m (pc + 1) ls rest)) : W p l e R s m args below meth c H locs cells slots Q (F0 m pc ls (.ref v :: .int i :: .ref q :: rest)) := by
  obtain ⟨G, h1, h2⟩ := hM
  obtain ⟨q', e1, e2⟩ := (h2 a _ hO).2 k _ _ har
  rw [hq] at e1
  cases e1
  exact g_aast S hK h1 e2 hk (h2 v _ hv).1 hc hasg hi hn hN hdg (fun H1 locs1 hS _ => kk H1 locs1 ⟨_, hS, h2.arr hO har hq⟩)
theorem o_copy (S : CallFix p m c cc nL s args lw_all own) (hK : KW D ac s) (hM : OS D ac A H0 O H locs) (hls : ls.size = nL) {index : Nat} (hlink : Cond.methodLink own index arraycopyName ∈ lw_all) (hnat : Cond.native arraycopyName ∈ lw_all) (hstat : Cond.static arraycopyName ∈ lw_all) (hini : Cond.initialized "java/lang/System" ∈ lw_all) {a0 n0 n1 q k : Nat} {f g : Nat → Int32} (hA : aAt O a0 0 (n0, .inl f)) {ci : Nat} {fs : List Value} {ar : Nat → Option (Nat × vp_A)} (hO : O a = some (.inr (ci, fs, ar))) (hq : fs[k]? = some (.ref q)) (har : ar k = some (0, n1, .inl g)) {sp dp n : Int32} {np nd nn : Nat} (h1 : sp = nI np) (h2 : dp = nI nd) (h3 : n = nI nn) (h4 : np + nn ≤ n0) (h5 : nd + nn ≤ n1) (hN0 : n0 < 2 ^ 31) (hN1 : n1 < 2 ^ 31) (hframes : 1 ≤ R.frames) (hlocals : (rest.map fun v => v.category).sum + (nativeFrameWords "java/lang/System" "arraycopy" 5 + 11) ≤ R.locals) (hdg : decode cc pc = .ok (.invokestatic index, 3))
    (kk : ∀ (H1 : Heap) (locs1 : List Loc), OS D ac A H0 (oup O a (.inr (ci, fs, aset ar k (0, n1, .inl (va_cpy f g np nd nn))))) H1 locs1 → W p l e R s m args below meth c H1 locs1 cells slots Q (F0 m (pc + 3) ls rest)) : W p l e R s m args below meth c H locs cells slots Q (F0 m pc ls (.int n :: .int dp :: .ref q :: .int sp :: .ref a0 :: rest)) := by
  obtain ⟨G, g1, g2⟩ := hM
  obtain ⟨t, j, g3⟩ := g2.aAt hA
  obtain ⟨q', e1, e2⟩ := (g2 a _ hO).2 k _ _ har
  rw [hq] at e1
  cases e1
  exact g_copy S hls hlink hnat hstat hini hK g1 0 rfl rfl g3 e2 h1 h2 h3 h4 h5 hN0 hN1 (fun _ _ => rfl) hframes hlocals hdg (fun H1 locs1 hS _ => kk H1 locs1 ⟨_, hS, g2.arr hO har hq⟩)
theorem l_copy (S : CallFix p m c cc nL s args lw_all own) (hK : KW D ac s) (hM : OS D ac A H0 O H locs) (hls : ls.size = nL) {index : Nat} (hlink : Cond.methodLink own index arraycopyName ∈ lw_all) (hnat : Cond.native arraycopyName ∈ lw_all) (hstat : Cond.static arraycopyName ∈ lw_all) (hini : Cond.initialized "java/lang/System" ∈ lw_all) {a0 n0 n1 q : Nat} {f g : Nat → Int32} (hA : aAt O a0 0 (n0, .inl f)) (hO : O q = some (.inl (0, n1, .inl g))) {sp dp n : Int32} {np nd nn : Nat} (h1 : sp = nI np) (h2 : dp = nI nd) (h3 : n = nI nn) (h4 : np + nn ≤ n0) (h5 : nd + nn ≤ n1) (hN0 : n0 < 2 ^ 31) (hN1 : n1 < 2 ^ 31) (hframes : 1 ≤ R.frames) (hlocals : (rest.map fun v => v.category).sum + (nativeFrameWords "java/lang/System" "arraycopy" 5 + 11) ≤ R.locals) (hdg : decode cc pc = .ok (.invokestatic index, 3))
    (kk : ∀ (H1 : Heap) (locs1 : List Loc), OS D ac A H0 (oup O q (.inl (0, n1, .inl (va_cpy f g np nd nn)))) H1 locs1 → W p l e R s m args below meth c H1 locs1 cells slots Q (F0 m (pc + 3) ls rest)) : W p l e R s m args below meth c H locs cells slots Q (F0 m pc ls (.int n :: .int dp :: .ref q :: .int sp :: .ref a0 :: rest)) := by
  obtain ⟨G, g1, g2⟩ := hM
  obtain ⟨t, j, g3⟩ := g2.aAt hA
  exact g_copy S hls hlink hnat hstat hini hK g1 0 rfl rfl g3 (g2 q _ hO) h1 h2 h3 h4 h5 hN0 hN1 (fun _ _ => rfl) hframes hlocals hdg (fun H1 locs1 hS _ => kk H1 locs1 ⟨_, hS, g2.loose hO⟩)
theorem o_newi (S : CallFix p m c cc nL s args lw_all own) (hK : KW D ac s) (hM : OS D ac A H0 O H locs) (harr : Cond.arrayClass .int ∈ lw_all) {n : Int32} {N : Nat} (hn : n = nI N) (hN : N ≤ 65536) (hcells : cells + 1 ≤ R.cells) (hslots : slots + N ≤ R.slots) (hdg : decode cc pc = .ok (.newarray .int, 2))
    (kk : ∀ (q : Nat) (H1 : Heap), O q = none → H0.size ≤ q → OS D ac A H0 (oup O q (.inl (0, N, .inl (fun _ => 0)))) H1 locs → W p l e R s m args below meth c H1 locs (cells + 1) (slots + N) Q (F0 m (pc + 2) ls (.ref q :: rest))) : W p l e R s m args below meth c H locs cells slots Q (F0 m pc ls (.int n :: rest)) := by
  obtain ⟨G, h1, h2⟩ := hM
  exact g_newi H.size 0 S hK h1 harr hn hN hcells hslots hdg (fun H1 hS _ => kk H.size H1 (h2.fresh h1) h1.2.1.1 ⟨_, hS, h2.new h1.fresh (gup_s _ _ _)⟩)
theorem o_newb (S : CallFix p m c cc nL s args lw_all own) (hK : KW D ac s) (hM : OS D ac A H0 O H locs) (harr : Cond.arrayClass .byte ∈ lw_all) {n : Int32} {N : Nat} (hn : n = nI N) (hN : N ≤ 65536) (hcells : cells + 1 ≤ R.cells) (hslots : slots + N ≤ R.slots) (hdg : decode cc pc = .ok (.newarray .byte, 2))
    (kk : ∀ (q : Nat) (H1 : Heap), O q = none → H0.size ≤ q → OS D ac A H0 (oup O q (.inl (1, N, .inl (fun _ => 0)))) H1 locs → W p l e R s m args below meth c H1 locs (cells + 1) (slots + N) Q (F0 m (pc + 2) ls (.ref q :: rest))) : W p l e R s m args below meth c H locs cells slots Q (F0 m pc ls (.int n :: rest)) := by
  obtain ⟨G, h1, h2⟩ := hM
  exact g_newb H.size 0 S hK h1 harr hn hN hcells hslots hdg (fun H1 hS _ => kk H.size H1 (h2.fresh h1) h1.2.1.1 ⟨_, hS, h2.new h1.fresh (gup_s _ _ _)⟩)
theorem o_newz (S : CallFix p m c cc nL s args lw_all own) (hK : KW D ac s) (hM : OS D ac A H0 O H locs) (harr : Cond.arrayClass .boolean ∈ lw_all) {n : Int32} {N : Nat} (hn : n = nI N) (hN : N ≤ 65536) (hcells : cells + 1 ≤ R.cells) (hslots : slots + N ≤ R.slots) (hdg : decode cc pc = .ok (.newarray .boolean, 2))
    (kk : ∀ (q : Nat) (H1 : Heap), O q = none → H0.size ≤ q → OS D ac A H0 (oup O q (.inl (2, N, .inl (fun _ => 0)))) H1 locs → W p l e R s m args below meth c H1 locs (cells + 1) (slots + N) Q (F0 m (pc + 2) ls (.ref q :: rest))) : W p l e R s m args below meth c H locs cells slots Q (F0 m pc ls (.int n :: rest)) := by
  obtain ⟨G, h1, h2⟩ := hM
  exact g_newz H.size 0 S hK h1 harr hn hN hcells hslots hdg (fun H1 hS _ => kk H.size H1 (h2.fresh h1) h1.2.1.1 ⟨_, hS, h2.new h1.fresh (gup_s _ _ _)⟩)
theorem o_newq (S : CallFix p m c cc nL s args lw_all own) (hK : KW D ac s) (hM : OS D ac A H0 O H locs) {C : String} {index k : Nat} (hk : (acTy ac)[k]? = some (ac k, .object C)) (hclink : Cond.classLink own index C ∈ lw_all) (hover : va_AO C s) {n : Int32} {N : Nat} (hn : n = nI N) (hN : N ≤ 65536) (hcells : cells + 1 ≤ R.cells) (hslots : slots + N ≤ R.slots) (hdg : decode cc pc = .ok (.anewarray index, 3))
    (kk : ∀ (q : Nat) (H1 : Heap), O q = none → H0.size ≤ q → OS D ac A H0 (oup O q (.inl (k, N, .inr (.inr (.inr (.inr (fun _ => none))))))) H1 locs → W p l e R s m args below meth c H1 locs (cells + 1) (slots + N) Q (F0 m (pc + 3) ls (.ref q :: rest))) : W p l e R s m args below meth c H locs cells slots Q (F0 m pc ls (.int n :: rest)) := by
  obtain ⟨G, h1, h2⟩ := hM
  exact g_newq H.size 0 S hK h1 hk hclink hover hn hN hcells hslots hdg (fun H1 hS _ => kk H.size H1 (h2.fresh h1) h1.2.1.1 ⟨_, hS, h2.new h1.fresh (gup_s _ _ _)⟩)
theorem o_new (S : CallFix p m c cc nL s args lw_all own) (hK : KW D ac s) (hM : OS D ac A H0 O H locs) {ci : Nat} {C : String} {T : u_T} {N index : Nat} (hin : ∀ w ∈ u_ws C T N, w ∈ lw_all) (ty0 : Nat → FieldType) (hty : ∀ k, k < N → parseFieldDescriptor (T k).2.2.1 = some (ty0 k)) (hcl : Cond.classLink own index C ∈ lw_all) (hinst : Cond.instantiable C N ∈ lw_all) (hini : Cond.initialized C ∈ lw_all) (hc : vwCl[ci]? = some (C, T, N)) {fs : List Value} (hfs : ∀ j, j < N → defaultValue (ty0 j) = vp_V fs j) (hcells : cells + 1 ≤ R.cells) (hslots : slots + N ≤ R.slots) (hdg : decode cc pc = .ok (.new index, 3))
    (kk : ∀ (q : Nat) (H1 : Heap), O q = none → H0.size ≤ q → OS D ac A H0 (oup O q (.inr (ci, fs, fun _ => none))) H1 locs → W p l e R s m args below meth c H1 locs (cells + 1) (slots + N) Q (F0 m (pc + 3) ls (.ref q :: rest))) : W p l e R s m args below meth c H locs cells slots Q (F0 m pc ls rest) := by
  obtain ⟨G, h1, h2⟩ := hM
  exact g_new H.size 0 S hK h1 hin ty0 hty hcl hinst hini hc hfs hcells hslots hdg (fun H1 hS _ => kk H.size H1 (h2.fresh h1) h1.2.1.1 ⟨_, hS, h2.new h1.fresh ⟨gup_s _ _ _, fun _ _ _ h => by cases h⟩⟩)
end OR
