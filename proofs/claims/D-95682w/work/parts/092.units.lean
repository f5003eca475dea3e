/-! Units by class, and a list of them in front of the store. -/
set_option maxRecDepth 100000
def oups (O : gO) : List (Nat × gU) → gO
  | [] => O
  | x :: L => oup (oups O L) x.1 x.2
abbrev oad (L : List (Nat × gU)) : List Nat := L.map Prod.fst
theorem oups_off {O : gO} {L : List (Nat × gU)} {a : Nat} (h : a ∉ oad L) : oups O L a = O a := by
  induction L with
  | nil => rfl
  | cons x L ih =>
    simp only [oad, List.map_cons, List.mem_cons, not_or] at h
    rw [oups, oup_n h.1]
    exact ih h.2
theorem oups_at {O : gO} {L : List (Nat × gU)} (hN : (oad L).Nodup) {i a : Nat} {u : gU} (hi : L[i]? = some (a, u)) : oups O L a = some u := by
  induction L generalizing i with
  | nil => simp at hi
  | cons x L ih =>
    simp only [oad, List.map_cons, List.nodup_cons] at hN
    cases i with
    | zero =>
      simp only [List.getElem?_cons_zero, Option.some.injEq] at hi
      rw [oups, hi, oup_s]
    | succ i =>
      rw [List.getElem?_cons_succ] at hi
      have hm : a ∈ L.map Prod.fst := List.mem_map.mpr ⟨(a, u), List.mem_of_getElem? hi, rfl⟩
      rw [oups, oup_n (show a ≠ x.1 from fun e => hN.1 (by rw [← e]; exact hm))]
      exact ih hN.2 hi
theorem oups_set {O : gO} {L : List (Nat × gU)} (hN : (oad L).Nodup) {i a : Nat} {u u' : gU} (hi : L[i]? = some (a, u)) : oup (oups O L) a u' = oups O (L.set i (a, u')) := by
  induction L generalizing i with
  | nil => simp at hi
  | cons x L ih =>
    simp only [oad, List.map_cons, List.nodup_cons] at hN
    cases i with
    | zero =>
      simp only [List.getElem?_cons_zero, Option.some.injEq] at hi
      rw [List.set_cons_zero, oups, oups, hi, oup_oup]
    | succ i =>
      rw [List.getElem?_cons_succ] at hi
      have hm : a ∈ L.map Prod.fst := List.mem_map.mpr ⟨(a, u), List.mem_of_getElem? hi, rfl⟩
      rw [List.set_cons_succ, oups, oups, oup_comm (fun e => hN.1 (by rw [e]; exact hm)), ih hN.2 hi]
theorem oad_set {L : List (Nat × gU)} {i a : Nat} {u u' : gU} (hi : L[i]? = some (a, u)) : oad (L.set i (a, u')) = oad L := by
  induction L generalizing i with
  | nil => rfl
  | cons x L ih =>
    cases i with
    | zero =>
      simp only [List.getElem?_cons_zero, Option.some.injEq] at hi
      simp [oad, hi]
    | succ i =>
      rw [List.getElem?_cons_succ] at hi
      have := ih hi
      simp only [oad] at this
      simp [oad, this]
theorem oad_nd {L L' : List (Nat × gU)} {i a : Nat} {u u' : gU} (h : (oad L).Nodup) (hi : L[i]? = some (a, u)) (hL : L.set i (a, u') = L') : (oad L').Nodup := by
  subst hL
  rw [oad_set hi]
  exact h
theorem oups_id {O : gO} {L : List (Nat × gU)} (h : ∀ x ∈ L, O x.1 = some x.2) : oups O L = O := by
  induction L with
  | nil => rfl
  | cons x L ih =>
    rw [oups, ih (fun y hy => h y (List.mem_cons_of_mem _ hy))]
    exact oup_same (h x List.mem_cons_self)
/-- the heap holds the store O, with the units of L in front -/
def PS (D : va_G) (ac : Nat → ClassId) (A : Nat → Prop) (H0 : Heap) (O : gO) (L : List (Nat × gU)) (H : Heap) (locs : List Loc) : Prop := OS D ac A H0 (oups O L) H locs ∧ (oad L).Nodup
theorem PS.at {D : va_G} {ac : Nat → ClassId} {A : Nat → Prop} {H0 H : Heap} {O : gO} {L : List (Nat × gU)} {locs : List Loc} (h : PS D ac A H0 O L H locs) (i : Nat) {a : Nat} {u : gU} (hi : L[i]? = some (a, u)) : oups O L a = some u := oups_at h.2 hi
theorem PS.set {D : va_G} {ac : Nat → ClassId} {A : Nat → Prop} {H0 H H1 : Heap} {O : gO} {L L' : List (Nat × gU)} {locs locs1 : List Loc} (h : PS D ac A H0 O L H locs) {i a : Nat} {u u' : gU} (hi : L[i]? = some (a, u)) (hO : OS D ac A H0 (oup (oups O L) a u') H1 locs1) (hL : L.set i (a, u') = L') : PS D ac A H0 O L' H1 locs1 := by
  subst hL
  exact ⟨by rw [← oups_set h.2 hi]; exact hO, by rw [oad_set hi]; exact h.2⟩
/-- a unit by its class's number: int fields v, references ad, own arrays ar -/
def fsl (ci : Nat) (v : Nat → Int32) (ad : Nat → Nat) : List Value := match ci with
  | 0 => [.ref (ad 0), .ref (ad 1), .int (v 2), .int (v 3), .ref (ad 4), .ref (ad 5), .ref (ad 6), .int (v 7), .ref (ad 8), .ref (ad 9), .int (v 10), .ref (ad 11)]
  | 1 => [.int (v 0), .int (v 1), .int (v 2), .int (v 3), .int (v 4), .ref (ad 5), .ref (ad 6), .ref (ad 7), .ref (ad 8), .int (v 9), .ref (ad 10), .int (v 11), .ref (ad 12)]
  | 2 => [.ref (ad 0), .int (v 1)]
  | 5 => [.int (v 0), .ref (ad 1)]
  | 6 => [.ref (ad 0), .int (v 1), .int (v 2), .int (v 3), .int (v 4), .int (v 5), .ref (ad 6), .ref (ad 7)]
  | 8 => [.int (v 0), .ref (ad 1), .int (v 2)]
  | 9 => [.int (v 0), .int (v 1), .int (v 2), .int (v 3)]
  | 10 => [.int (v 0), .int (v 1), .int (v 2), .int (v 3)]
  | 11 => [.int (v 0), .int (v 1), .int (v 2), .int (v 3)]
  | 12 => [.int (v 0), .int (v 1), .int (v 2), .int (v 3)]
  | 13 => [.int (v 0), .int (v 1), .int (v 2), .int (v 3)]
  | 14 => [.ref (ad 0), .int (v 1), .int (v 2), .int (v 3)]
  | 15 => [.ref (ad 0), .int (v 1), .int (v 2), .int (v 3)]
  | _ => []
abbrev gA : Type := Nat → Option (Nat × vp_A)
abbrev cU (ci : Nat) (v : Nat → Int32) (ad : Nat → Nat) (ar : gA) : gU := .inr (ci, fsl ci v ad, ar)
def updN (f : Nat → Nat) (k x : Nat) : Nat → Nat := fun i => if i = k then x else f i
theorem updN_s (f : Nat → Nat) (k x : Nat) : updN f k x k = x := if_pos rfl
theorem updN_n {f : Nat → Nat} {k x i : Nat} (h : i ≠ k) : updN f k x i = f i := if_neg h
def aNo : gA := fun _ => none
/-- a road's own arrays -/
def rln (k : Nat) : Nat := match k with
  | 5 => 6
  | 6 => 6
  | 7 => 6
  | 10 => 48
  | 12 => 6
  | _ => 0
def rar (w : Nat → Nat → Int32) : gA := fun k => if rln k = 0 then none else some (0, rln k, .inl (w k))
theorem rar_set (w : Nat → Nat → Int32) {k : Nat} (hk : rln k ≠ 0) (f : Nat → Int32) : aset (rar w) k (0, rln k, .inl f) = rar (wput w k f) := by
  funext i
  unfold aset rar wput
  by_cases h : i = k
  · subst h
    rw [if_pos rfl, if_neg hk, if_pos rfl]
  · rw [if_neg h, if_neg h]
/-- NightStones' own arrays: references g, numbers w -/
def nar (g : Nat → Nat → Option Nat) (w : Nat → Nat → Int32) : gA := fun k => match k with
  | 0 => some (3, 8, .inr (.inr (.inr (.inr (g 0)))))
  | 1 => some (1, 400, .inl (w 1))
  | 6 => some (4, 24, .inr (.inr (.inr (.inr (g 6)))))
  | 8 => some (4, 2, .inr (.inr (.inr (.inr (g 8)))))
  | 11 => some (0, 49, .inl (w 11))
  | _ => none
def gput (g : Nat → Nat → Option Nat) (a : Nat) (f : Nat → Option Nat) : Nat → Nat → Option Nat := fun i => if i = a then f else g i
theorem gput_s (g : Nat → Nat → Option Nat) (a : Nat) (f : Nat → Option Nat) : gput g a f a = f := if_pos rfl
theorem gput_n {g : Nat → Nat → Option Nat} {a i : Nat} {f : Nat → Option Nat} (h : i ≠ a) : gput g a f i = g i := if_neg h
theorem nar_1 (g : Nat → Nat → Option Nat) (w : Nat → Nat → Int32) (f : Nat → Int32) : aset (nar g w) 1 (1, 400, .inl f) = nar g (wput w 1 f) := by
  funext i
  unfold aset
  by_cases h : i = 1
  · subst h; rfl
  · rw [if_neg h]
    unfold nar
    split <;> first | rfl | (exfalso; exact h rfl)
theorem nar_11 (g : Nat → Nat → Option Nat) (w : Nat → Nat → Int32) (f : Nat → Int32) : aset (nar g w) 11 (0, 49, .inl f) = nar g (wput w 11 f) := by
  funext i
  unfold aset
  by_cases h : i = 11
  · subst h; rfl
  · rw [if_neg h]
    unfold nar
    split <;> first | rfl | (exfalso; exact h rfl)
theorem nar_0 (g : Nat → Nat → Option Nat) (w : Nat → Nat → Int32) (f : Nat → Option Nat) : aset (nar g w) 0 (3, 8, .inr (.inr (.inr (.inr f)))) = nar (gput g 0 f) w := by
  funext i
  unfold aset
  by_cases h : i = 0
  · subst h; rfl
  · rw [if_neg h]
    unfold nar
    split <;> first | rfl | (exfalso; exact h rfl)
theorem nar_6 (g : Nat → Nat → Option Nat) (w : Nat → Nat → Int32) (f : Nat → Option Nat) : aset (nar g w) 6 (4, 24, .inr (.inr (.inr (.inr f)))) = nar (gput g 6 f) w := by
  funext i
  unfold aset
  by_cases h : i = 6
  · subst h; rfl
  · rw [if_neg h]
    unfold nar
    split <;> first | rfl | (exfalso; exact h rfl)
theorem nar_8 (g : Nat → Nat → Option Nat) (w : Nat → Nat → Int32) (f : Nat → Option Nat) : aset (nar g w) 8 (4, 2, .inr (.inr (.inr (.inr f)))) = nar (gput g 8 f) w := by
  funext i
  unfold aset
  by_cases h : i = 8
  · subst h; rfl
  · rw [if_neg h]
    unfold nar
    split <;> first | rfl | (exfalso; exact h rfl)
/-- one own array of numbers in field k0 (array class n, N places) -/
def oar (k0 n N : Nat) (f : Nat → Int32) : gA := fun k => if k = k0 then some (n, N, .inl f) else none
theorem oar_set (k0 n N : Nat) (f g : Nat → Int32) : aset (oar k0 n N f) k0 (n, N, .inl g) = oar k0 n N g := by
  funext i
  unfold aset oar
  by_cases h : i = k0 <;> simp [h]
theorem oar_new (k0 n N : Nat) (f : Nat → Int32) : aset aNo k0 (n, N, .inl f) = oar k0 n N f := by
  funext i
  unfold aset oar aNo
  rfl
abbrev rdU (v : Nat → Int32) (ad : Nat → Nat) (w : Nat → Nat → Int32) : gU := cU 1 v ad (rar w)
abbrev nsU (v : Nat → Int32) (ad : Nat → Nat) (g : Nat → Nat → Option Nat) (w : Nat → Nat → Int32) : gU := cU 0 v ad (nar g w)
theorem lw_F {own : String} {idx : Nat} {C : String} {x y : MethodName} {b : ByteArray} {L : Nat} {r : Option FieldType} (h0 : Cond.methodLink own idx x ∈ lw_all) (h1 : Cond.selects C x y ∈ lw_all) (h2 : Cond.instanceMethod y ∈ lw_all) (h3 : Cond.initialized y.cls ∈ lw_all) (hc : Cond.code y b L r ∈ lw_all) : GoodIn lw_all (va_wsF own idx C x y (ws_ y b L r)) := by
  refine lw_app ?_ (lw_meth hc)
  intro w hw
  simp only [List.mem_cons, List.not_mem_nil, or_false] at hw
  rcases hw with e | e | e | e
  · rw [e]; exact h0
  · rw [e]; exact h1
  · rw [e]; exact h2
  · rw [e]; exact h3
theorem lw_U {own : String} {idx : Nat} {C owner : String} {x y : MethodName} {b : ByteArray} {L : Nat} {r : Option FieldType} (h0 : Cond.methodLink own idx x ∈ lw_all) (h1 : Cond.sameMethod x.cls owner x.name x.desc ∈ lw_all) (h2 : Cond.selects C x y ∈ lw_all) (h3 : Cond.instanceMethod y ∈ lw_all) (h4 : Cond.initialized y.cls ∈ lw_all) (hc : Cond.code y b L r ∈ lw_all) : GoodIn lw_all (va_wsU own idx C owner x y (ws_ y b L r)) := by
  refine lw_app ?_ (lw_meth hc)
  intro w hw
  simp only [List.mem_cons, List.not_mem_nil, or_false] at hw
  rcases hw with e | e | e | e | e
  · rw [e]; exact h0
  · rw [e]; exact h1
  · rw [e]; exact h2
  · rw [e]; exact h3
  · rw [e]; exact h4
theorem lw_O {own : String} {idx : Nat} {C owner : String} {x y : MethodName} {b : ByteArray} {L : Nat} {r : Option FieldType} (h0 : Cond.methodLink own idx x ∈ lw_all) (h1 : Cond.sameMethod x.cls owner x.name x.desc ∈ lw_all) (h2 : Cond.instanceMethod ⟨owner, x.name, x.desc⟩ ∈ lw_all) (h3 : Cond.selects C x y ∈ lw_all) (h4 : Cond.instanceMethod y ∈ lw_all) (h5 : Cond.initialized y.cls ∈ lw_all) (hc : Cond.code y b L r ∈ lw_all) : GoodIn lw_all (va_wsO own idx C owner x y (ws_ y b L r)) := by
  refine lw_app ?_ (lw_meth hc)
  intro w hw
  simp only [List.mem_cons, List.not_mem_nil, or_false] at hw
  rcases hw with e | e | e | e | e | e
  · rw [e]; exact h0
  · rw [e]; exact h1
  · rw [e]; exact h2
  · rw [e]; exact h3
  · rw [e]; exact h4
  · rw [e]; exact h5
theorem lw_SU {own : String} {idx : Nat} {y : MethodName} {b : ByteArray} {L : Nat} {r : Option FieldType} (h0 : Cond.methodLink own idx y ∈ lw_all) (h1 : Cond.sameMethod y.cls y.cls y.name y.desc ∈ lw_all) (h2 : Cond.superclass own y.cls ∈ lw_all) (h3 : Cond.instanceMethod y ∈ lw_all) (h4 : Cond.initialized y.cls ∈ lw_all) (hc : Cond.code y b L r ∈ lw_all) : GoodIn lw_all (va_wsSU own idx y (ws_ y b L r)) := by
  refine lw_app ?_ (lw_meth hc)
  intro w hw
  simp only [List.mem_cons, List.not_mem_nil, or_false] at hw
  rcases hw with e | e | e | e | e
  · rw [e]; exact h0
  · rw [e]; exact h1
  · rw [e]; exact h2
  · rw [e]; exact h3
  · rw [e]; exact h4
