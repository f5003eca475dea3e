/-! Weaker ends; a time added or not. -/
set_option maxRecDepth 100000
theorem oM.weak {l : Launch} {κ : Nat → Nat} {y : MethodName} {cc : ByteArray} {nL : Nat} {ret : Option FieldType} {rm : Room} {As : List Value} {O : gO} {Post Post' : Option Value → gO → Prop} (h : oM l κ y cc nL ret rm As O Post) (hp : ∀ rv O1, Post rv O1 → Post' rv O1) : oM l κ y cc nL ret rm As O Post' := by
  intro D ac A p e ha hc hk s m args below hf happ hP hK
  obtain ⟨n, o, h1, h2, h3, ⟨⟨rv, O1, e1, e2, e3⟩, h5⟩, h6⟩ := h D ac A p e ha hc hk s m args below hf happ hP hK
  exact ⟨n, o, h1, h2, h3, ⟨⟨rv, O1, e1, hp rv O1 e2, e3⟩, h5⟩, h6⟩
theorem cr_addT (l : Launch) (κ : Nat → Nat) (O : gO) (a : Nat) (v : Nat → Int32) (ad : Nat → Nat) (w : Nat → Nat → Int32) (x y z t : Int32) (tm : Nat) (hO : O a = some (rdU v ad w)) (et : v 11 = nI tm) (htm : tm < 12) (h : tmC (v 4) x y z t) : oM l κ yX1_addTime cX1_addTime 5 (some .boolean) ({ frames := 1, cells := 0, slots := 0, locals := 25 }) [.ref a, .int x, .int y, .int z, .int t] O (fun rv O1 => rv = some (.int 1) ∧ O1 = oup O a (rdU (upd v 11 (v 11 + 1)) ad (wput w 10 (adC (w 10) tm x y z t)))) :=
  (cr_addTime l κ O a v ad w x y z t tm hO et htm).weak (fun rv O1 hp => hp.1 h)
theorem cr_addF (l : Launch) (κ : Nat → Nat) (O : gO) (a : Nat) (v : Nat → Int32) (ad : Nat → Nat) (w : Nat → Nat → Int32) (x y z t : Int32) (tm : Nat) (hO : O a = some (rdU v ad w)) (et : v 11 = nI tm) (htm : tm < 12) (h : ¬ tmC (v 4) x y z t) : oM l κ yX1_addTime cX1_addTime 5 (some .boolean) ({ frames := 1, cells := 0, slots := 0, locals := 25 }) [.ref a, .int x, .int y, .int z, .int t] O (fun rv O1 => rv = some (.int 0) ∧ O1 = O) :=
  (cr_addTime l κ O a v ad w x y z t tm hO et htm).weak (fun rv O1 hp => hp.2 h)
