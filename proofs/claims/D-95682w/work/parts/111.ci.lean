/-! How the component's units tell the reference's numbers (v: its int fields, w: its arrays). -/
set_option maxRecDepth 100000
/-- a road's numbers are the row ro -/
def rdR (ro : Nat → Int32) (v : Nat → Int32) (w : Nat → Nat → Int32) (mm : Nat) (kd : Nat → Nat) (mv : Nat → Nat → Int32) : Prop :=
  ro 0 = v 0 ∧ ro 1 = v 1 ∧ ro 2 = v 2 ∧ ro 3 = v 3 ∧ ro 4 = v 4 ∧ ro 5 = nI mm ∧ ro 6 = v 9 ∧ ro 7 = v 11 ∧ (∀ k, k < 6 → ro (8 + 3 * k) = w 5 k ∧ ro (8 + 3 * k + 1) = w 6 k ∧ ro (8 + 3 * k + 2) = w 7 k) ∧
  (∀ j, j < mm → ro (26 + 4 * j) = nI (kd j) ∧ ro (26 + 4 * j + 1) = mv j 1 ∧ ro (26 + 4 * j + 2) = mv j 2 ∧ ro (26 + 4 * j + 3) = mv j 3 ∧ mv j 0 = nI j) ∧ ∀ q, q < 48 → ro (46 + q) = w 10 q
/-- at q lies a road that is told by ro -/
def RI (κ : Nat → Nat) (O : gO) (q : Nat) (ro : Nat → Int32) : Prop := ∃ (v : Nat → Int32) (ad : Nat → Nat) (w : Nat → Nat → Int32) (mm : Nat) (kd : Nat → Nat) (mv : Nat → Nat → Int32), O q = some (rdU v ad w) ∧ rdR ro v w mm kd mv ∧ mvs κ O (ad 8) mm kd mv
/-- a row of numbers that is a road's -/
def roOk (ro : Nat → Int32) : Prop := ∃ n mm tm nt : Nat, ro 4 = nI n ∧ n ≤ 6 ∧ ro 5 = nI mm ∧ mm ≤ 5 ∧ ro 7 = nI tm ∧ tm ≤ 12 ∧ ro 6 = nI nt ∧ nt ≤ 9999 ∧
  (∃ le fe se fi : Nat, ro 0 = nI le ∧ le ≤ 200 ∧ ro 1 = nI fe ∧ fe ≤ 20 ∧ ro 2 = nI se ∧ se ≤ 100 ∧ ro 3 = nI fi ∧ fi ≤ 99) ∧
  (∀ j, j < mm → (∃ k, k < n ∧ ro (26 + 4 * j + 1) = nI k) ∧ (ro (26 + 4 * j + 2) = 0 ∨ ro (26 + 4 * j + 2) = 1) ∧ ∃ r, r ≤ 5 ∧ ro (26 + 4 * j + 3) = nI r) ∧ tmOk ro n tm ∧ ∀ k, k < 6 → ∀ f, f < 3 → ∃ x, x ≤ 200 ∧ ro (8 + 3 * k + f) = nI x
/-- a row (Row) in slot j -/
def rwI (O : gO) (q : Nat) (w : Nat → Nat → Int32) (j : Nat) : Prop := ∃ (x : Int32) (b n : Nat) (f : Nat → Int32), O q = some (cU 5 (fun _ => x) (fun _ => b) (oar 1 0 n f)) ∧ w 2 j = x ∧ 0 ≤ x ∧ w 3 j = nI n ∧ n ≤ 40 ∧ ∀ i, i < n → f i = w 4 (40 * j + i)
/-- any road at q -/
def anyR (O : gO) (q : Nat) : Prop := ∃ (v : Nat → Int32) (ad : Nat → Nat) (w : Nat → Nat → Int32), O q = some (rdU v ad w)
/-- the roads by their places: 0 the road, 1 the trial, 2 .. 25 the past, 26, 27 the images -/
def rol (ad : Nat → Nat) (g : Nat → Nat → Option Nat) (i : Nat) : Option Nat := if i = 0 then some (ad 4) else if i = 1 then some (ad 5) else if i < 26 then g 6 (i - 2) else if i < 28 then g 8 (i - 26) else none
def CI (κ : Nat → Nat) (O : gO) (no : Nat) (v : Nat → Int32) (w : Nat → Nat → Int32) : Prop :=
  ∃ (cv : Nat → Int32) (ad : Nat → Nat) (g : Nat → Nat → Option Nat) (cw : Nat → Nat → Int32), O no = some (nsU cv ad g cw) ∧
    (cv 2 = v 10 ∧ cv 3 = v 11 ∧ cv 7 = v 8 ∧ cv 10 = v 1) ∧
    (∀ T : Nat, v 10 = nI T → T ≤ 400 → ∀ j, j < T → cw 1 j &&& 255 = w 9 j) ∧
    ((∀ j, j < 8 → (g 0 j = none → w 2 j < 0) ∧ ∀ q, g 0 j = some q → rwI O q w j) ∧ ∀ i j q, i < 8 → j < 8 → g 0 i = some q → g 0 j = some q → i = j) ∧
    (∀ i j q, rol ad g i = some q → rol ad g j = some q → i = j) ∧
    RI κ O (ad 4) (w 5) ∧ anyR O (ad 5) ∧
    (∀ a : Nat, v 8 = nI a → a ≤ 24 → ∀ j, j < 24 → (g 6 j = none → a ≤ j) ∧ ∀ q, g 6 j = some q → ∃ (pv : Nat → Int32) (pd : Nat → Nat) (pw : Nat → Nat → Int32), O q = some (rdU pv pd pw) ∧ (j < a → pv 9 = w 7 (7 * j + 6) ∧ ∀ k, k < 6 → pw 6 k = w 7 (7 * j + k))) ∧
    (∀ j, j < 2 → (g 8 j = none ↔ w 22 j = 0) ∧ ∀ q, g 8 j = some q → RI κ O q (fun i => w 23 (94 * j + i))) ∧
    ∃ (tv : Nat → Int32) (td : Nat → Nat) (tf : Nat → Int32), O (ad 9) = some (cU 2 tv td (oar 0 0 16 tf)) ∧ tv 1 = v 25 ∧ ∀ t : Nat, v 25 = nI t → t ≤ 16 → ∀ i, i < t → tf i = w 24 i
/-- what holds of the reference's numbers all through -/
def INV (v : Nat → Int32) (w : Nat → Nat → Int32) : Prop :=
  (∃ a, v 8 = nI a ∧ a ≤ 24 ∧ ∀ j, j < a → (∃ nt, nt ≤ 9999 ∧ w 7 (7 * j + 6) = nI nt) ∧ ∀ k, k < 6 → ∃ x, x ≤ 200 ∧ w 7 (7 * j + k) = nI x) ∧ (∃ T, v 10 = nI T ∧ T ≤ 400 ∧ tpOk (w 9) T) ∧ (∃ t, v 25 = nI t ∧ t ≤ 16) ∧ rowsOk w ∧ roOk (w 5) ∧ ∀ j, j < 2 → ¬ w 22 j = 0 → roOk (fun i => w 23 (94 * j + i))
/-- the reference's units are kept -/
def kp3 (O O1 : gO) : Prop := ∀ (a : Nat) (fs : List Value) (ar : gA), O a = some (.inr (3, fs, ar)) → O1 a = some (.inr (3, fs, ar))
theorem kp3.rf {O : gO} : kp3 O O := fun _ _ _ h => h
theorem kp3.tr {O O1 O2 : gO} (h : kp3 O O1) (h2 : kp3 O1 O2) : kp3 O O2 := fun a fs ar h0 => h2 a fs ar (h a fs ar h0)
theorem kp3.up {O : gO} {a ci : Nat} {fs : List Value} {ar : gA} {u : gU} (ha : O a = some (.inr (ci, fs, ar))) (hc : ci ≠ 3) : kp3 O (oup O a u) := by
  intro b fs' ar' hb
  by_cases h : b = a
  · subst h
    rw [ha] at hb
    simp only [Option.some.injEq, Sum.inr.injEq, Prod.mk.injEq] at hb
    exact absurd hb.1 hc
  · rw [oup_n h]; exact hb
theorem kp3.new {O : gO} {a : Nat} {u : gU} (ha : O a = none) : kp3 O (oup O a u) := by
  intro b fs' ar' hb
  by_cases h : b = a
  · subst h; rw [ha] at hb; cases hb
  · rw [oup_n h]; exact hb
