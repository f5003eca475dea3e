theorem cl_figK (l : Launch) (κ : Nat → Nat) (O : gO) (a : Nat) (v : Nat → Int32) (rd : Nat → Nat) (no : Nat) (cv : Nat → Int32) (nd : Nat → Nat) (g : Nat → Nat → Option Nat) (cw : Nat → Nat → Int32) (md : Nat) (tp : Nat → Int32) (L : Nat) (u : Nat → Int32) (lo hi : Int32) (hR : RT O a (nd 1) md tp L u v rd) (hN : O no = some (nsU cv nd g cw)) (htp : ∀ j, j < L → cw 1 j &&& 255 = tp j) (ht : tpOk tp L) (h17 : u 17 = 0) (hk : numV tp L u lo hi 17 = 0) : oM l κ yX6_figure cX6_figure 4 (some .int) ({ frames := 7, cells := 9, slots := 1530, locals := 173 }) [.ref a, .int lo, .int hi] O (fun rv O1 => rv = some (.int (numR tp u)) ∧ kpA O O1 a ∧ ∃ v1 rd1, RT O1 a (nd 1) md tp L (numV tp L u lo hi) v1 rd1) := by
  rcases numV_k (tp := tp) (L := L) (lo := lo) (hi := hi) h17 with ⟨k1, k2, k3, k4, k5⟩ | ⟨k1, -⟩
  · rw [k4, k5]; exact cl_figure l κ O a v rd no cv nd g cw md tp L u lo hi hR hN htp ht k2 k3
  · exact absurd hk (pos_n k1)

theorem cl_figB (l : Launch) (κ : Nat → Nat) (O : gO) (a : Nat) (v : Nat → Int32) (rd : Nat → Nat) (no : Nat) (cv : Nat → Int32) (nd : Nat → Nat) (g : Nat → Nat → Option Nat) (cw : Nat → Nat → Int32) (md : Nat) (tp : Nat → Int32) (L : Nat) (u : Nat → Int32) (lo hi : Int32) (hR : RT O a (nd 1) md tp L u v rd) (hN : O no = some (nsU cv nd g cw)) (htp : ∀ j, j < L → cw 1 j &&& 255 = tp j) (ht : tpOk tp L) (h17 : u 17 = 0) (hk : ¬ numV tp L u lo hi 17 = 0) : oT l κ yX6_figure cX6_figure 4 (some .int) ({ frames := 5, cells := 1, slots := 8, locals := 104 }) [.ref a, .int lo, .int hi] O (fun z O1 => O z = none ∧ O1 = oup O z (ftU (numV tp L u lo hi 17) (numV tp L u lo hi 18))) := by
  rcases numV_k (tp := tp) (L := L) (lo := lo) (hi := hi) h17 with ⟨k1, -⟩ | ⟨-, ⟨k1, k2, k3⟩ | ⟨k1, k2, k3, k4⟩⟩
  · exact absurd k1 hk
  · rw [k2, k3]; exact cl_figT1 l κ O a v rd no cv nd g cw md tp L u lo hi hR hN htp ht k1
  · rw [k3, k4]; exact cl_figT2 l κ O a v rd no cv nd g cw md tp L u lo hi hR hN htp ht k1 k2

theorem cl_signK (l : Launch) (κ : Nat → Nat) (O : gO) (a : Nat) (v : Nat → Int32) (rd : Nat → Nat) (no : Nat) (cv : Nat → Int32) (nd : Nat → Nat) (g : Nat → Nat → Option Nat) (cw : Nat → Nat → Int32) (md : Nat) (tp : Nat → Int32) (L : Nat) (u : Nat → Int32) (hR : RT O a (nd 1) md tp L u v rd) (hN : O no = some (nsU cv nd g cw)) (htp : ∀ j, j < L → cw 1 j &&& 255 = tp j) (ht : tpOk tp L) (h17 : u 17 = 0) (hk : endV tp L u 17 = 0) : oM l κ yX6_sign cX6_sign 1 none ({ frames := 7, cells := 9, slots := 1530, locals := 173 }) [.ref a] O (fun rv O1 => rv = none ∧ kpA O O1 a ∧ ∃ v1 rd1, RT O1 a (nd 1) md tp L (endV tp L u) v1 rd1) := by
  rcases endV_k (tp := tp) (L := L) h17 with ⟨k1, k2, k4⟩ | ⟨k1, -⟩
  · rw [k4]; exact cl_sign l κ O a v rd no cv nd g cw md tp L u hR hN htp ht k2
  · exact absurd hk (pos_n k1)

theorem cl_signB (l : Launch) (κ : Nat → Nat) (O : gO) (a : Nat) (v : Nat → Int32) (rd : Nat → Nat) (no : Nat) (cv : Nat → Int32) (nd : Nat → Nat) (g : Nat → Nat → Option Nat) (cw : Nat → Nat → Int32) (md : Nat) (tp : Nat → Int32) (L : Nat) (u : Nat → Int32) (hR : RT O a (nd 1) md tp L u v rd) (hN : O no = some (nsU cv nd g cw)) (htp : ∀ j, j < L → cw 1 j &&& 255 = tp j) (ht : tpOk tp L) (h17 : u 17 = 0) (hk : ¬ endV tp L u 17 = 0) : oT l κ yX6_sign cX6_sign 1 none ({ frames := 5, cells := 1, slots := 8, locals := 104 }) [.ref a] O (fun z O1 => O z = none ∧ O1 = oup O z (ftU (endV tp L u 17) (endV tp L u 18))) := by
  rcases endV_k (tp := tp) (L := L) h17 with ⟨k1, -⟩ | ⟨-, k1, k2, k3⟩
  · exact absurd k1 hk
  · rw [k2, k3]; exact cl_signT l κ O a v rd no cv nd g cw md tp L u hR hN htp ht k1

theorem cl_begK (l : Launch) (κ : Nat → Nat) (O : gO) (a : Nat) (v : Nat → Int32) (rd : Nat → Nat) (no : Nat) (cv : Nat → Int32) (nd : Nat → Nat) (g : Nat → Nat → Option Nat) (cw : Nat → Nat → Int32) (md : Nat) (tp : Nat → Int32) (L : Nat) (u : Nat → Int32) (f : Nat → Int32) (i n rm : Nat) (hR : RT O a (nd 1) md tp L u v rd) (hN : O no = some (nsU cv nd g cw)) (htp : ∀ j, j < L → cw 1 j &&& 255 = tp j) (ht : tpOk tp L) (h17 : u 17 = 0) (hf : f i = nI n) (hn : n ≤ rm) (hr : rm < 100) (hk : begV tp L u f i (nI rm) 17 = 0) : oM l κ yX6_begin cX6_begin 3 none ({ frames := 7, cells := 9, slots := 1530, locals := 173 }) [.ref a, .int (nI n), .int (nI rm)] O (fun rv O1 => rv = none ∧ kpA O O1 a ∧ ∃ v1 rd1, RT O1 a (nd 1) md tp L (begV tp L u f i (nI rm)) v1 rd1) := by
  rcases begV_k (tp := tp) (L := L) (f := f) (i := i) (room := nI rm) h17 with ⟨k1, k2, k4⟩ | ⟨k1, -⟩
  · rw [k4]; exact cl_begin l κ O a v rd no cv nd g cw md tp L u (nI n) (nI rm) hR hN htp ht (nI_lt (Nat.lt_of_le_of_ne hn (fun e => k2 (by rw [hf, e]))) (by omega))
  · exact absurd hk (pos_n k1)

theorem cl_begB (l : Launch) (κ : Nat → Nat) (O : gO) (a : Nat) (v : Nat → Int32) (rd : Nat → Nat) (no : Nat) (cv : Nat → Int32) (nd : Nat → Nat) (g : Nat → Nat → Option Nat) (cw : Nat → Nat → Int32) (md : Nat) (tp : Nat → Int32) (L : Nat) (u : Nat → Int32) (f : Nat → Int32) (i n rm : Nat) (hR : RT O a (nd 1) md tp L u v rd) (hN : O no = some (nsU cv nd g cw)) (htp : ∀ j, j < L → cw 1 j &&& 255 = tp j) (ht : tpOk tp L) (h17 : u 17 = 0) (hf : f i = nI n) (hn : n ≤ rm) (hr : rm < 100) (hk : ¬ begV tp L u f i (nI rm) 17 = 0) : oT l κ yX6_begin cX6_begin 3 none ({ frames := 5, cells := 1, slots := 8, locals := 104 }) [.ref a, .int (nI n), .int (nI rm)] O (fun z O1 => O z = none ∧ O1 = oup O z (ftU (begV tp L u f i (nI rm) 17) (begV tp L u f i (nI rm) 18))) := by
  rcases begV_k (tp := tp) (L := L) (f := f) (i := i) (room := nI rm) h17 with ⟨k1, -⟩ | ⟨-, k1, k2, k3⟩
  · exact absurd k1 hk
  · rw [k2, k3]; exact cl_beginT l κ O a v rd no cv nd g cw md tp L u (nI n) (nI rm) hR hN htp ht (by rw [show n = rm from neq_t (hf.symm.trans k1)]; exact fun h => Int32.lt_irrefl h)
