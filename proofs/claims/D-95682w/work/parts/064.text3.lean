/-! Stones and movers read. f: the road that is being read. -/
theorem mustV_17 {tp : Nat → Int32} {L : Nat} {v : Nat → Int32} {x : Int32} (h : mustV tp L v x 17 = 0) : v 17 = 0 := by
  by_cases q : v 17 = 0
  · exact q
  · rw [mustV, if_neg q] at h; exact h
theorem numB_17 {tp : Nat → Int32} {v : Nat → Int32} {lo hi : Int32} (h : numB tp v lo hi 17 = 0) : v 17 = 0 := by
  unfold numB at h
  split at h
  · exact absurd h (badV_n v (by decide))
  · exact h
theorem numV_17 {tp : Nat → Int32} {L : Nat} {v : Nat → Int32} {lo hi : Int32} (h : numV tp L v lo hi 17 = 0) : v 17 = 0 := by
  unfold numV at h
  split at h
  · exact h
  · exact numB_17 (mustV_17 h)
theorem endV_17 {tp : Nat → Int32} {L : Nat} {v : Nat → Int32} (h : endV tp L v 17 = 0) : v 17 = 0 := by
  by_cases q : v 17 = 0
  · exact q
  · rw [endV, if_neg q] at h; exact h
theorem begV_17 {tp : Nat → Int32} {L : Nat} {v f : Nat → Int32} {i : Nat} {room : Int32} (h : begV tp L v f i room 17 = 0) : v 17 = 0 ∧ ¬ f i = room := by
  have h2 := mustV_17 h
  split at h2
  · exact absurd h2 (badV_n v (by decide))
  · exact ⟨h2, by assumption⟩
def rsLo (f : Nat → Int32) : Int32 := if f 4 = 0 then 0 else f (8 + 3 * (iN (f 4) - 1) + 1) + 1
def rsV (tp : Nat → Int32) (L : Nat) (v f : Nat → Int32) : Nat → Int32 := endV tp L (numV tp L (numV tp L (begV tp L v f 4 6) 0 200) (rsLo f) (f 0))
def rsA (tp : Nat → Int32) (L : Nat) (v f : Nat → Int32) : Int32 := numR tp (begV tp L v f 4 6)
def rsB (tp : Nat → Int32) (L : Nat) (v f : Nat → Int32) : Int32 := numR tp (numV tp L (begV tp L v f 4 6) 0 200)
def st3 (f : Nat → Int32) (n : Nat) (a b : Int32) : Nat → Int32 := upd (upd (upd f (8 + 3 * n) a) (8 + 3 * n + 1) b) (8 + 3 * n + 2) b
def rsF (tp : Nat → Int32) (L : Nat) (v f : Nat → Int32) : Nat → Int32 :=
  if rsV tp L v f 17 = 0 then upd (st3 f (iN (f 4)) (rsA tp L v f) (rsB tp L v f)) 4 (st3 f (iN (f 4)) (rsA tp L v f) (rsB tp L v f) 4 + 1) else f
def rm1 (tp : Nat → Int32) (L : Nat) (v f : Nat → Int32) : Nat → Int32 := begV tp L v f 5 5
def rmK (tp : Nat → Int32) (L : Nat) (v f : Nat → Int32) : Int32 := kndB (nameV tp (rm1 tp L v f))
def rm2 (tp : Nat → Int32) (L : Nat) (v f : Nat → Int32) : Nat → Int32 := if rm1 tp L v f 17 = 0 then mustV tp L (rm1 tp L v f) (if rmK tp L v f = -1000000 then 0 else 1) else rm1 tp L v f
def rm3 (tp : Nat → Int32) (L : Nat) (v f : Nat → Int32) : Nat → Int32 := numV tp L (rm2 tp L v f) 0 (f 4 - 1)
def rm4 (tp : Nat → Int32) (L : Nat) (v f : Nat → Int32) : Nat → Int32 := numV tp L (rm3 tp L v f) 0 1
def rm5 (tp : Nat → Int32) (L : Nat) (v f : Nat → Int32) : Nat → Int32 := numV tp L (rm4 tp L v f) 1 5
def rmV (tp : Nat → Int32) (L : Nat) (v f : Nat → Int32) : Nat → Int32 := endV tp L (rm5 tp L v f)
def mv4 (f : Nat → Int32) (n : Nat) (a b c d : Int32) : Nat → Int32 := upd (upd (upd (upd f (26 + 4 * n) a) (26 + 4 * n + 1) b) (26 + 4 * n + 2) c) (26 + 4 * n + 3) d
def rmF (tp : Nat → Int32) (L : Nat) (v f : Nat → Int32) : Nat → Int32 :=
  if rmV tp L v f 17 = 0 then upd (mv4 f (iN (f 5)) (rmK tp L v f) (numR tp (rm2 tp L v f)) (numR tp (rm3 tp L v f)) (numR tp (rm4 tp L v f))) 5 (mv4 f (iN (f 5)) (rmK tp L v f) (numR tp (rm2 tp L v f)) (numR tp (rm3 tp L v f)) (numR tp (rm4 tp L v f)) 5 + 1) else f
theorem PV.rs {L : Nat} {v : Nat → Int32} (tp f : Nat → Int32) (h : PV L v) : PV L (rsV tp L v f) := (((h.beg tp 4 6).num tp 0 200).num tp _ _).end_ tp
theorem PV.r1 {L : Nat} {v : Nat → Int32} (tp f : Nat → Int32) (h : PV L v) : PV L (rm1 tp L v f) := h.beg tp 5 5
theorem PV.r2 {L : Nat} {v : Nat → Int32} (tp f : Nat → Int32) (h : PV L v) : PV L (rm2 tp L v f) := by
  unfold rm2
  split
  · exact (h.r1 tp f).must tp _
  · exact h.r1 tp f
theorem PV.r3 {L : Nat} {v : Nat → Int32} (tp f : Nat → Int32) (h : PV L v) : PV L (rm3 tp L v f) := (h.r2 tp f).num tp _ _
theorem PV.r4 {L : Nat} {v : Nat → Int32} (tp f : Nat → Int32) (h : PV L v) : PV L (rm4 tp L v f) := (h.r3 tp f).num tp _ _
theorem PV.r5 {L : Nat} {v : Nat → Int32} (tp f : Nat → Int32) (h : PV L v) : PV L (rm5 tp L v f) := (h.r4 tp f).num tp _ _
theorem PV.rm {L : Nat} {v : Nat → Int32} (tp f : Nat → Int32) (h : PV L v) : PV L (rmV tp L v f) := (h.r5 tp f).end_ tp
theorem rm2_17 {tp : Nat → Int32} {L : Nat} {v f : Nat → Int32} (h : rm2 tp L v f 17 = 0) : rm1 tp L v f 17 = 0 := by
  unfold rm2 at h
  split at h
  · assumption
  · exact h
theorem rs_ok {tp : Nat → Int32} {L : Nat} {v f : Nat → Int32} (h : rsV tp L v f 17 = 0) : v 17 = 0 ∧ ¬ f 4 = 6 := begV_17 (numV_17 (numV_17 (endV_17 h)))
theorem rm_ok {tp : Nat → Int32} {L : Nat} {v f : Nat → Int32} (h : rmV tp L v f 17 = 0) : v 17 = 0 ∧ ¬ f 5 = 5 := begV_17 (rm2_17 (numV_17 (numV_17 (numV_17 (endV_17 h)))))
theorem wup_put (w : Nat → Nat → Int32) (a n : Nat) (x : Int32) : wup w a n x = wput w a (upd (w a) n x) := rfl
