theorem restF_A {ro f : Nat → Int32} {n mm nt k : Nat} {st : Int32} (hk : k < 62) (hst : st = 0) : restF ro n mm nt (62 - (k + 1)) (k + 1) (if eqL (goF ro n (nt + k) 31 f mm) f n = true then 1 else 0) (goF ro n (nt + k) 31 f mm) = restF ro n mm nt (62 - k) k st f := by
  subst hst
  rw [show 62 - k = (62 - (k + 1)) + 1 by omega, restF]
  by_cases h : eqL (goF ro n (nt + k) 31 f mm) f n = true
  · rw [if_pos h, if_pos h, if_neg (by decide)]
    rfl
  · rw [if_neg h, if_neg h, if_neg (by decide)]
theorem restF_B {ro f : Nat → Int32} {n mm nt k : Nat} {st : Int32} (hk : k < 62) (h : ¬ eqL (goF ro n (nt + k) 31 f mm) f n = true) : restF ro n mm nt (62 - (k + 1)) (k + 1) (if eqL (goF ro n (nt + k) 31 f mm) f n = true then 1 else 0) (goF ro n (nt + k) 31 f mm) = restF ro n mm nt (62 - k) k st f := by
  rw [show 62 - k = (62 - (k + 1)) + 1 by omega, restF, if_neg h, if_neg h, if_neg (by decide)]
theorem restF_C {ro f : Nat → Int32} {n mm nt k : Nat} {st : Int32} (hk : k < 62) (hst : st = 1) (h : eqL (goF ro n (nt + k) 31 f mm) f n = true) : restF ro n mm nt (62 - k) k st f = nI k - 1 := by
  subst hst
  rw [show 62 - k = (62 - (k + 1)) + 1 by omega, restF, if_pos h, if_pos (by decide)]
/-- so many nights from home with a set: whether they stand as they are; sets counted upwards, the first of them -/
noncomputable def stC (ro : Nat → Int32) (n mm t : Nat) (rw : Nat → Nat → Int32) (z : Nat) : Bool := eqL (ntsF ro n mm (nI z) (rw 7) t) (rw 6) n
def wcU (P : Nat → Bool) : Nat → Int32
  | 0 => 0
  | k + 1 => if P k = true then wcU P k + 1 else wcU P k
def wlU (P : Nat → Bool) : Nat → Int32
  | 0 => -1000000
  | k + 1 => if P k = true then (if wcU P k = 0 then nI k else wlU P k) else wlU P k
