/-! Builders and strings as units. -/
set_option maxRecDepth 100000
/-- a StringBuilder's int fields: coder, maybeLatin1, count -/
def sbV (cnt : Int32) : Nat → Int32 := fun i => if i = 3 then cnt else 0
abbrev sbU (q cap : Nat) (f : Nat → Int32) (cnt : Int32) : gU := cU 14 (sbV cnt) (fun _ => q) (oar 0 1 cap f)
abbrev strU (q n : Nat) (f : Nat → Int32) : gU := cU 15 (fun _ => 0) (fun _ => q) (oar 0 1 n f)
