/-! A mover's numbers. -/
set_option maxRecDepth 100000
def mvN (x y z t : Int32) : Nat → Int32 := fun i => if i = 0 then x else if i = 1 then y else if i = 2 then z else t
