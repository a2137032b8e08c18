/-! the meadow's days, over the row r (as the model lays it) -/
set_option maxRecDepth 100000
/-- a row as the model's first -/
abbrev rA (r : Nat → Int32) : Nat → Nat → Int32 := fun _ => r
