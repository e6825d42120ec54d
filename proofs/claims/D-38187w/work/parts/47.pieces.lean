/-! a filament's pieces -/
def lo_pieces (s y : Int32) : List Int32 := if y = 0 then [s + 1, s, s, imax 1 (s - 1), imax 1 (s - 2)] else if y = 1 then [s, s, s, s] else [1, 1, 1]
