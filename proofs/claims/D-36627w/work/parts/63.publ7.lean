/-! THE INTERVALS: READING THEM (plain) -/
def opTrue (S : Nat → Nat → Int) (a : Int) : zRp := if 0 ≤ a ∧ a < 5 then (1, 0, S) else (0, 1, S)
def opRts (S : Nat → Nat → Int) (many : Int) (rt : Nat → Int) (x : Int) : zRp := if 0 ≤ x ∧ x < many then (rt x.toNat, 0, S) else (0, 1, S)
def opIv (S : Nat → Nat → Int) (many : Int) (lv lo hi : Nat → Int) (x q : Int) : zRp := if 0 ≤ x ∧ x < many then (if q = 100 ∨ q = 109 ∨ q = 110 then ((if q = 100 then lv x.toNat else if q = 109 then lo x.toNat else hi x.toNat), 0, S) else (0, 2, S)) else (0, 1, S)
