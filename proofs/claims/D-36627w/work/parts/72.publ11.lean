/-! THE CHECKSUM (plain) -/
def ckI (r : Nat → Int) : Nat → Int → Int
  | 0, c => c
  | k + 1, c => 31 * ckI r k c + r k
def ckR (S : Nat → Nat → Int) : Nat → Int → Int
  | 0, c => c
  | i + 1, c => ckI (S i) 7 (ckR S i c)
def ckV (lv lo hi rt : Nat → Int) : Nat → Int → Int
  | 0, c => c
  | k + 1, c => 31 * (31 * (31 * (31 * ckV lv lo hi rt k c + lv k) + lo k) + hi k) + rt k
