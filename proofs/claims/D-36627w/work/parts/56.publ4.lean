/-! BOUNDS AND REFUSALS (plain) -/
def bmost (p : Nat → Int) : Nat → Int
  | 0 => 0
  | k + 1 => max (bmost p k) ((p k).natAbs : Int)
def bnL : Nat → Int → Int → Int → Int
  | 0, _, _, b => b
  | n + 1, m, l, b => if (b - 1) * l < m then bnL n m l (b * 2) else b
def bnd (p : Nat → Int) : Int := bnL 14 (bmost p (pdeg p).toNat) ((p (pdeg p).toNat).natAbs : Int) 1
theorem bmost_in {p : Nat → Int} (h : ∀ k, k < 7 → -9999 ≤ p k ∧ p k ≤ 9999) : ∀ n, n ≤ 7 → 0 ≤ bmost p n ∧ bmost p n ≤ 9999 := by
  intro n
  induction n with
  | zero => intro _; exact ⟨Int.le_refl _, by show (0 : Int) ≤ 9999; decide⟩
  | succ n ih =>
    intro hn
    have h1 := ih (by omega)
    have h2 := h n (by omega)
    show 0 ≤ max (bmost p n) ((p n).natAbs : Int) ∧ max (bmost p n) ((p n).natAbs : Int) ≤ 9999
    omega
theorem bn_mul {b l : Int} (hb : 1 ≤ b ∧ b ≤ 16384) (hl : 1 ≤ l ∧ l ≤ 9999) : b - 1 ≤ (b - 1) * l ∧ (b - 1) * l ≤ 163840000 := by
  have h1 : (b - 1) * 1 ≤ (b - 1) * l := Int.mul_le_mul_of_nonneg_left hl.1 (by omega)
  have h2 : (b - 1) * l ≤ (b - 1) * 9999 := Int.mul_le_mul_of_nonneg_left hl.2 (by omega)
  omega
theorem bn_pow {b : Int} {n : Nat} (h : b * 2 ^ n = 16384) (hb : 1 ≤ b) : b ≤ 16384 := by
  have h2 : (1 : Int) ≤ 2 ^ n := by
    have : 0 < (2 : Nat) ^ n := Nat.pow_pos (by decide)
    have e : ((2 ^ n : Nat) : Int) = (2 : Int) ^ n := Int.natCast_pow 2 n
    rw [← e]; omega
  have h3 : b * 1 ≤ b * 2 ^ n := Int.mul_le_mul_of_nonneg_left h2 (by omega)
  omega
theorem pt_in {n : Int} {e : Nat} (hn : -1000000 ≤ n ∧ n ≤ 1000000) (he : e ≤ 12) : -4096000000 ≤ n * 2 ^ e ∧ n * 2 ^ e ≤ 4096000000 := by
  have h1 : (2 : Nat) ^ e ≤ 2 ^ 12 := Nat.pow_le_pow_right (by decide) he
  have h2 : (2 : Nat) ^ 12 = 4096 := by decide
  have e2 : ((2 ^ e : Nat) : Int) = (2 : Int) ^ e := Int.natCast_pow 2 e
  have h3 : (n * 2 ^ e).natAbs ≤ 1000000 * 4096 := by
    rw [Int.natAbs_mul, ← e2, Int.natAbs_natCast]
    exact Nat.mul_le_mul (by omega) (by omega)
  omega
def refF (S : Nat → Nat → Int) (a n k m l : Int) : Int :=
  if 0 ≤ a ∧ a < 5 then (if ((-1000000 ≤ n ∧ n ≤ 1000000) ∧ (0 ≤ k ∧ k ≤ 12)) ∧ ((-1000000 ≤ m ∧ m ≤ 1000000) ∧ (0 ≤ l ∧ l ≤ 12)) ∧ n * 2 ^ l.toNat < m * 2 ^ k.toNat then (if pdeg (S a.toNat) < 0 then 3 else if pAt (S a.toNat) n k.toNat = 0 ∨ pAt (S a.toNat) m l.toNat = 0 then 4 else 0) else 2) else 1
