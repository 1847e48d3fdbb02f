/-! NUMBERS of the model: divisor and quotient, what they need -/
theorem m_left' (κ : zK) (H0 : Heap) {a s : Nat} {x : Int} (hs : s < 1000000000) (ha : hp κ H0 a (eN κ x)) : Mt κ yX4_left cX4_left 7 none 0 0 0 0 H0 [.ref a, vi (s : Int)] (fun q => q = a) (fun v H1 => v = none ∧ hp κ H1 a (eN κ (x * 2 ^ s))) := by
  obtain ⟨far, b, hb, rfl⟩ : ∃ far b, b ≤ 31 ∧ s = 32 * far + b := ⟨s / 32, s % 32, by omega, by omega⟩
  exact m_left κ H0 hb (by omega) ha
theorem m_right' (κ : zK) (H0 : Heap) {a s n : Nat} {x : Int} (hs : s < 1000000000) (hn : n ≤ 48) (h0 : 0 ≤ x) (hx : x < 2 ^ (32 * n)) (ha : hp κ H0 a (eN κ x)) : Mt κ yX4_right cX4_right 8 none 0 0 0 0 H0 [.ref a, vi (s : Int), vi (n : Int)] (fun q => q = a) (fun v H1 => v = none ∧ hp κ H1 a (eN κ (x / 2 ^ s))) := by
  obtain ⟨far, b, hb, rfl⟩ : ∃ far b, b ≤ 31 ∧ s = 32 * far + b := ⟨s / 32, s % 32, by omega, by omega⟩
  exact m_right κ H0 hb (by omega) hn h0 hx ha
theorem m_less' (κ : zK) (H0 : Heap) {a b n : Nat} {x y : Int} (hab : a ≠ b) (hn : n ≤ 48) (h0 : 0 ≤ y) (h1 : y ≤ x) (h2 : x < 2 ^ (32 * n)) (ha : hp κ H0 a (eN κ x)) (hb : hp κ H0 b (eN κ y)) : Mt κ yX4_less cX4_less 6 none 0 0 0 0 H0 [.ref a, .ref b, vi (n : Int)] (fun q => q = a) (fun v H1 => v = none ∧ hp κ H1 a (eN κ (x - y))) :=
  (m_less κ H0 hab hn ha hb).mono (fun _ h => h) (fun v H1 h _ _ => ⟨h.1, eI.congr h.2 (fun j hj => congrArg iZ (less_fin h0 h1 h2 j hj))⟩)
theorem m_lessW (κ : zK) (H0 : Heap) {a b : Nat} {x y : Int} (hab : a ≠ b) (ha : hp κ H0 a (eN κ x)) (hb : hp κ H0 b (eN κ y)) : Mt κ yX4_less cX4_less 6 none 0 0 0 0 H0 [.ref a, .ref b, vi 48] (fun q => q = a) (fun v H1 => v = none ∧ hp κ H1 a (eN κ (x - y))) :=
  (m_less κ H0 (n := 48) hab (by decide) ha hb).mono (fun _ h => h) (fun v H1 h _ _ => ⟨h.1, eI.congr h.2 (fun j hj => by rw [if_pos hj])⟩)
/-- odd and even, for the binary divisor -/
theorem gcd_two_pow {q : Nat} (h : q % 2 = 1) (p t : Nat) : Nat.gcd (2 ^ t * p) q = Nat.gcd p q := by
  refine Nat.Coprime.gcd_mul_left_cancel p ?_
  refine Nat.Coprime.pow_left t ?_
  rw [Nat.Coprime, Nat.gcd_rec, h]
  rfl
theorem gcd_odd_sub {p q t : Nat} (hq : q % 2 = 1) (hl : q ≤ p) (h1 : (p - q) % 2 ^ t = 0) : Nat.gcd ((p - q) / 2 ^ t) q = Nat.gcd p q := by
  have e : p - q = 2 ^ t * ((p - q) / 2 ^ t) := by
    have := Nat.div_add_mod (p - q) (2 ^ t)
    omega
  rw [← gcd_two_pow hq _ t, ← e]
  exact Nat.gcd_sub_self_left hl
theorem gcd_two_pows {p q i k : Nat} (hp : p % 2 = 1) (hq : q % 2 = 1) : Nat.gcd (2 ^ i * p) (2 ^ k * q) = 2 ^ (min i k) * Nat.gcd p q := by
  rcases Nat.le_total i k with h | h
  · obtain ⟨d, rfl⟩ : ∃ d, k = i + d := ⟨k - i, by omega⟩
    rw [Nat.min_eq_left h, Nat.pow_add, Nat.mul_assoc, Nat.gcd_mul_left, Nat.gcd_comm p, gcd_two_pow hp, Nat.gcd_comm]
  · obtain ⟨d, rfl⟩ : ∃ d, i = k + d := ⟨i - k, by omega⟩
    rw [Nat.min_eq_right h, Nat.pow_add, Nat.mul_assoc, Nat.gcd_mul_left, gcd_two_pow hq]
/-- a bare number as a Nat -/
theorem nat_div (p t : Nat) : ((p : Int) / 2 ^ t) = ((p / 2 ^ t : Nat) : Int) := by rw [Int.natCast_ediv, Int.natCast_pow]; rfl
theorem zeros_split {p t : Nat} (h : isZeros (p : Int) t) : p = 2 ^ t * (p / 2 ^ t) ∧ p / 2 ^ t % 2 = 1 := by
  obtain ⟨h1, h2⟩ := zeros_nat h
  have := Nat.div_add_mod p (2 ^ t)
  exact ⟨by omega, h2⟩
theorem nat_lt {p n : Nat} (h : p < 2 ^ n) : (p : Int) < 2 ^ n := by
  have : ((p : Nat) : Int) < ((2 ^ n : Nat) : Int) := Int.ofNat_lt.mpr h
  rwa [Int.natCast_pow] at this
theorem nat_lt' {p n : Nat} (h : (p : Int) < 2 ^ n) : p < 2 ^ n := by
  have : ((p : Nat) : Int) < ((2 ^ n : Nat) : Int) := by rw [Int.natCast_pow]; exact h
  exact Int.ofNat_lt.mp this
theorem gcd_first {p q i k : Nat} (hi : isZeros (p : Int) i) (hk : isZeros (q : Int) k) : Nat.gcd p q = 2 ^ (min i k) * Nat.gcd (p / 2 ^ i) (q / 2 ^ k) := by
  obtain ⟨e1, o1⟩ := zeros_split hi
  obtain ⟨e2, o2⟩ := zeros_split hk
  conv => lhs; rw [e1, e2]
  exact gcd_two_pows o1 o2
theorem gcd_step {p q t : Nat} (hq : q % 2 = 1) (hl : q < p) (h : isZeros ((p : Int) - (q : Int)) t) : Nat.gcd ((p - q) / 2 ^ t) q = Nat.gcd p q ∧ (p - q) / 2 ^ t % 2 = 1 ∧ (p - q) / 2 ^ t < p ∧ 0 < (p - q) / 2 ^ t := by
  rw [show (p : Int) - (q : Int) = ((p - q : Nat) : Int) by omega] at h
  obtain ⟨h1, h2⟩ := zeros_nat h
  have h0 : p - q < p := by omega
  have h3 := Nat.div_le_self (p - q) (2 ^ t)
  have hg := gcd_odd_sub hq (Nat.le_of_lt hl) h1
  generalize (p - q) / 2 ^ t = r at hg h2 h3 ⊢
  exact ⟨hg, h2, by omega, by omega⟩
theorem sub_div (p q t : Nat) (h : q ≤ p) : ((p : Int) - (q : Int)) / 2 ^ t = (((p - q) / 2 ^ t : Nat) : Int) := by
  rw [show (p : Int) - (q : Int) = ((p - q : Nat) : Int) by omega, nat_div]
/-- a size that fits in the ints of the model (kept shut for omega's sake) -/
def sN (p : Nat) : Prop := p < 2 ^ 1535
theorem rN_nat {p : Nat} (h : sN p) : rN (p : Int) := ⟨by have := p2 1535; omega, nat_lt h⟩
theorem rU_nat {p : Nat} (h : sN p) : rU (p : Int) := (rN_nat h).U (by omega)
theorem sign_0 {p : Nat} : ((p : Int).sign = 0) ↔ p = 0 := by
  rw [Int.sign_eq_zero_iff_zero]; omega
theorem rsign (x : Int) : rI x.sign := by
  rcases Int.lt_trichotomy x 0 with h | h | h
  · rw [Int.sign_eq_neg_one_of_neg h]; exact ⟨by decide, by decide⟩
  · rw [h]; exact ⟨by decide, by decide⟩
  · rw [Int.sign_eq_one_of_pos h]; exact ⟨by decide, by decide⟩
/-- the numbers of ints of two, together -/
theorem ints_max {p q n k : Nat} (h1 : isInts (p : Int) n) (h2 : isInts (q : Int) k) : p < 2 ^ (32 * max n k) ∧ q < 2 ^ (32 * max n k) := by
  have a := nat_lt' h1.2.1
  have b := nat_lt' h2.2.1
  exact ⟨Nat.lt_of_lt_of_le a (Nat.pow_le_pow_right (by decide) (by omega)), Nat.lt_of_lt_of_le b (Nat.pow_le_pow_right (by decide) (by omega))⟩
theorem lt_top {p n : Nat} (h : p < 2 ^ (32 * n)) (hn : 1 < n) (hd : dg (p : Int) (n - 1) = 0) : p < 2 ^ (32 * (n - 1)) := by
  refine nat_lt' (dg_top (n := n - 1) (by omega) ?_ hd)
  rw [Nat.sub_add_cancel (by omega)]
  exact nat_lt h
theorem ord_of (p q : Nat) : ∃ o : Int, o = (if (p : Int) < (q : Int) then -1 else if (p : Int) = (q : Int) then 0 else 1) ∧ ((o = -1 ∧ p < q) ∨ (o = 0 ∧ p = q) ∨ (o = 1 ∧ q < p)) := by
  refine ⟨_, rfl, ?_⟩
  by_cases h1 : p < q
  · rw [if_pos (by omega)]; exact Or.inl ⟨rfl, h1⟩
  · rw [if_neg (by omega)]
    by_cases h2 : p = q
    · rw [if_pos (by omega)]; exact Or.inr (Or.inl ⟨rfl, h2⟩)
    · rw [if_neg (by omega)]; exact Or.inr (Or.inr ⟨rfl, by omega⟩)
