/-! NUMBERS of the model: the quotient, what it needs -/
theorem bits_more {p q n1 n2 : Nat} (hq : 0 < q) (h1 : isBits (p : Int) n1) (h2 : isBits (q : Int) n2) : 0 < n2 ∧ (n1 < n2 → p < q) ∧ (n2 ≤ n1 → p < q * 2 ^ (n1 - n2 + 1) ∧ q * 2 ^ (n1 - n2) < 2 ^ n1) := by
  have a1 := nat_lt' h1.1
  have a2 := nat_lt' h2.1
  have h0 : 0 < n2 := by
    rcases Nat.eq_zero_or_pos n2 with z | z
    · rw [z] at a2; simp at a2; omega
    · exact z
  have a3 : 2 ^ (n2 - 1) ≤ q := by
    have h3 := h2.2 h0
    have e : (2 : Int) ^ (n2 - 1) = ((2 ^ (n2 - 1) : Nat) : Int) := by rw [Int.natCast_pow]; rfl
    rw [e] at h3
    omega
  refine ⟨h0, fun h => ?_, fun h => ⟨?_, ?_⟩⟩
  · exact Nat.lt_of_lt_of_le a1 (Nat.le_trans (Nat.pow_le_pow_right (by decide) (by omega)) a3)
  · have : 2 ^ (n2 - 1) * 2 ^ (n1 - n2 + 1) ≤ q * 2 ^ (n1 - n2 + 1) := Nat.mul_le_mul_right _ a3
    rw [← Nat.pow_add, show n2 - 1 + (n1 - n2 + 1) = n1 by omega] at this
    exact Nat.lt_of_lt_of_le a1 this
  · have : q * 2 ^ (n1 - n2) < 2 ^ n2 * 2 ^ (n1 - n2) := Nat.mul_lt_mul_of_pos_right a2 (Nat.pow_pos (by decide))
    rw [← Nat.pow_add, show n2 + (n1 - n2) = n1 by omega] at this
    exact this
theorem q_step {p q r T K : Nat} (h : p = r + q * T) (hr : r < q * 2 ^ (K + 1)) (hl : q * 2 ^ K ≤ r) : p = (r - q * 2 ^ K) + q * (T + 2 ^ K) ∧ r - q * 2 ^ K < q * 2 ^ K := by
  rw [Nat.pow_succ, ← Nat.mul_assoc] at hr
  rw [Nat.mul_add]
  omega
theorem dvd_pow_half {T K : Nat} (h : T % 2 ^ (K + 1) = 0) : T % 2 ^ K = 0 := by
  have : 2 ^ K ∣ 2 ^ (K + 1) := Nat.pow_dvd_pow 2 (by omega)
  exact Nat.mod_eq_zero_of_dvd (Nat.dvd_trans this (Nat.dvd_of_mod_eq_zero h))
theorem dvd_pow_add {T K : Nat} (h : T % 2 ^ (K + 1) = 0) : (T + 2 ^ K) % 2 ^ K = 0 := by
  rw [Nat.add_mod_right]; exact dvd_pow_half h
theorem half_pow (q K : Nat) : q * 2 ^ (K + 1) / 2 = q * 2 ^ K := by
  rw [Nat.pow_succ, ← Nat.mul_assoc]; omega
/-- a bit more -/
theorem dg_bit {T K : Nat} (h : T % 2 ^ (K + 1) = 0) : iZ (dg (T : Int) (K / 32)) ||| iZ (1 * 2 ^ (K % 32)) = iZ (dg ((T + 2 ^ K : Nat) : Int) (K / 32)) ∧ ∀ j, j ≠ K / 32 → dg ((T + 2 ^ K : Nat) : Int) j = dg (T : Int) j := by
  obtain ⟨W, hW⟩ : ∃ W, T = 2 ^ (K + 1) * W := ⟨T / 2 ^ (K + 1), by have := Nat.div_add_mod T (2 ^ (K + 1)); omega⟩
  have hj : K % 32 < 32 := Nat.mod_lt _ (by decide)
  have eK : K = 32 * (K / 32) + K % 32 := (Nat.div_add_mod K 32).symm
  generalize K / 32 = m at eK ⊢
  generalize K % 32 = j at eK hj ⊢
  have eT : (T : Int) = 2 ^ (32 * m) * (2 ^ (j + 1) * (W : Int)) := by
    rw [hW, eK, Int.natCast_mul, Int.natCast_pow, Nat.add_assoc, Int.pow_add, Int.mul_assoc]; rfl
  have eT2 : ((T + 2 ^ K : Nat) : Int) = 2 ^ (32 * m) * (2 ^ (j + 1) * (W : Int) + 2 ^ j) := by
    rw [Int.natCast_add, eT, Int.natCast_pow, eK, Int.mul_add]
    congr 1
    exact Int.pow_add _ _ _
  have hB := p2 (32 * m)
  constructor
  · have e1 : dg (T : Int) m = (2 ^ (j + 1) * (W : Int)) % 4294967296 := by unfold dg; rw [eT, Int.mul_ediv_cancel_left _ (Int.ne_of_gt hB)]
    have e2 : dg ((T + 2 ^ K : Nat) : Int) m = (2 ^ (j + 1) * (W : Int) + 2 ^ j) % 4294967296 := by unfold dg; rw [eT2, Int.mul_ediv_cancel_left _ (Int.ne_of_gt hB)]
    have h1 : (0 : Int) ≤ 2 ^ j := Int.le_of_lt (p2 j)
    have h2 : (2 : Int) ^ j < 2 ^ (j + 1) := by rw [Int.pow_succ]; have := p2 j; omega
    rw [e1, e2, iZ_mod, iZ_mod, Int.one_mul, Int.mul_comm (2 ^ (j + 1)) (W : Int)]
    exact iZ_or (k := j + 1) h1 h2 (by omega)
  · intro i hi
    rcases Nat.lt_or_gt_of_ne hi with l | l
    · rw [eT2, eT]
      have a1 := dg_low 0 (2 ^ (j + 1) * (W : Int) + 2 ^ j) l
      have a2 := dg_low 0 (2 ^ (j + 1) * (W : Int)) l
      rw [Int.zero_add] at a1 a2
      rw [a1, a2]
    · -- above: the bit isn't carried
      have e3 : ((T + 2 ^ K : Nat) : Int) / 2 ^ (32 * i) = (T : Int) / 2 ^ (32 * i) := by
        obtain ⟨d, rfl⟩ : ∃ d, i = m + 1 + d := ⟨i - m - 1, by omega⟩
        rw [p32a, p32]
        have hD := p2 (32 * d)
        have qq : ∀ X : Int, X / (2 ^ (32 * m) * 4294967296 * 2 ^ (32 * d)) = X / 2 ^ (32 * m) / 4294967296 / 2 ^ (32 * d) := fun X => by
          rw [Int.ediv_ediv_of_nonneg (Int.le_of_lt hB), Int.ediv_ediv_of_nonneg (by have := Int.mul_pos hB (show (0 : Int) < 4294967296 by decide); omega)]
        rw [qq, qq]
        congr 1
        rw [eT2, eT, Int.mul_ediv_cancel_left _ (Int.ne_of_gt hB), Int.mul_ediv_cancel_left _ (Int.ne_of_gt hB)]
        have hj1 := p2 (j + 1)
        have h32 : (4294967296 : Int) = 2 ^ (j + 1) * 2 ^ (31 - j) := by rw [← Int.pow_add, show j + 1 + (31 - j) = 32 by omega]; rfl
        have q2 : ∀ X : Int, X / (2 ^ (j + 1) * 2 ^ (31 - j)) = X / 2 ^ (j + 1) / 2 ^ (31 - j) := fun X => by rw [Int.ediv_ediv_of_nonneg (Int.le_of_lt hj1)]
        rw [h32, q2, q2, Int.mul_ediv_cancel_left _ (Int.ne_of_gt hj1), Int.add_comm, Int.add_mul_ediv_left _ _ (Int.ne_of_gt hj1), Int.ediv_eq_zero_of_lt (Int.le_of_lt (p2 j)) (by rw [Int.pow_succ]; have := p2 j; omega)]
        simp
      unfold dg
      rw [e3]
theorem q_fin {p q r T : Nat} (h : p = r + q * T) (hr : r < q) : T = p / q := by
  rw [h, Nat.add_mul_div_left _ _ (by omega), Nat.div_eq_of_lt hr, Nat.zero_add]
theorem shr1 (n : Nat) : ((n : Int) / 2 ^ 1) = ((n / 2 : Nat) : Int) := by
  have := nat_div n 1
  rw [this]
theorem sN_le {p q : Nat} (h : p ≤ q) (hq : sN q) : sN p := Nat.lt_of_le_of_lt h hq
theorem bits_sN {p n : Nat} (h : sN p) (hn : isBits (p : Int) n) : n ≤ 1535 := by
  rcases Nat.eq_zero_or_pos n with z | z
  · omega
  · have h1 := hn.2 z
    have h2 := (rN_nat h).2
    have := pw_lt (a := n - 1) (b := 1535) (by omega)
    omega
