/-- the window at place j -/
theorem kn_state {Tv D : Int} {L m j s : Nat} (hL : L = j + 1 + m + s) (hm : 2 ≤ m) (hD : 0 < D ∧ D < 2 ^ (32 * m)) (h0 : 0 ≤ Tv) (h1 : Tv < D * 2 ^ (32 * (s + 1))) :
    knW (Tv / 2 ^ (32 * s)) m (bM Tv L j) (bM Tv L (j + 1)) (bM Tv L (j + 2)) ∧ 0 ≤ Tv / 2 ^ (32 * s) ∧ Tv / 2 ^ (32 * s) < D * 4294967296 ∧ Tv < 2 ^ (32 * (m + 1 + s)) ∧ bM Tv L j = Tv / 2 ^ (32 * s) / 2 ^ (32 * m) ∧ ∀ i, i < m → bM Tv L (j + 1 + i) = bM (Tv / 2 ^ (32 * s) % 2 ^ (32 * m)) m i := by
  have hP := p2 (32 * s)
  have hW0 : 0 ≤ Tv / 2 ^ (32 * s) := Int.ediv_nonneg h0 (Int.le_of_lt hP)
  have hW1 : Tv / 2 ^ (32 * s) < D * 4294967296 := Int.ediv_lt_of_lt_mul hP (by rw [Int.mul_assoc, Int.mul_comm 4294967296, ← p32]; exact h1)
  have hW2 : Tv / 2 ^ (32 * s) < 2 ^ (32 * (m + 1)) := by rw [p32]; omega
  have key : ∀ k, dg (Tv / 2 ^ (32 * s)) k = dg Tv (k + s) := fun k => (right_dg0 Tv s k).symm
  have hk := knW.of hm hW0 hW2
  have b : ∀ i, i < m + 1 → bM Tv L (j + i) = dg (Tv / 2 ^ (32 * s)) (m - i) := fun i hi => by unfold bM; rw [key, show L - 1 - (j + i) = m - i + s by omega]
  have b0 := b 0 (by omega)
  rw [Nat.add_zero, Nat.sub_zero] at b0
  refine ⟨by rw [b0, b 1 (by omega), b 2 (by omega)]; exact hk, hW0, hW1, ?_, by rw [b0]; exact dg_top_ne hW0 hW2, fun i hi => ?_⟩
  · refine Int.lt_of_lt_of_le h1 ?_
    rw [show m + 1 + s = m + (s + 1) by omega, p32a m (s + 1)]
    exact Int.mul_le_mul_of_nonneg_right (Int.le_of_lt hD.2) (Int.le_of_lt (p2 _))
  · rw [show j + 1 + i = j + (1 + i) by omega, b (1 + i) (by omega)]
    unfold bM
    rw [dg_modn _ (by omega), show m - (1 + i) = m - 1 - i by omega]
theorem kn_ring (E Z Y Q : Int) : (E * 4294967296) * Z + (Y + E * Q) = Y + E * (Q + Z * 4294967296) := by grind
/-- the digit told, what is left -/
theorem kn_next {Tv D R : Int} {s : Nat} (hD : 0 < D) (hT : Tv = R % (D * 2 ^ (32 * (s + 1)))) (hR : 0 ≤ R) :
    let W := Tv / 2 ^ (32 * s)
    (W - W / D * D) * 2 ^ (32 * s) + Tv % 2 ^ (32 * s) = R % (D * 2 ^ (32 * s)) ∧ W / D = dg (R / D) s ∧ 0 ≤ W - W / D * D ∧ W - W / D * D < D := by
  intro W
  have hP := p2 (32 * s)
  have hP1 := p2 (32 * (s + 1))
  have hDP : 0 < D * 2 ^ (32 * s) := Int.mul_pos hD hP
  have hDP1 : 0 < D * 2 ^ (32 * (s + 1)) := Int.mul_pos hD hP1
  have hT0 : 0 ≤ Tv := by rw [hT]; exact Int.emod_nonneg _ (Int.ne_of_gt hDP1)
  have hT1 : Tv < D * 2 ^ (32 * (s + 1)) := by rw [hT]; exact Int.emod_lt_of_pos _ hDP1
  have hW0 : 0 ≤ W := Int.ediv_nonneg hT0 (Int.le_of_lt hP)
  have hq := kn_q hD hW0
  have e1 : (W / D + 1) * D = W / D * D + D := by grind
  have hr0 : 0 ≤ W - W / D * D := by omega
  have hr1 : W - W / D * D < D := by omega
  have t0 := Int.emod_nonneg Tv (Int.ne_of_gt hP)
  have t1 := Int.emod_lt_of_pos Tv hP
  have a1 : Tv = 2 ^ (32 * s) * W + Tv % 2 ^ (32 * s) := (Int.mul_ediv_add_emod Tv (2 ^ (32 * s))).symm
  have x0 : 0 ≤ (W - W / D * D) * 2 ^ (32 * s) + Tv % 2 ^ (32 * s) := by have := Int.mul_nonneg hr0 (Int.le_of_lt hP); omega
  have x1 : (W - W / D * D) * 2 ^ (32 * s) + Tv % 2 ^ (32 * s) < D * 2 ^ (32 * s) := by
    have : (W - W / D * D + 1) * 2 ^ (32 * s) ≤ D * 2 ^ (32 * s) := Int.mul_le_mul_of_nonneg_right (by omega) (Int.le_of_lt hP)
    have e : (W - W / D * D + 1) * 2 ^ (32 * s) = (W - W / D * D) * 2 ^ (32 * s) + 2 ^ (32 * s) := by grind
    omega
  have a2 : Tv = ((W - W / D * D) * 2 ^ (32 * s) + Tv % 2 ^ (32 * s)) + D * 2 ^ (32 * s) * (W / D) := by
    conv => lhs; rw [a1]
    grind
  have a3 := Int.mul_ediv_add_emod R (D * 2 ^ (32 * (s + 1)))
  rw [← hT] at a3
  have a4 : R = ((W - W / D * D) * 2 ^ (32 * s) + Tv % 2 ^ (32 * s)) + D * 2 ^ (32 * s) * (W / D + R / (D * 2 ^ (32 * (s + 1))) * 4294967296) := by
    have h9 : D * 2 ^ (32 * (s + 1)) = D * 2 ^ (32 * s) * 4294967296 := by rw [p32, Int.mul_assoc]
    have h8 := kn_ring (D * 2 ^ (32 * s)) (R / (D * 2 ^ (32 * (s + 1)))) ((W - W / D * D) * 2 ^ (32 * s) + Tv % 2 ^ (32 * s)) (W / D)
    rw [← h8, ← a2, ← h9]
    exact a3.symm
  refine ⟨?_, ?_, hr0, hr1⟩
  · conv => rhs; rw [a4]
    rw [Int.add_mul_emod_self_left, Int.emod_eq_of_lt x0 x1]
  · unfold dg
    rw [Int.ediv_ediv_of_nonneg (Int.le_of_lt hD)]
    conv => rhs; rw [a4]
    rw [Int.add_mul_ediv_left _ _ (Int.ne_of_gt hDP), Int.ediv_eq_zero_of_lt x0 x1, Int.zero_add, Int.add_mul_emod_self_right]
    have hlt : W < 4294967296 * D := Int.ediv_lt_of_lt_mul hP (by rw [Int.mul_comm 4294967296, Int.mul_assoc, Int.mul_comm 4294967296, ← p32]; exact hT1)
    exact (Int.emod_eq_of_lt hq.1 (Int.ediv_lt_of_lt_mul hD hlt)).symm
