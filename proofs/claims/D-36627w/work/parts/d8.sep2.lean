/-! PLAIN LAW 26: the same for ends above 1, by the reversed polynomial -/
theorem mpow (a b : Rat) : ∀ n : Nat, (a * b) ^ n = a ^ n * b ^ n := by
  intro n
  induction n with
  | zero => rw [Rat.pow_zero, Rat.pow_zero, Rat.pow_zero]; grind
  | succ n ih =>
    rw [Rat.pow_succ, Rat.pow_succ, Rat.pow_succ, ih]
    generalize a ^ n = X
    generalize b ^ n = Y
    grind
theorem inv_of {a b : Rat} (h : a * b = 1) : a⁻¹ = b := by
  have ha : a ≠ 0 := fun e => by rw [e, Rat.zero_mul] at h; exact absurd h (by decide)
  have h1 := Rat.mul_inv_cancel a ha
  have h2 : a⁻¹ * (a * b) = a⁻¹ := by rw [h]; grind
  grind
theorem sepQ_mono {e d b : Nat} (h1 : 1 ≤ e) (h : e ≤ d) (hb : 1 ≤ b) : sepQ e b ≤ sepQ d b := by
  unfold sepQ
  have k1 : e * e ≤ d * d := Nat.mul_le_mul h h
  have k2 : ((e - 1) + e * e) * b ≤ ((d - 1) + d * d) * b := Nat.mul_le_mul_right b (by omega)
  have k3 : 0 < ((d - 1) + d * d) * b := Nat.mul_pos (by have := Nat.mul_pos (show 0 < d by omega) (show 0 < d by omega); omega) hb
  exact Nat.le_trans (Nat.pow_le_pow_left k2 _) (Nat.pow_le_pow_right k3 (by omega))
theorem flip_x {c w y : Rat} (hc : 1 ≤ c) (hw : 0 < w) (hy : 0 < y) : let β := c + w; let z := c * β⁻¹ * y; let x := β⁻¹ + w * (c⁻¹ * β⁻¹) * (y + 1)⁻¹; 0 < z ∧ x ≠ 0 ∧ x⁻¹ = c + w * (z⁻¹ + 1)⁻¹ ∧ (y + 1) * x * c = 1 + z ∧ z * (z⁻¹ + 1) = 1 + z := by
  intro β z x
  have b0 : 0 < β := by show 0 < c + w; grind
  have bi := Rat.mul_inv_cancel β (by grind)
  have bp : 0 < β⁻¹ := Rat.inv_pos.mpr b0
  have ci' := Rat.mul_inv_cancel c (by grind)
  have y1 := Rat.mul_inv_cancel (y + 1) (by grind)
  have z0 : 0 < z := Rat.mul_pos (Rat.mul_pos (by grind) bp) hy
  have zi := Rat.mul_inv_cancel z (by grind)
  have zip : 0 < z⁻¹ := Rat.inv_pos.mpr z0
  have s0 : 0 < 1 + z := by grind
  have si := Rat.mul_inv_cancel (1 + z) (by grind)
  have e1 : z * (z⁻¹ + 1) = 1 + z := by grind
  have e2 : (z⁻¹ + 1)⁻¹ = z * (1 + z)⁻¹ := inv_of (by
    rw [show (z⁻¹ + 1) * (z * (1 + z)⁻¹) = z * (z⁻¹ + 1) * (1 + z)⁻¹ by grind, e1]; exact si)
  have bz : β * z = c * y := by
    show β * (c * β⁻¹ * y) = c * y
    rw [show β * (c * β⁻¹ * y) = (β * β⁻¹) * (c * y) by grind, bi]; grind
  have bd : w = β - c := by show w = c + w - c; grind
  have e3 : (y + 1) * x * c = 1 + z := by
    show (y + 1) * (β⁻¹ + w * (c⁻¹ * β⁻¹) * (y + 1)⁻¹) * c = 1 + c * β⁻¹ * y
    have : (y + 1) * (β⁻¹ + w * (c⁻¹ * β⁻¹) * (y + 1)⁻¹) * c = (y + 1) * β⁻¹ * c + w * β⁻¹ * (c * c⁻¹) * ((y + 1) * (y + 1)⁻¹) := by grind
    rw [this, ci', y1, bd]
    rw [show (y + 1) * β⁻¹ * c + (β - c) * β⁻¹ * 1 * 1 = c * β⁻¹ * y + β * β⁻¹ by grind, bi]; grind
  have e4 : c + w * (z * (1 + z)⁻¹) = c * (y + 1) * (1 + z)⁻¹ := by
    have : c + w * (z * (1 + z)⁻¹) = c * ((1 + z) * (1 + z)⁻¹) + w * (z * (1 + z)⁻¹) := by rw [si]; grind
    rw [this, bd]
    rw [show c * ((1 + z) * (1 + z)⁻¹) + (β - c) * (z * (1 + z)⁻¹) = (c + β * z) * (1 + z)⁻¹ by grind, bz]; grind
  have e5 : x * (c * (y + 1) * (1 + z)⁻¹) = 1 := by
    rw [show x * (c * (y + 1) * (1 + z)⁻¹) = (y + 1) * x * c * (1 + z)⁻¹ by grind, e3]; exact si
  refine ⟨z0, fun e => ?_, ?_, e3, e1⟩
  · rw [e, Rat.zero_mul] at e5; exact absurd e5 (by decide)
  · rw [e2, e4]; exact inv_of e5
theorem sep_hi {F : Nat → Int} {d b : Nat} (hd : 2 ≤ d) (d6 : d ≤ 6) (hz : ∀ k, d < k → F k = 0) (hF : F d ≠ 0) (hb : ∀ k, (F k).natAbs ≤ b) {A B : Rat → Rat} (hA : Pfn A) (hB : Pfn B) (bz : ∀ x, A x * pe (ci F) (d + 1) x + B x * pe (dc (ci F)) d x = 1) {c w κ0 : Rat} (hc : 1 ≤ c) (hw : 0 < w) (w1 : w ≤ 1) (hκ : κ0 ≠ 0) {W : Nat → Int} (hW : ∀ y, 0 < y → pe (ci W) (d + 1) y = (y + 1) ^ d * (κ0 * pe (ci F) (d + 1) (c + w * (y + 1)⁻¹))) (hv : ¬ oneF W d) : 1 ≤ 131072 * (3 ^ 6 * (sepQ d b : Rat)) * (3 ^ 7 * (b : Rat)) * (w * w) := by
  have hb1 : 1 ≤ b := by have := hb d; omega
  have β0 : 0 < c + w := by grind
  have βi := Rat.mul_inv_cancel (c + w) (by grind)
  have βp : 0 < (c + w)⁻¹ := Rat.inv_pos.mpr β0
  have ci' := Rat.mul_inv_cancel c (by grind)
  have cp : 0 < c⁻¹ := Rat.inv_pos.mpr (by grind)
  have c1 : c⁻¹ ≤ 1 := by have := Rat.mul_nonneg (Rat.le_of_lt cp) (show 0 ≤ c - 1 by grind); rw [show c⁻¹ * (c - 1) = c * c⁻¹ - c⁻¹ by grind, ci'] at this; grind
  have β1 : (c + w)⁻¹ ≤ 1 := by have := Rat.mul_nonneg (Rat.le_of_lt βp) (show 0 ≤ c + w - 1 by grind); rw [show (c + w)⁻¹ * (c + w - 1) = (c + w) * (c + w)⁻¹ - (c + w)⁻¹ by grind, βi] at this; grind
  obtain ⟨ρ, hρ⟩ : ∃ ρ, ρ = c * (c + w)⁻¹ := ⟨_, rfl⟩
  have ρ0 : 0 < ρ := by rw [hρ]; exact Rat.mul_pos (by grind) βp
  obtain ⟨N, N1, N2⟩ := den_ex (fun k => ci W (d - k) * ρ ^ k) (d + 1)
  obtain ⟨z, hzz⟩ : ∃ z : Nat → Int, ∀ k, k < d + 1 → (N : Rat) * (ci W (d - k) * ρ ^ k) = (z k : Rat) := ⟨fun k => if q : k < d + 1 then (N2 k q).choose else 0, fun k hk => by
    simp only [dif_pos hk]; exact (N2 k hk).choose_spec⟩
  have hNr : (0 : Rat) < (N : Rat) := Rat.natCast_pos.mpr N1
  have hv' : ¬ oneF z d := fun h => hv (h.rev (fun j hj => by
    have h1 := hzz (d - j) (by omega)
    rw [show d - (d - j) = j by omega] at h1
    have h2 : 0 < (N : Rat) * ρ ^ (d - j) := Rat.mul_pos hNr (rpow_pos ρ0 _)
    have h3 := Rat.mul_inv_cancel ((N : Rat) * ρ ^ (d - j)) (by grind)
    refine ⟨((N : Rat) * ρ ^ (d - j))⁻¹, Rat.inv_pos.mpr h2, ?_⟩
    rw [← h1]
    show (W j : Rat) = ((N : Rat) * ρ ^ (d - j))⁻¹ * ((N : Rat) * ((W j : Rat) * ρ ^ (d - j)))
    rw [show ((N : Rat) * ρ ^ (d - j))⁻¹ * ((N : Rat) * ((W j : Rat) * ρ ^ (d - j))) = ((N : Rat) * ρ ^ (d - j)) * ((N : Rat) * ρ ^ (d - j))⁻¹ * (W j : Rat) by grind, h3]; grind))
  have hzW : ∀ y, 0 < y → pe (ci z) (d + 1) y = (y + 1) ^ d * ((N : Rat) * κ0 * c ^ d * pe (ci (rvP F d)) (d + 1) ((c + w)⁻¹ + w * (c⁻¹ * (c + w)⁻¹) * (y + 1)⁻¹)) := fun y hy => by
    obtain ⟨q0, q1, q2, q3, q4⟩ := flip_x hc hw hy
    rw [← hρ] at q0 q2 q3 q4
    rw [rv_f F d q1, q2]
    rw [pe_congr (c := ci z) (d := fun k => (N : Rat) * (ci W (d - k) * ρ ^ k)) (d + 1) (fun k hk => (hzz k hk).symm) y, pe_mul, pe_scale (fun k => ci W (d - k)) ρ y, pe_rev (ci W) (ρ * y) (by grind) d, hW _ (Rat.inv_pos.mpr q0)]
    have p1 : (ρ * y) ^ d * ((ρ * y)⁻¹ + 1) ^ d = (1 + ρ * y) ^ d := by rw [← mpow, q4]
    have p2 : (y + 1) ^ d * ((c + w)⁻¹ + w * (c⁻¹ * (c + w)⁻¹) * (y + 1)⁻¹) ^ d * c ^ d = (1 + ρ * y) ^ d := by rw [← mpow, ← mpow, q3]
    generalize pe (ci F) (d + 1) (c + w * ((ρ * y)⁻¹ + 1)⁻¹) = P
    generalize ((c + w)⁻¹ + w * (c⁻¹ * (c + w)⁻¹) * (y + 1)⁻¹) ^ d = X at *
    generalize (y + 1) ^ d = Y at *
    generalize c ^ d = C at *
    generalize (ρ * y) ^ d = X1 at *
    generalize ((ρ * y)⁻¹ + 1) ^ d = X2 at *
    rw [show (N : Rat) * (X1 * (X2 * (κ0 * P))) = (N : Rat) * (κ0 * P) * (X1 * X2) by grind, p1, ← p2]; grind
  have w'0 : 0 < w * (c⁻¹ * (c + w)⁻¹) := Rat.mul_pos hw (Rat.mul_pos cp βp)
  have w'w : w * (c⁻¹ * (c + w)⁻¹) ≤ w := by
    have h1 := mul_le2 (Rat.le_of_lt cp) (Rat.le_of_lt βp) c1 β1
    have h2 := mul_le2 (Rat.le_of_lt hw) (Rat.mul_nonneg (Rat.le_of_lt cp) (Rat.le_of_lt βp)) (Rat.le_refl (a := w)) h1
    rw [show w * (1 * 1) = w by grind] at h2
    exact h2
  have hκ' : (N : Rat) * κ0 * c ^ d ≠ 0 := fun e => by
    rcases Rat.mul_eq_zero.mp e with h | h
    · rcases Rat.mul_eq_zero.mp h with h | h
      · grind
      · exact hκ h
    · have := rpow_pos (show 0 < c by grind) d; grind
  obtain ⟨n, rfl⟩ : ∃ n, d = n + 1 := ⟨d - 1, by omega⟩
  obtain ⟨A1, B1, hA1, hB1, bz1⟩ := bez_rev hF hA hB bz
  have rz : ∀ k, n + 1 < k → rvP F (n + 1) k = 0 := fun k hk => if_neg (by omega)
  have rb : ∀ k, (rvP F (n + 1) k).natAbs ≤ b := fun k => by
    unfold rvP
    split
    · exact hb _
    · exact Nat.zero_le _
  have hc2 : rab ((c + w)⁻¹) ≤ 2 := rab_le (by grind) (by grind)
  have fin : ∃ e, 1 ≤ e ∧ e ≤ n + 1 ∧ 1 ≤ 131072 * (3 ^ 6 * (sepQ e b : Rat)) * (3 ^ 7 * (b : Rat)) * ((w * (c⁻¹ * (c + w)⁻¹)) * (w * (c⁻¹ * (c + w)⁻¹))) := by
    by_cases z0 : F 0 = 0
    · have f1 : F 1 ≠ 0 := fun e => by
        have h := bz 0
        rw [pe_at0, pe_at0] at h
        have e1 : ci F 0 = 0 := by show (F 0 : Rat) = 0; rw [z0]; rfl
        have e2 : dc (ci F) 0 = 0 := by show (((0 : Nat) : Rat) + 1) * (F 1 : Rat) = 0; rw [e, show ((0 : Int) : Rat) = 0 from rfl]; grind
        rw [e1, e2] at h
        grind
      have rtop : rvP F (n + 1) (n + 1) = 0 := by unfold rvP; rw [if_pos (Nat.le_refl _), Nat.sub_self]; exact z0
      have rz2 : ∀ k, n < k → rvP F (n + 1) k = 0 := fun k hk => by
        by_cases q : k = n + 1
        · rw [q]; exact rtop
        · exact rz k (by omega)
      refine ⟨n, by omega, by omega, sep hd d6 (by omega) (by omega) rz2 (by unfold rvP; rw [if_pos (by omega), show n + 1 - n = 1 by omega]; exact f1) rb hA1 hB1 (fun x => ?_) hc2 w'0 (Rat.le_trans w'w w1) hκ' hzW hv'⟩
      have h := bz1 x
      rw [pe_s (ci (rvP F (n + 1))) (n + 1), pe_s (dc (ci (rvP F (n + 1)))) n] at h
      have e1 : ci (rvP F (n + 1)) (n + 1) = 0 := by show ((rvP F (n + 1) (n + 1) : Int) : Rat) = 0; rw [rtop]; rfl
      have e2 : dc (ci (rvP F (n + 1))) n = 0 := by show ((n : Rat) + 1) * ((rvP F (n + 1) (n + 1) : Int) : Rat) = 0; rw [rtop, show ((0 : Int) : Rat) = 0 from rfl]; grind
      rw [e1, e2, Rat.zero_mul, Rat.zero_mul, Rat.add_zero, Rat.add_zero] at h
      exact h
    · exact ⟨n + 1, by omega, by omega, sep hd d6 (by omega) (by omega) rz (by unfold rvP; rw [if_pos (Nat.le_refl _), Nat.sub_self]; exact z0) rb hA1 hB1 bz1 hc2 w'0 (Rat.le_trans w'w w1) hκ' hzW hv'⟩
  obtain ⟨e, e1, e2, e3⟩ := fin
  refine Rat.le_trans e3 ?_
  have b0 : (0 : Rat) ≤ (b : Rat) := Rat.natCast_nonneg
  have t6 : (0 : Rat) ≤ 3 ^ 6 := by have := three_pos 6; grind
  have t7 : (0 : Rat) ≤ 3 ^ 7 := by have := three_pos 7; grind
  have s1 : (sepQ e b : Rat) ≤ (sepQ (n + 1) b : Rat) := Rat.natCast_le_natCast.mpr (sepQ_mono e1 e2 hb1)
  have s2 := mul_le2 t6 Rat.natCast_nonneg (Rat.le_refl (a := 3 ^ 6)) s1
  have s3 := mul_le2 (show (0 : Rat) ≤ 131072 by decide) (Rat.mul_nonneg t6 Rat.natCast_nonneg) (Rat.le_refl (a := 131072)) s2
  have s4 := mul_le2 (Rat.mul_nonneg (show (0 : Rat) ≤ 131072 by decide) (Rat.mul_nonneg t6 Rat.natCast_nonneg)) (Rat.mul_nonneg t7 b0) s3 (Rat.le_refl (a := 3 ^ 7 * (b : Rat)))
  exact mul_le2 (Rat.mul_nonneg (Rat.mul_nonneg (show (0 : Rat) ≤ 131072 by decide) (Rat.mul_nonneg t6 Rat.natCast_nonneg)) (Rat.mul_nonneg t7 b0)) (Rat.mul_nonneg (Rat.le_of_lt w'0) (Rat.le_of_lt w'0)) s4 (mul_le2 (Rat.le_of_lt w'0) (Rat.le_of_lt w'0) w'w w'w)
