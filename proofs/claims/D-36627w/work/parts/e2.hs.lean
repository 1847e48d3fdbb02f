/-! PLAIN LAW 29: short intervals have at most one change -/
theorem chC_lt (p : Nat → Int) : ∀ k, chC p (k + 1) ≤ k := by
  intro k
  induction k with
  | zero =>
    rw [ch_s, if_neg (fun w => w.2.1 rfl)]; exact Nat.le_refl _
  | succ k ih =>
    rw [ch_s]
    split <;> omega
theorem hs_small {F : Nat → Int} {d b : Nat} (d6 : d ≤ 6) (hz : ∀ k, d < k → F k = 0) (hF : F d ≠ 0) (hb : ∀ k, (F k).natAbs ≤ b) (hbz : 2 ≤ d → ∃ A B, Pfn A ∧ Pfn B ∧ ∀ x, A x * pe (ci F) (d + 1) x + B x * pe (dc (ci F)) d x = 1) {ω : Rat} (hω : 0 < ω) (ω1 : ω ≤ 1) (hsm : 131072 * (3 ^ 6 * (sepQ d b : Rat)) * (3 ^ 7 * (b : Rat)) * (ω * ω) < 1) (c κ0 : Rat) (W : Nat → Int) (hκ : κ0 ≠ 0) (hW : ∀ y, 0 < y → pe (ci W) (d + 1) y = (y + 1) ^ d * (κ0 * pe (ci F) (d + 1) (c + ω * (y + 1)⁻¹))) : chC W (d + 1) < 2 := by
  by_cases hd : 2 ≤ d
  · refine one_form (Classical.byContradiction fun hv => ?_)
    obtain ⟨A, B, hA, hB, bz⟩ := hbz hd
    have := sep_all hd d6 hz hF hb hA hB bz hω ω1 hκ hW hv
    grind
  · have := chC_lt W d
    omega
/-- the square-free part meets the demand -/
theorem free_bez {p : Nat → Int} (h0 : 0 ≤ pdeg p) {d : Nat} (hd : pdeg (freeR p) = (d : Int)) (h1 : 1 ≤ d) : ∃ A B, Pfn A ∧ Pfn B ∧ ∀ x, A x * ev (freeR p) x + B x * ev (drv (freeR p)) x = 1 := by
  obtain ⟨M, hM⟩ := row_ex (p := freeR p) (by omega)
  obtain ⟨H, HC, HS, _⟩ := row_h hM (by omega)
  have hE := sqfree h0 hM
  have hM1 := hM.1
  have d1 : pdeg (rsq (freeR p) 1) = (d : Int) - 1 := by rw [rsq_1, prim_deg]; exact drv_deg hd
  have hM2 : M ≠ 1 := fun e => by
    have := hM.2.2.2
    rw [e] at this
    omega
  obtain ⟨A, B, hA, hB, bz⟩ := HC.bez (by omega)
  obtain ⟨ce, ce1, ce2⟩ := ev_hdeg (n := 0) hE
  have eE : ∀ x, ev (rsq (freeR p) (M - 1)) x = ce 0 := fun x => by rw [ce2]; show 0 + ce 0 * x ^ 0 = ce 0; rw [Rat.pow_zero]; grind
  obtain ⟨δ0, k0, q0⟩ := ev_prim (freeR p)
  obtain ⟨δ1, k1, q1⟩ := ev_prim (drv (freeR p))
  have HS0 := HS 0 (by omega)
  have HS1 := HS 1 (by omega)
  rw [rsq_0] at HS0
  rw [rsq_1] at HS1
  have i0 := Rat.mul_inv_cancel (δ0 * ce 0) (fun e => by
    rcases Rat.mul_eq_zero.mp e with h | h
    · grind
    · exact ce1 h)
  have i1 := Rat.mul_inv_cancel (δ1 * ce 0) (fun e => by
    rcases Rat.mul_eq_zero.mp e with h | h
    · grind
    · exact ce1 h)
  refine ⟨fun x => (δ0 * ce 0)⁻¹ * A x, fun x => (δ1 * ce 0)⁻¹ * B x, hA.smul _, hB.smul _, fun x => ?_⟩
  have h := bz x
  rw [q0, q1, HS0, HS1, eE]
  generalize (δ0 * ce 0)⁻¹ = j0 at *
  generalize (δ1 * ce 0)⁻¹ = j1 at *
  have e : j0 * A x * (δ0 * (ce 0 * H 0 x)) + j1 * B x * (δ1 * (ce 0 * H 1 x)) = (δ0 * ce 0 * j0) * (A x * H 0 x) + (δ1 * ce 0 * j1) * (B x * H 1 x) := by grind
  rw [e, i0, i1]
  grind
/-- its own row's chain starts with it -/
theorem free_self {p : Nat → Int} (h0 : 0 ≤ pdeg p) {M : Nat} (hM : isRow (freeR p) M) (hF : 0 ≤ pdeg (freeR p)) {H : Nat → Rat → Rat} (HS : ∀ i, i ≤ M - 1 → ∀ x, ev (rsq (freeR p) i) x = ev (rsq (freeR p) (M - 1)) x * H i x) : ∃ c : Rat, c ≠ 0 ∧ ∀ x, ev (freeR p) x = c * H 0 x := by
  have hE := sqfree h0 hM
  obtain ⟨ce, ce1, ce2⟩ := ev_hdeg (n := 0) hE
  have eE : ∀ x, ev (rsq (freeR p) (M - 1)) x = ce 0 := fun x => by rw [ce2]; show 0 + ce 0 * x ^ 0 = ce 0; rw [Rat.pow_zero]; grind
  obtain ⟨δ0, k0, q0⟩ := ev_prim (freeR p)
  have HS0 := HS 0 (by omega)
  rw [rsq_0] at HS0
  refine ⟨δ0 * ce 0, fun e => ?_, fun x => by rw [q0, HS0, eE]; grind⟩
  rcases Rat.mul_eq_zero.mp e with h | h
  · grind
  · exact ce1 h
