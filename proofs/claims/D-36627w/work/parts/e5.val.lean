/-! PLAIN LAW 32: values of the square-free part at whole points -/
theorem pe_int (p : Nat → Int) (a : Int) : ∀ n, ∃ z : Int, pe (ci p) n (a : Rat) = (z : Rat) := by
  intro n
  induction n with
  | zero => exact ⟨0, rfl⟩
  | succ n ih =>
    obtain ⟨z, hz⟩ := ih
    have hp : ∀ k : Nat, ((a ^ k : Int) : Rat) = (a : Rat) ^ k := fun k => by
      induction k with
      | zero => rw [Int.pow_zero, Rat.pow_zero]; rfl
      | succ k ihk => rw [Int.pow_succ, Rat.pow_succ, Rat.intCast_mul, ihk]
    exact ⟨z + p n * a ^ n, by rw [pe_s, hz, Rat.intCast_add, Rat.intCast_mul, hp]; rfl⟩
theorem rab_int {z : Int} (h : z ≠ 0) : 1 ≤ rab (z : Rat) := by
  unfold rab
  by_cases c : 0 ≤ z
  · rw [if_pos (Rat.intCast_nonneg.mpr c)]
    have : ((1 : Int) : Rat) ≤ (z : Rat) := Rat.intCast_le_intCast.mpr (by omega)
    exact this
  · rw [if_neg (fun h => c (Rat.intCast_nonneg.mp h))]
    have : ((1 : Int) : Rat) ≤ ((-z : Int) : Rat) := Rat.intCast_le_intCast.mpr (by omega)
    rw [Rat.intCast_neg] at this
    exact this
theorem val_le {P S G : Rat} {z : Int} (hP : P = S * G) (hS : S = (z : Rat)) (h0 : S = 0 → G = 0) : rab G ≤ rab P := by
  by_cases c : z = 0
  · have hs : S = 0 := by rw [hS, c]; rfl
    rw [h0 hs]
    have := rab_nn P
    unfold rab at *
    rw [if_pos Rat.le_refl]; exact this
  · have h1 := rab_int c
    rw [hP, rab_mul, hS]
    have h2 := mul_le2 (show (0 : Rat) ≤ 1 by decide) (rab_nn G) h1 (Rat.le_refl (a := rab G))
    rw [Rat.one_mul] at h2
    exact h2
/-- at a whole point the square-free part is not larger than the polynomial -/
theorem free_val {p : Nat → Int} (h0 : 0 ≤ pdeg p) (a : Int) : rab (ev (freeR p) (a : Rat)) ≤ rab (ev (pprim p) (a : Rat)) := by
  obtain ⟨L, hr⟩ := row_ex h0
  obtain ⟨h, hC, hS, _⟩ := row_h hr h0
  obtain ⟨c, d, hc, eF, dF, dS, _, _, _⟩ := free_h hr h0 hC hS
  have hL := hr.1
  have hS0 := hS 0 (by omega)
  rw [rsq_0] at hS0
  obtain ⟨z, hz⟩ := pe_int (rsq p (L - 1)) a 7
  have hz' : ev (rsq p (L - 1)) (a : Rat) = (z : Rat) := hz
  obtain ⟨s, hs⟩ := Int.eq_ofNat_of_zero_le (hr.2.2.1 (L - 1) (by omega))
  have key : ev (rsq p (L - 1)) (a : Rat) = 0 → h 0 (a : Rat) = 0 := fun hz0 => by
    by_cases c1 : L = 1
    · exfalso
      have h1 : h 0 (a : Rat) = 1 := by have := hC.2.1 (a : Rat); rw [c1] at this; exact this
      subst c1
      -- one member only: the polynomial is a constant
      have d1 : pdeg (rsq p 1) < 0 := hr.2.2.2
      obtain ⟨g, hg⟩ := Int.eq_ofNat_of_zero_le h0
      have d2 := drv_deg hg
      rw [rsq_1, prim_deg] at d1
      have d3 : pdeg (rsq p 0) = 0 := by
        rw [rsq_0, prim_deg]; have := pdeg_in p; omega
      obtain ⟨ce, ce1, ce2⟩ := ev_hdeg (n := 0) d3
      have hz1 : ev (rsq p 0) (a : Rat) = 0 := hz0
      rw [ce2] at hz1
      have hz2 : 0 + ce 0 * (a : Rat) ^ 0 = 0 := hz1
      rw [Rat.pow_zero] at hz2
      exact ce1 (by grind)
    · obtain ⟨γ0, g0, p0⟩ := ev_prim p
      obtain ⟨γ1, g1, p1⟩ := ev_prim (drv p)
      have hS1 := hS 1 (by omega)
      rw [rsq_1] at hS1
      refine Classical.byContradiction fun hne => ?_
      exact zero_G (g := ev (rsq p (L - 1))) (h0 := h 0) (h1 := h 1) (P := ev p) (P' := ev (drv p)) (γ0 := γ0) (γ1 := γ1) (ev_Pfn _) (hC.1 0 (by omega)) (hC.1 1 (by omega)) g0 (fun x => by rw [p0, hS0]) (fun x => by rw [p1, hS1]) (fun K hK => ev_anP p hK) (ev_hdeg hs) hne hz0
  have rc : rab c = 1 := by
    rcases hc with rfl | rfl
    · exact if_pos (by decide)
    · unfold rab; rw [if_neg (by decide)]; decide
  rw [eF, rab_mul, rc, Rat.one_mul]
  exact val_le (hS0 _) hz' key
