/-! PLAIN LAW 9: the count by halving is the count by changes of signs -/
theorem leaf0p_sc {f g : Rat → Rat} {a b s : Rat} (hs : 0 < s) (e : ∀ x, g x = s * f x) (h : leaf0p g a b) : leaf0p f a b := by
  have p : ∀ x, 0 < g x → 0 < f x := fun x q => by
    refine Classical.byContradiction fun w => ?_
    have := Rat.mul_nonneg (Rat.le_of_lt hs) (show 0 ≤ -f x by grind)
    rw [e] at q; grind
  have p0 : ∀ x, 0 ≤ g x → 0 ≤ f x := fun x q => by
    refine Classical.byContradiction fun w => ?_
    have := Rat.mul_pos hs (show 0 < -f x by grind)
    rw [e] at q; grind
  exact ⟨fun z h1 h2 => p z (h.1 z h1 h2), p0 a h.2.1, p0 b h.2.2⟩
theorem leaf1p_sc {f g : Rat → Rat} {a b s : Rat} (hs : 0 < s) (e : ∀ x, g x = s * f x) (h : leaf1p g a b) : leaf1p f a b := by
  have p : ∀ x, 0 < g x → 0 < f x := fun x q => by
    refine Classical.byContradiction fun w => ?_
    have := Rat.mul_nonneg (Rat.le_of_lt hs) (show 0 ≤ -f x by grind)
    rw [e] at q; grind
  have n : ∀ x, g x < 0 → f x < 0 := fun x q => by
    refine Classical.byContradiction fun w => ?_
    have := Rat.mul_nonneg (Rat.le_of_lt hs) (show 0 ≤ f x by grind)
    rw [e] at q; grind
  obtain ⟨h1, ⟨z, z1, z2, z3⟩, ⟨w, w1, w2, w3⟩, h4, h5⟩ := h
  refine ⟨fun z w k1 k2 k3 k4 => p w (h1 z w k1 k2 k3 ?_), ⟨z, z1, z2, n z z3⟩, ⟨w, w1, w2, p w w3⟩, ?_, ?_⟩
  · rw [e]; exact Rat.mul_nonneg (Rat.le_of_lt hs) k4
  · refine Classical.byContradiction fun q => ?_
    have := Rat.mul_pos hs (show 0 < f a by grind)
    rw [e] at h4; grind
  · refine Classical.byContradiction fun q => ?_
    have := Rat.mul_pos hs (show 0 < -f b by grind)
    rw [e] at h5; grind
theorem pe_sg (σ : Rat) (W : Nat → Int) (n : Nat) (y : Rat) : pe (fun k => σ * ci W k) n y = σ * pe (ci W) n y := pe_mul σ (ci W) n y
theorem desc_leaf {h : Nat → Rat → Rat} {r : Nat} {K α β c : Rat} {q : Nat → Int} {d : Nat} (H : chn h r K) (hd : dirC h K) (ha : -K ≤ α) (hab : α < β) (hb : β ≤ K) (hq : ∀ t, pe (ci q) (d + 1) t = c * h 0 (α + (β - α) * t)) (hc : c ≠ 0) (hnz : ∀ x y, x < y → ∃ v, x < v ∧ v < y ∧ h 0 v ≠ 0) (hv : chC (wiF q d) (d + 1) < 2) : NV h r α β = (chC (wiF q d) (d + 1) : Int) := by
  obtain ⟨W, hW⟩ : ∃ W, W = wiF q d := ⟨_, rfl⟩
  rw [← hW] at hv ⊢
  have hba : 0 < β - α := by grind
  -- at x between α and β
  have at_x : ∀ x, α < x → x < β → ∃ y, 0 < y ∧ (y + 1) * (x - α) = β - α ∧ pe (ci W) (d + 1) y = (y + 1) ^ d * (c * h 0 x) := fun x h1 h2 => by
    have hx : 0 < x - α := by grind
    have hi : 0 < (x - α)⁻¹ := Rat.inv_pos.mpr hx
    have hm : (x - α) * (x - α)⁻¹ = 1 := Rat.mul_inv_cancel _ (by grind)
    obtain ⟨y, hy⟩ : ∃ y, y = (β - α) * (x - α)⁻¹ - 1 := ⟨_, rfl⟩
    have hy0 : 0 < y := by
      have := Rat.mul_pos (show 0 < β - x by grind) hi
      grind
    have e1 : (y + 1) * (x - α) = β - α := by rw [hy]; grind
    refine ⟨y, hy0, e1, ?_⟩
    have hy1 : (y + 1) * (y + 1)⁻¹ = 1 := Rat.mul_inv_cancel _ (by grind)
    have e2 : α + (β - α) * (y + 1)⁻¹ = x := by
      have : (β - α) * (y + 1)⁻¹ = (x - α) * ((y + 1) * (y + 1)⁻¹) := by rw [← e1]; grind
      rw [this, hy1]; grind
    rw [hW, wi_ev q d y (Rat.le_of_lt hy0), hq, e2]
  -- every y > 0 comes of an x
  have of_y : ∀ y, 0 < y → ∃ x, α < x ∧ x < β ∧ pe (ci W) (d + 1) y = (y + 1) ^ d * (c * h 0 x) := fun y hy0 => by
    have hi : 0 < (y + 1)⁻¹ := Rat.inv_pos.mpr (by grind)
    have hm : (y + 1) * (y + 1)⁻¹ = 1 := Rat.mul_inv_cancel _ (by grind)
    have e1 := Rat.mul_pos hba hi
    have e2 := Rat.mul_pos e1 hy0
    refine ⟨α + (β - α) * (y + 1)⁻¹, by grind, ?_, ?_⟩
    · have : (β - α) * (y + 1)⁻¹ * y = (β - α) * ((y + 1) * (y + 1)⁻¹) - (β - α) * (y + 1)⁻¹ := by grind
      rw [this, hm] at e2
      grind
    · rw [hW, wi_ev q d y (Rat.le_of_lt hy0), hq]
  have hWd : ((W d : Int) : Rat) = c * h 0 α := by
    rw [hW, wi_top]
    have := hq 0
    rw [pe_at0] at this
    have e : α + (β - α) * 0 = α := by grind
    rw [e] at this
    exact this
  have hW0 : ((W 0 : Int) : Rat) = c * h 0 β := by
    have := wi_ev q d 0 Rat.le_refl
    rw [pe_at0, hq, ← hW] at this
    have e1 : ((0 : Rat) + 1)⁻¹ = 1 := by
      have := Rat.mul_inv_cancel ((0 : Rat) + 1) (by grind)
      grind
    have e2 : ((0 : Rat) + 1) ^ d = 1 := by
      have : ∀ m : Nat, ((0 : Rat) + 1) ^ m = 1 := fun m => by
        induction m with
        | zero => exact Rat.pow_zero _
        | succ m ihm => rw [Rat.pow_succ, ihm]; grind
      exact this d
    have e3 : α + (β - α) * 1 = β := by grind
    rw [e1, e2, e3] at this
    have : ((W 0 : Int) : Rat) = 1 * (c * h 0 β) := this
    grind
  have npos : ∀ y : Rat, 0 < y → 0 < (y + 1) ^ d := fun y hy => rpow_pos (by grind) d
  rcases (show chC W (d + 1) = 0 ∨ chC W (d + 1) = 1 by omega) with hz | hz
  · -- no change
    rw [hz]
    rcases ch0 (d + 1) hz with ⟨_, h2⟩ | ⟨h1, h2, k0, h3, h4⟩
    · obtain ⟨v, v1, v2, v3⟩ := hnz α β hab
      obtain ⟨y, y1, _, y3⟩ := at_x v v1 v2
      rw [pe_z (d + 1) (fun k hk => by show ((W k : Int) : Rat) = 0; rw [h2 k hk]; rfl)] at y3
      have e1 : (y + 1) ^ d ≠ 0 := by have := npos y y1; grind
      have e2 : (y + 1) ^ d * (c * h 0 v) = 0 := y3.symm
      rcases Rat.mul_eq_zero.mp e2 with w | w
      · exact absurd w e1
      · rcases Rat.mul_eq_zero.mp w with w | w
        · exact absurd w hc
        · exact absurd w v3
    · obtain ⟨σ, hσ⟩ : ∃ σ : Int, σ = chL W (d + 1) := ⟨_, rfl⟩
      rw [← hσ] at h1 h2 h4
      have cast : ∀ k, (σ : Rat) * ci W k = ((σ * W k : Int) : Rat) := fun k => (Rat.intCast_mul σ (W k)).symm
      have key : leaf0p (fun x => (σ : Rat) * c * h 0 x) α β := by
        refine ⟨fun x x1 x2 => ?_, ?_, ?_⟩
        · obtain ⟨y, y1, _, y3⟩ := at_x x x1 x2
          have e1 : 0 < pe (fun k => (σ : Rat) * ci W k) (d + 1) y := pe_pos y1 (d + 1) (fun k hk => by
            show 0 ≤ (σ : Rat) * ci W k
            rw [cast]; exact Rat.intCast_nonneg.mpr (h2 k hk)) ⟨k0, h3, by
            show 0 < (σ : Rat) * ci W k0
            rw [cast]; exact Rat.intCast_pos.mpr h4⟩
          rw [pe_sg, y3] at e1
          have e2 := npos y y1
          show 0 < (σ : Rat) * c * h 0 x
          refine Classical.byContradiction fun w => ?_
          have := Rat.mul_nonneg (Rat.le_of_lt e2) (show 0 ≤ -((σ : Rat) * c * h 0 x) by grind)
          grind
        · show 0 ≤ (σ : Rat) * c * h 0 α
          have : (0 : Rat) ≤ ((σ * W d : Int) : Rat) := Rat.intCast_nonneg.mpr (h2 d (by omega))
          rw [Rat.intCast_mul, hWd] at this
          grind
        · show 0 ≤ (σ : Rat) * c * h 0 β
          have : (0 : Rat) ≤ ((σ * W 0 : Int) : Rat) := Rat.intCast_nonneg.mpr (h2 0 (by omega))
          rw [Rat.intCast_mul, hW0] at this
          grind
      have hs0 : (σ : Rat) * c ≠ 0 := fun e => by
        rcases Rat.mul_eq_zero.mp e with w | w
        · have := Rat.intCast_eq_zero_iff.mp w; omega
        · exact hc w
      refine leaf0_N H hd ha hab hb ?_
      by_cases p : 0 < (σ : Rat) * c
      · exact Or.inl (leaf0p_sc p (fun _ => rfl) key)
      · exact Or.inr (leaf0p_sc (s := -((σ : Rat) * c)) (by grind) (fun x => by show (σ : Rat) * c * h 0 x = -((σ : Rat) * c) * -h 0 x; grind) key)
  · -- one change
    rw [hz]
    obtain ⟨h1, j, h2, h3, ⟨k0, h4, h4'⟩, h5, h6⟩ := ch1 (d + 1) hz
    obtain ⟨σ, hσ⟩ : ∃ σ : Int, σ = chL W (d + 1) := ⟨_, rfl⟩
    rw [← hσ] at h1 h3 h4' h5 h6
    have cast : ∀ k, (σ : Rat) * ci W k = ((σ * W k : Int) : Rat) := fun k => (Rat.intCast_mul σ (W k)).symm
    have c1 : ∀ k, k < j → (fun k => (σ : Rat) * ci W k) k ≤ 0 := fun k hk => by
      show (σ : Rat) * ci W k ≤ 0
      rw [cast]; exact Rat.intCast_nonpos.mpr (h3 k hk)
    have c2 : ∃ k, k < j ∧ (fun k => (σ : Rat) * ci W k) k < 0 := ⟨k0, h4, by
      show (σ : Rat) * ci W k0 < 0
      rw [cast]; exact Rat.intCast_neg_iff.mpr h4'⟩
    have c3 : ∀ k, j ≤ k → k < d + 1 → 0 ≤ (fun k => (σ : Rat) * ci W k) k := fun k k1 k2 => by
      show 0 ≤ (σ : Rat) * ci W k
      rw [cast]; exact Rat.intCast_nonneg.mpr (h5 k k1 k2)
    have c4 : 0 < (fun k => (σ : Rat) * ci W k) j := by
      show 0 < (σ : Rat) * ci W j
      rw [cast]; exact Rat.intCast_pos.mpr h6
    -- σ times the value at y, and at x
    have val : ∀ x y, 0 < y → pe (ci W) (d + 1) y = (y + 1) ^ d * (c * h 0 x) → (0 < pe (fun k => (σ : Rat) * ci W k) (d + 1) y ↔ 0 < (σ : Rat) * c * h 0 x) ∧ (pe (fun k => (σ : Rat) * ci W k) (d + 1) y < 0 ↔ (σ : Rat) * c * h 0 x < 0) := fun x y y1 y3 => by
      rw [pe_sg, y3]
      have e2 := npos y y1
      have e3 : (σ : Rat) * ((y + 1) ^ d * (c * h 0 x)) = (y + 1) ^ d * ((σ : Rat) * c * h 0 x) := by grind
      rw [e3]
      refine ⟨⟨fun w => ?_, fun w => Rat.mul_pos e2 w⟩, fun w => ?_, fun w => ?_⟩
      · refine Classical.byContradiction fun u => ?_
        have := Rat.mul_nonneg (Rat.le_of_lt e2) (show 0 ≤ -((σ : Rat) * c * h 0 x) by grind)
        grind
      · refine Classical.byContradiction fun u => ?_
        have := Rat.mul_nonneg (Rat.le_of_lt e2) (show 0 ≤ (σ : Rat) * c * h 0 x by grind)
        grind
      · have := Rat.mul_pos e2 (show 0 < -((σ : Rat) * c * h 0 x) by grind)
        grind
    have key : leaf1p (fun x => -((σ : Rat) * c) * h 0 x) α β := by
      refine ⟨fun z w z1 zw w1 k => ?_, ?_, ?_, ?_, ?_⟩
      · obtain ⟨y, y1, y2, y3⟩ := at_x z z1 (by grind)
        obtain ⟨u, u1, u2, u3⟩ := at_x w (by grind) w1
        have k : 0 ≤ -((σ : Rat) * c) * h 0 z := k
        show 0 < -((σ : Rat) * c) * h 0 w
        have hyu : u < y := by
          refine Classical.byContradiction fun g => ?_
          have e1 := Rat.mul_nonneg (show 0 ≤ u - y by grind) (show 0 ≤ w - α by grind)
          have e2 := Rat.mul_pos (show 0 < y + 1 by grind) (show 0 < w - z by grind)
          grind
        have vz := val z y y1 y3
        have vw := val w u u1 u3
        refine Classical.byContradiction fun g => ?_
        have g1 : 0 ≤ pe (fun k => (σ : Rat) * ci W k) (d + 1) u := by
          refine Classical.byContradiction fun g2 => ?_
          have := vw.2.mp (by grind)
          grind
        have g3 := one_mono c1 c2 c3 h2 u1 hyu g1
        have := vz.1.mp g3
        grind
      · obtain ⟨y, y1, y2⟩ := one_pos c1 (by omega) c3 h2 c4
        obtain ⟨x, x1, x2, x3⟩ := of_y y y1
        have := (val x y y1 x3).1.mp y2
        exact ⟨x, x1, x2, by show -((σ : Rat) * c) * h 0 x < 0; grind⟩
      · obtain ⟨y, y1, y2⟩ := one_neg c1 c2 c3 h2
        obtain ⟨x, x1, x2, x3⟩ := of_y y y1
        have := (val x y y1 x3).2.mp y2
        exact ⟨x, x1, x2, by show 0 < -((σ : Rat) * c) * h 0 x; grind⟩
      · show -((σ : Rat) * c) * h 0 α ≤ 0
        have := c3 d (by omega) (by omega)
        have : 0 ≤ (σ : Rat) * ((W d : Int) : Rat) := this
        rw [hWd] at this
        grind
      · show 0 ≤ -((σ : Rat) * c) * h 0 β
        have := c1 0 (by omega)
        have : (σ : Rat) * ((W 0 : Int) : Rat) ≤ 0 := this
        rw [hW0] at this
        grind
    have hs0 : (σ : Rat) * c ≠ 0 := fun e => by
      rcases Rat.mul_eq_zero.mp e with w | w
      · have := Rat.intCast_eq_zero_iff.mp w; omega
      · exact hc w
    refine leaf1_N H hd ha hab hb ?_
    by_cases p : 0 < (σ : Rat) * c
    · exact Or.inr (leaf1p_sc p (fun x => by show -((σ : Rat) * c) * h 0 x = (σ : Rat) * c * -h 0 x; grind) key)
    · exact Or.inl (leaf1p_sc (s := -((σ : Rat) * c)) (by grind) (fun _ => rfl) key)
theorem desc_cnt {h : Nat → Rat → Rat} {r : Nat} {K : Rat} {d : Nat} (H : chn h r K) (hd : dirC h K) (hnz : ∀ x y, x < y → ∃ v, x < v ∧ v < y ∧ h 0 v ≠ 0) : ∀ (n : Nat) (q : Nat → Int) (α β c : Rat), -K ≤ α → α < β → β ≤ K → (∀ t, pe (ci q) (d + 1) t = c * h 0 (α + (β - α) * t)) → c ≠ 0 → fitB d n q → NV h r α β = (cnB d n q : Int) := by
  intro n
  induction n with
  | zero => intro q α β c ha hab hb hq hc hf; exact desc_leaf H hd ha hab hb hq hc hnz hf.2
  | succ n ih =>
    intro q α β c ha hab hb hq hc hf
    by_cases hv : chC (wiF q d) (d + 1) < 2
    · rw [cnB_1 hv]; exact desc_leaf H hd ha hab hb hq hc hnz hv
    · obtain ⟨_, f1, f2⟩ := hf.2 (by omega)
      have hcn : cnB d (n + 1) q = cnB d n (lfF q d) + (if rtF q d 0 = 0 then 1 else 0) + cnB d n (rtF q d) := by
        rw [cnB, if_neg hv]
      have h2d : (2 : Rat) ^ d ≠ 0 := by have := rpow_pos (show (0 : Rat) < 2 by decide) d; grind
      have hc2 : 2 ^ d * c ≠ 0 := fun e => by
        rcases Rat.mul_eq_zero.mp e with w | w
        · exact h2d w
        · exact hc w
      obtain ⟨m, hm⟩ : ∃ m, m = (α + β) / 2 := ⟨_, rfl⟩
      have m1 : α < m := by grind
      have m2 : m < β := by grind
      have i1 := ih (lfF q d) α m (2 ^ d * c) ha m1 (by grind) (fun t => by
        rw [lf_ev, hq, show α + (β - α) * (t / 2) = α + (m - α) * t by grind]; grind) hc2 f1
      have i2 := ih (rtF q d) m β (2 ^ d * c) (by grind) m2 hb (fun t => by
        rw [rt_ev, hq, show α + (β - α) * ((t + 1) / 2) = m + (β - m) * t by grind]; grind) hc2 f2
      have i3 : (rtF q d 0 = 0) ↔ (h 0 m = 0) := by
        have e1 := rt_ev q d 0
        rw [pe_at0, hq, show α + (β - α) * ((0 + 1) / 2) = m by grind] at e1
        have e1 : ((rtF q d 0 : Int) : Rat) = 2 ^ d * (c * h 0 m) := e1
        constructor
        · intro w
          rw [w] at e1
          have e2 : 2 ^ d * (c * h 0 m) = 0 := e1.symm
          rcases Rat.mul_eq_zero.mp e2 with u | u
          · exact absurd u h2d
          · rcases Rat.mul_eq_zero.mp u with u | u
            · exact absurd u hc
            · exact u
        · intro w
          rw [w] at e1
          exact Rat.intCast_eq_zero_iff.mp (by grind)
      rw [NV_add h r α m β, i1, i2, hcn]
      by_cases w : h 0 m = 0
      · rw [if_pos w, if_pos (i3.mpr w)]; omega
      · rw [if_neg w, if_neg (fun e => w (i3.mp e))]; omega
