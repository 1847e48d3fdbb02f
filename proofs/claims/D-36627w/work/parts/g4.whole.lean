/-! PLAIN LAW 49: the changes at infinity count the roots within Cauchy's bound -/
theorem cs_of {f : Rat → Rat} {K L ε a b : Rat} (hL0 : 0 ≤ L) (hL : anL f K L) (he : 0 < ε) (ha : -K ≤ a) (hb : b ≤ K) (hε : ∀ x, a ≤ x → x ≤ b → ε ≤ rab (f x)) : (∀ x, a ≤ x → x ≤ b → 0 < f x) ∨ (∀ x, a ≤ x → x ≤ b → 0 < -f x) := by
  have key : ∀ x, a ≤ x → x ≤ b → rsg (f a) = rsg (f x) := fun x h1 h2 => by
    refine an_const (W := fun x => rsg (f x)) h1 ⟨ε * (L + 1)⁻¹, Rat.mul_pos he (Rat.inv_pos.mpr (by grind)), fun u v k1 k2 k3 k4 => ?_⟩
    have l1 : (L + 1) * (L + 1)⁻¹ = 1 := Rat.mul_inv_cancel _ (by grind)
    have l2 : L * (v - u) < ε := by
      have l3 := Rat.mul_lt_mul_of_pos_left k4 (show 0 < L + 1 by grind)
      have l4 : (L + 1) * (ε * (L + 1)⁻¹) = ε * ((L + 1) * (L + 1)⁻¹) := by grind
      rw [l4, l1] at l3
      have l5 : (L + 1) * (v - u) = L * (v - u) + (v - u) := by grind
      rw [l5] at l3
      grind
    have hn := near_of hL0 hL (show -K ≤ u by grind) (show v ≤ K by grind) l2
    have hg := hgd_of (f := f) (x := u) (y := v) (z0 := u) (e := ε) (fun z h1 h2 => hn z u h1 h2 Rat.le_refl (Rat.le_of_lt k2)) (by
      have h5 := hε u k1 (by grind)
      unfold rab at h5
      by_cases c : 0 ≤ f u
      · rw [if_pos c] at h5; exact Or.inl h5
      · rw [if_neg c] at h5; right; grind)
    show rsg (f u) = rsg (f v)
    rcases hg with g | g
    · rw [rsg_p (g u Rat.le_refl (Rat.le_of_lt k2)), rsg_p (g v (Rat.le_of_lt k2) Rat.le_refl)]
    · rw [rsg_n (g u Rat.le_refl (Rat.le_of_lt k2)), rsg_n (g v (Rat.le_of_lt k2) Rat.le_refl)]
  by_cases hab : a ≤ b
  · have h0 := hε a Rat.le_refl hab
    rcases rsg_3 (f a) with ⟨h, e⟩ | ⟨h, e⟩ | ⟨h, e⟩
    · left
      intro x h1 h2
      have := key x h1 h2
      rw [e] at this
      rcases rsg_3 (f x) with ⟨h', e'⟩ | ⟨h', e'⟩ | ⟨h', e'⟩
      · exact h'
      · omega
      · omega
    · right
      intro x h1 h2
      have := key x h1 h2
      rw [e] at this
      rcases rsg_3 (f x) with ⟨h', e'⟩ | ⟨h', e'⟩ | ⟨h', e'⟩
      · omega
      · grind
      · omega
    · rw [h, rab_0] at h0
      exfalso; grind
  · left
    intro x h1 h2
    exfalso; grind
/-- beyond the bound the chain's first function stays away from 0 -/
theorem far_low {p : Nat → Int} {L : Nat} (hr : isRow p L) {g : Nat} (hg : pdeg p = (g : Int)) {h : Nat → Rat → Rat} (hC : polC h (L - 1)) (hS : ∀ i, i ≤ L - 1 → ∀ x, ev (rsq p i) x = ev (rsq p (L - 1)) x * h i x) (hD : ∀ K, 0 ≤ K → dirC h K) {M : Int} (hM : ∀ k, k < g → ((p k).natAbs : Int) ≤ M) (hM0 : 0 ≤ M) {b K : Rat} (hb : (M : Rat) ≤ (b - 1) * rab (p g : Rat)) (b1 : 1 ≤ b) (bK : b < K) : ∃ ε : Rat, 0 < ε ∧ (∀ x, b ≤ rab x → rab x ≤ K → ε ≤ rab (h 0 x)) ∧ ∃ Lp, 0 ≤ Lp ∧ anL (h 0) K Lp := by
  have K0 : 0 ≤ K := by grind
  have hS0 := hS 0 (by omega)
  rw [rsq_0] at hS0
  obtain ⟨γ, γ0, eγ⟩ := ev_prim p
  obtain ⟨B, B0, hB⟩ := (ev_Pfn (rsq p (L - 1))).bd K0
  obtain ⟨Lp, L0, hLp⟩ := (hC.1 0 (by omega)).lip K0
  have low : ∀ x, b ≤ rab x → rab x ≤ K → (K * (γ * (B + 1)))⁻¹ ≤ rab (h 0 x) := fun x h1 h2 => by
    obtain ⟨u, v, e1, _, e3, e4⟩ := cau2 hg hM hM0 hb b1 h1
    have t1 : rab v - rab u ≤ rab (ev p x) := by
      have := rab_add (u + v) (-u)
      have e5 : u + v + -u = v := by grind
      have e6 : rab (-u) = rab u := by
        have := rab_mul (-1) u
        have e7 : rab (-1) = 1 := by unfold rab; rw [if_neg (by decide)]; decide
        rw [e7] at this
        have e8 : -1 * u = -u := by grind
        rw [e8] at this
        rw [this]; grind
      rw [e5, e6, ← e1] at this
      grind
    have t2 : 1 ≤ K * rab (ev p x) := by
      have s1 : rab x * (rab v - rab u) ≤ K * (rab v - rab u) := Rat.mul_le_mul_of_nonneg_right h2 (by grind)
      have s2 : K * (rab v - rab u) ≤ K * rab (ev p x) := Rat.mul_le_mul_of_nonneg_left t1 K0
      grind
    have t3 : rab (ev p x) = γ * (rab (ev (rsq p (L - 1)) x) * rab (h 0 x)) := by
      rw [eγ, hS0, rab_mul, rab_mul]
      have : rab γ = γ := if_pos (Rat.le_of_lt γ0)
      rw [this]
    obtain ⟨x1, x2⟩ := rab_b x
    have t4 : rab (ev (rsq p (L - 1)) x) ≤ B := by
      obtain ⟨q1, q2⟩ := hB x (by grind) (by grind)
      exact rab_le q1 q2
    have hn := rab_nn (h 0 x)
    have t5 : rab (ev (rsq p (L - 1)) x) * rab (h 0 x) ≤ (B + 1) * rab (h 0 x) := Rat.mul_le_mul_of_nonneg_right (by grind) hn
    have t6 : γ * (rab (ev (rsq p (L - 1)) x) * rab (h 0 x)) ≤ γ * ((B + 1) * rab (h 0 x)) := Rat.mul_le_mul_of_nonneg_left t5 (Rat.le_of_lt γ0)
    rw [t3] at t2
    have t7 : K * (γ * (rab (ev (rsq p (L - 1)) x) * rab (h 0 x))) ≤ K * (γ * ((B + 1) * rab (h 0 x))) := Rat.mul_le_mul_of_nonneg_left t6 K0
    have t8 : 1 ≤ (K * (γ * (B + 1))) * rab (h 0 x) := by
      have : (K * (γ * (B + 1))) * rab (h 0 x) = K * (γ * ((B + 1) * rab (h 0 x))) := by grind
      rw [this]; grind
    have cp : 0 < K * (γ * (B + 1)) := Rat.mul_pos (by grind) (Rat.mul_pos γ0 (by grind))
    have ci' : (K * (γ * (B + 1)))⁻¹ * (K * (γ * (B + 1))) = 1 := Rat.inv_mul_cancel _ (by grind)
    have t9 := Rat.mul_le_mul_of_nonneg_left t8 (show 0 ≤ (K * (γ * (B + 1)))⁻¹ from Rat.le_of_lt (Rat.inv_pos.mpr cp))
    have t10 : (K * (γ * (B + 1)))⁻¹ * ((K * (γ * (B + 1))) * rab (h 0 x)) = (K * (γ * (B + 1)))⁻¹ * (K * (γ * (B + 1))) * rab (h 0 x) := by grind
    rw [t10, ci'] at t9
    grind
  exact ⟨_, Rat.inv_pos.mpr (Rat.mul_pos (by grind) (Rat.mul_pos γ0 (by grind))), low, Lp, L0, hLp⟩
/-- no roots beyond the bound -/
theorem far_N {p : Nat → Int} {L : Nat} (hr : isRow p L) {g : Nat} (hg : pdeg p = (g : Int)) {h : Nat → Rat → Rat} (hC : polC h (L - 1)) (hS : ∀ i, i ≤ L - 1 → ∀ x, ev (rsq p i) x = ev (rsq p (L - 1)) x * h i x) (hD : ∀ K, 0 ≤ K → dirC h K) {M : Int} (hM : ∀ k, k < g → ((p k).natAbs : Int) ≤ M) (hM0 : 0 ≤ M) {b K : Rat} (hb : (M : Rat) ≤ (b - 1) * rab (p g : Rat)) (b1 : 1 ≤ b) (bK : b < K) : NV h (L - 1) b K = 0 ∧ NV h (L - 1) (-K) (-b) = 0 ∧ h 0 b ≠ 0 ∧ h 0 (-b) ≠ 0 ∧ h 0 K ≠ 0 := by
  have K0 : 0 ≤ K := by grind
  obtain ⟨ε, e0, low, Lp, L0, hLp⟩ := far_low hr hg hC hS hD hM hM0 hb b1 bK
  have rp : ∀ x : Rat, 0 ≤ x → rab x = x := fun x hx => if_pos hx
  have rn : ∀ x : Rat, x < 0 → rab x = -x := fun x hx => if_neg (by grind)
  have nz : ∀ x, b ≤ rab x → rab x ≤ K → h 0 x ≠ 0 := fun x h1 h2 w => by
    have := low x h1 h2
    rw [w, rab_0] at this
    grind
  have ch := hC.chn K0
  refine ⟨?_, ?_, nz b (by rw [rp b (by grind)]; exact Rat.le_refl) (by rw [rp b (by grind)]; exact Rat.le_of_lt bK), nz (-b) (by rw [rn (-b) (by grind)]; grind) (by rw [rn (-b) (by grind)]; grind), nz K (by rw [rp K K0]; exact Rat.le_of_lt bK) (by rw [rp K K0]; exact Rat.le_refl)⟩
  · refine leaf0_N ch (hD K K0) (by grind) bK Rat.le_refl ?_
    rcases cs_of L0 hLp e0 (a := b) (b := K) (by grind) Rat.le_refl (fun x h1 h2 => low x (by rw [rp x (by grind)]; exact h1) (by rw [rp x (by grind)]; exact h2)) with q | q
    · exact Or.inl ⟨fun z z1 z2 => q z (Rat.le_of_lt z1) (Rat.le_of_lt z2), Rat.le_of_lt (q b Rat.le_refl (Rat.le_of_lt bK)), Rat.le_of_lt (q K (Rat.le_of_lt bK) Rat.le_refl)⟩
    · exact Or.inr ⟨fun z z1 z2 => q z (Rat.le_of_lt z1) (Rat.le_of_lt z2), Rat.le_of_lt (q b Rat.le_refl (Rat.le_of_lt bK)), Rat.le_of_lt (q K (Rat.le_of_lt bK) Rat.le_refl)⟩
  · have nb : -K < -b := by grind
    refine leaf0_N ch (hD K K0) Rat.le_refl nb (by grind) ?_
    rcases cs_of L0 hLp e0 (a := -K) (b := -b) Rat.le_refl (by grind) (fun x h1 h2 => low x (by rw [rn x (by grind)]; grind) (by rw [rn x (by grind)]; grind)) with q | q
    · exact Or.inl ⟨fun z z1 z2 => q z (Rat.le_of_lt z1) (Rat.le_of_lt z2), Rat.le_of_lt (q (-K) Rat.le_refl (Rat.le_of_lt nb)), Rat.le_of_lt (q (-b) (Rat.le_of_lt nb) Rat.le_refl)⟩
    · exact Or.inr ⟨fun z z1 z2 => q z (Rat.le_of_lt z1) (Rat.le_of_lt z2), Rat.le_of_lt (q (-K) Rat.le_refl (Rat.le_of_lt nb)), Rat.le_of_lt (q (-b) (Rat.le_of_lt nb) Rat.le_refl)⟩
theorem far_same {p : Nat → Int} {L : Nat} (hr : isRow p L) {g : Nat} (hg : pdeg p = (g : Int)) {h : Nat → Rat → Rat} (hC : polC h (L - 1)) (hS : ∀ i, i ≤ L - 1 → ∀ x, ev (rsq p i) x = ev (rsq p (L - 1)) x * h i x) (hD : ∀ K, 0 ≤ K → dirC h K) {M : Int} (hM : ∀ k, k < g → ((p k).natAbs : Int) ≤ M) (hM0 : 0 ≤ M) {b K : Rat} (hb : (M : Rat) ≤ (b - 1) * rab (p g : Rat)) (b1 : 1 ≤ b) (bK : b < K) : rsg (h 0 b) = rsg (h 0 K) := by
  obtain ⟨ε, e0, low, Lp, L0, hLp⟩ := far_low hr hg hC hS hD hM hM0 hb b1 bK
  have rp : ∀ x : Rat, 0 ≤ x → rab x = x := fun x hx => if_pos hx
  rcases cs_of L0 hLp e0 (a := b) (b := K) (by grind) Rat.le_refl (fun x h1 h2 => low x (by rw [rp x (by grind)]; exact h1) (by rw [rp x (by grind)]; exact h2)) with q | q
  · rw [rsg_p (q b Rat.le_refl (Rat.le_of_lt bK)), rsg_p (q K (Rat.le_of_lt bK) Rat.le_refl)]
  · have q1 := q b Rat.le_refl (Rat.le_of_lt bK)
    have q2 := q K (Rat.le_of_lt bK) Rat.le_refl
    rw [rsg_n (by grind), rsg_n (by grind)]
/-- the component's sum and the changes of two sequences of signs -/
theorem ch_adj {s : Nat → Int} {a : Nat → Int} : ∀ n, (∀ i, i < n → a i ≠ 0 ∧ (a i = 1 ∨ a i = -1) ∧ (s i).sign = a i) → chL s n = prv a n ∧ ∀ i, i < n → chC s (i + 1) = chC s i + (if a i * prv a i < 0 then 1 else 0) := by
  intro n
  induction n with
  | zero => intro _; exact ⟨rfl, fun i hi => absurd hi (Nat.not_lt_zero i)⟩
  | succ n ih =>
    intro h
    obtain ⟨h1, h2⟩ := ih (fun i hi => h i (by omega))
    obtain ⟨a0, a1, a2⟩ := h n (Nat.lt_succ_self n)
    refine ⟨?_, fun i hi => ?_⟩
    · rw [cl_s, a2, if_neg a0]; rfl
    · by_cases c : i = n
      · subst c
        rw [ch_s, a2, h1]
        cases i with
        | zero =>
          show (if a 0 ≠ 0 ∧ (0 : Int) ≠ 0 ∧ a 0 ≠ 0 then _ else _) = chC s 0 + (if a 0 * 0 < 0 then 1 else 0)
          rw [if_neg (fun w => w.2.1 rfl), Int.mul_zero, if_neg (by omega)]; rfl
        | succ i =>
          obtain ⟨b0, b1, _⟩ := h i (by omega)
          show (if a (i + 1) ≠ 0 ∧ a i ≠ 0 ∧ a (i + 1) ≠ a i then _ else _) = chC s (i + 1) + (if a (i + 1) * a i < 0 then 1 else 0)
          rcases a1 with e | e <;> rcases b1 with f | f <;> rw [e, f]
          · rw [if_neg (fun w => w.2.2 rfl), if_neg (by omega)]; rfl
          · rw [if_pos ⟨by decide, by decide, by decide⟩, if_pos (by decide)]
          · rw [if_pos ⟨by decide, by decide, by decide⟩, if_pos (by decide)]
          · rw [if_neg (fun w => w.2.2 rfl), if_neg (by omega)]; rfl
      · exact h2 i (by omega)
theorem arF_ch {S : Nat → Pl} {s t : Nat → Int} {L : Nat} (hs : ∀ i, i < L → rgt S i ≠ 0 ∧ (s i).sign = lft S i ∧ (t i).sign = rgt S i) : arF S L = (chC s L : Int) - (chC t L : Int) := by
  have r3 := rgt_3 S
  have l3 := lft_3 S
  have lz : ∀ i, i < L → lft S i ≠ 0 := fun i hi => by
    have := (hs i hi).1
    unfold lft
    split <;> omega
  have k1 := ch_adj (s := s) (a := lft S) L (fun i hi => ⟨lz i hi, by have := l3 i; have := lz i hi; omega, (hs i hi).2.1⟩)
  have k2 := ch_adj (s := t) (a := rgt S) L (fun i hi => ⟨(hs i hi).1, by have := r3 i; have := (hs i hi).1; omega, (hs i hi).2.2⟩)
  have key : ∀ j, j ≤ L → arF S j = (chC s j : Int) - (chC t j : Int) := by
    intro j
    induction j with
    | zero => intro _; rfl
    | succ j ih =>
      intro hj
      rw [k1.2 j (by omega), k2.2 j (by omega)]
      show arF S j + (if lft S j * prv (lft S) j < 0 then 1 else 0) - (if rgt S j * prv (rgt S) j < 0 then 1 else 0) = _
      rw [ih (by omega)]
      split <;> split <;> omega
  exact key L (Nat.le_refl L)
theorem max_row (q : Nat → Nat → Int) : ∀ L : Nat, ∃ K : Nat, ∀ i, i < L → ∀ k, k < 7 → (q i k).natAbs ≤ K := by
  intro L
  induction L with
  | zero => exact ⟨0, fun i hi => absurd hi (Nat.not_lt_zero i)⟩
  | succ L ih =>
    obtain ⟨K, hK⟩ := ih
    refine ⟨K + ((q L 0).natAbs + (q L 1).natAbs + (q L 2).natAbs + (q L 3).natAbs + (q L 4).natAbs + (q L 5).natAbs + (q L 6).natAbs), fun i hi k hk => ?_⟩
    by_cases c : i = L
    · subst c
      have c7 : k = 0 ∨ k = 1 ∨ k = 2 ∨ k = 3 ∨ k = 4 ∨ k = 5 ∨ k = 6 := by omega
      rcases c7 with rfl | rfl | rfl | rfl | rfl | rfl | rfl <;> omega
    · have := hK i (by omega) k hk
      omega
theorem pt_0 (z : Int) : pt z 0 = (z : Rat) := by
  unfold pt
  rw [Rat.pow_zero]
  have h1 := Rat.inv_mul_cancel (1 : Rat) (by decide)
  have : (1 : Rat)⁻¹ = 1 := by rw [Rat.mul_one] at h1; exact h1
  rw [this]; grind
theorem gd.inf {P : Pl} (h : gd P) {b : Nat} (b1 : 1 ≤ b) (hc : ∀ k, k < P.1 - 1 → ((P.2 k).natAbs : Int) ≤ ((b : Int) - 1) * ((P.2 (P.1 - 1)).natAbs : Int)) (hf : okPl (freeR P.2) 0 (-(b : Int)) (b : Int)) : arF (sq P) (seqLen P) = plF (freeR P.2) 0 (-(b : Int)) (b : Int) := by
  obtain ⟨L, hr⟩ := h.row
  obtain ⟨eL, hs⟩ := seq_row h.1 h.2.1 h.2.2.1 hr
  have h0 := h.2.2.2.all.1
  obtain ⟨H, hC, hS, hD⟩ := row_h hr h0
  obtain ⟨c, d, hcc, eF, _⟩ := free_h hr h0 hC hS
  have hcn : c ≠ 0 := by rcases hcc with rfl | rfl <;> decide
  have hL := hr.1
  obtain ⟨K0, hK0⟩ := max_row (rsq P.2) L
  obtain ⟨K, hK⟩ : ∃ K, K = K0 + b + 1 := ⟨_, rfl⟩
  rw [eL, plF_NV hC hD h.2.2.2.free.all.1 hcn eF (by omega) hf, pt_0, pt_0]
  -- no roots beyond b
  have hl := (degU_at P.2 7 (P.1 - 1) h.deg).1
  have M0 : (0 : Int) ≤ ((b : Int) - 1) * ((P.2 (P.1 - 1)).natAbs : Int) := Int.mul_nonneg (by omega) (by omega)
  have hMb : ((((b : Int) - 1) * ((P.2 (P.1 - 1)).natAbs : Int) : Int) : Rat) ≤ ((b : Rat) - 1) * rab (P.2 (P.1 - 1) : Rat) := by
    rw [Rat.intCast_mul, Rat.intCast_sub]
    have e1 : (((P.2 (P.1 - 1)).natAbs : Int) : Rat) = rab (P.2 (P.1 - 1) : Rat) := by
      unfold rab
      by_cases c0 : 0 ≤ P.2 (P.1 - 1)
      · rw [if_pos (Rat.intCast_nonneg.mpr c0), show ((P.2 (P.1 - 1)).natAbs : Int) = P.2 (P.1 - 1) by omega]
      · rw [if_neg (fun w => c0 (Rat.intCast_nonneg.mp w)), show ((P.2 (P.1 - 1)).natAbs : Int) = -P.2 (P.1 - 1) by omega, Rat.intCast_neg]
    rw [e1]
    exact Rat.le_refl
  have bb1 : (1 : Rat) ≤ (b : Rat) := by
    have : ((1 : Nat) : Rat) ≤ (b : Rat) := Rat.natCast_le_natCast.mpr b1
    exact this
  have bKr : (b : Rat) < (K : Rat) := Rat.natCast_lt_natCast.mpr (by omega)
  obtain ⟨n1, n2, z1, z2, z3⟩ := far_N hr h.deg hC hS hD hc M0 hMb bb1 bKr
  have nb : (((-(b : Int) : Int)) : Rat) = -(b : Rat) := Rat.intCast_neg _
  have pb : (((b : Nat) : Int) : Rat) = (b : Rat) := rfl
  rw [nb, pb]
  have tot : NV H (L - 1) (-(K : Rat)) (K : Rat) = NV H (L - 1) (-(b : Rat)) (b : Rat) := by
    rw [NV_add H (L - 1) (-(K : Rat)) (-(b : Rat)) (K : Rat), NV_add H (L - 1) (-(b : Rat)) (b : Rat) (K : Rat), n1, n2, if_neg z1, if_neg z2]
    omega
  rw [← tot]
  unfold NV
  rw [if_neg z3]
  -- the signs at K and -K
  have sg : ∀ i, i < L → rsg (ev (rsq P.2 i) (K : Rat)) = rgt (sq P) i ∧ rsg (ev (rsq P.2 i) (-(K : Rat))) = lft (sq P) i ∧ rgt (sq P) i ≠ 0 := fun i hi => by
    obtain ⟨b1', b2, b3⟩ := h.elt hr hi
    have lz := (degU_at (rsq P.2 i) 7 _ b3).1
    have g6 : (sq P i).1 - 1 < 7 := by have := b1'.2.1; omega
    have e1 : rgt (sq P) i = (rsq P.2 i ((sq P i).1 - 1)).sign := by
      unfold rgt
      rw [b2 _ g6]
    have hKr : ((K0 : Int) : Rat) ≤ ((K : Rat) - 1) * rab (rsq P.2 i ((sq P i).1 - 1) : Rat) := by
      have q1 := rab_int lz
      have q2 : (K0 : Rat) ≤ (K : Rat) - 1 := by
        have : ((K0 + 1 : Nat) : Rat) ≤ (K : Rat) := Rat.natCast_le_natCast.mpr (by omega)
        rw [Rat.natCast_add] at this
        have e9 : ((1 : Nat) : Rat) = 1 := rfl
        rw [e9] at this
        grind
      have q3 : (0 : Rat) ≤ (K0 : Rat) := Rat.natCast_nonneg
      have q4 := Rat.mul_le_mul_of_nonneg_left q1 (show (0 : Rat) ≤ (K : Rat) - 1 by grind)
      have q5 : ((K0 : Int) : Rat) = (K0 : Rat) := rfl
      rw [q5]; grind
    obtain ⟨f1, f2⟩ := far_sg b3 (M := (K0 : Int)) (fun k hk => Int.ofNat_le.mpr (hK0 i hi k (by omega))) (by omega) hKr (by grind) (x := (K : Rat)) Rat.le_refl
    refine ⟨by rw [f1, e1], ?_, by rw [e1]; exact fun w => lz (sign_z.mp w)⟩
    rw [f2]
    unfold lft
    rw [e1]
  have pk : pt (K : Int) 0 = (K : Rat) := pt_0 _
  have pnk : pt (-(K : Int)) 0 = -(K : Rat) := by rw [pt_0, Rat.intCast_neg]; rfl
  have lnz : ∀ x : Rat, rsg (ev (rsq P.2 (L - 1)) x) ≠ 0 → ev (rsq P.2 (L - 1)) x ≠ 0 := fun x hx w => hx (rsg_z.mpr w)
  have s1 := sg (L - 1) (by omega)
  have lf0 : lft (sq P) (L - 1) ≠ 0 := by
    have := s1.2.2
    unfold lft
    split <;> omega
  have v1 := row_V hL hS (K : Int) 0 (by rw [pk]; exact lnz _ (by rw [s1.1]; exact s1.2.2))
  have v2 := row_V hL hS (-(K : Int)) 0 (by rw [pnk]; exact lnz _ (by rw [s1.2.1]; exact lf0))
  rw [pk] at v1
  rw [pnk] at v2
  rw [← v1, ← v2]
  have := arF_ch (S := sq P) (s := fun i => pAt (rsq P.2 i) (-(K : Int)) 0) (t := fun i => pAt (rsq P.2 i) (K : Int) 0) (L := L) (fun i hi => by
    obtain ⟨t1, t2, t3⟩ := sg i hi
    refine ⟨t3, ?_, ?_⟩
    · show (pAt (rsq P.2 i) (-(K : Int)) 0).sign = _
      rw [pAt_sign, pnk, t2]
    · show (pAt (rsq P.2 i) (K : Int) 0).sign = _
      rw [pAt_sign, pk, t1])
  omega
