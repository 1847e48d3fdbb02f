/-! PLAIN LAW 48: beyond Cauchy's bound -/
theorem rab_pow (x : Rat) : ∀ n : Nat, rab (x ^ n) = rab x ^ n := by
  intro n
  induction n with
  | zero => rw [Rat.pow_zero, Rat.pow_zero]; exact if_pos (by decide)
  | succ n ih => rw [Rat.pow_succ, Rat.pow_succ, rab_mul, ih]
theorem cau1 {c : Nat → Rat} {M X x : Rat} (hX : X = rab x) (h1 : 1 ≤ X) : ∀ g, (∀ k, k < g → rab (c k) ≤ M) → (X - 1) * rab (pe c g x) ≤ M * (X ^ g - 1) := by
  intro g
  induction g with
  | zero =>
    intro _
    show (X - 1) * rab 0 ≤ M * (X ^ 0 - 1)
    rw [rab_0, Rat.pow_zero]; grind
  | succ g ih =>
    intro hM
    have h2 := ih (fun k hk => hM k (by omega))
    have h3 := hM g (Nat.lt_succ_self g)
    have h4 := rab_add (pe c g x) (c g * x ^ g)
    rw [rab_mul, rab_pow, ← hX] at h4
    have hp : 0 ≤ X ^ g := by
      have : ∀ n : Nat, 0 ≤ X ^ n := by
        intro n
        induction n with
        | zero => rw [Rat.pow_zero]; decide
        | succ n ih => rw [Rat.pow_succ]; exact Rat.mul_nonneg ih (by grind)
      exact this g
    have h5 : rab (c g) * X ^ g ≤ M * X ^ g := Rat.mul_le_mul_of_nonneg_right h3 hp
    show (X - 1) * rab (pe c g x + c g * x ^ g) ≤ M * (X ^ (g + 1) - 1)
    have h6 : rab (pe c g x + c g * x ^ g) ≤ rab (pe c g x) + M * X ^ g := by grind
    have h7 := Rat.mul_le_mul_of_nonneg_left h6 (show 0 ≤ X - 1 by grind)
    have h8 : (X - 1) * (rab (pe c g x) + M * X ^ g) = (X - 1) * rab (pe c g x) + (X - 1) * (M * X ^ g) := by grind
    have h9 : M * (X ^ (g + 1) - 1) = M * (X ^ g - 1) + (X - 1) * (M * X ^ g) := by rw [Rat.pow_succ]; grind
    rw [h8] at h7
    rw [h9]
    grind
theorem pow_1 {X : Rat} (h : 1 ≤ X) : ∀ n : Nat, 1 ≤ X ^ n := by
  intro n
  induction n with
  | zero => rw [Rat.pow_zero]; exact Rat.le_refl
  | succ n ih =>
    rw [Rat.pow_succ]
    have := Rat.mul_le_mul_of_nonneg_left h (show (0 : Rat) ≤ X ^ n by grind)
    grind
/-- the head outweighs the rest, by a margin -/
theorem cau2 {q : Nat → Int} {g : Nat} (hg : pdeg q = (g : Int)) {M : Int} (hM : ∀ k, k < g → ((q k).natAbs : Int) ≤ M) (hM0 : 0 ≤ M) {X0 : Rat} (hX0 : (M : Rat) ≤ (X0 - 1) * rab (q g : Rat)) (h1 : 1 ≤ X0) {x : Rat} (hx : X0 ≤ rab x) : ∃ u v : Rat, ev q x = u + v ∧ v = (q g : Rat) * x ^ g ∧ rab u < rab v ∧ 1 ≤ rab x * (rab v - rab u) := by
  have hgd := degU_at q 7 g hg
  obtain ⟨X, hX⟩ : ∃ X, X = rab x := ⟨_, rfl⟩
  have X1 : 1 ≤ X := by rw [hX]; grind
  have a1 := rab_int hgd.1
  have hev : ev q x = pe (ci q) g x + (q g : Rat) * x ^ g := by
    show pe (ci q) 7 x = _
    rw [pe_ext2 (n := g + 1) 7 (by omega) (fun k k1 k2 => by show (q k : Rat) = 0; rw [degU_hi q 7 k (by show pdeg q < _; omega) k2]; rfl) x]
    rfl
  have hv : rab ((q g : Rat) * x ^ g) = rab (q g : Rat) * X ^ g := by rw [rab_mul, rab_pow, hX]
  have Xg := pow_1 X1 g
  have hc := cau1 (c := ci q) (M := (M : Rat)) hX X1 g (fun k hk => by
    have h2 := hM k hk
    have h3 := nat_rab (q k) (b := M.toNat) (by omega)
    have h4 : ((M.toNat : Nat) : Rat) = (M : Rat) := by
      have h5 : ((M.toNat : Nat) : Int) = M := by omega
      have h6 : (((M.toNat : Nat) : Int) : Rat) = (M : Rat) := by rw [h5]
      exact h6
    rw [h4] at h3
    exact h3)
  have hU0 : M = 0 → rab (pe (ci q) g x) = 0 := fun e => by
    rw [pe_z g (fun k hk => by
      have h2 := hM k hk
      show (q k : Rat) = 0
      rw [show q k = 0 by omega]; rfl) x]
    exact rab_0
  have hU1 := rab_nn (pe (ci q) g x)
  have hM1 : M ≠ 0 → (1 : Rat) ≤ (M : Rat) := fun e => by
    have : ((1 : Int) : Rat) ≤ (M : Rat) := Rat.intCast_le_intCast.mpr (by omega)
    exact this
  refine ⟨pe (ci q) g x, (q g : Rat) * x ^ g, hev, rfl, ?_⟩
  rw [hv, ← hX]
  have Xx : X0 ≤ X := by rw [hX]; exact hx
  generalize rab (pe (ci q) g x) = U at *
  generalize rab (q g : Rat) = a at *
  generalize X ^ g = Y at *
  have t1 : 1 ≤ a * Y := by
    have := Rat.mul_le_mul_of_nonneg_left Xg (show (0 : Rat) ≤ a by grind)
    grind
  by_cases c : M = 0
  · have := hU0 c
    subst this
    have t2 := Rat.mul_le_mul_of_nonneg_left t1 (show (0 : Rat) ≤ X by grind)
    constructor
    · grind
    · grind
  · have m1 := hM1 c
    generalize (M : Rat) = m at *
    have t2 : (X0 - 1) * a ≤ (X - 1) * a := Rat.mul_le_mul_of_nonneg_right (by grind) (by grind)
    have t3 : m * Y ≤ (X - 1) * a * Y := Rat.mul_le_mul_of_nonneg_right (by grind) (by grind)
    have t4 : 1 ≤ (X - 1) * (a * Y - U) := by
      have e1 : (X - 1) * (a * Y - U) = (X - 1) * a * Y - (X - 1) * U := by grind
      have e2 : m * (Y - 1) = m * Y - m := by grind
      rw [e2] at hc
      rw [e1]; grind
    have t5 : U < a * Y := by
      refine Classical.byContradiction fun w => ?_
      have := Rat.mul_le_mul_of_nonneg_left (show a * Y - U ≤ 0 by grind) (show (0 : Rat) ≤ X - 1 by grind)
      grind
    refine ⟨t5, ?_⟩
    have e3 : X * (a * Y - U) = (X - 1) * (a * Y - U) + (a * Y - U) := by grind
    rw [e3]; grind
theorem rsg_big {u v : Rat} (h : rab u < rab v) : rsg (u + v) = rsg v := by
  obtain ⟨h1, h2⟩ := rab_b u
  by_cases c : 0 ≤ v
  · have e : rab v = v := if_pos c
    rw [e] at h
    rw [rsg_p (by grind), rsg_p (by grind)]
  · have e : rab v = -v := if_neg c
    rw [e] at h
    rw [rsg_n (by grind), rsg_n (by grind)]
theorem rsg_int (z : Int) : rsg (z : Rat) = z.sign := by
  have h := sign_cast z
  exact h.symm
/-- signs far to the right and to the left -/
theorem far_sg {q : Nat → Int} {g : Nat} (hg : pdeg q = (g : Int)) {M : Int} (hM : ∀ k, k < g → ((q k).natAbs : Int) ≤ M) (hM0 : 0 ≤ M) {X0 : Rat} (hX0 : (M : Rat) ≤ (X0 - 1) * rab (q g : Rat)) (h1 : 1 ≤ X0) {x : Rat} (hx : X0 ≤ x) : rsg (ev q x) = (q g).sign ∧ rsg (ev q (-x)) = (if g % 2 = 0 then (q g).sign else -(q g).sign) := by
  have ex : rab x = x := if_pos (by grind)
  have enx : rab (-x) = x := by
    unfold rab
    by_cases c : 0 ≤ -x
    · exfalso; grind
    · rw [if_neg c]; grind
  obtain ⟨u, v, e1, e2, e3, _⟩ := cau2 hg hM hM0 hX0 h1 (x := x) (by rw [ex]; exact hx)
  obtain ⟨u', v', e1', e2', e3', _⟩ := cau2 hg hM hM0 hX0 h1 (x := -x) (by rw [enx]; exact hx)
  have xp : 0 < x := by grind
  have xg : 0 < x ^ g := rpow_pos xp g
  have r1 : ∀ z : Int, rsg ((z : Rat) * x ^ g) = z.sign := fun z => by
    rw [Rat.mul_comm, rsg_mul xg, rsg_int]
  refine ⟨by rw [e1, rsg_big e3, e2, r1], ?_⟩
  rw [e1', rsg_big e3', e2']
  have np : ∀ n : Nat, (-x) ^ n = if n % 2 = 0 then x ^ n else -(x ^ n) := by
    intro n
    induction n with
    | zero => rw [if_pos rfl, Rat.pow_zero, Rat.pow_zero]
    | succ n ih =>
      rw [Rat.pow_succ, ih, Rat.pow_succ]
      by_cases c : n % 2 = 0
      · rw [if_pos c, if_neg (by omega)]; grind
      · rw [if_neg c, if_pos (by omega)]; grind
  rw [np]
  by_cases c : g % 2 = 0
  · rw [if_pos c, if_pos c, r1]
  · rw [if_neg c, if_neg c]
    have : (q g : Rat) * -(x ^ g) = -((q g : Rat) * x ^ g) := by grind
    rw [this, rsg_neg, r1]
