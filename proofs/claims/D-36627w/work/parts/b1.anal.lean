/-! PLAIN LAW 1: functions over the rationals that are bounded, Lipschitz and have a derivative on [-K, K] -/
theorem an_mulb {u v a b : Rat} (h1 : -a ≤ u) (h2 : u ≤ a) (h3 : -b ≤ v) (h4 : v ≤ b) : -(a * b) ≤ u * v ∧ u * v ≤ a * b := by
  have e1 := Rat.mul_nonneg (show 0 ≤ a - u by grind) (show 0 ≤ b + v by grind)
  have e2 := Rat.mul_nonneg (show 0 ≤ a + u by grind) (show 0 ≤ b - v by grind)
  have e3 := Rat.mul_nonneg (show 0 ≤ a - u by grind) (show 0 ≤ b - v by grind)
  have e4 := Rat.mul_nonneg (show 0 ≤ a + u by grind) (show 0 ≤ b + v by grind)
  constructor <;> grind
def anB (f : Rat → Rat) (K B : Rat) : Prop := ∀ x, -K ≤ x → x ≤ K → -B ≤ f x ∧ f x ≤ B
def anL (f : Rat → Rat) (K L : Rat) : Prop := ∀ x y, -K ≤ x → x ≤ y → y ≤ K → -(L * (y - x)) ≤ f y - f x ∧ f y - f x ≤ L * (y - x)
def anD (f g : Rat → Rat) (K M : Rat) : Prop := ∀ x y, -K ≤ x → x ≤ y → y ≤ K → -(M * ((y - x) * (y - x))) ≤ f y - f x - g x * (y - x) ∧ f y - f x - g x * (y - x) ≤ M * ((y - x) * (y - x))
/-- bounded, Lipschitz, with the derivative g -/
def anP (f g : Rat → Rat) (K : Rat) : Prop := ∃ B L M : Rat, 0 ≤ B ∧ 0 ≤ L ∧ 0 ≤ M ∧ anB f K B ∧ anL f K L ∧ anD f g K M
theorem anP_const (c K : Rat) : anP (fun _ => c) (fun _ => 0) K := by
  by_cases h : 0 ≤ c
  · exact ⟨c, 0, 0, h, by grind, by grind, fun x _ _ => ⟨by grind, by grind⟩, fun x y _ _ _ => ⟨by grind, by grind⟩, fun x y _ _ _ => ⟨by grind, by grind⟩⟩
  · exact ⟨-c, 0, 0, by grind, by grind, by grind, fun x _ _ => ⟨by grind, by grind⟩, fun x y _ _ _ => ⟨by grind, by grind⟩, fun x y _ _ _ => ⟨by grind, by grind⟩⟩
theorem anP_id {K : Rat} (hK : 0 ≤ K) : anP (fun x => x) (fun _ => 1) K :=
  ⟨K, 1, 0, hK, by grind, by grind, fun x h1 h2 => ⟨h1, h2⟩, fun x y _ _ _ => ⟨by grind, by grind⟩, fun x y _ _ _ => ⟨by grind, by grind⟩⟩
theorem anP_add {f f' g g' : Rat → Rat} {K : Rat} (hf : anP f f' K) (hg : anP g g' K) : anP (fun x => f x + g x) (fun x => f' x + g' x) K := by
  obtain ⟨B, L, M, b1, b2, b3, b4, b5, b6⟩ := hf
  obtain ⟨C, N, Q, c1, c2, c3, c4, c5, c6⟩ := hg
  refine ⟨B + C, L + N, M + Q, by grind, by grind, by grind, fun x h1 h2 => ?_, fun x y h1 h2 h3 => ?_, fun x y h1 h2 h3 => ?_⟩
  · have := b4 x h1 h2
    have := c4 x h1 h2
    constructor <;> grind
  · have := b5 x y h1 h2 h3
    have := c5 x y h1 h2 h3
    constructor <;> grind
  · have := b6 x y h1 h2 h3
    have := c6 x y h1 h2 h3
    constructor <;> grind
theorem anP_mul {f f' g g' : Rat → Rat} {K : Rat} (hf : anP f f' K) (hg : anP g g' K) : anP (fun x => f x * g x) (fun x => f' x * g x + f x * g' x) K := by
  obtain ⟨B, L, M, b1, b2, b3, b4, b5, b6⟩ := hf
  obtain ⟨C, N, Q, c1, c2, c3, c4, c5, c6⟩ := hg
  refine ⟨B * C, B * N + C * L, C * M + B * Q + L * N, Rat.mul_nonneg b1 c1, ?_, ?_, fun x h1 h2 => ?_, fun x y h1 h2 h3 => ?_, fun x y h1 h2 h3 => ?_⟩
  · have := Rat.mul_nonneg b1 c2
    have := Rat.mul_nonneg c1 b2
    grind
  · have := Rat.mul_nonneg c1 b3
    have := Rat.mul_nonneg b1 c3
    have := Rat.mul_nonneg b2 c2
    grind
  · have e1 := b4 x h1 h2
    have e2 := c4 x h1 h2
    exact an_mulb e1.1 e1.2 e2.1 e2.2
  · have e1 := b4 y (by grind) h3
    have e2 := c4 x h1 (by grind)
    have e3 := b5 x y h1 h2 h3
    have e4 := c5 x y h1 h2 h3
    have e5 := an_mulb e1.1 e1.2 e4.1 e4.2
    have e6 := an_mulb e2.1 e2.2 e3.1 e3.2
    constructor <;> grind
  · have e1 := b4 x h1 (by grind)
    have e2 := c4 x h1 (by grind)
    have e3 := b5 x y h1 h2 h3
    have e4 := c5 x y h1 h2 h3
    have e5 := b6 x y h1 h2 h3
    have e6 := c6 x y h1 h2 h3
    have e7 := an_mulb e2.1 e2.2 e5.1 e5.2
    have e8 := an_mulb e1.1 e1.2 e6.1 e6.2
    have e9 := an_mulb e3.1 e3.2 e4.1 e4.2
    constructor <;> grind
/-- steps of a partition of [x, y] into n -/
def anX (x y : Rat) (n j : Nat) : Rat := x + (y - x) * (j : Rat) / (n : Rat)
theorem anX_0 (x y : Rat) (n : Nat) : anX x y n 0 = x := by
  unfold anX
  simp
  grind
theorem anX_n (x y : Rat) {n : Nat} (hn : 0 < n) : anX x y n n = y := by
  have h : (n : Rat) ≠ 0 := by
    intro e
    have := Rat.natCast_eq_zero_iff.mp e
    omega
  unfold anX
  rw [Rat.mul_div_cancel h]
  grind
theorem anX_s (x y : Rat) (n j : Nat) : anX x y n (j + 1) = anX x y n j + (y - x) / (n : Rat) := by
  unfold anX
  rw [Rat.div_def, Rat.div_def, Rat.div_def, Rat.natCast_add]
  grind
theorem anX_in {x y : Rat} {n j : Nat} (hxy : x ≤ y) (hn : 0 < n) (hj : j ≤ n) : x ≤ anX x y n j ∧ anX x y n j ≤ y := by
  have hp : (0 : Rat) < (n : Rat) := Rat.natCast_pos.mpr hn
  have h1 : (0 : Rat) ≤ (j : Rat) := Rat.natCast_nonneg
  have h2 : (j : Rat) ≤ (n : Rat) := Rat.natCast_le_natCast.mpr hj
  have hi : (0 : Rat) < (n : Rat)⁻¹ := Rat.inv_pos.mpr hp
  have hm : (n : Rat) * (n : Rat)⁻¹ = 1 := Rat.mul_inv_cancel _ (by grind)
  have e1 := Rat.mul_nonneg (Rat.mul_nonneg (show 0 ≤ y - x by grind) h1) (Rat.le_of_lt hi)
  have e2 := Rat.mul_nonneg (Rat.mul_nonneg (show 0 ≤ y - x by grind) (show 0 ≤ (n : Rat) - (j : Rat) by grind)) (Rat.le_of_lt hi)
  unfold anX
  rw [Rat.div_def]
  constructor
  · grind
  · have e3 : (y - x) * ((n : Rat) - (j : Rat)) * (n : Rat)⁻¹ = (y - x) - (y - x) * (j : Rat) * (n : Rat)⁻¹ := by grind
    grind
/-- an n with c < n * e -/
theorem an_arch (c e : Rat) (he : 0 < e) : ∃ n : Nat, 0 < n ∧ c < (n : Rat) * e := by
  refine ⟨((c / e).floor.natAbs + 1), by omega, ?_⟩
  have h1 := Rat.lt_floor_add_one (c / e)
  have h2 : (((c / e).floor + 1 : Int) : Rat) ≤ ((((c / e).floor.natAbs + 1 : Nat) : Int) : Rat) := Rat.intCast_le_intCast.mpr (by omega)
  have h3 : c / e < (((c / e).floor.natAbs + 1 : Nat) : Rat) := by
    have : ((((c / e).floor.natAbs + 1 : Nat) : Int) : Rat) = (((c / e).floor.natAbs + 1 : Nat) : Rat) := rfl
    grind
  exact (Rat.div_lt_iff he).mp h3
/-- a derivative that is not negative: the function does not fall -/
theorem an_mono {f g : Rat → Rat} {K M : Rat} (hM : 0 ≤ M) (hD : anD f g K M) {x y : Rat} (h1 : -K ≤ x) (h2 : x ≤ y) (h3 : y ≤ K) (hg : ∀ z, x ≤ z → z ≤ y → 0 ≤ g z) : f x ≤ f y := by
  refine Classical.byContradiction fun hc => ?_
  have hc : f y < f x := by grind
  obtain ⟨n, hn, hb⟩ := an_arch (M * ((y - x) * (y - x))) (f x - f y) (by grind)
  have hp : (0 : Rat) < (n : Rat) := Rat.natCast_pos.mpr hn
  have hne : (n : Rat) ≠ 0 := by grind
  -- each step loses at most M h h
  have step : ∀ j, j ≤ n → f x - (j : Rat) * (M * (((y - x) / (n : Rat)) * ((y - x) / (n : Rat)))) ≤ f (anX x y n j) := by
    intro j
    induction j with
    | zero => intro _; rw [anX_0]; simp; grind
    | succ j ih =>
      intro hj
      have e1 := ih (by omega)
      have e2 := anX_in h2 hn (show j ≤ n by omega)
      have e3 := anX_in h2 hn hj
      have e4 := anX_s x y n j
      have hq : 0 ≤ (y - x) / (n : Rat) := by
        rw [Rat.div_def]; exact Rat.mul_nonneg (by grind) (Rat.le_of_lt (Rat.inv_pos.mpr hp))
      have e5 := (hD (anX x y n j) (anX x y n (j + 1)) (by grind) (by grind) (by grind)).1
      have e6 := Rat.mul_nonneg (hg _ e2.1 e2.2) hq
      have e7 : anX x y n (j + 1) - anX x y n j = (y - x) / (n : Rat) := by grind
      rw [e7] at e5
      have e8 : ((j + 1 : Nat) : Rat) = (j : Rat) + 1 := Rat.natCast_add j 1
      rw [e8]
      grind
  have e9 := step n (Nat.le_refl n)
  rw [anX_n x y hn] at e9
  have hm : (n : Rat) * (n : Rat)⁻¹ = 1 := Rat.mul_inv_cancel _ hne
  have e10 : (n : Rat) * (M * (((y - x) / (n : Rat)) * ((y - x) / (n : Rat)))) = M * ((y - x) * (y - x)) * (n : Rat)⁻¹ := by
    rw [Rat.div_def]
    grind
  rw [e10] at e9
  have e11 : M * ((y - x) * (y - x)) * (n : Rat)⁻¹ < f x - f y := by
    have := Rat.mul_lt_mul_of_pos_right hb (Rat.inv_pos.mpr hp)
    have e12 : (n : Rat) * (f x - f y) * (n : Rat)⁻¹ = f x - f y := by grind
    grind
  grind
