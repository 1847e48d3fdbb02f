/-! PLAIN LAW 28: the halving ends in time and fits -/
theorem aS_add (f g : Nat → Rat) : ∀ n, aS (fun k => f k + g k) n ≤ aS f n + aS g n := by
  intro n
  induction n with
  | zero => show (0 : Rat) ≤ 0 + 0; grind
  | succ n ih =>
    have := rab_add (f n) (g n)
    show aS _ n + rab (f n + g n) ≤ aS f n + rab (f n) + (aS g n + rab (g n))
    grind
theorem aS_mul (a : Rat) (f : Nat → Rat) : ∀ n, aS (fun k => a * f k) n = rab a * aS f n := by
  intro n
  induction n with
  | zero => show (0 : Rat) = rab a * 0; grind
  | succ n ih =>
    show aS _ n + rab (a * f n) = rab a * (aS f n + rab (f n))
    rw [ih, rab_mul]; grind
theorem one_pow' (n : Nat) : (1 : Rat) ^ n = 1 := by
  induction n with
  | zero => exact Rat.pow_zero 1
  | succ n ih => rw [Rat.pow_succ, ih]; grind
theorem aS_pe {f : Nat → Rat} (hf : ∀ k, 0 ≤ f k) : ∀ n, aS f n = pe f n 1 := by
  intro n
  induction n with
  | zero => rfl
  | succ n ih =>
    show aS f n + rab (f n) = pe f n 1 + f n * 1 ^ n
    rw [ih, one_pow', show rab (f n) = f n from if_pos (hf n)]; grind
theorem aS_term {V : Nat → Rat} {k : Nat} : ∀ n, k < n → rab (V k) ≤ aS V n := by
  intro n
  induction n with
  | zero => intro h; exact absurd h (Nat.not_lt_zero k)
  | succ n ih =>
    intro h
    have h1 := aS_nn V n
    have h2 := rab_nn (V n)
    show _ ≤ aS V n + rab (V n)
    by_cases e : k = n
    · rw [e]; grind
    · have := ih (by omega); grind
theorem aS_congr {f g : Nat → Rat} : ∀ n, (∀ k, k < n → f k = g k) → aS f n = aS g n := by
  intro n
  induction n with
  | zero => intro _; rfl
  | succ n ih => intro h; show aS f n + rab (f n) = aS g n + rab (g n); rw [ih (fun k hk => h k (by omega)), h n (Nat.lt_succ_self n)]
theorem aS_0 (V : Nat → Rat) : ∀ n, aS V (n + 1) = rab (V 0) + aS (fun k => V (k + 1)) n := by
  intro n
  induction n with
  | zero => show 0 + rab (V 0) = rab (V 0) + 0; grind
  | succ n ih => show aS V (n + 1) + rab (V (n + 1)) = rab (V 0) + (aS (fun k => V (k + 1)) n + rab (V (n + 1))); rw [ih]; grind
theorem aS_rev (V : Nat → Rat) : ∀ d, aS (fun k => V (d - k)) (d + 1) = aS V (d + 1) := by
  intro d
  induction d with
  | zero => rfl
  | succ d ih =>
    rw [aS_0, aS_congr (g := fun k => V (d - k)) (d + 1) (fun k _ => by rw [show d + 1 - (k + 1) = d - k by omega]), ih]
    show rab (V (d + 1)) + aS V (d + 1) = aS V (d + 1) + rab (V (d + 1))
    grind
def wS (V : Nat → Rat) : Nat → Rat
  | 0 => 0
  | n + 1 => wS V n + rab (V n) * 2 ^ n
theorem tS_wS (V : Nat → Rat) (N : Nat) : ∀ n, n ≤ N → aS (fun j => tS V j n) N ≤ wS V n := by
  intro n
  induction n with
  | zero =>
    intro _
    have : ∀ N, aS (fun j => tS V j 0) N = 0 := by
      intro N
      induction N with
      | zero => rfl
      | succ N ih => show aS _ N + rab 0 = 0; rw [ih]; unfold rab; rw [if_pos Rat.le_refl]; grind
    rw [this]; exact Rat.le_refl
  | succ n ih =>
    intro hn
    have h1 := aS_add (fun j => tS V j n) (fun j => V n * (bn n j : Rat)) N
    have h2 := ih (by omega)
    have h3 : aS (fun j => (bn n j : Rat)) N = 2 ^ n := by
      rw [aS_pe (fun k => Rat.natCast_nonneg), bn_pe 1 n N hn, show (1 : Rat) + 1 = 2 by grind]
    rw [aS_mul, h3] at h1
    show aS (fun j => tS V j n + V n * (bn n j : Rat)) N ≤ wS V n + rab (V n) * 2 ^ n
    grind
theorem two_pos (n : Nat) : (1 : Rat) ≤ 2 ^ n := by
  induction n with
  | zero => rw [Rat.pow_zero]; exact Rat.le_refl
  | succ n ih => rw [Rat.pow_succ]; grind
theorem wS_le (V : Nat → Rat) (d : Nat) : ∀ n, n ≤ d + 1 → wS V n ≤ 2 ^ d * aS V n := by
  intro n
  induction n with
  | zero => intro _; show (0 : Rat) ≤ 2 ^ d * 0; grind
  | succ n ih =>
    intro hn
    have h1 := ih (by omega)
    have h2 : (2 : Rat) ^ n ≤ 2 ^ d := rpow_le (by decide) (by omega)
    have h3 := mul_le2 (rab_nn (V n)) (show (0 : Rat) ≤ 2 ^ n by have := two_pos n; grind) (Rat.le_refl (a := rab (V n))) h2
    show wS V n + rab (V n) * 2 ^ n ≤ 2 ^ d * (aS V n + rab (V n))
    rw [Rat.mul_add]
    grind
theorem mv_tS (p : Nat → Int) (d : Nat) : ∀ j, j < d + 1 → ci (mvF p d d) j = tS (ci p) j (d + 1) := pe_inj0 (fun y _ => by
  rw [← tS_pe (ci p) y (d + 1) (d + 1) (Nat.le_refl _), mv_tay p d (y + 1), show y + 1 - 1 = y by grind])
theorem L1_wi (q : Nat → Int) (d : Nat) : aS (ci (wiF q d)) (d + 1) ≤ 2 ^ d * aS (ci q) (d + 1) := by
  have h1 := tS_wS (ci (fun i => q (d - i))) (d + 1) (d + 1) (Nat.le_refl _)
  have h2 := wS_le (ci (fun i => q (d - i))) d (d + 1) (Nat.le_refl _)
  have h3 := aS_rev (ci q) d
  rw [← h3]
  unfold wiF
  rw [aS_congr (d + 1) (mv_tS (fun i => q (d - i)) d)]
  exact Rat.le_trans h1 h2
theorem lf_wS (q : Nat → Int) (d : Nat) : ∀ n, n ≤ d + 1 → wS (ci (lfF q d)) n = 2 ^ d * aS (ci q) n ∧ aS (ci (lfF q d)) n ≤ 2 ^ d * aS (ci q) n := by
  intro n
  induction n with
  | zero => intro _; exact ⟨by show (0 : Rat) = 2 ^ d * 0; grind, by show (0 : Rat) ≤ 2 ^ d * 0; grind⟩
  | succ n ih =>
    intro hn
    obtain ⟨h1, h2⟩ := ih (by omega)
    have e : ci (lfF q d) n = ci q n * 2 ^ (d - n) := by
      show ((q n * 2 ^ (d - n) : Int) : Rat) = _
      rw [Rat.intCast_mul, p2cast]; rfl
    have t0 := two_pos (d - n)
    have e2 : rab (ci (lfF q d) n) = rab (ci q n) * 2 ^ (d - n) := by rw [e, rab_mul, show rab ((2 : Rat) ^ (d - n)) = 2 ^ (d - n) from if_pos (by grind)]
    have e3 : (2 : Rat) ^ (d - n) * 2 ^ n = 2 ^ d := by rw [← rpow_add, show d - n + n = d by omega]
    have e4 : (2 : Rat) ^ (d - n) ≤ 2 ^ d := rpow_le (by decide) (by omega)
    have e5 := mul_le2 (rab_nn (ci q n)) (show (0 : Rat) ≤ 2 ^ (d - n) by grind) (Rat.le_refl (a := rab (ci q n))) e4
    refine ⟨?_, ?_⟩
    · show wS _ n + rab _ * 2 ^ n = 2 ^ d * (aS _ n + rab _)
      rw [h1, e2, Rat.mul_assoc, e3]; grind
    · show aS _ n + rab _ ≤ 2 ^ d * (aS _ n + rab _)
      rw [e2, Rat.mul_add]; grind
theorem L1_rt (q : Nat → Int) (d : Nat) : aS (ci (rtF q d)) (d + 1) ≤ 2 ^ d * aS (ci q) (d + 1) := by
  have h1 := tS_wS (ci (lfF q d)) (d + 1) (d + 1) (Nat.le_refl _)
  rw [(lf_wS q d (d + 1) (Nat.le_refl _)).1] at h1
  unfold rtF
  rw [aS_congr (d + 1) (mv_tS (lfF q d) d)]
  exact h1
theorem rN_of {x : Int} (h : rab (x : Rat) < 2 ^ 1535) : rN x := by
  have h1 := rab_b (x : Rat)
  have h2 : (x : Rat) < ((2 ^ 1535 : Int) : Rat) := by rw [p2cast]; grind
  have h3 : ((-2 ^ 1535 : Int) : Rat) ≤ (x : Rat) := by rw [Rat.intCast_neg, p2cast]; grind
  exact ⟨Rat.intCast_le_intCast.mp h3, Rat.intCast_lt_intCast.mp h2⟩
theorem fitB_of {F : Nat → Int} {d : Nat} {ω : Rat} (hω : 0 < ω) (hs : ∀ (c κ0 : Rat) (W : Nat → Int), κ0 ≠ 0 → (∀ y, 0 < y → pe (ci W) (d + 1) y = (y + 1) ^ d * (κ0 * pe (ci F) (d + 1) (c + ω * (y + 1)⁻¹))) → chC W (d + 1) < 2) : ∀ (n : Nat) (q : Nat → Int) (L α κ0 : Rat), κ0 ≠ 0 → (∀ t, pe (ci q) (d + 1) t = κ0 * pe (ci F) (d + 1) (α + ω * 2 ^ n * t)) → aS (ci q) (d + 1) ≤ L → L * 2 ^ (d * (n + 1)) < 2 ^ 1535 → fitB d n q := by
  intro n
  induction n with
  | zero =>
    intro q L α κ0 hκ hq hL hB
    rw [Nat.zero_add, Nat.mul_one] at hB
    have tp := two_pos d
    have w1 := L1_wi q d
    have w2 := mul_le2 (show (0 : Rat) ≤ 2 ^ d by grind) (aS_nn (ci q) (d + 1)) (Rat.le_refl (a := 2 ^ d)) hL
    refine ⟨fun k hk => rN_of ?_, hs α κ0 _ hκ (fun y hy => ?_)⟩
    · have := aS_term (V := ci (wiF q d)) (k := k) (d + 1) (by omega)
      have e : ci (wiF q d) k = (wiF q d k : Rat) := rfl
      rw [e] at this
      grind
    · rw [wi_ev q d y (Rat.le_of_lt hy), hq, Rat.pow_zero, Rat.mul_one]
  | succ n ih =>
    intro q L α κ0 hκ hq hL hB
    have tp := two_pos d
    have tn := two_pos (d * (n + 1))
    have L0 : 0 ≤ L := Rat.le_trans (aS_nn _ _) hL
    have hB' : 2 ^ d * L * 2 ^ (d * (n + 1)) < 2 ^ 1535 := by
      rw [show d * (n + 1 + 1) = d + d * (n + 1) by rw [Nat.mul_succ]; omega, rpow_add] at hB
      rw [show 2 ^ d * L * 2 ^ (d * (n + 1)) = L * (2 ^ d * 2 ^ (d * (n + 1))) by grind]
      exact hB
    have m0 : 0 ≤ 2 ^ d * L := Rat.mul_nonneg (by grind) L0
    have hBd : 2 ^ d * L < 2 ^ 1535 := by
      have := mul_le2 m0 (show (0 : Rat) ≤ 1 by decide) (Rat.le_refl (a := 2 ^ d * L)) tn
      rw [Rat.mul_one] at this
      grind
    have w2 := mul_le2 (show (0 : Rat) ≤ 2 ^ d by grind) (aS_nn (ci q) (d + 1)) (Rat.le_refl (a := 2 ^ d)) hL
    have bd : ∀ (P : Nat → Int), aS (ci P) (d + 1) ≤ 2 ^ d * aS (ci q) (d + 1) → ∀ k, k ≤ d → rN (P k) := fun P hP k hk => rN_of (by
      have := aS_term (V := ci P) (k := k) (d + 1) (by omega)
      have e : ci P k = (P k : Rat) := rfl
      rw [e] at this
      grind)
    have κ' : (2 : Rat) ^ d * κ0 ≠ 0 := fun e => by
      rcases Rat.mul_eq_zero.mp e with h | h
      · grind
      · exact hκ h
    have hp : (2 : Rat) ^ (n + 1) = 2 ^ n * 2 := Rat.pow_succ _ _
    refine ⟨bd _ (L1_wi q d), fun _ => ⟨bd _ (L1_rt q d) 0 (Nat.zero_le d), ih (lfF q d) (2 ^ d * L) α (2 ^ d * κ0) κ' (fun t => ?_) (Rat.le_trans (lf_wS q d (d + 1) (Nat.le_refl _)).2 w2) hB', ih (rtF q d) (2 ^ d * L) (α + ω * 2 ^ n) (2 ^ d * κ0) κ' (fun t => ?_) (Rat.le_trans (L1_rt q d) w2) hB'⟩⟩
    · rw [lf_ev, hq, hp]
      rw [show α + ω * (2 ^ n * 2) * (t / 2) = α + ω * 2 ^ n * t by grind]
      grind
    · rw [rt_ev, hq, hp]
      rw [show α + ω * (2 ^ n * 2) * ((t + 1) / 2) = α + ω * 2 ^ n + ω * 2 ^ n * t by grind]
      grind
