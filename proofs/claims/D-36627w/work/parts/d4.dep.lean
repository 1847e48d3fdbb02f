/-! PLAIN LAW 22: an interval with two changes is not too short (at its left end's Taylor coefficients) -/
def prR (D G : Nat → Rat) : Nat → Nat → Rat
  | 0, _ => 0
  | i + 1, m => prR D G i m + (if i ≤ m then D i * G (m - i) else 0)
theorem prR_s (D G : Nat → Rat) (i m : Nat) : prR D G (i + 1) m = prR D G i m + (if i ≤ m then D i * G (m - i) else 0) := rfl
theorem prR_ev (D G : Nat → Rat) {b : Nat} (hG : ∀ k, b ≤ k → G k = 0) (x : Rat) : ∀ a M, a + b ≤ M + 1 → pe (prR D G a) M x = pe D a x * pe G b x := by
  intro a
  induction a with
  | zero => intro M _; rw [pe_z (c := prR D G 0) M (fun k _ => rfl)]; show (0 : Rat) = 0 * _; grind
  | succ a ih =>
    intro M hM
    have e1 : pe (prR D G (a + 1)) M x = pe (prR D G a) M x + D a * pe (shc a G) M x := by
      rw [← pe_mul, ← pe_add]
      refine pe_congr M (fun k _ => ?_) x
      rw [prR_s]
      show _ = prR D G a k + D a * (if k < a then 0 else G (k - a))
      by_cases c : a ≤ k
      · rw [if_pos c, if_neg (show ¬ k < a by omega)]
      · rw [if_neg c, if_pos (show k < a by omega)]; grind
    have e2 : pe (shc a G) M x = x ^ a * pe G b x := by
      by_cases hb : b = 0
      · subst hb
        rw [pe_z (c := shc a G) M (fun k _ => by show (if k < a then (0 : Rat) else G (k - a)) = 0; rw [hG (k - a) (Nat.zero_le _)]; split <;> rfl)]
        show (0 : Rat) = x ^ a * 0; grind
      · have e3 := pe_sh a G (M - a) x
        rw [show a + (M - a) = M by omega] at e3
        rw [e3, pe_ext2 (c := G) (n := b) (M - a) (by omega) (fun k h1 _ => hG k h1) x]
    rw [e1, e2, ih M (by omega), pe_s]
    grind
theorem prR_0 (D G : Nat → Rat) (m : Nat) : ∀ n, prR D G (n + 1) m = D 0 * G m + prR (va_up D 0 0) G (n + 1) m := by
  intro n
  induction n with
  | zero =>
    rw [prR_s, prR_s, if_pos (Nat.zero_le m), if_pos (Nat.zero_le m), va_upj]
    show 0 + D 0 * G (m - 0) = D 0 * G m + (0 + 0 * G (m - 0))
    rw [show m - 0 = m by omega]; grind
  | succ n ih =>
    rw [prR_s D G (n + 1), ih, prR_s (va_up D 0 0) G (n + 1), va_upn _ _ (show n + 1 ≠ 0 by omega), Rat.add_assoc]
theorem prR_bd {D G : Nat → Rat} {m : Nat} {b : Rat} (hb : 0 ≤ b) : ∀ n : Nat, (∀ i, i < n → i ≤ m → rab (D i * G (m - i)) ≤ b) → rab (prR D G n m) ≤ (n : Rat) * b := by
  intro n
  induction n with
  | zero => intro _; show rab 0 ≤ ((0 : Nat) : Rat) * b; rw [show ((0 : Nat) : Rat) = 0 from rfl]; unfold rab; rw [if_pos Rat.le_refl]; grind
  | succ n ih =>
    intro h
    have h1 := ih (fun i hi hm => h i (by omega) hm)
    have h2 : rab (if n ≤ m then D n * G (m - n) else 0) ≤ b := by
      by_cases c : n ≤ m
      · rw [if_pos c]; exact h n (Nat.lt_succ_self n) c
      · rw [if_neg c]; unfold rab; rw [if_pos Rat.le_refl]; exact hb
    have h3 := rab_add (prR D G n m) (if n ≤ m then D n * G (m - n) else 0)
    rw [prR_s, Rat.natCast_add, show ((1 : Nat) : Rat) = 1 from rfl]
    generalize (n : Rat) = N at *
    grind
theorem mul_le2 {a b c d : Rat} (ha : 0 ≤ a) (hc : 0 ≤ c) (h1 : a ≤ b) (h2 : c ≤ d) : a * c ≤ b * d := by
  have m1 := Rat.mul_nonneg ha (show 0 ≤ d - c by grind)
  have m2 := Rat.mul_nonneg (show 0 ≤ b - a by grind) (show 0 ≤ d by grind)
  rw [show a * (d - c) = a * d - a * c by grind] at m1
  rw [show (b - a) * d = b * d - a * d by grind] at m2
  grind
theorem div_le {a b c : Rat} (hc : 0 < c) (h : a * c ≤ b * c) : a ≤ b := by
  refine Classical.byContradiction fun w => ?_
  have := Rat.mul_pos (show 0 < a - b by grind) hc
  rw [show (a - b) * c = a * c - b * c by grind] at this
  grind
theorem rpow_nn {w : Rat} (hw : 0 < w) (n : Nat) : 0 ≤ w ^ n := Rat.le_of_lt (rpow_pos hw n)
theorem dep {d p q : Nat} (hd : d ≤ 6) (hp : p ≤ 6) (hq : q + 1 ≤ 6) {u a v : Nat → Rat} {R w T A M : Rat} (ha : ∀ k, d < k → a k = 0) (hw : 0 < w) (w1 : w ≤ 1) (hid : ∀ s, pe u p s * pe a (d + 1) s + pe v (q + 1) s * pe (dc a) d s = R) (hT0 : 0 ≤ T) (hu : ∀ i, rab (u i) ≤ T) (hv : ∀ i, rab (v i) ≤ T) {κ : Nat} (k2 : 2 ≤ κ) (kd : κ ≤ d) (hM : rab (a κ) * w ^ κ = M) (hM0 : 0 < M) (hZ : ∀ j, j ≤ d → rab (a j) * w ^ j ≤ 65 * M) (hA : rab (a κ) ≤ A) : rab R ≤ 131072 * T * A * (w * w) := by
  have dz : ∀ k, d ≤ k → dc a k = 0 := fun k hk => by show ((k : Rat) + 1) * a (k + 1) = 0; rw [ha (k + 1) (by omega)]; grind
  have idn := pe_inj (c := fun k => prR u a p k + prR v (dc a) (q + 1) k) (d := fun k => if k = 0 then R else 0) (n := 14) (fun s => by
    rw [pe_add, prR_ev u a (b := d + 1) (fun k hk => ha k (by omega)) s p 14 (by omega), prR_ev v (dc a) dz s (q + 1) 14 (by omega), hid]
    rw [pe_ext2 (n := 1) 14 (by decide) (fun k h1 _ => if_neg (by omega)) s]
    show R = 0 + (if 0 = 0 then R else 0) * s ^ 0
    rw [if_pos rfl, Rat.pow_zero]; grind)
  have c0 := idn 0 (by decide)
  have ck := idn (κ - 1) (by omega)
  simp only [if_true] at c0
  simp only [if_neg (show ¬ κ - 1 = 0 by omega)] at ck
  -- w^κ splits
  have wk : ∀ i j, i + j = κ → w ^ κ = w ^ j * w ^ i := fun i j e => by rw [← e, Nat.add_comm, rpow_add]
  have wi : ∀ i, 1 ≤ i → w ^ i ≤ w := fun i hi => by
    have := rpow_le1 hw w1 hi
    rw [show w ^ 1 = w by rw [Rat.pow_succ, Rat.pow_zero]; grind] at this
    exact this
  obtain ⟨Wk, hWk⟩ : ∃ Wk, Wk = w ^ κ := ⟨_, rfl⟩
  have Wk0 : 0 < Wk := by rw [hWk]; exact rpow_pos hw κ
  have Z0 : (0 : Rat) ≤ 65 * M := by grind
  -- the terms of u
  have tu : rab (prR u a p (κ - 1)) * Wk ≤ 6 * (T * (65 * M * w)) := by
    have h1 : ∀ i, i < p → i ≤ κ - 1 → rab (u i * a (κ - 1 - i)) ≤ T * (65 * M * w) * Wk⁻¹ := fun i _ hi => by
      have hm : Wk * Wk⁻¹ = 1 := Rat.mul_inv_cancel _ (by grind)
      refine div_le Wk0 ?_
      rw [show T * (65 * M * w) * Wk⁻¹ * Wk = T * (65 * M * w) * (Wk * Wk⁻¹) by grind, hm, rab_mul]
      have e1 := wk (i + 1) (κ - 1 - i) (by omega)
      rw [← hWk] at e1
      have h2 := hZ (κ - 1 - i) (by omega)
      have h3 := wi (i + 1) (by omega)
      have h4 := mul_le2 (Rat.mul_nonneg (rab_nn (a (κ - 1 - i))) (rpow_nn hw (κ - 1 - i))) (rpow_nn hw (i + 1)) h2 h3
      have h5 := mul_le2 (rab_nn (u i)) (Rat.mul_nonneg (Rat.mul_nonneg (rab_nn (a (κ - 1 - i))) (rpow_nn hw (κ - 1 - i))) (rpow_nn hw (i + 1))) (hu i) h4
      rw [e1]
      generalize w ^ (κ - 1 - i) = x at *
      generalize w ^ (i + 1) = y at *
      rw [show rab (u i) * rab (a (κ - 1 - i)) * (x * y) = rab (u i) * (rab (a (κ - 1 - i)) * x * y) by grind]
      rw [Rat.mul_one]; exact h5
    have hm : Wk * Wk⁻¹ = 1 := Rat.mul_inv_cancel _ (by grind)
    have hi : 0 ≤ Wk⁻¹ := Rat.le_of_lt (Rat.inv_pos.mpr Wk0)
    have b0 : 0 ≤ T * (65 * M * w) := Rat.mul_nonneg hT0 (Rat.mul_nonneg Z0 (Rat.le_of_lt hw))
    have h2 := prR_bd (Rat.mul_nonneg b0 hi) p h1
    have h3 := mul_le2 (rab_nn _) (Rat.le_of_lt Wk0) h2 (Rat.le_refl (a := Wk))
    have h4 : (p : Rat) ≤ 6 := Rat.natCast_le_natCast.mpr hp
    have h5 : (p : Rat) * (T * (65 * M * w) * Wk⁻¹) * Wk = (p : Rat) * (T * (65 * M * w)) * (Wk * Wk⁻¹) := by grind
    rw [h5, hm, Rat.mul_one] at h3
    have h6 := mul_le2 (Rat.natCast_nonneg (a := p)) b0 h4 (Rat.le_refl (a := T * (65 * M * w)))
    exact Rat.le_trans h3 h6
  have tv : rab (prR (va_up v 0 0) (dc a) (q + 1) (κ - 1)) * Wk ≤ 36 * (T * (65 * M * w)) := by
    have b0 : 0 ≤ T * (65 * M * w) := Rat.mul_nonneg hT0 (Rat.mul_nonneg Z0 (Rat.le_of_lt hw))
    have hm : Wk * Wk⁻¹ = 1 := Rat.mul_inv_cancel _ (by grind)
    have hi : 0 ≤ Wk⁻¹ := Rat.le_of_lt (Rat.inv_pos.mpr Wk0)
    have h1 : ∀ i, i < q + 1 → i ≤ κ - 1 → rab (va_up v 0 0 i * dc a (κ - 1 - i)) ≤ 6 * (T * (65 * M * w)) * Wk⁻¹ := fun i _ hi2 => by
      by_cases z : i = 0
      · rw [z, va_upj, Rat.zero_mul]
        have := Rat.mul_nonneg (show 0 ≤ 6 * (T * (65 * M * w)) by grind) hi
        unfold rab; rw [if_pos Rat.le_refl]; exact this
      · rw [va_upn _ _ z]
        refine div_le Wk0 ?_
        rw [show 6 * (T * (65 * M * w)) * Wk⁻¹ * Wk = 6 * (T * (65 * M * w)) * (Wk * Wk⁻¹) by grind, hm, rab_mul, Rat.mul_one]
        have e1 := wk i (κ - 1 - i + 1) (by omega)
        rw [← hWk] at e1
        have h2 := hZ (κ - 1 - i + 1) (by omega)
        have h3 := wi i (by omega)
        have h4 := mul_le2 (Rat.mul_nonneg (rab_nn (a (κ - 1 - i + 1))) (rpow_nn hw (κ - 1 - i + 1))) (rpow_nn hw i) h2 h3
        have h5 := mul_le2 (rab_nn (v i)) (Rat.mul_nonneg (Rat.mul_nonneg (rab_nn (a (κ - 1 - i + 1))) (rpow_nn hw (κ - 1 - i + 1))) (rpow_nn hw i)) (hv i) h4
        have h6 : ((κ - 1 - i : Nat) : Rat) + 1 ≤ 6 := by
          have : ((κ - 1 - i + 1 : Nat) : Rat) ≤ ((6 : Nat) : Rat) := Rat.natCast_le_natCast.mpr (by omega)
          rw [Rat.natCast_add] at this
          exact this
        have h7 : (0 : Rat) ≤ ((κ - 1 - i : Nat) : Rat) + 1 := by have := Rat.natCast_nonneg (a := κ - 1 - i); grind
        have h8 : rab (((κ - 1 - i : Nat) : Rat) + 1) = ((κ - 1 - i : Nat) : Rat) + 1 := if_pos h7
        show rab (v i) * rab ((((κ - 1 - i : Nat) : Rat) + 1) * a (κ - 1 - i + 1)) * Wk ≤ _
        rw [rab_mul, h8, e1]
        have n1 := Rat.mul_nonneg (rab_nn (v i)) (Rat.mul_nonneg (Rat.mul_nonneg (rab_nn (a (κ - 1 - i + 1))) (rpow_nn hw (κ - 1 - i + 1))) (rpow_nn hw i))
        have h9 := mul_le2 h7 n1 h6 h5
        generalize w ^ (κ - 1 - i + 1) = x at *
        generalize w ^ i = y at *
        generalize ((κ - 1 - i : Nat) : Rat) + 1 = z at *
        rw [show rab (v i) * (z * rab (a (κ - 1 - i + 1))) * (x * y) = z * (rab (v i) * (rab (a (κ - 1 - i + 1)) * x * y)) by grind]
        exact h9
    have h2 := prR_bd (Rat.mul_nonneg (show 0 ≤ 6 * (T * (65 * M * w)) by grind) hi) (q + 1) h1
    have h3 := mul_le2 (rab_nn _) (Rat.le_of_lt Wk0) h2 (Rat.le_refl (a := Wk))
    have h4 : ((q + 1 : Nat) : Rat) ≤ 6 := Rat.natCast_le_natCast.mpr hq
    have h5 : ((q + 1 : Nat) : Rat) * (6 * (T * (65 * M * w)) * Wk⁻¹) * Wk = ((q + 1 : Nat) : Rat) * (6 * (T * (65 * M * w))) * (Wk * Wk⁻¹) := by grind
    rw [h5, hm, Rat.mul_one] at h3
    have h6 := mul_le2 (Rat.natCast_nonneg (a := q + 1)) (show 0 ≤ 6 * (T * (65 * M * w)) by grind) h4 (Rat.le_refl (a := 6 * (T * (65 * M * w))))
    have h7 := Rat.le_trans h3 h6
    generalize T * (65 * M * w) = Q at *
    grind
  -- the first coefficient of v
  have v0b : rab (v 0) ≤ 1365 * T * w := by
    have e0 := prR_0 v (dc a) (κ - 1) q
    have e1 : v 0 * dc a (κ - 1) = -(prR u a p (κ - 1)) + -(prR (va_up v 0 0) (dc a) (q + 1) (κ - 1)) := by grind
    have e2 : rab (v 0 * dc a (κ - 1)) ≤ rab (prR u a p (κ - 1)) + rab (prR (va_up v 0 0) (dc a) (q + 1) (κ - 1)) := by
      rw [e1]
      obtain ⟨r1, r2⟩ := rab_b (prR u a p (κ - 1))
      obtain ⟨r3, r4⟩ := rab_b (prR (va_up v 0 0) (dc a) (q + 1) (κ - 1))
      exact rab_le (by grind) (by grind)
    have e3 := mul_le2 (rab_nn _) (Rat.le_of_lt Wk0) e2 (Rat.le_refl (a := Wk))
    have e4 : dc a (κ - 1) = (((κ - 1 : Nat) : Rat) + 1) * a κ := by show (((κ - 1 : Nat) : Rat) + 1) * a (κ - 1 + 1) = _; rw [show κ - 1 + 1 = κ by omega]
    have h7 : (2 : Rat) ≤ ((κ - 1 : Nat) : Rat) + 1 := by
      have : ((2 : Nat) : Rat) ≤ ((κ - 1 + 1 : Nat) : Rat) := Rat.natCast_le_natCast.mpr (by omega)
      rw [Rat.natCast_add] at this
      exact this
    have h8 : rab (((κ - 1 : Nat) : Rat) + 1) = ((κ - 1 : Nat) : Rat) + 1 := if_pos (by grind)
    rw [e4, rab_mul, rab_mul, h8] at e3
    rw [← hWk] at hM
    have e5 : rab (v 0) * ((((κ - 1 : Nat) : Rat) + 1) * rab (a κ)) * Wk = (((κ - 1 : Nat) : Rat) + 1) * (rab (v 0) * M) := by rw [← hM]; grind
    rw [e5] at e3
    have e6 := mul_le2 (show (0 : Rat) ≤ 2 by decide) (Rat.mul_nonneg (rab_nn (v 0)) (Rat.le_of_lt hM0)) h7 (Rat.le_refl (a := rab (v 0) * M))
    refine div_le hM0 ?_
    rw [show (rab (prR u a p (κ - 1)) + rab (prR (va_up v 0 0) (dc a) (q + 1) (κ - 1))) * Wk = rab (prR u a p (κ - 1)) * Wk + rab (prR (va_up v 0 0) (dc a) (q + 1) (κ - 1)) * Wk by grind] at e3
    have e7 : 2 * (rab (v 0) * M) ≤ 42 * (T * (65 * M * w)) := by grind
    rw [show 1365 * T * w * M = 21 * (T * (65 * M * w)) by grind]
    grind
  -- the end
  have A0 : 0 ≤ A := Rat.le_trans (rab_nn _) hA
  have ww : w ^ κ ≤ w * w := by
    have := rpow_le1 hw w1 k2
    rw [show w ^ 2 = w * w by rw [Rat.pow_succ, Rat.pow_succ, Rat.pow_zero]; grind] at this
    exact this
  have MA : M ≤ A * (w * w) := by
    rw [← hM]; exact mul_le2 (rab_nn _) (rpow_nn hw κ) hA ww
  have a0b : rab (a 0) ≤ 65 * (A * (w * w)) := by
    have := hZ 0 (by omega)
    rw [Rat.pow_zero] at this
    grind
  have a1b : rab (a 1) ≤ 65 * (A * w) := by
    have h1 := hZ 1 (by omega)
    rw [show w ^ 1 = w by rw [Rat.pow_succ, Rat.pow_zero]; grind] at h1
    refine div_le hw (Rat.le_trans h1 ?_)
    rw [show 65 * (A * w) * w = 65 * (A * (w * w)) by grind]
    grind
  have f1 : rab (prR u a p 0) ≤ T * (65 * (A * (w * w))) := by
    have B0 : 0 ≤ T * (65 * (A * (w * w))) := Rat.mul_nonneg hT0 (Rat.le_trans (rab_nn _) a0b)
    have one : ∀ n : Nat, rab (prR u a n 0) ≤ T * (65 * (A * (w * w))) := by
      intro n
      induction n with
      | zero => show rab 0 ≤ _; unfold rab; rw [if_pos Rat.le_refl]; exact B0
      | succ n ih =>
        rw [prR_s]
        by_cases z : n = 0
        · subst z
          rw [if_pos (Nat.le_refl 0)]
          show rab (0 + u 0 * a (0 - 0)) ≤ _
          rw [show (0 : Rat) + u 0 * a (0 - 0) = u 0 * a 0 by grind, rab_mul]
          exact mul_le2 (rab_nn _) (rab_nn _) (hu 0) a0b
        · rw [if_neg (by omega), Rat.add_zero]; exact ih
    exact one p
  have f2 : rab (prR v (dc a) (q + 1) 0) ≤ 1365 * T * w * (65 * (A * w)) := by
    have B0 : 0 ≤ 1365 * T * w * (65 * (A * w)) := Rat.mul_nonneg (Rat.le_trans (rab_nn _) v0b) (Rat.le_trans (rab_nn _) a1b)
    have one : ∀ n : Nat, rab (prR v (dc a) n 0) ≤ 1365 * T * w * (65 * (A * w)) := by
      intro n
      induction n with
      | zero => show rab 0 ≤ _; unfold rab; rw [if_pos Rat.le_refl]; exact B0
      | succ n ih =>
        rw [prR_s]
        by_cases z : n = 0
        · subst z
          rw [if_pos (Nat.le_refl 0)]
          have e1 : prR v (dc a) 0 0 + v 0 * dc a (0 - 0) = v 0 * a 1 := by
            show 0 + v 0 * ((((0 : Nat) : Rat) + 1) * a 1) = v 0 * a 1
            rw [show ((0 : Nat) : Rat) = 0 from rfl]; grind
          rw [e1, rab_mul]
          exact mul_le2 (rab_nn _) (rab_nn _) v0b a1b
        · rw [if_neg (by omega), Rat.add_zero]; exact ih
    exact one (q + 1)
  have f3 := rab_add (prR u a p 0) (prR v (dc a) (q + 1) 0)
  rw [c0] at f3
  have Q0 : 0 ≤ T * (A * (w * w)) := Rat.mul_nonneg hT0 (Rat.mul_nonneg A0 (Rat.mul_nonneg (Rat.le_of_lt hw) (Rat.le_of_lt hw)))
  rw [show T * (65 * (A * (w * w))) = 65 * (T * (A * (w * w))) by grind] at f1
  rw [show 1365 * T * w * (65 * (A * w)) = 88725 * (T * (A * (w * w))) by grind] at f2
  rw [show 131072 * T * A * (w * w) = 131072 * (T * (A * (w * w))) by grind]
  generalize T * (A * (w * w)) = Q at *
  grind
