/-! PLAIN LAW 8: coefficients without a change of sign, or with one -/
theorem sg_cases (x : Int) : (x = 0 ∧ x.sign = 0) ∨ (0 < x ∧ x.sign = 1) ∨ (x < 0 ∧ x.sign = -1) := by
  rcases Int.lt_trichotomy x 0 with h | h | h
  · exact Or.inr (Or.inr ⟨h, Int.sign_eq_neg_one_of_neg h⟩)
  · exact Or.inl ⟨h, by rw [h]; rfl⟩
  · exact Or.inr (Or.inl ⟨h, Int.sign_eq_one_of_pos h⟩)
theorem ch0 {p : Nat → Int} : ∀ n, chC p n = 0 → (chL p n = 0 ∧ ∀ k, k < n → p k = 0) ∨ ((chL p n = 1 ∨ chL p n = -1) ∧ (∀ k, k < n → 0 ≤ chL p n * p k) ∧ ∃ k, k < n ∧ 0 < chL p n * p k) := by
  intro n
  induction n with
  | zero => intro _; exact Or.inl ⟨rfl, fun k hk => absurd hk (Nat.not_lt_zero k)⟩
  | succ n ih =>
    intro h
    rw [ch_s] at h
    by_cases c : (p n).sign ≠ 0 ∧ chL p n ≠ 0 ∧ (p n).sign ≠ chL p n
    · rw [if_pos c] at h; omega
    · rw [if_neg c] at h
      rw [cl_s]
      rcases sg_cases (p n) with ⟨z, e⟩ | ⟨z, e⟩ | ⟨z, e⟩
      · rw [if_pos e]
        rcases ih h with ⟨h1, h2⟩ | ⟨h1, h2, k, h3, h4⟩
        · exact Or.inl ⟨h1, fun k hk => by by_cases q : k = n; (· rw [q]; exact z); (· exact h2 k (by omega))⟩
        · exact Or.inr ⟨h1, fun k hk => by by_cases q : k = n; (· rw [q, z, Int.mul_zero]; exact Int.le_refl 0); (· exact h2 k (by omega)), k, by omega, h4⟩
      · rw [if_neg (by omega), e]
        refine Or.inr ⟨Or.inl rfl, fun k hk => ?_, n, by omega, by omega⟩
        by_cases q : k = n
        · rw [q]; omega
        · rcases ih h with ⟨h1, h2⟩ | ⟨h1, h2, _⟩
          · rw [h2 k (by omega)]; decide
          · have := h2 k (by omega)
            rw [show chL p n = 1 by have : chL p n = 0 ∨ (p n).sign = chL p n := by omega
                                    omega] at this
            exact this
      · rw [if_neg (by omega), e]
        refine Or.inr ⟨Or.inr rfl, fun k hk => ?_, n, by omega, by omega⟩
        by_cases q : k = n
        · rw [q]; omega
        · rcases ih h with ⟨h1, h2⟩ | ⟨h1, h2, _⟩
          · rw [h2 k (by omega)]; decide
          · have := h2 k (by omega)
            rw [show chL p n = -1 by have : chL p n = 0 ∨ (p n).sign = chL p n := by omega
                                     omega] at this
            exact this
theorem ch1 {p : Nat → Int} : ∀ n, chC p n = 1 → (chL p n = 1 ∨ chL p n = -1) ∧ ∃ j, j < n ∧ (∀ k, k < j → chL p n * p k ≤ 0) ∧ (∃ k, k < j ∧ chL p n * p k < 0) ∧ (∀ k, j ≤ k → k < n → 0 ≤ chL p n * p k) ∧ 0 < chL p n * p j := by
  intro n
  induction n with
  | zero => intro h; have : chC p 0 = 0 := rfl; omega
  | succ n ih =>
    intro h
    rw [ch_s] at h
    by_cases c : (p n).sign ≠ 0 ∧ chL p n ≠ 0 ∧ (p n).sign ≠ chL p n
    · rw [if_pos c] at h
      rw [cl_s, if_neg c.1]
      rcases ch0 (p := p) n (by omega) with ⟨h1, _⟩ | ⟨h1, h2, k, h3, h4⟩
      · exact absurd h1 c.2.1
      · have hs : (p n).sign = 1 ∧ 0 < p n ∨ (p n).sign = -1 ∧ p n < 0 := by rcases sg_cases (p n) with ⟨z, e⟩ | ⟨z, e⟩ | ⟨z, e⟩ <;> omega
        have hn : chL p n = -(p n).sign := by omega
        have key : ∀ m, chL p n * p m = -((p n).sign * p m) := fun m => by rw [hn, Int.neg_mul]
        refine ⟨by omega, n, by omega, fun m hm => ?_, ⟨k, h3, ?_⟩, fun m h5 h6 => ?_, ?_⟩
        · have := h2 m hm; rw [key] at this; omega
        · rw [key] at h4; omega
        · rw [show m = n by omega]
          rcases hs with ⟨e, z⟩ | ⟨e, z⟩ <;> rw [e] <;> omega
        · rcases hs with ⟨e, z⟩ | ⟨e, z⟩ <;> rw [e] <;> omega
    · rw [if_neg c] at h
      obtain ⟨h1, j, h2, h3, h4, h5, h6⟩ := ih h
      rw [cl_s]
      by_cases e : (p n).sign = 0
      · rw [if_pos e]
        have z : p n = 0 := sign_ne0.mp e
        refine ⟨h1, j, by omega, h3, h4, fun k k1 k2 => ?_, h6⟩
        by_cases q : k = n
        · rw [q, z, Int.mul_zero]; exact Int.le_refl 0
        · exact h5 k k1 (by omega)
      · rw [if_neg e, show (p n).sign = chL p n by omega]
        refine ⟨h1, j, by omega, h3, h4, fun k k1 k2 => ?_, h6⟩
        by_cases q : k = n
        · rw [q, show chL p n = (p n).sign by omega]
          rcases sg_cases (p n) with ⟨z, e⟩ | ⟨z, e⟩ | ⟨z, e⟩ <;> rw [e] <;> omega
        · exact h5 k k1 (by omega)
theorem rpow_pos {y : Rat} (hy : 0 < y) : ∀ n : Nat, 0 < y ^ n := by
  intro n
  induction n with
  | zero => rw [Rat.pow_zero]; decide
  | succ n ih => rw [Rat.pow_succ]; exact Rat.mul_pos ih hy
theorem pe_nn {c : Nat → Rat} {y : Rat} (hy : 0 ≤ y) : ∀ n, (∀ k, k < n → 0 ≤ c k) → 0 ≤ pe c n y := by
  have hp : ∀ m : Nat, 0 ≤ y ^ m := by
    intro m
    induction m with
    | zero => rw [Rat.pow_zero]; decide
    | succ m ih => rw [Rat.pow_succ]; exact Rat.mul_nonneg ih hy
  intro n
  induction n with
  | zero => intro _; exact Rat.le_refl
  | succ n ih =>
    intro h
    rw [pe_s]
    have := ih (fun k hk => h k (by omega))
    have := Rat.mul_nonneg (h n (by omega)) (hp n)
    grind
theorem pe_pos {c : Nat → Rat} {y : Rat} (hy : 0 < y) : ∀ n, (∀ k, k < n → 0 ≤ c k) → (∃ k, k < n ∧ 0 < c k) → 0 < pe c n y := by
  intro n
  induction n with
  | zero => intro _ ⟨k, hk, _⟩; exact absurd hk (Nat.not_lt_zero k)
  | succ n ih =>
    intro h ⟨k, hk, hc⟩
    rw [pe_s]
    have e1 := pe_nn (Rat.le_of_lt hy) n (fun k hk => h k (by omega))
    by_cases e : k = n
    · subst e
      have := Rat.mul_pos hc (rpow_pos hy k)
      grind
    · have := ih (fun k hk => h k (by omega)) ⟨k, by omega, hc⟩
      have := Rat.mul_nonneg (h n (by omega)) (Rat.le_of_lt (rpow_pos hy n))
      grind
theorem pe_scale (c : Nat → Rat) (t y : Rat) : ∀ n, pe (fun k => c k * t ^ k) n y = pe c n (t * y) := by
  intro n
  induction n with
  | zero => rfl
  | succ n ih =>
    have hp : ∀ m : Nat, (t * y) ^ m = t ^ m * y ^ m := by
      intro m
      induction m with
      | zero => rw [Rat.pow_zero, Rat.pow_zero, Rat.pow_zero]; grind
      | succ m ihm => rw [Rat.pow_succ, Rat.pow_succ, Rat.pow_succ, ihm]; grind
    rw [pe_s, pe_s, ih, hp]; grind
theorem rpow_le {t : Rat} (ht : 1 ≤ t) {a b : Nat} (h : a ≤ b) : t ^ a ≤ t ^ b := by
  obtain ⟨m, rfl⟩ : ∃ m, b = a + m := ⟨b - a, by omega⟩
  clear h
  induction m with
  | zero => exact Rat.le_refl
  | succ m ih =>
    rw [← Nat.add_assoc, Rat.pow_succ]
    have := Rat.mul_nonneg (Rat.le_of_lt (rpow_pos (show 0 < t by grind) (a + m))) (show 0 ≤ t - 1 by grind)
    grind
theorem rpow_lt {t : Rat} (ht : 1 < t) {a b : Nat} (h : a < b) : t ^ a < t ^ b := by
  have e1 := rpow_le (Rat.le_of_lt ht) (show a + 1 ≤ b by omega)
  have e2 := Rat.mul_pos (rpow_pos (show 0 < t by grind) a) (show 0 < t - 1 by grind)
  rw [Rat.pow_succ] at e1
  grind
theorem rpow_le1 {y : Rat} (h0 : 0 < y) (h1 : y ≤ 1) {a b : Nat} (h : a ≤ b) : y ^ b ≤ y ^ a := by
  obtain ⟨m, rfl⟩ : ∃ m, b = a + m := ⟨b - a, by omega⟩
  clear h
  induction m with
  | zero => exact Rat.le_refl
  | succ m ih =>
    rw [← Nat.add_assoc, Rat.pow_succ]
    have := Rat.mul_nonneg (Rat.le_of_lt (rpow_pos h0 (a + m))) (show 0 ≤ 1 - y by grind)
    grind
/-- one change of sign: below j not above 0, from j on not below 0 -/
theorem one_mono {c : Nat → Rat} {n j : Nat} (h1 : ∀ k, k < j → c k ≤ 0) (h2 : ∃ k, k < j ∧ c k < 0) (h3 : ∀ k, j ≤ k → k < n → 0 ≤ c k) (hj : j < n) {y1 y2 : Rat} (hy : 0 < y1) (hy2 : y1 < y2) (h : 0 ≤ pe c n y1) : 0 < pe c n y2 := by
  have hi : 0 < y1⁻¹ := Rat.inv_pos.mpr hy
  have hm : y1 * y1⁻¹ = 1 := Rat.mul_inv_cancel _ (by grind)
  obtain ⟨t, ht⟩ : ∃ t, t = y2 * y1⁻¹ := ⟨_, rfl⟩
  have ht1 : 1 < t := by
    rw [ht]
    have := Rat.mul_pos (show 0 < y2 - y1 by grind) hi
    grind
  have hty : t * y1 = y2 := by rw [ht]; grind
  have e1 : pe (fun k => c k * t ^ k + (-(t ^ j)) * c k) n y1 = pe c n y2 - t ^ j * pe c n y1 := by
    rw [pe_add, pe_scale, pe_mul, hty]; grind
  have e2 : 0 < pe (fun k => c k * t ^ k + (-(t ^ j)) * c k) n y1 := by
    refine pe_pos hy n (fun k hk => ?_) ?_
    · show 0 ≤ c k * t ^ k + (-(t ^ j)) * c k
      by_cases q : k < j
      · have := Rat.mul_nonneg (show 0 ≤ -c k by have := h1 k q; grind) (show 0 ≤ t ^ j - t ^ k by have := rpow_lt ht1 q; grind)
        grind
      · have := Rat.mul_nonneg (h3 k (by omega) hk) (show 0 ≤ t ^ k - t ^ j by have := rpow_le (Rat.le_of_lt ht1) (show j ≤ k by omega); grind)
        grind
    · obtain ⟨k, k1, k2⟩ := h2
      refine ⟨k, by omega, ?_⟩
      show 0 < c k * t ^ k + (-(t ^ j)) * c k
      have := Rat.mul_pos (show 0 < -c k by grind) (show 0 < t ^ j - t ^ k by have := rpow_lt ht1 k1; grind)
      grind
  have e3 := Rat.mul_nonneg (Rat.le_of_lt (rpow_pos (show 0 < t by grind) j)) h
  grind
theorem one_neg {c : Nat → Rat} {n j : Nat} (h1 : ∀ k, k < j → c k ≤ 0) (h2 : ∃ k, k < j ∧ c k < 0) (h3 : ∀ k, j ≤ k → k < n → 0 ≤ c k) (hj : j < n) : ∃ y, 0 < y ∧ pe c n y < 0 := by
  obtain ⟨k0, k1, k2⟩ := h2
  obtain ⟨A, hA⟩ : ∃ A, A = pe (fun k => if j ≤ k then c k else 0) n 1 := ⟨_, rfl⟩
  have hA0 : 0 ≤ A := by
    rw [hA]
    refine pe_nn (by decide) n (fun k hk => ?_)
    show 0 ≤ if j ≤ k then c k else 0
    split
    · exact h3 k (by assumption) hk
    · exact Rat.le_refl
  have key : ∀ y, 0 < y → y ≤ 1 → ∀ m, m ≤ n → pe c m y ≤ (if k0 < m then c k0 * y ^ k0 else 0) + y ^ (k0 + 1) * pe (fun k => if j ≤ k then c k else 0) m 1 := by
    intro y y0 y1 m
    induction m with
    | zero => intro _; rw [if_neg (Nat.not_lt_zero _)]; show (0 : Rat) ≤ 0 + _ * 0; grind
    | succ m ih =>
      intro hm
      have i1 := ih (by omega)
      rw [pe_s, pe_s]
      have hone : ∀ a : Nat, (1 : Rat) ^ a = 1 := fun a => by
        induction a with
        | zero => exact Rat.pow_zero 1
        | succ a iha => rw [Rat.pow_succ, iha]; grind
      rw [hone]
      have yp := rpow_pos y0 m
      by_cases e : m = k0
      · subst e
        rw [if_neg (Nat.lt_irrefl m)] at i1
        rw [if_pos (Nat.lt_succ_self m), show (if j ≤ m then c m else (0 : Rat)) = 0 from if_neg (by omega)]
        grind
      · rw [show (if k0 < m + 1 then c k0 * y ^ k0 else (0 : Rat)) = if k0 < m then c k0 * y ^ k0 else 0 by
          by_cases q : k0 < m
          · rw [if_pos q, if_pos (by omega)]
          · rw [if_neg q, if_neg (by omega)]]
        by_cases q : j ≤ m
        · rw [show (if j ≤ m then c m else (0 : Rat)) = c m from if_pos q]
          have e1 := rpow_le1 y0 y1 (show k0 + 1 ≤ m by omega)
          have e2 := Rat.mul_nonneg (h3 m q (by omega)) (show 0 ≤ y ^ (k0 + 1) - y ^ m by grind)
          grind
        · rw [show (if j ≤ m then c m else (0 : Rat)) = 0 from if_neg q]
          have e2 := Rat.mul_nonneg (show 0 ≤ -c m by have := h1 m (by omega); grind) (Rat.le_of_lt yp)
          grind
  -- a small y
  have hs : 0 < A + -c k0 := by grind
  have hi : 0 < (A + -c k0)⁻¹ := Rat.inv_pos.mpr hs
  have hm : (A + -c k0) * (A + -c k0)⁻¹ = 1 := Rat.mul_inv_cancel _ (by grind)
  obtain ⟨y, hy⟩ : ∃ y, y = -c k0 * (A + -c k0)⁻¹ / 2 := ⟨_, rfl⟩
  have y0 : 0 < y := by have := Rat.mul_pos (show 0 < -c k0 by grind) hi; grind
  have y2 : 2 * y * (A + -c k0) = -c k0 := by rw [hy]; grind
  have y1 : y ≤ 1 := by
    refine Classical.byContradiction fun q => ?_
    have := Rat.mul_pos (show 0 < y - 1 by grind) hs
    grind
  have e1 := key y y0 y1 n (Nat.le_refl n)
  rw [if_pos (by omega), ← hA, Rat.pow_succ] at e1
  have yp := rpow_pos y0 k0
  have e2 : y * A < -c k0 := by
    have := Rat.mul_nonneg (Rat.le_of_lt y0) (show 0 ≤ -c k0 by grind)
    have := Rat.mul_nonneg (Rat.le_of_lt y0) hA0
    grind
  have e3 := Rat.mul_pos yp (show 0 < -c k0 - y * A by grind)
  exact ⟨y, y0, by grind⟩
theorem one_pos {c : Nat → Rat} {n j : Nat} (h1 : ∀ k, k < j → c k ≤ 0) (h0 : 0 < j) (h3 : ∀ k, j ≤ k → k < n → 0 ≤ c k) (hj : j < n) (hc : 0 < c j) : ∃ y, 0 < y ∧ 0 < pe c n y := by
  obtain ⟨i, rfl⟩ : ∃ i, j = i + 1 := ⟨j - 1, by omega⟩
  obtain ⟨B, hB⟩ : ∃ B, B = pe (fun k => if k < i + 1 then -c k else 0) n 1 := ⟨_, rfl⟩
  have hB0 : 0 ≤ B := by
    rw [hB]
    refine pe_nn (by decide) n (fun k hk => ?_)
    show 0 ≤ if k < i + 1 then -c k else 0
    split
    · have := h1 k (by assumption); grind
    · exact Rat.le_refl
  have key : ∀ y, 1 ≤ y → ∀ m, m ≤ n → (if i + 1 < m then c (i + 1) * y ^ (i + 1) else 0) - y ^ i * pe (fun k => if k < i + 1 then -c k else 0) m 1 ≤ pe c m y := by
    intro y y1 m
    induction m with
    | zero => intro _; rw [if_neg (Nat.not_lt_zero _)]; show (0 : Rat) - _ * 0 ≤ 0; grind
    | succ m ih =>
      intro hm
      have i1 := ih (by omega)
      rw [pe_s, pe_s]
      have hone : ∀ a : Nat, (1 : Rat) ^ a = 1 := fun a => by
        induction a with
        | zero => exact Rat.pow_zero 1
        | succ a iha => rw [Rat.pow_succ, iha]; grind
      rw [hone]
      have yp := rpow_pos (show 0 < y by grind) m
      by_cases e : m = i + 1
      · subst e
        rw [if_neg (Nat.lt_irrefl _)] at i1
        rw [if_pos (Nat.lt_succ_self _), show (if i + 1 < i + 1 then -c (i + 1) else (0 : Rat)) = 0 from if_neg (Nat.lt_irrefl _)]
        grind
      · rw [show (if i + 1 < m + 1 then c (i + 1) * y ^ (i + 1) else (0 : Rat)) = if i + 1 < m then c (i + 1) * y ^ (i + 1) else 0 by
          by_cases q : i + 1 < m
          · rw [if_pos q, if_pos (by omega)]
          · rw [if_neg q, if_neg (by omega)]]
        by_cases q : m < i + 1
        · rw [show (if m < i + 1 then -c m else (0 : Rat)) = -c m from if_pos q]
          have e1 := rpow_le y1 (show m ≤ i by omega)
          have e2 := Rat.mul_nonneg (show 0 ≤ -c m by have := h1 m q; grind) (show 0 ≤ y ^ i - y ^ m by grind)
          grind
        · rw [show (if m < i + 1 then -c m else (0 : Rat)) = 0 from if_neg q]
          have e2 := Rat.mul_nonneg (h3 m (by omega) (by omega)) (Rat.le_of_lt yp)
          grind
  have hi : 0 < (c (i + 1))⁻¹ := Rat.inv_pos.mpr hc
  have hm : c (i + 1) * (c (i + 1))⁻¹ = 1 := Rat.mul_inv_cancel _ (by grind)
  obtain ⟨y, hy⟩ : ∃ y, y = B * (c (i + 1))⁻¹ + 1 := ⟨_, rfl⟩
  have hBn := Rat.mul_nonneg hB0 (Rat.le_of_lt hi)
  have y1 : 1 ≤ y := by grind
  have y2 : c (i + 1) * y = B + c (i + 1) := by rw [hy]; grind
  have e1 := key y y1 n (Nat.le_refl n)
  rw [if_pos (by omega), ← hB, Rat.pow_succ] at e1
  have yp := rpow_pos (show 0 < y by grind) i
  have e3 := Rat.mul_pos yp hc
  have e4 : c (i + 1) * (y ^ i * y) - y ^ i * B = y ^ i * c (i + 1) := by
    have : c (i + 1) * (y ^ i * y) = y ^ i * (c (i + 1) * y) := by grind
    rw [this, y2]; grind
  exact ⟨y, by grind, by grind⟩
