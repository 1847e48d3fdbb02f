/-! DIVISION: Knuth's step (plain) -/
/-- the divisor: m digits, the top bit set; its two top digits -/
def knD (D : Int) (m : Nat) (dh dl : Int) : Prop := 2 ≤ m ∧ dh = D / 2 ^ (32 * (m - 1)) ∧ 2147483648 ≤ dh ∧ dh < 4294967296 ∧ 0 ≤ dl ∧ dl < 4294967296 ∧ (dh * 4294967296 + dl) * 2 ^ (32 * (m - 2)) ≤ D ∧ D < (dh * 4294967296 + dl + 1) * 2 ^ (32 * (m - 2))
/-- the window: m + 1 digits, its three top digits -/
def knW (W : Int) (m : Nat) (nh nm nl : Int) : Prop := 0 ≤ nh ∧ nh < 4294967296 ∧ 0 ≤ nm ∧ nm < 4294967296 ∧ 0 ≤ nl ∧ nl < 4294967296 ∧ ((nh * 4294967296 + nm) * 4294967296 + nl) * 2 ^ (32 * (m - 2)) ≤ W ∧ W < ((nh * 4294967296 + nm) * 4294967296 + nl + 1) * 2 ^ (32 * (m - 2))
theorem knD.of {D : Int} {m : Nat} (hm : 2 ≤ m) (h0 : 0 ≤ D) (h1 : D < 2 ^ (32 * m)) (ht : 2147483648 ≤ dg D (m - 1)) : knD D m (dg D (m - 1)) (dg D (m - 2)) := by
  have hP := p2 (32 * (m - 2))
  have e1 : dg D (m - 1) = D / 2 ^ (32 * (m - 1)) := dg_top_ne h0 (by rw [show m - 1 + 1 = m by omega]; exact h1)
  have i1 := dg_in D (m - 1)
  have i2 := dg_in D (m - 2)
  have e2 : D = 2 ^ (32 * (m - 2)) * (dg D (m - 1) * 4294967296 + dg D (m - 2)) + D % 2 ^ (32 * (m - 2)) := by
    have a1 := low_s D (m - 2)
    have a2 := low_s D (m - 1)
    rw [show m - 1 + 1 = m by omega, Int.emod_eq_of_lt h0 h1, show m - 1 = m - 2 + 1 by omega, a1, p32] at a2
    rw [show m - 1 = m - 2 + 1 by omega]
    conv => lhs; rw [a2]
    grind
  have b1 := Int.emod_nonneg D (Int.ne_of_gt hP)
  have b2 := Int.emod_lt_of_pos D hP
  refine ⟨hm, e1, ht, i1.2, i2.1, i2.2, ?_, ?_⟩
  · conv => rhs; rw [e2]
    rw [Int.mul_comm]; omega
  · conv => lhs; rw [e2]
    rw [Int.add_mul, Int.one_mul, Int.mul_comm]; omega
theorem knW.of {W : Int} {m : Nat} (hm : 2 ≤ m) (h0 : 0 ≤ W) (h1 : W < 2 ^ (32 * (m + 1))) : knW W m (dg W m) (dg W (m - 1)) (dg W (m - 2)) := by
  have hP := p2 (32 * (m - 2))
  have i0 := dg_in W m
  have i1 := dg_in W (m - 1)
  have i2 := dg_in W (m - 2)
  have e2 : W = 2 ^ (32 * (m - 2)) * ((dg W m * 4294967296 + dg W (m - 1)) * 4294967296 + dg W (m - 2)) + W % 2 ^ (32 * (m - 2)) := by
    have a1 := low_s W (m - 2)
    have a2 := low_s W (m - 2 + 1)
    have a3 := low_s W m
    rw [Int.emod_eq_of_lt h0 h1] at a3
    rw [show m = m - 2 + 1 + 1 by omega] at a3
    rw [a2, a1, p32, p32] at a3
    rw [show dg W (m - 2 + 1 + 1) = dg W m by rw [show m - 2 + 1 + 1 = m by omega], show dg W (m - 2 + 1) = dg W (m - 1) by rw [show m - 2 + 1 = m - 1 by omega]] at a3
    conv => lhs; rw [a3]
    grind
  have b1 := Int.emod_nonneg W (Int.ne_of_gt hP)
  have b2 := Int.emod_lt_of_pos W hP
  refine ⟨i0.1, i0.2, i1.1, i1.2, i2.1, i2.2, ?_, ?_⟩
  · conv => rhs; rw [e2]
    rw [Int.mul_comm]; omega
  · conv => lhs; rw [e2]
    rw [Int.add_mul _ 1, Int.one_mul, Int.mul_comm]; omega
/-- a guess at the digit q = W / D, and what it leaves of the two top digits -/
def knQ (W D dh nh nm qh qr : Int) : Prop := qh * dh + qr = nh * 4294967296 + nm ∧ W / D ≤ qh ∧ 0 ≤ qh ∧ qh < 4294967296 ∧ 0 ≤ qr
theorem lt_mul_of {a b P x : Int} (hP : 0 < P) (h1 : a * P ≤ x) (h2 : x < (b + 1) * P) : a ≤ b := by
  have h3 : a * P < (b + 1) * P := Int.lt_of_le_of_lt h1 h2
  have := Int.lt_of_mul_lt_mul_right h3 (Int.le_of_lt hP)
  omega
/-- q (dh B + dl) is at most the three top digits -/
theorem kn_le {W D dh dl nh nm nl q : Int} {m : Nat} (hD : knD D m dh dl) (hW : knW W m nh nm nl) (hq0 : 0 ≤ q) (hq : q * D ≤ W) : q * (dh * 4294967296 + dl) ≤ (nh * 4294967296 + nm) * 4294967296 + nl := by
  refine lt_mul_of (p2 (32 * (m - 2))) ?_ (hW.2.2.2.2.2.2.2)
  rw [Int.mul_assoc]
  exact Int.le_trans (Int.mul_le_mul_of_nonneg_left hD.2.2.2.2.2.2.1 hq0) hq
theorem kn_pos {D dh dl : Int} {m : Nat} (hD : knD D m dh dl) : 0 < D := by
  have h1 := hD.2.2.2.2.2.2.1
  have h2 := p2 (32 * (m - 2))
  have h3 : (0 : Int) < (dh * 4294967296 + dl) * 2 ^ (32 * (m - 2)) := Int.mul_pos (by have := hD.2.2.1; have := hD.2.2.2.2.1; omega) h2
  omega
theorem kn_q {W D : Int} (hD : 0 < D) (hW : 0 ≤ W) : 0 ≤ W / D ∧ W / D * D ≤ W ∧ W < (W / D + 1) * D :=
  ⟨Int.ediv_nonneg hW (Int.le_of_lt hD), Int.ediv_mul_le _ (Int.ne_of_gt hD), Int.lt_ediv_add_one_mul_self _ hD⟩
theorem kn_dh {W D dh dl nh nm nl : Int} {m : Nat} (hD : knD D m dh dl) (hW : knW W m nh nm nl) (hW0 : 0 ≤ W) : W / D * dh ≤ nh * 4294967296 + nm := by
  have hq := kn_q (kn_pos hD) hW0
  have h := kn_le hD hW hq.1 hq.2.1
  have h2 : W / D * (dh * 4294967296 + dl) = W / D * dh * 4294967296 + W / D * dl := by grind
  have h3 : 0 ≤ W / D * dl := Int.mul_nonneg hq.1 hD.2.2.2.2.1
  have h4 := hW.2.2.2.2.2.1
  omega
/-- the first guess, when the top digits differ -/
theorem kn_1 {W D dh dl nh nm nl : Int} {m : Nat} (hD : knD D m dh dl) (hW : knW W m nh nm nl) (hW0 : 0 ≤ W) (hlt : nh < dh) : knQ W D dh nh nm ((nh * 4294967296 + nm) / dh) ((nh * 4294967296 + nm) % dh) := by
  have hd := hD.2.2.1
  have h0 := hW.1
  have h1 := hW.2.2.1
  have h2 := hW.2.2.2.1
  refine ⟨?_, Int.le_ediv_of_mul_le (by omega) (kn_dh hD hW hW0), Int.ediv_nonneg (by omega) (by omega), Int.ediv_lt_of_lt_mul (by omega) (by omega), Int.emod_nonneg _ (by omega)⟩
  have := Int.mul_ediv_add_emod (nh * 4294967296 + nm) dh
  rw [Int.mul_comm] at this
  exact this
/-- the first guess, when they do not -/
theorem kn_2 {W D dh dl nh nm nl : Int} {m : Nat} (hD : knD D m dh dl) (hW : knW W m nh nm nl) (hlt : W < D * 4294967296) (he : nh = dh) : knQ W D dh nh nm 4294967295 (nh + nm) := by
  have h1 := hW.2.2.1
  have hd := hD.2.2.1
  have h3 := Int.ediv_lt_of_lt_mul (kn_pos hD) (show W < 4294967296 * D by rw [Int.mul_comm]; exact hlt)
  refine ⟨by omega, by omega, by decide, by decide, by omega⟩
/-- the test fails: one less -/
theorem kn_3 {W D dh dl nh nm nl qh qr : Int} {m : Nat} (hD : knD D m dh dl) (hW : knW W m nh nm nl) (hW0 : 0 ≤ W) (hQ : knQ W D dh nh nm qh qr) (ht : qr * 4294967296 + nl < dl * qh) : knQ W D dh nh nm (qh - 1) (qr + dh) := by
  obtain ⟨q1, q2, q3, q4, q5⟩ := hQ
  have hq := kn_q (kn_pos hD) hW0
  have hne : W / D ≠ qh := by
    intro e
    have h := kn_le hD hW hq.1 hq.2.1
    rw [e] at h
    have h2 : qh * (dh * 4294967296 + dl) = qh * dh * 4294967296 + dl * qh := by grind
    omega
  have hd := hD.2.2.1
  have h3 : (qh - 1) * dh = qh * dh - dh := by grind
  exact ⟨by omega, by omega, by have := hq.1; omega, by omega, by omega⟩
/-- the test holds: at most one too many -/
theorem kn_4 {W D dh dl nh nm nl qh qr : Int} {m : Nat} (hD : knD D m dh dl) (hW : knW W m nh nm nl) (hW0 : 0 ≤ W) (hQ : knQ W D dh nh nm qh qr) (ht : dl * qh ≤ qr * 4294967296 + nl) : qh ≤ W / D + 1 := by
  obtain ⟨q1, q2, q3, q4, q5⟩ := hQ
  have hP := p2 (32 * (m - 2))
  have hd := hD.2.2.1
  have hd5 := hD.2.2.2.2.1
  have h1 : qh * (dh * 4294967296 + dl) ≤ (nh * 4294967296 + nm) * 4294967296 + nl := by
    have h2 : qh * (dh * 4294967296 + dl) = qh * dh * 4294967296 + dl * qh := by grind
    omega
  rcases Int.lt_or_le qh 1 with c | c
  · have := (kn_q (kn_pos hD) hW0).1
    omega
  have h2 : (qh - 1) * D ≤ W := by
    have a1 : (qh - 1) * D ≤ (qh - 1) * ((dh * 4294967296 + dl + 1) * 2 ^ (32 * (m - 2))) := Int.mul_le_mul_of_nonneg_left (Int.le_of_lt hD.2.2.2.2.2.2.2) (by omega)
    have a2 : (qh - 1) * ((dh * 4294967296 + dl + 1) * 2 ^ (32 * (m - 2))) = (qh * (dh * 4294967296 + dl) - (dh * 4294967296 + dl) + qh - 1) * 2 ^ (32 * (m - 2)) := by grind
    have a3 : (qh * (dh * 4294967296 + dl) - (dh * 4294967296 + dl) + qh - 1) * 2 ^ (32 * (m - 2)) ≤ ((nh * 4294967296 + nm) * 4294967296 + nl) * 2 ^ (32 * (m - 2)) := Int.mul_le_mul_of_nonneg_right (by omega) (Int.le_of_lt hP)
    have a4 := hW.2.2.2.2.2.2.1
    omega
  have := Int.le_ediv_of_mul_le (kn_pos hD) h2
  omega
/-- the borrow tells -/
theorem kn_5 {W D qh : Int} {m : Nat} (hD : 0 < D ∧ D < 2 ^ (32 * m)) (hW0 : 0 ≤ W) (h1 : W / D ≤ qh) (h2 : qh ≤ W / D + 1) :
    let c := - mb (W % 2 ^ (32 * m)) qh D m
    (qh = W / D ∧ c = W / 2 ^ (32 * m)) ∨ (qh = W / D + 1 ∧ c = W / 2 ^ (32 * m) + 1) := by
  intro c
  have hP := p2 (32 * m)
  have hq := kn_q hD.1 hW0
  have e1 : mb (W % 2 ^ (32 * m)) qh D m = (W % 2 ^ (32 * m) - qh * D) / 2 ^ (32 * m) := mb_all ⟨Int.emod_nonneg _ (Int.ne_of_gt hP), Int.emod_lt_of_pos _ hP⟩ ⟨Int.le_of_lt hD.1, hD.2⟩
  have e2 : W - qh * D = (W % 2 ^ (32 * m) - qh * D) + 2 ^ (32 * m) * (W / 2 ^ (32 * m)) := by
    have := Int.mul_ediv_add_emod W (2 ^ (32 * m)); omega
  have e3 : (W - qh * D) / 2 ^ (32 * m) = mb (W % 2 ^ (32 * m)) qh D m + W / 2 ^ (32 * m) := by
    rw [e2, Int.add_mul_ediv_left _ _ (Int.ne_of_gt hP), e1]
  rcases (show qh = W / D ∨ qh = W / D + 1 by omega) with e | e
  · left
    have e5 : (W / D + 1) * D = W / D * D + D := by grind
    have e4 : (W - qh * D) / 2 ^ (32 * m) = 0 := Int.ediv_eq_zero_of_lt (by rw [e]; omega) (by rw [e]; omega)
    exact ⟨e, by show - mb _ _ _ _ = _; omega⟩
  · right
    have e4 : (W - qh * D) / 2 ^ (32 * m) = -1 := by
      have e5 : (W / D + 1) * D = W / D * D + D := by grind
      have a1 : -1 ≤ (W - qh * D) / 2 ^ (32 * m) := Int.le_ediv_of_mul_le hP (by rw [e]; omega)
      have a2 : (W - qh * D) / 2 ^ (32 * m) < 0 := Int.ediv_neg_of_neg_of_pos (by rw [e]; omega) hP
      omega
    exact ⟨e, by show - mb _ _ _ _ = _; omega⟩
theorem dg_mod_sub {W x D : Int} {m j : Nat} (hj : j < m) : dg (W % 2 ^ (32 * m) - x * D) j = dg (W - x * D) j := by
  have h := Int.mul_ediv_add_emod W (2 ^ (32 * m))
  rw [show W - x * D = (W % 2 ^ (32 * m) - x * D) + 2 ^ (32 * m) * (W / 2 ^ (32 * m)) by omega, dg_low _ _ hj]
/-- what is left after the digit at place j: L digits, s = L - m - 1 - j below the window -/
theorem kn_win {f f1 : Nat → Int} {T W R : Int} {L m s j : Nat} (hL : L = j + 1 + m + s) (hf : ∀ i, i < L → f i = bM T L i) (hW : W = T / 2 ^ (32 * s)) (hTl : T < 2 ^ (32 * (m + 1 + s))) (hT0 : 0 ≤ T) (hR : 0 ≤ R ∧ R < 2 ^ (32 * m))
    (h0 : f1 j = 0) (h1 : ∀ i, i < m → f1 (j + 1 + i) = bM R m i) (h2 : ∀ i, i < j ∨ j + 1 + m ≤ i → f1 i = f i) : ∀ i, i < L → f1 i = bM (R * 2 ^ (32 * s) + T % 2 ^ (32 * s)) L i := by
  intro i hi
  have hP := p2 (32 * s)
  have hs0 := Int.emod_nonneg T (Int.ne_of_gt hP)
  have hs1 := Int.emod_lt_of_pos T hP
  have hlt : R * 2 ^ (32 * s) + T % 2 ^ (32 * s) < 2 ^ (32 * (m + s)) := by
    rw [p32a]
    have : (R + 1) * 2 ^ (32 * s) ≤ 2 ^ (32 * m) * 2 ^ (32 * s) := Int.mul_le_mul_of_nonneg_right (by omega) (Int.le_of_lt hP)
    have e : (R + 1) * 2 ^ (32 * s) = R * 2 ^ (32 * s) + 2 ^ (32 * s) := by grind
    omega
  have hnn : 0 ≤ R * 2 ^ (32 * s) + T % 2 ^ (32 * s) := by have := Int.mul_nonneg hR.1 (Int.le_of_lt hP); omega
  unfold bM
  by_cases c1 : i < j
  · rw [h2 i (Or.inl c1), hf i hi]
    unfold bM
    rw [dg_hi hT0 hTl (by omega), dg_hi hnn hlt (by omega)]
  · by_cases c2 : i = j
    · rw [c2, h0, dg_hi hnn hlt (by omega)]
    · by_cases c3 : i < j + 1 + m
      · have := h1 (i - (j + 1)) (by omega)
        rw [show j + 1 + (i - (j + 1)) = i by omega] at this
        rw [this]
        unfold bM
        rw [show L - 1 - i = s + (m - 1 - (i - (j + 1))) by omega]
        unfold dg
        rw [p32a, ← Int.ediv_ediv_of_nonneg (Int.le_of_lt hP), show R * 2 ^ (32 * s) + T % 2 ^ (32 * s) = T % 2 ^ (32 * s) + 2 ^ (32 * s) * R by rw [Int.mul_comm]; omega, Int.add_mul_ediv_left _ _ (Int.ne_of_gt hP), Int.ediv_eq_zero_of_lt hs0 hs1, Int.zero_add]
      · rw [h2 i (Or.inr (by omega)), hf i hi]
        unfold bM
        have e : T = T % 2 ^ (32 * s) + 2 ^ (32 * s) * (T / 2 ^ (32 * s)) := by have := Int.mul_ediv_add_emod T (2 ^ (32 * s)); omega
        rw [show R * 2 ^ (32 * s) + T % 2 ^ (32 * s) = T % 2 ^ (32 * s) + 2 ^ (32 * s) * R by rw [Int.mul_comm]; omega, dg_low _ _ (by omega)]
        conv => lhs; rw [e]
        rw [dg_low _ _ (by omega)]
