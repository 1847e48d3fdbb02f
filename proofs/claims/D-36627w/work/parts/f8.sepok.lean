/-! PLAIN LAW 44: the halving's fuel is enough for every free part of a factor -/
theorem rab_0 : rab 0 = 0 := if_pos (by decide)
theorem hoP_L {F : Nat → Int} {d e b : Nat} {a w : Int} {X : Rat} (hb : ∀ k, k ≤ d → (F k).natAbs ≤ b) (hX : rab (a : Rat) + rab (w : Rat) ≤ X) (hX2 : (2 : Rat) ^ e ≤ X) : ∀ s, s ≤ d + 1 → aS (ci (hoP F d a w e s)) (d + 1) ≤ (b : Rat) * (s : Rat) * X ^ s := by
  have tp : (1 : Rat) ≤ 2 ^ e := two_pos e
  have X1 : 1 ≤ X := by grind
  have b0 : (0 : Rat) ≤ (b : Rat) := Rat.natCast_nonneg
  intro s
  induction s with
  | zero =>
    intro _
    have : ∀ n, aS (ci (hoP F d a w e 0)) n = 0 := by
      intro n
      induction n with
      | zero => rfl
      | succ n ih => show aS _ n + rab ((0 : Int) : Rat) = 0; rw [ih, show ((0 : Int) : Rat) = 0 from rfl, rab_0]; grind
    rw [this, show ((0 : Nat) : Rat) = 0 from rfl]; grind
  | succ s ih =>
    intro hs
    have h1 := ih (by omega)
    obtain ⟨q, hq⟩ : ∃ q, q = hoP F d a w e s := ⟨_, rfl⟩
    rw [← hq] at h1
    obtain ⟨t, ht⟩ : ∃ t, t = psT q d a w (d + 1) := ⟨_, rfl⟩
    have tk : ∀ k, k < d + 1 → ci t k = (a : Rat) * ci q k + (w : Rat) * (if k = 0 then 0 else ci q (k - 1)) := fun k hk => by
      rw [ht]
      show (((if k ≤ d ∧ d < k + (d + 1) then q k * a + (if k = 0 then 0 else q (k - 1) * w) else q k) : Int) : Rat) = _
      rw [if_pos (by omega)]
      by_cases c : k = 0
      · rw [if_pos c, if_pos c, Rat.intCast_add, Rat.intCast_mul]
        show (q k : Rat) * (a : Rat) + ((0 : Int) : Rat) = (a : Rat) * (q k : Rat) + _
        rw [show ((0 : Int) : Rat) = 0 from rfl]; grind
      · rw [if_neg c, if_neg c, Rat.intCast_add, Rat.intCast_mul, Rat.intCast_mul]
        show (q k : Rat) * (a : Rat) + (q (k - 1) : Rat) * (w : Rat) = (a : Rat) * (q k : Rat) + (w : Rat) * (q (k - 1) : Rat)
        grind
    have t1 : aS (ci t) (d + 1) ≤ X * aS (ci q) (d + 1) := by
      rw [aS_congr (d + 1) tk]
      have h2 := aS_add (fun k => (a : Rat) * ci q k) (fun k => (w : Rat) * (if k = 0 then 0 else ci q (k - 1))) (d + 1)
      rw [aS_mul, aS_mul] at h2
      have h3 : aS (fun k => if k = 0 then 0 else ci q (k - 1)) (d + 1) ≤ aS (ci q) (d + 1) := by
        rw [aS_0]
        have e1 : aS (fun k => if k + 1 = 0 then 0 else ci q (k + 1 - 1)) d = aS (ci q) d := aS_congr d (fun k _ => by rw [if_neg (by omega), Nat.add_sub_cancel])
        have e2 : rab (if 0 = 0 then (0 : Rat) else ci q (0 - 1)) = 0 := by rw [if_pos rfl]; exact rab_0
        rw [e2, e1]
        have := rab_nn (ci q d)
        show 0 + aS (ci q) d ≤ aS (ci q) d + rab (ci q d)
        grind
      have h4 := aS_nn (ci q) (d + 1)
      have h5 : rab (w : Rat) * aS (fun k => if k = 0 then 0 else ci q (k - 1)) (d + 1) ≤ rab (w : Rat) * aS (ci q) (d + 1) := Rat.mul_le_mul_of_nonneg_left h3 (rab_nn _)
      have h6 : (rab (a : Rat) + rab (w : Rat)) * aS (ci q) (d + 1) ≤ X * aS (ci q) (d + 1) := Rat.mul_le_mul_of_nonneg_right hX h4
      have h7 : (rab (a : Rat) + rab (w : Rat)) * aS (ci q) (d + 1) = rab (a : Rat) * aS (ci q) (d + 1) + rab (w : Rat) * aS (ci q) (d + 1) := by grind
      exact Rat.le_trans h2 (by grind)
    obtain ⟨z, hz⟩ : ∃ z : Int, z = F (d - s) * 2 ^ (e * s) := ⟨_, rfl⟩
    have eh : hoP F d a w e (s + 1) = va_up t 0 (t 0 + z) := by rw [ht, hz, hq]; rfl
    have zb : rab (z : Rat) ≤ (b : Rat) * X ^ s := by
      rw [hz, Rat.intCast_mul, rab_mul, p2cast]
      have f1 := nat_rab _ (hb (d - s) (by omega))
      have f2 : rab ((2 : Rat) ^ (e * s)) = 2 ^ (e * s) := if_pos (by have := two_pos (e * s); grind)
      rw [f2]
      have f3 : (2 : Rat) ^ (e * s) ≤ X ^ s := by
        have : ∀ s : Nat, (2 : Rat) ^ (e * s) ≤ X ^ s ∧ 0 ≤ X ^ s := by
          intro s
          induction s with
          | zero => rw [Nat.mul_zero, Rat.pow_zero, Rat.pow_zero]; exact ⟨Rat.le_refl, by decide⟩
          | succ s ih =>
            rw [Nat.mul_succ, rpow_add, Rat.pow_succ]
            have g1 : (2 : Rat) ^ (e * s) * 2 ^ e ≤ X ^ s * 2 ^ e := Rat.mul_le_mul_of_nonneg_right ih.1 (by grind)
            have g2 : X ^ s * 2 ^ e ≤ X ^ s * X := Rat.mul_le_mul_of_nonneg_left hX2 ih.2
            exact ⟨Rat.le_trans g1 g2, Rat.mul_nonneg ih.2 (by grind)⟩
        exact (this s).1
      have f4 : rab ((F (d - s) : Int) : Rat) * 2 ^ (e * s) ≤ (b : Rat) * 2 ^ (e * s) := Rat.mul_le_mul_of_nonneg_right f1 (by have := two_pos (e * s); grind)
      exact Rat.le_trans f4 (Rat.mul_le_mul_of_nonneg_left f3 b0)
    have u1 : aS (ci (va_up t 0 (t 0 + z))) (d + 1) ≤ aS (ci t) (d + 1) + rab (z : Rat) := by
      rw [aS_0, aS_0 (ci t)]
      have e1 : aS (fun k => ci (va_up t 0 (t 0 + z)) (k + 1)) d = aS (fun k => ci t (k + 1)) d := aS_congr d (fun k _ => by
        show ((va_up t 0 (t 0 + z) (k + 1) : Int) : Rat) = (t (k + 1) : Rat)
        rw [va_upn _ _ (by omega)])
      have e2 : ci (va_up t 0 (t 0 + z)) 0 = ci t 0 + (z : Rat) := by
        show ((va_up t 0 (t 0 + z) 0 : Int) : Rat) = (t 0 : Rat) + (z : Rat)
        rw [va_upj, Rat.intCast_add]
      rw [e1, e2]
      have := rab_add (ci t 0) (z : Rat)
      grind
    rw [eh]
    have g1 : X * aS (ci q) (d + 1) ≤ X * ((b : Rat) * (s : Rat) * X ^ s) := Rat.mul_le_mul_of_nonneg_left h1 (by grind)
    have Xs : 0 ≤ X ^ s := by
      have : ∀ s : Nat, 0 ≤ X ^ s := by
        intro s
        induction s with
        | zero => rw [Rat.pow_zero]; decide
        | succ s ih => rw [Rat.pow_succ]; exact Rat.mul_nonneg ih (by grind)
      exact this s
    have g2 : (b : Rat) * X ^ s ≤ (b : Rat) * X ^ s * X := by
      have h9 : 0 ≤ (b : Rat) * X ^ s := Rat.mul_nonneg b0 Xs
      have := Rat.mul_le_mul_of_nonneg_left X1 h9
      grind
    have g3 : ((s + 1 : Nat) : Rat) = (s : Rat) + 1 := by rw [Rat.natCast_add]; rfl
    rw [g3, Rat.pow_succ]
    have g4 : (b : Rat) * ((s : Rat) + 1) * (X ^ s * X) = X * ((b : Rat) * (s : Rat) * X ^ s) + (b : Rat) * X ^ s * X := by grind
    rw [g4]
    exact Rat.le_trans u1 (by grind)
theorem sepN : ∀ d, d < 7 → 131072 * (729 * sepQ d (if d = 6 then 9999 else 1119888)) * (2187 * (if d = 6 then 9999 else 1119888)) ≤ 2 ^ 271 := by decide +kernel
theorem le_1 {x t : Rat} (ht : 0 < t) (h : x * t ≤ t) : x ≤ 1 := by
  refine Classical.byContradiction fun w => ?_
  have := Rat.mul_pos (show 0 < x - 1 by grind) ht
  grind
theorem fs.hPl {p : Nat → Int} (hp : fs p) {e : Nat} {m n : Int} (hmn : m < n) (hw : n - m ≤ 2 ^ 22 * 2 ^ e) (hm : m.natAbs ≤ 2 ^ 33) (hn : (n - m).natAbs ≤ 2 ^ 33) (he : e ≤ 33) : okPl (freeR p) e m n := by
  have hF := hp.free
  obtain ⟨d, hd⟩ := Int.eq_ofNat_of_zero_le hF.all.1
  have d7 : d < 7 := by have := pdeg_in (freeR p); omega
  obtain ⟨b, hbd⟩ : ∃ b : Nat, b = if d = 6 then 9999 else 1119888 := ⟨_, rfl⟩
  have hb : ∀ k, k ≤ d → (freeR p k).natAbs ≤ b := fun k hk => by
    rw [hbd]
    by_cases c : d = 6
    · rw [if_pos c]; exact hF.all.2.2 (by omega) k (by omega)
    · rw [if_neg c]; exact hF.all.2.1 k (by omega)
  have e2 := two_pos e
  have i1 : (0 : Rat) < ((2 : Rat) ^ e)⁻¹ := Rat.inv_pos.mpr (by grind)
  have pt22 : pt (n - m) e ≤ 2 ^ 22 := by
    have h1 : ((n - m : Int) : Rat) ≤ ((2 ^ 22 * 2 ^ e : Int) : Rat) := Rat.intCast_le_intCast.mpr hw
    rw [Rat.intCast_mul, p2cast, p2cast] at h1
    have h2 := Rat.mul_le_mul_of_nonneg_right h1 (Rat.le_of_lt i1)
    unfold pt
    have h3 : (2 : Rat) ^ 22 * 2 ^ e * ((2 : Rat) ^ e)⁻¹ = 2 ^ 22 := by rw [Rat.mul_assoc, p2inv]; grind
    rw [h3] at h2
    exact h2
  have pt0 : 0 ≤ pt (n - m) e := by
    unfold pt
    exact Rat.mul_nonneg (Rat.intCast_nonneg.mpr (by omega)) (Rat.le_of_lt i1)
  obtain ⟨ω, hω⟩ : ∃ ω : Rat, ω * 2 ^ 158 = pt (n - m) e := ⟨pt (n - m) e * ((2 : Rat) ^ 158)⁻¹, by
    have := p2inv 158
    have h2 : pt (n - m) e * ((2 : Rat) ^ 158)⁻¹ * 2 ^ 158 = pt (n - m) e * (2 ^ 158 * ((2 : Rat) ^ 158)⁻¹) := by
      generalize (2 : Rat) ^ 158 = t
      grind
    rw [h2, this]; grind⟩
  have s1 : (2 : Rat) ^ 158 = 2 ^ 136 * 2 ^ 22 := rpow_add 2 136 22
  have s2 : (2 : Rat) ^ 272 = 2 ^ 136 * 2 ^ 136 := rpow_add 2 136 136
  have s3 : (2 : Rat) ^ 272 = 2 ^ 271 * 2 := Rat.pow_succ 2 271
  have p22 := two_pos 22
  have p136 := two_pos 136
  have p271 := two_pos 271
  obtain ⟨K, hK⟩ : ∃ K : Nat, K = 131072 * (729 * sepQ d b) * (2187 * b) := ⟨_, rfl⟩
  have hK1 : K ≤ 2 ^ 271 := by rw [hK, hbd]; exact sepN d d7
  have hK2 : (K : Rat) ≤ 2 ^ 271 := by
    have h1 : ((K : Int) : Rat) ≤ ((2 ^ 271 : Int) : Rat) := Rat.intCast_le_intCast.mpr (by
      have : ((K : Nat) : Int) ≤ ((2 ^ 271 : Nat) : Int) := Int.ofNat_le.mpr hK1
      rw [Int.natCast_pow] at this
      exact this)
    rw [p2cast] at h1
    exact h1
  have hK3 : 131072 * (3 ^ 6 * (sepQ d b : Rat)) * (3 ^ 7 * (b : Rat)) = (K : Rat) := by
    rw [hK, Rat.natCast_mul, Rat.natCast_mul, Rat.natCast_mul, Rat.natCast_mul, show ((131072 : Nat) : Rat) = 131072 from rfl, show ((729 : Nat) : Rat) = 729 from rfl, show ((2187 : Nat) : Rat) = 2187 from rfl]
    generalize (sepQ d b : Rat) = u
    generalize (b : Rat) = v
    grind
  have ω0 : 0 ≤ ω := by
    refine Classical.byContradiction fun w => ?_
    have h1 := Rat.mul_pos (show 0 < -ω by grind) (show (0 : Rat) < 2 ^ 158 by have := two_pos 158; grind)
    generalize (2 : Rat) ^ 158 = t at *
    grind
  have y1 : ω * 2 ^ 136 ≤ 1 := le_1 (t := 2 ^ 22) (by grind) (by
    have : ω * 2 ^ 136 * 2 ^ 22 = ω * 2 ^ 158 := by rw [s1]; grind
    rw [this, hω]; exact pt22)
  have y0 : 0 ≤ ω * 2 ^ 136 := Rat.mul_nonneg ω0 (by grind)
  have w1 : ω ≤ 1 := by
    have : ω * 1 ≤ ω * 2 ^ 136 := Rat.mul_le_mul_of_nonneg_left p136 ω0
    grind
  have yy : ω * ω * 2 ^ 272 ≤ 1 := by
    have h1 : (ω * 2 ^ 136) * (ω * 2 ^ 136) ≤ (ω * 2 ^ 136) * 1 := Rat.mul_le_mul_of_nonneg_left y1 y0
    have h2 : ω * ω * 2 ^ 272 = (ω * 2 ^ 136) * (ω * 2 ^ 136) := by rw [s2]; grind
    rw [h2]
    exact Rat.le_trans h1 (by grind)
  have hsm : (K : Rat) * (ω * ω) < 1 := by
    have h1 : (K : Rat) * (ω * ω) ≤ 2 ^ 271 * (ω * ω) := Rat.mul_le_mul_of_nonneg_right hK2 (Rat.mul_nonneg ω0 ω0)
    have h2 : ω * ω * 2 ^ 272 = 2 * (2 ^ 271 * (ω * ω)) := by rw [s3]; grind
    rw [h2] at yy
    generalize (2 : Rat) ^ 271 * (ω * ω) = z at *
    grind
  have X : rab ((m : Int) : Rat) + rab ((n - m : Int) : Rat) ≤ 2 ^ 34 := by
    have h1 := nat_rab m hm
    have h2 := nat_rab (n - m) hn
    have h3 : ((2 ^ 33 : Nat) : Rat) = 2 ^ 33 := by
      have := p2cast 33
      rw [← this]; rfl
    rw [h3] at h1 h2
    have h4 : (2 : Rat) ^ 34 = 2 ^ 33 * 2 := Rat.pow_succ 2 33
    rw [h4]; grind
  have X2 : (2 : Rat) ^ e ≤ 2 ^ 34 := by
    have : ∀ k : Nat, (2 : Rat) ^ e ≤ 2 ^ (e + k) := fun k => by
      rw [rpow_add]
      have := Rat.mul_le_mul_of_nonneg_left (two_pos k) (show (0 : Rat) ≤ 2 ^ e by grind)
      grind
    have h := this (34 - e)
    rwa [show e + (34 - e) = 34 by omega] at h
  have hL := hoP_L hb X X2 (d + 1) (Nat.le_refl _)
  refine okPl_of hd hb (fun h2 => free_bez hp.all.1 hd (by omega)) hmn hω w1 (by rw [hK3]; exact hsm) hL ?_
  -- the size
  have b21 : (b : Rat) * ((d + 1 : Nat) : Rat) ≤ 2 ^ 24 := by
    have h1 : b * (d + 1) ≤ 2 ^ 24 := by
      have : b ≤ 1119888 := by rw [hbd]; split <;> omega
      have h2 := Nat.mul_le_mul this (show d + 1 ≤ 7 by omega)
      exact Nat.le_trans h2 (by decide)
    have h2 : ((b * (d + 1) : Nat) : Rat) ≤ ((2 ^ 24 : Nat) : Rat) := Rat.natCast_le_natCast.mpr h1
    rw [Rat.natCast_mul] at h2
    have h3 : ((2 ^ 24 : Nat) : Rat) = 2 ^ 24 := by
      have := p2cast 24
      rw [← this]; rfl
    rwa [h3] at h2
  have pw : ∀ j : Nat, ((2 : Rat) ^ 34) ^ j = 2 ^ (34 * j) := by
    intro j
    induction j with
    | zero => rw [Rat.pow_zero, Nat.mul_zero, Rat.pow_zero]
    | succ j ih => rw [Rat.pow_succ, ih, Nat.mul_succ, rpow_add]
  rw [pw]
  have q1 : (b : Rat) * ((d + 1 : Nat) : Rat) * 2 ^ (34 * (d + 1)) * 2 ^ (d * 159) ≤ 2 ^ 24 * 2 ^ (34 * (d + 1)) * 2 ^ (d * 159) := by
    have z1 := two_pos (34 * (d + 1))
    have z2 := two_pos (d * 159)
    exact Rat.mul_le_mul_of_nonneg_right (Rat.mul_le_mul_of_nonneg_right b21 (by grind)) (by grind)
  rw [← rpow_add, ← rpow_add] at q1
  have q2 : ∀ k j : Nat, (2 : Rat) ^ k < 2 ^ (k + (j + 1)) := fun k j => by
    rw [rpow_add, Rat.pow_succ]
    have z1 := two_pos k
    have z2 := two_pos j
    have z3 := Rat.mul_le_mul_of_nonneg_left z2 (show (0 : Rat) ≤ 2 ^ k by grind)
    grind
  have q3 := q2 (24 + 34 * (d + 1) + d * 159) (1535 - 1 - (24 + 34 * (d + 1) + d * 159))
  rw [show 24 + 34 * (d + 1) + d * 159 + (1535 - 1 - (24 + 34 * (d + 1) + d * 159) + 1) = 1535 by omega] at q3
  exact Rat.not_le.mp (fun w => Rat.not_le.mpr q3 (Rat.le_trans w q1))
