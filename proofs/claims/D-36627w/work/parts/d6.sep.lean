/-! PLAIN LAW 24: an interval with two changes is not too short (ends at most 2) -/
theorem der_0 (V : Nat → Rat) (x : Rat) : ∀ j, pe (dc V) (j + 1) x = pe (fun k => V (k + 1)) (j + 1) x + x * pe (dc (fun k => V (k + 1))) j x := by
  intro j
  induction j with
  | zero =>
    show 0 + (((0 : Nat) : Rat) + 1) * V 1 * x ^ 0 = 0 + V 1 * x ^ 0 + x * 0
    rw [show ((0 : Nat) : Rat) = 0 from rfl, Rat.pow_zero]; grind
  | succ j ih =>
    rw [pe_s (dc V) (j + 1), ih, pe_s (fun k => V (k + 1)) (j + 1), pe_s (dc (fun k => V (k + 1))) j]
    show _ + (((j + 1 : Nat) : Rat) + 1) * V (j + 1 + 1) * x ^ (j + 1) = _ + V (j + 1 + 1) * x ^ (j + 1) + x * (_ + ((j : Rat) + 1) * V (j + 1 + 1) * x ^ j)
    rw [Rat.natCast_add, Rat.pow_succ, show ((1 : Nat) : Rat) = 1 from rfl]
    generalize (j : Rat) = J
    generalize x ^ j = X
    grind
theorem three_pos (n : Nat) : (1 : Rat) ≤ 3 ^ n := by
  induction n with
  | zero => rw [Rat.pow_zero]; exact Rat.le_refl
  | succ n ih => rw [Rat.pow_succ]; grind
theorem tay_ex {c : Rat} (hc : rab c ≤ 2) : ∀ (n : Nat) (V : Nat → Rat) (b : Rat), 0 ≤ b → (∀ k, k < n → rab (V k) ≤ b) → ∃ a : Nat → Rat, (∀ k, n ≤ k → a k = 0) ∧ (∀ k, rab (a k) ≤ 3 ^ n * b) ∧ (∀ s, pe V n (c + s) = pe a n s) ∧ ∀ s, pe (dc V) (n - 1) (c + s) = pe (dc a) (n - 1) s := by
  intro n
  induction n with
  | zero =>
    intro V b hb _
    exact ⟨fun _ => 0, fun _ _ => rfl, fun _ => by unfold rab; rw [if_pos Rat.le_refl, Rat.pow_zero]; grind, fun _ => rfl, fun _ => rfl⟩
  | succ n ih =>
    intro V b hb hV
    obtain ⟨a', z', b', e', d'⟩ := ih (fun k => V (k + 1)) b hb (fun k hk => hV (k + 1) (by omega))
    obtain ⟨a, ha⟩ : ∃ a : Nat → Rat, a = fun k => (if k = 0 then V 0 else 0) + (c * a' k + (if k = 0 then 0 else a' (k - 1))) := ⟨_, rfl⟩
    have ak : ∀ k, a k = (if k = 0 then V 0 else 0) + (c * a' k + (if k = 0 then 0 else a' (k - 1))) := fun k => by rw [ha]
    have ext : ∀ s, pe a' (n + 1) s = pe a' n s := fun s => by rw [pe_s, z' n (Nat.le_refl n)]; grind
    refine ⟨a, fun k hk => ?_, fun k => ?_, fun s => ?_, fun s => ?_⟩
    · rw [ak, if_neg (by omega), if_neg (by omega), z' k (by omega), z' (k - 1) (by omega)]; grind
    · have h3 := three_pos n
      have hp := Rat.mul_nonneg (show 0 ≤ (3 : Rat) ^ n - 1 by grind) hb
      have h4 : rab (c * a' k) ≤ 2 * (3 ^ n * b) := by rw [rab_mul]; exact mul_le2 (rab_nn _) (rab_nn _) hc (b' k)
      have h6 : (3 : Rat) ^ (n + 1) * b = 3 * (3 ^ n * b) := by rw [Rat.pow_succ]; grind
      have h7 : ((3 : Rat) ^ n - 1) * b = 3 ^ n * b - b := by grind
      rw [h7] at hp
      rw [ak, h6]
      obtain ⟨r1, r2⟩ := rab_b (c * a' k)
      by_cases z : k = 0
      · subst z
        obtain ⟨r3, r4⟩ := rab_b (V 0)
        have h5 := hV 0 (by omega)
        rw [if_pos rfl, if_pos rfl]
        generalize c * a' 0 = X at *
        generalize (3 : Rat) ^ n * b = Y at *
        exact rab_le (by grind) (by grind)
      · obtain ⟨r3, r4⟩ := rab_b (a' (k - 1))
        have h5 := b' (k - 1)
        rw [if_neg z, if_neg z]
        generalize c * a' k = X at *
        generalize (3 : Rat) ^ n * b = Y at *
        exact rab_le (by grind) (by grind)
    · have p1 : pe (fun k => if k = 0 then V 0 else 0) (n + 1) s = V 0 := by
        rw [pe_0, pe_z n (fun k _ => if_neg (by omega))]
        show (if 0 = 0 then V 0 else 0) + s * 0 = V 0
        rw [if_pos rfl]; grind
      have p2 : pe (fun k => if k = 0 then 0 else a' (k - 1)) (n + 1) s = s * pe a' n s := by
        rw [pe_0, pe_congr (c := fun k => if k + 1 = 0 then 0 else a' (k + 1 - 1)) (d := a') n (fun k _ => if_neg (by omega)) s]
        show (if 0 = 0 then (0 : Rat) else a' (0 - 1)) + _ = _
        rw [if_pos rfl]; grind
      rw [ha, pe_add, pe_add, p1, p2, pe_mul, ext, pe_0, e']
      grind
    · show pe (dc V) n (c + s) = pe (dc a) n s
      cases n with
      | zero => rfl
      | succ j =>
        have q1 : pe (dc a) (j + 1) s = pe (fun k => c * dc a' k + (dc (fun k => if k = 0 then 0 else a' (k - 1)) k)) (j + 1) s := pe_congr (j + 1) (fun k _ => by
          show ((k : Rat) + 1) * a (k + 1) = c * (((k : Rat) + 1) * a' (k + 1)) + ((k : Rat) + 1) * (if k + 1 = 0 then 0 else a' (k + 1 - 1))
          rw [ak, if_neg (by omega), if_neg (by omega)]; grind) s
        have q2 := der_0 (fun k => if k = 0 then 0 else a' (k - 1)) s j
        have q3 : (fun k => (fun k => if k = 0 then 0 else a' (k - 1)) (k + 1)) = a' := by
          funext k
          show (if k + 1 = 0 then 0 else a' (k + 1 - 1)) = a' k
          rw [if_neg (by omega)]; rfl
        rw [q3] at q2
        have q4 : pe (dc a') (j + 1) s = pe (dc a') j s := by
          rw [pe_s]
          show _ + ((j : Rat) + 1) * a' (j + 1) * s ^ j = _
          rw [z' (j + 1) (Nat.le_refl _)]; grind
        have d'' : pe (dc (fun k => V (k + 1))) j (c + s) = pe (dc a') j s := d' s
        rw [q1, pe_add, pe_mul, q2, q4, der_0, e', d'']
        grind
theorem max_ex (f : Nat → Rat) : ∀ d, 2 ≤ d → ∃ κ, 2 ≤ κ ∧ κ ≤ d ∧ ∀ k, 2 ≤ k → k ≤ d → f k ≤ f κ := by
  intro d
  induction d with
  | zero => intro h; omega
  | succ d ih =>
    intro h
    by_cases c : d = 1
    · subst c; exact ⟨2, by omega, by omega, fun k k1 k2 => by rw [show k = 2 by omega]; exact Rat.le_refl⟩
    · obtain ⟨κ, k1, k2, k3⟩ := ih (by omega)
      by_cases e : f (d + 1) ≤ f κ
      · exact ⟨κ, k1, by omega, fun k a b => by
          by_cases q : k = d + 1
          · rw [q]; exact e
          · exact k3 k a (by omega)⟩
      · exact ⟨d + 1, by omega, by omega, fun k a b => by
          by_cases q : k = d + 1
          · rw [q]; exact Rat.le_refl
          · have := k3 k a (by omega); grind⟩
theorem aS_le {V : Nat → Rat} {m : Rat} : ∀ n : Nat, (∀ k, k < n → rab (V k) ≤ m) → aS V n ≤ (n : Rat) * m := by
  intro n
  induction n with
  | zero => intro _; show (0 : Rat) ≤ ((0 : Nat) : Rat) * m; rw [show ((0 : Nat) : Rat) = 0 from rfl]; grind
  | succ n ih =>
    intro h
    have h1 := ih (fun k hk => h k (by omega))
    have h2 := h n (Nat.lt_succ_self n)
    show aS V n + rab (V n) ≤ _
    rw [Rat.natCast_add, show ((1 : Nat) : Rat) = 1 from rfl]
    generalize (n : Rat) = N at *
    grind
theorem nat_rab (x : Int) {b : Nat} (h : x.natAbs ≤ b) : rab (x : Rat) ≤ (b : Rat) := by
  have h1 : x ≤ (b : Int) := by omega
  have h2 : -(b : Int) ≤ x := by omega
  have h3 : (x : Rat) ≤ ((b : Int) : Rat) := Rat.intCast_le_intCast.mpr h1
  have h4 : ((-(b : Int) : Int) : Rat) ≤ (x : Rat) := Rat.intCast_le_intCast.mpr h2
  rw [Rat.intCast_neg] at h4
  exact rab_le h4 h3
theorem dd60 {D s Y : Rat} (h : D * s ≤ 6 * (5 * Y)) : 2 * D * s ≤ 60 * Y := by
  rw [show 2 * D * s = 2 * (D * s) by grind]
  generalize D * s = X at *
  grind
theorem dd65 {S x y M D : Rat} (hS : 0 < S) (h : S * x ≤ S * y + D) (h1 : S * y ≤ 60 * (S * M)) (hD : D ≤ 5 * (S * M)) : x ≤ 65 * M := div_le hS (by
  rw [show x * S = S * x by grind, show 65 * M * S = 65 * (S * M) by grind]
  generalize S * x = X at *
  generalize S * y = Y at *
  generalize S * M = Z at *
  grind)
theorem dd61 {S y M D : Rat} (hS : 0 < S) (h : S * y ≤ D) (hD : D ≤ 60 * (S * M)) : y ≤ 60 * M := div_le hS (by
  rw [show y * S = S * y by grind, show 60 * M * S = 60 * (S * M) by grind]
  exact Rat.le_trans h hD)
def sepQ (d b : Nat) : Nat := (((d - 1) + d * d) * b) ^ (2 * d - 2)
theorem sep {F : Nat → Int} {d e b : Nat} (hd : 2 ≤ d) (d6 : d ≤ 6) (he1 : 1 ≤ e) (hed : e ≤ d) (hz : ∀ k, e < k → F k = 0) (hF : F e ≠ 0) (hb : ∀ k, (F k).natAbs ≤ b) {A B : Rat → Rat} (hA : Pfn A) (hB : Pfn B) (bz : ∀ x, A x * pe (ci F) (e + 1) x + B x * pe (dc (ci F)) e x = 1) {c w κ0 : Rat} (hc : rab c ≤ 2) (hw : 0 < w) (w1 : w ≤ 1) (hκ : κ0 ≠ 0) {W : Nat → Int} (hW : ∀ y, 0 < y → pe (ci W) (d + 1) y = (y + 1) ^ d * (κ0 * pe (ci F) (d + 1) (c + w * (y + 1)⁻¹))) (hv : ¬ oneF W d) : 1 ≤ 131072 * (3 ^ 6 * (sepQ e b : Rat)) * (3 ^ 7 * (b : Rat)) * (w * w) := by
  obtain ⟨U, V, R, hR, hU, hV, id⟩ := bez_ex he1 hz hF hb hA hB bz
  have b0 : (0 : Rat) ≤ (b : Rat) := Rat.natCast_nonneg
  have Q0 : (0 : Rat) ≤ (sepQ e b : Rat) := Rat.natCast_nonneg
  obtain ⟨a, a1, a2, a3, a4⟩ := tay_ex hc (d + 1) (ci F) (b : Rat) b0 (fun k _ => nat_rab (F k) (hb k))
  obtain ⟨u, u1, u2, u3, _⟩ := tay_ex hc (e - 1) (ci U) (sepQ e b : Rat) Q0 (fun k _ => nat_rab (U k) (hU k))
  obtain ⟨v, v1, v2, v3, _⟩ := tay_ex hc e (ci V) (sepQ e b : Rat) Q0 (fun k _ => nat_rab (V k) (hV k))
  have a4' : ∀ s, pe (dc (ci F)) d (c + s) = pe (dc a) d s := a4
  -- powers of 3
  have t3 : ∀ m n : Nat, m ≤ n → ∀ z : Rat, 0 ≤ z → (3 : Rat) ^ m * z ≤ 3 ^ n * z := fun m n h z hz => mul_le2 (by have := three_pos m; grind) hz (rpow_le (by decide) h) Rat.le_refl
  -- the coefficients of W
  obtain ⟨VV, hVV⟩ : ∃ VV : Nat → Rat, VV = fun k => (fun k => κ0 * (a k * w ^ k)) (d - k) := ⟨_, rfl⟩
  have VVk : ∀ k, VV k = κ0 * (a (d - k) * w ^ (d - k)) := fun k => by rw [hVV]
  have hdm := dom (d := d) (by omega) (W := W) (V := VV) (fun y hy => by
    rw [hW y hy, hVV, pe_rev (fun k => κ0 * (a k * w ^ k)) (y + 1) (by grind) d, pe_mul, pe_scale, ← a3]) hv
  obtain ⟨κ, k2, kd, kmax⟩ := max_ex (fun k => rab (a k) * w ^ k) d hd
  obtain ⟨M, hM⟩ : ∃ M, rab (a κ) * w ^ κ = M := ⟨_, rfl⟩
  have M0 : 0 ≤ M := by rw [← hM]; exact Rat.mul_nonneg (rab_nn _) (rpow_nn hw κ)
  have kmax' : ∀ k, 2 ≤ k → k ≤ d → rab (a k) * w ^ k ≤ M := fun k h1 h2 => by rw [← hM]; exact kmax k h1 h2
  obtain ⟨S, hS⟩ : ∃ S, S = rab κ0 := ⟨_, rfl⟩
  have S0 : 0 < S := by
    rw [hS]; unfold rab; split <;> grind
  have rw0 : ∀ k, rab (w ^ k) = w ^ k := fun k => if_pos (rpow_nn hw k)
  have rVV : ∀ k, rab (VV k) = S * (rab (a (d - k)) * w ^ (d - k)) := fun k => by rw [VVk, rab_mul, rab_mul, rw0, hS]
  have hD := aS_le (V := VV) (m := S * M) (d - 1) (fun k hk => by
    rw [rVV]; exact mul_le2 (Rat.le_of_lt S0) (Rat.mul_nonneg (rab_nn _) (rpow_nn hw _)) Rat.le_refl (kmax' (d - k) (by omega) (by omega)))
  have SM0 : 0 ≤ S * M := Rat.mul_nonneg (Rat.le_of_lt S0) M0
  have n1 : ((d - 1 : Nat) : Rat) ≤ 5 := Rat.natCast_le_natCast.mpr (show d - 1 ≤ 5 by omega)
  have n2 : (d : Rat) ≤ 6 := Rat.natCast_le_natCast.mpr d6
  have hD5 : aS VV (d - 1) ≤ 5 * (S * M) := Rat.le_trans hD (mul_le2 Rat.natCast_nonneg SM0 n1 Rat.le_refl)
  obtain ⟨dm1, dm2⟩ := hdm
  rw [rVV] at dm1 dm2
  rw [rVV (d - 1)] at dm2
  rw [show d - (d - 1) = 1 by omega] at dm1 dm2
  rw [Nat.sub_self] at dm2
  have DD0 := aS_nn VV (d - 1)
  have dm1' : 2 * (d : Rat) * aS VV (d - 1) ≤ 60 * (S * M) := by
    have h1 := mul_le2 (Rat.natCast_nonneg (a := d)) DD0 n2 hD5
    exact dd60 h1
  have z1 : rab (a 1) * w ^ 1 ≤ 60 * M := dd61 S0 dm1 dm1'
  have z0 : rab (a 0) * w ^ 0 ≤ 65 * M := dd65 S0 dm2 (Rat.le_trans dm1 dm1') hD5
  have hZ : ∀ j, j ≤ d → rab (a j) * w ^ j ≤ 65 * M := fun j hj => by
    by_cases c0 : j = 0
    · rw [c0]; exact z0
    · by_cases c1 : j = 1
      · rw [c1]; grind
      · have := kmax' j (by omega) hj; grind
  have Mp : 0 < M := Classical.byContradiction fun h => by
    have Mz : M = 0 := by grind
    have ha0 : ∀ k, a k = 0 := fun k => by
      by_cases c : k ≤ d
      · have h1 := hZ k c
        rw [Mz] at h1
        have h2 : rab (a k) ≤ 0 := div_le (rpow_pos hw k) (by grind)
        have := rab_b (a k)
        grind
      · exact a1 k (by omega)
    have fF : hdeg (pe (ci F) (e + 1)) e := ⟨ci F, fun e => hF (Rat.intCast_eq_zero_iff.mp e), fun _ => rfl⟩
    refine fF.nz (fun x => ?_)
    rw [← pe_ext2 (d + 1) (by omega) (fun k k1 _ => by show (F k : Rat) = 0; rw [hz k (by omega)]; rfl) x]
    have := a3 (x - c)
    rw [show c + (x - c) = x by grind] at this
    rw [this]
    exact pe_z (d + 1) (fun k _ => ha0 k) _
  have fin := dep (d := d) (p := e - 1) (q := e - 1) d6 (by omega) (by omega) (u := u) (a := a) (v := v) (R := (R : Rat)) (w := w) (T := 3 ^ 6 * (sepQ e b : Rat)) (A := 3 ^ 7 * (b : Rat)) (M := M) (fun k hk => a1 k (by omega)) hw w1 (fun s => by
    rw [show e - 1 + 1 = e by omega, ← u3, ← a3, ← v3, ← a4']
    rw [pe_ext2 (n := e + 1) (d + 1) (by omega) (fun k k1 _ => by show (F k : Rat) = 0; rw [hz k (by omega)]; rfl) (c + s), pe_ext2 (c := dc (ci F)) (n := e) d hed (fun k k1 _ => by show ((k : Rat) + 1) * (F (k + 1) : Rat) = 0; rw [hz (k + 1) (by omega), show ((0 : Int) : Rat) = 0 from rfl]; grind) (c + s)]
    exact id (c + s)) (Rat.mul_nonneg (by have := three_pos 6; grind) Q0) (fun i => Rat.le_trans (u2 i) (t3 _ _ (by omega) _ Q0)) (fun i => Rat.le_trans (v2 i) (t3 _ _ (by omega) _ Q0)) k2 kd hM Mp hZ (Rat.le_trans (a2 κ) (t3 _ _ (by omega) _ b0))
  refine Rat.le_trans ?_ fin
  unfold rab
  by_cases c : 0 ≤ R
  · rw [if_pos (Rat.intCast_nonneg.mpr c)]
    have : ((1 : Int) : Rat) ≤ (R : Rat) := Rat.intCast_le_intCast.mpr (by omega)
    exact this
  · rw [if_neg (fun h => c (Rat.intCast_nonneg.mp h))]
    have : ((1 : Int) : Rat) ≤ ((-R : Int) : Rat) := Rat.intCast_le_intCast.mpr (by omega)
    rw [Rat.intCast_neg] at this
    exact this
