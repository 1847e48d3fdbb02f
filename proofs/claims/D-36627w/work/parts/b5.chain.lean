/-! PLAIN LAW 5: a chain with a common factor; the direction in which its first function passes zero -/
def Pfn (f : Rat → Rat) : Prop := ∃ (c : Nat → Rat) (n : Nat), ∀ x, f x = pe c (n + 1) x
theorem Pfn.congr {f g : Rat → Rat} (h : Pfn f) (e : ∀ x, g x = f x) : Pfn g := by
  obtain ⟨c, n, h⟩ := h
  exact ⟨c, n, fun x => (e x).trans (h x)⟩
theorem Pfn.const (a : Rat) : Pfn (fun _ => a) := ⟨fun _ => a, 0, fun x => by show a = 0 + a * x ^ 0; rw [Rat.pow_zero]; grind⟩
theorem Pfn.add {f g : Rat → Rat} (hf : Pfn f) (hg : Pfn g) : Pfn (fun x => f x + g x) := by
  obtain ⟨c, n, hf⟩ := hf
  obtain ⟨d, m, hg⟩ := hg
  refine ⟨fun k => cutc (n + 1) c k + cutc (m + 1) d k, max n m, fun x => ?_⟩
  show f x + g x = _
  rw [pe_add, pe_cut _ _ (by omega), pe_cut _ _ (by omega), hf, hg]
theorem Pfn.mul {f g : Rat → Rat} (hf : Pfn f) (hg : Pfn g) : Pfn (fun x => f x * g x) := by
  obtain ⟨c, n, hf⟩ := hf
  obtain ⟨d, m, hg⟩ := hg
  obtain ⟨e, _, h⟩ := pe_prod d m c n
  exact ⟨e, n + m, fun x => by show f x * g x = _; rw [hf, hg, h]⟩
theorem Pfn.smul {f : Rat → Rat} (a : Rat) (hf : Pfn f) : Pfn (fun x => a * f x) := (Pfn.const a).mul hf
theorem Pfn.neg {f : Rat → Rat} (hf : Pfn f) : Pfn (fun x => -f x) := (hf.smul (-1)).congr (fun x => by grind)
theorem Pfn.anP {f : Rat → Rat} (hf : Pfn f) {K : Rat} (hK : 0 ≤ K) : ∃ g, anP f g K := by
  obtain ⟨c, n, hf⟩ := hf
  exact ⟨_, anP_congr (fun x => (hf x).symm) (fun _ => rfl) (anP_pe c hK n)⟩
theorem Pfn.lip {f : Rat → Rat} (hf : Pfn f) {K : Rat} (hK : 0 ≤ K) : ∃ L, 0 ≤ L ∧ anL f K L := by
  obtain ⟨g, B, L, M, _, h2, _, _, h5, _⟩ := hf.anP hK
  exact ⟨L, h2, h5⟩
theorem Pfn.bd {f : Rat → Rat} (hf : Pfn f) {K : Rat} (hK : 0 ≤ K) : ∃ B, 0 ≤ B ∧ anB f K B := by
  obtain ⟨g, B, L, M, h1, _, _, h4, _⟩ := hf.anP hK
  exact ⟨B, h1, h4⟩
/-- what Euclid's steps give -/
def eucS (S : Nat → Rat → Rat) (r : Nat) : Prop := ∀ i, i + 1 ≤ r → ∃ (Q : Rat → Rat) (α β : Rat), Pfn Q ∧ 0 < α ∧ 0 < β ∧ (i + 2 ≤ r → ∀ x, α * S i x = Q x * S (i + 1) x - β * S (i + 2) x) ∧ (i + 1 = r → ∀ x, α * S i x = Q x * S (i + 1) x)
def polC (h : Nat → Rat → Rat) (r : Nat) : Prop := (∀ i, i ≤ r → Pfn (h i)) ∧ (∀ x, h r x = 1) ∧ ∀ i, i + 2 ≤ r → ∃ (q : Rat → Rat) (c d : Rat), Pfn q ∧ 0 < c ∧ 0 < d ∧ ∀ x, c * h i x = q x * h (i + 1) x - d * h (i + 2) x
theorem polC.chn {h : Nat → Rat → Rat} {r : Nat} (H : polC h r) {K : Rat} (hK : 0 ≤ K) : chn h r K :=
  ⟨fun i hi => (H.1 i hi).lip hK, ⟨1, by decide, H.2.1⟩, fun i hi => by
    obtain ⟨q, c, d, h1, h2, h3, h4⟩ := H.2.2 i hi
    obtain ⟨Q, hQ, hb⟩ := h1.bd hK
    exact ⟨q, Q, c, d, hQ, hb, h2, h3, fun x _ _ => h4 x⟩⟩
theorem euc_h {S : Nat → Rat → Rat} {r : Nat} (H : eucS S r) : ∃ h, polC h r ∧ ∀ i, i ≤ r → ∀ x, S i x = S r x * h i x := by
  have key : ∀ j, j ≤ r → ∃ h : Nat → Rat → Rat, (∀ i, r - j ≤ i → i ≤ r → Pfn (h i)) ∧ (∀ x, h r x = 1) ∧ (∀ i, r - j ≤ i → i + 2 ≤ r → ∃ (q : Rat → Rat) (c d : Rat), Pfn q ∧ 0 < c ∧ 0 < d ∧ ∀ x, c * h i x = q x * h (i + 1) x - d * h (i + 2) x) ∧ ∀ i, r - j ≤ i → i ≤ r → ∀ x, S i x = S r x * h i x := by
    intro j
    induction j with
    | zero =>
      intro _
      exact ⟨fun _ _ => 1, fun _ _ _ => Pfn.const 1, fun _ => rfl, fun i h1 h2 => absurd h2 (by omega), fun i h1 h2 x => by rw [show i = r by omega]; grind⟩
    | succ j ih =>
      intro hj
      obtain ⟨h, k1, k2, k3, k4⟩ := ih (by omega)
      obtain ⟨m, hm⟩ : ∃ m, m + 1 = r - j := ⟨r - j - 1, by omega⟩
      obtain ⟨Q, α, β, e1, e2, e3, e4, e5⟩ := H m (by omega)
      have hai : α * α⁻¹ = 1 := Rat.mul_inv_cancel _ (by grind)
      have hai0 : 0 < α⁻¹ := Rat.inv_pos.mpr e2
      by_cases hr : m + 2 ≤ r
      · obtain ⟨f, hf⟩ : ∃ f : Rat → Rat, f = fun x => α⁻¹ * (Q x * h (m + 1) x + (-β) * h (m + 2) x) := ⟨_, rfl⟩
        have hfP : Pfn f := by rw [hf]; exact ((e1.mul (k1 (m + 1) (by omega) (by omega))).add ((k1 (m + 2) (by omega) (by omega)).smul (-β))).smul α⁻¹
        have hfx : ∀ x, α * f x = Q x * h (m + 1) x - β * h (m + 2) x := fun x => by
          have : f x = α⁻¹ * (Q x * h (m + 1) x + (-β) * h (m + 2) x) := by rw [hf]
          rw [this]; grind
        have ne : ∀ i, m + 1 ≤ i → va_up h m f i = h i := fun i hi => va_upn _ _ (by omega)
        refine ⟨va_up h m f, fun i h1 h2 => ?_, fun x => by rw [ne r (by omega)]; exact k2 x, fun i h1 h2 => ?_, fun i h1 h2 x => ?_⟩
        · by_cases e : i = m
          · rw [e, va_upj]; exact hfP
          · rw [ne i (by omega)]; exact k1 i (by omega) h2
        · by_cases e : i = m
          · subst e
            refine ⟨Q, α, β, e1, e2, e3, fun x => ?_⟩
            rw [va_upj, ne (i + 1) (by omega), ne (i + 2) (by omega)]; exact hfx x
          · rw [ne i (by omega), ne (i + 1) (by omega), ne (i + 2) (by omega)]; exact k3 i (by omega) h2
        · by_cases e : i = m
          · subst e
            rw [va_upj]
            have g1 := e4 hr x
            rw [k4 (i + 1) (by omega) (by omega) x, k4 (i + 2) (by omega) (by omega) x] at g1
            have g2 := hfx x
            have g3 : α * S i x = α * (S r x * f x) := by grind
            have g4 : α⁻¹ * (α * S i x) = α⁻¹ * (α * (S r x * f x)) := by rw [g3]
            grind
          · rw [ne i (by omega)]; exact k4 i (by omega) h2 x
      · have hmr : m + 1 = r := by omega
        obtain ⟨f, hf⟩ : ∃ f : Rat → Rat, f = fun x => α⁻¹ * Q x := ⟨_, rfl⟩
        have ne : ∀ i, m + 1 ≤ i → va_up h m f i = h i := fun i hi => va_upn _ _ (by omega)
        refine ⟨va_up h m f, fun i h1 h2 => ?_, fun x => by rw [ne r (by omega)]; exact k2 x, fun i h1 h2 => absurd h2 (by omega), fun i h1 h2 x => ?_⟩
        · by_cases e : i = m
          · rw [e, va_upj, hf]; exact e1.smul α⁻¹
          · rw [ne i (by omega)]; exact k1 i (by omega) h2
        · by_cases e : i = m
          · subst e
            rw [va_upj]
            have g1 := e5 hmr x
            rw [hmr] at g1
            have g2 : f x = α⁻¹ * Q x := by rw [hf]
            have g3 : α⁻¹ * (α * S i x) = α⁻¹ * (Q x * S r x) := by rw [g1]
            rw [g2]; grind
          · rw [ne i (by omega)]; exact k4 i (by omega) h2 x
  obtain ⟨h, k1, k2, k3, k4⟩ := key r (Nat.le_refl r)
  exact ⟨h, ⟨fun i hi => k1 i (by omega) hi, k2, fun i hi => k3 i (by omega) hi⟩, fun i hi => k4 i (by omega) hi⟩
theorem anD_neg {f g : Rat → Rat} {K M : Rat} (h : anD f g K M) : anD (fun x => -f x) (fun x => -g x) K M := fun x y h1 h2 h3 => by
  have := h x y h1 h2 h3
  constructor <;> grind
/-- P = g h0, P' = ρ g h1, h1 above 0: h0 does not fall through zero -/
theorem dir_A {g h0 h1 P P' : Rat → Rat} {K ρ : Rat} (hρ : 0 < ρ) (hP : anP P P' K) (hg : ∃ B, 0 ≤ B ∧ anB g K B) (hl : ∃ L, 0 ≤ L ∧ anL h0 K L) (e0 : ∀ x, P x = g x * h0 x) (e1 : ∀ x, P' x = ρ * (g x * h1 x)) {z w : Rat} (hz : -K ≤ z) (hzw : z < w) (hw : w ≤ K) (h1p : ∀ t, z ≤ t → t ≤ w → 0 < h1 t) (h0z : 0 < h0 z) (hPz : P z ≠ 0) : 0 < h0 w := by
  refine Classical.byContradiction fun hc => ?_
  obtain ⟨G, hG, hgb⟩ := hg
  obtain ⟨L, hL, hlb⟩ := hl
  obtain ⟨_, _, M, _, _, hM, _, _, hD⟩ := anP_mul hP hP
  have hPP : 0 < P z * P z := by
    rcases (show 0 < P z ∨ P z < 0 by grind) with q | q
    · exact Rat.mul_pos q q
    · have := Rat.mul_pos (show 0 < -P z by grind) (show 0 < -P z by grind); grind
  obtain ⟨C, hC⟩ : ∃ C, C = (M + G * L * (G * L)) * (w - z) * (w - z) := ⟨_, rfl⟩
  obtain ⟨n, hn, hb⟩ := an_arch C (P z * P z) hPP
  have hp : (0 : Rat) < (n : Rat) := Rat.natCast_pos.mpr hn
  have hi : (0 : Rat) < (n : Rat)⁻¹ := Rat.inv_pos.mpr hp
  have hm : (n : Rat) * (n : Rat)⁻¹ = 1 := Rat.mul_inv_cancel _ (by grind)
  have hn1 : (1 : Rat) ≤ (n : Rat) := by
    have : ((1 : Nat) : Rat) ≤ (n : Rat) := Rat.natCast_le_natCast.mpr hn
    exact this
  obtain ⟨s, hs⟩ : ∃ s, s = (w - z) / (n : Rat) := ⟨_, rfl⟩
  have hs2 : s = (w - z) * (n : Rat)⁻¹ := by rw [hs, Rat.div_def]
  have hs0 : 0 < s := by rw [hs2]; exact Rat.mul_pos (by grind) hi
  have hns : (n : Rat) * s = w - z := by rw [hs2]; grind
  have hsw : s ≤ w - z := by
    have := Rat.mul_nonneg (Rat.le_of_lt hs0) (show 0 ≤ (n : Rat) - 1 by grind)
    grind
  -- as long as h0 stays above 0, the square does not fall by more than M s s a step
  have step : ∀ j, j ≤ n → (∀ i, i ≤ j → 0 < h0 (anX z w n i)) → P z * P z - (j : Rat) * (M * (s * s)) ≤ P (anX z w n j) * P (anX z w n j) := by
    intro j
    induction j with
    | zero => intro _ _; rw [anX_0]; show P z * P z - ((0 : Nat) : Rat) * _ ≤ _; rw [show ((0 : Nat) : Rat) = 0 from rfl]; grind
    | succ j ih =>
      intro hj hh
      have a1 := ih (by omega) (fun i hi => hh i (by omega))
      have a2 := anX_in (Rat.le_of_lt hzw) hn (show j ≤ n by omega)
      have a3 := anX_in (Rat.le_of_lt hzw) hn hj
      have a4 := anX_s z w n j
      rw [← hs] at a4
      have a5 := (hD (anX z w n j) (anX z w n (j + 1)) (by grind) (by grind) (by grind)).1
      have a6 : anX z w n (j + 1) - anX z w n j = s := by grind
      rw [a6] at a5
      have a7 := hh j (by omega)
      have a8 := h1p _ a2.1 a2.2
      -- the derivative 2 ρ g g h0 h1
      have a9 : 0 ≤ (P' (anX z w n j) * P (anX z w n j) + P (anX z w n j) * P' (anX z w n j)) * s := by
        rw [e0, e1]
        have b1 := Rat.mul_pos hρ (Rat.mul_pos a7 a8)
        have b2 : 0 ≤ g (anX z w n j) * g (anX z w n j) := by
          rcases (show 0 ≤ g (anX z w n j) ∨ g (anX z w n j) ≤ 0 by grind) with q | q
          · exact Rat.mul_nonneg q q
          · have := Rat.mul_nonneg (show 0 ≤ -g (anX z w n j) by grind) (show 0 ≤ -g (anX z w n j) by grind); grind
        have b3 := Rat.mul_nonneg (Rat.mul_nonneg b2 (Rat.le_of_lt b1)) (Rat.le_of_lt hs0)
        grind
      have a10 : ((j + 1 : Nat) : Rat) = (j : Rat) + 1 := Rat.natCast_add j 1
      rw [a10]
      grind
  -- the first sample at which it is not above 0
  have first : ∃ j, j < n ∧ (∀ i, i ≤ j → 0 < h0 (anX z w n i)) ∧ ¬ 0 < h0 (anX z w n (j + 1)) := by
    refine Classical.byContradiction fun hno => ?_
    have all : ∀ j, j ≤ n → ∀ i, i ≤ j → 0 < h0 (anX z w n i) := by
      intro j
      induction j with
      | zero => intro _ i hi; rw [show i = 0 by omega, anX_0]; exact h0z
      | succ j ih =>
        intro hj i hi
        by_cases e : i = j + 1
        · rw [e]
          exact Classical.byContradiction fun q => hno ⟨j, by omega, ih (by omega), q⟩
        · exact ih (by omega) i (by omega)
    have := all n (Nat.le_refl n) n (Nat.le_refl n)
    rw [anX_n z w hn] at this
    exact hc this
  obtain ⟨j, hj, hj1, hj2⟩ := first
  have a1 := step j (by omega) hj1
  have a2 := anX_in (Rat.le_of_lt hzw) hn (show j ≤ n by omega)
  have a3 := anX_in (Rat.le_of_lt hzw) hn hj
  have a4 := anX_s z w n j
  rw [← hs] at a4
  have a5 := hlb (anX z w n j) (anX z w n (j + 1)) (by grind) (by grind) (by grind)
  have a6 : anX z w n (j + 1) - anX z w n j = s := by grind
  rw [a6] at a5
  have a7 := hj1 j (Nat.le_refl j)
  have a8 : h0 (anX z w n j) ≤ L * s := by grind
  have a9 := hgb (anX z w n j) (by grind) (by grind)
  have a10 := an_mulb a9.1 a9.2 (show -(L * s) ≤ h0 (anX z w n j) by have := Rat.mul_nonneg hL (Rat.le_of_lt hs0); grind) a8
  rw [← e0] at a10
  have a11 := an_mulb a10.1 a10.2 a10.1 a10.2
  have a12 : (j : Rat) ≤ (n : Rat) := Rat.natCast_le_natCast.mpr (by omega)
  have a13 := Rat.mul_nonneg (show 0 ≤ (n : Rat) - (j : Rat) by grind) (Rat.mul_nonneg hM (Rat.mul_nonneg (Rat.le_of_lt hs0) (Rat.le_of_lt hs0)))
  have a14 : (n : Rat) * (M * (s * s)) = M * (w - z) * s := by rw [← hns]; grind
  have a15 : P z * P z ≤ M * (w - z) * s + G * (L * s) * (G * (L * s)) := by grind
  have a16 := Rat.mul_nonneg (Rat.mul_nonneg (Rat.mul_nonneg (Rat.mul_nonneg hG hL) (Rat.mul_nonneg hG hL)) (Rat.le_of_lt hs0)) (show 0 ≤ (w - z) - s by grind)
  have a17 : P z * P z ≤ (M + G * L * (G * L)) * (w - z) * s := by grind
  have a18 : (n : Rat) * (P z * P z) ≤ (n : Rat) * ((M + G * L * (G * L)) * (w - z) * s) := by
    have := Rat.mul_nonneg (Rat.le_of_lt hp) (show 0 ≤ (M + G * L * (G * L)) * (w - z) * s - P z * P z by grind)
    grind
  have a19 : (n : Rat) * ((M + G * L * (G * L)) * (w - z) * s) = C := by rw [hC, ← hns]; grind
  grind
theorem dir_P {g h0 h1 P P' : Rat → Rat} {K ρ : Rat} (hρ : 0 < ρ) (hP : anP P P' K) (hg : ∃ B, 0 ≤ B ∧ anB g K B) (hl : ∃ L, 0 ≤ L ∧ anL h0 K L) (e0 : ∀ x, P x = g x * h0 x) (e1 : ∀ x, P' x = ρ * (g x * h1 x)) (hnz : ∀ x y, x < y → ∃ v, x < v ∧ v < y ∧ P v ≠ 0) {x y : Rat} (hx : -K ≤ x) (hy : y ≤ K) (h1p : ∀ t, x ≤ t → t ≤ y → 0 < h1 t) : dirP h0 x y := by
  intro z w k1 k2 k3 k4
  refine Classical.byContradiction fun hc => ?_
  have A : ∀ u v, z ≤ u → u < v → v ≤ w → 0 < h0 u → P u ≠ 0 → 0 < h0 v := fun u v m1 m2 m3 m4 m5 => dir_A hρ hP hg hl e0 e1 (by grind) m2 (by grind) (fun t t1 t2 => h1p t (by grind) (by grind)) m4 m5
  -- P z = 0
  have hPz : P z = 0 := by
    refine Classical.byContradiction fun q => ?_
    have : h0 z ≠ 0 := fun e => q (by rw [e0, e]; grind)
    exact hc (A z w (by grind) k2 (by grind) (by grind) q)
  obtain ⟨v, v1, v2, v3⟩ := hnz z w k2
  -- between z and w, where P is not 0, h0 is below 0
  have B : ∀ t, z ≤ t → t ≤ v → P t ≠ 0 → h0 t < 0 := fun t t1 t2 t3 => by
    refine Classical.byContradiction fun q => ?_
    have : h0 t ≠ 0 := fun e => t3 (by rw [e0, e]; grind)
    exact hc (A t w t1 (by grind) (by grind) (by grind) t3)
  obtain ⟨_, _, M, _, _, hM, _, _, hD⟩ := anP_mul hP hP
  have hmono := an_mono hM (anD_neg hD) (x := z) (y := v) (by grind) (by grind) (by grind) (fun t t1 t2 => by
    show 0 ≤ -(P' t * P t + P t * P' t)
    by_cases q : P t = 0
    · rw [q]; grind
    · have b1 := B t t1 t2 q
      have b2 := h1p t (by grind) (by grind)
      have b3 := Rat.mul_pos hρ (Rat.mul_pos (show 0 < -h0 t by grind) b2)
      have b4 : 0 ≤ g t * g t := by
        rcases (show 0 ≤ g t ∨ g t ≤ 0 by grind) with q | q
        · exact Rat.mul_nonneg q q
        · have := Rat.mul_nonneg (show 0 ≤ -g t by grind) (show 0 ≤ -g t by grind); grind
      have b5 := Rat.mul_nonneg b4 (Rat.le_of_lt b3)
      rw [e0, e1]
      grind)
  have hmono : -(P z * P z) ≤ -(P v * P v) := hmono
  rw [hPz] at hmono
  have hPP : 0 < P v * P v := by
    rcases (show 0 < P v ∨ P v < 0 by grind) with q | q
    · exact Rat.mul_pos q q
    · have := Rat.mul_pos (show 0 < -P v by grind) (show 0 < -P v by grind); grind
  grind
theorem anP_neg {f f' : Rat → Rat} {K : Rat} (h : anP f f' K) : anP (fun x => -f x) (fun x => -f' x) K := by
  obtain ⟨B, L, M, b1, b2, b3, b4, b5, b6⟩ := h
  refine ⟨B, L, M, b1, b2, b3, fun x h1 h2 => ?_, fun x y h1 h2 h3 => ?_, anD_neg b6⟩
  · have := b4 x h1 h2; constructor <;> grind
  · have := b5 x y h1 h2 h3; constructor <;> grind
theorem dir_C {h : Nat → Rat → Rat} {g P P' : Rat → Rat} {K ρ : Rat} (hρ : 0 < ρ) (hP : anP P P' K) (hg : ∃ B, 0 ≤ B ∧ anB g K B) (hl : ∃ L, 0 ≤ L ∧ anL (h 0) K L) (e0 : ∀ x, P x = g x * h 0 x) (e1 : ∀ x, P' x = ρ * (g x * h 1 x)) (hnz : ∀ x y, x < y → ∃ v, x < v ∧ v < y ∧ P v ≠ 0) : dirC h K := by
  intro x y hx hxy hy
  refine ⟨fun k => dir_P hρ hP hg hl e0 e1 hnz hx hy k, fun k => ?_⟩
  have hl2 : ∃ L, 0 ≤ L ∧ anL (fun x => -h 0 x) K L := by
    obtain ⟨L, l1, l2⟩ := hl
    refine ⟨L, l1, fun x y m1 m2 m3 => ?_⟩
    have := l2 x y m1 m2 m3; constructor <;> grind
  have := dir_P (h0 := fun x => -h 0 x) (h1 := fun x => -h 1 x) hρ (anP_neg hP) hg hl2 (fun x => by show -P x = g x * -h 0 x; rw [e0]; grind) (fun x => by show -P' x = ρ * (g x * -h 1 x); rw [e1]; grind) (fun x y q => by
    obtain ⟨v, v1, v2, v3⟩ := hnz x y q
    exact ⟨v, v1, v2, fun e => v3 (by have e : -P v = 0 := e; grind)⟩) hx hy (fun t t1 t2 => by have := k t t1 t2; show 0 < -h 1 t; grind)
  intro z w m1 m2 m3 m4
  have := this z w m1 m2 m3 (by show 0 ≤ -h 0 z; grind)
  have : 0 < -h 0 w := this
  grind
