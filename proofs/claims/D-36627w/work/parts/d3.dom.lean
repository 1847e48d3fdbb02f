/-! PLAIN LAW 21: two changes on an interval make the first two Taylor coefficients small -/
def rab (x : Rat) : Rat := if 0 ≤ x then x else -x
theorem rab_nn (x : Rat) : 0 ≤ rab x := by unfold rab; split <;> grind
theorem rab_b (x : Rat) : -rab x ≤ x ∧ x ≤ rab x := by unfold rab; split <;> constructor <;> grind
theorem rab_le {x b : Rat} (h1 : -b ≤ x) (h2 : x ≤ b) : rab x ≤ b := by unfold rab; split <;> grind
theorem rab_mul (x y : Rat) : rab (x * y) = rab x * rab y := by
  unfold rab
  by_cases a : 0 ≤ x
  · by_cases b : 0 ≤ y
    · rw [if_pos a, if_pos b, if_pos (Rat.mul_nonneg a b)]
    · rw [if_pos a, if_neg b]
      by_cases c : 0 ≤ x * y
      · rw [if_pos c]; have := Rat.mul_nonneg a (show 0 ≤ -y by grind); grind
      · rw [if_neg c]; grind
  · by_cases b : 0 ≤ y
    · rw [if_neg a, if_pos b]
      by_cases c : 0 ≤ x * y
      · rw [if_pos c]; have := Rat.mul_nonneg (show 0 ≤ -x by grind) b; grind
      · rw [if_neg c]; grind
    · rw [if_neg a, if_neg b]
      have := Rat.mul_nonneg (show 0 ≤ -x by grind) (show 0 ≤ -y by grind)
      rw [if_pos (by grind)]; grind
theorem rab_add (x y : Rat) : rab (x + y) ≤ rab x + rab y := by
  have := rab_b x
  have := rab_b y
  exact rab_le (by grind) (by grind)
def aS (V : Nat → Rat) : Nat → Rat
  | 0 => 0
  | n + 1 => aS V n + rab (V n)
theorem aS_nn (V : Nat → Rat) : ∀ n, 0 ≤ aS V n := by
  intro n
  induction n with
  | zero => exact Rat.le_refl
  | succ n ih => have := rab_nn (V n); show 0 ≤ aS V n + rab (V n); grind
def oneF (W : Nat → Int) (d : Nat) : Prop := ∃ (σ : Int) (m : Nat), pm1 σ ∧ (∀ k, k < m → k ≤ d → σ * W k ≤ 0) ∧ ∀ k, m ≤ k → k ≤ d → 0 ≤ σ * W k
theorem sgn_of {σ x : Int} (hσ : pm1 σ) (h : σ * x ≤ 0) : x.sign = 0 ∨ x.sign = -σ := by
  rcases Int.lt_trichotomy x 0 with c | c | c
  · rcases hσ with rfl | rfl
    · rw [Int.sign_eq_neg_one_of_neg c]; exact Or.inr rfl
    · omega
  · rw [c]; exact Or.inl rfl
  · rcases hσ with rfl | rfl
    · omega
    · rw [Int.sign_eq_one_of_pos c]; exact Or.inr rfl
theorem one_form {W : Nat → Int} {d : Nat} (h : oneF W d) : chC W (d + 1) < 2 := by
  obtain ⟨σ, m, hσ, h1, h2⟩ := h
  have key : ∀ n, n ≤ d + 1 → (n ≤ m → chC W n = 0 ∧ (chL W n = 0 ∨ chL W n = -σ)) ∧ ((chC W n = 0 ∧ (chL W n = 0 ∨ chL W n = σ ∨ chL W n = -σ)) ∨ (chC W n = 1 ∧ chL W n = σ)) := by
    intro n
    induction n with
    | zero => intro _; exact ⟨fun _ => ⟨rfl, Or.inl rfl⟩, Or.inl ⟨rfl, Or.inl rfl⟩⟩
    | succ n ih =>
      intro hn
      obtain ⟨i1, i2⟩ := ih (by omega)
      rw [ch_s, cl_s]
      have hz := hσ.nz
      by_cases c : n < m
      · obtain ⟨j1, j2⟩ := i1 (by omega)
        have s1 := sgn_of hσ (h1 n c (by omega))
        rcases s1 with s1 | s1
        · rw [if_neg (fun w => w.1 s1), if_pos s1]
          refine ⟨fun _ => ⟨j1, j2⟩, Or.inl ⟨j1, ?_⟩⟩
          rcases j2 with w | w
          · exact Or.inl w
          · exact Or.inr (Or.inr w)
        · rw [if_neg (fun w => by rcases j2 with v | v; (· exact w.2.1 v); (· exact w.2.2 (by rw [s1, v]))), if_neg (by rw [s1]; omega)]
          exact ⟨fun _ => ⟨j1, Or.inr s1⟩, Or.inl ⟨j1, Or.inr (Or.inr s1)⟩⟩
      · have s1 : (W n).sign = 0 ∨ (W n).sign = σ := by
          have h3 := h2 n (by omega) (by omega)
          have h4 : -σ * W n ≤ 0 := by rw [Int.neg_mul]; omega
          have := sgn_of (σ := -σ) hσ.neg h4
          rwa [Int.neg_neg] at this
        refine ⟨fun w => absurd w (by omega), ?_⟩
        rcases s1 with s1 | s1
        · rw [if_neg (fun w => w.1 s1), if_pos s1]; exact i2
        · rw [if_neg (show ¬ (W n).sign = 0 by rw [s1]; exact hz)]
          rcases i2 with ⟨a, b⟩ | ⟨a, b⟩
          · by_cases q : (W n).sign ≠ 0 ∧ chL W n ≠ 0 ∧ (W n).sign ≠ chL W n
            · rw [if_pos q, a]; exact Or.inr ⟨rfl, s1⟩
            · rw [if_neg q]; exact Or.inl ⟨a, Or.inr (Or.inl s1)⟩
          · rw [if_neg (fun w => w.2.2 (by rw [s1, b]))]
            exact Or.inr ⟨a, s1⟩
  have := (key (d + 1) (Nat.le_refl _)).2
  omega
theorem oneF.rev {W W' : Nat → Int} {d : Nat} (h : oneF W d) (e : ∀ j, j ≤ d → ∃ γ : Rat, 0 < γ ∧ (W' j : Rat) = γ * (W (d - j) : Rat)) : oneF W' d := by
  obtain ⟨σ, m, hσ, h1, h2⟩ := h
  have tr : ∀ j, j ≤ d → (0 ≤ σ * W (d - j) → 0 ≤ σ * W' j) ∧ (σ * W (d - j) ≤ 0 → σ * W' j ≤ 0) := fun j hj => by
    obtain ⟨γ, g1, g2⟩ := e j hj
    have g3 : ((σ * W' j : Int) : Rat) = γ * ((σ * W (d - j) : Int) : Rat) := by rw [Rat.intCast_mul, Rat.intCast_mul, g2]; grind
    refine ⟨fun w => ?_, fun w => ?_⟩
    · have w2 : (0 : Rat) ≤ ((σ * W (d - j) : Int) : Rat) := Rat.intCast_nonneg.mpr w
      have := Rat.mul_nonneg (Rat.le_of_lt g1) w2
      rw [← g3] at this
      exact Rat.intCast_nonneg.mp this
    · have w2 : (0 : Rat) ≤ ((-(σ * W (d - j)) : Int) : Rat) := Rat.intCast_nonneg.mpr (by omega)
      have w3 := Rat.mul_nonneg (Rat.le_of_lt g1) w2
      have w4 : γ * ((-(σ * W (d - j)) : Int) : Rat) = ((-(σ * W' j) : Int) : Rat) := by rw [Rat.intCast_neg, Rat.intCast_neg, g3]; grind
      rw [w4] at w3
      have := Rat.intCast_nonneg.mp w3
      omega
  refine ⟨-σ, d + 1 - m, hσ.neg, fun k k1 k2 => ?_, fun k k1 k2 => ?_⟩
  · have := (tr k k2).1 (h2 (d - k) (by omega) (by omega))
    rw [Int.neg_mul]; omega
  · have := (tr k k2).2 (h1 (d - k) (by omega) (by omega))
    rw [Int.neg_mul]; omega
/-- binomial coefficients -/
def bn : Nat → Nat → Nat
  | _, 0 => 1
  | 0, _ + 1 => 0
  | n + 1, j + 1 => bn n j + bn n (j + 1)
theorem bn_hi : ∀ n j, n < j → bn n j = 0 := by
  intro n
  induction n with
  | zero => intro j hj; obtain ⟨i, rfl⟩ : ∃ i, j = i + 1 := ⟨j - 1, by omega⟩; rw [bn]
  | succ n ih => intro j hj; obtain ⟨i, rfl⟩ : ∃ i, j = i + 1 := ⟨j - 1, by omega⟩; rw [bn, ih i (by omega), ih (i + 1) (by omega)]
theorem bn_0 (n : Nat) : bn n 0 = 1 := by cases n <;> rw [bn]
theorem bn_mono (n j : Nat) : bn n j ≤ bn (n + 1) j := by
  cases j with
  | zero => rw [bn_0, bn_0]; exact Nat.le_refl _
  | succ j => rw [show bn (n + 1) (j + 1) = bn n j + bn n (j + 1) by rw [bn]]; omega
theorem bn_le (j : Nat) {k : Nat} : ∀ d, k ≤ d → bn k j ≤ bn d j := by
  intro d
  induction d with
  | zero => intro h; rw [show k = 0 by omega]; exact Nat.le_refl _
  | succ d ih =>
    intro h
    by_cases e : k = d + 1
    · rw [e]; exact Nat.le_refl _
    · exact Nat.le_trans (ih (by omega)) (bn_mono d j)
theorem bn_pos : ∀ n j, j ≤ n → 0 < bn n j := by
  intro n
  induction n with
  | zero => intro j hj; rw [show j = 0 by omega, bn_0]; decide
  | succ n ih =>
    intro j hj
    cases j with
    | zero => rw [bn_0]; decide
    | succ j => rw [bn]; have := ih j (by omega); omega
theorem bn_ab : ∀ n j, (n + 1) * bn n j + j * bn (n + 1) j = (n + 1) * bn (n + 1) j := by
  intro n
  induction n with
  | zero =>
    intro j
    cases j with
    | zero => rw [bn_0, bn_0]
    | succ j =>
      cases j with
      | zero => decide
      | succ j => rw [bn_hi 0 (j + 1 + 1) (by omega), bn_hi (0 + 1) (j + 1 + 1) (by omega)]; omega
  | succ n ih =>
    intro j
    cases j with
    | zero => rw [bn_0, bn_0]; omega
    | succ j =>
      have h1 := ih j
      have h2 := ih (j + 1)
      have e1 : bn (n + 1 + 1) (j + 1) = bn (n + 1) j + bn (n + 1) (j + 1) := by rw [bn]
      have e2 : bn (n + 1) (j + 1) = bn n j + bn n (j + 1) := by rw [bn]
      rw [e1]
      grind
theorem bn_pe (y : Rat) : ∀ n N, n + 1 ≤ N → pe (fun j => (bn n j : Rat)) N y = (y + 1) ^ n := by
  intro n N hN
  rw [pe_ext2 (n := n + 1) N hN (fun k k1 _ => by show (bn n k : Rat) = 0; rw [bn_hi n k (by omega)]; rfl)]
  clear hN
  induction n with
  | zero =>
    show 0 + (bn 0 0 : Rat) * y ^ 0 = (y + 1) ^ 0
    rw [bn_0, Rat.pow_zero, Rat.pow_zero]
    show 0 + ((1 : Nat) : Rat) * 1 = 1
    rw [show ((1 : Nat) : Rat) = 1 from rfl]; grind
  | succ n ih =>
    rw [pe_0, bn_0, Rat.pow_succ, ← ih]
    have e1 : pe (fun j => (bn (n + 1) (j + 1) : Rat)) (n + 1) y = pe (fun j => (bn n j : Rat)) (n + 1) y + pe (fun j => (bn n (j + 1) : Rat)) (n + 1) y := by
      rw [← pe_add]
      refine pe_congr (n + 1) (fun k _ => ?_) y
      rw [show bn (n + 1) (k + 1) = bn n k + bn n (k + 1) by rw [bn], Rat.natCast_add]
    have e2 : pe (fun j => (bn n (j + 1) : Rat)) (n + 1) y = pe (fun j => (bn n (j + 1) : Rat)) n y := by
      rw [pe_s, bn_hi n (n + 1) (by omega)]
      rw [show ((0 : Nat) : Rat) = 0 from rfl]; grind
    have e3 := pe_0 (fun j => (bn n j : Rat)) n y
    rw [bn_0] at e3
    rw [e1, e2, e3]
    rw [show ((1 : Nat) : Rat) = 1 from rfl]; grind
/-- coefficients of V (y + 1) -/
def tS (V : Nat → Rat) (j : Nat) : Nat → Rat
  | 0 => 0
  | n + 1 => tS V j n + V n * (bn n j : Rat)
theorem tS_pe (V : Nat → Rat) (y : Rat) (N : Nat) : ∀ n, n ≤ N → pe V n (y + 1) = pe (fun j => tS V j n) N y := by
  intro n
  induction n with
  | zero => intro _; exact (pe_z N (fun k _ => rfl) y).symm
  | succ n ih =>
    intro hn
    rw [pe_s, ih (by omega), ← bn_pe y n N hn, ← pe_mul, ← pe_add]
    rfl
theorem tS_bd (V : Nat → Rat) (j : Nat) {d : Nat} : ∀ n, n ≤ d + 1 → -(aS V n * (bn d j : Rat)) ≤ tS V j n ∧ tS V j n ≤ aS V n * (bn d j : Rat) := by
  intro n
  induction n with
  | zero => intro _; show -(0 * _) ≤ (0 : Rat) ∧ (0 : Rat) ≤ 0 * _; constructor <;> grind
  | succ n ih =>
    intro hn
    obtain ⟨a1, a2⟩ := ih (by omega)
    have h1 : (bn n j : Rat) ≤ (bn d j : Rat) := Rat.natCast_le_natCast.mpr (bn_le j d (by omega))
    have h0 : (0 : Rat) ≤ (bn n j : Rat) := Rat.natCast_nonneg
    show -((aS V n + rab (V n)) * _) ≤ tS V j n + V n * (bn n j : Rat) ∧ tS V j n + V n * (bn n j : Rat) ≤ (aS V n + rab (V n)) * _
    generalize (bn n j : Rat) = s at *
    generalize (bn d j : Rat) = b at *
    have r0 := rab_nn (V n)
    obtain ⟨r1, r2⟩ := rab_b (V n)
    have m1 := Rat.mul_nonneg r0 (show 0 ≤ b - s by grind)
    have m2 := Rat.mul_nonneg (show 0 ≤ rab (V n) - V n by grind) h0
    have m3 := Rat.mul_nonneg (show 0 ≤ rab (V n) + V n by grind) h0
    constructor <;> grind
theorem pe_inj0 {c d : Nat → Rat} {n : Nat} (h : ∀ x, 0 < x → pe c n x = pe d n x) : ∀ k, k < n → c k = d k := by
  intro k hk
  refine Classical.byContradiction fun w => ?_
  obtain ⟨v, v1, _, v3⟩ := pe_nz (c := fun j => c j + (-1) * d j) hk (fun e => w (by have e : c k + (-1) * d k = 0 := e; grind)) (show (0 : Rat) < 1 by decide)
  exact v3 (by rw [pe_add, pe_mul, h v v1]; grind)
/-- what falls all the time changes its sign at most once -/
theorem fall_form (s : Nat → Rat) (d : Nat) (h : ∀ j, j < d → s (j + 1) < s j) : ∃ m, (∀ k, k < m → k ≤ d → 0 ≤ s k) ∧ ∀ k, m ≤ k → k ≤ d → s k ≤ 0 := by
  have key : ∀ n, n ≤ d + 1 → (∀ k, k < n → 0 ≤ s k) ∨ ∃ m, m < n ∧ (∀ k, k < m → 0 ≤ s k) ∧ s m < 0 := by
    intro n
    induction n with
    | zero => intro _; exact Or.inl (fun k hk => absurd hk (Nat.not_lt_zero k))
    | succ n ih =>
      intro hn
      rcases ih (by omega) with w | ⟨m, m1, m2, m3⟩
      · by_cases c : 0 ≤ s n
        · exact Or.inl (fun k hk => by
            by_cases e : k = n
            · rw [e]; exact c
            · exact w k (by omega))
        · exact Or.inr ⟨n, by omega, w, by grind⟩
      · exact Or.inr ⟨m, by omega, m2, m3⟩
  rcases key (d + 1) (Nat.le_refl _) with w | ⟨m, m1, m2, m3⟩
  · exact ⟨d + 1, fun k k1 k2 => w k (by omega), fun k k1 k2 => by omega⟩
  · refine ⟨m, fun k k1 _ => m2 k k1, fun k k1 k2 => ?_⟩
    have : ∀ i, m + i ≤ d → s (m + i) ≤ s m := by
      intro i
      induction i with
      | zero => intro _; exact Rat.le_refl
      | succ i ihi =>
        intro hi
        have h1 := ihi (by omega)
        have h2 := h (m + i) (by omega)
        show s (m + i + 1) ≤ s m
        grind
    have := this (k - m) (by omega)
    rw [show m + (k - m) = k by omega] at this
    grind
theorem sgw_mul {σ : Int} {w : Int} {b s : Rat} (hb : 0 < b) (e : (w : Rat) = b * s) : (0 ≤ s → (σ = 1 → 0 ≤ σ * w) ∧ (σ = -1 → σ * w ≤ 0)) ∧ (s ≤ 0 → (σ = 1 → σ * w ≤ 0) ∧ (σ = -1 → 0 ≤ σ * w)) := by
  have p : 0 ≤ s → 0 ≤ w := fun h => by
    have := Rat.mul_nonneg (Rat.le_of_lt hb) h
    rw [← e] at this
    exact Rat.intCast_nonneg.mp this
  have q : s ≤ 0 → w ≤ 0 := fun h => by
    have h1 := Rat.mul_nonneg (Rat.le_of_lt hb) (show 0 ≤ -s by grind)
    have h2 : b * -s = ((-w : Int) : Rat) := by rw [Rat.intCast_neg, e]; grind
    rw [h2] at h1
    have := Rat.intCast_nonneg.mp h1
    omega
  refine ⟨fun h => ⟨fun h1 => ?_, fun h1 => ?_⟩, fun h => ⟨fun h1 => ?_, fun h1 => ?_⟩⟩
  · have := p h; subst h1; omega
  · have := p h; subst h1; omega
  · have := q h; subst h1; omega
  · have := q h; subst h1; omega
theorem dv_lo {T D b i : Rat} (hi : 0 < i) (hm : b * i = 1) (a : -(D * b) ≤ T) : -D ≤ T * i := by
  have := Rat.mul_nonneg (show 0 ≤ T + D * b by grind) (Rat.le_of_lt hi)
  rw [show (T + D * b) * i = T * i + D * (b * i) by grind, hm] at this
  grind
theorem dv_hi {T D b i : Rat} (hi : 0 < i) (hm : b * i = 1) (a : T ≤ D * b) : T * i ≤ D := by
  have := Rat.mul_nonneg (show 0 ≤ D * b - T by grind) (Rat.le_of_lt hi)
  rw [show (D * b - T) * i = D * (b * i) - T * i by grind, hm] at this
  grind
theorem dv_eq {T b i : Rat} (hm : b * i = 1) : T * i * b = T := by grind
/-- V: coefficients from the top down (V d = b0, V (d-1) = b1) -/
theorem dom {d : Nat} (hd : 1 ≤ d) {W : Nat → Int} {V : Nat → Rat} (hW : ∀ y, 0 < y → pe (ci W) (d + 1) y = pe V (d + 1) (y + 1)) (hv : ¬ oneF W d) : rab (V (d - 1)) ≤ 2 * (d : Rat) * aS V (d - 1) ∧ rab (V d) ≤ rab (V (d - 1)) + aS V (d - 1) := by
  obtain ⟨n, rfl⟩ : ∃ n, d = n + 1 := ⟨d - 1, by omega⟩
  rw [show n + 1 - 1 = n by omega]
  have Wj : ∀ j, j ≤ n + 1 → (W j : Rat) = tS V j (n + 1 + 1) := fun j hj => pe_inj0 (c := ci W) (d := fun j => tS V j (n + 1 + 1)) (n := n + 1 + 1) (fun y hy => by rw [hW y hy]; exact tS_pe V y _ _ (Nat.le_refl _)) j (by omega)
  have D0 := aS_nn V n
  obtain ⟨D, hD⟩ : ∃ D, D = aS V n := ⟨_, rfl⟩
  rw [← hD] at D0 ⊢
  have b0 : ∀ j, j ≤ n + 1 → (0 : Rat) < (bn (n + 1) j : Rat) := fun j hj => Rat.natCast_pos.mpr (bn_pos (n + 1) j hj)
  have ex : ∀ j, j ≤ n + 1 → ∃ e : Rat, -D ≤ e ∧ e ≤ D ∧ (W j : Rat) = e * (bn (n + 1) j : Rat) + V n * (bn n j : Rat) + V (n + 1) * (bn (n + 1) j : Rat) := fun j hj => by
    obtain ⟨a1, a2⟩ := tS_bd V j (d := n + 1) n (by omega)
    have hb := b0 j hj
    have hi := Rat.inv_pos.mpr hb
    have hm : (bn (n + 1) j : Rat) * (bn (n + 1) j : Rat)⁻¹ = 1 := Rat.mul_inv_cancel _ (by grind)
    rw [← hD] at a1 a2
    have hw := Wj j hj
    have hw2 : tS V j (n + 1 + 1) = tS V j n + V n * (bn n j : Rat) + V (n + 1) * (bn (n + 1) j : Rat) := rfl
    rw [hw, hw2]
    refine ⟨tS V j n * (bn (n + 1) j : Rat)⁻¹, dv_lo hi hm a1, dv_hi hi hm a2, ?_⟩
    rw [dv_eq hm]
  clear hW Wj
  have ab : ∀ j, ((n : Rat) + 1) * (bn n j : Rat) + (j : Rat) * (bn (n + 1) j : Rat) = ((n : Rat) + 1) * (bn (n + 1) j : Rat) := fun j => by
    have h1 : (((n + 1) * bn n j + j * bn (n + 1) j : Nat) : Rat) = (((n + 1) * bn (n + 1) j : Nat) : Rat) := by rw [bn_ab]
    rw [Rat.natCast_add, Rat.natCast_mul, Rat.natCast_mul, Rat.natCast_mul, Rat.natCast_add] at h1
    exact h1
  have hn1 : (0 : Rat) < (n : Rat) + 1 := by have : (0 : Rat) ≤ (n : Rat) := Rat.natCast_nonneg; grind
  have cst : ((n + 1 : Nat) : Rat) = (n : Rat) + 1 := by rw [Rat.natCast_add]; rfl
  rw [cst]
  have hvv := hv
  refine ⟨Classical.byContradiction fun hc => hvv ?_, Classical.byContradiction fun hc => hvv ?_⟩
  · -- b1 is large: the quotients fall or rise
    obtain ⟨ε, hε⟩ : ∃ ε : Nat → Rat, ∀ j, j ≤ n + 1 → -D ≤ ε j ∧ ε j ≤ D ∧ (W j : Rat) = ε j * (bn (n + 1) j : Rat) + V n * (bn n j : Rat) + V (n + 1) * (bn (n + 1) j : Rat) := ⟨fun j => if q : j ≤ n + 1 then (ex j q).choose else 0, fun j hj => by
      have := (ex j hj).choose_spec
      simp only [dif_pos hj]; exact this⟩
    obtain ⟨s, hs⟩ : ∃ s : Nat → Rat, s = fun j => ((n : Rat) + 1) * ε j + V n * ((n : Rat) + 1 - (j : Rat)) + ((n : Rat) + 1) * V (n + 1) := ⟨_, rfl⟩
    have hsx : ∀ j, s j = ((n : Rat) + 1) * ε j + V n * ((n : Rat) + 1 - (j : Rat)) + ((n : Rat) + 1) * V (n + 1) := fun j => by rw [hs]
    have Ws : ∀ j, j ≤ n + 1 → ∃ b : Rat, 0 < b ∧ (W j : Rat) = b * s j := fun j hj => by
      obtain ⟨_, _, h3⟩ := hε j hj
      have h4 := ab j
      have hb := b0 j hj
      have hi := Rat.inv_pos.mpr hn1
      have hm : ((n : Rat) + 1) * ((n : Rat) + 1)⁻¹ = 1 := Rat.mul_inv_cancel _ (by grind)
      refine ⟨((n : Rat) + 1)⁻¹ * (bn (n + 1) j : Rat), Rat.mul_pos hi hb, ?_⟩
      rw [hsx, h3]
      generalize (bn (n + 1) j : Rat) = b at *
      generalize (bn n j : Rat) = c at *
      generalize (j : Rat) = J at *
      generalize (n : Rat) + 1 = M at *
      generalize M⁻¹ = i at *
      have h5 : c = i * (M * b - J * b) := by
        have : i * (M * c) = i * (M * b - J * b) := by rw [show M * c = M * b - J * b by grind]
        grind
      rw [h5]; grind
    have diff : ∀ j, j < n + 1 → s j - s (j + 1) = V n + ((n : Rat) + 1) * (ε j - ε (j + 1)) := fun j hj => by
      rw [hsx, hsx, Rat.natCast_add]
      rw [show ((1 : Nat) : Rat) = 1 from rfl]; grind
    have dn : ∀ j, j < n + 1 → -(2 * ((n : Rat) + 1) * D) ≤ ((n : Rat) + 1) * (ε j - ε (j + 1)) ∧ ((n : Rat) + 1) * (ε j - ε (j + 1)) ≤ 2 * ((n : Rat) + 1) * D := fun j hj => by
      obtain ⟨p1, p2, _⟩ := hε j (by omega)
      obtain ⟨q1, q2, _⟩ := hε (j + 1) (by omega)
      have m1 := Rat.mul_nonneg (Rat.le_of_lt hn1) (show 0 ≤ ε j - ε (j + 1) + 2 * D by grind)
      have m2 := Rat.mul_nonneg (Rat.le_of_lt hn1) (show 0 ≤ 2 * D - (ε j - ε (j + 1)) by grind)
      constructor <;> grind
    by_cases c : 0 ≤ V n
    · have hr : rab (V n) = V n := if_pos c
      rw [hr] at hc
      obtain ⟨m, m1, m2⟩ := fall_form s (n + 1) (fun j hj => by
        have := diff j hj
        have := (dn j hj).1
        grind)
      refine ⟨-1, m, Or.inr rfl, fun k k1 k2 => ?_, fun k k1 k2 => ?_⟩
      · obtain ⟨b, hb, e⟩ := Ws k k2
        exact ((sgw_mul hb e).1 (m1 k k1 k2)).2 rfl
      · obtain ⟨b, hb, e⟩ := Ws k k2
        exact ((sgw_mul hb e).2 (m2 k k1 k2)).2 rfl
    · have hr : rab (V n) = -V n := if_neg c
      rw [hr] at hc
      obtain ⟨m, m1, m2⟩ := fall_form (fun j => -s j) (n + 1) (fun j hj => by
        have := diff j hj
        have := (dn j hj).2
        show -s (j + 1) < -s j
        grind)
      refine ⟨1, m, Or.inl rfl, fun k k1 k2 => ?_, fun k k1 k2 => ?_⟩
      · obtain ⟨b, hb, e⟩ := Ws k k2
        have m1' : 0 ≤ -s k := m1 k k1 k2
        exact ((sgw_mul hb e).2 (by grind)).1 rfl
      · obtain ⟨b, hb, e⟩ := Ws k k2
        have m2' : -s k ≤ 0 := m2 k k1 k2
        exact ((sgw_mul hb e).1 (by grind)).1 rfl
  · -- b0 is large: one sign
    have one : ∀ j, j ≤ n + 1 → ∃ e : Rat, -(rab (V n) + D) ≤ e ∧ e ≤ rab (V n) + D ∧ (W j : Rat) = (bn (n + 1) j : Rat) * (e + V (n + 1)) := fun j hj => by
      obtain ⟨e, e1, e2, e3⟩ := ex j hj
      have hb := b0 j hj
      have hi := Rat.inv_pos.mpr hb
      have hm : (bn (n + 1) j : Rat) * (bn (n + 1) j : Rat)⁻¹ = 1 := Rat.mul_inv_cancel _ (by grind)
      have hle : (bn n j : Rat) ≤ (bn (n + 1) j : Rat) := Rat.natCast_le_natCast.mpr (bn_mono n j)
      have h0 : (0 : Rat) ≤ (bn n j : Rat) := Rat.natCast_nonneg
      obtain ⟨r1, r2⟩ := rab_b (V n)
      have r0 := rab_nn (V n)
      rw [e3]
      generalize (bn (n + 1) j : Rat) = b at *
      generalize (bn n j : Rat) = c at *
      generalize b⁻¹ = i at *
      have z0 : 0 ≤ c * i := Rat.mul_nonneg h0 (Rat.le_of_lt hi)
      have z1 : c * i ≤ 1 := by have := Rat.mul_nonneg (show 0 ≤ b - c by grind) (Rat.le_of_lt hi); grind
      refine ⟨e + V n * (c * i), ?_, ?_, by grind⟩
      · have m1 := Rat.mul_nonneg (show 0 ≤ rab (V n) + V n by grind) z0
        have m2 := Rat.mul_nonneg r0 (show 0 ≤ 1 - c * i by grind)
        grind
      · have m1 := Rat.mul_nonneg (show 0 ≤ rab (V n) - V n by grind) z0
        have m2 := Rat.mul_nonneg r0 (show 0 ≤ 1 - c * i by grind)
        grind
    by_cases c : 0 ≤ V (n + 1)
    · have hr : rab (V (n + 1)) = V (n + 1) := if_pos c
      rw [hr] at hc
      refine ⟨1, 0, Or.inl rfl, fun k k1 _ => absurd k1 (Nat.not_lt_zero k), fun k _ k2 => ?_⟩
      obtain ⟨e, e1, e2, e3⟩ := one k k2
      exact ((sgw_mul (b0 k k2) e3).1 (by grind)).1 rfl
    · have hr : rab (V (n + 1)) = -V (n + 1) := if_neg c
      rw [hr] at hc
      refine ⟨-1, 0, Or.inr rfl, fun k k1 _ => absurd k1 (Nat.not_lt_zero k), fun k _ k2 => ?_⟩
      obtain ⟨e, e1, e2, e3⟩ := one k k2
      exact ((sgw_mul (b0 k k2) e3).2 (by grind)).2 rfl
