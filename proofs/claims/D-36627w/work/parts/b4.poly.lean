/-! PLAIN LAW 4: polynomials over the rationals as functions -/
def pe (c : Nat → Rat) : Nat → Rat → Rat
  | 0, _ => 0
  | n + 1, x => pe c n x + c n * x ^ n
theorem pe_s (c : Nat → Rat) (n : Nat) (x : Rat) : pe c (n + 1) x = pe c n x + c n * x ^ n := rfl
theorem pe_congr {c d : Nat → Rat} : ∀ n, (∀ k, k < n → c k = d k) → ∀ x, pe c n x = pe d n x := by
  intro n
  induction n with
  | zero => intro _ x; rfl
  | succ n ih => intro h x; rw [pe_s, pe_s, ih (fun k hk => h k (by omega)), h n (by omega)]
theorem pe_z {c : Nat → Rat} : ∀ n, (∀ k, k < n → c k = 0) → ∀ x, pe c n x = 0 := by
  intro n
  induction n with
  | zero => intro _ x; rfl
  | succ n ih => intro h x; rw [pe_s, ih (fun k hk => h k (by omega)), h n (by omega)]; grind
theorem pe_add (c d : Nat → Rat) : ∀ n x, pe (fun k => c k + d k) n x = pe c n x + pe d n x := by
  intro n
  induction n with
  | zero => intro x; show (0 : Rat) = 0 + 0; grind
  | succ n ih => intro x; rw [pe_s, pe_s, pe_s, ih]; grind
theorem pe_mul (a : Rat) (c : Nat → Rat) : ∀ n x, pe (fun k => a * c k) n x = a * pe c n x := by
  intro n
  induction n with
  | zero => intro x; show (0 : Rat) = a * 0; grind
  | succ n ih => intro x; rw [pe_s, pe_s, ih]; grind
theorem pe_ext {c : Nat → Rat} {n : Nat} : ∀ m, n ≤ m → (∀ k, n ≤ k → c k = 0) → ∀ x, pe c m x = pe c n x := by
  intro m
  induction m with
  | zero => intro h _ x; rw [show n = 0 by omega]
  | succ m ih =>
    intro h hz x
    by_cases e : n = m + 1
    · rw [e]
    · rw [pe_s, ih (by omega) hz, hz m (by omega)]; grind
theorem rpow_add (x : Rat) (a : Nat) : ∀ n, x ^ (a + n) = x ^ a * x ^ n := by
  intro n
  induction n with
  | zero => rw [Nat.add_zero, Rat.pow_zero]; grind
  | succ n ih => rw [← Nat.add_assoc, Rat.pow_succ, Rat.pow_succ, ih]; grind
/-- times a power of x -/
def shc (a : Nat) (d : Nat → Rat) : Nat → Rat := fun k => if k < a then 0 else d (k - a)
theorem pe_sh (a : Nat) (d : Nat → Rat) : ∀ n x, pe (shc a d) (a + n) x = x ^ a * pe d n x := by
  intro n
  induction n with
  | zero =>
    intro x
    rw [pe_z (c := shc a d) (a + 0) (fun k hk => if_pos (by omega))]
    show (0 : Rat) = x ^ a * 0
    grind
  | succ n ih =>
    intro x
    show pe (shc a d) (a + n) x + shc a d (a + n) * x ^ (a + n) = x ^ a * (pe d n x + d n * x ^ n)
    rw [ih, show shc a d (a + n) = d n by unfold shc; rw [if_neg (by omega), Nat.add_sub_cancel_left], rpow_add]
    grind
def cutc (n : Nat) (c : Nat → Rat) : Nat → Rat := fun k => if k < n then c k else 0
theorem pe_cut (n : Nat) (c : Nat → Rat) {m : Nat} (h : n ≤ m) (x : Rat) : pe (cutc n c) m x = pe c n x := by
  rw [pe_ext (c := cutc n c) (n := n) m h (fun k hk => if_neg (by omega))]
  exact pe_congr n (fun k hk => if_pos hk) x
/-- products -/
theorem pe_prod (d : Nat → Rat) (b : Nat) (c : Nat → Rat) : ∀ a, ∃ e : Nat → Rat, e (a + b) = c a * d b ∧ ∀ x, pe c (a + 1) x * pe d (b + 1) x = pe e (a + b + 1) x := by
  intro a
  induction a with
  | zero =>
    refine ⟨fun k => c 0 * d k, by rw [Nat.zero_add], fun x => ?_⟩
    rw [pe_mul]
    show (0 + c 0 * x ^ 0) * pe d (b + 1) x = c 0 * pe d (0 + b + 1) x
    rw [Nat.zero_add, Rat.pow_zero]; grind
  | succ a ih =>
    obtain ⟨e, _, h2⟩ := ih
    refine ⟨fun k => cutc (a + b + 1) e k + c (a + 1) * shc (a + 1) d k, ?_, fun x => ?_⟩
    · show cutc (a + b + 1) e (a + 1 + b) + c (a + 1) * shc (a + 1) d (a + 1 + b) = c (a + 1) * d b
      rw [show cutc (a + b + 1) e (a + 1 + b) = 0 from if_neg (by omega), show shc (a + 1) d (a + 1 + b) = d b by unfold shc; rw [if_neg (by omega), Nat.add_sub_cancel_left]]
      grind
    · rw [pe_add, pe_mul, show a + 1 + b + 1 = (a + 1) + (b + 1) by omega, pe_sh, pe_cut _ _ (show a + b + 1 ≤ a + 1 + (b + 1) by omega), ← h2, pe_s c (a + 1)]
      grind
/-- the remainder by x - a -/
theorem pe_div (a : Rat) : ∀ n (c : Nat → Rat), ∃ d : Nat → Rat, (∀ x, pe c (n + 1) x = pe c (n + 1) a + (x - a) * pe d n x) ∧ ((∀ k, k < n → d k = 0) → ∀ k, 1 ≤ k → k ≤ n → c k = 0) := by
  intro n
  induction n with
  | zero =>
    intro c
    refine ⟨fun _ => 0, fun x => ?_, fun _ k h1 h2 => absurd h1 (by omega)⟩
    show 0 + c 0 * x ^ 0 = 0 + c 0 * a ^ 0 + (x - a) * 0
    rw [Rat.pow_zero, Rat.pow_zero]; grind
  | succ n ih =>
    intro c
    obtain ⟨d, h1, h2⟩ := ih c
    -- x^(n+1) - a^(n+1)
    have hpow : ∀ m x, x ^ (m + 1) = a ^ (m + 1) + (x - a) * pe (fun j => a ^ (m - j)) (m + 1) x := by
      intro m
      induction m with
      | zero =>
        intro x
        show x ^ (0 + 1) = a ^ (0 + 1) + (x - a) * (0 + a ^ (0 - 0) * x ^ 0)
        rw [Nat.zero_add, Nat.sub_zero, Rat.pow_zero, Rat.pow_zero, Rat.pow_succ, Rat.pow_succ, Rat.pow_zero, Rat.pow_zero]; grind
      | succ m ihm =>
        intro x
        have e1 := ihm x
        have e2 : pe (fun j => a ^ (m + 1 - j)) (m + 1 + 1) x = a * pe (fun j => a ^ (m - j)) (m + 1) x + x ^ (m + 1) := by
          rw [pe_s, show m + 1 - (m + 1) = 0 by omega, Rat.pow_zero, ← pe_mul, pe_congr (c := fun j => a ^ (m + 1 - j)) (d := fun k => a * a ^ (m - k)) (m + 1) (fun k hk => by
            show a ^ (m + 1 - k) = a * a ^ (m - k)
            rw [show m + 1 - k = m - k + 1 by omega, Rat.pow_succ]; grind)]
          grind
        rw [e2, Rat.pow_succ, Rat.pow_succ a (m + 1), e1]
        grind
    refine ⟨fun k => cutc n d k + c (n + 1) * a ^ (n - k), fun x => ?_, fun hz => ?_⟩
    · rw [pe_s c (n + 1) x, pe_s c (n + 1) a, h1 x, hpow n x, pe_add, pe_mul, pe_cut _ _ (Nat.le_succ n)]
      grind
    · have hn := hz n (Nat.lt_succ_self n)
      have e1 : cutc n d n = 0 := if_neg (Nat.lt_irrefl n)
      have hn : cutc n d n + c (n + 1) * a ^ (n - n) = 0 := hn
      rw [e1, Nat.sub_self, Rat.pow_zero] at hn
      have hc : c (n + 1) = 0 := by grind
      intro k hk1 hk2
      by_cases e : k = n + 1
      · rw [e]; exact hc
      · refine h2 (fun j hj => ?_) k hk1 (by omega)
        have := hz j (by omega)
        have : cutc n d j + c (n + 1) * a ^ (n - j) = 0 := this
        rw [hc, show cutc n d j = d j from if_pos hj] at this
        grind
/-- as many zeros as coefficients -/
theorem pe_roots : ∀ n (c : Nat → Rat) (r : Nat → Rat), (∀ i j, i < n → j < n → i ≠ j → r i ≠ r j) → (∀ i, i < n → pe c n (r i) = 0) → ∀ k, k < n → c k = 0 := by
  intro n
  induction n with
  | zero => intro c r _ _ k hk; omega
  | succ n ih =>
    intro c r hd hz
    obtain ⟨d, h1, h2⟩ := pe_div (r n) n c
    have h3 : ∀ i, i < n → pe d n (r i) = 0 := fun i hi => by
      have e1 := h1 (r i)
      rw [hz i (by omega), hz n (by omega)] at e1
      have e2 := hd i n (by omega) (by omega) (by omega)
      have e3 : r i - r n ≠ 0 := by grind
      have e4 : (r i - r n) * pe d n (r i) = 0 := by grind
      rcases Rat.mul_eq_zero.mp e4 with q | q
      · exact absurd q e3
      · exact q
    have h4 := h2 (ih d r (fun i j hi hj => hd i j (by omega) (by omega)) h3)
    intro k hk
    by_cases e : k = 0
    · subst e
      have e1 := hz 0 (by omega)
      have e2 : pe c (n + 1) (r 0) = c 0 := by
        have : ∀ m x, (∀ k, 1 ≤ k → k < m + 1 → c k = 0) → pe c (m + 1) x = c 0 := by
          intro m
          induction m with
          | zero => intro x _; show 0 + c 0 * x ^ 0 = c 0; rw [Rat.pow_zero]; grind
          | succ m ihm => intro x hm; rw [pe_s, ihm x (fun k a b => hm k a (by omega)), hm (m + 1) (by omega) (by omega)]; grind
        exact this n (r 0) (fun k a b => h4 k a (by omega))
      grind
    · exact h4 k (by omega) (by omega)
/-- not zero somewhere in any interval -/
theorem pe_nz {c : Nat → Rat} {n k : Nat} (hk : k < n) (hc : c k ≠ 0) {x y : Rat} (hxy : x < y) : ∃ v, x < v ∧ v < y ∧ pe c n v ≠ 0 := by
  refine Classical.byContradiction fun h => ?_
  have hz : ∀ v, x < v → v < y → pe c n v = 0 := fun v h1 h2 => Classical.byContradiction fun h3 => h ⟨v, h1, h2, h3⟩
  have hp : (0 : Rat) < ((n + 2 : Nat) : Rat) := Rat.natCast_pos.mpr (by omega)
  have hi : (0 : Rat) < ((n + 2 : Nat) : Rat)⁻¹ := Rat.inv_pos.mpr hp
  have hm : ((n + 2 : Nat) : Rat) * ((n + 2 : Nat) : Rat)⁻¹ = 1 := Rat.mul_inv_cancel _ (by grind)
  have hs := Rat.mul_pos (show 0 < y - x by grind) hi
  have e0 : ∀ i : Nat, anX x y (n + 2) (i + 1) = x + (y - x) * ((n + 2 : Nat) : Rat)⁻¹ * ((i : Rat) + 1) := fun i => by
    unfold anX
    rw [Rat.div_def, Rat.natCast_add]
    show x + (y - x) * ((i : Rat) + 1) * _ = _
    grind
  have hin : ∀ i : Nat, i < n → x < anX x y (n + 2) (i + 1) ∧ anX x y (n + 2) (i + 1) < y := fun i hi2 => by
    have k1 : (0 : Rat) ≤ (i : Rat) := Rat.natCast_nonneg
    have k2 : (i : Rat) + 1 < ((n + 2 : Nat) : Rat) := by
      have : (((i + 1 : Nat)) : Rat) < ((n + 2 : Nat) : Rat) := Rat.natCast_lt_natCast.mpr (by omega)
      rw [Rat.natCast_add] at this
      exact this
    rw [e0]
    have k3 := Rat.mul_pos hs (show 0 < (i : Rat) + 1 by grind)
    have k4 := Rat.mul_pos hs (show 0 < ((n + 2 : Nat) : Rat) - ((i : Rat) + 1) by grind)
    generalize ((n + 2 : Nat) : Rat)⁻¹ = I at k3 k4 hm ⊢
    generalize ((n + 2 : Nat) : Rat) = N at k4 hm
    have k5 : (y - x) * I * (N - ((i : Rat) + 1)) = (y - x) * (N * I) - (y - x) * I * ((i : Rat) + 1) := by grind
    rw [k5, hm] at k4
    constructor <;> grind
  refine hc (pe_roots n c (fun i => anX x y (n + 2) (i + 1)) (fun i j hi1 hj hne => ?_) (fun i hi1 => hz _ (hin i hi1).1 (hin i hi1).2) k hk)
  show anX x y (n + 2) (i + 1) ≠ anX x y (n + 2) (j + 1)
  rw [e0, e0]
  intro e
  have e2 : (y - x) * ((n + 2 : Nat) : Rat)⁻¹ * ((i : Rat) - (j : Rat)) = 0 := by grind
  rcases Rat.mul_eq_zero.mp e2 with q | q
  · grind
  · exact hne (Rat.natCast_inj.mp (by grind))
/-- its derivative -/
def dc (c : Nat → Rat) : Nat → Rat := fun k => ((k : Rat) + 1) * c (k + 1)
theorem anP_congr {f g f' g' : Rat → Rat} {K : Rat} (h1 : ∀ x, f x = g x) (h2 : ∀ x, f' x = g' x) (h : anP f f' K) : anP g g' K := by
  rw [← funext h1, ← funext h2]; exact h
theorem anP_pow {K : Rat} (hK : 0 ≤ K) : ∀ n : Nat, anP (fun x => x ^ n) (fun x => (n : Rat) * x ^ (n - 1)) K := by
  intro n
  induction n with
  | zero => exact anP_congr (fun x => (Rat.pow_zero x).symm) (fun x => by show (0 : Rat) = ((0 : Nat) : Rat) * x ^ (0 - 1); rw [show ((0 : Nat) : Rat) = 0 from rfl]; grind) (anP_const 1 K)
  | succ n ih =>
    refine anP_congr (fun x => (Rat.pow_succ x n).symm) (fun x => ?_) (anP_mul ih (anP_id hK))
    show (n : Rat) * x ^ (n - 1) * x + x ^ n * 1 = ((n + 1 : Nat) : Rat) * x ^ (n + 1 - 1)
    rw [Nat.add_sub_cancel, Rat.natCast_add]
    cases n with
    | zero => rw [show ((0 : Nat) : Rat) = 0 from rfl]; show 0 * x ^ (0 - 1) * x + x ^ 0 * 1 = (0 + ((1 : Nat) : Rat)) * x ^ 0; rw [show ((1 : Nat) : Rat) = 1 from rfl]; grind
    | succ n =>
      rw [Nat.add_sub_cancel, show ((1 : Nat) : Rat) = 1 from rfl, Rat.pow_succ]
      grind
theorem anP_pe (c : Nat → Rat) {K : Rat} (hK : 0 ≤ K) : ∀ n, anP (pe c (n + 1)) (pe (dc c) n) K := by
  intro n
  induction n with
  | zero =>
    refine anP_congr (fun x => ?_) (fun x => rfl) (anP_const (c 0) K)
    show c 0 = 0 + c 0 * x ^ 0
    rw [Rat.pow_zero]; grind
  | succ n ih =>
    refine anP_congr (fun x => ?_) (fun x => ?_) (anP_add ih (anP_mul (anP_const (c (n + 1)) K) (anP_pow hK (n + 1))))
    · exact (pe_s c (n + 1) x).symm
    · show pe (dc c) n x + (0 * x ^ (n + 1) + c (n + 1) * (((n + 1 : Nat) : Rat) * x ^ (n + 1 - 1))) = pe (dc c) (n + 1) x
      rw [pe_s, Nat.add_sub_cancel, Rat.natCast_add]
      show _ = pe (dc c) n x + ((n : Rat) + 1) * c (n + 1) * x ^ n
      rw [show ((1 : Nat) : Rat) = 1 from rfl]
      grind
