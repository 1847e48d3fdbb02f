/-! PLAIN LAW 3: chains of functions over the rationals, and what their changes of signs count -/
def rsg (x : Rat) : Int := if 0 < x then 1 else if x < 0 then -1 else 0
theorem rsg_p {x : Rat} (h : 0 < x) : rsg x = 1 := if_pos h
theorem rsg_n {x : Rat} (h : x < 0) : rsg x = -1 := by unfold rsg; rw [if_neg (by grind), if_pos h]
theorem rsg_0 {x : Rat} (h : x = 0) : rsg x = 0 := by unfold rsg; rw [if_neg (by grind), if_neg (by grind)]
theorem rsg_3 (x : Rat) : (0 < x ∧ rsg x = 1) ∨ (x < 0 ∧ rsg x = -1) ∨ (x = 0 ∧ rsg x = 0) := by
  by_cases h : 0 < x
  · exact Or.inl ⟨h, rsg_p h⟩
  · by_cases g : x < 0
    · exact Or.inr (Or.inl ⟨g, rsg_n g⟩)
    · exact Or.inr (Or.inr ⟨by grind, rsg_0 (by grind)⟩)
theorem rsg_sg (x : Rat) : (rsg x).sign = rsg x := by
  rcases rsg_3 x with ⟨_, h⟩ | ⟨_, h⟩ | ⟨_, h⟩ <;> rw [h] <;> rfl
/-- one sign, not 0, all over [x, y] -/
def hgd (f : Rat → Rat) (x y : Rat) : Prop := (∀ z, x ≤ z → z ≤ y → 0 < f z) ∨ (∀ z, x ≤ z → z ≤ y → f z < 0)
theorem hgd_of {f : Rat → Rat} {x y z0 e : Rat} (hd : ∀ z, x ≤ z → z ≤ y → -e < f z - f z0 ∧ f z - f z0 < e) (h : e ≤ f z0 ∨ f z0 ≤ -e) : hgd f x y := by
  rcases h with h | h
  · exact Or.inl (fun z h1 h2 => by have := hd z h1 h2; grind)
  · exact Or.inr (fun z h1 h2 => by have := hd z h1 h2; grind)
/-- values that lie near one another -/
def near (f : Rat → Rat) (x y e : Rat) : Prop := ∀ z w, x ≤ z → z ≤ y → x ≤ w → w ≤ y → -e < f z - f w ∧ f z - f w < e
theorem near_of {f : Rat → Rat} {K L x y e : Rat} (hL0 : 0 ≤ L) (hL : anL f K L) (hx : -K ≤ x) (hy : y ≤ K) (h : L * (y - x) < e) : near f x y e := by
  intro z w h1 h2 h3 h4
  rcases (show z ≤ w ∨ w ≤ z by grind) with q | q
  · have e1 := hL z w (by grind) q (by grind)
    have e2 := Rat.mul_nonneg hL0 (show 0 ≤ (y - x) - (w - z) by grind)
    constructor <;> grind
  · have e1 := hL w z (by grind) q (by grind)
    have e2 := Rat.mul_nonneg hL0 (show 0 ≤ (y - x) - (z - w) by grind)
    constructor <;> grind
theorem hgd_small {f : Rat → Rat} {x y e : Rat} (hn : near f x y e) (h : ¬ hgd f x y) : ∀ z, x ≤ z → z ≤ y → -e < f z ∧ f z < e := by
  intro z h1 h2
  refine ⟨Classical.byContradiction fun c => h (hgd_of (z0 := z) (e := e) (fun w h3 h4 => hn w z h3 h4 h1 h2) (Or.inr (by grind))), Classical.byContradiction fun c => h (hgd_of (z0 := z) (e := e) (fun w h3 h4 => hn w z h3 h4 h1 h2) (Or.inl (by grind)))⟩
/-- finitely many conditions, each met by all that is small enough -/
theorem fin_min {P : Nat → Rat → Prop} (hm : ∀ i a b, 0 < b → b ≤ a → P i a → P i b) : ∀ n, (∀ i, i < n → ∃ a, 0 < a ∧ P i a) → ∃ a, 0 < a ∧ ∀ i, i < n → P i a := by
  intro n
  induction n with
  | zero => intro _; exact ⟨1, by decide, fun i h => absurd h (Nat.not_lt_zero i)⟩
  | succ n ih =>
    intro h
    obtain ⟨a, ha, h1⟩ := ih (fun i hi => h i (by omega))
    obtain ⟨b, hb, h2⟩ := h n (by omega)
    by_cases q : a ≤ b
    · exact ⟨a, ha, fun i hi => by
        by_cases e : i = n
        · rw [e]; exact hm n b a ha q h2
        · exact h1 i (by omega)⟩
    · exact ⟨b, hb, fun i hi => by
        by_cases e : i = n
        · rw [e]; exact h2
        · exact hm i a b hb (by grind) (h1 i (by omega))⟩
/-- a chain: bounded Lipschitz functions with a recurrence of three terms, the last one a constant that is not 0 -/
def chn (h : Nat → Rat → Rat) (r : Nat) (K : Rat) : Prop :=
  (∀ i, i ≤ r → ∃ L, 0 ≤ L ∧ anL (h i) K L) ∧ (∃ c, c ≠ 0 ∧ ∀ x, h r x = c) ∧
  ∀ i, i + 2 ≤ r → ∃ (q : Rat → Rat) (Q c d : Rat), 0 ≤ Q ∧ anB q K Q ∧ 0 < c ∧ 0 < d ∧ ∀ x, -K ≤ x → x ≤ K → c * h i x = q x * h (i + 1) x - d * h (i + 2) x
def sml (x e : Rat) : Prop := -e < x ∧ x < e
theorem chn_bez {h : Nat → Rat → Rat} {r : Nat} {K : Rat} (H : chn h r K) : ∀ j i, i + 1 + j = r → ∃ e, 0 < e ∧ ∀ x, -K ≤ x → x ≤ K → ¬ (sml (h i x) e ∧ sml (h (i + 1) x) e) := by
  intro j
  induction j with
  | zero =>
    intro i hi
    obtain ⟨c, hc, h2⟩ := H.2.1
    by_cases p : 0 < c
    · refine ⟨c, p, fun x _ _ g => ?_⟩
      have e1 := g.2.2
      rw [show i + 1 = r by omega, h2 x] at e1
      grind
    · refine ⟨-c, by grind, fun x _ _ g => ?_⟩
      have e1 := g.2.1
      rw [show i + 1 = r by omega, h2 x] at e1
      grind
  | succ j ih =>
    intro i hi
    obtain ⟨e, he, h1⟩ := ih (i + 1) (by omega)
    obtain ⟨q, Q, c, d, hQ, hq, hc, hd, hr⟩ := H.2.2 i (by omega)
    have hs : 0 < Q + c + d := by grind
    have hne : Q + c + d ≠ 0 := by grind
    have hi1 : 0 < (Q + c + d)⁻¹ := Rat.inv_pos.mpr hs
    have hm : (Q + c + d) * (Q + c + d)⁻¹ = 1 := Rat.mul_inv_cancel _ hne
    -- f = e d / (Q + c + d)
    obtain ⟨f, hf⟩ : ∃ f, f = e * d * (Q + c + d)⁻¹ := ⟨_, rfl⟩
    have hf0 : 0 < f := by rw [hf]; exact Rat.mul_pos (Rat.mul_pos he hd) hi1
    have hf1 : f * (Q + c + d) = e * d := by rw [hf]; grind
    have hfe : f ≤ e := by
      refine Classical.byContradiction fun g => ?_
      have g : e < f := by grind
      have e1 := Rat.mul_pos (show 0 < f - e by grind) hd
      have e2 := Rat.mul_nonneg (show 0 ≤ f by grind) (show 0 ≤ Q + c by grind)
      grind
    refine ⟨f, hf0, fun x k1 k2 g => h1 x k1 k2 ⟨⟨by have := g.2.1; grind, by have := g.2.2; grind⟩, ?_⟩⟩
    have e1 := hr x k1 k2
    have e2 := an_mulb (hq x k1 k2).1 (hq x k1 k2).2 (Rat.le_of_lt g.2.1) (Rat.le_of_lt g.2.2)
    have e3 := Rat.mul_pos hc (show 0 < f - h i x by have := g.1.2; grind)
    have e4 := Rat.mul_pos hc (show 0 < f + h i x by have := g.1.1; grind)
    have e5 : 0 < f * d := Rat.mul_pos hf0 hd
    -- d |h (i+2)| ≤ Q f + c f < e d
    constructor
    · refine Classical.byContradiction fun w => ?_
      have w : h (i + 2) x ≤ -e := by grind
      have e6 := Rat.mul_nonneg (Rat.le_of_lt hd) (show 0 ≤ -e - h (i + 2) x by grind)
      grind
    · refine Classical.byContradiction fun w => ?_
      have w : e ≤ h (i + 2) x := by grind
      have e6 := Rat.mul_nonneg (Rat.le_of_lt hd) (show 0 ≤ h (i + 2) x - e by grind)
      grind
/-- over short intervals -/
def shrt (h : Nat → Rat → Rat) (r : Nat) (x y : Rat) : Prop := ∀ i, i ≤ r → ¬ hgd (h i) x y → i < r ∧ hgd (h (i + 1)) x y ∧ (0 < i → hgd (h (i - 1)) x y ∧ ∀ z, x ≤ z → z ≤ y → (0 < h (i + 1) z → h (i - 1) z < 0) ∧ (h (i + 1) z < 0 → 0 < h (i - 1) z))
theorem chn_short {h : Nat → Rat → Rat} {r : Nat} {K : Rat} (H : chn h r K) : ∃ δ, 0 < δ ∧ ∀ x y, -K ≤ x → x ≤ y → y ≤ K → y - x < δ → shrt h r x y := by
  -- a bound for neighbours
  obtain ⟨e, he, h1⟩ := fin_min (P := fun i e => ∀ x, -K ≤ x → x ≤ K → ¬ (sml (h i x) e ∧ sml (h (i + 1) x) e)) (fun i a b hb hba g x k1 k2 w => g x k1 k2 ⟨⟨by have := w.1.1; grind, by have := w.1.2; grind⟩, ⟨by have := w.2.1; grind, by have := w.2.2; grind⟩⟩) r (fun i hi => chn_bez H (r - 1 - i) i (by omega))
  -- so small that the neighbours have opposite signs
  obtain ⟨f, hf, h2⟩ := fin_min (P := fun i f => f ≤ e ∧ ∀ x, -K ≤ x → x ≤ K → sml (h (i + 1) x) f → (e ≤ h (i + 2) x → h i x < 0) ∧ (h (i + 2) x ≤ -e → 0 < h i x)) (fun i a b hb hba g => ⟨by have := g.1; grind, fun x k1 k2 w => g.2 x k1 k2 ⟨by have := w.1; grind, by have := w.2; grind⟩⟩) (r - 1) (fun i hi => by
    obtain ⟨q, Q, c, d, hQ, hq, hc, hd, hr⟩ := H.2.2 i (by omega)
    have hs : 0 < Q + d := by grind
    have hi1 : 0 < (Q + d)⁻¹ := Rat.inv_pos.mpr hs
    have hm : (Q + d) * (Q + d)⁻¹ = 1 := Rat.mul_inv_cancel _ (by grind)
    obtain ⟨f, hf⟩ : ∃ f, f = e * d * (Q + d)⁻¹ := ⟨_, rfl⟩
    have hf0 : 0 < f := by rw [hf]; exact Rat.mul_pos (Rat.mul_pos he hd) hi1
    have hf1 : f * (Q + d) = e * d := by rw [hf]; grind
    have hfd := Rat.mul_pos hf0 hd
    refine ⟨f, hf0, ?_, fun x k1 k2 w => ?_⟩
    · refine Classical.byContradiction fun g => ?_
      have e1 := Rat.mul_pos (show 0 < f - e by grind) hd
      have e2 := Rat.mul_nonneg (Rat.le_of_lt hf0) hQ
      grind
    · have e1 := hr x k1 k2
      have e2 := an_mulb (hq x k1 k2).1 (hq x k1 k2).2 (Rat.le_of_lt w.1) (Rat.le_of_lt w.2)
      constructor
      · intro g
        have e3 := Rat.mul_nonneg (Rat.le_of_lt hd) (show 0 ≤ h (i + 2) x - e by grind)
        refine Classical.byContradiction fun u => ?_
        have e4 := Rat.mul_nonneg (Rat.le_of_lt hc) (show 0 ≤ h i x by grind)
        grind
      · intro g
        have e3 := Rat.mul_nonneg (Rat.le_of_lt hd) (show 0 ≤ -e - h (i + 2) x by grind)
        refine Classical.byContradiction fun u => ?_
        have e4 := Rat.mul_nonneg (Rat.le_of_lt hc) (show 0 ≤ -h i x by grind)
        grind)
  -- g is below f and e
  obtain ⟨g, hg, hgf, hge, h2⟩ : ∃ g, 0 < g ∧ g ≤ f ∧ g ≤ e ∧ ∀ i, i < r - 1 → ∀ x, -K ≤ x → x ≤ K → sml (h (i + 1) x) g → (e ≤ h (i + 2) x → h i x < 0) ∧ (h (i + 2) x ≤ -e → 0 < h i x) := by
    by_cases q : f ≤ e
    · exact ⟨f, hf, by grind, q, fun i hi => (h2 i hi).2⟩
    · exact ⟨e, he, by grind, by grind, fun i hi x k1 k2 w => (h2 i hi).2 x k1 k2 ⟨by have := w.1; grind, by have := w.2; grind⟩⟩
  -- so short that nothing moves by g
  obtain ⟨δ, hδ, h3⟩ := fin_min (P := fun i δ => ∀ x y, -K ≤ x → x ≤ y → y ≤ K → y - x < δ → near (h i) x y g) (fun i a b hb hba w x y k1 k2 k3 k4 => w x y k1 k2 k3 (by grind)) (r + 1) (fun i hi => by
    obtain ⟨L, hL, hl⟩ := H.1 i (by omega)
    have hs : 0 < L + 1 := by grind
    have hi1 : 0 < (L + 1)⁻¹ := Rat.inv_pos.mpr hs
    have hm : (L + 1) * (L + 1)⁻¹ = 1 := Rat.mul_inv_cancel _ (by grind)
    refine ⟨g * (L + 1)⁻¹, Rat.mul_pos hg hi1, fun x y k1 k2 k3 k4 => near_of hL hl k1 k3 ?_⟩
    have e1 := Rat.mul_pos hs (show 0 < g * (L + 1)⁻¹ - (y - x) by grind)
    have e2 : (L + 1) * (g * (L + 1)⁻¹ - (y - x)) = g - (L + 1) * (y - x) := by grind
    grind)
  refine ⟨δ, hδ, fun x y k1 k2 k3 k4 i hi hn => ?_⟩
  have hsm := hgd_small (h3 i (by omega) x y k1 k2 k3 k4) hn
  have hir : i < r := by
    refine Classical.byContradiction fun w => ?_
    obtain ⟨c, hc, hcc⟩ := H.2.1
    have : i = r := by omega
    subst this
    refine hn ?_
    by_cases p : 0 < c
    · exact Or.inl (fun z _ _ => by rw [hcc]; exact p)
    · exact Or.inr (fun z _ _ => by rw [hcc]; grind)
  -- a neighbour of i is great
  have great : ∀ j, j ≤ r → (∀ z, x ≤ z → z ≤ y → ¬ sml (h j z) e) → hgd (h j) x y := fun j hj hz => by
    have hb := hz x (by grind) k2
    refine hgd_of (z0 := x) (e := e) (fun z w1 w2 => ?_) ?_
    · have := h3 j (by omega) x y k1 k2 k3 k4 z x w1 w2 (by grind) k2
      grind
    · by_cases p : e ≤ h j x
      · exact Or.inl p
      · exact Or.inr (by unfold sml at hb; grind)
  have up : ∀ z, x ≤ z → z ≤ y → ¬ sml (h (i + 1) z) e := fun z w1 w2 w => h1 i hir z (by grind) (by grind) ⟨⟨by have := hsm z w1 w2; grind, by have := hsm z w1 w2; grind⟩, w⟩
  refine ⟨hir, great (i + 1) (by omega) up, fun h0 => ?_⟩
  obtain ⟨m, hm⟩ : ∃ m, i = m + 1 := ⟨i - 1, by omega⟩
  subst hm
  have dn : ∀ z, x ≤ z → z ≤ y → ¬ sml (h m z) e := fun z w1 w2 w => h1 m (by omega) z (by grind) (by grind) ⟨w, ⟨by have := hsm z w1 w2; grind, by have := hsm z w1 w2; grind⟩⟩
  refine ⟨great m (by omega) dn, fun z w1 w2 => ?_⟩
  have e1 := h2 m (by omega) z (by grind) (by grind) (hsm z w1 w2)
  have e2 := up z w1 w2
  unfold sml at e2
  show (0 < h (m + 1 + 1) z → h m z < 0) ∧ (h (m + 1 + 1) z < 0 → 0 < h m z)
  constructor
  · intro p; exact e1.1 (by grind)
  · intro p; exact e1.2 (by grind)
/-- changes of signs of a chain at a point -/
def Vch (h : Nat → Rat → Rat) (r : Nat) (x : Rat) : Nat := chC (fun i => rsg (h i x)) (r + 1)
theorem hgd_sgd {h : Nat → Rat → Rat} {i : Nat} {x y : Rat} (hxy : x ≤ y) (g : hgd (h i) x y) : sgd (fun i => rsg (h i x)) (fun i => rsg (h i y)) i := by
  rcases g with g | g
  · show (rsg (h i x)).sign = (rsg (h i y)).sign ∧ (rsg (h i x)).sign ≠ 0
    rw [rsg_p (g x (by grind) hxy), rsg_p (g y hxy (by grind))]
    decide
  · show (rsg (h i x)).sign = (rsg (h i y)).sign ∧ (rsg (h i x)).sign ≠ 0
    rw [rsg_n (g x (by grind) hxy), rsg_n (g y hxy (by grind))]
    decide
/-- the count over a short interval -/
theorem V_short {h : Nat → Rat → Rat} {r : Nat} {x y : Rat} (hxy : x ≤ y) (H : shrt h r x y) :
    (hgd (h 0) x y → Vch h r x = Vch h r y) ∧
    (¬ hgd (h 0) x y → (∀ z, x ≤ z → z ≤ y → 0 < h 1 z) → (Vch h r x : Int) - (Vch h r y : Int) = (if h 0 x < 0 then 1 else 0) - (if h 0 y < 0 then 1 else 0)) ∧
    (¬ hgd (h 0) x y → (∀ z, x ≤ z → z ≤ y → h 1 z < 0) → (Vch h r x : Int) - (Vch h r y : Int) = (if 0 < h 0 x then 1 else 0) - (if 0 < h 0 y then 1 else 0)) := by
  have hrg : hgd (h r) x y := Classical.byContradiction fun w => absurd (H r (Nat.le_refl r) w).1 (Nat.lt_irrefl r)
  have hb : ∀ i, 0 < i → i < r → ¬ sgd (fun i => rsg (h i x)) (fun i => rsg (h i y)) i → sgd (fun i => rsg (h i x)) (fun i => rsg (h i y)) (i - 1) ∧ sgd (fun i => rsg (h i x)) (fun i => rsg (h i y)) (i + 1) ∧ (rsg (h (i + 1) x)).sign = -(rsg (h (i - 1) x)).sign := by
    intro i h0 hi hn
    obtain ⟨_, g1, g2⟩ := H i (by omega) (fun g => hn (hgd_sgd hxy g))
    obtain ⟨g3, g4⟩ := g2 h0
    refine ⟨hgd_sgd hxy g3, hgd_sgd hxy g1, ?_⟩
    have g5 := g4 x (by grind) hxy
    rcases g1 with g1 | g1
    · rw [rsg_p (g1 x (by grind) hxy), rsg_n (g5.1 (g1 x (by grind) hxy))]; rfl
    · rw [rsg_n (g1 x (by grind) hxy), rsg_p (g5.2 (g1 x (by grind) hxy))]; rfl
  refine ⟨fun g0 => ?_, fun g0 g1 => ?_, fun g0 g1 => ?_⟩
  · have := (st_seq (Δ := 0) hb (fun _ => rfl) (fun w => absurd (hgd_sgd hxy g0) w) r (Nat.le_refl r) (hgd_sgd hxy hrg)).2.2
    unfold Vch
    omega
  · have p1 := g1 x (by grind) hxy
    have p2 := g1 y hxy (by grind)
    have key : ∀ v w : Rat, 0 < w → (if (rsg v).sign * (rsg w).sign = -1 then (1 : Int) else 0) = (if v < 0 then 1 else 0) := fun v w hw => by
      rw [rsg_p hw]
      rcases rsg_3 v with ⟨q, e⟩ | ⟨q, e⟩ | ⟨q, e⟩
      · rw [e, if_neg (show ¬ v < 0 by grind)]; rfl
      · rw [e, if_pos q]; rfl
      · rw [e, if_neg (show ¬ v < 0 by grind)]; rfl
    refine (st_seq (Δ := (if h 0 x < 0 then 1 else 0) - (if h 0 y < 0 then 1 else 0)) hb (fun w => ?_) (fun _ => ?_) r (Nat.le_refl r) (hgd_sgd hxy hrg)).2.2
    · have w1 : rsg (h 0 x) = rsg (h 0 y) := by have := w.1; rw [rsg_sg, rsg_sg] at this; exact this
      rcases rsg_3 (h 0 x) with ⟨q, e⟩ | ⟨q, e⟩ | ⟨q, e⟩ <;> rcases rsg_3 (h 0 y) with ⟨q', e'⟩ | ⟨q', e'⟩ | ⟨q', e'⟩
      · rw [if_neg (by grind), if_neg (by grind)]; rfl
      · rw [e, e'] at w1; exact absurd w1 (by decide)
      · rw [e, e'] at w1; exact absurd w1 (by decide)
      · rw [e, e'] at w1; exact absurd w1 (by decide)
      · rw [if_pos q, if_pos q']; rfl
      · rw [e, e'] at w1; exact absurd w1 (by decide)
      · rw [e, e'] at w1; exact absurd w1 (by decide)
      · rw [e, e'] at w1; exact absurd w1 (by decide)
      · rw [if_neg (by grind), if_neg (by grind)]; rfl
    · rw [key _ _ p1, key _ _ p2]
  · have p1 := g1 x (by grind) hxy
    have p2 := g1 y hxy (by grind)
    have key : ∀ v w : Rat, w < 0 → (if (rsg v).sign * (rsg w).sign = -1 then (1 : Int) else 0) = (if 0 < v then 1 else 0) := fun v w hw => by
      rw [rsg_n hw]
      rcases rsg_3 v with ⟨q, e⟩ | ⟨q, e⟩ | ⟨q, e⟩
      · rw [e, if_pos q]; rfl
      · rw [e, if_neg (show ¬ 0 < v by grind)]; rfl
      · rw [e, if_neg (show ¬ 0 < v by grind)]; rfl
    refine (st_seq (Δ := (if 0 < h 0 x then 1 else 0) - (if 0 < h 0 y then 1 else 0)) hb (fun w => ?_) (fun _ => ?_) r (Nat.le_refl r) (hgd_sgd hxy hrg)).2.2
    · have w1 : rsg (h 0 x) = rsg (h 0 y) := by have := w.1; rw [rsg_sg, rsg_sg] at this; exact this
      rcases rsg_3 (h 0 x) with ⟨q, e⟩ | ⟨q, e⟩ | ⟨q, e⟩ <;> rcases rsg_3 (h 0 y) with ⟨q', e'⟩ | ⟨q', e'⟩ | ⟨q', e'⟩
      · rw [if_pos q, if_pos q']; rfl
      · rw [e, e'] at w1; exact absurd w1 (by decide)
      · rw [e, e'] at w1; exact absurd w1 (by decide)
      · rw [e, e'] at w1; exact absurd w1 (by decide)
      · rw [if_neg (by grind), if_neg (by grind)]; rfl
      · rw [e, e'] at w1; exact absurd w1 (by decide)
      · rw [e, e'] at w1; exact absurd w1 (by decide)
      · rw [e, e'] at w1; exact absurd w1 (by decide)
      · rw [if_neg (by grind), if_neg (by grind)]; rfl
    · rw [key _ _ p1, key _ _ p2]
/-- what is constant over short intervals is constant -/
theorem an_const {W : Rat → Int} {a b : Rat} (hab : a ≤ b) (h : ∃ δ, 0 < δ ∧ ∀ x y, a ≤ x → x < y → y ≤ b → y - x < δ → W x = W y) : W a = W b := by
  obtain ⟨δ, hδ, h⟩ := h
  obtain ⟨n, hn, hb⟩ := an_arch (b - a) δ hδ
  have hp : (0 : Rat) < (n : Rat) := Rat.natCast_pos.mpr hn
  have hm : (n : Rat) * (n : Rat)⁻¹ = 1 := Rat.mul_inv_cancel _ (by grind)
  have hi : (0 : Rat) < (n : Rat)⁻¹ := Rat.inv_pos.mpr hp
  have key : ∀ j, j ≤ n → W a = W (anX a b n j) := by
    intro j
    induction j with
    | zero => intro _; rw [anX_0]
    | succ j ih =>
      intro hj
      rw [ih (by omega)]
      have e1 := anX_in hab hn (show j ≤ n by omega)
      have e2 := anX_in hab hn hj
      have e3 := anX_s a b n j
      rw [Rat.div_def] at e3
      rcases (show a < b ∨ a = b by grind) with q | q
      · have e4 : (b - a) * (n : Rat)⁻¹ < δ := by
          have := Rat.mul_lt_mul_of_pos_right hb hi
          have e5 : (n : Rat) * δ * (n : Rat)⁻¹ = δ := by grind
          grind
        have e5 := Rat.mul_pos (show 0 < b - a by grind) hi
        exact h _ _ e1.1 (by grind) e2.2 (by grind)
      · have e4 : anX a b n (j + 1) = anX a b n j := by rw [e3, ← q]; grind
        rw [e4]
  have := key n (Nat.le_refl n)
  rw [anX_n a b hn] at this
  exact this
