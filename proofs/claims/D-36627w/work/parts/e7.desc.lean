/-! PLAIN LAW 34: small combinations of two polynomials are multiples of an element of Euclid's chain -/
def dl (f : Rat → Rat) (n : Nat) : Prop := ∃ c : Nat → Rat, ∀ x, f x = pe c n x
theorem dl.mono {f : Rat → Rat} {n m : Nat} (h : dl f n) (hm : n ≤ m) : dl f m := by
  obtain ⟨c, hc⟩ := h
  exact ⟨cutc n c, fun x => by rw [hc, pe_cut n c hm]⟩
theorem dl.add {f g : Rat → Rat} {n : Nat} (hf : dl f n) (hg : dl g n) : dl (fun x => f x + g x) n := by
  obtain ⟨c, hc⟩ := hf
  obtain ⟨d, hd⟩ := hg
  exact ⟨fun k => c k + d k, fun x => by show f x + g x = _; rw [pe_add, hc, hd]⟩
theorem dl.smul {f : Rat → Rat} {n : Nat} (a : Rat) (hf : dl f n) : dl (fun x => a * f x) n := by
  obtain ⟨c, hc⟩ := hf
  exact ⟨fun k => a * c k, fun x => by show a * f x = _; rw [pe_mul, hc]⟩
theorem dl.congr {f g : Rat → Rat} {n : Nat} (h : dl f n) (e : ∀ x, g x = f x) : dl g n := by
  obtain ⟨c, hc⟩ := h
  exact ⟨c, fun x => by rw [e, hc]⟩
theorem dl.mul {f g : Rat → Rat} {a b : Nat} (hf : dl f (a + 1)) (hg : dl g (b + 1)) : dl (fun x => f x * g x) (a + b + 1) := by
  obtain ⟨c, hc⟩ := hf
  obtain ⟨d, hd⟩ := hg
  obtain ⟨e, _, he⟩ := pe_prod d b c a
  exact ⟨e, fun x => by show f x * g x = _; rw [hc, hd, he]⟩
theorem dl.pfn {f : Rat → Rat} {n : Nat} (h : dl f n) : Pfn f := by
  obtain ⟨c, hc⟩ := h.mono (Nat.le_succ n)
  exact ⟨c, n, hc⟩
theorem hdeg.dl {f : Rat → Rat} {n : Nat} (h : hdeg f n) : dl f (n + 1) := by
  obtain ⟨c, _, hc⟩ := h
  exact ⟨c, hc⟩
theorem dl_hd {f : Rat → Rat} {m n : Nat} (h : hdeg f m) (hd : dl f n) : m < n := by
  obtain ⟨c, hc⟩ := hd
  rcases pe_top c n with w | ⟨k, k1, k2, k3⟩
  · exact absurd (fun x => by rw [hc, w]) h.nz
  · rw [h.uniq (⟨c, k2, fun x => by rw [hc, k3]⟩ : hdeg f k)]; exact k1
theorem dl_quo {U r : Rat → Rat} {d k : Nat} (hU : Pfn U) (hr : hdeg r d) (h : dl (fun x => U x * r x) (d + k)) : dl U k := by
  rcases hU.deg with z | ⟨e, he⟩
  · exact ⟨fun _ => 0, fun x => by rw [z, pe_z k (fun _ _ => rfl)]⟩
  · have := dl_hd (he.mul hr) h
    exact he.dl.mono (by omega)
theorem dl_0 {f : Rat → Rat} (h : dl f 0) (x : Rat) : f x = 0 := by
  obtain ⟨c, hc⟩ := h
  rw [hc]; rfl
theorem dl_1 {f : Rat → Rat} (h : dl f 1) : ∃ v, ∀ x, f x = v := by
  obtain ⟨c, hc⟩ := h
  exact ⟨c 0, fun x => by rw [hc]; show 0 + c 0 * x ^ 0 = c 0; rw [Rat.pow_zero]; grind⟩
theorem desc : ∀ (i : Nat) (r : Nat → Rat → Rat) (D : Nat → Nat), (∀ k, k ≤ i → hdeg (r k) (D k)) → (∀ k, k ≤ i → D i ≤ D k) → dl (r (i + 1)) (D i) → (∀ k, k < i → ∃ (Q : Rat → Rat) (c s : Rat), Pfn Q ∧ c ≠ 0 ∧ s ≠ 0 ∧ ∀ x, c * r k x = Q x * r (k + 1) x + s * r (k + 2) x) → ∀ U V T : Rat → Rat, Pfn U → Pfn V → (∀ x, T x = U x * r 0 x + V x * r 1 x) → dl T (D i) → dl V (D 0 - D i + 1) → (∃ κ : Rat, ∀ x, T x = κ * r (i + 1) x) ∧ ((∀ x, T x = 0) → (¬ ∀ x, r (i + 1) x = 0) → (∀ x, U x = 0) ∧ ∀ x, V x = 0) := by
  intro i
  induction i with
  | zero =>
    intro r D hr _ h1 _ U V T hU hV hT dT dV
    rw [show D 0 - D 0 + 1 = 1 by omega] at dV
    obtain ⟨v, hv⟩ := dl_1 dV
    have U0 : ∀ x, U x = 0 := dl_0 (dl_quo (k := 0) hU (hr 0 (Nat.le_refl 0)) ((dT.add (h1.smul (-v))).congr (fun x => by rw [hT, hv]; grind)))
    have Tv : ∀ x, T x = v * r (0 + 1) x := fun x => by rw [hT, U0, hv]; grind
    refine ⟨⟨v, Tv⟩, fun z w => ⟨U0, ?_⟩⟩
    by_cases c : v = 0
    · intro x; rw [hv, c]
    · exfalso
      refine w (fun x => ?_)
      have := Tv x
      rw [z] at this
      grind
  | succ i ih =>
    intro r D hr hD h1 hq U V T hU hV hT dT dV
    obtain ⟨Q, c, s, hQ, hc, hs, e⟩ := hq 0 (by omega)
    have e0 : ∀ x, c * r 0 x = Q x * r 1 x + s * r 2 x := e
    have d0 := hD 0 (by omega)
    have d1 := hD 1 (by omega)
    have dU : dl U (D 1 - D (i + 1) + 1) := dl_quo hU (hr 0 (by omega)) (((dT.mono (show D (i + 1) ≤ D 0 + (D 1 - D (i + 1) + 1) by omega)).add (((dV.mul (hr 1 (by omega)).dl).mono (show D 0 - D (i + 1) + D 1 + 1 ≤ D 0 + (D 1 - D (i + 1) + 1) by omega)).smul (-1))).congr (fun x => by rw [hT]; grind))
    obtain ⟨⟨κ, hκ⟩, h2⟩ := ih (fun k => r (k + 1)) (fun k => D (k + 1)) (fun k hk => hr (k + 1) (by omega)) (fun k hk => hD (k + 1) (by omega)) h1 (fun k hk => hq (k + 1) (by omega)) (fun x => U x * Q x + c * V x) (fun x => s * U x) (fun x => c * T x) ((hU.mul hQ).add (hV.smul c)) (hU.smul s) (fun x => by
      show c * T x = (U x * Q x + c * V x) * r 1 x + s * U x * r 2 x
      rw [hT]
      have := e0 x
      have e3 : c * (U x * r 0 x + V x * r 1 x) = U x * (c * r 0 x) + c * V x * r 1 x := by grind
      rw [e3, this]; grind) (dT.smul c) (dU.smul s)
    refine ⟨⟨c⁻¹ * κ, fun x => ?_⟩, fun z w => ?_⟩
    · have h3 : c * T x = κ * r (i + 1 + 1) x := hκ x
      have h4 : c⁻¹ * c = 1 := Rat.inv_mul_cancel c hc
      have h5 : T x = c⁻¹ * c * T x := by rw [h4]; grind
      rw [h5]
      have h6 : c⁻¹ * c * T x = c⁻¹ * (c * T x) := by grind
      rw [h6, h3]; grind
    · obtain ⟨z1, z2⟩ := h2 (fun x => by show c * T x = 0; rw [z]; grind) w
      have U0 : ∀ x, U x = 0 := fun x => by
        have : s * U x = 0 := z2 x
        rcases Rat.mul_eq_zero.mp this with q | q
        · exact absurd q hs
        · exact q
      refine ⟨U0, fun x => ?_⟩
      have h3 : U x * Q x + c * V x = 0 := z1 x
      rw [U0] at h3
      have h4 : c * V x = 0 := by rw [← h3]; grind
      rcases Rat.mul_eq_zero.mp h4 with q | q
      · exact absurd q hc
      · exact q
