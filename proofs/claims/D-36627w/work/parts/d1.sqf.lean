/-! PLAIN LAW 19: the square-free part has no square -/
def dP (f f' : Rat → Rat) : Prop := ∀ K : Rat, 0 ≤ K → anP f f' K
theorem dP_ex {f : Rat → Rat} (hf : Pfn f) : ∃ f', Pfn f' ∧ dP f f' := by
  obtain ⟨c, n, e⟩ := hf
  exact ⟨pe (dc c) n, ⟨cutc n (dc c), n, fun x => (pe_cut n (dc c) (Nat.le_succ n) x).symm⟩, fun K hK => anP_congr (fun x => (e x).symm) (fun _ => rfl) (anP_pe c hK n)⟩
theorem dP_le {f g1 g2 : Rat → Rat} (h1 : dP f g1) (h2 : dP f g2) (x : Rat) : ¬ 0 < g1 x - g2 x := fun hu => by
  obtain ⟨K, hK, k1, k2⟩ : ∃ K : Rat, 0 ≤ K ∧ -K ≤ x ∧ x + 1 ≤ K := by
    by_cases c : 0 ≤ x
    · exact ⟨x + 1, by grind, by grind, by grind⟩
    · exact ⟨1 - x, by grind, by grind, by grind⟩
  obtain ⟨_, _, M1, _, _, m1, _, _, D1⟩ := h1 K hK
  obtain ⟨_, _, M2, _, _, m2, _, _, D2⟩ := h2 K hK
  obtain ⟨n, hn, hb⟩ := an_arch (M1 + M2) (g1 x - g2 x) hu
  have hp : (0 : Rat) < (n : Rat) := Rat.natCast_pos.mpr hn
  have hi : (0 : Rat) < (n : Rat)⁻¹ := Rat.inv_pos.mpr hp
  have hm : (n : Rat) * (n : Rat)⁻¹ = 1 := Rat.mul_inv_cancel _ (by grind)
  have hn1 : (1 : Rat) ≤ (n : Rat) := by
    have : ((1 : Nat) : Rat) ≤ (n : Rat) := Rat.natCast_le_natCast.mpr hn
    exact this
  generalize (n : Rat) = N at *
  generalize N⁻¹ = t at *
  have ht1 : t ≤ 1 := by
    have := Rat.mul_nonneg (Rat.le_of_lt hi) (show 0 ≤ N - 1 by grind)
    grind
  have a1 := (D1 x (x + t) k1 (by grind) (by grind)).1
  have a2 := (D2 x (x + t) k1 (by grind) (by grind)).2
  have e : x + t - x = t := by grind
  rw [e] at a1 a2
  have a3 : (g1 x - g2 x) * t ≤ (M1 + M2) * (t * t) := by grind
  have a4 := Rat.mul_nonneg (Rat.le_of_lt (Rat.mul_pos hp hp)) (show 0 ≤ (M1 + M2) * (t * t) - (g1 x - g2 x) * t by grind)
  have a5 : N * N * ((M1 + M2) * (t * t) - (g1 x - g2 x) * t) = (M1 + M2) * ((N * t) * (N * t)) - N * (g1 x - g2 x) * (N * t) := by grind
  rw [a5, hm] at a4
  grind
theorem dP_uniq {f g1 g2 : Rat → Rat} (h1 : dP f g1) (h2 : dP f g2) (x : Rat) : g1 x = g2 x := by
  have := dP_le h1 h2 x
  have := dP_le h2 h1 x
  grind
theorem dP_mul {f f' g g' : Rat → Rat} (hf : dP f f') (hg : dP g g') : dP (fun x => f x * g x) (fun x => f' x * g x + f x * g' x) := fun K hK => anP_mul (hf K hK) (hg K hK)
theorem dP_smul {f f' : Rat → Rat} (c : Rat) (hf : dP f f') : dP (fun x => c * f x) (fun x => c * f' x) := fun K hK => anP_congr (fun _ => rfl) (fun x => by grind) (anP_mul (anP_const c K) (hf K hK))
theorem dP_congr {f g f' g' : Rat → Rat} (h1 : ∀ x, f x = g x) (h2 : ∀ x, f' x = g' x) (h : dP f f') : dP g g' := fun K hK => anP_congr h1 h2 (h K hK)
theorem dP_pow {E E' : Rat → Rat} (hE : dP E E') : ∀ k : Nat, ∃ D, dP (fun x => E x ^ k) D ∧ ∀ x, E x * D x = (k : Rat) * (E x ^ k * E' x) := by
  intro k
  induction k with
  | zero => exact ⟨fun _ => 0, fun K hK => anP_congr (fun x => (Rat.pow_zero (E x)).symm) (fun _ => rfl) (anP_const 1 K), fun x => by rw [show ((0 : Nat) : Rat) = 0 from rfl]; grind⟩
  | succ k ih =>
    obtain ⟨D, h1, h2⟩ := ih
    refine ⟨fun x => D x * E x + E x ^ k * E' x, dP_congr (fun x => by rw [Rat.pow_succ]) (fun _ => rfl) (dP_mul h1 hE), fun x => ?_⟩
    have h3 := h2 x
    have h4 : ((k + 1 : Nat) : Rat) = (k : Rat) + 1 := by rw [Rat.natCast_add]; rfl
    rw [h4, Rat.pow_succ]
    show E x * (D x * E x + E x ^ k * E' x) = _
    have h5 : E x * (D x * E x + E x ^ k * E' x) = (E x * D x) * E x + E x ^ k * E x * E' x := by grind
    rw [h5, h3]
    generalize (k : Rat) = u
    generalize E x ^ k = v
    grind
theorem Pfn.pw {E : Rat → Rat} (hE : Pfn E) : ∀ k : Nat, Pfn (fun x => E x ^ k) := by
  intro k
  induction k with
  | zero => exact (Pfn.const 1).congr (fun x => Rat.pow_zero _)
  | succ k ih => exact (ih.mul hE).congr (fun x => Rat.pow_succ _ _)
def hdeg (f : Rat → Rat) (n : Nat) : Prop := ∃ c : Nat → Rat, c n ≠ 0 ∧ ∀ x, f x = pe c (n + 1) x
theorem hdeg.mul {f g : Rat → Rat} {m n : Nat} (hf : hdeg f m) (hg : hdeg g n) : hdeg (fun x => f x * g x) (m + n) := by
  obtain ⟨c, c1, c2⟩ := hf
  obtain ⟨d, d1, d2⟩ := hg
  obtain ⟨e, e1, e2⟩ := pe_prod d n c m
  refine ⟨e, fun w => ?_, fun x => by show f x * g x = _; rw [c2, d2, e2]⟩
  rw [e1] at w
  rcases Rat.mul_eq_zero.mp w with u | u
  · exact c1 u
  · exact d1 u
theorem hdeg.congr {f g : Rat → Rat} {n : Nat} (h : hdeg f n) (e : ∀ x, g x = f x) : hdeg g n := by
  obtain ⟨c, c1, c2⟩ := h
  exact ⟨c, c1, fun x => (e x).trans (c2 x)⟩
theorem hdeg.uniq {f : Rat → Rat} {m n : Nat} (h1 : hdeg f m) (h2 : hdeg f n) : m = n := by
  obtain ⟨c, c1, c2⟩ := h1
  obtain ⟨d, d1, d2⟩ := h2
  exact pe_degu (fun x => by rw [← c2, ← d2]) c1 d1
theorem hdeg.nz {f : Rat → Rat} {n : Nat} (h : hdeg f n) : ¬ ∀ x, f x = 0 := fun w => by
  obtain ⟨c, c1, c2⟩ := h
  obtain ⟨v, _, _, v3⟩ := pe_nz (c := c) (n := n + 1) (Nat.lt_succ_self n) c1 (show (0 : Rat) < 1 by decide)
  exact v3 (by rw [← c2, w])
theorem Pfn.deg {f : Rat → Rat} (h : Pfn f) : (∀ x, f x = 0) ∨ ∃ n, hdeg f n := by
  obtain ⟨c, n, e⟩ := h
  rcases pe_top c (n + 1) with w | ⟨k, k1, k2, k3⟩
  · exact Or.inl (fun x => by rw [e, w])
  · exact Or.inr ⟨k, c, k2, fun x => by rw [e, k3]⟩
theorem hdeg.pow {E : Rat → Rat} {e : Nat} (hE : hdeg E e) : ∀ k : Nat, hdeg (fun x => E x ^ k) (k * e) := by
  intro k
  induction k with
  | zero =>
    rw [Nat.zero_mul]
    exact ⟨fun _ => 1, by decide, fun x => by show E x ^ 0 = 0 + 1 * x ^ 0; rw [Rat.pow_zero, Rat.pow_zero]; grind⟩
  | succ k ih =>
    rw [Nat.succ_mul]
    exact (ih.mul hE).congr (fun x => Rat.pow_succ _ _)
/-- the chain's first two have no common divisor -/
theorem polC.bez {h : Nat → Rat → Rat} {r : Nat} (H : polC h r) (hr : 1 ≤ r) : ∃ A B, Pfn A ∧ Pfn B ∧ ∀ x, A x * h 0 x + B x * h 1 x = 1 := by
  have key : ∀ i, i + 1 ≤ r → (∃ A B, Pfn A ∧ Pfn B ∧ ∀ x, A x * h 0 x + B x * h 1 x = h i x) ∧ ∃ A B, Pfn A ∧ Pfn B ∧ ∀ x, A x * h 0 x + B x * h 1 x = h (i + 1) x := by
    intro i
    induction i with
    | zero => intro _; exact ⟨⟨fun _ => 1, fun _ => 0, Pfn.const 1, Pfn.const 0, fun x => by grind⟩, ⟨fun _ => 0, fun _ => 1, Pfn.const 0, Pfn.const 1, fun x => by grind⟩⟩
    | succ i ih =>
      intro hi
      obtain ⟨⟨A, B, hA, hB, e⟩, k2⟩ := ih (by omega)
      obtain ⟨A1, B1, hA1, hB1, e1⟩ := k2
      refine ⟨⟨A1, B1, hA1, hB1, e1⟩, ?_⟩
      obtain ⟨q, c, d, hq, hc, hd, hx⟩ := H.2.2 i (by omega)
      have hm : d * d⁻¹ = 1 := Rat.mul_inv_cancel _ (by grind)
      refine ⟨fun x => d⁻¹ * (q x * A1 x + (-c) * A x), fun x => d⁻¹ * (q x * B1 x + (-c) * B x), ((hq.mul hA1).add (hA.smul (-c))).smul d⁻¹, ((hq.mul hB1).add (hB.smul (-c))).smul d⁻¹, fun x => ?_⟩
      have h1 := hx x
      have h2 := e x
      have h3 := e1 x
      show d⁻¹ * (q x * A1 x + (-c) * A x) * h 0 x + d⁻¹ * (q x * B1 x + (-c) * B x) * h 1 x = h (i + 2) x
      have h4 : d⁻¹ * (q x * A1 x + (-c) * A x) * h 0 x + d⁻¹ * (q x * B1 x + (-c) * B x) * h 1 x = d⁻¹ * (q x * (A1 x * h 0 x + B1 x * h 1 x) - c * (A x * h 0 x + B x * h 1 x)) := by grind
      rw [h4, h2, h3]
      have h5 : q x * h (i + 1) x - c * h i x = d * h (i + 2) x := by grind
      rw [h5]; grind
  obtain ⟨_, A, B, hA, hB, e⟩ := key (r - 1) (by omega)
  rw [show r - 1 + 1 = r by omega] at e
  exact ⟨A, B, hA, hB, fun x => by rw [e, H.2.1]⟩
/-- the powers of E divide g -/
theorem sqf_core {g h0 h1 P P' h0' E a b A B : Rat → Rat} {γ0 γ1 : Rat} (hg : Pfn g) (hE : Pfn E) (ha : Pfn a) (hb : Pfn b) (hA : Pfn A) (hB : Pfn B) (hh1 : Pfn h1) (g1 : 0 < γ1) (eP : ∀ x, P x = γ0 * (g x * h0 x)) (eP' : ∀ x, P' x = γ1 * (g x * h1 x)) (dPP : dP P P') (dh : dP h0 h0') (e0 : ∀ x, h0 x = E x * a x) (e0' : ∀ x, h0' x = E x * b x) (bz : ∀ x, A x * h0 x + B x * h1 x = 1) {s e : Nat} (gs : hdeg g s) (Ee : hdeg E e) : e = 0 := by
  obtain ⟨g', hg', dg⟩ := dP_ex hg
  obtain ⟨E', hE', dE⟩ := dP_ex hE
  obtain ⟨a', ha', da⟩ := dP_ex ha
  have f1 : ∀ x, γ1 * (g x * h1 x) = γ0 * (g' x * h0 x + g x * h0' x) := fun x => by
    have := dP_uniq dPP (dP_congr (fun x => (eP x).symm) (fun _ => rfl) (dP_smul γ0 (dP_mul dg dh))) x
    rw [← eP']; exact this
  have f2 : ∀ x, E' x * a x + E x * a' x = E x * b x := fun x => by
    have := dP_uniq dh (dP_congr (fun x => (e0 x).symm) (fun _ => rfl) (dP_mul dE da)) x
    rw [← e0']; exact this.symm
  have hm : γ1 * γ1⁻¹ = 1 := Rat.mul_inv_cancel _ (by grind)
  have key : ∀ k : Nat, ∃ q, Pfn q ∧ ∀ x, g x = E x ^ k * q x := by
    intro k
    induction k with
    | zero => exact ⟨g, hg, fun x => by rw [Rat.pow_zero]; grind⟩
    | succ k ih =>
      obtain ⟨q, hq, eq⟩ := ih
      obtain ⟨q', hq', dq⟩ := dP_ex hq
      obtain ⟨D, dD, eD⟩ := dP_pow dE k
      have f3 : ∀ x, g' x = D x * q x + E x ^ k * q' x := fun x => dP_uniq dg (dP_congr (fun x => (eq x).symm) (fun _ => rfl) (dP_mul dD dq)) x
      obtain ⟨W, hW⟩ : ∃ W : Rat → Rat, W = fun x => γ0 * ((k : Rat) * (q x * (b x + (-1) * a' x)) + (q' x * a x + q x * b x)) := ⟨_, rfl⟩
      have hWP : Pfn W := by
        rw [hW]
        exact (((hq.mul (hb.add (ha'.smul (-1)))).smul (k : Rat)).add ((hq'.mul ha).add (hq.mul hb))).smul γ0
      have hWx : ∀ x, W x = γ0 * ((k : Rat) * (q x * (b x + (-1) * a' x)) + (q' x * a x + q x * b x)) := fun x => by rw [hW]
      have f4 : ∀ x, E x ^ (k + 1) * (γ1 * (q x * h1 x) + (-1) * (E x * W x)) = 0 := fun x => by
        have x1 := f1 x
        have x2 := f2 x
        have x3 := f3 x
        have x4 := eD x
        have x5 := eq x
        have x6 := hWx x
        have x7 := e0 x
        have x8 := e0' x
        rw [Rat.pow_succ]
        rw [x7, x8, x5, x3] at x1
        generalize (k : Rat) = u at *
        generalize E x ^ k = v at *
        rw [x6]
        have y1 : E x * (γ1 * (v * q x * h1 x)) = E x * (γ0 * ((D x * q x + v * q' x) * (E x * a x) + v * q x * (E x * b x))) := by rw [x1]
        have y2 : E x * (γ0 * ((D x * q x + v * q' x) * (E x * a x) + v * q x * (E x * b x))) = γ0 * ((E x * D x) * (q x * (E x * a x)) + E x * (v * q' x * (E x * a x) + v * q x * (E x * b x))) := by grind
        rw [y2, x4] at y1
        have y3 : u * (v * E' x) * (q x * (E x * a x)) = u * v * q x * E x * (E' x * a x) := by grind
        have y4 : E' x * a x = E x * (b x + (-1) * a' x) := by grind
        rw [y3, y4] at y1
        grind
      have f5 : ∀ x, γ1 * (q x * h1 x) + (-1) * (E x * W x) = 0 := by
        rcases Pfn.nzd (hE.pw (k + 1)) (((hq.mul hh1).smul γ1).add ((hE.mul hWP).smul (-1))) f4 with w | w
        · exact absurd w (Ee.pow (k + 1)).nz
        · exact w
      refine ⟨fun x => A x * (a x * q x) + γ1⁻¹ * (B x * W x), (hA.mul (ha.mul hq)).add ((hB.mul hWP).smul γ1⁻¹), fun x => ?_⟩
      have x1 := f5 x
      have x2 := bz x
      have x3 := e0 x
      rw [x3] at x2
      rw [eq, Rat.pow_succ]
      have x4 : q x * h1 x = γ1⁻¹ * (E x * W x) := by
        have : γ1⁻¹ * (γ1 * (q x * h1 x)) = γ1⁻¹ * (E x * W x) := by rw [show γ1 * (q x * h1 x) = E x * W x by grind]
        rw [← this]; grind
      have x5 : q x = q x * (A x * (E x * a x) + B x * h1 x) := by rw [x2]; grind
      have x6 : q x * (A x * (E x * a x) + B x * h1 x) = A x * E x * a x * q x + B x * (q x * h1 x) := by grind
      rw [x6, x4] at x5
      generalize E x ^ k = v at *
      have x7 : v * q x = v * (A x * E x * a x * q x + B x * (γ1⁻¹ * (E x * W x))) := by rw [← x5]
      rw [x7]; grind
  obtain ⟨q, hq, eq⟩ := key (s + 1)
  rcases hq.deg with w | ⟨t, ht⟩
  · exact absurd (fun x => by rw [eq, w]; grind) gs.nz
  · have h1 := gs.uniq (((Ee.pow (s + 1)).mul ht).congr eq)
    refine Classical.byContradiction fun c => ?_
    have h2 : s + 1 ≤ (s + 1) * e := Nat.le_mul_of_pos_right _ (by omega)
    omega
theorem ev_hdeg {p : Nat → Int} {n : Nat} (h : pdeg p = (n : Int)) : hdeg (ev p) n := by
  have h1 := degU_at p 7 n h
  exact ⟨ci p, fun e => h1.1 (Rat.intCast_eq_zero_iff.mp e), fun x => by
    show pe (ci p) 7 x = _
    exact pe_ext2 7 (by omega) (fun k k1 k2 => by show ((p k : Int) : Rat) = 0; rw [degU_hi p 7 k (by show pdeg p < _; omega) k2]; rfl) x⟩
/-- the square-free part's own row ends in a constant -/
theorem sqfree {p : Nat → Int} (h0 : 0 ≤ pdeg p) {M : Nat} (hM : isRow (freeR p) M) : pdeg (rsq (freeR p) (M - 1)) = 0 := by
  obtain ⟨L, hr⟩ := row_ex h0
  obtain ⟨h, hC, hS, _⟩ := row_h hr h0
  obtain ⟨c, d, hc, eF, dF, dS, _, _, _⟩ := free_h hr h0 hC hS
  obtain ⟨H, HC, HS, _⟩ := row_h hM (by omega)
  have hM1 := hM.1
  have hL1 := hr.1
  have d1 : pdeg (rsq (freeR p) 1) = (d : Int) - 1 := by rw [rsq_1, prim_deg]; exact drv_deg dF
  have d0 : pdeg (rsq (freeR p) 0) = (d : Int) := by rw [rsq_0, prim_deg]; exact dF
  have cc : c * c = 1 := by rcases hc with rfl | rfl <;> grind
  by_cases cM : M = 1
  · subst cM
    have := hM.2.2.2
    show pdeg (rsq (freeR p) 0) = 0
    have := hM.2.2.1 0 (by omega)
    omega
  · have hL2 : L ≠ 1 := fun w => by
      subst w
      have e1 : hdeg (ev (freeR p)) 0 := ⟨fun _ => c, fun z => by have z : c = 0 := z; rw [z] at cc; grind, fun x => by
        have k1 : h 0 x = 1 := hC.2.1 x
        rw [eF, k1]
        show c * 1 = 0 + c * x ^ 0
        rw [Rat.pow_zero]; grind⟩
      have := (ev_hdeg dF).uniq e1
      have := hM.2.2.1 1 (by omega)
      omega
    obtain ⟨e, he⟩ := Int.eq_ofNat_of_zero_le (hM.2.2.1 (M - 1) (by omega))
    obtain ⟨s, hs⟩ := Int.eq_ofNat_of_zero_le (hr.2.2.1 (L - 1) (by omega))
    obtain ⟨γ0, g0, p0⟩ := ev_prim p
    obtain ⟨γ1, g1, p1⟩ := ev_prim (drv p)
    obtain ⟨δ0, k0, q0⟩ := ev_prim (freeR p)
    obtain ⟨δ1, k1, q1⟩ := ev_prim (drv (freeR p))
    obtain ⟨A, B, hA, hB, bz⟩ := hC.bez (by omega)
    have hS0 := hS 0 (by omega)
    have hS1 := hS 1 (by omega)
    have HS0 := HS 0 (by omega)
    have HS1 := HS 1 (by omega)
    rw [rsq_0] at hS0 HS0
    rw [rsq_1] at hS1 HS1
    have := sqf_core (g := ev (rsq p (L - 1))) (h0 := h 0) (h1 := h 1) (P := ev p) (P' := ev (drv p)) (h0' := fun x => c * ev (drv (freeR p)) x) (E := ev (rsq (freeR p) (M - 1))) (a := fun x => c * δ0 * H 0 x) (b := fun x => c * δ1 * H 1 x) (A := A) (B := B) (γ0 := γ0) (γ1 := γ1) (ev_Pfn _) (ev_Pfn _) ((HC.1 0 (by omega)).smul _) ((HC.1 1 (by omega)).smul _) hA hB (hC.1 1 (by omega)) g1 (fun x => by rw [p0, hS0]) (fun x => by rw [p1, hS1]) (fun K hK => ev_anP p hK) (dP_congr (fun x => by
      rw [eF]
      show c * (c * h 0 x) = _
      have : c * (c * h 0 x) = c * c * h 0 x := by grind
      rw [this, cc]; grind) (fun _ => rfl) (dP_smul c (fun K hK => ev_anP (freeR p) hK))) (fun x => by
      have z1 := eF x
      rw [q0, HS0] at z1
      have z2 : c * (c * h 0 x) = c * (δ0 * (ev (rsq (freeR p) (M - 1)) x * H 0 x)) := by rw [z1]
      have z3 : c * (c * h 0 x) = c * c * h 0 x := by grind
      rw [z3, cc] at z2
      show h 0 x = ev (rsq (freeR p) (M - 1)) x * (c * δ0 * H 0 x)
      grind) (fun x => by
      show c * ev (drv (freeR p)) x = ev (rsq (freeR p) (M - 1)) x * (c * δ1 * H 1 x)
      rw [q1, HS1]; grind) bz (ev_hdeg hs) (ev_hdeg he)
    omega
