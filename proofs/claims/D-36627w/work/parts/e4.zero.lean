/-! PLAIN LAW 31: where the polynomial is 0, its square-free part is 0 -/
theorem Pfn.div {f : Rat → Rat} (h : Pfn f) {x0 : Rat} (hz : f x0 = 0) : ∃ q, Pfn q ∧ ∀ x, f x = (x + (-x0)) * q x := by
  obtain ⟨c, n, e⟩ := h
  obtain ⟨d, d1, _⟩ := pe_div x0 n c
  refine ⟨pe d n, ⟨cutc n d, n, fun x => (pe_cut n d (Nat.le_succ n) x).symm⟩, fun x => ?_⟩
  rw [e, d1 x, ← e, hz]; grind
theorem zero_G {g h0 h1 P P' : Rat → Rat} {γ0 γ1 x0 : Rat} (hg : Pfn g) (hh0 : Pfn h0) (hh1 : Pfn h1) (g0 : 0 < γ0) (eP : ∀ x, P x = γ0 * (g x * h0 x)) (eP' : ∀ x, P' x = γ1 * (g x * h1 x)) (dPP : dP P P') {s : Nat} (gs : hdeg g s) (hz : h0 x0 ≠ 0) : g x0 ≠ 0 := fun hgz => by
  obtain ⟨E, hE⟩ : ∃ E : Rat → Rat, E = fun x => x + (-x0) := ⟨_, rfl⟩
  have Ex : ∀ x, E x = x + (-x0) := fun x => by rw [hE]
  have E1 : hdeg E 1 := ⟨fun k => if k = 0 then -x0 else 1, by show (if 1 = 0 then -x0 else (1 : Rat)) ≠ 0; rw [if_neg (by decide)]; grind, fun x => by
    rw [Ex]
    show _ = 0 + (if 0 = 0 then -x0 else 1) * x ^ 0 + (if 1 = 0 then -x0 else 1) * x ^ 1
    rw [if_pos rfl, if_neg (by decide), Rat.pow_succ, Rat.pow_zero]; grind⟩
  have PE : Pfn E := ⟨E1.choose, 1, E1.choose_spec.2⟩
  have dE : dP E (fun _ => 1) := dP_congr (fun x => (Ex x).symm) (fun x => by grind) (fun K hK => anP_add (anP_id hK) (anP_const (-x0) K))
  obtain ⟨g', hg', dg⟩ := dP_ex hg
  obtain ⟨h0', hh0', dh⟩ := dP_ex hh0
  have f1 : ∀ x, γ1 * (g x * h1 x) = γ0 * (g' x * h0 x + g x * h0' x) := fun x => by
    have := dP_uniq dPP (dP_congr (fun x => (eP x).symm) (fun _ => rfl) (dP_smul γ0 (dP_mul dg dh))) x
    rw [← eP']; exact this
  have key : ∀ k : Nat, ∃ q, Pfn q ∧ ∀ x, g x = E x ^ k * q x := by
    intro k
    induction k with
    | zero => exact ⟨g, hg, fun x => by rw [Rat.pow_zero]; grind⟩
    | succ k ih =>
      obtain ⟨q, hq, eq⟩ := ih
      have qz : q x0 = 0 := by
        by_cases k0 : k = 0
        · have := eq x0
          rw [k0, Rat.pow_zero, hgz] at this
          grind
        · obtain ⟨q', hq', dq⟩ := dP_ex hq
          obtain ⟨D, dD, eD⟩ := dP_pow dE k
          have f3 : ∀ x, g' x = D x * q x + E x ^ k * q' x := fun x => dP_uniq dg (dP_congr (fun x => (eq x).symm) (fun _ => rfl) (dP_mul dD dq)) x
          have f4 : ∀ x, E x ^ k * (γ0 * ((k : Rat) * (q x * h0 x)) + (-1) * (E x * (γ1 * (q x * h1 x) + (-γ0) * (q' x * h0 x + q x * h0' x)))) = 0 := fun x => by
            have x1 := f1 x
            have x3 := f3 x
            have x4 := eD x
            have x5 := eq x
            rw [x3, x5] at x1
            generalize (k : Rat) = u at *
            generalize E x ^ k = v at *
            have y1 : E x * (γ1 * (v * q x * h1 x)) = E x * (γ0 * ((D x * q x + v * q' x) * h0 x + v * q x * h0' x)) := by rw [x1]
            have y2 : E x * (γ0 * ((D x * q x + v * q' x) * h0 x + v * q x * h0' x)) = γ0 * ((E x * D x) * (q x * h0 x) + E x * (v * q' x * h0 x + v * q x * h0' x)) := by grind
            rw [y2, x4] at y1
            grind
          rcases Pfn.nzd (PE.pw k) (((hq.mul hh0).smul (k : Rat)).smul γ0 |>.add ((PE.mul (((hq.mul hh1).smul γ1).add (((hq'.mul hh0).add (hq.mul hh0')).smul (-γ0)))).smul (-1))) f4 with w | w
          · exact absurd w (E1.pow k).nz
          · have h := w x0
            have e0 : E x0 = 0 := by rw [Ex]; grind
            rw [e0, Rat.zero_mul] at h
            have h2 : γ0 * ((k : Rat) * (q x0 * h0 x0)) = 0 := by grind
            rcases Rat.mul_eq_zero.mp h2 with z | z
            · grind
            · rcases Rat.mul_eq_zero.mp z with z | z
              · have hk : (0 : Rat) < (k : Rat) := Rat.natCast_pos.mpr (by omega)
                grind
              · rcases Rat.mul_eq_zero.mp z with z | z
                · exact z
                · exact absurd z hz
      obtain ⟨r, hr, er⟩ := hq.div qz
      refine ⟨r, hr, fun x => ?_⟩
      rw [eq, er, Rat.pow_succ, ← Ex]; grind
  obtain ⟨q, hq, eq⟩ := key (s + 1)
  rcases hq.deg with w | ⟨t, ht⟩
  · exact absurd (fun x => by rw [eq, w]; grind) gs.nz
  · have h1 := gs.uniq (((E1.pow (s + 1)).mul ht).congr eq)
    omega
