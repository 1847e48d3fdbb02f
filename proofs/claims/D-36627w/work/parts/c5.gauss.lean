/-! PLAIN LAW 14: products, Gauss's lemma -/
def pr (D G : Nat → Int) : Nat → Nat → Int
  | 0 => fun _ => 0
  | i + 1 => fun m => pr D G i m + (if i ≤ m then D i * G (m - i) else 0)
theorem prd_s (D G : Nat → Int) (i m : Nat) : pr D G (i + 1) m = pr D G i m + (if i ≤ m then D i * G (m - i) else 0) := rfl
theorem pr_ev (D G : Nat → Int) {b : Nat} (hG : ∀ k, b ≤ k → G k = 0) (x : Rat) : ∀ a M, a + b ≤ M + 1 → pe (ci (pr D G a)) M x = pe (ci D) a x * pe (ci G) b x := by
  intro a
  induction a with
  | zero => intro M _; rw [pe_z (c := ci (pr D G 0)) M (fun k _ => rfl)]; show (0 : Rat) = 0 * _; grind
  | succ a ih =>
    intro M hM
    have e1 : pe (ci (pr D G (a + 1))) M x = pe (ci (pr D G a)) M x + ((D a : Int) : Rat) * pe (shc a (ci G)) M x := by
      rw [← pe_mul, ← pe_add]
      refine pe_congr M (fun k _ => ?_) x
      show ((pr D G (a + 1) k : Int) : Rat) = ((pr D G a k : Int) : Rat) + ((D a : Int) : Rat) * shc a (ci G) k
      rw [prd_s, Rat.intCast_add, shc_int]
      by_cases c : a ≤ k
      · rw [if_pos c, if_neg (show ¬ k < a by omega), Rat.intCast_mul]
      · rw [if_neg c, if_pos (show k < a by omega)]
        show _ + ((0 : Int) : Rat) = _ + _ * ((0 : Int) : Rat)
        rw [show ((0 : Int) : Rat) = 0 from rfl]; grind
    have e2 : pe (shc a (ci G)) M x = x ^ a * pe (ci G) b x := by
      by_cases hb : b = 0
      · subst hb
        rw [pe_z (c := shc a (ci G)) M (fun k _ => by rw [shc_int]; show ((if k < a then (0 : Int) else G (k - a) : Int) : Rat) = 0; rw [hG (k - a) (Nat.zero_le _)]; split <;> rfl)]
        show (0 : Rat) = x ^ a * 0; grind
      · have e3 := pe_sh a (ci G) (M - a) x
        rw [show a + (M - a) = M by omega] at e3
        rw [e3, pe_ext2 (c := ci G) (n := b) (M - a) (by omega) (fun k h1 _ => by show ((G k : Int) : Rat) = 0; rw [hG k h1]; rfl) x]
    rw [e1, e2, ih M (by omega), pe_s]
    show _ = (_ + ((D a : Int) : Rat) * x ^ a) * _
    grind
/-- one term of a sum -/
theorem pr_one {q : Int} {D G : Nat → Int} {m i0 : Nat} : ∀ a, (∀ i, i < a → i ≠ i0 → q ∣ (if i ≤ m then D i * G (m - i) else 0)) → q ∣ pr D G a m → i0 < a → q ∣ (if i0 ≤ m then D i0 * G (m - i0) else 0) := by
  intro a
  have all : ∀ a, (∀ i, i < a → q ∣ (if i ≤ m then D i * G (m - i) else 0)) → q ∣ pr D G a m := by
    intro a
    induction a with
    | zero => intro _; exact Int.dvd_zero q
    | succ a ih => intro h; rw [prd_s]; exact Int.dvd_add (ih (fun i hi => h i (by omega))) (h a (by omega))
  induction a with
  | zero => intro _ _ h; omega
  | succ a ih =>
    intro h1 h2 h3
    rw [prd_s] at h2
    by_cases e : a = i0
    · subst e
      have h4 := all a (fun i hi => h1 i (by omega) (by omega))
      exact (Int.dvd_add_right h4).mp h2
    · have h5 := h1 a (by omega) e
      have h6 : q ∣ pr D G a m := (Int.dvd_add_left h5).mp h2
      exact ih (fun i hi hne => h1 i (by omega) hne) h6 (by omega)
/-- a number above 1 has a divisor that divides a product only by dividing a factor -/
theorem prime_ex : ∀ N : Nat, 1 < N → ∃ q : Nat, 1 < q ∧ q ∣ N ∧ ∀ a b : Int, (q : Int) ∣ a * b → (q : Int) ∣ a ∨ (q : Int) ∣ b := by
  intro N hN
  have ex : ∃ q : Nat, (1 < q ∧ q ∣ N) ∧ ∀ r : Nat, 1 < r → r ∣ N → q ≤ r := by
    have : ∀ m : Nat, (1 < m ∧ m ∣ N) → ∃ q : Nat, (1 < q ∧ q ∣ N) ∧ ∀ r : Nat, 1 < r → r ∣ N → q ≤ r := by
      intro m
      induction m using Nat.strongRecOn with
      | _ m ih =>
        intro hm
        by_cases c : ∃ r, r < m ∧ 1 < r ∧ r ∣ N
        · obtain ⟨r, r1, r2⟩ := c
          exact ih r r1 r2
        · exact ⟨m, hm, fun r r1 r2 => Classical.byContradiction fun w => c ⟨r, by omega, r1, r2⟩⟩
    exact this N ⟨hN, Nat.dvd_refl N⟩
  obtain ⟨q, ⟨q1, q2⟩, qm⟩ := ex
  refine ⟨q, q1, q2, fun a b hab => ?_⟩
  by_cases c : (q : Int) ∣ a
  · exact Or.inl c
  · refine Or.inr ?_
    have hg1 : Nat.gcd q a.natAbs ∣ q := Nat.gcd_dvd_left _ _
    have hg2 : Nat.gcd q a.natAbs ∣ a.natAbs := Nat.gcd_dvd_right _ _
    have hq0 : 0 < q := by omega
    have hg0 : 0 < Nat.gcd q a.natAbs := Nat.gcd_pos_of_pos_left _ hq0
    have hne : Nat.gcd q a.natAbs ≠ q := fun e => c (Int.ofNat_dvd_left.mpr (by rw [e] at hg2; exact hg2))
    have hle := Nat.le_of_dvd hq0 hg1
    have hcop : Nat.Coprime q a.natAbs := by
      refine Classical.byContradiction fun w => ?_
      have w1 : Nat.gcd q a.natAbs ≠ 1 := w
      have := qm (Nat.gcd q a.natAbs) (by omega) (Nat.dvd_trans hg1 q2)
      omega
    have h1 : q ∣ a.natAbs * b.natAbs := by rw [← Int.natAbs_mul]; exact Int.ofNat_dvd_left.mp hab
    exact Int.ofNat_dvd_left.mpr (hcop.dvd_of_dvd_mul_left h1)
/-- what divides all coefficients divides the content -/
theorem dvd_pg {p : Nat → Int} {q : Nat} : ∀ n, (∀ k, k < n → (q : Int) ∣ p k) → q ∣ pg p n := by
  intro n
  induction n with
  | zero => intro _; exact Nat.dvd_zero q
  | succ n ih => intro h; exact Nat.dvd_gcd (ih (fun k hk => h k (by omega))) (Int.ofNat_dvd_left.mp (h n (by omega)))
/-- Gauss: D has the content 1; what divides all of D G divides all of G -/
theorem gauss {D : Nat → Int} (hD : pcont D = 1) : ∀ (N : Nat) (G : Nat → Int), 0 < N → (∀ m, (N : Int) ∣ pr D G 7 m) → ∀ j, (N : Int) ∣ G j := by
  intro N
  induction N using Nat.strongRecOn with
  | _ N ih =>
    intro G hN h j
    by_cases h1 : N = 1
    · rw [h1]; exact Int.one_dvd (G j)
    · obtain ⟨q, q1, q2, qp⟩ := prime_ex N (by omega)
      obtain ⟨N', hN'⟩ := q2
      -- q does not divide all of D
      have hex : ∃ i, i < 7 ∧ ¬ (q : Int) ∣ D i ∧ ∀ k, k < i → (q : Int) ∣ D k := by
        have e1 : ∃ i, i < 7 ∧ ¬ (q : Int) ∣ D i := by
          refine Classical.byContradiction fun w => ?_
          have := dvd_pg (p := D) (q := q) 7 (fun k hk => Classical.byContradiction fun u => w ⟨k, hk, u⟩)
          have hD' : pg D 7 = 1 := hD
          rw [hD'] at this
          have := Nat.le_of_dvd (by decide) this
          omega
        obtain ⟨i, i1, i2⟩ := e1
        induction i using Nat.strongRecOn with
        | _ i ihi =>
          by_cases c : ∃ k, k < i ∧ ¬ (q : Int) ∣ D k
          · obtain ⟨k, k1, k2⟩ := c
            exact ihi k k1 (by omega) k2
          · exact ⟨i, i1, i2, fun k hk => Classical.byContradiction fun w => c ⟨k, hk, w⟩⟩
      obtain ⟨i, i1, i2, i3⟩ := hex
      have hqN : (q : Int) ∣ (N : Int) := Int.natCast_dvd_natCast.mpr ⟨N', hN'⟩
      have hqG : ∀ j, (q : Int) ∣ G j := by
        intro j
        induction j using Nat.strongRecOn with
        | _ j ihj =>
          have h2 := pr_one (q := (q : Int)) (D := D) (G := G) (m := i + j) (i0 := i) 7 (fun a ha hne => by
            by_cases c : a ≤ i + j
            · rw [if_pos c]
              by_cases d : a < i
              · exact Int.dvd_trans (i3 a d) (Int.dvd_mul_right _ _)
              · exact Int.dvd_trans (ihj (i + j - a) (by omega)) (Int.dvd_mul_left _ _)
            · rw [if_neg c]; exact Int.dvd_zero _) (Int.dvd_trans hqN (h (i + j))) i1
          rw [if_pos (by omega), show i + j - i = j by omega] at h2
          exact (qp _ _ h2).resolve_left i2
      -- G = q G'
      obtain ⟨G', hG'⟩ : ∃ G' : Nat → Int, ∀ j, G j = (q : Int) * G' j := ⟨fun j => G j / (q : Int), fun j => (Int.mul_ediv_cancel' (hqG j)).symm⟩
      have hpr : ∀ a m, pr D G a m = (q : Int) * pr D G' a m := by
        intro a m
        induction a with
        | zero => show (0 : Int) = (q : Int) * 0; omega
        | succ a iha =>
          rw [prd_s, prd_s, iha]
          by_cases c : a ≤ m
          · rw [if_pos c, if_pos c, hG']; grind
          · rw [if_neg c, if_neg c]; grind
      have hN0 : 0 < N' := by
        rcases Nat.eq_zero_or_pos N' with z | z
        · rw [z] at hN'; omega
        · exact z
      have hlt : N' < N := by
        rw [hN']
        have := Nat.mul_lt_mul_of_pos_right q1 hN0
        omega
      have h3 := ih N' hlt G' hN0 (fun m => by
        have h4 := h m
        rw [hpr, hN', Int.natCast_mul] at h4
        exact Int.dvd_of_mul_dvd_mul_left (by omega) h4) j
      rw [hG', hN', Int.natCast_mul]
      exact Int.mul_dvd_mul_left _ h3
/-- rational coefficients made whole -/
theorem den_ex (c : Nat → Rat) : ∀ n, ∃ N : Nat, 0 < N ∧ ∀ k, k < n → ∃ z : Int, (N : Rat) * c k = (z : Rat) := by
  intro n
  induction n with
  | zero => exact ⟨1, by decide, fun k h => absurd h (Nat.not_lt_zero k)⟩
  | succ n ih =>
    obtain ⟨N, h1, h2⟩ := ih
    have hd := (c n).den_pos
    have h3 : ((c n).den : Rat) * c n = ((c n).num : Rat) := by
      have e0 : ((c n).den : Rat) ≠ 0 := by have := Rat.natCast_pos.mpr hd; grind
      have e1 : ((c n).num : Rat) / ((c n).den : Rat) = c n := by
        have := Rat.num_divInt_den (c n)
        rw [Rat.divInt_eq_div] at this
        exact this
      have e2 : ((c n).den : Rat) * ((c n).den : Rat)⁻¹ = 1 := Rat.mul_inv_cancel _ e0
      rw [Rat.div_def] at e1
      have e3 : ((c n).den : Rat) * (((c n).num : Rat) * ((c n).den : Rat)⁻¹) = ((c n).num : Rat) := by grind
      rw [e1] at e3
      exact e3
    refine ⟨N * (c n).den, Nat.mul_pos h1 hd, fun k hk => ?_⟩
    rw [Rat.natCast_mul]
    by_cases e : k = n
    · subst e
      refine ⟨(N : Int) * (c k).num, ?_⟩
      rw [Rat.intCast_mul, ← h3]
      have : ((N : Int) : Rat) = (N : Rat) := rfl
      rw [this]; grind
    · obtain ⟨z, hz⟩ := h2 k (by omega)
      refine ⟨((c n).den : Int) * z, ?_⟩
      rw [Rat.intCast_mul, ← hz]
      have : (((c n).den : Int) : Rat) = ((c n).den : Rat) := rfl
      rw [this]; grind
/-- polynomials that are equal as functions have equal coefficients -/
theorem pe_inj {c d : Nat → Rat} {n : Nat} (h : ∀ x, pe c n x = pe d n x) : ∀ k, k < n → c k = d k := by
  intro k hk
  have h1 : ∀ x, pe (fun j => c j + (-1) * d j) n x = 0 := fun x => by rw [pe_add, pe_mul, h]; grind
  refine Classical.byContradiction fun w => ?_
  obtain ⟨v, _, _, v3⟩ := pe_nz (c := fun j => c j + (-1) * d j) hk (fun e => w (by have e : c k + (-1) * d k = 0 := e; grind)) (show (0 : Rat) < 1 by decide)
  exact v3 (h1 v)
/-- the last place that is not 0 -/
theorem pe_top (c : Nat → Rat) : ∀ n, (∀ x, pe c n x = 0) ∨ ∃ k, k < n ∧ c k ≠ 0 ∧ ∀ x, pe c n x = pe c (k + 1) x := by
  intro n
  induction n with
  | zero => exact Or.inl (fun _ => rfl)
  | succ n ih =>
    by_cases e : c n = 0
    · have e1 : ∀ x, pe c (n + 1) x = pe c n x := fun x => by rw [pe_s, e]; grind
      rcases ih with h | ⟨k, h1, h2, h3⟩
      · exact Or.inl (fun x => (e1 x).trans (h x))
      · exact Or.inr ⟨k, by omega, h2, fun x => (e1 x).trans (h3 x)⟩
    · exact Or.inr ⟨n, by omega, e, fun _ => rfl⟩
theorem pe_degu {c d : Nat → Rat} {m n : Nat} (h : ∀ x, pe c (m + 1) x = pe d (n + 1) x) (hc : c m ≠ 0) (hd : d n ≠ 0) : m = n := by
  rcases Nat.lt_trichotomy m n with q | q | q
  · exfalso
    have h1 := pe_inj (c := cutc (m + 1) c) (d := d) (n := n + 1) (fun x => by rw [pe_cut _ _ (by omega)]; exact h x) n (by omega)
    have h2 : cutc (m + 1) c n = 0 := if_neg (by omega)
    exact hd (h1.symm.trans h2)
  · exact q
  · exfalso
    have h1 := pe_inj (c := c) (d := cutc (n + 1) d) (n := m + 1) (fun x => by rw [pe_cut _ _ (by omega)]; exact h x) m (by omega)
    have h2 : cutc (n + 1) d m = 0 := if_neg (by omega)
    exact hc (h1.trans h2)
/-- no zero divisors -/
theorem Pfn.nzd {f g : Rat → Rat} (hf : Pfn f) (hg : Pfn g) (h : ∀ x, f x * g x = 0) : (∀ x, f x = 0) ∨ ∀ x, g x = 0 := by
  obtain ⟨c, n, hf⟩ := hf
  obtain ⟨d, m, hg⟩ := hg
  rcases pe_top c (n + 1) with w | ⟨a, a1, a2, a3⟩
  · exact Or.inl (fun x => by rw [hf, w])
  · rcases pe_top d (m + 1) with u | ⟨b, b1, b2, b3⟩
    · exact Or.inr (fun x => by rw [hg, u])
    · exfalso
      obtain ⟨e, e1, e2⟩ := pe_prod d b c a
      have hz : e (a + b) ≠ 0 := by
        rw [e1]
        intro z
        rcases Rat.mul_eq_zero.mp z with z | z
        · exact a2 z
        · exact b2 z
      obtain ⟨v, _, _, v3⟩ := pe_nz (c := e) (n := a + b + 1) (Nat.lt_succ_self _) hz (show (0 : Rat) < 1 by decide)
      exact v3 (by rw [← e2, ← a3, ← b3, ← hf, ← hg, h])
