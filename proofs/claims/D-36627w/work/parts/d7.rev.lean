/-! PLAIN LAW 25: the reversed polynomial has no square either -/
def rvP (F : Nat → Int) (d : Nat) : Nat → Int := fun k => if k ≤ d then F (d - k) else 0
def memI (f f' z : Rat → Rat) : Prop := ∃ A B, Pfn A ∧ Pfn B ∧ ∀ x, A x * f x + B x * f' x = z x
theorem Pfn.idf : Pfn (fun x => x) := ⟨fun k => if k = 1 then 1 else 0, 1, fun x => by
  show x = 0 + (if 0 = 1 then 1 else 0) * x ^ 0 + (if 1 = 1 then 1 else 0) * x ^ 1
  rw [if_neg (by decide), if_pos rfl, Rat.pow_succ, Rat.pow_zero]; grind⟩
theorem rv_f (F : Nat → Int) (d : Nat) {x : Rat} (hx : x ≠ 0) : pe (ci (rvP F d)) (d + 1) x = x ^ d * pe (ci F) (d + 1) x⁻¹ := by
  rw [← pe_rev (ci F) x hx d]
  refine pe_congr (d + 1) (fun k hk => ?_) x
  show ((if k ≤ d then F (d - k) else 0 : Int) : Rat) = (F (d - k) : Rat)
  rw [if_pos (by omega)]
/-- x f' + g = d f -/
theorem rv_g (F : Nat → Int) (n : Nat) (x : Rat) : x * pe (dc (ci (rvP F (n + 1)))) (n + 1) x + pe (fun k => dc (ci F) (n - k)) (n + 1) x = ((n : Rat) + 1) * pe (ci (rvP F (n + 1))) (n + 1 + 1) x := by
  have e1 : pe (fun k => (k : Rat) * ci (rvP F (n + 1)) k) (n + 1 + 1) x = x * pe (dc (ci (rvP F (n + 1)))) (n + 1) x := by
    rw [pe_0, show ((0 : Nat) : Rat) = 0 from rfl, Rat.zero_mul]
    rw [pe_congr (d := dc (ci (rvP F (n + 1)))) (n + 1) (fun k _ => by
      show ((k + 1 : Nat) : Rat) * _ = ((k : Rat) + 1) * _
      rw [Rat.natCast_add]; rfl) x]
    grind
  have e2 : pe (fun k => dc (ci F) (n - k)) (n + 1) x = pe (fun k => ((n : Rat) + 1) * ci (rvP F (n + 1)) k + (-1) * ((k : Rat) * ci (rvP F (n + 1)) k)) (n + 1 + 1) x := by
    rw [pe_s _ (n + 1)]
    have e3 : ((n : Rat) + 1) * ci (rvP F (n + 1)) (n + 1) + (-1) * (((n + 1 : Nat) : Rat) * ci (rvP F (n + 1)) (n + 1)) = 0 := by
      rw [Rat.natCast_add, show ((1 : Nat) : Rat) = 1 from rfl]; grind
    rw [e3, Rat.zero_mul, Rat.add_zero]
    refine pe_congr (n + 1) (fun k hk => ?_) x
    show (((n - k : Nat) : Rat) + 1) * (F (n - k + 1) : Rat) = ((n : Rat) + 1) * ((if k ≤ n + 1 then F (n + 1 - k) else 0 : Int) : Rat) + (-1) * ((k : Rat) * ((if k ≤ n + 1 then F (n + 1 - k) else 0 : Int) : Rat))
    rw [if_pos (by omega), show n - k + 1 = n + 1 - k by omega]
    have e4 : ((n - k : Nat) : Rat) + (k : Rat) = (n : Rat) := by
      rw [← Rat.natCast_add, show n - k + k = n by omega]
    rw [← e4]; grind
  rw [e2, pe_add, pe_mul, pe_mul, e1]; grind
theorem mem_dn {f f' k : Rat → Rat} {a : Rat} (ha : a ≠ 0) (hk : Pfn k) (hf : ∀ x, f x = a + x * k x) : ∀ n : Nat, memI f f' (fun x => x ^ n) → memI f f' (fun _ => 1) := by
  intro n
  induction n with
  | zero =>
    intro ⟨A, B, hA, hB, e⟩
    exact ⟨A, B, hA, hB, fun x => by rw [e]; exact Rat.pow_zero x⟩
  | succ n ih =>
    intro ⟨A, B, hA, hB, e⟩
    have hm : a * a⁻¹ = 1 := Rat.mul_inv_cancel _ ha
    refine ih ⟨fun x => a⁻¹ * (x ^ n + (-1) * (k x * A x)), fun x => (-a⁻¹) * (k x * B x), ((Pfn.idf.pw n).add ((hk.mul hA).smul (-1))).smul a⁻¹, (hk.mul hB).smul (-a⁻¹), fun x => ?_⟩
    have e1 : A x * f x + B x * f' x = x ^ n * x := by rw [e]; exact Rat.pow_succ _ _
    show a⁻¹ * (x ^ n + (-1) * (k x * A x)) * f x + (-a⁻¹) * (k x * B x) * f' x = x ^ n
    have e2 : a⁻¹ * (x ^ n + (-1) * (k x * A x)) * f x + (-a⁻¹) * (k x * B x) * f' x = a⁻¹ * (x ^ n * f x - k x * (A x * f x + B x * f' x)) := by grind
    rw [e2, e1, hf]
    generalize x ^ n = X
    rw [show X * (a + x * k x) - k x * (X * x) = a * X by grind]; grind
theorem inv_inv' {x : Rat} (hx : x ≠ 0) : x * x⁻¹ = 1 := Rat.mul_inv_cancel _ hx
theorem bez_rev {F : Nat → Int} {n : Nat} (hF : F (n + 1) ≠ 0) {A B : Rat → Rat} (hA : Pfn A) (hB : Pfn B) (bz : ∀ x, A x * pe (ci F) (n + 1 + 1) x + B x * pe (dc (ci F)) (n + 1) x = 1) : memI (pe (ci (rvP F (n + 1))) (n + 1 + 1)) (pe (dc (ci (rvP F (n + 1)))) (n + 1)) (fun _ => 1) := by
  obtain ⟨cA, nA, eA⟩ := hA
  obtain ⟨cB, nB, eB⟩ := hB
  have PA : Pfn (pe (fun k => cA (nA - k)) (nA + 1)) := ⟨_, nA, fun _ => rfl⟩
  have PB : Pfn (pe (fun k => cB (nB - k)) (nB + 1)) := ⟨_, nB, fun _ => rfl⟩
  have Pf : Pfn (pe (ci (rvP F (n + 1))) (n + 1 + 1)) := ⟨_, n + 1, fun _ => rfl⟩
  have Pf' : Pfn (pe (dc (ci (rvP F (n + 1)))) (n + 1)) := ⟨_, n, fun _ => rfl⟩
  refine mem_dn (k := pe (fun k => ci (rvP F (n + 1)) (k + 1)) (n + 1)) (a := (F (n + 1) : Rat)) (fun e => hF (Rat.intCast_eq_zero_iff.mp e)) ⟨_, n, fun _ => rfl⟩ (fun x => by
    rw [pe_0]; rfl) (nA + nB + (n + 1)) ?_
  obtain ⟨f, hf⟩ : ∃ f, f = pe (ci (rvP F (n + 1))) (n + 1 + 1) := ⟨_, rfl⟩
  obtain ⟨f', hf'⟩ : ∃ f', f' = pe (dc (ci (rvP F (n + 1)))) (n + 1) := ⟨_, rfl⟩
  obtain ⟨a, ha⟩ : ∃ a, a = pe (fun k => cA (nA - k)) (nA + 1) := ⟨_, rfl⟩
  obtain ⟨b, hb⟩ : ∃ b, b = pe (fun k => cB (nB - k)) (nB + 1) := ⟨_, rfl⟩
  have key : ∀ x, x * (a x * x ^ nB * f x + b x * x ^ nA * x * (((n : Rat) + 1) * f x + (-1) * (x * f' x)) + (-1) * x ^ (nA + nB + (n + 1))) = 0 := fun x => by
    by_cases hx : x = 0
    · rw [hx]; exact Rat.zero_mul _
    · have h1 := rv_f F (n + 1) hx
      have h2 := rv_g F n x
      have h3 := pe_rev (dc (ci F)) x hx n
      have h4 := pe_rev cA x hx nA
      have h5 := pe_rev cB x hx nB
      have h6 := bz x⁻¹
      rw [eA, eB] at h6
      rw [h3] at h2
      rw [← hf] at h1 h2
      rw [← hf'] at h2
      rw [← ha] at h4
      rw [← hb] at h5
      have h7 : ((n : Rat) + 1) * f x + (-1) * (x * f' x) = x ^ n * pe (dc (ci F)) (n + 1) x⁻¹ := by rw [← h2]; grind
      rw [h7, h1, h4, h5, rpow_add x (nA + nB) (n + 1), rpow_add x nA nB, Rat.pow_succ x n]
      generalize pe cA (nA + 1) x⁻¹ = P1 at *
      generalize pe cB (nB + 1) x⁻¹ = P2 at *
      generalize pe (ci F) (n + 1 + 1) x⁻¹ = P3 at *
      generalize pe (dc (ci F)) (n + 1) x⁻¹ = P4 at *
      generalize x ^ nA = X1
      generalize x ^ nB = X2
      generalize x ^ n = X3
      have e : X1 * P1 * X2 * (X3 * x * P3) + X2 * P2 * X1 * x * (X3 * P4) + (-1) * (X1 * X2 * (X3 * x)) = X1 * X2 * X3 * x * (P1 * P3 + P2 * P4) + (-1) * (X1 * X2 * (X3 * x)) := by grind
      rw [e, h6]; grind
  rw [← hf, ← hf']
  rw [← hf] at Pf
  rw [← hf'] at Pf'
  rw [← ha] at PA
  rw [← hb] at PB
  have Pall : Pfn (fun x => a x * x ^ nB * f x + b x * x ^ nA * x * (((n : Rat) + 1) * f x + (-1) * (x * f' x)) + (-1) * x ^ (nA + nB + (n + 1))) :=
    (((PA.mul (Pfn.idf.pw nB)).mul Pf).add (((PB.mul (Pfn.idf.pw nA)).mul Pfn.idf).mul ((Pf.smul ((n : Rat) + 1)).add ((Pfn.idf.mul Pf').smul (-1))))).add ((Pfn.idf.pw (nA + nB + (n + 1))).smul (-1))
  rcases Pfn.nzd Pfn.idf Pall key with w | w
  · have := w 1; exact absurd this (by decide)
  · refine ⟨fun x => a x * x ^ nB + ((n : Rat) + 1) * (b x * x ^ nA * x), fun x => (-1) * (b x * x ^ nA * x * x), (PA.mul (Pfn.idf.pw nB)).add (((PB.mul (Pfn.idf.pw nA)).mul Pfn.idf).smul _), (((PB.mul (Pfn.idf.pw nA)).mul Pfn.idf).mul Pfn.idf).smul (-1), fun x => ?_⟩
    have h := w x
    show (a x * x ^ nB + ((n : Rat) + 1) * (b x * x ^ nA * x)) * f x + (-1) * (b x * x ^ nA * x * x) * f' x = x ^ (nA + nB + (n + 1))
    generalize x ^ nA = X1 at *
    generalize x ^ nB = X2 at *
    generalize x ^ (nA + nB + (n + 1)) = X3 at *
    grind
