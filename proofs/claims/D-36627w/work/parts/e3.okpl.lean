/-! PLAIN LAW 30: between's demand (okPl), from sizes alone -/
theorem okPl_of {F : Nat → Int} {d b e : Nat} {m n : Int} {L : Rat} (hd : pdeg F = (d : Int)) (hb : ∀ k, k ≤ d → (F k).natAbs ≤ b) (hbz : 2 ≤ d → ∃ A B, Pfn A ∧ Pfn B ∧ ∀ x, A x * ev F x + B x * ev (drv F) x = 1) (hmn : m < n) {ω : Rat} (hω : ω * 2 ^ 158 = pt (n - m) e) (ω1 : ω ≤ 1) (hsm : 131072 * (3 ^ 6 * (sepQ d b : Rat)) * (3 ^ 7 * (b : Rat)) * (ω * ω) < 1) (hL : aS (ci (hoP F d m (n - m) e (d + 1))) (d + 1) ≤ L) (hB : L * 2 ^ (d * 159) < 2 ^ 1535) : okPl F e m n := by
  intro _
  have hg := degU_at F 7 d hd
  rw [hd, Int.toNat_natCast]
  obtain ⟨F0, hF0⟩ : ∃ F0 : Nat → Int, F0 = fun k => if k ≤ d then F k else 0 := ⟨_, rfl⟩
  have f0 : ∀ k, F0 k = if k ≤ d then F k else 0 := fun k => by rw [hF0]
  have p0 : ∀ x, pe (ci F0) (d + 1) x = pe (ci F) (d + 1) x := fun x => pe_congr (d + 1) (fun k hk => by
    show (F0 k : Rat) = (F k : Rat); rw [f0, if_pos (by omega)]) x
  have p1 : ∀ x, pe (dc (ci F0)) d x = pe (dc (ci F)) d x := fun x => pe_congr d (fun k hk => by
    show ((k : Rat) + 1) * (F0 (k + 1) : Rat) = ((k : Rat) + 1) * (F (k + 1) : Rat); rw [f0, if_pos (by omega)]) x
  have q0 : ∀ x, pe (ci F) (d + 1) x = ev F x := fun x => (ev_deg F (by omega) x).symm
  have q1 : ∀ x, pe (dc (ci F)) d x = ev (drv F) x := fun x => by
    have a := dP_uniq (f := ev F) (g1 := pe (dc (ci F)) d) (g2 := ev (drv F)) (dP_congr (fun x => q0 x) (fun _ => rfl) (fun K hK => anP_pe (ci F) hK d)) (fun K hK => ev_anP F hK) x
    exact a
  have pw : (0 : Rat) < 2 ^ 158 := p2pos 158
  have w0 : 0 < pt (n - m) e := by
    have h1 : (0 : Rat) < ((n - m : Int) : Rat) := Rat.intCast_pos.mpr (by omega)
    exact Rat.mul_pos h1 (Rat.inv_pos.mpr (p2pos e))
  have ω0 : 0 < ω := by
    refine Classical.byContradiction fun h => ?_
    have := Rat.mul_nonneg (show 0 ≤ -ω by grind) (Rat.le_of_lt pw)
    rw [show -ω * 2 ^ 158 = -(ω * 2 ^ 158) by grind, hω] at this
    grind
  refine fitB_of (F := F0) ω0 (hs_small (b := b) (by omega) (fun k hk => by rw [f0, if_neg (by omega)]) (by rw [f0, if_pos (Nat.le_refl d)]; exact hg.1) (fun k => ?_) (fun h2 => ?_) ω0 ω1 hsm) 158 _ L (pt m e) (2 ^ (e * d)) (by have := p2pos (e * d); grind) (fun t => ?_) hL hB
  · rw [f0]
    split
    · exact hb k (by assumption)
    · exact Nat.zero_le _
  · obtain ⟨A, B, hA, hB2, bz⟩ := hbz h2
    exact ⟨A, B, hA, hB2, fun x => by rw [p0, p1, q0, q1]; exact bz x⟩
  · have h := hoP_ev F d m (n - m) e t (d + 1) (Nat.le_refl _)
    rw [Nat.sub_self, pe_congr (c := fun k => ci F (0 + k)) (d := ci F) (d + 1) (fun k _ => by show ci F (0 + k) = ci F k; rw [Nat.zero_add])] at h
    rw [hω, p0]
    have hX : ((m : Rat) + ((n - m : Int) : Rat) * t) * ((2 : Rat) ^ e)⁻¹ = pt m e + pt (n - m) e * t := by unfold pt; grind
    rw [hX, Nat.mul_succ, rpow_add] at h
    have hp := p2pos e
    generalize (2 : Rat) ^ e = E at *
    generalize (2 : Rat) ^ (e * d) = D at *
    generalize pe (ci F) (d + 1) (pt m e + pt (n - m) e * t) = P at *
    have h2 : (pe (ci (hoP F d m (n - m) e (d + 1))) (d + 1) t - D * P) * E = 0 := by grind
    rcases Rat.mul_eq_zero.mp h2 with h3 | h3
    · grind
    · grind
