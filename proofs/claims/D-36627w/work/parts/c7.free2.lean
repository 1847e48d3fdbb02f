/-! PLAIN LAW 16: the square-free part is the chain's first function (up to a sign) -/
def pm1 (u : Int) : Prop := u = 1 ∨ u = -1
theorem pm1.neg {u : Int} (hu : pm1 u) : pm1 (-u) := by
  rcases hu with rfl | rfl
  · exact Or.inr (by decide)
  · exact Or.inl (by decide)
theorem pm1.sq {u : Int} (hu : pm1 u) : u * u = 1 := by rcases hu with rfl | rfl <;> decide
theorem pm1.nz {u : Int} (hu : pm1 u) : u ≠ 0 := by rcases hu with rfl | rfl <;> decide
theorem pm1.sgn {u : Int} (hu : pm1 u) : u.sign = u := by rcases hu with rfl | rfl <;> decide
theorem comF_row {p : Nat → Int} {L : Nat} (hr : isRow p L) : ∀ (f i : Nat), i < L → L ≤ i + 1 + f → ∀ (a b : Nat → Int) (u v : Int), pm1 u → pm1 v → eq7 (pprim a) (scl u (rsq p i)) → eq7 (pprim b) (scl v (rsq p (i + 1))) → ∃ w, pm1 w ∧ eq7 (pprim (comF f a b)) (scl w (rsq p (L - 1))) := by
  intro f
  induction f with
  | zero =>
    intro i hi hL a b u v hu hv ha hb
    exact ⟨u, hu, by rw [show L - 1 = i by omega]; exact ha⟩
  | succ f ih =>
    intro i hi hL a b u v hu hv ha hb
    have eb : pdeg b = pdeg (rsq p (i + 1)) := by
      rw [← prim_deg, pdeg_congr hb, scl_deg hv.nz]
    by_cases c : pdeg b < 0
    · rw [comF_t c]
      have : i + 1 = L := Classical.byContradiction fun w => by
        have := hr.2.2.1 (i + 1) (by omega)
        omega
      exact ⟨u, hu, by rw [show L - 1 = i by omega]; exact ha⟩
    · have hi1 : i + 1 < L := Classical.byContradiction fun w => by
        have := hr.2.2.2
        rw [show i + 1 = L by omega] at eb
        omega
      rw [comF_s c]
      refine ih (i + 1) hi1 (by omega) b (remF 7 a b) v (-u) hv hu.neg hb ?_
      have pa : prp a (scl u (rsq p i)) := (prim_idem a).symm.trans (eq7.prim ha)
      have pb : prp b (scl v (rsq p (i + 1))) := (prim_idem b).symm.trans (eq7.prim hb)
      refine eq7.trans (remF_prp 7 pa pb) ((remF_scl 7 hu.nz hv.nz _ _).trans ?_)
      rw [hu.sgn]
      refine (scl_congr (remF_isprim 7 (rsq_isprim p i))).trans (fun k _ => ?_)
      show u * remF 7 (rsq p i) (rsq p (i + 1)) k = -u * rsq p (i + 2) k
      rw [rsq_s]
      show u * remF 7 (rsq p i) (rsq p (i + 1)) k = -u * -(remF 7 (rsq p i) (rsq p (i + 1)) k)
      grind
theorem ppos_scl {w : Int} (hw : pm1 w) (S : Nat → Int) : ∃ v, pm1 v ∧ ∀ k, ppos (scl w S) k = scl v S k := by
  by_cases c : 0 ≤ pdeg (scl w S) ∧ scl w S (pdeg (scl w S)).toNat < 0
  · refine ⟨-w, hw.neg, fun k => ?_⟩
    unfold ppos
    rw [if_pos c]
    show -(w * S k) = -w * S k
    grind
  · exact ⟨w, hw, fun k => by unfold ppos; rw [if_neg c]⟩
theorem ppos_sc7 {X S : Nat → Int} {w : Int} (hw : pm1 w) (h : eq7 X (scl w S)) : ∃ v, pm1 v ∧ eq7 (ppos X) (scl v S) := by
  obtain ⟨v, hv, e⟩ := ppos_scl hw S
  exact ⟨v, hv, (ppos_congr h).trans (fun k _ => e k)⟩
/-- the common divisor of a polynomial and its derivative: the end of the row -/
theorem freeD_row {p : Nat → Int} {L : Nat} (hr : isRow p L) (h0 : 0 ≤ pdeg p) : ∃ w, pm1 w ∧ eq7 (freeD p) (scl w (rsq p (L - 1))) := by
  obtain ⟨g, hg⟩ := Int.eq_ofNat_of_zero_le h0
  have h1 := drv_deg hg
  obtain ⟨w, hw, e⟩ := comF_row hr 8 0 hr.1 (by have := hr.2.1; omega) p (drv p) 1 1 (Or.inl rfl) (Or.inl rfl) (fun k _ => by
    rw [rsq_0]; show pprim p k = 1 * pprim p k; omega) (fun k _ => by
    rw [rsq_1]; show pprim (drv p) k = 1 * pprim (drv p) k; omega)
  unfold freeD comR
  rw [if_neg (by omega)]
  exact ppos_sc7 hw e
theorem pr_scl {D S G : Nat → Int} {w : Int} (hw : pm1 w) (hD : eq7 D (scl w S)) (m : Nat) : ∀ a, a ≤ 7 → pr D (scl w G) a m = pr S G a m := by
  intro a
  induction a with
  | zero => intro _; rfl
  | succ a ih =>
    intro ha
    rw [prd_s, prd_s, ih (by omega), hD a (by omega)]
    by_cases c : a ≤ m
    · rw [if_pos c, if_pos c]
      have := hw.sq
      show pr S G a m + w * S a * (w * G (m - a)) = _
      have e : w * S a * (w * G (m - a)) = (w * w) * (S a * G (m - a)) := by grind
      rw [e, this]; omega
    · rw [if_neg c, if_neg c]
theorem pr_dvd {D G : Nat → Int} {q : Int} {m : Nat} (h : ∀ j, q ∣ G j) : ∀ a, q ∣ pr D G a m := by
  intro a
  induction a with
  | zero => exact Int.dvd_zero q
  | succ a ih =>
    rw [prd_s]
    refine Int.dvd_add ih ?_
    split
    · exact Int.dvd_mul_of_dvd_right (h _)
    · exact Int.dvd_zero q
theorem free_h {p : Nat → Int} {L : Nat} (hr : isRow p L) (h0 : 0 ≤ pdeg p) {h : Nat → Rat → Rat} (hC : polC h (L - 1)) (hS : ∀ i, i ≤ L - 1 → ∀ x, ev (rsq p i) x = ev (rsq p (L - 1)) x * h i x) : ∃ (c : Rat) (d : Nat), (c = 1 ∨ c = -1) ∧ (∀ x, ev (freeR p) x = c * h 0 x) ∧ pdeg (freeR p) = (d : Int) ∧ pdeg (rsq p (L - 1)) + (d : Int) = pdeg (pprim p) ∧ pdeg (freeD p) = pdeg (rsq p (L - 1)) ∧ eq7 (pprim (freeR p)) (freeR p) ∧ ∃ (G : Nat → Int) (w : Int), pm1 w ∧ (∀ k, d < k → G k = 0) ∧ G d ≠ 0 ∧ eq7 (freeR p) (scl w G) ∧ ∀ m, m < 7 → pprim p m = pr (rsq p (L - 1)) G 7 m := by
  obtain ⟨G, d, Gz, Gd, dg, Ge, prm, hSc⟩ := row_G hr h0 hC hS
  obtain ⟨w, hw, hD⟩ := freeD_row hr h0
  have hp0 : 0 ≤ pdeg (pprim p) := by rw [prim_deg]; exact h0
  have eD : pdeg (freeD p) = pdeg (rsq p (L - 1)) := by rw [pdeg_congr hD, scl_deg hw.nz]
  have hS0 : 0 ≤ pdeg (rsq p (L - 1)) := hr.2.2.1 (L - 1) (by have := hr.1; omega)
  obtain ⟨s, hs⟩ := Int.eq_ofNat_of_zero_le hS0
  have hDs := degU_at (freeD p) 7 s (by show pdeg _ = _; omega)
  have p6 := pdeg_in (pprim p)
  have hd6 : d + s < 7 := by omega
  have cG : pcont G = 1 := by
    have h1 : ∀ m, m < 7 → (pcont G : Int) ∣ pprim p m := fun m hm => by
      rw [prm m hm]
      refine pr_dvd (fun j => ?_) 7
      by_cases c : j < 7
      · exact pg_dvd G 7 j c
      · rw [Gz j (by omega)]; exact Int.dvd_zero _
    have h2 : pcont G ∣ pcont (pprim p) := dvd_pg 7 h1
    rw [prim_cont (prim_idem p) hp0] at h2
    exact Nat.dvd_one.mp h2
  have eF : ∀ k, frF (freeD p) (pdeg (freeD p)).toNat (pdeg (pprim p) - pdeg (freeD p) + 1).toNat (pprim p) k = scl w G k := by
    rw [show (pdeg (freeD p)).toNat = s by omega, show (pdeg (pprim p) - pdeg (freeD p) + 1).toNat = d + 1 by omega]
    refine frF_ex hDs.1 (fun k k1 k2 => degU_hi (freeD p) 7 k (by show pdeg _ < _; omega) k2) hDs.2 (d + 1) (pprim p) (scl w G) (by omega) (fun k hk => by show w * G k = 0; rw [Gz k (by omega), Int.mul_zero]) (fun m hm => by rw [pr_scl hw hD m 7 (Nat.le_refl _)]; exact prm m hm)
  have e1 : eq7 (pprim (frF (freeD p) (pdeg (freeD p)).toNat (pdeg (pprim p) - pdeg (freeD p) + 1).toNat (pprim p))) (scl w G) := by
    refine (eq7.prim (fun k _ => eF k)).trans ((prim_sc2 hw.nz G).trans ?_)
    rw [hw.sgn]
    exact scl_congr (cont_prim cG)
  obtain ⟨v, hv, e2⟩ := ppos_sc7 hw e1
  have e2' : eq7 (freeR p) (scl v G) := e2
  have dG : pdeg (freeR p) = (d : Int) := by
    rw [pdeg_congr e2', scl_deg hv.nz]
    exact pdeg_is (by omega) Gd (fun k k1 _ => Gz k k1)
  refine ⟨(v : Rat), d, ?_, fun x => ?_, dG, dg, eD, ?_, G, v, hv, Gz, Gd, e2', prm⟩
  · rcases hv with rfl | rfl
    · exact Or.inl (by decide)
    · exact Or.inr (by decide)
  · rw [ev_congr e2' x, Ge x]
    have e3 : pe (ci G) (d + 1) x = pe (ci G) 7 x := (pe_ext2 7 (by omega) (fun k k1 _ => by show ((G k : Int) : Rat) = 0; rw [Gz k (by omega)]; decide) x).symm
    rw [e3, ← pe_mul]
    exact pe_congr 7 (fun k _ => by show ((v * G k : Int) : Rat) = (v : Rat) * (G k : Rat); rw [Rat.intCast_mul]) x
  · refine (eq7.prim e2').trans ((prim_sc2 hv.nz G).trans ?_)
    rw [hv.sgn]
    exact (scl_congr (cont_prim cG)).trans (eq7.symm e2')
