/-! PLAIN LAW 52: what isTrue asks -/
theorem ch_zero {p : Nat → Int} {n : Nat} : ∀ m, n ≤ m → (∀ k, n ≤ k → k < m → p k = 0) → chL p m = chL p n ∧ chC p m = chC p n := by
  intro m
  induction m with
  | zero => intro h _; rw [show n = 0 by omega]; exact ⟨rfl, rfl⟩
  | succ m ih =>
    intro h hz
    by_cases e : n = m + 1
    · rw [e]; exact ⟨rfl, rfl⟩
    · obtain ⟨h1, h2⟩ := ih (by omega) (fun k a b => hz k a (by omega))
      have z := hz m (by omega) (Nat.lt_succ_self m)
      rw [cl_s, ch_s, z]
      exact ⟨h1, by rw [if_neg (fun w => w.1 rfl)]; exact h2⟩
/-- the changes among the coefficients -/
theorem csc_eq {P : Pl} (hP : nf P) (h7 : P.1 ≤ 7) : chG (fun i => (P.2 i).sign) P.1 = chC P.2 7 := by
  rw [(chG_chC (s := fun i => (P.2 i).sign) (fun i => by have := rsign3 (P.2 i); omega) P.1).2, (ch_zero (p := P.2) (n := P.1) 7 h7 (fun k a _ => hP.2 k a)).2]
  refine (chs_congr P.1 (fun i _ => ?_)).2
  have := rsign3 (P.2 i)
  rcases this with e | e | e <;> rw [e] <;> rfl
theorem chG_lt {s : Nat → Int} (h : ∀ i, s i = -1 ∨ s i = 0 ∨ s i = 1) (n : Nat) : chG s n ≤ n - 1 := by
  rw [(chG_chC h n).2]
  cases n with
  | zero => exact Nat.le_refl 0
  | succ n => exact chC_lt s n
theorem gd.fch_in {P : Pl} (h : gd P) (n : Int) (e : Nat) : 0 ≤ fch P n e ∧ fch P n e ≤ ((cFree P).1 : Int) - 1 := by
  obtain ⟨G, d, _, _, _, e1, e2, e3⟩ := h.hpr
  have hD0 := h.dvs.1.2.2.1
  have key : ∀ Q : Pl, gd Q → ((chG (fun i => cSg (sq Q i) n e) (seqLen Q) : Nat) : Int) ≤ (Q.1 : Int) - 1 := fun Q hQ => by
    obtain ⟨L, hr⟩ := hQ.row
    obtain ⟨eL, hs⟩ := seq_row hQ.1 hQ.2.1 hQ.2.2.1 hr
    have hL := hr.1
    have fall : ∀ i, i < L → pdeg (rsq Q.2 i) + (i : Int) ≤ pdeg (rsq Q.2 0) := by
      intro i
      induction i with
      | zero => intro _; omega
      | succ i ih => intro hi; have := ih (by omega); have := row_dec hr i hi; omega
    have h1 := fall (L - 1) (by omega)
    have h2 := hr.2.2.1 (L - 1) (by omega)
    have h3 : pdeg (rsq Q.2 0) = ((Q.1 - 1 : Nat) : Int) := by rw [rsq_0, prim_deg]; exact hQ.deg
    have h4 := chG_lt (s := fun i => cSg (sq Q i) n e) (fun i => cSg_3 (sq Q i) n e) (seqLen Q)
    have := hQ.2.2.1
    omega
  unfold fch fsq fsL
  by_cases c : (cDvs P).1 = 1
  · rw [if_pos c, if_pos c]
    have := key P h
    omega
  · rw [if_neg c, if_neg c]
    have := key (cFree P) h.free
    omega
theorem rsg_sc {c x : Rat} (hc : c = 1 ∨ c = -1) : rsg (c * x) = rsg c * rsg x := by
  rcases hc with rfl | rfl
  · rw [Rat.one_mul, show rsg 1 = 1 from rsg_p (by decide), Int.one_mul]
  · rw [show (-1 : Rat) * x = -x by grind, rsg_neg, show rsg (-1) = -1 from rsg_n (by decide)]; omega
theorem far_z {P : Pl} (h : gd P) (hA : ∀ k, (P.2 k).natAbs ≤ 9999) {x : Rat} (hx : 32768 ≤ x) : ev P.2 x ≠ 0 := fun w => by
  have hl := (degU_at P.2 7 (P.1 - 1) h.deg).1
  have q1 := rab_int hl
  obtain ⟨f1, _⟩ := far_sg h.deg (M := 9999) (fun k _ => by have := hA k; omega) (by decide) (X0 := 32768) (by
    show (9999 : Rat) ≤ (32768 - 1) * rab (P.2 (P.1 - 1) : Rat)
    grind) (by decide) hx
  rw [w, rsg_0 rfl] at f1
  exact hl (sign_z.mp f1.symm)
theorem gd.cau {P : Pl} (hA : ∀ k, (P.2 k).natAbs ≤ 9999) (h : gd P) {b : Nat} (hb : 10000 ≤ b) : ∀ k, k < P.1 - 1 → ((P.2 k).natAbs : Int) ≤ ((b : Int) - 1) * ((P.2 (P.1 - 1)).natAbs : Int) := fun k _ => by
  have hl := (degU_at P.2 7 (P.1 - 1) h.deg).1
  have h1 := hA k
  have h2 : 1 ≤ ((P.2 (P.1 - 1)).natAbs : Int) := by omega
  have h3 := Int.mul_le_mul_of_nonneg_left h2 (show (0 : Int) ≤ (b : Int) - 1 by omega)
  omega
/-- Descartes for the free part, on the right -/
theorem gd.descr {P : Pl} (h : gd P) (hA : ∀ k, (P.2 k).natAbs ≤ 9999) : ∃ m : Nat, fch P 0 0 - fch P 32768 0 = (m : Int) ∧ m ≤ chC (freeR P.2) 7 ∧ m % 2 = chC (freeR P.2) 7 % 2 := by
  have hpl := h.2.2.2.hPl (e := 0) (m := 0) (n := 32768) (by decide) (by decide) (by decide) (by decide) (by decide)
  have hK : pAt P.2 32768 0 ≠ 0 := fun w => far_z h hA (x := 32768) (by decide) (by rw [pAt_z, pt_0] at w; exact w)
  have e1 := h.fcnt (by decide) hpl
  rw [if_neg hK] at e1
  obtain ⟨L, hr⟩ := h.row
  have h0 := h.2.2.2.all.1
  obtain ⟨H, hC, hS, hD⟩ := row_h hr h0
  obtain ⟨c, d, hcc, eF, dF, _, _, _, _⟩ := free_h hr h0 hC hS
  have hcn : c ≠ 0 := by rcases hcc with rfl | rfl <;> decide
  have hF0 := h.2.2.2.free.all.1
  rw [plF_NV hC hD hF0 hcn eF (by decide) hpl, pt_0, pt_0] at e1
  have z0 : (((0 : Int)) : Rat) = 0 := rfl
  have zK : (((32768 : Int)) : Rat) = 32768 := rfl
  rw [z0, zK] at e1
  have hL := hr.1
  obtain ⟨F, hFd⟩ : ∃ F, F = freeR P.2 := ⟨_, rfl⟩
  rw [← hFd] at eF dF hF0 ⊢
  have Fd := degU_at F 7 d dF
  have sg : ∀ x, rsg (ev F x) = rsg c * rsg (H 0 x) := fun x => by rw [eF, rsg_sc hcc]
  have sc : rsg c = 1 ∨ rsg c = -1 := by
    rcases hcc with rfl | rfl
    · exact Or.inl (rsg_p (by decide))
    · exact Or.inr (rsg_n (by decide))
  have fn : fN F 7 ≠ 0 := fun w => Fd.1 (fN_z 7 w d Fd.2)
  obtain ⟨η0, η1, η2⟩ := near0 7 F fn
  obtain ⟨η, hη, hη2, hη3⟩ : ∃ η : Rat, 0 < η ∧ η < η0 ∧ η < 1 := by
    by_cases q : η0 ≤ 1
    · exact ⟨η0 * (1 / 2), by grind, by grind, by grind⟩
    · exact ⟨1 / 2, by grind, by grind, by grind⟩
  have sη : ∀ x, 0 < x → x ≤ η → rsg (ev F x) = fN F 7 := fun x x1 x2 => η2 x x1 (by grind)
  have s0 : rsg (ev F 0) = 0 ∨ rsg (ev F 0) = fN F 7 := by
    have e0 : ev F 0 = (F 0 : Rat) := by
      show pe (ci F) 7 0 = _
      rw [pe_0]
      show (F 0 : Rat) + 0 * _ = _
      grind
    rw [e0, rsg_int, fN_cons]
    by_cases q : F 0 = 0
    · left; rw [q]; rfl
    · right; rw [if_neg q]
  have K0 : (0 : Rat) ≤ 32768 := by decide
  have ch := hC.chn K0
  -- nothing between 0 and η
  have n1 : NV H (L - 1) 0 η = 0 := by
    refine leaf0_N ch (hD _ K0) (by decide) hη (by grind) ?_
    have hv : ∀ x, rsg (H 0 x) = rsg c * rsg (ev F x) := fun x => by
      rw [sg x]
      rcases sc with e | e <;> rw [e] <;> omega
    have f3 := (fN_par (s := F) 7).2.2
    by_cases q : rsg c * fN F 7 = 1
    · refine Or.inl ⟨fun z z1 z2 => ?_, ?_, ?_⟩
      · have := hv z
        rw [sη z z1 (Rat.le_of_lt z2), q] at this
        rcases rsg_3 (H 0 z) with ⟨a, _⟩ | ⟨_, b⟩ | ⟨_, b⟩
        · exact a
        · omega
        · omega
      · have := hv 0
        rcases rsg_3 (H 0 0) with ⟨a, _⟩ | ⟨_, b⟩ | ⟨a, _⟩
        · exact Rat.le_of_lt a
        · rcases s0 with w | w
          · rw [w, Int.mul_zero] at this; omega
          · rw [w, q] at this; omega
        · grind
      · have := hv η
        rw [sη η hη Rat.le_refl, q] at this
        rcases rsg_3 (H 0 η) with ⟨a, _⟩ | ⟨_, b⟩ | ⟨_, b⟩
        · exact Rat.le_of_lt a
        · omega
        · omega
    · have q' : rsg c * fN F 7 = -1 := by
        rcases sc with e | e <;> rcases f3 with f | f | f <;> rw [e, f] at q ⊢ <;> first | omega | exact absurd f fn
      refine Or.inr ⟨fun z z1 z2 => ?_, ?_, ?_⟩
      · have := hv z
        rw [sη z z1 (Rat.le_of_lt z2), q'] at this
        rcases rsg_3 (H 0 z) with ⟨_, b⟩ | ⟨a, _⟩ | ⟨_, b⟩
        · omega
        · grind
        · omega
      · have := hv 0
        rcases rsg_3 (H 0 0) with ⟨_, b⟩ | ⟨a, _⟩ | ⟨a, _⟩
        · rcases s0 with w | w
          · rw [w, Int.mul_zero] at this; omega
          · rw [w, q'] at this; omega
        · grind
        · grind
      · have := hv η
        rw [sη η hη Rat.le_refl, q'] at this
        rcases rsg_3 (H 0 η) with ⟨_, b⟩ | ⟨a, _⟩ | ⟨_, b⟩
        · omega
        · grind
        · omega
  have ηnz : H 0 η ≠ 0 := fun w => by
    have := sη η hη Rat.le_refl
    rw [sg, w, rsg_0 rfl, Int.mul_zero] at this
    exact fn this.symm
  have Knz : H 0 32768 ≠ 0 := fun w => by
    have h9 := (free_zero hr h0 hC hS (32768 : Rat)).mpr w
    exact far_z h hA (x := 32768) (by decide) h9
  rw [NV_add H (L - 1) 0 η 32768, n1, if_neg ηnz] at e1
  obtain ⟨m, m1, m2, m3⟩ := V_alt ch (hD _ K0) (a := η) (b := 32768) (c := 0) (by grind) (by grind) (by decide) hη ηnz Knz
  have e2 : NV H (L - 1) η 32768 = (m : Int) := by
    unfold NV
    rw [if_neg Knz]; omega
  rw [e2] at e1
  -- the sign of the free part far away
  have far : rsg (ev F 32768) = (F d).sign := by
    have hl := (degU_at P.2 7 (P.1 - 1) h.deg).1
    have s1 := far_same hr h.deg hC hS hD (M := 9999) (fun k _ => by have := hA k; omega) (by decide) (b := 32768) (K := 1119889) (by
      have q1 := rab_int hl
      show (9999 : Rat) ≤ (32768 - 1) * rab (P.2 (P.1 - 1) : Rat)
      grind) (by decide) (by decide)
    have bF := h.2.2.2.free.all.2.1
    rw [← hFd] at bF
    have q2 := rab_int Fd.1
    obtain ⟨f1, _⟩ := far_sg dF (M := 1119888) (fun k hk => by have := bF k (by omega); omega) (by decide) (X0 := 1119889) (by
      show (1119888 : Rat) ≤ (1119889 - 1) * rab (F d : Rat)
      grind) (by decide) (x := 1119889) Rat.le_refl
    rw [← f1, sg, sg, s1]
  have top : chL F 7 = (F d).sign := by
    rw [(ch_zero (p := F) (n := d + 1) 7 (by omega) (fun k a b => degU_hi F 7 k (by show pdeg F < _; omega) b)).1, cl_s, if_neg (fun w => Fd.1 (sign_z.mp w))]
  have par := (fN_par (s := F) 7).2.1 fn
  have f3 := (fN_par (s := F) 7).2.2
  refine ⟨m, by omega, desc_alt 7 F m ?_, ?_⟩
  · obtain ⟨t, t1, t2, t3, t4⟩ := m2
    have nzt : ∀ x, rsg (pe (ci F) 7 x) = rsg c * rsg (H 0 x) := sg
    refine ⟨t, t1, t2, ?_, fun i hi => ?_⟩
    · rw [nzt]
      rcases sc with e | e <;> rw [e] <;> omega
    · rw [nzt, nzt, t4 i hi, Int.mul_neg]
  · have a1 : rsg (ev F 32768) = rsg c * (if m % 2 = 0 then rsg (H 0 η) else -rsg (H 0 η)) := by rw [sg, m3]
    have a2 := sη η hη Rat.le_refl
    rw [sg] at a2
    rw [far, ← top, par] at a1
    by_cases c1 : m % 2 = 0
    · rw [if_pos c1, a2] at a1
      by_cases c2 : chC F 7 % 2 = 0
      · omega
      · rw [if_neg c2] at a1; omega
    · rw [if_neg c1, Int.mul_neg, a2] at a1
      by_cases c2 : chC F 7 % 2 = 0
      · rw [if_pos c2] at a1; omega
      · omega
theorem gd.tru {P : Pl} (h : gd P) (hA : ∀ k, (P.2 k).natAbs ≤ 9999) : xtT P := by
  have hpl := h.2.2.2.hPl (e := 0) (m := -32768) (n := 32768) (by decide) (by decide) (by decide) (by decide) (by decide)
  have hK : pAt P.2 32768 0 ≠ 0 := fun w => far_z h hA (x := 32768) (by decide) (by rw [pAt_z, pt_0] at w; exact w)
  have e1 := h.fcnt (by decide) hpl
  rw [if_neg hK] at e1
  have e2 := h.inf (b := 32768) (by decide) (h.cau hA (by decide)) hpl
  have e3 : plF (freeR P.2) 0 (-32768) 32768 = plF (freeR P.2) 0 (-((32768 : Nat) : Int)) ((32768 : Nat) : Int) := rfl
  obtain ⟨m, m1, m2, m3⟩ := h.descr hA
  have f1 := h.fch_in (-32768) 0
  have f2 := h.fch_in 32768 0
  obtain ⟨a1, a2, a3, a4⟩ := cFree_f h.1 h.2.1 h.2.2.1
  have cs : chG (fun i => ((cFree P).2 i).sign) (cFree P).1 = chC (freeR P.2) 7 := by
    rw [csc_eq a1 a2]
    exact (chs_congr 7 (fun i hi => by rw [a4 i hi])).2
  refine ⟨by omega, by omega, by rw [cs]; omega, ?_⟩
  rw [cs, m1]
  have hd : (2 : Int) ∣ ((chC (freeR P.2) 7 : Nat) : Int) - (m : Int) := ⟨(((chC (freeR P.2) 7 - m) / 2 : Nat) : Int), by omega⟩
  exact Int.tmod_eq_zero_of_dvd hd
