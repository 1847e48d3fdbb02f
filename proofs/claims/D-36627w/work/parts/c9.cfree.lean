/-! PLAIN LAW 18: the component's square-free part is the model's -/
theorem ppos_sgn {G : Nat → Int} {d : Nat} (hd : pdeg G = (d : Int)) (k : Nat) : ppos G k = (G d).sign * G k := by
  have hz := (degU_at G 7 d hd).1
  unfold ppos
  rw [hd, Int.toNat_natCast]
  by_cases c : G d < 0
  · rw [if_pos ⟨by omega, c⟩, Int.sign_eq_neg_one_of_neg c]; omega
  · rw [if_neg (fun w => c w.2), Int.sign_eq_one_of_pos (by omega)]; omega
theorem sgn_sq {x : Int} (h : x ≠ 0) : x.sign * x > 0 ∧ pm1 x.sign := by
  rcases Int.lt_or_gt_of_ne h with c | c
  · rw [Int.sign_eq_neg_one_of_neg c]; exact ⟨by omega, Or.inr rfl⟩
  · rw [Int.sign_eq_one_of_pos c]; exact ⟨by omega, Or.inl rfl⟩
theorem ppos_top (X : Nat → Int) {d : Nat} (hd : pdeg (ppos X) = (d : Int)) : 0 < ppos X d := by
  by_cases c : 0 ≤ pdeg X
  · obtain ⟨e, he⟩ := Int.eq_ofNat_of_zero_le c
    have h1 := degU_at X 7 e he
    have h2 : pdeg (ppos X) = (e : Int) := pdeg_is h1.2 (by rw [ppos_sgn he]; have := (sgn_sq h1.1).1; omega) (fun k k1 k2 => by
      rw [ppos_sgn he, degU_hi X 7 k (by show pdeg X < _; omega) k2, Int.mul_zero])
    have h3 : d = e := by omega
    rw [h3, ppos_sgn he]
    exact (sgn_sq h1.1).1
  · exfalso
    have h1 := (degU_at (ppos X) 7 d hd)
    refine h1.1 ?_
    unfold ppos
    rw [if_neg (fun w => c w.1)]
    exact degU_hi X 7 d (by show pdeg X < _; omega) h1.2
theorem cFree_f {P : Pl} (hP : nf P) (h7 : P.1 ≤ 7) (h0 : 0 < P.1) : nf (cFree P) ∧ (cFree P).1 ≤ 7 ∧ 0 < (cFree P).1 ∧ eq7 (cFree P).2 (freeR P.2) := by
  have hd := hP.deg h7
  obtain ⟨L, hr⟩ := row_ex (p := P.2) (by omega)
  obtain ⟨h, hC, hS, _⟩ := row_h hr (by omega)
  obtain ⟨_, d, _, _, dF, dS, dD, _, G, v, hv, Gz, Gd, eF, prm⟩ := free_h hr (by omega) hC hS
  obtain ⟨sL, sE⟩ := seq_row hP h7 h0 hr
  have hL := hr.1
  obtain ⟨n0, l0, e0, p0⟩ := sE 0 (by omega)
  obtain ⟨n1, l1, e1, p1⟩ := sE (L - 1) (by omega)
  have g1 := n1.deg l1
  have g0 := n0.deg l0
  have d1 := pdeg_congr e1
  have d0 := pdeg_congr e0
  have b7 : (sq P (L - 1)).1 + d ≤ 7 := by
    have := p1 (by omega)
    have := p0 (by omega)
    rw [rsq_0] at d0
    omega
  have hPr : isPr (sq P 0) (cDvs P) G d := by
    unfold cDvs
    rw [sL]
    refine ⟨n0, n1, l0, p1 (by omega), b7, Gz, fun m hm => ?_⟩
    rw [e0 m hm, rsq_0, prm m hm]
    have e2 := pr_scl (w := 1) (G := G) (Or.inl rfl) (D := (sq P (L - 1)).2) (S := rsq P.2 (L - 1)) (fun k hk => by rw [e1 k hk]; show _ = 1 * _; omega) m 7 (Nat.le_refl _)
    rw [← e2]
    congr 1
    funext k
    show 1 * G k = G k
    omega
  obtain ⟨q1, q2, q3⟩ := cQuo_ex hPr Gd
  have q7 : (cQuo (sq P 0) (cDvs P)).1 ≤ 7 := by have := p1 (by omega); omega
  obtain ⟨c1, c2, c3⟩ := cPos_f q3 q7
  have c1' : eq7 (cFree P).2 (ppos (cQuo (sq P 0) (cDvs P)).2) := c1
  have gq : pdeg (cQuo (sq P 0) (cDvs P)).2 = (d : Int) := by have := q3.deg q7; omega
  have eE : eq7 (cFree P).2 (freeR P.2) := c1'.trans (fun k hk => by
    rw [ppos_sgn gq, q1, q1, eF k hk]
    have t1 : 0 < freeR P.2 d := ppos_top _ dF
    rw [eF d (by omega)] at t1
    have t2 : 0 < v * G d := t1
    show (G d).sign * G k = v * G k
    rcases hv with rfl | rfl
    · rw [Int.sign_eq_one_of_pos (by omega)]
    · rw [Int.sign_eq_neg_one_of_neg (by omega)])
  refine ⟨c3, by show (cPos _).1 ≤ 7; omega, ?_, eE⟩
  have := (show nf (cFree P) from c3).deg (by show (cPos _).1 ≤ 7; omega)
  have := pdeg_congr eE
  omega
