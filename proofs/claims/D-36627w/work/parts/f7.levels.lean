/-! PLAIN LAW 43: the component's free parts and levels fit -/
theorem pr_abs {D G : Nat → Int} {A B : Nat} (hA : ∀ k, (D k).natAbs ≤ A) (hB : ∀ k, (G k).natAbs ≤ B) (m : Nat) : ∀ a, (pr D G a m).natAbs ≤ a * (A * B) := by
  intro a
  induction a with
  | zero => show ((0 : Int)).natAbs ≤ _; rw [Int.natAbs_zero]; exact Nat.zero_le _
  | succ a ih =>
    rw [prd_s]
    have h1 := Int.natAbs_add_le (pr D G a m) (if a ≤ m then D a * G (m - a) else 0)
    have h2 : (if a ≤ m then D a * G (m - a) else 0).natAbs ≤ A * B := by
      split
      · rw [Int.natAbs_mul]; exact Nat.mul_le_mul (hA _) (hB _)
      · rw [Int.natAbs_zero]; exact Nat.zero_le _
    rw [Nat.add_mul]
    omega
theorem gd.hpr {P : Pl} (h : gd P) : ∃ (G : Nat → Int) (d : Nat), isPr (sq P 0) (cDvs P) G d ∧ G d ≠ 0 ∧ (∀ k, (G k).natAbs ≤ 2 ^ 21) ∧ (sq P 0).1 = P.1 ∧ (cDvs P).1 + d = P.1 ∧ (cFree P).1 = d + 1 := by
  obtain ⟨hP, h7, h0, hf⟩ := h
  have hd := hP.deg h7
  obtain ⟨L, hr⟩ := row_ex (p := P.2) (by omega)
  obtain ⟨h, hC, hS, _⟩ := row_h hr (by omega)
  obtain ⟨_, d, _, _, dF, dS, dD, _, G, v, hv, Gz, Gd, eF, prm⟩ := free_h hr (by omega) hC hS
  obtain ⟨sL, sE⟩ := seq_row hP h7 h0 hr
  have hL := hr.1
  obtain ⟨n0, l0, e0, p0⟩ := sE 0 (by omega)
  obtain ⟨n1, l1, e1, p1⟩ := sE (L - 1) (by omega)
  have g1 := n1.deg l1
  have g0 := n0.deg l0
  have d1 := pdeg_congr e1
  have d0 := pdeg_congr e0
  have q0 := p0 (by omega)
  have q1 := p1 (by omega)
  rw [rsq_0] at d0
  have dp := prim_deg P.2
  have b7 : (sq P (L - 1)).1 + d ≤ 7 := by omega
  obtain ⟨c1, c2, c3, c4⟩ := cFree_f hP h7 h0
  have cd := c1.deg c2
  have cd2 := pdeg_congr c4
  refine ⟨G, d, ?_, Gd, fun k => ?_, by omega, ?_, by omega⟩
  · unfold cDvs
    rw [sL]
    refine ⟨n0, n1, l0, p1 (by omega), b7, Gz, fun m hm => ?_⟩
    rw [e0 m hm, rsq_0, prm m hm]
    have e2 := pr_scl (w := 1) (G := G) (Or.inl rfl) (D := (sq P (L - 1)).2) (S := rsq P.2 (L - 1)) (fun k hk => by rw [e1 k hk]; show _ = 1 * _; omega) m 7 (Nat.le_refl _)
    rw [← e2]
    congr 1
    funext k
    show 1 * G k = G k
    omega
  · by_cases c : k < 7
    · have := hf.free.all.2.1 k c
      rw [eF k c, scl_abs hv] at this
      exact Nat.le_trans this (Nat.le_of_ble_eq_true rfl)
    · rw [Gz k (by omega), Int.natAbs_zero]; exact Nat.zero_le _
  · unfold cDvs
    rw [sL]
    omega
theorem gd.hFr {P : Pl} (h : gd P) : fitFr P 2 1 := by
  obtain ⟨G, d, hPr, Gd, Gb, e1, e2, e3⟩ := h.hpr
  have hD := h.dvs.1
  refine ⟨by decide, by decide, ⟨fun k => pow_i (Nat.lt_of_le_of_lt (hD.b k) (by decide)), fun j hj k => pow_i ?_⟩, hD.2.2.1, by omega, by rw [e1]; exact h.2.1⟩
  obtain ⟨Gr, r1, r2⟩ := qs_ex hPr j hj
  have hb : ∀ i, (Gr i).natAbs ≤ 2 ^ 21 := fun i => by
    rcases r2 i with z | z
    · rw [z]; exact Gb i
    · rw [z, Int.natAbs_zero]; exact Nat.zero_le _
  obtain ⟨s1, _, s3, _, _, _, s7⟩ := r1
  by_cases c : k < 7
  · rw [s7 k c]
    exact Nat.lt_of_le_of_lt (pr_abs hD.b hb k 7) (by decide)
  · rw [s1.2 k (by omega), Int.natAbs_zero]; exact Nat.pow_pos (by decide)
/-- rooms of a level, by its length -/
def gCf (n : Nat) : Nat := suC nN 1 n + sup (fun m => if 2 ≤ m then 14 + quC m n + suC nN 1 (n - m + 1) else 0) n
def gLf (n : Nat) : Nat := suL nN mM 1 n + sup (fun m => if 2 ≤ m then 74 + quL m 2 3 n + suL nN mM 1 (n - m + 1) else 0) n
theorem gd.hH {P : Pl} (h : gd P) : okH P nN mM 1 2 1 mM kK (gCf P.1) (gLf P.1) 183 1238 := by
  obtain ⟨G, d, hPr, Gd, Gb, e1, e2, e3⟩ := h.hpr
  have hD := h.dvs
  have hD0 := hD.1.2.2.1
  have q1 := h.hQ
  have q2 := h.free.hQ
  refine ⟨h.hN, fun _ => ⟨h.hFr, h.free.hN⟩, ?_, ?_, ?_, ?_, ?_⟩
  · unfold gCf gsC frC
    by_cases c : (cDvs P).1 = 1
    · rw [if_pos c]; omega
    · rw [if_neg c, e1, e3]
      have := sup_le (g := fun m => if 2 ≤ m then 14 + quC m P.1 + suC nN 1 (P.1 - m + 1) else 0) (k := P.1) (i := (cDvs P).1) (hD.2 (by omega))
      rw [if_pos (show 2 ≤ (cDvs P).1 by omega), show P.1 - (cDvs P).1 + 1 = d + 1 by omega] at this
      omega
  · unfold gLf gsL frL
    by_cases c : (cDvs P).1 = 1
    · rw [if_pos c]; omega
    · rw [if_neg c, e1, e3]
      have := sup_le (g := fun m => if 2 ≤ m then 74 + quL m 2 3 P.1 + suL nN mM 1 (P.1 - m + 1) else 0) (k := P.1) (i := (cDvs P).1) (hD.2 (by omega))
      rw [if_pos (show 2 ≤ (cDvs P).1 by omega), show P.1 - (cDvs P).1 + 1 = d + 1 by omega] at this
      have e4 : quL (cDvs P).1 2 (2 + 1) P.1 = quL (cDvs P).1 2 3 P.1 := rfl
      omega
  · unfold fsq fsL
    by_cases c : (cDvs P).1 = 1
    · rw [if_pos c, if_pos c]; exact q1.2.2.2.1
    · rw [if_neg c, if_neg c]; exact q2.2.2.2.1
  · unfold fsq fsL
    by_cases c : (cDvs P).1 = 1
    · rw [if_pos c, if_pos c]; exact q1.2.2.2.2.1
    · rw [if_neg c, if_neg c]; exact q2.2.2.2.2.1
  · unfold fsq fsL
    by_cases c : (cDvs P).1 = 1
    · rw [if_pos c, if_pos c]; exact q1.2.2.2.2.2
    · rw [if_neg c, if_neg c]; exact q2.2.2.2.2.2
theorem gd.hMl {P : Pl} (h : gd P) : okMl P nN mM 1 2 1 mM kK gCf gLf 183 1238 1 7 := by
  refine ⟨?_, fun j _ hj => ⟨(h.hI j).hH, (h.hI j).dvs.2 (hj j (by assumption) (Nat.le_refl j)), fun m e h1 h2 he => (h.hI j).hV h1 h2 he⟩⟩
  obtain ⟨G, d, _, _, _, _, e2, _⟩ := h.hpr
  have h7 := h.2.1
  by_cases c : 1 < P.1
  · have := h.dvs.2 c; omega
  · omega
theorem frC_le {P : Pl} (h : gd P) : frC P ≤ 600 ∧ frL P 2 1 ≤ 2000 := by
  obtain ⟨G, d, hPr, Gd, Gb, e1, e2, e3⟩ := h.hpr
  have hD0 := h.dvs.1.2.2.1
  have h7 := h.2.1
  have key : ∀ m, m < 8 → ∀ n, n < 8 → quC m n ≤ 500 ∧ quL m 2 3 n ≤ 1900 := by decide +kernel
  have := key (cDvs P).1 (by omega) P.1 (by omega)
  unfold frC frL
  rw [e1]
  show _ ∧ 14 + quL (cDvs P).1 2 3 P.1 + 60 ≤ 2000
  omega
theorem gf_le : ∀ n, n < 8 → gCf n ≤ 3809 ∧ gLf n ≤ 23503 := by decide +kernel
