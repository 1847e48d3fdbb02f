/-! PLAIN LAW 15: the square-free part is the chain's first function -/
theorem prim_cont {a : Nat → Int} (h : eq7 (pprim a) a) (h0 : 0 ≤ pdeg a) : pcont a = 1 := by
  obtain ⟨g, hg⟩ := Int.eq_ofNat_of_zero_le h0
  have h1 := degU_at a 7 g hg
  have h2 := pprim_mul a h1.2
  rw [h g h1.2] at h2
  have h3 : (pc1 a : Int) = 1 := by
    have h4 : (pc1 a : Int) * a g = 1 * a g := by rw [← h2]; omega
    exact Int.eq_of_mul_eq_mul_right h1.1 h4
  unfold pc1 at h3
  split at h3
  · by_cases z : pcont a = 0
    · exact absurd (pcont_0 z g h1.2) h1.1
    · omega
  · omega
theorem cont_prim {a : Nat → Int} (h : pcont a = 1) : eq7 (pprim a) a := fun k _ => by unfold pprim; rw [if_pos (by omega)]
theorem pr_none {D G : Nat → Int} {m : Nat} : ∀ a, (∀ i, i < a → i ≤ m → D i * G (m - i) = 0) → pr D G a m = 0 := by
  intro a
  induction a with
  | zero => intro _; rfl
  | succ a ih =>
    intro h
    rw [prd_s, ih (fun i hi => h i (by omega))]
    by_cases c : a ≤ m
    · rw [if_pos c, h a (by omega) c]; rfl
    · rw [if_neg c]; rfl
theorem pr_single {D G : Nat → Int} {m i0 : Nat} (hm : i0 ≤ m) : ∀ a, i0 < a → (∀ i, i < a → i ≤ m → i ≠ i0 → D i * G (m - i) = 0) → pr D G a m = D i0 * G (m - i0) := by
  intro a
  induction a with
  | zero => intro h _; omega
  | succ a ih =>
    intro h1 h2
    rw [prd_s]
    by_cases e : a = i0
    · subst e
      rw [pr_none a (fun i hi hi2 => h2 i (by omega) hi2 (by omega)), if_pos hm]; omega
    · rw [ih (by omega) (fun i hi => h2 i (by omega))]
      by_cases c : a ≤ m
      · rw [if_pos c, h2 a (by omega) c e]; omega
      · rw [if_neg c]; omega
theorem pr_up (D G : Nat → Int) (n m : Nat) : ∀ a, pr D (va_up G n 0) a m = pr D G a m - (if n ≤ m ∧ m - n < a then D (m - n) * G n else 0) := by
  intro a
  induction a with
  | zero => rw [if_neg (by omega)]; rfl
  | succ a ih =>
    rw [prd_s, prd_s, ih]
    by_cases c : a ≤ m
    · rw [if_pos c, if_pos c]
      by_cases e : m - a = n
      · rw [e, va_upj, if_neg (show ¬ (n ≤ m ∧ m - n < a) by omega), if_pos (show n ≤ m ∧ m - n < a + 1 by omega), show m - n = a by omega]; omega
      · rw [va_upn _ _ e]
        by_cases d : n ≤ m ∧ m - n < a
        · rw [if_pos d, if_pos (show n ≤ m ∧ m - n < a + 1 by omega)]; omega
        · rw [if_neg d, if_neg (show ¬ (n ≤ m ∧ m - n < a + 1) by omega)]; omega
    · rw [if_neg c, if_neg c]
      by_cases d : n ≤ m ∧ m - n < a
      · rw [if_pos d, if_pos (show n ≤ m ∧ m - n < a + 1 by omega)]; omega
      · rw [if_neg d, if_neg (show ¬ (n ≤ m ∧ m - n < a + 1) by omega)]; omega
/-- a division that goes up -/
theorem frF_ex {D : Nat → Int} {h : Nat} (hD : D h ≠ 0) (hz : ∀ k, h < k → k < 7 → D k = 0) (h7 : h < 7) : ∀ (n : Nat) (T G : Nat → Int), n + h ≤ 7 → (∀ k, n ≤ k → G k = 0) → (∀ m, m < 7 → T m = pr D G 7 m) → ∀ k, frF D h n T k = G k := by
  intro n
  induction n with
  | zero => intro T G _ hG _ k; exact (hG k (Nat.zero_le k)).symm
  | succ n ih =>
    intro T G hn hG hT k
    have e1 : T (n + h) = D h * G n := by
      rw [hT (n + h) (by omega), pr_single (i0 := h) (by omega) 7 h7 (fun i hi hi2 hne => ?_), show n + h - h = n by omega]
      by_cases c : i < h
      · rw [hG (n + h - i) (by omega), Int.mul_zero]
      · rw [hz i (by omega) hi, Int.zero_mul]
    have e2 : (T (n + h)).tdiv (D h) = G n := by rw [e1]; exact Int.mul_tdiv_cancel_left _ hD
    show va_up (frF D h n (frT D h n T)) n ((T (n + h)).tdiv (D h)) k = G k
    rw [e2]
    have e3 := ih (frT D h n T) (va_up G n 0) (by omega) (fun j hj => by
      by_cases c : j = n
      · rw [c, va_upj]
      · rw [va_upn _ _ c]; exact hG j (by omega)) (fun m hm => by
      rw [pr_up, ← hT m hm]
      unfold frT
      rw [e2]
      by_cases c : n ≤ m ∧ m ≤ n + h
      · rw [if_pos c, if_pos (show n ≤ m ∧ m - n < 7 by omega)]
      · rw [if_neg c]
        by_cases d : n ≤ m ∧ m - n < 7
        · rw [if_pos d, hz (m - n) (by omega) (by omega), Int.zero_mul]; omega
        · rw [if_neg d]; omega)
    by_cases c : k = n
    · rw [c, va_upj]
    · rw [va_upn _ _ c, e3, va_upn _ _ c]
/-- the chain's first function has whole coefficients -/
theorem row_G {p : Nat → Int} {L : Nat} (hr : isRow p L) (h0 : 0 ≤ pdeg p) {h : Nat → Rat → Rat} (hC : polC h (L - 1)) (hS : ∀ i, i ≤ L - 1 → ∀ x, ev (rsq p i) x = ev (rsq p (L - 1)) x * h i x) : ∃ (G : Nat → Int) (d : Nat), (∀ k, d < k → G k = 0) ∧ G d ≠ 0 ∧ pdeg (rsq p (L - 1)) + (d : Int) = pdeg (pprim p) ∧ (∀ x, h 0 x = pe (ci G) (d + 1) x) ∧ (∀ m, m < 7 → pprim p m = pr (rsq p (L - 1)) G 7 m) ∧ pcont (rsq p (L - 1)) = 1 := by
  have hL := hr.1
  obtain ⟨S, hSd⟩ : ∃ S, S = rsq p (L - 1) := ⟨_, rfl⟩
  have hp0 : 0 ≤ pdeg (pprim p) := by rw [prim_deg]; exact h0
  obtain ⟨g, hg⟩ := Int.eq_ofNat_of_zero_le hp0
  have g1 := degU_at (pprim p) 7 g hg
  have hS0 : 0 ≤ pdeg S := by rw [hSd]; exact hr.2.2.1 (L - 1) (by omega)
  obtain ⟨s, hs⟩ := Int.eq_ofNat_of_zero_le hS0
  have s1 := degU_at S 7 s hs
  have hSc : pcont S = 1 := prim_cont (by rw [hSd]; exact rsq_isprim p (L - 1)) hS0
  have hP : ∀ x, ev (pprim p) x = ev S x * h 0 x := fun x => by have := hS 0 (by omega) x; rw [rsq_0, ← hSd] at this; exact this
  rw [← hSd]
  obtain ⟨c, n, hc⟩ := hC.1 0 (by omega)
  rcases pe_top c (n + 1) with w | ⟨d, d1, d2, d3⟩
  · exfalso
    obtain ⟨v, _, _, v3⟩ := ev_nz hp0 (show (0 : Rat) < 1 by decide)
    exact v3 (by rw [hP, hc, w]; grind)
  · obtain ⟨N, N1, N2⟩ := den_ex c (d + 1)
    obtain ⟨z, hz⟩ : ∃ z : Nat → Int, ∀ k, k < d + 1 → (N : Rat) * c k = (z k : Rat) := ⟨fun k => if q : k < d + 1 then (N2 k q).choose else 0, fun k hk => by
      show _ = ((if q : k < d + 1 then (N2 k q).choose else 0 : Int) : Rat)
      rw [dif_pos hk]; exact (N2 k hk).choose_spec⟩
    obtain ⟨G0, hG0⟩ : ∃ G0 : Nat → Int, G0 = fun k => if k < d + 1 then z k else 0 := ⟨_, rfl⟩
    have G0z : ∀ k, d + 1 ≤ k → G0 k = 0 := fun k hk => by rw [hG0]; exact if_neg (by omega)
    have hNr : (0 : Rat) < (N : Rat) := Rat.natCast_pos.mpr N1
    have G0e : ∀ x, pe (ci G0) (d + 1) x = (N : Rat) * h 0 x := fun x => by
      rw [hc, d3, ← pe_mul]
      refine pe_congr (d + 1) (fun k hk => ?_) x
      show ((G0 k : Int) : Rat) = (N : Rat) * c k
      rw [hz k hk, hG0]
      show ((if k < d + 1 then z k else 0 : Int) : Rat) = _
      rw [if_pos hk]
    -- the product
    have prod : ∀ x, pe (ci (pr S G0 7)) (d + 8) x = pe (cutc 7 (fun k => (N : Rat) * ci (pprim p) k)) (d + 8) x := fun x => by
      rw [pr_ev S G0 G0z x 7 (d + 8) (by omega), pe_cut _ _ (show 7 ≤ d + 8 by omega), pe_mul, G0e]
      have := hP x
      show ev S x * _ = (N : Rat) * ev (pprim p) x
      rw [this]; grind
    have prc := pe_inj prod
    have hdvd : ∀ m, (N : Int) ∣ pr S G0 7 m := fun m => by
      by_cases q : m < d + 8
      · have e1 := prc m q
        by_cases q7 : m < 7
        · have e2 : cutc 7 (fun k => (N : Rat) * ci (pprim p) k) m = (((N : Int) * pprim p m : Int) : Rat) := by
            rw [Rat.intCast_mul]; exact if_pos q7
          rw [e2] at e1
          exact ⟨pprim p m, Rat.intCast_inj.mp e1⟩
        · have e2 : cutc 7 (fun k => (N : Rat) * ci (pprim p) k) m = 0 := if_neg q7
          rw [e2] at e1
          rw [Rat.intCast_eq_zero_iff.mp e1]; exact Int.dvd_zero _
      · rw [pr_none 7 (fun i hi _ => by rw [G0z (m - i) (by omega), Int.mul_zero])]; exact Int.dvd_zero _
    have hG := gauss hSc N G0 N1 hdvd
    obtain ⟨G, hGG⟩ : ∃ G : Nat → Int, ∀ j, G0 j = (N : Int) * G j := ⟨fun j => G0 j / (N : Int), fun j => (Int.mul_ediv_cancel' (hG j)).symm⟩
    have hNi : (N : Int) ≠ 0 := by omega
    have Gz : ∀ k, d < k → G k = 0 := fun k hk => by
      have := hGG k
      rw [G0z k (by omega)] at this
      rcases Int.mul_eq_zero.mp this.symm with w | w
      · exact absurd w hNi
      · exact w
    have Ge : ∀ x, h 0 x = pe (ci G) (d + 1) x := fun x => by
      have e1 := G0e x
      have e2 : pe (ci G0) (d + 1) x = (N : Rat) * pe (ci G) (d + 1) x := by
        rw [← pe_mul]
        refine pe_congr (d + 1) (fun k _ => ?_) x
        show ((G0 k : Int) : Rat) = (N : Rat) * ((G k : Int) : Rat)
        rw [hGG, Rat.intCast_mul]; rfl
      rw [e2] at e1
      have e3 : (N : Rat) * (pe (ci G) (d + 1) x - h 0 x) = 0 := by grind
      rcases Rat.mul_eq_zero.mp e3 with w | w
      · grind
      · grind
    have Gd : G d ≠ 0 := fun w => by
      have e1 := hz d (Nat.lt_succ_self d)
      have e2 : G0 d = z d := by rw [hG0]; exact if_pos (Nat.lt_succ_self d)
      have e3 := hGG d
      rw [w, e2] at e3
      rw [e3, Int.mul_zero] at e1
      rcases Rat.mul_eq_zero.mp e1 with u | u
      · grind
      · exact d2 u
    have prm : ∀ m, m < 7 → pprim p m = pr S G 7 m := fun m hm => by
      have e1 := prc m (by omega)
      have e2 : cutc 7 (fun k => (N : Rat) * ci (pprim p) k) m = (((N : Int) * pprim p m : Int) : Rat) := by
        rw [Rat.intCast_mul]; exact if_pos hm
      rw [e2] at e1
      have e3 : pr S G0 7 m = (N : Int) * pprim p m := Rat.intCast_inj.mp e1
      have e4 : ∀ a, pr S G0 a m = (N : Int) * pr S G a m := fun a => by
        induction a with
        | zero => show (0 : Int) = (N : Int) * 0; omega
        | succ a iha =>
          rw [prd_s, prd_s, iha]
          by_cases q : a ≤ m
          · rw [if_pos q, if_pos q, hGG]; grind
          · rw [if_neg q, if_neg q]; grind
      rw [e4] at e3
      exact (Int.eq_of_mul_eq_mul_left hNi e3).symm
    refine ⟨G, d, Gz, Gd, ?_, Ge, prm, hSc⟩
    obtain ⟨e, e1, e2⟩ := pe_prod (ci G) d (ci S) s
    have hne : e (s + d) ≠ 0 := by
      rw [e1]
      intro w
      rcases Rat.mul_eq_zero.mp w with u | u
      · exact s1.1 (Rat.intCast_eq_zero_iff.mp u)
      · exact Gd (Rat.intCast_eq_zero_iff.mp u)
    have := pe_degu (c := e) (d := ci (pprim p)) (m := s + d) (n := g) (fun x => by
      rw [← e2, ← Ge, ← ev_deg S (show pdeg S + 1 = ((s + 1 : Nat) : Int) by omega), ← ev_deg (pprim p) (show pdeg (pprim p) + 1 = ((g + 1 : Nat) : Int) by omega), hP]) hne (fun w => g1.1 (Rat.intCast_eq_zero_iff.mp w))
    omega
