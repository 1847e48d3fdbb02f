/-! PLAIN LAW 40: Euclid's chain of any two polynomials: sizes, and what the model's common divisor needs -/
def gs (a b : Nat → Int) : Nat → (Nat → Int)
  | 0 => a
  | 1 => b
  | k + 2 => remF 7 (gs a b k) (gs a b (k + 1))
theorem gs_s (a b : Nat → Int) (k : Nat) : gs a b (k + 2) = remF 7 (gs a b k) (gs a b (k + 1)) := by rw [gs]
theorem gs_0 (a b : Nat → Int) : gs a b 0 = a := by rw [gs]
theorem gs_1 (a b : Nat → Int) : gs a b 1 = b := by rw [gs]
theorem gs_live {a b : Nat → Int} (ha : 0 ≤ pdeg a) : ∀ k, 0 ≤ pdeg (gs a b k) → ∀ j, j ≤ k → 0 ≤ pdeg (gs a b j) := by
  intro k
  induction k with
  | zero => intro h j hj; rw [show j = 0 by omega]; exact h
  | succ k ih =>
    intro h j hj
    by_cases e : j = k + 1
    · rw [e]; exact h
    · refine ih ?_ j (by omega)
      cases k with
      | zero => rw [gs_0]; exact ha
      | succ k =>
        refine Classical.byContradiction fun w => ?_
        rw [show k + 1 + 1 = k + 2 from rfl, gs_s] at h
        have := degU_le (p := remF 7 (gs a b k) (gs a b (k + 1))) (m := 0) 7 (fun k' _ hk => remF_z 6 (by omega) k' hk)
        have h2 : pdeg (remF 7 (gs a b k) (gs a b (k + 1))) < 0 := this
        omega
theorem gs_dec {a b : Nat → Int} {k : Nat} (h : 0 ≤ pdeg (gs a b (k + 1))) : pdeg (gs a b (k + 2)) < pdeg (gs a b (k + 1)) := by
  rw [gs_s]
  have h2 := pdeg_in (gs a b k)
  exact remF_deg 7 h (by omega)
theorem gs_dec2 {a b : Nat → Int} (ha : 0 ≤ pdeg a) (hba : pdeg b ≤ pdeg a) : ∀ i, 0 ≤ pdeg (gs a b i) → ∀ j, j ≤ i → pdeg (gs a b i) ≤ pdeg (gs a b j) := by
  intro i
  induction i with
  | zero => intro _ j h; rw [show j = 0 by omega]; exact Int.le_refl _
  | succ i ih =>
    intro h j hj
    by_cases e : j = i + 1
    · rw [e]; exact Int.le_refl _
    · have h1 := ih (gs_live ha _ h i (by omega)) j (by omega)
      cases i with
      | zero => rw [gs_1]; rw [gs_0] at h1; omega
      | succ i =>
        have := gs_dec (gs_live ha _ h (i + 1) (by omega))
        show pdeg (gs a b (i + 2)) ≤ _
        omega
theorem gs_prim {a b : Nat → Int} (ha : 0 ≤ pdeg a) (hba : pdeg b ≤ pdeg a) {k : Nat} (h : 0 ≤ pdeg (gs a b (k + 1))) : eq7 (pprim (gs a b (k + 2))) (gs a b (k + 2)) := by
  have h1 := gs_dec2 ha hba (k + 1) h k (by omega)
  rw [gs_s, remF_s h1]
  exact remF_isprim 6 (prim_idem _)
theorem gs_c {a b : Nat → Int} (ha : 0 ≤ pdeg a) (hba : pdeg b ≤ pdeg a) {k : Nat} (h : 0 ≤ pdeg (gs a b (k + 2))) : pcont (gs a b (k + 2)) = 1 := prim_cont (gs_prim ha hba (gs_live ha _ h (k + 1) (by omega))) h
theorem gs_el {a b : Nat → Int} {m n A B : Nat} (ha : pdeg a = (m : Int)) (hb : pdeg b = (n : Int)) (hnm : n ≤ m) (hA : ∀ k, k < 7 → (a k).natAbs ≤ A) (hB : ∀ k, k < 7 → (b k).natAbs ≤ B) {i e : Nat} (hi : 1 ≤ i) (hl : 0 ≤ pdeg (gs a b (i + 1))) (he : pdeg (gs a b i) = (e : Int)) : ∀ k, k < 7 → (gs a b (i + 1) k).natAbs ≤ ((n - e + 1) * A + (m - e + 1) * B) ^ (m + n - 2 * e + 2) := by
  have d0 : pdeg (gs a b 0) = (m : Int) := by rw [gs_0]; exact ha
  have d1 : pdeg (gs a b 1) = (n : Int) := by rw [gs_1]; exact hb
  have hba : pdeg b ≤ pdeg a := by omega
  have ha0 : 0 ≤ pdeg a := by omega
  have live := gs_live ha0 _ hl
  have hei := gs_dec2 ha0 hba i (live i (by omega)) 1 hi
  have h7 : e < 7 := by have := pdeg_in (gs a b i); omega
  obtain ⟨s, rfl⟩ : ∃ s, i = s + 1 := ⟨i - 1, by omega⟩
  have hdec := gs_dec (a := a) (b := b) (k := s) (live (s + 1) (by omega))
  have cutz : ∀ (q : Nat → Int) (g : Nat), pdeg q = (g : Int) → ∀ k, g < k → (fun k => if k < 7 then q k else 0) k = 0 := fun q g hg k hk => by
    show (if k < 7 then q k else 0) = 0
    by_cases c : k < 7
    · rw [if_pos c]; exact degU_hi q 7 k (by show pdeg q < _; omega) c
    · rw [if_neg c]
  have cutl : ∀ (q : Nat → Int) (B : Nat), (∀ k, k < 7 → (q k).natAbs ≤ B) → ∀ k, ((fun k => if k < 7 then q k else 0) k).natAbs ≤ B := fun q B hB k => by
    show (if k < 7 then q k else 0).natAbs ≤ B
    by_cases c : k < 7
    · rw [if_pos c]; exact hB k c
    · rw [if_neg c, Int.natAbs_zero]; exact Nat.zero_le _
  refine el_le (m := m) (n := n) (e := e) (A := A) (B := B) (cutz (gs a b 0) m d0) (cutz (gs a b 1) n d1) (cutl (gs a b 0) A (fun k hk => ?_)) (cutl (gs a b 1) B (fun k hk => ?_)) (i := s + 1) (r := fun k => ev (gs a b k)) (D := fun k => (pdeg (gs a b k)).toNat) (fun k hk => ?_) (fun k hk => ?_) (fun x => ev_pe d0 (Nat.lt_succ_self m) x) (fun x => ev_pe d1 (Nat.lt_succ_self _) x) ?_ ?_ (by omega) (fun k hk => ?_) (fun x => rfl) hl (by show pdeg (gs a b (s + 2)) < _; omega) (gs_c ha0 hba hl) (by omega)
  · rw [gs_0]; exact hA k hk
  · rw [gs_1]; exact hB k hk
  · have := live k (by omega)
    exact ev_hdeg (by omega)
  · have := gs_dec2 ha0 hba (s + 1) (live (s + 1) (by omega)) k hk
    show (pdeg (gs a b (s + 1))).toNat ≤ (pdeg (gs a b k)).toNat
    omega
  · show (pdeg (gs a b 0)).toNat = m
    omega
  · show (pdeg (gs a b (s + 1))).toNat = e
    omega
  · obtain ⟨Q, α, β, h1, h2, h3, h4⟩ := ev_rem 7 (gs a b k) (gs a b (k + 1)) (live (k + 1) (by omega))
    refine ⟨Q, α, β, h1, by grind, by grind, fun x => ?_⟩
    show α * ev (gs a b k) x = Q x * ev (gs a b (k + 1)) x + β * ev (gs a b (k + 2)) x
    rw [gs_s]; exact h4 x
theorem fitC_gs (a b : Nat → Int) : ∀ (n k : Nat), (∀ j, k ≤ j → 0 ≤ pdeg (gs a b (j + 1)) → fitR 7 (gs a b j) (gs a b (j + 1))) → fitC n (gs a b k) (gs a b (k + 1)) := by
  intro n
  induction n with
  | zero => intro k _; trivial
  | succ n ih =>
    intro k h hd
    refine ⟨h k (Nat.le_refl k) hd, ?_⟩
    rw [← gs_s]
    exact ih (k + 1) (fun j hj => h j (by omega))
/-- a polynomial and its derivative: what follows an element of degree e -/
theorem gs_drv {p : Nat → Int} (hb : bq p) {d : Nat} (hd : pdeg p = (d : Int)) (h1 : 1 ≤ d) {i e : Nat} (hi : 1 ≤ i) (hl : 0 ≤ pdeg (gs p (drv p) (i + 1))) (he : pdeg (gs p (drv p) i) = (e : Int)) : ∀ k, k < 7 → (gs p (drv p) (i + 1) k).natAbs ≤ gB e := by
  have hA := hb d hd
  have d1 := drv_deg hd
  have d6 : d < 7 := by have := pdeg_in p; omega
  have ha0 : 0 ≤ pdeg p := by omega
  have hba : pdeg (drv p) ≤ pdeg p := by omega
  intro k hk
  obtain ⟨s, rfl⟩ : ∃ s, i = s + 1 := ⟨i - 1, by omega⟩
  have hdec := gs_dec (a := p) (b := drv p) (k := s) (gs_live ha0 _ hl (s + 1) (by omega))
  have hei := gs_dec2 ha0 hba (s + 1) (gs_live ha0 _ hl (s + 1) (by omega)) 1 (by omega)
  rw [gs_1] at hei
  by_cases z : pdeg (gs p (drv p) (s + 2)) = 0
  · exact Nat.le_trans (prim_c (gs_c ha0 hba hl) z k hk) (gB_1 e)
  · have hl' : 0 ≤ pdeg (gs p (drv p) (s + 2)) := hl
    have := gs_el (m := d) (n := d - 1) hd (by omega) (by omega) hA (fun k _ => drv_le hd hA k) hi hl he k hk
    exact Nat.le_trans this (gB_num d e (by omega) (by omega) (by omega))
theorem fitG_drv {p : Nat → Int} (hb : bq p) (h0 : 0 ≤ pdeg p) : fitG p (drv p) := by
  obtain ⟨d, hd⟩ := Int.eq_ofNat_of_zero_le h0
  have hA := hb d hd
  have d1 := drv_deg hd
  have d6 : d < 7 := by have := pdeg_in p; omega
  have two : ∀ x : Nat, x ≤ 1000 → 2 ^ x < 2 ^ 1535 := fun x hx => Nat.pow_lt_pow_right (by decide) (by omega)
  unfold fitG
  rw [if_neg (by omega)]
  have key := fitC_gs p (drv p) 8 0
  rw [gs_0, gs_1] at key
  refine key (fun j _ hj => ?_)
  by_cases z : d = 0
  · exfalso
    have := gs_live (a := p) (b := drv p) h0 _ hj 1 (by omega)
    rw [gs_1] at this
    omega
  · have hba : pdeg (drv p) ≤ pdeg p := by omega
    have live := gs_live (a := p) (b := drv p) h0 _ hj
    cases j with
    | zero =>
      rw [gs_0, gs_1]
      refine fitR_of (B := 2 ^ 24) (Nat.pow_pos (by decide)) (fun k _ => drv_21 hb hd k) (by omega) 7 2 (2 ^ 21) p (fun k hk => Nat.le_trans (hA k hk) (pB_l d)) (by omega) ?_
      rw [show 2 ^ 21 * (2 * 2 ^ 24) ^ 2 = 2 ^ 71 by decide]
      exact two _ (by omega)
    | succ j =>
      obtain ⟨e, he⟩ := Int.eq_ofNat_of_zero_le (live (j + 1) (by omega))
      have e6 := gs_dec2 h0 hba (j + 1) (live (j + 1) (by omega)) 1 (by omega)
      rw [gs_1] at e6
      have dc := gs_dec (live (j + 1) (by omega))
      have hjn : 0 ≤ pdeg (gs p (drv p) (j + 2)) := hj
      have szA : ∀ k, k < 7 → (gs p (drv p) (j + 1) k).natAbs ≤ bB e := by
        intro k hk
        cases j with
        | zero =>
          rw [gs_1]
          rw [gs_1] at he
          have h1 := drv_le hd hA k
          exact Nat.le_trans h1 (Nat.le_trans (gB_drv d (by omega) (by omega)) (gB_bB e d (by omega) (by omega) (by omega)))
        | succ j =>
          obtain ⟨e', he'⟩ := Int.eq_ofNat_of_zero_le (live (j + 1) (by omega))
          have h1 := gs_drv hb hd (by omega) (i := j + 1) (by omega) (live (j + 2) (by omega)) he' k hk
          have e2 := gs_dec2 h0 hba (j + 1) (live (j + 1) (by omega)) 1 (by omega)
          rw [gs_1] at e2
          have d2 : pdeg (gs p (drv p) (j + 1 + 1)) < pdeg (gs p (drv p) (j + 1)) := gs_dec (live (j + 1) (by omega))
          exact Nat.le_trans h1 (gB_bB e e' (by omega) (by omega) (by omega))
      exact fitR_of (B := gB e) (gB_1 e) (gs_drv hb hd (by omega) (by omega) hj he) hj 7 (e + 1) (bB e) _ szA (by omega) (Nat.lt_of_le_of_lt (pw_l e (e + 1)) (two _ (lBG e (e + 1) (by omega) (Nat.le_refl _))))
