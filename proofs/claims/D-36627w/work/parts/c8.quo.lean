/-! PLAIN LAW 17: the component's exact quotient -/
theorem top_ex (G : Nat → Int) : ∀ n, (∀ k, k < n → G k = 0) ∨ ∃ t, t < n ∧ G t ≠ 0 ∧ ∀ k, t < k → k < n → G k = 0 := by
  intro n
  induction n with
  | zero => exact Or.inl (fun k hk => absurd hk (Nat.not_lt_zero k))
  | succ n ih =>
    by_cases c : G n = 0
    · rcases ih with w | ⟨t, t1, t2, t3⟩
      · exact Or.inl (fun k hk => by
          by_cases e : k = n
          · rw [e]; exact c
          · exact w k (by omega))
      · exact Or.inr ⟨t, by omega, t2, fun k k1 k2 => by
          by_cases e : k = n
          · rw [e]; exact c
          · exact t3 k k1 (by omega)⟩
    · exact Or.inr ⟨n, by omega, c, fun k _ _ => by omega⟩
/-- R is B times Gr -/
def isPr (R B : Pl) (Gr : Nat → Int) (d : Nat) : Prop := nf R ∧ nf B ∧ R.1 ≤ 7 ∧ 0 < B.1 ∧ B.1 + d ≤ 7 ∧ (∀ k, d < k → Gr k = 0) ∧ ∀ m, m < 7 → R.2 m = pr B.2 Gr 7 m
theorem isPr.top {R B : Pl} {Gr : Nat → Int} {d : Nat} (h : isPr R B Gr d) : (R.1 = 0 ∧ ∀ k, Gr k = 0) ∨ ∃ t, t ≤ d ∧ Gr t ≠ 0 ∧ (∀ k, t < k → Gr k = 0) ∧ R.1 = B.1 + t ∧ R.2 (R.1 - 1) = B.2 (B.1 - 1) * Gr t := by
  obtain ⟨nR, nB, h7, hB, hd, hz, he⟩ := h
  have bl := nB.1.resolve_left (by omega)
  rcases top_ex Gr (d + 1) with w | ⟨t, t1, t2, t3⟩
  · left
    have hz2 : ∀ k, Gr k = 0 := fun k => by
      by_cases c : k < d + 1
      · exact w k c
      · exact hz k (by omega)
    refine ⟨?_, hz2⟩
    rcases nR.1 with e | e
    · exact e
    · refine absurd ?_ e
      by_cases c : R.1 - 1 < 7
      · rw [he _ c]; exact pr_none 7 (fun i _ _ => by rw [hz2, Int.mul_zero])
      · exact nR.2 _ (by omega)
  · right
    have t3' : ∀ k, t < k → Gr k = 0 := fun k hk => by
      by_cases c : k < d + 1
      · exact t3 k hk c
      · exact hz k (by omega)
    have e1 : R.2 (B.1 - 1 + t) = B.2 (B.1 - 1) * Gr t := by
      rw [he _ (by omega), pr_single (i0 := B.1 - 1) (by omega) 7 (by omega) (fun i hi hi2 hne => ?_), show B.1 - 1 + t - (B.1 - 1) = t by omega]
      by_cases c : i < B.1 - 1
      · rw [t3' (B.1 - 1 + t - i) (by omega), Int.mul_zero]
      · rw [nB.2 i (by omega), Int.zero_mul]
    have e2 : R.2 (B.1 - 1 + t) ≠ 0 := by rw [e1]; exact Int.mul_ne_zero bl t2
    have e3 : ∀ m, B.1 - 1 + t < m → R.2 m = 0 := fun m hm => by
      by_cases c : m < 7
      · rw [he m c]
        refine pr_none 7 (fun i _ hi2 => ?_)
        by_cases c2 : i ≤ B.1 - 1
        · rw [t3' (m - i) (by omega), Int.mul_zero]
        · rw [nB.2 i (by omega), Int.zero_mul]
      · exact nR.2 m (by omega)
    have e4 : ¬ R.1 ≤ B.1 - 1 + t := fun w => e2 (nR.2 _ w)
    have e5 : R.1 = B.1 + t := by
      rcases nR.1 with e | e
      · omega
      · have : ¬ B.1 - 1 + t < R.1 - 1 := fun w => e (e3 _ w)
        omega
    exact ⟨t, by omega, t2, t3', e5, by rw [show R.1 - 1 = B.1 - 1 + t by omega]; exact e1⟩
theorem isPr.step {R B : Pl} {Gr : Nat → Int} {d : Nat} (h : isPr R B Gr d) (hle : B.1 ≤ R.1) : qut R B = Gr (R.1 - B.1) ∧ R.1 - B.1 ≤ d ∧ isPr (quS R B) B (va_up Gr (R.1 - B.1) 0) d := by
  have ht := h.top
  have hh := h
  obtain ⟨nR, nB, h7, hB, hd, hz, he⟩ := h
  rcases ht with ⟨w, _⟩ | ⟨t, t1, t2, t3, t4, t5⟩
  · omega
  · rw [show R.1 - B.1 = t by omega]
    have q1 : qut R B = Gr t := by
      unfold qut
      rw [t5]
      exact Int.mul_tdiv_cancel_left _ (nB.1.resolve_left (by omega))
    refine ⟨q1, t1, nf_mk _ _, nB, ?_, hB, hd, fun k hk => ?_, fun m hm => ?_⟩
    · have : (quS R B).1 ≤ R.1 - 1 := mk_le _ _
      omega
    · by_cases c : k = t
      · rw [c, va_upj]
      · rw [va_upn _ _ c]; exact hz k hk
    · show cut (R.1 - 1) (quc R B) m = _
      rw [pr_up, ← he m hm]
      have bz : ∀ k, B.1 ≤ k → B.2 k = 0 := nB.2
      unfold cut
      by_cases c : m < R.1 - 1
      · rw [if_pos c]
        unfold quc
        rw [q1, show R.1 - B.1 = t by omega]
        by_cases e : m < t
        · rw [if_pos e, if_neg (show ¬ (t ≤ m ∧ m - t < 7) by omega)]; omega
        · rw [if_neg e, if_pos (show t ≤ m ∧ m - t < 7 by omega)]
      · rw [if_neg c]
        by_cases e : m = R.1 - 1
        · rw [if_pos (show t ≤ m ∧ m - t < 7 by omega), e, t5, show R.1 - 1 - t = B.1 - 1 by omega]; omega
        · rw [nR.2 m (by omega)]
          by_cases e2 : t ≤ m ∧ m - t < 7
          · rw [if_pos e2, bz (m - t) (by omega)]; omega
          · rw [if_neg e2]; rfl
theorem qF_ex {B : Pl} {G : Nat → Int} {d : Nat} : ∀ (f : Nat) (R : Pl) (r Gr : Nat → Int), isPr R B Gr d → R.1 < f → (∀ k, (Gr k = G k ∧ r k = 0) ∨ (Gr k = 0 ∧ r k = G k)) → ∀ k, qF f R B r k = G k := by
  intro f
  induction f with
  | zero => intro R r Gr _ h; omega
  | succ f ih =>
    intro R r Gr hP hf hr k
    show (if R.1 < B.1 then r else qF f (quS R B) B (va_up r (R.1 - B.1) (qut R B))) k = _
    by_cases c : R.1 < B.1
    · rw [if_pos c]
      have hz : ∀ k, Gr k = 0 := by
        rcases hP.top with ⟨_, w⟩ | ⟨t, _, _, _, t4, _⟩
        · exact w
        · omega
      rcases hr k with ⟨a, b⟩ | ⟨_, b⟩
      · rw [b, ← a, hz k]
      · exact b
    · rw [if_neg c]
      obtain ⟨s1, s2, s3⟩ := hP.step (by omega)
      have hB := hP.2.2.2.1
      have hl : (quS R B).1 ≤ R.1 - 1 := mk_le _ _
      refine ih (quS R B) _ (va_up Gr (R.1 - B.1) 0) s3 (by omega) (fun j => ?_) k
      by_cases e : j = R.1 - B.1
      · right
        rw [e, va_upj, va_upj]
        refine ⟨rfl, ?_⟩
        rw [s1]
        rcases hr (R.1 - B.1) with ⟨a, _⟩ | ⟨a, _⟩
        · exact a
        · exfalso
          rcases hP.top with ⟨w, _⟩ | ⟨t, _, t2, _, t4, _⟩
          · omega
          · exact t2 (by rw [← show R.1 - B.1 = t by omega]; exact a)
      · rw [va_upn _ _ e, va_upn _ _ e]; exact hr j
/-- what is left on the way: the product with a part of the quotient -/
theorem qs_ex {P B : Pl} {G : Nat → Int} {d : Nat} (hP : isPr P B G d) : ∀ j, (∀ i, i < j → B.1 ≤ (qs P B i).1) → ∃ Gr, isPr (qs P B j) B Gr d ∧ ∀ k, Gr k = G k ∨ Gr k = 0 := by
  intro j
  induction j with
  | zero => intro _; exact ⟨G, hP, fun k => Or.inl rfl⟩
  | succ j ih =>
    intro h
    obtain ⟨Gr, g1, g2⟩ := ih (fun i hi => h i (by omega))
    obtain ⟨_, _, s3⟩ := g1.step (h j (by omega))
    exact ⟨_, s3, fun k => by
      by_cases e : k = (qs P B j).1 - B.1
      · rw [e, va_upj]; exact Or.inr rfl
      · rw [va_upn _ _ e]; exact g2 k⟩
theorem cQuo_ex {P B : Pl} {G : Nat → Int} {d : Nat} (hP : isPr P B G d) (hG : G d ≠ 0) : (∀ k, (cQuo P B).2 k = G k) ∧ (cQuo P B).1 = d + 1 ∧ nf (cQuo P B) := by
  have key := qF_ex (G := G) (P.1 + 1) P (fun _ => 0) G hP (Nat.lt_succ_self _) (fun k => Or.inl ⟨rfl, rfl⟩)
  have hl : P.1 = B.1 + d := by
    rcases hP.top with ⟨_, w⟩ | ⟨t, t1, t2, t3, t4, _⟩
    · exact absurd (w d) hG
    · by_cases e : t = d
      · omega
      · exact absurd (t3 d (by omega)) hG
  have hz := hP.2.2.2.2.2.1
  have h2 : ∀ k, (cQuo P B).2 k = G k := fun k => by
    show cut (P.1 - B.1 + 1) _ k = _
    unfold cut
    by_cases c : k < P.1 - B.1 + 1
    · rw [if_pos c]; exact key k
    · rw [if_neg c, hz k (by omega)]
  refine ⟨h2, ?_, nf_mk _ _⟩
  have h3 : (cQuo P B).1 ≤ P.1 - B.1 + 1 := mk_le _ _
  have h4 : ¬ (cQuo P B).1 ≤ d := fun w => hG (by rw [← h2]; exact (nf_mk _ _ : nf (cQuo P B)).2 d w)
  omega
