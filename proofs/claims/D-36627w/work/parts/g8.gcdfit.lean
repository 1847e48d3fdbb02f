/-! PLAIN LAW 53: the common divisor of two slots fits -/
def lQ : Nat → Nat
  | 1 => 167
  | 2 => 131
  | 3 => 96
  | 4 => 62
  | 5 => 29
  | _ => 14
def lH : Nat → Nat
  | 2 => 167
  | 3 => 131
  | 4 => 96
  | 5 => 62
  | 6 => 29
  | _ => 14
theorem gcd_num : ∀ m, m < 7 → ∀ n, n < m + 1 → ∀ e, e < n + 1 → 2 ≤ e → ((n - e + 1) * 9999 + (m - e + 1) * 9999) ^ (m + n - 2 * e + 2) ≤ 2 ^ lH e := by decide +kernel
theorem lH_14 (e : Nat) : 14 ≤ lH e := by unfold lH; split <;> omega
theorem lQ_14 (e : Nat) : 14 ≤ lQ e := by unfold lQ; split <;> omega
theorem lH_lQ : ∀ e, e < 7 → ∀ g, g < e → 1 ≤ g → lH e ≤ lQ g := by decide
theorem le_p {x l : Nat} (h : x ≤ 9999) (hl : 14 ≤ l) : x ≤ 2 ^ l := Nat.le_trans h (Nat.le_trans (show 9999 ≤ 2 ^ 14 by decide) (Nat.pow_le_pow_right (by decide) hl))
theorem gs_h {a b : Nat → Int} (ha : 0 ≤ pdeg a) (hb : 0 ≤ pdeg b) (hba : pdeg b ≤ pdeg a) (hA : ∀ k, k < 7 → (a k).natAbs ≤ 9999) (hB : ∀ k, k < 7 → (b k).natAbs ≤ 9999) {i e : Nat} (hl : 0 ≤ pdeg (gs a b (i + 1))) (he : pdeg (gs a b i) = (e : Int)) : ∀ k, k < 7 → (gs a b (i + 1) k).natAbs ≤ 2 ^ lH e := by
  intro k hk
  cases i with
  | zero => rw [gs_1]; exact le_p (hB k hk) (lH_14 e)
  | succ i =>
    by_cases z : pdeg (gs a b (i + 2)) = 0
    · exact Nat.le_trans (prim_c (gs_c ha hba hl) z k hk) (Nat.pow_pos (by decide))
    · obtain ⟨m, hm⟩ := Int.eq_ofNat_of_zero_le ha
      obtain ⟨n, hn⟩ := Int.eq_ofNat_of_zero_le hb
      have m7 := pdeg_in a
      have hdec := gs_dec (a := a) (b := b) (k := i) (gs_live ha _ hl (i + 1) (by omega))
      have hei := gs_dec2 ha hba (i + 1) (gs_live ha _ hl (i + 1) (by omega)) 1 (by omega)
      rw [gs_1] at hei
      have hl' : 0 ≤ pdeg (gs a b (i + 2)) := hl
      exact Nat.le_trans (gs_el hm hn (by omega) hA hB (by omega) hl he k hk) (gcd_num m (by omega) n (by omega) e (by omega) (by omega))
theorem gs_q {a b : Nat → Int} (ha : 0 ≤ pdeg a) (hb : 0 ≤ pdeg b) (hba : pdeg b ≤ pdeg a) (hA : ∀ k, k < 7 → (a k).natAbs ≤ 9999) (hB : ∀ k, k < 7 → (b k).natAbs ≤ 9999) {i g : Nat} (hg : pdeg (gs a b i) = (g : Int)) : ∀ k, k < 7 → (gs a b i k).natAbs ≤ 2 ^ lQ g := by
  intro k hk
  match i with
  | 0 => rw [gs_0]; exact le_p (hA k hk) (lQ_14 g)
  | 1 => rw [gs_1]; exact le_p (hB k hk) (lQ_14 g)
  | i + 2 =>
    have hl : 0 ≤ pdeg (gs a b (i + 2)) := by omega
    by_cases z : g = 0
    · subst z
      exact Nat.le_trans (prim_c (gs_c ha hba hl) hg k hk) (Nat.pow_pos (by decide))
    · obtain ⟨e, he⟩ := Int.eq_ofNat_of_zero_le (gs_live ha _ hl (i + 1) (by omega))
      have hdec := gs_dec (a := a) (b := b) (k := i) (by omega)
      have e7 := pdeg_in (gs a b (i + 1))
      exact Nat.le_trans (gs_h ha hb hba hA hB hl he k hk) (Nat.pow_le_pow_right (by decide) (lH_lQ e (by omega) g (by omega) (by omega)))
theorem lQH0 : ∀ e, e < 7 → ∀ t, t < e + 3 → lQ e + (lH e + 1) * t ≤ 1000 := by decide
theorem pw_q (e t : Nat) : 2 ^ lQ e * (2 * 2 ^ lH e) ^ t = 2 ^ (lQ e + (lH e + 1) * t) := by
  rw [Nat.pow_add, Nat.pow_mul, show 2 * 2 ^ lH e = 2 ^ (lH e + 1) by rw [Nat.pow_succ]; omega]
theorem fitG_ab {a b : Nat → Int} (ha : 0 ≤ pdeg a) (hba : pdeg b ≤ pdeg a) (hA : ∀ k, k < 7 → (a k).natAbs ≤ 9999) (hB : ∀ k, k < 7 → (b k).natAbs ≤ 9999) : fitC 8 a b := by
  by_cases hb : 0 ≤ pdeg b
  · have key := fitC_gs a b 8 0
    rw [gs_0, gs_1] at key
    refine key (fun j _ hj => ?_)
    obtain ⟨e, he⟩ := Int.eq_ofNat_of_zero_le (gs_live ha _ hj j (by omega))
    have e7 := pdeg_in (gs a b j)
    exact fitR_of (B := 2 ^ lH e) (Nat.pow_pos (by decide)) (gs_h ha hb hba hA hB hj he) hj 7 (e + 1) (2 ^ lQ e) _ (gs_q ha hb hba hA hB he) (by omega) (by
      rw [pw_q]
      exact Nat.pow_lt_pow_right (by decide) (by have := lQH0 e (by omega) (e + 1) (by omega); omega))
  · exact fun h => absurd h hb
theorem fitG_sl {a b : Nat → Int} (hA : ∀ k, k < 7 → (a k).natAbs ≤ 9999) (hB : ∀ k, k < 7 → (b k).natAbs ≤ 9999) : fitG a b := by
  unfold fitG
  have h1 := pdeg_in a
  have h2 := pdeg_in b
  by_cases c : pdeg a < pdeg b
  · rw [if_pos c]; exact fitG_ab (by omega) (by omega) hB hA
  · rw [if_neg c]
    by_cases d : 0 ≤ pdeg a
    · exact fitG_ab d (by omega) hA hB
    · exact fun h => absurd h (by omega)
/-! the component's divisor -/
def mG : Nat → Nat
  | 2 => 6
  | 3 => 5
  | 4 => 4
  | 5 => 2
  | _ => 1
def nG (n m : Nat) : Nat := if n ≤ 7 then (lQ (n - 1) + (lH (n - 1) + 1) * (n + 1 - m)) / 32 + 1 else 1
theorem okT_g : okT nG mG := fun n m => by
  have h2 : mG m ≤ 6 := by unfold mG; split <;> omega
  have h1 : nG n m ≤ 30 := by
    unfold nG
    by_cases h : n ≤ 7
    · rw [if_pos h]
      have h2 : n = 0 ∨ n = 1 ∨ n = 2 ∨ n = 3 ∨ n = 4 ∨ n = 5 ∨ n = 6 ∨ n = 7 := by omega
      rcases h2 with rfl | rfl | rfl | rfl | rfl | rfl | rfl | rfl <;> simp only [lQ, lH, Nat.zero_sub, Nat.reduceSub, Nat.reduceAdd] <;> omega
    · rw [if_neg h]; omega
  omega
theorem mG_lt0 : ∀ g, g < 7 → lQ g < 32 * mG (g + 1) := by decide
theorem nG_lt {g m : Nat} (h : g ≤ 6) : 2 ^ lQ g * (2 * 2 ^ lH g) ^ (g + 1 + 1 - m) < 2 ^ (32 * nG (g + 1) m) := by
  rw [pw_q]
  refine Nat.pow_lt_pow_right (by decide) ?_
  unfold nG
  rw [if_pos (by omega), show g + 1 - 1 = g by omega]
  omega
/-- the component's remainders by turns are proportional to the chain -/
theorem dq_gs {P Q : Pl} {a b : Nat → Int} {s : Nat} (h1 : prp a (dq P Q s).2) (h2 : prp b (dq P Q (s + 1)).2) (n1 : nf (dq P Q s) ∧ (dq P Q s).1 ≤ 7) (n2 : nf (dq P Q (s + 1)) ∧ (dq P Q (s + 1)).1 ≤ 7) : ∀ k, (∀ j, 1 ≤ j → j < k → 0 < (dq P Q (s + j)).1) → prp (gs a b k) (dq P Q (s + k)).2 ∧ nf (dq P Q (s + k)) ∧ (dq P Q (s + k)).1 ≤ 7 ∧ (2 ≤ k → eq7 (pprim (dq P Q (s + k)).2) (dq P Q (s + k)).2) := by
  intro k
  induction k using Nat.strongRecOn with
  | _ k ih =>
    intro hp
    match k with
    | 0 => rw [gs_0]; exact ⟨h1, n1.1, n1.2, fun w => absurd w (by omega)⟩
    | 1 => rw [gs_1]; exact ⟨h2, n2.1, n2.2, fun w => absurd w (by omega)⟩
    | k + 2 =>
      obtain ⟨a1, a2, a3, _⟩ := ih k (by omega) (fun j hj hk => hp j hj (by omega))
      obtain ⟨b1, b2, b3, _⟩ := ih (k + 1) (by omega) (fun j hj hk => hp j hj (by omega))
      have l1 := hp (k + 1) (by omega) (by omega)
      obtain ⟨c1, c2, c3⟩ := cRem_f a2 b2 a3 l1 b3 (a := gs a b k) a1
      obtain ⟨p1, p2⟩ := cPrim_f (P := cRem (dq P Q (s + k)) (dq P Q (s + (k + 1)))) c2 (by omega)
      have e3 : prp (remF 7 (gs a b k) (gs a b (k + 1))) (cRem (dq P Q (s + k)) (dq P Q (s + (k + 1)))).2 := (remF_prp 7 (eq7.rfl' (p := pprim (gs a b k))) b1).trans c1
      rw [gs_s]
      refine ⟨e3.trans ((prp_prim _).symm.trans (prp_eq p1.symm)), cPrim_nf c2, ?_, fun _ => ?_⟩
      · show (cPrim (cRem (dq P Q (s + k)) (dq P Q (s + (k + 1))))).1 ≤ 7
        omega
      · exact (eq7.prim p1).trans ((prim_idem _).trans p1.symm)
theorem dq_fit {P Q : Pl} {a b : Nat → Int} {s : Nat} (ha : 0 ≤ pdeg a) (hb : 0 ≤ pdeg b) (hba : pdeg b ≤ pdeg a) (hA : ∀ k, k < 7 → (a k).natAbs ≤ 9999) (hB : ∀ k, k < 7 → (b k).natAbs ≤ 9999) (h1 : prp a (dq P Q s).2) (h2 : prp b (dq P Q (s + 1)).2) (n1 : nf (dq P Q s) ∧ (dq P Q s).1 ≤ 7) (n2 : nf (dq P Q (s + 1)) ∧ (dq P Q (s + 1)).1 ≤ 7) (z1 : ∀ k, ((dq P Q s).2 k).natAbs ≤ 9999) (z2 : ∀ k, ((dq P Q (s + 1)).2 k).natAbs ≤ 9999) : ∀ k, (∀ j, j ≤ k → 0 < (dq P Q (s + (j + 1))).1) → fitS (dq P Q (s + k)) (dq P Q (s + (k + 1))) (nG (dq P Q (s + k)).1 (dq P Q (s + (k + 1))).1) ∧ ∀ j, (((dq P Q (s + (k + 1))).2 j).natAbs : Int) < 2 ^ (32 * mG (dq P Q (s + (k + 1))).1) := by
  intro k hk
  obtain ⟨a1, a2, a3, a4⟩ := dq_gs h1 h2 n1 n2 k (fun j hj hl => by have := hk (j - 1) (by omega); rwa [show j - 1 + 1 = j by omega] at this)
  obtain ⟨b1, b2, b3, b4⟩ := dq_gs h1 h2 n1 n2 (k + 1) (fun j hj hl => by have := hk (j - 1) (by omega); rwa [show j - 1 + 1 = j by omega] at this)
  have pl := hk k (Nat.le_refl k)
  have eb := b2.deg b3
  have ea := a2.deg a3
  have db := b1.deg
  have da := a1.deg
  have live : 0 ≤ pdeg (gs a b (k + 1)) := by omega
  have livek := gs_live ha _ live k (by omega)
  -- the component's elements are no greater
  have le : ∀ (i X : Nat), 9999 ≤ X → (∀ j, j < 7 → (gs a b i j).natAbs ≤ X) → prp (gs a b i) (dq P Q (s + i)).2 → nf (dq P Q (s + i)) → (dq P Q (s + i)).1 ≤ 7 → (2 ≤ i → eq7 (pprim (dq P Q (s + i)).2) (dq P Q (s + i)).2) → ∀ j, ((dq P Q (s + i)).2 j).natAbs ≤ X := fun i X hX hg hp hn h7 hpr j => by
    match i with
    | 0 => exact Nat.le_trans (z1 j) hX
    | 1 => exact Nat.le_trans (z2 j) hX
    | i + 2 =>
      by_cases c : j < 7
      · rw [← hpr (by omega) j c, ← hp j c]
        exact Nat.le_trans (pprim_le _ j) (hg j c)
      · rw [hn.2 j (by omega), Int.natAbs_zero]; exact Nat.zero_le _
  obtain ⟨e, he⟩ := Int.eq_ofNat_of_zero_le livek
  obtain ⟨g, hg⟩ := Int.eq_ofNat_of_zero_le live
  have e7 := pdeg_in (gs a b k)
  have g7 := pdeg_in (gs a b (k + 1))
  have le1 : (dq P Q (s + k)).1 = e + 1 := by omega
  have le2 : (dq P Q (s + (k + 1))).1 = g + 1 := by omega
  have p9 : ∀ l, 14 ≤ l → 9999 ≤ 2 ^ l := fun l hl => le_p (Nat.le_refl 9999) hl
  have zA := le k (2 ^ lQ e) (p9 _ (lQ_14 e)) (gs_q ha hb hba hA hB he) a1 a2 a3 a4
  have zB := le (k + 1) (2 ^ lH e) (p9 _ (lH_14 e)) (gs_h ha hb hba hA hB live he) b1 b2 b3 b4
  have zC := le (k + 1) (2 ^ lQ g) (p9 _ (lQ_14 g)) (gs_q ha hb hba hA hB hg) b1 b2 b3 b4
  refine ⟨fitS_of zA zB (Nat.pow_pos (by decide)) pl ?_, fun j => pow_i (Nat.lt_of_le_of_lt (zC j) ?_)⟩
  · rw [le1, le2]
    exact nG_lt (by omega)
  · rw [le2]
    exact Nat.pow_lt_pow_right (by decide) (mG_lt0 g (by omega))
theorem mG_1 (n : Nat) : 1 ≤ mG n := by unfold mG; split <;> omega
theorem small_fit {x N : Nat} (h : x ≤ 9999) (hN : 1 ≤ N) : (x : Int) < 2 ^ (32 * N) := pow_i (Nat.lt_of_le_of_lt h (Nat.lt_of_lt_of_le (show 9999 < 2 ^ 32 by decide) (Nat.pow_le_pow_right (by decide) (by omega))))
theorem gcd_fit {P Q : Pl} (nP : nf P) (nQ : nf Q) (hP : okP P) (hQ : okP Q) : fitD P Q nG mG := by
  have dP := nP.deg hP.1
  have dQ := nQ.deg hQ.1
  refine ⟨fun j => small_fit (hP.2 j) (mG_1 _), fun k hk => ?_⟩
  have q0 : 0 < Q.1 := hk 0 (Nat.zero_le k)
  by_cases c : Q.1 ≤ P.1
  · have := dq_fit (P := P) (Q := Q) (a := P.2) (b := Q.2) (s := 0) (by omega) (by omega) (by omega) (fun k _ => hP.2 k) (fun k _ => hQ.2 k) (eq7.rfl' (p := pprim P.2)) (eq7.rfl' (p := pprim Q.2)) ⟨nP, hP.1⟩ ⟨nQ, hQ.1⟩ hP.2 hQ.2 k (fun j hj => by rw [Nat.zero_add]; exact hk j hj)
    rw [Nat.zero_add, Nat.zero_add] at this
    exact this
  · -- the first remainder is P itself
    have r0 : cRem P Q = P := by
      unfold cRem
      show (if P.1 < Q.1 then P else rmF P.1 (rmS P Q) Q) = P
      rw [if_pos (by omega)]
    cases k with
    | zero =>
      refine ⟨fun j hj k => ?_, fun j => small_fit (hQ.2 j) (mG_1 _)⟩
      have j0 : j = 0 := by
        refine Classical.byContradiction fun w => ?_
        have h1 : Q.1 ≤ P.1 := hj 0 (by omega)
        omega
      subst j0
      exact small_fit (hP.2 k) (by unfold nG; split <;> omega)
    | succ k =>
      have e2 : dq P Q 2 = cPrim P := by show cPrim (cRem P Q) = cPrim P; rw [r0]
      obtain ⟨p1, p2⟩ := cPrim_f nP hP.1
      have pl := hk 1 (by omega)
      have pl2 : 0 < (cPrim P).1 := by rw [← e2]; exact pl
      have nC := cPrim_nf nP
      have zC : ∀ k, ((cPrim P).2 k).natAbs ≤ 9999 := fun k => by
        by_cases c7 : k < 7
        · rw [p1 k c7]; exact Nat.le_trans (pprim_le _ k) (hP.2 k)
        · rw [nC.2 k (by have := hP.1; omega), Int.natAbs_zero]; exact Nat.zero_le _
      have := dq_fit (P := P) (Q := Q) (a := Q.2) (b := P.2) (s := 1) (by omega) (by omega) (by omega) (fun k _ => hQ.2 k) (fun k _ => hP.2 k) (eq7.rfl' (p := pprim Q.2)) (by
        show prp P.2 (dq P Q 2).2
        rw [e2]
        exact (prp_prim _).symm.trans (prp_eq p1.symm)) ⟨nQ, hQ.1⟩ (by show nf (dq P Q 2) ∧ (dq P Q 2).1 ≤ 7; rw [e2]; exact ⟨nC, by have := hP.1; omega⟩) hQ.2 (by show ∀ k, ((dq P Q 2).2 k).natAbs ≤ 9999; rw [e2]; exact zC) k (fun j hj => by rw [show 1 + (j + 1) = j + 1 + 1 by omega]; exact hk (j + 1) (by omega))
      rw [show 1 + k = k + 1 by omega, show 1 + (k + 1) = k + 1 + 1 by omega] at this
      exact this
theorem dv_le : ∀ n, n < 8 → ∀ m, m < 8 → dvC nG mG 9 n m ≤ 1946 ∧ dvL nG mG 9 n m ≤ 13156 := by decide +kernel
