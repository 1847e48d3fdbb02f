/-! PLAIN LAW 12: the component's polynomials beside the model's -/
theorem pdeg_is {p : Nat → Int} {g : Nat} (h7 : g < 7) (h1 : p g ≠ 0) (h2 : ∀ k, g < k → k < 7 → p k = 0) : pdeg p = (g : Int) := by
  have e1 : pdeg p < ((g + 1 : Nat) : Int) := degU_le 7 (fun j a b => h2 j (by omega) b)
  have e2 : ¬ pdeg p < (g : Int) := fun e => h1 (degU_hi p 7 g e h7)
  omega
theorem nf.deg {P : Pl} (h : nf P) (h7 : P.1 ≤ 7) : pdeg P.2 = (P.1 : Int) - 1 := by
  by_cases e : P.1 = 0
  · have : pdeg P.2 = -1 := degU_z (fun j _ => h.2 j (by omega))
    omega
  · have := pdeg_is (g := P.1 - 1) (by omega) (h.1.resolve_left e) (fun k h1 _ => h.2 k (by omega))
    omega
theorem mk_le (n : Nat) (c : Nat → Int) : (mkP n c).1 ≤ n := pl_le c n
theorem cg_pg (c : Nat → Int) : ∀ n, cg c n = pg c n := by
  intro n
  induction n with
  | zero => rfl
  | succ n ih => show Nat.gcd (cg c n) _ = Nat.gcd (pg c n) _; rw [ih]
theorem pg_ext {p : Nat → Int} {n : Nat} : ∀ m, n ≤ m → (∀ k, n ≤ k → k < m → p k = 0) → pg p m = pg p n := by
  intro m
  induction m with
  | zero => intro h _; rw [show n = 0 by omega]
  | succ m ih =>
    intro h hz
    by_cases e : n = m + 1
    · rw [e]
    · show Nat.gcd (pg p m) (p m).natAbs = _
      rw [hz m (by omega) (by omega), ih (by omega) (fun k a b => hz k a (by omega))]
      exact Nat.gcd_zero_right _
theorem cPrim_f {P : Pl} (h : nf P) (h7 : P.1 ≤ 7) : eq7 (cPrim P).2 (pprim P.2) ∧ (cPrim P).1 ≤ P.1 := by
  have hc : cg P.2 P.1 = pcont P.2 := (cg_pg P.2 P.1).trans (pg_ext 7 h7 (fun k a _ => h.2 k a)).symm
  unfold cPrim
  rw [hc]
  by_cases e : pcont P.2 = 1 ∨ pcont P.2 = 0
  · rw [if_pos e]
    refine ⟨fun k _ => ?_, Nat.le_refl _⟩
    unfold pprim
    rw [if_pos (by omega)]
  · rw [if_neg e]
    refine ⟨fun k _ => ?_, mk_le _ _⟩
    have e2 : pprim P.2 k = (P.2 k).tdiv (pcont P.2 : Int) := if_neg (show ¬ pcont P.2 < 2 by omega)
    rw [e2]
    show cut P.1 (fun k => (P.2 k).tdiv (pcont P.2 : Int)) k = _
    by_cases c : k < P.1
    · exact cut_lt c
    · rw [cut_ge (by omega), h.2 k (by omega)]; exact (Int.zero_tdiv _).symm
theorem cNeg_f {P : Pl} (h : nf P) : (∀ k, (cNeg P).2 k = -P.2 k) ∧ (cNeg P).1 ≤ P.1 := by
  refine ⟨fun k => ?_, mk_le _ _⟩
  show cut P.1 (fun k => -P.2 k) k = -P.2 k
  unfold cut
  by_cases c : k < P.1
  · rw [if_pos c]
  · rw [if_neg c, h.2 k (by omega)]; rfl
theorem cDer_f {P : Pl} (h : nf P) (h7 : P.1 ≤ 7) : eq7 (cDer P).2 (drv P.2) ∧ (cDer P).1 ≤ P.1 - 1 := by
  refine ⟨fun k hk => ?_, mk_le _ _⟩
  show cut (P.1 - 1) (fun k => P.2 (k + 1) * ((k : Int) + 1)) k = drv P.2 k
  unfold cut drv
  by_cases c : k < P.1 - 1
  · rw [if_pos c]
    by_cases d : k + 1 < 7
    · rw [if_pos d, Int.mul_comm]
    · rw [if_neg d]
      exact absurd c (by omega)
  · rw [if_neg c, h.2 (k + 1) (by omega)]
    split <;> simp
theorem rmS_f {R B : Pl} (hR : nf R) (hB : nf B) (h7 : R.1 ≤ 7) (h0 : 0 < B.1) (hle : B.1 ≤ R.1) : eq7 (rmS R B).2 (rq R.2 B.2) ∧ (rmS R B).1 ≤ R.1 - 1 := by
  refine ⟨fun k hk => ?_, mk_le _ _⟩
  have dR := hR.deg h7
  have dB := hB.deg (by omega)
  have gR : (pdeg R.2).toNat = R.1 - 1 := by omega
  have gB : (pdeg B.2).toNat = B.1 - 1 := by omega
  show cut (R.1 - 1) (rmc R B) k = _
  unfold cut
  by_cases c : k < R.1 - 1
  · rw [if_pos c]
    have e2 : rq R.2 B.2 k = R.2 k * ((B.2 (B.1 - 1)).natAbs : Int) - (if R.1 - B.1 ≤ k then B.2 (k - (R.1 - B.1)) * rmt R B else 0) := by
      unfold rq
      rw [gR, gB, show R.1 - 1 - (B.1 - 1) = R.1 - B.1 by omega, if_pos (show k ≤ R.1 - 1 by omega)]
      rfl
    rw [e2]
    unfold rmc
    by_cases d : k < R.1 - B.1
    · rw [if_pos d, if_neg (show ¬ R.1 - B.1 ≤ k by omega)]; omega
    · rw [if_neg d, if_pos (show R.1 - B.1 ≤ k by omega)]
  · rw [if_neg c]
    by_cases e : k = R.1 - 1
    · rw [e]
      exact (rq_head (a := R.2) (b := B.2) (g := R.1 - 1) (h := B.1 - 1) (by omega) (by omega) (by omega)).symm
    · exact (rq_hi (a := R.2) (b := B.2) (g := R.1 - 1) (by omega) (by omega) hk).symm
theorem rq_prp {a a' : Nat → Int} (b : Nat → Int) (h : prp a a') : prp (rq a b) (rq a' b) := by
  have one : ∀ a, prp (rq a b) (rq (pprim a) b) := fun a => by
    have hp := pc1_pos a
    have e1 := rq_congr (eq_scl a) (show eq7 b (scl 1 b) from fun k _ => by show b k = 1 * b k; omega)
    have e2 := rq_scl (l := (pc1 a : Int)) (m := 1) (by omega) (by decide) (pprim a) b
    exact (prp_eq (e1.trans e2)).trans (prp_scl (by rw [show ((1 : Int).natAbs : Int) = 1 from rfl]; omega) _)
  exact (one a).trans ((prp_eq (rq_congr h eq7.rfl')).trans (one a').symm)
theorem rem_f : ∀ (f n : Nat) (R B : Pl) (a : Nat → Int), nf R → nf B → R.1 ≤ 7 → 0 < B.1 → prp a R.2 → R.1 + 1 ≤ B.1 + f → R.1 + 1 ≤ B.1 + n → B.1 ≤ 7 → prp (remF n a B.2) (rmF f R B).2 ∧ nf (rmF f R B) ∧ (rmF f R B).1 ≤ R.1 := by
  intro f
  induction f with
  | zero =>
    intro n R B a hR hB h7 h0 hp h1 h2 hB7
    have d1 := hR.deg h7
    have d2 := hB.deg hB7
    have d3 := hp.deg
    rw [remF_t (by omega)]
    exact ⟨hp, hR, Nat.le_refl _⟩
  | succ f ih =>
    intro n R B a hR hB h7 h0 hp h1 h2 hB7
    have d1 := hR.deg h7
    have d2 := hB.deg hB7
    have d3 := hp.deg
    by_cases c : R.1 < B.1
    · rw [remF_t (by omega), rmF_e c]
      exact ⟨hp, hR, Nat.le_refl _⟩
    · obtain ⟨m, rfl⟩ : ∃ m, n = m + 1 := ⟨n - 1, by omega⟩
      rw [remF_s (by omega), rmF_s (by omega) (Nat.succ_pos f)]
      show prp (remF m (pprim (rq a B.2)) B.2) (rmF f (rmS R B) B).2 ∧ nf (rmF f (rmS R B) B) ∧ (rmF f (rmS R B) B).1 ≤ R.1
      obtain ⟨e1, e2⟩ := rmS_f hR hB h7 h0 (by omega)
      obtain ⟨i1, i2, i3⟩ := ih m (rmS R B) B (pprim (rq a B.2)) (nf_mk _ _) hB (by omega) h0 ((prp_prim _).trans ((rq_prp B.2 hp).trans (prp_eq e1).symm)) (by omega) (by omega) hB7
      exact ⟨i1, i2, by omega⟩
theorem cRem_f {P B : Pl} (hP : nf P) (hB : nf B) (h7 : P.1 ≤ 7) (h0 : 0 < B.1) (hB7 : B.1 ≤ 7) {a : Nat → Int} (ha : prp a P.2) : prp (remF 7 a B.2) (cRem P B).2 ∧ nf (cRem P B) ∧ (cRem P B).1 ≤ P.1 := rem_f (P.1 + 1) 7 P B a hP hB h7 h0 ha (by omega) (by omega) hB7
theorem rsq_isprim (p : Nat → Int) : ∀ i, eq7 (pprim (rsq p i)) (rsq p i) := by
  intro i
  induction i using Nat.strongRecOn with
  | _ i ih =>
    match i, ih with
    | 0, _ => rw [rsq_0]; exact prim_idem _
    | 1, _ => rw [rsq_1]; exact prim_idem _
    | i + 2, ih =>
      rw [rsq_s]
      exact (prim_neg _).trans (neg_congr7 (remF_isprim 7 (ih i (by omega))))
/-- the component's sequence is the model's row -/
theorem sq_row {P : Pl} (hP : nf P) (h7 : P.1 ≤ 7) : ∀ k, (∀ i, 0 < i → i < k → 0 < (sq P i).1) → eq7 (sq P k).2 (rsq P.2 k) ∧ nf (sq P k) ∧ (sq P k).1 ≤ 7 := by
  intro k
  induction k using Nat.strongRecOn with
  | _ k ih =>
    intro hpos
    match k, ih, hpos with
    | 0, _, _ =>
      obtain ⟨e1, e2⟩ := cPrim_f hP h7
      rw [rsq_0]
      exact ⟨e1, sq_nf hP 0, by show (cPrim P).1 ≤ 7; omega⟩
    | 1, _, _ =>
      have hd := nf_mk (P.1 - 1) (fun k => P.2 (k + 1) * ((k : Int) + 1))
      obtain ⟨d1, d2⟩ := cDer_f hP h7
      obtain ⟨e1, e2⟩ := cPrim_f (P := cDer P) hd (by omega)
      rw [rsq_1]
      exact ⟨e1.trans (eq7.prim d1), sq_nf hP 1, by show (cPrim (cDer P)).1 ≤ 7; omega⟩
    | k + 2, ih, hpos =>
      obtain ⟨a1, a2, a3⟩ := ih k (by omega) (fun i h1 h2 => hpos i h1 (by omega))
      obtain ⟨b1, b2, b3⟩ := ih (k + 1) (by omega) (fun i h1 h2 => hpos i h1 (by omega))
      obtain ⟨c1, c2, c3⟩ := cRem_f a2 b2 a3 (hpos (k + 1) (by omega) (by omega)) b3 (a := rsq P.2 k) (prp_eq a1.symm)
      obtain ⟨n1, n2⟩ := cNeg_f c2
      have hn := nf_mk (cRem (sq P k) (sq P (k + 1))).1 (fun j => -(cRem (sq P k) (sq P (k + 1))).2 j)
      obtain ⟨e1, e2⟩ := cPrim_f (P := cNeg (cRem (sq P k) (sq P (k + 1)))) hn (by omega)
      refine ⟨?_, sq_nf hP (k + 2), by show (cPrim (cNeg (cRem (sq P k) (sq P (k + 1))))).1 ≤ 7; omega⟩
      rw [rsq_s]
      show eq7 (cPrim (cNeg (cRem (sq P k) (sq P (k + 1))))).2 _
      have f1 : eq7 (cNeg (cRem (sq P k) (sq P (k + 1)))).2 (fun j => -(cRem (sq P k) (sq P (k + 1))).2 j) := fun j _ => n1 j
      have f2 := e1.trans ((eq7.prim f1).trans (prim_neg _))
      refine f2.trans (neg_congr7 ?_)
      have f3 : eq7 (pprim (remF 7 (rsq P.2 k) (sq P (k + 1)).2)) (pprim (cRem (sq P k) (sq P (k + 1))).2) := c1
      have f4 := remF_congr 7 (eq7.rfl' (p := rsq P.2 k)) b1
      exact f3.symm.trans ((eq7.prim f4).trans (remF_isprim 7 (rsq_isprim P.2 k)))
/-- signs at a point -/
theorem sv_hv (P : Pl) (n : Int) (e : Nat) (h0 : 0 < P.1) : ∀ j, j < P.1 → sv P n e j = hv P.2 n e P.1 (j + 1) := by
  intro j
  induction j with
  | zero => intro _; show P.2 (P.1 - 1) = 0 * n + P.2 (P.1 - 1 - 0) * 2 ^ (e * 0); rw [Nat.mul_zero, Int.pow_zero, Nat.sub_zero]; omega
  | succ j ih =>
    intro hj
    show sv P n e j * n + P.2 (P.1 - 2 - j) * 2 ^ (e * (j + 1)) = hv P.2 n e P.1 (j + 1) * n + P.2 (P.1 - 1 - (j + 1)) * 2 ^ (e * (j + 1))
    rw [ih (by omega), show P.1 - 2 - j = P.1 - 1 - (j + 1) by omega]
theorem cSg_pAt {P : Pl} (hP : nf P) (h7 : P.1 ≤ 7) (n : Int) (e : Nat) : cSg P n e = (pAt P.2 n e).sign := by
  have hd := hP.deg h7
  unfold cSg pAt
  rw [show (pdeg P.2 + 1).toNat = P.1 by omega]
  by_cases c : P.1 = 0
  · rw [if_pos c, c]; rfl
  · rw [if_neg c]
    unfold cVal
    rw [sv_hv P n e (by omega) (P.1 - 1) (by omega), show P.1 - 1 + 1 = P.1 by omega]
theorem chG_chC {s : Nat → Int} (h : ∀ i, s i = -1 ∨ s i = 0 ∨ s i = 1) : ∀ n, lsG s n = chL s n ∧ chG s n = chC s n := by
  intro n
  induction n with
  | zero => exact ⟨rfl, rfl⟩
  | succ n ih =>
    have hs : (s n).sign = s n := by rcases h n with e | e | e <;> rw [e] <;> rfl
    have hl : chL s n = -1 ∨ chL s n = 0 ∨ chL s n = 1 := by rw [← ih.1]; exact lsG_3 h n
    rw [cl_s, ch_s, hs]
    refine ⟨?_, ?_⟩
    · show (if s n = 0 then lsG s n else s n) = _
      rw [ih.1]
    · show chG s n + (if s n * lsG s n < 0 then 1 else 0) = _
      rw [ih.1, ih.2]
      rcases h n with e | e | e <;> rcases hl with e2 | e2 | e2 <;> rw [e, e2] <;> rfl
theorem chG_pAt {Q : Nat → Pl} {q : Nat → Nat → Int} (n : Int) (e L : Nat) (h : ∀ i, i < L → nf (Q i) ∧ (Q i).1 ≤ 7 ∧ eq7 (Q i).2 (q i)) : chG (fun i => cSg (Q i) n e) L = chC (fun i => pAt (q i) n e) L := by
  rw [(chG_chC (s := fun i => cSg (Q i) n e) (fun i => cSg_3 (Q i) n e) L).2]
  refine (chs_congr L (fun i hi => ?_)).2
  obtain ⟨h1, h2, h3⟩ := h i hi
  show (cSg (Q i) n e).sign = (pAt (q i) n e).sign
  rw [cSg_pAt h1 h2, pAt_congr h3]
  rcases sg_cases (pAt (q i) n e) with ⟨_, w⟩ | ⟨_, w⟩ | ⟨_, w⟩ <;> rw [w] <;> rfl
