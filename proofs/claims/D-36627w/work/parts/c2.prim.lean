/-! PLAIN LAW 11: primitive parts and proportional polynomials -/
def scl (l : Int) (p : Nat → Int) : Nat → Int := fun k => l * p k
theorem pg_scl (l : Int) (p : Nat → Int) : ∀ n, pg (scl l p) n = l.natAbs * pg p n := by
  intro n
  induction n with
  | zero => show 0 = l.natAbs * 0; omega
  | succ n ih =>
    show Nat.gcd (pg (scl l p) n) (l * p n).natAbs = l.natAbs * Nat.gcd (pg p n) (p n).natAbs
    rw [ih, Int.natAbs_mul, Nat.gcd_mul_left]
theorem pcont_0 {p : Nat → Int} (h : pcont p = 0) : ∀ k, k < 7 → p k = 0 := fun k hk => by
  have h1 := pg_dvd p 7 k hk
  have h2 : pg p 7 = 0 := h
  rw [h2] at h1
  exact Int.zero_dvd.mp h1
theorem pprim_0 {p : Nat → Int} (h : ∀ k, k < 7 → p k = 0) : ∀ k, k < 7 → pprim p k = 0 := fun k hk => pprim_z (h k hk)
/-- a positive factor does not matter -/
theorem prim_scl {l : Int} (hl : 0 < l) (p : Nat → Int) : eq7 (pprim (scl l p)) (pprim p) := by
  intro k hk
  by_cases h0 : pcont p = 0
  · have hz := pcont_0 h0
    rw [pprim_0 hz k hk, pprim_0 (fun j hj => by show l * p j = 0; rw [hz j hj, Int.mul_zero]) k hk]
  · have h1 : pcont (scl l p) = l.natAbs * pcont p := pg_scl l p 7
    have h2 : (pc1 (scl l p) : Int) = l * (pc1 p : Int) := by
      have hc : pc1 p = pcont p := by unfold pc1; split <;> omega
      have hp := Nat.mul_le_mul (show 1 ≤ l.natAbs by omega) (show 1 ≤ pcont p by omega)
      have hc2 : pc1 (scl l p) = pcont (scl l p) := by unfold pc1; split <;> omega
      rw [hc2, hc, h1, Int.natCast_mul]
      rw [show (l.natAbs : Int) = l by omega]
    have h3 := pprim_mul (scl l p) hk
    have h4 := pprim_mul p hk
    have h5 : l * p k = l * (pc1 p : Int) * pprim (scl l p) k := by rw [← h2]; exact h3
    rw [h4] at h5
    have h6 : (l * (pc1 p : Int)) * pprim p k = (l * (pc1 p : Int)) * pprim (scl l p) k := by rw [← h5, Int.mul_assoc]
    have h7 := pc1_pos p
    have h8 : l * (pc1 p : Int) ≠ 0 := Int.mul_ne_zero (by omega) (by omega)
    exact (Int.eq_of_mul_eq_mul_left h8 h6).symm
theorem prim_neg (p : Nat → Int) : eq7 (pprim (fun k => -p k)) (fun k => -pprim p k) := by
  intro k _
  have h1 : pcont (fun k => -p k) = pcont p := by
    have : ∀ n, pg (fun k => -p k) n = pg p n := fun n => by
      induction n with
      | zero => rfl
      | succ n ih => show Nat.gcd (pg (fun k => -p k) n) (-p n).natAbs = Nat.gcd (pg p n) (p n).natAbs; rw [ih, Int.natAbs_neg]
    exact this 7
  show (if pcont (fun k => -p k) < 2 then -p k else (-p k).tdiv (pcont (fun k => -p k) : Int)) = -(if pcont p < 2 then p k else (p k).tdiv (pcont p : Int))
  rw [h1]
  split
  · rfl
  · exact Int.neg_tdiv _ _
theorem eq_scl (p : Nat → Int) : eq7 p (scl (pc1 p : Int) (pprim p)) := fun _ hk => pprim_mul p hk
theorem prim_idem (p : Nat → Int) : eq7 (pprim (pprim p)) (pprim p) := by
  have h1 := prim_scl (l := (pc1 p : Int)) (by have := pc1_pos p; omega) (pprim p)
  exact h1.symm.trans (eq7.prim (eq_scl p)).symm
/-- proportional, by a positive factor -/
def prp (a b : Nat → Int) : Prop := eq7 (pprim a) (pprim b)
theorem prp.symm {a b : Nat → Int} (h : prp a b) : prp b a := eq7.symm h
theorem prp.trans {a b c : Nat → Int} (h : prp a b) (h2 : prp b c) : prp a c := eq7.trans h h2
theorem prp_prim (a : Nat → Int) : prp (pprim a) a := prim_idem a
theorem prp_eq {a b : Nat → Int} (h : eq7 a b) : prp a b := h.prim
theorem prp_scl {l : Int} (hl : 0 < l) (a : Nat → Int) : prp (scl l a) a := prim_scl hl a
theorem scl_deg {l : Int} (hl : l ≠ 0) (p : Nat → Int) : pdeg (scl l p) = pdeg p := by
  have : ∀ n, degU (scl l p) n = degU p n := fun n => by
    induction n with
    | zero => rfl
    | succ n ih =>
      unfold degU
      rw [ih]
      by_cases c : p n = 0
      · rw [if_pos c, if_pos (show scl l p n = 0 by show l * p n = 0; rw [c, Int.mul_zero])]
      · rw [if_neg c, if_neg (show ¬ scl l p n = 0 from fun e => (Int.mul_eq_zero.mp e).elim hl c)]
  exact this 7
theorem prim_deg (p : Nat → Int) : pdeg (pprim p) = pdeg p := by
  have h1 := scl_deg (l := (pc1 p : Int)) (by have := pc1_pos p; omega) (pprim p)
  rw [← h1]
  exact (eq_scl p).deg.symm
theorem prp.deg {a b : Nat → Int} (h : prp a b) : pdeg a = pdeg b := by
  rw [← prim_deg a, ← prim_deg b]
  exact eq7.deg h
/-- the remainder's step is homogeneous -/
theorem rq_scl {l m : Int} (hl : l ≠ 0) (hm : m ≠ 0) (a b : Nat → Int) : eq7 (rq (scl l a) (scl m b)) (scl (l * (m.natAbs : Int)) (rq a b)) := by
  intro k _
  show rq (scl l a) (scl m b) k = l * (m.natAbs : Int) * rq a b k
  unfold rq
  rw [scl_deg hl, scl_deg hm]
  obtain ⟨g, hg⟩ : ∃ g, g = (pdeg a).toNat := ⟨_, rfl⟩
  obtain ⟨h, hh⟩ : ∃ h, h = (pdeg b).toNat := ⟨_, rfl⟩
  rw [← hg, ← hh]
  by_cases c : k ≤ g
  · rw [if_pos c, if_pos c]
    show l * a k * ((m * b h).natAbs : Int) - (if g - h ≤ k then m * b (k - (g - h)) * (if m * b h < 0 then -(l * a g) else l * a g) else 0) = _
    rw [Int.natAbs_mul, Int.natCast_mul]
    by_cases d : g - h ≤ k
    · rw [if_pos d, if_pos d]
      have key : m * (if m * b h < 0 then -(l * a g) else l * a g) = l * (m.natAbs : Int) * (if b h < 0 then -a g else a g) ∨ b h = 0 := by
        by_cases z : b h = 0
        · exact Or.inr z
        · refine Or.inl ?_
          rcases Int.lt_or_gt_of_ne hm with p | p
          · rw [show (m.natAbs : Int) = -m by omega]
            by_cases q : b h < 0
            · rw [if_pos q, if_neg (by have := Int.mul_pos_of_neg_of_neg p q; omega)]; grind
            · rw [if_neg q, if_pos (Int.mul_neg_of_neg_of_pos p (by omega))]; grind
          · rw [show (m.natAbs : Int) = m by omega]
            by_cases q : b h < 0
            · rw [if_pos q, if_pos (Int.mul_neg_of_pos_of_neg p q)]; grind
            · rw [if_neg q, if_neg (by have := Int.mul_pos p (show 0 < b h by omega); omega)]; grind
      rcases key with key | z
      · have e1 : m * b (k - (g - h)) * (if m * b h < 0 then -(l * a g) else l * a g) = b (k - (g - h)) * (m * (if m * b h < 0 then -(l * a g) else l * a g)) := by grind
        rw [e1, key]; grind
      · rw [z, Int.mul_zero]
        show _ - m * b (k - (g - h)) * (if (0 : Int) < 0 then _ else l * a g) = l * (m.natAbs : Int) * (_ - b (k - (g - h)) * (if (0 : Int) < 0 then _ else a g))
        rw [if_neg (by decide), if_neg (by decide)]
        have hb : ∀ j, j < 7 → b j = 0 := fun j hj => by
          by_cases p : pdeg b < 0
          · exact degU_hi b 7 j (by show pdeg b < _; omega) hj
          · have := (degU_at b 7 h (by show pdeg b = _; omega)).1; exact absurd z this
        have hk7 : k - (g - h) < 7 := by have := pdeg_in a; omega
        rw [hb _ hk7]; simp
    · rw [if_neg d, if_neg d]; grind
  · rw [if_neg c, if_neg c]
    show l * a k = l * (m.natAbs : Int) * a k
    have hz : a k = 0 := degU_hi a 7 k (by show pdeg a < _; have := pdeg_in a; omega) (by assumption)
    rw [hz]; simp
/-- the sign that a factor leaves -/
theorem prim_sc2 {l : Int} (hl : l ≠ 0) (p : Nat → Int) : eq7 (pprim (scl l p)) (scl l.sign (pprim p)) := by
  rcases Int.lt_or_gt_of_ne hl with h | h
  · have h1 : eq7 (scl l p) (fun k => -(scl (-l) p k)) := fun k _ => by show l * p k = -(-l * p k); grind
    have h2 := (eq7.prim h1).trans (prim_neg (scl (-l) p))
    refine h2.trans (fun k hk => ?_)
    show -(pprim (scl (-l) p) k) = l.sign * pprim p k
    rw [prim_scl (show 0 < -l by omega) p k hk, Int.sign_eq_neg_one_of_neg h]; omega
  · refine (prim_scl h p).trans (fun k _ => ?_)
    show pprim p k = l.sign * pprim p k
    rw [Int.sign_eq_one_of_pos h]; omega
theorem scl_congr {l : Int} {a b : Nat → Int} (h : eq7 a b) : eq7 (scl l a) (scl l b) := fun k hk => by show l * a k = l * b k; rw [h k hk]
/-- a remainder of proportional ones -/
theorem remF_scl : ∀ (n : Nat) {l m : Int}, l ≠ 0 → m ≠ 0 → ∀ a b : Nat → Int, eq7 (pprim (remF n (scl l a) (scl m b))) (scl l.sign (pprim (remF n a b))) := by
  intro n
  induction n with
  | zero => intro l m hl _ a b; exact prim_sc2 hl a
  | succ n ih =>
    intro l m hl hm a b
    by_cases c : pdeg b ≤ pdeg a
    · rw [remF_s (a := scl l a) (b := scl m b) (by rw [scl_deg hl, scl_deg hm]; exact c), remF_s c]
      have hlm : l * (m.natAbs : Int) ≠ 0 := Int.mul_ne_zero hl (by omega)
      have e1 : eq7 (pprim (rq (scl l a) (scl m b))) (scl l.sign (pprim (rq a b))) := by
        refine (eq7.prim (rq_scl hl hm a b)).trans ((prim_sc2 hlm (rq a b)).trans (fun k _ => ?_))
        show (l * (m.natAbs : Int)).sign * _ = l.sign * _
        rw [Int.sign_mul, show ((m.natAbs : Int)).sign = 1 from Int.sign_eq_one_of_pos (by omega), Int.mul_one]
      have e2 := eq7.prim (remF_congr n e1 (eq7.rfl' (p := scl m b)))
      have e3 := ih (l := l.sign) (m := m) (by rcases sg_cases l with ⟨z, w⟩ | ⟨z, w⟩ | ⟨z, w⟩ <;> omega) hm (pprim (rq a b)) b
      refine e2.trans (e3.trans (fun k _ => ?_))
      show l.sign.sign * _ = l.sign * _
      rcases sg_cases l with ⟨z, w⟩ | ⟨z, w⟩ | ⟨z, w⟩ <;> rw [w] <;> rfl
    · rw [remF_t (a := scl l a) (b := scl m b) (by rw [scl_deg hl, scl_deg hm]; exact c), remF_t c]
      exact prim_sc2 hl a
/-- of proportional ones, with positive factors -/
theorem remF_prp (n : Nat) {a a' b b' : Nat → Int} (ha : prp a a') (hb : prp b b') : prp (remF n a b) (remF n a' b') := by
  have pos : ∀ p, 0 < (pc1 p : Int) := fun p => by have := pc1_pos p; omega
  have one : ∀ (a b : Nat → Int), prp (remF n a b) (remF n (pprim a) (pprim b)) := fun a b => by
    have e1 := eq7.prim (remF_congr n (eq_scl a) (eq_scl b))
    have e2 := remF_scl n (l := (pc1 a : Int)) (m := (pc1 b : Int)) (by have := pos a; omega) (by have := pos b; omega) (pprim a) (pprim b)
    refine e1.trans (e2.trans (fun k _ => ?_))
    show ((pc1 a : Int)).sign * _ = _
    rw [Int.sign_eq_one_of_pos (pos a), Int.one_mul]
  exact (one a b).trans ((prp_eq (remF_congr n ha hb)).trans (one a' b').symm)
theorem remF_isprim : ∀ (n : Nat) {a b : Nat → Int}, eq7 (pprim a) a → eq7 (pprim (remF n a b)) (remF n a b) := by
  intro n
  induction n with
  | zero => intro a b h; exact h
  | succ n ih =>
    intro a b h
    by_cases c : pdeg b ≤ pdeg a
    · rw [remF_s c]; exact ih (prim_idem _)
    · rw [remF_t c]; exact h
