/-! PLAIN LAW 55: scale, multiply, shift -/
variable {Sc : Nat → Pl} {Sm : Nat → Nat → Int}
theorem ag_scale (h : relS Sc Sm) (a y t : Int) : agr (xoScale Sc a y t) (opScale Sm a y t) := by
  unfold xoScale opScale
  by_cases c : (0 ≤ a ∧ a < 5) ∧ (0 ≤ t ∧ t < 5)
  · rw [if_pos c, if_pos c]
    by_cases d : 2 ≤ y ∧ y ≤ 9
    · rw [if_pos d, if_pos d]
      obtain ⟨h1, h2, h3, h4⟩ := h a.toNat (by omega)
      have hd := h.deg (i := a.toNat) (by omega)
      refine st_ag h (nf_mk _ _) (by have := mk_le (Sc a.toNat).1 (scC (Sc a.toNat) y); omega) (fun k hk => ?_) t.toNat 3
      unfold scF
      by_cases e : k < (Sc a.toNat).1
      · rw [mk_at e, if_pos (by omega)]
        show (Sc a.toNat).2 k * y ^ ((Sc a.toNat).1 - 1 - k) = _
        rw [h3 k (by omega), show (pdeg (Sm a.toNat)).toNat - k = (Sc a.toNat).1 - 1 - k by omega]
      · rw [mk_ge (by omega), if_neg (by omega)]
    · rw [if_neg d, if_neg d]; exact agr.no h 2
  · rw [if_neg c, if_neg c]; exact agr.no h 1
/-! products -/
theorem iS_zero {f : Nat → Int} : ∀ n, (∀ i, i < n → f i = 0) → iS f n = 0 := by
  intro n
  induction n with
  | zero => intro _; rfl
  | succ n ih => intro h; show iS f n + f n = 0; rw [ih (fun i hi => h i (by omega)), h n (Nat.lt_succ_self n)]; rfl
theorem iS_win {f : Nat → Int} {lo n N : Nat} (h1 : ∀ i, i < lo → f i = 0) (h2 : ∀ i, lo + n ≤ i → i < N → f i = 0) (h3 : n = 0 ∨ lo + n ≤ N) : iS f N = iS (fun j => f (lo + j)) n := by
  rcases h3 with e | e
  · subst e
    show iS f N = 0
    refine iS_zero N (fun i hi => ?_)
    by_cases c : i < lo
    · exact h1 i c
    · exact h2 i (by omega) hi
  · obtain ⟨r, rfl⟩ : ∃ r, N = lo + n + r := ⟨N - (lo + n), by omega⟩
    rw [iS_split f (lo + n) r, iS_split f lo n, iS_zero lo h1, iS_zero r (fun i hi => h2 (lo + n + i) (by omega) (by omega))]
    omega
theorem mu_iS (p q : Nat → Int) (m : Nat) : ∀ n, mu p q n m = iS (fun i => if i ≤ m ∧ m < i + 7 then p i * q (m - i) else 0) n := by
  intro n
  induction n with
  | zero => rfl
  | succ n ih => show mu p q n m + _ = iS _ n + _; rw [ih]
theorem muT_iS (p q : Nat → Int) (k lo : Nat) : ∀ w, muT p q k lo w = iS (fun j => p (lo + j) * q (k - (lo + j))) w := by
  intro w
  induction w with
  | zero => rfl
  | succ w ih => show muT p q k lo w + _ = iS _ w + _; rw [ih]
theorem muC_mu {P Q : Pl} {p q : Nat → Int} (nP : nf P) (nQ : nf Q) (hP : P.1 ≤ 7) (hQ : Q.1 ≤ 7) (eP : eq7 P.2 p) (eQ : eq7 Q.2 q) (h0 : 0 < P.1 ∧ 0 < Q.1) (k : Nat) : muC P Q k = mu p q 7 k := by
  rw [mu_iS]
  unfold muC
  rw [muT_iS]
  have hz : ∀ i, i < 7 → (i < k - (Q.1 - 1) ∨ min P.1 (k + 1) ≤ i) → (if i ≤ k ∧ k < i + 7 then p i * q (k - i) else 0) = 0 := fun i hi hc => by
    by_cases c : i ≤ k ∧ k < i + 7
    · rw [if_pos c]
      by_cases d : i < k - (Q.1 - 1)
      · rw [← eQ (k - i) (by omega), nQ.2 (k - i) (by omega), Int.mul_zero]
      · rw [← eP i hi, nP.2 i (by omega), Int.zero_mul]
    · rw [if_neg c]
  rw [iS_win (lo := k - (Q.1 - 1)) (n := min P.1 (k + 1) - (k - (Q.1 - 1))) (N := 7) (fun i hi => by
    by_cases c : i < 7
    · exact hz i c (Or.inl hi)
    · have : ¬ (i ≤ k ∧ k < i + 7) ∨ 7 ≤ i := Or.inr (by omega)
      by_cases d : i ≤ k ∧ k < i + 7
      · show (if i ≤ k ∧ k < i + 7 then p i * q (k - i) else 0) = 0
        rw [if_pos d, ← eQ (k - i) (by omega), nQ.2 (k - i) (by omega), Int.mul_zero]
      · show (if i ≤ k ∧ k < i + 7 then p i * q (k - i) else 0) = 0
        rw [if_neg d]) (fun i h1 hi => hz i hi (by omega)) (by omega)]
  refine iS_congr _ (fun j hj => ?_)
  show P.2 (k - (Q.1 - 1) + j) * Q.2 (k - (k - (Q.1 - 1) + j)) = (if k - (Q.1 - 1) + j ≤ k ∧ k < k - (Q.1 - 1) + j + 7 then p (k - (Q.1 - 1) + j) * q (k - (k - (Q.1 - 1) + j)) else 0)
  rw [if_pos (by omega), eP _ (by omega), eQ _ (by omega)]
theorem mu_zP {p q : Nat → Int} (h : ∀ k, k < 7 → p k = 0) (m : Nat) : mu p q 7 m = 0 := by
  rw [mu_iS]
  refine iS_zero 7 (fun i hi => ?_)
  rw [h i hi, Int.zero_mul]
  split <;> rfl
theorem mu_zQ {p q : Nat → Int} (h : ∀ k, k < 7 → q k = 0) (m : Nat) : mu p q 7 m = 0 := by
  rw [mu_iS]
  refine iS_zero 7 (fun i hi => ?_)
  by_cases c : i ≤ m ∧ m < i + 7
  · rw [if_pos c, h _ (by omega), Int.mul_zero]
  · rw [if_neg c]
theorem ag_mul (h : relS Sc Sm) (a b t : Int) : agr (xoMul Sc a b t) (opMul Sm a b t) := by
  unfold xoMul opMul
  by_cases c : (0 ≤ a ∧ a < 5) ∧ (0 ≤ b ∧ b < 5) ∧ (0 ≤ t ∧ t < 5)
  · rw [if_pos c, if_pos c]
    obtain ⟨h1, h2, h3, h4⟩ := h a.toNat (by omega)
    obtain ⟨g1, g2, g3, g4⟩ := h b.toNat (by omega)
    by_cases d : (Sc a.toNat).1 = 0 ∨ (Sc b.toNat).1 = 0
    · rw [if_pos d]
      refine st_ag h (nf_mk _ _) (by have := mk_le 0 (fun _ => (0 : Int)); omega) (fun k _ => ?_) t.toNat 2
      rw [mk_ge (Nat.zero_le k)]
      rcases d with d | d
      · exact (mu_zP (fun k hk => by rw [← h3 k hk]; exact h1.2 k (by omega)) k).symm
      · exact (mu_zQ (fun k hk => by rw [← g3 k hk]; exact g1.2 k (by omega)) k).symm
    · rw [if_neg d]
      refine st_ag h (nf_mk _ _) (by have := mk_le ((Sc a.toNat).1 + (Sc b.toNat).1 - 1) (muC (Sc a.toNat) (Sc b.toNat)); omega) (fun k hk => ?_) t.toNat 2
      have e := muC_mu h1 g1 h2 g2 h3 g3 ⟨by omega, by omega⟩ k
      by_cases f : k < (Sc a.toNat).1 + (Sc b.toNat).1 - 1
      · rw [mk_at f, e]
      · rw [mk_ge (by omega), ← e]
        unfold muC
        rw [show min (Sc a.toNat).1 (k + 1) - (k - ((Sc b.toNat).1 - 1)) = 0 by omega]; rfl
  · rw [if_neg c, if_neg c]; exact agr.no h 1
/-! a polynomial moved -/
theorem syn {y : Rat} : ∀ (m : Nat) (a b : Nat → Rat), (∀ k, k < m → a k = b k + (-y) * b (k + 1)) → a m = b m → ∀ x, pe a (m + 1) x = b 0 + (x + (-y)) * pe (fun k => b (k + 1)) m x := by
  intro m
  induction m with
  | zero =>
    intro a b _ h2 x
    show 0 + a 0 * x ^ 0 = b 0 + (x + -y) * 0
    rw [h2, Rat.pow_zero]; grind
  | succ m ih =>
    intro a b h1 h2 x
    have h3 := ih (fun k => a (k + 1)) (fun k => b (k + 1)) (fun k hk => h1 (k + 1) (by omega)) h2 x
    rw [pe_0 a (m + 1) x, h3, h1 0 (by omega), pe_0 (fun k => b (k + 1)) m x]
    grind
theorem sfI_at {c : Nat → Int} {y : Int} {n : Nat} : ∀ w, w + 1 ≤ n → (∀ k, k < n - 1 - w → sfI c y n w k = c k) ∧ (∀ k, n - 1 ≤ k → sfI c y n w k = c k) ∧ ∀ k, n - 1 - w ≤ k → k < n - 1 → sfI c y n w k = c k + sfI c y n w (k + 1) * y := by
  intro w
  induction w with
  | zero => intro _; exact ⟨fun k _ => rfl, fun k _ => rfl, fun k h1 h2 => by omega⟩
  | succ w ih =>
    intro hw
    obtain ⟨h1, h2, h3⟩ := ih (by omega)
    have e : ∀ k, sfI c y n (w + 1) k = if k = n - 2 - w then sfI c y n w (n - 2 - w) + sfI c y n w (n - 2 - w + 1) * y else sfI c y n w k := fun k => rfl
    refine ⟨fun k hk => ?_, fun k hk => ?_, fun k k1 k2 => ?_⟩
    · rw [e, if_neg (by omega)]; exact h1 k (by omega)
    · rw [e, if_neg (by omega)]; exact h2 k hk
    · by_cases d : k = n - 2 - w
      · subst d
        rw [e, if_pos rfl, e, if_neg (by omega), h1 (n - 2 - w) (by omega)]
      · rw [e, if_neg d, e, if_neg (by omega)]
        exact h3 k (by omega) k2
theorem pe_app (c : Nat → Rat) (a : Nat) (x : Rat) : ∀ b, pe c (a + b) x = pe c a x + x ^ a * pe (fun k => c (a + k)) b x := by
  intro b
  induction b with
  | zero => show pe c a x = pe c a x + x ^ a * 0; grind
  | succ b ih =>
    show pe c (a + b) x + c (a + b) * x ^ (a + b) = pe c a x + x ^ a * (pe (fun k => c (a + k)) b x + c (a + b) * x ^ b)
    rw [ih, rpow_add]; grind
theorem sfP_ev (c : Nat → Int) (y : Int) (n : Nat) (x : Rat) : ∀ f, f ≤ n → pe (ci (sfP c y n f)) f (x + (-(y : Rat))) + (x + (-(y : Rat))) ^ f * pe (fun k => ci (sfP c y n f) (f + k)) (n - f) x = pe (ci c) n x := by
  intro f
  induction f with
  | zero =>
    intro _
    show 0 + (x + -(y : Rat)) ^ 0 * pe (fun k => ci c (0 + k)) (n - 0) x = _
    rw [Rat.pow_zero, Nat.sub_zero, pe_congr (d := ci c) n (fun k _ => by rw [Nat.zero_add]) x]
    grind
  | succ f ih =>
    intro hf
    have h1 := ih (by omega)
    obtain ⟨a, ha⟩ : ∃ a, a = sfP c y n f := ⟨_, rfl⟩
    obtain ⟨b, hb⟩ : ∃ b, b = sfI a y n (n - 1 - f) := ⟨_, rfl⟩
    have eb : sfP c y n (f + 1) = b := by rw [hb, ha]; rfl
    obtain ⟨s1, s2, s3⟩ := sfI_at (c := a) (y := y) (n := n) (n - 1 - f) (by omega)
    rw [← hb] at s1 s2 s3
    rw [← ha] at h1
    rw [eb, ← h1]
    obtain ⟨z, hz⟩ : ∃ z, z = x + -(y : Rat) := ⟨_, rfl⟩
    rw [← hz]
    have q : pe (fun k => ci a (f + k)) (n - f) x = ci b f + z * pe (fun k => ci b (f + 1 + k)) (n - (f + 1)) x := by
      rw [show n - f = (n - (f + 1)) + 1 by omega]
      have := syn (y := (y : Rat)) (n - (f + 1)) (fun k => ci a (f + k)) (fun k => ci b (f + k)) (fun k hk => by
        have h3 := s3 (f + k) (by omega) (by omega)
        show (a (f + k) : Rat) = (b (f + k) : Rat) + -(y : Rat) * (b (f + (k + 1)) : Rat)
        rw [h3, Rat.intCast_add, Rat.intCast_mul, show f + (k + 1) = f + k + 1 by omega]; grind) (by
        show (a (f + (n - (f + 1))) : Rat) = (b (f + (n - (f + 1))) : Rat)
        rw [s2 _ (by omega)]) x
      rw [this, hz]
      have e1 : pe (fun k => ci b (f + (k + 1))) (n - (f + 1)) x = pe (fun k => ci b (f + 1 + k)) (n - (f + 1)) x := pe_congr _ (fun k _ => by rw [show f + (k + 1) = f + 1 + k by omega]) x
      rw [e1]
      rfl
    have lo : pe (ci b) f z = pe (ci a) f z := pe_congr f (fun k hk => by show (b k : Rat) = (a k : Rat); rw [s1 k (by omega)]) z
    rw [q, pe_s, lo, Rat.pow_succ]
    grind
theorem shF_ev (p : Nat → Int) (y : Int) (x : Rat) : ∀ s, s ≤ 7 → pe (ci (shF p y s)) 7 x = pe (fun k => ci p (7 - s + k)) s (x + (y : Rat)) ∧ ∀ k, s ≤ k → shF p y s k = 0 := by
  intro s
  induction s with
  | zero => intro _; exact ⟨by rw [pe_z 7 (fun k _ => by show ((0 : Int) : Rat) = 0; rfl)]; rfl, fun k _ => rfl⟩
  | succ s ih =>
    intro hs
    obtain ⟨h1, h2⟩ := ih (by omega)
    obtain ⟨o, ho⟩ : ∃ o, o = shF p y s := ⟨_, rfl⟩
    rw [← ho] at h1 h2
    have e : ∀ m, shF p y (s + 1) m = if m < 7 then o m * y + (if 0 < m then o (m - 1) else p (6 - s)) else 0 := fun m => by rw [ho]; rfl
    refine ⟨?_, fun k hk => ?_⟩
    · have l1 : pe (ci (shF p y (s + 1))) 7 x = (y : Rat) * pe (ci o) 7 x + pe (fun k => if k = 0 then (p (6 - s) : Rat) else ci o (k - 1)) 7 x := by
        rw [← pe_mul, ← pe_add]
        refine pe_congr 7 (fun k hk => ?_) x
        show ((shF p y (s + 1) k : Int) : Rat) = (y : Rat) * (o k : Rat) + (if k = 0 then (p (6 - s) : Rat) else (o (k - 1) : Rat))
        rw [e, if_pos hk, Rat.intCast_add, Rat.intCast_mul]
        by_cases c : k = 0
        · rw [if_pos c, if_neg (by omega)]; grind
        · rw [if_neg c, if_pos (by omega)]; grind
      have l2 : pe (fun k => if k = 0 then (p (6 - s) : Rat) else ci o (k - 1)) 7 x = (p (6 - s) : Rat) + x * pe (ci o) 6 x := by
        rw [pe_0]
        rfl
      have l3 : pe (ci o) 6 x = pe (ci o) 7 x := by
        rw [pe_s (ci o) 6 x]
        have : ci o 6 = 0 := by show (o 6 : Rat) = 0; rw [h2 6 (by omega)]; rfl
        rw [this]; grind
      rw [l1, l2, l3, h1, pe_0]
      have l4 : pe (fun k => ci p (7 - (s + 1) + (k + 1))) s (x + (y : Rat)) = pe (fun k => ci p (7 - s + k)) s (x + (y : Rat)) := pe_congr s (fun k _ => by rw [show 7 - (s + 1) + (k + 1) = 7 - s + k by omega]) _
      rw [l4]
      have l5 : ci p (7 - (s + 1) + 0) = (p (6 - s) : Rat) := by rw [show 7 - (s + 1) + 0 = 6 - s by omega]; rfl
      rw [l5]
      grind
    · rw [e]
      by_cases c : k < 7
      · rw [if_pos c, h2 k (by omega), if_pos (by omega), h2 (k - 1) (by omega)]; omega
      · rw [if_neg c]
theorem ag_shift (h : relS Sc Sm) (a y t : Int) : agr (xoShift Sc a y t) (opShift Sm a y t) := by
  unfold xoShift opShift
  by_cases c : (0 ≤ a ∧ a < 5) ∧ (0 ≤ t ∧ t < 5)
  · rw [if_pos c, if_pos c]
    by_cases d : -9 ≤ y ∧ y ≤ 9
    · rw [if_pos d, if_pos d]
      obtain ⟨h1, h2, h3, h4⟩ := h a.toNat (by omega)
      obtain ⟨P, hP⟩ : ∃ P, P = Sc a.toNat := ⟨_, rfl⟩
      obtain ⟨p, hp⟩ : ∃ p, p = Sm a.toNat := ⟨_, rfl⟩
      rw [← hP] at h1 h2 h3 ⊢
      rw [← hp] at h3 ⊢
      refine st_ag h (nf_mk _ _) (by have := mk_le P.1 (sfP P.2 y P.1 P.1); omega) (fun k hk => ?_) t.toNat 3
      by_cases k7 : k < 7
      · have key : ∀ x, pe (ci (mkP P.1 (sfP P.2 y P.1 P.1)).2) 7 x = pe (ci (shF p y 7)) 7 x := fun x => by
          rw [(shF_ev p y x 7 (Nat.le_refl 7)).1]
          have e1 := sfP_ev P.2 y P.1 (x + (y : Rat)) P.1 (Nat.le_refl _)
          rw [Nat.sub_self, show x + (y : Rat) + -(y : Rat) = x by grind] at e1
          have e2 : pe (ci (sfP P.2 y P.1 P.1)) P.1 x = pe (ci P.2) P.1 (x + (y : Rat)) := by
            rw [← e1]
            show _ = _ + _ * 0
            grind
          rw [pe_ext2 (c := ci (mkP P.1 (sfP P.2 y P.1 P.1)).2) (n := P.1) 7 h2 (fun k k1 _ => by show ((mkP P.1 (sfP P.2 y P.1 P.1)).2 k : Rat) = 0; rw [mk_ge k1]; rfl) x]
          rw [pe_congr (c := ci (mkP P.1 (sfP P.2 y P.1 P.1)).2) (d := ci (sfP P.2 y P.1 P.1)) P.1 (fun k hk => by show ((mkP P.1 (sfP P.2 y P.1 P.1)).2 k : Rat) = _; rw [mk_at hk]; rfl) x, e2]
          rw [← pe_ext2 (c := ci P.2) (n := P.1) 7 h2 (fun k k1 _ => by show (P.2 k : Rat) = 0; rw [h1.2 k k1]; rfl) (x + (y : Rat))]
          exact pe_congr 7 (fun k hk => by show (P.2 k : Rat) = (p (7 - 7 + k) : Rat); rw [h3 k hk, show 7 - 7 + k = k by omega]) _
        exact Rat.intCast_inj.mp (pe_inj key k k7)
      · rw [mk_ge (by omega), shF_hi p y 7 k (by omega)]
    · rw [if_neg d, if_neg d]; exact agr.no h 2
  · rw [if_neg c, if_neg c]; exact agr.no h 1
