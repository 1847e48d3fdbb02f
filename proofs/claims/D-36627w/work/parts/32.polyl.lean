/-! POLYNOMIALS of the model: temporaries, contents, primitive parts -/
/-- the six temporaries hold f -/
def tmp (σ f : Nat → Int) : Nat → Int := fun i => if i < 6 then f i else σ i
theorem tmp_up (σ f : Nat → Int) {i : Nat} (x : Int) (h : i < 6) : va_up (tmp σ f) i x = tmp σ (va_up f i x) := by
  funext m
  unfold va_up tmp
  by_cases e : m = i
  · subst e; simp [h]
  · simp [e]
theorem tmp_self (σ : Nat → Int) : tmp σ σ = σ := by funext m; unfold tmp; simp
theorem tmp_hi (σ f : Nat → Int) {i : Nat} (h : 6 ≤ i) : tmp σ f i = σ i := by unfold tmp; rw [if_neg (by omega)]
theorem tmp_lo (σ f : Nat → Int) {i : Nat} (h : i < 6) : tmp σ f i = f i := by unfold tmp; rw [if_pos h]
theorem tmp_tmp (σ f g : Nat → Int) : tmp (tmp σ f) g = tmp σ g := by
  funext m; unfold tmp; split <;> simp_all
theorem pget_tmp (σ f : Nat → Int) (j : Nat) : pget (tmp σ f) j = pget σ j := by
  funext k; exact tmp_hi _ _ (by omega)
theorem tmp_pset (σ f g : Nat → Int) (j : Nat) : tmp (pset σ j g) f = pset (tmp σ f) j g := by
  funext m
  unfold tmp pset
  by_cases h : m < 6
  · simp [h, show ¬ 6 + 7 * j ≤ m by omega]
  · simp [h]
theorem psk_up (σ f g : Nat → Int) (j k : Nat) {i : Nat} (x : Int) (h : i < 6) : va_up (psk (tmp σ f) j g k) i x = psk (tmp σ (va_up f i x)) j g k := by
  funext m
  unfold va_up psk tmp
  by_cases e : m = i
  · subst e; simp [h, show ¬ 6 + 7 * j ≤ m by omega]
  · simp [e]
/-- the greatest common divisor of the first k coefficients -/
def pg (p : Nat → Int) : Nat → Nat
  | 0 => 0
  | k + 1 => Nat.gcd (pg p k) (p k).natAbs
def pcont (p : Nat → Int) : Nat := pg p 7
def pprim (p : Nat → Int) : Nat → Int := fun k => if pcont p < 2 then p k else (p k).tdiv (pcont p : Int)
/-- all sizes of a polynomial fit -/
def pS (p : Nat → Int) : Prop := ∀ k, k < 7 → sN (p k).natAbs
theorem sN_gcd {a b : Nat} (ha : sN a) (hb : sN b) : sN (Nat.gcd a b) := by
  rcases Nat.eq_zero_or_pos a with z | z
  · rw [z, Nat.gcd_zero_left]; exact hb
  · exact sN_le (Nat.gcd_le_left b z) ha
theorem sN_0 : sN 0 := Nat.pow_pos (by decide)
theorem sN_pg {p : Nat → Int} (h : pS p) : ∀ k, k ≤ 7 → sN (pg p k) := by
  intro k
  induction k with
  | zero => intro _; exact sN_0
  | succ k ih => intro hk; exact sN_gcd (ih (by omega)) (h k (by omega))
theorem rN_abs {x : Int} (h : sN x.natAbs) : rN x := by
  have h1 := (rN_nat h).2
  have := p2 1535
  exact ⟨by omega, by omega⟩
theorem pS.N {p : Nat → Int} (h : pS p) : pN p := fun k hk => rN_abs (h k hk)
theorem tdiv_neg {x : Int} {g : Nat} (h : x < 0) : x.tdiv (g : Int) = -(((x.natAbs / g : Nat)) : Int) := by
  obtain ⟨n, hn⟩ : ∃ n : Nat, x = -(n : Int) := ⟨x.natAbs, by omega⟩
  subst hn
  rw [Int.neg_tdiv, show (-(n : Int)).natAbs = n by omega]
  rfl
theorem tdiv_pos {x : Int} {g : Nat} (h : 0 ≤ x) : x.tdiv (g : Int) = ((x.natAbs / g : Nat) : Int) := by
  obtain ⟨n, hn⟩ := Int.eq_ofNat_of_zero_le h
  subst hn
  rfl
/-- a coefficient is replaced -/
theorem prim_sig (σ f F : Nat → Int) (j k : Nat) (hk : k < 7) (a r q s : Int) (hq : q = F k) :
    va_up (va_up (va_up (va_up (va_up (psk (tmp σ f) j F k) (6 + 7 * j + k) a) (6 + 7 * j + k) r) 1 q) 5 s) (6 + 7 * j + k) q = psk (tmp σ (va_up (va_up f 1 q) 5 s)) j F (k + 1) := by
  subst hq
  funext i
  show (if i = 6 + 7 * j + k then F k else if i = 5 then s else if i = 1 then F k else if i = 6 + 7 * j + k then r else if i = 6 + 7 * j + k then a else psk (tmp σ f) j F k i) = _
  by_cases e : i = 6 + 7 * j + k
  · subst e
    rw [if_pos rfl]
    unfold psk
    rw [if_pos (by omega), Nat.add_sub_cancel_left]
  · rw [if_neg e, if_neg e, if_neg e]
    unfold psk tmp va_up
    by_cases e5 : i = 5
    · subst e5; simp [show ¬ 6 + 7 * j ≤ 5 by omega]
    · by_cases e1 : i = 1
      · subst e1; simp [show ¬ 6 + 7 * j ≤ 1 by omega]
      · rw [if_neg e5, if_neg e1]
        by_cases l : 6 + 7 * j ≤ i ∧ i < 6 + 7 * j + k
        · rw [if_pos l, if_pos (by omega)]
        · have l2 : ¬ (6 + 7 * j ≤ i ∧ i < 6 + 7 * j + (k + 1)) := by omega
          rw [if_neg l, if_neg l2]
          simp [e5, e1]
theorem va_up2 (f : Nat → Int) (i : Nat) (x y : Int) : va_up (va_up f i x) i y = va_up f i y := by
  funext m; unfold va_up; split <;> simp_all
theorem div_sig (σ f : Nat → Int) (a b c y : Int) (m : Nat) : va_up (va_up (va_up (va_up (tmp σ f) 1 a) 1 b) 0 c) 1 y m = tmp σ (va_up (va_up f 0 c) 1 y) m := by
  unfold va_up tmp
  by_cases e1 : m = 1
  · subst e1; simp
  · by_cases e0 : m = 0
    · subst e0; simp
    · simp [e1, e0]
theorem va_up15 (S : Nat → Int) (i : Nat) (a r q s q' : Int) : va_up (va_up (va_up (va_up (va_up S i a) i r) 1 q) 5 s) 1 q' = va_up (va_up (va_up (va_up S i a) i r) 1 q') 5 s := by
  funext m
  unfold va_up
  by_cases e : m = 1
  · subst e; simp
  · simp [e]
theorem prim_triv (σ f : Nat → Int) (j : Nat) (h : pcont (pget σ j) < 2) (m : Nat) : pset (tmp σ f) j (pprim (pget σ j)) m = tmp σ f m := by
  unfold pset
  split
  · rename_i q
    unfold pprim
    rw [if_pos h, tmp_hi _ _ (by omega)]
    unfold pget
    congr 1
    omega
  · rfl
/-- with a positive head -/
def ppos (p : Nat → Int) : Nat → Int := fun k => if 0 ≤ pdeg p ∧ p (pdeg p).toNat < 0 then -p k else p k
theorem rsign3 (x : Int) : x.sign = -1 ∨ x.sign = 0 ∨ x.sign = 1 := by
  rcases Int.lt_trichotomy x 0 with h | h | h
  · exact Or.inl (Int.sign_eq_neg_one_of_neg h)
  · rw [h]; exact Or.inr (Or.inl rfl)
  · exact Or.inr (Or.inr (Int.sign_eq_one_of_pos h))
theorem pset_self (σ : Nat → Int) (j : Nat) {f : Nat → Int} (hf : ∀ k, f k = pget σ j k) (m : Nat) : σ m = pset σ j f m := by
  unfold pset
  split
  · rw [hf]; unfold pget; congr 1; omega
  · rfl
theorem pos_deg {σ : Nat → Int} {j : Nat} (h : pdeg (pget σ j) < 0) (m : Nat) : σ m = pset σ j (ppos (pget σ j)) m := pset_self σ j (fun k => by unfold ppos; rw [if_neg (by omega)]) m
theorem pos_pos {σ : Nat → Int} {j g : Nat} (hg : pdeg (pget σ j) = (g : Int)) (h : ¬ pget σ j g < 0) (m : Nat) : σ m = pset σ j (ppos (pget σ j)) m := pset_self σ j (fun k => by unfold ppos; rw [if_neg (by rw [hg]; simp; omega)]) m
theorem pos_neg {σ : Nat → Int} {j g : Nat} (hg : pdeg (pget σ j) = (g : Int)) (h : pget σ j g < 0) (m : Nat) : pset σ j (fun k => -pget σ j k) m = pset σ j (ppos (pget σ j)) m := by
  unfold pset
  split
  · unfold ppos; rw [if_pos (by rw [hg]; simp; omega)]
  · rfl
theorem va_upC (f : Nat → Int) {i k : Nat} (x y : Int) (h : i ≠ k) : va_up (va_up f i x) k y = va_up (va_up f k y) i x := by
  funext m
  unfold va_up
  by_cases e : m = k
  · subst e; simp [Ne.symm h]
  · simp [e]
/-- one step of the remainder: the head goes -/
def rq (a b : Nat → Int) : Nat → Int := fun k => if k ≤ (pdeg a).toNat then a k * ((b (pdeg b).toNat).natAbs : Int) - (if (pdeg a).toNat - (pdeg b).toNat ≤ k then b (k - ((pdeg a).toNat - (pdeg b).toNat)) * (if b (pdeg b).toNat < 0 then -a (pdeg a).toNat else a (pdeg a).toNat) else 0) else a k
def remF : Nat → (Nat → Int) → (Nat → Int) → (Nat → Int)
  | 0, a, _ => a
  | n + 1, a, b => if pdeg b ≤ pdeg a then remF n (pprim (rq a b)) b else a
def fitR : Nat → (Nat → Int) → (Nat → Int) → Prop
  | 0, _, _ => True
  | n + 1, a, b => pdeg b ≤ pdeg a → pS (rq a b) ∧ fitR n (pprim (rq a b)) b
theorem pprim_le (p : Nat → Int) (k : Nat) : (pprim p k).natAbs ≤ (p k).natAbs := by
  unfold pprim
  split
  · exact Nat.le_refl _
  · rw [Int.natAbs_tdiv]
    exact Nat.div_le_self _ _
theorem pS.prim {p : Nat → Int} (h : pS p) : pS (pprim p) := fun k hk => sN_le (pprim_le p k) (h k hk)
theorem pprim_z {p : Nat → Int} {k : Nat} (h : p k = 0) : pprim p k = 0 := by
  unfold pprim
  split
  · exact h
  · rw [h]; exact Int.zero_tdiv _
theorem degU_le {p : Nat → Int} {m : Nat} : ∀ n, (∀ j, m ≤ j → j < n → p j = 0) → degU p n < m := by
  intro n
  induction n with
  | zero => intro _; unfold degU; omega
  | succ n ih =>
    intro h
    rcases Nat.lt_or_ge n m with l | l
    · have := (degU_in p (n + 1)).2; omega
    · rw [degU_s (h n l (by omega))]
      exact ih (fun j h1 h2 => h j h1 (by omega))
/-- the head is gone -/
theorem rq_head {a b : Nat → Int} {g h : Nat} (hg : pdeg a = (g : Int)) (hh : pdeg b = (h : Int)) (hl : h ≤ g) : rq a b g = 0 := by
  unfold rq
  rw [hg, hh, Int.toNat_natCast, Int.toNat_natCast, if_pos (Nat.le_refl _), if_pos (by omega), show g - (g - h) = h by omega]
  split
  · rename_i q
    rw [show ((b h).natAbs : Int) = -b h by omega]; grind
  · rename_i q
    rw [show ((b h).natAbs : Int) = b h by omega]; grind
theorem rq_hi {a b : Nat → Int} {g k : Nat} (hg : pdeg a = (g : Int)) (hk : g < k) (hk7 : k < 7) : rq a b k = 0 := by
  unfold rq
  rw [hg, Int.toNat_natCast, if_neg (by omega)]
  exact degU_hi a 7 k (by show pdeg a < _; omega) hk7
theorem rq_deg {a b : Nat → Int} {g h : Nat} (hg : pdeg a = (g : Int)) (hh : pdeg b = (h : Int)) (hl : h ≤ g) : pdeg (pprim (rq a b)) < (g : Int) :=
  degU_le 7 (fun j h1 h2 => pprim_z (by
    rcases Nat.eq_or_lt_of_le h1 with e | e
    · rw [← e]; exact rq_head hg hh hl
    · exact rq_hi hg e h2))
theorem remF_s {a b : Nat → Int} {n : Nat} (h : pdeg b ≤ pdeg a) : remF (n + 1) a b = remF n (pprim (rq a b)) b := by rw [remF, if_pos h]
theorem remF_t {a b : Nat → Int} {n : Nat} (h : ¬ pdeg b ≤ pdeg a) : remF n a b = a := by
  cases n with
  | zero => rfl
  | succ n => rw [remF, if_neg h]
theorem pset_pget (σ : Nat → Int) (j : Nat) : pset σ j (pget σ j) = σ := by
  funext m; exact (pset_self σ j (fun _ => rfl) m).symm
theorem pset_pset (σ f g : Nat → Int) (j : Nat) : pset (pset σ j f) j g = pset σ j g := by
  funext m; unfold pset; split <;> simp_all
theorem psk_pset {σ p F : Nat → Int} {f : Nat → Int} {i n : Nat} (hn : n ≤ 7) (h : ∀ k, n ≤ k → k < 7 → F k = p k) : psk (tmp (pset σ i p) f) i F n = tmp (pset σ i F) f := by
  funext m
  unfold psk tmp pset
  by_cases l : 6 + 7 * i ≤ m ∧ m < 6 + 7 * i + n
  · rw [if_pos l, if_neg (by omega), if_pos (by omega)]
  · rw [if_neg l]
    by_cases l6 : m < 6
    · rw [if_pos l6, if_pos l6]
    · rw [if_neg l6, if_neg l6]
      by_cases l7 : 6 + 7 * i ≤ m ∧ m < 6 + 7 * i + 7
      · rw [if_pos l7, if_pos l7, h _ (by omega) (by omega)]
      · rw [if_neg l7, if_neg l7]
theorem pN_congr {p q : Nat → Int} (h : pN p) (e : ∀ k, k < 7 → p k = q k) : pN q := fun k hk => by rw [← e k hk]; exact h k hk
theorem pset_congr {σ f g : Nat → Int} {j : Nat} (h : ∀ k, k < 7 → f k = g k) : pset σ j f = pset σ j g := by
  funext m; unfold pset; split
  · exact h _ (by omega)
  · rfl
theorem pg_congr {p q : Nat → Int} : ∀ n, (∀ k, k < n → p k = q k) → pg p n = pg q n := by
  intro n
  induction n with
  | zero => intro _; rfl
  | succ n ih => intro h; unfold pg; rw [ih (fun k hk => h k (by omega)), h n (by omega)]
theorem pprim_congr {p q : Nat → Int} (h : ∀ k, k < 7 → p k = q k) {k : Nat} (hk : k < 7) : pprim p k = pprim q k := by
  unfold pprim pcont
  rw [pg_congr 7 h, h k hk]
/-- equal on the seven places -/
def eq7 (p q : Nat → Int) : Prop := ∀ k, k < 7 → p k = q k
theorem eq7.deg {p q : Nat → Int} (h : eq7 p q) : pdeg p = pdeg q := pdeg_congr h
theorem deg_nat (p : Nat → Int) : (pdeg p).toNat < 7 := by have := pdeg_in p; omega
theorem rq_congr {a a' b b' : Nat → Int} (ha : eq7 a a') (hb : eq7 b b') : eq7 (rq a b) (rq a' b') := by
  intro k hk
  have e1 := ha.deg
  have e2 := hb.deg
  have g7 := deg_nat a
  have h7 := deg_nat b
  unfold rq
  rw [← e1, ← e2, ha k hk, hb _ h7, ha _ g7]
  by_cases c1 : k ≤ (pdeg a).toNat
  · rw [if_pos c1, if_pos c1]
    by_cases c2 : (pdeg a).toNat - (pdeg b).toNat ≤ k
    · rw [if_pos c2, if_pos c2, hb _ (by omega)]
    · rw [if_neg c2, if_neg c2]
  · rw [if_neg c1, if_neg c1]
theorem eq7.prim {p q : Nat → Int} (h : eq7 p q) : eq7 (pprim p) (pprim q) := fun _ hk => pprim_congr h hk
theorem remF_congr : ∀ n {a a' b b' : Nat → Int}, eq7 a a' → eq7 b b' → eq7 (remF n a b) (remF n a' b') := by
  intro n
  induction n with
  | zero => intro a a' b b' ha _; exact ha
  | succ n ih =>
    intro a a' b b' ha hb
    unfold remF
    rw [ha.deg, hb.deg]
    split
    · exact ih (rq_congr ha hb).prim hb
    · exact ha
theorem pS_congr {p q : Nat → Int} (h : eq7 p q) (hp : pS p) : pS q := fun k hk => by rw [← h k hk]; exact hp k hk
theorem fitR_congr : ∀ n {a a' b b' : Nat → Int}, eq7 a a' → eq7 b b' → fitR n a b → fitR n a' b' := by
  intro n
  induction n with
  | zero => intro a a' b b' _ _ _; trivial
  | succ n ih =>
    intro a a' b b' ha hb h hd
    have h2 := h (by rw [ha.deg, hb.deg]; exact hd)
    exact ⟨pS_congr (rq_congr ha hb) h2.1, ih (rq_congr ha hb).prim hb h2.2⟩
theorem remF_pS : ∀ n {a b : Nat → Int}, pS a → fitR n a b → pS (remF n a b) := by
  intro n
  induction n with
  | zero => intro a b h _; exact h
  | succ n ih =>
    intro a b h hf
    unfold remF
    split
    · rename_i q
      exact ih (hf q).1.prim (hf q).2
    · exact h
theorem remF_deg : ∀ (n : Nat) {a b : Nat → Int}, 0 ≤ pdeg b → pdeg a < (n : Int) → pdeg (remF n a b) < pdeg b := by
  intro n
  induction n with
  | zero => intro a b h1 h2; unfold remF; omega
  | succ n ih =>
    intro a b h1 h2
    unfold remF
    split
    · rename_i q
      obtain ⟨g, hg⟩ := Int.eq_ofNat_of_zero_le (show 0 ≤ pdeg a by omega)
      obtain ⟨h, hh⟩ := Int.eq_ofNat_of_zero_le h1
      have := rq_deg (a := a) (b := b) hg hh (by omega)
      exact ih h1 (by omega)
    · omega
/-- the divisor: remainders by turns -/
def comF : Nat → (Nat → Int) → (Nat → Int) → (Nat → Int)
  | 0, a, _ => a
  | n + 1, a, b => if pdeg b < 0 then a else comF n b (remF 7 a b)
def fitC : Nat → (Nat → Int) → (Nat → Int) → Prop
  | 0, _, _ => True
  | n + 1, a, b => 0 ≤ pdeg b → fitR 7 a b ∧ fitC n b (remF 7 a b)
theorem comF_congr : ∀ n {a a' b b' : Nat → Int}, eq7 a a' → eq7 b b' → eq7 (comF n a b) (comF n a' b') := by
  intro n
  induction n with
  | zero => intro a a' b b' ha _; exact ha
  | succ n ih =>
    intro a a' b b' ha hb
    unfold comF
    rw [hb.deg]
    split
    · exact ha
    · exact ih hb (remF_congr 7 ha hb)
theorem fitC_congr : ∀ n {a a' b b' : Nat → Int}, eq7 a a' → eq7 b b' → fitC n a b → fitC n a' b' := by
  intro n
  induction n with
  | zero => intro a a' b b' _ _ _; trivial
  | succ n ih =>
    intro a a' b b' ha hb h hd
    have h2 := h (by rw [hb.deg]; exact hd)
    exact ⟨fitR_congr 7 ha hb h2.1, ih hb (remF_congr 7 ha hb) h2.2⟩
theorem eq7.rfl' {p : Nat → Int} : eq7 p p := fun _ _ => rfl
theorem eq7.symm {p q : Nat → Int} (h : eq7 p q) : eq7 q p := fun k hk => (h k hk).symm
theorem eq7.trans {p q r : Nat → Int} (h : eq7 p q) (h2 : eq7 q r) : eq7 p r := fun k hk => (h k hk).trans (h2 k hk)
theorem ppos_congr {p q : Nat → Int} (h : eq7 p q) : eq7 (ppos p) (ppos q) := by
  intro k hk
  unfold ppos
  rw [h.deg, h k hk, h _ (by have := deg_nat q; exact this)]
theorem pget_pset {σ : Nat → Int} {j : Nat} {f : Nat → Int} : eq7 (pget (pset σ j f) j) f := fun _ hk => pget_set hk
theorem pget_psetN {σ : Nat → Int} {i j : Nat} {f : Nat → Int} (h : i ≠ j) : eq7 (pget (pset σ j f) i) (pget σ i) := fun _ hk => pget_ne hk h
theorem pset_comm (σ f g : Nat → Int) {i j : Nat} (h : i ≠ j) : pset (pset σ i f) j g = pset (pset σ j g) i f := by
  funext m
  unfold pset
  by_cases c1 : 6 + 7 * j ≤ m ∧ m < 6 + 7 * j + 7
  · have c2 : ¬ (6 + 7 * i ≤ m ∧ m < 6 + 7 * i + 7) := by omega
    rw [if_pos c1, if_neg c2, if_pos c1]
  · rw [if_neg c1]
    by_cases c2 : 6 + 7 * i ≤ m ∧ m < 6 + 7 * i + 7
    · rw [if_pos c2, if_pos c2]
    · rw [if_neg c2, if_neg c2, if_neg c1]
theorem pset_eq7 {σ f g : Nat → Int} {j : Nat} (h : eq7 f g) : pset σ j f = pset σ j g := pset_congr h
