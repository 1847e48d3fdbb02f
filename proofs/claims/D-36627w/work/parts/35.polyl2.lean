/-! POLYNOMIALS of the model: two of them and the temporaries -/
/-- i holds p, j holds q, the temporaries f -/
def two (σ : Nat → Int) (i j : Nat) (p q f : Nat → Int) : Nat → Int := tmp (pset (pset σ i p) j q) f
theorem two_i {σ p q f : Nat → Int} {i j : Nat} (h : i ≠ j) : eq7 (pget (two σ i j p q f) i) p := by
  intro k hk
  unfold two
  rw [pget_tmp, pget_ne hk h, pget_set hk]
theorem two_j {σ p q f : Nat → Int} {i j : Nat} : eq7 (pget (two σ i j p q f) j) q := by
  intro k hk
  unfold two
  rw [pget_tmp, pget_set hk]
theorem two_o {σ p q f : Nat → Int} {i j m : Nat} (h1 : m ≠ i) (h2 : m ≠ j) : eq7 (pget (two σ i j p q f) m) (pget σ m) := by
  intro k hk
  unfold two
  rw [pget_tmp, pget_ne hk h2, pget_ne hk h1]
theorem two_comm (σ p q f : Nat → Int) {i j : Nat} (h : i ≠ j) : two σ i j p q f = two σ j i q p f := by
  unfold two; rw [pset_comm _ _ _ h]
theorem two_tmp (σ p q f g : Nat → Int) (i j : Nat) : tmp (two σ i j p q f) g = two σ i j p q g := tmp_tmp _ _ _
theorem two_set (σ p q f r : Nat → Int) {i j : Nat} (h : i ≠ j) : pset (two σ i j p q f) i r = two σ i j r q f := by
  unfold two
  rw [← tmp_pset, pset_comm _ _ _ (Ne.symm h), pset_pset]
theorem two_self (σ : Nat → Int) {i j : Nat} : two σ i j (pget σ i) (pget σ j) σ = σ := by
  unfold two
  rw [pset_pget, pset_pget, tmp_self]
/-- the common divisor of two -/
def comR (a b : Nat → Int) : Nat → Int := ppos (pprim (if pdeg a < pdeg b then comF 8 b a else comF 8 a b))
def fitG (a b : Nat → Int) : Prop := if pdeg a < pdeg b then fitC 8 b a else fitC 8 a b
theorem comF_t {n : Nat} {a b : Nat → Int} (h : pdeg b < 0) : comF n a b = a := by
  cases n with
  | zero => rfl
  | succ n => rw [comF, if_pos h]
theorem comF_s {n : Nat} {a b : Nat → Int} (h : ¬ pdeg b < 0) : comF (n + 1) a b = comF n b (remF 7 a b) := by rw [comF, if_neg h]
/-- where two are let be -/
theorem two_fin {σ p q f r : Nat → Int} {i j : Nat} (h : (i = 0 ∧ j = 1) ∨ (i = 1 ∧ j = 0)) : ∃ p' q', pset (two σ i j p q f) 3 r = pset (two σ 0 1 p' q' f) 3 r := by
  rcases h with ⟨rfl, rfl⟩ | ⟨rfl, rfl⟩
  · exact ⟨p, q, rfl⟩
  · exact ⟨q, p, by rw [two_comm _ _ _ _ (by decide)]⟩
theorem pS.pos {p : Nat → Int} (h : pS p) : pS (ppos p) := fun k hk => by
  unfold ppos
  split
  · rw [Int.natAbs_neg]; exact h k hk
  · exact h k hk
