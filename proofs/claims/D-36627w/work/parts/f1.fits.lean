/-! PLAIN LAW 37: what is left of a division is small; the model's rows fit -/
theorem rq_sz {a b : Nat → Int} {A B : Nat} (hA : ∀ k, k < 7 → (a k).natAbs ≤ A) (hB : ∀ k, k < 7 → (b k).natAbs ≤ B) (h1 : 1 ≤ B) : ∀ k, k < 7 → (rq a b k).natAbs ≤ A * (2 * B) := by
  intro k hk
  have g7 := deg_nat a
  have h7 := deg_nat b
  have e : A * (2 * B) = A * B + B * A := by rw [Nat.mul_comm B A, Nat.mul_left_comm]; omega
  have sA : (if b (pdeg b).toNat < 0 then -a (pdeg a).toNat else a (pdeg a).toNat).natAbs ≤ A := by
    split
    · rw [Int.natAbs_neg]; exact hA _ g7
    · exact hA _ g7
  have m1 : (a k * ((b (pdeg b).toNat).natAbs : Int)).natAbs ≤ A * B := by
    rw [Int.natAbs_mul, Int.natAbs_natCast]
    exact Nat.mul_le_mul (hA k hk) (hB _ h7)
  unfold rq
  rw [e]
  by_cases c1 : k ≤ (pdeg a).toNat
  · rw [if_pos c1]
    by_cases c2 : (pdeg a).toNat - (pdeg b).toNat ≤ k
    · rw [if_pos c2]
      have m2 : (b (k - ((pdeg a).toNat - (pdeg b).toNat)) * (if b (pdeg b).toNat < 0 then -a (pdeg a).toNat else a (pdeg a).toNat)).natAbs ≤ B * A := by
        rw [Int.natAbs_mul]
        exact Nat.mul_le_mul (hB _ (by omega)) sA
      have := Int.natAbs_sub_le (a k * ((b (pdeg b).toNat).natAbs : Int)) (b (k - ((pdeg a).toNat - (pdeg b).toNat)) * (if b (pdeg b).toNat < 0 then -a (pdeg a).toNat else a (pdeg a).toNat))
      omega
    · rw [if_neg c2, Int.sub_zero]; omega
  · rw [if_neg c1]
    have h2 := hA k hk
    have h3 : A * 1 ≤ A * B := Nat.mul_le_mul_left A h1
    omega
theorem fitR_of {B : Nat} (h1 : 1 ≤ B) {b : Nat → Int} (hB : ∀ k, k < 7 → (b k).natAbs ≤ B) (hb0 : 0 ≤ pdeg b) : ∀ (n t A : Nat) (a : Nat → Int), (∀ k, k < 7 → (a k).natAbs ≤ A) → pdeg a + 1 - pdeg b ≤ (t : Int) → A * (2 * B) ^ t < 2 ^ 1535 → fitR n a b := by
  intro n
  induction n with
  | zero => intro t A a _ _ _; trivial
  | succ n ih =>
    intro t A a hA ht hN hle
    obtain ⟨s, rfl⟩ : ∃ s, t = s + 1 := ⟨t - 1, by omega⟩
    have hq := rq_sz hA hB h1
    have e : A * (2 * B) ^ (s + 1) = A * (2 * B) * (2 * B) ^ s := by rw [Nat.pow_succ, Nat.mul_comm ((2 * B) ^ s) (2 * B)]; exact (Nat.mul_assoc _ _ _).symm
    have hp : 1 ≤ (2 * B) ^ s := Nat.pow_pos (by omega)
    have h2 : A * (2 * B) * 1 ≤ A * (2 * B) * (2 * B) ^ s := Nat.mul_le_mul_left _ hp
    obtain ⟨g, hg⟩ := Int.eq_ofNat_of_zero_le (show 0 ≤ pdeg a by omega)
    obtain ⟨h, hh⟩ := Int.eq_ofNat_of_zero_le hb0
    have hd := rq_deg (a := a) (b := b) hg hh (by omega)
    rw [e] at hN
    refine ⟨fun k hk => ?_, ih s (A * (2 * B)) _ (fun k hk => Nat.le_trans (pprim_le _ k) (hq k hk)) (by omega) hN⟩
    have h3 := hq k hk
    show (rq a b k).natAbs < 2 ^ 1535
    rw [Nat.mul_one] at h2
    exact Nat.lt_of_le_of_lt h3 (Nat.lt_of_le_of_lt h2 hN)
theorem rmS_sz {R Q : Pl} {A B : Nat} (hA : ∀ k, (R.2 k).natAbs ≤ A) (hB : ∀ k, (Q.2 k).natAbs ≤ B) (h1 : 1 ≤ B) : ∀ k, ((rmS R Q).2 k).natAbs ≤ A * (2 * B) := by
  intro k
  have e : A * (2 * B) = A * B + B * A := by rw [Nat.mul_comm B A, Nat.mul_left_comm]; omega
  have sA : (rmt R Q).natAbs ≤ A := by
    unfold rmt
    split
    · rw [Int.natAbs_neg]; exact hA _
    · exact hA _
  have m1 : ∀ i, (R.2 i * ((Q.2 (Q.1 - 1)).natAbs : Int)).natAbs ≤ A * B := fun i => by
    rw [Int.natAbs_mul, Int.natAbs_natCast]
    exact Nat.mul_le_mul (hA i) (hB _)
  show (cut (R.1 - 1) (rmc R Q) k).natAbs ≤ _
  unfold cut
  split
  · unfold rmc
    rw [e]
    split
    · have := m1 k; omega
    · have h2 := m1 k
      have m2 : (Q.2 (k - (R.1 - Q.1)) * rmt R Q).natAbs ≤ B * A := by
        rw [Int.natAbs_mul]
        exact Nat.mul_le_mul (hB _) sA
      have := Int.natAbs_sub_le (R.2 k * ((Q.2 (Q.1 - 1)).natAbs : Int)) (Q.2 (k - (R.1 - Q.1)) * rmt R Q)
      omega
  · rw [Int.natAbs_zero]; exact Nat.zero_le _
theorem pow_i {x N : Nat} (h : x < 2 ^ (32 * N)) : (x : Int) < 2 ^ (32 * N) := by
  have : ((x : Nat) : Int) < ((2 ^ (32 * N) : Nat) : Int) := Int.ofNat_lt.mpr h
  rw [Int.natCast_pow] at this
  exact this
theorem fitS_of {P Q : Pl} {A B N : Nat} (hA : ∀ k, (P.2 k).natAbs ≤ A) (hB : ∀ k, (Q.2 k).natAbs ≤ B) (h1 : 1 ≤ B) (h0 : 0 < Q.1) (hN : A * (2 * B) ^ (P.1 + 1 - Q.1) < 2 ^ (32 * N)) : fitS P Q N := by
  intro j hj
  have key : ∀ j, (∀ i, i < j → Q.1 ≤ (rs P Q i).1) → (rs P Q j).1 ≤ P.1 - j ∧ j ≤ P.1 + 1 - Q.1 ∧ ∀ k, ((rs P Q j).2 k).natAbs ≤ A * (2 * B) ^ j := by
    intro j
    induction j with
    | zero => intro _; exact ⟨Nat.le_refl _, Nat.zero_le _, fun k => by rw [Nat.pow_zero, Nat.mul_one]; exact hA k⟩
    | succ j ih =>
      intro h
      obtain ⟨k1, k2, k3⟩ := ih (fun i hi => h i (by omega))
      have k4 := h j (Nat.lt_succ_self j)
      have k5 : (rmS (rs P Q j) Q).1 ≤ (rs P Q j).1 - 1 := mk_le _ _
      refine ⟨?_, by omega, fun k => ?_⟩
      · show (rmS (rs P Q j) Q).1 ≤ _
        omega
      · have := rmS_sz k3 hB h1 k
        rw [Nat.pow_succ, ← Nat.mul_assoc]
        exact this
  obtain ⟨_, k2, k3⟩ := key j hj
  intro k
  refine pow_i (Nat.lt_of_le_of_lt (k3 k) (Nat.lt_of_le_of_lt (Nat.mul_le_mul_left A (Nat.pow_le_pow_right (by omega) k2)) hN))
/-- exponents -/
def lB : Nat → Nat
  | 0 => 21
  | 1 => 179
  | 2 => 127
  | 3 => 89
  | 4 => 51
  | 5 => 21
  | _ => 14
def lG : Nat → Nat
  | 2 => 179
  | 3 => 127
  | 4 => 89
  | 5 => 51
  | 6 => 16
  | _ => 0
theorem bB_l : ∀ d, bB d ≤ 2 ^ lB d
  | 0 => by decide +kernel
  | 1 => by decide +kernel
  | 2 => by decide +kernel
  | 3 => by decide +kernel
  | 4 => by decide +kernel
  | 5 => by decide +kernel
  | 6 => by decide +kernel
  | n + 7 => (show 9999 ≤ 2 ^ 14 by decide +kernel)
theorem gB_l : ∀ d, gB d ≤ 2 ^ lG d
  | 0 => by decide +kernel
  | 1 => by decide +kernel
  | 2 => by decide +kernel
  | 3 => by decide +kernel
  | 4 => by decide +kernel
  | 5 => by decide +kernel
  | 6 => by decide +kernel
  | n + 7 => (show 1 ≤ 2 ^ 0 by decide +kernel)
theorem pB_l : ∀ d, pB d ≤ 2 ^ 21
  | 0 => by decide +kernel
  | 1 => by decide +kernel
  | 2 => by decide +kernel
  | 3 => by decide +kernel
  | 4 => by decide +kernel
  | 5 => by decide +kernel
  | 6 => by decide +kernel
  | n + 7 => (show 2 ^ 21 ≤ 2 ^ 21 by decide +kernel)
theorem pw_l (d t : Nat) : bB d * (2 * gB d) ^ t ≤ 2 ^ (lB d + (lG d + 1) * t) := by
  rw [Nat.pow_add, Nat.pow_mul]
  refine Nat.mul_le_mul (bB_l d) (Nat.pow_le_pow_left ?_ t)
  rw [Nat.pow_succ]
  have := gB_l d
  omega
theorem lB_le (d : Nat) : lB d ≤ 179 := by unfold lB; split <;> omega
theorem lBG (d t : Nat) (h6 : d ≤ 6) (ht : t ≤ d + 1) : lB d + (lG d + 1) * t ≤ 1000 := by
  have h : d = 0 ∨ d = 1 ∨ d = 2 ∨ d = 3 ∨ d = 4 ∨ d = 5 ∨ d = 6 := by omega
  rcases h with rfl | rfl | rfl | rfl | rfl | rfl | rfl <;> simp only [lB, lG] <;> omega
theorem remF_zz : ∀ (n : Nat) (a b : Nat → Int), pdeg b < 0 → (∀ k, k < 7 → a k = 0) → ∀ k, k < 7 → remF n a b k = 0 := by
  intro n
  induction n with
  | zero => intro a b _ ha; exact ha
  | succ n ih =>
    intro a b hb ha
    unfold remF
    split
    · refine ih _ b hb (fun k hk => pprim_z ?_)
      have z : ∀ k, k < 7 → b k = 0 := fun k hk => degU_hi b 7 k (by show pdeg b < _; omega) hk
      unfold rq
      rw [z _ (deg_nat b), ha k hk]
      split
      · split
        · rw [z _ (by omega)]; simp
        · simp
      · rfl
    · exact ha
theorem remF_z {a b : Nat → Int} (n : Nat) (hb : pdeg b < 0) : ∀ k, k < 7 → remF (n + 1) a b k = 0 := by
  have hi := pdeg_in a
  rw [remF_s (show pdeg b ≤ pdeg a by omega)]
  refine remF_zz n _ b hb (fun k hk => pprim_z ?_)
  have z : ∀ k, k < 7 → b k = 0 := fun k hk => degU_hi b 7 k (by show pdeg b < _; omega) hk
  unfold rq
  rw [z _ (deg_nat b)]
  by_cases c : k ≤ (pdeg a).toNat
  · rw [if_pos c]
    split
    · rw [z _ (by omega)]; simp
    · simp
  · rw [if_neg c]
    exact degU_hi a 7 k (by show pdeg a < _; omega) hk
theorem row_end2 {p : Nat → Int} {L : Nat} (hr : isRow p L) : ∀ j, pdeg (rsq p (L + j)) < 0 := by
  intro j
  induction j with
  | zero => exact hr.2.2.2
  | succ j ih =>
    have hL := hr.1
    obtain ⟨i, hi⟩ : ∃ i, L + j = i + 1 := ⟨L + j - 1, by omega⟩
    rw [show L + (j + 1) = i + 2 by omega, show rsq p (i + 2) = fun j => -(remF 7 (rsq p i) (rsq p (i + 1)) j) from by rw [rsq], pdeg_neg]
    rw [hi] at ih
    have := degU_le (p := remF 7 (rsq p i) (rsq p (i + 1))) (m := 0) 7 (fun k _ hk => remF_z 6 ih k hk)
    exact this
theorem drv_21 {p : Nat → Int} (hb : bq p) {d : Nat} (hd : pdeg p = (d : Int)) (k : Nat) : (drv p k).natAbs ≤ 2 ^ 24 := by
  have h1 := drv_le hd (hb d hd) k
  have h3 := pdeg_in p
  have h2 : d * pB d ≤ 2 ^ 3 * 2 ^ 21 := Nat.mul_le_mul (by omega) (pB_l d)
  rw [← Nat.pow_add] at h2
  exact Nat.le_trans h1 h2
theorem fitRow_of {p : Nat → Int} {L : Nat} (hr : isRow p L) (hb : bq p) : fitRow p := by
  obtain ⟨d, hd⟩ := Int.eq_ofNat_of_zero_le (show 0 ≤ pdeg p by have := hr.2.2.1 0 (by have := hr.1; omega); rwa [rsq_0, prim_deg] at this)
  have d6 : d < 7 := by have := pdeg_in p; omega
  have two : ∀ x : Nat, x ≤ 1000 → 2 ^ x < 2 ^ 1535 := fun x hx => Nat.pow_lt_pow_right (by decide) (by omega)
  refine ⟨fun k hk => ?_, fun k hk => ?_, fun i hi => ?_⟩
  · exact Nat.lt_of_le_of_lt (hb d hd k hk) (Nat.lt_of_le_of_lt (pB_l d) (two _ (by omega)))
  · exact Nat.lt_of_le_of_lt (drv_21 hb hd k) (two _ (by omega))
  · have hiL : i + 1 < L := by
      refine Classical.byContradiction fun h => ?_
      have := row_end2 hr (i + 1 - L)
      rw [show L + (i + 1 - L) = i + 1 by omega] at this
      omega
    obtain ⟨e, he⟩ := Int.eq_ofNat_of_zero_le (hr.2.2.1 i (by omega))
    have e6 := pdeg_in (rsq p i)
    exact fitR_of (B := gB e) (gB_1 e) (row_g hr hb hiL he) hi 7 (e + 1) (bB e) (rsq p i) (row_bB hr hb (by omega) he) (by omega) (Nat.lt_of_le_of_lt (pw_l e (e + 1)) (two _ (lBG e (e + 1) (by omega) (Nat.le_refl _))))
