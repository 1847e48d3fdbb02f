/-! NUMBERS of the model, what single methods need -/
theorem up_hf {f : Nat → Int} {k : Nat} {s : Int} (hf : ∀ j, 2 ≤ j → j < k → f j = s) : ∀ j, 2 ≤ j → j < k + 1 → va_up f k s j = s := by
  intro j h2 hj
  unfold va_up
  by_cases e : j = k
  · rw [if_pos e]
  · rw [if_neg e]; exact hf j h2 (by omega)
theorem dg_0 (x : Int) : dg x 0 = x % 4294967296 := by simp [dg]
theorem dg_1 (x : Int) : dg x 1 = x / 4294967296 % 4294967296 := rfl
theorem big_pow {j : Nat} (h : 2 ≤ j) : (18446744073709551616 : Int) ≤ 2 ^ (32 * j) := by
  obtain ⟨d, rfl⟩ : ∃ d, j = 2 + d := ⟨j - 2, by omega⟩
  rw [p32a]
  have := p2 (32 * d)
  have := Int.mul_le_mul_of_nonneg_left (show (1 : Int) ≤ 2 ^ (32 * d) by omega) (show (0 : Int) ≤ 18446744073709551616 by decide)
  exact this
theorem set_fin {x : Int} (hx : rJ x) {f : Nat → Int} (hf : ∀ j, 2 ≤ j → j < 48 → f j = if x < 0 then -1 else 0) : ∀ j, j < 48 → iZ (va_up (va_up f 0 x) 1 (x / 2 ^ 32) j) = iZ (dg x j) := by
  intro j hj
  unfold va_up
  by_cases h1 : j = 1
  · subst h1; rw [if_pos rfl, dg_1]; exact (iZ_mod _).symm
  · rw [if_neg h1]
    by_cases h0 : j = 0
    · subst h0; rw [if_pos rfl, dg_0]; exact (iZ_mod _).symm
    · rw [if_neg h0, hf j (by omega) hj]
      have hp := big_pow (show 2 ≤ j by omega)
      unfold dg
      rw [iZ_mod]
      congr 1
      generalize (2 : Int) ^ (32 * j) = B at hp
      by_cases hn : x < 0
      · rw [if_pos hn]
        have : x / B = -1 := by
          have h1 : x = (x + B) + B * (-1) := by omega
          rw [h1, Int.add_mul_ediv_left _ _ (by omega), Int.ediv_eq_zero_of_lt (by omega) (by omega)]
          omega
        exact this.symm
      · rw [if_neg hn, Int.ediv_eq_zero_of_lt (by omega) (by omega)]
/-- the range of 48 ints -/
def rN (x : Int) : Prop := -2 ^ 1535 ≤ x ∧ x < 2 ^ 1535
/-- the bare numbers -/
def rU (x : Int) : Prop := 0 ≤ x ∧ x < 2 ^ 1536
theorem rU_n {x : Int} (h : rU x) : 0 ≤ x ∧ x < 2 ^ (32 * 48) := h
theorem rN.U {x : Int} (h : rN x) (h0 : 0 ≤ x) : rU x := by
  refine ⟨h0, ?_⟩
  have h1 := h.2
  have e : (2 : Int) ^ 1536 = 2 ^ 1535 * 2 := by rw [← Int.pow_succ]
  have := p2 1535
  omega
theorem dg47 {x : Int} (h : rN x) : 2147483648 ≤ dg x 47 ↔ x < 0 := by
  obtain ⟨h1, h2⟩ := h
  have e : (2 : Int) ^ 1535 = 2 ^ (32 * 47) * 2147483648 := by rw [show (1535 : Nat) = 32 * 47 + 31 from rfl, Int.pow_add]; rfl
  unfold dg
  rw [e] at h1 h2
  have hB := p2 (32 * 47)
  generalize (2 : Int) ^ (32 * 47) = B at hB h1 h2
  have h3 := Int.mul_ediv_add_emod x B
  have h4 := Int.emod_nonneg x (Int.ne_of_gt hB)
  have h5 := Int.emod_lt_of_pos x hB
  have q1 : -2147483648 ≤ x / B := (Int.le_ediv_iff_mul_le hB).mpr (by rw [Int.mul_comm]; omega)
  have q2 : x / B < 2147483648 := Int.ediv_lt_of_lt_mul hB (by rw [Int.mul_comm]; omega)
  have q3 : x < 0 ↔ x / B < 0 := by
    constructor
    · intro q
      exact Int.ediv_lt_of_lt_mul hB (by omega)
    · intro q
      have : B * (x / B) ≤ B * (-1) := Int.mul_le_mul_of_nonneg_left (by omega) (Int.le_of_lt hB)
      omega
  omega
theorem dg_all0 {x : Int} (h : rU x) (hz : ∀ j, j < 48 → dg x j = 0) : x = 0 := by
  have h1 := dg_mod_ext (x := x) (y := 0) (n := 48) (fun j hj => by rw [hz j hj]; simp [dg])
  rw [Int.emod_eq_of_lt h.1 h.2] at h1
  rw [h1]; simp
theorem dg_z (j : Nat) : dg 0 j = 0 := by simp [dg]
theorem abs_if (x : Int) : (x.natAbs : Int) = if x < 0 then -x else x := by split <;> omega
/-- less over n digits -/
theorem less_fin {x y : Int} {n : Nat} (h0 : 0 ≤ y) (h1 : y ≤ x) (h2 : x < 2 ^ (32 * n)) : ∀ j, j < 48 → (if j < n then dg (x - y) j else dg x j) = dg (x - y) j := by
  intro j hj
  split
  · rfl
  · rw [dg_hi (by omega) h2 (by omega), dg_hi (n := n) (show 0 ≤ x - y by omega) (by omega) (by omega)]
theorem left_dg (x : Int) (far b k : Nat) (hb : b ≤ 31) : iZ ((if far < k + 1 then dg x (k - far) else 0) * 2 ^ b + (if far + 1 < k + 1 then dg x (k - 1 - far) else 0) / 2 ^ (32 - b)) = iZ (dg (x * 2 ^ (32 * far + b)) k) := by
  by_cases h1 : k < far
  · rw [if_neg (by omega), if_neg (by omega), dg_shl_lo x far b k hb h1]
    simp
  · rw [if_pos (by omega)]
    obtain ⟨j, rfl⟩ : ∃ j, k = far + j := ⟨k - far, by omega⟩
    have e : x * 2 ^ (32 * far + b) = (x * 2 ^ b) * 2 ^ (32 * far) := by rw [Int.pow_add]; grind
    rw [e, dg_far, Nat.add_sub_cancel_left]
    cases j with
    | zero =>
      rw [if_neg (by omega), dg_shl0]
      simp only [Int.zero_ediv, Int.add_zero]
      exact (iZ_mod _).symm
    | succ j =>
      rw [if_pos (by omega), show far + (j + 1) - 1 - far = j by omega, dg_shl1 x b (by omega)]
      exact (iZ_mod _).symm
theorem left_dg0 (x : Int) (far k : Nat) : (if far < k + 1 then dg x (k - far) else 0) = dg (x * 2 ^ (32 * far + 0)) k := by
  by_cases h1 : k < far
  · rw [if_neg (by omega), dg_shl_lo x far 0 k (by omega) h1]
  · rw [if_pos (by omega)]
    obtain ⟨j, rfl⟩ : ∃ j, k = far + j := ⟨k - far, by omega⟩
    rw [Nat.add_zero, dg_far, Nat.add_sub_cancel_left]
theorem shr_lt {x : Int} {n s : Nat} (h0 : 0 ≤ x) (h : x < 2 ^ n) : 0 ≤ x / 2 ^ s ∧ x / 2 ^ s < 2 ^ n := by
  have hs := p2 s
  refine ⟨Int.ediv_nonneg h0 (Int.le_of_lt hs), Int.lt_of_le_of_lt (Int.ediv_le_self _ h0) h⟩
/-- comparing from the top -/
theorem cmp_lt {x y : Int} {n k : Nat} (hx : 0 ≤ x ∧ x < 2 ^ (32 * n)) (hy : 0 ≤ y ∧ y < 2 ^ (32 * n)) (hk : k < n) (he : ∀ j, k < j → j < n → dg x j = dg y j) (hl : dg x k < dg y k) : x < y := by
  have key : ∀ d, k + 1 + d ≤ n → x % 2 ^ (32 * (k + 1 + d)) < y % 2 ^ (32 * (k + 1 + d)) := by
    intro d
    induction d with
    | zero =>
      intro _
      rw [Nat.add_zero, low_s, low_s]
      have hB := p2 (32 * k)
      generalize (2 : Int) ^ (32 * k) = B at hB ⊢
      have h2 := Int.emod_lt_of_pos x hB
      have h3 := Int.emod_nonneg y (Int.ne_of_gt hB)
      have : B * (dg x k + 1) ≤ B * dg y k := Int.mul_le_mul_of_nonneg_left (by omega) (Int.le_of_lt hB)
      rw [Int.mul_add, Int.mul_one] at this
      omega
    | succ d ih =>
      intro h
      have := ih (by omega)
      rw [← Nat.add_assoc, low_s x (k + 1 + d), low_s y (k + 1 + d), he (k + 1 + d) (by omega) (by omega)]
      omega
  obtain ⟨d, rfl⟩ : ∃ d, n = k + 1 + d := ⟨n - k - 1, by omega⟩
  have := key d (by omega)
  rw [Int.emod_eq_of_lt hx.1 hx.2, Int.emod_eq_of_lt hy.1 hy.2] at this
  exact this
theorem cmp_eq {x y : Int} {n : Nat} (hx : 0 ≤ x ∧ x < 2 ^ (32 * n)) (hy : 0 ≤ y ∧ y < 2 ^ (32 * n)) (he : ∀ j, j < n → dg x j = dg y j) : x = y := by
  have := dg_mod_ext he
  rw [Int.emod_eq_of_lt hx.1 hx.2, Int.emod_eq_of_lt hy.1 hy.2] at this
  exact this
/-- low part is 0 up to k -/
theorem low0 {x : Int} {k : Nat} (hz : ∀ j, j < k → dg x j = 0) : x % 2 ^ (32 * k) = 0 := by
  have := dg_mod_ext (x := x) (y := 0) (n := k) (fun j hj => by rw [hz j hj, dg_z])
  simpa using this
/-- multiply: row i done -/
theorem mul_row (x y : Int) (i : Nat) : (x % 2 ^ (32 * (i + 1))) * y = (x % 2 ^ (32 * i)) * y + dg x i * 2 ^ (32 * i) * y := by
  rw [low_s]; grind
theorem mul_low (x y : Int) {i j : Nat} (h : j < i) : dg ((x % 2 ^ (32 * i)) * y + dg x i * 2 ^ (32 * i) * y) j = dg ((x % 2 ^ (32 * i)) * y) j := by
  rw [show (x % 2 ^ (32 * i)) * y + dg x i * 2 ^ (32 * i) * y = (x % 2 ^ (32 * i)) * y + 2 ^ (32 * i) * (dg x i * y) by grind, dg_low _ _ h]
/-- digits below n are those of the number modulo -/
theorem dg_modn (x : Int) {n j : Nat} (h : j < n) : dg (x % 2 ^ (32 * n)) j = dg x j := by
  have h1 := Int.mul_ediv_add_emod x (2 ^ (32 * n))
  conv => rhs; rw [← h1, Int.add_comm]
  rw [dg_low _ _ h]
theorem mul_fin (x y : Int) {j : Nat} (h : j < 48) : dg ((x % 2 ^ (32 * 48)) * y) j = dg (x * y) j := by
  rw [← dg_modn (x % 2 ^ (32 * 48) * y) h, ← dg_modn (x * y) h, Int.mul_emod, Int.emod_emod, ← Int.mul_emod]
theorem iZ_sg (d : Int) : iZ d = iZ ((d + 2147483648) % 4294967296 - 2147483648) := iZ_cong (by omega)
theorem dn_s {f g h : Nat → Int} {n k : Nat} (h0 : 0 < k) (hf : ∀ j, j < n → f j = if j < k then g j else h j) : ∀ j, j < n → va_up f (k - 1) (h (k - 1)) j = if j < k - 1 then g j else h j := by
  intro j hj
  unfold va_up
  by_cases e : j = k - 1
  · subst e; simp
  · rw [if_neg e, hf j hj]
    by_cases l : j < k - 1
    · rw [if_pos l, if_pos (by omega)]
    · rw [if_neg l, if_neg (by omega)]
theorem ite_in (x : Int) (c : Prop) [Decidable c] (j : Nat) : 0 ≤ (if c then dg x j else 0) ∧ (if c then dg x j else 0) < 4294967296 := by
  split
  · exact dg_in x j
  · exact ⟨by decide, by decide⟩
theorem lo_lt {d : Int} (b : Nat) (hb : b ≤ 31) (h : d < 4294967296) : d / 2 ^ (32 - b) < 2 ^ b := by
  refine Int.ediv_lt_of_lt_mul (p2 _) ?_
  rw [Int.mul_comm, pb b (by omega)]
  exact h
theorem right_dg0 (x : Int) (far k : Nat) : dg x (k + far) = dg (x / 2 ^ (32 * far + 0)) k := by
  rw [dg_shr x far 0 (by omega)]
  have h1 := dg_in x (k + far)
  have h2 := dg_in x (k + far + 1)
  simp
  omega
theorem right_fin {x : Int} {n s : Nat} (h0 : 0 ≤ x) (h : x < 2 ^ (32 * n)) {j : Nat} (hj : n ≤ j) : dg x j = dg (x / 2 ^ s) j := by
  have := shr_lt (s := s) h0 h
  rw [dg_hi h0 h hj, dg_hi this.1 this.2 hj]
theorem top_lt {x : Int} {n : Nat} (h : rU x) (hz : ∀ j, n ≤ j → j < 48 → dg x j = 0) (hn : n ≤ 48) : x < 2 ^ (32 * n) := by
  have key : ∀ d, d ≤ 48 - n → x < 2 ^ (32 * (48 - d)) := by
    intro d
    induction d with
    | zero => intro _; exact h.2
    | succ d ih =>
      intro hd
      have h1 := ih (by omega)
      have e : 48 - d = 48 - (d + 1) + 1 := by omega
      rw [e] at h1
      exact dg_top h.1 h1 (hz _ (by omega) (by omega))
  have := key (48 - n) (Nat.le_refl _)
  rw [show 48 - (48 - n) = n by omega] at this
  exact this
theorem top_ge {x : Int} {n : Nat} (h : 0 ≤ x) (hd : dg x n ≠ 0) : 2 ^ (32 * n) ≤ x := by
  rcases Int.lt_or_le x (2 ^ (32 * n)) with q | q
  · exact absurd (dg_hi h q (Nat.le_refl n)) hd
  · exact q
/-- how many ints, how many bits a bare number has -/
def isInts (x : Int) (n : Nat) : Prop := n ≤ 48 ∧ x < 2 ^ (32 * n) ∧ (0 < n → 2 ^ (32 * (n - 1)) ≤ x)
def isBits (x : Int) (n : Nat) : Prop := x < 2 ^ n ∧ (0 < n → 2 ^ (n - 1) ≤ x)
def isZeros (x : Int) (n : Nat) : Prop := x % 2 ^ n = 0 ∧ x / 2 ^ n % 2 = 1
/-- ~d & (d - 1), of a number with t zeros -/
theorem ntz_and {d t : Nat} (hd : d < 2 ^ 32) (h1 : d % 2 ^ t = 0) (h2 : d / 2 ^ t % 2 = 1) : (2 ^ 32 - (d + 1)) &&& (d - 1) = 2 ^ t - 1 := by
  obtain ⟨m, hm⟩ : ∃ m, d / 2 ^ t = 2 * m + 1 := ⟨d / 2 ^ t / 2, by omega⟩
  have e : d = 2 ^ t * (2 * m + 1) := by
    have := Nat.div_add_mod d (2 ^ t)
    rw [h1, hm] at this; omega
  have e1 : d - 1 = 2 ^ t * (2 * m) + (2 ^ t - 1) := by
    have hp : 0 < 2 ^ t := Nat.pow_pos (by decide)
    rw [e, Nat.mul_add]; omega
  apply Nat.eq_of_testBit_eq
  intro i
  have hp : 2 ^ t - 1 < 2 ^ t := by have : 0 < 2 ^ t := Nat.pow_pos (by decide)
                                    omega
  rw [Nat.testBit_and, Nat.testBit_two_pow_sub_succ hd, Nat.testBit_two_pow_sub_one]
  have hdb : d.testBit i = if i < t then false else (2 * m + 1).testBit (i - t) := by
    rw [e, Nat.testBit_two_pow_mul]
    by_cases q : i < t
    · rw [if_pos q]; simp [show ¬ t ≤ i by omega]
    · rw [if_neg q]; simp [show t ≤ i by omega]
  have hd1 : (d - 1).testBit i = if i < t then true else (2 * m).testBit (i - t) := by
    rw [e1, Nat.testBit_two_pow_mul_add _ hp]
    by_cases q : i < t
    · rw [if_pos q, if_pos q, Nat.testBit_two_pow_sub_one]; simp [q]
    · rw [if_neg q, if_neg q]
  have ht : t < 32 := by
    rcases Nat.lt_or_ge t 32 with q | q
    · exact q
    · have : 2 ^ 32 ≤ 2 ^ t := Nat.pow_le_pow_right (by decide) q
      have hp0 : 0 < 2 ^ t := Nat.pow_pos (by decide)
      have : 2 ^ t * 1 ≤ 2 ^ t * (2 * m + 1) := Nat.mul_le_mul_left _ (by omega)
      omega
  rw [hdb, hd1]
  by_cases q : i < t
  · simp [q, show i < 32 by omega]
  · simp only [if_neg q, q, decide_false]
    by_cases z : i - t = 0
    · rw [z]; simp [Nat.testBit_zero]
    · obtain ⟨s, hs⟩ : ∃ s, i - t = s + 1 := ⟨i - t - 1, by omega⟩
      rw [hs, Nat.testBit_succ, Nat.testBit_succ, show (2 * m + 1) / 2 = m by omega, show 2 * m / 2 = m by omega]
      cases m.testBit s <;> simp
theorem pw_mono {a b : Nat} (h : a ≤ b) : (2 : Int) ^ a ≤ 2 ^ b := by
  obtain ⟨d, rfl⟩ : ∃ d, b = a + d := ⟨b - a, by omega⟩
  rw [Int.pow_add]
  have h1 := p2 a
  have h2 := p2 d
  have := Int.mul_le_mul_of_nonneg_left (show (1 : Int) ≤ 2 ^ d by omega) (Int.le_of_lt h1)
  omega
theorem pw_lt {a b : Nat} (h : (2 : Int) ^ a < 2 ^ b) : a < b := by
  rcases Nat.lt_or_ge a b with q | q
  · exact q
  · have := pw_mono q; omega
theorem pw_sh {u s : Nat} (hs : s ≤ u) (hu : u ≤ 32) : ((2 ^ u - 1) % 4294967296) / 2 ^ s = (2 : Int) ^ (u - s) - 1 := by
  have h1 := pw_mono hu
  have h2 := p2 u
  have e32 : (2 : Int) ^ 32 = 4294967296 := by decide
  rw [Int.emod_eq_of_lt (by omega) (by omega)]
  have hp := p2 s
  have e : (2 : Int) ^ u - 1 = (2 ^ s - 1) + 2 ^ s * (2 ^ (u - s) - 1) := by
    have : (2 : Int) ^ u = 2 ^ s * 2 ^ (u - s) := by rw [← Int.pow_add]; congr 1; omega
    rw [this]; grind
  rw [e, Int.add_mul_ediv_left _ _ (Int.ne_of_gt hp), Int.ediv_eq_zero_of_lt (by omega) (by omega)]
  omega
theorem ush {d : Int} {s r : Nat} (h0 : 0 ≤ d) (h : d < 4294967296) : (d / 2 ^ s % 4294967296) / 2 ^ r = d / 2 ^ (s + r) := by
  have hs := p2 s
  have h1 : 0 ≤ d / 2 ^ s := Int.ediv_nonneg h0 (Int.le_of_lt hs)
  have h2 : d / 2 ^ s ≤ d := Int.ediv_le_self _ h0
  rw [Int.emod_eq_of_lt h1 (by omega), Int.ediv_ediv_of_nonneg (Int.le_of_lt hs), ← Int.pow_add]
theorem ush_in {d : Int} (s : Nat) (h0 : 0 ≤ d) : 0 ≤ d / 2 ^ s ∧ d / 2 ^ s ≤ d := ⟨Int.ediv_nonneg h0 (Int.le_of_lt (p2 s)), Int.ediv_le_self _ h0⟩
theorem bits_div {d : Int} {s m : Nat} (h1 : d / 2 ^ s < 2 ^ (m + 1)) (h2 : 2 ^ m ≤ d / 2 ^ s) : isBits d (s + m + 1) := by
  have hs := p2 s
  refine ⟨?_, fun _ => ?_⟩
  · rw [Nat.add_assoc, Int.pow_add]
    have := Int.mul_ediv_add_emod d (2 ^ s)
    have h3 := Int.emod_lt_of_pos d hs
    have : 2 ^ s * (d / 2 ^ s + 1) ≤ 2 ^ s * 2 ^ (m + 1) := Int.mul_le_mul_of_nonneg_left (by omega) (Int.le_of_lt hs)
    rw [Int.mul_add] at this
    omega
  · rw [Nat.add_sub_cancel, Int.pow_add]
    have := Int.mul_ediv_add_emod d (2 ^ s)
    have h3 := Int.emod_nonneg d (Int.ne_of_gt hs)
    have : 2 ^ s * 2 ^ m ≤ 2 ^ s * (d / 2 ^ s) := Int.mul_le_mul_of_nonneg_left h2 (Int.le_of_lt hs)
    omega
theorem iZ_nat_tn {n : Nat} (h : n < 4294967296) : (iZ (n : Int)).toBitVec.toNat = n := by rw [iZ_tn]; omega
theorem iZ_andN {a b c : Nat} (ha : a < 4294967296) (hb : b < 4294967296) (h : a &&& b = c) : iZ (a : Int) &&& iZ (b : Int) = iZ (c : Int) := by
  refine iZ_ext ?_
  have hc : c < 4294967296 := by rw [← h]; exact Nat.lt_of_le_of_lt Nat.and_le_left ha
  rw [Int32.toBitVec_and, BitVec.toNat_and, iZ_nat_tn ha, iZ_nat_tn hb, iZ_nat_tn hc, h]
theorem ntz_iZ {d t : Nat} (h0 : 0 < d) (hd : d < 4294967296) (h1 : d % 2 ^ t = 0) (h2 : d / 2 ^ t % 2 = 1) : iZ (-1 - (d : Int)) &&& iZ ((d : Int) - 1) = iZ (2 ^ t - 1) := by
  have ht := ntz_and (t := t) (show d < 2 ^ 32 from hd) h1 h2
  have e1 : iZ (-1 - (d : Int)) = iZ ((2 ^ 32 - (d + 1) : Nat) : Int) := iZ_cong (by omega)
  have e2 : iZ ((d : Int) - 1) = iZ ((d - 1 : Nat) : Int) := by congr 1; omega
  have e3 : (2 : Int) ^ t - 1 = ((2 ^ t - 1 : Nat) : Int) := by
    have : 0 < 2 ^ t := Nat.pow_pos (by decide)
    rw [Int.natCast_sub (by omega), Int.natCast_pow]; rfl
  rw [e1, e2, e3]
  exact iZ_andN (by omega) (by omega) ht
theorem zeros_lt {d : Int} {t : Nat} (h0 : 0 < d) (hd : d < 4294967296) (h : isZeros d t) : t < 32 := by
  have hp := p2 t
  have h1 := Int.mul_ediv_add_emod d (2 ^ t)
  rw [h.1] at h1
  have h2 := h.2
  have hq : 1 ≤ d / 2 ^ t := by
    rcases Int.lt_or_le 0 (d / 2 ^ t) with q | q
    · exact q
    · have := Int.mul_le_mul_of_nonneg_left q (Int.le_of_lt hp); omega
  have := Int.mul_le_mul_of_nonneg_left hq (Int.le_of_lt hp)
  have e32 : (2 : Int) ^ 32 = 4294967296 := by decide
  exact pw_lt (by omega)
/-- every number above 0 has its zeros -/
theorem zeros_ex : ∀ (n : Nat) (x : Int), 0 < x → x < 2 ^ n → ∃ t, isZeros x t := by
  intro n
  induction n with
  | zero => intro x h0 h; simp at h; omega
  | succ n ih =>
    intro x h0 h
    by_cases e : x % 2 = 1
    · exact ⟨0, by unfold isZeros; simp [Int.emod_one, e]⟩
    · obtain ⟨t, h1, h2⟩ := ih (x / 2) (by omega) (by rw [Int.pow_succ] at h; omega)
      refine ⟨t + 1, ?_, ?_⟩
      · have hx : x = 2 * (x / 2) := by omega
        rw [hx, Int.pow_succ, Int.mul_comm (2 ^ t) 2, Int.mul_emod_mul_of_pos _ _ (by decide), h1]
        rfl
      · rw [Int.pow_succ, Int.mul_comm (2 ^ t) 2, ← Int.ediv_ediv_of_nonneg (by decide)]
        exact h2
theorem zeros_dg {x : Int} {k t : Nat} (hz : ∀ j, j < k → dg x j = 0) (h : isZeros (dg x k) t) (ht : t < 32) : isZeros x (32 * k + t) := by
  have h0 := low0 hz
  have hB := p2 (32 * k)
  have hT := p2 t
  have h1 := Int.mul_ediv_add_emod x (2 ^ (32 * k))
  rw [h0] at h1
  unfold dg at h
  have e : x / 2 ^ (32 * k) % 4294967296 = x / 2 ^ (32 * k) - 2 ^ t * (2 * (2 ^ (31 - t) * (x / 2 ^ (32 * k) / 4294967296))) := by
    have q : (4294967296 : Int) = 2 ^ t * 2 * 2 ^ (31 - t) := by
      rw [← Int.pow_succ, ← Int.pow_add, show t + 1 + (31 - t) = 32 by omega]; rfl
    have := Int.emod_def (x / 2 ^ (32 * k)) 4294967296
    rw [this]
    conv => lhs; rw [q]
    have q2 : ∀ X : Int, X / (2 ^ t * 2 * 2 ^ (31 - t)) = X / 4294967296 := fun X => by rw [← q]
    rw [q2]
    grind
  rw [e] at h
  generalize x / 2 ^ (32 * k) / 4294967296 = Y at h e
  generalize x / 2 ^ (32 * k) = X at h h1 e
  have hx : x = 2 ^ (32 * k) * X := by omega
  obtain ⟨g1, g2⟩ := h
  have f1 : X % 2 ^ t = 0 := by
    rw [show X - 2 ^ t * (2 * (2 ^ (31 - t) * Y)) = X + 2 ^ t * (-(2 * (2 ^ (31 - t) * Y))) by grind, Int.add_mul_emod_self_left] at g1
    exact g1
  have f2 : X / 2 ^ t % 2 = 1 := by
    rw [show X - 2 ^ t * (2 * (2 ^ (31 - t) * Y)) = X + 2 ^ t * (2 * (-(2 ^ (31 - t) * Y))) by grind, Int.add_mul_ediv_left _ _ (Int.ne_of_gt hT), Int.add_mul_emod_self_left] at g2
    exact g2
  refine ⟨?_, ?_⟩
  · rw [hx, Int.pow_add, Int.mul_emod_mul_of_pos _ _ hB, f1, Int.mul_zero]
  · rw [hx, Int.pow_add, Int.mul_ediv_mul_of_pos _ _ hB]
    exact f2
theorem lo_lt' {d : Int} (b : Nat) (hb : b ≤ 31) (h : d < 4294967296) : d / 2 ^ b < 2 ^ (32 - b) := by
  refine Int.ediv_lt_of_lt_mul (p2 _) ?_
  rw [pb b (by omega)]
  exact h
theorem nlz_s {d : Int} {s r : Nat} (h0 : 0 ≤ d) (h : d < 4294967296) (h1 : 1 ≤ d / 2 ^ s) (h2 : (2 : Int) ^ r ≤ d / 2 ^ s) (_ : r ≤ 16) (_ : 0 < r) : s + r ≤ 31 := by
  have hs := p2 s
  have h3 := Int.mul_ediv_add_emod d (2 ^ s)
  have h4 := Int.emod_nonneg d (Int.ne_of_gt hs)
  have h5 := Int.mul_le_mul_of_nonneg_left h2 (Int.le_of_lt hs)
  rw [← Int.pow_add] at h5
  have e : (2 : Int) ^ 32 = 4294967296 := by decide
  have := pw_lt (a := s + r) (b := 32) (by omega)
  omega
theorem nlz_t {d : Int} {s : Nat} (h : d < 4294967296) (h2 : 2 ≤ d / 2 ^ s) : s + 1 + 1 ≤ 32 := by
  have hs := p2 s
  have h3 := Int.mul_ediv_add_emod d (2 ^ s)
  have h4 := Int.emod_nonneg d (Int.ne_of_gt hs)
  have h5 := Int.mul_le_mul_of_nonneg_left h2 (Int.le_of_lt hs)
  have e : (2 : Int) ^ 32 = 4294967296 := by decide
  have e2 : (2 : Int) ^ (s + 1) = 2 ^ s * 2 := Int.pow_succ _ _
  have := pw_lt (a := s + 1) (b := 32) (by omega)
  omega
theorem pw_le {u m : Nat} (h : (2 : Int) ^ u < 2 ^ m) : u ≤ m - 1 := by have := pw_lt h; omega
theorem ntz_b {t : Nat} (h : (0 : Int) < 2 ^ t - 1) : 1 ≤ t := by
  rcases Nat.eq_zero_or_pos t with q | q
  · subst q; simp at h
  · exact q
theorem ntz_z {t : Nat} (h : ¬ (0 : Int) < 2 ^ t - 1) : t = 0 := by
  rcases Nat.eq_zero_or_pos t with q | q
  · exact q
  · have := pw_mono (a := 1) (b := t) q
    simp at this; omega
theorem ntz_c {t r : Nat} (_ : r ≤ 16) (h : (2 : Int) ^ r < 2 ^ t - 1) : 1 ≤ t - r := by
  have := pw_lt (a := r) (b := t) (by omega)
  omega
theorem zeros_nat {d t : Nat} (h : isZeros (d : Int) t) : d % 2 ^ t = 0 ∧ d / 2 ^ t % 2 = 1 := by
  obtain ⟨h1, h2⟩ := h
  have e : (2 : Int) ^ t = ((2 ^ t : Nat) : Int) := by rw [Int.natCast_pow]; rfl
  rw [e] at h1 h2
  constructor
  · have : ((d % 2 ^ t : Nat) : Int) = 0 := by rw [Int.natCast_emod]; exact h1
    omega
  · have : ((d / 2 ^ t % 2 : Nat) : Int) = 1 := by rw [Int.natCast_emod, Int.natCast_ediv]; exact h2
    omega
theorem bits_0 {x : Int} (h : isInts x 0) : x < 2 ^ 0 := h.2.1
theorem bits_dg {x : Int} {n l : Nat} (h0 : 0 ≤ x) (hn : isInts x n) (hp : 0 < n) (hl : isBits (dg x (n - 1)) l) : isBits x (32 * (n - 1) + l) := by
  obtain ⟨-, h2, h3⟩ := hn
  have h3 := h3 hp
  obtain ⟨m, rfl⟩ : ∃ m, n = m + 1 := ⟨n - 1, by omega⟩
  rw [Nat.add_sub_cancel] at *
  rw [dg_top_ne h0 h2] at hl
  have hB := p2 (32 * m)
  have hl0 : 0 < l := by
    rcases Nat.eq_zero_or_pos l with q | q
    · subst q
      have h5 := hl.1
      have h6 : 1 ≤ x / 2 ^ (32 * m) := (Int.le_ediv_iff_mul_le hB).mpr (by omega)
      simp at h5; omega
    · exact q
  obtain ⟨l, rfl⟩ : ∃ k, l = k + 1 := ⟨l - 1, by omega⟩
  have h7 := bits_div hl.1 (hl.2 hl0)
  rw [Nat.add_assoc] at h7
  exact h7
theorem zeros_k {x : Int} {k : Nat} (hx : rU x) (h0 : x ≠ 0) (hk : k ≤ 48) (hz : ∀ j, j < k → dg x j = 0) : k < 48 := by
  rcases Nat.lt_or_ge k 48 with q | q
  · exact q
  · exact absurd (dg_all0 hx (fun j hj => hz j (by omega))) h0
theorem mul_in {d m : Int} (h0 : 0 ≤ d) (h1 : d < 4294967296) (h2 : 0 ≤ m) (h3 : m ≤ 4294967295) : 0 ≤ m * d ∧ m * d ≤ 18446744065119617025 := by
  refine ⟨Int.mul_nonneg h2 h0, ?_⟩
  have h4 := Int.mul_le_mul_of_nonneg_left (show d ≤ 4294967295 by omega) h2
  have h5 := Int.mul_le_mul_of_nonneg_right h3 (show (0 : Int) ≤ 4294967295 by decide)
  omega
theorem tm_dg (m x : Int) (k : Nat) : iZ (mcy 0 m x 0 k + m * dg x k) = iZ (dg (x * m) k) := by
  have h := dg_mcy 0 m x 0 k
  rw [Nat.zero_add, dg_z] at h
  rw [show x * m = 0 + m * 2 ^ (32 * 0) * x by simp [Int.mul_comm], h, Int.add_zero]
  exact (iZ_mod _).symm
theorem tm_cy {m x : Int} {k : Nat} (hm : m ≤ 4294967295) (hq : 0 ≤ m * dg x k ∧ m * dg x k ≤ 18446744065119617025) (hc : 0 ≤ mcy 0 m x 0 k ∧ mcy 0 m x 0 k ≤ m) : (mcy 0 m x 0 k + m * dg x k) % 18446744073709551616 / 2 ^ 32 = mcy 0 m x 0 (k + 1) := by
  rw [mcy_s, Nat.zero_add, dg_z, Int.add_zero, Int.emod_eq_of_lt (by omega) (by omega)]
  rfl
theorem mm_cy {S m y : Int} {i k : Nat} (hq : 0 ≤ m * dg y k ∧ m * dg y k ≤ 18446744065119617025) (hc : 0 ≤ mcy S m y i k ∧ mcy S m y i k ≤ m) (hs : 0 ≤ dg S (i + k) ∧ dg S (i + k) < 4294967296) (hm : m ≤ 4294967295) : (mcy S m y i k + (m * dg y k + dg S (i + k))) % 18446744073709551616 / 2 ^ 32 = mcy S m y i (k + 1) := by
  rw [mcy_s, Int.emod_eq_of_lt (by omega) (by omega)]
  rfl
