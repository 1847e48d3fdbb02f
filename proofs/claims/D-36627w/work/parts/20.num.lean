/-! NUMBERS of the model: 48 ints, the lowest first, as two's complement: dg -/
def dg (x : Int) (k : Nat) : Int := x / 2 ^ (32 * k) % 4294967296
abbrev eN (κ : zK) (x : Int) : va_E := eI κ 48 (dg x)
theorem dg_in (x : Int) (k : Nat) : 0 ≤ dg x k ∧ dg x k < 4294967296 := ⟨Int.emod_nonneg _ (by decide), Int.emod_lt_of_pos _ (by decide)⟩
theorem p2 (k : Nat) : (0 : Int) < 2 ^ k := Int.pow_pos (by decide)
theorem p32 (k : Nat) : (2 : Int) ^ (32 * (k + 1)) = 2 ^ (32 * k) * 4294967296 := by
  rw [Nat.mul_add, Int.pow_add]; rfl
/-- the low part grows by a digit -/
theorem low_s (x : Int) (k : Nat) : x % 2 ^ (32 * (k + 1)) = 2 ^ (32 * k) * dg x k + x % 2 ^ (32 * k) := by
  unfold dg
  have hB := p2 (32 * k)
  rw [p32]
  generalize (2 : Int) ^ (32 * k) = B at hB ⊢
  have h1 := Int.mul_ediv_add_emod x B
  have h2 := Int.mul_ediv_add_emod (x / B) 4294967296
  have h3 := Int.emod_nonneg x (Int.ne_of_gt hB)
  have h4 := Int.emod_lt_of_pos x hB
  have h5 := Int.emod_nonneg (x / B) (show (4294967296 : Int) ≠ 0 by decide)
  have h6 := Int.emod_lt_of_pos (x / B) (show (0 : Int) < 4294967296 by decide)
  have e : x = (B * (x / B % 4294967296) + x % B) + B * 4294967296 * (x / B / 4294967296) := by
    have : B * (x / B) = B * (4294967296 * (x / B / 4294967296) + x / B % 4294967296) := by rw [h2]
    grind
  have l1 : 0 ≤ B * (x / B % 4294967296) + x % B := Int.add_nonneg (Int.mul_nonneg (Int.le_of_lt hB) h5) h3
  have l2 : B * (x / B % 4294967296) + x % B < B * 4294967296 := by
    have : B * (x / B % 4294967296 + 1) ≤ B * 4294967296 := Int.mul_le_mul_of_nonneg_left (by omega) (Int.le_of_lt hB)
    grind
  conv => lhs; rw [e]
  rw [Int.add_mul_emod_self_left, Int.emod_eq_of_lt l1 l2]
/-- what is carried past k digits of a sum -/
def cy (x y : Int) (k : Nat) : Int := (x % 2 ^ (32 * k) + y % 2 ^ (32 * k)) / 2 ^ (32 * k)
theorem cy_0 (x y : Int) : cy x y 0 = 0 := by simp [cy, Int.emod_one]
theorem cy_in (x y : Int) (k : Nat) : 0 ≤ cy x y k ∧ cy x y k ≤ 1 := by
  unfold cy
  have hB := p2 (32 * k)
  generalize (2 : Int) ^ (32 * k) = B at hB ⊢
  have h1 := Int.emod_nonneg x (Int.ne_of_gt hB)
  have h2 := Int.emod_lt_of_pos x hB
  have h3 := Int.emod_nonneg y (Int.ne_of_gt hB)
  have h4 := Int.emod_lt_of_pos y hB
  refine ⟨Int.ediv_nonneg (by omega) (by omega), Int.lt_add_one_iff.mp (Int.ediv_lt_of_lt_mul hB (by omega))⟩
theorem cy_s (x y : Int) (k : Nat) : cy x y (k + 1) = (cy x y k + dg x k + dg y k) / 4294967296 := by
  unfold cy
  rw [low_s, low_s, p32]
  have hB := p2 (32 * k)
  generalize (2 : Int) ^ (32 * k) = B at hB ⊢
  have e : B * dg x k + x % B + (B * dg y k + y % B) = (x % B + y % B) + B * (dg x k + dg y k) := by grind
  rw [e, ← Int.ediv_ediv_of_nonneg (Int.le_of_lt hB), Int.add_mul_ediv_left _ _ (Int.ne_of_gt hB)]
  congr 1
  omega
theorem dg_add (x y : Int) (k : Nat) : dg (x + y) k = (cy x y k + dg x k + dg y k) % 4294967296 := by
  unfold cy dg
  have hB := p2 (32 * k)
  generalize (2 : Int) ^ (32 * k) = B at hB ⊢
  have h1 := Int.mul_ediv_add_emod x B
  have h2 := Int.mul_ediv_add_emod y B
  have e : x + y = (x % B + y % B) + B * (x / B + y / B) := by grind
  conv => lhs; rw [e]
  rw [Int.add_mul_ediv_left _ _ (Int.ne_of_gt hB)]
  omega
theorem up_s {f g h : Nat → Int} {n k : Nat} (hf : ∀ j, j < n → f j = if j < k then g j else h j) : ∀ j, j < n → va_up f k (g k) j = if j < k + 1 then g j else h j := by
  intro j hj
  unfold va_up
  by_cases e : j = k
  · subst e; simp
  · rw [if_neg e, hf j hj]
    by_cases l : j < k
    · rw [if_pos l, if_pos (by omega)]
    · rw [if_neg l, if_neg (by omega)]
/-- negate: what is carried -/
def ng (x : Int) (k : Nat) : Int := (2 ^ (32 * k) - x % 2 ^ (32 * k)) / 2 ^ (32 * k)
theorem ng_0 (x : Int) : ng x 0 = 1 := by simp [ng, Int.emod_one]
theorem ng_in (x : Int) (k : Nat) : 0 ≤ ng x k ∧ ng x k ≤ 1 := by
  unfold ng
  have hB := p2 (32 * k)
  generalize (2 : Int) ^ (32 * k) = B at hB ⊢
  have h1 := Int.emod_nonneg x (Int.ne_of_gt hB)
  have h2 := Int.emod_lt_of_pos x hB
  refine ⟨Int.ediv_nonneg (by omega) (by omega), Int.lt_add_one_iff.mp (Int.ediv_lt_of_lt_mul hB (by omega))⟩
theorem ng_s (x : Int) (k : Nat) : ng x (k + 1) = (ng x k + (4294967295 - dg x k)) / 4294967296 := by
  unfold ng
  rw [low_s, p32]
  have hB := p2 (32 * k)
  generalize (2 : Int) ^ (32 * k) = B at hB ⊢
  have e : B * 4294967296 - (B * dg x k + x % B) = (B - x % B) + B * (4294967295 - dg x k) := by grind
  rw [e, ← Int.ediv_ediv_of_nonneg (Int.le_of_lt hB), Int.add_mul_ediv_left _ _ (Int.ne_of_gt hB)]
theorem dg_neg (x : Int) (k : Nat) : dg (-x) k = (ng x k + (4294967295 - dg x k)) % 4294967296 := by
  unfold ng dg
  have hB := p2 (32 * k)
  generalize (2 : Int) ^ (32 * k) = B at hB ⊢
  have h1 := Int.mul_ediv_add_emod x B
  have e : -x = (B - x % B) + B * (-1 - x / B) := by grind
  conv => lhs; rw [e]
  rw [Int.add_mul_ediv_left _ _ (Int.ne_of_gt hB)]
  omega
/-- less: what is borrowed -/
def bw (x y : Int) (k : Nat) : Int := (x % 2 ^ (32 * k) - y % 2 ^ (32 * k)) / 2 ^ (32 * k)
theorem bw_0 (x y : Int) : bw x y 0 = 0 := by simp [bw, Int.emod_one]
theorem bw_in (x y : Int) (k : Nat) : -1 ≤ bw x y k ∧ bw x y k ≤ 0 := by
  unfold bw
  have hB := p2 (32 * k)
  generalize (2 : Int) ^ (32 * k) = B at hB ⊢
  have h1 := Int.emod_nonneg x (Int.ne_of_gt hB)
  have h2 := Int.emod_lt_of_pos x hB
  have h3 := Int.emod_nonneg y (Int.ne_of_gt hB)
  have h4 := Int.emod_lt_of_pos y hB
  refine ⟨(Int.le_ediv_iff_mul_le hB).mpr (by omega), Int.lt_add_one_iff.mp (Int.ediv_lt_of_lt_mul hB (by omega))⟩
theorem bw_s (x y : Int) (k : Nat) : bw x y (k + 1) = (bw x y k + dg x k - dg y k) / 4294967296 := by
  unfold bw
  rw [low_s, low_s, p32]
  have hB := p2 (32 * k)
  generalize (2 : Int) ^ (32 * k) = B at hB ⊢
  have e : B * dg x k + x % B - (B * dg y k + y % B) = (x % B - y % B) + B * (dg x k - dg y k) := by grind
  rw [e, ← Int.ediv_ediv_of_nonneg (Int.le_of_lt hB), Int.add_mul_ediv_left _ _ (Int.ne_of_gt hB)]
  congr 1
  omega
theorem dg_sub (x y : Int) (k : Nat) : dg (x - y) k = (bw x y k + dg x k - dg y k) % 4294967296 := by
  unfold bw dg
  have hB := p2 (32 * k)
  generalize (2 : Int) ^ (32 * k) = B at hB ⊢
  have h1 := Int.mul_ediv_add_emod x B
  have h2 := Int.mul_ediv_add_emod y B
  have e : x - y = (x % B - y % B) + B * (x / B - y / B) := by grind
  conv => lhs; rw [e]
  rw [Int.add_mul_ediv_left _ _ (Int.ne_of_gt hB)]
  omega
/-- S + m y 2^(32 i): what is carried past i + k digits -/
def mcy (S m y : Int) (i k : Nat) : Int := (S % 2 ^ (32 * (i + k)) + m * 2 ^ (32 * i) * (y % 2 ^ (32 * k))) / 2 ^ (32 * (i + k))
theorem p32a (i k : Nat) : (2 : Int) ^ (32 * (i + k)) = 2 ^ (32 * i) * 2 ^ (32 * k) := by
  rw [Nat.mul_add, Int.pow_add]
theorem mcy_0 (S m y : Int) (i : Nat) : mcy S m y i 0 = 0 := by
  unfold mcy
  have hB := p2 (32 * (i + 0))
  have h1 := Int.emod_nonneg S (Int.ne_of_gt hB)
  have h2 := Int.emod_lt_of_pos S hB
  rw [Nat.mul_zero, Int.pow_zero, Int.emod_one, Int.mul_zero, Int.add_zero, Int.ediv_eq_zero_of_lt h1 h2]
theorem mcy_in {m : Int} (S y : Int) (i k : Nat) (hm : 0 ≤ m) : 0 ≤ mcy S m y i k ∧ mcy S m y i k ≤ m := by
  unfold mcy
  rw [p32a]
  have hA := p2 (32 * i)
  have hC := p2 (32 * k)
  generalize (2 : Int) ^ (32 * i) = A at hA ⊢
  generalize (2 : Int) ^ (32 * k) = C at hC ⊢
  have hAC : 0 < A * C := Int.mul_pos hA hC
  have h1 := Int.emod_nonneg S (Int.ne_of_gt hAC)
  have h2 := Int.emod_lt_of_pos S hAC
  have h3 := Int.emod_nonneg y (Int.ne_of_gt hC)
  have h4 := Int.emod_lt_of_pos y hC
  have h5 : 0 ≤ m * A := Int.mul_nonneg hm (Int.le_of_lt hA)
  have h6 : 0 ≤ m * A * (y % C) := Int.mul_nonneg h5 h3
  have h7 : m * A * (y % C) ≤ m * A * C := Int.mul_le_mul_of_nonneg_left (Int.le_of_lt h4) h5
  refine ⟨Int.ediv_nonneg (by omega) (Int.le_of_lt hAC), Int.lt_add_one_iff.mp (Int.ediv_lt_of_lt_mul hAC ?_)⟩
  have : (m + 1) * (A * C) = m * A * C + A * C := by grind
  omega
theorem mcy_s (S m y : Int) (i k : Nat) : mcy S m y i (k + 1) = (mcy S m y i k + (m * dg y k + dg S (i + k))) / 4294967296 := by
  unfold mcy
  rw [low_s y k, ← Nat.add_assoc, low_s S (i + k), p32, p32a]
  have hA := p2 (32 * i)
  have hC := p2 (32 * k)
  generalize (2 : Int) ^ (32 * i) = A at hA ⊢
  generalize (2 : Int) ^ (32 * k) = C at hC ⊢
  have hAC : 0 < A * C := Int.mul_pos hA hC
  have e : A * C * dg S (i + k) + S % (A * C) + m * A * (C * dg y k + y % C) = (S % (A * C) + m * A * (y % C)) + A * C * (m * dg y k + dg S (i + k)) := by grind
  rw [e, ← Int.ediv_ediv_of_nonneg (Int.le_of_lt hAC), Int.add_mul_ediv_left _ _ (Int.ne_of_gt hAC)]
theorem dg_mcy (S m y : Int) (i k : Nat) : dg (S + m * 2 ^ (32 * i) * y) (i + k) = (mcy S m y i k + (m * dg y k + dg S (i + k))) % 4294967296 := by
  unfold mcy dg
  rw [p32a]
  have hA := p2 (32 * i)
  have hC := p2 (32 * k)
  generalize (2 : Int) ^ (32 * i) = A at hA ⊢
  generalize (2 : Int) ^ (32 * k) = C at hC ⊢
  have hAC : 0 < A * C := Int.mul_pos hA hC
  have h1 := Int.mul_ediv_add_emod S (A * C)
  have h2 := Int.mul_ediv_add_emod y C
  have e : S + m * A * y = (S % (A * C) + m * A * (y % C)) + A * C * (S / (A * C) + m * (y / C)) := by grind
  conv => lhs; rw [e]
  rw [Int.add_mul_ediv_left _ _ (Int.ne_of_gt hAC)]
  have e2 : m * (y / C) % 4294967296 = m * (y / C % 4294967296) % 4294967296 := by
    rw [Int.mul_emod, Int.mul_emod m (y / C % 4294967296), Int.emod_emod]
  omega
/-- digits below i aren't touched -/
theorem dg_low (S t : Int) {i j : Nat} (h : j < i) : dg (S + 2 ^ (32 * i) * t) j = dg S j := by
  unfold dg
  obtain ⟨d, rfl⟩ : ∃ d, i = j + 1 + d := ⟨i - j - 1, by omega⟩
  have e : (2 : Int) ^ (32 * (j + 1 + d)) = 2 ^ (32 * j) * (4294967296 * 2 ^ (32 * d)) := by
    rw [p32a, p32]; grind
  have hB := p2 (32 * j)
  rw [e]
  generalize (2 : Int) ^ (32 * j) = B at hB ⊢
  generalize (2 : Int) ^ (32 * d) = D
  rw [show S + B * (4294967296 * D) * t = S + B * (4294967296 * (D * t)) by grind, Int.add_mul_ediv_left _ _ (Int.ne_of_gt hB), Int.add_mul_emod_self_left]
/-- of a number in so many digits, those beyond are 0 -/
theorem dg_hi {x : Int} {n j : Nat} (h0 : 0 ≤ x) (h : x < 2 ^ (32 * n)) (hj : n ≤ j) : dg x j = 0 := by
  unfold dg
  have : (2 : Int) ^ (32 * n) ≤ 2 ^ (32 * j) := by
    obtain ⟨d, rfl⟩ : ∃ d, j = n + d := ⟨j - n, by omega⟩
    rw [p32a]
    have h1 := p2 (32 * n)
    have h2 := p2 (32 * d)
    have := Int.mul_le_mul_of_nonneg_left (show (1 : Int) ≤ 2 ^ (32 * d) by omega) (Int.le_of_lt h1)
    omega
  rw [Int.ediv_eq_zero_of_lt h0 (by omega)]
  rfl
/-- a number is told by its digits -/
theorem dg_sum {x : Int} {n : Nat} (h0 : 0 ≤ x) (h : x < 2 ^ (32 * n)) : x % 2 ^ (32 * n) = x := Int.emod_eq_of_lt h0 h
theorem dg_mod_ext {x y : Int} {n : Nat} (h : ∀ j, j < n → dg x j = dg y j) : x % 2 ^ (32 * n) = y % 2 ^ (32 * n) := by
  induction n with
  | zero => simp [Int.emod_one]
  | succ n ih => rw [low_s, low_s, h n (by omega), ih (fun j hj => h j (by omega))]
/-- the digit above all of which are 0 tells the size -/
theorem dg_top {x : Int} {n : Nat} (h0 : 0 ≤ x) (h : x < 2 ^ (32 * (n + 1))) (hd : dg x n = 0) : x < 2 ^ (32 * n) := by
  have h1 := low_s x n
  rw [Int.emod_eq_of_lt h0 h, hd, Int.mul_zero, Int.zero_add] at h1
  rw [h1]
  exact Int.emod_lt_of_pos _ (p2 _)
theorem dg_top_ne {x : Int} {n : Nat} (h0 : 0 ≤ x) (h : x < 2 ^ (32 * (n + 1))) : dg x n = x / 2 ^ (32 * n) := by
  unfold dg
  have hB := p2 (32 * n)
  refine Int.emod_eq_of_lt (Int.ediv_nonneg h0 (Int.le_of_lt hB)) (Int.ediv_lt_of_lt_mul hB ?_)
  rw [p32] at h
  rw [Int.mul_comm]; exact h
/-- shifted to the left -/
theorem dg_shl_lo (x : Int) (far b k : Nat) (hb : b ≤ 31) (h : k < far) : dg (x * 2 ^ (32 * far + b)) k = 0 := by
  have := dg_low 0 (x * 2 ^ b) (i := far) (j := k) h
  rw [show x * 2 ^ (32 * far + b) = 0 + 2 ^ (32 * far) * (x * 2 ^ b) by rw [Int.pow_add]; grind, this]
  simp [dg]
theorem dg_far (x : Int) (far k : Nat) : dg (x * 2 ^ (32 * far)) (far + k) = dg x k := by
  unfold dg
  rw [p32a]
  have hA := p2 (32 * far)
  rw [← Int.ediv_ediv_of_nonneg (Int.le_of_lt hA), Int.mul_ediv_cancel _ (Int.ne_of_gt hA)]
theorem pb (b : Nat) (hb : b ≤ 32) : (2 : Int) ^ (32 - b) * 2 ^ b = 4294967296 := by
  rw [← Int.pow_add, Nat.sub_add_cancel hb]; rfl
theorem m32 (a b : Int) : a % 4294967296 * b % 4294967296 = a * b % 4294967296 := by rw [Int.mul_emod, Int.emod_emod, ← Int.mul_emod]
theorem dg_shl1 (x : Int) (b : Nat) (hb : b ≤ 32) (k : Nat) : dg (x * 2 ^ b) (k + 1) = (dg x (k + 1) * 2 ^ b + dg x k / 2 ^ (32 - b)) % 4294967296 := by
  unfold dg
  have hB := p2 (32 * k)
  have hc := p2 (32 - b)
  have hd := p2 b
  have e := pb b hb
  rw [p32]
  rw [← Int.ediv_ediv_of_nonneg (Int.le_of_lt hB)]
  generalize (2 : Int) ^ (32 * k) = B at hB ⊢
  generalize (2 : Int) ^ (32 - b) = c at hc e ⊢
  generalize (2 : Int) ^ b = d at hd e ⊢
  -- (x d / B) / 2^32 = (x / B) / c, for 2^32 = c d
  have e1 : x * d / B / 4294967296 = x / B / c := by
    rw [Int.ediv_ediv_of_nonneg (Int.le_of_lt hB), ← e, show B * (c * d) = B * c * d by grind, Int.mul_ediv_mul_of_pos_left _ _ hd, Int.ediv_ediv_of_nonneg (Int.le_of_lt hB)]
  rw [e1, ← Int.ediv_ediv_of_nonneg (Int.le_of_lt hB)]
  generalize x / B = X
  have h1 := Int.mul_ediv_add_emod X 4294967296
  have e2 : X = X % 4294967296 + c * (d * (X / 4294967296)) := by
    rw [show c * (d * (X / 4294967296)) = (c * d) * (X / 4294967296) by grind, e]; omega
  have e3 : X / c = X % 4294967296 / c + d * (X / 4294967296) := by
    conv => lhs; rw [e2]
    rw [Int.add_mul_ediv_left _ _ (Int.ne_of_gt hc)]
  rw [e3]
  have e4 := m32 (X / 4294967296) d
  rw [Int.mul_comm (X / 4294967296) d] at e4
  omega
theorem dg_shl0 (x : Int) (b : Nat) : dg (x * 2 ^ b) 0 = dg x 0 * 2 ^ b % 4294967296 := by
  unfold dg
  simp only [Nat.mul_zero, Int.pow_zero, Int.ediv_one]
  rw [m32]
/-- shifted to the right -/
theorem dg_shr (x : Int) (far b : Nat) (hb : b ≤ 32) (k : Nat) : dg (x / 2 ^ (32 * far + b)) k = (dg x (k + far) / 2 ^ b + dg x (k + far + 1) * 2 ^ (32 - b)) % 4294967296 := by
  unfold dg
  rw [p32 (k + far), p32a, Int.pow_add]
  have hF := p2 (32 * far)
  have hB := p2 (32 * k)
  have hc := p2 (32 - b)
  have hd := p2 b
  have e := pb b hb
  generalize (2 : Int) ^ (32 * k) = B at hB ⊢
  generalize (2 : Int) ^ (32 * far) = F at hF ⊢
  generalize (2 : Int) ^ (32 - b) = c at hc e ⊢
  generalize (2 : Int) ^ b = d at hd e ⊢
  have hBF : 0 < B * F := Int.mul_pos hB hF
  have e0 : x / (F * d) / B = x / (B * F) / d := by
    rw [Int.ediv_ediv_of_nonneg (Int.le_of_lt (Int.mul_pos hF hd)), Int.ediv_ediv_of_nonneg (Int.le_of_lt hBF), show F * d * B = B * F * d by grind]
  rw [e0, ← Int.ediv_ediv_of_nonneg (Int.le_of_lt hBF)]
  generalize x / (B * F) = X
  have h1 := Int.mul_ediv_add_emod X 4294967296
  have e2 : X = X % 4294967296 + d * (c * (X / 4294967296)) := by
    rw [show d * (c * (X / 4294967296)) = (c * d) * (X / 4294967296) by grind, e]; omega
  have e3 : X / d = X % 4294967296 / d + c * (X / 4294967296) := by
    conv => lhs; rw [e2]
    rw [Int.add_mul_ediv_left _ _ (Int.ne_of_gt hd)]
  rw [e3]
  have e4 := m32 (X / 4294967296) c
  rw [Int.mul_comm (X / 4294967296) c] at e4
  omega
/-- not -/
theorem iZ_not (a : Int) : iZ a ^^^ iZ (-1) = iZ (-1 - a) := by
  refine iZ_ext ?_
  have h : iZ (-1) = (-1 : Int32) := by decide
  rw [h, Int32.toBitVec_xor]
  have e : (-1 : Int32).toBitVec = BitVec.allOnes 32 := by decide
  rw [e, BitVec.xor_allOnes, BitVec.toNat_not, iZ_tn, iZ_tn]
  omega
