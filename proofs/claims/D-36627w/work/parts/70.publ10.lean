/-! THE EMPTY INTERVALS LEFT OUT (plain) -/
def rmN (rt : Nat → Int) : Nat → Nat
  | 0 => 0
  | k + 1 => rmN rt k + (if 0 < rt k then 1 else 0)
def rmA (X rt : Nat → Int) : Nat → (Nat → Int)
  | 0 => X
  | k + 1 => va_up (rmA X rt k) (rmN rt k) (rmA X rt k k)
theorem rmN_le (rt : Nat → Int) : ∀ k, rmN rt k ≤ k := by
  intro k
  induction k with
  | zero => exact Nat.le_refl _
  | succ k ih => unfold rmN; split <;> omega
theorem rmA_hi (X rt : Nat → Int) : ∀ k j, k ≤ j → rmA X rt k j = X j := by
  intro k
  induction k with
  | zero => intro j _; rfl
  | succ k ih =>
    intro j hj
    have := rmN_le rt k
    show (if j = rmN rt k then _ else rmA X rt k j) = X j
    rw [if_neg (by omega)]
    exact ih j (by omega)
theorem va_upself (f : Nat → Int) (n k : Nat) : va_up f n (f k) k = f k := by
  unfold va_up; split <;> rfl
