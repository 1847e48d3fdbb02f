/-! OPENING A GAP (plain): the places above `at` moved up by w, those from k + 1 to M - 1 done -/
def opK (X : Nat → Int) (w M k : Nat) : Nat → Int := fun j => if k + w < j ∧ j < M + w then X (j - w) else X j
theorem opK_0 (X : Nat → Int) (w M k : Nat) (h : M ≤ k + 1) : opK X w M k = X := by
  funext j; unfold opK; rw [if_neg (by omega)]
theorem opK_lo (X : Nat → Int) (w M k j : Nat) (h : j ≤ k + w) : opK X w M k j = X j := by unfold opK; rw [if_neg (by omega)]
theorem opK_s (X : Nat → Int) {w M k : Nat} (hk : k + 1 < M) : va_up (opK X w M (k + 1)) (k + 1 + w) (X (k + 1)) = opK X w M k := by
  funext j
  show (if j = k + 1 + w then X (k + 1) else if k + 1 + w < j ∧ j < M + w then X (j - w) else X j) = if k + w < j ∧ j < M + w then X (j - w) else X j
  by_cases e : j = k + 1 + w
  · rw [if_pos e, if_pos (by omega), e, Nat.add_sub_cancel]
  · rw [if_neg e]
    by_cases c : k + 1 + w < j ∧ j < M + w
    · rw [if_pos c, if_pos (by omega)]
    · rw [if_neg c, if_neg (by omega)]
