/-! ALL ROOTS WITH THEIR MULTIPLICITIES (plain) -/
theorem bnL_in (m l : Int) : ∀ (n : Nat) (b : Int), 1 ≤ b → 1 ≤ bnL n m l b ∧ bnL n m l b ≤ b * 2 ^ n := by
  intro n
  induction n with
  | zero => intro b hb; show 1 ≤ b ∧ b ≤ b * 2 ^ 0; rw [Int.pow_zero]; omega
  | succ n ih =>
    intro b hb
    have h1 := ih (b * 2) (by omega)
    have h2 : (1 : Int) ≤ 2 ^ n := by
      have e2 : ((2 ^ n : Nat) : Int) = (2 : Int) ^ n := Int.natCast_pow 2 n
      have h0 : 0 < (2 : Nat) ^ n := Nat.pow_pos (by decide)
      rw [← e2]; omega
    have h3 : b * 2 * 1 ≤ b * 2 * 2 ^ n := Int.mul_le_mul_of_nonneg_left h2 (by omega)
    have e : b * 2 ^ (n + 1) = b * 2 * 2 ^ n := by rw [Int.pow_succ, Int.mul_assoc, Int.mul_comm (2 ^ n) 2]
    show 1 ≤ (if (b - 1) * l < m then bnL n m l (b * 2) else b) ∧ (if (b - 1) * l < m then bnL n m l (b * 2) else b) ≤ _
    rw [e]
    by_cases c : (b - 1) * l < m
    · rw [if_pos c]; exact h1
    · rw [if_neg c]; omega
theorem bnd_in (p : Nat → Int) : 1 ≤ bnd p ∧ bnd p ≤ 16384 := by
  have h := bnL_in (bmost p (pdeg p).toNat) ((p (pdeg p).toNat).natAbs : Int) 14 1 (by decide)
  have e : (1 : Int) * 2 ^ 14 = 16384 := by decide
  rw [e] at h
  exact h
def opDR (S : Nat → Nat → Int) (a : Int) : zRp := if 0 ≤ a ∧ a < 5 then (if pdeg (S a.toNat) < 0 then (0, 2, S) else ((dstF (S a.toNat) (-bnd (S a.toNat)) 0 (bnd (S a.toNat)) 0 : Int), 0, S)) else (0, 1, S)
def caF (n k m l : Int) : Nat → (Nat → Int) → Nat
  | 0, _ => 0
  | s + 1, p => if 0 < pdeg p then dstF p n k m l + caF n k m l s (freeD p) else 0
def okAll (n k m l : Int) : Nat → (Nat → Int) → Prop
  | 0, _ => True
  | s + 1, p => 0 < pdeg p → okDst p n k m l ∧ pdeg (freeD p) < pdeg p ∧ okAll n k m l s (freeD p)
def opAll (S : Nat → Nat → Int) (a n k m l : Int) : zRp := if 0 < refF S a n k m l then (0, refF S a n k m l, S) else ((caF n k m l 7 (S a.toNat) : Int), 0, S)
theorem freeD_pS {p : Nat → Int} (h : fitFree p) : pS (freeD p) := comR_pS h.1 h.2.1 h.2.2.1
