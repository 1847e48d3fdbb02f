/-! THE LOW 64 BITS OF A NUMBER (plain) -/
theorem jZ_or32 {a b : Int} (hb : 0 ≤ b) (hb2 : b < 4294967296) : jZ (a * 4294967296) ||| jZ b = jZ (a * 4294967296 + b) := by
  refine jZ_ext ?_
  obtain ⟨n, rfl⟩ := Int.eq_ofNat_of_zero_le hb
  obtain ⟨m, hm⟩ := Int.eq_ofNat_of_zero_le (show 0 ≤ a % 4294967296 by omega)
  rw [Int64.toBitVec_or, BitVec.toNat_or, jZ_tn, jZ_tn, jZ_tn]
  have e1 : (a * 4294967296 % 18446744073709551616).toNat = 2 ^ 32 * m := by omega
  have e2 : ((n : Int) % 18446744073709551616).toNat = n := by omega
  have e3 : ((a * 4294967296 + (n : Int)) % 18446744073709551616).toNat = 2 ^ 32 * m + n := by omega
  rw [e1, e2, e3]
  exact (Nat.two_pow_add_eq_or_of_lt (by omega) m).symm
theorem jZ_low64 (x : Int) : jZ ((if dg x 1 < 2147483648 then dg x 1 else dg x 1 - 4294967296) * 4294967296) ||| jZ (dg x 0) = jZ x := by
  have h0 := dg_in x 0
  rw [jZ_or32 h0.1 h0.2]
  refine jZ_cong ?_
  rw [dg_0, dg_1]
  split <;> omega
def opScf (S : Nat → Nat → Int) (a i p : Int) : zRp := if (0 ≤ a ∧ a < 5) ∧ (0 ≤ p ∧ p ≤ 6) then (if pdeg (S a.toNat) < 0 then (0, 2, S) else if 0 ≤ i ∧ i ≤ (rowLen (S a.toNat) : Int) - 1 then (rsq (S a.toNat) i.toNat p.toNat, 0, S) else (0, 3, S)) else (0, 1, S)
