/-! BASE LAYER (our own): ints as Int (iZ, jZ), one goal V for a walk, rows over it -/
def iZ (z : Int) : Int32 := Int32.ofInt z
def jZ (z : Int) : Int64 := Int64.ofInt z
abbrev vi (z : Int) : Value := .int (iZ z)
abbrev vj (z : Int) : Value := .long (jZ z)
/-- in an int's range; in a long's -/
abbrev rI (z : Int) : Prop := -2147483648 ≤ z ∧ z ≤ 2147483647
abbrev rJ (z : Int) : Prop := -9223372036854775808 ≤ z ∧ z ≤ 9223372036854775807
theorem iZ_add (a b : Int) : iZ a + iZ b = iZ (a + b) := (Int32.ofInt_add a b).symm
theorem iZ_sub (a b : Int) : iZ a - iZ b = iZ (a - b) := (Int32.ofInt_sub a b).symm
theorem iZ_mul (a b : Int) : iZ a * iZ b = iZ (a * b) := (Int32.ofInt_mul a b).symm
theorem iZ_neg (a : Int) : -iZ a = iZ (-a) := (Int32.ofInt_neg a).symm
theorem jZ_add (a b : Int) : jZ a + jZ b = jZ (a + b) := (Int64.ofInt_add a b).symm
theorem jZ_sub (a b : Int) : jZ a - jZ b = jZ (a - b) := (Int64.ofInt_sub a b).symm
theorem jZ_mul (a b : Int) : jZ a * jZ b = jZ (a * b) := (Int64.ofInt_mul a b).symm
theorem jZ_neg (a : Int) : -jZ a = jZ (-a) := (Int64.ofInt_neg a).symm
theorem iZ_toInt {z : Int} (h : rI z) : (iZ z).toInt = z := Int32.toInt_ofInt_of_le (by omega) (by omega)
theorem jZ_toInt {z : Int} (h : rJ z) : (jZ z).toInt = z := Int64.toInt_ofInt_of_le (by omega) (by omega)
theorem iZ_of (x : Int32) : x = iZ x.toInt := (Int32.ofInt_toInt x).symm
theorem jZ_of (x : Int64) : x = jZ x.toInt := (Int64.ofInt_toInt x).symm
theorem rI_of (x : Int32) : rI x.toInt := ⟨by have := Int32.le_toInt x; omega, by have := Int32.toInt_lt x; omega⟩
theorem rJ_of (x : Int64) : rJ x.toInt := ⟨by have := Int64.le_toInt x; omega, by have := Int64.toInt_lt x; omega⟩
theorem iZ_l {z : Int} (h : rI z) : (iZ z).toInt64 = jZ z := by
  rw [← Int64.ofInt_int32ToInt, iZ_toInt h]; rfl
theorem jZ_i (z : Int) : (jZ z).toInt32 = iZ z := Int64.toInt32_ofInt
theorem iZ_lt {a b : Int} (ha : rI a) (hb : rI b) : iZ a < iZ b ↔ a < b := by rw [Int32.lt_iff_toInt_lt, iZ_toInt ha, iZ_toInt hb]
theorem iZ_le {a b : Int} (ha : rI a) (hb : rI b) : iZ a ≤ iZ b ↔ a ≤ b := by rw [Int32.le_iff_toInt_le, iZ_toInt ha, iZ_toInt hb]
theorem iZ_inj {a b : Int} (ha : rI a) (hb : rI b) : iZ a = iZ b ↔ a = b :=
  ⟨fun h => by rw [← iZ_toInt ha, h, iZ_toInt hb], fun h => by rw [h]⟩
theorem jZ_lt {a b : Int} (ha : rJ a) (hb : rJ b) : jZ a < jZ b ↔ a < b := by rw [Int64.lt_iff_toInt_lt, jZ_toInt ha, jZ_toInt hb]
theorem jZ_inj {a b : Int} (ha : rJ a) (hb : rJ b) : jZ a = jZ b ↔ a = b :=
  ⟨fun h => by rw [← jZ_toInt ha, h, jZ_toInt hb], fun h => by rw [h]⟩
theorem iZ_mod (z : Int) : iZ (z % 4294967296) = iZ z := by
  unfold iZ
  refine Int32.toInt_inj.mp ?_
  rw [Int32.toInt_ofInt, Int32.toInt_ofInt]
  exact Int.emod_bmod _ _
theorem jZ_mod (z : Int) : jZ (z % 18446744073709551616) = jZ z := by
  unfold jZ
  refine Int64.toInt_inj.mp ?_
  rw [Int64.toInt_ofInt, Int64.toInt_ofInt]
  exact Int.emod_bmod _ _
theorem iZ_cong {a b : Int} (h : a % 4294967296 = b % 4294967296) : iZ a = iZ b := by rw [← iZ_mod a, h, iZ_mod]
theorem jZ_cong {a b : Int} (h : a % 18446744073709551616 = b % 18446744073709551616) : jZ a = jZ b := by rw [← jZ_mod a, h, jZ_mod]
theorem iZ_clamp {n : Nat} (h : n < 2147483648) : (iZ (n : Int)).toNatClampNeg = n := by
  unfold iZ
  rw [Int32.ofInt_eq_ofNat]
  exact nI_clamp (n := n) (by omega)
theorem iZ_nI (n : Nat) : iZ (n : Int) = nI n := Int32.ofInt_eq_ofNat
theorem iZ_in {j n : Nat} (h : j < n) (hj : j < 2147483648) : vp_in (iZ (j : Int)) n := by
  intro q
  rcases q with q | q
  · have : iZ (j : Int) < iZ 0 := q
    rw [iZ_lt (by omega) (by omega)] at this
    omega
  · rw [iZ_clamp hj] at q
    omega
/-- the number of a long's bits, as a Nat -/
theorem jZ_tn (z : Int) : (jZ z).toBitVec.toNat = (z % 18446744073709551616).toNat := by
  show (BitVec.ofInt 64 z).toNat = _
  rw [BitVec.toNat_ofInt]
  rfl
theorem iZ_tn (z : Int) : (iZ z).toBitVec.toNat = (z % 4294967296).toNat := by
  show (BitVec.ofInt 32 z).toNat = _
  rw [BitVec.toNat_ofInt]
  rfl
theorem jZ_ext {a b : Int64} (h : a.toBitVec.toNat = b.toBitVec.toNat) : a = b := Int64.toBitVec_inj.mp (BitVec.eq_of_toNat_eq h)
theorem iZ_ext {a b : Int32} (h : a.toBitVec.toNat = b.toBitVec.toNat) : a = b := Int32.toBitVec_inj.mp (BitVec.eq_of_toNat_eq h)
/-- & 0xFFFFFFFFL -/
theorem jZ_low (z : Int) : jZ z &&& 4294967295 = jZ (z % 4294967296) := by
  refine jZ_ext ?_
  rw [Int64.toBitVec_and, BitVec.toNat_and, jZ_tn, jZ_tn]
  rw [show (4294967295 : Int64).toBitVec.toNat = 2 ^ 32 - 1 from by decide, Nat.and_two_pow_sub_one_eq_mod]
  omega
theorem jZ_lN (z : Int) : jZ z = lN (z % 18446744073709551616).toNat := by
  refine jZ_ext ?_
  rw [jZ_tn, wb_tn (by omega)]
theorem lN_jZ (n : Nat) : lN n = jZ (n : Int) := (Int64.ofInt_eq_ofNat (n := n)).symm
/-- >>> of longs -/
theorem jZ_ushr (z : Int) {k : Nat} (hk : k < 64) : ((jZ z).toUInt64 >>> ((iZ (k : Int)).toInt64.toUInt64 &&& Int64.toUInt64 63)).toInt64 = jZ ((z % 18446744073709551616) / 2 ^ k) := by
  rw [jZ_lN z, iZ_nI, wb_shr (by omega) hk, lN_jZ]
  congr 1
  rw [Int.natCast_ediv, Int.toNat_of_nonneg (by omega), Int.natCast_pow]
  rfl
/-- << of longs -/
theorem jZ_shl (z : Int) {k : Nat} (hk : k < 64) : jZ z <<< ((iZ (k : Int)).toInt64 &&& 63) = jZ (z * 2 ^ k) := by
  rw [jZ_lN z, iZ_nI, wb_shl _ hk, lN_jZ]
  refine jZ_cong ?_
  rw [Int.natCast_mul, Int.toNat_of_nonneg (by omega), Int.natCast_pow, Int.mul_emod, Int.emod_emod, ← Int.mul_emod]
  rfl
/-- >> of longs -/
theorem jZ_shr {z : Int} (h : rJ z) {k : Nat} (hk : k < 64) : jZ z >>> ((iZ (k : Int)).toInt64 &&& 63) = jZ (z / 2 ^ k) := by
  rw [iZ_nI, wb_c k hk]
  refine Int64.toInt_inj.mp ?_
  have e : (jZ z >>> lN k).toInt = (jZ z).toInt >>> k := by
    show ((jZ z).toBitVec.sshiftRight ((lN k).toBitVec.smod 64).toNat).toInt = _
    rw [wb_tb, wb_sm k hk, BitVec.toNat_ofNat, Nat.mod_eq_of_lt (by omega), BitVec.toInt_sshiftRight]
    rfl
  have p : (0 : Int) < 2 ^ k := Int.pow_pos (by decide)
  have q : rJ (z / 2 ^ k) := by
    have p1 : (1 : Int) ≤ 2 ^ k := p
    constructor
    · refine (Int.le_ediv_iff_mul_le p).mpr ?_
      have := Int.mul_le_mul_of_nonneg_left p1 (show (0 : Int) ≤ 9223372036854775808 by decide)
      omega
    · refine Int.lt_add_one_iff.mp (Int.ediv_lt_of_lt_mul p ?_)
      have := Int.mul_le_mul_of_nonneg_left p1 (show (0 : Int) ≤ 9223372036854775808 by decide)
      omega
  rw [e, jZ_toInt h, jZ_toInt q, Int.shiftRight_eq_div_pow]
  rfl
theorem iZ_ushr (z : Int) {k : Nat} (hk : k < 32) : ((iZ z).toUInt32 >>> ((iZ (k : Int)).toUInt32 &&& Int32.toUInt32 31)).toInt32 = iZ ((z % 4294967296) / 2 ^ k) := by
  refine iZ_ext ?_
  rw [iZ_nI, pk_ushr _ _ k (s_u k hk), iZ_tn, iZ_tn]
  have h0 : (0 : Int) ≤ z % 4294967296 := by omega
  have h1 : z % 4294967296 < 4294967296 := by omega
  obtain ⟨n, hn⟩ := Int.eq_ofNat_of_zero_le h0
  rw [hn]
  have e : ((n : Int) / 2 ^ k) = ((n / 2 ^ k : Nat) : Int) := by
    rw [Int.natCast_ediv, Int.natCast_pow]; rfl
  have l : n / 2 ^ k ≤ n := Nat.div_le_self _ _
  rw [e, Int.toNat_natCast]
  generalize n / 2 ^ k = q at l ⊢
  omega
theorem iZ_shl (z : Int) {k : Nat} (hk : k < 32) : iZ z <<< (iZ (k : Int) &&& 31) = iZ (z * 2 ^ k) := by
  refine iZ_ext ?_
  rw [iZ_nI, pk_shl _ _ k (s_l k hk), iZ_tn, iZ_tn]
  obtain ⟨n, hn⟩ := Int.eq_ofNat_of_zero_le (show (0 : Int) ≤ z % 4294967296 by omega)
  have e : (z * 2 ^ k) % 4294967296 = ((n * 2 ^ k % 2 ^ 32 : Nat) : Int) := by
    rw [Int.mul_emod, hn, Int.natCast_emod, Int.natCast_mul, Int.natCast_pow, Int.natCast_pow, Int.mul_emod (n : Int), Int.mul_emod (n : Int)]
    simp
  rw [e, hn]
  rfl
theorem iZ_shr {z : Int} (h : rI z) {k : Nat} (hk : k < 32) : iZ z >>> (iZ (k : Int) &&& 31) = iZ (z / 2 ^ k) := by
  refine Int32.toInt_inj.mp ?_
  have p : (0 : Int) < 2 ^ k := Int.pow_pos (by decide)
  have q : rI (z / 2 ^ k) := by
    have p1 : (1 : Int) ≤ 2 ^ k := p
    constructor
    · refine (Int.le_ediv_iff_mul_le p).mpr ?_
      have := Int.mul_le_mul_of_nonneg_left p1 (show (0 : Int) ≤ 2147483648 by decide)
      omega
    · refine Int.lt_add_one_iff.mp (Int.ediv_lt_of_lt_mul p ?_)
      have := Int.mul_le_mul_of_nonneg_left p1 (show (0 : Int) ≤ 2147483648 by decide)
      omega
  rw [iZ_nI, pk_shr _ _ k (s_l k hk), iZ_toInt h, iZ_toInt q, Int.shiftRight_eq_div_pow]
  rfl
/-- parts that don't overlap -/
theorem iZ_or {a b : Int} {k : Nat} (hb : 0 ≤ b) (hb2 : b < 2 ^ k) (hk : k ≤ 32) : iZ (a * 2 ^ k) ||| iZ b = iZ (a * 2 ^ k + b) := by
  refine iZ_ext ?_
  obtain ⟨n, rfl⟩ := Int.eq_ofNat_of_zero_le hb
  have hn : n < 2 ^ k := by
    have : ((n : Nat) : Int) < ((2 ^ k : Nat) : Int) := by rw [Int.natCast_pow]; exact hb2
    exact Int.ofNat_lt.mp this
  have h32 : (2 : Nat) ^ k * 2 ^ (32 - k) = 4294967296 := by rw [← Nat.pow_add, Nat.add_sub_cancel' hk]
  have hle : 2 ^ k ≤ 4294967296 := by rw [← h32]; exact Nat.le_mul_of_pos_right _ (Nat.pow_pos (by decide))
  obtain ⟨m, hm⟩ := Int.eq_ofNat_of_zero_le (show 0 ≤ a % 2 ^ (32 - k) from Int.emod_nonneg _ (by exact Int.ne_of_gt (Int.pow_pos (by decide))))
  have hm2 : m < 2 ^ (32 - k) := by
    have : ((m : Nat) : Int) < ((2 ^ (32 - k) : Nat) : Int) := by rw [← hm, Int.natCast_pow]; exact Int.emod_lt_of_pos _ (Int.pow_pos (by decide))
    exact Int.ofNat_lt.mp this
  have e1 : (a * 2 ^ k) % 4294967296 = ((2 ^ k * m : Nat) : Int) := by
    have h32i : (4294967296 : Int) = 2 ^ k * 2 ^ (32 - k) := by
      have := congrArg (fun n : Nat => (n : Int)) h32
      simp only [Int.natCast_mul, Int.natCast_pow] at this
      exact this.symm
    rw [h32i, Int.mul_comm a, Int.mul_emod_mul_of_pos _ _ (Int.pow_pos (by decide)), hm]
    simp [Int.natCast_mul, Int.natCast_pow]
  have hlt : 2 ^ k * m + n < 4294967296 := by
    have : 2 ^ k * (m + 1) ≤ 2 ^ k * 2 ^ (32 - k) := Nat.mul_le_mul_left _ hm2
    rw [h32, Nat.mul_add] at this
    omega
  have e2 : (a * 2 ^ k + (n : Int)) % 4294967296 = ((2 ^ k * m + n : Nat) : Int) := by
    rw [Int.add_emod, e1]
    omega
  rw [Int32.toBitVec_or, BitVec.toNat_or, iZ_tn, iZ_tn, iZ_tn, e1, e2]
  have e3 : ((n : Int) % 4294967296).toNat = n := by omega
  rw [e3, Int.toNat_natCast, Int.toNat_natCast, Nat.two_pow_add_eq_or_of_lt hn]
theorem iZ_or' {a b : Int} {k : Nat} (hb : 0 ≤ b) (hb2 : b < 2 ^ k) (hk : k ≤ 32) : iZ b ||| iZ (a * 2 ^ k) = iZ (a * 2 ^ k + b) := by
  rw [← iZ_or hb hb2 hk]
  exact Int32.or_comm _ _
theorem iZ_0 : (0 : Int32) = iZ 0 := by decide
theorem jZ_0 : (0 : Int64) = jZ 0 := by decide
theorem r0 : rI 0 := ⟨by decide, by decide⟩
theorem iZ_ne0 {b : Int} (hb : rI b) (h : b ≠ 0) : ¬ iZ b = 0 := by
  rw [iZ_0, iZ_inj hb r0]; exact h
theorem jZ_ne0 {b : Int} (hb : rJ b) (h : b ≠ 0) : ¬ jZ b = 0 := by
  rw [jZ_0, jZ_inj hb ⟨by decide, by decide⟩]; exact h
theorem iZ_div {a b : Int} (ha : rI a) (hb : rI b) : iZ a / iZ b = iZ (a.tdiv b) := (Int32.ofInt_tdiv (show -2147483648 ≤ a from ha.1) (show a ≤ 2147483647 from ha.2) (show -2147483648 ≤ b from hb.1) (show b ≤ 2147483647 from hb.2)).symm
theorem jZ_div {a b : Int} (ha : rJ a) (hb : rJ b) : jZ a / jZ b = jZ (a.tdiv b) := (Int64.ofInt_tdiv (show -9223372036854775808 ≤ a from ha.1) (show a ≤ 9223372036854775807 from ha.2) (show -9223372036854775808 ≤ b from hb.1) (show b ≤ 9223372036854775807 from hb.2)).symm
theorem iZ_rem {a b : Int} (ha : rI a) (hb : rI b) : iZ a - iZ a / iZ b * iZ b = iZ (a.tmod b) := by
  rw [iZ_div ha hb, iZ_mul, iZ_sub, Int.tmod_def, Int.mul_comm]
theorem lcmpZ {a b : Int} (ha : rJ a) (hb : rJ b) : lg_cmp (jZ a) (jZ b) = iZ (if b < a then 1 else if a = b then 0 else -1) := by
  unfold lg_cmp
  by_cases h1 : b < a
  · rw [if_pos ((jZ_lt hb ha).mpr h1), if_pos h1]; rfl
  · rw [if_neg (fun q => h1 ((jZ_lt hb ha).mp q)), if_neg h1]
    by_cases h2 : a = b
    · rw [if_pos (by rw [h2]), if_pos h2]; rfl
    · rw [if_neg (fun q => h2 ((jZ_inj ha hb).mp q)), if_neg h2]; rfl
