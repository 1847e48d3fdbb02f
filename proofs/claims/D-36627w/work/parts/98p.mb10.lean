/-! DIVISION: the array parts -/
theorem jZ_or {a b : Int} (ha : 0 ≤ a ∧ a < 4294967296) (hb : 0 ≤ b ∧ b < 4294967296) : jZ (a * 2 ^ 32) ||| jZ b = jZ (a * 2 ^ 32 + b) := by
  apply jZ_ext
  have h : (jZ (a * 2 ^ 32) ||| jZ b).toBitVec = (jZ (a * 2 ^ 32)).toBitVec ||| (jZ b).toBitVec := rfl
  rw [h, BitVec.toNat_or, jZ_tn, jZ_tn, jZ_tn]
  obtain ⟨a, rfl⟩ := Int.eq_ofNat_of_zero_le ha.1
  obtain ⟨b, rfl⟩ := Int.eq_ofNat_of_zero_le hb.1
  have e1 : (((a : Int) * 2 ^ 32) % 18446744073709551616).toNat = 2 ^ 32 * a := by omega
  have e2 : ((b : Int) % 18446744073709551616).toNat = b := by omega
  have e3 : (((a : Int) * 2 ^ 32 + (b : Int)) % 18446744073709551616).toNat = 2 ^ 32 * a + b := by omega
  rw [e1, e2, e3]
  exact (Nat.two_pow_add_eq_or_of_lt (by omega) a).symm
theorem dw_q {N d : Int} (hN : 9223372036854775808 ≤ N ∧ N < d * 4294967296) (hd : 0 < d ∧ d < 4294967296) : let q := (N / 2) / (d / 2); 0 ≤ q ∧ q < 8589934592 ∧ N - q * d < d ∧ -8589934592 ≤ N - q * d := by
  intro q
  have hd2 : 2147483648 ≤ d := by omega
  have h1 : q * (d / 2) ≤ N / 2 := Int.ediv_mul_le _ (by omega)
  have h2 : N / 2 < (q + 1) * (d / 2) := Int.lt_ediv_add_one_mul_self _ (by omega)
  have h0 : 0 ≤ q := Int.ediv_nonneg (by omega) (by omega)
  have hq : q < 8589934592 := by
    apply Int.ediv_lt_of_lt_mul (by omega)
    have : d * 2147483648 ≤ 8589934592 * (d / 2) := by omega
    omega
  rcases (show d = 2 * (d / 2) ∨ d = 2 * (d / 2) + 1 by omega) with e | e
  · have e1 : q * d = 2 * (q * (d / 2)) := by conv => lhs; rw [e]
                                              grind
    have e2 : (q + 1) * d = 2 * ((q + 1) * (d / 2)) := by conv => lhs; rw [e]
                                                          grind
    have e3 : (q + 1) * d = q * d + d := by grind
    exact ⟨h0, hq, by omega, by omega⟩
  · have e1 : q * d = 2 * (q * (d / 2)) + q := by conv => lhs; rw [e]
                                                  grind
    have e2 : (q + 1) * d = 2 * ((q + 1) * (d / 2)) + (q + 1) := by conv => lhs; rw [e]
                                                                    grind
    have e3 : (q + 1) * d = q * d + d := by grind
    exact ⟨h0, hq, by omega, by omega⟩
theorem div_u {N d q r : Int} (h : q * d + r = N) (h0 : 0 ≤ r) (h1 : r < d) : q = N / d ∧ r = N % d := by
  have h2 : N = r + d * q := by rw [← h, Int.mul_comm]; omega
  subst h2
  rw [Int.add_mul_ediv_left _ _ (by omega), Int.add_mul_emod_self_left, Int.ediv_eq_zero_of_lt h0 h1, Int.emod_eq_of_lt h0 h1]
  omega
set_option maxHeartbeats 400000 in
set_option maxRecDepth 100000 in
/-- unsigned: greater? -/
theorem h_ulc (κ : zK) (H0 : Heap) {a : Nat} {x y : Int} (hx : 0 ≤ x ∧ x < 18446744073709551616) (hy : 0 ≤ y ∧ y < 18446744073709551616) : Mt κ yJ26_unsignedLongCompare cJ26_unsignedLongCompare 5 (some .boolean) 0 0 0 0 H0 [.ref a, vj x, vj y] (fun _ => False) (fun v H1 => v = some (vi (if y < x then 1 else 0))) := by
  refine Mt.of (by decide) (Nat.le_of_ble_eq_true rfl) ?_
  intro z E hE hH0 hA0 hL hini
  have hAll : ∀ q, (fun _ => False) q → zA z.A z.H0 q := fun q h => Or.inl (by rw [hA0]; exact h)
  have hNew : ∀ q, H0.size ≤ q → zA z.A z.H0 q := fun q h => Or.inr (by rw [hH0]; exact h)
  have E : zOK z cJ26_unsignedLongCompare RJ26 κ 0 0 (some .boolean) := E
  refine V.eqL (lv' := [(0, .ref a), (1, vj x), (3, vj y)]) rfl ?_
  refine v_lload_n E 1 rfl dJ26_unsignedLongCompare_0 ?_
  refine v_ldc2 E q1299 dJ26_unsignedLongCompare_1 ?_
  refine V.eq (st' := vj (-9223372036854775808) :: _) rfl ?_
  refine v_ladd E dJ26_unsignedLongCompare_4 ?_
  refine V.topl (x' := x - 9223372036854775808) (jZ_cong (by omega)) ?_
  refine v_lload_n E 2 rfl dJ26_unsignedLongCompare_5 ?_
  refine v_ldc2 E q1299 dJ26_unsignedLongCompare_6 ?_
  refine V.eq (st' := vj (-9223372036854775808) :: _) rfl ?_
  refine v_ladd E dJ26_unsignedLongCompare_9 ?_
  refine V.topl (x' := y - 9223372036854775808) (jZ_cong (by omega)) ?_
  refine v_lc_le E (tgt := 18) dJ26_unsignedLongCompare_10 dJ26_unsignedLongCompare_11 (by decide) ⟨by omega, by omega⟩ ⟨by omega, by omega⟩ (fun c_10 => ?_) (fun c_10 => ?_)
  · refine v_iconst E dJ26_unsignedLongCompare_18 ?_
    refine v_zret E hE dJ26_unsignedLongCompare_19 rfl ?_
    rw [if_neg (by omega)]
  · refine v_iconst E dJ26_unsignedLongCompare_14 ?_
    refine v_goto E (tgt := 19) dJ26_unsignedLongCompare_15 (by decide) ?_
    refine v_zret E hE dJ26_unsignedLongCompare_19 rfl ?_
    rw [if_pos (by omega)]

set_option maxHeartbeats 400000 in
set_option maxRecDepth 100000 in
/-- a long by an int, unsigned -/
theorem h_divW (κ : zK) (H0 : Heap) {N d : Int} (hN : 9223372036854775808 ≤ N ∧ N < d * 4294967296) (hd : 0 < d ∧ d < 4294967296) : Mt κ yJ26_divWord cJ26_divWord 9 (some .long) 0 0 0 0 H0 [vj N, vi d] (fun _ => False) (fun v H1 => v = some (vj ((N % d) * 2 ^ 32 + N / d))) := by
  refine Mt.of (by decide) (Nat.le_of_ble_eq_true rfl) ?_
  intro z E hE hH0 hA0 hL hini
  have hAll : ∀ q, (fun _ => False) q → zA z.A z.H0 q := fun q h => Or.inl (by rw [hA0]; exact h)
  have hNew : ∀ q, H0.size ≤ q → zA z.A z.H0 q := fun q h => Or.inr (by rw [hH0]; exact h)
  have E : zOK z cJ26_divWord RJ26 κ 0 0 (some .long) := E
  refine V.eqL (lv' := [(0, vj N), (2, vi d)]) rfl ?_
  refine v_iload_n E 1 rfl dJ26_divWord_0 ?_
  refine v_i2lLow E dJ26_divWord_1 q1240 dJ26_divWord_2 dJ26_divWord_5 ?_
  refine V.topl (x' := d) (congrArg jZ (by omega)) ?_
  refine v_lstore_n E dJ26_divWord_6 (zlt hL rfl) (lv' := [(3, vj d), (0, vj N), (2, vi d)]) rfl ?_
  refine v_lload_n E 0 rfl dJ26_divWord_7 ?_
  refine v_lconst E (x := 1) rfl dJ26_divWord_8 ?_
  refine v_lc_ne E (tgt := 34) dJ26_divWord_9 dJ26_divWord_10 (by decide) ⟨by omega, by omega⟩ ⟨by omega, by omega⟩ (fun c_9 => ?_) (fun c_9 => absurd c_9 (by omega))
  refine v_lload_n E 1 rfl dJ26_divWord_34 ?_
  refine v_iconst E dJ26_divWord_35 ?_
  refine v_lushr E 1 (by decide) dJ26_divWord_36 ?_
  refine v_lload_n E 0 rfl dJ26_divWord_37 ?_
  refine v_iconst E dJ26_divWord_38 ?_
  refine v_lushr E 1 (by decide) dJ26_divWord_39 ?_
  refine v_ldiv E ⟨by omega, by omega⟩ ⟨by omega, by omega⟩ (by omega) dJ26_divWord_40 ?_
  have dwq := dw_q hN hd
  refine V.topl (x' := (N / 2) / (d / 2)) (congrArg jZ (by rw [show (N % 18446744073709551616) / 2 ^ 1 = N / 2 by omega, show (d % 18446744073709551616) / 2 ^ 1 = d / 2 by omega, Int.tdiv_eq_ediv_of_nonneg (by omega)])) ?_
  have dwq' : 0 ≤ (N / 2) / (d / 2) ∧ (N / 2) / (d / 2) < 8589934592 ∧ N - (N / 2) / (d / 2) * d < d ∧ -8589934592 ≤ N - (N / 2) / (d / 2) * d := dwq
  clear dwq
  obtain ⟨q0, hq0⟩ : ∃ q0, q0 = (N / 2) / (d / 2) := ⟨_, rfl⟩
  rw [← hq0] at dwq' ⊢
  have dwq := dwq'
  refine v_lstore E dJ26_divWord_41 (zlt hL rfl) (lv' := [(7, vj q0), (3, vj d), (0, vj N), (2, vi d)]) rfl ?_
  refine v_lload_n E 2 rfl dJ26_divWord_43 ?_
  refine v_lload E 0 rfl dJ26_divWord_44 ?_
  refine v_lload_n E 1 rfl dJ26_divWord_46 ?_
  refine v_lmul E dJ26_divWord_47 ?_
  refine v_lsub E dJ26_divWord_48 ?_
  refine v_lstore E dJ26_divWord_49 (zlt hL rfl) (lv' := [(5, vj (N - (q0 * d))), (7, vj q0), (3, vj d), (0, vj N), (2, vi d)]) rfl ?_
  have loop_51 : ∀ (m_51 : Nat) (H : Heap) (q r : Int), (-r).toNat < m_51 → (q * d + r = N) → (-8589934592 ≤ r ∧ r < d) → ((0 : Int) ≤ 0) → V z H 0 0 51 [(5, vj r), (7, vj q), (3, vj d)] [] := by
    intro m_51
    induction m_51 with
    | zero => intro H q r hm; exact absurd hm (by omega)
    | succ m_51 ih_51 =>
      intro H q r hm_51 hq hr hq9
      refine v_lload E 0 rfl dJ26_divWord_51 ?_
      refine v_lconst E (x := 0) rfl dJ26_divWord_53 ?_
      refine v_lc_ge E (tgt := 73) dJ26_divWord_54 dJ26_divWord_55 (by decide) ⟨by omega, by omega⟩ ⟨by omega, by omega⟩ (fun c_54 => ?_) (fun c_54 => ?_)
      · refine v_lload E 0 rfl dJ26_divWord_73 ?_
        refine v_lload_n E 2 rfl dJ26_divWord_75 ?_
        refine v_lc_lt E (tgt := 95) dJ26_divWord_76 dJ26_divWord_77 (by decide) ⟨by omega, by omega⟩ ⟨by omega, by omega⟩ (fun c_76 => ?_) (fun c_76 => absurd c_76 (by omega))
        have hu := div_u hq (by omega) hr.2
        have hqn : 0 ≤ q ∧ q < 4294967296 := by
          rw [hu.1]
          exact ⟨Int.ediv_nonneg (by omega) (by omega), Int.ediv_lt_of_lt_mul (by omega) (by rw [Int.mul_comm]; exact hN.2)⟩
        refine v_lload E 0 rfl dJ26_divWord_95 ?_
        refine v_bipush E ⟨by decide, by decide⟩ dJ26_divWord_97 ?_
        refine v_lshl E 32 (by decide) dJ26_divWord_99 ?_
        refine v_lload E 1 rfl dJ26_divWord_100 ?_
        refine v_ldc2 E q1240 dJ26_divWord_102 ?_
        refine v_landLow E dJ26_divWord_105 ?_
        refine v_lor E (c := r * 2 ^ 32 + q) (by rw [Int.emod_eq_of_lt hqn.1 hqn.2]; exact jZ_or ⟨by omega, by omega⟩ hqn) dJ26_divWord_106 ?_
        refine v_lret E hE dJ26_divWord_107 ?_
        rw [← hu.1, ← hu.2]
      · refine v_lload E 0 rfl dJ26_divWord_58 ?_
        refine v_lload_n E 2 rfl dJ26_divWord_60 ?_
        refine v_ladd E dJ26_divWord_61 ?_
        refine v_lstore E dJ26_divWord_62 (zlt hL rfl) (lv' := [(5, vj (r + d)), (7, vj q), (3, vj d)]) rfl ?_
        refine v_lload E 1 rfl dJ26_divWord_64 ?_
        refine v_lconst E (x := 1) rfl dJ26_divWord_66 ?_
        refine v_lsub E dJ26_divWord_67 ?_
        refine v_lstore E dJ26_divWord_68 (zlt hL rfl) (lv' := [(7, vj (q - 1)), (5, vj (r + d)), (3, vj d)]) rfl ?_
        refine v_goto E (tgt := 51) dJ26_divWord_70 (by decide) ?_
        refine V.sub [1, 0, 2] (lv' := [(5, vj (r + d)), (7, vj (q - 1)), (3, vj d)]) rfl ?_
        exact ih_51  H _ _ (by omega) (by grind) (by omega) (by omega)
  refine V.sub [0, 1, 2] (lv' := [(5, vj (N - (q0 * d))), (7, vj q0), (3, vj d)]) rfl ?_
  exact loop_51 (8589934592 + 1) H0 _ _ (by omega) (by omega) ⟨dwq.2.2.2, dwq.2.2.1⟩ (by omega)
