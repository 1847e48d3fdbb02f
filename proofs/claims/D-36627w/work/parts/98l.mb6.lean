/-! MUTABLE BIG INTEGERS: the gcd of two ints -/
theorem zeros32 {d : Nat} (h0 : 0 < d) (h : d < 4294967296) : ∃ t, isZeros (d : Int) t ∧ t < 32 := by
  obtain ⟨t, ht⟩ := zeros_ex 32 (d : Int) (by omega) (by omega)
  exact ⟨t, ht, zeros_lt (by omega) (by omega) ht⟩
theorem odd_pos {x : Nat} (h : x % 2 = 1) : 0 < x := by omega
theorem shr_nat {d t : Nat} (h : d < 4294967296) : ((d : Int) % 4294967296) / 2 ^ t = ((d / 2 ^ t : Nat) : Int) := by
  rw [Int.emod_eq_of_lt (by omega) (by omega), Int.natCast_ediv, Int.natCast_pow]; rfl
set_option maxHeartbeats 400000 in
set_option maxRecDepth 100000 in
/-- the gcd of two ints -/
theorem h_bgI (κ : zK) (H0 : Heap) {p q : Nat} (hpp : 0 < p ∧ p < 4294967296) (hqq : 0 < q ∧ q < 4294967296)  : Mt κ yJ26_binaryGcd cJ26_binaryGcd 5 (some .int) 1 21 0 0 H0 [vi (p : Int), vi (q : Int)] (fun _ => False) (fun v H1 => v = some (vi ((Nat.gcd p q : Nat) : Int))) := by
  refine Mt.of (by decide) (Nat.le_of_ble_eq_true rfl) ?_
  intro z E hE hH0 hA0 hL hini
  have hAll : ∀ q, (fun _ => False) q → zA z.A z.H0 q := fun q h => Or.inl (by rw [hA0]; exact h)
  have hNew : ∀ q, H0.size ≤ q → zA z.A z.H0 q := fun q h => Or.inr (by rw [hH0]; exact h)
  have E : zOK z cJ26_binaryGcd RJ26 κ 1 21 (some .int) := E
  refine V.eqL (lv' := [(0, vi (p : Int)), (1, vi (q : Int))]) rfl ?_
  refine v_iload_n E 1 rfl dJ26_binaryGcd_0 ?_
  refine V.topi (x' := ((q : Int) + 2147483648) % 4294967296 - 2147483648) (iZ_sg _) ?_
  refine v_if_ne E (tgt := 6) dJ26_binaryGcd_1 (by decide) ⟨by omega, by omega⟩ (fun c_1 => ?_) (fun c_1 => absurd c_1 (by omega))
  refine v_iload_n E 0 rfl dJ26_binaryGcd_6 ?_
  refine V.topi (x' := ((p : Int) + 2147483648) % 4294967296 - 2147483648) (iZ_sg _) ?_
  refine v_if_ne E (tgt := 12) dJ26_binaryGcd_7 (by decide) ⟨by omega, by omega⟩ (fun c_7 => ?_) (fun c_7 => absurd c_7 (by omega))
  obtain ⟨i, hi⟩ := zeros32 hpp.1 hpp.2
  obtain ⟨k, hk⟩ := zeros32 hqq.1 hqq.2
  have zi := zeros_split hi.1
  have zk := zeros_split hk.1
  have hx0 : 0 < p / 2 ^ i ∧ p / 2 ^ i < 4294967296 ∧ p / 2 ^ i % 2 = 1 := ⟨odd_pos zi.2, Nat.lt_of_le_of_lt (Nat.div_le_self _ _) hpp.2, zi.2⟩
  have hy0 : 0 < q / 2 ^ k ∧ q / 2 ^ k < 4294967296 ∧ q / 2 ^ k % 2 = 1 := ⟨odd_pos zk.2, Nat.lt_of_le_of_lt (Nat.div_le_self _ _) hqq.2, zk.2⟩
  refine v_iload_n E 0 rfl dJ26_binaryGcd_12 ?_
  refine v_callS E (As := [vi (p : Int)]) (m_ntz κ H0 (d := p) (t := i) hpp.1 hpp.2 hi.1 hi.2) (lw_S q1201 q1069 q99 q1070) 1 (by decide +kernel) rfl (by decide) (by decide) (cb' := 0) (sb' := 0) (by decide) (by decide) rfl (rest := []) (Nat.le_of_ble_eq_true rfl) (fun q h => h.elim) dJ26_binaryGcd_13 (fun v_1 H_2 hpost_3 hz_4 hk_5 => ?_)
  clear hz_4
  obtain rfl := hpost_3
  refine V.eq (st' := [vi (i : Int)]) rfl ?_
  refine v_istore_n E dJ26_binaryGcd_16 (zlt hL rfl) (lv' := [(2, vi (i : Int)), (0, vi (p : Int)), (1, vi (q : Int))]) rfl ?_
  refine v_iload_n E 2 rfl dJ26_binaryGcd_17 ?_
  refine v_callS E (As := [vi (q : Int)]) (m_ntz κ H_2 (d := q) (t := k) hqq.1 hqq.2 hk.1 hk.2) (lw_S q1201 q1069 q99 q1070) 1 (by decide +kernel) rfl (by decide) (by decide) (cb' := 0) (sb' := 0) (by decide) (by decide) rfl (rest := []) (Nat.le_of_ble_eq_true rfl) (fun q h => h.elim) dJ26_binaryGcd_18 (fun v_6 H_7 hpost_8 hz_9 hk_10 => ?_)
  clear hz_9
  obtain rfl := hpost_8
  refine V.eq (st' := [vi (k : Int)]) rfl ?_
  refine v_istore_n E dJ26_binaryGcd_21 (zlt hL rfl) (lv' := [(3, vi (k : Int)), (2, vi (i : Int)), (0, vi (p : Int)), (1, vi (q : Int))]) rfl ?_
  refine v_iload_n E 2 rfl dJ26_binaryGcd_22 ?_
  refine v_iload_n E 1 rfl dJ26_binaryGcd_23 ?_
  refine v_iushr E i (by omega) dJ26_binaryGcd_24 ?_
  refine V.topi (x' := (((p) / 2 ^ i : Nat) : Int)) (congrArg iZ (shr_nat hpp.2)) ?_
  refine v_istore_n E dJ26_binaryGcd_25 (zlt hL rfl) (lv' := [(0, vi (((p) / 2 ^ i : Nat) : Int)), (3, vi (k : Int)), (2, vi (i : Int)), (1, vi (q : Int))]) rfl ?_
  refine v_iload_n E 3 rfl dJ26_binaryGcd_26 ?_
  refine v_iload_n E 1 rfl dJ26_binaryGcd_27 ?_
  refine v_iushr E k (by omega) dJ26_binaryGcd_28 ?_
  refine V.topi (x' := (((q) / 2 ^ k : Nat) : Int)) (congrArg iZ (shr_nat hqq.2)) ?_
  refine v_istore_n E dJ26_binaryGcd_29 (zlt hL rfl) (lv' := [(1, vi (((q) / 2 ^ k : Nat) : Int)), (0, vi (((p) / 2 ^ i : Nat) : Int)), (3, vi (k : Int)), (2, vi (i : Int))]) rfl ?_
  refine v_iload_n E 3 rfl dJ26_binaryGcd_30 ?_
  refine v_iload_n E 2 rfl dJ26_binaryGcd_31 ?_
  refine v_icmp_ge E (tgt := 39) dJ26_binaryGcd_32 (by decide) ⟨by omega, by omega⟩ ⟨by omega, by omega⟩ (fun c_32 => ?_) (fun c_32 => ?_)
  · refine v_iload_n E 2 rfl dJ26_binaryGcd_39 ?_
    refine V.topi (x' := ((min i k : Nat) : Int)) (congrArg iZ (by omega)) ?_
    refine v_istore E dJ26_binaryGcd_40 (zlt hL rfl) (lv' := [(4, vi ((min i k : Nat) : Int)), (1, vi (((q) / 2 ^ k : Nat) : Int)), (0, vi (((p) / 2 ^ i : Nat) : Int)), (3, vi (k : Int)), (2, vi (i : Int))]) rfl ?_
    have loop_42 : ∀ (m_42 : Nat) (H : Heap) (x y : Nat), x + y < m_42 → (0 < x ∧ x < 4294967296 ∧ x % 2 = 1) → (0 < y ∧ y < 4294967296 ∧ y % 2 = 1) → (2 ^ (min i k) * Nat.gcd x y = Nat.gcd p q) → V z H 0 0 42 [(0, vi (x : Int)), (1, vi (y : Int)), (4, vi ((min i k : Nat) : Int))] [] := by
      intro m_42
      induction m_42 with
      | zero => intro H x y hm; exact absurd hm (by omega)
      | succ m_42 ih_42 =>
        intro H x y hm_42 hx hy hg
        refine v_iload_n E 0 rfl dJ26_binaryGcd_42 ?_
        refine v_iload_n E 1 rfl dJ26_binaryGcd_43 ?_
        refine V.top2i (x' := ((y : Int) + 2147483648) % 4294967296 - 2147483648) (y' := ((x : Int) + 2147483648) % 4294967296 - 2147483648) (iZ_sg _) (iZ_sg _) ?_
        refine v_icmp_eq E (tgt := 86) dJ26_binaryGcd_44 (by decide) ⟨by omega, by omega⟩ ⟨by omega, by omega⟩ (fun c_44 => ?_) (fun c_44 => ?_)
        · refine v_iload_n E 0 rfl dJ26_binaryGcd_86 ?_
          refine v_iload E 2 rfl dJ26_binaryGcd_87 ?_
          refine v_ishl E (min i k) (by omega) dJ26_binaryGcd_89 ?_
          refine v_iret E hE dJ26_binaryGcd_90 ?_
          obtain rfl : x = y := by omega
          rw [Nat.gcd_self] at hg
          exact congrArg (fun t => some (vi t)) (by rw [← hg, Int.natCast_mul, Int.natCast_pow, Int.mul_comm]; rfl)
        · refine v_iload_n E 0 rfl dJ26_binaryGcd_47 ?_
          refine v_ldc E q1223 dJ26_binaryGcd_48 ?_
          refine V.eq (st' := vi (-2147483648) :: _) rfl ?_
          refine v_iadd E dJ26_binaryGcd_50 ?_
          refine v_iload_n E 1 rfl dJ26_binaryGcd_51 ?_
          refine v_ldc E q1223 dJ26_binaryGcd_52 ?_
          refine V.eq (st' := vi (-2147483648) :: _) rfl ?_
          refine v_iadd E dJ26_binaryGcd_54 ?_
          refine v_icmp_le E (tgt := 72) dJ26_binaryGcd_55 (by decide) ⟨by omega, by omega⟩ ⟨by omega, by omega⟩ (fun c_55 => ?_) (fun c_55 => ?_)
          · refine v_iload_n E 1 rfl dJ26_binaryGcd_72 ?_
            refine v_iload_n E 0 rfl dJ26_binaryGcd_73 ?_
            refine v_isub E dJ26_binaryGcd_74 ?_
            obtain ⟨t, ht⟩ := zeros32 (d := y - x) (by omega) (by omega)
            have gs := gcd_step hx.2.2 (by omega : x < y) (by rw [show (y : Int) - (x : Int) = ((y - x : Nat) : Int) by omega]; exact ht.1)
            refine V.topi (x' := ((y - x : Nat) : Int)) (congrArg iZ (by omega)) ?_
            refine v_istore_n E dJ26_binaryGcd_75 (zlt hL rfl) (lv' := [(1, vi ((y - x : Nat) : Int)), (0, vi (x : Int)), (4, vi ((min i k : Nat) : Int))]) rfl ?_
            refine v_iload_n E 0 rfl dJ26_binaryGcd_76 ?_
            refine v_iload_n E 0 rfl dJ26_binaryGcd_77 ?_
            refine v_callS E (As := [vi ((y - x : Nat) : Int)]) (m_ntz κ H (d := (y - x)) (t := t) (by omega) (by omega) ht.1 ht.2) (lw_S q1201 q1069 q99 q1070) 1 (by decide +kernel) rfl (by decide) (by decide) (cb' := 0) (sb' := 0) (by decide) (by decide) rfl (rest := [vi ((y - x : Nat) : Int)]) (Nat.le_of_ble_eq_true rfl) (fun q h => h.elim) dJ26_binaryGcd_78 (fun v_11 H_12 hpost_13 hz_14 hk_15 => ?_)
            clear hz_14
            obtain rfl := hpost_13
            refine V.eq (st' := [vi (t : Int), vi ((y - x : Nat) : Int)]) rfl ?_
            refine v_iushr E t (by omega) dJ26_binaryGcd_81 ?_
            refine V.topi (x' := (((y - x) / 2 ^ t : Nat) : Int)) (congrArg iZ (shr_nat (by omega))) ?_
            refine v_istore_n E dJ26_binaryGcd_82 (zlt hL rfl) (lv' := [(1, vi (((y - x) / 2 ^ t : Nat) : Int)), (0, vi (x : Int)), (4, vi ((min i k : Nat) : Int))]) rfl ?_
            refine v_goto E (tgt := 42) dJ26_binaryGcd_83 (by decide) ?_
            refine V.sub [1, 0, 2] (lv' := [(0, vi (x : Int)), (1, vi (((y - x) / 2 ^ t : Nat) : Int)), (4, vi ((min i k : Nat) : Int))]) rfl ?_
            exact ih_42  H_12 x ((y - x) / 2 ^ t) (by omega) hx ⟨gs.2.2.2, by omega, gs.2.1⟩ (by rw [Nat.gcd_comm, gs.1, Nat.gcd_comm]; exact hg)
          · refine v_iload_n E 0 rfl dJ26_binaryGcd_58 ?_
            refine v_iload_n E 1 rfl dJ26_binaryGcd_59 ?_
            refine v_isub E dJ26_binaryGcd_60 ?_
            obtain ⟨t, ht⟩ := zeros32 (d := x - y) (by omega) (by omega)
            have gs := gcd_step hy.2.2 (by omega : y < x) (by rw [show (x : Int) - (y : Int) = ((x - y : Nat) : Int) by omega]; exact ht.1)
            refine V.topi (x' := ((x - y : Nat) : Int)) (congrArg iZ (by omega)) ?_
            refine v_istore_n E dJ26_binaryGcd_61 (zlt hL rfl) (lv' := [(0, vi ((x - y : Nat) : Int)), (1, vi (y : Int)), (4, vi ((min i k : Nat) : Int))]) rfl ?_
            refine v_iload_n E 0 rfl dJ26_binaryGcd_62 ?_
            refine v_iload_n E 0 rfl dJ26_binaryGcd_63 ?_
            refine v_callS E (As := [vi ((x - y : Nat) : Int)]) (m_ntz κ H (d := (x - y)) (t := t) (by omega) (by omega) ht.1 ht.2) (lw_S q1201 q1069 q99 q1070) 1 (by decide +kernel) rfl (by decide) (by decide) (cb' := 0) (sb' := 0) (by decide) (by decide) rfl (rest := [vi ((x - y : Nat) : Int)]) (Nat.le_of_ble_eq_true rfl) (fun q h => h.elim) dJ26_binaryGcd_64 (fun v_16 H_17 hpost_18 hz_19 hk_20 => ?_)
            clear hz_19
            obtain rfl := hpost_18
            refine V.eq (st' := [vi (t : Int), vi ((x - y : Nat) : Int)]) rfl ?_
            refine v_iushr E t (by omega) dJ26_binaryGcd_67 ?_
            refine V.topi (x' := (((x - y) / 2 ^ t : Nat) : Int)) (congrArg iZ (shr_nat (by omega))) ?_
            refine v_istore_n E dJ26_binaryGcd_68 (zlt hL rfl) (lv' := [(0, vi (((x - y) / 2 ^ t : Nat) : Int)), (1, vi (y : Int)), (4, vi ((min i k : Nat) : Int))]) rfl ?_
            refine v_goto E (tgt := 42) dJ26_binaryGcd_69 (by decide) ?_
            exact ih_42  H_17 ((x - y) / 2 ^ t) y (by omega) ⟨gs.2.2.2, by omega, gs.2.1⟩ hy (by rw [gs.1]; exact hg)
    refine V.sub [2, 1, 0] (lv' := [(0, vi (((p) / 2 ^ i : Nat) : Int)), (1, vi (((q) / 2 ^ k : Nat) : Int)), (4, vi ((min i k : Nat) : Int))]) rfl ?_
    exact loop_42 ((p / 2 ^ i + q / 2 ^ k) + 1) H_7 (p / 2 ^ i) (q / 2 ^ k) (by omega) hx0 hy0 (gcd_first hi.1 hk.1).symm
  · refine v_iload_n E 3 rfl dJ26_binaryGcd_35 ?_
    refine v_goto E (tgt := 40) dJ26_binaryGcd_36 (by decide) ?_
    refine V.topi (x' := ((min i k : Nat) : Int)) (congrArg iZ (by omega)) ?_
    refine v_istore E dJ26_binaryGcd_40 (zlt hL rfl) (lv' := [(4, vi ((min i k : Nat) : Int)), (1, vi (((q) / 2 ^ k : Nat) : Int)), (0, vi (((p) / 2 ^ i : Nat) : Int)), (3, vi (k : Int)), (2, vi (i : Int))]) rfl ?_
    have loop_42 : ∀ (m_42 : Nat) (H : Heap) (x y : Nat), x + y < m_42 → (0 < x ∧ x < 4294967296 ∧ x % 2 = 1) → (0 < y ∧ y < 4294967296 ∧ y % 2 = 1) → (2 ^ (min i k) * Nat.gcd x y = Nat.gcd p q) → V z H 0 0 42 [(0, vi (x : Int)), (1, vi (y : Int)), (4, vi ((min i k : Nat) : Int))] [] := by
      intro m_42
      induction m_42 with
      | zero => intro H x y hm; exact absurd hm (by omega)
      | succ m_42 ih_42 =>
        intro H x y hm_42 hx hy hg
        refine v_iload_n E 0 rfl dJ26_binaryGcd_42 ?_
        refine v_iload_n E 1 rfl dJ26_binaryGcd_43 ?_
        refine V.top2i (x' := ((y : Int) + 2147483648) % 4294967296 - 2147483648) (y' := ((x : Int) + 2147483648) % 4294967296 - 2147483648) (iZ_sg _) (iZ_sg _) ?_
        refine v_icmp_eq E (tgt := 86) dJ26_binaryGcd_44 (by decide) ⟨by omega, by omega⟩ ⟨by omega, by omega⟩ (fun c_44 => ?_) (fun c_44 => ?_)
        · refine v_iload_n E 0 rfl dJ26_binaryGcd_86 ?_
          refine v_iload E 2 rfl dJ26_binaryGcd_87 ?_
          refine v_ishl E (min i k) (by omega) dJ26_binaryGcd_89 ?_
          refine v_iret E hE dJ26_binaryGcd_90 ?_
          obtain rfl : x = y := by omega
          rw [Nat.gcd_self] at hg
          exact congrArg (fun t => some (vi t)) (by rw [← hg, Int.natCast_mul, Int.natCast_pow, Int.mul_comm]; rfl)
        · refine v_iload_n E 0 rfl dJ26_binaryGcd_47 ?_
          refine v_ldc E q1223 dJ26_binaryGcd_48 ?_
          refine V.eq (st' := vi (-2147483648) :: _) rfl ?_
          refine v_iadd E dJ26_binaryGcd_50 ?_
          refine v_iload_n E 1 rfl dJ26_binaryGcd_51 ?_
          refine v_ldc E q1223 dJ26_binaryGcd_52 ?_
          refine V.eq (st' := vi (-2147483648) :: _) rfl ?_
          refine v_iadd E dJ26_binaryGcd_54 ?_
          refine v_icmp_le E (tgt := 72) dJ26_binaryGcd_55 (by decide) ⟨by omega, by omega⟩ ⟨by omega, by omega⟩ (fun c_55 => ?_) (fun c_55 => ?_)
          · refine v_iload_n E 1 rfl dJ26_binaryGcd_72 ?_
            refine v_iload_n E 0 rfl dJ26_binaryGcd_73 ?_
            refine v_isub E dJ26_binaryGcd_74 ?_
            obtain ⟨t, ht⟩ := zeros32 (d := y - x) (by omega) (by omega)
            have gs := gcd_step hx.2.2 (by omega : x < y) (by rw [show (y : Int) - (x : Int) = ((y - x : Nat) : Int) by omega]; exact ht.1)
            refine V.topi (x' := ((y - x : Nat) : Int)) (congrArg iZ (by omega)) ?_
            refine v_istore_n E dJ26_binaryGcd_75 (zlt hL rfl) (lv' := [(1, vi ((y - x : Nat) : Int)), (0, vi (x : Int)), (4, vi ((min i k : Nat) : Int))]) rfl ?_
            refine v_iload_n E 0 rfl dJ26_binaryGcd_76 ?_
            refine v_iload_n E 0 rfl dJ26_binaryGcd_77 ?_
            refine v_callS E (As := [vi ((y - x : Nat) : Int)]) (m_ntz κ H (d := (y - x)) (t := t) (by omega) (by omega) ht.1 ht.2) (lw_S q1201 q1069 q99 q1070) 1 (by decide +kernel) rfl (by decide) (by decide) (cb' := 0) (sb' := 0) (by decide) (by decide) rfl (rest := [vi ((y - x : Nat) : Int)]) (Nat.le_of_ble_eq_true rfl) (fun q h => h.elim) dJ26_binaryGcd_78 (fun v_21 H_22 hpost_23 hz_24 hk_25 => ?_)
            clear hz_24
            obtain rfl := hpost_23
            refine V.eq (st' := [vi (t : Int), vi ((y - x : Nat) : Int)]) rfl ?_
            refine v_iushr E t (by omega) dJ26_binaryGcd_81 ?_
            refine V.topi (x' := (((y - x) / 2 ^ t : Nat) : Int)) (congrArg iZ (shr_nat (by omega))) ?_
            refine v_istore_n E dJ26_binaryGcd_82 (zlt hL rfl) (lv' := [(1, vi (((y - x) / 2 ^ t : Nat) : Int)), (0, vi (x : Int)), (4, vi ((min i k : Nat) : Int))]) rfl ?_
            refine v_goto E (tgt := 42) dJ26_binaryGcd_83 (by decide) ?_
            refine V.sub [1, 0, 2] (lv' := [(0, vi (x : Int)), (1, vi (((y - x) / 2 ^ t : Nat) : Int)), (4, vi ((min i k : Nat) : Int))]) rfl ?_
            exact ih_42  H_22 x ((y - x) / 2 ^ t) (by omega) hx ⟨gs.2.2.2, by omega, gs.2.1⟩ (by rw [Nat.gcd_comm, gs.1, Nat.gcd_comm]; exact hg)
          · refine v_iload_n E 0 rfl dJ26_binaryGcd_58 ?_
            refine v_iload_n E 1 rfl dJ26_binaryGcd_59 ?_
            refine v_isub E dJ26_binaryGcd_60 ?_
            obtain ⟨t, ht⟩ := zeros32 (d := x - y) (by omega) (by omega)
            have gs := gcd_step hy.2.2 (by omega : y < x) (by rw [show (x : Int) - (y : Int) = ((x - y : Nat) : Int) by omega]; exact ht.1)
            refine V.topi (x' := ((x - y : Nat) : Int)) (congrArg iZ (by omega)) ?_
            refine v_istore_n E dJ26_binaryGcd_61 (zlt hL rfl) (lv' := [(0, vi ((x - y : Nat) : Int)), (1, vi (y : Int)), (4, vi ((min i k : Nat) : Int))]) rfl ?_
            refine v_iload_n E 0 rfl dJ26_binaryGcd_62 ?_
            refine v_iload_n E 0 rfl dJ26_binaryGcd_63 ?_
            refine v_callS E (As := [vi ((x - y : Nat) : Int)]) (m_ntz κ H (d := (x - y)) (t := t) (by omega) (by omega) ht.1 ht.2) (lw_S q1201 q1069 q99 q1070) 1 (by decide +kernel) rfl (by decide) (by decide) (cb' := 0) (sb' := 0) (by decide) (by decide) rfl (rest := [vi ((x - y : Nat) : Int)]) (Nat.le_of_ble_eq_true rfl) (fun q h => h.elim) dJ26_binaryGcd_64 (fun v_26 H_27 hpost_28 hz_29 hk_30 => ?_)
            clear hz_29
            obtain rfl := hpost_28
            refine V.eq (st' := [vi (t : Int), vi ((x - y : Nat) : Int)]) rfl ?_
            refine v_iushr E t (by omega) dJ26_binaryGcd_67 ?_
            refine V.topi (x' := (((x - y) / 2 ^ t : Nat) : Int)) (congrArg iZ (shr_nat (by omega))) ?_
            refine v_istore_n E dJ26_binaryGcd_68 (zlt hL rfl) (lv' := [(0, vi (((x - y) / 2 ^ t : Nat) : Int)), (1, vi (y : Int)), (4, vi ((min i k : Nat) : Int))]) rfl ?_
            refine v_goto E (tgt := 42) dJ26_binaryGcd_69 (by decide) ?_
            exact ih_42  H_27 ((x - y) / 2 ^ t) y (by omega) ⟨gs.2.2.2, by omega, gs.2.1⟩ hy (by rw [gs.1]; exact hg)
    refine V.sub [2, 1, 0] (lv' := [(0, vi (((p) / 2 ^ i : Nat) : Int)), (1, vi (((q) / 2 ^ k : Nat) : Int)), (4, vi ((min i k : Nat) : Int))]) rfl ?_
    exact loop_42 ((p / 2 ^ i + q / 2 ^ k) + 1) H_7 (p / 2 ^ i) (q / 2 ^ k) (by omega) hx0 hy0 (gcd_first hi.1 hk.1).symm
