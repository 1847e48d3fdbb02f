set_option maxHeartbeats 1000000 in
set_option maxRecDepth 100000 in
/-- the greatest common divisor -/
theorem m_divisor (κ : zK) (H0 : Heap) {a b p q : Nat} (hab : a ≠ b) (hbp : sN p) (hbq : sN q) (ha : hp κ H0 a (eN κ (p : Int))) (hb : hp κ H0 b (eN κ (q : Int))) : Mt κ yX4_divisor cX4_divisor 7 (none) 2 42 0 0 H0 [.ref a, .ref b] (fun t => t = a ∨ t = b) (fun v H1 => v = none ∧ hp κ H1 a (eN κ ((Nat.gcd p q : Nat) : Int)) ∧ ∃ y : Int, hp κ H1 b (eN κ y)) := by
  refine Mt.of (by decide) (Nat.le_of_ble_eq_true rfl) ?_
  intro z E hE hH0 hA0 hL hini
  have hAll : ∀ q, (fun t => t = a ∨ t = b) q → zA z.A z.H0 q := fun q h => Or.inl (by rw [hA0]; exact h)
  have hNew : ∀ q, H0.size ≤ q → zA z.A z.H0 q := fun q h => Or.inr (by rw [hH0]; exact h)
  have E : zOK z cX4_divisor RX4 κ 2 42 (none) := E
  refine V.eqL (lv' := [(0, .ref a), (1, .ref b)]) rfl ?_
  have hA_a : zA z.A z.H0 a := hAll a (Or.inl rfl)
  have hA_b : zA z.A z.H0 b := hAll b (Or.inr rfl)
  refine v_aload_n E 1 rfl dX4_divisor_0 ?_
  refine v_callS E (As := [.ref b]) (m_sign κ H0 (rN_nat hbq) hb) (lw_S q1931 q1932 q82 q1933) 1 (by decide +kernel) rfl (by decide) (by decide) (cb' := 0) (sb' := 0) (by decide) (by decide) rfl (rest := []) (Nat.le_of_ble_eq_true rfl) (fun q h => h.elim) dX4_divisor_1 (fun v_1 H_2 hpost_3 hz_4 hk_5 => ?_)
  clear hz_4
  obtain rfl := hpost_3
  have ha_6 := ha.kept (hk_5 _ ha.lt (fun h => h))
  have hb_7 := hb.kept (hk_5 _ hb.lt (fun h => h))
  refine V.eq (st' := [vi ((q : Int).sign)]) rfl ?_
  have hs0 := rsign (q : Int)
  refine v_if_ne E (tgt := 8) dX4_divisor_4 (by decide) hs0 (fun c_4 => ?_) (fun c_4 => ?_)
  · refine v_aload_n E 0 rfl dX4_divisor_8 ?_
    refine v_callS E (As := [.ref a]) (m_sign κ H_2 (rN_nat hbp) ha_6) (lw_S q1931 q1932 q82 q1933) 1 (by decide +kernel) rfl (by decide) (by decide) (cb' := 0) (sb' := 0) (by decide) (by decide) rfl (rest := []) (Nat.le_of_ble_eq_true rfl) (fun q h => h.elim) dX4_divisor_9 (fun v_8 H_9 hpost_10 hz_11 hk_12 => ?_)
    clear hz_11
    obtain rfl := hpost_10
    have ha_13 := ha_6.kept (hk_12 _ ha_6.lt (fun h => h))
    have hb_14 := hb_7.kept (hk_12 _ hb_7.lt (fun h => h))
    refine V.eq (st' := [vi ((p : Int).sign)]) rfl ?_
    have hs1 := rsign (p : Int)
    refine v_if_ne E (tgt := 21) dX4_divisor_12 (by decide) hs1 (fun c_12 => ?_) (fun c_12 => ?_)
    · have hq0 : (q : Int) ≠ 0 := fun h => by rw [h] at c_4; exact c_4 rfl
      have hp0 : (p : Int) ≠ 0 := fun h => by rw [h] at c_12; exact c_12 rfl
      refine v_aload_n E 0 rfl dX4_divisor_21 ?_
      refine v_callS E (As := [.ref a]) (m_ints κ H_9 (rU_nat hbp) ha_13) (lw_S q1961 q1962 q82 q1963) 1 (by decide +kernel) rfl (by decide) (by decide) (cb' := 0) (sb' := 0) (by decide) (by decide) rfl (rest := []) (Nat.le_of_ble_eq_true rfl) (fun q h => h.elim) dX4_divisor_22 (fun v_15 H_16 hpost_17 hz_18 hk_19 => ?_)
      clear hz_18
      obtain ⟨n1, rfl, hn1⟩ := hpost_17
      have ha_20 := ha_13.kept (hk_19 _ ha_13.lt (fun h => h))
      have hb_21 := hb_14.kept (hk_19 _ hb_14.lt (fun h => h))
      refine V.eq (st' := [vi (n1 : Int)]) rfl ?_
      refine v_aload_n E 1 rfl dX4_divisor_25 ?_
      refine v_callS E (As := [.ref b]) (m_ints κ H_16 (rU_nat hbq) hb_21) (lw_S q1961 q1962 q82 q1963) 1 (by decide +kernel) rfl (by decide) (by decide) (cb' := 0) (sb' := 0) (by decide) (by decide) rfl (rest := [vi (n1 : Int)]) (Nat.le_of_ble_eq_true rfl) (fun q h => h.elim) dX4_divisor_26 (fun v_22 H_23 hpost_24 hz_25 hk_26 => ?_)
      clear hz_25
      obtain ⟨n2, rfl, hn2⟩ := hpost_24
      have ha_27 := ha_20.kept (hk_26 _ ha_20.lt (fun h => h))
      have hb_28 := hb_21.kept (hk_26 _ hb_21.lt (fun h => h))
      refine V.eq (st' := [vi (n2 : Int), vi (n1 : Int)]) rfl ?_
      refine v_mmax E ⟨by have := hn1.1; omega, by have := hn1.1; omega⟩ ⟨by have := hn2.1; omega, by have := hn2.1; omega⟩ q1964 q228 q80 q229 (by decide) (Nat.le_of_ble_eq_true rfl) dX4_divisor_29 ?_
      refine V.topi (x' := ((max n1 n2 : Nat) : Int)) (congrArg iZ (by omega)) ?_
      refine v_istore_n E dX4_divisor_32 (zlt hL rfl) (lv' := [(2, vi ((max n1 n2 : Nat) : Int)), (0, .ref a), (1, .ref b)]) rfl ?_
      have hm := ints_max hn1 hn2
      have hn48 : max n1 n2 ≤ 48 := by have := hn1.1; have := hn2.1; omega
      refine v_aload_n E 1 rfl dX4_divisor_33 ?_
      refine v_callS E (As := [.ref a]) (m_zeros κ H_23 (rU_nat hbp) (by omega) ha_27) (lw_S q1965 q1966 q82 q1967) 1 (by decide +kernel) rfl (by decide) (by decide) (cb' := 0) (sb' := 0) (by decide) (by decide) rfl (rest := []) (Nat.le_of_ble_eq_true rfl) (fun q h => h.elim) dX4_divisor_34 (fun v_29 H_30 hpost_31 hz_32 hk_33 => ?_)
      clear hz_32
      obtain ⟨i, rfl, hli, hzi⟩ := hpost_31
      have ha_34 := ha_27.kept (hk_33 _ ha_27.lt (fun h => h))
      have hb_35 := hb_28.kept (hk_33 _ hb_28.lt (fun h => h))
      refine V.eq (st' := [vi (i : Int)]) rfl ?_
      refine v_istore_n E dX4_divisor_37 (zlt hL rfl) (lv' := [(3, vi (i : Int)), (2, vi ((max n1 n2 : Nat) : Int)), (0, .ref a), (1, .ref b)]) rfl ?_
      refine v_aload_n E 3 rfl dX4_divisor_38 ?_
      refine v_callS E (As := [.ref b]) (m_zeros κ H_30 (rU_nat hbq) (by omega) hb_35) (lw_S q1965 q1966 q82 q1967) 1 (by decide +kernel) rfl (by decide) (by decide) (cb' := 0) (sb' := 0) (by decide) (by decide) rfl (rest := []) (Nat.le_of_ble_eq_true rfl) (fun q h => h.elim) dX4_divisor_39 (fun v_36 H_37 hpost_38 hz_39 hk_40 => ?_)
      clear hz_39
      obtain ⟨k, rfl, hlk, hzk⟩ := hpost_38
      have ha_41 := ha_34.kept (hk_40 _ ha_34.lt (fun h => h))
      have hb_42 := hb_35.kept (hk_40 _ hb_35.lt (fun h => h))
      refine V.eq (st' := [vi (k : Int)]) rfl ?_
      refine v_istore E dX4_divisor_42 (zlt hL rfl) (lv' := [(4, vi (k : Int)), (3, vi (i : Int)), (2, vi ((max n1 n2 : Nat) : Int)), (0, .ref a), (1, .ref b)]) rfl ?_
      refine v_aload_n E 3 rfl dX4_divisor_44 ?_
      refine v_iload_n E 1 rfl dX4_divisor_45 ?_
      refine v_iload_n E 2 rfl dX4_divisor_46 ?_
      refine v_callS E (As := [.ref a, vi (i : Int), vi ((max n1 n2 : Nat) : Int)]) (m_right' κ H_37 (by omega) (by omega) (by omega) (nat_lt hm.1) ha_41) (lw_S q1969 q1970 q82 q1971) 3 (by decide +kernel) rfl (by decide) (by decide) (cb' := 0) (sb' := 0) (by decide) (by decide) rfl (rest := []) (Nat.le_of_ble_eq_true rfl) (fun q h => by rw [h]; exact hA_a) dX4_divisor_47 (fun v_43 H_44 hpost_45 hz_46 hk_47 => ?_)
      clear hz_46
      obtain ⟨rfl, ha_48⟩ := hpost_45
      have hb_49 := hb_42.kept (hk_47 _ hb_42.lt (fun h => (Ne.symm hab) h))
      have ha_50 : hp κ H_44 a (eN κ ((p / 2 ^ i : Nat) : Int)) := by rw [← nat_div]; exact ha_48
      refine V.eq (st' := []) rfl ?_
      refine v_aload_n E 4 rfl dX4_divisor_50 ?_
      refine v_iload E 0 rfl dX4_divisor_51 ?_
      refine v_iload_n E 2 rfl dX4_divisor_53 ?_
      refine v_callS E (As := [.ref b, vi (k : Int), vi ((max n1 n2 : Nat) : Int)]) (m_right' κ H_44 (by omega) (by omega) (by omega) (nat_lt hm.2) hb_49) (lw_S q1969 q1970 q82 q1971) 3 (by decide +kernel) rfl (by decide) (by decide) (cb' := 0) (sb' := 0) (by decide) (by decide) rfl (rest := []) (Nat.le_of_ble_eq_true rfl) (fun q h => by rw [h]; exact hA_b) dX4_divisor_54 (fun v_51 H_52 hpost_53 hz_54 hk_55 => ?_)
      clear hz_54
      obtain ⟨rfl, hb_56⟩ := hpost_53
      have ha_57 := ha_50.kept (hk_55 _ ha_50.lt (fun h => hab h))
      have hb_58 : hp κ H_52 b (eN κ ((q / 2 ^ k : Nat) : Int)) := by rw [← nat_div]; exact hb_56
      refine V.eq (st' := []) rfl ?_
      have hlp : p / 2 ^ i < 2 ^ (32 * max n1 n2) := Nat.lt_of_le_of_lt (Nat.div_le_self _ _) hm.1
      have hlq : q / 2 ^ k < 2 ^ (32 * max n1 n2) := Nat.lt_of_le_of_lt (Nat.div_le_self _ _) hm.2
      refine v_aload_n E 3 rfl dX4_divisor_57 ?_
      refine v_aload_n E 4 rfl dX4_divisor_58 ?_
      refine v_iload_n E 2 rfl dX4_divisor_59 ?_
      refine v_callS E (As := [.ref a, .ref b, vi ((max n1 n2 : Nat) : Int)]) (m_compare κ H_52 (by omega) ⟨Int.natCast_nonneg _, nat_lt hlp⟩ ⟨Int.natCast_nonneg _, nat_lt hlq⟩ ha_57 hb_58) (lw_S q1972 q1973 q82 q1974) 3 (by decide +kernel) rfl (by decide) (by decide) (cb' := 0) (sb' := 0) (by decide) (by decide) rfl (rest := []) (Nat.le_of_ble_eq_true rfl) (fun q h => h.elim) dX4_divisor_60 (fun v_59 H_60 hpost_61 hz_62 hk_63 => ?_)
      clear hz_62
      obtain rfl := hpost_61
      have ha_64 := ha_57.kept (hk_63 _ ha_57.lt (fun h => h))
      have hb_65 := hb_58.kept (hk_63 _ hb_58.lt (fun h => h))
      obtain ⟨o60, ho60, hr60⟩ := ord_of (p / 2 ^ i : Nat) (q / 2 ^ k : Nat)
      refine V.eq (st' := [vi o60]) (by rw [← ho60]; rfl) ?_
      refine v_istore E dX4_divisor_63 (zlt hL rfl) (lv' := [(5, vi o60), (4, vi (k : Int)), (3, vi (i : Int)), (2, vi ((max n1 n2 : Nat) : Int)), (0, .ref a), (1, .ref b)]) rfl ?_
      have loop_65 : ∀ (m_65 : Nat) (H : Heap) (n p1 q1 : Nat) (o : Int), p1 + q1 < m_65 → (n ≤ 48) → (p1 % 2 = 1 ∧ p1 < 2 ^ (32 * n)) → (q1 % 2 = 1 ∧ q1 < 2 ^ (32 * n)) → (Nat.gcd p q = 2 ^ (min i k) * Nat.gcd p1 q1) → ((o = -1 ∧ p1 < q1) ∨ (o = 0 ∧ p1 = q1) ∨ (o = 1 ∧ q1 < p1)) → hp κ H a (eN κ (p1 : Int)) → hp κ H b (eN κ (q1 : Int)) → V z H 0 0 65 [(5, vi o), (4, vi (k : Int)), (3, vi (i : Int)), (2, vi (n : Int)), (1, .ref b), (0, .ref a)] [] := by
        intro m_65
        induction m_65 with
        | zero => intro H n p1 q1 o hm; exact absurd hm (by omega)
        | succ m_65 ih_65 =>
          intro H n p1 q1 o hm_65 hn hp1 hq1 hg ho ha hb
          refine v_iload E 0 rfl dX4_divisor_65 ?_
          refine v_if_eq E (tgt := 147) dX4_divisor_67 (by decide) ⟨by omega, by omega⟩ (fun c_67 => ?_) (fun c_67 => ?_)
          · refine v_aload_n E 5 rfl dX4_divisor_147 ?_
            refine v_iload_n E 2 rfl dX4_divisor_148 ?_
            refine v_iload E 1 rfl dX4_divisor_149 ?_
            refine v_mmin E ⟨by omega, by omega⟩ ⟨by omega, by omega⟩ q1975 q267 q80 q268 (by decide) (Nat.le_of_ble_eq_true rfl) dX4_divisor_151 ?_
            refine V.topi (x' := ((min i k : Nat) : Int)) (congrArg iZ (by omega)) ?_
            refine v_callS E (As := [.ref a, vi ((min i k : Nat) : Int)]) (m_left' κ H (by omega) ha) (lw_S q1976 q1977 q82 q1978) 2 (by decide +kernel) rfl (by decide) (by decide) (cb' := 0) (sb' := 0) (by decide) (by decide) rfl (rest := []) (Nat.le_of_ble_eq_true rfl) (fun q h => by rw [h]; exact hA_a) dX4_divisor_154 (fun v_66 H_67 hpost_68 hz_69 hk_70 => ?_)
            clear hz_69
            obtain ⟨rfl, ha_71⟩ := hpost_68
            have hb_72 := hb.kept (hk_70 _ hb.lt (fun h => (Ne.symm hab) h))
            refine V.eq (st' := []) rfl ?_
            refine v_vret E hE dX4_divisor_157 ?_
            have hpq : p1 = q1 := by omega
            subst hpq
            refine ⟨rfl, ?_, _, hb_72⟩
            have e : ((Nat.gcd p q : Nat) : Int) = (p1 : Int) * 2 ^ (min i k) := by rw [hg, Nat.gcd_self, Nat.mul_comm, Int.natCast_mul, Int.natCast_pow]; rfl
            rw [e]; exact ha_71
          · refine v_iload E 0 rfl dX4_divisor_70 ?_
            refine v_if_le E (tgt := 79) dX4_divisor_72 (by decide) ⟨by omega, by omega⟩ (fun c_72 => ?_) (fun c_72 => ?_)
            · refine v_aload_n E 4 rfl dX4_divisor_79 ?_
              refine v_astore E dX4_divisor_80 (zlt hL rfl) (lv' := [(6, .ref b), (5, vi o), (4, vi (k : Int)), (3, vi (i : Int)), (2, vi (n : Int)), (1, .ref b), (0, .ref a)]) rfl ?_
              have hlt : p1 < q1 := by omega
              refine v_aload E 0 rfl dX4_divisor_82 ?_
              refine v_iload E 1 rfl dX4_divisor_84 ?_
              refine v_if_le E (tgt := 93) dX4_divisor_86 (by decide) ⟨by omega, by omega⟩ (fun c_86 => ?_) (fun c_86 => absurd c_86 (by omega))
              refine v_aload_n E 6 rfl dX4_divisor_93 ?_
              refine v_iload_n E 4 rfl dX4_divisor_94 ?_
              refine v_callS E (As := [.ref b, .ref a, vi (n : Int)]) (m_less' κ H (Ne.symm hab) (by omega) (by omega) (by omega) (nat_lt hq1.2) hb ha) (lw_S q1951 q1952 q82 q1953) 3 (by decide +kernel) rfl (by decide) (by decide) (cb' := 0) (sb' := 0) (by decide) (by decide) rfl (rest := []) (Nat.le_of_ble_eq_true rfl) (fun q h => by rw [h]; exact hA_b) dX4_divisor_95 (fun v_73 H_74 hpost_75 hz_76 hk_77 => ?_)
              clear hz_76
              obtain ⟨rfl, hb_78⟩ := hpost_75
              have ha_79 := ha.kept (hk_77 _ ha.lt (fun h => hab h))
              refine V.eq (st' := []) rfl ?_
              refine v_aload E 0 rfl dX4_divisor_98 ?_
              refine v_aload E 0 rfl dX4_divisor_100 ?_
              have hU : rU ((q1 : Int) - (p1 : Int)) := ⟨by omega, Int.lt_of_le_of_lt (by omega) (Int.lt_of_lt_of_le (nat_lt hq1.2) (pw_mono (by omega)))⟩
              refine v_callS E (As := [.ref b]) (m_zeros κ H_74 hU (by omega) hb_78) (lw_S q1965 q1966 q82 q1967) 1 (by decide +kernel) rfl (by decide) (by decide) (cb' := 0) (sb' := 0) (by decide) (by decide) rfl (rest := [.ref b]) (Nat.le_of_ble_eq_true rfl) (fun q h => h.elim) dX4_divisor_102 (fun v_80 H_81 hpost_82 hz_83 hk_84 => ?_)
              clear hz_83
              obtain ⟨t1, rfl, hl1, hz1⟩ := hpost_82
              have ha_85 := ha_79.kept (hk_84 _ ha_79.lt (fun h => h))
              have hb_86 := hb_78.kept (hk_84 _ hb_78.lt (fun h => h))
              obtain ⟨hr2, hr3, hr4, hr5⟩ := gcd_step hp1.1 (by omega) hz1
              generalize hrr : (q1 - p1) / 2 ^ t1 = r at hr2 hr3 hr4 hr5
              refine V.eq (st' := [vi (t1 : Int), .ref b]) rfl ?_
              refine v_iload_n E 4 rfl dX4_divisor_105 ?_
              refine v_callS E (As := [.ref b, vi (t1 : Int), vi (n : Int)]) (m_right' κ H_81 (by omega) (by omega) (by omega) (Int.lt_of_le_of_lt (by omega) (nat_lt hq1.2)) hb_86) (lw_S q1969 q1970 q82 q1971) 3 (by decide +kernel) rfl (by decide) (by decide) (cb' := 0) (sb' := 0) (by decide) (by decide) rfl (rest := []) (Nat.le_of_ble_eq_true rfl) (fun q h => by rw [h]; exact hA_b) dX4_divisor_106 (fun v_87 H_88 hpost_89 hz_90 hk_91 => ?_)
              clear hz_90
              obtain ⟨rfl, hb_92⟩ := hpost_89
              have ha_93 := ha_85.kept (hk_91 _ ha_85.lt (fun h => hab h))
              have hb_94 : hp κ H_88 b (eN κ (r : Int)) := by rw [← hrr, ← sub_div _ _ _ (by omega)]; exact hb_92
              refine V.eq (st' := []) rfl ?_
              have loop_109 : ∀ (m_109 : Nat) (H : Heap) (n2_ : Nat), n2_ < m_109 → (n2_ ≤ 48) → (p1 < 2 ^ (32 * n2_)) → (r < 2 ^ (32 * n2_)) → hp κ H a (eN κ (p1 : Int)) → hp κ H b (eN κ (r : Int)) → V z H 0 0 109 [(2, vi (n2_ : Int)), (6, .ref b), (5, vi o), (4, vi (k : Int)), (3, vi (i : Int)), (1, .ref b), (0, .ref a)] [] := by
                intro m_109
                induction m_109 with
                | zero => intro H n2_ hm; exact absurd hm (by omega)
                | succ m_109 ih_109 =>
                  intro H n2_ hm_109 hn2_ hx2_ hy2_ ha hb
                  have hdx := dg_in (p1 : Int) (n2_ - 1)
                  have hdy := dg_in (r : Int) (n2_ - 1)
                  refine v_iload_n E 0 rfl dX4_divisor_109 ?_
                  refine v_iconst E dX4_divisor_110 ?_
                  refine v_icmp_le E (tgt := 136) dX4_divisor_111 (by decide) ⟨by omega, by omega⟩ ⟨by omega, by omega⟩ (fun c_111 => ?_) (fun c_111 => ?_)
                  · refine v_aload_n E 6 rfl dX4_divisor_136 ?_
                    refine v_aload_n E 5 rfl dX4_divisor_137 ?_
                    refine v_iload_n E 0 rfl dX4_divisor_138 ?_
                    refine v_callS E (As := [.ref a, .ref b, vi (n2_ : Int)]) (m_compare κ H (by omega) ⟨Int.natCast_nonneg _, nat_lt hx2_⟩ ⟨Int.natCast_nonneg _, nat_lt hy2_⟩ ha hb) (lw_S q1972 q1973 q82 q1974) 3 (by decide +kernel) rfl (by decide) (by decide) (cb' := 0) (sb' := 0) (by decide) (by decide) rfl (rest := []) (Nat.le_of_ble_eq_true rfl) (fun q h => h.elim) dX4_divisor_139 (fun v_95 H_96 hpost_97 hz_98 hk_99 => ?_)
                    clear hz_98
                    obtain rfl := hpost_97
                    have ha_100 := ha.kept (hk_99 _ ha.lt (fun h => h))
                    have hb_101 := hb.kept (hk_99 _ hb.lt (fun h => h))
                    obtain ⟨o139, ho139, hr139⟩ := ord_of p1 r
                    refine V.eq (st' := [vi o139]) (by rw [← ho139]; rfl) ?_
                    refine v_istore E dX4_divisor_142 (zlt hL rfl) (lv' := [(5, vi o139), (2, vi (n2_ : Int)), (6, .ref b), (4, vi (k : Int)), (3, vi (i : Int)), (1, .ref b), (0, .ref a)]) rfl ?_
                    refine v_goto E (tgt := 65) dX4_divisor_144 (by decide) ?_
                    refine V.sub [0, 3, 4, 1, 5, 6] (lv' := [(5, vi o139), (4, vi (k : Int)), (3, vi (i : Int)), (2, vi (n2_ : Int)), (1, .ref b), (0, .ref a)]) rfl ?_
                    exact ih_65  H_96 n2_ p1 r o139 (by omega) (by omega) ⟨hp1.1, hx2_⟩ ⟨hr3, hy2_⟩ (hg.trans (by rw [Nat.gcd_comm p1 q1, ← hr2, Nat.gcd_comm r p1])) hr139 ha_100 hb_101
                  · refine v_aload_n E 6 rfl dX4_divisor_114 ?_
                    refine v_iload_n E 0 rfl dX4_divisor_115 ?_
                    refine v_iconst E dX4_divisor_116 ?_
                    refine v_isub E dX4_divisor_117 ?_
                    refine v_iald E dX4_divisor_118 ha (n2_ - 1) (by omega) (by omega) (by omega) ?_
                    refine V.topi (x' := ((dg (p1 : Int) (n2_ - 1)) + 2147483648) % 4294967296 - 2147483648) (iZ_sg _) ?_
                    refine v_if_ne E (tgt := 136) dX4_divisor_119 (by decide) ⟨by omega, by omega⟩ (fun c_119 => ?_) (fun c_119 => ?_)
                    · refine v_aload_n E 6 rfl dX4_divisor_136 ?_
                      refine v_aload_n E 5 rfl dX4_divisor_137 ?_
                      refine v_iload_n E 0 rfl dX4_divisor_138 ?_
                      refine v_callS E (As := [.ref a, .ref b, vi (n2_ : Int)]) (m_compare κ H (by omega) ⟨Int.natCast_nonneg _, nat_lt hx2_⟩ ⟨Int.natCast_nonneg _, nat_lt hy2_⟩ ha hb) (lw_S q1972 q1973 q82 q1974) 3 (by decide +kernel) rfl (by decide) (by decide) (cb' := 0) (sb' := 0) (by decide) (by decide) rfl (rest := []) (Nat.le_of_ble_eq_true rfl) (fun q h => h.elim) dX4_divisor_139 (fun v_102 H_103 hpost_104 hz_105 hk_106 => ?_)
                      clear hz_105
                      obtain rfl := hpost_104
                      have ha_107 := ha.kept (hk_106 _ ha.lt (fun h => h))
                      have hb_108 := hb.kept (hk_106 _ hb.lt (fun h => h))
                      obtain ⟨o139, ho139, hr139⟩ := ord_of p1 r
                      refine V.eq (st' := [vi o139]) (by rw [← ho139]; rfl) ?_
                      refine v_istore E dX4_divisor_142 (zlt hL rfl) (lv' := [(5, vi o139), (2, vi (n2_ : Int)), (6, .ref b), (4, vi (k : Int)), (3, vi (i : Int)), (1, .ref b), (0, .ref a)]) rfl ?_
                      refine v_goto E (tgt := 65) dX4_divisor_144 (by decide) ?_
                      refine V.sub [0, 3, 4, 1, 5, 6] (lv' := [(5, vi o139), (4, vi (k : Int)), (3, vi (i : Int)), (2, vi (n2_ : Int)), (1, .ref b), (0, .ref a)]) rfl ?_
                      exact ih_65  H_103 n2_ p1 r o139 (by omega) (by omega) ⟨hp1.1, hx2_⟩ ⟨hr3, hy2_⟩ (hg.trans (by rw [Nat.gcd_comm p1 q1, ← hr2, Nat.gcd_comm r p1])) hr139 ha_107 hb_108
                    · refine v_aload_n E 5 rfl dX4_divisor_122 ?_
                      refine v_iload_n E 0 rfl dX4_divisor_123 ?_
                      refine v_iconst E dX4_divisor_124 ?_
                      refine v_isub E dX4_divisor_125 ?_
                      refine v_iald E dX4_divisor_126 hb (n2_ - 1) (by omega) (by omega) (by omega) ?_
                      refine V.topi (x' := ((dg (r : Int) (n2_ - 1)) + 2147483648) % 4294967296 - 2147483648) (iZ_sg _) ?_
                      refine v_if_ne E (tgt := 136) dX4_divisor_127 (by decide) ⟨by omega, by omega⟩ (fun c_127 => ?_) (fun c_127 => ?_)
                      · refine v_aload_n E 6 rfl dX4_divisor_136 ?_
                        refine v_aload_n E 5 rfl dX4_divisor_137 ?_
                        refine v_iload_n E 0 rfl dX4_divisor_138 ?_
                        refine v_callS E (As := [.ref a, .ref b, vi (n2_ : Int)]) (m_compare κ H (by omega) ⟨Int.natCast_nonneg _, nat_lt hx2_⟩ ⟨Int.natCast_nonneg _, nat_lt hy2_⟩ ha hb) (lw_S q1972 q1973 q82 q1974) 3 (by decide +kernel) rfl (by decide) (by decide) (cb' := 0) (sb' := 0) (by decide) (by decide) rfl (rest := []) (Nat.le_of_ble_eq_true rfl) (fun q h => h.elim) dX4_divisor_139 (fun v_109 H_110 hpost_111 hz_112 hk_113 => ?_)
                        clear hz_112
                        obtain rfl := hpost_111
                        have ha_114 := ha.kept (hk_113 _ ha.lt (fun h => h))
                        have hb_115 := hb.kept (hk_113 _ hb.lt (fun h => h))
                        obtain ⟨o139, ho139, hr139⟩ := ord_of p1 r
                        refine V.eq (st' := [vi o139]) (by rw [← ho139]; rfl) ?_
                        refine v_istore E dX4_divisor_142 (zlt hL rfl) (lv' := [(5, vi o139), (2, vi (n2_ : Int)), (6, .ref b), (4, vi (k : Int)), (3, vi (i : Int)), (1, .ref b), (0, .ref a)]) rfl ?_
                        refine v_goto E (tgt := 65) dX4_divisor_144 (by decide) ?_
                        refine V.sub [0, 3, 4, 1, 5, 6] (lv' := [(5, vi o139), (4, vi (k : Int)), (3, vi (i : Int)), (2, vi (n2_ : Int)), (1, .ref b), (0, .ref a)]) rfl ?_
                        exact ih_65  H_110 n2_ p1 r o139 (by omega) (by omega) ⟨hp1.1, hx2_⟩ ⟨hr3, hy2_⟩ (hg.trans (by rw [Nat.gcd_comm p1 q1, ← hr2, Nat.gcd_comm r p1])) hr139 ha_114 hb_115
                      · refine v_iinc E 0 rfl dX4_divisor_130 (zlt hL rfl) (lv' := [(2, vi ((n2_ : Int) + (-1))), (6, .ref b), (5, vi o), (4, vi (k : Int)), (3, vi (i : Int)), (1, .ref b), (0, .ref a)]) rfl ?_
                        refine v_goto E (tgt := 109) dX4_divisor_133 (by decide) ?_
                        exact V.eqL (by rw [show (n2_ : Int) + -1 = ((n2_ - 1 : Nat) : Int) by omega]) (ih_109  H (n2_ - 1) (by omega) (by omega) (lt_top hx2_ (by omega) (by omega)) (lt_top hy2_ (by omega) (by omega)) ha hb)
              refine V.sub [4, 0, 1, 2, 3, 5, 6] (lv' := [(2, vi (n : Int)), (6, .ref b), (5, vi o), (4, vi (k : Int)), (3, vi (i : Int)), (1, .ref b), (0, .ref a)]) rfl ?_
              exact loop_109 (n + 1) H_88 n (by omega) hn hp1.2 (by omega) ha_93 hb_94
            · refine v_aload_n E 5 rfl dX4_divisor_75 ?_
              refine v_goto E (tgt := 80) dX4_divisor_76 (by decide) ?_
              refine v_astore E dX4_divisor_80 (zlt hL rfl) (lv' := [(6, .ref a), (5, vi o), (4, vi (k : Int)), (3, vi (i : Int)), (2, vi (n : Int)), (1, .ref b), (0, .ref a)]) rfl ?_
              have hlt : q1 < p1 := by omega
              refine v_aload E 0 rfl dX4_divisor_82 ?_
              refine v_iload E 1 rfl dX4_divisor_84 ?_
              refine v_if_le E (tgt := 93) dX4_divisor_86 (by decide) ⟨by omega, by omega⟩ (fun c_86 => absurd c_86 (by omega)) (fun c_86 => ?_)
              refine v_aload_n E 5 rfl dX4_divisor_89 ?_
              refine v_goto E (tgt := 94) dX4_divisor_90 (by decide) ?_
              refine v_iload_n E 4 rfl dX4_divisor_94 ?_
              refine v_callS E (As := [.ref a, .ref b, vi (n : Int)]) (m_less' κ H hab (by omega) (by omega) (by omega) (nat_lt hp1.2) ha hb) (lw_S q1951 q1952 q82 q1953) 3 (by decide +kernel) rfl (by decide) (by decide) (cb' := 0) (sb' := 0) (by decide) (by decide) rfl (rest := []) (Nat.le_of_ble_eq_true rfl) (fun q h => by rw [h]; exact hA_a) dX4_divisor_95 (fun v_116 H_117 hpost_118 hz_119 hk_120 => ?_)
              clear hz_119
              obtain ⟨rfl, ha_121⟩ := hpost_118
              have hb_122 := hb.kept (hk_120 _ hb.lt (fun h => (Ne.symm hab) h))
              refine V.eq (st' := []) rfl ?_
              refine v_aload E 0 rfl dX4_divisor_98 ?_
              refine v_aload E 0 rfl dX4_divisor_100 ?_
              have hU : rU ((p1 : Int) - (q1 : Int)) := ⟨by omega, Int.lt_of_le_of_lt (by omega) (Int.lt_of_lt_of_le (nat_lt hp1.2) (pw_mono (by omega)))⟩
              refine v_callS E (As := [.ref a]) (m_zeros κ H_117 hU (by omega) ha_121) (lw_S q1965 q1966 q82 q1967) 1 (by decide +kernel) rfl (by decide) (by decide) (cb' := 0) (sb' := 0) (by decide) (by decide) rfl (rest := [.ref a]) (Nat.le_of_ble_eq_true rfl) (fun q h => h.elim) dX4_divisor_102 (fun v_123 H_124 hpost_125 hz_126 hk_127 => ?_)
              clear hz_126
              obtain ⟨t1, rfl, hl1, hz1⟩ := hpost_125
              have ha_128 := ha_121.kept (hk_127 _ ha_121.lt (fun h => h))
              have hb_129 := hb_122.kept (hk_127 _ hb_122.lt (fun h => h))
              obtain ⟨hr2, hr3, hr4, hr5⟩ := gcd_step hq1.1 (by omega) hz1
              generalize hrr : (p1 - q1) / 2 ^ t1 = r at hr2 hr3 hr4 hr5
              refine V.eq (st' := [vi (t1 : Int), .ref a]) rfl ?_
              refine v_iload_n E 4 rfl dX4_divisor_105 ?_
              refine v_callS E (As := [.ref a, vi (t1 : Int), vi (n : Int)]) (m_right' κ H_124 (by omega) (by omega) (by omega) (Int.lt_of_le_of_lt (by omega) (nat_lt hp1.2)) ha_128) (lw_S q1969 q1970 q82 q1971) 3 (by decide +kernel) rfl (by decide) (by decide) (cb' := 0) (sb' := 0) (by decide) (by decide) rfl (rest := []) (Nat.le_of_ble_eq_true rfl) (fun q h => by rw [h]; exact hA_a) dX4_divisor_106 (fun v_130 H_131 hpost_132 hz_133 hk_134 => ?_)
              clear hz_133
              obtain ⟨rfl, ha_135⟩ := hpost_132
              have hb_136 := hb_129.kept (hk_134 _ hb_129.lt (fun h => (Ne.symm hab) h))
              have ha_137 : hp κ H_131 a (eN κ (r : Int)) := by rw [← hrr, ← sub_div _ _ _ (by omega)]; exact ha_135
              refine V.eq (st' := []) rfl ?_
              have loop_109 : ∀ (m_109 : Nat) (H : Heap) (n2_ : Nat), n2_ < m_109 → (n2_ ≤ 48) → (r < 2 ^ (32 * n2_)) → (q1 < 2 ^ (32 * n2_)) → hp κ H a (eN κ (r : Int)) → hp κ H b (eN κ (q1 : Int)) → V z H 0 0 109 [(2, vi (n2_ : Int)), (6, .ref a), (5, vi o), (4, vi (k : Int)), (3, vi (i : Int)), (1, .ref b), (0, .ref a)] [] := by
                intro m_109
                induction m_109 with
                | zero => intro H n2_ hm; exact absurd hm (by omega)
                | succ m_109 ih_109 =>
                  intro H n2_ hm_109 hn2_ hx2_ hy2_ ha hb
                  have hdx := dg_in (r : Int) (n2_ - 1)
                  have hdy := dg_in (q1 : Int) (n2_ - 1)
                  refine v_iload_n E 0 rfl dX4_divisor_109 ?_
                  refine v_iconst E dX4_divisor_110 ?_
                  refine v_icmp_le E (tgt := 136) dX4_divisor_111 (by decide) ⟨by omega, by omega⟩ ⟨by omega, by omega⟩ (fun c_111 => ?_) (fun c_111 => ?_)
                  · refine v_aload_n E 6 rfl dX4_divisor_136 ?_
                    refine v_aload_n E 5 rfl dX4_divisor_137 ?_
                    refine v_iload_n E 0 rfl dX4_divisor_138 ?_
                    refine v_callS E (As := [.ref a, .ref b, vi (n2_ : Int)]) (m_compare κ H (by omega) ⟨Int.natCast_nonneg _, nat_lt hx2_⟩ ⟨Int.natCast_nonneg _, nat_lt hy2_⟩ ha hb) (lw_S q1972 q1973 q82 q1974) 3 (by decide +kernel) rfl (by decide) (by decide) (cb' := 0) (sb' := 0) (by decide) (by decide) rfl (rest := []) (Nat.le_of_ble_eq_true rfl) (fun q h => h.elim) dX4_divisor_139 (fun v_138 H_139 hpost_140 hz_141 hk_142 => ?_)
                    clear hz_141
                    obtain rfl := hpost_140
                    have ha_143 := ha.kept (hk_142 _ ha.lt (fun h => h))
                    have hb_144 := hb.kept (hk_142 _ hb.lt (fun h => h))
                    obtain ⟨o139, ho139, hr139⟩ := ord_of r q1
                    refine V.eq (st' := [vi o139]) (by rw [← ho139]; rfl) ?_
                    refine v_istore E dX4_divisor_142 (zlt hL rfl) (lv' := [(5, vi o139), (2, vi (n2_ : Int)), (6, .ref a), (4, vi (k : Int)), (3, vi (i : Int)), (1, .ref b), (0, .ref a)]) rfl ?_
                    refine v_goto E (tgt := 65) dX4_divisor_144 (by decide) ?_
                    refine V.sub [0, 3, 4, 1, 5, 6] (lv' := [(5, vi o139), (4, vi (k : Int)), (3, vi (i : Int)), (2, vi (n2_ : Int)), (1, .ref b), (0, .ref a)]) rfl ?_
                    exact ih_65  H_139 n2_ r q1 o139 (by omega) (by omega) ⟨hr3, hx2_⟩ ⟨hq1.1, hy2_⟩ (by rw [hr2]; exact hg) hr139 ha_143 hb_144
                  · refine v_aload_n E 6 rfl dX4_divisor_114 ?_
                    refine v_iload_n E 0 rfl dX4_divisor_115 ?_
                    refine v_iconst E dX4_divisor_116 ?_
                    refine v_isub E dX4_divisor_117 ?_
                    refine v_iald E dX4_divisor_118 ha (n2_ - 1) (by omega) (by omega) (by omega) ?_
                    refine V.topi (x' := ((dg (r : Int) (n2_ - 1)) + 2147483648) % 4294967296 - 2147483648) (iZ_sg _) ?_
                    refine v_if_ne E (tgt := 136) dX4_divisor_119 (by decide) ⟨by omega, by omega⟩ (fun c_119 => ?_) (fun c_119 => ?_)
                    · refine v_aload_n E 6 rfl dX4_divisor_136 ?_
                      refine v_aload_n E 5 rfl dX4_divisor_137 ?_
                      refine v_iload_n E 0 rfl dX4_divisor_138 ?_
                      refine v_callS E (As := [.ref a, .ref b, vi (n2_ : Int)]) (m_compare κ H (by omega) ⟨Int.natCast_nonneg _, nat_lt hx2_⟩ ⟨Int.natCast_nonneg _, nat_lt hy2_⟩ ha hb) (lw_S q1972 q1973 q82 q1974) 3 (by decide +kernel) rfl (by decide) (by decide) (cb' := 0) (sb' := 0) (by decide) (by decide) rfl (rest := []) (Nat.le_of_ble_eq_true rfl) (fun q h => h.elim) dX4_divisor_139 (fun v_145 H_146 hpost_147 hz_148 hk_149 => ?_)
                      clear hz_148
                      obtain rfl := hpost_147
                      have ha_150 := ha.kept (hk_149 _ ha.lt (fun h => h))
                      have hb_151 := hb.kept (hk_149 _ hb.lt (fun h => h))
                      obtain ⟨o139, ho139, hr139⟩ := ord_of r q1
                      refine V.eq (st' := [vi o139]) (by rw [← ho139]; rfl) ?_
                      refine v_istore E dX4_divisor_142 (zlt hL rfl) (lv' := [(5, vi o139), (2, vi (n2_ : Int)), (6, .ref a), (4, vi (k : Int)), (3, vi (i : Int)), (1, .ref b), (0, .ref a)]) rfl ?_
                      refine v_goto E (tgt := 65) dX4_divisor_144 (by decide) ?_
                      refine V.sub [0, 3, 4, 1, 5, 6] (lv' := [(5, vi o139), (4, vi (k : Int)), (3, vi (i : Int)), (2, vi (n2_ : Int)), (1, .ref b), (0, .ref a)]) rfl ?_
                      exact ih_65  H_146 n2_ r q1 o139 (by omega) (by omega) ⟨hr3, hx2_⟩ ⟨hq1.1, hy2_⟩ (by rw [hr2]; exact hg) hr139 ha_150 hb_151
                    · refine v_aload_n E 5 rfl dX4_divisor_122 ?_
                      refine v_iload_n E 0 rfl dX4_divisor_123 ?_
                      refine v_iconst E dX4_divisor_124 ?_
                      refine v_isub E dX4_divisor_125 ?_
                      refine v_iald E dX4_divisor_126 hb (n2_ - 1) (by omega) (by omega) (by omega) ?_
                      refine V.topi (x' := ((dg (q1 : Int) (n2_ - 1)) + 2147483648) % 4294967296 - 2147483648) (iZ_sg _) ?_
                      refine v_if_ne E (tgt := 136) dX4_divisor_127 (by decide) ⟨by omega, by omega⟩ (fun c_127 => ?_) (fun c_127 => ?_)
                      · refine v_aload_n E 6 rfl dX4_divisor_136 ?_
                        refine v_aload_n E 5 rfl dX4_divisor_137 ?_
                        refine v_iload_n E 0 rfl dX4_divisor_138 ?_
                        refine v_callS E (As := [.ref a, .ref b, vi (n2_ : Int)]) (m_compare κ H (by omega) ⟨Int.natCast_nonneg _, nat_lt hx2_⟩ ⟨Int.natCast_nonneg _, nat_lt hy2_⟩ ha hb) (lw_S q1972 q1973 q82 q1974) 3 (by decide +kernel) rfl (by decide) (by decide) (cb' := 0) (sb' := 0) (by decide) (by decide) rfl (rest := []) (Nat.le_of_ble_eq_true rfl) (fun q h => h.elim) dX4_divisor_139 (fun v_152 H_153 hpost_154 hz_155 hk_156 => ?_)
                        clear hz_155
                        obtain rfl := hpost_154
                        have ha_157 := ha.kept (hk_156 _ ha.lt (fun h => h))
                        have hb_158 := hb.kept (hk_156 _ hb.lt (fun h => h))
                        obtain ⟨o139, ho139, hr139⟩ := ord_of r q1
                        refine V.eq (st' := [vi o139]) (by rw [← ho139]; rfl) ?_
                        refine v_istore E dX4_divisor_142 (zlt hL rfl) (lv' := [(5, vi o139), (2, vi (n2_ : Int)), (6, .ref a), (4, vi (k : Int)), (3, vi (i : Int)), (1, .ref b), (0, .ref a)]) rfl ?_
                        refine v_goto E (tgt := 65) dX4_divisor_144 (by decide) ?_
                        refine V.sub [0, 3, 4, 1, 5, 6] (lv' := [(5, vi o139), (4, vi (k : Int)), (3, vi (i : Int)), (2, vi (n2_ : Int)), (1, .ref b), (0, .ref a)]) rfl ?_
                        exact ih_65  H_153 n2_ r q1 o139 (by omega) (by omega) ⟨hr3, hx2_⟩ ⟨hq1.1, hy2_⟩ (by rw [hr2]; exact hg) hr139 ha_157 hb_158
                      · refine v_iinc E 0 rfl dX4_divisor_130 (zlt hL rfl) (lv' := [(2, vi ((n2_ : Int) + (-1))), (6, .ref a), (5, vi o), (4, vi (k : Int)), (3, vi (i : Int)), (1, .ref b), (0, .ref a)]) rfl ?_
                        refine v_goto E (tgt := 109) dX4_divisor_133 (by decide) ?_
                        exact V.eqL (by rw [show (n2_ : Int) + -1 = ((n2_ - 1 : Nat) : Int) by omega]) (ih_109  H (n2_ - 1) (by omega) (by omega) (lt_top hx2_ (by omega) (by omega)) (lt_top hy2_ (by omega) (by omega)) ha hb)
              refine V.sub [4, 0, 1, 2, 3, 5, 6] (lv' := [(2, vi (n : Int)), (6, .ref a), (5, vi o), (4, vi (k : Int)), (3, vi (i : Int)), (1, .ref b), (0, .ref a)]) rfl ?_
              exact loop_109 (n + 1) H_131 n (by omega) hn (by omega) hq1.2 ha_137 hb_136
      refine V.sub [0, 1, 2, 3, 5, 4] (lv' := [(5, vi o60), (4, vi (k : Int)), (3, vi (i : Int)), (2, vi ((max n1 n2 : Nat) : Int)), (1, .ref b), (0, .ref a)]) rfl ?_
      exact loop_65 ((p / 2 ^ i + q / 2 ^ k) + 1) H_60 (max n1 n2) (p / 2 ^ i) (q / 2 ^ k) o60 (by omega) hn48 ⟨(zeros_split hzi).2, hlp⟩ ⟨(zeros_split hzk).2, hlq⟩ (gcd_first hzi hzk) hr60 ha_64 hb_65
    · refine v_aload_n E 1 rfl dX4_divisor_15 ?_
      refine v_aload_n E 0 rfl dX4_divisor_16 ?_
      refine v_callS E (As := [.ref b, .ref a]) (m_copy κ H_9 (Ne.symm hab) hb_14 ha_13) (lw_S q1938 q1939 q82 q1940) 2 (by decide +kernel) rfl (by decide) (by decide) (cb' := 0) (sb' := 0) (by decide) (by decide) rfl (rest := []) (Nat.le_of_ble_eq_true rfl) (fun q h => by rw [h]; exact hA_a) dX4_divisor_17 (fun v_159 H_160 hpost_161 hz_162 hk_163 => ?_)
      clear hz_162
      obtain ⟨rfl, ha_164⟩ := hpost_161
      have hb_165 := hb_14.kept (hk_163 _ hb_14.lt (fun h => (Ne.symm hab) h))
      refine V.eq (st' := []) rfl ?_
      refine v_vret E hE dX4_divisor_20 ?_
      have hp0 : p = 0 := sign_0.mp (by omega)
      subst hp0
      rw [Nat.gcd_zero_left]
      exact ⟨rfl, ha_164, _, hb_165⟩
  · refine v_vret E hE dX4_divisor_7 ?_
    have hq0 : q = 0 := sign_0.mp (by omega)
    subst hq0
    rw [Nat.gcd_zero_right]
    exact ⟨rfl, ha_6, _, hb_7⟩
