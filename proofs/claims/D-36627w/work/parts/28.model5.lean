set_option maxHeartbeats 1000000 in
set_option maxRecDepth 100000 in
/-- to = a / b -/
theorem m_quotient (κ : zK) (H0 : Heap) {o a b t y p q : Nat} {fs : List Value} {t0 y0 : Int} (hab : a ≠ b) (hat : a ≠ t) (hay : a ≠ y) (hbt : b ≠ t) (hby : b ≠ y) (hty : t ≠ y) (hoa : o ≠ a) (hot : o ≠ t) (hoy : o ≠ y) (hbp : sN p) (hbq : sN q) (hq0 : 0 < q) (hfy : fs[7]? = some (.ref y)) (ho : hp κ H0 o (.inr (3, fs))) (ha : hp κ H0 a (eN κ (p : Int))) (hb : hp κ H0 b (eN κ (q : Int))) (ht : hp κ H0 t (eN κ t0)) (hy : hp κ H0 y (eN κ y0)) : Mt κ yX4_quotient cX4_quotient 7 (none) 2 42 0 0 H0 [.ref o, .ref a, .ref b, .ref t] (fun c => c = a ∨ c = t ∨ c = y) (fun v H1 => v = none ∧ hp κ H1 t (eN κ ((p / q : Nat) : Int)) ∧ ∃ r s : Int, hp κ H1 a (eN κ r) ∧ hp κ H1 y (eN κ s)) := by
  refine Mt.of (by decide) (Nat.le_of_ble_eq_true rfl) ?_
  intro z E hE hH0 hA0 hL hini
  have hAll : ∀ q, (fun c => c = a ∨ c = t ∨ c = y) q → zA z.A z.H0 q := fun q h => Or.inl (by rw [hA0]; exact h)
  have hNew : ∀ q, H0.size ≤ q → zA z.A z.H0 q := fun q h => Or.inr (by rw [hH0]; exact h)
  have E : zOK z cX4_quotient RX4 κ 2 42 (none) := E
  refine V.eqL (lv' := [(0, .ref o), (1, .ref a), (2, .ref b), (3, .ref t)]) rfl ?_
  have hA_a : zA z.A z.H0 a := hAll a (Or.inl rfl)
  have hA_t : zA z.A z.H0 t := hAll t (Or.inr (Or.inl rfl))
  have hA_y : zA z.A z.H0 y := hAll y (Or.inr (Or.inr rfl))
  refine v_aload_n E 3 rfl dX4_quotient_0 ?_
  refine v_lconst E (x := 0) rfl dX4_quotient_1 ?_
  refine v_callS E (As := [.ref t, vj 0]) (m_set κ H0 ⟨by decide, by decide⟩ ht) (lw_S q1921 q1922 q82 q1923) 2 (by decide +kernel) rfl (by decide) (by decide) (cb' := 0) (sb' := 0) (by decide) (by decide) rfl (rest := []) (Nat.le_of_ble_eq_true rfl) (fun q h => by rw [h]; exact hA_t) dX4_quotient_2 (fun v_1 H_2 hpost_3 hz_4 hk_5 => ?_)
  clear hz_4
  obtain ⟨rfl, ht_6⟩ := hpost_3
  have ho_7 := ho.kept (hk_5 _ ho.lt (fun h => hot h))
  have ha_8 := ha.kept (hk_5 _ ha.lt (fun h => hat h))
  have hb_9 := hb.kept (hk_5 _ hb.lt (fun h => hbt h))
  have hy_10 := hy.kept (hk_5 _ hy.lt (fun h => (Ne.symm hty) h))
  refine V.eq (st' := []) rfl ?_
  refine v_aload_n E 1 rfl dX4_quotient_5 ?_
  refine v_callS E (As := [.ref a]) (m_bits κ H_2 (rU_nat hbp) ha_8) (lw_S q1979 q1980 q82 q1981) 1 (by decide +kernel) rfl (by decide) (by decide) (cb' := 0) (sb' := 0) (by decide) (by decide) rfl (rest := []) (Nat.le_of_ble_eq_true rfl) (fun q h => h.elim) dX4_quotient_6 (fun v_11 H_12 hpost_13 hz_14 hk_15 => ?_)
  clear hz_14
  obtain ⟨n1, rfl, hln1, hn1⟩ := hpost_13
  have ho_16 := ho_7.kept (hk_15 _ ho_7.lt (fun h => h))
  have ha_17 := ha_8.kept (hk_15 _ ha_8.lt (fun h => h))
  have hb_18 := hb_9.kept (hk_15 _ hb_9.lt (fun h => h))
  have ht_19 := ht_6.kept (hk_15 _ ht_6.lt (fun h => h))
  have hy_20 := hy_10.kept (hk_15 _ hy_10.lt (fun h => h))
  refine V.eq (st' := [vi (n1 : Int)]) rfl ?_
  refine v_aload_n E 2 rfl dX4_quotient_9 ?_
  refine v_callS E (As := [.ref b]) (m_bits κ H_12 (rU_nat hbq) hb_18) (lw_S q1979 q1980 q82 q1981) 1 (by decide +kernel) rfl (by decide) (by decide) (cb' := 0) (sb' := 0) (by decide) (by decide) rfl (rest := [vi (n1 : Int)]) (Nat.le_of_ble_eq_true rfl) (fun q h => h.elim) dX4_quotient_10 (fun v_21 H_22 hpost_23 hz_24 hk_25 => ?_)
  clear hz_24
  obtain ⟨n2, rfl, hln2, hn2⟩ := hpost_23
  have ho_26 := ho_16.kept (hk_25 _ ho_16.lt (fun h => h))
  have ha_27 := ha_17.kept (hk_25 _ ha_17.lt (fun h => h))
  have hb_28 := hb_18.kept (hk_25 _ hb_18.lt (fun h => h))
  have ht_29 := ht_19.kept (hk_25 _ ht_19.lt (fun h => h))
  have hy_30 := hy_20.kept (hk_25 _ hy_20.lt (fun h => h))
  refine V.eq (st' := [vi (n2 : Int), vi (n1 : Int)]) rfl ?_
  refine v_isub E dX4_quotient_13 ?_
  refine v_istore E dX4_quotient_14 (zlt hL rfl) (lv' := [(4, vi ((n1 : Int) - (n2 : Int))), (0, .ref o), (1, .ref a), (2, .ref b), (3, .ref t)]) rfl ?_
  have hbm := bits_more hq0 hn1 hn2
  refine v_iload E 0 rfl dX4_quotient_16 ?_
  refine v_if_ge E (tgt := 22) dX4_quotient_18 (by decide) ⟨by omega, by omega⟩ (fun c_18 => ?_) (fun c_18 => ?_)
  · have hl1535 : n1 ≤ 1535 := bits_sN hbp hn1
    refine V.eqL (lv' := [(4, vi ((n1 - n2 : Nat) : Int)), (0, .ref o), (1, .ref a), (2, .ref b), (3, .ref t)]) (by rw [show (n1 : Int) - (n2 : Int) = ((n1 - n2 : Nat) : Int) by omega]) ?_
    refine v_aload_n E 3 rfl dX4_quotient_22 ?_
    refine v_aload_n E 1 rfl dX4_quotient_23 ?_
    refine v_getf E in_X4 ho_26 (ci := 3) rfl 7 (by decide) q1767 rfl (v := .ref y) hfy dX4_quotient_24 ?_
    refine v_callS E (As := [.ref b, .ref y]) (m_copy κ H_22 hby hb_28 hy_30) (lw_S q1938 q1939 q82 q1940) 2 (by decide +kernel) rfl (by decide) (by decide) (cb' := 0) (sb' := 0) (by decide) (by decide) rfl (rest := []) (Nat.le_of_ble_eq_true rfl) (fun q h => by rw [h]; exact hA_y) dX4_quotient_27 (fun v_31 H_32 hpost_33 hz_34 hk_35 => ?_)
    clear hz_34
    obtain ⟨rfl, hy_36⟩ := hpost_33
    have ho_37 := ho_26.kept (hk_35 _ ho_26.lt (fun h => hoy h))
    have ha_38 := ha_27.kept (hk_35 _ ha_27.lt (fun h => hay h))
    have hb_39 := hb_28.kept (hk_35 _ hb_28.lt (fun h => hby h))
    have ht_40 := ht_29.kept (hk_35 _ ht_29.lt (fun h => hty h))
    refine V.eq (st' := []) rfl ?_
    refine v_aload_n E 1 rfl dX4_quotient_30 ?_
    refine v_getf E in_X4 ho_37 (ci := 3) rfl 7 (by decide) q1767 rfl (v := .ref y) hfy dX4_quotient_31 ?_
    refine v_iload E 0 rfl dX4_quotient_34 ?_
    refine V.topi (x' := ((n1 - n2 : Nat) : Int)) (congrArg iZ (by omega)) ?_
    refine v_callS E (As := [.ref y, vi ((n1 - n2 : Nat) : Int)]) (m_left' κ H_32 (by omega) hy_36) (lw_S q1976 q1977 q82 q1978) 2 (by decide +kernel) rfl (by decide) (by decide) (cb' := 0) (sb' := 0) (by decide) (by decide) rfl (rest := []) (Nat.le_of_ble_eq_true rfl) (fun q h => by rw [h]; exact hA_y) dX4_quotient_36 (fun v_41 H_42 hpost_43 hz_44 hk_45 => ?_)
    clear hz_44
    obtain ⟨rfl, hy_46⟩ := hpost_43
    have ho_47 := ho_37.kept (hk_45 _ ho_37.lt (fun h => hoy h))
    have ha_48 := ha_38.kept (hk_45 _ ha_38.lt (fun h => hay h))
    have hb_49 := hb_39.kept (hk_45 _ hb_39.lt (fun h => hby h))
    have ht_50 := ht_40.kept (hk_45 _ ht_40.lt (fun h => hty h))
    have hy_51 : hp κ H_42 y (eN κ ((q * 2 ^ ((n1 - n2) + 1) / 2 : Nat) : Int)) := by rw [half_pow, Int.natCast_mul, Int.natCast_pow]; exact hy_46
    refine V.eq (st' := []) rfl ?_
    have hby2 : sN (q * 2 ^ (n1 - n2 + 1) / 2) := by rw [half_pow]; exact Nat.lt_of_lt_of_le (hbm.2.2 (by omega)).2 (Nat.pow_le_pow_right (by decide) hl1535)
    refine v_iconst E dX4_quotient_39 ?_
    refine v_aload_n E 2 rfl dX4_quotient_40 ?_
    refine v_callS E (As := [.ref a]) (m_ints κ H_42 (rU_nat hbp) ha_48) (lw_S q1961 q1962 q82 q1963) 1 (by decide +kernel) rfl (by decide) (by decide) (cb' := 0) (sb' := 0) (by decide) (by decide) rfl (rest := [vi 1]) (Nat.le_of_ble_eq_true rfl) (fun q h => h.elim) dX4_quotient_41 (fun v_52 H_53 hpost_54 hz_55 hk_56 => ?_)
    clear hz_55
    obtain ⟨m1, rfl, hm1⟩ := hpost_54
    have ho_57 := ho_47.kept (hk_56 _ ho_47.lt (fun h => h))
    have ha_58 := ha_48.kept (hk_56 _ ha_48.lt (fun h => h))
    have hb_59 := hb_49.kept (hk_56 _ hb_49.lt (fun h => h))
    have ht_60 := ht_50.kept (hk_56 _ ht_50.lt (fun h => h))
    have hy_61 := hy_51.kept (hk_56 _ hy_51.lt (fun h => h))
    refine V.eq (st' := [vi (m1 : Int), vi 1]) rfl ?_
    refine v_aload_n E 1 rfl dX4_quotient_44 ?_
    refine v_getf E in_X4 ho_57 (ci := 3) rfl 7 (by decide) q1767 rfl (v := .ref y) hfy dX4_quotient_45 ?_
    refine v_callS E (As := [.ref y]) (m_ints κ H_53 (rU_nat hby2) hy_61) (lw_S q1961 q1962 q82 q1963) 1 (by decide +kernel) rfl (by decide) (by decide) (cb' := 0) (sb' := 0) (by decide) (by decide) rfl (rest := [vi (m1 : Int), vi 1]) (Nat.le_of_ble_eq_true rfl) (fun q h => h.elim) dX4_quotient_48 (fun v_62 H_63 hpost_64 hz_65 hk_66 => ?_)
    clear hz_65
    obtain ⟨m2, rfl, hm2⟩ := hpost_64
    have ho_67 := ho_57.kept (hk_66 _ ho_57.lt (fun h => h))
    have ha_68 := ha_58.kept (hk_66 _ ha_58.lt (fun h => h))
    have hb_69 := hb_59.kept (hk_66 _ hb_59.lt (fun h => h))
    have ht_70 := ht_60.kept (hk_66 _ ht_60.lt (fun h => h))
    have hy_71 := hy_61.kept (hk_66 _ hy_61.lt (fun h => h))
    refine V.eq (st' := [vi (m2 : Int), vi (m1 : Int), vi 1]) rfl ?_
    refine v_mmax E ⟨by have := hm1.1; omega, by have := hm1.1; omega⟩ ⟨by have := hm2.1; omega, by have := hm2.1; omega⟩ q1964 q228 q80 q229 (by decide) (Nat.le_of_ble_eq_true rfl) dX4_quotient_51 ?_
    refine v_mmax E ⟨by omega, by omega⟩ ⟨by have := hm1.1; have := hm2.1; omega, by have := hm1.1; have := hm2.1; omega⟩ q1964 q228 q80 q229 (by decide) (Nat.le_of_ble_eq_true rfl) dX4_quotient_54 ?_
    obtain ⟨n, hnE⟩ : ∃ n : Nat, n = max 1 (max m1 m2) := ⟨_, rfl⟩
    have hn48 : n ≤ 48 := by have := hm1.1; have := hm2.1; omega
    have hmx0 := ints_max hm1 hm2
    have hmx : p < 2 ^ (32 * n) ∧ q * 2 ^ (n1 - n2) < 2 ^ (32 * n) := by
      have h1 : 2 ^ (32 * max m1 m2) ≤ 2 ^ (32 * n) := Nat.pow_le_pow_right (by decide) (by omega)
      rw [half_pow] at hmx0
      exact ⟨Nat.lt_of_lt_of_le hmx0.1 h1, Nat.lt_of_lt_of_le hmx0.2 h1⟩
    refine V.topi (x' := (n : Int)) (congrArg iZ (by omega)) ?_
    refine v_istore E dX4_quotient_57 (zlt hL rfl) (lv' := [(5, vi (n : Int)), (4, vi ((n1 - n2 : Nat) : Int)), (0, .ref o), (1, .ref a), (2, .ref b), (3, .ref t)]) rfl ?_
    refine v_iload E 1 rfl dX4_quotient_59 ?_
    refine v_istore E dX4_quotient_61 (zlt hL rfl) (lv' := [(6, vi ((n1 - n2 : Nat) : Int)), (5, vi (n : Int)), (4, vi ((n1 - n2 : Nat) : Int)), (0, .ref o), (1, .ref a), (2, .ref b), (3, .ref t)]) rfl ?_
    have loop_63 : ∀ (m_63 : Nat) (H : Heap) (K r T : Nat), K < m_63 → (K ≤ (n1 - n2) + 1) → (p = r + q * T) → (r < q * 2 ^ K) → (T % 2 ^ K = 0) → (r ≤ p) → hp κ H o (.inr (3, fs)) → hp κ H a (eN κ (r : Int)) → hp κ H b (eN κ (q : Int)) → hp κ H t (eN κ (T : Int)) → hp κ H y (eN κ ((q * 2 ^ K / 2 : Nat) : Int)) → V z H 0 0 63 [(6, vi ((K : Int) - 1)), (5, vi (n : Int)), (4, vi ((n1 - n2 : Nat) : Int)), (3, .ref t), (2, .ref b), (1, .ref a), (0, .ref o)] [] := by
      intro m_63
      induction m_63 with
      | zero => intro H K r T hm; exact absurd hm (by omega)
      | succ m_63 ih_63 =>
        intro H K r T hm_63 hK hpr hr hT hrl ho ha hb ht hy
        refine v_iload E 0 rfl dX4_quotient_63 ?_
        refine v_if_lt E (tgt := 124) dX4_quotient_65 (by decide) ⟨by omega, by omega⟩ (fun c_65 => ?_) (fun c_65 => ?_)
        · refine v_vret E hE dX4_quotient_124 ?_
          have hK0 : K = 0 := by omega
          subst hK0
          have e : T = p / q := q_fin hpr (by simpa using hr)
          rw [← e]
          exact ⟨rfl, ht, _, _, ha, hy⟩
        · obtain ⟨J, rfl⟩ : ∃ J, K = J + 1 := ⟨K - 1, by omega⟩
          have hYJ := half_pow q J
          have hy_72 : hp κ H y (eN κ ((q * 2 ^ J : Nat) : Int)) := by rw [← hYJ]; exact hy
          have hYl : q * 2 ^ J ≤ q * 2 ^ (n1 - n2) := Nat.mul_le_mul_left _ (Nat.pow_le_pow_right (by decide) (by omega))
          refine V.eqL (lv' := [(6, vi (J : Int)), (5, vi (n : Int)), (4, vi ((n1 - n2 : Nat) : Int)), (3, .ref t), (2, .ref b), (1, .ref a), (0, .ref o)]) (by rw [show ((J + 1 : Nat) : Int) - 1 = (J : Int) by omega]) ?_
          refine v_aload_n E 5 rfl dX4_quotient_68 ?_
          refine v_aload_n E 6 rfl dX4_quotient_69 ?_
          refine v_getf E in_X4 ho (ci := 3) rfl 7 (by decide) q1767 rfl (v := .ref y) hfy dX4_quotient_70 ?_
          refine v_iload E 1 rfl dX4_quotient_73 ?_
          refine v_callS E (As := [.ref a, .ref y, vi (n : Int)]) (m_compare κ H (by omega) ⟨Int.natCast_nonneg _, nat_lt (Nat.lt_of_le_of_lt hrl hmx.1)⟩ ⟨Int.natCast_nonneg _, nat_lt (Nat.lt_of_le_of_lt hYl hmx.2)⟩ ha hy_72) (lw_S q1972 q1973 q82 q1974) 3 (by decide +kernel) rfl (by decide) (by decide) (cb' := 0) (sb' := 0) (by decide) (by decide) rfl (rest := []) (Nat.le_of_ble_eq_true rfl) (fun q h => h.elim) dX4_quotient_75 (fun v_73 H_74 hpost_75 hz_76 hk_77 => ?_)
          clear hz_76
          obtain rfl := hpost_75
          have ho_78 := ho.kept (hk_77 _ ho.lt (fun h => h))
          have ha_79 := ha.kept (hk_77 _ ha.lt (fun h => h))
          have hb_80 := hb.kept (hk_77 _ hb.lt (fun h => h))
          have ht_81 := ht.kept (hk_77 _ ht.lt (fun h => h))
          have hy_82 := hy_72.kept (hk_77 _ hy_72.lt (fun h => h))
          obtain ⟨o1, ho1, hr1⟩ := ord_of r (q * 2 ^ J)
          refine V.eq (st' := [vi o1]) (by rw [← ho1]; rfl) ?_
          refine v_if_lt E (tgt := 108) dX4_quotient_78 (by decide) ⟨by omega, by omega⟩ (fun c_78 => ?_) (fun c_78 => ?_)
          · refine v_aload_n E 6 rfl dX4_quotient_108 ?_
            refine v_getf E in_X4 ho_78 (ci := 3) rfl 7 (by decide) q1767 rfl (v := .ref y) hfy dX4_quotient_109 ?_
            refine v_iconst E dX4_quotient_112 ?_
            refine v_iload E 1 rfl dX4_quotient_113 ?_
            refine v_callS E (As := [.ref y, vi 1, vi (n : Int)]) (m_right' κ H_74 (by decide) (by omega) (Int.natCast_nonneg _) (nat_lt (Nat.lt_of_le_of_lt hYl hmx.2)) hy_82) (lw_S q1969 q1970 q82 q1971) 3 (by decide +kernel) rfl (by decide) (by decide) (cb' := 0) (sb' := 0) (by decide) (by decide) rfl (rest := []) (Nat.le_of_ble_eq_true rfl) (fun q h => by rw [h]; exact hA_y) dX4_quotient_115 (fun v_83 H_84 hpost_85 hz_86 hk_87 => ?_)
            clear hz_86
            obtain ⟨rfl, hy_88⟩ := hpost_85
            have ho_89 := ho_78.kept (hk_87 _ ho_78.lt (fun h => hoy h))
            have ha_90 := ha_79.kept (hk_87 _ ha_79.lt (fun h => hay h))
            have hb_91 := hb_80.kept (hk_87 _ hb_80.lt (fun h => hby h))
            have ht_92 := ht_81.kept (hk_87 _ ht_81.lt (fun h => hty h))
            have hy_93 : hp κ H_84 y (eN κ ((q * 2 ^ J / 2 : Nat) : Int)) := by rw [← shr1]; exact hy_88
            refine V.eq (st' := []) rfl ?_
            refine v_iinc E 0 rfl dX4_quotient_118 (zlt hL rfl) (lv' := [(6, vi ((J : Int) + (-1))), (5, vi (n : Int)), (4, vi ((n1 - n2 : Nat) : Int)), (3, .ref t), (2, .ref b), (1, .ref a), (0, .ref o)]) rfl ?_
            refine v_goto E (tgt := 63) dX4_quotient_121 (by decide) ?_
            exact ih_63  H_84 J r T (by omega) (by omega) hpr (by omega) (dvd_pow_half hT) hrl ho_89 ha_90 hb_91 ht_92 hy_93
          · refine v_aload_n E 5 rfl dX4_quotient_81 ?_
            refine v_aload_n E 6 rfl dX4_quotient_82 ?_
            refine v_getf E in_X4 ho_78 (ci := 3) rfl 7 (by decide) q1767 rfl (v := .ref y) hfy dX4_quotient_83 ?_
            refine v_iload E 1 rfl dX4_quotient_86 ?_
            refine v_callS E (As := [.ref a, .ref y, vi (n : Int)]) (m_less' κ H_74 hay (by omega) (Int.natCast_nonneg _) (by omega) (nat_lt (Nat.lt_of_le_of_lt hrl hmx.1)) ha_79 hy_82) (lw_S q1951 q1952 q82 q1953) 3 (by decide +kernel) rfl (by decide) (by decide) (cb' := 0) (sb' := 0) (by decide) (by decide) rfl (rest := []) (Nat.le_of_ble_eq_true rfl) (fun q h => by rw [h]; exact hA_a) dX4_quotient_88 (fun v_94 H_95 hpost_96 hz_97 hk_98 => ?_)
            clear hz_97
            obtain ⟨rfl, ha_99⟩ := hpost_96
            have ho_100 := ho_78.kept (hk_98 _ ho_78.lt (fun h => hoa h))
            have hb_101 := hb_80.kept (hk_98 _ hb_80.lt (fun h => (Ne.symm hab) h))
            have ht_102 := ht_81.kept (hk_98 _ ht_81.lt (fun h => (Ne.symm hat) h))
            have hy_103 := hy_82.kept (hk_98 _ hy_82.lt (fun h => (Ne.symm hay) h))
            have ha_104 : hp κ H_95 a (eN κ ((r - q * 2 ^ J : Nat) : Int)) := by rw [show ((r - q * 2 ^ J : Nat) : Int) = (r : Int) - ((q * 2 ^ J : Nat) : Int) by omega]; exact ha_99
            refine V.eq (st' := []) rfl ?_
            refine v_aload_n E 3 rfl dX4_quotient_91 ?_
            refine v_iload E 0 rfl dX4_quotient_92 ?_
            refine v_bipush E ⟨by decide, by decide⟩ dX4_quotient_94 ?_
            refine v_idiv E ⟨by omega, by omega⟩ ⟨by omega, by omega⟩ (by omega) dX4_quotient_96 ?_
            refine V.topi (x' := ((J / 32 : Nat) : Int)) rfl ?_
            refine v_dup2 E rfl rfl dX4_quotient_97 ?_
            refine v_iald E dX4_quotient_98 ht_102 (J / 32) rfl (by omega) (by omega) ?_
            refine v_iconst E dX4_quotient_99 ?_
            refine v_iload E 0 rfl dX4_quotient_100 ?_
            refine v_bipush E ⟨by decide, by decide⟩ dX4_quotient_102 ?_
            refine v_irem E ⟨by omega, by omega⟩ ⟨by omega, by omega⟩ (by omega) dX4_quotient_104 ?_
            refine V.topi (x' := ((J % 32 : Nat) : Int)) rfl ?_
            refine v_ishl E (J % 32) (by omega) dX4_quotient_105 ?_
            refine v_ior E (c := dg ((T + 2 ^ J : Nat) : Int) (J / 32)) (dg_bit hT).1 dX4_quotient_106 ?_
            refine v_iast E dX4_quotient_107 ht_102 (J / 32) rfl (by omega) (by omega) hA_t (fun H_107 ht_105 hs_106 => ?_)
            have ho_108 := ho_100.same hs_106 hot
            have ha_109 := ha_104.same hs_106 hat
            have hb_110 := hb_101.same hs_106 hbt
            have hy_111 := hy_103.same hs_106 (Ne.symm hty)
            have ht_112 : hp κ H_107 t (eN κ ((T + 2 ^ J : Nat) : Int)) := eI.congr ht_105 (fun j hj => by unfold va_up; split; rename_i hj2; rw [hj2]; rename_i hj2; rw [(dg_bit hT).2 j hj2])
            refine v_aload_n E 6 rfl dX4_quotient_108 ?_
            refine v_getf E in_X4 ho_108 (ci := 3) rfl 7 (by decide) q1767 rfl (v := .ref y) hfy dX4_quotient_109 ?_
            refine v_iconst E dX4_quotient_112 ?_
            refine v_iload E 1 rfl dX4_quotient_113 ?_
            refine v_callS E (As := [.ref y, vi 1, vi (n : Int)]) (m_right' κ H_107 (by decide) (by omega) (Int.natCast_nonneg _) (nat_lt (Nat.lt_of_le_of_lt hYl hmx.2)) hy_111) (lw_S q1969 q1970 q82 q1971) 3 (by decide +kernel) rfl (by decide) (by decide) (cb' := 0) (sb' := 0) (by decide) (by decide) rfl (rest := []) (Nat.le_of_ble_eq_true rfl) (fun q h => by rw [h]; exact hA_y) dX4_quotient_115 (fun v_113 H_114 hpost_115 hz_116 hk_117 => ?_)
            clear hz_116
            obtain ⟨rfl, hy_118⟩ := hpost_115
            have ho_119 := ho_108.kept (hk_117 _ ho_108.lt (fun h => hoy h))
            have ha_120 := ha_109.kept (hk_117 _ ha_109.lt (fun h => hay h))
            have hb_121 := hb_110.kept (hk_117 _ hb_110.lt (fun h => hby h))
            have ht_122 := ht_112.kept (hk_117 _ ht_112.lt (fun h => hty h))
            have hy_123 : hp κ H_114 y (eN κ ((q * 2 ^ J / 2 : Nat) : Int)) := by rw [← shr1]; exact hy_118
            refine V.eq (st' := []) rfl ?_
            refine v_iinc E 0 rfl dX4_quotient_118 (zlt hL rfl) (lv' := [(6, vi ((J : Int) + (-1))), (5, vi (n : Int)), (4, vi ((n1 - n2 : Nat) : Int)), (3, .ref t), (2, .ref b), (1, .ref a), (0, .ref o)]) rfl ?_
            refine v_goto E (tgt := 63) dX4_quotient_121 (by decide) ?_
            exact ih_63  H_114 J (r - q * 2 ^ J) (T + 2 ^ J) (by omega) (by omega) (q_step hpr hr (by omega)).1 (q_step hpr hr (by omega)).2 (dvd_pow_add hT) (by omega) ho_119 ha_120 hb_121 ht_122 hy_123
    refine V.sub [0, 1, 2, 6, 5, 4, 3] (lv' := [(6, vi ((n1 - n2 : Nat) : Int)), (5, vi (n : Int)), (4, vi ((n1 - n2 : Nat) : Int)), (3, .ref t), (2, .ref b), (1, .ref a), (0, .ref o)]) rfl ?_
    exact V.eqL (by rw [show (((n1 - n2) + 1 : Nat) : Int) - 1 = ((n1 - n2 : Nat) : Int) by omega]) (loop_63 (((n1 - n2) + 1) + 1) H_63 ((n1 - n2) + 1) p 0 (by omega) (by omega) (by rw [Nat.mul_zero, Nat.add_zero]) (hbm.2.2 (by omega)).1 (Nat.zero_mod _) (Nat.le_refl _) ho_67 ha_68 hb_69 ht_70 hy_71)
  · refine v_vret E hE dX4_quotient_21 ?_
    have e : p / q = 0 := Nat.div_eq_of_lt (hbm.2.1 (by omega))
    rw [e]
    exact ⟨rfl, ht_29, _, _, ha_27, hy_30⟩
