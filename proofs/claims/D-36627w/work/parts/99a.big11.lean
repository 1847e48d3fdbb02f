/-! BIG INTEGERS: gcd, division, max -/
theorem gc_R {x y : Int} (hx : ¬ x.sign = 0) : ((Int.gcd x y : Nat) : Int).natAbs = Int.gcd x y ∧ ((Int.gcd x y : Nat) : Int).sign = 1 ∧ 0 < Int.gcd x y := by
  have h1 := sg_pos hx
  have h2 : 0 < Int.gcd x y := Nat.gcd_pos_of_pos_left _ (by omega)
  exact ⟨by omega, Int.sign_eq_one_of_pos (by omega), h2⟩
theorem td_R {x y : Int} (hy : y ≠ 0) : (x.tdiv y).natAbs = x.natAbs / y.natAbs ∧ (x.tdiv y ≠ 0 → (x.tdiv y).sign = x.sign * y.sign) := by
  have h1 : (x.tdiv y).natAbs = x.natAbs / y.natAbs := Int.natAbs_tdiv x y
  refine ⟨h1, fun h => ?_⟩
  have hx : x ≠ 0 := fun e => h (by rw [e, Int.zero_tdiv])
  rcases Int.lt_or_gt_of_ne hx with a | a <;> rcases Int.lt_or_gt_of_ne hy with b | b
  · rw [Int.sign_eq_neg_one_of_neg a, Int.sign_eq_neg_one_of_neg b]
    have : 0 ≤ x.tdiv y := by rw [← Int.neg_neg x, ← Int.neg_neg y, Int.neg_tdiv, Int.tdiv_neg, Int.neg_neg]; exact Int.tdiv_nonneg (by omega) (by omega)
    exact Int.sign_eq_one_of_pos (by omega)
  · rw [Int.sign_eq_neg_one_of_neg a, Int.sign_eq_one_of_pos b]
    have : 0 ≤ -(x.tdiv y) := by rw [← Int.neg_tdiv]; exact Int.tdiv_nonneg (by omega) (by omega)
    exact Int.sign_eq_neg_one_of_neg (by omega)
  · rw [Int.sign_eq_one_of_pos a, Int.sign_eq_neg_one_of_neg b]
    have : 0 ≤ -(x.tdiv y) := by rw [← Int.tdiv_neg]; exact Int.tdiv_nonneg (by omega) (by omega)
    exact Int.sign_eq_neg_one_of_neg (by omega)
  · rw [Int.sign_eq_one_of_pos a, Int.sign_eq_one_of_pos b]
    have : 0 ≤ x.tdiv y := Int.tdiv_nonneg (by omega) (by omega)
    exact Int.sign_eq_one_of_pos (by omega)
theorem sgm (x y : Int) : rI (x.sign * y.sign) := by
  have h1 := sgn3 x
  have h2 := sgn3 y
  rcases h1 with h1 | h1 | h1 <;> rcases h2 with h2 | h2 | h2 <;> rw [h1.1, h2.1] <;> exact ⟨by decide, by decide⟩
set_option maxHeartbeats 1500000 in
set_option maxRecDepth 100000 in
/-- gcd -/
theorem g_gcd (κ : zK) (H0 : Heap) {a : Nat} {x : Int} {b : Nat} {y : Int} {N M : Nat} (hC : CO κ H0) (hx : BI κ H0 a x) (hy : BI κ H0 b y) (hNx : (x.natAbs : Int) < 2 ^ (32 * N)) (hMy : (y.natAbs : Int) < 2 ^ (32 * M))  : Mt κ yJ16_gcd cJ16_gcd 5 (some (.object "java/math/BigInteger")) 10 288 (4 + (12 + 9 * ((min N M + 1) / 2) + 2) + 2) (6 + N + M + (5 * min N M + 14 + (5 * max N M + 14) + hyT (min N M) + 101 + 4) + (N + 6)) H0 [.ref a, .ref b] (fun _ => False) (fun v H1 => ∃ q : Nat, v = some (.ref q) ∧ BI κ H1 q ((Int.gcd x y : Nat) : Int)) := by
  refine Mt.of (by decide) (Nat.le_of_ble_eq_true rfl) ?_
  intro z E hE hH0 hA0 hL hini
  have hAll : ∀ q, (fun _ => False) q → zA z.A z.H0 q := fun q h => Or.inl (by rw [hA0]; exact h)
  have hNew : ∀ q, H0.size ≤ q → zA z.A z.H0 q := fun q h => Or.inr (by rw [hH0]; exact h)
  have E : zOK z cJ16_gcd RJ16 κ 10 288 (some (.object "java/math/BigInteger")) := E
  refine V.eqL (lv' := [(0, .ref a), (1, .ref b)]) rfl ?_
  have hD := hC.D
  have hx8 := hx
  have hy8 := hy
  obtain ⟨ma, na, cfa, ⟨c1a, c2a, c3a, hoa⟩, hma, hna, hcfa⟩ := hx
  change Hid _ at hcfa
  have hsa := sgn3 x
  have h48a := hna.1
  obtain ⟨mb, nb, cfb, ⟨c1b, c2b, c3b, hob⟩, hmb, hnb, hcfb⟩ := hy
  change Hid _ at hcfb
  have hsb := sgn3 y
  have h48b := hnb.1
  refine v_aload_n E 1 rfl dJ16_gcd_0 ?_
  refine v_getf E in_J16 hob (ci := 6) rfl 0 (by decide) q494 rfl (v := vi y.sign) rfl dJ16_gcd_1 ?_
  refine v_if_ne E (tgt := 12) dJ16_gcd_4 (by decide) (rsign y) (fun c_4 => ?_) (fun c_4 => ?_)
  · refine v_aload_n E 0 rfl dJ16_gcd_12 ?_
    refine v_getf E in_J16 hoa (ci := 6) rfl 0 (by decide) q494 rfl (v := vi x.sign) rfl dJ16_gcd_13 ?_
    refine v_if_ne E (tgt := 24) dJ16_gcd_16 (by decide) (rsign x) (fun c_16 => ?_) (fun c_16 => ?_)
    · refine V.frame (fun hfz_fr_1 hfk_fr_1 => ?_)
      rw [hH0] at hfz_fr_1 hfk_fr_1
      rw [hA0] at hfk_fr_1
      refine v_new E in_J26 tyJ26 tyJ26_ok q1165 q1166 q101 (ci := 9) rfl (fs := [.null, vi 0, vi 0]) (fun j hj => by rcases (show j = 0 ∨ j = 1 ∨ j = 2 by omega) with rfl | rfl | rfl <;> rfl) (cb' := ((4 + (12 + 9 * ((min N M + 1) / 2) + 2) + 2) - 1)) (sb' := ((6 + N + M + (5 * min N M + 14 + (5 * max N M + 14) + hyT (min N M) + 101 + 4) + (N + 6)) - 3)) (by omega) (by omega) dJ16_gcd_24 (fun r1 H_2 hq_5 ho_3 hg_4 => ?_)
      have hne_a_r1 : a ≠ r1 := by have := hoa.lt; omega
      have hne_ma_r1 : ma ≠ r1 := by have := hma.lt; omega
      have hne_b_r1 : b ≠ r1 := by have := hob.lt; omega
      have hne_mb_r1 : mb ≠ r1 := by have := hmb.lt; omega
      have hoa_10 := hoa.grow hg_4
      have hma_11 := hma.grow hg_4
      have hob_12 := hob.grow hg_4
      have hmb_13 := hmb.grow hg_4
      have hr1H : H0.size ≤ r1 := by omega
      refine v_dup E rfl dJ16_gcd_27 ?_
      refine v_aload_n E 0 rfl dJ16_gcd_28 ?_
      refine V.frame (fun hfz_fr_14 hfk_fr_14 => ?_)
      rw [hH0] at hfz_fr_14 hfk_fr_14
      rw [hA0] at hfk_fr_14
      refine v_callI E (As := [.ref a]) (b := r1) (h_iB κ H_2 (x := x) (N := N) hD hNx ho_3 ⟨ma, na, cfa, ⟨c1a, c2a, c3a, hoa_10⟩, hma_11, hna, hcfa⟩) q1169 q101 q1167 q1168 rfl 1 (by decide +kernel) rfl (by decide) (by decide) (cb' := (((4 + (12 + 9 * ((min N M + 1) / 2) + 2) + 2) - 1) - 1)) (sb' := (((6 + N + M + (5 * min N M + 14 + (5 * max N M + 14) + hyT (min N M) + 101 + 4) + (N + 6)) - 3) - N)) (by omega) (by omega) rfl (rest := [.ref r1]) (Nat.le_of_ble_eq_true rfl) (fun q9 h => hNew q9 (by rw [show q9 = r1 from h]; omega)) dJ16_gcd_29 (fun v_15 H_16 hpost_17 hz_18 hk_19 => ?_)
      clear hz_18
      obtain ⟨rfl, v1, n1, hv1q, hn1N, hi1, hM1⟩ := hpost_17
      have hz_20 := hoa_10.kept (hk_19 _ hoa_10.lt (fun h => hne_a_r1 h))
      have hz_21 := hma_11.kept (hk_19 _ hma_11.lt (fun h => hne_ma_r1 h))
      have hz_22 := hob_12.kept (hk_19 _ hob_12.lt (fun h => hne_b_r1 h))
      have hz_23 := hmb_13.kept (hk_19 _ hmb_13.lt (fun h => hne_mb_r1 h))
      have hv1H : H0.size ≤ v1 := Nat.le_trans hfz_fr_14 hv1q
      refine V.eq (st' := [.ref r1]) rfl ?_
      refine v_astore_n E dJ16_gcd_32 (zlt hL rfl) (lv' := [(2, .ref r1), (0, .ref a), (1, .ref b)]) rfl ?_
      refine V.frame (fun hfz_fr_24 hfk_fr_24 => ?_)
      rw [hH0] at hfz_fr_24 hfk_fr_24
      rw [hA0] at hfk_fr_24
      refine v_new E in_J26 tyJ26 tyJ26_ok q1165 q1166 q101 (ci := 9) rfl (fs := [.null, vi 0, vi 0]) (fun j hj => by rcases (show j = 0 ∨ j = 1 ∨ j = 2 by omega) with rfl | rfl | rfl <;> rfl) (cb' := ((((4 + (12 + 9 * ((min N M + 1) / 2) + 2) + 2) - 1) - 1) - 1)) (sb' := ((((6 + N + M + (5 * min N M + 14 + (5 * max N M + 14) + hyT (min N M) + 101 + 4) + (N + 6)) - 3) - N) - 3)) (by omega) (by omega) dJ16_gcd_33 (fun r2 H_25 hq_28 ho_26 hg_27 => ?_)
      have hne_a_r2 : a ≠ r2 := by have := hz_20.lt; omega
      have hne_ma_r2 : ma ≠ r2 := by have := hz_21.lt; omega
      have hne_b_r2 : b ≠ r2 := by have := hz_22.lt; omega
      have hne_mb_r2 : mb ≠ r2 := by have := hz_23.lt; omega
      have hz_33 := hz_20.grow hg_27
      have hz_34 := hz_21.grow hg_27
      have hz_35 := hz_22.grow hg_27
      have hz_36 := hz_23.grow hg_27
      have hM1b := hM1.kept (hg_27.2 _ hM1.lt.1) (hg_27.2 _ hM1.lt.2)
      have hr2H : H0.size ≤ r2 := by omega
      refine v_dup E rfl dJ16_gcd_36 ?_
      refine v_aload_n E 2 rfl dJ16_gcd_37 ?_
      refine V.frame (fun hfz_fr_37 hfk_fr_37 => ?_)
      rw [hH0] at hfz_fr_37 hfk_fr_37
      rw [hA0] at hfk_fr_37
      refine v_callI E (As := [.ref b]) (b := r2) (h_iB κ H_25 (x := y) (N := M) hD hMy ho_26 ⟨mb, nb, cfb, ⟨c1b, c2b, c3b, hz_35⟩, hz_36, hnb, hcfb⟩) q1169 q101 q1167 q1168 rfl 1 (by decide +kernel) rfl (by decide) (by decide) (cb' := (((((4 + (12 + 9 * ((min N M + 1) / 2) + 2) + 2) - 1) - 1) - 1) - 1)) (sb' := (((((6 + N + M + (5 * min N M + 14 + (5 * max N M + 14) + hyT (min N M) + 101 + 4) + (N + 6)) - 3) - N) - 3) - M)) (by omega) (by omega) rfl (rest := [.ref r2]) (Nat.le_of_ble_eq_true rfl) (fun q9 h => hNew q9 (by rw [show q9 = r2 from h]; omega)) dJ16_gcd_38 (fun v_38 H_39 hpost_40 hz_41 hk_42 => ?_)
      clear hz_41
      obtain ⟨rfl, v2, n2, hv2q, hn2N, hi2, hM2⟩ := hpost_40
      have hz_43 := hz_33.kept (hk_42 _ hz_33.lt (fun h => hne_a_r2 h))
      have hz_44 := hz_34.kept (hk_42 _ hz_34.lt (fun h => hne_ma_r2 h))
      have hz_45 := hz_35.kept (hk_42 _ hz_35.lt (fun h => hne_b_r2 h))
      have hz_46 := hz_36.kept (hk_42 _ hz_36.lt (fun h => hne_mb_r2 h))
      have hM1c := hM1b.kept (hk_42 _ hM1b.lt.1 (fun h => Nat.ne_of_lt (Nat.lt_of_lt_of_le hM1.lt.1 (Nat.le_of_eq hq_28.symm)) h)) (hk_42 _ hM1b.lt.2 (fun h => Nat.ne_of_lt (Nat.lt_of_lt_of_le hM1.lt.2 (Nat.le_of_eq hq_28.symm)) h))
      have hr12 : r1 ≠ r2 := Nat.ne_of_lt (Nat.lt_of_lt_of_le hM1.lt.1 (Nat.le_of_eq hq_28.symm))
      have hv12 : v1 ≠ v2 := Nat.ne_of_lt (Nat.lt_of_lt_of_le hM1b.lt.2 hv2q)
      have hv2H : H0.size ≤ v2 := Nat.le_trans hfz_fr_37 hv2q
      refine V.eq (st' := [.ref r2]) rfl ?_
      refine v_astore_n E dJ16_gcd_41 (zlt hL rfl) (lv' := [(3, .ref r2), (2, .ref r1), (0, .ref a), (1, .ref b)]) rfl ?_
      refine v_aload_n E 1 rfl dJ16_gcd_42 ?_
      refine v_aload_n E 0 rfl dJ16_gcd_43 ?_
      refine V.frame (fun hfz_fr_47 hfk_fr_47 => ?_)
      rw [hH0] at hfz_fr_47 hfk_fr_47
      rw [hA0] at hfk_fr_47
      have hx0 : 0 < x.natAbs := by have := sg_pos (x := x) (by omega); omega
      refine v_callV E (As := [.ref r2]) (b := r1) (ci := 9) (C := RJ26) (T := TJ26) (N := 3) hM1c.1 rfl (h_hyb κ H_39 (x := x.natAbs) (y := y.natAbs) (N := N) (M := M) (B := H0.size) (hC.call (fun q h => h.elim) hfz_fr_47 hfk_fr_47) hx0 hr12 hv12 hfz_fr_47 ⟨hr1H, hv1H, hr2H, hv2H⟩ ⟨Nat.le_trans hC.le hr1H, Nat.le_trans hC.le hv1H, Nat.le_trans hC.le hr2H, Nat.le_trans hC.le hv2H⟩ hi1 hi2 hn1N hn2N hM1c hM2) (lw_V q1182 q1183 q1184 q101 q1185) 1 (by decide +kernel) rfl (by decide) (by decide) (cb' := 2) (sb' := (N + 6)) (by omega) (by omega) rfl (rest := []) (Nat.le_of_ble_eq_true rfl) (fun q9 h => hNew q9 (h.elim (fun h => by rw [h]; exact hr1H) (fun h => h.elim (fun h => by rw [h]; exact hv1H) (fun h => h.elim (fun h => by rw [h]; exact hr2H) (fun h => by rw [h]; exact hv2H))))) dJ16_gcd_44 (fun v_48 H_49 hpost_50 hz_51 hk_52 => ?_)
      clear hz_51
      obtain ⟨q, v5, o5, n5, cap5, f5, rfl, hM5, hI5, hq5, hv5⟩ := hpost_50
      refine V.eq (st' := [.ref q]) rfl ?_
      refine v_astore E dJ16_gcd_47 (zlt hL rfl) (lv' := [(4, .ref q), (3, .ref r2), (2, .ref r1), (0, .ref a), (1, .ref b)]) rfl ?_
      refine v_aload E 0 rfl dJ16_gcd_49 ?_
      refine v_iconst E dJ16_gcd_51 ?_
      refine V.frame (fun hfz_fr_53 hfk_fr_53 => ?_)
      rw [hH0] at hfz_fr_53 hfk_fr_53
      rw [hA0] at hfk_fr_53
      have hgR := gc_R (x := x) (y := y) (by omega)
      have hgN : n5 ≤ N := by
        have h1 := Nat.gcd_le_left y.natAbs hx0
        exact ints_le (Int.natCast_nonneg _) hI5 (Int.lt_of_le_of_lt (Int.ofNat_le.mpr h1) hNx)
      refine v_callV E (As := [vi 1]) (b := q) (ci := 9) (C := RJ26) (T := TJ26) (N := 3) hM5.1 rfl (h_toB κ H_49 (R := ((Int.gcd x y : Nat) : Int)) (c := 1) (hC.call (fun q h => h.elim) hfz_fr_53 hfk_fr_53) ⟨Nat.le_trans hC.le hq5, Nat.le_trans hC.le hv5⟩ (Or.inr (Nat.le_trans hC.m hv5)) hI5 ⟨by decide, by decide⟩ (fun h => by exfalso; have := ints_pos (Int.natCast_nonneg _) hI5; have h9 : 0 < Nat.gcd x.natAbs y.natAbs := hgR.2.2; omega) (fun _ _ => ⟨congrArg Nat.cast hgR.1, hgR.2.1⟩) hM5) (lw_V q1421 q1377 q1378 q101 q1379) 1 (by decide +kernel) rfl (by decide) (by decide) (cb' := 0) (sb' := 0) (by omega) (by omega) rfl (rest := []) (Nat.le_of_ble_eq_true rfl) (fun q9 h => hNew q9 (h.elim (fun h => by rw [h]; exact hq5) (fun h => by rw [h]; exact hv5))) dJ16_gcd_52 (fun v_54 H_55 hpost_56 hz_57 hk_58 => ?_)
      clear hz_57
      obtain ⟨q9, rfl, hB9⟩ := hpost_56
      refine V.eq (st' := [.ref q9]) rfl ?_
      refine v_aret E hE rfl (Or.inl ⟨_, rfl⟩) dJ16_gcd_55 (Or.inr ⟨_, rfl⟩) ?_
      exact ⟨q9, rfl, hB9⟩
    · refine v_aload_n E 1 rfl dJ16_gcd_19 ?_
      refine V.frame (fun hfz_fr_59 hfk_fr_59 => ?_)
      rw [hH0] at hfz_fr_59 hfk_fr_59
      rw [hA0] at hfk_fr_59
      refine v_callV E (As := []) (b := b) (ci := 6) (C := RJ16) (T := TJ16) (N := 6) hob rfl (g_abs κ H0 (x := y) (hC.call (fun q h => h.elim) hfz_fr_59 hfk_fr_59) ⟨mb, nb, cfb, ⟨c1b, c2b, c3b, hob⟩, hmb, hnb, hcfb⟩) (lw_V q1024 q623 q624 q91 q625) 0 (by decide +kernel) rfl (by decide) (by decide) (cb' := 0) (sb' := 0) (by omega) (by omega) rfl (rest := []) (Nat.le_of_ble_eq_true rfl) (fun q h => h.elim) dJ16_gcd_20 (fun v_60 H_61 hpost_62 hz_63 hk_64 => ?_)
      clear hz_63
      obtain ⟨q, rfl, hB9⟩ := hpost_62
      refine V.eq (st' := [.ref q]) rfl ?_
      refine v_aret E hE rfl (Or.inl ⟨_, rfl⟩) dJ16_gcd_23 (Or.inr ⟨_, rfl⟩) ?_
      have e9 : x = 0 := sg_zero (by omega)
      exact ⟨q, rfl, by rw [show ((Int.gcd x y : Nat) : Int) = (y.natAbs : Int) by rw [e9, Int.gcd_zero_left]]; exact hB9⟩
  · refine v_aload_n E 0 rfl dJ16_gcd_7 ?_
    refine V.frame (fun hfz_fr_65 hfk_fr_65 => ?_)
    rw [hH0] at hfz_fr_65 hfk_fr_65
    rw [hA0] at hfk_fr_65
    refine v_callV E (As := []) (b := a) (ci := 6) (C := RJ16) (T := TJ16) (N := 6) hoa rfl (g_abs κ H0 (x := x) (hC.call (fun q h => h.elim) hfz_fr_65 hfk_fr_65) ⟨ma, na, cfa, ⟨c1a, c2a, c3a, hoa⟩, hma, hna, hcfa⟩) (lw_V q1024 q623 q624 q91 q625) 0 (by decide +kernel) rfl (by decide) (by decide) (cb' := 0) (sb' := 0) (by omega) (by omega) rfl (rest := []) (Nat.le_of_ble_eq_true rfl) (fun q h => h.elim) dJ16_gcd_8 (fun v_66 H_67 hpost_68 hz_69 hk_70 => ?_)
    clear hz_69
    obtain ⟨q, rfl, hB9⟩ := hpost_68
    refine V.eq (st' := [.ref q]) rfl ?_
    refine v_aret E hE rfl (Or.inl ⟨_, rfl⟩) dJ16_gcd_11 (Or.inr ⟨_, rfl⟩) ?_
    have e9 : y = 0 := sg_zero (by omega)
    exact ⟨q, rfl, by rw [show ((Int.gcd x y : Nat) : Int) = (x.natAbs : Int) by rw [e9, Int.gcd_zero_right]]; exact hB9⟩

set_option maxHeartbeats 1500000 in
set_option maxRecDepth 100000 in
/-- division of big integers -/
theorem g_divK (κ : zK) (H0 : Heap) {a : Nat} {x : Int} {b : Nat} {y : Int} {N : Nat} (hC : CO κ H0) (hx : BI κ H0 a x) (hy : BI κ H0 b y) (hNx : (x.natAbs : Int) < 2 ^ (32 * N)) (hy0 : y ≠ 0)  : Mt κ yJ16_divideKnuth cJ16_divideKnuth 5 (some (.object "java/math/BigInteger")) 7 219 15 (6 * N + 30) H0 [.ref a, .ref b] (fun _ => False) (fun v H1 => ∃ q : Nat, v = some (.ref q) ∧ BI κ H1 q (x.tdiv y)) := by
  refine Mt.of (by decide) (Nat.le_of_ble_eq_true rfl) ?_
  intro z E hE hH0 hA0 hL hini
  have hAll : ∀ q, (fun _ => False) q → zA z.A z.H0 q := fun q h => Or.inl (by rw [hA0]; exact h)
  have hNew : ∀ q, H0.size ≤ q → zA z.A z.H0 q := fun q h => Or.inr (by rw [hH0]; exact h)
  have E : zOK z cJ16_divideKnuth RJ16 κ 7 219 (some (.object "java/math/BigInteger")) := E
  refine V.eqL (lv' := [(0, .ref a), (1, .ref b)]) rfl ?_
  have hD := hC.D
  have hx8 := hx
  have hy8 := hy
  obtain ⟨ma, na, cfa, ⟨c1a, c2a, c3a, hoa⟩, hma, hna, hcfa⟩ := hx
  change Hid _ at hcfa
  have hsa := sgn3 x
  have h48a := hna.1
  obtain ⟨mb, nb, cfb, ⟨c1b, c2b, c3b, hob⟩, hmb, hnb, hcfb⟩ := hy
  change Hid _ at hcfb
  have hsb := sgn3 y
  have h48b := hnb.1
  refine V.frame (fun hfz_fr_1 hfk_fr_1 => ?_)
  rw [hH0] at hfz_fr_1 hfk_fr_1
  rw [hA0] at hfk_fr_1
  refine v_new E in_J26 tyJ26 tyJ26_ok q1165 q1166 q101 (ci := 9) rfl (fs := [.null, vi 0, vi 0]) (fun j hj => by rcases (show j = 0 ∨ j = 1 ∨ j = 2 by omega) with rfl | rfl | rfl <;> rfl) (cb' := (15 - 1)) (sb' := ((6 * N + 30) - 3)) (by omega) (by omega) dJ16_divideKnuth_0 (fun c H_2 hq_5 ho_3 hg_4 => ?_)
  have hne_a_c : a ≠ c := by have := hoa.lt; omega
  have hne_ma_c : ma ≠ c := by have := hma.lt; omega
  have hne_b_c : b ≠ c := by have := hob.lt; omega
  have hne_mb_c : mb ≠ c := by have := hmb.lt; omega
  have hoa_10 := hoa.grow hg_4
  have hma_11 := hma.grow hg_4
  have hob_12 := hob.grow hg_4
  have hmb_13 := hmb.grow hg_4
  have hcH : H0.size ≤ c := by omega
  refine v_dup E rfl dJ16_divideKnuth_3 ?_
  refine V.frame (fun hfz_fr_14 hfk_fr_14 => ?_)
  rw [hH0] at hfz_fr_14 hfk_fr_14
  rw [hA0] at hfk_fr_14
  refine v_callI E (As := []) (b := c) (h_i2 κ H_2 ho_3) q1189 q101 q1430 q1188 rfl 0 (by decide +kernel) rfl (by decide) (by decide) (cb' := ((15 - 1) - 1)) (sb' := (((6 * N + 30) - 3) - 1)) (by omega) (by omega) rfl (rest := [.ref c]) (Nat.le_of_ble_eq_true rfl) (fun q9 h => hNew q9 (by rw [show q9 = c from h]; omega)) dJ16_divideKnuth_4 (fun v_15 H_16 hpost_17 hz_18 hk_19 => ?_)
  clear hz_18
  obtain ⟨rfl, vq, hvq9, hMq⟩ := hpost_17
  have hz_20 := hoa_10.kept (hk_19 _ hoa_10.lt (fun h => hne_a_c h))
  have hz_21 := hma_11.kept (hk_19 _ hma_11.lt (fun h => hne_ma_c h))
  have hz_22 := hob_12.kept (hk_19 _ hob_12.lt (fun h => hne_b_c h))
  have hz_23 := hmb_13.kept (hk_19 _ hmb_13.lt (fun h => hne_mb_c h))
  have hne_ma_vq : ma ≠ vq := Nat.ne_of_lt (Nat.lt_of_lt_of_le hma.lt (Nat.le_trans (Nat.le_refl _) (Nat.le_trans hfz_fr_14 hvq9)))
  have hne_mb_vq : mb ≠ vq := Nat.ne_of_lt (Nat.lt_of_lt_of_le hmb.lt (Nat.le_trans (Nat.le_refl _) (Nat.le_trans hfz_fr_14 hvq9)))
  have hvqH : H0.size ≤ vq := Nat.le_trans hfz_fr_14 hvq9
  obtain ⟨hcO, hcV, -⟩ := hMq
  change hp κ H_16 c (.inr (9, [.ref vq, vi 0, vi 0])) at hcO
  have hne_vq_c : vq ≠ c := Ne.symm (hp.ka hD hcO hcV (by decide) (by decide))
  refine V.eq (st' := [.ref c]) rfl ?_
  refine v_astore_n E dJ16_divideKnuth_7 (zlt hL rfl) (lv' := [(2, .ref c), (0, .ref a), (1, .ref b)]) rfl ?_
  refine V.frame (fun hfz_fr_24 hfk_fr_24 => ?_)
  rw [hH0] at hfz_fr_24 hfk_fr_24
  rw [hA0] at hfk_fr_24
  refine v_new E in_J26 tyJ26 tyJ26_ok q1165 q1166 q101 (ci := 9) rfl (fs := [.null, vi 0, vi 0]) (fun j hj => by rcases (show j = 0 ∨ j = 1 ∨ j = 2 by omega) with rfl | rfl | rfl <;> rfl) (cb' := (((15 - 1) - 1) - 1)) (sb' := ((((6 * N + 30) - 3) - 1) - 3)) (by omega) (by omega) dJ16_divideKnuth_8 (fun r3 H_25 hq_28 ho_26 hg_27 => ?_)
  have hne_a_r3 : a ≠ r3 := by have := hz_20.lt; omega
  have hne_ma_r3 : ma ≠ r3 := by have := hz_21.lt; omega
  have hne_b_r3 : b ≠ r3 := by have := hz_22.lt; omega
  have hne_mb_r3 : mb ≠ r3 := by have := hz_23.lt; omega
  have hne_c_r3 : c ≠ r3 := by have := hcO.lt; omega
  have hne_vq_r3 : vq ≠ r3 := by have := hcV.lt; omega
  have hz_35 := hz_20.grow hg_27
  have hz_36 := hz_21.grow hg_27
  have hz_37 := hz_22.grow hg_27
  have hz_38 := hz_23.grow hg_27
  have hcO_39 := hcO.grow hg_27
  have hcV_40 := hcV.grow hg_27
  have hr3H : H0.size ≤ r3 := by omega
  refine v_dup E rfl dJ16_divideKnuth_11 ?_
  refine v_aload_n E 1 rfl dJ16_divideKnuth_12 ?_
  refine v_getf E in_J16 hz_35 (ci := 6) rfl 1 (by decide) q496 rfl (v := .ref ma) rfl dJ16_divideKnuth_13 ?_
  refine V.frame (fun hfz_fr_41 hfk_fr_41 => ?_)
  rw [hH0] at hfz_fr_41 hfk_fr_41
  rw [hA0] at hfk_fr_41
  refine v_callI E (As := [.ref ma]) (b := r3) (h_i5 κ H_25 (X := (x.natAbs : Int)) hD (by omega) (Int.natCast_nonneg _) hna.2.1 ho_26 hz_36) q1293 q101 q1431 q1292 rfl 1 (by decide +kernel) rfl (by decide) (by decide) (cb' := ((((15 - 1) - 1) - 1) - 0)) (sb' := (((((6 * N + 30) - 3) - 1) - 3) - 0)) (by omega) (by omega) rfl (rest := [.ref r3]) (Nat.le_of_ble_eq_true rfl) (fun q9 h => hNew q9 (by rw [show q9 = r3 from h]; omega)) dJ16_divideKnuth_16 (fun v_42 H_43 hpost_44 hz_45 hk_46 => ?_)
  clear hz_45
  obtain ⟨rfl, hMr3⟩ := hpost_44
  have hz_47 := hz_35.kept (hk_46 _ hz_35.lt (fun h => hne_a_r3 h))
  have hz_48 := hz_36.kept (hk_46 _ hz_36.lt (fun h => hne_ma_r3 h))
  have hz_49 := hz_37.kept (hk_46 _ hz_37.lt (fun h => hne_b_r3 h))
  have hz_50 := hz_38.kept (hk_46 _ hz_38.lt (fun h => hne_mb_r3 h))
  have hz_51 := hcO_39.kept (hk_46 _ hcO_39.lt (fun h => hne_c_r3 h))
  have hz_52 := hcV_40.kept (hk_46 _ hcV_40.lt (fun h => hne_vq_r3 h))
  refine V.eq (st' := [.ref r3]) rfl ?_
  refine v_astore_n E dJ16_divideKnuth_19 (zlt hL rfl) (lv' := [(3, .ref r3), (2, .ref c), (0, .ref a), (1, .ref b)]) rfl ?_
  refine V.frame (fun hfz_fr_53 hfk_fr_53 => ?_)
  rw [hH0] at hfz_fr_53 hfk_fr_53
  rw [hA0] at hfk_fr_53
  refine v_new E in_J26 tyJ26 tyJ26_ok q1165 q1166 q101 (ci := 9) rfl (fs := [.null, vi 0, vi 0]) (fun j hj => by rcases (show j = 0 ∨ j = 1 ∨ j = 2 by omega) with rfl | rfl | rfl <;> rfl) (cb' := (((((15 - 1) - 1) - 1) - 0) - 1)) (sb' := ((((((6 * N + 30) - 3) - 1) - 3) - 0) - 3)) (by omega) (by omega) dJ16_divideKnuth_20 (fun r4 H_54 hq_57 ho_55 hg_56 => ?_)
  have hne_a_r4 : a ≠ r4 := by have := hz_47.lt; omega
  have hne_ma_r4 : ma ≠ r4 := by have := hz_48.lt; omega
  have hne_b_r4 : b ≠ r4 := by have := hz_49.lt; omega
  have hne_mb_r4 : mb ≠ r4 := by have := hz_50.lt; omega
  have hne_c_r4 : c ≠ r4 := by have := hz_51.lt; omega
  have hne_vq_r4 : vq ≠ r4 := by have := hz_52.lt; omega
  have hne_r3_r4 : r3 ≠ r4 := by have := hMr3.1.lt; omega
  have hz_65 := hz_47.grow hg_56
  have hz_66 := hz_48.grow hg_56
  have hz_67 := hz_49.grow hg_56
  have hz_68 := hz_50.grow hg_56
  have hz_69 := hz_51.grow hg_56
  have hz_70 := hz_52.grow hg_56
  have hMr31_71 := hMr3.1.grow hg_56
  have hr4H : H0.size ≤ r4 := by omega
  refine v_dup E rfl dJ16_divideKnuth_23 ?_
  refine v_aload_n E 3 rfl dJ16_divideKnuth_24 ?_
  refine v_getf E in_J16 hz_67 (ci := 6) rfl 1 (by decide) q496 rfl (v := .ref mb) rfl dJ16_divideKnuth_25 ?_
  refine V.frame (fun hfz_fr_72 hfk_fr_72 => ?_)
  rw [hH0] at hfz_fr_72 hfk_fr_72
  rw [hA0] at hfk_fr_72
  refine v_callI E (As := [.ref mb]) (b := r4) (h_i5 κ H_54 (X := (y.natAbs : Int)) hD (by omega) (Int.natCast_nonneg _) hnb.2.1 ho_55 hz_68) q1293 q101 q1431 q1292 rfl 1 (by decide +kernel) rfl (by decide) (by decide) (cb' := ((((((15 - 1) - 1) - 1) - 0) - 1) - 0)) (sb' := (((((((6 * N + 30) - 3) - 1) - 3) - 0) - 3) - 0)) (by omega) (by omega) rfl (rest := [.ref r4]) (Nat.le_of_ble_eq_true rfl) (fun q9 h => hNew q9 (by rw [show q9 = r4 from h]; omega)) dJ16_divideKnuth_28 (fun v_73 H_74 hpost_75 hz_76 hk_77 => ?_)
  clear hz_76
  obtain ⟨rfl, hMr4⟩ := hpost_75
  have hz_78 := hz_65.kept (hk_77 _ hz_65.lt (fun h => hne_a_r4 h))
  have hz_79 := hz_66.kept (hk_77 _ hz_66.lt (fun h => hne_ma_r4 h))
  have hz_80 := hz_67.kept (hk_77 _ hz_67.lt (fun h => hne_b_r4 h))
  have hz_81 := hz_68.kept (hk_77 _ hz_68.lt (fun h => hne_mb_r4 h))
  have hz_82 := hz_69.kept (hk_77 _ hz_69.lt (fun h => hne_c_r4 h))
  have hz_83 := hz_70.kept (hk_77 _ hz_70.lt (fun h => hne_vq_r4 h))
  have hz_84 := hMr31_71.kept (hk_77 _ hMr31_71.lt (fun h => hne_r3_r4 h))
  refine V.eq (st' := [.ref r4]) rfl ?_
  refine v_astore E dJ16_divideKnuth_31 (zlt hL rfl) (lv' := [(4, .ref r4), (3, .ref r3), (2, .ref c), (0, .ref a), (1, .ref b)]) rfl ?_
  refine v_aload_n E 1 rfl dJ16_divideKnuth_33 ?_
  refine v_aload E 0 rfl dJ16_divideKnuth_34 ?_
  refine v_aload_n E 2 rfl dJ16_divideKnuth_36 ?_
  refine v_iconst E dJ16_divideKnuth_37 ?_
  refine V.frame (fun hfz_fr_85 hfk_fr_85 => ?_)
  rw [hH0] at hfz_fr_85 hfk_fr_85
  rw [hA0] at hfk_fr_85
  have hnaN : na ≤ N := ints_le (Int.natCast_nonneg _) hna hNx
  refine v_callV E (As := [.ref r4, .ref c, vi 0]) (b := r3) (ci := 9) (C := RJ26) (T := TJ26) (N := 3) hz_84 rfl (h_dk κ H_74 (o := 0) (p := 0) (oq := 0) (nq := 0) (Q := 0) (x := x.natAbs) (y := y.natAbs) (z3 := 0) hD (Or.inl rfl) (by omega) hna hnb (Ne.symm hne_c_r3) (Ne.symm hne_c_r4) hne_ma_vq hne_mb_vq (Nat.le_refl 1) ⟨hz_84, hz_79, by omega, by omega, fun k hk => by rw [Nat.zero_add]; rfl, Int.natCast_nonneg _, hna.2.1⟩ ⟨hMr4.1, hz_81, by omega, by omega, fun k hk => by rw [Nat.zero_add]; rfl, Int.natCast_nonneg _, hnb.2.1⟩ ⟨hz_82, hz_83, by decide, by decide, fun k hk => absurd hk (Nat.not_lt_zero k), Int.le_refl 0, by decide⟩) (lw_V q1432 q1254 q1255 q101 q1256) 3 (by decide +kernel) rfl (by decide) (by decide) (cb' := 2) (sb' := (N + 6)) (by omega) (by omega) rfl (rest := []) (Nat.le_of_ble_eq_true rfl) (fun q9 h => hNew q9 (h.elim (fun h => by rw [h]; exact hcH) (fun h => by rw [h]; exact hvqH))) dJ16_divideKnuth_38 (fun v_86 H_87 hpost_88 hz_89 hk_90 => ?_)
  clear hz_89
  obtain ⟨v2, o2, n2, cap2, f2, hMq9, hIq, hcq9, hv2q, r, hr0, -⟩ := hpost_88
  have hz_91 := hz_78.kept (hk_90 _ hz_78.lt (fun h => h.elim (fun h => hne_a_c h) (fun h => hp.ka hD hz_78 hz_83 (by decide) (by decide) h)))
  have hz_92 := hz_80.kept (hk_90 _ hz_80.lt (fun h => h.elim (fun h => hne_b_c h) (fun h => hp.ka hD hz_80 hz_83 (by decide) (by decide) h)))
  rcases hr0 with ⟨-, rfl⟩ | rfl
  ·
    refine V.eq (st' := [.null]) rfl ?_
    refine v_pop E rfl dJ16_divideKnuth_41 ?_
    refine v_aload_n E 2 rfl dJ16_divideKnuth_42 ?_
    refine v_aload_n E 3 rfl dJ16_divideKnuth_43 ?_
    refine v_getf E in_J16 hz_91 (ci := 6) rfl 0 (by decide) q494 rfl (v := vi x.sign) rfl dJ16_divideKnuth_44 ?_
    refine v_aload_n E 4 rfl dJ16_divideKnuth_47 ?_
    refine v_getf E in_J16 hz_92 (ci := 6) rfl 0 (by decide) q494 rfl (v := vi y.sign) rfl dJ16_divideKnuth_48 ?_
    refine v_imul E dJ16_divideKnuth_51 ?_
    refine V.frame (fun hfz_fr_93 hfk_fr_93 => ?_)
    rw [hH0] at hfz_fr_93 hfk_fr_93
    rw [hA0] at hfk_fr_93
    have htR := td_R (x := x) hy0
    have hdl := Nat.div_le_self x.natAbs y.natAbs
    have hn2N : n2 ≤ N := ints_le (Int.natCast_nonneg _) hIq (Int.lt_of_le_of_lt (Int.ofNat_le.mpr hdl) hNx)
    have hIp := ints_pos (Int.natCast_nonneg _) hIq
    have hsy := sgn3 y
    have hsx := sgn3 x
    have hR0 : (n2 = 0 ∨ x.sign * y.sign = 0) → x.tdiv y = 0 := by
      intro h
      rcases h with h | h
      · omega
      · rcases Int.mul_eq_zero.mp h with h | h
        · rw [sg_zero h, Int.zero_tdiv]
        · exact absurd (sg_zero h) hy0
    have hR1 : ¬ n2 = 0 → ¬ x.sign * y.sign = 0 → ((x.tdiv y).natAbs : Int) = ((x.natAbs / y.natAbs : Nat) : Int) ∧ (x.tdiv y).sign = x.sign * y.sign := fun h1 _ => ⟨congrArg Nat.cast htR.1, htR.2 (by omega)⟩
    refine v_callV E (As := [vi (x.sign * y.sign)]) (b := c) (ci := 9) (C := RJ26) (T := TJ26) (N := 3) hMq9.1 rfl (h_toB κ H_87 (R := x.tdiv y) (c := x.sign * y.sign) (hC.call (fun q h => h.elim) hfz_fr_93 hfk_fr_93) ⟨Nat.le_trans hC.le hcH, hv2q.elim (fun h => by rw [h]; exact Nat.le_trans hC.le hvqH) (fun h => Nat.le_trans hC.le (by omega))⟩ (Or.inr (Nat.le_trans hC.m (hv2q.elim (fun h => by rw [h]; exact hvqH) (fun h => by omega)))) hIq (sgm x y) hR0 hR1 hMq9) (lw_V q1421 q1377 q1378 q101 q1379) 1 (by decide +kernel) rfl (by decide) (by decide) (cb' := 0) (sb' := 0) (by omega) (by omega) rfl (rest := []) (Nat.le_of_ble_eq_true rfl) (fun q9 h => hNew q9 (h.elim (fun h => by rw [h]; exact hcH) (fun h => hv2q.elim (fun h2 => by rw [h, h2]; exact hvqH) (fun h2 => by rw [h]; omega)))) dJ16_divideKnuth_52 (fun v_94 H_95 hpost_96 hz_97 hk_98 => ?_)
    clear hz_97
    obtain ⟨q9, rfl, hB9⟩ := hpost_96
    refine V.eq (st' := [.ref q9]) rfl ?_
    refine v_aret E hE rfl (Or.inl ⟨_, rfl⟩) dJ16_divideKnuth_55 (Or.inr ⟨_, rfl⟩) ?_
    exact ⟨q9, rfl, hB9⟩
  ·
    refine V.eq (st' := [.ref r]) rfl ?_
    refine v_pop E rfl dJ16_divideKnuth_41 ?_
    refine v_aload_n E 2 rfl dJ16_divideKnuth_42 ?_
    refine v_aload_n E 3 rfl dJ16_divideKnuth_43 ?_
    refine v_getf E in_J16 hz_91 (ci := 6) rfl 0 (by decide) q494 rfl (v := vi x.sign) rfl dJ16_divideKnuth_44 ?_
    refine v_aload_n E 4 rfl dJ16_divideKnuth_47 ?_
    refine v_getf E in_J16 hz_92 (ci := 6) rfl 0 (by decide) q494 rfl (v := vi y.sign) rfl dJ16_divideKnuth_48 ?_
    refine v_imul E dJ16_divideKnuth_51 ?_
    refine V.frame (fun hfz_fr_99 hfk_fr_99 => ?_)
    rw [hH0] at hfz_fr_99 hfk_fr_99
    rw [hA0] at hfk_fr_99
    have htR := td_R (x := x) hy0
    have hdl := Nat.div_le_self x.natAbs y.natAbs
    have hn2N : n2 ≤ N := ints_le (Int.natCast_nonneg _) hIq (Int.lt_of_le_of_lt (Int.ofNat_le.mpr hdl) hNx)
    have hIp := ints_pos (Int.natCast_nonneg _) hIq
    have hsy := sgn3 y
    have hsx := sgn3 x
    have hR0 : (n2 = 0 ∨ x.sign * y.sign = 0) → x.tdiv y = 0 := by
      intro h
      rcases h with h | h
      · omega
      · rcases Int.mul_eq_zero.mp h with h | h
        · rw [sg_zero h, Int.zero_tdiv]
        · exact absurd (sg_zero h) hy0
    have hR1 : ¬ n2 = 0 → ¬ x.sign * y.sign = 0 → ((x.tdiv y).natAbs : Int) = ((x.natAbs / y.natAbs : Nat) : Int) ∧ (x.tdiv y).sign = x.sign * y.sign := fun h1 _ => ⟨congrArg Nat.cast htR.1, htR.2 (by omega)⟩
    refine v_callV E (As := [vi (x.sign * y.sign)]) (b := c) (ci := 9) (C := RJ26) (T := TJ26) (N := 3) hMq9.1 rfl (h_toB κ H_87 (R := x.tdiv y) (c := x.sign * y.sign) (hC.call (fun q h => h.elim) hfz_fr_99 hfk_fr_99) ⟨Nat.le_trans hC.le hcH, hv2q.elim (fun h => by rw [h]; exact Nat.le_trans hC.le hvqH) (fun h => Nat.le_trans hC.le (by omega))⟩ (Or.inr (Nat.le_trans hC.m (hv2q.elim (fun h => by rw [h]; exact hvqH) (fun h => by omega)))) hIq (sgm x y) hR0 hR1 hMq9) (lw_V q1421 q1377 q1378 q101 q1379) 1 (by decide +kernel) rfl (by decide) (by decide) (cb' := 0) (sb' := 0) (by omega) (by omega) rfl (rest := []) (Nat.le_of_ble_eq_true rfl) (fun q9 h => hNew q9 (h.elim (fun h => by rw [h]; exact hcH) (fun h => hv2q.elim (fun h2 => by rw [h, h2]; exact hvqH) (fun h2 => by rw [h]; omega)))) dJ16_divideKnuth_52 (fun v_100 H_101 hpost_102 hz_103 hk_104 => ?_)
    clear hz_103
    obtain ⟨q9, rfl, hB9⟩ := hpost_102
    refine V.eq (st' := [.ref q9]) rfl ?_
    refine v_aret E hE rfl (Or.inl ⟨_, rfl⟩) dJ16_divideKnuth_55 (Or.inr ⟨_, rfl⟩) ?_
    exact ⟨q9, rfl, hB9⟩

set_option maxHeartbeats 400000 in
set_option maxRecDepth 100000 in
/-- division of big integers -/
theorem g_div (κ : zK) (H0 : Heap) {a : Nat} {x : Int} {b : Nat} {y : Int} {N : Nat} (hC : CO κ H0) (hx : BI κ H0 a x) (hy : BI κ H0 b y) (hNx : (x.natAbs : Int) < 2 ^ (32 * N)) (hy0 : y ≠ 0)  : Mt κ yJ16_divide cJ16_divide 2 (some (.object "java/math/BigInteger")) 8 243 15 (6 * N + 30) H0 [.ref a, .ref b] (fun _ => False) (fun v H1 => ∃ q : Nat, v = some (.ref q) ∧ BI κ H1 q (x.tdiv y)) := by
  refine Mt.of (by decide) (Nat.le_of_ble_eq_true rfl) ?_
  intro z E hE hH0 hA0 hL hini
  have hAll : ∀ q, (fun _ => False) q → zA z.A z.H0 q := fun q h => Or.inl (by rw [hA0]; exact h)
  have hNew : ∀ q, H0.size ≤ q → zA z.A z.H0 q := fun q h => Or.inr (by rw [hH0]; exact h)
  have E : zOK z cJ16_divide RJ16 κ 8 243 (some (.object "java/math/BigInteger")) := E
  refine V.eqL (lv' := [(0, .ref a), (1, .ref b)]) rfl ?_
  have hD := hC.D
  have hx8 := hx
  have hy8 := hy
  obtain ⟨ma, na, cfa, ⟨c1a, c2a, c3a, hoa⟩, hma, hna, hcfa⟩ := hx
  change Hid _ at hcfa
  have hsa := sgn3 x
  have h48a := hna.1
  obtain ⟨mb, nb, cfb, ⟨c1b, c2b, c3b, hob⟩, hmb, hnb, hcfb⟩ := hy
  change Hid _ at hcfb
  have hsb := sgn3 y
  have h48b := hnb.1
  refine v_aload_n E 1 rfl dJ16_divide_0 ?_
  refine v_getf E in_J16 hob (ci := 6) rfl 1 (by decide) q496 rfl (v := .ref mb) rfl dJ16_divide_1 ?_
  refine v_alen E dJ16_divide_4 (t := 0) (ty := .int) hmb rfl ?_
  refine v_bipush E ⟨by decide, by decide⟩ dJ16_divide_5 ?_
  refine v_icmp_lt E (tgt := 26) dJ16_divide_7 (by decide) ⟨by omega, by omega⟩ ⟨by omega, by omega⟩ (fun c_7 => ?_) (fun c_7 => absurd c_7 (by omega))
  refine v_aload_n E 0 rfl dJ16_divide_26 ?_
  refine v_aload_n E 1 rfl dJ16_divide_27 ?_
  refine v_callV E (As := [.ref b]) (b := a) (ci := 6) (C := RJ16) (T := TJ16) (N := 6) hoa rfl (g_divK κ H0 hC hx8 hy8 hNx hy0) (lw_V q1426 q1428 qs37 q91 q1429) 1 (by decide +kernel) rfl (by decide) (by decide) (cb' := 0) (sb' := 0) (by omega) (by omega) rfl (rest := []) (Nat.le_of_ble_eq_true rfl) (fun q h => h.elim) dJ16_divide_28 (fun v_1 H_2 hpost_3 hz_4 hk_5 => ?_)
  clear hz_4
  obtain ⟨q9, rfl, hB9⟩ := hpost_3
  refine V.eq (st' := [.ref q9]) rfl ?_
  refine v_aret E hE rfl (Or.inl ⟨_, rfl⟩) dJ16_divide_31 (Or.inr ⟨_, rfl⟩) ?_
  exact ⟨q9, rfl, hB9⟩

set_option maxHeartbeats 400000 in
set_option maxRecDepth 100000 in
/-- max -/
theorem g_max (κ : zK) (H0 : Heap) {a : Nat} {x : Int} {b : Nat} {y : Int} (hx : BI κ H0 a x) (hy : BI κ H0 b y)  : Mt κ yJ16_max cJ16_max 2 (some (.object "java/math/BigInteger")) 2 49 0 0 H0 [.ref a, .ref b] (fun _ => False) (fun v H1 => ∃ q : Nat, v = some (.ref q) ∧ BI κ H1 q (max x y)) := by
  refine Mt.of (by decide) (Nat.le_of_ble_eq_true rfl) ?_
  intro z E hE hH0 hA0 hL hini
  have hAll : ∀ q, (fun _ => False) q → zA z.A z.H0 q := fun q h => Or.inl (by rw [hA0]; exact h)
  have hNew : ∀ q, H0.size ≤ q → zA z.A z.H0 q := fun q h => Or.inr (by rw [hH0]; exact h)
  have E : zOK z cJ16_max RJ16 κ 2 49 (some (.object "java/math/BigInteger")) := E
  refine V.eqL (lv' := [(0, .ref a), (1, .ref b)]) rfl ?_
  have hx8 := hx
  have hy8 := hy
  obtain ⟨ma, na, cfa, ⟨c1a, c2a, c3a, hoa⟩, hma, hna, hcfa⟩ := hx
  change Hid _ at hcfa
  have hsa := sgn3 x
  have h48a := hna.1
  obtain ⟨mb, nb, cfb, ⟨c1b, c2b, c3b, hob⟩, hmb, hnb, hcfb⟩ := hy
  change Hid _ at hcfb
  have hsb := sgn3 y
  have h48b := hnb.1
  refine v_aload_n E 0 rfl dJ16_max_0 ?_
  refine v_aload_n E 1 rfl dJ16_max_1 ?_
  refine v_callV E (As := [.ref b]) (b := a) (ci := 6) (C := RJ16) (T := TJ16) (N := 6) hoa rfl (g_cmp κ H0 hx8 hy8) (lw_V q1594 q658 q659 q91 q660) 1 (by decide +kernel) rfl (by decide) (by decide) (cb' := 0) (sb' := 0) (by decide) (by decide) rfl (rest := []) (Nat.le_of_ble_eq_true rfl) (fun q h => h.elim) dJ16_max_2 (fun v_1 H_2 hpost_3 hz_4 hk_5 => ?_)
  clear hz_4
  obtain ⟨o, rfl, ho9⟩ := hpost_3
  have hx9 := hx8.ext (fun q h => hk_5 q h (fun h => h))
  have hy9 := hy8.ext (fun q h => hk_5 q h (fun h => h))
  have hro : rI o := ⟨by omega, by omega⟩
  refine V.eq (st' := [vi o]) rfl ?_
  refine v_if_le E (tgt := 12) dJ16_max_5 (by decide) hro (fun c_5 => ?_) (fun c_5 => ?_)
  · refine v_aload_n E 1 rfl dJ16_max_12 ?_
    refine v_aret E hE rfl (Or.inl ⟨_, rfl⟩) dJ16_max_13 (Or.inr ⟨_, rfl⟩) ?_
    exact ⟨b, rfl, by rw [show max x y = y by omega]; exact hy9⟩
  · refine v_aload_n E 0 rfl dJ16_max_8 ?_
    refine v_goto E (tgt := 13) dJ16_max_9 (by decide) ?_
    refine v_aret E hE rfl (Or.inl ⟨_, rfl⟩) dJ16_max_13 (Or.inr ⟨_, rfl⟩) ?_
    exact ⟨a, rfl, by rw [show max x y = x by omega]; exact hx9⟩
