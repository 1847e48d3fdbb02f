set_option maxHeartbeats 400000 in
set_option maxRecDepth 100000 in
/-- opens -/
theorem m_opens (κ : zK) (H0 : Heap) {ad : Nat → Nat} {P : Nat → Nat → Int} {f g mk : Nat → Int} {S : Nat → Nat → Int} {K : Nat → Int} {thr len many : Int} {a1 a2 a3 a4 : Nat} {cap : Nat} {lv lo hi rt : Nat → Int} (hap : ∀ i, uA i → a1 ≠ ad i ∧ a2 ≠ ad i ∧ a3 ≠ ad i ∧ a4 ≠ ad i) (hmn : 0 ≤ many ∧ many ≤ (cap : Int)) (hcp : cap < 1000000) (hne : a1 ≠ a2 ∧ a1 ≠ a3 ∧ a1 ≠ a4 ∧ a2 ≠ a3 ∧ a2 ≠ a4 ∧ a3 ≠ a4) {x wn M : Nat} (hM : many = (M : Int)) (hx : x < M) (hw : 1 ≤ wn ∧ wn ≤ 2) (hc2 : 2 ≤ cap) (hcp2 : 2 * cap < 1000000) (hI : Inj ad) (hB : MB κ ad P f g mk S K thr len many a1 a2 a3 a4 H0) (hv1 : hp κ H0 a1 (eI κ cap lv)) (hv2 : hp κ H0 a2 (eI κ cap lo)) (hv3 : hp κ H0 a3 (eI κ cap hi)) (hv4 : hp κ H0 a4 (eI κ cap rt))  : Mt κ yX4_opens cX4_opens 4 (none) 1 40 4 (8 * cap) H0 [.ref (ad 3002), vi (x : Int), vi (wn : Int)] (AI ad a1 a2 a3 a4) (fun v H1 => v = none ∧ ∃ (b1 b2 b3 b4 c2 : Nat) (lv2 lo2 hi2 rt2 : Nat → Int), MB κ ad P f g mk S K thr len (many + (wn : Int)) b1 b2 b3 b4 H1 ∧ LV κ ad b1 b2 b3 b4 c2 lv2 lo2 hi2 rt2 H1 ∧ M + wn ≤ c2 ∧ (c2 = cap ∧ b1 = a1 ∧ b2 = a2 ∧ b3 = a3 ∧ b4 = a4 ∨ c2 = 2 * cap ∧ cap < M + wn ∧ H0.size ≤ b1 ∧ H0.size ≤ b2 ∧ H0.size ≤ b3 ∧ H0.size ≤ b4) ∧ ∀ j, j < M + wn → (j < M ∨ x + wn < j) → lv2 j = opK lv wn M x j ∧ lo2 j = opK lo wn M x j ∧ hi2 j = opK hi wn M x j ∧ rt2 j = opK rt wn M x j) := by
  refine Mt.of (by decide) (Nat.le_of_ble_eq_true rfl) ?_
  intro z E hE hH0 hA0 hL hini
  have hAll : ∀ q, (AI ad a1 a2 a3 a4) q → zA z.A z.H0 q := fun q h => Or.inl (by rw [hA0]; exact h)
  have hNew : ∀ q, H0.size ≤ q → zA z.A z.H0 q := fun q h => Or.inr (by rw [hH0]; exact h)
  have E : zOK z cX4_opens RX4 κ 1 40 (none) := E
  refine V.eqL (lv' := [(0, .ref (ad 3002)), (1, vi (x : Int)), (2, vi (wn : Int))]) rfl ?_
  refine v_aload_n E 0 rfl dX4_opens_0 ?_
  refine v_getf E in_X4 hB.ho (ci := 3) rfl 26 (by decide) q1786 rfl (v := vi many) rfl dX4_opens_1 ?_
  refine v_iload_n E 2 rfl dX4_opens_4 ?_
  refine v_iadd E dX4_opens_5 ?_
  refine v_aload_n E 0 rfl dX4_opens_6 ?_
  refine v_getf E in_X4 hB.ho (ci := 3) rfl 22 (by decide) q1782 rfl (v := .ref a1) rfl dX4_opens_7 ?_
  refine v_alen E dX4_opens_10 (t := 0) (ty := .int) hv1 rfl ?_
  refine v_icmp_le E (tgt := 58) dX4_opens_11 (by decide) ⟨by omega, by omega⟩ ⟨by omega, by omega⟩ (fun c_11 => ?_) (fun c_11 => ?_)
  · refine V.less (cb' := 0) (sb' := 0) (Nat.zero_le _) (Nat.zero_le _) ?_
    refine V.sub [2, 1, 0] (lv' := [(2, vi (wn : Int)), (1, vi (x : Int)), (0, .ref (ad 3002))]) rfl ?_
    exact o_shift (E.le (by decide) (by decide)) hL hap hmn hcp hne hM hx hw (by omega) hI hB hv1 hv2 hv3 hv4 hAll hE (fun H1 hB1 w1 w2 w3 w4 => ⟨rfl, a1, a2, a3, a4, cap, _, _, _, _, hB1, ⟨hap, hne, w1, w2, w3, w4⟩, by omega, Or.inl ⟨rfl, rfl, rfl, rfl, rfl⟩, fun j _ _ => ⟨rfl, rfl, rfl, rfl⟩⟩)
  · refine v_aload_n E 0 rfl dX4_opens_14 ?_
    refine v_aload_n E 0 rfl dX4_opens_15 ?_
    refine v_getf E in_X4 hB.ho (ci := 3) rfl 22 (by decide) q1782 rfl (v := .ref a1) rfl dX4_opens_16 ?_
    refine V.frame (fun hfz_a1 _ => ?_)
    rw [hH0] at hfz_a1
    refine v_callS E (As := [.ref a1]) (m_longer κ H0 (by omega) hv1) (lw_S q2134 q2135 q82 q2136) 1 (by decide +kernel) rfl (by decide) (by decide) (cb' := 3) (sb' := (6 * cap)) (by omega) (by omega) rfl (rest := [.ref (ad 3002)]) (Nat.le_of_ble_eq_true rfl) (fun q h => h.elim) dX4_opens_19 (fun v_1 H_2 hpost_3 hz_4 hk_5 => ?_)
    obtain ⟨q1, rfl, hq_q1, hv_q1⟩ := hpost_3
    have hqa_q1 : ∀ i, uA i → q1 ≠ ad i := fun i u => Nat.ne_of_gt (Nat.lt_of_lt_of_le (hB.lt u) hq_q1)
    have hn_q1_a1 : q1 ≠ a1 := Nat.ne_of_gt (Nat.lt_of_lt_of_le hv1.lt hq_q1)
    have hn_q1_a2 : q1 ≠ a2 := Nat.ne_of_gt (Nat.lt_of_lt_of_le hv2.lt hq_q1)
    have hn_q1_a3 : q1 ≠ a3 := Nat.ne_of_gt (Nat.lt_of_lt_of_le hv3.lt hq_q1)
    have hn_q1_a4 : q1 ≠ a4 := Nat.ne_of_gt (Nat.lt_of_lt_of_le hv4.lt hq_q1)
    have hv_6 := hv1.kept (hk_5 _ hv1.lt (fun h => h))
    have hv_7 := hv2.kept (hk_5 _ hv2.lt (fun h => h))
    have hv_8 := hv3.kept (hk_5 _ hv3.lt (fun h => h))
    have hv_9 := hv4.kept (hk_5 _ hv4.lt (fun h => h))
    have hB_10 : MB κ ad P f g mk S K thr len many a1 a2 a3 a4 H_2 := hB.nil hk_5
    have hs_q1 : H0.size ≤ q1 := Nat.le_trans hfz_a1 hq_q1
    have hv_q1 : hp κ H_2 q1 (eI κ (2 * cap) (gwF cap lv)) := hv_q1
    refine V.eq (st' := [.ref q1, .ref (ad 3002)]) rfl ?_
    refine v_putf E in_X4 tyX4 tyX4_ok nmX4 hB_10.ho (ci := 3) rfl 22 (Nat.le_of_ble_eq_true rfl) q1782 rfl rfl rfl rfl (Nat.le_of_ble_eq_true rfl) (hAll _ (Or.inl (AH.of (by unfold uA; omega)))) dX4_opens_22 (fun H_13 hB_11 hs_12 => ?_)
    have hv_14 := hv_6.same hs_12 (fun e => (hap _ (by unfold uA; omega)).1 e)
    have hv_15 := hv_7.same hs_12 (fun e => (hap _ (by unfold uA; omega)).2.1 e)
    have hv_16 := hv_8.same hs_12 (fun e => (hap _ (by unfold uA; omega)).2.2.1 e)
    have hv_17 := hv_9.same hs_12 (fun e => (hap _ (by unfold uA; omega)).2.2.2 e)
    have hv_18 := hv_q1.same hs_12 (hqa_q1 _ (by decide))
    have hB_11 : hp κ H_13 (ad 3002) (.inr (3, MF ad thr len many q1 a2 a3 a4)) := hB_11
    have hB_19 : MB κ ad P f g mk S K thr len many q1 a2 a3 a4 H_13 := hB_10.obj hI hs_12 hB_11
    refine v_aload_n E 0 rfl dX4_opens_25 ?_
    refine v_aload_n E 0 rfl dX4_opens_26 ?_
    refine v_getf E in_X4 hB_19.ho (ci := 3) rfl 23 (by decide) q1783 rfl (v := .ref a2) rfl dX4_opens_27 ?_
    refine V.frame (fun hfz_a2 _ => ?_)
    rw [hH0] at hfz_a2
    refine v_callS E (As := [.ref a2]) (m_longer κ H_13 (by omega) hv_15) (lw_S q2134 q2135 q82 q2136) 1 (by decide +kernel) rfl (by decide) (by decide) (cb' := 2) (sb' := (4 * cap)) (by omega) (by omega) rfl (rest := [.ref (ad 3002)]) (Nat.le_of_ble_eq_true rfl) (fun q h => h.elim) dX4_opens_30 (fun v_20 H_21 hpost_22 hz_23 hk_24 => ?_)
    obtain ⟨q2, rfl, hq_q2, hv_q2⟩ := hpost_22
    have hqa_q2 : ∀ i, uA i → q2 ≠ ad i := fun i u => Nat.ne_of_gt (Nat.lt_of_lt_of_le (hB_19.lt u) hq_q2)
    have hn_q2_a1 : q2 ≠ a1 := Nat.ne_of_gt (Nat.lt_of_lt_of_le hv_14.lt hq_q2)
    have hn_q2_a2 : q2 ≠ a2 := Nat.ne_of_gt (Nat.lt_of_lt_of_le hv_15.lt hq_q2)
    have hn_q2_a3 : q2 ≠ a3 := Nat.ne_of_gt (Nat.lt_of_lt_of_le hv_16.lt hq_q2)
    have hn_q2_a4 : q2 ≠ a4 := Nat.ne_of_gt (Nat.lt_of_lt_of_le hv_17.lt hq_q2)
    have hn_q2_q1 : q2 ≠ q1 := Nat.ne_of_gt (Nat.lt_of_lt_of_le hv_18.lt hq_q2)
    have hv_25 := hv_14.kept (hk_24 _ hv_14.lt (fun h => h))
    have hv_26 := hv_15.kept (hk_24 _ hv_15.lt (fun h => h))
    have hv_27 := hv_16.kept (hk_24 _ hv_16.lt (fun h => h))
    have hv_28 := hv_17.kept (hk_24 _ hv_17.lt (fun h => h))
    have hv_29 := hv_18.kept (hk_24 _ hv_18.lt (fun h => h))
    have hB_30 : MB κ ad P f g mk S K thr len many q1 a2 a3 a4 H_21 := hB_19.nil hk_24
    have hs_q2 : H0.size ≤ q2 := Nat.le_trans hfz_a2 hq_q2
    have hv_q2 : hp κ H_21 q2 (eI κ (2 * cap) (gwF cap lo)) := hv_q2
    refine V.eq (st' := [.ref q2, .ref (ad 3002)]) rfl ?_
    refine v_putf E in_X4 tyX4 tyX4_ok nmX4 hB_30.ho (ci := 3) rfl 23 (Nat.le_of_ble_eq_true rfl) q1783 rfl rfl rfl rfl (Nat.le_of_ble_eq_true rfl) (hAll _ (Or.inl (AH.of (by unfold uA; omega)))) dX4_opens_33 (fun H_33 hB_31 hs_32 => ?_)
    have hv_34 := hv_25.same hs_32 (fun e => (hap _ (by unfold uA; omega)).1 e)
    have hv_35 := hv_26.same hs_32 (fun e => (hap _ (by unfold uA; omega)).2.1 e)
    have hv_36 := hv_27.same hs_32 (fun e => (hap _ (by unfold uA; omega)).2.2.1 e)
    have hv_37 := hv_28.same hs_32 (fun e => (hap _ (by unfold uA; omega)).2.2.2 e)
    have hv_38 := hv_29.same hs_32 (hqa_q1 _ (by decide))
    have hv_39 := hv_q2.same hs_32 (hqa_q2 _ (by decide))
    have hB_31 : hp κ H_33 (ad 3002) (.inr (3, MF ad thr len many q1 q2 a3 a4)) := hB_31
    have hB_40 : MB κ ad P f g mk S K thr len many q1 q2 a3 a4 H_33 := hB_30.obj hI hs_32 hB_31
    refine v_aload_n E 0 rfl dX4_opens_36 ?_
    refine v_aload_n E 0 rfl dX4_opens_37 ?_
    refine v_getf E in_X4 hB_40.ho (ci := 3) rfl 24 (by decide) q1784 rfl (v := .ref a3) rfl dX4_opens_38 ?_
    refine V.frame (fun hfz_a3 _ => ?_)
    rw [hH0] at hfz_a3
    refine v_callS E (As := [.ref a3]) (m_longer κ H_33 (by omega) hv_36) (lw_S q2134 q2135 q82 q2136) 1 (by decide +kernel) rfl (by decide) (by decide) (cb' := 1) (sb' := (2 * cap)) (by omega) (by omega) rfl (rest := [.ref (ad 3002)]) (Nat.le_of_ble_eq_true rfl) (fun q h => h.elim) dX4_opens_41 (fun v_41 H_42 hpost_43 hz_44 hk_45 => ?_)
    obtain ⟨q3, rfl, hq_q3, hv_q3⟩ := hpost_43
    have hqa_q3 : ∀ i, uA i → q3 ≠ ad i := fun i u => Nat.ne_of_gt (Nat.lt_of_lt_of_le (hB_40.lt u) hq_q3)
    have hn_q3_a1 : q3 ≠ a1 := Nat.ne_of_gt (Nat.lt_of_lt_of_le hv_34.lt hq_q3)
    have hn_q3_a2 : q3 ≠ a2 := Nat.ne_of_gt (Nat.lt_of_lt_of_le hv_35.lt hq_q3)
    have hn_q3_a3 : q3 ≠ a3 := Nat.ne_of_gt (Nat.lt_of_lt_of_le hv_36.lt hq_q3)
    have hn_q3_a4 : q3 ≠ a4 := Nat.ne_of_gt (Nat.lt_of_lt_of_le hv_37.lt hq_q3)
    have hn_q3_q1 : q3 ≠ q1 := Nat.ne_of_gt (Nat.lt_of_lt_of_le hv_38.lt hq_q3)
    have hn_q3_q2 : q3 ≠ q2 := Nat.ne_of_gt (Nat.lt_of_lt_of_le hv_39.lt hq_q3)
    have hv_46 := hv_34.kept (hk_45 _ hv_34.lt (fun h => h))
    have hv_47 := hv_35.kept (hk_45 _ hv_35.lt (fun h => h))
    have hv_48 := hv_36.kept (hk_45 _ hv_36.lt (fun h => h))
    have hv_49 := hv_37.kept (hk_45 _ hv_37.lt (fun h => h))
    have hv_50 := hv_38.kept (hk_45 _ hv_38.lt (fun h => h))
    have hv_51 := hv_39.kept (hk_45 _ hv_39.lt (fun h => h))
    have hB_52 : MB κ ad P f g mk S K thr len many q1 q2 a3 a4 H_42 := hB_40.nil hk_45
    have hs_q3 : H0.size ≤ q3 := Nat.le_trans hfz_a3 hq_q3
    have hv_q3 : hp κ H_42 q3 (eI κ (2 * cap) (gwF cap hi)) := hv_q3
    refine V.eq (st' := [.ref q3, .ref (ad 3002)]) rfl ?_
    refine v_putf E in_X4 tyX4 tyX4_ok nmX4 hB_52.ho (ci := 3) rfl 24 (Nat.le_of_ble_eq_true rfl) q1784 rfl rfl rfl rfl (Nat.le_of_ble_eq_true rfl) (hAll _ (Or.inl (AH.of (by unfold uA; omega)))) dX4_opens_44 (fun H_55 hB_53 hs_54 => ?_)
    have hv_56 := hv_46.same hs_54 (fun e => (hap _ (by unfold uA; omega)).1 e)
    have hv_57 := hv_47.same hs_54 (fun e => (hap _ (by unfold uA; omega)).2.1 e)
    have hv_58 := hv_48.same hs_54 (fun e => (hap _ (by unfold uA; omega)).2.2.1 e)
    have hv_59 := hv_49.same hs_54 (fun e => (hap _ (by unfold uA; omega)).2.2.2 e)
    have hv_60 := hv_50.same hs_54 (hqa_q1 _ (by decide))
    have hv_61 := hv_51.same hs_54 (hqa_q2 _ (by decide))
    have hv_62 := hv_q3.same hs_54 (hqa_q3 _ (by decide))
    have hB_53 : hp κ H_55 (ad 3002) (.inr (3, MF ad thr len many q1 q2 q3 a4)) := hB_53
    have hB_63 : MB κ ad P f g mk S K thr len many q1 q2 q3 a4 H_55 := hB_52.obj hI hs_54 hB_53
    refine v_aload_n E 0 rfl dX4_opens_47 ?_
    refine v_aload_n E 0 rfl dX4_opens_48 ?_
    refine v_getf E in_X4 hB_63.ho (ci := 3) rfl 25 (by decide) q1785 rfl (v := .ref a4) rfl dX4_opens_49 ?_
    refine V.frame (fun hfz_a4 _ => ?_)
    rw [hH0] at hfz_a4
    refine v_callS E (As := [.ref a4]) (m_longer κ H_55 (by omega) hv_59) (lw_S q2134 q2135 q82 q2136) 1 (by decide +kernel) rfl (by decide) (by decide) (cb' := 0) (sb' := 0) (by omega) (by omega) rfl (rest := [.ref (ad 3002)]) (Nat.le_of_ble_eq_true rfl) (fun q h => h.elim) dX4_opens_52 (fun v_64 H_65 hpost_66 hz_67 hk_68 => ?_)
    obtain ⟨q4, rfl, hq_q4, hv_q4⟩ := hpost_66
    have hqa_q4 : ∀ i, uA i → q4 ≠ ad i := fun i u => Nat.ne_of_gt (Nat.lt_of_lt_of_le (hB_63.lt u) hq_q4)
    have hn_q4_a1 : q4 ≠ a1 := Nat.ne_of_gt (Nat.lt_of_lt_of_le hv_56.lt hq_q4)
    have hn_q4_a2 : q4 ≠ a2 := Nat.ne_of_gt (Nat.lt_of_lt_of_le hv_57.lt hq_q4)
    have hn_q4_a3 : q4 ≠ a3 := Nat.ne_of_gt (Nat.lt_of_lt_of_le hv_58.lt hq_q4)
    have hn_q4_a4 : q4 ≠ a4 := Nat.ne_of_gt (Nat.lt_of_lt_of_le hv_59.lt hq_q4)
    have hn_q4_q1 : q4 ≠ q1 := Nat.ne_of_gt (Nat.lt_of_lt_of_le hv_60.lt hq_q4)
    have hn_q4_q2 : q4 ≠ q2 := Nat.ne_of_gt (Nat.lt_of_lt_of_le hv_61.lt hq_q4)
    have hn_q4_q3 : q4 ≠ q3 := Nat.ne_of_gt (Nat.lt_of_lt_of_le hv_62.lt hq_q4)
    have hv_69 := hv_56.kept (hk_68 _ hv_56.lt (fun h => h))
    have hv_70 := hv_57.kept (hk_68 _ hv_57.lt (fun h => h))
    have hv_71 := hv_58.kept (hk_68 _ hv_58.lt (fun h => h))
    have hv_72 := hv_59.kept (hk_68 _ hv_59.lt (fun h => h))
    have hv_73 := hv_60.kept (hk_68 _ hv_60.lt (fun h => h))
    have hv_74 := hv_61.kept (hk_68 _ hv_61.lt (fun h => h))
    have hv_75 := hv_62.kept (hk_68 _ hv_62.lt (fun h => h))
    have hB_76 : MB κ ad P f g mk S K thr len many q1 q2 q3 a4 H_65 := hB_63.nil hk_68
    have hs_q4 : H0.size ≤ q4 := Nat.le_trans hfz_a4 hq_q4
    have hv_q4 : hp κ H_65 q4 (eI κ (2 * cap) (gwF cap rt)) := hv_q4
    refine V.eq (st' := [.ref q4, .ref (ad 3002)]) rfl ?_
    refine v_putf E in_X4 tyX4 tyX4_ok nmX4 hB_76.ho (ci := 3) rfl 25 (Nat.le_of_ble_eq_true rfl) q1785 rfl rfl rfl rfl (Nat.le_of_ble_eq_true rfl) (hAll _ (Or.inl (AH.of (by unfold uA; omega)))) dX4_opens_55 (fun H_79 hB_77 hs_78 => ?_)
    have hv_80 := hv_69.same hs_78 (fun e => (hap _ (by unfold uA; omega)).1 e)
    have hv_81 := hv_70.same hs_78 (fun e => (hap _ (by unfold uA; omega)).2.1 e)
    have hv_82 := hv_71.same hs_78 (fun e => (hap _ (by unfold uA; omega)).2.2.1 e)
    have hv_83 := hv_72.same hs_78 (fun e => (hap _ (by unfold uA; omega)).2.2.2 e)
    have hv_84 := hv_73.same hs_78 (hqa_q1 _ (by decide))
    have hv_85 := hv_74.same hs_78 (hqa_q2 _ (by decide))
    have hv_86 := hv_75.same hs_78 (hqa_q3 _ (by decide))
    have hv_87 := hv_q4.same hs_78 (hqa_q4 _ (by decide))
    have hB_77 : hp κ H_79 (ad 3002) (.inr (3, MF ad thr len many q1 q2 q3 q4)) := hB_77
    have hB_88 : MB κ ad P f g mk S K thr len many q1 q2 q3 q4 H_79 := hB_76.obj hI hs_78 hB_77
    refine V.less (cb' := 0) (sb' := 0) (Nat.zero_le _) (Nat.zero_le _) ?_
    refine V.sub [2, 1, 0] (lv' := [(2, vi (wn : Int)), (1, vi (x : Int)), (0, .ref (ad 3002))]) rfl ?_
    have hap9 : ∀ i, uA i → q1 ≠ ad i ∧ q2 ≠ ad i ∧ q3 ≠ ad i ∧ q4 ≠ ad i := fun i u => ⟨hqa_q1 i u, hqa_q2 i u, hqa_q3 i u, hqa_q4 i u⟩
    have hne9 : q1 ≠ q2 ∧ q1 ≠ q3 ∧ q1 ≠ q4 ∧ q2 ≠ q3 ∧ q2 ≠ q4 ∧ q3 ≠ q4 := ⟨Ne.symm hn_q2_q1, Ne.symm hn_q3_q1, Ne.symm hn_q4_q1, Ne.symm hn_q3_q2, Ne.symm hn_q4_q2, Ne.symm hn_q4_q3⟩
    refine o_shift (cap := 2 * cap) (E.le (by decide) (by decide)) hL hap9 (by omega) (by omega) hne9 hM hx hw (by omega) hI hB_88 hv_84 hv_85 hv_86 hv_87 (fun q h => ?_) hE (fun H1 hB1 w1 w2 w3 w4 => ⟨rfl, q1, q2, q3, q4, 2 * cap, _, _, _, _, hB1, ⟨hap9, hne9, w1, w2, w3, w4⟩, by omega, Or.inr ⟨rfl, by omega, hs_q1, hs_q2, hs_q3, hs_q4⟩, fun j h1 h2 => ⟨opK_gw (by omega) (by omega) hx h1 h2, opK_gw (by omega) (by omega) hx h1 h2, opK_gw (by omega) (by omega) hx h1 h2, opK_gw (by omega) (by omega) hx h1 h2⟩⟩)
    rcases h with h | h | h | h | h
    · exact hAll q (Or.inl h)
    · exact hNew q (by omega)
    · exact hNew q (by omega)
    · exact hNew q (by omega)
    · exact hNew q (by omega)
