theorem gcd_k {x y i j k : Nat} (hi : isZeros (x : Int) i) (hj : isZeros (y : Int) j) (hki : k ≤ i) (hkj : k ≤ j) : 2 ^ k * Nat.gcd (x / 2 ^ k) (y / 2 ^ k) = Nat.gcd x y := by
  have h1 := (zeros_split hi).1
  have h2 := (zeros_split hj).1
  have d1 : 2 ^ k ∣ x := by rw [h1]; exact Nat.dvd_trans (Nat.pow_dvd_pow 2 hki) (Nat.dvd_mul_right _ _)
  have d2 : 2 ^ k ∣ y := by rw [h2]; exact Nat.dvd_trans (Nat.pow_dvd_pow 2 hkj) (Nat.dvd_mul_right _ _)
  rw [← Nat.gcd_mul_left, Nat.mul_div_cancel' d1, Nat.mul_div_cancel' d2]
theorem zeros_le {x i k : Nat} (hx : 0 < x) (hi : isZeros (x : Int) i) (hk : k ≤ i) : 0 < x / 2 ^ k := by
  have h1 := (zeros_split hi).1
  have d1 : 2 ^ k ∣ x := by rw [h1]; exact Nat.dvd_trans (Nat.pow_dvd_pow 2 hk) (Nat.dvd_mul_right _ _)
  exact Nat.div_pos (Nat.le_of_dvd hx d1) (Nat.pos_of_ne_zero (by have := Nat.pow_pos (n := k) (show 0 < 2 by decide); omega))
theorem sB_nat {x n G : Nat} (h : isInts (x : Int) n) (hG : G ≤ x) : sB (G : Int) := by
  have h1 := h.2.1
  have h2 := pw_mono (show 32 * n ≤ 1536 by have := h.1; omega)
  unfold sB
  generalize (2 : Int) ^ 1536 = A at h2 ⊢
  omega
set_option maxHeartbeats 2000000 in
set_option maxRecDepth 100000 in
/-- binary gcd -/
theorem h_bg (κ : zK) (H0 : Heap) {a v o n cap : Nat} {f : Nat → Int} {x : Nat} {b w p m cbp : Nat} {g : Nat → Int} {y : Nat} (hC : CO κ H0) (hx : 0 < x) (hy : 0 < y) (hne_a_b : a ≠ b) (hne_v_w : v ≠ w) {B : Nat} (hB : B ≤ H0.size) (h93 : B ≤ a ∧ B ≤ v ∧ B ≤ b ∧ B ≤ w) (hn : isInts (x : Int) n) (hm : isInts (y : Int) m) (hM : MI κ H0 a v o n cap f (x : Int)) (hM2 : MI κ H0 b w p m cbp g (y : Int))  : Mt κ yJ26_binaryGCD cJ26_binaryGCD 13 (some (.object "java/math/MutableBigInteger")) 3 68 3 101 H0 [.ref a, .ref b] (fun q => q = a ∨ q = v ∨ q = b ∨ q = w) (fun v9 H1 => ∃ (q v2 o2 n2 cap2 : Nat) (f2 : Nat → Int), v9 = some (.ref q) ∧ MI κ H1 q v2 o2 n2 cap2 f2 ((Nat.gcd x y : Nat) : Int) ∧ isInts ((Nat.gcd x y : Nat) : Int) n2 ∧ B ≤ q ∧ B ≤ v2) := by
  refine Mt.of (by decide) (Nat.le_of_ble_eq_true rfl) ?_
  intro z E hE hH0 hA0 hL hini
  have hAll : ∀ q, (fun q => q = a ∨ q = v ∨ q = b ∨ q = w) q → zA z.A z.H0 q := fun q h => Or.inl (by rw [hA0]; exact h)
  have hNew : ∀ q, H0.size ≤ q → zA z.A z.H0 q := fun q h => Or.inr (by rw [hH0]; exact h)
  have E : zOK z cJ26_binaryGCD RJ26 κ 3 68 (some (.object "java/math/MutableBigInteger")) := E
  refine V.eqL (lv' := [(0, .ref a), (1, .ref b)]) rfl ?_
  obtain ⟨hoa, hv, hcap, hc2, hW, hX0, hX1⟩ := hM
  obtain ⟨hob, hw, hcap2, hc22, hW2, hX02, hX12⟩ := hM2
  have h48 := hn.1
  have h48m := hm.1
  have hD := hC.D
  have hne_v_a : v ≠ a := Ne.symm (hp.ka hD hoa hv (by decide) (by decide))
  have hne_v_b : v ≠ b := Ne.symm (hp.ka hD hob hv (by decide) (by decide))
  have hne_w_a : w ≠ a := Ne.symm (hp.ka hD hoa hw (by decide) (by decide))
  have hne_w_b : w ≠ b := Ne.symm (hp.ka hD hob hw (by decide) (by decide))
  refine v_aload_n E 0 rfl dJ26_binaryGCD_0 ?_
  refine v_astore_n E dJ26_binaryGCD_1 (zlt hL rfl) (lv' := [(2, .ref a), (0, .ref a), (1, .ref b)]) rfl ?_
  refine V.frame (fun hfz_fr_1 hfk_fr_1 => ?_)
  rw [hH0] at hfz_fr_1 hfk_fr_1
  rw [hA0] at hfk_fr_1
  refine v_new E in_J26 tyJ26 tyJ26_ok q1186 q1166 q101 (ci := 9) rfl (fs := [.null, vi 0, vi 0]) (fun j hj => by rcases (show j = 0 ∨ j = 1 ∨ j = 2 by omega) with rfl | rfl | rfl <;> rfl) (cb' := 2) (sb' := 98) (by decide) (by decide) dJ26_binaryGCD_2 (fun r H_2 hq_5 ho_3 hg_4 => ?_)
  have hne_a_r : a ≠ r := by have := hoa.lt; omega
  have hne_v_r : v ≠ r := by have := hv.lt; omega
  have hne_b_r : b ≠ r := by have := hob.lt; omega
  have hne_w_r : w ≠ r := by have := hw.lt; omega
  have hoa_10 := hoa.grow hg_4
  have hv_11 := hv.grow hg_4
  have hob_12 := hob.grow hg_4
  have hw_13 := hw.grow hg_4
  refine v_dup E rfl dJ26_binaryGCD_5 ?_
  refine V.frame (fun hfz_fr_14 hfk_fr_14 => ?_)
  rw [hH0] at hfz_fr_14 hfk_fr_14
  rw [hA0] at hfk_fr_14
  refine v_callI E (As := []) (b := r) (h_i2 κ H_2 ho_3) q1189 q101 q1187 q1188 rfl 0 (by decide +kernel) rfl (by decide) (by decide) (cb' := 1) (sb' := 97) (by decide) (by decide) rfl (rest := [.ref r]) (Nat.le_of_ble_eq_true rfl) (fun q h => hNew q (by rw [show q = r from h]; omega)) dJ26_binaryGCD_6 (fun v_15 H_16 hpost_17 hz_18 hk_19 => ?_)
  clear hz_18
  obtain ⟨rfl, vr, hvr9, hr, hvr, _⟩ := hpost_17
  have hne_vr_a : vr ≠ a := Nat.ne_of_gt (Nat.lt_of_lt_of_le hoa_10.lt hvr9)
  have hne_r_a : r ≠ a := Ne.symm hne_a_r
  have hne_vr_v : vr ≠ v := Nat.ne_of_gt (Nat.lt_of_lt_of_le hv_11.lt hvr9)
  have hne_r_v : r ≠ v := Ne.symm hne_v_r
  have hne_vr_b : vr ≠ b := Nat.ne_of_gt (Nat.lt_of_lt_of_le hob_12.lt hvr9)
  have hne_r_b : r ≠ b := Ne.symm hne_b_r
  have hne_vr_w : vr ≠ w := Nat.ne_of_gt (Nat.lt_of_lt_of_le hw_13.lt hvr9)
  have hne_r_w : r ≠ w := Ne.symm hne_w_r
  have hne_vr_r : vr ≠ r := Ne.symm (hp.ka hD hr hvr (by decide) (by decide))
  have hvrH : H0.size ≤ vr := Nat.le_trans hfz_fr_14 hvr9
  have hz_20 := hoa_10.kept (hk_19 _ hoa_10.lt (fun h => hne_a_r h))
  have hz_21 := hv_11.kept (hk_19 _ hv_11.lt (fun h => hne_v_r h))
  have hz_22 := hob_12.kept (hk_19 _ hob_12.lt (fun h => hne_b_r h))
  have hz_23 := hw_13.kept (hk_19 _ hw_13.lt (fun h => hne_w_r h))
  refine V.eq (st' := [.ref r]) rfl ?_
  refine v_astore_n E dJ26_binaryGCD_9 (zlt hL rfl) (lv' := [(3, .ref r), (2, .ref a), (0, .ref a), (1, .ref b)]) rfl ?_
  refine v_aload_n E 1 rfl dJ26_binaryGCD_10 ?_
  refine v_callV E (As := []) (b := a) (ci := 9) (C := RJ26) (T := TJ26) (N := 3) hz_20 rfl (h_lsb κ H_16 hD hn (ints_pos' hx hn) ⟨hz_20, hz_21, hcap, hc2, hW, hX0, hX1⟩) (lw_V q1197 q1199 qs20 q101 q1200) 0 (by decide +kernel) rfl (by decide) (by decide) (cb' := 1) (sb' := 97) (by decide) (by decide) rfl (rest := []) (Nat.le_of_ble_eq_true rfl) (fun q h => h.elim) dJ26_binaryGCD_11 (fun v_24 H_25 hpost_26 hz_27 hk_28 => ?_)
  clear hz_27
  obtain ⟨i, rfl, hi, hil⟩ := hpost_26
  have hz_29 := hz_20.kept (hk_28 _ hz_20.lt (fun h => h))
  have hz_30 := hz_21.kept (hk_28 _ hz_21.lt (fun h => h))
  have hz_31 := hz_22.kept (hk_28 _ hz_22.lt (fun h => h))
  have hz_32 := hz_23.kept (hk_28 _ hz_23.lt (fun h => h))
  have hz_33 := hr.kept (hk_28 _ hr.lt (fun h => h))
  have hz_34 := hvr.kept (hk_28 _ hvr.lt (fun h => h))
  refine V.eq (st' := [vi (i : Int)]) rfl ?_
  refine v_istore E dJ26_binaryGCD_14 (zlt hL rfl) (lv' := [(4, vi (i : Int)), (3, .ref r), (2, .ref a), (0, .ref a), (1, .ref b)]) rfl ?_
  refine v_aload_n E 4 rfl dJ26_binaryGCD_16 ?_
  refine v_callV E (As := []) (b := b) (ci := 9) (C := RJ26) (T := TJ26) (N := 3) hz_31 rfl (h_lsb κ H_25 hD hm (ints_pos' hy hm) ⟨hz_31, hz_32, hcap2, hc22, hW2, hX02, hX12⟩) (lw_V q1197 q1199 qs20 q101 q1200) 0 (by decide +kernel) rfl (by decide) (by decide) (cb' := 1) (sb' := 97) (by decide) (by decide) rfl (rest := []) (Nat.le_of_ble_eq_true rfl) (fun q h => h.elim) dJ26_binaryGCD_17 (fun v_35 H_36 hpost_37 hz_38 hk_39 => ?_)
  clear hz_38
  obtain ⟨j, rfl, hj, hjl⟩ := hpost_37
  have hz_40 := hz_29.kept (hk_39 _ hz_29.lt (fun h => h))
  have hz_41 := hz_30.kept (hk_39 _ hz_30.lt (fun h => h))
  have hz_42 := hz_31.kept (hk_39 _ hz_31.lt (fun h => h))
  have hz_43 := hz_32.kept (hk_39 _ hz_32.lt (fun h => h))
  have hz_44 := hz_33.kept (hk_39 _ hz_33.lt (fun h => h))
  have hz_45 := hz_34.kept (hk_39 _ hz_34.lt (fun h => h))
  refine V.eq (st' := [vi (j : Int)]) rfl ?_
  refine v_istore E dJ26_binaryGCD_20 (zlt hL rfl) (lv' := [(5, vi (j : Int)), (4, vi (i : Int)), (3, .ref r), (2, .ref a), (0, .ref a), (1, .ref b)]) rfl ?_
  refine v_iload E 1 rfl dJ26_binaryGCD_22 ?_
  refine v_iload E 0 rfl dJ26_binaryGCD_24 ?_
  refine v_icmp_ge E (tgt := 34) dJ26_binaryGCD_26 (by decide) ⟨by omega, by omega⟩ ⟨by omega, by omega⟩ (fun c_26 => ?_) (fun c_26 => ?_)
  · refine v_iload E 0 rfl dJ26_binaryGCD_34 ?_
    obtain ⟨k, hk9⟩ : ∃ k, k = min i j := ⟨_, rfl⟩
    refine V.topi (x' := (k : Int)) (congrArg iZ (by omega)) ?_
    refine v_istore E dJ26_binaryGCD_36 (zlt hL rfl) (lv' := [(6, vi (k : Int)), (5, vi (j : Int)), (4, vi (i : Int)), (3, .ref r), (2, .ref a), (0, .ref a), (1, .ref b)]) rfl ?_
    refine v_iload E 0 rfl dJ26_binaryGCD_38 ?_
    refine v_if_eq E (tgt := 55) dJ26_binaryGCD_40 (by decide) ⟨by omega, by omega⟩ (fun c_40 => ?_) (fun c_40 => ?_)
    · refine v_iload E 0 rfl dJ26_binaryGCD_55 ?_
      refine v_iload E 2 rfl dJ26_binaryGCD_57 ?_
      refine v_icmp_ne E (tgt := 66) dJ26_binaryGCD_59 (by decide) ⟨by omega, by omega⟩ ⟨by omega, by omega⟩ (fun c_59 => ?_) (fun c_59 => ?_)
      · refine v_iconst E dJ26_binaryGCD_66 ?_
        refine v_istore E dJ26_binaryGCD_67 (zlt hL rfl) (lv' := [(7, vi 0), (6, vi (k : Int)), (5, vi (j : Int)), (4, vi (i : Int)), (3, .ref r), (2, .ref a), (0, .ref a), (1, .ref b)]) rfl ?_
        refine v_iload E 0 rfl dJ26_binaryGCD_69 ?_
        refine v_if_eq E (tgt := 78) dJ26_binaryGCD_71 (by decide) ⟨by omega, by omega⟩ (fun c_71 => ?_) (fun c_71 => absurd c_71 (by omega))
        refine v_aload_n E 5 rfl dJ26_binaryGCD_78 ?_
        refine v_astore E dJ26_binaryGCD_79 (zlt hL rfl) (lv' := [(8, .ref a), (7, vi 0), (6, vi (k : Int)), (5, vi (j : Int)), (4, vi (i : Int)), (3, .ref r), (2, .ref a), (0, .ref a), (1, .ref b)]) rfl ?_
        refine v_iload E 1 rfl dJ26_binaryGCD_81 ?_
        refine v_if_eq E (tgt := 90) dJ26_binaryGCD_83 (by decide) ⟨by omega, by omega⟩ (fun c_83 => ?_) (fun c_83 => absurd c_83 (by omega))
        refine v_iconst E dJ26_binaryGCD_90 ?_
        refine v_istore E dJ26_binaryGCD_91 (zlt hL rfl) (lv' := [(9, vi 1), (8, .ref a), (7, vi 0), (6, vi (k : Int)), (5, vi (j : Int)), (4, vi (i : Int)), (3, .ref r), (2, .ref a), (0, .ref a), (1, .ref b)]) rfl ?_
        refine V.sub [1, 0, 3, 6, 7, 9] (lv' := [(8, .ref a), (9, vi 1), (6, vi (k : Int)), (3, .ref r), (2, .ref a), (1, .ref b)]) rfl ?_
        refine V.less (cb' := 1) (sb' := 48 + k / 32 + 1) (by omega) (by omega) ?_
        exact h_bgL E hL hD (by omega) hE hH0 ⟨h93.1, h93.2.1, h93.2.2.1, h93.2.2.2, Nat.le_trans hB (by omega), Nat.le_trans hB hvrH⟩ hB hc2 hc22 (sB_nat hn (Nat.gcd_le_left _ hx)) hne_a_b hne_v_w hne_v_a hne_v_b hne_w_a hne_w_b hne_r_a hne_r_b hne_vr_a hne_vr_b hne_vr_v hne_vr_w hne_vr_r hne_v_r hne_w_r ⟨fun q h => hNew q (by rw [h]; omega), fun q h => hNew q (by rw [h]; exact hvrH)⟩ (Nat.le_refl 48) (fun q h => hAll q h) hx hy hn hm hcap hcap2 hW hW2 (Or.inl ⟨rfl, by decide, (by have := (zeros_split hj).2; rw [show j = 0 by omega, Nat.pow_zero, Nat.div_one] at this; exact this)⟩) ⟨by decide, by decide⟩ (by have := gcd_k hi hj (show k ≤ i by omega) (show k ≤ j by omega); rw [show k = 0 by omega] at this ⊢; simpa using this) hz_40 hz_41 hz_42 hz_43 hz_44 hz_45
      · refine v_iconst E dJ26_binaryGCD_62 ?_
        refine v_goto E (tgt := 67) dJ26_binaryGCD_63 (by decide) ?_
        refine v_istore E dJ26_binaryGCD_67 (zlt hL rfl) (lv' := [(7, vi 1), (6, vi (k : Int)), (5, vi (j : Int)), (4, vi (i : Int)), (3, .ref r), (2, .ref a), (0, .ref a), (1, .ref b)]) rfl ?_
        refine v_iload E 0 rfl dJ26_binaryGCD_69 ?_
        refine v_if_eq E (tgt := 78) dJ26_binaryGCD_71 (by decide) ⟨by omega, by omega⟩ (fun c_71 => absurd c_71 (by omega)) (fun c_71 => ?_)
        refine v_aload_n E 7 rfl dJ26_binaryGCD_74 ?_
        refine v_goto E (tgt := 79) dJ26_binaryGCD_75 (by decide) ?_
        refine v_astore E dJ26_binaryGCD_79 (zlt hL rfl) (lv' := [(8, .ref b), (7, vi 1), (6, vi (k : Int)), (5, vi (j : Int)), (4, vi (i : Int)), (3, .ref r), (2, .ref a), (0, .ref a), (1, .ref b)]) rfl ?_
        refine v_iload E 1 rfl dJ26_binaryGCD_81 ?_
        refine v_if_eq E (tgt := 90) dJ26_binaryGCD_83 (by decide) ⟨by omega, by omega⟩ (fun c_83 => absurd c_83 (by omega)) (fun c_83 => ?_)
        refine v_iconst E dJ26_binaryGCD_86 ?_
        refine v_goto E (tgt := 91) dJ26_binaryGCD_87 (by decide) ?_
        refine v_istore E dJ26_binaryGCD_91 (zlt hL rfl) (lv' := [(9, vi (-1)), (8, .ref b), (7, vi 1), (6, vi (k : Int)), (5, vi (j : Int)), (4, vi (i : Int)), (3, .ref r), (2, .ref a), (0, .ref a), (1, .ref b)]) rfl ?_
        refine V.sub [1, 0, 3, 6, 7, 9] (lv' := [(8, .ref b), (9, vi (-1)), (6, vi (k : Int)), (3, .ref r), (2, .ref a), (1, .ref b)]) rfl ?_
        refine V.less (cb' := 1) (sb' := 48 + k / 32 + 1) (by omega) (by omega) ?_
        exact h_bgL E hL hD (by omega) hE hH0 ⟨h93.1, h93.2.1, h93.2.2.1, h93.2.2.2, Nat.le_trans hB (by omega), Nat.le_trans hB hvrH⟩ hB hc2 hc22 (sB_nat hn (Nat.gcd_le_left _ hx)) hne_a_b hne_v_w hne_v_a hne_v_b hne_w_a hne_w_b hne_r_a hne_r_b hne_vr_a hne_vr_b hne_vr_v hne_vr_w hne_vr_r hne_v_r hne_w_r ⟨fun q h => hNew q (by rw [h]; omega), fun q h => hNew q (by rw [h]; exact hvrH)⟩ (Nat.le_refl 48) (fun q h => hAll q h) hx hy hn hm hcap hcap2 hW hW2 (Or.inr ⟨rfl, by decide, (by have := (zeros_split hi).2; rw [show i = 0 by omega, Nat.pow_zero, Nat.div_one] at this; exact this)⟩) ⟨by decide, by decide⟩ (by have := gcd_k hi hj (show k ≤ i by omega) (show k ≤ j by omega); rw [show k = 0 by omega] at this ⊢; simpa using this) hz_40 hz_41 hz_42 hz_43 hz_44 hz_45
    · refine v_aload_n E 4 rfl dJ26_binaryGCD_43 ?_
      refine v_iload E 0 rfl dJ26_binaryGCD_44 ?_
      refine V.topi (x' := ((32 * (k / 32) + k % 32 : Nat) : Int)) (congrArg iZ (by omega)) ?_
      refine v_callV E (As := [vi ((32 * (k / 32) + k % 32 : Nat) : Int)]) (b := a) (ci := 9) (C := RJ26) (T := TJ26) (N := 3) hz_40 rfl (h_rsh κ H_36 (u := k / 32) (b := k % 32) hD (by omega) (Nat.lt_of_le_of_lt (Nat.div_le_div_right (by omega)) (zeros_lt2 hx hn hi)) ⟨hz_40, hz_41, hcap, hc2, hW, hX0, hX1⟩) (lw_V q1202 q1203 q1204 q101 q1205) 1 (by decide +kernel) rfl (by decide) (by decide) (cb' := 1) (sb' := 97) (by decide) (by decide) rfl (rest := []) (Nat.le_of_ble_eq_true rfl) (fun q h => hAll q (h.elim Or.inl (fun h => Or.inr (Or.inl h)))) dJ26_binaryGCD_46 (fun v_46 H_47 hpost_48 hz_49 hk_50 => ?_)
      clear hz_49
      obtain ⟨rfl, n_51, f_52, hM_53, hle_54, hI_55⟩ := hpost_48
      rw [show 32 * (k / 32) + k % 32 = k by omega, nat_div] at hM_53 hI_55
      have hz_56 := hz_42.kept (hk_50 _ hz_42.lt (fun h => h.elim (fun h => (Ne.symm hne_a_b) h) (fun h => (Ne.symm hne_v_b) h)))
      have hz_57 := hz_43.kept (hk_50 _ hz_43.lt (fun h => h.elim (fun h => hne_w_a h) (fun h => (Ne.symm hne_v_w) h)))
      have hz_58 := hz_44.kept (hk_50 _ hz_44.lt (fun h => h.elim (fun h => hne_r_a h) (fun h => (Ne.symm hne_v_r) h)))
      have hz_59 := hz_45.kept (hk_50 _ hz_45.lt (fun h => h.elim (fun h => hne_vr_a h) (fun h => hne_vr_v h)))
      obtain ⟨M_60o, M_60v, M_60cap, M_60c2, M_60W, M_60X0, M_60X1⟩ := hM_53
      refine V.eq (st' := []) rfl ?_
      refine v_aload_n E 6 rfl dJ26_binaryGCD_49 ?_
      refine v_iload E 0 rfl dJ26_binaryGCD_50 ?_
      refine V.topi (x' := ((32 * (k / 32) + k % 32 : Nat) : Int)) (congrArg iZ (by omega)) ?_
      refine v_callV E (As := [vi ((32 * (k / 32) + k % 32 : Nat) : Int)]) (b := b) (ci := 9) (C := RJ26) (T := TJ26) (N := 3) hz_56 rfl (h_rsh κ H_47 (u := k / 32) (b := k % 32) hD (by omega) (Nat.lt_of_le_of_lt (Nat.div_le_div_right (by omega)) (zeros_lt2 hy hm hj)) ⟨hz_56, hz_57, hcap2, hc22, hW2, hX02, hX12⟩) (lw_V q1202 q1203 q1204 q101 q1205) 1 (by decide +kernel) rfl (by decide) (by decide) (cb' := 1) (sb' := 97) (by decide) (by decide) rfl (rest := []) (Nat.le_of_ble_eq_true rfl) (fun q h => hAll q (Or.inr (Or.inr h))) dJ26_binaryGCD_52 (fun v_61 H_62 hpost_63 hz_64 hk_65 => ?_)
      clear hz_64
      obtain ⟨rfl, n_66, f_67, hM_68, hle_69, hI_70⟩ := hpost_63
      rw [show 32 * (k / 32) + k % 32 = k by omega, nat_div] at hM_68 hI_70
      have hz_71 := hz_58.kept (hk_65 _ hz_58.lt (fun h => h.elim (fun h => hne_r_b h) (fun h => (Ne.symm hne_w_r) h)))
      have hz_72 := hz_59.kept (hk_65 _ hz_59.lt (fun h => h.elim (fun h => hne_vr_b h) (fun h => hne_vr_w h)))
      have hz_73 := M_60o.kept (hk_65 _ M_60o.lt (fun h => h.elim (fun h => hne_a_b h) (fun h => (Ne.symm hne_w_a) h)))
      have hz_74 := M_60v.kept (hk_65 _ M_60v.lt (fun h => h.elim (fun h => hne_v_b h) (fun h => hne_v_w h)))
      obtain ⟨M_75o, M_75v, M_75cap, M_75c2, M_75W, M_75X0, M_75X1⟩ := hM_68
      refine V.eq (st' := []) rfl ?_
      refine v_iload E 0 rfl dJ26_binaryGCD_55 ?_
      refine v_iload E 2 rfl dJ26_binaryGCD_57 ?_
      refine v_icmp_ne E (tgt := 66) dJ26_binaryGCD_59 (by decide) ⟨by omega, by omega⟩ ⟨by omega, by omega⟩ (fun c_59 => ?_) (fun c_59 => ?_)
      · refine v_iconst E dJ26_binaryGCD_66 ?_
        refine v_istore E dJ26_binaryGCD_67 (zlt hL rfl) (lv' := [(7, vi 0), (6, vi (k : Int)), (5, vi (j : Int)), (4, vi (i : Int)), (3, .ref r), (2, .ref a), (0, .ref a), (1, .ref b)]) rfl ?_
        refine v_iload E 0 rfl dJ26_binaryGCD_69 ?_
        refine v_if_eq E (tgt := 78) dJ26_binaryGCD_71 (by decide) ⟨by omega, by omega⟩ (fun c_71 => ?_) (fun c_71 => absurd c_71 (by omega))
        refine v_aload_n E 5 rfl dJ26_binaryGCD_78 ?_
        refine v_astore E dJ26_binaryGCD_79 (zlt hL rfl) (lv' := [(8, .ref a), (7, vi 0), (6, vi (k : Int)), (5, vi (j : Int)), (4, vi (i : Int)), (3, .ref r), (2, .ref a), (0, .ref a), (1, .ref b)]) rfl ?_
        refine v_iload E 1 rfl dJ26_binaryGCD_81 ?_
        refine v_if_eq E (tgt := 90) dJ26_binaryGCD_83 (by decide) ⟨by omega, by omega⟩ (fun c_83 => ?_) (fun c_83 => absurd c_83 (by omega))
        refine v_iconst E dJ26_binaryGCD_90 ?_
        refine v_istore E dJ26_binaryGCD_91 (zlt hL rfl) (lv' := [(9, vi 1), (8, .ref a), (7, vi 0), (6, vi (k : Int)), (5, vi (j : Int)), (4, vi (i : Int)), (3, .ref r), (2, .ref a), (0, .ref a), (1, .ref b)]) rfl ?_
        refine V.sub [1, 0, 3, 6, 7, 9] (lv' := [(8, .ref a), (9, vi 1), (6, vi (k : Int)), (3, .ref r), (2, .ref a), (1, .ref b)]) rfl ?_
        refine V.less (cb' := 1) (sb' := 48 + k / 32 + 1) (by omega) (by omega) ?_
        exact h_bgL E hL hD (by omega) hE hH0 ⟨h93.1, h93.2.1, h93.2.2.1, h93.2.2.2, Nat.le_trans hB (by omega), Nat.le_trans hB hvrH⟩ hB M_60c2 M_75c2 (sB_nat hn (Nat.gcd_le_left _ hx)) hne_a_b hne_v_w hne_v_a hne_v_b hne_w_a hne_w_b hne_r_a hne_r_b hne_vr_a hne_vr_b hne_vr_v hne_vr_w hne_vr_r hne_v_r hne_w_r ⟨fun q h => hNew q (by rw [h]; omega), fun q h => hNew q (by rw [h]; exact hvrH)⟩ (Nat.le_refl 48) (fun q h => hAll q h) (zeros_le hx hi (by omega)) (zeros_le hy hj (by omega)) (hI_55 hn) (hI_70 hm) M_60cap M_75cap M_60W M_75W (Or.inl ⟨rfl, by decide, (by rw [show k = j by omega]; exact (zeros_split hj).2)⟩) ⟨by decide, by decide⟩ (gcd_k hi hj (by omega) (by omega)) hz_73 hz_74 M_75o M_75v hz_71 hz_72
      · refine v_iconst E dJ26_binaryGCD_62 ?_
        refine v_goto E (tgt := 67) dJ26_binaryGCD_63 (by decide) ?_
        refine v_istore E dJ26_binaryGCD_67 (zlt hL rfl) (lv' := [(7, vi 1), (6, vi (k : Int)), (5, vi (j : Int)), (4, vi (i : Int)), (3, .ref r), (2, .ref a), (0, .ref a), (1, .ref b)]) rfl ?_
        refine v_iload E 0 rfl dJ26_binaryGCD_69 ?_
        refine v_if_eq E (tgt := 78) dJ26_binaryGCD_71 (by decide) ⟨by omega, by omega⟩ (fun c_71 => absurd c_71 (by omega)) (fun c_71 => ?_)
        refine v_aload_n E 7 rfl dJ26_binaryGCD_74 ?_
        refine v_goto E (tgt := 79) dJ26_binaryGCD_75 (by decide) ?_
        refine v_astore E dJ26_binaryGCD_79 (zlt hL rfl) (lv' := [(8, .ref b), (7, vi 1), (6, vi (k : Int)), (5, vi (j : Int)), (4, vi (i : Int)), (3, .ref r), (2, .ref a), (0, .ref a), (1, .ref b)]) rfl ?_
        refine v_iload E 1 rfl dJ26_binaryGCD_81 ?_
        refine v_if_eq E (tgt := 90) dJ26_binaryGCD_83 (by decide) ⟨by omega, by omega⟩ (fun c_83 => absurd c_83 (by omega)) (fun c_83 => ?_)
        refine v_iconst E dJ26_binaryGCD_86 ?_
        refine v_goto E (tgt := 91) dJ26_binaryGCD_87 (by decide) ?_
        refine v_istore E dJ26_binaryGCD_91 (zlt hL rfl) (lv' := [(9, vi (-1)), (8, .ref b), (7, vi 1), (6, vi (k : Int)), (5, vi (j : Int)), (4, vi (i : Int)), (3, .ref r), (2, .ref a), (0, .ref a), (1, .ref b)]) rfl ?_
        refine V.sub [1, 0, 3, 6, 7, 9] (lv' := [(8, .ref b), (9, vi (-1)), (6, vi (k : Int)), (3, .ref r), (2, .ref a), (1, .ref b)]) rfl ?_
        refine V.less (cb' := 1) (sb' := 48 + k / 32 + 1) (by omega) (by omega) ?_
        exact h_bgL E hL hD (by omega) hE hH0 ⟨h93.1, h93.2.1, h93.2.2.1, h93.2.2.2, Nat.le_trans hB (by omega), Nat.le_trans hB hvrH⟩ hB M_60c2 M_75c2 (sB_nat hn (Nat.gcd_le_left _ hx)) hne_a_b hne_v_w hne_v_a hne_v_b hne_w_a hne_w_b hne_r_a hne_r_b hne_vr_a hne_vr_b hne_vr_v hne_vr_w hne_vr_r hne_v_r hne_w_r ⟨fun q h => hNew q (by rw [h]; omega), fun q h => hNew q (by rw [h]; exact hvrH)⟩ (Nat.le_refl 48) (fun q h => hAll q h) (zeros_le hx hi (by omega)) (zeros_le hy hj (by omega)) (hI_55 hn) (hI_70 hm) M_60cap M_75cap M_60W M_75W (Or.inr ⟨rfl, by decide, (by rw [show k = i by omega]; exact (zeros_split hi).2)⟩) ⟨by decide, by decide⟩ (gcd_k hi hj (by omega) (by omega)) hz_73 hz_74 M_75o M_75v hz_71 hz_72
  · refine v_iload E 1 rfl dJ26_binaryGCD_29 ?_
    refine v_goto E (tgt := 36) dJ26_binaryGCD_31 (by decide) ?_
    obtain ⟨k, hk9⟩ : ∃ k, k = min i j := ⟨_, rfl⟩
    refine V.topi (x' := (k : Int)) (congrArg iZ (by omega)) ?_
    refine v_istore E dJ26_binaryGCD_36 (zlt hL rfl) (lv' := [(6, vi (k : Int)), (5, vi (j : Int)), (4, vi (i : Int)), (3, .ref r), (2, .ref a), (0, .ref a), (1, .ref b)]) rfl ?_
    refine v_iload E 0 rfl dJ26_binaryGCD_38 ?_
    refine v_if_eq E (tgt := 55) dJ26_binaryGCD_40 (by decide) ⟨by omega, by omega⟩ (fun c_40 => ?_) (fun c_40 => ?_)
    · refine v_iload E 0 rfl dJ26_binaryGCD_55 ?_
      refine v_iload E 2 rfl dJ26_binaryGCD_57 ?_
      refine v_icmp_ne E (tgt := 66) dJ26_binaryGCD_59 (by decide) ⟨by omega, by omega⟩ ⟨by omega, by omega⟩ (fun c_59 => ?_) (fun c_59 => ?_)
      · refine v_iconst E dJ26_binaryGCD_66 ?_
        refine v_istore E dJ26_binaryGCD_67 (zlt hL rfl) (lv' := [(7, vi 0), (6, vi (k : Int)), (5, vi (j : Int)), (4, vi (i : Int)), (3, .ref r), (2, .ref a), (0, .ref a), (1, .ref b)]) rfl ?_
        refine v_iload E 0 rfl dJ26_binaryGCD_69 ?_
        refine v_if_eq E (tgt := 78) dJ26_binaryGCD_71 (by decide) ⟨by omega, by omega⟩ (fun c_71 => ?_) (fun c_71 => absurd c_71 (by omega))
        refine v_aload_n E 5 rfl dJ26_binaryGCD_78 ?_
        refine v_astore E dJ26_binaryGCD_79 (zlt hL rfl) (lv' := [(8, .ref a), (7, vi 0), (6, vi (k : Int)), (5, vi (j : Int)), (4, vi (i : Int)), (3, .ref r), (2, .ref a), (0, .ref a), (1, .ref b)]) rfl ?_
        refine v_iload E 1 rfl dJ26_binaryGCD_81 ?_
        refine v_if_eq E (tgt := 90) dJ26_binaryGCD_83 (by decide) ⟨by omega, by omega⟩ (fun c_83 => ?_) (fun c_83 => absurd c_83 (by omega))
        refine v_iconst E dJ26_binaryGCD_90 ?_
        refine v_istore E dJ26_binaryGCD_91 (zlt hL rfl) (lv' := [(9, vi 1), (8, .ref a), (7, vi 0), (6, vi (k : Int)), (5, vi (j : Int)), (4, vi (i : Int)), (3, .ref r), (2, .ref a), (0, .ref a), (1, .ref b)]) rfl ?_
        refine V.sub [1, 0, 3, 6, 7, 9] (lv' := [(8, .ref a), (9, vi 1), (6, vi (k : Int)), (3, .ref r), (2, .ref a), (1, .ref b)]) rfl ?_
        refine V.less (cb' := 1) (sb' := 48 + k / 32 + 1) (by omega) (by omega) ?_
        exact h_bgL E hL hD (by omega) hE hH0 ⟨h93.1, h93.2.1, h93.2.2.1, h93.2.2.2, Nat.le_trans hB (by omega), Nat.le_trans hB hvrH⟩ hB hc2 hc22 (sB_nat hn (Nat.gcd_le_left _ hx)) hne_a_b hne_v_w hne_v_a hne_v_b hne_w_a hne_w_b hne_r_a hne_r_b hne_vr_a hne_vr_b hne_vr_v hne_vr_w hne_vr_r hne_v_r hne_w_r ⟨fun q h => hNew q (by rw [h]; omega), fun q h => hNew q (by rw [h]; exact hvrH)⟩ (Nat.le_refl 48) (fun q h => hAll q h) hx hy hn hm hcap hcap2 hW hW2 (Or.inl ⟨rfl, by decide, (by have := (zeros_split hj).2; rw [show j = 0 by omega, Nat.pow_zero, Nat.div_one] at this; exact this)⟩) ⟨by decide, by decide⟩ (by have := gcd_k hi hj (show k ≤ i by omega) (show k ≤ j by omega); rw [show k = 0 by omega] at this ⊢; simpa using this) hz_40 hz_41 hz_42 hz_43 hz_44 hz_45
      · refine v_iconst E dJ26_binaryGCD_62 ?_
        refine v_goto E (tgt := 67) dJ26_binaryGCD_63 (by decide) ?_
        refine v_istore E dJ26_binaryGCD_67 (zlt hL rfl) (lv' := [(7, vi 1), (6, vi (k : Int)), (5, vi (j : Int)), (4, vi (i : Int)), (3, .ref r), (2, .ref a), (0, .ref a), (1, .ref b)]) rfl ?_
        refine v_iload E 0 rfl dJ26_binaryGCD_69 ?_
        refine v_if_eq E (tgt := 78) dJ26_binaryGCD_71 (by decide) ⟨by omega, by omega⟩ (fun c_71 => absurd c_71 (by omega)) (fun c_71 => ?_)
        refine v_aload_n E 7 rfl dJ26_binaryGCD_74 ?_
        refine v_goto E (tgt := 79) dJ26_binaryGCD_75 (by decide) ?_
        refine v_astore E dJ26_binaryGCD_79 (zlt hL rfl) (lv' := [(8, .ref b), (7, vi 1), (6, vi (k : Int)), (5, vi (j : Int)), (4, vi (i : Int)), (3, .ref r), (2, .ref a), (0, .ref a), (1, .ref b)]) rfl ?_
        refine v_iload E 1 rfl dJ26_binaryGCD_81 ?_
        refine v_if_eq E (tgt := 90) dJ26_binaryGCD_83 (by decide) ⟨by omega, by omega⟩ (fun c_83 => absurd c_83 (by omega)) (fun c_83 => ?_)
        refine v_iconst E dJ26_binaryGCD_86 ?_
        refine v_goto E (tgt := 91) dJ26_binaryGCD_87 (by decide) ?_
        refine v_istore E dJ26_binaryGCD_91 (zlt hL rfl) (lv' := [(9, vi (-1)), (8, .ref b), (7, vi 1), (6, vi (k : Int)), (5, vi (j : Int)), (4, vi (i : Int)), (3, .ref r), (2, .ref a), (0, .ref a), (1, .ref b)]) rfl ?_
        refine V.sub [1, 0, 3, 6, 7, 9] (lv' := [(8, .ref b), (9, vi (-1)), (6, vi (k : Int)), (3, .ref r), (2, .ref a), (1, .ref b)]) rfl ?_
        refine V.less (cb' := 1) (sb' := 48 + k / 32 + 1) (by omega) (by omega) ?_
        exact h_bgL E hL hD (by omega) hE hH0 ⟨h93.1, h93.2.1, h93.2.2.1, h93.2.2.2, Nat.le_trans hB (by omega), Nat.le_trans hB hvrH⟩ hB hc2 hc22 (sB_nat hn (Nat.gcd_le_left _ hx)) hne_a_b hne_v_w hne_v_a hne_v_b hne_w_a hne_w_b hne_r_a hne_r_b hne_vr_a hne_vr_b hne_vr_v hne_vr_w hne_vr_r hne_v_r hne_w_r ⟨fun q h => hNew q (by rw [h]; omega), fun q h => hNew q (by rw [h]; exact hvrH)⟩ (Nat.le_refl 48) (fun q h => hAll q h) hx hy hn hm hcap hcap2 hW hW2 (Or.inr ⟨rfl, by decide, (by have := (zeros_split hi).2; rw [show i = 0 by omega, Nat.pow_zero, Nat.div_one] at this; exact this)⟩) ⟨by decide, by decide⟩ (by have := gcd_k hi hj (show k ≤ i by omega) (show k ≤ j by omega); rw [show k = 0 by omega] at this ⊢; simpa using this) hz_40 hz_41 hz_42 hz_43 hz_44 hz_45
    · refine v_aload_n E 4 rfl dJ26_binaryGCD_43 ?_
      refine v_iload E 0 rfl dJ26_binaryGCD_44 ?_
      refine V.topi (x' := ((32 * (k / 32) + k % 32 : Nat) : Int)) (congrArg iZ (by omega)) ?_
      refine v_callV E (As := [vi ((32 * (k / 32) + k % 32 : Nat) : Int)]) (b := a) (ci := 9) (C := RJ26) (T := TJ26) (N := 3) hz_40 rfl (h_rsh κ H_36 (u := k / 32) (b := k % 32) hD (by omega) (Nat.lt_of_le_of_lt (Nat.div_le_div_right (by omega)) (zeros_lt2 hx hn hi)) ⟨hz_40, hz_41, hcap, hc2, hW, hX0, hX1⟩) (lw_V q1202 q1203 q1204 q101 q1205) 1 (by decide +kernel) rfl (by decide) (by decide) (cb' := 1) (sb' := 97) (by decide) (by decide) rfl (rest := []) (Nat.le_of_ble_eq_true rfl) (fun q h => hAll q (h.elim Or.inl (fun h => Or.inr (Or.inl h)))) dJ26_binaryGCD_46 (fun v_76 H_77 hpost_78 hz_79 hk_80 => ?_)
      clear hz_79
      obtain ⟨rfl, n_81, f_82, hM_83, hle_84, hI_85⟩ := hpost_78
      rw [show 32 * (k / 32) + k % 32 = k by omega, nat_div] at hM_83 hI_85
      have hz_86 := hz_42.kept (hk_80 _ hz_42.lt (fun h => h.elim (fun h => (Ne.symm hne_a_b) h) (fun h => (Ne.symm hne_v_b) h)))
      have hz_87 := hz_43.kept (hk_80 _ hz_43.lt (fun h => h.elim (fun h => hne_w_a h) (fun h => (Ne.symm hne_v_w) h)))
      have hz_88 := hz_44.kept (hk_80 _ hz_44.lt (fun h => h.elim (fun h => hne_r_a h) (fun h => (Ne.symm hne_v_r) h)))
      have hz_89 := hz_45.kept (hk_80 _ hz_45.lt (fun h => h.elim (fun h => hne_vr_a h) (fun h => hne_vr_v h)))
      obtain ⟨M_90o, M_90v, M_90cap, M_90c2, M_90W, M_90X0, M_90X1⟩ := hM_83
      refine V.eq (st' := []) rfl ?_
      refine v_aload_n E 6 rfl dJ26_binaryGCD_49 ?_
      refine v_iload E 0 rfl dJ26_binaryGCD_50 ?_
      refine V.topi (x' := ((32 * (k / 32) + k % 32 : Nat) : Int)) (congrArg iZ (by omega)) ?_
      refine v_callV E (As := [vi ((32 * (k / 32) + k % 32 : Nat) : Int)]) (b := b) (ci := 9) (C := RJ26) (T := TJ26) (N := 3) hz_86 rfl (h_rsh κ H_77 (u := k / 32) (b := k % 32) hD (by omega) (Nat.lt_of_le_of_lt (Nat.div_le_div_right (by omega)) (zeros_lt2 hy hm hj)) ⟨hz_86, hz_87, hcap2, hc22, hW2, hX02, hX12⟩) (lw_V q1202 q1203 q1204 q101 q1205) 1 (by decide +kernel) rfl (by decide) (by decide) (cb' := 1) (sb' := 97) (by decide) (by decide) rfl (rest := []) (Nat.le_of_ble_eq_true rfl) (fun q h => hAll q (Or.inr (Or.inr h))) dJ26_binaryGCD_52 (fun v_91 H_92 hpost_93 hz_94 hk_95 => ?_)
      clear hz_94
      obtain ⟨rfl, n_96, f_97, hM_98, hle_99, hI_100⟩ := hpost_93
      rw [show 32 * (k / 32) + k % 32 = k by omega, nat_div] at hM_98 hI_100
      have hz_101 := hz_88.kept (hk_95 _ hz_88.lt (fun h => h.elim (fun h => hne_r_b h) (fun h => (Ne.symm hne_w_r) h)))
      have hz_102 := hz_89.kept (hk_95 _ hz_89.lt (fun h => h.elim (fun h => hne_vr_b h) (fun h => hne_vr_w h)))
      have hz_103 := M_90o.kept (hk_95 _ M_90o.lt (fun h => h.elim (fun h => hne_a_b h) (fun h => (Ne.symm hne_w_a) h)))
      have hz_104 := M_90v.kept (hk_95 _ M_90v.lt (fun h => h.elim (fun h => hne_v_b h) (fun h => hne_v_w h)))
      obtain ⟨M_105o, M_105v, M_105cap, M_105c2, M_105W, M_105X0, M_105X1⟩ := hM_98
      refine V.eq (st' := []) rfl ?_
      refine v_iload E 0 rfl dJ26_binaryGCD_55 ?_
      refine v_iload E 2 rfl dJ26_binaryGCD_57 ?_
      refine v_icmp_ne E (tgt := 66) dJ26_binaryGCD_59 (by decide) ⟨by omega, by omega⟩ ⟨by omega, by omega⟩ (fun c_59 => ?_) (fun c_59 => ?_)
      · refine v_iconst E dJ26_binaryGCD_66 ?_
        refine v_istore E dJ26_binaryGCD_67 (zlt hL rfl) (lv' := [(7, vi 0), (6, vi (k : Int)), (5, vi (j : Int)), (4, vi (i : Int)), (3, .ref r), (2, .ref a), (0, .ref a), (1, .ref b)]) rfl ?_
        refine v_iload E 0 rfl dJ26_binaryGCD_69 ?_
        refine v_if_eq E (tgt := 78) dJ26_binaryGCD_71 (by decide) ⟨by omega, by omega⟩ (fun c_71 => ?_) (fun c_71 => absurd c_71 (by omega))
        refine v_aload_n E 5 rfl dJ26_binaryGCD_78 ?_
        refine v_astore E dJ26_binaryGCD_79 (zlt hL rfl) (lv' := [(8, .ref a), (7, vi 0), (6, vi (k : Int)), (5, vi (j : Int)), (4, vi (i : Int)), (3, .ref r), (2, .ref a), (0, .ref a), (1, .ref b)]) rfl ?_
        refine v_iload E 1 rfl dJ26_binaryGCD_81 ?_
        refine v_if_eq E (tgt := 90) dJ26_binaryGCD_83 (by decide) ⟨by omega, by omega⟩ (fun c_83 => ?_) (fun c_83 => absurd c_83 (by omega))
        refine v_iconst E dJ26_binaryGCD_90 ?_
        refine v_istore E dJ26_binaryGCD_91 (zlt hL rfl) (lv' := [(9, vi 1), (8, .ref a), (7, vi 0), (6, vi (k : Int)), (5, vi (j : Int)), (4, vi (i : Int)), (3, .ref r), (2, .ref a), (0, .ref a), (1, .ref b)]) rfl ?_
        refine V.sub [1, 0, 3, 6, 7, 9] (lv' := [(8, .ref a), (9, vi 1), (6, vi (k : Int)), (3, .ref r), (2, .ref a), (1, .ref b)]) rfl ?_
        refine V.less (cb' := 1) (sb' := 48 + k / 32 + 1) (by omega) (by omega) ?_
        exact h_bgL E hL hD (by omega) hE hH0 ⟨h93.1, h93.2.1, h93.2.2.1, h93.2.2.2, Nat.le_trans hB (by omega), Nat.le_trans hB hvrH⟩ hB M_90c2 M_105c2 (sB_nat hn (Nat.gcd_le_left _ hx)) hne_a_b hne_v_w hne_v_a hne_v_b hne_w_a hne_w_b hne_r_a hne_r_b hne_vr_a hne_vr_b hne_vr_v hne_vr_w hne_vr_r hne_v_r hne_w_r ⟨fun q h => hNew q (by rw [h]; omega), fun q h => hNew q (by rw [h]; exact hvrH)⟩ (Nat.le_refl 48) (fun q h => hAll q h) (zeros_le hx hi (by omega)) (zeros_le hy hj (by omega)) (hI_85 hn) (hI_100 hm) M_90cap M_105cap M_90W M_105W (Or.inl ⟨rfl, by decide, (by rw [show k = j by omega]; exact (zeros_split hj).2)⟩) ⟨by decide, by decide⟩ (gcd_k hi hj (by omega) (by omega)) hz_103 hz_104 M_105o M_105v hz_101 hz_102
      · refine v_iconst E dJ26_binaryGCD_62 ?_
        refine v_goto E (tgt := 67) dJ26_binaryGCD_63 (by decide) ?_
        refine v_istore E dJ26_binaryGCD_67 (zlt hL rfl) (lv' := [(7, vi 1), (6, vi (k : Int)), (5, vi (j : Int)), (4, vi (i : Int)), (3, .ref r), (2, .ref a), (0, .ref a), (1, .ref b)]) rfl ?_
        refine v_iload E 0 rfl dJ26_binaryGCD_69 ?_
        refine v_if_eq E (tgt := 78) dJ26_binaryGCD_71 (by decide) ⟨by omega, by omega⟩ (fun c_71 => absurd c_71 (by omega)) (fun c_71 => ?_)
        refine v_aload_n E 7 rfl dJ26_binaryGCD_74 ?_
        refine v_goto E (tgt := 79) dJ26_binaryGCD_75 (by decide) ?_
        refine v_astore E dJ26_binaryGCD_79 (zlt hL rfl) (lv' := [(8, .ref b), (7, vi 1), (6, vi (k : Int)), (5, vi (j : Int)), (4, vi (i : Int)), (3, .ref r), (2, .ref a), (0, .ref a), (1, .ref b)]) rfl ?_
        refine v_iload E 1 rfl dJ26_binaryGCD_81 ?_
        refine v_if_eq E (tgt := 90) dJ26_binaryGCD_83 (by decide) ⟨by omega, by omega⟩ (fun c_83 => absurd c_83 (by omega)) (fun c_83 => ?_)
        refine v_iconst E dJ26_binaryGCD_86 ?_
        refine v_goto E (tgt := 91) dJ26_binaryGCD_87 (by decide) ?_
        refine v_istore E dJ26_binaryGCD_91 (zlt hL rfl) (lv' := [(9, vi (-1)), (8, .ref b), (7, vi 1), (6, vi (k : Int)), (5, vi (j : Int)), (4, vi (i : Int)), (3, .ref r), (2, .ref a), (0, .ref a), (1, .ref b)]) rfl ?_
        refine V.sub [1, 0, 3, 6, 7, 9] (lv' := [(8, .ref b), (9, vi (-1)), (6, vi (k : Int)), (3, .ref r), (2, .ref a), (1, .ref b)]) rfl ?_
        refine V.less (cb' := 1) (sb' := 48 + k / 32 + 1) (by omega) (by omega) ?_
        exact h_bgL E hL hD (by omega) hE hH0 ⟨h93.1, h93.2.1, h93.2.2.1, h93.2.2.2, Nat.le_trans hB (by omega), Nat.le_trans hB hvrH⟩ hB M_90c2 M_105c2 (sB_nat hn (Nat.gcd_le_left _ hx)) hne_a_b hne_v_w hne_v_a hne_v_b hne_w_a hne_w_b hne_r_a hne_r_b hne_vr_a hne_vr_b hne_vr_v hne_vr_w hne_vr_r hne_v_r hne_w_r ⟨fun q h => hNew q (by rw [h]; omega), fun q h => hNew q (by rw [h]; exact hvrH)⟩ (Nat.le_refl 48) (fun q h => hAll q h) (zeros_le hx hi (by omega)) (zeros_le hy hj (by omega)) (hI_85 hn) (hI_100 hm) M_90cap M_105cap M_90W M_105W (Or.inr ⟨rfl, by decide, (by rw [show k = i by omega]; exact (zeros_split hi).2)⟩) ⟨by decide, by decide⟩ (gcd_k hi hj (by omega) (by omega)) hz_103 hz_104 M_105o M_105v hz_101 hz_102
