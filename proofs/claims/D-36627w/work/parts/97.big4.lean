theorem sg_pos {x : Int} (h : ¬ x.sign = 0) : 0 < (x.natAbs : Int) := by have := sgn3 x; omega
theorem sg_zero {x : Int} (h : x.sign = 0) : x = 0 := by have := sgn3 x; omega
theorem sub_le9 (x y : Int) : (x.natAbs : Int) - (y.natAbs : Int) ≤ (x.natAbs : Int) := by omega
theorem sub_le8 (x y : Int) : ((x.natAbs : Int) - (y.natAbs : Int) ≤ (x.natAbs : Int) + (y.natAbs : Int)) ∧ ((x.natAbs : Int) - (y.natAbs : Int) ≤ (y.natAbs : Int) + (x.natAbs : Int)) := by omega
theorem ints_ne {Z : Int} {n : Nat} (h : isInts Z n) (h0 : 0 < Z) : ¬ n = 0 := by have := ints_pos (by omega) h; omega
/-- sums by signs -/
theorem sg_add {x y : Int} (hx : ¬ x.sign = 0) (h : y.sign = x.sign) : ((x + y).natAbs : Int) = (x.natAbs : Int) + (y.natAbs : Int) ∧ (x + y).sign = x.sign ∧ 0 < (x.natAbs : Int) + (y.natAbs : Int) := by
  have := sgn3 x; have := sgn3 y; have := sgn3 (x + y); omega
theorem sg_big {x y c : Int} (hx : ¬ x.sign = 0) (hy : ¬ y.sign = 0) (h : ¬ y.sign = x.sign) (hl : (y.natAbs : Int) < (x.natAbs : Int)) (hc : c = 1 ∧ 1 = x.sign ∨ c = -1 ∧ ¬ 1 = x.sign) : ((x + y).natAbs : Int) = (x.natAbs : Int) - (y.natAbs : Int) ∧ (x + y).sign = c ∧ 0 < (x.natAbs : Int) - (y.natAbs : Int) := by
  have := sgn3 x; have := sgn3 y; have := sgn3 (x + y); omega
theorem sg_sml {x y c : Int} (hx : ¬ x.sign = 0) (hy : ¬ y.sign = 0) (h : ¬ y.sign = x.sign) (hl : (x.natAbs : Int) < (y.natAbs : Int)) (hc : c = 1 ∧ -1 = x.sign ∨ c = -1 ∧ ¬ -1 = x.sign) : ((x + y).natAbs : Int) = (y.natAbs : Int) - (x.natAbs : Int) ∧ (x + y).sign = c ∧ 0 < (y.natAbs : Int) - (x.natAbs : Int) := by
  have := sgn3 x; have := sgn3 y; have := sgn3 (x + y); omega
theorem sg_eq {x y : Int} (hx : ¬ x.sign = 0) (hy : ¬ y.sign = 0) (h : ¬ y.sign = x.sign) (he : (x.natAbs : Int) = (y.natAbs : Int)) : x + y = 0 := by
  have := sgn3 x; have := sgn3 y; omega
theorem sg_neg {x y : Int} (h : ¬ y.sign = 0) : ¬ (-y).sign = 0 := by rw [Int.sign_neg]; omega
theorem sd_add {x y : Int} (hx : ¬ x.sign = 0) (hy : ¬ y.sign = 0) (h : ¬ y.sign = x.sign) : ((x - y).natAbs : Int) = (x.natAbs : Int) + (y.natAbs : Int) ∧ (x - y).sign = x.sign ∧ 0 < (x.natAbs : Int) + (y.natAbs : Int) := by
  have := sgn3 x; have := sgn3 y; have := sgn3 (x - y); omega
theorem sd_big {x y c : Int} (hx : ¬ x.sign = 0) (h : y.sign = x.sign) (hl : (y.natAbs : Int) < (x.natAbs : Int)) (hc : c = 1 ∧ 1 = x.sign ∨ c = -1 ∧ ¬ 1 = x.sign) : ((x - y).natAbs : Int) = (x.natAbs : Int) - (y.natAbs : Int) ∧ (x - y).sign = c ∧ 0 < (x.natAbs : Int) - (y.natAbs : Int) := by
  have := sgn3 x; have := sgn3 y; have := sgn3 (x - y); omega
theorem sd_sml {x y c : Int} (hx : ¬ x.sign = 0) (h : y.sign = x.sign) (hl : (x.natAbs : Int) < (y.natAbs : Int)) (hc : c = 1 ∧ -1 = x.sign ∨ c = -1 ∧ ¬ -1 = x.sign) : ((x - y).natAbs : Int) = (y.natAbs : Int) - (x.natAbs : Int) ∧ (x - y).sign = c ∧ 0 < (y.natAbs : Int) - (x.natAbs : Int) := by
  have := sgn3 x; have := sgn3 y; have := sgn3 (x - y); omega
theorem sd_eq {x y : Int} (hx : ¬ x.sign = 0) (h : y.sign = x.sign) (he : (x.natAbs : Int) = (y.natAbs : Int)) : x - y = 0 := by
  have := sgn3 x; have := sgn3 y; omega
theorem cmp_0 {o X Y : Int} (h : o = -1 ∧ X < Y ∨ o = 0 ∧ X = Y ∨ o = 1 ∧ Y < X) (h0 : o = 0) : X = Y := by omega
theorem cmp_r {o X Y : Int} (h : o = -1 ∧ X < Y ∨ o = 0 ∧ X = Y ∨ o = 1 ∧ Y < X) : rI o := ⟨by omega, by omega⟩
theorem cmp_p {o X Y : Int} (h : o = -1 ∧ X < Y ∨ o = 0 ∧ X = Y ∨ o = 1 ∧ Y < X) (h0 : ¬ o = 0) (h1 : ¬ o ≤ 0) : o = 1 ∧ Y < X := by omega
theorem cmp_n {o X Y : Int} (h : o = -1 ∧ X < Y ∨ o = 0 ∧ X = Y ∨ o = 1 ∧ Y < X) (h0 : ¬ o = 0) (h1 : o ≤ 0) : o = -1 ∧ X < Y := by omega
set_option maxHeartbeats 1000000 in
set_option maxRecDepth 100000 in
/-- g_add of big integers -/
theorem g_add (κ : zK) (H0 : Heap) {a : Nat} {x : Int} {b : Nat} {y : Int} {N : Nat} (hC : CO κ H0) (hx : BI κ H0 a x) (hy : BI κ H0 b y) (hNx : (x.natAbs : Int) < 2 ^ (32 * N)) (hNy : (y.natAbs : Int) < 2 ^ (32 * N)) (hs : sB ((x.natAbs : Int) + (y.natAbs : Int)))  : Mt κ yJ16_add cJ16_add 4 (some (.object "java/math/BigInteger")) 4 95 3 (2 * N + 7) H0 [.ref a, .ref b] (fun _ => False) (fun v H1 => ∃ q : Nat, v = some (.ref q) ∧ BI κ H1 q (x + y)) := by
  refine Mt.of (by decide) (Nat.le_of_ble_eq_true rfl) ?_
  intro z E hE hH0 hA0 hL hini
  have hAll : ∀ q, (fun _ => False) q → zA z.A z.H0 q := fun q h => Or.inl (by rw [hA0]; exact h)
  have hNew : ∀ q, H0.size ≤ q → zA z.A z.H0 q := fun q h => Or.inr (by rw [hH0]; exact h)
  have E : zOK z cJ16_add RJ16 κ 4 95 (some (.object "java/math/BigInteger")) := E
  refine V.eqL (lv' := [(0, .ref a), (1, .ref b)]) rfl ?_
  obtain ⟨ma, na, cfa, ⟨c1a, c2a, c3a, hoa⟩, hma, hna, hcfa⟩ := hx
  change Hid _ at hcfa
  have hsa := sgn3 x
  have h48a := hna.1
  obtain ⟨mb, nb, cfb, ⟨c1b, c2b, c3b, hob⟩, hmb, hnb, hcfb⟩ := hy
  change Hid _ at hcfb
  have hsb := sgn3 y
  have h48b := hnb.1
  have hLx := ints_le (Int.natCast_nonneg _) hna hNx
  have hLy := ints_le (Int.natCast_nonneg _) hnb hNy
  have hrx := rsign x
  have hry := rsign y
  clear hsa hsb hNx hNy
  refine v_aload_n E 1 rfl dJ16_add_0 ?_
  refine v_getf E in_J16 hob (ci := 6) rfl 0 (by decide) q494 rfl (v := vi y.sign) rfl dJ16_add_1 ?_
  refine v_if_ne E (tgt := 9) dJ16_add_4 (by decide) hry (fun c_4 => ?_) (fun c_4 => ?_)
  · refine v_aload_n E 0 rfl dJ16_add_9 ?_
    refine v_getf E in_J16 hoa (ci := 6) rfl 0 (by decide) q494 rfl (v := vi x.sign) rfl dJ16_add_10 ?_
    refine v_if_ne E (tgt := 18) dJ16_add_13 (by decide) hrx (fun c_13 => ?_) (fun c_13 => ?_)
    · refine v_aload_n E 1 rfl dJ16_add_18 ?_
      refine v_getf E in_J16 hob (ci := 6) rfl 0 (by decide) q494 rfl (v := vi y.sign) rfl dJ16_add_19 ?_
      refine v_aload_n E 0 rfl dJ16_add_22 ?_
      refine v_getf E in_J16 hoa (ci := 6) rfl 0 (by decide) q494 rfl (v := vi x.sign) rfl dJ16_add_23 ?_
      refine v_icmp_ne E (tgt := 52) dJ16_add_26 (by decide) hry hrx (fun c_26 => ?_) (fun c_26 => ?_)
      · refine v_aload_n E 0 rfl dJ16_add_52 ?_
        refine v_aload_n E 1 rfl dJ16_add_53 ?_
        refine v_callV E (As := [.ref b]) (b := a) (ci := 6) (C := RJ16) (T := TJ16) (N := 6) hoa rfl (g_cmpM κ H0 (x := x) (y := y) ⟨ma, na, cfa, ⟨c1a, c2a, c3a, hoa⟩, hma, hna, hcfa⟩ ⟨mb, nb, cfb, ⟨c1b, c2b, c3b, hob⟩, hmb, hnb, hcfb⟩) (lw_V q661 q662 q663 q91 q664) 1 (by decide +kernel) rfl (by decide) (by decide) (cb' := (3 - 0)) (sb' := ((2 * N + 7) - 0)) (by omega) (by omega) rfl (rest := []) (Nat.le_of_ble_eq_true rfl) (fun q h => h.elim) dJ16_add_54 (fun v_1 H_2 hpost_3 hz_4 hk_5 => ?_)
        clear hz_4
        obtain ⟨o, rfl, ho9⟩ := hpost_3
        have hoa_6 := hoa.kept (hk_5 _ hoa.lt (fun h => h))
        have hma_7 := hma.kept (hk_5 _ hma.lt (fun h => h))
        have hob_8 := hob.kept (hk_5 _ hob.lt (fun h => h))
        have hmb_9 := hmb.kept (hk_5 _ hmb.lt (fun h => h))
        refine V.eq (st' := [vi o]) rfl ?_
        refine v_istore_n E dJ16_add_57 (zlt hL rfl) (lv' := [(2, vi o), (0, .ref a), (1, .ref b)]) rfl ?_
        refine v_iload_n E 0 rfl dJ16_add_58 ?_
        have ho0 := cmp_0 ho9
        have hri := cmp_r ho9
        refine v_if_ne E (tgt := 66) dJ16_add_59 (by decide) hri (fun c_59 => ?_) (fun c_59 => ?_)
        · refine v_iload_n E 0 rfl dJ16_add_66 ?_
          refine v_if_le E (tgt := 84) dJ16_add_67 (by decide) hri (fun c_67 => ?_) (fun c_67 => ?_)
          · refine v_aload_n E 2 rfl dJ16_add_84 ?_
            refine v_getf E in_J16 hob_8 (ci := 6) rfl 1 (by decide) q496 rfl (v := .ref mb) rfl dJ16_add_85 ?_
            refine v_aload_n E 1 rfl dJ16_add_88 ?_
            refine v_getf E in_J16 hoa_6 (ci := 6) rfl 1 (by decide) q496 rfl (v := .ref ma) rfl dJ16_add_89 ?_
            obtain ⟨hoe, hlt9⟩ := cmp_n ho9 c_59 c_67
            refine V.frame (fun hfz_fr_10 hfk_fr_10 => ?_)
            rw [hH0] at hfz_fr_10 hfk_fr_10
            rw [hA0] at hfk_fr_10
            refine v_callS E (As := [.ref mb, .ref ma]) (g_subA κ H_2 (X := (y.natAbs : Int)) (Y := (x.natAbs : Int)) (sg_pos (by assumption)) (hlt9) hnb hna (Nat.le_of_not_lt (fun h => Int.lt_asymm (hlt9) (ints_lt hnb hna h))) hmb_9 hma_7) (lw_S q712 q713 q91 q714) 2 (by decide +kernel) rfl (by decide) (by decide) (cb' := ((3 - 0) - 1)) (sb' := (((2 * N + 7) - 0) - nb)) (by omega) (by omega) rfl (rest := []) (Nat.le_of_ble_eq_true rfl) (fun q h => h.elim) dJ16_add_92 (fun v_11 H_12 hpost_13 hz_14 hk_15 => ?_)
            clear hz_14
            obtain ⟨d0, rfl, hd0, hd0H⟩ := hpost_13
            have hd0H := Nat.le_trans hfz_fr_10 hd0H
            have hoa_16 := hoa_6.kept (hk_15 _ hoa_6.lt (fun h => h))
            have hma_17 := hma_7.kept (hk_15 _ hma_7.lt (fun h => h))
            have hob_18 := hob_8.kept (hk_15 _ hob_8.lt (fun h => h))
            have hmb_19 := hmb_9.kept (hk_15 _ hmb_9.lt (fun h => h))
            refine V.eq (st' := [.ref d0]) rfl ?_
            refine v_astore_n E dJ16_add_95 (zlt hL rfl) (lv' := [(3, .ref d0), (2, vi o), (0, .ref a), (1, .ref b)]) rfl ?_
            refine v_aload_n E 0 rfl dJ16_add_96 ?_
            refine V.frame (fun hfz_fr_20 hfk_fr_20 => ?_)
            rw [hH0] at hfz_fr_20 hfk_fr_20
            rw [hA0] at hfk_fr_20
            refine v_callS E (As := [.ref d0]) (g_strip κ H_12 (Z := ((y.natAbs : Int) - (x.natAbs : Int))) (n := nb) (Int.le_of_lt (Int.sub_pos.mpr (hlt9))) (Int.lt_of_le_of_lt (sub_le9 _ _) hnb.2.1) (Int.lt_of_le_of_lt (sub_le8 _ _).2 hs) (Nat.le_trans hnb.1 (by decide)) hd0) (lw_S q715 q716 q91 q717) 1 (by decide +kernel) rfl (by decide) (by decide) (cb' := (((3 - 0) - 1) - 1)) (sb' := ((((2 * N + 7) - 0) - nb) - nb)) (by omega) (by omega) rfl (rest := []) (Nat.le_of_ble_eq_true rfl) (fun q h => h.elim) dJ16_add_97 (fun v_21 H_22 hpost_23 hz_24 hk_25 => ?_)
            clear hz_24
            obtain ⟨r0, rn, rfl, hr0, hrn, hr0H⟩ := hpost_23
            have hr0H : H0.size ≤ r0 := hr0H.elim (fun h => by rw [h]; exact hd0H) (fun h => Nat.le_trans hfz_fr_20 h)
            have hoa_26 := hoa_16.kept (hk_25 _ hoa_16.lt (fun h => h))
            have hma_27 := hma_17.kept (hk_25 _ hma_17.lt (fun h => h))
            have hob_28 := hob_18.kept (hk_25 _ hob_18.lt (fun h => h))
            have hmb_29 := hmb_19.kept (hk_25 _ hmb_19.lt (fun h => h))
            have hd0_30 := hd0.kept (hk_25 _ hd0.lt (fun h => h))
            refine V.eq (st' := [.ref r0]) rfl ?_
            refine v_astore_n E dJ16_add_100 (zlt hL rfl) (lv' := [(3, .ref r0), (2, vi o), (0, .ref a), (1, .ref b)]) rfl ?_
            refine V.frame (fun hfz_fr_31 hfk_fr_31 => ?_)
            rw [hH0] at hfz_fr_31 hfk_fr_31
            rw [hA0] at hfk_fr_31
            refine v_new E in_J16 tyJ16 tyJ16_ok q485 q486 q91 (ci := 6) rfl (fs := [vi 0, .null, vi 0, vi 0, vi 0, vi 0]) (fun j hj => by rcases (show j = 0 ∨ j = 1 ∨ j = 2 ∨ j = 3 ∨ j = 4 ∨ j = 5 by omega) with rfl | rfl | rfl | rfl | rfl | rfl <;> rfl) (cb' := ((((3 - 0) - 1) - 1) - 1)) (sb' := (((((2 * N + 7) - 0) - nb) - nb) - 6)) (by omega) (by omega) dJ16_add_101 (fun q_32 H_33 hq_36 ho_34 hg_35 => ?_)
            have hne_a_q_32 : a ≠ q_32 := by have := hoa_26.lt; omega
            have hne_ma_q_32 : ma ≠ q_32 := by have := hma_27.lt; omega
            have hne_b_q_32 : b ≠ q_32 := by have := hob_28.lt; omega
            have hne_mb_q_32 : mb ≠ q_32 := by have := hmb_29.lt; omega
            have hne_r0_q_32 : r0 ≠ q_32 := by have := hr0.lt; omega
            have hoa_42 := hoa_26.grow hg_35
            have hma_43 := hma_27.grow hg_35
            have hob_44 := hob_28.grow hg_35
            have hmb_45 := hmb_29.grow hg_35
            have hr0_46 := hr0.grow hg_35
            refine v_dup E rfl dJ16_add_104 ?_
            refine v_aload_n E 0 rfl dJ16_add_105 ?_
            refine v_iload_n E 1 rfl dJ16_add_106 ?_
            refine v_aload_n E 2 rfl dJ16_add_107 ?_
            refine v_getf E in_J16 hoa_42 (ci := 6) rfl 0 (by decide) q494 rfl (v := vi x.sign) rfl dJ16_add_108 ?_
            refine v_icmp_ne E (tgt := 118) dJ16_add_111 (by decide) ⟨by omega, by omega⟩ hrx (fun c_111 => ?_) (fun c_111 => ?_)
            · refine v_iconst E dJ16_add_118 ?_
              refine V.frame (fun hfz_fr_47 hfk_fr_47 => ?_)
              rw [hH0] at hfz_fr_47 hfk_fr_47
              rw [hA0] at hfk_fr_47
              have hmq : r0 ≠ q_32 := Ne.symm (hp.ka hC.D ho_34 hr0_46 (by decide) (by decide))
              refine v_callI E (As := [.ref r0, vi (-1)]) (b := q_32) (g_initM κ H_33 (hC.call (fun q h => h.elim) hfz_fr_47 hfk_fr_47) (Nat.le_trans hrn.1 (by decide)) ho_34 hr0_46) q632 q91 q630 q631 rfl 2 (by decide +kernel) rfl (by decide) (by decide) (cb' := (((((3 - 0) - 1) - 1) - 1) - 0)) (sb' := ((((((2 * N + 7) - 0) - nb) - nb) - 6) - 0)) (by omega) (by omega) rfl (rest := [.ref q_32]) (Nat.le_of_ble_eq_true rfl) (fun q9 h => hNew q9 (by rw [show q9 = q_32 from h]; omega)) dJ16_add_119 (fun v_48 H_49 hpost_50 hz_51 hk_52 => ?_)
              clear hz_51
              obtain ⟨rfl, hq9⟩ := hpost_50
              have hm_53 := hr0_46.kept (hk_52 _ hr0_46.lt (fun h => hmq h))
              refine V.eq (st' := [.ref q_32]) rfl ?_
              refine v_aret E hE rfl (Or.inl ⟨_, rfl⟩) dJ16_add_122 (Or.inr ⟨_, rfl⟩) ?_
              obtain ⟨hz9, hs9, hp9⟩ := sg_sml (c := (-1)) c_13 c_4 c_26 hlt9 (Or.inr ⟨rfl, fun h => c_111 (hoe.trans h)⟩)
              have e9 : (if rn = 0 then (0 : Int) else (-1)) = _ := (if_neg (ints_ne hrn hp9)).trans hs9.symm
              rw [e9] at hq9
              exact ⟨_, rfl, BI.mk (n := rn) (m := r0) hq9 (eI.congr hm_53 (fun k hk => by unfold bm bM; rw [hz9])) (by rw [hz9]; exact hrn) (Nat.le_trans hC.le (by omega)) (Or.inr (Nat.le_trans hC.m hr0H))⟩
            · refine v_iconst E dJ16_add_114 ?_
              refine v_goto E (tgt := 119) dJ16_add_115 (by decide) ?_
              refine V.frame (fun hfz_fr_54 hfk_fr_54 => ?_)
              rw [hH0] at hfz_fr_54 hfk_fr_54
              rw [hA0] at hfk_fr_54
              have hmq : r0 ≠ q_32 := Ne.symm (hp.ka hC.D ho_34 hr0_46 (by decide) (by decide))
              refine v_callI E (As := [.ref r0, vi 1]) (b := q_32) (g_initM κ H_33 (hC.call (fun q h => h.elim) hfz_fr_54 hfk_fr_54) (Nat.le_trans hrn.1 (by decide)) ho_34 hr0_46) q632 q91 q630 q631 rfl 2 (by decide +kernel) rfl (by decide) (by decide) (cb' := (((((3 - 0) - 1) - 1) - 1) - 0)) (sb' := ((((((2 * N + 7) - 0) - nb) - nb) - 6) - 0)) (by omega) (by omega) rfl (rest := [.ref q_32]) (Nat.le_of_ble_eq_true rfl) (fun q9 h => hNew q9 (by rw [show q9 = q_32 from h]; omega)) dJ16_add_119 (fun v_55 H_56 hpost_57 hz_58 hk_59 => ?_)
              clear hz_58
              obtain ⟨rfl, hq9⟩ := hpost_57
              have hm_60 := hr0_46.kept (hk_59 _ hr0_46.lt (fun h => hmq h))
              refine V.eq (st' := [.ref q_32]) rfl ?_
              refine v_aret E hE rfl (Or.inl ⟨_, rfl⟩) dJ16_add_122 (Or.inr ⟨_, rfl⟩) ?_
              obtain ⟨hz9, hs9, hp9⟩ := sg_sml (c := 1) c_13 c_4 c_26 hlt9 (Or.inl ⟨rfl, hoe.symm.trans c_111⟩)
              have e9 : (if rn = 0 then (0 : Int) else 1) = _ := (if_neg (ints_ne hrn hp9)).trans hs9.symm
              rw [e9] at hq9
              exact ⟨_, rfl, BI.mk (n := rn) (m := r0) hq9 (eI.congr hm_60 (fun k hk => by unfold bm bM; rw [hz9])) (by rw [hz9]; exact hrn) (Nat.le_trans hC.le (by omega)) (Or.inr (Nat.le_trans hC.m hr0H))⟩
          · refine v_aload_n E 1 rfl dJ16_add_70 ?_
            refine v_getf E in_J16 hoa_6 (ci := 6) rfl 1 (by decide) q496 rfl (v := .ref ma) rfl dJ16_add_71 ?_
            refine v_aload_n E 2 rfl dJ16_add_74 ?_
            refine v_getf E in_J16 hob_8 (ci := 6) rfl 1 (by decide) q496 rfl (v := .ref mb) rfl dJ16_add_75 ?_
            obtain ⟨hoe, hlt9⟩ := cmp_p ho9 c_59 c_67
            refine V.frame (fun hfz_fr_61 hfk_fr_61 => ?_)
            rw [hH0] at hfz_fr_61 hfk_fr_61
            rw [hA0] at hfk_fr_61
            refine v_callS E (As := [.ref ma, .ref mb]) (g_subA κ H_2 (X := (x.natAbs : Int)) (Y := (y.natAbs : Int)) (sg_pos (by assumption)) (hlt9) hna hnb (Nat.le_of_not_lt (fun h => Int.lt_asymm (hlt9) (ints_lt hna hnb h))) hma_7 hmb_9) (lw_S q712 q713 q91 q714) 2 (by decide +kernel) rfl (by decide) (by decide) (cb' := ((3 - 0) - 1)) (sb' := (((2 * N + 7) - 0) - na)) (by omega) (by omega) rfl (rest := []) (Nat.le_of_ble_eq_true rfl) (fun q h => h.elim) dJ16_add_78 (fun v_62 H_63 hpost_64 hz_65 hk_66 => ?_)
            clear hz_65
            obtain ⟨d0, rfl, hd0, hd0H⟩ := hpost_64
            have hd0H := Nat.le_trans hfz_fr_61 hd0H
            have hoa_67 := hoa_6.kept (hk_66 _ hoa_6.lt (fun h => h))
            have hma_68 := hma_7.kept (hk_66 _ hma_7.lt (fun h => h))
            have hob_69 := hob_8.kept (hk_66 _ hob_8.lt (fun h => h))
            have hmb_70 := hmb_9.kept (hk_66 _ hmb_9.lt (fun h => h))
            refine V.eq (st' := [.ref d0]) rfl ?_
            refine v_goto E (tgt := 95) dJ16_add_81 (by decide) ?_
            refine v_astore_n E dJ16_add_95 (zlt hL rfl) (lv' := [(3, .ref d0), (2, vi o), (0, .ref a), (1, .ref b)]) rfl ?_
            refine v_aload_n E 0 rfl dJ16_add_96 ?_
            refine V.frame (fun hfz_fr_71 hfk_fr_71 => ?_)
            rw [hH0] at hfz_fr_71 hfk_fr_71
            rw [hA0] at hfk_fr_71
            refine v_callS E (As := [.ref d0]) (g_strip κ H_63 (Z := ((x.natAbs : Int) - (y.natAbs : Int))) (n := na) (Int.le_of_lt (Int.sub_pos.mpr (hlt9))) (Int.lt_of_le_of_lt (sub_le9 _ _) hna.2.1) (Int.lt_of_le_of_lt (sub_le8 _ _).1 hs) (Nat.le_trans hna.1 (by decide)) hd0) (lw_S q715 q716 q91 q717) 1 (by decide +kernel) rfl (by decide) (by decide) (cb' := (((3 - 0) - 1) - 1)) (sb' := ((((2 * N + 7) - 0) - na) - na)) (by omega) (by omega) rfl (rest := []) (Nat.le_of_ble_eq_true rfl) (fun q h => h.elim) dJ16_add_97 (fun v_72 H_73 hpost_74 hz_75 hk_76 => ?_)
            clear hz_75
            obtain ⟨r0, rn, rfl, hr0, hrn, hr0H⟩ := hpost_74
            have hr0H : H0.size ≤ r0 := hr0H.elim (fun h => by rw [h]; exact hd0H) (fun h => Nat.le_trans hfz_fr_71 h)
            have hoa_77 := hoa_67.kept (hk_76 _ hoa_67.lt (fun h => h))
            have hma_78 := hma_68.kept (hk_76 _ hma_68.lt (fun h => h))
            have hob_79 := hob_69.kept (hk_76 _ hob_69.lt (fun h => h))
            have hmb_80 := hmb_70.kept (hk_76 _ hmb_70.lt (fun h => h))
            have hd0_81 := hd0.kept (hk_76 _ hd0.lt (fun h => h))
            refine V.eq (st' := [.ref r0]) rfl ?_
            refine v_astore_n E dJ16_add_100 (zlt hL rfl) (lv' := [(3, .ref r0), (2, vi o), (0, .ref a), (1, .ref b)]) rfl ?_
            refine V.frame (fun hfz_fr_82 hfk_fr_82 => ?_)
            rw [hH0] at hfz_fr_82 hfk_fr_82
            rw [hA0] at hfk_fr_82
            refine v_new E in_J16 tyJ16 tyJ16_ok q485 q486 q91 (ci := 6) rfl (fs := [vi 0, .null, vi 0, vi 0, vi 0, vi 0]) (fun j hj => by rcases (show j = 0 ∨ j = 1 ∨ j = 2 ∨ j = 3 ∨ j = 4 ∨ j = 5 by omega) with rfl | rfl | rfl | rfl | rfl | rfl <;> rfl) (cb' := ((((3 - 0) - 1) - 1) - 1)) (sb' := (((((2 * N + 7) - 0) - na) - na) - 6)) (by omega) (by omega) dJ16_add_101 (fun q_83 H_84 hq_87 ho_85 hg_86 => ?_)
            have hne_a_q_83 : a ≠ q_83 := by have := hoa_77.lt; omega
            have hne_ma_q_83 : ma ≠ q_83 := by have := hma_78.lt; omega
            have hne_b_q_83 : b ≠ q_83 := by have := hob_79.lt; omega
            have hne_mb_q_83 : mb ≠ q_83 := by have := hmb_80.lt; omega
            have hne_r0_q_83 : r0 ≠ q_83 := by have := hr0.lt; omega
            have hoa_93 := hoa_77.grow hg_86
            have hma_94 := hma_78.grow hg_86
            have hob_95 := hob_79.grow hg_86
            have hmb_96 := hmb_80.grow hg_86
            have hr0_97 := hr0.grow hg_86
            refine v_dup E rfl dJ16_add_104 ?_
            refine v_aload_n E 0 rfl dJ16_add_105 ?_
            refine v_iload_n E 1 rfl dJ16_add_106 ?_
            refine v_aload_n E 2 rfl dJ16_add_107 ?_
            refine v_getf E in_J16 hoa_93 (ci := 6) rfl 0 (by decide) q494 rfl (v := vi x.sign) rfl dJ16_add_108 ?_
            refine v_icmp_ne E (tgt := 118) dJ16_add_111 (by decide) ⟨by omega, by omega⟩ hrx (fun c_111 => ?_) (fun c_111 => ?_)
            · refine v_iconst E dJ16_add_118 ?_
              refine V.frame (fun hfz_fr_98 hfk_fr_98 => ?_)
              rw [hH0] at hfz_fr_98 hfk_fr_98
              rw [hA0] at hfk_fr_98
              have hmq : r0 ≠ q_83 := Ne.symm (hp.ka hC.D ho_85 hr0_97 (by decide) (by decide))
              refine v_callI E (As := [.ref r0, vi (-1)]) (b := q_83) (g_initM κ H_84 (hC.call (fun q h => h.elim) hfz_fr_98 hfk_fr_98) (Nat.le_trans hrn.1 (by decide)) ho_85 hr0_97) q632 q91 q630 q631 rfl 2 (by decide +kernel) rfl (by decide) (by decide) (cb' := (((((3 - 0) - 1) - 1) - 1) - 0)) (sb' := ((((((2 * N + 7) - 0) - na) - na) - 6) - 0)) (by omega) (by omega) rfl (rest := [.ref q_83]) (Nat.le_of_ble_eq_true rfl) (fun q9 h => hNew q9 (by rw [show q9 = q_83 from h]; omega)) dJ16_add_119 (fun v_99 H_100 hpost_101 hz_102 hk_103 => ?_)
              clear hz_102
              obtain ⟨rfl, hq9⟩ := hpost_101
              have hm_104 := hr0_97.kept (hk_103 _ hr0_97.lt (fun h => hmq h))
              refine V.eq (st' := [.ref q_83]) rfl ?_
              refine v_aret E hE rfl (Or.inl ⟨_, rfl⟩) dJ16_add_122 (Or.inr ⟨_, rfl⟩) ?_
              obtain ⟨hz9, hs9, hp9⟩ := sg_big (c := (-1)) c_13 c_4 c_26 hlt9 (Or.inr ⟨rfl, fun h => c_111 (hoe.trans h)⟩)
              have e9 : (if rn = 0 then (0 : Int) else (-1)) = _ := (if_neg (ints_ne hrn hp9)).trans hs9.symm
              rw [e9] at hq9
              exact ⟨_, rfl, BI.mk (n := rn) (m := r0) hq9 (eI.congr hm_104 (fun k hk => by unfold bm bM; rw [hz9])) (by rw [hz9]; exact hrn) (Nat.le_trans hC.le (by omega)) (Or.inr (Nat.le_trans hC.m hr0H))⟩
            · refine v_iconst E dJ16_add_114 ?_
              refine v_goto E (tgt := 119) dJ16_add_115 (by decide) ?_
              refine V.frame (fun hfz_fr_105 hfk_fr_105 => ?_)
              rw [hH0] at hfz_fr_105 hfk_fr_105
              rw [hA0] at hfk_fr_105
              have hmq : r0 ≠ q_83 := Ne.symm (hp.ka hC.D ho_85 hr0_97 (by decide) (by decide))
              refine v_callI E (As := [.ref r0, vi 1]) (b := q_83) (g_initM κ H_84 (hC.call (fun q h => h.elim) hfz_fr_105 hfk_fr_105) (Nat.le_trans hrn.1 (by decide)) ho_85 hr0_97) q632 q91 q630 q631 rfl 2 (by decide +kernel) rfl (by decide) (by decide) (cb' := (((((3 - 0) - 1) - 1) - 1) - 0)) (sb' := ((((((2 * N + 7) - 0) - na) - na) - 6) - 0)) (by omega) (by omega) rfl (rest := [.ref q_83]) (Nat.le_of_ble_eq_true rfl) (fun q9 h => hNew q9 (by rw [show q9 = q_83 from h]; omega)) dJ16_add_119 (fun v_106 H_107 hpost_108 hz_109 hk_110 => ?_)
              clear hz_109
              obtain ⟨rfl, hq9⟩ := hpost_108
              have hm_111 := hr0_97.kept (hk_110 _ hr0_97.lt (fun h => hmq h))
              refine V.eq (st' := [.ref q_83]) rfl ?_
              refine v_aret E hE rfl (Or.inl ⟨_, rfl⟩) dJ16_add_122 (Or.inr ⟨_, rfl⟩) ?_
              obtain ⟨hz9, hs9, hp9⟩ := sg_big (c := 1) c_13 c_4 c_26 hlt9 (Or.inl ⟨rfl, hoe.symm.trans c_111⟩)
              have e9 : (if rn = 0 then (0 : Int) else 1) = _ := (if_neg (ints_ne hrn hp9)).trans hs9.symm
              rw [e9] at hq9
              exact ⟨_, rfl, BI.mk (n := rn) (m := r0) hq9 (eI.congr hm_111 (fun k hk => by unfold bm bM; rw [hz9])) (by rw [hz9]; exact hrn) (Nat.le_trans hC.le (by omega)) (Or.inr (Nat.le_trans hC.m hr0H))⟩
        · refine V.frame (fun hfz_fr_112 hfk_fr_112 => ?_)
          rw [hH0] at hfz_fr_112 hfk_fr_112
          rw [hA0] at hfk_fr_112
          have hC9 := hC.call (fun q h => h.elim) hfz_fr_112 hfk_fr_112
          refine V.frame (fun hfz_fr_113 hfk_fr_113 => ?_)
          rw [hH0] at hfz_fr_113 hfk_fr_113
          rw [hA0] at hfk_fr_113
          refine v_gets E 0 rfl q477 (CO.s0 (hC.call (fun q h => h.elim) hfz_fr_113 hfk_fr_113)) dJ16_add_62 ?_
          refine v_aret E hE rfl (Or.inl ⟨_, rfl⟩) dJ16_add_65 (Or.inr ⟨_, rfl⟩) ?_
          exact ⟨_, rfl, by rw [sg_eq c_13 c_4 c_26 (ho0 c_59)]; exact ⟨_, _, _, hC9.2.2.2.2.2.2.2.2.2.2.1⟩⟩
      · refine V.frame (fun hfz_fr_114 hfk_fr_114 => ?_)
        rw [hH0] at hfz_fr_114 hfk_fr_114
        rw [hA0] at hfk_fr_114
        refine v_new E in_J16 tyJ16 tyJ16_ok q485 q486 q91 (ci := 6) rfl (fs := [vi 0, .null, vi 0, vi 0, vi 0, vi 0]) (fun j hj => by rcases (show j = 0 ∨ j = 1 ∨ j = 2 ∨ j = 3 ∨ j = 4 ∨ j = 5 by omega) with rfl | rfl | rfl | rfl | rfl | rfl <;> rfl) (cb' := (3 - 1)) (sb' := ((2 * N + 7) - 6)) (by omega) (by omega) dJ16_add_29 (fun q_115 H_116 hq_119 ho_117 hg_118 => ?_)
        have hne_a_q_115 : a ≠ q_115 := by have := hoa.lt; omega
        have hne_ma_q_115 : ma ≠ q_115 := by have := hma.lt; omega
        have hne_b_q_115 : b ≠ q_115 := by have := hob.lt; omega
        have hne_mb_q_115 : mb ≠ q_115 := by have := hmb.lt; omega
        have hoa_124 := hoa.grow hg_118
        have hma_125 := hma.grow hg_118
        have hob_126 := hob.grow hg_118
        have hmb_127 := hmb.grow hg_118
        refine v_dup E rfl dJ16_add_32 ?_
        refine v_aload_n E 0 rfl dJ16_add_33 ?_
        refine v_getf E in_J16 hoa_124 (ci := 6) rfl 1 (by decide) q496 rfl (v := .ref ma) rfl dJ16_add_34 ?_
        refine v_aload_n E 1 rfl dJ16_add_37 ?_
        refine v_getf E in_J16 hob_126 (ci := 6) rfl 1 (by decide) q496 rfl (v := .ref mb) rfl dJ16_add_38 ?_
        refine V.frame (fun hfz_fr_128 hfk_fr_128 => ?_)
        rw [hH0] at hfz_fr_128 hfk_fr_128
        rw [hA0] at hfk_fr_128
        refine v_callS E (As := [.ref ma, .ref mb]) (g_addA κ H_116 (X := (x.natAbs : Int)) (Y := (y.natAbs : Int)) (N := N) (sg_pos (by assumption)) (sg_pos (by assumption)) hna hnb (by omega) (by omega) hs rfl hma_125 hmb_127) (lw_S q708 q709 q91 q710) 2 (by decide +kernel) rfl (by decide) (by decide) (cb' := ((3 - 1) - 2)) (sb' := (((2 * N + 7) - 6) - (2 * N + 1))) (by omega) (by omega) rfl (rest := [.ref q_115, .ref q_115]) (Nat.le_of_ble_eq_true rfl) (fun q h => h.elim) dJ16_add_41 (fun v_129 H_130 hpost_131 hz_132 hk_133 => ?_)
        clear hz_132
        obtain ⟨r0, rn, rfl, hr0, hrn, hr0H⟩ := hpost_131
        have hr0H := Nat.le_trans hfz_fr_128 hr0H
        have hoa_134 := hoa_124.kept (hk_133 _ hoa_124.lt (fun h => h))
        have hma_135 := hma_125.kept (hk_133 _ hma_125.lt (fun h => h))
        have hob_136 := hob_126.kept (hk_133 _ hob_126.lt (fun h => h))
        have hmb_137 := hmb_127.kept (hk_133 _ hmb_127.lt (fun h => h))
        have ho_138 := ho_117.kept (hk_133 _ ho_117.lt (fun h => h))
        refine V.eq (st' := [.ref r0, .ref q_115, .ref q_115]) rfl ?_
        refine v_aload_n E 0 rfl dJ16_add_44 ?_
        refine v_getf E in_J16 hoa_134 (ci := 6) rfl 0 (by decide) q494 rfl (v := vi x.sign) rfl dJ16_add_45 ?_
        refine V.frame (fun hfz_fr_139 hfk_fr_139 => ?_)
        rw [hH0] at hfz_fr_139 hfk_fr_139
        rw [hA0] at hfk_fr_139
        have hmq : r0 ≠ q_115 := Ne.symm (hp.ka hC.D ho_138 hr0 (by decide) (by decide))
        refine v_callI E (As := [.ref r0, vi x.sign]) (b := q_115) (g_initM κ H_130 (hC.call (fun q h => h.elim) hfz_fr_139 hfk_fr_139) (Nat.le_trans hrn.1 (by decide)) ho_138 hr0) q632 q91 q630 q631 rfl 2 (by decide +kernel) rfl (by decide) (by decide) (cb' := (((3 - 1) - 2) - 0)) (sb' := ((((2 * N + 7) - 6) - (2 * N + 1)) - 0)) (by omega) (by omega) rfl (rest := [.ref q_115]) (Nat.le_of_ble_eq_true rfl) (fun q9 h => hNew q9 (by rw [show q9 = q_115 from h]; omega)) dJ16_add_48 (fun v_140 H_141 hpost_142 hz_143 hk_144 => ?_)
        clear hz_143
        obtain ⟨rfl, hq9⟩ := hpost_142
        have hm_145 := hr0.kept (hk_144 _ hr0.lt (fun h => hmq h))
        refine V.eq (st' := [.ref q_115]) rfl ?_
        refine v_aret E hE rfl (Or.inl ⟨_, rfl⟩) dJ16_add_51 (Or.inr ⟨_, rfl⟩) ?_
        obtain ⟨hz9, hs9, hp9⟩ := sg_add c_13 c_26
        have e9 : (if rn = 0 then (0 : Int) else x.sign) = _ := (if_neg (ints_ne hrn hp9)).trans hs9.symm
        rw [e9] at hq9
        exact ⟨_, rfl, BI.mk (n := rn) (m := r0) hq9 (eI.congr hm_145 (fun k hk => by unfold bm bM; rw [hz9])) (by rw [hz9]; exact hrn) (Nat.le_trans hC.le (by omega)) (Or.inr (Nat.le_trans hC.m hr0H))⟩
    · refine v_aload_n E 1 rfl dJ16_add_16 ?_
      refine v_aret E hE rfl (Or.inl ⟨_, rfl⟩) dJ16_add_17 (Or.inr ⟨_, rfl⟩) ?_
      exact ⟨_, rfl, by rw [sg_zero c_13, Int.zero_add]; exact ⟨mb, nb, cfb, ⟨c1b, c2b, c3b, hob⟩, hmb, hnb, hcfb⟩⟩
  · refine v_aload_n E 0 rfl dJ16_add_7 ?_
    refine v_aret E hE rfl (Or.inl ⟨_, rfl⟩) dJ16_add_8 (Or.inr ⟨_, rfl⟩) ?_
    exact ⟨_, rfl, by rw [sg_zero c_4, Int.add_zero]; exact ⟨ma, na, cfa, ⟨c1a, c2a, c3a, hoa⟩, hma, hna, hcfa⟩⟩

set_option maxHeartbeats 1000000 in
set_option maxRecDepth 100000 in
/-- g_sub of big integers -/
theorem g_sub (κ : zK) (H0 : Heap) {a : Nat} {x : Int} {b : Nat} {y : Int} {N : Nat} (hC : CO κ H0) (hx : BI κ H0 a x) (hy : BI κ H0 b y) (hNx : (x.natAbs : Int) < 2 ^ (32 * N)) (hNy : (y.natAbs : Int) < 2 ^ (32 * N)) (hs : sB ((x.natAbs : Int) + (y.natAbs : Int)))  : Mt κ yJ16_subtract_2 cJ16_subtract_2 4 (some (.object "java/math/BigInteger")) 4 95 3 (2 * N + 7) H0 [.ref a, .ref b] (fun _ => False) (fun v H1 => ∃ q : Nat, v = some (.ref q) ∧ BI κ H1 q (x - y)) := by
  refine Mt.of (by decide) (Nat.le_of_ble_eq_true rfl) ?_
  intro z E hE hH0 hA0 hL hini
  have hAll : ∀ q, (fun _ => False) q → zA z.A z.H0 q := fun q h => Or.inl (by rw [hA0]; exact h)
  have hNew : ∀ q, H0.size ≤ q → zA z.A z.H0 q := fun q h => Or.inr (by rw [hH0]; exact h)
  have E : zOK z cJ16_subtract_2 RJ16 κ 4 95 (some (.object "java/math/BigInteger")) := E
  refine V.eqL (lv' := [(0, .ref a), (1, .ref b)]) rfl ?_
  obtain ⟨ma, na, cfa, ⟨c1a, c2a, c3a, hoa⟩, hma, hna, hcfa⟩ := hx
  change Hid _ at hcfa
  have hsa := sgn3 x
  have h48a := hna.1
  obtain ⟨mb, nb, cfb, ⟨c1b, c2b, c3b, hob⟩, hmb, hnb, hcfb⟩ := hy
  change Hid _ at hcfb
  have hsb := sgn3 y
  have h48b := hnb.1
  have hLx := ints_le (Int.natCast_nonneg _) hna hNx
  have hLy := ints_le (Int.natCast_nonneg _) hnb hNy
  have hrx := rsign x
  have hry := rsign y
  clear hsa hsb hNx hNy
  refine v_aload_n E 1 rfl dJ16_subtract_2_0 ?_
  refine v_getf E in_J16 hob (ci := 6) rfl 0 (by decide) q494 rfl (v := vi y.sign) rfl dJ16_subtract_2_1 ?_
  refine v_if_ne E (tgt := 9) dJ16_subtract_2_4 (by decide) hry (fun c_4 => ?_) (fun c_4 => ?_)
  · refine v_aload_n E 0 rfl dJ16_subtract_2_9 ?_
    refine v_getf E in_J16 hoa (ci := 6) rfl 0 (by decide) q494 rfl (v := vi x.sign) rfl dJ16_subtract_2_10 ?_
    refine v_if_ne E (tgt := 21) dJ16_subtract_2_13 (by decide) hrx (fun c_13 => ?_) (fun c_13 => ?_)
    · refine v_aload_n E 1 rfl dJ16_subtract_2_21 ?_
      refine v_getf E in_J16 hob (ci := 6) rfl 0 (by decide) q494 rfl (v := vi y.sign) rfl dJ16_subtract_2_22 ?_
      refine v_aload_n E 0 rfl dJ16_subtract_2_25 ?_
      refine v_getf E in_J16 hoa (ci := 6) rfl 0 (by decide) q494 rfl (v := vi x.sign) rfl dJ16_subtract_2_26 ?_
      refine v_icmp_eq E (tgt := 55) dJ16_subtract_2_29 (by decide) hry hrx (fun c_29 => ?_) (fun c_29 => ?_)
      · refine v_aload_n E 0 rfl dJ16_subtract_2_55 ?_
        refine v_aload_n E 1 rfl dJ16_subtract_2_56 ?_
        refine v_callV E (As := [.ref b]) (b := a) (ci := 6) (C := RJ16) (T := TJ16) (N := 6) hoa rfl (g_cmpM κ H0 (x := x) (y := y) ⟨ma, na, cfa, ⟨c1a, c2a, c3a, hoa⟩, hma, hna, hcfa⟩ ⟨mb, nb, cfb, ⟨c1b, c2b, c3b, hob⟩, hmb, hnb, hcfb⟩) (lw_V q661 q662 q663 q91 q664) 1 (by decide +kernel) rfl (by decide) (by decide) (cb' := (3 - 0)) (sb' := ((2 * N + 7) - 0)) (by omega) (by omega) rfl (rest := []) (Nat.le_of_ble_eq_true rfl) (fun q h => h.elim) dJ16_subtract_2_57 (fun v_1 H_2 hpost_3 hz_4 hk_5 => ?_)
        clear hz_4
        obtain ⟨o, rfl, ho9⟩ := hpost_3
        have hoa_6 := hoa.kept (hk_5 _ hoa.lt (fun h => h))
        have hma_7 := hma.kept (hk_5 _ hma.lt (fun h => h))
        have hob_8 := hob.kept (hk_5 _ hob.lt (fun h => h))
        have hmb_9 := hmb.kept (hk_5 _ hmb.lt (fun h => h))
        refine V.eq (st' := [vi o]) rfl ?_
        refine v_istore_n E dJ16_subtract_2_60 (zlt hL rfl) (lv' := [(2, vi o), (0, .ref a), (1, .ref b)]) rfl ?_
        refine v_iload_n E 0 rfl dJ16_subtract_2_61 ?_
        have ho0 := cmp_0 ho9
        have hri := cmp_r ho9
        refine v_if_ne E (tgt := 69) dJ16_subtract_2_62 (by decide) hri (fun c_62 => ?_) (fun c_62 => ?_)
        · refine v_iload_n E 0 rfl dJ16_subtract_2_69 ?_
          refine v_if_le E (tgt := 87) dJ16_subtract_2_70 (by decide) hri (fun c_70 => ?_) (fun c_70 => ?_)
          · refine v_aload_n E 2 rfl dJ16_subtract_2_87 ?_
            refine v_getf E in_J16 hob_8 (ci := 6) rfl 1 (by decide) q496 rfl (v := .ref mb) rfl dJ16_subtract_2_88 ?_
            refine v_aload_n E 1 rfl dJ16_subtract_2_91 ?_
            refine v_getf E in_J16 hoa_6 (ci := 6) rfl 1 (by decide) q496 rfl (v := .ref ma) rfl dJ16_subtract_2_92 ?_
            obtain ⟨hoe, hlt9⟩ := cmp_n ho9 c_62 c_70
            refine V.frame (fun hfz_fr_10 hfk_fr_10 => ?_)
            rw [hH0] at hfz_fr_10 hfk_fr_10
            rw [hA0] at hfk_fr_10
            refine v_callS E (As := [.ref mb, .ref ma]) (g_subA κ H_2 (X := (y.natAbs : Int)) (Y := (x.natAbs : Int)) (sg_pos (by assumption)) (hlt9) hnb hna (Nat.le_of_not_lt (fun h => Int.lt_asymm (hlt9) (ints_lt hnb hna h))) hmb_9 hma_7) (lw_S q712 q713 q91 q714) 2 (by decide +kernel) rfl (by decide) (by decide) (cb' := ((3 - 0) - 1)) (sb' := (((2 * N + 7) - 0) - nb)) (by omega) (by omega) rfl (rest := []) (Nat.le_of_ble_eq_true rfl) (fun q h => h.elim) dJ16_subtract_2_95 (fun v_11 H_12 hpost_13 hz_14 hk_15 => ?_)
            clear hz_14
            obtain ⟨d0, rfl, hd0, hd0H⟩ := hpost_13
            have hd0H := Nat.le_trans hfz_fr_10 hd0H
            have hoa_16 := hoa_6.kept (hk_15 _ hoa_6.lt (fun h => h))
            have hma_17 := hma_7.kept (hk_15 _ hma_7.lt (fun h => h))
            have hob_18 := hob_8.kept (hk_15 _ hob_8.lt (fun h => h))
            have hmb_19 := hmb_9.kept (hk_15 _ hmb_9.lt (fun h => h))
            refine V.eq (st' := [.ref d0]) rfl ?_
            refine v_astore_n E dJ16_subtract_2_98 (zlt hL rfl) (lv' := [(3, .ref d0), (2, vi o), (0, .ref a), (1, .ref b)]) rfl ?_
            refine v_aload_n E 0 rfl dJ16_subtract_2_99 ?_
            refine V.frame (fun hfz_fr_20 hfk_fr_20 => ?_)
            rw [hH0] at hfz_fr_20 hfk_fr_20
            rw [hA0] at hfk_fr_20
            refine v_callS E (As := [.ref d0]) (g_strip κ H_12 (Z := ((y.natAbs : Int) - (x.natAbs : Int))) (n := nb) (Int.le_of_lt (Int.sub_pos.mpr (hlt9))) (Int.lt_of_le_of_lt (sub_le9 _ _) hnb.2.1) (Int.lt_of_le_of_lt (sub_le8 _ _).2 hs) (Nat.le_trans hnb.1 (by decide)) hd0) (lw_S q715 q716 q91 q717) 1 (by decide +kernel) rfl (by decide) (by decide) (cb' := (((3 - 0) - 1) - 1)) (sb' := ((((2 * N + 7) - 0) - nb) - nb)) (by omega) (by omega) rfl (rest := []) (Nat.le_of_ble_eq_true rfl) (fun q h => h.elim) dJ16_subtract_2_100 (fun v_21 H_22 hpost_23 hz_24 hk_25 => ?_)
            clear hz_24
            obtain ⟨r0, rn, rfl, hr0, hrn, hr0H⟩ := hpost_23
            have hr0H : H0.size ≤ r0 := hr0H.elim (fun h => by rw [h]; exact hd0H) (fun h => Nat.le_trans hfz_fr_20 h)
            have hoa_26 := hoa_16.kept (hk_25 _ hoa_16.lt (fun h => h))
            have hma_27 := hma_17.kept (hk_25 _ hma_17.lt (fun h => h))
            have hob_28 := hob_18.kept (hk_25 _ hob_18.lt (fun h => h))
            have hmb_29 := hmb_19.kept (hk_25 _ hmb_19.lt (fun h => h))
            have hd0_30 := hd0.kept (hk_25 _ hd0.lt (fun h => h))
            refine V.eq (st' := [.ref r0]) rfl ?_
            refine v_astore_n E dJ16_subtract_2_103 (zlt hL rfl) (lv' := [(3, .ref r0), (2, vi o), (0, .ref a), (1, .ref b)]) rfl ?_
            refine V.frame (fun hfz_fr_31 hfk_fr_31 => ?_)
            rw [hH0] at hfz_fr_31 hfk_fr_31
            rw [hA0] at hfk_fr_31
            refine v_new E in_J16 tyJ16 tyJ16_ok q485 q486 q91 (ci := 6) rfl (fs := [vi 0, .null, vi 0, vi 0, vi 0, vi 0]) (fun j hj => by rcases (show j = 0 ∨ j = 1 ∨ j = 2 ∨ j = 3 ∨ j = 4 ∨ j = 5 by omega) with rfl | rfl | rfl | rfl | rfl | rfl <;> rfl) (cb' := ((((3 - 0) - 1) - 1) - 1)) (sb' := (((((2 * N + 7) - 0) - nb) - nb) - 6)) (by omega) (by omega) dJ16_subtract_2_104 (fun q_32 H_33 hq_36 ho_34 hg_35 => ?_)
            have hne_a_q_32 : a ≠ q_32 := by have := hoa_26.lt; omega
            have hne_ma_q_32 : ma ≠ q_32 := by have := hma_27.lt; omega
            have hne_b_q_32 : b ≠ q_32 := by have := hob_28.lt; omega
            have hne_mb_q_32 : mb ≠ q_32 := by have := hmb_29.lt; omega
            have hne_r0_q_32 : r0 ≠ q_32 := by have := hr0.lt; omega
            have hoa_42 := hoa_26.grow hg_35
            have hma_43 := hma_27.grow hg_35
            have hob_44 := hob_28.grow hg_35
            have hmb_45 := hmb_29.grow hg_35
            have hr0_46 := hr0.grow hg_35
            refine v_dup E rfl dJ16_subtract_2_107 ?_
            refine v_aload_n E 0 rfl dJ16_subtract_2_108 ?_
            refine v_iload_n E 1 rfl dJ16_subtract_2_109 ?_
            refine v_aload_n E 2 rfl dJ16_subtract_2_110 ?_
            refine v_getf E in_J16 hoa_42 (ci := 6) rfl 0 (by decide) q494 rfl (v := vi x.sign) rfl dJ16_subtract_2_111 ?_
            refine v_icmp_ne E (tgt := 121) dJ16_subtract_2_114 (by decide) ⟨by omega, by omega⟩ hrx (fun c_114 => ?_) (fun c_114 => ?_)
            · refine v_iconst E dJ16_subtract_2_121 ?_
              refine V.frame (fun hfz_fr_47 hfk_fr_47 => ?_)
              rw [hH0] at hfz_fr_47 hfk_fr_47
              rw [hA0] at hfk_fr_47
              have hmq : r0 ≠ q_32 := Ne.symm (hp.ka hC.D ho_34 hr0_46 (by decide) (by decide))
              refine v_callI E (As := [.ref r0, vi (-1)]) (b := q_32) (g_initM κ H_33 (hC.call (fun q h => h.elim) hfz_fr_47 hfk_fr_47) (Nat.le_trans hrn.1 (by decide)) ho_34 hr0_46) q632 q91 q630 q631 rfl 2 (by decide +kernel) rfl (by decide) (by decide) (cb' := (((((3 - 0) - 1) - 1) - 1) - 0)) (sb' := ((((((2 * N + 7) - 0) - nb) - nb) - 6) - 0)) (by omega) (by omega) rfl (rest := [.ref q_32]) (Nat.le_of_ble_eq_true rfl) (fun q9 h => hNew q9 (by rw [show q9 = q_32 from h]; omega)) dJ16_subtract_2_122 (fun v_48 H_49 hpost_50 hz_51 hk_52 => ?_)
              clear hz_51
              obtain ⟨rfl, hq9⟩ := hpost_50
              have hm_53 := hr0_46.kept (hk_52 _ hr0_46.lt (fun h => hmq h))
              refine V.eq (st' := [.ref q_32]) rfl ?_
              refine v_aret E hE rfl (Or.inl ⟨_, rfl⟩) dJ16_subtract_2_125 (Or.inr ⟨_, rfl⟩) ?_
              obtain ⟨hz9, hs9, hp9⟩ := sd_sml (c := (-1)) c_13 c_29 hlt9 (Or.inr ⟨rfl, fun h => c_114 (hoe.trans h)⟩)
              have e9 : (if rn = 0 then (0 : Int) else (-1)) = _ := (if_neg (ints_ne hrn hp9)).trans hs9.symm
              rw [e9] at hq9
              exact ⟨_, rfl, BI.mk (n := rn) (m := r0) hq9 (eI.congr hm_53 (fun k hk => by unfold bm bM; rw [hz9])) (by rw [hz9]; exact hrn) (Nat.le_trans hC.le (by omega)) (Or.inr (Nat.le_trans hC.m hr0H))⟩
            · refine v_iconst E dJ16_subtract_2_117 ?_
              refine v_goto E (tgt := 122) dJ16_subtract_2_118 (by decide) ?_
              refine V.frame (fun hfz_fr_54 hfk_fr_54 => ?_)
              rw [hH0] at hfz_fr_54 hfk_fr_54
              rw [hA0] at hfk_fr_54
              have hmq : r0 ≠ q_32 := Ne.symm (hp.ka hC.D ho_34 hr0_46 (by decide) (by decide))
              refine v_callI E (As := [.ref r0, vi 1]) (b := q_32) (g_initM κ H_33 (hC.call (fun q h => h.elim) hfz_fr_54 hfk_fr_54) (Nat.le_trans hrn.1 (by decide)) ho_34 hr0_46) q632 q91 q630 q631 rfl 2 (by decide +kernel) rfl (by decide) (by decide) (cb' := (((((3 - 0) - 1) - 1) - 1) - 0)) (sb' := ((((((2 * N + 7) - 0) - nb) - nb) - 6) - 0)) (by omega) (by omega) rfl (rest := [.ref q_32]) (Nat.le_of_ble_eq_true rfl) (fun q9 h => hNew q9 (by rw [show q9 = q_32 from h]; omega)) dJ16_subtract_2_122 (fun v_55 H_56 hpost_57 hz_58 hk_59 => ?_)
              clear hz_58
              obtain ⟨rfl, hq9⟩ := hpost_57
              have hm_60 := hr0_46.kept (hk_59 _ hr0_46.lt (fun h => hmq h))
              refine V.eq (st' := [.ref q_32]) rfl ?_
              refine v_aret E hE rfl (Or.inl ⟨_, rfl⟩) dJ16_subtract_2_125 (Or.inr ⟨_, rfl⟩) ?_
              obtain ⟨hz9, hs9, hp9⟩ := sd_sml (c := 1) c_13 c_29 hlt9 (Or.inl ⟨rfl, hoe.symm.trans c_114⟩)
              have e9 : (if rn = 0 then (0 : Int) else 1) = _ := (if_neg (ints_ne hrn hp9)).trans hs9.symm
              rw [e9] at hq9
              exact ⟨_, rfl, BI.mk (n := rn) (m := r0) hq9 (eI.congr hm_60 (fun k hk => by unfold bm bM; rw [hz9])) (by rw [hz9]; exact hrn) (Nat.le_trans hC.le (by omega)) (Or.inr (Nat.le_trans hC.m hr0H))⟩
          · refine v_aload_n E 1 rfl dJ16_subtract_2_73 ?_
            refine v_getf E in_J16 hoa_6 (ci := 6) rfl 1 (by decide) q496 rfl (v := .ref ma) rfl dJ16_subtract_2_74 ?_
            refine v_aload_n E 2 rfl dJ16_subtract_2_77 ?_
            refine v_getf E in_J16 hob_8 (ci := 6) rfl 1 (by decide) q496 rfl (v := .ref mb) rfl dJ16_subtract_2_78 ?_
            obtain ⟨hoe, hlt9⟩ := cmp_p ho9 c_62 c_70
            refine V.frame (fun hfz_fr_61 hfk_fr_61 => ?_)
            rw [hH0] at hfz_fr_61 hfk_fr_61
            rw [hA0] at hfk_fr_61
            refine v_callS E (As := [.ref ma, .ref mb]) (g_subA κ H_2 (X := (x.natAbs : Int)) (Y := (y.natAbs : Int)) (sg_pos (by assumption)) (hlt9) hna hnb (Nat.le_of_not_lt (fun h => Int.lt_asymm (hlt9) (ints_lt hna hnb h))) hma_7 hmb_9) (lw_S q712 q713 q91 q714) 2 (by decide +kernel) rfl (by decide) (by decide) (cb' := ((3 - 0) - 1)) (sb' := (((2 * N + 7) - 0) - na)) (by omega) (by omega) rfl (rest := []) (Nat.le_of_ble_eq_true rfl) (fun q h => h.elim) dJ16_subtract_2_81 (fun v_62 H_63 hpost_64 hz_65 hk_66 => ?_)
            clear hz_65
            obtain ⟨d0, rfl, hd0, hd0H⟩ := hpost_64
            have hd0H := Nat.le_trans hfz_fr_61 hd0H
            have hoa_67 := hoa_6.kept (hk_66 _ hoa_6.lt (fun h => h))
            have hma_68 := hma_7.kept (hk_66 _ hma_7.lt (fun h => h))
            have hob_69 := hob_8.kept (hk_66 _ hob_8.lt (fun h => h))
            have hmb_70 := hmb_9.kept (hk_66 _ hmb_9.lt (fun h => h))
            refine V.eq (st' := [.ref d0]) rfl ?_
            refine v_goto E (tgt := 98) dJ16_subtract_2_84 (by decide) ?_
            refine v_astore_n E dJ16_subtract_2_98 (zlt hL rfl) (lv' := [(3, .ref d0), (2, vi o), (0, .ref a), (1, .ref b)]) rfl ?_
            refine v_aload_n E 0 rfl dJ16_subtract_2_99 ?_
            refine V.frame (fun hfz_fr_71 hfk_fr_71 => ?_)
            rw [hH0] at hfz_fr_71 hfk_fr_71
            rw [hA0] at hfk_fr_71
            refine v_callS E (As := [.ref d0]) (g_strip κ H_63 (Z := ((x.natAbs : Int) - (y.natAbs : Int))) (n := na) (Int.le_of_lt (Int.sub_pos.mpr (hlt9))) (Int.lt_of_le_of_lt (sub_le9 _ _) hna.2.1) (Int.lt_of_le_of_lt (sub_le8 _ _).1 hs) (Nat.le_trans hna.1 (by decide)) hd0) (lw_S q715 q716 q91 q717) 1 (by decide +kernel) rfl (by decide) (by decide) (cb' := (((3 - 0) - 1) - 1)) (sb' := ((((2 * N + 7) - 0) - na) - na)) (by omega) (by omega) rfl (rest := []) (Nat.le_of_ble_eq_true rfl) (fun q h => h.elim) dJ16_subtract_2_100 (fun v_72 H_73 hpost_74 hz_75 hk_76 => ?_)
            clear hz_75
            obtain ⟨r0, rn, rfl, hr0, hrn, hr0H⟩ := hpost_74
            have hr0H : H0.size ≤ r0 := hr0H.elim (fun h => by rw [h]; exact hd0H) (fun h => Nat.le_trans hfz_fr_71 h)
            have hoa_77 := hoa_67.kept (hk_76 _ hoa_67.lt (fun h => h))
            have hma_78 := hma_68.kept (hk_76 _ hma_68.lt (fun h => h))
            have hob_79 := hob_69.kept (hk_76 _ hob_69.lt (fun h => h))
            have hmb_80 := hmb_70.kept (hk_76 _ hmb_70.lt (fun h => h))
            have hd0_81 := hd0.kept (hk_76 _ hd0.lt (fun h => h))
            refine V.eq (st' := [.ref r0]) rfl ?_
            refine v_astore_n E dJ16_subtract_2_103 (zlt hL rfl) (lv' := [(3, .ref r0), (2, vi o), (0, .ref a), (1, .ref b)]) rfl ?_
            refine V.frame (fun hfz_fr_82 hfk_fr_82 => ?_)
            rw [hH0] at hfz_fr_82 hfk_fr_82
            rw [hA0] at hfk_fr_82
            refine v_new E in_J16 tyJ16 tyJ16_ok q485 q486 q91 (ci := 6) rfl (fs := [vi 0, .null, vi 0, vi 0, vi 0, vi 0]) (fun j hj => by rcases (show j = 0 ∨ j = 1 ∨ j = 2 ∨ j = 3 ∨ j = 4 ∨ j = 5 by omega) with rfl | rfl | rfl | rfl | rfl | rfl <;> rfl) (cb' := ((((3 - 0) - 1) - 1) - 1)) (sb' := (((((2 * N + 7) - 0) - na) - na) - 6)) (by omega) (by omega) dJ16_subtract_2_104 (fun q_83 H_84 hq_87 ho_85 hg_86 => ?_)
            have hne_a_q_83 : a ≠ q_83 := by have := hoa_77.lt; omega
            have hne_ma_q_83 : ma ≠ q_83 := by have := hma_78.lt; omega
            have hne_b_q_83 : b ≠ q_83 := by have := hob_79.lt; omega
            have hne_mb_q_83 : mb ≠ q_83 := by have := hmb_80.lt; omega
            have hne_r0_q_83 : r0 ≠ q_83 := by have := hr0.lt; omega
            have hoa_93 := hoa_77.grow hg_86
            have hma_94 := hma_78.grow hg_86
            have hob_95 := hob_79.grow hg_86
            have hmb_96 := hmb_80.grow hg_86
            have hr0_97 := hr0.grow hg_86
            refine v_dup E rfl dJ16_subtract_2_107 ?_
            refine v_aload_n E 0 rfl dJ16_subtract_2_108 ?_
            refine v_iload_n E 1 rfl dJ16_subtract_2_109 ?_
            refine v_aload_n E 2 rfl dJ16_subtract_2_110 ?_
            refine v_getf E in_J16 hoa_93 (ci := 6) rfl 0 (by decide) q494 rfl (v := vi x.sign) rfl dJ16_subtract_2_111 ?_
            refine v_icmp_ne E (tgt := 121) dJ16_subtract_2_114 (by decide) ⟨by omega, by omega⟩ hrx (fun c_114 => ?_) (fun c_114 => ?_)
            · refine v_iconst E dJ16_subtract_2_121 ?_
              refine V.frame (fun hfz_fr_98 hfk_fr_98 => ?_)
              rw [hH0] at hfz_fr_98 hfk_fr_98
              rw [hA0] at hfk_fr_98
              have hmq : r0 ≠ q_83 := Ne.symm (hp.ka hC.D ho_85 hr0_97 (by decide) (by decide))
              refine v_callI E (As := [.ref r0, vi (-1)]) (b := q_83) (g_initM κ H_84 (hC.call (fun q h => h.elim) hfz_fr_98 hfk_fr_98) (Nat.le_trans hrn.1 (by decide)) ho_85 hr0_97) q632 q91 q630 q631 rfl 2 (by decide +kernel) rfl (by decide) (by decide) (cb' := (((((3 - 0) - 1) - 1) - 1) - 0)) (sb' := ((((((2 * N + 7) - 0) - na) - na) - 6) - 0)) (by omega) (by omega) rfl (rest := [.ref q_83]) (Nat.le_of_ble_eq_true rfl) (fun q9 h => hNew q9 (by rw [show q9 = q_83 from h]; omega)) dJ16_subtract_2_122 (fun v_99 H_100 hpost_101 hz_102 hk_103 => ?_)
              clear hz_102
              obtain ⟨rfl, hq9⟩ := hpost_101
              have hm_104 := hr0_97.kept (hk_103 _ hr0_97.lt (fun h => hmq h))
              refine V.eq (st' := [.ref q_83]) rfl ?_
              refine v_aret E hE rfl (Or.inl ⟨_, rfl⟩) dJ16_subtract_2_125 (Or.inr ⟨_, rfl⟩) ?_
              obtain ⟨hz9, hs9, hp9⟩ := sd_big (c := (-1)) c_13 c_29 hlt9 (Or.inr ⟨rfl, fun h => c_114 (hoe.trans h)⟩)
              have e9 : (if rn = 0 then (0 : Int) else (-1)) = _ := (if_neg (ints_ne hrn hp9)).trans hs9.symm
              rw [e9] at hq9
              exact ⟨_, rfl, BI.mk (n := rn) (m := r0) hq9 (eI.congr hm_104 (fun k hk => by unfold bm bM; rw [hz9])) (by rw [hz9]; exact hrn) (Nat.le_trans hC.le (by omega)) (Or.inr (Nat.le_trans hC.m hr0H))⟩
            · refine v_iconst E dJ16_subtract_2_117 ?_
              refine v_goto E (tgt := 122) dJ16_subtract_2_118 (by decide) ?_
              refine V.frame (fun hfz_fr_105 hfk_fr_105 => ?_)
              rw [hH0] at hfz_fr_105 hfk_fr_105
              rw [hA0] at hfk_fr_105
              have hmq : r0 ≠ q_83 := Ne.symm (hp.ka hC.D ho_85 hr0_97 (by decide) (by decide))
              refine v_callI E (As := [.ref r0, vi 1]) (b := q_83) (g_initM κ H_84 (hC.call (fun q h => h.elim) hfz_fr_105 hfk_fr_105) (Nat.le_trans hrn.1 (by decide)) ho_85 hr0_97) q632 q91 q630 q631 rfl 2 (by decide +kernel) rfl (by decide) (by decide) (cb' := (((((3 - 0) - 1) - 1) - 1) - 0)) (sb' := ((((((2 * N + 7) - 0) - na) - na) - 6) - 0)) (by omega) (by omega) rfl (rest := [.ref q_83]) (Nat.le_of_ble_eq_true rfl) (fun q9 h => hNew q9 (by rw [show q9 = q_83 from h]; omega)) dJ16_subtract_2_122 (fun v_106 H_107 hpost_108 hz_109 hk_110 => ?_)
              clear hz_109
              obtain ⟨rfl, hq9⟩ := hpost_108
              have hm_111 := hr0_97.kept (hk_110 _ hr0_97.lt (fun h => hmq h))
              refine V.eq (st' := [.ref q_83]) rfl ?_
              refine v_aret E hE rfl (Or.inl ⟨_, rfl⟩) dJ16_subtract_2_125 (Or.inr ⟨_, rfl⟩) ?_
              obtain ⟨hz9, hs9, hp9⟩ := sd_big (c := 1) c_13 c_29 hlt9 (Or.inl ⟨rfl, hoe.symm.trans c_114⟩)
              have e9 : (if rn = 0 then (0 : Int) else 1) = _ := (if_neg (ints_ne hrn hp9)).trans hs9.symm
              rw [e9] at hq9
              exact ⟨_, rfl, BI.mk (n := rn) (m := r0) hq9 (eI.congr hm_111 (fun k hk => by unfold bm bM; rw [hz9])) (by rw [hz9]; exact hrn) (Nat.le_trans hC.le (by omega)) (Or.inr (Nat.le_trans hC.m hr0H))⟩
        · refine V.frame (fun hfz_fr_112 hfk_fr_112 => ?_)
          rw [hH0] at hfz_fr_112 hfk_fr_112
          rw [hA0] at hfk_fr_112
          have hC9 := hC.call (fun q h => h.elim) hfz_fr_112 hfk_fr_112
          refine V.frame (fun hfz_fr_113 hfk_fr_113 => ?_)
          rw [hH0] at hfz_fr_113 hfk_fr_113
          rw [hA0] at hfk_fr_113
          refine v_gets E 0 rfl q477 (CO.s0 (hC.call (fun q h => h.elim) hfz_fr_113 hfk_fr_113)) dJ16_subtract_2_65 ?_
          refine v_aret E hE rfl (Or.inl ⟨_, rfl⟩) dJ16_subtract_2_68 (Or.inr ⟨_, rfl⟩) ?_
          exact ⟨_, rfl, by rw [sd_eq c_13 c_29 (ho0 c_62)]; exact ⟨_, _, _, hC9.2.2.2.2.2.2.2.2.2.2.1⟩⟩
      · refine V.frame (fun hfz_fr_114 hfk_fr_114 => ?_)
        rw [hH0] at hfz_fr_114 hfk_fr_114
        rw [hA0] at hfk_fr_114
        refine v_new E in_J16 tyJ16 tyJ16_ok q485 q486 q91 (ci := 6) rfl (fs := [vi 0, .null, vi 0, vi 0, vi 0, vi 0]) (fun j hj => by rcases (show j = 0 ∨ j = 1 ∨ j = 2 ∨ j = 3 ∨ j = 4 ∨ j = 5 by omega) with rfl | rfl | rfl | rfl | rfl | rfl <;> rfl) (cb' := (3 - 1)) (sb' := ((2 * N + 7) - 6)) (by omega) (by omega) dJ16_subtract_2_32 (fun q_115 H_116 hq_119 ho_117 hg_118 => ?_)
        have hne_a_q_115 : a ≠ q_115 := by have := hoa.lt; omega
        have hne_ma_q_115 : ma ≠ q_115 := by have := hma.lt; omega
        have hne_b_q_115 : b ≠ q_115 := by have := hob.lt; omega
        have hne_mb_q_115 : mb ≠ q_115 := by have := hmb.lt; omega
        have hoa_124 := hoa.grow hg_118
        have hma_125 := hma.grow hg_118
        have hob_126 := hob.grow hg_118
        have hmb_127 := hmb.grow hg_118
        refine v_dup E rfl dJ16_subtract_2_35 ?_
        refine v_aload_n E 0 rfl dJ16_subtract_2_36 ?_
        refine v_getf E in_J16 hoa_124 (ci := 6) rfl 1 (by decide) q496 rfl (v := .ref ma) rfl dJ16_subtract_2_37 ?_
        refine v_aload_n E 1 rfl dJ16_subtract_2_40 ?_
        refine v_getf E in_J16 hob_126 (ci := 6) rfl 1 (by decide) q496 rfl (v := .ref mb) rfl dJ16_subtract_2_41 ?_
        refine V.frame (fun hfz_fr_128 hfk_fr_128 => ?_)
        rw [hH0] at hfz_fr_128 hfk_fr_128
        rw [hA0] at hfk_fr_128
        refine v_callS E (As := [.ref ma, .ref mb]) (g_addA κ H_116 (X := (x.natAbs : Int)) (Y := (y.natAbs : Int)) (N := N) (sg_pos (by assumption)) (sg_pos (by assumption)) hna hnb (by omega) (by omega) hs rfl hma_125 hmb_127) (lw_S q708 q709 q91 q710) 2 (by decide +kernel) rfl (by decide) (by decide) (cb' := ((3 - 1) - 2)) (sb' := (((2 * N + 7) - 6) - (2 * N + 1))) (by omega) (by omega) rfl (rest := [.ref q_115, .ref q_115]) (Nat.le_of_ble_eq_true rfl) (fun q h => h.elim) dJ16_subtract_2_44 (fun v_129 H_130 hpost_131 hz_132 hk_133 => ?_)
        clear hz_132
        obtain ⟨r0, rn, rfl, hr0, hrn, hr0H⟩ := hpost_131
        have hr0H := Nat.le_trans hfz_fr_128 hr0H
        have hoa_134 := hoa_124.kept (hk_133 _ hoa_124.lt (fun h => h))
        have hma_135 := hma_125.kept (hk_133 _ hma_125.lt (fun h => h))
        have hob_136 := hob_126.kept (hk_133 _ hob_126.lt (fun h => h))
        have hmb_137 := hmb_127.kept (hk_133 _ hmb_127.lt (fun h => h))
        have ho_138 := ho_117.kept (hk_133 _ ho_117.lt (fun h => h))
        refine V.eq (st' := [.ref r0, .ref q_115, .ref q_115]) rfl ?_
        refine v_aload_n E 0 rfl dJ16_subtract_2_47 ?_
        refine v_getf E in_J16 hoa_134 (ci := 6) rfl 0 (by decide) q494 rfl (v := vi x.sign) rfl dJ16_subtract_2_48 ?_
        refine V.frame (fun hfz_fr_139 hfk_fr_139 => ?_)
        rw [hH0] at hfz_fr_139 hfk_fr_139
        rw [hA0] at hfk_fr_139
        have hmq : r0 ≠ q_115 := Ne.symm (hp.ka hC.D ho_138 hr0 (by decide) (by decide))
        refine v_callI E (As := [.ref r0, vi x.sign]) (b := q_115) (g_initM κ H_130 (hC.call (fun q h => h.elim) hfz_fr_139 hfk_fr_139) (Nat.le_trans hrn.1 (by decide)) ho_138 hr0) q632 q91 q630 q631 rfl 2 (by decide +kernel) rfl (by decide) (by decide) (cb' := (((3 - 1) - 2) - 0)) (sb' := ((((2 * N + 7) - 6) - (2 * N + 1)) - 0)) (by omega) (by omega) rfl (rest := [.ref q_115]) (Nat.le_of_ble_eq_true rfl) (fun q9 h => hNew q9 (by rw [show q9 = q_115 from h]; omega)) dJ16_subtract_2_51 (fun v_140 H_141 hpost_142 hz_143 hk_144 => ?_)
        clear hz_143
        obtain ⟨rfl, hq9⟩ := hpost_142
        have hm_145 := hr0.kept (hk_144 _ hr0.lt (fun h => hmq h))
        refine V.eq (st' := [.ref q_115]) rfl ?_
        refine v_aret E hE rfl (Or.inl ⟨_, rfl⟩) dJ16_subtract_2_54 (Or.inr ⟨_, rfl⟩) ?_
        obtain ⟨hz9, hs9, hp9⟩ := sd_add c_13 c_4 c_29
        have e9 : (if rn = 0 then (0 : Int) else x.sign) = _ := (if_neg (ints_ne hrn hp9)).trans hs9.symm
        rw [e9] at hq9
        exact ⟨_, rfl, BI.mk (n := rn) (m := r0) hq9 (eI.congr hm_145 (fun k hk => by unfold bm bM; rw [hz9])) (by rw [hz9]; exact hrn) (Nat.le_trans hC.le (by omega)) (Or.inr (Nat.le_trans hC.m hr0H))⟩
    · refine v_aload_n E 1 rfl dJ16_subtract_2_16 ?_
      refine v_callV E (As := []) (b := b) (ci := 6) (C := RJ16) (T := TJ16) (N := 6) hob rfl (g_negate κ H0 hC ⟨mb, nb, cfb, ⟨c1b, c2b, c3b, hob⟩, hmb, hnb, hcfb⟩) (lw_V q626 q627 q628 q91 q629) 0 (by decide +kernel) rfl (by decide) (by decide) (cb' := (3 - 1)) (sb' := ((2 * N + 7) - 6)) (by omega) (by omega) rfl (rest := []) (Nat.le_of_ble_eq_true rfl) (fun q h => h.elim) dJ16_subtract_2_17 (fun v_146 H_147 hpost_148 hz_149 hk_150 => ?_)
      clear hz_149
      obtain ⟨qn, rfl, hqn⟩ := hpost_148
      refine V.eq (st' := [.ref qn]) rfl ?_
      refine v_aret E hE rfl (Or.inl ⟨_, rfl⟩) dJ16_subtract_2_20 (Or.inr ⟨_, rfl⟩) ?_
      exact ⟨_, rfl, by rw [sg_zero c_13, Int.zero_sub]; exact hqn⟩
  · refine v_aload_n E 0 rfl dJ16_subtract_2_7 ?_
    refine v_aret E hE rfl (Or.inl ⟨_, rfl⟩) dJ16_subtract_2_8 (Or.inr ⟨_, rfl⟩) ?_
    exact ⟨_, rfl, by rw [sg_zero c_4, Int.sub_zero]; exact ⟨ma, na, cfa, ⟨c1a, c2a, c3a, hoa⟩, hma, hna, hcfa⟩⟩
