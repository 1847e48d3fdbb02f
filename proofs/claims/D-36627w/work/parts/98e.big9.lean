theorem shl_sign {x : Int} {s : Nat} (hx : ¬ x.sign = 0) : (x * 2 ^ s).sign = x.sign := by
  rw [Int.sign_mul, Int.sign_eq_one_of_pos (p2 s), Int.mul_one]
set_option maxHeartbeats 1000000 in
set_option maxRecDepth 100000 in
/-- a product, with flags -/
theorem g_mul4 (κ : zK) (H0 : Heap) {a : Nat} {x : Int} {b : Nat} {y : Int} {N M : Nat} (hC : CO κ H0) (hx : BI κ H0 a x) (hy : BI κ H0 b y) (hNx : (x.natAbs : Int) < 2 ^ (32 * N)) (hMy : (y.natAbs : Int) < 2 ^ (32 * M)) (hNM : N ≤ 20 ∨ M ≤ 20) (hs : sB ((x.natAbs : Int) * (y.natAbs : Int)))  : Mt κ yJ16_multiply_2 cJ16_multiply_2 9 (some (.object "java/math/BigInteger")) 4 106 3 (2 * (N + M) + 7) H0 [.ref a, .ref b, vi 0, vi 0, vi 0] (fun _ => False) (fun v H1 => ∃ q : Nat, v = some (.ref q) ∧ BI κ H1 q (x * y)) := by
  refine Mt.of (by decide) (Nat.le_of_ble_eq_true rfl) ?_
  intro z E hE hH0 hA0 hL hini
  have hAll : ∀ q, (fun _ => False) q → zA z.A z.H0 q := fun q h => Or.inl (by rw [hA0]; exact h)
  have hNew : ∀ q, H0.size ≤ q → zA z.A z.H0 q := fun q h => Or.inr (by rw [hH0]; exact h)
  have E : zOK z cJ16_multiply_2 RJ16 κ 4 106 (some (.object "java/math/BigInteger")) := E
  refine V.eqL (lv' := [(0, .ref a), (1, .ref b), (2, vi 0), (3, vi 0), (4, vi 0)]) rfl ?_
  have h20 : b = a → y = x := fun e => BI.inj (κ := κ) (H := H0) (a := a) (e ▸ hy) hx
  obtain ⟨ma, na, cfa, ⟨c1a, c2a, c3a, hoa⟩, hma, hna, hcfa⟩ := hx
  change Hid _ at hcfa
  have hsa := sgn3 x
  have h48a := hna.1
  obtain ⟨mb, nb, cfb, ⟨c1b, c2b, c3b, hob⟩, hmb, hnb, hcfb⟩ := hy
  change Hid _ at hcfb
  have hsb := sgn3 y
  have h48b := hnb.1
  have hLx := ints_le (Int.natCast_nonneg _) hna hNx
  have hLy := ints_le (Int.natCast_nonneg _) hnb hMy
  have hrx := rsign x
  have hry := rsign y
  clear hsa hsb
  refine v_aload_n E 1 rfl dJ16_multiply_2_0 ?_
  refine v_getf E in_J16 hob (ci := 6) rfl 0 (by decide) q494 rfl (v := vi y.sign) rfl dJ16_multiply_2_1 ?_
  refine v_if_eq E (tgt := 14) dJ16_multiply_2_4 (by decide) hry (fun c_4 => ?_) (fun c_4 => ?_)
  · refine V.frame (fun hfz_fr_1 hfk_fr_1 => ?_)
    rw [hH0] at hfz_fr_1 hfk_fr_1
    rw [hA0] at hfk_fr_1
    have hC9 := hC.call (fun q h => h.elim) hfz_fr_1 hfk_fr_1
    refine V.frame (fun hfz_fr_2 hfk_fr_2 => ?_)
    rw [hH0] at hfz_fr_2 hfk_fr_2
    rw [hA0] at hfk_fr_2
    refine v_gets E 0 rfl q477 (CO.s0 (hC.call (fun q h => h.elim) hfz_fr_2 hfk_fr_2)) dJ16_multiply_2_14 ?_
    refine v_aret E hE rfl (Or.inl ⟨_, rfl⟩) dJ16_multiply_2_17 (Or.inr ⟨_, rfl⟩) ?_
    exact ⟨_, rfl, by rw [show x * y = 0 by first | (rw [sg_zero c_4, Int.mul_zero]; done) | (rw [sg_zero c_11, Int.zero_mul])]; exact ⟨_, _, _, hC9.2.2.2.2.2.2.2.2.2.2.1⟩⟩
  · refine v_aload_n E 0 rfl dJ16_multiply_2_7 ?_
    refine v_getf E in_J16 hoa (ci := 6) rfl 0 (by decide) q494 rfl (v := vi x.sign) rfl dJ16_multiply_2_8 ?_
    refine v_if_ne E (tgt := 18) dJ16_multiply_2_11 (by decide) hrx (fun c_11 => ?_) (fun c_11 => ?_)
    · refine v_aload_n E 0 rfl dJ16_multiply_2_18 ?_
      refine v_getf E in_J16 hoa (ci := 6) rfl 1 (by decide) q496 rfl (v := .ref ma) rfl dJ16_multiply_2_19 ?_
      refine v_alen E dJ16_multiply_2_22 (t := 0) (ty := .int) hma rfl ?_
      refine v_istore E dJ16_multiply_2_23 (zlt hL rfl) (lv' := [(5, vi (na : Int)), (0, .ref a), (1, .ref b), (2, vi 0), (3, vi 0), (4, vi 0)]) rfl ?_
      refine v_aload_n E 2 rfl dJ16_multiply_2_25 ?_
      refine v_aload_n E 1 rfl dJ16_multiply_2_26 ?_
      refine v_acmp_ne E (tgt := 46) dJ16_multiply_2_27 (by decide) (fun c_27 => ?_) (fun c_27 => ?_)
      · refine v_aload_n E 2 rfl dJ16_multiply_2_46 ?_
        refine v_getf E in_J16 hob (ci := 6) rfl 1 (by decide) q496 rfl (v := .ref mb) rfl dJ16_multiply_2_47 ?_
        refine v_alen E dJ16_multiply_2_50 (t := 0) (ty := .int) hmb rfl ?_
        refine v_istore E dJ16_multiply_2_51 (zlt hL rfl) (lv' := [(6, vi (nb : Int)), (5, vi (na : Int)), (0, .ref a), (1, .ref b), (2, vi 0), (3, vi 0), (4, vi 0)]) rfl ?_
        refine v_iload E 1 rfl dJ16_multiply_2_53 ?_
        refine v_bipush E ⟨by decide, by decide⟩ dJ16_multiply_2_55 ?_
        refine v_icmp_lt E (tgt := 67) dJ16_multiply_2_57 (by decide) ⟨by omega, by omega⟩ ⟨by omega, by omega⟩ (fun c_57 => ?_) (fun c_57 => absurd c_57 (by omega))
        refine v_aload_n E 2 rfl dJ16_multiply_2_67 ?_
        refine v_getf E in_J16 hoa (ci := 6) rfl 0 (by decide) q494 rfl (v := vi x.sign) rfl dJ16_multiply_2_68 ?_
        refine v_aload_n E 3 rfl dJ16_multiply_2_71 ?_
        refine v_getf E in_J16 hob (ci := 6) rfl 0 (by decide) q494 rfl (v := vi y.sign) rfl dJ16_multiply_2_72 ?_
        refine v_icmp_ne E (tgt := 82) dJ16_multiply_2_75 (by decide) hrx hry (fun c_75 => ?_) (fun c_75 => ?_)
        · refine v_iconst E dJ16_multiply_2_82 ?_
          refine v_istore E dJ16_multiply_2_83 (zlt hL rfl) (lv' := [(7, vi (-1)), (6, vi (nb : Int)), (5, vi (na : Int)), (0, .ref a), (1, .ref b), (2, vi 0), (3, vi 0), (4, vi 0)]) rfl ?_
          refine v_aload_n E 4 rfl dJ16_multiply_2_85 ?_
          refine v_getf E in_J16 hob (ci := 6) rfl 1 (by decide) q496 rfl (v := .ref mb) rfl dJ16_multiply_2_86 ?_
          refine v_alen E dJ16_multiply_2_89 (t := 0) (ty := .int) hmb rfl ?_
          refine v_iconst E dJ16_multiply_2_90 ?_
          refine v_icmp_ne E (tgt := 110) dJ16_multiply_2_91 (by decide) ⟨by omega, by omega⟩ ⟨by omega, by omega⟩ (fun c_91 => ?_) (fun c_91 => ?_)
          · refine v_aload_n E 3 rfl dJ16_multiply_2_110 ?_
            refine v_getf E in_J16 hoa (ci := 6) rfl 1 (by decide) q496 rfl (v := .ref ma) rfl dJ16_multiply_2_111 ?_
            refine v_alen E dJ16_multiply_2_114 (t := 0) (ty := .int) hma rfl ?_
            refine v_iconst E dJ16_multiply_2_115 ?_
            refine v_icmp_ne E (tgt := 135) dJ16_multiply_2_116 (by decide) ⟨by omega, by omega⟩ ⟨by omega, by omega⟩ (fun c_116 => ?_) (fun c_116 => ?_)
            · refine v_aload_n E 3 rfl dJ16_multiply_2_135 ?_
              refine v_getf E in_J16 hoa (ci := 6) rfl 1 (by decide) q496 rfl (v := .ref ma) rfl dJ16_multiply_2_136 ?_
              refine v_iload E 2 rfl dJ16_multiply_2_139 ?_
              refine v_aload_n E 4 rfl dJ16_multiply_2_141 ?_
              refine v_getf E in_J16 hob (ci := 6) rfl 1 (by decide) q496 rfl (v := .ref mb) rfl dJ16_multiply_2_142 ?_
              refine v_iload E 1 rfl dJ16_multiply_2_145 ?_
              refine v_null E dJ16_multiply_2_147 ?_
              refine V.frame (fun hfz_fr_3 hfk_fr_3 => ?_)
              rw [hH0] at hfz_fr_3 hfk_fr_3
              rw [hA0] at hfk_fr_3
              refine v_callS E (As := [.ref ma, vi (na : Int), .ref mb, vi (nb : Int), .null]) (g_mulA κ H0 (sg_pos c_11) (sg_pos c_4) hna hnb hma hmb) (lw_S q1072 q1073 q91 q1074) 5 (by decide +kernel) rfl (by decide) (by decide) (cb' := (3 - 1)) (sb' := ((2 * (N + M) + 7) - (na + nb))) (by omega) (by omega) rfl (rest := []) (Nat.le_of_ble_eq_true rfl) (fun q h => h.elim) dJ16_multiply_2_148 (fun v_4 H_5 hpost_6 hz_7 hk_8 => ?_)
              clear hz_7
              obtain ⟨d0, rfl, hd0, hd0H⟩ := hpost_6
              have hd0H := Nat.le_trans hfz_fr_3 hd0H
              have hoa_9 := hoa.kept (hk_8 _ hoa.lt (fun h => h))
              have hma_10 := hma.kept (hk_8 _ hma.lt (fun h => h))
              have hob_11 := hob.kept (hk_8 _ hob.lt (fun h => h))
              have hmb_12 := hmb.kept (hk_8 _ hmb.lt (fun h => h))
              refine V.eq (st' := [.ref d0]) rfl ?_
              refine v_astore E dJ16_multiply_2_151 (zlt hL rfl) (lv' := [(8, .ref d0), (7, vi (-1)), (6, vi (nb : Int)), (5, vi (na : Int)), (0, .ref a), (1, .ref b), (2, vi 0), (3, vi 0), (4, vi 0)]) rfl ?_
              refine v_aload E 0 rfl dJ16_multiply_2_153 ?_
              refine V.frame (fun hfz_fr_13 hfk_fr_13 => ?_)
              rw [hH0] at hfz_fr_13 hfk_fr_13
              rw [hA0] at hfk_fr_13
              refine v_callS E (As := [.ref d0]) (g_strip κ H_5 (Z := ((x.natAbs : Int) * (y.natAbs : Int))) (n := na + nb) (mul_ints (sg_pos c_11) (sg_pos c_4) hna hnb).1 (mul_ints (sg_pos c_11) (sg_pos c_4) hna hnb).2 hs (by omega) hd0) (lw_S q715 q716 q91 q717) 1 (by decide +kernel) rfl (by decide) (by decide) (cb' := ((3 - 1) - 1)) (sb' := (((2 * (N + M) + 7) - (na + nb)) - (na + nb))) (by omega) (by omega) rfl (rest := []) (Nat.le_of_ble_eq_true rfl) (fun q h => h.elim) dJ16_multiply_2_155 (fun v_14 H_15 hpost_16 hz_17 hk_18 => ?_)
              clear hz_17
              obtain ⟨r0, rn, rfl, hr0, hrn, hr0H⟩ := hpost_16
              have hr0H : H0.size ≤ r0 := hr0H.elim (fun h => by rw [h]; exact hd0H) (fun h => Nat.le_trans hfz_fr_13 h)
              refine V.eq (st' := [.ref r0]) rfl ?_
              refine v_astore E dJ16_multiply_2_158 (zlt hL rfl) (lv' := [(8, .ref r0), (7, vi (-1)), (6, vi (nb : Int)), (5, vi (na : Int)), (0, .ref a), (1, .ref b), (2, vi 0), (3, vi 0), (4, vi 0)]) rfl ?_
              refine V.frame (fun hfz_fr_19 hfk_fr_19 => ?_)
              rw [hH0] at hfz_fr_19 hfk_fr_19
              rw [hA0] at hfk_fr_19
              refine v_new E in_J16 tyJ16 tyJ16_ok q485 q486 q91 (ci := 6) rfl (fs := [vi 0, .null, vi 0, vi 0, vi 0, vi 0]) (fun j hj => by rcases (show j = 0 ∨ j = 1 ∨ j = 2 ∨ j = 3 ∨ j = 4 ∨ j = 5 by omega) with rfl | rfl | rfl | rfl | rfl | rfl <;> rfl) (cb' := (((3 - 1) - 1) - 1)) (sb' := ((((2 * (N + M) + 7) - (na + nb)) - (na + nb)) - 6)) (by omega) (by omega) dJ16_multiply_2_160 (fun q_20 H_21 hq_24 ho_22 hg_23 => ?_)
              have hne_r0_q_20 : r0 ≠ q_20 := by have := hr0.lt; omega
              have hr0_26 := hr0.grow hg_23
              refine v_dup E rfl dJ16_multiply_2_163 ?_
              refine v_aload E 0 rfl dJ16_multiply_2_164 ?_
              refine v_iload E 1 rfl dJ16_multiply_2_166 ?_
              refine V.frame (fun hfz_fr_27 hfk_fr_27 => ?_)
              rw [hH0] at hfz_fr_27 hfk_fr_27
              rw [hA0] at hfk_fr_27
              have hmq : r0 ≠ q_20 := Ne.symm (hp.ka hC.D ho_22 hr0_26 (by decide) (by decide))
              refine v_callI E (As := [.ref r0, vi (-1)]) (b := q_20) (g_initM κ H_21 (hC.call (fun q h => h.elim) hfz_fr_27 hfk_fr_27) (Nat.le_trans hrn.1 (by decide)) ho_22 hr0_26) q632 q91 q630 q631 rfl 2 (by decide +kernel) rfl (by decide) (by decide) (cb' := ((((3 - 1) - 1) - 1) - 0)) (sb' := (((((2 * (N + M) + 7) - (na + nb)) - (na + nb)) - 6) - 0)) (by omega) (by omega) rfl (rest := [.ref q_20]) (Nat.le_of_ble_eq_true rfl) (fun q9 h => hNew q9 (by rw [show q9 = q_20 from h]; omega)) dJ16_multiply_2_168 (fun v_28 H_29 hpost_30 hz_31 hk_32 => ?_)
              clear hz_31
              obtain ⟨rfl, hq9⟩ := hpost_30
              have hm_33 := hr0_26.kept (hk_32 _ hr0_26.lt (fun h => hmq h))
              refine V.eq (st' := [.ref q_20]) rfl ?_
              refine v_aret E hE rfl (Or.inl ⟨_, rfl⟩) dJ16_multiply_2_171 (Or.inr ⟨_, rfl⟩) ?_
              obtain ⟨hz9, hs9, hp9⟩ := sg_mul (x := x) (y := y) (c := (-1)) c_11 c_4 (Or.inr ⟨rfl, c_75⟩)
              have e9 : (if rn = 0 then (0 : Int) else (-1)) = _ := (if_neg (ints_ne hrn hp9)).trans hs9.symm
              rw [e9] at hq9
              exact ⟨_, rfl, BI.mk (n := rn) (m := r0) hq9 (eI.congr hm_33 (fun k hk => by unfold bm bM; rw [hz9])) (by rw [hz9]; exact hrn) (Nat.le_trans hC.le (by omega)) (Or.inr (Nat.le_trans hC.m hr0H))⟩
            · obtain rfl : na = 1 := by omega
              have hd9 : 0 < x.natAbs := by have := sg_pos c_11; omega
              have hd8 : x.natAbs < 4294967296 := by have := hna.2.1; omega
              refine v_aload_n E 4 rfl dJ16_multiply_2_119 ?_
              refine v_getf E in_J16 hob (ci := 6) rfl 1 (by decide) q496 rfl (v := .ref mb) rfl dJ16_multiply_2_120 ?_
              refine v_aload_n E 3 rfl dJ16_multiply_2_123 ?_
              refine v_getf E in_J16 hoa (ci := 6) rfl 1 (by decide) q496 rfl (v := .ref ma) rfl dJ16_multiply_2_124 ?_
              refine v_iconst E dJ16_multiply_2_127 ?_
              refine v_iald E dJ16_multiply_2_128 hma 0 rfl (by omega) (by omega) ?_
              refine V.topi (x' := ((x.natAbs : Nat) : Int)) (one_dig hna) ?_
              refine v_iload E 0 rfl dJ16_multiply_2_129 ?_
              refine V.frame (fun hfz_fr_34 hfk_fr_34 => ?_)
              rw [hH0] at hfz_fr_34 hfk_fr_34
              rw [hA0] at hfk_fr_34
              refine v_callS E (As := [.ref mb, vi ((x.natAbs : Nat) : Int), vi (-1)]) (g_mbi κ H0 (X := (y.natAbs : Int)) (d := x.natAbs) (R := x * y) (c := (-1)) (hC.call (fun q h => h.elim) hfz_fr_34 hfk_fr_34) hd9 hd8 (sg_pos c_4) hnb (by rw [Int.mul_comm]; exact hs) (by rw [Int.mul_comm (y.natAbs : Int)]; exact sg_mul (x := x) (y := y) (c := (-1)) c_11 c_4 (Or.inr ⟨rfl, c_75⟩)) hmb) (lw_S q1059 q1060 q91 q1061) 3 (by decide +kernel) rfl (by decide) (by decide) (cb' := (3 - 3)) (sb' := ((2 * (N + M) + 7) - (2 * nb + 7))) (by omega) (by omega) rfl (rest := []) (Nat.le_of_ble_eq_true rfl) (fun q h => h.elim) dJ16_multiply_2_131 (fun v_35 H_36 hpost_37 hz_38 hk_39 => ?_)
              clear hz_38
              obtain ⟨qm, rfl, hqm⟩ := hpost_37
              refine V.eq (st' := [.ref qm]) rfl ?_
              refine v_aret E hE rfl (Or.inl ⟨_, rfl⟩) dJ16_multiply_2_134 (Or.inr ⟨_, rfl⟩) ?_
              exact ⟨_, rfl, hqm⟩
          · obtain rfl : nb = 1 := by omega
            have hd9 : 0 < y.natAbs := by have := sg_pos c_4; omega
            have hd8 : y.natAbs < 4294967296 := by have := hnb.2.1; omega
            refine v_aload_n E 3 rfl dJ16_multiply_2_94 ?_
            refine v_getf E in_J16 hoa (ci := 6) rfl 1 (by decide) q496 rfl (v := .ref ma) rfl dJ16_multiply_2_95 ?_
            refine v_aload_n E 4 rfl dJ16_multiply_2_98 ?_
            refine v_getf E in_J16 hob (ci := 6) rfl 1 (by decide) q496 rfl (v := .ref mb) rfl dJ16_multiply_2_99 ?_
            refine v_iconst E dJ16_multiply_2_102 ?_
            refine v_iald E dJ16_multiply_2_103 hmb 0 rfl (by omega) (by omega) ?_
            refine V.topi (x' := ((y.natAbs : Nat) : Int)) (one_dig hnb) ?_
            refine v_iload E 0 rfl dJ16_multiply_2_104 ?_
            refine V.frame (fun hfz_fr_40 hfk_fr_40 => ?_)
            rw [hH0] at hfz_fr_40 hfk_fr_40
            rw [hA0] at hfk_fr_40
            refine v_callS E (As := [.ref ma, vi ((y.natAbs : Nat) : Int), vi (-1)]) (g_mbi κ H0 (X := (x.natAbs : Int)) (d := y.natAbs) (R := x * y) (c := (-1)) (hC.call (fun q h => h.elim) hfz_fr_40 hfk_fr_40) hd9 hd8 (sg_pos c_11) hna hs (sg_mul (x := x) (y := y) (c := (-1)) c_11 c_4 (Or.inr ⟨rfl, c_75⟩)) hma) (lw_S q1059 q1060 q91 q1061) 3 (by decide +kernel) rfl (by decide) (by decide) (cb' := (3 - 3)) (sb' := ((2 * (N + M) + 7) - (2 * na + 7))) (by omega) (by omega) rfl (rest := []) (Nat.le_of_ble_eq_true rfl) (fun q h => h.elim) dJ16_multiply_2_106 (fun v_41 H_42 hpost_43 hz_44 hk_45 => ?_)
            clear hz_44
            obtain ⟨qm, rfl, hqm⟩ := hpost_43
            refine V.eq (st' := [.ref qm]) rfl ?_
            refine v_aret E hE rfl (Or.inl ⟨_, rfl⟩) dJ16_multiply_2_109 (Or.inr ⟨_, rfl⟩) ?_
            exact ⟨_, rfl, hqm⟩
        · refine v_iconst E dJ16_multiply_2_78 ?_
          refine v_goto E (tgt := 83) dJ16_multiply_2_79 (by decide) ?_
          refine v_istore E dJ16_multiply_2_83 (zlt hL rfl) (lv' := [(7, vi 1), (6, vi (nb : Int)), (5, vi (na : Int)), (0, .ref a), (1, .ref b), (2, vi 0), (3, vi 0), (4, vi 0)]) rfl ?_
          refine v_aload_n E 4 rfl dJ16_multiply_2_85 ?_
          refine v_getf E in_J16 hob (ci := 6) rfl 1 (by decide) q496 rfl (v := .ref mb) rfl dJ16_multiply_2_86 ?_
          refine v_alen E dJ16_multiply_2_89 (t := 0) (ty := .int) hmb rfl ?_
          refine v_iconst E dJ16_multiply_2_90 ?_
          refine v_icmp_ne E (tgt := 110) dJ16_multiply_2_91 (by decide) ⟨by omega, by omega⟩ ⟨by omega, by omega⟩ (fun c_91 => ?_) (fun c_91 => ?_)
          · refine v_aload_n E 3 rfl dJ16_multiply_2_110 ?_
            refine v_getf E in_J16 hoa (ci := 6) rfl 1 (by decide) q496 rfl (v := .ref ma) rfl dJ16_multiply_2_111 ?_
            refine v_alen E dJ16_multiply_2_114 (t := 0) (ty := .int) hma rfl ?_
            refine v_iconst E dJ16_multiply_2_115 ?_
            refine v_icmp_ne E (tgt := 135) dJ16_multiply_2_116 (by decide) ⟨by omega, by omega⟩ ⟨by omega, by omega⟩ (fun c_116 => ?_) (fun c_116 => ?_)
            · refine v_aload_n E 3 rfl dJ16_multiply_2_135 ?_
              refine v_getf E in_J16 hoa (ci := 6) rfl 1 (by decide) q496 rfl (v := .ref ma) rfl dJ16_multiply_2_136 ?_
              refine v_iload E 2 rfl dJ16_multiply_2_139 ?_
              refine v_aload_n E 4 rfl dJ16_multiply_2_141 ?_
              refine v_getf E in_J16 hob (ci := 6) rfl 1 (by decide) q496 rfl (v := .ref mb) rfl dJ16_multiply_2_142 ?_
              refine v_iload E 1 rfl dJ16_multiply_2_145 ?_
              refine v_null E dJ16_multiply_2_147 ?_
              refine V.frame (fun hfz_fr_46 hfk_fr_46 => ?_)
              rw [hH0] at hfz_fr_46 hfk_fr_46
              rw [hA0] at hfk_fr_46
              refine v_callS E (As := [.ref ma, vi (na : Int), .ref mb, vi (nb : Int), .null]) (g_mulA κ H0 (sg_pos c_11) (sg_pos c_4) hna hnb hma hmb) (lw_S q1072 q1073 q91 q1074) 5 (by decide +kernel) rfl (by decide) (by decide) (cb' := (3 - 1)) (sb' := ((2 * (N + M) + 7) - (na + nb))) (by omega) (by omega) rfl (rest := []) (Nat.le_of_ble_eq_true rfl) (fun q h => h.elim) dJ16_multiply_2_148 (fun v_47 H_48 hpost_49 hz_50 hk_51 => ?_)
              clear hz_50
              obtain ⟨d0, rfl, hd0, hd0H⟩ := hpost_49
              have hd0H := Nat.le_trans hfz_fr_46 hd0H
              have hoa_52 := hoa.kept (hk_51 _ hoa.lt (fun h => h))
              have hma_53 := hma.kept (hk_51 _ hma.lt (fun h => h))
              have hob_54 := hob.kept (hk_51 _ hob.lt (fun h => h))
              have hmb_55 := hmb.kept (hk_51 _ hmb.lt (fun h => h))
              refine V.eq (st' := [.ref d0]) rfl ?_
              refine v_astore E dJ16_multiply_2_151 (zlt hL rfl) (lv' := [(8, .ref d0), (7, vi 1), (6, vi (nb : Int)), (5, vi (na : Int)), (0, .ref a), (1, .ref b), (2, vi 0), (3, vi 0), (4, vi 0)]) rfl ?_
              refine v_aload E 0 rfl dJ16_multiply_2_153 ?_
              refine V.frame (fun hfz_fr_56 hfk_fr_56 => ?_)
              rw [hH0] at hfz_fr_56 hfk_fr_56
              rw [hA0] at hfk_fr_56
              refine v_callS E (As := [.ref d0]) (g_strip κ H_48 (Z := ((x.natAbs : Int) * (y.natAbs : Int))) (n := na + nb) (mul_ints (sg_pos c_11) (sg_pos c_4) hna hnb).1 (mul_ints (sg_pos c_11) (sg_pos c_4) hna hnb).2 hs (by omega) hd0) (lw_S q715 q716 q91 q717) 1 (by decide +kernel) rfl (by decide) (by decide) (cb' := ((3 - 1) - 1)) (sb' := (((2 * (N + M) + 7) - (na + nb)) - (na + nb))) (by omega) (by omega) rfl (rest := []) (Nat.le_of_ble_eq_true rfl) (fun q h => h.elim) dJ16_multiply_2_155 (fun v_57 H_58 hpost_59 hz_60 hk_61 => ?_)
              clear hz_60
              obtain ⟨r0, rn, rfl, hr0, hrn, hr0H⟩ := hpost_59
              have hr0H : H0.size ≤ r0 := hr0H.elim (fun h => by rw [h]; exact hd0H) (fun h => Nat.le_trans hfz_fr_56 h)
              refine V.eq (st' := [.ref r0]) rfl ?_
              refine v_astore E dJ16_multiply_2_158 (zlt hL rfl) (lv' := [(8, .ref r0), (7, vi 1), (6, vi (nb : Int)), (5, vi (na : Int)), (0, .ref a), (1, .ref b), (2, vi 0), (3, vi 0), (4, vi 0)]) rfl ?_
              refine V.frame (fun hfz_fr_62 hfk_fr_62 => ?_)
              rw [hH0] at hfz_fr_62 hfk_fr_62
              rw [hA0] at hfk_fr_62
              refine v_new E in_J16 tyJ16 tyJ16_ok q485 q486 q91 (ci := 6) rfl (fs := [vi 0, .null, vi 0, vi 0, vi 0, vi 0]) (fun j hj => by rcases (show j = 0 ∨ j = 1 ∨ j = 2 ∨ j = 3 ∨ j = 4 ∨ j = 5 by omega) with rfl | rfl | rfl | rfl | rfl | rfl <;> rfl) (cb' := (((3 - 1) - 1) - 1)) (sb' := ((((2 * (N + M) + 7) - (na + nb)) - (na + nb)) - 6)) (by omega) (by omega) dJ16_multiply_2_160 (fun q_63 H_64 hq_67 ho_65 hg_66 => ?_)
              have hne_r0_q_63 : r0 ≠ q_63 := by have := hr0.lt; omega
              have hr0_69 := hr0.grow hg_66
              refine v_dup E rfl dJ16_multiply_2_163 ?_
              refine v_aload E 0 rfl dJ16_multiply_2_164 ?_
              refine v_iload E 1 rfl dJ16_multiply_2_166 ?_
              refine V.frame (fun hfz_fr_70 hfk_fr_70 => ?_)
              rw [hH0] at hfz_fr_70 hfk_fr_70
              rw [hA0] at hfk_fr_70
              have hmq : r0 ≠ q_63 := Ne.symm (hp.ka hC.D ho_65 hr0_69 (by decide) (by decide))
              refine v_callI E (As := [.ref r0, vi 1]) (b := q_63) (g_initM κ H_64 (hC.call (fun q h => h.elim) hfz_fr_70 hfk_fr_70) (Nat.le_trans hrn.1 (by decide)) ho_65 hr0_69) q632 q91 q630 q631 rfl 2 (by decide +kernel) rfl (by decide) (by decide) (cb' := ((((3 - 1) - 1) - 1) - 0)) (sb' := (((((2 * (N + M) + 7) - (na + nb)) - (na + nb)) - 6) - 0)) (by omega) (by omega) rfl (rest := [.ref q_63]) (Nat.le_of_ble_eq_true rfl) (fun q9 h => hNew q9 (by rw [show q9 = q_63 from h]; omega)) dJ16_multiply_2_168 (fun v_71 H_72 hpost_73 hz_74 hk_75 => ?_)
              clear hz_74
              obtain ⟨rfl, hq9⟩ := hpost_73
              have hm_76 := hr0_69.kept (hk_75 _ hr0_69.lt (fun h => hmq h))
              refine V.eq (st' := [.ref q_63]) rfl ?_
              refine v_aret E hE rfl (Or.inl ⟨_, rfl⟩) dJ16_multiply_2_171 (Or.inr ⟨_, rfl⟩) ?_
              obtain ⟨hz9, hs9, hp9⟩ := sg_mul (x := x) (y := y) (c := 1) c_11 c_4 (Or.inl ⟨rfl, c_75⟩)
              have e9 : (if rn = 0 then (0 : Int) else 1) = _ := (if_neg (ints_ne hrn hp9)).trans hs9.symm
              rw [e9] at hq9
              exact ⟨_, rfl, BI.mk (n := rn) (m := r0) hq9 (eI.congr hm_76 (fun k hk => by unfold bm bM; rw [hz9])) (by rw [hz9]; exact hrn) (Nat.le_trans hC.le (by omega)) (Or.inr (Nat.le_trans hC.m hr0H))⟩
            · obtain rfl : na = 1 := by omega
              have hd9 : 0 < x.natAbs := by have := sg_pos c_11; omega
              have hd8 : x.natAbs < 4294967296 := by have := hna.2.1; omega
              refine v_aload_n E 4 rfl dJ16_multiply_2_119 ?_
              refine v_getf E in_J16 hob (ci := 6) rfl 1 (by decide) q496 rfl (v := .ref mb) rfl dJ16_multiply_2_120 ?_
              refine v_aload_n E 3 rfl dJ16_multiply_2_123 ?_
              refine v_getf E in_J16 hoa (ci := 6) rfl 1 (by decide) q496 rfl (v := .ref ma) rfl dJ16_multiply_2_124 ?_
              refine v_iconst E dJ16_multiply_2_127 ?_
              refine v_iald E dJ16_multiply_2_128 hma 0 rfl (by omega) (by omega) ?_
              refine V.topi (x' := ((x.natAbs : Nat) : Int)) (one_dig hna) ?_
              refine v_iload E 0 rfl dJ16_multiply_2_129 ?_
              refine V.frame (fun hfz_fr_77 hfk_fr_77 => ?_)
              rw [hH0] at hfz_fr_77 hfk_fr_77
              rw [hA0] at hfk_fr_77
              refine v_callS E (As := [.ref mb, vi ((x.natAbs : Nat) : Int), vi 1]) (g_mbi κ H0 (X := (y.natAbs : Int)) (d := x.natAbs) (R := x * y) (c := 1) (hC.call (fun q h => h.elim) hfz_fr_77 hfk_fr_77) hd9 hd8 (sg_pos c_4) hnb (by rw [Int.mul_comm]; exact hs) (by rw [Int.mul_comm (y.natAbs : Int)]; exact sg_mul (x := x) (y := y) (c := 1) c_11 c_4 (Or.inl ⟨rfl, c_75⟩)) hmb) (lw_S q1059 q1060 q91 q1061) 3 (by decide +kernel) rfl (by decide) (by decide) (cb' := (3 - 3)) (sb' := ((2 * (N + M) + 7) - (2 * nb + 7))) (by omega) (by omega) rfl (rest := []) (Nat.le_of_ble_eq_true rfl) (fun q h => h.elim) dJ16_multiply_2_131 (fun v_78 H_79 hpost_80 hz_81 hk_82 => ?_)
              clear hz_81
              obtain ⟨qm, rfl, hqm⟩ := hpost_80
              refine V.eq (st' := [.ref qm]) rfl ?_
              refine v_aret E hE rfl (Or.inl ⟨_, rfl⟩) dJ16_multiply_2_134 (Or.inr ⟨_, rfl⟩) ?_
              exact ⟨_, rfl, hqm⟩
          · obtain rfl : nb = 1 := by omega
            have hd9 : 0 < y.natAbs := by have := sg_pos c_4; omega
            have hd8 : y.natAbs < 4294967296 := by have := hnb.2.1; omega
            refine v_aload_n E 3 rfl dJ16_multiply_2_94 ?_
            refine v_getf E in_J16 hoa (ci := 6) rfl 1 (by decide) q496 rfl (v := .ref ma) rfl dJ16_multiply_2_95 ?_
            refine v_aload_n E 4 rfl dJ16_multiply_2_98 ?_
            refine v_getf E in_J16 hob (ci := 6) rfl 1 (by decide) q496 rfl (v := .ref mb) rfl dJ16_multiply_2_99 ?_
            refine v_iconst E dJ16_multiply_2_102 ?_
            refine v_iald E dJ16_multiply_2_103 hmb 0 rfl (by omega) (by omega) ?_
            refine V.topi (x' := ((y.natAbs : Nat) : Int)) (one_dig hnb) ?_
            refine v_iload E 0 rfl dJ16_multiply_2_104 ?_
            refine V.frame (fun hfz_fr_83 hfk_fr_83 => ?_)
            rw [hH0] at hfz_fr_83 hfk_fr_83
            rw [hA0] at hfk_fr_83
            refine v_callS E (As := [.ref ma, vi ((y.natAbs : Nat) : Int), vi 1]) (g_mbi κ H0 (X := (x.natAbs : Int)) (d := y.natAbs) (R := x * y) (c := 1) (hC.call (fun q h => h.elim) hfz_fr_83 hfk_fr_83) hd9 hd8 (sg_pos c_11) hna hs (sg_mul (x := x) (y := y) (c := 1) c_11 c_4 (Or.inl ⟨rfl, c_75⟩)) hma) (lw_S q1059 q1060 q91 q1061) 3 (by decide +kernel) rfl (by decide) (by decide) (cb' := (3 - 3)) (sb' := ((2 * (N + M) + 7) - (2 * na + 7))) (by omega) (by omega) rfl (rest := []) (Nat.le_of_ble_eq_true rfl) (fun q h => h.elim) dJ16_multiply_2_106 (fun v_84 H_85 hpost_86 hz_87 hk_88 => ?_)
            clear hz_87
            obtain ⟨qm, rfl, hqm⟩ := hpost_86
            refine V.eq (st' := [.ref qm]) rfl ?_
            refine v_aret E hE rfl (Or.inl ⟨_, rfl⟩) dJ16_multiply_2_109 (Or.inr ⟨_, rfl⟩) ?_
            exact ⟨_, rfl, hqm⟩
      · have exy := h20 c_27
        have hl20 : na ≤ 20 := by
          rcases hNM with h | h
          · omega
          · exact Nat.le_trans (ints_le (Int.natCast_nonneg _) hna (by rw [← exy]; exact hMy)) h
        refine v_iload E 0 rfl dJ16_multiply_2_30 ?_
        refine v_bipush E ⟨by decide, by decide⟩ dJ16_multiply_2_32 ?_
        refine v_icmp_le E (tgt := 46) dJ16_multiply_2_34 (by decide) ⟨by omega, by omega⟩ ⟨by omega, by omega⟩ (fun c_34 => ?_) (fun c_34 => absurd c_34 (by omega))
        refine v_aload_n E 2 rfl dJ16_multiply_2_46 ?_
        refine v_getf E in_J16 hob (ci := 6) rfl 1 (by decide) q496 rfl (v := .ref mb) rfl dJ16_multiply_2_47 ?_
        refine v_alen E dJ16_multiply_2_50 (t := 0) (ty := .int) hmb rfl ?_
        refine v_istore E dJ16_multiply_2_51 (zlt hL rfl) (lv' := [(6, vi (nb : Int)), (5, vi (na : Int)), (0, .ref a), (1, .ref b), (2, vi 0), (3, vi 0), (4, vi 0)]) rfl ?_
        refine v_iload E 1 rfl dJ16_multiply_2_53 ?_
        refine v_bipush E ⟨by decide, by decide⟩ dJ16_multiply_2_55 ?_
        refine v_icmp_lt E (tgt := 67) dJ16_multiply_2_57 (by decide) ⟨by omega, by omega⟩ ⟨by omega, by omega⟩ (fun c_57 => ?_) (fun c_57 => absurd c_57 (by omega))
        refine v_aload_n E 2 rfl dJ16_multiply_2_67 ?_
        refine v_getf E in_J16 hoa (ci := 6) rfl 0 (by decide) q494 rfl (v := vi x.sign) rfl dJ16_multiply_2_68 ?_
        refine v_aload_n E 3 rfl dJ16_multiply_2_71 ?_
        refine v_getf E in_J16 hob (ci := 6) rfl 0 (by decide) q494 rfl (v := vi y.sign) rfl dJ16_multiply_2_72 ?_
        refine v_icmp_ne E (tgt := 82) dJ16_multiply_2_75 (by decide) hrx hry (fun c_75 => ?_) (fun c_75 => ?_)
        · refine v_iconst E dJ16_multiply_2_82 ?_
          refine v_istore E dJ16_multiply_2_83 (zlt hL rfl) (lv' := [(7, vi (-1)), (6, vi (nb : Int)), (5, vi (na : Int)), (0, .ref a), (1, .ref b), (2, vi 0), (3, vi 0), (4, vi 0)]) rfl ?_
          refine v_aload_n E 4 rfl dJ16_multiply_2_85 ?_
          refine v_getf E in_J16 hob (ci := 6) rfl 1 (by decide) q496 rfl (v := .ref mb) rfl dJ16_multiply_2_86 ?_
          refine v_alen E dJ16_multiply_2_89 (t := 0) (ty := .int) hmb rfl ?_
          refine v_iconst E dJ16_multiply_2_90 ?_
          refine v_icmp_ne E (tgt := 110) dJ16_multiply_2_91 (by decide) ⟨by omega, by omega⟩ ⟨by omega, by omega⟩ (fun c_91 => ?_) (fun c_91 => ?_)
          · refine v_aload_n E 3 rfl dJ16_multiply_2_110 ?_
            refine v_getf E in_J16 hoa (ci := 6) rfl 1 (by decide) q496 rfl (v := .ref ma) rfl dJ16_multiply_2_111 ?_
            refine v_alen E dJ16_multiply_2_114 (t := 0) (ty := .int) hma rfl ?_
            refine v_iconst E dJ16_multiply_2_115 ?_
            refine v_icmp_ne E (tgt := 135) dJ16_multiply_2_116 (by decide) ⟨by omega, by omega⟩ ⟨by omega, by omega⟩ (fun c_116 => ?_) (fun c_116 => ?_)
            · refine v_aload_n E 3 rfl dJ16_multiply_2_135 ?_
              refine v_getf E in_J16 hoa (ci := 6) rfl 1 (by decide) q496 rfl (v := .ref ma) rfl dJ16_multiply_2_136 ?_
              refine v_iload E 2 rfl dJ16_multiply_2_139 ?_
              refine v_aload_n E 4 rfl dJ16_multiply_2_141 ?_
              refine v_getf E in_J16 hob (ci := 6) rfl 1 (by decide) q496 rfl (v := .ref mb) rfl dJ16_multiply_2_142 ?_
              refine v_iload E 1 rfl dJ16_multiply_2_145 ?_
              refine v_null E dJ16_multiply_2_147 ?_
              refine V.frame (fun hfz_fr_89 hfk_fr_89 => ?_)
              rw [hH0] at hfz_fr_89 hfk_fr_89
              rw [hA0] at hfk_fr_89
              refine v_callS E (As := [.ref ma, vi (na : Int), .ref mb, vi (nb : Int), .null]) (g_mulA κ H0 (sg_pos c_11) (sg_pos c_4) hna hnb hma hmb) (lw_S q1072 q1073 q91 q1074) 5 (by decide +kernel) rfl (by decide) (by decide) (cb' := (3 - 1)) (sb' := ((2 * (N + M) + 7) - (na + nb))) (by omega) (by omega) rfl (rest := []) (Nat.le_of_ble_eq_true rfl) (fun q h => h.elim) dJ16_multiply_2_148 (fun v_90 H_91 hpost_92 hz_93 hk_94 => ?_)
              clear hz_93
              obtain ⟨d0, rfl, hd0, hd0H⟩ := hpost_92
              have hd0H := Nat.le_trans hfz_fr_89 hd0H
              have hoa_95 := hoa.kept (hk_94 _ hoa.lt (fun h => h))
              have hma_96 := hma.kept (hk_94 _ hma.lt (fun h => h))
              have hob_97 := hob.kept (hk_94 _ hob.lt (fun h => h))
              have hmb_98 := hmb.kept (hk_94 _ hmb.lt (fun h => h))
              refine V.eq (st' := [.ref d0]) rfl ?_
              refine v_astore E dJ16_multiply_2_151 (zlt hL rfl) (lv' := [(8, .ref d0), (7, vi (-1)), (6, vi (nb : Int)), (5, vi (na : Int)), (0, .ref a), (1, .ref b), (2, vi 0), (3, vi 0), (4, vi 0)]) rfl ?_
              refine v_aload E 0 rfl dJ16_multiply_2_153 ?_
              refine V.frame (fun hfz_fr_99 hfk_fr_99 => ?_)
              rw [hH0] at hfz_fr_99 hfk_fr_99
              rw [hA0] at hfk_fr_99
              refine v_callS E (As := [.ref d0]) (g_strip κ H_91 (Z := ((x.natAbs : Int) * (y.natAbs : Int))) (n := na + nb) (mul_ints (sg_pos c_11) (sg_pos c_4) hna hnb).1 (mul_ints (sg_pos c_11) (sg_pos c_4) hna hnb).2 hs (by omega) hd0) (lw_S q715 q716 q91 q717) 1 (by decide +kernel) rfl (by decide) (by decide) (cb' := ((3 - 1) - 1)) (sb' := (((2 * (N + M) + 7) - (na + nb)) - (na + nb))) (by omega) (by omega) rfl (rest := []) (Nat.le_of_ble_eq_true rfl) (fun q h => h.elim) dJ16_multiply_2_155 (fun v_100 H_101 hpost_102 hz_103 hk_104 => ?_)
              clear hz_103
              obtain ⟨r0, rn, rfl, hr0, hrn, hr0H⟩ := hpost_102
              have hr0H : H0.size ≤ r0 := hr0H.elim (fun h => by rw [h]; exact hd0H) (fun h => Nat.le_trans hfz_fr_99 h)
              refine V.eq (st' := [.ref r0]) rfl ?_
              refine v_astore E dJ16_multiply_2_158 (zlt hL rfl) (lv' := [(8, .ref r0), (7, vi (-1)), (6, vi (nb : Int)), (5, vi (na : Int)), (0, .ref a), (1, .ref b), (2, vi 0), (3, vi 0), (4, vi 0)]) rfl ?_
              refine V.frame (fun hfz_fr_105 hfk_fr_105 => ?_)
              rw [hH0] at hfz_fr_105 hfk_fr_105
              rw [hA0] at hfk_fr_105
              refine v_new E in_J16 tyJ16 tyJ16_ok q485 q486 q91 (ci := 6) rfl (fs := [vi 0, .null, vi 0, vi 0, vi 0, vi 0]) (fun j hj => by rcases (show j = 0 ∨ j = 1 ∨ j = 2 ∨ j = 3 ∨ j = 4 ∨ j = 5 by omega) with rfl | rfl | rfl | rfl | rfl | rfl <;> rfl) (cb' := (((3 - 1) - 1) - 1)) (sb' := ((((2 * (N + M) + 7) - (na + nb)) - (na + nb)) - 6)) (by omega) (by omega) dJ16_multiply_2_160 (fun q_106 H_107 hq_110 ho_108 hg_109 => ?_)
              have hne_r0_q_106 : r0 ≠ q_106 := by have := hr0.lt; omega
              have hr0_112 := hr0.grow hg_109
              refine v_dup E rfl dJ16_multiply_2_163 ?_
              refine v_aload E 0 rfl dJ16_multiply_2_164 ?_
              refine v_iload E 1 rfl dJ16_multiply_2_166 ?_
              refine V.frame (fun hfz_fr_113 hfk_fr_113 => ?_)
              rw [hH0] at hfz_fr_113 hfk_fr_113
              rw [hA0] at hfk_fr_113
              have hmq : r0 ≠ q_106 := Ne.symm (hp.ka hC.D ho_108 hr0_112 (by decide) (by decide))
              refine v_callI E (As := [.ref r0, vi (-1)]) (b := q_106) (g_initM κ H_107 (hC.call (fun q h => h.elim) hfz_fr_113 hfk_fr_113) (Nat.le_trans hrn.1 (by decide)) ho_108 hr0_112) q632 q91 q630 q631 rfl 2 (by decide +kernel) rfl (by decide) (by decide) (cb' := ((((3 - 1) - 1) - 1) - 0)) (sb' := (((((2 * (N + M) + 7) - (na + nb)) - (na + nb)) - 6) - 0)) (by omega) (by omega) rfl (rest := [.ref q_106]) (Nat.le_of_ble_eq_true rfl) (fun q9 h => hNew q9 (by rw [show q9 = q_106 from h]; omega)) dJ16_multiply_2_168 (fun v_114 H_115 hpost_116 hz_117 hk_118 => ?_)
              clear hz_117
              obtain ⟨rfl, hq9⟩ := hpost_116
              have hm_119 := hr0_112.kept (hk_118 _ hr0_112.lt (fun h => hmq h))
              refine V.eq (st' := [.ref q_106]) rfl ?_
              refine v_aret E hE rfl (Or.inl ⟨_, rfl⟩) dJ16_multiply_2_171 (Or.inr ⟨_, rfl⟩) ?_
              obtain ⟨hz9, hs9, hp9⟩ := sg_mul (x := x) (y := y) (c := (-1)) c_11 c_4 (Or.inr ⟨rfl, c_75⟩)
              have e9 : (if rn = 0 then (0 : Int) else (-1)) = _ := (if_neg (ints_ne hrn hp9)).trans hs9.symm
              rw [e9] at hq9
              exact ⟨_, rfl, BI.mk (n := rn) (m := r0) hq9 (eI.congr hm_119 (fun k hk => by unfold bm bM; rw [hz9])) (by rw [hz9]; exact hrn) (Nat.le_trans hC.le (by omega)) (Or.inr (Nat.le_trans hC.m hr0H))⟩
            · obtain rfl : na = 1 := by omega
              have hd9 : 0 < x.natAbs := by have := sg_pos c_11; omega
              have hd8 : x.natAbs < 4294967296 := by have := hna.2.1; omega
              refine v_aload_n E 4 rfl dJ16_multiply_2_119 ?_
              refine v_getf E in_J16 hob (ci := 6) rfl 1 (by decide) q496 rfl (v := .ref mb) rfl dJ16_multiply_2_120 ?_
              refine v_aload_n E 3 rfl dJ16_multiply_2_123 ?_
              refine v_getf E in_J16 hoa (ci := 6) rfl 1 (by decide) q496 rfl (v := .ref ma) rfl dJ16_multiply_2_124 ?_
              refine v_iconst E dJ16_multiply_2_127 ?_
              refine v_iald E dJ16_multiply_2_128 hma 0 rfl (by omega) (by omega) ?_
              refine V.topi (x' := ((x.natAbs : Nat) : Int)) (one_dig hna) ?_
              refine v_iload E 0 rfl dJ16_multiply_2_129 ?_
              refine V.frame (fun hfz_fr_120 hfk_fr_120 => ?_)
              rw [hH0] at hfz_fr_120 hfk_fr_120
              rw [hA0] at hfk_fr_120
              refine v_callS E (As := [.ref mb, vi ((x.natAbs : Nat) : Int), vi (-1)]) (g_mbi κ H0 (X := (y.natAbs : Int)) (d := x.natAbs) (R := x * y) (c := (-1)) (hC.call (fun q h => h.elim) hfz_fr_120 hfk_fr_120) hd9 hd8 (sg_pos c_4) hnb (by rw [Int.mul_comm]; exact hs) (by rw [Int.mul_comm (y.natAbs : Int)]; exact sg_mul (x := x) (y := y) (c := (-1)) c_11 c_4 (Or.inr ⟨rfl, c_75⟩)) hmb) (lw_S q1059 q1060 q91 q1061) 3 (by decide +kernel) rfl (by decide) (by decide) (cb' := (3 - 3)) (sb' := ((2 * (N + M) + 7) - (2 * nb + 7))) (by omega) (by omega) rfl (rest := []) (Nat.le_of_ble_eq_true rfl) (fun q h => h.elim) dJ16_multiply_2_131 (fun v_121 H_122 hpost_123 hz_124 hk_125 => ?_)
              clear hz_124
              obtain ⟨qm, rfl, hqm⟩ := hpost_123
              refine V.eq (st' := [.ref qm]) rfl ?_
              refine v_aret E hE rfl (Or.inl ⟨_, rfl⟩) dJ16_multiply_2_134 (Or.inr ⟨_, rfl⟩) ?_
              exact ⟨_, rfl, hqm⟩
          · obtain rfl : nb = 1 := by omega
            have hd9 : 0 < y.natAbs := by have := sg_pos c_4; omega
            have hd8 : y.natAbs < 4294967296 := by have := hnb.2.1; omega
            refine v_aload_n E 3 rfl dJ16_multiply_2_94 ?_
            refine v_getf E in_J16 hoa (ci := 6) rfl 1 (by decide) q496 rfl (v := .ref ma) rfl dJ16_multiply_2_95 ?_
            refine v_aload_n E 4 rfl dJ16_multiply_2_98 ?_
            refine v_getf E in_J16 hob (ci := 6) rfl 1 (by decide) q496 rfl (v := .ref mb) rfl dJ16_multiply_2_99 ?_
            refine v_iconst E dJ16_multiply_2_102 ?_
            refine v_iald E dJ16_multiply_2_103 hmb 0 rfl (by omega) (by omega) ?_
            refine V.topi (x' := ((y.natAbs : Nat) : Int)) (one_dig hnb) ?_
            refine v_iload E 0 rfl dJ16_multiply_2_104 ?_
            refine V.frame (fun hfz_fr_126 hfk_fr_126 => ?_)
            rw [hH0] at hfz_fr_126 hfk_fr_126
            rw [hA0] at hfk_fr_126
            refine v_callS E (As := [.ref ma, vi ((y.natAbs : Nat) : Int), vi (-1)]) (g_mbi κ H0 (X := (x.natAbs : Int)) (d := y.natAbs) (R := x * y) (c := (-1)) (hC.call (fun q h => h.elim) hfz_fr_126 hfk_fr_126) hd9 hd8 (sg_pos c_11) hna hs (sg_mul (x := x) (y := y) (c := (-1)) c_11 c_4 (Or.inr ⟨rfl, c_75⟩)) hma) (lw_S q1059 q1060 q91 q1061) 3 (by decide +kernel) rfl (by decide) (by decide) (cb' := (3 - 3)) (sb' := ((2 * (N + M) + 7) - (2 * na + 7))) (by omega) (by omega) rfl (rest := []) (Nat.le_of_ble_eq_true rfl) (fun q h => h.elim) dJ16_multiply_2_106 (fun v_127 H_128 hpost_129 hz_130 hk_131 => ?_)
            clear hz_130
            obtain ⟨qm, rfl, hqm⟩ := hpost_129
            refine V.eq (st' := [.ref qm]) rfl ?_
            refine v_aret E hE rfl (Or.inl ⟨_, rfl⟩) dJ16_multiply_2_109 (Or.inr ⟨_, rfl⟩) ?_
            exact ⟨_, rfl, hqm⟩
        · refine v_iconst E dJ16_multiply_2_78 ?_
          refine v_goto E (tgt := 83) dJ16_multiply_2_79 (by decide) ?_
          refine v_istore E dJ16_multiply_2_83 (zlt hL rfl) (lv' := [(7, vi 1), (6, vi (nb : Int)), (5, vi (na : Int)), (0, .ref a), (1, .ref b), (2, vi 0), (3, vi 0), (4, vi 0)]) rfl ?_
          refine v_aload_n E 4 rfl dJ16_multiply_2_85 ?_
          refine v_getf E in_J16 hob (ci := 6) rfl 1 (by decide) q496 rfl (v := .ref mb) rfl dJ16_multiply_2_86 ?_
          refine v_alen E dJ16_multiply_2_89 (t := 0) (ty := .int) hmb rfl ?_
          refine v_iconst E dJ16_multiply_2_90 ?_
          refine v_icmp_ne E (tgt := 110) dJ16_multiply_2_91 (by decide) ⟨by omega, by omega⟩ ⟨by omega, by omega⟩ (fun c_91 => ?_) (fun c_91 => ?_)
          · refine v_aload_n E 3 rfl dJ16_multiply_2_110 ?_
            refine v_getf E in_J16 hoa (ci := 6) rfl 1 (by decide) q496 rfl (v := .ref ma) rfl dJ16_multiply_2_111 ?_
            refine v_alen E dJ16_multiply_2_114 (t := 0) (ty := .int) hma rfl ?_
            refine v_iconst E dJ16_multiply_2_115 ?_
            refine v_icmp_ne E (tgt := 135) dJ16_multiply_2_116 (by decide) ⟨by omega, by omega⟩ ⟨by omega, by omega⟩ (fun c_116 => ?_) (fun c_116 => ?_)
            · refine v_aload_n E 3 rfl dJ16_multiply_2_135 ?_
              refine v_getf E in_J16 hoa (ci := 6) rfl 1 (by decide) q496 rfl (v := .ref ma) rfl dJ16_multiply_2_136 ?_
              refine v_iload E 2 rfl dJ16_multiply_2_139 ?_
              refine v_aload_n E 4 rfl dJ16_multiply_2_141 ?_
              refine v_getf E in_J16 hob (ci := 6) rfl 1 (by decide) q496 rfl (v := .ref mb) rfl dJ16_multiply_2_142 ?_
              refine v_iload E 1 rfl dJ16_multiply_2_145 ?_
              refine v_null E dJ16_multiply_2_147 ?_
              refine V.frame (fun hfz_fr_132 hfk_fr_132 => ?_)
              rw [hH0] at hfz_fr_132 hfk_fr_132
              rw [hA0] at hfk_fr_132
              refine v_callS E (As := [.ref ma, vi (na : Int), .ref mb, vi (nb : Int), .null]) (g_mulA κ H0 (sg_pos c_11) (sg_pos c_4) hna hnb hma hmb) (lw_S q1072 q1073 q91 q1074) 5 (by decide +kernel) rfl (by decide) (by decide) (cb' := (3 - 1)) (sb' := ((2 * (N + M) + 7) - (na + nb))) (by omega) (by omega) rfl (rest := []) (Nat.le_of_ble_eq_true rfl) (fun q h => h.elim) dJ16_multiply_2_148 (fun v_133 H_134 hpost_135 hz_136 hk_137 => ?_)
              clear hz_136
              obtain ⟨d0, rfl, hd0, hd0H⟩ := hpost_135
              have hd0H := Nat.le_trans hfz_fr_132 hd0H
              have hoa_138 := hoa.kept (hk_137 _ hoa.lt (fun h => h))
              have hma_139 := hma.kept (hk_137 _ hma.lt (fun h => h))
              have hob_140 := hob.kept (hk_137 _ hob.lt (fun h => h))
              have hmb_141 := hmb.kept (hk_137 _ hmb.lt (fun h => h))
              refine V.eq (st' := [.ref d0]) rfl ?_
              refine v_astore E dJ16_multiply_2_151 (zlt hL rfl) (lv' := [(8, .ref d0), (7, vi 1), (6, vi (nb : Int)), (5, vi (na : Int)), (0, .ref a), (1, .ref b), (2, vi 0), (3, vi 0), (4, vi 0)]) rfl ?_
              refine v_aload E 0 rfl dJ16_multiply_2_153 ?_
              refine V.frame (fun hfz_fr_142 hfk_fr_142 => ?_)
              rw [hH0] at hfz_fr_142 hfk_fr_142
              rw [hA0] at hfk_fr_142
              refine v_callS E (As := [.ref d0]) (g_strip κ H_134 (Z := ((x.natAbs : Int) * (y.natAbs : Int))) (n := na + nb) (mul_ints (sg_pos c_11) (sg_pos c_4) hna hnb).1 (mul_ints (sg_pos c_11) (sg_pos c_4) hna hnb).2 hs (by omega) hd0) (lw_S q715 q716 q91 q717) 1 (by decide +kernel) rfl (by decide) (by decide) (cb' := ((3 - 1) - 1)) (sb' := (((2 * (N + M) + 7) - (na + nb)) - (na + nb))) (by omega) (by omega) rfl (rest := []) (Nat.le_of_ble_eq_true rfl) (fun q h => h.elim) dJ16_multiply_2_155 (fun v_143 H_144 hpost_145 hz_146 hk_147 => ?_)
              clear hz_146
              obtain ⟨r0, rn, rfl, hr0, hrn, hr0H⟩ := hpost_145
              have hr0H : H0.size ≤ r0 := hr0H.elim (fun h => by rw [h]; exact hd0H) (fun h => Nat.le_trans hfz_fr_142 h)
              refine V.eq (st' := [.ref r0]) rfl ?_
              refine v_astore E dJ16_multiply_2_158 (zlt hL rfl) (lv' := [(8, .ref r0), (7, vi 1), (6, vi (nb : Int)), (5, vi (na : Int)), (0, .ref a), (1, .ref b), (2, vi 0), (3, vi 0), (4, vi 0)]) rfl ?_
              refine V.frame (fun hfz_fr_148 hfk_fr_148 => ?_)
              rw [hH0] at hfz_fr_148 hfk_fr_148
              rw [hA0] at hfk_fr_148
              refine v_new E in_J16 tyJ16 tyJ16_ok q485 q486 q91 (ci := 6) rfl (fs := [vi 0, .null, vi 0, vi 0, vi 0, vi 0]) (fun j hj => by rcases (show j = 0 ∨ j = 1 ∨ j = 2 ∨ j = 3 ∨ j = 4 ∨ j = 5 by omega) with rfl | rfl | rfl | rfl | rfl | rfl <;> rfl) (cb' := (((3 - 1) - 1) - 1)) (sb' := ((((2 * (N + M) + 7) - (na + nb)) - (na + nb)) - 6)) (by omega) (by omega) dJ16_multiply_2_160 (fun q_149 H_150 hq_153 ho_151 hg_152 => ?_)
              have hne_r0_q_149 : r0 ≠ q_149 := by have := hr0.lt; omega
              have hr0_155 := hr0.grow hg_152
              refine v_dup E rfl dJ16_multiply_2_163 ?_
              refine v_aload E 0 rfl dJ16_multiply_2_164 ?_
              refine v_iload E 1 rfl dJ16_multiply_2_166 ?_
              refine V.frame (fun hfz_fr_156 hfk_fr_156 => ?_)
              rw [hH0] at hfz_fr_156 hfk_fr_156
              rw [hA0] at hfk_fr_156
              have hmq : r0 ≠ q_149 := Ne.symm (hp.ka hC.D ho_151 hr0_155 (by decide) (by decide))
              refine v_callI E (As := [.ref r0, vi 1]) (b := q_149) (g_initM κ H_150 (hC.call (fun q h => h.elim) hfz_fr_156 hfk_fr_156) (Nat.le_trans hrn.1 (by decide)) ho_151 hr0_155) q632 q91 q630 q631 rfl 2 (by decide +kernel) rfl (by decide) (by decide) (cb' := ((((3 - 1) - 1) - 1) - 0)) (sb' := (((((2 * (N + M) + 7) - (na + nb)) - (na + nb)) - 6) - 0)) (by omega) (by omega) rfl (rest := [.ref q_149]) (Nat.le_of_ble_eq_true rfl) (fun q9 h => hNew q9 (by rw [show q9 = q_149 from h]; omega)) dJ16_multiply_2_168 (fun v_157 H_158 hpost_159 hz_160 hk_161 => ?_)
              clear hz_160
              obtain ⟨rfl, hq9⟩ := hpost_159
              have hm_162 := hr0_155.kept (hk_161 _ hr0_155.lt (fun h => hmq h))
              refine V.eq (st' := [.ref q_149]) rfl ?_
              refine v_aret E hE rfl (Or.inl ⟨_, rfl⟩) dJ16_multiply_2_171 (Or.inr ⟨_, rfl⟩) ?_
              obtain ⟨hz9, hs9, hp9⟩ := sg_mul (x := x) (y := y) (c := 1) c_11 c_4 (Or.inl ⟨rfl, c_75⟩)
              have e9 : (if rn = 0 then (0 : Int) else 1) = _ := (if_neg (ints_ne hrn hp9)).trans hs9.symm
              rw [e9] at hq9
              exact ⟨_, rfl, BI.mk (n := rn) (m := r0) hq9 (eI.congr hm_162 (fun k hk => by unfold bm bM; rw [hz9])) (by rw [hz9]; exact hrn) (Nat.le_trans hC.le (by omega)) (Or.inr (Nat.le_trans hC.m hr0H))⟩
            · obtain rfl : na = 1 := by omega
              have hd9 : 0 < x.natAbs := by have := sg_pos c_11; omega
              have hd8 : x.natAbs < 4294967296 := by have := hna.2.1; omega
              refine v_aload_n E 4 rfl dJ16_multiply_2_119 ?_
              refine v_getf E in_J16 hob (ci := 6) rfl 1 (by decide) q496 rfl (v := .ref mb) rfl dJ16_multiply_2_120 ?_
              refine v_aload_n E 3 rfl dJ16_multiply_2_123 ?_
              refine v_getf E in_J16 hoa (ci := 6) rfl 1 (by decide) q496 rfl (v := .ref ma) rfl dJ16_multiply_2_124 ?_
              refine v_iconst E dJ16_multiply_2_127 ?_
              refine v_iald E dJ16_multiply_2_128 hma 0 rfl (by omega) (by omega) ?_
              refine V.topi (x' := ((x.natAbs : Nat) : Int)) (one_dig hna) ?_
              refine v_iload E 0 rfl dJ16_multiply_2_129 ?_
              refine V.frame (fun hfz_fr_163 hfk_fr_163 => ?_)
              rw [hH0] at hfz_fr_163 hfk_fr_163
              rw [hA0] at hfk_fr_163
              refine v_callS E (As := [.ref mb, vi ((x.natAbs : Nat) : Int), vi 1]) (g_mbi κ H0 (X := (y.natAbs : Int)) (d := x.natAbs) (R := x * y) (c := 1) (hC.call (fun q h => h.elim) hfz_fr_163 hfk_fr_163) hd9 hd8 (sg_pos c_4) hnb (by rw [Int.mul_comm]; exact hs) (by rw [Int.mul_comm (y.natAbs : Int)]; exact sg_mul (x := x) (y := y) (c := 1) c_11 c_4 (Or.inl ⟨rfl, c_75⟩)) hmb) (lw_S q1059 q1060 q91 q1061) 3 (by decide +kernel) rfl (by decide) (by decide) (cb' := (3 - 3)) (sb' := ((2 * (N + M) + 7) - (2 * nb + 7))) (by omega) (by omega) rfl (rest := []) (Nat.le_of_ble_eq_true rfl) (fun q h => h.elim) dJ16_multiply_2_131 (fun v_164 H_165 hpost_166 hz_167 hk_168 => ?_)
              clear hz_167
              obtain ⟨qm, rfl, hqm⟩ := hpost_166
              refine V.eq (st' := [.ref qm]) rfl ?_
              refine v_aret E hE rfl (Or.inl ⟨_, rfl⟩) dJ16_multiply_2_134 (Or.inr ⟨_, rfl⟩) ?_
              exact ⟨_, rfl, hqm⟩
          · obtain rfl : nb = 1 := by omega
            have hd9 : 0 < y.natAbs := by have := sg_pos c_4; omega
            have hd8 : y.natAbs < 4294967296 := by have := hnb.2.1; omega
            refine v_aload_n E 3 rfl dJ16_multiply_2_94 ?_
            refine v_getf E in_J16 hoa (ci := 6) rfl 1 (by decide) q496 rfl (v := .ref ma) rfl dJ16_multiply_2_95 ?_
            refine v_aload_n E 4 rfl dJ16_multiply_2_98 ?_
            refine v_getf E in_J16 hob (ci := 6) rfl 1 (by decide) q496 rfl (v := .ref mb) rfl dJ16_multiply_2_99 ?_
            refine v_iconst E dJ16_multiply_2_102 ?_
            refine v_iald E dJ16_multiply_2_103 hmb 0 rfl (by omega) (by omega) ?_
            refine V.topi (x' := ((y.natAbs : Nat) : Int)) (one_dig hnb) ?_
            refine v_iload E 0 rfl dJ16_multiply_2_104 ?_
            refine V.frame (fun hfz_fr_169 hfk_fr_169 => ?_)
            rw [hH0] at hfz_fr_169 hfk_fr_169
            rw [hA0] at hfk_fr_169
            refine v_callS E (As := [.ref ma, vi ((y.natAbs : Nat) : Int), vi 1]) (g_mbi κ H0 (X := (x.natAbs : Int)) (d := y.natAbs) (R := x * y) (c := 1) (hC.call (fun q h => h.elim) hfz_fr_169 hfk_fr_169) hd9 hd8 (sg_pos c_11) hna hs (sg_mul (x := x) (y := y) (c := 1) c_11 c_4 (Or.inl ⟨rfl, c_75⟩)) hma) (lw_S q1059 q1060 q91 q1061) 3 (by decide +kernel) rfl (by decide) (by decide) (cb' := (3 - 3)) (sb' := ((2 * (N + M) + 7) - (2 * na + 7))) (by omega) (by omega) rfl (rest := []) (Nat.le_of_ble_eq_true rfl) (fun q h => h.elim) dJ16_multiply_2_106 (fun v_170 H_171 hpost_172 hz_173 hk_174 => ?_)
            clear hz_173
            obtain ⟨qm, rfl, hqm⟩ := hpost_172
            refine V.eq (st' := [.ref qm]) rfl ?_
            refine v_aret E hE rfl (Or.inl ⟨_, rfl⟩) dJ16_multiply_2_109 (Or.inr ⟨_, rfl⟩) ?_
            exact ⟨_, rfl, hqm⟩
    · refine V.frame (fun hfz_fr_175 hfk_fr_175 => ?_)
      rw [hH0] at hfz_fr_175 hfk_fr_175
      rw [hA0] at hfk_fr_175
      have hC9 := hC.call (fun q h => h.elim) hfz_fr_175 hfk_fr_175
      refine V.frame (fun hfz_fr_176 hfk_fr_176 => ?_)
      rw [hH0] at hfz_fr_176 hfk_fr_176
      rw [hA0] at hfk_fr_176
      refine v_gets E 0 rfl q477 (CO.s0 (hC.call (fun q h => h.elim) hfz_fr_176 hfk_fr_176)) dJ16_multiply_2_14 ?_
      refine v_aret E hE rfl (Or.inl ⟨_, rfl⟩) dJ16_multiply_2_17 (Or.inr ⟨_, rfl⟩) ?_
      exact ⟨_, rfl, by rw [show x * y = 0 by first | (rw [sg_zero c_4, Int.mul_zero]; done) | (rw [sg_zero c_11, Int.zero_mul])]; exact ⟨_, _, _, hC9.2.2.2.2.2.2.2.2.2.2.1⟩⟩

set_option maxHeartbeats 400000 in
set_option maxRecDepth 100000 in
/-- multiply -/
theorem g_mul (κ : zK) (H0 : Heap) {a : Nat} {x : Int} {b : Nat} {y : Int} {N M : Nat} (hC : CO κ H0) (hx : BI κ H0 a x) (hy : BI κ H0 b y) (hNx : (x.natAbs : Int) < 2 ^ (32 * N)) (hMy : (y.natAbs : Int) < 2 ^ (32 * M)) (hNM : N ≤ 20 ∨ M ≤ 20) (hs : sB ((x.natAbs : Int) * (y.natAbs : Int)))  : Mt κ yJ16_multiply cJ16_multiply 2 (some (.object "java/math/BigInteger")) 5 134 3 (2 * (N + M) + 7) H0 [.ref a, .ref b] (fun _ => False) (fun v H1 => ∃ q : Nat, v = some (.ref q) ∧ BI κ H1 q (x * y)) := by
  refine Mt.of (by decide) (Nat.le_of_ble_eq_true rfl) ?_
  intro z E hE hH0 hA0 hL hini
  have hAll : ∀ q, (fun _ => False) q → zA z.A z.H0 q := fun q h => Or.inl (by rw [hA0]; exact h)
  have hNew : ∀ q, H0.size ≤ q → zA z.A z.H0 q := fun q h => Or.inr (by rw [hH0]; exact h)
  have E : zOK z cJ16_multiply RJ16 κ 5 134 (some (.object "java/math/BigInteger")) := E
  refine V.eqL (lv' := [(0, .ref a), (1, .ref b)]) rfl ?_
  obtain ⟨ma, na, cfa, ⟨c1a, c2a, c3a, hoa⟩, hma, hna, hcfa⟩ := hx
  change Hid _ at hcfa
  have hsa := sgn3 x
  have h48a := hna.1
  obtain ⟨mb, nb, cfb, ⟨c1b, c2b, c3b, hob⟩, hmb, hnb, hcfb⟩ := hy
  change Hid _ at hcfb
  have hsb := sgn3 y
  have h48b := hnb.1
  refine v_aload_n E 0 rfl dJ16_multiply_0 ?_
  refine v_aload_n E 1 rfl dJ16_multiply_1 ?_
  refine v_iconst E dJ16_multiply_2 ?_
  refine v_iconst E dJ16_multiply_3 ?_
  refine v_iconst E dJ16_multiply_4 ?_
  refine v_callV E (As := [.ref b, vi 0, vi 0, vi 0]) (b := a) (ci := 6) (C := RJ16) (T := TJ16) (N := 6) hoa rfl (g_mul4 κ H0 hC ⟨ma, na, cfa, ⟨c1a, c2a, c3a, hoa⟩, hma, hna, hcfa⟩ ⟨mb, nb, cfb, ⟨c1b, c2b, c3b, hob⟩, hmb, hnb, hcfb⟩ hNx hMy hNM hs) (lw_V q963 q965 qs11 q91 q966) 4 (by decide +kernel) rfl (by decide) (by decide) (cb' := (3 - 3)) (sb' := ((2 * (N + M) + 7) - (2 * (N + M) + 7))) (by omega) (by omega) rfl (rest := []) (Nat.le_of_ble_eq_true rfl) (fun q h => h.elim) dJ16_multiply_5 (fun v_1 H_2 hpost_3 hz_4 hk_5 => ?_)
  clear hz_4
  obtain ⟨qm, rfl, hqm⟩ := hpost_3
  refine V.eq (st' := [.ref qm]) rfl ?_
  refine v_aret E hE rfl (Or.inl ⟨_, rfl⟩) dJ16_multiply_8 (Or.inr ⟨_, rfl⟩) ?_
  exact ⟨_, rfl, hqm⟩

set_option maxHeartbeats 1000000 in
set_option maxRecDepth 100000 in
/-- shiftLeft -/
theorem g_shl (κ : zK) (H0 : Heap) {a u b N : Nat} {x : Int} (hC : CO κ H0) (hx : BI κ H0 a x) (hb : b ≤ 31) (hu : u ≤ 48) (hNx : (x.natAbs : Int) < 2 ^ (32 * N)) (hs : sB ((x.natAbs : Int) * 2 ^ (32 * u + b)))  : Mt κ yJ16_shiftLeft cJ16_shiftLeft 2 (some (.object "java/math/BigInteger")) 3 74 2 (N + u + 7) H0 [.ref a, vi ((32 * u + b : Nat) : Int)] (fun _ => False) (fun v H1 => ∃ q : Nat, v = some (.ref q) ∧ BI κ H1 q (x * 2 ^ (32 * u + b))) := by
  refine Mt.of (by decide) (Nat.le_of_ble_eq_true rfl) ?_
  intro z E hE hH0 hA0 hL hini
  have hAll : ∀ q, (fun _ => False) q → zA z.A z.H0 q := fun q h => Or.inl (by rw [hA0]; exact h)
  have hNew : ∀ q, H0.size ≤ q → zA z.A z.H0 q := fun q h => Or.inr (by rw [hH0]; exact h)
  have E : zOK z cJ16_shiftLeft RJ16 κ 3 74 (some (.object "java/math/BigInteger")) := E
  refine V.eqL (lv' := [(0, .ref a), (1, vi ((32 * u + b : Nat) : Int))]) rfl ?_
  obtain ⟨ma, na, cfa, ⟨c1a, c2a, c3a, hoa⟩, hma, hna, hcfa⟩ := hx
  change Hid _ at hcfa
  have hsa := sgn3 x
  have h48a := hna.1
  have hLx := ints_le (Int.natCast_nonneg _) hna hNx
  have hrx := rsign x
  clear hsa
  refine v_aload_n E 0 rfl dJ16_shiftLeft_0 ?_
  refine v_getf E in_J16 hoa (ci := 6) rfl 0 (by decide) q494 rfl (v := vi x.sign) rfl dJ16_shiftLeft_1 ?_
  refine v_if_ne E (tgt := 11) dJ16_shiftLeft_4 (by decide) hrx (fun c_4 => ?_) (fun c_4 => ?_)
  · refine v_iload_n E 1 rfl dJ16_shiftLeft_11 ?_
    refine v_if_le E (tgt := 35) dJ16_shiftLeft_12 (by decide) ⟨by omega, by omega⟩ (fun c_12 => ?_) (fun c_12 => ?_)
    · refine v_iload_n E 1 rfl dJ16_shiftLeft_35 ?_
      refine v_if_ne E (tgt := 41) dJ16_shiftLeft_36 (by decide) ⟨by omega, by omega⟩ (fun c_36 => absurd c_36 (by omega)) (fun c_36 => ?_)
      refine v_aload_n E 0 rfl dJ16_shiftLeft_39 ?_
      refine v_aret E hE rfl (Or.inl ⟨_, rfl⟩) dJ16_shiftLeft_40 (Or.inr ⟨_, rfl⟩) ?_
      obtain rfl : u = 0 := by omega
      obtain rfl : b = 0 := by omega
      exact ⟨_, rfl, by rw [show x * 2 ^ (32 * 0 + 0) = x from Int.mul_one x]; exact ⟨ma, na, cfa, ⟨c1a, c2a, c3a, hoa⟩, hma, hna, hcfa⟩⟩
    · refine V.frame (fun hfz_fr_1 hfk_fr_1 => ?_)
      rw [hH0] at hfz_fr_1 hfk_fr_1
      rw [hA0] at hfk_fr_1
      refine v_new E in_J16 tyJ16 tyJ16_ok q485 q486 q91 (ci := 6) rfl (fs := [vi 0, .null, vi 0, vi 0, vi 0, vi 0]) (fun j hj => by rcases (show j = 0 ∨ j = 1 ∨ j = 2 ∨ j = 3 ∨ j = 4 ∨ j = 5 by omega) with rfl | rfl | rfl | rfl | rfl | rfl <;> rfl) (cb' := (2 - 1)) (sb' := ((N + u + 7) - 6)) (by omega) (by omega) dJ16_shiftLeft_15 (fun q_2 H_3 hq_6 ho_4 hg_5 => ?_)
      have hne_a_q_2 : a ≠ q_2 := by have := hoa.lt; omega
      have hne_ma_q_2 : ma ≠ q_2 := by have := hma.lt; omega
      have hoa_9 := hoa.grow hg_5
      have hma_10 := hma.grow hg_5
      refine v_dup E rfl dJ16_shiftLeft_18 ?_
      refine v_aload_n E 0 rfl dJ16_shiftLeft_19 ?_
      refine v_getf E in_J16 hoa_9 (ci := 6) rfl 1 (by decide) q496 rfl (v := .ref ma) rfl dJ16_shiftLeft_20 ?_
      refine v_iload_n E 1 rfl dJ16_shiftLeft_23 ?_
      refine V.frame (fun hfz_fr_11 hfk_fr_11 => ?_)
      rw [hH0] at hfz_fr_11 hfk_fr_11
      rw [hA0] at hfk_fr_11
      have hZt : ((x * 2 ^ (32 * u + b)).natAbs : Int) = (x.natAbs : Int) * 2 ^ (32 * u + b) := by rw [Int.natAbs_mul, Int.natCast_mul, Int.natAbs_pow, Int.natCast_pow]; rfl
      refine v_callS E (As := [.ref ma, vi ((32 * u + b : Nat) : Int)]) (g_shA κ H_3 (u := u) (b := b) (X := (x.natAbs : Int)) hb hu (sg_pos c_4) hna hs hma_10) (lw_S q1037 q1038 q91 q1039) 2 (by decide +kernel) rfl (by decide) (by decide) (cb' := ((2 - 1) - 1)) (sb' := (((N + u + 7) - 6) - (na + u + 1))) (by omega) (by omega) rfl (rest := [.ref q_2, .ref q_2]) (Nat.le_of_ble_eq_true rfl) (fun q h => h.elim) dJ16_shiftLeft_24 (fun v_12 H_13 hpost_14 hz_15 hk_16 => ?_)
      clear hz_15
      obtain ⟨r0, rn, rfl, hr0, hrn, hr0H⟩ := hpost_14
      have hr0H := Nat.le_trans hfz_fr_11 hr0H
      have hoa_17 := hoa_9.kept (hk_16 _ hoa_9.lt (fun h => h))
      have hma_18 := hma_10.kept (hk_16 _ hma_10.lt (fun h => h))
      have ho_19 := ho_4.kept (hk_16 _ ho_4.lt (fun h => h))
      refine V.eq (st' := [.ref r0, .ref q_2, .ref q_2]) rfl ?_
      refine v_aload_n E 0 rfl dJ16_shiftLeft_27 ?_
      refine v_getf E in_J16 hoa_17 (ci := 6) rfl 0 (by decide) q494 rfl (v := vi x.sign) rfl dJ16_shiftLeft_28 ?_
      refine V.frame (fun hfz_fr_20 hfk_fr_20 => ?_)
      rw [hH0] at hfz_fr_20 hfk_fr_20
      rw [hA0] at hfk_fr_20
      have hmq : r0 ≠ q_2 := Ne.symm (hp.ka hC.D ho_19 hr0 (by decide) (by decide))
      refine v_callI E (As := [.ref r0, vi x.sign]) (b := q_2) (g_initM κ H_13 (hC.call (fun q h => h.elim) hfz_fr_20 hfk_fr_20) (Nat.le_trans hrn.1 (by decide)) ho_19 hr0) q632 q91 q630 q631 rfl 2 (by decide +kernel) rfl (by decide) (by decide) (cb' := (((2 - 1) - 1) - 0)) (sb' := ((((N + u + 7) - 6) - (na + u + 1)) - 0)) (by omega) (by omega) rfl (rest := [.ref q_2]) (Nat.le_of_ble_eq_true rfl) (fun q9 h => hNew q9 (by rw [show q9 = q_2 from h]; omega)) dJ16_shiftLeft_31 (fun v_21 H_22 hpost_23 hz_24 hk_25 => ?_)
      clear hz_24
      obtain ⟨rfl, hq9⟩ := hpost_23
      have hm_26 := hr0.kept (hk_25 _ hr0.lt (fun h => hmq h))
      refine V.eq (st' := [.ref q_2]) rfl ?_
      refine v_aret E hE rfl (Or.inl ⟨_, rfl⟩) dJ16_shiftLeft_34 (Or.inr ⟨_, rfl⟩) ?_
      obtain ⟨hz9, hs9, hp9⟩ := (⟨hZt, shl_sign c_4, Int.mul_pos (sg_pos c_4) (p2 _)⟩ : ((x * 2 ^ (32 * u + b)).natAbs : Int) = _ ∧ (x * 2 ^ (32 * u + b)).sign = x.sign ∧ 0 < (x.natAbs : Int) * 2 ^ (32 * u + b))
      have e9 : (if rn = 0 then (0 : Int) else x.sign) = _ := (if_neg (ints_ne hrn hp9)).trans hs9.symm
      rw [e9] at hq9
      exact ⟨_, rfl, BI.mk (n := rn) (m := r0) hq9 (eI.congr hm_26 (fun k hk => by unfold bm bM; rw [hz9])) (by rw [hz9]; exact hrn) (Nat.le_trans hC.le (by omega)) (Or.inr (Nat.le_trans hC.m hr0H))⟩
  · refine v_gets E 0 rfl q477 hC.s0 dJ16_shiftLeft_7 ?_
    refine v_aret E hE rfl (Or.inl ⟨_, rfl⟩) dJ16_shiftLeft_10 (Or.inr ⟨_, rfl⟩) ?_
    exact ⟨_, rfl, by rw [sg_zero c_4, Int.zero_mul]; exact ⟨_, _, _, hC.2.2.2.2.2.2.2.2.2.2.1⟩⟩
