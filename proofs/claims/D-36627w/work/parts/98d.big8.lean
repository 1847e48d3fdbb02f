/-! BIG INTEGERS: products -/
theorem pow_zeros (t : Nat) : isZeros ((2 ^ t : Nat) : Int) t := by
  have h := p2 t
  refine ⟨?_, ?_⟩
  · rw [Int.natCast_pow]; exact Int.emod_self
  · rw [Int.natCast_pow]; show (2 : Int) ^ t / 2 ^ t % 2 = 1
    rw [Int.ediv_self (Int.ne_of_gt h)]; rfl
theorem mbi_top {X d : Int} {n : Nat} (h0 : 0 ≤ X) (hn : X < 2 ^ (32 * n)) : iZ (mcy 0 d X 0 n) = iZ (dg (X * d) n) := by
  rw [← tm_dg, dg_hi h0 hn (Nat.le_refl n), Int.mul_zero, Int.add_zero]
theorem mbi_cy {X d : Int} {n : Nat} (h0 : 0 ≤ X) (hn : X < 2 ^ (32 * n)) (hd : 0 ≤ d ∧ d < 4294967296) : mcy 0 d X 0 n = dg (X * d) n := by
  have h1 := mcy_in (m := d) 0 X 0 n hd.1
  exact iZ_dgI ⟨h1.1, by omega⟩ (dg_in _ _) (mbi_top h0 hn)
theorem mbi_lt {X d : Int} {n : Nat} (h0 : 0 ≤ X) (hn : X < 2 ^ (32 * n)) (hd : 0 < d ∧ d < 4294967296) : X * d < 2 ^ (32 * (n + 1)) := by
  rw [p32]
  exact Int.lt_of_le_of_lt (Int.mul_le_mul_of_nonneg_left (Int.le_of_lt hd.2) h0) (Int.mul_lt_mul_of_pos_right hn (by decide))
theorem mbi_0 {X d : Int} {n : Nat} (h0 : 0 < X) (hn : isInts X n) (hd : 0 < d ∧ d < 4294967296) (hc : mcy 0 d X 0 n = 0) : isInts (X * d) n := by
  rw [mbi_cy (Int.le_of_lt h0) hn.2.1 ⟨by omega, hd.2⟩] at hc
  refine ⟨hn.1, dg_top (Int.mul_nonneg (by omega) (by omega)) (mbi_lt (by omega) hn.2.1 hd) hc, fun hp => ?_⟩
  have h2 := Int.mul_le_mul_of_nonneg_left (show (1 : Int) ≤ d by omega) (Int.le_of_lt h0)
  rw [Int.mul_one] at h2
  exact Int.le_trans (hn.2.2 hp) h2
theorem mbi_1 {X d : Int} {n : Nat} (h0 : 0 < X) (hn : isInts X n) (hd : 0 < d ∧ d < 4294967296) (hs : sB (X * d)) (hc : ¬ mcy 0 d X 0 n = 0) : isInts (X * d) (n + 1) := by
  rw [mbi_cy (Int.le_of_lt h0) hn.2.1 ⟨by omega, hd.2⟩] at hc
  have h1 : 2 ^ (32 * n) ≤ X * d := top_ge (Int.mul_nonneg (by omega) (by omega)) hc
  exact ⟨hs.n (fun _ => h1), mbi_lt (by omega) hn.2.1 hd, fun _ => h1⟩
theorem sg_mul {x y c : Int} (hx : ¬ x.sign = 0) (hy : ¬ y.sign = 0) (hc : c = 1 ∧ x.sign = y.sign ∨ c = -1 ∧ ¬ x.sign = y.sign) : ((x * y).natAbs : Int) = (x.natAbs : Int) * (y.natAbs : Int) ∧ (x * y).sign = c ∧ 0 < (x.natAbs : Int) * (y.natAbs : Int) := by
  refine ⟨by rw [Int.natAbs_mul, Int.natCast_mul], ?_, Int.mul_pos (sg_pos hx) (sg_pos hy)⟩
  rw [Int.sign_mul]
  have h1 := sgn3 x
  have h2 := sgn3 y
  rcases h1 with ⟨e1, _⟩ | ⟨e1, _⟩ | ⟨e1, _⟩ <;> rcases h2 with ⟨e2, _⟩ | ⟨e2, _⟩ | ⟨e2, _⟩ <;> rw [e1, e2] at hc ⊢ <;> omega
theorem mul_ints {X Y : Int} {n m : Nat} (hX : 0 < X) (hY : 0 < Y) (hn : isInts X n) (hm : isInts Y m) : 0 ≤ X * Y ∧ X * Y < 2 ^ (32 * (n + m)) := by
  refine ⟨Int.mul_nonneg (by omega) (by omega), ?_⟩
  rw [p32a]
  exact Int.lt_of_lt_of_le (Int.mul_lt_mul_of_pos_right hn.2.1 hY) (Int.mul_le_mul_of_nonneg_left (Int.le_of_lt hm.2.1) (Int.le_of_lt (p2 _)))
theorem one_dig {y : Int} (h : isInts (y.natAbs : Int) 1) : iZ (bm y 1 0) = iZ ((y.natAbs : Nat) : Int) := by
  unfold bm
  rw [dg_0]
  exact iZ_mod _
set_option maxHeartbeats 1000000 in
set_option maxRecDepth 100000 in
/-- a product with an int -/
theorem g_mbi (κ : zK) (H0 : Heap) {a n d : Nat} {X R c : Int} (hC : CO κ H0) (hd0 : 0 < d) (hd : d < 4294967296) (hX0 : 0 < X) (hn : isInts X n) (hs : sB (X * (d : Int))) (hR : (R.natAbs : Int) = (X * (d : Int)) ∧ R.sign = c ∧ 0 < (X * (d : Int))) (ha : hp κ H0 a (eI κ n (bM X n))) : Mt κ yJ16_multiplyByInt cJ16_multiplyByInt 13 (some (.object "java/math/BigInteger")) 3 74 3 (2 * n + 7) H0 [.ref a, vi (d : Int), vi c] (fun _ => False) (fun v H1 => ∃ q : Nat, v = some (.ref q) ∧ BI κ H1 q R) := by
  refine Mt.of (by decide) (Nat.le_of_ble_eq_true rfl) ?_
  intro z E hE hH0 hA0 hL hini
  have hAll : ∀ q, (fun _ => False) q → zA z.A z.H0 q := fun q h => Or.inl (by rw [hA0]; exact h)
  have hNew : ∀ q, H0.size ≤ q → zA z.A z.H0 q := fun q h => Or.inr (by rw [hH0]; exact h)
  have E : zOK z cJ16_multiplyByInt RJ16 κ 3 74 (some (.object "java/math/BigInteger")) := E
  refine V.eqL (lv' := [(0, .ref a), (1, vi (d : Int)), (2, vi c)]) rfl ?_
  have h48n := hn.1
  have hpn : 0 < n := by have := ints_pos (by omega) hn; omega
  refine v_iload_n E 1 rfl dJ16_multiplyByInt_0 ?_
  refine v_callS E (As := [vi (d : Int)]) (g_bitc κ H0 hd) (lw_S q1062 q1063 q99 q1064) 1 (by decide +kernel) rfl (by decide) (by decide) (cb' := (3 - 0)) (sb' := ((2 * n + 7) - 0)) (by omega) (by omega) rfl (rest := []) (Nat.le_of_ble_eq_true rfl) (fun q h => h.elim) dJ16_multiplyByInt_1 (fun v_1 H_2 hpost_3 hz_4 hk_5 => ?_)
  clear hz_4
  obtain rfl := hpost_3
  have ha_6 := ha.kept (hk_5 _ ha.lt (fun h => h))
  refine V.eq (st' := [vi ((bcN d : Nat) : Int)]) rfl ?_
  have hbc : bcN d ≤ 63 := Nat.and_le_right
  refine v_iconst E dJ16_multiplyByInt_4 ?_
  refine v_icmp_ne E (tgt := 25) dJ16_multiplyByInt_5 (by decide) ⟨by omega, by omega⟩ ⟨by omega, by omega⟩ (fun c_5 => ?_) (fun c_5 => ?_)
  · refine v_aload_n E 0 rfl dJ16_multiplyByInt_25 ?_
    refine v_alen E dJ16_multiplyByInt_26 (t := 0) (ty := .int) ha_6 rfl ?_
    refine v_istore_n E dJ16_multiplyByInt_27 (zlt hL rfl) (lv' := [(3, vi (n : Int)), (0, .ref a), (1, vi (d : Int)), (2, vi c)]) rfl ?_
    refine v_iload_n E 0 rfl dJ16_multiplyByInt_28 ?_
    refine v_iconst E dJ16_multiplyByInt_29 ?_
    refine v_iadd E dJ16_multiplyByInt_30 ?_
    refine V.frame (fun hfz_fr_7 hfk_fr_7 => ?_)
    rw [hH0] at hfz_fr_7 hfk_fr_7
    rw [hA0] at hfk_fr_7
    refine v_newI E (n := (n + 1)) q511 (by omega) (by omega) (cb' := ((3 - 0) - 1)) (sb' := (((2 * n + 7) - 0) - (n + 1))) (by omega) (by omega) dJ16_multiplyByInt_31 (fun q H_8 hq_11 hn_9 hg_10 => ?_)
    have hne_a_q : a ≠ q := by have := ha_6.lt; omega
    have ha_13 := ha_6.grow hg_10
    have hqH9 : H0.size ≤ q := by omega
    refine v_astore E dJ16_multiplyByInt_33 (zlt hL rfl) (lv' := [(4, .ref q), (3, vi (n : Int)), (0, .ref a), (1, vi (d : Int)), (2, vi c)]) rfl ?_
    refine v_lconst E (x := 0) rfl dJ16_multiplyByInt_35 ?_
    refine v_lstore E dJ16_multiplyByInt_36 (zlt hL rfl) (lv' := [(5, vj 0), (4, .ref q), (3, vi (n : Int)), (0, .ref a), (1, vi (d : Int)), (2, vi c)]) rfl ?_
    refine v_iload_n E 4 rfl dJ16_multiplyByInt_38 ?_
    refine v_i2lLow E dJ16_multiplyByInt_39 q528 dJ16_multiplyByInt_40 dJ16_multiplyByInt_43 ?_
    refine V.topl (x' := (d : Int)) (congrArg jZ (by omega)) ?_
    refine v_lstore E dJ16_multiplyByInt_44 (zlt hL rfl) (lv' := [(7, vj (d : Int)), (5, vj 0), (4, .ref q), (3, vi (n : Int)), (0, .ref a), (1, vi (d : Int)), (2, vi c)]) rfl ?_
    refine v_aload E 2 rfl dJ16_multiplyByInt_46 ?_
    refine v_alen E dJ16_multiplyByInt_48 (t := 0) (ty := .int) hn_9 rfl ?_
    refine v_iconst E dJ16_multiplyByInt_49 ?_
    refine v_isub E dJ16_multiplyByInt_50 ?_
    refine v_istore E dJ16_multiplyByInt_51 (zlt hL rfl) (lv' := [(9, vi (((n + 1) : Int) - 1)), (7, vj (d : Int)), (5, vj 0), (4, .ref q), (3, vi (n : Int)), (0, .ref a), (1, vi (d : Int)), (2, vi c)]) rfl ?_
    refine v_iload_n E 4 rfl dJ16_multiplyByInt_53 ?_
    refine v_iconst E dJ16_multiplyByInt_54 ?_
    refine v_isub E dJ16_multiplyByInt_55 ?_
    refine v_istore E dJ16_multiplyByInt_56 (zlt hL rfl) (lv' := [(10, vi ((n : Int) - 1)), (9, vi (((n + 1) : Int) - 1)), (7, vj (d : Int)), (5, vj 0), (4, .ref q), (3, vi (n : Int)), (0, .ref a), (1, vi (d : Int)), (2, vi c)]) rfl ?_
    have loop_58 : ∀ (m_58 : Nat) (H : Heap) (k : Nat) (f : Nat → Int) (u v : Int), n - k < m_58 → (k ≤ n) → (u = (n : Int) - 1 - (k : Int)) → (v = (n : Int) - (k : Int)) → (∀ p, p < k → f (n - p) = dg (X * (d : Int)) p) → hp κ H a (eI κ n (bM X n)) → hp κ H q (eI κ (n + 1) f) → V z H (3 - 1) ((2 * n + 7) - (n + 1)) 58 [(5, vj (mcy 0 (d : Int) X 0 k)), (10, vi u), (9, vi v), (7, vj (d : Int)), (4, .ref q), (2, vi c), (0, .ref a)] [] := by
      intro m_58
      induction m_58 with
      | zero => intro H k f u v hm; exact absurd hm (by omega)
      | succ m_58 ih_58 =>
        intro H k f u v hm_58 hk hu hv hf ha hq9
        have hdy := dg_in X k
        have hc : 0 ≤ mcy 0 (d : Int) X 0 k ∧ mcy 0 (d : Int) X 0 k ≤ (d : Int) := mcy_in 0 X 0 k (by omega)
        have hq : 0 ≤ (d : Int) * dg X k ∧ (d : Int) * dg X k ≤ 18446744065119617025 := mul_in hdy.1 hdy.2 (by omega) (by omega)
        refine v_iload E 1 rfl dJ16_multiplyByInt_58 ?_
        refine v_if_lt E (tgt := 104) dJ16_multiplyByInt_60 (by decide) ⟨by omega, by omega⟩ (fun c_60 => ?_) (fun c_60 => ?_)
        · obtain rfl : n = k := by omega
          have hdj : 0 < (d : Int) ∧ (d : Int) < 4294967296 := ⟨by omega, by omega⟩
          refine v_lload E 0 rfl dJ16_multiplyByInt_104 ?_
          refine v_lconst E (x := 0) rfl dJ16_multiplyByInt_106 ?_
          refine v_lc_ne E (tgt := 125) dJ16_multiplyByInt_107 dJ16_multiplyByInt_108 (by decide) ⟨by omega, by omega⟩ ⟨by omega, by omega⟩ (fun c_107 => ?_) (fun c_107 => ?_)
          · refine v_aload E 4 rfl dJ16_multiplyByInt_125 ?_
            refine v_iload E 2 rfl dJ16_multiplyByInt_127 ?_
            refine v_lload E 0 rfl dJ16_multiplyByInt_129 ?_
            refine v_l2i E dJ16_multiplyByInt_131 ?_
            refine V.topi (x' := dg (X * (d : Int)) n) (mbi_top (Int.le_of_lt hX0) hn.2.1) ?_
            refine v_iast E dJ16_multiplyByInt_132 hq9 0 (by omega) (by omega) (by omega) (hNew _ (by omega)) (fun H_16 hq9_14 hs_15 => ?_)
            have ha_17 := ha.same hs_15 hne_a_q
            have hr0H : H0.size ≤ q := hqH9
            have hrn := mbi_1 hX0 hn hdj hs (by omega)
            have hr0 : hp κ H_16 q (eI κ (n + 1) (bM (X * (d : Int)) (n + 1))) := eI.congr hq9_14 (fun j hj => congrArg iZ (by
                have h9 := lo_s (g := dg (X * (d : Int))) (k := n) (j0 := 0) (by omega) (Nat.le_refl n) hf (n - j) (by omega)
                rw [show n - (n - j) = j by omega] at h9
                rw [h9]; rfl))
            refine V.frame (fun hfz_fr_18 hfk_fr_18 => ?_)
            rw [hH0] at hfz_fr_18 hfk_fr_18
            rw [hA0] at hfk_fr_18
            refine v_new E in_J16 tyJ16 tyJ16_ok q485 q486 q91 (ci := 6) rfl (fs := [vi 0, .null, vi 0, vi 0, vi 0, vi 0]) (fun j hj => by rcases (show j = 0 ∨ j = 1 ∨ j = 2 ∨ j = 3 ∨ j = 4 ∨ j = 5 by omega) with rfl | rfl | rfl | rfl | rfl | rfl <;> rfl) (cb' := ((3 - 1) - 1)) (sb' := (((2 * n + 7) - (n + 1)) - 6)) (by omega) (by omega) dJ16_multiplyByInt_133 (fun q_19 H_20 hq_23 ho_21 hg_22 => ?_)
            have hne_q_q_19 : q ≠ q_19 := by have := hr0.lt; omega
            have hr0_25 := hr0.grow hg_22
            refine v_dup E rfl dJ16_multiplyByInt_136 ?_
            refine v_aload E 4 rfl dJ16_multiplyByInt_137 ?_
            refine v_iload_n E 5 rfl dJ16_multiplyByInt_139 ?_
            refine V.frame (fun hfz_fr_26 hfk_fr_26 => ?_)
            rw [hH0] at hfz_fr_26 hfk_fr_26
            rw [hA0] at hfk_fr_26
            have hmq : q ≠ q_19 := Ne.symm (hp.ka hC.D ho_21 hr0_25 (by decide) (by decide))
            refine v_callI E (As := [.ref q, vi c]) (b := q_19) (g_initM κ H_20 (hC.call (fun q h => h.elim) hfz_fr_26 hfk_fr_26) (Nat.le_trans hrn.1 (by decide)) ho_21 hr0_25) q632 q91 q630 q631 rfl 2 (by decide +kernel) rfl (by decide) (by decide) (cb' := (((3 - 1) - 1) - 0)) (sb' := ((((2 * n + 7) - (n + 1)) - 6) - 0)) (by omega) (by omega) rfl (rest := [.ref q_19]) (Nat.le_of_ble_eq_true rfl) (fun q9 h => hNew q9 (by rw [show q9 = q_19 from h]; omega)) dJ16_multiplyByInt_140 (fun v_27 H_28 hpost_29 hz_30 hk_31 => ?_)
            clear hz_30
            obtain ⟨rfl, hq9⟩ := hpost_29
            have hm_32 := hr0_25.kept (hk_31 _ hr0_25.lt (fun h => hmq h))
            refine V.eq (st' := [.ref q_19]) rfl ?_
            refine v_aret E hE rfl (Or.inl ⟨_, rfl⟩) dJ16_multiplyByInt_143 (Or.inr ⟨_, rfl⟩) ?_
            obtain ⟨hz9, hs9, hp9⟩ := hR
            have e9 : (if (n + 1) = 0 then (0 : Int) else c) = _ := (if_neg (ints_ne hrn hp9)).trans hs9.symm
            rw [e9] at hq9
            exact ⟨_, rfl, BI.mk (n := (n + 1)) (m := q) hq9 (eI.congr hm_32 (fun k hk => by unfold bm bM; rw [hz9])) (by rw [hz9]; exact hrn) (Nat.le_trans hC.le (by omega)) (Or.inr (Nat.le_trans hC.m hr0H))⟩
          · refine v_aload E 4 rfl dJ16_multiplyByInt_111 ?_
            refine v_iconst E dJ16_multiplyByInt_113 ?_
            refine v_aload E 4 rfl dJ16_multiplyByInt_114 ?_
            refine v_alen E dJ16_multiplyByInt_116 (t := 0) (ty := .int) hq9 rfl ?_
            refine V.topi (x' := ((1 + n : Nat) : Int)) (congrArg iZ (by omega)) ?_
            refine V.frame (fun hfz_fr_33 hfk_fr_33 => ?_)
            rw [hH0] at hfz_fr_33 hfk_fr_33
            rw [hA0] at hfk_fr_33
            refine v_callS E (As := [.ref q, vi 1, vi ((1 + n : Nat) : Int)]) (g_cpr κ H (i := 1) (w := n) (n := n + 1) (by omega) (by omega) hq9) (lw_S q718 q719 q81 q720) 3 (by decide +kernel) rfl (by decide) (by decide) (cb' := ((3 - 1) - 1)) (sb' := (((2 * n + 7) - (n + 1)) - n)) (by omega) (by omega) rfl (rest := []) (Nat.le_of_ble_eq_true rfl) (fun q h => h.elim) dJ16_multiplyByInt_117 (fun v_34 H_35 hpost_36 hz_37 hk_38 => ?_)
            clear hz_37
            obtain ⟨r0, rfl, hq0, hqn⟩ := hpost_36
            have hr0H := Nat.le_trans hfz_fr_33 hq0
            have ha_39 := ha.kept (hk_38 _ ha.lt (fun h => h))
            have hq9_40 := hq9.kept (hk_38 _ hq9.lt (fun h => h))
            have hrn := mbi_0 hX0 hn hdj (by omega)
            have hr0 : hp κ H_35 r0 (eI κ n (bM (X * (d : Int)) n)) := eI.congr hqn (fun j hj => congrArg iZ (by rw [show 1 + j = n - (n - 1 - j) by omega, hf (n - 1 - j) (by omega)]; rfl))
            refine V.eq (st' := [.ref r0]) rfl ?_
            refine v_astore E dJ16_multiplyByInt_120 (zlt hL rfl) (lv' := [(4, .ref r0), (5, vj (mcy 0 (d : Int) X 0 n)), (10, vi u), (9, vi v), (7, vj (d : Int)), (2, vi c), (0, .ref a)]) rfl ?_
            refine v_goto E (tgt := 133) dJ16_multiplyByInt_122 (by decide) ?_
            refine V.frame (fun hfz_fr_41 hfk_fr_41 => ?_)
            rw [hH0] at hfz_fr_41 hfk_fr_41
            rw [hA0] at hfk_fr_41
            refine v_new E in_J16 tyJ16 tyJ16_ok q485 q486 q91 (ci := 6) rfl (fs := [vi 0, .null, vi 0, vi 0, vi 0, vi 0]) (fun j hj => by rcases (show j = 0 ∨ j = 1 ∨ j = 2 ∨ j = 3 ∨ j = 4 ∨ j = 5 by omega) with rfl | rfl | rfl | rfl | rfl | rfl <;> rfl) (cb' := (((3 - 1) - 1) - 1)) (sb' := ((((2 * n + 7) - (n + 1)) - n) - 6)) (by omega) (by omega) dJ16_multiplyByInt_133 (fun q_42 H_43 hq_46 ho_44 hg_45 => ?_)
            have hne_r0_q_42 : r0 ≠ q_42 := by have := hr0.lt; omega
            have hr0_48 := hr0.grow hg_45
            refine v_dup E rfl dJ16_multiplyByInt_136 ?_
            refine v_aload E 0 rfl dJ16_multiplyByInt_137 ?_
            refine v_iload_n E 5 rfl dJ16_multiplyByInt_139 ?_
            refine V.frame (fun hfz_fr_49 hfk_fr_49 => ?_)
            rw [hH0] at hfz_fr_49 hfk_fr_49
            rw [hA0] at hfk_fr_49
            have hmq : r0 ≠ q_42 := Ne.symm (hp.ka hC.D ho_44 hr0_48 (by decide) (by decide))
            refine v_callI E (As := [.ref r0, vi c]) (b := q_42) (g_initM κ H_43 (hC.call (fun q h => h.elim) hfz_fr_49 hfk_fr_49) (Nat.le_trans hrn.1 (by decide)) ho_44 hr0_48) q632 q91 q630 q631 rfl 2 (by decide +kernel) rfl (by decide) (by decide) (cb' := ((((3 - 1) - 1) - 1) - 0)) (sb' := (((((2 * n + 7) - (n + 1)) - n) - 6) - 0)) (by omega) (by omega) rfl (rest := [.ref q_42]) (Nat.le_of_ble_eq_true rfl) (fun q9 h => hNew q9 (by rw [show q9 = q_42 from h]; omega)) dJ16_multiplyByInt_140 (fun v_50 H_51 hpost_52 hz_53 hk_54 => ?_)
            clear hz_53
            obtain ⟨rfl, hq9⟩ := hpost_52
            have hm_55 := hr0_48.kept (hk_54 _ hr0_48.lt (fun h => hmq h))
            refine V.eq (st' := [.ref q_42]) rfl ?_
            refine v_aret E hE rfl (Or.inl ⟨_, rfl⟩) dJ16_multiplyByInt_143 (Or.inr ⟨_, rfl⟩) ?_
            obtain ⟨hz9, hs9, hp9⟩ := hR
            have e9 : (if n = 0 then (0 : Int) else c) = _ := (if_neg (ints_ne hrn hp9)).trans hs9.symm
            rw [e9] at hq9
            exact ⟨_, rfl, BI.mk (n := n) (m := r0) hq9 (eI.congr hm_55 (fun k hk => by unfold bm bM; rw [hz9])) (by rw [hz9]; exact hrn) (Nat.le_trans hC.le (by omega)) (Or.inr (Nat.le_trans hC.m hr0H))⟩
        · refine v_aload_n E 6 rfl dJ16_multiplyByInt_63 ?_
          refine v_iload E 1 rfl dJ16_multiplyByInt_64 ?_
          refine v_iald E dJ16_multiplyByInt_66 ha (n - (k + 1)) (by omega) (by omega) (by omega) ?_
          refine v_i2lLow E dJ16_multiplyByInt_67 q528 dJ16_multiplyByInt_68 dJ16_multiplyByInt_71 ?_
          refine v_lload E 3 rfl dJ16_multiplyByInt_72 ?_
          refine v_lmul E dJ16_multiplyByInt_74 ?_
          refine v_lload E 0 rfl dJ16_multiplyByInt_75 ?_
          refine v_ladd E dJ16_multiplyByInt_77 ?_
          refine V.topl (x' := mcy 0 (d : Int) X 0 k + (d : Int) * dg X k) (congrArg jZ (by rw [bM_at (X := X) (n := n) (k := k) rfl (by omega), dg_m, Int.mul_comm, Int.add_comm])) ?_
          refine v_lstore E dJ16_multiplyByInt_78 (zlt hL rfl) (lv' := [(11, vj (mcy 0 (d : Int) X 0 k + (d : Int) * dg X k)), (5, vj (mcy 0 (d : Int) X 0 k)), (10, vi u), (9, vi v), (7, vj (d : Int)), (4, .ref q), (2, vi c), (0, .ref a)]) rfl ?_
          refine v_aload E 5 rfl dJ16_multiplyByInt_80 ?_
          refine v_iload E 3 rfl dJ16_multiplyByInt_82 ?_
          refine v_iinc E 3 rfl dJ16_multiplyByInt_84 (zlt hL rfl) (lv' := [(9, vi (v + (-1))), (11, vj (mcy 0 (d : Int) X 0 k + (d : Int) * dg X k)), (5, vj (mcy 0 (d : Int) X 0 k)), (10, vi u), (7, vj (d : Int)), (4, .ref q), (2, vi c), (0, .ref a)]) rfl ?_
          refine v_lload E 1 rfl dJ16_multiplyByInt_87 ?_
          refine v_l2i E dJ16_multiplyByInt_89 ?_
          refine V.topi (x' := dg (X * (d : Int)) k) (tm_dg _ _ _) ?_
          refine v_iast E dJ16_multiplyByInt_90 hq9 (n - k) (by omega) (by omega) (by omega) (hNew _ (by omega)) (fun H_58 hq9_56 hs_57 => ?_)
          have ha_59 := ha.same hs_57 hne_a_q
          refine v_lload E 1 rfl dJ16_multiplyByInt_91 ?_
          refine v_bipush E ⟨by decide, by decide⟩ dJ16_multiplyByInt_93 ?_
          refine v_lushr E 32 (by decide) dJ16_multiplyByInt_95 ?_
          refine V.topl (x' := mcy 0 (d : Int) X 0 (k + 1)) (congrArg jZ (tm_cy (by omega) hq hc)) ?_
          refine v_lstore E dJ16_multiplyByInt_96 (zlt hL rfl) (lv' := [(5, vj (mcy 0 (d : Int) X 0 (k + 1))), (9, vi (v + (-1))), (11, vj (mcy 0 (d : Int) X 0 k + (d : Int) * dg X k)), (10, vi u), (7, vj (d : Int)), (4, .ref q), (2, vi c), (0, .ref a)]) rfl ?_
          refine v_iinc E 3 rfl dJ16_multiplyByInt_98 (zlt hL rfl) (lv' := [(10, vi (u + (-1))), (5, vj (mcy 0 (d : Int) X 0 (k + 1))), (9, vi (v + (-1))), (11, vj (mcy 0 (d : Int) X 0 k + (d : Int) * dg X k)), (7, vj (d : Int)), (4, .ref q), (2, vi c), (0, .ref a)]) rfl ?_
          refine v_goto E (tgt := 58) dJ16_multiplyByInt_101 (by decide) ?_
          refine V.sub [1, 0, 2, 4, 5, 6, 7] (lv' := [(5, vj (mcy 0 (d : Int) X 0 (k + 1))), (10, vi (u + (-1))), (9, vi (v + (-1))), (7, vj (d : Int)), (4, .ref q), (2, vi c), (0, .ref a)]) rfl ?_
          exact ih_58  H_58 (k + 1) _ _ _ (by omega) (by omega) (by omega) (by omega) (lo_s (g := dg (X * (d : Int))) (by omega) (by omega) hf) ha_59 hq9_56
    refine V.sub [3, 0, 1, 2, 4, 8, 6] (lv' := [(5, vj 0), (10, vi ((n : Int) - 1)), (9, vi (((n + 1) : Int) - 1)), (7, vj (d : Int)), (4, .ref q), (2, vi c), (0, .ref a)]) rfl ?_
    exact V.eqL (by first | (rw [mcy_0]; done) | (rw [mcy_0]; rfl)) (loop_58 (n + 1) H_8 0 (fun _ => 0) _ _ (by omega) (by omega) (by omega) (by omega) (fun p hp => absurd hp (by omega)) ha_13 hn_9)
  · refine V.frame (fun hfz_fr_60 hfk_fr_60 => ?_)
    rw [hH0] at hfz_fr_60 hfk_fr_60
    rw [hA0] at hfk_fr_60
    refine v_new E in_J16 tyJ16 tyJ16_ok q485 q486 q91 (ci := 6) rfl (fs := [vi 0, .null, vi 0, vi 0, vi 0, vi 0]) (fun j hj => by rcases (show j = 0 ∨ j = 1 ∨ j = 2 ∨ j = 3 ∨ j = 4 ∨ j = 5 by omega) with rfl | rfl | rfl | rfl | rfl | rfl <;> rfl) (cb' := ((3 - 0) - 1)) (sb' := (((2 * n + 7) - 0) - 6)) (by omega) (by omega) dJ16_multiplyByInt_8 (fun q_61 H_62 hq_65 ho_63 hg_64 => ?_)
    have hne_a_q_61 : a ≠ q_61 := by have := ha_6.lt; omega
    have ha_67 := ha_6.grow hg_64
    refine v_dup E rfl dJ16_multiplyByInt_11 ?_
    refine v_aload_n E 0 rfl dJ16_multiplyByInt_12 ?_
    refine v_iload_n E 1 rfl dJ16_multiplyByInt_13 ?_
    obtain ⟨t, ht, hdt⟩ := bc_pow hd (by omega)
    refine v_callS E (As := [vi (d : Int)]) (m_ntz κ H_62 (t := t) hd0 hd (by rw [hdt]; exact pow_zeros t) ht) (lw_S q1068 q1069 q99 q1070) 1 (by decide +kernel) rfl (by decide) (by decide) (cb' := (((3 - 0) - 1) - 0)) (sb' := ((((2 * n + 7) - 0) - 6) - 0)) (by omega) (by omega) rfl (rest := [.ref a, .ref q_61, .ref q_61]) (Nat.le_of_ble_eq_true rfl) (fun q h => h.elim) dJ16_multiplyByInt_14 (fun v_68 H_69 hpost_70 hz_71 hk_72 => ?_)
    clear hz_71
    obtain rfl := hpost_70
    have ha_73 := ha_67.kept (hk_72 _ ha_67.lt (fun h => h))
    have ho_74 := ho_63.kept (hk_72 _ ho_63.lt (fun h => h))
    refine V.eq (st' := [vi ((32 * 0 + t : Nat) : Int), .ref a, .ref q_61, .ref q_61]) (by rw [Nat.mul_zero, Nat.zero_add]; rfl) ?_
    refine V.frame (fun hfz_fr_75 hfk_fr_75 => ?_)
    rw [hH0] at hfz_fr_75 hfk_fr_75
    rw [hA0] at hfk_fr_75
    have hZt : X * 2 ^ (32 * 0 + t) = (X * (d : Int)) := by rw [hdt, Nat.mul_zero, Nat.zero_add, Int.natCast_pow]; rfl
    refine v_callS E (As := [.ref a, vi ((32 * 0 + t : Nat) : Int)]) (g_shA κ H_69 (u := 0) (b := t) (X := X) (by omega) (by omega) hX0 hn (by rw [hZt]; exact hs) ha_73) (lw_S q1037 q1038 q91 q1039) 2 (by decide +kernel) rfl (by decide) (by decide) (cb' := ((((3 - 0) - 1) - 0) - 1)) (sb' := (((((2 * n + 7) - 0) - 6) - 0) - (n + 0 + 1))) (by omega) (by omega) rfl (rest := [.ref q_61, .ref q_61]) (Nat.le_of_ble_eq_true rfl) (fun q h => h.elim) dJ16_multiplyByInt_17 (fun v_76 H_77 hpost_78 hz_79 hk_80 => ?_)
    clear hz_79
    rw [hZt] at hpost_78
    obtain ⟨r0, rn, rfl, hr0, hrn, hr0H⟩ := hpost_78
    have hr0H := Nat.le_trans hfz_fr_75 hr0H
    have ha_81 := ha_73.kept (hk_80 _ ha_73.lt (fun h => h))
    have ho_82 := ho_74.kept (hk_80 _ ho_74.lt (fun h => h))
    refine V.eq (st' := [.ref r0, .ref q_61, .ref q_61]) rfl ?_
    refine v_iload_n E 2 rfl dJ16_multiplyByInt_20 ?_
    refine V.frame (fun hfz_fr_83 hfk_fr_83 => ?_)
    rw [hH0] at hfz_fr_83 hfk_fr_83
    rw [hA0] at hfk_fr_83
    have hmq : r0 ≠ q_61 := Ne.symm (hp.ka hC.D ho_82 hr0 (by decide) (by decide))
    refine v_callI E (As := [.ref r0, vi c]) (b := q_61) (g_initM κ H_77 (hC.call (fun q h => h.elim) hfz_fr_83 hfk_fr_83) (Nat.le_trans hrn.1 (by decide)) ho_82 hr0) q632 q91 q630 q631 rfl 2 (by decide +kernel) rfl (by decide) (by decide) (cb' := (((((3 - 0) - 1) - 0) - 1) - 0)) (sb' := ((((((2 * n + 7) - 0) - 6) - 0) - (n + 0 + 1)) - 0)) (by omega) (by omega) rfl (rest := [.ref q_61]) (Nat.le_of_ble_eq_true rfl) (fun q9 h => hNew q9 (by rw [show q9 = q_61 from h]; omega)) dJ16_multiplyByInt_21 (fun v_84 H_85 hpost_86 hz_87 hk_88 => ?_)
    clear hz_87
    obtain ⟨rfl, hq9⟩ := hpost_86
    have hm_89 := hr0.kept (hk_88 _ hr0.lt (fun h => hmq h))
    refine V.eq (st' := [.ref q_61]) rfl ?_
    refine v_aret E hE rfl (Or.inl ⟨_, rfl⟩) dJ16_multiplyByInt_24 (Or.inr ⟨_, rfl⟩) ?_
    obtain ⟨hz9, hs9, hp9⟩ := hR
    have e9 : (if rn = 0 then (0 : Int) else c) = _ := (if_neg (ints_ne hrn hp9)).trans hs9.symm
    rw [e9] at hq9
    exact ⟨_, rfl, BI.mk (n := rn) (m := r0) hq9 (eI.congr hm_89 (fun k hk => by unfold bm bM; rw [hz9])) (by rw [hz9]; exact hrn) (Nat.le_trans hC.le (by omega)) (Or.inr (Nat.le_trans hC.m hr0H))⟩
