/-! THE COMPONENT: shift -/
/-- w steps of a pass, from the place n - 2 down; f passes -/
def sfI (c : Nat → Int) (y : Int) (n : Nat) : Nat → (Nat → Int)
  | 0 => c
  | w + 1 => va_up (sfI c y n w) (n - 2 - w) (sfI c y n w (n - 2 - w) + sfI c y n w (n - 2 - w + 1) * y)
def sfP (c : Nat → Int) (y : Int) (n : Nat) : Nat → (Nat → Int)
  | 0 => c
  | f + 1 => sfI (sfP c y n f) y n (n - 1 - f)
def xoShift (S : Nat → Pl) (a y t : Int) : zRc := if (0 ≤ a ∧ a < 5) ∧ (0 ≤ t ∧ t < 5) then (if -9 ≤ y ∧ y ≤ 9 then storeR (mkP (S a.toNat).1 (sfP (S a.toNat).2 y (S a.toNat).1 (S a.toNat).1)) t.toNat 3 S else (0, 2, S)) else (0, 1, S)
theorem sf_b {c : Nat → Int} {y : Int} {k t : Nat} (hy : -9 ≤ y ∧ y ≤ 9) (h : ∀ j, (c j).natAbs ≤ 9999 * 10 ^ t) : ∀ j, (va_up c k (c k + c (k + 1) * y) j).natAbs ≤ 9999 * 10 ^ (t + 1) := fun j => by
  rw [Nat.pow_succ, ← Nat.mul_assoc]
  by_cases e : j = k
  · subst e
    rw [va_up_self]
    have h1 := h j
    have h2 := h (j + 1)
    have h3 : (c (j + 1) * y).natAbs ≤ 9999 * 10 ^ t * 9 := by
      rw [Int.natAbs_mul]
      exact Nat.mul_le_mul h2 (by omega)
    have h4 := Int.natAbs_add_le (c j) (c (j + 1) * y)
    omega
  · rw [va_up_ne _ _ e]
    have := h j
    omega
theorem sf_n {x : Int} {t : Nat} (ht : t ≤ 42) (h : x.natAbs ≤ 9999 * 10 ^ t) : (x.natAbs : Int) < 2 ^ (32 * 5) := by
  have h1 : 10 ^ t ≤ 10 ^ 42 := Nat.pow_le_pow_right (by decide) ht
  have h2 : (9999 : Nat) * 10 ^ 42 < 2 ^ 160 := by decide
  have h3 : ((2 ^ 160 : Nat) : Int) = (2 : Int) ^ (32 * 5) := Int.natCast_pow 2 160
  have h4 : x.natAbs ≤ 9999 * 10 ^ 42 := Nat.le_trans h (Nat.mul_le_mul_left _ h1)
  rw [← h3]
  omega
theorem okP.t0 {P : Pl} (h : okP P) : ∀ j, (P.2 j).natAbs ≤ 9999 * 10 ^ (6 * 0) := fun j => by rw [Nat.mul_zero, Nat.pow_zero, Nat.mul_one]; exact h.2 j
theorem y32 {y : Int} (hy : -9 ≤ y ∧ y ≤ 9) : (y.natAbs : Int) < 2 ^ (32 * 1) := by rw [p32z]; omega
set_option maxHeartbeats 1000000 in
set_option maxRecDepth 100000 in
/-- shift -/
theorem c_shift (κ : zK) (H0 : Heap) {x : Nat} {S : Nat → Pl} {isoP : Option Pl} {n cap : Nat} {iv : Nat → Ivl} {v0 : Int} (hrv0 : rI v0) {v1 : Int} (hrv1 : rI v1) {v2 : Int} (hrv2 : rI v2) (hC : CO κ H0) (hok : bC5 S) (hP : CP κ H0 x S isoP n cap iv)  : MtX κ yX1_shift cX1_shift 8 (some .int) 8 182 300 1860 H0 [.ref x, vi v0, vi v1, vi v2] (pA κ H0) (fun v H1 => (xoShift S v0 v1 v2).2.1 = 0 ∧ v = some (vi (xoShift S v0 v1 v2).1) ∧ CP κ H1 x (xoShift S v0 v1 v2).2.2 isoP n cap iv) (fun C H1 => (C = "java/lang/IndexOutOfBoundsException" ∧ (xoShift S v0 v1 v2).2.1 = 1 ∨ C = "java/lang/IllegalArgumentException" ∧ (xoShift S v0 v1 v2).2.1 = 2 ∨ C = "java/lang/IllegalStateException" ∧ (xoShift S v0 v1 v2).2.1 = 3) ∧ CP κ H1 x S isoP n cap iv) := by
  refine MtX.of (by decide) (Nat.le_of_ble_eq_true rfl) ?_
  intro z E X9 hE hH0 hA0 hL hini
  have hAll : ∀ q, (pA κ H0) q → zA z.A z.H0 q := fun q h => Or.inl (by rw [hA0]; exact h)
  have hNew : ∀ q, H0.size ≤ q → zA z.A z.H0 q := fun q h => Or.inr (by rw [hH0]; exact h)
  have E : zOK z cX1_shift RX1 κ 8 182 (some .int) := E
  refine V.eqL (lv' := [(0, .ref x), (1, vi v0), (2, vi v1), (3, vi v2)]) rfl ?_
  obtain ⟨ls, bs, li, bi, a, iso, T, hS, hST, hiso⟩ := hP
  have hA93 : ∀ q, pA κ H0 q → κ.2 93 ≤ q := fun q h => h.1
  have hD := hC.D
  have hsl0 := hS.sl
  have hokT : ∀ k, k < 5 → okP (T (a k)) := fun k hk => by rw [← hST k hk]; exact (hok k hk).2
  have hSt := CS.mono (D' := fun q => dS ls bs li bi q ∧ q < Array.size H0) hS (fun q h1 h2 => ⟨h2, h1⟩)
  refine v_iload_n E 1 rfl dX1_shift_0 ?_
  refine V.frame (fun hfz_fr_1 hfk_fr_1 => ?_)
  rw [hH0] at hfz_fr_1 hfk_fr_1
  rw [hA0] at hfk_fr_1
  have hC_fr_1 := hC.call hA93 hfz_fr_1 hfk_fr_1
  refine v_callSX E X9 hE (As := [vi v0]) (x_slot κ H0 hrv0) (lw_S q570 q571 q70 q572) 1 (by decide +kernel) rfl (by decide) (by decide) (cb' := 299) (sb' := 1854) (by decide) (by decide) rfl (rest := []) (Nat.le_of_ble_eq_true rfl) (fun q h => h.elim) dX1_shift_1 (fun C9 H9 hx9 hz9 hk9 => by exact ⟨Or.inl (⟨hx9.1, (by have hx8 := hx9.2; unfold xoShift; first | (split <;> first | rfl | (exfalso; omega) | (split <;> first | rfl | (exfalso; omega) | (split <;> first | rfl | (exfalso; omega)))))⟩), CS.pub (CS.kf0 hC_fr_1 (kF.ext hz9 hk9) (CS.mono (D' := dS ls bs li bi) hSt (fun q h1 h2 => h2.1))) hST hiso⟩) (fun v_2 H_3 hpost_4 hz_5 hk_6 => ?_)
  obtain ⟨rfl, hsv0⟩ := hpost_4
  have hl_7 := CS.kf0 hC_fr_1 (kF.ext hz_5 hk_6) hSt
  obtain ⟨i0, hni0⟩ : ∃ i0 : Nat, v0 = (i0 : Int) := ⟨v0.toNat, by omega⟩
  subst hni0
  have hii0 : i0 < 5 := by omega
  refine V.eq (st' := []) rfl ?_
  refine v_iload_n E 3 rfl dX1_shift_4 ?_
  refine V.frame (fun hfz_fr_8 hfk_fr_8 => ?_)
  rw [hH0] at hfz_fr_8 hfk_fr_8
  rw [hA0] at hfk_fr_8
  have hC_fr_8 := hC.call hA93 hfz_fr_8 hfk_fr_8
  refine v_callSX E X9 hE (As := [vi v2]) (x_slot κ H_3 hrv2) (lw_S q570 q571 q70 q572) 1 (by decide +kernel) rfl (by decide) (by decide) (cb' := 298) (sb' := 1848) (by decide) (by decide) rfl (rest := []) (Nat.le_of_ble_eq_true rfl) (fun q h => h.elim) dX1_shift_5 (fun C9 H9 hx9 hz9 hk9 => by exact ⟨Or.inl (⟨hx9.1, (by have hx8 := hx9.2; unfold xoShift; first | (split <;> first | rfl | (exfalso; omega) | (split <;> first | rfl | (exfalso; omega) | (split <;> first | rfl | (exfalso; omega)))))⟩), CS.pub (CS.kf0 hC_fr_8 (kF.ext hz9 hk9) (CS.mono (D' := dS ls bs li bi) hl_7 (fun q h1 h2 => h2.1))) hST hiso⟩) (fun v_9 H_10 hpost_11 hz_12 hk_13 => ?_)
  obtain ⟨rfl, hsv2⟩ := hpost_11
  have hl_14 := CS.kf0 hC_fr_8 (kF.ext hz_12 hk_13) hl_7
  obtain ⟨i2, hni2⟩ : ∃ i2 : Nat, v2 = (i2 : Int) := ⟨v2.toNat, by omega⟩
  subst hni2
  have hii2 : i2 < 5 := by omega
  refine V.eq (st' := []) rfl ?_
  refine v_iload_n E 2 rfl dX1_shift_8 ?_
  refine v_bipush E ⟨by decide, by decide⟩ dX1_shift_9 ?_
  refine v_icmp_lt E (tgt := 20) dX1_shift_11 (by decide) hrv1 ⟨by omega, by omega⟩ (fun c_11 => ?_) (fun c_11 => ?_)
  · refine V.frame (fun hfz_fr_15 hfk_fr_15 => ?_)
    rw [hH0] at hfz_fr_15 hfk_fr_15
    rw [hA0] at hfk_fr_15
    have hC_fr_15 := hC.call hA93 hfz_fr_15 hfk_fr_15
    refine V.frame (fun hfz_fr_16 hfk_fr_16 => ?_)
    rw [hH0] at hfz_fr_16 hfk_fr_16
    rw [hA0] at hfk_fr_16
    refine v_throw0 E X9 hE (cls := "java/lang/IllegalArgumentException") (names := ["java/lang/RuntimeException", "java/lang/Exception"]) (ik := 138) (ic := 140) (by decide +kernel) (by decide +kernel) q591 q89 (ex_1 E.kn E.2.2.2.2.1 q600) ex_1_ok dX1_shift_20 dX1_shift_23 dX1_shift_24 dX1_shift_27 (by decide) (Nat.le_of_ble_eq_true rfl) (by omega) (by omega) (fun H9 hz9 hk9 => ?_)
    exact ⟨Or.inr (Or.inl (⟨rfl, (by unfold xoShift; first | (split <;> first | rfl | (exfalso; omega) | (split <;> first | rfl | (exfalso; omega) | (split <;> first | rfl | (exfalso; omega)))))⟩)), CS.pub (CS.kf0 hC_fr_15 (kF.ext hz9 (fun q hq _ => hk9 q hq)) (CS.mono (D' := dS ls bs li bi) hl_14 (fun q h1 h2 => h2.1))) hST hiso⟩
  · refine v_iload_n E 2 rfl dX1_shift_14 ?_
    refine v_bipush E ⟨by decide, by decide⟩ dX1_shift_15 ?_
    refine v_icmp_le E (tgt := 28) dX1_shift_17 (by decide) hrv1 ⟨by omega, by omega⟩ (fun c_17 => ?_) (fun c_17 => ?_)
    · refine v_aload_n E 0 rfl dX1_shift_28 ?_
      refine v_iload_n E 1 rfl dX1_shift_29 ?_
      refine V.frame (fun hfz_fr_17 hfk_fr_17 => ?_)
      rw [hH0] at hfz_fr_17 hfk_fr_17
      rw [hA0] at hfk_fr_17
      have hC_fr_17 := hC.call hA93 hfz_fr_17 hfk_fr_17
      refine v_callV E (As := [vi ((i0 : Nat) : Int)]) (b := x) (ci := 0) (C := RX1) (T := TX1) (N := 3) hl_14.2.1 rfl (x_row κ H_10 (i := i0) hii0 (hokT i0 hii0).1 hC_fr_17 (CS.mono (D' := dS ls bs li bi) hl_14 (fun q h1 h2 => h2.1))) (lw_V q1116 q1118 qs18 q70 q1119) 1 (by decide +kernel) rfl (by decide) (by decide) (cb' := 295) (sb' := 1828) (by decide) (by decide) rfl (rest := []) (Nat.le_of_ble_eq_true rfl) (fun q h => h.elim) dX1_shift_30 (fun v_18 H_19 hpost_20 hz_21 hk_22 => ?_)
      obtain ⟨l2, b2, rfl, hLBr0⟩ := hpost_20
      have hl_23 := CS.kf0 hC_fr_17 (kF.ext hz_21 hk_22) hl_14
      have hLBr := LB.low hfz_fr_17 hLBr0
      refine V.eq (st' := [.ref l2]) rfl ?_
      refine v_astore E dX1_shift_33 (zlt hL rfl) (lv' := [(4, .ref l2), (0, .ref x), (1, vi ((i0 : Nat) : Int)), (2, vi v1), (3, vi ((i2 : Nat) : Int))]) rfl ?_
      refine v_iload_n E 3 rfl dX1_shift_35 ?_
      refine v_i2l E ⟨by omega, by omega⟩ dX1_shift_36 ?_
      refine V.frame (fun hfz_fr_24 hfk_fr_24 => ?_)
      rw [hH0] at hfz_fr_24 hfk_fr_24
      rw [hA0] at hfk_fr_24
      have hC_fr_24 := hC.call hA93 hfz_fr_24 hfk_fr_24
      refine v_callS E (As := [vj v1]) (p_num κ H_19 (x := v1) hC_fr_24 ⟨by omega, by omega⟩) (lw_S q611 q472 q70 q473) 1 (by decide +kernel) rfl (by decide) (by decide) (cb' := 293) (sb' := 1820) (by decide) (by decide) rfl (rest := []) (Nat.le_of_ble_eq_true rfl) (fun q h => h.elim) dX1_shift_37 (fun v_25 H_26 hpost_27 hz_28 hk_29 => ?_)
      obtain ⟨tq, rfl, hnq⟩ := hpost_27
      have hl_30 := CS.kf0 hC_fr_24 (kF.ext hz_28 hk_29) hl_23
      have hl_31 := LB.kf (eB_L κ _) hC_fr_24 (kF.ext hz_28 hk_29) aD.f aD.no hLBr
      refine V.eq (st' := [.ref tq]) rfl ?_
      refine v_astore E dX1_shift_40 (zlt hL rfl) (lv' := [(5, .ref tq), (4, .ref l2), (0, .ref x), (1, vi ((i0 : Nat) : Int)), (2, vi v1), (3, vi ((i2 : Nat) : Int))]) rfl ?_
      refine v_iconst E dX1_shift_42 ?_
      refine v_istore E dX1_shift_43 (zlt hL rfl) (lv' := [(6, vi 0), (5, .ref tq), (4, .ref l2), (0, .ref x), (1, vi ((i0 : Nat) : Int)), (2, vi v1), (3, vi ((i2 : Nat) : Int))]) rfl ?_
      have loop_45 : ∀ (m_45 : Nat) (H : Heap) (f : Nat) (c : Nat → Int) (cb sb : Nat), (T (a i0)).1 - f < m_45 → (f ≤ (T (a i0)).1) → (c = sfP (T (a i0)).2 v1 (T (a i0)).1 f) → (∀ j, (c j).natAbs ≤ 9999 * 10 ^ (6 * f)) → (20 + 36 * (7 - f) ≤ cb) → (120 + 240 * (7 - f) ≤ sb) → LB κ H0.size (eB κ c) H l2 b2 (T (a i0)).1 → BI κ H tq v1 → CS κ (fun q => dS ls bs li bi q ∧ q < Array.size H0) H x ls bs li bi a iso T n cap iv → V z H cb sb 45 [(6, vi (f : Int)), (5, .ref tq), (4, .ref l2), (3, vi ((i2 : Nat) : Int)), (2, vi v1), (1, vi ((i0 : Nat) : Int)), (0, .ref x)] [] := by
        intro m_45
        induction m_45 with
        | zero => intro H f c cb sb hm; exact absurd hm (by omega)
        | succ m_45 ih_45 =>
          intro H f c cb sb hm_45 hf hc hB hcb hsb hR hT hS2
          have h7i := (hokT i0 hii0).1
          refine v_iload E 0 rfl dX1_shift_45 ?_
          refine v_aload E 2 rfl dX1_shift_47 ?_
          obtain ⟨md_32, g_33, hA_34, hel_35, hSl_36, hSb_37⟩ := id hR
          refine V.frame (fun hfz_fr_38 hfk_fr_38 => ?_)
          rw [hH0] at hfz_fr_38 hfk_fr_38
          rw [hA0] at hfk_fr_38
          have hC_fr_38 := hC.call hA93 hfz_fr_38 hfk_fr_38
          obtain ⟨md_44, g_45, hA_46, -⟩ := id hR
          refine v_callV E (As := []) (b := l2) (ci := 5) (C := RJ2) (T := TJ2) (N := 3) hA_46.1 rfl (j_size κ H hA_34) (lw_V q286 q152 q153 q73 q154) 0 (by decide +kernel) rfl (by decide) (by decide) (cb' := (cb - 0)) (sb' := (sb - 0)) (by omega) (by omega) rfl (rest := [vi (f : Int)]) (Nat.le_of_ble_eq_true rfl) (fun q h => h.elim) dX1_shift_49 (fun v_39 H_40 hpost_41 hz_42 hk_43 => ?_)
          obtain rfl := hpost_41
          have hl_47 := LB.kf (eB_L κ _) hC_fr_38 (kF.ext hz_42 hk_43) aD.f aD.no hR
          have hl_48 := BI.kf hC.D (kF.ext hz_42 hk_43) hT
          have hl_49 := CS.kf0 hC_fr_38 (kF.ext hz_42 hk_43) hS2
          refine V.eq (st' := [vi (((T (a i0)).1 : Nat) : Int), vi (f : Int)]) rfl ?_
          refine v_icmp_ge E (tgt := 121) dX1_shift_52 (by decide) ⟨by omega, by omega⟩ ⟨by omega, by omega⟩ (fun c_52 => ?_) (fun c_52 => ?_)
          · have hfn2 : f = (T (a i0)).1 := by omega
            have hR_50 : LB κ H0.size (eB κ (sfP (T (a i0)).2 v1 (T (a i0)).1 (T (a i0)).1)) H_40 l2 b2 (T (a i0)).1 := LB.congr (fun k9 hk9 => by rw [hc, hfn2]) hl_47
            refine v_aload_n E 6 rfl dX1_shift_121 ?_
            refine v_iload_n E 3 rfl dX1_shift_122 ?_
            refine V.frame (fun hfz_fr_51 hfk_fr_51 => ?_)
            rw [hH0] at hfz_fr_51 hfk_fr_51
            rw [hA0] at hfk_fr_51
            have hC_fr_51 := hC.call hA93 hfz_fr_51 hfk_fr_51
            refine V.frame (fun hfz_fr_52 hfk_fr_52 => ?_)
            rw [hH0] at hfz_fr_52 hfk_fr_52
            rw [hA0] at hfk_fr_52
            refine v_new E in_X3 tyX3 tyX3_ok q145 q146 q75 (ci := 2) rfl (fs := [.null]) (fun j hj => by rcases (show j = 0 by omega) with rfl <;> rfl) (cb' := ((cb - 0) - 1)) (sb' := ((sb - 0) - 1)) (by omega) (by omega) dX1_shift_123 (fun pn H_53 hq_56 ho_54 hg_55 => ?_)
            refine v_dup E rfl dX1_shift_126 ?_
            refine v_aload E 2 rfl dX1_shift_127 ?_
            refine V.frame (fun hfz_fr_57 hfk_fr_57 => ?_)
            rw [hH0] at hfz_fr_57 hfk_fr_57
            rw [hA0] at hfk_fr_57
            have hC_fr_57 := hC.call hA93 hfz_fr_57 hfk_fr_57
            have hLB_58 := LB.kf (eB_L κ _) hC_fr_51 (kF.grow hg_55) aD.no aD.no hR_50
            refine v_callI E (As := [.ref l2]) (b := pn) (p_init κ H_53 (D := (dS ls bs li bi)) (n := (T (a i0)).1) (c := (sfP (T (a i0)).2 v1 (T (a i0)).1 (T (a i0)).1)) hC_fr_57 (Nat.le_trans hC.le (by omega)) (by omega) (fun q h => by have h2 := hsl0; exact ⟨by omega, by omega, by omega, by omega⟩) hC.le ho_54 hLB_58) q149 q75 q147 q148 rfl 1 (by decide +kernel) rfl (by decide) (by decide) (cb' := (((cb - 0) - 1) - 0)) (sb' := (((sb - 0) - 1) - 0)) (by omega) (by omega) rfl (rest := [.ref pn, vi ((i2 : Nat) : Int), .ref x]) (Nat.le_of_ble_eq_true rfl) (fun q h => hNew q (h.elim (fun h => by rw [h]; omega) (fun h => h.elim (fun h => by rw [h]; exact (hR_50).choose_spec.choose_spec.2.2.1) (fun h => by rw [h.1]; exact (hR_50).choose_spec.choose_spec.2.2.2 h.2)))) dX1_shift_129 (fun v_59 H_60 hpost_61 hz_62 hk_63 => ?_)
            obtain ⟨rfl, hPo_pn⟩ := hpost_61
            obtain ⟨md_65, g_66, hA_67, -, hSl_68, hSb_69⟩ := id hR_50
            have hkN_64 : ∀ q9 : Nat, q9 < Array.size H_40 → ¬ (q9 = l2 ∨ (q9 = b2 ∧ 0 < (T (a i0)).1)) → H_60[q9]? = H_40[q9]? := fun q9 h9 h8 => (hk_63 q9 (by rw [hg_55.1]; omega) (fun h => h.elim (fun h => by omega) h8)).trans (hg_55.2 q9 h9)
            have hF_70 : kF κ H_40 H_60 (fun q => q = l2 ∨ (q = b2 ∧ 0 < (T (a i0)).1)) := kF.lst hA_67 (fun q h => h.imp id (fun h => ⟨h.1, capR_pos h.2⟩)) (by have := hg_55.1; omega) hkN_64
            have hl_71 := BI.kf hC.D hF_70 hl_48
            have hl_72 := CS.kf hC_fr_51 hF_70 (aD.nn (fun q h hd => absurd hd.2 (Nat.not_lt.mpr (h.elim (fun e => by rw [e]; exact hSl_68) (fun e => by rw [e.1]; exact hSb_69 e.2))))) (fun q h => by have h1 : H0.size ≤ q := h.elim (fun e => by rw [e]; exact hSl_68) (fun e => by rw [e.1]; exact hSb_69 e.2); have h3 := hsl0; exact ⟨by omega, by omega, by omega, by omega, fun _ => by omega⟩) hl_49
            refine V.eq (st' := [.ref pn, vi ((i2 : Nat) : Int), .ref x]) rfl ?_
            have hSo_73 := CS.mono (D' := dS ls bs li bi) hl_72 (fun q h1 h2 => h2.1)
            have hop : xoShift S (i0 : Int) v1 (i2 : Int) = storeR (mkP (T (a i0)).1 (sfP (T (a i0)).2 v1 (T (a i0)).1 (T (a i0)).1)) i2 3 S := by unfold xoShift; rw [if_pos ⟨⟨by omega, by omega⟩, by omega, by omega⟩, if_pos ⟨by omega, by omega⟩]; show storeR (mkP (S i0).1 (sfP (S i0).2 v1 (S i0).1 (S i0).1)) i2 3 S = _; rw [hST i0 hii0]
            refine V.frame (fun hfz_fr_74 hfk_fr_74 => ?_)
            rw [hH0] at hfz_fr_74 hfk_fr_74
            rw [hA0] at hfk_fr_74
            have hC_fr_74 := hC.call hA93 hfz_fr_74 hfk_fr_74
            obtain ⟨md_76, g_77, hA_75, hg_78⟩ := hSo_73.2.2.1
            refine v_callVX E X9 hE (As := [vi ((i2 : Nat) : Int), .ref pn]) (b := x) (ci := 0) (C := RX1) (T := TX1) (N := 3) hSo_73.2.1 rfl (x_store κ H_60 hii2 hC_fr_74 dS_bs hPo_pn hSo_73) (lw_V q612 q614 qs9 q70 q615) 2 (by decide +kernel) rfl (by decide) (by decide) (cb' := ((((cb - 0) - 1) - 0) - 18)) (sb' := ((((sb - 0) - 1) - 0) - 110)) (by omega) (by omega) rfl (rest := []) (Nat.le_of_ble_eq_true rfl) (fun q h => by have h9 := pA.arr hfk_fr_74 hA_75.2.1 (hA_75.2.2.2.2.2.2.2.2.1 (by decide)); rw [← show q = bs from h] at h9; exact h9.elim (fun e => hAll q e) (fun e => hNew q e)) dX1_shift_132 (fun C9 H9 hx9 hz9 hk9 => (by exact ⟨Or.inr (Or.inr (⟨hx9.1, by rw [hop, storeR_n hPo_pn.1 hx9.2.1]⟩)), CS.pub hx9.2.2 hST hiso⟩)) (fun v_79 H_80 hpost_81 hz_82 hk_83 => ?_)
            obtain ⟨hok9, rfl, kq, hkq9, hS9⟩ := hpost_81
            refine V.eq (st' := [vi (((Prod.fst (mkP ((T (a i0)).1) (sfP (T (a i0)).2 v1 (T (a i0)).1 (T (a i0)).1)) : Nat) : Int) - 1)]) rfl ?_
            refine V.rt E hE (fun z9 E hE => ?_)
            refine v_iret E hE dX1_shift_135 ?_
            rw [hop, storeR_y hok9]; exact ⟨rfl, rfl, CS.pubT hSo_73 hkq9 hS9 hST hiso⟩
          · have hfn : f < (T (a i0)).1 := by omega
            have h7i := (hokT i0 hii0).1
            refine v_aload E 2 rfl dX1_shift_55 ?_
            obtain ⟨md_84, g_85, hA_86, hel_87, hSl_88, hSb_89⟩ := id hl_47
            refine V.frame (fun hfz_fr_90 hfk_fr_90 => ?_)
            rw [hH0] at hfz_fr_90 hfk_fr_90
            rw [hA0] at hfk_fr_90
            have hC_fr_90 := hC.call hA93 hfz_fr_90 hfk_fr_90
            obtain ⟨md_96, g_97, hA_98, -⟩ := id hl_47
            refine v_callV E (As := []) (b := l2) (ci := 5) (C := RJ2) (T := TJ2) (N := 3) hA_98.1 rfl (j_size κ H_40 hA_86) (lw_V q286 q152 q153 q73 q154) 0 (by decide +kernel) rfl (by decide) (by decide) (cb' := ((cb - 0) - 0)) (sb' := ((sb - 0) - 0)) (by omega) (by omega) rfl (rest := []) (Nat.le_of_ble_eq_true rfl) (fun q h => h.elim) dX1_shift_57 (fun v_91 H_92 hpost_93 hz_94 hk_95 => ?_)
            obtain rfl := hpost_93
            have hl_99 := LB.kf (eB_L κ _) hC_fr_90 (kF.ext hz_94 hk_95) aD.f aD.no hl_47
            have hl_100 := BI.kf hC.D (kF.ext hz_94 hk_95) hl_48
            have hl_101 := CS.kf0 hC_fr_90 (kF.ext hz_94 hk_95) hl_49
            refine V.eq (st' := [vi (((T (a i0)).1 : Nat) : Int)]) rfl ?_
            refine v_iconst E dX1_shift_60 ?_
            refine v_isub E dX1_shift_61 ?_
            refine v_istore E dX1_shift_62 (zlt hL rfl) (lv' := [(7, vi ((((T (a i0)).1 : Nat) : Int) - 2)), (6, vi (f : Int)), (5, .ref tq), (4, .ref l2), (3, vi ((i2 : Nat) : Int)), (2, vi v1), (1, vi ((i0 : Nat) : Int)), (0, .ref x)]) rfl ?_
            have loop_64 : ∀ (m_64 : Nat) (H : Heap) (w2 : Nat) (u : Int) (c2 : Nat → Int) (cb2 sb2 : Nat), (T (a i0)).1 - w2 < m_64 → (w2 ≤ (T (a i0)).1 - 1 - f) → (u = ((T (a i0)).1 : Int) - 2 - (w2 : Int)) → (c2 = sfI c v1 (T (a i0)).1 w2) → (∀ j, (c2 j).natAbs ≤ 9999 * 10 ^ (6 * f + w2)) → (20 + 36 * (6 - f) + 6 * (6 - w2) ≤ cb2) → (120 + 240 * (6 - f) + 40 * (6 - w2) ≤ sb2) → LB κ H0.size (eB κ c2) H l2 b2 (T (a i0)).1 → BI κ H tq v1 → CS κ (fun q => dS ls bs li bi q ∧ q < Array.size H0) H x ls bs li bi a iso T n cap iv → V z H cb2 sb2 64 [(7, vi u), (6, vi (f : Int)), (5, .ref tq), (4, .ref l2), (3, vi ((i2 : Nat) : Int)), (2, vi v1), (1, vi ((i0 : Nat) : Int)), (0, .ref x)] [] := by
              intro m_64
              induction m_64 with
              | zero => intro H w2 u c2 cb2 sb2 hm; exact absurd hm (by omega)
              | succ m_64 ih_64 =>
                intro H w2 u c2 cb2 sb2 hm_64 hw hu hc2 hB2 hcb2 hsb2 hR hT hS2
                refine v_iload E 0 rfl dX1_shift_64 ?_
                refine v_iload E 1 rfl dX1_shift_66 ?_
                refine v_icmp_lt E (tgt := 115) dX1_shift_68 (by decide) ⟨by omega, by omega⟩ ⟨by omega, by omega⟩ (fun c_68 => ?_) (fun c_68 => ?_)
                · refine v_iinc E 1 rfl dX1_shift_115 (zlt hL rfl) (lv' := [(6, vi ((f : Int) + 1)), (7, vi u), (5, .ref tq), (4, .ref l2), (3, vi ((i2 : Nat) : Int)), (2, vi v1), (1, vi ((i0 : Nat) : Int)), (0, .ref x)]) rfl ?_
                  refine v_goto E (tgt := 45) dX1_shift_118 (by decide) ?_
                  refine V.sub [0, 2, 3, 4, 5, 6, 7] (lv' := [(6, vi ((f : Int) + 1)), (5, .ref tq), (4, .ref l2), (3, vi ((i2 : Nat) : Int)), (2, vi v1), (1, vi ((i0 : Nat) : Int)), (0, .ref x)]) rfl ?_
                  exact ih_45  H (f + 1) c2 cb2 sb2 (by omega) (by omega) (by rw [hc2, show w2 = (T (a i0)).1 - 1 - f by omega, hc]; rfl) (fun j => Nat.le_trans (hB2 j) (Nat.mul_le_mul_left _ (Nat.pow_le_pow_right (by decide) (by omega)))) (by omega) (by omega) hR hT hS2
                · obtain ⟨k, hk⟩ : ∃ k : Nat, u = (k : Int) := ⟨u.toNat, by omega⟩
                  subst hk
                  have hkw : k = (T (a i0)).1 - 2 - w2 := by omega
                  have hBk := sf_n (by omega) (hB2 k)
                  have hBk1 := sf_n (by omega) (hB2 (k + 1))
                  have hy1 := y32 (y := v1) ⟨by omega, by omega⟩
                  refine v_aload E 3 rfl dX1_shift_71 ?_
                  refine v_iload E 0 rfl dX1_shift_73 ?_
                  refine v_aload E 3 rfl dX1_shift_75 ?_
                  refine v_iload E 0 rfl dX1_shift_77 ?_
                  obtain ⟨md_102, g_103, hA_104, hel_105, hSl_106, hSb_107⟩ := id hR
                  obtain ⟨y_108, hy_109, hE_110⟩ := hel_105 k (by omega)
                  refine V.frame (fun hfz_fr_111 hfk_fr_111 => ?_)
                  rw [hH0] at hfz_fr_111 hfk_fr_111
                  rw [hA0] at hfk_fr_111
                  have hC_fr_111 := hC.call hA93 hfz_fr_111 hfk_fr_111
                  obtain ⟨md_117, g_118, hA_119, -⟩ := id hR
                  refine v_callV E (As := [vi ((k : Nat) : Int)]) (b := l2) (ci := 5) (C := RJ2) (T := TJ2) (N := 3) hA_119.1 rfl (j_get κ H (i := k) (y := y_108) (by omega) hy_109 hA_104) (lw_V q610 q156 q157 q73 q158) 1 (by decide +kernel) rfl (by decide) (by decide) (cb' := (cb2 - 0)) (sb' := (sb2 - 0)) (by omega) (by omega) rfl (rest := [vi ((k : Nat) : Int), .ref l2]) (Nat.le_of_ble_eq_true rfl) (fun q h => h.elim) dX1_shift_79 (fun v_112 H_113 hpost_114 hz_115 hk_116 => ?_)
                  obtain rfl := hpost_114
                  have hl_120 := LB.kf (eB_L κ _) hC_fr_111 (kF.ext hz_115 hk_116) aD.f aD.no hR
                  have hl_121 := BI.kf hC.D (kF.ext hz_115 hk_116) hT
                  have hl_122 := CS.kf0 hC_fr_111 (kF.ext hz_115 hk_116) hS2
                  have hl_123 := BI.kf hC.D (kF.ext hz_115 hk_116) hE_110
                  refine V.eq (st' := [.ref y_108, vi ((k : Nat) : Int), .ref l2]) rfl ?_
                  obtain ⟨mz_125, nz_125, cfz_125, ⟨c1z_125, c2z_125, c3z_125, ho_124⟩, -⟩ := id hl_123
                  refine v_castS E ho_124 (q := (RJ16, TJ16, 6)) rfl q621 dX1_shift_82 ?_
                  refine v_aload E 3 rfl dX1_shift_85 ?_
                  refine v_iload E 0 rfl dX1_shift_87 ?_
                  refine v_iconst E dX1_shift_89 ?_
                  refine v_iadd E dX1_shift_90 ?_
                  refine V.topi (x' := ((k + 1 : Nat) : Int)) (congrArg iZ (by omega)) ?_
                  obtain ⟨md_126, g_127, hA_128, hel_129, hSl_130, hSb_131⟩ := id hl_120
                  obtain ⟨y_132, hy_133, hE_134⟩ := hel_129 (k + 1) (by omega)
                  refine V.frame (fun hfz_fr_135 hfk_fr_135 => ?_)
                  rw [hH0] at hfz_fr_135 hfk_fr_135
                  rw [hA0] at hfk_fr_135
                  have hC_fr_135 := hC.call hA93 hfz_fr_135 hfk_fr_135
                  obtain ⟨md_141, g_142, hA_143, -⟩ := id hl_120
                  refine v_callV E (As := [vi ((k + 1 : Nat) : Int)]) (b := l2) (ci := 5) (C := RJ2) (T := TJ2) (N := 3) hA_143.1 rfl (j_get κ H_113 (i := (k + 1)) (y := y_132) (by omega) hy_133 hA_128) (lw_V q610 q156 q157 q73 q158) 1 (by decide +kernel) rfl (by decide) (by decide) (cb' := ((cb2 - 0) - 0)) (sb' := ((sb2 - 0) - 0)) (by omega) (by omega) rfl (rest := [.ref y_108, vi ((k : Nat) : Int), .ref l2]) (Nat.le_of_ble_eq_true rfl) (fun q h => h.elim) dX1_shift_91 (fun v_136 H_137 hpost_138 hz_139 hk_140 => ?_)
                  obtain rfl := hpost_138
                  have hl_144 := LB.kf (eB_L κ _) hC_fr_135 (kF.ext hz_139 hk_140) aD.f aD.no hl_120
                  have hl_145 := BI.kf hC.D (kF.ext hz_139 hk_140) hl_121
                  have hl_146 := CS.kf0 hC_fr_135 (kF.ext hz_139 hk_140) hl_122
                  have hl_147 := BI.kf hC.D (kF.ext hz_139 hk_140) hl_123
                  have hl_148 := BI.kf hC.D (kF.ext hz_139 hk_140) hE_134
                  refine V.eq (st' := [.ref y_132, .ref y_108, vi ((k : Nat) : Int), .ref l2]) rfl ?_
                  obtain ⟨mz_150, nz_150, cfz_150, ⟨c1z_150, c2z_150, c3z_150, ho_149⟩, -⟩ := id hl_148
                  refine v_castS E ho_149 (q := (RJ16, TJ16, 6)) rfl q621 dX1_shift_94 ?_
                  refine v_aload E 2 rfl dX1_shift_97 ?_
                  refine V.frame (fun hfz_fr_153 hfk_fr_153 => ?_)
                  rw [hH0] at hfz_fr_153 hfk_fr_153
                  rw [hA0] at hfk_fr_153
                  have hC_fr_153 := hC.call hA93 hfz_fr_153 hfk_fr_153
                  obtain ⟨mz_160, nz_160, cfz_160, ⟨c1z_160, c2z_160, c3z_160, ho_159⟩, -⟩ := id hl_148
                  refine v_callV E (As := [.ref tq]) (b := y_132) (ci := 6) (C := RJ16) (T := TJ16) (N := 6) ho_159 rfl (g_mul κ H_137 (N := 5) (M := 1) hC_fr_153 hl_148 hl_145 hBk1 hy1 (Or.inl (by decide)) (sB_m1 hBk1 hy1 (by decide))) (lw_V q959 q960 q961 q91 q962) 1 (by decide +kernel) rfl (by decide) (by decide) (cb' := (((cb2 - 0) - 0) - 3)) (sb' := (((sb2 - 0) - 0) - (2 * (5 + 1) + 7))) (by omega) (by omega) rfl (rest := [.ref y_108, vi ((k : Nat) : Int), .ref l2]) (Nat.le_of_ble_eq_true rfl) (fun q h => h.elim) dX1_shift_99 (fun v_154 H_155 hpost_156 hz_157 hk_158 => ?_)
                  obtain ⟨qm_151, rfl, hBm_152⟩ := hpost_156
                  have hl_161 := LB.kf (eB_L κ _) hC_fr_153 (kF.ext hz_157 hk_158) aD.f aD.no hl_144
                  have hl_162 := BI.kf hC.D (kF.ext hz_157 hk_158) hl_145
                  have hl_163 := CS.kf0 hC_fr_153 (kF.ext hz_157 hk_158) hl_146
                  have hl_164 := BI.kf hC.D (kF.ext hz_157 hk_158) hl_147
                  have hl_165 := BI.kf hC.D (kF.ext hz_157 hk_158) hl_148
                  refine V.eq (st' := [.ref qm_151, .ref y_108, vi ((k : Nat) : Int), .ref l2]) rfl ?_
                  refine V.frame (fun hfz_fr_166 hfk_fr_166 => ?_)
                  rw [hH0] at hfz_fr_166 hfk_fr_166
                  rw [hA0] at hfk_fr_166
                  have hC_fr_166 := hC.call hA93 hfz_fr_166 hfk_fr_166
                  obtain ⟨mz_173, nz_173, cfz_173, ⟨c1z_173, c2z_173, c3z_173, ho_172⟩, -⟩ := id hl_164
                  refine v_callV E (As := [.ref qm_151]) (b := y_108) (ci := 6) (C := RJ16) (T := TJ16) (N := 6) ho_172 rfl (g_add κ H_155 (N := 5 + 1) hC_fr_166 hl_164 hBm_152 (p_le (M := 1) hBk) (prod_lt hBk1 hy1) (sB_s (N := 5 + 1) (p_le (M := 1) hBk) (prod_lt hBk1 hy1) (by decide))) (lw_V q704 q705 q706 q91 q707) 1 (by decide +kernel) rfl (by decide) (by decide) (cb' := ((((cb2 - 0) - 0) - 3) - 3)) (sb' := ((((sb2 - 0) - 0) - (2 * (5 + 1) + 7)) - 19)) (by omega) (by omega) rfl (rest := [vi ((k : Nat) : Int), .ref l2]) (Nat.le_of_ble_eq_true rfl) (fun q h => h.elim) dX1_shift_102 (fun v_167 H_168 hpost_169 hz_170 hk_171 => ?_)
                  obtain ⟨qs, rfl, hBs⟩ := hpost_169
                  have hl_174 := LB.kf (eB_L κ _) hC_fr_166 (kF.ext hz_170 hk_171) aD.f aD.no hl_161
                  have hl_175 := BI.kf hC.D (kF.ext hz_170 hk_171) hl_162
                  have hl_176 := CS.kf0 hC_fr_166 (kF.ext hz_170 hk_171) hl_163
                  have hl_177 := BI.kf hC.D (kF.ext hz_170 hk_171) hl_164
                  have hl_178 := BI.kf hC.D (kF.ext hz_170 hk_171) hl_165
                  have hl_179 := BI.kf hC.D (kF.ext hz_170 hk_171) hBm_152
                  refine V.eq (st' := [.ref qs, vi ((k : Nat) : Int), .ref l2]) rfl ?_
                  refine V.frame (fun hfz_fr_180 hfk_fr_180 => ?_)
                  rw [hH0] at hfz_fr_180 hfk_fr_180
                  rw [hA0] at hfk_fr_180
                  have hC_fr_180 := hC.call hA93 hfz_fr_180 hfk_fr_180
                  obtain ⟨md_181, g_182, hA_183, hel_184, hSl_185, hSb_186⟩ := id hl_174
                  obtain ⟨y_187, hy_188, -⟩ := hel_184 k (by omega)
                  obtain ⟨md_194, g_195, hA_196, -⟩ := id hl_174
                  refine v_callV E (As := [vi ((k : Nat) : Int), .ref qs]) (b := l2) (ci := 5) (C := RJ2) (T := TJ2) (N := 3) hA_196.1 rfl (j_set κ H_168 hC_fr_180 (i := k) hBs.oA (by omega) hy_188 hA_183) (lw_V q667 q668 q669 q73 q670) 2 (by decide +kernel) rfl (by decide) (by decide) (cb' := (((((cb2 - 0) - 0) - 3) - 3) - 0)) (sb' := (((((sb2 - 0) - 0) - (2 * (5 + 1) + 7)) - 19) - 0)) (by omega) (by omega) rfl (rest := []) (Nat.le_of_ble_eq_true rfl) (fun q h => hNew q (by rw [show q = b2 from h]; exact hSb_186 (by omega))) dX1_shift_105 (fun v_189 H_190 hpost_191 hz_192 hk_193 => ?_)
                  obtain ⟨rfl, hA_197⟩ := hpost_191
                  have hk2_200 : ∀ q : Nat, q < Array.size H_168 → ¬ (q = l2 ∨ (q = b2 ∧ 0 < (T (a i0)).1)) → H_190[q]? = H_168[q]? := fun q h1 h2 => hk_193 q h1 (fun e => h2 (Or.inr ⟨e, by omega⟩))
                  have hF_198 := (kF.lst hA_183 (fun q h => h.imp id (fun h => ⟨h.1, capR_pos h.2⟩)) hz_192 hk2_200)
                  have hl_201 := BI.kf hC.D hF_198 hl_175
                  have hl_202 := CS.kf hC_fr_180 hF_198 (aD.nn (fun q h hd => absurd hd.2 (Nat.not_lt.mpr (h.elim (fun e => by rw [e]; exact hSl_185) (fun e => by rw [e.1]; exact hSb_186 e.2))))) (fun q h => by have h1 : H0.size ≤ q := h.elim (fun e => by rw [e]; exact hSl_185) (fun e => by rw [e.1]; exact hSb_186 e.2); have h3 := hsl0; exact ⟨by omega, by omega, by omega, by omega, fun _ => by omega⟩) hl_176
                  have hl_203 := BI.kf hC.D hF_198 hl_177
                  have hl_204 := BI.kf hC.D hF_198 hl_178
                  have hl_205 := BI.kf hC.D hF_198 hl_179
                  have hl_206 := BI.kf hC.D hF_198 hBs
                  have hR_199 : LB κ H0.size (eB κ (va_up c2 k (c2 k + c2 (k + 1) * v1))) H_190 l2 b2 (T (a i0)).1 := LB.put (c := c2) (fun j9 hj9 => (hel_184 j9 hj9).elim (fun y9 hy9 => ⟨y9, hy9.1, hy9.2.kf hC.D hF_198⟩)) hl_206 hA_197 hSl_185 hSb_186 (fun j9 hj9 ne9 => (va_up_ne _ _ ne9).symm) ((va_up_self _ _ _).symm)
                  refine V.eq (st' := [.ref y_187]) rfl ?_
                  refine v_pop E rfl dX1_shift_108 ?_
                  refine v_iinc E 0 rfl dX1_shift_109 (zlt hL rfl) (lv' := [(7, vi (((k : Nat) : Int) + (-1))), (6, vi (f : Int)), (5, .ref tq), (4, .ref l2), (3, vi ((i2 : Nat) : Int)), (2, vi v1), (1, vi ((i0 : Nat) : Int)), (0, .ref x)]) rfl ?_
                  refine v_goto E (tgt := 64) dX1_shift_112 (by decide) ?_
                  exact ih_64  H_190 (w2 + 1) _ _ (((((cb2 - 0) - 0) - 3) - 3) - 0) (((((sb2 - 0) - 0) - (2 * (5 + 1) + 7)) - 19) - 0) (by omega) (by omega) (by omega) (by rw [hc2, hkw]; rfl) (sf_b ⟨by omega, by omega⟩ hB2) (by omega) (by omega) hR_199 hl_201 hl_202
            exact loop_64 ((T (a i0)).1 + 1) H_92 0 _ c ((cb - 0) - 0) ((sb - 0) - 0) (by omega) (Nat.zero_le _) (by omega) rfl (by rw [Nat.add_zero]; exact hB) (by omega) (by omega) hl_99 hl_100 hl_101
      refine V.sub [0, 1, 2, 6, 5, 4, 3] (lv' := [(6, vi 0), (5, .ref tq), (4, .ref l2), (3, vi ((i2 : Nat) : Int)), (2, vi v1), (1, vi ((i0 : Nat) : Int)), (0, .ref x)]) rfl ?_
      exact loop_45 ((T (a i0)).1 + 1) H_26 0 (T (a i0)).2 293 1820 (by omega) (Nat.zero_le _) rfl (hokT i0 hii0).t0 (by omega) (by omega) hl_31 hnq hl_30
    · refine V.frame (fun hfz_fr_207 hfk_fr_207 => ?_)
      rw [hH0] at hfz_fr_207 hfk_fr_207
      rw [hA0] at hfk_fr_207
      have hC_fr_207 := hC.call hA93 hfz_fr_207 hfk_fr_207
      refine V.frame (fun hfz_fr_208 hfk_fr_208 => ?_)
      rw [hH0] at hfz_fr_208 hfk_fr_208
      rw [hA0] at hfk_fr_208
      refine v_throw0 E X9 hE (cls := "java/lang/IllegalArgumentException") (names := ["java/lang/RuntimeException", "java/lang/Exception"]) (ik := 138) (ic := 140) (by decide +kernel) (by decide +kernel) q591 q89 (ex_1 E.kn E.2.2.2.2.1 q600) ex_1_ok dX1_shift_20 dX1_shift_23 dX1_shift_24 dX1_shift_27 (by decide) (Nat.le_of_ble_eq_true rfl) (by omega) (by omega) (fun H9 hz9 hk9 => ?_)
      exact ⟨Or.inr (Or.inl (⟨rfl, (by unfold xoShift; first | (split <;> first | rfl | (exfalso; omega) | (split <;> first | rfl | (exfalso; omega) | (split <;> first | rfl | (exfalso; omega)))))⟩)), CS.pub (CS.kf0 hC_fr_207 (kF.ext hz9 (fun q hq _ => hk9 q hq)) (CS.mono (D' := dS ls bs li bi) hl_14 (fun q h1 h2 => h2.1))) hST hiso⟩
