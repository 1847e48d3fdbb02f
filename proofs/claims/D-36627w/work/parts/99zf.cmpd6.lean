/-! THE COMPONENT: multiply -/
def al1 (k : Nat) : Nat := (if k ≤ 0 then 1 else 0) + (if k ≤ 10 then 1 else 0)
theorem al_b (k : Nat) (h : k < 15) : alM k + al1 (k + 1) ≤ al1 k ∧ alS k + 15 * al1 (k + 1) ≤ 15 * al1 k ∧ al1 k ≤ 2 ∧ alM k ≤ 1 ∧ alS k ≤ 15 := by
  have key : ∀ k, k < 15 → alM k + al1 (k + 1) ≤ al1 k ∧ alS k + 15 * al1 (k + 1) ≤ 15 * al1 k ∧ al1 k ≤ 2 ∧ alM k ≤ 1 ∧ alS k ≤ 15 := by decide
  exact key k h
/-- w products from the place lo on -/
def muT (p q : Nat → Int) (k lo : Nat) : Nat → Int
  | 0 => 0
  | w + 1 => muT p q k lo w + p (lo + w) * q (k - (lo + w))
def muC (P Q : Pl) : Nat → Int := fun k => muT P.2 Q.2 k (k - (Q.1 - 1)) (min P.1 (k + 1) - (k - (Q.1 - 1)))
def xoMul (S : Nat → Pl) (a b t : Int) : zRc := if (0 ≤ a ∧ a < 5) ∧ (0 ≤ b ∧ b < 5) ∧ (0 ≤ t ∧ t < 5) then (if (S a.toNat).1 = 0 ∨ (S b.toNat).1 = 0 then storeR (mkP 0 (fun _ => 0)) t.toNat 2 S else storeR (mkP ((S a.toNat).1 + (S b.toNat).1 - 1) (muC (S a.toNat) (S b.toNat))) t.toNat 2 S) else (0, 1, S)
theorem mul4 {x y : Int} (hx : x.natAbs ≤ 9999) (hy : y.natAbs ≤ 9999) : (x * y).natAbs ≤ 99980001 := by
  rw [Int.natAbs_mul]
  exact Nat.mul_le_mul hx hy
theorem muT_b {p q : Nat → Int} {k lo : Nat} (hp : ∀ j, (p j).natAbs ≤ 9999) (hq : ∀ j, (q j).natAbs ≤ 9999) : ∀ w, (muT p q k lo w).natAbs ≤ 99980001 * w
  | 0 => Nat.zero_le _
  | w + 1 => by
    have h1 := muT_b hp hq (k := k) (lo := lo) w
    have h2 := mul4 (hp (lo + w)) (hq (k - (lo + w)))
    have h3 := Int.natAbs_add_le (muT p q k lo w) (p (lo + w) * q (k - (lo + w)))
    show (muT p q k lo w + p (lo + w) * q (k - (lo + w))).natAbs ≤ _
    omega
theorem n32 {x : Int} (h : x.natAbs ≤ 999999999) : (x.natAbs : Int) < 2 ^ (32 * 1) := by rw [p32z]; omega
set_option maxHeartbeats 1000000 in
set_option maxRecDepth 100000 in
/-- multiply -/
theorem c_mul (κ : zK) (H0 : Heap) {x : Nat} {S : Nat → Pl} {isoP : Option Pl} {n cap : Nat} {iv : Nat → Ivl} {v0 : Int} (hrv0 : rI v0) {v1 : Int} (hrv1 : rI v1) {v2 : Int} (hrv2 : rI v2) (hC : CO κ H0) (hok : bC5 S) (hP : CP κ H0 x S isoP n cap iv)  : MtX κ yX1_multiply cX1_multiply 10 (some .int) 7 158 600 2100 H0 [.ref x, vi v0, vi v1, vi v2] (pA κ H0) (fun v H1 => (xoMul S v0 v1 v2).2.1 = 0 ∧ v = some (vi (xoMul S v0 v1 v2).1) ∧ CP κ H1 x (xoMul S v0 v1 v2).2.2 isoP n cap iv) (fun C H1 => (C = "java/lang/IndexOutOfBoundsException" ∧ (xoMul S v0 v1 v2).2.1 = 1 ∨ C = "java/lang/IllegalStateException" ∧ (xoMul S v0 v1 v2).2.1 = 2) ∧ CP κ H1 x S isoP n cap iv) := by
  refine MtX.of (by decide) (Nat.le_of_ble_eq_true rfl) ?_
  intro z E X9 hE hH0 hA0 hL hini
  have hAll : ∀ q, (pA κ H0) q → zA z.A z.H0 q := fun q h => Or.inl (by rw [hA0]; exact h)
  have hNew : ∀ q, H0.size ≤ q → zA z.A z.H0 q := fun q h => Or.inr (by rw [hH0]; exact h)
  have E : zOK z cX1_multiply RX1 κ 7 158 (some .int) := E
  refine V.eqL (lv' := [(0, .ref x), (1, vi v0), (2, vi v1), (3, vi v2)]) rfl ?_
  obtain ⟨ls, bs, li, bi, a, iso, T, hS, hST, hiso⟩ := hP
  have hA93 : ∀ q, pA κ H0 q → κ.2 93 ≤ q := fun q h => h.1
  have hD := hC.D
  have hsl0 := hS.sl
  have hokT : ∀ k, k < 5 → okP (T (a k)) := fun k hk => by rw [← hST k hk]; exact (hok k hk).2
  have hSt := CS.mono (D' := fun q => dS ls bs li bi q ∧ q < Array.size H0) hS (fun q h1 h2 => ⟨h2, h1⟩)
  refine v_iload_n E 1 rfl dX1_multiply_0 ?_
  refine V.frame (fun hfz_fr_1 hfk_fr_1 => ?_)
  rw [hH0] at hfz_fr_1 hfk_fr_1
  rw [hA0] at hfk_fr_1
  have hC_fr_1 := hC.call hA93 hfz_fr_1 hfk_fr_1
  refine v_callSX E X9 hE (As := [vi v0]) (x_slot κ H0 hrv0) (lw_S q570 q571 q70 q572) 1 (by decide +kernel) rfl (by decide) (by decide) (cb' := 599) (sb' := 2094) (by decide) (by decide) rfl (rest := []) (Nat.le_of_ble_eq_true rfl) (fun q h => h.elim) dX1_multiply_1 (fun C9 H9 hx9 hz9 hk9 => by exact ⟨Or.inl (⟨hx9.1, (by have hx8 := hx9.2; unfold xoMul; first | (split <;> first | rfl | (exfalso; omega) | (split <;> first | rfl | (exfalso; omega) | (split <;> first | rfl | (exfalso; omega)))))⟩), CS.pub (CS.kf0 hC_fr_1 (kF.ext hz9 hk9) (CS.mono (D' := dS ls bs li bi) hSt (fun q h1 h2 => h2.1))) hST hiso⟩) (fun v_2 H_3 hpost_4 hz_5 hk_6 => ?_)
  obtain ⟨rfl, hsv0⟩ := hpost_4
  have hl_7 := CS.kf0 hC_fr_1 (kF.ext hz_5 hk_6) hSt
  obtain ⟨i0, hni0⟩ : ∃ i0 : Nat, v0 = (i0 : Int) := ⟨v0.toNat, by omega⟩
  subst hni0
  have hii0 : i0 < 5 := by omega
  refine V.eq (st' := []) rfl ?_
  refine v_iload_n E 2 rfl dX1_multiply_4 ?_
  refine V.frame (fun hfz_fr_8 hfk_fr_8 => ?_)
  rw [hH0] at hfz_fr_8 hfk_fr_8
  rw [hA0] at hfk_fr_8
  have hC_fr_8 := hC.call hA93 hfz_fr_8 hfk_fr_8
  refine v_callSX E X9 hE (As := [vi v1]) (x_slot κ H_3 hrv1) (lw_S q570 q571 q70 q572) 1 (by decide +kernel) rfl (by decide) (by decide) (cb' := 598) (sb' := 2088) (by decide) (by decide) rfl (rest := []) (Nat.le_of_ble_eq_true rfl) (fun q h => h.elim) dX1_multiply_5 (fun C9 H9 hx9 hz9 hk9 => by exact ⟨Or.inl (⟨hx9.1, (by have hx8 := hx9.2; unfold xoMul; first | (split <;> first | rfl | (exfalso; omega) | (split <;> first | rfl | (exfalso; omega) | (split <;> first | rfl | (exfalso; omega)))))⟩), CS.pub (CS.kf0 hC_fr_8 (kF.ext hz9 hk9) (CS.mono (D' := dS ls bs li bi) hl_7 (fun q h1 h2 => h2.1))) hST hiso⟩) (fun v_9 H_10 hpost_11 hz_12 hk_13 => ?_)
  obtain ⟨rfl, hsv1⟩ := hpost_11
  have hl_14 := CS.kf0 hC_fr_8 (kF.ext hz_12 hk_13) hl_7
  obtain ⟨i1, hni1⟩ : ∃ i1 : Nat, v1 = (i1 : Int) := ⟨v1.toNat, by omega⟩
  subst hni1
  have hii1 : i1 < 5 := by omega
  refine V.eq (st' := []) rfl ?_
  refine v_iload_n E 3 rfl dX1_multiply_8 ?_
  refine V.frame (fun hfz_fr_15 hfk_fr_15 => ?_)
  rw [hH0] at hfz_fr_15 hfk_fr_15
  rw [hA0] at hfk_fr_15
  have hC_fr_15 := hC.call hA93 hfz_fr_15 hfk_fr_15
  refine v_callSX E X9 hE (As := [vi v2]) (x_slot κ H_10 hrv2) (lw_S q570 q571 q70 q572) 1 (by decide +kernel) rfl (by decide) (by decide) (cb' := 597) (sb' := 2082) (by decide) (by decide) rfl (rest := []) (Nat.le_of_ble_eq_true rfl) (fun q h => h.elim) dX1_multiply_9 (fun C9 H9 hx9 hz9 hk9 => by exact ⟨Or.inl (⟨hx9.1, (by have hx8 := hx9.2; unfold xoMul; first | (split <;> first | rfl | (exfalso; omega) | (split <;> first | rfl | (exfalso; omega) | (split <;> first | rfl | (exfalso; omega)))))⟩), CS.pub (CS.kf0 hC_fr_15 (kF.ext hz9 hk9) (CS.mono (D' := dS ls bs li bi) hl_14 (fun q h1 h2 => h2.1))) hST hiso⟩) (fun v_16 H_17 hpost_18 hz_19 hk_20 => ?_)
  obtain ⟨rfl, hsv2⟩ := hpost_18
  have hl_21 := CS.kf0 hC_fr_15 (kF.ext hz_19 hk_20) hl_14
  obtain ⟨i2, hni2⟩ : ∃ i2 : Nat, v2 = (i2 : Int) := ⟨v2.toNat, by omega⟩
  subst hni2
  have hii2 : i2 < 5 := by omega
  refine V.eq (st' := []) rfl ?_
  have h7i := (hokT i0 hii0).1
  have h7j := (hokT i1 hii1).1
  refine v_aload_n E 0 rfl dX1_multiply_12 ?_
  refine v_iload_n E 1 rfl dX1_multiply_13 ?_
  refine V.frame (fun hfz_fr_22 hfk_fr_22 => ?_)
  rw [hH0] at hfz_fr_22 hfk_fr_22
  rw [hA0] at hfk_fr_22
  have hC_fr_22 := hC.call hA93 hfz_fr_22 hfk_fr_22
  refine v_callV E (As := [vi ((i0 : Nat) : Int)]) (b := x) (ci := 0) (C := RX1) (T := TX1) (N := 3) hl_21.2.1 rfl (x_poly κ H_17 (i := i0) hii0 hC_fr_22 hl_21) (lw_V q606 q608 qs8 q70 q609) 1 (by decide +kernel) rfl (by decide) (by decide) (cb' := 597) (sb' := 2082) (by decide) (by decide) rfl (rest := []) (Nat.le_of_ble_eq_true rfl) (fun q h => h.elim) dX1_multiply_14 (fun v_23 H_24 hpost_25 hz_26 hk_27 => ?_)
  obtain ⟨p4, rfl, hpkp4⟩ := hpost_25
  have hl_28 := CS.kf0 hC_fr_22 (kF.ext hz_26 hk_27) hl_21
  refine V.eq (st' := [.ref p4]) rfl ?_
  refine v_astore E dX1_multiply_17 (zlt hL rfl) (lv' := [(4, .ref p4), (0, .ref x), (1, vi ((i0 : Nat) : Int)), (2, vi ((i1 : Nat) : Int)), (3, vi ((i2 : Nat) : Int))]) rfl ?_
  refine v_aload_n E 1 rfl dX1_multiply_19 ?_
  refine v_iload_n E 3 rfl dX1_multiply_20 ?_
  refine V.frame (fun hfz_fr_29 hfk_fr_29 => ?_)
  rw [hH0] at hfz_fr_29 hfk_fr_29
  rw [hA0] at hfk_fr_29
  have hC_fr_29 := hC.call hA93 hfz_fr_29 hfk_fr_29
  refine v_callV E (As := [vi ((i1 : Nat) : Int)]) (b := x) (ci := 0) (C := RX1) (T := TX1) (N := 3) hl_28.2.1 rfl (x_poly κ H_24 (i := i1) hii1 hC_fr_29 hl_28) (lw_V q606 q608 qs8 q70 q609) 1 (by decide +kernel) rfl (by decide) (by decide) (cb' := 597) (sb' := 2082) (by decide) (by decide) rfl (rest := []) (Nat.le_of_ble_eq_true rfl) (fun q h => h.elim) dX1_multiply_21 (fun v_30 H_31 hpost_32 hz_33 hk_34 => ?_)
  obtain ⟨p5, rfl, hpkp5⟩ := hpost_32
  have hl_35 := CS.kf0 hC_fr_29 (kF.ext hz_33 hk_34) hl_28
  have hl_36 := Po.kf hC_fr_29 (kF.ext hz_33 hk_34) aD.no hpkp4
  refine V.eq (st' := [.ref p5]) rfl ?_
  refine v_astore E dX1_multiply_24 (zlt hL rfl) (lv' := [(5, .ref p5), (4, .ref p4), (0, .ref x), (1, vi ((i0 : Nat) : Int)), (2, vi ((i1 : Nat) : Int)), (3, vi ((i2 : Nat) : Int))]) rfl ?_
  refine v_aload E 1 rfl dX1_multiply_26 ?_
  refine V.frame (fun hfz_fr_37 hfk_fr_37 => ?_)
  rw [hH0] at hfz_fr_37 hfk_fr_37
  rw [hA0] at hfk_fr_37
  have hC_fr_37 := hC.call hA93 hfz_fr_37 hfk_fr_37
  obtain ⟨-, -, l_44, ho_43, -⟩ := id hl_36
  refine v_callV E (As := []) (b := p4) (ci := 2) (C := RX3) (T := TX3) (N := 1) ho_43 rfl (p_deg κ H_31 hC_fr_37 hl_36) (lw_V q617 q618 q619 q75 q620) 0 (by decide +kernel) rfl (by decide) (by decide) (cb' := 597) (sb' := 2082) (by decide) (by decide) rfl (rest := []) (Nat.le_of_ble_eq_true rfl) (fun q h => h.elim) dX1_multiply_28 (fun v_38 H_39 hpost_40 hz_41 hk_42 => ?_)
  obtain rfl := hpost_40
  have hl_45 := CS.kf0 hC_fr_37 (kF.ext hz_41 hk_42) hl_35
  have hl_46 := Po.kf hC_fr_37 (kF.ext hz_41 hk_42) aD.no hl_36
  have hl_47 := Po.kf hC_fr_37 (kF.ext hz_41 hk_42) aD.no hpkp5
  refine V.eq (st' := [vi (((Prod.fst (T (a i0)) : Nat) : Int) - 1)]) rfl ?_
  refine v_if_lt E (tgt := 42) dX1_multiply_31 (by decide) ⟨by omega, by omega⟩ (fun c_31 => ?_) (fun c_31 => ?_)
  · refine v_aload_n E 2 rfl dX1_multiply_42 ?_
    refine v_iload_n E 5 rfl dX1_multiply_43 ?_
    refine V.frame (fun hfz_fr_48 hfk_fr_48 => ?_)
    rw [hH0] at hfz_fr_48 hfk_fr_48
    rw [hA0] at hfk_fr_48
    have hC_fr_48 := hC.call hA93 hfz_fr_48 hfk_fr_48
    refine V.frame (fun hfz_fr_49 hfk_fr_49 => ?_)
    rw [hH0] at hfz_fr_49 hfk_fr_49
    rw [hA0] at hfk_fr_49
    refine v_new E in_X3 tyX3 tyX3_ok q145 q146 q75 (ci := 2) rfl (fs := [.null]) (fun j hj => by rcases (show j = 0 by omega) with rfl <;> rfl) (cb' := 596) (sb' := 2081) (by decide) (by decide) dX1_multiply_44 (fun q_50 H_51 hq_54 ho_52 hg_53 => ?_)
    have hge0_q_50 : Array.size H_39 ≤ q_50 := by rw [hq_54]; exact (Nat.le_refl _)
    have hfzz_55 : Array.size H_39 ≤ Array.size H_51 := Nat.le_trans (Nat.le_refl _) (by rw [hg_53.1]; exact Nat.le_succ _)
    have hfzk_56 : ∀ q9 : Nat, q9 < Array.size H_39 → ¬ (fun _ => False : Nat → Prop) q9 → H_51[q9]? = H_39[q9]? := fun q9 h9 h8 => (hg_53.2 q9 (Nat.lt_of_lt_of_le h9 (Nat.le_refl _))).trans ((fun _ _ _ => rfl) q9 h9 h8)
    refine v_dup E rfl dX1_multiply_47 ?_
    refine V.frame (fun hfz_fr_57 hfk_fr_57 => ?_)
    rw [hH0] at hfz_fr_57 hfk_fr_57
    rw [hA0] at hfk_fr_57
    have hC_fr_57 := hC.call hA93 hfz_fr_57 hfk_fr_57
    refine V.frame (fun hfz_fr_58 hfk_fr_58 => ?_)
    rw [hH0] at hfz_fr_58 hfk_fr_58
    rw [hA0] at hfk_fr_58
    refine v_new E in_J2 tyJ2 tyJ2_ok q113 q114 q73 (ci := 5) rfl (fs := [vi 0, .null, vi 0]) (fun j hj => by rcases (show j = 0 ∨ j = 1 ∨ j = 2 by omega) with rfl | rfl | rfl <;> rfl) (cb' := 595) (sb' := 2078) (by decide) (by decide) dX1_multiply_48 (fun q_59 H_60 hq_63 ho_61 hg_62 => ?_)
    have hne_q_50_q_59 : q_50 ≠ q_59 := by have := ho_52.lt; omega
    have ho_65 := ho_52.grow hg_62
    have hge0_q_59 : Array.size H_39 ≤ q_59 := by rw [hq_63]; exact hfzz_55
    have hfzz_66 : Array.size H_39 ≤ Array.size H_60 := Nat.le_trans hfzz_55 (by rw [hg_62.1]; exact Nat.le_succ _)
    have hfzk_67 : ∀ q9 : Nat, q9 < Array.size H_39 → ¬ (fun _ => False : Nat → Prop) q9 → H_60[q9]? = H_39[q9]? := fun q9 h9 h8 => (hg_62.2 q9 (Nat.lt_of_lt_of_le h9 hfzz_55)).trans (hfzk_56 q9 h9 h8)
    refine v_dup E rfl dX1_multiply_51 ?_
    have h93_q_59 : κ.2 93 ≤ q_59 := Nat.le_trans hC.le (Nat.le_trans hfz_fr_48 hge0_q_59)
    refine V.frame (fun hfz_fr_68 hfk_fr_68 => ?_)
    rw [hH0] at hfz_fr_68 hfk_fr_68
    rw [hA0] at hfk_fr_68
    have hC_fr_68 := hC.call hA93 hfz_fr_68 hfk_fr_68
    refine v_callI E (As := []) (b := q_59) (j_init κ H_60 h93_q_59 hC_fr_68 ho_61) q117 q73 q115 q116 rfl 0 (by decide +kernel) rfl (by decide) (by decide) (cb' := 595) (sb' := 2078) (by decide) (by decide) rfl (rest := [.ref q_59, .ref q_50, .ref q_50, vi ((i2 : Nat) : Int), .ref x]) (Nat.le_of_ble_eq_true rfl) (fun q h => hNew q (by rw [show q = q_59 from h]; exact Nat.le_trans hfz_fr_48 hge0_q_59)) dX1_multiply_52 (fun v_69 H_70 hpost_71 hz_72 hk_73 => ?_)
    obtain ⟨rfl, hAF_q_59⟩ := hpost_71
    have hfzz_74 : Array.size H_39 ≤ Array.size H_70 := Nat.le_trans hfzz_66 hz_72
    have hfzk_75 : ∀ q9 : Nat, q9 < Array.size H_39 → ¬ (fun _ => False : Nat → Prop) q9 → H_70[q9]? = H_39[q9]? := fun q9 h9 h8 => (hk_73 q9 (Nat.lt_of_lt_of_le h9 hfzz_66) (fun e => by have e2 : q9 = q_59 := e; have := hge0_q_59; omega)).trans (hfzk_67 q9 h9 h8)
    have hr_76 := ho_65.kept (hk_73 _ ho_65.lt (fun h => hne_q_50_q_59 h))
    refine V.eq (st' := [.ref q_59, .ref q_50, .ref q_50, vi ((i2 : Nat) : Int), .ref x]) rfl ?_
    have h93_q_50 : κ.2 93 ≤ q_50 := Nat.le_trans hC.le (Nat.le_trans hfz_fr_48 hge0_q_50)
    refine V.frame (fun hfz_fr_77 hfk_fr_77 => ?_)
    rw [hH0] at hfz_fr_77 hfk_fr_77
    rw [hA0] at hfk_fr_77
    have hC_fr_77 := hC.call hA93 hfz_fr_77 hfk_fr_77
    refine v_callI E (As := [.ref q_59]) (b := q_50) (p_init κ H_70 (D := (dS ls bs li bi)) (n := 0) (c := fun _ => 0) (S := H0.size) hC_fr_77 h93_q_50 (by decide) (fun q h => by have h2 := hsl0; exact ⟨by omega, by omega, by omega, by omega⟩) hC.le hr_76 (LB.nil hAF_q_59 (Nat.le_trans hfz_fr_48 hge0_q_59))) q149 q75 q147 q148 rfl 1 (by decide +kernel) rfl (by decide) (by decide) (cb' := 595) (sb' := 2078) (by decide) (by decide) rfl (rest := [.ref q_50, vi ((i2 : Nat) : Int), .ref x]) (Nat.le_of_ble_eq_true rfl) (fun q h => hNew q (h.elim (fun h => by rw [h]; exact Nat.le_trans hfz_fr_48 hge0_q_50) (fun h => h.elim (fun h => by rw [h]; exact Nat.le_trans hfz_fr_48 hge0_q_59) (fun h => absurd h.2 (by decide))))) dX1_multiply_55 (fun v_78 H_79 hpost_80 hz_81 hk_82 => ?_)
    obtain ⟨rfl, hPF_q_50⟩ := hpost_80
    have hfzz_83 : Array.size H_39 ≤ Array.size H_79 := Nat.le_trans hfzz_74 hz_81
    have hfzk_84 : ∀ q9 : Nat, q9 < Array.size H_39 → ¬ (fun _ => False : Nat → Prop) q9 → H_79[q9]? = H_39[q9]? := fun q9 h9 h8 => (hk_82 q9 (Nat.lt_of_lt_of_le h9 hfzz_74) (fun e => by exact e.elim (fun e => by have := hge0_q_50; omega) (fun e => e.elim (fun e => by have := hge0_q_59; omega) (fun e => absurd e.2 (by decide))))).trans (hfzk_75 q9 h9 h8)
    refine V.eq (st' := [.ref q_50, vi ((i2 : Nat) : Int), .ref x]) rfl ?_
    have hl_85 := CS.kf0 hC_fr_48 (kF.ext hfzz_83 hfzk_84) hl_45
    have hl_86 := Po.kf hC_fr_48 (kF.ext hfzz_83 hfzk_84) aD.no hl_46
    have hl_87 := Po.kf hC_fr_48 (kF.ext hfzz_83 hfzk_84) aD.no hl_47
    have hSo_88 := CS.mono (D' := dS ls bs li bi) hl_85 (fun q h1 h2 => h2.1)
    have hop : xoMul S (i0 : Int) (i1 : Int) (i2 : Int) = storeR (mkP 0 (fun _ => 0)) i2 2 S := by unfold xoMul; rw [if_pos ⟨⟨by omega, by omega⟩, ⟨by omega, by omega⟩, by omega, by omega⟩]; exact if_pos (show (S i0).1 = 0 ∨ (S i1).1 = 0 by rw [hST i0 hii0, hST i1 hii1]; omega)
    refine V.frame (fun hfz_fr_89 hfk_fr_89 => ?_)
    rw [hH0] at hfz_fr_89 hfk_fr_89
    rw [hA0] at hfk_fr_89
    have hC_fr_89 := hC.call hA93 hfz_fr_89 hfk_fr_89
    obtain ⟨md_91, g_92, hA_90, hg_93⟩ := hSo_88.2.2.1
    refine v_callVX E X9 hE (As := [vi ((i2 : Nat) : Int), .ref q_50]) (b := x) (ci := 0) (C := RX1) (T := TX1) (N := 3) hSo_88.2.1 rfl (x_store κ H_79 hii2 hC_fr_89 dS_bs hPF_q_50 hSo_88) (lw_V q612 q614 qs9 q70 q615) 2 (by decide +kernel) rfl (by decide) (by decide) (cb' := 577) (sb' := 1968) (by decide) (by decide) rfl (rest := []) (Nat.le_of_ble_eq_true rfl) (fun q h => by have h9 := pA.arr hfk_fr_89 hA_90.2.1 (hA_90.2.2.2.2.2.2.2.2.1 (by decide)); rw [← show q = bs from h] at h9; exact h9.elim (fun e => hAll q e) (fun e => hNew q e)) dX1_multiply_58 (fun C9 H9 hx9 hz9 hk9 => (by exact ⟨Or.inr (⟨hx9.1, by rw [hop, storeR_n hPF_q_50.1 hx9.2.1]⟩), CS.pub hx9.2.2 hST hiso⟩)) (fun v_94 H_95 hpost_96 hz_97 hk_98 => ?_)
    obtain ⟨hok9, rfl, kq, hkq9, hS9⟩ := hpost_96
    refine V.eq (st' := [vi (((Prod.fst (mkP 0 (fun _ => 0)) : Nat) : Int) - 1)]) rfl ?_
    refine V.rt E hE (fun z9 E hE => ?_)
    refine v_iret E hE dX1_multiply_61 ?_
    rw [hop, storeR_y hok9]; exact ⟨rfl, rfl, CS.pubT hSo_88 hkq9 hS9 hST hiso⟩
  · refine v_aload E 0 rfl dX1_multiply_34 ?_
    refine V.frame (fun hfz_fr_99 hfk_fr_99 => ?_)
    rw [hH0] at hfz_fr_99 hfk_fr_99
    rw [hA0] at hfk_fr_99
    have hC_fr_99 := hC.call hA93 hfz_fr_99 hfk_fr_99
    obtain ⟨-, -, l_106, ho_105, -⟩ := id hl_47
    refine v_callV E (As := []) (b := p5) (ci := 2) (C := RX3) (T := TX3) (N := 1) ho_105 rfl (p_deg κ H_39 hC_fr_99 hl_47) (lw_V q617 q618 q619 q75 q620) 0 (by decide +kernel) rfl (by decide) (by decide) (cb' := 597) (sb' := 2082) (by decide) (by decide) rfl (rest := []) (Nat.le_of_ble_eq_true rfl) (fun q h => h.elim) dX1_multiply_36 (fun v_100 H_101 hpost_102 hz_103 hk_104 => ?_)
    obtain rfl := hpost_102
    have hl_107 := CS.kf0 hC_fr_99 (kF.ext hz_103 hk_104) hl_45
    have hl_108 := Po.kf hC_fr_99 (kF.ext hz_103 hk_104) aD.no hl_46
    have hl_109 := Po.kf hC_fr_99 (kF.ext hz_103 hk_104) aD.no hl_47
    refine V.eq (st' := [vi (((Prod.fst (T (a i1)) : Nat) : Int) - 1)]) rfl ?_
    refine v_if_ge E (tgt := 62) dX1_multiply_39 (by decide) ⟨by omega, by omega⟩ (fun c_39 => ?_) (fun c_39 => ?_)
    · refine V.frame (fun hfz_fr_110 hfk_fr_110 => ?_)
      rw [hH0] at hfz_fr_110 hfk_fr_110
      rw [hA0] at hfk_fr_110
      have hC_fr_110 := hC.call hA93 hfz_fr_110 hfk_fr_110
      refine V.frame (fun hfz_fr_111 hfk_fr_111 => ?_)
      rw [hH0] at hfz_fr_111 hfk_fr_111
      rw [hA0] at hfk_fr_111
      refine v_new E in_J2 tyJ2 tyJ2_ok q113 q114 q73 (ci := 5) rfl (fs := [vi 0, .null, vi 0]) (fun j hj => by rcases (show j = 0 ∨ j = 1 ∨ j = 2 by omega) with rfl | rfl | rfl <;> rfl) (cb' := 596) (sb' := 2079) (by decide) (by decide) dX1_multiply_62 (fun l2 H_112 hq_115 ho_113 hg_114 => ?_)
      refine v_dup E rfl dX1_multiply_65 ?_
      refine V.frame (fun hfz_fr_116 hfk_fr_116 => ?_)
      rw [hH0] at hfz_fr_116 hfk_fr_116
      rw [hA0] at hfk_fr_116
      have hC_fr_116 := hC.call hA93 hfz_fr_116 hfk_fr_116
      have h93_l2 : κ.2 93 ≤ l2 := Nat.le_trans hC.le (by omega)
      refine v_callI E (As := []) (b := l2) (j_init κ H_112 h93_l2 hC_fr_116 ho_113) q117 q73 q115 q116 rfl 0 (by decide +kernel) rfl (by decide) (by decide) (cb' := 596) (sb' := 2079) (by decide) (by decide) rfl (rest := [.ref l2]) (Nat.le_of_ble_eq_true rfl) (fun q h => hNew q (by rw [show q = l2 from h]; omega)) dX1_multiply_66 (fun v_117 H_118 hpost_119 hz_120 hk_121 => ?_)
      obtain ⟨rfl, hA_l2⟩ := hpost_119
      have hkN_122 : ∀ q9 : Nat, q9 < Array.size H_101 → ¬ (fun _ => False : Nat → Prop) q9 → H_118[q9]? = H_101[q9]? := fun q9 h9 _ => (hk_121 q9 (by rw [hg_114.1]; omega) (fun h => by have h8 : q9 = l2 := h; omega)).trans (hg_114.2 q9 h9)
      have hl_123 := CS.kf0 hC_fr_110 (kF.ext (by have := hg_114.1; omega) hkN_122) hl_107
      have hl_124 := Po.kf hC_fr_110 (kF.ext (by have := hg_114.1; omega) hkN_122) aD.no hl_108
      have hl_125 := Po.kf hC_fr_110 (kF.ext (by have := hg_114.1; omega) hkN_122) aD.no hl_109
      have hLB_l2 := LB.nil (S := H0.size) (E := (eB κ (muC (T (a i0)) (T (a i1))))) hA_l2 (by omega)
      refine V.eq (st' := [.ref l2]) rfl ?_
      refine v_astore E dX1_multiply_69 (zlt hL rfl) (lv' := [(6, .ref l2), (5, .ref p5), (4, .ref p4), (0, .ref x), (1, vi ((i0 : Nat) : Int)), (2, vi ((i1 : Nat) : Int)), (3, vi ((i2 : Nat) : Int))]) rfl ?_
      refine v_iconst E dX1_multiply_71 ?_
      refine v_istore E dX1_multiply_72 (zlt hL rfl) (lv' := [(7, vi 0), (6, .ref l2), (5, .ref p5), (4, .ref p4), (0, .ref x), (1, vi ((i0 : Nat) : Int)), (2, vi ((i1 : Nat) : Int)), (3, vi ((i2 : Nat) : Int))]) rfl ?_
      have loop_74 : ∀ (m_74 : Nat) (H : Heap) (k b2 cb sb : Nat), ((T (a i0)).1 + (T (a i1)).1 - 1) - k < m_74 → (k ≤ ((T (a i0)).1 + (T (a i1)).1 - 1)) → (20 + 42 * (13 - k) + al1 k ≤ cb) → (120 + 140 * (13 - k) + 15 * al1 k ≤ sb) → LB κ H0.size (eB κ (muC (T (a i0)) (T (a i1)))) H l2 b2 k → Po κ (fun q => dS ls bs li bi q ∧ q < Array.size H0) H p4 (T (a i0)) → Po κ (fun q => dS ls bs li bi q ∧ q < Array.size H0) H p5 (T (a i1)) → CS κ (fun q => dS ls bs li bi q ∧ q < Array.size H0) H x ls bs li bi a iso T n cap iv → V z H cb sb 74 [(7, vi (k : Int)), (6, .ref l2), (5, .ref p5), (4, .ref p4), (3, vi ((i2 : Nat) : Int)), (2, vi ((i1 : Nat) : Int)), (1, vi ((i0 : Nat) : Int)), (0, .ref x)] [] := by
        intro m_74
        induction m_74 with
        | zero => intro H k b2 cb sb hm; exact absurd hm (by omega)
        | succ m_74 ih_74 =>
          intro H k b2 cb sb hm_74 hk hcb hsb hR hP4 hP5 hS2
          refine v_iload E 0 rfl dX1_multiply_74 ?_
          refine v_aload E 3 rfl dX1_multiply_76 ?_
          refine V.frame (fun hfz_fr_126 hfk_fr_126 => ?_)
          rw [hH0] at hfz_fr_126 hfk_fr_126
          rw [hA0] at hfk_fr_126
          have hC_fr_126 := hC.call hA93 hfz_fr_126 hfk_fr_126
          obtain ⟨-, -, l_133, ho_132, -⟩ := id hP4
          refine v_callV E (As := []) (b := p4) (ci := 2) (C := RX3) (T := TX3) (N := 1) ho_132 rfl (p_deg κ H hC_fr_126 hP4) (lw_V q617 q618 q619 q75 q620) 0 (by decide +kernel) rfl (by decide) (by decide) (cb' := (cb - 0)) (sb' := (sb - 0)) (by omega) (by omega) rfl (rest := [vi (k : Int)]) (Nat.le_of_ble_eq_true rfl) (fun q h => h.elim) dX1_multiply_78 (fun v_127 H_128 hpost_129 hz_130 hk_131 => ?_)
          obtain rfl := hpost_129
          have hl_134 := LB.kf (eB_L κ _) hC_fr_126 (kF.ext hz_130 hk_131) aD.f aD.no hR
          have hl_135 := Po.kf hC_fr_126 (kF.ext hz_130 hk_131) aD.no hP4
          have hl_136 := Po.kf hC_fr_126 (kF.ext hz_130 hk_131) aD.no hP5
          have hl_137 := CS.kf0 hC_fr_126 (kF.ext hz_130 hk_131) hS2
          refine V.eq (st' := [vi (((Prod.fst (T (a i0)) : Nat) : Int) - 1), vi (k : Int)]) rfl ?_
          refine v_aload E 2 rfl dX1_multiply_81 ?_
          refine V.frame (fun hfz_fr_138 hfk_fr_138 => ?_)
          rw [hH0] at hfz_fr_138 hfk_fr_138
          rw [hA0] at hfk_fr_138
          have hC_fr_138 := hC.call hA93 hfz_fr_138 hfk_fr_138
          obtain ⟨-, -, l_145, ho_144, -⟩ := id hl_136
          refine v_callV E (As := []) (b := p5) (ci := 2) (C := RX3) (T := TX3) (N := 1) ho_144 rfl (p_deg κ H_128 hC_fr_138 hl_136) (lw_V q617 q618 q619 q75 q620) 0 (by decide +kernel) rfl (by decide) (by decide) (cb' := ((cb - 0) - 0)) (sb' := ((sb - 0) - 0)) (by omega) (by omega) rfl (rest := [vi (((Prod.fst (T (a i0)) : Nat) : Int) - 1), vi (k : Int)]) (Nat.le_of_ble_eq_true rfl) (fun q h => h.elim) dX1_multiply_83 (fun v_139 H_140 hpost_141 hz_142 hk_143 => ?_)
          obtain rfl := hpost_141
          have hl_146 := LB.kf (eB_L κ _) hC_fr_138 (kF.ext hz_142 hk_143) aD.f aD.no hl_134
          have hl_147 := Po.kf hC_fr_138 (kF.ext hz_142 hk_143) aD.no hl_135
          have hl_148 := Po.kf hC_fr_138 (kF.ext hz_142 hk_143) aD.no hl_136
          have hl_149 := CS.kf0 hC_fr_138 (kF.ext hz_142 hk_143) hl_137
          refine V.eq (st' := [vi (((Prod.fst (T (a i1)) : Nat) : Int) - 1), vi (((Prod.fst (T (a i0)) : Nat) : Int) - 1), vi (k : Int)]) rfl ?_
          refine v_iadd E dX1_multiply_86 ?_
          refine v_icmp_gt E (tgt := 174) dX1_multiply_87 (by decide) ⟨by omega, by omega⟩ ⟨by omega, by omega⟩ (fun c_87 => ?_) (fun c_87 => ?_)
          · have hkn2 : k = ((T (a i0)).1 + (T (a i1)).1 - 1) := by omega
            have h7i := (hokT i0 hii0).1
            have h7j := (hokT i1 hii1).1
            have hR_150 := hkn2 ▸ hl_146
            refine v_aload_n E 7 rfl dX1_multiply_174 ?_
            refine v_iload_n E 4 rfl dX1_multiply_175 ?_
            refine V.frame (fun hfz_fr_151 hfk_fr_151 => ?_)
            rw [hH0] at hfz_fr_151 hfk_fr_151
            rw [hA0] at hfk_fr_151
            have hC_fr_151 := hC.call hA93 hfz_fr_151 hfk_fr_151
            refine V.frame (fun hfz_fr_152 hfk_fr_152 => ?_)
            rw [hH0] at hfz_fr_152 hfk_fr_152
            rw [hA0] at hfk_fr_152
            refine v_new E in_X3 tyX3 tyX3_ok q145 q146 q75 (ci := 2) rfl (fs := [.null]) (fun j hj => by rcases (show j = 0 by omega) with rfl <;> rfl) (cb' := (((cb - 0) - 0) - 1)) (sb' := (((sb - 0) - 0) - 1)) (by omega) (by omega) dX1_multiply_176 (fun pn H_153 hq_156 ho_154 hg_155 => ?_)
            refine v_dup E rfl dX1_multiply_179 ?_
            refine v_aload E 1 rfl dX1_multiply_180 ?_
            refine V.frame (fun hfz_fr_157 hfk_fr_157 => ?_)
            rw [hH0] at hfz_fr_157 hfk_fr_157
            rw [hA0] at hfk_fr_157
            have hC_fr_157 := hC.call hA93 hfz_fr_157 hfk_fr_157
            have hLB_158 := LB.kf (eB_L κ _) hC_fr_151 (kF.grow hg_155) aD.no aD.no hR_150
            refine v_callI E (As := [.ref l2]) (b := pn) (p_init κ H_153 (D := (dS ls bs li bi)) (n := ((T (a i0)).1 + (T (a i1)).1 - 1)) (c := muC (T (a i0)) (T (a i1))) hC_fr_157 (Nat.le_trans hC.le (by omega)) (by omega) (fun q h => by have h2 := hsl0; exact ⟨by omega, by omega, by omega, by omega⟩) hC.le ho_154 hLB_158) q149 q75 q147 q148 rfl 1 (by decide +kernel) rfl (by decide) (by decide) (cb' := ((((cb - 0) - 0) - 1) - 0)) (sb' := ((((sb - 0) - 0) - 1) - 0)) (by omega) (by omega) rfl (rest := [.ref pn, vi ((i2 : Nat) : Int), .ref x]) (Nat.le_of_ble_eq_true rfl) (fun q h => hNew q (h.elim (fun h => by rw [h]; omega) (fun h => h.elim (fun h => by rw [h]; exact (hR_150).choose_spec.choose_spec.2.2.1) (fun h => by rw [h.1]; exact (hR_150).choose_spec.choose_spec.2.2.2 h.2)))) dX1_multiply_182 (fun v_159 H_160 hpost_161 hz_162 hk_163 => ?_)
            obtain ⟨rfl, hPo_pn⟩ := hpost_161
            obtain ⟨md_165, g_166, hA_167, -, hSl_168, hSb_169⟩ := id hR_150
            have hkN_164 : ∀ q9 : Nat, q9 < Array.size H_140 → ¬ (q9 = l2 ∨ (q9 = b2 ∧ 0 < ((T (a i0)).1 + (T (a i1)).1 - 1))) → H_160[q9]? = H_140[q9]? := fun q9 h9 h8 => (hk_163 q9 (by rw [hg_155.1]; omega) (fun h => h.elim (fun h => by omega) h8)).trans (hg_155.2 q9 h9)
            have hF_170 : kF κ H_140 H_160 (fun q => q = l2 ∨ (q = b2 ∧ 0 < ((T (a i0)).1 + (T (a i1)).1 - 1))) := kF.lst hA_167 (fun q h => h.imp id (fun h => ⟨h.1, capR_pos h.2⟩)) (by have := hg_155.1; omega) hkN_164
            have hl_171 := Po.kf hC_fr_151 hF_170 (aD.nn (fun q h hd => absurd hd.2 (Nat.not_lt.mpr (h.elim (fun e => by rw [e]; exact hSl_168) (fun e => by rw [e.1]; exact hSb_169 e.2))))) hl_147
            have hl_172 := Po.kf hC_fr_151 hF_170 (aD.nn (fun q h hd => absurd hd.2 (Nat.not_lt.mpr (h.elim (fun e => by rw [e]; exact hSl_168) (fun e => by rw [e.1]; exact hSb_169 e.2))))) hl_148
            have hl_173 := CS.kf hC_fr_151 hF_170 (aD.nn (fun q h hd => absurd hd.2 (Nat.not_lt.mpr (h.elim (fun e => by rw [e]; exact hSl_168) (fun e => by rw [e.1]; exact hSb_169 e.2))))) (fun q h => by have h1 : H0.size ≤ q := h.elim (fun e => by rw [e]; exact hSl_168) (fun e => by rw [e.1]; exact hSb_169 e.2); have h3 := hsl0; exact ⟨by omega, by omega, by omega, by omega, fun _ => by omega⟩) hl_149
            refine V.eq (st' := [.ref pn, vi ((i2 : Nat) : Int), .ref x]) rfl ?_
            have hSo_174 := CS.mono (D' := dS ls bs li bi) hl_173 (fun q h1 h2 => h2.1)
            have hop : xoMul S (i0 : Int) (i1 : Int) (i2 : Int) = storeR (mkP ((T (a i0)).1 + (T (a i1)).1 - 1) (muC (T (a i0)) (T (a i1)))) i2 2 S := by unfold xoMul; rw [if_pos ⟨⟨by omega, by omega⟩, ⟨by omega, by omega⟩, by omega, by omega⟩]; show (if (S i0).1 = 0 ∨ (S i1).1 = 0 then _ else storeR (mkP ((S i0).1 + (S i1).1 - 1) (muC (S i0) (S i1))) i2 2 S) = _; rw [hST i0 hii0, hST i1 hii1]; exact if_neg (by omega)
            refine V.frame (fun hfz_fr_175 hfk_fr_175 => ?_)
            rw [hH0] at hfz_fr_175 hfk_fr_175
            rw [hA0] at hfk_fr_175
            have hC_fr_175 := hC.call hA93 hfz_fr_175 hfk_fr_175
            obtain ⟨md_177, g_178, hA_176, hg_179⟩ := hSo_174.2.2.1
            refine v_callVX E X9 hE (As := [vi ((i2 : Nat) : Int), .ref pn]) (b := x) (ci := 0) (C := RX1) (T := TX1) (N := 3) hSo_174.2.1 rfl (x_store κ H_160 hii2 hC_fr_175 dS_bs hPo_pn hSo_174) (lw_V q612 q614 qs9 q70 q615) 2 (by decide +kernel) rfl (by decide) (by decide) (cb' := (((((cb - 0) - 0) - 1) - 0) - 18)) (sb' := (((((sb - 0) - 0) - 1) - 0) - 110)) (by omega) (by omega) rfl (rest := []) (Nat.le_of_ble_eq_true rfl) (fun q h => by have h9 := pA.arr hfk_fr_175 hA_176.2.1 (hA_176.2.2.2.2.2.2.2.2.1 (by decide)); rw [← show q = bs from h] at h9; exact h9.elim (fun e => hAll q e) (fun e => hNew q e)) dX1_multiply_185 (fun C9 H9 hx9 hz9 hk9 => (by exact ⟨Or.inr (⟨hx9.1, by rw [hop, storeR_n hPo_pn.1 hx9.2.1]⟩), CS.pub hx9.2.2 hST hiso⟩)) (fun v_180 H_181 hpost_182 hz_183 hk_184 => ?_)
            obtain ⟨hok9, rfl, kq, hkq9, hS9⟩ := hpost_182
            refine V.eq (st' := [vi (((Prod.fst (mkP ((T (a i0)).1 + (T (a i1)).1 - 1) (muC (T (a i0)) (T (a i1)))) : Nat) : Int) - 1)]) rfl ?_
            refine V.rt E hE (fun z9 E hE => ?_)
            refine v_iret E hE dX1_multiply_188 ?_
            rw [hop, storeR_y hok9]; exact ⟨rfl, rfl, CS.pubT hSo_174 hkq9 hS9 hST hiso⟩
          · have h7i := (hokT i0 hii0).1
            have h7j := (hokT i1 hii1).1
            refine v_lconst E (x := 0) rfl dX1_multiply_90 ?_
            refine V.frame (fun hfz_fr_187 hfk_fr_187 => ?_)
            rw [hH0] at hfz_fr_187 hfk_fr_187
            rw [hA0] at hfk_fr_187
            have hC_fr_187 := hC.call hA93 hfz_fr_187 hfk_fr_187
            refine v_callS E (As := [vj 0]) (p_numS κ H_140 (x := 0) hC_fr_187 ⟨by decide, by decide⟩) (lw_S q611 q472 q70 q473) 1 (by decide +kernel) rfl (by decide) (by decide) (cb' := (((cb - 0) - 0) - 0)) (sb' := (((sb - 0) - 0) - 0)) (by omega) (by omega) rfl (rest := []) (Nat.le_of_ble_eq_true rfl) (fun q h => h.elim) dX1_multiply_91 (fun v_188 H_189 hpost_190 hz_191 hk_192 => ?_)
            obtain ⟨nq_185, rfl, hnq_186⟩ := hpost_190
            have hl_193 := LB.kf (eB_L κ _) hC_fr_187 (kF.ext hz_191 hk_192) aD.f aD.no hl_146
            have hl_194 := Po.kf hC_fr_187 (kF.ext hz_191 hk_192) aD.no hl_147
            have hl_195 := Po.kf hC_fr_187 (kF.ext hz_191 hk_192) aD.no hl_148
            have hl_196 := CS.kf0 hC_fr_187 (kF.ext hz_191 hk_192) hl_149
            refine V.eq (st' := [.ref nq_185]) rfl ?_
            refine v_astore E dX1_multiply_94 (zlt hL rfl) (lv' := [(8, .ref nq_185), (7, vi (k : Int)), (6, .ref l2), (5, .ref p5), (4, .ref p4), (3, vi ((i2 : Nat) : Int)), (2, vi ((i1 : Nat) : Int)), (1, vi ((i0 : Nat) : Int)), (0, .ref x)]) rfl ?_
            refine v_iconst E dX1_multiply_96 ?_
            refine v_iload E 1 rfl dX1_multiply_97 ?_
            refine v_aload E 3 rfl dX1_multiply_99 ?_
            refine V.frame (fun hfz_fr_197 hfk_fr_197 => ?_)
            rw [hH0] at hfz_fr_197 hfk_fr_197
            rw [hA0] at hfk_fr_197
            have hC_fr_197 := hC.call hA93 hfz_fr_197 hfk_fr_197
            obtain ⟨-, -, l_204, ho_203, -⟩ := id hl_195
            refine v_callV E (As := []) (b := p5) (ci := 2) (C := RX3) (T := TX3) (N := 1) ho_203 rfl (p_deg κ H_189 hC_fr_197 hl_195) (lw_V q617 q618 q619 q75 q620) 0 (by decide +kernel) rfl (by decide) (by decide) (cb' := ((((cb - 0) - 0) - 0) - 0)) (sb' := ((((sb - 0) - 0) - 0) - 0)) (by omega) (by omega) rfl (rest := [vi (k : Int), vi 0]) (Nat.le_of_ble_eq_true rfl) (fun q h => h.elim) dX1_multiply_101 (fun v_198 H_199 hpost_200 hz_201 hk_202 => ?_)
            obtain rfl := hpost_200
            have hl_205 := LB.kf (eB_L κ _) hC_fr_197 (kF.ext hz_201 hk_202) aD.f aD.no hl_193
            have hl_206 := Po.kf hC_fr_197 (kF.ext hz_201 hk_202) aD.no hl_194
            have hl_207 := Po.kf hC_fr_197 (kF.ext hz_201 hk_202) aD.no hl_195
            have hl_208 := CS.kf0 hC_fr_197 (kF.ext hz_201 hk_202) hl_196
            have hl_209 := BI.kf hC.D (kF.ext hz_201 hk_202) hnq_186
            refine V.eq (st' := [vi (((Prod.fst (T (a i1)) : Nat) : Int) - 1), vi (k : Int), vi 0]) rfl ?_
            refine v_isub E dX1_multiply_104 ?_
            refine v_mmax E ⟨by omega, by omega⟩ ⟨by omega, by omega⟩ q958 q228 q80 q229 (by decide) (Nat.le_of_ble_eq_true rfl) dX1_multiply_105 ?_
            refine V.topi (x' := (((k - ((T (a i1)).1 - 1)) : Nat) : Int)) (congrArg iZ (by omega)) ?_
            refine v_istore E dX1_multiply_108 (zlt hL rfl) (lv' := [(9, vi (((k - ((T (a i1)).1 - 1)) : Nat) : Int)), (8, .ref nq_185), (7, vi (k : Int)), (6, .ref l2), (5, .ref p5), (4, .ref p4), (3, vi ((i2 : Nat) : Int)), (2, vi ((i1 : Nat) : Int)), (1, vi ((i0 : Nat) : Int)), (0, .ref x)]) rfl ?_
            have loop_110 : ∀ (m_110 : Nat) (H : Heap) (w2 i tq cb2 sb2 : Nat), 7 - w2 < m_110 → (i = (k - ((T (a i1)).1 - 1)) + w2) → ((k - ((T (a i1)).1 - 1)) + w2 ≤ min (T (a i0)).1 (k + 1)) → (20 + 42 * (12 - k) + al1 k + 6 * (7 - w2) ≤ cb2) → (120 + 140 * (12 - k) + 15 * al1 k + 20 * (7 - w2) ≤ sb2) → LB κ H0.size (eB κ (muC (T (a i0)) (T (a i1)))) H l2 b2 k → Po κ (fun q => dS ls bs li bi q ∧ q < Array.size H0) H p4 (T (a i0)) → Po κ (fun q => dS ls bs li bi q ∧ q < Array.size H0) H p5 (T (a i1)) → CS κ (fun q => dS ls bs li bi q ∧ q < Array.size H0) H x ls bs li bi a iso T n cap iv → BI κ H tq (muT (T (a i0)).2 (T (a i1)).2 k (k - ((T (a i1)).1 - 1)) w2) → V z H cb2 sb2 110 [(9, vi (i : Int)), (8, .ref tq), (7, vi (k : Int)), (6, .ref l2), (5, .ref p5), (4, .ref p4), (3, vi ((i2 : Nat) : Int)), (2, vi ((i1 : Nat) : Int)), (1, vi ((i0 : Nat) : Int)), (0, .ref x)] [] := by
              intro m_110
              induction m_110 with
              | zero => intro H w2 i tq cb2 sb2 hm; exact absurd hm (by omega)
              | succ m_110 ih_110 =>
                intro H w2 i tq cb2 sb2 hm_110 hi9 hwm hcb2 hsb2 hR hP4 hP5 hS2 hT
                refine v_iload E 0 rfl dX1_multiply_110 ?_
                refine v_aload E 5 rfl dX1_multiply_112 ?_
                refine V.frame (fun hfz_fr_210 hfk_fr_210 => ?_)
                rw [hH0] at hfz_fr_210 hfk_fr_210
                rw [hA0] at hfk_fr_210
                have hC_fr_210 := hC.call hA93 hfz_fr_210 hfk_fr_210
                obtain ⟨-, -, l_217, ho_216, -⟩ := id hP4
                refine v_callV E (As := []) (b := p4) (ci := 2) (C := RX3) (T := TX3) (N := 1) ho_216 rfl (p_deg κ H hC_fr_210 hP4) (lw_V q617 q618 q619 q75 q620) 0 (by decide +kernel) rfl (by decide) (by decide) (cb' := (cb2 - 0)) (sb' := (sb2 - 0)) (by omega) (by omega) rfl (rest := [vi (i : Int)]) (Nat.le_of_ble_eq_true rfl) (fun q h => h.elim) dX1_multiply_114 (fun v_211 H_212 hpost_213 hz_214 hk_215 => ?_)
                obtain rfl := hpost_213
                have hl_218 := LB.kf (eB_L κ _) hC_fr_210 (kF.ext hz_214 hk_215) aD.f aD.no hR
                have hl_219 := Po.kf hC_fr_210 (kF.ext hz_214 hk_215) aD.no hP4
                have hl_220 := Po.kf hC_fr_210 (kF.ext hz_214 hk_215) aD.no hP5
                have hl_221 := CS.kf0 hC_fr_210 (kF.ext hz_214 hk_215) hS2
                have hl_222 := BI.kf hC.D (kF.ext hz_214 hk_215) hT
                refine V.eq (st' := [vi (((Prod.fst (T (a i0)) : Nat) : Int) - 1), vi (i : Int)]) rfl ?_
                refine v_icmp_gt E (tgt := 160) dX1_multiply_117 (by decide) ⟨by omega, by omega⟩ ⟨by omega, by omega⟩ (fun c_117 => ?_) (fun c_117 => ?_)
                · have hT_223 : BI κ H_212 tq (muC (T (a i0)) (T (a i1)) k) := by
                    show BI κ H_212 tq (muT (T (a i0)).2 (T (a i1)).2 k (k - ((T (a i1)).1 - 1)) (min (T (a i0)).1 (k + 1) - (k - ((T (a i1)).1 - 1))))
                    rw [show min (T (a i0)).1 (k + 1) - (k - ((T (a i1)).1 - 1)) = w2 by omega]
                    exact hl_222
                  refine v_aload E 3 rfl dX1_multiply_160 ?_
                  refine v_aload E 1 rfl dX1_multiply_162 ?_
                  refine V.frame (fun hfz_fr_224 hfk_fr_224 => ?_)
                  rw [hH0] at hfz_fr_224 hfk_fr_224
                  rw [hA0] at hfk_fr_224
                  have hC_fr_224 := hC.call hA93 hfz_fr_224 hfk_fr_224
                  obtain ⟨md_225, g_226, hA_227, hel_228, hSl_229, hSb_230⟩ := id hl_218
                  have hal_231 := al_b k (show k < 15 by omega)
                  obtain ⟨md_237, g_238, hA_239, -⟩ := id hl_218
                  refine v_callV E (As := [.ref tq]) (b := l2) (ci := 5) (C := RJ2) (T := TJ2) (N := 3) hA_239.1 rfl (j_addB κ H_212 hC_fr_224 (show k < 15 by omega) hT_223.oA hA_227) (lw_V q208 q209 q210 q73 q211) 1 (by decide +kernel) rfl (by decide) (by decide) (cb' := ((cb2 - 0) - alM k)) (sb' := ((sb2 - 0) - alS k)) (by omega) (by omega) rfl (rest := []) (Nat.le_of_ble_eq_true rfl) (fun q h => hNew q (h.elim (fun h => by rw [h]; exact Nat.le_trans (Nat.le_refl _) hSl_229) (fun h => by rw [h.1]; exact Nat.le_trans (Nat.le_refl _) (hSb_230 h.2)))) dX1_multiply_164 (fun v_232 H_233 hpost_234 hz_235 hk_236 => ?_)
                  obtain ⟨rfl, b_240, md_241, g_242, hA_243, hg_244, hgn_245, hb_246⟩ := hpost_234
                  have hF_247 := (kF.lst hA_227 (fun q h => h.imp id (fun h => ⟨h.1, capR_pos h.2⟩)) hz_235 hk_236)
                  have hl_248 := Po.kf hC_fr_224 hF_247 (aD.nn (fun q h hd => absurd hd.2 (Nat.not_lt.mpr (h.elim (fun e => by rw [e]; exact hSl_229) (fun e => by rw [e.1]; exact hSb_230 e.2))))) hl_219
                  have hl_249 := Po.kf hC_fr_224 hF_247 (aD.nn (fun q h hd => absurd hd.2 (Nat.not_lt.mpr (h.elim (fun e => by rw [e]; exact hSl_229) (fun e => by rw [e.1]; exact hSb_230 e.2))))) hl_220
                  have hl_250 := CS.kf hC_fr_224 hF_247 (aD.nn (fun q h hd => absurd hd.2 (Nat.not_lt.mpr (h.elim (fun e => by rw [e]; exact hSl_229) (fun e => by rw [e.1]; exact hSb_230 e.2))))) (fun q h => by have h1 : H0.size ≤ q := h.elim (fun e => by rw [e]; exact hSl_229) (fun e => by rw [e.1]; exact hSb_230 e.2); have h3 := hsl0; exact ⟨by omega, by omega, by omega, by omega, fun _ => by omega⟩) hl_221
                  have hl_251 := BI.kf hC.D hF_247 hT_223
                  have hv_253 := BI.kf hC.D hF_247 hT_223
                  have hLB_252 : LB κ H0.size (eB κ (muC (T (a i0)) (T (a i1)))) H_233 l2 b_240 (k + 1) := LB.step (fun k9 hk9 => (hel_228 k9 hk9).elim (fun y hy => ⟨y, hy.1, (eB_L κ _) _ _ _ _ _ hC_fr_224 hF_247 aD.f hy.2⟩)) hv_253 hA_243 hg_244 hgn_245 hSl_229 (hb_246.elim (fun h => by rw [h.1]; exact hSb_230 h.2) (fun h => Nat.le_trans (show H0.size ≤ Array.size H_212 from hfz_fr_224) h))
                  refine V.eq (st' := [vi 1]) rfl ?_
                  refine v_pop E rfl dX1_multiply_167 ?_
                  refine v_iinc E 2 rfl dX1_multiply_168 (zlt hL rfl) (lv' := [(7, vi ((k : Int) + 1)), (9, vi (i : Int)), (8, .ref tq), (6, .ref l2), (5, .ref p5), (4, .ref p4), (3, vi ((i2 : Nat) : Int)), (2, vi ((i1 : Nat) : Int)), (1, vi ((i0 : Nat) : Int)), (0, .ref x)]) rfl ?_
                  refine v_goto E (tgt := 74) dX1_multiply_171 (by decide) ?_
                  refine V.sub [0, 3, 4, 5, 6, 7, 8, 9] (lv' := [(7, vi ((k : Int) + 1)), (6, .ref l2), (5, .ref p5), (4, .ref p4), (3, vi ((i2 : Nat) : Int)), (2, vi ((i1 : Nat) : Int)), (1, vi ((i0 : Nat) : Int)), (0, .ref x)]) rfl ?_
                  exact ih_74  H_233 (k + 1) _ ((cb2 - 0) - alM k) ((sb2 - 0) - alS k) (by omega) (by omega) (by omega) (by omega) hLB_252 hl_248 hl_249 hl_250
                · refine v_iload E 0 rfl dX1_multiply_120 ?_
                  refine v_iload E 2 rfl dX1_multiply_122 ?_
                  refine v_icmp_gt E (tgt := 160) dX1_multiply_124 (by decide) ⟨by omega, by omega⟩ ⟨by omega, by omega⟩ (fun c_124 => ?_) (fun c_124 => ?_)
                  · have hT_254 : BI κ H_212 tq (muC (T (a i0)) (T (a i1)) k) := by
                      show BI κ H_212 tq (muT (T (a i0)).2 (T (a i1)).2 k (k - ((T (a i1)).1 - 1)) (min (T (a i0)).1 (k + 1) - (k - ((T (a i1)).1 - 1))))
                      rw [show min (T (a i0)).1 (k + 1) - (k - ((T (a i1)).1 - 1)) = w2 by omega]
                      exact hl_222
                    refine v_aload E 3 rfl dX1_multiply_160 ?_
                    refine v_aload E 1 rfl dX1_multiply_162 ?_
                    refine V.frame (fun hfz_fr_255 hfk_fr_255 => ?_)
                    rw [hH0] at hfz_fr_255 hfk_fr_255
                    rw [hA0] at hfk_fr_255
                    have hC_fr_255 := hC.call hA93 hfz_fr_255 hfk_fr_255
                    obtain ⟨md_256, g_257, hA_258, hel_259, hSl_260, hSb_261⟩ := id hl_218
                    have hal_262 := al_b k (show k < 15 by omega)
                    obtain ⟨md_268, g_269, hA_270, -⟩ := id hl_218
                    refine v_callV E (As := [.ref tq]) (b := l2) (ci := 5) (C := RJ2) (T := TJ2) (N := 3) hA_270.1 rfl (j_addB κ H_212 hC_fr_255 (show k < 15 by omega) hT_254.oA hA_258) (lw_V q208 q209 q210 q73 q211) 1 (by decide +kernel) rfl (by decide) (by decide) (cb' := ((cb2 - 0) - alM k)) (sb' := ((sb2 - 0) - alS k)) (by omega) (by omega) rfl (rest := []) (Nat.le_of_ble_eq_true rfl) (fun q h => hNew q (h.elim (fun h => by rw [h]; exact Nat.le_trans (Nat.le_refl _) hSl_260) (fun h => by rw [h.1]; exact Nat.le_trans (Nat.le_refl _) (hSb_261 h.2)))) dX1_multiply_164 (fun v_263 H_264 hpost_265 hz_266 hk_267 => ?_)
                    obtain ⟨rfl, b_271, md_272, g_273, hA_274, hg_275, hgn_276, hb_277⟩ := hpost_265
                    have hF_278 := (kF.lst hA_258 (fun q h => h.imp id (fun h => ⟨h.1, capR_pos h.2⟩)) hz_266 hk_267)
                    have hl_279 := Po.kf hC_fr_255 hF_278 (aD.nn (fun q h hd => absurd hd.2 (Nat.not_lt.mpr (h.elim (fun e => by rw [e]; exact hSl_260) (fun e => by rw [e.1]; exact hSb_261 e.2))))) hl_219
                    have hl_280 := Po.kf hC_fr_255 hF_278 (aD.nn (fun q h hd => absurd hd.2 (Nat.not_lt.mpr (h.elim (fun e => by rw [e]; exact hSl_260) (fun e => by rw [e.1]; exact hSb_261 e.2))))) hl_220
                    have hl_281 := CS.kf hC_fr_255 hF_278 (aD.nn (fun q h hd => absurd hd.2 (Nat.not_lt.mpr (h.elim (fun e => by rw [e]; exact hSl_260) (fun e => by rw [e.1]; exact hSb_261 e.2))))) (fun q h => by have h1 : H0.size ≤ q := h.elim (fun e => by rw [e]; exact hSl_260) (fun e => by rw [e.1]; exact hSb_261 e.2); have h3 := hsl0; exact ⟨by omega, by omega, by omega, by omega, fun _ => by omega⟩) hl_221
                    have hl_282 := BI.kf hC.D hF_278 hT_254
                    have hv_284 := BI.kf hC.D hF_278 hT_254
                    have hLB_283 : LB κ H0.size (eB κ (muC (T (a i0)) (T (a i1)))) H_264 l2 b_271 (k + 1) := LB.step (fun k9 hk9 => (hel_259 k9 hk9).elim (fun y hy => ⟨y, hy.1, (eB_L κ _) _ _ _ _ _ hC_fr_255 hF_278 aD.f hy.2⟩)) hv_284 hA_274 hg_275 hgn_276 hSl_260 (hb_277.elim (fun h => by rw [h.1]; exact hSb_261 h.2) (fun h => Nat.le_trans (show H0.size ≤ Array.size H_212 from hfz_fr_255) h))
                    refine V.eq (st' := [vi 1]) rfl ?_
                    refine v_pop E rfl dX1_multiply_167 ?_
                    refine v_iinc E 2 rfl dX1_multiply_168 (zlt hL rfl) (lv' := [(7, vi ((k : Int) + 1)), (9, vi (i : Int)), (8, .ref tq), (6, .ref l2), (5, .ref p5), (4, .ref p4), (3, vi ((i2 : Nat) : Int)), (2, vi ((i1 : Nat) : Int)), (1, vi ((i0 : Nat) : Int)), (0, .ref x)]) rfl ?_
                    refine v_goto E (tgt := 74) dX1_multiply_171 (by decide) ?_
                    refine V.sub [0, 3, 4, 5, 6, 7, 8, 9] (lv' := [(7, vi ((k : Int) + 1)), (6, .ref l2), (5, .ref p5), (4, .ref p4), (3, vi ((i2 : Nat) : Int)), (2, vi ((i1 : Nat) : Int)), (1, vi ((i0 : Nat) : Int)), (0, .ref x)]) rfl ?_
                    exact ih_74  H_264 (k + 1) _ ((cb2 - 0) - alM k) ((sb2 - 0) - alS k) (by omega) (by omega) (by omega) (by omega) hLB_283 hl_279 hl_280 hl_281
                  · have hpx := (hokT i0 hii0).2 i
                    have hqx := (hokT i1 hii1).2 (k - i)
                    have hpq := mul4 hpx hqx
                    have hsm := muT_b (k := k) (lo := (k - ((T (a i1)).1 - 1))) (hokT i0 hii0).2 (hokT i1 hii1).2 w2
                    have h7i := (hokT i0 hii0).1
                    refine v_aload E 1 rfl dX1_multiply_127 ?_
                    refine v_aload E 5 rfl dX1_multiply_129 ?_
                    refine v_iload E 0 rfl dX1_multiply_131 ?_
                    refine V.frame (fun hfz_fr_287 hfk_fr_287 => ?_)
                    rw [hH0] at hfz_fr_287 hfk_fr_287
                    rw [hA0] at hfk_fr_287
                    have hC_fr_287 := hC.call hA93 hfz_fr_287 hfk_fr_287
                    obtain ⟨-, -, l_294, ho_293, -⟩ := id hl_219
                    refine v_callV E (As := [vi (i : Int)]) (b := p4) (ci := 2) (C := RX3) (T := TX3) (N := 1) ho_293 rfl (p_at κ H_212 (i := i) (by omega) hC_fr_287 hl_219) (lw_V q467 q468 q469 q75 q470) 1 (by decide +kernel) rfl (by decide) (by decide) (cb' := ((cb2 - 0) - 0)) (sb' := ((sb2 - 0) - 0)) (by omega) (by omega) rfl (rest := [.ref tq]) (Nat.le_of_ble_eq_true rfl) (fun q h => h.elim) dX1_multiply_133 (fun v_288 H_289 hpost_290 hz_291 hk_292 => ?_)
                    obtain ⟨qa_285, rfl, hBa_286⟩ := hpost_290
                    have hl_295 := LB.kf (eB_L κ _) hC_fr_287 (kF.ext hz_291 hk_292) aD.f aD.no hl_218
                    have hl_296 := Po.kf hC_fr_287 (kF.ext hz_291 hk_292) aD.no hl_219
                    have hl_297 := Po.kf hC_fr_287 (kF.ext hz_291 hk_292) aD.no hl_220
                    have hl_298 := CS.kf0 hC_fr_287 (kF.ext hz_291 hk_292) hl_221
                    have hl_299 := BI.kf hC.D (kF.ext hz_291 hk_292) hl_222
                    refine V.eq (st' := [.ref qa_285, .ref tq]) rfl ?_
                    refine v_aload E 4 rfl dX1_multiply_136 ?_
                    refine v_iload E 2 rfl dX1_multiply_138 ?_
                    refine v_iload E 0 rfl dX1_multiply_140 ?_
                    refine v_isub E dX1_multiply_142 ?_
                    refine V.topi (x' := ((k - i : Nat) : Int)) (congrArg iZ (by omega)) ?_
                    refine V.frame (fun hfz_fr_302 hfk_fr_302 => ?_)
                    rw [hH0] at hfz_fr_302 hfk_fr_302
                    rw [hA0] at hfk_fr_302
                    have hC_fr_302 := hC.call hA93 hfz_fr_302 hfk_fr_302
                    obtain ⟨-, -, l_309, ho_308, -⟩ := id hl_297
                    refine v_callV E (As := [vi ((k - i : Nat) : Int)]) (b := p5) (ci := 2) (C := RX3) (T := TX3) (N := 1) ho_308 rfl (p_at κ H_289 (i := (k - i)) (by omega) hC_fr_302 hl_297) (lw_V q467 q468 q469 q75 q470) 1 (by decide +kernel) rfl (by decide) (by decide) (cb' := (((cb2 - 0) - 0) - 0)) (sb' := (((sb2 - 0) - 0) - 0)) (by omega) (by omega) rfl (rest := [.ref qa_285, .ref tq]) (Nat.le_of_ble_eq_true rfl) (fun q h => h.elim) dX1_multiply_143 (fun v_303 H_304 hpost_305 hz_306 hk_307 => ?_)
                    obtain ⟨qa_300, rfl, hBa_301⟩ := hpost_305
                    have hl_310 := LB.kf (eB_L κ _) hC_fr_302 (kF.ext hz_306 hk_307) aD.f aD.no hl_295
                    have hl_311 := Po.kf hC_fr_302 (kF.ext hz_306 hk_307) aD.no hl_296
                    have hl_312 := Po.kf hC_fr_302 (kF.ext hz_306 hk_307) aD.no hl_297
                    have hl_313 := CS.kf0 hC_fr_302 (kF.ext hz_306 hk_307) hl_298
                    have hl_314 := BI.kf hC.D (kF.ext hz_306 hk_307) hl_299
                    have hl_315 := BI.kf hC.D (kF.ext hz_306 hk_307) hBa_286
                    refine V.eq (st' := [.ref qa_300, .ref qa_285, .ref tq]) rfl ?_
                    refine V.frame (fun hfz_fr_318 hfk_fr_318 => ?_)
                    rw [hH0] at hfz_fr_318 hfk_fr_318
                    rw [hA0] at hfk_fr_318
                    have hC_fr_318 := hC.call hA93 hfz_fr_318 hfk_fr_318
                    obtain ⟨mz_325, nz_325, cfz_325, ⟨c1z_325, c2z_325, c3z_325, ho_324⟩, -⟩ := id hl_315
                    refine v_callV E (As := [.ref qa_300]) (b := qa_285) (ci := 6) (C := RJ16) (T := TJ16) (N := 6) ho_324 rfl (g_mul κ H_304 (N := 1) (M := 1) hC_fr_318 hl_315 hBa_301 (n32 (by omega)) (n32 (by omega)) (Or.inl (by decide)) (sB_m (N := 1) (M := 1) (n32 (by omega)) (n32 (by omega)) (by decide))) (lw_V q959 q960 q961 q91 q962) 1 (by decide +kernel) rfl (by decide) (by decide) (cb' := ((((cb2 - 0) - 0) - 0) - 3)) (sb' := ((((sb2 - 0) - 0) - 0) - (2 * (1 + 1) + 7))) (by omega) (by omega) rfl (rest := [.ref tq]) (Nat.le_of_ble_eq_true rfl) (fun q h => h.elim) dX1_multiply_146 (fun v_319 H_320 hpost_321 hz_322 hk_323 => ?_)
                    obtain ⟨qm_316, rfl, hBm_317⟩ := hpost_321
                    have hl_326 := LB.kf (eB_L κ _) hC_fr_318 (kF.ext hz_322 hk_323) aD.f aD.no hl_310
                    have hl_327 := Po.kf hC_fr_318 (kF.ext hz_322 hk_323) aD.no hl_311
                    have hl_328 := Po.kf hC_fr_318 (kF.ext hz_322 hk_323) aD.no hl_312
                    have hl_329 := CS.kf0 hC_fr_318 (kF.ext hz_322 hk_323) hl_313
                    have hl_330 := BI.kf hC.D (kF.ext hz_322 hk_323) hl_314
                    have hl_331 := BI.kf hC.D (kF.ext hz_322 hk_323) hl_315
                    have hl_332 := BI.kf hC.D (kF.ext hz_322 hk_323) hBa_301
                    refine V.eq (st' := [.ref qm_316, .ref tq]) rfl ?_
                    refine V.frame (fun hfz_fr_335 hfk_fr_335 => ?_)
                    rw [hH0] at hfz_fr_335 hfk_fr_335
                    rw [hA0] at hfk_fr_335
                    have hC_fr_335 := hC.call hA93 hfz_fr_335 hfk_fr_335
                    obtain ⟨mz_342, nz_342, cfz_342, ⟨c1z_342, c2z_342, c3z_342, ho_341⟩, -⟩ := id hl_330
                    refine v_callV E (As := [.ref qm_316]) (b := tq) (ci := 6) (C := RJ16) (T := TJ16) (N := 6) ho_341 rfl (g_add κ H_320 (N := 1) hC_fr_335 hl_330 hBm_317 (n32 (by omega)) (n32 (by omega)) (sB_s (N := 1) (n32 (by omega)) (n32 (by omega)) (by decide))) (lw_V q704 q705 q706 q91 q707) 1 (by decide +kernel) rfl (by decide) (by decide) (cb' := (((((cb2 - 0) - 0) - 0) - 3) - 3)) (sb' := (((((sb2 - 0) - 0) - 0) - (2 * (1 + 1) + 7)) - 9)) (by omega) (by omega) rfl (rest := []) (Nat.le_of_ble_eq_true rfl) (fun q h => h.elim) dX1_multiply_149 (fun v_336 H_337 hpost_338 hz_339 hk_340 => ?_)
                    obtain ⟨qs_333, rfl, hBs_334⟩ := hpost_338
                    have hl_343 := LB.kf (eB_L κ _) hC_fr_335 (kF.ext hz_339 hk_340) aD.f aD.no hl_326
                    have hl_344 := Po.kf hC_fr_335 (kF.ext hz_339 hk_340) aD.no hl_327
                    have hl_345 := Po.kf hC_fr_335 (kF.ext hz_339 hk_340) aD.no hl_328
                    have hl_346 := CS.kf0 hC_fr_335 (kF.ext hz_339 hk_340) hl_329
                    have hl_347 := BI.kf hC.D (kF.ext hz_339 hk_340) hl_330
                    have hl_348 := BI.kf hC.D (kF.ext hz_339 hk_340) hl_331
                    have hl_349 := BI.kf hC.D (kF.ext hz_339 hk_340) hl_332
                    have hl_350 := BI.kf hC.D (kF.ext hz_339 hk_340) hBm_317
                    refine V.eq (st' := [.ref qs_333]) rfl ?_
                    refine v_astore E dX1_multiply_152 (zlt hL rfl) (lv' := [(8, .ref qs_333), (9, vi (i : Int)), (7, vi (k : Int)), (6, .ref l2), (5, .ref p5), (4, .ref p4), (3, vi ((i2 : Nat) : Int)), (2, vi ((i1 : Nat) : Int)), (1, vi ((i0 : Nat) : Int)), (0, .ref x)]) rfl ?_
                    refine v_iinc E 1 rfl dX1_multiply_154 (zlt hL rfl) (lv' := [(9, vi ((i : Int) + 1)), (8, .ref qs_333), (7, vi (k : Int)), (6, .ref l2), (5, .ref p5), (4, .ref p4), (3, vi ((i2 : Nat) : Int)), (2, vi ((i1 : Nat) : Int)), (1, vi ((i0 : Nat) : Int)), (0, .ref x)]) rfl ?_
                    refine v_goto E (tgt := 110) dX1_multiply_157 (by decide) ?_
                    have hT_351 : BI κ H_337 qs_333 (muT (T (a i0)).2 (T (a i1)).2 k (k - ((T (a i1)).1 - 1)) (w2 + 1)) := by have e9 := hBs_334; rw [hi9] at e9; exact e9
                    exact ih_110  H_337 (w2 + 1) (i + 1) qs_333 (((((cb2 - 0) - 0) - 0) - 3) - 3) (((((sb2 - 0) - 0) - 0) - (2 * (1 + 1) + 7)) - 9) (by omega) (by omega) (by omega) (by omega) (by omega) hl_343 hl_344 hl_345 hl_346 hT_351
            exact loop_110 (7 + 1) H_199 0 (k - ((T (a i1)).1 - 1)) nq_185 ((((cb - 0) - 0) - 0) - 0) ((((sb - 0) - 0) - 0) - 0) (by omega) rfl (by omega) (by omega) (by omega) hl_205 hl_206 hl_207 hl_208 hl_209
      refine V.sub [0, 1, 2, 3, 7, 6, 5, 4] (lv' := [(7, vi 0), (6, .ref l2), (5, .ref p5), (4, .ref p4), (3, vi ((i2 : Nat) : Int)), (2, vi ((i1 : Nat) : Int)), (1, vi ((i0 : Nat) : Int)), (0, .ref x)]) rfl ?_
      exact loop_74 (((T (a i0)).1 + (T (a i1)).1 - 1) + 1) H_118 0 (κ.2 98) 596 2079 (by omega) (Nat.zero_le _) (by show 20 + 42 * 13 + 2 ≤ _; omega) (by show 120 + 140 * 13 + 15 * 2 ≤ _; omega) hLB_l2 hl_124 hl_125 hl_123
    · refine v_aload_n E 2 rfl dX1_multiply_42 ?_
      refine v_iload_n E 5 rfl dX1_multiply_43 ?_
      refine V.frame (fun hfz_fr_352 hfk_fr_352 => ?_)
      rw [hH0] at hfz_fr_352 hfk_fr_352
      rw [hA0] at hfk_fr_352
      have hC_fr_352 := hC.call hA93 hfz_fr_352 hfk_fr_352
      refine V.frame (fun hfz_fr_353 hfk_fr_353 => ?_)
      rw [hH0] at hfz_fr_353 hfk_fr_353
      rw [hA0] at hfk_fr_353
      refine v_new E in_X3 tyX3 tyX3_ok q145 q146 q75 (ci := 2) rfl (fs := [.null]) (fun j hj => by rcases (show j = 0 by omega) with rfl <;> rfl) (cb' := 596) (sb' := 2081) (by decide) (by decide) dX1_multiply_44 (fun q_354 H_355 hq_358 ho_356 hg_357 => ?_)
      have hge0_q_354 : Array.size H_101 ≤ q_354 := by rw [hq_358]; exact (Nat.le_refl _)
      have hfzz_359 : Array.size H_101 ≤ Array.size H_355 := Nat.le_trans (Nat.le_refl _) (by rw [hg_357.1]; exact Nat.le_succ _)
      have hfzk_360 : ∀ q9 : Nat, q9 < Array.size H_101 → ¬ (fun _ => False : Nat → Prop) q9 → H_355[q9]? = H_101[q9]? := fun q9 h9 h8 => (hg_357.2 q9 (Nat.lt_of_lt_of_le h9 (Nat.le_refl _))).trans ((fun _ _ _ => rfl) q9 h9 h8)
      refine v_dup E rfl dX1_multiply_47 ?_
      refine V.frame (fun hfz_fr_361 hfk_fr_361 => ?_)
      rw [hH0] at hfz_fr_361 hfk_fr_361
      rw [hA0] at hfk_fr_361
      have hC_fr_361 := hC.call hA93 hfz_fr_361 hfk_fr_361
      refine V.frame (fun hfz_fr_362 hfk_fr_362 => ?_)
      rw [hH0] at hfz_fr_362 hfk_fr_362
      rw [hA0] at hfk_fr_362
      refine v_new E in_J2 tyJ2 tyJ2_ok q113 q114 q73 (ci := 5) rfl (fs := [vi 0, .null, vi 0]) (fun j hj => by rcases (show j = 0 ∨ j = 1 ∨ j = 2 by omega) with rfl | rfl | rfl <;> rfl) (cb' := 595) (sb' := 2078) (by decide) (by decide) dX1_multiply_48 (fun q_363 H_364 hq_367 ho_365 hg_366 => ?_)
      have hne_q_354_q_363 : q_354 ≠ q_363 := by have := ho_356.lt; omega
      have ho_369 := ho_356.grow hg_366
      have hge0_q_363 : Array.size H_101 ≤ q_363 := by rw [hq_367]; exact hfzz_359
      have hfzz_370 : Array.size H_101 ≤ Array.size H_364 := Nat.le_trans hfzz_359 (by rw [hg_366.1]; exact Nat.le_succ _)
      have hfzk_371 : ∀ q9 : Nat, q9 < Array.size H_101 → ¬ (fun _ => False : Nat → Prop) q9 → H_364[q9]? = H_101[q9]? := fun q9 h9 h8 => (hg_366.2 q9 (Nat.lt_of_lt_of_le h9 hfzz_359)).trans (hfzk_360 q9 h9 h8)
      refine v_dup E rfl dX1_multiply_51 ?_
      have h93_q_363 : κ.2 93 ≤ q_363 := Nat.le_trans hC.le (Nat.le_trans hfz_fr_352 hge0_q_363)
      refine V.frame (fun hfz_fr_372 hfk_fr_372 => ?_)
      rw [hH0] at hfz_fr_372 hfk_fr_372
      rw [hA0] at hfk_fr_372
      have hC_fr_372 := hC.call hA93 hfz_fr_372 hfk_fr_372
      refine v_callI E (As := []) (b := q_363) (j_init κ H_364 h93_q_363 hC_fr_372 ho_365) q117 q73 q115 q116 rfl 0 (by decide +kernel) rfl (by decide) (by decide) (cb' := 595) (sb' := 2078) (by decide) (by decide) rfl (rest := [.ref q_363, .ref q_354, .ref q_354, vi ((i2 : Nat) : Int), .ref x]) (Nat.le_of_ble_eq_true rfl) (fun q h => hNew q (by rw [show q = q_363 from h]; exact Nat.le_trans hfz_fr_352 hge0_q_363)) dX1_multiply_52 (fun v_373 H_374 hpost_375 hz_376 hk_377 => ?_)
      obtain ⟨rfl, hAF_q_363⟩ := hpost_375
      have hfzz_378 : Array.size H_101 ≤ Array.size H_374 := Nat.le_trans hfzz_370 hz_376
      have hfzk_379 : ∀ q9 : Nat, q9 < Array.size H_101 → ¬ (fun _ => False : Nat → Prop) q9 → H_374[q9]? = H_101[q9]? := fun q9 h9 h8 => (hk_377 q9 (Nat.lt_of_lt_of_le h9 hfzz_370) (fun e => by have e2 : q9 = q_363 := e; have := hge0_q_363; omega)).trans (hfzk_371 q9 h9 h8)
      have hr_380 := ho_369.kept (hk_377 _ ho_369.lt (fun h => hne_q_354_q_363 h))
      refine V.eq (st' := [.ref q_363, .ref q_354, .ref q_354, vi ((i2 : Nat) : Int), .ref x]) rfl ?_
      have h93_q_354 : κ.2 93 ≤ q_354 := Nat.le_trans hC.le (Nat.le_trans hfz_fr_352 hge0_q_354)
      refine V.frame (fun hfz_fr_381 hfk_fr_381 => ?_)
      rw [hH0] at hfz_fr_381 hfk_fr_381
      rw [hA0] at hfk_fr_381
      have hC_fr_381 := hC.call hA93 hfz_fr_381 hfk_fr_381
      refine v_callI E (As := [.ref q_363]) (b := q_354) (p_init κ H_374 (D := (dS ls bs li bi)) (n := 0) (c := fun _ => 0) (S := H0.size) hC_fr_381 h93_q_354 (by decide) (fun q h => by have h2 := hsl0; exact ⟨by omega, by omega, by omega, by omega⟩) hC.le hr_380 (LB.nil hAF_q_363 (Nat.le_trans hfz_fr_352 hge0_q_363))) q149 q75 q147 q148 rfl 1 (by decide +kernel) rfl (by decide) (by decide) (cb' := 595) (sb' := 2078) (by decide) (by decide) rfl (rest := [.ref q_354, vi ((i2 : Nat) : Int), .ref x]) (Nat.le_of_ble_eq_true rfl) (fun q h => hNew q (h.elim (fun h => by rw [h]; exact Nat.le_trans hfz_fr_352 hge0_q_354) (fun h => h.elim (fun h => by rw [h]; exact Nat.le_trans hfz_fr_352 hge0_q_363) (fun h => absurd h.2 (by decide))))) dX1_multiply_55 (fun v_382 H_383 hpost_384 hz_385 hk_386 => ?_)
      obtain ⟨rfl, hPF_q_354⟩ := hpost_384
      have hfzz_387 : Array.size H_101 ≤ Array.size H_383 := Nat.le_trans hfzz_378 hz_385
      have hfzk_388 : ∀ q9 : Nat, q9 < Array.size H_101 → ¬ (fun _ => False : Nat → Prop) q9 → H_383[q9]? = H_101[q9]? := fun q9 h9 h8 => (hk_386 q9 (Nat.lt_of_lt_of_le h9 hfzz_378) (fun e => by exact e.elim (fun e => by have := hge0_q_354; omega) (fun e => e.elim (fun e => by have := hge0_q_363; omega) (fun e => absurd e.2 (by decide))))).trans (hfzk_379 q9 h9 h8)
      refine V.eq (st' := [.ref q_354, vi ((i2 : Nat) : Int), .ref x]) rfl ?_
      have hl_389 := CS.kf0 hC_fr_352 (kF.ext hfzz_387 hfzk_388) hl_107
      have hl_390 := Po.kf hC_fr_352 (kF.ext hfzz_387 hfzk_388) aD.no hl_108
      have hl_391 := Po.kf hC_fr_352 (kF.ext hfzz_387 hfzk_388) aD.no hl_109
      have hSo_392 := CS.mono (D' := dS ls bs li bi) hl_389 (fun q h1 h2 => h2.1)
      have hop : xoMul S (i0 : Int) (i1 : Int) (i2 : Int) = storeR (mkP 0 (fun _ => 0)) i2 2 S := by unfold xoMul; rw [if_pos ⟨⟨by omega, by omega⟩, ⟨by omega, by omega⟩, by omega, by omega⟩]; exact if_pos (show (S i0).1 = 0 ∨ (S i1).1 = 0 by rw [hST i0 hii0, hST i1 hii1]; omega)
      refine V.frame (fun hfz_fr_393 hfk_fr_393 => ?_)
      rw [hH0] at hfz_fr_393 hfk_fr_393
      rw [hA0] at hfk_fr_393
      have hC_fr_393 := hC.call hA93 hfz_fr_393 hfk_fr_393
      obtain ⟨md_395, g_396, hA_394, hg_397⟩ := hSo_392.2.2.1
      refine v_callVX E X9 hE (As := [vi ((i2 : Nat) : Int), .ref q_354]) (b := x) (ci := 0) (C := RX1) (T := TX1) (N := 3) hSo_392.2.1 rfl (x_store κ H_383 hii2 hC_fr_393 dS_bs hPF_q_354 hSo_392) (lw_V q612 q614 qs9 q70 q615) 2 (by decide +kernel) rfl (by decide) (by decide) (cb' := 577) (sb' := 1968) (by decide) (by decide) rfl (rest := []) (Nat.le_of_ble_eq_true rfl) (fun q h => by have h9 := pA.arr hfk_fr_393 hA_394.2.1 (hA_394.2.2.2.2.2.2.2.2.1 (by decide)); rw [← show q = bs from h] at h9; exact h9.elim (fun e => hAll q e) (fun e => hNew q e)) dX1_multiply_58 (fun C9 H9 hx9 hz9 hk9 => (by exact ⟨Or.inr (⟨hx9.1, by rw [hop, storeR_n hPF_q_354.1 hx9.2.1]⟩), CS.pub hx9.2.2 hST hiso⟩)) (fun v_398 H_399 hpost_400 hz_401 hk_402 => ?_)
      obtain ⟨hok9, rfl, kq, hkq9, hS9⟩ := hpost_400
      refine V.eq (st' := [vi (((Prod.fst (mkP 0 (fun _ => 0)) : Nat) : Int) - 1)]) rfl ?_
      refine V.rt E hE (fun z9 E hE => ?_)
      refine v_iret E hE dX1_multiply_61 ?_
      rw [hop, storeR_y hok9]; exact ⟨rfl, rfl, CS.pubT hSo_392 hkq9 hS9 hST hiso⟩
