/-! THE COMPONENT'S PUBLIC CALLS: degree coefficient copy set add derivative -/
set_option maxHeartbeats 400000 in
set_option maxRecDepth 100000 in
/-- degree -/
theorem c_deg (κ : zK) (H0 : Heap) {x : Nat} {S : Nat → Pl} {isoP : Option Pl} {n cap : Nat} {iv : Nat → Ivl} {v0 : Int} (hrv0 : rI v0) (hC : CO κ H0) (hP : CP κ H0 x S isoP n cap iv)  : MtX κ yX1_degree cX1_degree 2 (some .int) 7 101 1 6 H0 [.ref x, vi v0] (pA κ H0) (fun v H1 => (xoDeg S v0).2.1 = 0 ∧ v = some (vi (xoDeg S v0).1) ∧ CP κ H1 x (xoDeg S v0).2.2 isoP n cap iv) (fun C H1 => (C = "java/lang/IndexOutOfBoundsException" ∧ (xoDeg S v0).2.1 = 1) ∧ CP κ H1 x S isoP n cap iv) := by
  refine MtX.of (by decide) (Nat.le_of_ble_eq_true rfl) ?_
  intro z E X9 hE hH0 hA0 hL hini
  have hAll : ∀ q, (pA κ H0) q → zA z.A z.H0 q := fun q h => Or.inl (by rw [hA0]; exact h)
  have hNew : ∀ q, H0.size ≤ q → zA z.A z.H0 q := fun q h => Or.inr (by rw [hH0]; exact h)
  have E : zOK z cX1_degree RX1 κ 7 101 (some .int) := E
  refine V.eqL (lv' := [(0, .ref x), (1, vi v0)]) rfl ?_
  obtain ⟨ls, bs, li, bi, a, iso, T, hS, hST, hiso⟩ := hP
  have hA93 : ∀ q, pA κ H0 q → κ.2 93 ≤ q := fun q h => h.1
  have hD := hC.D
  have hsl0 := hS.sl
  refine v_iload_n E 1 rfl dX1_degree_0 ?_
  refine V.frame (fun hfz_fr_1 hfk_fr_1 => ?_)
  rw [hH0] at hfz_fr_1 hfk_fr_1
  rw [hA0] at hfk_fr_1
  have hC_fr_1 := hC.call hA93 hfz_fr_1 hfk_fr_1
  refine v_callSX E X9 hE (As := [vi v0]) (x_slot κ H0 hrv0) (lw_S q570 q571 q70 q572) 1 (by decide +kernel) rfl (by decide) (by decide) (cb' := 0) (sb' := 0) (by decide) (by decide) rfl (rest := []) (Nat.le_of_ble_eq_true rfl) (fun q h => h.elim) dX1_degree_1 (fun C9 H9 hx9 hz9 hk9 => by exact ⟨⟨hx9.1, (by have hx8 := hx9.2; unfold xoDeg; first | (split <;> first | rfl | (exfalso; omega) | (split <;> first | rfl | (exfalso; omega) | (split <;> first | rfl | (exfalso; omega)))))⟩, CS.pub (CS.kf0 hC_fr_1 (kF.ext hz9 hk9) hS) hST hiso⟩) (fun v_2 H_3 hpost_4 hz_5 hk_6 => ?_)
  obtain ⟨rfl, hsv0⟩ := hpost_4
  have hl_7 := CS.kf0 hC_fr_1 (kF.ext hz_5 hk_6) hS
  obtain ⟨i0, hni0⟩ : ∃ i0 : Nat, v0 = (i0 : Int) := ⟨v0.toNat, by omega⟩
  subst hni0
  have hii0 : i0 < 5 := by omega
  refine V.eq (st' := []) rfl ?_
  refine v_aload_n E 0 rfl dX1_degree_4 ?_
  refine v_iload_n E 1 rfl dX1_degree_5 ?_
  refine V.frame (fun hfz_fr_10 hfk_fr_10 => ?_)
  rw [hH0] at hfz_fr_10 hfk_fr_10
  rw [hA0] at hfk_fr_10
  have hC_fr_10 := hC.call hA93 hfz_fr_10 hfk_fr_10
  refine v_callV E (As := [vi ((i0 : Nat) : Int)]) (b := x) (ci := 0) (C := RX1) (T := TX1) (N := 3) hl_7.2.1 rfl (x_poly κ H_3 (i := i0) hii0 hC_fr_10 hl_7) (lw_V q606 q608 qs8 q70 q609) 1 (by decide +kernel) rfl (by decide) (by decide) (cb' := 0) (sb' := 0) (by decide) (by decide) rfl (rest := []) (Nat.le_of_ble_eq_true rfl) (fun q h => h.elim) dX1_degree_6 (fun v_11 H_12 hpost_13 hz_14 hk_15 => ?_)
  obtain ⟨pk_8, rfl, hpk_9⟩ := hpost_13
  have hl_16 := CS.kf0 hC_fr_10 (kF.ext hz_14 hk_15) hl_7
  refine V.eq (st' := [.ref pk_8]) rfl ?_
  refine V.frame (fun hfz_fr_17 hfk_fr_17 => ?_)
  rw [hH0] at hfz_fr_17 hfk_fr_17
  rw [hA0] at hfk_fr_17
  have hC_fr_17 := hC.call hA93 hfz_fr_17 hfk_fr_17
  obtain ⟨-, -, l_24, ho_23, -⟩ := id hpk_9
  refine v_callV E (As := []) (b := pk_8) (ci := 2) (C := RX3) (T := TX3) (N := 1) ho_23 rfl (p_deg κ H_12 hC_fr_17 hpk_9) (lw_V q617 q618 q619 q75 q620) 0 (by decide +kernel) rfl (by decide) (by decide) (cb' := 0) (sb' := 0) (by decide) (by decide) rfl (rest := []) (Nat.le_of_ble_eq_true rfl) (fun q h => h.elim) dX1_degree_9 (fun v_18 H_19 hpost_20 hz_21 hk_22 => ?_)
  obtain rfl := hpost_20
  have hl_25 := CS.kf0 hC_fr_17 (kF.ext hz_21 hk_22) hl_16
  have hl_26 := Po.kf hC_fr_17 (kF.ext hz_21 hk_22) aD.no hpk_9
  refine V.eq (st' := [vi (((Prod.fst (T (a i0)) : Nat) : Int) - 1)]) rfl ?_
  refine V.rt E hE (fun z9 E hE => ?_)
  refine v_iret E hE dX1_degree_12 ?_
  have hop : xoDeg S (i0 : Int) = (((T (a i0)).1 : Int) - 1, 0, S) := by unfold xoDeg; rw [if_pos (by omega)]; show (((S i0).1 : Int) - 1, 0, S) = _; rw [hST i0 (by omega)]
  rw [hop]; exact ⟨rfl, rfl, CS.pub hl_25 hST hiso⟩

set_option maxHeartbeats 400000 in
set_option maxRecDepth 100000 in
/-- coefficient -/
theorem c_coef (κ : zK) (H0 : Heap) {x : Nat} {S : Nat → Pl} {isoP : Option Pl} {n cap : Nat} {iv : Nat → Ivl} {v0 : Int} (hrv0 : rI v0) {v1 : Int} (hrv1 : rI v1) (hC : CO κ H0) (hP : CP κ H0 x S isoP n cap iv)  : MtX κ yX1_coefficient cX1_coefficient 3 (some .int) 7 101 3 14 H0 [.ref x, vi v0, vi v1] (pA κ H0) (fun v H1 => (xoCoef S v0 v1).2.1 = 0 ∧ v = some (vi (xoCoef S v0 v1).1) ∧ CP κ H1 x (xoCoef S v0 v1).2.2 isoP n cap iv) (fun C H1 => (C = "java/lang/IndexOutOfBoundsException" ∧ (xoCoef S v0 v1).2.1 = 1) ∧ CP κ H1 x S isoP n cap iv) := by
  refine MtX.of (by decide) (Nat.le_of_ble_eq_true rfl) ?_
  intro z E X9 hE hH0 hA0 hL hini
  have hAll : ∀ q, (pA κ H0) q → zA z.A z.H0 q := fun q h => Or.inl (by rw [hA0]; exact h)
  have hNew : ∀ q, H0.size ≤ q → zA z.A z.H0 q := fun q h => Or.inr (by rw [hH0]; exact h)
  have E : zOK z cX1_coefficient RX1 κ 7 101 (some .int) := E
  refine V.eqL (lv' := [(0, .ref x), (1, vi v0), (2, vi v1)]) rfl ?_
  obtain ⟨ls, bs, li, bi, a, iso, T, hS, hST, hiso⟩ := hP
  have hA93 : ∀ q, pA κ H0 q → κ.2 93 ≤ q := fun q h => h.1
  have hD := hC.D
  have hsl0 := hS.sl
  refine v_iload_n E 1 rfl dX1_coefficient_0 ?_
  refine V.frame (fun hfz_fr_1 hfk_fr_1 => ?_)
  rw [hH0] at hfz_fr_1 hfk_fr_1
  rw [hA0] at hfk_fr_1
  have hC_fr_1 := hC.call hA93 hfz_fr_1 hfk_fr_1
  refine v_callSX E X9 hE (As := [vi v0]) (x_slot κ H0 hrv0) (lw_S q570 q571 q70 q572) 1 (by decide +kernel) rfl (by decide) (by decide) (cb' := 2) (sb' := 8) (by decide) (by decide) rfl (rest := []) (Nat.le_of_ble_eq_true rfl) (fun q h => h.elim) dX1_coefficient_1 (fun C9 H9 hx9 hz9 hk9 => by exact ⟨⟨hx9.1, (by have hx8 := hx9.2; unfold xoCoef; first | (split <;> first | rfl | (exfalso; omega) | (split <;> first | rfl | (exfalso; omega) | (split <;> first | rfl | (exfalso; omega)))))⟩, CS.pub (CS.kf0 hC_fr_1 (kF.ext hz9 hk9) hS) hST hiso⟩) (fun v_2 H_3 hpost_4 hz_5 hk_6 => ?_)
  obtain ⟨rfl, hsv0⟩ := hpost_4
  have hl_7 := CS.kf0 hC_fr_1 (kF.ext hz_5 hk_6) hS
  obtain ⟨i0, hni0⟩ : ∃ i0 : Nat, v0 = (i0 : Int) := ⟨v0.toNat, by omega⟩
  subst hni0
  have hii0 : i0 < 5 := by omega
  refine V.eq (st' := []) rfl ?_
  refine v_iload_n E 2 rfl dX1_coefficient_4 ?_
  refine V.frame (fun hfz_fr_8 hfk_fr_8 => ?_)
  rw [hH0] at hfz_fr_8 hfk_fr_8
  rw [hA0] at hfk_fr_8
  have hC_fr_8 := hC.call hA93 hfz_fr_8 hfk_fr_8
  refine v_callSX E X9 hE (As := [vi v1]) (x_pow κ H_3 hrv1) (lw_S q588 q589 q70 q590) 1 (by decide +kernel) rfl (by decide) (by decide) (cb' := 1) (sb' := 2) (by decide) (by decide) rfl (rest := []) (Nat.le_of_ble_eq_true rfl) (fun q h => h.elim) dX1_coefficient_5 (fun C9 H9 hx9 hz9 hk9 => by exact ⟨⟨hx9.1, (by have hx8 := hx9.2; unfold xoCoef; first | (split <;> first | rfl | (exfalso; omega) | (split <;> first | rfl | (exfalso; omega) | (split <;> first | rfl | (exfalso; omega)))))⟩, CS.pub (CS.kf0 hC_fr_8 (kF.ext hz9 hk9) hl_7) hST hiso⟩) (fun v_9 H_10 hpost_11 hz_12 hk_13 => ?_)
  obtain ⟨rfl, hsv1⟩ := hpost_11
  have hl_14 := CS.kf0 hC_fr_8 (kF.ext hz_12 hk_13) hl_7
  obtain ⟨i1, hni1⟩ : ∃ i1 : Nat, v1 = (i1 : Int) := ⟨v1.toNat, by omega⟩
  subst hni1
  have hii1 : i1 < 7 := by omega
  refine V.eq (st' := []) rfl ?_
  refine v_aload_n E 0 rfl dX1_coefficient_8 ?_
  refine v_iload_n E 1 rfl dX1_coefficient_9 ?_
  refine V.frame (fun hfz_fr_17 hfk_fr_17 => ?_)
  rw [hH0] at hfz_fr_17 hfk_fr_17
  rw [hA0] at hfk_fr_17
  have hC_fr_17 := hC.call hA93 hfz_fr_17 hfk_fr_17
  refine v_callV E (As := [vi ((i0 : Nat) : Int)]) (b := x) (ci := 0) (C := RX1) (T := TX1) (N := 3) hl_14.2.1 rfl (x_poly κ H_10 (i := i0) hii0 hC_fr_17 hl_14) (lw_V q606 q608 qs8 q70 q609) 1 (by decide +kernel) rfl (by decide) (by decide) (cb' := 1) (sb' := 2) (by decide) (by decide) rfl (rest := []) (Nat.le_of_ble_eq_true rfl) (fun q h => h.elim) dX1_coefficient_10 (fun v_18 H_19 hpost_20 hz_21 hk_22 => ?_)
  obtain ⟨pk_15, rfl, hpk_16⟩ := hpost_20
  have hl_23 := CS.kf0 hC_fr_17 (kF.ext hz_21 hk_22) hl_14
  refine V.eq (st' := [.ref pk_15]) rfl ?_
  refine v_iload_n E 2 rfl dX1_coefficient_13 ?_
  refine V.frame (fun hfz_fr_26 hfk_fr_26 => ?_)
  rw [hH0] at hfz_fr_26 hfk_fr_26
  rw [hA0] at hfk_fr_26
  have hC_fr_26 := hC.call hA93 hfz_fr_26 hfk_fr_26
  obtain ⟨-, -, l_33, ho_32, -⟩ := id hpk_16
  refine v_callV E (As := [vi ((i1 : Nat) : Int)]) (b := pk_15) (ci := 2) (C := RX3) (T := TX3) (N := 1) ho_32 rfl (p_at κ H_19 (i := i1) (by omega) hC_fr_26 hpk_16) (lw_V q467 q468 q469 q75 q470) 1 (by decide +kernel) rfl (by decide) (by decide) (cb' := 1) (sb' := 2) (by decide) (by decide) rfl (rest := []) (Nat.le_of_ble_eq_true rfl) (fun q h => h.elim) dX1_coefficient_14 (fun v_27 H_28 hpost_29 hz_30 hk_31 => ?_)
  obtain ⟨qa_24, rfl, hBa_25⟩ := hpost_29
  have hl_34 := CS.kf0 hC_fr_26 (kF.ext hz_30 hk_31) hl_23
  have hl_35 := Po.kf hC_fr_26 (kF.ext hz_30 hk_31) aD.no hpk_16
  refine V.eq (st' := [.ref qa_24]) rfl ?_
  refine V.frame (fun hfz_fr_36 hfk_fr_36 => ?_)
  rw [hH0] at hfz_fr_36 hfk_fr_36
  rw [hA0] at hfk_fr_36
  have hC_fr_36 := hC.call hA93 hfz_fr_36 hfk_fr_36
  obtain ⟨mz_43, nz_43, cfz_43, ⟨c1z_43, c2z_43, c3z_43, ho_42⟩, -⟩ := id hBa_25
  refine v_callV E (As := []) (b := qa_24) (ci := 6) (C := RJ16) (T := TJ16) (N := 6) ho_42 rfl (g_intValue κ H_28 hC_fr_36 hBa_25) (lw_V q678 q679 q680 q91 q681) 0 (by decide +kernel) rfl (by decide) (by decide) (cb' := 1) (sb' := 2) (by decide) (by decide) rfl (rest := []) (Nat.le_of_ble_eq_true rfl) (fun q h => by have h9 := pA.bi hfk_fr_36 hBa_25 h.2; rw [← h.1] at h9; exact h9.elim (fun e => hAll q e) (fun e => hNew q e)) dX1_coefficient_17 (fun v_37 H_38 hpost_39 hz_40 hk_41 => ?_)
  obtain ⟨rfl, hBI9⟩ := hpost_39
  have hU_44 := kU.of hC_fr_36 hBa_25 hBI9 hz_40 hk_41
  have hl_45 := CS.ku hC_fr_36 hU_44 hl_34
  have hl_46 := Po.ku hC_fr_36 hU_44 hl_35
  have hl_47 := (hU_44.2.2.2.2.2 _ _ hBa_25)
  refine V.eq (st' := [vi ((T (a i0)).2 i1)]) rfl ?_
  refine V.rt E hE (fun z9 E hE => ?_)
  refine v_iret E hE dX1_coefficient_20 ?_
  have hop : xoCoef S (i0 : Int) (i1 : Int) = ((T (a i0)).2 i1, 0, S) := by unfold xoCoef; rw [if_pos ⟨by omega, by omega⟩]; show ((S i0).2 i1, 0, S) = _; rw [hST i0 (by omega)]
  rw [hop]; exact ⟨rfl, rfl, CS.pub hl_45 hST hiso⟩

set_option maxHeartbeats 400000 in
set_option maxRecDepth 100000 in
/-- copy -/
theorem c_copy (κ : zK) (H0 : Heap) {x : Nat} {S : Nat → Pl} {isoP : Option Pl} {n cap : Nat} {iv : Nat → Ivl} {v0 : Int} (hrv0 : rI v0) {v1 : Int} (hrv1 : rI v1) (hC : CO κ H0) (hP : CP κ H0 x S isoP n cap iv)  : MtX κ yX1_copy cX1_copy 3 (some .int) 7 101 2 12 H0 [.ref x, vi v0, vi v1] (pA κ H0) (fun v H1 => (xoCopy S v0 v1).2.1 = 0 ∧ v = some (vi (xoCopy S v0 v1).1) ∧ CP κ H1 x (xoCopy S v0 v1).2.2 isoP n cap iv) (fun C H1 => (C = "java/lang/IndexOutOfBoundsException" ∧ (xoCopy S v0 v1).2.1 = 1) ∧ CP κ H1 x S isoP n cap iv) := by
  refine MtX.of (by decide) (Nat.le_of_ble_eq_true rfl) ?_
  intro z E X9 hE hH0 hA0 hL hini
  have hAll : ∀ q, (pA κ H0) q → zA z.A z.H0 q := fun q h => Or.inl (by rw [hA0]; exact h)
  have hNew : ∀ q, H0.size ≤ q → zA z.A z.H0 q := fun q h => Or.inr (by rw [hH0]; exact h)
  have E : zOK z cX1_copy RX1 κ 7 101 (some .int) := E
  refine V.eqL (lv' := [(0, .ref x), (1, vi v0), (2, vi v1)]) rfl ?_
  obtain ⟨ls, bs, li, bi, a, iso, T, hS, hST, hiso⟩ := hP
  have hA93 : ∀ q, pA κ H0 q → κ.2 93 ≤ q := fun q h => h.1
  have hD := hC.D
  have hsl0 := hS.sl
  refine v_iload_n E 1 rfl dX1_copy_0 ?_
  refine V.frame (fun hfz_fr_1 hfk_fr_1 => ?_)
  rw [hH0] at hfz_fr_1 hfk_fr_1
  rw [hA0] at hfk_fr_1
  have hC_fr_1 := hC.call hA93 hfz_fr_1 hfk_fr_1
  refine v_callSX E X9 hE (As := [vi v0]) (x_slot κ H0 hrv0) (lw_S q570 q571 q70 q572) 1 (by decide +kernel) rfl (by decide) (by decide) (cb' := 1) (sb' := 6) (by decide) (by decide) rfl (rest := []) (Nat.le_of_ble_eq_true rfl) (fun q h => h.elim) dX1_copy_1 (fun C9 H9 hx9 hz9 hk9 => by exact ⟨⟨hx9.1, (by have hx8 := hx9.2; unfold xoCopy; first | (split <;> first | rfl | (exfalso; omega) | (split <;> first | rfl | (exfalso; omega) | (split <;> first | rfl | (exfalso; omega)))))⟩, CS.pub (CS.kf0 hC_fr_1 (kF.ext hz9 hk9) hS) hST hiso⟩) (fun v_2 H_3 hpost_4 hz_5 hk_6 => ?_)
  obtain ⟨rfl, hsv0⟩ := hpost_4
  have hl_7 := CS.kf0 hC_fr_1 (kF.ext hz_5 hk_6) hS
  obtain ⟨i0, hni0⟩ : ∃ i0 : Nat, v0 = (i0 : Int) := ⟨v0.toNat, by omega⟩
  subst hni0
  have hii0 : i0 < 5 := by omega
  refine V.eq (st' := []) rfl ?_
  refine v_iload_n E 2 rfl dX1_copy_4 ?_
  refine V.frame (fun hfz_fr_8 hfk_fr_8 => ?_)
  rw [hH0] at hfz_fr_8 hfk_fr_8
  rw [hA0] at hfk_fr_8
  have hC_fr_8 := hC.call hA93 hfz_fr_8 hfk_fr_8
  refine v_callSX E X9 hE (As := [vi v1]) (x_slot κ H_3 hrv1) (lw_S q570 q571 q70 q572) 1 (by decide +kernel) rfl (by decide) (by decide) (cb' := 0) (sb' := 0) (by decide) (by decide) rfl (rest := []) (Nat.le_of_ble_eq_true rfl) (fun q h => h.elim) dX1_copy_5 (fun C9 H9 hx9 hz9 hk9 => by exact ⟨⟨hx9.1, (by have hx8 := hx9.2; unfold xoCopy; first | (split <;> first | rfl | (exfalso; omega) | (split <;> first | rfl | (exfalso; omega) | (split <;> first | rfl | (exfalso; omega)))))⟩, CS.pub (CS.kf0 hC_fr_8 (kF.ext hz9 hk9) hl_7) hST hiso⟩) (fun v_9 H_10 hpost_11 hz_12 hk_13 => ?_)
  obtain ⟨rfl, hsv1⟩ := hpost_11
  have hl_14 := CS.kf0 hC_fr_8 (kF.ext hz_12 hk_13) hl_7
  obtain ⟨i1, hni1⟩ : ∃ i1 : Nat, v1 = (i1 : Int) := ⟨v1.toNat, by omega⟩
  subst hni1
  have hii1 : i1 < 5 := by omega
  refine V.eq (st' := []) rfl ?_
  refine v_aload_n E 0 rfl dX1_copy_8 ?_
  refine v_getf E in_X1 hl_14.2.1 (ci := 0) rfl 0 (by decide) q272 rfl (v := .ref ls) rfl dX1_copy_9 ?_
  refine v_iload_n E 2 rfl dX1_copy_12 ?_
  refine v_aload_n E 0 rfl dX1_copy_13 ?_
  refine v_getf E in_X1 hl_14.2.1 (ci := 0) rfl 0 (by decide) q272 rfl (v := .ref ls) rfl dX1_copy_14 ?_
  refine v_iload_n E 1 rfl dX1_copy_17 ?_
  obtain ⟨md_15, g_16, hA_17, hg_18⟩ := hl_14.2.2.1
  refine V.frame (fun hfz_fr_19 hfk_fr_19 => ?_)
  rw [hH0] at hfz_fr_19 hfk_fr_19
  rw [hA0] at hfk_fr_19
  have hC_fr_19 := hC.call hA93 hfz_fr_19 hfk_fr_19
  obtain ⟨md_25, g_26, hA_27, hg_28⟩ := hl_14.2.2.1
  refine v_callV E (As := [vi ((i0 : Nat) : Int)]) (b := ls) (ci := 5) (C := RJ2) (T := TJ2) (N := 3) hA_27.1 rfl (j_get κ H_10 (i := i0) (y := a i0) hii0 (hg_18 _ hii0) hA_17) (lw_V q610 q156 q157 q73 q158) 1 (by decide +kernel) rfl (by decide) (by decide) (cb' := 0) (sb' := 0) (by decide) (by decide) rfl (rest := [vi ((i1 : Nat) : Int), .ref ls]) (Nat.le_of_ble_eq_true rfl) (fun q h => h.elim) dX1_copy_18 (fun v_20 H_21 hpost_22 hz_23 hk_24 => ?_)
  obtain rfl := hpost_22
  have hl_29 := CS.kf0 hC_fr_19 (kF.ext hz_23 hk_24) hl_14
  refine V.eq (st' := [.ref (a i0), vi ((i1 : Nat) : Int), .ref ls]) rfl ?_
  obtain ⟨-, -, pk_30, vs_31, vf_32, vg_33, hkn_34, hpk_35, -⟩ := id (hl_29.2.2.2.2.1 i0 hii0)
  refine v_castS E hkn_34 (q := (RX2, TX2, 4)) rfl q143 dX1_copy_21 ?_
  obtain ⟨md_36, g_37, hA_38, hg_39⟩ := hl_29.2.2.1
  refine V.frame (fun hfz_fr_40 hfk_fr_40 => ?_)
  rw [hH0] at hfz_fr_40 hfk_fr_40
  rw [hA0] at hfk_fr_40
  have hC_fr_40 := hC.call hA93 hfz_fr_40 hfk_fr_40
  obtain ⟨md_46, g_47, hA_48, hg_49⟩ := hl_29.2.2.1
  refine v_callV E (As := [vi ((i1 : Nat) : Int), .ref (a i0)]) (b := ls) (ci := 5) (C := RJ2) (T := TJ2) (N := 3) hA_48.1 rfl (j_set κ H_21 hC_fr_40 (i := i1) (y := a i1) (hl_29.2.2.2.2.1 i0 hii0).oA hii1 (hg_39 _ hii1) hA_38) (lw_V q667 q668 q669 q73 q670) 2 (by decide +kernel) rfl (by decide) (by decide) (cb' := 0) (sb' := 0) (by decide) (by decide) rfl (rest := []) (Nat.le_of_ble_eq_true rfl) (fun q h => by have h9 := pA.arr hfk_fr_40 hA_38.2.1 (hA_38.2.2.2.2.2.2.2.2.1 (by decide)); rw [← show q = bs from h] at h9; exact h9.elim (fun e => hAll q e) (fun e => hNew q e)) dX1_copy_24 (fun v_41 H_42 hpost_43 hz_44 hk_45 => ?_)
  obtain ⟨rfl, hAS⟩ := hpost_43
  have hFS : kF κ H_21 H_42 (fun q => q = bs) := kF.lst hA_38 (fun q h => Or.inr ⟨h, by decide⟩) hz_44 hk_45
  have hS9 : CS κ (dS ls bs li bi) H_42 x ls bs li bi (va_up a i1 (a i0)) iso T n cap iv := CS.put (T' := T) hC_fr_40 hFS dS_bs (hl_29.2.2.2.2.1 i0 hii0) (fun j hj => rfl) (fun j hj => rfl) hAS hg_39 hl_29
  have hST9 : ∀ k, k < 5 → va_up S i1 (S i0) k = T (va_up a i1 (a i0) k) := fun k hk => by
    by_cases e : k = i1
    · subst e; rw [va_up_self, va_up_self]; exact hST _ hii0
    · rw [va_up_ne _ _ e, va_up_ne _ _ e]; exact hST k hk
  refine V.eq (st' := [.ref (a i1)]) rfl ?_
  refine v_pop E rfl dX1_copy_27 ?_
  refine v_aload_n E 0 rfl dX1_copy_28 ?_
  refine v_iload_n E 2 rfl dX1_copy_29 ?_
  refine V.frame (fun hfz_fr_52 hfk_fr_52 => ?_)
  rw [hH0] at hfz_fr_52 hfk_fr_52
  rw [hA0] at hfk_fr_52
  have hC_fr_52 := hC.call hA93 hfz_fr_52 hfk_fr_52
  refine v_callV E (As := [vi ((i1 : Nat) : Int)]) (b := x) (ci := 0) (C := RX1) (T := TX1) (N := 3) hS9.2.1 rfl (x_poly κ H_42 (i := i1) hii1 hC_fr_52 hS9) (lw_V q606 q608 qs8 q70 q609) 1 (by decide +kernel) rfl (by decide) (by decide) (cb' := 0) (sb' := 0) (by decide) (by decide) rfl (rest := []) (Nat.le_of_ble_eq_true rfl) (fun q h => h.elim) dX1_copy_30 (fun v_53 H_54 hpost_55 hz_56 hk_57 => ?_)
  obtain ⟨pk_50, rfl, hpk_51⟩ := hpost_55
  have hl_58 := CS.kf0 hC_fr_52 (kF.ext hz_56 hk_57) hS9
  rw [va_up_self] at hpk_51
  refine V.eq (st' := [.ref pk_50]) rfl ?_
  refine V.frame (fun hfz_fr_59 hfk_fr_59 => ?_)
  rw [hH0] at hfz_fr_59 hfk_fr_59
  rw [hA0] at hfk_fr_59
  have hC_fr_59 := hC.call hA93 hfz_fr_59 hfk_fr_59
  obtain ⟨-, -, l_66, ho_65, -⟩ := id hpk_51
  refine v_callV E (As := []) (b := pk_50) (ci := 2) (C := RX3) (T := TX3) (N := 1) ho_65 rfl (p_deg κ H_54 hC_fr_59 hpk_51) (lw_V q617 q618 q619 q75 q620) 0 (by decide +kernel) rfl (by decide) (by decide) (cb' := 0) (sb' := 0) (by decide) (by decide) rfl (rest := []) (Nat.le_of_ble_eq_true rfl) (fun q h => h.elim) dX1_copy_33 (fun v_60 H_61 hpost_62 hz_63 hk_64 => ?_)
  obtain rfl := hpost_62
  have hl_67 := CS.kf0 hC_fr_59 (kF.ext hz_63 hk_64) hl_58
  have hl_68 := Po.kf hC_fr_59 (kF.ext hz_63 hk_64) aD.no hpk_51
  refine V.eq (st' := [vi (((Prod.fst (T (a i0)) : Nat) : Int) - 1)]) rfl ?_
  refine V.rt E hE (fun z9 E hE => ?_)
  refine v_iret E hE dX1_copy_36 ?_
  have hop : xoCopy S (i0 : Int) (i1 : Int) = (((T (a i0)).1 : Int) - 1, 0, va_up S i1 (S i0)) := by unfold xoCopy; rw [if_pos ⟨by omega, by omega⟩]; show (((S i0).1 : Int) - 1, 0, va_up S i1 (S i0)) = _; rw [hST i0 (by omega)]
  rw [hop]; exact ⟨rfl, rfl, CS.pub hl_67 hST9 hiso⟩
