/-! THE COMPONENT: isTrue -/
def xtT (P : Pl) : Prop := fch P (-32768) 0 - fch P 32768 0 = arF (sq P) (seqLen P) ∧ fch P (-32768) 0 - fch P 32768 0 ≤ ((cFree P).1 : Int) - 1 ∧ fch P 0 0 - fch P 32768 0 ≤ ((chG (fun i => ((cFree P).2 i).sign) (cFree P).1 : Nat) : Int) ∧ (((chG (fun i => ((cFree P).2 i).sign) (cFree P).1 : Nat) : Int) - (fch P 0 0 - fch P 32768 0)).tmod 2 = 0
def xoTr (S : Nat → Pl) (a : Int) : zRc := if 0 ≤ a ∧ a < 5 then (1, 0, S) else (0, 1, S)
theorem cFree_13 {P : Pl} (h : (cFree P).1 ≤ 13) : 0 ≤ ((chG (fun i => ((cFree P).2 i).sign) (cFree P).1 : Nat) : Int) ∧ ((chG (fun i => ((cFree P).2 i).sign) (cFree P).1 : Nat) : Int) ≤ 13 := by
  have := chG_le (fun i => ((cFree P).2 i).sign) (cFree P).1
  omega
set_option maxHeartbeats 1000000 in
set_option maxRecDepth 100000 in
/-- isTrue -/
theorem c_tr (κ : zK) (H0 : Heap) {x : Nat} {S : Nat → Pl} {isoP : Option Pl} {n cap : Nat} {iv : Nat → Ivl} {v0 : Int} (hrv0 : rI v0) (hC : CO κ H0) {N : Nat → Nat → Nat} {M : Nat → Nat} {M0 N1 M1 : Nat} {Nt Kt : Nat → Nat} {Cf Lf C1 L1 Cg Lg C0 L0 F0 G0 : Nat} (hQ : ∀ i, i < 5 → 0 < (S i).1 → okQ (S i) N M M0 Nt Kt C0 L0 Cg Lg) (hH : ∀ i, i < 5 → 0 < (S i).1 → okH (S i) N M M0 N1 M1 Nt Kt Cf Lf C1 L1) (hFr : ∀ i, i < 5 → 0 < (S i).1 → fitFr (S i) N1 M1 ∧ frC (S i) ≤ F0 ∧ frL (S i) N1 M1 ≤ G0) (hpos : ∀ i, i < 5 → 0 < (S i).1 → ∀ j, j < seqLen (S i) → 0 < (sq (S i) j).1) (hok7 : ∀ i, i < 5 → (S i).1 ≤ 7) (hTr : ∀ i, i < 5 → 0 < (S i).1 → xtT (S i)) (hP : CP κ H0 x S isoP n cap iv)  : MtX κ yX1_isTrue cX1_isTrue 8 (some .boolean) 17 440 (Cf + 3 * C1 + 3 * C0 + 2 * F0 + 6) (Lf + 3 * L1 + 3 * L0 + 2 * G0 + 30) H0 [.ref x, vi v0] (pA κ H0) (fun v H1 => (xoTr S v0).2.1 = 0 ∧ v = some (vi (xoTr S v0).1) ∧ CP κ H1 x (xoTr S v0).2.2 isoP n cap iv) (fun C H1 => (C = "java/lang/IndexOutOfBoundsException" ∧ (xoTr S v0).2.1 = 1) ∧ CP κ H1 x S isoP n cap iv) := by
  refine MtX.of (by decide) (Nat.le_of_ble_eq_true rfl) ?_
  intro z E X9 hE hH0 hA0 hL hini
  have hAll : ∀ q, (pA κ H0) q → zA z.A z.H0 q := fun q h => Or.inl (by rw [hA0]; exact h)
  have hNew : ∀ q, H0.size ≤ q → zA z.A z.H0 q := fun q h => Or.inr (by rw [hH0]; exact h)
  have E : zOK z cX1_isTrue RX1 κ 17 440 (some .boolean) := E
  refine V.eqL (lv' := [(0, .ref x), (1, vi v0)]) rfl ?_
  obtain ⟨ls, bs, li, bi, a, iso, T, hS, hST, hiso⟩ := hP
  have hA93 : ∀ q, pA κ H0 q → κ.2 93 ≤ q := fun q h => h.1
  have hD := hC.D
  have hsl0 := hS.sl
  have hQT : ∀ k, k < 5 → 0 < (T (a k)).1 → okQ (T (a k)) N M M0 Nt Kt C0 L0 Cg Lg := fun k hk h => by rw [← hST k hk] at h ⊢; exact hQ k hk h
  refine v_iload_n E 1 rfl dX1_isTrue_0 ?_
  refine V.frame (fun hfz_fr_1 hfk_fr_1 => ?_)
  rw [hH0] at hfz_fr_1 hfk_fr_1
  rw [hA0] at hfk_fr_1
  have hC_fr_1 := hC.call hA93 hfz_fr_1 hfk_fr_1
  refine v_callSX E X9 hE (As := [vi v0]) (x_slot κ H0 hrv0) (lw_S q570 q571 q70 q572) 1 (by decide +kernel) rfl (by decide) (by decide) (cb' := ((Cf + 3 * C1 + 3 * C0 + 2 * F0 + 6) - 1)) (sb' := ((Lf + 3 * L1 + 3 * L0 + 2 * G0 + 30) - 6)) (by omega) (by omega) rfl (rest := []) (Nat.le_of_ble_eq_true rfl) (fun q h => h.elim) dX1_isTrue_1 (fun C9 H9 hx9 hz9 hk9 => by exact ⟨⟨hx9.1, (by have hx8 := hx9.2; unfold xoTr; first | (split <;> first | rfl | (exfalso; omega) | (split <;> first | rfl | (exfalso; omega) | (split <;> first | rfl | (exfalso; omega)))))⟩, CS.pub (CS.kf0 hC_fr_1 (kF.ext hz9 hk9) hS) hST hiso⟩) (fun v_2 H_3 hpost_4 hz_5 hk_6 => ?_)
  obtain ⟨rfl, hsv0⟩ := hpost_4
  have hl_7 := CS.kf0 hC_fr_1 (kF.ext hz_5 hk_6) hS
  obtain ⟨i0, hni0⟩ : ∃ i0 : Nat, v0 = (i0 : Int) := ⟨v0.toNat, by omega⟩
  subst hni0
  have hii0 : i0 < 5 := by omega
  refine V.eq (st' := []) rfl ?_
  have h7i : (T (a i0)).1 ≤ 7 := by rw [← hST i0 hii0]; exact hok7 i0 hii0
  refine v_aload_n E 0 rfl dX1_isTrue_4 ?_
  refine v_iload_n E 1 rfl dX1_isTrue_5 ?_
  refine V.frame (fun hfz_fr_10 hfk_fr_10 => ?_)
  rw [hH0] at hfz_fr_10 hfk_fr_10
  rw [hA0] at hfk_fr_10
  have hC_fr_10 := hC.call hA93 hfz_fr_10 hfk_fr_10
  refine v_callV E (As := [vi ((i0 : Nat) : Int)]) (b := x) (ci := 0) (C := RX1) (T := TX1) (N := 3) hl_7.2.1 rfl (x_poly κ H_3 (i := i0) hii0 hC_fr_10 hl_7) (lw_V q606 q608 qs8 q70 q609) 1 (by decide +kernel) rfl (by decide) (by decide) (cb' := (((Cf + 3 * C1 + 3 * C0 + 2 * F0 + 6) - 1) - 0)) (sb' := (((Lf + 3 * L1 + 3 * L0 + 2 * G0 + 30) - 6) - 0)) (by omega) (by omega) rfl (rest := []) (Nat.le_of_ble_eq_true rfl) (fun q h => h.elim) dX1_isTrue_6 (fun v_11 H_12 hpost_13 hz_14 hk_15 => ?_)
  obtain ⟨pk_8, rfl, hpk_9⟩ := hpost_13
  have hl_16 := CS.kf0 hC_fr_10 (kF.ext hz_14 hk_15) hl_7
  refine V.eq (st' := [.ref pk_8]) rfl ?_
  refine V.frame (fun hfz_fr_17 hfk_fr_17 => ?_)
  rw [hH0] at hfz_fr_17 hfk_fr_17
  rw [hA0] at hfk_fr_17
  have hC_fr_17 := hC.call hA93 hfz_fr_17 hfk_fr_17
  obtain ⟨-, -, l_24, ho_23, -⟩ := id hpk_9
  refine v_callV E (As := []) (b := pk_8) (ci := 2) (C := RX3) (T := TX3) (N := 1) ho_23 rfl (p_deg κ H_12 hC_fr_17 hpk_9) (lw_V q617 q618 q619 q75 q620) 0 (by decide +kernel) rfl (by decide) (by decide) (cb' := ((((Cf + 3 * C1 + 3 * C0 + 2 * F0 + 6) - 1) - 0) - 0)) (sb' := ((((Lf + 3 * L1 + 3 * L0 + 2 * G0 + 30) - 6) - 0) - 0)) (by omega) (by omega) rfl (rest := []) (Nat.le_of_ble_eq_true rfl) (fun q h => h.elim) dX1_isTrue_9 (fun v_18 H_19 hpost_20 hz_21 hk_22 => ?_)
  obtain rfl := hpost_20
  have hl_25 := CS.kf0 hC_fr_17 (kF.ext hz_21 hk_22) hl_16
  have hl_26 := Po.kf hC_fr_17 (kF.ext hz_21 hk_22) aD.no hpk_9
  refine V.eq (st' := [vi (((Prod.fst (T (a i0)) : Nat) : Int) - 1)]) rfl ?_
  refine v_if_ge E (tgt := 17) dX1_isTrue_12 (by decide) ⟨by omega, by omega⟩ (fun c_12 => ?_) (fun c_12 => ?_)
  · have hposT : 0 < (T (a i0)).1 := by omega
    have hposS : 0 < (S i0).1 := by rw [hST i0 hii0]; exact hposT
    have hH9 := hH i0 hii0 hposS
    have hfr9 := hFr i0 hii0 hposS
    have htr9 := hTr i0 hii0 hposS
    have hps9 := hpos i0 hii0 hposS
    rw [hST i0 hii0] at hH9 hfr9 htr9 hps9
    obtain ⟨ht1, ht2, ht3, ht4⟩ := htr9
    refine v_aload_n E 0 rfl dX1_isTrue_17 ?_
    refine v_getf E in_X1 hl_25.2.1 (ci := 0) rfl 0 (by decide) q272 rfl (v := .ref ls) rfl dX1_isTrue_18 ?_
    refine v_iload_n E 1 rfl dX1_isTrue_21 ?_
    obtain ⟨md_27, g_28, hA_29, hg_30⟩ := hl_25.2.2.1
    refine V.frame (fun hfz_fr_31 hfk_fr_31 => ?_)
    rw [hH0] at hfz_fr_31 hfk_fr_31
    rw [hA0] at hfk_fr_31
    have hC_fr_31 := hC.call hA93 hfz_fr_31 hfk_fr_31
    obtain ⟨md_37, g_38, hA_39, hg_40⟩ := hl_25.2.2.1
    refine v_callV E (As := [vi ((i0 : Nat) : Int)]) (b := ls) (ci := 5) (C := RJ2) (T := TJ2) (N := 3) hA_39.1 rfl (j_get κ H_19 (i := i0) (y := a i0) hii0 (hg_30 _ hii0) hA_29) (lw_V q610 q156 q157 q73 q158) 1 (by decide +kernel) rfl (by decide) (by decide) (cb' := (((((Cf + 3 * C1 + 3 * C0 + 2 * F0 + 6) - 1) - 0) - 0) - 0)) (sb' := (((((Lf + 3 * L1 + 3 * L0 + 2 * G0 + 30) - 6) - 0) - 0) - 0)) (by omega) (by omega) rfl (rest := []) (Nat.le_of_ble_eq_true rfl) (fun q h => h.elim) dX1_isTrue_22 (fun v_32 H_33 hpost_34 hz_35 hk_36 => ?_)
    obtain rfl := hpost_34
    have hl_41 := CS.kf0 hC_fr_31 (kF.ext hz_35 hk_36) hl_25
    have hl_42 := Po.kf hC_fr_31 (kF.ext hz_35 hk_36) aD.no hl_26
    refine V.eq (st' := [.ref (a i0)]) rfl ?_
    obtain ⟨-, -, pk_43, vs_44, vf_45, vg_46, hkn_47, hpk_48, -⟩ := id (hl_41.2.2.2.2.1 i0 hii0)
    refine v_castS E hkn_47 (q := (RX2, TX2, 4)) rfl q143 dX1_isTrue_25 ?_
    refine v_astore_n E dX1_isTrue_28 (zlt hL rfl) (lv' := [(2, .ref (a i0)), (0, .ref x), (1, vi ((i0 : Nat) : Int))]) rfl ?_
    refine v_aload_n E 0 rfl dX1_isTrue_29 ?_
    refine V.frame (fun hfz_fr_50 hfk_fr_50 => ?_)
    rw [hH0] at hfz_fr_50 hfk_fr_50
    rw [hA0] at hfk_fr_50
    have hC_fr_50 := hC.call hA93 hfz_fr_50 hfk_fr_50
    obtain ⟨-, -, pk_56, vs_57, vf_58, vg_59, hkn_60, hpk_61, -⟩ := id (hl_41.2.2.2.2.1 i0 hii0)
    refine v_callV E (As := []) (b := (a i0)) (ci := 1) (C := RX2) (T := TX2) (N := 4) hkn_60 rfl (k_fs κ H_33 (b := false) (N := N) (M := M) (M0 := M0) (N1 := N1) (M1 := M1) (N2 := N) (M2 := M) (M02 := M0) hC_fr_50 (fun q h => by have h2 := hsl0; exact ⟨by omega, by omega, by omega, by omega⟩) hH9.1 hH9.2.1 (hl_41.2.2.2.2.1 i0 hii0)) (lw_V q1646 q1647 q1648 q74 q1649) 0 (by decide +kernel) rfl (by decide) (by decide) (cb' := ((((((Cf + 3 * C1 + 3 * C0 + 2 * F0 + 6) - 1) - 0) - 0) - 0) - Cf)) (sb' := ((((((Lf + 3 * L1 + 3 * L0 + 2 * G0 + 30) - 6) - 0) - 0) - 0) - Lf)) (by rw [bC_f]; have := hH9.2.2.1; omega) (by rw [bC_f]; have := hH9.2.2.2.1; omega) rfl (rest := []) (Nat.le_of_ble_eq_true rfl) (fun q h => by obtain ⟨fs9, h8⟩ := (hl_41.2.2.2.2.1 i0 hii0).cl; have h9 := pA.any hfk_fr_50 h8 (Or.inr (Or.inl rfl)) (hl_41.2.2.2.2.1 i0 hii0).2.1; rw [← show q = _ from h] at h9; exact h9.elim (fun e => hAll q e) (fun e => hNew q e)) dX1_isTrue_30 (fun v_51 H_52 hpost_53 hz_54 hk_55 => ?_)
    obtain ⟨ls_49, rfl, hls_49, hKls_49⟩ := hpost_53
    have hSk_62 := kS.of (hl_41.2.2.2.2.1 i0 hii0) hKls_49 hz_54 hk_55
    have hl_63 := CS.ks hC_fr_50 hSk_62 hKls_49 hl_41
    have hl_64 := Po.ks hC_fr_50 hSk_62 hl_42
    have hl_65 := Po.ks hC_fr_50 hSk_62 hpk_48
    have hl_66 := Po.ks hC_fr_50 hSk_62 hpk_61
    refine V.eq (st' := [.ref ls_49]) rfl ?_
    refine v_astore_n E dX1_isTrue_33 (zlt hL rfl) (lv' := [(3, .ref ls_49), (2, .ref (a i0)), (0, .ref x), (1, vi ((i0 : Nat) : Int))]) rfl ?_
    refine v_aload_n E 0 rfl dX1_isTrue_34 ?_
    refine v_ldc2 E q1748 dX1_isTrue_35 ?_
    refine V.eq (st' := vj 32768 :: _) rfl ?_
    refine v_iconst E dX1_isTrue_38 ?_
    refine V.frame (fun hfz_fr_67 hfk_fr_67 => ?_)
    rw [hH0] at hfz_fr_67 hfk_fr_67
    rw [hA0] at hfk_fr_67
    have hC_fr_67 := hC.call hA93 hfz_fr_67 hfk_fr_67
    refine v_callS E (As := [.ref ls_49, vj 32768, vi 0]) (p_chg κ H_52 (n := (32768 : Int)) (e := 0) (Nt := Nt) (Kt := Kt) hC_fr_67 (show -4294967296 < (32768 : Int) ∧ (32768 : Int) < 4294967296 from ⟨by decide, by decide⟩) (by decide) (hH9.2.2.2.2.2.2 _ _ (show -4294967296 < (32768 : Int) ∧ (32768 : Int) < 4294967296 from ⟨by decide, by decide⟩).1 (show -4294967296 < (32768 : Int) ∧ (32768 : Int) < 4294967296 from ⟨by decide, by decide⟩).2 (by decide)) hls_49) (lw_S q1530 q1531 q70 q1532) 3 (by decide +kernel) rfl (by decide) (by decide) (cb' := (((((((Cf + 3 * C1 + 3 * C0 + 2 * F0 + 6) - 1) - 0) - 0) - 0) - Cf) - C1)) (sb' := (((((((Lf + 3 * L1 + 3 * L0 + 2 * G0 + 30) - 6) - 0) - 0) - 0) - Lf) - L1)) (by have := hH9.2.2.2.2.1; omega) (by have := hH9.2.2.2.2.2.1; omega) rfl (rest := []) (Nat.le_of_ble_eq_true rfl) (fun q h => h.elim) dX1_isTrue_39 (fun v_68 H_69 hpost_70 hz_71 hk_72 => ?_)
    obtain rfl := hpost_70
    have hl_73 := CS.kf0 hC_fr_67 (kF.ext hz_71 hk_72) hl_63
    have hl_74 := Po.kf hC_fr_67 (kF.ext hz_71 hk_72) aD.no hl_64
    have hl_75 := Po.kf hC_fr_67 (kF.ext hz_71 hk_72) aD.no hl_65
    have hl_76 := Po.kf hC_fr_67 (kF.ext hz_71 hk_72) aD.no hl_66
    have hl_77 := SQ.kf hC_fr_67 (kF.ext hz_71 hk_72) aD.no hls_49
    have hfi_n_78 := fch_in (T (a i0)) (32768 : Int) 0
    refine V.eq (st' := [vi (fch (T (a i0)) (32768 : Int) 0)]) rfl ?_
    refine v_istore E dX1_isTrue_42 (zlt hL rfl) (lv' := [(4, vi (fch (T (a i0)) (32768 : Int) 0)), (3, .ref ls_49), (2, .ref (a i0)), (0, .ref x), (1, vi ((i0 : Nat) : Int))]) rfl ?_
    refine v_aload_n E 1 rfl dX1_isTrue_44 ?_
    refine v_ldc2 E q1749 dX1_isTrue_45 ?_
    refine V.eq (st' := vj (-32768) :: _) rfl ?_
    refine v_iconst E dX1_isTrue_48 ?_
    refine V.frame (fun hfz_fr_79 hfk_fr_79 => ?_)
    rw [hH0] at hfz_fr_79 hfk_fr_79
    rw [hA0] at hfk_fr_79
    have hC_fr_79 := hC.call hA93 hfz_fr_79 hfk_fr_79
    refine v_callS E (As := [.ref ls_49, vj (-32768), vi 0]) (p_chg κ H_69 (n := (-32768)) (e := 0) (Nt := Nt) (Kt := Kt) hC_fr_79 (show -4294967296 < (-32768) ∧ (-32768) < 4294967296 from ⟨by decide, by decide⟩) (by decide) (hH9.2.2.2.2.2.2 _ _ (show -4294967296 < (-32768) ∧ (-32768) < 4294967296 from ⟨by decide, by decide⟩).1 (show -4294967296 < (-32768) ∧ (-32768) < 4294967296 from ⟨by decide, by decide⟩).2 (by decide)) hl_77) (lw_S q1530 q1531 q70 q1532) 3 (by decide +kernel) rfl (by decide) (by decide) (cb' := ((((((((Cf + 3 * C1 + 3 * C0 + 2 * F0 + 6) - 1) - 0) - 0) - 0) - Cf) - C1) - C1)) (sb' := ((((((((Lf + 3 * L1 + 3 * L0 + 2 * G0 + 30) - 6) - 0) - 0) - 0) - Lf) - L1) - L1)) (by have := hH9.2.2.2.2.1; omega) (by have := hH9.2.2.2.2.2.1; omega) rfl (rest := []) (Nat.le_of_ble_eq_true rfl) (fun q h => h.elim) dX1_isTrue_49 (fun v_80 H_81 hpost_82 hz_83 hk_84 => ?_)
    obtain rfl := hpost_82
    have hl_85 := CS.kf0 hC_fr_79 (kF.ext hz_83 hk_84) hl_73
    have hl_86 := Po.kf hC_fr_79 (kF.ext hz_83 hk_84) aD.no hl_74
    have hl_87 := Po.kf hC_fr_79 (kF.ext hz_83 hk_84) aD.no hl_75
    have hl_88 := Po.kf hC_fr_79 (kF.ext hz_83 hk_84) aD.no hl_76
    have hl_89 := SQ.kf hC_fr_79 (kF.ext hz_83 hk_84) aD.no hl_77
    have hfi_n_90 := fch_in (T (a i0)) (-32768) 0
    refine V.eq (st' := [vi (fch (T (a i0)) (-32768) 0)]) rfl ?_
    refine v_iload E 0 rfl dX1_isTrue_52 ?_
    refine v_isub E dX1_isTrue_54 ?_
    refine v_istore E dX1_isTrue_55 (zlt hL rfl) (lv' := [(5, vi ((fch (T (a i0)) (-32768) 0) - (fch (T (a i0)) (32768 : Int) 0))), (4, vi (fch (T (a i0)) (32768 : Int) 0)), (3, .ref ls_49), (2, .ref (a i0)), (0, .ref x), (1, vi ((i0 : Nat) : Int))]) rfl ?_
    refine v_aload_n E 2 rfl dX1_isTrue_57 ?_
    refine v_lconst E (x := 0) rfl dX1_isTrue_58 ?_
    refine v_iconst E dX1_isTrue_59 ?_
    refine V.frame (fun hfz_fr_91 hfk_fr_91 => ?_)
    rw [hH0] at hfz_fr_91 hfk_fr_91
    rw [hA0] at hfk_fr_91
    have hC_fr_91 := hC.call hA93 hfz_fr_91 hfk_fr_91
    refine v_callS E (As := [.ref ls_49, vj 0, vi 0]) (p_chg κ H_81 (n := (0 : Int)) (e := 0) (Nt := Nt) (Kt := Kt) hC_fr_91 (show -4294967296 < (0 : Int) ∧ (0 : Int) < 4294967296 from ⟨by decide, by decide⟩) (by decide) (hH9.2.2.2.2.2.2 _ _ (show -4294967296 < (0 : Int) ∧ (0 : Int) < 4294967296 from ⟨by decide, by decide⟩).1 (show -4294967296 < (0 : Int) ∧ (0 : Int) < 4294967296 from ⟨by decide, by decide⟩).2 (by decide)) hl_89) (lw_S q1530 q1531 q70 q1532) 3 (by decide +kernel) rfl (by decide) (by decide) (cb' := (((((((((Cf + 3 * C1 + 3 * C0 + 2 * F0 + 6) - 1) - 0) - 0) - 0) - Cf) - C1) - C1) - C1)) (sb' := (((((((((Lf + 3 * L1 + 3 * L0 + 2 * G0 + 30) - 6) - 0) - 0) - 0) - Lf) - L1) - L1) - L1)) (by have := hH9.2.2.2.2.1; omega) (by have := hH9.2.2.2.2.2.1; omega) rfl (rest := []) (Nat.le_of_ble_eq_true rfl) (fun q h => h.elim) dX1_isTrue_60 (fun v_92 H_93 hpost_94 hz_95 hk_96 => ?_)
    obtain rfl := hpost_94
    have hl_97 := CS.kf0 hC_fr_91 (kF.ext hz_95 hk_96) hl_85
    have hl_98 := Po.kf hC_fr_91 (kF.ext hz_95 hk_96) aD.no hl_86
    have hl_99 := Po.kf hC_fr_91 (kF.ext hz_95 hk_96) aD.no hl_87
    have hl_100 := Po.kf hC_fr_91 (kF.ext hz_95 hk_96) aD.no hl_88
    have hl_101 := SQ.kf hC_fr_91 (kF.ext hz_95 hk_96) aD.no hl_89
    have hfi_n_102 := fch_in (T (a i0)) (0 : Int) 0
    refine V.eq (st' := [vi (fch (T (a i0)) (0 : Int) 0)]) rfl ?_
    refine v_iload E 1 rfl dX1_isTrue_63 ?_
    refine v_isub E dX1_isTrue_65 ?_
    refine v_istore E dX1_isTrue_66 (zlt hL rfl) (lv' := [(6, vi ((fch (T (a i0)) (0 : Int) 0) - (fch (T (a i0)) (32768 : Int) 0))), (5, vi ((fch (T (a i0)) (-32768) 0) - (fch (T (a i0)) (32768 : Int) 0))), (4, vi (fch (T (a i0)) (32768 : Int) 0)), (3, .ref ls_49), (2, .ref (a i0)), (0, .ref x), (1, vi ((i0 : Nat) : Int))]) rfl ?_
    refine v_aload_n E 4 rfl dX1_isTrue_68 ?_
    refine V.frame (fun hfz_fr_104 hfk_fr_104 => ?_)
    rw [hH0] at hfz_fr_104 hfk_fr_104
    rw [hA0] at hfk_fr_104
    have hC_fr_104 := hC.call hA93 hfz_fr_104 hfk_fr_104
    obtain ⟨-, -, pk_110, vs_111, vf_112, vg_113, hkn_114, hpk_115, -⟩ := id (hl_97.2.2.2.2.1 i0 hii0)
    refine v_callV E (As := []) (b := (a i0)) (ci := 1) (C := RX2) (T := TX2) (N := 4) hkn_114 rfl (k_free κ H_93 (b := false) (N := N) (M := M) (M0 := M0) (N1 := N1) (M1 := M1) hC_fr_104 (fun q h => by have h2 := hsl0; exact ⟨by omega, by omega, by omega, by omega⟩) hH9.1 hfr9.1 (hl_97.2.2.2.2.1 i0 hii0)) (lw_V q1467 q1468 q1469 q74 q1470) 0 (by decide +kernel) rfl (by decide) (by decide) (cb' := ((((((((((Cf + 3 * C1 + 3 * C0 + 2 * F0 + 6) - 1) - 0) - 0) - 0) - Cf) - C1) - C1) - C1) - (C0 + F0))) (sb' := ((((((((((Lf + 3 * L1 + 3 * L0 + 2 * G0 + 30) - 6) - 0) - 0) - 0) - Lf) - L1) - L1) - L1) - (L0 + G0))) (by rw [bC_f]; have := (hQT i0 hii0 hposT).2.1; have := hfr9.2.1; omega) (by rw [bC_f]; have := (hQT i0 hii0 hposT).2.2.1; have := hfr9.2.2; omega) rfl (rest := []) (Nat.le_of_ble_eq_true rfl) (fun q h => by obtain ⟨fs9, h8⟩ := (hl_97.2.2.2.2.1 i0 hii0).cl; have h9 := pA.any hfk_fr_104 h8 (Or.inr (Or.inl rfl)) (hl_97.2.2.2.2.1 i0 hii0).2.1; rw [← show q = _ from h] at h9; exact h9.elim (fun e => hAll q e) (fun e => hNew q e)) dX1_isTrue_69 (fun v_105 H_106 hpost_107 hz_108 hk_109 => ?_)
    obtain ⟨qf_103, rfl, hPfqf_103, hKqf_103⟩ := hpost_107
    have hSk_116 := kS.of (hl_97.2.2.2.2.1 i0 hii0) hKqf_103 hz_108 hk_109
    have hl_117 := CS.ks hC_fr_104 hSk_116 hKqf_103 hl_97
    have hl_118 := Po.ks hC_fr_104 hSk_116 hl_98
    have hl_119 := Po.ks hC_fr_104 hSk_116 hl_99
    have hl_120 := Po.ks hC_fr_104 hSk_116 hl_100
    have hl_121 := SQ.ks hC_fr_104 hSk_116 hl_101
    have hl_122 := Po.ks hC_fr_104 hSk_116 hpk_115
    have h13qf_103 := hPfqf_103.2.1
    refine V.eq (st' := [.ref qf_103]) rfl ?_
    refine V.frame (fun hfz_fr_123 hfk_fr_123 => ?_)
    rw [hH0] at hfz_fr_123 hfk_fr_123
    rw [hA0] at hfk_fr_123
    have hC_fr_123 := hC.call hA93 hfz_fr_123 hfk_fr_123
    refine v_callS E (As := [.ref qf_103]) (p_csc κ H_106 hC_fr_123 hPfqf_103) (lw_S q1580 q1581 q70 q1582) 1 (by decide +kernel) rfl (by decide) (by decide) (cb' := (((((((((((Cf + 3 * C1 + 3 * C0 + 2 * F0 + 6) - 1) - 0) - 0) - 0) - Cf) - C1) - C1) - C1) - (C0 + F0)) - 1)) (sb' := (((((((((((Lf + 3 * L1 + 3 * L0 + 2 * G0 + 30) - 6) - 0) - 0) - 0) - Lf) - L1) - L1) - L1) - (L0 + G0)) - 4)) (by omega) (by omega) rfl (rest := []) (Nat.le_of_ble_eq_true rfl) (fun q h => h.elim) dX1_isTrue_72 (fun v_124 H_125 hpost_126 hz_127 hk_128 => ?_)
    obtain rfl := hpost_126
    have hl_129 := CS.kf0 hC_fr_123 (kF.ext hz_127 hk_128) hl_117
    have hl_130 := Po.kf hC_fr_123 (kF.ext hz_127 hk_128) aD.no hl_118
    have hl_131 := Po.kf hC_fr_123 (kF.ext hz_127 hk_128) aD.no hl_119
    have hl_132 := Po.kf hC_fr_123 (kF.ext hz_127 hk_128) aD.no hl_120
    have hl_133 := SQ.kf hC_fr_123 (kF.ext hz_127 hk_128) aD.no hl_121
    have hl_134 := Po.kf hC_fr_123 (kF.ext hz_127 hk_128) aD.no hl_122
    have hl_135 := Po.kf hC_fr_123 (kF.ext hz_127 hk_128) aD.no hPfqf_103
    have hch9 := cFree_13 hl_135.2.1
    refine V.eq (st' := [vi ((chG (fun i => ((cFree (T (a i0))).2 i).sign) (cFree (T (a i0))).1 : Nat) : Int)]) rfl ?_
    refine v_istore E dX1_isTrue_75 (zlt hL rfl) (lv' := [(7, vi ((chG (fun i => ((cFree (T (a i0))).2 i).sign) (cFree (T (a i0))).1 : Nat) : Int)), (6, vi ((fch (T (a i0)) (0 : Int) 0) - (fch (T (a i0)) (32768 : Int) 0))), (5, vi ((fch (T (a i0)) (-32768) 0) - (fch (T (a i0)) (32768 : Int) 0))), (4, vi (fch (T (a i0)) (32768 : Int) 0)), (3, .ref ls_49), (2, .ref (a i0)), (0, .ref x), (1, vi ((i0 : Nat) : Int))]) rfl ?_
    refine v_iload E 2 rfl dX1_isTrue_77 ?_
    refine v_aload_n E 5 rfl dX1_isTrue_79 ?_
    refine V.frame (fun hfz_fr_137 hfk_fr_137 => ?_)
    rw [hH0] at hfz_fr_137 hfk_fr_137
    rw [hA0] at hfk_fr_137
    have hC_fr_137 := hC.call hA93 hfz_fr_137 hfk_fr_137
    obtain ⟨-, -, pk_143, vs_144, vf_145, vg_146, hkn_147, hpk_148, -⟩ := id (hl_129.2.2.2.2.1 i0 hii0)
    refine v_callV E (As := []) (b := (a i0)) (ci := 1) (C := RX2) (T := TX2) (N := 4) hkn_147 rfl (k_seq κ H_125 (b := false) (N := N) (M := M) (M0 := M0) hC_fr_137 (fun q h => by have h2 := hsl0; exact ⟨by omega, by omega, by omega, by omega⟩) (hQT i0 hii0 hposT).1 (hl_129.2.2.2.2.1 i0 hii0)) (lw_V q1496 q1472 q1473 q74 q1474) 0 (by decide +kernel) rfl (by decide) (by decide) (cb' := ((((((((((((Cf + 3 * C1 + 3 * C0 + 2 * F0 + 6) - 1) - 0) - 0) - 0) - Cf) - C1) - C1) - C1) - (C0 + F0)) - 1) - C0)) (sb' := ((((((((((((Lf + 3 * L1 + 3 * L0 + 2 * G0 + 30) - 6) - 0) - 0) - 0) - Lf) - L1) - L1) - L1) - (L0 + G0)) - 4) - L0)) (by rw [bC_f]; have := (hQT i0 hii0 hposT).2.1; omega) (by rw [bC_f]; have := (hQT i0 hii0 hposT).2.2.1; omega) rfl (rest := [vi ((fch (T (a i0)) (-32768) 0) - (fch (T (a i0)) (32768 : Int) 0))]) (Nat.le_of_ble_eq_true rfl) (fun q h => by obtain ⟨fs9, h8⟩ := (hl_129.2.2.2.2.1 i0 hii0).cl; have h9 := pA.any hfk_fr_137 h8 (Or.inr (Or.inl rfl)) (hl_129.2.2.2.2.1 i0 hii0).2.1; rw [← show q = _ from h] at h9; exact h9.elim (fun e => hAll q e) (fun e => hNew q e)) dX1_isTrue_80 (fun v_138 H_139 hpost_140 hz_141 hk_142 => ?_)
    obtain ⟨ls_136, rfl, hls_136, hKls_136⟩ := hpost_140
    have hSk_149 := kS.of (hl_129.2.2.2.2.1 i0 hii0) hKls_136 hz_141 hk_142
    have hl_150 := CS.ks hC_fr_137 hSk_149 hKls_136 hl_129
    have hl_151 := Po.ks hC_fr_137 hSk_149 hl_130
    have hl_152 := Po.ks hC_fr_137 hSk_149 hl_131
    have hl_153 := Po.ks hC_fr_137 hSk_149 hl_132
    have hl_154 := SQ.ks hC_fr_137 hSk_149 hl_133
    have hl_155 := Po.ks hC_fr_137 hSk_149 hl_134
    have hl_156 := Po.ks hC_fr_137 hSk_149 hl_135
    have hl_157 := Po.ks hC_fr_137 hSk_149 hpk_148
    refine V.eq (st' := [.ref ls_136, vi ((fch (T (a i0)) (-32768) 0) - (fch (T (a i0)) (32768 : Int) 0))]) rfl ?_
    refine V.frame (fun hfz_fr_158 hfk_fr_158 => ?_)
    rw [hH0] at hfz_fr_158 hfk_fr_158
    rw [hA0] at hfk_fr_158
    have hC_fr_158 := hC.call hA93 hfz_fr_158 hfk_fr_158
    refine v_callS E (As := [.ref ls_136]) (p_all κ H_139 hC_fr_158 hps9 hls_136) (lw_S q1570 q1571 q70 q1572) 1 (by decide +kernel) rfl (by decide) (by decide) (cb' := (((((((((((((Cf + 3 * C1 + 3 * C0 + 2 * F0 + 6) - 1) - 0) - 0) - 0) - Cf) - C1) - C1) - C1) - (C0 + F0)) - 1) - C0) - 1)) (sb' := (((((((((((((Lf + 3 * L1 + 3 * L0 + 2 * G0 + 30) - 6) - 0) - 0) - 0) - Lf) - L1) - L1) - L1) - (L0 + G0)) - 4) - L0) - 4)) (by omega) (by omega) rfl (rest := [vi ((fch (T (a i0)) (-32768) 0) - (fch (T (a i0)) (32768 : Int) 0))]) (Nat.le_of_ble_eq_true rfl) (fun q h => h.elim) dX1_isTrue_83 (fun v_159 H_160 hpost_161 hz_162 hk_163 => ?_)
    obtain rfl := hpost_161
    have hl_164 := CS.kf0 hC_fr_158 (kF.ext hz_162 hk_163) hl_150
    have hl_165 := Po.kf hC_fr_158 (kF.ext hz_162 hk_163) aD.no hl_151
    have hl_166 := Po.kf hC_fr_158 (kF.ext hz_162 hk_163) aD.no hl_152
    have hl_167 := Po.kf hC_fr_158 (kF.ext hz_162 hk_163) aD.no hl_153
    have hl_168 := SQ.kf hC_fr_158 (kF.ext hz_162 hk_163) aD.no hl_154
    have hl_169 := Po.kf hC_fr_158 (kF.ext hz_162 hk_163) aD.no hl_155
    have hl_170 := Po.kf hC_fr_158 (kF.ext hz_162 hk_163) aD.no hl_156
    have hl_171 := Po.kf hC_fr_158 (kF.ext hz_162 hk_163) aD.no hl_157
    have hl_172 := SQ.kf hC_fr_158 (kF.ext hz_162 hk_163) aD.no hls_136
    refine V.eq (st' := [vi (arF (sq (T (a i0))) (seqLen (T (a i0)))), vi ((fch (T (a i0)) (-32768) 0) - (fch (T (a i0)) (32768 : Int) 0))]) rfl ?_
    refine v_icmp_ne E (tgt := 122) dX1_isTrue_86 (by decide) ⟨by omega, by omega⟩ ⟨by omega, by omega⟩ (fun c_86 => absurd c_86 (by omega)) (fun c_86 => ?_)
    refine v_iload E 2 rfl dX1_isTrue_89 ?_
    refine v_aload_n E 5 rfl dX1_isTrue_91 ?_
    refine V.frame (fun hfz_fr_174 hfk_fr_174 => ?_)
    rw [hH0] at hfz_fr_174 hfk_fr_174
    rw [hA0] at hfk_fr_174
    have hC_fr_174 := hC.call hA93 hfz_fr_174 hfk_fr_174
    obtain ⟨-, -, pk_180, vs_181, vf_182, vg_183, hkn_184, hpk_185, -⟩ := id (hl_164.2.2.2.2.1 i0 hii0)
    refine v_callV E (As := []) (b := (a i0)) (ci := 1) (C := RX2) (T := TX2) (N := 4) hkn_184 rfl (k_free κ H_160 (b := false) (N := N) (M := M) (M0 := M0) (N1 := N1) (M1 := M1) hC_fr_174 (fun q h => by have h2 := hsl0; exact ⟨by omega, by omega, by omega, by omega⟩) hH9.1 hfr9.1 (hl_164.2.2.2.2.1 i0 hii0)) (lw_V q1467 q1468 q1469 q74 q1470) 0 (by decide +kernel) rfl (by decide) (by decide) (cb' := ((((((((((((((Cf + 3 * C1 + 3 * C0 + 2 * F0 + 6) - 1) - 0) - 0) - 0) - Cf) - C1) - C1) - C1) - (C0 + F0)) - 1) - C0) - 1) - (C0 + F0))) (sb' := ((((((((((((((Lf + 3 * L1 + 3 * L0 + 2 * G0 + 30) - 6) - 0) - 0) - 0) - Lf) - L1) - L1) - L1) - (L0 + G0)) - 4) - L0) - 4) - (L0 + G0))) (by rw [bC_f]; have := (hQT i0 hii0 hposT).2.1; have := hfr9.2.1; omega) (by rw [bC_f]; have := (hQT i0 hii0 hposT).2.2.1; have := hfr9.2.2; omega) rfl (rest := [vi ((fch (T (a i0)) (-32768) 0) - (fch (T (a i0)) (32768 : Int) 0))]) (Nat.le_of_ble_eq_true rfl) (fun q h => by obtain ⟨fs9, h8⟩ := (hl_164.2.2.2.2.1 i0 hii0).cl; have h9 := pA.any hfk_fr_174 h8 (Or.inr (Or.inl rfl)) (hl_164.2.2.2.2.1 i0 hii0).2.1; rw [← show q = _ from h] at h9; exact h9.elim (fun e => hAll q e) (fun e => hNew q e)) dX1_isTrue_92 (fun v_175 H_176 hpost_177 hz_178 hk_179 => ?_)
    obtain ⟨qf_173, rfl, hPfqf_173, hKqf_173⟩ := hpost_177
    have hSk_186 := kS.of (hl_164.2.2.2.2.1 i0 hii0) hKqf_173 hz_178 hk_179
    have hl_187 := CS.ks hC_fr_174 hSk_186 hKqf_173 hl_164
    have hl_188 := Po.ks hC_fr_174 hSk_186 hl_165
    have hl_189 := Po.ks hC_fr_174 hSk_186 hl_166
    have hl_190 := Po.ks hC_fr_174 hSk_186 hl_167
    have hl_191 := SQ.ks hC_fr_174 hSk_186 hl_168
    have hl_192 := Po.ks hC_fr_174 hSk_186 hl_169
    have hl_193 := Po.ks hC_fr_174 hSk_186 hl_170
    have hl_194 := Po.ks hC_fr_174 hSk_186 hl_171
    have hl_195 := SQ.ks hC_fr_174 hSk_186 hl_172
    have hl_196 := Po.ks hC_fr_174 hSk_186 hpk_185
    have h13qf_173 := hPfqf_173.2.1
    refine V.eq (st' := [.ref qf_173, vi ((fch (T (a i0)) (-32768) 0) - (fch (T (a i0)) (32768 : Int) 0))]) rfl ?_
    refine V.frame (fun hfz_fr_197 hfk_fr_197 => ?_)
    rw [hH0] at hfz_fr_197 hfk_fr_197
    rw [hA0] at hfk_fr_197
    have hC_fr_197 := hC.call hA93 hfz_fr_197 hfk_fr_197
    obtain ⟨-, -, l_204, ho_203, -⟩ := id hPfqf_173
    refine v_callV E (As := []) (b := qf_173) (ci := 2) (C := RX3) (T := TX3) (N := 1) ho_203 rfl (p_deg κ H_176 hC_fr_197 hPfqf_173) (lw_V q617 q618 q619 q75 q620) 0 (by decide +kernel) rfl (by decide) (by decide) (cb' := (((((((((((((((Cf + 3 * C1 + 3 * C0 + 2 * F0 + 6) - 1) - 0) - 0) - 0) - Cf) - C1) - C1) - C1) - (C0 + F0)) - 1) - C0) - 1) - (C0 + F0)) - 0)) (sb' := (((((((((((((((Lf + 3 * L1 + 3 * L0 + 2 * G0 + 30) - 6) - 0) - 0) - 0) - Lf) - L1) - L1) - L1) - (L0 + G0)) - 4) - L0) - 4) - (L0 + G0)) - 0)) (by omega) (by omega) rfl (rest := [vi ((fch (T (a i0)) (-32768) 0) - (fch (T (a i0)) (32768 : Int) 0))]) (Nat.le_of_ble_eq_true rfl) (fun q h => h.elim) dX1_isTrue_95 (fun v_198 H_199 hpost_200 hz_201 hk_202 => ?_)
    obtain rfl := hpost_200
    have hl_205 := CS.kf0 hC_fr_197 (kF.ext hz_201 hk_202) hl_187
    have hl_206 := Po.kf hC_fr_197 (kF.ext hz_201 hk_202) aD.no hl_188
    have hl_207 := Po.kf hC_fr_197 (kF.ext hz_201 hk_202) aD.no hl_189
    have hl_208 := Po.kf hC_fr_197 (kF.ext hz_201 hk_202) aD.no hl_190
    have hl_209 := SQ.kf hC_fr_197 (kF.ext hz_201 hk_202) aD.no hl_191
    have hl_210 := Po.kf hC_fr_197 (kF.ext hz_201 hk_202) aD.no hl_192
    have hl_211 := Po.kf hC_fr_197 (kF.ext hz_201 hk_202) aD.no hl_193
    have hl_212 := Po.kf hC_fr_197 (kF.ext hz_201 hk_202) aD.no hl_194
    have hl_213 := SQ.kf hC_fr_197 (kF.ext hz_201 hk_202) aD.no hl_195
    have hl_214 := Po.kf hC_fr_197 (kF.ext hz_201 hk_202) aD.no hl_196
    have hl_215 := Po.kf hC_fr_197 (kF.ext hz_201 hk_202) aD.no hPfqf_173
    refine V.eq (st' := [vi (((Prod.fst (cFree (T (a i0))) : Nat) : Int) - 1), vi ((fch (T (a i0)) (-32768) 0) - (fch (T (a i0)) (32768 : Int) 0))]) rfl ?_
    refine v_icmp_gt E (tgt := 122) dX1_isTrue_98 (by decide) ⟨by omega, by omega⟩ ⟨by omega, by omega⟩ (fun c_98 => absurd c_98 (by omega)) (fun c_98 => ?_)
    refine v_iload E 0 rfl dX1_isTrue_101 ?_
    refine v_iload E 1 rfl dX1_isTrue_103 ?_
    refine v_icmp_lt E (tgt := 122) dX1_isTrue_105 (by decide) ⟨by omega, by omega⟩ ⟨by omega, by omega⟩ (fun c_105 => absurd c_105 (by omega)) (fun c_105 => ?_)
    refine v_iload E 0 rfl dX1_isTrue_108 ?_
    refine v_iload E 1 rfl dX1_isTrue_110 ?_
    refine v_isub E dX1_isTrue_112 ?_
    refine v_iconst E dX1_isTrue_113 ?_
    refine v_irem E ⟨by omega, by omega⟩ ⟨by omega, by omega⟩ (by decide) dX1_isTrue_114 ?_
    refine v_if_ne E (tgt := 122) dX1_isTrue_115 (by decide) (by rw [ht4]; exact ⟨by decide, by decide⟩) (fun c_115 => absurd c_115 (by exact (fun e => e ht4))) (fun c_115 => ?_)
    refine v_iconst E dX1_isTrue_118 ?_
    refine v_goto E (tgt := 123) dX1_isTrue_119 (by decide) ?_
    refine V.rt E hE (fun z9 E hE => ?_)
    refine v_zret E hE dX1_isTrue_123 rfl ?_
    have hop : xoTr S (i0 : Int) = (1, 0, S) := by unfold xoTr; rw [if_pos (by omega)]
    rw [hop]; exact ⟨rfl, rfl, CS.pub hl_205 hST hiso⟩
  · refine v_iconst E dX1_isTrue_15 ?_
    refine V.rt E hE (fun z9 E hE => ?_)
    refine v_zret E hE dX1_isTrue_16 rfl ?_
    have hop : xoTr S (i0 : Int) = (1, 0, S) := by unfold xoTr; rw [if_pos (by omega)]
    rw [hop]; exact ⟨rfl, rfl, CS.pub hl_25 hST hiso⟩
