/-! THE COMPONENT'S PUBLIC CALLS: elements of the sequence, the square-free part -/
def xoSdeg (S : Nat → Pl) (a i : Int) : zRc := if 0 ≤ a ∧ a < 5 then (if (S a.toNat).1 = 0 then (0, 2, S) else (if 0 ≤ i ∧ i < (seqLen (S a.toNat) : Int) then (((sq (S a.toNat) i.toNat).1 : Int) - 1, 0, S) else (0, 3, S))) else (0, 1, S)
def xoScf (S : Nat → Pl) (a i p : Int) : zRc := if (0 ≤ a ∧ a < 5) ∧ (0 ≤ p ∧ p ≤ 6) then (if (S a.toNat).1 = 0 then (0, 2, S) else (if 0 ≤ i ∧ i < (seqLen (S a.toNat) : Int) then ((sq (S a.toNat) i.toNat).2 p.toNat, 0, S) else (0, 3, S))) else (0, 1, S)
def xoFree (S : Nat → Pl) (a t : Int) : zRc := if (0 ≤ a ∧ a < 5) ∧ (0 ≤ t ∧ t < 5) then (if (S a.toNat).1 = 0 then (0, 2, S) else storeR (cFree (S a.toNat)) t.toNat 3 S) else (0, 1, S)
set_option maxHeartbeats 400000 in
set_option maxRecDepth 100000 in
/-- element -/
theorem x_elem (κ : zK) (H0 : Heap) {x ls bs li bi : Nat} {a : Nat → Nat} {iso : Option Nat} {T : Nat → Pl} {n cap : Nat} {iv : Nat → Ivl} {N : Nat → Nat → Nat} {M : Nat → Nat} {M0 : Nat} {Nt Kt : Nat → Nat} {C0 L0 C1 L1 : Nat} {i : Nat} {j : Int} (hrj : rI j) (hii : i < 5) (hQT : ∀ k, k < 5 → 0 < (T (a k)).1 → okQ (T (a k)) N M M0 Nt Kt C0 L0 C1 L1) (hC : CO κ H0) (hS : CS κ (dS ls bs li bi) H0 x ls bs li bi a iso T n cap iv)  : MtX κ yX1_element cX1_element 4 (some (.object "SturmRoots$Poly")) 14 380 (2 + C0) (12 + L0) H0 [.ref x, vi (i : Int), vi j] (fun q => q = a i) (fun v H1 => ∃ r : Nat, v = some (.ref r) ∧ (0 ≤ j ∧ j < (seqLen (T (a i)) : Int)) ∧ 0 < (T (a i)).1 ∧ Po κ (dS ls bs li bi) H1 r (sq (T (a i)) j.toNat) ∧ CS κ (dS ls bs li bi) H1 x ls bs li bi a iso T n cap iv) (fun C H1 => (C = "java/lang/ArithmeticException" ∧ (T (a i)).1 = 0 ∨ C = "java/util/NoSuchElementException" ∧ 0 < (T (a i)).1 ∧ ¬ (0 ≤ j ∧ j < (seqLen (T (a i)) : Int))) ∧ CS κ (dS ls bs li bi) H1 x ls bs li bi a iso T n cap iv) := by
  refine MtX.of (by decide) (Nat.le_of_ble_eq_true rfl) ?_
  intro z E X9 hE hH0 hA0 hL hini
  have hAll : ∀ q, (fun q => q = a i) q → zA z.A z.H0 q := fun q h => Or.inl (by rw [hA0]; exact h)
  have hNew : ∀ q, H0.size ≤ q → zA z.A z.H0 q := fun q h => Or.inr (by rw [hH0]; exact h)
  have E : zOK z cX1_element RX1 κ 14 380 (some (.object "SturmRoots$Poly")) := E
  refine V.eqL (lv' := [(0, .ref x), (1, vi (i : Int)), (2, vi j)]) rfl ?_
  have hA93 : ∀ q, (fun q => q = a i : Nat → Prop) q → κ.2 93 ≤ q := fun q h => by rw [show q = a i from h]; exact (hS.2.2.2.2.1 i hii).2.1
  have hD := hC.D
  have hsl0 := hS.sl
  refine v_aload_n E 0 rfl dX1_element_0 ?_
  refine v_iload_n E 1 rfl dX1_element_1 ?_
  refine V.frame (fun hfz_fr_1 hfk_fr_1 => ?_)
  rw [hH0] at hfz_fr_1 hfk_fr_1
  rw [hA0] at hfk_fr_1
  have hC_fr_1 := hC.call hA93 hfz_fr_1 hfk_fr_1
  refine v_callVX E X9 hE (As := [vi (i : Int)]) (b := x) (ci := 0) (C := RX1) (T := TX1) (N := 3) hS.2.1 rfl (x_nz κ H0 (i := i) hii hC_fr_1 hS) (lw_V q1458 q1460 qs40 q70 q1461) 1 (by decide +kernel) rfl (by decide) (by decide) (cb' := ((2 + C0) - 1)) (sb' := ((12 + L0) - 6)) (by omega) (by omega) rfl (rest := []) (Nat.le_of_ble_eq_true rfl) (fun q h => h.elim) dX1_element_2 (fun C9 H9 hx9 hz9 hk9 => (by exact ⟨Or.inl hx9, CS.kf0 hC_fr_1 (kF.ext hz9 hk9) hS⟩)) (fun v_2 H_3 hpost_4 hz_5 hk_6 => ?_)
  obtain ⟨rfl, hposT⟩ := hpost_4
  have hl_7 := CS.kf0 hC_fr_1 (kF.ext hz_5 hk_6) hS
  refine V.eq (st' := [.ref (a i)]) rfl ?_
  refine V.frame (fun hfz_fr_9 hfk_fr_9 => ?_)
  rw [hH0] at hfz_fr_9 hfk_fr_9
  rw [hA0] at hfk_fr_9
  have hC_fr_9 := hC.call hA93 hfz_fr_9 hfk_fr_9
  obtain ⟨-, -, pk_15, vs_16, vf_17, vg_18, hkn_19, hpk_20, -⟩ := id (hl_7.2.2.2.2.1 i hii)
  refine v_callV E (As := []) (b := (a i)) (ci := 1) (C := RX2) (T := TX2) (N := 4) hkn_19 rfl (k_seq κ H_3 (b := false) (N := N) (M := M) (M0 := M0) hC_fr_9 (fun q h => by have h2 := hsl0; exact ⟨by omega, by omega, by omega, by omega⟩) (hQT i hii hposT).1 (hl_7.2.2.2.2.1 i hii)) (lw_V q1496 q1472 q1473 q74 q1474) 0 (by decide +kernel) rfl (by decide) (by decide) (cb' := (((2 + C0) - 1) - C0)) (sb' := (((12 + L0) - 6) - L0)) (by rw [bC_f]; have := (hQT i hii hposT).2.1; omega) (by rw [bC_f]; have := (hQT i hii hposT).2.2.1; omega) rfl (rest := []) (Nat.le_of_ble_eq_true rfl) (fun q h => hAll q h) dX1_element_5 (fun v_10 H_11 hpost_12 hz_13 hk_14 => ?_)
  obtain ⟨ls_8, rfl, hls_8, hKls_8⟩ := hpost_12
  have hSk_21 := kS.of (hl_7.2.2.2.2.1 i hii) hKls_8 hz_13 hk_14
  have hl_22 := CS.ks hC_fr_9 hSk_21 hKls_8 hl_7
  have hl_23 := Po.ks hC_fr_9 hSk_21 hpk_20
  refine V.eq (st' := [.ref ls_8]) rfl ?_
  refine v_astore_n E dX1_element_8 (zlt hL rfl) (lv' := [(3, .ref ls_8), (0, .ref x), (1, vi (i : Int)), (2, vi j)]) rfl ?_
  refine v_iload_n E 3 rfl dX1_element_9 ?_
  refine v_if_lt E (tgt := 21) dX1_element_10 (by decide) hrj (fun c_10 => ?_) (fun c_10 => ?_)
  · refine V.frame (fun hfz_fr_24 hfk_fr_24 => ?_)
    rw [hH0] at hfz_fr_24 hfk_fr_24
    rw [hA0] at hfk_fr_24
    have hC_fr_24 := hC.call hA93 hfz_fr_24 hfk_fr_24
    refine V.frame (fun hfz_fr_25 hfk_fr_25 => ?_)
    rw [hH0] at hfz_fr_25 hfk_fr_25
    rw [hA0] at hfk_fr_25
    refine v_throw0 E X9 hE (cls := "java/util/NoSuchElementException") (names := ["java/lang/RuntimeException", "java/lang/Exception"]) (ik := 199) (ic := 201) (by decide +kernel) (by decide +kernel) q1509 q93 (ex_4 E.kn E.2.2.2.2.1 q1510) ex_4_ok dX1_element_21 dX1_element_24 dX1_element_25 dX1_element_28 (by decide) (Nat.le_of_ble_eq_true rfl) (by omega) (by omega) (fun H9 hz9 hk9 => ?_)
    exact ⟨Or.inr ⟨rfl, hposT, by omega⟩, CS.kf0 hC_fr_24 (kF.ext hz9 (fun q hq _ => hk9 q hq)) hl_22⟩
  · refine v_iload_n E 3 rfl dX1_element_13 ?_
    refine v_aload_n E 0 rfl dX1_element_14 ?_
    obtain ⟨bx_26, cx_27, md_28, g_29, hA_30, hel_31, -⟩ := id hls_8
    refine V.frame (fun hfz_fr_32 hfk_fr_32 => ?_)
    rw [hH0] at hfz_fr_32 hfk_fr_32
    rw [hA0] at hfk_fr_32
    have hC_fr_32 := hC.call hA93 hfz_fr_32 hfk_fr_32
    obtain ⟨bx_38, cx_39, md_40, g_41, hA_42, -⟩ := id hls_8
    refine v_callV E (As := []) (b := ls_8) (ci := 5) (C := RJ2) (T := TJ2) (N := 3) hA_42.1 rfl (j_size κ H_11 hA_30) (lw_V q286 q152 q153 q73 q154) 0 (by decide +kernel) rfl (by decide) (by decide) (cb' := ((((2 + C0) - 1) - C0) - 0)) (sb' := ((((12 + L0) - 6) - L0) - 0)) (by omega) (by omega) rfl (rest := [vi j]) (Nat.le_of_ble_eq_true rfl) (fun q h => h.elim) dX1_element_15 (fun v_33 H_34 hpost_35 hz_36 hk_37 => ?_)
    obtain rfl := hpost_35
    have hl_43 := CS.kf0 hC_fr_32 (kF.ext hz_36 hk_37) hl_22
    have hl_44 := Po.kf hC_fr_32 (kF.ext hz_36 hk_37) aD.no hl_23
    have hl_45 := SQ.kf hC_fr_32 (kF.ext hz_36 hk_37) aD.no hls_8
    refine V.eq (st' := [vi ((seqLen (T (a i)) : Nat) : Int), vi j]) rfl ?_
    refine v_icmp_lt E (tgt := 29) dX1_element_18 (by decide) hrj ⟨by omega, by have := seqLen_in (T (a i)); omega⟩ (fun c_18 => ?_) (fun c_18 => ?_)
    · refine v_aload_n E 0 rfl dX1_element_29 ?_
      refine v_iload_n E 3 rfl dX1_element_30 ?_
      obtain ⟨j9, hj9⟩ : ∃ j9 : Nat, j = (j9 : Int) := ⟨j.toNat, by omega⟩
      refine V.topi (x' := ((j9 : Nat) : Int)) (congrArg iZ (by omega)) ?_
      obtain ⟨bx_46, cx_47, md_48, g_49, hA_50, hel_51, -⟩ := id hl_45
      obtain ⟨y_52, hy_53, hE_54⟩ := hel_51 j9 (by omega)
      refine V.frame (fun hfz_fr_55 hfk_fr_55 => ?_)
      rw [hH0] at hfz_fr_55 hfk_fr_55
      rw [hA0] at hfk_fr_55
      have hC_fr_55 := hC.call hA93 hfz_fr_55 hfk_fr_55
      obtain ⟨bx_61, cx_62, md_63, g_64, hA_65, -⟩ := id hl_45
      refine v_callV E (As := [vi ((j9 : Nat) : Int)]) (b := ls_8) (ci := 5) (C := RJ2) (T := TJ2) (N := 3) hA_65.1 rfl (j_get κ H_34 (i := j9) (y := y_52) (by omega) hy_53 hA_50) (lw_V q610 q156 q157 q73 q158) 1 (by decide +kernel) rfl (by decide) (by decide) (cb' := (((((2 + C0) - 1) - C0) - 0) - 0)) (sb' := (((((12 + L0) - 6) - L0) - 0) - 0)) (by omega) (by omega) rfl (rest := []) (Nat.le_of_ble_eq_true rfl) (fun q h => h.elim) dX1_element_31 (fun v_56 H_57 hpost_58 hz_59 hk_60 => ?_)
      obtain rfl := hpost_58
      have hl_66 := CS.kf0 hC_fr_55 (kF.ext hz_59 hk_60) hl_43
      have hl_67 := Po.kf hC_fr_55 (kF.ext hz_59 hk_60) aD.no hl_44
      have hl_68 := SQ.kf hC_fr_55 (kF.ext hz_59 hk_60) aD.no hl_45
      have hl_69 := Po.kf hC_fr_55 (kF.ext hz_59 hk_60) aD.no hE_54
      refine V.eq (st' := [.ref y_52]) rfl ?_
      obtain ⟨-, -, l_71, ho_70, -⟩ := id hl_69
      refine v_castS E ho_70 (q := (RX3, TX3, 1)) rfl q145 dX1_element_34 ?_
      refine V.rt E hE (fun z9 E hE => ?_)
      refine v_aret E hE rfl (Or.inl ⟨_, rfl⟩) dX1_element_37 (Or.inr ⟨_, rfl⟩) ?_
      exact ⟨y_52, rfl, by omega, hposT, by rw [show j.toNat = j9 by omega]; exact hl_69, hl_66⟩
    · refine V.frame (fun hfz_fr_72 hfk_fr_72 => ?_)
      rw [hH0] at hfz_fr_72 hfk_fr_72
      rw [hA0] at hfk_fr_72
      have hC_fr_72 := hC.call hA93 hfz_fr_72 hfk_fr_72
      refine V.frame (fun hfz_fr_73 hfk_fr_73 => ?_)
      rw [hH0] at hfz_fr_73 hfk_fr_73
      rw [hA0] at hfk_fr_73
      refine v_throw0 E X9 hE (cls := "java/util/NoSuchElementException") (names := ["java/lang/RuntimeException", "java/lang/Exception"]) (ik := 199) (ic := 201) (by decide +kernel) (by decide +kernel) q1509 q93 (ex_4 E.kn E.2.2.2.2.1 q1510) ex_4_ok dX1_element_21 dX1_element_24 dX1_element_25 dX1_element_28 (by decide) (Nat.le_of_ble_eq_true rfl) (by omega) (by omega) (fun H9 hz9 hk9 => ?_)
      exact ⟨Or.inr ⟨rfl, hposT, by omega⟩, CS.kf0 hC_fr_72 (kF.ext hz9 (fun q hq _ => hk9 q hq)) hl_43⟩

set_option maxHeartbeats 400000 in
set_option maxRecDepth 100000 in
/-- sturmDegree -/
theorem c_sdeg (κ : zK) (H0 : Heap) {x : Nat} {S : Nat → Pl} {isoP : Option Pl} {n cap : Nat} {iv : Nat → Ivl} {v0 : Int} (hrv0 : rI v0) {v1 : Int} (hrv1 : rI v1) (hC : CO κ H0) {N : Nat → Nat → Nat} {M : Nat → Nat} {M0 : Nat} {Nt Kt : Nat → Nat} {C0 L0 C1 L1 : Nat} (hQ : ∀ i, i < 5 → 0 < (S i).1 → okQ (S i) N M M0 Nt Kt C0 L0 C1 L1) (hP : CP κ H0 x S isoP n cap iv)  : MtX κ yX1_sturmDegree cX1_sturmDegree 3 (some .int) 15 403 (3 + C0) (18 + L0) H0 [.ref x, vi v0, vi v1] (pA κ H0) (fun v H1 => (xoSdeg S v0 v1).2.1 = 0 ∧ v = some (vi (xoSdeg S v0 v1).1) ∧ CP κ H1 x (xoSdeg S v0 v1).2.2 isoP n cap iv) (fun C H1 => (C = "java/lang/IndexOutOfBoundsException" ∧ (xoSdeg S v0 v1).2.1 = 1 ∨ C = "java/lang/ArithmeticException" ∧ (xoSdeg S v0 v1).2.1 = 2 ∨ C = "java/util/NoSuchElementException" ∧ (xoSdeg S v0 v1).2.1 = 3) ∧ CP κ H1 x S isoP n cap iv) := by
  refine MtX.of (by decide) (Nat.le_of_ble_eq_true rfl) ?_
  intro z E X9 hE hH0 hA0 hL hini
  have hAll : ∀ q, (pA κ H0) q → zA z.A z.H0 q := fun q h => Or.inl (by rw [hA0]; exact h)
  have hNew : ∀ q, H0.size ≤ q → zA z.A z.H0 q := fun q h => Or.inr (by rw [hH0]; exact h)
  have E : zOK z cX1_sturmDegree RX1 κ 15 403 (some .int) := E
  refine V.eqL (lv' := [(0, .ref x), (1, vi v0), (2, vi v1)]) rfl ?_
  obtain ⟨ls, bs, li, bi, a, iso, T, hS, hST, hiso⟩ := hP
  have hA93 : ∀ q, pA κ H0 q → κ.2 93 ≤ q := fun q h => h.1
  have hD := hC.D
  have hsl0 := hS.sl
  have hQT : ∀ k, k < 5 → 0 < (T (a k)).1 → okQ (T (a k)) N M M0 Nt Kt C0 L0 C1 L1 := fun k hk h => by rw [← hST k hk] at h ⊢; exact hQ k hk h
  refine v_iload_n E 1 rfl dX1_sturmDegree_0 ?_
  refine V.frame (fun hfz_fr_1 hfk_fr_1 => ?_)
  rw [hH0] at hfz_fr_1 hfk_fr_1
  rw [hA0] at hfk_fr_1
  have hC_fr_1 := hC.call hA93 hfz_fr_1 hfk_fr_1
  refine v_callSX E X9 hE (As := [vi v0]) (x_slot κ H0 hrv0) (lw_S q570 q571 q70 q572) 1 (by decide +kernel) rfl (by decide) (by decide) (cb' := ((3 + C0) - 1)) (sb' := ((18 + L0) - 6)) (by omega) (by omega) rfl (rest := []) (Nat.le_of_ble_eq_true rfl) (fun q h => h.elim) dX1_sturmDegree_1 (fun C9 H9 hx9 hz9 hk9 => by exact ⟨Or.inl (⟨hx9.1, (by have hx8 := hx9.2; unfold xoSdeg; first | (split <;> first | rfl | (exfalso; omega) | (split <;> first | rfl | (exfalso; omega) | (split <;> first | rfl | (exfalso; omega)))))⟩), CS.pub (CS.kf0 hC_fr_1 (kF.ext hz9 hk9) hS) hST hiso⟩) (fun v_2 H_3 hpost_4 hz_5 hk_6 => ?_)
  obtain ⟨rfl, hsv0⟩ := hpost_4
  have hl_7 := CS.kf0 hC_fr_1 (kF.ext hz_5 hk_6) hS
  obtain ⟨i0, hni0⟩ : ∃ i0 : Nat, v0 = (i0 : Int) := ⟨v0.toNat, by omega⟩
  subst hni0
  have hii0 : i0 < 5 := by omega
  refine V.eq (st' := []) rfl ?_
  refine v_aload_n E 0 rfl dX1_sturmDegree_4 ?_
  refine v_iload_n E 1 rfl dX1_sturmDegree_5 ?_
  refine v_iload_n E 2 rfl dX1_sturmDegree_6 ?_
  refine V.frame (fun hfz_fr_8 hfk_fr_8 => ?_)
  rw [hH0] at hfz_fr_8 hfk_fr_8
  rw [hA0] at hfk_fr_8
  have hC_fr_8 := hC.call hA93 hfz_fr_8 hfk_fr_8
  refine v_callVX E X9 hE (As := [vi ((i0 : Nat) : Int), vi v1]) (b := x) (ci := 0) (C := RX1) (T := TX1) (N := 3) hl_7.2.1 rfl (x_elem κ H_3 (N := N) (M := M) (M0 := M0) (Nt := Nt) (Kt := Kt) (C0 := C0) (L0 := L0) (C1 := C1) (L1 := L1) hrv1 hii0 hQT hC_fr_8 hl_7) (lw_V q1505 q1507 qs41 q70 q1508) 2 (by decide +kernel) rfl (by decide) (by decide) (cb' := (((3 + C0) - 1) - (2 + C0))) (sb' := (((18 + L0) - 6) - (12 + L0))) (by omega) (by omega) rfl (rest := []) (Nat.le_of_ble_eq_true rfl) (fun q h => by obtain ⟨fs9, h8⟩ := (hl_7.2.2.2.2.1 i0 hii0).cl; have h9 := pA.any hfk_fr_8 h8 (Or.inr (Or.inl rfl)) (hl_7.2.2.2.2.1 i0 hii0).2.1; rw [← show q = _ from h] at h9; exact h9.elim (fun e => hAll q e) (fun e => hNew q e)) dX1_sturmDegree_7 (fun C9 H9 hx9 hz9 hk9 => (by
          refine ⟨?_, CS.pub hx9.2 hST hiso⟩
          rcases hx9.1 with ⟨e1, e2⟩ | ⟨e1, e2, e3⟩
          · exact Or.inr (Or.inl (⟨e1, by rw [← hST i0 hii0] at e2; exact (by show (xoSdeg S (i0 : Int) v1).2.1 = 2; unfold xoSdeg; rw [if_pos (by omega)]; exact congrArg (fun t : zRc => t.2.1) (if_pos e2))⟩))
          · exact Or.inr (Or.inr (⟨e1, by rw [← hST i0 hii0] at e2 e3; exact (by show (xoSdeg S (i0 : Int) v1).2.1 = 3; unfold xoSdeg; rw [if_pos (by omega)]; show (if (S i0).1 = 0 then _ else _ : zRc).2.1 = 3; rw [if_neg (by omega)]; exact congrArg (fun t : zRc => t.2.1) (if_neg e3))⟩)))) (fun v_9 H_10 hpost_11 hz_12 hk_13 => ?_)
  obtain ⟨r9, rfl, hj9, hposT, hPe, hSe⟩ := hpost_11
  refine V.eq (st' := [.ref r9]) rfl ?_
  refine V.frame (fun hfz_fr_14 hfk_fr_14 => ?_)
  rw [hH0] at hfz_fr_14 hfk_fr_14
  rw [hA0] at hfk_fr_14
  have hC_fr_14 := hC.call hA93 hfz_fr_14 hfk_fr_14
  obtain ⟨-, -, l_21, ho_20, -⟩ := id hPe
  refine v_callV E (As := []) (b := r9) (ci := 2) (C := RX3) (T := TX3) (N := 1) ho_20 rfl (p_deg κ H_10 hC_fr_14 hPe) (lw_V q617 q618 q619 q75 q620) 0 (by decide +kernel) rfl (by decide) (by decide) (cb' := ((((3 + C0) - 1) - (2 + C0)) - 0)) (sb' := ((((18 + L0) - 6) - (12 + L0)) - 0)) (by omega) (by omega) rfl (rest := []) (Nat.le_of_ble_eq_true rfl) (fun q h => h.elim) dX1_sturmDegree_10 (fun v_15 H_16 hpost_17 hz_18 hk_19 => ?_)
  obtain rfl := hpost_17
  have hl_22 := CS.kf0 hC_fr_14 (kF.ext hz_18 hk_19) hSe
  have hl_23 := Po.kf hC_fr_14 (kF.ext hz_18 hk_19) aD.no hPe
  refine V.eq (st' := [vi (((Prod.fst (sq (T (a i0)) (Int.toNat v1)) : Nat) : Int) - 1)]) rfl ?_
  refine V.rt E hE (fun z9 E hE => ?_)
  refine v_iret E hE dX1_sturmDegree_13 ?_
  have hop : xoSdeg S (i0 : Int) v1 = (((sq (T (a i0)) v1.toNat).1 : Int) - 1, 0, S) := by unfold xoSdeg; rw [if_pos (by omega)]; show (if (S i0).1 = 0 then _ else (if 0 ≤ v1 ∧ v1 < (seqLen (S i0) : Int) then (((sq (S i0) v1.toNat).1 : Int) - 1, 0, S) else _)) = _; rw [hST i0 hii0, if_neg (by omega), if_pos hj9]
  rw [hop]; exact ⟨rfl, rfl, CS.pub hl_22 hST hiso⟩

set_option maxHeartbeats 400000 in
set_option maxRecDepth 100000 in
/-- sturmCoefficient -/
theorem c_scf (κ : zK) (H0 : Heap) {x : Nat} {S : Nat → Pl} {isoP : Option Pl} {n cap : Nat} {iv : Nat → Ivl} {v0 : Int} (hrv0 : rI v0) {v1 : Int} (hrv1 : rI v1) {v2 : Int} (hrv2 : rI v2) (hC : CO κ H0) {N : Nat → Nat → Nat} {M : Nat → Nat} {M0 : Nat} {Nt Kt : Nat → Nat} {C0 L0 C1 L1 : Nat} (hQ : ∀ i, i < 5 → 0 < (S i).1 → okQ (S i) N M M0 Nt Kt C0 L0 C1 L1) (hP : CP κ H0 x S isoP n cap iv)  : MtX κ yX1_sturmCoefficient cX1_sturmCoefficient 4 (some .long) 15 403 (5 + C0) (36 + L0) H0 [.ref x, vi v0, vi v1, vi v2] (pA κ H0) (fun v H1 => (xoScf S v0 v1 v2).2.1 = 0 ∧ v = some (vj (xoScf S v0 v1 v2).1) ∧ CP κ H1 x (xoScf S v0 v1 v2).2.2 isoP n cap iv) (fun C H1 => (C = "java/lang/IndexOutOfBoundsException" ∧ (xoScf S v0 v1 v2).2.1 = 1 ∨ C = "java/lang/ArithmeticException" ∧ (xoScf S v0 v1 v2).2.1 = 2 ∨ C = "java/util/NoSuchElementException" ∧ (xoScf S v0 v1 v2).2.1 = 3) ∧ CP κ H1 x S isoP n cap iv) := by
  refine MtX.of (by decide) (Nat.le_of_ble_eq_true rfl) ?_
  intro z E X9 hE hH0 hA0 hL hini
  have hAll : ∀ q, (pA κ H0) q → zA z.A z.H0 q := fun q h => Or.inl (by rw [hA0]; exact h)
  have hNew : ∀ q, H0.size ≤ q → zA z.A z.H0 q := fun q h => Or.inr (by rw [hH0]; exact h)
  have E : zOK z cX1_sturmCoefficient RX1 κ 15 403 (some .long) := E
  refine V.eqL (lv' := [(0, .ref x), (1, vi v0), (2, vi v1), (3, vi v2)]) rfl ?_
  obtain ⟨ls, bs, li, bi, a, iso, T, hS, hST, hiso⟩ := hP
  have hA93 : ∀ q, pA κ H0 q → κ.2 93 ≤ q := fun q h => h.1
  have hD := hC.D
  have hsl0 := hS.sl
  have hQT : ∀ k, k < 5 → 0 < (T (a k)).1 → okQ (T (a k)) N M M0 Nt Kt C0 L0 C1 L1 := fun k hk h => by rw [← hST k hk] at h ⊢; exact hQ k hk h
  refine v_iload_n E 1 rfl dX1_sturmCoefficient_0 ?_
  refine V.frame (fun hfz_fr_1 hfk_fr_1 => ?_)
  rw [hH0] at hfz_fr_1 hfk_fr_1
  rw [hA0] at hfk_fr_1
  have hC_fr_1 := hC.call hA93 hfz_fr_1 hfk_fr_1
  refine v_callSX E X9 hE (As := [vi v0]) (x_slot κ H0 hrv0) (lw_S q570 q571 q70 q572) 1 (by decide +kernel) rfl (by decide) (by decide) (cb' := ((5 + C0) - 1)) (sb' := ((36 + L0) - 6)) (by omega) (by omega) rfl (rest := []) (Nat.le_of_ble_eq_true rfl) (fun q h => h.elim) dX1_sturmCoefficient_1 (fun C9 H9 hx9 hz9 hk9 => by exact ⟨Or.inl (⟨hx9.1, (by have hx8 := hx9.2; unfold xoScf; first | (split <;> first | rfl | (exfalso; omega) | (split <;> first | rfl | (exfalso; omega) | (split <;> first | rfl | (exfalso; omega)))))⟩), CS.pub (CS.kf0 hC_fr_1 (kF.ext hz9 hk9) hS) hST hiso⟩) (fun v_2 H_3 hpost_4 hz_5 hk_6 => ?_)
  obtain ⟨rfl, hsv0⟩ := hpost_4
  have hl_7 := CS.kf0 hC_fr_1 (kF.ext hz_5 hk_6) hS
  obtain ⟨i0, hni0⟩ : ∃ i0 : Nat, v0 = (i0 : Int) := ⟨v0.toNat, by omega⟩
  subst hni0
  have hii0 : i0 < 5 := by omega
  refine V.eq (st' := []) rfl ?_
  refine v_iload_n E 3 rfl dX1_sturmCoefficient_4 ?_
  refine V.frame (fun hfz_fr_8 hfk_fr_8 => ?_)
  rw [hH0] at hfz_fr_8 hfk_fr_8
  rw [hA0] at hfk_fr_8
  have hC_fr_8 := hC.call hA93 hfz_fr_8 hfk_fr_8
  refine v_callSX E X9 hE (As := [vi v2]) (x_pow κ H_3 hrv2) (lw_S q588 q589 q70 q590) 1 (by decide +kernel) rfl (by decide) (by decide) (cb' := (((5 + C0) - 1) - 1)) (sb' := (((36 + L0) - 6) - 6)) (by omega) (by omega) rfl (rest := []) (Nat.le_of_ble_eq_true rfl) (fun q h => h.elim) dX1_sturmCoefficient_5 (fun C9 H9 hx9 hz9 hk9 => by exact ⟨Or.inl (⟨hx9.1, (by have hx8 := hx9.2; unfold xoScf; first | (split <;> first | rfl | (exfalso; omega) | (split <;> first | rfl | (exfalso; omega) | (split <;> first | rfl | (exfalso; omega)))))⟩), CS.pub (CS.kf0 hC_fr_8 (kF.ext hz9 hk9) hl_7) hST hiso⟩) (fun v_9 H_10 hpost_11 hz_12 hk_13 => ?_)
  obtain ⟨rfl, hsv2⟩ := hpost_11
  have hl_14 := CS.kf0 hC_fr_8 (kF.ext hz_12 hk_13) hl_7
  obtain ⟨i2, hni2⟩ : ∃ i2 : Nat, v2 = (i2 : Int) := ⟨v2.toNat, by omega⟩
  subst hni2
  have hii2 : i2 < 7 := by omega
  refine V.eq (st' := []) rfl ?_
  refine v_aload_n E 0 rfl dX1_sturmCoefficient_8 ?_
  refine v_iload_n E 1 rfl dX1_sturmCoefficient_9 ?_
  refine v_iload_n E 2 rfl dX1_sturmCoefficient_10 ?_
  refine V.frame (fun hfz_fr_15 hfk_fr_15 => ?_)
  rw [hH0] at hfz_fr_15 hfk_fr_15
  rw [hA0] at hfk_fr_15
  have hC_fr_15 := hC.call hA93 hfz_fr_15 hfk_fr_15
  refine v_callVX E X9 hE (As := [vi ((i0 : Nat) : Int), vi v1]) (b := x) (ci := 0) (C := RX1) (T := TX1) (N := 3) hl_14.2.1 rfl (x_elem κ H_10 (N := N) (M := M) (M0 := M0) (Nt := Nt) (Kt := Kt) (C0 := C0) (L0 := L0) (C1 := C1) (L1 := L1) hrv1 hii0 hQT hC_fr_15 hl_14) (lw_V q1505 q1507 qs41 q70 q1508) 2 (by decide +kernel) rfl (by decide) (by decide) (cb' := ((((5 + C0) - 1) - 1) - (2 + C0))) (sb' := ((((36 + L0) - 6) - 6) - (12 + L0))) (by omega) (by omega) rfl (rest := []) (Nat.le_of_ble_eq_true rfl) (fun q h => by obtain ⟨fs9, h8⟩ := (hl_14.2.2.2.2.1 i0 hii0).cl; have h9 := pA.any hfk_fr_15 h8 (Or.inr (Or.inl rfl)) (hl_14.2.2.2.2.1 i0 hii0).2.1; rw [← show q = _ from h] at h9; exact h9.elim (fun e => hAll q e) (fun e => hNew q e)) dX1_sturmCoefficient_11 (fun C9 H9 hx9 hz9 hk9 => (by
          refine ⟨?_, CS.pub hx9.2 hST hiso⟩
          rcases hx9.1 with ⟨e1, e2⟩ | ⟨e1, e2, e3⟩
          · exact Or.inr (Or.inl (⟨e1, by rw [← hST i0 hii0] at e2; exact (by show (xoScf S (i0 : Int) v1 (i2 : Int)).2.1 = 2; unfold xoScf; rw [if_pos ⟨⟨by omega, by omega⟩, by omega, by omega⟩]; exact congrArg (fun t : zRc => t.2.1) (if_pos e2))⟩))
          · exact Or.inr (Or.inr (⟨e1, by rw [← hST i0 hii0] at e2 e3; exact (by show (xoScf S (i0 : Int) v1 (i2 : Int)).2.1 = 3; unfold xoScf; rw [if_pos ⟨⟨by omega, by omega⟩, by omega, by omega⟩]; show (if (S i0).1 = 0 then _ else _ : zRc).2.1 = 3; rw [if_neg (by omega)]; exact congrArg (fun t : zRc => t.2.1) (if_neg e3))⟩)))) (fun v_16 H_17 hpost_18 hz_19 hk_20 => ?_)
  obtain ⟨r9, rfl, hj9, hposT, hPe, hSe⟩ := hpost_18
  refine V.eq (st' := [.ref r9]) rfl ?_
  refine v_iload_n E 3 rfl dX1_sturmCoefficient_14 ?_
  refine V.frame (fun hfz_fr_23 hfk_fr_23 => ?_)
  rw [hH0] at hfz_fr_23 hfk_fr_23
  rw [hA0] at hfk_fr_23
  have hC_fr_23 := hC.call hA93 hfz_fr_23 hfk_fr_23
  obtain ⟨-, -, l_30, ho_29, -⟩ := id hPe
  refine v_callV E (As := [vi ((i2 : Nat) : Int)]) (b := r9) (ci := 2) (C := RX3) (T := TX3) (N := 1) ho_29 rfl (p_at κ H_17 (i := i2) (by omega) hC_fr_23 hPe) (lw_V q467 q468 q469 q75 q470) 1 (by decide +kernel) rfl (by decide) (by decide) (cb' := (((((5 + C0) - 1) - 1) - (2 + C0)) - 0)) (sb' := (((((36 + L0) - 6) - 6) - (12 + L0)) - 0)) (by omega) (by omega) rfl (rest := []) (Nat.le_of_ble_eq_true rfl) (fun q h => h.elim) dX1_sturmCoefficient_15 (fun v_24 H_25 hpost_26 hz_27 hk_28 => ?_)
  obtain ⟨qa_21, rfl, hBa_22⟩ := hpost_26
  have hl_31 := CS.kf0 hC_fr_23 (kF.ext hz_27 hk_28) hSe
  have hl_32 := Po.kf hC_fr_23 (kF.ext hz_27 hk_28) aD.no hPe
  refine V.eq (st' := [.ref qa_21]) rfl ?_
  refine V.frame (fun hfz_fr_33 hfk_fr_33 => ?_)
  rw [hH0] at hfz_fr_33 hfk_fr_33
  rw [hA0] at hfk_fr_33
  have hC_fr_33 := hC.call hA93 hfz_fr_33 hfk_fr_33
  obtain ⟨mz_40, nz_40, cfz_40, ⟨c1z_40, c2z_40, c3z_40, ho_39⟩, -⟩ := id hBa_22
  refine v_callV E (As := []) (b := qa_21) (ci := 6) (C := RJ16) (T := TJ16) (N := 6) ho_39 rfl (g_longValue κ H_25 hC_fr_33 hBa_22) (lw_V q512 q513 q514 q91 q515) 0 (by decide +kernel) rfl (by decide) (by decide) (cb' := ((((((5 + C0) - 1) - 1) - (2 + C0)) - 0) - 0)) (sb' := ((((((36 + L0) - 6) - 6) - (12 + L0)) - 0) - 0)) (by omega) (by omega) rfl (rest := []) (Nat.le_of_ble_eq_true rfl) (fun q h => by have h9 := pA.bi hfk_fr_33 hBa_22 h.2; rw [← h.1] at h9; exact h9.elim (fun e => hAll q e) (fun e => hNew q e)) dX1_sturmCoefficient_18 (fun v_34 H_35 hpost_36 hz_37 hk_38 => ?_)
  obtain ⟨rfl, hBI9⟩ := hpost_36
  have hU_41 := kU.of hC_fr_33 hBa_22 hBI9 hz_37 hk_38
  have hl_42 := CS.ku hC_fr_33 hU_41 hl_31
  have hl_43 := Po.ku hC_fr_33 hU_41 hl_32
  have hl_44 := (hU_41.2.2.2.2.2 _ _ hBa_22)
  refine V.eq (st' := [vj ((sq (T (a i0)) (Int.toNat v1)).2 i2)]) rfl ?_
  refine V.rt E hE (fun z9 E hE => ?_)
  refine v_lret E hE dX1_sturmCoefficient_21 ?_
  have hop : xoScf S (i0 : Int) v1 (i2 : Int) = ((sq (T (a i0)) v1.toNat).2 i2, 0, S) := by unfold xoScf; rw [if_pos ⟨⟨by omega, by omega⟩, by omega, by omega⟩]; show (if (S i0).1 = 0 then _ else (if 0 ≤ v1 ∧ v1 < (seqLen (S i0) : Int) then ((sq (S i0) v1.toNat).2 i2, 0, S) else _)) = _; rw [hST i0 hii0, if_neg (by omega), if_pos hj9]
  rw [hop]; exact ⟨rfl, rfl, CS.pub hl_42 hST hiso⟩

set_option maxHeartbeats 400000 in
set_option maxRecDepth 100000 in
/-- squareFreePart -/
theorem c_free (κ : zK) (H0 : Heap) {x : Nat} {S : Nat → Pl} {isoP : Option Pl} {n cap : Nat} {iv : Nat → Ivl} {v0 : Int} (hrv0 : rI v0) {v1 : Int} (hrv1 : rI v1) (hC : CO κ H0) {N : Nat → Nat → Nat} {M : Nat → Nat} {M0 : Nat} {Nt Kt : Nat → Nat} {C0 L0 C1 L1 : Nat} {N1 M1 F0 G0 : Nat} (hQ : ∀ i, i < 5 → 0 < (S i).1 → okQ (S i) N M M0 Nt Kt C0 L0 C1 L1) (hFr : ∀ i, i < 5 → 0 < (S i).1 → fitFr (S i) N1 M1 ∧ frC (S i) ≤ F0 ∧ frL (S i) N1 M1 ≤ G0) (hP : CP κ H0 x S isoP n cap iv)  : MtX κ yX1_squareFreePart cX1_squareFreePart 3 (some .int) 16 420 (21 + C0 + F0) (130 + L0 + G0) H0 [.ref x, vi v0, vi v1] (pA κ H0) (fun v H1 => (xoFree S v0 v1).2.1 = 0 ∧ v = some (vi (xoFree S v0 v1).1) ∧ CP κ H1 x (xoFree S v0 v1).2.2 isoP n cap iv) (fun C H1 => (C = "java/lang/IndexOutOfBoundsException" ∧ (xoFree S v0 v1).2.1 = 1 ∨ C = "java/lang/ArithmeticException" ∧ (xoFree S v0 v1).2.1 = 2 ∨ C = "java/lang/IllegalStateException" ∧ (xoFree S v0 v1).2.1 = 3) ∧ CP κ H1 x S isoP n cap iv) := by
  refine MtX.of (by decide) (Nat.le_of_ble_eq_true rfl) ?_
  intro z E X9 hE hH0 hA0 hL hini
  have hAll : ∀ q, (pA κ H0) q → zA z.A z.H0 q := fun q h => Or.inl (by rw [hA0]; exact h)
  have hNew : ∀ q, H0.size ≤ q → zA z.A z.H0 q := fun q h => Or.inr (by rw [hH0]; exact h)
  have E : zOK z cX1_squareFreePart RX1 κ 16 420 (some .int) := E
  refine V.eqL (lv' := [(0, .ref x), (1, vi v0), (2, vi v1)]) rfl ?_
  obtain ⟨ls, bs, li, bi, a, iso, T, hS, hST, hiso⟩ := hP
  have hA93 : ∀ q, pA κ H0 q → κ.2 93 ≤ q := fun q h => h.1
  have hD := hC.D
  have hsl0 := hS.sl
  have hQT : ∀ k, k < 5 → 0 < (T (a k)).1 → okQ (T (a k)) N M M0 Nt Kt C0 L0 C1 L1 := fun k hk h => by rw [← hST k hk] at h ⊢; exact hQ k hk h
  refine v_iload_n E 1 rfl dX1_squareFreePart_0 ?_
  refine V.frame (fun hfz_fr_1 hfk_fr_1 => ?_)
  rw [hH0] at hfz_fr_1 hfk_fr_1
  rw [hA0] at hfk_fr_1
  have hC_fr_1 := hC.call hA93 hfz_fr_1 hfk_fr_1
  refine v_callSX E X9 hE (As := [vi v0]) (x_slot κ H0 hrv0) (lw_S q570 q571 q70 q572) 1 (by decide +kernel) rfl (by decide) (by decide) (cb' := ((21 + C0 + F0) - 1)) (sb' := ((130 + L0 + G0) - 6)) (by omega) (by omega) rfl (rest := []) (Nat.le_of_ble_eq_true rfl) (fun q h => h.elim) dX1_squareFreePart_1 (fun C9 H9 hx9 hz9 hk9 => by exact ⟨Or.inl (⟨hx9.1, (by have hx8 := hx9.2; unfold xoFree; first | (split <;> first | rfl | (exfalso; omega) | (split <;> first | rfl | (exfalso; omega) | (split <;> first | rfl | (exfalso; omega)))))⟩), CS.pub (CS.kf0 hC_fr_1 (kF.ext hz9 hk9) hS) hST hiso⟩) (fun v_2 H_3 hpost_4 hz_5 hk_6 => ?_)
  obtain ⟨rfl, hsv0⟩ := hpost_4
  have hl_7 := CS.kf0 hC_fr_1 (kF.ext hz_5 hk_6) hS
  obtain ⟨i0, hni0⟩ : ∃ i0 : Nat, v0 = (i0 : Int) := ⟨v0.toNat, by omega⟩
  subst hni0
  have hii0 : i0 < 5 := by omega
  refine V.eq (st' := []) rfl ?_
  refine v_iload_n E 2 rfl dX1_squareFreePart_4 ?_
  refine V.frame (fun hfz_fr_8 hfk_fr_8 => ?_)
  rw [hH0] at hfz_fr_8 hfk_fr_8
  rw [hA0] at hfk_fr_8
  have hC_fr_8 := hC.call hA93 hfz_fr_8 hfk_fr_8
  refine v_callSX E X9 hE (As := [vi v1]) (x_slot κ H_3 hrv1) (lw_S q570 q571 q70 q572) 1 (by decide +kernel) rfl (by decide) (by decide) (cb' := (((21 + C0 + F0) - 1) - 1)) (sb' := (((130 + L0 + G0) - 6) - 6)) (by omega) (by omega) rfl (rest := []) (Nat.le_of_ble_eq_true rfl) (fun q h => h.elim) dX1_squareFreePart_5 (fun C9 H9 hx9 hz9 hk9 => by exact ⟨Or.inl (⟨hx9.1, (by have hx8 := hx9.2; unfold xoFree; first | (split <;> first | rfl | (exfalso; omega) | (split <;> first | rfl | (exfalso; omega) | (split <;> first | rfl | (exfalso; omega)))))⟩), CS.pub (CS.kf0 hC_fr_8 (kF.ext hz9 hk9) hl_7) hST hiso⟩) (fun v_9 H_10 hpost_11 hz_12 hk_13 => ?_)
  obtain ⟨rfl, hsv1⟩ := hpost_11
  have hl_14 := CS.kf0 hC_fr_8 (kF.ext hz_12 hk_13) hl_7
  obtain ⟨i1, hni1⟩ : ∃ i1 : Nat, v1 = (i1 : Int) := ⟨v1.toNat, by omega⟩
  subst hni1
  have hii1 : i1 < 5 := by omega
  refine V.eq (st' := []) rfl ?_
  refine v_aload_n E 0 rfl dX1_squareFreePart_8 ?_
  refine v_iload_n E 2 rfl dX1_squareFreePart_9 ?_
  refine v_aload_n E 0 rfl dX1_squareFreePart_10 ?_
  refine v_iload_n E 1 rfl dX1_squareFreePart_11 ?_
  refine V.frame (fun hfz_fr_15 hfk_fr_15 => ?_)
  rw [hH0] at hfz_fr_15 hfk_fr_15
  rw [hA0] at hfk_fr_15
  have hC_fr_15 := hC.call hA93 hfz_fr_15 hfk_fr_15
  refine v_callVX E X9 hE (As := [vi ((i0 : Nat) : Int)]) (b := x) (ci := 0) (C := RX1) (T := TX1) (N := 3) hl_14.2.1 rfl (x_nz κ H_10 (i := i0) hii0 hC_fr_15 hl_14) (lw_V q1458 q1460 qs40 q70 q1461) 1 (by decide +kernel) rfl (by decide) (by decide) (cb' := ((((21 + C0 + F0) - 1) - 1) - 1)) (sb' := ((((130 + L0 + G0) - 6) - 6) - 6)) (by omega) (by omega) rfl (rest := [vi ((i1 : Nat) : Int), .ref x]) (Nat.le_of_ble_eq_true rfl) (fun q h => h.elim) dX1_squareFreePart_12 (fun C9 H9 hx9 hz9 hk9 => (by exact ⟨Or.inr (Or.inl (⟨hx9.1, by have hx7 := hx9.2; rw [← hST i0 hii0] at hx7; exact (by show (xoFree S (i0 : Int) (i1 : Int)).2.1 = 2; unfold xoFree; rw [if_pos ⟨⟨by omega, by omega⟩, by omega, by omega⟩]; exact congrArg (fun t : zRc => t.2.1) (if_pos hx7))⟩)), CS.pub (CS.kf0 hC_fr_15 (kF.ext hz9 hk9) hl_14) hST hiso⟩)) (fun v_16 H_17 hpost_18 hz_19 hk_20 => ?_)
  obtain ⟨rfl, hposT⟩ := hpost_18
  have hl_21 := CS.kf0 hC_fr_15 (kF.ext hz_19 hk_20) hl_14
  have hposS : 0 < (S i0).1 := by rw [hST i0 hii0]; exact hposT
  refine V.eq (st' := [.ref (a i0), vi ((i1 : Nat) : Int), .ref x]) rfl ?_
  refine V.frame (fun hfz_fr_22 hfk_fr_22 => ?_)
  rw [hH0] at hfz_fr_22 hfk_fr_22
  rw [hA0] at hfk_fr_22
  have hC_fr_22 := hC.call hA93 hfz_fr_22 hfk_fr_22
  have hfr9 := hFr i0 hii0 hposS
  rw [hST i0 hii0] at hfr9
  obtain ⟨-, -, pk_28, vs_29, vf_30, vg_31, hkn_32, hpk_33, -⟩ := id (hl_21.2.2.2.2.1 i0 hii0)
  refine v_callV E (As := []) (b := (a i0)) (ci := 1) (C := RX2) (T := TX2) (N := 4) hkn_32 rfl (k_free κ H_17 (b := false) (N := N) (M := M) (M0 := M0) (N1 := N1) (M1 := M1) hC_fr_22 (fun q h => by have h2 := hsl0; exact ⟨by omega, by omega, by omega, by omega⟩) (hQT i0 hii0 hposT).1 hfr9.1 (hl_21.2.2.2.2.1 i0 hii0)) (lw_V q1467 q1468 q1469 q74 q1470) 0 (by decide +kernel) rfl (by decide) (by decide) (cb' := (((((21 + C0 + F0) - 1) - 1) - 1) - (C0 + F0))) (sb' := (((((130 + L0 + G0) - 6) - 6) - 6) - (L0 + G0))) (by rw [bC_f]; have := (hQT i0 hii0 hposT).2.1; have h9 := hFr i0 hii0 hposS; rw [hST i0 hii0] at h9; omega) (by rw [bC_f]; have := (hQT i0 hii0 hposT).2.2.1; have h9 := hFr i0 hii0 hposS; rw [hST i0 hii0] at h9; omega) rfl (rest := [vi ((i1 : Nat) : Int), .ref x]) (Nat.le_of_ble_eq_true rfl) (fun q h => by obtain ⟨fs9, h8⟩ := (hl_21.2.2.2.2.1 i0 hii0).cl; have h9 := pA.any hfk_fr_22 h8 (Or.inr (Or.inl rfl)) (hl_21.2.2.2.2.1 i0 hii0).2.1; rw [← show q = _ from h] at h9; exact h9.elim (fun e => hAll q e) (fun e => hNew q e)) dX1_squareFreePart_15 (fun v_23 H_24 hpost_25 hz_26 hk_27 => ?_)
  obtain ⟨qf, rfl, hPf, hKfr⟩ := hpost_25
  have hSk_34 := kS.of (hl_21.2.2.2.2.1 i0 hii0) hKfr hz_26 hk_27
  have hl_35 := CS.ks hC_fr_22 hSk_34 hKfr hl_21
  have hl_36 := Po.ks hC_fr_22 hSk_34 hpk_33
  refine V.eq (st' := [.ref qf, vi ((i1 : Nat) : Int), .ref x]) rfl ?_
  have hop : xoFree S (i0 : Int) (i1 : Int) = storeR (cFree (T (a i0))) i1 3 S := by unfold xoFree; rw [if_pos ⟨⟨by omega, by omega⟩, by omega, by omega⟩]; show (if (S i0).1 = 0 then _ else _) = _; rw [if_neg (by omega)]; show storeR (cFree (S i0)) i1 3 S = _; rw [hST i0 hii0]
  refine V.frame (fun hfz_fr_37 hfk_fr_37 => ?_)
  rw [hH0] at hfz_fr_37 hfk_fr_37
  rw [hA0] at hfk_fr_37
  have hC_fr_37 := hC.call hA93 hfz_fr_37 hfk_fr_37
  obtain ⟨md_39, g_40, hA_38, hg_41⟩ := hl_35.2.2.1
  refine v_callVX E X9 hE (As := [vi ((i1 : Nat) : Int), .ref qf]) (b := x) (ci := 0) (C := RX1) (T := TX1) (N := 3) hl_35.2.1 rfl (x_store κ H_24 hii1 hC_fr_37 dS_bs hPf hl_35) (lw_V q612 q614 qs9 q70 q615) 2 (by decide +kernel) rfl (by decide) (by decide) (cb' := ((((((21 + C0 + F0) - 1) - 1) - 1) - (C0 + F0)) - 18)) (sb' := ((((((130 + L0 + G0) - 6) - 6) - 6) - (L0 + G0)) - 110)) (by omega) (by omega) rfl (rest := []) (Nat.le_of_ble_eq_true rfl) (fun q h => by have h9 := pA.arr hfk_fr_37 hA_38.2.1 (hA_38.2.2.2.2.2.2.2.2.1 (by decide)); rw [← show q = bs from h] at h9; exact h9.elim (fun e => hAll q e) (fun e => hNew q e)) dX1_squareFreePart_18 (fun C9 H9 hx9 hz9 hk9 => (by exact ⟨Or.inr (Or.inr (⟨hx9.1, by rw [hop, storeR_n hPf.1 hx9.2.1]⟩)), CS.pub hx9.2.2 hST hiso⟩)) (fun v_42 H_43 hpost_44 hz_45 hk_46 => ?_)
  obtain ⟨hok9, rfl, kq, hkq9, hS9⟩ := hpost_44
  refine V.eq (st' := [vi (((Prod.fst (cFree (T (a i0))) : Nat) : Int) - 1)]) rfl ?_
  refine V.rt E hE (fun z9 E hE => ?_)
  refine v_iret E hE dX1_squareFreePart_21 ?_
  rw [hop, storeR_y hok9]; exact ⟨rfl, rfl, CS.pubT hl_35 hkq9 hS9 hST hiso⟩
