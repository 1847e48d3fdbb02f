/-! THE COMPONENT'S PUBLIC CALLS: Sturm's sequence -/
/-- all that a sequence needs: it fits, at all points too, within these rooms -/
def okQ (P : Pl) (N : Nat → Nat → Nat) (M : Nat → Nat) (M0 : Nat) (Nt Kt : Nat → Nat) (C0 L0 C1 L1 : Nat) : Prop := fitN P N M M0 ∧ suC N M0 P.1 ≤ C0 ∧ suL N M M0 P.1 ≤ L0 ∧ 1 + sumN (fun i => sgC (sq P i).1) (seqLen P) ≤ C1 ∧ 4 + sumN (fun i => sgL (Nt (sq P i).1) (Kt (sq P i).1) (sq P i).1) (seqLen P) ≤ L1 ∧ ∀ (n : Int) (e : Nat), -4294967296 < n → n < 4294967296 → e ≤ 12 → ∀ i, i < seqLen P → (sq P i).1 ≤ 7 ∧ fitV (sq P i) n e (Nt (sq P i).1) (Kt (sq P i).1)
def xoLen (S : Nat → Pl) (a : Int) : zRc := if 0 ≤ a ∧ a < 5 then (if (S a.toNat).1 = 0 then (0, 2, S) else ((seqLen (S a.toNat) : Int), 0, S)) else (0, 1, S)
def xoVar (S : Nat → Pl) (a n k : Int) : zRc := if 0 ≤ a ∧ a < 5 then (if (-1000000 ≤ n ∧ n ≤ 1000000) ∧ (0 ≤ k ∧ k ≤ 12) then (if (S a.toNat).1 = 0 then (0, 3, S) else (((chG (fun i => cSg (sq (S a.toNat) i) n k.toNat) (seqLen (S a.toNat)) : Nat) : Int), 0, S)) else (0, 2, S)) else (0, 1, S)
def xoDR (S : Nat → Pl) (a : Int) : zRc := if 0 ≤ a ∧ a < 5 then (if (S a.toNat).1 = 0 then (0, 2, S) else (arF (sq (S a.toNat)) (seqLen (S a.toNat)), 0, S)) else (0, 1, S)
set_option maxHeartbeats 400000 in
set_option maxRecDepth 100000 in
/-- sturmLength -/
theorem c_len (κ : zK) (H0 : Heap) {x : Nat} {S : Nat → Pl} {isoP : Option Pl} {n cap : Nat} {iv : Nat → Ivl} {v0 : Int} (hrv0 : rI v0) (hC : CO κ H0) {N : Nat → Nat → Nat} {M : Nat → Nat} {M0 : Nat} {Nt Kt : Nat → Nat} {C0 L0 C1 L1 : Nat} (hQ : ∀ i, i < 5 → 0 < (S i).1 → okQ (S i) N M M0 Nt Kt C0 L0 C1 L1) (hP : CP κ H0 x S isoP n cap iv)  : MtX κ yX1_sturmLength cX1_sturmLength 2 (some .int) 14 380 (2 + C0) (12 + L0) H0 [.ref x, vi v0] (pA κ H0) (fun v H1 => (xoLen S v0).2.1 = 0 ∧ v = some (vi (xoLen S v0).1) ∧ CP κ H1 x (xoLen S v0).2.2 isoP n cap iv) (fun C H1 => (C = "java/lang/IndexOutOfBoundsException" ∧ (xoLen S v0).2.1 = 1 ∨ C = "java/lang/ArithmeticException" ∧ (xoLen S v0).2.1 = 2) ∧ CP κ H1 x S isoP n cap iv) := by
  refine MtX.of (by decide) (Nat.le_of_ble_eq_true rfl) ?_
  intro z E X9 hE hH0 hA0 hL hini
  have hAll : ∀ q, (pA κ H0) q → zA z.A z.H0 q := fun q h => Or.inl (by rw [hA0]; exact h)
  have hNew : ∀ q, H0.size ≤ q → zA z.A z.H0 q := fun q h => Or.inr (by rw [hH0]; exact h)
  have E : zOK z cX1_sturmLength RX1 κ 14 380 (some .int) := E
  refine V.eqL (lv' := [(0, .ref x), (1, vi v0)]) rfl ?_
  obtain ⟨ls, bs, li, bi, a, iso, T, hS, hST, hiso⟩ := hP
  have hA93 : ∀ q, pA κ H0 q → κ.2 93 ≤ q := fun q h => h.1
  have hD := hC.D
  have hsl0 := hS.sl
  have hQT : ∀ k, k < 5 → 0 < (T (a k)).1 → okQ (T (a k)) N M M0 Nt Kt C0 L0 C1 L1 := fun k hk h => by rw [← hST k hk] at h ⊢; exact hQ k hk h
  refine v_iload_n E 1 rfl dX1_sturmLength_0 ?_
  refine V.frame (fun hfz_fr_1 hfk_fr_1 => ?_)
  rw [hH0] at hfz_fr_1 hfk_fr_1
  rw [hA0] at hfk_fr_1
  have hC_fr_1 := hC.call hA93 hfz_fr_1 hfk_fr_1
  refine v_callSX E X9 hE (As := [vi v0]) (x_slot κ H0 hrv0) (lw_S q570 q571 q70 q572) 1 (by decide +kernel) rfl (by decide) (by decide) (cb' := ((2 + C0) - 1)) (sb' := ((12 + L0) - 6)) (by omega) (by omega) rfl (rest := []) (Nat.le_of_ble_eq_true rfl) (fun q h => h.elim) dX1_sturmLength_1 (fun C9 H9 hx9 hz9 hk9 => by exact ⟨Or.inl (⟨hx9.1, (by have hx8 := hx9.2; unfold xoLen; first | (split <;> first | rfl | (exfalso; omega) | (split <;> first | rfl | (exfalso; omega) | (split <;> first | rfl | (exfalso; omega)))))⟩), CS.pub (CS.kf0 hC_fr_1 (kF.ext hz9 hk9) hS) hST hiso⟩) (fun v_2 H_3 hpost_4 hz_5 hk_6 => ?_)
  obtain ⟨rfl, hsv0⟩ := hpost_4
  have hl_7 := CS.kf0 hC_fr_1 (kF.ext hz_5 hk_6) hS
  obtain ⟨i0, hni0⟩ : ∃ i0 : Nat, v0 = (i0 : Int) := ⟨v0.toNat, by omega⟩
  subst hni0
  have hii0 : i0 < 5 := by omega
  refine V.eq (st' := []) rfl ?_
  refine v_aload_n E 0 rfl dX1_sturmLength_4 ?_
  refine v_iload_n E 1 rfl dX1_sturmLength_5 ?_
  refine V.frame (fun hfz_fr_8 hfk_fr_8 => ?_)
  rw [hH0] at hfz_fr_8 hfk_fr_8
  rw [hA0] at hfk_fr_8
  have hC_fr_8 := hC.call hA93 hfz_fr_8 hfk_fr_8
  refine v_callVX E X9 hE (As := [vi ((i0 : Nat) : Int)]) (b := x) (ci := 0) (C := RX1) (T := TX1) (N := 3) hl_7.2.1 rfl (x_nz κ H_3 (i := i0) hii0 hC_fr_8 hl_7) (lw_V q1458 q1460 qs40 q70 q1461) 1 (by decide +kernel) rfl (by decide) (by decide) (cb' := (((2 + C0) - 1) - 1)) (sb' := (((12 + L0) - 6) - 6)) (by omega) (by omega) rfl (rest := []) (Nat.le_of_ble_eq_true rfl) (fun q h => h.elim) dX1_sturmLength_6 (fun C9 H9 hx9 hz9 hk9 => (by exact ⟨Or.inr (⟨hx9.1, by have hx7 := hx9.2; rw [← hST i0 hii0] at hx7; exact (by show (xoLen S (i0 : Int)).2.1 = 2; unfold xoLen; rw [if_pos (by omega)]; exact congrArg (fun t : zRc => t.2.1) (if_pos hx7))⟩), CS.pub (CS.kf0 hC_fr_8 (kF.ext hz9 hk9) hl_7) hST hiso⟩)) (fun v_9 H_10 hpost_11 hz_12 hk_13 => ?_)
  obtain ⟨rfl, hposT⟩ := hpost_11
  have hl_14 := CS.kf0 hC_fr_8 (kF.ext hz_12 hk_13) hl_7
  have hposS : 0 < (S i0).1 := by rw [hST i0 hii0]; exact hposT
  refine V.eq (st' := [.ref (a i0)]) rfl ?_
  refine V.frame (fun hfz_fr_16 hfk_fr_16 => ?_)
  rw [hH0] at hfz_fr_16 hfk_fr_16
  rw [hA0] at hfk_fr_16
  have hC_fr_16 := hC.call hA93 hfz_fr_16 hfk_fr_16
  obtain ⟨-, -, pk_22, vs_23, vf_24, vg_25, hkn_26, hpk_27, -⟩ := id (hl_14.2.2.2.2.1 i0 hii0)
  refine v_callV E (As := []) (b := (a i0)) (ci := 1) (C := RX2) (T := TX2) (N := 4) hkn_26 rfl (k_seq κ H_10 (b := false) (N := N) (M := M) (M0 := M0) hC_fr_16 (fun q h => by have h2 := hsl0; exact ⟨by omega, by omega, by omega, by omega⟩) (hQT i0 hii0 hposT).1 (hl_14.2.2.2.2.1 i0 hii0)) (lw_V q1496 q1472 q1473 q74 q1474) 0 (by decide +kernel) rfl (by decide) (by decide) (cb' := ((((2 + C0) - 1) - 1) - C0)) (sb' := ((((12 + L0) - 6) - 6) - L0)) (by rw [bC_f]; have := (hQT i0 hii0 hposT).2.1; omega) (by rw [bC_f]; have := (hQT i0 hii0 hposT).2.2.1; omega) rfl (rest := []) (Nat.le_of_ble_eq_true rfl) (fun q h => by obtain ⟨fs9, h8⟩ := (hl_14.2.2.2.2.1 i0 hii0).cl; have h9 := pA.any hfk_fr_16 h8 (Or.inr (Or.inl rfl)) (hl_14.2.2.2.2.1 i0 hii0).2.1; rw [← show q = _ from h] at h9; exact h9.elim (fun e => hAll q e) (fun e => hNew q e)) dX1_sturmLength_9 (fun v_17 H_18 hpost_19 hz_20 hk_21 => ?_)
  obtain ⟨ls_15, rfl, hls_15, hKls_15⟩ := hpost_19
  have hSk_28 := kS.of (hl_14.2.2.2.2.1 i0 hii0) hKls_15 hz_20 hk_21
  have hl_29 := CS.ks hC_fr_16 hSk_28 hKls_15 hl_14
  have hl_30 := Po.ks hC_fr_16 hSk_28 hpk_27
  refine V.eq (st' := [.ref ls_15]) rfl ?_
  obtain ⟨bx_31, cx_32, md_33, g_34, hA_35, hel_36, -⟩ := id hls_15
  refine V.frame (fun hfz_fr_37 hfk_fr_37 => ?_)
  rw [hH0] at hfz_fr_37 hfk_fr_37
  rw [hA0] at hfk_fr_37
  have hC_fr_37 := hC.call hA93 hfz_fr_37 hfk_fr_37
  obtain ⟨bx_43, cx_44, md_45, g_46, hA_47, -⟩ := id hls_15
  refine v_callV E (As := []) (b := ls_15) (ci := 5) (C := RJ2) (T := TJ2) (N := 3) hA_47.1 rfl (j_size κ H_18 hA_35) (lw_V q286 q152 q153 q73 q154) 0 (by decide +kernel) rfl (by decide) (by decide) (cb' := (((((2 + C0) - 1) - 1) - C0) - 0)) (sb' := (((((12 + L0) - 6) - 6) - L0) - 0)) (by omega) (by omega) rfl (rest := []) (Nat.le_of_ble_eq_true rfl) (fun q h => h.elim) dX1_sturmLength_12 (fun v_38 H_39 hpost_40 hz_41 hk_42 => ?_)
  obtain rfl := hpost_40
  have hl_48 := CS.kf0 hC_fr_37 (kF.ext hz_41 hk_42) hl_29
  have hl_49 := Po.kf hC_fr_37 (kF.ext hz_41 hk_42) aD.no hl_30
  have hl_50 := SQ.kf hC_fr_37 (kF.ext hz_41 hk_42) aD.no hls_15
  refine V.eq (st' := [vi ((seqLen (T (a i0)) : Nat) : Int)]) rfl ?_
  refine V.rt E hE (fun z9 E hE => ?_)
  refine v_iret E hE dX1_sturmLength_15 ?_
  have hop : xoLen S (i0 : Int) = ((seqLen (T (a i0)) : Int), 0, S) := by unfold xoLen; rw [if_pos (by omega)]; show (if (S i0).1 = 0 then _ else _) = _; rw [if_neg (by omega)]; show ((seqLen (S i0) : Int), 0, S) = _; rw [hST i0 hii0]
  rw [hop]; exact ⟨rfl, rfl, CS.pub hl_48 hST hiso⟩

set_option maxHeartbeats 400000 in
set_option maxRecDepth 100000 in
/-- signChanges -/
theorem c_var (κ : zK) (H0 : Heap) {x : Nat} {S : Nat → Pl} {isoP : Option Pl} {n cap : Nat} {iv : Nat → Ivl} {v0 : Int} (hrv0 : rI v0) {v1 : Int} (hrv1 : rI v1) {v2 : Int} (hrv2 : rI v2) (hC : CO κ H0) {N : Nat → Nat → Nat} {M : Nat → Nat} {M0 : Nat} {Nt Kt : Nat → Nat} {C0 L0 C1 L1 : Nat} (hQ : ∀ i, i < 5 → 0 < (S i).1 → okQ (S i) N M M0 Nt Kt C0 L0 C1 L1) (hP : CP κ H0 x S isoP n cap iv)  : MtX κ yX1_signChanges cX1_signChanges 4 (some .int) 14 380 (3 + C0 + C1) (18 + L0 + L1) H0 [.ref x, vi v0, vi v1, vi v2] (pA κ H0) (fun v H1 => (xoVar S v0 v1 v2).2.1 = 0 ∧ v = some (vi (xoVar S v0 v1 v2).1) ∧ CP κ H1 x (xoVar S v0 v1 v2).2.2 isoP n cap iv) (fun C H1 => (C = "java/lang/IndexOutOfBoundsException" ∧ (xoVar S v0 v1 v2).2.1 = 1 ∨ C = "java/lang/IllegalArgumentException" ∧ (xoVar S v0 v1 v2).2.1 = 2 ∨ C = "java/lang/ArithmeticException" ∧ (xoVar S v0 v1 v2).2.1 = 3) ∧ CP κ H1 x S isoP n cap iv) := by
  refine MtX.of (by decide) (Nat.le_of_ble_eq_true rfl) ?_
  intro z E X9 hE hH0 hA0 hL hini
  have hAll : ∀ q, (pA κ H0) q → zA z.A z.H0 q := fun q h => Or.inl (by rw [hA0]; exact h)
  have hNew : ∀ q, H0.size ≤ q → zA z.A z.H0 q := fun q h => Or.inr (by rw [hH0]; exact h)
  have E : zOK z cX1_signChanges RX1 κ 14 380 (some .int) := E
  refine V.eqL (lv' := [(0, .ref x), (1, vi v0), (2, vi v1), (3, vi v2)]) rfl ?_
  obtain ⟨ls, bs, li, bi, a, iso, T, hS, hST, hiso⟩ := hP
  have hA93 : ∀ q, pA κ H0 q → κ.2 93 ≤ q := fun q h => h.1
  have hD := hC.D
  have hsl0 := hS.sl
  have hQT : ∀ k, k < 5 → 0 < (T (a k)).1 → okQ (T (a k)) N M M0 Nt Kt C0 L0 C1 L1 := fun k hk h => by rw [← hST k hk] at h ⊢; exact hQ k hk h
  refine v_iload_n E 1 rfl dX1_signChanges_0 ?_
  refine V.frame (fun hfz_fr_1 hfk_fr_1 => ?_)
  rw [hH0] at hfz_fr_1 hfk_fr_1
  rw [hA0] at hfk_fr_1
  have hC_fr_1 := hC.call hA93 hfz_fr_1 hfk_fr_1
  refine v_callSX E X9 hE (As := [vi v0]) (x_slot κ H0 hrv0) (lw_S q570 q571 q70 q572) 1 (by decide +kernel) rfl (by decide) (by decide) (cb' := ((3 + C0 + C1) - 1)) (sb' := ((18 + L0 + L1) - 6)) (by omega) (by omega) rfl (rest := []) (Nat.le_of_ble_eq_true rfl) (fun q h => h.elim) dX1_signChanges_1 (fun C9 H9 hx9 hz9 hk9 => by exact ⟨Or.inl (⟨hx9.1, (by have hx8 := hx9.2; unfold xoVar; first | (split <;> first | rfl | (exfalso; omega) | (split <;> first | rfl | (exfalso; omega) | (split <;> first | rfl | (exfalso; omega)))))⟩), CS.pub (CS.kf0 hC_fr_1 (kF.ext hz9 hk9) hS) hST hiso⟩) (fun v_2 H_3 hpost_4 hz_5 hk_6 => ?_)
  obtain ⟨rfl, hsv0⟩ := hpost_4
  have hl_7 := CS.kf0 hC_fr_1 (kF.ext hz_5 hk_6) hS
  obtain ⟨i0, hni0⟩ : ∃ i0 : Nat, v0 = (i0 : Int) := ⟨v0.toNat, by omega⟩
  subst hni0
  have hii0 : i0 < 5 := by omega
  refine V.eq (st' := []) rfl ?_
  refine v_iload_n E 2 rfl dX1_signChanges_4 ?_
  refine v_iload_n E 3 rfl dX1_signChanges_5 ?_
  refine V.frame (fun hfz_fr_8 hfk_fr_8 => ?_)
  rw [hH0] at hfz_fr_8 hfk_fr_8
  rw [hA0] at hfk_fr_8
  have hC_fr_8 := hC.call hA93 hfz_fr_8 hfk_fr_8
  refine v_callSX E X9 hE (As := [vi v1, vi v2]) (x_pt κ H_3 hrv1 hrv2) (lw_S q1525 q1526 q70 q1527) 2 (by decide +kernel) rfl (by decide) (by decide) (cb' := (((3 + C0 + C1) - 1) - 1)) (sb' := (((18 + L0 + L1) - 6) - 6)) (by omega) (by omega) rfl (rest := []) (Nat.le_of_ble_eq_true rfl) (fun q h => h.elim) dX1_signChanges_6 (fun C9 H9 hx9 hz9 hk9 => by exact ⟨Or.inr (Or.inl (⟨hx9.1, (by have hx8 := hx9.2; unfold xoVar; first | (split <;> first | rfl | (exfalso; omega) | (split <;> first | rfl | (exfalso; omega) | (split <;> first | rfl | (exfalso; omega)))))⟩)), CS.pub (CS.kf0 hC_fr_8 (kF.ext hz9 hk9) hl_7) hST hiso⟩) (fun v_9 H_10 hpost_11 hz_12 hk_13 => ?_)
  obtain ⟨rfl, hptv2⟩ := hpost_11
  have hl_14 := CS.kf0 hC_fr_8 (kF.ext hz_12 hk_13) hl_7
  obtain ⟨e2, hne2⟩ : ∃ e2 : Nat, v2 = (e2 : Int) := ⟨v2.toNat, by omega⟩
  subst hne2
  have hpe2 : e2 ≤ 12 := by omega
  refine V.eq (st' := []) rfl ?_
  refine v_aload_n E 0 rfl dX1_signChanges_9 ?_
  refine v_iload_n E 1 rfl dX1_signChanges_10 ?_
  refine V.frame (fun hfz_fr_15 hfk_fr_15 => ?_)
  rw [hH0] at hfz_fr_15 hfk_fr_15
  rw [hA0] at hfk_fr_15
  have hC_fr_15 := hC.call hA93 hfz_fr_15 hfk_fr_15
  refine v_callVX E X9 hE (As := [vi ((i0 : Nat) : Int)]) (b := x) (ci := 0) (C := RX1) (T := TX1) (N := 3) hl_14.2.1 rfl (x_nz κ H_10 (i := i0) hii0 hC_fr_15 hl_14) (lw_V q1458 q1460 qs40 q70 q1461) 1 (by decide +kernel) rfl (by decide) (by decide) (cb' := ((((3 + C0 + C1) - 1) - 1) - 1)) (sb' := ((((18 + L0 + L1) - 6) - 6) - 6)) (by omega) (by omega) rfl (rest := []) (Nat.le_of_ble_eq_true rfl) (fun q h => h.elim) dX1_signChanges_11 (fun C9 H9 hx9 hz9 hk9 => (by exact ⟨Or.inr (Or.inr (⟨hx9.1, by have hx7 := hx9.2; rw [← hST i0 hii0] at hx7; exact (by show (xoVar S (i0 : Int) v1 (e2 : Int)).2.1 = 3; unfold xoVar; rw [if_pos (by omega), if_pos (by omega)]; exact congrArg (fun t : zRc => t.2.1) (if_pos hx7))⟩)), CS.pub (CS.kf0 hC_fr_15 (kF.ext hz9 hk9) hl_14) hST hiso⟩)) (fun v_16 H_17 hpost_18 hz_19 hk_20 => ?_)
  obtain ⟨rfl, hposT⟩ := hpost_18
  have hl_21 := CS.kf0 hC_fr_15 (kF.ext hz_19 hk_20) hl_14
  have hposS : 0 < (S i0).1 := by rw [hST i0 hii0]; exact hposT
  refine V.eq (st' := [.ref (a i0)]) rfl ?_
  refine V.frame (fun hfz_fr_23 hfk_fr_23 => ?_)
  rw [hH0] at hfz_fr_23 hfk_fr_23
  rw [hA0] at hfk_fr_23
  have hC_fr_23 := hC.call hA93 hfz_fr_23 hfk_fr_23
  obtain ⟨-, -, pk_29, vs_30, vf_31, vg_32, hkn_33, hpk_34, -⟩ := id (hl_21.2.2.2.2.1 i0 hii0)
  refine v_callV E (As := []) (b := (a i0)) (ci := 1) (C := RX2) (T := TX2) (N := 4) hkn_33 rfl (k_seq κ H_17 (b := false) (N := N) (M := M) (M0 := M0) hC_fr_23 (fun q h => by have h2 := hsl0; exact ⟨by omega, by omega, by omega, by omega⟩) (hQT i0 hii0 hposT).1 (hl_21.2.2.2.2.1 i0 hii0)) (lw_V q1496 q1472 q1473 q74 q1474) 0 (by decide +kernel) rfl (by decide) (by decide) (cb' := (((((3 + C0 + C1) - 1) - 1) - 1) - C0)) (sb' := (((((18 + L0 + L1) - 6) - 6) - 6) - L0)) (by rw [bC_f]; have := (hQT i0 hii0 hposT).2.1; omega) (by rw [bC_f]; have := (hQT i0 hii0 hposT).2.2.1; omega) rfl (rest := []) (Nat.le_of_ble_eq_true rfl) (fun q h => by obtain ⟨fs9, h8⟩ := (hl_21.2.2.2.2.1 i0 hii0).cl; have h9 := pA.any hfk_fr_23 h8 (Or.inr (Or.inl rfl)) (hl_21.2.2.2.2.1 i0 hii0).2.1; rw [← show q = _ from h] at h9; exact h9.elim (fun e => hAll q e) (fun e => hNew q e)) dX1_signChanges_14 (fun v_24 H_25 hpost_26 hz_27 hk_28 => ?_)
  obtain ⟨ls_22, rfl, hls_22, hKls_22⟩ := hpost_26
  have hSk_35 := kS.of (hl_21.2.2.2.2.1 i0 hii0) hKls_22 hz_27 hk_28
  have hl_36 := CS.ks hC_fr_23 hSk_35 hKls_22 hl_21
  have hl_37 := Po.ks hC_fr_23 hSk_35 hpk_34
  refine V.eq (st' := [.ref ls_22]) rfl ?_
  refine v_iload_n E 2 rfl dX1_signChanges_17 ?_
  refine v_i2l E ⟨by omega, by omega⟩ dX1_signChanges_18 ?_
  refine v_iload_n E 3 rfl dX1_signChanges_19 ?_
  refine V.frame (fun hfz_fr_38 hfk_fr_38 => ?_)
  rw [hH0] at hfz_fr_38 hfk_fr_38
  rw [hA0] at hfk_fr_38
  have hC_fr_38 := hC.call hA93 hfz_fr_38 hfk_fr_38
  refine v_callS E (As := [.ref ls_22, vj v1, vi ((e2 : Nat) : Int)]) (p_chg κ H_25 (n := v1) (e := e2) (Nt := Nt) (Kt := Kt) hC_fr_38 ⟨by omega, by omega⟩ hpe2 ((hQT i0 hii0 hposT).2.2.2.2.2 _ _ (show -4294967296 < v1 ∧ v1 < 4294967296 from ⟨by omega, by omega⟩).1 (show -4294967296 < v1 ∧ v1 < 4294967296 from ⟨by omega, by omega⟩).2 hpe2) hls_22) (lw_S q1530 q1531 q70 q1532) 3 (by decide +kernel) rfl (by decide) (by decide) (cb' := ((((((3 + C0 + C1) - 1) - 1) - 1) - C0) - C1)) (sb' := ((((((18 + L0 + L1) - 6) - 6) - 6) - L0) - L1)) (by have := (hQT i0 hii0 hposT).2.2.2.1; omega) (by have := (hQT i0 hii0 hposT).2.2.2.2.1; omega) rfl (rest := []) (Nat.le_of_ble_eq_true rfl) (fun q h => h.elim) dX1_signChanges_20 (fun v_39 H_40 hpost_41 hz_42 hk_43 => ?_)
  obtain rfl := hpost_41
  have hl_44 := CS.kf0 hC_fr_38 (kF.ext hz_42 hk_43) hl_36
  have hl_45 := Po.kf hC_fr_38 (kF.ext hz_42 hk_43) aD.no hl_37
  have hl_46 := SQ.kf hC_fr_38 (kF.ext hz_42 hk_43) aD.no hls_22
  refine V.eq (st' := [vi ((chG (fun i => cSg (sq (T (a i0)) i) v1 e2) (seqLen (T (a i0))) : Nat) : Int)]) rfl ?_
  refine V.rt E hE (fun z9 E hE => ?_)
  refine v_iret E hE dX1_signChanges_23 ?_
  have hop : xoVar S (i0 : Int) v1 (e2 : Int) = (((chG (fun i => cSg (sq (T (a i0)) i) v1 e2) (seqLen (T (a i0))) : Nat) : Int), 0, S) := by unfold xoVar; rw [if_pos (by omega), if_pos (by omega)]; show (if (S i0).1 = 0 then _ else _) = _; rw [if_neg (by omega)]; show (((chG (fun i => cSg (sq (S i0) i) v1 e2) (seqLen (S i0)) : Nat) : Int), 0, S) = _; rw [hST i0 hii0]
  rw [hop]; exact ⟨rfl, rfl, CS.pub hl_44 hST hiso⟩

set_option maxHeartbeats 400000 in
set_option maxRecDepth 100000 in
/-- distinctRoots -/
theorem c_dr (κ : zK) (H0 : Heap) {x : Nat} {S : Nat → Pl} {isoP : Option Pl} {n cap : Nat} {iv : Nat → Ivl} {v0 : Int} (hrv0 : rI v0) (hC : CO κ H0) {N : Nat → Nat → Nat} {M : Nat → Nat} {M0 : Nat} {Nt Kt : Nat → Nat} {C0 L0 C1 L1 : Nat} (hQ : ∀ i, i < 5 → 0 < (S i).1 → okQ (S i) N M M0 Nt Kt C0 L0 C1 L1) (hpos : ∀ i, i < 5 → 0 < (S i).1 → ∀ j, j < seqLen (S i) → 0 < (sq (S i) j).1) (hP : CP κ H0 x S isoP n cap iv)  : MtX κ yX1_distinctRoots cX1_distinctRoots 2 (some .int) 14 380 (3 + C0) (16 + L0) H0 [.ref x, vi v0] (pA κ H0) (fun v H1 => (xoDR S v0).2.1 = 0 ∧ v = some (vi (xoDR S v0).1) ∧ CP κ H1 x (xoDR S v0).2.2 isoP n cap iv) (fun C H1 => (C = "java/lang/IndexOutOfBoundsException" ∧ (xoDR S v0).2.1 = 1 ∨ C = "java/lang/ArithmeticException" ∧ (xoDR S v0).2.1 = 2) ∧ CP κ H1 x S isoP n cap iv) := by
  refine MtX.of (by decide) (Nat.le_of_ble_eq_true rfl) ?_
  intro z E X9 hE hH0 hA0 hL hini
  have hAll : ∀ q, (pA κ H0) q → zA z.A z.H0 q := fun q h => Or.inl (by rw [hA0]; exact h)
  have hNew : ∀ q, H0.size ≤ q → zA z.A z.H0 q := fun q h => Or.inr (by rw [hH0]; exact h)
  have E : zOK z cX1_distinctRoots RX1 κ 14 380 (some .int) := E
  refine V.eqL (lv' := [(0, .ref x), (1, vi v0)]) rfl ?_
  obtain ⟨ls, bs, li, bi, a, iso, T, hS, hST, hiso⟩ := hP
  have hA93 : ∀ q, pA κ H0 q → κ.2 93 ≤ q := fun q h => h.1
  have hD := hC.D
  have hsl0 := hS.sl
  have hQT : ∀ k, k < 5 → 0 < (T (a k)).1 → okQ (T (a k)) N M M0 Nt Kt C0 L0 C1 L1 := fun k hk h => by rw [← hST k hk] at h ⊢; exact hQ k hk h
  refine v_iload_n E 1 rfl dX1_distinctRoots_0 ?_
  refine V.frame (fun hfz_fr_1 hfk_fr_1 => ?_)
  rw [hH0] at hfz_fr_1 hfk_fr_1
  rw [hA0] at hfk_fr_1
  have hC_fr_1 := hC.call hA93 hfz_fr_1 hfk_fr_1
  refine v_callSX E X9 hE (As := [vi v0]) (x_slot κ H0 hrv0) (lw_S q570 q571 q70 q572) 1 (by decide +kernel) rfl (by decide) (by decide) (cb' := ((3 + C0) - 1)) (sb' := ((16 + L0) - 6)) (by omega) (by omega) rfl (rest := []) (Nat.le_of_ble_eq_true rfl) (fun q h => h.elim) dX1_distinctRoots_1 (fun C9 H9 hx9 hz9 hk9 => by exact ⟨Or.inl (⟨hx9.1, (by have hx8 := hx9.2; unfold xoDR; first | (split <;> first | rfl | (exfalso; omega) | (split <;> first | rfl | (exfalso; omega) | (split <;> first | rfl | (exfalso; omega)))))⟩), CS.pub (CS.kf0 hC_fr_1 (kF.ext hz9 hk9) hS) hST hiso⟩) (fun v_2 H_3 hpost_4 hz_5 hk_6 => ?_)
  obtain ⟨rfl, hsv0⟩ := hpost_4
  have hl_7 := CS.kf0 hC_fr_1 (kF.ext hz_5 hk_6) hS
  obtain ⟨i0, hni0⟩ : ∃ i0 : Nat, v0 = (i0 : Int) := ⟨v0.toNat, by omega⟩
  subst hni0
  have hii0 : i0 < 5 := by omega
  refine V.eq (st' := []) rfl ?_
  refine v_aload_n E 0 rfl dX1_distinctRoots_4 ?_
  refine v_iload_n E 1 rfl dX1_distinctRoots_5 ?_
  refine V.frame (fun hfz_fr_8 hfk_fr_8 => ?_)
  rw [hH0] at hfz_fr_8 hfk_fr_8
  rw [hA0] at hfk_fr_8
  have hC_fr_8 := hC.call hA93 hfz_fr_8 hfk_fr_8
  refine v_callVX E X9 hE (As := [vi ((i0 : Nat) : Int)]) (b := x) (ci := 0) (C := RX1) (T := TX1) (N := 3) hl_7.2.1 rfl (x_nz κ H_3 (i := i0) hii0 hC_fr_8 hl_7) (lw_V q1458 q1460 qs40 q70 q1461) 1 (by decide +kernel) rfl (by decide) (by decide) (cb' := (((3 + C0) - 1) - 1)) (sb' := (((16 + L0) - 6) - 6)) (by omega) (by omega) rfl (rest := []) (Nat.le_of_ble_eq_true rfl) (fun q h => h.elim) dX1_distinctRoots_6 (fun C9 H9 hx9 hz9 hk9 => (by exact ⟨Or.inr (⟨hx9.1, by have hx7 := hx9.2; rw [← hST i0 hii0] at hx7; exact (by show (xoDR S (i0 : Int)).2.1 = 2; unfold xoDR; rw [if_pos (by omega)]; exact congrArg (fun t : zRc => t.2.1) (if_pos hx7))⟩), CS.pub (CS.kf0 hC_fr_8 (kF.ext hz9 hk9) hl_7) hST hiso⟩)) (fun v_9 H_10 hpost_11 hz_12 hk_13 => ?_)
  obtain ⟨rfl, hposT⟩ := hpost_11
  have hl_14 := CS.kf0 hC_fr_8 (kF.ext hz_12 hk_13) hl_7
  have hposS : 0 < (S i0).1 := by rw [hST i0 hii0]; exact hposT
  refine V.eq (st' := [.ref (a i0)]) rfl ?_
  refine V.frame (fun hfz_fr_16 hfk_fr_16 => ?_)
  rw [hH0] at hfz_fr_16 hfk_fr_16
  rw [hA0] at hfk_fr_16
  have hC_fr_16 := hC.call hA93 hfz_fr_16 hfk_fr_16
  obtain ⟨-, -, pk_22, vs_23, vf_24, vg_25, hkn_26, hpk_27, -⟩ := id (hl_14.2.2.2.2.1 i0 hii0)
  refine v_callV E (As := []) (b := (a i0)) (ci := 1) (C := RX2) (T := TX2) (N := 4) hkn_26 rfl (k_seq κ H_10 (b := false) (N := N) (M := M) (M0 := M0) hC_fr_16 (fun q h => by have h2 := hsl0; exact ⟨by omega, by omega, by omega, by omega⟩) (hQT i0 hii0 hposT).1 (hl_14.2.2.2.2.1 i0 hii0)) (lw_V q1496 q1472 q1473 q74 q1474) 0 (by decide +kernel) rfl (by decide) (by decide) (cb' := ((((3 + C0) - 1) - 1) - C0)) (sb' := ((((16 + L0) - 6) - 6) - L0)) (by rw [bC_f]; have := (hQT i0 hii0 hposT).2.1; omega) (by rw [bC_f]; have := (hQT i0 hii0 hposT).2.2.1; omega) rfl (rest := []) (Nat.le_of_ble_eq_true rfl) (fun q h => by obtain ⟨fs9, h8⟩ := (hl_14.2.2.2.2.1 i0 hii0).cl; have h9 := pA.any hfk_fr_16 h8 (Or.inr (Or.inl rfl)) (hl_14.2.2.2.2.1 i0 hii0).2.1; rw [← show q = _ from h] at h9; exact h9.elim (fun e => hAll q e) (fun e => hNew q e)) dX1_distinctRoots_9 (fun v_17 H_18 hpost_19 hz_20 hk_21 => ?_)
  obtain ⟨ls_15, rfl, hls_15, hKls_15⟩ := hpost_19
  have hSk_28 := kS.of (hl_14.2.2.2.2.1 i0 hii0) hKls_15 hz_20 hk_21
  have hl_29 := CS.ks hC_fr_16 hSk_28 hKls_15 hl_14
  have hl_30 := Po.ks hC_fr_16 hSk_28 hpk_27
  refine V.eq (st' := [.ref ls_15]) rfl ?_
  refine V.frame (fun hfz_fr_31 hfk_fr_31 => ?_)
  rw [hH0] at hfz_fr_31 hfk_fr_31
  rw [hA0] at hfk_fr_31
  have hC_fr_31 := hC.call hA93 hfz_fr_31 hfk_fr_31
  refine v_callS E (As := [.ref ls_15]) (p_all κ H_18 hC_fr_31 (fun j hj => by have h9 := hpos i0 hii0 hposS; rw [hST i0 hii0] at h9; exact h9 j hj) hls_15) (lw_S q1570 q1571 q70 q1572) 1 (by decide +kernel) rfl (by decide) (by decide) (cb' := (((((3 + C0) - 1) - 1) - C0) - 1)) (sb' := (((((16 + L0) - 6) - 6) - L0) - 4)) (by omega) (by omega) rfl (rest := []) (Nat.le_of_ble_eq_true rfl) (fun q h => h.elim) dX1_distinctRoots_12 (fun v_32 H_33 hpost_34 hz_35 hk_36 => ?_)
  obtain rfl := hpost_34
  have hl_37 := CS.kf0 hC_fr_31 (kF.ext hz_35 hk_36) hl_29
  have hl_38 := Po.kf hC_fr_31 (kF.ext hz_35 hk_36) aD.no hl_30
  have hl_39 := SQ.kf hC_fr_31 (kF.ext hz_35 hk_36) aD.no hls_15
  refine V.eq (st' := [vi (arF (sq (T (a i0))) (seqLen (T (a i0))))]) rfl ?_
  refine V.rt E hE (fun z9 E hE => ?_)
  refine v_iret E hE dX1_distinctRoots_15 ?_
  have hop : xoDR S (i0 : Int) = (arF (sq (T (a i0))) (seqLen (T (a i0))), 0, S) := by unfold xoDR; rw [if_pos (by omega)]; show (if (S i0).1 = 0 then _ else _) = _; rw [if_neg (by omega)]; show (arF (sq (S i0)) (seqLen (S i0)), 0, S) = _; rw [hST i0 hii0]
  rw [hop]; exact ⟨rfl, rfl, CS.pub hl_37 hST hiso⟩
