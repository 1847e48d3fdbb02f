/-! THE COMPONENT: hasRoot -/
/-- all that the square-free sequence needs -/
def okH (P : Pl) (N : Nat → Nat → Nat) (M : Nat → Nat) (M0 N1 M1 : Nat) (Nt Kt : Nat → Nat) (Cf Lf C1 L1 : Nat) : Prop := fitN P N M M0 ∧ ((cDvs P).1 ≠ 1 → fitFr P N1 M1 ∧ fitN (cFree P) N M M0) ∧ suC N M0 P.1 + gsC P N M0 ≤ Cf ∧ suL N M M0 P.1 + gsL P N1 M1 N M M0 ≤ Lf ∧ 1 + sumN (fun i => sgC (fsq P i).1) (fsL P) ≤ C1 ∧ 4 + sumN (fun i => sgL (Nt (fsq P i).1) (Kt (fsq P i).1) (fsq P i).1) (fsL P) ≤ L1 ∧ ∀ (n : Int) (e : Nat), -4294967296 < n → n < 4294967296 → e ≤ 12 → ∀ i, i < fsL P → (fsq P i).1 ≤ 7 ∧ fitV (fsq P i) n e (Nt (fsq P i).1) (Kt (fsq P i).1)
/-- changes of the square-free sequence at a point -/
def fch (P : Pl) (n : Int) (e : Nat) : Int := ((chG (fun i => cSg (fsq P i) n e) (fsL P) : Nat) : Int)
def xhR (P : Pl) (l h : Int) (e : Nat) : Int := if l = h then (if cSg P h e = 0 then 1 else 0) else (if (if cSg P h e = 0 then 1 else 0) < fch P l e - fch P h e then 1 else 0)
theorem fsL_in (P : Pl) : fsL P ≤ 10 := by
  unfold fsL
  split
  · exact (seqLen_in P).2
  · exact (seqLen_in (cFree P)).2
theorem fch_in (P : Pl) (n : Int) (e : Nat) : 0 ≤ fch P n e ∧ fch P n e ≤ 10 := by
  have h1 := chG_le (fun i => cSg (fsq P i) n e) (fsL P)
  have h2 := fsL_in P
  unfold fch
  omega
set_option maxHeartbeats 1000000 in
set_option maxRecDepth 100000 in
/-- hasRoot -/
theorem x_hr (κ : zK) (H0 : Heap) {N : Nat → Nat → Nat} {M : Nat → Nat} {M0 N1 M1 : Nat} {Nt Kt : Nat → Nat} {Cf Lf C1 L1 : Nat} {N3 K3 : Nat} {kk y e : Nat} {P : Pl} {D : Nat → Prop} {l h r0 : Int} (hrl : -134217728 ≤ l ∧ l ≤ 134217728) (hrh : -134217728 ≤ h ∧ h ≤ 134217728) (he : e ≤ 12) (h7k : P.1 ≤ 7) (hfk : fitV P h e N3 K3) (hQH : okH P N M M0 N1 M1 Nt Kt Cf Lf C1 L1) (hC : CO κ H0) (hDU : ∀ q, H0.size ≤ q → D q) (hK : Kn κ D H0 kk P false) (hy : e4 κ H0 y ((e : Int), l, h, r0))  : Mt κ yX1_hasRoot cX1_hasRoot 4 (some .boolean) 17 440 (50 + Cf + 2 * C1) ((8 + (4 * K3 + N3 + 28) * 6) + Lf + 2 * L1) H0 [.ref kk, .ref y] (fun q => q = kk) (fun v H1 => v = some (vi (xhR P l h e)) ∧ Kn κ D H1 kk P false) := by
  refine Mt.of (by decide) (Nat.le_of_ble_eq_true rfl) ?_
  intro z E hE hH0 hA0 hL hini
  have hAll : ∀ q, (fun q => q = kk) q → zA z.A z.H0 q := fun q h => Or.inl (by rw [hA0]; exact h)
  have hNew : ∀ q, H0.size ≤ q → zA z.A z.H0 q := fun q h => Or.inr (by rw [hH0]; exact h)
  have E : zOK z cX1_hasRoot RX1 κ 17 440 (some .boolean) := E
  refine V.eqL (lv' := [(0, .ref kk), (1, .ref y)]) rfl ?_
  have hA93 : ∀ q, (fun q => q = kk : Nat → Prop) q → κ.2 93 ≤ q := fun q h => by rw [show q = kk from h]; exact hK.2.1
  have hD := hC.D
  refine v_aload_n E 0 rfl dX1_hasRoot_0 ?_
  obtain ⟨-, -, pk_1, vs_2, vf_3, vg_4, hkn_5, hpk_6, -⟩ := id hK
  refine v_getfN (host := "SturmRoots") E in_X2 hkn_5 (ci := 1) rfl 0 (by decide) (by decide +kernel) rfl (v := .ref pk_1) rfl dX1_hasRoot_1 ?_
  refine v_aload_n E 1 rfl dX1_hasRoot_4 ?_
  refine v_getfN (host := "SturmRoots") E in_X5 hy (ci := 4) rfl 2 (by decide) (by decide +kernel) rfl (v := vi h) rfl dX1_hasRoot_5 ?_
  refine v_i2l E ⟨by omega, by omega⟩ dX1_hasRoot_8 ?_
  refine v_aload_n E 1 rfl dX1_hasRoot_9 ?_
  refine v_getfN (host := "SturmRoots") E in_X5 hy (ci := 4) rfl 0 (by decide) (by decide +kernel) rfl (v := vi (e : Int)) rfl dX1_hasRoot_10 ?_
  refine V.frame (fun hfz_fr_7 hfk_fr_7 => ?_)
  rw [hH0] at hfz_fr_7 hfk_fr_7
  rw [hA0] at hfk_fr_7
  have hC_fr_7 := hC.call hA93 hfz_fr_7 hfk_fr_7
  refine v_callS E (As := [.ref pk_1, vj h, vi (e : Int)]) (p_sg κ H0 (N := N3) (K := K3) hC_fr_7 ⟨by omega, by omega⟩ he h7k hfk hpk_6) (lw_S q1533 q1534 q70 q1535) 3 (by decide +kernel) rfl (by decide) (by decide) (cb' := ((50 + Cf + 2 * C1) - 50)) (sb' := (((8 + (4 * K3 + N3 + 28) * 6) + Lf + 2 * L1) - (8 + (4 * K3 + N3 + 28) * 6))) (by have h9 : sgC P.1 ≤ 50 := (by have := h7k; unfold sgC; omega); omega) (by have h9 := sgL_7 (N := N3) (K := K3) h7k; omega) rfl (rest := []) (Nat.le_of_ble_eq_true rfl) (fun q h => h.elim) dX1_hasRoot_13 (fun v_8 H_9 hpost_10 hz_11 hk_12 => ?_)
  obtain rfl := hpost_10
  have hl_13 := Kn.kf hC_fr_7 (kF.ext hz_11 hk_12) aD.no hK
  have hl_14 := (e4_kf hC.D (kF.ext hz_11 hk_12) hy)
  have hl_15 := Po.kf hC_fr_7 (kF.ext hz_11 hk_12) aD.no hpk_6
  have hsg_n_16 := cSg_3 P h e
  refine V.eq (st' := [vi (cSg P h e)]) rfl ?_
  refine v_if_ne E (tgt := 23) dX1_hasRoot_16 (by decide) ⟨by omega, by omega⟩ (fun c_16 => ?_) (fun c_16 => ?_)
  · refine v_iconst E dX1_hasRoot_23 ?_
    refine v_istore_n E dX1_hasRoot_24 (zlt hL rfl) (lv' := [(2, vi 0), (0, .ref kk), (1, .ref y)]) rfl ?_
    refine v_aload_n E 2 rfl dX1_hasRoot_25 ?_
    refine v_getfN (host := "SturmRoots") E in_X5 hl_14 (ci := 4) rfl 1 (by decide) (by decide +kernel) rfl (v := vi l) rfl dX1_hasRoot_26 ?_
    refine v_aload_n E 2 rfl dX1_hasRoot_29 ?_
    refine v_getfN (host := "SturmRoots") E in_X5 hl_14 (ci := 4) rfl 2 (by decide) (by decide +kernel) rfl (v := vi h) rfl dX1_hasRoot_30 ?_
    refine v_icmp_ne E (tgt := 38) dX1_hasRoot_33 (by decide) ⟨by omega, by omega⟩ ⟨by omega, by omega⟩ (fun c_33 => ?_) (fun c_33 => ?_)
    · refine v_aload_n E 1 rfl dX1_hasRoot_38 ?_
      refine V.frame (fun hfz_fr_18 hfk_fr_18 => ?_)
      rw [hH0] at hfz_fr_18 hfk_fr_18
      rw [hA0] at hfk_fr_18
      have hC_fr_18 := hC.call hA93 hfz_fr_18 hfk_fr_18
      obtain ⟨-, -, pk_24, vs_25, vf_26, vg_27, hkn_28, hpk_29, -⟩ := id hl_13
      refine v_callV E (As := []) (b := kk) (ci := 1) (C := RX2) (T := TX2) (N := 4) hkn_28 rfl (k_fs κ H_9 (b := false) (N := N) (M := M) (M0 := M0) (N1 := N1) (M1 := M1) (N2 := N) (M2 := M) (M02 := M0) hC_fr_18 (fun q h => hDU q (by omega)) hQH.1 hQH.2.1 hl_13) (lw_V q1646 q1647 q1648 q74 q1649) 0 (by decide +kernel) rfl (by decide) (by decide) (cb' := (((50 + Cf + 2 * C1) - 50) - Cf)) (sb' := ((((8 + (4 * K3 + N3 + 28) * 6) + Lf + 2 * L1) - (8 + (4 * K3 + N3 + 28) * 6)) - Lf)) (by rw [bC_f]; have := hQH.2.2.1; omega) (by rw [bC_f]; have := hQH.2.2.2.1; omega) rfl (rest := []) (Nat.le_of_ble_eq_true rfl) (fun q h => hAll q h) dX1_hasRoot_39 (fun v_19 H_20 hpost_21 hz_22 hk_23 => ?_)
      obtain ⟨ls_17, rfl, hls_17, hKls_17⟩ := hpost_21
      have hSk_30 := kS.of hl_13 hKls_17 hz_22 hk_23
      have hl_31 := kS.obj hC_fr_18 hSk_30 hl_14 (by decide) (by decide)
      have hl_32 := Po.ks hC_fr_18 hSk_30 hl_15
      have hl_33 := Po.ks hC_fr_18 hSk_30 hpk_29
      refine V.eq (st' := [.ref ls_17]) rfl ?_
      refine v_astore_n E dX1_hasRoot_42 (zlt hL rfl) (lv' := [(3, .ref ls_17), (2, vi 0), (0, .ref kk), (1, .ref y)]) rfl ?_
      refine v_aload_n E 0 rfl dX1_hasRoot_43 ?_
      refine v_aload_n E 3 rfl dX1_hasRoot_44 ?_
      refine v_getfN (host := "SturmRoots") E in_X5 hl_31 (ci := 4) rfl 1 (by decide) (by decide +kernel) rfl (v := vi l) rfl dX1_hasRoot_45 ?_
      refine v_i2l E ⟨by omega, by omega⟩ dX1_hasRoot_48 ?_
      refine v_aload_n E 3 rfl dX1_hasRoot_49 ?_
      refine v_getfN (host := "SturmRoots") E in_X5 hl_31 (ci := 4) rfl 0 (by decide) (by decide +kernel) rfl (v := vi (e : Int)) rfl dX1_hasRoot_50 ?_
      refine V.frame (fun hfz_fr_34 hfk_fr_34 => ?_)
      rw [hH0] at hfz_fr_34 hfk_fr_34
      rw [hA0] at hfk_fr_34
      have hC_fr_34 := hC.call hA93 hfz_fr_34 hfk_fr_34
      refine v_callS E (As := [.ref ls_17, vj l, vi (e : Int)]) (p_chg κ H_20 (n := l) (e := e) (Nt := Nt) (Kt := Kt) hC_fr_34 (show -4294967296 < l ∧ l < 4294967296 from ⟨by omega, by omega⟩) he (hQH.2.2.2.2.2.2 _ _ (show -4294967296 < l ∧ l < 4294967296 from ⟨by omega, by omega⟩).1 (show -4294967296 < l ∧ l < 4294967296 from ⟨by omega, by omega⟩).2 he) hls_17) (lw_S q1530 q1531 q70 q1532) 3 (by decide +kernel) rfl (by decide) (by decide) (cb' := ((((50 + Cf + 2 * C1) - 50) - Cf) - C1)) (sb' := (((((8 + (4 * K3 + N3 + 28) * 6) + Lf + 2 * L1) - (8 + (4 * K3 + N3 + 28) * 6)) - Lf) - L1)) (by have := hQH.2.2.2.2.1; omega) (by have := hQH.2.2.2.2.2.1; omega) rfl (rest := []) (Nat.le_of_ble_eq_true rfl) (fun q h => h.elim) dX1_hasRoot_53 (fun v_35 H_36 hpost_37 hz_38 hk_39 => ?_)
      obtain rfl := hpost_37
      have hl_40 := (e4_kf hC.D (kF.ext hz_38 hk_39) hl_31)
      have hl_41 := Po.kf hC_fr_34 (kF.ext hz_38 hk_39) aD.no hl_32
      have hl_42 := Po.kf hC_fr_34 (kF.ext hz_38 hk_39) aD.no hl_33
      have hl_43 := SQ.kf hC_fr_34 (kF.ext hz_38 hk_39) aD.no hls_17
      have hl_44 := Kn.kf hC_fr_34 (kF.ext hz_38 hk_39) aD.no hKls_17
      have hfi_n_45 := fch_in P l e
      refine V.eq (st' := [vi (fch P l e)]) rfl ?_
      refine v_aload_n E 0 rfl dX1_hasRoot_56 ?_
      refine v_aload_n E 3 rfl dX1_hasRoot_57 ?_
      refine v_getfN (host := "SturmRoots") E in_X5 hl_40 (ci := 4) rfl 2 (by decide) (by decide +kernel) rfl (v := vi h) rfl dX1_hasRoot_58 ?_
      refine v_i2l E ⟨by omega, by omega⟩ dX1_hasRoot_61 ?_
      refine v_aload_n E 3 rfl dX1_hasRoot_62 ?_
      refine v_getfN (host := "SturmRoots") E in_X5 hl_40 (ci := 4) rfl 0 (by decide) (by decide +kernel) rfl (v := vi (e : Int)) rfl dX1_hasRoot_63 ?_
      refine V.frame (fun hfz_fr_46 hfk_fr_46 => ?_)
      rw [hH0] at hfz_fr_46 hfk_fr_46
      rw [hA0] at hfk_fr_46
      have hC_fr_46 := hC.call hA93 hfz_fr_46 hfk_fr_46
      refine v_callS E (As := [.ref ls_17, vj h, vi (e : Int)]) (p_chg κ H_36 (n := h) (e := e) (Nt := Nt) (Kt := Kt) hC_fr_46 (show -4294967296 < h ∧ h < 4294967296 from ⟨by omega, by omega⟩) he (hQH.2.2.2.2.2.2 _ _ (show -4294967296 < h ∧ h < 4294967296 from ⟨by omega, by omega⟩).1 (show -4294967296 < h ∧ h < 4294967296 from ⟨by omega, by omega⟩).2 he) hl_43) (lw_S q1530 q1531 q70 q1532) 3 (by decide +kernel) rfl (by decide) (by decide) (cb' := (((((50 + Cf + 2 * C1) - 50) - Cf) - C1) - C1)) (sb' := ((((((8 + (4 * K3 + N3 + 28) * 6) + Lf + 2 * L1) - (8 + (4 * K3 + N3 + 28) * 6)) - Lf) - L1) - L1)) (by have := hQH.2.2.2.2.1; omega) (by have := hQH.2.2.2.2.2.1; omega) rfl (rest := [vi (fch P l e)]) (Nat.le_of_ble_eq_true rfl) (fun q h => h.elim) dX1_hasRoot_66 (fun v_47 H_48 hpost_49 hz_50 hk_51 => ?_)
      obtain rfl := hpost_49
      have hl_52 := (e4_kf hC.D (kF.ext hz_50 hk_51) hl_40)
      have hl_53 := Po.kf hC_fr_46 (kF.ext hz_50 hk_51) aD.no hl_41
      have hl_54 := Po.kf hC_fr_46 (kF.ext hz_50 hk_51) aD.no hl_42
      have hl_55 := SQ.kf hC_fr_46 (kF.ext hz_50 hk_51) aD.no hl_43
      have hl_56 := Kn.kf hC_fr_46 (kF.ext hz_50 hk_51) aD.no hl_44
      have hfi_n_57 := fch_in P h e
      refine V.eq (st' := [vi (fch P h e), vi (fch P l e)]) rfl ?_
      refine v_isub E dX1_hasRoot_69 ?_
      refine v_iload_n E 1 rfl dX1_hasRoot_70 ?_
      refine v_if_eq E (tgt := 78) dX1_hasRoot_71 (by decide) ⟨by omega, by omega⟩ (fun c_71 => ?_) (fun c_71 => ?_)
      · refine v_iconst E dX1_hasRoot_78 ?_
        refine v_icmp_le E (tgt := 86) dX1_hasRoot_79 (by decide) ⟨by omega, by omega⟩ ⟨by omega, by omega⟩ (fun c_79 => ?_) (fun c_79 => ?_)
        · refine v_iconst E dX1_hasRoot_86 ?_
          refine v_zret E hE dX1_hasRoot_87 rfl ?_
          refine ⟨?_, hl_56⟩
          unfold xhR
          rw [if_neg (show ¬ l = h by omega), if_neg (show ¬ cSg P h e = 0 by omega), if_neg (by omega)]
        · refine v_iconst E dX1_hasRoot_82 ?_
          refine v_goto E (tgt := 87) dX1_hasRoot_83 (by decide) ?_
          refine v_zret E hE dX1_hasRoot_87 rfl ?_
          refine ⟨?_, hl_56⟩
          unfold xhR
          rw [if_neg (show ¬ l = h by omega), if_neg (show ¬ cSg P h e = 0 by omega), if_pos (by omega)]
      · refine v_iconst E dX1_hasRoot_74 ?_
        refine v_goto E (tgt := 79) dX1_hasRoot_75 (by decide) ?_
        refine v_icmp_le E (tgt := 86) dX1_hasRoot_79 (by decide) ⟨by omega, by omega⟩ ⟨by omega, by omega⟩ (fun c_79 => ?_) (fun c_79 => ?_)
        · refine v_iconst E dX1_hasRoot_86 ?_
          refine v_zret E hE dX1_hasRoot_87 rfl ?_
          refine ⟨?_, hl_56⟩
          unfold xhR
          rw [if_neg (show ¬ l = h by omega), if_neg (show ¬ cSg P h e = 0 by omega), if_neg (by omega)]
        · refine v_iconst E dX1_hasRoot_82 ?_
          refine v_goto E (tgt := 87) dX1_hasRoot_83 (by decide) ?_
          refine v_zret E hE dX1_hasRoot_87 rfl ?_
          refine ⟨?_, hl_56⟩
          unfold xhR
          rw [if_neg (show ¬ l = h by omega), if_neg (show ¬ cSg P h e = 0 by omega), if_pos (by omega)]
    · refine v_iload_n E 0 rfl dX1_hasRoot_36 ?_
      refine v_zret E hE dX1_hasRoot_37 rfl ?_
      refine ⟨?_, hl_13⟩
      unfold xhR
      rw [if_pos (show l = h by omega), if_neg (by omega)]
  · refine v_iconst E dX1_hasRoot_19 ?_
    refine v_goto E (tgt := 24) dX1_hasRoot_20 (by decide) ?_
    refine v_istore_n E dX1_hasRoot_24 (zlt hL rfl) (lv' := [(2, vi 1), (0, .ref kk), (1, .ref y)]) rfl ?_
    refine v_aload_n E 2 rfl dX1_hasRoot_25 ?_
    refine v_getfN (host := "SturmRoots") E in_X5 hl_14 (ci := 4) rfl 1 (by decide) (by decide +kernel) rfl (v := vi l) rfl dX1_hasRoot_26 ?_
    refine v_aload_n E 2 rfl dX1_hasRoot_29 ?_
    refine v_getfN (host := "SturmRoots") E in_X5 hl_14 (ci := 4) rfl 2 (by decide) (by decide +kernel) rfl (v := vi h) rfl dX1_hasRoot_30 ?_
    refine v_icmp_ne E (tgt := 38) dX1_hasRoot_33 (by decide) ⟨by omega, by omega⟩ ⟨by omega, by omega⟩ (fun c_33 => ?_) (fun c_33 => ?_)
    · refine v_aload_n E 1 rfl dX1_hasRoot_38 ?_
      refine V.frame (fun hfz_fr_59 hfk_fr_59 => ?_)
      rw [hH0] at hfz_fr_59 hfk_fr_59
      rw [hA0] at hfk_fr_59
      have hC_fr_59 := hC.call hA93 hfz_fr_59 hfk_fr_59
      obtain ⟨-, -, pk_65, vs_66, vf_67, vg_68, hkn_69, hpk_70, -⟩ := id hl_13
      refine v_callV E (As := []) (b := kk) (ci := 1) (C := RX2) (T := TX2) (N := 4) hkn_69 rfl (k_fs κ H_9 (b := false) (N := N) (M := M) (M0 := M0) (N1 := N1) (M1 := M1) (N2 := N) (M2 := M) (M02 := M0) hC_fr_59 (fun q h => hDU q (by omega)) hQH.1 hQH.2.1 hl_13) (lw_V q1646 q1647 q1648 q74 q1649) 0 (by decide +kernel) rfl (by decide) (by decide) (cb' := (((50 + Cf + 2 * C1) - 50) - Cf)) (sb' := ((((8 + (4 * K3 + N3 + 28) * 6) + Lf + 2 * L1) - (8 + (4 * K3 + N3 + 28) * 6)) - Lf)) (by rw [bC_f]; have := hQH.2.2.1; omega) (by rw [bC_f]; have := hQH.2.2.2.1; omega) rfl (rest := []) (Nat.le_of_ble_eq_true rfl) (fun q h => hAll q h) dX1_hasRoot_39 (fun v_60 H_61 hpost_62 hz_63 hk_64 => ?_)
      obtain ⟨ls_58, rfl, hls_58, hKls_58⟩ := hpost_62
      have hSk_71 := kS.of hl_13 hKls_58 hz_63 hk_64
      have hl_72 := kS.obj hC_fr_59 hSk_71 hl_14 (by decide) (by decide)
      have hl_73 := Po.ks hC_fr_59 hSk_71 hl_15
      have hl_74 := Po.ks hC_fr_59 hSk_71 hpk_70
      refine V.eq (st' := [.ref ls_58]) rfl ?_
      refine v_astore_n E dX1_hasRoot_42 (zlt hL rfl) (lv' := [(3, .ref ls_58), (2, vi 1), (0, .ref kk), (1, .ref y)]) rfl ?_
      refine v_aload_n E 0 rfl dX1_hasRoot_43 ?_
      refine v_aload_n E 3 rfl dX1_hasRoot_44 ?_
      refine v_getfN (host := "SturmRoots") E in_X5 hl_72 (ci := 4) rfl 1 (by decide) (by decide +kernel) rfl (v := vi l) rfl dX1_hasRoot_45 ?_
      refine v_i2l E ⟨by omega, by omega⟩ dX1_hasRoot_48 ?_
      refine v_aload_n E 3 rfl dX1_hasRoot_49 ?_
      refine v_getfN (host := "SturmRoots") E in_X5 hl_72 (ci := 4) rfl 0 (by decide) (by decide +kernel) rfl (v := vi (e : Int)) rfl dX1_hasRoot_50 ?_
      refine V.frame (fun hfz_fr_75 hfk_fr_75 => ?_)
      rw [hH0] at hfz_fr_75 hfk_fr_75
      rw [hA0] at hfk_fr_75
      have hC_fr_75 := hC.call hA93 hfz_fr_75 hfk_fr_75
      refine v_callS E (As := [.ref ls_58, vj l, vi (e : Int)]) (p_chg κ H_61 (n := l) (e := e) (Nt := Nt) (Kt := Kt) hC_fr_75 (show -4294967296 < l ∧ l < 4294967296 from ⟨by omega, by omega⟩) he (hQH.2.2.2.2.2.2 _ _ (show -4294967296 < l ∧ l < 4294967296 from ⟨by omega, by omega⟩).1 (show -4294967296 < l ∧ l < 4294967296 from ⟨by omega, by omega⟩).2 he) hls_58) (lw_S q1530 q1531 q70 q1532) 3 (by decide +kernel) rfl (by decide) (by decide) (cb' := ((((50 + Cf + 2 * C1) - 50) - Cf) - C1)) (sb' := (((((8 + (4 * K3 + N3 + 28) * 6) + Lf + 2 * L1) - (8 + (4 * K3 + N3 + 28) * 6)) - Lf) - L1)) (by have := hQH.2.2.2.2.1; omega) (by have := hQH.2.2.2.2.2.1; omega) rfl (rest := []) (Nat.le_of_ble_eq_true rfl) (fun q h => h.elim) dX1_hasRoot_53 (fun v_76 H_77 hpost_78 hz_79 hk_80 => ?_)
      obtain rfl := hpost_78
      have hl_81 := (e4_kf hC.D (kF.ext hz_79 hk_80) hl_72)
      have hl_82 := Po.kf hC_fr_75 (kF.ext hz_79 hk_80) aD.no hl_73
      have hl_83 := Po.kf hC_fr_75 (kF.ext hz_79 hk_80) aD.no hl_74
      have hl_84 := SQ.kf hC_fr_75 (kF.ext hz_79 hk_80) aD.no hls_58
      have hl_85 := Kn.kf hC_fr_75 (kF.ext hz_79 hk_80) aD.no hKls_58
      have hfi_n_86 := fch_in P l e
      refine V.eq (st' := [vi (fch P l e)]) rfl ?_
      refine v_aload_n E 0 rfl dX1_hasRoot_56 ?_
      refine v_aload_n E 3 rfl dX1_hasRoot_57 ?_
      refine v_getfN (host := "SturmRoots") E in_X5 hl_81 (ci := 4) rfl 2 (by decide) (by decide +kernel) rfl (v := vi h) rfl dX1_hasRoot_58 ?_
      refine v_i2l E ⟨by omega, by omega⟩ dX1_hasRoot_61 ?_
      refine v_aload_n E 3 rfl dX1_hasRoot_62 ?_
      refine v_getfN (host := "SturmRoots") E in_X5 hl_81 (ci := 4) rfl 0 (by decide) (by decide +kernel) rfl (v := vi (e : Int)) rfl dX1_hasRoot_63 ?_
      refine V.frame (fun hfz_fr_87 hfk_fr_87 => ?_)
      rw [hH0] at hfz_fr_87 hfk_fr_87
      rw [hA0] at hfk_fr_87
      have hC_fr_87 := hC.call hA93 hfz_fr_87 hfk_fr_87
      refine v_callS E (As := [.ref ls_58, vj h, vi (e : Int)]) (p_chg κ H_77 (n := h) (e := e) (Nt := Nt) (Kt := Kt) hC_fr_87 (show -4294967296 < h ∧ h < 4294967296 from ⟨by omega, by omega⟩) he (hQH.2.2.2.2.2.2 _ _ (show -4294967296 < h ∧ h < 4294967296 from ⟨by omega, by omega⟩).1 (show -4294967296 < h ∧ h < 4294967296 from ⟨by omega, by omega⟩).2 he) hl_84) (lw_S q1530 q1531 q70 q1532) 3 (by decide +kernel) rfl (by decide) (by decide) (cb' := (((((50 + Cf + 2 * C1) - 50) - Cf) - C1) - C1)) (sb' := ((((((8 + (4 * K3 + N3 + 28) * 6) + Lf + 2 * L1) - (8 + (4 * K3 + N3 + 28) * 6)) - Lf) - L1) - L1)) (by have := hQH.2.2.2.2.1; omega) (by have := hQH.2.2.2.2.2.1; omega) rfl (rest := [vi (fch P l e)]) (Nat.le_of_ble_eq_true rfl) (fun q h => h.elim) dX1_hasRoot_66 (fun v_88 H_89 hpost_90 hz_91 hk_92 => ?_)
      obtain rfl := hpost_90
      have hl_93 := (e4_kf hC.D (kF.ext hz_91 hk_92) hl_81)
      have hl_94 := Po.kf hC_fr_87 (kF.ext hz_91 hk_92) aD.no hl_82
      have hl_95 := Po.kf hC_fr_87 (kF.ext hz_91 hk_92) aD.no hl_83
      have hl_96 := SQ.kf hC_fr_87 (kF.ext hz_91 hk_92) aD.no hl_84
      have hl_97 := Kn.kf hC_fr_87 (kF.ext hz_91 hk_92) aD.no hl_85
      have hfi_n_98 := fch_in P h e
      refine V.eq (st' := [vi (fch P h e), vi (fch P l e)]) rfl ?_
      refine v_isub E dX1_hasRoot_69 ?_
      refine v_iload_n E 1 rfl dX1_hasRoot_70 ?_
      refine v_if_eq E (tgt := 78) dX1_hasRoot_71 (by decide) ⟨by omega, by omega⟩ (fun c_71 => ?_) (fun c_71 => ?_)
      · refine v_iconst E dX1_hasRoot_78 ?_
        refine v_icmp_le E (tgt := 86) dX1_hasRoot_79 (by decide) ⟨by omega, by omega⟩ ⟨by omega, by omega⟩ (fun c_79 => ?_) (fun c_79 => ?_)
        · refine v_iconst E dX1_hasRoot_86 ?_
          refine v_zret E hE dX1_hasRoot_87 rfl ?_
          refine ⟨?_, hl_97⟩
          unfold xhR
          rw [if_neg (show ¬ l = h by omega), if_pos (show cSg P h e = 0 by omega), if_neg (by omega)]
        · refine v_iconst E dX1_hasRoot_82 ?_
          refine v_goto E (tgt := 87) dX1_hasRoot_83 (by decide) ?_
          refine v_zret E hE dX1_hasRoot_87 rfl ?_
          refine ⟨?_, hl_97⟩
          unfold xhR
          rw [if_neg (show ¬ l = h by omega), if_pos (show cSg P h e = 0 by omega), if_pos (by omega)]
      · refine v_iconst E dX1_hasRoot_74 ?_
        refine v_goto E (tgt := 79) dX1_hasRoot_75 (by decide) ?_
        refine v_icmp_le E (tgt := 86) dX1_hasRoot_79 (by decide) ⟨by omega, by omega⟩ ⟨by omega, by omega⟩ (fun c_79 => ?_) (fun c_79 => ?_)
        · refine v_iconst E dX1_hasRoot_86 ?_
          refine v_zret E hE dX1_hasRoot_87 rfl ?_
          refine ⟨?_, hl_97⟩
          unfold xhR
          rw [if_neg (show ¬ l = h by omega), if_pos (show cSg P h e = 0 by omega), if_neg (by omega)]
        · refine v_iconst E dX1_hasRoot_82 ?_
          refine v_goto E (tgt := 87) dX1_hasRoot_83 (by decide) ?_
          refine v_zret E hE dX1_hasRoot_87 rfl ?_
          refine ⟨?_, hl_97⟩
          unfold xhR
          rw [if_neg (show ¬ l = h by omega), if_pos (show cSg P h e = 0 by omega), if_pos (by omega)]
    · refine v_iload_n E 0 rfl dX1_hasRoot_36 ?_
      refine v_zret E hE dX1_hasRoot_37 rfl ?_
      refine ⟨?_, hl_13⟩
      unfold xhR
      rw [if_pos (show l = h by omega), if_pos (by omega)]
