/-! THE COMPONENT: what a Known is asked -/
/-- all of a Known's sequence fits -/
def fitN (P : Pl) (N : Nat → Nat → Nat) (M : Nat → Nat) (M0 : Nat) : Prop := P.1 ≤ 7 ∧ okT N M ∧ M0 ≤ 40 ∧ (∀ k, ((P.2 k).natAbs : Int) < 2 ^ (32 * M0)) ∧ (∀ k, (((cDer P).2 k).natAbs : Int) < 2 ^ (32 * M0)) ∧ fitT P N M
theorem bC_t (x : Nat) : bC true x = 0 := rfl
theorem bC_f (x : Nat) : bC false x = x := rfl
theorem sl_ge (P : Pl) : ∀ f L, L ≤ sl P f L
  | 0, L => Nat.le_refl L
  | f + 1, L => by
    unfold sl
    split
    · exact Nat.le_refl L
    · exact Nat.le_trans (Nat.le_succ L) (sl_ge P f (L + 1))
theorem sl_le (P : Pl) : ∀ f L, sl P f L ≤ L + f
  | 0, L => Nat.le_refl L
  | f + 1, L => by
    unfold sl
    split
    · omega
    · have := sl_le P f (L + 1); omega
theorem seqLen_in (P : Pl) : 1 ≤ seqLen P ∧ seqLen P ≤ 10 := by
  unfold seqLen
  split
  · omega
  · have h1 := sl_ge P 8 2
    have h2 := sl_le P 8 2
    omega
/-- the square-free part fits -/
def fitFr (P : Pl) (N1 M1 : Nat) : Prop := N1 + M1 ≤ 46 ∧ M1 ≤ 20 ∧ ((∀ k, (((cDvs P).2 k).natAbs : Int) < 2 ^ (32 * M1)) ∧ fitQ (sq P 0) (cDvs P) N1) ∧ 0 < (cDvs P).1 ∧ (cDvs P).1 ≤ (sq P 0).1 ∧ (sq P 0).1 ≤ 7
def frC (P : Pl) : Nat := 3 + quC (cDvs P).1 (sq P 0).1 + 11
def frL (P : Pl) (N1 M1 : Nat) : Nat := 14 + quL (cDvs P).1 N1 (N1 + M1) (sq P 0).1 + 60
theorem cQuo_7 {P B : Pl} (h0 : 0 < B.1) (h : P.1 ≤ 7) : (cQuo P B).1 ≤ 7 := Nat.le_trans (pl_le _ _) (by omega)
theorem Kn.any {κ : zK} {D : Nat → Prop} {H : Heap} {k : Nat} {P : Pl} {b : Bool} (h : Kn κ D H k P true) : Kn κ D H k P b := by
  obtain ⟨h1, h2, p, vs, vf, vg, h3, h4, h5, h6, h7, h8⟩ := h
  exact ⟨h1, h2, p, vs, vf, vg, h3, h4, h5, h6, h7, fun _ => h8 rfl⟩
def gsC (P : Pl) (N2 : Nat → Nat → Nat) (M02 : Nat) : Nat := if (cDvs P).1 = 1 then 0 else frC P + suC N2 M02 (cFree P).1
def gsL (P : Pl) (N1 M1 : Nat) (N2 : Nat → Nat → Nat) (M2 : Nat → Nat) (M02 : Nat) : Nat := if (cDvs P).1 = 1 then 0 else frL P N1 M1 + suL N2 M2 M02 (cFree P).1
set_option maxHeartbeats 400000 in
set_option maxRecDepth 100000 in
/-- sequence -/
theorem k_seq (κ : zK) (H0 : Heap) {k : Nat} {P : Pl} {D : Nat → Prop} {b : Bool} {N : Nat → Nat → Nat} {M : Nat → Nat} {M0 : Nat} (hC : CO κ H0) (hDU : ∀ q, H0.size ≤ q → D q) (hfN : fitN P N M M0) (hK : Kn κ D H0 k P b)  : Mt κ yX2_sequence cX2_sequence 1 (some (.object "java/util/ArrayList")) 13 360 (bC b (suC N M0 P.1)) (bC b (suL N M M0 P.1)) H0 [.ref k] (fun q => q = k) (fun v H1 => ∃ l : Nat, v = some (.ref l) ∧ SQ κ D H1 l (seqLen P) (sq P) ∧ Kn κ D H1 k P true) := by
  refine Mt.of (by decide) (Nat.le_of_ble_eq_true rfl) ?_
  intro z E hE hH0 hA0 hL hini
  have hAll : ∀ q, (fun q => q = k) q → zA z.A z.H0 q := fun q h => Or.inl (by rw [hA0]; exact h)
  have hNew : ∀ q, H0.size ≤ q → zA z.A z.H0 q := fun q h => Or.inr (by rw [hH0]; exact h)
  have E : zOK z cX2_sequence RX2 κ 13 360 (some (.object "java/util/ArrayList")) := E
  refine V.eqL (lv' := [(0, .ref k)]) rfl ?_
  obtain ⟨hnf, h93, pk, vs, vf, vg, hok, hPk, hvs, hvf, hvg, hb⟩ := id hK
  have hD := hC.D
  have hA93 : ∀ q, (fun q => q = k : Nat → Prop) q → κ.2 93 ≤ q := fun q h => by rw [show q = k from h]; exact h93
  refine v_aload_n E 0 rfl dX2_sequence_0 ?_
  rcases (show KQ κ D P H0 vs from hvs) with rfl | ⟨ls, rfl, hls⟩
  ·
    refine v_getf E in_X2 hok (ci := 1) rfl 1 (by decide) q196 rfl (v := .null) rfl dX2_sequence_1 ?_
    refine v_ifnonnullN E dX2_sequence_4 ?_
    have hbf : b = false := by cases b with
      | false => rfl
      | true => exact absurd rfl (hb rfl)
    refine v_aload_n E 0 rfl dX2_sequence_7 ?_
    refine v_aload_n E 0 rfl dX2_sequence_8 ?_
    refine v_getf E in_X2 hok (ci := 1) rfl 0 (by decide) q194 rfl (v := .ref pk) rfl dX2_sequence_9 ?_
    refine V.frame (fun hfz_fr_1 hfk_fr_1 => ?_)
    rw [hH0] at hfz_fr_1 hfk_fr_1
    rw [hA0] at hfk_fr_1
    have hC_fr_1 := hC.call hA93 hfz_fr_1 hfk_fr_1
    refine v_callSN (host := "SturmRoots") E (As := [.ref pk]) (p_sturm κ H0 (D := D) (N := N) (M := M) (M0 := M0) hC_fr_1 (fun q h => hDU q (Nat.le_trans hfz_fr_1 h)) hfN.1 hfN.2.1 ⟨trivial, trivial, hfN.2.2.1⟩ hfN.2.2.2.1 hfN.2.2.2.2.1 hfN.2.2.2.2.2 hPk) (lw_meth q1477) (by decide +kernel) q70 q1476 1 (by decide +kernel) rfl (by decide) (by decide) (cb' := 0) (sb' := 0) (by rw [hbf]; exact Nat.le_of_eq (Nat.zero_add _)) (by rw [hbf]; exact Nat.le_of_eq (Nat.zero_add _)) rfl (rest := [.ref k]) (Nat.le_of_ble_eq_true rfl) (fun q h => h.elim) dX2_sequence_12 (fun v_2 H_3 hpost_4 hz_5 hk_6 => ?_)
    obtain ⟨ls, rfl, hls⟩ := hpost_4
    have hl_7 := Po.kf hC_fr_1 (kF.ext hz_5 hk_6) aD.no hPk
    have hl_8 := KF.kf hC_fr_1 (kF.ext hz_5 hk_6) aD.no hvf
    have hl_9 := KG.kf hC_fr_1 (kF.ext hz_5 hk_6) aD.no hvg
    have hr_10 := hok.kept (hk_6 _ hok.lt (fun h => h))
    refine V.eq (st' := [.ref ls, .ref k]) rfl ?_
    refine V.frame (fun hfz_fr_11 hfk_fr_11 => ?_)
    rw [hH0] at hfz_fr_11 hfk_fr_11
    rw [hA0] at hfk_fr_11
    have hC_fr_11 := hC.call hA93 hfz_fr_11 hfk_fr_11
    refine v_putf E in_X2 tyX2 tyX2_ok nmX2 hr_10 (ci := 1) rfl 1 (Nat.le_of_ble_eq_true rfl) q196 rfl rfl rfl rfl (Nat.le_of_ble_eq_true rfl) (hAll _ rfl) dX2_sequence_15 (fun H_14 hr_12 hs_13 => ?_)
    have hr_12 : hp κ H_14 k (.inr (1, [.ref pk, .ref ls, vf, vg])) := hr_12
    have hS_15 : kS κ H_3 H_14 k := ⟨h93, Nat.le_of_eq hs_13.1.symm, fun q _ hq => hs_13.2 q hq, ⟨_, hr_10⟩, ⟨_, hr_12⟩⟩
    have hl_16 := Po.ks hC_fr_11 hS_15 hl_7
    have hl_17 := KF.ks hC_fr_11 hS_15 hl_8
    have hl_18 := KG.ks hC_fr_11 hS_15 hl_9
    have hl_19 := SQ.ks hC_fr_11 hS_15 hls
    refine v_aload_n E 0 rfl dX2_sequence_18 ?_
    refine v_getf E in_X2 hr_12 (ci := 1) rfl 1 (by decide) q196 rfl (v := .ref ls) rfl dX2_sequence_19 ?_
    refine v_aret E hE rfl (Or.inl ⟨_, rfl⟩) dX2_sequence_22 (Or.inr ⟨_, rfl⟩) ?_
    exact ⟨ls, rfl, hl_19, ⟨hnf, h93, pk, .ref ls, vf, vg, hr_12, hl_16, (Or.inr ⟨ls, rfl, hl_19⟩), hl_17, hl_18, (fun _ h => by cases h)⟩⟩
  ·
    refine v_getf E in_X2 hok (ci := 1) rfl 1 (by decide) q196 rfl (v := .ref ls) rfl dX2_sequence_1 ?_
    refine v_ifnonnull E (tgt := 18) dX2_sequence_4 (by decide) ?_
    refine v_aload_n E 0 rfl dX2_sequence_18 ?_
    refine v_getf E in_X2 hok (ci := 1) rfl 1 (by decide) q196 rfl (v := .ref ls) rfl dX2_sequence_19 ?_
    refine v_aret E hE rfl (Or.inl ⟨_, rfl⟩) dX2_sequence_22 (Or.inr ⟨_, rfl⟩) ?_
    exact ⟨ls, rfl, hls, ⟨hnf, h93, pk, .ref ls, vf, vg, hok, hPk, (Or.inr ⟨ls, rfl, hls⟩), hvf, hvg, (fun _ h => by cases h)⟩⟩

set_option maxHeartbeats 400000 in
set_option maxRecDepth 100000 in
/-- divisor -/
theorem k_div (κ : zK) (H0 : Heap) {k : Nat} {P : Pl} {D : Nat → Prop} {b : Bool} {N : Nat → Nat → Nat} {M : Nat → Nat} {M0 : Nat} (hC : CO κ H0) (hDU : ∀ q, H0.size ≤ q → D q) (hfN : fitN P N M M0) (hK : Kn κ D H0 k P b)  : Mt κ yX2_divisor cX2_divisor 1 (some (.object "SturmRoots$Poly")) 14 380 (bC b (suC N M0 P.1)) (bC b (suL N M M0 P.1)) H0 [.ref k] (fun q => q = k) (fun v H1 => ∃ r : Nat, v = some (.ref r) ∧ Po κ D H1 r (cDvs P) ∧ Kn κ D H1 k P true) := by
  refine Mt.of (by decide) (Nat.le_of_ble_eq_true rfl) ?_
  intro z E hE hH0 hA0 hL hini
  have hAll : ∀ q, (fun q => q = k) q → zA z.A z.H0 q := fun q h => Or.inl (by rw [hA0]; exact h)
  have hNew : ∀ q, H0.size ≤ q → zA z.A z.H0 q := fun q h => Or.inr (by rw [hH0]; exact h)
  have E : zOK z cX2_divisor RX2 κ 14 380 (some (.object "SturmRoots$Poly")) := E
  refine V.eqL (lv' := [(0, .ref k)]) rfl ?_
  have hD := hC.D
  have h93 := hK.2.1
  have hA93 : ∀ q, (fun q => q = k : Nat → Prop) q → κ.2 93 ≤ q := fun q h => by rw [show q = k from h]; exact h93
  obtain ⟨ks0, hks0⟩ := hK.cl
  refine v_aload_n E 0 rfl dX2_divisor_0 ?_
  refine V.frame (fun hfz_fr_2 hfk_fr_2 => ?_)
  rw [hH0] at hfz_fr_2 hfk_fr_2
  rw [hA0] at hfk_fr_2
  have hC_fr_2 := hC.call hA93 hfz_fr_2 hfk_fr_2
  obtain ⟨-, -, pk, vs, vf, vg, hk_8, -⟩ := id hK
  refine v_callV E (As := []) (b := k) (ci := 1) (C := RX2) (T := TX2) (N := 4) hk_8 rfl (k_seq κ H0 (N := N) (M := M) (M0 := M0) hC_fr_2 (fun q h => hDU q (Nat.le_trans hfz_fr_2 h)) hfN hK) (lw_V q1471 q1472 q1473 q74 q1474) 0 (by decide +kernel) rfl (by decide) (by decide) (cb' := ((bC b (suC N M0 P.1)) - (bC b (suC N M0 P.1)))) (sb' := ((bC b (suL N M M0 P.1)) - (bC b (suL N M M0 P.1)))) (by omega) (by omega) rfl (rest := []) (Nat.le_of_ble_eq_true rfl) (fun q h => hAll q h) dX2_divisor_1 (fun v_3 H_4 hpost_5 hz_6 hk_7 => ?_)
  obtain ⟨ls_1, rfl, hls_1, hKls_1⟩ := hpost_5
  have hS_9 := kS.of hK hKls_1 hz_6 hk_7
  refine V.eq (st' := [.ref ls_1]) rfl ?_
  refine v_aload_n E 0 rfl dX2_divisor_4 ?_
  refine V.frame (fun hfz_fr_11 hfk_fr_11 => ?_)
  rw [hH0] at hfz_fr_11 hfk_fr_11
  rw [hA0] at hfk_fr_11
  have hC_fr_11 := hC.call hA93 hfz_fr_11 hfk_fr_11
  obtain ⟨-, -, pk, vs, vf, vg, hk_17, -⟩ := id hKls_1
  refine v_callV E (As := []) (b := k) (ci := 1) (C := RX2) (T := TX2) (N := 4) hk_17 rfl (k_seq κ H_4 (N := N) (M := M) (M0 := M0) hC_fr_11 (fun q h => hDU q (Nat.le_trans hfz_fr_11 h)) hfN hKls_1) (lw_V q1471 q1472 q1473 q74 q1474) 0 (by decide +kernel) rfl (by decide) (by decide) (cb' := ((bC b (suC N M0 P.1)) - (bC b (suC N M0 P.1)))) (sb' := ((bC b (suL N M M0 P.1)) - (bC b (suL N M M0 P.1)))) (by rw [bC_t]; omega) (by rw [bC_t]; omega) rfl (rest := [.ref ls_1]) (Nat.le_of_ble_eq_true rfl) (fun q h => hAll q h) dX2_divisor_5 (fun v_12 H_13 hpost_14 hz_15 hk_16 => ?_)
  obtain ⟨ls_10, rfl, hls_10, hKls_10⟩ := hpost_14
  have hS_18 := kS.of hKls_1 hKls_10 hz_15 hk_16
  have hl_19 := SQ.ks hC_fr_11 hS_18 hls_1
  refine V.eq (st' := [.ref ls_10, .ref ls_1]) rfl ?_
  obtain ⟨bx_24, cx_25, md_20, g_21, hA_22, hel_23, -⟩ := id hls_10
  refine V.frame (fun hfz_fr_26 hfk_fr_26 => ?_)
  rw [hH0] at hfz_fr_26 hfk_fr_26
  rw [hA0] at hfk_fr_26
  have hC_fr_26 := hC.call hA93 hfz_fr_26 hfk_fr_26
  obtain ⟨bx_32, cx_33, md_34, g_35, hA_36, -⟩ := id hls_10
  refine v_callV E (As := []) (b := ls_10) (ci := 5) (C := RJ2) (T := TJ2) (N := 3) hA_36.1 rfl (j_size κ H_13 hA_22) (lw_V q1484 q152 q153 q73 q154) 0 (by decide +kernel) rfl (by decide) (by decide) (cb' := (((bC b (suC N M0 P.1)) - (bC b (suC N M0 P.1))) - 0)) (sb' := (((bC b (suL N M M0 P.1)) - (bC b (suL N M M0 P.1))) - 0)) (by omega) (by omega) rfl (rest := [.ref ls_1]) (Nat.le_of_ble_eq_true rfl) (fun q h => h.elim) dX2_divisor_8 (fun v_27 H_28 hpost_29 hz_30 hk_31 => ?_)
  obtain rfl := hpost_29
  have hl_37 := SQ.kf hC_fr_26 (kF.ext hz_30 hk_31) aD.no hl_19
  have hl_38 := SQ.kf hC_fr_26 (kF.ext hz_30 hk_31) aD.no hls_10
  have hl_39 := Kn.kf hC_fr_26 (kF.ext hz_30 hk_31) aD.no hKls_10
  refine V.eq (st' := [vi ((seqLen P : Nat) : Int), .ref ls_1]) rfl ?_
  refine v_iconst E dX2_divisor_11 ?_
  refine v_isub E dX2_divisor_12 ?_
  refine V.topi (x' := ((seqLen P - 1 : Nat) : Int)) (congrArg iZ (by have := seqLen_in P; omega)) ?_
  obtain ⟨bx_44, cx_45, md_40, g_41, hA_42, hel_43, -⟩ := id hl_37
  obtain ⟨y_46, hy_47, hE_48⟩ := hel_43 (seqLen P - 1) (by have := seqLen_in P; omega)
  refine V.frame (fun hfz_fr_49 hfk_fr_49 => ?_)
  rw [hH0] at hfz_fr_49 hfk_fr_49
  rw [hA0] at hfk_fr_49
  have hC_fr_49 := hC.call hA93 hfz_fr_49 hfk_fr_49
  obtain ⟨bx_55, cx_56, md_57, g_58, hA_59, -⟩ := id hl_37
  refine v_callV E (As := [vi ((seqLen P - 1 : Nat) : Int)]) (b := ls_1) (ci := 5) (C := RJ2) (T := TJ2) (N := 3) hA_59.1 rfl (j_get κ H_28 (i := seqLen P - 1) (y := y_46) (by have := seqLen_in P; omega) hy_47 hA_42) (lw_V q1478 q156 q157 q73 q158) 1 (by decide +kernel) rfl (by decide) (by decide) (cb' := ((((bC b (suC N M0 P.1)) - (bC b (suC N M0 P.1))) - 0) - 0)) (sb' := ((((bC b (suL N M M0 P.1)) - (bC b (suL N M M0 P.1))) - 0) - 0)) (by omega) (by omega) rfl (rest := []) (Nat.le_of_ble_eq_true rfl) (fun q h => h.elim) dX2_divisor_13 (fun v_50 H_51 hpost_52 hz_53 hk_54 => ?_)
  obtain rfl := hpost_52
  have hl_60 := SQ.kf hC_fr_49 (kF.ext hz_53 hk_54) aD.no hl_37
  have hl_61 := SQ.kf hC_fr_49 (kF.ext hz_53 hk_54) aD.no hl_38
  have hl_62 := Kn.kf hC_fr_49 (kF.ext hz_53 hk_54) aD.no hl_39
  have hl_63 := Po.kf hC_fr_49 (kF.ext hz_53 hk_54) aD.no hE_48
  refine V.eq (st' := [.ref y_46]) rfl ?_
  obtain ⟨-, -, l_65, ho_64, -⟩ := id hl_63
  refine v_castS E ho_64 (q := (RX3, TX3, 1)) rfl q1479 dX2_divisor_16 ?_
  refine v_aret E hE rfl (Or.inl ⟨_, rfl⟩) dX2_divisor_19 (Or.inr ⟨_, rfl⟩) ?_
  exact ⟨y_46, rfl, hl_63, hl_62⟩

set_option maxHeartbeats 400000 in
set_option maxRecDepth 100000 in
/-- free -/
theorem k_free (κ : zK) (H0 : Heap) {k : Nat} {P : Pl} {D : Nat → Prop} {b : Bool} {N : Nat → Nat → Nat} {M : Nat → Nat} {M0 : Nat} {N1 M1 : Nat} (hC : CO κ H0) (hDU : ∀ q, H0.size ≤ q → D q) (hfN : fitN P N M M0) (hfF : fitFr P N1 M1) (hK : Kn κ D H0 k P b)  : Mt κ yX2_free cX2_free 1 (some (.object "SturmRoots$Poly")) 15 400 (bC b (suC N M0 P.1) + frC P) (bC b (suL N M M0 P.1) + frL P N1 M1) H0 [.ref k] (fun q => q = k) (fun v H1 => ∃ r : Nat, v = some (.ref r) ∧ Po κ D H1 r (cFree P) ∧ Kn κ D H1 k P b) := by
  refine Mt.of (by decide) (Nat.le_of_ble_eq_true rfl) ?_
  intro z E hE hH0 hA0 hL hini
  have hAll : ∀ q, (fun q => q = k) q → zA z.A z.H0 q := fun q h => Or.inl (by rw [hA0]; exact h)
  have hNew : ∀ q, H0.size ≤ q → zA z.A z.H0 q := fun q h => Or.inr (by rw [hH0]; exact h)
  have E : zOK z cX2_free RX2 κ 15 400 (some (.object "SturmRoots$Poly")) := E
  refine V.eqL (lv' := [(0, .ref k)]) rfl ?_
  obtain ⟨hnf, h93, pk, vs, vf, vg, hok, hPk, hvs, hvf, hvg, hb⟩ := id hK
  have hD := hC.D
  have hA93 : ∀ q, (fun q => q = k : Nat → Prop) q → κ.2 93 ≤ q := fun q h => by rw [show q = k from h]; exact h93
  refine v_aload_n E 0 rfl dX2_free_0 ?_
  rcases (show KF κ D P H0 vf from hvf) with rfl | ⟨fr, rfl, hfr⟩
  ·
    refine v_getf E in_X2 hok (ci := 1) rfl 2 (by decide) q197 rfl (v := .null) rfl dX2_free_1 ?_
    refine v_ifnonnullN E dX2_free_4 ?_
    have hfc9 : frC P = 3 + quC (cDvs P).1 (sq P 0).1 + 11 := rfl
    have hfl9 : frL P N1 M1 = 14 + quL (cDvs P).1 N1 (N1 + M1) (sq P 0).1 + 60 := rfl
    have hcq7 : (cQuo (sq P 0) (cDvs P)).1 ≤ 7 := cQuo_7 hfF.2.2.2.1 hfF.2.2.2.2.2
    have hKc_1 : Kn κ D H0 k P b := ⟨hnf, h93, pk, vs, .null, vg, hok, hPk, hvs, (Or.inl rfl), hvg, hb⟩
    refine v_aload_n E 0 rfl dX2_free_7 ?_
    refine v_aload_n E 0 rfl dX2_free_8 ?_
    refine V.frame (fun hfz_fr_3 hfk_fr_3 => ?_)
    rw [hH0] at hfz_fr_3 hfk_fr_3
    rw [hA0] at hfk_fr_3
    have hC_fr_3 := hC.call hA93 hfz_fr_3 hfk_fr_3
    obtain ⟨-, -, pk, vs, vf, vg, hk_9, -⟩ := id hKc_1
    refine v_callV E (As := []) (b := k) (ci := 1) (C := RX2) (T := TX2) (N := 4) hk_9 rfl (k_seq κ H0 (N := N) (M := M) (M0 := M0) hC_fr_3 (fun q h => hDU q (Nat.le_trans hfz_fr_3 h)) hfN hKc_1) (lw_V q1471 q1472 q1473 q74 q1474) 0 (by decide +kernel) rfl (by decide) (by decide) (cb' := ((bC b (suC N M0 P.1) + frC P) - (bC b (suC N M0 P.1)))) (sb' := ((bC b (suL N M M0 P.1) + frL P N1 M1) - (bC b (suL N M M0 P.1)))) (by omega) (by omega) rfl (rest := [.ref k]) (Nat.le_of_ble_eq_true rfl) (fun q h => hAll q h) dX2_free_9 (fun v_4 H_5 hpost_6 hz_7 hk_8 => ?_)
    obtain ⟨ls_2, rfl, hls_2, hKls_2⟩ := hpost_6
    have hS_10 := kS.of hKc_1 hKls_2 hz_7 hk_8
    refine V.eq (st' := [.ref ls_2, .ref k]) rfl ?_
    refine v_iconst E dX2_free_12 ?_
    obtain ⟨bx_15, cx_16, md_11, g_12, hA_13, hel_14, -⟩ := id hls_2
    obtain ⟨y_17, hy_18, hE_19⟩ := hel_14 0 (by have := seqLen_in P; omega)
    refine V.frame (fun hfz_fr_20 hfk_fr_20 => ?_)
    rw [hH0] at hfz_fr_20 hfk_fr_20
    rw [hA0] at hfk_fr_20
    have hC_fr_20 := hC.call hA93 hfz_fr_20 hfk_fr_20
    obtain ⟨bx_26, cx_27, md_28, g_29, hA_30, -⟩ := id hls_2
    refine v_callV E (As := [vi 0]) (b := ls_2) (ci := 5) (C := RJ2) (T := TJ2) (N := 3) hA_30.1 rfl (j_get κ H_5 (i := 0) (y := y_17) (by have := seqLen_in P; omega) hy_18 hA_13) (lw_V q1478 q156 q157 q73 q158) 1 (by decide +kernel) rfl (by decide) (by decide) (cb' := (((bC b (suC N M0 P.1) + frC P) - (bC b (suC N M0 P.1))) - 0)) (sb' := (((bC b (suL N M M0 P.1) + frL P N1 M1) - (bC b (suL N M M0 P.1))) - 0)) (by omega) (by omega) rfl (rest := [.ref k]) (Nat.le_of_ble_eq_true rfl) (fun q h => h.elim) dX2_free_13 (fun v_21 H_22 hpost_23 hz_24 hk_25 => ?_)
    obtain rfl := hpost_23
    have hl_31 := SQ.kf hC_fr_20 (kF.ext hz_24 hk_25) aD.no hls_2
    have hl_32 := Kn.kf hC_fr_20 (kF.ext hz_24 hk_25) aD.no hKls_2
    have hl_33 := Po.kf hC_fr_20 (kF.ext hz_24 hk_25) aD.no hE_19
    refine V.eq (st' := [.ref y_17, .ref k]) rfl ?_
    obtain ⟨-, -, l_35, ho_34, -⟩ := id hl_33
    refine v_castS E ho_34 (q := (RX3, TX3, 1)) rfl q1479 dX2_free_16 ?_
    refine v_aload_n E 0 rfl dX2_free_19 ?_
    refine V.frame (fun hfz_fr_37 hfk_fr_37 => ?_)
    rw [hH0] at hfz_fr_37 hfk_fr_37
    rw [hA0] at hfk_fr_37
    have hC_fr_37 := hC.call hA93 hfz_fr_37 hfk_fr_37
    obtain ⟨-, -, pk, vs, vf, vg, hk_43, -⟩ := id hl_32
    refine v_callV E (As := []) (b := k) (ci := 1) (C := RX2) (T := TX2) (N := 4) hk_43 rfl (k_div κ H_22 (N := N) (M := M) (M0 := M0) hC_fr_37 (fun q h => hDU q (Nat.le_trans hfz_fr_37 h)) hfN hl_32) (lw_V q1480 q1481 q1482 q74 q1483) 0 (by decide +kernel) rfl (by decide) (by decide) (cb' := (((bC b (suC N M0 P.1) + frC P) - (bC b (suC N M0 P.1))) - 0)) (sb' := (((bC b (suL N M M0 P.1) + frL P N1 M1) - (bC b (suL N M M0 P.1))) - 0)) (by rw [bC_t]; omega) (by rw [bC_t]; omega) rfl (rest := [.ref y_17, .ref k]) (Nat.le_of_ble_eq_true rfl) (fun q h => hAll q h) dX2_free_20 (fun v_38 H_39 hpost_40 hz_41 hk_42 => ?_)
    obtain ⟨dv_36, rfl, hdv_36, hKdv_36⟩ := hpost_40
    have hS_44 := kS.of hl_32 hKdv_36 hz_41 hk_42
    have hl_45 := SQ.ks hC_fr_37 hS_44 hl_31
    have hl_46 := Po.ks hC_fr_37 hS_44 hl_33
    refine V.eq (st' := [.ref dv_36, .ref y_17, .ref k]) rfl ?_
    refine V.frame (fun hfz_fr_47 hfk_fr_47 => ?_)
    rw [hH0] at hfz_fr_47 hfk_fr_47
    rw [hA0] at hfk_fr_47
    have hC_fr_47 := hC.call hA93 hfz_fr_47 hfk_fr_47
    refine v_callSN (host := "SturmRoots") E (As := [.ref y_17, .ref dv_36]) (p_quo κ H_39 (D := D) (N := N1) (M := M1) hC_fr_47 (fun q h => hDU q (Nat.le_trans hfz_fr_47 h)) hfF.2.2.2.1 hfF.2.2.2.2.2 hfF.1 hfF.2.1 hfF.2.2.1.1 hfF.2.2.2.2.1 hfF.2.2.1.2 hl_46 hdv_36) (lw_meth q1487) (by decide +kernel) q70 q1486 2 (by decide +kernel) rfl (by decide) (by decide) (cb' := ((((bC b (suC N M0 P.1) + frC P) - (bC b (suC N M0 P.1))) - 0) - (3 + quC (cDvs P).1 (sq P 0).1))) (sb' := ((((bC b (suL N M M0 P.1) + frL P N1 M1) - (bC b (suL N M M0 P.1))) - 0) - (14 + quL (cDvs P).1 N1 (N1 + M1) (sq P 0).1))) (by omega) (by omega) rfl (rest := [.ref k]) (Nat.le_of_ble_eq_true rfl) (fun q h => h.elim) dX2_free_23 (fun v_48 H_49 hpost_50 hz_51 hk_52 => ?_)
    obtain ⟨qu, rfl, hqu⟩ := hpost_50
    have hl_53 := SQ.kf hC_fr_47 (kF.ext hz_51 hk_52) aD.no hl_45
    have hl_54 := Po.kf hC_fr_47 (kF.ext hz_51 hk_52) aD.no hl_46
    have hl_55 := Po.kf hC_fr_47 (kF.ext hz_51 hk_52) aD.no hdv_36
    have hl_56 := Kn.kf hC_fr_47 (kF.ext hz_51 hk_52) aD.no hKdv_36
    refine V.eq (st' := [.ref qu, .ref k]) rfl ?_
    refine V.frame (fun hfz_fr_57 hfk_fr_57 => ?_)
    rw [hH0] at hfz_fr_57 hfk_fr_57
    rw [hA0] at hfk_fr_57
    have hC_fr_57 := hC.call hA93 hfz_fr_57 hfk_fr_57
    refine v_callSN (host := "SturmRoots") E (As := [.ref qu]) (p_pos κ H_49 (D := D) hC_fr_57 (fun q h => hDU q (Nat.le_trans hfz_fr_57 h)) hcq7 hqu) (lw_meth q1446) (by decide +kernel) q70 q1445 1 (by decide +kernel) rfl (by decide) (by decide) (cb' := (((((bC b (suC N M0 P.1) + frC P) - (bC b (suC N M0 P.1))) - 0) - (3 + quC (cDvs P).1 (sq P 0).1)) - ((cQuo (sq P 0) (cDvs P)).1 + 4))) (sb' := (((((bC b (suL N M M0 P.1) + frL P N1 M1) - (bC b (suL N M M0 P.1))) - 0) - (14 + quL (cDvs P).1 N1 (N1 + M1) (sq P 0).1)) - (6 * (cQuo (sq P 0) (cDvs P)).1 + 18))) (by omega) (by omega) rfl (rest := [.ref k]) (Nat.le_of_ble_eq_true rfl) (fun q h => h.elim) dX2_free_26 (fun v_58 H_59 hpost_60 hz_61 hk_62 => ?_)
    obtain ⟨fq, rfl, hfq⟩ := hpost_60
    have hl_63 := SQ.kf hC_fr_57 (kF.ext hz_61 hk_62) aD.no hl_53
    have hl_64 := Po.kf hC_fr_57 (kF.ext hz_61 hk_62) aD.no hl_54
    have hl_65 := Po.kf hC_fr_57 (kF.ext hz_61 hk_62) aD.no hl_55
    have hl_66 := Kn.kf hC_fr_57 (kF.ext hz_61 hk_62) aD.no hl_56
    have hl_67 := Po.kf hC_fr_57 (kF.ext hz_61 hk_62) aD.no hqu
    refine V.eq (st' := [.ref fq, .ref k]) rfl ?_
    obtain ⟨-, -, pk, vs, vf, vg, hok, hPk, hvs, hvf, hvg, hb9⟩ := id hl_66
    refine V.frame (fun hfz_fr_68 hfk_fr_68 => ?_)
    rw [hH0] at hfz_fr_68 hfk_fr_68
    rw [hA0] at hfk_fr_68
    have hC_fr_68 := hC.call hA93 hfz_fr_68 hfk_fr_68
    refine v_putf E in_X2 tyX2 tyX2_ok nmX2 hok (ci := 1) rfl 2 (Nat.le_of_ble_eq_true rfl) q197 rfl rfl rfl rfl (Nat.le_of_ble_eq_true rfl) (hAll _ rfl) dX2_free_29 (fun H_71 hok_69 hs_70 => ?_)
    have hok_69 : hp κ H_71 k (.inr (1, [.ref pk, vs, .ref fq, vg])) := hok_69
    have hS_72 : kS κ H_59 H_71 k := ⟨h93, Nat.le_of_eq hs_70.1.symm, fun q _ hq => hs_70.2 q hq, ⟨_, hok⟩, ⟨_, hok_69⟩⟩
    have hl_73 := SQ.ks hC_fr_68 hS_72 hl_63
    have hl_74 := Po.ks hC_fr_68 hS_72 hl_64
    have hl_75 := Po.ks hC_fr_68 hS_72 hl_65
    have hl_76 := Po.ks hC_fr_68 hS_72 hl_67
    have hl_77 := Po.ks hC_fr_68 hS_72 hfq
    have hl_78 := Po.ks hC_fr_68 hS_72 hPk
    have hl_79 := KQ.ks hC_fr_68 hS_72 hvs
    have hl_80 := KF.ks hC_fr_68 hS_72 hvf
    have hl_81 := KG.ks hC_fr_68 hS_72 hvg
    refine v_aload_n E 0 rfl dX2_free_32 ?_
    refine v_getf E in_X2 hok_69 (ci := 1) rfl 2 (by decide) q197 rfl (v := .ref fq) rfl dX2_free_33 ?_
    refine v_aret E hE rfl (Or.inl ⟨_, rfl⟩) dX2_free_36 (Or.inr ⟨_, rfl⟩) ?_
    exact ⟨fq, rfl, hl_77, ⟨hnf, h93, pk, vs, .ref fq, vg, hok_69, hl_78, hl_79, Or.inr ⟨fq, rfl, hl_77⟩, hl_81, fun _ => hb9 rfl⟩⟩
  ·
    refine v_getf E in_X2 hok (ci := 1) rfl 2 (by decide) q197 rfl (v := .ref fr) rfl dX2_free_1 ?_
    refine v_ifnonnull E (tgt := 32) dX2_free_4 (by decide) ?_
    refine v_aload_n E 0 rfl dX2_free_32 ?_
    refine v_getf E in_X2 hok (ci := 1) rfl 2 (by decide) q197 rfl (v := .ref fr) rfl dX2_free_33 ?_
    refine v_aret E hE rfl (Or.inl ⟨_, rfl⟩) dX2_free_36 (Or.inr ⟨_, rfl⟩) ?_
    exact ⟨fr, rfl, hfr, ⟨hnf, h93, pk, vs, .ref fr, vg, hok, hPk, hvs, (Or.inr ⟨fr, rfl, hfr⟩), hvg, hb⟩⟩

set_option maxHeartbeats 400000 in
set_option maxRecDepth 100000 in
/-- freeSequence -/
theorem k_fs (κ : zK) (H0 : Heap) {k : Nat} {P : Pl} {D : Nat → Prop} {b : Bool} {N : Nat → Nat → Nat} {M : Nat → Nat} {M0 : Nat} {N1 M1 : Nat} {N2 : Nat → Nat → Nat} {M2 : Nat → Nat} {M02 : Nat} (hC : CO κ H0) (hDU : ∀ q, H0.size ≤ q → D q) (hfN : fitN P N M M0) (hfS : (cDvs P).1 ≠ 1 → fitFr P N1 M1 ∧ fitN (cFree P) N2 M2 M02) (hK : Kn κ D H0 k P b)  : Mt κ yX2_freeSequence cX2_freeSequence 1 (some (.object "java/util/ArrayList")) 16 420 (bC b (suC N M0 P.1) + gsC P N2 M02) (bC b (suL N M M0 P.1) + gsL P N1 M1 N2 M2 M02) H0 [.ref k] (fun q => q = k) (fun v H1 => ∃ l : Nat, v = some (.ref l) ∧ SQ κ D H1 l (fsL P) (fsq P) ∧ Kn κ D H1 k P b) := by
  refine Mt.of (by decide) (Nat.le_of_ble_eq_true rfl) ?_
  intro z E hE hH0 hA0 hL hini
  have hAll : ∀ q, (fun q => q = k) q → zA z.A z.H0 q := fun q h => Or.inl (by rw [hA0]; exact h)
  have hNew : ∀ q, H0.size ≤ q → zA z.A z.H0 q := fun q h => Or.inr (by rw [hH0]; exact h)
  have E : zOK z cX2_freeSequence RX2 κ 16 420 (some (.object "java/util/ArrayList")) := E
  refine V.eqL (lv' := [(0, .ref k)]) rfl ?_
  obtain ⟨hnf, h93, pk, vs, vf, vg, hok, hPk, hvs, hvf, hvg, hb⟩ := id hK
  have hD := hC.D
  have hA93 : ∀ q, (fun q => q = k : Nat → Prop) q → κ.2 93 ≤ q := fun q h => by rw [show q = k from h]; exact h93
  refine v_aload_n E 0 rfl dX2_freeSequence_0 ?_
  rcases (show KG κ D P H0 vg from hvg) with rfl | ⟨fs, rfl, hfs⟩
  ·
    refine v_getf E in_X2 hok (ci := 1) rfl 3 (by decide) q198 rfl (v := .null) rfl dX2_freeSequence_1 ?_
    refine v_ifnonnullN E dX2_freeSequence_4 ?_
    have hKc_1 : Kn κ D H0 k P b := ⟨hnf, h93, pk, vs, vf, .null, hok, hPk, hvs, hvf, (Or.inl rfl), hb⟩
    refine v_aload_n E 0 rfl dX2_freeSequence_7 ?_
    refine v_aload_n E 0 rfl dX2_freeSequence_8 ?_
    refine V.frame (fun hfz_fr_3 hfk_fr_3 => ?_)
    rw [hH0] at hfz_fr_3 hfk_fr_3
    rw [hA0] at hfk_fr_3
    have hC_fr_3 := hC.call hA93 hfz_fr_3 hfk_fr_3
    obtain ⟨-, -, pk, vs, vf, vg, hk_9, -⟩ := id hKc_1
    refine v_callV E (As := []) (b := k) (ci := 1) (C := RX2) (T := TX2) (N := 4) hk_9 rfl (k_div κ H0 (N := N) (M := M) (M0 := M0) hC_fr_3 (fun q h => hDU q (Nat.le_trans hfz_fr_3 h)) hfN hKc_1) (lw_V q1480 q1481 q1482 q74 q1483) 0 (by decide +kernel) rfl (by decide) (by decide) (cb' := ((bC b (suC N M0 P.1) + gsC P N2 M02) - (bC b (suC N M0 P.1)))) (sb' := ((bC b (suL N M M0 P.1) + gsL P N1 M1 N2 M2 M02) - (bC b (suL N M M0 P.1)))) (by omega) (by omega) rfl (rest := [.ref k]) (Nat.le_of_ble_eq_true rfl) (fun q h => hAll q h) dX2_freeSequence_9 (fun v_4 H_5 hpost_6 hz_7 hk_8 => ?_)
    obtain ⟨dv_2, rfl, hdv_2, hKdv_2⟩ := hpost_6
    have hS_10 := kS.of hKc_1 hKdv_2 hz_7 hk_8
    refine V.eq (st' := [.ref dv_2, .ref k]) rfl ?_
    refine V.frame (fun hfz_fr_11 hfk_fr_11 => ?_)
    rw [hH0] at hfz_fr_11 hfk_fr_11
    rw [hA0] at hfk_fr_11
    have hC_fr_11 := hC.call hA93 hfz_fr_11 hfk_fr_11
    obtain ⟨-, -, l_18, ho_17, -⟩ := id hdv_2
    refine v_callV E (As := []) (b := dv_2) (ci := 2) (C := RX3) (T := TX3) (N := 1) ho_17 rfl (p_deg κ H_5 hC_fr_11 hdv_2) (lw_V q1650 q618 q619 q75 q620) 0 (by decide +kernel) rfl (by decide) (by decide) (cb' := (((bC b (suC N M0 P.1) + gsC P N2 M02) - (bC b (suC N M0 P.1))) - 0)) (sb' := (((bC b (suL N M M0 P.1) + gsL P N1 M1 N2 M2 M02) - (bC b (suL N M M0 P.1))) - 0)) (by omega) (by omega) rfl (rest := [.ref k]) (Nat.le_of_ble_eq_true rfl) (fun q h => h.elim) dX2_freeSequence_12 (fun v_12 H_13 hpost_14 hz_15 hk_16 => ?_)
    obtain rfl := hpost_14
    have hl_19 := Po.kf hC_fr_11 (kF.ext hz_15 hk_16) aD.no hdv_2
    have hl_20 := Kn.kf hC_fr_11 (kF.ext hz_15 hk_16) aD.no hKdv_2
    refine V.eq (st' := [vi (((Prod.fst (cDvs P) : Nat) : Int) - 1), .ref k]) rfl ?_
    have hdv13 : (cDvs P).1 ≤ 13 := hl_19.2.1
    refine v_if_ne E (tgt := 25) dX2_freeSequence_15 (by decide) ⟨by omega, by omega⟩ (fun c_15 => ?_) (fun c_15 => ?_)
    · have hne1 : (cDvs P).1 ≠ 1 := by omega
      have hfx := hfS hne1
      have hg1 : gsC P N2 M02 = frC P + suC N2 M02 (cFree P).1 := if_neg hne1
      have hg2 : gsL P N1 M1 N2 M2 M02 = frL P N1 M1 + suL N2 M2 M02 (cFree P).1 := if_neg hne1
      refine v_aload_n E 0 rfl dX2_freeSequence_25 ?_
      refine V.frame (fun hfz_fr_21 hfk_fr_21 => ?_)
      rw [hH0] at hfz_fr_21 hfk_fr_21
      rw [hA0] at hfk_fr_21
      have hC_fr_21 := hC.call hA93 hfz_fr_21 hfk_fr_21
      obtain ⟨-, -, pk, vs, vf, vg, hk_27, -⟩ := id hl_20
      refine v_callV E (As := []) (b := k) (ci := 1) (C := RX2) (T := TX2) (N := 4) hk_27 rfl (k_free κ H_13 (b := true) (N := N) (M := M) (M0 := M0) (N1 := N1) (M1 := M1) hC_fr_21 (fun q h => hDU q (Nat.le_trans hfz_fr_21 h)) hfN hfx.1 hl_20) (lw_V q1651 q1468 q1469 q74 q1470) 0 (by decide +kernel) rfl (by decide) (by decide) (cb' := ((((bC b (suC N M0 P.1) + gsC P N2 M02) - (bC b (suC N M0 P.1))) - 0) - frC P)) (sb' := ((((bC b (suL N M M0 P.1) + gsL P N1 M1 N2 M2 M02) - (bC b (suL N M M0 P.1))) - 0) - frL P N1 M1)) (by rw [bC_t]; omega) (by rw [bC_t]; omega) rfl (rest := [.ref k]) (Nat.le_of_ble_eq_true rfl) (fun q h => hAll q h) dX2_freeSequence_26 (fun v_22 H_23 hpost_24 hz_25 hk_26 => ?_)
      obtain ⟨fr, rfl, hfr, hKf⟩ := hpost_24
      have hSf := kS.of hl_20 hKf hz_25 hk_26
      have hl_28 := Po.ks hC_fr_21 hSf hl_19
      refine V.eq (st' := [.ref fr, .ref k]) rfl ?_
      refine V.frame (fun hfz_fr_29 hfk_fr_29 => ?_)
      rw [hH0] at hfz_fr_29 hfk_fr_29
      rw [hA0] at hfk_fr_29
      have hC_fr_29 := hC.call hA93 hfz_fr_29 hfk_fr_29
      refine v_callSN (host := "SturmRoots") E (As := [.ref fr]) (p_sturm κ H_23 (D := D) (N := N2) (M := M2) (M0 := M02) hC_fr_29 (fun q h => hDU q (Nat.le_trans hfz_fr_29 h)) hfx.2.1 hfx.2.2.1 ⟨trivial, trivial, hfx.2.2.2.1⟩ hfx.2.2.2.2.1 hfx.2.2.2.2.2.1 hfx.2.2.2.2.2.2 hfr) (lw_meth q1477) (by decide +kernel) q70 q1476 1 (by decide +kernel) rfl (by decide) (by decide) (cb' := (((((bC b (suC N M0 P.1) + gsC P N2 M02) - (bC b (suC N M0 P.1))) - 0) - frC P) - (suC N2 M02 (cFree P).1))) (sb' := (((((bC b (suL N M M0 P.1) + gsL P N1 M1 N2 M2 M02) - (bC b (suL N M M0 P.1))) - 0) - frL P N1 M1) - (suL N2 M2 M02 (cFree P).1))) (by omega) (by omega) rfl (rest := [.ref k]) (Nat.le_of_ble_eq_true rfl) (fun q h => h.elim) dX2_freeSequence_29 (fun v_30 H_31 hpost_32 hz_33 hk_34 => ?_)
      obtain ⟨l2, rfl, hl2⟩ := hpost_32
      have hl_35 := Po.kf hC_fr_29 (kF.ext hz_33 hk_34) aD.no hl_28
      have hl_36 := Po.kf hC_fr_29 (kF.ext hz_33 hk_34) aD.no hfr
      have hl_37 := Kn.kf hC_fr_29 (kF.ext hz_33 hk_34) aD.no hKf
      refine V.eq (st' := [.ref l2, .ref k]) rfl ?_
      obtain ⟨-, -, pk, vs, vf, vg, hok, hPk, hvs, hvf, hvg, hb9⟩ := id hl_37
      refine V.frame (fun hfz_fr_38 hfk_fr_38 => ?_)
      rw [hH0] at hfz_fr_38 hfk_fr_38
      rw [hA0] at hfk_fr_38
      have hC_fr_38 := hC.call hA93 hfz_fr_38 hfk_fr_38
      refine v_putf E in_X2 tyX2 tyX2_ok nmX2 hok (ci := 1) rfl 3 (Nat.le_of_ble_eq_true rfl) q198 rfl rfl rfl rfl (Nat.le_of_ble_eq_true rfl) (hAll _ rfl) dX2_freeSequence_32 (fun H_41 hok_39 hs_40 => ?_)
      have hok_39 : hp κ H_41 k (.inr (1, [.ref pk, vs, vf, .ref l2])) := hok_39
      have hS_42 : kS κ H_31 H_41 k := ⟨h93, Nat.le_of_eq hs_40.1.symm, fun q _ hq => hs_40.2 q hq, ⟨_, hok⟩, ⟨_, hok_39⟩⟩
      have hl_43 := Po.ks hC_fr_38 hS_42 hl_35
      have hl_44 := Po.ks hC_fr_38 hS_42 hl_36
      have hl_45 := SQ.ks hC_fr_38 hS_42 hl2
      have hl_46 := Po.ks hC_fr_38 hS_42 hPk
      have hl_47 := KQ.ks hC_fr_38 hS_42 hvs
      have hl_48 := KF.ks hC_fr_38 hS_42 hvf
      have hl_49 := KG.ks hC_fr_38 hS_42 hvg
      refine v_aload_n E 0 rfl dX2_freeSequence_35 ?_
      refine v_getf E in_X2 hok_39 (ci := 1) rfl 3 (by decide) q198 rfl (v := .ref l2) rfl dX2_freeSequence_36 ?_
      refine v_aret E hE rfl (Or.inl ⟨_, rfl⟩) dX2_freeSequence_39 (Or.inr ⟨_, rfl⟩) ?_
      have hG9 : SQ κ D _ l2 (fsL P) (fsq P) := (by rw [show fsL P = seqLen (cFree P) from if_neg hne1, show fsq P = sq (cFree P) from if_neg hne1]; exact hl_45)
      exact ⟨l2, rfl, hG9, ⟨hnf, h93, pk, vs, vf, .ref l2, hok_39, hl_46, hl_47, hl_48, Or.inr ⟨l2, rfl, hG9⟩, fun _ => hb9 rfl⟩⟩
    · refine v_aload_n E 0 rfl dX2_freeSequence_18 ?_
      refine V.frame (fun hfz_fr_51 hfk_fr_51 => ?_)
      rw [hH0] at hfz_fr_51 hfk_fr_51
      rw [hA0] at hfk_fr_51
      have hC_fr_51 := hC.call hA93 hfz_fr_51 hfk_fr_51
      obtain ⟨-, -, pk, vs, vf, vg, hk_57, -⟩ := id hl_20
      refine v_callV E (As := []) (b := k) (ci := 1) (C := RX2) (T := TX2) (N := 4) hk_57 rfl (k_seq κ H_13 (N := N) (M := M) (M0 := M0) hC_fr_51 (fun q h => hDU q (Nat.le_trans hfz_fr_51 h)) hfN hl_20) (lw_V q1471 q1472 q1473 q74 q1474) 0 (by decide +kernel) rfl (by decide) (by decide) (cb' := (((bC b (suC N M0 P.1) + gsC P N2 M02) - (bC b (suC N M0 P.1))) - 0)) (sb' := (((bC b (suL N M M0 P.1) + gsL P N1 M1 N2 M2 M02) - (bC b (suL N M M0 P.1))) - 0)) (by rw [bC_t]; omega) (by rw [bC_t]; omega) rfl (rest := [.ref k]) (Nat.le_of_ble_eq_true rfl) (fun q h => hAll q h) dX2_freeSequence_19 (fun v_52 H_53 hpost_54 hz_55 hk_56 => ?_)
      obtain ⟨ls_50, rfl, hls_50, hKls_50⟩ := hpost_54
      have hS_58 := kS.of hl_20 hKls_50 hz_55 hk_56
      have hl_59 := Po.ks hC_fr_51 hS_58 hl_19
      refine V.eq (st' := [.ref ls_50, .ref k]) rfl ?_
      refine v_goto E (tgt := 32) dX2_freeSequence_22 (by decide) ?_
      obtain ⟨-, -, pk, vs, vf, vg, hok, hPk, hvs, hvf, hvg, hb9⟩ := id hKls_50
      refine V.frame (fun hfz_fr_60 hfk_fr_60 => ?_)
      rw [hH0] at hfz_fr_60 hfk_fr_60
      rw [hA0] at hfk_fr_60
      have hC_fr_60 := hC.call hA93 hfz_fr_60 hfk_fr_60
      refine v_putf E in_X2 tyX2 tyX2_ok nmX2 hok (ci := 1) rfl 3 (Nat.le_of_ble_eq_true rfl) q198 rfl rfl rfl rfl (Nat.le_of_ble_eq_true rfl) (hAll _ rfl) dX2_freeSequence_32 (fun H_63 hok_61 hs_62 => ?_)
      have hok_61 : hp κ H_63 k (.inr (1, [.ref pk, vs, vf, .ref ls_50])) := hok_61
      have hS_64 : kS κ H_53 H_63 k := ⟨h93, Nat.le_of_eq hs_62.1.symm, fun q _ hq => hs_62.2 q hq, ⟨_, hok⟩, ⟨_, hok_61⟩⟩
      have hl_65 := Po.ks hC_fr_60 hS_64 hl_59
      have hl_66 := SQ.ks hC_fr_60 hS_64 hls_50
      have hl_67 := Po.ks hC_fr_60 hS_64 hPk
      have hl_68 := KQ.ks hC_fr_60 hS_64 hvs
      have hl_69 := KF.ks hC_fr_60 hS_64 hvf
      have hl_70 := KG.ks hC_fr_60 hS_64 hvg
      refine v_aload_n E 0 rfl dX2_freeSequence_35 ?_
      refine v_getf E in_X2 hok_61 (ci := 1) rfl 3 (by decide) q198 rfl (v := .ref ls_50) rfl dX2_freeSequence_36 ?_
      refine v_aret E hE rfl (Or.inl ⟨_, rfl⟩) dX2_freeSequence_39 (Or.inr ⟨_, rfl⟩) ?_
      have hG9 : SQ κ D _ ls_50 (fsL P) (fsq P) := (by rw [show fsL P = seqLen P from if_pos (by omega), show fsq P = sq P from if_pos (by omega)]; exact hl_66)
      exact ⟨ls_50, rfl, hG9, ⟨hnf, h93, pk, vs, vf, .ref ls_50, hok_61, hl_67, hl_68, hl_69, Or.inr ⟨ls_50, rfl, hG9⟩, fun _ => hb9 rfl⟩⟩
  ·
    refine v_getf E in_X2 hok (ci := 1) rfl 3 (by decide) q198 rfl (v := .ref fs) rfl dX2_freeSequence_1 ?_
    refine v_ifnonnull E (tgt := 35) dX2_freeSequence_4 (by decide) ?_
    refine v_aload_n E 0 rfl dX2_freeSequence_35 ?_
    refine v_getf E in_X2 hok (ci := 1) rfl 3 (by decide) q198 rfl (v := .ref fs) rfl dX2_freeSequence_36 ?_
    refine v_aret E hE rfl (Or.inl ⟨_, rfl⟩) dX2_freeSequence_39 (Or.inr ⟨_, rfl⟩) ?_
    exact ⟨fs, rfl, hfs, ⟨hnf, h93, pk, vs, vf, .ref fs, hok, hPk, hvs, hvf, (Or.inr ⟨fs, rfl, hfs⟩), hb⟩⟩
