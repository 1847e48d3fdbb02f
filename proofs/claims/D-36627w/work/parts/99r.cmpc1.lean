/-! THE COMPONENT: poly, mustNotBeZero, store -/
/-- fit for a slot -/
def okF (P : Pl) : Nat → Int
  | 0 => if P.1 ≤ 7 then 1 else 0
  | k + 1 => if okF P k = 1 ∧ (P.2 k).natAbs ≤ 9999 then 1 else 0
def okP (P : Pl) : Prop := P.1 ≤ 7 ∧ ∀ k, (P.2 k).natAbs ≤ 9999
theorem okF_01 (P : Pl) : ∀ k, okF P k = 0 ∨ okF P k = 1
  | 0 => by unfold okF; split <;> decide
  | k + 1 => by unfold okF; split <;> decide
theorem okF_is (P : Pl) : ∀ k, okF P k = 1 ↔ P.1 ≤ 7 ∧ ∀ j, j < k → (P.2 j).natAbs ≤ 9999
  | 0 => by
    unfold okF
    split
    · rename_i h; exact ⟨fun _ => ⟨h, fun j hj => absurd hj (Nat.not_lt_zero j)⟩, fun _ => rfl⟩
    · rename_i h; exact ⟨fun e => absurd e (by decide), fun e => absurd e.1 h⟩
  | k + 1 => by
    unfold okF
    split
    · rename_i h
      refine ⟨fun _ => ⟨((okF_is P k).mp h.1).1, fun j hj => ?_⟩, fun _ => rfl⟩
      by_cases e : j = k
      · rw [e]; exact h.2
      · exact ((okF_is P k).mp h.1).2 j (by omega)
    · rename_i h
      exact ⟨fun e => absurd e (by decide), fun e => absurd ⟨(okF_is P k).mpr ⟨e.1, fun j hj => e.2 j (by omega)⟩, e.2 k (by omega)⟩ h⟩
theorem okF_P {P : Pl} (h : nf P) : okF P P.1 = 1 ↔ okP P := by
  rw [okF_is]
  refine ⟨fun e => ⟨e.1, fun k => ?_⟩, fun e => ⟨e.1, fun j _ => e.2 j⟩⟩
  by_cases c : k < P.1
  · exact e.2 k c
  · rw [h.2 k (by omega)]; decide
theorem va_up_T {T : Nat → Pl} {k j : Nat} {P : Pl} (h : j ≠ k) : va_up T k P j = T j := va_up_ne _ _ h
set_option maxHeartbeats 400000 in
set_option maxRecDepth 100000 in
/-- poly -/
theorem x_poly (κ : zK) (H0 : Heap) {x ls bs li bi : Nat} {a : Nat → Nat} {iso : Option Nat} {T : Nat → Pl} {n cap : Nat} {iv : Nat → Ivl} {D : Nat → Prop} {i : Nat} (hi : i < 5) (hC : CO κ H0) (hS : CS κ D H0 x ls bs li bi a iso T n cap iv)  : Mt κ yX1_poly cX1_poly 2 (some (.object "SturmRoots$Poly")) 3 64 0 0 H0 [.ref x, vi (i : Int)] (fun _ => False) (fun v H1 => ∃ r : Nat, v = some (.ref r) ∧ Po κ D H1 r (T (a i))) := by
  refine Mt.of (by decide) (Nat.le_of_ble_eq_true rfl) ?_
  intro z E hE hH0 hA0 hL hini
  have hAll : ∀ q, (fun _ => False) q → zA z.A z.H0 q := fun q h => Or.inl (by rw [hA0]; exact h)
  have hNew : ∀ q, H0.size ≤ q → zA z.A z.H0 q := fun q h => Or.inr (by rw [hH0]; exact h)
  have E : zOK z cX1_poly RX1 κ 3 64 (some (.object "SturmRoots$Poly")) := E
  refine V.eqL (lv' := [(0, .ref x), (1, vi (i : Int))]) rfl ?_
  have hA93 : ∀ q, (fun _ => False : Nat → Prop) q → κ.2 93 ≤ q := fun q h => h.elim
  have hD := hC.D
  have hsl0 := hS.sl
  refine v_aload_n E 0 rfl dX1_poly_0 ?_
  refine v_getf E in_X1 hS.2.1 (ci := 0) rfl 0 (by decide) q272 rfl (v := .ref ls) rfl dX1_poly_1 ?_
  refine v_iload_n E 1 rfl dX1_poly_4 ?_
  obtain ⟨md_1, g_2, hA_3, hg_4⟩ := hS.2.2.1
  refine V.frame (fun hfz_fr_5 hfk_fr_5 => ?_)
  rw [hH0] at hfz_fr_5 hfk_fr_5
  rw [hA0] at hfk_fr_5
  have hC_fr_5 := hC.call hA93 hfz_fr_5 hfk_fr_5
  obtain ⟨md_11, g_12, hA_13, hg_14⟩ := hS.2.2.1
  refine v_callV E (As := [vi (i : Int)]) (b := ls) (ci := 5) (C := RJ2) (T := TJ2) (N := 3) hA_13.1 rfl (j_get κ H0 (i := i) (y := a i) hi (hg_4 _ hi) hA_3) (lw_V q610 q156 q157 q73 q158) 1 (by decide +kernel) rfl (by decide) (by decide) (cb' := 0) (sb' := 0) (by decide) (by decide) rfl (rest := []) (Nat.le_of_ble_eq_true rfl) (fun q h => h.elim) dX1_poly_5 (fun v_6 H_7 hpost_8 hz_9 hk_10 => ?_)
  obtain rfl := hpost_8
  have hl_15 := CS.kf0 hC_fr_5 (kF.ext hz_9 hk_10) hS
  refine V.eq (st' := [.ref (a i)]) rfl ?_
  obtain ⟨-, -, pk_16, vs_17, vf_18, vg_19, hkn_20, hpk_21, -⟩ := id (hl_15.2.2.2.2.1 i hi)
  refine v_castS E hkn_20 (q := (RX2, TX2, 4)) rfl q143 dX1_poly_8 ?_
  obtain ⟨-, -, pk_22, vs_23, vf_24, vg_25, hkn_26, hpk_27, -⟩ := id (hl_15.2.2.2.2.1 i hi)
  refine v_getfN (host := "SturmRoots") E in_X2 hkn_26 (ci := 1) rfl 0 (by decide) (by decide +kernel) rfl (v := .ref pk_22) rfl dX1_poly_11 ?_
  refine v_aret E hE rfl (Or.inl ⟨_, rfl⟩) dX1_poly_14 (Or.inr ⟨_, rfl⟩) ?_
  exact ⟨pk_22, rfl, hpk_27⟩

set_option maxHeartbeats 400000 in
set_option maxRecDepth 100000 in
/-- mustNotBeZero -/
theorem x_nz (κ : zK) (H0 : Heap) {x ls bs li bi : Nat} {a : Nat → Nat} {iso : Option Nat} {T : Nat → Pl} {n cap : Nat} {iv : Nat → Ivl} {D : Nat → Prop} {i : Nat} (hi : i < 5) (hC : CO κ H0) (hS : CS κ D H0 x ls bs li bi a iso T n cap iv)  : MtX κ yX1_mustNotBeZero cX1_mustNotBeZero 2 (some (.object "SturmRoots$Known")) 6 85 1 6 H0 [.ref x, vi (i : Int)] (fun _ => False) (fun v H1 => v = some (.ref (a i)) ∧ 0 < (T (a i)).1) (fun C H1 => C = "java/lang/ArithmeticException" ∧ (T (a i)).1 = 0) := by
  refine MtX.of (by decide) (Nat.le_of_ble_eq_true rfl) ?_
  intro z E X9 hE hH0 hA0 hL hini
  have hAll : ∀ q, (fun _ => False) q → zA z.A z.H0 q := fun q h => Or.inl (by rw [hA0]; exact h)
  have hNew : ∀ q, H0.size ≤ q → zA z.A z.H0 q := fun q h => Or.inr (by rw [hH0]; exact h)
  have E : zOK z cX1_mustNotBeZero RX1 κ 6 85 (some (.object "SturmRoots$Known")) := E
  refine V.eqL (lv' := [(0, .ref x), (1, vi (i : Int))]) rfl ?_
  have hA93 : ∀ q, (fun _ => False : Nat → Prop) q → κ.2 93 ≤ q := fun q h => h.elim
  have hD := hC.D
  have hsl0 := hS.sl
  refine v_aload_n E 0 rfl dX1_mustNotBeZero_0 ?_
  refine v_iload_n E 1 rfl dX1_mustNotBeZero_1 ?_
  refine V.frame (fun hfz_fr_3 hfk_fr_3 => ?_)
  rw [hH0] at hfz_fr_3 hfk_fr_3
  rw [hA0] at hfk_fr_3
  have hC_fr_3 := hC.call hA93 hfz_fr_3 hfk_fr_3
  refine v_callV E (As := [vi (i : Int)]) (b := x) (ci := 0) (C := RX1) (T := TX1) (N := 3) hS.2.1 rfl (x_poly κ H0 (i := i) hi hC_fr_3 hS) (lw_V q606 q608 qs8 q70 q609) 1 (by decide +kernel) rfl (by decide) (by decide) (cb' := 1) (sb' := 6) (by decide) (by decide) rfl (rest := []) (Nat.le_of_ble_eq_true rfl) (fun q h => h.elim) dX1_mustNotBeZero_2 (fun v_4 H_5 hpost_6 hz_7 hk_8 => ?_)
  obtain ⟨pk_1, rfl, hpk_2⟩ := hpost_6
  have hl_9 := CS.kf0 hC_fr_3 (kF.ext hz_7 hk_8) hS
  refine V.eq (st' := [.ref pk_1]) rfl ?_
  refine V.frame (fun hfz_fr_10 hfk_fr_10 => ?_)
  rw [hH0] at hfz_fr_10 hfk_fr_10
  rw [hA0] at hfk_fr_10
  have hC_fr_10 := hC.call hA93 hfz_fr_10 hfk_fr_10
  obtain ⟨-, -, l_17, ho_16, -⟩ := id hpk_2
  refine v_callV E (As := []) (b := pk_1) (ci := 2) (C := RX3) (T := TX3) (N := 1) ho_16 rfl (p_deg κ H_5 hC_fr_10 hpk_2) (lw_V q617 q618 q619 q75 q620) 0 (by decide +kernel) rfl (by decide) (by decide) (cb' := 1) (sb' := 6) (by decide) (by decide) rfl (rest := []) (Nat.le_of_ble_eq_true rfl) (fun q h => h.elim) dX1_mustNotBeZero_5 (fun v_11 H_12 hpost_13 hz_14 hk_15 => ?_)
  obtain rfl := hpost_13
  have hl_18 := CS.kf0 hC_fr_10 (kF.ext hz_14 hk_15) hl_9
  have hl_19 := Po.kf hC_fr_10 (kF.ext hz_14 hk_15) aD.no hpk_2
  refine V.eq (st' := [vi (((Prod.fst (T (a i)) : Nat) : Int) - 1)]) rfl ?_
  have h13k : (T (a i)).1 ≤ 13 := hl_19.2.1
  refine v_if_ge E (tgt := 19) dX1_mustNotBeZero_8 (by decide) ⟨by omega, by omega⟩ (fun c_8 => ?_) (fun c_8 => ?_)
  · refine v_aload_n E 0 rfl dX1_mustNotBeZero_19 ?_
    refine v_getf E in_X1 hl_18.2.1 (ci := 0) rfl 0 (by decide) q272 rfl (v := .ref ls) rfl dX1_mustNotBeZero_20 ?_
    refine v_iload_n E 1 rfl dX1_mustNotBeZero_23 ?_
    obtain ⟨md_20, g_21, hA_22, hg_23⟩ := hl_18.2.2.1
    refine V.frame (fun hfz_fr_24 hfk_fr_24 => ?_)
    rw [hH0] at hfz_fr_24 hfk_fr_24
    rw [hA0] at hfk_fr_24
    have hC_fr_24 := hC.call hA93 hfz_fr_24 hfk_fr_24
    obtain ⟨md_30, g_31, hA_32, hg_33⟩ := hl_18.2.2.1
    refine v_callV E (As := [vi (i : Int)]) (b := ls) (ci := 5) (C := RJ2) (T := TJ2) (N := 3) hA_32.1 rfl (j_get κ H_12 (i := i) (y := a i) hi (hg_23 _ hi) hA_22) (lw_V q610 q156 q157 q73 q158) 1 (by decide +kernel) rfl (by decide) (by decide) (cb' := 1) (sb' := 6) (by decide) (by decide) rfl (rest := []) (Nat.le_of_ble_eq_true rfl) (fun q h => h.elim) dX1_mustNotBeZero_24 (fun v_25 H_26 hpost_27 hz_28 hk_29 => ?_)
    obtain rfl := hpost_27
    have hl_34 := CS.kf0 hC_fr_24 (kF.ext hz_28 hk_29) hl_18
    have hl_35 := Po.kf hC_fr_24 (kF.ext hz_28 hk_29) aD.no hl_19
    refine V.eq (st' := [.ref (a i)]) rfl ?_
    obtain ⟨-, -, pk_36, vs_37, vf_38, vg_39, hkn_40, hpk_41, -⟩ := id (hl_34.2.2.2.2.1 i hi)
    refine v_castS E hkn_40 (q := (RX2, TX2, 4)) rfl q143 dX1_mustNotBeZero_27 ?_
    refine V.rt E hE (fun z9 E hE => ?_)
    refine v_aret E hE rfl (Or.inl ⟨_, rfl⟩) dX1_mustNotBeZero_30 (Or.inr ⟨_, rfl⟩) ?_
    exact ⟨rfl, by omega⟩
  · refine V.frame (fun hfz_fr_42 hfk_fr_42 => ?_)
    rw [hH0] at hfz_fr_42 hfk_fr_42
    rw [hA0] at hfk_fr_42
    have hC_fr_42 := hC.call hA93 hfz_fr_42 hfk_fr_42
    refine V.frame (fun hfz_fr_43 hfk_fr_43 => ?_)
    rw [hH0] at hfz_fr_43 hfk_fr_43
    rw [hA0] at hfk_fr_43
    refine v_throw0 E X9 hE (cls := "java/lang/ArithmeticException") (names := ["java/lang/RuntimeException", "java/lang/Exception"]) (ik := 148) (ic := 150) (by decide +kernel) (by decide +kernel) q1462 q94 (ex_3 E.kn E.2.2.2.2.1 q1463) ex_3_ok dX1_mustNotBeZero_11 dX1_mustNotBeZero_14 dX1_mustNotBeZero_15 dX1_mustNotBeZero_18 (by decide) (Nat.le_of_ble_eq_true rfl) (by omega) (by omega) (fun H9 hz9 hk9 => ?_)
    exact ⟨rfl, by omega⟩

set_option maxHeartbeats 400000 in
set_option maxRecDepth 100000 in
/-- store -/
theorem x_store (κ : zK) (H0 : Heap) {x ls bs li bi : Nat} {a : Nat → Nat} {iso : Option Nat} {T : Nat → Pl} {n cap : Nat} {iv : Nat → Ivl} {D : Nat → Prop} {i p : Nat} {P : Pl} (hi : i < 5) (hC : CO κ H0) (hDbs : ¬ D bs) (hP : Po κ D H0 p P) (hS : CS κ D H0 x ls bs li bi a iso T n cap iv)  : MtX κ yX1_store cX1_store 7 (some .int) 6 97 18 110 H0 [.ref x, vi (i : Int), .ref p] (fun q => q = bs) (fun v H1 => okP P ∧ v = some (vi ((P.1 : Int) - 1)) ∧ ∃ k : Nat, H0.size ≤ k ∧ CS κ D H1 x ls bs li bi (va_up a i k) iso (va_up T k P) n cap iv) (fun C H1 => C = "java/lang/IllegalStateException" ∧ ¬ okP P ∧ CS κ D H1 x ls bs li bi a iso T n cap iv) := by
  refine MtX.of (by decide) (Nat.le_of_ble_eq_true rfl) ?_
  intro z E X9 hE hH0 hA0 hL hini
  have hAll : ∀ q, (fun q => q = bs) q → zA z.A z.H0 q := fun q h => Or.inl (by rw [hA0]; exact h)
  have hNew : ∀ q, H0.size ≤ q → zA z.A z.H0 q := fun q h => Or.inr (by rw [hH0]; exact h)
  have E : zOK z cX1_store RX1 κ 6 97 (some .int) := E
  refine V.eqL (lv' := [(0, .ref x), (1, vi (i : Int)), (2, .ref p)]) rfl ?_
  have hA93 : ∀ q, (fun q => q = bs : Nat → Prop) q → κ.2 93 ≤ q := fun q h => by
    obtain ⟨md9, g9, hA9, -⟩ := hS.2.2.1
    rw [show q = bs from h]; exact hA9.2.2.2.2.2.2.2.2.1 (by decide)
  have hkA : kA κ H0 (fun q => q = bs) := fun q h => ⟨hA93 q h, fun _ => by
    obtain ⟨md9, g9, hA9, -⟩ := hS.2.2.1
    rw [show q = bs from h]; exact Or.inr ⟨_, _, hA9.2.1⟩⟩
  have hD := hC.D
  have hsl0 := hS.sl
  obtain ⟨hnf, h13, l, hop, b, capP, mdP, gP, hAP, hel, hDl, hDp⟩ := id hP
  have hlb : l ≠ bs := fun e => hDbs (e ▸ hDl)
  have hpb : p ≠ bs := by
    obtain ⟨md9, g9, hA9, -⟩ := hS.2.2.1
    exact hp.ka hD hop hA9.2.1 (by decide) (by decide)
  refine v_ldc2 E q616 dX1_store_0 ?_
  refine V.eq (st' := vj 9999 :: _) rfl ?_
  refine V.frame (fun hfz_fr_1 hfk_fr_1 => ?_)
  rw [hH0] at hfz_fr_1 hfk_fr_1
  rw [hA0] at hfk_fr_1
  have hC_fr_1 := hC.call hA93 hfz_fr_1 hfk_fr_1
  have hF_fr_1 : kF κ H0 H0 (fun q => q = bs) := ⟨hkA, hfz_fr_1, hfk_fr_1⟩
  refine v_callS E (As := [vj 9999]) (p_num κ H0 (x := 9999) hC_fr_1 ⟨by decide, by decide⟩) (lw_S q611 q472 q70 q473) 1 (by decide +kernel) rfl (by decide) (by decide) (cb' := 16) (sb' := 102) (by decide) (by decide) rfl (rest := []) (Nat.le_of_ble_eq_true rfl) (fun q h => h.elim) dX1_store_3 (fun v_2 H_3 hpost_4 hz_5 hk_6 => ?_)
  obtain ⟨nq, rfl, hnq⟩ := hpost_4
  have hl_7 := CS.kf0 hC_fr_1 (kF.ext hz_5 hk_6) hS
  have hl_8 := Po.kf hC_fr_1 (kF.ext hz_5 hk_6) aD.no hP
  refine V.eq (st' := [.ref nq]) rfl ?_
  refine v_astore_n E dX1_store_6 (zlt hL rfl) (lv' := [(3, .ref nq), (0, .ref x), (1, vi (i : Int)), (2, .ref p)]) rfl ?_
  refine v_aload_n E 3 rfl dX1_store_7 ?_
  refine V.frame (fun hfz_fr_9 hfk_fr_9 => ?_)
  rw [hH0] at hfz_fr_9 hfk_fr_9
  rw [hA0] at hfk_fr_9
  have hC_fr_9 := hC.call hA93 hfz_fr_9 hfk_fr_9
  have hF_fr_9 : kF κ H0 H_3 (fun q => q = bs) := ⟨hkA, hfz_fr_9, hfk_fr_9⟩
  have hb_15 := hF_fr_9.at hop hpb
  refine v_callV E (As := []) (b := p) (ci := 2) (C := RX3) (T := TX3) (N := 1) hb_15 rfl (p_deg κ H_3 hC_fr_9 hl_8) (lw_V q617 q618 q619 q75 q620) 0 (by decide +kernel) rfl (by decide) (by decide) (cb' := 16) (sb' := 102) (by decide) (by decide) rfl (rest := []) (Nat.le_of_ble_eq_true rfl) (fun q h => h.elim) dX1_store_8 (fun v_10 H_11 hpost_12 hz_13 hk_14 => ?_)
  obtain rfl := hpost_12
  have hl_16 := CS.kf0 hC_fr_9 (kF.ext hz_13 hk_14) hl_7
  have hl_17 := Po.kf hC_fr_9 (kF.ext hz_13 hk_14) aD.no hl_8
  have hl_18 := BI.kf hC.D (kF.ext hz_13 hk_14) hnq
  refine V.eq (st' := [vi ((P.1 : Int) - 1)]) rfl ?_
  refine v_bipush E ⟨by decide, by decide⟩ dX1_store_11 ?_
  refine v_icmp_gt E (tgt := 20) dX1_store_13 (by decide) ⟨by omega, by omega⟩ ⟨by omega, by omega⟩ (fun c_13 => ?_) (fun c_13 => ?_)
  · refine v_iconst E dX1_store_20 ?_
    refine v_istore E dX1_store_21 (zlt hL rfl) (lv' := [(4, vi 0), (3, .ref nq), (0, .ref x), (1, vi (i : Int)), (2, .ref p)]) rfl ?_
    refine v_aload_n E 4 rfl dX1_store_23 ?_
    refine V.frame (fun hfz_fr_19 hfk_fr_19 => ?_)
    rw [hH0] at hfz_fr_19 hfk_fr_19
    rw [hA0] at hfk_fr_19
    have hC_fr_19 := hC.call hA93 hfz_fr_19 hfk_fr_19
    have hF_fr_19 : kF κ H0 H_11 (fun q => q = bs) := ⟨hkA, hfz_fr_19, hfk_fr_19⟩
    have hb_20 := hF_fr_19.at hop hpb
    refine v_getfN (host := "SturmRoots") E in_X3 hb_20 (ci := 2) rfl 0 (by decide) (by decide +kernel) rfl (v := .ref l) rfl dX1_store_24 ?_
    have hb_26 := hF_fr_19.at hAP.1 hlb
    refine v_callV E (As := []) (b := l) (ci := 5) (C := RJ2) (T := TJ2) (N := 3) hb_26 rfl (j_iter κ H_11 hC_fr_19 (hAP.kf hC hF_fr_19 hlb (fun hc e => hDbs (e ▸ hDp hc)))) (lw_V q291 q292 q293 q73 q294) 0 (by decide +kernel) rfl (by decide) (by decide) (cb' := 15) (sb' := 98) (by decide) (by decide) rfl (rest := []) (Nat.le_of_ble_eq_true rfl) (fun q h => h.elim) dX1_store_27 (fun v_21 H_22 hpost_23 hz_24 hk_25 => ?_)
    obtain ⟨it, rfl, hitH, hitI⟩ := hpost_23
    have hl_27 := CS.kf0 hC_fr_19 (kF.ext hz_24 hk_25) hl_16
    have hl_28 := Po.kf hC_fr_19 (kF.ext hz_24 hk_25) aD.no hl_17
    have hl_29 := BI.kf hC.D (kF.ext hz_24 hk_25) hl_18
    have hitH : H0.size ≤ it := Nat.le_trans hfz_fr_19 hitH
    refine V.eq (st' := [.ref it]) rfl ?_
    refine v_astore E dX1_store_30 (zlt hL rfl) (lv' := [(5, .ref it), (4, vi 0), (3, .ref nq), (0, .ref x), (1, vi (i : Int)), (2, .ref p)]) rfl ?_
    have loop_32 : ∀ (m_32 : Nat) (H : Heap) (k cb sb : Nat) (r : Int), P.1 - k < m_32 → (k ≤ P.1) → (P.1 - k + 1 ≤ cb) → (6 * (P.1 - k) + 6 ≤ sb) → IT κ H it l (k : Int) r mdP → BI κ H nq 9999 → CS κ D H x ls bs li bi a iso T n cap iv → Po κ D H p P → V z H cb sb 32 [(5, .ref it), (4, vi (okF P k)), (3, .ref nq), (2, .ref p), (1, vi (i : Int)), (0, .ref x)] [] := by
      intro m_32
      induction m_32 with
      | zero => intro H k cb sb r hm; exact absurd hm (by omega)
      | succ m_32 ih_32 =>
        intro H k cb sb r hm_32 hk hcb hsb hI hnq2 hS2 hP2
        have h01 := okF_01 P k
        refine v_aload E 0 rfl dX1_store_32 ?_
        refine V.frame (fun hfz_fr_30 hfk_fr_30 => ?_)
        rw [hH0] at hfz_fr_30 hfk_fr_30
        rw [hA0] at hfk_fr_30
        have hC_fr_30 := hC.call hA93 hfz_fr_30 hfk_fr_30
        have hF_fr_30 : kF κ H0 H (fun q => q = bs) := ⟨hkA, hfz_fr_30, hfk_fr_30⟩
        refine v_callF E (As := []) (b := it) (ci := 7) (C := RJ17) (T := TJ17) (N := 4) hI.1 rfl (j_hasNext κ H hC_fr_30 (by omega) (hAP.kf hC hF_fr_30 hlb (fun hc e => hDbs (e ▸ hDp hc))) hI) (by decide +kernel) (lw_F q321 q325 q327 q92 q329) 0 (by decide +kernel) rfl (by decide) (by decide) (cb' := (cb - 0)) (sb' := (sb - 0)) (by omega) (by omega) rfl (rest := []) (Nat.le_of_ble_eq_true rfl) (fun q h => h.elim) dX1_store_34 (fun v_31 H_32 hpost_33 hz_34 hk_35 => ?_)
        obtain rfl := hpost_33
        have hl_36 := IT.kf (kF.ext hz_34 hk_35) hI (fun h => h)
        have hl_37 := BI.kf hC.D (kF.ext hz_34 hk_35) hnq2
        have hl_38 := CS.kf0 hC_fr_30 (kF.ext hz_34 hk_35) hS2
        have hl_39 := Po.kf hC_fr_30 (kF.ext hz_34 hk_35) aD.no hP2
        by_cases hkn : k = P.1
        ·
          refine V.eq (st' := [vi 0]) (by rw [if_pos (show ((k : Nat) : Int) = ((P.1 : Nat) : Int) by omega)]; rfl) ?_
          refine v_if_eq E (tgt := 81) dX1_store_39 (by decide) ⟨by omega, by omega⟩ (fun c_39 => ?_) (fun c_39 => absurd c_39 (by omega))
          refine v_iload E 1 rfl dX1_store_81 ?_
          refine v_if_ne E (tgt := 94) dX1_store_83 (by decide) ⟨by omega, by omega⟩ (fun c_83 => ?_) (fun c_83 => ?_)
          · refine v_aload_n E 5 rfl dX1_store_94 ?_
            refine v_getf E in_X1 hl_38.2.1 (ci := 0) rfl 0 (by decide) q272 rfl (v := .ref ls) rfl dX1_store_95 ?_
            refine v_iload_n E 4 rfl dX1_store_98 ?_
            have hkP : k = P.1 := hkn
            have hok : okP P := (okF_P hnf).mp (by rw [← hkP]; omega)
            refine V.frame (fun hfz_fr_40 hfk_fr_40 => ?_)
            rw [hH0] at hfz_fr_40 hfk_fr_40
            rw [hA0] at hfk_fr_40
            have hC_fr_40 := hC.call hA93 hfz_fr_40 hfk_fr_40
            have hF_fr_40 : kF κ H0 H_32 (fun q => q = bs) := ⟨hkA, hfz_fr_40, hfk_fr_40⟩
            refine V.frame (fun hfz_fr_41 hfk_fr_41 => ?_)
            rw [hH0] at hfz_fr_41 hfk_fr_41
            rw [hA0] at hfk_fr_41
            refine v_new E in_X2 tyX2 tyX2_ok q143 q144 q74 (ci := 1) rfl (fs := [.null, .null, .null, .null]) (fun j hj => by rcases (show j = 0 ∨ j = 1 ∨ j = 2 ∨ j = 3 by omega) with rfl | rfl | rfl | rfl <;> rfl) (cb' := ((cb - 0) - 1)) (sb' := ((sb - 0) - 4)) (by omega) (by omega) dX1_store_99 (fun kq H_42 hq_45 ho_43 hg_44 => ?_)
            refine v_dup E rfl dX1_store_102 ?_
            refine v_aload_n E 3 rfl dX1_store_103 ?_
            have hkq0 : H0.size ≤ kq := by omega
            refine V.frame (fun hfz_fr_46 hfk_fr_46 => ?_)
            rw [hH0] at hfz_fr_46 hfk_fr_46
            rw [hA0] at hfk_fr_46
            have hC_fr_46 := hC.call hA93 hfz_fr_46 hfk_fr_46
            have hF_fr_46 : kF κ H0 H_42 (fun q => q = bs) := ⟨hkA, hfz_fr_46, hfk_fr_46⟩
            refine v_callI E (As := [.ref p]) (b := kq) (k_init κ H_42 ho_43) q192 q74 q190 q191 rfl 1 (by decide +kernel) rfl (by decide) (by decide) (cb' := (((cb - 0) - 1) - 0)) (sb' := (((sb - 0) - 4) - 0)) (by omega) (by omega) rfl (rest := [.ref kq, vi (i : Int), .ref ls]) (Nat.le_of_ble_eq_true rfl) (fun q9 h => hNew q9 (by rw [show q9 = kq from h]; omega)) dX1_store_104 (fun v_47 H_48 hpost_49 hz_50 hk_51 => ?_)
            obtain ⟨rfl, hkq⟩ := hpost_49
            have hkN_52 : ∀ q9 : Nat, q9 < Array.size H_32 → ¬ (fun _ => False : Nat → Prop) q9 → H_48[q9]? = H_32[q9]? := fun q9 h9 _ => (hk_51 q9 (by rw [hg_44.1]; omega) (fun h => by have h8 : q9 = kq := h; omega)).trans (hg_44.2 q9 h9)
            have hl_53 := IT.kf (kF.ext (by have := hg_44.1; omega) hkN_52) hl_36 (fun h => h)
            have hl_54 := BI.kf hC.D (kF.ext (by have := hg_44.1; omega) hkN_52) hl_37
            have hl_55 := CS.kf0 hC_fr_40 (kF.ext (by have := hg_44.1; omega) hkN_52) hl_38
            have hl_56 := Po.kf hC_fr_40 (kF.ext (by have := hg_44.1; omega) hkN_52) aD.no hl_39
            refine V.eq (st' := [.ref kq, vi (i : Int), .ref ls]) rfl ?_
            refine V.frame (fun hfz_fr_57 hfk_fr_57 => ?_)
            rw [hH0] at hfz_fr_57 hfk_fr_57
            rw [hA0] at hfk_fr_57
            have hC_fr_57 := hC.call hA93 hfz_fr_57 hfk_fr_57
            have hF_fr_57 : kF κ H0 H_48 (fun q => q = bs) := ⟨hkA, hfz_fr_57, hfk_fr_57⟩
            have hKn : Kn κ D H_48 kq P false := Kn.new (Nat.le_trans hC.le (by omega)) hkq hl_56
            obtain ⟨md_58, g_59, hA_60, hg_61⟩ := hl_55.2.2.1
            obtain ⟨md_67, g_68, hA_69, hg_70⟩ := hl_55.2.2.1
            refine v_callV E (As := [vi (i : Int), .ref kq]) (b := ls) (ci := 5) (C := RJ2) (T := TJ2) (N := 3) hA_69.1 rfl (j_set κ H_48 hC_fr_57 (i := i) (y := a i) hKn.oA hi (hg_61 _ hi) hA_60) (lw_V q667 q668 q669 q73 q670) 2 (by decide +kernel) rfl (by decide) (by decide) (cb' := ((((cb - 0) - 1) - 0) - 0)) (sb' := ((((sb - 0) - 4) - 0) - 0)) (by omega) (by omega) rfl (rest := []) (Nat.le_of_ble_eq_true rfl) (fun q h => hAll q h) dX1_store_107 (fun v_62 H_63 hpost_64 hz_65 hk_66 => ?_)
            obtain ⟨rfl, hAS⟩ := hpost_64
            have hFS : kF κ H_48 H_63 (fun q => q = bs) := kF.lst hA_60 (fun q h => Or.inr ⟨h, by decide⟩) hz_65 hk_66
            have hkn0 : H0.size ≤ kq := hkq0
            have hS9 : CS κ D H_63 x ls bs li bi (va_up a i kq) iso (va_up T kq P) n cap iv := CS.put hC_fr_57 hFS hDbs (by rw [va_up_self]; exact hKn) (fun j hj => va_up_T (by have := hS.al hj; omega)) (fun j hj => va_up_T (by have h9 := (hS.2.2.2.2.2 j hj).lt; omega)) hAS hg_61 hl_55
            have hP9 : Po κ D H_63 p P := Po.kf hC_fr_57 hFS (aD.nn (fun q h hd => hDbs (h ▸ hd))) hl_56
            refine V.eq (st' := [.ref (a i)]) rfl ?_
            refine v_pop E rfl dX1_store_110 ?_
            refine v_aload_n E 3 rfl dX1_store_111 ?_
            refine V.frame (fun hfz_fr_71 hfk_fr_71 => ?_)
            rw [hH0] at hfz_fr_71 hfk_fr_71
            rw [hA0] at hfk_fr_71
            have hC_fr_71 := hC.call hA93 hfz_fr_71 hfk_fr_71
            have hF_fr_71 : kF κ H0 H_63 (fun q => q = bs) := ⟨hkA, hfz_fr_71, hfk_fr_71⟩
            have hb_77 := hF_fr_71.at hop hpb
            refine v_callV E (As := []) (b := p) (ci := 2) (C := RX3) (T := TX3) (N := 1) hb_77 rfl (p_deg κ H_63 hC_fr_71 hP9) (lw_V q617 q618 q619 q75 q620) 0 (by decide +kernel) rfl (by decide) (by decide) (cb' := (((((cb - 0) - 1) - 0) - 0) - 0)) (sb' := (((((sb - 0) - 4) - 0) - 0) - 0)) (by omega) (by omega) rfl (rest := []) (Nat.le_of_ble_eq_true rfl) (fun q h => h.elim) dX1_store_112 (fun v_72 H_73 hpost_74 hz_75 hk_76 => ?_)
            obtain rfl := hpost_74
            have hl_78 := CS.kf0 hC_fr_71 (kF.ext hz_75 hk_76) hS9
            have hl_79 := Po.kf hC_fr_71 (kF.ext hz_75 hk_76) aD.no hP9
            refine V.eq (st' := [vi ((P.1 : Int) - 1)]) rfl ?_
            refine V.rt E hE (fun z9 E hE => ?_)
            refine v_iret E hE dX1_store_115 ?_
            exact ⟨hok, rfl, kq, hkq0, hl_78⟩
          · refine V.frame (fun hfz_fr_80 hfk_fr_80 => ?_)
            rw [hH0] at hfz_fr_80 hfk_fr_80
            rw [hA0] at hfk_fr_80
            have hC_fr_80 := hC.call hA93 hfz_fr_80 hfk_fr_80
            have hF_fr_80 : kF κ H0 H_32 (fun q => q = bs) := ⟨hkA, hfz_fr_80, hfk_fr_80⟩
            refine V.frame (fun hfz_fr_81 hfk_fr_81 => ?_)
            rw [hH0] at hfz_fr_81 hfk_fr_81
            rw [hA0] at hfk_fr_81
            refine v_throw0 E X9 hE (cls := "java/lang/IllegalStateException") (names := ["java/lang/RuntimeException", "java/lang/Exception"]) (ik := 157) (ic := 159) (by decide +kernel) (by decide +kernel) q665 q95 (ex_2 E.kn E.2.2.2.2.1 q666) ex_2_ok dX1_store_86 dX1_store_89 dX1_store_90 dX1_store_93 (by decide) (Nat.le_of_ble_eq_true rfl) (by omega) (by omega) (fun H9 hz9 hk9 => ?_)
            exact ⟨rfl, fun h => by have h9 := (okF_P hnf).mpr h; rw [← hkn] at h9; omega, CS.kf0 hC_fr_80 (kF.ext hz9 (fun q hq _ => hk9 q hq)) hl_38⟩
        ·
          refine V.eq (st' := [vi 1]) (by rw [if_neg (show ¬ ((k : Nat) : Int) = ((P.1 : Nat) : Int) by omega)]; rfl) ?_
          refine v_if_eq E (tgt := 81) dX1_store_39 (by decide) ⟨by omega, by omega⟩ (fun c_39 => absurd c_39 (by omega)) (fun c_39 => ?_)
          refine v_aload E 0 rfl dX1_store_42 ?_
          obtain ⟨y_82, hy_83, hEy_84⟩ := hel k (by omega)
          refine V.frame (fun hfz_fr_85 hfk_fr_85 => ?_)
          rw [hH0] at hfz_fr_85 hfk_fr_85
          rw [hA0] at hfk_fr_85
          have hC_fr_85 := hC.call hA93 hfz_fr_85 hfk_fr_85
          have hF_fr_85 : kF κ H0 H_32 (fun q => q = bs) := ⟨hkA, hfz_fr_85, hfk_fr_85⟩
          refine v_callF E (As := []) (b := it) (ci := 7) (C := RJ17) (T := TJ17) (N := 4) hl_36.1 rfl (j_next7 κ H_32 hC_fr_85 (i := k) (y := y_82) (by omega) hy_83 (hAP.kf hC hF_fr_85 hlb (fun hc e => hDbs (e ▸ hDp hc))) hl_36) (by decide +kernel) (lw_F q334 q337 q339 q92 q341) 0 (by decide +kernel) rfl (by decide) (by decide) (cb' := ((cb - 0) - 0)) (sb' := ((sb - 0) - 0)) (by omega) (by omega) rfl (rest := []) (Nat.le_of_ble_eq_true rfl) (fun q9 h => hNew q9 (by rw [show q9 = it from h]; exact hitH)) dX1_store_44 (fun v_86 H_87 hpost_88 hz_89 hk_90 => ?_)
          obtain ⟨rfl, hI_91⟩ := hpost_88
          have hl_92 := BI.kf hC.D (kF.itr hl_36 (fun q h => h) hz_89 hk_90) hl_37
          have hl_93 := CS.kf hC_fr_85 (kF.itr hl_36 (fun q h => h) hz_89 hk_90) (aD.it hl_36 (fun q h => h)) (fun q h => by have h1 : q = it := h; have h2 := hitH; have h3 := hsl0; exact ⟨by omega, by omega, by omega, by omega, fun _ => by omega⟩) hl_38
          have hl_94 := Po.kf hC_fr_85 (kF.itr hl_36 (fun q h => h) hz_89 hk_90) (aD.it hl_36 (fun q h => h)) hl_39
          have hl_95 := BI.kf hC.D (kF.itr hl_36 (fun q h => h) hz_89 hk_90) (BI.kf hC.D hF_fr_85 hEy_84)
          refine V.eq (st' := [.ref y_82]) rfl ?_
          obtain ⟨mz_97, nz_97, cfz_97, ⟨c1z_97, c2z_97, c3z_97, ho_96⟩, -⟩ := id hl_95
          refine v_castS E ho_96 (q := (RJ16, TJ16, 6)) rfl q621 dX1_store_49 ?_
          refine v_astore E dX1_store_52 (zlt hL rfl) (lv' := [(6, .ref y_82), (5, .ref it), (4, vi (okF P k)), (3, .ref nq), (2, .ref p), (1, vi (i : Int)), (0, .ref x)]) rfl ?_
          refine v_iload E 2 rfl dX1_store_54 ?_
          refine v_if_eq E (tgt := 75) dX1_store_56 (by decide) ⟨by omega, by omega⟩ (fun c_56 => ?_) (fun c_56 => ?_)
          · refine v_iconst E dX1_store_75 ?_
            refine v_istore E dX1_store_76 (zlt hL rfl) (lv' := [(4, vi 0), (6, .ref y_82), (5, .ref it), (3, .ref nq), (2, .ref p), (1, vi (i : Int)), (0, .ref x)]) rfl ?_
            refine v_goto E (tgt := 32) dX1_store_78 (by decide) ?_
            refine V.sub [2, 0, 3, 4, 5, 6] (lv' := [(5, .ref it), (4, vi 0), (3, .ref nq), (2, .ref p), (1, vi (i : Int)), (0, .ref x)]) rfl ?_
            exact V.eqL (by rw [show okF P (k + 1) = 0 from if_neg (fun h => by have h1 := h.1; have h2 := h.2; omega)]) (ih_32  H_87 (k + 1) ((cb - 0) - 0) ((sb - 0) - 0) _ (by omega) (by omega) (by omega) (by omega) hI_91 hl_92 hl_93 hl_94)
          · refine v_aload E 0 rfl dX1_store_59 ?_
            refine V.frame (fun hfz_fr_100 hfk_fr_100 => ?_)
            rw [hH0] at hfz_fr_100 hfk_fr_100
            rw [hA0] at hfk_fr_100
            have hC_fr_100 := hC.call hA93 hfz_fr_100 hfk_fr_100
            have hF_fr_100 : kF κ H0 H_87 (fun q => q = bs) := ⟨hkA, hfz_fr_100, hfk_fr_100⟩
            obtain ⟨mz_107, nz_107, cfz_107, ⟨c1z_107, c2z_107, c3z_107, ho_106⟩, -⟩ := id hl_95
            refine v_callV E (As := []) (b := y_82) (ci := 6) (C := RJ16) (T := TJ16) (N := 6) ho_106 rfl (g_abs κ H_87 hC_fr_100 hl_95) (lw_V q622 q623 q624 q91 q625) 0 (by decide +kernel) rfl (by decide) (by decide) (cb' := (((cb - 0) - 0) - 1)) (sb' := (((sb - 0) - 0) - 6)) (by omega) (by omega) rfl (rest := []) (Nat.le_of_ble_eq_true rfl) (fun q h => h.elim) dX1_store_61 (fun v_101 H_102 hpost_103 hz_104 hk_105 => ?_)
            obtain ⟨qz_98, rfl, hBz_99⟩ := hpost_103
            have hl_108 := BI.kf hC.D (kF.ext hz_104 hk_105) hl_92
            have hl_109 := CS.kf0 hC_fr_100 (kF.ext hz_104 hk_105) hl_93
            have hl_110 := Po.kf hC_fr_100 (kF.ext hz_104 hk_105) aD.no hl_94
            have hl_111 := BI.kf hC.D (kF.ext hz_104 hk_105) hl_95
            have hl_112 := IT.kf (kF.ext hz_104 hk_105) hI_91 (fun h => h)
            refine V.eq (st' := [.ref qz_98]) rfl ?_
            refine v_aload_n E 3 rfl dX1_store_64 ?_
            refine V.frame (fun hfz_fr_115 hfk_fr_115 => ?_)
            rw [hH0] at hfz_fr_115 hfk_fr_115
            rw [hA0] at hfk_fr_115
            have hC_fr_115 := hC.call hA93 hfz_fr_115 hfk_fr_115
            have hF_fr_115 : kF κ H0 H_102 (fun q => q = bs) := ⟨hkA, hfz_fr_115, hfk_fr_115⟩
            obtain ⟨mz_122, nz_122, cfz_122, ⟨c1z_122, c2z_122, c3z_122, ho_121⟩, -⟩ := id hBz_99
            refine v_callV E (As := [.ref nq]) (b := qz_98) (ci := 6) (C := RJ16) (T := TJ16) (N := 6) ho_121 rfl (g_cmp κ H_102 hBz_99 hl_108) (lw_V q657 q658 q659 q91 q660) 1 (by decide +kernel) rfl (by decide) (by decide) (cb' := ((((cb - 0) - 0) - 1) - 0)) (sb' := ((((sb - 0) - 0) - 6) - 0)) (by omega) (by omega) rfl (rest := []) (Nat.le_of_ble_eq_true rfl) (fun q h => h.elim) dX1_store_65 (fun v_116 H_117 hpost_118 hz_119 hk_120 => ?_)
            obtain ⟨o_113, rfl, ho_114⟩ := hpost_118
            have hl_123 := BI.kf hC.D (kF.ext hz_119 hk_120) hl_108
            have hl_124 := CS.kf0 hC_fr_115 (kF.ext hz_119 hk_120) hl_109
            have hl_125 := Po.kf hC_fr_115 (kF.ext hz_119 hk_120) aD.no hl_110
            have hl_126 := BI.kf hC.D (kF.ext hz_119 hk_120) hl_111
            have hl_127 := IT.kf (kF.ext hz_119 hk_120) hl_112 (fun h => h)
            have hl_128 := BI.kf hC.D (kF.ext hz_119 hk_120) hBz_99
            refine V.eq (st' := [vi o_113]) rfl ?_
            refine v_if_gt E (tgt := 75) dX1_store_68 (by decide) ⟨by omega, by omega⟩ (fun c_68 => ?_) (fun c_68 => ?_)
            · refine v_iconst E dX1_store_75 ?_
              refine v_istore E dX1_store_76 (zlt hL rfl) (lv' := [(4, vi 0), (6, .ref y_82), (5, .ref it), (3, .ref nq), (2, .ref p), (1, vi (i : Int)), (0, .ref x)]) rfl ?_
              refine v_goto E (tgt := 32) dX1_store_78 (by decide) ?_
              refine V.sub [2, 0, 3, 4, 5, 6] (lv' := [(5, .ref it), (4, vi 0), (3, .ref nq), (2, .ref p), (1, vi (i : Int)), (0, .ref x)]) rfl ?_
              exact V.eqL (by rw [show okF P (k + 1) = 0 from if_neg (fun h => by have h1 := h.1; have h2 := h.2; omega)]) (ih_32  H_117 (k + 1) ((((cb - 0) - 0) - 1) - 0) ((((sb - 0) - 0) - 6) - 0) _ (by omega) (by omega) (by omega) (by omega) hl_127 hl_123 hl_124 hl_125)
            · refine v_iconst E dX1_store_71 ?_
              refine v_goto E (tgt := 76) dX1_store_72 (by decide) ?_
              refine v_istore E dX1_store_76 (zlt hL rfl) (lv' := [(4, vi 1), (6, .ref y_82), (5, .ref it), (3, .ref nq), (2, .ref p), (1, vi (i : Int)), (0, .ref x)]) rfl ?_
              refine v_goto E (tgt := 32) dX1_store_78 (by decide) ?_
              refine V.sub [2, 0, 3, 4, 5, 6] (lv' := [(5, .ref it), (4, vi 1), (3, .ref nq), (2, .ref p), (1, vi (i : Int)), (0, .ref x)]) rfl ?_
              exact V.eqL (by rw [show okF P (k + 1) = 1 from if_pos ⟨by omega, by omega⟩]) (ih_32  H_117 (k + 1) ((((cb - 0) - 0) - 1) - 0) ((((sb - 0) - 0) - 6) - 0) _ (by omega) (by omega) (by omega) (by omega) hl_127 hl_123 hl_124 hl_125)
    refine V.sub [0, 1, 2, 5, 4, 3] (lv' := [(5, .ref it), (4, vi 0), (3, .ref nq), (2, .ref p), (1, vi (i : Int)), (0, .ref x)]) rfl ?_
    exact V.eqL (by rw [show okF P 0 = 0 from if_neg (by omega)]) (loop_32 (P.1 + 1) H_22 0 15 98 (-1) (by omega) (Nat.zero_le _) (by omega) (by omega) hitI hl_29 hl_27 hl_28)
  · refine v_iconst E dX1_store_16 ?_
    refine v_goto E (tgt := 21) dX1_store_17 (by decide) ?_
    refine v_istore E dX1_store_21 (zlt hL rfl) (lv' := [(4, vi 1), (3, .ref nq), (0, .ref x), (1, vi (i : Int)), (2, .ref p)]) rfl ?_
    refine v_aload_n E 4 rfl dX1_store_23 ?_
    refine V.frame (fun hfz_fr_129 hfk_fr_129 => ?_)
    rw [hH0] at hfz_fr_129 hfk_fr_129
    rw [hA0] at hfk_fr_129
    have hC_fr_129 := hC.call hA93 hfz_fr_129 hfk_fr_129
    have hF_fr_129 : kF κ H0 H_11 (fun q => q = bs) := ⟨hkA, hfz_fr_129, hfk_fr_129⟩
    have hb_130 := hF_fr_129.at hop hpb
    refine v_getfN (host := "SturmRoots") E in_X3 hb_130 (ci := 2) rfl 0 (by decide) (by decide +kernel) rfl (v := .ref l) rfl dX1_store_24 ?_
    have hb_136 := hF_fr_129.at hAP.1 hlb
    refine v_callV E (As := []) (b := l) (ci := 5) (C := RJ2) (T := TJ2) (N := 3) hb_136 rfl (j_iter κ H_11 hC_fr_129 (hAP.kf hC hF_fr_129 hlb (fun hc e => hDbs (e ▸ hDp hc)))) (lw_V q291 q292 q293 q73 q294) 0 (by decide +kernel) rfl (by decide) (by decide) (cb' := 15) (sb' := 98) (by decide) (by decide) rfl (rest := []) (Nat.le_of_ble_eq_true rfl) (fun q h => h.elim) dX1_store_27 (fun v_131 H_132 hpost_133 hz_134 hk_135 => ?_)
    obtain ⟨it, rfl, hitH, hitI⟩ := hpost_133
    have hl_137 := CS.kf0 hC_fr_129 (kF.ext hz_134 hk_135) hl_16
    have hl_138 := Po.kf hC_fr_129 (kF.ext hz_134 hk_135) aD.no hl_17
    have hl_139 := BI.kf hC.D (kF.ext hz_134 hk_135) hl_18
    have hitH : H0.size ≤ it := Nat.le_trans hfz_fr_129 hitH
    refine V.eq (st' := [.ref it]) rfl ?_
    refine v_astore E dX1_store_30 (zlt hL rfl) (lv' := [(5, .ref it), (4, vi 1), (3, .ref nq), (0, .ref x), (1, vi (i : Int)), (2, .ref p)]) rfl ?_
    have loop_32 : ∀ (m_32 : Nat) (H : Heap) (k cb sb : Nat) (r : Int), P.1 - k < m_32 → (k ≤ P.1) → (P.1 - k + 1 ≤ cb) → (6 * (P.1 - k) + 6 ≤ sb) → IT κ H it l (k : Int) r mdP → BI κ H nq 9999 → CS κ D H x ls bs li bi a iso T n cap iv → Po κ D H p P → V z H cb sb 32 [(5, .ref it), (4, vi (okF P k)), (3, .ref nq), (2, .ref p), (1, vi (i : Int)), (0, .ref x)] [] := by
      intro m_32
      induction m_32 with
      | zero => intro H k cb sb r hm; exact absurd hm (by omega)
      | succ m_32 ih_32 =>
        intro H k cb sb r hm_32 hk hcb hsb hI hnq2 hS2 hP2
        have h01 := okF_01 P k
        refine v_aload E 0 rfl dX1_store_32 ?_
        refine V.frame (fun hfz_fr_140 hfk_fr_140 => ?_)
        rw [hH0] at hfz_fr_140 hfk_fr_140
        rw [hA0] at hfk_fr_140
        have hC_fr_140 := hC.call hA93 hfz_fr_140 hfk_fr_140
        have hF_fr_140 : kF κ H0 H (fun q => q = bs) := ⟨hkA, hfz_fr_140, hfk_fr_140⟩
        refine v_callF E (As := []) (b := it) (ci := 7) (C := RJ17) (T := TJ17) (N := 4) hI.1 rfl (j_hasNext κ H hC_fr_140 (by omega) (hAP.kf hC hF_fr_140 hlb (fun hc e => hDbs (e ▸ hDp hc))) hI) (by decide +kernel) (lw_F q321 q325 q327 q92 q329) 0 (by decide +kernel) rfl (by decide) (by decide) (cb' := (cb - 0)) (sb' := (sb - 0)) (by omega) (by omega) rfl (rest := []) (Nat.le_of_ble_eq_true rfl) (fun q h => h.elim) dX1_store_34 (fun v_141 H_142 hpost_143 hz_144 hk_145 => ?_)
        obtain rfl := hpost_143
        have hl_146 := IT.kf (kF.ext hz_144 hk_145) hI (fun h => h)
        have hl_147 := BI.kf hC.D (kF.ext hz_144 hk_145) hnq2
        have hl_148 := CS.kf0 hC_fr_140 (kF.ext hz_144 hk_145) hS2
        have hl_149 := Po.kf hC_fr_140 (kF.ext hz_144 hk_145) aD.no hP2
        by_cases hkn : k = P.1
        ·
          refine V.eq (st' := [vi 0]) (by rw [if_pos (show ((k : Nat) : Int) = ((P.1 : Nat) : Int) by omega)]; rfl) ?_
          refine v_if_eq E (tgt := 81) dX1_store_39 (by decide) ⟨by omega, by omega⟩ (fun c_39 => ?_) (fun c_39 => absurd c_39 (by omega))
          refine v_iload E 1 rfl dX1_store_81 ?_
          refine v_if_ne E (tgt := 94) dX1_store_83 (by decide) ⟨by omega, by omega⟩ (fun c_83 => ?_) (fun c_83 => ?_)
          · refine v_aload_n E 5 rfl dX1_store_94 ?_
            refine v_getf E in_X1 hl_148.2.1 (ci := 0) rfl 0 (by decide) q272 rfl (v := .ref ls) rfl dX1_store_95 ?_
            refine v_iload_n E 4 rfl dX1_store_98 ?_
            have hkP : k = P.1 := hkn
            have hok : okP P := (okF_P hnf).mp (by rw [← hkP]; omega)
            refine V.frame (fun hfz_fr_150 hfk_fr_150 => ?_)
            rw [hH0] at hfz_fr_150 hfk_fr_150
            rw [hA0] at hfk_fr_150
            have hC_fr_150 := hC.call hA93 hfz_fr_150 hfk_fr_150
            have hF_fr_150 : kF κ H0 H_142 (fun q => q = bs) := ⟨hkA, hfz_fr_150, hfk_fr_150⟩
            refine V.frame (fun hfz_fr_151 hfk_fr_151 => ?_)
            rw [hH0] at hfz_fr_151 hfk_fr_151
            rw [hA0] at hfk_fr_151
            refine v_new E in_X2 tyX2 tyX2_ok q143 q144 q74 (ci := 1) rfl (fs := [.null, .null, .null, .null]) (fun j hj => by rcases (show j = 0 ∨ j = 1 ∨ j = 2 ∨ j = 3 by omega) with rfl | rfl | rfl | rfl <;> rfl) (cb' := ((cb - 0) - 1)) (sb' := ((sb - 0) - 4)) (by omega) (by omega) dX1_store_99 (fun kq H_152 hq_155 ho_153 hg_154 => ?_)
            refine v_dup E rfl dX1_store_102 ?_
            refine v_aload_n E 3 rfl dX1_store_103 ?_
            have hkq0 : H0.size ≤ kq := by omega
            refine V.frame (fun hfz_fr_156 hfk_fr_156 => ?_)
            rw [hH0] at hfz_fr_156 hfk_fr_156
            rw [hA0] at hfk_fr_156
            have hC_fr_156 := hC.call hA93 hfz_fr_156 hfk_fr_156
            have hF_fr_156 : kF κ H0 H_152 (fun q => q = bs) := ⟨hkA, hfz_fr_156, hfk_fr_156⟩
            refine v_callI E (As := [.ref p]) (b := kq) (k_init κ H_152 ho_153) q192 q74 q190 q191 rfl 1 (by decide +kernel) rfl (by decide) (by decide) (cb' := (((cb - 0) - 1) - 0)) (sb' := (((sb - 0) - 4) - 0)) (by omega) (by omega) rfl (rest := [.ref kq, vi (i : Int), .ref ls]) (Nat.le_of_ble_eq_true rfl) (fun q9 h => hNew q9 (by rw [show q9 = kq from h]; omega)) dX1_store_104 (fun v_157 H_158 hpost_159 hz_160 hk_161 => ?_)
            obtain ⟨rfl, hkq⟩ := hpost_159
            have hkN_162 : ∀ q9 : Nat, q9 < Array.size H_142 → ¬ (fun _ => False : Nat → Prop) q9 → H_158[q9]? = H_142[q9]? := fun q9 h9 _ => (hk_161 q9 (by rw [hg_154.1]; omega) (fun h => by have h8 : q9 = kq := h; omega)).trans (hg_154.2 q9 h9)
            have hl_163 := IT.kf (kF.ext (by have := hg_154.1; omega) hkN_162) hl_146 (fun h => h)
            have hl_164 := BI.kf hC.D (kF.ext (by have := hg_154.1; omega) hkN_162) hl_147
            have hl_165 := CS.kf0 hC_fr_150 (kF.ext (by have := hg_154.1; omega) hkN_162) hl_148
            have hl_166 := Po.kf hC_fr_150 (kF.ext (by have := hg_154.1; omega) hkN_162) aD.no hl_149
            refine V.eq (st' := [.ref kq, vi (i : Int), .ref ls]) rfl ?_
            refine V.frame (fun hfz_fr_167 hfk_fr_167 => ?_)
            rw [hH0] at hfz_fr_167 hfk_fr_167
            rw [hA0] at hfk_fr_167
            have hC_fr_167 := hC.call hA93 hfz_fr_167 hfk_fr_167
            have hF_fr_167 : kF κ H0 H_158 (fun q => q = bs) := ⟨hkA, hfz_fr_167, hfk_fr_167⟩
            have hKn : Kn κ D H_158 kq P false := Kn.new (Nat.le_trans hC.le (by omega)) hkq hl_166
            obtain ⟨md_168, g_169, hA_170, hg_171⟩ := hl_165.2.2.1
            obtain ⟨md_177, g_178, hA_179, hg_180⟩ := hl_165.2.2.1
            refine v_callV E (As := [vi (i : Int), .ref kq]) (b := ls) (ci := 5) (C := RJ2) (T := TJ2) (N := 3) hA_179.1 rfl (j_set κ H_158 hC_fr_167 (i := i) (y := a i) hKn.oA hi (hg_171 _ hi) hA_170) (lw_V q667 q668 q669 q73 q670) 2 (by decide +kernel) rfl (by decide) (by decide) (cb' := ((((cb - 0) - 1) - 0) - 0)) (sb' := ((((sb - 0) - 4) - 0) - 0)) (by omega) (by omega) rfl (rest := []) (Nat.le_of_ble_eq_true rfl) (fun q h => hAll q h) dX1_store_107 (fun v_172 H_173 hpost_174 hz_175 hk_176 => ?_)
            obtain ⟨rfl, hAS⟩ := hpost_174
            have hFS : kF κ H_158 H_173 (fun q => q = bs) := kF.lst hA_170 (fun q h => Or.inr ⟨h, by decide⟩) hz_175 hk_176
            have hkn0 : H0.size ≤ kq := hkq0
            have hS9 : CS κ D H_173 x ls bs li bi (va_up a i kq) iso (va_up T kq P) n cap iv := CS.put hC_fr_167 hFS hDbs (by rw [va_up_self]; exact hKn) (fun j hj => va_up_T (by have := hS.al hj; omega)) (fun j hj => va_up_T (by have h9 := (hS.2.2.2.2.2 j hj).lt; omega)) hAS hg_171 hl_165
            have hP9 : Po κ D H_173 p P := Po.kf hC_fr_167 hFS (aD.nn (fun q h hd => hDbs (h ▸ hd))) hl_166
            refine V.eq (st' := [.ref (a i)]) rfl ?_
            refine v_pop E rfl dX1_store_110 ?_
            refine v_aload_n E 3 rfl dX1_store_111 ?_
            refine V.frame (fun hfz_fr_181 hfk_fr_181 => ?_)
            rw [hH0] at hfz_fr_181 hfk_fr_181
            rw [hA0] at hfk_fr_181
            have hC_fr_181 := hC.call hA93 hfz_fr_181 hfk_fr_181
            have hF_fr_181 : kF κ H0 H_173 (fun q => q = bs) := ⟨hkA, hfz_fr_181, hfk_fr_181⟩
            have hb_187 := hF_fr_181.at hop hpb
            refine v_callV E (As := []) (b := p) (ci := 2) (C := RX3) (T := TX3) (N := 1) hb_187 rfl (p_deg κ H_173 hC_fr_181 hP9) (lw_V q617 q618 q619 q75 q620) 0 (by decide +kernel) rfl (by decide) (by decide) (cb' := (((((cb - 0) - 1) - 0) - 0) - 0)) (sb' := (((((sb - 0) - 4) - 0) - 0) - 0)) (by omega) (by omega) rfl (rest := []) (Nat.le_of_ble_eq_true rfl) (fun q h => h.elim) dX1_store_112 (fun v_182 H_183 hpost_184 hz_185 hk_186 => ?_)
            obtain rfl := hpost_184
            have hl_188 := CS.kf0 hC_fr_181 (kF.ext hz_185 hk_186) hS9
            have hl_189 := Po.kf hC_fr_181 (kF.ext hz_185 hk_186) aD.no hP9
            refine V.eq (st' := [vi ((P.1 : Int) - 1)]) rfl ?_
            refine V.rt E hE (fun z9 E hE => ?_)
            refine v_iret E hE dX1_store_115 ?_
            exact ⟨hok, rfl, kq, hkq0, hl_188⟩
          · refine V.frame (fun hfz_fr_190 hfk_fr_190 => ?_)
            rw [hH0] at hfz_fr_190 hfk_fr_190
            rw [hA0] at hfk_fr_190
            have hC_fr_190 := hC.call hA93 hfz_fr_190 hfk_fr_190
            have hF_fr_190 : kF κ H0 H_142 (fun q => q = bs) := ⟨hkA, hfz_fr_190, hfk_fr_190⟩
            refine V.frame (fun hfz_fr_191 hfk_fr_191 => ?_)
            rw [hH0] at hfz_fr_191 hfk_fr_191
            rw [hA0] at hfk_fr_191
            refine v_throw0 E X9 hE (cls := "java/lang/IllegalStateException") (names := ["java/lang/RuntimeException", "java/lang/Exception"]) (ik := 157) (ic := 159) (by decide +kernel) (by decide +kernel) q665 q95 (ex_2 E.kn E.2.2.2.2.1 q666) ex_2_ok dX1_store_86 dX1_store_89 dX1_store_90 dX1_store_93 (by decide) (Nat.le_of_ble_eq_true rfl) (by omega) (by omega) (fun H9 hz9 hk9 => ?_)
            exact ⟨rfl, fun h => by have h9 := (okF_P hnf).mpr h; rw [← hkn] at h9; omega, CS.kf0 hC_fr_190 (kF.ext hz9 (fun q hq _ => hk9 q hq)) hl_148⟩
        ·
          refine V.eq (st' := [vi 1]) (by rw [if_neg (show ¬ ((k : Nat) : Int) = ((P.1 : Nat) : Int) by omega)]; rfl) ?_
          refine v_if_eq E (tgt := 81) dX1_store_39 (by decide) ⟨by omega, by omega⟩ (fun c_39 => absurd c_39 (by omega)) (fun c_39 => ?_)
          refine v_aload E 0 rfl dX1_store_42 ?_
          obtain ⟨y_192, hy_193, hEy_194⟩ := hel k (by omega)
          refine V.frame (fun hfz_fr_195 hfk_fr_195 => ?_)
          rw [hH0] at hfz_fr_195 hfk_fr_195
          rw [hA0] at hfk_fr_195
          have hC_fr_195 := hC.call hA93 hfz_fr_195 hfk_fr_195
          have hF_fr_195 : kF κ H0 H_142 (fun q => q = bs) := ⟨hkA, hfz_fr_195, hfk_fr_195⟩
          refine v_callF E (As := []) (b := it) (ci := 7) (C := RJ17) (T := TJ17) (N := 4) hl_146.1 rfl (j_next7 κ H_142 hC_fr_195 (i := k) (y := y_192) (by omega) hy_193 (hAP.kf hC hF_fr_195 hlb (fun hc e => hDbs (e ▸ hDp hc))) hl_146) (by decide +kernel) (lw_F q334 q337 q339 q92 q341) 0 (by decide +kernel) rfl (by decide) (by decide) (cb' := ((cb - 0) - 0)) (sb' := ((sb - 0) - 0)) (by omega) (by omega) rfl (rest := []) (Nat.le_of_ble_eq_true rfl) (fun q9 h => hNew q9 (by rw [show q9 = it from h]; exact hitH)) dX1_store_44 (fun v_196 H_197 hpost_198 hz_199 hk_200 => ?_)
          obtain ⟨rfl, hI_201⟩ := hpost_198
          have hl_202 := BI.kf hC.D (kF.itr hl_146 (fun q h => h) hz_199 hk_200) hl_147
          have hl_203 := CS.kf hC_fr_195 (kF.itr hl_146 (fun q h => h) hz_199 hk_200) (aD.it hl_146 (fun q h => h)) (fun q h => by have h1 : q = it := h; have h2 := hitH; have h3 := hsl0; exact ⟨by omega, by omega, by omega, by omega, fun _ => by omega⟩) hl_148
          have hl_204 := Po.kf hC_fr_195 (kF.itr hl_146 (fun q h => h) hz_199 hk_200) (aD.it hl_146 (fun q h => h)) hl_149
          have hl_205 := BI.kf hC.D (kF.itr hl_146 (fun q h => h) hz_199 hk_200) (BI.kf hC.D hF_fr_195 hEy_194)
          refine V.eq (st' := [.ref y_192]) rfl ?_
          obtain ⟨mz_207, nz_207, cfz_207, ⟨c1z_207, c2z_207, c3z_207, ho_206⟩, -⟩ := id hl_205
          refine v_castS E ho_206 (q := (RJ16, TJ16, 6)) rfl q621 dX1_store_49 ?_
          refine v_astore E dX1_store_52 (zlt hL rfl) (lv' := [(6, .ref y_192), (5, .ref it), (4, vi (okF P k)), (3, .ref nq), (2, .ref p), (1, vi (i : Int)), (0, .ref x)]) rfl ?_
          refine v_iload E 2 rfl dX1_store_54 ?_
          refine v_if_eq E (tgt := 75) dX1_store_56 (by decide) ⟨by omega, by omega⟩ (fun c_56 => ?_) (fun c_56 => ?_)
          · refine v_iconst E dX1_store_75 ?_
            refine v_istore E dX1_store_76 (zlt hL rfl) (lv' := [(4, vi 0), (6, .ref y_192), (5, .ref it), (3, .ref nq), (2, .ref p), (1, vi (i : Int)), (0, .ref x)]) rfl ?_
            refine v_goto E (tgt := 32) dX1_store_78 (by decide) ?_
            refine V.sub [2, 0, 3, 4, 5, 6] (lv' := [(5, .ref it), (4, vi 0), (3, .ref nq), (2, .ref p), (1, vi (i : Int)), (0, .ref x)]) rfl ?_
            exact V.eqL (by rw [show okF P (k + 1) = 0 from if_neg (fun h => by have h1 := h.1; have h2 := h.2; omega)]) (ih_32  H_197 (k + 1) ((cb - 0) - 0) ((sb - 0) - 0) _ (by omega) (by omega) (by omega) (by omega) hI_201 hl_202 hl_203 hl_204)
          · refine v_aload E 0 rfl dX1_store_59 ?_
            refine V.frame (fun hfz_fr_210 hfk_fr_210 => ?_)
            rw [hH0] at hfz_fr_210 hfk_fr_210
            rw [hA0] at hfk_fr_210
            have hC_fr_210 := hC.call hA93 hfz_fr_210 hfk_fr_210
            have hF_fr_210 : kF κ H0 H_197 (fun q => q = bs) := ⟨hkA, hfz_fr_210, hfk_fr_210⟩
            obtain ⟨mz_217, nz_217, cfz_217, ⟨c1z_217, c2z_217, c3z_217, ho_216⟩, -⟩ := id hl_205
            refine v_callV E (As := []) (b := y_192) (ci := 6) (C := RJ16) (T := TJ16) (N := 6) ho_216 rfl (g_abs κ H_197 hC_fr_210 hl_205) (lw_V q622 q623 q624 q91 q625) 0 (by decide +kernel) rfl (by decide) (by decide) (cb' := (((cb - 0) - 0) - 1)) (sb' := (((sb - 0) - 0) - 6)) (by omega) (by omega) rfl (rest := []) (Nat.le_of_ble_eq_true rfl) (fun q h => h.elim) dX1_store_61 (fun v_211 H_212 hpost_213 hz_214 hk_215 => ?_)
            obtain ⟨qz_208, rfl, hBz_209⟩ := hpost_213
            have hl_218 := BI.kf hC.D (kF.ext hz_214 hk_215) hl_202
            have hl_219 := CS.kf0 hC_fr_210 (kF.ext hz_214 hk_215) hl_203
            have hl_220 := Po.kf hC_fr_210 (kF.ext hz_214 hk_215) aD.no hl_204
            have hl_221 := BI.kf hC.D (kF.ext hz_214 hk_215) hl_205
            have hl_222 := IT.kf (kF.ext hz_214 hk_215) hI_201 (fun h => h)
            refine V.eq (st' := [.ref qz_208]) rfl ?_
            refine v_aload_n E 3 rfl dX1_store_64 ?_
            refine V.frame (fun hfz_fr_225 hfk_fr_225 => ?_)
            rw [hH0] at hfz_fr_225 hfk_fr_225
            rw [hA0] at hfk_fr_225
            have hC_fr_225 := hC.call hA93 hfz_fr_225 hfk_fr_225
            have hF_fr_225 : kF κ H0 H_212 (fun q => q = bs) := ⟨hkA, hfz_fr_225, hfk_fr_225⟩
            obtain ⟨mz_232, nz_232, cfz_232, ⟨c1z_232, c2z_232, c3z_232, ho_231⟩, -⟩ := id hBz_209
            refine v_callV E (As := [.ref nq]) (b := qz_208) (ci := 6) (C := RJ16) (T := TJ16) (N := 6) ho_231 rfl (g_cmp κ H_212 hBz_209 hl_218) (lw_V q657 q658 q659 q91 q660) 1 (by decide +kernel) rfl (by decide) (by decide) (cb' := ((((cb - 0) - 0) - 1) - 0)) (sb' := ((((sb - 0) - 0) - 6) - 0)) (by omega) (by omega) rfl (rest := []) (Nat.le_of_ble_eq_true rfl) (fun q h => h.elim) dX1_store_65 (fun v_226 H_227 hpost_228 hz_229 hk_230 => ?_)
            obtain ⟨o_223, rfl, ho_224⟩ := hpost_228
            have hl_233 := BI.kf hC.D (kF.ext hz_229 hk_230) hl_218
            have hl_234 := CS.kf0 hC_fr_225 (kF.ext hz_229 hk_230) hl_219
            have hl_235 := Po.kf hC_fr_225 (kF.ext hz_229 hk_230) aD.no hl_220
            have hl_236 := BI.kf hC.D (kF.ext hz_229 hk_230) hl_221
            have hl_237 := IT.kf (kF.ext hz_229 hk_230) hl_222 (fun h => h)
            have hl_238 := BI.kf hC.D (kF.ext hz_229 hk_230) hBz_209
            refine V.eq (st' := [vi o_223]) rfl ?_
            refine v_if_gt E (tgt := 75) dX1_store_68 (by decide) ⟨by omega, by omega⟩ (fun c_68 => ?_) (fun c_68 => ?_)
            · refine v_iconst E dX1_store_75 ?_
              refine v_istore E dX1_store_76 (zlt hL rfl) (lv' := [(4, vi 0), (6, .ref y_192), (5, .ref it), (3, .ref nq), (2, .ref p), (1, vi (i : Int)), (0, .ref x)]) rfl ?_
              refine v_goto E (tgt := 32) dX1_store_78 (by decide) ?_
              refine V.sub [2, 0, 3, 4, 5, 6] (lv' := [(5, .ref it), (4, vi 0), (3, .ref nq), (2, .ref p), (1, vi (i : Int)), (0, .ref x)]) rfl ?_
              exact V.eqL (by rw [show okF P (k + 1) = 0 from if_neg (fun h => by have h1 := h.1; have h2 := h.2; omega)]) (ih_32  H_227 (k + 1) ((((cb - 0) - 0) - 1) - 0) ((((sb - 0) - 0) - 6) - 0) _ (by omega) (by omega) (by omega) (by omega) hl_237 hl_233 hl_234 hl_235)
            · refine v_iconst E dX1_store_71 ?_
              refine v_goto E (tgt := 76) dX1_store_72 (by decide) ?_
              refine v_istore E dX1_store_76 (zlt hL rfl) (lv' := [(4, vi 1), (6, .ref y_192), (5, .ref it), (3, .ref nq), (2, .ref p), (1, vi (i : Int)), (0, .ref x)]) rfl ?_
              refine v_goto E (tgt := 32) dX1_store_78 (by decide) ?_
              refine V.sub [2, 0, 3, 4, 5, 6] (lv' := [(5, .ref it), (4, vi 1), (3, .ref nq), (2, .ref p), (1, vi (i : Int)), (0, .ref x)]) rfl ?_
              exact V.eqL (by rw [show okF P (k + 1) = 1 from if_pos ⟨by omega, by omega⟩]) (ih_32  H_227 (k + 1) ((((cb - 0) - 0) - 1) - 0) ((((sb - 0) - 0) - 6) - 0) _ (by omega) (by omega) (by omega) (by omega) hl_237 hl_233 hl_234 hl_235)
    refine V.sub [0, 1, 2, 5, 4, 3] (lv' := [(5, .ref it), (4, vi 1), (3, .ref nq), (2, .ref p), (1, vi (i : Int)), (0, .ref x)]) rfl ?_
    exact V.eqL (by rw [show okF P 0 = 1 from if_pos (by omega)]) (loop_32 (P.1 + 1) H_132 0 15 98 (-1) (by omega) (Nat.zero_le _) (by omega) (by omega) hitI hl_139 hl_137 hl_138)
