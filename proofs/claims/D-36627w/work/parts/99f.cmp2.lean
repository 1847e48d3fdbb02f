/-! POLYNOMIALS OF THE COMPONENT: negated, positive, derived -/
def al0 (k : Nat) : Nat := if k = 0 then 1 else 0
theorem al_k (k : Nat) (h : k < 10) : alM k = al0 k ∧ alS k = 10 * al0 k ∧ al0 (k + 1) = 0 ∧ al0 k ≤ 1 := by
  unfold alM alS al0
  refine ⟨?_, ?_, if_neg (by omega), ?_⟩
  · by_cases e : k = 0
    · rw [if_pos (Or.inl e), if_pos e]
    · rw [if_neg (by omega), if_neg e]
  · by_cases e : k = 0
    · rw [if_pos e, if_pos e]
    · rw [if_neg e, if_neg (by omega), if_neg e]
  · split <;> omega
theorem al0_0 : al0 0 = 1 := rfl
theorem mulS (G n k : Nat) (h : k < n) : G * (n - k) = G * (n - (k + 1)) + G := by
  rw [show n - k = n - (k + 1) + 1 by omega, Nat.mul_add, Nat.mul_one]
def cNeg (P : Pl) : Pl := mkP P.1 (fun k => -P.2 k)
def cPos (P : Pl) : Pl := if 0 < P.1 ∧ P.2 (P.1 - 1) < 0 then cNeg P else P
def cDer (P : Pl) : Pl := mkP (P.1 - 1) (fun k => P.2 (k + 1) * ((k : Int) + 1))
theorem sB_m {X Y : Int} {N M : Nat} (h1 : (X.natAbs : Int) < 2 ^ (32 * N)) (h2 : (Y.natAbs : Int) < 2 ^ (32 * M)) (h : N + M ≤ 48) : sB ((X.natAbs : Int) * (Y.natAbs : Int)) := by
  unfold sB
  have h3 : (X.natAbs : Int) * (Y.natAbs : Int) ≤ 2 ^ (32 * N) * (Y.natAbs : Int) := Int.mul_le_mul_of_nonneg_right (Int.le_of_lt h1) (Int.natCast_nonneg _)
  have h4 : 2 ^ (32 * N) * (Y.natAbs : Int) < 2 ^ (32 * N) * 2 ^ (32 * M) := Int.mul_lt_mul_of_pos_left h2 (p2 _)
  rw [← Int.pow_add] at h4
  exact Int.lt_of_le_of_lt h3 (Int.lt_of_lt_of_le h4 (pw_mono (by omega)))
set_option maxHeartbeats 400000 in
set_option maxRecDepth 100000 in
/-- negated -/
theorem p_neg (κ : zK) (H0 : Heap) {p : Nat} {P : Pl} {D : Nat → Prop} (hC : CO κ H0) (hDU : ∀ q, H0.size ≤ q → D q) (h7 : P.1 ≤ 7) (hP : Po κ D H0 p P)  : Mt κ yX1_negated cX1_negated 4 (some (.object "SturmRoots$Poly")) 7 158 (P.1 + 4) (6 * P.1 + 18) H0 [.ref p] (fun _ => False) (fun v H1 => ∃ q : Nat, v = some (.ref q) ∧ Po κ D H1 q (cNeg P)) := by
  refine Mt.of (by decide) (Nat.le_of_ble_eq_true rfl) ?_
  intro z E hE hH0 hA0 hL hini
  have hAll : ∀ q, (fun _ => False) q → zA z.A z.H0 q := fun q h => Or.inl (by rw [hA0]; exact h)
  have hNew : ∀ q, H0.size ≤ q → zA z.A z.H0 q := fun q h => Or.inr (by rw [hH0]; exact h)
  have E : zOK z cX1_negated RX1 κ 7 158 (some (.object "SturmRoots$Poly")) := E
  refine V.eqL (lv' := [(0, .ref p)]) rfl ?_
  obtain ⟨hnf, h13, l, hop, b, cap, md, g, hA, hel, hDl, hDb⟩ := id hP
  have hD := hC.D
  refine V.frame (fun hfz_fr_1 hfk_fr_1 => ?_)
  rw [hH0] at hfz_fr_1 hfk_fr_1
  rw [hA0] at hfk_fr_1
  have hC_fr_1 := hC.call (fun q h => h.elim) hfz_fr_1 hfk_fr_1
  have hF_fr_1 : kF κ H0 H0 (fun _ => False) := ⟨(fun _ h => h.elim), hfz_fr_1, hfk_fr_1⟩
  refine V.frame (fun hfz_fr_2 hfk_fr_2 => ?_)
  rw [hH0] at hfz_fr_2 hfk_fr_2
  rw [hA0] at hfk_fr_2
  refine v_new E in_J2 tyJ2 tyJ2_ok q113 q114 q73 (ci := 5) rfl (fs := [vi 0, .null, vi 0]) (fun j hj => by rcases (show j = 0 ∨ j = 1 ∨ j = 2 by omega) with rfl | rfl | rfl <;> rfl) (cb' := ((P.1 + 4) - 1)) (sb' := ((6 * P.1 + 18) - 3)) (by omega) (by omega) dX1_negated_0 (fun l2 H_3 hq_6 ho_4 hg_5 => ?_)
  refine v_dup E rfl dX1_negated_3 ?_
  refine V.frame (fun hfz_fr_7 hfk_fr_7 => ?_)
  rw [hH0] at hfz_fr_7 hfk_fr_7
  rw [hA0] at hfk_fr_7
  have hC_fr_7 := hC.call (fun q h => h.elim) hfz_fr_7 hfk_fr_7
  have hF_fr_7 : kF κ H0 H_3 (fun _ => False) := ⟨(fun _ h => h.elim), hfz_fr_7, hfk_fr_7⟩
  have h93_l2 : κ.2 93 ≤ l2 := Nat.le_trans hC.le (by omega)
  refine v_callI E (As := []) (b := l2) (j_init κ H_3 h93_l2 hC_fr_7 ho_4) q117 q73 q115 q116 rfl 0 (by decide +kernel) rfl (by decide) (by decide) (cb' := (((P.1 + 4) - 1) - 0)) (sb' := (((6 * P.1 + 18) - 3) - 0)) (by omega) (by omega) rfl (rest := [.ref l2]) (Nat.le_of_ble_eq_true rfl) (fun q h => hNew q (by rw [show q = l2 from h]; omega)) dX1_negated_4 (fun v_8 H_9 hpost_10 hz_11 hk_12 => ?_)
  obtain ⟨rfl, hA_l2⟩ := hpost_10
  have hkN_13 : ∀ q9 : Nat, q9 < Array.size H0 → ¬ (fun _ => False : Nat → Prop) q9 → H_9[q9]? = H0[q9]? := fun q9 h9 _ => (hk_12 q9 (by rw [hg_5.1]; omega) (fun h => by have h8 : q9 = l2 := h; omega)).trans (hg_5.2 q9 h9)
  have hLB_l2 := LB.nil (S := H0.size) (E := (eB κ (fun k => -P.2 k))) hA_l2 (by omega)
  refine V.eq (st' := [.ref l2]) rfl ?_
  refine v_astore_n E dX1_negated_7 (zlt hL rfl) (lv' := [(1, .ref l2), (0, .ref p)]) rfl ?_
  refine v_aload_n E 1 rfl dX1_negated_8 ?_
  refine V.frame (fun hfz_fr_14 hfk_fr_14 => ?_)
  rw [hH0] at hfz_fr_14 hfk_fr_14
  rw [hA0] at hfk_fr_14
  have hC_fr_14 := hC.call (fun q h => h.elim) hfz_fr_14 hfk_fr_14
  have hF_fr_14 : kF κ H0 H_9 (fun _ => False) := ⟨(fun _ h => h.elim), hfz_fr_14, hfk_fr_14⟩
  have hb_15 := hF_fr_14.at hop (fun h => h)
  refine v_getfN (host := "SturmRoots") E in_X3 hb_15 (ci := 2) rfl 0 (by decide) (by decide +kernel) rfl (v := .ref l) rfl dX1_negated_9 ?_
  have hb_21 := hF_fr_14.at hA.1 (fun h => h)
  refine v_callV E (As := []) (b := l) (ci := 5) (C := RJ2) (T := TJ2) (N := 3) hb_21 rfl (j_iter κ H_9 hC_fr_14 (hA.kf hC hF_fr_14 (fun h => h) (fun _ h => h))) (lw_V q291 q292 q293 q73 q294) 0 (by decide +kernel) rfl (by decide) (by decide) (cb' := ((((P.1 + 4) - 1) - 0) - 1)) (sb' := ((((6 * P.1 + 18) - 3) - 0) - 4)) (by omega) (by omega) rfl (rest := []) (Nat.le_of_ble_eq_true rfl) (fun q h => h.elim) dX1_negated_12 (fun v_16 H_17 hpost_18 hz_19 hk_20 => ?_)
  obtain ⟨it, rfl, hitH, hitI⟩ := hpost_18
  have hl_22 := LB.kf (eB_L κ _) hC_fr_14 (kF.ext hz_19 hk_20) aD.f aD.no hLB_l2
  have hitH : H0.size ≤ it := Nat.le_trans hfz_fr_14 hitH
  refine V.eq (st' := [.ref it]) rfl ?_
  refine v_astore_n E dX1_negated_15 (zlt hL rfl) (lv' := [(2, .ref it), (1, .ref l2), (0, .ref p)]) rfl ?_
  have loop_16 : ∀ (m_16 : Nat) (H : Heap) (k b2 cb sb : Nat) (r : Int), P.1 - k < m_16 → (k ≤ P.1) → (1 + 1 * (P.1 - k) + al0 k ≤ cb) → (1 + 6 * (P.1 - k) + 10 * al0 k ≤ sb) → LB κ H0.size (eB κ (fun k => -P.2 k)) H l2 b2 k → IT κ H it l (k : Int) r md → V z H cb sb 16 [(2, .ref it), (1, .ref l2)] [] := by
    intro m_16
    induction m_16 with
    | zero => intro H k b2 cb sb r hm; exact absurd hm (by omega)
    | succ m_16 ih_16 =>
      intro H k b2 cb sb r hm_16 hk hcb hsb hR hI
      refine v_aload_n E 0 rfl dX1_negated_16 ?_
      refine V.frame (fun hfz_fr_23 hfk_fr_23 => ?_)
      rw [hH0] at hfz_fr_23 hfk_fr_23
      rw [hA0] at hfk_fr_23
      have hC_fr_23 := hC.call (fun q h => h.elim) hfz_fr_23 hfk_fr_23
      have hF_fr_23 : kF κ H0 H (fun _ => False) := ⟨(fun _ h => h.elim), hfz_fr_23, hfk_fr_23⟩
      refine v_callF E (As := []) (b := it) (ci := 7) (C := RJ17) (T := TJ17) (N := 4) hI.1 rfl (j_hasNext κ H hC_fr_23 (by omega) (hA.kf hC hF_fr_23 (fun h => h) (fun _ h => h)) hI) (by decide +kernel) (lw_F q321 q325 q327 q92 q329) 0 (by decide +kernel) rfl (by decide) (by decide) (cb' := (cb - 0)) (sb' := (sb - 0)) (by omega) (by omega) rfl (rest := []) (Nat.le_of_ble_eq_true rfl) (fun q h => h.elim) dX1_negated_17 (fun v_24 H_25 hpost_26 hz_27 hk_28 => ?_)
      obtain rfl := hpost_26
      have hl_29 := LB.kf (eB_L κ _) hC_fr_23 (kF.ext hz_27 hk_28) aD.f aD.no hR
      have hl_30 := IT.kf (kF.ext hz_27 hk_28) hI (fun h => h)
      by_cases hkn : k = P.1
      ·
        refine V.eq (st' := [vi 0]) (by rw [if_pos (show ((k : Nat) : Int) = ((P.1 : Nat) : Int) by omega)]; rfl) ?_
        refine v_if_eq E (tgt := 47) dX1_negated_22 (by decide) ⟨by omega, by omega⟩ (fun c_22 => ?_) (fun c_22 => absurd c_22 (by omega))
        have hkn2 : k = P.1 := hkn
        have hR_31 := hkn2 ▸ hl_29
        refine V.frame (fun hfz_fr_32 hfk_fr_32 => ?_)
        rw [hH0] at hfz_fr_32 hfk_fr_32
        rw [hA0] at hfk_fr_32
        have hC_fr_32 := hC.call (fun q h => h.elim) hfz_fr_32 hfk_fr_32
        have hF_fr_32 : kF κ H0 H_25 (fun _ => False) := ⟨(fun _ h => h.elim), hfz_fr_32, hfk_fr_32⟩
        refine V.frame (fun hfz_fr_33 hfk_fr_33 => ?_)
        rw [hH0] at hfz_fr_33 hfk_fr_33
        rw [hA0] at hfk_fr_33
        refine v_new E in_X3 tyX3 tyX3_ok q145 q146 q75 (ci := 2) rfl (fs := [.null]) (fun j hj => by rcases (show j = 0 by omega) with rfl <;> rfl) (cb' := ((cb - 0) - 1)) (sb' := ((sb - 0) - 1)) (by omega) (by omega) dX1_negated_47 (fun pn H_34 hq_37 ho_35 hg_36 => ?_)
        refine v_dup E rfl dX1_negated_50 ?_
        refine v_aload_n E 1 rfl dX1_negated_51 ?_
        refine V.frame (fun hfz_fr_38 hfk_fr_38 => ?_)
        rw [hH0] at hfz_fr_38 hfk_fr_38
        rw [hA0] at hfk_fr_38
        have hC_fr_38 := hC.call (fun q h => h.elim) hfz_fr_38 hfk_fr_38
        have hF_fr_38 : kF κ H0 H_34 (fun _ => False) := ⟨(fun _ h => h.elim), hfz_fr_38, hfk_fr_38⟩
        have hLB_39 := LB.kf (eB_L κ _) hC_fr_32 (kF.grow hg_36) aD.no aD.no hR_31
        refine v_callI E (As := [.ref l2]) (b := pn) (p_init κ H_34 (D := D) (n := P.1) (c := fun k => -P.2 k) hC_fr_38 (Nat.le_trans hC.le (by omega)) (by omega) hDU hC.le ho_35 hLB_39) q149 q75 q147 q148 rfl 1 (by decide +kernel) rfl (by decide) (by decide) (cb' := (((cb - 0) - 1) - 0)) (sb' := (((sb - 0) - 1) - 0)) (by omega) (by omega) rfl (rest := [.ref pn]) (Nat.le_of_ble_eq_true rfl) (fun q h => hNew q (h.elim (fun h => by rw [h]; omega) (fun h => h.elim (fun h => by rw [h]; exact (hR_31).choose_spec.choose_spec.2.2.1) (fun h => by rw [h.1]; exact (hR_31).choose_spec.choose_spec.2.2.2 h.2)))) dX1_negated_52 (fun v_40 H_41 hpost_42 hz_43 hk_44 => ?_)
        obtain ⟨rfl, hPo_pn⟩ := hpost_42
        obtain ⟨md_46, g_47, hA_48, -, hSl_49, hSb_50⟩ := id hR_31
        have hkN_45 : ∀ q9 : Nat, q9 < Array.size H_25 → ¬ (q9 = l2 ∨ (q9 = b2 ∧ 0 < P.1)) → H_41[q9]? = H_25[q9]? := fun q9 h9 h8 => (hk_44 q9 (by rw [hg_36.1]; omega) (fun h => h.elim (fun h => by omega) h8)).trans (hg_36.2 q9 h9)
        have hF_51 : kF κ H_25 H_41 (fun q => q = l2 ∨ (q = b2 ∧ 0 < P.1)) := kF.lst hA_48 (fun q h => h.imp id (fun h => ⟨h.1, capR_pos h.2⟩)) (by have := hg_36.1; omega) hkN_45
        have hl_52 := IT.kf hF_51 hl_30 (nIT hC.D hl_30 hA_48)
        refine V.eq (st' := [.ref pn]) rfl ?_
        refine v_aret E hE rfl (Or.inl ⟨_, rfl⟩) dX1_negated_55 (Or.inr ⟨_, rfl⟩) ?_
        exact ⟨pn, rfl, hPo_pn⟩
      ·
        refine V.eq (st' := [vi 1]) (by rw [if_neg (show ¬ ((k : Nat) : Int) = ((P.1 : Nat) : Int) by omega)]; rfl) ?_
        refine v_if_eq E (tgt := 47) dX1_negated_22 (by decide) ⟨by omega, by omega⟩ (fun c_22 => absurd c_22 (by omega)) (fun c_22 => ?_)
        refine v_aload_n E 0 rfl dX1_negated_25 ?_
        obtain ⟨y_53, hy_54, hEy_55⟩ := hel k (by omega)
        refine V.frame (fun hfz_fr_56 hfk_fr_56 => ?_)
        rw [hH0] at hfz_fr_56 hfk_fr_56
        rw [hA0] at hfk_fr_56
        have hC_fr_56 := hC.call (fun q h => h.elim) hfz_fr_56 hfk_fr_56
        have hF_fr_56 : kF κ H0 H_25 (fun _ => False) := ⟨(fun _ h => h.elim), hfz_fr_56, hfk_fr_56⟩
        refine v_callF E (As := []) (b := it) (ci := 7) (C := RJ17) (T := TJ17) (N := 4) hl_30.1 rfl (j_next7 κ H_25 hC_fr_56 (i := k) (y := y_53) (by omega) hy_54 (hA.kf hC hF_fr_56 (fun h => h) (fun _ h => h)) hl_30) (by decide +kernel) (lw_F q334 q337 q339 q92 q341) 0 (by decide +kernel) rfl (by decide) (by decide) (cb' := ((cb - 0) - 0)) (sb' := ((sb - 0) - 0)) (by omega) (by omega) rfl (rest := []) (Nat.le_of_ble_eq_true rfl) (fun q9 h => hNew q9 (by rw [show q9 = it from h]; exact hitH)) dX1_negated_26 (fun v_57 H_58 hpost_59 hz_60 hk_61 => ?_)
        obtain ⟨rfl, hI_62⟩ := hpost_59
        have hl_63 := LB.kf (eB_L κ _) hC_fr_56 (kF.itr hl_30 (fun q h => h) hz_60 hk_61) aD.f (aD.it hl_30 (fun q h => h)) hl_29
        have hl_64 := BI.kf hC.D (kF.itr hl_30 (fun q h => h) hz_60 hk_61) (BI.kf hC.D hF_fr_56 hEy_55)
        refine V.eq (st' := [.ref y_53]) rfl ?_
        obtain ⟨mz_66, nz_66, cfz_66, ⟨c1z_66, c2z_66, c3z_66, ho_65⟩, -⟩ := id hl_64
        refine v_castS E ho_65 (q := (RJ16, TJ16, 6)) rfl q621 dX1_negated_31 ?_
        refine v_astore_n E dX1_negated_34 (zlt hL rfl) (lv' := [(3, .ref y_53), (2, .ref it), (1, .ref l2)]) rfl ?_
        refine v_aload_n E 2 rfl dX1_negated_35 ?_
        refine v_aload_n E 0 rfl dX1_negated_36 ?_
        refine V.frame (fun hfz_fr_67 hfk_fr_67 => ?_)
        rw [hH0] at hfz_fr_67 hfk_fr_67
        rw [hA0] at hfk_fr_67
        have hC_fr_67 := hC.call (fun q h => h.elim) hfz_fr_67 hfk_fr_67
        have hF_fr_67 : kF κ H0 H_58 (fun _ => False) := ⟨(fun _ h => h.elim), hfz_fr_67, hfk_fr_67⟩
        obtain ⟨mz_74, nz_74, cfz_74, ⟨c1z_74, c2z_74, c3z_74, ho_73⟩, -⟩ := id hl_64
        refine v_callV E (As := []) (b := y_53) (ci := 6) (C := RJ16) (T := TJ16) (N := 6) ho_73 rfl (g_negate κ H_58 hC_fr_67 hl_64) (lw_V q1127 q627 q628 q91 q629) 0 (by decide +kernel) rfl (by decide) (by decide) (cb' := (((cb - 0) - 0) - 1)) (sb' := (((sb - 0) - 0) - 6)) (by omega) (by omega) rfl (rest := [.ref l2]) (Nat.le_of_ble_eq_true rfl) (fun q h => h.elim) dX1_negated_37 (fun v_68 H_69 hpost_70 hz_71 hk_72 => ?_)
        obtain ⟨qn, rfl, hBn⟩ := hpost_70
        have hl_75 := LB.kf (eB_L κ _) hC_fr_67 (kF.ext hz_71 hk_72) aD.f aD.no hl_63
        have hl_76 := BI.kf hC.D (kF.ext hz_71 hk_72) hl_64
        have hl_77 := IT.kf (kF.ext hz_71 hk_72) hI_62 (fun h => h)
        refine V.eq (st' := [.ref qn, .ref l2]) rfl ?_
        refine V.frame (fun hfz_fr_78 hfk_fr_78 => ?_)
        rw [hH0] at hfz_fr_78 hfk_fr_78
        rw [hA0] at hfk_fr_78
        have hC_fr_78 := hC.call (fun q h => h.elim) hfz_fr_78 hfk_fr_78
        have hF_fr_78 : kF κ H0 H_69 (fun _ => False) := ⟨(fun _ h => h.elim), hfz_fr_78, hfk_fr_78⟩
        obtain ⟨md_79, g_80, hA_81, hel_82, hSl_83, hSb_84⟩ := id hl_75
        have hal_85 := al_k k (show k < 10 by omega)
        obtain ⟨md_91, g_92, hA_93, -⟩ := id hl_75
        refine v_callV E (As := [.ref qn]) (b := l2) (ci := 5) (C := RJ2) (T := TJ2) (N := 3) hA_93.1 rfl (j_addB κ H_69 hC_fr_78 (show k < 15 by omega) hBn.oA hA_81) (lw_V q208 q209 q210 q73 q211) 1 (by decide +kernel) rfl (by decide) (by decide) (cb' := ((((cb - 0) - 0) - 1) - alM k)) (sb' := ((((sb - 0) - 0) - 6) - alS k)) (by omega) (by omega) rfl (rest := []) (Nat.le_of_ble_eq_true rfl) (fun q h => hNew q (h.elim (fun h => by rw [h]; exact Nat.le_trans (Nat.le_refl _) hSl_83) (fun h => by rw [h.1]; exact Nat.le_trans (Nat.le_refl _) (hSb_84 h.2)))) dX1_negated_40 (fun v_86 H_87 hpost_88 hz_89 hk_90 => ?_)
        obtain ⟨rfl, b_94, md_95, g_96, hA_97, hg_98, hgn_99, hb_100⟩ := hpost_88
        have hF_101 := (kF.lst hA_81 (fun q h => h.imp id (fun h => ⟨h.1, capR_pos h.2⟩)) hz_89 hk_90)
        have hl_102 := BI.kf hC.D hF_101 hl_76
        have hl_103 := IT.kf hF_101 hl_77 (nIT hC.D hl_77 hA_81)
        have hl_104 := BI.kf hC.D hF_101 hBn
        have hv_106 := BI.kf hC.D hF_101 hBn
        have hLB_105 : LB κ H0.size (eB κ (fun k => -P.2 k)) H_87 l2 b_94 (k + 1) := LB.step (fun k9 hk9 => (hel_82 k9 hk9).elim (fun y hy => ⟨y, hy.1, (eB_L κ _) _ _ _ _ _ hC_fr_78 hF_101 aD.f hy.2⟩)) hv_106 hA_97 hg_98 hgn_99 hSl_83 (hb_100.elim (fun h => by rw [h.1]; exact hSb_84 h.2) (fun h => Nat.le_trans (show H0.size ≤ Array.size H_69 from hfz_fr_78) h))
        refine V.eq (st' := [vi 1]) rfl ?_
        refine v_pop E rfl dX1_negated_43 ?_
        refine v_goto E (tgt := 16) dX1_negated_44 (by decide) ?_
        refine V.sub [1, 2] (lv' := [(2, .ref it), (1, .ref l2)]) rfl ?_
        exact ih_16  H_87 (k + 1) _ ((((cb - 0) - 0) - 1) - alM k) ((((sb - 0) - 0) - 6) - alS k) _ (by omega) (by omega) (by omega) (by omega) hLB_105 hl_103
  refine V.sub [0, 1] (lv' := [(2, .ref it), (1, .ref l2)]) rfl ?_
  exact loop_16 (P.1 + 1) H_17 0 (κ.2 98) ((((P.1 + 4) - 1) - 0) - 1) ((((6 * P.1 + 18) - 3) - 0) - 4) (-1) (by omega) (Nat.zero_le _) (by rw [al0_0]; omega) (by rw [al0_0]; omega) hl_22 hitI

set_option maxHeartbeats 400000 in
set_option maxRecDepth 100000 in
/-- positive -/
theorem p_pos (κ : zK) (H0 : Heap) {p : Nat} {P : Pl} {D : Nat → Prop} (hC : CO κ H0) (hDU : ∀ q, H0.size ≤ q → D q) (h7 : P.1 ≤ 7) (hP : Po κ D H0 p P)  : Mt κ yX1_positive cX1_positive 1 (some (.object "SturmRoots$Poly")) 8 181 (P.1 + 4) (6 * P.1 + 18) H0 [.ref p] (fun _ => False) (fun v H1 => ∃ q : Nat, v = some (.ref q) ∧ Po κ D H1 q (cPos P)) := by
  refine Mt.of (by decide) (Nat.le_of_ble_eq_true rfl) ?_
  intro z E hE hH0 hA0 hL hini
  have hAll : ∀ q, (fun _ => False) q → zA z.A z.H0 q := fun q h => Or.inl (by rw [hA0]; exact h)
  have hNew : ∀ q, H0.size ≤ q → zA z.A z.H0 q := fun q h => Or.inr (by rw [hH0]; exact h)
  have E : zOK z cX1_positive RX1 κ 8 181 (some (.object "SturmRoots$Poly")) := E
  refine V.eqL (lv' := [(0, .ref p)]) rfl ?_
  obtain ⟨hnf, h13, l, hop, b, cap, md, g, hA, hel, hDl, hDb⟩ := id hP
  have hD := hC.D
  refine v_aload_n E 0 rfl dX1_positive_0 ?_
  refine V.frame (fun hfz_fr_1 hfk_fr_1 => ?_)
  rw [hH0] at hfz_fr_1 hfk_fr_1
  rw [hA0] at hfk_fr_1
  have hC_fr_1 := hC.call (fun q h => h.elim) hfz_fr_1 hfk_fr_1
  have hF_fr_1 : kF κ H0 H0 (fun _ => False) := ⟨(fun _ h => h.elim), hfz_fr_1, hfk_fr_1⟩
  have hb_7 := hF_fr_1.at hop (fun h => h)
  refine v_callV E (As := []) (b := p) (ci := 2) (C := RX3) (T := TX3) (N := 1) hb_7 rfl (p_deg κ H0 hC_fr_1 (hP.kf hC hF_fr_1 aD.no)) (lw_V q617 q618 q619 q75 q620) 0 (by decide +kernel) rfl (by decide) (by decide) (cb' := ((P.1 + 4) - 0)) (sb' := ((6 * P.1 + 18) - 0)) (by omega) (by omega) rfl (rest := []) (Nat.le_of_ble_eq_true rfl) (fun q h => h.elim) dX1_positive_1 (fun v_2 H_3 hpost_4 hz_5 hk_6 => ?_)
  obtain rfl := hpost_4
  refine V.eq (st' := [vi ((P.1 : Int) - 1)]) rfl ?_
  refine v_if_lt E (tgt := 24) dX1_positive_4 (by decide) ⟨by omega, by omega⟩ (fun c_4 => ?_) (fun c_4 => ?_)
  · refine v_aload_n E 0 rfl dX1_positive_24 ?_
    refine V.frame (fun hfz_fr_8 hfk_fr_8 => ?_)
    rw [hH0] at hfz_fr_8 hfk_fr_8
    rw [hA0] at hfk_fr_8
    have hC_fr_8 := hC.call (fun q h => h.elim) hfz_fr_8 hfk_fr_8
    have hF_fr_8 : kF κ H0 H_3 (fun _ => False) := ⟨(fun _ h => h.elim), hfz_fr_8, hfk_fr_8⟩
    refine v_aret E hE rfl (Or.inl ⟨_, rfl⟩) dX1_positive_25 (Or.inr ⟨_, rfl⟩) ?_
    exact ⟨p, rfl, by rw [show cPos P = P from if_neg (fun h => by have := sgn3 (P.2 (P.1 - 1)); omega)]; exact (hP.kf hC hF_fr_8 aD.no)⟩
  · refine v_aload_n E 0 rfl dX1_positive_7 ?_
    refine V.frame (fun hfz_fr_9 hfk_fr_9 => ?_)
    rw [hH0] at hfz_fr_9 hfk_fr_9
    rw [hA0] at hfk_fr_9
    have hC_fr_9 := hC.call (fun q h => h.elim) hfz_fr_9 hfk_fr_9
    have hF_fr_9 : kF κ H0 H_3 (fun _ => False) := ⟨(fun _ h => h.elim), hfz_fr_9, hfk_fr_9⟩
    have hb_15 := hF_fr_9.at hop (fun h => h)
    refine v_callV E (As := []) (b := p) (ci := 2) (C := RX3) (T := TX3) (N := 1) hb_15 rfl (p_lead κ H_3 (by omega) hC_fr_9 (hP.kf hC hF_fr_9 aD.no)) (lw_V q1148 q1149 q1150 q75 q1151) 0 (by decide +kernel) rfl (by decide) (by decide) (cb' := (((P.1 + 4) - 0) - 0)) (sb' := (((6 * P.1 + 18) - 0) - 0)) (by omega) (by omega) rfl (rest := []) (Nat.le_of_ble_eq_true rfl) (fun q h => h.elim) dX1_positive_8 (fun v_10 H_11 hpost_12 hz_13 hk_14 => ?_)
    obtain ⟨ql, rfl, hBl⟩ := hpost_12
    refine V.eq (st' := [.ref ql]) rfl ?_
    refine V.frame (fun hfz_fr_16 hfk_fr_16 => ?_)
    rw [hH0] at hfz_fr_16 hfk_fr_16
    rw [hA0] at hfk_fr_16
    have hC_fr_16 := hC.call (fun q h => h.elim) hfz_fr_16 hfk_fr_16
    have hF_fr_16 : kF κ H0 H_11 (fun _ => False) := ⟨(fun _ h => h.elim), hfz_fr_16, hfk_fr_16⟩
    obtain ⟨mz_23, nz_23, cfz_23, ⟨c1z_23, c2z_23, c3z_23, ho_22⟩, -⟩ := id hBl
    refine v_callV E (As := []) (b := ql) (ci := 6) (C := RJ16) (T := TJ16) (N := 6) ho_22 rfl (g_signum κ H_11 hBl) (lw_V q1152 q171 q172 q91 q173) 0 (by decide +kernel) rfl (by decide) (by decide) (cb' := ((((P.1 + 4) - 0) - 0) - 0)) (sb' := ((((6 * P.1 + 18) - 0) - 0) - 0)) (by omega) (by omega) rfl (rest := []) (Nat.le_of_ble_eq_true rfl) (fun q h => h.elim) dX1_positive_11 (fun v_17 H_18 hpost_19 hz_20 hk_21 => ?_)
    obtain rfl := hpost_19
    have hl_24 := BI.kf hC.D (kF.ext hz_20 hk_21) hBl
    refine V.eq (st' := [vi (Int.sign (P.2 (P.1 - 1)))]) rfl ?_
    refine v_if_ge E (tgt := 24) dX1_positive_14 (by decide) (rsign _) (fun c_14 => ?_) (fun c_14 => ?_)
    · refine v_aload_n E 0 rfl dX1_positive_24 ?_
      refine V.frame (fun hfz_fr_25 hfk_fr_25 => ?_)
      rw [hH0] at hfz_fr_25 hfk_fr_25
      rw [hA0] at hfk_fr_25
      have hC_fr_25 := hC.call (fun q h => h.elim) hfz_fr_25 hfk_fr_25
      have hF_fr_25 : kF κ H0 H_18 (fun _ => False) := ⟨(fun _ h => h.elim), hfz_fr_25, hfk_fr_25⟩
      refine v_aret E hE rfl (Or.inl ⟨_, rfl⟩) dX1_positive_25 (Or.inr ⟨_, rfl⟩) ?_
      exact ⟨p, rfl, by rw [show cPos P = P from if_neg (fun h => by have := sgn3 (P.2 (P.1 - 1)); omega)]; exact (hP.kf hC hF_fr_25 aD.no)⟩
    · refine v_aload_n E 0 rfl dX1_positive_17 ?_
      refine V.frame (fun hfz_fr_26 hfk_fr_26 => ?_)
      rw [hH0] at hfz_fr_26 hfk_fr_26
      rw [hA0] at hfk_fr_26
      have hC_fr_26 := hC.call (fun q h => h.elim) hfz_fr_26 hfk_fr_26
      have hF_fr_26 : kF κ H0 H_18 (fun _ => False) := ⟨(fun _ h => h.elim), hfz_fr_26, hfk_fr_26⟩
      refine v_callS E (As := [.ref p]) (p_neg κ H_18 (D := D) hC_fr_26 (fun q h => hDU q (Nat.le_trans hfz_fr_26 h)) h7 (hP.kf hC hF_fr_26 aD.no)) (lw_S q1447 q1448 q70 q1449) 1 (by decide +kernel) rfl (by decide) (by decide) (cb' := (((((P.1 + 4) - 0) - 0) - 0) - (P.1 + 4))) (sb' := (((((6 * P.1 + 18) - 0) - 0) - 0) - (6 * P.1 + 18))) (by omega) (by omega) rfl (rest := []) (Nat.le_of_ble_eq_true rfl) (fun q h => h.elim) dX1_positive_18 (fun v_27 H_28 hpost_29 hz_30 hk_31 => ?_)
      obtain ⟨q, rfl, hPn⟩ := hpost_29
      have hl_32 := BI.kf hC.D (kF.ext hz_30 hk_31) hl_24
      refine V.eq (st' := [.ref q]) rfl ?_
      refine v_goto E (tgt := 25) dX1_positive_21 (by decide) ?_
      refine v_aret E hE rfl (Or.inl ⟨_, rfl⟩) dX1_positive_25 (Or.inr ⟨_, rfl⟩) ?_
      exact ⟨q, rfl, by rw [show cPos P = cNeg P from if_pos ⟨by omega, by have := sgn3 (P.2 (P.1 - 1)); omega⟩]; exact hPn⟩

set_option maxHeartbeats 400000 in
set_option maxRecDepth 100000 in
/-- derived -/
theorem p_der (κ : zK) (H0 : Heap) {p : Nat} {P : Pl} {D : Nat → Prop} {N : Nat} (hC : CO κ H0) (hDU : ∀ q, H0.size ≤ q → D q) (h7 : P.1 ≤ 7) (hN40 : N ≤ 40) (hN : ∀ k, ((P.2 k).natAbs : Int) < 2 ^ (32 * N)) (hP : Po κ D H0 p P)  : Mt κ yX1_derived cX1_derived 3 (some (.object "SturmRoots$Poly")) 7 158 (3 * (P.1 - 1) + 3) ((2 * N + 9) * (P.1 - 1) + 14) H0 [.ref p] (fun _ => False) (fun v H1 => ∃ q : Nat, v = some (.ref q) ∧ Po κ D H1 q (cDer P)) := by
  refine Mt.of (by decide) (Nat.le_of_ble_eq_true rfl) ?_
  intro z E hE hH0 hA0 hL hini
  have hAll : ∀ q, (fun _ => False) q → zA z.A z.H0 q := fun q h => Or.inl (by rw [hA0]; exact h)
  have hNew : ∀ q, H0.size ≤ q → zA z.A z.H0 q := fun q h => Or.inr (by rw [hH0]; exact h)
  have E : zOK z cX1_derived RX1 κ 7 158 (some (.object "SturmRoots$Poly")) := E
  refine V.eqL (lv' := [(0, .ref p)]) rfl ?_
  obtain ⟨hnf, h13, l, hop, b, cap, md, g, hA, hel, hDl, hDb⟩ := id hP
  have hD := hC.D
  refine V.frame (fun hfz_fr_1 hfk_fr_1 => ?_)
  rw [hH0] at hfz_fr_1 hfk_fr_1
  rw [hA0] at hfk_fr_1
  have hC_fr_1 := hC.call (fun q h => h.elim) hfz_fr_1 hfk_fr_1
  have hF_fr_1 : kF κ H0 H0 (fun _ => False) := ⟨(fun _ h => h.elim), hfz_fr_1, hfk_fr_1⟩
  refine V.frame (fun hfz_fr_2 hfk_fr_2 => ?_)
  rw [hH0] at hfz_fr_2 hfk_fr_2
  rw [hA0] at hfk_fr_2
  refine v_new E in_J2 tyJ2 tyJ2_ok q113 q114 q73 (ci := 5) rfl (fs := [vi 0, .null, vi 0]) (fun j hj => by rcases (show j = 0 ∨ j = 1 ∨ j = 2 by omega) with rfl | rfl | rfl <;> rfl) (cb' := ((3 * (P.1 - 1) + 3) - 1)) (sb' := (((2 * N + 9) * (P.1 - 1) + 14) - 3)) (by omega) (by omega) dX1_derived_0 (fun l2 H_3 hq_6 ho_4 hg_5 => ?_)
  refine v_dup E rfl dX1_derived_3 ?_
  refine V.frame (fun hfz_fr_7 hfk_fr_7 => ?_)
  rw [hH0] at hfz_fr_7 hfk_fr_7
  rw [hA0] at hfk_fr_7
  have hC_fr_7 := hC.call (fun q h => h.elim) hfz_fr_7 hfk_fr_7
  have hF_fr_7 : kF κ H0 H_3 (fun _ => False) := ⟨(fun _ h => h.elim), hfz_fr_7, hfk_fr_7⟩
  have h93_l2 : κ.2 93 ≤ l2 := Nat.le_trans hC.le (by omega)
  refine v_callI E (As := []) (b := l2) (j_init κ H_3 h93_l2 hC_fr_7 ho_4) q117 q73 q115 q116 rfl 0 (by decide +kernel) rfl (by decide) (by decide) (cb' := (((3 * (P.1 - 1) + 3) - 1) - 0)) (sb' := ((((2 * N + 9) * (P.1 - 1) + 14) - 3) - 0)) (by omega) (by omega) rfl (rest := [.ref l2]) (Nat.le_of_ble_eq_true rfl) (fun q h => hNew q (by rw [show q = l2 from h]; omega)) dX1_derived_4 (fun v_8 H_9 hpost_10 hz_11 hk_12 => ?_)
  obtain ⟨rfl, hA_l2⟩ := hpost_10
  have hkN_13 : ∀ q9 : Nat, q9 < Array.size H0 → ¬ (fun _ => False : Nat → Prop) q9 → H_9[q9]? = H0[q9]? := fun q9 h9 _ => (hk_12 q9 (by rw [hg_5.1]; omega) (fun h => by have h8 : q9 = l2 := h; omega)).trans (hg_5.2 q9 h9)
  have hLB_l2 := LB.nil (S := H0.size) (E := (eB κ (fun k => P.2 (k + 1) * ((k : Int) + 1)))) hA_l2 (by omega)
  refine V.eq (st' := [.ref l2]) rfl ?_
  refine v_astore_n E dX1_derived_7 (zlt hL rfl) (lv' := [(1, .ref l2), (0, .ref p)]) rfl ?_
  refine v_iconst E dX1_derived_8 ?_
  refine v_istore_n E dX1_derived_9 (zlt hL rfl) (lv' := [(2, vi 1), (1, .ref l2), (0, .ref p)]) rfl ?_
  have loop_10 : ∀ (m_10 : Nat) (H : Heap) (k b2 cb sb : Nat), (P.1 - 1) - k < m_10 → (k ≤ (P.1 - 1)) → (1 + 3 * ((P.1 - 1) - k) + al0 k ≤ cb) → (1 + (2 * N + 9) * ((P.1 - 1) - k) + 10 * al0 k ≤ sb) → LB κ H0.size (eB κ (fun k => P.2 (k + 1) * ((k : Int) + 1))) H l2 b2 k → V z H cb sb 10 [(2, vi ((k : Int) + 1)), (1, .ref l2), (0, .ref p)] [] := by
    intro m_10
    induction m_10 with
    | zero => intro H k b2 cb sb hm; exact absurd hm (by omega)
    | succ m_10 ih_10 =>
      intro H k b2 cb sb hm_10 hk hcb hsb hR
      refine v_iload_n E 0 rfl dX1_derived_10 ?_
      refine v_aload_n E 2 rfl dX1_derived_11 ?_
      refine V.frame (fun hfz_fr_14 hfk_fr_14 => ?_)
      rw [hH0] at hfz_fr_14 hfk_fr_14
      rw [hA0] at hfk_fr_14
      have hC_fr_14 := hC.call (fun q h => h.elim) hfz_fr_14 hfk_fr_14
      have hF_fr_14 : kF κ H0 H (fun _ => False) := ⟨(fun _ h => h.elim), hfz_fr_14, hfk_fr_14⟩
      have hb_20 := hF_fr_14.at hop (fun h => h)
      refine v_callV E (As := []) (b := p) (ci := 2) (C := RX3) (T := TX3) (N := 1) hb_20 rfl (p_deg κ H hC_fr_14 (hP.kf hC hF_fr_14 aD.no)) (lw_V q617 q618 q619 q75 q620) 0 (by decide +kernel) rfl (by decide) (by decide) (cb' := (cb - 0)) (sb' := (sb - 0)) (by omega) (by omega) rfl (rest := [vi ((k : Int) + 1)]) (Nat.le_of_ble_eq_true rfl) (fun q h => h.elim) dX1_derived_12 (fun v_15 H_16 hpost_17 hz_18 hk_19 => ?_)
      obtain rfl := hpost_17
      have hl_21 := LB.kf (eB_L κ _) hC_fr_14 (kF.ext hz_18 hk_19) aD.f aD.no hR
      refine V.eq (st' := [vi ((P.1 : Int) - 1), vi ((k : Int) + 1)]) rfl ?_
      refine v_icmp_gt E (tgt := 42) dX1_derived_15 (by decide) ⟨by omega, by omega⟩ ⟨by omega, by omega⟩ (fun c_15 => ?_) (fun c_15 => ?_)
      · have hkn : k = P.1 - 1 := by omega
        have hR_22 := hkn ▸ hl_21
        refine V.frame (fun hfz_fr_23 hfk_fr_23 => ?_)
        rw [hH0] at hfz_fr_23 hfk_fr_23
        rw [hA0] at hfk_fr_23
        have hC_fr_23 := hC.call (fun q h => h.elim) hfz_fr_23 hfk_fr_23
        have hF_fr_23 : kF κ H0 H_16 (fun _ => False) := ⟨(fun _ h => h.elim), hfz_fr_23, hfk_fr_23⟩
        refine V.frame (fun hfz_fr_24 hfk_fr_24 => ?_)
        rw [hH0] at hfz_fr_24 hfk_fr_24
        rw [hA0] at hfk_fr_24
        refine v_new E in_X3 tyX3 tyX3_ok q145 q146 q75 (ci := 2) rfl (fs := [.null]) (fun j hj => by rcases (show j = 0 by omega) with rfl <;> rfl) (cb' := ((cb - 0) - 1)) (sb' := ((sb - 0) - 1)) (by omega) (by omega) dX1_derived_42 (fun pn H_25 hq_28 ho_26 hg_27 => ?_)
        refine v_dup E rfl dX1_derived_45 ?_
        refine v_aload_n E 1 rfl dX1_derived_46 ?_
        refine V.frame (fun hfz_fr_29 hfk_fr_29 => ?_)
        rw [hH0] at hfz_fr_29 hfk_fr_29
        rw [hA0] at hfk_fr_29
        have hC_fr_29 := hC.call (fun q h => h.elim) hfz_fr_29 hfk_fr_29
        have hF_fr_29 : kF κ H0 H_25 (fun _ => False) := ⟨(fun _ h => h.elim), hfz_fr_29, hfk_fr_29⟩
        have hLB_30 := LB.kf (eB_L κ _) hC_fr_23 (kF.grow hg_27) aD.no aD.no hR_22
        refine v_callI E (As := [.ref l2]) (b := pn) (p_init κ H_25 (D := D) (n := (P.1 - 1)) (c := fun k => P.2 (k + 1) * ((k : Int) + 1)) hC_fr_29 (Nat.le_trans hC.le (by omega)) (by omega) hDU hC.le ho_26 hLB_30) q149 q75 q147 q148 rfl 1 (by decide +kernel) rfl (by decide) (by decide) (cb' := (((cb - 0) - 1) - 0)) (sb' := (((sb - 0) - 1) - 0)) (by omega) (by omega) rfl (rest := [.ref pn]) (Nat.le_of_ble_eq_true rfl) (fun q h => hNew q (h.elim (fun h => by rw [h]; omega) (fun h => h.elim (fun h => by rw [h]; exact (hR_22).choose_spec.choose_spec.2.2.1) (fun h => by rw [h.1]; exact (hR_22).choose_spec.choose_spec.2.2.2 h.2)))) dX1_derived_47 (fun v_31 H_32 hpost_33 hz_34 hk_35 => ?_)
        obtain ⟨rfl, hPo_pn⟩ := hpost_33
        obtain ⟨md_37, g_38, hA_39, -, hSl_40, hSb_41⟩ := id hR_22
        have hkN_36 : ∀ q9 : Nat, q9 < Array.size H_16 → ¬ (q9 = l2 ∨ (q9 = b2 ∧ 0 < (P.1 - 1))) → H_32[q9]? = H_16[q9]? := fun q9 h9 h8 => (hk_35 q9 (by rw [hg_27.1]; omega) (fun h => h.elim (fun h => by omega) h8)).trans (hg_27.2 q9 h9)
        have hF_42 : kF κ H_16 H_32 (fun q => q = l2 ∨ (q = b2 ∧ 0 < (P.1 - 1))) := kF.lst hA_39 (fun q h => h.imp id (fun h => ⟨h.1, capR_pos h.2⟩)) (by have := hg_27.1; omega) hkN_36
        refine V.eq (st' := [.ref pn]) rfl ?_
        refine v_aret E hE rfl (Or.inl ⟨_, rfl⟩) dX1_derived_50 (Or.inr ⟨_, rfl⟩) ?_
        exact ⟨pn, rfl, hPo_pn⟩
      · have e1 := mulS 3 (P.1 - 1) k (by omega)
        have e2 := mulS (2 * N + 9) (P.1 - 1) k (by omega)
        refine v_aload_n E 1 rfl dX1_derived_18 ?_
        refine v_aload_n E 2 rfl dX1_derived_19 ?_
        refine v_iload_n E 0 rfl dX1_derived_20 ?_
        refine V.topi (x' := ((k + 1 : Nat) : Int)) (congrArg iZ (by omega)) ?_
        refine V.frame (fun hfz_fr_43 hfk_fr_43 => ?_)
        rw [hH0] at hfz_fr_43 hfk_fr_43
        rw [hA0] at hfk_fr_43
        have hC_fr_43 := hC.call (fun q h => h.elim) hfz_fr_43 hfk_fr_43
        have hF_fr_43 : kF κ H0 H_16 (fun _ => False) := ⟨(fun _ h => h.elim), hfz_fr_43, hfk_fr_43⟩
        have hb_49 := hF_fr_43.at hop (fun h => h)
        refine v_callV E (As := [vi ((k + 1 : Nat) : Int)]) (b := p) (ci := 2) (C := RX3) (T := TX3) (N := 1) hb_49 rfl (p_at κ H_16 (i := k + 1) (by omega) hC_fr_43 (hP.kf hC hF_fr_43 aD.no)) (lw_V q467 q468 q469 q75 q470) 1 (by decide +kernel) rfl (by decide) (by decide) (cb' := ((cb - 0) - 0)) (sb' := ((sb - 0) - 0)) (by omega) (by omega) rfl (rest := [.ref l2]) (Nat.le_of_ble_eq_true rfl) (fun q h => h.elim) dX1_derived_21 (fun v_44 H_45 hpost_46 hz_47 hk_48 => ?_)
        obtain ⟨qa, rfl, hBa⟩ := hpost_46
        have hl_50 := LB.kf (eB_L κ _) hC_fr_43 (kF.ext hz_47 hk_48) aD.f aD.no hl_21
        refine V.eq (st' := [.ref qa, .ref l2]) rfl ?_
        refine v_iload_n E 0 rfl dX1_derived_24 ?_
        refine v_i2l E ⟨by omega, by omega⟩ dX1_derived_25 ?_
        refine V.frame (fun hfz_fr_51 hfk_fr_51 => ?_)
        rw [hH0] at hfz_fr_51 hfk_fr_51
        rw [hA0] at hfk_fr_51
        have hC_fr_51 := hC.call (fun q h => h.elim) hfz_fr_51 hfk_fr_51
        have hF_fr_51 : kF κ H0 H_45 (fun _ => False) := ⟨(fun _ h => h.elim), hfz_fr_51, hfk_fr_51⟩
        refine v_callS E (As := [vj ((k : Int) + 1)]) (p_numS κ H_45 (x := (k : Int) + 1) hC_fr_51 ⟨by omega, by omega⟩) (lw_S q611 q472 q70 q473) 1 (by decide +kernel) rfl (by decide) (by decide) (cb' := (((cb - 0) - 0) - 0)) (sb' := (((sb - 0) - 0) - 0)) (by omega) (by omega) rfl (rest := [.ref qa, .ref l2]) (Nat.le_of_ble_eq_true rfl) (fun q h => h.elim) dX1_derived_26 (fun v_52 H_53 hpost_54 hz_55 hk_56 => ?_)
        obtain ⟨qi, rfl, hBi⟩ := hpost_54
        have hl_57 := LB.kf (eB_L κ _) hC_fr_51 (kF.ext hz_55 hk_56) aD.f aD.no hl_50
        have hl_58 := BI.kf hC.D (kF.ext hz_55 hk_56) hBa
        refine V.eq (st' := [.ref qi, .ref qa, .ref l2]) rfl ?_
        refine V.frame (fun hfz_fr_59 hfk_fr_59 => ?_)
        rw [hH0] at hfz_fr_59 hfk_fr_59
        rw [hA0] at hfk_fr_59
        have hC_fr_59 := hC.call (fun q h => h.elim) hfz_fr_59 hfk_fr_59
        have hF_fr_59 : kF κ H0 H_53 (fun _ => False) := ⟨(fun _ h => h.elim), hfz_fr_59, hfk_fr_59⟩
        obtain ⟨mz_66, nz_66, cfz_66, ⟨c1z_66, c2z_66, c3z_66, ho_65⟩, -⟩ := id hl_58
        refine v_callV E (As := [.ref qi]) (b := qa) (ci := 6) (C := RJ16) (T := TJ16) (N := 6) ho_65 rfl (g_mul κ H_53 (N := N) (M := 1) hC_fr_59 hl_58 hBi (hN _) (by omega) (Or.inr (by decide)) (sB_m (hN _) (show ((((k : Int) + 1).natAbs : Nat) : Int) < 2 ^ (32 * 1) by omega) (by omega))) (lw_V q959 q960 q961 q91 q962) 1 (by decide +kernel) rfl (by decide) (by decide) (cb' := ((((cb - 0) - 0) - 0) - 3)) (sb' := ((((sb - 0) - 0) - 0) - (2 * (N + 1) + 7))) (by omega) (by omega) rfl (rest := [.ref l2]) (Nat.le_of_ble_eq_true rfl) (fun q h => h.elim) dX1_derived_29 (fun v_60 H_61 hpost_62 hz_63 hk_64 => ?_)
        obtain ⟨qm, rfl, hBm⟩ := hpost_62
        have hl_67 := LB.kf (eB_L κ _) hC_fr_59 (kF.ext hz_63 hk_64) aD.f aD.no hl_57
        have hl_68 := BI.kf hC.D (kF.ext hz_63 hk_64) hl_58
        have hl_69 := BI.kf hC.D (kF.ext hz_63 hk_64) hBi
        refine V.eq (st' := [.ref qm, .ref l2]) rfl ?_
        refine V.frame (fun hfz_fr_70 hfk_fr_70 => ?_)
        rw [hH0] at hfz_fr_70 hfk_fr_70
        rw [hA0] at hfk_fr_70
        have hC_fr_70 := hC.call (fun q h => h.elim) hfz_fr_70 hfk_fr_70
        have hF_fr_70 : kF κ H0 H_61 (fun _ => False) := ⟨(fun _ h => h.elim), hfz_fr_70, hfk_fr_70⟩
        obtain ⟨md_71, g_72, hA_73, hel_74, hSl_75, hSb_76⟩ := id hl_67
        have hal_77 := al_k k (show k < 10 by omega)
        obtain ⟨md_83, g_84, hA_85, -⟩ := id hl_67
        refine v_callV E (As := [.ref qm]) (b := l2) (ci := 5) (C := RJ2) (T := TJ2) (N := 3) hA_85.1 rfl (j_addB κ H_61 hC_fr_70 (show k < 15 by omega) hBm.oA hA_73) (lw_V q208 q209 q210 q73 q211) 1 (by decide +kernel) rfl (by decide) (by decide) (cb' := (((((cb - 0) - 0) - 0) - 3) - alM k)) (sb' := (((((sb - 0) - 0) - 0) - (2 * (N + 1) + 7)) - alS k)) (by omega) (by omega) rfl (rest := []) (Nat.le_of_ble_eq_true rfl) (fun q h => hNew q (h.elim (fun h => by rw [h]; exact Nat.le_trans (Nat.le_refl _) hSl_75) (fun h => by rw [h.1]; exact Nat.le_trans (Nat.le_refl _) (hSb_76 h.2)))) dX1_derived_32 (fun v_78 H_79 hpost_80 hz_81 hk_82 => ?_)
        obtain ⟨rfl, b_86, md_87, g_88, hA_89, hg_90, hgn_91, hb_92⟩ := hpost_80
        have hF_93 := (kF.lst hA_73 (fun q h => h.imp id (fun h => ⟨h.1, capR_pos h.2⟩)) hz_81 hk_82)
        have hl_94 := BI.kf hC.D hF_93 hl_68
        have hl_95 := BI.kf hC.D hF_93 hl_69
        have hl_96 := BI.kf hC.D hF_93 hBm
        have hv_98 := BI.kf hC.D hF_93 hBm
        have hLB_97 : LB κ H0.size (eB κ (fun k => P.2 (k + 1) * ((k : Int) + 1))) H_79 l2 b_86 (k + 1) := LB.step (fun k9 hk9 => (hel_74 k9 hk9).elim (fun y hy => ⟨y, hy.1, (eB_L κ _) _ _ _ _ _ hC_fr_70 hF_93 aD.f hy.2⟩)) hv_98 hA_89 hg_90 hgn_91 hSl_75 (hb_92.elim (fun h => by rw [h.1]; exact hSb_76 h.2) (fun h => Nat.le_trans (show H0.size ≤ Array.size H_61 from hfz_fr_70) h))
        refine V.eq (st' := [vi 1]) rfl ?_
        refine v_pop E rfl dX1_derived_35 ?_
        refine v_iinc E 0 rfl dX1_derived_36 (zlt hL rfl) (lv' := [(2, vi (((k : Int) + 1) + 1)), (1, .ref l2), (0, .ref p)]) rfl ?_
        refine v_goto E (tgt := 10) dX1_derived_39 (by decide) ?_
        exact V.eqL (by rfl) (ih_10  H_79 (k + 1) _ (((((cb - 0) - 0) - 0) - 3) - alM k) (((((sb - 0) - 0) - 0) - (2 * (N + 1) + 7)) - alS k) (by omega) (by omega) (by have e1 := mulS 3 (P.1 - 1) k (by omega); omega) (by have e1 := mulS (2 * N + 9) (P.1 - 1) k (by omega); omega) hLB_97)
  exact V.eqL (by rfl) (loop_10 ((P.1 - 1) + 1) H_9 0 (κ.2 98) (((3 * (P.1 - 1) + 3) - 1) - 0) ((((2 * N + 9) * (P.1 - 1) + 14) - 3) - 0) (by omega) (Nat.zero_le _) (by rw [al0_0, Nat.sub_zero]; omega) (by rw [al0_0, Nat.sub_zero]; omega) hLB_l2)
