/-! THE COMPONENT'S PUBLIC CALLS: add gcd squareFreePart sign coefficientSignChanges -/
def xoGcd (S : Nat → Pl) (a b t : Int) : zRc := if (0 ≤ a ∧ a < 5) ∧ (0 ≤ b ∧ b < 5) ∧ (0 ≤ t ∧ t < 5) then storeR (cDiv (S a.toNat) (S b.toNat)) t.toNat 2 S else (0, 1, S)
def xoSign (S : Nat → Pl) (a n k : Int) : zRc := if 0 ≤ a ∧ a < 5 then (if (-1000000 ≤ n ∧ n ≤ 1000000) ∧ (0 ≤ k ∧ k ≤ 12) then (cSg (S a.toNat) n k.toNat, 0, S) else (0, 2, S)) else (0, 1, S)
def xoCsc (S : Nat → Pl) (a : Int) : zRc := if 0 ≤ a ∧ a < 5 then (((chG (fun i => ((S a.toNat).2 i).sign) (S a.toNat).1 : Nat) : Int), 0, S) else (0, 1, S)
theorem sgL_7 {N K n : Nat} (h : n ≤ 7) : sgL N K n ≤ 8 + (4 * K + N + 28) * 6 := by
  unfold sgL
  have := Nat.mul_le_mul_left (4 * K + N + 28) (show n - 1 ≤ 6 by omega)
  omega
set_option maxHeartbeats 1000000 in
set_option maxRecDepth 100000 in
/-- add -/
theorem c_add (κ : zK) (H0 : Heap) {x : Nat} {S : Nat → Pl} {isoP : Option Pl} {n cap : Nat} {iv : Nat → Ivl} {v0 : Int} (hrv0 : rI v0) {v1 : Int} (hrv1 : rI v1) {v2 : Int} (hrv2 : rI v2) (hC : CO κ H0) (hok : bC5 S) (hP : CP κ H0 x S isoP n cap iv)  : MtX κ yX1_add cX1_add 6 (some .int) 7 158 50 230 H0 [.ref x, vi v0, vi v1, vi v2] (pA κ H0) (fun v H1 => (xoAdd S v0 v1 v2).2.1 = 0 ∧ v = some (vi (xoAdd S v0 v1 v2).1) ∧ CP κ H1 x (xoAdd S v0 v1 v2).2.2 isoP n cap iv) (fun C H1 => (C = "java/lang/IndexOutOfBoundsException" ∧ (xoAdd S v0 v1 v2).2.1 = 1 ∨ C = "java/lang/IllegalStateException" ∧ (xoAdd S v0 v1 v2).2.1 = 2) ∧ CP κ H1 x S isoP n cap iv) := by
  refine MtX.of (by decide) (Nat.le_of_ble_eq_true rfl) ?_
  intro z E X9 hE hH0 hA0 hL hini
  have hAll : ∀ q, (pA κ H0) q → zA z.A z.H0 q := fun q h => Or.inl (by rw [hA0]; exact h)
  have hNew : ∀ q, H0.size ≤ q → zA z.A z.H0 q := fun q h => Or.inr (by rw [hH0]; exact h)
  have E : zOK z cX1_add RX1 κ 7 158 (some .int) := E
  refine V.eqL (lv' := [(0, .ref x), (1, vi v0), (2, vi v1), (3, vi v2)]) rfl ?_
  obtain ⟨ls, bs, li, bi, a, iso, T, hS, hST, hiso⟩ := hP
  have hA93 : ∀ q, pA κ H0 q → κ.2 93 ≤ q := fun q h => h.1
  have hD := hC.D
  have hsl0 := hS.sl
  have hokT : ∀ k, k < 5 → okP (T (a k)) := fun k hk => by rw [← hST k hk]; exact (hok k hk).2
  have hSt := CS.mono (D' := fun q => dS ls bs li bi q ∧ q < Array.size H0) hS (fun q h1 h2 => ⟨h2, h1⟩)
  refine v_iload_n E 1 rfl dX1_add_0 ?_
  refine V.frame (fun hfz_fr_1 hfk_fr_1 => ?_)
  rw [hH0] at hfz_fr_1 hfk_fr_1
  rw [hA0] at hfk_fr_1
  have hC_fr_1 := hC.call hA93 hfz_fr_1 hfk_fr_1
  refine v_callSX E X9 hE (As := [vi v0]) (x_slot κ H0 hrv0) (lw_S q570 q571 q70 q572) 1 (by decide +kernel) rfl (by decide) (by decide) (cb' := 49) (sb' := 224) (by decide) (by decide) rfl (rest := []) (Nat.le_of_ble_eq_true rfl) (fun q h => h.elim) dX1_add_1 (fun C9 H9 hx9 hz9 hk9 => by exact ⟨Or.inl (⟨hx9.1, (by have hx8 := hx9.2; unfold xoAdd; first | (split <;> first | rfl | (exfalso; omega) | (split <;> first | rfl | (exfalso; omega) | (split <;> first | rfl | (exfalso; omega)))))⟩), CS.pub (CS.kf0 hC_fr_1 (kF.ext hz9 hk9) (CS.mono (D' := dS ls bs li bi) hSt (fun q h1 h2 => h2.1))) hST hiso⟩) (fun v_2 H_3 hpost_4 hz_5 hk_6 => ?_)
  obtain ⟨rfl, hsv0⟩ := hpost_4
  have hl_7 := CS.kf0 hC_fr_1 (kF.ext hz_5 hk_6) hSt
  obtain ⟨i0, hni0⟩ : ∃ i0 : Nat, v0 = (i0 : Int) := ⟨v0.toNat, by omega⟩
  subst hni0
  have hii0 : i0 < 5 := by omega
  refine V.eq (st' := []) rfl ?_
  refine v_iload_n E 2 rfl dX1_add_4 ?_
  refine V.frame (fun hfz_fr_8 hfk_fr_8 => ?_)
  rw [hH0] at hfz_fr_8 hfk_fr_8
  rw [hA0] at hfk_fr_8
  have hC_fr_8 := hC.call hA93 hfz_fr_8 hfk_fr_8
  refine v_callSX E X9 hE (As := [vi v1]) (x_slot κ H_3 hrv1) (lw_S q570 q571 q70 q572) 1 (by decide +kernel) rfl (by decide) (by decide) (cb' := 48) (sb' := 218) (by decide) (by decide) rfl (rest := []) (Nat.le_of_ble_eq_true rfl) (fun q h => h.elim) dX1_add_5 (fun C9 H9 hx9 hz9 hk9 => by exact ⟨Or.inl (⟨hx9.1, (by have hx8 := hx9.2; unfold xoAdd; first | (split <;> first | rfl | (exfalso; omega) | (split <;> first | rfl | (exfalso; omega) | (split <;> first | rfl | (exfalso; omega)))))⟩), CS.pub (CS.kf0 hC_fr_8 (kF.ext hz9 hk9) (CS.mono (D' := dS ls bs li bi) hl_7 (fun q h1 h2 => h2.1))) hST hiso⟩) (fun v_9 H_10 hpost_11 hz_12 hk_13 => ?_)
  obtain ⟨rfl, hsv1⟩ := hpost_11
  have hl_14 := CS.kf0 hC_fr_8 (kF.ext hz_12 hk_13) hl_7
  obtain ⟨i1, hni1⟩ : ∃ i1 : Nat, v1 = (i1 : Int) := ⟨v1.toNat, by omega⟩
  subst hni1
  have hii1 : i1 < 5 := by omega
  refine V.eq (st' := []) rfl ?_
  refine v_iload_n E 3 rfl dX1_add_8 ?_
  refine V.frame (fun hfz_fr_15 hfk_fr_15 => ?_)
  rw [hH0] at hfz_fr_15 hfk_fr_15
  rw [hA0] at hfk_fr_15
  have hC_fr_15 := hC.call hA93 hfz_fr_15 hfk_fr_15
  refine v_callSX E X9 hE (As := [vi v2]) (x_slot κ H_10 hrv2) (lw_S q570 q571 q70 q572) 1 (by decide +kernel) rfl (by decide) (by decide) (cb' := 47) (sb' := 212) (by decide) (by decide) rfl (rest := []) (Nat.le_of_ble_eq_true rfl) (fun q h => h.elim) dX1_add_9 (fun C9 H9 hx9 hz9 hk9 => by exact ⟨Or.inl (⟨hx9.1, (by have hx8 := hx9.2; unfold xoAdd; first | (split <;> first | rfl | (exfalso; omega) | (split <;> first | rfl | (exfalso; omega) | (split <;> first | rfl | (exfalso; omega)))))⟩), CS.pub (CS.kf0 hC_fr_15 (kF.ext hz9 hk9) (CS.mono (D' := dS ls bs li bi) hl_14 (fun q h1 h2 => h2.1))) hST hiso⟩) (fun v_16 H_17 hpost_18 hz_19 hk_20 => ?_)
  obtain ⟨rfl, hsv2⟩ := hpost_18
  have hl_21 := CS.kf0 hC_fr_15 (kF.ext hz_19 hk_20) hl_14
  obtain ⟨i2, hni2⟩ : ∃ i2 : Nat, v2 = (i2 : Int) := ⟨v2.toNat, by omega⟩
  subst hni2
  have hii2 : i2 < 5 := by omega
  refine V.eq (st' := []) rfl ?_
  refine V.frame (fun hfz_fr_22 hfk_fr_22 => ?_)
  rw [hH0] at hfz_fr_22 hfk_fr_22
  rw [hA0] at hfk_fr_22
  have hC_fr_22 := hC.call hA93 hfz_fr_22 hfk_fr_22
  refine V.frame (fun hfz_fr_23 hfk_fr_23 => ?_)
  rw [hH0] at hfz_fr_23 hfk_fr_23
  rw [hA0] at hfk_fr_23
  refine v_new E in_J2 tyJ2 tyJ2_ok q113 q114 q73 (ci := 5) rfl (fs := [vi 0, .null, vi 0]) (fun j hj => by rcases (show j = 0 ∨ j = 1 ∨ j = 2 by omega) with rfl | rfl | rfl <;> rfl) (cb' := 46) (sb' := 209) (by decide) (by decide) dX1_add_12 (fun l2 H_24 hq_27 ho_25 hg_26 => ?_)
  refine v_dup E rfl dX1_add_15 ?_
  refine V.frame (fun hfz_fr_28 hfk_fr_28 => ?_)
  rw [hH0] at hfz_fr_28 hfk_fr_28
  rw [hA0] at hfk_fr_28
  have hC_fr_28 := hC.call hA93 hfz_fr_28 hfk_fr_28
  have h93_l2 : κ.2 93 ≤ l2 := Nat.le_trans hC.le (by omega)
  refine v_callI E (As := []) (b := l2) (j_init κ H_24 h93_l2 hC_fr_28 ho_25) q117 q73 q115 q116 rfl 0 (by decide +kernel) rfl (by decide) (by decide) (cb' := 46) (sb' := 209) (by decide) (by decide) rfl (rest := [.ref l2]) (Nat.le_of_ble_eq_true rfl) (fun q h => hNew q (by rw [show q = l2 from h]; omega)) dX1_add_16 (fun v_29 H_30 hpost_31 hz_32 hk_33 => ?_)
  obtain ⟨rfl, hA_l2⟩ := hpost_31
  have hkN_34 : ∀ q9 : Nat, q9 < Array.size H_17 → ¬ (fun _ => False : Nat → Prop) q9 → H_30[q9]? = H_17[q9]? := fun q9 h9 _ => (hk_33 q9 (by rw [hg_26.1]; omega) (fun h => by have h8 : q9 = l2 := h; omega)).trans (hg_26.2 q9 h9)
  have hl_35 := CS.kf0 hC_fr_22 (kF.ext (by have := hg_26.1; omega) hkN_34) hl_21
  have hLB_l2 := LB.nil (S := H0.size) (E := (eB κ (fun k => (T (a i0)).2 k + (T (a i1)).2 k))) hA_l2 (by omega)
  refine V.eq (st' := [.ref l2]) rfl ?_
  refine v_astore E dX1_add_19 (zlt hL rfl) (lv' := [(4, .ref l2), (0, .ref x), (1, vi ((i0 : Nat) : Int)), (2, vi ((i1 : Nat) : Int)), (3, vi ((i2 : Nat) : Int))]) rfl ?_
  refine v_iconst E dX1_add_21 ?_
  refine v_istore E dX1_add_22 (zlt hL rfl) (lv' := [(5, vi 0), (4, .ref l2), (0, .ref x), (1, vi ((i0 : Nat) : Int)), (2, vi ((i1 : Nat) : Int)), (3, vi ((i2 : Nat) : Int))]) rfl ?_
  have loop_24 : ∀ (m_24 : Nat) (H : Heap) (k b2 cb sb : Nat), 7 - k < m_24 → (k ≤ 7) → (20 + 3 * (7 - k) + al0 k ≤ cb) → (120 + 9 * (7 - k) + 10 * al0 k ≤ sb) → LB κ H0.size (eB κ (fun k => (T (a i0)).2 k + (T (a i1)).2 k)) H l2 b2 k → CS κ (fun q => dS ls bs li bi q ∧ q < Array.size H0) H x ls bs li bi a iso T n cap iv → V z H cb sb 24 [(5, vi (k : Int)), (4, .ref l2), (3, vi ((i2 : Nat) : Int)), (2, vi ((i1 : Nat) : Int)), (1, vi ((i0 : Nat) : Int)), (0, .ref x)] [] := by
    intro m_24
    induction m_24 with
    | zero => intro H k b2 cb sb hm; exact absurd hm (by omega)
    | succ m_24 ih_24 =>
      intro H k b2 cb sb hm_24 hk hcb hsb hR hS2
      refine v_iload E 0 rfl dX1_add_24 ?_
      refine v_bipush E ⟨by decide, by decide⟩ dX1_add_26 ?_
      refine v_icmp_gt E (tgt := 66) dX1_add_28 (by decide) ⟨by omega, by omega⟩ ⟨by omega, by omega⟩ (fun c_28 => ?_) (fun c_28 => ?_)
      · have hkn2 : k = 7 := by omega
        have hR_36 := hkn2 ▸ hR
        refine v_aload_n E 5 rfl dX1_add_66 ?_
        refine v_iload_n E 2 rfl dX1_add_67 ?_
        refine V.frame (fun hfz_fr_37 hfk_fr_37 => ?_)
        rw [hH0] at hfz_fr_37 hfk_fr_37
        rw [hA0] at hfk_fr_37
        have hC_fr_37 := hC.call hA93 hfz_fr_37 hfk_fr_37
        refine V.frame (fun hfz_fr_38 hfk_fr_38 => ?_)
        rw [hH0] at hfz_fr_38 hfk_fr_38
        rw [hA0] at hfk_fr_38
        refine v_new E in_X3 tyX3 tyX3_ok q145 q146 q75 (ci := 2) rfl (fs := [.null]) (fun j hj => by rcases (show j = 0 by omega) with rfl <;> rfl) (cb' := (cb - 1)) (sb' := (sb - 1)) (by omega) (by omega) dX1_add_68 (fun pn H_39 hq_42 ho_40 hg_41 => ?_)
        refine v_dup E rfl dX1_add_71 ?_
        refine v_aload E 1 rfl dX1_add_72 ?_
        refine V.frame (fun hfz_fr_43 hfk_fr_43 => ?_)
        rw [hH0] at hfz_fr_43 hfk_fr_43
        rw [hA0] at hfk_fr_43
        have hC_fr_43 := hC.call hA93 hfz_fr_43 hfk_fr_43
        have hLB_44 := LB.kf (eB_L κ _) hC_fr_37 (kF.grow hg_41) aD.no aD.no hR_36
        refine v_callI E (As := [.ref l2]) (b := pn) (p_init κ H_39 (D := (dS ls bs li bi)) (n := 7) (c := fun k => (T (a i0)).2 k + (T (a i1)).2 k) hC_fr_43 (Nat.le_trans hC.le (by omega)) (by omega) (fun q h => by have h2 := hsl0; exact ⟨by omega, by omega, by omega, by omega⟩) hC.le ho_40 hLB_44) q149 q75 q147 q148 rfl 1 (by decide +kernel) rfl (by decide) (by decide) (cb' := ((cb - 1) - 0)) (sb' := ((sb - 1) - 0)) (by omega) (by omega) rfl (rest := [.ref pn, vi ((i2 : Nat) : Int), .ref x]) (Nat.le_of_ble_eq_true rfl) (fun q h => hNew q (h.elim (fun h => by rw [h]; omega) (fun h => h.elim (fun h => by rw [h]; exact (hR_36).choose_spec.choose_spec.2.2.1) (fun h => by rw [h.1]; exact (hR_36).choose_spec.choose_spec.2.2.2 h.2)))) dX1_add_74 (fun v_45 H_46 hpost_47 hz_48 hk_49 => ?_)
        obtain ⟨rfl, hPo_pn⟩ := hpost_47
        obtain ⟨md_51, g_52, hA_53, -, hSl_54, hSb_55⟩ := id hR_36
        have hkN_50 : ∀ q9 : Nat, q9 < Array.size H → ¬ (q9 = l2 ∨ (q9 = b2 ∧ 0 < 7)) → H_46[q9]? = H[q9]? := fun q9 h9 h8 => (hk_49 q9 (by rw [hg_41.1]; omega) (fun h => h.elim (fun h => by omega) h8)).trans (hg_41.2 q9 h9)
        have hF_56 : kF κ H H_46 (fun q => q = l2 ∨ (q = b2 ∧ 0 < 7)) := kF.lst hA_53 (fun q h => h.imp id (fun h => ⟨h.1, capR_pos h.2⟩)) (by have := hg_41.1; omega) hkN_50
        have hl_57 := CS.kf hC_fr_37 hF_56 (aD.nn (fun q h hd => absurd hd.2 (Nat.not_lt.mpr (h.elim (fun e => by rw [e]; exact hSl_54) (fun e => by rw [e.1]; exact hSb_55 e.2))))) (fun q h => by have h1 : H0.size ≤ q := h.elim (fun e => by rw [e]; exact hSl_54) (fun e => by rw [e.1]; exact hSb_55 e.2); have h3 := hsl0; exact ⟨by omega, by omega, by omega, by omega, fun _ => by omega⟩) hS2
        refine V.eq (st' := [.ref pn, vi ((i2 : Nat) : Int), .ref x]) rfl ?_
        have hSo_58 := CS.mono (D' := dS ls bs li bi) hl_57 (fun q h1 h2 => h2.1)
        have hop : xoAdd S (i0 : Int) (i1 : Int) (i2 : Int) = storeR (mkP 7 (fun k => (T (a i0)).2 k + (T (a i1)).2 k)) i2 2 S := by unfold xoAdd; rw [if_pos ⟨⟨by omega, by omega⟩, ⟨by omega, by omega⟩, by omega, by omega⟩]; show storeR (mkP 7 (fun k => (S i0).2 k + (S i1).2 k)) i2 2 S = _; rw [hST i0 hii0, hST i1 hii1]
        refine V.frame (fun hfz_fr_59 hfk_fr_59 => ?_)
        rw [hH0] at hfz_fr_59 hfk_fr_59
        rw [hA0] at hfk_fr_59
        have hC_fr_59 := hC.call hA93 hfz_fr_59 hfk_fr_59
        obtain ⟨md_61, g_62, hA_60, hg_63⟩ := hSo_58.2.2.1
        refine v_callVX E X9 hE (As := [vi ((i2 : Nat) : Int), .ref pn]) (b := x) (ci := 0) (C := RX1) (T := TX1) (N := 3) hSo_58.2.1 rfl (x_store κ H_46 hii2 hC_fr_59 dS_bs hPo_pn hSo_58) (lw_V q612 q614 qs9 q70 q615) 2 (by decide +kernel) rfl (by decide) (by decide) (cb' := (((cb - 1) - 0) - 18)) (sb' := (((sb - 1) - 0) - 110)) (by omega) (by omega) rfl (rest := []) (Nat.le_of_ble_eq_true rfl) (fun q h => by have h9 := pA.arr hfk_fr_59 hA_60.2.1 (hA_60.2.2.2.2.2.2.2.2.1 (by decide)); rw [← show q = bs from h] at h9; exact h9.elim (fun e => hAll q e) (fun e => hNew q e)) dX1_add_77 (fun C9 H9 hx9 hz9 hk9 => (by exact ⟨Or.inr (⟨hx9.1, by rw [hop, storeR_n hPo_pn.1 hx9.2.1]⟩), CS.pub hx9.2.2 hST hiso⟩)) (fun v_64 H_65 hpost_66 hz_67 hk_68 => ?_)
        obtain ⟨hok9, rfl, kq, hkq9, hS9⟩ := hpost_66
        refine V.eq (st' := [vi (((Prod.fst (mkP 7 (fun k => (T (a i0)).2 k + (T (a i1)).2 k)) : Nat) : Int) - 1)]) rfl ?_
        refine V.rt E hE (fun z9 E hE => ?_)
        refine v_iret E hE dX1_add_80 ?_
        rw [hop, storeR_y hok9]; exact ⟨rfl, rfl, CS.pubT hSo_58 hkq9 hS9 hST hiso⟩
      · refine v_aload E 1 rfl dX1_add_31 ?_
        refine v_aload_n E 5 rfl dX1_add_33 ?_
        refine v_iload_n E 4 rfl dX1_add_34 ?_
        refine V.frame (fun hfz_fr_71 hfk_fr_71 => ?_)
        rw [hH0] at hfz_fr_71 hfk_fr_71
        rw [hA0] at hfk_fr_71
        have hC_fr_71 := hC.call hA93 hfz_fr_71 hfk_fr_71
        refine v_callV E (As := [vi ((i0 : Nat) : Int)]) (b := x) (ci := 0) (C := RX1) (T := TX1) (N := 3) hS2.2.1 rfl (x_poly κ H (i := i0) hii0 hC_fr_71 hS2) (lw_V q606 q608 qs8 q70 q609) 1 (by decide +kernel) rfl (by decide) (by decide) (cb' := (cb - 0)) (sb' := (sb - 0)) (by omega) (by omega) rfl (rest := [.ref l2]) (Nat.le_of_ble_eq_true rfl) (fun q h => h.elim) dX1_add_35 (fun v_72 H_73 hpost_74 hz_75 hk_76 => ?_)
        obtain ⟨pk_69, rfl, hpk_70⟩ := hpost_74
        have hl_77 := LB.kf (eB_L κ _) hC_fr_71 (kF.ext hz_75 hk_76) aD.f aD.no hR
        have hl_78 := CS.kf0 hC_fr_71 (kF.ext hz_75 hk_76) hS2
        refine V.eq (st' := [.ref pk_69, .ref l2]) rfl ?_
        refine v_iload E 0 rfl dX1_add_38 ?_
        refine V.frame (fun hfz_fr_81 hfk_fr_81 => ?_)
        rw [hH0] at hfz_fr_81 hfk_fr_81
        rw [hA0] at hfk_fr_81
        have hC_fr_81 := hC.call hA93 hfz_fr_81 hfk_fr_81
        obtain ⟨-, -, l_88, ho_87, -⟩ := id hpk_70
        refine v_callV E (As := [vi (k : Int)]) (b := pk_69) (ci := 2) (C := RX3) (T := TX3) (N := 1) ho_87 rfl (p_at κ H_73 (i := k) (by omega) hC_fr_81 hpk_70) (lw_V q467 q468 q469 q75 q470) 1 (by decide +kernel) rfl (by decide) (by decide) (cb' := ((cb - 0) - 0)) (sb' := ((sb - 0) - 0)) (by omega) (by omega) rfl (rest := [.ref l2]) (Nat.le_of_ble_eq_true rfl) (fun q h => h.elim) dX1_add_40 (fun v_82 H_83 hpost_84 hz_85 hk_86 => ?_)
        obtain ⟨qa_79, rfl, hBa_80⟩ := hpost_84
        have hl_89 := LB.kf (eB_L κ _) hC_fr_81 (kF.ext hz_85 hk_86) aD.f aD.no hl_77
        have hl_90 := CS.kf0 hC_fr_81 (kF.ext hz_85 hk_86) hl_78
        have hl_91 := Po.kf hC_fr_81 (kF.ext hz_85 hk_86) aD.no hpk_70
        refine V.eq (st' := [.ref qa_79, .ref l2]) rfl ?_
        refine v_aload_n E 5 rfl dX1_add_43 ?_
        refine v_iload_n E 3 rfl dX1_add_44 ?_
        refine V.frame (fun hfz_fr_94 hfk_fr_94 => ?_)
        rw [hH0] at hfz_fr_94 hfk_fr_94
        rw [hA0] at hfk_fr_94
        have hC_fr_94 := hC.call hA93 hfz_fr_94 hfk_fr_94
        refine v_callV E (As := [vi ((i1 : Nat) : Int)]) (b := x) (ci := 0) (C := RX1) (T := TX1) (N := 3) hl_90.2.1 rfl (x_poly κ H_83 (i := i1) hii1 hC_fr_94 hl_90) (lw_V q606 q608 qs8 q70 q609) 1 (by decide +kernel) rfl (by decide) (by decide) (cb' := (((cb - 0) - 0) - 0)) (sb' := (((sb - 0) - 0) - 0)) (by omega) (by omega) rfl (rest := [.ref qa_79, .ref l2]) (Nat.le_of_ble_eq_true rfl) (fun q h => h.elim) dX1_add_45 (fun v_95 H_96 hpost_97 hz_98 hk_99 => ?_)
        obtain ⟨pk_92, rfl, hpk_93⟩ := hpost_97
        have hl_100 := LB.kf (eB_L κ _) hC_fr_94 (kF.ext hz_98 hk_99) aD.f aD.no hl_89
        have hl_101 := CS.kf0 hC_fr_94 (kF.ext hz_98 hk_99) hl_90
        have hl_102 := Po.kf hC_fr_94 (kF.ext hz_98 hk_99) aD.no hl_91
        have hl_103 := BI.kf hC.D (kF.ext hz_98 hk_99) hBa_80
        refine V.eq (st' := [.ref pk_92, .ref qa_79, .ref l2]) rfl ?_
        refine v_iload E 0 rfl dX1_add_48 ?_
        refine V.frame (fun hfz_fr_106 hfk_fr_106 => ?_)
        rw [hH0] at hfz_fr_106 hfk_fr_106
        rw [hA0] at hfk_fr_106
        have hC_fr_106 := hC.call hA93 hfz_fr_106 hfk_fr_106
        obtain ⟨-, -, l_113, ho_112, -⟩ := id hpk_93
        refine v_callV E (As := [vi (k : Int)]) (b := pk_92) (ci := 2) (C := RX3) (T := TX3) (N := 1) ho_112 rfl (p_at κ H_96 (i := k) (by omega) hC_fr_106 hpk_93) (lw_V q467 q468 q469 q75 q470) 1 (by decide +kernel) rfl (by decide) (by decide) (cb' := ((((cb - 0) - 0) - 0) - 0)) (sb' := ((((sb - 0) - 0) - 0) - 0)) (by omega) (by omega) rfl (rest := [.ref qa_79, .ref l2]) (Nat.le_of_ble_eq_true rfl) (fun q h => h.elim) dX1_add_50 (fun v_107 H_108 hpost_109 hz_110 hk_111 => ?_)
        obtain ⟨qa_104, rfl, hBa_105⟩ := hpost_109
        have hl_114 := LB.kf (eB_L κ _) hC_fr_106 (kF.ext hz_110 hk_111) aD.f aD.no hl_100
        have hl_115 := CS.kf0 hC_fr_106 (kF.ext hz_110 hk_111) hl_101
        have hl_116 := Po.kf hC_fr_106 (kF.ext hz_110 hk_111) aD.no hl_102
        have hl_117 := BI.kf hC.D (kF.ext hz_110 hk_111) hl_103
        have hl_118 := Po.kf hC_fr_106 (kF.ext hz_110 hk_111) aD.no hpk_93
        refine V.eq (st' := [.ref qa_104, .ref qa_79, .ref l2]) rfl ?_
        refine V.frame (fun hfz_fr_119 hfk_fr_119 => ?_)
        rw [hH0] at hfz_fr_119 hfk_fr_119
        rw [hA0] at hfk_fr_119
        have hC_fr_119 := hC.call hA93 hfz_fr_119 hfk_fr_119
        obtain ⟨mz_126, nz_126, cfz_126, ⟨c1z_126, c2z_126, c3z_126, ho_125⟩, -⟩ := id hl_117
        refine v_callV E (As := [.ref qa_104]) (b := qa_79) (ci := 6) (C := RJ16) (T := TJ16) (N := 6) ho_125 rfl (g_add κ H_108 (N := 1) hC_fr_119 hl_117 hBa_105 ((hokT i0 hii0).lt k) ((hokT i1 hii1).lt k) (sB_add (by have := (hokT i0 hii0).2 k; omega) (by have := (hokT i1 hii1).2 k; omega))) (lw_V q704 q705 q706 q91 q707) 1 (by decide +kernel) rfl (by decide) (by decide) (cb' := (((((cb - 0) - 0) - 0) - 0) - 3)) (sb' := (((((sb - 0) - 0) - 0) - 0) - 9)) (by omega) (by omega) rfl (rest := [.ref l2]) (Nat.le_of_ble_eq_true rfl) (fun q h => h.elim) dX1_add_53 (fun v_120 H_121 hpost_122 hz_123 hk_124 => ?_)
        obtain ⟨qs, rfl, hBs⟩ := hpost_122
        have hl_127 := LB.kf (eB_L κ _) hC_fr_119 (kF.ext hz_123 hk_124) aD.f aD.no hl_114
        have hl_128 := CS.kf0 hC_fr_119 (kF.ext hz_123 hk_124) hl_115
        have hl_129 := Po.kf hC_fr_119 (kF.ext hz_123 hk_124) aD.no hl_116
        have hl_130 := BI.kf hC.D (kF.ext hz_123 hk_124) hl_117
        have hl_131 := Po.kf hC_fr_119 (kF.ext hz_123 hk_124) aD.no hl_118
        have hl_132 := BI.kf hC.D (kF.ext hz_123 hk_124) hBa_105
        refine V.eq (st' := [.ref qs, .ref l2]) rfl ?_
        refine V.frame (fun hfz_fr_133 hfk_fr_133 => ?_)
        rw [hH0] at hfz_fr_133 hfk_fr_133
        rw [hA0] at hfk_fr_133
        have hC_fr_133 := hC.call hA93 hfz_fr_133 hfk_fr_133
        obtain ⟨md_134, g_135, hA_136, hel_137, hSl_138, hSb_139⟩ := id hl_127
        have hal_140 := al_k k (show k < 10 by omega)
        obtain ⟨md_146, g_147, hA_148, -⟩ := id hl_127
        refine v_callV E (As := [.ref qs]) (b := l2) (ci := 5) (C := RJ2) (T := TJ2) (N := 3) hA_148.1 rfl (j_addB κ H_121 hC_fr_133 (show k < 15 by omega) hBs.oA hA_136) (lw_V q208 q209 q210 q73 q211) 1 (by decide +kernel) rfl (by decide) (by decide) (cb' := ((((((cb - 0) - 0) - 0) - 0) - 3) - alM k)) (sb' := ((((((sb - 0) - 0) - 0) - 0) - 9) - alS k)) (by omega) (by omega) rfl (rest := []) (Nat.le_of_ble_eq_true rfl) (fun q h => hNew q (h.elim (fun h => by rw [h]; exact Nat.le_trans (Nat.le_refl _) hSl_138) (fun h => by rw [h.1]; exact Nat.le_trans (Nat.le_refl _) (hSb_139 h.2)))) dX1_add_56 (fun v_141 H_142 hpost_143 hz_144 hk_145 => ?_)
        obtain ⟨rfl, b_149, md_150, g_151, hA_152, hg_153, hgn_154, hb_155⟩ := hpost_143
        have hF_156 := (kF.lst hA_136 (fun q h => h.imp id (fun h => ⟨h.1, capR_pos h.2⟩)) hz_144 hk_145)
        have hl_157 := CS.kf hC_fr_133 hF_156 (aD.nn (fun q h hd => absurd hd.2 (Nat.not_lt.mpr (h.elim (fun e => by rw [e]; exact hSl_138) (fun e => by rw [e.1]; exact hSb_139 e.2))))) (fun q h => by have h1 : H0.size ≤ q := h.elim (fun e => by rw [e]; exact hSl_138) (fun e => by rw [e.1]; exact hSb_139 e.2); have h3 := hsl0; exact ⟨by omega, by omega, by omega, by omega, fun _ => by omega⟩) hl_128
        have hl_158 := Po.kf hC_fr_133 hF_156 (aD.nn (fun q h hd => absurd hd.2 (Nat.not_lt.mpr (h.elim (fun e => by rw [e]; exact hSl_138) (fun e => by rw [e.1]; exact hSb_139 e.2))))) hl_129
        have hl_159 := BI.kf hC.D hF_156 hl_130
        have hl_160 := Po.kf hC_fr_133 hF_156 (aD.nn (fun q h hd => absurd hd.2 (Nat.not_lt.mpr (h.elim (fun e => by rw [e]; exact hSl_138) (fun e => by rw [e.1]; exact hSb_139 e.2))))) hl_131
        have hl_161 := BI.kf hC.D hF_156 hl_132
        have hl_162 := BI.kf hC.D hF_156 hBs
        have hv_164 := BI.kf hC.D hF_156 hBs
        have hLB_163 : LB κ H0.size (eB κ (fun k => (T (a i0)).2 k + (T (a i1)).2 k)) H_142 l2 b_149 (k + 1) := LB.step (fun k9 hk9 => (hel_137 k9 hk9).elim (fun y hy => ⟨y, hy.1, (eB_L κ _) _ _ _ _ _ hC_fr_133 hF_156 aD.f hy.2⟩)) hv_164 hA_152 hg_153 hgn_154 hSl_138 (hb_155.elim (fun h => by rw [h.1]; exact hSb_139 h.2) (fun h => Nat.le_trans (show H0.size ≤ Array.size H_121 from hfz_fr_133) h))
        refine V.eq (st' := [vi 1]) rfl ?_
        refine v_pop E rfl dX1_add_59 ?_
        refine v_iinc E 0 rfl dX1_add_60 (zlt hL rfl) (lv' := [(5, vi ((k : Int) + 1)), (4, .ref l2), (3, vi ((i2 : Nat) : Int)), (2, vi ((i1 : Nat) : Int)), (1, vi ((i0 : Nat) : Int)), (0, .ref x)]) rfl ?_
        refine v_goto E (tgt := 24) dX1_add_63 (by decide) ?_
        exact ih_24  H_142 (k + 1) _ ((((((cb - 0) - 0) - 0) - 0) - 3) - alM k) ((((((sb - 0) - 0) - 0) - 0) - 9) - alS k) (by omega) (by omega) (by omega) (by omega) hLB_163 hl_157
  refine V.sub [0, 1, 5, 4, 3, 2] (lv' := [(5, vi 0), (4, .ref l2), (3, vi ((i2 : Nat) : Int)), (2, vi ((i1 : Nat) : Int)), (1, vi ((i0 : Nat) : Int)), (0, .ref x)]) rfl ?_
  exact loop_24 (7 + 1) H_30 0 (κ.2 98) 46 209 (by omega) (Nat.zero_le _) (by rw [al0_0]; omega) (by rw [al0_0]; omega) hLB_l2 hl_35

set_option maxHeartbeats 400000 in
set_option maxRecDepth 100000 in
/-- gcd -/
theorem c_gcd (κ : zK) (H0 : Heap) {x : Nat} {S : Nat → Pl} {isoP : Option Pl} {n cap : Nat} {iv : Nat → Ivl} {v0 : Int} (hrv0 : rI v0) {v1 : Int} (hrv1 : rI v1) {v2 : Int} (hrv2 : rI v2) (hC : CO κ H0) {N : Nat → Nat → Nat} {M : Nat → Nat} {C0 L0 : Nat} (hok : bC5 S) (hT : okT N M) (hfit : ∀ i j, i < 5 → j < 5 → fitD (S i) (S j) N M ∧ dvC N M 9 (S i).1 (S j).1 ≤ C0 ∧ dvL N M 9 (S i).1 (S j).1 ≤ L0) (hP : CP κ H0 x S isoP n cap iv)  : MtX κ yX1_gcd cX1_gcd 4 (some .int) 13 361 (22 + C0) (130 + L0) H0 [.ref x, vi v0, vi v1, vi v2] (pA κ H0) (fun v H1 => (xoGcd S v0 v1 v2).2.1 = 0 ∧ v = some (vi (xoGcd S v0 v1 v2).1) ∧ CP κ H1 x (xoGcd S v0 v1 v2).2.2 isoP n cap iv) (fun C H1 => (C = "java/lang/IndexOutOfBoundsException" ∧ (xoGcd S v0 v1 v2).2.1 = 1 ∨ C = "java/lang/IllegalStateException" ∧ (xoGcd S v0 v1 v2).2.1 = 2) ∧ CP κ H1 x S isoP n cap iv) := by
  refine MtX.of (by decide) (Nat.le_of_ble_eq_true rfl) ?_
  intro z E X9 hE hH0 hA0 hL hini
  have hAll : ∀ q, (pA κ H0) q → zA z.A z.H0 q := fun q h => Or.inl (by rw [hA0]; exact h)
  have hNew : ∀ q, H0.size ≤ q → zA z.A z.H0 q := fun q h => Or.inr (by rw [hH0]; exact h)
  have E : zOK z cX1_gcd RX1 κ 13 361 (some .int) := E
  refine V.eqL (lv' := [(0, .ref x), (1, vi v0), (2, vi v1), (3, vi v2)]) rfl ?_
  obtain ⟨ls, bs, li, bi, a, iso, T, hS, hST, hiso⟩ := hP
  have hA93 : ∀ q, pA κ H0 q → κ.2 93 ≤ q := fun q h => h.1
  have hD := hC.D
  have hsl0 := hS.sl
  have hokT : ∀ k, k < 5 → okP (T (a k)) := fun k hk => by rw [← hST k hk]; exact (hok k hk).2
  refine v_iload_n E 1 rfl dX1_gcd_0 ?_
  refine V.frame (fun hfz_fr_1 hfk_fr_1 => ?_)
  rw [hH0] at hfz_fr_1 hfk_fr_1
  rw [hA0] at hfk_fr_1
  have hC_fr_1 := hC.call hA93 hfz_fr_1 hfk_fr_1
  refine v_callSX E X9 hE (As := [vi v0]) (x_slot κ H0 hrv0) (lw_S q570 q571 q70 q572) 1 (by decide +kernel) rfl (by decide) (by decide) (cb' := ((22 + C0) - 1)) (sb' := ((130 + L0) - 6)) (by omega) (by omega) rfl (rest := []) (Nat.le_of_ble_eq_true rfl) (fun q h => h.elim) dX1_gcd_1 (fun C9 H9 hx9 hz9 hk9 => by exact ⟨Or.inl (⟨hx9.1, (by have hx8 := hx9.2; unfold xoGcd; first | (split <;> first | rfl | (exfalso; omega) | (split <;> first | rfl | (exfalso; omega) | (split <;> first | rfl | (exfalso; omega)))))⟩), CS.pub (CS.kf0 hC_fr_1 (kF.ext hz9 hk9) hS) hST hiso⟩) (fun v_2 H_3 hpost_4 hz_5 hk_6 => ?_)
  obtain ⟨rfl, hsv0⟩ := hpost_4
  have hl_7 := CS.kf0 hC_fr_1 (kF.ext hz_5 hk_6) hS
  obtain ⟨i0, hni0⟩ : ∃ i0 : Nat, v0 = (i0 : Int) := ⟨v0.toNat, by omega⟩
  subst hni0
  have hii0 : i0 < 5 := by omega
  refine V.eq (st' := []) rfl ?_
  refine v_iload_n E 2 rfl dX1_gcd_4 ?_
  refine V.frame (fun hfz_fr_8 hfk_fr_8 => ?_)
  rw [hH0] at hfz_fr_8 hfk_fr_8
  rw [hA0] at hfk_fr_8
  have hC_fr_8 := hC.call hA93 hfz_fr_8 hfk_fr_8
  refine v_callSX E X9 hE (As := [vi v1]) (x_slot κ H_3 hrv1) (lw_S q570 q571 q70 q572) 1 (by decide +kernel) rfl (by decide) (by decide) (cb' := (((22 + C0) - 1) - 1)) (sb' := (((130 + L0) - 6) - 6)) (by omega) (by omega) rfl (rest := []) (Nat.le_of_ble_eq_true rfl) (fun q h => h.elim) dX1_gcd_5 (fun C9 H9 hx9 hz9 hk9 => by exact ⟨Or.inl (⟨hx9.1, (by have hx8 := hx9.2; unfold xoGcd; first | (split <;> first | rfl | (exfalso; omega) | (split <;> first | rfl | (exfalso; omega) | (split <;> first | rfl | (exfalso; omega)))))⟩), CS.pub (CS.kf0 hC_fr_8 (kF.ext hz9 hk9) hl_7) hST hiso⟩) (fun v_9 H_10 hpost_11 hz_12 hk_13 => ?_)
  obtain ⟨rfl, hsv1⟩ := hpost_11
  have hl_14 := CS.kf0 hC_fr_8 (kF.ext hz_12 hk_13) hl_7
  obtain ⟨i1, hni1⟩ : ∃ i1 : Nat, v1 = (i1 : Int) := ⟨v1.toNat, by omega⟩
  subst hni1
  have hii1 : i1 < 5 := by omega
  refine V.eq (st' := []) rfl ?_
  refine v_iload_n E 3 rfl dX1_gcd_8 ?_
  refine V.frame (fun hfz_fr_15 hfk_fr_15 => ?_)
  rw [hH0] at hfz_fr_15 hfk_fr_15
  rw [hA0] at hfk_fr_15
  have hC_fr_15 := hC.call hA93 hfz_fr_15 hfk_fr_15
  refine v_callSX E X9 hE (As := [vi v2]) (x_slot κ H_10 hrv2) (lw_S q570 q571 q70 q572) 1 (by decide +kernel) rfl (by decide) (by decide) (cb' := ((((22 + C0) - 1) - 1) - 1)) (sb' := ((((130 + L0) - 6) - 6) - 6)) (by omega) (by omega) rfl (rest := []) (Nat.le_of_ble_eq_true rfl) (fun q h => h.elim) dX1_gcd_9 (fun C9 H9 hx9 hz9 hk9 => by exact ⟨Or.inl (⟨hx9.1, (by have hx8 := hx9.2; unfold xoGcd; first | (split <;> first | rfl | (exfalso; omega) | (split <;> first | rfl | (exfalso; omega) | (split <;> first | rfl | (exfalso; omega)))))⟩), CS.pub (CS.kf0 hC_fr_15 (kF.ext hz9 hk9) hl_14) hST hiso⟩) (fun v_16 H_17 hpost_18 hz_19 hk_20 => ?_)
  obtain ⟨rfl, hsv2⟩ := hpost_18
  have hl_21 := CS.kf0 hC_fr_15 (kF.ext hz_19 hk_20) hl_14
  obtain ⟨i2, hni2⟩ : ∃ i2 : Nat, v2 = (i2 : Int) := ⟨v2.toNat, by omega⟩
  subst hni2
  have hii2 : i2 < 5 := by omega
  refine V.eq (st' := []) rfl ?_
  refine v_aload_n E 0 rfl dX1_gcd_12 ?_
  refine v_iload_n E 3 rfl dX1_gcd_13 ?_
  refine v_aload_n E 0 rfl dX1_gcd_14 ?_
  refine v_iload_n E 1 rfl dX1_gcd_15 ?_
  refine V.frame (fun hfz_fr_24 hfk_fr_24 => ?_)
  rw [hH0] at hfz_fr_24 hfk_fr_24
  rw [hA0] at hfk_fr_24
  have hC_fr_24 := hC.call hA93 hfz_fr_24 hfk_fr_24
  refine v_callV E (As := [vi ((i0 : Nat) : Int)]) (b := x) (ci := 0) (C := RX1) (T := TX1) (N := 3) hl_21.2.1 rfl (x_poly κ H_17 (i := i0) hii0 hC_fr_24 hl_21) (lw_V q606 q608 qs8 q70 q609) 1 (by decide +kernel) rfl (by decide) (by decide) (cb' := (((((22 + C0) - 1) - 1) - 1) - 0)) (sb' := (((((130 + L0) - 6) - 6) - 6) - 0)) (by omega) (by omega) rfl (rest := [vi ((i2 : Nat) : Int), .ref x]) (Nat.le_of_ble_eq_true rfl) (fun q h => h.elim) dX1_gcd_16 (fun v_25 H_26 hpost_27 hz_28 hk_29 => ?_)
  obtain ⟨pk_22, rfl, hpk_23⟩ := hpost_27
  have hl_30 := CS.kf0 hC_fr_24 (kF.ext hz_28 hk_29) hl_21
  refine V.eq (st' := [.ref pk_22, vi ((i2 : Nat) : Int), .ref x]) rfl ?_
  refine v_aload_n E 0 rfl dX1_gcd_19 ?_
  refine v_iload_n E 2 rfl dX1_gcd_20 ?_
  refine V.frame (fun hfz_fr_33 hfk_fr_33 => ?_)
  rw [hH0] at hfz_fr_33 hfk_fr_33
  rw [hA0] at hfk_fr_33
  have hC_fr_33 := hC.call hA93 hfz_fr_33 hfk_fr_33
  refine v_callV E (As := [vi ((i1 : Nat) : Int)]) (b := x) (ci := 0) (C := RX1) (T := TX1) (N := 3) hl_30.2.1 rfl (x_poly κ H_26 (i := i1) hii1 hC_fr_33 hl_30) (lw_V q606 q608 qs8 q70 q609) 1 (by decide +kernel) rfl (by decide) (by decide) (cb' := ((((((22 + C0) - 1) - 1) - 1) - 0) - 0)) (sb' := ((((((130 + L0) - 6) - 6) - 6) - 0) - 0)) (by omega) (by omega) rfl (rest := [.ref pk_22, vi ((i2 : Nat) : Int), .ref x]) (Nat.le_of_ble_eq_true rfl) (fun q h => h.elim) dX1_gcd_21 (fun v_34 H_35 hpost_36 hz_37 hk_38 => ?_)
  obtain ⟨pk_31, rfl, hpk_32⟩ := hpost_36
  have hl_39 := CS.kf0 hC_fr_33 (kF.ext hz_37 hk_38) hl_30
  have hl_40 := Po.kf hC_fr_33 (kF.ext hz_37 hk_38) aD.no hpk_23
  refine V.eq (st' := [.ref pk_31, .ref pk_22, vi ((i2 : Nat) : Int), .ref x]) rfl ?_
  refine V.frame (fun hfz_fr_41 hfk_fr_41 => ?_)
  rw [hH0] at hfz_fr_41 hfk_fr_41
  rw [hA0] at hfk_fr_41
  have hC_fr_41 := hC.call hA93 hfz_fr_41 hfk_fr_41
  have hf9 := hfit i0 i1 hii0 hii1
  rw [hST i0 hii0, hST i1 hii1] at hf9
  refine v_callS E (As := [.ref pk_22, .ref pk_31]) (p_div κ H_35 (D := dS ls bs li bi) (N := N) (M := M) hC_fr_41 (fun q h => by have h2 := hsl0; exact ⟨by omega, by omega, by omega, by omega⟩) (hokT i0 hii0).1 (hokT i1 hii1).1 hT hf9.1 hl_40 hpk_32) (lw_S q1142 q1143 q70 q1144) 2 (by decide +kernel) rfl (by decide) (by decide) (cb' := (((((((22 + C0) - 1) - 1) - 1) - 0) - 0) - C0)) (sb' := (((((((130 + L0) - 6) - 6) - 6) - 0) - 0) - L0)) (by have h9 := hfit i0 i1 hii0 hii1; rw [hST i0 hii0, hST i1 hii1] at h9; omega) (by have h9 := hfit i0 i1 hii0 hii1; rw [hST i0 hii0, hST i1 hii1] at h9; omega) rfl (rest := [vi ((i2 : Nat) : Int), .ref x]) (Nat.le_of_ble_eq_true rfl) (fun q h => h.elim) dX1_gcd_24 (fun v_42 H_43 hpost_44 hz_45 hk_46 => ?_)
  obtain ⟨qd, rfl, hPd⟩ := hpost_44
  have hl_47 := CS.kf0 hC_fr_41 (kF.ext hz_45 hk_46) hl_39
  have hl_48 := Po.kf hC_fr_41 (kF.ext hz_45 hk_46) aD.no hl_40
  have hl_49 := Po.kf hC_fr_41 (kF.ext hz_45 hk_46) aD.no hpk_32
  refine V.eq (st' := [.ref qd, vi ((i2 : Nat) : Int), .ref x]) rfl ?_
  have hop : xoGcd S (i0 : Int) (i1 : Int) (i2 : Int) = storeR (cDiv (T (a i0)) (T (a i1))) i2 2 S := by unfold xoGcd; rw [if_pos ⟨⟨by omega, by omega⟩, ⟨by omega, by omega⟩, by omega, by omega⟩]; show storeR (cDiv (S i0) (S i1)) i2 2 S = _; rw [hST i0 hii0, hST i1 hii1]
  refine V.frame (fun hfz_fr_50 hfk_fr_50 => ?_)
  rw [hH0] at hfz_fr_50 hfk_fr_50
  rw [hA0] at hfk_fr_50
  have hC_fr_50 := hC.call hA93 hfz_fr_50 hfk_fr_50
  obtain ⟨md_52, g_53, hA_51, hg_54⟩ := hl_47.2.2.1
  refine v_callVX E X9 hE (As := [vi ((i2 : Nat) : Int), .ref qd]) (b := x) (ci := 0) (C := RX1) (T := TX1) (N := 3) hl_47.2.1 rfl (x_store κ H_43 hii2 hC_fr_50 dS_bs hPd hl_47) (lw_V q612 q614 qs9 q70 q615) 2 (by decide +kernel) rfl (by decide) (by decide) (cb' := ((((((((22 + C0) - 1) - 1) - 1) - 0) - 0) - C0) - 18)) (sb' := ((((((((130 + L0) - 6) - 6) - 6) - 0) - 0) - L0) - 110)) (by omega) (by omega) rfl (rest := []) (Nat.le_of_ble_eq_true rfl) (fun q h => by have h9 := pA.arr hfk_fr_50 hA_51.2.1 (hA_51.2.2.2.2.2.2.2.2.1 (by decide)); rw [← show q = bs from h] at h9; exact h9.elim (fun e => hAll q e) (fun e => hNew q e)) dX1_gcd_27 (fun C9 H9 hx9 hz9 hk9 => (by exact ⟨Or.inr (⟨hx9.1, by rw [hop, storeR_n hPd.1 hx9.2.1]⟩), CS.pub hx9.2.2 hST hiso⟩)) (fun v_55 H_56 hpost_57 hz_58 hk_59 => ?_)
  obtain ⟨hok9, rfl, kq, hkq9, hS9⟩ := hpost_57
  refine V.eq (st' := [vi (((Prod.fst (cDiv (T (a i0)) (T (a i1))) : Nat) : Int) - 1)]) rfl ?_
  refine V.rt E hE (fun z9 E hE => ?_)
  refine v_iret E hE dX1_gcd_30 ?_
  rw [hop, storeR_y hok9]; exact ⟨rfl, rfl, CS.pubT hl_47 hkq9 hS9 hST hiso⟩

set_option maxHeartbeats 400000 in
set_option maxRecDepth 100000 in
/-- sign -/
theorem c_sign (κ : zK) (H0 : Heap) {x : Nat} {S : Nat → Pl} {isoP : Option Pl} {n cap : Nat} {iv : Nat → Ivl} {v0 : Int} (hrv0 : rI v0) {v1 : Int} (hrv1 : rI v1) {v2 : Int} (hrv2 : rI v2) (hC : CO κ H0) {N K : Nat} (hok : bC5 S) (hfit : ∀ i n e, i < 5 → -1000000 ≤ n → n ≤ 1000000 → e ≤ 12 → fitV (S i) n e N K) (hP : CP κ H0 x S isoP n cap iv)  : MtX κ yX1_sign cX1_sign 4 (some .int) 7 181 52 (20 + (4 * K + N + 28) * 6) H0 [.ref x, vi v0, vi v1, vi v2] (pA κ H0) (fun v H1 => (xoSign S v0 v1 v2).2.1 = 0 ∧ v = some (vi (xoSign S v0 v1 v2).1) ∧ CP κ H1 x (xoSign S v0 v1 v2).2.2 isoP n cap iv) (fun C H1 => (C = "java/lang/IndexOutOfBoundsException" ∧ (xoSign S v0 v1 v2).2.1 = 1 ∨ C = "java/lang/IllegalArgumentException" ∧ (xoSign S v0 v1 v2).2.1 = 2) ∧ CP κ H1 x S isoP n cap iv) := by
  refine MtX.of (by decide) (Nat.le_of_ble_eq_true rfl) ?_
  intro z E X9 hE hH0 hA0 hL hini
  have hAll : ∀ q, (pA κ H0) q → zA z.A z.H0 q := fun q h => Or.inl (by rw [hA0]; exact h)
  have hNew : ∀ q, H0.size ≤ q → zA z.A z.H0 q := fun q h => Or.inr (by rw [hH0]; exact h)
  have E : zOK z cX1_sign RX1 κ 7 181 (some .int) := E
  refine V.eqL (lv' := [(0, .ref x), (1, vi v0), (2, vi v1), (3, vi v2)]) rfl ?_
  obtain ⟨ls, bs, li, bi, a, iso, T, hS, hST, hiso⟩ := hP
  have hA93 : ∀ q, pA κ H0 q → κ.2 93 ≤ q := fun q h => h.1
  have hD := hC.D
  have hsl0 := hS.sl
  have hokT : ∀ k, k < 5 → okP (T (a k)) := fun k hk => by rw [← hST k hk]; exact (hok k hk).2
  refine v_iload_n E 1 rfl dX1_sign_0 ?_
  refine V.frame (fun hfz_fr_1 hfk_fr_1 => ?_)
  rw [hH0] at hfz_fr_1 hfk_fr_1
  rw [hA0] at hfk_fr_1
  have hC_fr_1 := hC.call hA93 hfz_fr_1 hfk_fr_1
  refine v_callSX E X9 hE (As := [vi v0]) (x_slot κ H0 hrv0) (lw_S q570 q571 q70 q572) 1 (by decide +kernel) rfl (by decide) (by decide) (cb' := (52 - 1)) (sb' := ((20 + (4 * K + N + 28) * 6) - 6)) (by omega) (by omega) rfl (rest := []) (Nat.le_of_ble_eq_true rfl) (fun q h => h.elim) dX1_sign_1 (fun C9 H9 hx9 hz9 hk9 => by exact ⟨Or.inl (⟨hx9.1, (by have hx8 := hx9.2; unfold xoSign; first | (split <;> first | rfl | (exfalso; omega) | (split <;> first | rfl | (exfalso; omega) | (split <;> first | rfl | (exfalso; omega)))))⟩), CS.pub (CS.kf0 hC_fr_1 (kF.ext hz9 hk9) hS) hST hiso⟩) (fun v_2 H_3 hpost_4 hz_5 hk_6 => ?_)
  obtain ⟨rfl, hsv0⟩ := hpost_4
  have hl_7 := CS.kf0 hC_fr_1 (kF.ext hz_5 hk_6) hS
  obtain ⟨i0, hni0⟩ : ∃ i0 : Nat, v0 = (i0 : Int) := ⟨v0.toNat, by omega⟩
  subst hni0
  have hii0 : i0 < 5 := by omega
  refine V.eq (st' := []) rfl ?_
  refine v_iload_n E 2 rfl dX1_sign_4 ?_
  refine v_iload_n E 3 rfl dX1_sign_5 ?_
  refine V.frame (fun hfz_fr_8 hfk_fr_8 => ?_)
  rw [hH0] at hfz_fr_8 hfk_fr_8
  rw [hA0] at hfk_fr_8
  have hC_fr_8 := hC.call hA93 hfz_fr_8 hfk_fr_8
  refine v_callSX E X9 hE (As := [vi v1, vi v2]) (x_pt κ H_3 hrv1 hrv2) (lw_S q1525 q1526 q70 q1527) 2 (by decide +kernel) rfl (by decide) (by decide) (cb' := ((52 - 1) - 1)) (sb' := (((20 + (4 * K + N + 28) * 6) - 6) - 6)) (by omega) (by omega) rfl (rest := []) (Nat.le_of_ble_eq_true rfl) (fun q h => h.elim) dX1_sign_6 (fun C9 H9 hx9 hz9 hk9 => by exact ⟨Or.inr (⟨hx9.1, (by have hx8 := hx9.2; unfold xoSign; first | (split <;> first | rfl | (exfalso; omega) | (split <;> first | rfl | (exfalso; omega) | (split <;> first | rfl | (exfalso; omega)))))⟩), CS.pub (CS.kf0 hC_fr_8 (kF.ext hz9 hk9) hl_7) hST hiso⟩) (fun v_9 H_10 hpost_11 hz_12 hk_13 => ?_)
  obtain ⟨rfl, hptv2⟩ := hpost_11
  have hl_14 := CS.kf0 hC_fr_8 (kF.ext hz_12 hk_13) hl_7
  obtain ⟨e2, hne2⟩ : ∃ e2 : Nat, v2 = (e2 : Int) := ⟨v2.toNat, by omega⟩
  subst hne2
  have hpe2 : e2 ≤ 12 := by omega
  refine V.eq (st' := []) rfl ?_
  refine v_aload_n E 0 rfl dX1_sign_9 ?_
  refine v_iload_n E 1 rfl dX1_sign_10 ?_
  refine V.frame (fun hfz_fr_17 hfk_fr_17 => ?_)
  rw [hH0] at hfz_fr_17 hfk_fr_17
  rw [hA0] at hfk_fr_17
  have hC_fr_17 := hC.call hA93 hfz_fr_17 hfk_fr_17
  refine v_callV E (As := [vi ((i0 : Nat) : Int)]) (b := x) (ci := 0) (C := RX1) (T := TX1) (N := 3) hl_14.2.1 rfl (x_poly κ H_10 (i := i0) hii0 hC_fr_17 hl_14) (lw_V q606 q608 qs8 q70 q609) 1 (by decide +kernel) rfl (by decide) (by decide) (cb' := (((52 - 1) - 1) - 0)) (sb' := ((((20 + (4 * K + N + 28) * 6) - 6) - 6) - 0)) (by omega) (by omega) rfl (rest := []) (Nat.le_of_ble_eq_true rfl) (fun q h => h.elim) dX1_sign_11 (fun v_18 H_19 hpost_20 hz_21 hk_22 => ?_)
  obtain ⟨pk_15, rfl, hpk_16⟩ := hpost_20
  have hl_23 := CS.kf0 hC_fr_17 (kF.ext hz_21 hk_22) hl_14
  refine V.eq (st' := [.ref pk_15]) rfl ?_
  refine v_iload_n E 2 rfl dX1_sign_14 ?_
  refine v_i2l E ⟨by omega, by omega⟩ dX1_sign_15 ?_
  refine v_iload_n E 3 rfl dX1_sign_16 ?_
  refine V.frame (fun hfz_fr_24 hfk_fr_24 => ?_)
  rw [hH0] at hfz_fr_24 hfk_fr_24
  rw [hA0] at hfk_fr_24
  have hC_fr_24 := hC.call hA93 hfz_fr_24 hfk_fr_24
  refine v_callS E (As := [.ref pk_15, vj v1, vi ((e2 : Nat) : Int)]) (p_sg κ H_19 (N := N) (K := K) hC_fr_24 ⟨by omega, by omega⟩ hpe2 (hokT i0 hii0).1 (by have h9 := hfit i0 v1 e2 hii0 (by omega) (by omega) hpe2; rw [hST i0 hii0] at h9; exact h9) hpk_16) (lw_S q1533 q1534 q70 q1535) 3 (by decide +kernel) rfl (by decide) (by decide) (cb' := 0) (sb' := 0) (by have h9 : sgC (T (a i0)).1 ≤ 50 := (by have := (hokT i0 hii0).1; unfold sgC; omega); omega) (by have h9 := sgL_7 (N := N) (K := K) (hokT i0 hii0).1; omega) rfl (rest := []) (Nat.le_of_ble_eq_true rfl) (fun q h => h.elim) dX1_sign_17 (fun v_25 H_26 hpost_27 hz_28 hk_29 => ?_)
  obtain rfl := hpost_27
  have hl_30 := CS.kf0 hC_fr_24 (kF.ext hz_28 hk_29) hl_23
  have hl_31 := Po.kf hC_fr_24 (kF.ext hz_28 hk_29) aD.no hpk_16
  refine V.eq (st' := [vi (cSg (T (a i0)) v1 e2)]) rfl ?_
  refine V.rt E hE (fun z9 E hE => ?_)
  refine v_iret E hE dX1_sign_20 ?_
  have hop : xoSign S (i0 : Int) v1 (e2 : Int) = (cSg (T (a i0)) v1 e2, 0, S) := by unfold xoSign; rw [if_pos (by omega), if_pos (by omega)]; show (cSg (S i0) v1 e2, 0, S) = _; rw [hST i0 hii0]
  rw [hop]; exact ⟨rfl, rfl, CS.pub hl_30 hST hiso⟩

set_option maxHeartbeats 400000 in
set_option maxRecDepth 100000 in
/-- coefficientSignChanges -/
theorem c_csc (κ : zK) (H0 : Heap) {x : Nat} {S : Nat → Pl} {isoP : Option Pl} {n cap : Nat} {iv : Nat → Ivl} {v0 : Int} (hrv0 : rI v0) (hC : CO κ H0) (hP : CP κ H0 x S isoP n cap iv)  : MtX κ yX1_coefficientSignChanges cX1_coefficientSignChanges 2 (some .int) 7 101 2 10 H0 [.ref x, vi v0] (pA κ H0) (fun v H1 => (xoCsc S v0).2.1 = 0 ∧ v = some (vi (xoCsc S v0).1) ∧ CP κ H1 x (xoCsc S v0).2.2 isoP n cap iv) (fun C H1 => (C = "java/lang/IndexOutOfBoundsException" ∧ (xoCsc S v0).2.1 = 1) ∧ CP κ H1 x S isoP n cap iv) := by
  refine MtX.of (by decide) (Nat.le_of_ble_eq_true rfl) ?_
  intro z E X9 hE hH0 hA0 hL hini
  have hAll : ∀ q, (pA κ H0) q → zA z.A z.H0 q := fun q h => Or.inl (by rw [hA0]; exact h)
  have hNew : ∀ q, H0.size ≤ q → zA z.A z.H0 q := fun q h => Or.inr (by rw [hH0]; exact h)
  have E : zOK z cX1_coefficientSignChanges RX1 κ 7 101 (some .int) := E
  refine V.eqL (lv' := [(0, .ref x), (1, vi v0)]) rfl ?_
  obtain ⟨ls, bs, li, bi, a, iso, T, hS, hST, hiso⟩ := hP
  have hA93 : ∀ q, pA κ H0 q → κ.2 93 ≤ q := fun q h => h.1
  have hD := hC.D
  have hsl0 := hS.sl
  refine v_iload_n E 1 rfl dX1_coefficientSignChanges_0 ?_
  refine V.frame (fun hfz_fr_1 hfk_fr_1 => ?_)
  rw [hH0] at hfz_fr_1 hfk_fr_1
  rw [hA0] at hfk_fr_1
  have hC_fr_1 := hC.call hA93 hfz_fr_1 hfk_fr_1
  refine v_callSX E X9 hE (As := [vi v0]) (x_slot κ H0 hrv0) (lw_S q570 q571 q70 q572) 1 (by decide +kernel) rfl (by decide) (by decide) (cb' := 1) (sb' := 4) (by decide) (by decide) rfl (rest := []) (Nat.le_of_ble_eq_true rfl) (fun q h => h.elim) dX1_coefficientSignChanges_1 (fun C9 H9 hx9 hz9 hk9 => by exact ⟨⟨hx9.1, (by have hx8 := hx9.2; unfold xoCsc; first | (split <;> first | rfl | (exfalso; omega) | (split <;> first | rfl | (exfalso; omega) | (split <;> first | rfl | (exfalso; omega)))))⟩, CS.pub (CS.kf0 hC_fr_1 (kF.ext hz9 hk9) hS) hST hiso⟩) (fun v_2 H_3 hpost_4 hz_5 hk_6 => ?_)
  obtain ⟨rfl, hsv0⟩ := hpost_4
  have hl_7 := CS.kf0 hC_fr_1 (kF.ext hz_5 hk_6) hS
  obtain ⟨i0, hni0⟩ : ∃ i0 : Nat, v0 = (i0 : Int) := ⟨v0.toNat, by omega⟩
  subst hni0
  have hii0 : i0 < 5 := by omega
  refine V.eq (st' := []) rfl ?_
  refine v_aload_n E 0 rfl dX1_coefficientSignChanges_4 ?_
  refine v_iload_n E 1 rfl dX1_coefficientSignChanges_5 ?_
  refine V.frame (fun hfz_fr_10 hfk_fr_10 => ?_)
  rw [hH0] at hfz_fr_10 hfk_fr_10
  rw [hA0] at hfk_fr_10
  have hC_fr_10 := hC.call hA93 hfz_fr_10 hfk_fr_10
  refine v_callV E (As := [vi ((i0 : Nat) : Int)]) (b := x) (ci := 0) (C := RX1) (T := TX1) (N := 3) hl_7.2.1 rfl (x_poly κ H_3 (i := i0) hii0 hC_fr_10 hl_7) (lw_V q606 q608 qs8 q70 q609) 1 (by decide +kernel) rfl (by decide) (by decide) (cb' := 1) (sb' := 4) (by decide) (by decide) rfl (rest := []) (Nat.le_of_ble_eq_true rfl) (fun q h => h.elim) dX1_coefficientSignChanges_6 (fun v_11 H_12 hpost_13 hz_14 hk_15 => ?_)
  obtain ⟨pk_8, rfl, hpk_9⟩ := hpost_13
  have hl_16 := CS.kf0 hC_fr_10 (kF.ext hz_14 hk_15) hl_7
  refine V.eq (st' := [.ref pk_8]) rfl ?_
  refine V.frame (fun hfz_fr_17 hfk_fr_17 => ?_)
  rw [hH0] at hfz_fr_17 hfk_fr_17
  rw [hA0] at hfk_fr_17
  have hC_fr_17 := hC.call hA93 hfz_fr_17 hfk_fr_17
  refine v_callS E (As := [.ref pk_8]) (p_csc κ H_12 hC_fr_17 hpk_9) (lw_S q1580 q1581 q70 q1582) 1 (by decide +kernel) rfl (by decide) (by decide) (cb' := 0) (sb' := 0) (by decide) (by decide) rfl (rest := []) (Nat.le_of_ble_eq_true rfl) (fun q h => h.elim) dX1_coefficientSignChanges_9 (fun v_18 H_19 hpost_20 hz_21 hk_22 => ?_)
  obtain rfl := hpost_20
  have hl_23 := CS.kf0 hC_fr_17 (kF.ext hz_21 hk_22) hl_16
  have hl_24 := Po.kf hC_fr_17 (kF.ext hz_21 hk_22) aD.no hpk_9
  refine V.eq (st' := [vi ((chG (fun i => ((T (a i0)).2 i).sign) (T (a i0)).1 : Nat) : Int)]) rfl ?_
  refine V.rt E hE (fun z9 E hE => ?_)
  refine v_iret E hE dX1_coefficientSignChanges_12 ?_
  have hop : xoCsc S (i0 : Int) = (((chG (fun i => ((T (a i0)).2 i).sign) (T (a i0)).1 : Nat) : Int), 0, S) := by unfold xoCsc; rw [if_pos (by omega)]; show (((chG (fun i => ((S i0).2 i).sign) (S i0).1 : Nat) : Int), 0, S) = _; rw [hST i0 hii0]
  rw [hop]; exact ⟨rfl, rfl, CS.pub hl_23 hST hiso⟩
