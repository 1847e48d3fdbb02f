/-! THE COMPONENT: reflect -/
def refc (P : Pl) : Nat → Int := fun k => if k % 2 = 0 then P.2 k else -P.2 k
def xoRefl (S : Nat → Pl) (a t : Int) : zRc := if (0 ≤ a ∧ a < 5) ∧ (0 ≤ t ∧ t < 5) then storeR (mkP (S a.toNat).1 (refc (S a.toNat))) t.toNat 4 S else (0, 1, S)
theorem okP_ref {P : Pl} (h : okP P) : okP (mkP P.1 (refc P)) := by
  refine ⟨Nat.le_trans (pl_le _ _) h.1, fun k => ?_⟩
  show (cut P.1 (refc P) k).natAbs ≤ 9999
  have h1 := h.2 k
  unfold cut refc
  split
  · split
    · exact h1
    · rw [Int.natAbs_neg]; exact h1
  · decide
theorem k_mod (k : Nat) : (k : Int).tmod 2 = ((k % 2 : Nat) : Int) := by
  rw [Int.tmod_eq_emod_of_nonneg (by omega)]; omega
set_option maxHeartbeats 1000000 in
set_option maxRecDepth 100000 in
/-- reflect -/
theorem c_refl (κ : zK) (H0 : Heap) {x : Nat} {S : Nat → Pl} {isoP : Option Pl} {n cap : Nat} {iv : Nat → Ivl} {v0 : Int} (hrv0 : rI v0) {v1 : Int} (hrv1 : rI v1) (hC : CO κ H0) (hok : bC5 S) (hP : CP κ H0 x S isoP n cap iv)  : MtX κ yX1_reflect cX1_reflect 6 (some .int) 7 158 45 230 H0 [.ref x, vi v0, vi v1] (pA κ H0) (fun v H1 => (xoRefl S v0 v1).2.1 = 0 ∧ v = some (vi (xoRefl S v0 v1).1) ∧ CP κ H1 x (xoRefl S v0 v1).2.2 isoP n cap iv) (fun C H1 => (C = "java/lang/IndexOutOfBoundsException" ∧ (xoRefl S v0 v1).2.1 = 1) ∧ CP κ H1 x S isoP n cap iv) := by
  refine MtX.of (by decide) (Nat.le_of_ble_eq_true rfl) ?_
  intro z E X9 hE hH0 hA0 hL hini
  have hAll : ∀ q, (pA κ H0) q → zA z.A z.H0 q := fun q h => Or.inl (by rw [hA0]; exact h)
  have hNew : ∀ q, H0.size ≤ q → zA z.A z.H0 q := fun q h => Or.inr (by rw [hH0]; exact h)
  have E : zOK z cX1_reflect RX1 κ 7 158 (some .int) := E
  refine V.eqL (lv' := [(0, .ref x), (1, vi v0), (2, vi v1)]) rfl ?_
  obtain ⟨ls, bs, li, bi, a, iso, T, hS, hST, hiso⟩ := hP
  have hA93 : ∀ q, pA κ H0 q → κ.2 93 ≤ q := fun q h => h.1
  have hD := hC.D
  have hsl0 := hS.sl
  have hokT : ∀ k, k < 5 → okP (T (a k)) := fun k hk => by rw [← hST k hk]; exact (hok k hk).2
  have hSt := CS.mono (D' := fun q => dS ls bs li bi q ∧ q < Array.size H0) hS (fun q h1 h2 => ⟨h2, h1⟩)
  refine v_iload_n E 1 rfl dX1_reflect_0 ?_
  refine V.frame (fun hfz_fr_1 hfk_fr_1 => ?_)
  rw [hH0] at hfz_fr_1 hfk_fr_1
  rw [hA0] at hfk_fr_1
  have hC_fr_1 := hC.call hA93 hfz_fr_1 hfk_fr_1
  refine v_callSX E X9 hE (As := [vi v0]) (x_slot κ H0 hrv0) (lw_S q570 q571 q70 q572) 1 (by decide +kernel) rfl (by decide) (by decide) (cb' := 44) (sb' := 224) (by decide) (by decide) rfl (rest := []) (Nat.le_of_ble_eq_true rfl) (fun q h => h.elim) dX1_reflect_1 (fun C9 H9 hx9 hz9 hk9 => by exact ⟨⟨hx9.1, (by have hx8 := hx9.2; unfold xoRefl; first | (split <;> first | rfl | (exfalso; omega) | (split <;> first | rfl | (exfalso; omega) | (split <;> first | rfl | (exfalso; omega)))))⟩, CS.pub (CS.kf0 hC_fr_1 (kF.ext hz9 hk9) (CS.mono (D' := dS ls bs li bi) hSt (fun q h1 h2 => h2.1))) hST hiso⟩) (fun v_2 H_3 hpost_4 hz_5 hk_6 => ?_)
  obtain ⟨rfl, hsv0⟩ := hpost_4
  have hl_7 := CS.kf0 hC_fr_1 (kF.ext hz_5 hk_6) hSt
  obtain ⟨i0, hni0⟩ : ∃ i0 : Nat, v0 = (i0 : Int) := ⟨v0.toNat, by omega⟩
  subst hni0
  have hii0 : i0 < 5 := by omega
  refine V.eq (st' := []) rfl ?_
  refine v_iload_n E 2 rfl dX1_reflect_4 ?_
  refine V.frame (fun hfz_fr_8 hfk_fr_8 => ?_)
  rw [hH0] at hfz_fr_8 hfk_fr_8
  rw [hA0] at hfk_fr_8
  have hC_fr_8 := hC.call hA93 hfz_fr_8 hfk_fr_8
  refine v_callSX E X9 hE (As := [vi v1]) (x_slot κ H_3 hrv1) (lw_S q570 q571 q70 q572) 1 (by decide +kernel) rfl (by decide) (by decide) (cb' := 43) (sb' := 218) (by decide) (by decide) rfl (rest := []) (Nat.le_of_ble_eq_true rfl) (fun q h => h.elim) dX1_reflect_5 (fun C9 H9 hx9 hz9 hk9 => by exact ⟨⟨hx9.1, (by have hx8 := hx9.2; unfold xoRefl; first | (split <;> first | rfl | (exfalso; omega) | (split <;> first | rfl | (exfalso; omega) | (split <;> first | rfl | (exfalso; omega)))))⟩, CS.pub (CS.kf0 hC_fr_8 (kF.ext hz9 hk9) (CS.mono (D' := dS ls bs li bi) hl_7 (fun q h1 h2 => h2.1))) hST hiso⟩) (fun v_9 H_10 hpost_11 hz_12 hk_13 => ?_)
  obtain ⟨rfl, hsv1⟩ := hpost_11
  have hl_14 := CS.kf0 hC_fr_8 (kF.ext hz_12 hk_13) hl_7
  obtain ⟨i1, hni1⟩ : ∃ i1 : Nat, v1 = (i1 : Int) := ⟨v1.toNat, by omega⟩
  subst hni1
  have hii1 : i1 < 5 := by omega
  refine V.eq (st' := []) rfl ?_
  refine V.frame (fun hfz_fr_15 hfk_fr_15 => ?_)
  rw [hH0] at hfz_fr_15 hfk_fr_15
  rw [hA0] at hfk_fr_15
  have hC_fr_15 := hC.call hA93 hfz_fr_15 hfk_fr_15
  refine V.frame (fun hfz_fr_16 hfk_fr_16 => ?_)
  rw [hH0] at hfz_fr_16 hfk_fr_16
  rw [hA0] at hfk_fr_16
  refine v_new E in_J2 tyJ2 tyJ2_ok q113 q114 q73 (ci := 5) rfl (fs := [vi 0, .null, vi 0]) (fun j hj => by rcases (show j = 0 ∨ j = 1 ∨ j = 2 by omega) with rfl | rfl | rfl <;> rfl) (cb' := 42) (sb' := 215) (by decide) (by decide) dX1_reflect_8 (fun l2 H_17 hq_20 ho_18 hg_19 => ?_)
  refine v_dup E rfl dX1_reflect_11 ?_
  refine V.frame (fun hfz_fr_21 hfk_fr_21 => ?_)
  rw [hH0] at hfz_fr_21 hfk_fr_21
  rw [hA0] at hfk_fr_21
  have hC_fr_21 := hC.call hA93 hfz_fr_21 hfk_fr_21
  have h93_l2 : κ.2 93 ≤ l2 := Nat.le_trans hC.le (by omega)
  refine v_callI E (As := []) (b := l2) (j_init κ H_17 h93_l2 hC_fr_21 ho_18) q117 q73 q115 q116 rfl 0 (by decide +kernel) rfl (by decide) (by decide) (cb' := 42) (sb' := 215) (by decide) (by decide) rfl (rest := [.ref l2]) (Nat.le_of_ble_eq_true rfl) (fun q h => hNew q (by rw [show q = l2 from h]; omega)) dX1_reflect_12 (fun v_22 H_23 hpost_24 hz_25 hk_26 => ?_)
  obtain ⟨rfl, hA_l2⟩ := hpost_24
  have hkN_27 : ∀ q9 : Nat, q9 < Array.size H_10 → ¬ (fun _ => False : Nat → Prop) q9 → H_23[q9]? = H_10[q9]? := fun q9 h9 _ => (hk_26 q9 (by rw [hg_19.1]; omega) (fun h => by have h8 : q9 = l2 := h; omega)).trans (hg_19.2 q9 h9)
  have hl_28 := CS.kf0 hC_fr_15 (kF.ext (by have := hg_19.1; omega) hkN_27) hl_14
  have hLB_l2 := LB.nil (S := H0.size) (E := (eB κ (refc (T (a i0))))) hA_l2 (by omega)
  refine V.eq (st' := [.ref l2]) rfl ?_
  refine v_astore_n E dX1_reflect_15 (zlt hL rfl) (lv' := [(3, .ref l2), (0, .ref x), (1, vi ((i0 : Nat) : Int)), (2, vi ((i1 : Nat) : Int))]) rfl ?_
  refine v_aload_n E 1 rfl dX1_reflect_16 ?_
  refine v_iload_n E 2 rfl dX1_reflect_17 ?_
  refine V.frame (fun hfz_fr_31 hfk_fr_31 => ?_)
  rw [hH0] at hfz_fr_31 hfk_fr_31
  rw [hA0] at hfk_fr_31
  have hC_fr_31 := hC.call hA93 hfz_fr_31 hfk_fr_31
  refine v_callV E (As := [vi ((i0 : Nat) : Int)]) (b := x) (ci := 0) (C := RX1) (T := TX1) (N := 3) hl_28.2.1 rfl (x_poly κ H_23 (i := i0) hii0 hC_fr_31 hl_28) (lw_V q606 q608 qs8 q70 q609) 1 (by decide +kernel) rfl (by decide) (by decide) (cb' := 42) (sb' := 215) (by decide) (by decide) rfl (rest := []) (Nat.le_of_ble_eq_true rfl) (fun q h => h.elim) dX1_reflect_18 (fun v_32 H_33 hpost_34 hz_35 hk_36 => ?_)
  obtain ⟨pk_29, rfl, hpk_30⟩ := hpost_34
  have hl_37 := CS.kf0 hC_fr_31 (kF.ext hz_35 hk_36) hl_28
  have hl_38 := LB.kf (eB_L κ _) hC_fr_31 (kF.ext hz_35 hk_36) aD.f aD.no hLB_l2
  refine V.eq (st' := [.ref pk_29]) rfl ?_
  obtain ⟨hnfr, h13r, lr, hopr, br, capr, mdr, gr, hAr, helr, hDlr, hDbr⟩ := id hpk_30
  have hRW : RW κ H_33 lr br mdr (T (a i0)).1 capr gr (T (a i0)).2 := ⟨hAr, helr⟩
  have h7i := (hokT i0 hii0).1
  refine v_getfN (host := "SturmRoots") E in_X3 hopr (ci := 2) rfl 0 (by decide) (by decide +kernel) rfl (v := .ref lr) rfl dX1_reflect_21 ?_
  refine V.frame (fun hfz_fr_39 hfk_fr_39 => ?_)
  rw [hH0] at hfz_fr_39 hfk_fr_39
  rw [hA0] at hfk_fr_39
  have hC_fr_39 := hC.call hA93 hfz_fr_39 hfk_fr_39
  refine v_callV E (As := []) (b := lr) (ci := 5) (C := RJ2) (T := TJ2) (N := 3) hRW.1.1 rfl (j_iter κ H_33 hC_fr_39 hRW.1) (lw_V q291 q292 q293 q73 q294) 0 (by decide +kernel) rfl (by decide) (by decide) (cb' := 41) (sb' := 211) (by decide) (by decide) rfl (rest := []) (Nat.le_of_ble_eq_true rfl) (fun q h => h.elim) dX1_reflect_24 (fun v_40 H_41 hpost_42 hz_43 hk_44 => ?_)
  obtain ⟨it, rfl, hitH, hitI⟩ := hpost_42
  have hl_45 := CS.kf0 hC_fr_39 (kF.ext hz_43 hk_44) hl_37
  have hl_46 := LB.kf (eB_L κ _) hC_fr_39 (kF.ext hz_43 hk_44) aD.f aD.no hl_38
  have hl_47 := RW.kf hC_fr_39 (kF.ext hz_43 hk_44) (fun h => h) (fun _ h => h) hRW
  have hitH : H0.size ≤ it := Nat.le_trans hfz_fr_39 hitH
  refine V.eq (st' := [.ref it]) rfl ?_
  refine v_astore E dX1_reflect_27 (zlt hL rfl) (lv' := [(4, .ref it), (3, .ref l2), (0, .ref x), (1, vi ((i0 : Nat) : Int)), (2, vi ((i1 : Nat) : Int))]) rfl ?_
  have loop_29 : ∀ (m_29 : Nat) (H : Heap) (k b2 cb sb : Nat) (r : Int), (T (a i0)).1 - k < m_29 → (k ≤ (T (a i0)).1) → (20 + ((T (a i0)).1 - k) + al0 k ≤ cb) → (120 + 6 * ((T (a i0)).1 - k) + 10 * al0 k ≤ sb) → LB κ H0.size (eB κ (refc (T (a i0)))) H l2 b2 k → IT κ H it lr (k : Int) r mdr → RW κ H lr br mdr (T (a i0)).1 capr gr (T (a i0)).2 → CS κ (fun q => dS ls bs li bi q ∧ q < Array.size H0) H x ls bs li bi a iso T n cap iv → V z H cb sb 29 [(4, .ref it), (3, .ref l2), (2, vi ((i1 : Nat) : Int)), (1, vi ((i0 : Nat) : Int)), (0, .ref x)] [] := by
    intro m_29
    induction m_29 with
    | zero => intro H k b2 cb sb r hm; exact absurd hm (by omega)
    | succ m_29 ih_29 =>
      intro H k b2 cb sb r hm_29 hk hcb hsb hR hI hRW2 hS2
      refine v_aload E 0 rfl dX1_reflect_29 ?_
      refine V.frame (fun hfz_fr_48 hfk_fr_48 => ?_)
      rw [hH0] at hfz_fr_48 hfk_fr_48
      rw [hA0] at hfk_fr_48
      have hC_fr_48 := hC.call hA93 hfz_fr_48 hfk_fr_48
      refine v_callF E (As := []) (b := it) (ci := 7) (C := RJ17) (T := TJ17) (N := 4) hI.1 rfl (j_hasNext κ H hC_fr_48 (by omega) hRW2.1 hI) (by decide +kernel) (lw_F q321 q325 q327 q92 q329) 0 (by decide +kernel) rfl (by decide) (by decide) (cb' := (cb - 0)) (sb' := (sb - 0)) (by omega) (by omega) rfl (rest := []) (Nat.le_of_ble_eq_true rfl) (fun q h => h.elim) dX1_reflect_31 (fun v_49 H_50 hpost_51 hz_52 hk_53 => ?_)
      obtain rfl := hpost_51
      have hl_54 := LB.kf (eB_L κ _) hC_fr_48 (kF.ext hz_52 hk_53) aD.f aD.no hR
      have hl_55 := IT.kf (kF.ext hz_52 hk_53) hI (fun h => h)
      have hl_56 := RW.kf hC_fr_48 (kF.ext hz_52 hk_53) (fun h => h) (fun _ h => h) hRW2
      have hl_57 := CS.kf0 hC_fr_48 (kF.ext hz_52 hk_53) hS2
      by_cases hkn : k = (T (a i0)).1
      ·
        refine V.eq (st' := [vi 0]) (by rw [if_pos (show ((k : Nat) : Int) = (((T (a i0)).1 : Nat) : Int) by omega)]; rfl) ?_
        refine v_if_eq E (tgt := 78) dX1_reflect_36 (by decide) ⟨by omega, by omega⟩ (fun c_36 => ?_) (fun c_36 => absurd c_36 (by omega))
        have hkn2 : k = (T (a i0)).1 := hkn
        have hR_58 := hkn2 ▸ hl_54
        refine v_aload_n E 4 rfl dX1_reflect_78 ?_
        refine v_iload_n E 2 rfl dX1_reflect_79 ?_
        refine V.frame (fun hfz_fr_59 hfk_fr_59 => ?_)
        rw [hH0] at hfz_fr_59 hfk_fr_59
        rw [hA0] at hfk_fr_59
        have hC_fr_59 := hC.call hA93 hfz_fr_59 hfk_fr_59
        refine V.frame (fun hfz_fr_60 hfk_fr_60 => ?_)
        rw [hH0] at hfz_fr_60 hfk_fr_60
        rw [hA0] at hfk_fr_60
        refine v_new E in_X3 tyX3 tyX3_ok q145 q146 q75 (ci := 2) rfl (fs := [.null]) (fun j hj => by rcases (show j = 0 by omega) with rfl <;> rfl) (cb' := ((cb - 0) - 1)) (sb' := ((sb - 0) - 1)) (by omega) (by omega) dX1_reflect_80 (fun pn H_61 hq_64 ho_62 hg_63 => ?_)
        refine v_dup E rfl dX1_reflect_83 ?_
        refine v_aload_n E 1 rfl dX1_reflect_84 ?_
        refine V.frame (fun hfz_fr_65 hfk_fr_65 => ?_)
        rw [hH0] at hfz_fr_65 hfk_fr_65
        rw [hA0] at hfk_fr_65
        have hC_fr_65 := hC.call hA93 hfz_fr_65 hfk_fr_65
        have hLB_66 := LB.kf (eB_L κ _) hC_fr_59 (kF.grow hg_63) aD.no aD.no hR_58
        refine v_callI E (As := [.ref l2]) (b := pn) (p_init κ H_61 (D := (dS ls bs li bi)) (n := (T (a i0)).1) (c := refc (T (a i0))) hC_fr_65 (Nat.le_trans hC.le (by omega)) (by omega) (fun q h => by have h2 := hsl0; exact ⟨by omega, by omega, by omega, by omega⟩) hC.le ho_62 hLB_66) q149 q75 q147 q148 rfl 1 (by decide +kernel) rfl (by decide) (by decide) (cb' := (((cb - 0) - 1) - 0)) (sb' := (((sb - 0) - 1) - 0)) (by omega) (by omega) rfl (rest := [.ref pn, vi ((i1 : Nat) : Int), .ref x]) (Nat.le_of_ble_eq_true rfl) (fun q h => hNew q (h.elim (fun h => by rw [h]; omega) (fun h => h.elim (fun h => by rw [h]; exact (hR_58).choose_spec.choose_spec.2.2.1) (fun h => by rw [h.1]; exact (hR_58).choose_spec.choose_spec.2.2.2 h.2)))) dX1_reflect_85 (fun v_67 H_68 hpost_69 hz_70 hk_71 => ?_)
        obtain ⟨rfl, hPo_pn⟩ := hpost_69
        obtain ⟨md_73, g_74, hA_75, -, hSl_76, hSb_77⟩ := id hR_58
        have hkN_72 : ∀ q9 : Nat, q9 < Array.size H_50 → ¬ (q9 = l2 ∨ (q9 = b2 ∧ 0 < (T (a i0)).1)) → H_68[q9]? = H_50[q9]? := fun q9 h9 h8 => (hk_71 q9 (by rw [hg_63.1]; omega) (fun h => h.elim (fun h => by omega) h8)).trans (hg_63.2 q9 h9)
        have hF_78 : kF κ H_50 H_68 (fun q => q = l2 ∨ (q = b2 ∧ 0 < (T (a i0)).1)) := kF.lst hA_75 (fun q h => h.imp id (fun h => ⟨h.1, capR_pos h.2⟩)) (by have := hg_63.1; omega) hkN_72
        have hl_79 := IT.kf hF_78 hl_55 (nIT hC.D hl_55 hA_75)
        have hl_80 := RW.kf hC_fr_59 hF_78 (fun h => by have h1 : H0.size ≤ lr := (h.elim (fun e => by rw [e]; exact hSl_76) (fun e => by rw [e.1]; exact hSb_77 e.2)); have h2 := (hDlr).2; omega) (fun hc h => by have h1 : H0.size ≤ br := (h.elim (fun e => by rw [e]; exact hSl_76) (fun e => by rw [e.1]; exact hSb_77 e.2)); have h2 := (hDbr hc).2; omega) hl_56
        have hl_81 := CS.kf hC_fr_59 hF_78 (aD.nn (fun q h hd => absurd hd.2 (Nat.not_lt.mpr (h.elim (fun e => by rw [e]; exact hSl_76) (fun e => by rw [e.1]; exact hSb_77 e.2))))) (fun q h => by have h1 : H0.size ≤ q := h.elim (fun e => by rw [e]; exact hSl_76) (fun e => by rw [e.1]; exact hSb_77 e.2); have h3 := hsl0; exact ⟨by omega, by omega, by omega, by omega, fun _ => by omega⟩) hl_57
        refine V.eq (st' := [.ref pn, vi ((i1 : Nat) : Int), .ref x]) rfl ?_
        have hSo_82 := CS.mono (D' := dS ls bs li bi) hl_81 (fun q h1 h2 => h2.1)
        have hop : xoRefl S (i0 : Int) (i1 : Int) = storeR (mkP (T (a i0)).1 (refc (T (a i0)))) i1 4 S := by unfold xoRefl; rw [if_pos ⟨⟨by omega, by omega⟩, by omega, by omega⟩]; show storeR (mkP (S i0).1 (refc (S i0))) i1 4 S = _; rw [hST i0 hii0]
        have hokp : okP (mkP (T (a i0)).1 (refc (T (a i0)))) := okP_ref (hokT i0 hii0)
        refine V.frame (fun hfz_fr_83 hfk_fr_83 => ?_)
        rw [hH0] at hfz_fr_83 hfk_fr_83
        rw [hA0] at hfk_fr_83
        have hC_fr_83 := hC.call hA93 hfz_fr_83 hfk_fr_83
        obtain ⟨md_85, g_86, hA_84, hg_87⟩ := hSo_82.2.2.1
        refine v_callVX E X9 hE (As := [vi ((i1 : Nat) : Int), .ref pn]) (b := x) (ci := 0) (C := RX1) (T := TX1) (N := 3) hSo_82.2.1 rfl (x_store κ H_68 hii1 hC_fr_83 dS_bs hPo_pn hSo_82) (lw_V q612 q614 qs9 q70 q615) 2 (by decide +kernel) rfl (by decide) (by decide) (cb' := ((((cb - 0) - 1) - 0) - 18)) (sb' := ((((sb - 0) - 1) - 0) - 110)) (by omega) (by omega) rfl (rest := []) (Nat.le_of_ble_eq_true rfl) (fun q h => by have h9 := pA.arr hfk_fr_83 hA_84.2.1 (hA_84.2.2.2.2.2.2.2.2.1 (by decide)); rw [← show q = bs from h] at h9; exact h9.elim (fun e => hAll q e) (fun e => hNew q e)) dX1_reflect_88 (fun C9 H9 hx9 hz9 hk9 => (by exact absurd hokp hx9.2.1)) (fun v_88 H_89 hpost_90 hz_91 hk_92 => ?_)
        obtain ⟨hok9, rfl, kq, hkq9, hS9⟩ := hpost_90
        refine V.eq (st' := [vi (((Prod.fst (mkP ((T (a i0)).1) (refc (T (a i0)))) : Nat) : Int) - 1)]) rfl ?_
        refine V.rt E hE (fun z9 E hE => ?_)
        refine v_iret E hE dX1_reflect_91 ?_
        rw [hop, storeR_y hok9]; exact ⟨rfl, rfl, CS.pubT hSo_82 hkq9 hS9 hST hiso⟩
      ·
        refine V.eq (st' := [vi 1]) (by rw [if_neg (show ¬ ((k : Nat) : Int) = (((T (a i0)).1 : Nat) : Int) by omega)]; rfl) ?_
        refine v_if_eq E (tgt := 78) dX1_reflect_36 (by decide) ⟨by omega, by omega⟩ (fun c_36 => absurd c_36 (by omega)) (fun c_36 => ?_)
        refine v_aload E 0 rfl dX1_reflect_39 ?_
        obtain ⟨y_93, hy_94, hEy_95⟩ := hl_56.2 k (by omega)
        refine V.frame (fun hfz_fr_96 hfk_fr_96 => ?_)
        rw [hH0] at hfz_fr_96 hfk_fr_96
        rw [hA0] at hfk_fr_96
        have hC_fr_96 := hC.call hA93 hfz_fr_96 hfk_fr_96
        refine v_callF E (As := []) (b := it) (ci := 7) (C := RJ17) (T := TJ17) (N := 4) hl_55.1 rfl (j_next7 κ H_50 hC_fr_96 (i := k) (y := y_93) (by omega) hy_94 hl_56.1 hl_55) (by decide +kernel) (lw_F q334 q337 q339 q92 q341) 0 (by decide +kernel) rfl (by decide) (by decide) (cb' := ((cb - 0) - 0)) (sb' := ((sb - 0) - 0)) (by omega) (by omega) rfl (rest := []) (Nat.le_of_ble_eq_true rfl) (fun q9 h => hNew q9 (by rw [show q9 = it from h]; exact hitH)) dX1_reflect_41 (fun v_97 H_98 hpost_99 hz_100 hk_101 => ?_)
        obtain ⟨rfl, hI_102⟩ := hpost_99
        have hl_103 := LB.kf (eB_L κ _) hC_fr_96 (kF.itr hl_55 (fun q h => h) hz_100 hk_101) aD.f (aD.it hl_55 (fun q h => h)) hl_54
        have hl_104 := RW.kf hC_fr_96 (kF.itr hl_55 (fun q h => h) hz_100 hk_101) (fun h => by have h1 : H0.size ≤ lr := (by have h1 : _ = it := h; rw [h1]; exact hitH); have h2 := (hDlr).2; omega) (fun hc h => by have h1 : H0.size ≤ br := (by have h1 : _ = it := h; rw [h1]; exact hitH); have h2 := (hDbr hc).2; omega) hl_56
        have hl_105 := CS.kf hC_fr_96 (kF.itr hl_55 (fun q h => h) hz_100 hk_101) (aD.it hl_55 (fun q h => h)) (fun q h => by have h1 : q = it := h; have h2 := hitH; have h3 := hsl0; exact ⟨by omega, by omega, by omega, by omega, fun _ => by omega⟩) hl_57
        have hl_106 := BI.kf hC.D (kF.itr hl_55 (fun q h => h) hz_100 hk_101) hEy_95
        refine V.eq (st' := [.ref y_93]) rfl ?_
        obtain ⟨mz_108, nz_108, cfz_108, ⟨c1z_108, c2z_108, c3z_108, ho_107⟩, -⟩ := id hl_106
        refine v_castS E ho_107 (q := (RJ16, TJ16, 6)) rfl q621 dX1_reflect_46 ?_
        refine v_astore E dX1_reflect_49 (zlt hL rfl) (lv' := [(5, .ref y_93), (4, .ref it), (3, .ref l2), (2, vi ((i1 : Nat) : Int)), (1, vi ((i0 : Nat) : Int)), (0, .ref x)]) rfl ?_
        refine v_aload_n E 2 rfl dX1_reflect_51 ?_
        refine v_aload_n E 2 rfl dX1_reflect_52 ?_
        obtain ⟨md_109, g_110, hA_111, -⟩ := id hl_103
        refine V.frame (fun hfz_fr_112 hfk_fr_112 => ?_)
        rw [hH0] at hfz_fr_112 hfk_fr_112
        rw [hA0] at hfk_fr_112
        have hC_fr_112 := hC.call hA93 hfz_fr_112 hfk_fr_112
        obtain ⟨md_118, g_119, hA_120, -⟩ := id hl_103
        refine v_callV E (As := []) (b := l2) (ci := 5) (C := RJ2) (T := TJ2) (N := 3) hA_120.1 rfl (j_size κ H_98 hA_111) (lw_V q286 q152 q153 q73 q154) 0 (by decide +kernel) rfl (by decide) (by decide) (cb' := (((cb - 0) - 0) - 0)) (sb' := (((sb - 0) - 0) - 0)) (by omega) (by omega) rfl (rest := [.ref l2]) (Nat.le_of_ble_eq_true rfl) (fun q h => h.elim) dX1_reflect_53 (fun v_113 H_114 hpost_115 hz_116 hk_117 => ?_)
        obtain rfl := hpost_115
        have hl_121 := LB.kf (eB_L κ _) hC_fr_112 (kF.ext hz_116 hk_117) aD.f aD.no hl_103
        have hl_122 := RW.kf hC_fr_112 (kF.ext hz_116 hk_117) (fun h => h) (fun _ h => h) hl_104
        have hl_123 := CS.kf0 hC_fr_112 (kF.ext hz_116 hk_117) hl_105
        have hl_124 := BI.kf hC.D (kF.ext hz_116 hk_117) hl_106
        have hl_125 := IT.kf (kF.ext hz_116 hk_117) hI_102 (fun h => h)
        refine V.eq (st' := [vi (k : Int), .ref l2]) rfl ?_
        refine v_iconst E dX1_reflect_56 ?_
        refine v_irem E ⟨by omega, by omega⟩ ⟨by omega, by omega⟩ (by omega) dX1_reflect_57 ?_
        refine V.topi (x' := ((k % 2 : Nat) : Int)) (congrArg iZ (k_mod k)) ?_
        refine v_if_ne E (tgt := 66) dX1_reflect_58 (by decide) ⟨by omega, by omega⟩ (fun c_58 => ?_) (fun c_58 => ?_)
        · refine v_aload E 0 rfl dX1_reflect_66 ?_
          refine V.frame (fun hfz_fr_128 hfk_fr_128 => ?_)
          rw [hH0] at hfz_fr_128 hfk_fr_128
          rw [hA0] at hfk_fr_128
          have hC_fr_128 := hC.call hA93 hfz_fr_128 hfk_fr_128
          obtain ⟨mz_135, nz_135, cfz_135, ⟨c1z_135, c2z_135, c3z_135, ho_134⟩, -⟩ := id hl_124
          refine v_callV E (As := []) (b := y_93) (ci := 6) (C := RJ16) (T := TJ16) (N := 6) ho_134 rfl (g_negate κ H_114 hC_fr_128 hl_124) (lw_V q1127 q627 q628 q91 q629) 0 (by decide +kernel) rfl (by decide) (by decide) (cb' := ((((cb - 0) - 0) - 0) - 1)) (sb' := ((((sb - 0) - 0) - 0) - 6)) (by omega) (by omega) rfl (rest := [.ref l2]) (Nat.le_of_ble_eq_true rfl) (fun q h => h.elim) dX1_reflect_68 (fun v_129 H_130 hpost_131 hz_132 hk_133 => ?_)
          obtain ⟨qn_126, rfl, hBn_127⟩ := hpost_131
          have hl_136 := LB.kf (eB_L κ _) hC_fr_128 (kF.ext hz_132 hk_133) aD.f aD.no hl_121
          have hl_137 := RW.kf hC_fr_128 (kF.ext hz_132 hk_133) (fun h => h) (fun _ h => h) hl_122
          have hl_138 := CS.kf0 hC_fr_128 (kF.ext hz_132 hk_133) hl_123
          have hl_139 := BI.kf hC.D (kF.ext hz_132 hk_133) hl_124
          have hl_140 := IT.kf (kF.ext hz_132 hk_133) hl_125 (fun h => h)
          refine V.eq (st' := [.ref qn_126, .ref l2]) rfl ?_
          refine V.frame (fun hfz_fr_141 hfk_fr_141 => ?_)
          rw [hH0] at hfz_fr_141 hfk_fr_141
          rw [hA0] at hfk_fr_141
          have hC_fr_141 := hC.call hA93 hfz_fr_141 hfk_fr_141
          obtain ⟨md_142, g_143, hA_144, hel_145, hSl_146, hSb_147⟩ := id hl_136
          have hal_148 := al_k k (show k < 10 by omega)
          obtain ⟨md_154, g_155, hA_156, -⟩ := id hl_136
          refine v_callV E (As := [.ref qn_126]) (b := l2) (ci := 5) (C := RJ2) (T := TJ2) (N := 3) hA_156.1 rfl (j_addB κ H_130 hC_fr_141 (show k < 15 by omega) hBn_127.oA hA_144) (lw_V q208 q209 q210 q73 q211) 1 (by decide +kernel) rfl (by decide) (by decide) (cb' := (((((cb - 0) - 0) - 0) - 1) - alM k)) (sb' := (((((sb - 0) - 0) - 0) - 6) - alS k)) (by omega) (by omega) rfl (rest := []) (Nat.le_of_ble_eq_true rfl) (fun q h => hNew q (h.elim (fun h => by rw [h]; exact Nat.le_trans (Nat.le_refl _) hSl_146) (fun h => by rw [h.1]; exact Nat.le_trans (Nat.le_refl _) (hSb_147 h.2)))) dX1_reflect_71 (fun v_149 H_150 hpost_151 hz_152 hk_153 => ?_)
          obtain ⟨rfl, b_157, md_158, g_159, hA_160, hg_161, hgn_162, hb_163⟩ := hpost_151
          have hF_164 := (kF.lst hA_144 (fun q h => h.imp id (fun h => ⟨h.1, capR_pos h.2⟩)) hz_152 hk_153)
          have hl_165 := RW.kf hC_fr_141 hF_164 (fun h => by have h1 : H0.size ≤ lr := (h.elim (fun e => by rw [e]; exact hSl_146) (fun e => by rw [e.1]; exact hSb_147 e.2)); have h2 := (hDlr).2; omega) (fun hc h => by have h1 : H0.size ≤ br := (h.elim (fun e => by rw [e]; exact hSl_146) (fun e => by rw [e.1]; exact hSb_147 e.2)); have h2 := (hDbr hc).2; omega) hl_137
          have hl_166 := CS.kf hC_fr_141 hF_164 (aD.nn (fun q h hd => absurd hd.2 (Nat.not_lt.mpr (h.elim (fun e => by rw [e]; exact hSl_146) (fun e => by rw [e.1]; exact hSb_147 e.2))))) (fun q h => by have h1 : H0.size ≤ q := h.elim (fun e => by rw [e]; exact hSl_146) (fun e => by rw [e.1]; exact hSb_147 e.2); have h3 := hsl0; exact ⟨by omega, by omega, by omega, by omega, fun _ => by omega⟩) hl_138
          have hl_167 := BI.kf hC.D hF_164 hl_139
          have hl_168 := IT.kf hF_164 hl_140 (nIT hC.D hl_140 hA_144)
          have hl_169 := BI.kf hC.D hF_164 hBn_127
          have hv_171 := BI.kf hC.D hF_164 hBn_127
          have hLB_170 : LB κ H0.size (eB κ (refc (T (a i0)))) H_150 l2 b_157 (k + 1) := LB.step (fun k9 hk9 => (hel_145 k9 hk9).elim (fun y hy => ⟨y, hy.1, (eB_L κ _) _ _ _ _ _ hC_fr_141 hF_164 aD.f hy.2⟩)) (by show BI κ _ _ (refc (T (a i0)) k); rw [show refc (T (a i0)) k = (-((T (a i0)).2 k)) from if_neg (by omega)]; exact hv_171) hA_160 hg_161 hgn_162 hSl_146 (hb_163.elim (fun h => by rw [h.1]; exact hSb_147 h.2) (fun h => Nat.le_trans (show H0.size ≤ Array.size H_130 from hfz_fr_141) h))
          refine V.eq (st' := [vi 1]) rfl ?_
          refine v_pop E rfl dX1_reflect_74 ?_
          refine v_goto E (tgt := 29) dX1_reflect_75 (by decide) ?_
          refine V.sub [1, 2, 3, 4, 5] (lv' := [(4, .ref it), (3, .ref l2), (2, vi ((i1 : Nat) : Int)), (1, vi ((i0 : Nat) : Int)), (0, .ref x)]) rfl ?_
          exact ih_29  H_150 (k + 1) _ (((((cb - 0) - 0) - 0) - 1) - alM k) (((((sb - 0) - 0) - 0) - 6) - alS k) _ (by omega) (by omega) (by omega) (by omega) hLB_170 hl_168 hl_165 hl_166
        · refine v_aload E 0 rfl dX1_reflect_61 ?_
          refine v_goto E (tgt := 71) dX1_reflect_63 (by decide) ?_
          refine V.frame (fun hfz_fr_172 hfk_fr_172 => ?_)
          rw [hH0] at hfz_fr_172 hfk_fr_172
          rw [hA0] at hfk_fr_172
          have hC_fr_172 := hC.call hA93 hfz_fr_172 hfk_fr_172
          obtain ⟨md_173, g_174, hA_175, hel_176, hSl_177, hSb_178⟩ := id hl_121
          have hal_179 := al_k k (show k < 10 by omega)
          obtain ⟨md_185, g_186, hA_187, -⟩ := id hl_121
          refine v_callV E (As := [.ref y_93]) (b := l2) (ci := 5) (C := RJ2) (T := TJ2) (N := 3) hA_187.1 rfl (j_addB κ H_114 hC_fr_172 (show k < 15 by omega) hl_124.oA hA_175) (lw_V q208 q209 q210 q73 q211) 1 (by decide +kernel) rfl (by decide) (by decide) (cb' := ((((cb - 0) - 0) - 0) - alM k)) (sb' := ((((sb - 0) - 0) - 0) - alS k)) (by omega) (by omega) rfl (rest := []) (Nat.le_of_ble_eq_true rfl) (fun q h => hNew q (h.elim (fun h => by rw [h]; exact Nat.le_trans (Nat.le_refl _) hSl_177) (fun h => by rw [h.1]; exact Nat.le_trans (Nat.le_refl _) (hSb_178 h.2)))) dX1_reflect_71 (fun v_180 H_181 hpost_182 hz_183 hk_184 => ?_)
          obtain ⟨rfl, b_188, md_189, g_190, hA_191, hg_192, hgn_193, hb_194⟩ := hpost_182
          have hF_195 := (kF.lst hA_175 (fun q h => h.imp id (fun h => ⟨h.1, capR_pos h.2⟩)) hz_183 hk_184)
          have hl_196 := RW.kf hC_fr_172 hF_195 (fun h => by have h1 : H0.size ≤ lr := (h.elim (fun e => by rw [e]; exact hSl_177) (fun e => by rw [e.1]; exact hSb_178 e.2)); have h2 := (hDlr).2; omega) (fun hc h => by have h1 : H0.size ≤ br := (h.elim (fun e => by rw [e]; exact hSl_177) (fun e => by rw [e.1]; exact hSb_178 e.2)); have h2 := (hDbr hc).2; omega) hl_122
          have hl_197 := CS.kf hC_fr_172 hF_195 (aD.nn (fun q h hd => absurd hd.2 (Nat.not_lt.mpr (h.elim (fun e => by rw [e]; exact hSl_177) (fun e => by rw [e.1]; exact hSb_178 e.2))))) (fun q h => by have h1 : H0.size ≤ q := h.elim (fun e => by rw [e]; exact hSl_177) (fun e => by rw [e.1]; exact hSb_178 e.2); have h3 := hsl0; exact ⟨by omega, by omega, by omega, by omega, fun _ => by omega⟩) hl_123
          have hl_198 := BI.kf hC.D hF_195 hl_124
          have hl_199 := IT.kf hF_195 hl_125 (nIT hC.D hl_125 hA_175)
          have hv_201 := BI.kf hC.D hF_195 hl_124
          have hLB_200 : LB κ H0.size (eB κ (refc (T (a i0)))) H_181 l2 b_188 (k + 1) := LB.step (fun k9 hk9 => (hel_176 k9 hk9).elim (fun y hy => ⟨y, hy.1, (eB_L κ _) _ _ _ _ _ hC_fr_172 hF_195 aD.f hy.2⟩)) (by show BI κ _ _ (refc (T (a i0)) k); rw [show refc (T (a i0)) k = ((T (a i0)).2 k) from if_pos (by omega)]; exact hv_201) hA_191 hg_192 hgn_193 hSl_177 (hb_194.elim (fun h => by rw [h.1]; exact hSb_178 h.2) (fun h => Nat.le_trans (show H0.size ≤ Array.size H_114 from hfz_fr_172) h))
          refine V.eq (st' := [vi 1]) rfl ?_
          refine v_pop E rfl dX1_reflect_74 ?_
          refine v_goto E (tgt := 29) dX1_reflect_75 (by decide) ?_
          refine V.sub [1, 2, 3, 4, 5] (lv' := [(4, .ref it), (3, .ref l2), (2, vi ((i1 : Nat) : Int)), (1, vi ((i0 : Nat) : Int)), (0, .ref x)]) rfl ?_
          exact ih_29  H_181 (k + 1) _ ((((cb - 0) - 0) - 0) - alM k) ((((sb - 0) - 0) - 0) - alS k) _ (by omega) (by omega) (by omega) (by omega) hLB_200 hl_199 hl_196 hl_197
  refine V.sub [0, 1, 4, 3, 2] (lv' := [(4, .ref it), (3, .ref l2), (2, vi ((i1 : Nat) : Int)), (1, vi ((i0 : Nat) : Int)), (0, .ref x)]) rfl ?_
  exact loop_29 ((T (a i0)).1 + 1) H_41 0 (κ.2 98) 41 211 (-1) (by omega) (Nat.zero_le _) (by rw [al0_0]; omega) (by rw [al0_0]; omega) hl_46 hitI hl_47 hl_45
