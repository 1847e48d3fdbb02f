/-! THE COMPONENT: rowOf -/
/-- a row that is walked -/
def RW (κ : zK) (H : Heap) (l b : Nat) (md : Int) (n cap : Nat) (g : Nat → Option Nat) (c : Nat → Int) : Prop := AL κ H l b md n cap g ∧ ∀ k, k < n → ∃ y, g k = some y ∧ BI κ H y (c k)
theorem RW.kf {κ : zK} {H H1 : Heap} {A : Nat → Prop} {l b n cap : Nat} {md : Int} {g : Nat → Option Nat} {c : Nat → Int} (hC : CO κ H) (hF : kF κ H H1 A) (hl : ¬ A l) (hb : 0 < cap → ¬ A b) (h : RW κ H l b md n cap g c) : RW κ H1 l b md n cap g c := ⟨h.1.kf hC hF hl hb, fun k hk => (h.2 k hk).elim (fun y hy => ⟨y, hy.1, hy.2.kf hC.D hF⟩)⟩
set_option maxHeartbeats 400000 in
set_option maxRecDepth 100000 in
/-- rowOf -/
theorem x_row (κ : zK) (H0 : Heap) {x ls bs li bi : Nat} {a : Nat → Nat} {iso : Option Nat} {T : Nat → Pl} {n cap : Nat} {iv : Nat → Ivl} {i : Nat} (hii : i < 5) (h7i : (T (a i)).1 ≤ 7) (hC : CO κ H0) (hS : CS κ (dS ls bs li bi) H0 x ls bs li bi a iso T n cap iv)  : Mt κ yX1_rowOf cX1_rowOf 5 (some (.object "java/util/ArrayList")) 7 158 3 20 H0 [.ref x, vi (i : Int)] (fun _ => False) (fun v H1 => ∃ l b : Nat, v = some (.ref l) ∧ LB κ H0.size (eB κ (T (a i)).2) H1 l b (T (a i)).1) := by
  refine Mt.of (by decide) (Nat.le_of_ble_eq_true rfl) ?_
  intro z E hE hH0 hA0 hL hini
  have hAll : ∀ q, (fun _ => False) q → zA z.A z.H0 q := fun q h => Or.inl (by rw [hA0]; exact h)
  have hNew : ∀ q, H0.size ≤ q → zA z.A z.H0 q := fun q h => Or.inr (by rw [hH0]; exact h)
  have E : zOK z cX1_rowOf RX1 κ 7 158 (some (.object "java/util/ArrayList")) := E
  refine V.eqL (lv' := [(0, .ref x), (1, vi (i : Int))]) rfl ?_
  have hA93 : ∀ q, (fun _ => False : Nat → Prop) q → κ.2 93 ≤ q := fun q h => h.elim
  have hD := hC.D
  have hsl0 := hS.sl
  have hSt := CS.mono (D' := fun q => dS ls bs li bi q ∧ q < Array.size H0) hS (fun q h1 h2 => ⟨h2, h1⟩)
  refine V.frame (fun hfz_fr_1 hfk_fr_1 => ?_)
  rw [hH0] at hfz_fr_1 hfk_fr_1
  rw [hA0] at hfk_fr_1
  have hC_fr_1 := hC.call hA93 hfz_fr_1 hfk_fr_1
  refine V.frame (fun hfz_fr_2 hfk_fr_2 => ?_)
  rw [hH0] at hfz_fr_2 hfk_fr_2
  rw [hA0] at hfk_fr_2
  refine v_new E in_J2 tyJ2 tyJ2_ok q113 q114 q73 (ci := 5) rfl (fs := [vi 0, .null, vi 0]) (fun j hj => by rcases (show j = 0 ∨ j = 1 ∨ j = 2 by omega) with rfl | rfl | rfl <;> rfl) (cb' := 2) (sb' := 17) (by decide) (by decide) dX1_rowOf_0 (fun l2 H_3 hq_6 ho_4 hg_5 => ?_)
  refine v_dup E rfl dX1_rowOf_3 ?_
  refine V.frame (fun hfz_fr_7 hfk_fr_7 => ?_)
  rw [hH0] at hfz_fr_7 hfk_fr_7
  rw [hA0] at hfk_fr_7
  have hC_fr_7 := hC.call hA93 hfz_fr_7 hfk_fr_7
  have h93_l2 : κ.2 93 ≤ l2 := Nat.le_trans hC.le (by omega)
  refine v_callI E (As := []) (b := l2) (j_init κ H_3 h93_l2 hC_fr_7 ho_4) q117 q73 q115 q116 rfl 0 (by decide +kernel) rfl (by decide) (by decide) (cb' := 2) (sb' := 17) (by decide) (by decide) rfl (rest := [.ref l2]) (Nat.le_of_ble_eq_true rfl) (fun q h => hNew q (by rw [show q = l2 from h]; omega)) dX1_rowOf_4 (fun v_8 H_9 hpost_10 hz_11 hk_12 => ?_)
  obtain ⟨rfl, hA_l2⟩ := hpost_10
  have hkN_13 : ∀ q9 : Nat, q9 < Array.size H0 → ¬ (fun _ => False : Nat → Prop) q9 → H_9[q9]? = H0[q9]? := fun q9 h9 _ => (hk_12 q9 (by rw [hg_5.1]; omega) (fun h => by have h8 : q9 = l2 := h; omega)).trans (hg_5.2 q9 h9)
  have hl_14 := CS.kf0 hC_fr_1 (kF.ext (by have := hg_5.1; omega) hkN_13) hSt
  have hLB_l2 := LB.nil (S := H0.size) (E := (eB κ (T (a i)).2)) hA_l2 (by omega)
  refine V.eq (st' := [.ref l2]) rfl ?_
  refine v_astore_n E dX1_rowOf_7 (zlt hL rfl) (lv' := [(2, .ref l2), (0, .ref x), (1, vi (i : Int))]) rfl ?_
  refine v_aload_n E 1 rfl dX1_rowOf_8 ?_
  refine v_iload_n E 2 rfl dX1_rowOf_9 ?_
  refine V.frame (fun hfz_fr_17 hfk_fr_17 => ?_)
  rw [hH0] at hfz_fr_17 hfk_fr_17
  rw [hA0] at hfk_fr_17
  have hC_fr_17 := hC.call hA93 hfz_fr_17 hfk_fr_17
  refine v_callV E (As := [vi (i : Int)]) (b := x) (ci := 0) (C := RX1) (T := TX1) (N := 3) hl_14.2.1 rfl (x_poly κ H_9 (i := i) hii hC_fr_17 hl_14) (lw_V q606 q608 qs8 q70 q609) 1 (by decide +kernel) rfl (by decide) (by decide) (cb' := 2) (sb' := 17) (by decide) (by decide) rfl (rest := []) (Nat.le_of_ble_eq_true rfl) (fun q h => h.elim) dX1_rowOf_10 (fun v_18 H_19 hpost_20 hz_21 hk_22 => ?_)
  obtain ⟨pk_15, rfl, hpk_16⟩ := hpost_20
  have hl_23 := CS.kf0 hC_fr_17 (kF.ext hz_21 hk_22) hl_14
  have hl_24 := LB.kf (eB_L κ _) hC_fr_17 (kF.ext hz_21 hk_22) aD.f aD.no hLB_l2
  refine V.eq (st' := [.ref pk_15]) rfl ?_
  obtain ⟨hnfr, h13r, lr, hopr, br, capr, mdr, gr, hAr, helr, hDlr, hDbr⟩ := id hpk_16
  have hRW : RW κ H_19 lr br mdr (T (a i)).1 capr gr (T (a i)).2 := ⟨hAr, helr⟩
  refine v_getfN (host := "SturmRoots") E in_X3 hopr (ci := 2) rfl 0 (by decide) (by decide +kernel) rfl (v := .ref lr) rfl dX1_rowOf_13 ?_
  refine V.frame (fun hfz_fr_25 hfk_fr_25 => ?_)
  rw [hH0] at hfz_fr_25 hfk_fr_25
  rw [hA0] at hfk_fr_25
  have hC_fr_25 := hC.call hA93 hfz_fr_25 hfk_fr_25
  refine v_callV E (As := []) (b := lr) (ci := 5) (C := RJ2) (T := TJ2) (N := 3) hRW.1.1 rfl (j_iter κ H_19 hC_fr_25 hRW.1) (lw_V q291 q292 q293 q73 q294) 0 (by decide +kernel) rfl (by decide) (by decide) (cb' := 1) (sb' := 13) (by decide) (by decide) rfl (rest := []) (Nat.le_of_ble_eq_true rfl) (fun q h => h.elim) dX1_rowOf_16 (fun v_26 H_27 hpost_28 hz_29 hk_30 => ?_)
  obtain ⟨it, rfl, hitH, hitI⟩ := hpost_28
  have hl_31 := CS.kf0 hC_fr_25 (kF.ext hz_29 hk_30) hl_23
  have hl_32 := LB.kf (eB_L κ _) hC_fr_25 (kF.ext hz_29 hk_30) aD.f aD.no hl_24
  have hl_33 := RW.kf hC_fr_25 (kF.ext hz_29 hk_30) (fun h => h) (fun _ h => h) hRW
  have hitH : H0.size ≤ it := Nat.le_trans hfz_fr_25 hitH
  refine V.eq (st' := [.ref it]) rfl ?_
  refine v_astore_n E dX1_rowOf_19 (zlt hL rfl) (lv' := [(3, .ref it), (2, .ref l2), (0, .ref x), (1, vi (i : Int))]) rfl ?_
  have loop_20 : ∀ (m_20 : Nat) (H : Heap) (k b2 cb sb : Nat) (r : Int), (T (a i)).1 - k < m_20 → (k ≤ (T (a i)).1) → (al0 k ≤ cb) → (10 * al0 k ≤ sb) → LB κ H0.size (eB κ (T (a i)).2) H l2 b2 k → IT κ H it lr (k : Int) r mdr → RW κ H lr br mdr (T (a i)).1 capr gr (T (a i)).2 → V z H cb sb 20 [(3, .ref it), (2, .ref l2)] [] := by
    intro m_20
    induction m_20 with
    | zero => intro H k b2 cb sb r hm; exact absurd hm (by omega)
    | succ m_20 ih_20 =>
      intro H k b2 cb sb r hm_20 hk hcb hsb hR hI hRW2
      refine v_aload_n E 0 rfl dX1_rowOf_20 ?_
      refine V.frame (fun hfz_fr_34 hfk_fr_34 => ?_)
      rw [hH0] at hfz_fr_34 hfk_fr_34
      rw [hA0] at hfk_fr_34
      have hC_fr_34 := hC.call hA93 hfz_fr_34 hfk_fr_34
      refine v_callF E (As := []) (b := it) (ci := 7) (C := RJ17) (T := TJ17) (N := 4) hI.1 rfl (j_hasNext κ H hC_fr_34 (by omega) hRW2.1 hI) (by decide +kernel) (lw_F q321 q325 q327 q92 q329) 0 (by decide +kernel) rfl (by decide) (by decide) (cb' := (cb - 0)) (sb' := (sb - 0)) (by omega) (by omega) rfl (rest := []) (Nat.le_of_ble_eq_true rfl) (fun q h => h.elim) dX1_rowOf_21 (fun v_35 H_36 hpost_37 hz_38 hk_39 => ?_)
      obtain rfl := hpost_37
      have hl_40 := LB.kf (eB_L κ _) hC_fr_34 (kF.ext hz_38 hk_39) aD.f aD.no hR
      have hl_41 := IT.kf (kF.ext hz_38 hk_39) hI (fun h => h)
      have hl_42 := RW.kf hC_fr_34 (kF.ext hz_38 hk_39) (fun h => h) (fun _ h => h) hRW2
      by_cases hkn : k = (T (a i)).1
      ·
        refine V.eq (st' := [vi 0]) (by rw [if_pos (show ((k : Nat) : Int) = (((T (a i)).1 : Nat) : Int) by omega)]; rfl) ?_
        refine v_if_eq E (tgt := 50) dX1_rowOf_26 (by decide) ⟨by omega, by omega⟩ (fun c_26 => ?_) (fun c_26 => absurd c_26 (by omega))
        refine v_aload_n E 1 rfl dX1_rowOf_50 ?_
        refine v_aret E hE rfl (Or.inl ⟨_, rfl⟩) dX1_rowOf_51 (Or.inr ⟨_, rfl⟩) ?_
        have hkn2 : k = (T (a i)).1 := hkn
        exact ⟨l2, _, rfl, hkn2 ▸ hl_40⟩
      ·
        refine V.eq (st' := [vi 1]) (by rw [if_neg (show ¬ ((k : Nat) : Int) = (((T (a i)).1 : Nat) : Int) by omega)]; rfl) ?_
        refine v_if_eq E (tgt := 50) dX1_rowOf_26 (by decide) ⟨by omega, by omega⟩ (fun c_26 => absurd c_26 (by omega)) (fun c_26 => ?_)
        refine v_aload_n E 0 rfl dX1_rowOf_29 ?_
        obtain ⟨y_43, hy_44, hEy_45⟩ := hl_42.2 k (by omega)
        refine V.frame (fun hfz_fr_46 hfk_fr_46 => ?_)
        rw [hH0] at hfz_fr_46 hfk_fr_46
        rw [hA0] at hfk_fr_46
        have hC_fr_46 := hC.call hA93 hfz_fr_46 hfk_fr_46
        refine v_callF E (As := []) (b := it) (ci := 7) (C := RJ17) (T := TJ17) (N := 4) hl_41.1 rfl (j_next7 κ H_36 hC_fr_46 (i := k) (y := y_43) (by omega) hy_44 hl_42.1 hl_41) (by decide +kernel) (lw_F q334 q337 q339 q92 q341) 0 (by decide +kernel) rfl (by decide) (by decide) (cb' := ((cb - 0) - 0)) (sb' := ((sb - 0) - 0)) (by omega) (by omega) rfl (rest := []) (Nat.le_of_ble_eq_true rfl) (fun q9 h => hNew q9 (by rw [show q9 = it from h]; exact hitH)) dX1_rowOf_30 (fun v_47 H_48 hpost_49 hz_50 hk_51 => ?_)
        obtain ⟨rfl, hI_52⟩ := hpost_49
        have hl_53 := LB.kf (eB_L κ _) hC_fr_46 (kF.itr hl_41 (fun q h => h) hz_50 hk_51) aD.f (aD.it hl_41 (fun q h => h)) hl_40
        have hl_54 := RW.kf hC_fr_46 (kF.itr hl_41 (fun q h => h) hz_50 hk_51) (fun h => by have h1 : H0.size ≤ lr := (by have h1 : _ = it := h; rw [h1]; exact hitH); have h2 := (hDlr).2; omega) (fun hc h => by have h1 : H0.size ≤ br := (by have h1 : _ = it := h; rw [h1]; exact hitH); have h2 := (hDbr hc).2; omega) hl_42
        have hl_55 := BI.kf hC.D (kF.itr hl_41 (fun q h => h) hz_50 hk_51) hEy_45
        refine V.eq (st' := [.ref y_43]) rfl ?_
        obtain ⟨mz_57, nz_57, cfz_57, ⟨c1z_57, c2z_57, c3z_57, ho_56⟩, -⟩ := id hl_55
        refine v_castS E ho_56 (q := (RJ16, TJ16, 6)) rfl q621 dX1_rowOf_35 ?_
        refine v_astore E dX1_rowOf_38 (zlt hL rfl) (lv' := [(4, .ref y_43), (3, .ref it), (2, .ref l2)]) rfl ?_
        refine v_aload_n E 2 rfl dX1_rowOf_40 ?_
        refine v_aload E 0 rfl dX1_rowOf_41 ?_
        refine V.frame (fun hfz_fr_58 hfk_fr_58 => ?_)
        rw [hH0] at hfz_fr_58 hfk_fr_58
        rw [hA0] at hfk_fr_58
        have hC_fr_58 := hC.call hA93 hfz_fr_58 hfk_fr_58
        obtain ⟨md_59, g_60, hA_61, hel_62, hSl_63, hSb_64⟩ := id hl_53
        have hal_65 := al_k k (show k < 10 by omega)
        obtain ⟨md_71, g_72, hA_73, -⟩ := id hl_53
        refine v_callV E (As := [.ref y_43]) (b := l2) (ci := 5) (C := RJ2) (T := TJ2) (N := 3) hA_73.1 rfl (j_addB κ H_48 hC_fr_58 (show k < 15 by omega) hl_55.oA hA_61) (lw_V q208 q209 q210 q73 q211) 1 (by decide +kernel) rfl (by decide) (by decide) (cb' := (((cb - 0) - 0) - alM k)) (sb' := (((sb - 0) - 0) - alS k)) (by omega) (by omega) rfl (rest := []) (Nat.le_of_ble_eq_true rfl) (fun q h => hNew q (h.elim (fun h => by rw [h]; exact Nat.le_trans (Nat.le_refl _) hSl_63) (fun h => by rw [h.1]; exact Nat.le_trans (Nat.le_refl _) (hSb_64 h.2)))) dX1_rowOf_43 (fun v_66 H_67 hpost_68 hz_69 hk_70 => ?_)
        obtain ⟨rfl, b_74, md_75, g_76, hA_77, hg_78, hgn_79, hb_80⟩ := hpost_68
        have hF_81 := (kF.lst hA_61 (fun q h => h.imp id (fun h => ⟨h.1, capR_pos h.2⟩)) hz_69 hk_70)
        have hl_82 := RW.kf hC_fr_58 hF_81 (fun h => by have h1 : H0.size ≤ lr := (h.elim (fun e => by rw [e]; exact hSl_63) (fun e => by rw [e.1]; exact hSb_64 e.2)); have h2 := (hDlr).2; omega) (fun hc h => by have h1 : H0.size ≤ br := (h.elim (fun e => by rw [e]; exact hSl_63) (fun e => by rw [e.1]; exact hSb_64 e.2)); have h2 := (hDbr hc).2; omega) hl_54
        have hl_83 := BI.kf hC.D hF_81 hl_55
        have hl_84 := IT.kf hF_81 hI_52 (nIT hC.D hI_52 hA_61)
        have hv_86 := BI.kf hC.D hF_81 hl_55
        have hLB_85 : LB κ H0.size (eB κ (T (a i)).2) H_67 l2 b_74 (k + 1) := LB.step (fun k9 hk9 => (hel_62 k9 hk9).elim (fun y hy => ⟨y, hy.1, (eB_L κ _) _ _ _ _ _ hC_fr_58 hF_81 aD.f hy.2⟩)) hv_86 hA_77 hg_78 hgn_79 hSl_63 (hb_80.elim (fun h => by rw [h.1]; exact hSb_64 h.2) (fun h => Nat.le_trans (show H0.size ≤ Array.size H_48 from hfz_fr_58) h))
        refine V.eq (st' := [vi 1]) rfl ?_
        refine v_pop E rfl dX1_rowOf_46 ?_
        refine v_goto E (tgt := 20) dX1_rowOf_47 (by decide) ?_
        refine V.sub [1, 2] (lv' := [(3, .ref it), (2, .ref l2)]) rfl ?_
        exact ih_20  H_67 (k + 1) _ (((cb - 0) - 0) - alM k) (((sb - 0) - 0) - alS k) _ (by omega) (by omega) (by omega) (by omega) hLB_85 hl_84 hl_82
  refine V.sub [0, 1] (lv' := [(3, .ref it), (2, .ref l2)]) rfl ?_
  exact loop_20 ((T (a i)).1 + 1) H_27 0 (κ.2 98) 1 13 (-1) (by omega) (Nat.zero_le _) (by rw [al0_0]; omega) (by rw [al0_0]; omega) hl_32 hitI hl_33
