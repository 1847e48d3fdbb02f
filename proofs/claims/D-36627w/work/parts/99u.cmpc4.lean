/-! THE COMPONENT'S PUBLIC CALLS: set add derivative -/
theorem okP.lt {P : Pl} (h : okP P) : ∀ k, ((P.2 k).natAbs : Int) < 2 ^ (32 * 1) := fun k => by
  have h1 := h.2 k
  have e : (2 : Int) ^ (32 * 1) = 4294967296 := by decide
  rw [e]; omega
theorem okP_set {P : Pl} {p : Nat} {v : Int} (h : okP P) (hv : -99 ≤ v ∧ v ≤ 99) : okP (mkP 7 (setc P p v)) := by
  refine ⟨pl_le _ _, fun k => ?_⟩
  show (cut 7 (setc P p v) k).natAbs ≤ 9999
  unfold cut setc
  split
  · split
    · omega
    · exact h.2 k
  · decide
theorem sB_add {x y : Int} (hx : x.natAbs ≤ 99999) (hy : y.natAbs ≤ 99999) : sB ((x.natAbs : Int) + (y.natAbs : Int)) := by
  unfold sB
  have : (2 : Int) ^ 18 ≤ 2 ^ 1536 := pw_mono (by decide)
  have e : (2 : Int) ^ 18 = 262144 := by decide
  omega
set_option maxHeartbeats 1000000 in
set_option maxRecDepth 100000 in
/-- set -/
theorem c_set (κ : zK) (H0 : Heap) {x : Nat} {S : Nat → Pl} {isoP : Option Pl} {n cap : Nat} {iv : Nat → Ivl} {v0 : Int} (hrv0 : rI v0) {v1 : Int} (hrv1 : rI v1) {v2 : Int} (hrv2 : rI v2) (hC : CO κ H0) (hok : bC5 S) (hP : CP κ H0 x S isoP n cap iv)  : MtX κ yX1_set cX1_set 7 (some .int) 7 158 40 220 H0 [.ref x, vi v0, vi v1, vi v2] (pA κ H0) (fun v H1 => (xoSet S v0 v1 v2).2.1 = 0 ∧ v = some (vi (xoSet S v0 v1 v2).1) ∧ CP κ H1 x (xoSet S v0 v1 v2).2.2 isoP n cap iv) (fun C H1 => (C = "java/lang/IndexOutOfBoundsException" ∧ (xoSet S v0 v1 v2).2.1 = 1 ∨ C = "java/lang/IllegalArgumentException" ∧ (xoSet S v0 v1 v2).2.1 = 2) ∧ CP κ H1 x S isoP n cap iv) := by
  refine MtX.of (by decide) (Nat.le_of_ble_eq_true rfl) ?_
  intro z E X9 hE hH0 hA0 hL hini
  have hAll : ∀ q, (pA κ H0) q → zA z.A z.H0 q := fun q h => Or.inl (by rw [hA0]; exact h)
  have hNew : ∀ q, H0.size ≤ q → zA z.A z.H0 q := fun q h => Or.inr (by rw [hH0]; exact h)
  have E : zOK z cX1_set RX1 κ 7 158 (some .int) := E
  refine V.eqL (lv' := [(0, .ref x), (1, vi v0), (2, vi v1), (3, vi v2)]) rfl ?_
  obtain ⟨ls, bs, li, bi, a, iso, T, hS, hST, hiso⟩ := hP
  have hA93 : ∀ q, pA κ H0 q → κ.2 93 ≤ q := fun q h => h.1
  have hD := hC.D
  have hsl0 := hS.sl
  have hokT : ∀ k, k < 5 → okP (T (a k)) := fun k hk => by rw [← hST k hk]; exact (hok k hk).2
  have hSt := CS.mono (D' := fun q => dS ls bs li bi q ∧ q < Array.size H0) hS (fun q h1 h2 => ⟨h2, h1⟩)
  refine v_iload_n E 1 rfl dX1_set_0 ?_
  refine V.frame (fun hfz_fr_1 hfk_fr_1 => ?_)
  rw [hH0] at hfz_fr_1 hfk_fr_1
  rw [hA0] at hfk_fr_1
  have hC_fr_1 := hC.call hA93 hfz_fr_1 hfk_fr_1
  refine v_callSX E X9 hE (As := [vi v0]) (x_slot κ H0 hrv0) (lw_S q570 q571 q70 q572) 1 (by decide +kernel) rfl (by decide) (by decide) (cb' := 39) (sb' := 214) (by decide) (by decide) rfl (rest := []) (Nat.le_of_ble_eq_true rfl) (fun q h => h.elim) dX1_set_1 (fun C9 H9 hx9 hz9 hk9 => by exact ⟨Or.inl (⟨hx9.1, (by have hx8 := hx9.2; unfold xoSet; first | (split <;> first | rfl | (exfalso; omega) | (split <;> first | rfl | (exfalso; omega) | (split <;> first | rfl | (exfalso; omega)))))⟩), CS.pub (CS.kf0 hC_fr_1 (kF.ext hz9 hk9) (CS.mono (D' := dS ls bs li bi) hSt (fun q h1 h2 => h2.1))) hST hiso⟩) (fun v_2 H_3 hpost_4 hz_5 hk_6 => ?_)
  obtain ⟨rfl, hsv0⟩ := hpost_4
  have hl_7 := CS.kf0 hC_fr_1 (kF.ext hz_5 hk_6) hSt
  obtain ⟨i0, hni0⟩ : ∃ i0 : Nat, v0 = (i0 : Int) := ⟨v0.toNat, by omega⟩
  subst hni0
  have hii0 : i0 < 5 := by omega
  refine V.eq (st' := []) rfl ?_
  refine v_iload_n E 2 rfl dX1_set_4 ?_
  refine V.frame (fun hfz_fr_8 hfk_fr_8 => ?_)
  rw [hH0] at hfz_fr_8 hfk_fr_8
  rw [hA0] at hfk_fr_8
  have hC_fr_8 := hC.call hA93 hfz_fr_8 hfk_fr_8
  refine v_callSX E X9 hE (As := [vi v1]) (x_pow κ H_3 hrv1) (lw_S q588 q589 q70 q590) 1 (by decide +kernel) rfl (by decide) (by decide) (cb' := 38) (sb' := 208) (by decide) (by decide) rfl (rest := []) (Nat.le_of_ble_eq_true rfl) (fun q h => h.elim) dX1_set_5 (fun C9 H9 hx9 hz9 hk9 => by exact ⟨Or.inl (⟨hx9.1, (by have hx8 := hx9.2; unfold xoSet; first | (split <;> first | rfl | (exfalso; omega) | (split <;> first | rfl | (exfalso; omega) | (split <;> first | rfl | (exfalso; omega)))))⟩), CS.pub (CS.kf0 hC_fr_8 (kF.ext hz9 hk9) (CS.mono (D' := dS ls bs li bi) hl_7 (fun q h1 h2 => h2.1))) hST hiso⟩) (fun v_9 H_10 hpost_11 hz_12 hk_13 => ?_)
  obtain ⟨rfl, hsv1⟩ := hpost_11
  have hl_14 := CS.kf0 hC_fr_8 (kF.ext hz_12 hk_13) hl_7
  obtain ⟨i1, hni1⟩ : ∃ i1 : Nat, v1 = (i1 : Int) := ⟨v1.toNat, by omega⟩
  subst hni1
  have hii1 : i1 < 7 := by omega
  refine V.eq (st' := []) rfl ?_
  refine v_iload_n E 3 rfl dX1_set_8 ?_
  refine v_bipush E ⟨by decide, by decide⟩ dX1_set_9 ?_
  refine v_icmp_lt E (tgt := 20) dX1_set_11 (by decide) hrv2 ⟨by omega, by omega⟩ (fun c_11 => ?_) (fun c_11 => ?_)
  · refine V.frame (fun hfz_fr_15 hfk_fr_15 => ?_)
    rw [hH0] at hfz_fr_15 hfk_fr_15
    rw [hA0] at hfk_fr_15
    have hC_fr_15 := hC.call hA93 hfz_fr_15 hfk_fr_15
    refine V.frame (fun hfz_fr_16 hfk_fr_16 => ?_)
    rw [hH0] at hfz_fr_16 hfk_fr_16
    rw [hA0] at hfk_fr_16
    refine v_throw0 E X9 hE (cls := "java/lang/IllegalArgumentException") (names := ["java/lang/RuntimeException", "java/lang/Exception"]) (ik := 138) (ic := 140) (by decide +kernel) (by decide +kernel) q591 q89 (ex_1 E.kn E.2.2.2.2.1 q600) ex_1_ok dX1_set_20 dX1_set_23 dX1_set_24 dX1_set_27 (by decide) (Nat.le_of_ble_eq_true rfl) (by omega) (by omega) (fun H9 hz9 hk9 => ?_)
    exact ⟨Or.inr (⟨rfl, (by unfold xoSet; first | (split <;> first | rfl | (exfalso; omega) | (split <;> first | rfl | (exfalso; omega) | (split <;> first | rfl | (exfalso; omega)))))⟩), CS.pub (CS.kf0 hC_fr_15 (kF.ext hz9 (fun q hq _ => hk9 q hq)) (CS.mono (D' := dS ls bs li bi) hl_14 (fun q h1 h2 => h2.1))) hST hiso⟩
  · refine v_iload_n E 3 rfl dX1_set_14 ?_
    refine v_bipush E ⟨by decide, by decide⟩ dX1_set_15 ?_
    refine v_icmp_le E (tgt := 28) dX1_set_17 (by decide) hrv2 ⟨by omega, by omega⟩ (fun c_17 => ?_) (fun c_17 => ?_)
    · refine v_aload_n E 0 rfl dX1_set_28 ?_
      refine v_iload_n E 1 rfl dX1_set_29 ?_
      refine V.frame (fun hfz_fr_17 hfk_fr_17 => ?_)
      rw [hH0] at hfz_fr_17 hfk_fr_17
      rw [hA0] at hfk_fr_17
      have hC_fr_17 := hC.call hA93 hfz_fr_17 hfk_fr_17
      refine v_callV E (As := [vi ((i0 : Nat) : Int)]) (b := x) (ci := 0) (C := RX1) (T := TX1) (N := 3) hl_14.2.1 rfl (x_poly κ H_10 (i := i0) hii0 hC_fr_17 hl_14) (lw_V q606 q608 qs8 q70 q609) 1 (by decide +kernel) rfl (by decide) (by decide) (cb' := 38) (sb' := 208) (by decide) (by decide) rfl (rest := []) (Nat.le_of_ble_eq_true rfl) (fun q h => h.elim) dX1_set_30 (fun v_18 H_19 hpost_20 hz_21 hk_22 => ?_)
      obtain ⟨pq, rfl, hpq⟩ := hpost_20
      have hl_23 := CS.kf0 hC_fr_17 (kF.ext hz_21 hk_22) hl_14
      refine V.eq (st' := [.ref pq]) rfl ?_
      refine v_astore E dX1_set_33 (zlt hL rfl) (lv' := [(4, .ref pq), (0, .ref x), (1, vi ((i0 : Nat) : Int)), (2, vi ((i1 : Nat) : Int)), (3, vi v2)]) rfl ?_
      refine V.frame (fun hfz_fr_24 hfk_fr_24 => ?_)
      rw [hH0] at hfz_fr_24 hfk_fr_24
      rw [hA0] at hfk_fr_24
      have hC_fr_24 := hC.call hA93 hfz_fr_24 hfk_fr_24
      refine V.frame (fun hfz_fr_25 hfk_fr_25 => ?_)
      rw [hH0] at hfz_fr_25 hfk_fr_25
      rw [hA0] at hfk_fr_25
      refine v_new E in_J2 tyJ2 tyJ2_ok q113 q114 q73 (ci := 5) rfl (fs := [vi 0, .null, vi 0]) (fun j hj => by rcases (show j = 0 ∨ j = 1 ∨ j = 2 by omega) with rfl | rfl | rfl <;> rfl) (cb' := 37) (sb' := 205) (by decide) (by decide) dX1_set_35 (fun l2 H_26 hq_29 ho_27 hg_28 => ?_)
      refine v_dup E rfl dX1_set_38 ?_
      refine V.frame (fun hfz_fr_30 hfk_fr_30 => ?_)
      rw [hH0] at hfz_fr_30 hfk_fr_30
      rw [hA0] at hfk_fr_30
      have hC_fr_30 := hC.call hA93 hfz_fr_30 hfk_fr_30
      have h93_l2 : κ.2 93 ≤ l2 := Nat.le_trans hC.le (by omega)
      refine v_callI E (As := []) (b := l2) (j_init κ H_26 h93_l2 hC_fr_30 ho_27) q117 q73 q115 q116 rfl 0 (by decide +kernel) rfl (by decide) (by decide) (cb' := 37) (sb' := 205) (by decide) (by decide) rfl (rest := [.ref l2]) (Nat.le_of_ble_eq_true rfl) (fun q h => hNew q (by rw [show q = l2 from h]; omega)) dX1_set_39 (fun v_31 H_32 hpost_33 hz_34 hk_35 => ?_)
      obtain ⟨rfl, hA_l2⟩ := hpost_33
      have hkN_36 : ∀ q9 : Nat, q9 < Array.size H_19 → ¬ (fun _ => False : Nat → Prop) q9 → H_32[q9]? = H_19[q9]? := fun q9 h9 _ => (hk_35 q9 (by rw [hg_28.1]; omega) (fun h => by have h8 : q9 = l2 := h; omega)).trans (hg_28.2 q9 h9)
      have hl_37 := CS.kf0 hC_fr_24 (kF.ext (by have := hg_28.1; omega) hkN_36) hl_23
      have hl_38 := Po.kf hC_fr_24 (kF.ext (by have := hg_28.1; omega) hkN_36) aD.no hpq
      have hLB_l2 := LB.nil (S := H0.size) (E := (eB κ (setc (T (a i0)) i1 v2))) hA_l2 (by omega)
      refine V.eq (st' := [.ref l2]) rfl ?_
      refine v_astore E dX1_set_42 (zlt hL rfl) (lv' := [(5, .ref l2), (4, .ref pq), (0, .ref x), (1, vi ((i0 : Nat) : Int)), (2, vi ((i1 : Nat) : Int)), (3, vi v2)]) rfl ?_
      refine v_iconst E dX1_set_44 ?_
      refine v_istore E dX1_set_45 (zlt hL rfl) (lv' := [(6, vi 0), (5, .ref l2), (4, .ref pq), (0, .ref x), (1, vi ((i0 : Nat) : Int)), (2, vi ((i1 : Nat) : Int)), (3, vi v2)]) rfl ?_
      have loop_47 : ∀ (m_47 : Nat) (H : Heap) (k b2 cb sb : Nat), 7 - k < m_47 → (k ≤ 7) → (20 + 2 * (7 - k) + al0 k ≤ cb) → (120 + 8 * (7 - k) + 10 * al0 k ≤ sb) → LB κ H0.size (eB κ (setc (T (a i0)) i1 v2)) H l2 b2 k → CS κ (fun q => dS ls bs li bi q ∧ q < Array.size H0) H x ls bs li bi a iso T n cap iv → Po κ (fun q => dS ls bs li bi q ∧ q < Array.size H0) H pq (T (a i0)) → V z H cb sb 47 [(6, vi (k : Int)), (5, .ref l2), (4, .ref pq), (3, vi v2), (2, vi ((i1 : Nat) : Int)), (1, vi ((i0 : Nat) : Int)), (0, .ref x)] [] := by
        intro m_47
        induction m_47 with
        | zero => intro H k b2 cb sb hm; exact absurd hm (by omega)
        | succ m_47 ih_47 =>
          intro H k b2 cb sb hm_47 hk hcb hsb hR hS2 hP2
          refine v_iload E 0 rfl dX1_set_47 ?_
          refine v_bipush E ⟨by decide, by decide⟩ dX1_set_49 ?_
          refine v_icmp_gt E (tgt := 87) dX1_set_51 (by decide) ⟨by omega, by omega⟩ ⟨by omega, by omega⟩ (fun c_51 => ?_) (fun c_51 => ?_)
          · have hkn2 : k = 7 := by omega
            have hR_39 := hkn2 ▸ hR
            refine v_aload_n E 6 rfl dX1_set_87 ?_
            refine v_iload_n E 5 rfl dX1_set_88 ?_
            refine V.frame (fun hfz_fr_40 hfk_fr_40 => ?_)
            rw [hH0] at hfz_fr_40 hfk_fr_40
            rw [hA0] at hfk_fr_40
            have hC_fr_40 := hC.call hA93 hfz_fr_40 hfk_fr_40
            refine V.frame (fun hfz_fr_41 hfk_fr_41 => ?_)
            rw [hH0] at hfz_fr_41 hfk_fr_41
            rw [hA0] at hfk_fr_41
            refine v_new E in_X3 tyX3 tyX3_ok q145 q146 q75 (ci := 2) rfl (fs := [.null]) (fun j hj => by rcases (show j = 0 by omega) with rfl <;> rfl) (cb' := (cb - 1)) (sb' := (sb - 1)) (by omega) (by omega) dX1_set_89 (fun pn H_42 hq_45 ho_43 hg_44 => ?_)
            refine v_dup E rfl dX1_set_92 ?_
            refine v_aload E 1 rfl dX1_set_93 ?_
            refine V.frame (fun hfz_fr_46 hfk_fr_46 => ?_)
            rw [hH0] at hfz_fr_46 hfk_fr_46
            rw [hA0] at hfk_fr_46
            have hC_fr_46 := hC.call hA93 hfz_fr_46 hfk_fr_46
            have hLB_47 := LB.kf (eB_L κ _) hC_fr_40 (kF.grow hg_44) aD.no aD.no hR_39
            refine v_callI E (As := [.ref l2]) (b := pn) (p_init κ H_42 (D := (dS ls bs li bi)) (n := 7) (c := setc (T (a i0)) i1 v2) hC_fr_46 (Nat.le_trans hC.le (by omega)) (by omega) (fun q h => by have h2 := hsl0; exact ⟨by omega, by omega, by omega, by omega⟩) hC.le ho_43 hLB_47) q149 q75 q147 q148 rfl 1 (by decide +kernel) rfl (by decide) (by decide) (cb' := ((cb - 1) - 0)) (sb' := ((sb - 1) - 0)) (by omega) (by omega) rfl (rest := [.ref pn, vi ((i0 : Nat) : Int), .ref x]) (Nat.le_of_ble_eq_true rfl) (fun q h => hNew q (h.elim (fun h => by rw [h]; omega) (fun h => h.elim (fun h => by rw [h]; exact (hR_39).choose_spec.choose_spec.2.2.1) (fun h => by rw [h.1]; exact (hR_39).choose_spec.choose_spec.2.2.2 h.2)))) dX1_set_95 (fun v_48 H_49 hpost_50 hz_51 hk_52 => ?_)
            obtain ⟨rfl, hPo_pn⟩ := hpost_50
            obtain ⟨md_54, g_55, hA_56, -, hSl_57, hSb_58⟩ := id hR_39
            have hkN_53 : ∀ q9 : Nat, q9 < Array.size H → ¬ (q9 = l2 ∨ (q9 = b2 ∧ 0 < 7)) → H_49[q9]? = H[q9]? := fun q9 h9 h8 => (hk_52 q9 (by rw [hg_44.1]; omega) (fun h => h.elim (fun h => by omega) h8)).trans (hg_44.2 q9 h9)
            have hF_59 : kF κ H H_49 (fun q => q = l2 ∨ (q = b2 ∧ 0 < 7)) := kF.lst hA_56 (fun q h => h.imp id (fun h => ⟨h.1, capR_pos h.2⟩)) (by have := hg_44.1; omega) hkN_53
            have hl_60 := CS.kf hC_fr_40 hF_59 (aD.nn (fun q h hd => absurd hd.2 (Nat.not_lt.mpr (h.elim (fun e => by rw [e]; exact hSl_57) (fun e => by rw [e.1]; exact hSb_58 e.2))))) (fun q h => by have h1 : H0.size ≤ q := h.elim (fun e => by rw [e]; exact hSl_57) (fun e => by rw [e.1]; exact hSb_58 e.2); have h3 := hsl0; exact ⟨by omega, by omega, by omega, by omega, fun _ => by omega⟩) hS2
            have hl_61 := Po.kf hC_fr_40 hF_59 (aD.nn (fun q h hd => absurd hd.2 (Nat.not_lt.mpr (h.elim (fun e => by rw [e]; exact hSl_57) (fun e => by rw [e.1]; exact hSb_58 e.2))))) hP2
            refine V.eq (st' := [.ref pn, vi ((i0 : Nat) : Int), .ref x]) rfl ?_
            have hSo_62 := CS.mono (D' := dS ls bs li bi) hl_60 (fun q h1 h2 => h2.1)
            have hop : xoSet S (i0 : Int) (i1 : Int) v2 = storeR (mkP 7 (setc (T (a i0)) i1 v2)) i0 4 S := by unfold xoSet; rw [if_pos ⟨by omega, by omega⟩, if_pos ⟨by omega, by omega⟩]; show storeR (mkP 7 (setc (S i0) i1 v2)) i0 4 S = _; rw [hST i0 hii0]
            have hokp : okP (mkP 7 (setc (T (a i0)) i1 v2)) := okP_set (hokT i0 hii0) ⟨by omega, by omega⟩
            refine V.frame (fun hfz_fr_63 hfk_fr_63 => ?_)
            rw [hH0] at hfz_fr_63 hfk_fr_63
            rw [hA0] at hfk_fr_63
            have hC_fr_63 := hC.call hA93 hfz_fr_63 hfk_fr_63
            obtain ⟨md_65, g_66, hA_64, hg_67⟩ := hSo_62.2.2.1
            refine v_callVX E X9 hE (As := [vi ((i0 : Nat) : Int), .ref pn]) (b := x) (ci := 0) (C := RX1) (T := TX1) (N := 3) hSo_62.2.1 rfl (x_store κ H_49 hii0 hC_fr_63 dS_bs hPo_pn hSo_62) (lw_V q612 q614 qs9 q70 q615) 2 (by decide +kernel) rfl (by decide) (by decide) (cb' := (((cb - 1) - 0) - 18)) (sb' := (((sb - 1) - 0) - 110)) (by omega) (by omega) rfl (rest := []) (Nat.le_of_ble_eq_true rfl) (fun q h => by have h9 := pA.arr hfk_fr_63 hA_64.2.1 (hA_64.2.2.2.2.2.2.2.2.1 (by decide)); rw [← show q = bs from h] at h9; exact h9.elim (fun e => hAll q e) (fun e => hNew q e)) dX1_set_98 (fun C9 H9 hx9 hz9 hk9 => (by exact absurd hokp hx9.2.1)) (fun v_68 H_69 hpost_70 hz_71 hk_72 => ?_)
            obtain ⟨hok9, rfl, kq, hkq9, hS9⟩ := hpost_70
            refine V.eq (st' := [vi (((Prod.fst (mkP 7 (setc (T (a i0)) i1 v2)) : Nat) : Int) - 1)]) rfl ?_
            refine V.rt E hE (fun z9 E hE => ?_)
            refine v_iret E hE dX1_set_101 ?_
            rw [hop, storeR_y hok9]; exact ⟨rfl, rfl, CS.pubT hSo_62 hkq9 hS9 hST hiso⟩
          · refine v_aload E 1 rfl dX1_set_54 ?_
            refine v_iload E 0 rfl dX1_set_56 ?_
            refine v_iload_n E 4 rfl dX1_set_58 ?_
            refine v_icmp_ne E (tgt := 70) dX1_set_59 (by decide) ⟨by omega, by omega⟩ ⟨by omega, by omega⟩ (fun c_59 => ?_) (fun c_59 => ?_)
            · refine v_aload E 2 rfl dX1_set_70 ?_
              refine v_iload E 0 rfl dX1_set_72 ?_
              refine V.frame (fun hfz_fr_75 hfk_fr_75 => ?_)
              rw [hH0] at hfz_fr_75 hfk_fr_75
              rw [hA0] at hfk_fr_75
              have hC_fr_75 := hC.call hA93 hfz_fr_75 hfk_fr_75
              obtain ⟨-, -, l_82, ho_81, -⟩ := id hP2
              refine v_callV E (As := [vi (k : Int)]) (b := pq) (ci := 2) (C := RX3) (T := TX3) (N := 1) ho_81 rfl (p_at κ H (i := k) (by omega) hC_fr_75 hP2) (lw_V q467 q468 q469 q75 q470) 1 (by decide +kernel) rfl (by decide) (by decide) (cb' := (cb - 0)) (sb' := (sb - 0)) (by omega) (by omega) rfl (rest := [.ref l2]) (Nat.le_of_ble_eq_true rfl) (fun q h => h.elim) dX1_set_74 (fun v_76 H_77 hpost_78 hz_79 hk_80 => ?_)
              obtain ⟨qa_73, rfl, hBa_74⟩ := hpost_78
              have hl_83 := LB.kf (eB_L κ _) hC_fr_75 (kF.ext hz_79 hk_80) aD.f aD.no hR
              have hl_84 := CS.kf0 hC_fr_75 (kF.ext hz_79 hk_80) hS2
              have hl_85 := Po.kf hC_fr_75 (kF.ext hz_79 hk_80) aD.no hP2
              refine V.eq (st' := [.ref qa_73, .ref l2]) rfl ?_
              refine V.frame (fun hfz_fr_86 hfk_fr_86 => ?_)
              rw [hH0] at hfz_fr_86 hfk_fr_86
              rw [hA0] at hfk_fr_86
              have hC_fr_86 := hC.call hA93 hfz_fr_86 hfk_fr_86
              obtain ⟨md_87, g_88, hA_89, hel_90, hSl_91, hSb_92⟩ := id hl_83
              have hal_93 := al_k k (show k < 10 by omega)
              obtain ⟨md_99, g_100, hA_101, -⟩ := id hl_83
              refine v_callV E (As := [.ref qa_73]) (b := l2) (ci := 5) (C := RJ2) (T := TJ2) (N := 3) hA_101.1 rfl (j_addB κ H_77 hC_fr_86 (show k < 15 by omega) hBa_74.oA hA_89) (lw_V q208 q209 q210 q73 q211) 1 (by decide +kernel) rfl (by decide) (by decide) (cb' := ((cb - 0) - alM k)) (sb' := ((sb - 0) - alS k)) (by omega) (by omega) rfl (rest := []) (Nat.le_of_ble_eq_true rfl) (fun q h => hNew q (h.elim (fun h => by rw [h]; exact Nat.le_trans (Nat.le_refl _) hSl_91) (fun h => by rw [h.1]; exact Nat.le_trans (Nat.le_refl _) (hSb_92 h.2)))) dX1_set_77 (fun v_94 H_95 hpost_96 hz_97 hk_98 => ?_)
              obtain ⟨rfl, b_102, md_103, g_104, hA_105, hg_106, hgn_107, hb_108⟩ := hpost_96
              have hF_109 := (kF.lst hA_89 (fun q h => h.imp id (fun h => ⟨h.1, capR_pos h.2⟩)) hz_97 hk_98)
              have hl_110 := CS.kf hC_fr_86 hF_109 (aD.nn (fun q h hd => absurd hd.2 (Nat.not_lt.mpr (h.elim (fun e => by rw [e]; exact hSl_91) (fun e => by rw [e.1]; exact hSb_92 e.2))))) (fun q h => by have h1 : H0.size ≤ q := h.elim (fun e => by rw [e]; exact hSl_91) (fun e => by rw [e.1]; exact hSb_92 e.2); have h3 := hsl0; exact ⟨by omega, by omega, by omega, by omega, fun _ => by omega⟩) hl_84
              have hl_111 := Po.kf hC_fr_86 hF_109 (aD.nn (fun q h hd => absurd hd.2 (Nat.not_lt.mpr (h.elim (fun e => by rw [e]; exact hSl_91) (fun e => by rw [e.1]; exact hSb_92 e.2))))) hl_85
              have hl_112 := BI.kf hC.D hF_109 hBa_74
              have hv_114 := BI.kf hC.D hF_109 hBa_74
              have hLB_113 : LB κ H0.size (eB κ (setc (T (a i0)) i1 v2)) H_95 l2 b_102 (k + 1) := LB.step (fun k9 hk9 => (hel_90 k9 hk9).elim (fun y hy => ⟨y, hy.1, (eB_L κ _) _ _ _ _ _ hC_fr_86 hF_109 aD.f hy.2⟩)) (by show BI κ _ _ (setc (T (a i0)) i1 v2 k); rw [show setc (T (a i0)) i1 v2 k = ((T (a i0)).2 k) from if_neg (by omega)]; exact hv_114) hA_105 hg_106 hgn_107 hSl_91 (hb_108.elim (fun h => by rw [h.1]; exact hSb_92 h.2) (fun h => Nat.le_trans (show H0.size ≤ Array.size H_77 from hfz_fr_86) h))
              refine V.eq (st' := [vi 1]) rfl ?_
              refine v_pop E rfl dX1_set_80 ?_
              refine v_iinc E 0 rfl dX1_set_81 (zlt hL rfl) (lv' := [(6, vi ((k : Int) + 1)), (5, .ref l2), (4, .ref pq), (3, vi v2), (2, vi ((i1 : Nat) : Int)), (1, vi ((i0 : Nat) : Int)), (0, .ref x)]) rfl ?_
              refine v_goto E (tgt := 47) dX1_set_84 (by decide) ?_
              exact ih_47  H_95 (k + 1) _ ((cb - 0) - alM k) ((sb - 0) - alS k) (by omega) (by omega) (by omega) (by omega) hLB_113 hl_110 hl_111
            · refine v_iload_n E 3 rfl dX1_set_62 ?_
              refine v_i2l E ⟨by omega, by omega⟩ dX1_set_63 ?_
              refine V.frame (fun hfz_fr_115 hfk_fr_115 => ?_)
              rw [hH0] at hfz_fr_115 hfk_fr_115
              rw [hA0] at hfk_fr_115
              have hC_fr_115 := hC.call hA93 hfz_fr_115 hfk_fr_115
              refine v_callS E (As := [vj v2]) (p_num κ H (x := v2) hC_fr_115 ⟨by omega, by omega⟩) (lw_S q611 q472 q70 q473) 1 (by decide +kernel) rfl (by decide) (by decide) (cb' := (cb - 2)) (sb' := (sb - 8)) (by omega) (by omega) rfl (rest := [.ref l2]) (Nat.le_of_ble_eq_true rfl) (fun q h => h.elim) dX1_set_64 (fun v_116 H_117 hpost_118 hz_119 hk_120 => ?_)
              obtain ⟨nq, rfl, hnq⟩ := hpost_118
              have hl_121 := LB.kf (eB_L κ _) hC_fr_115 (kF.ext hz_119 hk_120) aD.f aD.no hR
              have hl_122 := CS.kf0 hC_fr_115 (kF.ext hz_119 hk_120) hS2
              have hl_123 := Po.kf hC_fr_115 (kF.ext hz_119 hk_120) aD.no hP2
              refine V.eq (st' := [.ref nq, .ref l2]) rfl ?_
              refine v_goto E (tgt := 77) dX1_set_67 (by decide) ?_
              refine V.frame (fun hfz_fr_124 hfk_fr_124 => ?_)
              rw [hH0] at hfz_fr_124 hfk_fr_124
              rw [hA0] at hfk_fr_124
              have hC_fr_124 := hC.call hA93 hfz_fr_124 hfk_fr_124
              obtain ⟨md_125, g_126, hA_127, hel_128, hSl_129, hSb_130⟩ := id hl_121
              have hal_131 := al_k k (show k < 10 by omega)
              obtain ⟨md_137, g_138, hA_139, -⟩ := id hl_121
              refine v_callV E (As := [.ref nq]) (b := l2) (ci := 5) (C := RJ2) (T := TJ2) (N := 3) hA_139.1 rfl (j_addB κ H_117 hC_fr_124 (show k < 15 by omega) hnq.oA hA_127) (lw_V q208 q209 q210 q73 q211) 1 (by decide +kernel) rfl (by decide) (by decide) (cb' := ((cb - 2) - alM k)) (sb' := ((sb - 8) - alS k)) (by omega) (by omega) rfl (rest := []) (Nat.le_of_ble_eq_true rfl) (fun q h => hNew q (h.elim (fun h => by rw [h]; exact Nat.le_trans (Nat.le_refl _) hSl_129) (fun h => by rw [h.1]; exact Nat.le_trans (Nat.le_refl _) (hSb_130 h.2)))) dX1_set_77 (fun v_132 H_133 hpost_134 hz_135 hk_136 => ?_)
              obtain ⟨rfl, b_140, md_141, g_142, hA_143, hg_144, hgn_145, hb_146⟩ := hpost_134
              have hF_147 := (kF.lst hA_127 (fun q h => h.imp id (fun h => ⟨h.1, capR_pos h.2⟩)) hz_135 hk_136)
              have hl_148 := CS.kf hC_fr_124 hF_147 (aD.nn (fun q h hd => absurd hd.2 (Nat.not_lt.mpr (h.elim (fun e => by rw [e]; exact hSl_129) (fun e => by rw [e.1]; exact hSb_130 e.2))))) (fun q h => by have h1 : H0.size ≤ q := h.elim (fun e => by rw [e]; exact hSl_129) (fun e => by rw [e.1]; exact hSb_130 e.2); have h3 := hsl0; exact ⟨by omega, by omega, by omega, by omega, fun _ => by omega⟩) hl_122
              have hl_149 := Po.kf hC_fr_124 hF_147 (aD.nn (fun q h hd => absurd hd.2 (Nat.not_lt.mpr (h.elim (fun e => by rw [e]; exact hSl_129) (fun e => by rw [e.1]; exact hSb_130 e.2))))) hl_123
              have hl_150 := BI.kf hC.D hF_147 hnq
              have hv_152 := BI.kf hC.D hF_147 hnq
              have hLB_151 : LB κ H0.size (eB κ (setc (T (a i0)) i1 v2)) H_133 l2 b_140 (k + 1) := LB.step (fun k9 hk9 => (hel_128 k9 hk9).elim (fun y hy => ⟨y, hy.1, (eB_L κ _) _ _ _ _ _ hC_fr_124 hF_147 aD.f hy.2⟩)) (by show BI κ _ _ (setc (T (a i0)) i1 v2 k); rw [show setc (T (a i0)) i1 v2 k = v2 from if_pos (by omega)]; exact hv_152) hA_143 hg_144 hgn_145 hSl_129 (hb_146.elim (fun h => by rw [h.1]; exact hSb_130 h.2) (fun h => Nat.le_trans (show H0.size ≤ Array.size H_117 from hfz_fr_124) h))
              refine V.eq (st' := [vi 1]) rfl ?_
              refine v_pop E rfl dX1_set_80 ?_
              refine v_iinc E 0 rfl dX1_set_81 (zlt hL rfl) (lv' := [(6, vi ((k : Int) + 1)), (5, .ref l2), (4, .ref pq), (3, vi v2), (2, vi ((i1 : Nat) : Int)), (1, vi ((i0 : Nat) : Int)), (0, .ref x)]) rfl ?_
              refine v_goto E (tgt := 47) dX1_set_84 (by decide) ?_
              exact ih_47  H_133 (k + 1) _ ((cb - 2) - alM k) ((sb - 8) - alS k) (by omega) (by omega) (by omega) (by omega) hLB_151 hl_148 hl_149
      refine V.sub [0, 1, 2, 6, 5, 4, 3] (lv' := [(6, vi 0), (5, .ref l2), (4, .ref pq), (3, vi v2), (2, vi ((i1 : Nat) : Int)), (1, vi ((i0 : Nat) : Int)), (0, .ref x)]) rfl ?_
      exact loop_47 (7 + 1) H_32 0 (κ.2 98) 37 205 (by omega) (Nat.zero_le _) (by rw [al0_0]; omega) (by rw [al0_0]; omega) hLB_l2 hl_37 hl_38
    · refine V.frame (fun hfz_fr_153 hfk_fr_153 => ?_)
      rw [hH0] at hfz_fr_153 hfk_fr_153
      rw [hA0] at hfk_fr_153
      have hC_fr_153 := hC.call hA93 hfz_fr_153 hfk_fr_153
      refine V.frame (fun hfz_fr_154 hfk_fr_154 => ?_)
      rw [hH0] at hfz_fr_154 hfk_fr_154
      rw [hA0] at hfk_fr_154
      refine v_throw0 E X9 hE (cls := "java/lang/IllegalArgumentException") (names := ["java/lang/RuntimeException", "java/lang/Exception"]) (ik := 138) (ic := 140) (by decide +kernel) (by decide +kernel) q591 q89 (ex_1 E.kn E.2.2.2.2.1 q600) ex_1_ok dX1_set_20 dX1_set_23 dX1_set_24 dX1_set_27 (by decide) (Nat.le_of_ble_eq_true rfl) (by omega) (by omega) (fun H9 hz9 hk9 => ?_)
      exact ⟨Or.inr (⟨rfl, (by unfold xoSet; first | (split <;> first | rfl | (exfalso; omega) | (split <;> first | rfl | (exfalso; omega) | (split <;> first | rfl | (exfalso; omega)))))⟩), CS.pub (CS.kf0 hC_fr_153 (kF.ext hz9 (fun q hq _ => hk9 q hq)) (CS.mono (D' := dS ls bs li bi) hl_14 (fun q h1 h2 => h2.1))) hST hiso⟩

set_option maxHeartbeats 400000 in
set_option maxRecDepth 100000 in
/-- derivative -/
theorem c_drv (κ : zK) (H0 : Heap) {x : Nat} {S : Nat → Pl} {isoP : Option Pl} {n cap : Nat} {iv : Nat → Ivl} {v0 : Int} (hrv0 : rI v0) {v1 : Int} (hrv1 : rI v1) (hC : CO κ H0) (hok : bC5 S) (hP : CP κ H0 x S isoP n cap iv)  : MtX κ yX1_derivative cX1_derivative 3 (some .int) 8 180 41 202 H0 [.ref x, vi v0, vi v1] (pA κ H0) (fun v H1 => (xoDrv S v0 v1).2.1 = 0 ∧ v = some (vi (xoDrv S v0 v1).1) ∧ CP κ H1 x (xoDrv S v0 v1).2.2 isoP n cap iv) (fun C H1 => (C = "java/lang/IndexOutOfBoundsException" ∧ (xoDrv S v0 v1).2.1 = 1 ∨ C = "java/lang/IllegalStateException" ∧ (xoDrv S v0 v1).2.1 = 2) ∧ CP κ H1 x S isoP n cap iv) := by
  refine MtX.of (by decide) (Nat.le_of_ble_eq_true rfl) ?_
  intro z E X9 hE hH0 hA0 hL hini
  have hAll : ∀ q, (pA κ H0) q → zA z.A z.H0 q := fun q h => Or.inl (by rw [hA0]; exact h)
  have hNew : ∀ q, H0.size ≤ q → zA z.A z.H0 q := fun q h => Or.inr (by rw [hH0]; exact h)
  have E : zOK z cX1_derivative RX1 κ 8 180 (some .int) := E
  refine V.eqL (lv' := [(0, .ref x), (1, vi v0), (2, vi v1)]) rfl ?_
  obtain ⟨ls, bs, li, bi, a, iso, T, hS, hST, hiso⟩ := hP
  have hA93 : ∀ q, pA κ H0 q → κ.2 93 ≤ q := fun q h => h.1
  have hD := hC.D
  have hsl0 := hS.sl
  have hokT : ∀ k, k < 5 → okP (T (a k)) := fun k hk => by rw [← hST k hk]; exact (hok k hk).2
  refine v_iload_n E 1 rfl dX1_derivative_0 ?_
  refine V.frame (fun hfz_fr_1 hfk_fr_1 => ?_)
  rw [hH0] at hfz_fr_1 hfk_fr_1
  rw [hA0] at hfk_fr_1
  have hC_fr_1 := hC.call hA93 hfz_fr_1 hfk_fr_1
  refine v_callSX E X9 hE (As := [vi v0]) (x_slot κ H0 hrv0) (lw_S q570 q571 q70 q572) 1 (by decide +kernel) rfl (by decide) (by decide) (cb' := 40) (sb' := 196) (by decide) (by decide) rfl (rest := []) (Nat.le_of_ble_eq_true rfl) (fun q h => h.elim) dX1_derivative_1 (fun C9 H9 hx9 hz9 hk9 => by exact ⟨Or.inl (⟨hx9.1, (by have hx8 := hx9.2; unfold xoDrv; first | (split <;> first | rfl | (exfalso; omega) | (split <;> first | rfl | (exfalso; omega) | (split <;> first | rfl | (exfalso; omega)))))⟩), CS.pub (CS.kf0 hC_fr_1 (kF.ext hz9 hk9) hS) hST hiso⟩) (fun v_2 H_3 hpost_4 hz_5 hk_6 => ?_)
  obtain ⟨rfl, hsv0⟩ := hpost_4
  have hl_7 := CS.kf0 hC_fr_1 (kF.ext hz_5 hk_6) hS
  obtain ⟨i0, hni0⟩ : ∃ i0 : Nat, v0 = (i0 : Int) := ⟨v0.toNat, by omega⟩
  subst hni0
  have hii0 : i0 < 5 := by omega
  refine V.eq (st' := []) rfl ?_
  refine v_iload_n E 2 rfl dX1_derivative_4 ?_
  refine V.frame (fun hfz_fr_8 hfk_fr_8 => ?_)
  rw [hH0] at hfz_fr_8 hfk_fr_8
  rw [hA0] at hfk_fr_8
  have hC_fr_8 := hC.call hA93 hfz_fr_8 hfk_fr_8
  refine v_callSX E X9 hE (As := [vi v1]) (x_slot κ H_3 hrv1) (lw_S q570 q571 q70 q572) 1 (by decide +kernel) rfl (by decide) (by decide) (cb' := 39) (sb' := 190) (by decide) (by decide) rfl (rest := []) (Nat.le_of_ble_eq_true rfl) (fun q h => h.elim) dX1_derivative_5 (fun C9 H9 hx9 hz9 hk9 => by exact ⟨Or.inl (⟨hx9.1, (by have hx8 := hx9.2; unfold xoDrv; first | (split <;> first | rfl | (exfalso; omega) | (split <;> first | rfl | (exfalso; omega) | (split <;> first | rfl | (exfalso; omega)))))⟩), CS.pub (CS.kf0 hC_fr_8 (kF.ext hz9 hk9) hl_7) hST hiso⟩) (fun v_9 H_10 hpost_11 hz_12 hk_13 => ?_)
  obtain ⟨rfl, hsv1⟩ := hpost_11
  have hl_14 := CS.kf0 hC_fr_8 (kF.ext hz_12 hk_13) hl_7
  obtain ⟨i1, hni1⟩ : ∃ i1 : Nat, v1 = (i1 : Int) := ⟨v1.toNat, by omega⟩
  subst hni1
  have hii1 : i1 < 5 := by omega
  refine V.eq (st' := []) rfl ?_
  refine v_aload_n E 0 rfl dX1_derivative_8 ?_
  refine v_iload_n E 2 rfl dX1_derivative_9 ?_
  refine v_aload_n E 0 rfl dX1_derivative_10 ?_
  refine v_iload_n E 1 rfl dX1_derivative_11 ?_
  refine V.frame (fun hfz_fr_17 hfk_fr_17 => ?_)
  rw [hH0] at hfz_fr_17 hfk_fr_17
  rw [hA0] at hfk_fr_17
  have hC_fr_17 := hC.call hA93 hfz_fr_17 hfk_fr_17
  refine v_callV E (As := [vi ((i0 : Nat) : Int)]) (b := x) (ci := 0) (C := RX1) (T := TX1) (N := 3) hl_14.2.1 rfl (x_poly κ H_10 (i := i0) hii0 hC_fr_17 hl_14) (lw_V q606 q608 qs8 q70 q609) 1 (by decide +kernel) rfl (by decide) (by decide) (cb' := 39) (sb' := 190) (by decide) (by decide) rfl (rest := [vi ((i1 : Nat) : Int), .ref x]) (Nat.le_of_ble_eq_true rfl) (fun q h => h.elim) dX1_derivative_12 (fun v_18 H_19 hpost_20 hz_21 hk_22 => ?_)
  obtain ⟨pk_15, rfl, hpk_16⟩ := hpost_20
  have hl_23 := CS.kf0 hC_fr_17 (kF.ext hz_21 hk_22) hl_14
  refine V.eq (st' := [.ref pk_15, vi ((i1 : Nat) : Int), .ref x]) rfl ?_
  refine V.frame (fun hfz_fr_24 hfk_fr_24 => ?_)
  rw [hH0] at hfz_fr_24 hfk_fr_24
  rw [hA0] at hfk_fr_24
  have hC_fr_24 := hC.call hA93 hfz_fr_24 hfk_fr_24
  refine v_callS E (As := [.ref pk_15]) (p_der κ H_19 (D := dS ls bs li bi) (N := 1) hC_fr_24 (fun q h => by have h2 := hsl0; exact ⟨by omega, by omega, by omega, by omega⟩) (hokT i0 hii0).1 (by decide) (hokT i0 hii0).lt hpk_16) (lw_S q1106 q1107 q70 q1108) 1 (by decide +kernel) rfl (by decide) (by decide) (cb' := (39 - 21)) (sb' := (190 - 80)) (by have := (hokT i0 hii0).1; omega) (by have := (hokT i0 hii0).1; omega) rfl (rest := [vi ((i1 : Nat) : Int), .ref x]) (Nat.le_of_ble_eq_true rfl) (fun q h => h.elim) dX1_derivative_15 (fun v_25 H_26 hpost_27 hz_28 hk_29 => ?_)
  obtain ⟨qd, rfl, hPd⟩ := hpost_27
  have hl_30 := CS.kf0 hC_fr_24 (kF.ext hz_28 hk_29) hl_23
  have hl_31 := Po.kf hC_fr_24 (kF.ext hz_28 hk_29) aD.no hpk_16
  refine V.eq (st' := [.ref qd, vi ((i1 : Nat) : Int), .ref x]) rfl ?_
  have hop : xoDrv S (i0 : Int) (i1 : Int) = storeR (cDer (T (a i0))) i1 2 S := by unfold xoDrv; rw [if_pos ⟨by omega, by omega⟩]; show storeR (cDer (S i0)) i1 2 S = _; rw [hST i0 hii0]
  refine V.frame (fun hfz_fr_32 hfk_fr_32 => ?_)
  rw [hH0] at hfz_fr_32 hfk_fr_32
  rw [hA0] at hfk_fr_32
  have hC_fr_32 := hC.call hA93 hfz_fr_32 hfk_fr_32
  obtain ⟨md_34, g_35, hA_33, hg_36⟩ := hl_30.2.2.1
  refine v_callVX E X9 hE (As := [vi ((i1 : Nat) : Int), .ref qd]) (b := x) (ci := 0) (C := RX1) (T := TX1) (N := 3) hl_30.2.1 rfl (x_store κ H_26 hii1 hC_fr_32 dS_bs hPd hl_30) (lw_V q612 q614 qs9 q70 q615) 2 (by decide +kernel) rfl (by decide) (by decide) (cb' := ((39 - 21) - 18)) (sb' := ((190 - 80) - 110)) (by omega) (by omega) rfl (rest := []) (Nat.le_of_ble_eq_true rfl) (fun q h => by have h9 := pA.arr hfk_fr_32 hA_33.2.1 (hA_33.2.2.2.2.2.2.2.2.1 (by decide)); rw [← show q = bs from h] at h9; exact h9.elim (fun e => hAll q e) (fun e => hNew q e)) dX1_derivative_18 (fun C9 H9 hx9 hz9 hk9 => (by exact ⟨Or.inr (⟨hx9.1, by rw [hop, storeR_n hPd.1 hx9.2.1]⟩), CS.pub hx9.2.2 hST hiso⟩)) (fun v_37 H_38 hpost_39 hz_40 hk_41 => ?_)
  obtain ⟨hok9, rfl, kq, hkq9, hS9⟩ := hpost_39
  refine V.eq (st' := [vi (((Prod.fst (cDer (T (a i0))) : Nat) : Int) - 1)]) rfl ?_
  refine V.rt E hE (fun z9 E hE => ?_)
  refine v_iret E hE dX1_derivative_21 ?_
  rw [hop, storeR_y hok9]; exact ⟨rfl, rfl, CS.pubT hl_30 hkq9 hS9 hST hiso⟩
