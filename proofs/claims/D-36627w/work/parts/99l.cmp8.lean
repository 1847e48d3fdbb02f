/-! POLYNOMIALS OF THE COMPONENT: all roots, changes of signs, the common divisor -/
/-- signs at the far right and the far left -/
def rgt (s : Nat → Pl) (i : Nat) : Int := ((s i).2 ((s i).1 - 1)).sign
def lft (s : Nat → Pl) (i : Nat) : Int := if ((s i).1 - 1) % 2 = 0 then rgt s i else -rgt s i
theorem rgt_3 (s : Nat → Pl) (i : Nat) : rgt s i = -1 ∨ rgt s i = 0 ∨ rgt s i = 1 := by
  have := sgn3 ((s i).2 ((s i).1 - 1)); unfold rgt; omega
theorem lft_3 (s : Nat → Pl) (i : Nat) : lft s i = -1 ∨ lft s i = 0 ∨ lft s i = 1 := by
  have := rgt_3 s i; unfold lft; split <;> omega
/-- the one before -/
def prv (s : Nat → Int) : Nat → Int
  | 0 => 0
  | j + 1 => s j
theorem prv_3 {s : Nat → Int} (h : ∀ j, s j = -1 ∨ s j = 0 ∨ s j = 1) : ∀ j, prv s j = -1 ∨ prv s j = 0 ∨ prv s j = 1
  | 0 => Or.inr (Or.inl rfl)
  | j + 1 => h j
def arF (s : Nat → Pl) : Nat → Int
  | 0 => 0
  | j + 1 => arF s j + (if lft s j * prv (lft s) j < 0 then 1 else 0) - (if rgt s j * prv (rgt s) j < 0 then 1 else 0)
theorem arF_in (s : Nat → Pl) : ∀ j : Nat, -(j : Int) ≤ arF s j ∧ arF s j ≤ (j : Int)
  | 0 => ⟨Int.le_refl 0, Int.le_refl 0⟩
  | j + 1 => by
    have := arF_in s j
    unfold arF
    split <;> split <;> omega
theorem arF_s {s : Nat → Pl} {j : Nat} {a b : Int} (h1 : lft s j * prv (lft s) j < 0 ∧ a = 1 ∨ ¬ lft s j * prv (lft s) j < 0 ∧ a = 0) (h2 : rgt s j * prv (rgt s) j < 0 ∧ b = 1 ∨ ¬ rgt s j * prv (rgt s) j < 0 ∧ b = 0) : arF s (j + 1) = arF s j + a - b := by
  show arF s j + (if _ then 1 else 0) - (if _ then 1 else 0) = _
  rcases h1 with ⟨h, rfl⟩ | ⟨h, rfl⟩ <;> rcases h2 with ⟨h', rfl⟩ | ⟨h', rfl⟩
  · rw [if_pos h, if_pos h']
  · rw [if_pos h, if_neg h']
  · rw [if_neg h, if_pos h']
  · rw [if_neg h, if_neg h']
theorem ar_mod {n : Nat} (h : 0 < n) : ((n : Int) - 1).tmod 2 = (((n - 1) % 2 : Nat) : Int) := by
  rw [show (n : Int) - 1 = ((n - 1 : Nat) : Int) by omega]
  rw [Int.tmod_eq_emod_of_nonneg (by omega)]
  omega
set_option maxHeartbeats 400000 in
set_option maxRecDepth 100000 in
/-- allRoots -/
theorem p_all (κ : zK) (H0 : Heap) {l L : Nat} {s : Nat → Pl} {D : Nat → Prop} (hC : CO κ H0) (hEl : ∀ i, i < L → 0 < (s i).1) (hS : SQ κ D H0 l L s)  : Mt κ yX1_allRoots cX1_allRoots 8 (some .int) 4 84 1 4 H0 [.ref l] (fun _ => False) (fun v H1 => v = some (vi (arF s L))) := by
  refine Mt.of (by decide) (Nat.le_of_ble_eq_true rfl) ?_
  intro z E hE hH0 hA0 hL hini
  have hAll : ∀ q, (fun _ => False) q → zA z.A z.H0 q := fun q h => Or.inl (by rw [hA0]; exact h)
  have hNew : ∀ q, H0.size ≤ q → zA z.A z.H0 q := fun q h => Or.inr (by rw [hH0]; exact h)
  have E : zOK z cX1_allRoots RX1 κ 4 84 (some .int) := E
  refine V.eqL (lv' := [(0, .ref l)]) rfl ?_
  obtain ⟨b, cap, md, g, hA, hel, hDl, hDb⟩ := id hS
  have hD := hC.D
  have hL1 : L ≤ 1000 := Nat.le_trans hA.2.2.1 hA.2.2.2.2.1
  refine v_iconst E dX1_allRoots_0 ?_
  refine v_istore_n E dX1_allRoots_1 (zlt hL rfl) (lv' := [(1, vi 0), (0, .ref l)]) rfl ?_
  refine v_iconst E dX1_allRoots_2 ?_
  refine v_istore_n E dX1_allRoots_3 (zlt hL rfl) (lv' := [(2, vi 0), (1, vi 0), (0, .ref l)]) rfl ?_
  refine v_iconst E dX1_allRoots_4 ?_
  refine v_istore_n E dX1_allRoots_5 (zlt hL rfl) (lv' := [(3, vi 0), (2, vi 0), (1, vi 0), (0, .ref l)]) rfl ?_
  refine v_aload_n E 3 rfl dX1_allRoots_6 ?_
  refine V.frame (fun hfz_fr_1 hfk_fr_1 => ?_)
  rw [hH0] at hfz_fr_1 hfk_fr_1
  rw [hA0] at hfk_fr_1
  have hC_fr_1 := hC.call (fun q h => h.elim) hfz_fr_1 hfk_fr_1
  have hF_fr_1 : kF κ H0 H0 (fun _ => False) := ⟨(fun _ h => h.elim), hfz_fr_1, hfk_fr_1⟩
  have hb_7 := hF_fr_1.at hA.1 (fun h => h)
  refine v_callV E (As := []) (b := l) (ci := 5) (C := RJ2) (T := TJ2) (N := 3) hb_7 rfl (j_iter κ H0 hC_fr_1 (hA.kf hC hF_fr_1 (fun h => h) (fun _ h => h))) (lw_V q291 q292 q293 q73 q294) 0 (by decide +kernel) rfl (by decide) (by decide) (cb' := 0) (sb' := 0) (by decide) (by decide) rfl (rest := []) (Nat.le_of_ble_eq_true rfl) (fun q h => h.elim) dX1_allRoots_7 (fun v_2 H_3 hpost_4 hz_5 hk_6 => ?_)
  obtain ⟨it, rfl, hitH, hitI⟩ := hpost_4
  have hitH : H0.size ≤ it := Nat.le_trans hfz_fr_1 hitH
  refine V.eq (st' := [.ref it]) rfl ?_
  refine v_astore E dX1_allRoots_10 (zlt hL rfl) (lv' := [(4, .ref it), (3, vi 0), (2, vi 0), (1, vi 0), (0, .ref l)]) rfl ?_
  have loop_12 : ∀ (m_12 : Nat) (H : Heap) (k cb sb : Nat) (r : Int), L - k < m_12 → (k ≤ L) → IT κ H it l (k : Int) r md → V z H cb sb 12 [(4, .ref it), (3, vi (prv (rgt s) k)), (2, vi (prv (lft s) k)), (1, vi (arF s k))] [] := by
    intro m_12
    induction m_12 with
    | zero => intro H k cb sb r hm; exact absurd hm (by omega)
    | succ m_12 ih_12 =>
      intro H k cb sb r hm_12 hk hI
      have hr3 := rgt_3 s k
      have hl3 := lft_3 s k
      have hpr := prv_3 (rgt_3 s) k
      have hpl := prv_3 (lft_3 s) k
      have hm1 := mul3 hl3 hpl
      have hm2 := mul3 hr3 hpr
      have hai := arF_in s k
      refine v_aload E 0 rfl dX1_allRoots_12 ?_
      refine V.frame (fun hfz_fr_8 hfk_fr_8 => ?_)
      rw [hH0] at hfz_fr_8 hfk_fr_8
      rw [hA0] at hfk_fr_8
      have hC_fr_8 := hC.call (fun q h => h.elim) hfz_fr_8 hfk_fr_8
      have hF_fr_8 : kF κ H0 H (fun _ => False) := ⟨(fun _ h => h.elim), hfz_fr_8, hfk_fr_8⟩
      refine v_callF E (As := []) (b := it) (ci := 7) (C := RJ17) (T := TJ17) (N := 4) hI.1 rfl (j_hasNext κ H hC_fr_8 (by omega) (hA.kf hC hF_fr_8 (fun h => h) (fun _ h => h)) hI) (by decide +kernel) (lw_F q321 q325 q327 q92 q329) 0 (by decide +kernel) rfl (by decide) (by decide) (cb' := (cb - 0)) (sb' := (sb - 0)) (by omega) (by omega) rfl (rest := []) (Nat.le_of_ble_eq_true rfl) (fun q h => h.elim) dX1_allRoots_14 (fun v_9 H_10 hpost_11 hz_12 hk_13 => ?_)
      obtain rfl := hpost_11
      have hl_14 := IT.kf (kF.ext hz_12 hk_13) hI (fun h => h)
      by_cases hkn : k = L
      ·
        refine V.eq (st' := [vi 0]) (by rw [if_pos (show ((k : Nat) : Int) = ((L : Nat) : Int) by omega)]; rfl) ?_
        refine v_if_eq E (tgt := 103) dX1_allRoots_19 (by decide) ⟨by omega, by omega⟩ (fun c_19 => ?_) (fun c_19 => absurd c_19 (by omega))
        refine v_iload_n E 3 rfl dX1_allRoots_103 ?_
        refine v_iret E hE dX1_allRoots_104 ?_
        rw [show k = L from hkn]
      ·
        refine V.eq (st' := [vi 1]) (by rw [if_neg (show ¬ ((k : Nat) : Int) = ((L : Nat) : Int) by omega)]; rfl) ?_
        refine v_if_eq E (tgt := 103) dX1_allRoots_19 (by decide) ⟨by omega, by omega⟩ (fun c_19 => absurd c_19 (by omega)) (fun c_19 => ?_)
        refine v_aload E 0 rfl dX1_allRoots_22 ?_
        obtain ⟨y_15, hy_16, hEy_17⟩ := hel k (by omega)
        refine V.frame (fun hfz_fr_18 hfk_fr_18 => ?_)
        rw [hH0] at hfz_fr_18 hfk_fr_18
        rw [hA0] at hfk_fr_18
        have hC_fr_18 := hC.call (fun q h => h.elim) hfz_fr_18 hfk_fr_18
        have hF_fr_18 : kF κ H0 H_10 (fun _ => False) := ⟨(fun _ h => h.elim), hfz_fr_18, hfk_fr_18⟩
        refine v_callF E (As := []) (b := it) (ci := 7) (C := RJ17) (T := TJ17) (N := 4) hl_14.1 rfl (j_next7 κ H_10 hC_fr_18 (i := k) (y := y_15) (by omega) hy_16 (hA.kf hC hF_fr_18 (fun h => h) (fun _ h => h)) hl_14) (by decide +kernel) (lw_F q334 q337 q339 q92 q341) 0 (by decide +kernel) rfl (by decide) (by decide) (cb' := ((cb - 0) - 0)) (sb' := ((sb - 0) - 0)) (by omega) (by omega) rfl (rest := []) (Nat.le_of_ble_eq_true rfl) (fun q9 h => hNew q9 (by rw [show q9 = it from h]; exact hitH)) dX1_allRoots_24 (fun v_19 H_20 hpost_21 hz_22 hk_23 => ?_)
        obtain ⟨rfl, hI_24⟩ := hpost_21
        have hl_25 := Po.kf hC_fr_18 (kF.itr hl_14 (fun q h => h) hz_22 hk_23) (aD.it hl_14 (fun q h => h)) (Po.kf hC hF_fr_18 aD.no hEy_17)
        refine V.eq (st' := [.ref y_15]) rfl ?_
        obtain ⟨-, -, l_27, ho_26, -⟩ := id hl_25
        refine v_castS E ho_26 (q := (RX3, TX3, 1)) rfl q145 dX1_allRoots_29 ?_
        refine v_astore E dX1_allRoots_32 (zlt hL rfl) (lv' := [(5, .ref y_15), (4, .ref it), (3, vi (prv (rgt s) k)), (2, vi (prv (lft s) k)), (1, vi (arF s k))]) rfl ?_
        refine v_aload E 0 rfl dX1_allRoots_34 ?_
        refine V.frame (fun hfz_fr_30 hfk_fr_30 => ?_)
        rw [hH0] at hfz_fr_30 hfk_fr_30
        rw [hA0] at hfk_fr_30
        have hC_fr_30 := hC.call (fun q h => h.elim) hfz_fr_30 hfk_fr_30
        have hF_fr_30 : kF κ H0 H_20 (fun _ => False) := ⟨(fun _ h => h.elim), hfz_fr_30, hfk_fr_30⟩
        obtain ⟨-, -, l_37, ho_36, -⟩ := id hl_25
        refine v_callV E (As := []) (b := y_15) (ci := 2) (C := RX3) (T := TX3) (N := 1) ho_36 rfl (p_lead κ H_20 (hEl k (by omega)) hC_fr_30 hl_25) (lw_V q1148 q1149 q1150 q75 q1151) 0 (by decide +kernel) rfl (by decide) (by decide) (cb' := (((cb - 0) - 0) - 0)) (sb' := (((sb - 0) - 0) - 0)) (by omega) (by omega) rfl (rest := []) (Nat.le_of_ble_eq_true rfl) (fun q h => h.elim) dX1_allRoots_36 (fun v_31 H_32 hpost_33 hz_34 hk_35 => ?_)
        obtain ⟨ql_28, rfl, hBl_29⟩ := hpost_33
        have hl_38 := Po.kf hC_fr_30 (kF.ext hz_34 hk_35) aD.no hl_25
        have hl_39 := IT.kf (kF.ext hz_34 hk_35) hI_24 (fun h => h)
        refine V.eq (st' := [.ref ql_28]) rfl ?_
        refine V.frame (fun hfz_fr_40 hfk_fr_40 => ?_)
        rw [hH0] at hfz_fr_40 hfk_fr_40
        rw [hA0] at hfk_fr_40
        have hC_fr_40 := hC.call (fun q h => h.elim) hfz_fr_40 hfk_fr_40
        have hF_fr_40 : kF κ H0 H_32 (fun _ => False) := ⟨(fun _ h => h.elim), hfz_fr_40, hfk_fr_40⟩
        obtain ⟨mz_47, nz_47, cfz_47, ⟨c1z_47, c2z_47, c3z_47, ho_46⟩, -⟩ := id hBl_29
        refine v_callV E (As := []) (b := ql_28) (ci := 6) (C := RJ16) (T := TJ16) (N := 6) ho_46 rfl (g_signum κ H_32 hBl_29) (lw_V q1152 q171 q172 q91 q173) 0 (by decide +kernel) rfl (by decide) (by decide) (cb' := ((((cb - 0) - 0) - 0) - 0)) (sb' := ((((sb - 0) - 0) - 0) - 0)) (by omega) (by omega) rfl (rest := []) (Nat.le_of_ble_eq_true rfl) (fun q h => h.elim) dX1_allRoots_39 (fun v_41 H_42 hpost_43 hz_44 hk_45 => ?_)
        obtain rfl := hpost_43
        have hl_48 := Po.kf hC_fr_40 (kF.ext hz_44 hk_45) aD.no hl_38
        have hl_49 := IT.kf (kF.ext hz_44 hk_45) hl_39 (fun h => h)
        have hl_50 := BI.kf hC.D (kF.ext hz_44 hk_45) hBl_29
        refine V.eq (st' := [vi (Int.sign ((s k).2 ((s k).1 - 1)))]) rfl ?_
        refine V.topi (x' := rgt s k) rfl ?_
        refine v_istore E dX1_allRoots_42 (zlt hL rfl) (lv' := [(6, vi (rgt s k)), (5, .ref y_15), (4, .ref it), (3, vi (prv (rgt s) k)), (2, vi (prv (lft s) k)), (1, vi (arF s k))]) rfl ?_
        refine v_aload E 1 rfl dX1_allRoots_44 ?_
        refine V.frame (fun hfz_fr_51 hfk_fr_51 => ?_)
        rw [hH0] at hfz_fr_51 hfk_fr_51
        rw [hA0] at hfk_fr_51
        have hC_fr_51 := hC.call (fun q h => h.elim) hfz_fr_51 hfk_fr_51
        have hF_fr_51 : kF κ H0 H_42 (fun _ => False) := ⟨(fun _ h => h.elim), hfz_fr_51, hfk_fr_51⟩
        obtain ⟨-, -, l_58, ho_57, -⟩ := id hl_48
        refine v_callV E (As := []) (b := y_15) (ci := 2) (C := RX3) (T := TX3) (N := 1) ho_57 rfl (p_deg κ H_42 hC_fr_51 hl_48) (lw_V q617 q618 q619 q75 q620) 0 (by decide +kernel) rfl (by decide) (by decide) (cb' := (((((cb - 0) - 0) - 0) - 0) - 0)) (sb' := (((((sb - 0) - 0) - 0) - 0) - 0)) (by omega) (by omega) rfl (rest := []) (Nat.le_of_ble_eq_true rfl) (fun q h => h.elim) dX1_allRoots_46 (fun v_52 H_53 hpost_54 hz_55 hk_56 => ?_)
        obtain rfl := hpost_54
        have hl_59 := Po.kf hC_fr_51 (kF.ext hz_55 hk_56) aD.no hl_48
        have hl_60 := IT.kf (kF.ext hz_55 hk_56) hl_49 (fun h => h)
        have hl_61 := BI.kf hC.D (kF.ext hz_55 hk_56) hl_50
        refine V.eq (st' := [vi (((Prod.fst (s k) : Nat) : Int) - 1)]) rfl ?_
        refine v_iconst E dX1_allRoots_49 ?_
        have h13k : (s k).1 ≤ 13 := (hl_59).2.1
        refine v_irem E ⟨by omega, by omega⟩ ⟨by decide, by decide⟩ (by omega) dX1_allRoots_50 ?_
        have hp9 := hEl k (by omega)
        refine V.topi (x' := ((((s k).1 - 1) % 2 : Nat) : Int)) (congrArg iZ (ar_mod hp9)) ?_
        refine v_if_ne E (tgt := 59) dX1_allRoots_51 (by decide) ⟨by omega, by omega⟩ (fun c_51 => ?_) (fun c_51 => ?_)
        · refine v_iload E 0 rfl dX1_allRoots_59 ?_
          refine v_ineg E dX1_allRoots_61 ?_
          refine V.topi (x' := lft s k) (congrArg iZ (show -(rgt s k) = lft s k from by unfold lft; rw [if_neg (by omega)])) ?_
          refine v_istore E dX1_allRoots_62 (zlt hL rfl) (lv' := [(7, vi (lft s k)), (6, vi (rgt s k)), (5, .ref y_15), (4, .ref it), (3, vi (prv (rgt s) k)), (2, vi (prv (lft s) k)), (1, vi (arF s k))]) rfl ?_
          refine v_iload_n E 6 rfl dX1_allRoots_64 ?_
          refine v_iload E 0 rfl dX1_allRoots_65 ?_
          refine v_iload_n E 5 rfl dX1_allRoots_67 ?_
          refine v_imul E dX1_allRoots_68 ?_
          refine v_if_ge E (tgt := 76) dX1_allRoots_69 (by decide) hm1 (fun c_69 => ?_) (fun c_69 => ?_)
          · refine v_iconst E dX1_allRoots_76 ?_
            refine v_iadd E dX1_allRoots_77 ?_
            refine v_istore_n E dX1_allRoots_78 (zlt hL rfl) (lv' := [(1, vi ((arF s k) + 0)), (7, vi (lft s k)), (6, vi (rgt s k)), (5, .ref y_15), (4, .ref it), (3, vi (prv (rgt s) k)), (2, vi (prv (lft s) k))]) rfl ?_
            refine v_iload_n E 0 rfl dX1_allRoots_79 ?_
            refine v_iload E 2 rfl dX1_allRoots_80 ?_
            refine v_iload_n E 5 rfl dX1_allRoots_82 ?_
            refine v_imul E dX1_allRoots_83 ?_
            refine v_if_ge E (tgt := 91) dX1_allRoots_84 (by decide) hm2 (fun c_84 => ?_) (fun c_84 => ?_)
            · refine v_iconst E dX1_allRoots_91 ?_
              refine v_isub E dX1_allRoots_92 ?_
              refine v_istore_n E dX1_allRoots_93 (zlt hL rfl) (lv' := [(1, vi (((arF s k) + 0) - 0)), (7, vi (lft s k)), (6, vi (rgt s k)), (5, .ref y_15), (4, .ref it), (3, vi (prv (rgt s) k)), (2, vi (prv (lft s) k))]) rfl ?_
              refine v_iload E 1 rfl dX1_allRoots_94 ?_
              refine v_istore_n E dX1_allRoots_96 (zlt hL rfl) (lv' := [(2, vi (lft s k)), (1, vi (((arF s k) + 0) - 0)), (7, vi (lft s k)), (6, vi (rgt s k)), (5, .ref y_15), (4, .ref it), (3, vi (prv (rgt s) k))]) rfl ?_
              refine v_iload E 3 rfl dX1_allRoots_97 ?_
              refine v_istore_n E dX1_allRoots_99 (zlt hL rfl) (lv' := [(3, vi (rgt s k)), (2, vi (lft s k)), (1, vi (((arF s k) + 0) - 0)), (7, vi (lft s k)), (6, vi (rgt s k)), (5, .ref y_15), (4, .ref it)]) rfl ?_
              refine v_goto E (tgt := 12) dX1_allRoots_100 (by decide) ?_
              refine V.sub [6, 0, 1, 2] (lv' := [(4, .ref it), (3, vi (rgt s k)), (2, vi (lft s k)), (1, vi (((arF s k) + 0) - 0))]) rfl ?_
              exact V.eqL (by rw [arF_s (s := s) (j := k) (a := 0) (b := 0) (by omega) (by omega)]; rfl) (ih_12  H_53 (k + 1) (((((cb - 0) - 0) - 0) - 0) - 0) (((((sb - 0) - 0) - 0) - 0) - 0) _ (by omega) (by omega) hl_60)
            · refine v_iconst E dX1_allRoots_87 ?_
              refine v_goto E (tgt := 92) dX1_allRoots_88 (by decide) ?_
              refine v_isub E dX1_allRoots_92 ?_
              refine v_istore_n E dX1_allRoots_93 (zlt hL rfl) (lv' := [(1, vi (((arF s k) + 0) - 1)), (7, vi (lft s k)), (6, vi (rgt s k)), (5, .ref y_15), (4, .ref it), (3, vi (prv (rgt s) k)), (2, vi (prv (lft s) k))]) rfl ?_
              refine v_iload E 1 rfl dX1_allRoots_94 ?_
              refine v_istore_n E dX1_allRoots_96 (zlt hL rfl) (lv' := [(2, vi (lft s k)), (1, vi (((arF s k) + 0) - 1)), (7, vi (lft s k)), (6, vi (rgt s k)), (5, .ref y_15), (4, .ref it), (3, vi (prv (rgt s) k))]) rfl ?_
              refine v_iload E 3 rfl dX1_allRoots_97 ?_
              refine v_istore_n E dX1_allRoots_99 (zlt hL rfl) (lv' := [(3, vi (rgt s k)), (2, vi (lft s k)), (1, vi (((arF s k) + 0) - 1)), (7, vi (lft s k)), (6, vi (rgt s k)), (5, .ref y_15), (4, .ref it)]) rfl ?_
              refine v_goto E (tgt := 12) dX1_allRoots_100 (by decide) ?_
              refine V.sub [6, 0, 1, 2] (lv' := [(4, .ref it), (3, vi (rgt s k)), (2, vi (lft s k)), (1, vi (((arF s k) + 0) - 1))]) rfl ?_
              exact V.eqL (by rw [arF_s (s := s) (j := k) (a := 0) (b := 1) (by omega) (by omega)]; rfl) (ih_12  H_53 (k + 1) (((((cb - 0) - 0) - 0) - 0) - 0) (((((sb - 0) - 0) - 0) - 0) - 0) _ (by omega) (by omega) hl_60)
          · refine v_iconst E dX1_allRoots_72 ?_
            refine v_goto E (tgt := 77) dX1_allRoots_73 (by decide) ?_
            refine v_iadd E dX1_allRoots_77 ?_
            refine v_istore_n E dX1_allRoots_78 (zlt hL rfl) (lv' := [(1, vi ((arF s k) + 1)), (7, vi (lft s k)), (6, vi (rgt s k)), (5, .ref y_15), (4, .ref it), (3, vi (prv (rgt s) k)), (2, vi (prv (lft s) k))]) rfl ?_
            refine v_iload_n E 0 rfl dX1_allRoots_79 ?_
            refine v_iload E 2 rfl dX1_allRoots_80 ?_
            refine v_iload_n E 5 rfl dX1_allRoots_82 ?_
            refine v_imul E dX1_allRoots_83 ?_
            refine v_if_ge E (tgt := 91) dX1_allRoots_84 (by decide) hm2 (fun c_84 => ?_) (fun c_84 => ?_)
            · refine v_iconst E dX1_allRoots_91 ?_
              refine v_isub E dX1_allRoots_92 ?_
              refine v_istore_n E dX1_allRoots_93 (zlt hL rfl) (lv' := [(1, vi (((arF s k) + 1) - 0)), (7, vi (lft s k)), (6, vi (rgt s k)), (5, .ref y_15), (4, .ref it), (3, vi (prv (rgt s) k)), (2, vi (prv (lft s) k))]) rfl ?_
              refine v_iload E 1 rfl dX1_allRoots_94 ?_
              refine v_istore_n E dX1_allRoots_96 (zlt hL rfl) (lv' := [(2, vi (lft s k)), (1, vi (((arF s k) + 1) - 0)), (7, vi (lft s k)), (6, vi (rgt s k)), (5, .ref y_15), (4, .ref it), (3, vi (prv (rgt s) k))]) rfl ?_
              refine v_iload E 3 rfl dX1_allRoots_97 ?_
              refine v_istore_n E dX1_allRoots_99 (zlt hL rfl) (lv' := [(3, vi (rgt s k)), (2, vi (lft s k)), (1, vi (((arF s k) + 1) - 0)), (7, vi (lft s k)), (6, vi (rgt s k)), (5, .ref y_15), (4, .ref it)]) rfl ?_
              refine v_goto E (tgt := 12) dX1_allRoots_100 (by decide) ?_
              refine V.sub [6, 0, 1, 2] (lv' := [(4, .ref it), (3, vi (rgt s k)), (2, vi (lft s k)), (1, vi (((arF s k) + 1) - 0))]) rfl ?_
              exact V.eqL (by rw [arF_s (s := s) (j := k) (a := 1) (b := 0) (by omega) (by omega)]; rfl) (ih_12  H_53 (k + 1) (((((cb - 0) - 0) - 0) - 0) - 0) (((((sb - 0) - 0) - 0) - 0) - 0) _ (by omega) (by omega) hl_60)
            · refine v_iconst E dX1_allRoots_87 ?_
              refine v_goto E (tgt := 92) dX1_allRoots_88 (by decide) ?_
              refine v_isub E dX1_allRoots_92 ?_
              refine v_istore_n E dX1_allRoots_93 (zlt hL rfl) (lv' := [(1, vi (((arF s k) + 1) - 1)), (7, vi (lft s k)), (6, vi (rgt s k)), (5, .ref y_15), (4, .ref it), (3, vi (prv (rgt s) k)), (2, vi (prv (lft s) k))]) rfl ?_
              refine v_iload E 1 rfl dX1_allRoots_94 ?_
              refine v_istore_n E dX1_allRoots_96 (zlt hL rfl) (lv' := [(2, vi (lft s k)), (1, vi (((arF s k) + 1) - 1)), (7, vi (lft s k)), (6, vi (rgt s k)), (5, .ref y_15), (4, .ref it), (3, vi (prv (rgt s) k))]) rfl ?_
              refine v_iload E 3 rfl dX1_allRoots_97 ?_
              refine v_istore_n E dX1_allRoots_99 (zlt hL rfl) (lv' := [(3, vi (rgt s k)), (2, vi (lft s k)), (1, vi (((arF s k) + 1) - 1)), (7, vi (lft s k)), (6, vi (rgt s k)), (5, .ref y_15), (4, .ref it)]) rfl ?_
              refine v_goto E (tgt := 12) dX1_allRoots_100 (by decide) ?_
              refine V.sub [6, 0, 1, 2] (lv' := [(4, .ref it), (3, vi (rgt s k)), (2, vi (lft s k)), (1, vi (((arF s k) + 1) - 1))]) rfl ?_
              exact V.eqL (by rw [arF_s (s := s) (j := k) (a := 1) (b := 1) (by omega) (by omega)]; rfl) (ih_12  H_53 (k + 1) (((((cb - 0) - 0) - 0) - 0) - 0) (((((sb - 0) - 0) - 0) - 0) - 0) _ (by omega) (by omega) hl_60)
        · refine v_iload E 0 rfl dX1_allRoots_54 ?_
          refine v_goto E (tgt := 62) dX1_allRoots_56 (by decide) ?_
          refine V.topi (x' := lft s k) (congrArg iZ (show rgt s k = lft s k from by unfold lft; rw [if_pos (by omega)])) ?_
          refine v_istore E dX1_allRoots_62 (zlt hL rfl) (lv' := [(7, vi (lft s k)), (6, vi (rgt s k)), (5, .ref y_15), (4, .ref it), (3, vi (prv (rgt s) k)), (2, vi (prv (lft s) k)), (1, vi (arF s k))]) rfl ?_
          refine v_iload_n E 6 rfl dX1_allRoots_64 ?_
          refine v_iload E 0 rfl dX1_allRoots_65 ?_
          refine v_iload_n E 5 rfl dX1_allRoots_67 ?_
          refine v_imul E dX1_allRoots_68 ?_
          refine v_if_ge E (tgt := 76) dX1_allRoots_69 (by decide) hm1 (fun c_69 => ?_) (fun c_69 => ?_)
          · refine v_iconst E dX1_allRoots_76 ?_
            refine v_iadd E dX1_allRoots_77 ?_
            refine v_istore_n E dX1_allRoots_78 (zlt hL rfl) (lv' := [(1, vi ((arF s k) + 0)), (7, vi (lft s k)), (6, vi (rgt s k)), (5, .ref y_15), (4, .ref it), (3, vi (prv (rgt s) k)), (2, vi (prv (lft s) k))]) rfl ?_
            refine v_iload_n E 0 rfl dX1_allRoots_79 ?_
            refine v_iload E 2 rfl dX1_allRoots_80 ?_
            refine v_iload_n E 5 rfl dX1_allRoots_82 ?_
            refine v_imul E dX1_allRoots_83 ?_
            refine v_if_ge E (tgt := 91) dX1_allRoots_84 (by decide) hm2 (fun c_84 => ?_) (fun c_84 => ?_)
            · refine v_iconst E dX1_allRoots_91 ?_
              refine v_isub E dX1_allRoots_92 ?_
              refine v_istore_n E dX1_allRoots_93 (zlt hL rfl) (lv' := [(1, vi (((arF s k) + 0) - 0)), (7, vi (lft s k)), (6, vi (rgt s k)), (5, .ref y_15), (4, .ref it), (3, vi (prv (rgt s) k)), (2, vi (prv (lft s) k))]) rfl ?_
              refine v_iload E 1 rfl dX1_allRoots_94 ?_
              refine v_istore_n E dX1_allRoots_96 (zlt hL rfl) (lv' := [(2, vi (lft s k)), (1, vi (((arF s k) + 0) - 0)), (7, vi (lft s k)), (6, vi (rgt s k)), (5, .ref y_15), (4, .ref it), (3, vi (prv (rgt s) k))]) rfl ?_
              refine v_iload E 3 rfl dX1_allRoots_97 ?_
              refine v_istore_n E dX1_allRoots_99 (zlt hL rfl) (lv' := [(3, vi (rgt s k)), (2, vi (lft s k)), (1, vi (((arF s k) + 0) - 0)), (7, vi (lft s k)), (6, vi (rgt s k)), (5, .ref y_15), (4, .ref it)]) rfl ?_
              refine v_goto E (tgt := 12) dX1_allRoots_100 (by decide) ?_
              refine V.sub [6, 0, 1, 2] (lv' := [(4, .ref it), (3, vi (rgt s k)), (2, vi (lft s k)), (1, vi (((arF s k) + 0) - 0))]) rfl ?_
              exact V.eqL (by rw [arF_s (s := s) (j := k) (a := 0) (b := 0) (by omega) (by omega)]; rfl) (ih_12  H_53 (k + 1) (((((cb - 0) - 0) - 0) - 0) - 0) (((((sb - 0) - 0) - 0) - 0) - 0) _ (by omega) (by omega) hl_60)
            · refine v_iconst E dX1_allRoots_87 ?_
              refine v_goto E (tgt := 92) dX1_allRoots_88 (by decide) ?_
              refine v_isub E dX1_allRoots_92 ?_
              refine v_istore_n E dX1_allRoots_93 (zlt hL rfl) (lv' := [(1, vi (((arF s k) + 0) - 1)), (7, vi (lft s k)), (6, vi (rgt s k)), (5, .ref y_15), (4, .ref it), (3, vi (prv (rgt s) k)), (2, vi (prv (lft s) k))]) rfl ?_
              refine v_iload E 1 rfl dX1_allRoots_94 ?_
              refine v_istore_n E dX1_allRoots_96 (zlt hL rfl) (lv' := [(2, vi (lft s k)), (1, vi (((arF s k) + 0) - 1)), (7, vi (lft s k)), (6, vi (rgt s k)), (5, .ref y_15), (4, .ref it), (3, vi (prv (rgt s) k))]) rfl ?_
              refine v_iload E 3 rfl dX1_allRoots_97 ?_
              refine v_istore_n E dX1_allRoots_99 (zlt hL rfl) (lv' := [(3, vi (rgt s k)), (2, vi (lft s k)), (1, vi (((arF s k) + 0) - 1)), (7, vi (lft s k)), (6, vi (rgt s k)), (5, .ref y_15), (4, .ref it)]) rfl ?_
              refine v_goto E (tgt := 12) dX1_allRoots_100 (by decide) ?_
              refine V.sub [6, 0, 1, 2] (lv' := [(4, .ref it), (3, vi (rgt s k)), (2, vi (lft s k)), (1, vi (((arF s k) + 0) - 1))]) rfl ?_
              exact V.eqL (by rw [arF_s (s := s) (j := k) (a := 0) (b := 1) (by omega) (by omega)]; rfl) (ih_12  H_53 (k + 1) (((((cb - 0) - 0) - 0) - 0) - 0) (((((sb - 0) - 0) - 0) - 0) - 0) _ (by omega) (by omega) hl_60)
          · refine v_iconst E dX1_allRoots_72 ?_
            refine v_goto E (tgt := 77) dX1_allRoots_73 (by decide) ?_
            refine v_iadd E dX1_allRoots_77 ?_
            refine v_istore_n E dX1_allRoots_78 (zlt hL rfl) (lv' := [(1, vi ((arF s k) + 1)), (7, vi (lft s k)), (6, vi (rgt s k)), (5, .ref y_15), (4, .ref it), (3, vi (prv (rgt s) k)), (2, vi (prv (lft s) k))]) rfl ?_
            refine v_iload_n E 0 rfl dX1_allRoots_79 ?_
            refine v_iload E 2 rfl dX1_allRoots_80 ?_
            refine v_iload_n E 5 rfl dX1_allRoots_82 ?_
            refine v_imul E dX1_allRoots_83 ?_
            refine v_if_ge E (tgt := 91) dX1_allRoots_84 (by decide) hm2 (fun c_84 => ?_) (fun c_84 => ?_)
            · refine v_iconst E dX1_allRoots_91 ?_
              refine v_isub E dX1_allRoots_92 ?_
              refine v_istore_n E dX1_allRoots_93 (zlt hL rfl) (lv' := [(1, vi (((arF s k) + 1) - 0)), (7, vi (lft s k)), (6, vi (rgt s k)), (5, .ref y_15), (4, .ref it), (3, vi (prv (rgt s) k)), (2, vi (prv (lft s) k))]) rfl ?_
              refine v_iload E 1 rfl dX1_allRoots_94 ?_
              refine v_istore_n E dX1_allRoots_96 (zlt hL rfl) (lv' := [(2, vi (lft s k)), (1, vi (((arF s k) + 1) - 0)), (7, vi (lft s k)), (6, vi (rgt s k)), (5, .ref y_15), (4, .ref it), (3, vi (prv (rgt s) k))]) rfl ?_
              refine v_iload E 3 rfl dX1_allRoots_97 ?_
              refine v_istore_n E dX1_allRoots_99 (zlt hL rfl) (lv' := [(3, vi (rgt s k)), (2, vi (lft s k)), (1, vi (((arF s k) + 1) - 0)), (7, vi (lft s k)), (6, vi (rgt s k)), (5, .ref y_15), (4, .ref it)]) rfl ?_
              refine v_goto E (tgt := 12) dX1_allRoots_100 (by decide) ?_
              refine V.sub [6, 0, 1, 2] (lv' := [(4, .ref it), (3, vi (rgt s k)), (2, vi (lft s k)), (1, vi (((arF s k) + 1) - 0))]) rfl ?_
              exact V.eqL (by rw [arF_s (s := s) (j := k) (a := 1) (b := 0) (by omega) (by omega)]; rfl) (ih_12  H_53 (k + 1) (((((cb - 0) - 0) - 0) - 0) - 0) (((((sb - 0) - 0) - 0) - 0) - 0) _ (by omega) (by omega) hl_60)
            · refine v_iconst E dX1_allRoots_87 ?_
              refine v_goto E (tgt := 92) dX1_allRoots_88 (by decide) ?_
              refine v_isub E dX1_allRoots_92 ?_
              refine v_istore_n E dX1_allRoots_93 (zlt hL rfl) (lv' := [(1, vi (((arF s k) + 1) - 1)), (7, vi (lft s k)), (6, vi (rgt s k)), (5, .ref y_15), (4, .ref it), (3, vi (prv (rgt s) k)), (2, vi (prv (lft s) k))]) rfl ?_
              refine v_iload E 1 rfl dX1_allRoots_94 ?_
              refine v_istore_n E dX1_allRoots_96 (zlt hL rfl) (lv' := [(2, vi (lft s k)), (1, vi (((arF s k) + 1) - 1)), (7, vi (lft s k)), (6, vi (rgt s k)), (5, .ref y_15), (4, .ref it), (3, vi (prv (rgt s) k))]) rfl ?_
              refine v_iload E 3 rfl dX1_allRoots_97 ?_
              refine v_istore_n E dX1_allRoots_99 (zlt hL rfl) (lv' := [(3, vi (rgt s k)), (2, vi (lft s k)), (1, vi (((arF s k) + 1) - 1)), (7, vi (lft s k)), (6, vi (rgt s k)), (5, .ref y_15), (4, .ref it)]) rfl ?_
              refine v_goto E (tgt := 12) dX1_allRoots_100 (by decide) ?_
              refine V.sub [6, 0, 1, 2] (lv' := [(4, .ref it), (3, vi (rgt s k)), (2, vi (lft s k)), (1, vi (((arF s k) + 1) - 1))]) rfl ?_
              exact V.eqL (by rw [arF_s (s := s) (j := k) (a := 1) (b := 1) (by omega) (by omega)]; rfl) (ih_12  H_53 (k + 1) (((((cb - 0) - 0) - 0) - 0) - 0) (((((sb - 0) - 0) - 0) - 0) - 0) _ (by omega) (by omega) hl_60)
  refine V.sub [0, 1, 2, 3] (lv' := [(4, .ref it), (3, vi 0), (2, vi 0), (1, vi 0)]) rfl ?_
  exact loop_12 (L + 1) H_3 0 0 0 (-1) (by omega) (Nat.zero_le _) hitI

set_option maxHeartbeats 400000 in
set_option maxRecDepth 100000 in
/-- signChangesOf -/
theorem p_csc (κ : zK) (H0 : Heap) {p : Nat} {P : Pl} {D : Nat → Prop} (hC : CO κ H0) (hP : Po κ D H0 p P)  : Mt κ yX1_signChangesOf cX1_signChangesOf 5 (some .int) 3 53 1 4 H0 [.ref p] (fun _ => False) (fun v H1 => v = some (vi ((chG (fun i => (P.2 i).sign) P.1 : Nat) : Int))) := by
  refine Mt.of (by decide) (Nat.le_of_ble_eq_true rfl) ?_
  intro z E hE hH0 hA0 hL hini
  have hAll : ∀ q, (fun _ => False) q → zA z.A z.H0 q := fun q h => Or.inl (by rw [hA0]; exact h)
  have hNew : ∀ q, H0.size ≤ q → zA z.A z.H0 q := fun q h => Or.inr (by rw [hH0]; exact h)
  have E : zOK z cX1_signChangesOf RX1 κ 3 53 (some .int) := E
  refine V.eqL (lv' := [(0, .ref p)]) rfl ?_
  obtain ⟨hnf, h13, l, hop, b, cap, md, g, hA, hel, hDl, hDb⟩ := id hP
  have hD := hC.D
  refine v_iconst E dX1_signChangesOf_0 ?_
  refine v_istore_n E dX1_signChangesOf_1 (zlt hL rfl) (lv' := [(1, vi 0), (0, .ref p)]) rfl ?_
  refine v_iconst E dX1_signChangesOf_2 ?_
  refine v_istore_n E dX1_signChangesOf_3 (zlt hL rfl) (lv' := [(2, vi 0), (1, vi 0), (0, .ref p)]) rfl ?_
  refine v_aload_n E 2 rfl dX1_signChangesOf_4 ?_
  refine V.frame (fun hfz_fr_1 hfk_fr_1 => ?_)
  rw [hH0] at hfz_fr_1 hfk_fr_1
  rw [hA0] at hfk_fr_1
  have hC_fr_1 := hC.call (fun q h => h.elim) hfz_fr_1 hfk_fr_1
  have hF_fr_1 : kF κ H0 H0 (fun _ => False) := ⟨(fun _ h => h.elim), hfz_fr_1, hfk_fr_1⟩
  have hb_2 := hF_fr_1.at hop (fun h => h)
  refine v_getfN (host := "SturmRoots") E in_X3 hb_2 (ci := 2) rfl 0 (by decide) (by decide +kernel) rfl (v := .ref l) rfl dX1_signChangesOf_5 ?_
  have hb_8 := hF_fr_1.at hA.1 (fun h => h)
  refine v_callV E (As := []) (b := l) (ci := 5) (C := RJ2) (T := TJ2) (N := 3) hb_8 rfl (j_iter κ H0 hC_fr_1 (hA.kf hC hF_fr_1 (fun h => h) (fun _ h => h))) (lw_V q291 q292 q293 q73 q294) 0 (by decide +kernel) rfl (by decide) (by decide) (cb' := 0) (sb' := 0) (by decide) (by decide) rfl (rest := []) (Nat.le_of_ble_eq_true rfl) (fun q h => h.elim) dX1_signChangesOf_8 (fun v_3 H_4 hpost_5 hz_6 hk_7 => ?_)
  obtain ⟨it, rfl, hitH, hitI⟩ := hpost_5
  have hitH : H0.size ≤ it := Nat.le_trans hfz_fr_1 hitH
  refine V.eq (st' := [.ref it]) rfl ?_
  refine v_astore_n E dX1_signChangesOf_11 (zlt hL rfl) (lv' := [(3, .ref it), (2, vi 0), (1, vi 0), (0, .ref p)]) rfl ?_
  have loop_12 : ∀ (m_12 : Nat) (H : Heap) (k cb sb : Nat) (r : Int), P.1 - k < m_12 → (k ≤ P.1) → IT κ H it l (k : Int) r md → V z H cb sb 12 [(3, .ref it), (2, vi (lsG (fun i => (P.2 i).sign) k)), (1, vi ((chG (fun i => (P.2 i).sign) k : Nat) : Int))] [] := by
    intro m_12
    induction m_12 with
    | zero => intro H k cb sb r hm; exact absurd hm (by omega)
    | succ m_12 ih_12 =>
      intro H k cb sb r hm_12 hk hI
      have hc3 : (P.2 k).sign = -1 ∨ (P.2 k).sign = 0 ∨ (P.2 k).sign = 1 := by have := sgn3 (P.2 k); omega
      have hl3 := lsG_3 (s := (fun i => (P.2 i).sign)) (fun i => by have := sgn3 (P.2 i); show (P.2 i).sign = -1 ∨ (P.2 i).sign = 0 ∨ (P.2 i).sign = 1; omega) k
      have hcl := chG_le (fun i => (P.2 i).sign) k
      have hm3 := mul3 hc3 hl3
      refine v_aload_n E 0 rfl dX1_signChangesOf_12 ?_
      refine V.frame (fun hfz_fr_9 hfk_fr_9 => ?_)
      rw [hH0] at hfz_fr_9 hfk_fr_9
      rw [hA0] at hfk_fr_9
      have hC_fr_9 := hC.call (fun q h => h.elim) hfz_fr_9 hfk_fr_9
      have hF_fr_9 : kF κ H0 H (fun _ => False) := ⟨(fun _ h => h.elim), hfz_fr_9, hfk_fr_9⟩
      refine v_callF E (As := []) (b := it) (ci := 7) (C := RJ17) (T := TJ17) (N := 4) hI.1 rfl (j_hasNext κ H hC_fr_9 (by omega) (hA.kf hC hF_fr_9 (fun h => h) (fun _ h => h)) hI) (by decide +kernel) (lw_F q321 q325 q327 q92 q329) 0 (by decide +kernel) rfl (by decide) (by decide) (cb' := (cb - 0)) (sb' := (sb - 0)) (by omega) (by omega) rfl (rest := []) (Nat.le_of_ble_eq_true rfl) (fun q h => h.elim) dX1_signChangesOf_13 (fun v_10 H_11 hpost_12 hz_13 hk_14 => ?_)
      obtain rfl := hpost_12
      have hl_15 := IT.kf (kF.ext hz_13 hk_14) hI (fun h => h)
      by_cases hkn : k = P.1
      ·
        refine V.eq (st' := [vi 0]) (by rw [if_pos (show ((k : Nat) : Int) = ((P.1 : Nat) : Int) by omega)]; rfl) ?_
        refine v_if_eq E (tgt := 71) dX1_signChangesOf_18 (by decide) ⟨by omega, by omega⟩ (fun c_18 => ?_) (fun c_18 => absurd c_18 (by omega))
        refine v_iload_n E 2 rfl dX1_signChangesOf_71 ?_
        refine v_iret E hE dX1_signChangesOf_72 ?_
        rw [show k = P.1 from hkn]
      ·
        refine V.eq (st' := [vi 1]) (by rw [if_neg (show ¬ ((k : Nat) : Int) = ((P.1 : Nat) : Int) by omega)]; rfl) ?_
        refine v_if_eq E (tgt := 71) dX1_signChangesOf_18 (by decide) ⟨by omega, by omega⟩ (fun c_18 => absurd c_18 (by omega)) (fun c_18 => ?_)
        refine v_aload_n E 0 rfl dX1_signChangesOf_21 ?_
        obtain ⟨y_16, hy_17, hEy_18⟩ := hel k (by omega)
        refine V.frame (fun hfz_fr_19 hfk_fr_19 => ?_)
        rw [hH0] at hfz_fr_19 hfk_fr_19
        rw [hA0] at hfk_fr_19
        have hC_fr_19 := hC.call (fun q h => h.elim) hfz_fr_19 hfk_fr_19
        have hF_fr_19 : kF κ H0 H_11 (fun _ => False) := ⟨(fun _ h => h.elim), hfz_fr_19, hfk_fr_19⟩
        refine v_callF E (As := []) (b := it) (ci := 7) (C := RJ17) (T := TJ17) (N := 4) hl_15.1 rfl (j_next7 κ H_11 hC_fr_19 (i := k) (y := y_16) (by omega) hy_17 (hA.kf hC hF_fr_19 (fun h => h) (fun _ h => h)) hl_15) (by decide +kernel) (lw_F q334 q337 q339 q92 q341) 0 (by decide +kernel) rfl (by decide) (by decide) (cb' := ((cb - 0) - 0)) (sb' := ((sb - 0) - 0)) (by omega) (by omega) rfl (rest := []) (Nat.le_of_ble_eq_true rfl) (fun q9 h => hNew q9 (by rw [show q9 = it from h]; exact hitH)) dX1_signChangesOf_22 (fun v_20 H_21 hpost_22 hz_23 hk_24 => ?_)
        obtain ⟨rfl, hI_25⟩ := hpost_22
        have hl_26 := BI.kf hC.D (kF.itr hl_15 (fun q h => h) hz_23 hk_24) (BI.kf hC.D hF_fr_19 hEy_18)
        refine V.eq (st' := [.ref y_16]) rfl ?_
        obtain ⟨mz_28, nz_28, cfz_28, ⟨c1z_28, c2z_28, c3z_28, ho_27⟩, -⟩ := id hl_26
        refine v_castS E ho_27 (q := (RJ16, TJ16, 6)) rfl q621 dX1_signChangesOf_27 ?_
        refine v_astore E dX1_signChangesOf_30 (zlt hL rfl) (lv' := [(4, .ref y_16), (3, .ref it), (2, vi (lsG (fun i => (P.2 i).sign) k)), (1, vi ((chG (fun i => (P.2 i).sign) k : Nat) : Int))]) rfl ?_
        refine v_iload_n E 3 rfl dX1_signChangesOf_32 ?_
        refine v_aload E 0 rfl dX1_signChangesOf_33 ?_
        refine V.frame (fun hfz_fr_29 hfk_fr_29 => ?_)
        rw [hH0] at hfz_fr_29 hfk_fr_29
        rw [hA0] at hfk_fr_29
        have hC_fr_29 := hC.call (fun q h => h.elim) hfz_fr_29 hfk_fr_29
        have hF_fr_29 : kF κ H0 H_21 (fun _ => False) := ⟨(fun _ h => h.elim), hfz_fr_29, hfk_fr_29⟩
        obtain ⟨mz_36, nz_36, cfz_36, ⟨c1z_36, c2z_36, c3z_36, ho_35⟩, -⟩ := id hl_26
        refine v_callV E (As := []) (b := y_16) (ci := 6) (C := RJ16) (T := TJ16) (N := 6) ho_35 rfl (g_signum κ H_21 hl_26) (lw_V q1152 q171 q172 q91 q173) 0 (by decide +kernel) rfl (by decide) (by decide) (cb' := (((cb - 0) - 0) - 0)) (sb' := (((sb - 0) - 0) - 0)) (by omega) (by omega) rfl (rest := [vi ((chG (fun i => (P.2 i).sign) k : Nat) : Int)]) (Nat.le_of_ble_eq_true rfl) (fun q h => h.elim) dX1_signChangesOf_35 (fun v_30 H_31 hpost_32 hz_33 hk_34 => ?_)
        obtain rfl := hpost_32
        have hl_37 := BI.kf hC.D (kF.ext hz_33 hk_34) hl_26
        have hl_38 := IT.kf (kF.ext hz_33 hk_34) hI_25 (fun h => h)
        refine V.eq (st' := [vi ((P.2 k).sign), vi ((chG (fun i => (P.2 i).sign) k : Nat) : Int)]) rfl ?_
        refine v_iload_n E 2 rfl dX1_signChangesOf_38 ?_
        refine v_imul E dX1_signChangesOf_39 ?_
        refine v_if_ge E (tgt := 47) dX1_signChangesOf_40 (by decide) hm3 (fun c_40 => ?_) (fun c_40 => ?_)
        · refine v_iconst E dX1_signChangesOf_47 ?_
          refine v_iadd E dX1_signChangesOf_48 ?_
          refine v_istore_n E dX1_signChangesOf_49 (zlt hL rfl) (lv' := [(1, vi (((chG (fun i => (P.2 i).sign) k : Nat) : Int) + 0)), (4, .ref y_16), (3, .ref it), (2, vi (lsG (fun i => (P.2 i).sign) k))]) rfl ?_
          refine v_aload E 1 rfl dX1_signChangesOf_50 ?_
          refine V.frame (fun hfz_fr_39 hfk_fr_39 => ?_)
          rw [hH0] at hfz_fr_39 hfk_fr_39
          rw [hA0] at hfk_fr_39
          have hC_fr_39 := hC.call (fun q h => h.elim) hfz_fr_39 hfk_fr_39
          have hF_fr_39 : kF κ H0 H_31 (fun _ => False) := ⟨(fun _ h => h.elim), hfz_fr_39, hfk_fr_39⟩
          obtain ⟨mz_46, nz_46, cfz_46, ⟨c1z_46, c2z_46, c3z_46, ho_45⟩, -⟩ := id hl_37
          refine v_callV E (As := []) (b := y_16) (ci := 6) (C := RJ16) (T := TJ16) (N := 6) ho_45 rfl (g_signum κ H_31 hl_37) (lw_V q1152 q171 q172 q91 q173) 0 (by decide +kernel) rfl (by decide) (by decide) (cb' := ((((cb - 0) - 0) - 0) - 0)) (sb' := ((((sb - 0) - 0) - 0) - 0)) (by omega) (by omega) rfl (rest := []) (Nat.le_of_ble_eq_true rfl) (fun q h => h.elim) dX1_signChangesOf_52 (fun v_40 H_41 hpost_42 hz_43 hk_44 => ?_)
          obtain rfl := hpost_42
          have hl_47 := BI.kf hC.D (kF.ext hz_43 hk_44) hl_37
          have hl_48 := IT.kf (kF.ext hz_43 hk_44) hl_38 (fun h => h)
          refine V.eq (st' := [vi ((P.2 k).sign)]) rfl ?_
          refine v_if_ne E (tgt := 62) dX1_signChangesOf_55 (by decide) ⟨by omega, by omega⟩ (fun c_55 => ?_) (fun c_55 => ?_)
          · refine v_aload E 1 rfl dX1_signChangesOf_62 ?_
            refine V.frame (fun hfz_fr_49 hfk_fr_49 => ?_)
            rw [hH0] at hfz_fr_49 hfk_fr_49
            rw [hA0] at hfk_fr_49
            have hC_fr_49 := hC.call (fun q h => h.elim) hfz_fr_49 hfk_fr_49
            have hF_fr_49 : kF κ H0 H_41 (fun _ => False) := ⟨(fun _ h => h.elim), hfz_fr_49, hfk_fr_49⟩
            obtain ⟨mz_56, nz_56, cfz_56, ⟨c1z_56, c2z_56, c3z_56, ho_55⟩, -⟩ := id hl_47
            refine v_callV E (As := []) (b := y_16) (ci := 6) (C := RJ16) (T := TJ16) (N := 6) ho_55 rfl (g_signum κ H_41 hl_47) (lw_V q1152 q171 q172 q91 q173) 0 (by decide +kernel) rfl (by decide) (by decide) (cb' := (((((cb - 0) - 0) - 0) - 0) - 0)) (sb' := (((((sb - 0) - 0) - 0) - 0) - 0)) (by omega) (by omega) rfl (rest := []) (Nat.le_of_ble_eq_true rfl) (fun q h => h.elim) dX1_signChangesOf_64 (fun v_50 H_51 hpost_52 hz_53 hk_54 => ?_)
            obtain rfl := hpost_52
            have hl_57 := BI.kf hC.D (kF.ext hz_53 hk_54) hl_47
            have hl_58 := IT.kf (kF.ext hz_53 hk_54) hl_48 (fun h => h)
            refine V.eq (st' := [vi ((P.2 k).sign)]) rfl ?_
            refine v_istore_n E dX1_signChangesOf_67 (zlt hL rfl) (lv' := [(2, vi ((P.2 k).sign)), (1, vi (((chG (fun i => (P.2 i).sign) k : Nat) : Int) + 0)), (4, .ref y_16), (3, .ref it)]) rfl ?_
            refine v_goto E (tgt := 12) dX1_signChangesOf_68 (by decide) ?_
            refine V.sub [3, 0, 1] (lv' := [(3, .ref it), (2, vi ((P.2 k).sign)), (1, vi (((chG (fun i => (P.2 i).sign) k : Nat) : Int) + 0))]) rfl ?_
            exact V.eqL (by rw [show ((chG (fun i => (P.2 i).sign) (k + 1) : Nat) : Int) = ((chG (fun i => (P.2 i).sign) k : Nat) : Int) + 0 by show ((chG (fun i => (P.2 i).sign) k + _ : Nat) : Int) = _; rw [if_neg (show ¬ (P.2 k).sign * lsG (fun i => (P.2 i).sign) k < 0 by omega)]; omega, show lsG (fun i => (P.2 i).sign) (k + 1) = (P.2 k).sign from if_neg (show ¬ (P.2 k).sign = 0 by omega)]) (ih_12  H_51 (k + 1) (((((cb - 0) - 0) - 0) - 0) - 0) (((((sb - 0) - 0) - 0) - 0) - 0) _ (by omega) (by omega) hl_58)
          · refine v_iload_n E 3 rfl dX1_signChangesOf_58 ?_
            refine v_goto E (tgt := 67) dX1_signChangesOf_59 (by decide) ?_
            refine v_istore_n E dX1_signChangesOf_67 (zlt hL rfl) (lv' := [(2, vi (lsG (fun i => (P.2 i).sign) k)), (1, vi (((chG (fun i => (P.2 i).sign) k : Nat) : Int) + 0)), (4, .ref y_16), (3, .ref it)]) rfl ?_
            refine v_goto E (tgt := 12) dX1_signChangesOf_68 (by decide) ?_
            refine V.sub [3, 0, 1] (lv' := [(3, .ref it), (2, vi (lsG (fun i => (P.2 i).sign) k)), (1, vi (((chG (fun i => (P.2 i).sign) k : Nat) : Int) + 0))]) rfl ?_
            exact V.eqL (by rw [show ((chG (fun i => (P.2 i).sign) (k + 1) : Nat) : Int) = ((chG (fun i => (P.2 i).sign) k : Nat) : Int) + 0 by show ((chG (fun i => (P.2 i).sign) k + _ : Nat) : Int) = _; rw [if_neg (show ¬ (P.2 k).sign * lsG (fun i => (P.2 i).sign) k < 0 by omega)]; omega, show lsG (fun i => (P.2 i).sign) (k + 1) = lsG (fun i => (P.2 i).sign) k from if_pos (show (P.2 k).sign = 0 by omega)]) (ih_12  H_41 (k + 1) ((((cb - 0) - 0) - 0) - 0) ((((sb - 0) - 0) - 0) - 0) _ (by omega) (by omega) hl_48)
        · refine v_iconst E dX1_signChangesOf_43 ?_
          refine v_goto E (tgt := 48) dX1_signChangesOf_44 (by decide) ?_
          refine v_iadd E dX1_signChangesOf_48 ?_
          refine v_istore_n E dX1_signChangesOf_49 (zlt hL rfl) (lv' := [(1, vi (((chG (fun i => (P.2 i).sign) k : Nat) : Int) + 1)), (4, .ref y_16), (3, .ref it), (2, vi (lsG (fun i => (P.2 i).sign) k))]) rfl ?_
          refine v_aload E 1 rfl dX1_signChangesOf_50 ?_
          refine V.frame (fun hfz_fr_59 hfk_fr_59 => ?_)
          rw [hH0] at hfz_fr_59 hfk_fr_59
          rw [hA0] at hfk_fr_59
          have hC_fr_59 := hC.call (fun q h => h.elim) hfz_fr_59 hfk_fr_59
          have hF_fr_59 : kF κ H0 H_31 (fun _ => False) := ⟨(fun _ h => h.elim), hfz_fr_59, hfk_fr_59⟩
          obtain ⟨mz_66, nz_66, cfz_66, ⟨c1z_66, c2z_66, c3z_66, ho_65⟩, -⟩ := id hl_37
          refine v_callV E (As := []) (b := y_16) (ci := 6) (C := RJ16) (T := TJ16) (N := 6) ho_65 rfl (g_signum κ H_31 hl_37) (lw_V q1152 q171 q172 q91 q173) 0 (by decide +kernel) rfl (by decide) (by decide) (cb' := ((((cb - 0) - 0) - 0) - 0)) (sb' := ((((sb - 0) - 0) - 0) - 0)) (by omega) (by omega) rfl (rest := []) (Nat.le_of_ble_eq_true rfl) (fun q h => h.elim) dX1_signChangesOf_52 (fun v_60 H_61 hpost_62 hz_63 hk_64 => ?_)
          obtain rfl := hpost_62
          have hl_67 := BI.kf hC.D (kF.ext hz_63 hk_64) hl_37
          have hl_68 := IT.kf (kF.ext hz_63 hk_64) hl_38 (fun h => h)
          refine V.eq (st' := [vi ((P.2 k).sign)]) rfl ?_
          refine v_if_ne E (tgt := 62) dX1_signChangesOf_55 (by decide) ⟨by omega, by omega⟩ (fun c_55 => ?_) (fun c_55 => ?_)
          · refine v_aload E 1 rfl dX1_signChangesOf_62 ?_
            refine V.frame (fun hfz_fr_69 hfk_fr_69 => ?_)
            rw [hH0] at hfz_fr_69 hfk_fr_69
            rw [hA0] at hfk_fr_69
            have hC_fr_69 := hC.call (fun q h => h.elim) hfz_fr_69 hfk_fr_69
            have hF_fr_69 : kF κ H0 H_61 (fun _ => False) := ⟨(fun _ h => h.elim), hfz_fr_69, hfk_fr_69⟩
            obtain ⟨mz_76, nz_76, cfz_76, ⟨c1z_76, c2z_76, c3z_76, ho_75⟩, -⟩ := id hl_67
            refine v_callV E (As := []) (b := y_16) (ci := 6) (C := RJ16) (T := TJ16) (N := 6) ho_75 rfl (g_signum κ H_61 hl_67) (lw_V q1152 q171 q172 q91 q173) 0 (by decide +kernel) rfl (by decide) (by decide) (cb' := (((((cb - 0) - 0) - 0) - 0) - 0)) (sb' := (((((sb - 0) - 0) - 0) - 0) - 0)) (by omega) (by omega) rfl (rest := []) (Nat.le_of_ble_eq_true rfl) (fun q h => h.elim) dX1_signChangesOf_64 (fun v_70 H_71 hpost_72 hz_73 hk_74 => ?_)
            obtain rfl := hpost_72
            have hl_77 := BI.kf hC.D (kF.ext hz_73 hk_74) hl_67
            have hl_78 := IT.kf (kF.ext hz_73 hk_74) hl_68 (fun h => h)
            refine V.eq (st' := [vi ((P.2 k).sign)]) rfl ?_
            refine v_istore_n E dX1_signChangesOf_67 (zlt hL rfl) (lv' := [(2, vi ((P.2 k).sign)), (1, vi (((chG (fun i => (P.2 i).sign) k : Nat) : Int) + 1)), (4, .ref y_16), (3, .ref it)]) rfl ?_
            refine v_goto E (tgt := 12) dX1_signChangesOf_68 (by decide) ?_
            refine V.sub [3, 0, 1] (lv' := [(3, .ref it), (2, vi ((P.2 k).sign)), (1, vi (((chG (fun i => (P.2 i).sign) k : Nat) : Int) + 1))]) rfl ?_
            exact V.eqL (by rw [show ((chG (fun i => (P.2 i).sign) (k + 1) : Nat) : Int) = ((chG (fun i => (P.2 i).sign) k : Nat) : Int) + 1 by show ((chG (fun i => (P.2 i).sign) k + _ : Nat) : Int) = _; rw [if_pos (show (P.2 k).sign * lsG (fun i => (P.2 i).sign) k < 0 by omega)]; omega, show lsG (fun i => (P.2 i).sign) (k + 1) = (P.2 k).sign from if_neg (show ¬ (P.2 k).sign = 0 by omega)]) (ih_12  H_71 (k + 1) (((((cb - 0) - 0) - 0) - 0) - 0) (((((sb - 0) - 0) - 0) - 0) - 0) _ (by omega) (by omega) hl_78)
          · refine v_iload_n E 3 rfl dX1_signChangesOf_58 ?_
            refine v_goto E (tgt := 67) dX1_signChangesOf_59 (by decide) ?_
            refine v_istore_n E dX1_signChangesOf_67 (zlt hL rfl) (lv' := [(2, vi (lsG (fun i => (P.2 i).sign) k)), (1, vi (((chG (fun i => (P.2 i).sign) k : Nat) : Int) + 1)), (4, .ref y_16), (3, .ref it)]) rfl ?_
            refine v_goto E (tgt := 12) dX1_signChangesOf_68 (by decide) ?_
            refine V.sub [3, 0, 1] (lv' := [(3, .ref it), (2, vi (lsG (fun i => (P.2 i).sign) k)), (1, vi (((chG (fun i => (P.2 i).sign) k : Nat) : Int) + 1))]) rfl ?_
            exact V.eqL (by rw [show ((chG (fun i => (P.2 i).sign) (k + 1) : Nat) : Int) = ((chG (fun i => (P.2 i).sign) k : Nat) : Int) + 1 by show ((chG (fun i => (P.2 i).sign) k + _ : Nat) : Int) = _; rw [if_pos (show (P.2 k).sign * lsG (fun i => (P.2 i).sign) k < 0 by omega)]; omega, show lsG (fun i => (P.2 i).sign) (k + 1) = lsG (fun i => (P.2 i).sign) k from if_pos (show (P.2 k).sign = 0 by omega)]) (ih_12  H_61 (k + 1) ((((cb - 0) - 0) - 0) - 0) ((((sb - 0) - 0) - 0) - 0) _ (by omega) (by omega) hl_68)
  refine V.sub [0, 1, 2] (lv' := [(3, .ref it), (2, vi 0), (1, vi 0)]) rfl ?_
  exact loop_12 (P.1 + 1) H_4 0 0 0 (-1) (by omega) (Nat.zero_le _) hitI
