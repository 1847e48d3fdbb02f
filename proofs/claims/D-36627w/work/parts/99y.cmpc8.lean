/-! THE COMPONENT'S PUBLIC CALLS: between, countDistinct -/
/-- why an interval is refused -/
def xoBt (S : Nat → Pl) (a n k m l : Int) : Int :=
  if 0 ≤ a ∧ a < 5 then (if ((-1000000 ≤ n ∧ n ≤ 1000000) ∧ (0 ≤ k ∧ k ≤ 12)) ∧ ((-1000000 ≤ m ∧ m ≤ 1000000) ∧ (0 ≤ l ∧ l ≤ 12)) ∧ n * 2 ^ l.toNat < m * 2 ^ k.toNat then (if (S a.toNat).1 = 0 then 3 else (if cSg (S a.toNat) n k.toNat = 0 ∨ cSg (S a.toNat) m l.toNat = 0 then 4 else 0)) else 2) else 1
def xoCnt (S : Nat → Pl) (a n k m l : Int) : zRc := if 0 < xoBt S a n k m l then (0, xoBt S a n k m l, S) else ((((chG (fun i => cSg (sq (S a.toNat) i) n k.toNat) (seqLen (S a.toNat)) : Nat) : Int) - ((chG (fun i => cSg (sq (S a.toNat) i) m l.toNat) (seqLen (S a.toNat)) : Nat) : Int)), 0, S)
theorem xoBt_congr {S S' : Nat → Pl} (h : ∀ k, k < 5 → S k = S' k) (a n k m l : Int) : xoBt S a n k m l = xoBt S' a n k m l := by
  unfold xoBt
  by_cases c : 0 ≤ a ∧ a < 5
  · rw [if_pos c, if_pos c, h a.toNat (by omega)]
  · rw [if_neg c, if_neg c]
set_option maxHeartbeats 1000000 in
set_option maxRecDepth 100000 in
/-- between -/
theorem x_btw (κ : zK) (H0 : Heap) {x ls bs li bi : Nat} {a : Nat → Nat} {iso : Option Nat} {T : Nat → Pl} {n cap : Nat} {iv : Nat → Ivl} {N3 K3 : Nat} {v0 v1 v2 v3 v4 : Int} (hrv0 : rI v0) (hrv1 : rI v1) (hrv2 : rI v2) (hrv3 : rI v3) (hrv4 : rI v4) (h7T : ∀ k, k < 5 → (T (a k)).1 ≤ 7) (hfV : ∀ (i : Nat) (n : Int) (e : Nat), i < 5 → -1000000 ≤ n → n ≤ 1000000 → e ≤ 12 → fitV (T (a i)) n e N3 K3) (hC : CO κ H0) (hS : CS κ (dS ls bs li bi) H0 x ls bs li bi a iso T n cap iv)  : MtX κ yX1_between cX1_between 7 (some (.object "SturmRoots$Known")) 7 181 110 (50 + 2 * (8 + (4 * K3 + N3 + 28) * 6)) H0 [.ref x, vi v0, vi v1, vi v2, vi v3, vi v4] (fun _ => False) (fun v H1 => xoBt (fun k => T (a k)) v0 v1 v2 v3 v4 = 0 ∧ ∃ i k l : Nat, v0 = (i : Int) ∧ v2 = (k : Int) ∧ v4 = (l : Int) ∧ i < 5 ∧ k ≤ 12 ∧ l ≤ 12 ∧ (-1000000 ≤ v1 ∧ v1 ≤ 1000000) ∧ (-1000000 ≤ v3 ∧ v3 ≤ 1000000) ∧ 0 < (T (a i)).1 ∧ v = some (.ref (a i))) (fun C H1 => C = "java/lang/IndexOutOfBoundsException" ∧ xoBt (fun k => T (a k)) v0 v1 v2 v3 v4 = 1 ∨ C = "java/lang/IllegalArgumentException" ∧ xoBt (fun k => T (a k)) v0 v1 v2 v3 v4 = 2 ∨ C = "java/lang/ArithmeticException" ∧ xoBt (fun k => T (a k)) v0 v1 v2 v3 v4 = 3 ∨ C = "java/lang/IllegalStateException" ∧ xoBt (fun k => T (a k)) v0 v1 v2 v3 v4 = 4) := by
  refine MtX.of (by decide) (Nat.le_of_ble_eq_true rfl) ?_
  intro z E X9 hE hH0 hA0 hL hini
  have hAll : ∀ q, (fun _ => False) q → zA z.A z.H0 q := fun q h => Or.inl (by rw [hA0]; exact h)
  have hNew : ∀ q, H0.size ≤ q → zA z.A z.H0 q := fun q h => Or.inr (by rw [hH0]; exact h)
  have E : zOK z cX1_between RX1 κ 7 181 (some (.object "SturmRoots$Known")) := E
  refine V.eqL (lv' := [(0, .ref x), (1, vi v0), (2, vi v1), (3, vi v2), (4, vi v3), (5, vi v4)]) rfl ?_
  have hA93 : ∀ q, (fun _ => False : Nat → Prop) q → κ.2 93 ≤ q := fun q h => h.elim
  have hD := hC.D
  have hsl0 := hS.sl
  refine v_iload_n E 1 rfl dX1_between_0 ?_
  refine V.frame (fun hfz_fr_1 hfk_fr_1 => ?_)
  rw [hH0] at hfz_fr_1 hfk_fr_1
  rw [hA0] at hfk_fr_1
  have hC_fr_1 := hC.call hA93 hfz_fr_1 hfk_fr_1
  refine v_callSX E X9 hE (As := [vi v0]) (x_slot κ H0 hrv0) (lw_S q570 q571 q70 q572) 1 (by decide +kernel) rfl (by decide) (by decide) (cb' := (110 - 1)) (sb' := ((50 + 2 * (8 + (4 * K3 + N3 + 28) * 6)) - 6)) (by omega) (by omega) rfl (rest := []) (Nat.le_of_ble_eq_true rfl) (fun q h => h.elim) dX1_between_1 (fun C9 H9 hx9 hz9 hk9 => (by exact Or.inl (⟨hx9.1, by unfold xoBt; exact if_neg hx9.2⟩))) (fun v_2 H_3 hpost_4 hz_5 hk_6 => ?_)
  obtain ⟨rfl, hsl⟩ := hpost_4
  have hl_7 := CS.kf0 hC_fr_1 (kF.ext hz_5 hk_6) hS
  obtain ⟨i0, hn0⟩ : ∃ i0 : Nat, v0 = (i0 : Int) := ⟨v0.toNat, by omega⟩
  subst hn0
  have hii0 : i0 < 5 := by omega
  refine V.eq (st' := []) rfl ?_
  refine v_iload_n E 2 rfl dX1_between_4 ?_
  refine v_iload_n E 3 rfl dX1_between_5 ?_
  refine V.frame (fun hfz_fr_8 hfk_fr_8 => ?_)
  rw [hH0] at hfz_fr_8 hfk_fr_8
  rw [hA0] at hfk_fr_8
  have hC_fr_8 := hC.call hA93 hfz_fr_8 hfk_fr_8
  refine v_callSX E X9 hE (As := [vi v1, vi v2]) (x_pt κ H_3 hrv1 hrv2) (lw_S q1525 q1526 q70 q1527) 2 (by decide +kernel) rfl (by decide) (by decide) (cb' := ((110 - 1) - 1)) (sb' := (((50 + 2 * (8 + (4 * K3 + N3 + 28) * 6)) - 6) - 6)) (by omega) (by omega) rfl (rest := []) (Nat.le_of_ble_eq_true rfl) (fun q h => h.elim) dX1_between_6 (fun C9 H9 hx9 hz9 hk9 => (by exact Or.inr (Or.inl (⟨hx9.1, by unfold xoBt; exact (if_pos ⟨by omega, by omega⟩).trans (if_neg (fun h => hx9.2 h.1))⟩)))) (fun v_9 H_10 hpost_11 hz_12 hk_13 => ?_)
  obtain ⟨rfl, hptv1⟩ := hpost_11
  have hl_14 := CS.kf0 hC_fr_8 (kF.ext hz_12 hk_13) hl_7
  obtain ⟨e2, hne2⟩ : ∃ e2 : Nat, v2 = (e2 : Int) := ⟨v2.toNat, by omega⟩
  subst hne2
  have hpe2 : e2 ≤ 12 := by omega
  refine V.eq (st' := []) rfl ?_
  refine v_iload E 4 rfl dX1_between_9 ?_
  refine v_iload E 5 rfl dX1_between_11 ?_
  refine V.frame (fun hfz_fr_15 hfk_fr_15 => ?_)
  rw [hH0] at hfz_fr_15 hfk_fr_15
  rw [hA0] at hfk_fr_15
  have hC_fr_15 := hC.call hA93 hfz_fr_15 hfk_fr_15
  refine v_callSX E X9 hE (As := [vi v3, vi v4]) (x_pt κ H_10 hrv3 hrv4) (lw_S q1525 q1526 q70 q1527) 2 (by decide +kernel) rfl (by decide) (by decide) (cb' := (((110 - 1) - 1) - 1)) (sb' := ((((50 + 2 * (8 + (4 * K3 + N3 + 28) * 6)) - 6) - 6) - 6)) (by omega) (by omega) rfl (rest := []) (Nat.le_of_ble_eq_true rfl) (fun q h => h.elim) dX1_between_13 (fun C9 H9 hx9 hz9 hk9 => (by exact Or.inr (Or.inl (⟨hx9.1, by unfold xoBt; exact (if_pos ⟨by omega, by omega⟩).trans (if_neg (fun h => hx9.2 h.2.1))⟩)))) (fun v_16 H_17 hpost_18 hz_19 hk_20 => ?_)
  obtain ⟨rfl, hptv3⟩ := hpost_18
  have hl_21 := CS.kf0 hC_fr_15 (kF.ext hz_19 hk_20) hl_14
  obtain ⟨e4, hne4⟩ : ∃ e4 : Nat, v4 = (e4 : Int) := ⟨v4.toNat, by omega⟩
  subst hne4
  have hpe4 : e4 ≤ 12 := by omega
  refine V.eq (st' := []) rfl ?_
  refine v_iload_n E 2 rfl dX1_between_16 ?_
  refine v_i2l E ⟨by omega, by omega⟩ dX1_between_17 ?_
  refine v_iload E 5 rfl dX1_between_18 ?_
  refine v_lshl E e4 (by omega) dX1_between_20 ?_
  refine v_iload E 4 rfl dX1_between_21 ?_
  refine v_i2l E ⟨by omega, by omega⟩ dX1_between_23 ?_
  refine v_iload_n E 3 rfl dX1_between_24 ?_
  refine v_lshl E e2 (by omega) dX1_between_25 ?_
  refine v_lc_lt E (tgt := 38) dX1_between_26 dX1_between_27 (by decide) ⟨by have := pt_in (n := v1) (e := e4) (by omega) (by omega); omega, by have := pt_in (n := v1) (e := e4) (by omega) (by omega); omega⟩ ⟨by have := pt_in (n := v3) (e := e2) (by omega) (by omega); omega, by have := pt_in (n := v3) (e := e2) (by omega) (by omega); omega⟩ (fun c_26 => ?_) (fun c_26 => ?_)
  · refine v_aload_n E 0 rfl dX1_between_38 ?_
    refine v_iload_n E 1 rfl dX1_between_39 ?_
    have hlt9 : v1 * 2 ^ e4 < v3 * 2 ^ e2 := by omega
    refine V.frame (fun hfz_fr_22 hfk_fr_22 => ?_)
    rw [hH0] at hfz_fr_22 hfk_fr_22
    rw [hA0] at hfk_fr_22
    have hC_fr_22 := hC.call hA93 hfz_fr_22 hfk_fr_22
    refine v_callVX E X9 hE (As := [vi ((i0 : Nat) : Int)]) (b := x) (ci := 0) (C := RX1) (T := TX1) (N := 3) hl_21.2.1 rfl (x_nz κ H_17 (i := i0) hii0 hC_fr_22 hl_21) (lw_V q1458 q1460 qs40 q70 q1461) 1 (by decide +kernel) rfl (by decide) (by decide) (cb' := ((((110 - 1) - 1) - 1) - 1)) (sb' := (((((50 + 2 * (8 + (4 * K3 + N3 + 28) * 6)) - 6) - 6) - 6) - 6)) (by omega) (by omega) rfl (rest := []) (Nat.le_of_ble_eq_true rfl) (fun q h => h.elim) dX1_between_40 (fun C9 H9 hx9 hz9 hk9 => (by exact Or.inr (Or.inr (Or.inl (⟨hx9.1, by unfold xoBt; exact (if_pos ⟨by omega, by omega⟩).trans ((if_pos ⟨hptv1, hptv3, hlt9⟩).trans (if_pos hx9.2))⟩))))) (fun v_23 H_24 hpost_25 hz_26 hk_27 => ?_)
    obtain ⟨rfl, hposT⟩ := hpost_25
    have hl_28 := CS.kf0 hC_fr_22 (kF.ext hz_26 hk_27) hl_21
    refine V.eq (st' := [.ref (a i0)]) rfl ?_
    refine v_astore E dX1_between_43 (zlt hL rfl) (lv' := [(6, .ref (a i0)), (0, .ref x), (1, vi ((i0 : Nat) : Int)), (2, vi v1), (3, vi ((e2 : Nat) : Int)), (4, vi v3), (5, vi ((e4 : Nat) : Int))]) rfl ?_
    refine v_aload E 0 rfl dX1_between_45 ?_
    obtain ⟨-, -, pk_29, vs_30, vf_31, vg_32, hkn_33, hpk_34, -⟩ := id (hl_28.2.2.2.2.1 i0 hii0)
    refine v_getfN (host := "SturmRoots") E in_X2 hkn_33 (ci := 1) rfl 0 (by decide) (by decide +kernel) rfl (v := .ref pk_29) rfl dX1_between_47 ?_
    refine v_iload_n E 3 rfl dX1_between_50 ?_
    refine v_i2l E ⟨by omega, by omega⟩ dX1_between_51 ?_
    refine v_iload_n E 4 rfl dX1_between_52 ?_
    refine V.frame (fun hfz_fr_35 hfk_fr_35 => ?_)
    rw [hH0] at hfz_fr_35 hfk_fr_35
    rw [hA0] at hfk_fr_35
    have hC_fr_35 := hC.call hA93 hfz_fr_35 hfk_fr_35
    refine v_callS E (As := [.ref pk_29, vj v1, vi ((e2 : Nat) : Int)]) (p_sg κ H_24 (N := N3) (K := K3) hC_fr_35 ⟨by omega, by omega⟩ hpe2 (h7T i0 hii0) (hfV i0 v1 e2 hii0 (by omega) (by omega) hpe2) hpk_34) (lw_S q1533 q1534 q70 q1535) 3 (by decide +kernel) rfl (by decide) (by decide) (cb' := (((((110 - 1) - 1) - 1) - 1) - 50)) (sb' := ((((((50 + 2 * (8 + (4 * K3 + N3 + 28) * 6)) - 6) - 6) - 6) - 6) - (8 + (4 * K3 + N3 + 28) * 6))) (by have h9 : sgC (T (a i0)).1 ≤ 50 := (by have := h7T i0 hii0; unfold sgC; omega); omega) (by have h9 := sgL_7 (N := N3) (K := K3) (h7T i0 hii0); omega) rfl (rest := []) (Nat.le_of_ble_eq_true rfl) (fun q h => h.elim) dX1_between_53 (fun v_36 H_37 hpost_38 hz_39 hk_40 => ?_)
    obtain rfl := hpost_38
    have hl_41 := CS.kf0 hC_fr_35 (kF.ext hz_39 hk_40) hl_28
    have hl_42 := Po.kf hC_fr_35 (kF.ext hz_39 hk_40) aD.no hpk_34
    refine V.eq (st' := [vi (cSg (T (a i0)) v1 e2)]) rfl ?_
    refine v_if_eq E (tgt := 75) dX1_between_56 (by decide) ⟨by have := cSg_3 (T (a i0)) v1 e2; omega, by have := cSg_3 (T (a i0)) v1 e2; omega⟩ (fun c_56 => ?_) (fun c_56 => ?_)
    · refine V.frame (fun hfz_fr_43 hfk_fr_43 => ?_)
      rw [hH0] at hfz_fr_43 hfk_fr_43
      rw [hA0] at hfk_fr_43
      have hC_fr_43 := hC.call hA93 hfz_fr_43 hfk_fr_43
      refine V.frame (fun hfz_fr_44 hfk_fr_44 => ?_)
      rw [hH0] at hfz_fr_44 hfk_fr_44
      rw [hA0] at hfk_fr_44
      refine v_throw0 E X9 hE (cls := "java/lang/IllegalStateException") (names := ["java/lang/RuntimeException", "java/lang/Exception"]) (ik := 157) (ic := 159) (by decide +kernel) (by decide +kernel) q665 q95 (ex_2 E.kn E.2.2.2.2.1 q666) ex_2_ok dX1_between_75 dX1_between_78 dX1_between_79 dX1_between_82 (by decide) (Nat.le_of_ble_eq_true rfl) (by omega) (by omega) (fun H9 hz9 hk9 => ?_)
      exact Or.inr (Or.inr (Or.inr (⟨rfl, by unfold xoBt; exact (if_pos ⟨by omega, by omega⟩).trans ((if_pos ⟨hptv1, hptv3, hlt9⟩).trans ((if_neg (show ¬ (T (a i0)).1 = 0 by omega)).trans (if_pos (show cSg (T (a i0)) v1 e2 = 0 ∨ cSg (T (a i0)) v3 e4 = 0 by omega))))⟩)))
    · refine v_aload E 0 rfl dX1_between_59 ?_
      obtain ⟨-, -, pk_45, vs_46, vf_47, vg_48, hkn_49, hpk_50, -⟩ := id (hl_41.2.2.2.2.1 i0 hii0)
      refine v_getfN (host := "SturmRoots") E in_X2 hkn_49 (ci := 1) rfl 0 (by decide) (by decide +kernel) rfl (v := .ref pk_45) rfl dX1_between_61 ?_
      refine v_iload E 5 rfl dX1_between_64 ?_
      refine v_i2l E ⟨by omega, by omega⟩ dX1_between_66 ?_
      refine v_iload E 6 rfl dX1_between_67 ?_
      refine V.frame (fun hfz_fr_51 hfk_fr_51 => ?_)
      rw [hH0] at hfz_fr_51 hfk_fr_51
      rw [hA0] at hfk_fr_51
      have hC_fr_51 := hC.call hA93 hfz_fr_51 hfk_fr_51
      refine v_callS E (As := [.ref pk_45, vj v3, vi ((e4 : Nat) : Int)]) (p_sg κ H_37 (N := N3) (K := K3) hC_fr_51 ⟨by omega, by omega⟩ hpe4 (h7T i0 hii0) (hfV i0 v3 e4 hii0 (by omega) (by omega) hpe4) hpk_50) (lw_S q1533 q1534 q70 q1535) 3 (by decide +kernel) rfl (by decide) (by decide) (cb' := ((((((110 - 1) - 1) - 1) - 1) - 50) - 50)) (sb' := (((((((50 + 2 * (8 + (4 * K3 + N3 + 28) * 6)) - 6) - 6) - 6) - 6) - (8 + (4 * K3 + N3 + 28) * 6)) - (8 + (4 * K3 + N3 + 28) * 6))) (by have h9 : sgC (T (a i0)).1 ≤ 50 := (by have := h7T i0 hii0; unfold sgC; omega); omega) (by have h9 := sgL_7 (N := N3) (K := K3) (h7T i0 hii0); omega) rfl (rest := []) (Nat.le_of_ble_eq_true rfl) (fun q h => h.elim) dX1_between_69 (fun v_52 H_53 hpost_54 hz_55 hk_56 => ?_)
      obtain rfl := hpost_54
      have hl_57 := CS.kf0 hC_fr_51 (kF.ext hz_55 hk_56) hl_41
      have hl_58 := Po.kf hC_fr_51 (kF.ext hz_55 hk_56) aD.no hl_42
      have hl_59 := Po.kf hC_fr_51 (kF.ext hz_55 hk_56) aD.no hpk_50
      refine V.eq (st' := [vi (cSg (T (a i0)) v3 e4)]) rfl ?_
      refine v_if_ne E (tgt := 83) dX1_between_72 (by decide) ⟨by have := cSg_3 (T (a i0)) v3 e4; omega, by have := cSg_3 (T (a i0)) v3 e4; omega⟩ (fun c_72 => ?_) (fun c_72 => ?_)
      · refine v_aload E 0 rfl dX1_between_83 ?_
        refine V.rt E hE (fun z9 E hE => ?_)
        refine v_aret E hE rfl (Or.inl ⟨_, rfl⟩) dX1_between_85 (Or.inr ⟨_, rfl⟩) ?_
        exact ⟨by unfold xoBt; exact (if_pos ⟨by omega, by omega⟩).trans ((if_pos ⟨hptv1, hptv3, hlt9⟩).trans ((if_neg (show ¬ (T (a i0)).1 = 0 by omega)).trans (if_neg (show ¬ (cSg (T (a i0)) v1 e2 = 0 ∨ cSg (T (a i0)) v3 e4 = 0) by omega)))), i0, e2, e4, rfl, rfl, rfl, hii0, hpe2, hpe4, hptv1.1, hptv3.1, hposT, rfl⟩
      · refine V.frame (fun hfz_fr_60 hfk_fr_60 => ?_)
        rw [hH0] at hfz_fr_60 hfk_fr_60
        rw [hA0] at hfk_fr_60
        have hC_fr_60 := hC.call hA93 hfz_fr_60 hfk_fr_60
        refine V.frame (fun hfz_fr_61 hfk_fr_61 => ?_)
        rw [hH0] at hfz_fr_61 hfk_fr_61
        rw [hA0] at hfk_fr_61
        refine v_throw0 E X9 hE (cls := "java/lang/IllegalStateException") (names := ["java/lang/RuntimeException", "java/lang/Exception"]) (ik := 157) (ic := 159) (by decide +kernel) (by decide +kernel) q665 q95 (ex_2 E.kn E.2.2.2.2.1 q666) ex_2_ok dX1_between_75 dX1_between_78 dX1_between_79 dX1_between_82 (by decide) (Nat.le_of_ble_eq_true rfl) (by omega) (by omega) (fun H9 hz9 hk9 => ?_)
        exact Or.inr (Or.inr (Or.inr (⟨rfl, by unfold xoBt; exact (if_pos ⟨by omega, by omega⟩).trans ((if_pos ⟨hptv1, hptv3, hlt9⟩).trans ((if_neg (show ¬ (T (a i0)).1 = 0 by omega)).trans (if_pos (show cSg (T (a i0)) v1 e2 = 0 ∨ cSg (T (a i0)) v3 e4 = 0 by omega))))⟩)))
  · refine V.frame (fun hfz_fr_62 hfk_fr_62 => ?_)
    rw [hH0] at hfz_fr_62 hfk_fr_62
    rw [hA0] at hfk_fr_62
    have hC_fr_62 := hC.call hA93 hfz_fr_62 hfk_fr_62
    refine V.frame (fun hfz_fr_63 hfk_fr_63 => ?_)
    rw [hH0] at hfz_fr_63 hfk_fr_63
    rw [hA0] at hfk_fr_63
    refine v_throw0 E X9 hE (cls := "java/lang/IllegalArgumentException") (names := ["java/lang/RuntimeException", "java/lang/Exception"]) (ik := 138) (ic := 140) (by decide +kernel) (by decide +kernel) q591 q89 (ex_1 E.kn E.2.2.2.2.1 q600) ex_1_ok dX1_between_30 dX1_between_33 dX1_between_34 dX1_between_37 (by decide) (Nat.le_of_ble_eq_true rfl) (by omega) (by omega) (fun H9 hz9 hk9 => ?_)
    exact Or.inr (Or.inl (⟨rfl, by unfold xoBt; exact (if_pos ⟨by omega, by omega⟩).trans (if_neg (fun h => absurd (show v1 * 2 ^ e4 < v3 * 2 ^ e2 from h.2.2) (by omega)))⟩))

set_option maxHeartbeats 400000 in
set_option maxRecDepth 100000 in
/-- countDistinct -/
theorem c_cnt (κ : zK) (H0 : Heap) {x : Nat} {S : Nat → Pl} {isoP : Option Pl} {n cap : Nat} {iv : Nat → Ivl} {v0 : Int} (hrv0 : rI v0) {v1 : Int} (hrv1 : rI v1) {v2 : Int} (hrv2 : rI v2) {v3 : Int} (hrv3 : rI v3) {v4 : Int} (hrv4 : rI v4) (hC : CO κ H0) {N : Nat → Nat → Nat} {M : Nat → Nat} {M0 : Nat} {Nt Kt : Nat → Nat} {C0 L0 C1 L1 : Nat} {N3 K3 : Nat} (hQ : ∀ i, i < 5 → 0 < (S i).1 → okQ (S i) N M M0 Nt Kt C0 L0 C1 L1) (hok7 : ∀ i, i < 5 → (S i).1 ≤ 7) (hfVS : ∀ (i : Nat) (n : Int) (e : Nat), i < 5 → -1000000 ≤ n → n ≤ 1000000 → e ≤ 12 → fitV (S i) n e N3 K3) (hP : CP κ H0 x S isoP n cap iv)  : MtX κ yX1_countDistinct cX1_countDistinct 7 (some .int) 14 380 (110 + C0 + 2 * C1) (50 + 2 * (8 + (4 * K3 + N3 + 28) * 6) + L0 + 2 * L1) H0 [.ref x, vi v0, vi v1, vi v2, vi v3, vi v4] (pA κ H0) (fun v H1 => (xoCnt S v0 v1 v2 v3 v4).2.1 = 0 ∧ v = some (vi (xoCnt S v0 v1 v2 v3 v4).1) ∧ CP κ H1 x (xoCnt S v0 v1 v2 v3 v4).2.2 isoP n cap iv) (fun C H1 => (C = "java/lang/IndexOutOfBoundsException" ∧ (xoCnt S v0 v1 v2 v3 v4).2.1 = 1 ∨ C = "java/lang/IllegalArgumentException" ∧ (xoCnt S v0 v1 v2 v3 v4).2.1 = 2 ∨ C = "java/lang/ArithmeticException" ∧ (xoCnt S v0 v1 v2 v3 v4).2.1 = 3 ∨ C = "java/lang/IllegalStateException" ∧ (xoCnt S v0 v1 v2 v3 v4).2.1 = 4) ∧ CP κ H1 x S isoP n cap iv) := by
  refine MtX.of (by decide) (Nat.le_of_ble_eq_true rfl) ?_
  intro z E X9 hE hH0 hA0 hL hini
  have hAll : ∀ q, (pA κ H0) q → zA z.A z.H0 q := fun q h => Or.inl (by rw [hA0]; exact h)
  have hNew : ∀ q, H0.size ≤ q → zA z.A z.H0 q := fun q h => Or.inr (by rw [hH0]; exact h)
  have E : zOK z cX1_countDistinct RX1 κ 14 380 (some .int) := E
  refine V.eqL (lv' := [(0, .ref x), (1, vi v0), (2, vi v1), (3, vi v2), (4, vi v3), (5, vi v4)]) rfl ?_
  obtain ⟨ls, bs, li, bi, a, iso, T, hS, hST, hiso⟩ := hP
  have hA93 : ∀ q, pA κ H0 q → κ.2 93 ≤ q := fun q h => h.1
  have hD := hC.D
  have hsl0 := hS.sl
  have hQT : ∀ k, k < 5 → 0 < (T (a k)).1 → okQ (T (a k)) N M M0 Nt Kt C0 L0 C1 L1 := fun k hk h => by rw [← hST k hk] at h ⊢; exact hQ k hk h
  refine v_aload_n E 0 rfl dX1_countDistinct_0 ?_
  refine v_iload_n E 1 rfl dX1_countDistinct_1 ?_
  refine v_iload_n E 2 rfl dX1_countDistinct_2 ?_
  refine v_iload_n E 3 rfl dX1_countDistinct_3 ?_
  refine v_iload E 4 rfl dX1_countDistinct_4 ?_
  refine v_iload E 5 rfl dX1_countDistinct_6 ?_
  refine V.frame (fun hfz_fr_1 hfk_fr_1 => ?_)
  rw [hH0] at hfz_fr_1 hfk_fr_1
  rw [hA0] at hfk_fr_1
  have hC_fr_1 := hC.call hA93 hfz_fr_1 hfk_fr_1
  refine v_callVX E X9 hE (As := [vi v0, vi v1, vi v2, vi v3, vi v4]) (b := x) (ci := 0) (C := RX1) (T := TX1) (N := 3) hS.2.1 rfl (x_btw κ H0 (N3 := N3) (K3 := K3) hrv0 hrv1 hrv2 hrv3 hrv4 (fun k hk => by rw [← hST k hk]; exact hok7 k hk) (fun i n e hi => by rw [← hST i hi]; exact hfVS i n e hi) hC_fr_1 hS) (lw_V q1551 q1553 qs42 q70 q1554) 5 (by decide +kernel) rfl (by decide) (by decide) (cb' := ((110 + C0 + 2 * C1) - 110)) (sb' := ((50 + 2 * (8 + (4 * K3 + N3 + 28) * 6) + L0 + 2 * L1) - (50 + 2 * (8 + (4 * K3 + N3 + 28) * 6)))) (by omega) (by omega) rfl (rest := []) (Nat.le_of_ble_eq_true rfl) (fun q h => h.elim) dX1_countDistinct_8 (fun C9 H9 hx9 hz9 hk9 => (by
          refine ⟨?_, CS.pub (CS.kf0 hC_fr_1 (kF.ext hz9 hk9) hS) hST hiso⟩
          have hcg := xoBt_congr hST v0 v1 v2 v3 v4
          rcases hx9 with ⟨e1, e2⟩ | ⟨e1, e2⟩ | ⟨e1, e2⟩ | ⟨e1, e2⟩
          · exact Or.inl (⟨e1, by unfold xoCnt; rw [hcg, e2]; rfl⟩)
          · exact Or.inr (Or.inl (⟨e1, by unfold xoCnt; rw [hcg, e2]; rfl⟩))
          · exact Or.inr (Or.inr (Or.inl (⟨e1, by unfold xoCnt; rw [hcg, e2]; rfl⟩)))
          · exact Or.inr (Or.inr (Or.inr (⟨e1, by unfold xoCnt; rw [hcg, e2]; rfl⟩))))) (fun v_2 H_3 hpost_4 hz_5 hk_6 => ?_)
  obtain ⟨hbt, i0, e2, e4, rfl, rfl, rfl, hii0, hpe2, hpe4, hpn, hpm, hposT, rfl⟩ := hpost_4
  have hl_7 := CS.kf0 hC_fr_1 (kF.ext hz_5 hk_6) hS
  have hposS : 0 < (S i0).1 := by rw [hST i0 hii0]; exact hposT
  have hbS : xoBt S (i0 : Int) v1 (e2 : Int) v3 (e4 : Int) = 0 := (xoBt_congr hST _ _ _ _ _).trans hbt
  refine V.eq (st' := [.ref (a i0)]) rfl ?_
  refine V.frame (fun hfz_fr_9 hfk_fr_9 => ?_)
  rw [hH0] at hfz_fr_9 hfk_fr_9
  rw [hA0] at hfk_fr_9
  have hC_fr_9 := hC.call hA93 hfz_fr_9 hfk_fr_9
  obtain ⟨-, -, pk_15, vs_16, vf_17, vg_18, hkn_19, hpk_20, -⟩ := id (hl_7.2.2.2.2.1 i0 hii0)
  refine v_callV E (As := []) (b := (a i0)) (ci := 1) (C := RX2) (T := TX2) (N := 4) hkn_19 rfl (k_seq κ H_3 (b := false) (N := N) (M := M) (M0 := M0) hC_fr_9 (fun q h => by have h2 := hsl0; exact ⟨by omega, by omega, by omega, by omega⟩) (hQT i0 hii0 hposT).1 (hl_7.2.2.2.2.1 i0 hii0)) (lw_V q1496 q1472 q1473 q74 q1474) 0 (by decide +kernel) rfl (by decide) (by decide) (cb' := (((110 + C0 + 2 * C1) - 110) - C0)) (sb' := (((50 + 2 * (8 + (4 * K3 + N3 + 28) * 6) + L0 + 2 * L1) - (50 + 2 * (8 + (4 * K3 + N3 + 28) * 6))) - L0)) (by rw [bC_f]; have := (hQT i0 hii0 hposT).2.1; omega) (by rw [bC_f]; have := (hQT i0 hii0 hposT).2.2.1; omega) rfl (rest := []) (Nat.le_of_ble_eq_true rfl) (fun q h => by obtain ⟨fs9, h8⟩ := (hl_7.2.2.2.2.1 i0 hii0).cl; have h9 := pA.any hfk_fr_9 h8 (Or.inr (Or.inl rfl)) (hl_7.2.2.2.2.1 i0 hii0).2.1; rw [← show q = _ from h] at h9; exact h9.elim (fun e => hAll q e) (fun e => hNew q e)) dX1_countDistinct_11 (fun v_10 H_11 hpost_12 hz_13 hk_14 => ?_)
  obtain ⟨ls_8, rfl, hls_8, hKls_8⟩ := hpost_12
  have hSk_21 := kS.of (hl_7.2.2.2.2.1 i0 hii0) hKls_8 hz_13 hk_14
  have hl_22 := CS.ks hC_fr_9 hSk_21 hKls_8 hl_7
  have hl_23 := Po.ks hC_fr_9 hSk_21 hpk_20
  refine V.eq (st' := [.ref ls_8]) rfl ?_
  refine v_astore E dX1_countDistinct_14 (zlt hL rfl) (lv' := [(6, .ref ls_8), (0, .ref x), (1, vi ((i0 : Nat) : Int)), (2, vi v1), (3, vi ((e2 : Nat) : Int)), (4, vi v3), (5, vi ((e4 : Nat) : Int))]) rfl ?_
  refine v_aload E 0 rfl dX1_countDistinct_16 ?_
  refine v_iload_n E 3 rfl dX1_countDistinct_18 ?_
  refine v_i2l E ⟨by omega, by omega⟩ dX1_countDistinct_19 ?_
  refine v_iload_n E 4 rfl dX1_countDistinct_20 ?_
  refine V.frame (fun hfz_fr_24 hfk_fr_24 => ?_)
  rw [hH0] at hfz_fr_24 hfk_fr_24
  rw [hA0] at hfk_fr_24
  have hC_fr_24 := hC.call hA93 hfz_fr_24 hfk_fr_24
  refine v_callS E (As := [.ref ls_8, vj v1, vi ((e2 : Nat) : Int)]) (p_chg κ H_11 (n := v1) (e := e2) (Nt := Nt) (Kt := Kt) hC_fr_24 ⟨by omega, by omega⟩ hpe2 ((hQT i0 hii0 hposT).2.2.2.2.2 _ _ (show -4294967296 < v1 ∧ v1 < 4294967296 from ⟨by omega, by omega⟩).1 (show -4294967296 < v1 ∧ v1 < 4294967296 from ⟨by omega, by omega⟩).2 hpe2) hls_8) (lw_S q1530 q1531 q70 q1532) 3 (by decide +kernel) rfl (by decide) (by decide) (cb' := ((((110 + C0 + 2 * C1) - 110) - C0) - C1)) (sb' := ((((50 + 2 * (8 + (4 * K3 + N3 + 28) * 6) + L0 + 2 * L1) - (50 + 2 * (8 + (4 * K3 + N3 + 28) * 6))) - L0) - L1)) (by have := (hQT i0 hii0 hposT).2.2.2.1; omega) (by have := (hQT i0 hii0 hposT).2.2.2.2.1; omega) rfl (rest := []) (Nat.le_of_ble_eq_true rfl) (fun q h => h.elim) dX1_countDistinct_21 (fun v_25 H_26 hpost_27 hz_28 hk_29 => ?_)
  obtain rfl := hpost_27
  have hl_30 := CS.kf0 hC_fr_24 (kF.ext hz_28 hk_29) hl_22
  have hl_31 := Po.kf hC_fr_24 (kF.ext hz_28 hk_29) aD.no hl_23
  have hl_32 := SQ.kf hC_fr_24 (kF.ext hz_28 hk_29) aD.no hls_8
  refine V.eq (st' := [vi ((chG (fun i => cSg (sq (T (a i0)) i) v1 e2) (seqLen (T (a i0))) : Nat) : Int)]) rfl ?_
  refine v_aload E 0 rfl dX1_countDistinct_24 ?_
  refine v_iload E 5 rfl dX1_countDistinct_26 ?_
  refine v_i2l E ⟨by omega, by omega⟩ dX1_countDistinct_28 ?_
  refine v_iload E 6 rfl dX1_countDistinct_29 ?_
  refine V.frame (fun hfz_fr_33 hfk_fr_33 => ?_)
  rw [hH0] at hfz_fr_33 hfk_fr_33
  rw [hA0] at hfk_fr_33
  have hC_fr_33 := hC.call hA93 hfz_fr_33 hfk_fr_33
  refine v_callS E (As := [.ref ls_8, vj v3, vi ((e4 : Nat) : Int)]) (p_chg κ H_26 (n := v3) (e := e4) (Nt := Nt) (Kt := Kt) hC_fr_33 ⟨by omega, by omega⟩ hpe4 ((hQT i0 hii0 hposT).2.2.2.2.2 _ _ (show -4294967296 < v3 ∧ v3 < 4294967296 from ⟨by omega, by omega⟩).1 (show -4294967296 < v3 ∧ v3 < 4294967296 from ⟨by omega, by omega⟩).2 hpe4) hl_32) (lw_S q1530 q1531 q70 q1532) 3 (by decide +kernel) rfl (by decide) (by decide) (cb' := (((((110 + C0 + 2 * C1) - 110) - C0) - C1) - C1)) (sb' := (((((50 + 2 * (8 + (4 * K3 + N3 + 28) * 6) + L0 + 2 * L1) - (50 + 2 * (8 + (4 * K3 + N3 + 28) * 6))) - L0) - L1) - L1)) (by have := (hQT i0 hii0 hposT).2.2.2.1; omega) (by have := (hQT i0 hii0 hposT).2.2.2.2.1; omega) rfl (rest := [vi ((chG (fun i => cSg (sq (T (a i0)) i) v1 e2) (seqLen (T (a i0))) : Nat) : Int)]) (Nat.le_of_ble_eq_true rfl) (fun q h => h.elim) dX1_countDistinct_31 (fun v_34 H_35 hpost_36 hz_37 hk_38 => ?_)
  obtain rfl := hpost_36
  have hl_39 := CS.kf0 hC_fr_33 (kF.ext hz_37 hk_38) hl_30
  have hl_40 := Po.kf hC_fr_33 (kF.ext hz_37 hk_38) aD.no hl_31
  have hl_41 := SQ.kf hC_fr_33 (kF.ext hz_37 hk_38) aD.no hl_32
  refine V.eq (st' := [vi ((chG (fun i => cSg (sq (T (a i0)) i) v3 e4) (seqLen (T (a i0))) : Nat) : Int), vi ((chG (fun i => cSg (sq (T (a i0)) i) v1 e2) (seqLen (T (a i0))) : Nat) : Int)]) rfl ?_
  refine v_isub E dX1_countDistinct_34 ?_
  refine V.rt E hE (fun z9 E hE => ?_)
  refine v_iret E hE dX1_countDistinct_35 ?_
  have hop : xoCnt S (i0 : Int) v1 (e2 : Int) v3 (e4 : Int) = (((chG (fun i => cSg (sq (T (a i0)) i) v1 e2) (seqLen (T (a i0))) : Nat) : Int) - ((chG (fun i => cSg (sq (T (a i0)) i) v3 e4) (seqLen (T (a i0))) : Nat) : Int), 0, S) := by unfold xoCnt; rw [if_neg (by rw [hbS]; decide)]; show (((chG (fun i => cSg (sq (S i0) i) v1 e2) (seqLen (S i0)) : Nat) : Int) - ((chG (fun i => cSg (sq (S i0) i) v3 e4) (seqLen (S i0)) : Nat) : Int), 0, S) = _; rw [hST i0 hii0]
  rw [hop]; exact ⟨rfl, rfl, CS.pub hl_39 hST hiso⟩
