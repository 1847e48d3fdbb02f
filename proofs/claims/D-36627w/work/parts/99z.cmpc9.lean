/-! THE COMPONENT'S PUBLIC CALLS: intervals -/
def xoRts (S : Nat → Pl) (n : Nat) (iv : Nat → Ivl) (j : Int) : zRc := if 0 ≤ j ∧ j < (n : Int) then ((iv j.toNat).2.2.2, 0, S) else (0, 1, S)
def xoIv (S : Nat → Pl) (n : Nat) (iv : Nat → Ivl) (j c : Int) : zRc := if 0 ≤ j ∧ j < (n : Int) then (if c = 100 then ((iv j.toNat).1, 0, S) else (if c = 109 then ((iv j.toNat).2.1, 0, S) else (if c = 110 then ((iv j.toNat).2.2.1, 0, S) else (0, 2, S)))) else (0, 1, S)
theorem CS.n {κ : zK} {D : Nat → Prop} {H : Heap} {x ls bs li bi : Nat} {a : Nat → Nat} {iso : Option Nat} {T : Nat → Pl} {n cap : Nat} {iv : Nat → Ivl} (h : CS κ D H x ls bs li bi a iso T n cap iv) : n ≤ 1000 := by
  obtain ⟨h0, h1, h2, ⟨mdi, gi, h4, h5⟩, h6, h7⟩ := h
  exact Nat.le_trans h4.2.2.1 h4.2.2.2.2.1
set_option maxHeartbeats 400000 in
set_option maxRecDepth 100000 in
/-- Interval(..) -/
theorem i_init (κ : zK) (H0 : Heap) {k : Nat} {e l h r : Int} (ho : hp κ H0 k (.inr (4, [vi 0, vi 0, vi 0, vi 0])))  : Mt κ yX5_init cX5_init 5 (none) 1 12 0 0 H0 [.ref k, vi e, vi l, vi h, vi r] (fun q => q = k) (fun v H1 => v = none ∧ e4 κ H1 k (e, l, h, r)) := by
  refine Mt.of (by decide) (Nat.le_of_ble_eq_true rfl) ?_
  intro z E hE hH0 hA0 hL hini
  have hini := hini rfl
  have hAll : ∀ q, (fun q => q = k) q → zA z.A z.H0 q := fun q h => Or.inl (by rw [hA0]; exact h)
  have hNew : ∀ q, H0.size ≤ q → zA z.A z.H0 q := fun q h => Or.inr (by rw [hH0]; exact h)
  have E : zOK z cX5_init RX5 κ 1 12 (none) := E
  refine V.eqL (lv' := [(0, .ref k), (1, vi e), (2, vi l), (3, vi h), (4, vi r)]) rfl ?_
  refine v_aload_n E 0 rfl dX5_init_0 ?_
  refine v_objInit E q1599 q111 q112 dX5_init_1 (by decide) (Nat.le_of_ble_eq_true rfl) ?_
  refine v_aload_n E 0 rfl dX5_init_4 ?_
  refine v_iload_n E 1 rfl dX5_init_5 ?_
  refine v_putfF E hini in_X5 tyX5 tyX5_ok nmX5 ho (ci := 4) rfl 0 (Nat.le_of_ble_eq_true rfl) q1600 rfl rfl rfl rfl rfl (Nat.le_of_ble_eq_true rfl) (hAll _ rfl) dX5_init_6 (fun H_3 ho_1 hs_2 => ?_)
  have ho_1 : hp κ H_3 k (.inr (4, [vi e, vi 0, vi 0, vi 0])) := ho_1
  refine v_aload_n E 0 rfl dX5_init_9 ?_
  refine v_iload_n E 2 rfl dX5_init_10 ?_
  refine v_putfF E hini in_X5 tyX5 tyX5_ok nmX5 ho_1 (ci := 4) rfl 1 (Nat.le_of_ble_eq_true rfl) q1602 rfl rfl rfl rfl rfl (Nat.le_of_ble_eq_true rfl) (hAll _ rfl) dX5_init_11 (fun H_6 ho_4 hs_5 => ?_)
  have ho_4 : hp κ H_6 k (.inr (4, [vi e, vi l, vi 0, vi 0])) := ho_4
  refine v_aload_n E 0 rfl dX5_init_14 ?_
  refine v_iload_n E 3 rfl dX5_init_15 ?_
  refine v_putfF E hini in_X5 tyX5 tyX5_ok nmX5 ho_4 (ci := 4) rfl 2 (Nat.le_of_ble_eq_true rfl) q1604 rfl rfl rfl rfl rfl (Nat.le_of_ble_eq_true rfl) (hAll _ rfl) dX5_init_16 (fun H_9 ho_7 hs_8 => ?_)
  have ho_7 : hp κ H_9 k (.inr (4, [vi e, vi l, vi h, vi 0])) := ho_7
  refine v_aload_n E 0 rfl dX5_init_19 ?_
  refine v_iload E 4 rfl dX5_init_20 ?_
  refine v_putfF E hini in_X5 tyX5 tyX5_ok nmX5 ho_7 (ci := 4) rfl 3 (Nat.le_of_ble_eq_true rfl) q1606 rfl rfl rfl rfl rfl (Nat.le_of_ble_eq_true rfl) (hAll _ rfl) dX5_init_22 (fun H_12 ho_10 hs_11 => ?_)
  have ho_10 : hp κ H_12 k (.inr (4, [vi e, vi l, vi h, vi r])) := ho_10
  refine v_vret E hE dX5_init_25 ?_
  exact ⟨rfl, ho_10⟩

set_option maxHeartbeats 400000 in
set_option maxRecDepth 100000 in
/-- mustBeInterval -/
theorem x_iv (κ : zK) (H0 : Heap) {x ls bs li bi : Nat} {a : Nat → Nat} {iso : Option Nat} {T : Nat → Pl} {n cap : Nat} {iv : Nat → Ivl} {j : Int} (hrj : rI j) (hC : CO κ H0) (hS : CS κ (dS ls bs li bi) H0 x ls bs li bi a iso T n cap iv)  : MtX κ yX1_mustBeInterval cX1_mustBeInterval 2 (some (.object "SturmRoots$Interval")) 6 81 1 6 H0 [.ref x, vi j] (fun _ => False) (fun v H1 => ∃ k y : Nat, j = (k : Int) ∧ k < n ∧ v = some (.ref y) ∧ e4 κ H1 y (iv k)) (fun C H1 => C = "java/lang/IndexOutOfBoundsException" ∧ ¬ (0 ≤ j ∧ j < (n : Int))) := by
  refine MtX.of (by decide) (Nat.le_of_ble_eq_true rfl) ?_
  intro z E X9 hE hH0 hA0 hL hini
  have hAll : ∀ q, (fun _ => False) q → zA z.A z.H0 q := fun q h => Or.inl (by rw [hA0]; exact h)
  have hNew : ∀ q, H0.size ≤ q → zA z.A z.H0 q := fun q h => Or.inr (by rw [hH0]; exact h)
  have E : zOK z cX1_mustBeInterval RX1 κ 6 81 (some (.object "SturmRoots$Interval")) := E
  refine V.eqL (lv' := [(0, .ref x), (1, vi j)]) rfl ?_
  have hA93 : ∀ q, (fun _ => False : Nat → Prop) q → κ.2 93 ≤ q := fun q h => h.elim
  have hD := hC.D
  have hsl0 := hS.sl
  have hn1 := hS.n
  refine v_iload_n E 1 rfl dX1_mustBeInterval_0 ?_
  refine v_if_lt E (tgt := 15) dX1_mustBeInterval_1 (by decide) hrj (fun c_1 => ?_) (fun c_1 => ?_)
  · refine V.frame (fun hfz_fr_1 hfk_fr_1 => ?_)
    rw [hH0] at hfz_fr_1 hfk_fr_1
    rw [hA0] at hfk_fr_1
    have hC_fr_1 := hC.call hA93 hfz_fr_1 hfk_fr_1
    refine V.frame (fun hfz_fr_2 hfk_fr_2 => ?_)
    rw [hH0] at hfz_fr_2 hfk_fr_2
    rw [hA0] at hfk_fr_2
    refine v_throw0 E X9 hE (cls := "java/lang/IndexOutOfBoundsException") (names := ["java/lang/RuntimeException", "java/lang/Exception"]) (ik := 133) (ic := 135) (by decide +kernel) (by decide +kernel) q573 q86 (ex_0 E.kn E.2.2.2.2.1 q582) ex_0_ok dX1_mustBeInterval_15 dX1_mustBeInterval_18 dX1_mustBeInterval_19 dX1_mustBeInterval_22 (by decide) (Nat.le_of_ble_eq_true rfl) (by omega) (by omega) (fun H9 hz9 hk9 => ?_)
    exact ⟨rfl, by omega⟩
  · refine v_iload_n E 1 rfl dX1_mustBeInterval_4 ?_
    refine v_aload_n E 0 rfl dX1_mustBeInterval_5 ?_
    refine v_getf E in_X1 hS.2.1 (ci := 0) rfl 2 (by decide) q274 rfl (v := .ref li) rfl dX1_mustBeInterval_6 ?_
    obtain ⟨md_3, g_4, hA_5, hel_6⟩ := hS.2.2.2.1
    refine V.frame (fun hfz_fr_7 hfk_fr_7 => ?_)
    rw [hH0] at hfz_fr_7 hfk_fr_7
    rw [hA0] at hfk_fr_7
    have hC_fr_7 := hC.call hA93 hfz_fr_7 hfk_fr_7
    obtain ⟨md_13, g_14, hA_15, hg_16⟩ := hS.2.2.2.1
    refine v_callV E (As := []) (b := li) (ci := 5) (C := RJ2) (T := TJ2) (N := 3) hA_15.1 rfl (j_size κ H0 hA_5) (lw_V q286 q152 q153 q73 q154) 0 (by decide +kernel) rfl (by decide) (by decide) (cb' := 1) (sb' := 6) (by decide) (by decide) rfl (rest := [vi j]) (Nat.le_of_ble_eq_true rfl) (fun q h => h.elim) dX1_mustBeInterval_9 (fun v_8 H_9 hpost_10 hz_11 hk_12 => ?_)
    obtain rfl := hpost_10
    have hl_17 := CS.kf0 hC_fr_7 (kF.ext hz_11 hk_12) hS
    refine V.eq (st' := [vi (n : Int), vi j]) rfl ?_
    refine v_icmp_lt E (tgt := 23) dX1_mustBeInterval_12 (by decide) hrj ⟨by omega, by omega⟩ (fun c_12 => ?_) (fun c_12 => ?_)
    · refine v_aload_n E 0 rfl dX1_mustBeInterval_23 ?_
      refine v_getf E in_X1 hl_17.2.1 (ci := 0) rfl 2 (by decide) q274 rfl (v := .ref li) rfl dX1_mustBeInterval_24 ?_
      refine v_iload_n E 1 rfl dX1_mustBeInterval_27 ?_
      obtain ⟨j9, hj9⟩ : ∃ j9 : Nat, j = (j9 : Int) := ⟨j.toNat, by omega⟩
      refine V.topi (x' := ((j9 : Nat) : Int)) (congrArg iZ (by omega)) ?_
      obtain ⟨md_18, g_19, hA_20, hel_21⟩ := hl_17.2.2.2.1
      obtain ⟨y_22, hy_23, hE_24⟩ := hel_21 j9 (by omega)
      refine V.frame (fun hfz_fr_25 hfk_fr_25 => ?_)
      rw [hH0] at hfz_fr_25 hfk_fr_25
      rw [hA0] at hfk_fr_25
      have hC_fr_25 := hC.call hA93 hfz_fr_25 hfk_fr_25
      obtain ⟨md_31, g_32, hA_33, hg_34⟩ := hl_17.2.2.2.1
      refine v_callV E (As := [vi ((j9 : Nat) : Int)]) (b := li) (ci := 5) (C := RJ2) (T := TJ2) (N := 3) hA_33.1 rfl (j_get κ H_9 (i := j9) (y := y_22) (by omega) hy_23 hA_20) (lw_V q610 q156 q157 q73 q158) 1 (by decide +kernel) rfl (by decide) (by decide) (cb' := 1) (sb' := 6) (by decide) (by decide) rfl (rest := []) (Nat.le_of_ble_eq_true rfl) (fun q h => h.elim) dX1_mustBeInterval_28 (fun v_26 H_27 hpost_28 hz_29 hk_30 => ?_)
      obtain rfl := hpost_28
      have hl_35 := CS.kf0 hC_fr_25 (kF.ext hz_29 hk_30) hl_17
      have hl_36 := (kF.at (kF.ext hz_29 hk_30) hE_24 (kF.obj hC.D (kF.ext hz_29 hk_30) hE_24 (by decide)))
      refine V.eq (st' := [.ref y_22]) rfl ?_
      refine v_castS E hl_36 (q := (RX5, TX5, 4)) rfl q418 dX1_mustBeInterval_31 ?_
      refine V.rt E hE (fun z9 E hE => ?_)
      refine v_aret E hE rfl (Or.inl ⟨_, rfl⟩) dX1_mustBeInterval_34 (Or.inr ⟨_, rfl⟩) ?_
      exact ⟨j9, y_22, hj9, by omega, rfl, hl_36⟩
    · refine V.frame (fun hfz_fr_37 hfk_fr_37 => ?_)
      rw [hH0] at hfz_fr_37 hfk_fr_37
      rw [hA0] at hfk_fr_37
      have hC_fr_37 := hC.call hA93 hfz_fr_37 hfk_fr_37
      refine V.frame (fun hfz_fr_38 hfk_fr_38 => ?_)
      rw [hH0] at hfz_fr_38 hfk_fr_38
      rw [hA0] at hfk_fr_38
      refine v_throw0 E X9 hE (cls := "java/lang/IndexOutOfBoundsException") (names := ["java/lang/RuntimeException", "java/lang/Exception"]) (ik := 133) (ic := 135) (by decide +kernel) (by decide +kernel) q573 q86 (ex_0 E.kn E.2.2.2.2.1 q582) ex_0_ok dX1_mustBeInterval_15 dX1_mustBeInterval_18 dX1_mustBeInterval_19 dX1_mustBeInterval_22 (by decide) (Nat.le_of_ble_eq_true rfl) (by omega) (by omega) (fun H9 hz9 hk9 => ?_)
      exact ⟨rfl, by omega⟩

set_option maxHeartbeats 400000 in
set_option maxRecDepth 100000 in
/-- rootsIn -/
theorem c_rts (κ : zK) (H0 : Heap) {x : Nat} {S : Nat → Pl} {isoP : Option Pl} {n cap : Nat} {iv : Nat → Ivl} {v0 : Int} (hrv0 : rI v0) (hC : CO κ H0) (hP : CP κ H0 x S isoP n cap iv)  : MtX κ yX1_rootsIn cX1_rootsIn 2 (some .int) 7 102 1 6 H0 [.ref x, vi v0] (pA κ H0) (fun v H1 => (xoRts S n iv v0).2.1 = 0 ∧ v = some (vi (xoRts S n iv v0).1) ∧ CP κ H1 x (xoRts S n iv v0).2.2 isoP n cap iv) (fun C H1 => (C = "java/lang/IndexOutOfBoundsException" ∧ (xoRts S n iv v0).2.1 = 1) ∧ CP κ H1 x S isoP n cap iv) := by
  refine MtX.of (by decide) (Nat.le_of_ble_eq_true rfl) ?_
  intro z E X9 hE hH0 hA0 hL hini
  have hAll : ∀ q, (pA κ H0) q → zA z.A z.H0 q := fun q h => Or.inl (by rw [hA0]; exact h)
  have hNew : ∀ q, H0.size ≤ q → zA z.A z.H0 q := fun q h => Or.inr (by rw [hH0]; exact h)
  have E : zOK z cX1_rootsIn RX1 κ 7 102 (some .int) := E
  refine V.eqL (lv' := [(0, .ref x), (1, vi v0)]) rfl ?_
  obtain ⟨ls, bs, li, bi, a, iso, T, hS, hST, hiso⟩ := hP
  have hA93 : ∀ q, pA κ H0 q → κ.2 93 ≤ q := fun q h => h.1
  have hD := hC.D
  have hsl0 := hS.sl
  refine v_aload_n E 0 rfl dX1_rootsIn_0 ?_
  refine v_iload_n E 1 rfl dX1_rootsIn_1 ?_
  refine V.frame (fun hfz_fr_1 hfk_fr_1 => ?_)
  rw [hH0] at hfz_fr_1 hfk_fr_1
  rw [hA0] at hfk_fr_1
  have hC_fr_1 := hC.call hA93 hfz_fr_1 hfk_fr_1
  refine v_callVX E X9 hE (As := [vi v0]) (b := x) (ci := 0) (C := RX1) (T := TX1) (N := 3) hS.2.1 rfl (x_iv κ H0 hrv0 hC_fr_1 hS) (lw_V q1624 q1626 qs43 q70 q1627) 1 (by decide +kernel) rfl (by decide) (by decide) (cb' := 0) (sb' := 0) (by decide) (by decide) rfl (rest := []) (Nat.le_of_ble_eq_true rfl) (fun q h => h.elim) dX1_rootsIn_2 (fun C9 H9 hx9 hz9 hk9 => (by exact ⟨⟨hx9.1, (by have hx8 := hx9.2; unfold xoRts; first | (split <;> first | rfl | (exfalso; omega) | (split <;> first | rfl | (exfalso; omega) | (split <;> first | rfl | (exfalso; omega)))))⟩, CS.pub (CS.kf0 hC_fr_1 (kF.ext hz9 hk9) hS) hST hiso⟩)) (fun v_4 H_5 hpost_6 hz_7 hk_8 => ?_)
  obtain ⟨k9, y_2, rfl, hk9n, rfl, hE_3⟩ := hpost_6
  have hl_9 := CS.kf0 hC_fr_1 (kF.ext hz_7 hk_8) hS
  refine V.eq (st' := [.ref y_2]) rfl ?_
  refine v_getfN (host := "SturmRoots") E in_X5 hE_3 (ci := 4) rfl 3 (by decide) (by decide +kernel) rfl (v := vi ((iv k9).2.2.2)) rfl dX1_rootsIn_5 ?_
  refine V.rt E hE (fun z9 E hE => ?_)
  refine v_iret E hE dX1_rootsIn_8 ?_
  have hop : xoRts S n iv (k9 : Int) = ((iv k9).2.2.2, 0, S) := by unfold xoRts; rw [if_pos (by omega)]; rfl
  rw [hop]; exact ⟨rfl, rfl, CS.pub hl_9 hST hiso⟩

set_option maxHeartbeats 400000 in
set_option maxRecDepth 100000 in
/-- interval -/
theorem c_iv (κ : zK) (H0 : Heap) {x : Nat} {S : Nat → Pl} {isoP : Option Pl} {n cap : Nat} {iv : Nat → Ivl} {v0 : Int} (hrv0 : rI v0) {v1 : Int} (hrv1 : rI v1) (hC : CO κ H0) (hP : CP κ H0 x S isoP n cap iv)  : MtX κ yX1_interval cX1_interval 4 (some .int) 7 102 2 12 H0 [.ref x, vi v0, vi v1] (pA κ H0) (fun v H1 => (xoIv S n iv v0 v1).2.1 = 0 ∧ v = some (vi (xoIv S n iv v0 v1).1) ∧ CP κ H1 x (xoIv S n iv v0 v1).2.2 isoP n cap iv) (fun C H1 => (C = "java/lang/IndexOutOfBoundsException" ∧ (xoIv S n iv v0 v1).2.1 = 1 ∨ C = "java/lang/IllegalArgumentException" ∧ (xoIv S n iv v0 v1).2.1 = 2) ∧ CP κ H1 x S isoP n cap iv) := by
  refine MtX.of (by decide) (Nat.le_of_ble_eq_true rfl) ?_
  intro z E X9 hE hH0 hA0 hL hini
  have hAll : ∀ q, (pA κ H0) q → zA z.A z.H0 q := fun q h => Or.inl (by rw [hA0]; exact h)
  have hNew : ∀ q, H0.size ≤ q → zA z.A z.H0 q := fun q h => Or.inr (by rw [hH0]; exact h)
  have E : zOK z cX1_interval RX1 κ 7 102 (some .int) := E
  refine V.eqL (lv' := [(0, .ref x), (1, vi v0), (2, vi v1)]) rfl ?_
  obtain ⟨ls, bs, li, bi, a, iso, T, hS, hST, hiso⟩ := hP
  have hA93 : ∀ q, pA κ H0 q → κ.2 93 ≤ q := fun q h => h.1
  have hD := hC.D
  have hsl0 := hS.sl
  refine v_aload_n E 0 rfl dX1_interval_0 ?_
  refine v_iload_n E 1 rfl dX1_interval_1 ?_
  refine V.frame (fun hfz_fr_1 hfk_fr_1 => ?_)
  rw [hH0] at hfz_fr_1 hfk_fr_1
  rw [hA0] at hfk_fr_1
  have hC_fr_1 := hC.call hA93 hfz_fr_1 hfk_fr_1
  refine v_callVX E X9 hE (As := [vi v0]) (b := x) (ci := 0) (C := RX1) (T := TX1) (N := 3) hS.2.1 rfl (x_iv κ H0 hrv0 hC_fr_1 hS) (lw_V q1624 q1626 qs43 q70 q1627) 1 (by decide +kernel) rfl (by decide) (by decide) (cb' := 1) (sb' := 6) (by decide) (by decide) rfl (rest := []) (Nat.le_of_ble_eq_true rfl) (fun q h => h.elim) dX1_interval_2 (fun C9 H9 hx9 hz9 hk9 => (by exact ⟨Or.inl (⟨hx9.1, (by have hx8 := hx9.2; unfold xoIv; first | (split <;> first | rfl | (exfalso; omega) | (split <;> first | rfl | (exfalso; omega) | (split <;> first | rfl | (exfalso; omega)))))⟩), CS.pub (CS.kf0 hC_fr_1 (kF.ext hz9 hk9) hS) hST hiso⟩)) (fun v_4 H_5 hpost_6 hz_7 hk_8 => ?_)
  obtain ⟨k9, y_2, rfl, hk9n, rfl, hE_3⟩ := hpost_6
  have hl_9 := CS.kf0 hC_fr_1 (kF.ext hz_7 hk_8) hS
  refine V.eq (st' := [.ref y_2]) rfl ?_
  refine v_astore_n E dX1_interval_5 (zlt hL rfl) (lv' := [(3, .ref y_2), (0, .ref x), (1, vi ((k9 : Nat) : Int)), (2, vi v1)]) rfl ?_
  refine v_iload_n E 3 rfl dX1_interval_6 ?_
  by_cases c_7_0 : v1 = 100
  ·
    refine v_lookup E (off := 33) (tgt := 40) hrv1 dX1_interval_7 (by decide) (by rw [c_7_0]; decide) (by decide) ?_
    refine v_aload_n E 0 rfl dX1_interval_40 ?_
    refine v_getfN (host := "SturmRoots") E in_X5 hE_3 (ci := 4) rfl 0 (by decide) (by decide +kernel) rfl (v := vi ((iv k9).1)) rfl dX1_interval_41 ?_
    refine V.rt E hE (fun z9 E hE => ?_)
    refine v_iret E hE dX1_interval_44 ?_
    have hop : xoIv S n iv (k9 : Int) v1 = ((iv k9).1, 0, S) := by unfold xoIv; rw [if_pos (by omega)]; exact (if_pos (by omega))
    rw [hop]; exact ⟨rfl, rfl, CS.pub hl_9 hST hiso⟩
  ·
    by_cases c_7_1 : v1 = 109
    ·
      refine v_lookup E (off := 38) (tgt := 45) hrv1 dX1_interval_7 (by decide) (by rw [c_7_1]; decide) (by decide) ?_
      refine v_aload_n E 0 rfl dX1_interval_45 ?_
      refine v_getfN (host := "SturmRoots") E in_X5 hE_3 (ci := 4) rfl 1 (by decide) (by decide +kernel) rfl (v := vi ((iv k9).2.1)) rfl dX1_interval_46 ?_
      refine V.rt E hE (fun z9 E hE => ?_)
      refine v_iret E hE dX1_interval_49 ?_
      have hop : xoIv S n iv (k9 : Int) v1 = ((iv k9).2.1, 0, S) := by unfold xoIv; rw [if_pos (by omega)]; exact (if_neg (by omega)).trans (if_pos (by omega))
      rw [hop]; exact ⟨rfl, rfl, CS.pub hl_9 hST hiso⟩
    ·
      by_cases c_7_2 : v1 = 110
      ·
        refine v_lookup E (off := 43) (tgt := 50) hrv1 dX1_interval_7 (by decide) (by rw [c_7_2]; decide) (by decide) ?_
        refine v_aload_n E 0 rfl dX1_interval_50 ?_
        refine v_getfN (host := "SturmRoots") E in_X5 hE_3 (ci := 4) rfl 2 (by decide) (by decide +kernel) rfl (v := vi ((iv k9).2.2.1)) rfl dX1_interval_51 ?_
        refine V.rt E hE (fun z9 E hE => ?_)
        refine v_iret E hE dX1_interval_54 ?_
        have hop : xoIv S n iv (k9 : Int) v1 = ((iv k9).2.2.1, 0, S) := by unfold xoIv; rw [if_pos (by omega)]; exact (if_neg (by omega)).trans ((if_neg (by omega)).trans (if_pos (by omega)))
        rw [hop]; exact ⟨rfl, rfl, CS.pub hl_9 hST hiso⟩
      ·
        refine v_lookup E (off := 48) (tgt := 55) hrv1 dX1_interval_7 (by decide) (by rw [Op.lookupswitch.offset_cons, if_neg (fun h => c_7_0 h.symm), Op.lookupswitch.offset_cons, if_neg (fun h => c_7_1 h.symm), Op.lookupswitch.offset_cons, if_neg (fun h => c_7_2 h.symm)]; rfl) (by decide) ?_
        refine V.frame (fun hfz_fr_10 hfk_fr_10 => ?_)
        rw [hH0] at hfz_fr_10 hfk_fr_10
        rw [hA0] at hfk_fr_10
        have hC_fr_10 := hC.call hA93 hfz_fr_10 hfk_fr_10
        refine V.frame (fun hfz_fr_11 hfk_fr_11 => ?_)
        rw [hH0] at hfz_fr_11 hfk_fr_11
        rw [hA0] at hfk_fr_11
        refine v_throw0 E X9 hE (cls := "java/lang/IllegalArgumentException") (names := ["java/lang/RuntimeException", "java/lang/Exception"]) (ik := 138) (ic := 140) (by decide +kernel) (by decide +kernel) q591 q89 (ex_1 E.kn E.2.2.2.2.1 q600) ex_1_ok dX1_interval_55 dX1_interval_58 dX1_interval_59 dX1_interval_62 (by decide) (Nat.le_of_ble_eq_true rfl) (by omega) (by omega) (fun H9 hz9 hk9 => ?_)
        exact ⟨Or.inr (⟨rfl, (by unfold xoIv; first | (split <;> first | rfl | (exfalso; omega) | (split <;> first | rfl | (exfalso; omega) | (split <;> first | rfl | (exfalso; omega)))))⟩), CS.pub (CS.kf0 hC_fr_10 (kF.ext hz9 (fun q hq _ => hk9 q hq)) hl_9) hST hiso⟩

set_option maxHeartbeats 400000 in
set_option maxRecDepth 100000 in
/-- intervals -/
theorem c_ivs (κ : zK) (H0 : Heap) {x : Nat} {S : Nat → Pl} {isoP : Option Pl} {n cap : Nat} {iv : Nat → Ivl} (hC : CO κ H0) (hP : CP κ H0 x S isoP n cap iv)  : Mt κ yX1_intervals cX1_intervals 1 (some .int) 1 20 0 0 H0 [.ref x] (fun _ => False) (fun v H1 => v = some (vi (n : Int)) ∧ CP κ H1 x S isoP n cap iv) := by
  refine Mt.of (by decide) (Nat.le_of_ble_eq_true rfl) ?_
  intro z E hE hH0 hA0 hL hini
  have hAll : ∀ q, (fun _ => False) q → zA z.A z.H0 q := fun q h => Or.inl (by rw [hA0]; exact h)
  have hNew : ∀ q, H0.size ≤ q → zA z.A z.H0 q := fun q h => Or.inr (by rw [hH0]; exact h)
  have E : zOK z cX1_intervals RX1 κ 1 20 (some .int) := E
  refine V.eqL (lv' := [(0, .ref x)]) rfl ?_
  obtain ⟨ls, bs, li, bi, a, iso, T, hS, hST, hiso⟩ := hP
  have hA93 : ∀ q, (fun _ => False : Nat → Prop) q → κ.2 93 ≤ q := fun q h => h.elim
  have hD := hC.D
  have hsl0 := hS.sl
  refine v_aload_n E 0 rfl dX1_intervals_0 ?_
  refine v_getf E in_X1 hS.2.1 (ci := 0) rfl 2 (by decide) q274 rfl (v := .ref li) rfl dX1_intervals_1 ?_
  obtain ⟨md_1, g_2, hA_3, hel_4⟩ := hS.2.2.2.1
  refine V.frame (fun hfz_fr_5 hfk_fr_5 => ?_)
  rw [hH0] at hfz_fr_5 hfk_fr_5
  rw [hA0] at hfk_fr_5
  have hC_fr_5 := hC.call hA93 hfz_fr_5 hfk_fr_5
  obtain ⟨md_11, g_12, hA_13, hg_14⟩ := hS.2.2.2.1
  refine v_callV E (As := []) (b := li) (ci := 5) (C := RJ2) (T := TJ2) (N := 3) hA_13.1 rfl (j_size κ H0 hA_3) (lw_V q286 q152 q153 q73 q154) 0 (by decide +kernel) rfl (by decide) (by decide) (cb' := 0) (sb' := 0) (by decide) (by decide) rfl (rest := []) (Nat.le_of_ble_eq_true rfl) (fun q h => h.elim) dX1_intervals_4 (fun v_6 H_7 hpost_8 hz_9 hk_10 => ?_)
  obtain rfl := hpost_8
  have hl_15 := CS.kf0 hC_fr_5 (kF.ext hz_9 hk_10) hS
  refine V.eq (st' := [vi (n : Int)]) rfl ?_
  refine v_iret E hE dX1_intervals_7 ?_
  exact ⟨rfl, CS.pub hl_15 hST hiso⟩
