/-! THE COMPONENT: bisect, refine, multiplicity where there is no interval -/
theorem c_bi0 (κ : zK) (H0 : Heap) {x : Nat} {S : Nat → Pl} {isoP : Option Pl} {cap : Nat} {iv : Nat → Ivl} {v0 : Int} (hrv0 : rI v0) (hC : CO κ H0) (hP : CP κ H0 x S isoP 0 cap iv) : MtX κ yX1_bisect cX1_bisect 10 (some .int) 17 440 1 6 H0 [.ref x, vi v0] (pA κ H0) (fun _ _ => False) (fun C H1 => C = "java/lang/IndexOutOfBoundsException" ∧ CP κ H1 x S isoP 0 cap iv) := by
  refine MtX.of (by decide) (Nat.le_of_ble_eq_true rfl) ?_
  intro z E X9 hE hH0 hA0 hL hini
  have E : zOK z cX1_bisect RX1 κ 17 440 (some .int) := E
  refine V.eqL (lv' := [(0, .ref x), (1, vi v0)]) rfl ?_
  obtain ⟨ls, bs, li, bi, a, iso, T, hS, hST, hiso⟩ := hP
  have hA93 : ∀ q, pA κ H0 q → κ.2 93 ≤ q := fun q h => h.1
  refine v_aload_n E 0 rfl dX1_bisect_0 ?_
  refine v_iload_n E 1 rfl dX1_bisect_1 ?_
  refine v_callVX E X9 hE (As := [vi v0]) (b := x) (ci := 0) (C := RX1) (T := TX1) (N := 3) hS.2.1 rfl (x_iv κ H0 hrv0 hC hS) (lw_V q1624 q1626 qs43 q70 q1627) 1 (by decide +kernel) rfl (by decide) (by decide) (cb' := 0) (sb' := 0) (by omega) (by omega) rfl (rest := []) (Nat.le_of_ble_eq_true rfl) (fun q h => h.elim) dX1_bisect_2 (fun C9 H9 hx9 hz9 hk9 => ⟨hx9.1, CS.pub (CS.kf0 hC (kF.ext hz9 hk9) hS) hST hiso⟩) (fun v_2 H_3 hpost_4 hz_5 hk_6 => ?_)
  obtain ⟨k9, y9, _, hk9n, _⟩ := hpost_4
  exact absurd hk9n (Nat.not_lt_zero k9)
theorem c_rf0 (κ : zK) (H0 : Heap) {x : Nat} {S : Nat → Pl} {isoP : Option Pl} {cap : Nat} {iv : Nat → Ivl} {v0 : Int} (hrv0 : rI v0) {v1 : Int} (hrv1 : rI v1) (hC : CO κ H0) (hP : CP κ H0 x S isoP 0 cap iv) : MtX κ yX1_refine cX1_refine 11 (some .int) 17 440 1 6 H0 [.ref x, vi v0, vi v1] (pA κ H0) (fun _ _ => False) (fun C H1 => C = "java/lang/IndexOutOfBoundsException" ∧ CP κ H1 x S isoP 0 cap iv) := by
  refine MtX.of (by decide) (Nat.le_of_ble_eq_true rfl) ?_
  intro z E X9 hE hH0 hA0 hL hini
  have E : zOK z cX1_refine RX1 κ 17 440 (some .int) := E
  refine V.eqL (lv' := [(0, .ref x), (1, vi v0), (2, vi v1)]) rfl ?_
  obtain ⟨ls, bs, li, bi, a, iso, T, hS, hST, hiso⟩ := hP
  have hA93 : ∀ q, pA κ H0 q → κ.2 93 ≤ q := fun q h => h.1
  refine v_aload_n E 0 rfl dX1_refine_0 ?_
  refine v_iload_n E 1 rfl dX1_refine_1 ?_
  refine v_callVX E X9 hE (As := [vi v0]) (b := x) (ci := 0) (C := RX1) (T := TX1) (N := 3) hS.2.1 rfl (x_iv κ H0 hrv0 hC hS) (lw_V q1624 q1626 qs43 q70 q1627) 1 (by decide +kernel) rfl (by decide) (by decide) (cb' := 0) (sb' := 0) (by omega) (by omega) rfl (rest := []) (Nat.le_of_ble_eq_true rfl) (fun q h => h.elim) dX1_refine_2 (fun C9 H9 hx9 hz9 hk9 => ⟨hx9.1, CS.pub (CS.kf0 hC (kF.ext hz9 hk9) hS) hST hiso⟩) (fun v_2 H_3 hpost_4 hz_5 hk_6 => ?_)
  obtain ⟨k9, y9, _, hk9n, _⟩ := hpost_4
  exact absurd hk9n (Nat.not_lt_zero k9)
theorem c_mu0 (κ : zK) (H0 : Heap) {x : Nat} {S : Nat → Pl} {isoP : Option Pl} {cap : Nat} {iv : Nat → Ivl} {v0 : Int} (hrv0 : rI v0) (hC : CO κ H0) (hP : CP κ H0 x S isoP 0 cap iv) : MtX κ yX1_multiplicity cX1_multiplicity 5 (some .int) 18 463 1 6 H0 [.ref x, vi v0] (pA κ H0) (fun _ _ => False) (fun C H1 => C = "java/lang/IndexOutOfBoundsException" ∧ CP κ H1 x S isoP 0 cap iv) := by
  refine MtX.of (by decide) (Nat.le_of_ble_eq_true rfl) ?_
  intro z E X9 hE hH0 hA0 hL hini
  have E : zOK z cX1_multiplicity RX1 κ 18 463 (some .int) := E
  refine V.eqL (lv' := [(0, .ref x), (1, vi v0)]) rfl ?_
  obtain ⟨ls, bs, li, bi, a, iso, T, hS, hST, hiso⟩ := hP
  have hA93 : ∀ q, pA κ H0 q → κ.2 93 ≤ q := fun q h => h.1
  refine v_aload_n E 0 rfl dX1_multiplicity_0 ?_
  refine v_iload_n E 1 rfl dX1_multiplicity_1 ?_
  refine v_callVX E X9 hE (As := [vi v0]) (b := x) (ci := 0) (C := RX1) (T := TX1) (N := 3) hS.2.1 rfl (x_iv κ H0 hrv0 hC hS) (lw_V q1624 q1626 qs43 q70 q1627) 1 (by decide +kernel) rfl (by decide) (by decide) (cb' := 0) (sb' := 0) (by omega) (by omega) rfl (rest := []) (Nat.le_of_ble_eq_true rfl) (fun q h => h.elim) dX1_multiplicity_2 (fun C9 H9 hx9 hz9 hk9 => ⟨hx9.1, CS.pub (CS.kf0 hC (kF.ext hz9 hk9) hS) hST hiso⟩) (fun v_2 H_3 hpost_4 hz_5 hk_6 => ?_)
  obtain ⟨k9, y9, _, hk9n, _⟩ := hpost_4
  exact absurd hk9n (Nat.not_lt_zero k9)
