/-! THE COMPONENT: what must be -/
set_option maxHeartbeats 400000 in
set_option maxRecDepth 100000 in
/-- mustBeSlot -/
theorem x_slot (κ : zK) (H0 : Heap) {a : Int} (ha : rI a)  : MtX κ yX1_mustBeSlot cX1_mustBeSlot 1 (none) 6 81 1 6 H0 [vi a] (fun _ => False) (fun v H1 => v = none ∧ (0 ≤ a ∧ a < 5)) (fun C H1 => C = "java/lang/IndexOutOfBoundsException" ∧ ¬ (0 ≤ a ∧ a < 5)) := by
  refine MtX.of (by decide) (Nat.le_of_ble_eq_true rfl) ?_
  intro z E X9 hE hH0 hA0 hL hini
  have hAll : ∀ q, (fun _ => False) q → zA z.A z.H0 q := fun q h => Or.inl (by rw [hA0]; exact h)
  have hNew : ∀ q, H0.size ≤ q → zA z.A z.H0 q := fun q h => Or.inr (by rw [hH0]; exact h)
  have E : zOK z cX1_mustBeSlot RX1 κ 6 81 (none) := E
  refine V.eqL (lv' := [(0, vi a)]) rfl ?_
  refine v_iload_n E 0 rfl dX1_mustBeSlot_0 ?_
  refine v_if_lt E (tgt := 9) dX1_mustBeSlot_1 (by decide) ha (fun c_1 => ?_) (fun c_1 => ?_)
  · refine V.frame (fun hfz_fr_1 hfk_fr_1 => ?_)
    rw [hH0] at hfz_fr_1 hfk_fr_1
    rw [hA0] at hfk_fr_1
    refine v_throw0 E X9 hE (cls := "java/lang/IndexOutOfBoundsException") (names := ["java/lang/RuntimeException", "java/lang/Exception"]) (ik := 133) (ic := 135) (by decide +kernel) (by decide +kernel) q573 q86 (ex_0 E.kn E.2.2.2.2.1 q582) ex_0_ok dX1_mustBeSlot_9 dX1_mustBeSlot_12 dX1_mustBeSlot_13 dX1_mustBeSlot_16 (by decide) (Nat.le_of_ble_eq_true rfl) (by omega) (by omega) (fun H9 hz9 hk9 => ?_)
    exact ⟨rfl, by omega⟩
  · refine v_iload_n E 0 rfl dX1_mustBeSlot_4 ?_
    refine v_iconst E dX1_mustBeSlot_5 ?_
    refine v_icmp_lt E (tgt := 17) dX1_mustBeSlot_6 (by decide) ha ⟨by omega, by omega⟩ (fun c_6 => ?_) (fun c_6 => ?_)
    · refine V.rt E hE (fun z9 E hE => ?_)
      refine v_vret E hE dX1_mustBeSlot_17 ?_
      exact ⟨rfl, by omega⟩
    · refine V.frame (fun hfz_fr_2 hfk_fr_2 => ?_)
      rw [hH0] at hfz_fr_2 hfk_fr_2
      rw [hA0] at hfk_fr_2
      refine v_throw0 E X9 hE (cls := "java/lang/IndexOutOfBoundsException") (names := ["java/lang/RuntimeException", "java/lang/Exception"]) (ik := 133) (ic := 135) (by decide +kernel) (by decide +kernel) q573 q86 (ex_0 E.kn E.2.2.2.2.1 q582) ex_0_ok dX1_mustBeSlot_9 dX1_mustBeSlot_12 dX1_mustBeSlot_13 dX1_mustBeSlot_16 (by decide) (Nat.le_of_ble_eq_true rfl) (by omega) (by omega) (fun H9 hz9 hk9 => ?_)
      exact ⟨rfl, by omega⟩

set_option maxHeartbeats 400000 in
set_option maxRecDepth 100000 in
/-- mustBePower -/
theorem x_pow (κ : zK) (H0 : Heap) {a : Int} (ha : rI a)  : MtX κ yX1_mustBePower cX1_mustBePower 1 (none) 6 81 1 6 H0 [vi a] (fun _ => False) (fun v H1 => v = none ∧ (0 ≤ a ∧ a ≤ 6)) (fun C H1 => C = "java/lang/IndexOutOfBoundsException" ∧ ¬ (0 ≤ a ∧ a ≤ 6)) := by
  refine MtX.of (by decide) (Nat.le_of_ble_eq_true rfl) ?_
  intro z E X9 hE hH0 hA0 hL hini
  have hAll : ∀ q, (fun _ => False) q → zA z.A z.H0 q := fun q h => Or.inl (by rw [hA0]; exact h)
  have hNew : ∀ q, H0.size ≤ q → zA z.A z.H0 q := fun q h => Or.inr (by rw [hH0]; exact h)
  have E : zOK z cX1_mustBePower RX1 κ 6 81 (none) := E
  refine V.eqL (lv' := [(0, vi a)]) rfl ?_
  refine v_iload_n E 0 rfl dX1_mustBePower_0 ?_
  refine v_if_lt E (tgt := 10) dX1_mustBePower_1 (by decide) ha (fun c_1 => ?_) (fun c_1 => ?_)
  · refine V.frame (fun hfz_fr_1 hfk_fr_1 => ?_)
    rw [hH0] at hfz_fr_1 hfk_fr_1
    rw [hA0] at hfk_fr_1
    refine v_throw0 E X9 hE (cls := "java/lang/IndexOutOfBoundsException") (names := ["java/lang/RuntimeException", "java/lang/Exception"]) (ik := 133) (ic := 135) (by decide +kernel) (by decide +kernel) q573 q86 (ex_0 E.kn E.2.2.2.2.1 q582) ex_0_ok dX1_mustBePower_10 dX1_mustBePower_13 dX1_mustBePower_14 dX1_mustBePower_17 (by decide) (Nat.le_of_ble_eq_true rfl) (by omega) (by omega) (fun H9 hz9 hk9 => ?_)
    exact ⟨rfl, by omega⟩
  · refine v_iload_n E 0 rfl dX1_mustBePower_4 ?_
    refine v_bipush E ⟨by decide, by decide⟩ dX1_mustBePower_5 ?_
    refine v_icmp_le E (tgt := 18) dX1_mustBePower_7 (by decide) ha ⟨by omega, by omega⟩ (fun c_7 => ?_) (fun c_7 => ?_)
    · refine V.rt E hE (fun z9 E hE => ?_)
      refine v_vret E hE dX1_mustBePower_18 ?_
      exact ⟨rfl, by omega⟩
    · refine V.frame (fun hfz_fr_2 hfk_fr_2 => ?_)
      rw [hH0] at hfz_fr_2 hfk_fr_2
      rw [hA0] at hfk_fr_2
      refine v_throw0 E X9 hE (cls := "java/lang/IndexOutOfBoundsException") (names := ["java/lang/RuntimeException", "java/lang/Exception"]) (ik := 133) (ic := 135) (by decide +kernel) (by decide +kernel) q573 q86 (ex_0 E.kn E.2.2.2.2.1 q582) ex_0_ok dX1_mustBePower_10 dX1_mustBePower_13 dX1_mustBePower_14 dX1_mustBePower_17 (by decide) (Nat.le_of_ble_eq_true rfl) (by omega) (by omega) (fun H9 hz9 hk9 => ?_)
      exact ⟨rfl, by omega⟩

set_option maxHeartbeats 400000 in
set_option maxRecDepth 100000 in
/-- mustBePoint -/
theorem x_pt (κ : zK) (H0 : Heap) {a b : Int} (ha : rI a) (hb : rI b)  : MtX κ yX1_mustBePoint cX1_mustBePoint 2 (none) 6 81 1 6 H0 [vi a, vi b] (fun _ => False) (fun v H1 => v = none ∧ ((-1000000 ≤ a ∧ a ≤ 1000000) ∧ (0 ≤ b ∧ b ≤ 12))) (fun C H1 => C = "java/lang/IllegalArgumentException" ∧ ¬ ((-1000000 ≤ a ∧ a ≤ 1000000) ∧ (0 ≤ b ∧ b ≤ 12))) := by
  refine MtX.of (by decide) (Nat.le_of_ble_eq_true rfl) ?_
  intro z E X9 hE hH0 hA0 hL hini
  have hAll : ∀ q, (fun _ => False) q → zA z.A z.H0 q := fun q h => Or.inl (by rw [hA0]; exact h)
  have hNew : ∀ q, H0.size ≤ q → zA z.A z.H0 q := fun q h => Or.inr (by rw [hH0]; exact h)
  have E : zOK z cX1_mustBePoint RX1 κ 6 81 (none) := E
  refine V.eqL (lv' := [(0, vi a), (1, vi b)]) rfl ?_
  refine v_iload_n E 0 rfl dX1_mustBePoint_0 ?_
  refine v_ldc E q1528 dX1_mustBePoint_1 ?_
  refine V.eq (st' := vi (-1000000) :: _) rfl ?_
  refine v_icmp_lt E (tgt := 22) dX1_mustBePoint_3 (by decide) ha ⟨by omega, by omega⟩ (fun c_3 => ?_) (fun c_3 => ?_)
  · refine V.frame (fun hfz_fr_1 hfk_fr_1 => ?_)
    rw [hH0] at hfz_fr_1 hfk_fr_1
    rw [hA0] at hfk_fr_1
    refine v_throw0 E X9 hE (cls := "java/lang/IllegalArgumentException") (names := ["java/lang/RuntimeException", "java/lang/Exception"]) (ik := 138) (ic := 140) (by decide +kernel) (by decide +kernel) q591 q89 (ex_1 E.kn E.2.2.2.2.1 q600) ex_1_ok dX1_mustBePoint_22 dX1_mustBePoint_25 dX1_mustBePoint_26 dX1_mustBePoint_29 (by decide) (Nat.le_of_ble_eq_true rfl) (by omega) (by omega) (fun H9 hz9 hk9 => ?_)
    exact ⟨rfl, by omega⟩
  · refine v_iload_n E 0 rfl dX1_mustBePoint_6 ?_
    refine v_ldc E q1529 dX1_mustBePoint_7 ?_
    refine V.eq (st' := vi 1000000 :: _) rfl ?_
    refine v_icmp_gt E (tgt := 22) dX1_mustBePoint_9 (by decide) ha ⟨by omega, by omega⟩ (fun c_9 => ?_) (fun c_9 => ?_)
    · refine V.frame (fun hfz_fr_2 hfk_fr_2 => ?_)
      rw [hH0] at hfz_fr_2 hfk_fr_2
      rw [hA0] at hfk_fr_2
      refine v_throw0 E X9 hE (cls := "java/lang/IllegalArgumentException") (names := ["java/lang/RuntimeException", "java/lang/Exception"]) (ik := 138) (ic := 140) (by decide +kernel) (by decide +kernel) q591 q89 (ex_1 E.kn E.2.2.2.2.1 q600) ex_1_ok dX1_mustBePoint_22 dX1_mustBePoint_25 dX1_mustBePoint_26 dX1_mustBePoint_29 (by decide) (Nat.le_of_ble_eq_true rfl) (by omega) (by omega) (fun H9 hz9 hk9 => ?_)
      exact ⟨rfl, by omega⟩
    · refine v_iload_n E 1 rfl dX1_mustBePoint_12 ?_
      refine v_if_lt E (tgt := 22) dX1_mustBePoint_13 (by decide) hb (fun c_13 => ?_) (fun c_13 => ?_)
      · refine V.frame (fun hfz_fr_3 hfk_fr_3 => ?_)
        rw [hH0] at hfz_fr_3 hfk_fr_3
        rw [hA0] at hfk_fr_3
        refine v_throw0 E X9 hE (cls := "java/lang/IllegalArgumentException") (names := ["java/lang/RuntimeException", "java/lang/Exception"]) (ik := 138) (ic := 140) (by decide +kernel) (by decide +kernel) q591 q89 (ex_1 E.kn E.2.2.2.2.1 q600) ex_1_ok dX1_mustBePoint_22 dX1_mustBePoint_25 dX1_mustBePoint_26 dX1_mustBePoint_29 (by decide) (Nat.le_of_ble_eq_true rfl) (by omega) (by omega) (fun H9 hz9 hk9 => ?_)
        exact ⟨rfl, by omega⟩
      · refine v_iload_n E 1 rfl dX1_mustBePoint_16 ?_
        refine v_bipush E ⟨by decide, by decide⟩ dX1_mustBePoint_17 ?_
        refine v_icmp_le E (tgt := 30) dX1_mustBePoint_19 (by decide) hb ⟨by omega, by omega⟩ (fun c_19 => ?_) (fun c_19 => ?_)
        · refine V.rt E hE (fun z9 E hE => ?_)
          refine v_vret E hE dX1_mustBePoint_30 ?_
          exact ⟨rfl, ⟨by omega, by omega⟩, by omega, by omega⟩
        · refine V.frame (fun hfz_fr_4 hfk_fr_4 => ?_)
          rw [hH0] at hfz_fr_4 hfk_fr_4
          rw [hA0] at hfk_fr_4
          refine v_throw0 E X9 hE (cls := "java/lang/IllegalArgumentException") (names := ["java/lang/RuntimeException", "java/lang/Exception"]) (ik := 138) (ic := 140) (by decide +kernel) (by decide +kernel) q591 q89 (ex_1 E.kn E.2.2.2.2.1 q600) ex_1_ok dX1_mustBePoint_22 dX1_mustBePoint_25 dX1_mustBePoint_26 dX1_mustBePoint_29 (by decide) (Nat.le_of_ble_eq_true rfl) (by omega) (by omega) (fun H9 hz9 hk9 => ?_)
          exact ⟨rfl, by omega⟩
