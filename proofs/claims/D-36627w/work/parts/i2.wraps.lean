/-! THE LAW: the methods that catch -/
set_option maxHeartbeats 400000 in
/-- set, caught -/
theorem w_set (κ : zK) (H0 : Heap) {x o : Nat} {fs : List Value} {v0 v1 v2 r1 r2 : Int} {f : Nat → Int} {mc2 ms2 : Nat} {PO PX : Heap → Prop} (hx : hp κ H0 x (.inr (0, fs))) (ho : hp κ H0 o (eJ κ 1 f)) (hr1 : r2 = 0 → rI r1) (hoA : ¬ pA κ H0 o) (hM : MtX κ yX1_set cX1_set 7 (some .int) 7 158 mc2 ms2 H0 [.ref x, vi v0, vi v1, vi v2] (pA κ H0) (fun v H1 => r2 = 0 ∧ v = some (vi r1) ∧ PO H1) (fun C H1 => (C = "java/lang/IndexOutOfBoundsException" ∧ r2 = 1 ∨ C = "java/lang/IllegalArgumentException" ∧ r2 = 2) ∧ PX H1)) (hk : ∀ H1 H2, PO H1 → zSame H1 H2 o → hp κ H1 o (eJ κ 1 f) → PO H2) : MtW κ yX0_set cX0_set 6 (some .int) [((0 : Nat), (12 : Nat), (15 : Nat), (13 : Nat)), ((0 : Nat), (12 : Nat), (19 : Nat), (15 : Nat))] 8 184 mc2 ms2 H0 [.ref x, vi v0, vi v1, vi v2, .ref o] (fun q => pA κ H0 q ∨ q = o) (fun v H1 => v = some (vi r2) ∧ ((r2 = 0 ∧ PO H1 ∧ ∃ g : Nat → Int, hp κ H1 o (eJ κ 1 g) ∧ g 0 = r1) ∨ (r2 ≠ 0 ∧ PX H1 ∧ hp κ H1 o (eJ κ 1 f)))) := by
  refine MtW.of (by decide) (Nat.le_of_ble_eq_true rfl) ?_
  intro z E X9 hE hH0 hA0 hL hini
  have E : zOK z cX0_set RX0 κ 8 184 (some .int) := E
  have hAll : ∀ q, pA κ H0 q → zA z.A z.H0 q := fun q h => Or.inl (by rw [hA0]; exact Or.inl h)
  have hAo : zA z.A z.H0 o := Or.inl (by rw [hA0]; exact Or.inr rfl)
  refine V.eqL (lv' := [(0, .ref x), (1, vi v0), (2, vi v1), (3, vi v2), (4, .ref o)]) rfl ?_
  refine v_aload E 4 rfl dX0_set_0 ?_
  refine v_iconst E dX0_set_2 ?_
  refine v_aload_n E 0 rfl dX0_set_3 ?_
  refine v_iload_n E 1 rfl dX0_set_4 ?_
  refine v_iload_n E 2 rfl dX0_set_5 ?_
  refine v_iload_n E 3 rfl dX0_set_6 ?_
  refine v_callVK E X9 (As := [vi v0, vi v1, vi v2]) (b := x) (ci := 0) (C := RX1) (T := TX1) (N := 3) hx rfl hM (lw_V q566 q567 q568 q70 q569) 3 (by decide +kernel) rfl (by decide) (by decide) (cb' := 0) (sb' := 0) (by omega) (by omega) rfl (rest := [vi 0, .ref o]) (Nat.le_of_ble_eq_true rfl) hAll dX0_set_7 (fun C9 H9 hx9 hz9 hk9 => ?_) (fun v9 H1 hpost hz hkk => ?_)
  · obtain ⟨hC, hPX⟩ := hx9
    have ho9 := ho.kept (hk9 o ho.lt hoA)
    rcases hC with ⟨rfl, e9⟩ | ⟨rfl, e9⟩
    · skip
      refine ⟨[], [(⟨0, 12, 19, 15⟩ : ExceptionTableEntry)], (⟨0, 12, 15, 13⟩ : ExceptionTableEntry), "java/lang/IndexOutOfBoundsException", rfl, fun y hy => absurd hy List.not_mem_nil, by decide, by decide, q532, by decide +kernel, fun q => ?_⟩
      refine v_astore E dX0_set_15 (zlt hL rfl) (lv' := [(5, .ref q), (0, .ref x), (1, vi v0), (2, vi v1), (3, vi v2), (4, .ref o)]) rfl ?_
      refine v_iconst E dX0_set_17 ?_
      refine v_iret E hE dX0_set_18 ?_
      exact ⟨by rw [e9], Or.inr ⟨by omega, hPX, ho9⟩⟩
    · skip
      refine ⟨[(⟨0, 12, 15, 13⟩ : ExceptionTableEntry)], [], (⟨0, 12, 19, 15⟩ : ExceptionTableEntry), "java/lang/IllegalArgumentException", rfl, fun y hy => by
        simp only [List.mem_cons, List.not_mem_nil, or_false] at hy
        subst hy
        exact ⟨by decide, "java/lang/IndexOutOfBoundsException", q532, by decide +kernel⟩, by decide, by decide, q565, by decide +kernel, fun q => ?_⟩
      refine v_astore E dX0_set_19 (zlt hL rfl) (lv' := [(5, .ref q), (0, .ref x), (1, vi v0), (2, vi v1), (3, vi v2), (4, .ref o)]) rfl ?_
      refine v_iconst E dX0_set_21 ?_
      refine v_iret E hE dX0_set_22 ?_
      exact ⟨by rw [e9], Or.inr ⟨by omega, hPX, ho9⟩⟩
  · obtain ⟨e0, rfl, hPO⟩ := hpost
    have ho1 := ho.kept (hkk o ho.lt hoA)
    refine v_i2l E (hr1 e0) dX0_set_10 ?_
    refine v_last E dX0_set_11 ho1 0 rfl (by decide) (by decide) hAo (fun H2 ho2 hs2 => ?_)
    refine v_goto E (tgt := 23) dX0_set_12 (by decide) ?_
    refine v_iconst E dX0_set_23 ?_
    refine v_iret E hE dX0_set_24 ?_
    exact ⟨by rw [e0], Or.inl ⟨e0, hk _ _ hPO hs2 ho1, _, ho2, by rw [va_upj]⟩⟩
set_option maxHeartbeats 400000 in
/-- coefficient, caught -/
theorem w_coefficient (κ : zK) (H0 : Heap) {x o : Nat} {fs : List Value} {v0 v1 r1 r2 : Int} {f : Nat → Int} {mc2 ms2 : Nat} {PO PX : Heap → Prop} (hx : hp κ H0 x (.inr (0, fs))) (ho : hp κ H0 o (eJ κ 1 f)) (hr1 : r2 = 0 → rI r1) (hoA : ¬ pA κ H0 o) (hM : MtX κ yX1_coefficient cX1_coefficient 3 (some .int) 7 101 mc2 ms2 H0 [.ref x, vi v0, vi v1] (pA κ H0) (fun v H1 => r2 = 0 ∧ v = some (vi r1) ∧ PO H1) (fun C H1 => (C = "java/lang/IndexOutOfBoundsException" ∧ r2 = 1) ∧ PX H1)) (hk : ∀ H1 H2, PO H1 → zSame H1 H2 o → hp κ H1 o (eJ κ 1 f) → PO H2) : MtW κ yX0_coefficient cX0_coefficient 5 (some .int) [((0 : Nat), (10 : Nat), (13 : Nat), (13 : Nat))] 8 123 mc2 ms2 H0 [.ref x, vi v0, vi v1, .ref o] (fun q => pA κ H0 q ∨ q = o) (fun v H1 => v = some (vi r2) ∧ ((r2 = 0 ∧ PO H1 ∧ ∃ g : Nat → Int, hp κ H1 o (eJ κ 1 g) ∧ g 0 = r1) ∨ (r2 ≠ 0 ∧ PX H1 ∧ hp κ H1 o (eJ κ 1 f)))) := by
  refine MtW.of (by decide) (Nat.le_of_ble_eq_true rfl) ?_
  intro z E X9 hE hH0 hA0 hL hini
  have E : zOK z cX0_coefficient RX0 κ 8 123 (some .int) := E
  have hAll : ∀ q, pA κ H0 q → zA z.A z.H0 q := fun q h => Or.inl (by rw [hA0]; exact Or.inl h)
  have hAo : zA z.A z.H0 o := Or.inl (by rw [hA0]; exact Or.inr rfl)
  refine V.eqL (lv' := [(0, .ref x), (1, vi v0), (2, vi v1), (3, .ref o)]) rfl ?_
  refine v_aload_n E 3 rfl dX0_coefficient_0 ?_
  refine v_iconst E dX0_coefficient_1 ?_
  refine v_aload_n E 0 rfl dX0_coefficient_2 ?_
  refine v_iload_n E 1 rfl dX0_coefficient_3 ?_
  refine v_iload_n E 2 rfl dX0_coefficient_4 ?_
  refine v_callVK E X9 (As := [vi v0, vi v1]) (b := x) (ci := 0) (C := RX1) (T := TX1) (N := 3) hx rfl hM (lw_V q674 q675 q676 q70 q677) 2 (by decide +kernel) rfl (by decide) (by decide) (cb' := 0) (sb' := 0) (by omega) (by omega) rfl (rest := [vi 0, .ref o]) (Nat.le_of_ble_eq_true rfl) hAll dX0_coefficient_5 (fun C9 H9 hx9 hz9 hk9 => ?_) (fun v9 H1 hpost hz hkk => ?_)
  · obtain ⟨hC, hPX⟩ := hx9
    have ho9 := ho.kept (hk9 o ho.lt hoA)
    obtain ⟨rfl, e9⟩ := hC
    refine ⟨[], [], (⟨0, 10, 13, 13⟩ : ExceptionTableEntry), "java/lang/IndexOutOfBoundsException", rfl, fun y hy => absurd hy List.not_mem_nil, by decide, by decide, q532, by decide +kernel, fun q => ?_⟩
    refine v_astore E dX0_coefficient_13 (zlt hL rfl) (lv' := [(4, .ref q), (0, .ref x), (1, vi v0), (2, vi v1), (3, .ref o)]) rfl ?_
    refine v_iconst E dX0_coefficient_15 ?_
    refine v_iret E hE dX0_coefficient_16 ?_
    exact ⟨by rw [e9], Or.inr ⟨by omega, hPX, ho9⟩⟩
  · obtain ⟨e0, rfl, hPO⟩ := hpost
    have ho1 := ho.kept (hkk o ho.lt hoA)
    refine v_i2l E (hr1 e0) dX0_coefficient_8 ?_
    refine v_last E dX0_coefficient_9 ho1 0 rfl (by decide) (by decide) hAo (fun H2 ho2 hs2 => ?_)
    refine v_goto E (tgt := 17) dX0_coefficient_10 (by decide) ?_
    refine v_iconst E dX0_coefficient_17 ?_
    refine v_iret E hE dX0_coefficient_18 ?_
    exact ⟨by rw [e0], Or.inl ⟨e0, hk _ _ hPO hs2 ho1, _, ho2, by rw [va_upj]⟩⟩
set_option maxHeartbeats 400000 in
/-- degree, caught -/
theorem w_degree (κ : zK) (H0 : Heap) {x o : Nat} {fs : List Value} {v0 r1 r2 : Int} {f : Nat → Int} {mc2 ms2 : Nat} {PO PX : Heap → Prop} (hx : hp κ H0 x (.inr (0, fs))) (ho : hp κ H0 o (eJ κ 1 f)) (hr1 : r2 = 0 → rI r1) (hoA : ¬ pA κ H0 o) (hM : MtX κ yX1_degree cX1_degree 2 (some .int) 7 101 mc2 ms2 H0 [.ref x, vi v0] (pA κ H0) (fun v H1 => r2 = 0 ∧ v = some (vi r1) ∧ PO H1) (fun C H1 => (C = "java/lang/IndexOutOfBoundsException" ∧ r2 = 1) ∧ PX H1)) (hk : ∀ H1 H2, PO H1 → zSame H1 H2 o → hp κ H1 o (eJ κ 1 f) → PO H2) : MtW κ yX0_degree cX0_degree 4 (some .int) [((0 : Nat), (9 : Nat), (12 : Nat), (13 : Nat))] 8 122 mc2 ms2 H0 [.ref x, vi v0, .ref o] (fun q => pA κ H0 q ∨ q = o) (fun v H1 => v = some (vi r2) ∧ ((r2 = 0 ∧ PO H1 ∧ ∃ g : Nat → Int, hp κ H1 o (eJ κ 1 g) ∧ g 0 = r1) ∨ (r2 ≠ 0 ∧ PX H1 ∧ hp κ H1 o (eJ κ 1 f)))) := by
  refine MtW.of (by decide) (Nat.le_of_ble_eq_true rfl) ?_
  intro z E X9 hE hH0 hA0 hL hini
  have E : zOK z cX0_degree RX0 κ 8 122 (some .int) := E
  have hAll : ∀ q, pA κ H0 q → zA z.A z.H0 q := fun q h => Or.inl (by rw [hA0]; exact Or.inl h)
  have hAo : zA z.A z.H0 o := Or.inl (by rw [hA0]; exact Or.inr rfl)
  refine V.eqL (lv' := [(0, .ref x), (1, vi v0), (2, .ref o)]) rfl ?_
  refine v_aload_n E 2 rfl dX0_degree_0 ?_
  refine v_iconst E dX0_degree_1 ?_
  refine v_aload_n E 0 rfl dX0_degree_2 ?_
  refine v_iload_n E 1 rfl dX0_degree_3 ?_
  refine v_callVK E X9 (As := [vi v0]) (b := x) (ci := 0) (C := RX1) (T := TX1) (N := 3) hx rfl hM (lw_V q685 q686 q687 q70 q688) 1 (by decide +kernel) rfl (by decide) (by decide) (cb' := 0) (sb' := 0) (by omega) (by omega) rfl (rest := [vi 0, .ref o]) (Nat.le_of_ble_eq_true rfl) hAll dX0_degree_4 (fun C9 H9 hx9 hz9 hk9 => ?_) (fun v9 H1 hpost hz hkk => ?_)
  · obtain ⟨hC, hPX⟩ := hx9
    have ho9 := ho.kept (hk9 o ho.lt hoA)
    obtain ⟨rfl, e9⟩ := hC
    refine ⟨[], [], (⟨0, 9, 12, 13⟩ : ExceptionTableEntry), "java/lang/IndexOutOfBoundsException", rfl, fun y hy => absurd hy List.not_mem_nil, by decide, by decide, q532, by decide +kernel, fun q => ?_⟩
    refine v_astore_n E dX0_degree_12 (zlt hL rfl) (lv' := [(3, .ref q), (0, .ref x), (1, vi v0), (2, .ref o)]) rfl ?_
    refine v_iconst E dX0_degree_13 ?_
    refine v_iret E hE dX0_degree_14 ?_
    exact ⟨by rw [e9], Or.inr ⟨by omega, hPX, ho9⟩⟩
  · obtain ⟨e0, rfl, hPO⟩ := hpost
    have ho1 := ho.kept (hkk o ho.lt hoA)
    refine v_i2l E (hr1 e0) dX0_degree_7 ?_
    refine v_last E dX0_degree_8 ho1 0 rfl (by decide) (by decide) hAo (fun H2 ho2 hs2 => ?_)
    refine v_goto E (tgt := 15) dX0_degree_9 (by decide) ?_
    refine v_iconst E dX0_degree_15 ?_
    refine v_iret E hE dX0_degree_16 ?_
    exact ⟨by rw [e0], Or.inl ⟨e0, hk _ _ hPO hs2 ho1, _, ho2, by rw [va_upj]⟩⟩
set_option maxHeartbeats 400000 in
/-- copy, caught -/
theorem w_copy (κ : zK) (H0 : Heap) {x o : Nat} {fs : List Value} {v0 v1 r1 r2 : Int} {f : Nat → Int} {mc2 ms2 : Nat} {PO PX : Heap → Prop} (hx : hp κ H0 x (.inr (0, fs))) (ho : hp κ H0 o (eJ κ 1 f)) (hr1 : r2 = 0 → rI r1) (hoA : ¬ pA κ H0 o) (hM : MtX κ yX1_copy cX1_copy 3 (some .int) 7 101 mc2 ms2 H0 [.ref x, vi v0, vi v1] (pA κ H0) (fun v H1 => r2 = 0 ∧ v = some (vi r1) ∧ PO H1) (fun C H1 => (C = "java/lang/IndexOutOfBoundsException" ∧ r2 = 1) ∧ PX H1)) (hk : ∀ H1 H2, PO H1 → zSame H1 H2 o → hp κ H1 o (eJ κ 1 f) → PO H2) : MtW κ yX0_copy cX0_copy 5 (some .int) [((0 : Nat), (10 : Nat), (13 : Nat), (13 : Nat))] 8 123 mc2 ms2 H0 [.ref x, vi v0, vi v1, .ref o] (fun q => pA κ H0 q ∨ q = o) (fun v H1 => v = some (vi r2) ∧ ((r2 = 0 ∧ PO H1 ∧ ∃ g : Nat → Int, hp κ H1 o (eJ κ 1 g) ∧ g 0 = r1) ∨ (r2 ≠ 0 ∧ PX H1 ∧ hp κ H1 o (eJ κ 1 f)))) := by
  refine MtW.of (by decide) (Nat.le_of_ble_eq_true rfl) ?_
  intro z E X9 hE hH0 hA0 hL hini
  have E : zOK z cX0_copy RX0 κ 8 123 (some .int) := E
  have hAll : ∀ q, pA κ H0 q → zA z.A z.H0 q := fun q h => Or.inl (by rw [hA0]; exact Or.inl h)
  have hAo : zA z.A z.H0 o := Or.inl (by rw [hA0]; exact Or.inr rfl)
  refine V.eqL (lv' := [(0, .ref x), (1, vi v0), (2, vi v1), (3, .ref o)]) rfl ?_
  refine v_aload_n E 3 rfl dX0_copy_0 ?_
  refine v_iconst E dX0_copy_1 ?_
  refine v_aload_n E 0 rfl dX0_copy_2 ?_
  refine v_iload_n E 1 rfl dX0_copy_3 ?_
  refine v_iload_n E 2 rfl dX0_copy_4 ?_
  refine v_callVK E X9 (As := [vi v0, vi v1]) (b := x) (ci := 0) (C := RX1) (T := TX1) (N := 3) hx rfl hM (lw_V q692 q693 q694 q70 q695) 2 (by decide +kernel) rfl (by decide) (by decide) (cb' := 0) (sb' := 0) (by omega) (by omega) rfl (rest := [vi 0, .ref o]) (Nat.le_of_ble_eq_true rfl) hAll dX0_copy_5 (fun C9 H9 hx9 hz9 hk9 => ?_) (fun v9 H1 hpost hz hkk => ?_)
  · obtain ⟨hC, hPX⟩ := hx9
    have ho9 := ho.kept (hk9 o ho.lt hoA)
    obtain ⟨rfl, e9⟩ := hC
    refine ⟨[], [], (⟨0, 10, 13, 13⟩ : ExceptionTableEntry), "java/lang/IndexOutOfBoundsException", rfl, fun y hy => absurd hy List.not_mem_nil, by decide, by decide, q532, by decide +kernel, fun q => ?_⟩
    refine v_astore E dX0_copy_13 (zlt hL rfl) (lv' := [(4, .ref q), (0, .ref x), (1, vi v0), (2, vi v1), (3, .ref o)]) rfl ?_
    refine v_iconst E dX0_copy_15 ?_
    refine v_iret E hE dX0_copy_16 ?_
    exact ⟨by rw [e9], Or.inr ⟨by omega, hPX, ho9⟩⟩
  · obtain ⟨e0, rfl, hPO⟩ := hpost
    have ho1 := ho.kept (hkk o ho.lt hoA)
    refine v_i2l E (hr1 e0) dX0_copy_8 ?_
    refine v_last E dX0_copy_9 ho1 0 rfl (by decide) (by decide) hAo (fun H2 ho2 hs2 => ?_)
    refine v_goto E (tgt := 17) dX0_copy_10 (by decide) ?_
    refine v_iconst E dX0_copy_17 ?_
    refine v_iret E hE dX0_copy_18 ?_
    exact ⟨by rw [e0], Or.inl ⟨e0, hk _ _ hPO hs2 ho1, _, ho2, by rw [va_upj]⟩⟩
set_option maxHeartbeats 400000 in
/-- add, caught -/
theorem w_add (κ : zK) (H0 : Heap) {x o : Nat} {fs : List Value} {v0 v1 v2 r1 r2 : Int} {f : Nat → Int} {mc2 ms2 : Nat} {PO PX : Heap → Prop} (hx : hp κ H0 x (.inr (0, fs))) (ho : hp κ H0 o (eJ κ 1 f)) (hr1 : r2 = 0 → rI r1) (hoA : ¬ pA κ H0 o) (hM : MtX κ yX1_add cX1_add 6 (some .int) 7 158 mc2 ms2 H0 [.ref x, vi v0, vi v1, vi v2] (pA κ H0) (fun v H1 => r2 = 0 ∧ v = some (vi r1) ∧ PO H1) (fun C H1 => (C = "java/lang/IndexOutOfBoundsException" ∧ r2 = 1 ∨ C = "java/lang/IllegalStateException" ∧ r2 = 2) ∧ PX H1)) (hk : ∀ H1 H2, PO H1 → zSame H1 H2 o → hp κ H1 o (eJ κ 1 f) → PO H2) : MtW κ yX0_add cX0_add 6 (some .int) [((0 : Nat), (12 : Nat), (15 : Nat), (13 : Nat)), ((0 : Nat), (12 : Nat), (19 : Nat), (31 : Nat))] 8 183 mc2 ms2 H0 [.ref x, vi v0, vi v1, vi v2, .ref o] (fun q => pA κ H0 q ∨ q = o) (fun v H1 => v = some (vi r2) ∧ ((r2 = 0 ∧ PO H1 ∧ ∃ g : Nat → Int, hp κ H1 o (eJ κ 1 g) ∧ g 0 = r1) ∨ (r2 ≠ 0 ∧ PX H1 ∧ hp κ H1 o (eJ κ 1 f)))) := by
  refine MtW.of (by decide) (Nat.le_of_ble_eq_true rfl) ?_
  intro z E X9 hE hH0 hA0 hL hini
  have E : zOK z cX0_add RX0 κ 8 183 (some .int) := E
  have hAll : ∀ q, pA κ H0 q → zA z.A z.H0 q := fun q h => Or.inl (by rw [hA0]; exact Or.inl h)
  have hAo : zA z.A z.H0 o := Or.inl (by rw [hA0]; exact Or.inr rfl)
  refine V.eqL (lv' := [(0, .ref x), (1, vi v0), (2, vi v1), (3, vi v2), (4, .ref o)]) rfl ?_
  refine v_aload E 4 rfl dX0_add_0 ?_
  refine v_iconst E dX0_add_2 ?_
  refine v_aload_n E 0 rfl dX0_add_3 ?_
  refine v_iload_n E 1 rfl dX0_add_4 ?_
  refine v_iload_n E 2 rfl dX0_add_5 ?_
  refine v_iload_n E 3 rfl dX0_add_6 ?_
  refine v_callVK E X9 (As := [vi v0, vi v1, vi v2]) (b := x) (ci := 0) (C := RX1) (T := TX1) (N := 3) hx rfl hM (lw_V q700 q701 q702 q70 q703) 3 (by decide +kernel) rfl (by decide) (by decide) (cb' := 0) (sb' := 0) (by omega) (by omega) rfl (rest := [vi 0, .ref o]) (Nat.le_of_ble_eq_true rfl) hAll dX0_add_7 (fun C9 H9 hx9 hz9 hk9 => ?_) (fun v9 H1 hpost hz hkk => ?_)
  · obtain ⟨hC, hPX⟩ := hx9
    have ho9 := ho.kept (hk9 o ho.lt hoA)
    rcases hC with ⟨rfl, e9⟩ | ⟨rfl, e9⟩
    · skip
      refine ⟨[], [(⟨0, 12, 19, 31⟩ : ExceptionTableEntry)], (⟨0, 12, 15, 13⟩ : ExceptionTableEntry), "java/lang/IndexOutOfBoundsException", rfl, fun y hy => absurd hy List.not_mem_nil, by decide, by decide, q532, by decide +kernel, fun q => ?_⟩
      refine v_astore E dX0_add_15 (zlt hL rfl) (lv' := [(5, .ref q), (0, .ref x), (1, vi v0), (2, vi v1), (3, vi v2), (4, .ref o)]) rfl ?_
      refine v_iconst E dX0_add_17 ?_
      refine v_iret E hE dX0_add_18 ?_
      exact ⟨by rw [e9], Or.inr ⟨by omega, hPX, ho9⟩⟩
    · skip
      refine ⟨[(⟨0, 12, 15, 13⟩ : ExceptionTableEntry)], [], (⟨0, 12, 19, 31⟩ : ExceptionTableEntry), "java/lang/IllegalStateException", rfl, fun y hy => by
        simp only [List.mem_cons, List.not_mem_nil, or_false] at hy
        subst hy
        exact ⟨by decide, "java/lang/IndexOutOfBoundsException", q532, by decide +kernel⟩, by decide, by decide, q699, by decide +kernel, fun q => ?_⟩
      refine v_astore E dX0_add_19 (zlt hL rfl) (lv' := [(5, .ref q), (0, .ref x), (1, vi v0), (2, vi v1), (3, vi v2), (4, .ref o)]) rfl ?_
      refine v_iconst E dX0_add_21 ?_
      refine v_iret E hE dX0_add_22 ?_
      exact ⟨by rw [e9], Or.inr ⟨by omega, hPX, ho9⟩⟩
  · obtain ⟨e0, rfl, hPO⟩ := hpost
    have ho1 := ho.kept (hkk o ho.lt hoA)
    refine v_i2l E (hr1 e0) dX0_add_10 ?_
    refine v_last E dX0_add_11 ho1 0 rfl (by decide) (by decide) hAo (fun H2 ho2 hs2 => ?_)
    refine v_goto E (tgt := 23) dX0_add_12 (by decide) ?_
    refine v_iconst E dX0_add_23 ?_
    refine v_iret E hE dX0_add_24 ?_
    exact ⟨by rw [e0], Or.inl ⟨e0, hk _ _ hPO hs2 ho1, _, ho2, by rw [va_upj]⟩⟩
set_option maxHeartbeats 400000 in
/-- multiply, caught -/
theorem w_multiply (κ : zK) (H0 : Heap) {x o : Nat} {fs : List Value} {v0 v1 v2 r1 r2 : Int} {f : Nat → Int} {mc2 ms2 : Nat} {PO PX : Heap → Prop} (hx : hp κ H0 x (.inr (0, fs))) (ho : hp κ H0 o (eJ κ 1 f)) (hr1 : r2 = 0 → rI r1) (hoA : ¬ pA κ H0 o) (hM : MtX κ yX1_multiply cX1_multiply 10 (some .int) 7 158 mc2 ms2 H0 [.ref x, vi v0, vi v1, vi v2] (pA κ H0) (fun v H1 => r2 = 0 ∧ v = some (vi r1) ∧ PO H1) (fun C H1 => (C = "java/lang/IndexOutOfBoundsException" ∧ r2 = 1 ∨ C = "java/lang/IllegalStateException" ∧ r2 = 2) ∧ PX H1)) (hk : ∀ H1 H2, PO H1 → zSame H1 H2 o → hp κ H1 o (eJ κ 1 f) → PO H2) : MtW κ yX0_multiply cX0_multiply 6 (some .int) [((0 : Nat), (12 : Nat), (15 : Nat), (13 : Nat)), ((0 : Nat), (12 : Nat), (19 : Nat), (31 : Nat))] 8 187 mc2 ms2 H0 [.ref x, vi v0, vi v1, vi v2, .ref o] (fun q => pA κ H0 q ∨ q = o) (fun v H1 => v = some (vi r2) ∧ ((r2 = 0 ∧ PO H1 ∧ ∃ g : Nat → Int, hp κ H1 o (eJ κ 1 g) ∧ g 0 = r1) ∨ (r2 ≠ 0 ∧ PX H1 ∧ hp κ H1 o (eJ κ 1 f)))) := by
  refine MtW.of (by decide) (Nat.le_of_ble_eq_true rfl) ?_
  intro z E X9 hE hH0 hA0 hL hini
  have E : zOK z cX0_multiply RX0 κ 8 187 (some .int) := E
  have hAll : ∀ q, pA κ H0 q → zA z.A z.H0 q := fun q h => Or.inl (by rw [hA0]; exact Or.inl h)
  have hAo : zA z.A z.H0 o := Or.inl (by rw [hA0]; exact Or.inr rfl)
  refine V.eqL (lv' := [(0, .ref x), (1, vi v0), (2, vi v1), (3, vi v2), (4, .ref o)]) rfl ?_
  refine v_aload E 4 rfl dX0_multiply_0 ?_
  refine v_iconst E dX0_multiply_2 ?_
  refine v_aload_n E 0 rfl dX0_multiply_3 ?_
  refine v_iload_n E 1 rfl dX0_multiply_4 ?_
  refine v_iload_n E 2 rfl dX0_multiply_5 ?_
  refine v_iload_n E 3 rfl dX0_multiply_6 ?_
  refine v_callVK E X9 (As := [vi v0, vi v1, vi v2]) (b := x) (ci := 0) (C := RX1) (T := TX1) (N := 3) hx rfl hM (lw_V q954 q955 q956 q70 q957) 3 (by decide +kernel) rfl (by decide) (by decide) (cb' := 0) (sb' := 0) (by omega) (by omega) rfl (rest := [vi 0, .ref o]) (Nat.le_of_ble_eq_true rfl) hAll dX0_multiply_7 (fun C9 H9 hx9 hz9 hk9 => ?_) (fun v9 H1 hpost hz hkk => ?_)
  · obtain ⟨hC, hPX⟩ := hx9
    have ho9 := ho.kept (hk9 o ho.lt hoA)
    rcases hC with ⟨rfl, e9⟩ | ⟨rfl, e9⟩
    · skip
      refine ⟨[], [(⟨0, 12, 19, 31⟩ : ExceptionTableEntry)], (⟨0, 12, 15, 13⟩ : ExceptionTableEntry), "java/lang/IndexOutOfBoundsException", rfl, fun y hy => absurd hy List.not_mem_nil, by decide, by decide, q532, by decide +kernel, fun q => ?_⟩
      refine v_astore E dX0_multiply_15 (zlt hL rfl) (lv' := [(5, .ref q), (0, .ref x), (1, vi v0), (2, vi v1), (3, vi v2), (4, .ref o)]) rfl ?_
      refine v_iconst E dX0_multiply_17 ?_
      refine v_iret E hE dX0_multiply_18 ?_
      exact ⟨by rw [e9], Or.inr ⟨by omega, hPX, ho9⟩⟩
    · skip
      refine ⟨[(⟨0, 12, 15, 13⟩ : ExceptionTableEntry)], [], (⟨0, 12, 19, 31⟩ : ExceptionTableEntry), "java/lang/IllegalStateException", rfl, fun y hy => by
        simp only [List.mem_cons, List.not_mem_nil, or_false] at hy
        subst hy
        exact ⟨by decide, "java/lang/IndexOutOfBoundsException", q532, by decide +kernel⟩, by decide, by decide, q699, by decide +kernel, fun q => ?_⟩
      refine v_astore E dX0_multiply_19 (zlt hL rfl) (lv' := [(5, .ref q), (0, .ref x), (1, vi v0), (2, vi v1), (3, vi v2), (4, .ref o)]) rfl ?_
      refine v_iconst E dX0_multiply_21 ?_
      refine v_iret E hE dX0_multiply_22 ?_
      exact ⟨by rw [e9], Or.inr ⟨by omega, hPX, ho9⟩⟩
  · obtain ⟨e0, rfl, hPO⟩ := hpost
    have ho1 := ho.kept (hkk o ho.lt hoA)
    refine v_i2l E (hr1 e0) dX0_multiply_10 ?_
    refine v_last E dX0_multiply_11 ho1 0 rfl (by decide) (by decide) hAo (fun H2 ho2 hs2 => ?_)
    refine v_goto E (tgt := 23) dX0_multiply_12 (by decide) ?_
    refine v_iconst E dX0_multiply_23 ?_
    refine v_iret E hE dX0_multiply_24 ?_
    exact ⟨by rw [e0], Or.inl ⟨e0, hk _ _ hPO hs2 ho1, _, ho2, by rw [va_upj]⟩⟩
set_option maxHeartbeats 400000 in
/-- derivative, caught -/
theorem w_derivative (κ : zK) (H0 : Heap) {x o : Nat} {fs : List Value} {v0 v1 r1 r2 : Int} {f : Nat → Int} {mc2 ms2 : Nat} {PO PX : Heap → Prop} (hx : hp κ H0 x (.inr (0, fs))) (ho : hp κ H0 o (eJ κ 1 f)) (hr1 : r2 = 0 → rI r1) (hoA : ¬ pA κ H0 o) (hM : MtX κ yX1_derivative cX1_derivative 3 (some .int) 8 180 mc2 ms2 H0 [.ref x, vi v0, vi v1] (pA κ H0) (fun v H1 => r2 = 0 ∧ v = some (vi r1) ∧ PO H1) (fun C H1 => (C = "java/lang/IndexOutOfBoundsException" ∧ r2 = 1 ∨ C = "java/lang/IllegalStateException" ∧ r2 = 2) ∧ PX H1)) (hk : ∀ H1 H2, PO H1 → zSame H1 H2 o → hp κ H1 o (eJ κ 1 f) → PO H2) : MtW κ yX0_derivative cX0_derivative 5 (some .int) [((0 : Nat), (10 : Nat), (13 : Nat), (13 : Nat)), ((0 : Nat), (10 : Nat), (17 : Nat), (31 : Nat))] 9 202 mc2 ms2 H0 [.ref x, vi v0, vi v1, .ref o] (fun q => pA κ H0 q ∨ q = o) (fun v H1 => v = some (vi r2) ∧ ((r2 = 0 ∧ PO H1 ∧ ∃ g : Nat → Int, hp κ H1 o (eJ κ 1 g) ∧ g 0 = r1) ∨ (r2 ≠ 0 ∧ PX H1 ∧ hp κ H1 o (eJ κ 1 f)))) := by
  refine MtW.of (by decide) (Nat.le_of_ble_eq_true rfl) ?_
  intro z E X9 hE hH0 hA0 hL hini
  have E : zOK z cX0_derivative RX0 κ 9 202 (some .int) := E
  have hAll : ∀ q, pA κ H0 q → zA z.A z.H0 q := fun q h => Or.inl (by rw [hA0]; exact Or.inl h)
  have hAo : zA z.A z.H0 o := Or.inl (by rw [hA0]; exact Or.inr rfl)
  refine V.eqL (lv' := [(0, .ref x), (1, vi v0), (2, vi v1), (3, .ref o)]) rfl ?_
  refine v_aload_n E 3 rfl dX0_derivative_0 ?_
  refine v_iconst E dX0_derivative_1 ?_
  refine v_aload_n E 0 rfl dX0_derivative_2 ?_
  refine v_iload_n E 1 rfl dX0_derivative_3 ?_
  refine v_iload_n E 2 rfl dX0_derivative_4 ?_
  refine v_callVK E X9 (As := [vi v0, vi v1]) (b := x) (ci := 0) (C := RX1) (T := TX1) (N := 3) hx rfl hM (lw_V q1102 q1103 q1104 q70 q1105) 2 (by decide +kernel) rfl (by decide) (by decide) (cb' := 0) (sb' := 0) (by omega) (by omega) rfl (rest := [vi 0, .ref o]) (Nat.le_of_ble_eq_true rfl) hAll dX0_derivative_5 (fun C9 H9 hx9 hz9 hk9 => ?_) (fun v9 H1 hpost hz hkk => ?_)
  · obtain ⟨hC, hPX⟩ := hx9
    have ho9 := ho.kept (hk9 o ho.lt hoA)
    rcases hC with ⟨rfl, e9⟩ | ⟨rfl, e9⟩
    · skip
      refine ⟨[], [(⟨0, 10, 17, 31⟩ : ExceptionTableEntry)], (⟨0, 10, 13, 13⟩ : ExceptionTableEntry), "java/lang/IndexOutOfBoundsException", rfl, fun y hy => absurd hy List.not_mem_nil, by decide, by decide, q532, by decide +kernel, fun q => ?_⟩
      refine v_astore E dX0_derivative_13 (zlt hL rfl) (lv' := [(4, .ref q), (0, .ref x), (1, vi v0), (2, vi v1), (3, .ref o)]) rfl ?_
      refine v_iconst E dX0_derivative_15 ?_
      refine v_iret E hE dX0_derivative_16 ?_
      exact ⟨by rw [e9], Or.inr ⟨by omega, hPX, ho9⟩⟩
    · skip
      refine ⟨[(⟨0, 10, 13, 13⟩ : ExceptionTableEntry)], [], (⟨0, 10, 17, 31⟩ : ExceptionTableEntry), "java/lang/IllegalStateException", rfl, fun y hy => by
        simp only [List.mem_cons, List.not_mem_nil, or_false] at hy
        subst hy
        exact ⟨by decide, "java/lang/IndexOutOfBoundsException", q532, by decide +kernel⟩, by decide, by decide, q699, by decide +kernel, fun q => ?_⟩
      refine v_astore E dX0_derivative_17 (zlt hL rfl) (lv' := [(4, .ref q), (0, .ref x), (1, vi v0), (2, vi v1), (3, .ref o)]) rfl ?_
      refine v_iconst E dX0_derivative_19 ?_
      refine v_iret E hE dX0_derivative_20 ?_
      exact ⟨by rw [e9], Or.inr ⟨by omega, hPX, ho9⟩⟩
  · obtain ⟨e0, rfl, hPO⟩ := hpost
    have ho1 := ho.kept (hkk o ho.lt hoA)
    refine v_i2l E (hr1 e0) dX0_derivative_8 ?_
    refine v_last E dX0_derivative_9 ho1 0 rfl (by decide) (by decide) hAo (fun H2 ho2 hs2 => ?_)
    refine v_goto E (tgt := 21) dX0_derivative_10 (by decide) ?_
    refine v_iconst E dX0_derivative_21 ?_
    refine v_iret E hE dX0_derivative_22 ?_
    exact ⟨by rw [e0], Or.inl ⟨e0, hk _ _ hPO hs2 ho1, _, ho2, by rw [va_upj]⟩⟩
set_option maxHeartbeats 400000 in
/-- shift, caught -/
theorem w_shift (κ : zK) (H0 : Heap) {x o : Nat} {fs : List Value} {v0 v1 v2 r1 r2 : Int} {f : Nat → Int} {mc2 ms2 : Nat} {PO PX : Heap → Prop} (hx : hp κ H0 x (.inr (0, fs))) (ho : hp κ H0 o (eJ κ 1 f)) (hr1 : r2 = 0 → rI r1) (hoA : ¬ pA κ H0 o) (hM : MtX κ yX1_shift cX1_shift 8 (some .int) 8 182 mc2 ms2 H0 [.ref x, vi v0, vi v1, vi v2] (pA κ H0) (fun v H1 => r2 = 0 ∧ v = some (vi r1) ∧ PO H1) (fun C H1 => (C = "java/lang/IndexOutOfBoundsException" ∧ r2 = 1 ∨ C = "java/lang/IllegalArgumentException" ∧ r2 = 2 ∨ C = "java/lang/IllegalStateException" ∧ r2 = 3) ∧ PX H1)) (hk : ∀ H1 H2, PO H1 → zSame H1 H2 o → hp κ H1 o (eJ κ 1 f) → PO H2) : MtW κ yX0_shift cX0_shift 6 (some .int) [((0 : Nat), (12 : Nat), (15 : Nat), (13 : Nat)), ((0 : Nat), (12 : Nat), (19 : Nat), (15 : Nat)), ((0 : Nat), (12 : Nat), (23 : Nat), (31 : Nat))] 9 209 mc2 ms2 H0 [.ref x, vi v0, vi v1, vi v2, .ref o] (fun q => pA κ H0 q ∨ q = o) (fun v H1 => v = some (vi r2) ∧ ((r2 = 0 ∧ PO H1 ∧ ∃ g : Nat → Int, hp κ H1 o (eJ κ 1 g) ∧ g 0 = r1) ∨ (r2 ≠ 0 ∧ PX H1 ∧ hp κ H1 o (eJ κ 1 f)))) := by
  refine MtW.of (by decide) (Nat.le_of_ble_eq_true rfl) ?_
  intro z E X9 hE hH0 hA0 hL hini
  have E : zOK z cX0_shift RX0 κ 9 209 (some .int) := E
  have hAll : ∀ q, pA κ H0 q → zA z.A z.H0 q := fun q h => Or.inl (by rw [hA0]; exact Or.inl h)
  have hAo : zA z.A z.H0 o := Or.inl (by rw [hA0]; exact Or.inr rfl)
  refine V.eqL (lv' := [(0, .ref x), (1, vi v0), (2, vi v1), (3, vi v2), (4, .ref o)]) rfl ?_
  refine v_aload E 4 rfl dX0_shift_0 ?_
  refine v_iconst E dX0_shift_2 ?_
  refine v_aload_n E 0 rfl dX0_shift_3 ?_
  refine v_iload_n E 1 rfl dX0_shift_4 ?_
  refine v_iload_n E 2 rfl dX0_shift_5 ?_
  refine v_iload_n E 3 rfl dX0_shift_6 ?_
  refine v_callVK E X9 (As := [vi v0, vi v1, vi v2]) (b := x) (ci := 0) (C := RX1) (T := TX1) (N := 3) hx rfl hM (lw_V q1112 q1113 q1114 q70 q1115) 3 (by decide +kernel) rfl (by decide) (by decide) (cb' := 0) (sb' := 0) (by omega) (by omega) rfl (rest := [vi 0, .ref o]) (Nat.le_of_ble_eq_true rfl) hAll dX0_shift_7 (fun C9 H9 hx9 hz9 hk9 => ?_) (fun v9 H1 hpost hz hkk => ?_)
  · obtain ⟨hC, hPX⟩ := hx9
    have ho9 := ho.kept (hk9 o ho.lt hoA)
    rcases hC with ⟨rfl, e9⟩ | ⟨rfl, e9⟩ | ⟨rfl, e9⟩
    · skip
      refine ⟨[], [(⟨0, 12, 19, 15⟩ : ExceptionTableEntry), (⟨0, 12, 23, 31⟩ : ExceptionTableEntry)], (⟨0, 12, 15, 13⟩ : ExceptionTableEntry), "java/lang/IndexOutOfBoundsException", rfl, fun y hy => absurd hy List.not_mem_nil, by decide, by decide, q532, by decide +kernel, fun q => ?_⟩
      refine v_astore E dX0_shift_15 (zlt hL rfl) (lv' := [(5, .ref q), (0, .ref x), (1, vi v0), (2, vi v1), (3, vi v2), (4, .ref o)]) rfl ?_
      refine v_iconst E dX0_shift_17 ?_
      refine v_iret E hE dX0_shift_18 ?_
      exact ⟨by rw [e9], Or.inr ⟨by omega, hPX, ho9⟩⟩
    · skip
      refine ⟨[(⟨0, 12, 15, 13⟩ : ExceptionTableEntry)], [(⟨0, 12, 23, 31⟩ : ExceptionTableEntry)], (⟨0, 12, 19, 15⟩ : ExceptionTableEntry), "java/lang/IllegalArgumentException", rfl, fun y hy => by
        simp only [List.mem_cons, List.not_mem_nil, or_false] at hy
        subst hy
        exact ⟨by decide, "java/lang/IndexOutOfBoundsException", q532, by decide +kernel⟩, by decide, by decide, q565, by decide +kernel, fun q => ?_⟩
      refine v_astore E dX0_shift_19 (zlt hL rfl) (lv' := [(5, .ref q), (0, .ref x), (1, vi v0), (2, vi v1), (3, vi v2), (4, .ref o)]) rfl ?_
      refine v_iconst E dX0_shift_21 ?_
      refine v_iret E hE dX0_shift_22 ?_
      exact ⟨by rw [e9], Or.inr ⟨by omega, hPX, ho9⟩⟩
    · skip
      refine ⟨[(⟨0, 12, 15, 13⟩ : ExceptionTableEntry), (⟨0, 12, 19, 15⟩ : ExceptionTableEntry)], [], (⟨0, 12, 23, 31⟩ : ExceptionTableEntry), "java/lang/IllegalStateException", rfl, fun y hy => by
        simp only [List.mem_cons, List.not_mem_nil, or_false] at hy
        rcases hy with rfl | rfl
        · exact ⟨by decide, "java/lang/IndexOutOfBoundsException", q532, by decide +kernel⟩
        · exact ⟨by decide, "java/lang/IllegalArgumentException", q565, by decide +kernel⟩, by decide, by decide, q699, by decide +kernel, fun q => ?_⟩
      refine v_astore E dX0_shift_23 (zlt hL rfl) (lv' := [(5, .ref q), (0, .ref x), (1, vi v0), (2, vi v1), (3, vi v2), (4, .ref o)]) rfl ?_
      refine v_iconst E dX0_shift_25 ?_
      refine v_iret E hE dX0_shift_26 ?_
      exact ⟨by rw [e9], Or.inr ⟨by omega, hPX, ho9⟩⟩
  · obtain ⟨e0, rfl, hPO⟩ := hpost
    have ho1 := ho.kept (hkk o ho.lt hoA)
    refine v_i2l E (hr1 e0) dX0_shift_10 ?_
    refine v_last E dX0_shift_11 ho1 0 rfl (by decide) (by decide) hAo (fun H2 ho2 hs2 => ?_)
    refine v_goto E (tgt := 27) dX0_shift_12 (by decide) ?_
    refine v_iconst E dX0_shift_27 ?_
    refine v_iret E hE dX0_shift_28 ?_
    exact ⟨by rw [e0], Or.inl ⟨e0, hk _ _ hPO hs2 ho1, _, ho2, by rw [va_upj]⟩⟩
set_option maxHeartbeats 400000 in
/-- reflect, caught -/
theorem w_reflect (κ : zK) (H0 : Heap) {x o : Nat} {fs : List Value} {v0 v1 r1 r2 : Int} {f : Nat → Int} {mc2 ms2 : Nat} {PO PX : Heap → Prop} (hx : hp κ H0 x (.inr (0, fs))) (ho : hp κ H0 o (eJ κ 1 f)) (hr1 : r2 = 0 → rI r1) (hoA : ¬ pA κ H0 o) (hM : MtX κ yX1_reflect cX1_reflect 6 (some .int) 7 158 mc2 ms2 H0 [.ref x, vi v0, vi v1] (pA κ H0) (fun v H1 => r2 = 0 ∧ v = some (vi r1) ∧ PO H1) (fun C H1 => (C = "java/lang/IndexOutOfBoundsException" ∧ r2 = 1) ∧ PX H1)) (hk : ∀ H1 H2, PO H1 → zSame H1 H2 o → hp κ H1 o (eJ κ 1 f) → PO H2) : MtW κ yX0_reflect cX0_reflect 5 (some .int) [((0 : Nat), (10 : Nat), (13 : Nat), (13 : Nat))] 8 183 mc2 ms2 H0 [.ref x, vi v0, vi v1, .ref o] (fun q => pA κ H0 q ∨ q = o) (fun v H1 => v = some (vi r2) ∧ ((r2 = 0 ∧ PO H1 ∧ ∃ g : Nat → Int, hp κ H1 o (eJ κ 1 g) ∧ g 0 = r1) ∨ (r2 ≠ 0 ∧ PX H1 ∧ hp κ H1 o (eJ κ 1 f)))) := by
  refine MtW.of (by decide) (Nat.le_of_ble_eq_true rfl) ?_
  intro z E X9 hE hH0 hA0 hL hini
  have E : zOK z cX0_reflect RX0 κ 8 183 (some .int) := E
  have hAll : ∀ q, pA κ H0 q → zA z.A z.H0 q := fun q h => Or.inl (by rw [hA0]; exact Or.inl h)
  have hAo : zA z.A z.H0 o := Or.inl (by rw [hA0]; exact Or.inr rfl)
  refine V.eqL (lv' := [(0, .ref x), (1, vi v0), (2, vi v1), (3, .ref o)]) rfl ?_
  refine v_aload_n E 3 rfl dX0_reflect_0 ?_
  refine v_iconst E dX0_reflect_1 ?_
  refine v_aload_n E 0 rfl dX0_reflect_2 ?_
  refine v_iload_n E 1 rfl dX0_reflect_3 ?_
  refine v_iload_n E 2 rfl dX0_reflect_4 ?_
  refine v_callVK E X9 (As := [vi v0, vi v1]) (b := x) (ci := 0) (C := RX1) (T := TX1) (N := 3) hx rfl hM (lw_V q1123 q1124 q1125 q70 q1126) 2 (by decide +kernel) rfl (by decide) (by decide) (cb' := 0) (sb' := 0) (by omega) (by omega) rfl (rest := [vi 0, .ref o]) (Nat.le_of_ble_eq_true rfl) hAll dX0_reflect_5 (fun C9 H9 hx9 hz9 hk9 => ?_) (fun v9 H1 hpost hz hkk => ?_)
  · obtain ⟨hC, hPX⟩ := hx9
    have ho9 := ho.kept (hk9 o ho.lt hoA)
    obtain ⟨rfl, e9⟩ := hC
    refine ⟨[], [], (⟨0, 10, 13, 13⟩ : ExceptionTableEntry), "java/lang/IndexOutOfBoundsException", rfl, fun y hy => absurd hy List.not_mem_nil, by decide, by decide, q532, by decide +kernel, fun q => ?_⟩
    refine v_astore E dX0_reflect_13 (zlt hL rfl) (lv' := [(4, .ref q), (0, .ref x), (1, vi v0), (2, vi v1), (3, .ref o)]) rfl ?_
    refine v_iconst E dX0_reflect_15 ?_
    refine v_iret E hE dX0_reflect_16 ?_
    exact ⟨by rw [e9], Or.inr ⟨by omega, hPX, ho9⟩⟩
  · obtain ⟨e0, rfl, hPO⟩ := hpost
    have ho1 := ho.kept (hkk o ho.lt hoA)
    refine v_i2l E (hr1 e0) dX0_reflect_8 ?_
    refine v_last E dX0_reflect_9 ho1 0 rfl (by decide) (by decide) hAo (fun H2 ho2 hs2 => ?_)
    refine v_goto E (tgt := 17) dX0_reflect_10 (by decide) ?_
    refine v_iconst E dX0_reflect_17 ?_
    refine v_iret E hE dX0_reflect_18 ?_
    exact ⟨by rw [e0], Or.inl ⟨e0, hk _ _ hPO hs2 ho1, _, ho2, by rw [va_upj]⟩⟩
set_option maxHeartbeats 400000 in
/-- scale, caught -/
theorem w_scale (κ : zK) (H0 : Heap) {x o : Nat} {fs : List Value} {v0 v1 v2 r1 r2 : Int} {f : Nat → Int} {mc2 ms2 : Nat} {PO PX : Heap → Prop} (hx : hp κ H0 x (.inr (0, fs))) (ho : hp κ H0 o (eJ κ 1 f)) (hr1 : r2 = 0 → rI r1) (hoA : ¬ pA κ H0 o) (hM : MtX κ yX1_scale cX1_scale 7 (some .int) 8 182 mc2 ms2 H0 [.ref x, vi v0, vi v1, vi v2] (pA κ H0) (fun v H1 => r2 = 0 ∧ v = some (vi r1) ∧ PO H1) (fun C H1 => (C = "java/lang/IndexOutOfBoundsException" ∧ r2 = 1 ∨ C = "java/lang/IllegalArgumentException" ∧ r2 = 2 ∨ C = "java/lang/IllegalStateException" ∧ r2 = 3) ∧ PX H1)) (hk : ∀ H1 H2, PO H1 → zSame H1 H2 o → hp κ H1 o (eJ κ 1 f) → PO H2) : MtW κ yX0_scale cX0_scale 6 (some .int) [((0 : Nat), (12 : Nat), (15 : Nat), (13 : Nat)), ((0 : Nat), (12 : Nat), (19 : Nat), (15 : Nat)), ((0 : Nat), (12 : Nat), (23 : Nat), (31 : Nat))] 9 208 mc2 ms2 H0 [.ref x, vi v0, vi v1, vi v2, .ref o] (fun q => pA κ H0 q ∨ q = o) (fun v H1 => v = some (vi r2) ∧ ((r2 = 0 ∧ PO H1 ∧ ∃ g : Nat → Int, hp κ H1 o (eJ κ 1 g) ∧ g 0 = r1) ∨ (r2 ≠ 0 ∧ PX H1 ∧ hp κ H1 o (eJ κ 1 f)))) := by
  refine MtW.of (by decide) (Nat.le_of_ble_eq_true rfl) ?_
  intro z E X9 hE hH0 hA0 hL hini
  have E : zOK z cX0_scale RX0 κ 9 208 (some .int) := E
  have hAll : ∀ q, pA κ H0 q → zA z.A z.H0 q := fun q h => Or.inl (by rw [hA0]; exact Or.inl h)
  have hAo : zA z.A z.H0 o := Or.inl (by rw [hA0]; exact Or.inr rfl)
  refine V.eqL (lv' := [(0, .ref x), (1, vi v0), (2, vi v1), (3, vi v2), (4, .ref o)]) rfl ?_
  refine v_aload E 4 rfl dX0_scale_0 ?_
  refine v_iconst E dX0_scale_2 ?_
  refine v_aload_n E 0 rfl dX0_scale_3 ?_
  refine v_iload_n E 1 rfl dX0_scale_4 ?_
  refine v_iload_n E 2 rfl dX0_scale_5 ?_
  refine v_iload_n E 3 rfl dX0_scale_6 ?_
  refine v_callVK E X9 (As := [vi v0, vi v1, vi v2]) (b := x) (ci := 0) (C := RX1) (T := TX1) (N := 3) hx rfl hM (lw_V q1131 q1132 q1133 q70 q1134) 3 (by decide +kernel) rfl (by decide) (by decide) (cb' := 0) (sb' := 0) (by omega) (by omega) rfl (rest := [vi 0, .ref o]) (Nat.le_of_ble_eq_true rfl) hAll dX0_scale_7 (fun C9 H9 hx9 hz9 hk9 => ?_) (fun v9 H1 hpost hz hkk => ?_)
  · obtain ⟨hC, hPX⟩ := hx9
    have ho9 := ho.kept (hk9 o ho.lt hoA)
    rcases hC with ⟨rfl, e9⟩ | ⟨rfl, e9⟩ | ⟨rfl, e9⟩
    · skip
      refine ⟨[], [(⟨0, 12, 19, 15⟩ : ExceptionTableEntry), (⟨0, 12, 23, 31⟩ : ExceptionTableEntry)], (⟨0, 12, 15, 13⟩ : ExceptionTableEntry), "java/lang/IndexOutOfBoundsException", rfl, fun y hy => absurd hy List.not_mem_nil, by decide, by decide, q532, by decide +kernel, fun q => ?_⟩
      refine v_astore E dX0_scale_15 (zlt hL rfl) (lv' := [(5, .ref q), (0, .ref x), (1, vi v0), (2, vi v1), (3, vi v2), (4, .ref o)]) rfl ?_
      refine v_iconst E dX0_scale_17 ?_
      refine v_iret E hE dX0_scale_18 ?_
      exact ⟨by rw [e9], Or.inr ⟨by omega, hPX, ho9⟩⟩
    · skip
      refine ⟨[(⟨0, 12, 15, 13⟩ : ExceptionTableEntry)], [(⟨0, 12, 23, 31⟩ : ExceptionTableEntry)], (⟨0, 12, 19, 15⟩ : ExceptionTableEntry), "java/lang/IllegalArgumentException", rfl, fun y hy => by
        simp only [List.mem_cons, List.not_mem_nil, or_false] at hy
        subst hy
        exact ⟨by decide, "java/lang/IndexOutOfBoundsException", q532, by decide +kernel⟩, by decide, by decide, q565, by decide +kernel, fun q => ?_⟩
      refine v_astore E dX0_scale_19 (zlt hL rfl) (lv' := [(5, .ref q), (0, .ref x), (1, vi v0), (2, vi v1), (3, vi v2), (4, .ref o)]) rfl ?_
      refine v_iconst E dX0_scale_21 ?_
      refine v_iret E hE dX0_scale_22 ?_
      exact ⟨by rw [e9], Or.inr ⟨by omega, hPX, ho9⟩⟩
    · skip
      refine ⟨[(⟨0, 12, 15, 13⟩ : ExceptionTableEntry), (⟨0, 12, 19, 15⟩ : ExceptionTableEntry)], [], (⟨0, 12, 23, 31⟩ : ExceptionTableEntry), "java/lang/IllegalStateException", rfl, fun y hy => by
        simp only [List.mem_cons, List.not_mem_nil, or_false] at hy
        rcases hy with rfl | rfl
        · exact ⟨by decide, "java/lang/IndexOutOfBoundsException", q532, by decide +kernel⟩
        · exact ⟨by decide, "java/lang/IllegalArgumentException", q565, by decide +kernel⟩, by decide, by decide, q699, by decide +kernel, fun q => ?_⟩
      refine v_astore E dX0_scale_23 (zlt hL rfl) (lv' := [(5, .ref q), (0, .ref x), (1, vi v0), (2, vi v1), (3, vi v2), (4, .ref o)]) rfl ?_
      refine v_iconst E dX0_scale_25 ?_
      refine v_iret E hE dX0_scale_26 ?_
      exact ⟨by rw [e9], Or.inr ⟨by omega, hPX, ho9⟩⟩
  · obtain ⟨e0, rfl, hPO⟩ := hpost
    have ho1 := ho.kept (hkk o ho.lt hoA)
    refine v_i2l E (hr1 e0) dX0_scale_10 ?_
    refine v_last E dX0_scale_11 ho1 0 rfl (by decide) (by decide) hAo (fun H2 ho2 hs2 => ?_)
    refine v_goto E (tgt := 27) dX0_scale_12 (by decide) ?_
    refine v_iconst E dX0_scale_27 ?_
    refine v_iret E hE dX0_scale_28 ?_
    exact ⟨by rw [e0], Or.inl ⟨e0, hk _ _ hPO hs2 ho1, _, ho2, by rw [va_upj]⟩⟩
set_option maxHeartbeats 400000 in
/-- gcd, caught -/
theorem w_gcd (κ : zK) (H0 : Heap) {x o : Nat} {fs : List Value} {v0 v1 v2 r1 r2 : Int} {f : Nat → Int} {mc2 ms2 : Nat} {PO PX : Heap → Prop} (hx : hp κ H0 x (.inr (0, fs))) (ho : hp κ H0 o (eJ κ 1 f)) (hr1 : r2 = 0 → rI r1) (hoA : ¬ pA κ H0 o) (hM : MtX κ yX1_gcd cX1_gcd 4 (some .int) 13 361 mc2 ms2 H0 [.ref x, vi v0, vi v1, vi v2] (pA κ H0) (fun v H1 => r2 = 0 ∧ v = some (vi r1) ∧ PO H1) (fun C H1 => (C = "java/lang/IndexOutOfBoundsException" ∧ r2 = 1 ∨ C = "java/lang/IllegalStateException" ∧ r2 = 2) ∧ PX H1)) (hk : ∀ H1 H2, PO H1 → zSame H1 H2 o → hp κ H1 o (eJ κ 1 f) → PO H2) : MtW κ yX0_gcd cX0_gcd 6 (some .int) [((0 : Nat), (12 : Nat), (15 : Nat), (13 : Nat)), ((0 : Nat), (12 : Nat), (19 : Nat), (31 : Nat))] 14 384 mc2 ms2 H0 [.ref x, vi v0, vi v1, vi v2, .ref o] (fun q => pA κ H0 q ∨ q = o) (fun v H1 => v = some (vi r2) ∧ ((r2 = 0 ∧ PO H1 ∧ ∃ g : Nat → Int, hp κ H1 o (eJ κ 1 g) ∧ g 0 = r1) ∨ (r2 ≠ 0 ∧ PX H1 ∧ hp κ H1 o (eJ κ 1 f)))) := by
  refine MtW.of (by decide) (Nat.le_of_ble_eq_true rfl) ?_
  intro z E X9 hE hH0 hA0 hL hini
  have E : zOK z cX0_gcd RX0 κ 14 384 (some .int) := E
  have hAll : ∀ q, pA κ H0 q → zA z.A z.H0 q := fun q h => Or.inl (by rw [hA0]; exact Or.inl h)
  have hAo : zA z.A z.H0 o := Or.inl (by rw [hA0]; exact Or.inr rfl)
  refine V.eqL (lv' := [(0, .ref x), (1, vi v0), (2, vi v1), (3, vi v2), (4, .ref o)]) rfl ?_
  refine v_aload E 4 rfl dX0_gcd_0 ?_
  refine v_iconst E dX0_gcd_2 ?_
  refine v_aload_n E 0 rfl dX0_gcd_3 ?_
  refine v_iload_n E 1 rfl dX0_gcd_4 ?_
  refine v_iload_n E 2 rfl dX0_gcd_5 ?_
  refine v_iload_n E 3 rfl dX0_gcd_6 ?_
  refine v_callVK E X9 (As := [vi v0, vi v1, vi v2]) (b := x) (ci := 0) (C := RX1) (T := TX1) (N := 3) hx rfl hM (lw_V q1138 q1139 q1140 q70 q1141) 3 (by decide +kernel) rfl (by decide) (by decide) (cb' := 0) (sb' := 0) (by omega) (by omega) rfl (rest := [vi 0, .ref o]) (Nat.le_of_ble_eq_true rfl) hAll dX0_gcd_7 (fun C9 H9 hx9 hz9 hk9 => ?_) (fun v9 H1 hpost hz hkk => ?_)
  · obtain ⟨hC, hPX⟩ := hx9
    have ho9 := ho.kept (hk9 o ho.lt hoA)
    rcases hC with ⟨rfl, e9⟩ | ⟨rfl, e9⟩
    · skip
      refine ⟨[], [(⟨0, 12, 19, 31⟩ : ExceptionTableEntry)], (⟨0, 12, 15, 13⟩ : ExceptionTableEntry), "java/lang/IndexOutOfBoundsException", rfl, fun y hy => absurd hy List.not_mem_nil, by decide, by decide, q532, by decide +kernel, fun q => ?_⟩
      refine v_astore E dX0_gcd_15 (zlt hL rfl) (lv' := [(5, .ref q), (0, .ref x), (1, vi v0), (2, vi v1), (3, vi v2), (4, .ref o)]) rfl ?_
      refine v_iconst E dX0_gcd_17 ?_
      refine v_iret E hE dX0_gcd_18 ?_
      exact ⟨by rw [e9], Or.inr ⟨by omega, hPX, ho9⟩⟩
    · skip
      refine ⟨[(⟨0, 12, 15, 13⟩ : ExceptionTableEntry)], [], (⟨0, 12, 19, 31⟩ : ExceptionTableEntry), "java/lang/IllegalStateException", rfl, fun y hy => by
        simp only [List.mem_cons, List.not_mem_nil, or_false] at hy
        subst hy
        exact ⟨by decide, "java/lang/IndexOutOfBoundsException", q532, by decide +kernel⟩, by decide, by decide, q699, by decide +kernel, fun q => ?_⟩
      refine v_astore E dX0_gcd_19 (zlt hL rfl) (lv' := [(5, .ref q), (0, .ref x), (1, vi v0), (2, vi v1), (3, vi v2), (4, .ref o)]) rfl ?_
      refine v_iconst E dX0_gcd_21 ?_
      refine v_iret E hE dX0_gcd_22 ?_
      exact ⟨by rw [e9], Or.inr ⟨by omega, hPX, ho9⟩⟩
  · obtain ⟨e0, rfl, hPO⟩ := hpost
    have ho1 := ho.kept (hkk o ho.lt hoA)
    refine v_i2l E (hr1 e0) dX0_gcd_10 ?_
    refine v_last E dX0_gcd_11 ho1 0 rfl (by decide) (by decide) hAo (fun H2 ho2 hs2 => ?_)
    refine v_goto E (tgt := 23) dX0_gcd_12 (by decide) ?_
    refine v_iconst E dX0_gcd_23 ?_
    refine v_iret E hE dX0_gcd_24 ?_
    exact ⟨by rw [e0], Or.inl ⟨e0, hk _ _ hPO hs2 ho1, _, ho2, by rw [va_upj]⟩⟩
set_option maxHeartbeats 400000 in
/-- squareFreePart, caught -/
theorem w_squareFreePart (κ : zK) (H0 : Heap) {x o : Nat} {fs : List Value} {v0 v1 r1 r2 : Int} {f : Nat → Int} {mc2 ms2 : Nat} {PO PX : Heap → Prop} (hx : hp κ H0 x (.inr (0, fs))) (ho : hp κ H0 o (eJ κ 1 f)) (hr1 : r2 = 0 → rI r1) (hoA : ¬ pA κ H0 o) (hM : MtX κ yX1_squareFreePart cX1_squareFreePart 3 (some .int) 16 420 mc2 ms2 H0 [.ref x, vi v0, vi v1] (pA κ H0) (fun v H1 => r2 = 0 ∧ v = some (vi r1) ∧ PO H1) (fun C H1 => (C = "java/lang/IndexOutOfBoundsException" ∧ r2 = 1 ∨ C = "java/lang/ArithmeticException" ∧ r2 = 2 ∨ C = "java/lang/IllegalStateException" ∧ r2 = 3) ∧ PX H1)) (hk : ∀ H1 H2, PO H1 → zSame H1 H2 o → hp κ H1 o (eJ κ 1 f) → PO H2) : MtW κ yX0_squareFreePart cX0_squareFreePart 5 (some .int) [((0 : Nat), (10 : Nat), (13 : Nat), (13 : Nat)), ((0 : Nat), (10 : Nat), (17 : Nat), (54 : Nat)), ((0 : Nat), (10 : Nat), (21 : Nat), (31 : Nat))] 17 442 mc2 ms2 H0 [.ref x, vi v0, vi v1, .ref o] (fun q => pA κ H0 q ∨ q = o) (fun v H1 => v = some (vi r2) ∧ ((r2 = 0 ∧ PO H1 ∧ ∃ g : Nat → Int, hp κ H1 o (eJ κ 1 g) ∧ g 0 = r1) ∨ (r2 ≠ 0 ∧ PX H1 ∧ hp κ H1 o (eJ κ 1 f)))) := by
  refine MtW.of (by decide) (Nat.le_of_ble_eq_true rfl) ?_
  intro z E X9 hE hH0 hA0 hL hini
  have E : zOK z cX0_squareFreePart RX0 κ 17 442 (some .int) := E
  have hAll : ∀ q, pA κ H0 q → zA z.A z.H0 q := fun q h => Or.inl (by rw [hA0]; exact Or.inl h)
  have hAo : zA z.A z.H0 o := Or.inl (by rw [hA0]; exact Or.inr rfl)
  refine V.eqL (lv' := [(0, .ref x), (1, vi v0), (2, vi v1), (3, .ref o)]) rfl ?_
  refine v_aload_n E 3 rfl dX0_squareFreePart_0 ?_
  refine v_iconst E dX0_squareFreePart_1 ?_
  refine v_aload_n E 0 rfl dX0_squareFreePart_2 ?_
  refine v_iload_n E 1 rfl dX0_squareFreePart_3 ?_
  refine v_iload_n E 2 rfl dX0_squareFreePart_4 ?_
  refine v_callVK E X9 (As := [vi v0, vi v1]) (b := x) (ci := 0) (C := RX1) (T := TX1) (N := 3) hx rfl hM (lw_V q1454 q1455 q1456 q70 q1457) 2 (by decide +kernel) rfl (by decide) (by decide) (cb' := 0) (sb' := 0) (by omega) (by omega) rfl (rest := [vi 0, .ref o]) (Nat.le_of_ble_eq_true rfl) hAll dX0_squareFreePart_5 (fun C9 H9 hx9 hz9 hk9 => ?_) (fun v9 H1 hpost hz hkk => ?_)
  · obtain ⟨hC, hPX⟩ := hx9
    have ho9 := ho.kept (hk9 o ho.lt hoA)
    rcases hC with ⟨rfl, e9⟩ | ⟨rfl, e9⟩ | ⟨rfl, e9⟩
    · skip
      refine ⟨[], [(⟨0, 10, 17, 54⟩ : ExceptionTableEntry), (⟨0, 10, 21, 31⟩ : ExceptionTableEntry)], (⟨0, 10, 13, 13⟩ : ExceptionTableEntry), "java/lang/IndexOutOfBoundsException", rfl, fun y hy => absurd hy List.not_mem_nil, by decide, by decide, q532, by decide +kernel, fun q => ?_⟩
      refine v_astore E dX0_squareFreePart_13 (zlt hL rfl) (lv' := [(4, .ref q), (0, .ref x), (1, vi v0), (2, vi v1), (3, .ref o)]) rfl ?_
      refine v_iconst E dX0_squareFreePart_15 ?_
      refine v_iret E hE dX0_squareFreePart_16 ?_
      exact ⟨by rw [e9], Or.inr ⟨by omega, hPX, ho9⟩⟩
    · skip
      refine ⟨[(⟨0, 10, 13, 13⟩ : ExceptionTableEntry)], [(⟨0, 10, 21, 31⟩ : ExceptionTableEntry)], (⟨0, 10, 17, 54⟩ : ExceptionTableEntry), "java/lang/ArithmeticException", rfl, fun y hy => by
        simp only [List.mem_cons, List.not_mem_nil, or_false] at hy
        subst hy
        exact ⟨by decide, "java/lang/IndexOutOfBoundsException", q532, by decide +kernel⟩, by decide, by decide, q1453, by decide +kernel, fun q => ?_⟩
      refine v_astore E dX0_squareFreePart_17 (zlt hL rfl) (lv' := [(4, .ref q), (0, .ref x), (1, vi v0), (2, vi v1), (3, .ref o)]) rfl ?_
      refine v_iconst E dX0_squareFreePart_19 ?_
      refine v_iret E hE dX0_squareFreePart_20 ?_
      exact ⟨by rw [e9], Or.inr ⟨by omega, hPX, ho9⟩⟩
    · skip
      refine ⟨[(⟨0, 10, 13, 13⟩ : ExceptionTableEntry), (⟨0, 10, 17, 54⟩ : ExceptionTableEntry)], [], (⟨0, 10, 21, 31⟩ : ExceptionTableEntry), "java/lang/IllegalStateException", rfl, fun y hy => by
        simp only [List.mem_cons, List.not_mem_nil, or_false] at hy
        rcases hy with rfl | rfl
        · exact ⟨by decide, "java/lang/IndexOutOfBoundsException", q532, by decide +kernel⟩
        · exact ⟨by decide, "java/lang/ArithmeticException", q1453, by decide +kernel⟩, by decide, by decide, q699, by decide +kernel, fun q => ?_⟩
      refine v_astore E dX0_squareFreePart_21 (zlt hL rfl) (lv' := [(4, .ref q), (0, .ref x), (1, vi v0), (2, vi v1), (3, .ref o)]) rfl ?_
      refine v_iconst E dX0_squareFreePart_23 ?_
      refine v_iret E hE dX0_squareFreePart_24 ?_
      exact ⟨by rw [e9], Or.inr ⟨by omega, hPX, ho9⟩⟩
  · obtain ⟨e0, rfl, hPO⟩ := hpost
    have ho1 := ho.kept (hkk o ho.lt hoA)
    refine v_i2l E (hr1 e0) dX0_squareFreePart_8 ?_
    refine v_last E dX0_squareFreePart_9 ho1 0 rfl (by decide) (by decide) hAo (fun H2 ho2 hs2 => ?_)
    refine v_goto E (tgt := 25) dX0_squareFreePart_10 (by decide) ?_
    refine v_iconst E dX0_squareFreePart_25 ?_
    refine v_iret E hE dX0_squareFreePart_26 ?_
    exact ⟨by rw [e0], Or.inl ⟨e0, hk _ _ hPO hs2 ho1, _, ho2, by rw [va_upj]⟩⟩
set_option maxHeartbeats 400000 in
/-- sturmLength, caught -/
theorem w_sturmLength (κ : zK) (H0 : Heap) {x o : Nat} {fs : List Value} {v0 r1 r2 : Int} {f : Nat → Int} {mc2 ms2 : Nat} {PO PX : Heap → Prop} (hx : hp κ H0 x (.inr (0, fs))) (ho : hp κ H0 o (eJ κ 1 f)) (hr1 : r2 = 0 → rI r1) (hoA : ¬ pA κ H0 o) (hM : MtX κ yX1_sturmLength cX1_sturmLength 2 (some .int) 14 380 mc2 ms2 H0 [.ref x, vi v0] (pA κ H0) (fun v H1 => r2 = 0 ∧ v = some (vi r1) ∧ PO H1) (fun C H1 => (C = "java/lang/IndexOutOfBoundsException" ∧ r2 = 1 ∨ C = "java/lang/ArithmeticException" ∧ r2 = 2) ∧ PX H1)) (hk : ∀ H1 H2, PO H1 → zSame H1 H2 o → hp κ H1 o (eJ κ 1 f) → PO H2) : MtW κ yX0_sturmLength cX0_sturmLength 4 (some .int) [((0 : Nat), (9 : Nat), (12 : Nat), (13 : Nat)), ((0 : Nat), (9 : Nat), (15 : Nat), (54 : Nat))] 15 401 mc2 ms2 H0 [.ref x, vi v0, .ref o] (fun q => pA κ H0 q ∨ q = o) (fun v H1 => v = some (vi r2) ∧ ((r2 = 0 ∧ PO H1 ∧ ∃ g : Nat → Int, hp κ H1 o (eJ κ 1 g) ∧ g 0 = r1) ∨ (r2 ≠ 0 ∧ PX H1 ∧ hp κ H1 o (eJ κ 1 f)))) := by
  refine MtW.of (by decide) (Nat.le_of_ble_eq_true rfl) ?_
  intro z E X9 hE hH0 hA0 hL hini
  have E : zOK z cX0_sturmLength RX0 κ 15 401 (some .int) := E
  have hAll : ∀ q, pA κ H0 q → zA z.A z.H0 q := fun q h => Or.inl (by rw [hA0]; exact Or.inl h)
  have hAo : zA z.A z.H0 o := Or.inl (by rw [hA0]; exact Or.inr rfl)
  refine V.eqL (lv' := [(0, .ref x), (1, vi v0), (2, .ref o)]) rfl ?_
  refine v_aload_n E 2 rfl dX0_sturmLength_0 ?_
  refine v_iconst E dX0_sturmLength_1 ?_
  refine v_aload_n E 0 rfl dX0_sturmLength_2 ?_
  refine v_iload_n E 1 rfl dX0_sturmLength_3 ?_
  refine v_callVK E X9 (As := [vi v0]) (b := x) (ci := 0) (C := RX1) (T := TX1) (N := 3) hx rfl hM (lw_V q1492 q1493 q1494 q70 q1495) 1 (by decide +kernel) rfl (by decide) (by decide) (cb' := 0) (sb' := 0) (by omega) (by omega) rfl (rest := [vi 0, .ref o]) (Nat.le_of_ble_eq_true rfl) hAll dX0_sturmLength_4 (fun C9 H9 hx9 hz9 hk9 => ?_) (fun v9 H1 hpost hz hkk => ?_)
  · obtain ⟨hC, hPX⟩ := hx9
    have ho9 := ho.kept (hk9 o ho.lt hoA)
    rcases hC with ⟨rfl, e9⟩ | ⟨rfl, e9⟩
    · skip
      refine ⟨[], [(⟨0, 9, 15, 54⟩ : ExceptionTableEntry)], (⟨0, 9, 12, 13⟩ : ExceptionTableEntry), "java/lang/IndexOutOfBoundsException", rfl, fun y hy => absurd hy List.not_mem_nil, by decide, by decide, q532, by decide +kernel, fun q => ?_⟩
      refine v_astore_n E dX0_sturmLength_12 (zlt hL rfl) (lv' := [(3, .ref q), (0, .ref x), (1, vi v0), (2, .ref o)]) rfl ?_
      refine v_iconst E dX0_sturmLength_13 ?_
      refine v_iret E hE dX0_sturmLength_14 ?_
      exact ⟨by rw [e9], Or.inr ⟨by omega, hPX, ho9⟩⟩
    · skip
      refine ⟨[(⟨0, 9, 12, 13⟩ : ExceptionTableEntry)], [], (⟨0, 9, 15, 54⟩ : ExceptionTableEntry), "java/lang/ArithmeticException", rfl, fun y hy => by
        simp only [List.mem_cons, List.not_mem_nil, or_false] at hy
        subst hy
        exact ⟨by decide, "java/lang/IndexOutOfBoundsException", q532, by decide +kernel⟩, by decide, by decide, q1453, by decide +kernel, fun q => ?_⟩
      refine v_astore_n E dX0_sturmLength_15 (zlt hL rfl) (lv' := [(3, .ref q), (0, .ref x), (1, vi v0), (2, .ref o)]) rfl ?_
      refine v_iconst E dX0_sturmLength_16 ?_
      refine v_iret E hE dX0_sturmLength_17 ?_
      exact ⟨by rw [e9], Or.inr ⟨by omega, hPX, ho9⟩⟩
  · obtain ⟨e0, rfl, hPO⟩ := hpost
    have ho1 := ho.kept (hkk o ho.lt hoA)
    refine v_i2l E (hr1 e0) dX0_sturmLength_7 ?_
    refine v_last E dX0_sturmLength_8 ho1 0 rfl (by decide) (by decide) hAo (fun H2 ho2 hs2 => ?_)
    refine v_goto E (tgt := 18) dX0_sturmLength_9 (by decide) ?_
    refine v_iconst E dX0_sturmLength_18 ?_
    refine v_iret E hE dX0_sturmLength_19 ?_
    exact ⟨by rw [e0], Or.inl ⟨e0, hk _ _ hPO hs2 ho1, _, ho2, by rw [va_upj]⟩⟩
set_option maxHeartbeats 400000 in
/-- sturmCoefficient, caught -/
theorem w_sturmCoefficient (κ : zK) (H0 : Heap) {x o : Nat} {fs : List Value} {v0 v1 v2 r1 r2 : Int} {f : Nat → Int} {mc2 ms2 : Nat} {PO PX : Heap → Prop} (hx : hp κ H0 x (.inr (0, fs))) (ho : hp κ H0 o (eJ κ 1 f)) (hr1 : r2 = 0 → True) (hoA : ¬ pA κ H0 o) (hM : MtX κ yX1_sturmCoefficient cX1_sturmCoefficient 4 (some .long) 15 403 mc2 ms2 H0 [.ref x, vi v0, vi v1, vi v2] (pA κ H0) (fun v H1 => r2 = 0 ∧ v = some (vj r1) ∧ PO H1) (fun C H1 => (C = "java/lang/IndexOutOfBoundsException" ∧ r2 = 1 ∨ C = "java/lang/ArithmeticException" ∧ r2 = 2 ∨ C = "java/util/NoSuchElementException" ∧ r2 = 3) ∧ PX H1)) (hk : ∀ H1 H2, PO H1 → zSame H1 H2 o → hp κ H1 o (eJ κ 1 f) → PO H2) : MtW κ yX0_sturmCoefficient cX0_sturmCoefficient 6 (some .int) [((0 : Nat), (11 : Nat), (14 : Nat), (13 : Nat)), ((0 : Nat), (11 : Nat), (18 : Nat), (54 : Nat)), ((0 : Nat), (11 : Nat), (22 : Nat), (63 : Nat))] 16 426 mc2 ms2 H0 [.ref x, vi v0, vi v1, vi v2, .ref o] (fun q => pA κ H0 q ∨ q = o) (fun v H1 => v = some (vi r2) ∧ ((r2 = 0 ∧ PO H1 ∧ ∃ g : Nat → Int, hp κ H1 o (eJ κ 1 g) ∧ g 0 = r1) ∨ (r2 ≠ 0 ∧ PX H1 ∧ hp κ H1 o (eJ κ 1 f)))) := by
  refine MtW.of (by decide) (Nat.le_of_ble_eq_true rfl) ?_
  intro z E X9 hE hH0 hA0 hL hini
  have E : zOK z cX0_sturmCoefficient RX0 κ 16 426 (some .int) := E
  have hAll : ∀ q, pA κ H0 q → zA z.A z.H0 q := fun q h => Or.inl (by rw [hA0]; exact Or.inl h)
  have hAo : zA z.A z.H0 o := Or.inl (by rw [hA0]; exact Or.inr rfl)
  refine V.eqL (lv' := [(0, .ref x), (1, vi v0), (2, vi v1), (3, vi v2), (4, .ref o)]) rfl ?_
  refine v_aload E 4 rfl dX0_sturmCoefficient_0 ?_
  refine v_iconst E dX0_sturmCoefficient_2 ?_
  refine v_aload_n E 0 rfl dX0_sturmCoefficient_3 ?_
  refine v_iload_n E 1 rfl dX0_sturmCoefficient_4 ?_
  refine v_iload_n E 2 rfl dX0_sturmCoefficient_5 ?_
  refine v_iload_n E 3 rfl dX0_sturmCoefficient_6 ?_
  refine v_callVK E X9 (As := [vi v0, vi v1, vi v2]) (b := x) (ci := 0) (C := RX1) (T := TX1) (N := 3) hx rfl hM (lw_V q1501 q1502 q1503 q70 q1504) 3 (by decide +kernel) rfl (by decide) (by decide) (cb' := 0) (sb' := 0) (by omega) (by omega) rfl (rest := [vi 0, .ref o]) (Nat.le_of_ble_eq_true rfl) hAll dX0_sturmCoefficient_7 (fun C9 H9 hx9 hz9 hk9 => ?_) (fun v9 H1 hpost hz hkk => ?_)
  · obtain ⟨hC, hPX⟩ := hx9
    have ho9 := ho.kept (hk9 o ho.lt hoA)
    rcases hC with ⟨rfl, e9⟩ | ⟨rfl, e9⟩ | ⟨rfl, e9⟩
    · skip
      refine ⟨[], [(⟨0, 11, 18, 54⟩ : ExceptionTableEntry), (⟨0, 11, 22, 63⟩ : ExceptionTableEntry)], (⟨0, 11, 14, 13⟩ : ExceptionTableEntry), "java/lang/IndexOutOfBoundsException", rfl, fun y hy => absurd hy List.not_mem_nil, by decide, by decide, q532, by decide +kernel, fun q => ?_⟩
      refine v_astore E dX0_sturmCoefficient_14 (zlt hL rfl) (lv' := [(5, .ref q), (0, .ref x), (1, vi v0), (2, vi v1), (3, vi v2), (4, .ref o)]) rfl ?_
      refine v_iconst E dX0_sturmCoefficient_16 ?_
      refine v_iret E hE dX0_sturmCoefficient_17 ?_
      exact ⟨by rw [e9], Or.inr ⟨by omega, hPX, ho9⟩⟩
    · skip
      refine ⟨[(⟨0, 11, 14, 13⟩ : ExceptionTableEntry)], [(⟨0, 11, 22, 63⟩ : ExceptionTableEntry)], (⟨0, 11, 18, 54⟩ : ExceptionTableEntry), "java/lang/ArithmeticException", rfl, fun y hy => by
        simp only [List.mem_cons, List.not_mem_nil, or_false] at hy
        subst hy
        exact ⟨by decide, "java/lang/IndexOutOfBoundsException", q532, by decide +kernel⟩, by decide, by decide, q1453, by decide +kernel, fun q => ?_⟩
      refine v_astore E dX0_sturmCoefficient_18 (zlt hL rfl) (lv' := [(5, .ref q), (0, .ref x), (1, vi v0), (2, vi v1), (3, vi v2), (4, .ref o)]) rfl ?_
      refine v_iconst E dX0_sturmCoefficient_20 ?_
      refine v_iret E hE dX0_sturmCoefficient_21 ?_
      exact ⟨by rw [e9], Or.inr ⟨by omega, hPX, ho9⟩⟩
    · skip
      refine ⟨[(⟨0, 11, 14, 13⟩ : ExceptionTableEntry), (⟨0, 11, 18, 54⟩ : ExceptionTableEntry)], [], (⟨0, 11, 22, 63⟩ : ExceptionTableEntry), "java/util/NoSuchElementException", rfl, fun y hy => by
        simp only [List.mem_cons, List.not_mem_nil, or_false] at hy
        rcases hy with rfl | rfl
        · exact ⟨by decide, "java/lang/IndexOutOfBoundsException", q532, by decide +kernel⟩
        · exact ⟨by decide, "java/lang/ArithmeticException", q1453, by decide +kernel⟩, by decide, by decide, q1500, by decide +kernel, fun q => ?_⟩
      refine v_astore E dX0_sturmCoefficient_22 (zlt hL rfl) (lv' := [(5, .ref q), (0, .ref x), (1, vi v0), (2, vi v1), (3, vi v2), (4, .ref o)]) rfl ?_
      refine v_iconst E dX0_sturmCoefficient_24 ?_
      refine v_iret E hE dX0_sturmCoefficient_25 ?_
      exact ⟨by rw [e9], Or.inr ⟨by omega, hPX, ho9⟩⟩
  · obtain ⟨e0, rfl, hPO⟩ := hpost
    have ho1 := ho.kept (hkk o ho.lt hoA)
    refine v_last E dX0_sturmCoefficient_10 ho1 0 rfl (by decide) (by decide) hAo (fun H2 ho2 hs2 => ?_)
    refine v_goto E (tgt := 26) dX0_sturmCoefficient_11 (by decide) ?_
    refine v_iconst E dX0_sturmCoefficient_26 ?_
    refine v_iret E hE dX0_sturmCoefficient_27 ?_
    exact ⟨by rw [e0], Or.inl ⟨e0, hk _ _ hPO hs2 ho1, _, ho2, by rw [va_upj]⟩⟩
set_option maxHeartbeats 400000 in
/-- sturmDegree, caught -/
theorem w_sturmDegree (κ : zK) (H0 : Heap) {x o : Nat} {fs : List Value} {v0 v1 r1 r2 : Int} {f : Nat → Int} {mc2 ms2 : Nat} {PO PX : Heap → Prop} (hx : hp κ H0 x (.inr (0, fs))) (ho : hp κ H0 o (eJ κ 1 f)) (hr1 : r2 = 0 → rI r1) (hoA : ¬ pA κ H0 o) (hM : MtX κ yX1_sturmDegree cX1_sturmDegree 3 (some .int) 15 403 mc2 ms2 H0 [.ref x, vi v0, vi v1] (pA κ H0) (fun v H1 => r2 = 0 ∧ v = some (vi r1) ∧ PO H1) (fun C H1 => (C = "java/lang/IndexOutOfBoundsException" ∧ r2 = 1 ∨ C = "java/lang/ArithmeticException" ∧ r2 = 2 ∨ C = "java/util/NoSuchElementException" ∧ r2 = 3) ∧ PX H1)) (hk : ∀ H1 H2, PO H1 → zSame H1 H2 o → hp κ H1 o (eJ κ 1 f) → PO H2) : MtW κ yX0_sturmDegree cX0_sturmDegree 5 (some .int) [((0 : Nat), (10 : Nat), (13 : Nat), (13 : Nat)), ((0 : Nat), (10 : Nat), (17 : Nat), (54 : Nat)), ((0 : Nat), (10 : Nat), (21 : Nat), (63 : Nat))] 16 425 mc2 ms2 H0 [.ref x, vi v0, vi v1, .ref o] (fun q => pA κ H0 q ∨ q = o) (fun v H1 => v = some (vi r2) ∧ ((r2 = 0 ∧ PO H1 ∧ ∃ g : Nat → Int, hp κ H1 o (eJ κ 1 g) ∧ g 0 = r1) ∨ (r2 ≠ 0 ∧ PX H1 ∧ hp κ H1 o (eJ κ 1 f)))) := by
  refine MtW.of (by decide) (Nat.le_of_ble_eq_true rfl) ?_
  intro z E X9 hE hH0 hA0 hL hini
  have E : zOK z cX0_sturmDegree RX0 κ 16 425 (some .int) := E
  have hAll : ∀ q, pA κ H0 q → zA z.A z.H0 q := fun q h => Or.inl (by rw [hA0]; exact Or.inl h)
  have hAo : zA z.A z.H0 o := Or.inl (by rw [hA0]; exact Or.inr rfl)
  refine V.eqL (lv' := [(0, .ref x), (1, vi v0), (2, vi v1), (3, .ref o)]) rfl ?_
  refine v_aload_n E 3 rfl dX0_sturmDegree_0 ?_
  refine v_iconst E dX0_sturmDegree_1 ?_
  refine v_aload_n E 0 rfl dX0_sturmDegree_2 ?_
  refine v_iload_n E 1 rfl dX0_sturmDegree_3 ?_
  refine v_iload_n E 2 rfl dX0_sturmDegree_4 ?_
  refine v_callVK E X9 (As := [vi v0, vi v1]) (b := x) (ci := 0) (C := RX1) (T := TX1) (N := 3) hx rfl hM (lw_V q1514 q1515 q1516 q70 q1517) 2 (by decide +kernel) rfl (by decide) (by decide) (cb' := 0) (sb' := 0) (by omega) (by omega) rfl (rest := [vi 0, .ref o]) (Nat.le_of_ble_eq_true rfl) hAll dX0_sturmDegree_5 (fun C9 H9 hx9 hz9 hk9 => ?_) (fun v9 H1 hpost hz hkk => ?_)
  · obtain ⟨hC, hPX⟩ := hx9
    have ho9 := ho.kept (hk9 o ho.lt hoA)
    rcases hC with ⟨rfl, e9⟩ | ⟨rfl, e9⟩ | ⟨rfl, e9⟩
    · skip
      refine ⟨[], [(⟨0, 10, 17, 54⟩ : ExceptionTableEntry), (⟨0, 10, 21, 63⟩ : ExceptionTableEntry)], (⟨0, 10, 13, 13⟩ : ExceptionTableEntry), "java/lang/IndexOutOfBoundsException", rfl, fun y hy => absurd hy List.not_mem_nil, by decide, by decide, q532, by decide +kernel, fun q => ?_⟩
      refine v_astore E dX0_sturmDegree_13 (zlt hL rfl) (lv' := [(4, .ref q), (0, .ref x), (1, vi v0), (2, vi v1), (3, .ref o)]) rfl ?_
      refine v_iconst E dX0_sturmDegree_15 ?_
      refine v_iret E hE dX0_sturmDegree_16 ?_
      exact ⟨by rw [e9], Or.inr ⟨by omega, hPX, ho9⟩⟩
    · skip
      refine ⟨[(⟨0, 10, 13, 13⟩ : ExceptionTableEntry)], [(⟨0, 10, 21, 63⟩ : ExceptionTableEntry)], (⟨0, 10, 17, 54⟩ : ExceptionTableEntry), "java/lang/ArithmeticException", rfl, fun y hy => by
        simp only [List.mem_cons, List.not_mem_nil, or_false] at hy
        subst hy
        exact ⟨by decide, "java/lang/IndexOutOfBoundsException", q532, by decide +kernel⟩, by decide, by decide, q1453, by decide +kernel, fun q => ?_⟩
      refine v_astore E dX0_sturmDegree_17 (zlt hL rfl) (lv' := [(4, .ref q), (0, .ref x), (1, vi v0), (2, vi v1), (3, .ref o)]) rfl ?_
      refine v_iconst E dX0_sturmDegree_19 ?_
      refine v_iret E hE dX0_sturmDegree_20 ?_
      exact ⟨by rw [e9], Or.inr ⟨by omega, hPX, ho9⟩⟩
    · skip
      refine ⟨[(⟨0, 10, 13, 13⟩ : ExceptionTableEntry), (⟨0, 10, 17, 54⟩ : ExceptionTableEntry)], [], (⟨0, 10, 21, 63⟩ : ExceptionTableEntry), "java/util/NoSuchElementException", rfl, fun y hy => by
        simp only [List.mem_cons, List.not_mem_nil, or_false] at hy
        rcases hy with rfl | rfl
        · exact ⟨by decide, "java/lang/IndexOutOfBoundsException", q532, by decide +kernel⟩
        · exact ⟨by decide, "java/lang/ArithmeticException", q1453, by decide +kernel⟩, by decide, by decide, q1500, by decide +kernel, fun q => ?_⟩
      refine v_astore E dX0_sturmDegree_21 (zlt hL rfl) (lv' := [(4, .ref q), (0, .ref x), (1, vi v0), (2, vi v1), (3, .ref o)]) rfl ?_
      refine v_iconst E dX0_sturmDegree_23 ?_
      refine v_iret E hE dX0_sturmDegree_24 ?_
      exact ⟨by rw [e9], Or.inr ⟨by omega, hPX, ho9⟩⟩
  · obtain ⟨e0, rfl, hPO⟩ := hpost
    have ho1 := ho.kept (hkk o ho.lt hoA)
    refine v_i2l E (hr1 e0) dX0_sturmDegree_8 ?_
    refine v_last E dX0_sturmDegree_9 ho1 0 rfl (by decide) (by decide) hAo (fun H2 ho2 hs2 => ?_)
    refine v_goto E (tgt := 25) dX0_sturmDegree_10 (by decide) ?_
    refine v_iconst E dX0_sturmDegree_25 ?_
    refine v_iret E hE dX0_sturmDegree_26 ?_
    exact ⟨by rw [e0], Or.inl ⟨e0, hk _ _ hPO hs2 ho1, _, ho2, by rw [va_upj]⟩⟩
set_option maxHeartbeats 400000 in
/-- signChanges, caught -/
theorem w_signChanges (κ : zK) (H0 : Heap) {x o : Nat} {fs : List Value} {v0 v1 v2 r1 r2 : Int} {f : Nat → Int} {mc2 ms2 : Nat} {PO PX : Heap → Prop} (hx : hp κ H0 x (.inr (0, fs))) (ho : hp κ H0 o (eJ κ 1 f)) (hr1 : r2 = 0 → rI r1) (hoA : ¬ pA κ H0 o) (hM : MtX κ yX1_signChanges cX1_signChanges 4 (some .int) 14 380 mc2 ms2 H0 [.ref x, vi v0, vi v1, vi v2] (pA κ H0) (fun v H1 => r2 = 0 ∧ v = some (vi r1) ∧ PO H1) (fun C H1 => (C = "java/lang/IndexOutOfBoundsException" ∧ r2 = 1 ∨ C = "java/lang/IllegalArgumentException" ∧ r2 = 2 ∨ C = "java/lang/ArithmeticException" ∧ r2 = 3) ∧ PX H1)) (hk : ∀ H1 H2, PO H1 → zSame H1 H2 o → hp κ H1 o (eJ κ 1 f) → PO H2) : MtW κ yX0_signChanges cX0_signChanges 6 (some .int) [((0 : Nat), (12 : Nat), (15 : Nat), (13 : Nat)), ((0 : Nat), (12 : Nat), (19 : Nat), (15 : Nat)), ((0 : Nat), (12 : Nat), (23 : Nat), (54 : Nat))] 15 403 mc2 ms2 H0 [.ref x, vi v0, vi v1, vi v2, .ref o] (fun q => pA κ H0 q ∨ q = o) (fun v H1 => v = some (vi r2) ∧ ((r2 = 0 ∧ PO H1 ∧ ∃ g : Nat → Int, hp κ H1 o (eJ κ 1 g) ∧ g 0 = r1) ∨ (r2 ≠ 0 ∧ PX H1 ∧ hp κ H1 o (eJ κ 1 f)))) := by
  refine MtW.of (by decide) (Nat.le_of_ble_eq_true rfl) ?_
  intro z E X9 hE hH0 hA0 hL hini
  have E : zOK z cX0_signChanges RX0 κ 15 403 (some .int) := E
  have hAll : ∀ q, pA κ H0 q → zA z.A z.H0 q := fun q h => Or.inl (by rw [hA0]; exact Or.inl h)
  have hAo : zA z.A z.H0 o := Or.inl (by rw [hA0]; exact Or.inr rfl)
  refine V.eqL (lv' := [(0, .ref x), (1, vi v0), (2, vi v1), (3, vi v2), (4, .ref o)]) rfl ?_
  refine v_aload E 4 rfl dX0_signChanges_0 ?_
  refine v_iconst E dX0_signChanges_2 ?_
  refine v_aload_n E 0 rfl dX0_signChanges_3 ?_
  refine v_iload_n E 1 rfl dX0_signChanges_4 ?_
  refine v_iload_n E 2 rfl dX0_signChanges_5 ?_
  refine v_iload_n E 3 rfl dX0_signChanges_6 ?_
  refine v_callVK E X9 (As := [vi v0, vi v1, vi v2]) (b := x) (ci := 0) (C := RX1) (T := TX1) (N := 3) hx rfl hM (lw_V q1521 q1522 q1523 q70 q1524) 3 (by decide +kernel) rfl (by decide) (by decide) (cb' := 0) (sb' := 0) (by omega) (by omega) rfl (rest := [vi 0, .ref o]) (Nat.le_of_ble_eq_true rfl) hAll dX0_signChanges_7 (fun C9 H9 hx9 hz9 hk9 => ?_) (fun v9 H1 hpost hz hkk => ?_)
  · obtain ⟨hC, hPX⟩ := hx9
    have ho9 := ho.kept (hk9 o ho.lt hoA)
    rcases hC with ⟨rfl, e9⟩ | ⟨rfl, e9⟩ | ⟨rfl, e9⟩
    · skip
      refine ⟨[], [(⟨0, 12, 19, 15⟩ : ExceptionTableEntry), (⟨0, 12, 23, 54⟩ : ExceptionTableEntry)], (⟨0, 12, 15, 13⟩ : ExceptionTableEntry), "java/lang/IndexOutOfBoundsException", rfl, fun y hy => absurd hy List.not_mem_nil, by decide, by decide, q532, by decide +kernel, fun q => ?_⟩
      refine v_astore E dX0_signChanges_15 (zlt hL rfl) (lv' := [(5, .ref q), (0, .ref x), (1, vi v0), (2, vi v1), (3, vi v2), (4, .ref o)]) rfl ?_
      refine v_iconst E dX0_signChanges_17 ?_
      refine v_iret E hE dX0_signChanges_18 ?_
      exact ⟨by rw [e9], Or.inr ⟨by omega, hPX, ho9⟩⟩
    · skip
      refine ⟨[(⟨0, 12, 15, 13⟩ : ExceptionTableEntry)], [(⟨0, 12, 23, 54⟩ : ExceptionTableEntry)], (⟨0, 12, 19, 15⟩ : ExceptionTableEntry), "java/lang/IllegalArgumentException", rfl, fun y hy => by
        simp only [List.mem_cons, List.not_mem_nil, or_false] at hy
        subst hy
        exact ⟨by decide, "java/lang/IndexOutOfBoundsException", q532, by decide +kernel⟩, by decide, by decide, q565, by decide +kernel, fun q => ?_⟩
      refine v_astore E dX0_signChanges_19 (zlt hL rfl) (lv' := [(5, .ref q), (0, .ref x), (1, vi v0), (2, vi v1), (3, vi v2), (4, .ref o)]) rfl ?_
      refine v_iconst E dX0_signChanges_21 ?_
      refine v_iret E hE dX0_signChanges_22 ?_
      exact ⟨by rw [e9], Or.inr ⟨by omega, hPX, ho9⟩⟩
    · skip
      refine ⟨[(⟨0, 12, 15, 13⟩ : ExceptionTableEntry), (⟨0, 12, 19, 15⟩ : ExceptionTableEntry)], [], (⟨0, 12, 23, 54⟩ : ExceptionTableEntry), "java/lang/ArithmeticException", rfl, fun y hy => by
        simp only [List.mem_cons, List.not_mem_nil, or_false] at hy
        rcases hy with rfl | rfl
        · exact ⟨by decide, "java/lang/IndexOutOfBoundsException", q532, by decide +kernel⟩
        · exact ⟨by decide, "java/lang/IllegalArgumentException", q565, by decide +kernel⟩, by decide, by decide, q1453, by decide +kernel, fun q => ?_⟩
      refine v_astore E dX0_signChanges_23 (zlt hL rfl) (lv' := [(5, .ref q), (0, .ref x), (1, vi v0), (2, vi v1), (3, vi v2), (4, .ref o)]) rfl ?_
      refine v_iconst E dX0_signChanges_25 ?_
      refine v_iret E hE dX0_signChanges_26 ?_
      exact ⟨by rw [e9], Or.inr ⟨by omega, hPX, ho9⟩⟩
  · obtain ⟨e0, rfl, hPO⟩ := hpost
    have ho1 := ho.kept (hkk o ho.lt hoA)
    refine v_i2l E (hr1 e0) dX0_signChanges_10 ?_
    refine v_last E dX0_signChanges_11 ho1 0 rfl (by decide) (by decide) hAo (fun H2 ho2 hs2 => ?_)
    refine v_goto E (tgt := 27) dX0_signChanges_12 (by decide) ?_
    refine v_iconst E dX0_signChanges_27 ?_
    refine v_iret E hE dX0_signChanges_28 ?_
    exact ⟨by rw [e0], Or.inl ⟨e0, hk _ _ hPO hs2 ho1, _, ho2, by rw [va_upj]⟩⟩
set_option maxHeartbeats 400000 in
/-- sign, caught -/
theorem w_sign (κ : zK) (H0 : Heap) {x o : Nat} {fs : List Value} {v0 v1 v2 r1 r2 : Int} {f : Nat → Int} {mc2 ms2 : Nat} {PO PX : Heap → Prop} (hx : hp κ H0 x (.inr (0, fs))) (ho : hp κ H0 o (eJ κ 1 f)) (hr1 : r2 = 0 → rI r1) (hoA : ¬ pA κ H0 o) (hM : MtX κ yX1_sign cX1_sign 4 (some .int) 7 181 mc2 ms2 H0 [.ref x, vi v0, vi v1, vi v2] (pA κ H0) (fun v H1 => r2 = 0 ∧ v = some (vi r1) ∧ PO H1) (fun C H1 => (C = "java/lang/IndexOutOfBoundsException" ∧ r2 = 1 ∨ C = "java/lang/IllegalArgumentException" ∧ r2 = 2) ∧ PX H1)) (hk : ∀ H1 H2, PO H1 → zSame H1 H2 o → hp κ H1 o (eJ κ 1 f) → PO H2) : MtW κ yX0_sign cX0_sign 6 (some .int) [((0 : Nat), (12 : Nat), (15 : Nat), (13 : Nat)), ((0 : Nat), (12 : Nat), (19 : Nat), (15 : Nat))] 8 204 mc2 ms2 H0 [.ref x, vi v0, vi v1, vi v2, .ref o] (fun q => pA κ H0 q ∨ q = o) (fun v H1 => v = some (vi r2) ∧ ((r2 = 0 ∧ PO H1 ∧ ∃ g : Nat → Int, hp κ H1 o (eJ κ 1 g) ∧ g 0 = r1) ∨ (r2 ≠ 0 ∧ PX H1 ∧ hp κ H1 o (eJ κ 1 f)))) := by
  refine MtW.of (by decide) (Nat.le_of_ble_eq_true rfl) ?_
  intro z E X9 hE hH0 hA0 hL hini
  have E : zOK z cX0_sign RX0 κ 8 204 (some .int) := E
  have hAll : ∀ q, pA κ H0 q → zA z.A z.H0 q := fun q h => Or.inl (by rw [hA0]; exact Or.inl h)
  have hAo : zA z.A z.H0 o := Or.inl (by rw [hA0]; exact Or.inr rfl)
  refine V.eqL (lv' := [(0, .ref x), (1, vi v0), (2, vi v1), (3, vi v2), (4, .ref o)]) rfl ?_
  refine v_aload E 4 rfl dX0_sign_0 ?_
  refine v_iconst E dX0_sign_2 ?_
  refine v_aload_n E 0 rfl dX0_sign_3 ?_
  refine v_iload_n E 1 rfl dX0_sign_4 ?_
  refine v_iload_n E 2 rfl dX0_sign_5 ?_
  refine v_iload_n E 3 rfl dX0_sign_6 ?_
  refine v_callVK E X9 (As := [vi v0, vi v1, vi v2]) (b := x) (ci := 0) (C := RX1) (T := TX1) (N := 3) hx rfl hM (lw_V q1540 q1541 q1542 q70 q1543) 3 (by decide +kernel) rfl (by decide) (by decide) (cb' := 0) (sb' := 0) (by omega) (by omega) rfl (rest := [vi 0, .ref o]) (Nat.le_of_ble_eq_true rfl) hAll dX0_sign_7 (fun C9 H9 hx9 hz9 hk9 => ?_) (fun v9 H1 hpost hz hkk => ?_)
  · obtain ⟨hC, hPX⟩ := hx9
    have ho9 := ho.kept (hk9 o ho.lt hoA)
    rcases hC with ⟨rfl, e9⟩ | ⟨rfl, e9⟩
    · skip
      refine ⟨[], [(⟨0, 12, 19, 15⟩ : ExceptionTableEntry)], (⟨0, 12, 15, 13⟩ : ExceptionTableEntry), "java/lang/IndexOutOfBoundsException", rfl, fun y hy => absurd hy List.not_mem_nil, by decide, by decide, q532, by decide +kernel, fun q => ?_⟩
      refine v_astore E dX0_sign_15 (zlt hL rfl) (lv' := [(5, .ref q), (0, .ref x), (1, vi v0), (2, vi v1), (3, vi v2), (4, .ref o)]) rfl ?_
      refine v_iconst E dX0_sign_17 ?_
      refine v_iret E hE dX0_sign_18 ?_
      exact ⟨by rw [e9], Or.inr ⟨by omega, hPX, ho9⟩⟩
    · skip
      refine ⟨[(⟨0, 12, 15, 13⟩ : ExceptionTableEntry)], [], (⟨0, 12, 19, 15⟩ : ExceptionTableEntry), "java/lang/IllegalArgumentException", rfl, fun y hy => by
        simp only [List.mem_cons, List.not_mem_nil, or_false] at hy
        subst hy
        exact ⟨by decide, "java/lang/IndexOutOfBoundsException", q532, by decide +kernel⟩, by decide, by decide, q565, by decide +kernel, fun q => ?_⟩
      refine v_astore E dX0_sign_19 (zlt hL rfl) (lv' := [(5, .ref q), (0, .ref x), (1, vi v0), (2, vi v1), (3, vi v2), (4, .ref o)]) rfl ?_
      refine v_iconst E dX0_sign_21 ?_
      refine v_iret E hE dX0_sign_22 ?_
      exact ⟨by rw [e9], Or.inr ⟨by omega, hPX, ho9⟩⟩
  · obtain ⟨e0, rfl, hPO⟩ := hpost
    have ho1 := ho.kept (hkk o ho.lt hoA)
    refine v_i2l E (hr1 e0) dX0_sign_10 ?_
    refine v_last E dX0_sign_11 ho1 0 rfl (by decide) (by decide) hAo (fun H2 ho2 hs2 => ?_)
    refine v_goto E (tgt := 23) dX0_sign_12 (by decide) ?_
    refine v_iconst E dX0_sign_23 ?_
    refine v_iret E hE dX0_sign_24 ?_
    exact ⟨by rw [e0], Or.inl ⟨e0, hk _ _ hPO hs2 ho1, _, ho2, by rw [va_upj]⟩⟩
set_option maxHeartbeats 400000 in
/-- countDistinct, caught -/
theorem w_countDistinct (κ : zK) (H0 : Heap) {x o : Nat} {fs : List Value} {v0 v1 v2 v3 v4 r1 r2 : Int} {f : Nat → Int} {mc2 ms2 : Nat} {PO PX : Heap → Prop} (hx : hp κ H0 x (.inr (0, fs))) (ho : hp κ H0 o (eJ κ 1 f)) (hr1 : r2 = 0 → rI r1) (hoA : ¬ pA κ H0 o) (hM : MtX κ yX1_countDistinct cX1_countDistinct 7 (some .int) 14 380 mc2 ms2 H0 [.ref x, vi v0, vi v1, vi v2, vi v3, vi v4] (pA κ H0) (fun v H1 => r2 = 0 ∧ v = some (vi r1) ∧ PO H1) (fun C H1 => (C = "java/lang/IndexOutOfBoundsException" ∧ r2 = 1 ∨ C = "java/lang/IllegalArgumentException" ∧ r2 = 2 ∨ C = "java/lang/ArithmeticException" ∧ r2 = 3 ∨ C = "java/lang/IllegalStateException" ∧ r2 = 4) ∧ PX H1)) (hk : ∀ H1 H2, PO H1 → zSame H1 H2 o → hp κ H1 o (eJ κ 1 f) → PO H2) : MtW κ yX0_countDistinct cX0_countDistinct 8 (some .int) [((0 : Nat), (16 : Nat), (19 : Nat), (13 : Nat)), ((0 : Nat), (16 : Nat), (23 : Nat), (15 : Nat)), ((0 : Nat), (16 : Nat), (27 : Nat), (54 : Nat)), ((0 : Nat), (16 : Nat), (31 : Nat), (31 : Nat))] 15 406 mc2 ms2 H0 [.ref x, vi v0, vi v1, vi v2, vi v3, vi v4, .ref o] (fun q => pA κ H0 q ∨ q = o) (fun v H1 => v = some (vi r2) ∧ ((r2 = 0 ∧ PO H1 ∧ ∃ g : Nat → Int, hp κ H1 o (eJ κ 1 g) ∧ g 0 = r1) ∨ (r2 ≠ 0 ∧ PX H1 ∧ hp κ H1 o (eJ κ 1 f)))) := by
  refine MtW.of (by decide) (Nat.le_of_ble_eq_true rfl) ?_
  intro z E X9 hE hH0 hA0 hL hini
  have E : zOK z cX0_countDistinct RX0 κ 15 406 (some .int) := E
  have hAll : ∀ q, pA κ H0 q → zA z.A z.H0 q := fun q h => Or.inl (by rw [hA0]; exact Or.inl h)
  have hAo : zA z.A z.H0 o := Or.inl (by rw [hA0]; exact Or.inr rfl)
  refine V.eqL (lv' := [(0, .ref x), (1, vi v0), (2, vi v1), (3, vi v2), (4, vi v3), (5, vi v4), (6, .ref o)]) rfl ?_
  refine v_aload E 6 rfl dX0_countDistinct_0 ?_
  refine v_iconst E dX0_countDistinct_2 ?_
  refine v_aload_n E 0 rfl dX0_countDistinct_3 ?_
  refine v_iload_n E 1 rfl dX0_countDistinct_4 ?_
  refine v_iload_n E 2 rfl dX0_countDistinct_5 ?_
  refine v_iload_n E 3 rfl dX0_countDistinct_6 ?_
  refine v_iload E 4 rfl dX0_countDistinct_7 ?_
  refine v_iload E 5 rfl dX0_countDistinct_9 ?_
  refine v_callVK E X9 (As := [vi v0, vi v1, vi v2, vi v3, vi v4]) (b := x) (ci := 0) (C := RX1) (T := TX1) (N := 3) hx rfl hM (lw_V q1547 q1548 q1549 q70 q1550) 5 (by decide +kernel) rfl (by decide) (by decide) (cb' := 0) (sb' := 0) (by omega) (by omega) rfl (rest := [vi 0, .ref o]) (Nat.le_of_ble_eq_true rfl) hAll dX0_countDistinct_11 (fun C9 H9 hx9 hz9 hk9 => ?_) (fun v9 H1 hpost hz hkk => ?_)
  · obtain ⟨hC, hPX⟩ := hx9
    have ho9 := ho.kept (hk9 o ho.lt hoA)
    rcases hC with ⟨rfl, e9⟩ | ⟨rfl, e9⟩ | ⟨rfl, e9⟩ | ⟨rfl, e9⟩
    · skip
      refine ⟨[], [(⟨0, 16, 23, 15⟩ : ExceptionTableEntry), (⟨0, 16, 27, 54⟩ : ExceptionTableEntry), (⟨0, 16, 31, 31⟩ : ExceptionTableEntry)], (⟨0, 16, 19, 13⟩ : ExceptionTableEntry), "java/lang/IndexOutOfBoundsException", rfl, fun y hy => absurd hy List.not_mem_nil, by decide, by decide, q532, by decide +kernel, fun q => ?_⟩
      refine v_astore E dX0_countDistinct_19 (zlt hL rfl) (lv' := [(7, .ref q), (0, .ref x), (1, vi v0), (2, vi v1), (3, vi v2), (4, vi v3), (5, vi v4), (6, .ref o)]) rfl ?_
      refine v_iconst E dX0_countDistinct_21 ?_
      refine v_iret E hE dX0_countDistinct_22 ?_
      exact ⟨by rw [e9], Or.inr ⟨by omega, hPX, ho9⟩⟩
    · skip
      refine ⟨[(⟨0, 16, 19, 13⟩ : ExceptionTableEntry)], [(⟨0, 16, 27, 54⟩ : ExceptionTableEntry), (⟨0, 16, 31, 31⟩ : ExceptionTableEntry)], (⟨0, 16, 23, 15⟩ : ExceptionTableEntry), "java/lang/IllegalArgumentException", rfl, fun y hy => by
        simp only [List.mem_cons, List.not_mem_nil, or_false] at hy
        subst hy
        exact ⟨by decide, "java/lang/IndexOutOfBoundsException", q532, by decide +kernel⟩, by decide, by decide, q565, by decide +kernel, fun q => ?_⟩
      refine v_astore E dX0_countDistinct_23 (zlt hL rfl) (lv' := [(7, .ref q), (0, .ref x), (1, vi v0), (2, vi v1), (3, vi v2), (4, vi v3), (5, vi v4), (6, .ref o)]) rfl ?_
      refine v_iconst E dX0_countDistinct_25 ?_
      refine v_iret E hE dX0_countDistinct_26 ?_
      exact ⟨by rw [e9], Or.inr ⟨by omega, hPX, ho9⟩⟩
    · skip
      refine ⟨[(⟨0, 16, 19, 13⟩ : ExceptionTableEntry), (⟨0, 16, 23, 15⟩ : ExceptionTableEntry)], [(⟨0, 16, 31, 31⟩ : ExceptionTableEntry)], (⟨0, 16, 27, 54⟩ : ExceptionTableEntry), "java/lang/ArithmeticException", rfl, fun y hy => by
        simp only [List.mem_cons, List.not_mem_nil, or_false] at hy
        rcases hy with rfl | rfl
        · exact ⟨by decide, "java/lang/IndexOutOfBoundsException", q532, by decide +kernel⟩
        · exact ⟨by decide, "java/lang/IllegalArgumentException", q565, by decide +kernel⟩, by decide, by decide, q1453, by decide +kernel, fun q => ?_⟩
      refine v_astore E dX0_countDistinct_27 (zlt hL rfl) (lv' := [(7, .ref q), (0, .ref x), (1, vi v0), (2, vi v1), (3, vi v2), (4, vi v3), (5, vi v4), (6, .ref o)]) rfl ?_
      refine v_iconst E dX0_countDistinct_29 ?_
      refine v_iret E hE dX0_countDistinct_30 ?_
      exact ⟨by rw [e9], Or.inr ⟨by omega, hPX, ho9⟩⟩
    · skip
      refine ⟨[(⟨0, 16, 19, 13⟩ : ExceptionTableEntry), (⟨0, 16, 23, 15⟩ : ExceptionTableEntry), (⟨0, 16, 27, 54⟩ : ExceptionTableEntry)], [], (⟨0, 16, 31, 31⟩ : ExceptionTableEntry), "java/lang/IllegalStateException", rfl, fun y hy => by
        simp only [List.mem_cons, List.not_mem_nil, or_false] at hy
        rcases hy with rfl | rfl | rfl
        · exact ⟨by decide, "java/lang/IndexOutOfBoundsException", q532, by decide +kernel⟩
        · exact ⟨by decide, "java/lang/IllegalArgumentException", q565, by decide +kernel⟩
        · exact ⟨by decide, "java/lang/ArithmeticException", q1453, by decide +kernel⟩, by decide, by decide, q699, by decide +kernel, fun q => ?_⟩
      refine v_astore E dX0_countDistinct_31 (zlt hL rfl) (lv' := [(7, .ref q), (0, .ref x), (1, vi v0), (2, vi v1), (3, vi v2), (4, vi v3), (5, vi v4), (6, .ref o)]) rfl ?_
      refine v_iconst E dX0_countDistinct_33 ?_
      refine v_iret E hE dX0_countDistinct_34 ?_
      exact ⟨by rw [e9], Or.inr ⟨by omega, hPX, ho9⟩⟩
  · obtain ⟨e0, rfl, hPO⟩ := hpost
    have ho1 := ho.kept (hkk o ho.lt hoA)
    refine v_i2l E (hr1 e0) dX0_countDistinct_14 ?_
    refine v_last E dX0_countDistinct_15 ho1 0 rfl (by decide) (by decide) hAo (fun H2 ho2 hs2 => ?_)
    refine v_goto E (tgt := 35) dX0_countDistinct_16 (by decide) ?_
    refine v_iconst E dX0_countDistinct_35 ?_
    refine v_iret E hE dX0_countDistinct_36 ?_
    exact ⟨by rw [e0], Or.inl ⟨e0, hk _ _ hPO hs2 ho1, _, ho2, by rw [va_upj]⟩⟩
set_option maxHeartbeats 400000 in
/-- countAll, caught -/
theorem w_countAll (κ : zK) (H0 : Heap) {x o : Nat} {fs : List Value} {v0 v1 v2 v3 v4 r1 r2 : Int} {f : Nat → Int} {mc2 ms2 : Nat} {PO PX : Heap → Prop} (hx : hp κ H0 x (.inr (0, fs))) (ho : hp κ H0 o (eJ κ 1 f)) (hr1 : r2 = 0 → rI r1) (hoA : ¬ pA κ H0 o) (hM : MtX κ yX1_countAll cX1_countAll 8 (some .int) 15 400 mc2 ms2 H0 [.ref x, vi v0, vi v1, vi v2, vi v3, vi v4] (pA κ H0) (fun v H1 => r2 = 0 ∧ v = some (vi r1) ∧ PO H1) (fun C H1 => (C = "java/lang/IndexOutOfBoundsException" ∧ r2 = 1 ∨ C = "java/lang/IllegalArgumentException" ∧ r2 = 2 ∨ C = "java/lang/ArithmeticException" ∧ r2 = 3 ∨ C = "java/lang/IllegalStateException" ∧ r2 = 4) ∧ PX H1)) (hk : ∀ H1 H2, PO H1 → zSame H1 H2 o → hp κ H1 o (eJ κ 1 f) → PO H2) : MtW κ yX0_countAll cX0_countAll 8 (some .int) [((0 : Nat), (16 : Nat), (19 : Nat), (13 : Nat)), ((0 : Nat), (16 : Nat), (23 : Nat), (15 : Nat)), ((0 : Nat), (16 : Nat), (27 : Nat), (54 : Nat)), ((0 : Nat), (16 : Nat), (31 : Nat), (31 : Nat))] 16 427 mc2 ms2 H0 [.ref x, vi v0, vi v1, vi v2, vi v3, vi v4, .ref o] (fun q => pA κ H0 q ∨ q = o) (fun v H1 => v = some (vi r2) ∧ ((r2 = 0 ∧ PO H1 ∧ ∃ g : Nat → Int, hp κ H1 o (eJ κ 1 g) ∧ g 0 = r1) ∨ (r2 ≠ 0 ∧ PX H1 ∧ hp κ H1 o (eJ κ 1 f)))) := by
  refine MtW.of (by decide) (Nat.le_of_ble_eq_true rfl) ?_
  intro z E X9 hE hH0 hA0 hL hini
  have E : zOK z cX0_countAll RX0 κ 16 427 (some .int) := E
  have hAll : ∀ q, pA κ H0 q → zA z.A z.H0 q := fun q h => Or.inl (by rw [hA0]; exact Or.inl h)
  have hAo : zA z.A z.H0 o := Or.inl (by rw [hA0]; exact Or.inr rfl)
  refine V.eqL (lv' := [(0, .ref x), (1, vi v0), (2, vi v1), (3, vi v2), (4, vi v3), (5, vi v4), (6, .ref o)]) rfl ?_
  refine v_aload E 6 rfl dX0_countAll_0 ?_
  refine v_iconst E dX0_countAll_2 ?_
  refine v_aload_n E 0 rfl dX0_countAll_3 ?_
  refine v_iload_n E 1 rfl dX0_countAll_4 ?_
  refine v_iload_n E 2 rfl dX0_countAll_5 ?_
  refine v_iload_n E 3 rfl dX0_countAll_6 ?_
  refine v_iload E 4 rfl dX0_countAll_7 ?_
  refine v_iload E 5 rfl dX0_countAll_9 ?_
  refine v_callVK E X9 (As := [vi v0, vi v1, vi v2, vi v3, vi v4]) (b := x) (ci := 0) (C := RX1) (T := TX1) (N := 3) hx rfl hM (lw_V q1558 q1559 q1560 q70 q1561) 5 (by decide +kernel) rfl (by decide) (by decide) (cb' := 0) (sb' := 0) (by omega) (by omega) rfl (rest := [vi 0, .ref o]) (Nat.le_of_ble_eq_true rfl) hAll dX0_countAll_11 (fun C9 H9 hx9 hz9 hk9 => ?_) (fun v9 H1 hpost hz hkk => ?_)
  · obtain ⟨hC, hPX⟩ := hx9
    have ho9 := ho.kept (hk9 o ho.lt hoA)
    rcases hC with ⟨rfl, e9⟩ | ⟨rfl, e9⟩ | ⟨rfl, e9⟩ | ⟨rfl, e9⟩
    · skip
      refine ⟨[], [(⟨0, 16, 23, 15⟩ : ExceptionTableEntry), (⟨0, 16, 27, 54⟩ : ExceptionTableEntry), (⟨0, 16, 31, 31⟩ : ExceptionTableEntry)], (⟨0, 16, 19, 13⟩ : ExceptionTableEntry), "java/lang/IndexOutOfBoundsException", rfl, fun y hy => absurd hy List.not_mem_nil, by decide, by decide, q532, by decide +kernel, fun q => ?_⟩
      refine v_astore E dX0_countAll_19 (zlt hL rfl) (lv' := [(7, .ref q), (0, .ref x), (1, vi v0), (2, vi v1), (3, vi v2), (4, vi v3), (5, vi v4), (6, .ref o)]) rfl ?_
      refine v_iconst E dX0_countAll_21 ?_
      refine v_iret E hE dX0_countAll_22 ?_
      exact ⟨by rw [e9], Or.inr ⟨by omega, hPX, ho9⟩⟩
    · skip
      refine ⟨[(⟨0, 16, 19, 13⟩ : ExceptionTableEntry)], [(⟨0, 16, 27, 54⟩ : ExceptionTableEntry), (⟨0, 16, 31, 31⟩ : ExceptionTableEntry)], (⟨0, 16, 23, 15⟩ : ExceptionTableEntry), "java/lang/IllegalArgumentException", rfl, fun y hy => by
        simp only [List.mem_cons, List.not_mem_nil, or_false] at hy
        subst hy
        exact ⟨by decide, "java/lang/IndexOutOfBoundsException", q532, by decide +kernel⟩, by decide, by decide, q565, by decide +kernel, fun q => ?_⟩
      refine v_astore E dX0_countAll_23 (zlt hL rfl) (lv' := [(7, .ref q), (0, .ref x), (1, vi v0), (2, vi v1), (3, vi v2), (4, vi v3), (5, vi v4), (6, .ref o)]) rfl ?_
      refine v_iconst E dX0_countAll_25 ?_
      refine v_iret E hE dX0_countAll_26 ?_
      exact ⟨by rw [e9], Or.inr ⟨by omega, hPX, ho9⟩⟩
    · skip
      refine ⟨[(⟨0, 16, 19, 13⟩ : ExceptionTableEntry), (⟨0, 16, 23, 15⟩ : ExceptionTableEntry)], [(⟨0, 16, 31, 31⟩ : ExceptionTableEntry)], (⟨0, 16, 27, 54⟩ : ExceptionTableEntry), "java/lang/ArithmeticException", rfl, fun y hy => by
        simp only [List.mem_cons, List.not_mem_nil, or_false] at hy
        rcases hy with rfl | rfl
        · exact ⟨by decide, "java/lang/IndexOutOfBoundsException", q532, by decide +kernel⟩
        · exact ⟨by decide, "java/lang/IllegalArgumentException", q565, by decide +kernel⟩, by decide, by decide, q1453, by decide +kernel, fun q => ?_⟩
      refine v_astore E dX0_countAll_27 (zlt hL rfl) (lv' := [(7, .ref q), (0, .ref x), (1, vi v0), (2, vi v1), (3, vi v2), (4, vi v3), (5, vi v4), (6, .ref o)]) rfl ?_
      refine v_iconst E dX0_countAll_29 ?_
      refine v_iret E hE dX0_countAll_30 ?_
      exact ⟨by rw [e9], Or.inr ⟨by omega, hPX, ho9⟩⟩
    · skip
      refine ⟨[(⟨0, 16, 19, 13⟩ : ExceptionTableEntry), (⟨0, 16, 23, 15⟩ : ExceptionTableEntry), (⟨0, 16, 27, 54⟩ : ExceptionTableEntry)], [], (⟨0, 16, 31, 31⟩ : ExceptionTableEntry), "java/lang/IllegalStateException", rfl, fun y hy => by
        simp only [List.mem_cons, List.not_mem_nil, or_false] at hy
        rcases hy with rfl | rfl | rfl
        · exact ⟨by decide, "java/lang/IndexOutOfBoundsException", q532, by decide +kernel⟩
        · exact ⟨by decide, "java/lang/IllegalArgumentException", q565, by decide +kernel⟩
        · exact ⟨by decide, "java/lang/ArithmeticException", q1453, by decide +kernel⟩, by decide, by decide, q699, by decide +kernel, fun q => ?_⟩
      refine v_astore E dX0_countAll_31 (zlt hL rfl) (lv' := [(7, .ref q), (0, .ref x), (1, vi v0), (2, vi v1), (3, vi v2), (4, vi v3), (5, vi v4), (6, .ref o)]) rfl ?_
      refine v_iconst E dX0_countAll_33 ?_
      refine v_iret E hE dX0_countAll_34 ?_
      exact ⟨by rw [e9], Or.inr ⟨by omega, hPX, ho9⟩⟩
  · obtain ⟨e0, rfl, hPO⟩ := hpost
    have ho1 := ho.kept (hkk o ho.lt hoA)
    refine v_i2l E (hr1 e0) dX0_countAll_14 ?_
    refine v_last E dX0_countAll_15 ho1 0 rfl (by decide) (by decide) hAo (fun H2 ho2 hs2 => ?_)
    refine v_goto E (tgt := 35) dX0_countAll_16 (by decide) ?_
    refine v_iconst E dX0_countAll_35 ?_
    refine v_iret E hE dX0_countAll_36 ?_
    exact ⟨by rw [e0], Or.inl ⟨e0, hk _ _ hPO hs2 ho1, _, ho2, by rw [va_upj]⟩⟩
set_option maxHeartbeats 400000 in
/-- distinctRoots, caught -/
theorem w_distinctRoots (κ : zK) (H0 : Heap) {x o : Nat} {fs : List Value} {v0 r1 r2 : Int} {f : Nat → Int} {mc2 ms2 : Nat} {PO PX : Heap → Prop} (hx : hp κ H0 x (.inr (0, fs))) (ho : hp κ H0 o (eJ κ 1 f)) (hr1 : r2 = 0 → rI r1) (hoA : ¬ pA κ H0 o) (hM : MtX κ yX1_distinctRoots cX1_distinctRoots 2 (some .int) 14 380 mc2 ms2 H0 [.ref x, vi v0] (pA κ H0) (fun v H1 => r2 = 0 ∧ v = some (vi r1) ∧ PO H1) (fun C H1 => (C = "java/lang/IndexOutOfBoundsException" ∧ r2 = 1 ∨ C = "java/lang/ArithmeticException" ∧ r2 = 2) ∧ PX H1)) (hk : ∀ H1 H2, PO H1 → zSame H1 H2 o → hp κ H1 o (eJ κ 1 f) → PO H2) : MtW κ yX0_distinctRoots cX0_distinctRoots 4 (some .int) [((0 : Nat), (9 : Nat), (12 : Nat), (13 : Nat)), ((0 : Nat), (9 : Nat), (15 : Nat), (54 : Nat))] 15 401 mc2 ms2 H0 [.ref x, vi v0, .ref o] (fun q => pA κ H0 q ∨ q = o) (fun v H1 => v = some (vi r2) ∧ ((r2 = 0 ∧ PO H1 ∧ ∃ g : Nat → Int, hp κ H1 o (eJ κ 1 g) ∧ g 0 = r1) ∨ (r2 ≠ 0 ∧ PX H1 ∧ hp κ H1 o (eJ κ 1 f)))) := by
  refine MtW.of (by decide) (Nat.le_of_ble_eq_true rfl) ?_
  intro z E X9 hE hH0 hA0 hL hini
  have E : zOK z cX0_distinctRoots RX0 κ 15 401 (some .int) := E
  have hAll : ∀ q, pA κ H0 q → zA z.A z.H0 q := fun q h => Or.inl (by rw [hA0]; exact Or.inl h)
  have hAo : zA z.A z.H0 o := Or.inl (by rw [hA0]; exact Or.inr rfl)
  refine V.eqL (lv' := [(0, .ref x), (1, vi v0), (2, .ref o)]) rfl ?_
  refine v_aload_n E 2 rfl dX0_distinctRoots_0 ?_
  refine v_iconst E dX0_distinctRoots_1 ?_
  refine v_aload_n E 0 rfl dX0_distinctRoots_2 ?_
  refine v_iload_n E 1 rfl dX0_distinctRoots_3 ?_
  refine v_callVK E X9 (As := [vi v0]) (b := x) (ci := 0) (C := RX1) (T := TX1) (N := 3) hx rfl hM (lw_V q1566 q1567 q1568 q70 q1569) 1 (by decide +kernel) rfl (by decide) (by decide) (cb' := 0) (sb' := 0) (by omega) (by omega) rfl (rest := [vi 0, .ref o]) (Nat.le_of_ble_eq_true rfl) hAll dX0_distinctRoots_4 (fun C9 H9 hx9 hz9 hk9 => ?_) (fun v9 H1 hpost hz hkk => ?_)
  · obtain ⟨hC, hPX⟩ := hx9
    have ho9 := ho.kept (hk9 o ho.lt hoA)
    rcases hC with ⟨rfl, e9⟩ | ⟨rfl, e9⟩
    · skip
      refine ⟨[], [(⟨0, 9, 15, 54⟩ : ExceptionTableEntry)], (⟨0, 9, 12, 13⟩ : ExceptionTableEntry), "java/lang/IndexOutOfBoundsException", rfl, fun y hy => absurd hy List.not_mem_nil, by decide, by decide, q532, by decide +kernel, fun q => ?_⟩
      refine v_astore_n E dX0_distinctRoots_12 (zlt hL rfl) (lv' := [(3, .ref q), (0, .ref x), (1, vi v0), (2, .ref o)]) rfl ?_
      refine v_iconst E dX0_distinctRoots_13 ?_
      refine v_iret E hE dX0_distinctRoots_14 ?_
      exact ⟨by rw [e9], Or.inr ⟨by omega, hPX, ho9⟩⟩
    · skip
      refine ⟨[(⟨0, 9, 12, 13⟩ : ExceptionTableEntry)], [], (⟨0, 9, 15, 54⟩ : ExceptionTableEntry), "java/lang/ArithmeticException", rfl, fun y hy => by
        simp only [List.mem_cons, List.not_mem_nil, or_false] at hy
        subst hy
        exact ⟨by decide, "java/lang/IndexOutOfBoundsException", q532, by decide +kernel⟩, by decide, by decide, q1453, by decide +kernel, fun q => ?_⟩
      refine v_astore_n E dX0_distinctRoots_15 (zlt hL rfl) (lv' := [(3, .ref q), (0, .ref x), (1, vi v0), (2, .ref o)]) rfl ?_
      refine v_iconst E dX0_distinctRoots_16 ?_
      refine v_iret E hE dX0_distinctRoots_17 ?_
      exact ⟨by rw [e9], Or.inr ⟨by omega, hPX, ho9⟩⟩
  · obtain ⟨e0, rfl, hPO⟩ := hpost
    have ho1 := ho.kept (hkk o ho.lt hoA)
    refine v_i2l E (hr1 e0) dX0_distinctRoots_7 ?_
    refine v_last E dX0_distinctRoots_8 ho1 0 rfl (by decide) (by decide) hAo (fun H2 ho2 hs2 => ?_)
    refine v_goto E (tgt := 18) dX0_distinctRoots_9 (by decide) ?_
    refine v_iconst E dX0_distinctRoots_18 ?_
    refine v_iret E hE dX0_distinctRoots_19 ?_
    exact ⟨by rw [e0], Or.inl ⟨e0, hk _ _ hPO hs2 ho1, _, ho2, by rw [va_upj]⟩⟩
set_option maxHeartbeats 400000 in
/-- coefficientSignChanges, caught -/
theorem w_coefficientSignChanges (κ : zK) (H0 : Heap) {x o : Nat} {fs : List Value} {v0 r1 r2 : Int} {f : Nat → Int} {mc2 ms2 : Nat} {PO PX : Heap → Prop} (hx : hp κ H0 x (.inr (0, fs))) (ho : hp κ H0 o (eJ κ 1 f)) (hr1 : r2 = 0 → rI r1) (hoA : ¬ pA κ H0 o) (hM : MtX κ yX1_coefficientSignChanges cX1_coefficientSignChanges 2 (some .int) 7 101 mc2 ms2 H0 [.ref x, vi v0] (pA κ H0) (fun v H1 => r2 = 0 ∧ v = some (vi r1) ∧ PO H1) (fun C H1 => (C = "java/lang/IndexOutOfBoundsException" ∧ r2 = 1) ∧ PX H1)) (hk : ∀ H1 H2, PO H1 → zSame H1 H2 o → hp κ H1 o (eJ κ 1 f) → PO H2) : MtW κ yX0_coefficientSignChanges cX0_coefficientSignChanges 4 (some .int) [((0 : Nat), (9 : Nat), (12 : Nat), (13 : Nat))] 8 122 mc2 ms2 H0 [.ref x, vi v0, .ref o] (fun q => pA κ H0 q ∨ q = o) (fun v H1 => v = some (vi r2) ∧ ((r2 = 0 ∧ PO H1 ∧ ∃ g : Nat → Int, hp κ H1 o (eJ κ 1 g) ∧ g 0 = r1) ∨ (r2 ≠ 0 ∧ PX H1 ∧ hp κ H1 o (eJ κ 1 f)))) := by
  refine MtW.of (by decide) (Nat.le_of_ble_eq_true rfl) ?_
  intro z E X9 hE hH0 hA0 hL hini
  have E : zOK z cX0_coefficientSignChanges RX0 κ 8 122 (some .int) := E
  have hAll : ∀ q, pA κ H0 q → zA z.A z.H0 q := fun q h => Or.inl (by rw [hA0]; exact Or.inl h)
  have hAo : zA z.A z.H0 o := Or.inl (by rw [hA0]; exact Or.inr rfl)
  refine V.eqL (lv' := [(0, .ref x), (1, vi v0), (2, .ref o)]) rfl ?_
  refine v_aload_n E 2 rfl dX0_coefficientSignChanges_0 ?_
  refine v_iconst E dX0_coefficientSignChanges_1 ?_
  refine v_aload_n E 0 rfl dX0_coefficientSignChanges_2 ?_
  refine v_iload_n E 1 rfl dX0_coefficientSignChanges_3 ?_
  refine v_callVK E X9 (As := [vi v0]) (b := x) (ci := 0) (C := RX1) (T := TX1) (N := 3) hx rfl hM (lw_V q1576 q1577 q1578 q70 q1579) 1 (by decide +kernel) rfl (by decide) (by decide) (cb' := 0) (sb' := 0) (by omega) (by omega) rfl (rest := [vi 0, .ref o]) (Nat.le_of_ble_eq_true rfl) hAll dX0_coefficientSignChanges_4 (fun C9 H9 hx9 hz9 hk9 => ?_) (fun v9 H1 hpost hz hkk => ?_)
  · obtain ⟨hC, hPX⟩ := hx9
    have ho9 := ho.kept (hk9 o ho.lt hoA)
    obtain ⟨rfl, e9⟩ := hC
    refine ⟨[], [], (⟨0, 9, 12, 13⟩ : ExceptionTableEntry), "java/lang/IndexOutOfBoundsException", rfl, fun y hy => absurd hy List.not_mem_nil, by decide, by decide, q532, by decide +kernel, fun q => ?_⟩
    refine v_astore_n E dX0_coefficientSignChanges_12 (zlt hL rfl) (lv' := [(3, .ref q), (0, .ref x), (1, vi v0), (2, .ref o)]) rfl ?_
    refine v_iconst E dX0_coefficientSignChanges_13 ?_
    refine v_iret E hE dX0_coefficientSignChanges_14 ?_
    exact ⟨by rw [e9], Or.inr ⟨by omega, hPX, ho9⟩⟩
  · obtain ⟨e0, rfl, hPO⟩ := hpost
    have ho1 := ho.kept (hkk o ho.lt hoA)
    refine v_i2l E (hr1 e0) dX0_coefficientSignChanges_7 ?_
    refine v_last E dX0_coefficientSignChanges_8 ho1 0 rfl (by decide) (by decide) hAo (fun H2 ho2 hs2 => ?_)
    refine v_goto E (tgt := 15) dX0_coefficientSignChanges_9 (by decide) ?_
    refine v_iconst E dX0_coefficientSignChanges_15 ?_
    refine v_iret E hE dX0_coefficientSignChanges_16 ?_
    exact ⟨by rw [e0], Or.inl ⟨e0, hk _ _ hPO hs2 ho1, _, ho2, by rw [va_upj]⟩⟩
set_option maxHeartbeats 400000 in
/-- isolate, caught -/
theorem w_isolate (κ : zK) (H0 : Heap) {x o : Nat} {fs : List Value} {v0 r1 r2 : Int} {f : Nat → Int} {mc2 ms2 : Nat} {PO PX : Heap → Prop} (hx : hp κ H0 x (.inr (0, fs))) (ho : hp κ H0 o (eJ κ 1 f)) (hr1 : r2 = 0 → rI r1) (hoA : ¬ pA κ H0 o) (hM : MtX κ yX1_isolate cX1_isolate 6 (some .int) 14 380 mc2 ms2 H0 [.ref x, vi v0] (pA κ H0) (fun v H1 => r2 = 0 ∧ v = some (vi r1) ∧ PO H1) (fun C H1 => (C = "java/lang/IndexOutOfBoundsException" ∧ r2 = 1 ∨ C = "java/lang/ArithmeticException" ∧ r2 = 2) ∧ PX H1)) (hk : ∀ H1 H2, PO H1 → zSame H1 H2 o → hp κ H1 o (eJ κ 1 f) → PO H2) : MtW κ yX0_isolate cX0_isolate 4 (some .int) [((0 : Nat), (9 : Nat), (12 : Nat), (13 : Nat)), ((0 : Nat), (9 : Nat), (15 : Nat), (54 : Nat))] 15 405 mc2 ms2 H0 [.ref x, vi v0, .ref o] (fun q => pA κ H0 q ∨ q = o) (fun v H1 => v = some (vi r2) ∧ ((r2 = 0 ∧ PO H1 ∧ ∃ g : Nat → Int, hp κ H1 o (eJ κ 1 g) ∧ g 0 = r1) ∨ (r2 ≠ 0 ∧ PX H1 ∧ hp κ H1 o (eJ κ 1 f)))) := by
  refine MtW.of (by decide) (Nat.le_of_ble_eq_true rfl) ?_
  intro z E X9 hE hH0 hA0 hL hini
  have E : zOK z cX0_isolate RX0 κ 15 405 (some .int) := E
  have hAll : ∀ q, pA κ H0 q → zA z.A z.H0 q := fun q h => Or.inl (by rw [hA0]; exact Or.inl h)
  have hAo : zA z.A z.H0 o := Or.inl (by rw [hA0]; exact Or.inr rfl)
  refine V.eqL (lv' := [(0, .ref x), (1, vi v0), (2, .ref o)]) rfl ?_
  refine v_aload_n E 2 rfl dX0_isolate_0 ?_
  refine v_iconst E dX0_isolate_1 ?_
  refine v_aload_n E 0 rfl dX0_isolate_2 ?_
  refine v_iload_n E 1 rfl dX0_isolate_3 ?_
  refine v_callVK E X9 (As := [vi v0]) (b := x) (ci := 0) (C := RX1) (T := TX1) (N := 3) hx rfl hM (lw_V q1586 q1587 q1588 q70 q1589) 1 (by decide +kernel) rfl (by decide) (by decide) (cb' := 0) (sb' := 0) (by omega) (by omega) rfl (rest := [vi 0, .ref o]) (Nat.le_of_ble_eq_true rfl) hAll dX0_isolate_4 (fun C9 H9 hx9 hz9 hk9 => ?_) (fun v9 H1 hpost hz hkk => ?_)
  · obtain ⟨hC, hPX⟩ := hx9
    have ho9 := ho.kept (hk9 o ho.lt hoA)
    rcases hC with ⟨rfl, e9⟩ | ⟨rfl, e9⟩
    · skip
      refine ⟨[], [(⟨0, 9, 15, 54⟩ : ExceptionTableEntry)], (⟨0, 9, 12, 13⟩ : ExceptionTableEntry), "java/lang/IndexOutOfBoundsException", rfl, fun y hy => absurd hy List.not_mem_nil, by decide, by decide, q532, by decide +kernel, fun q => ?_⟩
      refine v_astore_n E dX0_isolate_12 (zlt hL rfl) (lv' := [(3, .ref q), (0, .ref x), (1, vi v0), (2, .ref o)]) rfl ?_
      refine v_iconst E dX0_isolate_13 ?_
      refine v_iret E hE dX0_isolate_14 ?_
      exact ⟨by rw [e9], Or.inr ⟨by omega, hPX, ho9⟩⟩
    · skip
      refine ⟨[(⟨0, 9, 12, 13⟩ : ExceptionTableEntry)], [], (⟨0, 9, 15, 54⟩ : ExceptionTableEntry), "java/lang/ArithmeticException", rfl, fun y hy => by
        simp only [List.mem_cons, List.not_mem_nil, or_false] at hy
        subst hy
        exact ⟨by decide, "java/lang/IndexOutOfBoundsException", q532, by decide +kernel⟩, by decide, by decide, q1453, by decide +kernel, fun q => ?_⟩
      refine v_astore_n E dX0_isolate_15 (zlt hL rfl) (lv' := [(3, .ref q), (0, .ref x), (1, vi v0), (2, .ref o)]) rfl ?_
      refine v_iconst E dX0_isolate_16 ?_
      refine v_iret E hE dX0_isolate_17 ?_
      exact ⟨by rw [e9], Or.inr ⟨by omega, hPX, ho9⟩⟩
  · obtain ⟨e0, rfl, hPO⟩ := hpost
    have ho1 := ho.kept (hkk o ho.lt hoA)
    refine v_i2l E (hr1 e0) dX0_isolate_7 ?_
    refine v_last E dX0_isolate_8 ho1 0 rfl (by decide) (by decide) hAo (fun H2 ho2 hs2 => ?_)
    refine v_goto E (tgt := 18) dX0_isolate_9 (by decide) ?_
    refine v_iconst E dX0_isolate_18 ?_
    refine v_iret E hE dX0_isolate_19 ?_
    exact ⟨by rw [e0], Or.inl ⟨e0, hk _ _ hPO hs2 ho1, _, ho2, by rw [va_upj]⟩⟩
set_option maxHeartbeats 400000 in
/-- rootsIn, caught -/
theorem w_rootsIn (κ : zK) (H0 : Heap) {x o : Nat} {fs : List Value} {v0 r1 r2 : Int} {f : Nat → Int} {mc2 ms2 : Nat} {PO PX : Heap → Prop} (hx : hp κ H0 x (.inr (0, fs))) (ho : hp κ H0 o (eJ κ 1 f)) (hr1 : r2 = 0 → rI r1) (hoA : ¬ pA κ H0 o) (hM : MtX κ yX1_rootsIn cX1_rootsIn 2 (some .int) 7 102 mc2 ms2 H0 [.ref x, vi v0] (pA κ H0) (fun v H1 => r2 = 0 ∧ v = some (vi r1) ∧ PO H1) (fun C H1 => (C = "java/lang/IndexOutOfBoundsException" ∧ r2 = 1) ∧ PX H1)) (hk : ∀ H1 H2, PO H1 → zSame H1 H2 o → hp κ H1 o (eJ κ 1 f) → PO H2) : MtW κ yX0_rootsIn cX0_rootsIn 4 (some .int) [((0 : Nat), (9 : Nat), (12 : Nat), (13 : Nat))] 8 123 mc2 ms2 H0 [.ref x, vi v0, .ref o] (fun q => pA κ H0 q ∨ q = o) (fun v H1 => v = some (vi r2) ∧ ((r2 = 0 ∧ PO H1 ∧ ∃ g : Nat → Int, hp κ H1 o (eJ κ 1 g) ∧ g 0 = r1) ∨ (r2 ≠ 0 ∧ PX H1 ∧ hp κ H1 o (eJ κ 1 f)))) := by
  refine MtW.of (by decide) (Nat.le_of_ble_eq_true rfl) ?_
  intro z E X9 hE hH0 hA0 hL hini
  have E : zOK z cX0_rootsIn RX0 κ 8 123 (some .int) := E
  have hAll : ∀ q, pA κ H0 q → zA z.A z.H0 q := fun q h => Or.inl (by rw [hA0]; exact Or.inl h)
  have hAo : zA z.A z.H0 o := Or.inl (by rw [hA0]; exact Or.inr rfl)
  refine V.eqL (lv' := [(0, .ref x), (1, vi v0), (2, .ref o)]) rfl ?_
  refine v_aload_n E 2 rfl dX0_rootsIn_0 ?_
  refine v_iconst E dX0_rootsIn_1 ?_
  refine v_aload_n E 0 rfl dX0_rootsIn_2 ?_
  refine v_iload_n E 1 rfl dX0_rootsIn_3 ?_
  refine v_callVK E X9 (As := [vi v0]) (b := x) (ci := 0) (C := RX1) (T := TX1) (N := 3) hx rfl hM (lw_V q1620 q1621 q1622 q70 q1623) 1 (by decide +kernel) rfl (by decide) (by decide) (cb' := 0) (sb' := 0) (by omega) (by omega) rfl (rest := [vi 0, .ref o]) (Nat.le_of_ble_eq_true rfl) hAll dX0_rootsIn_4 (fun C9 H9 hx9 hz9 hk9 => ?_) (fun v9 H1 hpost hz hkk => ?_)
  · obtain ⟨hC, hPX⟩ := hx9
    have ho9 := ho.kept (hk9 o ho.lt hoA)
    obtain ⟨rfl, e9⟩ := hC
    refine ⟨[], [], (⟨0, 9, 12, 13⟩ : ExceptionTableEntry), "java/lang/IndexOutOfBoundsException", rfl, fun y hy => absurd hy List.not_mem_nil, by decide, by decide, q532, by decide +kernel, fun q => ?_⟩
    refine v_astore_n E dX0_rootsIn_12 (zlt hL rfl) (lv' := [(3, .ref q), (0, .ref x), (1, vi v0), (2, .ref o)]) rfl ?_
    refine v_iconst E dX0_rootsIn_13 ?_
    refine v_iret E hE dX0_rootsIn_14 ?_
    exact ⟨by rw [e9], Or.inr ⟨by omega, hPX, ho9⟩⟩
  · obtain ⟨e0, rfl, hPO⟩ := hpost
    have ho1 := ho.kept (hkk o ho.lt hoA)
    refine v_i2l E (hr1 e0) dX0_rootsIn_7 ?_
    refine v_last E dX0_rootsIn_8 ho1 0 rfl (by decide) (by decide) hAo (fun H2 ho2 hs2 => ?_)
    refine v_goto E (tgt := 15) dX0_rootsIn_9 (by decide) ?_
    refine v_iconst E dX0_rootsIn_15 ?_
    refine v_iret E hE dX0_rootsIn_16 ?_
    exact ⟨by rw [e0], Or.inl ⟨e0, hk _ _ hPO hs2 ho1, _, ho2, by rw [va_upj]⟩⟩
set_option maxHeartbeats 400000 in
/-- interval, caught -/
theorem w_interval (κ : zK) (H0 : Heap) {x o : Nat} {fs : List Value} {v0 v1 r1 r2 : Int} {f : Nat → Int} {mc2 ms2 : Nat} {PO PX : Heap → Prop} (hx : hp κ H0 x (.inr (0, fs))) (ho : hp κ H0 o (eJ κ 1 f)) (hr1 : r2 = 0 → rI r1) (hoA : ¬ pA κ H0 o) (hM : MtX κ yX1_interval cX1_interval 4 (some .int) 7 102 mc2 ms2 H0 [.ref x, vi v0, vi v1] (pA κ H0) (fun v H1 => r2 = 0 ∧ v = some (vi r1) ∧ PO H1) (fun C H1 => (C = "java/lang/IndexOutOfBoundsException" ∧ r2 = 1 ∨ C = "java/lang/IllegalArgumentException" ∧ r2 = 2) ∧ PX H1)) (hk : ∀ H1 H2, PO H1 → zSame H1 H2 o → hp κ H1 o (eJ κ 1 f) → PO H2) : MtW κ yX0_interval cX0_interval 5 (some .int) [((0 : Nat), (10 : Nat), (13 : Nat), (13 : Nat)), ((0 : Nat), (10 : Nat), (17 : Nat), (15 : Nat))] 8 125 mc2 ms2 H0 [.ref x, vi v0, vi v1, .ref o] (fun q => pA κ H0 q ∨ q = o) (fun v H1 => v = some (vi r2) ∧ ((r2 = 0 ∧ PO H1 ∧ ∃ g : Nat → Int, hp κ H1 o (eJ κ 1 g) ∧ g 0 = r1) ∨ (r2 ≠ 0 ∧ PX H1 ∧ hp κ H1 o (eJ κ 1 f)))) := by
  refine MtW.of (by decide) (Nat.le_of_ble_eq_true rfl) ?_
  intro z E X9 hE hH0 hA0 hL hini
  have E : zOK z cX0_interval RX0 κ 8 125 (some .int) := E
  have hAll : ∀ q, pA κ H0 q → zA z.A z.H0 q := fun q h => Or.inl (by rw [hA0]; exact Or.inl h)
  have hAo : zA z.A z.H0 o := Or.inl (by rw [hA0]; exact Or.inr rfl)
  refine V.eqL (lv' := [(0, .ref x), (1, vi v0), (2, vi v1), (3, .ref o)]) rfl ?_
  refine v_aload_n E 3 rfl dX0_interval_0 ?_
  refine v_iconst E dX0_interval_1 ?_
  refine v_aload_n E 0 rfl dX0_interval_2 ?_
  refine v_iload_n E 1 rfl dX0_interval_3 ?_
  refine v_iload_n E 2 rfl dX0_interval_4 ?_
  refine v_callVK E X9 (As := [vi v0, vi v1]) (b := x) (ci := 0) (C := RX1) (T := TX1) (N := 3) hx rfl hM (lw_V q1631 q1632 q1633 q70 q1634) 2 (by decide +kernel) rfl (by decide) (by decide) (cb' := 0) (sb' := 0) (by omega) (by omega) rfl (rest := [vi 0, .ref o]) (Nat.le_of_ble_eq_true rfl) hAll dX0_interval_5 (fun C9 H9 hx9 hz9 hk9 => ?_) (fun v9 H1 hpost hz hkk => ?_)
  · obtain ⟨hC, hPX⟩ := hx9
    have ho9 := ho.kept (hk9 o ho.lt hoA)
    rcases hC with ⟨rfl, e9⟩ | ⟨rfl, e9⟩
    · skip
      refine ⟨[], [(⟨0, 10, 17, 15⟩ : ExceptionTableEntry)], (⟨0, 10, 13, 13⟩ : ExceptionTableEntry), "java/lang/IndexOutOfBoundsException", rfl, fun y hy => absurd hy List.not_mem_nil, by decide, by decide, q532, by decide +kernel, fun q => ?_⟩
      refine v_astore E dX0_interval_13 (zlt hL rfl) (lv' := [(4, .ref q), (0, .ref x), (1, vi v0), (2, vi v1), (3, .ref o)]) rfl ?_
      refine v_iconst E dX0_interval_15 ?_
      refine v_iret E hE dX0_interval_16 ?_
      exact ⟨by rw [e9], Or.inr ⟨by omega, hPX, ho9⟩⟩
    · skip
      refine ⟨[(⟨0, 10, 13, 13⟩ : ExceptionTableEntry)], [], (⟨0, 10, 17, 15⟩ : ExceptionTableEntry), "java/lang/IllegalArgumentException", rfl, fun y hy => by
        simp only [List.mem_cons, List.not_mem_nil, or_false] at hy
        subst hy
        exact ⟨by decide, "java/lang/IndexOutOfBoundsException", q532, by decide +kernel⟩, by decide, by decide, q565, by decide +kernel, fun q => ?_⟩
      refine v_astore E dX0_interval_17 (zlt hL rfl) (lv' := [(4, .ref q), (0, .ref x), (1, vi v0), (2, vi v1), (3, .ref o)]) rfl ?_
      refine v_iconst E dX0_interval_19 ?_
      refine v_iret E hE dX0_interval_20 ?_
      exact ⟨by rw [e9], Or.inr ⟨by omega, hPX, ho9⟩⟩
  · obtain ⟨e0, rfl, hPO⟩ := hpost
    have ho1 := ho.kept (hkk o ho.lt hoA)
    refine v_i2l E (hr1 e0) dX0_interval_8 ?_
    refine v_last E dX0_interval_9 ho1 0 rfl (by decide) (by decide) hAo (fun H2 ho2 hs2 => ?_)
    refine v_goto E (tgt := 21) dX0_interval_10 (by decide) ?_
    refine v_iconst E dX0_interval_21 ?_
    refine v_iret E hE dX0_interval_22 ?_
    exact ⟨by rw [e0], Or.inl ⟨e0, hk _ _ hPO hs2 ho1, _, ho2, by rw [va_upj]⟩⟩
set_option maxHeartbeats 400000 in
/-- bisect, caught -/
theorem w_bisect (κ : zK) (H0 : Heap) {x o : Nat} {fs : List Value} {v0 r1 r2 : Int} {f : Nat → Int} {mc2 ms2 : Nat} {PO PX : Heap → Prop} (hx : hp κ H0 x (.inr (0, fs))) (ho : hp κ H0 o (eJ κ 1 f)) (hr1 : r2 = 0 → rI r1) (hoA : ¬ pA κ H0 o) (hM : MtX κ yX1_bisect cX1_bisect 10 (some .int) 17 440 mc2 ms2 H0 [.ref x, vi v0] (pA κ H0) (fun v H1 => r2 = 0 ∧ v = some (vi r1) ∧ PO H1) (fun C H1 => (C = "java/lang/IndexOutOfBoundsException" ∧ r2 = 1 ∨ C = "java/lang/IllegalStateException" ∧ r2 = 2) ∧ PX H1)) (hk : ∀ H1 H2, PO H1 → zSame H1 H2 o → hp κ H1 o (eJ κ 1 f) → PO H2) : MtW κ yX0_bisect cX0_bisect 4 (some .int) [((0 : Nat), (9 : Nat), (12 : Nat), (13 : Nat)), ((0 : Nat), (9 : Nat), (15 : Nat), (31 : Nat))] 18 469 mc2 ms2 H0 [.ref x, vi v0, .ref o] (fun q => pA κ H0 q ∨ q = o) (fun v H1 => v = some (vi r2) ∧ ((r2 = 0 ∧ PO H1 ∧ ∃ g : Nat → Int, hp κ H1 o (eJ κ 1 g) ∧ g 0 = r1) ∨ (r2 ≠ 0 ∧ PX H1 ∧ hp κ H1 o (eJ κ 1 f)))) := by
  refine MtW.of (by decide) (Nat.le_of_ble_eq_true rfl) ?_
  intro z E X9 hE hH0 hA0 hL hini
  have E : zOK z cX0_bisect RX0 κ 18 469 (some .int) := E
  have hAll : ∀ q, pA κ H0 q → zA z.A z.H0 q := fun q h => Or.inl (by rw [hA0]; exact Or.inl h)
  have hAo : zA z.A z.H0 o := Or.inl (by rw [hA0]; exact Or.inr rfl)
  refine V.eqL (lv' := [(0, .ref x), (1, vi v0), (2, .ref o)]) rfl ?_
  refine v_aload_n E 2 rfl dX0_bisect_0 ?_
  refine v_iconst E dX0_bisect_1 ?_
  refine v_aload_n E 0 rfl dX0_bisect_2 ?_
  refine v_iload_n E 1 rfl dX0_bisect_3 ?_
  refine v_callVK E X9 (As := [vi v0]) (b := x) (ci := 0) (C := RX1) (T := TX1) (N := 3) hx rfl hM (lw_V q1638 q1639 q1640 q70 q1641) 1 (by decide +kernel) rfl (by decide) (by decide) (cb' := 0) (sb' := 0) (by omega) (by omega) rfl (rest := [vi 0, .ref o]) (Nat.le_of_ble_eq_true rfl) hAll dX0_bisect_4 (fun C9 H9 hx9 hz9 hk9 => ?_) (fun v9 H1 hpost hz hkk => ?_)
  · obtain ⟨hC, hPX⟩ := hx9
    have ho9 := ho.kept (hk9 o ho.lt hoA)
    rcases hC with ⟨rfl, e9⟩ | ⟨rfl, e9⟩
    · skip
      refine ⟨[], [(⟨0, 9, 15, 31⟩ : ExceptionTableEntry)], (⟨0, 9, 12, 13⟩ : ExceptionTableEntry), "java/lang/IndexOutOfBoundsException", rfl, fun y hy => absurd hy List.not_mem_nil, by decide, by decide, q532, by decide +kernel, fun q => ?_⟩
      refine v_astore_n E dX0_bisect_12 (zlt hL rfl) (lv' := [(3, .ref q), (0, .ref x), (1, vi v0), (2, .ref o)]) rfl ?_
      refine v_iconst E dX0_bisect_13 ?_
      refine v_iret E hE dX0_bisect_14 ?_
      exact ⟨by rw [e9], Or.inr ⟨by omega, hPX, ho9⟩⟩
    · skip
      refine ⟨[(⟨0, 9, 12, 13⟩ : ExceptionTableEntry)], [], (⟨0, 9, 15, 31⟩ : ExceptionTableEntry), "java/lang/IllegalStateException", rfl, fun y hy => by
        simp only [List.mem_cons, List.not_mem_nil, or_false] at hy
        subst hy
        exact ⟨by decide, "java/lang/IndexOutOfBoundsException", q532, by decide +kernel⟩, by decide, by decide, q699, by decide +kernel, fun q => ?_⟩
      refine v_astore_n E dX0_bisect_15 (zlt hL rfl) (lv' := [(3, .ref q), (0, .ref x), (1, vi v0), (2, .ref o)]) rfl ?_
      refine v_iconst E dX0_bisect_16 ?_
      refine v_iret E hE dX0_bisect_17 ?_
      exact ⟨by rw [e9], Or.inr ⟨by omega, hPX, ho9⟩⟩
  · obtain ⟨e0, rfl, hPO⟩ := hpost
    have ho1 := ho.kept (hkk o ho.lt hoA)
    refine v_i2l E (hr1 e0) dX0_bisect_7 ?_
    refine v_last E dX0_bisect_8 ho1 0 rfl (by decide) (by decide) hAo (fun H2 ho2 hs2 => ?_)
    refine v_goto E (tgt := 18) dX0_bisect_9 (by decide) ?_
    refine v_iconst E dX0_bisect_18 ?_
    refine v_iret E hE dX0_bisect_19 ?_
    exact ⟨by rw [e0], Or.inl ⟨e0, hk _ _ hPO hs2 ho1, _, ho2, by rw [va_upj]⟩⟩
set_option maxHeartbeats 400000 in
/-- refine, caught -/
theorem w_refine (κ : zK) (H0 : Heap) {x o : Nat} {fs : List Value} {v0 v1 r1 r2 : Int} {f : Nat → Int} {mc2 ms2 : Nat} {PO PX : Heap → Prop} (hx : hp κ H0 x (.inr (0, fs))) (ho : hp κ H0 o (eJ κ 1 f)) (hr1 : r2 = 0 → rI r1) (hoA : ¬ pA κ H0 o) (hM : MtX κ yX1_refine cX1_refine 11 (some .int) 17 440 mc2 ms2 H0 [.ref x, vi v0, vi v1] (pA κ H0) (fun v H1 => r2 = 0 ∧ v = some (vi r1) ∧ PO H1) (fun C H1 => (C = "java/lang/IndexOutOfBoundsException" ∧ r2 = 1 ∨ C = "java/lang/IllegalArgumentException" ∧ r2 = 2 ∨ C = "java/lang/IllegalStateException" ∧ r2 = 3) ∧ PX H1)) (hk : ∀ H1 H2, PO H1 → zSame H1 H2 o → hp κ H1 o (eJ κ 1 f) → PO H2) : MtW κ yX0_refine cX0_refine 5 (some .int) [((0 : Nat), (10 : Nat), (13 : Nat), (13 : Nat)), ((0 : Nat), (10 : Nat), (17 : Nat), (15 : Nat)), ((0 : Nat), (10 : Nat), (21 : Nat), (31 : Nat))] 18 470 mc2 ms2 H0 [.ref x, vi v0, vi v1, .ref o] (fun q => pA κ H0 q ∨ q = o) (fun v H1 => v = some (vi r2) ∧ ((r2 = 0 ∧ PO H1 ∧ ∃ g : Nat → Int, hp κ H1 o (eJ κ 1 g) ∧ g 0 = r1) ∨ (r2 ≠ 0 ∧ PX H1 ∧ hp κ H1 o (eJ κ 1 f)))) := by
  refine MtW.of (by decide) (Nat.le_of_ble_eq_true rfl) ?_
  intro z E X9 hE hH0 hA0 hL hini
  have E : zOK z cX0_refine RX0 κ 18 470 (some .int) := E
  have hAll : ∀ q, pA κ H0 q → zA z.A z.H0 q := fun q h => Or.inl (by rw [hA0]; exact Or.inl h)
  have hAo : zA z.A z.H0 o := Or.inl (by rw [hA0]; exact Or.inr rfl)
  refine V.eqL (lv' := [(0, .ref x), (1, vi v0), (2, vi v1), (3, .ref o)]) rfl ?_
  refine v_aload_n E 3 rfl dX0_refine_0 ?_
  refine v_iconst E dX0_refine_1 ?_
  refine v_aload_n E 0 rfl dX0_refine_2 ?_
  refine v_iload_n E 1 rfl dX0_refine_3 ?_
  refine v_iload_n E 2 rfl dX0_refine_4 ?_
  refine v_callVK E X9 (As := [vi v0, vi v1]) (b := x) (ci := 0) (C := RX1) (T := TX1) (N := 3) hx rfl hM (lw_V q1727 q1728 q1729 q70 q1730) 2 (by decide +kernel) rfl (by decide) (by decide) (cb' := 0) (sb' := 0) (by omega) (by omega) rfl (rest := [vi 0, .ref o]) (Nat.le_of_ble_eq_true rfl) hAll dX0_refine_5 (fun C9 H9 hx9 hz9 hk9 => ?_) (fun v9 H1 hpost hz hkk => ?_)
  · obtain ⟨hC, hPX⟩ := hx9
    have ho9 := ho.kept (hk9 o ho.lt hoA)
    rcases hC with ⟨rfl, e9⟩ | ⟨rfl, e9⟩ | ⟨rfl, e9⟩
    · skip
      refine ⟨[], [(⟨0, 10, 17, 15⟩ : ExceptionTableEntry), (⟨0, 10, 21, 31⟩ : ExceptionTableEntry)], (⟨0, 10, 13, 13⟩ : ExceptionTableEntry), "java/lang/IndexOutOfBoundsException", rfl, fun y hy => absurd hy List.not_mem_nil, by decide, by decide, q532, by decide +kernel, fun q => ?_⟩
      refine v_astore E dX0_refine_13 (zlt hL rfl) (lv' := [(4, .ref q), (0, .ref x), (1, vi v0), (2, vi v1), (3, .ref o)]) rfl ?_
      refine v_iconst E dX0_refine_15 ?_
      refine v_iret E hE dX0_refine_16 ?_
      exact ⟨by rw [e9], Or.inr ⟨by omega, hPX, ho9⟩⟩
    · skip
      refine ⟨[(⟨0, 10, 13, 13⟩ : ExceptionTableEntry)], [(⟨0, 10, 21, 31⟩ : ExceptionTableEntry)], (⟨0, 10, 17, 15⟩ : ExceptionTableEntry), "java/lang/IllegalArgumentException", rfl, fun y hy => by
        simp only [List.mem_cons, List.not_mem_nil, or_false] at hy
        subst hy
        exact ⟨by decide, "java/lang/IndexOutOfBoundsException", q532, by decide +kernel⟩, by decide, by decide, q565, by decide +kernel, fun q => ?_⟩
      refine v_astore E dX0_refine_17 (zlt hL rfl) (lv' := [(4, .ref q), (0, .ref x), (1, vi v0), (2, vi v1), (3, .ref o)]) rfl ?_
      refine v_iconst E dX0_refine_19 ?_
      refine v_iret E hE dX0_refine_20 ?_
      exact ⟨by rw [e9], Or.inr ⟨by omega, hPX, ho9⟩⟩
    · skip
      refine ⟨[(⟨0, 10, 13, 13⟩ : ExceptionTableEntry), (⟨0, 10, 17, 15⟩ : ExceptionTableEntry)], [], (⟨0, 10, 21, 31⟩ : ExceptionTableEntry), "java/lang/IllegalStateException", rfl, fun y hy => by
        simp only [List.mem_cons, List.not_mem_nil, or_false] at hy
        rcases hy with rfl | rfl
        · exact ⟨by decide, "java/lang/IndexOutOfBoundsException", q532, by decide +kernel⟩
        · exact ⟨by decide, "java/lang/IllegalArgumentException", q565, by decide +kernel⟩, by decide, by decide, q699, by decide +kernel, fun q => ?_⟩
      refine v_astore E dX0_refine_21 (zlt hL rfl) (lv' := [(4, .ref q), (0, .ref x), (1, vi v0), (2, vi v1), (3, .ref o)]) rfl ?_
      refine v_iconst E dX0_refine_23 ?_
      refine v_iret E hE dX0_refine_24 ?_
      exact ⟨by rw [e9], Or.inr ⟨by omega, hPX, ho9⟩⟩
  · obtain ⟨e0, rfl, hPO⟩ := hpost
    have ho1 := ho.kept (hkk o ho.lt hoA)
    refine v_i2l E (hr1 e0) dX0_refine_8 ?_
    refine v_last E dX0_refine_9 ho1 0 rfl (by decide) (by decide) hAo (fun H2 ho2 hs2 => ?_)
    refine v_goto E (tgt := 25) dX0_refine_10 (by decide) ?_
    refine v_iconst E dX0_refine_25 ?_
    refine v_iret E hE dX0_refine_26 ?_
    exact ⟨by rw [e0], Or.inl ⟨e0, hk _ _ hPO hs2 ho1, _, ho2, by rw [va_upj]⟩⟩
set_option maxHeartbeats 400000 in
/-- multiplicity, caught -/
theorem w_multiplicity (κ : zK) (H0 : Heap) {x o : Nat} {fs : List Value} {v0 r1 r2 : Int} {f : Nat → Int} {mc2 ms2 : Nat} {PO PX : Heap → Prop} (hx : hp κ H0 x (.inr (0, fs))) (ho : hp κ H0 o (eJ κ 1 f)) (hr1 : r2 = 0 → rI r1) (hoA : ¬ pA κ H0 o) (hM : MtX κ yX1_multiplicity cX1_multiplicity 5 (some .int) 18 463 mc2 ms2 H0 [.ref x, vi v0] (pA κ H0) (fun v H1 => r2 = 0 ∧ v = some (vi r1) ∧ PO H1) (fun C H1 => (C = "java/lang/IndexOutOfBoundsException" ∧ r2 = 1 ∨ C = "java/lang/IllegalStateException" ∧ r2 = 2) ∧ PX H1)) (hk : ∀ H1 H2, PO H1 → zSame H1 H2 o → hp κ H1 o (eJ κ 1 f) → PO H2) : MtW κ yX0_multiplicity cX0_multiplicity 4 (some .int) [((0 : Nat), (9 : Nat), (12 : Nat), (13 : Nat)), ((0 : Nat), (9 : Nat), (15 : Nat), (31 : Nat))] 19 487 mc2 ms2 H0 [.ref x, vi v0, .ref o] (fun q => pA κ H0 q ∨ q = o) (fun v H1 => v = some (vi r2) ∧ ((r2 = 0 ∧ PO H1 ∧ ∃ g : Nat → Int, hp κ H1 o (eJ κ 1 g) ∧ g 0 = r1) ∨ (r2 ≠ 0 ∧ PX H1 ∧ hp κ H1 o (eJ κ 1 f)))) := by
  refine MtW.of (by decide) (Nat.le_of_ble_eq_true rfl) ?_
  intro z E X9 hE hH0 hA0 hL hini
  have E : zOK z cX0_multiplicity RX0 κ 19 487 (some .int) := E
  have hAll : ∀ q, pA κ H0 q → zA z.A z.H0 q := fun q h => Or.inl (by rw [hA0]; exact Or.inl h)
  have hAo : zA z.A z.H0 o := Or.inl (by rw [hA0]; exact Or.inr rfl)
  refine V.eqL (lv' := [(0, .ref x), (1, vi v0), (2, .ref o)]) rfl ?_
  refine v_aload_n E 2 rfl dX0_multiplicity_0 ?_
  refine v_iconst E dX0_multiplicity_1 ?_
  refine v_aload_n E 0 rfl dX0_multiplicity_2 ?_
  refine v_iload_n E 1 rfl dX0_multiplicity_3 ?_
  refine v_callVK E X9 (As := [vi v0]) (b := x) (ci := 0) (C := RX1) (T := TX1) (N := 3) hx rfl hM (lw_V q1734 q1735 q1736 q70 q1737) 1 (by decide +kernel) rfl (by decide) (by decide) (cb' := 0) (sb' := 0) (by omega) (by omega) rfl (rest := [vi 0, .ref o]) (Nat.le_of_ble_eq_true rfl) hAll dX0_multiplicity_4 (fun C9 H9 hx9 hz9 hk9 => ?_) (fun v9 H1 hpost hz hkk => ?_)
  · obtain ⟨hC, hPX⟩ := hx9
    have ho9 := ho.kept (hk9 o ho.lt hoA)
    rcases hC with ⟨rfl, e9⟩ | ⟨rfl, e9⟩
    · skip
      refine ⟨[], [(⟨0, 9, 15, 31⟩ : ExceptionTableEntry)], (⟨0, 9, 12, 13⟩ : ExceptionTableEntry), "java/lang/IndexOutOfBoundsException", rfl, fun y hy => absurd hy List.not_mem_nil, by decide, by decide, q532, by decide +kernel, fun q => ?_⟩
      refine v_astore_n E dX0_multiplicity_12 (zlt hL rfl) (lv' := [(3, .ref q), (0, .ref x), (1, vi v0), (2, .ref o)]) rfl ?_
      refine v_iconst E dX0_multiplicity_13 ?_
      refine v_iret E hE dX0_multiplicity_14 ?_
      exact ⟨by rw [e9], Or.inr ⟨by omega, hPX, ho9⟩⟩
    · skip
      refine ⟨[(⟨0, 9, 12, 13⟩ : ExceptionTableEntry)], [], (⟨0, 9, 15, 31⟩ : ExceptionTableEntry), "java/lang/IllegalStateException", rfl, fun y hy => by
        simp only [List.mem_cons, List.not_mem_nil, or_false] at hy
        subst hy
        exact ⟨by decide, "java/lang/IndexOutOfBoundsException", q532, by decide +kernel⟩, by decide, by decide, q699, by decide +kernel, fun q => ?_⟩
      refine v_astore_n E dX0_multiplicity_15 (zlt hL rfl) (lv' := [(3, .ref q), (0, .ref x), (1, vi v0), (2, .ref o)]) rfl ?_
      refine v_iconst E dX0_multiplicity_16 ?_
      refine v_iret E hE dX0_multiplicity_17 ?_
      exact ⟨by rw [e9], Or.inr ⟨by omega, hPX, ho9⟩⟩
  · obtain ⟨e0, rfl, hPO⟩ := hpost
    have ho1 := ho.kept (hkk o ho.lt hoA)
    refine v_i2l E (hr1 e0) dX0_multiplicity_7 ?_
    refine v_last E dX0_multiplicity_8 ho1 0 rfl (by decide) (by decide) hAo (fun H2 ho2 hs2 => ?_)
    refine v_goto E (tgt := 18) dX0_multiplicity_9 (by decide) ?_
    refine v_iconst E dX0_multiplicity_18 ?_
    refine v_iret E hE dX0_multiplicity_19 ?_
    exact ⟨by rw [e0], Or.inl ⟨e0, hk _ _ hPO hs2 ho1, _, ho2, by rw [va_upj]⟩⟩
set_option maxHeartbeats 400000 in
/-- isTrue, caught -/
theorem w_isTrue (κ : zK) (H0 : Heap) {x o : Nat} {fs : List Value} {v0 r1 r2 : Int} {f : Nat → Int} {mc2 ms2 : Nat} {PO PX : Heap → Prop} (hx : hp κ H0 x (.inr (0, fs))) (ho : hp κ H0 o (eJ κ 1 f)) (hr1 : r2 = 0 → r1 = 1) (hoA : ¬ pA κ H0 o) (hM : MtX κ yX1_isTrue cX1_isTrue 8 (some .boolean) 17 440 mc2 ms2 H0 [.ref x, vi v0] (pA κ H0) (fun v H1 => r2 = 0 ∧ v = some (vi r1) ∧ PO H1) (fun C H1 => (C = "java/lang/IndexOutOfBoundsException" ∧ r2 = 1) ∧ PX H1)) (hk : ∀ H1 H2, PO H1 → zSame H1 H2 o → hp κ H1 o (eJ κ 1 f) → PO H2) : MtW κ yX0_isTrue cX0_isTrue 4 (some .int) [((0 : Nat), (16 : Nat), (19 : Nat), (13 : Nat))] 18 467 mc2 ms2 H0 [.ref x, vi v0, .ref o] (fun q => pA κ H0 q ∨ q = o) (fun v H1 => v = some (vi r2) ∧ ((r2 = 0 ∧ PO H1 ∧ ∃ g : Nat → Int, hp κ H1 o (eJ κ 1 g) ∧ g 0 = r1) ∨ (r2 ≠ 0 ∧ PX H1 ∧ hp κ H1 o (eJ κ 1 f)))) := by
  refine MtW.of (by decide) (Nat.le_of_ble_eq_true rfl) ?_
  intro z E X9 hE hH0 hA0 hL hini
  have E : zOK z cX0_isTrue RX0 κ 18 467 (some .int) := E
  have hAll : ∀ q, pA κ H0 q → zA z.A z.H0 q := fun q h => Or.inl (by rw [hA0]; exact Or.inl h)
  have hAo : zA z.A z.H0 o := Or.inl (by rw [hA0]; exact Or.inr rfl)
  refine V.eqL (lv' := [(0, .ref x), (1, vi v0), (2, .ref o)]) rfl ?_
  refine v_aload_n E 2 rfl dX0_isTrue_0 ?_
  refine v_iconst E dX0_isTrue_1 ?_
  refine v_aload_n E 0 rfl dX0_isTrue_2 ?_
  refine v_iload_n E 1 rfl dX0_isTrue_3 ?_
  refine v_callVK E X9 (As := [vi v0]) (b := x) (ci := 0) (C := RX1) (T := TX1) (N := 3) hx rfl hM (lw_V q1744 q1745 q1746 q70 q1747) 1 (by decide +kernel) rfl (by decide) (by decide) (cb' := 0) (sb' := 0) (by omega) (by omega) rfl (rest := [vi 0, .ref o]) (Nat.le_of_ble_eq_true rfl) hAll dX0_isTrue_4 (fun C9 H9 hx9 hz9 hk9 => ?_) (fun v9 H1 hpost hz hkk => ?_)
  · obtain ⟨hC, hPX⟩ := hx9
    have ho9 := ho.kept (hk9 o ho.lt hoA)
    obtain ⟨rfl, e9⟩ := hC
    refine ⟨[], [], (⟨0, 16, 19, 13⟩ : ExceptionTableEntry), "java/lang/IndexOutOfBoundsException", rfl, fun y hy => absurd hy List.not_mem_nil, by decide, by decide, q532, by decide +kernel, fun q => ?_⟩
    refine v_astore_n E dX0_isTrue_19 (zlt hL rfl) (lv' := [(3, .ref q), (0, .ref x), (1, vi v0), (2, .ref o)]) rfl ?_
    refine v_iconst E dX0_isTrue_20 ?_
    refine v_iret E hE dX0_isTrue_21 ?_
    exact ⟨by rw [e9], Or.inr ⟨by omega, hPX, ho9⟩⟩
  · obtain ⟨e0, rfl, hPO⟩ := hpost
    have ho1 := ho.kept (hkk o ho.lt hoA)
    obtain rfl := hr1 e0
    refine v_if_eq E (tgt := 14) dX0_isTrue_7 (by decide) ⟨by decide, by decide⟩ (fun c => absurd c (by decide)) (fun _ => ?_)
    refine v_lconst E (x := 1) rfl dX0_isTrue_10 ?_
    refine v_goto E (tgt := 15) dX0_isTrue_11 (by decide) ?_
    refine v_last E dX0_isTrue_15 ho1 0 rfl (by decide) (by decide) hAo (fun H2 ho2 hs2 => ?_)
    refine v_goto E (tgt := 22) dX0_isTrue_16 (by decide) ?_
    refine v_iconst E dX0_isTrue_22 ?_
    refine v_iret E hE dX0_isTrue_23 ?_
    exact ⟨by rw [e0], Or.inl ⟨e0, hk _ _ hPO hs2 ho1, _, ho2, by rw [va_upj]⟩⟩
