theorem shl_win0 {X : Int} {n u b : Nat} : X / 2 ^ (32 * u + 0) = X / 2 ^ (32 * u) := rfl
set_option maxHeartbeats 400000 in
set_option maxRecDepth 100000 in
/-- how many bits -/
theorem h_bl (κ : zK) (H0 : Heap) {d : Int} (hd0 : 0 ≤ d) (hd1 : d < 4294967296)  : Mt κ yJ16_bitLengthForInt cJ16_bitLengthForInt 1 (some .int) 1 21 0 0 H0 [vi d] (fun _ => False) (fun v H1 => ∃ n : Nat, v = some (vi (n : Int)) ∧ n ≤ 32 ∧ isBits d n) := by
  refine Mt.of (by decide) (Nat.le_of_ble_eq_true rfl) ?_
  intro z E hE hH0 hA0 hL hini
  have hAll : ∀ q, (fun _ => False) q → zA z.A z.H0 q := fun q h => Or.inl (by rw [hA0]; exact h)
  have hNew : ∀ q, H0.size ≤ q → zA z.A z.H0 q := fun q h => Or.inr (by rw [hH0]; exact h)
  have E : zOK z cJ16_bitLengthForInt RJ16 κ 1 21 (some .int) := E
  refine V.eqL (lv' := [(0, vi d)]) rfl ?_
  refine v_bipush E ⟨by decide, by decide⟩ dJ16_bitLengthForInt_0 ?_
  refine v_iload_n E 0 rfl dJ16_bitLengthForInt_2 ?_
  refine v_callS E (As := [vi d]) (m_nlz κ H0 hd0 hd1) (lw_S q1209 q1210 q99 q1211) 1 (by decide +kernel) rfl (by decide) (by decide) (cb' := 0) (sb' := 0) (by decide) (by decide) rfl (rest := [vi 32]) (Nat.le_of_ble_eq_true rfl) (fun q h => h.elim) dJ16_bitLengthForInt_3 (fun v_1 H_2 hpost_3 hz_4 hk_5 => ?_)
  clear hz_4
  obtain ⟨l, rfl, hl32, hl⟩ := hpost_3
  refine V.eq (st' := [vi (32 - (l : Int)), vi 32]) rfl ?_
  refine v_isub E dJ16_bitLengthForInt_6 ?_
  refine v_iret E hE dJ16_bitLengthForInt_7 ?_
  exact ⟨l, congrArg (fun t => some (vi t)) (by omega), hl32, hl⟩

set_option maxHeartbeats 400000 in
set_option maxRecDepth 100000 in
/-- a shift to the right -/
theorem h_rsh (κ : zK) (H0 : Heap) {a v o n cap : Nat} {f : Nat → Int} {X : Int} {u b : Nat} (hD : zDist κ) (hb : b ≤ 31) (hun : u < n) (hM : MI κ H0 a v o n cap f X)  : Mt κ yJ26_rightShift cJ26_rightShift 5 (none) 2 41 0 0 H0 [.ref a, vi ((32 * u + b : Nat) : Int)] (fun q => q = a ∨ q = v) (fun v9 H1 => v9 = none ∧ ∃ (n2 : Nat) (f2 : Nat → Int), MI κ H1 a v o n2 cap f2 (X / 2 ^ (32 * u + b)) ∧ n2 ≤ n ∧ (isInts X n → isInts (X / 2 ^ (32 * u + b)) n2)) := by
  refine Mt.of (by decide) (Nat.le_of_ble_eq_true rfl) ?_
  intro z E hE hH0 hA0 hL hini
  have hAll : ∀ q, (fun q => q = a ∨ q = v) q → zA z.A z.H0 q := fun q h => Or.inl (by rw [hA0]; exact h)
  have hNew : ∀ q, H0.size ≤ q → zA z.A z.H0 q := fun q h => Or.inr (by rw [hH0]; exact h)
  have E : zOK z cJ26_rightShift RJ26 κ 2 41 (none) := E
  refine V.eqL (lv' := [(0, .ref a), (1, vi ((32 * u + b : Nat) : Int))]) rfl ?_
  obtain ⟨hoa, hv, hcap, hc2, hW, hX0, hX1⟩ := hM
  have hne_v_a : v ≠ a := Ne.symm (hp.ka hD hoa hv (by decide) (by decide))
  refine v_aload_n E 0 rfl dJ26_rightShift_0 ?_
  refine v_getf E in_J26 hoa (ci := 9) rfl 1 (by decide) q1173 rfl (v := vi (n : Int)) rfl dJ26_rightShift_1 ?_
  refine v_if_ne E (tgt := 8) dJ26_rightShift_4 (by decide) ⟨by omega, by omega⟩ (fun c_4 => ?_) (fun c_4 => absurd c_4 (by omega))
  refine v_iload_n E 1 rfl dJ26_rightShift_8 ?_
  refine v_iconst E dJ26_rightShift_9 ?_
  refine v_iushr E 5 (by decide) dJ26_rightShift_10 ?_
  refine V.topi (x' := (u : Int)) (congrArg iZ (by omega)) ?_
  refine v_istore_n E dJ26_rightShift_11 (zlt hL rfl) (lv' := [(2, vi (u : Int)), (0, .ref a), (1, vi ((32 * u + b : Nat) : Int))]) rfl ?_
  refine v_iload_n E 2 rfl dJ26_rightShift_12 ?_
  refine v_bipush E ⟨by decide, by decide⟩ dJ26_rightShift_13 ?_
  refine v_iand E (c := (b : Int)) (iZ_andN (a := 32 * u + b) (b := 31) (by omega) (by decide) (by rw [show 31 = 2 ^ 5 - 1 by decide, Nat.and_two_pow_sub_one_eq_mod]; omega)) dJ26_rightShift_15 ?_
  refine v_istore_n E dJ26_rightShift_16 (zlt hL rfl) (lv' := [(3, vi (b : Int)), (2, vi (u : Int)), (0, .ref a), (1, vi ((32 * u + b : Nat) : Int))]) rfl ?_
  refine v_aload_n E 2 rfl dJ26_rightShift_17 ?_
  refine v_dup E rfl dJ26_rightShift_18 ?_
  refine v_getf E in_J26 hoa (ci := 9) rfl 1 (by decide) q1173 rfl (v := vi (n : Int)) rfl dJ26_rightShift_19 ?_
  refine v_iload_n E 1 rfl dJ26_rightShift_22 ?_
  refine v_isub E dJ26_rightShift_23 ?_
  refine v_putf E in_J26 tyJ26 tyJ26_ok nmJ26 hoa (ci := 9) rfl 1 (Nat.le_of_ble_eq_true rfl) q1173 rfl rfl rfl rfl (Nat.le_of_ble_eq_true rfl) (hAll _ (Or.inl rfl)) dJ26_rightShift_24 (fun H_3 hoa_1 hs_2 => ?_)
  have hv_4 := hv.same hs_2 hne_v_a
  have hoa_1 : hp κ H_3 a (.inr (9, [.ref v, vi ((n : Int) - (u : Int)), vi (o : Int)])) := hoa_1
  have hoa1 : hp κ H_3 a (.inr (9, [.ref v, vi ((n - u : Nat) : Int), vi (o : Int)])) := by rw [show ((n - u : Nat) : Int) = (n : Int) - (u : Int) by omega]; exact hoa_1
  have hW1 := cut_win hW (by omega : u ≤ n)
  have hq0 : 0 ≤ (X / 2 ^ (32 * u)) := Int.ediv_nonneg hX0 (Int.le_of_lt (p2 _))
  have hq1 := div_lt hX1 (by omega : u ≤ n)
  refine v_iload_n E 0 rfl dJ26_rightShift_27 ?_
  refine v_if_ne E (tgt := 32) dJ26_rightShift_28 (by decide) ⟨by omega, by omega⟩ (fun c_28 => ?_) (fun c_28 => ?_)
  · refine v_aload_n E 2 rfl dJ26_rightShift_32 ?_
    refine v_getf E in_J26 hoa1 (ci := 9) rfl 0 (by decide) q1172 rfl (v := .ref v) rfl dJ26_rightShift_33 ?_
    refine v_aload_n E 2 rfl dJ26_rightShift_36 ?_
    refine v_getf E in_J26 hoa1 (ci := 9) rfl 2 (by decide) q1174 rfl (v := vi (o : Int)) rfl dJ26_rightShift_37 ?_
    refine v_iald E dJ26_rightShift_40 hv_4 o rfl (by omega) (by omega) ?_
    refine V.topi (x' := bM (X / 2 ^ (32 * u)) (n - u) 0) (congrArg iZ (hW1 0 (by omega))) ?_
    refine v_callS E (As := [vi (bM (X / 2 ^ (32 * u)) (n - u) 0)]) (h_bl κ H_3 (bM_in (X / 2 ^ (32 * u)) (n - u) 0).1 (bM_in (X / 2 ^ (32 * u)) (n - u) 0).2) (lw_S q1206 q1207 q91 q1208) 1 (by decide +kernel) rfl (by decide) (by decide) (cb' := 0) (sb' := 0) (by decide) (by decide) rfl (rest := []) (Nat.le_of_ble_eq_true rfl) (fun q h => h.elim) dJ26_rightShift_41 (fun v_5 H_6 hpost_7 hz_8 hk_9 => ?_)
    clear hz_8
    obtain ⟨l, rfl, hl32, hl⟩ := hpost_7
    have hoa1_10 := hoa1.kept (hk_9 _ hoa1.lt (fun h => h))
    have hv_11 := hv_4.kept (hk_9 _ hv_4.lt (fun h => h))
    refine V.eq (st' := [vi (l : Int)]) rfl ?_
    refine v_istore E dJ26_rightShift_44 (zlt hL rfl) (lv' := [(4, vi (l : Int)), (3, vi (b : Int)), (2, vi (u : Int)), (0, .ref a), (1, vi ((32 * u + b : Nat) : Int))]) rfl ?_
    refine v_iload_n E 1 rfl dJ26_rightShift_46 ?_
    refine v_iload E 0 rfl dJ26_rightShift_47 ?_
    refine v_icmp_lt E (tgt := 73) dJ26_rightShift_49 (by decide) ⟨by omega, by omega⟩ ⟨by omega, by omega⟩ (fun c_49 => ?_) (fun c_49 => ?_)
    · refine v_aload_n E 3 rfl dJ26_rightShift_73 ?_
      refine v_iload_n E 1 rfl dJ26_rightShift_74 ?_
      refine v_callV E (As := [vi (b : Int)]) (b := a) (ci := 9) (C := RJ26) (T := TJ26) (N := 3) hoa1_10 rfl (h_prs κ H_6 (s := b) hD (by omega) hb (by omega) ⟨hoa1_10, hv_11, by omega, hc2, hW1, hq0, hq1⟩) (lw_V q1216 q1218 qs22 q101 q1219) 1 (by decide +kernel) rfl (by decide) (by decide) (cb' := 0) (sb' := 0) (by decide) (by decide) rfl (rest := []) (Nat.le_of_ble_eq_true rfl) (fun q h => hAll q (Or.inr h)) dJ26_rightShift_75 (fun v_12 H_13 hpost_14 hz_15 hk_16 => ?_)
      clear hz_15
      obtain ⟨rfl, f1, hv1, hf1⟩ := hpost_14
      have hoa_17 := hoa1_10.kept (hk_16 _ hoa1_10.lt (fun h => hne_v_a h.symm))
      refine V.eq (st' := []) rfl ?_
      refine v_vret E hE dJ26_rightShift_78 ?_
      rw [div_pow]
      exact ⟨rfl, n - u, f1, ⟨hoa_17, hv1, by omega, hc2, hf1, Int.ediv_nonneg hq0 (Int.le_of_lt (p2 _)), (shr_lt hq0 hq1).2⟩, by omega, fun h => ints_dn0 (div_ints h hun) (by omega) hq0 hl (by omega)⟩
    · refine v_aload_n E 3 rfl dJ26_rightShift_52 ?_
      refine v_bipush E ⟨by decide, by decide⟩ dJ26_rightShift_53 ?_
      refine v_iload_n E 1 rfl dJ26_rightShift_55 ?_
      refine v_isub E dJ26_rightShift_56 ?_
      refine V.topi (x' := ((32 - b : Nat) : Int)) (congrArg iZ (by omega)) ?_
      refine v_callV E (As := [vi ((32 - b : Nat) : Int)]) (b := a) (ci := 9) (C := RJ26) (T := TJ26) (N := 3) hoa1_10 rfl (h_pls κ H_6 (s := 32 - b) hD (by omega) (by omega) (by omega) ⟨hoa1_10, hv_11, by omega, hc2, hW1, hq0, hq1⟩) (lw_V q1212 q1214 qs21 q101 q1215) 1 (by decide +kernel) rfl (by decide) (by decide) (cb' := 0) (sb' := 0) (by decide) (by decide) rfl (rest := []) (Nat.le_of_ble_eq_true rfl) (fun q h => hAll q (Or.inr h)) dJ26_rightShift_57 (fun v_18 H_19 hpost_20 hz_21 hk_22 => ?_)
      clear hz_21
      obtain ⟨rfl, f1, hv1, hf1⟩ := hpost_20
      have hoa_23 := hoa1_10.kept (hk_22 _ hoa1_10.lt (fun h => hne_v_a h.symm))
      refine V.eq (st' := []) rfl ?_
      refine v_aload_n E 3 rfl dJ26_rightShift_60 ?_
      refine v_dup E rfl dJ26_rightShift_61 ?_
      refine v_getf E in_J26 hoa_23 (ci := 9) rfl 1 (by decide) q1173 rfl (v := vi ((n - u : Nat) : Int)) rfl dJ26_rightShift_62 ?_
      refine v_iconst E dJ26_rightShift_65 ?_
      refine v_isub E dJ26_rightShift_66 ?_
      refine v_putf E in_J26 tyJ26 tyJ26_ok nmJ26 hoa_23 (ci := 9) rfl 1 (Nat.le_of_ble_eq_true rfl) q1173 rfl rfl rfl rfl (Nat.le_of_ble_eq_true rfl) (hAll _ (Or.inl rfl)) dJ26_rightShift_67 (fun H_26 hoa_24 hs_25 => ?_)
      have hv1_27 := hv1.same hs_25 hne_v_a
      have hoa_24 : hp κ H_26 a (.inr (9, [.ref v, vi (((n - u : Nat) : Int) - 1), vi (o : Int)])) := hoa_24
      refine v_goto E (tgt := 78) dJ26_rightShift_70 (by decide) ?_
      refine v_vret E hE dJ26_rightShift_78 ?_
      have e9 : ((n - u - 1 : Nat) : Int) = ((n - u : Nat) : Int) - 1 := by omega
      rw [div_pow]
      exact ⟨rfl, n - u - 1, f1, ⟨by rw [e9]; exact hoa_24, hv1_27, by omega, hc2, cut1_win (by omega) (by omega) hf1, Int.ediv_nonneg hq0 (Int.le_of_lt (p2 _)), bits_top hq0 hq1 (by omega) hl (by omega)⟩, by omega, fun h => ints_dn hb (div_ints h hun) (by omega) hq0 hl (by omega)⟩
  · refine v_vret E hE dJ26_rightShift_31 ?_
    obtain rfl : b = 0 := by omega
    exact ⟨rfl, n - u, f, ⟨hoa1, hv_4, by omega, hc2, hW1, hq0, hq1⟩, by omega, fun h => div_ints h hun⟩
