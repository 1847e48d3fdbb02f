set_option maxHeartbeats 1000000 in
set_option maxRecDepth 100000 in
/-- how many bits -/
theorem m_bits (κ : zK) (H0 : Heap) {a : Nat} {x : Int} (hx : rU x) (ha : hp κ H0 a (eN κ x)) : Mt κ yX4_bits cX4_bits 2 (some .int) 1 21 0 0 H0 [.ref a] (fun _ => False) (fun v H1 => ∃ n : Nat, v = some (vi (n : Int)) ∧ n ≤ 1536 ∧ isBits x n) := by
  refine Mt.of (by decide) (Nat.le_of_ble_eq_true rfl) ?_
  intro z E hE hH0 hA0 hL hini
  have hAll : ∀ q, (fun _ => False) q → zA z.A z.H0 q := fun q h => Or.inl (by rw [hA0]; exact h)
  have hNew : ∀ q, H0.size ≤ q → zA z.A z.H0 q := fun q h => Or.inr (by rw [hH0]; exact h)
  have E : zOK z cX4_bits RX4 κ 1 21 (some .int) := E
  refine V.eqL (lv' := [(0, .ref a)]) rfl ?_
  refine v_aload_n E 0 rfl dX4_bits_0 ?_
  refine v_callS E (As := [.ref a]) (m_ints κ H0 hx ha) (lw_S q1961 q1962 q82 q1963) 1 (by decide +kernel) rfl (by decide) (by decide) (cb' := 0) (sb' := 0) (by decide) (by decide) rfl (rest := []) (Nat.le_of_ble_eq_true rfl) (fun q h => h.elim) dX4_bits_1 (fun v_1 H_2 hpost_3 hz_4 hk_5 => ?_)
  obtain ⟨n, rfl, hn⟩ := hpost_3
  have ha_6 := ha.kept (hk_5 _ ha.lt (fun h => h))
  refine V.eq (st' := [vi (n : Int)]) rfl ?_
  refine v_istore_n E dX4_bits_4 (zlt hL rfl) (lv' := [(1, vi (n : Int)), (0, .ref a)]) rfl ?_
  refine v_iload_n E 0 rfl dX4_bits_5 ?_
  have hn48 := hn.1
  refine v_if_ne E (tgt := 13) dX4_bits_6 (by decide) ⟨by omega, by omega⟩ (fun c_6 => ?_) (fun c_6 => ?_)
  · refine v_bipush E ⟨by decide, by decide⟩ dX4_bits_13 ?_
    refine v_iload_n E 0 rfl dX4_bits_15 ?_
    refine v_imul E dX4_bits_16 ?_
    refine v_aload_n E 1 rfl dX4_bits_17 ?_
    refine v_iload_n E 0 rfl dX4_bits_18 ?_
    refine v_iconst E dX4_bits_19 ?_
    refine v_isub E dX4_bits_20 ?_
    refine v_iald E dX4_bits_21 ha_6 (n - 1) (by omega) (by omega) (by omega) ?_
    refine v_callS E (As := [vi (dg x (n - 1))]) (m_nlz κ H_2 (dg_in x _).1 (dg_in x _).2) (lw_S q1982 q1210 q99 q1211) 1 (by decide +kernel) rfl (by decide) (by decide) (cb' := 0) (sb' := 0) (by decide) (by decide) rfl (rest := [vi (32 * (n : Int))]) (Nat.le_of_ble_eq_true rfl) (fun q h => h.elim) dX4_bits_22 (fun v_7 H_8 hpost_9 hz_10 hk_11 => ?_)
    obtain ⟨l, rfl, hl32, hl⟩ := hpost_9
    have ha_12 := ha_6.kept (hk_11 _ ha_6.lt (fun h => h))
    refine V.eq (st' := [vi (32 - (l : Int)), vi (32 * (n : Int))]) rfl ?_
    refine v_isub E dX4_bits_25 ?_
    refine v_iret E hE dX4_bits_26 ?_
    exact ⟨32 * (n - 1) + l, congrArg (fun t => some (vi t)) (by omega), by have := hn.1; omega, bits_dg hx.1 hn (by omega) hl⟩
  · refine v_iconst E dX4_bits_9 ?_
    refine v_goto E (tgt := 26) dX4_bits_10 (by decide) ?_
    refine v_iret E hE dX4_bits_26 ?_
    have h0 : n = 0 := by omega
    subst h0
    exact ⟨0, rfl, by decide, bits_0 hn, fun h => absurd h (by decide)⟩

set_option maxHeartbeats 1000000 in
set_option maxRecDepth 100000 in
/-- how many zeros -/
theorem m_zeros (κ : zK) (H0 : Heap) {a : Nat} {x : Int} (hx : rU x) (h0 : x ≠ 0) (ha : hp κ H0 a (eN κ x)) : Mt κ yX4_zeros cX4_zeros 2 (some .int) 1 21 0 0 H0 [.ref a] (fun _ => False) (fun v H1 => ∃ n : Nat, v = some (vi (n : Int)) ∧ n < 1536 ∧ isZeros x n) := by
  refine Mt.of (by decide) (Nat.le_of_ble_eq_true rfl) ?_
  intro z E hE hH0 hA0 hL hini
  have hAll : ∀ q, (fun _ => False) q → zA z.A z.H0 q := fun q h => Or.inl (by rw [hA0]; exact h)
  have hNew : ∀ q, H0.size ≤ q → zA z.A z.H0 q := fun q h => Or.inr (by rw [hH0]; exact h)
  have E : zOK z cX4_zeros RX4 κ 1 21 (some .int) := E
  refine V.eqL (lv' := [(0, .ref a)]) rfl ?_
  refine v_iconst E dX4_zeros_0 ?_
  refine v_istore_n E dX4_zeros_1 (zlt hL rfl) (lv' := [(1, vi 0), (0, .ref a)]) rfl ?_
  have loop_2 : ∀ (m_2 : Nat) (H : Heap) (k : Nat), 48 - k < m_2 → (k ≤ 48) → (∀ j, j < k → dg x j = 0) → hp κ H a (eN κ x) → V z H 0 0 2 [(1, vi (k : Int)), (0, .ref a)] [] := by
    intro m_2
    induction m_2 with
    | zero => intro H k hm; exact absurd hm (by omega)
    | succ m_2 ih_2 =>
      intro H k hm_2 hk hz ha
      have hd := dg_in x k
      have hk48 : k < 48 := zeros_k hx h0 hk hz
      refine v_aload_n E 1 rfl dX4_zeros_2 ?_
      refine v_iload_n E 0 rfl dX4_zeros_3 ?_
      refine v_iald E dX4_zeros_4 ha k rfl (by omega) (by omega) ?_
      refine V.topi (x' := ((dg x k) + 2147483648) % 4294967296 - 2147483648) (iZ_sg _) ?_
      refine v_if_ne E (tgt := 14) dX4_zeros_5 (by decide) ⟨by omega, by omega⟩ (fun c_5 => ?_) (fun c_5 => ?_)
      · refine v_bipush E ⟨by decide, by decide⟩ dX4_zeros_14 ?_
        refine v_iload_n E 0 rfl dX4_zeros_16 ?_
        refine v_imul E dX4_zeros_17 ?_
        refine v_aload_n E 1 rfl dX4_zeros_18 ?_
        refine v_iload_n E 0 rfl dX4_zeros_19 ?_
        refine v_iald E dX4_zeros_20 ha k rfl (by omega) (by omega) ?_
        obtain ⟨d, hdd⟩ := Int.eq_ofNat_of_zero_le hd.1
        have hd32 : d < 4294967296 := by omega
        have hd0 : 0 < d := by omega
        obtain ⟨t, ht⟩ := zeros_ex 32 (d : Int) (by omega) (by omega)
        have ht32 := zeros_lt (show (0 : Int) < (d : Int) by omega) (by omega) ht
        refine V.topi (x' := (d : Int)) (congrArg iZ hdd) ?_
        refine v_callS E (As := [vi (d : Int)]) (m_ntz κ H hd0 hd32 ht ht32) (lw_S q1968 q1069 q99 q1070) 1 (by decide +kernel) rfl (by decide) (by decide) (cb' := 0) (sb' := 0) (by decide) (by decide) rfl (rest := [vi (32 * (k : Int))]) (Nat.le_of_ble_eq_true rfl) (fun q h => h.elim) dX4_zeros_21 (fun v_1 H_2 hpost_3 hz_4 hk_5 => ?_)
        obtain rfl := hpost_3
        have ha_6 := ha.kept (hk_5 _ ha.lt (fun h => h))
        refine V.eq (st' := [vi (t : Int), vi (32 * (k : Int))]) rfl ?_
        refine v_iadd E dX4_zeros_24 ?_
        refine v_iret E hE dX4_zeros_25 ?_
        exact ⟨32 * k + t, congrArg (fun t => some (vi t)) (by omega), by omega, zeros_dg hz (by rw [hdd]; exact ht) ht32⟩
      · refine v_iinc E 0 rfl dX4_zeros_8 (zlt hL rfl) (lv' := [(1, vi ((k : Int) + 1)), (0, .ref a)]) rfl ?_
        refine v_goto E (tgt := 2) dX4_zeros_11 (by decide) ?_
        exact ih_2  H (k + 1) (by omega) (by omega) (lt_s hz (by omega)) ha
  exact loop_2 (48 + 1) H0 0 (by omega) (by omega) (fun j hj => absurd hj (by omega)) ha

set_option maxHeartbeats 1000000 in
set_option maxRecDepth 100000 in
/-- a times a small number -/
theorem m_times (κ : zK) (H0 : Heap) {a : Nat} {x m : Int} (hm : -4294967296 < m ∧ m < 4294967296) (ha : hp κ H0 a (eN κ x)) : Mt κ yX4_times cX4_times 8 (none) 1 23 0 0 H0 [.ref a, vj m] (fun q => q = a) (fun v H1 => v = none ∧ hp κ H1 a (eN κ (x * m))) := by
  refine Mt.of (by decide) (Nat.le_of_ble_eq_true rfl) ?_
  intro z E hE hH0 hA0 hL hini
  have hAll : ∀ q, (fun q => q = a) q → zA z.A z.H0 q := fun q h => Or.inl (by rw [hA0]; exact h)
  have hNew : ∀ q, H0.size ≤ q → zA z.A z.H0 q := fun q h => Or.inr (by rw [hH0]; exact h)
  have E : zOK z cX4_times RX4 κ 1 23 (none) := E
  refine V.eqL (lv' := [(0, .ref a), (1, vj m)]) rfl ?_
  have hA_a : zA z.A z.H0 a := hAll a rfl
  refine v_lload_n E 1 rfl dX4_times_0 ?_
  refine v_lconst E (x := 0) rfl dX4_times_1 ?_
  refine v_lc_ge E (tgt := 11) dX4_times_2 dX4_times_3 (by decide) ⟨by omega, by omega⟩ ⟨by omega, by omega⟩ (fun c_2 => ?_) (fun c_2 => ?_)
  · refine v_lload_n E 1 rfl dX4_times_11 ?_
    refine V.topl (x' := (m.natAbs : Int)) (congrArg jZ (by omega)) ?_
    refine v_lstore_n E dX4_times_12 (zlt hL rfl) (lv' := [(3, vj (m.natAbs : Int)), (0, .ref a), (1, vj m)]) rfl ?_
    refine v_lconst E (x := 0) rfl dX4_times_13 ?_
    refine v_lstore E dX4_times_14 (zlt hL rfl) (lv' := [(5, vj 0), (3, vj (m.natAbs : Int)), (0, .ref a), (1, vj m)]) rfl ?_
    refine v_iconst E dX4_times_16 ?_
    refine v_istore E dX4_times_17 (zlt hL rfl) (lv' := [(7, vi 0), (5, vj 0), (3, vj (m.natAbs : Int)), (0, .ref a), (1, vj m)]) rfl ?_
    have loop_19 : ∀ (m_19 : Nat) (H : Heap) (k : Nat) (f : Nat → Int), 48 - k < m_19 → (k ≤ 48) → (∀ j, j < 48 → f j = if j < k then dg (x * (m.natAbs : Int)) j else dg x j) → hp κ H a (eI κ 48 f) → V z H 0 0 19 [(7, vi (k : Int)), (5, vj (mcy 0 (m.natAbs : Int) x 0 k)), (3, vj (m.natAbs : Int)), (1, vj m), (0, .ref a)] [] := by
      intro m_19
      induction m_19 with
      | zero => intro H k f hm; exact absurd hm (by omega)
      | succ m_19 ih_19 =>
        intro H k f hm_19 hk hf ha
        have hc := mcy_in 0 x 0 k (show 0 ≤ (m.natAbs : Int) by omega)
        have hx := dg_in x k
        have hq := mul_in hx.1 hx.2 (show 0 ≤ (m.natAbs : Int) by omega) (show (m.natAbs : Int) ≤ 4294967295 by omega)
        refine v_iload E 0 rfl dX4_times_19 ?_
        refine v_bipush E ⟨by decide, by decide⟩ dX4_times_21 ?_
        refine v_icmp_ge E (tgt := 62) dX4_times_23 (by decide) ⟨by omega, by omega⟩ ⟨by omega, by omega⟩ (fun c_23 => ?_) (fun c_23 => ?_)
        · have ha_1 : hp κ H a (eN κ (x * (m.natAbs : Int))) := eI.congr ha (fun j hj => by rw [hf j hj, if_pos (by omega)])
          refine v_lload_n E 3 rfl dX4_times_62 ?_
          refine v_lconst E (x := 0) rfl dX4_times_63 ?_
          refine v_lc_ge E (tgt := 72) dX4_times_64 dX4_times_65 (by decide) ⟨by omega, by omega⟩ ⟨by omega, by omega⟩ (fun c_64 => ?_) (fun c_64 => ?_)
          · refine v_vret E hE dX4_times_72 ?_
            have e : (m.natAbs : Int) = m := by omega
            rw [e] at ha_1
            exact ⟨rfl, ha_1⟩
          · refine v_aload_n E 4 rfl dX4_times_68 ?_
            refine v_callS E (As := [.ref a]) (m_negate κ H ha_1) (lw_S q1944 q1945 q82 q1946) 1 (by decide +kernel) rfl (by decide) (by decide) (cb' := 0) (sb' := 0) (by decide) (by decide) rfl (rest := []) (Nat.le_of_ble_eq_true rfl) (fun q h => by rw [h]; exact hA_a) dX4_times_69 (fun v_2 H_3 hpost_4 hz_5 hk_6 => ?_)
            obtain ⟨rfl, ha_7⟩ := hpost_4
            refine V.eq (st' := []) rfl ?_
            refine v_vret E hE dX4_times_72 ?_
            have e : -(x * (m.natAbs : Int)) = x * m := by rw [← Int.mul_neg]; congr 1; omega
            rw [← e]
            exact ⟨rfl, ha_7⟩
        · refine v_lload E 1 rfl dX4_times_26 ?_
          refine v_aload_n E 4 rfl dX4_times_28 ?_
          refine v_iload E 0 rfl dX4_times_29 ?_
          refine v_iald E dX4_times_31 ha k rfl (by omega) (by omega) ?_
          refine v_i2lLow E dX4_times_32 q1947 dX4_times_33 dX4_times_36 ?_
          refine v_lload_n E 2 rfl dX4_times_37 ?_
          refine v_lmul E dX4_times_38 ?_
          refine v_ladd E dX4_times_39 ?_
          refine V.topl (x' := mcy 0 (m.natAbs : Int) x 0 k + (m.natAbs : Int) * dg x k) (congrArg jZ (by rw [hf k (by omega), if_neg (by omega), Int.emod_eq_of_lt hx.1 hx.2, Int.mul_comm])) ?_
          refine v_lstore E dX4_times_40 (zlt hL rfl) (lv' := [(5, vj (mcy 0 (m.natAbs : Int) x 0 k + (m.natAbs : Int) * dg x k)), (7, vi (k : Int)), (3, vj (m.natAbs : Int)), (1, vj m), (0, .ref a)]) rfl ?_
          refine v_aload_n E 4 rfl dX4_times_42 ?_
          refine v_iload E 1 rfl dX4_times_43 ?_
          refine v_lload E 0 rfl dX4_times_45 ?_
          refine v_l2i E dX4_times_47 ?_
          refine V.topi (x' := dg (x * (m.natAbs : Int)) k) (congrArg iZ rfl |>.trans (tm_dg _ _ _)) ?_
          refine v_iast E dX4_times_48 ha k rfl (by omega) (by omega) hA_a (fun H_10 ha_8 hs_9 => ?_)
          refine v_lload E 0 rfl dX4_times_49 ?_
          refine v_bipush E ⟨by decide, by decide⟩ dX4_times_51 ?_
          refine v_lushr E 32 (by decide) dX4_times_53 ?_
          refine V.topl (x' := mcy 0 (m.natAbs : Int) x 0 (k + 1)) (congrArg jZ (tm_cy (by omega) hq hc)) ?_
          refine v_lstore E dX4_times_54 (zlt hL rfl) (lv' := [(5, vj (mcy 0 (m.natAbs : Int) x 0 (k + 1))), (7, vi (k : Int)), (3, vj (m.natAbs : Int)), (1, vj m), (0, .ref a)]) rfl ?_
          refine v_iinc E 1 rfl dX4_times_56 (zlt hL rfl) (lv' := [(7, vi ((k : Int) + 1)), (5, vj (mcy 0 (m.natAbs : Int) x 0 (k + 1))), (3, vj (m.natAbs : Int)), (1, vj m), (0, .ref a)]) rfl ?_
          refine v_goto E (tgt := 19) dX4_times_59 (by decide) ?_
          exact ih_19  H_10 (k + 1) _ (by omega) (by omega) (up_s hf) ha_8
    refine V.sub [0, 1, 2, 4, 3] (lv' := [(7, vi 0), (5, vj 0), (3, vj (m.natAbs : Int)), (1, vj m), (0, .ref a)]) rfl ?_
    exact V.eqL (by rw [mcy_0]; rfl) (loop_19 (48 + 1) H0 0 (dg x) (by omega) (by omega) (fun j hj => by rw [if_neg (by omega)]) ha)
  · refine v_lload_n E 1 rfl dX4_times_6 ?_
    refine v_lneg E dX4_times_7 ?_
    refine v_goto E (tgt := 12) dX4_times_8 (by decide) ?_
    refine V.topl (x' := (m.natAbs : Int)) (congrArg jZ (by omega)) ?_
    refine v_lstore_n E dX4_times_12 (zlt hL rfl) (lv' := [(3, vj (m.natAbs : Int)), (0, .ref a), (1, vj m)]) rfl ?_
    refine v_lconst E (x := 0) rfl dX4_times_13 ?_
    refine v_lstore E dX4_times_14 (zlt hL rfl) (lv' := [(5, vj 0), (3, vj (m.natAbs : Int)), (0, .ref a), (1, vj m)]) rfl ?_
    refine v_iconst E dX4_times_16 ?_
    refine v_istore E dX4_times_17 (zlt hL rfl) (lv' := [(7, vi 0), (5, vj 0), (3, vj (m.natAbs : Int)), (0, .ref a), (1, vj m)]) rfl ?_
    have loop_19 : ∀ (m_19 : Nat) (H : Heap) (k : Nat) (f : Nat → Int), 48 - k < m_19 → (k ≤ 48) → (∀ j, j < 48 → f j = if j < k then dg (x * (m.natAbs : Int)) j else dg x j) → hp κ H a (eI κ 48 f) → V z H 0 0 19 [(7, vi (k : Int)), (5, vj (mcy 0 (m.natAbs : Int) x 0 k)), (3, vj (m.natAbs : Int)), (1, vj m), (0, .ref a)] [] := by
      intro m_19
      induction m_19 with
      | zero => intro H k f hm; exact absurd hm (by omega)
      | succ m_19 ih_19 =>
        intro H k f hm_19 hk hf ha
        have hc := mcy_in 0 x 0 k (show 0 ≤ (m.natAbs : Int) by omega)
        have hx := dg_in x k
        have hq := mul_in hx.1 hx.2 (show 0 ≤ (m.natAbs : Int) by omega) (show (m.natAbs : Int) ≤ 4294967295 by omega)
        refine v_iload E 0 rfl dX4_times_19 ?_
        refine v_bipush E ⟨by decide, by decide⟩ dX4_times_21 ?_
        refine v_icmp_ge E (tgt := 62) dX4_times_23 (by decide) ⟨by omega, by omega⟩ ⟨by omega, by omega⟩ (fun c_23 => ?_) (fun c_23 => ?_)
        · have ha_11 : hp κ H a (eN κ (x * (m.natAbs : Int))) := eI.congr ha (fun j hj => by rw [hf j hj, if_pos (by omega)])
          refine v_lload_n E 3 rfl dX4_times_62 ?_
          refine v_lconst E (x := 0) rfl dX4_times_63 ?_
          refine v_lc_ge E (tgt := 72) dX4_times_64 dX4_times_65 (by decide) ⟨by omega, by omega⟩ ⟨by omega, by omega⟩ (fun c_64 => ?_) (fun c_64 => ?_)
          · refine v_vret E hE dX4_times_72 ?_
            have e : (m.natAbs : Int) = m := by omega
            rw [e] at ha_11
            exact ⟨rfl, ha_11⟩
          · refine v_aload_n E 4 rfl dX4_times_68 ?_
            refine v_callS E (As := [.ref a]) (m_negate κ H ha_11) (lw_S q1944 q1945 q82 q1946) 1 (by decide +kernel) rfl (by decide) (by decide) (cb' := 0) (sb' := 0) (by decide) (by decide) rfl (rest := []) (Nat.le_of_ble_eq_true rfl) (fun q h => by rw [h]; exact hA_a) dX4_times_69 (fun v_12 H_13 hpost_14 hz_15 hk_16 => ?_)
            obtain ⟨rfl, ha_17⟩ := hpost_14
            refine V.eq (st' := []) rfl ?_
            refine v_vret E hE dX4_times_72 ?_
            have e : -(x * (m.natAbs : Int)) = x * m := by rw [← Int.mul_neg]; congr 1; omega
            rw [← e]
            exact ⟨rfl, ha_17⟩
        · refine v_lload E 1 rfl dX4_times_26 ?_
          refine v_aload_n E 4 rfl dX4_times_28 ?_
          refine v_iload E 0 rfl dX4_times_29 ?_
          refine v_iald E dX4_times_31 ha k rfl (by omega) (by omega) ?_
          refine v_i2lLow E dX4_times_32 q1947 dX4_times_33 dX4_times_36 ?_
          refine v_lload_n E 2 rfl dX4_times_37 ?_
          refine v_lmul E dX4_times_38 ?_
          refine v_ladd E dX4_times_39 ?_
          refine V.topl (x' := mcy 0 (m.natAbs : Int) x 0 k + (m.natAbs : Int) * dg x k) (congrArg jZ (by rw [hf k (by omega), if_neg (by omega), Int.emod_eq_of_lt hx.1 hx.2, Int.mul_comm])) ?_
          refine v_lstore E dX4_times_40 (zlt hL rfl) (lv' := [(5, vj (mcy 0 (m.natAbs : Int) x 0 k + (m.natAbs : Int) * dg x k)), (7, vi (k : Int)), (3, vj (m.natAbs : Int)), (1, vj m), (0, .ref a)]) rfl ?_
          refine v_aload_n E 4 rfl dX4_times_42 ?_
          refine v_iload E 1 rfl dX4_times_43 ?_
          refine v_lload E 0 rfl dX4_times_45 ?_
          refine v_l2i E dX4_times_47 ?_
          refine V.topi (x' := dg (x * (m.natAbs : Int)) k) (congrArg iZ rfl |>.trans (tm_dg _ _ _)) ?_
          refine v_iast E dX4_times_48 ha k rfl (by omega) (by omega) hA_a (fun H_20 ha_18 hs_19 => ?_)
          refine v_lload E 0 rfl dX4_times_49 ?_
          refine v_bipush E ⟨by decide, by decide⟩ dX4_times_51 ?_
          refine v_lushr E 32 (by decide) dX4_times_53 ?_
          refine V.topl (x' := mcy 0 (m.natAbs : Int) x 0 (k + 1)) (congrArg jZ (tm_cy (by omega) hq hc)) ?_
          refine v_lstore E dX4_times_54 (zlt hL rfl) (lv' := [(5, vj (mcy 0 (m.natAbs : Int) x 0 (k + 1))), (7, vi (k : Int)), (3, vj (m.natAbs : Int)), (1, vj m), (0, .ref a)]) rfl ?_
          refine v_iinc E 1 rfl dX4_times_56 (zlt hL rfl) (lv' := [(7, vi ((k : Int) + 1)), (5, vj (mcy 0 (m.natAbs : Int) x 0 (k + 1))), (3, vj (m.natAbs : Int)), (1, vj m), (0, .ref a)]) rfl ?_
          refine v_goto E (tgt := 19) dX4_times_59 (by decide) ?_
          exact ih_19  H_20 (k + 1) _ (by omega) (by omega) (up_s hf) ha_18
    refine V.sub [0, 1, 2, 4, 3] (lv' := [(7, vi 0), (5, vj 0), (3, vj (m.natAbs : Int)), (1, vj m), (0, .ref a)]) rfl ?_
    exact V.eqL (by rw [mcy_0]; rfl) (loop_19 (48 + 1) H0 0 (dg x) (by omega) (by omega) (fun j hj => by rw [if_neg (by omega)]) ha)

set_option maxHeartbeats 1000000 in
set_option maxRecDepth 100000 in
/-- to = a b -/
theorem m_multiply (κ : zK) (H0 : Heap) {a b t : Nat} {x y : Int} {f0 : Nat → Int} (hat : a ≠ t) (hbt : b ≠ t) (ha : hp κ H0 a (eN κ x)) (hb : hp κ H0 b (eN κ y)) (ht : hp κ H0 t (eI κ 48 f0)) : Mt κ yX4_multiply_2 cX4_multiply_2 7 (none) 0 0 0 0 H0 [.ref a, .ref b, .ref t] (fun q => q = t) (fun v H1 => v = none ∧ hp κ H1 t (eN κ (x * y))) := by
  refine Mt.of (by decide) (Nat.le_of_ble_eq_true rfl) ?_
  intro z E hE hH0 hA0 hL hini
  have hAll : ∀ q, (fun q => q = t) q → zA z.A z.H0 q := fun q h => Or.inl (by rw [hA0]; exact h)
  have hNew : ∀ q, H0.size ≤ q → zA z.A z.H0 q := fun q h => Or.inr (by rw [hH0]; exact h)
  have E : zOK z cX4_multiply_2 RX4 κ 0 0 (none) := E
  refine V.eqL (lv' := [(0, .ref a), (1, .ref b), (2, .ref t)]) rfl ?_
  have hA_t : zA z.A z.H0 t := hAll t rfl
  refine v_iconst E dX4_multiply_2_0 ?_
  refine v_istore_n E dX4_multiply_2_1 (zlt hL rfl) (lv' := [(3, vi 0), (0, .ref a), (1, .ref b), (2, .ref t)]) rfl ?_
  have loop_2 : ∀ (m_2 : Nat) (H : Heap) (k : Nat) (f : Nat → Int), 48 - k < m_2 → (k ≤ 48) → (∀ j, j < 48 → f j = if j < k then (fun _ => (0 : Int)) j else f0 j) → hp κ H a (eN κ x) → hp κ H b (eN κ y) → hp κ H t (eI κ 48 f) → V z H 0 0 2 [(3, vi (k : Int)), (2, .ref t), (1, .ref b), (0, .ref a)] [] := by
    intro m_2
    induction m_2 with
    | zero => intro H k f hm; exact absurd hm (by omega)
    | succ m_2 ih_2 =>
      intro H k f hm_2 hk hf ha hb ht
      refine v_iload_n E 0 rfl dX4_multiply_2_2 ?_
      refine v_bipush E ⟨by decide, by decide⟩ dX4_multiply_2_3 ?_
      refine v_icmp_ge E (tgt := 18) dX4_multiply_2_5 (by decide) ⟨by omega, by omega⟩ ⟨by omega, by omega⟩ (fun c_5 => ?_) (fun c_5 => ?_)
      · refine v_iconst E dX4_multiply_2_18 ?_
        refine v_istore_n E dX4_multiply_2_19 (zlt hL rfl) (lv' := [(3, vi 0), (2, .ref t), (1, .ref b), (0, .ref a)]) rfl ?_
        have loop_20 : ∀ (m_20 : Nat) (H : Heap) (i : Nat) (f : Nat → Int), 48 - i < m_20 → (i ≤ 48) → (∀ j, j < 48 → f j = dg ((x % 2 ^ (32 * i)) * y) j) → hp κ H a (eN κ x) → hp κ H b (eN κ y) → hp κ H t (eI κ 48 f) → V z H 0 0 20 [(3, vi (i : Int)), (2, .ref t), (1, .ref b), (0, .ref a)] [] := by
          intro m_20
          induction m_20 with
          | zero => intro H i f hm; exact absurd hm (by omega)
          | succ m_20 ih_20 =>
            intro H i f hm_20 hi hf ha hb ht
            have hdx := dg_in x i
            refine v_iload_n E 0 rfl dX4_multiply_2_20 ?_
            refine v_bipush E ⟨by decide, by decide⟩ dX4_multiply_2_21 ?_
            refine v_icmp_ge E (tgt := 110) dX4_multiply_2_23 (by decide) ⟨by omega, by omega⟩ ⟨by omega, by omega⟩ (fun c_23 => ?_) (fun c_23 => ?_)
            · refine v_vret E hE dX4_multiply_2_110 ?_
              exact ⟨rfl, eI.congr ht (fun j hj => by rw [hf j hj, show i = 48 by omega, mul_fin x y hj])⟩
            · refine v_lconst E (x := 0) rfl dX4_multiply_2_26 ?_
              refine v_lstore E dX4_multiply_2_27 (zlt hL rfl) (lv' := [(4, vj 0), (3, vi (i : Int)), (2, .ref t), (1, .ref b), (0, .ref a)]) rfl ?_
              refine v_iconst E dX4_multiply_2_29 ?_
              refine v_istore E dX4_multiply_2_30 (zlt hL rfl) (lv' := [(6, vi 0), (4, vj 0), (3, vi (i : Int)), (2, .ref t), (1, .ref b), (0, .ref a)]) rfl ?_
              have loop_32 : ∀ (m_32 : Nat) (H : Heap) (k : Nat) (f : Nat → Int), 48 - k < m_32 → (i + k ≤ 48) → (∀ j, j < 48 → f j = if j < i + k then dg (((x % 2 ^ (32 * i)) * y) + dg x i * 2 ^ (32 * i) * y) j else dg ((x % 2 ^ (32 * i)) * y) j) → hp κ H a (eN κ x) → hp κ H b (eN κ y) → hp κ H t (eI κ 48 f) → V z H 0 0 32 [(6, vi (k : Int)), (4, vj (mcy ((x % 2 ^ (32 * i)) * y) (dg x i) y i k)), (3, vi (i : Int)), (2, .ref t), (1, .ref b), (0, .ref a)] [] := by
                intro m_32
                induction m_32 with
                | zero => intro H k f hm; exact absurd hm (by omega)
                | succ m_32 ih_32 =>
                  intro H k f hm_32 hk hg ha hb ht
                  have hc := mcy_in ((x % 2 ^ (32 * i)) * y) y i k hdx.1
                  have hdy := dg_in y k
                  have hds := dg_in ((x % 2 ^ (32 * i)) * y) (i + k)
                  have hq := mul_in hdy.1 hdy.2 hdx.1 (show dg x i ≤ 4294967295 by omega)
                  refine v_iload_n E 2 rfl dX4_multiply_2_32 ?_
                  refine v_iload E 0 rfl dX4_multiply_2_33 ?_
                  refine v_iadd E dX4_multiply_2_35 ?_
                  refine v_bipush E ⟨by decide, by decide⟩ dX4_multiply_2_36 ?_
                  refine v_icmp_ge E (tgt := 104) dX4_multiply_2_38 (by decide) ⟨by omega, by omega⟩ ⟨by omega, by omega⟩ (fun c_38 => ?_) (fun c_38 => ?_)
                  · have hfi : ∀ j, j < 48 → f j = dg ((x % 2 ^ (32 * (i + 1))) * y) j := by
                      intro j hj
                      rw [mul_row, hg j hj]
                      rcases Nat.lt_or_ge j (i + k) with q | q
                      · rw [if_pos q]
                      · rw [if_neg (by omega)]
                        have e0 : dg x i = 0 := by omega
                        rw [e0, Int.zero_mul, Int.zero_mul, Int.add_zero]
                    refine v_iinc E 2 rfl dX4_multiply_2_104 (zlt hL rfl) (lv' := [(3, vi ((i : Int) + 1)), (6, vi (k : Int)), (4, vj (mcy ((x % 2 ^ (32 * i)) * y) (dg x i) y i k)), (2, .ref t), (1, .ref b), (0, .ref a)]) rfl ?_
                    refine v_goto E (tgt := 20) dX4_multiply_2_107 (by decide) ?_
                    refine V.sub [0, 3, 4, 5] (lv' := [(3, vi ((i : Int) + 1)), (2, .ref t), (1, .ref b), (0, .ref a)]) rfl ?_
                    exact ih_20  H (i + 1) _ (by omega) (by omega) hfi ha hb ht
                  · refine v_aload_n E 5 rfl dX4_multiply_2_41 ?_
                    refine v_iload_n E 2 rfl dX4_multiply_2_42 ?_
                    refine v_iald E dX4_multiply_2_43 ha i rfl (by omega) (by omega) ?_
                    refine V.topi (x' := ((dg x i) + 2147483648) % 4294967296 - 2147483648) (iZ_sg _) ?_
                    refine v_if_eq E (tgt := 104) dX4_multiply_2_44 (by decide) ⟨by omega, by omega⟩ (fun c_44 => ?_) (fun c_44 => ?_)
                    · have hfi : ∀ j, j < 48 → f j = dg ((x % 2 ^ (32 * (i + 1))) * y) j := by
                        intro j hj
                        rw [mul_row, hg j hj]
                        rcases Nat.lt_or_ge j (i + k) with q | q
                        · rw [if_pos q]
                        · rw [if_neg (by omega)]
                          have e0 : dg x i = 0 := by omega
                          rw [e0, Int.zero_mul, Int.zero_mul, Int.add_zero]
                      refine v_iinc E 2 rfl dX4_multiply_2_104 (zlt hL rfl) (lv' := [(3, vi ((i : Int) + 1)), (6, vi (k : Int)), (4, vj (mcy ((x % 2 ^ (32 * i)) * y) (dg x i) y i k)), (2, .ref t), (1, .ref b), (0, .ref a)]) rfl ?_
                      refine v_goto E (tgt := 20) dX4_multiply_2_107 (by decide) ?_
                      refine V.sub [0, 3, 4, 5] (lv' := [(3, vi ((i : Int) + 1)), (2, .ref t), (1, .ref b), (0, .ref a)]) rfl ?_
                      exact ih_20  H (i + 1) _ (by omega) (by omega) hfi ha hb ht
                    · refine v_lload E 1 rfl dX4_multiply_2_47 ?_
                      refine v_aload_n E 5 rfl dX4_multiply_2_49 ?_
                      refine v_iload_n E 2 rfl dX4_multiply_2_50 ?_
                      refine v_iald E dX4_multiply_2_51 ha i rfl (by omega) (by omega) ?_
                      refine v_i2lLow E dX4_multiply_2_52 q1947 dX4_multiply_2_53 dX4_multiply_2_56 ?_
                      refine v_aload_n E 4 rfl dX4_multiply_2_57 ?_
                      refine v_iload E 0 rfl dX4_multiply_2_58 ?_
                      refine v_iald E dX4_multiply_2_60 hb k rfl (by omega) (by omega) ?_
                      refine v_i2lLow E dX4_multiply_2_61 q1947 dX4_multiply_2_62 dX4_multiply_2_65 ?_
                      refine v_lmul E dX4_multiply_2_66 ?_
                      refine v_aload_n E 3 rfl dX4_multiply_2_67 ?_
                      refine v_iload_n E 2 rfl dX4_multiply_2_68 ?_
                      refine v_iload E 0 rfl dX4_multiply_2_69 ?_
                      refine v_iadd E dX4_multiply_2_71 ?_
                      refine v_iald E dX4_multiply_2_72 ht (i + k) (by omega) (by omega) (by omega) ?_
                      refine v_i2lLow E dX4_multiply_2_73 q1947 dX4_multiply_2_74 dX4_multiply_2_77 ?_
                      refine v_ladd E dX4_multiply_2_78 ?_
                      refine v_ladd E dX4_multiply_2_79 ?_
                      refine V.topl (x' := mcy ((x % 2 ^ (32 * i)) * y) (dg x i) y i k + (dg x i * dg y k + dg ((x % 2 ^ (32 * i)) * y) (i + k))) (congrArg jZ (by rw [hg (i + k) (by omega), if_neg (by omega), Int.emod_eq_of_lt hdx.1 hdx.2, Int.emod_eq_of_lt hdy.1 hdy.2, Int.emod_eq_of_lt hds.1 hds.2])) ?_
                      refine v_lstore E dX4_multiply_2_80 (zlt hL rfl) (lv' := [(4, vj (mcy ((x % 2 ^ (32 * i)) * y) (dg x i) y i k + (dg x i * dg y k + dg ((x % 2 ^ (32 * i)) * y) (i + k)))), (6, vi (k : Int)), (3, vi (i : Int)), (2, .ref t), (1, .ref b), (0, .ref a)]) rfl ?_
                      refine v_aload_n E 3 rfl dX4_multiply_2_82 ?_
                      refine v_iload_n E 2 rfl dX4_multiply_2_83 ?_
                      refine v_iload E 1 rfl dX4_multiply_2_84 ?_
                      refine v_iadd E dX4_multiply_2_86 ?_
                      refine v_lload E 0 rfl dX4_multiply_2_87 ?_
                      refine v_l2i E dX4_multiply_2_89 ?_
                      refine V.topi (x' := dg (((x % 2 ^ (32 * i)) * y) + dg x i * 2 ^ (32 * i) * y) (i + k)) (by rw [dg_mcy]; exact (iZ_mod _).symm) ?_
                      refine v_iast E dX4_multiply_2_90 ht (i + k) (by omega) (by omega) (by omega) hA_t (fun H_3 ht_1 hs_2 => ?_)
                      have ha_4 := ha.same hs_2 hat
                      have hb_5 := hb.same hs_2 hbt
                      refine v_lload E 0 rfl dX4_multiply_2_91 ?_
                      refine v_bipush E ⟨by decide, by decide⟩ dX4_multiply_2_93 ?_
                      refine v_lushr E 32 (by decide) dX4_multiply_2_95 ?_
                      refine V.topl (x' := mcy ((x % 2 ^ (32 * i)) * y) (dg x i) y i (k + 1)) (congrArg jZ (mm_cy hq hc hds (by omega))) ?_
                      refine v_lstore E dX4_multiply_2_96 (zlt hL rfl) (lv' := [(4, vj (mcy ((x % 2 ^ (32 * i)) * y) (dg x i) y i (k + 1))), (6, vi (k : Int)), (3, vi (i : Int)), (2, .ref t), (1, .ref b), (0, .ref a)]) rfl ?_
                      refine v_iinc E 1 rfl dX4_multiply_2_98 (zlt hL rfl) (lv' := [(6, vi ((k : Int) + 1)), (4, vj (mcy ((x % 2 ^ (32 * i)) * y) (dg x i) y i (k + 1))), (3, vi (i : Int)), (2, .ref t), (1, .ref b), (0, .ref a)]) rfl ?_
                      refine v_goto E (tgt := 32) dX4_multiply_2_101 (by decide) ?_
                      exact ih_32  H_3 (k + 1) _ (by omega) (by omega) (up_s (k := i + k) hg) ha_4 hb_5 ht_1
              exact V.eqL (by rw [mcy_0]; rfl) (loop_32 (48 + 1) H 0 f (by omega) (by omega) (fun j hj => by rw [hf j hj, Nat.add_zero]; split; exact (mul_low x y (by assumption)).symm; rfl) ha hb ht)
        exact loop_20 (48 + 1) H 0 f (by omega) (by omega) (fun j hj => by rw [hf j hj, if_pos (by omega)]; simp [Int.emod_one, dg_z]) ha hb ht
      · refine v_aload_n E 1 rfl dX4_multiply_2_8 ?_
        refine v_iload_n E 0 rfl dX4_multiply_2_9 ?_
        refine v_iconst E dX4_multiply_2_10 ?_
        refine v_iast E dX4_multiply_2_11 ht k rfl (by omega) (by omega) hA_t (fun H_8 ht_6 hs_7 => ?_)
        have ha_9 := ha.same hs_7 hat
        have hb_10 := hb.same hs_7 hbt
        refine v_iinc E 0 rfl dX4_multiply_2_12 (zlt hL rfl) (lv' := [(3, vi ((k : Int) + 1)), (2, .ref t), (1, .ref b), (0, .ref a)]) rfl ?_
        refine v_goto E (tgt := 2) dX4_multiply_2_15 (by decide) ?_
        exact ih_2  H_8 (k + 1) _ (by omega) (by omega) (up_s (g := fun _ => 0) hf) ha_9 hb_10 ht_6
  refine V.sub [0, 3, 2, 1] (lv' := [(3, vi 0), (2, .ref t), (1, .ref b), (0, .ref a)]) rfl ?_
  exact loop_2 (48 + 1) H0 0 f0 (by omega) (by omega) (fun j hj => by rw [if_neg (by omega)]) ha hb ht
