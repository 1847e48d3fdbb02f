set_option maxHeartbeats 1000000 in
set_option maxRecDepth 100000 in
/-- a += b -/
theorem m_add (κ : zK) (H0 : Heap) {a b : Nat} {x y : Int} (hab : a ≠ b) (ha : hp κ H0 a (eN κ x)) (hb : hp κ H0 b (eN κ y)) : Mt κ yX4_add_2 cX4_add_2 5 (none) 0 0 0 0 H0 [.ref a, .ref b] (fun q => q = a) (fun v H1 => v = none ∧ hp κ H1 a (eN κ (x + y))) := by
  refine Mt.of (by decide) (Nat.le_of_ble_eq_true rfl) ?_
  intro z E hE hH0 hA0 hL hini
  have hAll : ∀ q, (fun q => q = a) q → zA z.A z.H0 q := fun q h => Or.inl (by rw [hA0]; exact h)
  have hNew : ∀ q, H0.size ≤ q → zA z.A z.H0 q := fun q h => Or.inr (by rw [hH0]; exact h)
  have E : zOK z cX4_add_2 RX4 κ 0 0 (none) := E
  refine V.eqL (lv' := [(0, .ref a), (1, .ref b)]) rfl ?_
  have hA_a : zA z.A z.H0 a := hAll a rfl
  refine v_lconst E (x := 0) rfl dX4_add_2_0 ?_
  refine v_lstore_n E dX4_add_2_1 (zlt hL rfl) (lv' := [(2, vj 0), (0, .ref a), (1, .ref b)]) rfl ?_
  refine v_iconst E dX4_add_2_2 ?_
  refine v_istore E dX4_add_2_3 (zlt hL rfl) (lv' := [(4, vi 0), (2, vj 0), (0, .ref a), (1, .ref b)]) rfl ?_
  have loop_5 : ∀ (m_5 : Nat) (H : Heap) (k : Nat) (f : Nat → Int), 48 - k < m_5 → (k ≤ 48) → (∀ j, j < 48 → f j = if j < k then dg (x + y) j else dg x j) → hp κ H a (eI κ 48 f) → hp κ H b (eN κ y) → V z H 0 0 5 [(4, vi (k : Int)), (2, vj (cy x y k)), (1, .ref b), (0, .ref a)] [] := by
    intro m_5
    induction m_5 with
    | zero => intro H k f hm; exact absurd hm (by omega)
    | succ m_5 ih_5 =>
      intro H k f hm_5 hk hf ha hb
      have hc := cy_in x y k
      have hx := dg_in x k
      have hy := dg_in y k
      refine v_iload E 0 rfl dX4_add_2_5 ?_
      refine v_bipush E ⟨by decide, by decide⟩ dX4_add_2_7 ?_
      refine v_icmp_ge E (tgt := 51) dX4_add_2_9 (by decide) ⟨by omega, by omega⟩ ⟨by omega, by omega⟩ (fun c_9 => ?_) (fun c_9 => ?_)
      · refine v_vret E hE dX4_add_2_51 ?_
        exact ⟨rfl, eI.congr ha (fun j hj => by rw [hf j hj, if_pos (by omega)])⟩
      · refine v_lload_n E 1 rfl dX4_add_2_12 ?_
        refine v_aload_n E 3 rfl dX4_add_2_13 ?_
        refine v_iload E 0 rfl dX4_add_2_14 ?_
        refine v_iald E dX4_add_2_16 ha k rfl (by omega) (by omega) ?_
        refine v_i2lLow E dX4_add_2_17 q1947 dX4_add_2_18 dX4_add_2_21 ?_
        refine v_aload_n E 2 rfl dX4_add_2_22 ?_
        refine v_iload E 0 rfl dX4_add_2_23 ?_
        refine v_iald E dX4_add_2_25 hb k rfl (by omega) (by omega) ?_
        refine v_i2lLow E dX4_add_2_26 q1947 dX4_add_2_27 dX4_add_2_30 ?_
        refine v_ladd E dX4_add_2_31 ?_
        refine v_ladd E dX4_add_2_32 ?_
        refine V.topl (x' := cy x y k + dg x k + dg y k) (congrArg jZ (by rw [hf k (by omega), if_neg (by omega)]; omega)) ?_
        refine v_lstore_n E dX4_add_2_33 (zlt hL rfl) (lv' := [(2, vj (cy x y k + dg x k + dg y k)), (4, vi (k : Int)), (1, .ref b), (0, .ref a)]) rfl ?_
        refine v_aload_n E 3 rfl dX4_add_2_34 ?_
        refine v_iload E 1 rfl dX4_add_2_35 ?_
        refine v_lload_n E 0 rfl dX4_add_2_37 ?_
        refine v_l2i E dX4_add_2_38 ?_
        refine V.topi (x' := dg (x + y) k) (by rw [dg_add]; exact (iZ_mod _).symm) ?_
        refine v_iast E dX4_add_2_39 ha k rfl (by omega) (by omega) hA_a (fun H_3 ha_1 hs_2 => ?_)
        have hb_4 := hb.same hs_2 (Ne.symm hab)
        refine v_lload_n E 0 rfl dX4_add_2_40 ?_
        refine v_bipush E ⟨by decide, by decide⟩ dX4_add_2_41 ?_
        refine v_lushr E 32 (by decide) dX4_add_2_43 ?_
        refine V.topl (x' := cy x y (k + 1)) (congrArg jZ (by rw [cy_s]; omega)) ?_
        refine v_lstore_n E dX4_add_2_44 (zlt hL rfl) (lv' := [(2, vj (cy x y (k + 1))), (4, vi (k : Int)), (1, .ref b), (0, .ref a)]) rfl ?_
        refine v_iinc E 1 rfl dX4_add_2_45 (zlt hL rfl) (lv' := [(4, vi ((k : Int) + 1)), (2, vj (cy x y (k + 1))), (1, .ref b), (0, .ref a)]) rfl ?_
        refine v_goto E (tgt := 5) dX4_add_2_48 (by decide) ?_
        exact ih_5  H_3 (k + 1) _ (by omega) (by omega) (up_s hf) ha_1 hb_4
  refine V.sub [0, 1, 3, 2] (lv' := [(4, vi 0), (2, vj 0), (1, .ref b), (0, .ref a)]) rfl ?_
  exact V.eqL (by rw [cy_0]; rfl) (loop_5 (48 + 1) H0 0 (dg x) (by omega) (by omega) (fun j hj => by rw [if_neg (by omega)]) ha hb)

set_option maxHeartbeats 1000000 in
set_option maxRecDepth 100000 in
/-- a = v -/
theorem m_set (κ : zK) (H0 : Heap) {a : Nat} {f0 : Nat → Int} {x : Int} (hx : rJ x) (ha : hp κ H0 a (eI κ 48 f0)) : Mt κ yX4_set_2 cX4_set_2 4 (none) 0 0 0 0 H0 [.ref a, vj x] (fun q => q = a) (fun v H1 => v = none ∧ hp κ H1 a (eN κ x)) := by
  refine Mt.of (by decide) (Nat.le_of_ble_eq_true rfl) ?_
  intro z E hE hH0 hA0 hL hini
  have hAll : ∀ q, (fun q => q = a) q → zA z.A z.H0 q := fun q h => Or.inl (by rw [hA0]; exact h)
  have hNew : ∀ q, H0.size ≤ q → zA z.A z.H0 q := fun q h => Or.inr (by rw [hH0]; exact h)
  have E : zOK z cX4_set_2 RX4 κ 0 0 (none) := E
  refine V.eqL (lv' := [(0, .ref a), (1, vj x)]) rfl ?_
  have hA_a : zA z.A z.H0 a := hAll a rfl
  refine v_iconst E dX4_set_2_0 ?_
  refine v_istore_n E dX4_set_2_1 (zlt hL rfl) (lv' := [(3, vi 2), (0, .ref a), (1, vj x)]) rfl ?_
  have loop_2 : ∀ (m_2 : Nat) (H : Heap) (k : Nat) (f : Nat → Int), 48 - k < m_2 → (2 ≤ k) → (k ≤ 48) → (∀ j, 2 ≤ j → j < k → f j = if x < 0 then -1 else 0) → hp κ H a (eI κ 48 f) → V z H 0 0 2 [(3, vi (k : Int)), (1, vj x), (0, .ref a)] [] := by
    intro m_2
    induction m_2 with
    | zero => intro H k f hm; exact absurd hm (by omega)
    | succ m_2 ih_2 =>
      intro H k f hm_2 hk2 hk hf ha
      refine v_iload_n E 0 rfl dX4_set_2_2 ?_
      refine v_bipush E ⟨by decide, by decide⟩ dX4_set_2_3 ?_
      refine v_icmp_ge E (tgt := 28) dX4_set_2_5 (by decide) ⟨by omega, by omega⟩ ⟨by omega, by omega⟩ (fun c_5 => ?_) (fun c_5 => ?_)
      · refine v_aload_n E 2 rfl dX4_set_2_28 ?_
        refine v_iconst E dX4_set_2_29 ?_
        refine v_lload_n E 1 rfl dX4_set_2_30 ?_
        refine v_l2i E dX4_set_2_31 ?_
        refine v_iast E dX4_set_2_32 ha 0 rfl (by omega) (by omega) hA_a (fun H_3 ha_1 hs_2 => ?_)
        refine v_aload_n E 2 rfl dX4_set_2_33 ?_
        refine v_iconst E dX4_set_2_34 ?_
        refine v_lload_n E 1 rfl dX4_set_2_35 ?_
        refine v_bipush E ⟨by decide, by decide⟩ dX4_set_2_36 ?_
        refine v_lshr E hx 32 (by decide) dX4_set_2_38 ?_
        refine v_l2i E dX4_set_2_39 ?_
        refine v_iast E dX4_set_2_40 ha_1 1 rfl (by omega) (by omega) hA_a (fun H_6 ha_4 hs_5 => ?_)
        refine v_vret E hE dX4_set_2_41 ?_
        exact ⟨rfl, eI.congr ha_4 (set_fin hx (fun j h2 hj => hf j h2 (by omega)))⟩
      · refine v_aload_n E 2 rfl dX4_set_2_8 ?_
        refine v_iload_n E 0 rfl dX4_set_2_9 ?_
        refine v_lload_n E 1 rfl dX4_set_2_10 ?_
        refine v_lconst E (x := 0) rfl dX4_set_2_11 ?_
        refine v_lc_ge E (tgt := 20) dX4_set_2_12 dX4_set_2_13 (by decide) hx ⟨by omega, by omega⟩ (fun c_12 => ?_) (fun c_12 => ?_)
        · refine v_iconst E dX4_set_2_20 ?_
          refine V.topi (x' := (if x < 0 then -1 else 0)) (congrArg iZ (by split <;> omega)) ?_
          refine v_iast E dX4_set_2_21 ha k rfl (by omega) (by omega) hA_a (fun H_9 ha_7 hs_8 => ?_)
          refine v_iinc E 0 rfl dX4_set_2_22 (zlt hL rfl) (lv' := [(3, vi ((k : Int) + 1)), (1, vj x), (0, .ref a)]) rfl ?_
          refine v_goto E (tgt := 2) dX4_set_2_25 (by decide) ?_
          exact ih_2  H_9 (k + 1) _ (by omega) (by omega) (by omega) (up_hf hf) ha_7
        · refine v_iconst E dX4_set_2_16 ?_
          refine v_goto E (tgt := 21) dX4_set_2_17 (by decide) ?_
          refine V.topi (x' := (if x < 0 then -1 else 0)) (congrArg iZ (by split <;> omega)) ?_
          refine v_iast E dX4_set_2_21 ha k rfl (by omega) (by omega) hA_a (fun H_12 ha_10 hs_11 => ?_)
          refine v_iinc E 0 rfl dX4_set_2_22 (zlt hL rfl) (lv' := [(3, vi ((k : Int) + 1)), (1, vj x), (0, .ref a)]) rfl ?_
          refine v_goto E (tgt := 2) dX4_set_2_25 (by decide) ?_
          exact ih_2  H_12 (k + 1) _ (by omega) (by omega) (by omega) (up_hf hf) ha_10
  refine V.sub [0, 2, 1] (lv' := [(3, vi 2), (1, vj x), (0, .ref a)]) rfl ?_
  exact loop_2 (48 + 1) H0 2 f0 (by omega) (by omega) (by omega) (fun j h2 hj => absurd hj (by omega)) ha

set_option maxHeartbeats 1000000 in
set_option maxRecDepth 100000 in
/-- to = a -/
theorem m_copy (κ : zK) (H0 : Heap) {a b : Nat} {f0 g0 : Nat → Int} (hab : a ≠ b) (ha : hp κ H0 a (eI κ 48 f0)) (hb : hp κ H0 b (eI κ 48 g0)) : Mt κ yX4_copy_2 cX4_copy_2 3 (none) 0 0 0 0 H0 [.ref a, .ref b] (fun q => q = b) (fun v H1 => v = none ∧ hp κ H1 b (eI κ 48 f0)) := by
  refine Mt.of (by decide) (Nat.le_of_ble_eq_true rfl) ?_
  intro z E hE hH0 hA0 hL hini
  have hAll : ∀ q, (fun q => q = b) q → zA z.A z.H0 q := fun q h => Or.inl (by rw [hA0]; exact h)
  have hNew : ∀ q, H0.size ≤ q → zA z.A z.H0 q := fun q h => Or.inr (by rw [hH0]; exact h)
  have E : zOK z cX4_copy_2 RX4 κ 0 0 (none) := E
  refine V.eqL (lv' := [(0, .ref a), (1, .ref b)]) rfl ?_
  have hA_b : zA z.A z.H0 b := hAll b rfl
  refine v_iconst E dX4_copy_2_0 ?_
  refine v_istore_n E dX4_copy_2_1 (zlt hL rfl) (lv' := [(2, vi 0), (0, .ref a), (1, .ref b)]) rfl ?_
  have loop_2 : ∀ (m_2 : Nat) (H : Heap) (k : Nat) (f : Nat → Int), 48 - k < m_2 → (k ≤ 48) → (∀ j, j < 48 → f j = if j < k then f0 j else g0 j) → hp κ H a (eI κ 48 f0) → hp κ H b (eI κ 48 f) → V z H 0 0 2 [(2, vi (k : Int)), (1, .ref b), (0, .ref a)] [] := by
    intro m_2
    induction m_2 with
    | zero => intro H k f hm; exact absurd hm (by omega)
    | succ m_2 ih_2 =>
      intro H k f hm_2 hk hf ha hb
      refine v_iload_n E 0 rfl dX4_copy_2_2 ?_
      refine v_bipush E ⟨by decide, by decide⟩ dX4_copy_2_3 ?_
      refine v_icmp_ge E (tgt := 20) dX4_copy_2_5 (by decide) ⟨by omega, by omega⟩ ⟨by omega, by omega⟩ (fun c_5 => ?_) (fun c_5 => ?_)
      · refine v_vret E hE dX4_copy_2_20 ?_
        exact ⟨rfl, eI.congr hb (fun j hj => by rw [hf j hj, if_pos (by omega)])⟩
      · refine v_aload_n E 1 rfl dX4_copy_2_8 ?_
        refine v_iload_n E 0 rfl dX4_copy_2_9 ?_
        refine v_aload_n E 2 rfl dX4_copy_2_10 ?_
        refine v_iload_n E 0 rfl dX4_copy_2_11 ?_
        refine v_iald E dX4_copy_2_12 ha k rfl (by omega) (by omega) ?_
        refine v_iast E dX4_copy_2_13 hb k rfl (by omega) (by omega) hA_b (fun H_3 hb_1 hs_2 => ?_)
        have ha_4 := ha.same hs_2 hab
        refine v_iinc E 0 rfl dX4_copy_2_14 (zlt hL rfl) (lv' := [(2, vi ((k : Int) + 1)), (1, .ref b), (0, .ref a)]) rfl ?_
        refine v_goto E (tgt := 2) dX4_copy_2_17 (by decide) ?_
        exact ih_2  H_3 (k + 1) _ (by omega) (by omega) (up_s hf) ha_4 hb_1
  refine V.sub [0, 2, 1] (lv' := [(2, vi 0), (1, .ref b), (0, .ref a)]) rfl ?_
  exact loop_2 (48 + 1) H0 0 g0 (by omega) (by omega) (fun j hj => by rw [if_neg (by omega)]) ha hb

set_option maxHeartbeats 1000000 in
set_option maxRecDepth 100000 in
/-- sign -/
theorem m_sign (κ : zK) (H0 : Heap) {a : Nat} {x : Int} (hx : rN x) (ha : hp κ H0 a (eN κ x)) : Mt κ yX4_sign cX4_sign 2 (some .int) 0 0 0 0 H0 [.ref a] (fun _ => False) (fun v H1 => v = some (vi x.sign)) := by
  refine Mt.of (by decide) (Nat.le_of_ble_eq_true rfl) ?_
  intro z E hE hH0 hA0 hL hini
  have hAll : ∀ q, (fun _ => False) q → zA z.A z.H0 q := fun q h => Or.inl (by rw [hA0]; exact h)
  have hNew : ∀ q, H0.size ≤ q → zA z.A z.H0 q := fun q h => Or.inr (by rw [hH0]; exact h)
  have E : zOK z cX4_sign RX4 κ 0 0 (some .int) := E
  refine V.eqL (lv' := [(0, .ref a)]) rfl ?_
  have h47 := dg47 hx
  have hi47 := dg_in x 47
  refine v_aload_n E 0 rfl dX4_sign_0 ?_
  refine v_bipush E ⟨by decide, by decide⟩ dX4_sign_1 ?_
  refine v_iald E dX4_sign_3 ha 47 rfl (by omega) (by omega) ?_
  refine V.topi (x' := ((dg x 47) + 2147483648) % 4294967296 - 2147483648) (iZ_sg _) ?_
  refine v_if_ge E (tgt := 9) dX4_sign_4 (by decide) ⟨by omega, by omega⟩ (fun c_4 => ?_) (fun c_4 => ?_)
  · refine v_iconst E dX4_sign_9 ?_
    refine v_istore_n E dX4_sign_10 (zlt hL rfl) (lv' := [(1, vi 0), (0, .ref a)]) rfl ?_
    have loop_11 : ∀ (m_11 : Nat) (H : Heap) (k : Nat), 48 - k < m_11 → (k ≤ 48) → (∀ j, j < k → dg x j = 0) → hp κ H a (eN κ x) → V z H 0 0 11 [(1, vi (k : Int)), (0, .ref a)] [] := by
      intro m_11
      induction m_11 with
      | zero => intro H k hm; exact absurd hm (by omega)
      | succ m_11 ih_11 =>
        intro H k hm_11 hk hz ha
        have hdk := dg_in x k
        refine v_iload_n E 0 rfl dX4_sign_11 ?_
        refine v_bipush E ⟨by decide, by decide⟩ dX4_sign_12 ?_
        refine v_icmp_ge E (tgt := 31) dX4_sign_14 (by decide) ⟨by omega, by omega⟩ ⟨by omega, by omega⟩ (fun c_14 => ?_) (fun c_14 => ?_)
        · refine v_iconst E dX4_sign_31 ?_
          refine v_iret E hE dX4_sign_32 ?_
          have h0 : x = 0 := dg_all0 (hx.U (by omega)) (fun j hj => hz j (by omega))
          subst h0
          exact rfl
        · refine v_aload_n E 1 rfl dX4_sign_17 ?_
          refine v_iload_n E 0 rfl dX4_sign_18 ?_
          refine v_iald E dX4_sign_19 ha k rfl (by omega) (by omega) ?_
          refine V.topi (x' := ((dg x k) + 2147483648) % 4294967296 - 2147483648) (iZ_sg _) ?_
          refine v_if_eq E (tgt := 25) dX4_sign_20 (by decide) ⟨by omega, by omega⟩ (fun c_20 => ?_) (fun c_20 => ?_)
          · refine v_iinc E 0 rfl dX4_sign_25 (zlt hL rfl) (lv' := [(1, vi ((k : Int) + 1)), (0, .ref a)]) rfl ?_
            refine v_goto E (tgt := 11) dX4_sign_28 (by decide) ?_
            exact ih_11  H (k + 1) (by omega) (by omega) (lt_s hz (by omega)) ha
          · refine v_iconst E dX4_sign_23 ?_
            refine v_iret E hE dX4_sign_24 ?_
            have hpos : 0 < x := by
              rcases Int.lt_trichotomy x 0 with q | q | q
              · omega
              · subst q; rw [dg_z] at c_20; omega
              · exact q
            exact congrArg (fun t => some (vi t)) (Int.sign_eq_one_of_pos hpos).symm
    exact loop_11 (48 + 1) H0 0 (by omega) (by omega) (fun j hj => absurd hj (by omega)) ha
  · refine v_iconst E dX4_sign_7 ?_
    refine v_iret E hE dX4_sign_8 ?_
    have hneg : x < 0 := by omega
    exact congrArg (fun t => some (vi t)) (Int.sign_eq_neg_one_of_neg hneg).symm

set_option maxHeartbeats 1000000 in
set_option maxRecDepth 100000 in
/-- a -= b, n ints -/
theorem m_less (κ : zK) (H0 : Heap) {a b n : Nat} {x y : Int} (hab : a ≠ b) (hn : n ≤ 48) (ha : hp κ H0 a (eN κ x)) (hb : hp κ H0 b (eN κ y)) : Mt κ yX4_less cX4_less 6 (none) 0 0 0 0 H0 [.ref a, .ref b, vi (n : Int)] (fun q => q = a) (fun v H1 => v = none ∧ hp κ H1 a (eI κ 48 (fun j => if j < n then dg (x - y) j else dg x j))) := by
  refine Mt.of (by decide) (Nat.le_of_ble_eq_true rfl) ?_
  intro z E hE hH0 hA0 hL hini
  have hAll : ∀ q, (fun q => q = a) q → zA z.A z.H0 q := fun q h => Or.inl (by rw [hA0]; exact h)
  have hNew : ∀ q, H0.size ≤ q → zA z.A z.H0 q := fun q h => Or.inr (by rw [hH0]; exact h)
  have E : zOK z cX4_less RX4 κ 0 0 (none) := E
  refine V.eqL (lv' := [(0, .ref a), (1, .ref b), (2, vi (n : Int))]) rfl ?_
  have hA_a : zA z.A z.H0 a := hAll a rfl
  refine v_lconst E (x := 0) rfl dX4_less_0 ?_
  refine v_lstore_n E dX4_less_1 (zlt hL rfl) (lv' := [(3, vj 0), (0, .ref a), (1, .ref b), (2, vi (n : Int))]) rfl ?_
  refine v_iconst E dX4_less_2 ?_
  refine v_istore E dX4_less_3 (zlt hL rfl) (lv' := [(5, vi 0), (3, vj 0), (0, .ref a), (1, .ref b), (2, vi (n : Int))]) rfl ?_
  have loop_5 : ∀ (m_5 : Nat) (H : Heap) (k : Nat) (f : Nat → Int), n - k < m_5 → (k ≤ n) → (∀ j, j < 48 → f j = if j < k then dg (x - y) j else dg x j) → hp κ H a (eI κ 48 f) → hp κ H b (eN κ y) → V z H 0 0 5 [(5, vi (k : Int)), (3, vj (bw x y k)), (2, vi (n : Int)), (1, .ref b), (0, .ref a)] [] := by
    intro m_5
    induction m_5 with
    | zero => intro H k f hm; exact absurd hm (by omega)
    | succ m_5 ih_5 =>
      intro H k f hm_5 hk hf ha hb
      have hc := bw_in x y k
      have hx := dg_in x k
      have hy := dg_in y k
      refine v_iload E 0 rfl dX4_less_5 ?_
      refine v_iload_n E 2 rfl dX4_less_7 ?_
      refine v_icmp_ge E (tgt := 50) dX4_less_8 (by decide) ⟨by omega, by omega⟩ ⟨by omega, by omega⟩ (fun c_8 => ?_) (fun c_8 => ?_)
      · refine v_vret E hE dX4_less_50 ?_
        exact ⟨rfl, eI.congr ha (fun j hj => by rw [hf j hj, show n = k by omega])⟩
      · refine v_lload_n E 1 rfl dX4_less_11 ?_
        refine v_aload_n E 4 rfl dX4_less_12 ?_
        refine v_iload E 0 rfl dX4_less_13 ?_
        refine v_iald E dX4_less_15 ha k rfl (by omega) (by omega) ?_
        refine v_i2lLow E dX4_less_16 q1947 dX4_less_17 dX4_less_20 ?_
        refine v_aload_n E 3 rfl dX4_less_21 ?_
        refine v_iload E 0 rfl dX4_less_22 ?_
        refine v_iald E dX4_less_24 hb k rfl (by omega) (by omega) ?_
        refine v_i2lLow E dX4_less_25 q1947 dX4_less_26 dX4_less_29 ?_
        refine v_lsub E dX4_less_30 ?_
        refine v_ladd E dX4_less_31 ?_
        refine V.topl (x' := bw x y k + dg x k - dg y k) (congrArg jZ (by rw [hf k (by omega), if_neg (by omega)]; omega)) ?_
        refine v_lstore_n E dX4_less_32 (zlt hL rfl) (lv' := [(3, vj (bw x y k + dg x k - dg y k)), (5, vi (k : Int)), (2, vi (n : Int)), (1, .ref b), (0, .ref a)]) rfl ?_
        refine v_aload_n E 4 rfl dX4_less_33 ?_
        refine v_iload E 1 rfl dX4_less_34 ?_
        refine v_lload_n E 0 rfl dX4_less_36 ?_
        refine v_l2i E dX4_less_37 ?_
        refine V.topi (x' := dg (x - y) k) (by rw [dg_sub]; exact (iZ_mod _).symm) ?_
        refine v_iast E dX4_less_38 ha k rfl (by omega) (by omega) hA_a (fun H_3 ha_1 hs_2 => ?_)
        have hb_4 := hb.same hs_2 (Ne.symm hab)
        refine v_lload_n E 0 rfl dX4_less_39 ?_
        refine v_bipush E ⟨by decide, by decide⟩ dX4_less_40 ?_
        refine v_lshr E ⟨by omega, by omega⟩ 32 (by decide) dX4_less_42 ?_
        refine V.topl (x' := bw x y (k + 1)) (congrArg jZ (by rw [bw_s]; omega)) ?_
        refine v_lstore_n E dX4_less_43 (zlt hL rfl) (lv' := [(3, vj (bw x y (k + 1))), (5, vi (k : Int)), (2, vi (n : Int)), (1, .ref b), (0, .ref a)]) rfl ?_
        refine v_iinc E 1 rfl dX4_less_44 (zlt hL rfl) (lv' := [(5, vi ((k : Int) + 1)), (3, vj (bw x y (k + 1))), (2, vi (n : Int)), (1, .ref b), (0, .ref a)]) rfl ?_
        refine v_goto E (tgt := 5) dX4_less_47 (by decide) ?_
        exact ih_5  H_3 (k + 1) _ (by omega) (by omega) (up_s hf) ha_1 hb_4
  refine V.sub [0, 1, 4, 3, 2] (lv' := [(5, vi 0), (3, vj 0), (2, vi (n : Int)), (1, .ref b), (0, .ref a)]) rfl ?_
  exact V.eqL (by rw [bw_0]; rfl) (loop_5 (n + 1) H0 0 (dg x) (by omega) (by omega) (fun j hj => by rw [if_neg (by omega)]) ha hb)

set_option maxHeartbeats 1000000 in
set_option maxRecDepth 100000 in
/-- a = -a -/
theorem m_negate (κ : zK) (H0 : Heap) {a : Nat} {x : Int} (ha : hp κ H0 a (eN κ x)) : Mt κ yX4_negate cX4_negate 4 (none) 0 0 0 0 H0 [.ref a] (fun q => q = a) (fun v H1 => v = none ∧ hp κ H1 a (eN κ (-x))) := by
  refine Mt.of (by decide) (Nat.le_of_ble_eq_true rfl) ?_
  intro z E hE hH0 hA0 hL hini
  have hAll : ∀ q, (fun q => q = a) q → zA z.A z.H0 q := fun q h => Or.inl (by rw [hA0]; exact h)
  have hNew : ∀ q, H0.size ≤ q → zA z.A z.H0 q := fun q h => Or.inr (by rw [hH0]; exact h)
  have E : zOK z cX4_negate RX4 κ 0 0 (none) := E
  refine V.eqL (lv' := [(0, .ref a)]) rfl ?_
  have hA_a : zA z.A z.H0 a := hAll a rfl
  refine v_lconst E (x := 1) rfl dX4_negate_0 ?_
  refine v_lstore_n E dX4_negate_1 (zlt hL rfl) (lv' := [(1, vj 1), (0, .ref a)]) rfl ?_
  refine v_iconst E dX4_negate_2 ?_
  refine v_istore_n E dX4_negate_3 (zlt hL rfl) (lv' := [(3, vi 0), (1, vj 1), (0, .ref a)]) rfl ?_
  have loop_4 : ∀ (m_4 : Nat) (H : Heap) (k : Nat) (f : Nat → Int), 48 - k < m_4 → (k ≤ 48) → (∀ j, j < 48 → f j = if j < k then dg (-x) j else dg x j) → hp κ H a (eI κ 48 f) → V z H 0 0 4 [(3, vi (k : Int)), (1, vj (ng x k)), (0, .ref a)] [] := by
    intro m_4
    induction m_4 with
    | zero => intro H k f hm; exact absurd hm (by omega)
    | succ m_4 ih_4 =>
      intro H k f hm_4 hk hf ha
      have hc := ng_in x k
      have hx := dg_in x k
      refine v_iload_n E 0 rfl dX4_negate_4 ?_
      refine v_bipush E ⟨by decide, by decide⟩ dX4_negate_5 ?_
      refine v_icmp_ge E (tgt := 39) dX4_negate_7 (by decide) ⟨by omega, by omega⟩ ⟨by omega, by omega⟩ (fun c_7 => ?_) (fun c_7 => ?_)
      · refine v_vret E hE dX4_negate_39 ?_
        exact ⟨rfl, eI.congr ha (fun j hj => by rw [hf j hj, if_pos (by omega)])⟩
      · refine v_lload_n E 1 rfl dX4_negate_10 ?_
        refine v_aload_n E 2 rfl dX4_negate_11 ?_
        refine v_iload_n E 0 rfl dX4_negate_12 ?_
        refine v_iald E dX4_negate_13 ha k rfl (by omega) (by omega) ?_
        refine v_iconst E dX4_negate_14 ?_
        refine v_ixor E (c := -1 - f k) (iZ_not _) dX4_negate_15 ?_
        refine v_i2lLow E dX4_negate_16 q1947 dX4_negate_17 dX4_negate_20 ?_
        refine v_ladd E dX4_negate_21 ?_
        refine V.topl (x' := ng x k + (4294967295 - dg x k)) (congrArg jZ (by rw [hf k (by omega), if_neg (by omega)]; omega)) ?_
        refine v_lstore_n E dX4_negate_22 (zlt hL rfl) (lv' := [(1, vj (ng x k + (4294967295 - dg x k))), (3, vi (k : Int)), (0, .ref a)]) rfl ?_
        refine v_aload_n E 2 rfl dX4_negate_23 ?_
        refine v_iload_n E 1 rfl dX4_negate_24 ?_
        refine v_lload_n E 0 rfl dX4_negate_25 ?_
        refine v_l2i E dX4_negate_26 ?_
        refine V.topi (x' := dg (-x) k) (by rw [dg_neg]; exact (iZ_mod _).symm) ?_
        refine v_iast E dX4_negate_27 ha k rfl (by omega) (by omega) hA_a (fun H_3 ha_1 hs_2 => ?_)
        refine v_lload_n E 0 rfl dX4_negate_28 ?_
        refine v_bipush E ⟨by decide, by decide⟩ dX4_negate_29 ?_
        refine v_lushr E 32 (by decide) dX4_negate_31 ?_
        refine V.topl (x' := ng x (k + 1)) (congrArg jZ (by rw [ng_s]; omega)) ?_
        refine v_lstore_n E dX4_negate_32 (zlt hL rfl) (lv' := [(1, vj (ng x (k + 1))), (3, vi (k : Int)), (0, .ref a)]) rfl ?_
        refine v_iinc E 1 rfl dX4_negate_33 (zlt hL rfl) (lv' := [(3, vi ((k : Int) + 1)), (1, vj (ng x (k + 1))), (0, .ref a)]) rfl ?_
        refine v_goto E (tgt := 4) dX4_negate_36 (by decide) ?_
        exact ih_4  H_3 (k + 1) _ (by omega) (by omega) (up_s hf) ha_1
  exact V.eqL (by rw [ng_0]; rfl) (loop_4 (48 + 1) H0 0 (dg x) (by omega) (by omega) (fun j hj => by rw [if_neg (by omega)]) ha)

set_option maxHeartbeats 1000000 in
set_option maxRecDepth 100000 in
/-- a without its sign -/
theorem m_bare (κ : zK) (H0 : Heap) {a : Nat} {x : Int} (hx : rN x) (ha : hp κ H0 a (eN κ x)) : Mt κ yX4_bare cX4_bare 2 (some .boolean) 1 23 0 0 H0 [.ref a] (fun q => q = a) (fun v H1 => v = some (vi (if x < 0 then 1 else 0)) ∧ hp κ H1 a (eN κ (x.natAbs : Int))) := by
  refine Mt.of (by decide) (Nat.le_of_ble_eq_true rfl) ?_
  intro z E hE hH0 hA0 hL hini
  have hAll : ∀ q, (fun q => q = a) q → zA z.A z.H0 q := fun q h => Or.inl (by rw [hA0]; exact h)
  have hNew : ∀ q, H0.size ≤ q → zA z.A z.H0 q := fun q h => Or.inr (by rw [hH0]; exact h)
  have E : zOK z cX4_bare RX4 κ 1 23 (some .boolean) := E
  refine V.eqL (lv' := [(0, .ref a)]) rfl ?_
  have h47 := dg47 hx
  have hi47 := dg_in x 47
  have hA_a : zA z.A z.H0 a := hAll a rfl
  refine v_aload_n E 0 rfl dX4_bare_0 ?_
  refine v_bipush E ⟨by decide, by decide⟩ dX4_bare_1 ?_
  refine v_iald E dX4_bare_3 ha 47 rfl (by omega) (by omega) ?_
  refine V.topi (x' := ((dg x 47) + 2147483648) % 4294967296 - 2147483648) (iZ_sg _) ?_
  refine v_if_ge E (tgt := 11) dX4_bare_4 (by decide) ⟨by omega, by omega⟩ (fun c_4 => ?_) (fun c_4 => ?_)
  · refine v_iconst E dX4_bare_11 ?_
    refine v_istore_n E dX4_bare_12 (zlt hL rfl) (lv' := [(1, vi 0), (0, .ref a)]) rfl ?_
    refine v_iload_n E 0 rfl dX4_bare_13 ?_
    refine v_if_eq E (tgt := 21) dX4_bare_14 (by decide) ⟨by omega, by omega⟩ (fun c_14 => ?_) (fun c_14 => absurd c_14 (by omega))
    refine v_iload_n E 0 rfl dX4_bare_21 ?_
    refine v_zret E hE dX4_bare_22 rfl ?_
    have hxc : x < 0 ∨ 0 ≤ x := by omega
    refine ⟨?_, ?_⟩
    · exact congrArg (fun t => some (vi t)) (by split <;> omega)
    · have e : (x.natAbs : Int) = x := by omega
      rw [e]; exact ha
  · refine v_iconst E dX4_bare_7 ?_
    refine v_goto E (tgt := 12) dX4_bare_8 (by decide) ?_
    refine v_istore_n E dX4_bare_12 (zlt hL rfl) (lv' := [(1, vi 1), (0, .ref a)]) rfl ?_
    refine v_iload_n E 0 rfl dX4_bare_13 ?_
    refine v_if_eq E (tgt := 21) dX4_bare_14 (by decide) ⟨by omega, by omega⟩ (fun c_14 => absurd c_14 (by omega)) (fun c_14 => ?_)
    refine v_aload_n E 1 rfl dX4_bare_17 ?_
    refine v_callS E (As := [.ref a]) (m_negate κ H0 ha) (lw_S q1944 q1945 q82 q1946) 1 (by decide +kernel) rfl (by decide) (by decide) (cb' := 0) (sb' := 0) (by decide) (by decide) rfl (rest := []) (by decide) (fun q h => by rw [h]; exact hA_a) dX4_bare_18 (fun v_1 H_2 hpost_3 hz_4 hk_5 => ?_)
    obtain ⟨rfl, ha_6⟩ := hpost_3
    refine V.eq (st' := []) rfl ?_
    refine v_iload_n E 0 rfl dX4_bare_21 ?_
    refine v_zret E hE dX4_bare_22 rfl ?_
    have hxc : x < 0 ∨ 0 ≤ x := by omega
    refine ⟨?_, ?_⟩
    · exact congrArg (fun t => some (vi t)) (by split <;> omega)
    · have e : (x.natAbs : Int) = -x := by omega
      rw [e]; exact ha_6

set_option maxHeartbeats 1000000 in
set_option maxRecDepth 100000 in
/-- a times a power of 2 -/
theorem m_left (κ : zK) (H0 : Heap) {a far b : Nat} {x : Int} (hb : b ≤ 31) (hfar : far < 60000000) (ha : hp κ H0 a (eN κ x)) : Mt κ yX4_left cX4_left 7 (none) 0 0 0 0 H0 [.ref a, vi ((32 * far + b : Nat) : Int)] (fun q => q = a) (fun v H1 => v = none ∧ hp κ H1 a (eN κ (x * 2 ^ (32 * far + b)))) := by
  refine Mt.of (by decide) (Nat.le_of_ble_eq_true rfl) ?_
  intro z E hE hH0 hA0 hL hini
  have hAll : ∀ q, (fun q => q = a) q → zA z.A z.H0 q := fun q h => Or.inl (by rw [hA0]; exact h)
  have hNew : ∀ q, H0.size ≤ q → zA z.A z.H0 q := fun q h => Or.inr (by rw [hH0]; exact h)
  have E : zOK z cX4_left RX4 κ 0 0 (none) := E
  refine V.eqL (lv' := [(0, .ref a), (1, vi ((32 * far + b : Nat) : Int))]) rfl ?_
  have hA_a : zA z.A z.H0 a := hAll a rfl
  refine v_iload_n E 1 rfl dX4_left_0 ?_
  refine v_bipush E ⟨by decide, by decide⟩ dX4_left_1 ?_
  refine v_idiv E ⟨by omega, by omega⟩ ⟨by omega, by omega⟩ (by omega) dX4_left_3 ?_
  refine V.topi (x' := (far : Int)) (congrArg iZ (show ((((32 * far + b) / 32 : Nat) : Int)) = _ by omega)) ?_
  refine v_istore_n E dX4_left_4 (zlt hL rfl) (lv' := [(2, vi (far : Int)), (0, .ref a), (1, vi ((32 * far + b : Nat) : Int))]) rfl ?_
  refine v_iload_n E 2 rfl dX4_left_5 ?_
  refine v_bipush E ⟨by decide, by decide⟩ dX4_left_6 ?_
  refine v_irem E ⟨by omega, by omega⟩ ⟨by omega, by omega⟩ (by omega) dX4_left_8 ?_
  refine V.topi (x' := (b : Int)) (congrArg iZ (show ((((32 * far + b) % 32 : Nat) : Int)) = _ by omega)) ?_
  refine v_istore_n E dX4_left_9 (zlt hL rfl) (lv' := [(3, vi (b : Int)), (2, vi (far : Int)), (0, .ref a), (1, vi ((32 * far + b : Nat) : Int))]) rfl ?_
  refine v_bipush E ⟨by decide, by decide⟩ dX4_left_10 ?_
  refine v_istore E dX4_left_12 (zlt hL rfl) (lv' := [(4, vi 47), (3, vi (b : Int)), (2, vi (far : Int)), (0, .ref a), (1, vi ((32 * far + b : Nat) : Int))]) rfl ?_
  have loop_14 : ∀ (m_14 : Nat) (H : Heap) (k : Nat) (f : Nat → Int), k < m_14 → (k ≤ 48) → (∀ j, j < 48 → f j = if j < k then dg x j else dg (x * 2 ^ (32 * far + b)) j) → hp κ H a (eI κ 48 f) → V z H 0 0 14 [(4, vi ((k : Int) - 1)), (3, vi (b : Int)), (2, vi (far : Int)), (0, .ref a)] [] := by
    intro m_14
    induction m_14 with
    | zero => intro H k f hm; exact absurd hm (by omega)
    | succ m_14 ih_14 =>
      intro H k f hm_14 hk hf ha
      refine v_iload E 0 rfl dX4_left_14 ?_
      refine v_if_lt E (tgt := 92) dX4_left_16 (by decide) ⟨by omega, by omega⟩ (fun c_16 => ?_) (fun c_16 => ?_)
      · refine v_vret E hE dX4_left_92 ?_
        exact ⟨rfl, eI.congr ha (fun j hj => by rw [hf j hj, if_neg (by omega)])⟩
      · refine v_iload E 0 rfl dX4_left_19 ?_
        refine v_iload_n E 2 rfl dX4_left_21 ?_
        refine v_isub E dX4_left_22 ?_
        refine v_if_lt E (tgt := 35) dX4_left_23 (by decide) ⟨by omega, by omega⟩ (fun c_23 => ?_) (fun c_23 => ?_)
        · refine v_iconst E dX4_left_35 ?_
          refine V.topi (x' := (if far < k - 1 + 1 then dg x (k - 1 - far) else 0)) (congrArg iZ (by first | (rw [if_neg (by omega)]; done) | (rw [hf _ (by omega), if_pos (by omega), if_pos (by omega)]; try congr 1 <;> omega))) ?_
          refine v_istore E dX4_left_36 (zlt hL rfl) (lv' := [(5, vi (if far < k - 1 + 1 then dg x (k - 1 - far) else 0)), (4, vi ((k : Int) - 1)), (3, vi (b : Int)), (2, vi (far : Int)), (0, .ref a)]) rfl ?_
          refine v_iload E 1 rfl dX4_left_38 ?_
          refine v_iload_n E 3 rfl dX4_left_40 ?_
          refine v_isub E dX4_left_41 ?_
          refine v_iconst E dX4_left_42 ?_
          refine v_isub E dX4_left_43 ?_
          refine v_if_lt E (tgt := 58) dX4_left_44 (by decide) ⟨by omega, by omega⟩ (fun c_44 => ?_) (fun c_44 => ?_)
          · refine v_iconst E dX4_left_58 ?_
            refine V.topi (x' := (if far + 1 < k - 1 + 1 then dg x (k - 1 - 1 - far) else 0)) (congrArg iZ (by first | (rw [if_neg (by omega)]; done) | (rw [hf _ (by omega), if_pos (by omega), if_pos (by omega)]; try congr 1 <;> omega))) ?_
            refine v_istore E dX4_left_59 (zlt hL rfl) (lv' := [(6, vi (if far + 1 < k - 1 + 1 then dg x (k - 1 - 1 - far) else 0)), (5, vi (if far < k - 1 + 1 then dg x (k - 1 - far) else 0)), (4, vi ((k : Int) - 1)), (3, vi (b : Int)), (2, vi (far : Int)), (0, .ref a)]) rfl ?_
            refine v_aload_n E 5 rfl dX4_left_61 ?_
            refine v_iload E 2 rfl dX4_left_62 ?_
            refine v_iload_n E 3 rfl dX4_left_64 ?_
            refine v_if_ne E (tgt := 73) dX4_left_65 (by decide) ⟨by omega, by omega⟩ (fun c_65 => ?_) (fun c_65 => ?_)
            · refine v_iload E 1 rfl dX4_left_73 ?_
              refine v_iload_n E 3 rfl dX4_left_75 ?_
              refine v_ishl E b (by omega) dX4_left_76 ?_
              refine v_iload E 0 rfl dX4_left_77 ?_
              refine v_bipush E ⟨by decide, by decide⟩ dX4_left_79 ?_
              refine v_iload_n E 3 rfl dX4_left_81 ?_
              refine v_isub E dX4_left_82 ?_
              refine V.topi (x' := ((32 - b : Nat) : Int)) (congrArg iZ (by omega)) ?_
              refine v_iushr E (32 - b) (by omega) dX4_left_83 ?_
              refine v_ior E (c := (if far < k - 1 + 1 then dg x (k - 1 - far) else 0) * 2 ^ b + (if far + 1 < k - 1 + 1 then dg x (k - 1 - 1 - far) else 0) / 2 ^ (32 - b)) (by rw [Int.emod_eq_of_lt (ite_in x _ _).1 (ite_in x _ _).2]; exact iZ_or (Int.ediv_nonneg (ite_in x _ _).1 (Int.le_of_lt (p2 _))) (lo_lt b hb (ite_in x _ _).2) (by omega)) dX4_left_84 ?_
              refine V.topi (x' := dg (x * 2 ^ (32 * far + b)) (k - 1)) (left_dg x far b (k - 1) hb) ?_
              refine v_iast E dX4_left_85 ha (k - 1) (by omega) (by omega) (by omega) hA_a (fun H_3 ha_1 hs_2 => ?_)
              refine v_iinc E 2 rfl dX4_left_86 (zlt hL rfl) (lv' := [(4, vi (((k : Int) - 1) + (-1))), (6, vi (if far + 1 < k - 1 + 1 then dg x (k - 1 - 1 - far) else 0)), (5, vi (if far < k - 1 + 1 then dg x (k - 1 - far) else 0)), (3, vi (b : Int)), (2, vi (far : Int)), (0, .ref a)]) rfl ?_
              refine v_goto E (tgt := 14) dX4_left_89 (by decide) ?_
              refine V.sub [0, 3, 4, 5] (lv' := [(4, vi (((k : Int) - 1) + (-1))), (3, vi (b : Int)), (2, vi (far : Int)), (0, .ref a)]) rfl ?_
              exact V.eqL (by congr 4; omega) (ih_14  H_3 (k - 1) _ (by omega) (by omega) (dn_s (by omega) hf) ha_1)
            · have c_65_ : b = 0 := by omega
              refine v_iload E 1 rfl dX4_left_68 ?_
              refine v_goto E (tgt := 85) dX4_left_70 (by decide) ?_
              refine V.topi (x' := dg (x * 2 ^ (32 * far + b)) (k - 1)) (by subst c_65_; exact congrArg iZ (left_dg0 x far (k - 1))) ?_
              refine v_iast E dX4_left_85 ha (k - 1) (by omega) (by omega) (by omega) hA_a (fun H_6 ha_4 hs_5 => ?_)
              refine v_iinc E 2 rfl dX4_left_86 (zlt hL rfl) (lv' := [(4, vi (((k : Int) - 1) + (-1))), (6, vi (if far + 1 < k - 1 + 1 then dg x (k - 1 - 1 - far) else 0)), (5, vi (if far < k - 1 + 1 then dg x (k - 1 - far) else 0)), (3, vi (b : Int)), (2, vi (far : Int)), (0, .ref a)]) rfl ?_
              refine v_goto E (tgt := 14) dX4_left_89 (by decide) ?_
              refine V.sub [0, 3, 4, 5] (lv' := [(4, vi (((k : Int) - 1) + (-1))), (3, vi (b : Int)), (2, vi (far : Int)), (0, .ref a)]) rfl ?_
              exact V.eqL (by congr 4; omega) (ih_14  H_6 (k - 1) _ (by omega) (by omega) (dn_s (by omega) hf) ha_4)
          · refine v_aload_n E 4 rfl dX4_left_47 ?_
            refine v_iload E 1 rfl dX4_left_48 ?_
            refine v_iload_n E 3 rfl dX4_left_50 ?_
            refine v_isub E dX4_left_51 ?_
            refine v_iconst E dX4_left_52 ?_
            refine v_isub E dX4_left_53 ?_
            refine v_iald E dX4_left_54 ha (k - 1 - 1 - far) (by omega) (by omega) (by omega) ?_
            refine v_goto E (tgt := 59) dX4_left_55 (by decide) ?_
            refine V.topi (x' := (if far + 1 < k - 1 + 1 then dg x (k - 1 - 1 - far) else 0)) (congrArg iZ (by first | (rw [if_neg (by omega)]; done) | (rw [hf _ (by omega), if_pos (by omega), if_pos (by omega)]; try congr 1 <;> omega))) ?_
            refine v_istore E dX4_left_59 (zlt hL rfl) (lv' := [(6, vi (if far + 1 < k - 1 + 1 then dg x (k - 1 - 1 - far) else 0)), (5, vi (if far < k - 1 + 1 then dg x (k - 1 - far) else 0)), (4, vi ((k : Int) - 1)), (3, vi (b : Int)), (2, vi (far : Int)), (0, .ref a)]) rfl ?_
            refine v_aload_n E 5 rfl dX4_left_61 ?_
            refine v_iload E 2 rfl dX4_left_62 ?_
            refine v_iload_n E 3 rfl dX4_left_64 ?_
            refine v_if_ne E (tgt := 73) dX4_left_65 (by decide) ⟨by omega, by omega⟩ (fun c_65 => ?_) (fun c_65 => ?_)
            · refine v_iload E 1 rfl dX4_left_73 ?_
              refine v_iload_n E 3 rfl dX4_left_75 ?_
              refine v_ishl E b (by omega) dX4_left_76 ?_
              refine v_iload E 0 rfl dX4_left_77 ?_
              refine v_bipush E ⟨by decide, by decide⟩ dX4_left_79 ?_
              refine v_iload_n E 3 rfl dX4_left_81 ?_
              refine v_isub E dX4_left_82 ?_
              refine V.topi (x' := ((32 - b : Nat) : Int)) (congrArg iZ (by omega)) ?_
              refine v_iushr E (32 - b) (by omega) dX4_left_83 ?_
              refine v_ior E (c := (if far < k - 1 + 1 then dg x (k - 1 - far) else 0) * 2 ^ b + (if far + 1 < k - 1 + 1 then dg x (k - 1 - 1 - far) else 0) / 2 ^ (32 - b)) (by rw [Int.emod_eq_of_lt (ite_in x _ _).1 (ite_in x _ _).2]; exact iZ_or (Int.ediv_nonneg (ite_in x _ _).1 (Int.le_of_lt (p2 _))) (lo_lt b hb (ite_in x _ _).2) (by omega)) dX4_left_84 ?_
              refine V.topi (x' := dg (x * 2 ^ (32 * far + b)) (k - 1)) (left_dg x far b (k - 1) hb) ?_
              refine v_iast E dX4_left_85 ha (k - 1) (by omega) (by omega) (by omega) hA_a (fun H_9 ha_7 hs_8 => ?_)
              refine v_iinc E 2 rfl dX4_left_86 (zlt hL rfl) (lv' := [(4, vi (((k : Int) - 1) + (-1))), (6, vi (if far + 1 < k - 1 + 1 then dg x (k - 1 - 1 - far) else 0)), (5, vi (if far < k - 1 + 1 then dg x (k - 1 - far) else 0)), (3, vi (b : Int)), (2, vi (far : Int)), (0, .ref a)]) rfl ?_
              refine v_goto E (tgt := 14) dX4_left_89 (by decide) ?_
              refine V.sub [0, 3, 4, 5] (lv' := [(4, vi (((k : Int) - 1) + (-1))), (3, vi (b : Int)), (2, vi (far : Int)), (0, .ref a)]) rfl ?_
              exact V.eqL (by congr 4; omega) (ih_14  H_9 (k - 1) _ (by omega) (by omega) (dn_s (by omega) hf) ha_7)
            · have c_65_ : b = 0 := by omega
              refine v_iload E 1 rfl dX4_left_68 ?_
              refine v_goto E (tgt := 85) dX4_left_70 (by decide) ?_
              refine V.topi (x' := dg (x * 2 ^ (32 * far + b)) (k - 1)) (by subst c_65_; exact congrArg iZ (left_dg0 x far (k - 1))) ?_
              refine v_iast E dX4_left_85 ha (k - 1) (by omega) (by omega) (by omega) hA_a (fun H_12 ha_10 hs_11 => ?_)
              refine v_iinc E 2 rfl dX4_left_86 (zlt hL rfl) (lv' := [(4, vi (((k : Int) - 1) + (-1))), (6, vi (if far + 1 < k - 1 + 1 then dg x (k - 1 - 1 - far) else 0)), (5, vi (if far < k - 1 + 1 then dg x (k - 1 - far) else 0)), (3, vi (b : Int)), (2, vi (far : Int)), (0, .ref a)]) rfl ?_
              refine v_goto E (tgt := 14) dX4_left_89 (by decide) ?_
              refine V.sub [0, 3, 4, 5] (lv' := [(4, vi (((k : Int) - 1) + (-1))), (3, vi (b : Int)), (2, vi (far : Int)), (0, .ref a)]) rfl ?_
              exact V.eqL (by congr 4; omega) (ih_14  H_12 (k - 1) _ (by omega) (by omega) (dn_s (by omega) hf) ha_10)
        · refine v_aload_n E 3 rfl dX4_left_26 ?_
          refine v_iload E 0 rfl dX4_left_27 ?_
          refine v_iload_n E 2 rfl dX4_left_29 ?_
          refine v_isub E dX4_left_30 ?_
          refine v_iald E dX4_left_31 ha (k - 1 - far) (by omega) (by omega) (by omega) ?_
          refine v_goto E (tgt := 36) dX4_left_32 (by decide) ?_
          refine V.topi (x' := (if far < k - 1 + 1 then dg x (k - 1 - far) else 0)) (congrArg iZ (by first | (rw [if_neg (by omega)]; done) | (rw [hf _ (by omega), if_pos (by omega), if_pos (by omega)]; try congr 1 <;> omega))) ?_
          refine v_istore E dX4_left_36 (zlt hL rfl) (lv' := [(5, vi (if far < k - 1 + 1 then dg x (k - 1 - far) else 0)), (4, vi ((k : Int) - 1)), (3, vi (b : Int)), (2, vi (far : Int)), (0, .ref a)]) rfl ?_
          refine v_iload E 1 rfl dX4_left_38 ?_
          refine v_iload_n E 3 rfl dX4_left_40 ?_
          refine v_isub E dX4_left_41 ?_
          refine v_iconst E dX4_left_42 ?_
          refine v_isub E dX4_left_43 ?_
          refine v_if_lt E (tgt := 58) dX4_left_44 (by decide) ⟨by omega, by omega⟩ (fun c_44 => ?_) (fun c_44 => ?_)
          · refine v_iconst E dX4_left_58 ?_
            refine V.topi (x' := (if far + 1 < k - 1 + 1 then dg x (k - 1 - 1 - far) else 0)) (congrArg iZ (by first | (rw [if_neg (by omega)]; done) | (rw [hf _ (by omega), if_pos (by omega), if_pos (by omega)]; try congr 1 <;> omega))) ?_
            refine v_istore E dX4_left_59 (zlt hL rfl) (lv' := [(6, vi (if far + 1 < k - 1 + 1 then dg x (k - 1 - 1 - far) else 0)), (5, vi (if far < k - 1 + 1 then dg x (k - 1 - far) else 0)), (4, vi ((k : Int) - 1)), (3, vi (b : Int)), (2, vi (far : Int)), (0, .ref a)]) rfl ?_
            refine v_aload_n E 5 rfl dX4_left_61 ?_
            refine v_iload E 2 rfl dX4_left_62 ?_
            refine v_iload_n E 3 rfl dX4_left_64 ?_
            refine v_if_ne E (tgt := 73) dX4_left_65 (by decide) ⟨by omega, by omega⟩ (fun c_65 => ?_) (fun c_65 => ?_)
            · refine v_iload E 1 rfl dX4_left_73 ?_
              refine v_iload_n E 3 rfl dX4_left_75 ?_
              refine v_ishl E b (by omega) dX4_left_76 ?_
              refine v_iload E 0 rfl dX4_left_77 ?_
              refine v_bipush E ⟨by decide, by decide⟩ dX4_left_79 ?_
              refine v_iload_n E 3 rfl dX4_left_81 ?_
              refine v_isub E dX4_left_82 ?_
              refine V.topi (x' := ((32 - b : Nat) : Int)) (congrArg iZ (by omega)) ?_
              refine v_iushr E (32 - b) (by omega) dX4_left_83 ?_
              refine v_ior E (c := (if far < k - 1 + 1 then dg x (k - 1 - far) else 0) * 2 ^ b + (if far + 1 < k - 1 + 1 then dg x (k - 1 - 1 - far) else 0) / 2 ^ (32 - b)) (by rw [Int.emod_eq_of_lt (ite_in x _ _).1 (ite_in x _ _).2]; exact iZ_or (Int.ediv_nonneg (ite_in x _ _).1 (Int.le_of_lt (p2 _))) (lo_lt b hb (ite_in x _ _).2) (by omega)) dX4_left_84 ?_
              refine V.topi (x' := dg (x * 2 ^ (32 * far + b)) (k - 1)) (left_dg x far b (k - 1) hb) ?_
              refine v_iast E dX4_left_85 ha (k - 1) (by omega) (by omega) (by omega) hA_a (fun H_15 ha_13 hs_14 => ?_)
              refine v_iinc E 2 rfl dX4_left_86 (zlt hL rfl) (lv' := [(4, vi (((k : Int) - 1) + (-1))), (6, vi (if far + 1 < k - 1 + 1 then dg x (k - 1 - 1 - far) else 0)), (5, vi (if far < k - 1 + 1 then dg x (k - 1 - far) else 0)), (3, vi (b : Int)), (2, vi (far : Int)), (0, .ref a)]) rfl ?_
              refine v_goto E (tgt := 14) dX4_left_89 (by decide) ?_
              refine V.sub [0, 3, 4, 5] (lv' := [(4, vi (((k : Int) - 1) + (-1))), (3, vi (b : Int)), (2, vi (far : Int)), (0, .ref a)]) rfl ?_
              exact V.eqL (by congr 4; omega) (ih_14  H_15 (k - 1) _ (by omega) (by omega) (dn_s (by omega) hf) ha_13)
            · have c_65_ : b = 0 := by omega
              refine v_iload E 1 rfl dX4_left_68 ?_
              refine v_goto E (tgt := 85) dX4_left_70 (by decide) ?_
              refine V.topi (x' := dg (x * 2 ^ (32 * far + b)) (k - 1)) (by subst c_65_; exact congrArg iZ (left_dg0 x far (k - 1))) ?_
              refine v_iast E dX4_left_85 ha (k - 1) (by omega) (by omega) (by omega) hA_a (fun H_18 ha_16 hs_17 => ?_)
              refine v_iinc E 2 rfl dX4_left_86 (zlt hL rfl) (lv' := [(4, vi (((k : Int) - 1) + (-1))), (6, vi (if far + 1 < k - 1 + 1 then dg x (k - 1 - 1 - far) else 0)), (5, vi (if far < k - 1 + 1 then dg x (k - 1 - far) else 0)), (3, vi (b : Int)), (2, vi (far : Int)), (0, .ref a)]) rfl ?_
              refine v_goto E (tgt := 14) dX4_left_89 (by decide) ?_
              refine V.sub [0, 3, 4, 5] (lv' := [(4, vi (((k : Int) - 1) + (-1))), (3, vi (b : Int)), (2, vi (far : Int)), (0, .ref a)]) rfl ?_
              exact V.eqL (by congr 4; omega) (ih_14  H_18 (k - 1) _ (by omega) (by omega) (dn_s (by omega) hf) ha_16)
          · refine v_aload_n E 4 rfl dX4_left_47 ?_
            refine v_iload E 1 rfl dX4_left_48 ?_
            refine v_iload_n E 3 rfl dX4_left_50 ?_
            refine v_isub E dX4_left_51 ?_
            refine v_iconst E dX4_left_52 ?_
            refine v_isub E dX4_left_53 ?_
            refine v_iald E dX4_left_54 ha (k - 1 - 1 - far) (by omega) (by omega) (by omega) ?_
            refine v_goto E (tgt := 59) dX4_left_55 (by decide) ?_
            refine V.topi (x' := (if far + 1 < k - 1 + 1 then dg x (k - 1 - 1 - far) else 0)) (congrArg iZ (by first | (rw [if_neg (by omega)]; done) | (rw [hf _ (by omega), if_pos (by omega), if_pos (by omega)]; try congr 1 <;> omega))) ?_
            refine v_istore E dX4_left_59 (zlt hL rfl) (lv' := [(6, vi (if far + 1 < k - 1 + 1 then dg x (k - 1 - 1 - far) else 0)), (5, vi (if far < k - 1 + 1 then dg x (k - 1 - far) else 0)), (4, vi ((k : Int) - 1)), (3, vi (b : Int)), (2, vi (far : Int)), (0, .ref a)]) rfl ?_
            refine v_aload_n E 5 rfl dX4_left_61 ?_
            refine v_iload E 2 rfl dX4_left_62 ?_
            refine v_iload_n E 3 rfl dX4_left_64 ?_
            refine v_if_ne E (tgt := 73) dX4_left_65 (by decide) ⟨by omega, by omega⟩ (fun c_65 => ?_) (fun c_65 => ?_)
            · refine v_iload E 1 rfl dX4_left_73 ?_
              refine v_iload_n E 3 rfl dX4_left_75 ?_
              refine v_ishl E b (by omega) dX4_left_76 ?_
              refine v_iload E 0 rfl dX4_left_77 ?_
              refine v_bipush E ⟨by decide, by decide⟩ dX4_left_79 ?_
              refine v_iload_n E 3 rfl dX4_left_81 ?_
              refine v_isub E dX4_left_82 ?_
              refine V.topi (x' := ((32 - b : Nat) : Int)) (congrArg iZ (by omega)) ?_
              refine v_iushr E (32 - b) (by omega) dX4_left_83 ?_
              refine v_ior E (c := (if far < k - 1 + 1 then dg x (k - 1 - far) else 0) * 2 ^ b + (if far + 1 < k - 1 + 1 then dg x (k - 1 - 1 - far) else 0) / 2 ^ (32 - b)) (by rw [Int.emod_eq_of_lt (ite_in x _ _).1 (ite_in x _ _).2]; exact iZ_or (Int.ediv_nonneg (ite_in x _ _).1 (Int.le_of_lt (p2 _))) (lo_lt b hb (ite_in x _ _).2) (by omega)) dX4_left_84 ?_
              refine V.topi (x' := dg (x * 2 ^ (32 * far + b)) (k - 1)) (left_dg x far b (k - 1) hb) ?_
              refine v_iast E dX4_left_85 ha (k - 1) (by omega) (by omega) (by omega) hA_a (fun H_21 ha_19 hs_20 => ?_)
              refine v_iinc E 2 rfl dX4_left_86 (zlt hL rfl) (lv' := [(4, vi (((k : Int) - 1) + (-1))), (6, vi (if far + 1 < k - 1 + 1 then dg x (k - 1 - 1 - far) else 0)), (5, vi (if far < k - 1 + 1 then dg x (k - 1 - far) else 0)), (3, vi (b : Int)), (2, vi (far : Int)), (0, .ref a)]) rfl ?_
              refine v_goto E (tgt := 14) dX4_left_89 (by decide) ?_
              refine V.sub [0, 3, 4, 5] (lv' := [(4, vi (((k : Int) - 1) + (-1))), (3, vi (b : Int)), (2, vi (far : Int)), (0, .ref a)]) rfl ?_
              exact V.eqL (by congr 4; omega) (ih_14  H_21 (k - 1) _ (by omega) (by omega) (dn_s (by omega) hf) ha_19)
            · have c_65_ : b = 0 := by omega
              refine v_iload E 1 rfl dX4_left_68 ?_
              refine v_goto E (tgt := 85) dX4_left_70 (by decide) ?_
              refine V.topi (x' := dg (x * 2 ^ (32 * far + b)) (k - 1)) (by subst c_65_; exact congrArg iZ (left_dg0 x far (k - 1))) ?_
              refine v_iast E dX4_left_85 ha (k - 1) (by omega) (by omega) (by omega) hA_a (fun H_24 ha_22 hs_23 => ?_)
              refine v_iinc E 2 rfl dX4_left_86 (zlt hL rfl) (lv' := [(4, vi (((k : Int) - 1) + (-1))), (6, vi (if far + 1 < k - 1 + 1 then dg x (k - 1 - 1 - far) else 0)), (5, vi (if far < k - 1 + 1 then dg x (k - 1 - far) else 0)), (3, vi (b : Int)), (2, vi (far : Int)), (0, .ref a)]) rfl ?_
              refine v_goto E (tgt := 14) dX4_left_89 (by decide) ?_
              refine V.sub [0, 3, 4, 5] (lv' := [(4, vi (((k : Int) - 1) + (-1))), (3, vi (b : Int)), (2, vi (far : Int)), (0, .ref a)]) rfl ?_
              exact V.eqL (by congr 4; omega) (ih_14  H_24 (k - 1) _ (by omega) (by omega) (dn_s (by omega) hf) ha_22)
  refine V.sub [0, 1, 2, 3] (lv' := [(4, vi 47), (3, vi (b : Int)), (2, vi (far : Int)), (0, .ref a)]) rfl ?_
  exact V.eqL (by rfl) (loop_14 (48 + 1) H0 48 (dg x) (by omega) (by omega) (fun j hj => by rw [if_pos (by omega)]) ha)
