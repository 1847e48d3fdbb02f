/-! MUTABLE BIG INTEGERS: made, told -/
theorem all_up {f : Nat → Int} {x : Int} {k : Nat} (h : ∀ j, j < k → f j = x) : ∀ j, j < k + 1 → va_up f k x j = x := by
  intro j hj
  by_cases e : j = k
  · rw [e, va_up_self]
  · rw [va_up_ne _ _ e]; exact h j (by omega)
theorem MI.mk0 {κ : zK} {H : Heap} {a v n : Nat} {f : Nat → Int} {X : Int} (hoa : hp κ H a (.inr (9, [.ref v, vi (n : Int), vi 0]))) (hv : hp κ H v (eI κ n (bM X n))) (hn : n ≤ 1000) (h0 : 0 ≤ X) (h1 : X < 2 ^ (32 * n)) : MI κ H a v 0 n n (bM X n) X :=
  ⟨hoa, hv, by omega, hn, fun k hk => by rw [Nat.zero_add], h0, h1⟩
set_option maxHeartbeats 400000 in
set_option maxRecDepth 100000 in
/-- copyOf of ints -/
theorem g_cpi (κ : zK) (H0 : Heap) {a n : Nat} {f : Nat → Int} (hn : n ≤ 1000) (ha : hp κ H0 a (eI κ n f)) : Mt κ yJ7_copyOf_4 cJ7_copyOf_4 3 (some (.array .int)) 1 14 1 n H0 [.ref a, vi (n : Int)] (fun _ => False) (fun v H1 => ∃ q : Nat, v = some (.ref q) ∧ H0.size ≤ q ∧ hp κ H1 q (eI κ n f)) := by
  refine Mt.of (by decide) (Nat.le_of_ble_eq_true rfl) ?_
  intro z E hE hH0 hA0 hL hini
  have hAll : ∀ q, (fun _ => False) q → zA z.A z.H0 q := fun q h => Or.inl (by rw [hA0]; exact h)
  have hNew : ∀ q, H0.size ≤ q → zA z.A z.H0 q := fun q h => Or.inr (by rw [hH0]; exact h)
  have E : zOK z cJ7_copyOf_4 RJ7 κ 1 14 (some (.array .int)) := E
  refine V.eqL (lv' := [(0, .ref a), (1, vi (n : Int))]) rfl ?_
  refine v_iload_n E 1 rfl dJ7_copyOf_4_0 ?_
  refine v_aload_n E 0 rfl dJ7_copyOf_4_1 ?_
  refine v_alen E dJ7_copyOf_4_2 (t := 0) (ty := .int) ha rfl ?_
  refine v_icmp_ne E (tgt := 14) dJ7_copyOf_4_3 (by decide) ⟨by omega, by omega⟩ ⟨by omega, by omega⟩ (fun c_3 => absurd c_3 (by omega)) (fun c_3 => ?_)
  refine v_aload_n E 0 rfl dJ7_copyOf_4_6 ?_
  refine V.frame (fun hfz_fr_1 hfk_fr_1 => ?_)
  rw [hH0] at hfz_fr_1 hfk_fr_1
  rw [hA0] at hfk_fr_1
  refine v_cloneI E ha q946 q947 q784 q785 q948 (by decide) (Nat.le_of_ble_eq_true rfl) (cb' := 0) (sb' := 0) (by omega) (by omega) dJ7_copyOf_4_7 (fun q_2 H_3 hq_6 hn_4 hg_5 => ?_)
  have hne_a_q_2 : a ≠ q_2 := by have := ha.lt; omega
  have ha_8 := ha.grow hg_5
  refine v_castI E hn_4 q950 dJ7_copyOf_4_10 ?_
  refine v_aret E hE rfl (Or.inr ⟨_, rfl⟩) dJ7_copyOf_4_13 (Or.inr ⟨_, rfl⟩) ?_
  exact ⟨_, rfl, by omega, hn_4⟩

set_option maxHeartbeats 400000 in
set_option maxRecDepth 100000 in
/-- fill -/
theorem g_fill (κ : zK) (H0 : Heap) {a n : Nat} {f : Nat → Int} {x : Int} (hn : n ≤ 1000) (ha : hp κ H0 a (eI κ n f)) : Mt κ yJ7_fill_2 cJ7_fill_2 4 (none) 0 0 0 0 H0 [.ref a, vi x] (fun q => q = a) (fun v H1 => v = none ∧ hp κ H1 a (eI κ n (fun _ => x))) := by
  refine Mt.of (by decide) (Nat.le_of_ble_eq_true rfl) ?_
  intro z E hE hH0 hA0 hL hini
  have hAll : ∀ q, (fun q => q = a) q → zA z.A z.H0 q := fun q h => Or.inl (by rw [hA0]; exact h)
  have hNew : ∀ q, H0.size ≤ q → zA z.A z.H0 q := fun q h => Or.inr (by rw [hH0]; exact h)
  have E : zOK z cJ7_fill_2 RJ7 κ 0 0 (none) := E
  refine V.eqL (lv' := [(0, .ref a), (1, vi x)]) rfl ?_
  refine v_iconst E dJ7_fill_2_0 ?_
  refine v_istore_n E dJ7_fill_2_1 (zlt hL rfl) (lv' := [(2, vi 0), (0, .ref a), (1, vi x)]) rfl ?_
  refine v_aload_n E 1 rfl dJ7_fill_2_2 ?_
  refine v_alen E dJ7_fill_2_3 (t := 0) (ty := .int) ha rfl ?_
  refine v_istore_n E dJ7_fill_2_4 (zlt hL rfl) (lv' := [(3, vi (n : Int)), (2, vi 0), (0, .ref a), (1, vi x)]) rfl ?_
  have loop_5 : ∀ (m_5 : Nat) (H : Heap) (k : Nat) (f : Nat → Int), n - k < m_5 → (k ≤ n) → (∀ j, j < k → f j = x) → hp κ H a (eI κ n f) → V z H 0 0 5 [(2, vi (k : Int)), (3, vi (n : Int)), (1, vi x), (0, .ref a)] [] := by
    intro m_5
    induction m_5 with
    | zero => intro H k f hm; exact absurd hm (by omega)
    | succ m_5 ih_5 =>
      intro H k f hm_5 hk hf ha
      refine v_iload_n E 0 rfl dJ7_fill_2_5 ?_
      refine v_iload_n E 1 rfl dJ7_fill_2_6 ?_
      refine v_icmp_ge E (tgt := 20) dJ7_fill_2_7 (by decide) ⟨by omega, by omega⟩ ⟨by omega, by omega⟩ (fun c_7 => ?_) (fun c_7 => ?_)
      · refine v_vret E hE dJ7_fill_2_20 ?_
        exact ⟨rfl, eI.congr ha (fun j hj => congrArg iZ (hf j (by omega)))⟩
      · refine v_aload_n E 3 rfl dJ7_fill_2_10 ?_
        refine v_iload_n E 0 rfl dJ7_fill_2_11 ?_
        refine v_iload_n E 2 rfl dJ7_fill_2_12 ?_
        refine v_iast E dJ7_fill_2_13 ha k rfl (by omega) (by omega) (hAll _ rfl) (fun H_3 ha_1 hs_2 => ?_)
        refine v_iinc E 0 rfl dJ7_fill_2_14 (zlt hL rfl) (lv' := [(2, vi ((k : Int) + 1)), (3, vi (n : Int)), (1, vi x), (0, .ref a)]) rfl ?_
        refine v_goto E (tgt := 5) dJ7_fill_2_17 (by decide) ?_
        exact ih_5  H_3 (k + 1) _ (by omega) (by omega) (all_up hf) ha_1
  refine V.sub [1, 0, 3, 2] (lv' := [(2, vi 0), (3, vi (n : Int)), (1, vi x), (0, .ref a)]) rfl ?_
  exact loop_5 (n + 1) H0 0 f (by omega) (by omega) (fun j hj => absurd hj (by omega)) ha

set_option maxHeartbeats 400000 in
set_option maxRecDepth 100000 in
/-- a new one, 0 -/
theorem h_i2 (κ : zK) (H0 : Heap) {a : Nat} (ho : hp κ H0 a (.inr (9, [.null, vi 0, vi 0])))  : Mt κ yJ26_init_2 cJ26_init_2 1 (none) 1 12 1 1 H0 [.ref a] (fun q => q = a) (fun v9 H1 => v9 = none ∧ ∃ v : Nat, H0.size ≤ v ∧ MI κ H1 a v 0 0 1 (fun _ => 0) 0) := by
  refine Mt.of (by decide) (Nat.le_of_ble_eq_true rfl) ?_
  intro z E hE hH0 hA0 hL hini
  have hini := hini rfl
  have hAll : ∀ q, (fun q => q = a) q → zA z.A z.H0 q := fun q h => Or.inl (by rw [hA0]; exact h)
  have hNew : ∀ q, H0.size ≤ q → zA z.A z.H0 q := fun q h => Or.inr (by rw [hH0]; exact h)
  have E : zOK z cJ26_init_2 RJ26 κ 1 12 (none) := E
  refine V.eqL (lv' := [(0, .ref a)]) rfl ?_
  refine v_aload_n E 0 rfl dJ26_init_2_0 ?_
  refine v_objInit E q1170 q111 q112 dJ26_init_2_1 (by decide) (Nat.le_of_ble_eq_true rfl) ?_
  refine v_aload_n E 0 rfl dJ26_init_2_4 ?_
  refine v_iconst E dJ26_init_2_5 ?_
  refine v_putf E in_J26 tyJ26 tyJ26_ok nmJ26 ho (ci := 9) rfl 2 (Nat.le_of_ble_eq_true rfl) q1174 rfl rfl rfl rfl (Nat.le_of_ble_eq_true rfl) (hAll _ rfl) dJ26_init_2_6 (fun H_3 ho_1 hs_2 => ?_)
  have ho_1 : hp κ H_3 a (.inr (9, [.null, vi 0, vi 0])) := ho_1
  refine v_aload_n E 0 rfl dJ26_init_2_9 ?_
  refine v_iconst E dJ26_init_2_10 ?_
  refine V.frame (fun hfz_fr_4 hfk_fr_4 => ?_)
  rw [hH0] at hfz_fr_4 hfk_fr_4
  rw [hA0] at hfk_fr_4
  refine v_newI E (n := 1) q511 (by decide) rfl (cb' := 0) (sb' := 0) (by decide) (by decide) dJ26_init_2_11 (fun q_5 H_6 hq_9 hn_7 hg_8 => ?_)
  have hne_a_q_5 : a ≠ q_5 := by have := ho_1.lt; omega
  have ho_11 := ho_1.grow hg_8
  refine v_putf E in_J26 tyJ26 tyJ26_ok nmJ26 ho_11 (ci := 9) rfl 0 (Nat.le_of_ble_eq_true rfl) q1172 rfl rfl rfl rfl (Nat.le_of_ble_eq_true rfl) (hAll _ rfl) dJ26_init_2_13 (fun H_14 ho_12 hs_13 => ?_)
  have hn_15 := hn_7.same hs_13 (Ne.symm hne_a_q_5)
  have ho_12 : hp κ H_14 a (.inr (9, [.ref q_5, vi 0, vi 0])) := ho_12
  refine v_aload_n E 0 rfl dJ26_init_2_16 ?_
  refine v_iconst E dJ26_init_2_17 ?_
  refine v_putf E in_J26 tyJ26 tyJ26_ok nmJ26 ho_12 (ci := 9) rfl 1 (Nat.le_of_ble_eq_true rfl) q1173 rfl rfl rfl rfl (Nat.le_of_ble_eq_true rfl) (hAll _ rfl) dJ26_init_2_18 (fun H_18 ho_16 hs_17 => ?_)
  have hn_19 := hn_15.same hs_17 (Ne.symm hne_a_q_5)
  have ho_16 : hp κ H_18 a (.inr (9, [.ref q_5, vi 0, vi 0])) := ho_16
  refine v_vret E hE dJ26_init_2_21 ?_
  exact ⟨rfl, _, by omega, ⟨ho_16, hn_19, by decide, by decide, fun k hk => absurd hk (by omega), by decide, by decide⟩⟩

set_option maxHeartbeats 400000 in
set_option maxRecDepth 100000 in
/-- a new one from an int -/
theorem h_i4 (κ : zK) (H0 : Heap) {a d : Nat} (hd : d < 4294967296) (ho : hp κ H0 a (.inr (9, [.null, vi 0, vi 0])))  : Mt κ yJ26_init_4 cJ26_init_4 2 (none) 1 12 1 1 H0 [.ref a, vi (d : Int)] (fun q => q = a) (fun v9 H1 => v9 = none ∧ ∃ (v : Nat) (f : Nat → Int), H0.size ≤ v ∧ MI κ H1 a v 0 1 1 f (d : Int)) := by
  refine Mt.of (by decide) (Nat.le_of_ble_eq_true rfl) ?_
  intro z E hE hH0 hA0 hL hini
  have hini := hini rfl
  have hAll : ∀ q, (fun q => q = a) q → zA z.A z.H0 q := fun q h => Or.inl (by rw [hA0]; exact h)
  have hNew : ∀ q, H0.size ≤ q → zA z.A z.H0 q := fun q h => Or.inr (by rw [hH0]; exact h)
  have E : zOK z cJ26_init_4 RJ26 κ 1 12 (none) := E
  refine V.eqL (lv' := [(0, .ref a), (1, vi (d : Int))]) rfl ?_
  refine v_aload_n E 0 rfl dJ26_init_4_0 ?_
  refine v_objInit E q1170 q111 q112 dJ26_init_4_1 (by decide) (Nat.le_of_ble_eq_true rfl) ?_
  refine v_aload_n E 0 rfl dJ26_init_4_4 ?_
  refine v_iconst E dJ26_init_4_5 ?_
  refine v_putf E in_J26 tyJ26 tyJ26_ok nmJ26 ho (ci := 9) rfl 2 (Nat.le_of_ble_eq_true rfl) q1174 rfl rfl rfl rfl (Nat.le_of_ble_eq_true rfl) (hAll _ rfl) dJ26_init_4_6 (fun H_3 ho_1 hs_2 => ?_)
  have ho_1 : hp κ H_3 a (.inr (9, [.null, vi 0, vi 0])) := ho_1
  refine v_aload_n E 0 rfl dJ26_init_4_9 ?_
  refine v_iconst E dJ26_init_4_10 ?_
  refine V.frame (fun hfz_fr_4 hfk_fr_4 => ?_)
  rw [hH0] at hfz_fr_4 hfk_fr_4
  rw [hA0] at hfk_fr_4
  refine v_newI E (n := 1) q511 (by decide) rfl (cb' := 0) (sb' := 0) (by decide) (by decide) dJ26_init_4_11 (fun q_5 H_6 hq_9 hn_7 hg_8 => ?_)
  have hne_a_q_5 : a ≠ q_5 := by have := ho_1.lt; omega
  have ho_11 := ho_1.grow hg_8
  refine v_putf E in_J26 tyJ26 tyJ26_ok nmJ26 ho_11 (ci := 9) rfl 0 (Nat.le_of_ble_eq_true rfl) q1172 rfl rfl rfl rfl (Nat.le_of_ble_eq_true rfl) (hAll _ rfl) dJ26_init_4_13 (fun H_14 ho_12 hs_13 => ?_)
  have hn_15 := hn_7.same hs_13 (Ne.symm hne_a_q_5)
  have ho_12 : hp κ H_14 a (.inr (9, [.ref q_5, vi 0, vi 0])) := ho_12
  refine v_aload_n E 0 rfl dJ26_init_4_16 ?_
  refine v_iconst E dJ26_init_4_17 ?_
  refine v_putf E in_J26 tyJ26 tyJ26_ok nmJ26 ho_12 (ci := 9) rfl 1 (Nat.le_of_ble_eq_true rfl) q1173 rfl rfl rfl rfl (Nat.le_of_ble_eq_true rfl) (hAll _ rfl) dJ26_init_4_18 (fun H_18 ho_16 hs_17 => ?_)
  have hn_19 := hn_15.same hs_17 (Ne.symm hne_a_q_5)
  have ho_16 : hp κ H_18 a (.inr (9, [.ref q_5, vi 1, vi 0])) := ho_16
  refine v_aload_n E 0 rfl dJ26_init_4_21 ?_
  refine v_getf E in_J26 ho_16 (ci := 9) rfl 0 (by decide) q1172 rfl (v := .ref q_5) rfl dJ26_init_4_22 ?_
  refine v_iconst E dJ26_init_4_25 ?_
  refine v_iload_n E 1 rfl dJ26_init_4_26 ?_
  refine v_iast E dJ26_init_4_27 hn_19 0 rfl (by omega) (by omega) (hNew _ (by omega)) (fun H_22 hn_20 hs_21 => ?_)
  have ho_23 := ho_16.same hs_21 hne_a_q_5
  refine v_vret E hE dJ26_init_4_28 ?_
  exact ⟨rfl, _, _, by omega, ⟨ho_23, hn_20, by decide, by decide, fun k hk => by rw [show k = 0 by omega, Nat.zero_add, va_up_self]; unfold bM; rw [dg_0]; exact (Int.emod_eq_of_lt (by omega) (by omega)).symm, by omega, by show (d : Int) < 4294967296; omega⟩⟩

set_option maxHeartbeats 400000 in
set_option maxRecDepth 100000 in
/-- a new one from its ints -/
theorem h_i5 (κ : zK) (H0 : Heap) {a m n : Nat} {X : Int} (hD : zDist κ) (hn : n ≤ 1000) (h0 : 0 ≤ X) (h1 : X < 2 ^ (32 * n)) (ho : hp κ H0 a (.inr (9, [.null, vi 0, vi 0]))) (hm : hp κ H0 m (eI κ n (bM X n)))  : Mt κ yJ26_init_5 cJ26_init_5 2 (none) 1 12 0 0 H0 [.ref a, .ref m] (fun q => q = a) (fun v9 H1 => v9 = none ∧ MI κ H1 a m 0 n n (bM X n) X) := by
  refine Mt.of (by decide) (Nat.le_of_ble_eq_true rfl) ?_
  intro z E hE hH0 hA0 hL hini
  have hini := hini rfl
  have hAll : ∀ q, (fun q => q = a) q → zA z.A z.H0 q := fun q h => Or.inl (by rw [hA0]; exact h)
  have hNew : ∀ q, H0.size ≤ q → zA z.A z.H0 q := fun q h => Or.inr (by rw [hH0]; exact h)
  have E : zOK z cJ26_init_5 RJ26 κ 1 12 (none) := E
  refine V.eqL (lv' := [(0, .ref a), (1, .ref m)]) rfl ?_
  have hne_m_a : m ≠ a := Ne.symm (hp.ka hD ho hm (by decide) (by decide))
  refine v_aload_n E 0 rfl dJ26_init_5_0 ?_
  refine v_objInit E q1170 q111 q112 dJ26_init_5_1 (by decide) (Nat.le_of_ble_eq_true rfl) ?_
  refine v_aload_n E 0 rfl dJ26_init_5_4 ?_
  refine v_iconst E dJ26_init_5_5 ?_
  refine v_putf E in_J26 tyJ26 tyJ26_ok nmJ26 ho (ci := 9) rfl 2 (Nat.le_of_ble_eq_true rfl) q1174 rfl rfl rfl rfl (Nat.le_of_ble_eq_true rfl) (hAll _ rfl) dJ26_init_5_6 (fun H_3 ho_1 hs_2 => ?_)
  have hm_4 := hm.same hs_2 hne_m_a
  have ho_1 : hp κ H_3 a (.inr (9, [.null, vi 0, vi 0])) := ho_1
  refine v_aload_n E 0 rfl dJ26_init_5_9 ?_
  refine v_aload_n E 1 rfl dJ26_init_5_10 ?_
  refine v_putf E in_J26 tyJ26 tyJ26_ok nmJ26 ho_1 (ci := 9) rfl 0 (Nat.le_of_ble_eq_true rfl) q1172 rfl rfl rfl rfl (Nat.le_of_ble_eq_true rfl) (hAll _ rfl) dJ26_init_5_11 (fun H_7 ho_5 hs_6 => ?_)
  have hm_8 := hm_4.same hs_6 hne_m_a
  have ho_5 : hp κ H_7 a (.inr (9, [.ref m, vi 0, vi 0])) := ho_5
  refine v_aload_n E 0 rfl dJ26_init_5_14 ?_
  refine v_aload_n E 1 rfl dJ26_init_5_15 ?_
  refine v_alen E dJ26_init_5_16 (t := 0) (ty := .int) hm_8 rfl ?_
  refine v_putf E in_J26 tyJ26 tyJ26_ok nmJ26 ho_5 (ci := 9) rfl 1 (Nat.le_of_ble_eq_true rfl) q1173 rfl rfl rfl rfl (Nat.le_of_ble_eq_true rfl) (hAll _ rfl) dJ26_init_5_17 (fun H_11 ho_9 hs_10 => ?_)
  have hm_12 := hm_8.same hs_10 hne_m_a
  have ho_9 : hp κ H_11 a (.inr (9, [.ref m, vi (n : Int), vi 0])) := ho_9
  refine v_vret E hE dJ26_init_5_20 ?_
  exact ⟨rfl, MI.mk0 (f := bM X n) ho_9 hm_12 hn h0 h1⟩

set_option maxHeartbeats 400000 in
set_option maxRecDepth 100000 in
/-- a new one from a BigInteger -/
theorem h_iB (κ : zK) (H0 : Heap) {a b N : Nat} {x : Int} (hD : zDist κ) (hNx : (x.natAbs : Int) < 2 ^ (32 * N)) (ho : hp κ H0 a (.inr (9, [.null, vi 0, vi 0]))) (hx : BI κ H0 b x)  : Mt κ yJ26_init cJ26_init 2 (none) 2 36 1 N H0 [.ref a, .ref b] (fun q => q = a) (fun v9 H1 => v9 = none ∧ ∃ v n : Nat, H0.size ≤ v ∧ n ≤ N ∧ isInts (x.natAbs : Int) n ∧ MI κ H1 a v 0 n n (bM (x.natAbs : Int) n) (x.natAbs : Int)) := by
  refine Mt.of (by decide) (Nat.le_of_ble_eq_true rfl) ?_
  intro z E hE hH0 hA0 hL hini
  have hini := hini rfl
  have hAll : ∀ q, (fun q => q = a) q → zA z.A z.H0 q := fun q h => Or.inl (by rw [hA0]; exact h)
  have hNew : ∀ q, H0.size ≤ q → zA z.A z.H0 q := fun q h => Or.inr (by rw [hH0]; exact h)
  have E : zOK z cJ26_init RJ26 κ 2 36 (none) := E
  refine V.eqL (lv' := [(0, .ref a), (1, .ref b)]) rfl ?_
  obtain ⟨mb, nb, cfb, ⟨c1b, c2b, c3b, hob⟩, hmb, hnb, hcfb⟩ := hx
  change Hid _ at hcfb
  have hsb := sgn3 x
  have h48b := hnb.1
  have hLx := ints_le (Int.natCast_nonneg _) hnb hNx
  have hne_b_a : b ≠ a := hp.kk hD hob ho (by decide) (by decide) (by decide)
  have hne_mb_a : mb ≠ a := Ne.symm (hp.ka hD ho hmb (by decide) (by decide))
  clear hsb
  refine v_aload_n E 0 rfl dJ26_init_0 ?_
  refine v_objInit E q1170 q111 q112 dJ26_init_1 (by decide) (Nat.le_of_ble_eq_true rfl) ?_
  refine v_aload_n E 0 rfl dJ26_init_4 ?_
  refine v_iconst E dJ26_init_5 ?_
  refine v_putf E in_J26 tyJ26 tyJ26_ok nmJ26 ho (ci := 9) rfl 2 (Nat.le_of_ble_eq_true rfl) q1174 rfl rfl rfl rfl (Nat.le_of_ble_eq_true rfl) (hAll _ rfl) dJ26_init_6 (fun H_3 ho_1 hs_2 => ?_)
  have hob_4 := hob.same hs_2 hne_b_a
  have hmb_5 := hmb.same hs_2 hne_mb_a
  have ho_1 : hp κ H_3 a (.inr (9, [.null, vi 0, vi 0])) := ho_1
  refine v_aload_n E 0 rfl dJ26_init_9 ?_
  refine v_aload_n E 1 rfl dJ26_init_10 ?_
  refine v_getf E in_J16 hob_4 (ci := 6) rfl 1 (by decide) q495 rfl (v := .ref mb) rfl dJ26_init_11 ?_
  refine v_alen E dJ26_init_14 (t := 0) (ty := .int) hmb_5 rfl ?_
  refine v_putf E in_J26 tyJ26 tyJ26_ok nmJ26 ho_1 (ci := 9) rfl 1 (Nat.le_of_ble_eq_true rfl) q1173 rfl rfl rfl rfl (Nat.le_of_ble_eq_true rfl) (hAll _ rfl) dJ26_init_15 (fun H_8 ho_6 hs_7 => ?_)
  have hob_9 := hob_4.same hs_7 hne_b_a
  have hmb_10 := hmb_5.same hs_7 hne_mb_a
  have ho_6 : hp κ H_8 a (.inr (9, [.null, vi (nb : Int), vi 0])) := ho_6
  refine v_aload_n E 0 rfl dJ26_init_18 ?_
  refine v_aload_n E 1 rfl dJ26_init_19 ?_
  refine v_getf E in_J16 hob_9 (ci := 6) rfl 1 (by decide) q495 rfl (v := .ref mb) rfl dJ26_init_20 ?_
  refine v_aload_n E 0 rfl dJ26_init_23 ?_
  refine v_getf E in_J26 ho_6 (ci := 9) rfl 1 (by decide) q1173 rfl (v := vi (nb : Int)) rfl dJ26_init_24 ?_
  refine V.frame (fun hfz_fr_11 hfk_fr_11 => ?_)
  rw [hH0] at hfz_fr_11 hfk_fr_11
  rw [hA0] at hfk_fr_11
  refine v_callS E (As := [.ref mb, vi (nb : Int)]) (g_cpi κ H_8 (n := nb) (by omega) hmb_10) (lw_S q1171 q1045 q81 q1046) 2 (by decide +kernel) rfl (by decide) (by decide) (cb' := 0) (sb' := 0) (by omega) (by omega) rfl (rest := [.ref a]) (Nat.le_of_ble_eq_true rfl) (fun q h => h.elim) dJ26_init_27 (fun v_12 H_13 hpost_14 hz_15 hk_16 => ?_)
  clear hz_15
  obtain ⟨q, rfl, hq, hqn⟩ := hpost_14
  have hob_17 := hob_9.kept (hk_16 _ hob_9.lt (fun h => h))
  have hmb_18 := hmb_10.kept (hk_16 _ hmb_10.lt (fun h => h))
  have ho_19 := ho_6.kept (hk_16 _ ho_6.lt (fun h => h))
  have hne_q_a : q ≠ a := Ne.symm (hp.ka hD ho_19 hqn (by decide) (by decide))
  refine V.eq (st' := [.ref q, .ref a]) rfl ?_
  refine v_putf E in_J26 tyJ26 tyJ26_ok nmJ26 ho_19 (ci := 9) rfl 0 (Nat.le_of_ble_eq_true rfl) q1172 rfl rfl rfl rfl (Nat.le_of_ble_eq_true rfl) (hAll _ rfl) dJ26_init_30 (fun H_22 ho_20 hs_21 => ?_)
  have hob_23 := hob_17.same hs_21 hne_b_a
  have hmb_24 := hmb_18.same hs_21 hne_mb_a
  have hqn_25 := hqn.same hs_21 hne_q_a
  have ho_20 : hp κ H_22 a (.inr (9, [.ref q, vi (nb : Int), vi 0])) := ho_20
  refine v_vret E hE dJ26_init_33 ?_
  exact ⟨rfl, q, nb, by omega, hLx, hnb, MI.mk0 (f := bM (x.natAbs : Int) nb) ho_20 hqn_25 (by omega) (Int.natCast_nonneg _) hnb.2.1⟩

set_option maxHeartbeats 400000 in
set_option maxRecDepth 100000 in
/-- a copy -/
theorem h_i3 (κ : zK) (H0 : Heap) {a : Nat} {b w p m cbp : Nat} {g : Nat → Int} {Y : Int} (hD : zDist κ) (hne_b_a0 : b ≠ a) (ho : hp κ H0 a (.inr (9, [.null, vi 0, vi 0]))) (hM2 : MI κ H0 b w p m cbp g Y)  : Mt κ yJ26_init_3 cJ26_init_3 2 (none) 3 73 1 m H0 [.ref a, .ref b] (fun q => q = a) (fun v9 H1 => v9 = none ∧ ∃ v : Nat, H0.size ≤ v ∧ MI κ H1 a v 0 m m (bM Y m) Y) := by
  refine Mt.of (by decide) (Nat.le_of_ble_eq_true rfl) ?_
  intro z E hE hH0 hA0 hL hini
  have hini := hini rfl
  have hAll : ∀ q, (fun q => q = a) q → zA z.A z.H0 q := fun q h => Or.inl (by rw [hA0]; exact h)
  have hNew : ∀ q, H0.size ≤ q → zA z.A z.H0 q := fun q h => Or.inr (by rw [hH0]; exact h)
  have E : zOK z cJ26_init_3 RJ26 κ 3 73 (none) := E
  refine V.eqL (lv' := [(0, .ref a), (1, .ref b)]) rfl ?_
  obtain ⟨hob, hw, hcap2, hc22, hW2, hX02, hX12⟩ := hM2
  have hne_b_a := hne_b_a0
  have hne_w_a : w ≠ a := Ne.symm (hp.ka hD ho hw (by decide) (by decide))
  refine v_aload_n E 0 rfl dJ26_init_3_0 ?_
  refine v_objInit E q1170 q111 q112 dJ26_init_3_1 (by decide) (Nat.le_of_ble_eq_true rfl) ?_
  refine v_aload_n E 0 rfl dJ26_init_3_4 ?_
  refine v_iconst E dJ26_init_3_5 ?_
  refine v_putf E in_J26 tyJ26 tyJ26_ok nmJ26 ho (ci := 9) rfl 2 (Nat.le_of_ble_eq_true rfl) q1174 rfl rfl rfl rfl (Nat.le_of_ble_eq_true rfl) (hAll _ rfl) dJ26_init_3_6 (fun H_3 ho_1 hs_2 => ?_)
  have hob_4 := hob.same hs_2 hne_b_a
  have hw_5 := hw.same hs_2 hne_w_a
  have ho_1 : hp κ H_3 a (.inr (9, [.null, vi 0, vi 0])) := ho_1
  refine v_aload_n E 0 rfl dJ26_init_3_9 ?_
  refine v_aload_n E 1 rfl dJ26_init_3_10 ?_
  refine v_getf E in_J26 hob_4 (ci := 9) rfl 1 (by decide) q1173 rfl (v := vi (m : Int)) rfl dJ26_init_3_11 ?_
  refine v_putf E in_J26 tyJ26 tyJ26_ok nmJ26 ho_1 (ci := 9) rfl 1 (Nat.le_of_ble_eq_true rfl) q1173 rfl rfl rfl rfl (Nat.le_of_ble_eq_true rfl) (hAll _ rfl) dJ26_init_3_14 (fun H_8 ho_6 hs_7 => ?_)
  have hob_9 := hob_4.same hs_7 hne_b_a
  have hw_10 := hw_5.same hs_7 hne_w_a
  have ho_6 : hp κ H_8 a (.inr (9, [.null, vi (m : Int), vi 0])) := ho_6
  refine v_aload_n E 0 rfl dJ26_init_3_17 ?_
  refine v_aload_n E 1 rfl dJ26_init_3_18 ?_
  refine v_getf E in_J26 hob_9 (ci := 9) rfl 0 (by decide) q1172 rfl (v := .ref w) rfl dJ26_init_3_19 ?_
  refine v_aload_n E 1 rfl dJ26_init_3_22 ?_
  refine v_getf E in_J26 hob_9 (ci := 9) rfl 2 (by decide) q1174 rfl (v := vi (p : Int)) rfl dJ26_init_3_23 ?_
  refine v_aload_n E 1 rfl dJ26_init_3_26 ?_
  refine v_getf E in_J26 hob_9 (ci := 9) rfl 2 (by decide) q1174 rfl (v := vi (p : Int)) rfl dJ26_init_3_27 ?_
  refine v_aload_n E 0 rfl dJ26_init_3_30 ?_
  refine v_getf E in_J26 ho_6 (ci := 9) rfl 1 (by decide) q1173 rfl (v := vi (m : Int)) rfl dJ26_init_3_31 ?_
  refine v_iadd E dJ26_init_3_34 ?_
  refine V.topi (x' := ((p + m : Nat) : Int)) (congrArg iZ (by omega)) ?_
  refine V.frame (fun hfz_fr_11 hfk_fr_11 => ?_)
  rw [hH0] at hfz_fr_11 hfk_fr_11
  rw [hA0] at hfk_fr_11
  refine v_callS E (As := [.ref w, vi (p : Int), vi ((p + m : Nat) : Int)]) (g_cpr κ H_8 (i := p) (w := m) (n := cbp) hcap2 hc22 hw_10) (lw_S q1263 q719 q81 q720) 3 (by decide +kernel) rfl (by decide) (by decide) (cb' := 0) (sb' := 0) (by omega) (by omega) rfl (rest := [.ref a]) (Nat.le_of_ble_eq_true rfl) (fun q h => h.elim) dJ26_init_3_35 (fun v_12 H_13 hpost_14 hz_15 hk_16 => ?_)
  clear hz_15
  obtain ⟨q, rfl, hq, hqn⟩ := hpost_14
  have hob_17 := hob_9.kept (hk_16 _ hob_9.lt (fun h => h))
  have hw_18 := hw_10.kept (hk_16 _ hw_10.lt (fun h => h))
  have ho_19 := ho_6.kept (hk_16 _ ho_6.lt (fun h => h))
  have hne_q_a : q ≠ a := Ne.symm (hp.ka hD ho_19 hqn (by decide) (by decide))
  refine V.eq (st' := [.ref q, .ref a]) rfl ?_
  refine v_putf E in_J26 tyJ26 tyJ26_ok nmJ26 ho_19 (ci := 9) rfl 0 (Nat.le_of_ble_eq_true rfl) q1172 rfl rfl rfl rfl (Nat.le_of_ble_eq_true rfl) (hAll _ rfl) dJ26_init_3_38 (fun H_22 ho_20 hs_21 => ?_)
  have hob_23 := hob_17.same hs_21 hne_b_a
  have hw_24 := hw_18.same hs_21 hne_w_a
  have hqn_25 := hqn.same hs_21 hne_q_a
  have ho_20 : hp κ H_22 a (.inr (9, [.ref q, vi (m : Int), vi 0])) := ho_20
  refine v_vret E hE dJ26_init_3_41 ?_
  exact ⟨rfl, q, by omega, MI.mk0 (f := bM Y m) ho_20 (eI.congr hqn_25 (fun k hk => congrArg iZ (hW2 k hk))) (by omega) hX02 hX12⟩

set_option maxHeartbeats 400000 in
set_option maxRecDepth 100000 in
/-- clear -/
theorem h_clear (κ : zK) (H0 : Heap) {a v o n cap : Nat} {f : Nat → Int} {X : Int} (hD : zDist κ) (hM : MI κ H0 a v o n cap f X)  : Mt κ yJ26_clear cJ26_clear 3 (none) 0 0 0 0 H0 [.ref a] (fun q => q = a ∨ q = v) (fun v9 H1 => v9 = none ∧ MI κ H1 a v 0 0 cap (fun _ => 0) 0) := by
  refine Mt.of (by decide) (Nat.le_of_ble_eq_true rfl) ?_
  intro z E hE hH0 hA0 hL hini
  have hAll : ∀ q, (fun q => q = a ∨ q = v) q → zA z.A z.H0 q := fun q h => Or.inl (by rw [hA0]; exact h)
  have hNew : ∀ q, H0.size ≤ q → zA z.A z.H0 q := fun q h => Or.inr (by rw [hH0]; exact h)
  have E : zOK z cJ26_clear RJ26 κ 0 0 (none) := E
  refine V.eqL (lv' := [(0, .ref a)]) rfl ?_
  obtain ⟨hoa, hv, hcap, hc2, hW, hX0, hX1⟩ := hM
  have hne_v_a : v ≠ a := Ne.symm (hp.ka hD hoa hv (by decide) (by decide))
  refine v_aload_n E 0 rfl dJ26_clear_0 ?_
  refine v_aload_n E 0 rfl dJ26_clear_1 ?_
  refine v_iconst E dJ26_clear_2 ?_
  refine v_dup_x1 E rfl rfl dJ26_clear_3 ?_
  refine v_putf E in_J26 tyJ26 tyJ26_ok nmJ26 hoa (ci := 9) rfl 1 (Nat.le_of_ble_eq_true rfl) q1173 rfl rfl rfl rfl (Nat.le_of_ble_eq_true rfl) (hAll _ (Or.inl rfl)) dJ26_clear_4 (fun H_3 hoa_1 hs_2 => ?_)
  have hv_4 := hv.same hs_2 hne_v_a
  have hoa_1 : hp κ H_3 a (.inr (9, [.ref v, vi 0, vi (o : Int)])) := hoa_1
  refine v_putf E in_J26 tyJ26 tyJ26_ok nmJ26 hoa_1 (ci := 9) rfl 2 (Nat.le_of_ble_eq_true rfl) q1174 rfl rfl rfl rfl (Nat.le_of_ble_eq_true rfl) (hAll _ (Or.inl rfl)) dJ26_clear_7 (fun H_7 hoa_5 hs_6 => ?_)
  have hv_8 := hv_4.same hs_6 hne_v_a
  have hoa_5 : hp κ H_7 a (.inr (9, [.ref v, vi 0, vi 0])) := hoa_5
  refine v_iconst E dJ26_clear_10 ?_
  refine v_istore_n E dJ26_clear_11 (zlt hL rfl) (lv' := [(1, vi 0), (0, .ref a)]) rfl ?_
  refine v_aload_n E 1 rfl dJ26_clear_12 ?_
  refine v_getf E in_J26 hoa_5 (ci := 9) rfl 0 (by decide) q1172 rfl (v := .ref v) rfl dJ26_clear_13 ?_
  refine v_alen E dJ26_clear_16 (t := 0) (ty := .int) hv_8 rfl ?_
  refine v_istore_n E dJ26_clear_17 (zlt hL rfl) (lv' := [(2, vi (cap : Int)), (1, vi 0), (0, .ref a)]) rfl ?_
  have loop_18 : ∀ (m_18 : Nat) (H : Heap) (k : Nat) (f1 : Nat → Int), cap - k < m_18 → (k ≤ cap) → (∀ j, j < k → f1 j = 0) → hp κ H a (.inr (9, [.ref v, vi 0, vi 0])) → hp κ H v (eI κ cap f1) → V z H 0 0 18 [(1, vi (k : Int)), (2, vi (cap : Int)), (0, .ref a)] [] := by
    intro m_18
    induction m_18 with
    | zero => intro H k f1 hm; exact absurd hm (by omega)
    | succ m_18 ih_18 =>
      intro H k f1 hm_18 hk hf hoa hv
      refine v_iload_n E 0 rfl dJ26_clear_18 ?_
      refine v_iload_n E 1 rfl dJ26_clear_19 ?_
      refine v_icmp_ge E (tgt := 36) dJ26_clear_20 (by decide) ⟨by omega, by omega⟩ ⟨by omega, by omega⟩ (fun c_20 => ?_) (fun c_20 => ?_)
      · refine v_vret E hE dJ26_clear_36 ?_
        exact ⟨rfl, ⟨hoa, eI.congr hv (fun j hj => congrArg iZ (hf j (by omega))), by omega, hc2, fun k hk => absurd hk (by omega), by decide, by decide⟩⟩
      · refine v_aload_n E 2 rfl dJ26_clear_23 ?_
        refine v_getf E in_J26 hoa (ci := 9) rfl 0 (by decide) q1172 rfl (v := .ref v) rfl dJ26_clear_24 ?_
        refine v_iload_n E 0 rfl dJ26_clear_27 ?_
        refine v_iconst E dJ26_clear_28 ?_
        refine v_iast E dJ26_clear_29 hv k rfl (by omega) (by omega) (hAll _ (Or.inr rfl)) (fun H_11 hv_9 hs_10 => ?_)
        have hoa_12 := hoa.same hs_10 (Ne.symm hne_v_a)
        refine v_iinc E 0 rfl dJ26_clear_30 (zlt hL rfl) (lv' := [(1, vi ((k : Int) + 1)), (2, vi (cap : Int)), (0, .ref a)]) rfl ?_
        refine v_goto E (tgt := 18) dJ26_clear_33 (by decide) ?_
        exact ih_18  H_11 (k + 1) _ (by omega) (by omega) (all_up hf) hoa_12 hv_9
  refine V.sub [1, 0, 2] (lv' := [(1, vi 0), (2, vi (cap : Int)), (0, .ref a)]) rfl ?_
  exact loop_18 (cap + 1) H_7 0 f (by omega) (by omega) (fun j hj => absurd hj (by omega)) hoa_5 hv_8

set_option maxHeartbeats 400000 in
set_option maxRecDepth 100000 in
/-- its ints -/
theorem h_gma (κ : zK) (H0 : Heap) {a v o n cap : Nat} {f : Nat → Int} {X : Int} (hD : zDist κ) (hM : MI κ H0 a v o n cap f X)  : Mt κ yJ26_getMagnitudeArray cJ26_getMagnitudeArray 2 (some (.array .int)) 3 73 1 n H0 [.ref a] (fun q => q = a ∨ q = v) (fun v9 H1 => ∃ q : Nat, v9 = some (.ref q) ∧ hp κ H1 q (eI κ n (bM X n)) ∧ (q = v ∨ H0.size ≤ q)) := by
  refine Mt.of (by decide) (Nat.le_of_ble_eq_true rfl) ?_
  intro z E hE hH0 hA0 hL hini
  have hAll : ∀ q, (fun q => q = a ∨ q = v) q → zA z.A z.H0 q := fun q h => Or.inl (by rw [hA0]; exact h)
  have hNew : ∀ q, H0.size ≤ q → zA z.A z.H0 q := fun q h => Or.inr (by rw [hH0]; exact h)
  have E : zOK z cJ26_getMagnitudeArray RJ26 κ 3 73 (some (.array .int)) := E
  refine V.eqL (lv' := [(0, .ref a)]) rfl ?_
  obtain ⟨hoa, hv, hcap, hc2, hW, hX0, hX1⟩ := hM
  have hne_v_a : v ≠ a := Ne.symm (hp.ka hD hoa hv (by decide) (by decide))
  refine v_aload_n E 0 rfl dJ26_getMagnitudeArray_0 ?_
  refine v_getf E in_J26 hoa (ci := 9) rfl 2 (by decide) q1174 rfl (v := vi (o : Int)) rfl dJ26_getMagnitudeArray_1 ?_
  refine v_if_gt E (tgt := 19) dJ26_getMagnitudeArray_4 (by decide) ⟨by omega, by omega⟩ (fun c_4 => ?_) (fun c_4 => ?_)
  · refine v_aload_n E 0 rfl dJ26_getMagnitudeArray_19 ?_
    refine v_getf E in_J26 hoa (ci := 9) rfl 0 (by decide) q1172 rfl (v := .ref v) rfl dJ26_getMagnitudeArray_20 ?_
    refine v_aload_n E 0 rfl dJ26_getMagnitudeArray_23 ?_
    refine v_getf E in_J26 hoa (ci := 9) rfl 2 (by decide) q1174 rfl (v := vi (o : Int)) rfl dJ26_getMagnitudeArray_24 ?_
    refine v_aload_n E 0 rfl dJ26_getMagnitudeArray_27 ?_
    refine v_getf E in_J26 hoa (ci := 9) rfl 2 (by decide) q1174 rfl (v := vi (o : Int)) rfl dJ26_getMagnitudeArray_28 ?_
    refine v_aload_n E 0 rfl dJ26_getMagnitudeArray_31 ?_
    refine v_getf E in_J26 hoa (ci := 9) rfl 1 (by decide) q1173 rfl (v := vi (n : Int)) rfl dJ26_getMagnitudeArray_32 ?_
    refine v_iadd E dJ26_getMagnitudeArray_35 ?_
    refine V.topi (x' := ((o + n : Nat) : Int)) (congrArg iZ (by omega)) ?_
    refine V.frame (fun hfz_fr_1 hfk_fr_1 => ?_)
    rw [hH0] at hfz_fr_1 hfk_fr_1
    rw [hA0] at hfk_fr_1
    refine v_callS E (As := [.ref v, vi (o : Int), vi ((o + n : Nat) : Int)]) (g_cpr κ H0 (i := o) (w := n) (n := cap) hcap hc2 hv) (lw_S q1263 q719 q81 q720) 3 (by decide +kernel) rfl (by decide) (by decide) (cb' := 0) (sb' := 0) (by omega) (by omega) rfl (rest := []) (Nat.le_of_ble_eq_true rfl) (fun q h => h.elim) dJ26_getMagnitudeArray_36 (fun v_2 H_3 hpost_4 hz_5 hk_6 => ?_)
    clear hz_5
    obtain ⟨q, rfl, hq, hqn⟩ := hpost_4
    have hqH9 := Nat.le_trans hfz_fr_1 hq
    have hne_v_q : v ≠ q := Nat.ne_of_lt (Nat.lt_of_lt_of_le hv.lt hq)
    have hoa_7 := hoa.kept (hk_6 _ hoa.lt (fun h => h))
    have hv_8 := hv.kept (hk_6 _ hv.lt (fun h => h))
    have hne_q_a : q ≠ a := Ne.symm (hp.ka hD hoa_7 hqn (by decide) (by decide))
    refine V.eq (st' := [.ref q]) rfl ?_
    refine v_astore_n E dJ26_getMagnitudeArray_39 (zlt hL rfl) (lv' := [(1, .ref q), (0, .ref a)]) rfl ?_
    refine v_aload_n E 1 rfl dJ26_getMagnitudeArray_40 ?_
    refine v_getf E in_J26 hoa_7 (ci := 9) rfl 0 (by decide) q1172 rfl (v := .ref v) rfl dJ26_getMagnitudeArray_41 ?_
    refine v_iconst E dJ26_getMagnitudeArray_44 ?_
    refine v_callS E (As := [.ref v, vi 0]) (g_fill κ H_3 (x := 0) hc2 hv_8) (lw_S q1385 q1386 q81 q1387) 2 (by decide +kernel) rfl (by decide) (by decide) (cb' := 0) (sb' := 0) (by decide) (by decide) rfl (rest := []) (Nat.le_of_ble_eq_true rfl) (fun q h => hAll q (Or.inr h)) dJ26_getMagnitudeArray_45 (fun v_9 H_10 hpost_11 hz_12 hk_13 => ?_)
    clear hz_12
    obtain ⟨rfl, hvf⟩ := hpost_11
    have hz_14 := hoa_7.kept (hk_13 _ hoa_7.lt (fun h => (Ne.symm hne_v_a) h))
    have hz_15 := hqn.kept (hk_13 _ hqn.lt (fun h => (Ne.symm hne_v_q) h))
    refine V.eq (st' := []) rfl ?_
    refine v_aload_n E 1 rfl dJ26_getMagnitudeArray_48 ?_
    refine v_iconst E dJ26_getMagnitudeArray_49 ?_
    refine v_putf E in_J26 tyJ26 tyJ26_ok nmJ26 hz_14 (ci := 9) rfl 2 (Nat.le_of_ble_eq_true rfl) q1174 rfl rfl rfl rfl (Nat.le_of_ble_eq_true rfl) (hAll _ (Or.inl rfl)) dJ26_getMagnitudeArray_50 (fun H_18 hz_16 hs_17 => ?_)
    have hvf_19 := hvf.same hs_17 hne_v_a
    have hz_20 := hz_15.same hs_17 hne_q_a
    have hz_16 : hp κ H_18 a (.inr (9, [.ref v, vi (n : Int), vi 0])) := hz_16
    refine v_aload_n E 1 rfl dJ26_getMagnitudeArray_53 ?_
    refine v_aload_n E 0 rfl dJ26_getMagnitudeArray_54 ?_
    refine v_alen E dJ26_getMagnitudeArray_55 (t := 0) (ty := .int) hz_20 rfl ?_
    refine v_putf E in_J26 tyJ26 tyJ26_ok nmJ26 hz_16 (ci := 9) rfl 1 (Nat.le_of_ble_eq_true rfl) q1173 rfl rfl rfl rfl (Nat.le_of_ble_eq_true rfl) (hAll _ (Or.inl rfl)) dJ26_getMagnitudeArray_56 (fun H_23 hz_21 hs_22 => ?_)
    have hvf_24 := hvf_19.same hs_22 hne_v_a
    have hz_25 := hz_20.same hs_22 hne_q_a
    have hz_21 : hp κ H_23 a (.inr (9, [.ref v, vi (n : Int), vi 0])) := hz_21
    refine v_aload_n E 1 rfl dJ26_getMagnitudeArray_59 ?_
    refine v_aload_n E 0 rfl dJ26_getMagnitudeArray_60 ?_
    refine v_putf E in_J26 tyJ26 tyJ26_ok nmJ26 hz_21 (ci := 9) rfl 0 (Nat.le_of_ble_eq_true rfl) q1172 rfl rfl rfl rfl (Nat.le_of_ble_eq_true rfl) (hAll _ (Or.inl rfl)) dJ26_getMagnitudeArray_61 (fun H_28 hz_26 hs_27 => ?_)
    have hvf_29 := hvf_24.same hs_27 hne_v_a
    have hz_30 := hz_25.same hs_27 hne_q_a
    have hz_26 : hp κ H_28 a (.inr (9, [.ref q, vi (n : Int), vi 0])) := hz_26
    refine v_aload_n E 1 rfl dJ26_getMagnitudeArray_64 ?_
    refine v_getf E in_J26 hz_26 (ci := 9) rfl 0 (by decide) q1172 rfl (v := .ref q) rfl dJ26_getMagnitudeArray_65 ?_
    refine v_aret E hE rfl (Or.inr ⟨_, rfl⟩) dJ26_getMagnitudeArray_68 (Or.inr ⟨_, rfl⟩) ?_
    exact ⟨_, rfl, eI.congr hz_30 (fun k hk => congrArg iZ (hW k hk)), Or.inr hqH9⟩
  · refine v_aload_n E 0 rfl dJ26_getMagnitudeArray_7 ?_
    refine v_getf E in_J26 hoa (ci := 9) rfl 0 (by decide) q1172 rfl (v := .ref v) rfl dJ26_getMagnitudeArray_8 ?_
    refine v_alen E dJ26_getMagnitudeArray_11 (t := 0) (ty := .int) hv rfl ?_
    refine v_aload_n E 0 rfl dJ26_getMagnitudeArray_12 ?_
    refine v_getf E in_J26 hoa (ci := 9) rfl 1 (by decide) q1173 rfl (v := vi (n : Int)) rfl dJ26_getMagnitudeArray_13 ?_
    refine v_icmp_eq E (tgt := 64) dJ26_getMagnitudeArray_16 (by decide) ⟨by omega, by omega⟩ ⟨by omega, by omega⟩ (fun c_16 => ?_) (fun c_16 => ?_)
    · refine v_aload_n E 0 rfl dJ26_getMagnitudeArray_64 ?_
      refine v_getf E in_J26 hoa (ci := 9) rfl 0 (by decide) q1172 rfl (v := .ref v) rfl dJ26_getMagnitudeArray_65 ?_
      refine v_aret E hE rfl (Or.inr ⟨_, rfl⟩) dJ26_getMagnitudeArray_68 (Or.inr ⟨_, rfl⟩) ?_
      obtain rfl : o = 0 := by omega
      obtain rfl : n = cap := by omega
      exact ⟨_, rfl, eI.congr hv (fun k hk => congrArg iZ (by have := hW k hk; rwa [Nat.zero_add] at this)), Or.inl rfl⟩
    · refine v_aload_n E 0 rfl dJ26_getMagnitudeArray_19 ?_
      refine v_getf E in_J26 hoa (ci := 9) rfl 0 (by decide) q1172 rfl (v := .ref v) rfl dJ26_getMagnitudeArray_20 ?_
      refine v_aload_n E 0 rfl dJ26_getMagnitudeArray_23 ?_
      refine v_getf E in_J26 hoa (ci := 9) rfl 2 (by decide) q1174 rfl (v := vi (o : Int)) rfl dJ26_getMagnitudeArray_24 ?_
      refine v_aload_n E 0 rfl dJ26_getMagnitudeArray_27 ?_
      refine v_getf E in_J26 hoa (ci := 9) rfl 2 (by decide) q1174 rfl (v := vi (o : Int)) rfl dJ26_getMagnitudeArray_28 ?_
      refine v_aload_n E 0 rfl dJ26_getMagnitudeArray_31 ?_
      refine v_getf E in_J26 hoa (ci := 9) rfl 1 (by decide) q1173 rfl (v := vi (n : Int)) rfl dJ26_getMagnitudeArray_32 ?_
      refine v_iadd E dJ26_getMagnitudeArray_35 ?_
      refine V.topi (x' := ((o + n : Nat) : Int)) (congrArg iZ (by omega)) ?_
      refine V.frame (fun hfz_fr_31 hfk_fr_31 => ?_)
      rw [hH0] at hfz_fr_31 hfk_fr_31
      rw [hA0] at hfk_fr_31
      refine v_callS E (As := [.ref v, vi (o : Int), vi ((o + n : Nat) : Int)]) (g_cpr κ H0 (i := o) (w := n) (n := cap) hcap hc2 hv) (lw_S q1263 q719 q81 q720) 3 (by decide +kernel) rfl (by decide) (by decide) (cb' := 0) (sb' := 0) (by omega) (by omega) rfl (rest := []) (Nat.le_of_ble_eq_true rfl) (fun q h => h.elim) dJ26_getMagnitudeArray_36 (fun v_32 H_33 hpost_34 hz_35 hk_36 => ?_)
      clear hz_35
      obtain ⟨q, rfl, hq, hqn⟩ := hpost_34
      have hqH9 := Nat.le_trans hfz_fr_31 hq
      have hne_v_q : v ≠ q := Nat.ne_of_lt (Nat.lt_of_lt_of_le hv.lt hq)
      have hoa_37 := hoa.kept (hk_36 _ hoa.lt (fun h => h))
      have hv_38 := hv.kept (hk_36 _ hv.lt (fun h => h))
      have hne_q_a : q ≠ a := Ne.symm (hp.ka hD hoa_37 hqn (by decide) (by decide))
      refine V.eq (st' := [.ref q]) rfl ?_
      refine v_astore_n E dJ26_getMagnitudeArray_39 (zlt hL rfl) (lv' := [(1, .ref q), (0, .ref a)]) rfl ?_
      refine v_aload_n E 1 rfl dJ26_getMagnitudeArray_40 ?_
      refine v_getf E in_J26 hoa_37 (ci := 9) rfl 0 (by decide) q1172 rfl (v := .ref v) rfl dJ26_getMagnitudeArray_41 ?_
      refine v_iconst E dJ26_getMagnitudeArray_44 ?_
      refine v_callS E (As := [.ref v, vi 0]) (g_fill κ H_33 (x := 0) hc2 hv_38) (lw_S q1385 q1386 q81 q1387) 2 (by decide +kernel) rfl (by decide) (by decide) (cb' := 0) (sb' := 0) (by decide) (by decide) rfl (rest := []) (Nat.le_of_ble_eq_true rfl) (fun q h => hAll q (Or.inr h)) dJ26_getMagnitudeArray_45 (fun v_39 H_40 hpost_41 hz_42 hk_43 => ?_)
      clear hz_42
      obtain ⟨rfl, hvf⟩ := hpost_41
      have hz_44 := hoa_37.kept (hk_43 _ hoa_37.lt (fun h => (Ne.symm hne_v_a) h))
      have hz_45 := hqn.kept (hk_43 _ hqn.lt (fun h => (Ne.symm hne_v_q) h))
      refine V.eq (st' := []) rfl ?_
      refine v_aload_n E 1 rfl dJ26_getMagnitudeArray_48 ?_
      refine v_iconst E dJ26_getMagnitudeArray_49 ?_
      refine v_putf E in_J26 tyJ26 tyJ26_ok nmJ26 hz_44 (ci := 9) rfl 2 (Nat.le_of_ble_eq_true rfl) q1174 rfl rfl rfl rfl (Nat.le_of_ble_eq_true rfl) (hAll _ (Or.inl rfl)) dJ26_getMagnitudeArray_50 (fun H_48 hz_46 hs_47 => ?_)
      have hvf_49 := hvf.same hs_47 hne_v_a
      have hz_50 := hz_45.same hs_47 hne_q_a
      have hz_46 : hp κ H_48 a (.inr (9, [.ref v, vi (n : Int), vi 0])) := hz_46
      refine v_aload_n E 1 rfl dJ26_getMagnitudeArray_53 ?_
      refine v_aload_n E 0 rfl dJ26_getMagnitudeArray_54 ?_
      refine v_alen E dJ26_getMagnitudeArray_55 (t := 0) (ty := .int) hz_50 rfl ?_
      refine v_putf E in_J26 tyJ26 tyJ26_ok nmJ26 hz_46 (ci := 9) rfl 1 (Nat.le_of_ble_eq_true rfl) q1173 rfl rfl rfl rfl (Nat.le_of_ble_eq_true rfl) (hAll _ (Or.inl rfl)) dJ26_getMagnitudeArray_56 (fun H_53 hz_51 hs_52 => ?_)
      have hvf_54 := hvf_49.same hs_52 hne_v_a
      have hz_55 := hz_50.same hs_52 hne_q_a
      have hz_51 : hp κ H_53 a (.inr (9, [.ref v, vi (n : Int), vi 0])) := hz_51
      refine v_aload_n E 1 rfl dJ26_getMagnitudeArray_59 ?_
      refine v_aload_n E 0 rfl dJ26_getMagnitudeArray_60 ?_
      refine v_putf E in_J26 tyJ26 tyJ26_ok nmJ26 hz_51 (ci := 9) rfl 0 (Nat.le_of_ble_eq_true rfl) q1172 rfl rfl rfl rfl (Nat.le_of_ble_eq_true rfl) (hAll _ (Or.inl rfl)) dJ26_getMagnitudeArray_61 (fun H_58 hz_56 hs_57 => ?_)
      have hvf_59 := hvf_54.same hs_57 hne_v_a
      have hz_60 := hz_55.same hs_57 hne_q_a
      have hz_56 : hp κ H_58 a (.inr (9, [.ref q, vi (n : Int), vi 0])) := hz_56
      refine v_aload_n E 1 rfl dJ26_getMagnitudeArray_64 ?_
      refine v_getf E in_J26 hz_56 (ci := 9) rfl 0 (by decide) q1172 rfl (v := .ref q) rfl dJ26_getMagnitudeArray_65 ?_
      refine v_aret E hE rfl (Or.inr ⟨_, rfl⟩) dJ26_getMagnitudeArray_68 (Or.inr ⟨_, rfl⟩) ?_
      exact ⟨_, rfl, eI.congr hz_60 (fun k hk => congrArg iZ (hW k hk)), Or.inr hqH9⟩

set_option maxHeartbeats 400000 in
set_option maxRecDepth 100000 in
/-- a BigInteger of it -/
theorem h_toB (κ : zK) (H0 : Heap) {a v o n cap : Nat} {f : Nat → Int} {X : Int} {R c : Int} (hC : CO κ H0) (h93 : κ.2 93 ≤ a ∧ κ.2 93 ≤ v) (hmv : mD κ v) (hn : isInts X n) (hrc : rI c) (hR0 : n = 0 ∨ c = 0 → R = 0) (hR1 : ¬ n = 0 → ¬ c = 0 → (R.natAbs : Int) = X ∧ R.sign = c) (hM : MI κ H0 a v o n cap f X)  : Mt κ yJ26_toBigInteger cJ26_toBigInteger 2 (some (.object "java/math/BigInteger")) 4 94 2 (n + 6) H0 [.ref a, vi c] (fun q => q = a ∨ q = v) (fun v9 H1 => ∃ q : Nat, v9 = some (.ref q) ∧ BI κ H1 q R) := by
  refine Mt.of (by decide) (Nat.le_of_ble_eq_true rfl) ?_
  intro z E hE hH0 hA0 hL hini
  have hAll : ∀ q, (fun q => q = a ∨ q = v) q → zA z.A z.H0 q := fun q h => Or.inl (by rw [hA0]; exact h)
  have hNew : ∀ q, H0.size ≤ q → zA z.A z.H0 q := fun q h => Or.inr (by rw [hH0]; exact h)
  have E : zOK z cJ26_toBigInteger RJ26 κ 4 94 (some (.object "java/math/BigInteger")) := E
  refine V.eqL (lv' := [(0, .ref a), (1, vi c)]) rfl ?_
  have hD := hC.D
  have h48 := hn.1
  have hA93 : ∀ q, (q = a ∨ q = v) → κ.2 93 ≤ q := fun q h => h.elim (fun e => e ▸ h93.1) (fun e => e ▸ h93.2)
  obtain ⟨hoa, hv, hcap, hc2, hW, hX0, hX1⟩ := hM
  have hne_v_a : v ≠ a := Ne.symm (hp.ka hD hoa hv (by decide) (by decide))
  refine v_aload_n E 0 rfl dJ26_toBigInteger_0 ?_
  refine v_getf E in_J26 hoa (ci := 9) rfl 1 (by decide) q1173 rfl (v := vi (n : Int)) rfl dJ26_toBigInteger_1 ?_
  refine v_if_eq E (tgt := 11) dJ26_toBigInteger_4 (by decide) ⟨by omega, by omega⟩ (fun c_4 => ?_) (fun c_4 => ?_)
  · refine v_gets E 0 rfl q1375 hC.s0 dJ26_toBigInteger_11 ?_
    refine v_aret E hE rfl (Or.inl ⟨_, rfl⟩) dJ26_toBigInteger_14 (Or.inr ⟨_, rfl⟩) ?_
    exact ⟨_, rfl, by rw [hR0 (by omega)]; exact ⟨_, _, _, hC.2.2.2.2.2.2.2.2.2.2.1⟩⟩
  · refine v_iload_n E 1 rfl dJ26_toBigInteger_7 ?_
    refine v_if_ne E (tgt := 15) dJ26_toBigInteger_8 (by decide) hrc (fun c_8 => ?_) (fun c_8 => ?_)
    · refine V.frame (fun hfz_fr_1 hfk_fr_1 => ?_)
      rw [hH0] at hfz_fr_1 hfk_fr_1
      rw [hA0] at hfk_fr_1
      refine v_new E in_J16 tyJ16 tyJ16_ok q1380 q486 q91 (ci := 6) rfl (fs := [vi 0, .null, vi 0, vi 0, vi 0, vi 0]) (fun j hj => by rcases (show j = 0 ∨ j = 1 ∨ j = 2 ∨ j = 3 ∨ j = 4 ∨ j = 5 by omega) with rfl | rfl | rfl | rfl | rfl | rfl <;> rfl) (cb' := (2 - 1)) (sb' := ((n + 6) - 6)) (by omega) (by omega) dJ26_toBigInteger_15 (fun q_2 H_3 hq_6 ho_4 hg_5 => ?_)
      have hne_a_q_2 : a ≠ q_2 := by have := hoa.lt; omega
      have hne_v_q_2 : v ≠ q_2 := by have := hv.lt; omega
      have hoa_9 := hoa.grow hg_5
      have hv_10 := hv.grow hg_5
      refine v_dup E rfl dJ26_toBigInteger_18 ?_
      refine v_aload_n E 0 rfl dJ26_toBigInteger_19 ?_
      refine V.frame (fun hfz_fr_11 hfk_fr_11 => ?_)
      rw [hH0] at hfz_fr_11 hfk_fr_11
      rw [hA0] at hfk_fr_11
      refine v_callV E (As := []) (b := a) (ci := 9) (C := RJ26) (T := TJ26) (N := 3) hoa_9 rfl (h_gma κ H_3 hD ⟨hoa_9, hv_10, hcap, hc2, hW, hX0, hX1⟩) (lw_V q1381 q1383 qs34 q101 q1384) 0 (by decide +kernel) rfl (by decide) (by decide) (cb' := ((2 - 1) - 1)) (sb' := (((n + 6) - 6) - n)) (by omega) (by omega) rfl (rest := [.ref q_2, .ref q_2]) (Nat.le_of_ble_eq_true rfl) (fun q h => hAll q h) dJ26_toBigInteger_20 (fun v_12 H_13 hpost_14 hz_15 hk_16 => ?_)
      clear hz_15
      obtain ⟨m9, rfl, hm9, hm9H⟩ := hpost_14
      have hm9D : mD κ m9 := hm9H.elim (fun h => by rw [h]; exact hmv) (fun h => Or.inr (Nat.le_trans hC.m (Nat.le_trans hfz_fr_11 h)))
      have hq_17 := ho_4.kept (hk_16 _ ho_4.lt (fun h => h.elim (fun h => hne_a_q_2 h.symm) (fun h => hne_v_q_2 h.symm)))
      refine V.eq (st' := [.ref m9, .ref q_2, .ref q_2]) rfl ?_
      refine v_iload_n E 1 rfl dJ26_toBigInteger_23 ?_
      refine V.frame (fun hfz_fr_18 hfk_fr_18 => ?_)
      rw [hH0] at hfz_fr_18 hfk_fr_18
      rw [hA0] at hfk_fr_18
      have hmq : m9 ≠ q_2 := Ne.symm (hp.ka hD hq_17 hm9 (by decide) (by decide))
      refine v_callI E (As := [.ref m9, vi c]) (b := q_2) (g_initM κ H_13 (hC.call hA93 hfz_fr_18 hfk_fr_18) (by omega) hq_17 hm9) q632 q91 q1388 q631 rfl 2 (by decide +kernel) rfl (by decide) (by decide) (cb' := (((2 - 1) - 1) - 0)) (sb' := ((((n + 6) - 6) - n) - 0)) (by omega) (by omega) rfl (rest := [.ref q_2]) (Nat.le_of_ble_eq_true rfl) (fun q9 h => hNew q9 (by rw [show q9 = q_2 from h]; omega)) dJ26_toBigInteger_24 (fun v_19 H_20 hpost_21 hz_22 hk_23 => ?_)
      clear hz_22
      obtain ⟨rfl, hq9⟩ := hpost_21
      have hm_24 := hm9.kept (hk_23 _ hm9.lt (fun h => hmq h))
      refine V.eq (st' := [.ref q_2]) rfl ?_
      refine v_aret E hE rfl (Or.inl ⟨_, rfl⟩) dJ26_toBigInteger_27 (Or.inr ⟨_, rfl⟩) ?_
      obtain ⟨hz9, hs9⟩ := hR1 (by omega) (by omega)
      rw [if_neg (by omega), ← hs9] at hq9
      exact ⟨_, rfl, BI.mk (n := n) (m := m9) hq9 (eI.congr hm_24 (fun k hk => by unfold bm bM; rw [hz9])) (by rw [hz9]; exact hn) (Nat.le_trans hC.le (by omega)) hm9D⟩
    · refine v_gets E 0 rfl q1375 hC.s0 dJ26_toBigInteger_11 ?_
      refine v_aret E hE rfl (Or.inl ⟨_, rfl⟩) dJ26_toBigInteger_14 (Or.inr ⟨_, rfl⟩) ?_
      exact ⟨_, rfl, by rw [hR0 (by omega)]; exact ⟨_, _, _, hC.2.2.2.2.2.2.2.2.2.2.1⟩⟩
