set_option maxHeartbeats 400000 in
set_option maxRecDepth 100000 in
/-- an index checked -/
theorem j_ck4 (κ : zK) (H0 : Heap) {i n : Int} (hi : 0 ≤ i ∧ i < n) (hn : rI n) : Mt κ yJ4_checkIndex cJ4_checkIndex 3 (some .int) 0 0 0 0 H0 [vi i, vi n, .null] (fun _ => False) (fun v H1 => v = some (vi i)) := by
  refine Mt.of (by decide) (Nat.le_of_ble_eq_true rfl) ?_
  intro z E hE hH0 hA0 hL hini
  have hAll : ∀ q, (fun _ => False) q → zA z.A z.H0 q := fun q h => Or.inl (by rw [hA0]; exact h)
  have hNew : ∀ q, H0.size ≤ q → zA z.A z.H0 q := fun q h => Or.inr (by rw [hH0]; exact h)
  have E : zOK z cJ4_checkIndex RJ4 κ 0 0 (some .int) := E
  refine V.eqL (lv' := [(0, vi i), (1, vi n), (2, .null)]) rfl ?_
  refine v_iload_n E 0 rfl dJ4_checkIndex_0 ?_
  refine v_if_lt E (tgt := 9) dJ4_checkIndex_1 (by decide) ⟨by omega, by omega⟩ (fun c_1 => absurd c_1 (by omega)) (fun c_1 => ?_)
  refine v_iload_n E 0 rfl dJ4_checkIndex_4 ?_
  refine v_iload_n E 1 rfl dJ4_checkIndex_5 ?_
  refine v_icmp_lt E (tgt := 16) dJ4_checkIndex_6 (by decide) ⟨by omega, by omega⟩ ⟨by omega, by omega⟩ (fun c_6 => ?_) (fun c_6 => absurd c_6 (by omega))
  refine v_iload_n E 0 rfl dJ4_checkIndex_16 ?_
  refine v_iret E hE dJ4_checkIndex_17 ?_
  rfl

set_option maxHeartbeats 400000 in
set_option maxRecDepth 100000 in
theorem j_ck3 (κ : zK) (H0 : Heap) {i n : Int} (hi : 0 ≤ i ∧ i < n) (hn : rI n) : Mt κ yJ3_checkIndex cJ3_checkIndex 2 (some .int) 1 22 0 0 H0 [vi i, vi n] (fun _ => False) (fun v H1 => v = some (vi i)) := by
  refine Mt.of (by decide) (Nat.le_of_ble_eq_true rfl) ?_
  intro z E hE hH0 hA0 hL hini
  have hAll : ∀ q, (fun _ => False) q → zA z.A z.H0 q := fun q h => Or.inl (by rw [hA0]; exact h)
  have hNew : ∀ q, H0.size ≤ q → zA z.A z.H0 q := fun q h => Or.inr (by rw [hH0]; exact h)
  have E : zOK z cJ3_checkIndex RJ3 κ 1 22 (some .int) := E
  refine V.eqL (lv' := [(0, vi i), (1, vi n)]) rfl ?_
  refine v_iload_n E 0 rfl dJ3_checkIndex_0 ?_
  refine v_iload_n E 1 rfl dJ3_checkIndex_1 ?_
  refine v_null E dJ3_checkIndex_2 ?_
  refine v_callS E (As := [vi i, vi n, .null]) (j_ck4 κ H0 hi hn) (lw_S q162 q163 q77 q164) 3 (by decide +kernel) rfl (by decide) (by decide) (cb' := 0) (sb' := 0) (by decide) (by decide) rfl (rest := []) (Nat.le_of_ble_eq_true rfl) (fun q h => h.elim) dJ3_checkIndex_3 (fun v_1 H_2 hpost_3 hz_4 hk_5 => ?_)
  clear hz_4
  obtain rfl := hpost_3
  refine V.eq (st' := [vi i]) rfl ?_
  refine v_iret E hE dJ3_checkIndex_6 ?_
  rfl

set_option maxHeartbeats 400000 in
set_option maxRecDepth 100000 in
/-- a place of the list's array -/
theorem j_elem (κ : zK) (H0 : Heap) {l b n cap : Nat} {md : Int} {g : Nat → Option Nat} {i y : Nat} (hi : i < cap) (hy : g i = some y) (hA : AL κ H0 l b md n cap g)  : Mt κ yJ2_elementData cJ2_elementData 2 (some (.object "java/lang/Object")) 0 0 0 0 H0 [.ref l, vi (i : Int)] (fun _ => False) (fun v H1 => v = some (.ref y)) := by
  refine Mt.of (by decide) (Nat.le_of_ble_eq_true rfl) ?_
  intro z E hE hH0 hA0 hL hini
  have hAll : ∀ q, (fun _ => False) q → zA z.A z.H0 q := fun q h => Or.inl (by rw [hA0]; exact h)
  have hNew : ∀ q, H0.size ≤ q → zA z.A z.H0 q := fun q h => Or.inr (by rw [hH0]; exact h)
  have E : zOK z cJ2_elementData RJ2 κ 0 0 (some (.object "java/lang/Object")) := E
  refine V.eqL (lv' := [(0, .ref l), (1, vi (i : Int))]) rfl ?_
  obtain ⟨ho, hb, hnc, hc0, hcm, hmd, hel, hl9, hb9, hlb⟩ := hA
  refine v_aload_n E 0 rfl dJ2_elementData_0 ?_
  refine v_getf E in_J2 ho (ci := 5) rfl 1 (by decide) q127 rfl (v := .ref b) rfl dJ2_elementData_1 ?_
  refine v_iload_n E 1 rfl dJ2_elementData_4 ?_
  refine v_aaldS E dJ2_elementData_5 hb (t := 2) (ty := (.object "java/lang/Object")) rfl rfl i rfl (by omega) (by omega) (b := y) hy ?_
  refine v_aret E hE rfl (Or.inl ⟨_, rfl⟩) dJ2_elementData_6 (Or.inr ⟨_, rfl⟩) ?_
  rfl

set_option maxHeartbeats 400000 in
set_option maxRecDepth 100000 in
/-- get -/
theorem j_get (κ : zK) (H0 : Heap) {l b n cap : Nat} {md : Int} {g : Nat → Option Nat} {i y : Nat} (hi : i < n) (hy : g i = some y) (hA : AL κ H0 l b md n cap g)  : Mt κ yJ2_get cJ2_get 2 (some (.object "java/lang/Object")) 2 43 0 0 H0 [.ref l, vi (i : Int)] (fun _ => False) (fun v H1 => v = some (.ref y)) := by
  refine Mt.of (by decide) (Nat.le_of_ble_eq_true rfl) ?_
  intro z E hE hH0 hA0 hL hini
  have hAll : ∀ q, (fun _ => False) q → zA z.A z.H0 q := fun q h => Or.inl (by rw [hA0]; exact h)
  have hNew : ∀ q, H0.size ≤ q → zA z.A z.H0 q := fun q h => Or.inr (by rw [hH0]; exact h)
  have E : zOK z cJ2_get RJ2 κ 2 43 (some (.object "java/lang/Object")) := E
  refine V.eqL (lv' := [(0, .ref l), (1, vi (i : Int))]) rfl ?_
  obtain ⟨ho, hb, hnc, hc0, hcm, hmd, hel, hl9, hb9, hlb⟩ := hA
  refine v_iload_n E 1 rfl dJ2_get_0 ?_
  refine v_aload_n E 0 rfl dJ2_get_1 ?_
  refine v_getf E in_J2 ho (ci := 5) rfl 2 (by decide) q130 rfl (v := vi (n : Int)) rfl dJ2_get_2 ?_
  refine v_callS E (As := [vi (i : Int), vi (n : Int)]) (j_ck3 κ H0 ⟨by omega, by omega⟩ ⟨by omega, by omega⟩) (lw_S q159 q160 q76 q161) 2 (by decide +kernel) rfl (by decide) (by decide) (cb' := 0) (sb' := 0) (by decide) (by decide) rfl (rest := []) (Nat.le_of_ble_eq_true rfl) (fun q h => h.elim) dJ2_get_5 (fun v_1 H_2 hpost_3 hz_4 hk_5 => ?_)
  clear hz_4
  obtain rfl := hpost_3
  have ho_6 := ho.kept (hk_5 _ ho.lt (fun h => h))
  have hb_7 := hb.kept (hk_5 _ hb.lt (fun h => h))
  refine V.eq (st' := [vi (i : Int)]) rfl ?_
  refine v_pop E rfl dJ2_get_8 ?_
  refine v_aload_n E 0 rfl dJ2_get_9 ?_
  refine v_iload_n E 1 rfl dJ2_get_10 ?_
  refine V.frame (fun hfz_fr_8 hfk_fr_8 => ?_)
  rw [hH0] at hfz_fr_8 hfk_fr_8
  rw [hA0] at hfk_fr_8
  refine v_callV E (As := [vi (i : Int)]) (b := l) (ci := 5) (C := RJ2) (T := TJ2) (N := 3) ho_6 rfl (j_elem κ H_2 (i := i) (y := y) (by omega) hy ⟨ho_6, hb_7, hnc, hc0, hcm, hmd, fun k hk => (hel k hk).elim (fun y h => ⟨y, h.1, h.2.kept (hfk_fr_8 _ h.2.lt (fun h => h))⟩), hl9, hb9, hlb⟩) (lw_V q165 q166 q167 q73 q168) 1 (by decide +kernel) rfl (by decide) (by decide) (cb' := 0) (sb' := 0) (by decide) (by decide) rfl (rest := []) (Nat.le_of_ble_eq_true rfl) (fun q h => h.elim) dJ2_get_11 (fun v_9 H_10 hpost_11 hz_12 hk_13 => ?_)
  clear hz_12
  obtain rfl := hpost_11
  have ho_14 := ho_6.kept (hk_13 _ ho_6.lt (fun h => h))
  have hb_15 := hb_7.kept (hk_13 _ hb_7.lt (fun h => h))
  refine V.eq (st' := [.ref y]) rfl ?_
  refine v_aret E hE rfl (Or.inl ⟨_, rfl⟩) dJ2_get_14 (Or.inr ⟨_, rfl⟩) ?_
  rfl

set_option maxHeartbeats 400000 in
set_option maxRecDepth 100000 in
/-- size -/
theorem j_size (κ : zK) (H0 : Heap) {l b n cap : Nat} {md : Int} {g : Nat → Option Nat} (hA : AL κ H0 l b md n cap g)  : Mt κ yJ2_size cJ2_size 1 (some .int) 0 0 0 0 H0 [.ref l] (fun _ => False) (fun v H1 => v = some (vi (n : Int))) := by
  refine Mt.of (by decide) (Nat.le_of_ble_eq_true rfl) ?_
  intro z E hE hH0 hA0 hL hini
  have hAll : ∀ q, (fun _ => False) q → zA z.A z.H0 q := fun q h => Or.inl (by rw [hA0]; exact h)
  have hNew : ∀ q, H0.size ≤ q → zA z.A z.H0 q := fun q h => Or.inr (by rw [hH0]; exact h)
  have E : zOK z cJ2_size RJ2 κ 0 0 (some .int) := E
  refine V.eqL (lv' := [(0, .ref l)]) rfl ?_
  obtain ⟨ho, hb, hnc, hc0, hcm, hmd, hel, hl9, hb9, hlb⟩ := hA
  refine v_aload_n E 0 rfl dJ2_size_0 ?_
  refine v_getf E in_J2 ho (ci := 5) rfl 2 (by decide) q130 rfl (v := vi (n : Int)) rfl dJ2_size_1 ?_
  refine v_iret E hE dJ2_size_4 ?_
  rfl

set_option maxHeartbeats 400000 in
set_option maxRecDepth 100000 in
/-- a new length -/
theorem j_newLength (κ : zK) (H0 : Heap) {a b c : Int} (ha : 0 ≤ a ∧ a ≤ 100000) (hb : 1 ≤ b ∧ b ≤ 100000) (hc : 0 ≤ c ∧ c ≤ 100000) : Mt κ yJ5_newLength cJ5_newLength 4 (some .int) 1 14 0 0 H0 [vi a, vi b, vi c] (fun _ => False) (fun v H1 => v = some (vi (a + max b c))) := by
  refine Mt.of (by decide) (Nat.le_of_ble_eq_true rfl) ?_
  intro z E hE hH0 hA0 hL hini
  have hAll : ∀ q, (fun _ => False) q → zA z.A z.H0 q := fun q h => Or.inl (by rw [hA0]; exact h)
  have hNew : ∀ q, H0.size ≤ q → zA z.A z.H0 q := fun q h => Or.inr (by rw [hH0]; exact h)
  have E : zOK z cJ5_newLength RJ5 κ 1 14 (some .int) := E
  refine V.eqL (lv' := [(0, vi a), (1, vi b), (2, vi c)]) rfl ?_
  refine v_iload_n E 0 rfl dJ5_newLength_0 ?_
  refine v_iload_n E 1 rfl dJ5_newLength_1 ?_
  refine v_iload_n E 2 rfl dJ5_newLength_2 ?_
  refine v_mmax E ⟨by omega, by omega⟩ ⟨by omega, by omega⟩ q227 q228 q80 q229 (by decide) (Nat.le_of_ble_eq_true rfl) dJ5_newLength_3 ?_
  refine v_iadd E dJ5_newLength_6 ?_
  refine v_istore_n E dJ5_newLength_7 (zlt hL rfl) (lv' := [(3, vi (a + (max b c))), (0, vi a), (1, vi b), (2, vi c)]) rfl ?_
  refine v_iconst E dJ5_newLength_8 ?_
  refine v_iload_n E 0 rfl dJ5_newLength_9 ?_
  refine v_icmp_ge E (tgt := 21) dJ5_newLength_10 (by decide) ⟨by omega, by omega⟩ ⟨by omega, by omega⟩ (fun c_10 => absurd c_10 (by omega)) (fun c_10 => ?_)
  refine v_iload_n E 0 rfl dJ5_newLength_13 ?_
  refine v_ldc E q230 dJ5_newLength_14 ?_
  refine V.eq (st' := vi 2147483639 :: _) rfl ?_
  refine v_icmp_gt E (tgt := 21) dJ5_newLength_16 (by decide) ⟨by omega, by omega⟩ ⟨by omega, by omega⟩ (fun c_16 => absurd c_16 (by omega)) (fun c_16 => ?_)
  refine v_iload_n E 0 rfl dJ5_newLength_19 ?_
  refine v_iret E hE dJ5_newLength_20 ?_
  rfl

set_option maxHeartbeats 400000 in
set_option maxRecDepth 100000 in
/-- copyOf of objects -/
theorem j_cpq2 (κ : zK) (H0 : Heap) {b cap m : Nat} {g : Nat → Option Nat} (hb : hp κ H0 b (eR κ 2 cap g)) (hcm : cap ≤ 1000) (hm : m ≤ 100000) (hel : ∀ k, k < cap → ∀ y, g k = some y → oA κ H0 y) : Mt κ yJ7_copyOf_2 cJ7_copyOf_2 4 (some (.array (.object "java/lang/Object"))) 1 27 1 m H0 [.ref b, vi (m : Int), .ref (κ.2 99)] (fun _ => False) (fun v H1 => ∃ q, v = some (.ref q) ∧ H0.size ≤ q ∧ hp κ H1 q (eR κ 2 m (va_cpy g (fun _ => none) 0 0 (min cap m)))) := by
  refine Mt.of (by decide) (Nat.le_of_ble_eq_true rfl) ?_
  intro z E hE hH0 hA0 hL hini
  have hAll : ∀ q, (fun _ => False) q → zA z.A z.H0 q := fun q h => Or.inl (by rw [hA0]; exact h)
  have hNew : ∀ q, H0.size ≤ q → zA z.A z.H0 q := fun q h => Or.inr (by rw [hH0]; exact h)
  have E : zOK z cJ7_copyOf_2 RJ7 κ 1 27 (some (.array (.object "java/lang/Object"))) := E
  refine V.eqL (lv' := [(0, .ref b), (1, vi (m : Int)), (2, .ref (κ.2 99))]) rfl ?_
  refine v_aload_n E 2 rfl dJ7_copyOf_2_0 ?_
  refine v_ldcM E q263 dJ7_copyOf_2_1 ?_
  refine v_acmp_ne E (tgt := 13) dJ7_copyOf_2_3 (by decide) (fun c_3 => absurd c_3 (by exact (fun q => q rfl))) (fun c_3 => ?_)
  refine v_iload_n E 1 rfl dJ7_copyOf_2_6 ?_
  refine v_newQ E (n := m) q265 (by omega) rfl (cb' := (1 - 1)) (sb' := (m - m)) (by omega) (by omega) dJ7_copyOf_2_7 (fun q_1 H_2 hq_5 hn_3 hg_4 => ?_)
  have hne_b_q_1 : b ≠ q_1 := by have := hb.lt; omega
  have hb_7 := hb.grow hg_4
  have hel1 : ∀ k, k < cap → ∀ y, g k = some y → oA κ H_2 y := fun k hk y hy => (hel k hk y hy).kept (hg_4.2 _ (hel k hk y hy).lt)
  refine v_goto E (tgt := 24) dJ7_copyOf_2_10 (by decide) ?_
  refine v_astore_n E dJ7_copyOf_2_24 (zlt hL rfl) (lv' := [(3, .ref q_1), (0, .ref b), (1, vi (m : Int)), (2, .ref (κ.2 99))]) rfl ?_
  refine v_aload_n E 1 rfl dJ7_copyOf_2_25 ?_
  refine v_iconst E dJ7_copyOf_2_26 ?_
  refine v_aload_n E 0 rfl dJ7_copyOf_2_27 ?_
  refine v_iconst E dJ7_copyOf_2_28 ?_
  refine v_aload_n E 1 rfl dJ7_copyOf_2_29 ?_
  refine v_alen E dJ7_copyOf_2_30 (t := 2) (ty := (.object "java/lang/Object")) hb_7 rfl ?_
  refine v_iload_n E 2 rfl dJ7_copyOf_2_31 ?_
  refine v_mmin E ⟨by omega, by omega⟩ ⟨by omega, by omega⟩ q266 q267 q80 q268 (by decide) (Nat.le_of_ble_eq_true rfl) dJ7_copyOf_2_32 ?_
  refine v_copyQ E (n0 := cap) (n1 := m) hb_7 hn_3 q269 q184 q183 q78 (sp := 0) (dp := 0) (w := (min cap m)) (by omega) (by omega) (by omega) (by omega) (fun k hk y hy => hel1 k (by omega) y (by rw [Nat.zero_add] at hy; exact hy)) (hNew _ (by omega)) (by decide) (Nat.le_of_ble_eq_true rfl) (by omega) (by omega) (by omega) dJ7_copyOf_2_35 (fun H_10 hv_8 hs_9 => ?_)
  have hb_11 := hb_7.same hs_9 hne_b_q_1
  refine v_aload_n E 0 rfl dJ7_copyOf_2_38 ?_
  refine v_aret E hE rfl (Or.inr ⟨_, rfl⟩) dJ7_copyOf_2_39 (Or.inr ⟨_, rfl⟩) ?_
  exact ⟨_, rfl, by omega, hv_8⟩

set_option maxHeartbeats 400000 in
set_option maxRecDepth 100000 in
theorem j_cpq (κ : zK) (H0 : Heap) {b cap m : Nat} {g : Nat → Option Nat} (hb : hp κ H0 b (eR κ 2 cap g)) (hcm : cap ≤ 1000) (hm : m ≤ 100000) (hel : ∀ k, k < cap → ∀ y, g k = some y → oA κ H0 y) : Mt κ yJ7_copyOf cJ7_copyOf 2 (some (.array (.object "java/lang/Object"))) 2 50 1 m H0 [.ref b, vi (m : Int)] (fun _ => False) (fun v H1 => ∃ q, v = some (.ref q) ∧ H0.size ≤ q ∧ hp κ H1 q (eR κ 2 m (va_cpy g (fun _ => none) 0 0 (min cap m)))) := by
  refine Mt.of (by decide) (Nat.le_of_ble_eq_true rfl) ?_
  intro z E hE hH0 hA0 hL hini
  have hAll : ∀ q, (fun _ => False) q → zA z.A z.H0 q := fun q h => Or.inl (by rw [hA0]; exact h)
  have hNew : ∀ q, H0.size ≤ q → zA z.A z.H0 q := fun q h => Or.inr (by rw [hH0]; exact h)
  have E : zOK z cJ7_copyOf RJ7 κ 2 50 (some (.array (.object "java/lang/Object"))) := E
  refine V.eqL (lv' := [(0, .ref b), (1, vi (m : Int))]) rfl ?_
  refine v_aload_n E 0 rfl dJ7_copyOf_0 ?_
  refine v_iload_n E 1 rfl dJ7_copyOf_1 ?_
  refine v_aload_n E 0 rfl dJ7_copyOf_2 ?_
  refine v_getC E hb q237 q2191 q238 q259 (by decide) (Nat.le_of_ble_eq_true rfl) dJ7_copyOf_3 ?_
  refine v_callS E (As := [.ref b, vi (m : Int), .ref (κ.2 99)]) (j_cpq2 κ H0 hb hcm hm hel) (lw_S q260 q261 q81 q262) 3 (by decide +kernel) rfl (by decide) (by decide) (cb' := 0) (sb' := 0) (by omega) (by omega) rfl (rest := []) (Nat.le_of_ble_eq_true rfl) (fun q h => h.elim) dJ7_copyOf_6 (fun v_1 H_2 hpost_3 hz_4 hk_5 => ?_)
  clear hz_4
  obtain ⟨q, rfl, hq, hqn⟩ := hpost_3
  refine V.eq (st' := [.ref q]) rfl ?_
  refine v_aret E hE rfl (Or.inr ⟨_, rfl⟩) dJ7_copyOf_9 (Or.inr ⟨_, rfl⟩) ?_
  exact ⟨q, rfl, hq, hqn⟩

set_option maxHeartbeats 400000 in
set_option maxRecDepth 100000 in
/-- grow -/
theorem j_grow2 (κ : zK) (H0 : Heap) {l b n cap : Nat} {md : Int} {g : Nat → Option Nat} (hC : CO κ H0) (hful : n = cap) (hcap : cap ≤ 600) (hA : AL κ H0 l b md n cap g)  : Mt κ yJ2_grow_2 cJ2_grow_2 4 (some (.array (.object "java/lang/Object"))) 3 71 1 (alG cap) H0 [.ref l, vi ((n : Int) + 1)] (fun q => q = l) (fun v H1 => ∃ (b2 : Nat) (g2 : Nat → Option Nat), v = some (.ref b2) ∧ H0.size ≤ b2 ∧ hp κ H1 l (.inr (5, [vi md, .ref b2, vi (n : Int)])) ∧ hp κ H1 b2 (eR κ 2 (alG cap) g2) ∧ ∀ k, k < cap → g2 k = g k) := by
  refine Mt.of (by decide) (Nat.le_of_ble_eq_true rfl) ?_
  intro z E hE hH0 hA0 hL hini
  have hAll : ∀ q, (fun q => q = l) q → zA z.A z.H0 q := fun q h => Or.inl (by rw [hA0]; exact h)
  have hNew : ∀ q, H0.size ≤ q → zA z.A z.H0 q := fun q h => Or.inr (by rw [hH0]; exact h)
  have E : zOK z cJ2_grow_2 RJ2 κ 3 71 (some (.array (.object "java/lang/Object"))) := E
  refine V.eqL (lv' := [(0, .ref l), (1, vi ((n : Int) + 1))]) rfl ?_
  obtain ⟨ho, hb, hnc, hc0, hcm, hmd, hel, hl9, hb9, hlb⟩ := hA
  have hgi := alG_in cap hcap
  refine v_aload_n E 0 rfl dJ2_grow_2_0 ?_
  refine v_getf E in_J2 ho (ci := 5) rfl 1 (by decide) q127 rfl (v := .ref b) rfl dJ2_grow_2_1 ?_
  refine v_alen E dJ2_grow_2_4 (t := 2) (ty := (.object "java/lang/Object")) hb rfl ?_
  refine v_istore_n E dJ2_grow_2_5 (zlt hL rfl) (lv' := [(2, vi (cap : Int)), (0, .ref l), (1, vi ((n : Int) + 1))]) rfl ?_
  refine v_iload_n E 0 rfl dJ2_grow_2_6 ?_
  refine v_if_gt E (tgt := 20) dJ2_grow_2_7 (by decide) ⟨by omega, by omega⟩ (fun c_7 => ?_) (fun c_7 => ?_)
  · refine v_iload_n E 0 rfl dJ2_grow_2_20 ?_
    refine v_iload_n E 2 rfl dJ2_grow_2_21 ?_
    refine v_iload_n E 0 rfl dJ2_grow_2_22 ?_
    refine v_isub E dJ2_grow_2_23 ?_
    refine v_iload_n E 0 rfl dJ2_grow_2_24 ?_
    refine v_iconst E dJ2_grow_2_25 ?_
    refine v_ishr E ⟨by omega, by omega⟩ 1 (by decide) dJ2_grow_2_26 ?_
    refine v_callS E (As := [vi (cap : Int), vi (((n : Int) + 1) - (cap : Int)), vi ((cap : Int) / 2 ^ 1)]) (j_newLength κ H0 (a := (cap : Int)) (b := ((n : Int) + 1) - (cap : Int)) (c := (cap : Int) / 2 ^ 1) ⟨by omega, by omega⟩ ⟨by omega, by omega⟩ ⟨by omega, by omega⟩) (lw_S q224 q225 q79 q226) 3 (by decide +kernel) rfl (by decide) (by decide) (cb' := (1 - 0)) (sb' := (alG cap - 0)) (by omega) (by omega) rfl (rest := []) (Nat.le_of_ble_eq_true rfl) (fun q h => h.elim) dJ2_grow_2_27 (fun v_1 H_2 hpost_3 hz_4 hk_5 => ?_)
    clear hz_4
    obtain rfl := hpost_3
    have ho_6 := ho.kept (hk_5 _ ho.lt (fun h => h))
    have hb_7 := hb.kept (hk_5 _ hb.lt (fun h => h))
    refine V.eq (st' := [vi ((alG cap : Nat) : Int)]) (by rw [show (cap : Int) + max (((n : Int) + 1) - (cap : Int)) ((cap : Int) / 2 ^ 1) = ((alG cap : Nat) : Int) by unfold alG; rw [if_neg (by omega)]; omega]; rfl) ?_
    refine v_istore_n E dJ2_grow_2_30 (zlt hL rfl) (lv' := [(3, vi ((alG cap : Nat) : Int)), (2, vi (cap : Int)), (0, .ref l), (1, vi ((n : Int) + 1))]) rfl ?_
    refine v_aload_n E 2 rfl dJ2_grow_2_31 ?_
    refine v_aload_n E 2 rfl dJ2_grow_2_32 ?_
    refine v_getf E in_J2 ho_6 (ci := 5) rfl 1 (by decide) q127 rfl (v := .ref b) rfl dJ2_grow_2_33 ?_
    refine v_iload_n E 0 rfl dJ2_grow_2_36 ?_
    refine V.frame (fun hfz_fr_8 hfk_fr_8 => ?_)
    rw [hH0] at hfz_fr_8 hfk_fr_8
    rw [hA0] at hfk_fr_8
    have hqs0 := hfz_fr_8
    refine v_callS E (As := [.ref b, vi ((alG cap : Nat) : Int)]) (j_cpq κ H_2 (m := alG cap) hb_7 hcm (by omega) (fun k hk y hy => (hel k (by omega)).elim (fun y2 h => by have e := Option.some.inj (hy.symm.trans h.1); subst e; exact h.2.kept (hfk_fr_8 _ h.2.lt (fun h9 => (h.2.neL hC.D ho) h9))))) (lw_S q234 q235 q81 q236) 2 (by decide +kernel) rfl (by decide) (by decide) (cb' := 0) (sb' := 0) (by omega) (by omega) rfl (rest := [.ref l]) (Nat.le_of_ble_eq_true rfl) (fun q h => h.elim) dJ2_grow_2_37 (fun v_9 H_10 hpost_11 hz_12 hk_13 => ?_)
    clear hz_12
    obtain ⟨q, rfl, hq, hqn⟩ := hpost_11
    have ho_14 := ho_6.kept (hk_13 _ ho_6.lt (fun h => h))
    have hb_15 := hb_7.kept (hk_13 _ hb_7.lt (fun h => h))
    have hne_l_q : l ≠ q := Nat.ne_of_lt (Nat.lt_of_lt_of_le (by have := ho_6.lt; omega) hq)
    have hne_b_q : b ≠ q := Nat.ne_of_lt (Nat.lt_of_lt_of_le (by have := hb_7.lt; omega) hq)
    refine V.eq (st' := [.ref q, .ref l]) rfl ?_
    refine v_dup_x1 E rfl rfl dJ2_grow_2_40 ?_
    refine v_putf E in_J2 tyJ2 tyJ2_ok nmJ2 ho_14 (ci := 5) rfl 1 (Nat.le_of_ble_eq_true rfl) q127 rfl rfl rfl rfl (Nat.le_of_ble_eq_true rfl) (hAll _ rfl) dJ2_grow_2_41 (fun H_18 ho_16 hs_17 => ?_)
    have hb_19 := hb_15.same hs_17 (Ne.symm hlb)
    have hqn_20 := hqn.same hs_17 (Ne.symm hne_l_q)
    have ho_16 : hp κ H_18 l (.inr (5, [vi md, .ref q, vi (n : Int)])) := ho_16
    refine v_aret E hE rfl (Or.inr ⟨_, rfl⟩) dJ2_grow_2_44 (Or.inr ⟨_, rfl⟩) ?_
    exact ⟨q, _, rfl, by omega, ho_16, hqn_20, fun k hk => pk_cpy_in (Nat.zero_le _) (by omega) |>.trans (by rw [Nat.zero_add, Nat.sub_zero])⟩
  · refine v_aload_n E 1 rfl dJ2_grow_2_10 ?_
    refine v_getf E in_J2 ho (ci := 5) rfl 1 (by decide) q127 rfl (v := .ref b) rfl dJ2_grow_2_11 ?_
    refine V.frame (fun hfz_fr_21 hfk_fr_21 => ?_)
    rw [hH0] at hfz_fr_21 hfk_fr_21
    rw [hA0] at hfk_fr_21
    refine v_gets E 3 rfl q125 (CO.s3 (hC.call (fun q h => by rw [show q = l from h]; exact hl9) hfz_fr_21 hfk_fr_21)) dJ2_grow_2_14 ?_
    refine v_acmp_eq E (tgt := 45) dJ2_grow_2_17 (by decide) (fun c_17 => ?_) (fun c_17 => absurd c_17 (by exact fun q => q (hc0 (by omega))))
    have e10 : alG cap = 10 := by unfold alG; rw [if_pos (by omega)]
    refine V.less (cb' := 1) (sb' := 10) (Nat.le_refl _) (by omega) ?_
    refine v_aload_n E 1 rfl dJ2_grow_2_45 ?_
    refine v_bipush E ⟨by decide, by decide⟩ dJ2_grow_2_46 ?_
    refine v_iload_n E 2 rfl dJ2_grow_2_48 ?_
    refine v_mmax E ⟨by omega, by omega⟩ ⟨by omega, by omega⟩ q270 q228 q80 q229 (by decide) (Nat.le_of_ble_eq_true rfl) dJ2_grow_2_49 ?_
    refine V.topi (x' := 10) (congrArg iZ (by omega)) ?_
    refine v_newQ E (n := 10) q271 (by decide) rfl (cb' := 0) (sb' := 0) (by decide) (by decide) dJ2_grow_2_52 (fun q_22 H_23 hq_26 hn_24 hg_25 => ?_)
    have hne_l_q_22 : l ≠ q_22 := by have := ho.lt; omega
    have hne_b_q_22 : b ≠ q_22 := by have := hb.lt; omega
    have ho_29 := ho.grow hg_25
    have hb_30 := hb.grow hg_25
    refine v_dup_x1 E rfl rfl dJ2_grow_2_55 ?_
    refine v_putf E in_J2 tyJ2 tyJ2_ok nmJ2 ho_29 (ci := 5) rfl 1 (Nat.le_of_ble_eq_true rfl) q127 rfl rfl rfl rfl (Nat.le_of_ble_eq_true rfl) (hAll _ rfl) dJ2_grow_2_56 (fun H_33 ho_31 hs_32 => ?_)
    have hb_34 := hb_30.same hs_32 (Ne.symm hlb)
    have hn_35 := hn_24.same hs_32 (Ne.symm hne_l_q_22)
    have ho_31 : hp κ H_33 l (.inr (5, [vi md, .ref q_22, vi (n : Int)])) := ho_31
    refine v_aret E hE rfl (Or.inr ⟨_, rfl⟩) dJ2_grow_2_59 (Or.inr ⟨_, rfl⟩) ?_
    have e10 : alG cap = 10 := by unfold alG; rw [if_pos (by omega)]
    rw [e10]
    exact ⟨_, _, rfl, by omega, ho_31, hn_35, fun k hk => absurd hk (by omega)⟩

set_option maxHeartbeats 400000 in
set_option maxRecDepth 100000 in
theorem j_grow (κ : zK) (H0 : Heap) {l b n cap : Nat} {md : Int} {g : Nat → Option Nat} (hC : CO κ H0) (hful : n = cap) (hcap : cap ≤ 600) (hA : AL κ H0 l b md n cap g)  : Mt κ yJ2_grow cJ2_grow 1 (some (.array (.object "java/lang/Object"))) 4 94 1 (alG cap) H0 [.ref l] (fun q => q = l) (fun v H1 => ∃ (b2 : Nat) (g2 : Nat → Option Nat), v = some (.ref b2) ∧ H0.size ≤ b2 ∧ hp κ H1 l (.inr (5, [vi md, .ref b2, vi (n : Int)])) ∧ hp κ H1 b2 (eR κ 2 (alG cap) g2) ∧ ∀ k, k < cap → g2 k = g k) := by
  refine Mt.of (by decide) (Nat.le_of_ble_eq_true rfl) ?_
  intro z E hE hH0 hA0 hL hini
  have hAll : ∀ q, (fun q => q = l) q → zA z.A z.H0 q := fun q h => Or.inl (by rw [hA0]; exact h)
  have hNew : ∀ q, H0.size ≤ q → zA z.A z.H0 q := fun q h => Or.inr (by rw [hH0]; exact h)
  have E : zOK z cJ2_grow RJ2 κ 4 94 (some (.array (.object "java/lang/Object"))) := E
  refine V.eqL (lv' := [(0, .ref l)]) rfl ?_
  obtain ⟨ho, hb, hnc, hc0, hcm, hmd, hel, hl9, hb9, hlb⟩ := hA
  refine v_aload_n E 0 rfl dJ2_grow_0 ?_
  refine v_aload_n E 0 rfl dJ2_grow_1 ?_
  refine v_getf E in_J2 ho (ci := 5) rfl 2 (by decide) q130 rfl (v := vi (n : Int)) rfl dJ2_grow_2 ?_
  refine v_iconst E dJ2_grow_5 ?_
  refine v_iadd E dJ2_grow_6 ?_
  refine v_callV E (As := [vi ((n : Int) + 1)]) (b := l) (ci := 5) (C := RJ2) (T := TJ2) (N := 3) ho rfl (j_grow2 κ H0 hC hful hcap ⟨ho, hb, hnc, hc0, hcm, hmd, hel, hl9, hb9, hlb⟩) (lw_V q220 q222 qs3 q73 q223) 1 (by decide +kernel) rfl (by decide) (by decide) (cb' := 0) (sb' := 0) (by omega) (by omega) rfl (rest := []) (Nat.le_of_ble_eq_true rfl) (fun q h => hAll q h) dJ2_grow_7 (fun v_1 H_2 hpost_3 hz_4 hk_5 => ?_)
  clear hz_4
  obtain ⟨b2, g2, rfl, hb2, ho2, hg2, hgk⟩ := hpost_3
  refine V.eq (st' := [.ref b2]) rfl ?_
  refine v_aret E hE rfl (Or.inr ⟨_, rfl⟩) dJ2_grow_10 (Or.inr ⟨_, rfl⟩) ?_
  exact ⟨b2, g2, rfl, hb2, ho2, hg2, hgk⟩
