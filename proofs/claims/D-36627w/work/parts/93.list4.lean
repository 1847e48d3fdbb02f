set_option maxHeartbeats 400000 in
set_option maxRecDepth 100000 in
/-- iterator -/
theorem j_iter (κ : zK) (H0 : Heap) {l b n cap : Nat} {md : Int} {g : Nat → Option Nat} (hC : CO κ H0) (hA : AL κ H0 l b md n cap g)  : Mt κ yJ2_iterator cJ2_iterator 1 (some (.object "java/util/Iterator")) 2 33 1 4 H0 [.ref l] (fun _ => False) (fun v H1 => ∃ q, v = some (.ref q) ∧ H0.size ≤ q ∧ IT κ H1 q l 0 (-1) md) := by
  refine Mt.of (by decide) (Nat.le_of_ble_eq_true rfl) ?_
  intro z E hE hH0 hA0 hL hini
  have hAll : ∀ q, (fun _ => False) q → zA z.A z.H0 q := fun q h => Or.inl (by rw [hA0]; exact h)
  have hNew : ∀ q, H0.size ≤ q → zA z.A z.H0 q := fun q h => Or.inr (by rw [hH0]; exact h)
  have E : zOK z cJ2_iterator RJ2 κ 2 33 (some (.object "java/util/Iterator")) := E
  refine V.eqL (lv' := [(0, .ref l)]) rfl ?_
  obtain ⟨ho, hb, hnc, hc0, hcm, hmd, hel, hl9, hb9, hlb⟩ := hA
  refine v_new E in_J17 tyJ17 tyJ17_ok q295 q296 q92 (ci := 7) rfl (fs := [vi 0, vi 0, vi 0, .null]) (fun j hj => by rcases (show j = 0 ∨ j = 1 ∨ j = 2 ∨ j = 3 by omega) with rfl | rfl | rfl | rfl <;> rfl) (cb' := 0) (sb' := 0) (by decide) (by decide) dJ2_iterator_0 (fun q_1 H_2 hq_5 ho_3 hg_4 => ?_)
  have hne_l_q_1 : l ≠ q_1 := by have := ho.lt; omega
  have hne_b_q_1 : b ≠ q_1 := by have := hb.lt; omega
  have ho_8 := ho.grow hg_4
  have hb_9 := hb.grow hg_4
  refine v_dup E rfl dJ2_iterator_3 ?_
  refine v_aload_n E 0 rfl dJ2_iterator_4 ?_
  refine V.frame (fun hfz_fr_10 hfk_fr_10 => ?_)
  rw [hH0] at hfz_fr_10 hfk_fr_10
  rw [hA0] at hfk_fr_10
  refine v_callI E (As := [.ref l]) (b := q_1) (j_itinit7 κ H_2 (hC.call (fun q h => h.elim) hfz_fr_10 hfk_fr_10) ⟨ho_8, hb_9, hnc, hc0, hcm, hmd, fun k hk => (hel k hk).elim (fun y h => ⟨y, h.1, h.2.kept (hfk_fr_10 _ h.2.lt (fun h9 => h9))⟩), hl9, hb9, hlb⟩ ho_3) q299 q92 q297 q298 rfl 1 (by decide +kernel) rfl (by decide) (by decide) (cb' := 0) (sb' := 0) (by decide) (by decide) rfl (rest := [.ref q_1]) (Nat.le_of_ble_eq_true rfl) (fun q h => hNew q (by rw [show q = q_1 from h]; omega)) dJ2_iterator_5 (fun v_11 H_12 hpost_13 hz_14 hk_15 => ?_)
  clear hz_14
  obtain ⟨rfl, hi9⟩ := hpost_13
  refine V.eq (st' := [.ref q_1]) rfl ?_
  refine v_aret E hE rfl (Or.inl ⟨_, rfl⟩) dJ2_iterator_8 (Or.inr ⟨_, rfl⟩) ?_
  exact ⟨_, rfl, by omega, hi9, Nat.le_trans hC.le (by omega)⟩

set_option maxHeartbeats 400000 in
set_option maxRecDepth 100000 in
theorem j_liinit (κ : zK) (H0 : Heap) {l b n cap : Nat} {md : Int} {g : Nat → Option Nat} (hC : CO κ H0) {it : Nat} (hi93 : κ.2 93 ≤ it) (hA : AL κ H0 l b md n cap g) (hi0 : hp κ H0 it (.inr (8, [vi 0, vi 0, vi 0, .null, .null])))  : Mt κ yJ27_init cJ27_init 3 (none) 2 33 0 0 H0 [.ref it, .ref l, vi 0] (fun q => q = it) (fun v H1 => v = none ∧ hp κ H1 it (.inr (8, [vi 0, vi (-1), vi md, .ref l, .ref l]))) := by
  refine Mt.of (by decide) (Nat.le_of_ble_eq_true rfl) ?_
  intro z E hE hH0 hA0 hL hini
  have hini := hini rfl
  have hAll : ∀ q, (fun q => q = it) q → zA z.A z.H0 q := fun q h => Or.inl (by rw [hA0]; exact h)
  have hNew : ∀ q, H0.size ≤ q → zA z.A z.H0 q := fun q h => Or.inr (by rw [hH0]; exact h)
  have E : zOK z cJ27_init RJ27 κ 2 33 (none) := E
  refine V.eqL (lv' := [(0, .ref it), (1, .ref l), (2, vi 0)]) rfl ?_
  obtain ⟨ho, hb, hnc, hc0, hcm, hmd, hel, hl9, hb9, hlb⟩ := hA
  have hne_l_it : l ≠ it := hp.kk hC.D ho hi0 (by decide) (by decide) (by decide)
  have hne_b_it : b ≠ it := Ne.symm (hp.ka hC.D hi0 hb (by decide) (by decide))
  refine v_aload_n E 0 rfl dJ27_init_0 ?_
  refine v_aload_n E 1 rfl dJ27_init_1 ?_
  refine v_putf84 E hini hi0 q1662 rfl rfl rfl (hAll _ rfl) dJ27_init_2 (fun H_3 x_4 hi0_1 hs_2 => ?_)
  have ho_5 := ho.same hs_2 hne_l_it
  have hb_6 := hb.same hs_2 hne_b_it
  have hi0_1 : hp κ H_3 it (.inr (8, [vi 0, vi 0, vi 0, x_4, .ref l])) := hi0_1
  refine v_aload_n E 0 rfl dJ27_init_5 ?_
  refine v_aload_n E 1 rfl dJ27_init_6 ?_
  refine V.frame (fun hfz_fr_7 hfk_fr_7 => ?_)
  rw [hH0] at hfz_fr_7 hfk_fr_7
  rw [hA0] at hfk_fr_7
  refine v_callI E (As := [.ref l]) (b := it) (j_itinit8 κ H_3 (hC.call (fun q h => by rw [show q = it from h]; exact hi93) hfz_fr_7 hfk_fr_7) ⟨ho_5, hb_6, hnc, hc0, hcm, hmd, fun k hk => (hel k hk).elim (fun y h => ⟨y, h.1, h.2.kept (hfk_fr_7 _ h.2.lt (fun h9 => (h.2.neO hC.D hi0 (Or.inr rfl)) h9))⟩), hl9, hb9, hlb⟩ hi0_1) q299 q92 q1661 q298 rfl 1 (by decide +kernel) rfl (by decide) (by decide) (cb' := 0) (sb' := 0) (by decide) (by decide) rfl (rest := []) (Nat.le_of_ble_eq_true rfl) (fun q h => hAll q h) dJ27_init_7 (fun v_8 H_9 hpost_10 hz_11 hk_12 => ?_)
  clear hz_11
  obtain ⟨rfl, hi9⟩ := hpost_10
  refine V.eq (st' := []) rfl ?_
  refine v_aload_n E 0 rfl dJ27_init_10 ?_
  refine v_iload_n E 2 rfl dJ27_init_11 ?_
  refine v_putfG E in_J27 tyJ27 tyJ27_ok hi9 (ci := 8) rfl 0 (Nat.le_of_ble_eq_true rfl) (v := vi 0) (fun j hj hjk => Or.inl (nm8a 0 (by decide) j hj hjk)) q301 (Or.inr q302) rfl rfl rfl (Nat.le_of_ble_eq_true rfl) (hAll _ rfl) dJ27_init_12 (fun H_15 hi9_13 hs_14 => ?_)
  have hi9_13 : hp κ H_15 it (.inr (8, [vi 0, vi (-1), vi md, .ref l, .ref l])) := hi9_13
  refine v_vret E hE dJ27_init_15 ?_
  exact ⟨rfl, hi9_13⟩

set_option maxHeartbeats 400000 in
set_option maxRecDepth 100000 in
/-- listIterator -/
theorem j_liter (κ : zK) (H0 : Heap) {l b n cap : Nat} {md : Int} {g : Nat → Option Nat} (hC : CO κ H0) (hA : AL κ H0 l b md n cap g)  : Mt κ yJ2_listIterator cJ2_listIterator 1 (some (.object "java/util/ListIterator")) 3 55 1 5 H0 [.ref l] (fun _ => False) (fun v H1 => ∃ q, v = some (.ref q) ∧ H0.size ≤ q ∧ LI κ H1 q l 0 (-1) md) := by
  refine Mt.of (by decide) (Nat.le_of_ble_eq_true rfl) ?_
  intro z E hE hH0 hA0 hL hini
  have hAll : ∀ q, (fun _ => False) q → zA z.A z.H0 q := fun q h => Or.inl (by rw [hA0]; exact h)
  have hNew : ∀ q, H0.size ≤ q → zA z.A z.H0 q := fun q h => Or.inr (by rw [hH0]; exact h)
  have E : zOK z cJ2_listIterator RJ2 κ 3 55 (some (.object "java/util/ListIterator")) := E
  refine V.eqL (lv' := [(0, .ref l)]) rfl ?_
  obtain ⟨ho, hb, hnc, hc0, hcm, hmd, hel, hl9, hb9, hlb⟩ := hA
  refine v_new E in_J27 tyJ27 tyJ27_ok q1656 q1657 q103 (ci := 8) rfl (fs := [vi 0, vi 0, vi 0, .null, .null]) (fun j hj => by rcases (show j = 0 ∨ j = 1 ∨ j = 2 ∨ j = 3 ∨ j = 4 by omega) with rfl | rfl | rfl | rfl | rfl <;> rfl) (cb' := 0) (sb' := 0) (by decide) (by decide) dJ2_listIterator_0 (fun q_1 H_2 hq_5 ho_3 hg_4 => ?_)
  have hne_l_q_1 : l ≠ q_1 := by have := ho.lt; omega
  have hne_b_q_1 : b ≠ q_1 := by have := hb.lt; omega
  have ho_8 := ho.grow hg_4
  have hb_9 := hb.grow hg_4
  refine v_dup E rfl dJ2_listIterator_3 ?_
  refine v_aload_n E 0 rfl dJ2_listIterator_4 ?_
  refine v_iconst E dJ2_listIterator_5 ?_
  refine V.frame (fun hfz_fr_10 hfk_fr_10 => ?_)
  rw [hH0] at hfz_fr_10 hfk_fr_10
  rw [hA0] at hfk_fr_10
  refine v_callI E (As := [.ref l, vi 0]) (b := q_1) (j_liinit κ H_2 (hC.call (fun q h => h.elim) hfz_fr_10 hfk_fr_10) (Nat.le_trans hC.le (by omega)) ⟨ho_8, hb_9, hnc, hc0, hcm, hmd, fun k hk => (hel k hk).elim (fun y h => ⟨y, h.1, h.2.kept (hfk_fr_10 _ h.2.lt (fun h9 => h9))⟩), hl9, hb9, hlb⟩ ho_3) q1660 q103 q1658 q1659 rfl 2 (by decide +kernel) rfl (by decide) (by decide) (cb' := 0) (sb' := 0) (by decide) (by decide) rfl (rest := [.ref q_1]) (Nat.le_of_ble_eq_true rfl) (fun q h => hNew q (by rw [show q = q_1 from h]; omega)) dJ2_listIterator_6 (fun v_11 H_12 hpost_13 hz_14 hk_15 => ?_)
  clear hz_14
  obtain ⟨rfl, hi9⟩ := hpost_13
  refine V.eq (st' := [.ref q_1]) rfl ?_
  refine v_aret E hE rfl (Or.inl ⟨_, rfl⟩) dJ2_listIterator_9 (Or.inr ⟨_, rfl⟩) ?_
  exact ⟨_, rfl, by omega, hi9, Nat.le_trans hC.le (by omega)⟩

set_option maxHeartbeats 400000 in
set_option maxRecDepth 100000 in
theorem j_rcfa (κ : zK) (H0 : Heap) {l b n cap : Nat} {md : Int} {g : Nat → Option Nat} {i : Nat} (hi : i ≤ n) (hA : AL κ H0 l b md n cap g)  : Mt κ yJ2_rangeCheckForAdd cJ2_rangeCheckForAdd 2 (none) 0 0 0 0 H0 [.ref l, vi (i : Int)] (fun _ => False) (fun v H1 => v = none) := by
  refine Mt.of (by decide) (Nat.le_of_ble_eq_true rfl) ?_
  intro z E hE hH0 hA0 hL hini
  have hAll : ∀ q, (fun _ => False) q → zA z.A z.H0 q := fun q h => Or.inl (by rw [hA0]; exact h)
  have hNew : ∀ q, H0.size ≤ q → zA z.A z.H0 q := fun q h => Or.inr (by rw [hH0]; exact h)
  have E : zOK z cJ2_rangeCheckForAdd RJ2 κ 0 0 (none) := E
  refine V.eqL (lv' := [(0, .ref l), (1, vi (i : Int))]) rfl ?_
  obtain ⟨ho, hb, hnc, hc0, hcm, hmd, hel, hl9, hb9, hlb⟩ := hA
  refine v_iload_n E 1 rfl dJ2_rangeCheckForAdd_0 ?_
  refine v_aload_n E 0 rfl dJ2_rangeCheckForAdd_1 ?_
  refine v_getf E in_J2 ho (ci := 5) rfl 2 (by decide) q130 rfl (v := vi (n : Int)) rfl dJ2_rangeCheckForAdd_2 ?_
  refine v_icmp_gt E (tgt := 12) dJ2_rangeCheckForAdd_5 (by decide) ⟨by omega, by omega⟩ ⟨by omega, by omega⟩ (fun c_5 => absurd c_5 (by omega)) (fun c_5 => ?_)
  refine v_iload_n E 1 rfl dJ2_rangeCheckForAdd_8 ?_
  refine v_if_ge E (tgt := 25) dJ2_rangeCheckForAdd_9 (by decide) ⟨by omega, by omega⟩ (fun c_9 => ?_) (fun c_9 => absurd c_9 (by omega))
  refine v_vret E hE dJ2_rangeCheckForAdd_25 ?_
  rfl

set_option maxHeartbeats 400000 in
set_option maxRecDepth 100000 in
/-- add at a place -/
theorem j_addAt (κ : zK) (H0 : Heap) {l b n cap : Nat} {md : Int} {g : Nat → Option Nat} (hC : CO κ H0) (hcap : cap ≤ 600) {v i : Nat} (hi : i ≤ n) (hv : oA κ H0 v) (hA : AL κ H0 l b md n cap g)  : Mt κ yJ2_add_3 cJ2_add_3 5 (none) 5 114 1 (alG cap) H0 [.ref l, vi (i : Int), .ref v] (fun q => q = l ∨ (q = b ∧ 0 < cap)) (fun v9 H1 => v9 = none ∧ ∃ (b2 cap2 : Nat) (md2 : Int) (g2 : Nat → Option Nat), AL κ H1 l b2 md2 (n + 1) cap2 g2 ∧ (∀ k, k < n + 1 → g2 k = if k < i then g k else if k = i then some v else g (k - 1)) ∧ (b2 = b ∧ cap2 = cap ∨ H0.size ≤ b2 ∧ cap2 = alG cap ∧ n = cap)) := by
  refine Mt.of (by decide) (Nat.le_of_ble_eq_true rfl) ?_
  intro z E hE hH0 hA0 hL hini
  have hAll : ∀ q, (fun q => q = l ∨ (q = b ∧ 0 < cap)) q → zA z.A z.H0 q := fun q h => Or.inl (by rw [hA0]; exact h)
  have hNew : ∀ q, H0.size ≤ q → zA z.A z.H0 q := fun q h => Or.inr (by rw [hH0]; exact h)
  have E : zOK z cJ2_add_3 RJ2 κ 5 114 (none) := E
  refine V.eqL (lv' := [(0, .ref l), (1, vi (i : Int)), (2, .ref v)]) rfl ?_
  obtain ⟨ho, hb, hnc, hc0, hcm, hmd, hel, hl9, hb9, hlb⟩ := hA
  refine v_aload_n E 0 rfl dJ2_add_3_0 ?_
  refine v_iload_n E 1 rfl dJ2_add_3_1 ?_
  refine v_callV E (As := [vi (i : Int)]) (b := l) (ci := 5) (C := RJ2) (T := TJ2) (N := 3) ho rfl (j_rcfa κ H0 hi ⟨ho, hb, hnc, hc0, hcm, hmd, hel, hl9, hb9, hlb⟩) (lw_V q1707 q1709 qs45 q73 q1710) 1 (by decide +kernel) rfl (by decide) (by decide) (cb' := (1 - 0)) (sb' := (alG cap - 0)) (by omega) (by omega) rfl (rest := []) (Nat.le_of_ble_eq_true rfl) (fun q h => h.elim) dJ2_add_3_2 (fun v_1 H_2 hpost_3 hz_4 hk_5 => ?_)
  clear hz_4
  obtain rfl := hpost_3
  have ho_6 := ho.kept (hk_5 _ ho.lt (fun h => h))
  have hb_7 := hb.kept (hk_5 _ hb.lt (fun h => h))
  refine V.eq (st' := []) rfl ?_
  refine v_aload_n E 0 rfl dJ2_add_3_5 ?_
  refine v_dup E rfl dJ2_add_3_6 ?_
  refine v_getfS E in_J2 ho_6 (ci := 5) rfl 0 (by decide) q135 q133 (v := vi md) rfl dJ2_add_3_7 ?_
  refine v_iconst E dJ2_add_3_10 ?_
  refine v_iadd E dJ2_add_3_11 ?_
  obtain ⟨md1, hm1, hr1⟩ := md_norm (md + 1)
  refine V.eq (st' := [vi md1, .ref l]) (by rw [← hm1]) ?_
  refine v_putfS E in_J2 tyJ2 tyJ2_ok nmJ2 ho_6 (ci := 5) rfl 0 (Nat.le_of_ble_eq_true rfl) q135 q133 rfl rfl rfl (Nat.le_of_ble_eq_true rfl) (hAll _ (Or.inl rfl)) dJ2_add_3_12 (fun H_10 ho_8 hs_9 => ?_)
  have hb_11 := hb_7.same hs_9 (Ne.symm hlb)
  have ho_8 : hp κ H_10 l (.inr (5, [vi md1, .ref b, vi (n : Int)])) := ho_8
  refine v_aload_n E 0 rfl dJ2_add_3_15 ?_
  refine v_getf E in_J2 ho_8 (ci := 5) rfl 2 (by decide) q130 rfl (v := vi (n : Int)) rfl dJ2_add_3_16 ?_
  refine v_dup E rfl dJ2_add_3_19 ?_
  refine v_istore_n E dJ2_add_3_20 (zlt hL rfl) (lv' := [(3, vi (n : Int)), (0, .ref l), (1, vi (i : Int)), (2, .ref v)]) rfl ?_
  refine v_aload_n E 1 rfl dJ2_add_3_21 ?_
  refine v_getf E in_J2 ho_8 (ci := 5) rfl 1 (by decide) q127 rfl (v := .ref b) rfl dJ2_add_3_22 ?_
  refine v_dup E rfl dJ2_add_3_25 ?_
  refine v_astore E dJ2_add_3_26 (zlt hL rfl) (lv' := [(4, .ref b), (3, vi (n : Int)), (0, .ref l), (1, vi (i : Int)), (2, .ref v)]) rfl ?_
  refine v_alen E dJ2_add_3_28 (t := 2) (ty := (.object "java/lang/Object")) hb_11 rfl ?_
  refine v_icmp_ne E (tgt := 38) dJ2_add_3_29 (by decide) ⟨by omega, by omega⟩ ⟨by omega, by omega⟩ (fun c_29 => ?_) (fun c_29 => ?_)
  · refine V.frame (fun hfz_fr_12 hfk_fr_12 => ?_)
    rw [hH0] at hfz_fr_12 hfk_fr_12
    rw [hA0] at hfk_fr_12
    refine v_aload E 0 rfl dJ2_add_3_38 ?_
    refine v_iload_n E 3 rfl dJ2_add_3_40 ?_
    refine v_aload E 0 rfl dJ2_add_3_41 ?_
    refine v_iload_n E 3 rfl dJ2_add_3_43 ?_
    refine v_iconst E dJ2_add_3_44 ?_
    refine v_iadd E dJ2_add_3_45 ?_
    refine v_iload_n E 1 rfl dJ2_add_3_46 ?_
    refine v_iload_n E 3 rfl dJ2_add_3_47 ?_
    refine v_isub E dJ2_add_3_48 ?_
    refine v_copyQ E (n0 := cap) (n1 := cap) hb_11 hb_11 q182 q184 q183 q78 (sp := i) (dp := (i + 1)) (w := (n - i)) (by omega) (by omega) (by omega) (by omega) (fun k hk y hy => (hel (i + k) (by omega)).elim (fun y2 h => by have e := Option.some.inj (hy.symm.trans h.1); subst e; exact h.2.kept (hfk_fr_12 _ h.2.lt (fun h9 => h9.elim (h.2.neL hC.D ho) (fun h8 => h.2.neA hC.D hb (by decide) h8.1))))) (hAll _ (Or.inr ⟨rfl, by omega⟩)) (by decide) (Nat.le_of_ble_eq_true rfl) (by omega) (by omega) (by omega) dJ2_add_3_49 (fun H_15 hv_13 hs_14 => ?_)
    have ho_16 := ho_8.same hs_14 hlb
    refine v_aload E 0 rfl dJ2_add_3_52 ?_
    refine v_iload_n E 3 rfl dJ2_add_3_54 ?_
    refine v_aload_n E 4 rfl dJ2_add_3_55 ?_
    refine V.frame (fun hfz_fr_20 hfk_fr_20 => ?_)
    rw [hH0] at hfz_fr_20 hfk_fr_20
    rw [hA0] at hfk_fr_20
    refine v_aast E dJ2_add_3_56 hv_13 (hv.kept (hfk_fr_20 _ hv.lt (fun h9 => h9.elim (hv.neL hC.D ho) (fun h8 => hv.neA hC.D hb (by decide) h8.1)))) i rfl (by omega) (by omega) (hAll _ (Or.inr ⟨rfl, by omega⟩)) (fun H_19 hv_17 hs_18 => ?_)
    have ho_21 := ho_16.same hs_18 hlb
    refine v_aload_n E 2 rfl dJ2_add_3_57 ?_
    refine v_iload_n E 1 rfl dJ2_add_3_58 ?_
    refine v_iconst E dJ2_add_3_59 ?_
    refine v_iadd E dJ2_add_3_60 ?_
    refine v_putf E in_J2 tyJ2 tyJ2_ok nmJ2 ho_21 (ci := 5) rfl 2 (Nat.le_of_ble_eq_true rfl) q130 rfl rfl rfl rfl (Nat.le_of_ble_eq_true rfl) (hAll _ (Or.inl rfl)) dJ2_add_3_61 (fun H_24 ho_22 hs_23 => ?_)
    have hv_25 := hv_17.same hs_23 (Ne.symm hlb)
    have ho_22 : hp κ H_24 l (.inr (5, [vi md1, .ref b, vi ((n : Int) + 1)])) := ho_22
    refine V.frame (fun hfz_fr_26 hfk_fr_26 => ?_)
    rw [hH0] at hfz_fr_26 hfk_fr_26
    rw [hA0] at hfk_fr_26
    refine v_vret E hE dJ2_add_3_64 ?_
    exact ⟨rfl, b, cap, md1, _, ⟨ho_22, hv_25, by omega, hc0, hcm, hr1, (fun k hk => by
        rw [in_lo hi (by omega)]
        by_cases c : k < i
        · rw [if_pos c]; obtain ⟨y2, h1, h2⟩ := hel k (by omega); exact ⟨y2, h1, h2.kept (hfk_fr_26 _ h2.lt (fun h9 => h9.elim (h2.neL hC.D ho) (fun h8 => h2.neA hC.D hb (by decide) h8.1)))⟩
        · rw [if_neg c]
          by_cases e : k = i
          · rw [if_pos e]; exact ⟨v, rfl, hv.kept (hfk_fr_26 _ hv.lt (fun h9 => h9.elim (hv.neL hC.D ho) (fun h8 => hv.neA hC.D hb (by decide) h8.1)))⟩
          · rw [if_neg e]; obtain ⟨y2, h1, h2⟩ := hel (k - 1) (by omega); exact ⟨y2, h1, h2.kept (hfk_fr_26 _ h2.lt (fun h9 => h9.elim (h2.neL hC.D ho) (fun h8 => h2.neA hC.D hb (by decide) h8.1)))⟩), hl9, hb9, hlb⟩, (fun k hk => in_lo hi (by omega)), Or.inl ⟨rfl, rfl⟩⟩
  · refine v_aload_n E 2 rfl dJ2_add_3_32 ?_
    refine V.frame (fun hfz_fr_27 hfk_fr_27 => ?_)
    rw [hH0] at hfz_fr_27 hfk_fr_27
    rw [hA0] at hfk_fr_27
    refine v_callV E (As := []) (b := l) (ci := 5) (C := RJ2) (T := TJ2) (N := 3) ho_8 rfl (j_grow κ H_10 (hC.call (fun q h => by rcases h with h | h; exact h ▸ hl9; exact h.1 ▸ hb9 h.2) hfz_fr_27 hfk_fr_27) (by omega) hcap ⟨ho_8, hb_11, hnc, hc0, hcm, hr1, fun k hk => (hel k hk).elim (fun y h => ⟨y, h.1, h.2.kept (hfk_fr_27 _ h.2.lt (fun h9 => h9.elim (h.2.neL hC.D ho) (fun h8 => h.2.neA hC.D hb (by decide) h8.1)))⟩), hl9, hb9, hlb⟩) (lw_V q216 q218 qs2 q73 q219) 0 (by decide +kernel) rfl (by decide) (by decide) (cb' := 0) (sb' := 0) (by omega) (by omega) rfl (rest := []) (Nat.le_of_ble_eq_true rfl) (fun q h => hAll q (Or.inl h)) dJ2_add_3_33 (fun v_28 H_29 hpost_30 hz_31 hk_32 => ?_)
    clear hz_31
    obtain ⟨b2, g2, rfl, hb2, ho2, hg2, hgk⟩ := hpost_30
    have hb20 : H0.size ≤ b2 := Nat.le_trans hfz_fr_27 hb2
    have hlb2 : l ≠ b2 := Nat.ne_of_lt (Nat.lt_of_lt_of_le ho.lt hb20)
    have hne_l_b2 := hlb2
    refine V.eq (st' := [.ref b2]) rfl ?_
    refine v_astore E dJ2_add_3_36 (zlt hL rfl) (lv' := [(4, .ref b2), (3, vi (n : Int)), (0, .ref l), (1, vi (i : Int)), (2, .ref v)]) rfl ?_
    refine V.frame (fun hfz_fr_33 hfk_fr_33 => ?_)
    rw [hH0] at hfz_fr_33 hfk_fr_33
    rw [hA0] at hfk_fr_33
    have hgi := alG_in cap hcap
    refine v_aload E 0 rfl dJ2_add_3_38 ?_
    refine v_iload_n E 3 rfl dJ2_add_3_40 ?_
    refine v_aload E 0 rfl dJ2_add_3_41 ?_
    refine v_iload_n E 3 rfl dJ2_add_3_43 ?_
    refine v_iconst E dJ2_add_3_44 ?_
    refine v_iadd E dJ2_add_3_45 ?_
    refine v_iload_n E 1 rfl dJ2_add_3_46 ?_
    refine v_iload_n E 3 rfl dJ2_add_3_47 ?_
    refine v_isub E dJ2_add_3_48 ?_
    refine v_copyQ E (n0 := (alG cap)) (n1 := (alG cap)) hg2 hg2 q182 q184 q183 q78 (sp := i) (dp := (i + 1)) (w := (n - i)) (by omega) (by omega) (by omega) (by omega) (fun k hk y hy => (hel (i + k) (by omega)).elim (fun y2 h => by have e := Option.some.inj (hy.symm.trans ((hgk _ (by omega)).trans h.1)); subst e; exact h.2.kept (hfk_fr_33 _ h.2.lt (fun h9 => h9.elim (h.2.neL hC.D ho) (fun h8 => h.2.neA hC.D hb (by decide) h8.1))))) (hNew _ hb20) (by decide) (Nat.le_of_ble_eq_true rfl) (by omega) (by omega) (by omega) dJ2_add_3_49 (fun H_36 hv_34 hs_35 => ?_)
    have ho2_37 := ho2.same hs_35 hne_l_b2
    refine v_aload E 0 rfl dJ2_add_3_52 ?_
    refine v_iload_n E 3 rfl dJ2_add_3_54 ?_
    refine v_aload_n E 4 rfl dJ2_add_3_55 ?_
    refine V.frame (fun hfz_fr_41 hfk_fr_41 => ?_)
    rw [hH0] at hfz_fr_41 hfk_fr_41
    rw [hA0] at hfk_fr_41
    refine v_aast E dJ2_add_3_56 hv_34 (hv.kept (hfk_fr_41 _ hv.lt (fun h9 => h9.elim (hv.neL hC.D ho) (fun h8 => hv.neA hC.D hb (by decide) h8.1)))) i rfl (by omega) (by omega) (hNew _ hb20) (fun H_40 hv_38 hs_39 => ?_)
    have ho2_42 := ho2_37.same hs_39 hne_l_b2
    refine v_aload_n E 2 rfl dJ2_add_3_57 ?_
    refine v_iload_n E 1 rfl dJ2_add_3_58 ?_
    refine v_iconst E dJ2_add_3_59 ?_
    refine v_iadd E dJ2_add_3_60 ?_
    refine v_putf E in_J2 tyJ2 tyJ2_ok nmJ2 ho2_42 (ci := 5) rfl 2 (Nat.le_of_ble_eq_true rfl) q130 rfl rfl rfl rfl (Nat.le_of_ble_eq_true rfl) (hAll _ (Or.inl rfl)) dJ2_add_3_61 (fun H_45 ho2_43 hs_44 => ?_)
    have hv_46 := hv_38.same hs_44 (Ne.symm hne_l_b2)
    have ho2_43 : hp κ H_45 l (.inr (5, [vi md1, .ref b2, vi ((n : Int) + 1)])) := ho2_43
    refine V.frame (fun hfz_fr_47 hfk_fr_47 => ?_)
    rw [hH0] at hfz_fr_47 hfk_fr_47
    rw [hA0] at hfk_fr_47
    refine v_vret E hE dJ2_add_3_64 ?_
    exact ⟨rfl, b2, alG cap, md1, _, ⟨ho2_43, hv_46, by omega, fun h => absurd h (by omega), hgi.2, hr1, (fun k hk => by
        rw [in_lo hi (by omega)]
        by_cases c : k < i
        · rw [if_pos c]; obtain ⟨y2, h1, h2⟩ := hel k (by omega); exact ⟨y2, ((hgk _ (by omega)).trans h1), h2.kept (hfk_fr_47 _ h2.lt (fun h9 => h9.elim (h2.neL hC.D ho) (fun h8 => h2.neA hC.D hb (by decide) h8.1)))⟩
        · rw [if_neg c]
          by_cases e : k = i
          · rw [if_pos e]; exact ⟨v, rfl, hv.kept (hfk_fr_47 _ hv.lt (fun h9 => h9.elim (hv.neL hC.D ho) (fun h8 => hv.neA hC.D hb (by decide) h8.1)))⟩
          · rw [if_neg e]; obtain ⟨y2, h1, h2⟩ := hel (k - 1) (by omega); exact ⟨y2, ((hgk _ (by omega)).trans h1), h2.kept (hfk_fr_47 _ h2.lt (fun h9 => h9.elim (h2.neL hC.D ho) (fun h8 => h2.neA hC.D hb (by decide) h8.1)))⟩), hl9, fun _ => Nat.le_trans hC.le hb20, hlb2⟩, (fun k hk => (in_lo hi (by omega)).trans (by
        by_cases c : k < i
        · rw [if_pos c, if_pos c, hgk k (by omega)]
        · rw [if_neg c, if_neg c]
          by_cases e : k = i
          · rw [if_pos e, if_pos e]
          · rw [if_neg e, if_neg e, hgk (k - 1) (by omega)])), Or.inr ⟨hb20, rfl, by omega⟩⟩

set_option maxHeartbeats 400000 in
set_option maxRecDepth 100000 in
/-- remove what the iterator told last -/
theorem j_irm (κ : zK) (H0 : Heap) {l b n cap : Nat} {md : Int} {g : Nat → Option Nat} (hC : CO κ H0) {it : Nat} {c : Int} {r y : Nat} (hr : r < n) (hy : g r = some y) (hA : AL κ H0 l b md n cap g) (hI : IT κ H0 it l c (r : Int) md)  : MtH κ yJ17_remove cJ17_remove 2 (none) [((19 : Nat), (55 : Nat), (58 : Nat), (51 : Nat))] 3 73 0 0 H0 [.ref it] (fun q => q = it ∨ q = l ∨ (q = b ∧ 0 < cap)) (fun v9 H1 => v9 = none ∧ ∃ (md2 : Int) (g2 : Nat → Option Nat), AL κ H1 l b md2 (n - 1) cap g2 ∧ (∀ k, k < n - 1 → g2 k = if k < r then g k else g (k + 1)) ∧ IT κ H1 it l (r : Int) (-1) md2) := by
  refine MtH.of (by decide) (Nat.le_of_ble_eq_true rfl) ?_
  intro z E hE hH0 hA0 hL hini
  have hAll : ∀ q, (fun q => q = it ∨ q = l ∨ (q = b ∧ 0 < cap)) q → zA z.A z.H0 q := fun q h => Or.inl (by rw [hA0]; exact h)
  have hNew : ∀ q, H0.size ≤ q → zA z.A z.H0 q := fun q h => Or.inr (by rw [hH0]; exact h)
  have E : zOK z cJ17_remove RJ17 κ 3 73 (none) := E
  refine V.eqL (lv' := [(0, .ref it)]) rfl ?_
  obtain ⟨ho, hb, hnc, hc0, hcm, hmd, hel, hl9, hb9, hlb⟩ := hA
  obtain ⟨hi0, hi9⟩ := hI
  have hne_l_it : l ≠ it := hp.kk hC.D ho hi0 (by decide) (by decide) (by decide)
  have hne_b_it : b ≠ it := Ne.symm (hp.ka hC.D hi0 hb (by decide) (by decide))
  refine v_aload_n E 0 rfl dJ17_remove_0 ?_
  refine v_getf E in_J17 hi0 (ci := 7) rfl 1 (by decide) q304 rfl (v := vi (r : Int)) rfl dJ17_remove_1 ?_
  refine v_if_ge E (tgt := 15) dJ17_remove_4 (by decide) ⟨by omega, by omega⟩ (fun c_4 => ?_) (fun c_4 => absurd c_4 (by omega))
  refine v_aload_n E 0 rfl dJ17_remove_15 ?_
  refine v_callV E (As := []) (b := it) (ci := 7) (C := RJ17) (T := TJ17) (N := 4) hi0 rfl (j_ckm7 κ H0 (c := c) (r := (r : Int)) hC ⟨ho, hb, hnc, hc0, hcm, hmd, hel, hl9, hb9, hlb⟩ ⟨hi0, hi9⟩) (lw_V q342 q343 q344 q92 q347) 0 (by decide +kernel) rfl (by decide) (by decide) (cb' := 0) (sb' := 0) (by decide) (by decide) rfl (rest := []) (Nat.le_of_ble_eq_true rfl) (fun q h => h.elim) dJ17_remove_16 (fun v_1 H_2 hpost_3 hz_4 hk_5 => ?_)
  clear hz_4
  obtain rfl := hpost_3
  have ho_6 := ho.kept (hk_5 _ ho.lt (fun h => h))
  have hb_7 := hb.kept (hk_5 _ hb.lt (fun h => h))
  have hi0_8 := hi0.kept (hk_5 _ hi0.lt (fun h => h))
  refine V.eq (st' := []) rfl ?_
  refine v_aload_n E 0 rfl dJ17_remove_19 ?_
  refine v_getf E in_J17 hi0_8 (ci := 7) rfl 3 (by decide) q310 rfl (v := .ref l) rfl dJ17_remove_20 ?_
  refine v_aload_n E 0 rfl dJ17_remove_23 ?_
  refine v_getf E in_J17 hi0_8 (ci := 7) rfl 1 (by decide) q304 rfl (v := vi (r : Int)) rfl dJ17_remove_24 ?_
  refine V.frame (fun hfz_fr_9 hfk_fr_9 => ?_)
  rw [hH0] at hfz_fr_9 hfk_fr_9
  rw [hA0] at hfk_fr_9
  refine v_callV E (As := [vi (r : Int)]) (b := l) (ci := 5) (C := RJ2) (T := TJ2) (N := 3) ho_6 rfl (j_rm κ H_2 (hC.call (fun q h => by rcases h with h | h | h; exact h ▸ hi9; exact h ▸ hl9; exact h.1 ▸ hb9 h.2) hfz_fr_9 hfk_fr_9) hr hy ⟨ho_6, hb_7, hnc, hc0, hcm, hmd, fun k hk => (hel k hk).elim (fun y h => ⟨y, h.1, h.2.kept (hfk_fr_9 _ h.2.lt (fun h9 => h9.elim (fun h8 => h.2.neO hC.D hi0 (Or.inl rfl) h8) (fun h8 => h8.elim (h.2.neL hC.D ho) (fun h7 => h.2.neA hC.D hb (by decide) h7.1))))⟩), hl9, hb9, hlb⟩) (lw_V q443 q175 q176 q73 q177) 1 (by decide +kernel) rfl (by decide) (by decide) (cb' := 0) (sb' := 0) (by decide) (by decide) rfl (rest := []) (Nat.le_of_ble_eq_true rfl) (fun q h => hAll q (Or.inr (h.imp id (fun h => ⟨h, by omega⟩)))) dJ17_remove_27 (fun v_10 H_11 hpost_12 hz_13 hk_14 => ?_)
  clear hz_13
  obtain ⟨rfl, md2, g2, hA2, hg2⟩ := hpost_12
  have hi0_15 := hi0_8.kept (hk_14 _ hi0_8.lt (fun h => h.elim (fun h => hne_l_it h.symm) (fun h => hne_b_it h.symm)))
  obtain ⟨ho2, hb2, hnc2, hc02, hcm2, hmd2, hel2, hl92, hb92, hlb2⟩ := hA2
  refine V.eq (st' := [.ref y]) rfl ?_
  refine v_pop E rfl dJ17_remove_30 ?_
  refine v_aload_n E 0 rfl dJ17_remove_31 ?_
  refine v_aload_n E 0 rfl dJ17_remove_32 ?_
  refine v_getf E in_J17 hi0_15 (ci := 7) rfl 1 (by decide) q304 rfl (v := vi (r : Int)) rfl dJ17_remove_33 ?_
  refine v_putf E in_J17 tyJ17 tyJ17_ok nmJ17 hi0_15 (ci := 7) rfl 0 (Nat.le_of_ble_eq_true rfl) q303 rfl rfl rfl rfl (Nat.le_of_ble_eq_true rfl) (hAll _ (Or.inl rfl)) dJ17_remove_36 (fun H_18 hi0_16 hs_17 => ?_)
  have ho2_19 := ho2.same hs_17 hne_l_it
  have hb2_20 := hb2.same hs_17 hne_b_it
  have hi0_16 : hp κ H_18 it (.inr (7, [vi (r : Int), vi (r : Int), vi md, .ref l])) := hi0_16
  have hel2 : ∀ k, k < (n - 1) → ∃ y, g2 k = some y ∧ oA κ H_18 y := fun k hk => (hel2 k hk).elim (fun y h => ⟨y, h.1, h.2.same hs_17 (h.2.neO hC.D hi0_15 (Or.inl rfl))⟩)
  refine v_aload_n E 0 rfl dJ17_remove_39 ?_
  refine v_iconst E dJ17_remove_40 ?_
  refine v_putf E in_J17 tyJ17 tyJ17_ok nmJ17 hi0_16 (ci := 7) rfl 1 (Nat.le_of_ble_eq_true rfl) q304 rfl rfl rfl rfl (Nat.le_of_ble_eq_true rfl) (hAll _ (Or.inl rfl)) dJ17_remove_41 (fun H_23 hi0_21 hs_22 => ?_)
  have ho2_24 := ho2_19.same hs_22 hne_l_it
  have hb2_25 := hb2_20.same hs_22 hne_b_it
  have hi0_21 : hp κ H_23 it (.inr (7, [vi (r : Int), vi (-1), vi md, .ref l])) := hi0_21
  have hel2 : ∀ k, k < (n - 1) → ∃ y, g2 k = some y ∧ oA κ H_23 y := fun k hk => (hel2 k hk).elim (fun y h => ⟨y, h.1, h.2.same hs_22 (h.2.neO hC.D hi0_16 (Or.inl rfl))⟩)
  refine v_aload_n E 0 rfl dJ17_remove_44 ?_
  refine v_aload_n E 0 rfl dJ17_remove_45 ?_
  refine v_getf E in_J17 hi0_21 (ci := 7) rfl 3 (by decide) q310 rfl (v := .ref l) rfl dJ17_remove_46 ?_
  refine v_getfS E in_J2 ho2_24 (ci := 5) rfl 0 (by decide) q132 q133 (v := vi md2) rfl dJ17_remove_49 ?_
  refine v_putf E in_J17 tyJ17 tyJ17_ok nmJ17 hi0_21 (ci := 7) rfl 2 (Nat.le_of_ble_eq_true rfl) q307 rfl rfl rfl rfl (Nat.le_of_ble_eq_true rfl) (hAll _ (Or.inl rfl)) dJ17_remove_52 (fun H_28 hi0_26 hs_27 => ?_)
  have ho2_29 := ho2_24.same hs_27 hne_l_it
  have hb2_30 := hb2_25.same hs_27 hne_b_it
  have hi0_26 : hp κ H_28 it (.inr (7, [vi (r : Int), vi (-1), vi md2, .ref l])) := hi0_26
  have hel2 : ∀ k, k < (n - 1) → ∃ y, g2 k = some y ∧ oA κ H_28 y := fun k hk => (hel2 k hk).elim (fun y h => ⟨y, h.1, h.2.same hs_27 (h.2.neO hC.D hi0_21 (Or.inl rfl))⟩)
  refine v_goto E (tgt := 67) dJ17_remove_55 (by decide) ?_
  refine v_vret E hE dJ17_remove_67 ?_
  exact ⟨rfl, md2, g2, ⟨ho2_29, hb2_30, hnc2, hc02, hcm2, hmd2, hel2, hl92, hb92, hlb2⟩, hg2, hi0_26, hi9⟩

set_option maxHeartbeats 400000 in
set_option maxRecDepth 100000 in
/-- set at the iterator -/
theorem j_iset (κ : zK) (H0 : Heap) {l b n cap : Nat} {md : Int} {g : Nat → Option Nat} (hC : CO κ H0) {it : Nat} {c : Int} {r y v : Nat} (hr : r < n) (hy : g r = some y) (hv : oA κ H0 v) (hA : AL κ H0 l b md n cap g) (hI : LI κ H0 it l c (r : Int) md)  : MtH κ yJ27_set cJ27_set 3 (none) [((19 : Nat), (32 : Nat), (35 : Nat), (44 : Nat))] 3 66 0 0 H0 [.ref it, .ref v] (fun q => q = b) (fun v9 H1 => v9 = none ∧ AL κ H1 l b md n cap (va_up g r (some v)) ∧ LI κ H1 it l c (r : Int) md) := by
  refine MtH.of (by decide) (Nat.le_of_ble_eq_true rfl) ?_
  intro z E hE hH0 hA0 hL hini
  have hAll : ∀ q, (fun q => q = b) q → zA z.A z.H0 q := fun q h => Or.inl (by rw [hA0]; exact h)
  have hNew : ∀ q, H0.size ≤ q → zA z.A z.H0 q := fun q h => Or.inr (by rw [hH0]; exact h)
  have E : zOK z cJ27_set RJ27 κ 3 66 (none) := E
  refine V.eqL (lv' := [(0, .ref it), (1, .ref v)]) rfl ?_
  obtain ⟨ho, hb, hnc, hc0, hcm, hmd, hel, hl9, hb9, hlb⟩ := hA
  obtain ⟨hi0, hi9⟩ := hI
  have hne_l_it : l ≠ it := hp.kk hC.D ho hi0 (by decide) (by decide) (by decide)
  have hne_b_it : b ≠ it := Ne.symm (hp.ka hC.D hi0 hb (by decide) (by decide))
  refine v_aload_n E 0 rfl dJ27_set_0 ?_
  refine v_getfS E in_J27 hi0 (ci := 8) rfl 1 (by decide) q305 q306 (v := vi (r : Int)) rfl dJ27_set_1 ?_
  refine v_if_ge E (tgt := 15) dJ27_set_4 (by decide) ⟨by omega, by omega⟩ (fun c_4 => ?_) (fun c_4 => absurd c_4 (by omega))
  refine v_aload_n E 0 rfl dJ27_set_15 ?_
  refine v_callU E (As := []) (b := it) (ci := 8) (C := RJ27) (T := TJ27) (N := 5) hi0 rfl (j_ckm8 κ H0 (c := c) (r := (r : Int)) hC ⟨ho, hb, hnc, hc0, hcm, hmd, hel, hl9, hb9, hlb⟩ ⟨hi0, hi9⟩) (lw_U q1687 q1688 q1690 q343 q92 q347) rfl 0 (by decide +kernel) rfl (by decide) (by decide) (cb' := 0) (sb' := 0) (by decide) (by decide) rfl (rest := []) (Nat.le_of_ble_eq_true rfl) (fun q h => h.elim) dJ27_set_16 (fun v_1 H_2 hpost_3 hz_4 hk_5 => ?_)
  clear hz_4
  obtain rfl := hpost_3
  have ho_6 := ho.kept (hk_5 _ ho.lt (fun h => h))
  have hb_7 := hb.kept (hk_5 _ hb.lt (fun h => h))
  have hi0_8 := hi0.kept (hk_5 _ hi0.lt (fun h => h))
  refine V.eq (st' := []) rfl ?_
  refine v_aload_n E 0 rfl dJ27_set_19 ?_
  refine v_getf E in_J27 hi0_8 (ci := 8) rfl 4 (by decide) q1662 rfl (v := .ref l) rfl dJ27_set_20 ?_
  refine v_aload_n E 0 rfl dJ27_set_23 ?_
  refine v_getfS E in_J27 hi0_8 (ci := 8) rfl 1 (by decide) q305 q306 (v := vi (r : Int)) rfl dJ27_set_24 ?_
  refine v_aload_n E 1 rfl dJ27_set_27 ?_
  refine V.frame (fun hfz_fr_9 hfk_fr_9 => ?_)
  rw [hH0] at hfz_fr_9 hfk_fr_9
  rw [hA0] at hfk_fr_9
  refine v_callV E (As := [vi (r : Int), .ref v]) (b := l) (ci := 5) (C := RJ2) (T := TJ2) (N := 3) ho_6 rfl (j_set κ H_2 (hC.call (fun q h => by rw [show q = b from h]; exact hb9 (by omega)) hfz_fr_9 hfk_fr_9) (i := r) (y := y) (hv.kept (hfk_fr_9 _ hv.lt (fun h9 => hv.neA hC.D hb (by decide) h9))) hr hy ⟨ho_6, hb_7, hnc, hc0, hcm, hmd, fun k hk => (hel k hk).elim (fun y h => ⟨y, h.1, h.2.kept (hfk_fr_9 _ h.2.lt (fun h9 => h.2.neA hC.D hb (by decide) h9))⟩), hl9, hb9, hlb⟩) (lw_V q1691 q668 q669 q73 q670) 2 (by decide +kernel) rfl (by decide) (by decide) (cb' := 0) (sb' := 0) (by decide) (by decide) rfl (rest := []) (Nat.le_of_ble_eq_true rfl) (fun q h => hAll q h) dJ27_set_28 (fun v_10 H_11 hpost_12 hz_13 hk_14 => ?_)
  clear hz_13
  obtain ⟨rfl, hA2⟩ := hpost_12
  have hi0_15 := hi0_8.kept (hk_14 _ hi0_8.lt (fun h => hne_b_it (show it = b from h).symm))
  obtain ⟨ho2, hb2, hnc2, hc02, hcm2, hmd2, hel2, hl92, hb92, hlb2⟩ := hA2
  refine V.eq (st' := [.ref y]) rfl ?_
  refine v_pop E rfl dJ27_set_31 ?_
  refine v_goto E (tgt := 44) dJ27_set_32 (by decide) ?_
  refine v_vret E hE dJ27_set_44 ?_
  exact ⟨rfl, ⟨ho2, hb2, hnc2, hc02, hcm2, hmd2, hel2, hl92, hb92, hlb2⟩, hi0_15, hi9⟩

set_option maxHeartbeats 400000 in
set_option maxRecDepth 100000 in
/-- add at the iterator -/
theorem j_iadd (κ : zK) (H0 : Heap) {l b n cap : Nat} {md : Int} {g : Nat → Option Nat} (hC : CO κ H0) {it : Nat} (hcap : cap ≤ 600) {r : Int} {c v : Nat} (hc : c ≤ n) (hv : oA κ H0 v) (hA : AL κ H0 l b md n cap g) (hI : LI κ H0 it l (c : Int) r md)  : MtH κ yJ27_add cJ27_add 3 (none) [((4 : Nat), (41 : Nat), (44 : Nat), (44 : Nat))] 6 138 1 (alG cap) H0 [.ref it, .ref v] (fun q => q = it ∨ q = l ∨ (q = b ∧ 0 < cap)) (fun v9 H1 => v9 = none ∧ ∃ (b2 cap2 : Nat) (md2 : Int) (g2 : Nat → Option Nat), AL κ H1 l b2 md2 (n + 1) cap2 g2 ∧ (∀ k, k < n + 1 → g2 k = if k < c then g k else if k = c then some v else g (k - 1)) ∧ (b2 = b ∧ cap2 = cap ∨ H0.size ≤ b2 ∧ cap2 = alG cap ∧ n = cap) ∧ LI κ H1 it l ((c : Int) + 1) (-1) md2) := by
  refine MtH.of (by decide) (Nat.le_of_ble_eq_true rfl) ?_
  intro z E hE hH0 hA0 hL hini
  have hAll : ∀ q, (fun q => q = it ∨ q = l ∨ (q = b ∧ 0 < cap)) q → zA z.A z.H0 q := fun q h => Or.inl (by rw [hA0]; exact h)
  have hNew : ∀ q, H0.size ≤ q → zA z.A z.H0 q := fun q h => Or.inr (by rw [hH0]; exact h)
  have E : zOK z cJ27_add RJ27 κ 6 138 (none) := E
  refine V.eqL (lv' := [(0, .ref it), (1, .ref v)]) rfl ?_
  obtain ⟨ho, hb, hnc, hc0, hcm, hmd, hel, hl9, hb9, hlb⟩ := hA
  obtain ⟨hi0, hi9⟩ := hI
  have hne_l_it : l ≠ it := hp.kk hC.D ho hi0 (by decide) (by decide) (by decide)
  have hne_b_it : b ≠ it := Ne.symm (hp.ka hC.D hi0 hb (by decide) (by decide))
  refine v_aload_n E 0 rfl dJ27_add_0 ?_
  refine v_callU E (As := []) (b := it) (ci := 8) (C := RJ27) (T := TJ27) (N := 5) hi0 rfl (j_ckm8 κ H0 (c := (c : Int)) (r := r) hC ⟨ho, hb, hnc, hc0, hcm, hmd, hel, hl9, hb9, hlb⟩ ⟨hi0, hi9⟩) (lw_U q1687 q1688 q1690 q343 q92 q347) rfl 0 (by decide +kernel) rfl (by decide) (by decide) (cb' := (1 - 0)) (sb' := (alG cap - 0)) (by omega) (by omega) rfl (rest := []) (Nat.le_of_ble_eq_true rfl) (fun q h => h.elim) dJ27_add_1 (fun v_1 H_2 hpost_3 hz_4 hk_5 => ?_)
  clear hz_4
  obtain rfl := hpost_3
  have ho_6 := ho.kept (hk_5 _ ho.lt (fun h => h))
  have hb_7 := hb.kept (hk_5 _ hb.lt (fun h => h))
  have hi0_8 := hi0.kept (hk_5 _ hi0.lt (fun h => h))
  refine V.eq (st' := []) rfl ?_
  refine v_aload_n E 0 rfl dJ27_add_4 ?_
  refine v_getfS E in_J27 hi0_8 (ci := 8) rfl 0 (by decide) q301 q302 (v := vi (c : Int)) rfl dJ27_add_5 ?_
  refine v_istore_n E dJ27_add_8 (zlt hL rfl) (lv' := [(2, vi (c : Int)), (0, .ref it), (1, .ref v)]) rfl ?_
  refine v_aload_n E 1 rfl dJ27_add_9 ?_
  refine v_getf E in_J27 hi0_8 (ci := 8) rfl 4 (by decide) q1662 rfl (v := .ref l) rfl dJ27_add_10 ?_
  refine v_iload_n E 0 rfl dJ27_add_13 ?_
  refine v_aload_n E 2 rfl dJ27_add_14 ?_
  refine V.frame (fun hfz_fr_9 hfk_fr_9 => ?_)
  rw [hH0] at hfz_fr_9 hfk_fr_9
  rw [hA0] at hfk_fr_9
  refine v_callV E (As := [vi (c : Int), .ref v]) (b := l) (ci := 5) (C := RJ2) (T := TJ2) (N := 3) ho_6 rfl (j_addAt κ H_2 (hC.call (fun q h => by rcases h with h | h | h; exact h ▸ hi9; exact h ▸ hl9; exact h.1 ▸ hb9 h.2) hfz_fr_9 hfk_fr_9) hcap (v := v) (i := c) hc (hv.kept (hfk_fr_9 _ hv.lt (fun h9 => h9.elim (fun h8 => hv.neO hC.D hi0 (Or.inr rfl) h8) (fun h8 => h8.elim (hv.neL hC.D ho) (fun h7 => hv.neA hC.D hb (by decide) h7.1))))) ⟨ho_6, hb_7, hnc, hc0, hcm, hmd, fun k hk => (hel k hk).elim (fun y h => ⟨y, h.1, h.2.kept (hfk_fr_9 _ h.2.lt (fun h9 => h9.elim (fun h8 => h.2.neO hC.D hi0 (Or.inr rfl) h8) (fun h8 => h8.elim (h.2.neL hC.D ho) (fun h7 => h.2.neA hC.D hb (by decide) h7.1))))⟩), hl9, hb9, hlb⟩) (lw_V q1703 q1704 q1705 q73 q1706) 2 (by decide +kernel) rfl (by decide) (by decide) (cb' := 0) (sb' := 0) (by omega) (by omega) rfl (rest := []) (Nat.le_of_ble_eq_true rfl) (fun q h => hAll q (Or.inr h)) dJ27_add_15 (fun v_10 H_11 hpost_12 hz_13 hk_14 => ?_)
  clear hz_13
  obtain ⟨rfl, b2, cap2, md2, g2, hA2, hgk, hc2⟩ := hpost_12
  have hi0_15 := hi0_8.kept (hk_14 _ hi0_8.lt (fun h => h.elim (fun h => hne_l_it h.symm) (fun h => hne_b_it h.1.symm)))
  obtain ⟨ho2, hb2, hnc2, hc02, hcm2, hmd2, hel2, hl92, hb92, hlb2⟩ := hA2
  have hne_b2_it : b2 ≠ it := Ne.symm (hp.ka hC.D hi0_15 hb2 (by decide) (by decide))
  have hne_l_b2 := hlb2
  refine V.eq (st' := []) rfl ?_
  refine v_aload_n E 1 rfl dJ27_add_18 ?_
  refine v_iload_n E 0 rfl dJ27_add_19 ?_
  refine v_iconst E dJ27_add_20 ?_
  refine v_iadd E dJ27_add_21 ?_
  refine v_putfG E in_J27 tyJ27 tyJ27_ok hi0_15 (ci := 8) rfl 0 (Nat.le_of_ble_eq_true rfl) (v := vi ((c : Int) + 1)) (fun j hj hjk => Or.inl (nm8a 0 (by decide) j hj hjk)) q301 (Or.inr q302) rfl rfl rfl (Nat.le_of_ble_eq_true rfl) (hAll _ (Or.inl rfl)) dJ27_add_22 (fun H_18 hi0_16 hs_17 => ?_)
  have ho2_19 := ho2.same hs_17 hne_l_it
  have hb2_20 := hb2.same hs_17 hne_b2_it
  have hi0_16 : hp κ H_18 it (.inr (8, [vi ((c : Int) + 1), vi r, vi md, .ref l, .ref l])) := hi0_16
  have hel2 : ∀ k, k < (n + 1) → ∃ y, g2 k = some y ∧ oA κ H_18 y := fun k hk => (hel2 k hk).elim (fun y h => ⟨y, h.1, h.2.same hs_17 (h.2.neO hC.D hi0_15 (Or.inr rfl))⟩)
  refine v_aload_n E 1 rfl dJ27_add_25 ?_
  refine v_iconst E dJ27_add_26 ?_
  refine v_putfG E in_J27 tyJ27 tyJ27_ok hi0_16 (ci := 8) rfl 1 (Nat.le_of_ble_eq_true rfl) (v := vi (-1)) (fun j hj hjk => Or.inl (nm8a 1 (by decide) j hj hjk)) q305 (Or.inr q306) rfl rfl rfl (Nat.le_of_ble_eq_true rfl) (hAll _ (Or.inl rfl)) dJ27_add_27 (fun H_23 hi0_21 hs_22 => ?_)
  have ho2_24 := ho2_19.same hs_22 hne_l_it
  have hb2_25 := hb2_20.same hs_22 hne_b2_it
  have hi0_21 : hp κ H_23 it (.inr (8, [vi ((c : Int) + 1), vi (-1), vi md, .ref l, .ref l])) := hi0_21
  have hel2 : ∀ k, k < (n + 1) → ∃ y, g2 k = some y ∧ oA κ H_23 y := fun k hk => (hel2 k hk).elim (fun y h => ⟨y, h.1, h.2.same hs_22 (h.2.neO hC.D hi0_16 (Or.inr rfl))⟩)
  refine v_aload_n E 1 rfl dJ27_add_30 ?_
  refine v_aload_n E 1 rfl dJ27_add_31 ?_
  refine v_getf E in_J27 hi0_21 (ci := 8) rfl 4 (by decide) q1662 rfl (v := .ref l) rfl dJ27_add_32 ?_
  refine v_getfS E in_J2 ho2_24 (ci := 5) rfl 0 (by decide) q134 q133 (v := vi md2) rfl dJ27_add_35 ?_
  refine v_putfG E in_J27 tyJ27 tyJ27_ok hi0_21 (ci := 8) rfl 2 (Nat.le_of_ble_eq_true rfl) (v := vi md2) (fun j hj hjk => Or.inl (nm8a 2 (by decide) j hj hjk)) q308 (Or.inr q309) rfl rfl rfl (Nat.le_of_ble_eq_true rfl) (hAll _ (Or.inl rfl)) dJ27_add_38 (fun H_28 hi0_26 hs_27 => ?_)
  have ho2_29 := ho2_24.same hs_27 hne_l_it
  have hb2_30 := hb2_25.same hs_27 hne_b2_it
  have hi0_26 : hp κ H_28 it (.inr (8, [vi ((c : Int) + 1), vi (-1), vi md2, .ref l, .ref l])) := hi0_26
  have hel2 : ∀ k, k < (n + 1) → ∃ y, g2 k = some y ∧ oA κ H_28 y := fun k hk => (hel2 k hk).elim (fun y h => ⟨y, h.1, h.2.same hs_27 (h.2.neO hC.D hi0_21 (Or.inr rfl))⟩)
  refine v_goto E (tgt := 53) dJ27_add_41 (by decide) ?_
  refine v_vret E hE dJ27_add_53 ?_
  exact ⟨rfl, b2, cap2, md2, g2, ⟨ho2_29, hb2_30, hnc2, hc02, hcm2, hmd2, hel2, hl92, hb92, hlb2⟩, hgk, hc2.imp (fun h => h) (fun h => ⟨by omega, h.2⟩), hi0_26, hi9⟩
