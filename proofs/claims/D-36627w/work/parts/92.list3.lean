theorem rm_lo {g : Nat → Option Nat} {i n k : Nat} (hi : i < n) (hk : k < n - 1) (h : n - 1 ≤ i) : va_up g (n - 1) none k = if k < i then g k else g (k + 1) := by
  rw [va_up_ne _ _ (by omega), if_pos (by omega)]
theorem rm_hi {g : Nat → Option Nat} {i n k : Nat} (hi : i < n) (hk : k < n - 1) : va_up (va_cpy g g (i + 1) i (n - 1 - i)) (n - 1) none k = if k < i then g k else g (k + 1) := by
  rw [va_up_ne _ _ (by omega)]
  by_cases c : k < i
  · rw [if_pos c, pk_cpy_out (Or.inl c)]
  · rw [if_neg c, pk_cpy_in (by omega) (by omega), show i + 1 + (k - i) = k + 1 by omega]
theorem in_lo {g : Nat → Option Nat} {i n k v : Nat} (hi : i ≤ n) (hk : k < n + 1) : va_up (va_cpy g g i (i + 1) (n - i)) i (some v) k = if k < i then g k else if k = i then some v else g (k - 1) := by
  by_cases e : k = i
  · rw [e, va_up_self, if_neg (by omega), if_pos rfl]
  · rw [va_up_ne _ _ e]
    by_cases c : k < i
    · rw [if_pos c, pk_cpy_out (Or.inl (by omega))]
    · rw [if_neg c, if_neg e, pk_cpy_in (by omega) (by omega), show i + (k - (i + 1)) = k - 1 by omega]
/-- an iterator over l at place c, the last one told r -/
def IT (κ : zK) (H : Heap) (it l : Nat) (c r md : Int) : Prop := hp κ H it (.inr (7, [vi c, vi r, vi md, .ref l])) ∧ κ.2 93 ≤ it
def LI (κ : zK) (H : Heap) (it l : Nat) (c r md : Int) : Prop := hp κ H it (.inr (8, [vi c, vi r, vi md, .ref l, .ref l])) ∧ κ.2 93 ≤ it
set_option maxHeartbeats 400000 in
set_option maxRecDepth 100000 in
/-- fastRemove -/
theorem j_fast (κ : zK) (H0 : Heap) {l b n cap : Nat} {md : Int} {g : Nat → Option Nat} (hC : CO κ H0) {i : Nat} (hi : i < n) (hA : AL κ H0 l b md n cap g)  : Mt κ yJ2_fastRemove cJ2_fastRemove 4 (none) 1 27 0 0 H0 [.ref l, .ref b, vi (i : Int)] (fun q => q = l ∨ q = b) (fun v9 H1 => v9 = none ∧ ∃ (md2 : Int) (g2 : Nat → Option Nat), AL κ H1 l b md2 (n - 1) cap g2 ∧ ∀ k, k < n - 1 → g2 k = if k < i then g k else g (k + 1)) := by
  refine Mt.of (by decide) (Nat.le_of_ble_eq_true rfl) ?_
  intro z E hE hH0 hA0 hL hini
  have hAll : ∀ q, (fun q => q = l ∨ q = b) q → zA z.A z.H0 q := fun q h => Or.inl (by rw [hA0]; exact h)
  have hNew : ∀ q, H0.size ≤ q → zA z.A z.H0 q := fun q h => Or.inr (by rw [hH0]; exact h)
  have E : zOK z cJ2_fastRemove RJ2 κ 1 27 (none) := E
  refine V.eqL (lv' := [(0, .ref l), (1, .ref b), (2, vi (i : Int))]) rfl ?_
  obtain ⟨ho, hb, hnc, hc0, hcm, hmd, hel, hl9, hb9, hlb⟩ := hA
  refine v_aload_n E 0 rfl dJ2_fastRemove_0 ?_
  refine v_dup E rfl dJ2_fastRemove_1 ?_
  refine v_getfS E in_J2 ho (ci := 5) rfl 0 (by decide) q135 q133 (v := vi md) rfl dJ2_fastRemove_2 ?_
  refine v_iconst E dJ2_fastRemove_5 ?_
  refine v_iadd E dJ2_fastRemove_6 ?_
  obtain ⟨md1, hm1, hr1⟩ := md_norm (md + 1)
  refine V.eq (st' := [vi md1, .ref l]) (by rw [← hm1]) ?_
  refine v_putfS E in_J2 tyJ2 tyJ2_ok nmJ2 ho (ci := 5) rfl 0 (Nat.le_of_ble_eq_true rfl) q135 q133 rfl rfl rfl (Nat.le_of_ble_eq_true rfl) (hAll _ (Or.inl rfl)) dJ2_fastRemove_7 (fun H_3 ho_1 hs_2 => ?_)
  have hb_4 := hb.same hs_2 (Ne.symm hlb)
  have ho_1 : hp κ H_3 l (.inr (5, [vi md1, .ref b, vi (n : Int)])) := ho_1
  refine v_aload_n E 0 rfl dJ2_fastRemove_10 ?_
  refine v_getf E in_J2 ho_1 (ci := 5) rfl 2 (by decide) q130 rfl (v := vi (n : Int)) rfl dJ2_fastRemove_11 ?_
  refine v_iconst E dJ2_fastRemove_14 ?_
  refine v_isub E dJ2_fastRemove_15 ?_
  refine v_dup E rfl dJ2_fastRemove_16 ?_
  refine v_istore_n E dJ2_fastRemove_17 (zlt hL rfl) (lv' := [(3, vi ((n : Int) - 1)), (0, .ref l), (1, .ref b), (2, vi (i : Int))]) rfl ?_
  refine v_iload_n E 3 rfl dJ2_fastRemove_18 ?_
  refine v_icmp_le E (tgt := 34) dJ2_fastRemove_19 (by decide) ⟨by omega, by omega⟩ ⟨by omega, by omega⟩ (fun c_19 => ?_) (fun c_19 => ?_)
  · refine v_aload_n E 2 rfl dJ2_fastRemove_34 ?_
    refine v_aload_n E 1 rfl dJ2_fastRemove_35 ?_
    refine v_iload_n E 0 rfl dJ2_fastRemove_36 ?_
    refine v_dup_x1 E rfl rfl dJ2_fastRemove_37 ?_
    refine v_putf E in_J2 tyJ2 tyJ2_ok nmJ2 ho_1 (ci := 5) rfl 2 (Nat.le_of_ble_eq_true rfl) q130 rfl rfl rfl rfl (Nat.le_of_ble_eq_true rfl) (hAll _ (Or.inl rfl)) dJ2_fastRemove_38 (fun H_7 ho_5 hs_6 => ?_)
    have hb_8 := hb_4.same hs_6 (Ne.symm hlb)
    have ho_5 : hp κ H_7 l (.inr (5, [vi md1, .ref b, vi ((n : Int) - 1)])) := ho_5
    refine v_null E dJ2_fastRemove_41 ?_
    refine v_aastN E dJ2_fastRemove_42 hb_8 (n - 1) (by omega) (by omega) (by omega) (hAll _ (Or.inr rfl)) (fun H_11 hb_9 hs_10 => ?_)
    have ho_12 := ho_5.same hs_10 hlb
    refine V.frame (fun hfz_fr_13 hfk_fr_13 => ?_)
    rw [hH0] at hfz_fr_13 hfk_fr_13
    rw [hA0] at hfk_fr_13
    refine v_vret E hE dJ2_fastRemove_43 ?_
    have hn1 : ((n : Int) - 1) = ((n - 1 : Nat) : Int) := by omega
    refine ⟨rfl, md1, _, ⟨?_, hb_9, by omega, hc0, hcm, hr1, (fun k hk => by
        rw [rm_lo hi hk (by omega)]
        by_cases c : k < i
        · rw [if_pos c]; obtain ⟨y2, h1, h2⟩ := hel k (by omega); exact ⟨y2, h1, h2.kept (hfk_fr_13 _ h2.lt (fun h9 => h9.elim (h2.neL hC.D ho) (fun h8 => h2.neA hC.D hb (by decide) h8)))⟩
        · rw [if_neg c]; obtain ⟨y2, h1, h2⟩ := hel (k + 1) (by omega); exact ⟨y2, h1, h2.kept (hfk_fr_13 _ h2.lt (fun h9 => h9.elim (h2.neL hC.D ho) (fun h8 => h2.neA hC.D hb (by decide) h8)))⟩), hl9, hb9, hlb⟩, fun k hk => rm_lo hi hk (by omega)⟩
    rw [← hn1]; exact ho_12
  · refine V.frame (fun hfz_fr_14 hfk_fr_14 => ?_)
    rw [hH0] at hfz_fr_14 hfk_fr_14
    rw [hA0] at hfk_fr_14
    refine v_aload_n E 2 rfl dJ2_fastRemove_22 ?_
    refine v_iload_n E 3 rfl dJ2_fastRemove_23 ?_
    refine v_iconst E dJ2_fastRemove_24 ?_
    refine v_iadd E dJ2_fastRemove_25 ?_
    refine v_aload_n E 2 rfl dJ2_fastRemove_26 ?_
    refine v_iload_n E 3 rfl dJ2_fastRemove_27 ?_
    refine v_iload_n E 0 rfl dJ2_fastRemove_28 ?_
    refine v_iload_n E 3 rfl dJ2_fastRemove_29 ?_
    refine v_isub E dJ2_fastRemove_30 ?_
    refine v_copyQ E (n0 := cap) (n1 := cap) hb_4 hb_4 q182 q184 q183 q78 (sp := (i + 1)) (dp := i) (w := (n - 1 - i)) (by omega) (by omega) (by omega) (by omega) (fun k hk y hy => (hel (i + 1 + k) (by omega)).elim (fun y2 h => by have e := Option.some.inj (hy.symm.trans h.1); subst e; exact h.2.kept (hfk_fr_14 _ h.2.lt (fun h9 => h9.elim (h.2.neL hC.D ho) (fun h8 => h.2.neA hC.D hb (by decide) h8))))) (hAll _ (Or.inr rfl)) (by decide) (Nat.le_of_ble_eq_true rfl) (by omega) (by omega) (by omega) dJ2_fastRemove_31 (fun H_17 hv_15 hs_16 => ?_)
    have ho_18 := ho_1.same hs_16 hlb
    refine v_aload_n E 2 rfl dJ2_fastRemove_34 ?_
    refine v_aload_n E 1 rfl dJ2_fastRemove_35 ?_
    refine v_iload_n E 0 rfl dJ2_fastRemove_36 ?_
    refine v_dup_x1 E rfl rfl dJ2_fastRemove_37 ?_
    refine v_putf E in_J2 tyJ2 tyJ2_ok nmJ2 ho_18 (ci := 5) rfl 2 (Nat.le_of_ble_eq_true rfl) q130 rfl rfl rfl rfl (Nat.le_of_ble_eq_true rfl) (hAll _ (Or.inl rfl)) dJ2_fastRemove_38 (fun H_21 ho_19 hs_20 => ?_)
    have hv_22 := hv_15.same hs_20 (Ne.symm hlb)
    have ho_19 : hp κ H_21 l (.inr (5, [vi md1, .ref b, vi ((n : Int) - 1)])) := ho_19
    refine v_null E dJ2_fastRemove_41 ?_
    refine v_aastN E dJ2_fastRemove_42 hv_22 (n - 1) (by omega) (by omega) (by omega) (hAll _ (Or.inr rfl)) (fun H_25 hv_23 hs_24 => ?_)
    have ho_26 := ho_19.same hs_24 hlb
    refine V.frame (fun hfz_fr_27 hfk_fr_27 => ?_)
    rw [hH0] at hfz_fr_27 hfk_fr_27
    rw [hA0] at hfk_fr_27
    refine v_vret E hE dJ2_fastRemove_43 ?_
    have hn1 : ((n : Int) - 1) = ((n - 1 : Nat) : Int) := by omega
    refine ⟨rfl, md1, _, ⟨?_, hv_23, by omega, hc0, hcm, hr1, (fun k hk => by
        rw [rm_hi hi hk]
        by_cases c : k < i
        · rw [if_pos c]; obtain ⟨y2, h1, h2⟩ := hel k (by omega); exact ⟨y2, h1, h2.kept (hfk_fr_27 _ h2.lt (fun h9 => h9.elim (h2.neL hC.D ho) (fun h8 => h2.neA hC.D hb (by decide) h8)))⟩
        · rw [if_neg c]; obtain ⟨y2, h1, h2⟩ := hel (k + 1) (by omega); exact ⟨y2, h1, h2.kept (hfk_fr_27 _ h2.lt (fun h9 => h9.elim (h2.neL hC.D ho) (fun h8 => h2.neA hC.D hb (by decide) h8)))⟩), hl9, hb9, hlb⟩, fun k hk => rm_hi hi hk⟩
    rw [← hn1]; exact ho_26

set_option maxHeartbeats 400000 in
set_option maxRecDepth 100000 in
/-- remove -/
theorem j_rm (κ : zK) (H0 : Heap) {l b n cap : Nat} {md : Int} {g : Nat → Option Nat} (hC : CO κ H0) {i y : Nat} (hi : i < n) (hy : g i = some y) (hA : AL κ H0 l b md n cap g)  : Mt κ yJ2_remove cJ2_remove 4 (some (.object "java/lang/Object")) 2 50 0 0 H0 [.ref l, vi (i : Int)] (fun q => q = l ∨ q = b) (fun v9 H1 => v9 = some (.ref y) ∧ ∃ (md2 : Int) (g2 : Nat → Option Nat), AL κ H1 l b md2 (n - 1) cap g2 ∧ ∀ k, k < n - 1 → g2 k = if k < i then g k else g (k + 1)) := by
  refine Mt.of (by decide) (Nat.le_of_ble_eq_true rfl) ?_
  intro z E hE hH0 hA0 hL hini
  have hAll : ∀ q, (fun q => q = l ∨ q = b) q → zA z.A z.H0 q := fun q h => Or.inl (by rw [hA0]; exact h)
  have hNew : ∀ q, H0.size ≤ q → zA z.A z.H0 q := fun q h => Or.inr (by rw [hH0]; exact h)
  have E : zOK z cJ2_remove RJ2 κ 2 50 (some (.object "java/lang/Object")) := E
  refine V.eqL (lv' := [(0, .ref l), (1, vi (i : Int))]) rfl ?_
  obtain ⟨ho, hb, hnc, hc0, hcm, hmd, hel, hl9, hb9, hlb⟩ := hA
  refine v_iload_n E 1 rfl dJ2_remove_0 ?_
  refine v_aload_n E 0 rfl dJ2_remove_1 ?_
  refine v_getf E in_J2 ho (ci := 5) rfl 2 (by decide) q130 rfl (v := vi (n : Int)) rfl dJ2_remove_2 ?_
  refine v_callS E (As := [vi (i : Int), vi (n : Int)]) (j_ck3 κ H0 ⟨by omega, by omega⟩ ⟨by omega, by omega⟩) (lw_S q159 q160 q76 q161) 2 (by decide +kernel) rfl (by decide) (by decide) (cb' := 0) (sb' := 0) (by decide) (by decide) rfl (rest := []) (Nat.le_of_ble_eq_true rfl) (fun q h => h.elim) dJ2_remove_5 (fun v_1 H_2 hpost_3 hz_4 hk_5 => ?_)
  clear hz_4
  obtain rfl := hpost_3
  have ho_6 := ho.kept (hk_5 _ ho.lt (fun h => h))
  have hb_7 := hb.kept (hk_5 _ hb.lt (fun h => h))
  refine V.eq (st' := [vi (i : Int)]) rfl ?_
  refine v_pop E rfl dJ2_remove_8 ?_
  refine v_aload_n E 0 rfl dJ2_remove_9 ?_
  refine v_getf E in_J2 ho_6 (ci := 5) rfl 1 (by decide) q127 rfl (v := .ref b) rfl dJ2_remove_10 ?_
  refine v_astore_n E dJ2_remove_13 (zlt hL rfl) (lv' := [(2, .ref b), (0, .ref l), (1, vi (i : Int))]) rfl ?_
  refine v_aload_n E 0 rfl dJ2_remove_14 ?_
  refine v_iload_n E 2 rfl dJ2_remove_15 ?_
  refine v_aaldS E dJ2_remove_16 hb_7 (t := 2) (ty := (.object "java/lang/Object")) rfl rfl i rfl (by omega) (by omega) (b := y) hy ?_
  refine v_astore_n E dJ2_remove_17 (zlt hL rfl) (lv' := [(3, .ref y), (2, .ref b), (0, .ref l), (1, vi (i : Int))]) rfl ?_
  refine v_aload_n E 2 rfl dJ2_remove_18 ?_
  refine v_aload_n E 1 rfl dJ2_remove_19 ?_
  refine v_iload_n E 3 rfl dJ2_remove_20 ?_
  refine V.frame (fun hfz_fr_8 hfk_fr_8 => ?_)
  rw [hH0] at hfz_fr_8 hfk_fr_8
  rw [hA0] at hfk_fr_8
  refine v_callV E (As := [.ref b, vi (i : Int)]) (b := l) (ci := 5) (C := RJ2) (T := TJ2) (N := 3) ho_6 rfl (j_fast κ H_2 (hC.call (fun q h => by rcases h with h | h; exact h ▸ hl9; exact h ▸ hb9 (by omega)) hfz_fr_8 hfk_fr_8) hi ⟨ho_6, hb_7, hnc, hc0, hcm, hmd, fun k hk => (hel k hk).elim (fun y h => ⟨y, h.1, h.2.kept (hfk_fr_8 _ h.2.lt (fun h9 => h9.elim (h.2.neL hC.D ho) (fun h8 => h.2.neA hC.D hb (by decide) h8)))⟩), hl9, hb9, hlb⟩) (lw_V q178 q180 qs0 q73 q181) 2 (by decide +kernel) rfl (by decide) (by decide) (cb' := 0) (sb' := 0) (by decide) (by decide) rfl (rest := []) (Nat.le_of_ble_eq_true rfl) hAll dJ2_remove_21 (fun v_9 H_10 hpost_11 hz_12 hk_13 => ?_)
  clear hz_12
  obtain ⟨rfl, md2, g2, hA2, hg2⟩ := hpost_11
  refine V.eq (st' := []) rfl ?_
  refine v_aload_n E 0 rfl dJ2_remove_24 ?_
  refine v_aret E hE rfl (Or.inl ⟨_, rfl⟩) dJ2_remove_25 (Or.inr ⟨_, rfl⟩) ?_
  exact ⟨rfl, md2, g2, hA2, hg2⟩

set_option maxHeartbeats 400000 in
set_option maxRecDepth 100000 in
theorem j_itinit7 (κ : zK) (H0 : Heap) {l b n cap : Nat} {md : Int} {g : Nat → Option Nat} (hC : CO κ H0) {it : Nat} (hA : AL κ H0 l b md n cap g) (hi0 : hp κ H0 it (.inr (7, [vi 0, vi 0, vi 0, .null])))  : Mt κ yJ17_init cJ17_init 2 (none) 1 12 0 0 H0 [.ref it, .ref l] (fun q => q = it) (fun v H1 => v = none ∧ hp κ H1 it (.inr (7, [vi 0, vi (-1), vi md, .ref l]))) := by
  refine Mt.of (by decide) (Nat.le_of_ble_eq_true rfl) ?_
  intro z E hE hH0 hA0 hL hini
  have hini := hini rfl
  have hAll : ∀ q, (fun q => q = it) q → zA z.A z.H0 q := fun q h => Or.inl (by rw [hA0]; exact h)
  have hNew : ∀ q, H0.size ≤ q → zA z.A z.H0 q := fun q h => Or.inr (by rw [hH0]; exact h)
  have E : zOK z cJ17_init RJ17 κ 1 12 (none) := E
  refine V.eqL (lv' := [(0, .ref it), (1, .ref l)]) rfl ?_
  obtain ⟨ho, hb, hnc, hc0, hcm, hmd, hel, hl9, hb9, hlb⟩ := hA
  have hne_l_it : l ≠ it := hp.kk hC.D ho hi0 (by decide) (by decide) (by decide)
  have hne_b_it : b ≠ it := Ne.symm (hp.ka hC.D hi0 hb (by decide) (by decide))
  refine v_aload_n E 0 rfl dJ17_init_0 ?_
  refine v_aload_n E 1 rfl dJ17_init_1 ?_
  refine v_putfF E hini in_J17 tyJ17 tyJ17_ok nmJ17 hi0 (ci := 7) rfl 3 (Nat.le_of_ble_eq_true rfl) q310 rfl rfl rfl rfl rfl (Nat.le_of_ble_eq_true rfl) (hAll _ rfl) dJ17_init_2 (fun H_3 hi0_1 hs_2 => ?_)
  have ho_4 := ho.same hs_2 hne_l_it
  have hb_5 := hb.same hs_2 hne_b_it
  have hi0_1 : hp κ H_3 it (.inr (7, [vi 0, vi 0, vi 0, .ref l])) := hi0_1
  refine v_aload_n E 0 rfl dJ17_init_5 ?_
  refine v_objInit E q300 q111 q112 dJ17_init_6 (by decide) (Nat.le_of_ble_eq_true rfl) ?_
  refine v_aload_n E 0 rfl dJ17_init_9 ?_
  refine v_iconst E dJ17_init_10 ?_
  refine v_putf E in_J17 tyJ17 tyJ17_ok nmJ17 hi0_1 (ci := 7) rfl 1 (Nat.le_of_ble_eq_true rfl) q304 rfl rfl rfl rfl (Nat.le_of_ble_eq_true rfl) (hAll _ rfl) dJ17_init_11 (fun H_8 hi0_6 hs_7 => ?_)
  have ho_9 := ho_4.same hs_7 hne_l_it
  have hb_10 := hb_5.same hs_7 hne_b_it
  have hi0_6 : hp κ H_8 it (.inr (7, [vi 0, vi (-1), vi 0, .ref l])) := hi0_6
  refine v_aload_n E 0 rfl dJ17_init_14 ?_
  refine v_aload_n E 0 rfl dJ17_init_15 ?_
  refine v_getf E in_J17 hi0_6 (ci := 7) rfl 3 (by decide) q310 rfl (v := .ref l) rfl dJ17_init_16 ?_
  refine v_getfS E in_J2 ho_9 (ci := 5) rfl 0 (by decide) q132 q133 (v := vi md) rfl dJ17_init_19 ?_
  refine v_putf E in_J17 tyJ17 tyJ17_ok nmJ17 hi0_6 (ci := 7) rfl 2 (Nat.le_of_ble_eq_true rfl) q307 rfl rfl rfl rfl (Nat.le_of_ble_eq_true rfl) (hAll _ rfl) dJ17_init_22 (fun H_13 hi0_11 hs_12 => ?_)
  have ho_14 := ho_9.same hs_12 hne_l_it
  have hb_15 := hb_10.same hs_12 hne_b_it
  have hi0_11 : hp κ H_13 it (.inr (7, [vi 0, vi (-1), vi md, .ref l])) := hi0_11
  refine v_vret E hE dJ17_init_25 ?_
  exact ⟨rfl, hi0_11⟩

set_option maxHeartbeats 400000 in
set_option maxRecDepth 100000 in
theorem j_ckm7 (κ : zK) (H0 : Heap) {l b n cap : Nat} {md : Int} {g : Nat → Option Nat} (hC : CO κ H0) {it : Nat} {c r : Int} (hA : AL κ H0 l b md n cap g) (hI : IT κ H0 it l c r md)  : Mt κ yJ17_checkForComodification cJ17_checkForComodification 1 (none) 0 0 0 0 H0 [.ref it] (fun _ => False) (fun v H1 => v = none) := by
  refine Mt.of (by decide) (Nat.le_of_ble_eq_true rfl) ?_
  intro z E hE hH0 hA0 hL hini
  have hAll : ∀ q, (fun _ => False) q → zA z.A z.H0 q := fun q h => Or.inl (by rw [hA0]; exact h)
  have hNew : ∀ q, H0.size ≤ q → zA z.A z.H0 q := fun q h => Or.inr (by rw [hH0]; exact h)
  have E : zOK z cJ17_checkForComodification RJ17 κ 0 0 (none) := E
  refine V.eqL (lv' := [(0, .ref it)]) rfl ?_
  obtain ⟨ho, hb, hnc, hc0, hcm, hmd, hel, hl9, hb9, hlb⟩ := hA
  obtain ⟨hi0, hi9⟩ := hI
  have hne_l_it : l ≠ it := hp.kk hC.D ho hi0 (by decide) (by decide) (by decide)
  have hne_b_it : b ≠ it := Ne.symm (hp.ka hC.D hi0 hb (by decide) (by decide))
  refine v_aload_n E 0 rfl dJ17_checkForComodification_0 ?_
  refine v_getf E in_J17 hi0 (ci := 7) rfl 3 (by decide) q310 rfl (v := .ref l) rfl dJ17_checkForComodification_1 ?_
  refine v_getfS E in_J2 ho (ci := 5) rfl 0 (by decide) q132 q133 (v := vi md) rfl dJ17_checkForComodification_4 ?_
  refine v_aload_n E 0 rfl dJ17_checkForComodification_7 ?_
  refine v_getf E in_J17 hi0 (ci := 7) rfl 2 (by decide) q307 rfl (v := vi md) rfl dJ17_checkForComodification_8 ?_
  refine v_icmp_eq E (tgt := 22) dJ17_checkForComodification_11 (by decide) ⟨by omega, by omega⟩ ⟨by omega, by omega⟩ (fun c_11 => ?_) (fun c_11 => absurd c_11 (by omega))
  refine v_vret E hE dJ17_checkForComodification_22 ?_
  rfl

set_option maxHeartbeats 400000 in
set_option maxRecDepth 100000 in
/-- hasNext -/
theorem j_hasNext (κ : zK) (H0 : Heap) {l b n cap : Nat} {md : Int} {g : Nat → Option Nat} (hC : CO κ H0) {it : Nat} {c r : Int} (hcr : rI c) (hA : AL κ H0 l b md n cap g) (hI : IT κ H0 it l c r md)  : Mt κ yJ17_hasNext cJ17_hasNext 1 (some .boolean) 0 0 0 0 H0 [.ref it] (fun _ => False) (fun v H1 => v = some (vi (if c = (n : Int) then 0 else 1))) := by
  refine Mt.of (by decide) (Nat.le_of_ble_eq_true rfl) ?_
  intro z E hE hH0 hA0 hL hini
  have hAll : ∀ q, (fun _ => False) q → zA z.A z.H0 q := fun q h => Or.inl (by rw [hA0]; exact h)
  have hNew : ∀ q, H0.size ≤ q → zA z.A z.H0 q := fun q h => Or.inr (by rw [hH0]; exact h)
  have E : zOK z cJ17_hasNext RJ17 κ 0 0 (some .boolean) := E
  refine V.eqL (lv' := [(0, .ref it)]) rfl ?_
  obtain ⟨ho, hb, hnc, hc0, hcm, hmd, hel, hl9, hb9, hlb⟩ := hA
  obtain ⟨hi0, hi9⟩ := hI
  have hne_l_it : l ≠ it := hp.kk hC.D ho hi0 (by decide) (by decide) (by decide)
  have hne_b_it : b ≠ it := Ne.symm (hp.ka hC.D hi0 hb (by decide) (by decide))
  refine v_aload_n E 0 rfl dJ17_hasNext_0 ?_
  refine v_getf E in_J17 hi0 (ci := 7) rfl 0 (by decide) q303 rfl (v := vi c) rfl dJ17_hasNext_1 ?_
  refine v_aload_n E 0 rfl dJ17_hasNext_4 ?_
  refine v_getf E in_J17 hi0 (ci := 7) rfl 3 (by decide) q310 rfl (v := .ref l) rfl dJ17_hasNext_5 ?_
  refine v_getfN (host := "java/util/ArrayList") E in_J2 ho (ci := 5) rfl 2 (by decide) (by decide +kernel) rfl (v := vi (n : Int)) rfl dJ17_hasNext_8 ?_
  refine v_icmp_eq E (tgt := 18) dJ17_hasNext_11 (by decide) ⟨by omega, by omega⟩ ⟨by omega, by omega⟩ (fun c_11 => ?_) (fun c_11 => ?_)
  · refine v_iconst E dJ17_hasNext_18 ?_
    refine v_zret E hE dJ17_hasNext_19 rfl ?_
    rw [if_pos (by omega)]
  · refine v_iconst E dJ17_hasNext_14 ?_
    refine v_goto E (tgt := 19) dJ17_hasNext_15 (by decide) ?_
    refine v_zret E hE dJ17_hasNext_19 rfl ?_
    rw [if_neg (by omega)]

set_option maxHeartbeats 400000 in
set_option maxRecDepth 100000 in
/-- next -/
theorem j_next7 (κ : zK) (H0 : Heap) {l b n cap : Nat} {md : Int} {g : Nat → Option Nat} (hC : CO κ H0) {it : Nat} {i y : Nat} {r : Int} (hin : i < n) (hy : g i = some y) (hA : AL κ H0 l b md n cap g) (hI : IT κ H0 it l (i : Int) r md)  : Mt κ yJ17_next cJ17_next 3 (some (.object "java/lang/Object")) 1 20 0 0 H0 [.ref it] (fun q => q = it) (fun v H1 => v = some (.ref y) ∧ IT κ H1 it l ((i : Int) + 1) (i : Int) md) := by
  refine Mt.of (by decide) (Nat.le_of_ble_eq_true rfl) ?_
  intro z E hE hH0 hA0 hL hini
  have hAll : ∀ q, (fun q => q = it) q → zA z.A z.H0 q := fun q h => Or.inl (by rw [hA0]; exact h)
  have hNew : ∀ q, H0.size ≤ q → zA z.A z.H0 q := fun q h => Or.inr (by rw [hH0]; exact h)
  have E : zOK z cJ17_next RJ17 κ 1 20 (some (.object "java/lang/Object")) := E
  refine V.eqL (lv' := [(0, .ref it)]) rfl ?_
  obtain ⟨ho, hb, hnc, hc0, hcm, hmd, hel, hl9, hb9, hlb⟩ := hA
  obtain ⟨hi0, hi9⟩ := hI
  have hne_l_it : l ≠ it := hp.kk hC.D ho hi0 (by decide) (by decide) (by decide)
  have hne_b_it : b ≠ it := Ne.symm (hp.ka hC.D hi0 hb (by decide) (by decide))
  refine v_aload_n E 0 rfl dJ17_next_0 ?_
  refine v_callV E (As := []) (b := it) (ci := 7) (C := RJ17) (T := TJ17) (N := 4) hi0 rfl (j_ckm7 κ H0 (c := (i : Int)) (r := r) hC ⟨ho, hb, hnc, hc0, hcm, hmd, hel, hl9, hb9, hlb⟩ ⟨hi0, hi9⟩) (lw_V q342 q343 q344 q92 q347) 0 (by decide +kernel) rfl (by decide) (by decide) (cb' := 0) (sb' := 0) (by decide) (by decide) rfl (rest := []) (Nat.le_of_ble_eq_true rfl) (fun q h => h.elim) dJ17_next_1 (fun v_1 H_2 hpost_3 hz_4 hk_5 => ?_)
  clear hz_4
  obtain rfl := hpost_3
  have ho_6 := ho.kept (hk_5 _ ho.lt (fun h => h))
  have hb_7 := hb.kept (hk_5 _ hb.lt (fun h => h))
  have hi0_8 := hi0.kept (hk_5 _ hi0.lt (fun h => h))
  refine V.eq (st' := []) rfl ?_
  refine v_aload_n E 0 rfl dJ17_next_4 ?_
  refine v_getf E in_J17 hi0_8 (ci := 7) rfl 0 (by decide) q303 rfl (v := vi (i : Int)) rfl dJ17_next_5 ?_
  refine v_istore_n E dJ17_next_8 (zlt hL rfl) (lv' := [(1, vi (i : Int)), (0, .ref it)]) rfl ?_
  refine v_iload_n E 0 rfl dJ17_next_9 ?_
  refine v_aload_n E 1 rfl dJ17_next_10 ?_
  refine v_getf E in_J17 hi0_8 (ci := 7) rfl 3 (by decide) q310 rfl (v := .ref l) rfl dJ17_next_11 ?_
  refine v_getfN (host := "java/util/ArrayList") E in_J2 ho_6 (ci := 5) rfl 2 (by decide) (by decide +kernel) rfl (v := vi (n : Int)) rfl dJ17_next_14 ?_
  refine v_icmp_lt E (tgt := 28) dJ17_next_17 (by decide) ⟨by omega, by omega⟩ ⟨by omega, by omega⟩ (fun c_17 => ?_) (fun c_17 => absurd c_17 (by omega))
  refine v_aload_n E 1 rfl dJ17_next_28 ?_
  refine v_getf E in_J17 hi0_8 (ci := 7) rfl 3 (by decide) q310 rfl (v := .ref l) rfl dJ17_next_29 ?_
  refine v_getf E in_J2 ho_6 (ci := 5) rfl 1 (by decide) q128 rfl (v := .ref b) rfl dJ17_next_32 ?_
  refine v_astore_n E dJ17_next_35 (zlt hL rfl) (lv' := [(2, .ref b), (1, vi (i : Int)), (0, .ref it)]) rfl ?_
  refine v_iload_n E 1 rfl dJ17_next_36 ?_
  refine v_aload_n E 0 rfl dJ17_next_37 ?_
  refine v_alen E dJ17_next_38 (t := 2) (ty := (.object "java/lang/Object")) hb_7 rfl ?_
  refine v_icmp_lt E (tgt := 50) dJ17_next_39 (by decide) ⟨by omega, by omega⟩ ⟨by omega, by omega⟩ (fun c_39 => ?_) (fun c_39 => absurd c_39 (by omega))
  refine v_aload_n E 2 rfl dJ17_next_50 ?_
  refine v_iload_n E 1 rfl dJ17_next_51 ?_
  refine v_iconst E dJ17_next_52 ?_
  refine v_iadd E dJ17_next_53 ?_
  refine v_putf E in_J17 tyJ17 tyJ17_ok nmJ17 hi0_8 (ci := 7) rfl 0 (Nat.le_of_ble_eq_true rfl) q303 rfl rfl rfl rfl (Nat.le_of_ble_eq_true rfl) (hAll _ rfl) dJ17_next_54 (fun H_11 hi0_9 hs_10 => ?_)
  have ho_12 := ho_6.same hs_10 hne_l_it
  have hb_13 := hb_7.same hs_10 hne_b_it
  have hi0_9 : hp κ H_11 it (.inr (7, [vi ((i : Int) + 1), vi r, vi md, .ref l])) := hi0_9
  refine v_aload_n E 0 rfl dJ17_next_57 ?_
  refine v_aload_n E 2 rfl dJ17_next_58 ?_
  refine v_iload_n E 1 rfl dJ17_next_59 ?_
  refine v_dup_x1 E rfl rfl dJ17_next_60 ?_
  refine v_putf E in_J17 tyJ17 tyJ17_ok nmJ17 hi0_9 (ci := 7) rfl 1 (Nat.le_of_ble_eq_true rfl) q304 rfl rfl rfl rfl (Nat.le_of_ble_eq_true rfl) (hAll _ rfl) dJ17_next_61 (fun H_16 hi0_14 hs_15 => ?_)
  have ho_17 := ho_12.same hs_15 hne_l_it
  have hb_18 := hb_13.same hs_15 hne_b_it
  have hi0_14 : hp κ H_16 it (.inr (7, [vi ((i : Int) + 1), vi (i : Int), vi md, .ref l])) := hi0_14
  refine v_aaldS E dJ17_next_64 hb_18 (t := 2) (ty := (.object "java/lang/Object")) rfl rfl i rfl (by omega) (by omega) (b := y) hy ?_
  refine v_aret E hE rfl (Or.inl ⟨_, rfl⟩) dJ17_next_65 (Or.inr ⟨_, rfl⟩) ?_
  exact ⟨rfl, hi0_14, hi9⟩

set_option maxHeartbeats 400000 in
set_option maxRecDepth 100000 in
theorem j_itinit8 (κ : zK) (H0 : Heap) {l b n cap : Nat} {md : Int} {g : Nat → Option Nat} (hC : CO κ H0) {it : Nat} {x8 : Value} (hA : AL κ H0 l b md n cap g) (hi0 : hp κ H0 it (.inr (8, [vi 0, vi 0, vi 0, x8, .ref l])))  : Mt κ yJ17_init cJ17_init 2 (none) 1 12 0 0 H0 [.ref it, .ref l] (fun q => q = it) (fun v H1 => v = none ∧ hp κ H1 it (.inr (8, [vi 0, vi (-1), vi md, .ref l, .ref l]))) := by
  refine Mt.of (by decide) (Nat.le_of_ble_eq_true rfl) ?_
  intro z E hE hH0 hA0 hL hini
  have hini := hini rfl
  have hAll : ∀ q, (fun q => q = it) q → zA z.A z.H0 q := fun q h => Or.inl (by rw [hA0]; exact h)
  have hNew : ∀ q, H0.size ≤ q → zA z.A z.H0 q := fun q h => Or.inr (by rw [hH0]; exact h)
  have E : zOK z cJ17_init RJ17 κ 1 12 (none) := E
  refine V.eqL (lv' := [(0, .ref it), (1, .ref l)]) rfl ?_
  obtain ⟨ho, hb, hnc, hc0, hcm, hmd, hel, hl9, hb9, hlb⟩ := hA
  have hne_l_it : l ≠ it := hp.kk hC.D ho hi0 (by decide) (by decide) (by decide)
  have hne_b_it : b ≠ it := Ne.symm (hp.ka hC.D hi0 hb (by decide) (by decide))
  refine v_aload_n E 0 rfl dJ17_init_0 ?_
  refine v_aload_n E 1 rfl dJ17_init_1 ?_
  refine v_putfFG E hini in_J27 tyJ27 tyJ27_ok hi0 (ci := 8) rfl 3 (Nat.le_of_ble_eq_true rfl) (v := .ref l) (fun j hj hjk => (nm8b j hj hjk).imp id (fun e => by rw [e]; rfl)) q310 rfl rfl rfl rfl rfl (Nat.le_of_ble_eq_true rfl) (hAll _ rfl) dJ17_init_2 (fun H_3 hi0_1 hs_2 => ?_)
  have ho_4 := ho.same hs_2 hne_l_it
  have hb_5 := hb.same hs_2 hne_b_it
  have hi0_1 : hp κ H_3 it (.inr (8, [vi 0, vi 0, vi 0, .ref l, .ref l])) := hi0_1
  refine v_aload_n E 0 rfl dJ17_init_5 ?_
  refine v_objInit E q300 q111 q112 dJ17_init_6 (by decide) (Nat.le_of_ble_eq_true rfl) ?_
  refine v_aload_n E 0 rfl dJ17_init_9 ?_
  refine v_iconst E dJ17_init_10 ?_
  refine v_putfG E in_J27 tyJ27 tyJ27_ok hi0_1 (ci := 8) rfl 1 (Nat.le_of_ble_eq_true rfl) (v := vi (-1)) (fun j hj hjk => Or.inl (nm8a 1 (by decide) j hj hjk)) q304 (Or.inl rfl) rfl rfl rfl (Nat.le_of_ble_eq_true rfl) (hAll _ rfl) dJ17_init_11 (fun H_8 hi0_6 hs_7 => ?_)
  have ho_9 := ho_4.same hs_7 hne_l_it
  have hb_10 := hb_5.same hs_7 hne_b_it
  have hi0_6 : hp κ H_8 it (.inr (8, [vi 0, vi (-1), vi 0, .ref l, .ref l])) := hi0_6
  refine v_aload_n E 0 rfl dJ17_init_14 ?_
  refine v_aload_n E 0 rfl dJ17_init_15 ?_
  refine v_getf E in_J27 hi0_6 (ci := 8) rfl 3 (by decide) q310 rfl (v := .ref l) rfl dJ17_init_16 ?_
  refine v_getfS E in_J2 ho_9 (ci := 5) rfl 0 (by decide) q132 q133 (v := vi md) rfl dJ17_init_19 ?_
  refine v_putfG E in_J27 tyJ27 tyJ27_ok hi0_6 (ci := 8) rfl 2 (Nat.le_of_ble_eq_true rfl) (v := vi md) (fun j hj hjk => Or.inl (nm8a 2 (by decide) j hj hjk)) q307 (Or.inl rfl) rfl rfl rfl (Nat.le_of_ble_eq_true rfl) (hAll _ rfl) dJ17_init_22 (fun H_13 hi0_11 hs_12 => ?_)
  have ho_14 := ho_9.same hs_12 hne_l_it
  have hb_15 := hb_10.same hs_12 hne_b_it
  have hi0_11 : hp κ H_13 it (.inr (8, [vi 0, vi (-1), vi md, .ref l, .ref l])) := hi0_11
  refine v_vret E hE dJ17_init_25 ?_
  exact ⟨rfl, hi0_11⟩

set_option maxHeartbeats 400000 in
set_option maxRecDepth 100000 in
theorem j_ckm8 (κ : zK) (H0 : Heap) {l b n cap : Nat} {md : Int} {g : Nat → Option Nat} (hC : CO κ H0) {it : Nat} {c r : Int} (hA : AL κ H0 l b md n cap g) (hI : LI κ H0 it l c r md)  : Mt κ yJ17_checkForComodification cJ17_checkForComodification 1 (none) 0 0 0 0 H0 [.ref it] (fun _ => False) (fun v H1 => v = none) := by
  refine Mt.of (by decide) (Nat.le_of_ble_eq_true rfl) ?_
  intro z E hE hH0 hA0 hL hini
  have hAll : ∀ q, (fun _ => False) q → zA z.A z.H0 q := fun q h => Or.inl (by rw [hA0]; exact h)
  have hNew : ∀ q, H0.size ≤ q → zA z.A z.H0 q := fun q h => Or.inr (by rw [hH0]; exact h)
  have E : zOK z cJ17_checkForComodification RJ17 κ 0 0 (none) := E
  refine V.eqL (lv' := [(0, .ref it)]) rfl ?_
  obtain ⟨ho, hb, hnc, hc0, hcm, hmd, hel, hl9, hb9, hlb⟩ := hA
  obtain ⟨hi0, hi9⟩ := hI
  have hne_l_it : l ≠ it := hp.kk hC.D ho hi0 (by decide) (by decide) (by decide)
  have hne_b_it : b ≠ it := Ne.symm (hp.ka hC.D hi0 hb (by decide) (by decide))
  refine v_aload_n E 0 rfl dJ17_checkForComodification_0 ?_
  refine v_getf E in_J27 hi0 (ci := 8) rfl 3 (by decide) q310 rfl (v := .ref l) rfl dJ17_checkForComodification_1 ?_
  refine v_getfS E in_J2 ho (ci := 5) rfl 0 (by decide) q132 q133 (v := vi md) rfl dJ17_checkForComodification_4 ?_
  refine v_aload_n E 0 rfl dJ17_checkForComodification_7 ?_
  refine v_getf E in_J27 hi0 (ci := 8) rfl 2 (by decide) q307 rfl (v := vi md) rfl dJ17_checkForComodification_8 ?_
  refine v_icmp_eq E (tgt := 22) dJ17_checkForComodification_11 (by decide) ⟨by omega, by omega⟩ ⟨by omega, by omega⟩ (fun c_11 => ?_) (fun c_11 => absurd c_11 (by omega))
  refine v_vret E hE dJ17_checkForComodification_22 ?_
  rfl

set_option maxHeartbeats 400000 in
set_option maxRecDepth 100000 in
/-- next -/
theorem j_next8 (κ : zK) (H0 : Heap) {l b n cap : Nat} {md : Int} {g : Nat → Option Nat} (hC : CO κ H0) {it : Nat} {i y : Nat} {r : Int} (hin : i < n) (hy : g i = some y) (hA : AL κ H0 l b md n cap g) (hI : LI κ H0 it l (i : Int) r md)  : Mt κ yJ17_next cJ17_next 3 (some (.object "java/lang/Object")) 1 20 0 0 H0 [.ref it] (fun q => q = it) (fun v H1 => v = some (.ref y) ∧ LI κ H1 it l ((i : Int) + 1) (i : Int) md) := by
  refine Mt.of (by decide) (Nat.le_of_ble_eq_true rfl) ?_
  intro z E hE hH0 hA0 hL hini
  have hAll : ∀ q, (fun q => q = it) q → zA z.A z.H0 q := fun q h => Or.inl (by rw [hA0]; exact h)
  have hNew : ∀ q, H0.size ≤ q → zA z.A z.H0 q := fun q h => Or.inr (by rw [hH0]; exact h)
  have E : zOK z cJ17_next RJ17 κ 1 20 (some (.object "java/lang/Object")) := E
  refine V.eqL (lv' := [(0, .ref it)]) rfl ?_
  obtain ⟨ho, hb, hnc, hc0, hcm, hmd, hel, hl9, hb9, hlb⟩ := hA
  obtain ⟨hi0, hi9⟩ := hI
  have hne_l_it : l ≠ it := hp.kk hC.D ho hi0 (by decide) (by decide) (by decide)
  have hne_b_it : b ≠ it := Ne.symm (hp.ka hC.D hi0 hb (by decide) (by decide))
  refine v_aload_n E 0 rfl dJ17_next_0 ?_
  refine v_callU E (As := []) (b := it) (ci := 8) (C := RJ27) (T := TJ27) (N := 5) hi0 rfl (j_ckm8 κ H0 (c := (i : Int)) (r := r) hC ⟨ho, hb, hnc, hc0, hcm, hmd, hel, hl9, hb9, hlb⟩ ⟨hi0, hi9⟩) (lw_U q342 q345 q346 q343 q92 q347) rfl 0 (by decide +kernel) rfl (by decide) (by decide) (cb' := 0) (sb' := 0) (by decide) (by decide) rfl (rest := []) (Nat.le_of_ble_eq_true rfl) (fun q h => h.elim) dJ17_next_1 (fun v_1 H_2 hpost_3 hz_4 hk_5 => ?_)
  clear hz_4
  obtain rfl := hpost_3
  have ho_6 := ho.kept (hk_5 _ ho.lt (fun h => h))
  have hb_7 := hb.kept (hk_5 _ hb.lt (fun h => h))
  have hi0_8 := hi0.kept (hk_5 _ hi0.lt (fun h => h))
  refine V.eq (st' := []) rfl ?_
  refine v_aload_n E 0 rfl dJ17_next_4 ?_
  refine v_getf E in_J27 hi0_8 (ci := 8) rfl 0 (by decide) q303 rfl (v := vi (i : Int)) rfl dJ17_next_5 ?_
  refine v_istore_n E dJ17_next_8 (zlt hL rfl) (lv' := [(1, vi (i : Int)), (0, .ref it)]) rfl ?_
  refine v_iload_n E 0 rfl dJ17_next_9 ?_
  refine v_aload_n E 1 rfl dJ17_next_10 ?_
  refine v_getf E in_J27 hi0_8 (ci := 8) rfl 3 (by decide) q310 rfl (v := .ref l) rfl dJ17_next_11 ?_
  refine v_getfN (host := "java/util/ArrayList") E in_J2 ho_6 (ci := 5) rfl 2 (by decide) (by decide +kernel) rfl (v := vi (n : Int)) rfl dJ17_next_14 ?_
  refine v_icmp_lt E (tgt := 28) dJ17_next_17 (by decide) ⟨by omega, by omega⟩ ⟨by omega, by omega⟩ (fun c_17 => ?_) (fun c_17 => absurd c_17 (by omega))
  refine v_aload_n E 1 rfl dJ17_next_28 ?_
  refine v_getf E in_J27 hi0_8 (ci := 8) rfl 3 (by decide) q310 rfl (v := .ref l) rfl dJ17_next_29 ?_
  refine v_getf E in_J2 ho_6 (ci := 5) rfl 1 (by decide) q128 rfl (v := .ref b) rfl dJ17_next_32 ?_
  refine v_astore_n E dJ17_next_35 (zlt hL rfl) (lv' := [(2, .ref b), (1, vi (i : Int)), (0, .ref it)]) rfl ?_
  refine v_iload_n E 1 rfl dJ17_next_36 ?_
  refine v_aload_n E 0 rfl dJ17_next_37 ?_
  refine v_alen E dJ17_next_38 (t := 2) (ty := (.object "java/lang/Object")) hb_7 rfl ?_
  refine v_icmp_lt E (tgt := 50) dJ17_next_39 (by decide) ⟨by omega, by omega⟩ ⟨by omega, by omega⟩ (fun c_39 => ?_) (fun c_39 => absurd c_39 (by omega))
  refine v_aload_n E 2 rfl dJ17_next_50 ?_
  refine v_iload_n E 1 rfl dJ17_next_51 ?_
  refine v_iconst E dJ17_next_52 ?_
  refine v_iadd E dJ17_next_53 ?_
  refine v_putfG E in_J27 tyJ27 tyJ27_ok hi0_8 (ci := 8) rfl 0 (Nat.le_of_ble_eq_true rfl) (v := vi ((i : Int) + 1)) (fun j hj hjk => Or.inl (nm8a 0 (by decide) j hj hjk)) q303 (Or.inl rfl) rfl rfl rfl (Nat.le_of_ble_eq_true rfl) (hAll _ rfl) dJ17_next_54 (fun H_11 hi0_9 hs_10 => ?_)
  have ho_12 := ho_6.same hs_10 hne_l_it
  have hb_13 := hb_7.same hs_10 hne_b_it
  have hi0_9 : hp κ H_11 it (.inr (8, [vi ((i : Int) + 1), vi r, vi md, .ref l, .ref l])) := hi0_9
  refine v_aload_n E 0 rfl dJ17_next_57 ?_
  refine v_aload_n E 2 rfl dJ17_next_58 ?_
  refine v_iload_n E 1 rfl dJ17_next_59 ?_
  refine v_dup_x1 E rfl rfl dJ17_next_60 ?_
  refine v_putfG E in_J27 tyJ27 tyJ27_ok hi0_9 (ci := 8) rfl 1 (Nat.le_of_ble_eq_true rfl) (v := vi (i : Int)) (fun j hj hjk => Or.inl (nm8a 1 (by decide) j hj hjk)) q304 (Or.inl rfl) rfl rfl rfl (Nat.le_of_ble_eq_true rfl) (hAll _ rfl) dJ17_next_61 (fun H_16 hi0_14 hs_15 => ?_)
  have ho_17 := ho_12.same hs_15 hne_l_it
  have hb_18 := hb_13.same hs_15 hne_b_it
  have hi0_14 : hp κ H_16 it (.inr (8, [vi ((i : Int) + 1), vi (i : Int), vi md, .ref l, .ref l])) := hi0_14
  refine v_aaldS E dJ17_next_64 hb_18 (t := 2) (ty := (.object "java/lang/Object")) rfl rfl i rfl (by omega) (by omega) (b := y) hy ?_
  refine v_aret E hE rfl (Or.inl ⟨_, rfl⟩) dJ17_next_65 (Or.inr ⟨_, rfl⟩) ?_
  exact ⟨rfl, hi0_14, hi9⟩
