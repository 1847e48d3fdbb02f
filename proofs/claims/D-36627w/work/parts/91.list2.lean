set_option maxHeartbeats 400000 in
set_option maxRecDepth 100000 in
/-- add into the array -/
theorem j_add2 (κ : zK) (H0 : Heap) {l b n cap : Nat} {md : Int} {g : Nat → Option Nat} (hC : CO κ H0) (hcap : cap ≤ 600) {v : Nat} (hv : oA κ H0 v) (hA : AL κ H0 l b md n cap g)  : Mt κ yJ2_add_2 cJ2_add_2 4 (none) 5 114 1 (alG cap) H0 [.ref l, .ref v, .ref b, vi (n : Int)] (fun q => q = l ∨ (q = b ∧ 0 < cap)) (fun v9 H1 => v9 = none ∧ ∃ (b2 cap2 : Nat) (md2 : Int) (g2 : Nat → Option Nat), AL κ H1 l b2 md2 (n + 1) cap2 g2 ∧ (∀ k, k < n → g2 k = g k) ∧ g2 n = some v ∧ (b2 = b ∧ cap2 = cap ∨ H0.size ≤ b2 ∧ cap2 = alG cap ∧ n = cap)) := by
  refine Mt.of (by decide) (Nat.le_of_ble_eq_true rfl) ?_
  intro z E hE hH0 hA0 hL hini
  have hAll : ∀ q, (fun q => q = l ∨ (q = b ∧ 0 < cap)) q → zA z.A z.H0 q := fun q h => Or.inl (by rw [hA0]; exact h)
  have hNew : ∀ q, H0.size ≤ q → zA z.A z.H0 q := fun q h => Or.inr (by rw [hH0]; exact h)
  have E : zOK z cJ2_add_2 RJ2 κ 5 114 (none) := E
  refine V.eqL (lv' := [(0, .ref l), (1, .ref v), (2, .ref b), (3, vi (n : Int))]) rfl ?_
  obtain ⟨ho, hb, hnc, hc0, hcm, hmd, hel, hl9, hb9, hlb⟩ := hA
  refine v_iload_n E 3 rfl dJ2_add_2_0 ?_
  refine v_aload_n E 2 rfl dJ2_add_2_1 ?_
  refine v_alen E dJ2_add_2_2 (t := 2) (ty := (.object "java/lang/Object")) hb rfl ?_
  refine v_icmp_ne E (tgt := 11) dJ2_add_2_3 (by decide) ⟨by omega, by omega⟩ ⟨by omega, by omega⟩ (fun c_3 => ?_) (fun c_3 => ?_)
  · refine v_aload_n E 2 rfl dJ2_add_2_11 ?_
    refine v_iload_n E 3 rfl dJ2_add_2_12 ?_
    refine v_aload_n E 1 rfl dJ2_add_2_13 ?_
    refine V.frame (fun hfz_fr_4 hfk_fr_4 => ?_)
    rw [hH0] at hfz_fr_4 hfk_fr_4
    rw [hA0] at hfk_fr_4
    refine v_aast E dJ2_add_2_14 hb (hv.kept (hfk_fr_4 _ hv.lt (fun h9 => h9.elim (hv.neL hC.D ho) (fun h8 => hv.neA hC.D hb (by decide) h8.1)))) n rfl (by omega) (by omega) (hAll _ (Or.inr ⟨rfl, by omega⟩)) (fun H_3 hb_1 hs_2 => ?_)
    have ho_5 := ho.same hs_2 hlb
    refine v_aload_n E 0 rfl dJ2_add_2_15 ?_
    refine v_iload_n E 3 rfl dJ2_add_2_16 ?_
    refine v_iconst E dJ2_add_2_17 ?_
    refine v_iadd E dJ2_add_2_18 ?_
    refine v_putf E in_J2 tyJ2 tyJ2_ok nmJ2 ho_5 (ci := 5) rfl 2 (Nat.le_of_ble_eq_true rfl) q130 rfl rfl rfl rfl (Nat.le_of_ble_eq_true rfl) (hAll _ (Or.inl rfl)) dJ2_add_2_19 (fun H_8 ho_6 hs_7 => ?_)
    have hb_9 := hb_1.same hs_7 (Ne.symm hlb)
    have ho_6 : hp κ H_8 l (.inr (5, [vi md, .ref b, vi ((n : Int) + 1)])) := ho_6
    refine V.frame (fun hfz_fr_10 hfk_fr_10 => ?_)
    rw [hH0] at hfz_fr_10 hfk_fr_10
    rw [hA0] at hfk_fr_10
    refine v_vret E hE dJ2_add_2_22 ?_
    exact ⟨rfl, b, cap, md, va_up g n (some v), ⟨ho_6, hb_9, by omega, hc0, hcm, hmd, (fun k hk => by
        by_cases e : k = n
        · exact ⟨v, by rw [e]; exact va_up_self _ _ _, hv.kept (hfk_fr_10 _ hv.lt (fun h9 => h9.elim (hv.neL hC.D ho) (fun h8 => hv.neA hC.D hb (by decide) h8.1)))⟩
        · obtain ⟨y, h1, h2⟩ := hel k (by omega)
          exact ⟨y, (va_up_ne _ _ e).trans (h1), h2.kept (hfk_fr_10 _ h2.lt (fun h9 => h9.elim (h2.neL hC.D ho) (fun h8 => h2.neA hC.D hb (by decide) h8.1)))⟩), hl9, hb9, hlb⟩, fun k hk => va_up_ne _ _ (by omega), va_up_self _ _ _, Or.inl ⟨rfl, rfl⟩⟩
  · refine v_aload_n E 0 rfl dJ2_add_2_6 ?_
    refine V.frame (fun hfz_fr_11 hfk_fr_11 => ?_)
    rw [hH0] at hfz_fr_11 hfk_fr_11
    rw [hA0] at hfk_fr_11
    refine v_callV E (As := []) (b := l) (ci := 5) (C := RJ2) (T := TJ2) (N := 3) ho rfl (j_grow κ H0 hC (by omega) hcap ⟨ho, hb, hnc, hc0, hcm, hmd, hel, hl9, hb9, hlb⟩) (lw_V q216 q218 qs2 q73 q219) 0 (by decide +kernel) rfl (by decide) (by decide) (cb' := 0) (sb' := 0) (by omega) (by omega) rfl (rest := []) (Nat.le_of_ble_eq_true rfl) (fun q h => hAll q (Or.inl h)) dJ2_add_2_7 (fun v_12 H_13 hpost_14 hz_15 hk_16 => ?_)
    clear hz_15
    obtain ⟨b2, g2, rfl, hb2, ho2, hg2, hgk⟩ := hpost_14
    have hlb2 : l ≠ b2 := Nat.ne_of_lt (Nat.lt_of_lt_of_le ho.lt hb2)
    have hnb2 : ∀ q : Nat, q < H0.size → q ≠ b2 := fun q hq => Nat.ne_of_lt (Nat.lt_of_lt_of_le hq hb2)
    have hne_l_b2 := hlb2
    refine V.eq (st' := [.ref b2]) rfl ?_
    refine v_astore_n E dJ2_add_2_10 (zlt hL rfl) (lv' := [(2, .ref b2), (0, .ref l), (1, .ref v), (3, vi (n : Int))]) rfl ?_
    refine v_aload_n E 0 rfl dJ2_add_2_11 ?_
    refine v_iload_n E 3 rfl dJ2_add_2_12 ?_
    refine v_aload_n E 2 rfl dJ2_add_2_13 ?_
    have hgi := alG_in cap hcap
    refine V.frame (fun hfz_fr_20 hfk_fr_20 => ?_)
    rw [hH0] at hfz_fr_20 hfk_fr_20
    rw [hA0] at hfk_fr_20
    refine v_aast E dJ2_add_2_14 hg2 (hv.kept (hfk_fr_20 _ hv.lt (fun h9 => h9.elim (hv.neL hC.D ho) (fun h8 => hv.neA hC.D hb (by decide) h8.1)))) n rfl (by omega) (by omega) (hNew _ hb2) (fun H_19 hg2_17 hs_18 => ?_)
    have ho2_21 := ho2.same hs_18 hne_l_b2
    refine v_aload_n E 1 rfl dJ2_add_2_15 ?_
    refine v_iload_n E 3 rfl dJ2_add_2_16 ?_
    refine v_iconst E dJ2_add_2_17 ?_
    refine v_iadd E dJ2_add_2_18 ?_
    refine v_putf E in_J2 tyJ2 tyJ2_ok nmJ2 ho2_21 (ci := 5) rfl 2 (Nat.le_of_ble_eq_true rfl) q130 rfl rfl rfl rfl (Nat.le_of_ble_eq_true rfl) (hAll _ (Or.inl rfl)) dJ2_add_2_19 (fun H_24 ho2_22 hs_23 => ?_)
    have hg2_25 := hg2_17.same hs_23 (Ne.symm hne_l_b2)
    have ho2_22 : hp κ H_24 l (.inr (5, [vi md, .ref b2, vi ((n : Int) + 1)])) := ho2_22
    refine V.frame (fun hfz_fr_26 hfk_fr_26 => ?_)
    rw [hH0] at hfz_fr_26 hfk_fr_26
    rw [hA0] at hfk_fr_26
    refine v_vret E hE dJ2_add_2_22 ?_
    have hgi := alG_in cap hcap
    exact ⟨rfl, b2, alG cap, md, va_up g2 n (some v), ⟨ho2_22, hg2_25, by omega, fun h => absurd h (by omega), hgi.2, hmd, (fun k hk => by
        by_cases e : k = n
        · exact ⟨v, by rw [e]; exact va_up_self _ _ _, hv.kept (hfk_fr_26 _ hv.lt (fun h9 => h9.elim (hv.neL hC.D ho) (fun h8 => hv.neA hC.D hb (by decide) h8.1)))⟩
        · obtain ⟨y, h1, h2⟩ := hel k (by omega)
          exact ⟨y, (va_up_ne _ _ e).trans ((hgk k (by omega)).trans h1), h2.kept (hfk_fr_26 _ h2.lt (fun h9 => h9.elim (h2.neL hC.D ho) (fun h8 => h2.neA hC.D hb (by decide) h8.1)))⟩), hl9, fun _ => Nat.le_trans hC.le hb2, hlb2⟩, fun k hk => (va_up_ne _ _ (by omega)).trans (hgk k (by omega)), va_up_self _ _ _, Or.inr ⟨hb2, rfl, by omega⟩⟩

set_option maxHeartbeats 400000 in
set_option maxRecDepth 100000 in
/-- add -/
theorem j_add (κ : zK) (H0 : Heap) {l b n cap : Nat} {md : Int} {g : Nat → Option Nat} (hC : CO κ H0) (hcap : cap ≤ 600) {v : Nat} (hv : oA κ H0 v) (hA : AL κ H0 l b md n cap g)  : Mt κ yJ2_add cJ2_add 2 (some .boolean) 6 137 1 (alG cap) H0 [.ref l, .ref v] (fun q => q = l ∨ (q = b ∧ 0 < cap)) (fun v9 H1 => v9 = some (vi 1) ∧ ∃ (b2 cap2 : Nat) (md2 : Int) (g2 : Nat → Option Nat), AL κ H1 l b2 md2 (n + 1) cap2 g2 ∧ (∀ k, k < n → g2 k = g k) ∧ g2 n = some v ∧ (b2 = b ∧ cap2 = cap ∨ H0.size ≤ b2 ∧ cap2 = alG cap ∧ n = cap)) := by
  refine Mt.of (by decide) (Nat.le_of_ble_eq_true rfl) ?_
  intro z E hE hH0 hA0 hL hini
  have hAll : ∀ q, (fun q => q = l ∨ (q = b ∧ 0 < cap)) q → zA z.A z.H0 q := fun q h => Or.inl (by rw [hA0]; exact h)
  have hNew : ∀ q, H0.size ≤ q → zA z.A z.H0 q := fun q h => Or.inr (by rw [hH0]; exact h)
  have E : zOK z cJ2_add RJ2 κ 6 137 (some .boolean) := E
  refine V.eqL (lv' := [(0, .ref l), (1, .ref v)]) rfl ?_
  obtain ⟨ho, hb, hnc, hc0, hcm, hmd, hel, hl9, hb9, hlb⟩ := hA
  refine v_aload_n E 0 rfl dJ2_add_0 ?_
  refine v_dup E rfl dJ2_add_1 ?_
  refine v_getfS E in_J2 ho (ci := 5) rfl 0 (by decide) q135 q133 (v := vi md) rfl dJ2_add_2 ?_
  refine v_iconst E dJ2_add_5 ?_
  refine v_iadd E dJ2_add_6 ?_
  obtain ⟨md1, hm1, hr1⟩ := md_norm (md + 1)
  refine V.eq (st' := [vi md1, .ref l]) (by rw [← hm1]) ?_
  refine v_putfS E in_J2 tyJ2 tyJ2_ok nmJ2 ho (ci := 5) rfl 0 (Nat.le_of_ble_eq_true rfl) q135 q133 rfl rfl rfl (Nat.le_of_ble_eq_true rfl) (hAll _ (Or.inl rfl)) dJ2_add_7 (fun H_3 ho_1 hs_2 => ?_)
  have hb_4 := hb.same hs_2 (Ne.symm hlb)
  have ho_1 : hp κ H_3 l (.inr (5, [vi md1, .ref b, vi (n : Int)])) := ho_1
  refine v_aload_n E 0 rfl dJ2_add_10 ?_
  refine v_aload_n E 1 rfl dJ2_add_11 ?_
  refine v_aload_n E 0 rfl dJ2_add_12 ?_
  refine v_getf E in_J2 ho_1 (ci := 5) rfl 1 (by decide) q127 rfl (v := .ref b) rfl dJ2_add_13 ?_
  refine v_aload_n E 0 rfl dJ2_add_16 ?_
  refine v_getf E in_J2 ho_1 (ci := 5) rfl 2 (by decide) q130 rfl (v := vi (n : Int)) rfl dJ2_add_17 ?_
  refine V.frame (fun hfz_fr_5 hfk_fr_5 => ?_)
  rw [hH0] at hfz_fr_5 hfk_fr_5
  rw [hA0] at hfk_fr_5
  refine v_callV E (As := [.ref v, .ref b, vi (n : Int)]) (b := l) (ci := 5) (C := RJ2) (T := TJ2) (N := 3) ho_1 rfl (j_add2 κ H_3 (v := v) (hC.call (fun q h => by rcases h with h | h; exact h ▸ hl9; exact h.1 ▸ hb9 h.2) hfz_fr_5 hfk_fr_5) hcap (hv.kept (hfk_fr_5 _ hv.lt (fun h9 => h9.elim (hv.neL hC.D ho) (fun h8 => hv.neA hC.D hb (by decide) h8.1)))) ⟨ho_1, hb_4, hnc, hc0, hcm, hr1, (fun k hk => (hel k hk).elim (fun y h => ⟨y, h.1, h.2.kept (hfk_fr_5 _ h.2.lt (fun h9 => h9.elim (h.2.neL hC.D ho) (fun h8 => h.2.neA hC.D hb (by decide) h8.1)))⟩)), hl9, hb9, hlb⟩) (lw_V q212 q214 qs1 q73 q215) 3 (by decide +kernel) rfl (by decide) (by decide) (cb' := 0) (sb' := 0) (by omega) (by omega) rfl (rest := []) (Nat.le_of_ble_eq_true rfl) (fun q h => hAll q h) dJ2_add_20 (fun v_6 H_7 hpost_8 hz_9 hk_10 => ?_)
  clear hz_9
  obtain ⟨rfl, b2, cap2, md2, g2, hA2, hgk, hgn, hc2⟩ := hpost_8
  refine V.eq (st' := []) rfl ?_
  refine v_iconst E dJ2_add_23 ?_
  refine v_zret E hE dJ2_add_24 rfl ?_
  exact ⟨rfl, b2, cap2, md2, g2, hA2, hgk, hgn, hc2.imp (fun h => h) (fun h => ⟨by omega, h.2⟩)⟩

set_option maxHeartbeats 400000 in
set_option maxRecDepth 100000 in
theorem j_init0 (κ : zK) (H0 : Heap) {a : Nat} : Mt κ yJ0_init cJ0_init 1 (none) 1 12 0 0 H0 [.ref a] (fun _ => False) (fun v H1 => v = none) := by
  refine Mt.of (by decide) (Nat.le_of_ble_eq_true rfl) ?_
  intro z E hE hH0 hA0 hL hini
  have hini := hini rfl
  have hAll : ∀ q, (fun _ => False) q → zA z.A z.H0 q := fun q h => Or.inl (by rw [hA0]; exact h)
  have hNew : ∀ q, H0.size ≤ q → zA z.A z.H0 q := fun q h => Or.inr (by rw [hH0]; exact h)
  have E : zOK z cJ0_init RJ0 κ 1 12 (none) := E
  refine V.eqL (lv' := [(0, .ref a)]) rfl ?_
  refine v_aload_n E 0 rfl dJ0_init_0 ?_
  refine v_objInit E q124 q111 q112 dJ0_init_1 (by decide) (Nat.le_of_ble_eq_true rfl) ?_
  refine v_vret E hE dJ0_init_4 ?_
  rfl

set_option maxHeartbeats 400000 in
set_option maxRecDepth 100000 in
theorem j_init1 (κ : zK) (H0 : Heap) {l : Nat} (ho : hp κ H0 l (.inr (5, [vi 0, .null, vi 0])))  : Mt κ yJ1_init cJ1_init 1 (none) 2 32 0 0 H0 [.ref l] (fun q => q = l) (fun v H1 => v = none ∧ hp κ H1 l (.inr (5, [vi 0, .null, vi 0]))) := by
  refine Mt.of (by decide) (Nat.le_of_ble_eq_true rfl) ?_
  intro z E hE hH0 hA0 hL hini
  have hini := hini rfl
  have hAll : ∀ q, (fun q => q = l) q → zA z.A z.H0 q := fun q h => Or.inl (by rw [hA0]; exact h)
  have hNew : ∀ q, H0.size ≤ q → zA z.A z.H0 q := fun q h => Or.inr (by rw [hH0]; exact h)
  have E : zOK z cJ1_init RJ1 κ 2 32 (none) := E
  refine V.eqL (lv' := [(0, .ref l)]) rfl ?_
  refine v_aload_n E 0 rfl dJ1_init_0 ?_
  refine v_callI E (As := []) (b := l) (j_init0 κ H0 (a := l)) q123 q71 q121 q122 rfl 0 (by decide +kernel) rfl (by decide) (by decide) (cb' := 0) (sb' := 0) (by decide) (by decide) rfl (rest := []) (Nat.le_of_ble_eq_true rfl) (fun q h => h.elim) dJ1_init_1 (fun v_1 H_2 hpost_3 hz_4 hk_5 => ?_)
  clear hz_4
  obtain rfl := hpost_3
  have ho_6 := ho.kept (hk_5 _ ho.lt (fun h => h))
  refine V.eq (st' := []) rfl ?_
  refine v_aload_n E 0 rfl dJ1_init_4 ?_
  refine v_iconst E dJ1_init_5 ?_
  refine v_putf E in_J2 tyJ2 tyJ2_ok nmJ2 ho_6 (ci := 5) rfl 0 (Nat.le_of_ble_eq_true rfl) q131 rfl rfl rfl rfl (Nat.le_of_ble_eq_true rfl) (hAll _ rfl) dJ1_init_6 (fun H_9 ho_7 hs_8 => ?_)
  have ho_7 : hp κ H_9 l (.inr (5, [vi 0, .null, vi 0])) := ho_7
  refine v_vret E hE dJ1_init_9 ?_
  exact ⟨rfl, ho_7⟩

set_option maxHeartbeats 400000 in
set_option maxRecDepth 100000 in
/-- a new list -/
theorem j_init (κ : zK) (H0 : Heap) {l : Nat} (hl9 : κ.2 93 ≤ l) (hC : CO κ H0) (ho : hp κ H0 l (.inr (5, [vi 0, .null, vi 0])))  : Mt κ yJ2_init cJ2_init 1 (none) 3 52 0 0 H0 [.ref l] (fun q => q = l) (fun v H1 => v = none ∧ AL κ H1 l (κ.2 98) 0 0 0 (fun _ => none)) := by
  refine Mt.of (by decide) (Nat.le_of_ble_eq_true rfl) ?_
  intro z E hE hH0 hA0 hL hini
  have hini := hini rfl
  have hAll : ∀ q, (fun q => q = l) q → zA z.A z.H0 q := fun q h => Or.inl (by rw [hA0]; exact h)
  have hNew : ∀ q, H0.size ≤ q → zA z.A z.H0 q := fun q h => Or.inr (by rw [hH0]; exact h)
  have E : zOK z cJ2_init RJ2 κ 3 52 (none) := E
  refine V.eqL (lv' := [(0, .ref l)]) rfl ?_
  refine v_aload_n E 0 rfl dJ2_init_0 ?_
  refine v_callI E (As := []) (b := l) (j_init1 κ H0 ho) q120 q72 q118 q119 rfl 0 (by decide +kernel) rfl (by decide) (by decide) (cb' := 0) (sb' := 0) (by decide) (by decide) rfl (rest := []) (Nat.le_of_ble_eq_true rfl) hAll dJ2_init_1 (fun v_1 H_2 hpost_3 hz_4 hk_5 => ?_)
  clear hz_4
  obtain ⟨rfl, ho9⟩ := hpost_3
  refine V.eq (st' := []) rfl ?_
  refine v_aload_n E 0 rfl dJ2_init_4 ?_
  refine V.frame (fun hfz_fr_6 hfk_fr_6 => ?_)
  rw [hH0] at hfz_fr_6 hfk_fr_6
  rw [hA0] at hfk_fr_6
  refine v_gets E 3 rfl q125 (CO.s3 (hC.call (fun q h => by rw [show q = l from h]; exact hl9) hfz_fr_6 hfk_fr_6)) dJ2_init_5 ?_
  refine v_putf E in_J2 tyJ2 tyJ2_ok nmJ2 ho9 (ci := 5) rfl 1 (Nat.le_of_ble_eq_true rfl) q127 rfl rfl rfl rfl (Nat.le_of_ble_eq_true rfl) (hAll _ rfl) dJ2_init_8 (fun H_9 ho9_7 hs_8 => ?_)
  have ho9_7 : hp κ H_9 l (.inr (5, [vi 0, .ref (κ.2 98), vi 0])) := ho9_7
  refine V.frame (fun hfz_fr_10 hfk_fr_10 => ?_)
  rw [hH0] at hfz_fr_10 hfk_fr_10
  rw [hA0] at hfk_fr_10
  refine v_vret E hE dJ2_init_11 ?_
  have hC9 := hC.call (fun q h => by rw [show q = l from h]; exact hl9) hfz_fr_10 hfk_fr_10
  exact ⟨rfl, ho9_7, hC9.e98, Nat.le_refl _, fun _ => rfl, by decide, ⟨by decide, by decide⟩, fun k hk => absurd hk (Nat.not_lt_zero k), hl9, fun h => absurd h (by decide), Nat.ne_of_gt (Nat.lt_of_lt_of_le (hC.lt (by decide)) hl9)⟩

set_option maxHeartbeats 400000 in
set_option maxRecDepth 100000 in
/-- set -/
theorem j_set (κ : zK) (H0 : Heap) {l b n cap : Nat} {md : Int} {g : Nat → Option Nat} (hC : CO κ H0) {v i y : Nat} (hv : oA κ H0 v) (hi : i < n) (hy : g i = some y) (hA : AL κ H0 l b md n cap g)  : Mt κ yJ2_set cJ2_set 4 (some (.object "java/lang/Object")) 2 43 0 0 H0 [.ref l, vi (i : Int), .ref v] (fun q => q = b) (fun v9 H1 => v9 = some (.ref y) ∧ AL κ H1 l b md n cap (va_up g i (some v))) := by
  refine Mt.of (by decide) (Nat.le_of_ble_eq_true rfl) ?_
  intro z E hE hH0 hA0 hL hini
  have hAll : ∀ q, (fun q => q = b) q → zA z.A z.H0 q := fun q h => Or.inl (by rw [hA0]; exact h)
  have hNew : ∀ q, H0.size ≤ q → zA z.A z.H0 q := fun q h => Or.inr (by rw [hH0]; exact h)
  have E : zOK z cJ2_set RJ2 κ 2 43 (some (.object "java/lang/Object")) := E
  refine V.eqL (lv' := [(0, .ref l), (1, vi (i : Int)), (2, .ref v)]) rfl ?_
  obtain ⟨ho, hb, hnc, hc0, hcm, hmd, hel, hl9, hb9, hlb⟩ := hA
  refine v_iload_n E 1 rfl dJ2_set_0 ?_
  refine v_aload_n E 0 rfl dJ2_set_1 ?_
  refine v_getf E in_J2 ho (ci := 5) rfl 2 (by decide) q130 rfl (v := vi (n : Int)) rfl dJ2_set_2 ?_
  refine v_callS E (As := [vi (i : Int), vi (n : Int)]) (j_ck3 κ H0 ⟨by omega, by omega⟩ ⟨by omega, by omega⟩) (lw_S q159 q160 q76 q161) 2 (by decide +kernel) rfl (by decide) (by decide) (cb' := 0) (sb' := 0) (by decide) (by decide) rfl (rest := []) (Nat.le_of_ble_eq_true rfl) (fun q h => h.elim) dJ2_set_5 (fun v_1 H_2 hpost_3 hz_4 hk_5 => ?_)
  clear hz_4
  obtain rfl := hpost_3
  have ho_6 := ho.kept (hk_5 _ ho.lt (fun h => h))
  have hb_7 := hb.kept (hk_5 _ hb.lt (fun h => h))
  refine V.eq (st' := [vi (i : Int)]) rfl ?_
  refine v_pop E rfl dJ2_set_8 ?_
  refine v_aload_n E 0 rfl dJ2_set_9 ?_
  refine v_iload_n E 1 rfl dJ2_set_10 ?_
  refine V.frame (fun hfz_fr_8 hfk_fr_8 => ?_)
  rw [hH0] at hfz_fr_8 hfk_fr_8
  rw [hA0] at hfk_fr_8
  refine v_callV E (As := [vi (i : Int)]) (b := l) (ci := 5) (C := RJ2) (T := TJ2) (N := 3) ho_6 rfl (j_elem κ H_2 (i := i) (y := y) (by omega) hy ⟨ho_6, hb_7, hnc, hc0, hcm, hmd, fun k hk => (hel k hk).elim (fun y h => ⟨y, h.1, h.2.kept (hfk_fr_8 _ h.2.lt (fun h9 => h.2.neA hC.D hb (by decide) h9))⟩), hl9, hb9, hlb⟩) (lw_V q165 q166 q167 q73 q168) 1 (by decide +kernel) rfl (by decide) (by decide) (cb' := 0) (sb' := 0) (by decide) (by decide) rfl (rest := []) (Nat.le_of_ble_eq_true rfl) (fun q h => h.elim) dJ2_set_11 (fun v_9 H_10 hpost_11 hz_12 hk_13 => ?_)
  clear hz_12
  obtain rfl := hpost_11
  have ho_14 := ho_6.kept (hk_13 _ ho_6.lt (fun h => h))
  have hb_15 := hb_7.kept (hk_13 _ hb_7.lt (fun h => h))
  refine V.eq (st' := [.ref y]) rfl ?_
  refine v_astore_n E dJ2_set_14 (zlt hL rfl) (lv' := [(3, .ref y), (0, .ref l), (1, vi (i : Int)), (2, .ref v)]) rfl ?_
  refine v_aload_n E 1 rfl dJ2_set_15 ?_
  refine v_getf E in_J2 ho_14 (ci := 5) rfl 1 (by decide) q127 rfl (v := .ref b) rfl dJ2_set_16 ?_
  refine v_iload_n E 2 rfl dJ2_set_19 ?_
  refine v_aload_n E 3 rfl dJ2_set_20 ?_
  refine V.frame (fun hfz_fr_19 hfk_fr_19 => ?_)
  rw [hH0] at hfz_fr_19 hfk_fr_19
  rw [hA0] at hfk_fr_19
  refine v_aast E dJ2_set_21 hb_15 (hv.kept (hfk_fr_19 _ hv.lt (fun h9 => hv.neA hC.D hb (by decide) h9))) i rfl (by omega) (by omega) (hAll _ rfl) (fun H_18 hb_16 hs_17 => ?_)
  have ho_20 := ho_14.same hs_17 hlb
  refine v_aload_n E 0 rfl dJ2_set_22 ?_
  refine V.frame (fun hfz_fr_21 hfk_fr_21 => ?_)
  rw [hH0] at hfz_fr_21 hfk_fr_21
  rw [hA0] at hfk_fr_21
  refine v_aret E hE rfl (Or.inl ⟨_, rfl⟩) dJ2_set_23 (Or.inr ⟨_, rfl⟩) ?_
  exact ⟨rfl, ho_20, hb_16, hnc, hc0, hcm, hmd, fun k hk => by
      by_cases e : k = i
      · exact ⟨v, by rw [e]; exact va_up_self _ _ _, hv.kept (hfk_fr_21 _ hv.lt (fun h9 => hv.neA hC.D hb (by decide) h9))⟩
      · obtain ⟨y2, h1, h2⟩ := hel k hk
        exact ⟨y2, (va_up_ne _ _ e).trans h1, h2.kept (hfk_fr_21 _ h2.lt (fun h9 => h2.neA hC.D hb (by decide) h9))⟩, hl9, hb9, hlb⟩
