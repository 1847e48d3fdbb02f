/-! LISTS: an add with room; an add to a list that is being built -/
set_option maxHeartbeats 400000 in
set_option maxRecDepth 100000 in
/-- add into the array, with room -/
theorem j_addN2 (κ : zK) (H0 : Heap) {l b n cap : Nat} {md : Int} {g : Nat → Option Nat} (hC : CO κ H0) (hlt : n < cap) {v : Nat} (hv : oA κ H0 v) (hA : AL κ H0 l b md n cap g)  : Mt κ yJ2_add_2 cJ2_add_2 4 (none) 0 0 0 0 H0 [.ref l, .ref v, .ref b, vi (n : Int)] (fun q => q = l ∨ (q = b ∧ 0 < cap)) (fun v9 H1 => v9 = none ∧ ∃ (md2 : Int) (g2 : Nat → Option Nat), AL κ H1 l b md2 (n + 1) cap g2 ∧ (∀ k, k < n → g2 k = g k) ∧ g2 n = some v) := by
  refine Mt.of (by decide) (Nat.le_of_ble_eq_true rfl) ?_
  intro z E hE hH0 hA0 hL hini
  have hAll : ∀ q, (fun q => q = l ∨ (q = b ∧ 0 < cap)) q → zA z.A z.H0 q := fun q h => Or.inl (by rw [hA0]; exact h)
  have hNew : ∀ q, H0.size ≤ q → zA z.A z.H0 q := fun q h => Or.inr (by rw [hH0]; exact h)
  have E : zOK z cJ2_add_2 RJ2 κ 0 0 (none) := E
  refine V.eqL (lv' := [(0, .ref l), (1, .ref v), (2, .ref b), (3, vi (n : Int))]) rfl ?_
  obtain ⟨ho, hb, hnc, hc0, hcm, hmd, hel, hl9, hb9, hlb⟩ := hA
  refine v_iload_n E 3 rfl dJ2_add_2_0 ?_
  refine v_aload_n E 2 rfl dJ2_add_2_1 ?_
  refine v_alen E dJ2_add_2_2 (t := 2) (ty := (.object "java/lang/Object")) hb rfl ?_
  refine v_icmp_ne E (tgt := 11) dJ2_add_2_3 (by decide) ⟨by omega, by omega⟩ ⟨by omega, by omega⟩ (fun c_3 => ?_) (fun c_3 => absurd c_3 (by omega))
  refine v_aload_n E 2 rfl dJ2_add_2_11 ?_
  refine v_iload_n E 3 rfl dJ2_add_2_12 ?_
  refine v_aload_n E 1 rfl dJ2_add_2_13 ?_
  refine V.frame (fun hfz_fr_4 hfk_fr_4 => ?_)
  rw [hH0] at hfz_fr_4 hfk_fr_4
  rw [hA0] at hfk_fr_4
  refine v_aast E dJ2_add_2_14 hb (hv.kept (hfk_fr_4 _ hv.lt (fun h9 => h9.elim (hv.neL hC.D ho) (fun h8 => hv.neA hC.D hb (by decide) h8.1)))) n rfl (by omega) (by omega) (hAll _ (Or.inr ⟨rfl, by omega⟩)) (fun H_3 hb_1 hs_2 => ?_)
  have ho_5 := ho.same hs_2 hlb
  refine v_aload_n E 0 rfl dJ2_add_2_15 ?_
  refine v_iload_n E 3 rfl dJ2_add_2_16 ?_
  refine v_iconst E dJ2_add_2_17 ?_
  refine v_iadd E dJ2_add_2_18 ?_
  refine v_putf E in_J2 tyJ2 tyJ2_ok nmJ2 ho_5 (ci := 5) rfl 2 (Nat.le_of_ble_eq_true rfl) q130 rfl rfl rfl rfl (Nat.le_of_ble_eq_true rfl) (hAll _ (Or.inl rfl)) dJ2_add_2_19 (fun H_8 ho_6 hs_7 => ?_)
  have hb_9 := hb_1.same hs_7 (Ne.symm hlb)
  have ho_6 : hp κ H_8 l (.inr (5, [vi md, .ref b, vi ((n : Int) + 1)])) := ho_6
  refine V.frame (fun hfz_fr_10 hfk_fr_10 => ?_)
  rw [hH0] at hfz_fr_10 hfk_fr_10
  rw [hA0] at hfk_fr_10
  refine v_vret E hE dJ2_add_2_22 ?_
  exact ⟨rfl, md, va_up g n (some v), ⟨ho_6, hb_9, by omega, hc0, hcm, hmd, (fun k hk => by
      by_cases e : k = n
      · exact ⟨v, by rw [e]; exact va_up_self _ _ _, hv.kept (hfk_fr_10 _ hv.lt (fun h9 => h9.elim (hv.neL hC.D ho) (fun h8 => hv.neA hC.D hb (by decide) h8.1)))⟩
      · obtain ⟨y, h1, h2⟩ := hel k (by omega)
        exact ⟨y, (va_up_ne _ _ e).trans h1, h2.kept (hfk_fr_10 _ h2.lt (fun h9 => h9.elim (h2.neL hC.D ho) (fun h8 => h2.neA hC.D hb (by decide) h8.1)))⟩), hl9, hb9, hlb⟩, fun k hk => va_up_ne _ _ (by omega), va_up_self _ _ _⟩

set_option maxHeartbeats 400000 in
set_option maxRecDepth 100000 in
/-- add, with room -/
theorem j_addN (κ : zK) (H0 : Heap) {l b n cap : Nat} {md : Int} {g : Nat → Option Nat} (hC : CO κ H0) (hlt : n < cap) {v : Nat} (hv : oA κ H0 v) (hA : AL κ H0 l b md n cap g)  : Mt κ yJ2_add cJ2_add 2 (some .boolean) 6 137 0 0 H0 [.ref l, .ref v] (fun q => q = l ∨ (q = b ∧ 0 < cap)) (fun v9 H1 => v9 = some (vi 1) ∧ ∃ (md2 : Int) (g2 : Nat → Option Nat), AL κ H1 l b md2 (n + 1) cap g2 ∧ (∀ k, k < n → g2 k = g k) ∧ g2 n = some v) := by
  refine Mt.of (by decide) (Nat.le_of_ble_eq_true rfl) ?_
  intro z E hE hH0 hA0 hL hini
  have hAll : ∀ q, (fun q => q = l ∨ (q = b ∧ 0 < cap)) q → zA z.A z.H0 q := fun q h => Or.inl (by rw [hA0]; exact h)
  have hNew : ∀ q, H0.size ≤ q → zA z.A z.H0 q := fun q h => Or.inr (by rw [hH0]; exact h)
  have E : zOK z cJ2_add RJ2 κ 6 137 (some .boolean) := E
  refine V.eqL (lv' := [(0, .ref l), (1, .ref v)]) rfl ?_
  obtain ⟨ho, hb, hnc, hc0, hcm, hmd, hel, hl9, hb9, hlb⟩ := hA
  refine v_aload_n E 0 rfl dJ2_add_0 ?_
  refine v_dup E rfl dJ2_add_1 ?_
  refine v_getfS E in_J2 ho (ci := 5) rfl 0 (by decide) q135 q133 (v := vi md) rfl dJ2_add_2 ?_
  refine v_iconst E dJ2_add_5 ?_
  refine v_iadd E dJ2_add_6 ?_
  obtain ⟨md1, hm1, hr1⟩ := md_norm (md + 1)
  refine V.eq (st' := [vi md1, .ref l]) (by rw [← hm1]) ?_
  refine v_putfS E in_J2 tyJ2 tyJ2_ok nmJ2 ho (ci := 5) rfl 0 (Nat.le_of_ble_eq_true rfl) q135 q133 rfl rfl rfl (Nat.le_of_ble_eq_true rfl) (hAll _ (Or.inl rfl)) dJ2_add_7 (fun H_3 ho_1 hs_2 => ?_)
  have hb_4 := hb.same hs_2 (Ne.symm hlb)
  have ho_1 : hp κ H_3 l (.inr (5, [vi md1, .ref b, vi (n : Int)])) := ho_1
  refine v_aload_n E 0 rfl dJ2_add_10 ?_
  refine v_aload_n E 1 rfl dJ2_add_11 ?_
  refine v_aload_n E 0 rfl dJ2_add_12 ?_
  refine v_getf E in_J2 ho_1 (ci := 5) rfl 1 (by decide) q127 rfl (v := .ref b) rfl dJ2_add_13 ?_
  refine v_aload_n E 0 rfl dJ2_add_16 ?_
  refine v_getf E in_J2 ho_1 (ci := 5) rfl 2 (by decide) q130 rfl (v := vi (n : Int)) rfl dJ2_add_17 ?_
  refine V.frame (fun hfz_fr_5 hfk_fr_5 => ?_)
  rw [hH0] at hfz_fr_5 hfk_fr_5
  rw [hA0] at hfk_fr_5
  refine v_callV E (As := [.ref v, .ref b, vi (n : Int)]) (b := l) (ci := 5) (C := RJ2) (T := TJ2) (N := 3) ho_1 rfl (j_addN2 κ H_3 (v := v) (hC.call (fun q h => by rcases h with h | h; exact h ▸ hl9; exact h.1 ▸ hb9 h.2) hfz_fr_5 hfk_fr_5) hlt (hv.kept (hfk_fr_5 _ hv.lt (fun h9 => h9.elim (hv.neL hC.D ho) (fun h8 => hv.neA hC.D hb (by decide) h8.1)))) ⟨ho_1, hb_4, hnc, hc0, hcm, hr1, (fun k hk => (hel k hk).elim (fun y h => ⟨y, h.1, h.2.kept (hfk_fr_5 _ h.2.lt (fun h9 => h9.elim (h.2.neL hC.D ho) (fun h8 => h.2.neA hC.D hb (by decide) h8.1)))⟩)), hl9, hb9, hlb⟩) (lw_V q212 q214 qs1 q73 q215) 3 (by decide +kernel) rfl (by decide) (by decide) (cb' := 0) (sb' := 0) (by decide) (by decide) rfl (rest := []) (Nat.le_of_ble_eq_true rfl) (fun q h => hAll q h) dJ2_add_20 (fun v_6 H_7 hpost_8 hz_9 hk_10 => ?_)
  clear hz_9
  obtain ⟨rfl, md2, g2, hA2, hgk, hgn⟩ := hpost_8
  refine V.eq (st' := []) rfl ?_
  refine v_iconst E dJ2_add_23 ?_
  refine v_zret E hE dJ2_add_24 rfl ?_
  exact ⟨rfl, md2, g2, hA2, hgk, hgn⟩

/-- an add to a list that is being built -/
theorem j_addB (κ : zK) (H0 : Heap) {l b n : Nat} {md : Int} {g : Nat → Option Nat} (hC : CO κ H0) (hn : n < 15) {v : Nat} (hv : oA κ H0 v) (hA : AL κ H0 l b md n (capR n) g) : Mt κ yJ2_add cJ2_add 2 (some .boolean) 6 137 (alM n) (alS n) H0 [.ref l, .ref v] (fun q => q = l ∨ (q = b ∧ 0 < n)) (fun v9 H1 => v9 = some (vi 1) ∧ ∃ (b2 : Nat) (md2 : Int) (g2 : Nat → Option Nat), AL κ H1 l b2 md2 (n + 1) (capR (n + 1)) g2 ∧ (∀ k, k < n → g2 k = g k) ∧ g2 n = some v ∧ (b2 = b ∧ 0 < n ∨ H0.size ≤ b2)) := by
  by_cases e0 : n = 0
  · subst e0
    refine (j_add κ H0 (cap := 0) hC (by decide) hv hA).mono (fun q h => h.imp id (fun h => ⟨h.1, absurd h.2 (by decide)⟩)) ?_
    rintro v9 H1 ⟨e, b2, cap2, md2, g2, h1, h2, h3, h4⟩ hz hk
    rcases h4 with ⟨h4, h5⟩ | ⟨h4, h5, h6⟩
    · subst h5
      have := h1.2.2.1
      omega
    · subst h5
      exact ⟨e, b2, md2, g2, h1, h2, h3, Or.inr h4⟩
  by_cases e1 : n = 10
  · subst e1
    refine (j_add κ H0 (cap := 10) hC (by decide) hv hA).mono (fun q h => h.imp id (fun h => ⟨h.1, by decide⟩)) ?_
    rintro v9 H1 ⟨e, b2, cap2, md2, g2, h1, h2, h3, h4⟩ hz hk
    rcases h4 with ⟨h4, h5⟩ | ⟨h4, h5, h6⟩
    · subst h5
      have := h1.2.2.1
      omega
    · subst h5
      exact ⟨e, b2, md2, g2, h1, h2, h3, Or.inr h4⟩
  · have a1 : alM n = 0 := if_neg (by omega)
    have a2 : alS n = 0 := by unfold alS; rw [if_neg e0, if_neg e1]
    have a3 : capR (n + 1) = capR n := by unfold capR; rw [if_neg (by omega), if_neg e0]; by_cases c : n ≤ 10; (· rw [if_pos c, if_pos (by omega)]); (· rw [if_neg c, if_neg (by omega)])
    have a4 : n < capR n := by unfold capR; rw [if_neg e0]; split <;> omega
    rw [a1, a2]
    refine (j_addN κ H0 hC a4 hv hA).mono (fun q h => h.imp id (fun h => ⟨h.1, by omega⟩)) ?_
    rintro v9 H1 ⟨e, md2, g2, h1, h2, h3⟩ hz hk
    exact ⟨e, b, md2, g2, by rw [a3]; exact h1, h2, h3, Or.inl ⟨rfl, by omega⟩⟩
