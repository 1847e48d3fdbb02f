/-! THE COMPONENT: its constructor -/
abbrev P00 : Pl := mkP 0 (fun _ => 0)
/-- what the Knowns of a component that is being made rest on -/
def dI (κ : zK) (ls b li : Nat) : Nat → Prop := fun q => q ≠ ls ∧ q ≠ b ∧ q ≠ li ∧ q ≠ κ.2 98
/-- k slots are filled -/
def IS (κ : zK) (H : Heap) (x ls b li k : Nat) : Prop := (κ.2 93 ≤ x ∧ ls ≠ li ∧ (0 < k → κ.2 93 ≤ b)) ∧ hp κ H x (.inr (0, [.ref ls, .null, .ref li])) ∧ AL κ H li (κ.2 98) 0 0 0 (fun _ => none) ∧ ∃ (md : Int) (g ak : Nat → Option Nat), AL κ H ls b md k (capR k) g ∧ ∀ j, j < k → ∃ y, g j = some y ∧ Kn κ (dI κ ls b li) H y P00 false
theorem IS.kf0 {κ : zK} {H H1 : Heap} {x ls b li k : Nat} (hC : CO κ H) (hz : H.size ≤ H1.size) (hk : ∀ q : Nat, q < H.size → ¬ (fun _ => False : Nat → Prop) q → H1[q]? = H[q]?) (h : IS κ H x ls b li k) : IS κ H1 x ls b li k := by
  have hF := kF.ext (κ := κ) hz hk
  obtain ⟨h0, h1, h2, md, g, ak, h3, h4⟩ := h
  refine ⟨h0, hF.at h1 (fun e => e), h2.kf hC hF (fun e => e) (fun _ e => e), md, g, ak, h3.kf hC hF (fun e => e) (fun _ e => e), fun j hj => ?_⟩
  obtain ⟨y, e1, e2⟩ := h4 j hj
  exact ⟨y, e1, e2.kf hC hF aD.no⟩
/-- one more was added -/
theorem IS.add {κ : zK} {H H1 : Heap} {x ls b b2 li k v : Nat} {md md2 : Int} {g g2 ak : Nat → Option Nat} {A : Nat → Prop} (hC : CO κ H) (hAL : AL κ H ls b md k (capR k) g) (hel : ∀ j, j < k → ∃ y, g j = some y ∧ Kn κ (dI κ ls b li) H y P00 false) (hv : Kn κ (dI κ ls b li) H v P00 false) (hA : ∀ q, A q → q = ls ∨ (q = b ∧ 0 < k)) (hz : H.size ≤ H1.size) (hk : ∀ q : Nat, q < H.size → ¬ A q → H1[q]? = H[q]?) (hA2 : AL κ H1 ls b2 md2 (k + 1) (capR (k + 1)) g2) (hg : ∀ j, j < k → g2 j = g j) (hgn : g2 k = some v) (hb : b2 = b ∧ 0 < k ∨ H.size ≤ b2) (h : IS κ H x ls b li k) : IS κ H1 x ls b2 li (k + 1) := by
  obtain ⟨h0, h1, h2, -⟩ := h
  have hF : kF κ H H1 A := kF.lst hAL (fun q e => (hA q e).imp id (fun e => ⟨e.1, capR_pos e.2⟩)) hz hk
  have ha : aD κ H A (dI κ ls b li) := aD.nn (fun q e d => (hA q e).elim d.1 (fun e => d.2.1 e.1))
  have hx : ¬ A x := fun e => (hA x e).elim (fun e => hp.kk hC.D h1 hAL.1 (by decide) (by decide) (by decide) e) (fun e => hp.ka hC.D h1 hAL.2.1 (by decide) (by decide) e.1)
  have hli : ¬ A li := fun e => (hA li e).elim (fun e => h0.2.1 e.symm) (fun e => hp.ka hC.D h2.1 hAL.2.1 (by decide) (by decide) e.1)
  have h93 : κ.2 93 ≤ b2 := hA2.2.2.2.2.2.2.2.2.1 (capR_pos (Nat.succ_pos k))
  have hm : ∀ y, Kn κ (dI κ ls b li) H y P00 false → Kn κ (dI κ ls b2 li) H1 y P00 false := fun y hy => by
    have e1 := hy.mono (D' := fun q => dI κ ls b li q ∧ q < H.size) (fun q e1 e2 => ⟨e2, e1⟩)
    have e2 := e1.kf hC hF (fun q e d => ha q e d.1)
    refine e2.mono (fun q _ d => ⟨d.1.1, ?_, d.1.2.2.1, d.1.2.2.2⟩)
    rcases hb with e | e
    · rw [e.1]; exact d.1.2.1
    · have := d.2; omega
  refine ⟨⟨h0.1, h0.2.1, fun _ => h93⟩, hF.at h1 hx, h2.kf hC hF hli (fun e => absurd e (by decide)), md2, g2, ak, hA2, fun j hj => ?_⟩
  by_cases e : j = k
  · subst e; exact ⟨v, hgn, hm v hv⟩
  · obtain ⟨y, e1, e2⟩ := hel j (by omega)
    exact ⟨y, (hg j (by omega)).trans e1, hm y e2⟩
theorem IS.CP {κ : zK} {H : Heap} {x ls b li : Nat} {iv : Nat → Ivl} (hC : CO κ H) (h : IS κ H x ls b li 5) : CP κ H x (fun _ => P00) none 0 0 iv := by
  obtain ⟨h0, h1, h2, md, g, ak, h3, h4⟩ := h
  have hb := h0.2.2 (by decide)
  have h98 := hC.lt (j := 98) (by decide)
  refine ⟨ls, b, li, κ.2 98, fun k => (g k).getD 0, none, fun _ => P00, ⟨⟨h0.1, h0.2.1, fun e => absurd (show κ.2 93 ≤ κ.2 98 from e ▸ hb) (Nat.not_le.mpr h98)⟩, h1, ⟨md, g, h3, fun k hk => ?_⟩, ⟨0, _, h2, fun k hk => absurd hk (Nat.not_lt_zero k)⟩, fun k hk => ?_, fun k hk => by cases hk⟩, fun _ _ => rfl, rfl⟩
  · obtain ⟨y, e1, -⟩ := h4 k hk
    show g k = some ((g k).getD 0)
    rw [e1]; rfl
  · obtain ⟨y, e1, e2⟩ := h4 k hk
    show Kn κ _ H ((g k).getD 0) P00 false
    rw [e1]
    exact e2.mono (fun q _ d => d)
set_option maxHeartbeats 1000000 in
set_option maxRecDepth 100000 in
/-- SturmRoots() -/
theorem x_init (κ : zK) (H0 : Heap) {x : Nat} {iv : Nat → Ivl} (h93x : κ.2 93 ≤ x) (hC : CO κ H0) (ho : hp κ H0 x (.inr (0, [.null, .null, .null])))  : Mt κ yX1_init cX1_init 2 (none) 7 158 18 60 H0 [.ref x] (fun q => q = x) (fun v H1 => v = none ∧ CP κ H1 x (fun _ => P00) none 0 0 iv) := by
  refine Mt.of (by decide) (Nat.le_of_ble_eq_true rfl) ?_
  intro z E hE hH0 hA0 hL hini
  have hini := hini rfl
  have hAll : ∀ q, (fun q => q = x) q → zA z.A z.H0 q := fun q h => Or.inl (by rw [hA0]; exact h)
  have hNew : ∀ q, H0.size ≤ q → zA z.A z.H0 q := fun q h => Or.inr (by rw [hH0]; exact h)
  have E : zOK z cX1_init RX1 κ 7 158 (none) := E
  refine V.eqL (lv' := [(0, .ref x)]) rfl ?_
  have hA93 : ∀ q, (fun q => q = x : Nat → Prop) q → κ.2 93 ≤ q := fun q h => by rw [show q = x from h]; exact h93x
  have hD := hC.D
  refine V.frame (fun hfz_fr_1 hfk_fr_1 => ?_)
  rw [hH0] at hfz_fr_1 hfk_fr_1
  rw [hA0] at hfk_fr_1
  have hC_fr_1 := hC.call hA93 hfz_fr_1 hfk_fr_1
  refine v_aload_n E 0 rfl dX1_init_0 ?_
  refine v_objInit E q110 q111 q112 dX1_init_1 (by decide) (Nat.le_of_ble_eq_true rfl) ?_
  refine v_aload_n E 0 rfl dX1_init_4 ?_
  refine V.frame (fun hfz_fr_2 hfk_fr_2 => ?_)
  rw [hH0] at hfz_fr_2 hfk_fr_2
  rw [hA0] at hfk_fr_2
  refine v_new E in_J2 tyJ2 tyJ2_ok q113 q114 q73 (ci := 5) rfl (fs := [vi 0, .null, vi 0]) (fun j hj => by rcases (show j = 0 ∨ j = 1 ∨ j = 2 by omega) with rfl | rfl | rfl <;> rfl) (cb' := 17) (sb' := 57) (by decide) (by decide) dX1_init_5 (fun ls H_3 hq_6 ho_4 hg_5 => ?_)
  have hne_x_ls : x ≠ ls := by have := ho.lt; omega
  have ho_8 := ho.grow hg_5
  have hge0_ls : Array.size H0 ≤ ls := by rw [hq_6]; exact (Nat.le_refl _)
  have hfzz_9 : Array.size H0 ≤ Array.size H_3 := Nat.le_trans (Nat.le_refl _) (by rw [hg_5.1]; exact Nat.le_succ _)
  have hfzk_10 : ∀ q9 : Nat, q9 < Array.size H0 → ¬ (fun q => q = x : Nat → Prop) q9 → H_3[q9]? = H0[q9]? := fun q9 h9 h8 => (hg_5.2 q9 (Nat.lt_of_lt_of_le h9 (Nat.le_refl _))).trans ((fun _ _ _ => rfl) q9 h9 h8)
  refine v_dup E rfl dX1_init_8 ?_
  have h93_ls : κ.2 93 ≤ ls := Nat.le_trans hC.le (Nat.le_trans hfz_fr_1 hge0_ls)
  refine V.frame (fun hfz_fr_11 hfk_fr_11 => ?_)
  rw [hH0] at hfz_fr_11 hfk_fr_11
  rw [hA0] at hfk_fr_11
  have hC_fr_11 := hC.call hA93 hfz_fr_11 hfk_fr_11
  refine v_callI E (As := []) (b := ls) (j_init κ H_3 h93_ls hC_fr_11 ho_4) q117 q73 q115 q116 rfl 0 (by decide +kernel) rfl (by decide) (by decide) (cb' := 17) (sb' := 57) (by decide) (by decide) rfl (rest := [.ref ls, .ref x]) (Nat.le_of_ble_eq_true rfl) (fun q h => hNew q (by rw [show q = ls from h]; exact Nat.le_trans hfz_fr_1 hge0_ls)) dX1_init_9 (fun v_12 H_13 hpost_14 hz_15 hk_16 => ?_)
  obtain ⟨rfl, hAF_ls⟩ := hpost_14
  have hfzz_17 : Array.size H0 ≤ Array.size H_13 := Nat.le_trans hfzz_9 hz_15
  have hfzk_18 : ∀ q9 : Nat, q9 < Array.size H0 → ¬ (fun q => q = x : Nat → Prop) q9 → H_13[q9]? = H0[q9]? := fun q9 h9 h8 => (hk_16 q9 (Nat.lt_of_lt_of_le h9 hfzz_9) (fun e => by have e2 : q9 = ls := e; have := hge0_ls; omega)).trans (hfzk_10 q9 h9 h8)
  have hr_19 := ho_8.kept (hk_16 _ ho_8.lt (fun h => hne_x_ls h))
  refine V.eq (st' := [.ref ls, .ref x]) rfl ?_
  refine V.frame (fun hfz_fr_20 hfk_fr_20 => ?_)
  rw [hH0] at hfz_fr_20 hfk_fr_20
  rw [hA0] at hfk_fr_20
  have hC_fr_20 := hC.call hA93 hfz_fr_20 hfk_fr_20
  refine v_putfF E hini in_X1 tyX1 tyX1_ok nmX1 hr_19 (ci := 0) rfl 0 (Nat.le_of_ble_eq_true rfl) q272 rfl rfl rfl rfl rfl (Nat.le_of_ble_eq_true rfl) (hAll _ rfl) dX1_init_12 (fun H_23 hr_21 hs_22 => ?_)
  have hr_21 : hp κ H_23 x (.inr (0, [.ref ls, .null, .null])) := hr_21
  have hfzz_24 : Array.size H0 ≤ Array.size H_23 := Nat.le_trans hfzz_17 (Nat.le_of_eq hs_22.1.symm)
  have hfzk_25 : ∀ q9 : Nat, q9 < Array.size H0 → ¬ (fun q => q = x : Nat → Prop) q9 → H_23[q9]? = H0[q9]? := fun q9 h9 h8 => (hs_22.2 q9 (fun e => h8 e)).trans (hfzk_18 q9 h9 h8)
  have hfzz_26 : Array.size H_13 ≤ Array.size H_23 := Nat.le_trans (Nat.le_refl _) (Nat.le_of_eq hs_22.1.symm)
  have hfzk_27 : ∀ q9 : Nat, q9 < Array.size H_13 → ¬ (fun q => q = x : Nat → Prop) q9 → H_23[q9]? = H_13[q9]? := fun q9 h9 h8 => (hs_22.2 q9 (fun e => h8 e)).trans ((fun _ _ _ => rfl) q9 h9 h8)
  refine v_aload_n E 0 rfl dX1_init_15 ?_
  refine V.frame (fun hfz_fr_28 hfk_fr_28 => ?_)
  rw [hH0] at hfz_fr_28 hfk_fr_28
  rw [hA0] at hfk_fr_28
  have hC_fr_28 := hC.call hA93 hfz_fr_28 hfk_fr_28
  refine V.frame (fun hfz_fr_29 hfk_fr_29 => ?_)
  rw [hH0] at hfz_fr_29 hfk_fr_29
  rw [hA0] at hfk_fr_29
  refine v_new E in_J2 tyJ2 tyJ2_ok q113 q114 q73 (ci := 5) rfl (fs := [vi 0, .null, vi 0]) (fun j hj => by rcases (show j = 0 ∨ j = 1 ∨ j = 2 by omega) with rfl | rfl | rfl <;> rfl) (cb' := 16) (sb' := 54) (by decide) (by decide) dX1_init_16 (fun li H_30 hq_33 ho_31 hg_32 => ?_)
  have hne_x_li : x ≠ li := by have := hr_21.lt; omega
  have hr_35 := hr_21.grow hg_32
  have hge0_li : Array.size H0 ≤ li := by rw [hq_33]; exact hfzz_24
  have hfzz_36 : Array.size H0 ≤ Array.size H_30 := Nat.le_trans hfzz_24 (by rw [hg_32.1]; exact Nat.le_succ _)
  have hfzk_37 : ∀ q9 : Nat, q9 < Array.size H0 → ¬ (fun q => q = x : Nat → Prop) q9 → H_30[q9]? = H0[q9]? := fun q9 h9 h8 => (hg_32.2 q9 (Nat.lt_of_lt_of_le h9 hfzz_24)).trans (hfzk_25 q9 h9 h8)
  have hge1_li : Array.size H_13 ≤ li := by rw [hq_33]; exact hfzz_26
  have hfzz_38 : Array.size H_13 ≤ Array.size H_30 := Nat.le_trans hfzz_26 (by rw [hg_32.1]; exact Nat.le_succ _)
  have hfzk_39 : ∀ q9 : Nat, q9 < Array.size H_13 → ¬ (fun q => q = x : Nat → Prop) q9 → H_30[q9]? = H_13[q9]? := fun q9 h9 h8 => (hg_32.2 q9 (Nat.lt_of_lt_of_le h9 hfzz_26)).trans (hfzk_27 q9 h9 h8)
  refine v_dup E rfl dX1_init_19 ?_
  have h93_li : κ.2 93 ≤ li := Nat.le_trans hC.le (Nat.le_trans hfz_fr_1 hge0_li)
  refine V.frame (fun hfz_fr_40 hfk_fr_40 => ?_)
  rw [hH0] at hfz_fr_40 hfk_fr_40
  rw [hA0] at hfk_fr_40
  have hC_fr_40 := hC.call hA93 hfz_fr_40 hfk_fr_40
  refine v_callI E (As := []) (b := li) (j_init κ H_30 h93_li hC_fr_40 ho_31) q117 q73 q115 q116 rfl 0 (by decide +kernel) rfl (by decide) (by decide) (cb' := 16) (sb' := 54) (by decide) (by decide) rfl (rest := [.ref li, .ref x]) (Nat.le_of_ble_eq_true rfl) (fun q h => hNew q (by rw [show q = li from h]; exact Nat.le_trans hfz_fr_1 hge0_li)) dX1_init_20 (fun v_41 H_42 hpost_43 hz_44 hk_45 => ?_)
  obtain ⟨rfl, hAF_li⟩ := hpost_43
  have hfzz_46 : Array.size H0 ≤ Array.size H_42 := Nat.le_trans hfzz_36 hz_44
  have hfzk_47 : ∀ q9 : Nat, q9 < Array.size H0 → ¬ (fun q => q = x : Nat → Prop) q9 → H_42[q9]? = H0[q9]? := fun q9 h9 h8 => (hk_45 q9 (Nat.lt_of_lt_of_le h9 hfzz_36) (fun e => by have e2 : q9 = li := e; have := hge0_li; omega)).trans (hfzk_37 q9 h9 h8)
  have hfzz_48 : Array.size H_13 ≤ Array.size H_42 := Nat.le_trans hfzz_38 hz_44
  have hfzk_49 : ∀ q9 : Nat, q9 < Array.size H_13 → ¬ (fun q => q = x : Nat → Prop) q9 → H_42[q9]? = H_13[q9]? := fun q9 h9 h8 => (hk_45 q9 (Nat.lt_of_lt_of_le h9 hfzz_38) (fun e => by have e2 : q9 = li := e; have := hge1_li; omega)).trans (hfzk_39 q9 h9 h8)
  have hr_50 := hr_35.kept (hk_45 _ hr_35.lt (fun h => hne_x_li h))
  refine V.eq (st' := [.ref li, .ref x]) rfl ?_
  refine V.frame (fun hfz_fr_51 hfk_fr_51 => ?_)
  rw [hH0] at hfz_fr_51 hfk_fr_51
  rw [hA0] at hfk_fr_51
  have hC_fr_51 := hC.call hA93 hfz_fr_51 hfk_fr_51
  refine v_putf E in_X1 tyX1 tyX1_ok nmX1 hr_50 (ci := 0) rfl 2 (Nat.le_of_ble_eq_true rfl) q274 rfl rfl rfl rfl (Nat.le_of_ble_eq_true rfl) (hAll _ rfl) dX1_init_23 (fun H_54 hr_52 hs_53 => ?_)
  have hr_52 : hp κ H_54 x (.inr (0, [.ref ls, .null, .ref li])) := hr_52
  have hfzz_55 : Array.size H0 ≤ Array.size H_54 := Nat.le_trans hfzz_46 (Nat.le_of_eq hs_53.1.symm)
  have hfzk_56 : ∀ q9 : Nat, q9 < Array.size H0 → ¬ (fun q => q = x : Nat → Prop) q9 → H_54[q9]? = H0[q9]? := fun q9 h9 h8 => (hs_53.2 q9 (fun e => h8 e)).trans (hfzk_47 q9 h9 h8)
  have hfzz_57 : Array.size H_13 ≤ Array.size H_54 := Nat.le_trans hfzz_48 (Nat.le_of_eq hs_53.1.symm)
  have hfzk_58 : ∀ q9 : Nat, q9 < Array.size H_13 → ¬ (fun q => q = x : Nat → Prop) q9 → H_54[q9]? = H_13[q9]? := fun q9 h9 h8 => (hs_53.2 q9 (fun e => h8 e)).trans (hfzk_49 q9 h9 h8)
  have hfzz_59 : Array.size H_42 ≤ Array.size H_54 := Nat.le_trans (Nat.le_refl _) (Nat.le_of_eq hs_53.1.symm)
  have hfzk_60 : ∀ q9 : Nat, q9 < Array.size H_42 → ¬ (fun q => q = x : Nat → Prop) q9 → H_54[q9]? = H_42[q9]? := fun q9 h9 h8 => (hs_53.2 q9 (fun e => h8 e)).trans ((fun _ _ _ => rfl) q9 h9 h8)
  refine V.frame (fun hfz_fr_61 hfk_fr_61 => ?_)
  rw [hH0] at hfz_fr_61 hfk_fr_61
  rw [hA0] at hfk_fr_61
  have hC_fr_61 := hC.call hA93 hfz_fr_61 hfk_fr_61
  have hL1 := AL.grow2 hC_fr_20 hr_19 h93x hfzz_57 hfzk_58 hAF_ls
  have hL2 := AL.grow2 hC_fr_51 hr_50 h93x hfzz_59 hfzk_60 hAF_li
  have hIS : IS κ H_54 x ls (κ.2 98) li 0 := ⟨⟨h93x, by have h1 := hge0_li; have h2 := hge1_li; have h3 := hAF_ls.1.lt; omega, fun h => absurd h (by decide)⟩, hr_52, hL2, 0, fun _ => none, fun _ => none, hL1, fun j hj => absurd hj (Nat.not_lt_zero j)⟩
  refine v_iconst E dX1_init_26 ?_
  refine v_istore_n E dX1_init_27 (zlt hL rfl) (lv' := [(1, vi 0), (0, .ref x)]) rfl ?_
  have loop_28 : ∀ (m_28 : Nat) (H : Heap) (k b cb sb : Nat), 5 - k < m_28 → (k ≤ 5) → (3 * (5 - k) + al0 k ≤ cb) → (8 * (5 - k) + 10 * al0 k ≤ sb) → (H0.size ≤ ls) → (0 < k → H0.size ≤ b) → IS κ H x ls b li k → V z H cb sb 28 [(1, vi (k : Int)), (0, .ref x)] [] := by
    intro m_28
    induction m_28 with
    | zero => intro H k b cb sb hm; exact absurd hm (by omega)
    | succ m_28 ih_28 =>
      intro H k b cb sb hm_28 hk hcb hsb hls0 hb0 hS2
      refine v_iload_n E 0 rfl dX1_init_28 ?_
      refine v_iconst E dX1_init_29 ?_
      refine v_icmp_ge E (tgt := 68) dX1_init_30 (by decide) ⟨by omega, by omega⟩ ⟨by omega, by omega⟩ (fun c_30 => ?_) (fun c_30 => ?_)
      · refine V.frame (fun hfz_fr_62 hfk_fr_62 => ?_)
        rw [hH0] at hfz_fr_62 hfk_fr_62
        rw [hA0] at hfk_fr_62
        have hC_fr_62 := hC.call hA93 hfz_fr_62 hfk_fr_62
        refine v_vret E hE dX1_init_68 ?_
        have hk5 : k = 5 := by omega
        subst hk5
        exact ⟨rfl, IS.CP hC_fr_62 hS2⟩
      · refine v_aload_n E 1 rfl dX1_init_33 ?_
        refine v_getf E in_X1 hS2.2.1 (ci := 0) rfl 0 (by decide) q272 rfl (v := .ref ls) rfl dX1_init_34 ?_
        refine V.frame (fun hfz_fr_63 hfk_fr_63 => ?_)
        rw [hH0] at hfz_fr_63 hfk_fr_63
        rw [hA0] at hfk_fr_63
        have hC_fr_63 := hC.call hA93 hfz_fr_63 hfk_fr_63
        have hlt9 : ls < Array.size H ∧ b < Array.size H ∧ li < Array.size H ∧ κ.2 98 < Array.size H := by
          obtain ⟨-, -, e2, md, g, ak, e3, -⟩ := id hS2
          exact ⟨e3.1.lt, e3.2.1.lt, e2.1.lt, e2.2.1.lt⟩
        refine V.frame (fun hfz_fr_64 hfk_fr_64 => ?_)
        rw [hH0] at hfz_fr_64 hfk_fr_64
        rw [hA0] at hfk_fr_64
        refine v_new E in_X2 tyX2 tyX2_ok q143 q144 q74 (ci := 1) rfl (fs := [.null, .null, .null, .null]) (fun j hj => by rcases (show j = 0 ∨ j = 1 ∨ j = 2 ∨ j = 3 by omega) with rfl | rfl | rfl | rfl <;> rfl) (cb' := (cb - 1)) (sb' := (sb - 4)) (by omega) (by omega) dX1_init_37 (fun kq H_65 hq_68 ho_66 hg_67 => ?_)
        have hge0_kq : Array.size H ≤ kq := by rw [hq_68]; exact (Nat.le_refl _)
        have hfzz_69 : Array.size H ≤ Array.size H_65 := Nat.le_trans (Nat.le_refl _) (by rw [hg_67.1]; exact Nat.le_succ _)
        have hfzk_70 : ∀ q9 : Nat, q9 < Array.size H → ¬ (fun _ => False : Nat → Prop) q9 → H_65[q9]? = H[q9]? := fun q9 h9 h8 => (hg_67.2 q9 (Nat.lt_of_lt_of_le h9 (Nat.le_refl _))).trans ((fun _ _ _ => rfl) q9 h9 h8)
        refine v_dup E rfl dX1_init_40 ?_
        refine V.frame (fun hfz_fr_71 hfk_fr_71 => ?_)
        rw [hH0] at hfz_fr_71 hfk_fr_71
        rw [hA0] at hfk_fr_71
        have hC_fr_71 := hC.call hA93 hfz_fr_71 hfk_fr_71
        refine V.frame (fun hfz_fr_72 hfk_fr_72 => ?_)
        rw [hH0] at hfz_fr_72 hfk_fr_72
        rw [hA0] at hfk_fr_72
        refine v_new E in_X3 tyX3 tyX3_ok q145 q146 q75 (ci := 2) rfl (fs := [.null]) (fun j hj => by rcases (show j = 0 by omega) with rfl <;> rfl) (cb' := ((cb - 1) - 1)) (sb' := ((sb - 4) - 1)) (by omega) (by omega) dX1_init_41 (fun pq H_73 hq_76 ho_74 hg_75 => ?_)
        have hne_kq_pq : kq ≠ pq := by have := ho_66.lt; omega
        have ho_78 := ho_66.grow hg_75
        have hge0_pq : Array.size H ≤ pq := by rw [hq_76]; exact hfzz_69
        have hfzz_79 : Array.size H ≤ Array.size H_73 := Nat.le_trans hfzz_69 (by rw [hg_75.1]; exact Nat.le_succ _)
        have hfzk_80 : ∀ q9 : Nat, q9 < Array.size H → ¬ (fun _ => False : Nat → Prop) q9 → H_73[q9]? = H[q9]? := fun q9 h9 h8 => (hg_75.2 q9 (Nat.lt_of_lt_of_le h9 hfzz_69)).trans (hfzk_70 q9 h9 h8)
        refine v_dup E rfl dX1_init_44 ?_
        refine V.frame (fun hfz_fr_81 hfk_fr_81 => ?_)
        rw [hH0] at hfz_fr_81 hfk_fr_81
        rw [hA0] at hfk_fr_81
        have hC_fr_81 := hC.call hA93 hfz_fr_81 hfk_fr_81
        refine V.frame (fun hfz_fr_82 hfk_fr_82 => ?_)
        rw [hH0] at hfz_fr_82 hfk_fr_82
        rw [hA0] at hfk_fr_82
        refine v_new E in_J2 tyJ2 tyJ2_ok q113 q114 q73 (ci := 5) rfl (fs := [vi 0, .null, vi 0]) (fun j hj => by rcases (show j = 0 ∨ j = 1 ∨ j = 2 by omega) with rfl | rfl | rfl <;> rfl) (cb' := (((cb - 1) - 1) - 1)) (sb' := (((sb - 4) - 1) - 3)) (by omega) (by omega) dX1_init_45 (fun lq H_83 hq_86 ho_84 hg_85 => ?_)
        have hne_kq_lq : kq ≠ lq := by have := ho_78.lt; omega
        have hne_pq_lq : pq ≠ lq := by have := ho_74.lt; omega
        have ho_89 := ho_78.grow hg_85
        have ho_90 := ho_74.grow hg_85
        have hge0_lq : Array.size H ≤ lq := by rw [hq_86]; exact hfzz_79
        have hfzz_91 : Array.size H ≤ Array.size H_83 := Nat.le_trans hfzz_79 (by rw [hg_85.1]; exact Nat.le_succ _)
        have hfzk_92 : ∀ q9 : Nat, q9 < Array.size H → ¬ (fun _ => False : Nat → Prop) q9 → H_83[q9]? = H[q9]? := fun q9 h9 h8 => (hg_85.2 q9 (Nat.lt_of_lt_of_le h9 hfzz_79)).trans (hfzk_80 q9 h9 h8)
        refine v_dup E rfl dX1_init_48 ?_
        have h93_lq : κ.2 93 ≤ lq := Nat.le_trans hC.le (Nat.le_trans hfz_fr_63 hge0_lq)
        refine V.frame (fun hfz_fr_93 hfk_fr_93 => ?_)
        rw [hH0] at hfz_fr_93 hfk_fr_93
        rw [hA0] at hfk_fr_93
        have hC_fr_93 := hC.call hA93 hfz_fr_93 hfk_fr_93
        refine v_callI E (As := []) (b := lq) (j_init κ H_83 h93_lq hC_fr_93 ho_84) q117 q73 q115 q116 rfl 0 (by decide +kernel) rfl (by decide) (by decide) (cb' := ((((cb - 1) - 1) - 1) - 0)) (sb' := ((((sb - 4) - 1) - 3) - 0)) (by omega) (by omega) rfl (rest := [.ref lq, .ref pq, .ref pq, .ref kq, .ref kq, .ref ls]) (Nat.le_of_ble_eq_true rfl) (fun q h => hNew q (by rw [show q = lq from h]; exact Nat.le_trans hfz_fr_63 hge0_lq)) dX1_init_49 (fun v_94 H_95 hpost_96 hz_97 hk_98 => ?_)
        obtain ⟨rfl, hAF_lq⟩ := hpost_96
        have hfzz_99 : Array.size H ≤ Array.size H_95 := Nat.le_trans hfzz_91 hz_97
        have hfzk_100 : ∀ q9 : Nat, q9 < Array.size H → ¬ (fun _ => False : Nat → Prop) q9 → H_95[q9]? = H[q9]? := fun q9 h9 h8 => (hk_98 q9 (Nat.lt_of_lt_of_le h9 hfzz_91) (fun e => by have e2 : q9 = lq := e; have := hge0_lq; omega)).trans (hfzk_92 q9 h9 h8)
        have hr_101 := ho_89.kept (hk_98 _ ho_89.lt (fun h => hne_kq_lq h))
        have hr_102 := ho_90.kept (hk_98 _ ho_90.lt (fun h => hne_pq_lq h))
        refine V.eq (st' := [.ref lq, .ref pq, .ref pq, .ref kq, .ref kq, .ref ls]) rfl ?_
        have h93_pq : κ.2 93 ≤ pq := Nat.le_trans hC.le (Nat.le_trans hfz_fr_63 hge0_pq)
        refine V.frame (fun hfz_fr_103 hfk_fr_103 => ?_)
        rw [hH0] at hfz_fr_103 hfk_fr_103
        rw [hA0] at hfk_fr_103
        have hC_fr_103 := hC.call hA93 hfz_fr_103 hfk_fr_103
        refine v_callI E (As := [.ref lq]) (b := pq) (p_init κ H_95 (D := (dI κ ls b li)) (n := 0) (c := fun _ => 0) (S := (Array.size H)) hC_fr_103 h93_pq (by decide) (fun q h => by have h1 := hlt9; exact ⟨Nat.ne_of_gt (Nat.lt_of_lt_of_le h1.1 h), Nat.ne_of_gt (Nat.lt_of_lt_of_le h1.2.1 h), Nat.ne_of_gt (Nat.lt_of_lt_of_le h1.2.2.1 h), Nat.ne_of_gt (Nat.lt_of_lt_of_le h1.2.2.2 h)⟩) (Nat.le_trans hC.le hfz_fr_63) hr_102 (LB.nil hAF_lq hge0_lq)) q149 q75 q147 q148 rfl 1 (by decide +kernel) rfl (by decide) (by decide) (cb' := (((((cb - 1) - 1) - 1) - 0) - 0)) (sb' := (((((sb - 4) - 1) - 3) - 0) - 0)) (by omega) (by omega) rfl (rest := [.ref pq, .ref kq, .ref kq, .ref ls]) (Nat.le_of_ble_eq_true rfl) (fun q h => hNew q (h.elim (fun h => by rw [h]; exact Nat.le_trans hfz_fr_63 hge0_pq) (fun h => h.elim (fun h => by rw [h]; exact Nat.le_trans hfz_fr_63 hge0_lq) (fun h => absurd h.2 (by decide))))) dX1_init_52 (fun v_104 H_105 hpost_106 hz_107 hk_108 => ?_)
        obtain ⟨rfl, hPF_pq⟩ := hpost_106
        have hfzz_109 : Array.size H ≤ Array.size H_105 := Nat.le_trans hfzz_99 hz_107
        have hfzk_110 : ∀ q9 : Nat, q9 < Array.size H → ¬ (fun _ => False : Nat → Prop) q9 → H_105[q9]? = H[q9]? := fun q9 h9 h8 => (hk_108 q9 (Nat.lt_of_lt_of_le h9 hfzz_99) (fun e => by exact e.elim (fun e => by have := hge0_pq; omega) (fun e => e.elim (fun e => by have := hge0_lq; omega) (fun e => absurd e.2 (by decide))))).trans (hfzk_100 q9 h9 h8)
        have hr_111 := hr_101.kept (hk_108 _ hr_101.lt (fun h => h.elim (fun h => hne_kq_pq h) (fun h => h.elim (fun h => hne_kq_lq h) (fun h => absurd h.2 (by decide)))))
        refine V.eq (st' := [.ref pq, .ref kq, .ref kq, .ref ls]) rfl ?_
        have h93_kq : κ.2 93 ≤ kq := Nat.le_trans hC.le (Nat.le_trans hfz_fr_63 hge0_kq)
        refine V.frame (fun hfz_fr_112 hfk_fr_112 => ?_)
        rw [hH0] at hfz_fr_112 hfk_fr_112
        rw [hA0] at hfk_fr_112
        have hC_fr_112 := hC.call hA93 hfz_fr_112 hfk_fr_112
        refine v_callI E (As := [.ref pq]) (b := kq) (k_init κ H_105 hr_111) q192 q74 q190 q191 rfl 1 (by decide +kernel) rfl (by decide) (by decide) (cb' := ((((((cb - 1) - 1) - 1) - 0) - 0) - 0)) (sb' := ((((((sb - 4) - 1) - 3) - 0) - 0) - 0)) (by omega) (by omega) rfl (rest := [.ref kq, .ref ls]) (Nat.le_of_ble_eq_true rfl) (fun q9 h => hNew q9 (by rw [show q9 = kq from h]; exact Nat.le_trans hfz_fr_63 hge0_kq)) dX1_init_55 (fun v_113 H_114 hpost_115 hz_116 hk_117 => ?_)
        obtain ⟨rfl, hkn⟩ := hpost_115
        have hfzz_118 : Array.size H ≤ Array.size H_114 := Nat.le_trans hfzz_109 hz_116
        have hfzk_119 : ∀ q9 : Nat, q9 < Array.size H → ¬ (fun _ => False : Nat → Prop) q9 → H_114[q9]? = H[q9]? := fun q9 h9 h8 => (hk_117 q9 (Nat.lt_of_lt_of_le h9 hfzz_109) (fun e => by have e2 : q9 = kq := e; have := hge0_kq; omega)).trans (hfzk_110 q9 h9 h8)
        have hSk : kS κ H_105 H_114 kq := ⟨h93_kq, hz_116, fun q9 h9 h8 => hk_117 q9 h9 h8, ⟨_, hr_111⟩, ⟨_, hkn⟩⟩
        have hPo2 := Po.ks hC_fr_112 hSk hPF_pq
        have hKn : Kn κ (dI κ ls b li) H_114 kq P00 false := Kn.new h93_kq hkn hPo2
        refine V.eq (st' := [.ref kq, .ref ls]) rfl ?_
        refine V.frame (fun hfz_fr_120 hfk_fr_120 => ?_)
        rw [hH0] at hfz_fr_120 hfk_fr_120
        rw [hA0] at hfk_fr_120
        have hC_fr_120 := hC.call hA93 hfz_fr_120 hfk_fr_120
        have hISc := IS.kf0 hC_fr_63 hfzz_118 hfzk_119 hS2
        obtain ⟨-, -, -, mdc, gc, akc, hAc, helc⟩ := id hISc
        have hal9 := al_k k (by omega)
        refine v_callV E (As := [.ref kq]) (b := ls) (ci := 5) (C := RJ2) (T := TJ2) (N := 3) hAc.1 rfl (j_addB κ H_114 hC_fr_120 (by omega) hKn.oA hAc) (lw_V q208 q209 q210 q73 q211) 1 (by decide +kernel) rfl (by decide) (by decide) (cb' := (((((((cb - 1) - 1) - 1) - 0) - 0) - 0) - alM k)) (sb' := (((((((sb - 4) - 1) - 3) - 0) - 0) - 0) - alS k)) (by omega) (by omega) rfl (rest := []) (Nat.le_of_ble_eq_true rfl) (fun q h => hNew q (h.elim (fun h => by rw [h]; exact hls0) (fun h => by rw [h.1]; exact hb0 h.2))) dX1_init_58 (fun v_121 H_122 hpost_123 hz_124 hk_125 => ?_)
        obtain ⟨rfl, b9, md9, g9, hA9, hg9, hgn9, hb9⟩ := hpost_123
        have hIS9 := IS.add (ak := akc) hC_fr_120 hAc helc hKn (fun q h => h) hz_124 hk_125 hA9 hg9 hgn9 hb9 hISc
        refine V.eq (st' := [vi 1]) rfl ?_
        refine v_pop E rfl dX1_init_61 ?_
        refine v_iinc E 0 rfl dX1_init_62 (zlt hL rfl) (lv' := [(1, vi ((k : Int) + 1)), (0, .ref x)]) rfl ?_
        refine v_goto E (tgt := 28) dX1_init_65 (by decide) ?_
        exact ih_28  H_122 (k + 1) b9 (((((((cb - 1) - 1) - 1) - 0) - 0) - 0) - alM k) (((((((sb - 4) - 1) - 3) - 0) - 0) - 0) - alS k) (by omega) (by omega) (by omega) (by omega) hls0 (fun _ => hb9.elim (fun h => by rw [h.1]; exact hb0 h.2) (fun h => by omega)) hIS9
  exact loop_28 (5 + 1) H_54 0 (κ.2 98) 16 54 (by omega) (Nat.zero_le _) (by rw [al0_0]; omega) (by rw [al0_0]; omega) hge0_ls (fun h => absurd h (by decide)) hIS
