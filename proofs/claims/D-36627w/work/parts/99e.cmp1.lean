/-! POLYNOMIALS OF THE COMPONENT: Poly itself -/
theorem pln_s {c : Nat → Int} {k : Nat} (h : c k = 0) : pl (k + 1) c = pl k c := if_pos h
theorem pln_t {c : Nat → Int} {k : Nat} (h : c k ≠ 0) : pl (k + 1) c = k + 1 := if_neg h
theorem BI.put {κ : zK} {H H1 : Heap} {a p ci : Nat} {fs : List Value} {x : Int} (hD : zDist κ) (h : BI κ H a x) (hs : zSame H H1 p) (ho : hp κ H p (.inr (ci, fs))) (hci : ci < 10 ∧ ci ≠ 6 := by decide) : BI κ H1 a x := by
  obtain ⟨m, n, cf, h1⟩ := h
  obtain ⟨c1, c2, c3, g⟩ := h1.1
  exact ⟨m, n, cf, h1.kept (hs.2 a (hp.kk hD g ho (by decide) hci.1 (Ne.symm hci.2))) (hs.2 m (Ne.symm (hp.ka hD ho h1.2.1 hci.1 (by decide))))⟩
theorem Po.of {κ : zK} {D : Nat → Prop} {H : Heap} {p l b n cap : Nat} {md : Int} {g : Nat → Option Nat} {c : Nat → Int} (h13 : n ≤ 13) (ho : hp κ H p (.inr (2, [.ref l]))) (hA : AL κ H l b md (pl n c) cap g) (hel : ∀ k, k < pl n c → ∃ y, g k = some y ∧ BI κ H y (c k)) (hl : D l) (hb : 0 < cap → D b) : Po κ D H p (mkP n c) := by
  have h1 := pl_le c n
  refine ⟨nf_mk n c, Nat.le_trans h1 h13, l, ho, b, cap, md, g, hA, fun k hk => ?_, hl, hb⟩
  obtain ⟨y, e1, e2⟩ := hel k hk
  have hk2 : k < pl n c := hk
  exact ⟨y, e1, by show BI κ H y (cut n c k); rw [cut_lt (by omega)]; exact e2⟩
set_option maxHeartbeats 800000 in
set_option maxRecDepth 100000 in
/-- Poly(row) -/
theorem p_init (κ : zK) (H0 : Heap) {p l b n S : Nat} {c : Nat → Int} {D : Nat → Prop} (hC : CO κ H0) (h93 : κ.2 93 ≤ p) (h13 : n ≤ 13) (hD1 : ∀ q, S ≤ q → D q) (hS93 : κ.2 93 ≤ S) (ho : hp κ H0 p (.inr (2, [.null]))) (hLB : LB κ S (eB κ c) H0 l b n)  : Mt κ yX3_init cX3_init 2 (none) 3 73 0 0 H0 [.ref p, .ref l] (fun q => q = p ∨ q = l ∨ (q = b ∧ 0 < n)) (fun v H1 => v = none ∧ Po κ D H1 p (mkP n c)) := by
  refine Mt.of (by decide) (Nat.le_of_ble_eq_true rfl) ?_
  intro z E hE hH0 hA0 hL hini
  have hini := hini rfl
  have hAll : ∀ q, (fun q => q = p ∨ q = l ∨ (q = b ∧ 0 < n)) q → zA z.A z.H0 q := fun q h => Or.inl (by rw [hA0]; exact h)
  have hNew : ∀ q, H0.size ≤ q → zA z.A z.H0 q := fun q h => Or.inr (by rw [hH0]; exact h)
  have E : zOK z cX3_init RX3 κ 3 73 (none) := E
  refine V.eqL (lv' := [(0, .ref p), (1, .ref l)]) rfl ?_
  obtain ⟨md, g, hA, hel, hSl, hSb⟩   := id hLB
  have hD := hC.D
  have hne_l_p : l ≠ p := hp.kk hD hA.1 ho (by decide) (by decide) (by decide)
  have hne_b_p : b ≠ p := Ne.symm (hp.ka hD ho hA.2.1 (by decide) (by decide))
  have hA93 : ∀ q, (fun q => q = p ∨ q = l ∨ (q = b ∧ 0 < n)) q → κ.2 93 ≤ q := fun q h => h.elim (fun h => by rw [h]; exact h93) (fun h => h.elim (fun h => by rw [h]; exact Nat.le_trans hS93 hSl) (fun h => by rw [h.1]; exact Nat.le_trans hS93 (hSb h.2)))
  refine v_aload_n E 0 rfl dX3_init_0 ?_
  refine v_objInit E q150 q111 q112 dX3_init_1 (by decide) (Nat.le_of_ble_eq_true rfl) ?_
  refine v_aload_n E 0 rfl dX3_init_4 ?_
  refine v_aload_n E 1 rfl dX3_init_5 ?_
  refine v_putfF E hini in_X3 tyX3 tyX3_ok nmX3 ho (ci := 2) rfl 0 (Nat.le_of_ble_eq_true rfl) q185 rfl rfl rfl rfl rfl (Nat.le_of_ble_eq_true rfl) (hAll _ (Or.inl rfl)) dX3_init_6 (fun H_3 ho_1 hs_2 => ?_)
  have hA1_4 := hA.1.same hs_2 hne_l_p
  have ho_1 : hp κ H_3 p (.inr (2, [.ref l])) := ho_1
  have hA9 : AL κ H_3 l b md n (capR n) g := ⟨hA1_4, hA.2.1.same hs_2 hne_b_p, hA.2.2.1, hA.2.2.2.1, hA.2.2.2.2.1, hA.2.2.2.2.2.1, fun k hk => by
    obtain ⟨y, e1, e2⟩ := hA.2.2.2.2.2.2.1 k hk
    obtain ⟨y2, e3, e4⟩ := hel k hk
    obtain rfl := Option.some.inj (e1.symm.trans e3)
    exact ⟨y, e1, (e4.put hD hs_2 ho).oA⟩, hA.2.2.2.2.2.2.2⟩
  have hel9 : ∀ k, k < n → ∃ y, g k = some y ∧ BI κ H_3 y (c k) := fun k hk => (hel k hk).elim (fun y hy => ⟨y, hy.1, hy.2.put hD hs_2 ho⟩)
  have loop_9 : ∀ (m_9 : Nat) (H : Heap) (m : Nat) (md : Int) (g : Nat → Option Nat), m < m_9 → (m ≤ n) → (pl n c = pl m c) → hp κ H p (.inr (2, [.ref l])) → AL κ H l b md m (capR n) g → (∀ k, k < m → ∃ y, g k = some y ∧ BI κ H y (c k)) → V z H 0 0 9 [(0, .ref p), (1, .ref l)] [] := by
    intro m_9
    induction m_9 with
    | zero => intro H m md g hm; exact absurd hm (by omega)
    | succ m_9 ih_9 =>
      intro H m md g hm_9 hm hpl hop hA hel
      have hA1 := hA.1
      refine v_aload_n E 1 rfl dX3_init_9 ?_
      refine V.frame (fun hfz_fr_5 hfk_fr_5 => ?_)
      rw [hH0] at hfz_fr_5 hfk_fr_5
      rw [hA0] at hfk_fr_5
      have hC_fr_5 := hC.call hA93 hfz_fr_5 hfk_fr_5
      refine v_callV E (As := []) (b := l) (ci := 5) (C := RJ2) (T := TJ2) (N := 3) hA1 rfl (j_size κ H hA) (lw_V q151 q152 q153 q73 q154) 0 (by decide +kernel) rfl (by decide) (by decide) (cb' := 0) (sb' := 0) (by decide) (by decide) rfl (rest := []) (Nat.le_of_ble_eq_true rfl) (fun q h => h.elim) dX3_init_10 (fun v_6 H_7 hpost_8 hz_9 hk_10 => ?_)
      obtain rfl := hpost_8
      have hA_11 := AL.kf hC_fr_5 (kF.ext hz_9 hk_10) hA (fun h => h) (fun _ h => h)
      have hel_12 : ∀ k, k < m → ∃ y, g k = some y ∧ BI κ H_7 y (c k) := fun k hk => (hel k hk).elim (fun y hy => ⟨y, hy.1, hy.2.ext (fun q hq => hk_10 q hq (fun h => h))⟩)
      have hz_13 := hop.kept (hk_10 _ hop.lt (fun h => h))
      have hz_14 := hA1.kept (hk_10 _ hA1.lt (fun h => h))
      refine V.eq (st' := [vi (m : Int)]) rfl ?_
      refine v_if_le E (tgt := 49) dX3_init_13 (by decide) ⟨by have := hA.2.2.1; have := hA.2.2.2.2.1; omega, by have := hA.2.2.1; have := hA.2.2.2.2.1; omega⟩ (fun c_13 => ?_) (fun c_13 => ?_)
      · have epl : pl n c = m := by
          rw [hpl]
          rcases Nat.eq_zero_or_pos m with e | e
          · rw [e]; rfl
          · have h9 : c (m - 1) ≠ 0 := fun h8 => by
              have h7 : (c (m - 1)).sign = 0 := (by rw [h8]; rfl)
              omega
            have := pln_t (c := c) (k := m - 1) h9
            rwa [show m - 1 + 1 = m by omega] at this
        refine v_vret E hE dX3_init_49 ?_
        exact ⟨rfl, Po.of h13 hz_13 (by rw [epl]; exact hA_11) (by rw [epl]; exact hel_12) (hD1 _ hSl) (fun h => hD1 _ (hSb (capR_0 h)))⟩
      · refine v_aload_n E 1 rfl dX3_init_16 ?_
        refine v_aload_n E 1 rfl dX3_init_17 ?_
        refine V.frame (fun hfz_fr_15 hfk_fr_15 => ?_)
        rw [hH0] at hfz_fr_15 hfk_fr_15
        rw [hA0] at hfk_fr_15
        have hC_fr_15 := hC.call hA93 hfz_fr_15 hfk_fr_15
        refine v_callV E (As := []) (b := l) (ci := 5) (C := RJ2) (T := TJ2) (N := 3) hz_14 rfl (j_size κ H_7 hA_11) (lw_V q151 q152 q153 q73 q154) 0 (by decide +kernel) rfl (by decide) (by decide) (cb' := 0) (sb' := 0) (by decide) (by decide) rfl (rest := [.ref l]) (Nat.le_of_ble_eq_true rfl) (fun q h => h.elim) dX3_init_18 (fun v_16 H_17 hpost_18 hz_19 hk_20 => ?_)
        obtain rfl := hpost_18
        have hA_21 := AL.kf hC_fr_15 (kF.ext hz_19 hk_20) hA_11 (fun h => h) (fun _ h => h)
        have hel_22 : ∀ k, k < m → ∃ y, g k = some y ∧ BI κ H_17 y (c k) := fun k hk => (hel_12 k hk).elim (fun y hy => ⟨y, hy.1, hy.2.ext (fun q hq => hk_20 q hq (fun h => h))⟩)
        have hz_23 := hz_13.kept (hk_20 _ hz_13.lt (fun h => h))
        have hz_24 := hz_14.kept (hk_20 _ hz_14.lt (fun h => h))
        refine V.eq (st' := [vi (m : Int), .ref l]) rfl ?_
        refine v_iconst E dX3_init_21 ?_
        refine v_isub E dX3_init_22 ?_
        obtain ⟨y, hy, hBy⟩ := hel_22 (m - 1) (by omega)
        refine V.topi (x' := ((m - 1 : Nat) : Int)) (congrArg iZ (by omega)) ?_
        refine V.frame (fun hfz_fr_25 hfk_fr_25 => ?_)
        rw [hH0] at hfz_fr_25 hfk_fr_25
        rw [hA0] at hfk_fr_25
        have hC_fr_25 := hC.call hA93 hfz_fr_25 hfk_fr_25
        refine v_callV E (As := [vi ((m - 1 : Nat) : Int)]) (b := l) (ci := 5) (C := RJ2) (T := TJ2) (N := 3) hz_24 rfl (j_get κ H_17 (i := m - 1) (y := y) (by omega) hy hA_21) (lw_V q155 q156 q157 q73 q158) 1 (by decide +kernel) rfl (by decide) (by decide) (cb' := 0) (sb' := 0) (by decide) (by decide) rfl (rest := []) (Nat.le_of_ble_eq_true rfl) (fun q h => h.elim) dX3_init_23 (fun v_26 H_27 hpost_28 hz_29 hk_30 => ?_)
        obtain rfl := hpost_28
        have hA_31 := AL.kf hC_fr_25 (kF.ext hz_29 hk_30) hA_21 (fun h => h) (fun _ h => h)
        have hel_32 : ∀ k, k < m → ∃ y, g k = some y ∧ BI κ H_27 y (c k) := fun k hk => (hel_22 k hk).elim (fun y hy => ⟨y, hy.1, hy.2.ext (fun q hq => hk_30 q hq (fun h => h))⟩)
        have hz_33 := hz_23.kept (hk_30 _ hz_23.lt (fun h => h))
        have hz_34 := hz_24.kept (hk_30 _ hz_24.lt (fun h => h))
        have hBy1 := hBy.ext (fun q hq => hk_30 q hq (fun h => h))
        obtain ⟨my, ny, cfy, ⟨c1y, c2y, c3y, hoy⟩, -⟩ := id hBy1
        refine V.eq (st' := [.ref y]) rfl ?_
        refine v_castS E hoy (q := (RJ16, TJ16, 6)) rfl q169 dX3_init_26 ?_
        refine V.frame (fun hfz_fr_35 hfk_fr_35 => ?_)
        rw [hH0] at hfz_fr_35 hfk_fr_35
        rw [hA0] at hfk_fr_35
        have hC_fr_35 := hC.call hA93 hfz_fr_35 hfk_fr_35
        refine v_callV E (As := []) (b := y) (ci := 6) (C := RJ16) (T := TJ16) (N := 6) hoy rfl (g_signum κ H_27 hBy1) (lw_V q170 q171 q172 q91 q173) 0 (by decide +kernel) rfl (by decide) (by decide) (cb' := 0) (sb' := 0) (by decide) (by decide) rfl (rest := []) (Nat.le_of_ble_eq_true rfl) (fun q h => h.elim) dX3_init_29 (fun v_36 H_37 hpost_38 hz_39 hk_40 => ?_)
        obtain rfl := hpost_38
        have hA_41 := AL.kf hC_fr_35 (kF.ext hz_39 hk_40) hA_31 (fun h => h) (fun _ h => h)
        have hel_42 : ∀ k, k < m → ∃ y, g k = some y ∧ BI κ H_37 y (c k) := fun k hk => (hel_32 k hk).elim (fun y hy => ⟨y, hy.1, hy.2.ext (fun q hq => hk_40 q hq (fun h => h))⟩)
        have hz_43 := hz_33.kept (hk_40 _ hz_33.lt (fun h => h))
        have hz_44 := hz_34.kept (hk_40 _ hz_34.lt (fun h => h))
        have hz_45 := hoy.kept (hk_40 _ hoy.lt (fun h => h))
        refine V.eq (st' := [vi ((c (m - 1)).sign)]) rfl ?_
        refine v_if_ne E (tgt := 49) dX3_init_32 (by decide) (rsign _) (fun c_32 => ?_) (fun c_32 => ?_)
        · have epl : pl n c = m := by
            rw [hpl]
            rcases Nat.eq_zero_or_pos m with e | e
            · rw [e]; rfl
            · have h9 : c (m - 1) ≠ 0 := fun h8 => by
                have h7 : (c (m - 1)).sign = 0 := (by rw [h8]; rfl)
                omega
              have := pln_t (c := c) (k := m - 1) h9
              rwa [show m - 1 + 1 = m by omega] at this
          refine v_vret E hE dX3_init_49 ?_
          exact ⟨rfl, Po.of h13 hz_43 (by rw [epl]; exact hA_41) (by rw [epl]; exact hel_42) (hD1 _ hSl) (fun h => hD1 _ (hSb (capR_0 h)))⟩
        · refine v_aload_n E 1 rfl dX3_init_35 ?_
          refine v_aload_n E 1 rfl dX3_init_36 ?_
          refine V.frame (fun hfz_fr_46 hfk_fr_46 => ?_)
          rw [hH0] at hfz_fr_46 hfk_fr_46
          rw [hA0] at hfk_fr_46
          have hC_fr_46 := hC.call hA93 hfz_fr_46 hfk_fr_46
          refine v_callV E (As := []) (b := l) (ci := 5) (C := RJ2) (T := TJ2) (N := 3) hz_44 rfl (j_size κ H_37 hA_41) (lw_V q151 q152 q153 q73 q154) 0 (by decide +kernel) rfl (by decide) (by decide) (cb' := 0) (sb' := 0) (by decide) (by decide) rfl (rest := [.ref l]) (Nat.le_of_ble_eq_true rfl) (fun q h => h.elim) dX3_init_37 (fun v_47 H_48 hpost_49 hz_50 hk_51 => ?_)
          obtain rfl := hpost_49
          have hA_52 := AL.kf hC_fr_46 (kF.ext hz_50 hk_51) hA_41 (fun h => h) (fun _ h => h)
          have hel_53 : ∀ k, k < m → ∃ y, g k = some y ∧ BI κ H_48 y (c k) := fun k hk => (hel_42 k hk).elim (fun y hy => ⟨y, hy.1, hy.2.ext (fun q hq => hk_51 q hq (fun h => h))⟩)
          have hz_54 := hz_43.kept (hk_51 _ hz_43.lt (fun h => h))
          have hz_55 := hz_44.kept (hk_51 _ hz_44.lt (fun h => h))
          have hz_56 := hz_45.kept (hk_51 _ hz_45.lt (fun h => h))
          refine V.eq (st' := [vi (m : Int), .ref l]) rfl ?_
          refine v_iconst E dX3_init_40 ?_
          refine v_isub E dX3_init_41 ?_
          refine V.topi (x' := ((m - 1 : Nat) : Int)) (congrArg iZ (by omega)) ?_
          refine V.frame (fun hfz_fr_57 hfk_fr_57 => ?_)
          rw [hH0] at hfz_fr_57 hfk_fr_57
          rw [hA0] at hfk_fr_57
          have hC_fr_57 := hC.call hA93 hfz_fr_57 hfk_fr_57
          refine v_callV E (As := [vi ((m - 1 : Nat) : Int)]) (b := l) (ci := 5) (C := RJ2) (T := TJ2) (N := 3) hz_55 rfl (j_rm κ H_48 hC_fr_57 (i := m - 1) (y := y) (by omega) hy hA_52) (lw_V q174 q175 q176 q73 q177) 1 (by decide +kernel) rfl (by decide) (by decide) (cb' := 0) (sb' := 0) (by decide) (by decide) rfl (rest := []) (Nat.le_of_ble_eq_true rfl) (fun q h => hAll q (Or.inr (h.imp id (fun h => ⟨h, by omega⟩)))) dX3_init_42 (fun v_58 H_59 hpost_60 hz_61 hk_62 => ?_)
          obtain ⟨rfl, md7, g7, hA7, hg7⟩ := hpost_60
          have hF7 := kF.lst hA_52 (A := fun q => q = l ∨ q = b) (fun q h => h.imp id (fun h => ⟨h, by have := hA_52.2.2.1; omega⟩)) hz_61 hk_62
          have hel7 : ∀ k, k < m - 1 → ∃ y, g7 k = some y ∧ BI κ H_59 y (c k) := fun k hk => by
            obtain ⟨y, e1, e2⟩ := hel_53 k (by omega)
            exact ⟨y, (hg7 k hk).trans ((if_pos hk).trans e1), e2.kf hC.D hF7⟩
          have hz0 : c (m - 1) = 0 := sg_zero (by omega)
          have hz_63 := hz_54.kept (hk_62 _ hz_54.lt (fun h => h.elim (fun h => hne_l_p h.symm) (fun h => hne_b_p h.symm)))
          refine V.eq (st' := [.ref y]) rfl ?_
          refine v_pop E rfl dX3_init_45 ?_
          refine v_goto E (tgt := 9) dX3_init_46 (by decide) ?_
          exact ih_9  H_59 (m - 1) _ _ (by omega) (by omega) (hpl.trans (by have := pln_s (c := c) (k := m - 1) hz0; rwa [show m - 1 + 1 = m by omega] at this)) hz_63 hA7 hel7
  exact loop_9 (n + 1) H_3 n md g (by omega) (Nat.le_refl n) rfl ho_1 hA9 hel9

set_option maxHeartbeats 400000 in
set_option maxRecDepth 100000 in
/-- degree -/
theorem p_deg (κ : zK) (H0 : Heap) {p : Nat} {P : Pl} {D : Nat → Prop} (hC : CO κ H0) (hP : Po κ D H0 p P)  : Mt κ yX3_degree cX3_degree 1 (some .int) 1 20 0 0 H0 [.ref p] (fun _ => False) (fun v H1 => v = some (vi ((P.1 : Int) - 1))) := by
  refine Mt.of (by decide) (Nat.le_of_ble_eq_true rfl) ?_
  intro z E hE hH0 hA0 hL hini
  have hAll : ∀ q, (fun _ => False) q → zA z.A z.H0 q := fun q h => Or.inl (by rw [hA0]; exact h)
  have hNew : ∀ q, H0.size ≤ q → zA z.A z.H0 q := fun q h => Or.inr (by rw [hH0]; exact h)
  have E : zOK z cX3_degree RX3 κ 1 20 (some .int) := E
  refine V.eqL (lv' := [(0, .ref p)]) rfl ?_
  obtain ⟨hnf, h13, l, hop, b, cap, md, g, hA, hel, hDl, hDb⟩ := id hP
  refine v_aload_n E 0 rfl dX3_degree_0 ?_
  refine V.frame (fun hfz_fr_1 hfk_fr_1 => ?_)
  rw [hH0] at hfz_fr_1 hfk_fr_1
  rw [hA0] at hfk_fr_1
  have hC_fr_1 := hC.call (fun q h => h.elim) hfz_fr_1 hfk_fr_1
  have hF_fr_1 : kF κ H0 H0 (fun _ => False) := ⟨(fun _ h => h.elim), hfz_fr_1, hfk_fr_1⟩
  have hb_2 := hF_fr_1.at hop (fun h => h)
  refine v_getf E in_X3 hb_2 (ci := 2) rfl 0 (by decide) q185 rfl (v := .ref l) rfl dX3_degree_1 ?_
  have hb_8 := hF_fr_1.at hA.1 (fun h => h)
  refine v_callV E (As := []) (b := l) (ci := 5) (C := RJ2) (T := TJ2) (N := 3) hb_8 rfl (j_size κ H0 (hA.kf hC hF_fr_1 (fun h => h) (fun _ h => h))) (lw_V q151 q152 q153 q73 q154) 0 (by decide +kernel) rfl (by decide) (by decide) (cb' := 0) (sb' := 0) (by decide) (by decide) rfl (rest := []) (Nat.le_of_ble_eq_true rfl) (fun q h => h.elim) dX3_degree_4 (fun v_3 H_4 hpost_5 hz_6 hk_7 => ?_)
  obtain rfl := hpost_5
  refine V.eq (st' := [vi (P.1 : Int)]) rfl ?_
  refine v_iconst E dX3_degree_7 ?_
  refine v_isub E dX3_degree_8 ?_
  refine v_iret E hE dX3_degree_9 ?_
  rfl

set_option maxHeartbeats 400000 in
set_option maxRecDepth 100000 in
/-- valueOf, a small one -/
theorem g_valS (κ : zK) (H0 : Heap) {x : Int} (hC : CO κ H0) (hx : -16 ≤ x ∧ x ≤ 16)  : Mt κ yJ16_valueOf cJ16_valueOf 2 (some (.object "java/math/BigInteger")) 0 0 0 0 H0 [vj x] (fun _ => False) (fun v H1 => ∃ q : Nat, v = some (.ref q) ∧ BI κ H1 q x) := by
  refine Mt.of (by decide) (Nat.le_of_ble_eq_true rfl) ?_
  intro z E hE hH0 hA0 hL hini
  have hAll : ∀ q, (fun _ => False) q → zA z.A z.H0 q := fun q h => Or.inl (by rw [hA0]; exact h)
  have hNew : ∀ q, H0.size ≤ q → zA z.A z.H0 q := fun q h => Or.inr (by rw [hH0]; exact h)
  have E : zOK z cJ16_valueOf RJ16 κ 0 0 (some (.object "java/math/BigInteger")) := E
  refine V.eqL (lv' := [(0, vj x)]) rfl ?_
  refine v_lload_n E 0 rfl dJ16_valueOf_0 ?_
  refine v_lconst E (x := 0) rfl dJ16_valueOf_1 ?_
  refine v_lc_ne E (tgt := 10) dJ16_valueOf_2 dJ16_valueOf_3 (by decide) ⟨by omega, by omega⟩ ⟨by omega, by omega⟩ (fun c_2 => ?_) (fun c_2 => ?_)
  · refine v_lload_n E 0 rfl dJ16_valueOf_10 ?_
    refine v_lconst E (x := 0) rfl dJ16_valueOf_11 ?_
    refine v_lc_le E (tgt := 31) dJ16_valueOf_12 dJ16_valueOf_13 (by decide) ⟨by omega, by omega⟩ ⟨by omega, by omega⟩ (fun c_12 => ?_) (fun c_12 => ?_)
    · refine v_lload_n E 0 rfl dJ16_valueOf_31 ?_
      refine v_lconst E (x := 0) rfl dJ16_valueOf_32 ?_
      refine v_lc_ge E (tgt := 53) dJ16_valueOf_33 dJ16_valueOf_34 (by decide) ⟨by omega, by omega⟩ ⟨by omega, by omega⟩ (fun c_33 => absurd c_33 (by omega)) (fun c_33 => ?_)
      refine v_lload_n E 0 rfl dJ16_valueOf_37 ?_
      refine v_ldc2 E q482 dJ16_valueOf_38 ?_
      refine V.eq (st' := vj (-16) :: _) rfl ?_
      refine v_lc_lt E (tgt := 53) dJ16_valueOf_41 dJ16_valueOf_42 (by decide) ⟨by omega, by omega⟩ ⟨by omega, by omega⟩ (fun c_41 => absurd c_41 (by omega)) (fun c_41 => ?_)
      refine v_gets E 2 rfl q483 hC.s2 dJ16_valueOf_45 ?_
      refine v_lload_n E 0 rfl dJ16_valueOf_48 ?_
      refine v_lneg E dJ16_valueOf_49 ?_
      refine v_l2i E dJ16_valueOf_50 ?_
      refine v_aaldS E dJ16_valueOf_51 hC.2.2.2.2.2.2.2.2.2.1 (t := 5) (ty := (.object "java/math/BigInteger")) rfl rfl ((-x).toNat) (by omega) (by omega) (by omega) (b := κ.2 (250 + ((-x).toNat))) (if_neg (by omega)) ?_
      refine v_aret E hE rfl (Or.inl ⟨_, rfl⟩) dJ16_valueOf_52 (Or.inr ⟨_, rfl⟩) ?_
      exact ⟨_, rfl, _, _, _, by have := (hC.2.2.2.2.2.2.2.2.2.2.2.1 (-x).toNat (by omega) (by omega)).2; rw [show -(((-x).toNat : Nat) : Int) = x by omega] at this; exact this⟩
    · refine v_lload_n E 0 rfl dJ16_valueOf_16 ?_
      refine v_ldc2 E q479 dJ16_valueOf_17 ?_
      refine V.eq (st' := vj 16 :: _) rfl ?_
      refine v_lc_gt E (tgt := 31) dJ16_valueOf_20 dJ16_valueOf_21 (by decide) ⟨by omega, by omega⟩ ⟨by omega, by omega⟩ (fun c_20 => absurd c_20 (by omega)) (fun c_20 => ?_)
      refine v_gets E 1 rfl q480 hC.s1 dJ16_valueOf_24 ?_
      refine v_lload_n E 0 rfl dJ16_valueOf_27 ?_
      refine v_l2i E dJ16_valueOf_28 ?_
      refine v_aaldS E dJ16_valueOf_29 hC.2.2.2.2.2.2.2.2.1 (t := 5) (ty := (.object "java/math/BigInteger")) rfl rfl x.toNat (by omega) (by omega) (by omega) (b := κ.2 (200 + x.toNat)) (if_neg (by omega)) ?_
      refine v_aret E hE rfl (Or.inl ⟨_, rfl⟩) dJ16_valueOf_30 (Or.inr ⟨_, rfl⟩) ?_
      exact ⟨_, rfl, _, _, _, by have := (hC.2.2.2.2.2.2.2.2.2.2.2.1 x.toNat (by omega) (by omega)).1; rw [show ((x.toNat : Nat) : Int) = x by omega] at this; exact this⟩
  · refine v_gets E 0 rfl q477 hC.s0 dJ16_valueOf_6 ?_
    refine v_aret E hE rfl (Or.inl ⟨_, rfl⟩) dJ16_valueOf_9 (Or.inr ⟨_, rfl⟩) ?_
    exact ⟨_, rfl, by rw [show x = 0 by omega]; exact ⟨_, _, _, hC.2.2.2.2.2.2.2.2.2.2.1⟩⟩

set_option maxHeartbeats 400000 in
set_option maxRecDepth 100000 in
theorem p_numS (κ : zK) (H0 : Heap) {x : Int} (hC : CO κ H0) (hx : -16 ≤ x ∧ x ≤ 16)  : Mt κ yX1_number cX1_number 2 (some (.object "java/math/BigInteger")) 1 21 0 0 H0 [vj x] (fun _ => False) (fun v H1 => ∃ q : Nat, v = some (.ref q) ∧ BI κ H1 q x) := by
  refine Mt.of (by decide) (Nat.le_of_ble_eq_true rfl) ?_
  intro z E hE hH0 hA0 hL hini
  have hAll : ∀ q, (fun _ => False) q → zA z.A z.H0 q := fun q h => Or.inl (by rw [hA0]; exact h)
  have hNew : ∀ q, H0.size ≤ q → zA z.A z.H0 q := fun q h => Or.inr (by rw [hH0]; exact h)
  have E : zOK z cX1_number RX1 κ 1 21 (some (.object "java/math/BigInteger")) := E
  refine V.eqL (lv' := [(0, vj x)]) rfl ?_
  refine v_lload_n E 0 rfl dX1_number_0 ?_
  refine V.frame (fun hfz_fr_1 hfk_fr_1 => ?_)
  rw [hH0] at hfz_fr_1 hfk_fr_1
  rw [hA0] at hfk_fr_1
  have hC_fr_1 := hC.call (fun q h => h.elim) hfz_fr_1 hfk_fr_1
  have hF_fr_1 : kF κ H0 H0 (fun _ => False) := ⟨(fun _ h => h.elim), hfz_fr_1, hfk_fr_1⟩
  refine v_callS E (As := [vj x]) (g_valS κ H0 hC hx) (lw_S q474 q475 q91 q476) 1 (by decide +kernel) rfl (by decide) (by decide) (cb' := 0) (sb' := 0) (by decide) (by decide) rfl (rest := []) (Nat.le_of_ble_eq_true rfl) (fun q h => h.elim) dX1_number_1 (fun v_2 H_3 hpost_4 hz_5 hk_6 => ?_)
  obtain ⟨q, rfl, hB⟩ := hpost_4
  refine V.eq (st' := [.ref q]) rfl ?_
  refine v_aret E hE rfl (Or.inl ⟨_, rfl⟩) dX1_number_4 (Or.inr ⟨_, rfl⟩) ?_
  exact ⟨q, rfl, hB⟩

set_option maxHeartbeats 400000 in
set_option maxRecDepth 100000 in
theorem p_num (κ : zK) (H0 : Heap) {x : Int} (hC : CO κ H0) (hx : -4611686018427387904 ≤ x ∧ x ≤ 4611686018427387904)  : Mt κ yX1_number cX1_number 2 (some (.object "java/math/BigInteger")) 4 76 2 8 H0 [vj x] (fun _ => False) (fun v H1 => ∃ q : Nat, v = some (.ref q) ∧ BI κ H1 q x) := by
  refine Mt.of (by decide) (Nat.le_of_ble_eq_true rfl) ?_
  intro z E hE hH0 hA0 hL hini
  have hAll : ∀ q, (fun _ => False) q → zA z.A z.H0 q := fun q h => Or.inl (by rw [hA0]; exact h)
  have hNew : ∀ q, H0.size ≤ q → zA z.A z.H0 q := fun q h => Or.inr (by rw [hH0]; exact h)
  have E : zOK z cX1_number RX1 κ 4 76 (some (.object "java/math/BigInteger")) := E
  refine V.eqL (lv' := [(0, vj x)]) rfl ?_
  refine v_lload_n E 0 rfl dX1_number_0 ?_
  refine V.frame (fun hfz_fr_1 hfk_fr_1 => ?_)
  rw [hH0] at hfz_fr_1 hfk_fr_1
  rw [hA0] at hfk_fr_1
  have hC_fr_1 := hC.call (fun q h => h.elim) hfz_fr_1 hfk_fr_1
  have hF_fr_1 : kF κ H0 H0 (fun _ => False) := ⟨(fun _ h => h.elim), hfz_fr_1, hfk_fr_1⟩
  refine v_callS E (As := [vj x]) (g_valueOf κ H0 hC hx) (lw_S q474 q475 q91 q476) 1 (by decide +kernel) rfl (by decide) (by decide) (cb' := 0) (sb' := 0) (by decide) (by decide) rfl (rest := []) (Nat.le_of_ble_eq_true rfl) (fun q h => h.elim) dX1_number_1 (fun v_2 H_3 hpost_4 hz_5 hk_6 => ?_)
  obtain ⟨q, rfl, hB⟩ := hpost_4
  refine V.eq (st' := [.ref q]) rfl ?_
  refine v_aret E hE rfl (Or.inl ⟨_, rfl⟩) dX1_number_4 (Or.inr ⟨_, rfl⟩) ?_
  exact ⟨q, rfl, hB⟩

set_option maxHeartbeats 400000 in
set_option maxRecDepth 100000 in
/-- at -/
theorem p_at (κ : zK) (H0 : Heap) {i : Nat} (hi : i ≤ 1000) {p : Nat} {P : Pl} {D : Nat → Prop} (hC : CO κ H0) (hP : Po κ D H0 p P)  : Mt κ yX3_at cX3_at 2 (some (.object "java/math/BigInteger")) 3 64 0 0 H0 [.ref p, vi (i : Int)] (fun _ => False) (fun v H1 => ∃ q : Nat, v = some (.ref q) ∧ BI κ H1 q (P.2 i)) := by
  refine Mt.of (by decide) (Nat.le_of_ble_eq_true rfl) ?_
  intro z E hE hH0 hA0 hL hini
  have hAll : ∀ q, (fun _ => False) q → zA z.A z.H0 q := fun q h => Or.inl (by rw [hA0]; exact h)
  have hNew : ∀ q, H0.size ≤ q → zA z.A z.H0 q := fun q h => Or.inr (by rw [hH0]; exact h)
  have E : zOK z cX3_at RX3 κ 3 64 (some (.object "java/math/BigInteger")) := E
  refine V.eqL (lv' := [(0, .ref p), (1, vi (i : Int))]) rfl ?_
  obtain ⟨hnf, h13, l, hop, b, cap, md, g, hA, hel, hDl, hDb⟩ := id hP
  refine v_iload_n E 1 rfl dX3_at_0 ?_
  refine v_aload_n E 0 rfl dX3_at_1 ?_
  refine V.frame (fun hfz_fr_1 hfk_fr_1 => ?_)
  rw [hH0] at hfz_fr_1 hfk_fr_1
  rw [hA0] at hfk_fr_1
  have hC_fr_1 := hC.call (fun q h => h.elim) hfz_fr_1 hfk_fr_1
  have hF_fr_1 : kF κ H0 H0 (fun _ => False) := ⟨(fun _ h => h.elim), hfz_fr_1, hfk_fr_1⟩
  have hb_2 := hF_fr_1.at hop (fun h => h)
  refine v_getf E in_X3 hb_2 (ci := 2) rfl 0 (by decide) q185 rfl (v := .ref l) rfl dX3_at_2 ?_
  have hb_8 := hF_fr_1.at hA.1 (fun h => h)
  refine v_callV E (As := []) (b := l) (ci := 5) (C := RJ2) (T := TJ2) (N := 3) hb_8 rfl (j_size κ H0 (hA.kf hC hF_fr_1 (fun h => h) (fun _ h => h))) (lw_V q151 q152 q153 q73 q154) 0 (by decide +kernel) rfl (by decide) (by decide) (cb' := 0) (sb' := 0) (by decide) (by decide) rfl (rest := [vi (i : Int)]) (Nat.le_of_ble_eq_true rfl) (fun q h => h.elim) dX3_at_5 (fun v_3 H_4 hpost_5 hz_6 hk_7 => ?_)
  obtain rfl := hpost_5
  refine V.eq (st' := [vi (P.1 : Int), vi (i : Int)]) rfl ?_
  refine v_icmp_ge E (tgt := 25) dX3_at_8 (by decide) ⟨by omega, by omega⟩ ⟨by omega, by omega⟩ (fun c_8 => ?_) (fun c_8 => ?_)
  · refine v_lconst E (x := 0) rfl dX3_at_25 ?_
    refine V.frame (fun hfz_fr_9 hfk_fr_9 => ?_)
    rw [hH0] at hfz_fr_9 hfk_fr_9
    rw [hA0] at hfk_fr_9
    have hC_fr_9 := hC.call (fun q h => h.elim) hfz_fr_9 hfk_fr_9
    have hF_fr_9 : kF κ H0 H_4 (fun _ => False) := ⟨(fun _ h => h.elim), hfz_fr_9, hfk_fr_9⟩
    refine v_callSN (host := "SturmRoots") E (As := [vj 0]) (p_numS κ H_4 hC_fr_9 ⟨by decide, by decide⟩) (lw_meth q473) (by decide +kernel) q70 q472 1 (by decide +kernel) rfl (by decide) (by decide) (cb' := 0) (sb' := 0) (by decide) (by decide) rfl (rest := []) (Nat.le_of_ble_eq_true rfl) (fun q h => h.elim) dX3_at_26 (fun v_10 H_11 hpost_12 hz_13 hk_14 => ?_)
    obtain ⟨q, rfl, hB⟩ := hpost_12
    refine V.eq (st' := [.ref q]) rfl ?_
    refine v_aret E hE rfl (Or.inl ⟨_, rfl⟩) dX3_at_29 (Or.inr ⟨_, rfl⟩) ?_
    exact ⟨q, rfl, by rw [hnf.2 i (by omega)]; exact hB⟩
  · obtain ⟨y, hy, hBy⟩ := hel i (by omega)
    refine v_aload_n E 0 rfl dX3_at_11 ?_
    refine V.frame (fun hfz_fr_15 hfk_fr_15 => ?_)
    rw [hH0] at hfz_fr_15 hfk_fr_15
    rw [hA0] at hfk_fr_15
    have hC_fr_15 := hC.call (fun q h => h.elim) hfz_fr_15 hfk_fr_15
    have hF_fr_15 : kF κ H0 H_4 (fun _ => False) := ⟨(fun _ h => h.elim), hfz_fr_15, hfk_fr_15⟩
    have hb_16 := hF_fr_15.at hop (fun h => h)
    refine v_getf E in_X3 hb_16 (ci := 2) rfl 0 (by decide) q185 rfl (v := .ref l) rfl dX3_at_12 ?_
    refine v_iload_n E 1 rfl dX3_at_15 ?_
    have hb_22 := hF_fr_15.at hA.1 (fun h => h)
    refine v_callV E (As := [vi (i : Int)]) (b := l) (ci := 5) (C := RJ2) (T := TJ2) (N := 3) hb_22 rfl (j_get κ H_4 (i := i) (y := y) (by omega) hy (hA.kf hC hF_fr_15 (fun h => h) (fun _ h => h))) (lw_V q155 q156 q157 q73 q158) 1 (by decide +kernel) rfl (by decide) (by decide) (cb' := 0) (sb' := 0) (by decide) (by decide) rfl (rest := []) (Nat.le_of_ble_eq_true rfl) (fun q h => h.elim) dX3_at_16 (fun v_17 H_18 hpost_19 hz_20 hk_21 => ?_)
    obtain rfl := hpost_19
    refine V.frame (fun hfz_fr_23 hfk_fr_23 => ?_)
    rw [hH0] at hfz_fr_23 hfk_fr_23
    rw [hA0] at hfk_fr_23
    have hC_fr_23 := hC.call (fun q h => h.elim) hfz_fr_23 hfk_fr_23
    have hF_fr_23 : kF κ H0 H_18 (fun _ => False) := ⟨(fun _ h => h.elim), hfz_fr_23, hfk_fr_23⟩
    refine V.eq (st' := [.ref y]) rfl ?_
    obtain ⟨mz_25, nz_25, cfz_25, ⟨c1z_25, c2z_25, c3z_25, ho_24⟩, -⟩ := id (hBy.kf hC.D hF_fr_23)
    refine v_castS E ho_24 (q := (RJ16, TJ16, 6)) rfl q169 dX3_at_19 ?_
    refine v_goto E (tgt := 29) dX3_at_22 (by decide) ?_
    refine v_aret E hE rfl (Or.inl ⟨_, rfl⟩) dX3_at_29 (Or.inr ⟨_, rfl⟩) ?_
    exact ⟨y, rfl, (hBy.kf hC.D hF_fr_23)⟩

set_option maxHeartbeats 400000 in
set_option maxRecDepth 100000 in
/-- leading -/
theorem p_lead (κ : zK) (H0 : Heap) {p : Nat} {P : Pl} {D : Nat → Prop} (h0 : 0 < P.1) (hC : CO κ H0) (hP : Po κ D H0 p P)  : Mt κ yX3_leading cX3_leading 1 (some (.object "java/math/BigInteger")) 3 64 0 0 H0 [.ref p] (fun _ => False) (fun v H1 => ∃ q : Nat, v = some (.ref q) ∧ BI κ H1 q (P.2 (P.1 - 1))) := by
  refine Mt.of (by decide) (Nat.le_of_ble_eq_true rfl) ?_
  intro z E hE hH0 hA0 hL hini
  have hAll : ∀ q, (fun _ => False) q → zA z.A z.H0 q := fun q h => Or.inl (by rw [hA0]; exact h)
  have hNew : ∀ q, H0.size ≤ q → zA z.A z.H0 q := fun q h => Or.inr (by rw [hH0]; exact h)
  have E : zOK z cX3_leading RX3 κ 3 64 (some (.object "java/math/BigInteger")) := E
  refine V.eqL (lv' := [(0, .ref p)]) rfl ?_
  obtain ⟨hnf, h13, l, hop, b, cap, md, g, hA, hel, hDl, hDb⟩ := id hP
  refine v_aload_n E 0 rfl dX3_leading_0 ?_
  refine V.frame (fun hfz_fr_1 hfk_fr_1 => ?_)
  rw [hH0] at hfz_fr_1 hfk_fr_1
  rw [hA0] at hfk_fr_1
  have hC_fr_1 := hC.call (fun q h => h.elim) hfz_fr_1 hfk_fr_1
  have hF_fr_1 : kF κ H0 H0 (fun _ => False) := ⟨(fun _ h => h.elim), hfz_fr_1, hfk_fr_1⟩
  have hb_2 := hF_fr_1.at hop (fun h => h)
  refine v_getf E in_X3 hb_2 (ci := 2) rfl 0 (by decide) q185 rfl (v := .ref l) rfl dX3_leading_1 ?_
  refine v_aload_n E 0 rfl dX3_leading_4 ?_
  have hb_3 := hF_fr_1.at hop (fun h => h)
  refine v_getf E in_X3 hb_3 (ci := 2) rfl 0 (by decide) q185 rfl (v := .ref l) rfl dX3_leading_5 ?_
  have hb_9 := hF_fr_1.at hA.1 (fun h => h)
  refine v_callV E (As := []) (b := l) (ci := 5) (C := RJ2) (T := TJ2) (N := 3) hb_9 rfl (j_size κ H0 (hA.kf hC hF_fr_1 (fun h => h) (fun _ h => h))) (lw_V q151 q152 q153 q73 q154) 0 (by decide +kernel) rfl (by decide) (by decide) (cb' := 0) (sb' := 0) (by decide) (by decide) rfl (rest := [.ref l]) (Nat.le_of_ble_eq_true rfl) (fun q h => h.elim) dX3_leading_8 (fun v_4 H_5 hpost_6 hz_7 hk_8 => ?_)
  obtain rfl := hpost_6
  refine V.eq (st' := [vi (P.1 : Int), .ref l]) rfl ?_
  refine v_iconst E dX3_leading_11 ?_
  refine v_isub E dX3_leading_12 ?_
  obtain ⟨y, hy, hBy⟩ := hel (P.1 - 1) (by omega)
  refine V.topi (x' := ((P.1 - 1 : Nat) : Int)) (congrArg iZ (by omega)) ?_
  refine V.frame (fun hfz_fr_10 hfk_fr_10 => ?_)
  rw [hH0] at hfz_fr_10 hfk_fr_10
  rw [hA0] at hfk_fr_10
  have hC_fr_10 := hC.call (fun q h => h.elim) hfz_fr_10 hfk_fr_10
  have hF_fr_10 : kF κ H0 H_5 (fun _ => False) := ⟨(fun _ h => h.elim), hfz_fr_10, hfk_fr_10⟩
  have hb_16 := hF_fr_10.at hA.1 (fun h => h)
  refine v_callV E (As := [vi ((P.1 - 1 : Nat) : Int)]) (b := l) (ci := 5) (C := RJ2) (T := TJ2) (N := 3) hb_16 rfl (j_get κ H_5 (i := (P.1 - 1)) (y := y) (by omega) hy (hA.kf hC hF_fr_10 (fun h => h) (fun _ h => h))) (lw_V q155 q156 q157 q73 q158) 1 (by decide +kernel) rfl (by decide) (by decide) (cb' := 0) (sb' := 0) (by decide) (by decide) rfl (rest := []) (Nat.le_of_ble_eq_true rfl) (fun q h => h.elim) dX3_leading_13 (fun v_11 H_12 hpost_13 hz_14 hk_15 => ?_)
  obtain rfl := hpost_13
  refine V.frame (fun hfz_fr_17 hfk_fr_17 => ?_)
  rw [hH0] at hfz_fr_17 hfk_fr_17
  rw [hA0] at hfk_fr_17
  have hC_fr_17 := hC.call (fun q h => h.elim) hfz_fr_17 hfk_fr_17
  have hF_fr_17 : kF κ H0 H_12 (fun _ => False) := ⟨(fun _ h => h.elim), hfz_fr_17, hfk_fr_17⟩
  refine V.eq (st' := [.ref y]) rfl ?_
  obtain ⟨mz_19, nz_19, cfz_19, ⟨c1z_19, c2z_19, c3z_19, ho_18⟩, -⟩ := id (hBy.kf hC.D hF_fr_17)
  refine v_castS E ho_18 (q := (RJ16, TJ16, 6)) rfl q169 dX3_leading_16 ?_
  refine v_aret E hE rfl (Or.inl ⟨_, rfl⟩) dX3_leading_19 (Or.inr ⟨_, rfl⟩) ?_
  exact ⟨y, rfl, (hBy.kf hC.D hF_fr_17)⟩
