/-! BIG INTEGERS: as an int, as a long -/
theorem BI.upd {κ : zK} {H0 H1 : Heap} {a b : Nat} {x y : Int} (hD : zDist κ) (h0 : BI κ H0 a x) (h1 : BI κ H1 a x) (hk : ∀ q : Nat, q < H0.size → ¬ q = a → H1[q]? = H0[q]?) (hb : BI κ H0 b y) : BI κ H1 b y := by
  by_cases e : b = a
  · subst e
    rw [hb.inj h0]; exact h1
  · obtain ⟨m, n, cf, hj⟩ := hb
    obtain ⟨m2, n2, cf2, ⟨c1, c2, c3, ho⟩, _⟩ := h0
    exact ⟨m, n, cf, hj.kept (hk _ hj.lt.1 e) (hk _ hj.lt.2 (Ne.symm (hp.ka hD ho hj.2.1 (by decide) (by decide))))⟩
theorem ng_1 {X : Int} {k : Nat} (hz : ∀ j, j < k → dg X j = 0) : ng X k = 1 := by
  unfold ng
  rw [low0 hz, Int.sub_zero, Int.ediv_self (Int.ne_of_gt (p2 _))]
theorem ng_00 {X : Int} {t k : Nat} (ht : t < k) (hd : dg X t ≠ 0) : ng X k = 0 := by
  unfold ng
  have h1 := Int.emod_nonneg X (Int.ne_of_gt (p2 (32 * k)))
  have h2 := Int.emod_lt_of_pos X (p2 (32 * k))
  have h3 : X % 2 ^ (32 * k) ≠ 0 := by
    intro e
    have := dg_modn X ht
    rw [e, dg_z] at this
    exact hd this.symm
  exact Int.ediv_eq_zero_of_lt (by omega) (by omega)
theorem gi_neg1 {x : Int} {i t : Nat} (hx : x < 0) (hz : ∀ j, j < t → dg (x.natAbs : Int) j = 0) (hi : i ≤ t) : iZ (-(dg (x.natAbs : Int) i)) = iZ (dg x i) := by
  have h1 := dg_neg (x.natAbs : Int) i
  rw [show -(x.natAbs : Int) = x by omega, ng_1 (fun j hj => hz j (by omega))] at h1
  rw [h1]
  exact iZ_cong (by omega)
theorem gi_neg2 {x : Int} {i t : Nat} (hx : x < 0) (hd : dg (x.natAbs : Int) t ≠ 0) (hi : t < i) : iZ (-1 - dg (x.natAbs : Int) i) = iZ (dg x i) := by
  have h1 := dg_neg (x.natAbs : Int) i
  rw [show -(x.natAbs : Int) = x by omega, ng_00 hi hd, Int.zero_add] at h1
  rw [h1]
  exact iZ_cong (by omega)
theorem gi_far {x : Int} {i n : Nat} (h : isInts (x.natAbs : Int) n) (hi : n ≤ i) : iZ (dg x i) = iZ (if x < 0 then -1 else 0) := by
  have h0 := dg_hi (Int.natCast_nonneg _) h.2.1 hi
  by_cases c : x < 0
  · rw [if_pos c]
    obtain ⟨t, ht⟩ : ∃ t, dg (x.natAbs : Int) t ≠ 0 ∧ t < n := by
      refine Classical.byContradiction fun hc => ?_
      have := cmp_eq (y := 0) (ints_rU (Int.natCast_nonneg _) h) ⟨Int.le_refl 0, p2 _⟩ (fun j hj => by
        rw [dg_z]; exact Classical.byContradiction fun h9 => hc ⟨j, h9, hj⟩)
      omega
    have h1 := dg_neg (x.natAbs : Int) i
    rw [show -(x.natAbs : Int) = x by omega, ng_00 (by omega : t < i) ht.1, h0, Int.zero_add] at h1
    rw [h1]; exact iZ_cong (by decide)
  · rw [if_neg c]
    have e : (x.natAbs : Int) = x := by omega
    rw [e] at h0
    rw [h0]
theorem lv_eq (x : Int) : jZ ((dg x 1 % 4294967296) * 2 ^ 32 + dg x 0 % 4294967296) = jZ x := by
  rw [dg_m, dg_m, dg_0, dg_1]
  exact jZ_cong (by omega)
set_option maxHeartbeats 400000 in
set_option maxRecDepth 100000 in
/-- the first int that is not 0 -/
theorem g_fnz (κ : zK) (H0 : Heap) {a : Nat} {x : Int} (hC : CO κ H0) (hx : BI κ H0 a x)  : Mt κ yJ16_firstNonzeroIntNum cJ16_firstNonzeroIntNum 4 (some .int) 0 0 0 0 H0 [.ref a] (fun q => q = a ∧ κ.2 93 ≤ a) (fun v H1 => ∃ t : Nat, v = some (vi (t : Int)) ∧ t ≤ 48 ∧ (∀ j, j < t → dg (x.natAbs : Int) j = 0) ∧ (x ≠ 0 → dg (x.natAbs : Int) t ≠ 0) ∧ BI κ H1 a x) := by
  refine Mt.of (by decide) (Nat.le_of_ble_eq_true rfl) ?_
  intro z E hE hH0 hA0 hL hini
  have hAll : ∀ q, (fun q => q = a ∧ κ.2 93 ≤ a) q → zA z.A z.H0 q := fun q h => Or.inl (by rw [hA0]; exact h)
  have hNew : ∀ q, H0.size ≤ q → zA z.A z.H0 q := fun q h => Or.inr (by rw [hH0]; exact h)
  have E : zOK z cJ16_firstNonzeroIntNum RJ16 κ 0 0 (some .int) := E
  refine V.eqL (lv' := [(0, .ref a)]) rfl ?_
  obtain ⟨ma, na, cfa, ⟨c1a, c2a, c3a, hoa⟩, hma, hna, hcfa⟩ := hx
  change Hid _ at hcfa
  have hsa := sgn3 x
  have h48a := hna.1
  have hrc : 0 ≤ cfa ∧ cfa ≤ 50 := by unfold Hid at hcfa; rcases hcfa.1 with h | ⟨t, h, h2, h3⟩ <;> exact ⟨by omega, by omega⟩
  refine v_aload_n E 0 rfl dJ16_firstNonzeroIntNum_0 ?_
  refine v_getf E in_J16 hoa (ci := 6) rfl 5 (by decide) q497 rfl (v := vi cfa) rfl dJ16_firstNonzeroIntNum_1 ?_
  refine v_iconst E dJ16_firstNonzeroIntNum_4 ?_
  refine v_isub E dJ16_firstNonzeroIntNum_5 ?_
  refine v_istore_n E dJ16_firstNonzeroIntNum_6 (zlt hL rfl) (lv' := [(1, vi (cfa - 2)), (0, .ref a)]) rfl ?_
  refine v_iload_n E 0 rfl dJ16_firstNonzeroIntNum_7 ?_
  refine v_bipush E ⟨by decide, by decide⟩ dJ16_firstNonzeroIntNum_8 ?_
  refine v_icmp_ne E (tgt := 55) dJ16_firstNonzeroIntNum_10 (by decide) ⟨by have := hrc.1; omega, by have := hrc.2; omega⟩ ⟨by omega, by omega⟩ (fun c_10 => ?_) (fun c_10 => ?_)
  · refine v_iload_n E 0 rfl dJ16_firstNonzeroIntNum_55 ?_
    refine v_iret E hE dJ16_firstNonzeroIntNum_56 ?_
    have hcg := hcfa
    unfold Hid at hcg
    rcases hcg.1 with h | ⟨t, h1, h2, h3, h4⟩
    · omega
    · exact ⟨t, congrArg (fun t => some (vi t)) (by omega), h2, h3, h4, ⟨ma, na, cfa, ⟨c1a, c2a, c3a, hoa⟩, hma, hna, hcfa⟩⟩
  · refine v_aload_n E 1 rfl dJ16_firstNonzeroIntNum_13 ?_
    refine v_getf E in_J16 hoa (ci := 6) rfl 1 (by decide) q496 rfl (v := .ref ma) rfl dJ16_firstNonzeroIntNum_14 ?_
    refine v_alen E dJ16_firstNonzeroIntNum_17 (t := 0) (ty := .int) hma rfl ?_
    refine v_istore_n E dJ16_firstNonzeroIntNum_18 (zlt hL rfl) (lv' := [(3, vi (na : Int)), (1, vi (cfa - 2)), (0, .ref a)]) rfl ?_
    refine v_iload_n E 0 rfl dJ16_firstNonzeroIntNum_19 ?_
    refine v_iconst E dJ16_firstNonzeroIntNum_20 ?_
    refine v_isub E dJ16_firstNonzeroIntNum_21 ?_
    refine v_istore_n E dJ16_firstNonzeroIntNum_22 (zlt hL rfl) (lv' := [(2, vi ((na : Int) - 1)), (3, vi (na : Int)), (1, vi (cfa - 2)), (0, .ref a)]) rfl ?_
    have loop_23 : ∀ (m_23 : Nat) (H : Heap) (k : Nat) (u : Int), na - k < m_23 → (k ≤ na) → (u = (na : Int) - 1 - (k : Int)) → (∀ j, j < k → dg (x.natAbs : Int) j = 0) → hp κ H a (.inr (6, [vi x.sign, .ref ma, vi c1a, vi c2a, vi c3a, vi cfa])) → hp κ H ma (eI κ na (bm x na)) → V z H 0 0 23 [(2, vi u), (3, vi (na : Int)), (0, .ref a)] [] := by
      intro m_23
      induction m_23 with
      | zero => intro H k u hm; exact absurd hm (by omega)
      | succ m_23 ih_23 =>
        intro H k u hm_23 hk hu hz hoa hma
        have hdx := dg_in (x.natAbs : Int) k
        refine v_iload_n E 0 rfl dJ16_firstNonzeroIntNum_23 ?_
        refine v_if_lt E (tgt := 42) dJ16_firstNonzeroIntNum_24 (by decide) ⟨by omega, by omega⟩ (fun c_24 => ?_) (fun c_24 => ?_)
        · have h93 : κ.2 93 ≤ a := by
            unfold Hid at hcfa
            rcases hcfa.1 with h | ⟨t, h, h2, h3⟩
            · exact h.2
            · omega
          have hdk : x ≠ 0 → dg (x.natAbs : Int) k ≠ 0 := by
            intro h0
            by_cases e : k = na
            · exfalso
              subst e
              have := cmp_eq (y := 0) (ints_rU (Int.natCast_nonneg _) hna) ⟨Int.le_refl 0, p2 _⟩ (fun j hj => by rw [dg_z]; exact hz j hj)
              omega
            · omega
          refine v_iload_n E 1 rfl dJ16_firstNonzeroIntNum_42 ?_
          refine v_iload_n E 0 rfl dJ16_firstNonzeroIntNum_43 ?_
          refine v_isub E dJ16_firstNonzeroIntNum_44 ?_
          refine v_iconst E dJ16_firstNonzeroIntNum_45 ?_
          refine v_isub E dJ16_firstNonzeroIntNum_46 ?_
          refine v_istore_n E dJ16_firstNonzeroIntNum_47 (zlt hL rfl) (lv' := [(1, vi (((na : Int) - u) - 1)), (2, vi u), (3, vi (na : Int)), (0, .ref a)]) rfl ?_
          refine v_aload_n E 3 rfl dJ16_firstNonzeroIntNum_48 ?_
          refine v_iload_n E 0 rfl dJ16_firstNonzeroIntNum_49 ?_
          refine v_iconst E dJ16_firstNonzeroIntNum_50 ?_
          refine v_iadd E dJ16_firstNonzeroIntNum_51 ?_
          refine v_putf E in_J16 tyJ16 tyJ16_ok nmJ16 hoa (ci := 6) rfl 5 (Nat.le_of_ble_eq_true rfl) q497 rfl rfl rfl rfl (Nat.le_of_ble_eq_true rfl) (hAll _ ⟨rfl, h93⟩) dJ16_firstNonzeroIntNum_52 (fun H_3 hoa_1 hs_2 => ?_)
          have hma_4 := hma.same hs_2 (Ne.symm (hp.ka hC.D hoa hma (by decide) (by decide)))
          have hoa_1 : hp κ H_3 a (.inr (6, [vi x.sign, .ref ma, vi c1a, vi c2a, vi c3a, vi ((((na : Int) - u) - 1) + 2)])) := hoa_1
          refine v_iload_n E 0 rfl dJ16_firstNonzeroIntNum_55 ?_
          refine v_iret E hE dJ16_firstNonzeroIntNum_56 ?_
          exact ⟨k, congrArg (fun t => some (vi t)) (by omega), by omega, hz, hdk, ma, na, 2 + (k : Int), ⟨c1a, c2a, c3a, by rw [show 2 + (k : Int) = (((na : Int) - u) - 1) + 2 by omega]; exact hoa_1⟩, hma_4, hna, ⟨Or.inr ⟨k, rfl, by omega, hz, hdk⟩, hcfa.r⟩⟩
        · refine v_aload_n E 2 rfl dJ16_firstNonzeroIntNum_27 ?_
          refine v_getf E in_J16 hoa (ci := 6) rfl 1 (by decide) q496 rfl (v := .ref ma) rfl dJ16_firstNonzeroIntNum_28 ?_
          refine v_iload_n E 0 rfl dJ16_firstNonzeroIntNum_31 ?_
          refine v_iald E dJ16_firstNonzeroIntNum_32 hma (na - (k + 1)) (by omega) (by omega) (by omega) ?_
          refine V.topi (x' := dg (x.natAbs : Int) k) (congrArg iZ (show dg (x.natAbs : Int) (na - 1 - (na - (k + 1))) = _ by rw [show na - 1 - (na - (k + 1)) = k by omega])) ?_
          refine V.topi (x' := ((dg (x.natAbs : Int) k) + 2147483648) % 4294967296 - 2147483648) (iZ_sg _) ?_
          refine v_if_ne E (tgt := 42) dJ16_firstNonzeroIntNum_33 (by decide) ⟨by omega, by omega⟩ (fun c_33 => ?_) (fun c_33 => ?_)
          · have h93 : κ.2 93 ≤ a := by
              unfold Hid at hcfa
              rcases hcfa.1 with h | ⟨t, h, h2, h3⟩
              · exact h.2
              · omega
            have hdk : x ≠ 0 → dg (x.natAbs : Int) k ≠ 0 := by
              intro h0
              by_cases e : k = na
              · exfalso
                subst e
                have := cmp_eq (y := 0) (ints_rU (Int.natCast_nonneg _) hna) ⟨Int.le_refl 0, p2 _⟩ (fun j hj => by rw [dg_z]; exact hz j hj)
                omega
              · omega
            refine v_iload_n E 1 rfl dJ16_firstNonzeroIntNum_42 ?_
            refine v_iload_n E 0 rfl dJ16_firstNonzeroIntNum_43 ?_
            refine v_isub E dJ16_firstNonzeroIntNum_44 ?_
            refine v_iconst E dJ16_firstNonzeroIntNum_45 ?_
            refine v_isub E dJ16_firstNonzeroIntNum_46 ?_
            refine v_istore_n E dJ16_firstNonzeroIntNum_47 (zlt hL rfl) (lv' := [(1, vi (((na : Int) - u) - 1)), (2, vi u), (3, vi (na : Int)), (0, .ref a)]) rfl ?_
            refine v_aload_n E 3 rfl dJ16_firstNonzeroIntNum_48 ?_
            refine v_iload_n E 0 rfl dJ16_firstNonzeroIntNum_49 ?_
            refine v_iconst E dJ16_firstNonzeroIntNum_50 ?_
            refine v_iadd E dJ16_firstNonzeroIntNum_51 ?_
            refine v_putf E in_J16 tyJ16 tyJ16_ok nmJ16 hoa (ci := 6) rfl 5 (Nat.le_of_ble_eq_true rfl) q497 rfl rfl rfl rfl (Nat.le_of_ble_eq_true rfl) (hAll _ ⟨rfl, h93⟩) dJ16_firstNonzeroIntNum_52 (fun H_7 hoa_5 hs_6 => ?_)
            have hma_8 := hma.same hs_6 (Ne.symm (hp.ka hC.D hoa hma (by decide) (by decide)))
            have hoa_5 : hp κ H_7 a (.inr (6, [vi x.sign, .ref ma, vi c1a, vi c2a, vi c3a, vi ((((na : Int) - u) - 1) + 2)])) := hoa_5
            refine v_iload_n E 0 rfl dJ16_firstNonzeroIntNum_55 ?_
            refine v_iret E hE dJ16_firstNonzeroIntNum_56 ?_
            exact ⟨k, congrArg (fun t => some (vi t)) (by omega), by omega, hz, hdk, ma, na, 2 + (k : Int), ⟨c1a, c2a, c3a, by rw [show 2 + (k : Int) = (((na : Int) - u) - 1) + 2 by omega]; exact hoa_5⟩, hma_8, hna, ⟨Or.inr ⟨k, rfl, by omega, hz, hdk⟩, hcfa.r⟩⟩
          · refine v_iinc E 0 rfl dJ16_firstNonzeroIntNum_36 (zlt hL rfl) (lv' := [(2, vi (u + (-1))), (3, vi (na : Int)), (0, .ref a)]) rfl ?_
            refine v_goto E (tgt := 23) dJ16_firstNonzeroIntNum_39 (by decide) ?_
            exact ih_23  H (k + 1) _ (by omega) (by omega) (by omega) (lt_s hz (by omega)) hoa hma
    refine V.sub [0, 1, 3] (lv' := [(2, vi ((na : Int) - 1)), (3, vi (na : Int)), (0, .ref a)]) rfl ?_
    exact loop_23 (na + 1) H0 0 _ (by omega) (by omega) (by omega) (fun j hj => absurd hj (by omega)) hoa hma

set_option maxHeartbeats 400000 in
set_option maxRecDepth 100000 in
theorem g_sgi (κ : zK) (H0 : Heap) {a : Nat} {x : Int} (hx : BI κ H0 a x)  : Mt κ yJ16_signInt cJ16_signInt 1 (some .int) 0 0 0 0 H0 [.ref a] (fun _ => False) (fun v H1 => v = some (vi (if x < 0 then -1 else 0))) := by
  refine Mt.of (by decide) (Nat.le_of_ble_eq_true rfl) ?_
  intro z E hE hH0 hA0 hL hini
  have hAll : ∀ q, (fun _ => False) q → zA z.A z.H0 q := fun q h => Or.inl (by rw [hA0]; exact h)
  have hNew : ∀ q, H0.size ≤ q → zA z.A z.H0 q := fun q h => Or.inr (by rw [hH0]; exact h)
  have E : zOK z cJ16_signInt RJ16 κ 0 0 (some .int) := E
  refine V.eqL (lv' := [(0, .ref a)]) rfl ?_
  obtain ⟨ma, na, cfa, ⟨c1a, c2a, c3a, hoa⟩, hma, hna, hcfa⟩ := hx
  change Hid _ at hcfa
  have hsa := sgn3 x
  have h48a := hna.1
  refine v_aload_n E 0 rfl dJ16_signInt_0 ?_
  refine v_getf E in_J16 hoa (ci := 6) rfl 0 (by decide) q494 rfl (v := vi x.sign) rfl dJ16_signInt_1 ?_
  refine v_if_ge E (tgt := 11) dJ16_signInt_4 (by decide) (rsign x) (fun c_4 => ?_) (fun c_4 => ?_)
  · refine v_iconst E dJ16_signInt_11 ?_
    refine v_iret E hE dJ16_signInt_12 ?_
    rw [if_neg (by omega)]
  · refine v_iconst E dJ16_signInt_7 ?_
    refine v_goto E (tgt := 12) dJ16_signInt_8 (by decide) ?_
    refine v_iret E hE dJ16_signInt_12 ?_
    rw [if_pos (by omega)]

set_option maxHeartbeats 400000 in
set_option maxRecDepth 100000 in
/-- an int of the two's complement -/
theorem g_getInt (κ : zK) (H0 : Heap) {a : Nat} {x : Int} {i : Nat} (hi : i ≤ 100) (hC : CO κ H0) (hx : BI κ H0 a x)  : Mt κ yJ16_getInt cJ16_getInt 3 (some .int) 1 23 0 0 H0 [.ref a, vi (i : Int)] (fun q => q = a ∧ κ.2 93 ≤ a) (fun v H1 => v = some (vi (dg x i)) ∧ BI κ H1 a x) := by
  refine Mt.of (by decide) (Nat.le_of_ble_eq_true rfl) ?_
  intro z E hE hH0 hA0 hL hini
  have hAll : ∀ q, (fun q => q = a ∧ κ.2 93 ≤ a) q → zA z.A z.H0 q := fun q h => Or.inl (by rw [hA0]; exact h)
  have hNew : ∀ q, H0.size ≤ q → zA z.A z.H0 q := fun q h => Or.inr (by rw [hH0]; exact h)
  have E : zOK z cJ16_getInt RJ16 κ 1 23 (some .int) := E
  refine V.eqL (lv' := [(0, .ref a), (1, vi (i : Int))]) rfl ?_
  obtain ⟨ma, na, cfa, ⟨c1a, c2a, c3a, hoa⟩, hma, hna, hcfa⟩ := hx
  change Hid _ at hcfa
  have hsa := sgn3 x
  have h48a := hna.1
  refine v_iload_n E 1 rfl dJ16_getInt_0 ?_
  refine v_if_ge E (tgt := 6) dJ16_getInt_1 (by decide) ⟨by omega, by omega⟩ (fun c_1 => ?_) (fun c_1 => absurd c_1 (by omega))
  refine v_iload_n E 1 rfl dJ16_getInt_6 ?_
  refine v_aload_n E 0 rfl dJ16_getInt_7 ?_
  refine v_getf E in_J16 hoa (ci := 6) rfl 1 (by decide) q496 rfl (v := .ref ma) rfl dJ16_getInt_8 ?_
  refine v_alen E dJ16_getInt_11 (t := 0) (ty := .int) hma rfl ?_
  refine v_icmp_lt E (tgt := 20) dJ16_getInt_12 (by decide) ⟨by omega, by omega⟩ ⟨by omega, by omega⟩ (fun c_12 => ?_) (fun c_12 => ?_)
  · refine v_aload_n E 0 rfl dJ16_getInt_20 ?_
    refine v_getf E in_J16 hoa (ci := 6) rfl 1 (by decide) q496 rfl (v := .ref ma) rfl dJ16_getInt_21 ?_
    refine v_aload_n E 0 rfl dJ16_getInt_24 ?_
    refine v_getf E in_J16 hoa (ci := 6) rfl 1 (by decide) q496 rfl (v := .ref ma) rfl dJ16_getInt_25 ?_
    refine v_alen E dJ16_getInt_28 (t := 0) (ty := .int) hma rfl ?_
    refine v_iload_n E 1 rfl dJ16_getInt_29 ?_
    refine v_isub E dJ16_getInt_30 ?_
    refine v_iconst E dJ16_getInt_31 ?_
    refine v_isub E dJ16_getInt_32 ?_
    refine v_iald E dJ16_getInt_33 hma (na - 1 - i) (by omega) (by omega) (by omega) ?_
    refine V.topi (x' := dg (x.natAbs : Int) i) (congrArg iZ (show dg (x.natAbs : Int) (na - 1 - (na - 1 - i)) = _ by rw [show na - 1 - (na - 1 - i) = i by omega])) ?_
    refine v_istore_n E dJ16_getInt_34 (zlt hL rfl) (lv' := [(2, vi (dg (x.natAbs : Int) i)), (0, .ref a), (1, vi (i : Int))]) rfl ?_
    refine v_aload_n E 1 rfl dJ16_getInt_35 ?_
    refine v_getf E in_J16 hoa (ci := 6) rfl 0 (by decide) q494 rfl (v := vi x.sign) rfl dJ16_getInt_36 ?_
    refine v_if_lt E (tgt := 46) dJ16_getInt_39 (by decide) (rsign x) (fun c_39 => ?_) (fun c_39 => ?_)
    · refine v_iload_n E 2 rfl dJ16_getInt_46 ?_
      refine v_aload_n E 1 rfl dJ16_getInt_47 ?_
      refine V.frame (fun hfz_fr_1 hfk_fr_1 => ?_)
      rw [hH0] at hfz_fr_1 hfk_fr_1
      rw [hA0] at hfk_fr_1
      refine v_callV E (As := []) (b := a) (ci := 6) (C := RJ16) (T := TJ16) (N := 6) hoa rfl (g_fnz κ H0 hC ⟨ma, na, cfa, ⟨c1a, c2a, c3a, hoa⟩, hma, hna, hcfa⟩) (lw_V q524 q526 qs7 q91 q527) 0 (by decide +kernel) rfl (by decide) (by decide) (cb' := 0) (sb' := 0) (by decide) (by decide) rfl (rest := [vi (i : Int)]) (Nat.le_of_ble_eq_true rfl) (fun q h => hAll q h) dJ16_getInt_48 (fun v_2 H_3 hpost_4 hz_5 hk_6 => ?_)
      clear hz_5
      obtain ⟨t, rfl, ht, hz9, hd9, hB9⟩ := hpost_4
      refine V.eq (st' := [vi (t : Int), vi (i : Int)]) rfl ?_
      refine v_icmp_gt E (tgt := 59) dJ16_getInt_51 (by decide) ⟨by omega, by omega⟩ ⟨by omega, by omega⟩ (fun c_51 => ?_) (fun c_51 => ?_)
      · refine v_iload_n E 0 rfl dJ16_getInt_59 ?_
        refine v_iconst E dJ16_getInt_60 ?_
        refine v_ixor E (c := -1 - dg (x.natAbs : Int) i) (iZ_not _) dJ16_getInt_61 ?_
        refine v_iret E hE dJ16_getInt_62 ?_
        exact ⟨congrArg (fun t => some (Value.int t)) (gi_neg2 (by omega) (hd9 (by omega)) (by omega)), hB9⟩
      · refine v_iload_n E 0 rfl dJ16_getInt_54 ?_
        refine v_ineg E dJ16_getInt_55 ?_
        refine v_goto E (tgt := 62) dJ16_getInt_56 (by decide) ?_
        refine v_iret E hE dJ16_getInt_62 ?_
        exact ⟨congrArg (fun t => some (Value.int t)) (gi_neg1 (by omega) hz9 (by omega)), hB9⟩
    · refine v_iload_n E 0 rfl dJ16_getInt_42 ?_
      refine v_goto E (tgt := 62) dJ16_getInt_43 (by decide) ?_
      refine v_iret E hE dJ16_getInt_62 ?_
      have e9 : (x.natAbs : Int) = x := by omega
      exact ⟨by rw [e9], ⟨ma, na, cfa, ⟨c1a, c2a, c3a, hoa⟩, hma, hna, hcfa⟩⟩
  · refine v_aload_n E 0 rfl dJ16_getInt_15 ?_
    refine v_callV E (As := []) (b := a) (ci := 6) (C := RJ16) (T := TJ16) (N := 6) hoa rfl (g_sgi κ H0 ⟨ma, na, cfa, ⟨c1a, c2a, c3a, hoa⟩, hma, hna, hcfa⟩) (lw_V q520 q522 qs6 q91 q523) 0 (by decide +kernel) rfl (by decide) (by decide) (cb' := 0) (sb' := 0) (by decide) (by decide) rfl (rest := []) (Nat.le_of_ble_eq_true rfl) (fun q h => h.elim) dJ16_getInt_16 (fun v_7 H_8 hpost_9 hz_10 hk_11 => ?_)
    clear hz_10
    obtain rfl := hpost_9
    have hoa_12 := hoa.kept (hk_11 _ hoa.lt (fun h => h))
    have hma_13 := hma.kept (hk_11 _ hma.lt (fun h => h))
    refine V.eq (st' := [vi (if x < 0 then -1 else 0)]) rfl ?_
    refine v_iret E hE dJ16_getInt_19 ?_
    exact ⟨congrArg (fun t => some (Value.int t)) (gi_far hna (by omega)).symm, ⟨ma, na, cfa, ⟨c1a, c2a, c3a, hoa_12⟩, hma_13, hna, hcfa⟩⟩

set_option maxHeartbeats 400000 in
set_option maxRecDepth 100000 in
/-- intValue -/
theorem g_intValue (κ : zK) (H0 : Heap) {a : Nat} {x : Int} (hC : CO κ H0) (hx : BI κ H0 a x)  : Mt κ yJ16_intValue cJ16_intValue 2 (some .int) 2 45 0 0 H0 [.ref a] (fun q => q = a ∧ κ.2 93 ≤ a) (fun v H1 => v = some (vi x) ∧ BI κ H1 a x) := by
  refine Mt.of (by decide) (Nat.le_of_ble_eq_true rfl) ?_
  intro z E hE hH0 hA0 hL hini
  have hAll : ∀ q, (fun q => q = a ∧ κ.2 93 ≤ a) q → zA z.A z.H0 q := fun q h => Or.inl (by rw [hA0]; exact h)
  have hNew : ∀ q, H0.size ≤ q → zA z.A z.H0 q := fun q h => Or.inr (by rw [hH0]; exact h)
  have E : zOK z cJ16_intValue RJ16 κ 2 45 (some .int) := E
  refine V.eqL (lv' := [(0, .ref a)]) rfl ?_
  have hx0 := hx
  obtain ⟨ma, na, cfa, ⟨c1a, c2a, c3a, hoa⟩, hma, hna, hcfa⟩ := hx
  change Hid _ at hcfa
  have hsa := sgn3 x
  have h48a := hna.1
  refine v_iconst E dJ16_intValue_0 ?_
  refine v_istore_n E dJ16_intValue_1 (zlt hL rfl) (lv' := [(1, vi 0), (0, .ref a)]) rfl ?_
  refine v_aload_n E 1 rfl dJ16_intValue_2 ?_
  refine v_iconst E dJ16_intValue_3 ?_
  refine V.frame (fun hfz_fr_1 hfk_fr_1 => ?_)
  rw [hH0] at hfz_fr_1 hfk_fr_1
  rw [hA0] at hfk_fr_1
  refine v_callV E (As := [vi 0]) (b := a) (ci := 6) (C := RJ16) (T := TJ16) (N := 6) hoa rfl (g_getInt κ H0 (i := 0) (by decide) (hC.call (fun q h => by rw [show q = a from h.1]; exact h.2) hfz_fr_1 hfk_fr_1) hx0) (lw_V q516 q518 qs5 q91 q519) 1 (by decide +kernel) rfl (by decide) (by decide) (cb' := 0) (sb' := 0) (by decide) (by decide) rfl (rest := []) (Nat.le_of_ble_eq_true rfl) (fun q h => hAll q h) dJ16_intValue_4 (fun v_3 H_4 hpost_5 hz_6 hk_7 => ?_)
  clear hz_6
  obtain ⟨rfl, hB_8⟩ := hpost_5
  obtain ⟨m_2, nm_2, cfm_2, ⟨c1m_2, c2m_2, c3m_2, hom_2⟩, hmm_2, hnm_2, hcfm_2⟩ := id hB_8
  refine V.eq (st' := [vi (dg x 0)]) rfl ?_
  refine v_istore_n E dJ16_intValue_7 (zlt hL rfl) (lv' := [(1, vi (dg x 0)), (0, .ref a)]) rfl ?_
  refine v_iload_n E 0 rfl dJ16_intValue_8 ?_
  refine v_iret E hE dJ16_intValue_9 ?_
  exact ⟨congrArg (fun t => some (Value.int t)) (by rw [dg_0]; exact iZ_mod x), hB_8⟩

set_option maxHeartbeats 400000 in
set_option maxRecDepth 100000 in
/-- longValue -/
theorem g_longValue (κ : zK) (H0 : Heap) {a : Nat} {x : Int} (hC : CO κ H0) (hx : BI κ H0 a x)  : Mt κ yJ16_longValue cJ16_longValue 4 (some .long) 2 45 0 0 H0 [.ref a] (fun q => q = a ∧ κ.2 93 ≤ a) (fun v H1 => v = some (vj x) ∧ BI κ H1 a x) := by
  refine Mt.of (by decide) (Nat.le_of_ble_eq_true rfl) ?_
  intro z E hE hH0 hA0 hL hini
  have hAll : ∀ q, (fun q => q = a ∧ κ.2 93 ≤ a) q → zA z.A z.H0 q := fun q h => Or.inl (by rw [hA0]; exact h)
  have hNew : ∀ q, H0.size ≤ q → zA z.A z.H0 q := fun q h => Or.inr (by rw [hH0]; exact h)
  have E : zOK z cJ16_longValue RJ16 κ 2 45 (some .long) := E
  refine V.eqL (lv' := [(0, .ref a)]) rfl ?_
  have hx0 := hx
  obtain ⟨ma, na, cfa, ⟨c1a, c2a, c3a, hoa⟩, hma, hna, hcfa⟩ := hx
  change Hid _ at hcfa
  have hsa := sgn3 x
  have h48a := hna.1
  refine v_lconst E (x := 0) rfl dJ16_longValue_0 ?_
  refine v_lstore_n E dJ16_longValue_1 (zlt hL rfl) (lv' := [(1, vj 0), (0, .ref a)]) rfl ?_
  refine v_iconst E dJ16_longValue_2 ?_
  refine v_istore_n E dJ16_longValue_3 (zlt hL rfl) (lv' := [(3, vi 1), (1, vj 0), (0, .ref a)]) rfl ?_
  refine v_iload_n E 0 rfl dJ16_longValue_4 ?_
  refine v_if_lt E (tgt := 30) dJ16_longValue_5 (by decide) ⟨by omega, by omega⟩ (fun c_5 => absurd c_5 (by omega)) (fun c_5 => ?_)
  refine v_lload_n E 1 rfl dJ16_longValue_8 ?_
  refine v_bipush E ⟨by decide, by decide⟩ dJ16_longValue_9 ?_
  refine v_lshl E 32 (by decide) dJ16_longValue_11 ?_
  refine v_aload_n E 2 rfl dJ16_longValue_12 ?_
  refine v_iload_n E 0 rfl dJ16_longValue_13 ?_
  refine V.frame (fun hfz_fr_1 hfk_fr_1 => ?_)
  rw [hH0] at hfz_fr_1 hfk_fr_1
  rw [hA0] at hfk_fr_1
  refine v_callV E (As := [vi 1]) (b := a) (ci := 6) (C := RJ16) (T := TJ16) (N := 6) hoa rfl (g_getInt κ H0 (i := 1) (by decide) (hC.call (fun q h => by rw [show q = a from h.1]; exact h.2) hfz_fr_1 hfk_fr_1) hx0) (lw_V q516 q518 qs5 q91 q519) 1 (by decide +kernel) rfl (by decide) (by decide) (cb' := 0) (sb' := 0) (by decide) (by decide) rfl (rest := [vj (0 * 2 ^ 32)]) (Nat.le_of_ble_eq_true rfl) (fun q h => hAll q h) dJ16_longValue_14 (fun v_3 H_4 hpost_5 hz_6 hk_7 => ?_)
  clear hz_6
  obtain ⟨rfl, hB_8⟩ := hpost_5
  obtain ⟨m_2, nm_2, cfm_2, ⟨c1m_2, c2m_2, c3m_2, hom_2⟩, hmm_2, hnm_2, hcfm_2⟩ := id hB_8
  refine V.eq (st' := [vi (dg x 1), vj (0 * 2 ^ 32)]) rfl ?_
  refine v_i2lLow E dJ16_longValue_17 q528 dJ16_longValue_18 dJ16_longValue_21 ?_
  refine v_ladd E dJ16_longValue_22 ?_
  refine v_lstore_n E dJ16_longValue_23 (zlt hL rfl) (lv' := [(1, vj ((0 * 2 ^ 32) + ((dg x 1) % 4294967296))), (3, vi 1), (0, .ref a)]) rfl ?_
  refine v_iinc E 1 rfl dJ16_longValue_24 (zlt hL rfl) (lv' := [(3, vi (1 + (-1))), (1, vj ((0 * 2 ^ 32) + ((dg x 1) % 4294967296))), (0, .ref a)]) rfl ?_
  refine v_goto E (tgt := 4) dJ16_longValue_27 (by decide) ?_
  refine v_iload_n E 0 rfl dJ16_longValue_4 ?_
  refine v_if_lt E (tgt := 30) dJ16_longValue_5 (by decide) ⟨by omega, by omega⟩ (fun c_5 => absurd c_5 (by omega)) (fun c_5 => ?_)
  refine v_lload_n E 1 rfl dJ16_longValue_8 ?_
  refine v_bipush E ⟨by decide, by decide⟩ dJ16_longValue_9 ?_
  refine v_lshl E 32 (by decide) dJ16_longValue_11 ?_
  refine v_aload_n E 2 rfl dJ16_longValue_12 ?_
  refine v_iload_n E 0 rfl dJ16_longValue_13 ?_
  refine V.frame (fun hfz_fr_9 hfk_fr_9 => ?_)
  rw [hH0] at hfz_fr_9 hfk_fr_9
  rw [hA0] at hfk_fr_9
  refine v_callV E (As := [vi (1 + (-1))]) (b := a) (ci := 6) (C := RJ16) (T := TJ16) (N := 6) hom_2 rfl (g_getInt κ H_4 (i := 0) (by decide) (hC.call (fun q h => by rw [show q = a from h.1]; exact h.2) hfz_fr_9 hfk_fr_9) hB_8) (lw_V q516 q518 qs5 q91 q519) 1 (by decide +kernel) rfl (by decide) (by decide) (cb' := 0) (sb' := 0) (by decide) (by decide) rfl (rest := [vj (((0 * 2 ^ 32) + ((dg x 1) % 4294967296)) * 2 ^ 32)]) (Nat.le_of_ble_eq_true rfl) (fun q h => hAll q h) dJ16_longValue_14 (fun v_11 H_12 hpost_13 hz_14 hk_15 => ?_)
  clear hz_14
  obtain ⟨rfl, hB_16⟩ := hpost_13
  obtain ⟨m_10, nm_10, cfm_10, ⟨c1m_10, c2m_10, c3m_10, hom_10⟩, hmm_10, hnm_10, hcfm_10⟩ := id hB_16
  refine V.eq (st' := [vi (dg x 0), vj (((0 * 2 ^ 32) + ((dg x 1) % 4294967296)) * 2 ^ 32)]) rfl ?_
  refine v_i2lLow E dJ16_longValue_17 q528 dJ16_longValue_18 dJ16_longValue_21 ?_
  refine v_ladd E dJ16_longValue_22 ?_
  refine v_lstore_n E dJ16_longValue_23 (zlt hL rfl) (lv' := [(1, vj ((((0 * 2 ^ 32) + ((dg x 1) % 4294967296)) * 2 ^ 32) + ((dg x 0) % 4294967296))), (3, vi (1 + (-1))), (0, .ref a)]) rfl ?_
  refine v_iinc E 1 rfl dJ16_longValue_24 (zlt hL rfl) (lv' := [(3, vi ((1 + (-1)) + (-1))), (1, vj ((((0 * 2 ^ 32) + ((dg x 1) % 4294967296)) * 2 ^ 32) + ((dg x 0) % 4294967296))), (0, .ref a)]) rfl ?_
  refine v_goto E (tgt := 4) dJ16_longValue_27 (by decide) ?_
  refine v_iload_n E 0 rfl dJ16_longValue_4 ?_
  refine v_if_lt E (tgt := 30) dJ16_longValue_5 (by decide) ⟨by omega, by omega⟩ (fun c_5 => ?_) (fun c_5 => absurd c_5 (by omega))
  refine v_lload_n E 1 rfl dJ16_longValue_30 ?_
  refine v_lret E hE dJ16_longValue_31 ?_
  exact ⟨congrArg (fun t => some (Value.long t)) ((congrArg jZ (by omega)).trans (lv_eq x)), hB_16⟩

