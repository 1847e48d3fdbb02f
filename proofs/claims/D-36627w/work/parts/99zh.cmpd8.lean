/-! THE COMPONENT: isolate -/
def cBnd (P : Pl) : Int := bnL 14 (bmost P.2 (P.1 - 1)) ((P.2 (P.1 - 1)).natAbs : Int) 1
def xoIso (S : Nat → Pl) (a : Int) : zRc := if 0 ≤ a ∧ a < 5 then (if (S a.toNat).1 = 0 then (0, 2, S) else (arF (sq (S a.toNat)) (seqLen (S a.toNat)), 0, S)) else (0, 1, S)
theorem bmost_ok {P : Pl} (h : okP P) : ∀ k, 0 ≤ bmost P.2 k ∧ bmost P.2 k ≤ 9999
  | 0 => ⟨Int.le_refl _, by show (0 : Int) ≤ 9999; decide⟩
  | k + 1 => by
    have h1 := bmost_ok h k
    have h2 := h.2 k
    show 0 ≤ max (bmost P.2 k) ((P.2 k).natAbs : Int) ∧ max (bmost P.2 k) ((P.2 k).natAbs : Int) ≤ 9999
    omega
/-- another polynomial is isolated: the component's object was written, its intervals are a new list -/
theorem CS.reiso {κ : zK} {H H1 : Heap} {x ls bs li bi l2 b2 k : Nat} {a : Nat → Nat} {iso : Option Nat} {T : Nat → Pl} {n cap n2 cap2 : Nat} {iv iv2 : Nat → Ivl} {md : Int} {g : Nat → Option Nat} (hC : CO κ H) (hz : H.size ≤ H1.size) (hk : ∀ q : Nat, q < H.size → ¬ (fun q => q = x : Nat → Prop) q → H1[q]? = H[q]?) (hx : hp κ H1 x (.inr (0, [.ref ls, .ref k, .ref l2]))) (hl : AL κ H1 l2 b2 md n2 cap2 g) (he : ∀ j, j < n2 → ∃ y, g j = some y ∧ e4 κ H1 y (iv2 j)) (h1 : H.size ≤ l2) (h2 : H.size ≤ b2) (hK : Kn κ (dS ls bs li bi) H k (T k) false) (h : CS κ (dS ls bs li bi) H x ls bs li bi a iso T n cap iv) : CS κ (dS ls bs l2 b2) H1 x ls bs l2 b2 a (some k) T n2 cap2 iv2 := by
  have hsl := h.sl
  obtain ⟨h0, g1, ⟨md0, g0, g2, g3⟩, ⟨mdi, gi, g4, g5⟩, g6, g7⟩ := h
  have hF : kF κ H H1 (fun q => q = x) := kF.one g1 (Or.inl rfl) h0.1 (fun _ e => e) hz hk
  have ha : ∀ D, aD κ H (fun q => q = x) D := fun D q e _ _ => by rw [show q = x from e]; exact ⟨0, _, g1, Or.inl rfl⟩
  have hls : ¬ (fun q => q = x : Nat → Prop) ls := fun e => hp.kk hC.D g2.1 g1 (by decide) (by decide) (by decide) e
  have hbs : ¬ (fun q => q = x : Nat → Prop) bs := fun e => hp.ka hC.D g1 g2.2.1 (by decide) (by decide) (Eq.symm e)
  have hm : ∀ q, q < H1.size → dS ls bs li bi q ∧ q < H.size → dS ls bs l2 b2 q := fun q _ hq => ⟨hq.1.1, hq.1.2.1, by omega, by omega⟩
  have key : ∀ j P, Kn κ (dS ls bs li bi) H j P false → Kn κ (dS ls bs l2 b2) H1 j P false := fun j P hj =>
    ((hj.mono (D' := fun q => dS ls bs li bi q ∧ q < H.size) (fun q e1 e2 => ⟨e2, e1⟩)).kf hC hF (ha _)).mono hm
  refine ⟨⟨h0.1, by omega, by omega⟩, hx, ⟨md0, g0, g2.kf hC hF hls (fun _ => hbs), g3⟩, ⟨md, g, hl, he⟩, fun j hj => key _ _ (g6 j hj), fun j hj => ?_⟩
  rw [show j = k from (Option.some.inj hj).symm]
  exact key _ _ hK
theorem AL.grow2 {κ : zK} {H H1 : Heap} {l b n cap : Nat} {md : Int} {g : Nat → Option Nat} (hC : CO κ H) {x : Nat} {fs : List Value} (hx : hp κ H x (.inr (0, fs))) (h93 : κ.2 93 ≤ x) (hz : H.size ≤ H1.size) (hk : ∀ q : Nat, q < H.size → ¬ (fun q => q = x : Nat → Prop) q → H1[q]? = H[q]?) (h : AL κ H l b md n cap g) : AL κ H1 l b md n cap g := by
  have hF : kF κ H H1 (fun q => q = x) := kF.one hx (Or.inl rfl) h93 (fun _ e => e) hz hk
  exact h.kf hC hF (fun e => hp.kk hC.D h.1 hx (by decide) (by decide) (by decide) e) (fun _ e => hp.ka hC.D hx h.2.1 (by decide) (by decide) (Eq.symm e))
set_option maxHeartbeats 1000000 in
set_option maxRecDepth 100000 in
/-- isolate -/
theorem c_iso (κ : zK) (H0 : Heap) {x : Nat} {S : Nat → Pl} {isoP : Option Pl} {n cap : Nat} {iv : Nat → Ivl} {v0 : Int} (hrv0 : rI v0) (hC : CO κ H0) {N : Nat → Nat → Nat} {M : Nat → Nat} {M0 : Nat} {Nt Kt : Nat → Nat} {C0 L0 C1 L1 : Nat} (hQ : ∀ i, i < 5 → 0 < (S i).1 → okQ (S i) N M M0 Nt Kt C0 L0 C1 L1) (hok : bC5 S) (hpos : ∀ i, i < 5 → 0 < (S i).1 → ∀ j, j < seqLen (S i) → 0 < (sq (S i) j).1) (hP : CP κ H0 x S isoP n cap iv)  : MtX κ yX1_isolate cX1_isolate 6 (some .int) 14 380 (C0 + 110) (L0 + 450) H0 [.ref x, vi v0] (pA κ H0) (fun v H1 => (xoIso S v0).2.1 = 0 ∧ v = some (vi (xoIso S v0).1) ∧ CP κ H1 x S (some (S v0.toNat)) 1 10 (fun _ => (0, -cBnd (S v0.toNat), cBnd (S v0.toNat), (xoIso S v0).1))) (fun C H1 => (C = "java/lang/IndexOutOfBoundsException" ∧ (xoIso S v0).2.1 = 1 ∨ C = "java/lang/ArithmeticException" ∧ (xoIso S v0).2.1 = 2) ∧ CP κ H1 x S isoP n cap iv) := by
  refine MtX.of (by decide) (Nat.le_of_ble_eq_true rfl) ?_
  intro z E X9 hE hH0 hA0 hL hini
  have hAll : ∀ q, (pA κ H0) q → zA z.A z.H0 q := fun q h => Or.inl (by rw [hA0]; exact h)
  have hNew : ∀ q, H0.size ≤ q → zA z.A z.H0 q := fun q h => Or.inr (by rw [hH0]; exact h)
  have E : zOK z cX1_isolate RX1 κ 14 380 (some .int) := E
  refine V.eqL (lv' := [(0, .ref x), (1, vi v0)]) rfl ?_
  obtain ⟨ls, bs, li, bi, a, iso, T, hS, hST, hiso⟩ := hP
  have hA93 : ∀ q, pA κ H0 q → κ.2 93 ≤ q := fun q h => h.1
  have hD := hC.D
  have hsl0 := hS.sl
  have hQT : ∀ k, k < 5 → 0 < (T (a k)).1 → okQ (T (a k)) N M M0 Nt Kt C0 L0 C1 L1 := fun k hk h => by rw [← hST k hk] at h ⊢; exact hQ k hk h
  have hokT : ∀ k, k < 5 → okP (T (a k)) := fun k hk => by rw [← hST k hk]; exact (hok k hk).2
  refine v_iload_n E 1 rfl dX1_isolate_0 ?_
  refine V.frame (fun hfz_fr_1 hfk_fr_1 => ?_)
  rw [hH0] at hfz_fr_1 hfk_fr_1
  rw [hA0] at hfk_fr_1
  have hC_fr_1 := hC.call hA93 hfz_fr_1 hfk_fr_1
  refine v_callSX E X9 hE (As := [vi v0]) (x_slot κ H0 hrv0) (lw_S q570 q571 q70 q572) 1 (by decide +kernel) rfl (by decide) (by decide) (cb' := ((C0 + 110) - 1)) (sb' := ((L0 + 450) - 6)) (by omega) (by omega) rfl (rest := []) (Nat.le_of_ble_eq_true rfl) (fun q h => h.elim) dX1_isolate_1 (fun C9 H9 hx9 hz9 hk9 => by exact ⟨Or.inl (⟨hx9.1, (by have hx8 := hx9.2; unfold xoIso; first | (split <;> first | rfl | (exfalso; omega) | (split <;> first | rfl | (exfalso; omega) | (split <;> first | rfl | (exfalso; omega)))))⟩), CS.pub (CS.kf0 hC_fr_1 (kF.ext hz9 hk9) hS) hST hiso⟩) (fun v_2 H_3 hpost_4 hz_5 hk_6 => ?_)
  obtain ⟨rfl, hsv0⟩ := hpost_4
  have hl_7 := CS.kf0 hC_fr_1 (kF.ext hz_5 hk_6) hS
  obtain ⟨i0, hni0⟩ : ∃ i0 : Nat, v0 = (i0 : Int) := ⟨v0.toNat, by omega⟩
  subst hni0
  have hii0 : i0 < 5 := by omega
  refine V.eq (st' := []) rfl ?_
  refine v_aload_n E 0 rfl dX1_isolate_4 ?_
  refine v_iload_n E 1 rfl dX1_isolate_5 ?_
  refine V.frame (fun hfz_fr_8 hfk_fr_8 => ?_)
  rw [hH0] at hfz_fr_8 hfk_fr_8
  rw [hA0] at hfk_fr_8
  have hC_fr_8 := hC.call hA93 hfz_fr_8 hfk_fr_8
  refine v_callVX E X9 hE (As := [vi ((i0 : Nat) : Int)]) (b := x) (ci := 0) (C := RX1) (T := TX1) (N := 3) hl_7.2.1 rfl (x_nz κ H_3 (i := i0) hii0 hC_fr_8 hl_7) (lw_V q1458 q1460 qs40 q70 q1461) 1 (by decide +kernel) rfl (by decide) (by decide) (cb' := (((C0 + 110) - 1) - 1)) (sb' := (((L0 + 450) - 6) - 6)) (by omega) (by omega) rfl (rest := []) (Nat.le_of_ble_eq_true rfl) (fun q h => h.elim) dX1_isolate_6 (fun C9 H9 hx9 hz9 hk9 => (by exact ⟨Or.inr (⟨hx9.1, by have hx7 := hx9.2; rw [← hST i0 hii0] at hx7; exact (by show (xoIso S (i0 : Int)).2.1 = 2; unfold xoIso; rw [if_pos (by omega)]; exact congrArg (fun t : zRc => t.2.1) (if_pos hx7))⟩), CS.pub (CS.kf0 hC_fr_8 (kF.ext hz9 hk9) hl_7) hST hiso⟩)) (fun v_9 H_10 hpost_11 hz_12 hk_13 => ?_)
  obtain ⟨rfl, hposT⟩ := hpost_11
  have hl_14 := CS.kf0 hC_fr_8 (kF.ext hz_12 hk_13) hl_7
  have hposS : 0 < (S i0).1 := by rw [hST i0 hii0]; exact hposT
  refine V.eq (st' := [.ref (a i0)]) rfl ?_
  refine v_astore_n E dX1_isolate_9 (zlt hL rfl) (lv' := [(2, .ref (a i0)), (0, .ref x), (1, vi ((i0 : Nat) : Int))]) rfl ?_
  have hnfT : nf (T (a i0)) := (hl_14.2.2.2.2.1 i0 hii0).1
  have h7i := (hokT i0 hii0).1
  refine v_lconst E (x := 0) rfl dX1_isolate_10 ?_
  refine V.frame (fun hfz_fr_15 hfk_fr_15 => ?_)
  rw [hH0] at hfz_fr_15 hfk_fr_15
  rw [hA0] at hfk_fr_15
  have hC_fr_15 := hC.call hA93 hfz_fr_15 hfk_fr_15
  refine v_callS E (As := [vj 0]) (p_numS κ H_10 (x := 0) hC_fr_15 ⟨by decide, by decide⟩) (lw_S q611 q472 q70 q473) 1 (by decide +kernel) rfl (by decide) (by decide) (cb' := ((((C0 + 110) - 1) - 1) - 0)) (sb' := ((((L0 + 450) - 6) - 6) - 0)) (by omega) (by omega) rfl (rest := []) (Nat.le_of_ble_eq_true rfl) (fun q h => h.elim) dX1_isolate_11 (fun v_16 H_17 hpost_18 hz_19 hk_20 => ?_)
  obtain ⟨nq, rfl, hnq⟩ := hpost_18
  have hl_21 := CS.kf0 hC_fr_15 (kF.ext hz_19 hk_20) hl_14
  refine V.eq (st' := [.ref nq]) rfl ?_
  refine v_astore_n E dX1_isolate_14 (zlt hL rfl) (lv' := [(3, .ref nq), (2, .ref (a i0)), (0, .ref x), (1, vi ((i0 : Nat) : Int))]) rfl ?_
  refine v_iconst E dX1_isolate_15 ?_
  refine v_istore E dX1_isolate_16 (zlt hL rfl) (lv' := [(4, vi 0), (3, .ref nq), (2, .ref (a i0)), (0, .ref x), (1, vi ((i0 : Nat) : Int))]) rfl ?_
  have loop_18 : ∀ (m_18 : Nat) (H : Heap) (i gq cb sb : Nat), (T (a i0)).1 - i < m_18 → (i ≤ (T (a i0)).1 - 1) → (C0 + 4 + 90 + ((T (a i0)).1 - i) ≤ cb) → (L0 + 21 + 375 + 6 * ((T (a i0)).1 - i) ≤ sb) → BI κ H gq (bmost (T (a i0)).2 i) → CS κ (dS ls bs li bi) H x ls bs li bi a iso T n cap iv → V z H cb sb 18 [(4, vi (i : Int)), (3, .ref gq), (2, .ref (a i0)), (1, vi ((i0 : Nat) : Int)), (0, .ref x)] [] := by
    intro m_18
    induction m_18 with
    | zero => intro H i gq cb sb hm; exact absurd hm (by omega)
    | succ m_18 ih_18 =>
      intro H i gq cb sb hm_18 hi9 hcb hsb hG hS2
      refine v_iload E 0 rfl dX1_isolate_18 ?_
      refine v_aload_n E 2 rfl dX1_isolate_20 ?_
      obtain ⟨-, -, pk_22, vs_23, vf_24, vg_25, hkn_26, hpk_27, -⟩ := id (hS2.2.2.2.2.1 i0 hii0)
      refine v_getfN (host := "SturmRoots") E in_X2 hkn_26 (ci := 1) rfl 0 (by decide) (by decide +kernel) rfl (v := .ref pk_22) rfl dX1_isolate_21 ?_
      refine V.frame (fun hfz_fr_28 hfk_fr_28 => ?_)
      rw [hH0] at hfz_fr_28 hfk_fr_28
      rw [hA0] at hfk_fr_28
      have hC_fr_28 := hC.call hA93 hfz_fr_28 hfk_fr_28
      obtain ⟨-, -, l_35, ho_34, -⟩ := id hpk_27
      refine v_callV E (As := []) (b := pk_22) (ci := 2) (C := RX3) (T := TX3) (N := 1) ho_34 rfl (p_deg κ H hC_fr_28 hpk_27) (lw_V q617 q618 q619 q75 q620) 0 (by decide +kernel) rfl (by decide) (by decide) (cb' := (cb - 0)) (sb' := (sb - 0)) (by omega) (by omega) rfl (rest := [vi (i : Int)]) (Nat.le_of_ble_eq_true rfl) (fun q h => h.elim) dX1_isolate_24 (fun v_29 H_30 hpost_31 hz_32 hk_33 => ?_)
      obtain rfl := hpost_31
      have hl_36 := BI.kf hC.D (kF.ext hz_32 hk_33) hG
      have hl_37 := CS.kf0 hC_fr_28 (kF.ext hz_32 hk_33) hS2
      have hl_38 := Po.kf hC_fr_28 (kF.ext hz_32 hk_33) aD.no hpk_27
      refine V.eq (st' := [vi (((Prod.fst (T (a i0)) : Nat) : Int) - 1), vi (i : Int)]) rfl ?_
      refine v_icmp_ge E (tgt := 53) dX1_isolate_27 (by decide) ⟨by omega, by omega⟩ ⟨by omega, by omega⟩ (fun c_27 => ?_) (fun c_27 => ?_)
      · have hkn2 : i = (T (a i0)).1 - 1 := by omega
        obtain ⟨l, hl⟩ : ∃ l : Int, l = (((T (a i0)).2 ((T (a i0)).1 - 1)).natAbs : Int) := ⟨_, rfl⟩
        have hl1 : 1 ≤ l ∧ l ≤ 9999 := by
          have h8 := (hokT i0 hii0).2 ((T (a i0)).1 - 1)
          have h9 := hnfT.1.resolve_left (by omega)
          omega
        obtain ⟨mm, hmm⟩ : ∃ mm : Int, mm = bmost (T (a i0)).2 ((T (a i0)).1 - 1) := ⟨_, rfl⟩
        have hmb : 0 ≤ mm ∧ mm ≤ 9999 := by rw [hmm]; exact bmost_ok (hokT i0 hii0) _
        have hbd : cBnd (T (a i0)) = bnL 14 mm l 1 := by unfold cBnd; rw [hmm, hl]
        refine v_iconst E dX1_isolate_53 ?_
        refine v_istore E dX1_isolate_54 (zlt hL rfl) (lv' := [(4, vi 1), (3, .ref gq), (2, .ref (a i0)), (1, vi ((i0 : Nat) : Int)), (0, .ref x)]) rfl ?_
        have loop_56 : ∀ (m_56 : Nat) (H : Heap) (n9 : Nat) (b : Int) (cb2 sb2 : Nat), n9 < m_56 → (1 ≤ b ∧ b * 2 ^ n9 = 16384) → (bnL 14 mm l 1 = bnL n9 mm l b) → (C0 + 4 + 6 * (n9 + 1) ≤ cb2) → (L0 + 21 + 25 * (n9 + 1) ≤ sb2) → BI κ H gq mm → CS κ (dS ls bs li bi) H x ls bs li bi a iso T n cap iv → V z H cb2 sb2 56 [(4, vi b), (3, .ref gq), (2, .ref (a i0)), (1, vi ((i0 : Nat) : Int)), (0, .ref x)] [] := by
          intro m_56
          induction m_56 with
          | zero => intro H n9 b cb2 sb2 hm; exact absurd hm (by omega)
          | succ m_56 ih_56 =>
            intro H n9 b cb2 sb2 hm_56 hb hres hcb2 hsb2 hG hS2
            have hbp := bn_pow hb.2 hb.1
            have hbm := bn_mul ⟨hb.1, hbp⟩ hl1
            refine v_aload_n E 2 rfl dX1_isolate_56 ?_
            obtain ⟨-, -, pk_39, vs_40, vf_41, vg_42, hkn_43, hpk_44, -⟩ := id (hS2.2.2.2.2.1 i0 hii0)
            refine v_getfN (host := "SturmRoots") E in_X2 hkn_43 (ci := 1) rfl 0 (by decide) (by decide +kernel) rfl (v := .ref pk_39) rfl dX1_isolate_57 ?_
            refine V.frame (fun hfz_fr_47 hfk_fr_47 => ?_)
            rw [hH0] at hfz_fr_47 hfk_fr_47
            rw [hA0] at hfk_fr_47
            have hC_fr_47 := hC.call hA93 hfz_fr_47 hfk_fr_47
            obtain ⟨-, -, l_54, ho_53, -⟩ := id hpk_44
            refine v_callV E (As := []) (b := pk_39) (ci := 2) (C := RX3) (T := TX3) (N := 1) ho_53 rfl (p_lead κ H (by omega) hC_fr_47 hpk_44) (lw_V q1148 q1149 q1150 q75 q1151) 0 (by decide +kernel) rfl (by decide) (by decide) (cb' := (cb2 - 0)) (sb' := (sb2 - 0)) (by omega) (by omega) rfl (rest := []) (Nat.le_of_ble_eq_true rfl) (fun q h => h.elim) dX1_isolate_60 (fun v_48 H_49 hpost_50 hz_51 hk_52 => ?_)
            obtain ⟨ql_45, rfl, hBl_46⟩ := hpost_50
            have hl_55 := BI.kf hC.D (kF.ext hz_51 hk_52) hG
            have hl_56 := CS.kf0 hC_fr_47 (kF.ext hz_51 hk_52) hS2
            have hl_57 := Po.kf hC_fr_47 (kF.ext hz_51 hk_52) aD.no hpk_44
            refine V.eq (st' := [.ref ql_45]) rfl ?_
            refine V.frame (fun hfz_fr_58 hfk_fr_58 => ?_)
            rw [hH0] at hfz_fr_58 hfk_fr_58
            rw [hA0] at hfk_fr_58
            have hC_fr_58 := hC.call hA93 hfz_fr_58 hfk_fr_58
            obtain ⟨mz_65, nz_65, cfz_65, ⟨c1z_65, c2z_65, c3z_65, ho_64⟩, -⟩ := id hBl_46
            refine v_callV E (As := []) (b := ql_45) (ci := 6) (C := RJ16) (T := TJ16) (N := 6) ho_64 rfl (g_abs κ H_49 hC_fr_58 hBl_46) (lw_V q622 q623 q624 q91 q625) 0 (by decide +kernel) rfl (by decide) (by decide) (cb' := ((cb2 - 0) - 1)) (sb' := ((sb2 - 0) - 6)) (by omega) (by omega) rfl (rest := []) (Nat.le_of_ble_eq_true rfl) (fun q h => h.elim) dX1_isolate_63 (fun v_59 H_60 hpost_61 hz_62 hk_63 => ?_)
            obtain ⟨qz, rfl, hBz9⟩ := hpost_61
            have hl_66 := BI.kf hC.D (kF.ext hz_62 hk_63) hl_55
            have hl_67 := CS.kf0 hC_fr_58 (kF.ext hz_62 hk_63) hl_56
            have hl_68 := Po.kf hC_fr_58 (kF.ext hz_62 hk_63) aD.no hl_57
            have hl_69 := BI.kf hC.D (kF.ext hz_62 hk_63) hBl_46
            have hBl : BI κ H_60 qz l := by rw [hl]; exact hBz9
            refine V.eq (st' := [.ref qz]) rfl ?_
            refine v_iload E 0 rfl dX1_isolate_66 ?_
            refine v_iconst E dX1_isolate_68 ?_
            refine v_isub E dX1_isolate_69 ?_
            refine v_i2l E ⟨by omega, by omega⟩ dX1_isolate_70 ?_
            refine V.frame (fun hfz_fr_70 hfk_fr_70 => ?_)
            rw [hH0] at hfz_fr_70 hfk_fr_70
            rw [hA0] at hfk_fr_70
            have hC_fr_70 := hC.call hA93 hfz_fr_70 hfk_fr_70
            refine v_callS E (As := [vj (b - 1)]) (p_num κ H_60 (x := b - 1) hC_fr_70 ⟨by omega, by omega⟩) (lw_S q611 q472 q70 q473) 1 (by decide +kernel) rfl (by decide) (by decide) (cb' := (((cb2 - 0) - 1) - 2)) (sb' := (((sb2 - 0) - 6) - 8)) (by omega) (by omega) rfl (rest := [.ref qz]) (Nat.le_of_ble_eq_true rfl) (fun q h => h.elim) dX1_isolate_71 (fun v_71 H_72 hpost_73 hz_74 hk_75 => ?_)
            obtain ⟨nb, rfl, hnb⟩ := hpost_73
            have hl_76 := BI.kf hC.D (kF.ext hz_74 hk_75) hl_66
            have hl_77 := CS.kf0 hC_fr_70 (kF.ext hz_74 hk_75) hl_67
            have hl_78 := Po.kf hC_fr_70 (kF.ext hz_74 hk_75) aD.no hl_68
            have hl_79 := BI.kf hC.D (kF.ext hz_74 hk_75) hl_69
            have hl_80 := BI.kf hC.D (kF.ext hz_74 hk_75) hBl
            refine V.eq (st' := [.ref nb, .ref qz]) rfl ?_
            refine V.frame (fun hfz_fr_83 hfk_fr_83 => ?_)
            rw [hH0] at hfz_fr_83 hfk_fr_83
            rw [hA0] at hfk_fr_83
            have hC_fr_83 := hC.call hA93 hfz_fr_83 hfk_fr_83
            obtain ⟨mz_90, nz_90, cfz_90, ⟨c1z_90, c2z_90, c3z_90, ho_89⟩, -⟩ := id hl_80
            refine v_callV E (As := [.ref nb]) (b := qz) (ci := 6) (C := RJ16) (T := TJ16) (N := 6) ho_89 rfl (g_mul κ H_72 (N := 1) (M := 1) hC_fr_83 hl_80 hnb (n32 (by omega)) (n32 (by omega)) (Or.inl (by decide)) (sB_m (N := 1) (M := 1) (n32 (by omega)) (n32 (by omega)) (by decide))) (lw_V q959 q960 q961 q91 q962) 1 (by decide +kernel) rfl (by decide) (by decide) (cb' := ((((cb2 - 0) - 1) - 2) - 3)) (sb' := ((((sb2 - 0) - 6) - 8) - (2 * (1 + 1) + 7))) (by omega) (by omega) rfl (rest := []) (Nat.le_of_ble_eq_true rfl) (fun q h => h.elim) dX1_isolate_74 (fun v_84 H_85 hpost_86 hz_87 hk_88 => ?_)
            obtain ⟨qm_81, rfl, hBm_82⟩ := hpost_86
            have hl_91 := BI.kf hC.D (kF.ext hz_87 hk_88) hl_76
            have hl_92 := CS.kf0 hC_fr_83 (kF.ext hz_87 hk_88) hl_77
            have hl_93 := Po.kf hC_fr_83 (kF.ext hz_87 hk_88) aD.no hl_78
            have hl_94 := BI.kf hC.D (kF.ext hz_87 hk_88) hl_79
            have hl_95 := BI.kf hC.D (kF.ext hz_87 hk_88) hl_80
            have hl_96 := BI.kf hC.D (kF.ext hz_87 hk_88) hnb
            refine V.eq (st' := [.ref qm_81]) rfl ?_
            refine v_aload_n E 1 rfl dX1_isolate_77 ?_
            refine V.frame (fun hfz_fr_99 hfk_fr_99 => ?_)
            rw [hH0] at hfz_fr_99 hfk_fr_99
            rw [hA0] at hfk_fr_99
            have hC_fr_99 := hC.call hA93 hfz_fr_99 hfk_fr_99
            obtain ⟨mz_106, nz_106, cfz_106, ⟨c1z_106, c2z_106, c3z_106, ho_105⟩, -⟩ := id hBm_82
            refine v_callV E (As := [.ref gq]) (b := qm_81) (ci := 6) (C := RJ16) (T := TJ16) (N := 6) ho_105 rfl (g_cmp κ H_85 hBm_82 hl_91) (lw_V q657 q658 q659 q91 q660) 1 (by decide +kernel) rfl (by decide) (by decide) (cb' := (((((cb2 - 0) - 1) - 2) - 3) - 0)) (sb' := (((((sb2 - 0) - 6) - 8) - (2 * (1 + 1) + 7)) - 0)) (by omega) (by omega) rfl (rest := []) (Nat.le_of_ble_eq_true rfl) (fun q h => h.elim) dX1_isolate_78 (fun v_100 H_101 hpost_102 hz_103 hk_104 => ?_)
            obtain ⟨o_97, rfl, ho_98⟩ := hpost_102
            have hl_107 := BI.kf hC.D (kF.ext hz_103 hk_104) hl_91
            have hl_108 := CS.kf0 hC_fr_99 (kF.ext hz_103 hk_104) hl_92
            have hl_109 := Po.kf hC_fr_99 (kF.ext hz_103 hk_104) aD.no hl_93
            have hl_110 := BI.kf hC.D (kF.ext hz_103 hk_104) hl_94
            have hl_111 := BI.kf hC.D (kF.ext hz_103 hk_104) hl_95
            have hl_112 := BI.kf hC.D (kF.ext hz_103 hk_104) hl_96
            have hl_113 := BI.kf hC.D (kF.ext hz_103 hk_104) hBm_82
            rw [Int.mul_comm l (b - 1)] at ho_98
            refine V.eq (st' := [vi o_97]) rfl ?_
            refine v_if_ge E (tgt := 93) dX1_isolate_81 (by decide) ⟨by omega, by omega⟩ (fun c_81 => ?_) (fun c_81 => ?_)
            · have hbe : cBnd (T (a i0)) = b := by
                rw [hbd, hres]
                cases n9 with
                | zero => rfl
                | succ n => show (if (b - 1) * l < mm then _ else b) = b; rw [if_neg (by omega)]
              refine v_aload_n E 2 rfl dX1_isolate_93 ?_
              refine V.frame (fun hfz_fr_115 hfk_fr_115 => ?_)
              rw [hH0] at hfz_fr_115 hfk_fr_115
              rw [hA0] at hfk_fr_115
              have hC_fr_115 := hC.call hA93 hfz_fr_115 hfk_fr_115
              obtain ⟨-, -, pk_121, vs_122, vf_123, vg_124, hkn_125, hpk_126, -⟩ := id (hl_108.2.2.2.2.1 i0 hii0)
              refine v_callV E (As := []) (b := (a i0)) (ci := 1) (C := RX2) (T := TX2) (N := 4) hkn_125 rfl (k_seq κ H_101 (b := false) (N := N) (M := M) (M0 := M0) hC_fr_115 (fun q h => by have h2 := hsl0; exact ⟨by omega, by omega, by omega, by omega⟩) (hQT i0 hii0 hposT).1 (hl_108.2.2.2.2.1 i0 hii0)) (lw_V q1496 q1472 q1473 q74 q1474) 0 (by decide +kernel) rfl (by decide) (by decide) (cb' := ((((((cb2 - 0) - 1) - 2) - 3) - 0) - C0)) (sb' := ((((((sb2 - 0) - 6) - 8) - (2 * (1 + 1) + 7)) - 0) - L0)) (by rw [bC_f]; have := (hQT i0 hii0 hposT).2.1; omega) (by rw [bC_f]; have := (hQT i0 hii0 hposT).2.2.1; omega) rfl (rest := []) (Nat.le_of_ble_eq_true rfl) (fun q h => by obtain ⟨fs9, h8⟩ := (hl_108.2.2.2.2.1 i0 hii0).cl; have h9 := pA.any hfk_fr_115 h8 (Or.inr (Or.inl rfl)) (hl_108.2.2.2.2.1 i0 hii0).2.1; rw [← show q = _ from h] at h9; exact h9.elim (fun e => hAll q e) (fun e => hNew q e)) dX1_isolate_94 (fun v_116 H_117 hpost_118 hz_119 hk_120 => ?_)
              obtain ⟨ls_114, rfl, hls_114, hKls_114⟩ := hpost_118
              have hSk_127 := kS.of (hl_108.2.2.2.2.1 i0 hii0) hKls_114 hz_119 hk_120
              have hl_128 := BI.ks hC_fr_115 hSk_127 hl_107
              have hl_129 := CS.ks hC_fr_115 hSk_127 hKls_114 hl_108
              have hl_130 := Po.ks hC_fr_115 hSk_127 hl_109
              have hl_131 := BI.ks hC_fr_115 hSk_127 hl_110
              have hl_132 := BI.ks hC_fr_115 hSk_127 hl_111
              have hl_133 := BI.ks hC_fr_115 hSk_127 hl_112
              have hl_134 := BI.ks hC_fr_115 hSk_127 hl_113
              have hl_135 := Po.ks hC_fr_115 hSk_127 hpk_126
              refine V.eq (st' := [.ref ls_114]) rfl ?_
              refine V.frame (fun hfz_fr_136 hfk_fr_136 => ?_)
              rw [hH0] at hfz_fr_136 hfk_fr_136
              rw [hA0] at hfk_fr_136
              have hC_fr_136 := hC.call hA93 hfz_fr_136 hfk_fr_136
              refine v_callS E (As := [.ref ls_114]) (p_all κ H_117 hC_fr_136 (fun j hj => by have h9 := hpos i0 hii0 hposS; rw [hST i0 hii0] at h9; exact h9 j hj) hls_114) (lw_S q1570 q1571 q70 q1572) 1 (by decide +kernel) rfl (by decide) (by decide) (cb' := (((((((cb2 - 0) - 1) - 2) - 3) - 0) - C0) - 1)) (sb' := (((((((sb2 - 0) - 6) - 8) - (2 * (1 + 1) + 7)) - 0) - L0) - 4)) (by omega) (by omega) rfl (rest := []) (Nat.le_of_ble_eq_true rfl) (fun q h => h.elim) dX1_isolate_97 (fun v_137 H_138 hpost_139 hz_140 hk_141 => ?_)
              obtain rfl := hpost_139
              have hl_142 := BI.kf hC.D (kF.ext hz_140 hk_141) hl_128
              have hl_143 := CS.kf0 hC_fr_136 (kF.ext hz_140 hk_141) hl_129
              have hl_144 := Po.kf hC_fr_136 (kF.ext hz_140 hk_141) aD.no hl_130
              have hl_145 := BI.kf hC.D (kF.ext hz_140 hk_141) hl_131
              have hl_146 := BI.kf hC.D (kF.ext hz_140 hk_141) hl_132
              have hl_147 := BI.kf hC.D (kF.ext hz_140 hk_141) hl_133
              have hl_148 := BI.kf hC.D (kF.ext hz_140 hk_141) hl_134
              have hl_149 := Po.kf hC_fr_136 (kF.ext hz_140 hk_141) aD.no hl_135
              have hl_150 := SQ.kf hC_fr_136 (kF.ext hz_140 hk_141) aD.no hls_114
              refine V.eq (st' := [vi (arF (sq (T (a i0))) (seqLen (T (a i0))))]) rfl ?_
              refine v_istore E dX1_isolate_100 (zlt hL rfl) (lv' := [(5, vi (arF (sq (T (a i0))) (seqLen (T (a i0))))), (4, vi b), (3, .ref gq), (2, .ref (a i0)), (1, vi ((i0 : Nat) : Int)), (0, .ref x)]) rfl ?_
              refine V.frame (fun hfz_fr_151 hfk_fr_151 => ?_)
              rw [hH0] at hfz_fr_151 hfk_fr_151
              rw [hA0] at hfk_fr_151
              have hC_fr_151 := hC.call hA93 hfz_fr_151 hfk_fr_151
              have hX0 := hl_143.2.1
              have hKf := hl_143.2.2.2.2.1 i0 hii0
              have hpAx : pA κ H0 x := ⟨hS.1.1, Or.inl ⟨0, _, hS.2.1, Or.inl rfl⟩⟩
              refine v_aload_n E 5 rfl dX1_isolate_102 ?_
              refine v_aload_n E 3 rfl dX1_isolate_103 ?_
              refine v_putf E in_X1 tyX1 tyX1_ok nmX1 hX0 (ci := 0) rfl 1 (Nat.le_of_ble_eq_true rfl) q273 rfl rfl rfl rfl (Nat.le_of_ble_eq_true rfl) (hAll _ hpAx) dX1_isolate_104 (fun H_154 hX0_152 hs_153 => ?_)
              have hX0_152 : hp κ H_154 x (.inr (0, [.ref ls, .ref (a i0), .ref li])) := hX0_152
              have hfzz_155 : Array.size H_138 ≤ Array.size H_154 := Nat.le_trans (Nat.le_refl _) (Nat.le_of_eq hs_153.1.symm)
              have hfzk_156 : ∀ q9 : Nat, q9 < Array.size H_138 → ¬ (fun q => q = x : Nat → Prop) q9 → H_154[q9]? = H_138[q9]? := fun q9 h9 h8 => (hs_153.2 q9 (fun e => h8 e)).trans ((fun _ _ _ => rfl) q9 h9 h8)
              refine v_aload_n E 5 rfl dX1_isolate_107 ?_
              refine V.frame (fun hfz_fr_157 hfk_fr_157 => ?_)
              rw [hH0] at hfz_fr_157 hfk_fr_157
              rw [hA0] at hfk_fr_157
              have hC_fr_157 := hC.call hA93 hfz_fr_157 hfk_fr_157
              refine V.frame (fun hfz_fr_158 hfk_fr_158 => ?_)
              rw [hH0] at hfz_fr_158 hfk_fr_158
              rw [hA0] at hfk_fr_158
              refine v_new E in_J2 tyJ2 tyJ2_ok q113 q114 q73 (ci := 5) rfl (fs := [vi 0, .null, vi 0]) (fun j hj => by rcases (show j = 0 ∨ j = 1 ∨ j = 2 by omega) with rfl | rfl | rfl <;> rfl) (cb' := ((((((((cb2 - 0) - 1) - 2) - 3) - 0) - C0) - 1) - 1)) (sb' := ((((((((sb2 - 0) - 6) - 8) - (2 * (1 + 1) + 7)) - 0) - L0) - 4) - 3)) (by omega) (by omega) dX1_isolate_108 (fun l9 H_159 hq_162 ho_160 hg_161 => ?_)
              have hne_x_l9 : x ≠ l9 := by have := hX0_152.lt; omega
              have hX0_164 := hX0_152.grow hg_161
              have hge0_l9 : Array.size H_138 ≤ l9 := by rw [hq_162]; exact hfzz_155
              have hfzz_165 : Array.size H_138 ≤ Array.size H_159 := Nat.le_trans hfzz_155 (by rw [hg_161.1]; exact Nat.le_succ _)
              have hfzk_166 : ∀ q9 : Nat, q9 < Array.size H_138 → ¬ (fun q => q = x : Nat → Prop) q9 → H_159[q9]? = H_138[q9]? := fun q9 h9 h8 => (hg_161.2 q9 (Nat.lt_of_lt_of_le h9 hfzz_155)).trans (hfzk_156 q9 h9 h8)
              refine v_dup E rfl dX1_isolate_111 ?_
              have h93_l9 : κ.2 93 ≤ l9 := Nat.le_trans hC.le (Nat.le_trans hfz_fr_151 hge0_l9)
              refine V.frame (fun hfz_fr_167 hfk_fr_167 => ?_)
              rw [hH0] at hfz_fr_167 hfk_fr_167
              rw [hA0] at hfk_fr_167
              have hC_fr_167 := hC.call hA93 hfz_fr_167 hfk_fr_167
              refine v_callI E (As := []) (b := l9) (j_init κ H_159 h93_l9 hC_fr_167 ho_160) q117 q73 q115 q116 rfl 0 (by decide +kernel) rfl (by decide) (by decide) (cb' := (((((((((cb2 - 0) - 1) - 2) - 3) - 0) - C0) - 1) - 1) - 0)) (sb' := (((((((((sb2 - 0) - 6) - 8) - (2 * (1 + 1) + 7)) - 0) - L0) - 4) - 3) - 0)) (by omega) (by omega) rfl (rest := [.ref l9, .ref x]) (Nat.le_of_ble_eq_true rfl) (fun q h => hNew q (by rw [show q = l9 from h]; exact Nat.le_trans hfz_fr_151 hge0_l9)) dX1_isolate_112 (fun v_168 H_169 hpost_170 hz_171 hk_172 => ?_)
              obtain ⟨rfl, hAF_l9⟩ := hpost_170
              have hfzz_173 : Array.size H_138 ≤ Array.size H_169 := Nat.le_trans hfzz_165 hz_171
              have hfzk_174 : ∀ q9 : Nat, q9 < Array.size H_138 → ¬ (fun q => q = x : Nat → Prop) q9 → H_169[q9]? = H_138[q9]? := fun q9 h9 h8 => (hk_172 q9 (Nat.lt_of_lt_of_le h9 hfzz_165) (fun e => by have e2 : q9 = l9 := e; have := hge0_l9; omega)).trans (hfzk_166 q9 h9 h8)
              have hr_175 := hX0_164.kept (hk_172 _ hX0_164.lt (fun h => hne_x_l9 h))
              refine V.eq (st' := [.ref l9, .ref x]) rfl ?_
              refine V.frame (fun hfz_fr_176 hfk_fr_176 => ?_)
              rw [hH0] at hfz_fr_176 hfk_fr_176
              rw [hA0] at hfk_fr_176
              have hC_fr_176 := hC.call hA93 hfz_fr_176 hfk_fr_176
              refine v_putf E in_X1 tyX1 tyX1_ok nmX1 hr_175 (ci := 0) rfl 2 (Nat.le_of_ble_eq_true rfl) q274 rfl rfl rfl rfl (Nat.le_of_ble_eq_true rfl) (hAll _ hpAx) dX1_isolate_115 (fun H_179 hr_177 hs_178 => ?_)
              have hr_177 : hp κ H_179 x (.inr (0, [.ref ls, .ref (a i0), .ref l9])) := hr_177
              have hfzz_180 : Array.size H_138 ≤ Array.size H_179 := Nat.le_trans hfzz_173 (Nat.le_of_eq hs_178.1.symm)
              have hfzk_181 : ∀ q9 : Nat, q9 < Array.size H_138 → ¬ (fun q => q = x : Nat → Prop) q9 → H_179[q9]? = H_138[q9]? := fun q9 h9 h8 => (hs_178.2 q9 (fun e => h8 e)).trans (hfzk_174 q9 h9 h8)
              have hfzz_182 : Array.size H_169 ≤ Array.size H_179 := Nat.le_trans (Nat.le_refl _) (Nat.le_of_eq hs_178.1.symm)
              have hfzk_183 : ∀ q9 : Nat, q9 < Array.size H_169 → ¬ (fun q => q = x : Nat → Prop) q9 → H_179[q9]? = H_169[q9]? := fun q9 h9 h8 => (hs_178.2 q9 (fun e => h8 e)).trans ((fun _ _ _ => rfl) q9 h9 h8)
              refine v_aload_n E 5 rfl dX1_isolate_118 ?_
              refine v_getf E in_X1 hr_177 (ci := 0) rfl 2 (by decide) q274 rfl (v := .ref l9) rfl dX1_isolate_119 ?_
              refine V.frame (fun hfz_fr_184 hfk_fr_184 => ?_)
              rw [hH0] at hfz_fr_184 hfk_fr_184
              rw [hA0] at hfk_fr_184
              have hC_fr_184 := hC.call hA93 hfz_fr_184 hfk_fr_184
              refine V.frame (fun hfz_fr_185 hfk_fr_185 => ?_)
              rw [hH0] at hfz_fr_185 hfk_fr_185
              rw [hA0] at hfk_fr_185
              refine v_new E in_X5 tyX5 tyX5_ok q418 q1595 q102 (ci := 4) rfl (fs := [vi 0, vi 0, vi 0, vi 0]) (fun j hj => by rcases (show j = 0 ∨ j = 1 ∨ j = 2 ∨ j = 3 by omega) with rfl | rfl | rfl | rfl <;> rfl) (cb' := ((((((((((cb2 - 0) - 1) - 2) - 3) - 0) - C0) - 1) - 1) - 0) - 1)) (sb' := ((((((((((sb2 - 0) - 6) - 8) - (2 * (1 + 1) + 7)) - 0) - L0) - 4) - 3) - 0) - 4)) (by omega) (by omega) dX1_isolate_122 (fun y9 H_186 hq_189 ho_187 hg_188 => ?_)
              have hne_x_y9 : x ≠ y9 := by have := hr_177.lt; omega
              have hr_191 := hr_177.grow hg_188
              have hge0_y9 : Array.size H_138 ≤ y9 := by rw [hq_189]; exact hfzz_180
              have hfzz_192 : Array.size H_138 ≤ Array.size H_186 := Nat.le_trans hfzz_180 (by rw [hg_188.1]; exact Nat.le_succ _)
              have hfzk_193 : ∀ q9 : Nat, q9 < Array.size H_138 → ¬ (fun q => q = x : Nat → Prop) q9 → H_186[q9]? = H_138[q9]? := fun q9 h9 h8 => (hg_188.2 q9 (Nat.lt_of_lt_of_le h9 hfzz_180)).trans (hfzk_181 q9 h9 h8)
              have hge1_y9 : Array.size H_169 ≤ y9 := by rw [hq_189]; exact hfzz_182
              have hfzz_194 : Array.size H_169 ≤ Array.size H_186 := Nat.le_trans hfzz_182 (by rw [hg_188.1]; exact Nat.le_succ _)
              have hfzk_195 : ∀ q9 : Nat, q9 < Array.size H_169 → ¬ (fun q => q = x : Nat → Prop) q9 → H_186[q9]? = H_169[q9]? := fun q9 h9 h8 => (hg_188.2 q9 (Nat.lt_of_lt_of_le h9 hfzz_182)).trans (hfzk_183 q9 h9 h8)
              refine v_dup E rfl dX1_isolate_125 ?_
              refine v_iconst E dX1_isolate_126 ?_
              refine v_iload E 1 rfl dX1_isolate_127 ?_
              refine v_ineg E dX1_isolate_129 ?_
              refine v_iload E 1 rfl dX1_isolate_130 ?_
              refine v_iload E 0 rfl dX1_isolate_132 ?_
              refine V.frame (fun hfz_fr_196 hfk_fr_196 => ?_)
              rw [hH0] at hfz_fr_196 hfk_fr_196
              rw [hA0] at hfk_fr_196
              have hC_fr_196 := hC.call hA93 hfz_fr_196 hfk_fr_196
              refine v_callI E (As := [vi 0, vi (-b), vi b, vi (arF (sq (T (a i0))) (seqLen (T (a i0))))]) (b := y9) (i_init κ H_186 ho_187) q1598 q102 q1596 q1597 rfl 4 (by decide +kernel) rfl (by decide) (by decide) (cb' := (((((((((((cb2 - 0) - 1) - 2) - 3) - 0) - C0) - 1) - 1) - 0) - 1) - 0)) (sb' := (((((((((((sb2 - 0) - 6) - 8) - (2 * (1 + 1) + 7)) - 0) - L0) - 4) - 3) - 0) - 4) - 0)) (by omega) (by omega) rfl (rest := [.ref y9, .ref l9]) (Nat.le_of_ble_eq_true rfl) (fun q h => hNew q (by rw [show q = y9 from h]; exact Nat.le_trans hfz_fr_151 hge0_y9)) dX1_isolate_134 (fun v_197 H_198 hpost_199 hz_200 hk_201 => ?_)
              obtain ⟨rfl, hE4⟩ := hpost_199
              have hfzz_202 : Array.size H_138 ≤ Array.size H_198 := Nat.le_trans hfzz_192 hz_200
              have hfzk_203 : ∀ q9 : Nat, q9 < Array.size H_138 → ¬ (fun q => q = x : Nat → Prop) q9 → H_198[q9]? = H_138[q9]? := fun q9 h9 h8 => (hk_201 q9 (Nat.lt_of_lt_of_le h9 hfzz_192) (fun e => by have e2 : q9 = y9 := e; have := hge0_y9; omega)).trans (hfzk_193 q9 h9 h8)
              have hfzz_204 : Array.size H_169 ≤ Array.size H_198 := Nat.le_trans hfzz_194 hz_200
              have hfzk_205 : ∀ q9 : Nat, q9 < Array.size H_169 → ¬ (fun q => q = x : Nat → Prop) q9 → H_198[q9]? = H_169[q9]? := fun q9 h9 h8 => (hk_201 q9 (Nat.lt_of_lt_of_le h9 hfzz_194) (fun e => by have e2 : q9 = y9 := e; have := hge1_y9; omega)).trans (hfzk_195 q9 h9 h8)
              have hr_206 := hr_191.kept (hk_201 _ hr_191.lt (fun h => hne_x_y9 h))
              refine V.eq (st' := [.ref y9, .ref l9]) rfl ?_
              have hAL9 := AL.grow2 hC_fr_176 hr_175 hS.1.1 hfzz_204 hfzk_205 hAF_l9
              have hal0 : alM 0 = 1 ∧ alS 0 = 10 := by decide
              have hne_ly : l9 ≠ y9 := Ne.symm (hp.kk hC.D hE4 hAL9.1 (by decide) (by decide) (by decide))
              refine V.frame (fun hfz_fr_207 hfk_fr_207 => ?_)
              rw [hH0] at hfz_fr_207 hfk_fr_207
              rw [hA0] at hfk_fr_207
              have hC_fr_207 := hC.call hA93 hfz_fr_207 hfk_fr_207
              refine v_callV E (As := [.ref y9]) (b := l9) (ci := 5) (C := RJ2) (T := TJ2) (N := 3) hAL9.1 rfl (j_addB κ H_198 hC_fr_207 (by decide) ⟨4, _, hE4, Or.inr (Or.inr (Or.inl rfl))⟩ hAL9) (lw_V q208 q209 q210 q73 q211) 1 (by decide +kernel) rfl (by decide) (by decide) (cb' := ((((((((((((cb2 - 0) - 1) - 2) - 3) - 0) - C0) - 1) - 1) - 0) - 1) - 0) - 1)) (sb' := ((((((((((((sb2 - 0) - 6) - 8) - (2 * (1 + 1) + 7)) - 0) - L0) - 4) - 3) - 0) - 4) - 0) - 10)) (by omega) (by omega) rfl (rest := []) (Nat.le_of_ble_eq_true rfl) (fun q h => hNew q (h.elim (fun h => by rw [h]; exact Nat.le_trans hfz_fr_151 hge0_l9) (fun h => absurd h.2 (by decide)))) dX1_isolate_137 (fun v_208 H_209 hpost_210 hz_211 hk_212 => ?_)
              obtain ⟨rfl, b9, md9, g9, hA9, -, hg9, hb9⟩ := hpost_210
              have hfzz_213 : Array.size H_138 ≤ Array.size H_209 := Nat.le_trans hfzz_202 hz_211
              have hfzk_214 : ∀ q9 : Nat, q9 < Array.size H_138 → ¬ (fun q => q = x : Nat → Prop) q9 → H_209[q9]? = H_138[q9]? := fun q9 h9 h8 => (hk_212 q9 (Nat.lt_of_lt_of_le h9 hfzz_202) (fun e => by exact e.elim (fun e => by have := hge0_l9; omega) (fun e => absurd e.2 (by decide)))).trans (hfzk_203 q9 h9 h8)
              have hr_215 := hr_206.kept (hk_212 _ hr_206.lt (fun h => h.elim (fun h => hne_x_l9 h) (fun h => absurd h.2 (by decide))))
              have hr_216 := hE4.kept (hk_212 _ hE4.lt (fun h => h.elim (fun h => (Ne.symm hne_ly) h) (fun h => absurd h.2 (by decide))))
              have hb29 : Array.size H_138 ≤ b9 := hb9.elim (fun h => absurd h.2 (by decide)) (fun h => Nat.le_trans hfzz_202 h)
              refine V.eq (st' := [vi 1]) rfl ?_
              refine v_pop E rfl dX1_isolate_140 ?_
              refine v_iload E 0 rfl dX1_isolate_141 ?_
              refine V.rt E hE (fun z9 E hE => ?_)
              refine v_iret E hE dX1_isolate_143 ?_
              have hop : xoIso S (i0 : Int) = ((arF (sq (T (a i0))) (seqLen (T (a i0)))), 0, S) := by unfold xoIso; rw [if_pos (by omega)]; show (if (S i0).1 = 0 then _ else _) = _; rw [if_neg (by omega)]; show (arF (sq (S i0)) (seqLen (S i0)), 0, S) = _; rw [hST i0 hii0]
              rw [hop]
              refine ⟨rfl, rfl, ?_⟩
              show CP κ _ x S (some (S i0)) 1 10 (fun _ => (0, -cBnd (S i0), cBnd (S i0), (arF (sq (T (a i0))) (seqLen (T (a i0))))))
              rw [hST i0 hii0, hbe]
              exact ⟨ls, bs, l9, b9, a, some (a i0), T, CS.reiso hC_fr_151 hfzz_213 hfzk_214 hr_215 hA9 (fun j hj => ⟨_, by rw [show j = 0 by omega]; exact hg9, hr_216⟩) hge0_l9 hb29 hKf hl_143, hST, rfl⟩
            · obtain ⟨n8, hn8⟩ : ∃ n8, n9 = n8 + 1 := by
                refine ⟨n9 - 1, ?_⟩
                by_cases q : n9 = 0
                · have := hb.2; rw [q, Int.pow_zero] at this; omega
                · omega
              refine v_iload E 0 rfl dX1_isolate_84 ?_
              refine v_iconst E dX1_isolate_86 ?_
              refine v_imul E dX1_isolate_87 ?_
              refine v_istore E dX1_isolate_88 (zlt hL rfl) (lv' := [(4, vi (b * 2)), (3, .ref gq), (2, .ref (a i0)), (1, vi ((i0 : Nat) : Int)), (0, .ref x)]) rfl ?_
              refine v_goto E (tgt := 56) dX1_isolate_90 (by decide) ?_
              exact ih_56  H_101 n8 (b * 2) (((((cb2 - 0) - 1) - 2) - 3) - 0) (((((sb2 - 0) - 6) - 8) - (2 * (1 + 1) + 7)) - 0) (by omega) ⟨by omega, by rw [Int.mul_assoc, show (2 : Int) * 2 ^ n8 = 2 ^ n9 by rw [hn8, Int.pow_succ]; exact Int.mul_comm _ _]; exact hb.2⟩ (hres.trans (by rw [hn8]; show (if (b - 1) * l < mm then _ else _) = _; rw [if_pos (by omega)])) (by omega) (by omega) hl_107 hl_108
        have hG_217 : BI κ H_30 gq mm := by rw [hmm, ← hkn2]; exact hl_36
        exact loop_56 (14 + 1) H_30 14 1 (cb - 0) (sb - 0) (by omega) ⟨by decide, by decide⟩ rfl (by omega) (by omega) hG_217 hl_37
      · refine v_aload_n E 1 rfl dX1_isolate_30 ?_
        refine v_aload_n E 2 rfl dX1_isolate_31 ?_
        obtain ⟨-, -, pk_218, vs_219, vf_220, vg_221, hkn_222, hpk_223, -⟩ := id (hl_37.2.2.2.2.1 i0 hii0)
        refine v_getfN (host := "SturmRoots") E in_X2 hkn_222 (ci := 1) rfl 0 (by decide) (by decide +kernel) rfl (v := .ref pk_218) rfl dX1_isolate_32 ?_
        refine v_iload E 0 rfl dX1_isolate_35 ?_
        refine V.frame (fun hfz_fr_226 hfk_fr_226 => ?_)
        rw [hH0] at hfz_fr_226 hfk_fr_226
        rw [hA0] at hfk_fr_226
        have hC_fr_226 := hC.call hA93 hfz_fr_226 hfk_fr_226
        obtain ⟨-, -, l_233, ho_232, -⟩ := id hpk_223
        refine v_callV E (As := [vi (i : Int)]) (b := pk_218) (ci := 2) (C := RX3) (T := TX3) (N := 1) ho_232 rfl (p_at κ H_30 (i := i) (by omega) hC_fr_226 hpk_223) (lw_V q467 q468 q469 q75 q470) 1 (by decide +kernel) rfl (by decide) (by decide) (cb' := ((cb - 0) - 0)) (sb' := ((sb - 0) - 0)) (by omega) (by omega) rfl (rest := [.ref gq]) (Nat.le_of_ble_eq_true rfl) (fun q h => h.elim) dX1_isolate_37 (fun v_227 H_228 hpost_229 hz_230 hk_231 => ?_)
        obtain ⟨qa_224, rfl, hBa_225⟩ := hpost_229
        have hl_234 := BI.kf hC.D (kF.ext hz_230 hk_231) hl_36
        have hl_235 := CS.kf0 hC_fr_226 (kF.ext hz_230 hk_231) hl_37
        have hl_236 := Po.kf hC_fr_226 (kF.ext hz_230 hk_231) aD.no hl_38
        have hl_237 := Po.kf hC_fr_226 (kF.ext hz_230 hk_231) aD.no hpk_223
        refine V.eq (st' := [.ref qa_224, .ref gq]) rfl ?_
        refine V.frame (fun hfz_fr_240 hfk_fr_240 => ?_)
        rw [hH0] at hfz_fr_240 hfk_fr_240
        rw [hA0] at hfk_fr_240
        have hC_fr_240 := hC.call hA93 hfz_fr_240 hfk_fr_240
        obtain ⟨mz_247, nz_247, cfz_247, ⟨c1z_247, c2z_247, c3z_247, ho_246⟩, -⟩ := id hBa_225
        refine v_callV E (As := []) (b := qa_224) (ci := 6) (C := RJ16) (T := TJ16) (N := 6) ho_246 rfl (g_abs κ H_228 hC_fr_240 hBa_225) (lw_V q622 q623 q624 q91 q625) 0 (by decide +kernel) rfl (by decide) (by decide) (cb' := (((cb - 0) - 0) - 1)) (sb' := (((sb - 0) - 0) - 6)) (by omega) (by omega) rfl (rest := [.ref gq]) (Nat.le_of_ble_eq_true rfl) (fun q h => h.elim) dX1_isolate_40 (fun v_241 H_242 hpost_243 hz_244 hk_245 => ?_)
        obtain ⟨qz_238, rfl, hBz_239⟩ := hpost_243
        have hl_248 := BI.kf hC.D (kF.ext hz_244 hk_245) hl_234
        have hl_249 := CS.kf0 hC_fr_240 (kF.ext hz_244 hk_245) hl_235
        have hl_250 := Po.kf hC_fr_240 (kF.ext hz_244 hk_245) aD.no hl_236
        have hl_251 := Po.kf hC_fr_240 (kF.ext hz_244 hk_245) aD.no hl_237
        have hl_252 := BI.kf hC.D (kF.ext hz_244 hk_245) hBa_225
        refine V.eq (st' := [.ref qz_238, .ref gq]) rfl ?_
        refine V.frame (fun hfz_fr_253 hfk_fr_253 => ?_)
        rw [hH0] at hfz_fr_253 hfk_fr_253
        rw [hA0] at hfk_fr_253
        have hC_fr_253 := hC.call hA93 hfz_fr_253 hfk_fr_253
        obtain ⟨mz_260, nz_260, cfz_260, ⟨c1z_260, c2z_260, c3z_260, ho_259⟩, -⟩ := id hl_248
        refine v_callV E (As := [.ref qz_238]) (b := gq) (ci := 6) (C := RJ16) (T := TJ16) (N := 6) ho_259 rfl (g_max κ H_242 hl_248 hBz_239) (lw_V q1590 q1591 q1592 q91 q1593) 1 (by decide +kernel) rfl (by decide) (by decide) (cb' := ((((cb - 0) - 0) - 1) - 0)) (sb' := ((((sb - 0) - 0) - 6) - 0)) (by omega) (by omega) rfl (rest := []) (Nat.le_of_ble_eq_true rfl) (fun q h => h.elim) dX1_isolate_43 (fun v_254 H_255 hpost_256 hz_257 hk_258 => ?_)
        obtain ⟨qx, rfl, hBx⟩ := hpost_256
        have hl_261 := BI.kf hC.D (kF.ext hz_257 hk_258) hl_248
        have hl_262 := CS.kf0 hC_fr_253 (kF.ext hz_257 hk_258) hl_249
        have hl_263 := Po.kf hC_fr_253 (kF.ext hz_257 hk_258) aD.no hl_250
        have hl_264 := Po.kf hC_fr_253 (kF.ext hz_257 hk_258) aD.no hl_251
        have hl_265 := BI.kf hC.D (kF.ext hz_257 hk_258) hl_252
        have hl_266 := BI.kf hC.D (kF.ext hz_257 hk_258) hBz_239
        refine V.eq (st' := [.ref qx]) rfl ?_
        refine v_astore_n E dX1_isolate_46 (zlt hL rfl) (lv' := [(3, .ref qx), (4, vi (i : Int)), (2, .ref (a i0)), (1, vi ((i0 : Nat) : Int)), (0, .ref x)]) rfl ?_
        refine v_iinc E 1 rfl dX1_isolate_47 (zlt hL rfl) (lv' := [(4, vi ((i : Int) + 1)), (3, .ref qx), (2, .ref (a i0)), (1, vi ((i0 : Nat) : Int)), (0, .ref x)]) rfl ?_
        refine v_goto E (tgt := 18) dX1_isolate_50 (by decide) ?_
        exact ih_18  H_255 (i + 1) qx ((((cb - 0) - 0) - 1) - 0) ((((sb - 0) - 0) - 6) - 0) (by omega) (by omega) (by omega) (by omega) hBx hl_262
  refine V.sub [0, 1, 2, 4, 3] (lv' := [(4, vi 0), (3, .ref nq), (2, .ref (a i0)), (1, vi ((i0 : Nat) : Int)), (0, .ref x)]) rfl ?_
  exact loop_18 ((T (a i0)).1 + 1) H_17 0 nq ((((C0 + 110) - 1) - 1) - 0) ((((L0 + 450) - 6) - 6) - 0) (by omega) (Nat.zero_le _) (by have := (hokT i0 hii0).1; omega) (by have := (hokT i0 hii0).1; omega) hnq hl_21
