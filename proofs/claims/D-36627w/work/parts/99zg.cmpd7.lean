/-! THE COMPONENT: countAll -/
/-- the polynomials told by another function, the same at all the state's Knowns -/
theorem CS.congrT {κ : zK} {D : Nat → Prop} {H : Heap} {x ls bs li bi : Nat} {a : Nat → Nat} {iso : Option Nat} {T T' : Nat → Pl} {n cap : Nat} {iv : Nat → Ivl} (h1 : ∀ k, k < 5 → T' (a k) = T (a k)) (h2 : ∀ k, iso = some k → T' k = T k) (h : CS κ D H x ls bs li bi a iso T n cap iv) : CS κ D H x ls bs li bi a iso T' n cap iv := by
  obtain ⟨g0, g1, g2, g3, g6, g7⟩ := h
  exact ⟨g0, g1, g2, g3, fun k hk => by rw [h1 k hk]; exact g6 k hk, fun k hk => by rw [h2 k hk]; exact g7 k hk⟩
/-- the divisors one after another -/
def dvI (P : Pl) : Nat → Pl
  | 0 => P
  | j + 1 => cDvs (dvI P j)
/-- the sum over the divisors -/
def xaF (n : Int) (k : Nat) (m : Int) (l : Nat) : Nat → Pl → Int
  | 0, _ => 0
  | s + 1, P => if 1 < P.1 then ((chG (fun i => cSg (sq P i) n k) (seqLen P) : Nat) : Int) - ((chG (fun i => cSg (sq P i) m l) (seqLen P) : Nat) : Int) + xaF n k m l s (cDvs P) else 0
def xoAll (S : Nat → Pl) (a n k m l : Int) : zRc := if 0 < xoBt S a n k m l then (0, xoBt S a n k m l, S) else (xaF n k.toNat m l.toNat 7 (S a.toNat), 0, S)
/-- all that the divisors' sequences need -/
def okDv (P : Pl) (N : Nat → Nat → Nat) (M : Nat → Nat) (M0 : Nat) (Nt Kt : Nat → Nat) (C0 L0 C1 L1 : Nat) : Prop := ∀ j, (∀ i, i ≤ j → 1 < (dvI P i).1) → okQ (dvI P j) N M M0 Nt Kt C0 L0 C1 L1 ∧ (dvI P (j + 1)).1 < (dvI P j).1
theorem xaF_e {n : Int} {k : Nat} {m : Int} {l s : Nat} {P : Pl} (h : ¬ 1 < P.1) : xaF n k m l s P = 0 := by
  cases s with
  | zero => rfl
  | succ s => exact if_neg h
theorem xaF_s {n : Int} {k : Nat} {m : Int} {l s : Nat} {P : Pl} (h : 1 < P.1) (hs : 0 < s) : xaF n k m l s P = ((chG (fun i => cSg (sq P i) n k) (seqLen P) : Nat) : Int) - ((chG (fun i => cSg (sq P i) m l) (seqLen P) : Nat) : Int) + xaF n k m l (s - 1) (cDvs P) := by
  match s, hs with
  | s + 1, _ => exact if_pos h
set_option maxHeartbeats 1000000 in
set_option maxRecDepth 100000 in
/-- countAll -/
theorem c_all (κ : zK) (H0 : Heap) {x : Nat} {S : Nat → Pl} {isoP : Option Pl} {n cap : Nat} {iv : Nat → Ivl} {v0 : Int} (hrv0 : rI v0) {v1 : Int} (hrv1 : rI v1) {v2 : Int} (hrv2 : rI v2) {v3 : Int} (hrv3 : rI v3) {v4 : Int} (hrv4 : rI v4) (hC : CO κ H0) {N : Nat → Nat → Nat} {M : Nat → Nat} {M0 : Nat} {Nt Kt : Nat → Nat} {C0 L0 C1 L1 : Nat} {N3 K3 : Nat} (hQA : ∀ i, i < 5 → 0 < (S i).1 → okDv (S i) N M M0 Nt Kt C0 L0 C1 L1) (hok7 : ∀ i, i < 5 → (S i).1 ≤ 7) (hfVS : ∀ (i : Nat) (n : Int) (e : Nat), i < 5 → -1000000 ≤ n → n ≤ 1000000 → e ≤ 12 → fitV (S i) n e N3 K3) (hP : CP κ H0 x S isoP n cap iv)  : MtX κ yX1_countAll cX1_countAll 8 (some .int) 15 400 (110 + 6 * (C0 + 2 * C1 + 1)) (50 + 2 * (8 + (4 * K3 + N3 + 28) * 6) + 6 * (L0 + 2 * L1 + 4)) H0 [.ref x, vi v0, vi v1, vi v2, vi v3, vi v4] (pA κ H0) (fun v H1 => (xoAll S v0 v1 v2 v3 v4).2.1 = 0 ∧ v = some (vi (xoAll S v0 v1 v2 v3 v4).1) ∧ CP κ H1 x (xoAll S v0 v1 v2 v3 v4).2.2 isoP n cap iv) (fun C H1 => (C = "java/lang/IndexOutOfBoundsException" ∧ (xoAll S v0 v1 v2 v3 v4).2.1 = 1 ∨ C = "java/lang/IllegalArgumentException" ∧ (xoAll S v0 v1 v2 v3 v4).2.1 = 2 ∨ C = "java/lang/ArithmeticException" ∧ (xoAll S v0 v1 v2 v3 v4).2.1 = 3 ∨ C = "java/lang/IllegalStateException" ∧ (xoAll S v0 v1 v2 v3 v4).2.1 = 4) ∧ CP κ H1 x S isoP n cap iv) := by
  refine MtX.of (by decide) (Nat.le_of_ble_eq_true rfl) ?_
  intro z E X9 hE hH0 hA0 hL hini
  have hAll : ∀ q, (pA κ H0) q → zA z.A z.H0 q := fun q h => Or.inl (by rw [hA0]; exact h)
  have hNew : ∀ q, H0.size ≤ q → zA z.A z.H0 q := fun q h => Or.inr (by rw [hH0]; exact h)
  have E : zOK z cX1_countAll RX1 κ 15 400 (some .int) := E
  refine V.eqL (lv' := [(0, .ref x), (1, vi v0), (2, vi v1), (3, vi v2), (4, vi v3), (5, vi v4)]) rfl ?_
  obtain ⟨ls, bs, li, bi, a, iso, T, hS, hST, hiso⟩ := hP
  have hA93 : ∀ q, pA κ H0 q → κ.2 93 ≤ q := fun q h => h.1
  have hD := hC.D
  have hsl0 := hS.sl
  refine v_aload_n E 0 rfl dX1_countAll_0 ?_
  refine v_iload_n E 1 rfl dX1_countAll_1 ?_
  refine v_iload_n E 2 rfl dX1_countAll_2 ?_
  refine v_iload_n E 3 rfl dX1_countAll_3 ?_
  refine v_iload E 4 rfl dX1_countAll_4 ?_
  refine v_iload E 5 rfl dX1_countAll_6 ?_
  refine V.frame (fun hfz_fr_1 hfk_fr_1 => ?_)
  rw [hH0] at hfz_fr_1 hfk_fr_1
  rw [hA0] at hfk_fr_1
  have hC_fr_1 := hC.call hA93 hfz_fr_1 hfk_fr_1
  refine v_callVX E X9 hE (As := [vi v0, vi v1, vi v2, vi v3, vi v4]) (b := x) (ci := 0) (C := RX1) (T := TX1) (N := 3) hS.2.1 rfl (x_btw κ H0 (N3 := N3) (K3 := K3) hrv0 hrv1 hrv2 hrv3 hrv4 (fun k hk => by rw [← hST k hk]; exact hok7 k hk) (fun i n e hi => by rw [← hST i hi]; exact hfVS i n e hi) hC_fr_1 hS) (lw_V q1551 q1553 qs42 q70 q1554) 5 (by decide +kernel) rfl (by decide) (by decide) (cb' := ((110 + 6 * (C0 + 2 * C1 + 1)) - 110)) (sb' := ((50 + 2 * (8 + (4 * K3 + N3 + 28) * 6) + 6 * (L0 + 2 * L1 + 4)) - (50 + 2 * (8 + (4 * K3 + N3 + 28) * 6)))) (by omega) (by omega) rfl (rest := []) (Nat.le_of_ble_eq_true rfl) (fun q h => h.elim) dX1_countAll_8 (fun C9 H9 hx9 hz9 hk9 => (by
          refine ⟨?_, CS.pub (CS.kf0 hC_fr_1 (kF.ext hz9 hk9) hS) hST hiso⟩
          have hcg := xoBt_congr hST v0 v1 v2 v3 v4
          rcases hx9 with ⟨e1, e2⟩ | ⟨e1, e2⟩ | ⟨e1, e2⟩ | ⟨e1, e2⟩
          · exact Or.inl (⟨e1, by unfold xoAll; rw [hcg, e2]; rfl⟩)
          · exact Or.inr (Or.inl (⟨e1, by unfold xoAll; rw [hcg, e2]; rfl⟩))
          · exact Or.inr (Or.inr (Or.inl (⟨e1, by unfold xoAll; rw [hcg, e2]; rfl⟩)))
          · exact Or.inr (Or.inr (Or.inr (⟨e1, by unfold xoAll; rw [hcg, e2]; rfl⟩))))) (fun v_2 H_3 hpost_4 hz_5 hk_6 => ?_)
  obtain ⟨hbt, i0, e2, e4, rfl, rfl, rfl, hii0, hpe2, hpe4, hpn, hpm, hposT, rfl⟩ := hpost_4
  have hl_7 := CS.kf0 hC_fr_1 (kF.ext hz_5 hk_6) hS
  have hposS : 0 < (S i0).1 := by rw [hST i0 hii0]; exact hposT
  have hbS : xoBt S (i0 : Int) v1 (e2 : Int) v3 (e4 : Int) = 0 := (xoBt_congr hST _ _ _ _ _).trans hbt
  have hQ0 := hQA i0 hii0 hposS
  have h70 := hok7 i0 hii0
  rw [hST i0 hii0] at hQ0 h70
  refine V.eq (st' := [.ref (a i0)]) rfl ?_
  refine v_astore E dX1_countAll_11 (zlt hL rfl) (lv' := [(6, .ref (a i0)), (0, .ref x), (1, vi ((i0 : Nat) : Int)), (2, vi v1), (3, vi ((e2 : Nat) : Int)), (4, vi v3), (5, vi ((e4 : Nat) : Int))]) rfl ?_
  refine v_iconst E dX1_countAll_13 ?_
  refine v_istore E dX1_countAll_14 (zlt hL rfl) (lv' := [(7, vi 0), (6, .ref (a i0)), (0, .ref x), (1, vi ((i0 : Nat) : Int)), (2, vi v1), (3, vi ((e2 : Nat) : Int)), (4, vi v3), (5, vi ((e4 : Nat) : Int))]) rfl ?_
  have loop_16 : ∀ (m_16 : Nat) (H : Heap) (kk j : Nat) (T2 : Nat → Pl) (cnt : Int) (cb sb : Nat), 8 - j < m_16 → (T2 kk = dvI (T (a i0)) j) → ((T2 kk).1 + j ≤ 7) → (∀ i, i < j → 1 < (dvI (T (a i0)) i).1) → (∀ k, k < 5 → T2 (a k) = T (a k)) → (∀ k, iso = some k → T2 k = T k) → (cnt + xaF v1 e2 v3 e4 (7 - j) (T2 kk) = xaF v1 e2 v3 e4 7 (T (a i0))) → ((C0 + 2 * C1 + 1) * (6 - j) ≤ cb) → ((L0 + 2 * L1 + 4) * (6 - j) ≤ sb) → CS κ (dS ls bs li bi) H x ls bs li bi a iso T2 n cap iv → Kn κ (dS ls bs li bi) H kk (T2 kk) false → V z H cb sb 16 [(7, vi cnt), (6, .ref kk), (5, vi ((e4 : Nat) : Int)), (4, vi v3), (3, vi ((e2 : Nat) : Int)), (2, vi v1)] [] := by
    intro m_16
    induction m_16 with
    | zero => intro H kk j T2 cnt cb sb hm; exact absurd hm (by omega)
    | succ m_16 ih_16 =>
      intro H kk j T2 cnt cb sb hm_16 hTk hdg hch hag hai hcnt hcb hsb hS2 hK2
      refine v_aload E 1 rfl dX1_countAll_16 ?_
      obtain ⟨-, -, pk_8, vs_9, vf_10, vg_11, hkn_12, hpk_13, -⟩ := id hK2
      refine v_getfN (host := "SturmRoots") E in_X2 hkn_12 (ci := 1) rfl 0 (by decide) (by decide +kernel) rfl (v := .ref pk_8) rfl dX1_countAll_18 ?_
      refine V.frame (fun hfz_fr_14 hfk_fr_14 => ?_)
      rw [hH0] at hfz_fr_14 hfk_fr_14
      rw [hA0] at hfk_fr_14
      have hC_fr_14 := hC.call hA93 hfz_fr_14 hfk_fr_14
      obtain ⟨-, -, l_21, ho_20, -⟩ := id hpk_13
      refine v_callV E (As := []) (b := pk_8) (ci := 2) (C := RX3) (T := TX3) (N := 1) ho_20 rfl (p_deg κ H hC_fr_14 hpk_13) (lw_V q617 q618 q619 q75 q620) 0 (by decide +kernel) rfl (by decide) (by decide) (cb' := (cb - 0)) (sb' := (sb - 0)) (by omega) (by omega) rfl (rest := []) (Nat.le_of_ble_eq_true rfl) (fun q h => h.elim) dX1_countAll_21 (fun v_15 H_16 hpost_17 hz_18 hk_19 => ?_)
      obtain rfl := hpost_17
      have hl_22 := CS.kf0 hC_fr_14 (kF.ext hz_18 hk_19) hS2
      have hl_23 := Kn.kf hC_fr_14 (kF.ext hz_18 hk_19) aD.no hK2
      have hl_24 := Po.kf hC_fr_14 (kF.ext hz_18 hk_19) aD.no hpk_13
      refine V.eq (st' := [vi (((Prod.fst (T2 kk) : Nat) : Int) - 1)]) rfl ?_
      refine v_if_le E (tgt := 74) dX1_countAll_24 (by decide) ⟨by omega, by omega⟩ (fun c_24 => ?_) (fun c_24 => ?_)
      · refine v_iload E 0 rfl dX1_countAll_74 ?_
        refine V.rt E hE (fun z9 E hE => ?_)
        refine v_iret E hE dX1_countAll_76 ?_
        have hex : cnt = xaF v1 e2 v3 e4 7 (T (a i0)) := by rw [← hcnt, xaF_e (by omega), Int.add_zero]
        have hop : xoAll S (i0 : Int) v1 (e2 : Int) v3 (e4 : Int) = (cnt, 0, S) := by unfold xoAll; rw [if_neg (by rw [hbS]; decide), hex]; show (xaF v1 e2 v3 e4 7 (S i0), 0, S) = _; rw [hST i0 hii0]
        rw [hop]; exact ⟨rfl, rfl, CS.pub hl_22 (fun k hk => (hST k hk).trans (hag k hk).symm) (hiso.trans (by cases hi9 : iso with | none => rfl | some k => exact congrArg some (hai k hi9).symm))⟩
      · have h1k : 1 < (T2 kk).1 := by omega
        have h1j : 1 < (dvI (T (a i0)) j).1 := by rw [← hTk]; exact h1k
        have hq9 := hQ0 j (fun i hi => by by_cases e : i = j; (· rw [e]; exact h1j); (· exact hch i (by omega)))
        have hqK : okQ (T2 kk) N M M0 Nt Kt C0 L0 C1 L1 := by rw [hTk]; exact hq9.1
        have e91 := mulS (C0 + 2 * C1 + 1) 6 j (by omega)
        have e92 := mulS (L0 + 2 * L1 + 4) 6 j (by omega)
        refine v_iload E 0 rfl dX1_countAll_27 ?_
        refine v_aload E 1 rfl dX1_countAll_29 ?_
        refine V.frame (fun hfz_fr_26 hfk_fr_26 => ?_)
        rw [hH0] at hfz_fr_26 hfk_fr_26
        rw [hA0] at hfk_fr_26
        have hC_fr_26 := hC.call hA93 hfz_fr_26 hfk_fr_26
        obtain ⟨-, -, pk_32, vs_33, vf_34, vg_35, hkn_36, hpk_37, -⟩ := id hl_23
        refine v_callV E (As := []) (b := kk) (ci := 1) (C := RX2) (T := TX2) (N := 4) hkn_36 rfl (k_seq κ H_16 (b := false) (N := N) (M := M) (M0 := M0) hC_fr_26 (fun q h => by have h2 := hsl0; exact ⟨by omega, by omega, by omega, by omega⟩) hqK.1 hl_23) (lw_V q1496 q1472 q1473 q74 q1474) 0 (by decide +kernel) rfl (by decide) (by decide) (cb' := ((cb - 0) - C0)) (sb' := ((sb - 0) - L0)) (by rw [bC_f]; have := hqK.2.1; omega) (by rw [bC_f]; have := hqK.2.2.1; omega) rfl (rest := [vi cnt]) (Nat.le_of_ble_eq_true rfl) (fun q h => by obtain ⟨fs9, h8⟩ := hl_23.cl; have h9 := pA.any hfk_fr_26 h8 (Or.inr (Or.inl rfl)) hl_23.2.1; rw [← show q = _ from h] at h9; exact h9.elim (fun e => hAll q e) (fun e => hNew q e)) dX1_countAll_31 (fun v_27 H_28 hpost_29 hz_30 hk_31 => ?_)
        obtain ⟨ls_25, rfl, hls_25, hKls_25⟩ := hpost_29
        have hSk_38 := kS.of hl_23 hKls_25 hz_30 hk_31
        have hl_39 := CS.ks hC_fr_26 hSk_38 hKls_25 hl_22
        have hl_40 := Po.ks hC_fr_26 hSk_38 hl_24
        have hl_41 := Po.ks hC_fr_26 hSk_38 hpk_37
        refine V.eq (st' := [.ref ls_25, vi cnt]) rfl ?_
        refine v_iload_n E 5 rfl dX1_countAll_34 ?_
        refine v_i2l E ⟨by omega, by omega⟩ dX1_countAll_35 ?_
        refine v_iload_n E 4 rfl dX1_countAll_36 ?_
        refine V.frame (fun hfz_fr_42 hfk_fr_42 => ?_)
        rw [hH0] at hfz_fr_42 hfk_fr_42
        rw [hA0] at hfk_fr_42
        have hC_fr_42 := hC.call hA93 hfz_fr_42 hfk_fr_42
        refine v_callS E (As := [.ref ls_25, vj v1, vi ((e2 : Nat) : Int)]) (p_chg κ H_28 (n := v1) (e := e2) (Nt := Nt) (Kt := Kt) hC_fr_42 ⟨by omega, by omega⟩ hpe2 (hqK.2.2.2.2.2 _ _ (show -4294967296 < v1 ∧ v1 < 4294967296 from ⟨by omega, by omega⟩).1 (show -4294967296 < v1 ∧ v1 < 4294967296 from ⟨by omega, by omega⟩).2 hpe2) hls_25) (lw_S q1530 q1531 q70 q1532) 3 (by decide +kernel) rfl (by decide) (by decide) (cb' := (((cb - 0) - C0) - C1)) (sb' := (((sb - 0) - L0) - L1)) (by have := hqK.2.2.2.1; omega) (by have := hqK.2.2.2.2.1; omega) rfl (rest := [vi cnt]) (Nat.le_of_ble_eq_true rfl) (fun q h => h.elim) dX1_countAll_37 (fun v_43 H_44 hpost_45 hz_46 hk_47 => ?_)
        obtain rfl := hpost_45
        have hl_48 := CS.kf0 hC_fr_42 (kF.ext hz_46 hk_47) hl_39
        have hl_49 := Po.kf hC_fr_42 (kF.ext hz_46 hk_47) aD.no hl_40
        have hl_50 := Po.kf hC_fr_42 (kF.ext hz_46 hk_47) aD.no hl_41
        have hl_51 := SQ.kf hC_fr_42 (kF.ext hz_46 hk_47) aD.no hls_25
        have hl_52 := Kn.kf hC_fr_42 (kF.ext hz_46 hk_47) aD.no hKls_25
        refine V.eq (st' := [vi ((chG (fun i => cSg (sq (T2 kk) i) v1 e2) (seqLen (T2 kk)) : Nat) : Int), vi cnt]) rfl ?_
        refine v_aload E 1 rfl dX1_countAll_40 ?_
        refine V.frame (fun hfz_fr_54 hfk_fr_54 => ?_)
        rw [hH0] at hfz_fr_54 hfk_fr_54
        rw [hA0] at hfk_fr_54
        have hC_fr_54 := hC.call hA93 hfz_fr_54 hfk_fr_54
        obtain ⟨-, -, pk_60, vs_61, vf_62, vg_63, hkn_64, hpk_65, -⟩ := id hl_52
        refine v_callV E (As := []) (b := kk) (ci := 1) (C := RX2) (T := TX2) (N := 4) hkn_64 rfl (k_seq κ H_44 (b := true) (N := N) (M := M) (M0 := M0) hC_fr_54 (fun q h => by have h2 := hsl0; exact ⟨by omega, by omega, by omega, by omega⟩) hqK.1 hl_52) (lw_V q1496 q1472 q1473 q74 q1474) 0 (by decide +kernel) rfl (by decide) (by decide) (cb' := ((((cb - 0) - C0) - C1) - 0)) (sb' := ((((sb - 0) - L0) - L1) - 0)) (by rw [bC_t]; have := hqK.2.1; omega) (by rw [bC_t]; have := hqK.2.2.1; omega) rfl (rest := [vi ((chG (fun i => cSg (sq (T2 kk) i) v1 e2) (seqLen (T2 kk)) : Nat) : Int), vi cnt]) (Nat.le_of_ble_eq_true rfl) (fun q h => by obtain ⟨fs9, h8⟩ := hl_52.cl; have h9 := pA.any hfk_fr_54 h8 (Or.inr (Or.inl rfl)) hl_52.2.1; rw [← show q = _ from h] at h9; exact h9.elim (fun e => hAll q e) (fun e => hNew q e)) dX1_countAll_42 (fun v_55 H_56 hpost_57 hz_58 hk_59 => ?_)
        obtain ⟨ls_53, rfl, hls_53, hKls_53⟩ := hpost_57
        have hSk_66 := kS.of hl_52 hKls_53 hz_58 hk_59
        have hl_67 := CS.ks hC_fr_54 hSk_66 hKls_53 hl_48
        have hl_68 := Po.ks hC_fr_54 hSk_66 hl_49
        have hl_69 := Po.ks hC_fr_54 hSk_66 hl_50
        have hl_70 := SQ.ks hC_fr_54 hSk_66 hl_51
        have hl_71 := Po.ks hC_fr_54 hSk_66 hpk_65
        refine V.eq (st' := [.ref ls_53, vi ((chG (fun i => cSg (sq (T2 kk) i) v1 e2) (seqLen (T2 kk)) : Nat) : Int), vi cnt]) rfl ?_
        refine v_iload E 3 rfl dX1_countAll_45 ?_
        refine v_i2l E ⟨by omega, by omega⟩ dX1_countAll_47 ?_
        refine v_iload E 2 rfl dX1_countAll_48 ?_
        refine V.frame (fun hfz_fr_72 hfk_fr_72 => ?_)
        rw [hH0] at hfz_fr_72 hfk_fr_72
        rw [hA0] at hfk_fr_72
        have hC_fr_72 := hC.call hA93 hfz_fr_72 hfk_fr_72
        refine v_callS E (As := [.ref ls_53, vj v3, vi ((e4 : Nat) : Int)]) (p_chg κ H_56 (n := v3) (e := e4) (Nt := Nt) (Kt := Kt) hC_fr_72 ⟨by omega, by omega⟩ hpe4 (hqK.2.2.2.2.2 _ _ (show -4294967296 < v3 ∧ v3 < 4294967296 from ⟨by omega, by omega⟩).1 (show -4294967296 < v3 ∧ v3 < 4294967296 from ⟨by omega, by omega⟩).2 hpe4) hls_53) (lw_S q1530 q1531 q70 q1532) 3 (by decide +kernel) rfl (by decide) (by decide) (cb' := (((((cb - 0) - C0) - C1) - 0) - C1)) (sb' := (((((sb - 0) - L0) - L1) - 0) - L1)) (by have := hqK.2.2.2.1; omega) (by have := hqK.2.2.2.2.1; omega) rfl (rest := [vi ((chG (fun i => cSg (sq (T2 kk) i) v1 e2) (seqLen (T2 kk)) : Nat) : Int), vi cnt]) (Nat.le_of_ble_eq_true rfl) (fun q h => h.elim) dX1_countAll_50 (fun v_73 H_74 hpost_75 hz_76 hk_77 => ?_)
        obtain rfl := hpost_75
        have hl_78 := CS.kf0 hC_fr_72 (kF.ext hz_76 hk_77) hl_67
        have hl_79 := Po.kf hC_fr_72 (kF.ext hz_76 hk_77) aD.no hl_68
        have hl_80 := Po.kf hC_fr_72 (kF.ext hz_76 hk_77) aD.no hl_69
        have hl_81 := SQ.kf hC_fr_72 (kF.ext hz_76 hk_77) aD.no hl_70
        have hl_82 := Po.kf hC_fr_72 (kF.ext hz_76 hk_77) aD.no hl_71
        have hl_83 := SQ.kf hC_fr_72 (kF.ext hz_76 hk_77) aD.no hls_53
        have hl_84 := Kn.kf hC_fr_72 (kF.ext hz_76 hk_77) aD.no hKls_53
        refine V.eq (st' := [vi ((chG (fun i => cSg (sq (T2 kk) i) v3 e4) (seqLen (T2 kk)) : Nat) : Int), vi ((chG (fun i => cSg (sq (T2 kk) i) v1 e2) (seqLen (T2 kk)) : Nat) : Int), vi cnt]) rfl ?_
        refine v_isub E dX1_countAll_53 ?_
        refine v_iadd E dX1_countAll_54 ?_
        refine v_istore E dX1_countAll_55 (zlt hL rfl) (lv' := [(7, vi (cnt + (((chG (fun i => cSg (sq (T2 kk) i) v1 e2) (seqLen (T2 kk)) : Nat) : Int) - ((chG (fun i => cSg (sq (T2 kk) i) v3 e4) (seqLen (T2 kk)) : Nat) : Int)))), (6, .ref kk), (5, vi ((e4 : Nat) : Int)), (4, vi v3), (3, vi ((e2 : Nat) : Int)), (2, vi v1)]) rfl ?_
        refine V.frame (fun hfz_fr_85 hfk_fr_85 => ?_)
        rw [hH0] at hfz_fr_85 hfk_fr_85
        rw [hA0] at hfk_fr_85
        have hC_fr_85 := hC.call hA93 hfz_fr_85 hfk_fr_85
        refine V.frame (fun hfz_fr_86 hfk_fr_86 => ?_)
        rw [hH0] at hfz_fr_86 hfk_fr_86
        rw [hA0] at hfk_fr_86
        refine v_new E in_X2 tyX2 tyX2_ok q143 q144 q74 (ci := 1) rfl (fs := [.null, .null, .null, .null]) (fun j hj => by rcases (show j = 0 ∨ j = 1 ∨ j = 2 ∨ j = 3 by omega) with rfl | rfl | rfl | rfl <;> rfl) (cb' := ((((((cb - 0) - C0) - C1) - 0) - C1) - 1)) (sb' := ((((((sb - 0) - L0) - L1) - 0) - L1) - 4)) (by omega) (by omega) dX1_countAll_57 (fun qk H_87 hq_90 ho_88 hg_89 => ?_)
        have hneK_qk : qk ≠ kk := by have h9 := (hl_84).lt; omega
        have h93_qk : κ.2 93 ≤ qk := Nat.le_trans hC.le (by rw [hq_90]; exact hfz_fr_85)
        have hge0_qk : H0.size ≤ qk := by rw [hq_90]; exact hfz_fr_85
        have hal_qk : ∀ k, k < 5 → a k ≠ qk := fun k hk => by have h9 := (hl_78).al hk; omega
        have hio_qk : ∀ k, iso = some k → k ≠ qk := fun k hk => by have h9 := ((hl_78).2.2.2.2.2 k hk).lt; omega
        refine v_dup E rfl dX1_countAll_60 ?_
        refine v_aload E 1 rfl dX1_countAll_61 ?_
        have hl_91 := CS.kf0 hC_fr_85 (kF.grow hg_89) hl_78
        have hl_92 := Po.kf hC_fr_85 (kF.grow hg_89) aD.no hl_79
        have hl_93 := Po.kf hC_fr_85 (kF.grow hg_89) aD.no hl_80
        have hl_94 := SQ.kf hC_fr_85 (kF.grow hg_89) aD.no hl_81
        have hl_95 := Po.kf hC_fr_85 (kF.grow hg_89) aD.no hl_82
        have hl_96 := SQ.kf hC_fr_85 (kF.grow hg_89) aD.no hl_83
        have hl_97 := Kn.kf hC_fr_85 (kF.grow hg_89) aD.no hl_84
        refine V.frame (fun hfz_fr_99 hfk_fr_99 => ?_)
        rw [hH0] at hfz_fr_99 hfk_fr_99
        rw [hA0] at hfk_fr_99
        have hC_fr_99 := hC.call hA93 hfz_fr_99 hfk_fr_99
        obtain ⟨-, -, pk_105, vs_106, vf_107, vg_108, hkn_109, hpk_110, -⟩ := id hl_97
        refine v_callV E (As := []) (b := kk) (ci := 1) (C := RX2) (T := TX2) (N := 4) hkn_109 rfl (k_div κ H_87 (b := true) (N := N) (M := M) (M0 := M0) hC_fr_99 (fun q h => by have h2 := hsl0; exact ⟨by omega, by omega, by omega, by omega⟩) hqK.1 hl_97) (lw_V q1562 q1481 q1482 q74 q1483) 0 (by decide +kernel) rfl (by decide) (by decide) (cb' := (((((((cb - 0) - C0) - C1) - 0) - C1) - 1) - 0)) (sb' := (((((((sb - 0) - L0) - L1) - 0) - L1) - 4) - 0)) (by rw [bC_t]; have := hqK.2.1; omega) (by rw [bC_t]; have := hqK.2.2.1; omega) rfl (rest := [.ref qk, .ref qk]) (Nat.le_of_ble_eq_true rfl) (fun q h => by obtain ⟨fs9, h8⟩ := hl_97.cl; have h9 := pA.any hfk_fr_99 h8 (Or.inr (Or.inl rfl)) hl_97.2.1; rw [← show q = _ from h] at h9; exact h9.elim (fun e => hAll q e) (fun e => hNew q e)) dX1_countAll_63 (fun v_100 H_101 hpost_102 hz_103 hk_104 => ?_)
        obtain ⟨rd_98, rfl, hrd_98, hKrd_98⟩ := hpost_102
        have hSk_111 := kS.of hl_97 hKrd_98 hz_103 hk_104
        have hl_112 := CS.ks hC_fr_99 hSk_111 hKrd_98 hl_91
        have hl_113 := Po.ks hC_fr_99 hSk_111 hl_92
        have hl_114 := Po.ks hC_fr_99 hSk_111 hl_93
        have hl_115 := SQ.ks hC_fr_99 hSk_111 hl_94
        have hl_116 := Po.ks hC_fr_99 hSk_111 hl_95
        have hl_117 := SQ.ks hC_fr_99 hSk_111 hl_96
        have hl_118 := Po.ks hC_fr_99 hSk_111 hpk_110
        have hr_119 := ho_88.kept (hk_104 _ ho_88.lt (fun h => hneK_qk h))
        refine V.eq (st' := [.ref rd_98, .ref qk, .ref qk]) rfl ?_
        refine V.frame (fun hfz_fr_120 hfk_fr_120 => ?_)
        rw [hH0] at hfz_fr_120 hfk_fr_120
        rw [hA0] at hfk_fr_120
        have hC_fr_120 := hC.call hA93 hfz_fr_120 hfk_fr_120
        have hCT_qk := CS.congrT (T' := (va_up T2 qk (cDvs (T2 kk)))) (fun k hk => va_up_ne _ _ (hal_qk k hk)) (fun k hk => va_up_ne _ _ (hio_qk k hk)) hl_112
        refine v_callI E (As := [.ref rd_98]) (b := qk) (k_init κ H_101 hr_119) q192 q74 q190 q191 rfl 1 (by decide +kernel) rfl (by decide) (by decide) (cb' := ((((((((cb - 0) - C0) - C1) - 0) - C1) - 1) - 0) - 0)) (sb' := ((((((((sb - 0) - L0) - L1) - 0) - L1) - 4) - 0) - 0)) (by omega) (by omega) rfl (rest := [.ref qk]) (Nat.le_of_ble_eq_true rfl) (fun q9 h => hNew q9 (by rw [show q9 = qk from h]; exact hge0_qk)) dX1_countAll_66 (fun v_121 H_122 hpost_123 hz_124 hk_125 => ?_)
        obtain ⟨rfl, hkn_qk⟩ := hpost_123
        have hSk_qk : kS κ H_101 H_122 qk := ⟨h93_qk, hz_124, fun q9 h9 h8 => hk_125 q9 h9 h8, ⟨_, hr_119⟩, ⟨_, hkn_qk⟩⟩
        have hPo_qk := Po.ks hC_fr_120 hSk_qk hrd_98
        have hKn_qk : Kn κ (dS ls bs li bi) H_122 qk (cDvs (T2 kk)) false := Kn.new h93_qk hkn_qk hPo_qk
        have hCS_qk := CS.ks hC_fr_120 hSk_qk (b := false) (by rw [va_up_self]; exact hKn_qk) hCT_qk
        refine V.eq (st' := [.ref qk]) rfl ?_
        refine v_astore E dX1_countAll_69 (zlt hL rfl) (lv' := [(6, .ref qk), (7, vi (cnt + (((chG (fun i => cSg (sq (T2 kk) i) v1 e2) (seqLen (T2 kk)) : Nat) : Int) - ((chG (fun i => cSg (sq (T2 kk) i) v3 e4) (seqLen (T2 kk)) : Nat) : Int)))), (5, vi ((e4 : Nat) : Int)), (4, vi v3), (3, vi ((e2 : Nat) : Int)), (2, vi v1)]) rfl ?_
        refine v_goto E (tgt := 16) dX1_countAll_71 (by decide) ?_
        refine V.sub [1, 0, 2, 3, 4, 5] (lv' := [(7, vi (cnt + (((chG (fun i => cSg (sq (T2 kk) i) v1 e2) (seqLen (T2 kk)) : Nat) : Int) - ((chG (fun i => cSg (sq (T2 kk) i) v3 e4) (seqLen (T2 kk)) : Nat) : Int)))), (6, .ref qk), (5, vi ((e4 : Nat) : Int)), (4, vi v3), (3, vi ((e2 : Nat) : Int)), (2, vi v1)]) rfl ?_
        have hKb_126 : Kn κ (dS ls bs li bi) H_122 qk (va_up T2 qk (cDvs (T2 kk)) qk) false := by rw [va_up_self]; exact hKn_qk
        exact ih_16  H_122 qk (j + 1) (va_up T2 qk (cDvs (T2 kk))) _ ((((((((cb - 0) - C0) - C1) - 0) - C1) - 1) - 0) - 0) ((((((((sb - 0) - L0) - L1) - 0) - L1) - 4) - 0) - 0) (by omega) (by rw [va_up_self, hTk]; rfl) (by rw [va_up_self]; have h9 := hq9.2; rw [← hTk, show dvI (T (a i0)) (j + 1) = cDvs (dvI (T (a i0)) j) from rfl, ← hTk] at h9; omega) (fun i hi => by by_cases e : i = j; (· rw [e]; exact h1j); (· exact hch i (by omega))) (fun k hk => (va_up_ne _ _ (hal_qk k hk)).trans (hag k hk)) (fun k hk => (va_up_ne _ _ (hio_qk k hk)).trans (hai k hk)) (by rw [va_up_self, show 7 - (j + 1) = 7 - j - 1 by omega]; have h9 := xaF_s (n := v1) (k := e2) (m := v3) (l := e4) (s := 7 - j) (P := T2 kk) (by omega) (by omega); rw [h9] at hcnt; omega) (by have e9 := mulS (C0 + 2 * C1 + 1) 6 j (by omega); omega) (by have e9 := mulS (L0 + 2 * L1 + 4) 6 j (by omega); omega) hCS_qk hKb_126
  refine V.sub [0, 1, 7, 6, 5, 4] (lv' := [(7, vi 0), (6, .ref (a i0)), (5, vi ((e4 : Nat) : Int)), (4, vi v3), (3, vi ((e2 : Nat) : Int)), (2, vi v1)]) rfl ?_
  exact loop_16 (8 + 1) H_3 (a i0) 0 T 0 ((110 + 6 * (C0 + 2 * C1 + 1)) - 110) ((50 + 2 * (8 + (4 * K3 + N3 + 28) * 6) + 6 * (L0 + 2 * L1 + 4)) - (50 + 2 * (8 + (4 * K3 + N3 + 28) * 6))) (by omega) rfl (by omega) (fun i h => absurd h (Nat.not_lt_zero i)) (fun _ _ => rfl) (fun _ _ => rfl) (Int.zero_add _) (by rw [Nat.sub_zero, Nat.mul_comm]; omega) (by rw [Nat.sub_zero, Nat.mul_comm]; omega) hl_7 (hl_7.2.2.2.2.1 i0 hii0)
