set_option maxHeartbeats 400000 in
set_option maxRecDepth 100000 in
/-- an interval placed -/
theorem m_place (κ : zK) (H0 : Heap) {ad : Nat → Nat} {P : Nat → Nat → Int} {f g mk : Nat → Int} {S : Nat → Nat → Int} {K : Nat → Int} {thr len many : Int} {a1 a2 a3 a4 : Nat} {cap : Nat} {lv lo hi rt : Nat → Int} (hap : ∀ i, uA i → a1 ≠ ad i ∧ a2 ≠ ad i ∧ a3 ≠ ad i ∧ a4 ≠ ad i) (hmn : 0 ≤ many ∧ many ≤ (cap : Int)) (hcp : cap < 1000000) (hne : a1 ≠ a2 ∧ a1 ≠ a3 ∧ a1 ≠ a4 ∧ a2 ≠ a3 ∧ a2 ≠ a4 ∧ a3 ≠ a4) {x e : Nat} {m n : Int} (hx : x < cap) (he : e ≤ 1000) (hm : rI m) (hn : rI n) (hmb : -4294967296 < m ∧ m < 4294967296) (hnm : -4294967296 < n - m ∧ n - m < 4294967296) (hF : pS (P 7)) (hd0 : 0 ≤ pdeg (P 7)) (hfit : okPl (P 7) e m n) (hI : Inj ad) (hB : MB κ ad P f g mk S K thr len many a1 a2 a3 a4 H0) (hv1 : hp κ H0 a1 (eI κ cap lv)) (hv2 : hp κ H0 a2 (eI κ cap lo)) (hv3 : hp κ H0 a3 (eI κ cap hi)) (hv4 : hp κ H0 a4 (eI κ cap rt))  : Mt κ yX4_place cX4_place 5 (none) 4 104 0 0 H0 [.ref (ad 3002), vi (x : Int), vi (e : Int), vi m, vi n] (AI ad a1 a2 a3 a4) (fun v H1 => v = none ∧ ∃ (P1 : Nat → Nat → Int) (f1 g1 : Nat → Int), eq7 (P1 7) (P 7) ∧ MB κ ad P1 f1 g1 mk S K thr len many a1 a2 a3 a4 H1 ∧ hp κ H1 a1 (eI κ cap (va_up lv x (e : Int))) ∧ hp κ H1 a2 (eI κ cap (va_up lo x m)) ∧ hp κ H1 a3 (eI κ cap (va_up hi x n)) ∧ hp κ H1 a4 (eI κ cap (va_up rt x (plF (P 7) e m n)))) := by
  refine Mt.of (by decide) (Nat.le_of_ble_eq_true rfl) ?_
  intro z E hE hH0 hA0 hL hini
  have hAll : ∀ q, (AI ad a1 a2 a3 a4) q → zA z.A z.H0 q := fun q h => Or.inl (by rw [hA0]; exact h)
  have hNew : ∀ q, H0.size ≤ q → zA z.A z.H0 q := fun q h => Or.inr (by rw [hH0]; exact h)
  have E : zOK z cX4_place RX4 κ 4 104 (none) := E
  refine V.eqL (lv' := [(0, .ref (ad 3002)), (1, vi (x : Int)), (2, vi (e : Int)), (3, vi m), (4, vi n)]) rfl ?_
  refine v_aload_n E 0 rfl dX4_place_0 ?_
  refine v_getf E in_X4 hB.ho (ci := 3) rfl 22 (by decide) q1782 rfl (v := .ref a1) rfl dX4_place_1 ?_
  refine v_iload_n E 1 rfl dX4_place_4 ?_
  refine v_iload_n E 2 rfl dX4_place_5 ?_
  refine v_iast E dX4_place_6 hv1 x rfl (by omega) (by omega) (hAll _ (Or.inr (Or.inl rfl))) (fun H_3 hv1_1 hs_2 => ?_)
  have hv2_4 := hv2.same hs_2 (Ne.symm hne.1)
  have hv3_5 := hv3.same hs_2 (Ne.symm hne.2.1)
  have hv4_6 := hv4.same hs_2 (Ne.symm hne.2.2.1)
  have hB_7 : MB κ ad P f g mk S K thr len many a1 a2 a3 a4 H_3 := hB.off hs_2 (fun i u => (hap i u).1)
  refine v_aload_n E 0 rfl dX4_place_7 ?_
  refine v_getf E in_X4 hB_7.ho (ci := 3) rfl 23 (by decide) q1783 rfl (v := .ref a2) rfl dX4_place_8 ?_
  refine v_iload_n E 1 rfl dX4_place_11 ?_
  refine v_iload_n E 3 rfl dX4_place_12 ?_
  refine v_iast E dX4_place_13 hv2_4 x rfl (by omega) (by omega) (hAll _ (Or.inr (Or.inr (Or.inl rfl)))) (fun H_10 hv2_8 hs_9 => ?_)
  have hv1_11 := hv1_1.same hs_9 hne.1
  have hv3_12 := hv3_5.same hs_9 (Ne.symm hne.2.2.2.1)
  have hv4_13 := hv4_6.same hs_9 (Ne.symm hne.2.2.2.2.1)
  have hB_14 : MB κ ad P f g mk S K thr len many a1 a2 a3 a4 H_10 := hB_7.off hs_9 (fun i u => (hap i u).2.1)
  refine v_aload_n E 0 rfl dX4_place_14 ?_
  refine v_getf E in_X4 hB_14.ho (ci := 3) rfl 24 (by decide) q1784 rfl (v := .ref a3) rfl dX4_place_15 ?_
  refine v_iload_n E 1 rfl dX4_place_18 ?_
  refine v_iload E 4 rfl dX4_place_19 ?_
  refine v_iast E dX4_place_21 hv3_12 x rfl (by omega) (by omega) (hAll _ (Or.inr (Or.inr (Or.inr (Or.inl rfl))))) (fun H_17 hv3_15 hs_16 => ?_)
  have hv1_18 := hv1_11.same hs_16 hne.2.1
  have hv2_19 := hv2_8.same hs_16 hne.2.2.2.1
  have hv4_20 := hv4_13.same hs_16 (Ne.symm hne.2.2.2.2.2)
  have hB_21 : MB κ ad P f g mk S K thr len many a1 a2 a3 a4 H_17 := hB_14.off hs_16 (fun i u => (hap i u).2.2.1)
  refine v_aload_n E 0 rfl dX4_place_22 ?_
  refine v_getf E in_X4 hB_21.ho (ci := 3) rfl 25 (by decide) q1785 rfl (v := .ref a4) rfl dX4_place_23 ?_
  refine v_iload_n E 1 rfl dX4_place_26 ?_
  refine v_iload_n E 3 rfl dX4_place_27 ?_
  refine v_iload E 4 rfl dX4_place_28 ?_
  refine v_icmp_ne E (tgt := 37) dX4_place_30 (by decide) ⟨by omega, by omega⟩ ⟨by omega, by omega⟩ (fun c_30 => ?_) (fun c_30 => ?_)
  · refine v_aload_n E 0 rfl dX4_place_37 ?_
    refine v_aload_n E 0 rfl dX4_place_38 ?_
    refine v_getf E in_X4 hB_21.ho (ci := 3) rfl 21 (by decide) q1781 rfl (v := .ref (ad (2000 + 7))) rfl dX4_place_39 ?_
    refine v_iload_n E 3 rfl dX4_place_42 ?_
    refine v_i2l E ⟨by omega, by omega⟩ dX4_place_43 ?_
    refine v_iload E 4 rfl dX4_place_44 ?_
    refine v_i2l E ⟨by omega, by omega⟩ dX4_place_46 ?_
    refine v_iload_n E 2 rfl dX4_place_47 ?_
    have hg7 : eq7 (pget (bk P f) 7) (P 7) := bk_get
    have hd7 := pdeg_in (P 7)
    have hho : ∀ k9, k9 ≤ (pdeg (P 7)).toNat → hoP (pget (bk P f) 7) (pdeg (P 7)).toNat m (n - m) e ((pdeg (P 7)).toNat + 1) k9 = hoP (P 7) (pdeg (P 7)).toNat m (n - m) e ((pdeg (P 7)).toNat + 1) k9 := fun k9 h9 => hoP_congr (by omega) hg7 _ k9 (by omega)
    refine v_callV E (As := [.ref (ad (2000 + 7)), vj m, vj n, vi (e : Int)]) (b := (ad 3002)) (ci := 3) (C := RX4) (T := TX4) (N := 27) hB_21.ho rfl (m_between κ H_17 (j := 7) (d := (pdeg (P 7)).toNat) (e := e) (n := 158) (by decide) (by omega) hmb hnm hI hB_21.ms hB_21.ns hB_21.ho hB_21.ca (pS_congr hg7.symm hF).N (by rw [hg7.deg]; omega) (by decide) (fitB_congr 158 (fun k9 h9 => (hho k9 h9).symm) (hfit (by omega)))) (lw_V q2068 q2070 qs63 q82 q2071) 4 (by decide +kernel) rfl (by decide) (by decide) (cb' := 0) (sb' := 0) (by decide) (by decide) rfl (rest := [vi (x : Int), .ref a4]) (Nat.le_of_ble_eq_true rfl) (fun q h => hAll q (Or.inl (AH.B q h))) dX4_place_48 (fun v_22 H_23 hpost_24 hz_25 hk_26 => ?_)
    clear hz_25
    obtain ⟨rfl, P2, f2, g2, hP2, hN9, hc9⟩ := hpost_24
    have hv_27 := hv1_18.kept (hk_26 _ hv1_18.lt (fun h => (AH.B _ h).elim (fun i e => (hap i e.1).1 e.2)))
    have hv_28 := hv2_19.kept (hk_26 _ hv2_19.lt (fun h => (AH.B _ h).elim (fun i e => (hap i e.1).2.1 e.2)))
    have hv_29 := hv3_15.kept (hk_26 _ hv3_15.lt (fun h => (AH.B _ h).elim (fun i e => (hap i e.1).2.2.1 e.2)))
    have hv_30 := hv4_20.kept (hk_26 _ hv4_20.lt (fun h => (AH.B _ h).elim (fun i e => (hap i e.1).2.2.2 e.2)))
    have hB_31 : MB κ ad P2 f2 g2 mk S K thr len many a1 a2 a3 a4 H_23 := hB_21.btw hI hk_26 hN9 hc9
    refine V.eq (st' := [vi (plF (P 7) e m n), vi (x : Int), .ref a4]) (by rw [cnB_congr 158 hho]; unfold plF; rw [if_neg (by omega)]; rfl) ?_
    refine v_iast E dX4_place_51 hv_30 x rfl (by omega) (by omega) (hAll _ (Or.inr (Or.inr (Or.inr (Or.inr rfl))))) (fun H_34 hv_32 hs_33 => ?_)
    have hv_35 := hv_27.same hs_33 hne.2.2.1
    have hv_36 := hv_28.same hs_33 hne.2.2.2.2.1
    have hv_37 := hv_29.same hs_33 hne.2.2.2.2.2
    have hB_38 : MB κ ad P2 f2 g2 mk S K thr len many a1 a2 a3 a4 H_34 := hB_31.off hs_33 (fun i u => (hap i u).2.2.2)
    refine v_vret E hE dX4_place_52 ?_
    exact ⟨rfl, P2, _, _, (hP2 7 (by decide) (by decide)).trans bk_get, hB_38, hv_35, hv_36, hv_37, hv_32⟩
  · refine v_iconst E dX4_place_33 ?_
    refine v_goto E (tgt := 51) dX4_place_34 (by decide) ?_
    refine V.topi (x' := plF (P 7) e m n) (congrArg iZ (by unfold plF; rw [if_pos (by omega)])) ?_
    refine v_iast E dX4_place_51 hv4_20 x rfl (by omega) (by omega) (hAll _ (Or.inr (Or.inr (Or.inr (Or.inr rfl))))) (fun H_41 hv4_39 hs_40 => ?_)
    have hv1_42 := hv1_18.same hs_40 hne.2.2.1
    have hv2_43 := hv2_19.same hs_40 hne.2.2.2.2.1
    have hv3_44 := hv3_15.same hs_40 hne.2.2.2.2.2
    have hB_45 : MB κ ad P f g mk S K thr len many a1 a2 a3 a4 H_41 := hB_21.off hs_40 (fun i u => (hap i u).2.2.2)
    refine v_vret E hE dX4_place_52 ?_
    exact ⟨rfl, P, _, _, eq7.rfl', hB_45, hv1_42, hv2_43, hv3_44, hv4_39⟩
