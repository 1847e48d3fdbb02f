set_option maxHeartbeats 400000 in
set_option maxRecDepth 100000 in
/-- removeEmpty -/
theorem m_removeEmpty (κ : zK) (H0 : Heap) {ad : Nat → Nat} {P : Nat → Nat → Int} {f g mk : Nat → Int} {S : Nat → Nat → Int} {K : Nat → Int} {thr len many : Int} {a1 a2 a3 a4 : Nat} {cap : Nat} {lv lo hi rt : Nat → Int} (hap : ∀ i, uA i → a1 ≠ ad i ∧ a2 ≠ ad i ∧ a3 ≠ ad i ∧ a4 ≠ ad i) (hmn : 0 ≤ many ∧ many ≤ (cap : Int)) (hcp : cap < 1000000) (hne : a1 ≠ a2 ∧ a1 ≠ a3 ∧ a1 ≠ a4 ∧ a2 ≠ a3 ∧ a2 ≠ a4 ∧ a3 ≠ a4) (hrt : ∀ j, j < cap → rI (rt j)) (hI : Inj ad) (hB : MB κ ad P f g mk S K thr len many a1 a2 a3 a4 H0) (hv1 : hp κ H0 a1 (eI κ cap lv)) (hv2 : hp κ H0 a2 (eI κ cap lo)) (hv3 : hp κ H0 a3 (eI κ cap hi)) (hv4 : hp κ H0 a4 (eI κ cap rt))  : Mt κ yX4_removeEmpty cX4_removeEmpty 3 (some .int) 1 21 0 0 H0 [.ref (ad 3002)] (AI ad a1 a2 a3 a4) (fun v H1 => v = some (vi (many - (rmN rt many.toNat : Int))) ∧ MB κ ad P f g mk S K 0 len (rmN rt many.toNat : Int) a1 a2 a3 a4 H1 ∧ hp κ H1 a1 (eI κ cap (rmA lv rt many.toNat)) ∧ hp κ H1 a2 (eI κ cap (rmA lo rt many.toNat)) ∧ hp κ H1 a3 (eI κ cap (rmA hi rt many.toNat)) ∧ hp κ H1 a4 (eI κ cap (rmA rt rt many.toNat))) := by
  refine Mt.of (by decide) (Nat.le_of_ble_eq_true rfl) ?_
  intro z E hE hH0 hA0 hL hini
  have hAll : ∀ q, (AI ad a1 a2 a3 a4) q → zA z.A z.H0 q := fun q h => Or.inl (by rw [hA0]; exact h)
  have hNew : ∀ q, H0.size ≤ q → zA z.A z.H0 q := fun q h => Or.inr (by rw [hH0]; exact h)
  have E : zOK z cX4_removeEmpty RX4 κ 1 21 (some .int) := E
  refine V.eqL (lv' := [(0, .ref (ad 3002))]) rfl ?_
  refine v_iconst E dX4_removeEmpty_0 ?_
  refine v_istore_n E dX4_removeEmpty_1 (zlt hL rfl) (lv' := [(1, vi 0), (0, .ref (ad 3002))]) rfl ?_
  refine v_iconst E dX4_removeEmpty_2 ?_
  refine v_istore_n E dX4_removeEmpty_3 (zlt hL rfl) (lv' := [(2, vi 0), (1, vi 0), (0, .ref (ad 3002))]) rfl ?_
  have loop_4 : ∀ (m_4 : Nat) (H : Heap) (k n : Nat), many.toNat - k < m_4 → ((k : Int) ≤ many) → (n = rmN rt k) → hp κ H a1 (eI κ cap (rmA lv rt k)) → hp κ H a2 (eI κ cap (rmA lo rt k)) → hp κ H a3 (eI κ cap (rmA hi rt k)) → hp κ H a4 (eI κ cap (rmA rt rt k)) → MB κ ad P f g mk S K thr len many a1 a2 a3 a4 H → V z H 0 0 4 [(2, vi (k : Int)), (1, vi (n : Int)), (0, .ref (ad 3002))] [] := by
    intro m_4
    induction m_4 with
    | zero => intro H k n hm; exact absurd hm (by omega)
    | succ m_4 ih_4 =>
      intro H k n hm_4 hk hn hv1 hv2 hv3 hv4 hB
      have hnk : n ≤ k := by rw [hn]; exact rmN_le rt k
      refine v_iload_n E 0 rfl dX4_removeEmpty_4 ?_
      refine v_aload_n E 2 rfl dX4_removeEmpty_5 ?_
      refine v_getf E in_X4 hB.ho (ci := 3) rfl 26 (by decide) q1786 rfl (v := vi many) rfl dX4_removeEmpty_6 ?_
      refine v_icmp_ge E (tgt := 83) dX4_removeEmpty_9 (by decide) ⟨by omega, by omega⟩ ⟨by omega, by omega⟩ (fun c_9 => ?_) (fun c_9 => ?_)
      · refine v_aload_n E 2 rfl dX4_removeEmpty_83 ?_
        refine v_getf E in_X4 hB.ho (ci := 3) rfl 26 (by decide) q1786 rfl (v := vi many) rfl dX4_removeEmpty_84 ?_
        refine v_iload_n E 1 rfl dX4_removeEmpty_87 ?_
        refine v_isub E dX4_removeEmpty_88 ?_
        refine v_istore_n E dX4_removeEmpty_89 (zlt hL rfl) (lv' := [(2, vi (many - (n : Int))), (1, vi (n : Int)), (0, .ref (ad 3002))]) rfl ?_
        refine v_aload_n E 2 rfl dX4_removeEmpty_90 ?_
        refine v_iload_n E 1 rfl dX4_removeEmpty_91 ?_
        refine v_putf E in_X4 tyX4 tyX4_ok nmX4 hB.ho (ci := 3) rfl 26 (Nat.le_of_ble_eq_true rfl) q1786 rfl rfl rfl rfl (Nat.le_of_ble_eq_true rfl) (hAll _ (Or.inl (AH.of (by unfold uA; omega)))) dX4_removeEmpty_92 (fun H_3 hBho_1 hs_2 => ?_)
        have hv1_4 := hv1.same hs_2 (fun e => (hap _ (by unfold uA; omega)).1 e)
        have hv2_5 := hv2.same hs_2 (fun e => (hap _ (by unfold uA; omega)).2.1 e)
        have hv3_6 := hv3.same hs_2 (fun e => (hap _ (by unfold uA; omega)).2.2.1 e)
        have hv4_7 := hv4.same hs_2 (fun e => (hap _ (by unfold uA; omega)).2.2.2 e)
        have hBho_1 : hp κ H_3 (ad 3002) (.inr (3, MF ad thr len (n : Int) a1 a2 a3 a4)) := hBho_1
        have hB_8 : MB κ ad P f g mk S K thr len (n : Int) a1 a2 a3 a4 H_3 := hB.obj hI hs_2 hBho_1
        refine v_aload_n E 2 rfl dX4_removeEmpty_95 ?_
        refine v_iload_n E 0 rfl dX4_removeEmpty_96 ?_
        refine v_callV E (As := [vi (many - (n : Int))]) (b := (ad 3002)) (ci := 3) (C := RX4) (T := TX4) (N := 27) hB_8.ho rfl (m_tells κ H_3 hI hB_8) (lw_V q1864 q1866 qs48 q82 q1867) 1 (by decide +kernel) rfl (by decide) (by decide) (cb' := 0) (sb' := 0) (by decide) (by decide) rfl (rest := []) (Nat.le_of_ble_eq_true rfl) (fun q h => hAll q (Or.inl h)) dX4_removeEmpty_97 (fun v_9 H_10 hpost_11 hz_12 hk_13 => ?_)
        clear hz_12
        obtain ⟨rfl, hB_14⟩ := hpost_11
        have hv1_15 := hv1_4.kept (hk_13 _ hv1_4.lt (fun ⟨i, u, e⟩ => (hap i u).1 e))
        have hv2_16 := hv2_5.kept (hk_13 _ hv2_5.lt (fun ⟨i, u, e⟩ => (hap i u).2.1 e))
        have hv3_17 := hv3_6.kept (hk_13 _ hv3_6.lt (fun ⟨i, u, e⟩ => (hap i u).2.2.1 e))
        have hv4_18 := hv4_7.kept (hk_13 _ hv4_7.lt (fun ⟨i, u, e⟩ => (hap i u).2.2.2 e))
        refine V.eq (st' := [vi (many - (n : Int))]) rfl ?_
        refine v_iret E hE dX4_removeEmpty_100 ?_
        have hkm : k = many.toNat := by omega
        rw [← hkm, ← hn]
        exact ⟨rfl, hB_14, hv1_15, hv2_16, hv3_17, hv4_18⟩
      · refine v_aload_n E 2 rfl dX4_removeEmpty_12 ?_
        refine v_getf E in_X4 hB.ho (ci := 3) rfl 22 (by decide) q1782 rfl (v := .ref a1) rfl dX4_removeEmpty_13 ?_
        refine v_iload_n E 1 rfl dX4_removeEmpty_16 ?_
        refine v_aload_n E 2 rfl dX4_removeEmpty_17 ?_
        refine v_getf E in_X4 hB.ho (ci := 3) rfl 22 (by decide) q1782 rfl (v := .ref a1) rfl dX4_removeEmpty_18 ?_
        refine v_iload_n E 0 rfl dX4_removeEmpty_21 ?_
        refine v_iald E dX4_removeEmpty_22 hv1 k rfl (by omega) (by omega) ?_
        refine v_iast E dX4_removeEmpty_23 hv1 n rfl (by omega) (by omega) (hAll _ (Or.inr (Or.inl rfl))) (fun H_21 hv1_19 hs_20 => ?_)
        have hv2_22 := hv2.same hs_20 (Ne.symm hne.1)
        have hv3_23 := hv3.same hs_20 (Ne.symm hne.2.1)
        have hv4_24 := hv4.same hs_20 (Ne.symm hne.2.2.1)
        have hB_25 : MB κ ad P f g mk S K thr len many a1 a2 a3 a4 H_21 := hB.off hs_20 (fun i u => (hap i u).1)
        refine v_aload_n E 2 rfl dX4_removeEmpty_24 ?_
        refine v_getf E in_X4 hB_25.ho (ci := 3) rfl 23 (by decide) q1783 rfl (v := .ref a2) rfl dX4_removeEmpty_25 ?_
        refine v_iload_n E 1 rfl dX4_removeEmpty_28 ?_
        refine v_aload_n E 2 rfl dX4_removeEmpty_29 ?_
        refine v_getf E in_X4 hB_25.ho (ci := 3) rfl 23 (by decide) q1783 rfl (v := .ref a2) rfl dX4_removeEmpty_30 ?_
        refine v_iload_n E 0 rfl dX4_removeEmpty_33 ?_
        refine v_iald E dX4_removeEmpty_34 hv2_22 k rfl (by omega) (by omega) ?_
        refine v_iast E dX4_removeEmpty_35 hv2_22 n rfl (by omega) (by omega) (hAll _ (Or.inr (Or.inr (Or.inl rfl)))) (fun H_28 hv2_26 hs_27 => ?_)
        have hv1_29 := hv1_19.same hs_27 hne.1
        have hv3_30 := hv3_23.same hs_27 (Ne.symm hne.2.2.2.1)
        have hv4_31 := hv4_24.same hs_27 (Ne.symm hne.2.2.2.2.1)
        have hB_32 : MB κ ad P f g mk S K thr len many a1 a2 a3 a4 H_28 := hB_25.off hs_27 (fun i u => (hap i u).2.1)
        refine v_aload_n E 2 rfl dX4_removeEmpty_36 ?_
        refine v_getf E in_X4 hB_32.ho (ci := 3) rfl 24 (by decide) q1784 rfl (v := .ref a3) rfl dX4_removeEmpty_37 ?_
        refine v_iload_n E 1 rfl dX4_removeEmpty_40 ?_
        refine v_aload_n E 2 rfl dX4_removeEmpty_41 ?_
        refine v_getf E in_X4 hB_32.ho (ci := 3) rfl 24 (by decide) q1784 rfl (v := .ref a3) rfl dX4_removeEmpty_42 ?_
        refine v_iload_n E 0 rfl dX4_removeEmpty_45 ?_
        refine v_iald E dX4_removeEmpty_46 hv3_30 k rfl (by omega) (by omega) ?_
        refine v_iast E dX4_removeEmpty_47 hv3_30 n rfl (by omega) (by omega) (hAll _ (Or.inr (Or.inr (Or.inr (Or.inl rfl))))) (fun H_35 hv3_33 hs_34 => ?_)
        have hv1_36 := hv1_29.same hs_34 hne.2.1
        have hv2_37 := hv2_26.same hs_34 hne.2.2.2.1
        have hv4_38 := hv4_31.same hs_34 (Ne.symm hne.2.2.2.2.2)
        have hB_39 : MB κ ad P f g mk S K thr len many a1 a2 a3 a4 H_35 := hB_32.off hs_34 (fun i u => (hap i u).2.2.1)
        refine v_aload_n E 2 rfl dX4_removeEmpty_48 ?_
        refine v_getf E in_X4 hB_39.ho (ci := 3) rfl 25 (by decide) q1785 rfl (v := .ref a4) rfl dX4_removeEmpty_49 ?_
        refine v_iload_n E 1 rfl dX4_removeEmpty_52 ?_
        refine v_aload_n E 2 rfl dX4_removeEmpty_53 ?_
        refine v_getf E in_X4 hB_39.ho (ci := 3) rfl 25 (by decide) q1785 rfl (v := .ref a4) rfl dX4_removeEmpty_54 ?_
        refine v_iload_n E 0 rfl dX4_removeEmpty_57 ?_
        refine v_iald E dX4_removeEmpty_58 hv4_38 k rfl (by omega) (by omega) ?_
        refine v_iast E dX4_removeEmpty_59 hv4_38 n rfl (by omega) (by omega) (hAll _ (Or.inr (Or.inr (Or.inr (Or.inr rfl))))) (fun H_42 hv4_40 hs_41 => ?_)
        have hv1_43 := hv1_36.same hs_41 hne.2.2.1
        have hv2_44 := hv2_37.same hs_41 hne.2.2.2.2.1
        have hv3_45 := hv3_33.same hs_41 hne.2.2.2.2.2
        have hB_46 : MB κ ad P f g mk S K thr len many a1 a2 a3 a4 H_42 := hB_39.off hs_41 (fun i u => (hap i u).2.2.2)
        refine v_iload_n E 1 rfl dX4_removeEmpty_60 ?_
        refine v_aload_n E 2 rfl dX4_removeEmpty_61 ?_
        refine v_getf E in_X4 hB_46.ho (ci := 3) rfl 25 (by decide) q1785 rfl (v := .ref a4) rfl dX4_removeEmpty_62 ?_
        refine v_iload_n E 0 rfl dX4_removeEmpty_65 ?_
        refine v_iald E dX4_removeEmpty_66 hv4_40 k rfl (by omega) (by omega) ?_
        refine V.topi (x' := rt k) (congrArg iZ ((va_upself _ _ _).trans (rmA_hi rt rt k k (Nat.le_refl _)))) ?_
        have hrk := hrt k (by omega)
        refine v_if_le E (tgt := 74) dX4_removeEmpty_67 (by decide) ⟨by omega, by omega⟩ (fun c_67 => ?_) (fun c_67 => ?_)
        · refine v_iconst E dX4_removeEmpty_74 ?_
          refine v_iadd E dX4_removeEmpty_75 ?_
          refine v_istore_n E dX4_removeEmpty_76 (zlt hL rfl) (lv' := [(1, vi ((n : Int) + 0)), (2, vi (k : Int)), (0, .ref (ad 3002))]) rfl ?_
          refine v_iinc E 1 rfl dX4_removeEmpty_77 (zlt hL rfl) (lv' := [(2, vi ((k : Int) + 1)), (1, vi ((n : Int) + 0)), (0, .ref (ad 3002))]) rfl ?_
          refine v_goto E (tgt := 4) dX4_removeEmpty_80 (by decide) ?_
          have hv_47 : hp κ H_42 a1 (eI κ cap (rmA lv rt (k + 1))) := by show hp κ H_42 a1 (eI κ cap (va_up (rmA lv rt k) (rmN rt k) (rmA lv rt k k))); rw [← hn]; exact hv1_43
          have hv_48 : hp κ H_42 a2 (eI κ cap (rmA lo rt (k + 1))) := by show hp κ H_42 a2 (eI κ cap (va_up (rmA lo rt k) (rmN rt k) (rmA lo rt k k))); rw [← hn]; exact hv2_44
          have hv_49 : hp κ H_42 a3 (eI κ cap (rmA hi rt (k + 1))) := by show hp κ H_42 a3 (eI κ cap (va_up (rmA hi rt k) (rmN rt k) (rmA hi rt k k))); rw [← hn]; exact hv3_45
          have hv_50 : hp κ H_42 a4 (eI κ cap (rmA rt rt (k + 1))) := by show hp κ H_42 a4 (eI κ cap (va_up (rmA rt rt k) (rmN rt k) (rmA rt rt k k))); rw [← hn]; exact hv4_40
          exact V.eqL (by first | rfl | rw [show ((n + 1 : Nat) : Int) = (n : Int) + 1 by omega] | rw [show (n : Int) + 0 = (n : Int) by omega]) (ih_4  H_42 (k + 1) n (by omega) (by omega) (by show _ = rmN rt k + (if 0 < rt k then 1 else 0); rw [← hn, if_neg (by omega)]; rfl) hv_47 hv_48 hv_49 hv_50 hB_46)
        · refine v_iconst E dX4_removeEmpty_70 ?_
          refine v_goto E (tgt := 75) dX4_removeEmpty_71 (by decide) ?_
          refine v_iadd E dX4_removeEmpty_75 ?_
          refine v_istore_n E dX4_removeEmpty_76 (zlt hL rfl) (lv' := [(1, vi ((n : Int) + 1)), (2, vi (k : Int)), (0, .ref (ad 3002))]) rfl ?_
          refine v_iinc E 1 rfl dX4_removeEmpty_77 (zlt hL rfl) (lv' := [(2, vi ((k : Int) + 1)), (1, vi ((n : Int) + 1)), (0, .ref (ad 3002))]) rfl ?_
          refine v_goto E (tgt := 4) dX4_removeEmpty_80 (by decide) ?_
          have hv_51 : hp κ H_42 a1 (eI κ cap (rmA lv rt (k + 1))) := by show hp κ H_42 a1 (eI κ cap (va_up (rmA lv rt k) (rmN rt k) (rmA lv rt k k))); rw [← hn]; exact hv1_43
          have hv_52 : hp κ H_42 a2 (eI κ cap (rmA lo rt (k + 1))) := by show hp κ H_42 a2 (eI κ cap (va_up (rmA lo rt k) (rmN rt k) (rmA lo rt k k))); rw [← hn]; exact hv2_44
          have hv_53 : hp κ H_42 a3 (eI κ cap (rmA hi rt (k + 1))) := by show hp κ H_42 a3 (eI κ cap (va_up (rmA hi rt k) (rmN rt k) (rmA hi rt k k))); rw [← hn]; exact hv3_45
          have hv_54 : hp κ H_42 a4 (eI κ cap (rmA rt rt (k + 1))) := by show hp κ H_42 a4 (eI κ cap (va_up (rmA rt rt k) (rmN rt k) (rmA rt rt k k))); rw [← hn]; exact hv4_40
          exact V.eqL (by first | rfl | rw [show ((n + 1 : Nat) : Int) = (n : Int) + 1 by omega] | rw [show (n : Int) + 0 = (n : Int) by omega]) (ih_4  H_42 (k + 1) (n + 1) (by omega) (by omega) (by show _ = rmN rt k + (if 0 < rt k then 1 else 0); rw [← hn, if_pos (by omega)]) hv_51 hv_52 hv_53 hv_54 hB_46)
  exact loop_4 (many.toNat + 1) H0 0 0 (by omega) (by omega) rfl hv1 hv2 hv3 hv4 hB
