set_option maxHeartbeats 400000 in
set_option maxRecDepth 100000 in
/-- opens, room made -/
theorem o_shift {κ : zK} {z : zT} (E : zOK z cX4_opens RX4 κ 1 13 (none)) (hL : z.nL = 4) {H : Heap} {ad : Nat → Nat} {P : Nat → Nat → Int} {f g mk : Nat → Int} {S : Nat → Nat → Int} {K : Nat → Int} {thr len many : Int} {a1 a2 a3 a4 : Nat} {cap : Nat} {lv lo hi rt : Nat → Int} (hap : ∀ i, uA i → a1 ≠ ad i ∧ a2 ≠ ad i ∧ a3 ≠ ad i ∧ a4 ≠ ad i) (hmn : 0 ≤ many ∧ many ≤ (cap : Int)) (hcp : cap < 1000000) (hne : a1 ≠ a2 ∧ a1 ≠ a3 ∧ a1 ≠ a4 ∧ a2 ≠ a3 ∧ a2 ≠ a4 ∧ a3 ≠ a4) {post : Option Value → Heap → Prop} {x wn M : Nat} (hM : many = (M : Int)) (hx : x < M) (hw : 1 ≤ wn ∧ wn ≤ 2) (hroom : M + wn ≤ cap) (hI : Inj ad) (hB : MB κ ad P f g mk S K thr len many a1 a2 a3 a4 H) (hv1 : hp κ H a1 (eI κ cap lv)) (hv2 : hp κ H a2 (eI κ cap lo)) (hv3 : hp κ H a3 (eI κ cap hi)) (hv4 : hp κ H a4 (eI κ cap rt))  (hAll : ∀ q, (AI ad a1 a2 a3 a4) q → zA z.A z.H0 q) (hE : zEnd z post) (hpost : ∀ H1, MB κ ad P f g mk S K thr len (many + (wn : Int)) a1 a2 a3 a4 H1 → hp κ H1 a1 (eI κ cap (opK lv wn M x)) → hp κ H1 a2 (eI κ cap (opK lo wn M x)) → hp κ H1 a3 (eI κ cap (opK hi wn M x)) → hp κ H1 a4 (eI κ cap (opK rt wn M x)) → post none H1) : V z H 0 0 58 [(2, vi (wn : Int)), (1, vi (x : Int)), (0, .ref (ad 3002))] [] := by
  refine v_aload_n E 2 rfl dX4_opens_58 ?_
  refine v_getf E in_X4 hB.ho (ci := 3) rfl 26 (by decide) q1786 rfl (v := vi many) rfl dX4_opens_59 ?_
  refine v_iconst E dX4_opens_62 ?_
  refine v_isub E dX4_opens_63 ?_
  refine v_istore_n E dX4_opens_64 (zlt hL rfl) (lv' := [(3, vi (many - 1)), (2, vi (wn : Int)), (1, vi (x : Int)), (0, .ref (ad 3002))]) rfl ?_
  have loop_65 : ∀ (m_65 : Nat) (H : Heap) (k : Nat), k < m_65 → (k < M) → (x ≤ k) → hp κ H a1 (eI κ cap (opK lv wn M k)) → hp κ H a2 (eI κ cap (opK lo wn M k)) → hp κ H a3 (eI κ cap (opK hi wn M k)) → hp κ H a4 (eI κ cap (opK rt wn M k)) → MB κ ad P f g mk S K thr len many a1 a2 a3 a4 H → V z H 0 0 65 [(3, vi (k : Int)), (2, vi (wn : Int)), (1, vi (x : Int)), (0, .ref (ad 3002))] [] := by
    intro m_65
    induction m_65 with
    | zero => intro H k hm; exact absurd hm (by omega)
    | succ m_65 ih_65 =>
      intro H k hm_65 hk hxk hv1 hv2 hv3 hv4 hB
      refine v_iload_n E 0 rfl dX4_opens_65 ?_
      refine v_iload_n E 2 rfl dX4_opens_66 ?_
      refine v_icmp_le E (tgt := 132) dX4_opens_67 (by decide) ⟨by omega, by omega⟩ ⟨by omega, by omega⟩ (fun c_67 => ?_) (fun c_67 => ?_)
      · have hkx : k = x := by omega
        refine v_aload_n E 3 rfl dX4_opens_132 ?_
        refine v_dup E rfl dX4_opens_133 ?_
        refine v_getf E in_X4 hB.ho (ci := 3) rfl 26 (by decide) q1786 rfl (v := vi many) rfl dX4_opens_134 ?_
        refine v_iload_n E 1 rfl dX4_opens_137 ?_
        refine v_iadd E dX4_opens_138 ?_
        refine v_putf E in_X4 tyX4 tyX4_ok nmX4 hB.ho (ci := 3) rfl 26 (Nat.le_of_ble_eq_true rfl) q1786 rfl rfl rfl rfl (Nat.le_of_ble_eq_true rfl) (hAll _ (Or.inl (AH.of (by unfold uA; omega)))) dX4_opens_139 (fun H_3 hBho_1 hs_2 => ?_)
        have hv1_4 := hv1.same hs_2 (fun e => (hap _ (by unfold uA; omega)).1 e)
        have hv2_5 := hv2.same hs_2 (fun e => (hap _ (by unfold uA; omega)).2.1 e)
        have hv3_6 := hv3.same hs_2 (fun e => (hap _ (by unfold uA; omega)).2.2.1 e)
        have hv4_7 := hv4.same hs_2 (fun e => (hap _ (by unfold uA; omega)).2.2.2 e)
        have hBho_1 : hp κ H_3 (ad 3002) (.inr (3, MF ad thr len (many + (wn : Int)) a1 a2 a3 a4)) := hBho_1
        have hB_8 : MB κ ad P f g mk S K thr len (many + (wn : Int)) a1 a2 a3 a4 H_3 := hB.obj hI hs_2 hBho_1
        refine v_vret E hE dX4_opens_142 ?_
        rw [hkx] at hv1_4 hv2_5 hv3_6 hv4_7
        exact hpost _ hB_8 hv1_4 hv2_5 hv3_6 hv4_7
      · obtain ⟨k9, hk9⟩ : ∃ k9, k = k9 + 1 := ⟨k - 1, by omega⟩
        refine v_aload_n E 3 rfl dX4_opens_70 ?_
        refine v_getf E in_X4 hB.ho (ci := 3) rfl 22 (by decide) q1782 rfl (v := .ref a1) rfl dX4_opens_71 ?_
        refine v_iload_n E 0 rfl dX4_opens_74 ?_
        refine v_iload_n E 1 rfl dX4_opens_75 ?_
        refine v_iadd E dX4_opens_76 ?_
        refine v_aload_n E 3 rfl dX4_opens_77 ?_
        refine v_getf E in_X4 hB.ho (ci := 3) rfl 22 (by decide) q1782 rfl (v := .ref a1) rfl dX4_opens_78 ?_
        refine v_iload_n E 0 rfl dX4_opens_81 ?_
        refine v_iald E dX4_opens_82 hv1 k rfl (by omega) (by omega) ?_
        refine v_iast E dX4_opens_83 hv1 (k + wn) (by omega) (by omega) (by omega) (hAll _ (Or.inr (Or.inl rfl))) (fun H_11 hv1_9 hs_10 => ?_)
        have hv2_12 := hv2.same hs_10 (Ne.symm hne.1)
        have hv3_13 := hv3.same hs_10 (Ne.symm hne.2.1)
        have hv4_14 := hv4.same hs_10 (Ne.symm hne.2.2.1)
        have hB_15 : MB κ ad P f g mk S K thr len many a1 a2 a3 a4 H_11 := hB.off hs_10 (fun i u => (hap i u).1)
        refine v_aload_n E 3 rfl dX4_opens_84 ?_
        refine v_getf E in_X4 hB_15.ho (ci := 3) rfl 23 (by decide) q1783 rfl (v := .ref a2) rfl dX4_opens_85 ?_
        refine v_iload_n E 0 rfl dX4_opens_88 ?_
        refine v_iload_n E 1 rfl dX4_opens_89 ?_
        refine v_iadd E dX4_opens_90 ?_
        refine v_aload_n E 3 rfl dX4_opens_91 ?_
        refine v_getf E in_X4 hB_15.ho (ci := 3) rfl 23 (by decide) q1783 rfl (v := .ref a2) rfl dX4_opens_92 ?_
        refine v_iload_n E 0 rfl dX4_opens_95 ?_
        refine v_iald E dX4_opens_96 hv2_12 k rfl (by omega) (by omega) ?_
        refine v_iast E dX4_opens_97 hv2_12 (k + wn) (by omega) (by omega) (by omega) (hAll _ (Or.inr (Or.inr (Or.inl rfl)))) (fun H_18 hv2_16 hs_17 => ?_)
        have hv1_19 := hv1_9.same hs_17 hne.1
        have hv3_20 := hv3_13.same hs_17 (Ne.symm hne.2.2.2.1)
        have hv4_21 := hv4_14.same hs_17 (Ne.symm hne.2.2.2.2.1)
        have hB_22 : MB κ ad P f g mk S K thr len many a1 a2 a3 a4 H_18 := hB_15.off hs_17 (fun i u => (hap i u).2.1)
        refine v_aload_n E 3 rfl dX4_opens_98 ?_
        refine v_getf E in_X4 hB_22.ho (ci := 3) rfl 24 (by decide) q1784 rfl (v := .ref a3) rfl dX4_opens_99 ?_
        refine v_iload_n E 0 rfl dX4_opens_102 ?_
        refine v_iload_n E 1 rfl dX4_opens_103 ?_
        refine v_iadd E dX4_opens_104 ?_
        refine v_aload_n E 3 rfl dX4_opens_105 ?_
        refine v_getf E in_X4 hB_22.ho (ci := 3) rfl 24 (by decide) q1784 rfl (v := .ref a3) rfl dX4_opens_106 ?_
        refine v_iload_n E 0 rfl dX4_opens_109 ?_
        refine v_iald E dX4_opens_110 hv3_20 k rfl (by omega) (by omega) ?_
        refine v_iast E dX4_opens_111 hv3_20 (k + wn) (by omega) (by omega) (by omega) (hAll _ (Or.inr (Or.inr (Or.inr (Or.inl rfl))))) (fun H_25 hv3_23 hs_24 => ?_)
        have hv1_26 := hv1_19.same hs_24 hne.2.1
        have hv2_27 := hv2_16.same hs_24 hne.2.2.2.1
        have hv4_28 := hv4_21.same hs_24 (Ne.symm hne.2.2.2.2.2)
        have hB_29 : MB κ ad P f g mk S K thr len many a1 a2 a3 a4 H_25 := hB_22.off hs_24 (fun i u => (hap i u).2.2.1)
        refine v_aload_n E 3 rfl dX4_opens_112 ?_
        refine v_getf E in_X4 hB_29.ho (ci := 3) rfl 25 (by decide) q1785 rfl (v := .ref a4) rfl dX4_opens_113 ?_
        refine v_iload_n E 0 rfl dX4_opens_116 ?_
        refine v_iload_n E 1 rfl dX4_opens_117 ?_
        refine v_iadd E dX4_opens_118 ?_
        refine v_aload_n E 3 rfl dX4_opens_119 ?_
        refine v_getf E in_X4 hB_29.ho (ci := 3) rfl 25 (by decide) q1785 rfl (v := .ref a4) rfl dX4_opens_120 ?_
        refine v_iload_n E 0 rfl dX4_opens_123 ?_
        refine v_iald E dX4_opens_124 hv4_28 k rfl (by omega) (by omega) ?_
        refine v_iast E dX4_opens_125 hv4_28 (k + wn) (by omega) (by omega) (by omega) (hAll _ (Or.inr (Or.inr (Or.inr (Or.inr rfl))))) (fun H_32 hv4_30 hs_31 => ?_)
        have hv1_33 := hv1_26.same hs_31 hne.2.2.1
        have hv2_34 := hv2_27.same hs_31 hne.2.2.2.2.1
        have hv3_35 := hv3_23.same hs_31 hne.2.2.2.2.2
        have hB_36 : MB κ ad P f g mk S K thr len many a1 a2 a3 a4 H_32 := hB_29.off hs_31 (fun i u => (hap i u).2.2.2)
        refine v_iinc E 0 rfl dX4_opens_126 (zlt hL rfl) (lv' := [(3, vi ((k : Int) + (-1))), (2, vi (wn : Int)), (1, vi (x : Int)), (0, .ref (ad 3002))]) rfl ?_
        refine v_goto E (tgt := 65) dX4_opens_129 (by decide) ?_
        have hv_37 : hp κ H_32 a1 (eI κ cap (opK lv wn M k9)) := by
          rw [← opK_s lv (by omega), ← hk9, ← opK_lo lv wn M k k (by omega)]; exact hv1_33
        have hv_38 : hp κ H_32 a2 (eI κ cap (opK lo wn M k9)) := by
          rw [← opK_s lo (by omega), ← hk9, ← opK_lo lo wn M k k (by omega)]; exact hv2_34
        have hv_39 : hp κ H_32 a3 (eI κ cap (opK hi wn M k9)) := by
          rw [← opK_s hi (by omega), ← hk9, ← opK_lo hi wn M k k (by omega)]; exact hv3_35
        have hv_40 : hp κ H_32 a4 (eI κ cap (opK rt wn M k9)) := by
          rw [← opK_s rt (by omega), ← hk9, ← opK_lo rt wn M k k (by omega)]; exact hv4_30
        exact V.eqL (by rw [show (k : Int) + (-1) = (k9 : Int) by omega]) (ih_65  H_32 k9 (by omega) (by omega) (by omega) hv_37 hv_38 hv_39 hv_40 hB_36)
  have hv_41 : hp κ H a1 (eI κ cap (opK lv wn M (M - 1))) := by rw [opK_0 _ _ _ _ (by omega)]; exact hv1
  have hv_42 : hp κ H a2 (eI κ cap (opK lo wn M (M - 1))) := by rw [opK_0 _ _ _ _ (by omega)]; exact hv2
  have hv_43 : hp κ H a3 (eI κ cap (opK hi wn M (M - 1))) := by rw [opK_0 _ _ _ _ (by omega)]; exact hv3
  have hv_44 : hp κ H a4 (eI κ cap (opK rt wn M (M - 1))) := by rw [opK_0 _ _ _ _ (by omega)]; exact hv4
  exact V.eqL (by rw [show (many : Int) - 1 = ((M - 1 : Nat) : Int) by omega]) (loop_65 ((M - 1) + 1) H (M - 1) (by omega) (by omega) (by omega) hv_41 hv_42 hv_43 hv_44 hB)
