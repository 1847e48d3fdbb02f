theorem kn_top {W D dh dl nh nm nl : Int} {m : Nat} (hD : knD D m dh dl) (hW : knW W m nh nm nl) (h : W < D * 4294967296) : nh ≤ dh := by
  have hP := p2 (32 * (m - 2))
  have h1 := hW.2.2.2.2.2.2.1
  have h2 := hD.2.2.2.2.2.2.2
  have h3 : ((nh * 4294967296 + nm) * 4294967296 + nl) * 2 ^ (32 * (m - 2)) < ((dh * 4294967296 + dl + 1) * 4294967296) * 2 ^ (32 * (m - 2)) := by
    have e : ((dh * 4294967296 + dl + 1) * 4294967296) * 2 ^ (32 * (m - 2)) = (dh * 4294967296 + dl + 1) * 2 ^ (32 * (m - 2)) * 4294967296 := by grind
    omega
  have h4 := Int.lt_of_mul_lt_mul_right h3 (Int.le_of_lt hP)
  have := hW.2.2.1
  have := hW.2.2.2.2.1
  have := hD.2.2.2.2.2.1
  omega
set_option maxHeartbeats 4000000 in
set_option maxRecDepth 100000 in
/-- the loop of Knuth's division -/
theorem h_dmL {κ : zK} {z : zT} (E : zOK z cJ26_divideMagnitude RJ26 κ 3 96 (some (.object "java/math/MutableBigInteger"))) (hL : z.nL = 28) {H : Heap} {cb sb : Nat} {a c d r w qa v n o m L lim wc qc : Nat} {z3 sh dh dl D R : Int} {f fq : Nat → Int} {Tv : Int} (hD : knD D m dh dl) (hDm : D < 2 ^ (32 * m)) (hR : 0 ≤ R) (hL9 : L = lim + m) (hlim : 1 ≤ lim) (hLw : L ≤ wc) (hwc : wc ≤ 1000) (hlq : lim ≤ qc) (hqc : qc ≤ 1000) (hne_w_r : w ≠ r) (hne_d_r : d ≠ r) (hne_qa_r : qa ≠ r) (hne_d_w : d ≠ w) (hne_qa_w : qa ≠ w) (hne_qa_d : qa ≠ d) (hne_w_a : w ≠ a) (hne_qa_a : qa ≠ a) (hne_w_c : w ≠ c) (hne_qa_c : qa ≠ c) (K : ∀ (H : Heap) (f fq : Nat → Int) (Tv : Int), Tv = R % (D * 2 ^ (32 * 1)) → (∀ i, i < L → f i = bM Tv L i) → (∀ i, i < lim - 1 → fq i = bM (R / D) lim i) → (∀ i, lim - 1 ≤ i → fq i = 0) → hp κ H a (.inr (9, [.ref v, vi (n : Int), vi (o : Int)])) → hp κ H r (.inr (9, [.ref w, vi (L : Int), vi 0])) → hp κ H w (eI κ wc f) → hp κ H d (eI κ m (bM D m)) → hp κ H qa (eI κ qc fq) → hp κ H c (.inr (9, [.ref qa, vi (lim : Int), vi 0])) → V z H cb sb 828 [(0, .ref a), (2, .ref c), (3, vi z3), (4, vi sh), (5, vi (m : Int)), (6, .ref d), (7, .ref r), (9, vi (lim : Int)), (10, .ref qa), (11, vi dh), (12, vj dh), (14, vi dl)] []) (hAll : ∀ q, (fun x => x = w ∨ x = qa) q → zA z.A z.H0 q) (hT : Tv = R % (D * 2 ^ (32 * lim))) (hf : ∀ i, i < L → f i = bM Tv L i) (hfz : ∀ i, fq i = 0) (hoa : hp κ H a (.inr (9, [.ref v, vi (n : Int), vi (o : Int)]))) (hr : hp κ H r (.inr (9, [.ref w, vi (L : Int), vi 0]))) (hw : hp κ H w (eI κ wc f)) (hd : hp κ H d (eI κ m (bM D m))) (hqa : hp κ H qa (eI κ qc fq)) (hcq : hp κ H c (.inr (9, [.ref qa, vi (lim : Int), vi 0]))) : V z H cb sb 423 [(15, vi 0), (0, .ref a), (2, .ref c), (3, vi z3), (4, vi sh), (5, vi (m : Int)), (6, .ref d), (7, .ref r), (9, vi (lim : Int)), (10, .ref qa), (11, vi dh), (12, vj dh), (14, vi dl)] [] := by
  have hdl0 := hD.2.2.2.2.1
  have hdl1 := hD.2.2.2.2.2.1
  have hdh1 := hD.2.2.2.1
  have hdh2 := hD.2.2.1
  have hDm2 := hD.1
  have loop_423 : ∀ (m_423 : Nat) (H : Heap) (j : Nat) (f fq : Nat → Int) (Tv : Int), lim - j < m_423 → (j + 1 ≤ lim) → (Tv = R % (D * 2 ^ (32 * (lim - j)))) → (∀ i, i < L → f i = bM Tv L i) → (∀ i, i < j → fq i = bM (R / D) lim i) → (∀ i, j ≤ i → fq i = 0) → hp κ H a (.inr (9, [.ref v, vi (n : Int), vi (o : Int)])) → hp κ H r (.inr (9, [.ref w, vi (L : Int), vi 0])) → hp κ H w (eI κ wc f) → hp κ H d (eI κ m (bM D m)) → hp κ H qa (eI κ qc fq) → hp κ H c (.inr (9, [.ref qa, vi (lim : Int), vi 0])) → V z H cb sb 423 [(15, vi (j : Int)), (0, .ref a), (2, .ref c), (3, vi z3), (4, vi sh), (5, vi (m : Int)), (6, .ref d), (7, .ref r), (9, vi (lim : Int)), (10, .ref qa), (11, vi dh), (12, vj dh), (14, vi dl)] [] := by
    intro m_423
    induction m_423 with
    | zero => intro H j f fq Tv hm; exact absurd hm (by omega)
    | succ m_423 ih_423 =>
      intro H j f fq Tv hm_423 hj hT hf hfq hfz hoa hr hw hd hqa hcq
      refine v_iload E 0 rfl dJ26_divideMagnitude_423 ?_
      refine v_iload E 8 rfl dJ26_divideMagnitude_425 ?_
      refine v_iconst E dJ26_divideMagnitude_427 ?_
      refine v_isub E dJ26_divideMagnitude_428 ?_
      refine v_icmp_ge E (tgt := 828) dJ26_divideMagnitude_429 (by decide) ⟨by omega, by omega⟩ ⟨by omega, by omega⟩ (fun c_429 => ?_) (fun c_429 => ?_)
      · have ej : lim - j = 1 := by omega
        refine V.sub [1, 2, 3, 4, 5, 6, 7, 8, 9, 10, 11, 12] (lv' := [(0, .ref a), (2, .ref c), (3, vi z3), (4, vi sh), (5, vi (m : Int)), (6, .ref d), (7, .ref r), (9, vi (lim : Int)), (10, .ref qa), (11, vi dh), (12, vj dh), (14, vi dl)]) rfl ?_
        exact K _ f fq Tv (by rw [hT, ej]) hf (fun i hi => hfq i (by omega)) (fun i hi => hfz i (by omega)) hoa hr hw hd hqa hcq
      · obtain ⟨s9, hs9⟩ : ∃ s9, s9 = lim - 1 - j := ⟨_, rfl⟩
        have hLs : L = j + 1 + m + s9 := by omega
        have hDp := kn_pos hD
        have hT' : Tv = R % (D * 2 ^ (32 * (s9 + 1))) := by rw [hT, show lim - j = s9 + 1 by omega]
        have hDP1 : 0 < D * 2 ^ (32 * (s9 + 1)) := Int.mul_pos hDp (p2 _)
        have hT0 : 0 ≤ Tv := by rw [hT']; exact Int.emod_nonneg _ (Int.ne_of_gt hDP1)
        have hT1 : Tv < D * 2 ^ (32 * (s9 + 1)) := by rw [hT']; exact Int.emod_lt_of_pos _ hDP1
        have hst := kn_state hLs hD.1 ⟨hDp, hDm⟩ hT0 hT1
        have hnx := kn_next hDp hT' hR
        obtain ⟨W, hWe⟩ : ∃ W, W = Tv / 2 ^ (32 * s9) := ⟨_, rfl⟩
        change (Tv / 2 ^ (32 * s9) - Tv / 2 ^ (32 * s9) / D * D) * 2 ^ (32 * s9) + Tv % 2 ^ (32 * s9) = _ ∧ Tv / 2 ^ (32 * s9) / D = _ ∧ 0 ≤ Tv / 2 ^ (32 * s9) - Tv / 2 ^ (32 * s9) / D * D ∧ Tv / 2 ^ (32 * s9) - Tv / 2 ^ (32 * s9) / D * D < D at hnx
        rw [← hWe] at hst hnx
        obtain ⟨hKW, hW0, hW1, hTl, hnhW, hwin⟩ := hst
        have hf0 := hf j (by omega)
        have hf1 := hf (j + 1) (by omega)
        have hf2 := hf (j + 2) (by omega)
        obtain ⟨nh, hnh⟩ : ∃ nh, nh = bM Tv L j := ⟨_, rfl⟩
        obtain ⟨nm, hnm⟩ : ∃ nm, nm = bM Tv L (j + 1) := ⟨_, rfl⟩
        obtain ⟨nl, hnl⟩ : ∃ nl, nl = bM Tv L (j + 2) := ⟨_, rfl⟩
        rw [← hnh, ← hnm, ← hnl] at hKW
        rw [← hnh] at hf0 hnhW
        rw [← hnm] at hf1
        rw [← hnl] at hf2
        have hnh0 := hKW.1
        have hnh1 := hKW.2.1
        have hnm0 := hKW.2.2.1
        have hnm1 := hKW.2.2.2.1
        have hnl0 := hKW.2.2.2.2.1
        have hnl1 := hKW.2.2.2.2.2.1
        have hnhd : nh ≤ dh := kn_top hD hKW hW1
        have join_740 : ∀ (H : Heap) (qh : Int), (W / D ≤ qh) → (qh ≤ W / D + 1) → (0 ≤ qh ∧ qh < 4294967296) → hp κ H a (.inr (9, [.ref v, vi (n : Int), vi (o : Int)])) → hp κ H r (.inr (9, [.ref w, vi (L : Int), vi 0])) → hp κ H w (eI κ wc f) → hp κ H d (eI κ m (bM D m)) → hp κ H qa (eI κ qc fq) → hp κ H c (.inr (9, [.ref qa, vi (lim : Int), vi 0])) → V z H cb sb 740 [(16, vi qh), (19, vi nh), (20, vi (nh + (-2147483648))), (15, vi (j : Int)), (0, .ref a), (2, .ref c), (3, vi z3), (4, vi sh), (5, vi (m : Int)), (6, .ref d), (7, .ref r), (9, vi (lim : Int)), (10, .ref qa), (11, vi dh), (12, vj dh), (14, vi dl)] [] := by
          intro H qh hq1 hq2 hq3 hoa hr hw hd hqa hcq
          refine v_aload E 10 rfl dJ26_divideMagnitude_740 ?_
          refine v_getf E in_J26 hr (ci := 9) rfl 0 (by decide) q1172 rfl (v := .ref w) rfl dJ26_divideMagnitude_742 ?_
          refine v_iload E 3 rfl dJ26_divideMagnitude_745 ?_
          refine v_aload E 10 rfl dJ26_divideMagnitude_747 ?_
          refine v_getf E in_J26 hr (ci := 9) rfl 2 (by decide) q1174 rfl (v := vi 0) rfl dJ26_divideMagnitude_749 ?_
          refine v_iadd E dJ26_divideMagnitude_752 ?_
          refine v_iconst E dJ26_divideMagnitude_753 ?_
          refine v_iast E dJ26_divideMagnitude_754 hw j (by omega) (by omega) (by omega) (hAll _ (Or.inl rfl)) (fun H_3 hw_1 hs_2 => ?_)
          have hoa_4 := hoa.same hs_2 (Ne.symm hne_w_a)
          have hr_5 := hr.same hs_2 (Ne.symm hne_w_r)
          have hd_6 := hd.same hs_2 hne_d_w
          have hqa_7 := hqa.same hs_2 hne_qa_w
          have hcq_8 := hcq.same hs_2 (Ne.symm hne_w_c)
          refine v_aload_n E 4 rfl dJ26_divideMagnitude_755 ?_
          refine v_aload E 10 rfl dJ26_divideMagnitude_756 ?_
          refine v_getf E in_J26 hr_5 (ci := 9) rfl 0 (by decide) q1172 rfl (v := .ref w) rfl dJ26_divideMagnitude_758 ?_
          refine v_aload E 9 rfl dJ26_divideMagnitude_761 ?_
          refine v_iload E 0 rfl dJ26_divideMagnitude_763 ?_
          refine v_iload E 8 rfl dJ26_divideMagnitude_765 ?_
          refine v_iload E 3 rfl dJ26_divideMagnitude_767 ?_
          refine v_aload E 10 rfl dJ26_divideMagnitude_769 ?_
          refine v_getf E in_J26 hr_5 (ci := 9) rfl 2 (by decide) q1174 rfl (v := vi 0) rfl dJ26_divideMagnitude_771 ?_
          refine v_iadd E dJ26_divideMagnitude_774 ?_
          refine V.topi (x' := ((j + 1 : Nat) : Int) - 1) (congrArg iZ (by omega)) ?_
          have hu0 : va_up f j 0 j = 0 := va_up_self _ _ _
          have hwin0 : ∀ i, i < m → va_up f j 0 (j + 1 + i) = bM (W % 2 ^ (32 * m)) m i := fun i hi => by rw [va_up_ne _ _ (by omega), hf _ (by omega)]; exact hwin i hi
          have h5 := kn_5 ⟨hDp, hDm⟩ hW0 hq1 hq2
          change (qh = W / D ∧ - mb (W % 2 ^ (32 * m)) qh D m = W / 2 ^ (32 * m)) ∨ (qh = W / D + 1 ∧ - mb (W % 2 ^ (32 * m)) qh D m = W / 2 ^ (32 * m) + 1) at h5
          rw [← hnhW] at h5
          have hmbi := mb_in (W := W % 2 ^ (32 * m)) (x := qh) (D := D) m hq3.1
          refine v_callV E (As := [.ref w, .ref d, vi qh, vi (m : Int), vi (((j + 1 : Nat) : Int) - 1)]) (b := a) (ci := 9) (C := RJ26) (T := TJ26) (N := 3) hoa_4 rfl (h_ms κ H_3 (o := j + 1) (W := W % 2 ^ (32 * m)) (D := D) hq3 (by omega) (by omega) hwc hne_d_w hwin0 hw_1 hd_6) (lw_V q1300 q1302 qs26 q101 q1303) 5 (by decide +kernel) rfl (by decide) (by decide) (cb' := cb) (sb' := sb) (Nat.le_refl _) (Nat.le_refl _) rfl (rest := []) (Nat.le_of_ble_eq_true rfl) (fun q h => hAll q (Or.inl h)) dJ26_divideMagnitude_775 (fun v_9 H_10 hpost_11 hz_12 hk_13 => ?_)
          clear hz_12
          obtain ⟨f5, rfl, hw5, hwin5, hout5⟩ := hpost_11
          have hz_14 := hoa_4.kept (hk_13 _ hoa_4.lt (fun h => (Ne.symm hne_w_a) h))
          have hz_15 := hr_5.kept (hk_13 _ hr_5.lt (fun h => (Ne.symm hne_w_r) h))
          have hz_16 := hd_6.kept (hk_13 _ hd_6.lt (fun h => hne_d_w h))
          have hz_17 := hqa_7.kept (hk_13 _ hqa_7.lt (fun h => hne_qa_w h))
          have hz_18 := hcq_8.kept (hk_13 _ hcq_8.lt (fun h => (Ne.symm hne_w_c) h))
          obtain ⟨cbr, hcbr⟩ : ∃ cbr, cbr = - mb (W % 2 ^ (32 * m)) qh D m := ⟨_, rfl⟩
          rw [← hcbr] at h5 ⊢
          have hcr : 0 ≤ cbr ∧ cbr < 4294967296 := ⟨by omega, by omega⟩
          refine V.eq (st' := [vi cbr]) rfl ?_
          refine v_istore E dJ26_divideMagnitude_778 (zlt hL rfl) (lv' := [(22, vi cbr), (16, vi qh), (19, vi nh), (20, vi (nh + (-2147483648))), (15, vi (j : Int)), (0, .ref a), (2, .ref c), (3, vi z3), (4, vi sh), (5, vi (m : Int)), (6, .ref d), (7, .ref r), (9, vi (lim : Int)), (10, .ref qa), (11, vi dh), (12, vj dh), (14, vi dl)]) rfl ?_
          refine v_iload E 0 rfl dJ26_divideMagnitude_780 ?_
          refine v_ldc E q1223 dJ26_divideMagnitude_782 ?_
          refine V.eq (st' := vi (-2147483648) :: _) rfl ?_
          refine v_iadd E dJ26_divideMagnitude_784 ?_
          refine v_iload E 3 rfl dJ26_divideMagnitude_785 ?_
          refine v_icmp_le E (tgt := 815) dJ26_divideMagnitude_787 (by decide) ⟨by omega, by omega⟩ ⟨by omega, by omega⟩ (fun c_787 => ?_) (fun c_787 => ?_)
          · refine v_aload E 13 rfl dJ26_divideMagnitude_815 ?_
            refine v_iload E 4 rfl dJ26_divideMagnitude_817 ?_
            refine v_iload E 1 rfl dJ26_divideMagnitude_819 ?_
            have eqh : qh = W / D := by omega
            have hwn : ∀ i, i < m → f5 (j + 1 + i) = bM (W - W / D * D) m i := fun i hi => by
              rw [hwin5 i hi, eqh]
              unfold bM
              exact dg_mod_sub (by omega)
            have hon : ∀ i, i < j ∨ j + 1 + m ≤ i → f5 i = f i := fun i hi => by rw [hout5 i (by omega), va_up_ne _ _ (by omega)]
            have hzn0 : f5 j = 0 := by rw [hout5 j (by omega)]; exact hu0
            refine V.topi (x' := dg (R / D) (lim - 1 - j)) (congrArg iZ (by rw [← hs9, ← hnx.2.1]; omega)) ?_
            have hfn := kn_win (f1 := f5) (T := Tv) (W := W) (R := W - W / D * D) hLs hf hWe hTl hT0 ⟨hnx.2.2.1, by omega⟩ hzn0 hwn hon
            rw [hnx.1] at hfn
            have hTn : R % (D * 2 ^ (32 * s9)) = R % (D * 2 ^ (32 * (lim - (j + 1)))) := by rw [show lim - (j + 1) = s9 by omega]
            have hqn := fq_s (n := lim) hfq
            have hzn : ∀ i, j + 1 ≤ i → va_up fq j (dg (R / D) (lim - 1 - j)) i = 0 := fun i hi => by rw [va_up_ne _ _ (by omega)]; exact hfz i (by omega)
            refine v_iast E dJ26_divideMagnitude_821 hz_17 j rfl (by omega) (by omega) (hAll _ (Or.inr rfl)) (fun H_21 hz_19 hs_20 => ?_)
            have hz_22 := hz_14.same hs_20 (Ne.symm hne_qa_a)
            have hz_23 := hz_15.same hs_20 (Ne.symm hne_qa_r)
            have hw5_24 := hw5.same hs_20 (Ne.symm hne_qa_w)
            have hz_25 := hz_16.same hs_20 (Ne.symm hne_qa_d)
            have hz_26 := hz_18.same hs_20 (Ne.symm hne_qa_c)
            refine v_iinc E 4 rfl dJ26_divideMagnitude_822 (zlt hL rfl) (lv' := [(15, vi ((j : Int) + 1)), (22, vi cbr), (16, vi qh), (19, vi nh), (20, vi (nh + (-2147483648))), (0, .ref a), (2, .ref c), (3, vi z3), (4, vi sh), (5, vi (m : Int)), (6, .ref d), (7, .ref r), (9, vi (lim : Int)), (10, .ref qa), (11, vi dh), (12, vj dh), (14, vi dl)]) rfl ?_
            refine v_goto E (tgt := 423) dJ26_divideMagnitude_825 (by decide) ?_
            refine V.sub [0, 5, 6, 7, 8, 9, 10, 11, 12, 13, 14, 15, 16] (lv' := [(15, vi ((j : Int) + 1)), (0, .ref a), (2, .ref c), (3, vi z3), (4, vi sh), (5, vi (m : Int)), (6, .ref d), (7, .ref r), (9, vi (lim : Int)), (10, .ref qa), (11, vi dh), (12, vj dh), (14, vi dl)]) rfl ?_
            exact ih_423  H_21 (j + 1) _ _ _ (by omega) (by omega) hTn hfn hqn hzn hz_22 hz_23 hw5_24 hz_25 hz_19 hz_26
          · refine v_aload_n E 5 rfl dJ26_divideMagnitude_790 ?_
            refine v_aload E 10 rfl dJ26_divideMagnitude_791 ?_
            refine v_aload E 11 rfl dJ26_divideMagnitude_793 ?_
            refine v_getf E in_J26 hz_15 (ci := 9) rfl 0 (by decide) q1172 rfl (v := .ref w) rfl dJ26_divideMagnitude_795 ?_
            refine v_iload E 4 rfl dJ26_divideMagnitude_798 ?_
            refine v_iconst E dJ26_divideMagnitude_800 ?_
            refine v_iadd E dJ26_divideMagnitude_801 ?_
            refine v_aload E 11 rfl dJ26_divideMagnitude_802 ?_
            refine v_getf E in_J26 hz_15 (ci := 9) rfl 2 (by decide) q1174 rfl (v := vi 0) rfl dJ26_divideMagnitude_804 ?_
            refine v_iadd E dJ26_divideMagnitude_807 ?_
            refine V.topi (x' := ((j + 1 : Nat) : Int)) (congrArg iZ (by omega)) ?_
            refine v_callV E (As := [.ref d, .ref w, vi ((j + 1 : Nat) : Int)]) (b := a) (ci := 9) (C := RJ26) (T := TJ26) (N := 3) hz_14 rfl (h_da κ H_10 (o := j + 1) (W := W % 2 ^ (32 * m) - qh * D) (D := D) (by omega) hwc hne_d_w hwin5 hw5 hz_16) (lw_V q1304 q1306 qs27 q101 q1307) 3 (by decide +kernel) rfl (by decide) (by decide) (cb' := cb) (sb' := sb) (Nat.le_refl _) (Nat.le_refl _) rfl (rest := []) (Nat.le_of_ble_eq_true rfl) (fun q h => hAll q (Or.inl h)) dJ26_divideMagnitude_808 (fun v_27 H_28 hpost_29 hz_30 hk_31 => ?_)
            clear hz_30
            obtain ⟨f6, c6, rfl, hw6, hwin6, hout6⟩ := hpost_29
            have hz_32 := hz_14.kept (hk_31 _ hz_14.lt (fun h => (Ne.symm hne_w_a) h))
            have hz_33 := hz_15.kept (hk_31 _ hz_15.lt (fun h => (Ne.symm hne_w_r) h))
            have hz_34 := hz_16.kept (hk_31 _ hz_16.lt (fun h => hne_d_w h))
            have hz_35 := hz_17.kept (hk_31 _ hz_17.lt (fun h => hne_qa_w h))
            have hz_36 := hz_18.kept (hk_31 _ hz_18.lt (fun h => (Ne.symm hne_w_c) h))
            refine V.eq (st' := [vi c6]) rfl ?_
            refine v_pop E rfl dJ26_divideMagnitude_811 ?_
            refine v_iinc E 1 rfl dJ26_divideMagnitude_812 (zlt hL rfl) (lv' := [(16, vi (qh + (-1))), (22, vi cbr), (19, vi nh), (20, vi (nh + (-2147483648))), (15, vi (j : Int)), (0, .ref a), (2, .ref c), (3, vi z3), (4, vi sh), (5, vi (m : Int)), (6, .ref d), (7, .ref r), (9, vi (lim : Int)), (10, .ref qa), (11, vi dh), (12, vj dh), (14, vi dl)]) rfl ?_
            refine v_aload E 13 rfl dJ26_divideMagnitude_815 ?_
            refine v_iload E 4 rfl dJ26_divideMagnitude_817 ?_
            refine v_iload E 0 rfl dJ26_divideMagnitude_819 ?_
            have eqh : qh = W / D + 1 := by omega
            have hwn : ∀ i, i < m → f6 (j + 1 + i) = bM (W - W / D * D) m i := fun i hi => by
              rw [hwin6 i hi]
              unfold bM
              rw [show W % 2 ^ (32 * m) - qh * D + D = W % 2 ^ (32 * m) - W / D * D by rw [eqh]; grind]
              exact dg_mod_sub (by omega)
            have hon : ∀ i, i < j ∨ j + 1 + m ≤ i → f6 i = f i := fun i hi => by rw [hout6 i (by omega), hout5 i (by omega), va_up_ne _ _ (by omega)]
            have hzn0 : f6 j = 0 := by rw [hout6 j (by omega), hout5 j (by omega)]; exact hu0
            refine V.topi (x' := dg (R / D) (lim - 1 - j)) (congrArg iZ (by rw [← hs9, ← hnx.2.1]; omega)) ?_
            have hfn := kn_win (f1 := f6) (T := Tv) (W := W) (R := W - W / D * D) hLs hf hWe hTl hT0 ⟨hnx.2.2.1, by omega⟩ hzn0 hwn hon
            rw [hnx.1] at hfn
            have hTn : R % (D * 2 ^ (32 * s9)) = R % (D * 2 ^ (32 * (lim - (j + 1)))) := by rw [show lim - (j + 1) = s9 by omega]
            have hqn := fq_s (n := lim) hfq
            have hzn : ∀ i, j + 1 ≤ i → va_up fq j (dg (R / D) (lim - 1 - j)) i = 0 := fun i hi => by rw [va_up_ne _ _ (by omega)]; exact hfz i (by omega)
            refine v_iast E dJ26_divideMagnitude_821 hz_35 j rfl (by omega) (by omega) (hAll _ (Or.inr rfl)) (fun H_39 hz_37 hs_38 => ?_)
            have hz_40 := hz_32.same hs_38 (Ne.symm hne_qa_a)
            have hz_41 := hz_33.same hs_38 (Ne.symm hne_qa_r)
            have hw6_42 := hw6.same hs_38 (Ne.symm hne_qa_w)
            have hz_43 := hz_34.same hs_38 (Ne.symm hne_qa_d)
            have hz_44 := hz_36.same hs_38 (Ne.symm hne_qa_c)
            refine v_iinc E 4 rfl dJ26_divideMagnitude_822 (zlt hL rfl) (lv' := [(15, vi ((j : Int) + 1)), (16, vi (qh + (-1))), (22, vi cbr), (19, vi nh), (20, vi (nh + (-2147483648))), (0, .ref a), (2, .ref c), (3, vi z3), (4, vi sh), (5, vi (m : Int)), (6, .ref d), (7, .ref r), (9, vi (lim : Int)), (10, .ref qa), (11, vi dh), (12, vj dh), (14, vi dl)]) rfl ?_
            refine v_goto E (tgt := 423) dJ26_divideMagnitude_825 (by decide) ?_
            refine V.sub [0, 5, 6, 7, 8, 9, 10, 11, 12, 13, 14, 15, 16] (lv' := [(15, vi ((j : Int) + 1)), (0, .ref a), (2, .ref c), (3, vi z3), (4, vi sh), (5, vi (m : Int)), (6, .ref d), (7, .ref r), (9, vi (lim : Int)), (10, .ref qa), (11, vi dh), (12, vj dh), (14, vi dl)]) rfl ?_
            exact ih_423  H_39 (j + 1) _ _ _ (by omega) (by omega) hTn hfn hqn hzn hz_40 hz_41 hw6_42 hz_43 hz_37 hz_44
        have join_591 : ∀ (H : Heap) (qh qr : Int) (sk : Int), (knQ W D dh nh nm qh qr) → ((sk = 0 ∧ qr < 4294967296) ∨ (sk = 1 ∧ 4294967296 ≤ qr)) → hp κ H a (.inr (9, [.ref v, vi (n : Int), vi (o : Int)])) → hp κ H r (.inr (9, [.ref w, vi (L : Int), vi 0])) → hp κ H w (eI κ wc f) → hp κ H d (eI κ m (bM D m)) → hp κ H qa (eI κ qc fq) → hp κ H c (.inr (9, [.ref qa, vi (lim : Int), vi 0])) → V z H cb sb 591 [(16, vi qh), (17, vi (qr % 4294967296)), (18, vi sk), (19, vi nh), (20, vi (nh + (-2147483648))), (15, vi (j : Int)), (0, .ref a), (2, .ref c), (3, vi z3), (4, vi sh), (5, vi (m : Int)), (6, .ref d), (7, .ref r), (9, vi (lim : Int)), (10, .ref qa), (11, vi dh), (12, vj dh), (14, vi dl)] [] := by
          intro H qh qr sk hQ hsk hoa hr hw hd hqa hcq
          have hqh0 := hQ.2.2.1
          have hqh1 := hQ.2.2.2.1
          have hqr0 := hQ.2.2.2.2
          refine v_iload E 0 rfl dJ26_divideMagnitude_591 ?_
          refine V.topi (x' := (qh + 2147483648) % 4294967296 - 2147483648) (iZ_sg _) ?_
          refine v_if_ne E (tgt := 599) dJ26_divideMagnitude_593 (by decide) ⟨by omega, by omega⟩ (fun c_593 => ?_) (fun c_593 => ?_)
          · refine v_iload E 2 rfl dJ26_divideMagnitude_599 ?_
            refine v_if_ne E (tgt := 740) dJ26_divideMagnitude_601 (by decide) ⟨by omega, by omega⟩ (fun c_601 => ?_) (fun c_601 => ?_)
            · refine V.sub [0, 3, 4, 5, 6, 7, 8, 9, 10, 11, 12, 13, 14, 15, 16, 17] (lv' := [(16, vi qh), (19, vi nh), (20, vi (nh + (-2147483648))), (15, vi (j : Int)), (0, .ref a), (2, .ref c), (3, vi z3), (4, vi sh), (5, vi (m : Int)), (6, .ref d), (7, .ref r), (9, vi (lim : Int)), (10, .ref qa), (11, vi dh), (12, vj dh), (14, vi dl)]) rfl ?_
              exact join_740 H qh hQ.2.1 (kn_4 hD hKW hW0 hQ (by have := mul_in hdl0 hdl1 hqh0 (show qh ≤ 4294967295 by omega); have : dl * qh = qh * dl := Int.mul_comm _ _; omega)) ⟨hqh0, hqh1⟩ hoa hr hw hd hqa hcq
            · have hdq := mul_in hdl0 hdl1 hqh0 (show qh ≤ 4294967295 by omega)
              have hdc : dl * qh = qh * dl := Int.mul_comm _ _
              refine v_aload E 12 rfl dJ26_divideMagnitude_604 ?_
              refine v_getf E in_J26 hr (ci := 9) rfl 0 (by decide) q1172 rfl (v := .ref w) rfl dJ26_divideMagnitude_606 ?_
              refine v_iload E 5 rfl dJ26_divideMagnitude_609 ?_
              refine v_iconst E dJ26_divideMagnitude_611 ?_
              refine v_iadd E dJ26_divideMagnitude_612 ?_
              refine v_aload E 12 rfl dJ26_divideMagnitude_613 ?_
              refine v_getf E in_J26 hr (ci := 9) rfl 2 (by decide) q1174 rfl (v := vi 0) rfl dJ26_divideMagnitude_615 ?_
              refine v_iadd E dJ26_divideMagnitude_618 ?_
              refine v_iald E dJ26_divideMagnitude_619 hw (j + 2) (by omega) (by omega) (by omega) ?_
              refine v_i2lLow E dJ26_divideMagnitude_620 q1240 dJ26_divideMagnitude_621 dJ26_divideMagnitude_624 ?_
              refine V.topl (x' := nl) (congrArg jZ (by rw [hf2]; omega)) ?_
              refine v_lstore E dJ26_divideMagnitude_625 (zlt hL rfl) (lv' := [(22, vj nl), (16, vi qh), (17, vi (qr % 4294967296)), (18, vi sk), (19, vi nh), (20, vi (nh + (-2147483648))), (15, vi (j : Int)), (0, .ref a), (2, .ref c), (3, vi z3), (4, vi sh), (5, vi (m : Int)), (6, .ref d), (7, .ref r), (9, vi (lim : Int)), (10, .ref qa), (11, vi dh), (12, vj dh), (14, vi dl)]) rfl ?_
              refine v_iload E 2 rfl dJ26_divideMagnitude_627 ?_
              refine v_i2lLow E dJ26_divideMagnitude_629 q1240 dJ26_divideMagnitude_630 dJ26_divideMagnitude_633 ?_
              refine v_bipush E ⟨by decide, by decide⟩ dJ26_divideMagnitude_634 ?_
              refine v_lshl E 32 (by decide) dJ26_divideMagnitude_636 ?_
              refine v_lload E 0 rfl dJ26_divideMagnitude_637 ?_
              refine V.top2l (x' := nl) (y' := qr * 2 ^ 32) rfl (jZ_cong (by omega)) ?_
              refine v_lor E (c := qr * 2 ^ 32 + nl) (jZ_or ⟨by omega, by omega⟩ ⟨by omega, by omega⟩) dJ26_divideMagnitude_639 ?_
              refine v_lstore E dJ26_divideMagnitude_640 (zlt hL rfl) (lv' := [(24, vj (qr * 2 ^ 32 + nl)), (22, vj nl), (16, vi qh), (17, vi (qr % 4294967296)), (18, vi sk), (19, vi nh), (20, vi (nh + (-2147483648))), (15, vi (j : Int)), (0, .ref a), (2, .ref c), (3, vi z3), (4, vi sh), (5, vi (m : Int)), (6, .ref d), (7, .ref r), (9, vi (lim : Int)), (10, .ref qa), (11, vi dh), (12, vj dh), (14, vi dl)]) rfl ?_
              refine v_iload E 19 rfl dJ26_divideMagnitude_642 ?_
              refine v_i2lLow E dJ26_divideMagnitude_644 q1240 dJ26_divideMagnitude_645 dJ26_divideMagnitude_648 ?_
              refine v_iload E 2 rfl dJ26_divideMagnitude_649 ?_
              refine v_i2lLow E dJ26_divideMagnitude_651 q1240 dJ26_divideMagnitude_652 dJ26_divideMagnitude_655 ?_
              refine v_lmul E dJ26_divideMagnitude_656 ?_
              refine V.topl (x' := dl * qh) (congrArg jZ (by rw [Int.emod_eq_of_lt hdl0 hdl1, Int.emod_eq_of_lt hqh0 hqh1])) ?_
              refine v_lstore E dJ26_divideMagnitude_657 (zlt hL rfl) (lv' := [(26, vj (dl * qh)), (24, vj (qr * 2 ^ 32 + nl)), (22, vj nl), (16, vi qh), (17, vi (qr % 4294967296)), (18, vi sk), (19, vi nh), (20, vi (nh + (-2147483648))), (15, vi (j : Int)), (0, .ref a), (2, .ref c), (3, vi z3), (4, vi sh), (5, vi (m : Int)), (6, .ref d), (7, .ref r), (9, vi (lim : Int)), (10, .ref qa), (11, vi dh), (12, vj dh), (14, vi dl)]) rfl ?_
              refine v_aload_n E 9 rfl dJ26_divideMagnitude_659 ?_
              refine v_lload E 0 rfl dJ26_divideMagnitude_660 ?_
              refine v_lload E 1 rfl dJ26_divideMagnitude_662 ?_
              refine v_callV E (As := [vj (dl * qh), vj (qr * 2 ^ 32 + nl)]) (b := a) (ci := 9) (C := RJ26) (T := TJ26) (N := 3) hoa rfl (h_ulc κ H (x := dl * qh) (y := qr * 2 ^ 32 + nl) ⟨by omega, by omega⟩ ⟨by omega, by omega⟩) (lw_V q1295 q1297 qs25 q101 q1298) 2 (by decide +kernel) rfl (by decide) (by decide) (cb' := cb) (sb' := sb) (Nat.le_refl _) (Nat.le_refl _) rfl (rest := []) (Nat.le_of_ble_eq_true rfl) (fun q h => h.elim) dJ26_divideMagnitude_664 (fun v_45 H_46 hpost_47 hz_48 hk_49 => ?_)
              clear hz_48
              obtain rfl := hpost_47
              have hz_50 := hoa.kept (hk_49 _ hoa.lt (fun h => h))
              have hz_51 := hr.kept (hk_49 _ hr.lt (fun h => h))
              have hz_52 := hw.kept (hk_49 _ hw.lt (fun h => h))
              have hz_53 := hd.kept (hk_49 _ hd.lt (fun h => h))
              have hz_54 := hqa.kept (hk_49 _ hqa.lt (fun h => h))
              have hz_55 := hcq.kept (hk_49 _ hcq.lt (fun h => h))
              by_cases ht : qr * 2 ^ 32 + nl < dl * qh
              ·
                rw [if_pos ht]
                refine V.eq (st' := [vi 1]) rfl ?_
                have hQ2 := kn_3 hD hKW hW0 hQ ht
                have hqh2 := hQ2.2.2.1
                have hp0 : dl * (qh - 1) = dl * qh - dl := by grind
                have hp1 : 0 ≤ dl * (qh - 1) := Int.mul_nonneg hD.2.2.2.2.1 hqh2
                refine v_if_eq E (tgt := 740) dJ26_divideMagnitude_667 (by decide) ⟨by omega, by omega⟩ (fun c_667 => absurd c_667 (by omega)) (fun c_667 => ?_)
                refine v_iinc E 3 rfl dJ26_divideMagnitude_670 (zlt hL rfl) (lv' := [(16, vi (qh + (-1))), (26, vj (dl * qh)), (24, vj (qr * 2 ^ 32 + nl)), (22, vj nl), (17, vi (qr % 4294967296)), (18, vi sk), (19, vi nh), (20, vi (nh + (-2147483648))), (15, vi (j : Int)), (0, .ref a), (2, .ref c), (3, vi z3), (4, vi sh), (5, vi (m : Int)), (6, .ref d), (7, .ref r), (9, vi (lim : Int)), (10, .ref qa), (11, vi dh), (12, vj dh), (14, vi dl)]) rfl ?_
                refine v_iload E 4 rfl dJ26_divideMagnitude_673 ?_
                refine v_i2lLow E dJ26_divideMagnitude_675 q1240 dJ26_divideMagnitude_676 dJ26_divideMagnitude_679 ?_
                refine v_lload E 19 rfl dJ26_divideMagnitude_680 ?_
                refine v_ladd E dJ26_divideMagnitude_682 ?_
                refine v_l2i E dJ26_divideMagnitude_683 ?_
                refine V.topi (x' := (qr + dh) % 4294967296) (iZ_cong (by omega)) ?_
                refine v_istore E dJ26_divideMagnitude_684 (zlt hL rfl) (lv' := [(17, vi ((qr + dh) % 4294967296)), (16, vi (qh + (-1))), (26, vj (dl * qh)), (24, vj (qr * 2 ^ 32 + nl)), (22, vj nl), (18, vi sk), (19, vi nh), (20, vi (nh + (-2147483648))), (15, vi (j : Int)), (0, .ref a), (2, .ref c), (3, vi z3), (4, vi sh), (5, vi (m : Int)), (6, .ref d), (7, .ref r), (9, vi (lim : Int)), (10, .ref qa), (11, vi dh), (12, vj dh), (14, vi dl)]) rfl ?_
                refine v_iload E 0 rfl dJ26_divideMagnitude_686 ?_
                refine v_i2lLow E dJ26_divideMagnitude_688 q1240 dJ26_divideMagnitude_689 dJ26_divideMagnitude_692 ?_
                refine v_lload E 19 rfl dJ26_divideMagnitude_693 ?_
                refine v_lc_lt E (tgt := 740) dJ26_divideMagnitude_695 dJ26_divideMagnitude_696 (by decide) ⟨by omega, by omega⟩ ⟨by omega, by omega⟩ (fun c_695 => ?_) (fun c_695 => ?_)
                · refine V.sub [1, 6, 7, 8, 9, 10, 11, 12, 13, 14, 15, 16, 17, 18, 19, 20] (lv' := [(16, vi (qh + (-1))), (19, vi nh), (20, vi (nh + (-2147483648))), (15, vi (j : Int)), (0, .ref a), (2, .ref c), (3, vi z3), (4, vi sh), (5, vi (m : Int)), (6, .ref d), (7, .ref r), (9, vi (lim : Int)), (10, .ref qa), (11, vi dh), (12, vj dh), (14, vi dl)]) rfl ?_
                  exact V.eqL (by rw [show qh + -1 = qh - 1 by omega]) (join_740 H_46 (qh - 1) hQ2.2.1 (kn_4 hD hKW hW0 hQ2 (by have := mul_in hdl0 hdl1 (show 0 ≤ qh - 1 by omega) (by omega); have : dl * (qh - 1) = (qh - 1) * dl := Int.mul_comm _ _; omega)) ⟨by omega, by omega⟩ hz_50 hz_51 hz_52 hz_53 hz_54 hz_55)
                · refine v_lload E 2 rfl dJ26_divideMagnitude_699 ?_
                  refine v_iload E 20 rfl dJ26_divideMagnitude_701 ?_
                  refine v_i2lLow E dJ26_divideMagnitude_703 q1240 dJ26_divideMagnitude_704 dJ26_divideMagnitude_707 ?_
                  refine v_lsub E dJ26_divideMagnitude_708 ?_
                  refine V.topl (x' := dl * (qh - 1)) (congrArg jZ (by rw [hp0]; omega)) ?_
                  refine v_lstore E dJ26_divideMagnitude_709 (zlt hL rfl) (lv' := [(26, vj (dl * (qh - 1))), (17, vi ((qr + dh) % 4294967296)), (16, vi (qh + (-1))), (24, vj (qr * 2 ^ 32 + nl)), (22, vj nl), (18, vi sk), (19, vi nh), (20, vi (nh + (-2147483648))), (15, vi (j : Int)), (0, .ref a), (2, .ref c), (3, vi z3), (4, vi sh), (5, vi (m : Int)), (6, .ref d), (7, .ref r), (9, vi (lim : Int)), (10, .ref qa), (11, vi dh), (12, vj dh), (14, vi dl)]) rfl ?_
                  refine v_iload E 1 rfl dJ26_divideMagnitude_711 ?_
                  refine v_i2lLow E dJ26_divideMagnitude_713 q1240 dJ26_divideMagnitude_714 dJ26_divideMagnitude_717 ?_
                  refine v_bipush E ⟨by decide, by decide⟩ dJ26_divideMagnitude_718 ?_
                  refine v_lshl E 32 (by decide) dJ26_divideMagnitude_720 ?_
                  refine v_lload E 4 rfl dJ26_divideMagnitude_721 ?_
                  refine V.top2l (x' := nl) (y' := (qr + dh) * 2 ^ 32) rfl (jZ_cong (by omega)) ?_
                  refine v_lor E (c := (qr + dh) * 2 ^ 32 + nl) (jZ_or ⟨by omega, by omega⟩ ⟨by omega, by omega⟩) dJ26_divideMagnitude_723 ?_
                  refine v_lstore E dJ26_divideMagnitude_724 (zlt hL rfl) (lv' := [(24, vj ((qr + dh) * 2 ^ 32 + nl)), (26, vj (dl * (qh - 1))), (17, vi ((qr + dh) % 4294967296)), (16, vi (qh + (-1))), (22, vj nl), (18, vi sk), (19, vi nh), (20, vi (nh + (-2147483648))), (15, vi (j : Int)), (0, .ref a), (2, .ref c), (3, vi z3), (4, vi sh), (5, vi (m : Int)), (6, .ref d), (7, .ref r), (9, vi (lim : Int)), (10, .ref qa), (11, vi dh), (12, vj dh), (14, vi dl)]) rfl ?_
                  refine v_aload_n E 9 rfl dJ26_divideMagnitude_726 ?_
                  refine v_lload E 1 rfl dJ26_divideMagnitude_727 ?_
                  refine v_lload E 0 rfl dJ26_divideMagnitude_729 ?_
                  refine v_callV E (As := [vj (dl * (qh - 1)), vj ((qr + dh) * 2 ^ 32 + nl)]) (b := a) (ci := 9) (C := RJ26) (T := TJ26) (N := 3) hz_50 rfl (h_ulc κ H_46 (x := dl * (qh - 1)) (y := (qr + dh) * 2 ^ 32 + nl) ⟨by omega, by omega⟩ ⟨by omega, by omega⟩) (lw_V q1295 q1297 qs25 q101 q1298) 2 (by decide +kernel) rfl (by decide) (by decide) (cb' := cb) (sb' := sb) (Nat.le_refl _) (Nat.le_refl _) rfl (rest := []) (Nat.le_of_ble_eq_true rfl) (fun q h => h.elim) dJ26_divideMagnitude_731 (fun v_56 H_57 hpost_58 hz_59 hk_60 => ?_)
                  clear hz_59
                  obtain rfl := hpost_58
                  have hz_61 := hz_50.kept (hk_60 _ hz_50.lt (fun h => h))
                  have hz_62 := hz_51.kept (hk_60 _ hz_51.lt (fun h => h))
                  have hz_63 := hz_52.kept (hk_60 _ hz_52.lt (fun h => h))
                  have hz_64 := hz_53.kept (hk_60 _ hz_53.lt (fun h => h))
                  have hz_65 := hz_54.kept (hk_60 _ hz_54.lt (fun h => h))
                  have hz_66 := hz_55.kept (hk_60 _ hz_55.lt (fun h => h))
                  by_cases ht : (qr + dh) * 2 ^ 32 + nl < dl * (qh - 1)
                  ·
                    rw [if_pos ht]
                    refine V.eq (st' := [vi 1]) rfl ?_
                    have hQ3 := kn_3 hD hKW hW0 hQ2 ht
                    have hqh3 := hQ3.2.2.1
                    refine v_if_eq E (tgt := 740) dJ26_divideMagnitude_734 (by decide) ⟨by omega, by omega⟩ (fun c_734 => absurd c_734 (by omega)) (fun c_734 => ?_)
                    refine v_iinc E 3 rfl dJ26_divideMagnitude_737 (zlt hL rfl) (lv' := [(16, vi ((qh + (-1)) + (-1))), (24, vj ((qr + dh) * 2 ^ 32 + nl)), (26, vj (dl * (qh - 1))), (17, vi ((qr + dh) % 4294967296)), (22, vj nl), (18, vi sk), (19, vi nh), (20, vi (nh + (-2147483648))), (15, vi (j : Int)), (0, .ref a), (2, .ref c), (3, vi z3), (4, vi sh), (5, vi (m : Int)), (6, .ref d), (7, .ref r), (9, vi (lim : Int)), (10, .ref qa), (11, vi dh), (12, vj dh), (14, vi dl)]) rfl ?_
                    refine V.sub [0, 6, 7, 8, 9, 10, 11, 12, 13, 14, 15, 16, 17, 18, 19, 20] (lv' := [(16, vi ((qh + (-1)) + (-1))), (19, vi nh), (20, vi (nh + (-2147483648))), (15, vi (j : Int)), (0, .ref a), (2, .ref c), (3, vi z3), (4, vi sh), (5, vi (m : Int)), (6, .ref d), (7, .ref r), (9, vi (lim : Int)), (10, .ref qa), (11, vi dh), (12, vj dh), (14, vi dl)]) rfl ?_
                    exact V.eqL (by rw [show qh + -1 + -1 = qh - 1 - 1 by omega]) (join_740 H_57 (qh - 1 - 1) hQ3.2.1 (kn_4 hD hKW hW0 hQ3 (by have := mul_in hdl0 hdl1 (show 0 ≤ qh - 1 - 1 by omega) (by omega); have : dl * (qh - 1 - 1) = (qh - 1 - 1) * dl := Int.mul_comm _ _; omega)) ⟨by omega, by omega⟩ hz_61 hz_62 hz_63 hz_64 hz_65 hz_66)
                  ·
                    rw [if_neg ht]
                    refine V.eq (st' := [vi 0]) rfl ?_
                    refine v_if_eq E (tgt := 740) dJ26_divideMagnitude_734 (by decide) ⟨by omega, by omega⟩ (fun c_734 => ?_) (fun c_734 => absurd c_734 (by omega))
                    refine V.sub [3, 6, 7, 8, 9, 10, 11, 12, 13, 14, 15, 16, 17, 18, 19, 20] (lv' := [(16, vi (qh + (-1))), (19, vi nh), (20, vi (nh + (-2147483648))), (15, vi (j : Int)), (0, .ref a), (2, .ref c), (3, vi z3), (4, vi sh), (5, vi (m : Int)), (6, .ref d), (7, .ref r), (9, vi (lim : Int)), (10, .ref qa), (11, vi dh), (12, vj dh), (14, vi dl)]) rfl ?_
                    exact V.eqL (by rw [show qh + -1 = qh - 1 by omega]) (join_740 H_57 (qh - 1) hQ2.2.1 (kn_4 hD hKW hW0 hQ2 (by omega)) ⟨by omega, by omega⟩ hz_61 hz_62 hz_63 hz_64 hz_65 hz_66)
              ·
                rw [if_neg ht]
                refine V.eq (st' := [vi 0]) rfl ?_
                refine v_if_eq E (tgt := 740) dJ26_divideMagnitude_667 (by decide) ⟨by omega, by omega⟩ (fun c_667 => ?_) (fun c_667 => absurd c_667 (by omega))
                refine V.sub [3, 6, 7, 8, 9, 10, 11, 12, 13, 14, 15, 16, 17, 18, 19, 20] (lv' := [(16, vi qh), (19, vi nh), (20, vi (nh + (-2147483648))), (15, vi (j : Int)), (0, .ref a), (2, .ref c), (3, vi z3), (4, vi sh), (5, vi (m : Int)), (6, .ref d), (7, .ref r), (9, vi (lim : Int)), (10, .ref qa), (11, vi dh), (12, vj dh), (14, vi dl)]) rfl ?_
                exact join_740 H_46 qh hQ.2.1 (kn_4 hD hKW hW0 hQ (by omega)) ⟨hqh0, hqh1⟩ hz_50 hz_51 hz_52 hz_53 hz_54 hz_55
          · refine v_goto E (tgt := 822) dJ26_divideMagnitude_596 (by decide) ?_
            have hq00 : W / D = 0 := by have := hQ.2.1; have := (kn_q hDp hW0).1; omega
            have hTs : (W - W / D * D) * 2 ^ (32 * s9) + Tv % 2 ^ (32 * s9) = Tv := by
              rw [hq00, Int.zero_mul, Int.sub_zero, hWe, Int.mul_comm]; exact Int.mul_ediv_add_emod Tv _
            rw [hTs] at hnx
            have hTn : Tv = R % (D * 2 ^ (32 * (lim - (j + 1)))) := by rw [show lim - (j + 1) = s9 by omega]; exact hnx.1
            have hfn := hf
            have hqn : ∀ i, i < j + 1 → fq i = bM (R / D) lim i := fun i hi => by
              by_cases e : i = j
              · rw [e, hfz j (Nat.le_refl _)]; unfold bM; rw [← hs9, ← hnx.2.1, hq00]
              · exact hfq i (by omega)
            have hzn : ∀ i, j + 1 ≤ i → fq i = 0 := fun i hi => hfz i (by omega)
            refine v_iinc E 5 rfl dJ26_divideMagnitude_822 (zlt hL rfl) (lv' := [(15, vi ((j : Int) + 1)), (16, vi qh), (17, vi (qr % 4294967296)), (18, vi sk), (19, vi nh), (20, vi (nh + (-2147483648))), (0, .ref a), (2, .ref c), (3, vi z3), (4, vi sh), (5, vi (m : Int)), (6, .ref d), (7, .ref r), (9, vi (lim : Int)), (10, .ref qa), (11, vi dh), (12, vj dh), (14, vi dl)]) rfl ?_
            refine v_goto E (tgt := 423) dJ26_divideMagnitude_825 (by decide) ?_
            refine V.sub [0, 6, 7, 8, 9, 10, 11, 12, 13, 14, 15, 16, 17] (lv' := [(15, vi ((j : Int) + 1)), (0, .ref a), (2, .ref c), (3, vi z3), (4, vi sh), (5, vi (m : Int)), (6, .ref d), (7, .ref r), (9, vi (lim : Int)), (10, .ref qa), (11, vi dh), (12, vj dh), (14, vi dl)]) rfl ?_
            exact ih_423  H (j + 1) _ _ _ (by omega) (by omega) hTn hfn hqn hzn hoa hr hw hd hqa hcq
        refine v_iconst E dJ26_divideMagnitude_432 ?_
        refine v_istore E dJ26_divideMagnitude_433 (zlt hL rfl) (lv' := [(16, vi 0), (15, vi (j : Int)), (0, .ref a), (2, .ref c), (3, vi z3), (4, vi sh), (5, vi (m : Int)), (6, .ref d), (7, .ref r), (9, vi (lim : Int)), (10, .ref qa), (11, vi dh), (12, vj dh), (14, vi dl)]) rfl ?_
        refine v_iconst E dJ26_divideMagnitude_435 ?_
        refine v_istore E dJ26_divideMagnitude_436 (zlt hL rfl) (lv' := [(17, vi 0), (16, vi 0), (15, vi (j : Int)), (0, .ref a), (2, .ref c), (3, vi z3), (4, vi sh), (5, vi (m : Int)), (6, .ref d), (7, .ref r), (9, vi (lim : Int)), (10, .ref qa), (11, vi dh), (12, vj dh), (14, vi dl)]) rfl ?_
        refine v_iconst E dJ26_divideMagnitude_438 ?_
        refine v_istore E dJ26_divideMagnitude_439 (zlt hL rfl) (lv' := [(18, vi 0), (17, vi 0), (16, vi 0), (15, vi (j : Int)), (0, .ref a), (2, .ref c), (3, vi z3), (4, vi sh), (5, vi (m : Int)), (6, .ref d), (7, .ref r), (9, vi (lim : Int)), (10, .ref qa), (11, vi dh), (12, vj dh), (14, vi dl)]) rfl ?_
        refine v_aload E 10 rfl dJ26_divideMagnitude_441 ?_
        refine v_getf E in_J26 hr (ci := 9) rfl 0 (by decide) q1172 rfl (v := .ref w) rfl dJ26_divideMagnitude_443 ?_
        refine v_iload E 3 rfl dJ26_divideMagnitude_446 ?_
        refine v_aload E 10 rfl dJ26_divideMagnitude_448 ?_
        refine v_getf E in_J26 hr (ci := 9) rfl 2 (by decide) q1174 rfl (v := vi 0) rfl dJ26_divideMagnitude_450 ?_
        refine v_iadd E dJ26_divideMagnitude_453 ?_
        refine v_iald E dJ26_divideMagnitude_454 hw j (by omega) (by omega) (by omega) ?_
        refine V.topi (x' := nh) (congrArg iZ hf0) ?_
        refine v_istore E dJ26_divideMagnitude_455 (zlt hL rfl) (lv' := [(19, vi nh), (18, vi 0), (17, vi 0), (16, vi 0), (15, vi (j : Int)), (0, .ref a), (2, .ref c), (3, vi z3), (4, vi sh), (5, vi (m : Int)), (6, .ref d), (7, .ref r), (9, vi (lim : Int)), (10, .ref qa), (11, vi dh), (12, vj dh), (14, vi dl)]) rfl ?_
        refine v_iload E 0 rfl dJ26_divideMagnitude_457 ?_
        refine v_ldc E q1223 dJ26_divideMagnitude_459 ?_
        refine V.eq (st' := vi (-2147483648) :: _) rfl ?_
        refine v_iadd E dJ26_divideMagnitude_461 ?_
        refine v_istore E dJ26_divideMagnitude_462 (zlt hL rfl) (lv' := [(20, vi (nh + (-2147483648))), (19, vi nh), (18, vi 0), (17, vi 0), (16, vi 0), (15, vi (j : Int)), (0, .ref a), (2, .ref c), (3, vi z3), (4, vi sh), (5, vi (m : Int)), (6, .ref d), (7, .ref r), (9, vi (lim : Int)), (10, .ref qa), (11, vi dh), (12, vj dh), (14, vi dl)]) rfl ?_
        refine v_aload E 12 rfl dJ26_divideMagnitude_464 ?_
        refine v_getf E in_J26 hr (ci := 9) rfl 0 (by decide) q1172 rfl (v := .ref w) rfl dJ26_divideMagnitude_466 ?_
        refine v_iload E 5 rfl dJ26_divideMagnitude_469 ?_
        refine v_iconst E dJ26_divideMagnitude_471 ?_
        refine v_iadd E dJ26_divideMagnitude_472 ?_
        refine v_aload E 12 rfl dJ26_divideMagnitude_473 ?_
        refine v_getf E in_J26 hr (ci := 9) rfl 2 (by decide) q1174 rfl (v := vi 0) rfl dJ26_divideMagnitude_475 ?_
        refine v_iadd E dJ26_divideMagnitude_478 ?_
        refine v_iald E dJ26_divideMagnitude_479 hw (j + 1) (by omega) (by omega) (by omega) ?_
        refine V.topi (x' := nm) (congrArg iZ hf1) ?_
        refine v_istore E dJ26_divideMagnitude_480 (zlt hL rfl) (lv' := [(21, vi nm), (20, vi (nh + (-2147483648))), (19, vi nh), (18, vi 0), (17, vi 0), (16, vi 0), (15, vi (j : Int)), (0, .ref a), (2, .ref c), (3, vi z3), (4, vi sh), (5, vi (m : Int)), (6, .ref d), (7, .ref r), (9, vi (lim : Int)), (10, .ref qa), (11, vi dh), (12, vj dh), (14, vi dl)]) rfl ?_
        refine v_iload E 2 rfl dJ26_divideMagnitude_482 ?_
        refine v_iload E 16 rfl dJ26_divideMagnitude_484 ?_
        refine V.top2i (x' := (dh + 2147483648) % 4294967296 - 2147483648) (y' := (nh + 2147483648) % 4294967296 - 2147483648) (iZ_sg _) (iZ_sg _) ?_
        refine v_icmp_ne E (tgt := 519) dJ26_divideMagnitude_486 (by decide) ⟨by omega, by omega⟩ ⟨by omega, by omega⟩ (fun c_486 => ?_) (fun c_486 => ?_)
        · refine v_iload E 2 rfl dJ26_divideMagnitude_519 ?_
          refine V.topi (x' := (nh + 2147483648) % 4294967296 - 2147483648) (iZ_sg _) ?_
          refine v_i2l E ⟨by omega, by omega⟩ dJ26_divideMagnitude_521 ?_
          refine v_bipush E ⟨by decide, by decide⟩ dJ26_divideMagnitude_522 ?_
          refine v_lshl E 32 (by decide) dJ26_divideMagnitude_524 ?_
          refine v_iload E 0 rfl dJ26_divideMagnitude_525 ?_
          refine v_i2lLow E dJ26_divideMagnitude_527 q1240 dJ26_divideMagnitude_528 dJ26_divideMagnitude_531 ?_
          refine V.top2l (x' := nm) (y' := nh * 2 ^ 32) (jZ_cong (by omega)) (jZ_cong (by omega)) ?_
          refine v_lor E (c := nh * 2 ^ 32 + nm) (jZ_or ⟨by omega, by omega⟩ ⟨by omega, by omega⟩) dJ26_divideMagnitude_532 ?_
          refine v_lstore E dJ26_divideMagnitude_533 (zlt hL rfl) (lv' := [(22, vj (nh * 2 ^ 32 + nm)), (21, vi nm), (20, vi (nh + (-2147483648))), (19, vi nh), (18, vi 0), (17, vi 0), (16, vi 0), (15, vi (j : Int)), (0, .ref a), (2, .ref c), (3, vi z3), (4, vi sh), (5, vi (m : Int)), (6, .ref d), (7, .ref r), (9, vi (lim : Int)), (10, .ref qa), (11, vi dh), (12, vj dh), (14, vi dl)]) rfl ?_
          refine v_lload E 0 rfl dJ26_divideMagnitude_535 ?_
          have hlt9 : nh < dh := by omega
          have hQ9 := kn_1 hD hKW hW0 hlt9
          obtain ⟨N9, hN9⟩ : ∃ N9, N9 = nh * 4294967296 + nm := ⟨_, rfl⟩
          rw [← hN9] at hQ9
          have hdh0 := hD.2.2.1
          have hm0 := Int.emod_nonneg N9 (show dh ≠ 0 by omega)
          have hm1 := Int.emod_lt_of_pos N9 (show 0 < dh by omega)
          have hq0 := hQ9.2.2.1
          have hq1 := hQ9.2.2.2.1
          rw [show nh * 2 ^ 32 + nm = N9 from hN9.symm]
          by_cases hb : N9 < 9223372036854775808
          ·
            refine v_lconst E (x := 0) rfl dJ26_divideMagnitude_537 ?_
            refine v_lc_lt E (tgt := 565) dJ26_divideMagnitude_538 dJ26_divideMagnitude_539 (by decide) ⟨by omega, by omega⟩ ⟨by omega, by omega⟩ (fun c_538 => absurd c_538 (by omega)) (fun c_538 => ?_)
            refine v_lload E 0 rfl dJ26_divideMagnitude_542 ?_
            refine v_lload E 18 rfl dJ26_divideMagnitude_544 ?_
            refine v_ldiv E ⟨by omega, by omega⟩ ⟨by omega, by omega⟩ (by omega) dJ26_divideMagnitude_546 ?_
            refine V.topl (x' := N9 / dh) (congrArg jZ (Int.tdiv_eq_ediv_of_nonneg (by omega))) ?_
            refine v_l2i E dJ26_divideMagnitude_547 ?_
            refine v_istore E dJ26_divideMagnitude_548 (zlt hL rfl) (lv' := [(16, vi (N9 / dh)), (22, vj N9), (21, vi nm), (20, vi (nh + (-2147483648))), (19, vi nh), (18, vi 0), (17, vi 0), (15, vi (j : Int)), (0, .ref a), (2, .ref c), (3, vi z3), (4, vi sh), (5, vi (m : Int)), (6, .ref d), (7, .ref r), (9, vi (lim : Int)), (10, .ref qa), (11, vi dh), (12, vj dh), (14, vi dl)]) rfl ?_
            refine v_lload E 1 rfl dJ26_divideMagnitude_550 ?_
            refine v_iload E 0 rfl dJ26_divideMagnitude_552 ?_
            refine V.topi (x' := ((N9 / dh) + 2147483648) % 4294967296 - 2147483648) (iZ_sg _) ?_
            refine v_i2l E ⟨by omega, by omega⟩ dJ26_divideMagnitude_554 ?_
            refine v_lload E 18 rfl dJ26_divideMagnitude_555 ?_
            refine v_lmul E dJ26_divideMagnitude_557 ?_
            refine v_lsub E dJ26_divideMagnitude_558 ?_
            refine v_l2i E dJ26_divideMagnitude_559 ?_
            refine V.topi (x' := (N9 % dh) % 4294967296) (by rw [sg_mul_i]; exact congrArg iZ (by have := Int.mul_ediv_add_emod N9 dh; rw [Int.mul_comm] at this; rw [Int.emod_eq_of_lt hm0 (by omega)]; omega)) ?_
            refine v_istore E dJ26_divideMagnitude_560 (zlt hL rfl) (lv' := [(17, vi ((N9 % dh) % 4294967296)), (16, vi (N9 / dh)), (22, vj N9), (21, vi nm), (20, vi (nh + (-2147483648))), (19, vi nh), (18, vi 0), (15, vi (j : Int)), (0, .ref a), (2, .ref c), (3, vi z3), (4, vi sh), (5, vi (m : Int)), (6, .ref d), (7, .ref r), (9, vi (lim : Int)), (10, .ref qa), (11, vi dh), (12, vj dh), (14, vi dl)]) rfl ?_
            refine v_goto E (tgt := 591) dJ26_divideMagnitude_562 (by decide) ?_
            refine V.sub [1, 0, 6, 5, 4, 7, 8, 9, 10, 11, 12, 13, 14, 15, 16, 17, 18, 19] (lv' := [(16, vi (N9 / dh)), (17, vi ((N9 % dh) % 4294967296)), (18, vi 0), (19, vi nh), (20, vi (nh + (-2147483648))), (15, vi (j : Int)), (0, .ref a), (2, .ref c), (3, vi z3), (4, vi sh), (5, vi (m : Int)), (6, .ref d), (7, .ref r), (9, vi (lim : Int)), (10, .ref qa), (11, vi dh), (12, vj dh), (14, vi dl)]) rfl ?_
            exact join_591 H (N9 / dh) (N9 % dh) 0 hQ9 (Or.inl ⟨rfl, by omega⟩) hoa hr hw hd hqa hcq
          ·
            refine V.topl (x' := N9 - 18446744073709551616) (jZ_cong (by omega)) ?_
            refine v_lconst E (x := 0) rfl dJ26_divideMagnitude_537 ?_
            refine v_lc_lt E (tgt := 565) dJ26_divideMagnitude_538 dJ26_divideMagnitude_539 (by decide) ⟨by omega, by omega⟩ ⟨by omega, by omega⟩ (fun c_538 => ?_) (fun c_538 => absurd c_538 (by omega))
            refine v_lload E 0 rfl dJ26_divideMagnitude_565 ?_
            refine v_iload E 17 rfl dJ26_divideMagnitude_567 ?_
            refine v_callS E (As := [vj N9, vi dh]) (h_divW κ H (N := N9) (d := dh) ⟨by omega, by omega⟩ ⟨by omega, by omega⟩) (lw_S q1273 q1274 q101 q1275) 2 (by decide +kernel) rfl (by decide) (by decide) (cb' := cb) (sb' := sb) (Nat.le_refl _) (Nat.le_refl _) rfl (rest := []) (Nat.le_of_ble_eq_true rfl) (fun q h => h.elim) dJ26_divideMagnitude_569 (fun v_67 H_68 hpost_69 hz_70 hk_71 => ?_)
            clear hz_70
            obtain rfl := hpost_69
            have hz_72 := hoa.kept (hk_71 _ hoa.lt (fun h => h))
            have hz_73 := hr.kept (hk_71 _ hr.lt (fun h => h))
            have hz_74 := hw.kept (hk_71 _ hw.lt (fun h => h))
            have hz_75 := hd.kept (hk_71 _ hd.lt (fun h => h))
            have hz_76 := hqa.kept (hk_71 _ hqa.lt (fun h => h))
            have hz_77 := hcq.kept (hk_71 _ hcq.lt (fun h => h))
            refine V.eq (st' := [vj ((N9 % dh) * 2 ^ 32 + N9 / dh)]) rfl ?_
            refine v_lstore E dJ26_divideMagnitude_572 (zlt hL rfl) (lv' := [(24, vj ((N9 % dh) * 2 ^ 32 + N9 / dh)), (22, vj N9), (21, vi nm), (20, vi (nh + (-2147483648))), (19, vi nh), (18, vi 0), (17, vi 0), (16, vi 0), (15, vi (j : Int)), (0, .ref a), (2, .ref c), (3, vi z3), (4, vi sh), (5, vi (m : Int)), (6, .ref d), (7, .ref r), (9, vi (lim : Int)), (10, .ref qa), (11, vi dh), (12, vj dh), (14, vi dl)]) rfl ?_
            refine v_lload E 0 rfl dJ26_divideMagnitude_574 ?_
            refine v_ldc2 E q1240 dJ26_divideMagnitude_576 ?_
            refine v_landLow E dJ26_divideMagnitude_579 ?_
            refine V.topl (x' := N9 / dh) (congrArg jZ (lowq hq0 hq1)) ?_
            refine v_l2i E dJ26_divideMagnitude_580 ?_
            refine v_istore E dJ26_divideMagnitude_581 (zlt hL rfl) (lv' := [(16, vi (N9 / dh)), (24, vj ((N9 % dh) * 2 ^ 32 + N9 / dh)), (22, vj N9), (21, vi nm), (20, vi (nh + (-2147483648))), (19, vi nh), (18, vi 0), (17, vi 0), (15, vi (j : Int)), (0, .ref a), (2, .ref c), (3, vi z3), (4, vi sh), (5, vi (m : Int)), (6, .ref d), (7, .ref r), (9, vi (lim : Int)), (10, .ref qa), (11, vi dh), (12, vj dh), (14, vi dl)]) rfl ?_
            refine v_lload E 1 rfl dJ26_divideMagnitude_583 ?_
            refine v_bipush E ⟨by decide, by decide⟩ dJ26_divideMagnitude_585 ?_
            refine v_lushr E 32 (by decide) dJ26_divideMagnitude_587 ?_
            refine v_l2i E dJ26_divideMagnitude_588 ?_
            refine V.topi (x' := (N9 % dh) % 4294967296) (congrArg iZ (by rw [hiq hm0 (by omega) hq0 hq1, Int.emod_eq_of_lt hm0 (by omega)])) ?_
            refine v_istore E dJ26_divideMagnitude_589 (zlt hL rfl) (lv' := [(17, vi ((N9 % dh) % 4294967296)), (16, vi (N9 / dh)), (24, vj ((N9 % dh) * 2 ^ 32 + N9 / dh)), (22, vj N9), (21, vi nm), (20, vi (nh + (-2147483648))), (19, vi nh), (18, vi 0), (15, vi (j : Int)), (0, .ref a), (2, .ref c), (3, vi z3), (4, vi sh), (5, vi (m : Int)), (6, .ref d), (7, .ref r), (9, vi (lim : Int)), (10, .ref qa), (11, vi dh), (12, vj dh), (14, vi dl)]) rfl ?_
            refine V.sub [1, 0, 7, 6, 5, 8, 9, 10, 11, 12, 13, 14, 15, 16, 17, 18, 19, 20] (lv' := [(16, vi (N9 / dh)), (17, vi ((N9 % dh) % 4294967296)), (18, vi 0), (19, vi nh), (20, vi (nh + (-2147483648))), (15, vi (j : Int)), (0, .ref a), (2, .ref c), (3, vi z3), (4, vi sh), (5, vi (m : Int)), (6, .ref d), (7, .ref r), (9, vi (lim : Int)), (10, .ref qa), (11, vi dh), (12, vj dh), (14, vi dl)]) rfl ?_
            exact join_591 H_68 (N9 / dh) (N9 % dh) 0 hQ9 (Or.inl ⟨rfl, by omega⟩) hz_72 hz_73 hz_74 hz_75 hz_76 hz_77
        · refine v_iconst E dJ26_divideMagnitude_489 ?_
          refine V.topi (x' := 4294967295) (iZ_cong (by decide)) ?_
          refine v_istore E dJ26_divideMagnitude_490 (zlt hL rfl) (lv' := [(16, vi 4294967295), (21, vi nm), (20, vi (nh + (-2147483648))), (19, vi nh), (18, vi 0), (17, vi 0), (15, vi (j : Int)), (0, .ref a), (2, .ref c), (3, vi z3), (4, vi sh), (5, vi (m : Int)), (6, .ref d), (7, .ref r), (9, vi (lim : Int)), (10, .ref qa), (11, vi dh), (12, vj dh), (14, vi dl)]) rfl ?_
          refine v_iload E 3 rfl dJ26_divideMagnitude_492 ?_
          refine v_iload E 1 rfl dJ26_divideMagnitude_494 ?_
          refine v_iadd E dJ26_divideMagnitude_496 ?_
          refine V.topi (x' := (nh + nm) % 4294967296) ((iZ_mod _).symm) ?_
          refine v_istore E dJ26_divideMagnitude_497 (zlt hL rfl) (lv' := [(17, vi ((nh + nm) % 4294967296)), (16, vi 4294967295), (21, vi nm), (20, vi (nh + (-2147483648))), (19, vi nh), (18, vi 0), (15, vi (j : Int)), (0, .ref a), (2, .ref c), (3, vi z3), (4, vi sh), (5, vi (m : Int)), (6, .ref d), (7, .ref r), (9, vi (lim : Int)), (10, .ref qa), (11, vi dh), (12, vj dh), (14, vi dl)]) rfl ?_
          refine v_iload E 0 rfl dJ26_divideMagnitude_499 ?_
          refine v_ldc E q1223 dJ26_divideMagnitude_501 ?_
          refine V.eq (st' := vi (-2147483648) :: _) rfl ?_
          refine v_iadd E dJ26_divideMagnitude_503 ?_
          refine v_iload E 3 rfl dJ26_divideMagnitude_504 ?_
          refine v_icmp_ge E (tgt := 513) dJ26_divideMagnitude_506 (by decide) ⟨by omega, by omega⟩ ⟨by omega, by omega⟩ (fun c_506 => ?_) (fun c_506 => ?_)
          · refine v_iconst E dJ26_divideMagnitude_513 ?_
            refine v_istore E dJ26_divideMagnitude_514 (zlt hL rfl) (lv' := [(18, vi 0), (17, vi ((nh + nm) % 4294967296)), (16, vi 4294967295), (21, vi nm), (20, vi (nh + (-2147483648))), (19, vi nh), (15, vi (j : Int)), (0, .ref a), (2, .ref c), (3, vi z3), (4, vi sh), (5, vi (m : Int)), (6, .ref d), (7, .ref r), (9, vi (lim : Int)), (10, .ref qa), (11, vi dh), (12, vj dh), (14, vi dl)]) rfl ?_
            refine v_goto E (tgt := 591) dJ26_divideMagnitude_516 (by decide) ?_
            refine V.sub [2, 1, 0, 5, 4, 6, 7, 8, 9, 10, 11, 12, 13, 14, 15, 16, 17, 18] (lv' := [(16, vi 4294967295), (17, vi ((nh + nm) % 4294967296)), (18, vi 0), (19, vi nh), (20, vi (nh + (-2147483648))), (15, vi (j : Int)), (0, .ref a), (2, .ref c), (3, vi z3), (4, vi sh), (5, vi (m : Int)), (6, .ref d), (7, .ref r), (9, vi (lim : Int)), (10, .ref qa), (11, vi dh), (12, vj dh), (14, vi dl)]) rfl ?_
            exact join_591 H 4294967295 (nh + nm) 0 (kn_2 hD hKW hW1 (by omega)) (Or.inl ⟨rfl, by omega⟩) hoa hr hw hd hqa hcq
          · refine v_iconst E dJ26_divideMagnitude_509 ?_
            refine v_goto E (tgt := 514) dJ26_divideMagnitude_510 (by decide) ?_
            refine v_istore E dJ26_divideMagnitude_514 (zlt hL rfl) (lv' := [(18, vi 1), (17, vi ((nh + nm) % 4294967296)), (16, vi 4294967295), (21, vi nm), (20, vi (nh + (-2147483648))), (19, vi nh), (15, vi (j : Int)), (0, .ref a), (2, .ref c), (3, vi z3), (4, vi sh), (5, vi (m : Int)), (6, .ref d), (7, .ref r), (9, vi (lim : Int)), (10, .ref qa), (11, vi dh), (12, vj dh), (14, vi dl)]) rfl ?_
            refine v_goto E (tgt := 591) dJ26_divideMagnitude_516 (by decide) ?_
            refine V.sub [2, 1, 0, 5, 4, 6, 7, 8, 9, 10, 11, 12, 13, 14, 15, 16, 17, 18] (lv' := [(16, vi 4294967295), (17, vi ((nh + nm) % 4294967296)), (18, vi 1), (19, vi nh), (20, vi (nh + (-2147483648))), (15, vi (j : Int)), (0, .ref a), (2, .ref c), (3, vi z3), (4, vi sh), (5, vi (m : Int)), (6, .ref d), (7, .ref r), (9, vi (lim : Int)), (10, .ref qa), (11, vi dh), (12, vj dh), (14, vi dl)]) rfl ?_
            exact join_591 H 4294967295 (nh + nm) 1 (kn_2 hD hKW hW1 (by omega)) (Or.inr ⟨rfl, by omega⟩) hoa hr hw hd hqa hcq
  exact loop_423 (lim + 1) H 0 f fq Tv (by omega) (by omega) hT hf (fun i hi => absurd hi (by omega)) (fun i hi => hfz i) hoa hr hw hd hqa hcq
