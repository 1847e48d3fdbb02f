set_option maxHeartbeats 4000000 in
set_option maxRecDepth 100000 in
/-- the last step of Knuth's division -/
theorem h_dmE {κ : zK} {z : zT} (E : zOK z cJ26_divideMagnitude RJ26 κ 3 96 (some (.object "java/math/MutableBigInteger"))) (hL : z.nL = 28) {H : Heap} {cb sb : Nat} {a c d r w qa v n o m L lim wc qc : Nat} {z3 sh dh dl D R : Int} {f fq : Nat → Int} {Tv : Int} (hz3 : rI z3) (hD : knD D m dh dl) (hDm : D < 2 ^ (32 * m)) (hR : 0 ≤ R) (hL9 : L = lim + m) (hlim : 1 ≤ lim) (hLw : L ≤ wc) (hwc : wc ≤ 1000) (hlq : lim ≤ qc) (hqc : qc ≤ 1000) (hne_w_r : w ≠ r) (hne_d_r : d ≠ r) (hne_qa_r : qa ≠ r) (hne_d_w : d ≠ w) (hne_qa_w : qa ≠ w) (hne_qa_d : qa ≠ d) (hne_w_a : w ≠ a) (hne_qa_a : qa ≠ a) (hne_w_c : w ≠ c) (hne_qa_c : qa ≠ c) (K : ∀ (H : Heap) (f fq : Nat → Int), (∀ i, i < lim → fq i = bM (R / D) lim i) → (z3 ≠ 0 → ∀ i, i < L → f i = bM (R % D) L i) → hp κ H a (.inr (9, [.ref v, vi (n : Int), vi (o : Int)])) → hp κ H r (.inr (9, [.ref w, vi (L : Int), vi 0])) → hp κ H w (eI κ wc f) → hp κ H d (eI κ m (bM D m)) → hp κ H qa (eI κ qc fq) → hp κ H c (.inr (9, [.ref qa, vi (lim : Int), vi 0])) → V z H cb sb 1261 [(0, .ref a), (2, .ref c), (3, vi z3), (4, vi sh), (5, vi (m : Int)), (6, .ref d), (7, .ref r), (9, vi (lim : Int)), (10, .ref qa), (11, vi dh), (12, vj dh), (14, vi dl)] []) (hAll : ∀ q, (fun x => x = w ∨ x = qa) q → zA z.A z.H0 q) (hTs : Tv = R % (D * 2 ^ (32 * 1))) (hf : ∀ i, i < L → f i = bM Tv L i) (hfqs : ∀ i, i < lim - 1 → fq i = bM (R / D) lim i) (hfzs : ∀ i, lim - 1 ≤ i → fq i = 0) (hoa : hp κ H a (.inr (9, [.ref v, vi (n : Int), vi (o : Int)]))) (hr : hp κ H r (.inr (9, [.ref w, vi (L : Int), vi 0]))) (hw : hp κ H w (eI κ wc f)) (hd : hp κ H d (eI κ m (bM D m))) (hqa : hp κ H qa (eI κ qc fq)) (hcq : hp κ H c (.inr (9, [.ref qa, vi (lim : Int), vi 0]))) : V z H cb sb 828 [(0, .ref a), (2, .ref c), (3, vi z3), (4, vi sh), (5, vi (m : Int)), (6, .ref d), (7, .ref r), (9, vi (lim : Int)), (10, .ref qa), (11, vi dh), (12, vj dh), (14, vi dl)] [] := by
  have hdl0 := hD.2.2.2.2.1
  have hdl1 := hD.2.2.2.2.2.1
  have hdh1 := hD.2.2.2.1
  have hdh2 := hD.2.2.1
  have hDm2 := hD.1
  obtain ⟨j, hjl⟩ : ∃ j, j + 1 = lim := ⟨lim - 1, by omega⟩
  have hj : j + 1 ≤ lim := by omega
  have hT : Tv = R % (D * 2 ^ (32 * (lim - j))) := by rw [show lim - j = 1 by omega]; exact hTs
  have hfq : ∀ i, i < j → fq i = bM (R / D) lim i := fun i hi => hfqs i (by omega)
  have hfz : ∀ i, j ≤ i → fq i = 0 := fun i hi => hfzs i (by omega)
  obtain ⟨s9, hs9⟩ : ∃ s9, s9 = lim - 1 - j := ⟨_, rfl⟩
  have hLs : L = j + 1 + m + s9 := by omega
  have hDp := kn_pos hD
  have hT' : Tv = R % (D * 2 ^ (32 * (s9 + 1))) := by rw [hT, show lim - j = s9 + 1 by omega]
  have hDP1 : 0 < D * 2 ^ (32 * (s9 + 1)) := Int.mul_pos hDp (p2 _)
  have hT0 : 0 ≤ Tv := by rw [hT']; exact Int.emod_nonneg _ (Int.ne_of_gt hDP1)
  have hT1 : Tv < D * 2 ^ (32 * (s9 + 1)) := by rw [hT']; exact Int.emod_lt_of_pos _ hDP1
  have hst := kn_state hLs hD.1 ⟨hDp, hDm⟩ hT0 hT1
  have hnx := kn_next hDp hT' hR
  obtain ⟨W, hWe⟩ : ∃ W, W = Tv / 2 ^ (32 * s9) := ⟨_, rfl⟩
  change (Tv / 2 ^ (32 * s9) - Tv / 2 ^ (32 * s9) / D * D) * 2 ^ (32 * s9) + Tv % 2 ^ (32 * s9) = _ ∧ Tv / 2 ^ (32 * s9) / D = _ ∧ 0 ≤ Tv / 2 ^ (32 * s9) - Tv / 2 ^ (32 * s9) / D * D ∧ Tv / 2 ^ (32 * s9) - Tv / 2 ^ (32 * s9) / D * D < D at hnx
  rw [← hWe] at hst hnx
  obtain ⟨hKW, hW0, hW1, hTl, hnhW, hwin⟩ := hst
  have hf0 := hf j (by omega)
  have hf1 := hf (j + 1) (by omega)
  have hf2 := hf (j + 2) (by omega)
  obtain ⟨nh, hnh⟩ : ∃ nh, nh = bM Tv L j := ⟨_, rfl⟩
  obtain ⟨nm, hnm⟩ : ∃ nm, nm = bM Tv L (j + 1) := ⟨_, rfl⟩
  obtain ⟨nl, hnl⟩ : ∃ nl, nl = bM Tv L (j + 2) := ⟨_, rfl⟩
  rw [← hnh, ← hnm, ← hnl] at hKW
  rw [← hnh] at hf0 hnhW
  rw [← hnm] at hf1
  rw [← hnl] at hf2
  have hnh0 := hKW.1
  have hnh1 := hKW.2.1
  have hnm0 := hKW.2.2.1
  have hnm1 := hKW.2.2.2.1
  have hnl0 := hKW.2.2.2.2.1
  have hnl1 := hKW.2.2.2.2.2.1
  have hnhd : nh ≤ dh := kn_top hD hKW hW1
  have hRD : R % (D * 2 ^ (32 * s9)) = R % D := by rw [show s9 = 0 by omega]; show R % (D * 1) = _; rw [Int.mul_one]
  have join_1133 : ∀ (H : Heap) (qh : Int), (W / D ≤ qh) → (qh ≤ W / D + 1) → (0 ≤ qh ∧ qh < 4294967296) → hp κ H a (.inr (9, [.ref v, vi (n : Int), vi (o : Int)])) → hp κ H r (.inr (9, [.ref w, vi (L : Int), vi 0])) → hp κ H w (eI κ wc f) → hp κ H d (eI κ m (bM D m)) → hp κ H qa (eI κ qc fq) → hp κ H c (.inr (9, [.ref qa, vi (lim : Int), vi 0])) → V z H cb sb 1133 [(15, vi qh), (18, vi nh), (19, vi (nh + (-2147483648))), (0, .ref a), (2, .ref c), (3, vi z3), (4, vi sh), (5, vi (m : Int)), (6, .ref d), (7, .ref r), (9, vi (lim : Int)), (10, .ref qa), (11, vi dh), (12, vj dh), (14, vi dl)] [] := by
    intro H qh hq1 hq2 hq3 hoa hr hw hd hqa hcq
    refine v_aload E 9 rfl dJ26_divideMagnitude_1133 ?_
    refine v_getf E in_J26 hr (ci := 9) rfl 0 (by decide) q1172 rfl (v := .ref w) rfl dJ26_divideMagnitude_1135 ?_
    refine v_iload E 10 rfl dJ26_divideMagnitude_1138 ?_
    refine v_iconst E dJ26_divideMagnitude_1140 ?_
    refine v_isub E dJ26_divideMagnitude_1141 ?_
    refine v_aload E 9 rfl dJ26_divideMagnitude_1142 ?_
    refine v_getf E in_J26 hr (ci := 9) rfl 2 (by decide) q1174 rfl (v := vi 0) rfl dJ26_divideMagnitude_1144 ?_
    refine v_iadd E dJ26_divideMagnitude_1147 ?_
    refine v_iconst E dJ26_divideMagnitude_1148 ?_
    refine v_iast E dJ26_divideMagnitude_1149 hw j (by omega) (by omega) (by omega) (hAll _ (Or.inl rfl)) (fun H_3 hw_1 hs_2 => ?_)
    have hoa_4 := hoa.same hs_2 (Ne.symm hne_w_a)
    have hr_5 := hr.same hs_2 (Ne.symm hne_w_r)
    have hd_6 := hd.same hs_2 hne_d_w
    have hqa_7 := hqa.same hs_2 hne_qa_w
    have hcq_8 := hcq.same hs_2 (Ne.symm hne_w_c)
    refine v_iload_n E 5 rfl dJ26_divideMagnitude_1150 ?_
    refine v_if_eq E (tgt := 1184) dJ26_divideMagnitude_1151 (by decide) hz3 (fun c_1151 => ?_) (fun c_1151 => ?_)
    · refine v_aload_n E 3 rfl dJ26_divideMagnitude_1184 ?_
      refine v_aload E 9 rfl dJ26_divideMagnitude_1185 ?_
      refine v_getf E in_J26 hr_5 (ci := 9) rfl 0 (by decide) q1172 rfl (v := .ref w) rfl dJ26_divideMagnitude_1187 ?_
      refine v_aload E 8 rfl dJ26_divideMagnitude_1190 ?_
      refine v_iload E 0 rfl dJ26_divideMagnitude_1192 ?_
      refine v_iload E 7 rfl dJ26_divideMagnitude_1194 ?_
      refine v_iload E 10 rfl dJ26_divideMagnitude_1196 ?_
      refine v_iconst E dJ26_divideMagnitude_1198 ?_
      refine v_isub E dJ26_divideMagnitude_1199 ?_
      refine v_aload E 9 rfl dJ26_divideMagnitude_1200 ?_
      refine v_getf E in_J26 hr_5 (ci := 9) rfl 2 (by decide) q1174 rfl (v := vi 0) rfl dJ26_divideMagnitude_1202 ?_
      refine v_iadd E dJ26_divideMagnitude_1205 ?_
      refine V.topi (x' := ((j + 1 : Nat) : Int) - 1) (congrArg iZ (by omega)) ?_
      have hu0 : va_up f j 0 j = 0 := va_up_self _ _ _
      have hwin0 : ∀ i, i < m → va_up f j 0 (j + 1 + i) = bM (W % 2 ^ (32 * m)) m i := fun i hi => by rw [va_up_ne _ _ (by omega), hf _ (by omega)]; exact hwin i hi
      have h5 := kn_5 ⟨hDp, hDm⟩ hW0 hq1 hq2
      change (qh = W / D ∧ - mb (W % 2 ^ (32 * m)) qh D m = W / 2 ^ (32 * m)) ∨ (qh = W / D + 1 ∧ - mb (W % 2 ^ (32 * m)) qh D m = W / 2 ^ (32 * m) + 1) at h5
      rw [← hnhW] at h5
      have hmbi := mb_in (W := W % 2 ^ (32 * m)) (x := qh) (D := D) m hq3.1
      refine v_callV E (As := [.ref w, .ref d, vi qh, vi (m : Int), vi (((j + 1 : Nat) : Int) - 1)]) (b := a) (ci := 9) (C := RJ26) (T := TJ26) (N := 3) hoa_4 rfl (h_msB κ H_3 (o := j + 1) (W := W % 2 ^ (32 * m)) (D := D) hq3 (by omega) (by omega) hwc hne_d_w hwin0 hw_1 hd_6) (lw_V q1308 q1310 qs28 q101 q1311) 5 (by decide +kernel) rfl (by decide) (by decide) (cb' := cb) (sb' := sb) (Nat.le_refl _) (Nat.le_refl _) rfl (rest := []) (Nat.le_of_ble_eq_true rfl) (fun q h => h.elim) dJ26_divideMagnitude_1206 (fun v_9 H_10 hpost_11 hz_12 hk_13 => ?_)
      clear hz_12
      obtain rfl := hpost_11
      have hz_14 := hoa_4.kept (hk_13 _ hoa_4.lt (fun h => h))
      have hz_15 := hr_5.kept (hk_13 _ hr_5.lt (fun h => h))
      have hz_16 := hw_1.kept (hk_13 _ hw_1.lt (fun h => h))
      have hz_17 := hd_6.kept (hk_13 _ hd_6.lt (fun h => h))
      have hz_18 := hqa_7.kept (hk_13 _ hqa_7.lt (fun h => h))
      have hz_19 := hcq_8.kept (hk_13 _ hcq_8.lt (fun h => h))
      obtain ⟨cbr, hcbr⟩ : ∃ cbr, cbr = - mb (W % 2 ^ (32 * m)) qh D m := ⟨_, rfl⟩
      rw [← hcbr] at h5 ⊢
      have hcr : 0 ≤ cbr ∧ cbr < 4294967296 := ⟨by omega, by omega⟩
      refine V.eq (st' := [vi cbr]) rfl ?_
      refine v_istore E dJ26_divideMagnitude_1209 (zlt hL rfl) (lv' := [(21, vi cbr), (15, vi qh), (18, vi nh), (19, vi (nh + (-2147483648))), (0, .ref a), (2, .ref c), (3, vi z3), (4, vi sh), (5, vi (m : Int)), (6, .ref d), (7, .ref r), (9, vi (lim : Int)), (10, .ref qa), (11, vi dh), (12, vj dh), (14, vi dl)]) rfl ?_
      refine v_iload E 0 rfl dJ26_divideMagnitude_1211 ?_
      refine v_ldc E q1223 dJ26_divideMagnitude_1213 ?_
      refine V.eq (st' := vi (-2147483648) :: _) rfl ?_
      refine v_iadd E dJ26_divideMagnitude_1215 ?_
      refine v_iload E 3 rfl dJ26_divideMagnitude_1216 ?_
      refine v_icmp_le E (tgt := 1252) dJ26_divideMagnitude_1218 (by decide) ⟨by omega, by omega⟩ ⟨by omega, by omega⟩ (fun c_1218 => ?_) (fun c_1218 => ?_)
      · refine v_aload E 12 rfl dJ26_divideMagnitude_1252 ?_
        refine v_iload E 11 rfl dJ26_divideMagnitude_1254 ?_
        refine v_iconst E dJ26_divideMagnitude_1256 ?_
        refine v_isub E dJ26_divideMagnitude_1257 ?_
        refine v_iload E 1 rfl dJ26_divideMagnitude_1258 ?_
        refine V.topi (x' := dg (R / D) (lim - 1 - j)) (congrArg iZ (by rw [← hs9, ← hnx.2.1]; omega)) ?_
        have hqn := fq_s (n := lim) hfq
        refine v_iast E dJ26_divideMagnitude_1260 hz_18 j (by omega) (by omega) (by omega) (hAll _ (Or.inr rfl)) (fun H_22 hz_20 hs_21 => ?_)
        have hz_23 := hz_14.same hs_21 (Ne.symm hne_qa_a)
        have hz_24 := hz_15.same hs_21 (Ne.symm hne_qa_r)
        have hz_25 := hz_16.same hs_21 (Ne.symm hne_qa_w)
        have hz_26 := hz_17.same hs_21 (Ne.symm hne_qa_d)
        have hz_27 := hz_19.same hs_21 (Ne.symm hne_qa_c)
        refine V.sub [4, 5, 6, 7, 8, 9, 10, 11, 12, 13, 14, 15] (lv' := [(0, .ref a), (2, .ref c), (3, vi z3), (4, vi sh), (5, vi (m : Int)), (6, .ref d), (7, .ref r), (9, vi (lim : Int)), (10, .ref qa), (11, vi dh), (12, vj dh), (14, vi dl)]) rfl ?_
        exact K _ (va_up f j 0) (va_up fq j (dg (R / D) (lim - 1 - j))) (fun i hi => hqn i (by omega)) (fun hz => absurd (by omega) hz) hz_23 hz_24 hz_25 hz_26 hz_20 hz_27
      · refine v_iload_n E 6 rfl dJ26_divideMagnitude_1221 ?_
        refine v_if_eq E (tgt := 1249) dJ26_divideMagnitude_1222 (by decide) hz3 (fun c_1222 => ?_) (fun c_1222 => absurd c_1222 (by omega))
        refine v_iinc E 1 rfl dJ26_divideMagnitude_1249 (zlt hL rfl) (lv' := [(15, vi (qh + (-1))), (21, vi cbr), (18, vi nh), (19, vi (nh + (-2147483648))), (0, .ref a), (2, .ref c), (3, vi z3), (4, vi sh), (5, vi (m : Int)), (6, .ref d), (7, .ref r), (9, vi (lim : Int)), (10, .ref qa), (11, vi dh), (12, vj dh), (14, vi dl)]) rfl ?_
        refine v_aload E 12 rfl dJ26_divideMagnitude_1252 ?_
        refine v_iload E 11 rfl dJ26_divideMagnitude_1254 ?_
        refine v_iconst E dJ26_divideMagnitude_1256 ?_
        refine v_isub E dJ26_divideMagnitude_1257 ?_
        refine v_iload E 0 rfl dJ26_divideMagnitude_1258 ?_
        refine V.topi (x' := dg (R / D) (lim - 1 - j)) (congrArg iZ (by rw [← hs9, ← hnx.2.1]; omega)) ?_
        have hqn := fq_s (n := lim) hfq
        refine v_iast E dJ26_divideMagnitude_1260 hz_18 j (by omega) (by omega) (by omega) (hAll _ (Or.inr rfl)) (fun H_30 hz_28 hs_29 => ?_)
        have hz_31 := hz_14.same hs_29 (Ne.symm hne_qa_a)
        have hz_32 := hz_15.same hs_29 (Ne.symm hne_qa_r)
        have hz_33 := hz_16.same hs_29 (Ne.symm hne_qa_w)
        have hz_34 := hz_17.same hs_29 (Ne.symm hne_qa_d)
        have hz_35 := hz_19.same hs_29 (Ne.symm hne_qa_c)
        refine V.sub [4, 5, 6, 7, 8, 9, 10, 11, 12, 13, 14, 15] (lv' := [(0, .ref a), (2, .ref c), (3, vi z3), (4, vi sh), (5, vi (m : Int)), (6, .ref d), (7, .ref r), (9, vi (lim : Int)), (10, .ref qa), (11, vi dh), (12, vj dh), (14, vi dl)]) rfl ?_
        exact K _ (va_up f j 0) (va_up fq j (dg (R / D) (lim - 1 - j))) (fun i hi => hqn i (by omega)) (fun hz => absurd (by omega) hz) hz_31 hz_32 hz_33 hz_34 hz_28 hz_35
    · refine v_aload_n E 3 rfl dJ26_divideMagnitude_1154 ?_
      refine v_aload E 9 rfl dJ26_divideMagnitude_1155 ?_
      refine v_getf E in_J26 hr_5 (ci := 9) rfl 0 (by decide) q1172 rfl (v := .ref w) rfl dJ26_divideMagnitude_1157 ?_
      refine v_aload E 8 rfl dJ26_divideMagnitude_1160 ?_
      refine v_iload E 0 rfl dJ26_divideMagnitude_1162 ?_
      refine v_iload E 7 rfl dJ26_divideMagnitude_1164 ?_
      refine v_iload E 10 rfl dJ26_divideMagnitude_1166 ?_
      refine v_iconst E dJ26_divideMagnitude_1168 ?_
      refine v_isub E dJ26_divideMagnitude_1169 ?_
      refine v_aload E 9 rfl dJ26_divideMagnitude_1170 ?_
      refine v_getf E in_J26 hr_5 (ci := 9) rfl 2 (by decide) q1174 rfl (v := vi 0) rfl dJ26_divideMagnitude_1172 ?_
      refine v_iadd E dJ26_divideMagnitude_1175 ?_
      refine V.topi (x' := ((j + 1 : Nat) : Int) - 1) (congrArg iZ (by omega)) ?_
      have hu0 : va_up f j 0 j = 0 := va_up_self _ _ _
      have hwin0 : ∀ i, i < m → va_up f j 0 (j + 1 + i) = bM (W % 2 ^ (32 * m)) m i := fun i hi => by rw [va_up_ne _ _ (by omega), hf _ (by omega)]; exact hwin i hi
      have h5 := kn_5 ⟨hDp, hDm⟩ hW0 hq1 hq2
      change (qh = W / D ∧ - mb (W % 2 ^ (32 * m)) qh D m = W / 2 ^ (32 * m)) ∨ (qh = W / D + 1 ∧ - mb (W % 2 ^ (32 * m)) qh D m = W / 2 ^ (32 * m) + 1) at h5
      rw [← hnhW] at h5
      have hmbi := mb_in (W := W % 2 ^ (32 * m)) (x := qh) (D := D) m hq3.1
      refine v_callV E (As := [.ref w, .ref d, vi qh, vi (m : Int), vi (((j + 1 : Nat) : Int) - 1)]) (b := a) (ci := 9) (C := RJ26) (T := TJ26) (N := 3) hoa_4 rfl (h_ms κ H_3 (o := j + 1) (W := W % 2 ^ (32 * m)) (D := D) hq3 (by omega) (by omega) hwc hne_d_w hwin0 hw_1 hd_6) (lw_V q1300 q1302 qs26 q101 q1303) 5 (by decide +kernel) rfl (by decide) (by decide) (cb' := cb) (sb' := sb) (Nat.le_refl _) (Nat.le_refl _) rfl (rest := []) (Nat.le_of_ble_eq_true rfl) (fun q h => hAll q (Or.inl h)) dJ26_divideMagnitude_1176 (fun v_36 H_37 hpost_38 hz_39 hk_40 => ?_)
      clear hz_39
      obtain ⟨f5, rfl, hw5, hwin5, hout5⟩ := hpost_38
      have hz_41 := hoa_4.kept (hk_40 _ hoa_4.lt (fun h => (Ne.symm hne_w_a) h))
      have hz_42 := hr_5.kept (hk_40 _ hr_5.lt (fun h => (Ne.symm hne_w_r) h))
      have hz_43 := hd_6.kept (hk_40 _ hd_6.lt (fun h => hne_d_w h))
      have hz_44 := hqa_7.kept (hk_40 _ hqa_7.lt (fun h => hne_qa_w h))
      have hz_45 := hcq_8.kept (hk_40 _ hcq_8.lt (fun h => (Ne.symm hne_w_c) h))
      obtain ⟨cbr, hcbr⟩ : ∃ cbr, cbr = - mb (W % 2 ^ (32 * m)) qh D m := ⟨_, rfl⟩
      rw [← hcbr] at h5 ⊢
      have hcr : 0 ≤ cbr ∧ cbr < 4294967296 := ⟨by omega, by omega⟩
      refine V.eq (st' := [vi cbr]) rfl ?_
      refine v_istore E dJ26_divideMagnitude_1179 (zlt hL rfl) (lv' := [(21, vi cbr), (15, vi qh), (18, vi nh), (19, vi (nh + (-2147483648))), (0, .ref a), (2, .ref c), (3, vi z3), (4, vi sh), (5, vi (m : Int)), (6, .ref d), (7, .ref r), (9, vi (lim : Int)), (10, .ref qa), (11, vi dh), (12, vj dh), (14, vi dl)]) rfl ?_
      refine v_goto E (tgt := 1211) dJ26_divideMagnitude_1181 (by decide) ?_
      refine v_iload E 0 rfl dJ26_divideMagnitude_1211 ?_
      refine v_ldc E q1223 dJ26_divideMagnitude_1213 ?_
      refine V.eq (st' := vi (-2147483648) :: _) rfl ?_
      refine v_iadd E dJ26_divideMagnitude_1215 ?_
      refine v_iload E 3 rfl dJ26_divideMagnitude_1216 ?_
      refine v_icmp_le E (tgt := 1252) dJ26_divideMagnitude_1218 (by decide) ⟨by omega, by omega⟩ ⟨by omega, by omega⟩ (fun c_1218 => ?_) (fun c_1218 => ?_)
      · refine v_aload E 12 rfl dJ26_divideMagnitude_1252 ?_
        refine v_iload E 11 rfl dJ26_divideMagnitude_1254 ?_
        refine v_iconst E dJ26_divideMagnitude_1256 ?_
        refine v_isub E dJ26_divideMagnitude_1257 ?_
        refine v_iload E 1 rfl dJ26_divideMagnitude_1258 ?_
        have eqh : qh = W / D := by omega
        have hwn : ∀ i, i < m → f5 (j + 1 + i) = bM (W - W / D * D) m i := fun i hi => by
          rw [hwin5 i hi, eqh]
          unfold bM
          exact dg_mod_sub (by omega)
        have hon : ∀ i, i < j ∨ j + 1 + m ≤ i → f5 i = f i := fun i hi => by rw [hout5 i (by omega), va_up_ne _ _ (by omega)]
        have hzn0 : f5 j = 0 := by rw [hout5 j (by omega)]; exact hu0
        refine V.topi (x' := dg (R / D) (lim - 1 - j)) (congrArg iZ (by rw [← hs9, ← hnx.2.1]; omega)) ?_
        have hfn := kn_win (f1 := f5) (T := Tv) (W := W) (R := W - W / D * D) hLs hf hWe hTl hT0 ⟨hnx.2.2.1, by omega⟩ hzn0 hwn hon
        rw [hnx.1, hRD] at hfn
        have hqn := fq_s (n := lim) hfq
        refine v_iast E dJ26_divideMagnitude_1260 hz_44 j (by omega) (by omega) (by omega) (hAll _ (Or.inr rfl)) (fun H_48 hz_46 hs_47 => ?_)
        have hz_49 := hz_41.same hs_47 (Ne.symm hne_qa_a)
        have hz_50 := hz_42.same hs_47 (Ne.symm hne_qa_r)
        have hw5_51 := hw5.same hs_47 (Ne.symm hne_qa_w)
        have hz_52 := hz_43.same hs_47 (Ne.symm hne_qa_d)
        have hz_53 := hz_45.same hs_47 (Ne.symm hne_qa_c)
        refine V.sub [4, 5, 6, 7, 8, 9, 10, 11, 12, 13, 14, 15] (lv' := [(0, .ref a), (2, .ref c), (3, vi z3), (4, vi sh), (5, vi (m : Int)), (6, .ref d), (7, .ref r), (9, vi (lim : Int)), (10, .ref qa), (11, vi dh), (12, vj dh), (14, vi dl)]) rfl ?_
        exact K _ f5 (va_up fq j (dg (R / D) (lim - 1 - j))) (fun i hi => hqn i (by omega)) (fun hz => hfn) hz_49 hz_50 hw5_51 hz_52 hz_46 hz_53
      · refine v_iload_n E 6 rfl dJ26_divideMagnitude_1221 ?_
        refine v_if_eq E (tgt := 1249) dJ26_divideMagnitude_1222 (by decide) hz3 (fun c_1222 => absurd c_1222 (by omega)) (fun c_1222 => ?_)
        refine v_aload_n E 4 rfl dJ26_divideMagnitude_1225 ?_
        refine v_aload E 9 rfl dJ26_divideMagnitude_1226 ?_
        refine v_aload E 10 rfl dJ26_divideMagnitude_1228 ?_
        refine v_getf E in_J26 hz_42 (ci := 9) rfl 0 (by decide) q1172 rfl (v := .ref w) rfl dJ26_divideMagnitude_1230 ?_
        refine v_iload E 11 rfl dJ26_divideMagnitude_1233 ?_
        refine v_iconst E dJ26_divideMagnitude_1235 ?_
        refine v_isub E dJ26_divideMagnitude_1236 ?_
        refine v_iconst E dJ26_divideMagnitude_1237 ?_
        refine v_iadd E dJ26_divideMagnitude_1238 ?_
        refine v_aload E 10 rfl dJ26_divideMagnitude_1239 ?_
        refine v_getf E in_J26 hz_42 (ci := 9) rfl 2 (by decide) q1174 rfl (v := vi 0) rfl dJ26_divideMagnitude_1241 ?_
        refine v_iadd E dJ26_divideMagnitude_1244 ?_
        refine V.topi (x' := ((j + 1 : Nat) : Int)) (congrArg iZ (by omega)) ?_
        refine v_callV E (As := [.ref d, .ref w, vi ((j + 1 : Nat) : Int)]) (b := a) (ci := 9) (C := RJ26) (T := TJ26) (N := 3) hz_41 rfl (h_da κ H_37 (o := j + 1) (W := W % 2 ^ (32 * m) - qh * D) (D := D) (by omega) hwc hne_d_w hwin5 hw5 hz_43) (lw_V q1304 q1306 qs27 q101 q1307) 3 (by decide +kernel) rfl (by decide) (by decide) (cb' := cb) (sb' := sb) (Nat.le_refl _) (Nat.le_refl _) rfl (rest := []) (Nat.le_of_ble_eq_true rfl) (fun q h => hAll q (Or.inl h)) dJ26_divideMagnitude_1245 (fun v_54 H_55 hpost_56 hz_57 hk_58 => ?_)
        clear hz_57
        obtain ⟨f6, c6, rfl, hw6, hwin6, hout6⟩ := hpost_56
        have hz_59 := hz_41.kept (hk_58 _ hz_41.lt (fun h => (Ne.symm hne_w_a) h))
        have hz_60 := hz_42.kept (hk_58 _ hz_42.lt (fun h => (Ne.symm hne_w_r) h))
        have hz_61 := hz_43.kept (hk_58 _ hz_43.lt (fun h => hne_d_w h))
        have hz_62 := hz_44.kept (hk_58 _ hz_44.lt (fun h => hne_qa_w h))
        have hz_63 := hz_45.kept (hk_58 _ hz_45.lt (fun h => (Ne.symm hne_w_c) h))
        refine V.eq (st' := [vi c6]) rfl ?_
        refine v_pop E rfl dJ26_divideMagnitude_1248 ?_
        refine v_iinc E 1 rfl dJ26_divideMagnitude_1249 (zlt hL rfl) (lv' := [(15, vi (qh + (-1))), (21, vi cbr), (18, vi nh), (19, vi (nh + (-2147483648))), (0, .ref a), (2, .ref c), (3, vi z3), (4, vi sh), (5, vi (m : Int)), (6, .ref d), (7, .ref r), (9, vi (lim : Int)), (10, .ref qa), (11, vi dh), (12, vj dh), (14, vi dl)]) rfl ?_
        refine v_aload E 12 rfl dJ26_divideMagnitude_1252 ?_
        refine v_iload E 11 rfl dJ26_divideMagnitude_1254 ?_
        refine v_iconst E dJ26_divideMagnitude_1256 ?_
        refine v_isub E dJ26_divideMagnitude_1257 ?_
        refine v_iload E 0 rfl dJ26_divideMagnitude_1258 ?_
        have eqh : qh = W / D + 1 := by omega
        have hwn : ∀ i, i < m → f6 (j + 1 + i) = bM (W - W / D * D) m i := fun i hi => by
          rw [hwin6 i hi]
          unfold bM
          rw [show W % 2 ^ (32 * m) - qh * D + D = W % 2 ^ (32 * m) - W / D * D by rw [eqh]; grind]
          exact dg_mod_sub (by omega)
        have hon : ∀ i, i < j ∨ j + 1 + m ≤ i → f6 i = f i := fun i hi => by rw [hout6 i (by omega), hout5 i (by omega), va_up_ne _ _ (by omega)]
        have hzn0 : f6 j = 0 := by rw [hout6 j (by omega), hout5 j (by omega)]; exact hu0
        refine V.topi (x' := dg (R / D) (lim - 1 - j)) (congrArg iZ (by rw [← hs9, ← hnx.2.1]; omega)) ?_
        have hfn := kn_win (f1 := f6) (T := Tv) (W := W) (R := W - W / D * D) hLs hf hWe hTl hT0 ⟨hnx.2.2.1, by omega⟩ hzn0 hwn hon
        rw [hnx.1, hRD] at hfn
        have hqn := fq_s (n := lim) hfq
        refine v_iast E dJ26_divideMagnitude_1260 hz_62 j (by omega) (by omega) (by omega) (hAll _ (Or.inr rfl)) (fun H_66 hz_64 hs_65 => ?_)
        have hz_67 := hz_59.same hs_65 (Ne.symm hne_qa_a)
        have hz_68 := hz_60.same hs_65 (Ne.symm hne_qa_r)
        have hw6_69 := hw6.same hs_65 (Ne.symm hne_qa_w)
        have hz_70 := hz_61.same hs_65 (Ne.symm hne_qa_d)
        have hz_71 := hz_63.same hs_65 (Ne.symm hne_qa_c)
        refine V.sub [4, 5, 6, 7, 8, 9, 10, 11, 12, 13, 14, 15] (lv' := [(0, .ref a), (2, .ref c), (3, vi z3), (4, vi sh), (5, vi (m : Int)), (6, .ref d), (7, .ref r), (9, vi (lim : Int)), (10, .ref qa), (11, vi dh), (12, vj dh), (14, vi dl)]) rfl ?_
        exact K _ f6 (va_up fq j (dg (R / D) (lim - 1 - j))) (fun i hi => hqn i (by omega)) (fun hz => hfn) hz_67 hz_68 hw6_69 hz_70 hz_64 hz_71
  have join_987 : ∀ (H : Heap) (qh qr : Int) (sk : Int), (knQ W D dh nh nm qh qr) → ((sk = 0 ∧ qr < 4294967296) ∨ (sk = 1 ∧ 4294967296 ≤ qr)) → hp κ H a (.inr (9, [.ref v, vi (n : Int), vi (o : Int)])) → hp κ H r (.inr (9, [.ref w, vi (L : Int), vi 0])) → hp κ H w (eI κ wc f) → hp κ H d (eI κ m (bM D m)) → hp κ H qa (eI κ qc fq) → hp κ H c (.inr (9, [.ref qa, vi (lim : Int), vi 0])) → V z H cb sb 987 [(15, vi qh), (16, vi (qr % 4294967296)), (17, vi sk), (18, vi nh), (19, vi (nh + (-2147483648))), (0, .ref a), (2, .ref c), (3, vi z3), (4, vi sh), (5, vi (m : Int)), (6, .ref d), (7, .ref r), (9, vi (lim : Int)), (10, .ref qa), (11, vi dh), (12, vj dh), (14, vi dl)] [] := by
    intro H qh qr sk hQ hsk hoa hr hw hd hqa hcq
    have hqh0 := hQ.2.2.1
    have hqh1 := hQ.2.2.2.1
    have hqr0 := hQ.2.2.2.2
    refine v_iload E 0 rfl dJ26_divideMagnitude_987 ?_
    refine V.topi (x' := (qh + 2147483648) % 4294967296 - 2147483648) (iZ_sg _) ?_
    refine v_if_eq E (tgt := 1261) dJ26_divideMagnitude_989 (by decide) ⟨by omega, by omega⟩ (fun c_989 => ?_) (fun c_989 => ?_)
    · have hq00 : W / D = 0 := by have := hQ.2.1; have := (kn_q hDp hW0).1; omega
      have hTs : (W - W / D * D) * 2 ^ (32 * s9) + Tv % 2 ^ (32 * s9) = Tv := by
        rw [hq00, Int.zero_mul, Int.sub_zero, hWe, Int.mul_comm]; exact Int.mul_ediv_add_emod Tv _
      rw [hTs] at hnx
      have hfn : ∀ i, i < L → f i = bM (R % D) L i := fun i hi => by rw [hf i hi, hnx.1, hRD]
      have hqn : ∀ i, i < j + 1 → fq i = bM (R / D) lim i := fun i hi => by
        by_cases e : i = j
        · rw [e, hfz j (Nat.le_refl _)]; unfold bM; rw [← hs9, ← hnx.2.1, hq00]
        · exact hfq i (by omega)
      refine V.sub [5, 6, 7, 8, 9, 10, 11, 12, 13, 14, 15, 16] (lv' := [(0, .ref a), (2, .ref c), (3, vi z3), (4, vi sh), (5, vi (m : Int)), (6, .ref d), (7, .ref r), (9, vi (lim : Int)), (10, .ref qa), (11, vi dh), (12, vj dh), (14, vi dl)]) rfl ?_
      exact K _ f fq (fun i hi => hqn i (by omega)) (fun hz => hfn) hoa hr hw hd hqa hcq
    · refine v_iload E 2 rfl dJ26_divideMagnitude_992 ?_
      refine v_if_ne E (tgt := 1133) dJ26_divideMagnitude_994 (by decide) ⟨by omega, by omega⟩ (fun c_994 => ?_) (fun c_994 => ?_)
      · refine V.sub [0, 3, 4, 5, 6, 7, 8, 9, 10, 11, 12, 13, 14, 15, 16] (lv' := [(15, vi qh), (18, vi nh), (19, vi (nh + (-2147483648))), (0, .ref a), (2, .ref c), (3, vi z3), (4, vi sh), (5, vi (m : Int)), (6, .ref d), (7, .ref r), (9, vi (lim : Int)), (10, .ref qa), (11, vi dh), (12, vj dh), (14, vi dl)]) rfl ?_
        exact join_1133 H qh hQ.2.1 (kn_4 hD hKW hW0 hQ (by have := mul_in hdl0 hdl1 hqh0 (show qh ≤ 4294967295 by omega); have : dl * qh = qh * dl := Int.mul_comm _ _; omega)) ⟨hqh0, hqh1⟩ hoa hr hw hd hqa hcq
      · have hdq := mul_in hdl0 hdl1 hqh0 (show qh ≤ 4294967295 by omega)
        have hdc : dl * qh = qh * dl := Int.mul_comm _ _
        refine v_aload E 11 rfl dJ26_divideMagnitude_997 ?_
        refine v_getf E in_J26 hr (ci := 9) rfl 0 (by decide) q1172 rfl (v := .ref w) rfl dJ26_divideMagnitude_999 ?_
        refine v_iload E 12 rfl dJ26_divideMagnitude_1002 ?_
        refine v_iconst E dJ26_divideMagnitude_1004 ?_
        refine v_iadd E dJ26_divideMagnitude_1005 ?_
        refine v_aload E 11 rfl dJ26_divideMagnitude_1006 ?_
        refine v_getf E in_J26 hr (ci := 9) rfl 2 (by decide) q1174 rfl (v := vi 0) rfl dJ26_divideMagnitude_1008 ?_
        refine v_iadd E dJ26_divideMagnitude_1011 ?_
        refine v_iald E dJ26_divideMagnitude_1012 hw (j + 2) (by omega) (by omega) (by omega) ?_
        refine v_i2lLow E dJ26_divideMagnitude_1013 q1240 dJ26_divideMagnitude_1014 dJ26_divideMagnitude_1017 ?_
        refine V.topl (x' := nl) (congrArg jZ (by rw [hf2]; omega)) ?_
        refine v_lstore E dJ26_divideMagnitude_1018 (zlt hL rfl) (lv' := [(21, vj nl), (15, vi qh), (16, vi (qr % 4294967296)), (17, vi sk), (18, vi nh), (19, vi (nh + (-2147483648))), (0, .ref a), (2, .ref c), (3, vi z3), (4, vi sh), (5, vi (m : Int)), (6, .ref d), (7, .ref r), (9, vi (lim : Int)), (10, .ref qa), (11, vi dh), (12, vj dh), (14, vi dl)]) rfl ?_
        refine v_iload E 2 rfl dJ26_divideMagnitude_1020 ?_
        refine v_i2lLow E dJ26_divideMagnitude_1022 q1240 dJ26_divideMagnitude_1023 dJ26_divideMagnitude_1026 ?_
        refine v_bipush E ⟨by decide, by decide⟩ dJ26_divideMagnitude_1027 ?_
        refine v_lshl E 32 (by decide) dJ26_divideMagnitude_1029 ?_
        refine v_lload E 0 rfl dJ26_divideMagnitude_1030 ?_
        refine V.top2l (x' := nl) (y' := qr * 2 ^ 32) rfl (jZ_cong (by omega)) ?_
        refine v_lor E (c := qr * 2 ^ 32 + nl) (jZ_or ⟨by omega, by omega⟩ ⟨by omega, by omega⟩) dJ26_divideMagnitude_1032 ?_
        refine v_lstore E dJ26_divideMagnitude_1033 (zlt hL rfl) (lv' := [(23, vj (qr * 2 ^ 32 + nl)), (21, vj nl), (15, vi qh), (16, vi (qr % 4294967296)), (17, vi sk), (18, vi nh), (19, vi (nh + (-2147483648))), (0, .ref a), (2, .ref c), (3, vi z3), (4, vi sh), (5, vi (m : Int)), (6, .ref d), (7, .ref r), (9, vi (lim : Int)), (10, .ref qa), (11, vi dh), (12, vj dh), (14, vi dl)]) rfl ?_
        refine v_iload E 18 rfl dJ26_divideMagnitude_1035 ?_
        refine v_i2lLow E dJ26_divideMagnitude_1037 q1240 dJ26_divideMagnitude_1038 dJ26_divideMagnitude_1041 ?_
        refine v_iload E 2 rfl dJ26_divideMagnitude_1042 ?_
        refine v_i2lLow E dJ26_divideMagnitude_1044 q1240 dJ26_divideMagnitude_1045 dJ26_divideMagnitude_1048 ?_
        refine v_lmul E dJ26_divideMagnitude_1049 ?_
        refine V.topl (x' := dl * qh) (congrArg jZ (by rw [Int.emod_eq_of_lt hdl0 hdl1, Int.emod_eq_of_lt hqh0 hqh1])) ?_
        refine v_lstore E dJ26_divideMagnitude_1050 (zlt hL rfl) (lv' := [(25, vj (dl * qh)), (23, vj (qr * 2 ^ 32 + nl)), (21, vj nl), (15, vi qh), (16, vi (qr % 4294967296)), (17, vi sk), (18, vi nh), (19, vi (nh + (-2147483648))), (0, .ref a), (2, .ref c), (3, vi z3), (4, vi sh), (5, vi (m : Int)), (6, .ref d), (7, .ref r), (9, vi (lim : Int)), (10, .ref qa), (11, vi dh), (12, vj dh), (14, vi dl)]) rfl ?_
        refine v_aload_n E 8 rfl dJ26_divideMagnitude_1052 ?_
        refine v_lload E 0 rfl dJ26_divideMagnitude_1053 ?_
        refine v_lload E 1 rfl dJ26_divideMagnitude_1055 ?_
        refine v_callV E (As := [vj (dl * qh), vj (qr * 2 ^ 32 + nl)]) (b := a) (ci := 9) (C := RJ26) (T := TJ26) (N := 3) hoa rfl (h_ulc κ H (x := dl * qh) (y := qr * 2 ^ 32 + nl) ⟨by omega, by omega⟩ ⟨by omega, by omega⟩) (lw_V q1295 q1297 qs25 q101 q1298) 2 (by decide +kernel) rfl (by decide) (by decide) (cb' := cb) (sb' := sb) (Nat.le_refl _) (Nat.le_refl _) rfl (rest := []) (Nat.le_of_ble_eq_true rfl) (fun q h => h.elim) dJ26_divideMagnitude_1057 (fun v_72 H_73 hpost_74 hz_75 hk_76 => ?_)
        clear hz_75
        obtain rfl := hpost_74
        have hz_77 := hoa.kept (hk_76 _ hoa.lt (fun h => h))
        have hz_78 := hr.kept (hk_76 _ hr.lt (fun h => h))
        have hz_79 := hw.kept (hk_76 _ hw.lt (fun h => h))
        have hz_80 := hd.kept (hk_76 _ hd.lt (fun h => h))
        have hz_81 := hqa.kept (hk_76 _ hqa.lt (fun h => h))
        have hz_82 := hcq.kept (hk_76 _ hcq.lt (fun h => h))
        by_cases ht : qr * 2 ^ 32 + nl < dl * qh
        ·
          rw [if_pos ht]
          refine V.eq (st' := [vi 1]) rfl ?_
          have hQ2 := kn_3 hD hKW hW0 hQ ht
          have hqh2 := hQ2.2.2.1
          have hp0 : dl * (qh - 1) = dl * qh - dl := by grind
          have hp1 : 0 ≤ dl * (qh - 1) := Int.mul_nonneg hD.2.2.2.2.1 hqh2
          refine v_if_eq E (tgt := 1133) dJ26_divideMagnitude_1060 (by decide) ⟨by omega, by omega⟩ (fun c_1060 => absurd c_1060 (by omega)) (fun c_1060 => ?_)
          refine v_iinc E 3 rfl dJ26_divideMagnitude_1063 (zlt hL rfl) (lv' := [(15, vi (qh + (-1))), (25, vj (dl * qh)), (23, vj (qr * 2 ^ 32 + nl)), (21, vj nl), (16, vi (qr % 4294967296)), (17, vi sk), (18, vi nh), (19, vi (nh + (-2147483648))), (0, .ref a), (2, .ref c), (3, vi z3), (4, vi sh), (5, vi (m : Int)), (6, .ref d), (7, .ref r), (9, vi (lim : Int)), (10, .ref qa), (11, vi dh), (12, vj dh), (14, vi dl)]) rfl ?_
          refine v_iload E 4 rfl dJ26_divideMagnitude_1066 ?_
          refine v_i2lLow E dJ26_divideMagnitude_1068 q1240 dJ26_divideMagnitude_1069 dJ26_divideMagnitude_1072 ?_
          refine v_lload E 18 rfl dJ26_divideMagnitude_1073 ?_
          refine v_ladd E dJ26_divideMagnitude_1075 ?_
          refine v_l2i E dJ26_divideMagnitude_1076 ?_
          refine V.topi (x' := (qr + dh) % 4294967296) (iZ_cong (by omega)) ?_
          refine v_istore E dJ26_divideMagnitude_1077 (zlt hL rfl) (lv' := [(16, vi ((qr + dh) % 4294967296)), (15, vi (qh + (-1))), (25, vj (dl * qh)), (23, vj (qr * 2 ^ 32 + nl)), (21, vj nl), (17, vi sk), (18, vi nh), (19, vi (nh + (-2147483648))), (0, .ref a), (2, .ref c), (3, vi z3), (4, vi sh), (5, vi (m : Int)), (6, .ref d), (7, .ref r), (9, vi (lim : Int)), (10, .ref qa), (11, vi dh), (12, vj dh), (14, vi dl)]) rfl ?_
          refine v_iload E 0 rfl dJ26_divideMagnitude_1079 ?_
          refine v_i2lLow E dJ26_divideMagnitude_1081 q1240 dJ26_divideMagnitude_1082 dJ26_divideMagnitude_1085 ?_
          refine v_lload E 18 rfl dJ26_divideMagnitude_1086 ?_
          refine v_lc_lt E (tgt := 1133) dJ26_divideMagnitude_1088 dJ26_divideMagnitude_1089 (by decide) ⟨by omega, by omega⟩ ⟨by omega, by omega⟩ (fun c_1088 => ?_) (fun c_1088 => ?_)
          · refine V.sub [1, 6, 7, 8, 9, 10, 11, 12, 13, 14, 15, 16, 17, 18, 19] (lv' := [(15, vi (qh + (-1))), (18, vi nh), (19, vi (nh + (-2147483648))), (0, .ref a), (2, .ref c), (3, vi z3), (4, vi sh), (5, vi (m : Int)), (6, .ref d), (7, .ref r), (9, vi (lim : Int)), (10, .ref qa), (11, vi dh), (12, vj dh), (14, vi dl)]) rfl ?_
            exact V.eqL (by rw [show qh + -1 = qh - 1 by omega]) (join_1133 H_73 (qh - 1) hQ2.2.1 (kn_4 hD hKW hW0 hQ2 (by have := mul_in hdl0 hdl1 (show 0 ≤ qh - 1 by omega) (by omega); have : dl * (qh - 1) = (qh - 1) * dl := Int.mul_comm _ _; omega)) ⟨by omega, by omega⟩ hz_77 hz_78 hz_79 hz_80 hz_81 hz_82)
          · refine v_lload E 2 rfl dJ26_divideMagnitude_1092 ?_
            refine v_iload E 19 rfl dJ26_divideMagnitude_1094 ?_
            refine v_i2lLow E dJ26_divideMagnitude_1096 q1240 dJ26_divideMagnitude_1097 dJ26_divideMagnitude_1100 ?_
            refine v_lsub E dJ26_divideMagnitude_1101 ?_
            refine V.topl (x' := dl * (qh - 1)) (congrArg jZ (by rw [hp0]; omega)) ?_
            refine v_lstore E dJ26_divideMagnitude_1102 (zlt hL rfl) (lv' := [(25, vj (dl * (qh - 1))), (16, vi ((qr + dh) % 4294967296)), (15, vi (qh + (-1))), (23, vj (qr * 2 ^ 32 + nl)), (21, vj nl), (17, vi sk), (18, vi nh), (19, vi (nh + (-2147483648))), (0, .ref a), (2, .ref c), (3, vi z3), (4, vi sh), (5, vi (m : Int)), (6, .ref d), (7, .ref r), (9, vi (lim : Int)), (10, .ref qa), (11, vi dh), (12, vj dh), (14, vi dl)]) rfl ?_
            refine v_iload E 1 rfl dJ26_divideMagnitude_1104 ?_
            refine v_i2lLow E dJ26_divideMagnitude_1106 q1240 dJ26_divideMagnitude_1107 dJ26_divideMagnitude_1110 ?_
            refine v_bipush E ⟨by decide, by decide⟩ dJ26_divideMagnitude_1111 ?_
            refine v_lshl E 32 (by decide) dJ26_divideMagnitude_1113 ?_
            refine v_lload E 4 rfl dJ26_divideMagnitude_1114 ?_
            refine V.top2l (x' := nl) (y' := (qr + dh) * 2 ^ 32) rfl (jZ_cong (by omega)) ?_
            refine v_lor E (c := (qr + dh) * 2 ^ 32 + nl) (jZ_or ⟨by omega, by omega⟩ ⟨by omega, by omega⟩) dJ26_divideMagnitude_1116 ?_
            refine v_lstore E dJ26_divideMagnitude_1117 (zlt hL rfl) (lv' := [(23, vj ((qr + dh) * 2 ^ 32 + nl)), (25, vj (dl * (qh - 1))), (16, vi ((qr + dh) % 4294967296)), (15, vi (qh + (-1))), (21, vj nl), (17, vi sk), (18, vi nh), (19, vi (nh + (-2147483648))), (0, .ref a), (2, .ref c), (3, vi z3), (4, vi sh), (5, vi (m : Int)), (6, .ref d), (7, .ref r), (9, vi (lim : Int)), (10, .ref qa), (11, vi dh), (12, vj dh), (14, vi dl)]) rfl ?_
            refine v_aload_n E 8 rfl dJ26_divideMagnitude_1119 ?_
            refine v_lload E 1 rfl dJ26_divideMagnitude_1120 ?_
            refine v_lload E 0 rfl dJ26_divideMagnitude_1122 ?_
            refine v_callV E (As := [vj (dl * (qh - 1)), vj ((qr + dh) * 2 ^ 32 + nl)]) (b := a) (ci := 9) (C := RJ26) (T := TJ26) (N := 3) hz_77 rfl (h_ulc κ H_73 (x := dl * (qh - 1)) (y := (qr + dh) * 2 ^ 32 + nl) ⟨by omega, by omega⟩ ⟨by omega, by omega⟩) (lw_V q1295 q1297 qs25 q101 q1298) 2 (by decide +kernel) rfl (by decide) (by decide) (cb' := cb) (sb' := sb) (Nat.le_refl _) (Nat.le_refl _) rfl (rest := []) (Nat.le_of_ble_eq_true rfl) (fun q h => h.elim) dJ26_divideMagnitude_1124 (fun v_83 H_84 hpost_85 hz_86 hk_87 => ?_)
            clear hz_86
            obtain rfl := hpost_85
            have hz_88 := hz_77.kept (hk_87 _ hz_77.lt (fun h => h))
            have hz_89 := hz_78.kept (hk_87 _ hz_78.lt (fun h => h))
            have hz_90 := hz_79.kept (hk_87 _ hz_79.lt (fun h => h))
            have hz_91 := hz_80.kept (hk_87 _ hz_80.lt (fun h => h))
            have hz_92 := hz_81.kept (hk_87 _ hz_81.lt (fun h => h))
            have hz_93 := hz_82.kept (hk_87 _ hz_82.lt (fun h => h))
            by_cases ht : (qr + dh) * 2 ^ 32 + nl < dl * (qh - 1)
            ·
              rw [if_pos ht]
              refine V.eq (st' := [vi 1]) rfl ?_
              have hQ3 := kn_3 hD hKW hW0 hQ2 ht
              have hqh3 := hQ3.2.2.1
              refine v_if_eq E (tgt := 1133) dJ26_divideMagnitude_1127 (by decide) ⟨by omega, by omega⟩ (fun c_1127 => absurd c_1127 (by omega)) (fun c_1127 => ?_)
              refine v_iinc E 3 rfl dJ26_divideMagnitude_1130 (zlt hL rfl) (lv' := [(15, vi ((qh + (-1)) + (-1))), (23, vj ((qr + dh) * 2 ^ 32 + nl)), (25, vj (dl * (qh - 1))), (16, vi ((qr + dh) % 4294967296)), (21, vj nl), (17, vi sk), (18, vi nh), (19, vi (nh + (-2147483648))), (0, .ref a), (2, .ref c), (3, vi z3), (4, vi sh), (5, vi (m : Int)), (6, .ref d), (7, .ref r), (9, vi (lim : Int)), (10, .ref qa), (11, vi dh), (12, vj dh), (14, vi dl)]) rfl ?_
              refine V.sub [0, 6, 7, 8, 9, 10, 11, 12, 13, 14, 15, 16, 17, 18, 19] (lv' := [(15, vi ((qh + (-1)) + (-1))), (18, vi nh), (19, vi (nh + (-2147483648))), (0, .ref a), (2, .ref c), (3, vi z3), (4, vi sh), (5, vi (m : Int)), (6, .ref d), (7, .ref r), (9, vi (lim : Int)), (10, .ref qa), (11, vi dh), (12, vj dh), (14, vi dl)]) rfl ?_
              exact V.eqL (by rw [show qh + -1 + -1 = qh - 1 - 1 by omega]) (join_1133 H_84 (qh - 1 - 1) hQ3.2.1 (kn_4 hD hKW hW0 hQ3 (by have := mul_in hdl0 hdl1 (show 0 ≤ qh - 1 - 1 by omega) (by omega); have : dl * (qh - 1 - 1) = (qh - 1 - 1) * dl := Int.mul_comm _ _; omega)) ⟨by omega, by omega⟩ hz_88 hz_89 hz_90 hz_91 hz_92 hz_93)
            ·
              rw [if_neg ht]
              refine V.eq (st' := [vi 0]) rfl ?_
              refine v_if_eq E (tgt := 1133) dJ26_divideMagnitude_1127 (by decide) ⟨by omega, by omega⟩ (fun c_1127 => ?_) (fun c_1127 => absurd c_1127 (by omega))
              refine V.sub [3, 6, 7, 8, 9, 10, 11, 12, 13, 14, 15, 16, 17, 18, 19] (lv' := [(15, vi (qh + (-1))), (18, vi nh), (19, vi (nh + (-2147483648))), (0, .ref a), (2, .ref c), (3, vi z3), (4, vi sh), (5, vi (m : Int)), (6, .ref d), (7, .ref r), (9, vi (lim : Int)), (10, .ref qa), (11, vi dh), (12, vj dh), (14, vi dl)]) rfl ?_
              exact V.eqL (by rw [show qh + -1 = qh - 1 by omega]) (join_1133 H_84 (qh - 1) hQ2.2.1 (kn_4 hD hKW hW0 hQ2 (by omega)) ⟨by omega, by omega⟩ hz_88 hz_89 hz_90 hz_91 hz_92 hz_93)
        ·
          rw [if_neg ht]
          refine V.eq (st' := [vi 0]) rfl ?_
          refine v_if_eq E (tgt := 1133) dJ26_divideMagnitude_1060 (by decide) ⟨by omega, by omega⟩ (fun c_1060 => ?_) (fun c_1060 => absurd c_1060 (by omega))
          refine V.sub [3, 6, 7, 8, 9, 10, 11, 12, 13, 14, 15, 16, 17, 18, 19] (lv' := [(15, vi qh), (18, vi nh), (19, vi (nh + (-2147483648))), (0, .ref a), (2, .ref c), (3, vi z3), (4, vi sh), (5, vi (m : Int)), (6, .ref d), (7, .ref r), (9, vi (lim : Int)), (10, .ref qa), (11, vi dh), (12, vj dh), (14, vi dl)]) rfl ?_
          exact join_1133 H_73 qh hQ.2.1 (kn_4 hD hKW hW0 hQ (by omega)) ⟨hqh0, hqh1⟩ hz_77 hz_78 hz_79 hz_80 hz_81 hz_82
  refine v_iconst E dJ26_divideMagnitude_828 ?_
  refine v_istore E dJ26_divideMagnitude_829 (zlt hL rfl) (lv' := [(15, vi 0), (0, .ref a), (2, .ref c), (3, vi z3), (4, vi sh), (5, vi (m : Int)), (6, .ref d), (7, .ref r), (9, vi (lim : Int)), (10, .ref qa), (11, vi dh), (12, vj dh), (14, vi dl)]) rfl ?_
  refine v_iconst E dJ26_divideMagnitude_831 ?_
  refine v_istore E dJ26_divideMagnitude_832 (zlt hL rfl) (lv' := [(16, vi 0), (15, vi 0), (0, .ref a), (2, .ref c), (3, vi z3), (4, vi sh), (5, vi (m : Int)), (6, .ref d), (7, .ref r), (9, vi (lim : Int)), (10, .ref qa), (11, vi dh), (12, vj dh), (14, vi dl)]) rfl ?_
  refine v_iconst E dJ26_divideMagnitude_834 ?_
  refine v_istore E dJ26_divideMagnitude_835 (zlt hL rfl) (lv' := [(17, vi 0), (16, vi 0), (15, vi 0), (0, .ref a), (2, .ref c), (3, vi z3), (4, vi sh), (5, vi (m : Int)), (6, .ref d), (7, .ref r), (9, vi (lim : Int)), (10, .ref qa), (11, vi dh), (12, vj dh), (14, vi dl)]) rfl ?_
  refine v_aload E 9 rfl dJ26_divideMagnitude_837 ?_
  refine v_getf E in_J26 hr (ci := 9) rfl 0 (by decide) q1172 rfl (v := .ref w) rfl dJ26_divideMagnitude_839 ?_
  refine v_iload E 10 rfl dJ26_divideMagnitude_842 ?_
  refine v_iconst E dJ26_divideMagnitude_844 ?_
  refine v_isub E dJ26_divideMagnitude_845 ?_
  refine v_aload E 9 rfl dJ26_divideMagnitude_846 ?_
  refine v_getf E in_J26 hr (ci := 9) rfl 2 (by decide) q1174 rfl (v := vi 0) rfl dJ26_divideMagnitude_848 ?_
  refine v_iadd E dJ26_divideMagnitude_851 ?_
  refine v_iald E dJ26_divideMagnitude_852 hw j (by omega) (by omega) (by omega) ?_
  refine V.topi (x' := nh) (congrArg iZ hf0) ?_
  refine v_istore E dJ26_divideMagnitude_853 (zlt hL rfl) (lv' := [(18, vi nh), (17, vi 0), (16, vi 0), (15, vi 0), (0, .ref a), (2, .ref c), (3, vi z3), (4, vi sh), (5, vi (m : Int)), (6, .ref d), (7, .ref r), (9, vi (lim : Int)), (10, .ref qa), (11, vi dh), (12, vj dh), (14, vi dl)]) rfl ?_
  refine v_iload E 0 rfl dJ26_divideMagnitude_855 ?_
  refine v_ldc E q1223 dJ26_divideMagnitude_857 ?_
  refine V.eq (st' := vi (-2147483648) :: _) rfl ?_
  refine v_iadd E dJ26_divideMagnitude_859 ?_
  refine v_istore E dJ26_divideMagnitude_860 (zlt hL rfl) (lv' := [(19, vi (nh + (-2147483648))), (18, vi nh), (17, vi 0), (16, vi 0), (15, vi 0), (0, .ref a), (2, .ref c), (3, vi z3), (4, vi sh), (5, vi (m : Int)), (6, .ref d), (7, .ref r), (9, vi (lim : Int)), (10, .ref qa), (11, vi dh), (12, vj dh), (14, vi dl)]) rfl ?_
  refine v_aload E 11 rfl dJ26_divideMagnitude_862 ?_
  refine v_getf E in_J26 hr (ci := 9) rfl 0 (by decide) q1172 rfl (v := .ref w) rfl dJ26_divideMagnitude_864 ?_
  refine v_iload E 12 rfl dJ26_divideMagnitude_867 ?_
  refine v_aload E 11 rfl dJ26_divideMagnitude_869 ?_
  refine v_getf E in_J26 hr (ci := 9) rfl 2 (by decide) q1174 rfl (v := vi 0) rfl dJ26_divideMagnitude_871 ?_
  refine v_iadd E dJ26_divideMagnitude_874 ?_
  refine v_iald E dJ26_divideMagnitude_875 hw (j + 1) (by omega) (by omega) (by omega) ?_
  refine V.topi (x' := nm) (congrArg iZ hf1) ?_
  refine v_istore E dJ26_divideMagnitude_876 (zlt hL rfl) (lv' := [(20, vi nm), (19, vi (nh + (-2147483648))), (18, vi nh), (17, vi 0), (16, vi 0), (15, vi 0), (0, .ref a), (2, .ref c), (3, vi z3), (4, vi sh), (5, vi (m : Int)), (6, .ref d), (7, .ref r), (9, vi (lim : Int)), (10, .ref qa), (11, vi dh), (12, vj dh), (14, vi dl)]) rfl ?_
  refine v_iload E 2 rfl dJ26_divideMagnitude_878 ?_
  refine v_iload E 15 rfl dJ26_divideMagnitude_880 ?_
  refine V.top2i (x' := (dh + 2147483648) % 4294967296 - 2147483648) (y' := (nh + 2147483648) % 4294967296 - 2147483648) (iZ_sg _) (iZ_sg _) ?_
  refine v_icmp_ne E (tgt := 915) dJ26_divideMagnitude_882 (by decide) ⟨by omega, by omega⟩ ⟨by omega, by omega⟩ (fun c_882 => ?_) (fun c_882 => ?_)
  · refine v_iload E 2 rfl dJ26_divideMagnitude_915 ?_
    refine V.topi (x' := (nh + 2147483648) % 4294967296 - 2147483648) (iZ_sg _) ?_
    refine v_i2l E ⟨by omega, by omega⟩ dJ26_divideMagnitude_917 ?_
    refine v_bipush E ⟨by decide, by decide⟩ dJ26_divideMagnitude_918 ?_
    refine v_lshl E 32 (by decide) dJ26_divideMagnitude_920 ?_
    refine v_iload E 0 rfl dJ26_divideMagnitude_921 ?_
    refine v_i2lLow E dJ26_divideMagnitude_923 q1240 dJ26_divideMagnitude_924 dJ26_divideMagnitude_927 ?_
    refine V.top2l (x' := nm) (y' := nh * 2 ^ 32) (jZ_cong (by omega)) (jZ_cong (by omega)) ?_
    refine v_lor E (c := nh * 2 ^ 32 + nm) (jZ_or ⟨by omega, by omega⟩ ⟨by omega, by omega⟩) dJ26_divideMagnitude_928 ?_
    refine v_lstore E dJ26_divideMagnitude_929 (zlt hL rfl) (lv' := [(21, vj (nh * 2 ^ 32 + nm)), (20, vi nm), (19, vi (nh + (-2147483648))), (18, vi nh), (17, vi 0), (16, vi 0), (15, vi 0), (0, .ref a), (2, .ref c), (3, vi z3), (4, vi sh), (5, vi (m : Int)), (6, .ref d), (7, .ref r), (9, vi (lim : Int)), (10, .ref qa), (11, vi dh), (12, vj dh), (14, vi dl)]) rfl ?_
    refine v_lload E 0 rfl dJ26_divideMagnitude_931 ?_
    have hlt9 : nh < dh := by omega
    have hQ9 := kn_1 hD hKW hW0 hlt9
    obtain ⟨N9, hN9⟩ : ∃ N9, N9 = nh * 4294967296 + nm := ⟨_, rfl⟩
    rw [← hN9] at hQ9
    have hdh0 := hD.2.2.1
    have hm0 := Int.emod_nonneg N9 (show dh ≠ 0 by omega)
    have hm1 := Int.emod_lt_of_pos N9 (show 0 < dh by omega)
    have hq0 := hQ9.2.2.1
    have hq1 := hQ9.2.2.2.1
    rw [show nh * 2 ^ 32 + nm = N9 from hN9.symm]
    by_cases hb : N9 < 9223372036854775808
    ·
      refine v_lconst E (x := 0) rfl dJ26_divideMagnitude_933 ?_
      refine v_lc_lt E (tgt := 961) dJ26_divideMagnitude_934 dJ26_divideMagnitude_935 (by decide) ⟨by omega, by omega⟩ ⟨by omega, by omega⟩ (fun c_934 => absurd c_934 (by omega)) (fun c_934 => ?_)
      refine v_lload E 0 rfl dJ26_divideMagnitude_938 ?_
      refine v_lload E 17 rfl dJ26_divideMagnitude_940 ?_
      refine v_ldiv E ⟨by omega, by omega⟩ ⟨by omega, by omega⟩ (by omega) dJ26_divideMagnitude_942 ?_
      refine V.topl (x' := N9 / dh) (congrArg jZ (Int.tdiv_eq_ediv_of_nonneg (by omega))) ?_
      refine v_l2i E dJ26_divideMagnitude_943 ?_
      refine v_istore E dJ26_divideMagnitude_944 (zlt hL rfl) (lv' := [(15, vi (N9 / dh)), (21, vj N9), (20, vi nm), (19, vi (nh + (-2147483648))), (18, vi nh), (17, vi 0), (16, vi 0), (0, .ref a), (2, .ref c), (3, vi z3), (4, vi sh), (5, vi (m : Int)), (6, .ref d), (7, .ref r), (9, vi (lim : Int)), (10, .ref qa), (11, vi dh), (12, vj dh), (14, vi dl)]) rfl ?_
      refine v_lload E 1 rfl dJ26_divideMagnitude_946 ?_
      refine v_iload E 0 rfl dJ26_divideMagnitude_948 ?_
      refine V.topi (x' := ((N9 / dh) + 2147483648) % 4294967296 - 2147483648) (iZ_sg _) ?_
      refine v_i2l E ⟨by omega, by omega⟩ dJ26_divideMagnitude_950 ?_
      refine v_lload E 17 rfl dJ26_divideMagnitude_951 ?_
      refine v_lmul E dJ26_divideMagnitude_953 ?_
      refine v_lsub E dJ26_divideMagnitude_954 ?_
      refine v_l2i E dJ26_divideMagnitude_955 ?_
      refine V.topi (x' := (N9 % dh) % 4294967296) (by rw [sg_mul_i]; exact congrArg iZ (by have := Int.mul_ediv_add_emod N9 dh; rw [Int.mul_comm] at this; rw [Int.emod_eq_of_lt hm0 (by omega)]; omega)) ?_
      refine v_istore E dJ26_divideMagnitude_956 (zlt hL rfl) (lv' := [(16, vi ((N9 % dh) % 4294967296)), (15, vi (N9 / dh)), (21, vj N9), (20, vi nm), (19, vi (nh + (-2147483648))), (18, vi nh), (17, vi 0), (0, .ref a), (2, .ref c), (3, vi z3), (4, vi sh), (5, vi (m : Int)), (6, .ref d), (7, .ref r), (9, vi (lim : Int)), (10, .ref qa), (11, vi dh), (12, vj dh), (14, vi dl)]) rfl ?_
      refine v_goto E (tgt := 987) dJ26_divideMagnitude_958 (by decide) ?_
      refine V.sub [1, 0, 6, 5, 4, 7, 8, 9, 10, 11, 12, 13, 14, 15, 16, 17, 18] (lv' := [(15, vi (N9 / dh)), (16, vi ((N9 % dh) % 4294967296)), (17, vi 0), (18, vi nh), (19, vi (nh + (-2147483648))), (0, .ref a), (2, .ref c), (3, vi z3), (4, vi sh), (5, vi (m : Int)), (6, .ref d), (7, .ref r), (9, vi (lim : Int)), (10, .ref qa), (11, vi dh), (12, vj dh), (14, vi dl)]) rfl ?_
      exact join_987 H (N9 / dh) (N9 % dh) 0 hQ9 (Or.inl ⟨rfl, by omega⟩) hoa hr hw hd hqa hcq
    ·
      refine V.topl (x' := N9 - 18446744073709551616) (jZ_cong (by omega)) ?_
      refine v_lconst E (x := 0) rfl dJ26_divideMagnitude_933 ?_
      refine v_lc_lt E (tgt := 961) dJ26_divideMagnitude_934 dJ26_divideMagnitude_935 (by decide) ⟨by omega, by omega⟩ ⟨by omega, by omega⟩ (fun c_934 => ?_) (fun c_934 => absurd c_934 (by omega))
      refine v_lload E 0 rfl dJ26_divideMagnitude_961 ?_
      refine v_iload E 16 rfl dJ26_divideMagnitude_963 ?_
      refine v_callS E (As := [vj N9, vi dh]) (h_divW κ H (N := N9) (d := dh) ⟨by omega, by omega⟩ ⟨by omega, by omega⟩) (lw_S q1273 q1274 q101 q1275) 2 (by decide +kernel) rfl (by decide) (by decide) (cb' := cb) (sb' := sb) (Nat.le_refl _) (Nat.le_refl _) rfl (rest := []) (Nat.le_of_ble_eq_true rfl) (fun q h => h.elim) dJ26_divideMagnitude_965 (fun v_94 H_95 hpost_96 hz_97 hk_98 => ?_)
      clear hz_97
      obtain rfl := hpost_96
      have hz_99 := hoa.kept (hk_98 _ hoa.lt (fun h => h))
      have hz_100 := hr.kept (hk_98 _ hr.lt (fun h => h))
      have hz_101 := hw.kept (hk_98 _ hw.lt (fun h => h))
      have hz_102 := hd.kept (hk_98 _ hd.lt (fun h => h))
      have hz_103 := hqa.kept (hk_98 _ hqa.lt (fun h => h))
      have hz_104 := hcq.kept (hk_98 _ hcq.lt (fun h => h))
      refine V.eq (st' := [vj ((N9 % dh) * 2 ^ 32 + N9 / dh)]) rfl ?_
      refine v_lstore E dJ26_divideMagnitude_968 (zlt hL rfl) (lv' := [(23, vj ((N9 % dh) * 2 ^ 32 + N9 / dh)), (21, vj N9), (20, vi nm), (19, vi (nh + (-2147483648))), (18, vi nh), (17, vi 0), (16, vi 0), (15, vi 0), (0, .ref a), (2, .ref c), (3, vi z3), (4, vi sh), (5, vi (m : Int)), (6, .ref d), (7, .ref r), (9, vi (lim : Int)), (10, .ref qa), (11, vi dh), (12, vj dh), (14, vi dl)]) rfl ?_
      refine v_lload E 0 rfl dJ26_divideMagnitude_970 ?_
      refine v_ldc2 E q1240 dJ26_divideMagnitude_972 ?_
      refine v_landLow E dJ26_divideMagnitude_975 ?_
      refine V.topl (x' := N9 / dh) (congrArg jZ (lowq hq0 hq1)) ?_
      refine v_l2i E dJ26_divideMagnitude_976 ?_
      refine v_istore E dJ26_divideMagnitude_977 (zlt hL rfl) (lv' := [(15, vi (N9 / dh)), (23, vj ((N9 % dh) * 2 ^ 32 + N9 / dh)), (21, vj N9), (20, vi nm), (19, vi (nh + (-2147483648))), (18, vi nh), (17, vi 0), (16, vi 0), (0, .ref a), (2, .ref c), (3, vi z3), (4, vi sh), (5, vi (m : Int)), (6, .ref d), (7, .ref r), (9, vi (lim : Int)), (10, .ref qa), (11, vi dh), (12, vj dh), (14, vi dl)]) rfl ?_
      refine v_lload E 1 rfl dJ26_divideMagnitude_979 ?_
      refine v_bipush E ⟨by decide, by decide⟩ dJ26_divideMagnitude_981 ?_
      refine v_lushr E 32 (by decide) dJ26_divideMagnitude_983 ?_
      refine v_l2i E dJ26_divideMagnitude_984 ?_
      refine V.topi (x' := (N9 % dh) % 4294967296) (congrArg iZ (by rw [hiq hm0 (by omega) hq0 hq1, Int.emod_eq_of_lt hm0 (by omega)])) ?_
      refine v_istore E dJ26_divideMagnitude_985 (zlt hL rfl) (lv' := [(16, vi ((N9 % dh) % 4294967296)), (15, vi (N9 / dh)), (23, vj ((N9 % dh) * 2 ^ 32 + N9 / dh)), (21, vj N9), (20, vi nm), (19, vi (nh + (-2147483648))), (18, vi nh), (17, vi 0), (0, .ref a), (2, .ref c), (3, vi z3), (4, vi sh), (5, vi (m : Int)), (6, .ref d), (7, .ref r), (9, vi (lim : Int)), (10, .ref qa), (11, vi dh), (12, vj dh), (14, vi dl)]) rfl ?_
      refine V.sub [1, 0, 7, 6, 5, 8, 9, 10, 11, 12, 13, 14, 15, 16, 17, 18, 19] (lv' := [(15, vi (N9 / dh)), (16, vi ((N9 % dh) % 4294967296)), (17, vi 0), (18, vi nh), (19, vi (nh + (-2147483648))), (0, .ref a), (2, .ref c), (3, vi z3), (4, vi sh), (5, vi (m : Int)), (6, .ref d), (7, .ref r), (9, vi (lim : Int)), (10, .ref qa), (11, vi dh), (12, vj dh), (14, vi dl)]) rfl ?_
      exact join_987 H_95 (N9 / dh) (N9 % dh) 0 hQ9 (Or.inl ⟨rfl, by omega⟩) hz_99 hz_100 hz_101 hz_102 hz_103 hz_104
  · refine v_iconst E dJ26_divideMagnitude_885 ?_
    refine V.topi (x' := 4294967295) (iZ_cong (by decide)) ?_
    refine v_istore E dJ26_divideMagnitude_886 (zlt hL rfl) (lv' := [(15, vi 4294967295), (20, vi nm), (19, vi (nh + (-2147483648))), (18, vi nh), (17, vi 0), (16, vi 0), (0, .ref a), (2, .ref c), (3, vi z3), (4, vi sh), (5, vi (m : Int)), (6, .ref d), (7, .ref r), (9, vi (lim : Int)), (10, .ref qa), (11, vi dh), (12, vj dh), (14, vi dl)]) rfl ?_
    refine v_iload E 3 rfl dJ26_divideMagnitude_888 ?_
    refine v_iload E 1 rfl dJ26_divideMagnitude_890 ?_
    refine v_iadd E dJ26_divideMagnitude_892 ?_
    refine V.topi (x' := (nh + nm) % 4294967296) ((iZ_mod _).symm) ?_
    refine v_istore E dJ26_divideMagnitude_893 (zlt hL rfl) (lv' := [(16, vi ((nh + nm) % 4294967296)), (15, vi 4294967295), (20, vi nm), (19, vi (nh + (-2147483648))), (18, vi nh), (17, vi 0), (0, .ref a), (2, .ref c), (3, vi z3), (4, vi sh), (5, vi (m : Int)), (6, .ref d), (7, .ref r), (9, vi (lim : Int)), (10, .ref qa), (11, vi dh), (12, vj dh), (14, vi dl)]) rfl ?_
    refine v_iload E 0 rfl dJ26_divideMagnitude_895 ?_
    refine v_ldc E q1223 dJ26_divideMagnitude_897 ?_
    refine V.eq (st' := vi (-2147483648) :: _) rfl ?_
    refine v_iadd E dJ26_divideMagnitude_899 ?_
    refine v_iload E 3 rfl dJ26_divideMagnitude_900 ?_
    refine v_icmp_ge E (tgt := 909) dJ26_divideMagnitude_902 (by decide) ⟨by omega, by omega⟩ ⟨by omega, by omega⟩ (fun c_902 => ?_) (fun c_902 => ?_)
    · refine v_iconst E dJ26_divideMagnitude_909 ?_
      refine v_istore E dJ26_divideMagnitude_910 (zlt hL rfl) (lv' := [(17, vi 0), (16, vi ((nh + nm) % 4294967296)), (15, vi 4294967295), (20, vi nm), (19, vi (nh + (-2147483648))), (18, vi nh), (0, .ref a), (2, .ref c), (3, vi z3), (4, vi sh), (5, vi (m : Int)), (6, .ref d), (7, .ref r), (9, vi (lim : Int)), (10, .ref qa), (11, vi dh), (12, vj dh), (14, vi dl)]) rfl ?_
      refine v_goto E (tgt := 987) dJ26_divideMagnitude_912 (by decide) ?_
      refine V.sub [2, 1, 0, 5, 4, 6, 7, 8, 9, 10, 11, 12, 13, 14, 15, 16, 17] (lv' := [(15, vi 4294967295), (16, vi ((nh + nm) % 4294967296)), (17, vi 0), (18, vi nh), (19, vi (nh + (-2147483648))), (0, .ref a), (2, .ref c), (3, vi z3), (4, vi sh), (5, vi (m : Int)), (6, .ref d), (7, .ref r), (9, vi (lim : Int)), (10, .ref qa), (11, vi dh), (12, vj dh), (14, vi dl)]) rfl ?_
      exact join_987 H 4294967295 (nh + nm) 0 (kn_2 hD hKW hW1 (by omega)) (Or.inl ⟨rfl, by omega⟩) hoa hr hw hd hqa hcq
    · refine v_iconst E dJ26_divideMagnitude_905 ?_
      refine v_goto E (tgt := 910) dJ26_divideMagnitude_906 (by decide) ?_
      refine v_istore E dJ26_divideMagnitude_910 (zlt hL rfl) (lv' := [(17, vi 1), (16, vi ((nh + nm) % 4294967296)), (15, vi 4294967295), (20, vi nm), (19, vi (nh + (-2147483648))), (18, vi nh), (0, .ref a), (2, .ref c), (3, vi z3), (4, vi sh), (5, vi (m : Int)), (6, .ref d), (7, .ref r), (9, vi (lim : Int)), (10, .ref qa), (11, vi dh), (12, vj dh), (14, vi dl)]) rfl ?_
      refine v_goto E (tgt := 987) dJ26_divideMagnitude_912 (by decide) ?_
      refine V.sub [2, 1, 0, 5, 4, 6, 7, 8, 9, 10, 11, 12, 13, 14, 15, 16, 17] (lv' := [(15, vi 4294967295), (16, vi ((nh + nm) % 4294967296)), (17, vi 1), (18, vi nh), (19, vi (nh + (-2147483648))), (0, .ref a), (2, .ref c), (3, vi z3), (4, vi sh), (5, vi (m : Int)), (6, .ref d), (7, .ref r), (9, vi (lim : Int)), (10, .ref qa), (11, vi dh), (12, vj dh), (14, vi dl)]) rfl ?_
      exact join_987 H 4294967295 (nh + nm) 1 (kn_2 hD hKW hW1 (by omega)) (Or.inr ⟨rfl, by omega⟩) hoa hr hw hd hqa hcq
