/-! THE LAW's TURNS over the intervals (printed by tools/m_j6.py) -/
theorem mu_c : sumN (fun i => 2 * gCf i + 2 * 183 + 51) 7 ≤ 26000 := by decide +kernel
theorem mu_l : sumN (fun i => 2 * gLf i + 2 * 1238 + (8 + (4 * 7 + 1 + 28) * 6) + 4) 7 ≤ 116000 := by decide +kernel
theorem s_post2 {κ : zK} {oa : Nat} {H1 : Heap} {r1 r2 : Int} {go : Nat → Int} {PO PX : Heap → Prop} (h : (r2 = 0 ∧ PO H1 ∧ ∃ g : Nat → Int, hp κ H1 oa (eJ κ 1 g) ∧ g 0 = r1) ∨ (r2 ≠ 0 ∧ PX H1 ∧ hp κ H1 oa (eJ κ 1 go))) : ((r2 = 0 → PO H1) ∧ (r2 ≠ 0 → PX H1)) ∧ ∃ g : Nat → Int, hp κ H1 oa (eJ κ 1 g) ∧ (r2 = 0 → g 0 = r1) := by
  rcases h with ⟨h1, h2, g, h3, h4⟩ | ⟨h1, h2, h3⟩
  · exact ⟨⟨fun _ => h2, fun q => absurd h1 q⟩, g, h3, fun _ => h4⟩
  · exact ⟨⟨fun q => absurd q h1, fun _ => h2⟩, go, h3, fun q => absurd q h1⟩
theorem r2_09 (k : Int) (h : k = 0 ∨ k = 1 ∨ k = 2 ∨ k = 3 ∨ k = 4) : 0 ≤ k ∧ k ≤ 9 := by omega
set_option maxHeartbeats 400000 in
/-- isolate -/
theorem l_isolate {z : zT} {κ : zK} {ad : Nat → Nat} {a1 a2 a3 a4 x oa a0 N c j fr lo9 : Nat} {fS : Nat → Int} {H : Heap} {cb sb : Nat} (E : zOK z cL_law RX0 κ fr lo9 (some .boolean)) (X9 : zLw z) (hfr : 30 ≤ fr) (hlo : 700 ≤ lo9) (hz0 : z.H0.size ≤ κ.2 93) (hL : z.nL = 8) (hE : lwE κ ad a1 a2 a3 a4 oa a0) (hrI : ∀ k, rI (fS k)) (h : lwI κ ad a1 a2 a3 a4 x oa a0 N fS c H) (hc : c < 42) (hj : j + 6 ≤ N) (hN : N ≤ 252) (K9 : ∀ H1 : Heap, lwI κ ad a1 a2 a3 a4 x oa a0 N fS (c + 1) H1 → V z H1 cb sb 2204 (lwL x (ad 3002) oa a0 j) []) : V z H (cb + 28500) (sb + 129000) 1739 (lwL x (ad 3002) oa a0 j) [] := by
  obtain ⟨hC, hA, ⟨g0, ho⟩, Sc, isoP, n, cap, iv, Sm, K, F, many, thr, lv, lo, hi, rt, P, f, g, mk, len, hP, hB, hV, hS, hR, hF7, hcap⟩ := h
  obtain ⟨hI, hreg, hou, h0⟩ := id hE
  have hD := hC.D
  obtain ⟨fsx, hx⟩ := hP.hx
  have hoA : ¬ pA κ H oa := mK.pA hD (Or.inr (Or.inl ⟨1, g0, ho⟩))
  have hM := c_iso κ H (hrI (j + 1)) hC hS.hQ hS.bC hS.hpos hP
  rw [vi_rp (xoIso Sc (fS (j + 1))).1] at hM
  refine v_aload_n E 3 rfl dL_law_1739 ?_
  refine l_arg E (k := 1) ⟨by decide, by decide⟩ 4 0 rfl rfl hA hj hN dL_law_1740 dL_law_1741 dL_law_1743 dL_law_1744 dL_law_1745 ?_
  refine v_aload_n E 1 rfl dL_law_1746 ?_
  refine v_callSK E X9 (As := [.ref x, vi (fS (j + 1)), .ref oa]) (w_isolate κ H hx ho (fun _ => rp_r _) hoA hM (hk_CP hD)) (lw_SW q1583 q1584 q69 q1585) 3 (by decide +kernel) rfl (by omega) (by omega) (cb' := cb + 4) (sb' := sb + 512) (by omega) (by omega) rfl (rest := []) (Nat.le_of_ble_eq_true rfl) (lw_hAc hz0 hE) dL_law_1747 (fun v9 H1 hp9 hz9 hk9 => ?_)
  obtain ⟨rfl, hcase⟩ := hp9
  obtain ⟨hC1, hA1, hB1, hV1⟩ := lw_c hE hC hA hB hV hz9 hk9
  obtain ⟨hW, g2, ho1, hg2⟩ := s_post2 (PO := fun H1 => CP κ H1 x Sc (some (Sc (fS (j + 1)).toNat)) 1 10 (fun _ => (0, -cBnd (Sc (fS (j + 1)).toNat), cBnd (Sc (fS (j + 1)).toNat), (xoIso Sc (fS (j + 1))).1))) (PX := fun H1 => CP κ H1 x Sc isoP n cap iv) hcase
  refine v_istore E dL_law_1750 (by rw [hL]; decide) (lv' := (5, vi (xoIso Sc (fS (j + 1))).2.1) :: lwL x (ad 3002) oa a0 j) rfl ?_
  refine v_aload_n E 3 rfl dL_law_1752 ?_
  refine l_arg E (k := 1) ⟨by decide, by decide⟩ 5 1 rfl rfl hA1 hj hN dL_law_1753 dL_law_1754 dL_law_1756 dL_law_1757 dL_law_1758 ?_
  refine v_callV E (As := [vi (fS (j + 1))]) (b := ad 3002) (ci := 3) (C := RX4) (T := TX4) (N := 27) hB1.ho rfl (m_isolate κ H1 (lv := lv) (lo := lo) (hi := hi) (rt := rt) hV1.1 (rI_many hR hc) (by decide) hV1.2.1 (hrI (j + 1)) (by decide) hS.b (rs_mF hS) (fun h0 h1 => (ag_iso hS h0 (hS.len (i := (fS (j + 1)).toNat) (by omega) h1)).2.2) hI hB1 hV1.2.2.1 hV1.2.2.2.1 hV1.2.2.2.2.1 hV1.2.2.2.2.2) (lw_V q2098 q2099 q2100 q82 q2101) 1 (by decide +kernel) rfl (by omega) (by omega) (cb' := cb) (sb' := sb) (by omega) (by omega) rfl (rest := []) (Nat.le_of_ble_eq_true rfl) (fun q hq => lw_hAm hz0 hE q hq) dL_law_1759 (fun v10 H2 hp10 hz10 hk10 => ?_)
  rcases hp10 with ⟨d1, rfl, hB2, v1, v2, v3, v4⟩ | ⟨d1, d2, rfl, hB2, v1, v2, v3, v4⟩ | ⟨d1, d2, rfl, P1, f1, g1, K1, hK1, hF1, hB2, v1, v2, v3, v4⟩
  · have ex : (xoIso Sc (fS (j + 1))).2.1 = 1 := by unfold xoIso; rw [if_neg d1]
    have hP1 := hW.2 (by rw [ex]; decide)
    obtain ⟨hC2, hP2, hA2, ho2⟩ := lw_m hE (fun q h => h) hC1 hP1 hA1 ho1 hB1 hV1 hz10 hk10
    have hV2 : LV κ ad a1 a2 a3 a4 64 lv lo hi rt H2 := ⟨hV1.1, hV1.2.1, v1, v2, v3, v4⟩
    have hF7' := hF7
    refine V.eq (st' := [vi (rp (0 : Int))]) (by rw [← vi_rp]; rfl) ?_
    refine v_istore E dL_law_1762 (by rw [hL]; decide) (lv' := (6, vi (rp (0 : Int))) :: (5, vi (xoIso Sc (fS (j + 1))).2.1) :: lwL x (ad 3002) oa a0 j) rfl ?_
    exact l_tail E (by omega) (by omega) dL_law_1764 dL_law_1765 dL_law_1768 dL_law_1770 dL_law_1775 dL_law_1777 dL_law_1780 dL_law_1781 dL_law_1782 dL_law_1783 dL_law_1785 dL_law_1786 dL_law_1787 dL_law_1792 (by decide) hI hB2 ho2 ex (by rw [ex]; decide) (rp_r _) (fun h => by rw [ex] at h; exact absurd h (by decide)) (fun H3 hz3 hk3 => K9 H3 (lwI.kept hE ⟨hC2, hA2, ⟨g2, ho2⟩, _, isoP, _, cap, iv, _, K, F, _, _, lv, lo, hi, rt, _, _, _, _, _, hP2, hB2, hV2, hS, hR.up, hF7', hcap⟩ hz3 hk3))
  · have ex : (xoIso Sc (fS (j + 1))).2.1 = 2 := by
      have := hS.deg (i := (fS (j + 1)).toNat) (by omega)
      unfold xoIso; rw [if_pos d1, if_pos (by omega)]
    have hP1 := hW.2 (by rw [ex]; decide)
    obtain ⟨hC2, hP2, hA2, ho2⟩ := lw_m hE (fun q h => h) hC1 hP1 hA1 ho1 hB1 hV1 hz10 hk10
    have hV2 : LV κ ad a1 a2 a3 a4 64 lv lo hi rt H2 := ⟨hV1.1, hV1.2.1, v1, v2, v3, v4⟩
    have hF7' := hF7
    refine V.eq (st' := [vi (rp (0 : Int))]) (by rw [← vi_rp]; rfl) ?_
    refine v_istore E dL_law_1762 (by rw [hL]; decide) (lv' := (6, vi (rp (0 : Int))) :: (5, vi (xoIso Sc (fS (j + 1))).2.1) :: lwL x (ad 3002) oa a0 j) rfl ?_
    exact l_tail E (by omega) (by omega) dL_law_1764 dL_law_1765 dL_law_1768 dL_law_1770 dL_law_1775 dL_law_1777 dL_law_1780 dL_law_1781 dL_law_1782 dL_law_1783 dL_law_1785 dL_law_1786 dL_law_1787 dL_law_1792 (by decide) hI hB2 ho2 ex (by rw [ex]; decide) (rp_r _) (fun h => by rw [ex] at h; exact absurd h (by decide)) (fun H3 hz3 hk3 => K9 H3 (lwI.kept hE ⟨hC2, hA2, ⟨g2, ho2⟩, _, isoP, _, cap, iv, _, K, F, _, _, lv, lo, hi, rt, _, _, _, _, _, hP2, hB2, hV2, hS, hR.up, hF7', hcap⟩ hz3 hk3))
  · have hl := hS.len (i := (fS (j + 1)).toNat) (by omega) d2
    obtain ⟨ex, ea, _⟩ := ag_iso hS d1 hl
    have hP1 := hW.1 ex
    obtain ⟨hC2, hP2, hA2, ho2⟩ := lw_m hE (fun q h => h) hC1 hP1 hA1 ho1 hB1 hV1 hz10 hk10
    have hR2 := relI.start hS d1 hl (lv := lv) (lo := lo) (hi := hi) (rt := rt) hK1 hF1 (c + 1) (by omega)
    have hV2 := (show LV κ ad a1 a2 a3 a4 64 _ _ _ _ H2 from ⟨hV1.1, hV1.2.1, v1, v2, v3, v4⟩)
    refine V.eq (st' := [vi (rp (plF (freeR (Sm (fS (j + 1)).toNat)) 0 (-bnd (Sm (fS (j + 1)).toNat)) (bnd (Sm (fS (j + 1)).toNat))))]) (by rw [← vi_rp]; rfl) ?_
    refine v_istore E dL_law_1762 (by rw [hL]; decide) (lv' := (6, vi (rp (plF (freeR (Sm (fS (j + 1)).toNat)) 0 (-bnd (Sm (fS (j + 1)).toNat)) (bnd (Sm (fS (j + 1)).toNat))))) :: (5, vi (xoIso Sc (fS (j + 1))).2.1) :: lwL x (ad 3002) oa a0 j) rfl ?_
    exact l_tail E (by omega) (by omega) dL_law_1764 dL_law_1765 dL_law_1768 dL_law_1770 dL_law_1775 dL_law_1777 dL_law_1780 dL_law_1781 dL_law_1782 dL_law_1783 dL_law_1785 dL_law_1786 dL_law_1787 dL_law_1792 (by decide) hI hB2 ho2 ex (by rw [ex]; decide) (rp_r _) (fun h => by rw [hg2 h, ea]) (fun H3 hz3 hk3 => K9 H3 (lwI.kept hE ⟨hC2, hA2, ⟨g2, ho2⟩, _, _, 1, 10, _, _, K1, _, 1, _, _, _, _, _, _, _, _, _, _, hP2, hB2, hV2, hS, hR2, eq7.rfl', (by decide)⟩ hz3 hk3))
set_option maxHeartbeats 400000 in
/-- bisect -/
theorem l_bisect {z : zT} {κ : zK} {ad : Nat → Nat} {a1 a2 a3 a4 x oa a0 N c j fr lo9 : Nat} {fS : Nat → Int} {H : Heap} {cb sb : Nat} (E : zOK z cL_law RX0 κ fr lo9 (some .boolean)) (X9 : zLw z) (hfr : 30 ≤ fr) (hlo : 700 ≤ lo9) (hz0 : z.H0.size ≤ κ.2 93) (hL : z.nL = 8) (hE : lwE κ ad a1 a2 a3 a4 oa a0) (hrI : ∀ k, rI (fS k)) (h : lwI κ ad a1 a2 a3 a4 x oa a0 N fS c H) (hc : c < 42) (hj : j + 6 ≤ N) (hN : N ≤ 252) (K9 : ∀ H1 : Heap, lwI κ ad a1 a2 a3 a4 x oa a0 N fS (c + 1) H1 → V z H1 cb sb 2204 (lwL x (ad 3002) oa a0 j) []) : V z H (cb + 28500) (sb + 129000) 1934 (lwL x (ad 3002) oa a0 j) [] := by
  obtain ⟨hC, hA, ⟨g0, ho⟩, Sc, isoP, n, cap, iv, Sm, K, F, many, thr, lv, lo, hi, rt, P, f, g, mk, len, hP, hB, hV, hS, hR, hF7, hcap⟩ := h
  obtain ⟨hI, hreg, hou, h0⟩ := id hE
  have hD := hC.D
  obtain ⟨fsx, hx⟩ := hP.hx
  have hoA : ¬ pA κ H oa := mK.pA hD (Or.inr (Or.inl ⟨1, g0, ho⟩))
  have hmn := hR.1
  subst hmn
  by_cases hn0 : n = 0
  · subst hn0
    have hM := (c_bi0 κ H (hrI (j + 1)) hC hP).mono (post' := fun v H1 => (1 : Int) = 0 ∧ v = some (vi (rp 0)) ∧ CP κ H1 x Sc isoP 0 cap iv) (postX' := fun C H1 => (C = "java/lang/IndexOutOfBoundsException" ∧ (1 : Int) = 1 ∨ C = "java/lang/IllegalStateException" ∧ (1 : Int) = 2) ∧ CP κ H1 x Sc isoP 0 cap iv) (fun v H1 h => h.elim) (fun C H1 h => ⟨Or.inl ⟨h.1, rfl⟩, h.2⟩)
    refine v_aload_n E 3 rfl dL_law_1934 ?_
    refine l_arg E (k := 1) ⟨by decide, by decide⟩ 4 0 rfl rfl hA hj hN dL_law_1935 dL_law_1936 dL_law_1938 dL_law_1939 dL_law_1940 ?_
    refine v_aload_n E 1 rfl dL_law_1941 ?_
    refine v_callSK E X9 (As := [.ref x, vi (fS (j + 1)), .ref oa]) (w_bisect κ H hx ho (fun _ => rp_r _) hoA hM (hk_CP hD)) (lw_SW q1635 q1636 q69 q1637) 3 (by decide +kernel) rfl (by omega) (by omega) (cb' := cb + 4) (sb' := sb + 512) (by omega) (by omega) rfl (rest := []) (Nat.le_of_ble_eq_true rfl) (lw_hAc hz0 hE) dL_law_1942 (fun v9 H1 hp9 hz9 hk9 => ?_)
    obtain ⟨rfl, hcase⟩ := hp9
    obtain ⟨hC1, hA1, hB1, hV1⟩ := lw_c hE hC hA hB hV hz9 hk9
    obtain ⟨hP1, g2, ho1, hg2⟩ := s_post (PO := fun H1 => CP κ H1 x Sc isoP 0 cap iv) (PX := fun H1 => CP κ H1 x Sc isoP 0 cap iv) (PR := fun H1 => CP κ H1 x Sc isoP 0 cap iv) hcase (fun h => h) (fun _ h => h)
    refine v_istore E dL_law_1945 (by rw [hL]; decide) (lv' := (5, vi 1) :: lwL x (ad 3002) oa a0 j) rfl ?_
    refine v_aload_n E 3 rfl dL_law_1947 ?_
    refine l_arg E (k := 1) ⟨by decide, by decide⟩ 5 1 rfl rfl hA1 hj hN dL_law_1948 dL_law_1949 dL_law_1951 dL_law_1952 dL_law_1953 ?_
    refine v_callV E (As := [vi (fS (j + 1))]) (b := ad 3002) (ci := 3) (C := RX4) (T := TX4) (N := 27) hB1.ho rfl (m_bisect2 κ H1 (F := F) (hrI (j + 1)) (by have := hR.few; omega) (by decide) (by decide) hR.okL (hR.okK hF7) (fun j9 e9 _ h9 => absurd h9 (Nat.not_lt_zero j9)) hI hB1 hV1) (lw_V q2122 q2123 q2124 q82 q2125) 1 (by decide +kernel) rfl (by omega) (by omega) (cb' := cb) (sb' := sb) (by omega) (by omega) rfl (rest := []) (Nat.le_of_ble_eq_true rfl) (fun q hq => lw_hAm hz0 hE q hq) dL_law_1954 (fun v10 H2 hp10 hz10 hk10 => ?_)
    rcases hp10 with ⟨d1, rfl, hB2, hV2⟩ | ⟨d1, d2⟩ | ⟨d1, d2⟩
    · have hF7' := hF7
      obtain ⟨hC2, hP2, hA2, ho2⟩ := lw_m hE (fun q h => h) hC1 hP1 hA1 ho1 hB1 hV1 hz10 hk10
      refine V.eq (st' := [vi (rp (0 : Int))]) (by rw [← vi_rp]; rfl) ?_
      refine v_istore E dL_law_1957 (by rw [hL]; decide) (lv' := (6, vi (rp (0 : Int))) :: (5, vi 1) :: lwL x (ad 3002) oa a0 j) rfl ?_
      exact l_tail E (by omega) (by omega) dL_law_1959 dL_law_1960 dL_law_1963 dL_law_1965 dL_law_1970 dL_law_1972 dL_law_1975 dL_law_1976 dL_law_1977 dL_law_1978 dL_law_1980 dL_law_1981 dL_law_1982 dL_law_1987 (by decide) hI hB2 ho2 rfl (by decide) (rp_r _) (fun h => absurd h (by decide)) (fun H3 hz3 hk3 => K9 H3 (lwI.kept hE ⟨hC2, hA2, ⟨g2, ho2⟩, _, isoP, _, cap, iv, _, K, F, _, _, lv, lo, hi, rt, _, _, _, _, _, hP2, hB2, hV2, hS, hR.up, hF7', hcap⟩ hz3 hk3))
    · exact absurd d1.2 (by omega)
    · exact absurd d1.2 (by omega)
  obtain ⟨Q, hQ, g9, hA9, _⟩ := hR.2.1 (by omega)
  have hM := c_bi κ H (hrI (j + 1)) hC hQ hR.okI g9.hH2 (fun m e h1 h2 h3 => g9.hV h1 h2 h3) hcap hP
  rw [vi_rp (xoBi Sc Q n iv (fS (j + 1))).1] at hM
  refine v_aload_n E 3 rfl dL_law_1934 ?_
  refine l_arg E (k := 1) ⟨by decide, by decide⟩ 4 0 rfl rfl hA hj hN dL_law_1935 dL_law_1936 dL_law_1938 dL_law_1939 dL_law_1940 ?_
  refine v_aload_n E 1 rfl dL_law_1941 ?_
  refine v_callSK E X9 (As := [.ref x, vi (fS (j + 1)), .ref oa]) (w_bisect κ H hx ho (fun _ => rp_r _) hoA hM (fun H1 H2 h hs ho => h.elim (fun c2 h => ⟨c2, h.1, hk_CP hD H1 H2 h.2 hs ho⟩))) (lw_SW q1635 q1636 q69 q1637) 3 (by decide +kernel) rfl (by omega) (by omega) (cb' := cb + 4) (sb' := sb + 512) (by omega) (by omega) rfl (rest := []) (Nat.le_of_ble_eq_true rfl) (lw_hAc hz0 hE) dL_law_1942 (fun v9 H1 hp9 hz9 hk9 => ?_)
  obtain ⟨rfl, hcase⟩ := hp9
  obtain ⟨hC1, hA1, hB1, hV1⟩ := lw_c hE hC hA hB hV hz9 hk9
  obtain ⟨hW, g2, ho1, hg2⟩ := s_post2 (PO := fun H1 => ∃ cap2 : Nat, cap2 ≤ max cap (2 * n + 12) ∧ CP κ H1 x Sc isoP (n + xbN Q (iv (fS (j + 1)).toNat).1.toNat (iv (fS (j + 1)).toNat).2.1 (iv (fS (j + 1)).toNat).2.2.1) cap2 (xbV Q iv (fS (j + 1)).toNat (iv (fS (j + 1)).toNat).1.toNat (iv (fS (j + 1)).toNat).2.1 (iv (fS (j + 1)).toNat).2.2.1 (iv (fS (j + 1)).toNat).2.2.2)) (PX := fun H1 => CP κ H1 x Sc isoP n cap iv) hcase
  refine v_istore E dL_law_1945 (by rw [hL]; decide) (lv' := (5, vi (xoBi Sc Q n iv (fS (j + 1))).2.1) :: lwL x (ad 3002) oa a0 j) rfl ?_
  refine v_aload_n E 3 rfl dL_law_1947 ?_
  refine l_arg E (k := 1) ⟨by decide, by decide⟩ 5 1 rfl rfl hA1 hj hN dL_law_1948 dL_law_1949 dL_law_1951 dL_law_1952 dL_law_1953 ?_
  refine v_callV E (As := [vi (fS (j + 1))]) (b := ad 3002) (ci := 3) (C := RX4) (T := TX4) (N := 27) hB1.ho rfl (m_bisect2 κ H1 (F := F) (hrI (j + 1)) (by have := hR.few; omega) (by decide) (by decide) hR.okL (hR.okK hF7) (fun j9 e9 _ h9 hne9 h129 he9 => (hR.bis (F1 := F) hQ h9 h129 hne9 he9).1) hI hB1 hV1) (lw_V q2122 q2123 q2124 q82 q2125) 1 (by decide +kernel) rfl (by omega) (by omega) (cb' := cb) (sb' := sb) (by omega) (by omega) rfl (rest := []) (Nat.le_of_ble_eq_true rfl) (fun q hq => lw_hAm hz0 hE q hq) dL_law_1954 (fun v10 H2 hp10 hz10 hk10 => ?_)
  rcases hp10 with ⟨d1, rfl, hB2, hV2⟩ | ⟨d1, d2, rfl, hB2, hV2⟩ | ⟨d1, d2, d3, e, wn, b1, b2, b3, b4, c2, lv2, lo2, hi2, rt2, P1, f1, g1, he, hwn, rfl, hF1, hB2, hV2, hc2, htie, hnew, hlists⟩
  · have ex : (xoBi Sc Q n iv (fS (j + 1))).2.1 = 1 := by unfold xoBi; rw [if_neg d1]
    have hP1 := hW.2 (by rw [ex]; decide)
    obtain ⟨hC2, hP2, hA2, ho2⟩ := lw_m hE (fun q h => h) hC1 hP1 hA1 ho1 hB1 hV1 hz10 hk10
    have hF7' := hF7
    refine V.eq (st' := [vi (rp (0 : Int))]) (by rw [← vi_rp]; rfl) ?_
    refine v_istore E dL_law_1957 (by rw [hL]; decide) (lv' := (6, vi (rp (0 : Int))) :: (5, vi (xoBi Sc Q n iv (fS (j + 1))).2.1) :: lwL x (ad 3002) oa a0 j) rfl ?_
    exact l_tail E (by omega) (by omega) dL_law_1959 dL_law_1960 dL_law_1963 dL_law_1965 dL_law_1970 dL_law_1972 dL_law_1975 dL_law_1976 dL_law_1977 dL_law_1978 dL_law_1980 dL_law_1981 dL_law_1982 dL_law_1987 (by decide) hI hB2 ho2 ex (by rw [ex]; decide) (rp_r _) (fun h => by rw [ex] at h; exact absurd h (by decide)) (fun H3 hz3 hk3 => K9 H3 (lwI.kept hE ⟨hC2, hA2, ⟨g2, ho2⟩, _, isoP, _, cap, iv, _, K, F, _, _, lv, lo, hi, rt, _, _, _, _, _, hP2, hB2, hV2, hS, hR.up, hF7', hcap⟩ hz3 hk3))
  · have ei := (hR.2.2.1 (fS (j + 1)).toNat (by omega)).1
    have ex : (xoBi Sc Q n iv (fS (j + 1))).2.1 = 2 := by unfold xoBi; rw [if_pos d1, ei, if_pos d2]
    have hP1 := hW.2 (by rw [ex]; decide)
    obtain ⟨hC2, hP2, hA2, ho2⟩ := lw_m hE (fun q h => h) hC1 hP1 hA1 ho1 hB1 hV1 hz10 hk10
    have hF7' := hF7
    refine V.eq (st' := [vi (rp (0 : Int))]) (by rw [← vi_rp]; rfl) ?_
    refine v_istore E dL_law_1957 (by rw [hL]; decide) (lv' := (6, vi (rp (0 : Int))) :: (5, vi (xoBi Sc Q n iv (fS (j + 1))).2.1) :: lwL x (ad 3002) oa a0 j) rfl ?_
    exact l_tail E (by omega) (by omega) dL_law_1959 dL_law_1960 dL_law_1963 dL_law_1965 dL_law_1970 dL_law_1972 dL_law_1975 dL_law_1976 dL_law_1977 dL_law_1978 dL_law_1980 dL_law_1981 dL_law_1982 dL_law_1987 (by decide) hI hB2 ho2 ex (by rw [ex]; decide) (rp_r _) (fun h => by rw [ex] at h; exact absurd h (by decide)) (fun H3 hz3 hk3 => K9 H3 (lwI.kept hE ⟨hC2, hA2, ⟨g2, ho2⟩, _, isoP, _, cap, iv, _, K, F, _, _, lv, lo, hi, rt, _, _, _, _, _, hP2, hB2, hV2, hS, hR.up, hF7', hcap⟩ hz3 hk3))
  · have hjn : (fS (j + 1)).toNat < n := by omega
    have ei := (hR.2.2.1 (fS (j + 1)).toNat hjn).1
    obtain ⟨_, ewn, hb⟩ := hR.bis (F1 := F) hQ hjn d3 d2 he
    have ew : xbN Q (lv (fS (j + 1)).toNat).toNat (lo (fS (j + 1)).toNat) (hi (fS (j + 1)).toNat) = wn := by
      rw [ewn]
      rcases hwn with ⟨q1, q2⟩ | ⟨q1, q2⟩
      · rw [if_pos q2, q1]
      · rw [if_neg q2, q1]
    have ex : (xoBi Sc Q n iv (fS (j + 1))).2.1 = 0 := by unfold xoBi; rw [if_pos d1, ei, if_neg (fun h => h.elim d2 d3)]
    have ea : (xoBi Sc Q n iv (fS (j + 1))).1 = ((n + wn : Nat) : Int) := by unfold xoBi; rw [if_pos d1, ei, if_neg (fun h => h.elim d2 d3)]; show ((n + xbN Q (lv (fS (j + 1)).toNat).toNat (lo (fS (j + 1)).toNat) (hi (fS (j + 1)).toNat) : Nat) : Int) = _; rw [ew]
    obtain ⟨cap2, hcap2, hP1⟩ := hW.1 ex
    rw [ei] at hP1
    have hP1 : CP κ H1 x Sc isoP (n + xbN Q (lv (fS (j + 1)).toNat).toNat (lo (fS (j + 1)).toNat) (hi (fS (j + 1)).toNat)) cap2 (xbV Q iv (fS (j + 1)).toNat (lv (fS (j + 1)).toNat).toNat (lo (fS (j + 1)).toNat) (hi (fS (j + 1)).toNat) (rt (fS (j + 1)).toNat)) := hP1
    rw [ew] at hP1
    have few := hR.few
    have hw2 : wn ≤ 2 := by omega
    obtain ⟨q5, q1, q2, q3, q4⟩ := htie (by omega)
    subst q5; subst q1; subst q2; subst q3; subst q4
    obtain ⟨hC2, hP2, hA2, ho2⟩ := lw_m hE (fun q h => h) hC1 hP1 hA1 ho1 hB1 hV1 hz10 hk10
    have hR2 := hb wn lv2 lo2 hi2 rt2 hwn eq7.rfl' hlists
    refine V.eq (st' := [vi (rp ((n + wn : Nat) : Int))]) (by rw [← vi_rp]; rfl) ?_
    refine v_istore E dL_law_1957 (by rw [hL]; decide) (lv' := (6, vi (rp ((n + wn : Nat) : Int))) :: (5, vi (xoBi Sc Q n iv (fS (j + 1))).2.1) :: lwL x (ad 3002) oa a0 j) rfl ?_
    exact l_tail E (by omega) (by omega) dL_law_1959 dL_law_1960 dL_law_1963 dL_law_1965 dL_law_1970 dL_law_1972 dL_law_1975 dL_law_1976 dL_law_1977 dL_law_1978 dL_law_1980 dL_law_1981 dL_law_1982 dL_law_1987 (by decide) hI hB2 ho2 ex (by rw [ex]; decide) (rp_r _) (fun h => by rw [hg2 h, ea]) (fun H3 hz3 hk3 => K9 H3 (lwI.kept hE ⟨hC2, hA2, ⟨g2, ho2⟩, _, isoP, _, cap2, _, _, K, F, _, _, lv2, lo2, hi2, rt2, _, _, _, _, _, hP2, hB2, hV2, hS, hR2, hF1, (by omega)⟩ hz3 hk3))
set_option maxHeartbeats 400000 in
/-- refine -/
theorem l_refine {z : zT} {κ : zK} {ad : Nat → Nat} {a1 a2 a3 a4 x oa a0 N c j fr lo9 : Nat} {fS : Nat → Int} {H : Heap} {cb sb : Nat} (E : zOK z cL_law RX0 κ fr lo9 (some .boolean)) (X9 : zLw z) (hfr : 30 ≤ fr) (hlo : 700 ≤ lo9) (hz0 : z.H0.size ≤ κ.2 93) (hL : z.nL = 8) (hE : lwE κ ad a1 a2 a3 a4 oa a0) (hrI : ∀ k, rI (fS k)) (h : lwI κ ad a1 a2 a3 a4 x oa a0 N fS c H) (hc : c < 42) (hj : j + 6 ≤ N) (hN : N ≤ 252) (K9 : ∀ H1 : Heap, lwI κ ad a1 a2 a3 a4 x oa a0 N fS (c + 1) H1 → V z H1 cb sb 2204 (lwL x (ad 3002) oa a0 j) []) : V z H (cb + 28500) (sb + 129000) 1990 (lwL x (ad 3002) oa a0 j) [] := by
  obtain ⟨hC, hA, ⟨g0, ho⟩, Sc, isoP, n, cap, iv, Sm, K, F, many, thr, lv, lo, hi, rt, P, f, g, mk, len, hP, hB, hV, hS, hR, hF7, hcap⟩ := h
  obtain ⟨hI, hreg, hou, h0⟩ := id hE
  have hD := hC.D
  obtain ⟨fsx, hx⟩ := hP.hx
  have hoA : ¬ pA κ H oa := mK.pA hD (Or.inr (Or.inl ⟨1, g0, ho⟩))
  have hmn := hR.1
  subst hmn
  by_cases hn0 : n = 0
  · subst hn0
    have hM := (c_rf0 κ H (hrI (j + 1)) (hrI (j + 2)) hC hP).mono (post' := fun v H1 => (1 : Int) = 0 ∧ v = some (vi (rp 0)) ∧ CP κ H1 x Sc isoP 0 cap iv) (postX' := fun C H1 => (C = "java/lang/IndexOutOfBoundsException" ∧ (1 : Int) = 1 ∨ C = "java/lang/IllegalArgumentException" ∧ (1 : Int) = 2 ∨ C = "java/lang/IllegalStateException" ∧ (1 : Int) = 3) ∧ CP κ H1 x Sc isoP 0 cap iv) (fun v H1 h => h.elim) (fun C H1 h => ⟨Or.inl ⟨h.1, rfl⟩, h.2⟩)
    refine v_aload_n E 3 rfl dL_law_1990 ?_
    refine l_arg E (k := 1) ⟨by decide, by decide⟩ 4 0 rfl rfl hA hj hN dL_law_1991 dL_law_1992 dL_law_1994 dL_law_1995 dL_law_1996 ?_
    refine l_arg E (k := 2) ⟨by decide, by decide⟩ 4 0 rfl rfl hA hj hN dL_law_1997 dL_law_1998 dL_law_2000 dL_law_2001 dL_law_2002 ?_
    refine v_aload_n E 1 rfl dL_law_2003 ?_
    refine v_callSK E X9 (As := [.ref x, vi (fS (j + 1)), vi (fS (j + 2)), .ref oa]) (w_refine κ H hx ho (fun _ => rp_r _) hoA hM (hk_CP hD)) (lw_SW q1724 q1725 q69 q1726) 4 (by decide +kernel) rfl (by omega) (by omega) (cb' := cb + 4) (sb' := sb + 512) (by omega) (by omega) rfl (rest := []) (Nat.le_of_ble_eq_true rfl) (lw_hAc hz0 hE) dL_law_2004 (fun v9 H1 hp9 hz9 hk9 => ?_)
    obtain ⟨rfl, hcase⟩ := hp9
    obtain ⟨hC1, hA1, hB1, hV1⟩ := lw_c hE hC hA hB hV hz9 hk9
    obtain ⟨hP1, g2, ho1, hg2⟩ := s_post (PO := fun H1 => CP κ H1 x Sc isoP 0 cap iv) (PX := fun H1 => CP κ H1 x Sc isoP 0 cap iv) (PR := fun H1 => CP κ H1 x Sc isoP 0 cap iv) hcase (fun h => h) (fun _ h => h)
    refine v_istore E dL_law_2007 (by rw [hL]; decide) (lv' := (5, vi 1) :: lwL x (ad 3002) oa a0 j) rfl ?_
    refine v_aload_n E 3 rfl dL_law_2009 ?_
    refine l_arg E (k := 1) ⟨by decide, by decide⟩ 5 1 rfl rfl hA1 hj hN dL_law_2010 dL_law_2011 dL_law_2013 dL_law_2014 dL_law_2015 ?_
    refine l_arg E (k := 2) ⟨by decide, by decide⟩ 5 1 rfl rfl hA1 hj hN dL_law_2016 dL_law_2017 dL_law_2019 dL_law_2020 dL_law_2021 ?_
    refine v_callV E (As := [vi (fS (j + 1)), vi (fS (j + 2))]) (b := ad 3002) (ci := 3) (C := RX4) (T := TX4) (N := 27) hB1.ho rfl (m_refine κ H1 (F := F) (hrI (j + 1)) (hrI (j + 2)) (by have := hR.few; omega) (by decide) hR.okL (hR.okK hF7) (fun j9 e9 T9 _ _ h9 => absurd h9 (Nat.not_lt_zero j9)) hI hB1 hV1) (lw_V q2137 q2138 q2139 q82 q2140) 2 (by decide +kernel) rfl (by omega) (by omega) (cb' := cb) (sb' := sb) (by omega) (by omega) rfl (rest := []) (Nat.le_of_ble_eq_true rfl) (fun q hq => lw_hAm hz0 hE q hq) dL_law_2022 (fun v10 H2 hp10 hz10 hk10 => ?_)
    rcases hp10 with ⟨d1, rfl, hB2, hV2⟩ | ⟨d1, d2⟩ | ⟨d1, d2⟩ | ⟨d1, d2⟩
    · have hF7' := hF7
      obtain ⟨hC2, hP2, hA2, ho2⟩ := lw_m hE (fun q h => h) hC1 hP1 hA1 ho1 hB1 hV1 hz10 hk10
      refine V.eq (st' := [vi (rp (0 : Int))]) (by rw [← vi_rp]; rfl) ?_
      refine v_istore E dL_law_2025 (by rw [hL]; decide) (lv' := (6, vi (rp (0 : Int))) :: (5, vi 1) :: lwL x (ad 3002) oa a0 j) rfl ?_
      exact l_tail E (by omega) (by omega) dL_law_2027 dL_law_2028 dL_law_2031 dL_law_2033 dL_law_2038 dL_law_2040 dL_law_2043 dL_law_2044 dL_law_2045 dL_law_2046 dL_law_2048 dL_law_2049 dL_law_2050 dL_law_2055 (by decide) hI hB2 ho2 rfl (by decide) (rp_r _) (fun h => absurd h (by decide)) (fun H3 hz3 hk3 => K9 H3 (lwI.kept hE ⟨hC2, hA2, ⟨g2, ho2⟩, _, isoP, _, cap, iv, _, K, F, _, _, lv, lo, hi, rt, _, _, _, _, _, hP2, hB2, hV2, hS, hR.up, hF7', hcap⟩ hz3 hk3))
    · exact absurd d1.2 (by omega)
    · exact absurd d1.2 (by omega)
    · exact absurd d1.2 (by omega)
  obtain ⟨Q, hQ, g9, hA9, _⟩ := hR.2.1 (by omega)
  have hM := c_rf κ H (hrI (j + 1)) (hrI (j + 2)) hC hQ hR.okI g9.hH2 (fun m e h1 h2 h3 => g9.hV h1 h2 h3) hR.okJ hP
  rw [vi_rp (xoRf Sc Q n iv (fS (j + 1)) (fS (j + 2))).1] at hM
  refine v_aload_n E 3 rfl dL_law_1990 ?_
  refine l_arg E (k := 1) ⟨by decide, by decide⟩ 4 0 rfl rfl hA hj hN dL_law_1991 dL_law_1992 dL_law_1994 dL_law_1995 dL_law_1996 ?_
  refine l_arg E (k := 2) ⟨by decide, by decide⟩ 4 0 rfl rfl hA hj hN dL_law_1997 dL_law_1998 dL_law_2000 dL_law_2001 dL_law_2002 ?_
  refine v_aload_n E 1 rfl dL_law_2003 ?_
  refine v_callSK E X9 (As := [.ref x, vi (fS (j + 1)), vi (fS (j + 2)), .ref oa]) (w_refine κ H hx ho (fun _ => rp_r _) hoA hM (hk_CP hD)) (lw_SW q1724 q1725 q69 q1726) 4 (by decide +kernel) rfl (by omega) (by omega) (cb' := cb + 4) (sb' := sb + 512) (by omega) (by omega) rfl (rest := []) (Nat.le_of_ble_eq_true rfl) (lw_hAc hz0 hE) dL_law_2004 (fun v9 H1 hp9 hz9 hk9 => ?_)
  obtain ⟨rfl, hcase⟩ := hp9
  obtain ⟨hC1, hA1, hB1, hV1⟩ := lw_c hE hC hA hB hV hz9 hk9
  obtain ⟨hW, g2, ho1, hg2⟩ := s_post2 (PO := fun H1 => CP κ H1 x Sc isoP n cap (va_up iv (fS (j + 1)).toNat (xrV Q (iv (fS (j + 1)).toNat) (fS (j + 2)).toNat))) (PX := fun H1 => CP κ H1 x Sc isoP n cap iv) hcase
  refine v_istore E dL_law_2007 (by rw [hL]; decide) (lv' := (5, vi (xoRf Sc Q n iv (fS (j + 1)) (fS (j + 2))).2.1) :: lwL x (ad 3002) oa a0 j) rfl ?_
  refine v_aload_n E 3 rfl dL_law_2009 ?_
  refine l_arg E (k := 1) ⟨by decide, by decide⟩ 5 1 rfl rfl hA1 hj hN dL_law_2010 dL_law_2011 dL_law_2013 dL_law_2014 dL_law_2015 ?_
  refine l_arg E (k := 2) ⟨by decide, by decide⟩ 5 1 rfl rfl hA1 hj hN dL_law_2016 dL_law_2017 dL_law_2019 dL_law_2020 dL_law_2021 ?_
  refine v_callV E (As := [vi (fS (j + 1)), vi (fS (j + 2))]) (b := ad 3002) (ci := 3) (C := RX4) (T := TX4) (N := 27) hB1.ho rfl (m_refine κ H1 (F := F) (hrI (j + 1)) (hrI (j + 2)) (by have := hR.few; omega) (by decide) hR.okL (hR.okK hF7) (fun j9 e9 T9 _ hT9 h9 h19 hne9 h129 he9 => (hR.ref (F1 := F) hQ h9 h19 (by omega) he9).1) hI hB1 hV1) (lw_V q2137 q2138 q2139 q82 q2140) 2 (by decide +kernel) rfl (by omega) (by omega) (cb' := cb) (sb' := sb) (by omega) (by omega) rfl (rest := []) (Nat.le_of_ble_eq_true rfl) (fun q hq => lw_hAm hz0 hE q hq) dL_law_2022 (fun v10 H2 hp10 hz10 hk10 => ?_)
  rcases hp10 with ⟨d1, rfl, hB2, hV2⟩ | ⟨d1, d2, rfl, hB2, hV2⟩ | ⟨d1, d2, d3, rfl, hB2, hV2⟩ | ⟨d1, d2, d3, e, lv2, lo2, hi2, rt2, P1, f1, g1, he, rfl, hF1, hB2, hV2, l1, l2, l3, l4, hlists⟩
  · have ex : (xoRf Sc Q n iv (fS (j + 1)) (fS (j + 2))).2.1 = 1 := by unfold xoRf; rw [if_neg d1]
    have hP1 := hW.2 (by rw [ex]; decide)
    obtain ⟨hC2, hP2, hA2, ho2⟩ := lw_m hE (fun q h => h) hC1 hP1 hA1 ho1 hB1 hV1 hz10 hk10
    have hF7' := hF7
    refine V.eq (st' := [vi (rp (0 : Int))]) (by rw [← vi_rp]; rfl) ?_
    refine v_istore E dL_law_2025 (by rw [hL]; decide) (lv' := (6, vi (rp (0 : Int))) :: (5, vi (xoRf Sc Q n iv (fS (j + 1)) (fS (j + 2))).2.1) :: lwL x (ad 3002) oa a0 j) rfl ?_
    exact l_tail E (by omega) (by omega) dL_law_2027 dL_law_2028 dL_law_2031 dL_law_2033 dL_law_2038 dL_law_2040 dL_law_2043 dL_law_2044 dL_law_2045 dL_law_2046 dL_law_2048 dL_law_2049 dL_law_2050 dL_law_2055 (by decide) hI hB2 ho2 ex (by rw [ex]; decide) (rp_r _) (fun h => by rw [ex] at h; exact absurd h (by decide)) (fun H3 hz3 hk3 => K9 H3 (lwI.kept hE ⟨hC2, hA2, ⟨g2, ho2⟩, _, isoP, _, cap, iv, _, K, F, _, _, lv, lo, hi, rt, _, _, _, _, _, hP2, hB2, hV2, hS, hR.up, hF7', hcap⟩ hz3 hk3))
  · have ex : (xoRf Sc Q n iv (fS (j + 1)) (fS (j + 2))).2.1 = 2 := by unfold xoRf; rw [if_pos d1, if_neg d2]
    have hP1 := hW.2 (by rw [ex]; decide)
    obtain ⟨hC2, hP2, hA2, ho2⟩ := lw_m hE (fun q h => h) hC1 hP1 hA1 ho1 hB1 hV1 hz10 hk10
    have hF7' := hF7
    refine V.eq (st' := [vi (rp (0 : Int))]) (by rw [← vi_rp]; rfl) ?_
    refine v_istore E dL_law_2025 (by rw [hL]; decide) (lv' := (6, vi (rp (0 : Int))) :: (5, vi (xoRf Sc Q n iv (fS (j + 1)) (fS (j + 2))).2.1) :: lwL x (ad 3002) oa a0 j) rfl ?_
    exact l_tail E (by omega) (by omega) dL_law_2027 dL_law_2028 dL_law_2031 dL_law_2033 dL_law_2038 dL_law_2040 dL_law_2043 dL_law_2044 dL_law_2045 dL_law_2046 dL_law_2048 dL_law_2049 dL_law_2050 dL_law_2055 (by decide) hI hB2 ho2 ex (by rw [ex]; decide) (rp_r _) (fun h => by rw [ex] at h; exact absurd h (by decide)) (fun H3 hz3 hk3 => K9 H3 (lwI.kept hE ⟨hC2, hA2, ⟨g2, ho2⟩, _, isoP, _, cap, iv, _, K, F, _, _, lv, lo, hi, rt, _, _, _, _, _, hP2, hB2, hV2, hS, hR.up, hF7', hcap⟩ hz3 hk3))
  · have ei := (hR.2.2.1 (fS (j + 1)).toNat (by omega)).1
    have ex : (xoRf Sc Q n iv (fS (j + 1)) (fS (j + 2))).2.1 = 3 := by unfold xoRf; rw [if_pos d1, if_pos d2, ei, if_pos d3]
    have hP1 := hW.2 (by rw [ex]; decide)
    obtain ⟨hC2, hP2, hA2, ho2⟩ := lw_m hE (fun q h => h) hC1 hP1 hA1 ho1 hB1 hV1 hz10 hk10
    have hF7' := hF7
    refine V.eq (st' := [vi (rp (0 : Int))]) (by rw [← vi_rp]; rfl) ?_
    refine v_istore E dL_law_2025 (by rw [hL]; decide) (lv' := (6, vi (rp (0 : Int))) :: (5, vi (xoRf Sc Q n iv (fS (j + 1)) (fS (j + 2))).2.1) :: lwL x (ad 3002) oa a0 j) rfl ?_
    exact l_tail E (by omega) (by omega) dL_law_2027 dL_law_2028 dL_law_2031 dL_law_2033 dL_law_2038 dL_law_2040 dL_law_2043 dL_law_2044 dL_law_2045 dL_law_2046 dL_law_2048 dL_law_2049 dL_law_2050 dL_law_2055 (by decide) hI hB2 ho2 ex (by rw [ex]; decide) (rp_r _) (fun h => by rw [ex] at h; exact absurd h (by decide)) (fun H3 hz3 hk3 => K9 H3 (lwI.kept hE ⟨hC2, hA2, ⟨g2, ho2⟩, _, isoP, _, cap, iv, _, K, F, _, _, lv, lo, hi, rt, _, _, _, _, _, hP2, hB2, hV2, hS, hR.up, hF7', hcap⟩ hz3 hk3))
  · have hjn : (fS (j + 1)).toNat < n := by omega
    have ei := (hR.2.2.1 (fS (j + 1)).toNat hjn).1
    have h1 : rt (fS (j + 1)).toNat = 1 := by omega
    obtain ⟨_, erf, exr, hb⟩ := hR.ref (F1 := F) (t := (fS (j + 2)).toNat) hQ hjn h1 (by omega) he
    have ex : (xoRf Sc Q n iv (fS (j + 1)) (fS (j + 2))).2.1 = 0 := by unfold xoRf; rw [if_pos d1, if_pos d2, ei, if_neg d3]
    have ea : (xoRf Sc Q n iv (fS (j + 1)) (fS (j + 2))).1 = (xrV Q (iv (fS (j + 1)).toNat) (fS (j + 2)).toNat).1 := by unfold xoRf; rw [if_pos d1, if_pos d2, ei, if_neg d3]; rfl
    have et : ((xrV Q (iv (fS (j + 1)).toNat) (fS (j + 2)).toNat).1.toNat : Int) = (xrV Q (iv (fS (j + 1)).toNat) (fS (j + 2)).toNat).1 := by rw [exr]; omega
    rw [erf] at l1 l2 l3 l4
    have hP1 := hW.1 ex
    obtain ⟨hC2, hP2, hA2, ho2⟩ := lw_m hE (fun q h => h) hC1 hP1 hA1 ho1 hB1 hV1 hz10 hk10
    have hR2 := hb lv2 lo2 hi2 rt2 eq7.rfl' (l1.trans et) l2 l3 l4 hlists
    refine V.eq (st' := [vi (rp (((rfS K F (fS (j + 2)).toNat e (lo (fS (j + 1)).toNat) (hi (fS (j + 1)).toNat) (rt (fS (j + 1)).toNat)).1 : Nat) : Int))]) (by rw [← vi_rp]; rfl) ?_
    refine v_istore E dL_law_2025 (by rw [hL]; decide) (lv' := (6, vi (rp (((rfS K F (fS (j + 2)).toNat e (lo (fS (j + 1)).toNat) (hi (fS (j + 1)).toNat) (rt (fS (j + 1)).toNat)).1 : Nat) : Int))) :: (5, vi (xoRf Sc Q n iv (fS (j + 1)) (fS (j + 2))).2.1) :: lwL x (ad 3002) oa a0 j) rfl ?_
    exact l_tail E (by omega) (by omega) dL_law_2027 dL_law_2028 dL_law_2031 dL_law_2033 dL_law_2038 dL_law_2040 dL_law_2043 dL_law_2044 dL_law_2045 dL_law_2046 dL_law_2048 dL_law_2049 dL_law_2050 dL_law_2055 (by decide) hI hB2 ho2 ex (by rw [ex]; decide) (rp_r _) (fun h => by rw [hg2 h, ea, erf]; exact congrArg rp et.symm) (fun H3 hz3 hk3 => K9 H3 (lwI.kept hE ⟨hC2, hA2, ⟨g2, ho2⟩, _, isoP, _, cap, _, _, K, F, _, _, lv2, lo2, hi2, rt2, _, _, _, _, _, hP2, hB2, hV2, hS, hR2.up, hF1, hcap⟩ hz3 hk3))
set_option maxHeartbeats 400000 in
/-- multiplicity -/
theorem l_multiplicity {z : zT} {κ : zK} {ad : Nat → Nat} {a1 a2 a3 a4 x oa a0 N c j fr lo9 : Nat} {fS : Nat → Int} {H : Heap} {cb sb : Nat} (E : zOK z cL_law RX0 κ fr lo9 (some .boolean)) (X9 : zLw z) (hfr : 30 ≤ fr) (hlo : 700 ≤ lo9) (hz0 : z.H0.size ≤ κ.2 93) (hL : z.nL = 8) (hE : lwE κ ad a1 a2 a3 a4 oa a0) (hrI : ∀ k, rI (fS k)) (h : lwI κ ad a1 a2 a3 a4 x oa a0 N fS c H) (hc : c < 42) (hj : j + 6 ≤ N) (hN : N ≤ 252) (K9 : ∀ H1 : Heap, lwI κ ad a1 a2 a3 a4 x oa a0 N fS (c + 1) H1 → V z H1 cb sb 2204 (lwL x (ad 3002) oa a0 j) []) : V z H (cb + 28500) (sb + 129000) 2071 (lwL x (ad 3002) oa a0 j) [] := by
  obtain ⟨hC, hA, ⟨g0, ho⟩, Sc, isoP, n, cap, iv, Sm, K, F, many, thr, lv, lo, hi, rt, P, f, g, mk, len, hP, hB, hV, hS, hR, hF7, hcap⟩ := h
  obtain ⟨hI, hreg, hou, h0⟩ := id hE
  have hD := hC.D
  obtain ⟨fsx, hx⟩ := hP.hx
  have hoA : ¬ pA κ H oa := mK.pA hD (Or.inr (Or.inl ⟨1, g0, ho⟩))
  have hmn := hR.1
  subst hmn
  by_cases hn0 : n = 0
  · subst hn0
    have hM := (c_mu0 κ H (hrI (j + 1)) hC hP).mono (post' := fun v H1 => (1 : Int) = 0 ∧ v = some (vi (rp 0)) ∧ CP κ H1 x Sc isoP 0 cap iv) (postX' := fun C H1 => (C = "java/lang/IndexOutOfBoundsException" ∧ (1 : Int) = 1 ∨ C = "java/lang/IllegalStateException" ∧ (1 : Int) = 2) ∧ CP κ H1 x Sc isoP 0 cap iv) (fun v H1 h => h.elim) (fun C H1 h => ⟨Or.inl ⟨h.1, rfl⟩, h.2⟩)
    refine v_aload_n E 3 rfl dL_law_2071 ?_
    refine l_arg E (k := 1) ⟨by decide, by decide⟩ 4 0 rfl rfl hA hj hN dL_law_2072 dL_law_2073 dL_law_2075 dL_law_2076 dL_law_2077 ?_
    refine v_aload_n E 1 rfl dL_law_2078 ?_
    refine v_callSK E X9 (As := [.ref x, vi (fS (j + 1)), .ref oa]) (w_multiplicity κ H hx ho (fun _ => rp_r _) hoA hM (hk_CP hD)) (lw_SW q1731 q1732 q69 q1733) 3 (by decide +kernel) rfl (by omega) (by omega) (cb' := cb + 4) (sb' := sb + 512) (by omega) (by omega) rfl (rest := []) (Nat.le_of_ble_eq_true rfl) (lw_hAc hz0 hE) dL_law_2079 (fun v9 H1 hp9 hz9 hk9 => ?_)
    obtain ⟨rfl, hcase⟩ := hp9
    obtain ⟨hC1, hA1, hB1, hV1⟩ := lw_c hE hC hA hB hV hz9 hk9
    obtain ⟨hP1, g2, ho1, hg2⟩ := s_post (PO := fun H1 => CP κ H1 x Sc isoP 0 cap iv) (PX := fun H1 => CP κ H1 x Sc isoP 0 cap iv) (PR := fun H1 => CP κ H1 x Sc isoP 0 cap iv) hcase (fun h => h) (fun _ h => h)
    refine v_istore E dL_law_2082 (by rw [hL]; decide) (lv' := (5, vi 1) :: lwL x (ad 3002) oa a0 j) rfl ?_
    refine v_aload_n E 3 rfl dL_law_2084 ?_
    refine l_arg E (k := 1) ⟨by decide, by decide⟩ 5 1 rfl rfl hA1 hj hN dL_law_2085 dL_law_2086 dL_law_2088 dL_law_2089 dL_law_2090 ?_
    refine v_callV E (As := [vi (fS (j + 1))]) (b := ad 3002) (ci := 3) (C := RX4) (T := TX4) (N := 27) hB1.ho rfl (m_multiplicity κ H1 (hrI (j + 1)) (by have := hR.few; omega) (by decide) hR.okL (fun j9 h9 => (hR.2.2.1 j9 h9).2.2.2.1) (fun h9 => ⟨(hR.okK hF7 h9).1, (hR.okK hF7 h9).2.1, trivial⟩) (fun j9 e9 _ h9 => absurd h9 (Nat.not_lt_zero j9)) hI hB1 hV1) (lw_V q2145 q2146 q2147 q82 q2148) 1 (by decide +kernel) rfl (by omega) (by omega) (cb' := cb) (sb' := sb) (by omega) (by omega) rfl (rest := []) (Nat.le_of_ble_eq_true rfl) (fun q hq => lw_hAm hz0 hE q (Or.inl hq)) dL_law_2091 (fun v10 H2 hp10 hz10 hk10 => ?_)
    rcases hp10 with ⟨d1, rfl, hB2, hV2⟩ | ⟨d1, d2⟩ | ⟨d1, d2⟩
    · have hF7' := hF7
      obtain ⟨hC2, hP2, hA2, ho2⟩ := lw_m hE (A := AH ad) (fun q h => Or.inl h) hC1 hP1 hA1 ho1 hB1 hV1 hz10 hk10
      refine V.eq (st' := [vi (rp (0 : Int))]) (by rw [← vi_rp]; rfl) ?_
      refine v_istore E dL_law_2094 (by rw [hL]; decide) (lv' := (6, vi (rp (0 : Int))) :: (5, vi 1) :: lwL x (ad 3002) oa a0 j) rfl ?_
      exact l_tail E (by omega) (by omega) dL_law_2096 dL_law_2097 dL_law_2100 dL_law_2102 dL_law_2107 dL_law_2109 dL_law_2112 dL_law_2113 dL_law_2114 dL_law_2115 dL_law_2117 dL_law_2118 dL_law_2119 dL_law_2124 (by decide) hI hB2 ho2 rfl (by decide) (rp_r _) (fun h => absurd h (by decide)) (fun H3 hz3 hk3 => K9 H3 (lwI.kept hE ⟨hC2, hA2, ⟨g2, ho2⟩, _, isoP, _, cap, iv, _, K, F, _, _, lv, lo, hi, rt, _, _, _, _, _, hP2, hB2, hV2, hS, hR.up, hF7', hcap⟩ hz3 hk3))
    · exact absurd d1.2 (by omega)
    · exact absurd d1.2 (by omega)
  obtain ⟨Q, hQ, g9, hA9, _⟩ := hR.2.1 (by omega)
  have hM := c_mu κ H (hrI (j + 1)) hC hQ hR.okI ⟨g9.hQ.1, g9.hQ.2.1, g9.hQ.2.2.1⟩ g9.hMl hP
  rw [vi_rp (xoMu Sc Q n iv (fS (j + 1))).1] at hM
  have hR9 : (xoMu Sc Q n iv (fS (j + 1))).2.2 = Sc := by unfold xoMu; split; split; rfl; rfl; rfl
  rw [hR9] at hM
  refine v_aload_n E 3 rfl dL_law_2071 ?_
  refine l_arg E (k := 1) ⟨by decide, by decide⟩ 4 0 rfl rfl hA hj hN dL_law_2072 dL_law_2073 dL_law_2075 dL_law_2076 dL_law_2077 ?_
  refine v_aload_n E 1 rfl dL_law_2078 ?_
  refine v_callSK E X9 (As := [.ref x, vi (fS (j + 1)), .ref oa]) (w_multiplicity κ H hx ho (fun _ => rp_r _) hoA hM (hk_CP hD)) (lw_SW q1731 q1732 q69 q1733) 3 (by decide +kernel) rfl (by omega) (by omega) (cb' := cb + 4) (sb' := sb + 512) (by have := mu_c; omega) (by have := mu_l; omega) rfl (rest := []) (Nat.le_of_ble_eq_true rfl) (lw_hAc hz0 hE) dL_law_2079 (fun v9 H1 hp9 hz9 hk9 => ?_)
  obtain ⟨rfl, hcase⟩ := hp9
  obtain ⟨hC1, hA1, hB1, hV1⟩ := lw_c hE hC hA hB hV hz9 hk9
  obtain ⟨hP1, g2, ho1, hg2⟩ := s_post (PO := fun H1 => CP κ H1 x Sc isoP n cap iv) (PX := fun H1 => CP κ H1 x Sc isoP n cap iv) (PR := fun H1 => CP κ H1 x Sc isoP n cap iv) hcase (fun h => h) (fun _ h => h)
  refine v_istore E dL_law_2082 (by rw [hL]; decide) (lv' := (5, vi (xoMu Sc Q n iv (fS (j + 1))).2.1) :: lwL x (ad 3002) oa a0 j) rfl ?_
  refine v_aload_n E 3 rfl dL_law_2084 ?_
  refine l_arg E (k := 1) ⟨by decide, by decide⟩ 5 1 rfl rfl hA1 hj hN dL_law_2085 dL_law_2086 dL_law_2088 dL_law_2089 dL_law_2090 ?_
  refine v_callV E (As := [vi (fS (j + 1))]) (b := ad 3002) (ci := 3) (C := RX4) (T := TX4) (N := 27) hB1.ho rfl (m_multiplicity κ H1 (hrI (j + 1)) (by have := hR.few; omega) (by decide) hR.okL (fun j9 h9 => (hR.2.2.1 j9 h9).2.2.2.1) (fun h9 => ⟨(hR.okK hF7 h9).1, (hR.okK hF7 h9).2.1, trivial⟩) (fun j9 d9 _ h9 h19 he9 => (hR.mul hQ h9 he9).1) hI hB1 hV1) (lw_V q2145 q2146 q2147 q82 q2148) 1 (by decide +kernel) rfl (by omega) (by omega) (cb' := cb) (sb' := sb) (by omega) (by omega) rfl (rest := []) (Nat.le_of_ble_eq_true rfl) (fun q hq => lw_hAm hz0 hE q (Or.inl hq)) dL_law_2091 (fun v10 H2 hp10 hz10 hk10 => ?_)
  rcases hp10 with ⟨d1, rfl, hB2, hV2⟩ | ⟨d1, d2, rfl, hB2, hV2⟩ | ⟨d1, d2, d, P1, f1, g1, hd, rfl, hF1, hB2, hV2⟩
  · have ex : (xoMu Sc Q n iv (fS (j + 1))).2.1 = 1 := by unfold xoMu; rw [if_neg d1]
    obtain ⟨hC2, hP2, hA2, ho2⟩ := lw_m hE (A := AH ad) (fun q h => Or.inl h) hC1 hP1 hA1 ho1 hB1 hV1 hz10 hk10
    have hF7' := hF7
    refine V.eq (st' := [vi (rp (0 : Int))]) (by rw [← vi_rp]; rfl) ?_
    refine v_istore E dL_law_2094 (by rw [hL]; decide) (lv' := (6, vi (rp (0 : Int))) :: (5, vi (xoMu Sc Q n iv (fS (j + 1))).2.1) :: lwL x (ad 3002) oa a0 j) rfl ?_
    exact l_tail E (by omega) (by omega) dL_law_2096 dL_law_2097 dL_law_2100 dL_law_2102 dL_law_2107 dL_law_2109 dL_law_2112 dL_law_2113 dL_law_2114 dL_law_2115 dL_law_2117 dL_law_2118 dL_law_2119 dL_law_2124 (by decide) hI hB2 ho2 ex (by rw [ex]; decide) (rp_r _) (fun h => by rw [ex] at h; exact absurd h (by decide)) (fun H3 hz3 hk3 => K9 H3 (lwI.kept hE ⟨hC2, hA2, ⟨g2, ho2⟩, _, isoP, _, cap, iv, _, K, F, _, _, lv, lo, hi, rt, _, _, _, _, _, hP2, hB2, hV2, hS, hR.up, hF7', hcap⟩ hz3 hk3))
  · have ei := (hR.2.2.1 (fS (j + 1)).toNat (by omega)).1
    have ex : (xoMu Sc Q n iv (fS (j + 1))).2.1 = 2 := by unfold xoMu; rw [if_pos d1, ei, if_neg d2]
    obtain ⟨hC2, hP2, hA2, ho2⟩ := lw_m hE (A := AH ad) (fun q h => Or.inl h) hC1 hP1 hA1 ho1 hB1 hV1 hz10 hk10
    have hF7' := hF7
    refine V.eq (st' := [vi (rp (0 : Int))]) (by rw [← vi_rp]; rfl) ?_
    refine v_istore E dL_law_2094 (by rw [hL]; decide) (lv' := (6, vi (rp (0 : Int))) :: (5, vi (xoMu Sc Q n iv (fS (j + 1))).2.1) :: lwL x (ad 3002) oa a0 j) rfl ?_
    exact l_tail E (by omega) (by omega) dL_law_2096 dL_law_2097 dL_law_2100 dL_law_2102 dL_law_2107 dL_law_2109 dL_law_2112 dL_law_2113 dL_law_2114 dL_law_2115 dL_law_2117 dL_law_2118 dL_law_2119 dL_law_2124 (by decide) hI hB2 ho2 ex (by rw [ex]; decide) (rp_r _) (fun h => by rw [ex] at h; exact absurd h (by decide)) (fun H3 hz3 hk3 => K9 H3 (lwI.kept hE ⟨hC2, hA2, ⟨g2, ho2⟩, _, isoP, _, cap, iv, _, K, F, _, _, lv, lo, hi, rt, _, _, _, _, _, hP2, hB2, hV2, hS, hR.up, hF7', hcap⟩ hz3 hk3))
  · have ei := (hR.2.2.1 (fS (j + 1)).toNat (by omega)).1
    obtain ⟨hC2, hP2, hA2, ho2⟩ := lw_m hE (A := AH ad) (fun q h => Or.inl h) hC1 hP1 hA1 ho1 hB1 hV1 hz10 hk10
    have ex : (xoMu Sc Q n iv (fS (j + 1))).2.1 = 0 := by unfold xoMu; rw [if_pos d1, ei, if_pos d2]
    have em := (hR.mul hQ (show (fS (j + 1)).toNat < n by omega) hd).2
    have ea : (xoMu Sc Q n iv (fS (j + 1))).1 = muF d (lo (fS (j + 1)).toNat) (hi (fS (j + 1)).toNat) 8 K := by unfold xoMu; rw [if_pos d1, em]; rw [if_pos (show (iv (fS (j + 1)).toNat).2.2.2 = 1 by rw [ei]; exact d2)]
    have hF7' := hF1.trans' hF7
    refine V.eq (st' := [vi (rp (muF d (lo (fS (j + 1)).toNat) (hi (fS (j + 1)).toNat) 8 K))]) (by rw [← vi_rp]; rfl) ?_
    refine v_istore E dL_law_2094 (by rw [hL]; decide) (lv' := (6, vi (rp (muF d (lo (fS (j + 1)).toNat) (hi (fS (j + 1)).toNat) 8 K))) :: (5, vi (xoMu Sc Q n iv (fS (j + 1))).2.1) :: lwL x (ad 3002) oa a0 j) rfl ?_
    exact l_tail E (by omega) (by omega) dL_law_2096 dL_law_2097 dL_law_2100 dL_law_2102 dL_law_2107 dL_law_2109 dL_law_2112 dL_law_2113 dL_law_2114 dL_law_2115 dL_law_2117 dL_law_2118 dL_law_2119 dL_law_2124 (by decide) hI hB2 ho2 ex (by rw [ex]; decide) (rp_r _) (fun h => by rw [hg2 h, ea]) (fun H3 hz3 hk3 => K9 H3 (lwI.kept hE ⟨hC2, hA2, ⟨g2, ho2⟩, _, isoP, _, cap, iv, _, K, F, _, _, lv, lo, hi, rt, _, _, _, _, _, hP2, hB2, hV2, hS, hR.up, hF7', hcap⟩ hz3 hk3))
