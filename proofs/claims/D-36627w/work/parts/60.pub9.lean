set_option maxHeartbeats 400000 in
set_option maxRecDepth 100000 in
/-- the distinct roots between two points -/
theorem m_distinct (κ : zK) (H0 : Heap) {ad : Nat → Nat} {P : Nat → Nat → Int} {f g mk : Nat → Int} {S : Nat → Nat → Int} {K : Nat → Int} {thr len many : Int} {a1 a2 a3 a4 : Nat} {n k m l : Int} {p : Nat → Int} (hn1 : -1000000 ≤ n ∧ n ≤ 1000000) (hm1 : -1000000 ≤ m ∧ m ≤ 1000000) (hk1 : 0 ≤ k ∧ k ≤ 12) (hl1 : 0 ≤ l ∧ l ≤ 12) (he6 : eq7 (P 6) p) (hok : okDst p n k m l) (hI : Inj ad) (hB : MB κ ad P f g mk S K thr len many a1 a2 a3 a4 H0) : Mt κ yX4_distinct cX4_distinct 6 (some .int) 7 164 0 0 H0 [.ref (ad 3002), vi n, vi k, vi m, vi l] (AH ad) (fun v H1 => v = some (vi (dstF p n k m l : Int)) ∧ ∃ (P1 : Nat → Nat → Int) (f1 g1 : Nat → Int), eq7 (P1 7) (P 7) ∧ eq7 (P1 6) p ∧ eq7 (P1 3) (freeD p) ∧ MB κ ad P1 f1 g1 mk S K thr len many a1 a2 a3 a4 H1) := by
  refine Mt.of (by decide) (Nat.le_of_ble_eq_true rfl) ?_
  intro z E hE hH0 hA0 hL hini
  have hAll : ∀ q, (AH ad) q → zA z.A z.H0 q := fun q h => Or.inl (by rw [hA0]; exact h)
  have hNew : ∀ q, H0.size ≤ q → zA z.A z.H0 q := fun q h => Or.inr (by rw [hH0]; exact h)
  have E : zOK z cX4_distinct RX4 κ 7 164 (some .int) := E
  refine V.eqL (lv' := [(0, .ref (ad 3002)), (1, vi n), (2, vi k), (3, vi m), (4, vi l)]) rfl ?_
  refine v_iload_n E 2 rfl dX4_distinct_0 ?_
  refine v_iload E 4 rfl dX4_distinct_1 ?_
  refine v_mmax E ⟨by omega, by omega⟩ ⟨by omega, by omega⟩ q1964 q228 q80 q229 (by decide) (Nat.le_of_ble_eq_true rfl) dX4_distinct_3 ?_
  refine v_istore E dX4_distinct_6 (zlt hL rfl) (lv' := [(5, vi (max k l)), (0, .ref (ad 3002)), (1, vi n), (2, vi k), (3, vi m), (4, vi l)]) rfl ?_
  refine v_aload_n E 1 rfl dX4_distinct_8 ?_
  refine v_aload_n E 1 rfl dX4_distinct_9 ?_
  refine v_getf E in_X4 hB.ho (ci := 3) rfl 17 (by decide) q1777 rfl (v := .ref (ad (2000 + 6))) rfl dX4_distinct_10 ?_
  have hS6 : eq7 (pget (bk P f) 6) p := bk_get.trans he6
  refine v_callV E (As := [.ref (ad (2000 + 6))]) (b := (ad 3002)) (ci := 3) (C := RX4) (T := TX4) (N := 27) hB.ho rfl (m_findFree κ H0 hI hB.ms hB.ns hB.ho (fitFree_congr0 hok.1.2 hS6.symm hok.1.1) (okD_congr hS6.symm hok.1.2)) (lw_V q2010 q2012 qs58 q82 q2013) 1 (by decide +kernel) rfl (by decide) (by decide) (cb' := 0) (sb' := 0) (by decide) (by decide) rfl (rest := []) (Nat.le_of_ble_eq_true rfl) (fun q h => hAll q (AH.N q h)) dX4_distinct_13 (fun v_1 H_2 hpost_3 hz_4 hk_5 => ?_)
  clear hz_4
  obtain ⟨rfl, r0, r1, r2, f0, hN_6⟩ := hpost_3
  have hN_7 : NS κ ad (bk (va_up (va_up (va_up (va_up (va_up P 0 r0) 1 r1) 2 r2) 3 (freeD p)) 4 (freeR p)) f0) H_2 := (by exact NS.ofBk hN_6 (va_upPm (va_upPm (va_upPm (va_upPm (va_upPm (fun m _ => bk_get) eq7.rfl') eq7.rfl') eq7.rfl') (drv_congr2 hS6)) (freeR_congr hok.1 hS6)) (fun _ _ => rfl))
  have hB_8 : MB κ ad (va_up (va_up (va_up (va_up (va_up P 0 r0) 1 r1) 2 r2) 3 (freeD p)) 4 (freeR p)) f0 g mk S K thr len many a1 a2 a3 a4 H_2 := hB.num hI hk_5 hN_7
  refine V.eq (st' := []) rfl ?_
  refine v_aload_n E 1 rfl dX4_distinct_16 ?_
  refine v_aload_n E 1 rfl dX4_distinct_17 ?_
  refine v_getf E in_X4 hB_8.ho (ci := 3) rfl 12 (by decide) q1772 rfl (v := .ref (ad (2000 + 4))) rfl dX4_distinct_18 ?_
  refine v_iload_n E 2 rfl dX4_distinct_21 ?_
  refine v_i2l E ⟨by omega, by omega⟩ dX4_distinct_22 ?_
  refine v_iload E 0 rfl dX4_distinct_23 ?_
  refine v_iload_n E 3 rfl dX4_distinct_25 ?_
  refine v_isub E dX4_distinct_26 ?_
  refine V.topi (x' := (((max k l - k).toNat : Nat) : Int)) (congrArg iZ (by omega)) ?_
  refine v_lshl E (max k l - k).toNat (by omega) dX4_distinct_27 ?_
  refine v_iload_n E 4 rfl dX4_distinct_28 ?_
  refine v_i2l E ⟨by omega, by omega⟩ dX4_distinct_29 ?_
  refine v_iload E 0 rfl dX4_distinct_30 ?_
  refine v_iload E 5 rfl dX4_distinct_32 ?_
  refine v_isub E dX4_distinct_34 ?_
  refine V.topi (x' := (((max k l - l).toNat : Nat) : Int)) (congrArg iZ (by omega)) ?_
  refine v_lshl E (max k l - l).toNat (by omega) dX4_distinct_35 ?_
  refine v_iload E 0 rfl dX4_distinct_36 ?_
  refine V.topi (x' := (((max k l).toNat : Nat) : Int)) (congrArg iZ (by omega)) ?_
  have hg4 : eq7 (pget (bk (va_up (va_up (va_up (va_up (va_up P 0 r0) 1 r1) 2 r2) 3 (freeD p)) 4 (freeR p)) f0) 4) (freeR p) := bk_get
  have hin := ds_in hn1 hm1 hk1 hl1
  have hdp := pdeg_in (freeR p)
  have h0R := hok.2.1
  have hho : ∀ k9, k9 ≤ (pdeg (freeR p)).toNat → hoP (pget (bk (va_up (va_up (va_up (va_up (va_up P 0 r0) 1 r1) 2 r2) 3 (freeD p)) 4 (freeR p)) f0) 4) (pdeg (freeR p)).toNat (n * 2 ^ (max k l - k).toNat) ((m * 2 ^ (max k l - l).toNat) - (n * 2 ^ (max k l - k).toNat)) (max k l).toNat ((pdeg (freeR p)).toNat + 1) k9 = dsQ p n k m l k9 := fun k9 h9 => hoP_congr (by omega) hg4 _ k9 (by omega)
  refine v_callV E (As := [.ref (ad (2000 + 4)), vj (n * 2 ^ (max k l - k).toNat), vj (m * 2 ^ (max k l - l).toNat), vi (((max k l).toNat : Nat) : Int)]) (b := (ad 3002)) (ci := 3) (C := RX4) (T := TX4) (N := 27) hB_8.ho rfl (m_between κ H_2 (j := 4) (d := (pdeg (freeR p)).toNat) (e := (max k l).toNat) (n := 158) (by decide) (by omega) hin.1 hin.2 hI hB_8.ms hB_8.ns hB_8.ho hB_8.ca (pS_congr hg4.symm (freeR_pS hok.1.1)).N (by rw [hg4.deg]; omega) (by decide) (fitB_congr 158 (fun k9 h9 => (hho k9 h9).symm) hok.2.2)) (lw_V q2068 q2070 qs63 q82 q2071) 4 (by decide +kernel) rfl (by decide) (by decide) (cb' := 0) (sb' := 0) (by decide) (by decide) rfl (rest := []) (Nat.le_of_ble_eq_true rfl) (fun q h => hAll q (AH.B q h)) dX4_distinct_38 (fun v_9 H_10 hpost_11 hz_12 hk_13 => ?_)
  clear hz_12
  obtain ⟨rfl, P2, f2, g2, hP2, hN9, hc9⟩ := hpost_11
  have hB_14 : MB κ ad P2 f2 g2 mk S K thr len many a1 a2 a3 a4 H_10 := hB_8.btw hI hk_13 hN9 hc9
  refine V.eq (st' := [vi (dstF p n k m l : Int)]) (by rw [cnB_congr 158 hho]; rfl) ?_
  refine v_iret E hE dX4_distinct_41 ?_
  exact ⟨rfl, P2, f2, g2, (hP2 7 (by decide) (by decide)).trans bk_get, ((hP2 6 (by decide) (by decide)).trans bk_get).trans he6, (hP2 3 (by decide) (by decide)).trans bk_get, hB_14⟩

set_option maxHeartbeats 400000 in
set_option maxRecDepth 100000 in
/-- countDistinct -/
theorem m_opCnt (κ : zK) (H0 : Heap) {ad : Nat → Nat} {P : Nat → Nat → Int} {f g mk : Nat → Int} {S : Nat → Nat → Int} {K : Nat → Int} {thr len many : Int} {a1 a2 a3 a4 : Nat} {a n k m l : Int} (ha : rI a) (hn : rI n) (hk : rI k) (hm : rI m) (hl : rI l) (hS : bS S) (hfv : (0 ≤ a ∧ a < 5) → ((-1000000 ≤ n ∧ n ≤ 1000000) ∧ (0 ≤ k ∧ k ≤ 12)) → ((-1000000 ≤ m ∧ m ≤ 1000000) ∧ (0 ≤ l ∧ l ≤ 12)) → rN (pAt (S a.toNat) n k.toNat) ∧ rN (pAt (S a.toNat) m l.toNat)) (hfit : refF S a n k m l = 0 → okDst (S a.toNat) n k m l) (hI : Inj ad) (hB : MB κ ad P f g mk S K thr len many a1 a2 a3 a4 H0) : Mt κ yX4_countDistinct cX4_countDistinct 7 (some .int) 8 189 0 0 H0 [.ref (ad 3002), vi a, vi n, vi k, vi m, vi l] (AH ad) (fun v H1 => v = some (vi (opCnt S a n k m l).1) ∧ ∃ (P1 : Nat → Nat → Int) (f1 g1 mk1 : Nat → Int) (len1 : Int), eq7 (P1 7) (P 7) ∧ MB κ ad P1 f1 g1 mk1 ((opCnt S a n k m l).2.2) K ((opCnt S a n k m l).2.1) len1 many a1 a2 a3 a4 H1) := by
  refine Mt.of (by decide) (Nat.le_of_ble_eq_true rfl) ?_
  intro z E hE hH0 hA0 hL hini
  have hAll : ∀ q, (AH ad) q → zA z.A z.H0 q := fun q h => Or.inl (by rw [hA0]; exact h)
  have hNew : ∀ q, H0.size ≤ q → zA z.A z.H0 q := fun q h => Or.inr (by rw [hH0]; exact h)
  have E : zOK z cX4_countDistinct RX4 κ 8 189 (some .int) := E
  refine V.eqL (lv' := [(0, .ref (ad 3002)), (1, vi a), (2, vi n), (3, vi k), (4, vi m), (5, vi l)]) rfl ?_
  refine v_aload_n E 0 rfl dX4_countDistinct_0 ?_
  refine v_iload_n E 1 rfl dX4_countDistinct_1 ?_
  refine v_iload_n E 2 rfl dX4_countDistinct_2 ?_
  refine v_iload_n E 3 rfl dX4_countDistinct_3 ?_
  refine v_iload E 4 rfl dX4_countDistinct_4 ?_
  refine v_iload E 5 rfl dX4_countDistinct_6 ?_
  refine v_callV E (As := [vi a, vi n, vi k, vi m, vi l]) (b := (ad 3002)) (ci := 3) (C := RX4) (T := TX4) (N := 27) hB.ho rfl (m_refused κ H0 ha hn hk hm hl hS hfv hI hB) (lw_V q2060 q2062 qs61 q82 q2063) 5 (by decide +kernel) rfl (by decide) (by decide) (cb' := 0) (sb' := 0) (by decide) (by decide) rfl (rest := []) (Nat.le_of_ble_eq_true rfl) hAll dX4_countDistinct_8 (fun v_1 H_2 hpost_3 hz_4 hk_5 => ?_)
  clear hz_4
  obtain ⟨rfl, P3, f3, hP37, hP36, hB_6⟩ := hpost_3
  have hrf := refF_in S a n k m l
  refine V.eq (st' := [vi (refF S a n k m l)]) rfl ?_
  refine v_istore E dX4_countDistinct_11 (zlt hL rfl) (lv' := [(6, vi (refF S a n k m l)), (0, .ref (ad 3002)), (1, vi a), (2, vi n), (3, vi k), (4, vi m), (5, vi l)]) rfl ?_
  refine v_iload E 0 rfl dX4_countDistinct_13 ?_
  refine v_if_le E (tgt := 27) dX4_countDistinct_15 (by decide) ⟨by omega, by omega⟩ (fun c_15 => ?_) (fun c_15 => ?_)
  · refine v_aload_n E 1 rfl dX4_countDistinct_27 ?_
    refine v_aload_n E 1 rfl dX4_countDistinct_28 ?_
    refine v_iload_n E 3 rfl dX4_countDistinct_29 ?_
    refine v_iload_n E 4 rfl dX4_countDistinct_30 ?_
    refine v_iload E 5 rfl dX4_countDistinct_31 ?_
    refine v_iload E 6 rfl dX4_countDistinct_33 ?_
    have hr0 : refF S a n k m l = 0 := by omega
    have hr1 := refF_0 hr0
    refine v_callV E (As := [vi n, vi k, vi m, vi l]) (b := (ad 3002)) (ci := 3) (C := RX4) (T := TX4) (N := 27) hB_6.ho rfl (m_distinct κ H_2 hr1.2.1.1 hr1.2.2.1.1 hr1.2.1.2 hr1.2.2.1.2 (hP36 hr0) (hfit hr0) hI hB_6) (lw_V q2064 q2066 qs62 q82 q2067) 4 (by decide +kernel) rfl (by decide) (by decide) (cb' := 0) (sb' := 0) (by decide) (by decide) rfl (rest := [.ref (ad 3002)]) (Nat.le_of_ble_eq_true rfl) hAll dX4_countDistinct_35 (fun v_7 H_8 hpost_9 hz_10 hk_11 => ?_)
    clear hz_10
    obtain ⟨rfl, P4, f4, g4, hP47, hP46, hP43, hB_12⟩ := hpost_9
    refine V.eq (st' := [vi (dstF (S a.toNat) n k m l : Int), .ref (ad 3002)]) rfl ?_
    refine v_callV E (As := [vi (dstF (S a.toNat) n k m l : Int)]) (b := (ad 3002)) (ci := 3) (C := RX4) (T := TX4) (N := 27) hB_12.ho rfl (m_tells κ H_8 hI hB_12) (lw_V q1864 q1866 qs48 q82 q1867) 1 (by decide +kernel) rfl (by decide) (by decide) (cb' := 0) (sb' := 0) (by decide) (by decide) rfl (rest := []) (Nat.le_of_ble_eq_true rfl) hAll dX4_countDistinct_38 (fun v_13 H_14 hpost_15 hz_16 hk_17 => ?_)
    clear hz_16
    obtain ⟨rfl, hB_18⟩ := hpost_15
    refine V.eq (st' := [vi (dstF (S a.toNat) n k m l : Int)]) rfl ?_
    refine v_iret E hE dX4_countDistinct_41 ?_
    have hR : opCnt S a n k m l = ((dstF (S a.toNat) n k m l : Int), 0, S) := by unfold opCnt; rw [if_neg (by omega)]
    rw [hR]; exact ⟨rfl, P4, _, _, _, _, hP47.trans hP37, hB_18⟩
  · refine v_aload_n E 1 rfl dX4_countDistinct_18 ?_
    refine v_iload E 0 rfl dX4_countDistinct_19 ?_
    refine v_callV E (As := [vi (refF S a n k m l)]) (b := (ad 3002)) (ci := 3) (C := RX4) (T := TX4) (N := 27) hB_6.ho rfl (m_fails κ H_2 hI hB_6) (lw_V q1857 q1859 qs47 q82 q1860) 1 (by decide +kernel) rfl (by decide) (by decide) (cb' := 0) (sb' := 0) (by decide) (by decide) rfl (rest := []) (Nat.le_of_ble_eq_true rfl) hAll dX4_countDistinct_21 (fun v_19 H_20 hpost_21 hz_22 hk_23 => ?_)
    clear hz_22
    obtain ⟨rfl, hB_24⟩ := hpost_21
    refine V.eq (st' := [vi 0]) rfl ?_
    refine v_goto E (tgt := 41) dX4_countDistinct_24 (by decide) ?_
    refine v_iret E hE dX4_countDistinct_41 ?_
    have hR : opCnt S a n k m l = (0, refF S a n k m l, S) := by unfold opCnt; rw [if_pos (by omega)]
    rw [hR]; exact ⟨rfl, P3, _, _, _, _, hP37, hB_24⟩
