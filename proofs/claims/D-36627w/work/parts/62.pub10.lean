set_option maxHeartbeats 400000 in
set_option maxRecDepth 100000 in
/-- distinctRoots -/
theorem m_opDR (κ : zK) (H0 : Heap) {ad : Nat → Nat} {P : Nat → Nat → Int} {f g mk : Nat → Int} {S : Nat → Nat → Int} {K : Nat → Int} {thr len many : Int} {a1 a2 a3 a4 : Nat} {a : Int} (ha : rI a) (hS : bS S) (hfit : (0 ≤ a ∧ a < 5) → 0 ≤ pdeg (S a.toNat) → okDst (S a.toNat) (-bnd (S a.toNat)) 0 (bnd (S a.toNat)) 0) (hI : Inj ad) (hB : MB κ ad P f g mk S K thr len many a1 a2 a3 a4 H0) : Mt κ yX4_distinctRoots cX4_distinctRoots 3 (some .int) 8 189 0 0 H0 [.ref (ad 3002), vi a] (AH ad) (fun v H1 => v = some (vi (opDR S a).1) ∧ ∃ (P1 : Nat → Nat → Int) (f1 g1 mk1 : Nat → Int) (len1 : Int), eq7 (P1 7) (P 7) ∧ MB κ ad P1 f1 g1 mk1 ((opDR S a).2.2) K ((opDR S a).2.1) len1 many a1 a2 a3 a4 H1) := by
  refine Mt.of (by decide) (Nat.le_of_ble_eq_true rfl) ?_
  intro z E hE hH0 hA0 hL hini
  have hAll : ∀ q, (AH ad) q → zA z.A z.H0 q := fun q h => Or.inl (by rw [hA0]; exact h)
  have hNew : ∀ q, H0.size ≤ q → zA z.A z.H0 q := fun q h => Or.inr (by rw [hH0]; exact h)
  have E : zOK z cX4_distinctRoots RX4 κ 8 189 (some .int) := E
  refine V.eqL (lv' := [(0, .ref (ad 3002)), (1, vi a)]) rfl ?_
  refine v_iload_n E 1 rfl dX4_distinctRoots_0 ?_
  refine v_callS E (As := [vi a]) (m_isSlot κ H0 (by first | assumption | decide | exact ⟨by omega, by omega⟩)) (lw_S q1851 q1852 q82 q1853) 1 (by decide +kernel) rfl (by decide) (by decide) (cb' := 0) (sb' := 0) (by decide) (by decide) rfl (rest := []) (Nat.le_of_ble_eq_true rfl) (fun q h => h.elim) dX4_distinctRoots_1 (fun v_2 H_3 hpost_4 hz_5 hk_6 => ?_)
  clear hz_5
  obtain rfl := hpost_4
  obtain ⟨b_1, hb_7, hb_7e⟩ : ∃ b9 : Int, (b9 = 0 ∧ ¬ (0 ≤ a ∧ a < 5) ∨ b9 = 1 ∧ (0 ≤ a ∧ a < 5)) ∧ (if 0 ≤ a ∧ a < 5 then 1 else 0 : Int) = b9 := by
    by_cases c : 0 ≤ a ∧ a < 5
    · exact ⟨1, Or.inr ⟨rfl, c⟩, if_pos c⟩
    · exact ⟨0, Or.inl ⟨rfl, c⟩, if_neg c⟩
  have hB_8 : MB κ ad P f g mk S K thr len many a1 a2 a3 a4 H_3 := hB.nil hk_6
  refine V.eq (st' := [vi b_1]) (by rw [hb_7e]; rfl) ?_
  refine v_if_ne E (tgt := 13) dX4_distinctRoots_4 (by decide) ⟨by omega, by omega⟩ (fun c_4 => ?_) (fun c_4 => ?_)
  · refine v_aload_n E 0 rfl dX4_distinctRoots_13 ?_
    refine v_iload_n E 1 rfl dX4_distinctRoots_14 ?_
    refine v_callV E (As := [vi a]) (b := (ad 3002)) (ci := 3) (C := RX4) (T := TX4) (N := 27) hB_8.ho rfl (m_isZero κ H_3 (by omega) hS hI hB_8) (lw_V q2006 q2008 qs57 q82 q2009) 1 (by decide +kernel) rfl (by decide) (by decide) (cb' := 0) (sb' := 0) (by decide) (by decide) rfl (rest := []) (Nat.le_of_ble_eq_true rfl) (fun q h => h.elim) dX4_distinctRoots_15 (fun v_10 H_11 hpost_12 hz_13 hk_14 => ?_)
    clear hz_13
    obtain rfl := hpost_12
    obtain ⟨b_9, hb_15, hb_15e⟩ : ∃ b9 : Int, (b9 = 0 ∧ ¬ (pdeg (S a.toNat) < 0) ∨ b9 = 1 ∧ (pdeg (S a.toNat) < 0)) ∧ (if pdeg (S a.toNat) < 0 then 1 else 0 : Int) = b9 := by
      by_cases c : pdeg (S a.toNat) < 0
      · exact ⟨1, Or.inr ⟨rfl, c⟩, if_pos c⟩
      · exact ⟨0, Or.inl ⟨rfl, c⟩, if_neg c⟩
    have hB_16 : MB κ ad P f g mk S K thr len many a1 a2 a3 a4 H_11 := hB_8.nil hk_14
    refine V.eq (st' := [vi b_9]) (by rw [hb_15e]; rfl) ?_
    refine v_if_eq E (tgt := 27) dX4_distinctRoots_18 (by decide) ⟨by omega, by omega⟩ (fun c_18 => ?_) (fun c_18 => ?_)
    · refine v_aload_n E 0 rfl dX4_distinctRoots_27 ?_
      refine v_getf E in_X4 hB_16.ho (ci := 3) rfl 1 (by decide) q1761 rfl (v := .ref (ad 3003)) rfl dX4_distinctRoots_28 ?_
      refine v_iload_n E 1 rfl dX4_distinctRoots_31 ?_
      refine v_aaldS E dX4_distinctRoots_32 (hB_16.ms).2.2.2 (t := 3) (ty := (.array .int)) rfl rfl a.toNat (by omega) (by omega) (by omega) (b := (ad (3010 + a.toNat))) rfl ?_
      refine v_aload_n E 0 rfl dX4_distinctRoots_33 ?_
      refine v_getf E in_X4 hB_16.ho (ci := 3) rfl 17 (by decide) q1777 rfl (v := .ref (ad (2000 + 6))) rfl dX4_distinctRoots_34 ?_
      refine v_callS E (As := [.ref (ad (3010 + a.toNat)), .ref (ad (2000 + 6))]) (m_load κ H_11 (hS.rI (i := a.toNat) (by omega)) (fun i hi => hI.ne (by omega)) (hB_16.sl a.toNat (by omega)) (by decide) hI hB_16.ms hB_16.ns) (lw_S q1918 q1919 q82 q1920) 2 (by decide +kernel) rfl (by decide) (by decide) (cb' := 0) (sb' := 0) (by decide) (by decide) rfl (rest := []) (Nat.le_of_ble_eq_true rfl) (fun q h => hAll q (AH.N q h)) dX4_distinctRoots_37 (fun v_17 H_18 hpost_19 hz_20 hk_21 => ?_)
      clear hz_20
      obtain ⟨rfl, hN_22⟩ := hpost_19
      have hN_23 : NS κ ad (bk (va_up P 6 (S a.toNat)) f) H_18 := hN_22.ps eq7.rfl'
      have hB_24 : MB κ ad (va_up P 6 (S a.toNat)) f g mk S K thr len many a1 a2 a3 a4 H_18 := hB_16.num hI hk_21 hN_23
      refine V.eq (st' := []) rfl ?_
      refine v_aload_n E 0 rfl dX4_distinctRoots_40 ?_
      refine v_getf E in_X4 hB_24.ho (ci := 3) rfl 1 (by decide) q1761 rfl (v := .ref (ad 3003)) rfl dX4_distinctRoots_41 ?_
      refine v_iload_n E 1 rfl dX4_distinctRoots_44 ?_
      refine v_aaldS E dX4_distinctRoots_45 (hB_24.ms).2.2.2 (t := 3) (ty := (.array .int)) rfl rfl a.toNat (by omega) (by omega) (by omega) (b := (ad (3010 + a.toNat))) rfl ?_
      have hbi := bnd_in (S a.toNat)
      have hda := pdeg_in (S a.toNat)
      refine v_callS E (As := [.ref (ad (3010 + a.toNat))]) (m_bound κ H_18 (g := (pdeg (S a.toNat)).toNat) (hS a.toNat (by omega)) (by omega) (hB_24.sl a.toNat (by omega))) (lw_S q2090 q2091 q82 q2092) 1 (by decide +kernel) rfl (by decide) (by decide) (cb' := 0) (sb' := 0) (by decide) (by decide) rfl (rest := []) (Nat.le_of_ble_eq_true rfl) (fun q h => h.elim) dX4_distinctRoots_46 (fun v_25 H_26 hpost_27 hz_28 hk_29 => ?_)
      clear hz_28
      obtain rfl := hpost_27
      have hB_30 : MB κ ad (va_up P 6 (S a.toNat)) f g mk S K thr len many a1 a2 a3 a4 H_26 := hB_24.nil hk_29
      refine V.eq (st' := [vi (bnd (S a.toNat))]) rfl ?_
      refine v_istore_n E dX4_distinctRoots_49 (zlt hL rfl) (lv' := [(2, vi (bnd (S a.toNat))), (0, .ref (ad 3002)), (1, vi a)]) rfl ?_
      refine v_aload_n E 1 rfl dX4_distinctRoots_50 ?_
      refine v_aload_n E 1 rfl dX4_distinctRoots_51 ?_
      refine v_iload_n E 0 rfl dX4_distinctRoots_52 ?_
      refine v_ineg E dX4_distinctRoots_53 ?_
      refine v_iconst E dX4_distinctRoots_54 ?_
      refine v_iload_n E 0 rfl dX4_distinctRoots_55 ?_
      refine v_iconst E dX4_distinctRoots_56 ?_
      refine v_callV E (As := [vi (-(bnd (S a.toNat))), vi 0, vi (bnd (S a.toNat)), vi 0]) (b := (ad 3002)) (ci := 3) (C := RX4) (T := TX4) (N := 27) hB_30.ho rfl (m_distinct κ H_26 (n := -bnd (S a.toNat)) (k := 0) (m := bnd (S a.toNat)) (l := 0) (p := S a.toNat) ⟨by omega, by omega⟩ ⟨by omega, by omega⟩ (by decide) (by decide) eq7.rfl' (hfit (by omega) (by omega)) hI hB_30) (lw_V q2064 q2066 qs62 q82 q2067) 4 (by decide +kernel) rfl (by decide) (by decide) (cb' := 0) (sb' := 0) (by decide) (by decide) rfl (rest := [.ref (ad 3002)]) (Nat.le_of_ble_eq_true rfl) hAll dX4_distinctRoots_57 (fun v_31 H_32 hpost_33 hz_34 hk_35 => ?_)
      clear hz_34
      obtain ⟨rfl, P4, f4, g4, hP47, hP46, hP43, hB_36⟩ := hpost_33
      refine V.eq (st' := [vi (dstF (S a.toNat) (-bnd (S a.toNat)) 0 (bnd (S a.toNat)) 0 : Int), .ref (ad 3002)]) rfl ?_
      refine v_callV E (As := [vi (dstF (S a.toNat) (-bnd (S a.toNat)) 0 (bnd (S a.toNat)) 0 : Int)]) (b := (ad 3002)) (ci := 3) (C := RX4) (T := TX4) (N := 27) hB_36.ho rfl (m_tells κ H_32 hI hB_36) (lw_V q1864 q1866 qs48 q82 q1867) 1 (by decide +kernel) rfl (by decide) (by decide) (cb' := 0) (sb' := 0) (by decide) (by decide) rfl (rest := []) (Nat.le_of_ble_eq_true rfl) hAll dX4_distinctRoots_60 (fun v_37 H_38 hpost_39 hz_40 hk_41 => ?_)
      clear hz_40
      obtain ⟨rfl, hB_42⟩ := hpost_39
      refine V.eq (st' := [vi (dstF (S a.toNat) (-bnd (S a.toNat)) 0 (bnd (S a.toNat)) 0 : Int)]) rfl ?_
      refine v_iret E hE dX4_distinctRoots_63 ?_
      have hR : opDR S a = ((dstF (S a.toNat) (-bnd (S a.toNat)) 0 (bnd (S a.toNat)) 0 : Int), 0, S) := by unfold opDR; rw [if_pos (by omega), if_neg (by omega)]
      rw [hR]; exact ⟨rfl, P4, _, _, _, _, hP47.trans eq7.rfl', hB_42⟩
    · refine v_aload_n E 0 rfl dX4_distinctRoots_21 ?_
      refine v_iconst E dX4_distinctRoots_22 ?_
      refine v_callV E (As := [vi 2]) (b := (ad 3002)) (ci := 3) (C := RX4) (T := TX4) (N := 27) hB_16.ho rfl (m_fails κ H_11 hI hB_16) (lw_V q1857 q1859 qs47 q82 q1860) 1 (by decide +kernel) rfl (by decide) (by decide) (cb' := 0) (sb' := 0) (by decide) (by decide) rfl (rest := []) (Nat.le_of_ble_eq_true rfl) hAll dX4_distinctRoots_23 (fun v_43 H_44 hpost_45 hz_46 hk_47 => ?_)
      clear hz_46
      obtain ⟨rfl, hB_48⟩ := hpost_45
      refine V.eq (st' := [vi 0]) rfl ?_
      refine v_iret E hE dX4_distinctRoots_26 ?_
      have hR : opDR S a = (0, 2, S) := by unfold opDR; rw [if_pos (by omega), if_pos (by omega)]
      rw [hR]; exact ⟨rfl, P, _, _, _, _, eq7.rfl', hB_48⟩
  · refine v_aload_n E 0 rfl dX4_distinctRoots_7 ?_
    refine v_iconst E dX4_distinctRoots_8 ?_
    refine v_callV E (As := [vi 1]) (b := (ad 3002)) (ci := 3) (C := RX4) (T := TX4) (N := 27) hB_8.ho rfl (m_fails κ H_3 hI hB_8) (lw_V q1857 q1859 qs47 q82 q1860) 1 (by decide +kernel) rfl (by decide) (by decide) (cb' := 0) (sb' := 0) (by decide) (by decide) rfl (rest := []) (Nat.le_of_ble_eq_true rfl) hAll dX4_distinctRoots_9 (fun v_49 H_50 hpost_51 hz_52 hk_53 => ?_)
    clear hz_52
    obtain ⟨rfl, hB_54⟩ := hpost_51
    refine V.eq (st' := [vi 0]) rfl ?_
    refine v_iret E hE dX4_distinctRoots_12 ?_
    have hR : opDR S a = (0, 1, S) := by unfold opDR; rw [if_neg (by omega)]
    rw [hR]; exact ⟨rfl, P, _, _, _, _, eq7.rfl', hB_54⟩

set_option maxHeartbeats 400000 in
set_option maxRecDepth 100000 in
/-- countAll -/
theorem m_opAll (κ : zK) (H0 : Heap) {ad : Nat → Nat} {P : Nat → Nat → Int} {f g mk : Nat → Int} {S : Nat → Nat → Int} {K : Nat → Int} {thr len many : Int} {a1 a2 a3 a4 : Nat} {a n k m l : Int} (ha : rI a) (hn : rI n) (hk : rI k) (hm : rI m) (hl : rI l) (hS : bS S) (hfv : (0 ≤ a ∧ a < 5) → ((-1000000 ≤ n ∧ n ≤ 1000000) ∧ (0 ≤ k ∧ k ≤ 12)) → ((-1000000 ≤ m ∧ m ≤ 1000000) ∧ (0 ≤ l ∧ l ≤ 12)) → rN (pAt (S a.toNat) n k.toNat) ∧ rN (pAt (S a.toNat) m l.toNat)) (hfit : refF S a n k m l = 0 → okAll n k m l 7 (S a.toNat)) (hI : Inj ad) (hB : MB κ ad P f g mk S K thr len many a1 a2 a3 a4 H0) : Mt κ yX4_countAll cX4_countAll 8 (some .int) 8 189 0 0 H0 [.ref (ad 3002), vi a, vi n, vi k, vi m, vi l] (AH ad) (fun v H1 => v = some (vi (opAll S a n k m l).1) ∧ ∃ (P1 : Nat → Nat → Int) (f1 g1 mk1 : Nat → Int) (len1 : Int), eq7 (P1 7) (P 7) ∧ MB κ ad P1 f1 g1 mk1 ((opAll S a n k m l).2.2) K ((opAll S a n k m l).2.1) len1 many a1 a2 a3 a4 H1) := by
  refine Mt.of (by decide) (Nat.le_of_ble_eq_true rfl) ?_
  intro z E hE hH0 hA0 hL hini
  have hAll : ∀ q, (AH ad) q → zA z.A z.H0 q := fun q h => Or.inl (by rw [hA0]; exact h)
  have hNew : ∀ q, H0.size ≤ q → zA z.A z.H0 q := fun q h => Or.inr (by rw [hH0]; exact h)
  have E : zOK z cX4_countAll RX4 κ 8 189 (some .int) := E
  refine V.eqL (lv' := [(0, .ref (ad 3002)), (1, vi a), (2, vi n), (3, vi k), (4, vi m), (5, vi l)]) rfl ?_
  refine v_aload_n E 0 rfl dX4_countAll_0 ?_
  refine v_iload_n E 1 rfl dX4_countAll_1 ?_
  refine v_iload_n E 2 rfl dX4_countAll_2 ?_
  refine v_iload_n E 3 rfl dX4_countAll_3 ?_
  refine v_iload E 4 rfl dX4_countAll_4 ?_
  refine v_iload E 5 rfl dX4_countAll_6 ?_
  refine v_callV E (As := [vi a, vi n, vi k, vi m, vi l]) (b := (ad 3002)) (ci := 3) (C := RX4) (T := TX4) (N := 27) hB.ho rfl (m_refused κ H0 ha hn hk hm hl hS hfv hI hB) (lw_V q2060 q2062 qs61 q82 q2063) 5 (by decide +kernel) rfl (by decide) (by decide) (cb' := 0) (sb' := 0) (by decide) (by decide) rfl (rest := []) (Nat.le_of_ble_eq_true rfl) hAll dX4_countAll_8 (fun v_1 H_2 hpost_3 hz_4 hk_5 => ?_)
  clear hz_4
  obtain ⟨rfl, P3, f3, hP37, hP36, hB_6⟩ := hpost_3
  have hrf := refF_in S a n k m l
  refine V.eq (st' := [vi (refF S a n k m l)]) rfl ?_
  refine v_istore E dX4_countAll_11 (zlt hL rfl) (lv' := [(6, vi (refF S a n k m l)), (0, .ref (ad 3002)), (1, vi a), (2, vi n), (3, vi k), (4, vi m), (5, vi l)]) rfl ?_
  refine v_iload E 0 rfl dX4_countAll_13 ?_
  refine v_if_le E (tgt := 25) dX4_countAll_15 (by decide) ⟨by omega, by omega⟩ (fun c_15 => ?_) (fun c_15 => ?_)
  · have hr0 : refF S a n k m l = 0 := by omega
    have hr1 := refF_0 hr0
    have hda := pdeg_in (S a.toNat)
    refine v_iconst E dX4_countAll_25 ?_
    refine v_istore E dX4_countAll_26 (zlt hL rfl) (lv' := [(7, vi 0), (6, vi (refF S a n k m l)), (0, .ref (ad 3002)), (1, vi a), (2, vi n), (3, vi k), (4, vi m), (5, vi l)]) rfl ?_
    have loop_28 : ∀ (m_28 : Nat) (H : Heap) (s : Nat) (c : Nat) (p : Nat → Int) (P5 : Nat → Nat → Int) (f5 g5 : Nat → Int), s < m_28 → (eq7 (P5 6) p) → (eq7 (P5 7) (P 7)) → (pS p) → (okAll n k m l s p) → (pdeg p < (s : Int)) → (caF n k m l 7 (S a.toNat) = c + caF n k m l s p) → MB κ ad P5 f5 g5 mk S K thr len many a1 a2 a3 a4 H → V z H 0 0 28 [(7, vi (c : Int)), (5, vi l), (4, vi m), (3, vi k), (2, vi n), (0, .ref (ad 3002))] [] := by
      intro m_28
      induction m_28 with
      | zero => intro H s c p P5 f5 g5 hm; exact absurd hm (by omega)
      | succ m_28 ih_28 =>
        intro H s c p P5 f5 g5 hm_28 he6 h57 hpS hoa hsd hres hB
        refine v_aload_n E 5 rfl dX4_countAll_28 ?_
        refine v_getf E in_X4 hB.ho (ci := 3) rfl 17 (by decide) q1777 rfl (v := .ref (ad (2000 + 6))) rfl dX4_countAll_29 ?_
        have hg6 : eq7 (pget (bk P5 f5) 6) p := bk_get.trans he6
        have hdp := pdeg_in p
        refine v_callS E (As := [.ref (ad (2000 + 6))]) (m_pdeg κ H (j := 6) (by decide) hI hB.ms hB.ns (pS_congr hg6.symm hpS).N) (lw_S q1928 q1929 q82 q1930) 1 (by decide +kernel) rfl (by decide) (by decide) (cb' := 0) (sb' := 0) (by decide) (by decide) rfl (rest := []) (Nat.le_of_ble_eq_true rfl) (fun q h => h.elim) dX4_countAll_32 (fun v_7 H_8 hpost_9 hz_10 hk_11 => ?_)
        clear hz_10
        obtain rfl := hpost_9
        have hB_12 : MB κ ad P5 f5 g5 mk S K thr len many a1 a2 a3 a4 H_8 := hB.nil hk_11
        refine V.eq (st' := [vi (pdeg p)]) (by rw [hg6.deg]; rfl) ?_
        refine v_if_le E (tgt := 67) dX4_countAll_35 (by decide) ⟨by omega, by omega⟩ (fun c_35 => ?_) (fun c_35 => ?_)
        · refine v_aload_n E 5 rfl dX4_countAll_67 ?_
          refine v_iload E 0 rfl dX4_countAll_68 ?_
          refine v_callV E (As := [vi (c : Int)]) (b := (ad 3002)) (ci := 3) (C := RX4) (T := TX4) (N := 27) hB_12.ho rfl (m_tells κ H_8 hI hB_12) (lw_V q1864 q1866 qs48 q82 q1867) 1 (by decide +kernel) rfl (by decide) (by decide) (cb' := 0) (sb' := 0) (by decide) (by decide) rfl (rest := []) (Nat.le_of_ble_eq_true rfl) hAll dX4_countAll_70 (fun v_13 H_14 hpost_15 hz_16 hk_17 => ?_)
          clear hz_16
          obtain ⟨rfl, hB_18⟩ := hpost_15
          refine V.eq (st' := [vi (c : Int)]) rfl ?_
          refine v_iret E hE dX4_countAll_73 ?_
          have e0 : caF n k m l s p = 0 := by
            cases s with
            | zero => rfl
            | succ s => show (if 0 < pdeg p then _ else 0) = 0; rw [if_neg (by omega)]
          have hR : opAll S a n k m l = ((c : Int), 0, S) := by unfold opAll; rw [if_neg (by omega), hres, e0]; rfl
          rw [hR]; exact ⟨rfl, P5, _, _, _, _, h57, hB_18⟩
        · obtain ⟨s9, hs9⟩ : ∃ s9, s = s9 + 1 := ⟨s - 1, by omega⟩
          rw [hs9] at hoa
          have hok := hoa (by omega)
          refine v_iload E 0 rfl dX4_countAll_38 ?_
          refine v_aload_n E 5 rfl dX4_countAll_40 ?_
          refine v_iload_n E 4 rfl dX4_countAll_41 ?_
          refine v_iload_n E 3 rfl dX4_countAll_42 ?_
          refine v_iload E 2 rfl dX4_countAll_43 ?_
          refine v_iload E 1 rfl dX4_countAll_45 ?_
          refine v_callV E (As := [vi n, vi k, vi m, vi l]) (b := (ad 3002)) (ci := 3) (C := RX4) (T := TX4) (N := 27) hB_12.ho rfl (m_distinct κ H_8 hr1.2.1.1 hr1.2.2.1.1 hr1.2.1.2 hr1.2.2.1.2 he6 hok.1 hI hB_12) (lw_V q2064 q2066 qs62 q82 q2067) 4 (by decide +kernel) rfl (by decide) (by decide) (cb' := 0) (sb' := 0) (by decide) (by decide) rfl (rest := [vi (c : Int)]) (Nat.le_of_ble_eq_true rfl) hAll dX4_countAll_47 (fun v_19 H_20 hpost_21 hz_22 hk_23 => ?_)
          clear hz_22
          obtain ⟨rfl, P4, f4, g4, hP47, hP46, hP43, hB_24⟩ := hpost_21
          refine V.eq (st' := [vi (dstF p n k m l : Int), vi (c : Int)]) rfl ?_
          refine v_iadd E dX4_countAll_50 ?_
          refine v_istore E dX4_countAll_51 (zlt hL rfl) (lv' := [(7, vi ((c : Int) + (dstF p n k m l : Int))), (5, vi l), (4, vi m), (3, vi k), (2, vi n), (0, .ref (ad 3002))]) rfl ?_
          refine v_aload_n E 5 rfl dX4_countAll_53 ?_
          refine v_getf E in_X4 hB_24.ho (ci := 3) rfl 11 (by decide) q1771 rfl (v := .ref (ad (2000 + 3))) rfl dX4_countAll_54 ?_
          refine v_aload_n E 5 rfl dX4_countAll_57 ?_
          refine v_getf E in_X4 hB_24.ho (ci := 3) rfl 17 (by decide) q1777 rfl (v := .ref (ad (2000 + 6))) rfl dX4_countAll_58 ?_
          refine v_callS E (As := [.ref (ad (2000 + 3)), .ref (ad (2000 + 6))]) (m_pcopy κ H_20 (i := 6) (j := 3) (by decide) (by decide) (by decide) hI hB_24.ms hB_24.ns) (lw_S q1994 q1995 q82 q1996) 2 (by decide +kernel) rfl (by decide) (by decide) (cb' := 0) (sb' := 0) (by decide) (by decide) rfl (rest := []) (Nat.le_of_ble_eq_true rfl) (fun q h => hAll q (AH.N q h)) dX4_countAll_61 (fun v_25 H_26 hpost_27 hz_28 hk_29 => ?_)
          clear hz_28
          obtain ⟨rfl, hN_30⟩ := hpost_27
          have hN_31 : NS κ ad (bk (va_up P4 6 (freeD p)) f4) H_26 := hN_30.ps (bk_get.trans hP43)
          have hB_32 : MB κ ad (va_up P4 6 (freeD p)) f4 g4 mk S K thr len many a1 a2 a3 a4 H_26 := hB_24.num hI hk_29 hN_31
          refine V.eq (st' := []) rfl ?_
          refine v_goto E (tgt := 28) dX4_countAll_64 (by decide) ?_
          exact V.eqL (by rw [show ((c + dstF p n k m l : Nat) : Int) = (c : Int) + (dstF p n k m l : Int) by omega]) (ih_28  H_26 s9 (c + dstF p n k m l) (freeD p) (va_up P4 6 (freeD p)) f4 g4 (by omega) (va_upj _ _ _ ▸ eq7.rfl') ((show eq7 (va_up P4 6 (freeD p) 7) (P4 7) from eq7.rfl').trans (hP47.trans h57)) (freeD_pS hok.1.1.1) hok.2.2 (by have := hok.2.1; omega) (hres.trans (by rw [hs9]; show c + (if 0 < pdeg p then _ else _) = _; rw [if_pos (by omega), Nat.add_assoc])) hB_32)
    refine V.sub [0, 7, 6, 5, 4, 2] (lv' := [(7, vi 0), (5, vi l), (4, vi m), (3, vi k), (2, vi n), (0, .ref (ad 3002))]) rfl ?_
    exact loop_28 (7 + 1) H_2 7 0 (S a.toNat) P3 f3 g (by omega) (hP36 hr0) hP37 (hS.pS (by omega)) (hfit hr0) (by omega) (Nat.zero_add _).symm hB_6
  · refine v_aload_n E 1 rfl dX4_countAll_18 ?_
    refine v_iload E 0 rfl dX4_countAll_19 ?_
    refine v_callV E (As := [vi (refF S a n k m l)]) (b := (ad 3002)) (ci := 3) (C := RX4) (T := TX4) (N := 27) hB_6.ho rfl (m_fails κ H_2 hI hB_6) (lw_V q1857 q1859 qs47 q82 q1860) 1 (by decide +kernel) rfl (by decide) (by decide) (cb' := 0) (sb' := 0) (by decide) (by decide) rfl (rest := []) (Nat.le_of_ble_eq_true rfl) hAll dX4_countAll_21 (fun v_33 H_34 hpost_35 hz_36 hk_37 => ?_)
    clear hz_36
    obtain ⟨rfl, hB_38⟩ := hpost_35
    refine V.eq (st' := [vi 0]) rfl ?_
    refine v_iret E hE dX4_countAll_24 ?_
    have hR : opAll S a n k m l = (0, refF S a n k m l, S) := by unfold opAll; rw [if_pos (by omega)]
    rw [hR]; exact ⟨rfl, P3, _, _, _, _, hP37, hB_38⟩
