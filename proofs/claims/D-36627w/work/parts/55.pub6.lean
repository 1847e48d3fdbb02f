set_option maxHeartbeats 400000 in
set_option maxRecDepth 100000 in
/-- the sign at a point -/
theorem m_opSign (κ : zK) (H0 : Heap) {ad : Nat → Nat} {P : Nat → Nat → Int} {f g mk : Nat → Int} {S : Nat → Nat → Int} {K : Nat → Int} {thr len many : Int} {a1 a2 a3 a4 : Nat} {a n k : Int} (ha : rI a) (hn : rI n) (hk : rI k) (hS : bS S) (hfit : (0 ≤ a ∧ a < 5) → ((-1000000 ≤ n ∧ n ≤ 1000000) ∧ (0 ≤ k ∧ k ≤ 12)) → rN (pAt (S a.toNat) n k.toNat)) (hI : Inj ad) (hB : MB κ ad P f g mk S K thr len many a1 a2 a3 a4 H0) : Mt κ yX4_sign_2 cX4_sign_2 4 (some .int) 3 76 0 0 H0 [.ref (ad 3002), vi a, vi n, vi k] (AH ad) (fun v H1 => v = some (vi (opSign S a n k).1) ∧ ∃ (P1 : Nat → Nat → Int) (f1 g1 mk1 : Nat → Int) (len1 : Int), eq7 (P1 7) (P 7) ∧ MB κ ad P1 f1 g1 mk1 ((opSign S a n k).2.2) K ((opSign S a n k).2.1) len1 many a1 a2 a3 a4 H1) := by
  refine Mt.of (by decide) (Nat.le_of_ble_eq_true rfl) ?_
  intro z E hE hH0 hA0 hL hini
  have hAll : ∀ q, (AH ad) q → zA z.A z.H0 q := fun q h => Or.inl (by rw [hA0]; exact h)
  have hNew : ∀ q, H0.size ≤ q → zA z.A z.H0 q := fun q h => Or.inr (by rw [hH0]; exact h)
  have E : zOK z cX4_sign_2 RX4 κ 3 76 (some .int) := E
  refine V.eqL (lv' := [(0, .ref (ad 3002)), (1, vi a), (2, vi n), (3, vi k)]) rfl ?_
  refine v_iload_n E 1 rfl dX4_sign_2_0 ?_
  refine v_callS E (As := [vi a]) (m_isSlot κ H0 (by first | assumption | decide | exact ⟨by omega, by omega⟩)) (lw_S q1851 q1852 q82 q1853) 1 (by decide +kernel) rfl (by decide) (by decide) (cb' := 0) (sb' := 0) (by decide) (by decide) rfl (rest := []) (Nat.le_of_ble_eq_true rfl) (fun q h => h.elim) dX4_sign_2_1 (fun v_2 H_3 hpost_4 hz_5 hk_6 => ?_)
  clear hz_5
  obtain rfl := hpost_4
  obtain ⟨b_1, hb_7, hb_7e⟩ : ∃ b9 : Int, (b9 = 0 ∧ ¬ (0 ≤ a ∧ a < 5) ∨ b9 = 1 ∧ (0 ≤ a ∧ a < 5)) ∧ (if 0 ≤ a ∧ a < 5 then 1 else 0 : Int) = b9 := by
    by_cases c : 0 ≤ a ∧ a < 5
    · exact ⟨1, Or.inr ⟨rfl, c⟩, if_pos c⟩
    · exact ⟨0, Or.inl ⟨rfl, c⟩, if_neg c⟩
  have hB_8 : MB κ ad P f g mk S K thr len many a1 a2 a3 a4 H_3 := hB.nil hk_6
  refine V.eq (st' := [vi b_1]) (by rw [hb_7e]; rfl) ?_
  refine v_if_ne E (tgt := 13) dX4_sign_2_4 (by decide) ⟨by omega, by omega⟩ (fun c_4 => ?_) (fun c_4 => ?_)
  · refine v_iload_n E 2 rfl dX4_sign_2_13 ?_
    refine v_iload_n E 3 rfl dX4_sign_2_14 ?_
    refine v_callS E (As := [vi n, vi k]) (m_isPoint κ H_3 (by first | assumption | decide | exact ⟨by omega, by omega⟩) (by first | assumption | decide | exact ⟨by omega, by omega⟩)) (lw_S q2040 q2041 q82 q2042) 2 (by decide +kernel) rfl (by decide) (by decide) (cb' := 0) (sb' := 0) (by decide) (by decide) rfl (rest := []) (Nat.le_of_ble_eq_true rfl) (fun q h => h.elim) dX4_sign_2_15 (fun v_10 H_11 hpost_12 hz_13 hk_14 => ?_)
    clear hz_13
    obtain rfl := hpost_12
    obtain ⟨b_9, hb_15, hb_15e⟩ : ∃ b9 : Int, (b9 = 0 ∧ ¬ ((-1000000 ≤ n ∧ n ≤ 1000000) ∧ (0 ≤ k ∧ k ≤ 12)) ∨ b9 = 1 ∧ ((-1000000 ≤ n ∧ n ≤ 1000000) ∧ (0 ≤ k ∧ k ≤ 12))) ∧ (if (-1000000 ≤ n ∧ n ≤ 1000000) ∧ (0 ≤ k ∧ k ≤ 12) then 1 else 0 : Int) = b9 := by
      by_cases c : (-1000000 ≤ n ∧ n ≤ 1000000) ∧ (0 ≤ k ∧ k ≤ 12)
      · exact ⟨1, Or.inr ⟨rfl, c⟩, if_pos c⟩
      · exact ⟨0, Or.inl ⟨rfl, c⟩, if_neg c⟩
    have hB_16 : MB κ ad P f g mk S K thr len many a1 a2 a3 a4 H_11 := hB_8.nil hk_14
    refine V.eq (st' := [vi b_9]) (by rw [hb_15e]; rfl) ?_
    refine v_if_ne E (tgt := 27) dX4_sign_2_18 (by decide) ⟨by omega, by omega⟩ (fun c_18 => ?_) (fun c_18 => ?_)
    · refine v_aload_n E 0 rfl dX4_sign_2_27 ?_
      refine v_getf E in_X4 hB_16.ho (ci := 3) rfl 1 (by decide) q1761 rfl (v := .ref (ad 3003)) rfl dX4_sign_2_28 ?_
      refine v_iload_n E 1 rfl dX4_sign_2_31 ?_
      refine v_aaldS E dX4_sign_2_32 (hB_16.ms).2.2.2 (t := 3) (ty := (.array .int)) rfl rfl a.toNat (by omega) (by omega) (by omega) (b := (ad (3010 + a.toNat))) rfl ?_
      refine v_aload_n E 0 rfl dX4_sign_2_33 ?_
      refine v_getf E in_X4 hB_16.ho (ci := 3) rfl 17 (by decide) q1777 rfl (v := .ref (ad (2000 + 6))) rfl dX4_sign_2_34 ?_
      refine v_callS E (As := [.ref (ad (3010 + a.toNat)), .ref (ad (2000 + 6))]) (m_load κ H_11 (hS.rI (i := a.toNat) (by omega)) (fun i hi => hI.ne (by omega)) (hB_16.sl a.toNat (by omega)) (by decide) hI hB_16.ms hB_16.ns) (lw_S q1918 q1919 q82 q1920) 2 (by decide +kernel) rfl (by decide) (by decide) (cb' := 0) (sb' := 0) (by decide) (by decide) rfl (rest := []) (Nat.le_of_ble_eq_true rfl) (fun q h => hAll q (AH.N q h)) dX4_sign_2_37 (fun v_17 H_18 hpost_19 hz_20 hk_21 => ?_)
      clear hz_20
      obtain ⟨rfl, hN_22⟩ := hpost_19
      have hN_23 : NS κ ad (bk (va_up P 6 (S a.toNat)) f) H_18 := hN_22.ps eq7.rfl'
      have hB_24 : MB κ ad (va_up P 6 (S a.toNat)) f g mk S K thr len many a1 a2 a3 a4 H_18 := hB_16.num hI hk_21 hN_23
      refine V.eq (st' := []) rfl ?_
      refine v_aload_n E 0 rfl dX4_sign_2_40 ?_
      refine v_aload_n E 0 rfl dX4_sign_2_41 ?_
      refine v_aload_n E 0 rfl dX4_sign_2_42 ?_
      refine v_getf E in_X4 hB_24.ho (ci := 3) rfl 17 (by decide) q1777 rfl (v := .ref (ad (2000 + 6))) rfl dX4_sign_2_43 ?_
      refine v_iload_n E 2 rfl dX4_sign_2_46 ?_
      refine v_i2l E ⟨by omega, by omega⟩ dX4_sign_2_47 ?_
      refine v_iload_n E 3 rfl dX4_sign_2_48 ?_
      refine V.topi (x' := ((k.toNat : Nat) : Int)) (congrArg iZ (by omega)) ?_
      have hg_25 : eq7 (pget (bk (va_up P 6 (S a.toNat)) f) (6)) (S a.toNat) := bk_get
      refine v_callV E (As := [.ref (ad (2000 + 6)), vj n, vi ((k.toNat : Nat) : Int)]) (b := (ad 3002)) (ci := 3) (C := RX4) (T := TX4) (N := 27) hB_24.ho rfl (m_signAt κ H_18 (j := 6) (e := k.toNat) (by omega) (by omega) ⟨by omega, by omega⟩ hI hB_24.ms hB_24.ns hB_24.ho (pS_congr (eq7.symm hg_25) (hS.pS (by omega))).N (show rN (pAt (pget (bk (va_up P 6 (S a.toNat)) f) (6)) n k.toNat) by rw [pAt_congr hg_25]; exact hfit (by omega) (by omega))) (lw_V q2045 q2047 qs60 q82 q2048) 3 (by decide +kernel) rfl (by decide) (by decide) (cb' := 0) (sb' := 0) (by decide) (by decide) rfl (rest := [.ref (ad 3002)]) (Nat.le_of_ble_eq_true rfl) (fun q h => hAll q (AH.N q h)) dX4_sign_2_49 (fun v_26 H_27 hpost_28 hz_29 hk_30 => ?_)
      clear hz_29
      obtain ⟨rfl, f_31, hN_32⟩ := hpost_28
      have hB_33 : MB κ ad (va_up P 6 (S a.toNat)) f_31 g mk S K thr len many a1 a2 a3 a4 H_27 := hB_24.num hI hk_30 (NS.flat0 hN_32)
      refine V.eq (st' := [vi ((pAt (S a.toNat) n k.toNat).sign), .ref (ad 3002)]) (by rw [← pAt_congr hg_25]; rfl) ?_
      refine v_callV E (As := [vi ((pAt (S a.toNat) n k.toNat).sign)]) (b := (ad 3002)) (ci := 3) (C := RX4) (T := TX4) (N := 27) hB_33.ho rfl (m_tells κ H_27 hI hB_33) (lw_V q1864 q1866 qs48 q82 q1867) 1 (by decide +kernel) rfl (by decide) (by decide) (cb' := 0) (sb' := 0) (by decide) (by decide) rfl (rest := []) (Nat.le_of_ble_eq_true rfl) hAll dX4_sign_2_52 (fun v_34 H_35 hpost_36 hz_37 hk_38 => ?_)
      clear hz_37
      obtain ⟨rfl, hB_39⟩ := hpost_36
      refine V.eq (st' := [vi ((pAt (S a.toNat) n k.toNat).sign)]) rfl ?_
      refine v_iret E hE dX4_sign_2_55 ?_
      have hR : opSign S a n k = ((pAt (S a.toNat) n k.toNat).sign, 0, S) := by unfold opSign; rw [if_pos (by omega), if_pos (by omega)]
      rw [hR]; exact ⟨rfl, (va_up P 6 (S a.toNat)), _, _, _, _, eq7.rfl', hB_39⟩
    · refine v_aload_n E 0 rfl dX4_sign_2_21 ?_
      refine v_iconst E dX4_sign_2_22 ?_
      refine v_callV E (As := [vi 2]) (b := (ad 3002)) (ci := 3) (C := RX4) (T := TX4) (N := 27) hB_16.ho rfl (m_fails κ H_11 hI hB_16) (lw_V q1857 q1859 qs47 q82 q1860) 1 (by decide +kernel) rfl (by decide) (by decide) (cb' := 0) (sb' := 0) (by decide) (by decide) rfl (rest := []) (Nat.le_of_ble_eq_true rfl) hAll dX4_sign_2_23 (fun v_40 H_41 hpost_42 hz_43 hk_44 => ?_)
      clear hz_43
      obtain ⟨rfl, hB_45⟩ := hpost_42
      refine V.eq (st' := [vi 0]) rfl ?_
      refine v_iret E hE dX4_sign_2_26 ?_
      have hR : opSign S a n k = (0, 2, S) := by unfold opSign; rw [if_pos (by omega), if_neg (by omega)]
      rw [hR]; exact ⟨rfl, P, _, _, _, _, eq7.rfl', hB_45⟩
  · refine v_aload_n E 0 rfl dX4_sign_2_7 ?_
    refine v_iconst E dX4_sign_2_8 ?_
    refine v_callV E (As := [vi 1]) (b := (ad 3002)) (ci := 3) (C := RX4) (T := TX4) (N := 27) hB_8.ho rfl (m_fails κ H_3 hI hB_8) (lw_V q1857 q1859 qs47 q82 q1860) 1 (by decide +kernel) rfl (by decide) (by decide) (cb' := 0) (sb' := 0) (by decide) (by decide) rfl (rest := []) (Nat.le_of_ble_eq_true rfl) hAll dX4_sign_2_9 (fun v_46 H_47 hpost_48 hz_49 hk_50 => ?_)
    clear hz_49
    obtain ⟨rfl, hB_51⟩ := hpost_48
    refine V.eq (st' := [vi 0]) rfl ?_
    refine v_iret E hE dX4_sign_2_12 ?_
    have hR : opSign S a n k = (0, 1, S) := by unfold opSign; rw [if_neg (by omega)]
    rw [hR]; exact ⟨rfl, P, _, _, _, _, eq7.rfl', hB_51⟩

set_option maxHeartbeats 400000 in
set_option maxRecDepth 100000 in
/-- the changes of sign of the coefficients -/
theorem m_opCsc (κ : zK) (H0 : Heap) {ad : Nat → Nat} {P : Nat → Nat → Int} {f g mk : Nat → Int} {S : Nat → Nat → Int} {K : Nat → Int} {thr len many : Int} {a1 a2 a3 a4 : Nat} {a : Int} (ha : rI a) (hS : bS S) (hI : Inj ad) (hB : MB κ ad P f g mk S K thr len many a1 a2 a3 a4 H0) : Mt κ yX4_coefficientSignChanges cX4_coefficientSignChanges 2 (some .int) 2 46 0 0 H0 [.ref (ad 3002), vi a] (AH ad) (fun v H1 => v = some (vi (opCsc S a).1) ∧ ∃ (P1 : Nat → Nat → Int) (f1 g1 mk1 : Nat → Int) (len1 : Int), eq7 (P1 7) (P 7) ∧ MB κ ad P1 f1 g1 mk1 ((opCsc S a).2.2) K ((opCsc S a).2.1) len1 many a1 a2 a3 a4 H1) := by
  refine Mt.of (by decide) (Nat.le_of_ble_eq_true rfl) ?_
  intro z E hE hH0 hA0 hL hini
  have hAll : ∀ q, (AH ad) q → zA z.A z.H0 q := fun q h => Or.inl (by rw [hA0]; exact h)
  have hNew : ∀ q, H0.size ≤ q → zA z.A z.H0 q := fun q h => Or.inr (by rw [hH0]; exact h)
  have E : zOK z cX4_coefficientSignChanges RX4 κ 2 46 (some .int) := E
  refine V.eqL (lv' := [(0, .ref (ad 3002)), (1, vi a)]) rfl ?_
  refine v_iload_n E 1 rfl dX4_coefficientSignChanges_0 ?_
  refine v_callS E (As := [vi a]) (m_isSlot κ H0 (by first | assumption | decide | exact ⟨by omega, by omega⟩)) (lw_S q1851 q1852 q82 q1853) 1 (by decide +kernel) rfl (by decide) (by decide) (cb' := 0) (sb' := 0) (by decide) (by decide) rfl (rest := []) (Nat.le_of_ble_eq_true rfl) (fun q h => h.elim) dX4_coefficientSignChanges_1 (fun v_2 H_3 hpost_4 hz_5 hk_6 => ?_)
  clear hz_5
  obtain rfl := hpost_4
  obtain ⟨b_1, hb_7, hb_7e⟩ : ∃ b9 : Int, (b9 = 0 ∧ ¬ (0 ≤ a ∧ a < 5) ∨ b9 = 1 ∧ (0 ≤ a ∧ a < 5)) ∧ (if 0 ≤ a ∧ a < 5 then 1 else 0 : Int) = b9 := by
    by_cases c : 0 ≤ a ∧ a < 5
    · exact ⟨1, Or.inr ⟨rfl, c⟩, if_pos c⟩
    · exact ⟨0, Or.inl ⟨rfl, c⟩, if_neg c⟩
  have hB_8 : MB κ ad P f g mk S K thr len many a1 a2 a3 a4 H_3 := hB.nil hk_6
  refine V.eq (st' := [vi b_1]) (by rw [hb_7e]; rfl) ?_
  refine v_if_ne E (tgt := 13) dX4_coefficientSignChanges_4 (by decide) ⟨by omega, by omega⟩ (fun c_4 => ?_) (fun c_4 => ?_)
  · refine v_aload_n E 0 rfl dX4_coefficientSignChanges_13 ?_
    refine v_getf E in_X4 hB_8.ho (ci := 3) rfl 1 (by decide) q1761 rfl (v := .ref (ad 3003)) rfl dX4_coefficientSignChanges_14 ?_
    refine v_iload_n E 1 rfl dX4_coefficientSignChanges_17 ?_
    refine v_aaldS E dX4_coefficientSignChanges_18 (hB_8.ms).2.2.2 (t := 3) (ty := (.array .int)) rfl rfl a.toNat (by omega) (by omega) (by omega) (b := (ad (3010 + a.toNat))) rfl ?_
    refine v_aload_n E 0 rfl dX4_coefficientSignChanges_19 ?_
    refine v_getf E in_X4 hB_8.ho (ci := 3) rfl 17 (by decide) q1777 rfl (v := .ref (ad (2000 + 6))) rfl dX4_coefficientSignChanges_20 ?_
    refine v_callS E (As := [.ref (ad (3010 + a.toNat)), .ref (ad (2000 + 6))]) (m_load κ H_3 (hS.rI (i := a.toNat) (by omega)) (fun i hi => hI.ne (by omega)) (hB_8.sl a.toNat (by omega)) (by decide) hI hB_8.ms hB_8.ns) (lw_S q1918 q1919 q82 q1920) 2 (by decide +kernel) rfl (by decide) (by decide) (cb' := 0) (sb' := 0) (by decide) (by decide) rfl (rest := []) (Nat.le_of_ble_eq_true rfl) (fun q h => hAll q (AH.N q h)) dX4_coefficientSignChanges_23 (fun v_9 H_10 hpost_11 hz_12 hk_13 => ?_)
    clear hz_12
    obtain ⟨rfl, hN_14⟩ := hpost_11
    have hN_15 : NS κ ad (bk (va_up P 6 (S a.toNat)) f) H_10 := hN_14.ps eq7.rfl'
    have hB_16 : MB κ ad (va_up P 6 (S a.toNat)) f g mk S K thr len many a1 a2 a3 a4 H_10 := hB_8.num hI hk_13 hN_15
    refine V.eq (st' := []) rfl ?_
    refine v_aload_n E 0 rfl dX4_coefficientSignChanges_26 ?_
    refine v_aload_n E 0 rfl dX4_coefficientSignChanges_27 ?_
    refine v_getf E in_X4 hB_16.ho (ci := 3) rfl 17 (by decide) q1777 rfl (v := .ref (ad (2000 + 6))) rfl dX4_coefficientSignChanges_28 ?_
    refine v_bipush E ⟨by decide, by decide⟩ dX4_coefficientSignChanges_31 ?_
    have hge : eq7 (pget (bk (va_up P 6 (S a.toNat)) f) 6) (S a.toNat) := bk_get
    refine v_callS E (As := [.ref (ad (2000 + 6)), vi 6]) (m_changes κ H_10 (j := 6) (n := 6) (by decide) (by decide) hI hB_16.ms hB_16.ns (fun k hk => (pS_congr (eq7.symm hge) (hS.pS (by omega))).N k (by omega))) (lw_S q2079 q2080 q82 q2081) 2 (by decide +kernel) rfl (by decide) (by decide) (cb' := 0) (sb' := 0) (by decide) (by decide) rfl (rest := [.ref (ad 3002)]) (Nat.le_of_ble_eq_true rfl) (fun q h => h.elim) dX4_coefficientSignChanges_33 (fun v_17 H_18 hpost_19 hz_20 hk_21 => ?_)
    clear hz_20
    obtain rfl := hpost_19
    have hB_22 : MB κ ad (va_up P 6 (S a.toNat)) f g mk S K thr len many a1 a2 a3 a4 H_18 := hB_16.nil hk_21
    refine V.eq (st' := [vi (chC (S a.toNat) 7 : Int), .ref (ad 3002)]) (by rw [show (6 + 1 : Nat) = 7 from rfl, chC_congr 7 hge]; rfl) ?_
    refine v_callV E (As := [vi (chC (S a.toNat) 7 : Int)]) (b := (ad 3002)) (ci := 3) (C := RX4) (T := TX4) (N := 27) hB_22.ho rfl (m_tells κ H_18 hI hB_22) (lw_V q1864 q1866 qs48 q82 q1867) 1 (by decide +kernel) rfl (by decide) (by decide) (cb' := 0) (sb' := 0) (by decide) (by decide) rfl (rest := []) (Nat.le_of_ble_eq_true rfl) hAll dX4_coefficientSignChanges_36 (fun v_23 H_24 hpost_25 hz_26 hk_27 => ?_)
    clear hz_26
    obtain ⟨rfl, hB_28⟩ := hpost_25
    refine V.eq (st' := [vi (chC (S a.toNat) 7 : Int)]) rfl ?_
    refine v_iret E hE dX4_coefficientSignChanges_39 ?_
    have hR : opCsc S a = ((chC (S a.toNat) 7 : Int), 0, S) := by unfold opCsc; rw [if_pos (by omega)]
    rw [hR]; exact ⟨rfl, (va_up P 6 (S a.toNat)), _, _, _, _, eq7.rfl', hB_28⟩
  · refine v_aload_n E 0 rfl dX4_coefficientSignChanges_7 ?_
    refine v_iconst E dX4_coefficientSignChanges_8 ?_
    refine v_callV E (As := [vi 1]) (b := (ad 3002)) (ci := 3) (C := RX4) (T := TX4) (N := 27) hB_8.ho rfl (m_fails κ H_3 hI hB_8) (lw_V q1857 q1859 qs47 q82 q1860) 1 (by decide +kernel) rfl (by decide) (by decide) (cb' := 0) (sb' := 0) (by decide) (by decide) rfl (rest := []) (Nat.le_of_ble_eq_true rfl) hAll dX4_coefficientSignChanges_9 (fun v_29 H_30 hpost_31 hz_32 hk_33 => ?_)
    clear hz_32
    obtain ⟨rfl, hB_34⟩ := hpost_31
    refine V.eq (st' := [vi 0]) rfl ?_
    refine v_iret E hE dX4_coefficientSignChanges_12 ?_
    have hR : opCsc S a = (0, 1, S) := by unfold opCsc; rw [if_neg (by omega)]
    rw [hR]; exact ⟨rfl, P, _, _, _, _, eq7.rfl', hB_34⟩

set_option maxHeartbeats 400000 in
set_option maxRecDepth 100000 in
/-- the changes of sign of the row -/
theorem m_opVar (κ : zK) (H0 : Heap) {ad : Nat → Nat} {P : Nat → Nat → Int} {f g mk : Nat → Int} {S : Nat → Nat → Int} {K : Nat → Int} {thr len many : Int} {a1 a2 a3 a4 : Nat} {a n k : Int} (ha : rI a) (hn : rI n) (hk : rI k) (hS : bS S) (hfit : (0 ≤ a ∧ a < 5) → 0 ≤ pdeg (S a.toNat) → okRow (S a.toNat)) (hfv : (0 ≤ a ∧ a < 5) → 0 ≤ pdeg (S a.toNat) → ((-1000000 ≤ n ∧ n ≤ 1000000) ∧ (0 ≤ k ∧ k ≤ 12)) → ∀ i, i < rowLen (S a.toNat) → rN (pAt (rsq (S a.toNat) i) n k.toNat)) (hI : Inj ad) (hB : MB κ ad P f g mk S K thr len many a1 a2 a3 a4 H0) : Mt κ yX4_signChanges cX4_signChanges 8 (some .int) 6 137 0 0 H0 [.ref (ad 3002), vi a, vi n, vi k] (AH ad) (fun v H1 => v = some (vi (opVar S a n k).1) ∧ ∃ (P1 : Nat → Nat → Int) (f1 g1 mk1 : Nat → Int) (len1 : Int), eq7 (P1 7) (P 7) ∧ MB κ ad P1 f1 g1 mk1 ((opVar S a n k).2.2) K ((opVar S a n k).2.1) len1 many a1 a2 a3 a4 H1) := by
  refine Mt.of (by decide) (Nat.le_of_ble_eq_true rfl) ?_
  intro z E hE hH0 hA0 hL hini
  have hAll : ∀ q, (AH ad) q → zA z.A z.H0 q := fun q h => Or.inl (by rw [hA0]; exact h)
  have hNew : ∀ q, H0.size ≤ q → zA z.A z.H0 q := fun q h => Or.inr (by rw [hH0]; exact h)
  have E : zOK z cX4_signChanges RX4 κ 6 137 (some .int) := E
  refine V.eqL (lv' := [(0, .ref (ad 3002)), (1, vi a), (2, vi n), (3, vi k)]) rfl ?_
  refine v_iload_n E 1 rfl dX4_signChanges_0 ?_
  refine v_callS E (As := [vi a]) (m_isSlot κ H0 (by first | assumption | decide | exact ⟨by omega, by omega⟩)) (lw_S q1851 q1852 q82 q1853) 1 (by decide +kernel) rfl (by decide) (by decide) (cb' := 0) (sb' := 0) (by decide) (by decide) rfl (rest := []) (Nat.le_of_ble_eq_true rfl) (fun q h => h.elim) dX4_signChanges_1 (fun v_2 H_3 hpost_4 hz_5 hk_6 => ?_)
  clear hz_5
  obtain rfl := hpost_4
  obtain ⟨b_1, hb_7, hb_7e⟩ : ∃ b9 : Int, (b9 = 0 ∧ ¬ (0 ≤ a ∧ a < 5) ∨ b9 = 1 ∧ (0 ≤ a ∧ a < 5)) ∧ (if 0 ≤ a ∧ a < 5 then 1 else 0 : Int) = b9 := by
    by_cases c : 0 ≤ a ∧ a < 5
    · exact ⟨1, Or.inr ⟨rfl, c⟩, if_pos c⟩
    · exact ⟨0, Or.inl ⟨rfl, c⟩, if_neg c⟩
  have hB_8 : MB κ ad P f g mk S K thr len many a1 a2 a3 a4 H_3 := hB.nil hk_6
  refine V.eq (st' := [vi b_1]) (by rw [hb_7e]; rfl) ?_
  refine v_if_ne E (tgt := 13) dX4_signChanges_4 (by decide) ⟨by omega, by omega⟩ (fun c_4 => ?_) (fun c_4 => ?_)
  · refine v_iload_n E 2 rfl dX4_signChanges_13 ?_
    refine v_iload_n E 3 rfl dX4_signChanges_14 ?_
    refine v_callS E (As := [vi n, vi k]) (m_isPoint κ H_3 (by first | assumption | decide | exact ⟨by omega, by omega⟩) (by first | assumption | decide | exact ⟨by omega, by omega⟩)) (lw_S q2040 q2041 q82 q2042) 2 (by decide +kernel) rfl (by decide) (by decide) (cb' := 0) (sb' := 0) (by decide) (by decide) rfl (rest := []) (Nat.le_of_ble_eq_true rfl) (fun q h => h.elim) dX4_signChanges_15 (fun v_10 H_11 hpost_12 hz_13 hk_14 => ?_)
    clear hz_13
    obtain rfl := hpost_12
    obtain ⟨b_9, hb_15, hb_15e⟩ : ∃ b9 : Int, (b9 = 0 ∧ ¬ ((-1000000 ≤ n ∧ n ≤ 1000000) ∧ (0 ≤ k ∧ k ≤ 12)) ∨ b9 = 1 ∧ ((-1000000 ≤ n ∧ n ≤ 1000000) ∧ (0 ≤ k ∧ k ≤ 12))) ∧ (if (-1000000 ≤ n ∧ n ≤ 1000000) ∧ (0 ≤ k ∧ k ≤ 12) then 1 else 0 : Int) = b9 := by
      by_cases c : (-1000000 ≤ n ∧ n ≤ 1000000) ∧ (0 ≤ k ∧ k ≤ 12)
      · exact ⟨1, Or.inr ⟨rfl, c⟩, if_pos c⟩
      · exact ⟨0, Or.inl ⟨rfl, c⟩, if_neg c⟩
    have hB_16 : MB κ ad P f g mk S K thr len many a1 a2 a3 a4 H_11 := hB_8.nil hk_14
    refine V.eq (st' := [vi b_9]) (by rw [hb_15e]; rfl) ?_
    refine v_if_ne E (tgt := 27) dX4_signChanges_18 (by decide) ⟨by omega, by omega⟩ (fun c_18 => ?_) (fun c_18 => ?_)
    · refine v_aload_n E 0 rfl dX4_signChanges_27 ?_
      refine v_iload_n E 1 rfl dX4_signChanges_28 ?_
      refine v_callV E (As := [vi a]) (b := (ad 3002)) (ci := 3) (C := RX4) (T := TX4) (N := 27) hB_16.ho rfl (m_isZero κ H_11 (by omega) hS hI hB_16) (lw_V q2006 q2008 qs57 q82 q2009) 1 (by decide +kernel) rfl (by decide) (by decide) (cb' := 0) (sb' := 0) (by decide) (by decide) rfl (rest := []) (Nat.le_of_ble_eq_true rfl) (fun q h => h.elim) dX4_signChanges_29 (fun v_18 H_19 hpost_20 hz_21 hk_22 => ?_)
      clear hz_21
      obtain rfl := hpost_20
      obtain ⟨b_17, hb_23, hb_23e⟩ : ∃ b9 : Int, (b9 = 0 ∧ ¬ (pdeg (S a.toNat) < 0) ∨ b9 = 1 ∧ (pdeg (S a.toNat) < 0)) ∧ (if pdeg (S a.toNat) < 0 then 1 else 0 : Int) = b9 := by
        by_cases c : pdeg (S a.toNat) < 0
        · exact ⟨1, Or.inr ⟨rfl, c⟩, if_pos c⟩
        · exact ⟨0, Or.inl ⟨rfl, c⟩, if_neg c⟩
      have hB_24 : MB κ ad P f g mk S K thr len many a1 a2 a3 a4 H_19 := hB_16.nil hk_22
      refine V.eq (st' := [vi b_17]) (by rw [hb_23e]; rfl) ?_
      refine v_if_eq E (tgt := 41) dX4_signChanges_32 (by decide) ⟨by omega, by omega⟩ (fun c_32 => ?_) (fun c_32 => ?_)
      · refine v_aload_n E 0 rfl dX4_signChanges_41 ?_
        refine v_iload_n E 1 rfl dX4_signChanges_42 ?_
        refine V.topi (x' := ((a.toNat : Nat) : Int)) (congrArg iZ (by omega)) ?_
        have hok := hfit (by omega) (by omega)
        refine v_callV E (As := [vi ((a.toNat : Nat) : Int)]) (b := (ad 3002)) (ci := 3) (C := RX4) (T := TX4) (N := 27) hB_24.ho rfl (m_findRow κ H_19 (sl := a.toNat) (by omega) (hS.rI (by omega)) hI hB_24.ms hB_24.ns hB_24.ho hB_24.sl hok.1 hok.2) (lw_V q2024 q2026 qs59 q82 q2027) 1 (by decide +kernel) rfl (by decide) (by decide) (cb' := 0) (sb' := 0) (by decide) (by decide) rfl (rest := []) (Nat.le_of_ble_eq_true rfl) (fun q h => hAll q (AH.R q h)) dX4_signChanges_43 (fun v_25 H_26 hpost_27 hz_28 hk_29 => ?_)
        clear hz_28
        obtain ⟨rfl, L, P1, f1, hrow, hP8, hPo, _, hN9, ho9, _⟩ := hpost_27
        have hlen := hrow.len
        have hL7 := hrow.2.1
        have hL1 := hrow.1
        have hB_30 : MB κ ad P1 f1 g mk S K thr (L : Int) many a1 a2 a3 a4 H_26 := hB_24.row hI hk_29 hN9 ho9
        refine V.eq (st' := []) rfl ?_
        refine v_iconst E dX4_signChanges_46 ?_
        refine v_istore E dX4_signChanges_47 (zlt hL rfl) (lv' := [(4, vi 0), (0, .ref (ad 3002)), (1, vi a), (2, vi n), (3, vi k)]) rfl ?_
        refine v_iconst E dX4_signChanges_49 ?_
        refine v_istore E dX4_signChanges_50 (zlt hL rfl) (lv' := [(5, vi 0), (4, vi 0), (0, .ref (ad 3002)), (1, vi a), (2, vi n), (3, vi k)]) rfl ?_
        refine v_iconst E dX4_signChanges_52 ?_
        refine v_istore E dX4_signChanges_53 (zlt hL rfl) (lv' := [(6, vi 0), (5, vi 0), (4, vi 0), (0, .ref (ad 3002)), (1, vi a), (2, vi n), (3, vi k)]) rfl ?_
        have loop_55 : ∀ (m_55 : Nat) (H : Heap) (i : Nat) (c : Nat) (l : Int) (f2 : Nat → Int), L - i < m_55 → (i ≤ L) → (c = chC (fun i => pAt (rsq (S a.toNat) i) n k.toNat) i) → (l = chL (fun i => pAt (rsq (S a.toNat) i) n k.toNat) i) → (-1 ≤ l ∧ l ≤ 1) → MB κ ad P1 f2 g mk S K thr (L : Int) many a1 a2 a3 a4 H → V z H 0 0 55 [(6, vi (i : Int)), (5, vi l), (4, vi (c : Int)), (3, vi k), (2, vi n), (1, vi a), (0, .ref (ad 3002))] [] := by
          intro m_55
          induction m_55 with
          | zero => intro H i c l f2 hm; exact absurd hm (by omega)
          | succ m_55 ih_55 =>
            intro H i c l f2 hm_55 hi hc hl hl2 hB
            refine v_iload E 0 rfl dX4_signChanges_55 ?_
            refine v_aload_n E 6 rfl dX4_signChanges_57 ?_
            refine v_getf E in_X4 hB.ho (ci := 3) rfl 19 (by decide) q1779 rfl (v := vi (L : Int)) rfl dX4_signChanges_58 ?_
            refine v_icmp_ge E (tgt := 127) dX4_signChanges_61 (by decide) ⟨by omega, by omega⟩ ⟨by omega, by omega⟩ (fun c_61 => ?_) (fun c_61 => ?_)
            · have hiL : i = L := by omega
              refine v_aload_n E 6 rfl dX4_signChanges_127 ?_
              refine v_iload E 2 rfl dX4_signChanges_128 ?_
              refine v_callV E (As := [vi (c : Int)]) (b := (ad 3002)) (ci := 3) (C := RX4) (T := TX4) (N := 27) hB.ho rfl (m_tells κ H hI hB) (lw_V q1864 q1866 qs48 q82 q1867) 1 (by decide +kernel) rfl (by decide) (by decide) (cb' := 0) (sb' := 0) (by decide) (by decide) rfl (rest := []) (Nat.le_of_ble_eq_true rfl) hAll dX4_signChanges_130 (fun v_31 H_32 hpost_33 hz_34 hk_35 => ?_)
              clear hz_34
              obtain ⟨rfl, hB_36⟩ := hpost_33
              refine V.eq (st' := [vi (c : Int)]) rfl ?_
              refine v_iret E hE dX4_signChanges_133 ?_
              have hR : opVar S a n k = ((c : Int), 0, S) := by unfold opVar; rw [if_pos (by omega), if_pos (by omega), if_neg (by omega), hlen, ← hiL, ← hc]
              rw [hR]; exact ⟨rfl, P1, _, _, _, _, ((hPo 7 (by decide) (by decide) (by decide)).trans bk_get), hB_36⟩
            · refine v_aload_n E 6 rfl dX4_signChanges_64 ?_
              refine v_aload_n E 6 rfl dX4_signChanges_65 ?_
              refine v_getf E in_X4 hB.ho (ci := 3) rfl 18 (by decide) q1778 rfl (v := .ref (ad 3000)) rfl dX4_signChanges_66 ?_
              refine v_iload E 0 rfl dX4_signChanges_69 ?_
              refine v_aaldS E dX4_signChanges_71 (hB.ms).2.1 (t := 4) (ty := (.array (.array .int))) rfl rfl i rfl (by omega) (by omega) (b := (ad (2000 + (8 + i)))) (congrArg (fun q => some (ad q)) (by omega)) ?_
              refine v_iload_n E 4 rfl dX4_signChanges_72 ?_
              refine v_i2l E ⟨by omega, by omega⟩ dX4_signChanges_73 ?_
              refine v_iload_n E 3 rfl dX4_signChanges_74 ?_
              refine V.topi (x' := ((k.toNat : Nat) : Int)) (congrArg iZ (by omega)) ?_
              have hg_37 : eq7 (pget (bk P1 f2) (8 + i)) (rsq (S a.toNat) i) := bk_get.trans (hP8 i (by omega))
              refine v_callV E (As := [.ref (ad (2000 + (8 + i))), vj n, vi ((k.toNat : Nat) : Int)]) (b := (ad 3002)) (ci := 3) (C := RX4) (T := TX4) (N := 27) hB.ho rfl (m_signAt κ H (j := 8 + i) (e := k.toNat) (by omega) (by omega) ⟨by omega, by omega⟩ hI hB.ms hB.ns hB.ho (pS_congr (eq7.symm hg_37) (rsq_pS hok.1 hrow.2.2.1 i (by omega))).N (show rN (pAt (pget (bk P1 f2) (8 + i)) n k.toNat) by rw [pAt_congr hg_37]; exact hfv (by omega) (by omega) (by omega) i (by omega))) (lw_V q2045 q2047 qs60 q82 q2048) 3 (by decide +kernel) rfl (by decide) (by decide) (cb' := 0) (sb' := 0) (by decide) (by decide) rfl (rest := []) (Nat.le_of_ble_eq_true rfl) (fun q h => hAll q (AH.N q h)) dX4_signChanges_75 (fun v_38 H_39 hpost_40 hz_41 hk_42 => ?_)
              clear hz_41
              obtain ⟨rfl, f_43, hN_44⟩ := hpost_40
              have hB_45 : MB κ ad P1 f_43 g mk S K thr (L : Int) many a1 a2 a3 a4 H_39 := hB.num hI hk_42 (NS.flat0 hN_44)
              refine V.eq (st' := [vi ((pAt (rsq (S a.toNat) i) n k.toNat).sign)]) (by rw [← pAt_congr hg_37]; rfl) ?_
              obtain ⟨sg, hs⟩ : ∃ sg : Int, sg = (pAt (rsq (S a.toNat) i) n k.toNat).sign := ⟨_, rfl⟩
              have hsr : -1 ≤ sg ∧ sg ≤ 1 := by rw [hs]; have := rsign3 (pAt (rsq (S a.toNat) i) n k.toNat); omega
              refine V.topi (x' := sg) (congrArg iZ hs.symm) ?_
              refine v_istore E dX4_signChanges_78 (zlt hL rfl) (lv' := [(7, vi sg), (6, vi (i : Int)), (5, vi l), (4, vi (c : Int)), (3, vi k), (2, vi n), (1, vi a), (0, .ref (ad 3002))]) rfl ?_
              refine v_iload E 3 rfl dX4_signChanges_80 ?_
              refine v_iload E 0 rfl dX4_signChanges_82 ?_
              refine v_if_eq E (tgt := 103) dX4_signChanges_84 (by decide) ⟨by omega, by omega⟩ (fun c_84 => ?_) (fun c_84 => ?_)
              · refine v_iconst E dX4_signChanges_103 ?_
                refine v_iadd E dX4_signChanges_104 ?_
                refine v_istore E dX4_signChanges_105 (zlt hL rfl) (lv' := [(4, vi ((c : Int) + 0)), (7, vi sg), (6, vi (i : Int)), (5, vi l), (3, vi k), (2, vi n), (1, vi a), (0, .ref (ad 3002))]) rfl ?_
                refine v_iload E 1 rfl dX4_signChanges_107 ?_
                refine v_if_ne E (tgt := 117) dX4_signChanges_109 (by decide) ⟨by omega, by omega⟩ (fun c_109 => ?_) (fun c_109 => ?_)
                · refine v_iload E 1 rfl dX4_signChanges_117 ?_
                  refine v_istore E dX4_signChanges_119 (zlt hL rfl) (lv' := [(5, vi sg), (4, vi ((c : Int) + 0)), (7, vi sg), (6, vi (i : Int)), (3, vi k), (2, vi n), (1, vi a), (0, .ref (ad 3002))]) rfl ?_
                  refine v_iinc E 3 rfl dX4_signChanges_121 (zlt hL rfl) (lv' := [(6, vi ((i : Int) + 1)), (5, vi sg), (4, vi ((c : Int) + 0)), (7, vi sg), (3, vi k), (2, vi n), (1, vi a), (0, .ref (ad 3002))]) rfl ?_
                  refine v_goto E (tgt := 55) dX4_signChanges_124 (by decide) ?_
                  refine V.sub [0, 1, 2, 4, 5, 6, 7] (lv' := [(6, vi ((i : Int) + 1)), (5, vi sg), (4, vi ((c : Int) + 0)), (3, vi k), (2, vi n), (1, vi a), (0, .ref (ad 3002))]) rfl ?_
                  exact V.eqL (by first | rfl | rw [show ((c + 1 : Nat) : Int) = (c : Int) + 1 by omega] | rw [show (c : Int) + 0 = (c : Int) by omega]) (ih_55  H_39 (i + 1) c sg f_43 (by omega) (by omega) (by show _ = if (pAt (rsq (S a.toNat) i) n k.toNat).sign ≠ 0 ∧ chL (fun i => pAt (rsq (S a.toNat) i) n k.toNat) i ≠ 0 ∧ (pAt (rsq (S a.toNat) i) n k.toNat).sign ≠ chL (fun i => pAt (rsq (S a.toNat) i) n k.toNat) i then chC (fun i => pAt (rsq (S a.toNat) i) n k.toNat) i + 1 else chC (fun i => pAt (rsq (S a.toNat) i) n k.toNat) i; rw [← hc, ← hl, ← hs]; first | (exfalso; omega) | rw [if_pos (by omega)] | rw [if_neg (by omega)]) (by show _ = if (pAt (rsq (S a.toNat) i) n k.toNat).sign = 0 then chL (fun i => pAt (rsq (S a.toNat) i) n k.toNat) i else (pAt (rsq (S a.toNat) i) n k.toNat).sign; rw [← hl, ← hs]; first | (exfalso; omega) | rw [if_pos (by omega)] | rw [if_neg (by omega)]) (by omega) hB_45)
                · refine v_iload E 3 rfl dX4_signChanges_112 ?_
                  refine v_goto E (tgt := 119) dX4_signChanges_114 (by decide) ?_
                  refine v_istore E dX4_signChanges_119 (zlt hL rfl) (lv' := [(5, vi l), (4, vi ((c : Int) + 0)), (7, vi sg), (6, vi (i : Int)), (3, vi k), (2, vi n), (1, vi a), (0, .ref (ad 3002))]) rfl ?_
                  refine v_iinc E 3 rfl dX4_signChanges_121 (zlt hL rfl) (lv' := [(6, vi ((i : Int) + 1)), (5, vi l), (4, vi ((c : Int) + 0)), (7, vi sg), (3, vi k), (2, vi n), (1, vi a), (0, .ref (ad 3002))]) rfl ?_
                  refine v_goto E (tgt := 55) dX4_signChanges_124 (by decide) ?_
                  refine V.sub [0, 1, 2, 4, 5, 6, 7] (lv' := [(6, vi ((i : Int) + 1)), (5, vi l), (4, vi ((c : Int) + 0)), (3, vi k), (2, vi n), (1, vi a), (0, .ref (ad 3002))]) rfl ?_
                  exact V.eqL (by first | rfl | rw [show ((c + 1 : Nat) : Int) = (c : Int) + 1 by omega] | rw [show (c : Int) + 0 = (c : Int) by omega]) (ih_55  H_39 (i + 1) c l f_43 (by omega) (by omega) (by show _ = if (pAt (rsq (S a.toNat) i) n k.toNat).sign ≠ 0 ∧ chL (fun i => pAt (rsq (S a.toNat) i) n k.toNat) i ≠ 0 ∧ (pAt (rsq (S a.toNat) i) n k.toNat).sign ≠ chL (fun i => pAt (rsq (S a.toNat) i) n k.toNat) i then chC (fun i => pAt (rsq (S a.toNat) i) n k.toNat) i + 1 else chC (fun i => pAt (rsq (S a.toNat) i) n k.toNat) i; rw [← hc, ← hl, ← hs]; first | (exfalso; omega) | rw [if_pos (by omega)] | rw [if_neg (by omega)]) (by show _ = if (pAt (rsq (S a.toNat) i) n k.toNat).sign = 0 then chL (fun i => pAt (rsq (S a.toNat) i) n k.toNat) i else (pAt (rsq (S a.toNat) i) n k.toNat).sign; rw [← hl, ← hs]; first | (exfalso; omega) | rw [if_pos (by omega)] | rw [if_neg (by omega)]) (by omega) hB_45)
              · refine v_iload E 2 rfl dX4_signChanges_87 ?_
                refine v_if_eq E (tgt := 103) dX4_signChanges_89 (by decide) ⟨by omega, by omega⟩ (fun c_89 => ?_) (fun c_89 => ?_)
                · refine v_iconst E dX4_signChanges_103 ?_
                  refine v_iadd E dX4_signChanges_104 ?_
                  refine v_istore E dX4_signChanges_105 (zlt hL rfl) (lv' := [(4, vi ((c : Int) + 0)), (7, vi sg), (6, vi (i : Int)), (5, vi l), (3, vi k), (2, vi n), (1, vi a), (0, .ref (ad 3002))]) rfl ?_
                  refine v_iload E 1 rfl dX4_signChanges_107 ?_
                  refine v_if_ne E (tgt := 117) dX4_signChanges_109 (by decide) ⟨by omega, by omega⟩ (fun c_109 => ?_) (fun c_109 => ?_)
                  · refine v_iload E 1 rfl dX4_signChanges_117 ?_
                    refine v_istore E dX4_signChanges_119 (zlt hL rfl) (lv' := [(5, vi sg), (4, vi ((c : Int) + 0)), (7, vi sg), (6, vi (i : Int)), (3, vi k), (2, vi n), (1, vi a), (0, .ref (ad 3002))]) rfl ?_
                    refine v_iinc E 3 rfl dX4_signChanges_121 (zlt hL rfl) (lv' := [(6, vi ((i : Int) + 1)), (5, vi sg), (4, vi ((c : Int) + 0)), (7, vi sg), (3, vi k), (2, vi n), (1, vi a), (0, .ref (ad 3002))]) rfl ?_
                    refine v_goto E (tgt := 55) dX4_signChanges_124 (by decide) ?_
                    refine V.sub [0, 1, 2, 4, 5, 6, 7] (lv' := [(6, vi ((i : Int) + 1)), (5, vi sg), (4, vi ((c : Int) + 0)), (3, vi k), (2, vi n), (1, vi a), (0, .ref (ad 3002))]) rfl ?_
                    exact V.eqL (by first | rfl | rw [show ((c + 1 : Nat) : Int) = (c : Int) + 1 by omega] | rw [show (c : Int) + 0 = (c : Int) by omega]) (ih_55  H_39 (i + 1) c sg f_43 (by omega) (by omega) (by show _ = if (pAt (rsq (S a.toNat) i) n k.toNat).sign ≠ 0 ∧ chL (fun i => pAt (rsq (S a.toNat) i) n k.toNat) i ≠ 0 ∧ (pAt (rsq (S a.toNat) i) n k.toNat).sign ≠ chL (fun i => pAt (rsq (S a.toNat) i) n k.toNat) i then chC (fun i => pAt (rsq (S a.toNat) i) n k.toNat) i + 1 else chC (fun i => pAt (rsq (S a.toNat) i) n k.toNat) i; rw [← hc, ← hl, ← hs]; first | (exfalso; omega) | rw [if_pos (by omega)] | rw [if_neg (by omega)]) (by show _ = if (pAt (rsq (S a.toNat) i) n k.toNat).sign = 0 then chL (fun i => pAt (rsq (S a.toNat) i) n k.toNat) i else (pAt (rsq (S a.toNat) i) n k.toNat).sign; rw [← hl, ← hs]; first | (exfalso; omega) | rw [if_pos (by omega)] | rw [if_neg (by omega)]) (by omega) hB_45)
                  · refine v_iload E 3 rfl dX4_signChanges_112 ?_
                    refine v_goto E (tgt := 119) dX4_signChanges_114 (by decide) ?_
                    refine v_istore E dX4_signChanges_119 (zlt hL rfl) (lv' := [(5, vi l), (4, vi ((c : Int) + 0)), (7, vi sg), (6, vi (i : Int)), (3, vi k), (2, vi n), (1, vi a), (0, .ref (ad 3002))]) rfl ?_
                    refine v_iinc E 3 rfl dX4_signChanges_121 (zlt hL rfl) (lv' := [(6, vi ((i : Int) + 1)), (5, vi l), (4, vi ((c : Int) + 0)), (7, vi sg), (3, vi k), (2, vi n), (1, vi a), (0, .ref (ad 3002))]) rfl ?_
                    refine v_goto E (tgt := 55) dX4_signChanges_124 (by decide) ?_
                    refine V.sub [0, 1, 2, 4, 5, 6, 7] (lv' := [(6, vi ((i : Int) + 1)), (5, vi l), (4, vi ((c : Int) + 0)), (3, vi k), (2, vi n), (1, vi a), (0, .ref (ad 3002))]) rfl ?_
                    exact V.eqL (by first | rfl | rw [show ((c + 1 : Nat) : Int) = (c : Int) + 1 by omega] | rw [show (c : Int) + 0 = (c : Int) by omega]) (ih_55  H_39 (i + 1) c l f_43 (by omega) (by omega) (by show _ = if (pAt (rsq (S a.toNat) i) n k.toNat).sign ≠ 0 ∧ chL (fun i => pAt (rsq (S a.toNat) i) n k.toNat) i ≠ 0 ∧ (pAt (rsq (S a.toNat) i) n k.toNat).sign ≠ chL (fun i => pAt (rsq (S a.toNat) i) n k.toNat) i then chC (fun i => pAt (rsq (S a.toNat) i) n k.toNat) i + 1 else chC (fun i => pAt (rsq (S a.toNat) i) n k.toNat) i; rw [← hc, ← hl, ← hs]; first | (exfalso; omega) | rw [if_pos (by omega)] | rw [if_neg (by omega)]) (by show _ = if (pAt (rsq (S a.toNat) i) n k.toNat).sign = 0 then chL (fun i => pAt (rsq (S a.toNat) i) n k.toNat) i else (pAt (rsq (S a.toNat) i) n k.toNat).sign; rw [← hl, ← hs]; first | (exfalso; omega) | rw [if_pos (by omega)] | rw [if_neg (by omega)]) (by omega) hB_45)
                · refine v_iload E 0 rfl dX4_signChanges_92 ?_
                  refine v_iload E 2 rfl dX4_signChanges_94 ?_
                  refine v_icmp_eq E (tgt := 103) dX4_signChanges_96 (by decide) ⟨by omega, by omega⟩ ⟨by omega, by omega⟩ (fun c_96 => ?_) (fun c_96 => ?_)
                  · refine v_iconst E dX4_signChanges_103 ?_
                    refine v_iadd E dX4_signChanges_104 ?_
                    refine v_istore E dX4_signChanges_105 (zlt hL rfl) (lv' := [(4, vi ((c : Int) + 0)), (7, vi sg), (6, vi (i : Int)), (5, vi l), (3, vi k), (2, vi n), (1, vi a), (0, .ref (ad 3002))]) rfl ?_
                    refine v_iload E 1 rfl dX4_signChanges_107 ?_
                    refine v_if_ne E (tgt := 117) dX4_signChanges_109 (by decide) ⟨by omega, by omega⟩ (fun c_109 => ?_) (fun c_109 => ?_)
                    · refine v_iload E 1 rfl dX4_signChanges_117 ?_
                      refine v_istore E dX4_signChanges_119 (zlt hL rfl) (lv' := [(5, vi sg), (4, vi ((c : Int) + 0)), (7, vi sg), (6, vi (i : Int)), (3, vi k), (2, vi n), (1, vi a), (0, .ref (ad 3002))]) rfl ?_
                      refine v_iinc E 3 rfl dX4_signChanges_121 (zlt hL rfl) (lv' := [(6, vi ((i : Int) + 1)), (5, vi sg), (4, vi ((c : Int) + 0)), (7, vi sg), (3, vi k), (2, vi n), (1, vi a), (0, .ref (ad 3002))]) rfl ?_
                      refine v_goto E (tgt := 55) dX4_signChanges_124 (by decide) ?_
                      refine V.sub [0, 1, 2, 4, 5, 6, 7] (lv' := [(6, vi ((i : Int) + 1)), (5, vi sg), (4, vi ((c : Int) + 0)), (3, vi k), (2, vi n), (1, vi a), (0, .ref (ad 3002))]) rfl ?_
                      exact V.eqL (by first | rfl | rw [show ((c + 1 : Nat) : Int) = (c : Int) + 1 by omega] | rw [show (c : Int) + 0 = (c : Int) by omega]) (ih_55  H_39 (i + 1) c sg f_43 (by omega) (by omega) (by show _ = if (pAt (rsq (S a.toNat) i) n k.toNat).sign ≠ 0 ∧ chL (fun i => pAt (rsq (S a.toNat) i) n k.toNat) i ≠ 0 ∧ (pAt (rsq (S a.toNat) i) n k.toNat).sign ≠ chL (fun i => pAt (rsq (S a.toNat) i) n k.toNat) i then chC (fun i => pAt (rsq (S a.toNat) i) n k.toNat) i + 1 else chC (fun i => pAt (rsq (S a.toNat) i) n k.toNat) i; rw [← hc, ← hl, ← hs]; first | (exfalso; omega) | rw [if_pos (by omega)] | rw [if_neg (by omega)]) (by show _ = if (pAt (rsq (S a.toNat) i) n k.toNat).sign = 0 then chL (fun i => pAt (rsq (S a.toNat) i) n k.toNat) i else (pAt (rsq (S a.toNat) i) n k.toNat).sign; rw [← hl, ← hs]; first | (exfalso; omega) | rw [if_pos (by omega)] | rw [if_neg (by omega)]) (by omega) hB_45)
                    · refine v_iload E 3 rfl dX4_signChanges_112 ?_
                      refine v_goto E (tgt := 119) dX4_signChanges_114 (by decide) ?_
                      refine v_istore E dX4_signChanges_119 (zlt hL rfl) (lv' := [(5, vi l), (4, vi ((c : Int) + 0)), (7, vi sg), (6, vi (i : Int)), (3, vi k), (2, vi n), (1, vi a), (0, .ref (ad 3002))]) rfl ?_
                      refine v_iinc E 3 rfl dX4_signChanges_121 (zlt hL rfl) (lv' := [(6, vi ((i : Int) + 1)), (5, vi l), (4, vi ((c : Int) + 0)), (7, vi sg), (3, vi k), (2, vi n), (1, vi a), (0, .ref (ad 3002))]) rfl ?_
                      refine v_goto E (tgt := 55) dX4_signChanges_124 (by decide) ?_
                      refine V.sub [0, 1, 2, 4, 5, 6, 7] (lv' := [(6, vi ((i : Int) + 1)), (5, vi l), (4, vi ((c : Int) + 0)), (3, vi k), (2, vi n), (1, vi a), (0, .ref (ad 3002))]) rfl ?_
                      exact V.eqL (by first | rfl | rw [show ((c + 1 : Nat) : Int) = (c : Int) + 1 by omega] | rw [show (c : Int) + 0 = (c : Int) by omega]) (ih_55  H_39 (i + 1) c l f_43 (by omega) (by omega) (by show _ = if (pAt (rsq (S a.toNat) i) n k.toNat).sign ≠ 0 ∧ chL (fun i => pAt (rsq (S a.toNat) i) n k.toNat) i ≠ 0 ∧ (pAt (rsq (S a.toNat) i) n k.toNat).sign ≠ chL (fun i => pAt (rsq (S a.toNat) i) n k.toNat) i then chC (fun i => pAt (rsq (S a.toNat) i) n k.toNat) i + 1 else chC (fun i => pAt (rsq (S a.toNat) i) n k.toNat) i; rw [← hc, ← hl, ← hs]; first | (exfalso; omega) | rw [if_pos (by omega)] | rw [if_neg (by omega)]) (by show _ = if (pAt (rsq (S a.toNat) i) n k.toNat).sign = 0 then chL (fun i => pAt (rsq (S a.toNat) i) n k.toNat) i else (pAt (rsq (S a.toNat) i) n k.toNat).sign; rw [← hl, ← hs]; first | (exfalso; omega) | rw [if_pos (by omega)] | rw [if_neg (by omega)]) (by omega) hB_45)
                  · refine v_iconst E dX4_signChanges_99 ?_
                    refine v_goto E (tgt := 104) dX4_signChanges_100 (by decide) ?_
                    refine v_iadd E dX4_signChanges_104 ?_
                    refine v_istore E dX4_signChanges_105 (zlt hL rfl) (lv' := [(4, vi ((c : Int) + 1)), (7, vi sg), (6, vi (i : Int)), (5, vi l), (3, vi k), (2, vi n), (1, vi a), (0, .ref (ad 3002))]) rfl ?_
                    refine v_iload E 1 rfl dX4_signChanges_107 ?_
                    refine v_if_ne E (tgt := 117) dX4_signChanges_109 (by decide) ⟨by omega, by omega⟩ (fun c_109 => ?_) (fun c_109 => ?_)
                    · refine v_iload E 1 rfl dX4_signChanges_117 ?_
                      refine v_istore E dX4_signChanges_119 (zlt hL rfl) (lv' := [(5, vi sg), (4, vi ((c : Int) + 1)), (7, vi sg), (6, vi (i : Int)), (3, vi k), (2, vi n), (1, vi a), (0, .ref (ad 3002))]) rfl ?_
                      refine v_iinc E 3 rfl dX4_signChanges_121 (zlt hL rfl) (lv' := [(6, vi ((i : Int) + 1)), (5, vi sg), (4, vi ((c : Int) + 1)), (7, vi sg), (3, vi k), (2, vi n), (1, vi a), (0, .ref (ad 3002))]) rfl ?_
                      refine v_goto E (tgt := 55) dX4_signChanges_124 (by decide) ?_
                      refine V.sub [0, 1, 2, 4, 5, 6, 7] (lv' := [(6, vi ((i : Int) + 1)), (5, vi sg), (4, vi ((c : Int) + 1)), (3, vi k), (2, vi n), (1, vi a), (0, .ref (ad 3002))]) rfl ?_
                      exact V.eqL (by first | rfl | rw [show ((c + 1 : Nat) : Int) = (c : Int) + 1 by omega] | rw [show (c : Int) + 0 = (c : Int) by omega]) (ih_55  H_39 (i + 1) (c + 1) sg f_43 (by omega) (by omega) (by show _ = if (pAt (rsq (S a.toNat) i) n k.toNat).sign ≠ 0 ∧ chL (fun i => pAt (rsq (S a.toNat) i) n k.toNat) i ≠ 0 ∧ (pAt (rsq (S a.toNat) i) n k.toNat).sign ≠ chL (fun i => pAt (rsq (S a.toNat) i) n k.toNat) i then chC (fun i => pAt (rsq (S a.toNat) i) n k.toNat) i + 1 else chC (fun i => pAt (rsq (S a.toNat) i) n k.toNat) i; rw [← hc, ← hl, ← hs]; first | (exfalso; omega) | rw [if_pos (by omega)] | rw [if_neg (by omega)]) (by show _ = if (pAt (rsq (S a.toNat) i) n k.toNat).sign = 0 then chL (fun i => pAt (rsq (S a.toNat) i) n k.toNat) i else (pAt (rsq (S a.toNat) i) n k.toNat).sign; rw [← hl, ← hs]; first | (exfalso; omega) | rw [if_pos (by omega)] | rw [if_neg (by omega)]) (by omega) hB_45)
                    · refine v_iload E 3 rfl dX4_signChanges_112 ?_
                      refine v_goto E (tgt := 119) dX4_signChanges_114 (by decide) ?_
                      refine v_istore E dX4_signChanges_119 (zlt hL rfl) (lv' := [(5, vi l), (4, vi ((c : Int) + 1)), (7, vi sg), (6, vi (i : Int)), (3, vi k), (2, vi n), (1, vi a), (0, .ref (ad 3002))]) rfl ?_
                      refine v_iinc E 3 rfl dX4_signChanges_121 (zlt hL rfl) (lv' := [(6, vi ((i : Int) + 1)), (5, vi l), (4, vi ((c : Int) + 1)), (7, vi sg), (3, vi k), (2, vi n), (1, vi a), (0, .ref (ad 3002))]) rfl ?_
                      refine v_goto E (tgt := 55) dX4_signChanges_124 (by decide) ?_
                      refine V.sub [0, 1, 2, 4, 5, 6, 7] (lv' := [(6, vi ((i : Int) + 1)), (5, vi l), (4, vi ((c : Int) + 1)), (3, vi k), (2, vi n), (1, vi a), (0, .ref (ad 3002))]) rfl ?_
                      exact V.eqL (by first | rfl | rw [show ((c + 1 : Nat) : Int) = (c : Int) + 1 by omega] | rw [show (c : Int) + 0 = (c : Int) by omega]) (ih_55  H_39 (i + 1) (c + 1) l f_43 (by omega) (by omega) (by show _ = if (pAt (rsq (S a.toNat) i) n k.toNat).sign ≠ 0 ∧ chL (fun i => pAt (rsq (S a.toNat) i) n k.toNat) i ≠ 0 ∧ (pAt (rsq (S a.toNat) i) n k.toNat).sign ≠ chL (fun i => pAt (rsq (S a.toNat) i) n k.toNat) i then chC (fun i => pAt (rsq (S a.toNat) i) n k.toNat) i + 1 else chC (fun i => pAt (rsq (S a.toNat) i) n k.toNat) i; rw [← hc, ← hl, ← hs]; first | (exfalso; omega) | rw [if_pos (by omega)] | rw [if_neg (by omega)]) (by show _ = if (pAt (rsq (S a.toNat) i) n k.toNat).sign = 0 then chL (fun i => pAt (rsq (S a.toNat) i) n k.toNat) i else (pAt (rsq (S a.toNat) i) n k.toNat).sign; rw [← hl, ← hs]; first | (exfalso; omega) | rw [if_pos (by omega)] | rw [if_neg (by omega)]) (by omega) hB_45)
        refine V.sub [0, 1, 2, 6, 5, 4, 3] (lv' := [(6, vi 0), (5, vi 0), (4, vi 0), (3, vi k), (2, vi n), (1, vi a), (0, .ref (ad 3002))]) rfl ?_
        exact loop_55 (L + 1) H_26 0 0 0 f1 (by omega) (by omega) rfl rfl (by decide) hB_30
      · refine v_aload_n E 0 rfl dX4_signChanges_35 ?_
        refine v_iconst E dX4_signChanges_36 ?_
        refine v_callV E (As := [vi 3]) (b := (ad 3002)) (ci := 3) (C := RX4) (T := TX4) (N := 27) hB_24.ho rfl (m_fails κ H_19 hI hB_24) (lw_V q1857 q1859 qs47 q82 q1860) 1 (by decide +kernel) rfl (by decide) (by decide) (cb' := 0) (sb' := 0) (by decide) (by decide) rfl (rest := []) (Nat.le_of_ble_eq_true rfl) hAll dX4_signChanges_37 (fun v_46 H_47 hpost_48 hz_49 hk_50 => ?_)
        clear hz_49
        obtain ⟨rfl, hB_51⟩ := hpost_48
        refine V.eq (st' := [vi 0]) rfl ?_
        refine v_iret E hE dX4_signChanges_40 ?_
        have hR : opVar S a n k = (0, 3, S) := by unfold opVar; rw [if_pos (by omega), if_pos (by omega), if_pos (by omega)]
        rw [hR]; exact ⟨rfl, P, _, _, _, _, eq7.rfl', hB_51⟩
    · refine v_aload_n E 0 rfl dX4_signChanges_21 ?_
      refine v_iconst E dX4_signChanges_22 ?_
      refine v_callV E (As := [vi 2]) (b := (ad 3002)) (ci := 3) (C := RX4) (T := TX4) (N := 27) hB_16.ho rfl (m_fails κ H_11 hI hB_16) (lw_V q1857 q1859 qs47 q82 q1860) 1 (by decide +kernel) rfl (by decide) (by decide) (cb' := 0) (sb' := 0) (by decide) (by decide) rfl (rest := []) (Nat.le_of_ble_eq_true rfl) hAll dX4_signChanges_23 (fun v_52 H_53 hpost_54 hz_55 hk_56 => ?_)
      clear hz_55
      obtain ⟨rfl, hB_57⟩ := hpost_54
      refine V.eq (st' := [vi 0]) rfl ?_
      refine v_iret E hE dX4_signChanges_26 ?_
      have hR : opVar S a n k = (0, 2, S) := by unfold opVar; rw [if_pos (by omega), if_neg (by omega)]
      rw [hR]; exact ⟨rfl, P, _, _, _, _, eq7.rfl', hB_57⟩
  · refine v_aload_n E 0 rfl dX4_signChanges_7 ?_
    refine v_iconst E dX4_signChanges_8 ?_
    refine v_callV E (As := [vi 1]) (b := (ad 3002)) (ci := 3) (C := RX4) (T := TX4) (N := 27) hB_8.ho rfl (m_fails κ H_3 hI hB_8) (lw_V q1857 q1859 qs47 q82 q1860) 1 (by decide +kernel) rfl (by decide) (by decide) (cb' := 0) (sb' := 0) (by decide) (by decide) rfl (rest := []) (Nat.le_of_ble_eq_true rfl) hAll dX4_signChanges_9 (fun v_58 H_59 hpost_60 hz_61 hk_62 => ?_)
    clear hz_61
    obtain ⟨rfl, hB_63⟩ := hpost_60
    refine V.eq (st' := [vi 0]) rfl ?_
    refine v_iret E hE dX4_signChanges_12 ?_
    have hR : opVar S a n k = (0, 1, S) := by unfold opVar; rw [if_neg (by omega)]
    rw [hR]; exact ⟨rfl, P, _, _, _, _, eq7.rfl', hB_63⟩
