set_option maxHeartbeats 400000 in
set_option maxRecDepth 100000 in
/-- is the question refused -/
theorem m_refused (κ : zK) (H0 : Heap) {ad : Nat → Nat} {P : Nat → Nat → Int} {f g mk : Nat → Int} {S : Nat → Nat → Int} {K : Nat → Int} {thr len many : Int} {a1 a2 a3 a4 : Nat} {a n k m l : Int} (ha : rI a) (hn : rI n) (hk : rI k) (hm : rI m) (hl : rI l) (hS : bS S) (hfv : (0 ≤ a ∧ a < 5) → ((-1000000 ≤ n ∧ n ≤ 1000000) ∧ (0 ≤ k ∧ k ≤ 12)) → ((-1000000 ≤ m ∧ m ≤ 1000000) ∧ (0 ≤ l ∧ l ≤ 12)) → rN (pAt (S a.toNat) n k.toNat) ∧ rN (pAt (S a.toNat) m l.toNat)) (hI : Inj ad) (hB : MB κ ad P f g mk S K thr len many a1 a2 a3 a4 H0) : Mt κ yX4_refused cX4_refused 6 (some .int) 3 76 0 0 H0 [.ref (ad 3002), vi a, vi n, vi k, vi m, vi l] (AH ad) (fun v H1 => v = some (vi (refF S a n k m l)) ∧ ∃ (P1 : Nat → Nat → Int) (f1 : Nat → Int), eq7 (P1 7) (P 7) ∧ (refF S a n k m l = 0 → eq7 (P1 6) (S a.toNat)) ∧ MB κ ad P1 f1 g mk S K thr len many a1 a2 a3 a4 H1) := by
  refine Mt.of (by decide) (Nat.le_of_ble_eq_true rfl) ?_
  intro z E hE hH0 hA0 hL hini
  have hAll : ∀ q, (AH ad) q → zA z.A z.H0 q := fun q h => Or.inl (by rw [hA0]; exact h)
  have hNew : ∀ q, H0.size ≤ q → zA z.A z.H0 q := fun q h => Or.inr (by rw [hH0]; exact h)
  have E : zOK z cX4_refused RX4 κ 3 76 (some .int) := E
  refine V.eqL (lv' := [(0, .ref (ad 3002)), (1, vi a), (2, vi n), (3, vi k), (4, vi m), (5, vi l)]) rfl ?_
  refine v_iload_n E 1 rfl dX4_refused_0 ?_
  refine v_callS E (As := [vi a]) (m_isSlot κ H0 (by first | assumption | decide | exact ⟨by omega, by omega⟩)) (lw_S q1851 q1852 q82 q1853) 1 (by decide +kernel) rfl (by decide) (by decide) (cb' := 0) (sb' := 0) (by decide) (by decide) rfl (rest := []) (Nat.le_of_ble_eq_true rfl) (fun q h => h.elim) dX4_refused_1 (fun v_2 H_3 hpost_4 hz_5 hk_6 => ?_)
  clear hz_5
  obtain rfl := hpost_4
  obtain ⟨b_1, hb_7, hb_7e⟩ : ∃ b9 : Int, (b9 = 0 ∧ ¬ (0 ≤ a ∧ a < 5) ∨ b9 = 1 ∧ (0 ≤ a ∧ a < 5)) ∧ (if 0 ≤ a ∧ a < 5 then 1 else 0 : Int) = b9 := by
    by_cases c : 0 ≤ a ∧ a < 5
    · exact ⟨1, Or.inr ⟨rfl, c⟩, if_pos c⟩
    · exact ⟨0, Or.inl ⟨rfl, c⟩, if_neg c⟩
  have hB_8 : MB κ ad P f g mk S K thr len many a1 a2 a3 a4 H_3 := hB.nil hk_6
  refine V.eq (st' := [vi b_1]) (by rw [hb_7e]; rfl) ?_
  refine v_if_ne E (tgt := 9) dX4_refused_4 (by decide) ⟨by omega, by omega⟩ (fun c_4 => ?_) (fun c_4 => ?_)
  · refine v_iload_n E 2 rfl dX4_refused_9 ?_
    refine v_iload_n E 3 rfl dX4_refused_10 ?_
    refine v_callS E (As := [vi n, vi k]) (m_isPoint κ H_3 (by first | assumption | decide | exact ⟨by omega, by omega⟩) (by first | assumption | decide | exact ⟨by omega, by omega⟩)) (lw_S q2040 q2041 q82 q2042) 2 (by decide +kernel) rfl (by decide) (by decide) (cb' := 0) (sb' := 0) (by decide) (by decide) rfl (rest := []) (Nat.le_of_ble_eq_true rfl) (fun q h => h.elim) dX4_refused_11 (fun v_10 H_11 hpost_12 hz_13 hk_14 => ?_)
    clear hz_13
    obtain rfl := hpost_12
    obtain ⟨b_9, hb_15, hb_15e⟩ : ∃ b9 : Int, (b9 = 0 ∧ ¬ ((-1000000 ≤ n ∧ n ≤ 1000000) ∧ (0 ≤ k ∧ k ≤ 12)) ∨ b9 = 1 ∧ ((-1000000 ≤ n ∧ n ≤ 1000000) ∧ (0 ≤ k ∧ k ≤ 12))) ∧ (if (-1000000 ≤ n ∧ n ≤ 1000000) ∧ (0 ≤ k ∧ k ≤ 12) then 1 else 0 : Int) = b9 := by
      by_cases c : (-1000000 ≤ n ∧ n ≤ 1000000) ∧ (0 ≤ k ∧ k ≤ 12)
      · exact ⟨1, Or.inr ⟨rfl, c⟩, if_pos c⟩
      · exact ⟨0, Or.inl ⟨rfl, c⟩, if_neg c⟩
    have hB_16 : MB κ ad P f g mk S K thr len many a1 a2 a3 a4 H_11 := hB_8.nil hk_14
    refine V.eq (st' := [vi b_9]) (by rw [hb_15e]; rfl) ?_
    refine v_if_eq E (tgt := 41) dX4_refused_14 (by decide) ⟨by omega, by omega⟩ (fun c_14 => ?_) (fun c_14 => ?_)
    · refine v_iconst E dX4_refused_41 ?_
      refine v_iret E hE dX4_refused_42 ?_
      have hno : ¬ (((-1000000 ≤ n ∧ n ≤ 1000000) ∧ (0 ≤ k ∧ k ≤ 12)) ∧ ((-1000000 ≤ m ∧ m ≤ 1000000) ∧ (0 ≤ l ∧ l ≤ 12)) ∧ n * 2 ^ l.toNat < m * 2 ^ k.toNat) := by omega
      have hR : refF S a n k m l = 2 := by unfold refF; rw [if_pos (by omega), if_neg hno]
      rw [hR]; exact ⟨rfl, P, _, eq7.rfl', fun h => absurd h (by decide), hB_16⟩
    · refine v_iload E 4 rfl dX4_refused_17 ?_
      refine v_iload E 5 rfl dX4_refused_19 ?_
      refine v_callS E (As := [vi m, vi l]) (m_isPoint κ H_11 (by first | assumption | decide | exact ⟨by omega, by omega⟩) (by first | assumption | decide | exact ⟨by omega, by omega⟩)) (lw_S q2040 q2041 q82 q2042) 2 (by decide +kernel) rfl (by decide) (by decide) (cb' := 0) (sb' := 0) (by decide) (by decide) rfl (rest := []) (Nat.le_of_ble_eq_true rfl) (fun q h => h.elim) dX4_refused_21 (fun v_18 H_19 hpost_20 hz_21 hk_22 => ?_)
      clear hz_21
      obtain rfl := hpost_20
      obtain ⟨b_17, hb_23, hb_23e⟩ : ∃ b9 : Int, (b9 = 0 ∧ ¬ ((-1000000 ≤ m ∧ m ≤ 1000000) ∧ (0 ≤ l ∧ l ≤ 12)) ∨ b9 = 1 ∧ ((-1000000 ≤ m ∧ m ≤ 1000000) ∧ (0 ≤ l ∧ l ≤ 12))) ∧ (if (-1000000 ≤ m ∧ m ≤ 1000000) ∧ (0 ≤ l ∧ l ≤ 12) then 1 else 0 : Int) = b9 := by
        by_cases c : (-1000000 ≤ m ∧ m ≤ 1000000) ∧ (0 ≤ l ∧ l ≤ 12)
        · exact ⟨1, Or.inr ⟨rfl, c⟩, if_pos c⟩
        · exact ⟨0, Or.inl ⟨rfl, c⟩, if_neg c⟩
      have hB_24 : MB κ ad P f g mk S K thr len many a1 a2 a3 a4 H_19 := hB_16.nil hk_22
      refine V.eq (st' := [vi b_17]) (by rw [hb_23e]; rfl) ?_
      refine v_if_eq E (tgt := 41) dX4_refused_24 (by decide) ⟨by omega, by omega⟩ (fun c_24 => ?_) (fun c_24 => ?_)
      · refine v_iconst E dX4_refused_41 ?_
        refine v_iret E hE dX4_refused_42 ?_
        have hno : ¬ (((-1000000 ≤ n ∧ n ≤ 1000000) ∧ (0 ≤ k ∧ k ≤ 12)) ∧ ((-1000000 ≤ m ∧ m ≤ 1000000) ∧ (0 ≤ l ∧ l ≤ 12)) ∧ n * 2 ^ l.toNat < m * 2 ^ k.toNat) := by omega
        have hR : refF S a n k m l = 2 := by unfold refF; rw [if_pos (by omega), if_neg hno]
        rw [hR]; exact ⟨rfl, P, _, eq7.rfl', fun h => absurd h (by decide), hB_24⟩
      · refine v_iload_n E 2 rfl dX4_refused_27 ?_
        refine v_i2l E ⟨by omega, by omega⟩ dX4_refused_28 ?_
        refine v_iload E 5 rfl dX4_refused_29 ?_
        refine V.topi (x' := ((l.toNat : Nat) : Int)) (congrArg iZ (by omega)) ?_
        refine v_lshl E l.toNat (by omega) dX4_refused_31 ?_
        refine v_iload E 4 rfl dX4_refused_32 ?_
        refine v_i2l E ⟨by omega, by omega⟩ dX4_refused_34 ?_
        refine v_iload_n E 3 rfl dX4_refused_35 ?_
        refine V.topi (x' := ((k.toNat : Nat) : Int)) (congrArg iZ (by omega)) ?_
        refine v_lshl E k.toNat (by omega) dX4_refused_36 ?_
        refine v_lc_lt E (tgt := 43) dX4_refused_37 dX4_refused_38 (by decide) (by have := pt_in (n := n) (e := l.toNat) (by omega) (by omega); exact rJ_small ⟨by omega, by omega⟩) (by have := pt_in (n := m) (e := k.toNat) (by omega) (by omega); exact rJ_small ⟨by omega, by omega⟩) (fun c_37 => ?_) (fun c_37 => ?_)
        · refine v_aload_n E 0 rfl dX4_refused_43 ?_
          refine v_iload_n E 1 rfl dX4_refused_44 ?_
          refine v_callV E (As := [vi a]) (b := (ad 3002)) (ci := 3) (C := RX4) (T := TX4) (N := 27) hB_24.ho rfl (m_isZero κ H_19 (by omega) hS hI hB_24) (lw_V q2006 q2008 qs57 q82 q2009) 1 (by decide +kernel) rfl (by decide) (by decide) (cb' := 0) (sb' := 0) (by decide) (by decide) rfl (rest := []) (Nat.le_of_ble_eq_true rfl) (fun q h => h.elim) dX4_refused_45 (fun v_26 H_27 hpost_28 hz_29 hk_30 => ?_)
          clear hz_29
          obtain rfl := hpost_28
          obtain ⟨b_25, hb_31, hb_31e⟩ : ∃ b9 : Int, (b9 = 0 ∧ ¬ (pdeg (S a.toNat) < 0) ∨ b9 = 1 ∧ (pdeg (S a.toNat) < 0)) ∧ (if pdeg (S a.toNat) < 0 then 1 else 0 : Int) = b9 := by
            by_cases c : pdeg (S a.toNat) < 0
            · exact ⟨1, Or.inr ⟨rfl, c⟩, if_pos c⟩
            · exact ⟨0, Or.inl ⟨rfl, c⟩, if_neg c⟩
          have hB_32 : MB κ ad P f g mk S K thr len many a1 a2 a3 a4 H_27 := hB_24.nil hk_30
          refine V.eq (st' := [vi b_25]) (by rw [hb_31e]; rfl) ?_
          refine v_if_eq E (tgt := 53) dX4_refused_48 (by decide) ⟨by omega, by omega⟩ (fun c_48 => ?_) (fun c_48 => ?_)
          · refine v_aload_n E 0 rfl dX4_refused_53 ?_
            refine v_getf E in_X4 hB_32.ho (ci := 3) rfl 1 (by decide) q1761 rfl (v := .ref (ad 3003)) rfl dX4_refused_54 ?_
            refine v_iload_n E 1 rfl dX4_refused_57 ?_
            refine v_aaldS E dX4_refused_58 (hB_32.ms).2.2.2 (t := 3) (ty := (.array .int)) rfl rfl a.toNat (by omega) (by omega) (by omega) (b := (ad (3010 + a.toNat))) rfl ?_
            refine v_aload_n E 0 rfl dX4_refused_59 ?_
            refine v_getf E in_X4 hB_32.ho (ci := 3) rfl 17 (by decide) q1777 rfl (v := .ref (ad (2000 + 6))) rfl dX4_refused_60 ?_
            refine v_callS E (As := [.ref (ad (3010 + a.toNat)), .ref (ad (2000 + 6))]) (m_load κ H_27 (hS.rI (i := a.toNat) (by omega)) (fun i hi => hI.ne (by omega)) (hB_32.sl a.toNat (by omega)) (by decide) hI hB_32.ms hB_32.ns) (lw_S q1918 q1919 q82 q1920) 2 (by decide +kernel) rfl (by decide) (by decide) (cb' := 0) (sb' := 0) (by decide) (by decide) rfl (rest := []) (Nat.le_of_ble_eq_true rfl) (fun q h => hAll q (AH.N q h)) dX4_refused_63 (fun v_33 H_34 hpost_35 hz_36 hk_37 => ?_)
            clear hz_36
            obtain ⟨rfl, hN_38⟩ := hpost_35
            have hN_39 : NS κ ad (bk (va_up P 6 (S a.toNat)) f) H_34 := hN_38.ps eq7.rfl'
            have hB_40 : MB κ ad (va_up P 6 (S a.toNat)) f g mk S K thr len many a1 a2 a3 a4 H_34 := hB_32.num hI hk_37 hN_39
            refine V.eq (st' := []) rfl ?_
            refine v_aload_n E 0 rfl dX4_refused_66 ?_
            refine v_aload_n E 0 rfl dX4_refused_67 ?_
            refine v_getf E in_X4 hB_40.ho (ci := 3) rfl 17 (by decide) q1777 rfl (v := .ref (ad (2000 + 6))) rfl dX4_refused_68 ?_
            refine v_iload_n E 2 rfl dX4_refused_71 ?_
            refine v_i2l E ⟨by omega, by omega⟩ dX4_refused_72 ?_
            refine v_iload_n E 3 rfl dX4_refused_73 ?_
            refine V.topi (x' := ((k.toNat : Nat) : Int)) (congrArg iZ (by omega)) ?_
            have hg_41 : eq7 (pget (bk (va_up P 6 (S a.toNat)) f) (6)) (S a.toNat) := bk_get
            refine v_callV E (As := [.ref (ad (2000 + 6)), vj n, vi ((k.toNat : Nat) : Int)]) (b := (ad 3002)) (ci := 3) (C := RX4) (T := TX4) (N := 27) hB_40.ho rfl (m_signAt κ H_34 (j := 6) (e := k.toNat) (by omega) (by omega) ⟨by omega, by omega⟩ hI hB_40.ms hB_40.ns hB_40.ho (pS_congr (eq7.symm hg_41) (hS.pS (by omega))).N (show rN (pAt (pget (bk (va_up P 6 (S a.toNat)) f) (6)) n k.toNat) by rw [pAt_congr hg_41]; exact (hfv (by omega) (by omega) (by omega)).1)) (lw_V q2045 q2047 qs60 q82 q2048) 3 (by decide +kernel) rfl (by decide) (by decide) (cb' := 0) (sb' := 0) (by decide) (by decide) rfl (rest := []) (Nat.le_of_ble_eq_true rfl) (fun q h => hAll q (AH.N q h)) dX4_refused_74 (fun v_42 H_43 hpost_44 hz_45 hk_46 => ?_)
            clear hz_45
            obtain ⟨rfl, f_47, hN_48⟩ := hpost_44
            have hB_49 : MB κ ad (va_up P 6 (S a.toNat)) f_47 g mk S K thr len many a1 a2 a3 a4 H_43 := hB_40.num hI hk_46 (NS.flat0 hN_48)
            refine V.eq (st' := [vi ((pAt (S a.toNat) n k.toNat).sign)]) (by rw [← pAt_congr hg_41]; rfl) ?_
            have hsb_a := rsign3 (pAt (S a.toNat) n k.toNat)
            refine v_if_eq E (tgt := 96) dX4_refused_77 (by decide) ⟨by omega, by omega⟩ (fun c_77 => ?_) (fun c_77 => ?_)
            · refine v_iconst E dX4_refused_96 ?_
              refine v_goto E (tgt := 101) dX4_refused_97 (by decide) ?_
              refine v_iret E hE dX4_refused_101 ?_
              have hlt : ((-1000000 ≤ n ∧ n ≤ 1000000) ∧ (0 ≤ k ∧ k ≤ 12)) ∧ ((-1000000 ≤ m ∧ m ≤ 1000000) ∧ (0 ≤ l ∧ l ≤ 12)) ∧ n * 2 ^ l.toNat < m * 2 ^ k.toNat := ⟨by omega, by omega, by omega⟩
              have hz : pAt (S a.toNat) n k.toNat = 0 ∨ pAt (S a.toNat) m l.toNat = 0 := by
                first
                  | exact Or.inr (Int.sign_eq_zero_iff_zero.mp (by omega))
                  | exact Or.inl (Int.sign_eq_zero_iff_zero.mp (by omega))
              have hR : refF S a n k m l = 4 := by unfold refF; rw [if_pos (by omega), if_pos hlt, if_neg (by omega), if_pos hz]
              rw [hR]; exact ⟨rfl, (va_up P 6 (S a.toNat)), _, eq7.rfl', fun h => absurd h (by decide), hB_49⟩
            · refine v_aload_n E 0 rfl dX4_refused_80 ?_
              refine v_aload_n E 0 rfl dX4_refused_81 ?_
              refine v_getf E in_X4 hB_49.ho (ci := 3) rfl 17 (by decide) q1777 rfl (v := .ref (ad (2000 + 6))) rfl dX4_refused_82 ?_
              refine v_iload E 4 rfl dX4_refused_85 ?_
              refine v_i2l E ⟨by omega, by omega⟩ dX4_refused_87 ?_
              refine v_iload E 5 rfl dX4_refused_88 ?_
              refine V.topi (x' := ((l.toNat : Nat) : Int)) (congrArg iZ (by omega)) ?_
              have hg_50 : eq7 (pget (bk (va_up P 6 (S a.toNat)) f_47) (6)) (S a.toNat) := bk_get
              refine v_callV E (As := [.ref (ad (2000 + 6)), vj m, vi ((l.toNat : Nat) : Int)]) (b := (ad 3002)) (ci := 3) (C := RX4) (T := TX4) (N := 27) hB_49.ho rfl (m_signAt κ H_43 (j := 6) (e := l.toNat) (by omega) (by omega) ⟨by omega, by omega⟩ hI hB_49.ms hB_49.ns hB_49.ho (pS_congr (eq7.symm hg_50) (hS.pS (by omega))).N (show rN (pAt (pget (bk (va_up P 6 (S a.toNat)) f_47) (6)) m l.toNat) by rw [pAt_congr hg_50]; exact (hfv (by omega) (by omega) (by omega)).2)) (lw_V q2045 q2047 qs60 q82 q2048) 3 (by decide +kernel) rfl (by decide) (by decide) (cb' := 0) (sb' := 0) (by decide) (by decide) rfl (rest := []) (Nat.le_of_ble_eq_true rfl) (fun q h => hAll q (AH.N q h)) dX4_refused_90 (fun v_51 H_52 hpost_53 hz_54 hk_55 => ?_)
              clear hz_54
              obtain ⟨rfl, f_56, hN_57⟩ := hpost_53
              have hB_58 : MB κ ad (va_up P 6 (S a.toNat)) f_56 g mk S K thr len many a1 a2 a3 a4 H_52 := hB_49.num hI hk_55 (NS.flat0 hN_57)
              refine V.eq (st' := [vi ((pAt (S a.toNat) m l.toNat).sign)]) (by rw [← pAt_congr hg_50]; rfl) ?_
              have hsb_b := rsign3 (pAt (S a.toNat) m l.toNat)
              refine v_if_ne E (tgt := 100) dX4_refused_93 (by decide) ⟨by omega, by omega⟩ (fun c_93 => ?_) (fun c_93 => ?_)
              · refine v_iconst E dX4_refused_100 ?_
                refine v_iret E hE dX4_refused_101 ?_
                have hlt : ((-1000000 ≤ n ∧ n ≤ 1000000) ∧ (0 ≤ k ∧ k ≤ 12)) ∧ ((-1000000 ≤ m ∧ m ≤ 1000000) ∧ (0 ≤ l ∧ l ≤ 12)) ∧ n * 2 ^ l.toNat < m * 2 ^ k.toNat := ⟨by omega, by omega, by omega⟩
                have hz : ¬ (pAt (S a.toNat) n k.toNat = 0 ∨ pAt (S a.toNat) m l.toNat = 0) := fun h => h.elim (fun h => absurd (Int.sign_eq_zero_iff_zero.mpr h) (by omega)) (fun h => absurd (Int.sign_eq_zero_iff_zero.mpr h) (by omega))
                have hR : refF S a n k m l = 0 := by unfold refF; rw [if_pos (by omega), if_pos hlt, if_neg (by omega), if_neg hz]
                rw [hR]; exact ⟨rfl, (va_up P 6 (S a.toNat)), _, eq7.rfl', fun _ => eq7.rfl', hB_58⟩
              · refine v_iconst E dX4_refused_96 ?_
                refine v_goto E (tgt := 101) dX4_refused_97 (by decide) ?_
                refine v_iret E hE dX4_refused_101 ?_
                have hlt : ((-1000000 ≤ n ∧ n ≤ 1000000) ∧ (0 ≤ k ∧ k ≤ 12)) ∧ ((-1000000 ≤ m ∧ m ≤ 1000000) ∧ (0 ≤ l ∧ l ≤ 12)) ∧ n * 2 ^ l.toNat < m * 2 ^ k.toNat := ⟨by omega, by omega, by omega⟩
                have hz : pAt (S a.toNat) n k.toNat = 0 ∨ pAt (S a.toNat) m l.toNat = 0 := by
                  first
                    | exact Or.inr (Int.sign_eq_zero_iff_zero.mp (by omega))
                    | exact Or.inl (Int.sign_eq_zero_iff_zero.mp (by omega))
                have hR : refF S a n k m l = 4 := by unfold refF; rw [if_pos (by omega), if_pos hlt, if_neg (by omega), if_pos hz]
                rw [hR]; exact ⟨rfl, (va_up P 6 (S a.toNat)), _, eq7.rfl', fun h => absurd h (by decide), hB_58⟩
          · refine v_iconst E dX4_refused_51 ?_
            refine v_iret E hE dX4_refused_52 ?_
            have hlt : ((-1000000 ≤ n ∧ n ≤ 1000000) ∧ (0 ≤ k ∧ k ≤ 12)) ∧ ((-1000000 ≤ m ∧ m ≤ 1000000) ∧ (0 ≤ l ∧ l ≤ 12)) ∧ n * 2 ^ l.toNat < m * 2 ^ k.toNat := ⟨by omega, by omega, by omega⟩
            have hR : refF S a n k m l = 3 := by unfold refF; rw [if_pos (by omega), if_pos hlt, if_pos (by omega)]
            rw [hR]; exact ⟨rfl, P, _, eq7.rfl', fun h => absurd h (by decide), hB_32⟩
        · refine v_iconst E dX4_refused_41 ?_
          refine v_iret E hE dX4_refused_42 ?_
          have hno : ¬ (((-1000000 ≤ n ∧ n ≤ 1000000) ∧ (0 ≤ k ∧ k ≤ 12)) ∧ ((-1000000 ≤ m ∧ m ≤ 1000000) ∧ (0 ≤ l ∧ l ≤ 12)) ∧ n * 2 ^ l.toNat < m * 2 ^ k.toNat) := by omega
          have hR : refF S a n k m l = 2 := by unfold refF; rw [if_pos (by omega), if_neg hno]
          rw [hR]; exact ⟨rfl, P, _, eq7.rfl', fun h => absurd h (by decide), hB_24⟩
  · refine v_iconst E dX4_refused_7 ?_
    refine v_iret E hE dX4_refused_8 ?_
    have hR : refF S a n k m l = 1 := by unfold refF; rw [if_neg (by omega)]
    rw [hR]; exact ⟨rfl, P, _, eq7.rfl', fun h => absurd h (by decide), hB_8⟩
