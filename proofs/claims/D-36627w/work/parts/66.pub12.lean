set_option maxHeartbeats 400000 in
set_option maxRecDepth 100000 in
/-- is it a root of kept -/
theorem m_isRoot (κ : zK) (H0 : Heap) {ad : Nat → Nat} {P : Nat → Nat → Int} {f g mk : Nat → Int} {S : Nat → Nat → Int} {K : Nat → Int} {thr len many : Int} {a1 a2 a3 a4 : Nat} {n k : Int} (hKr : ∀ k, k < 7 → rI (K k)) (hKS : pS K) (hn : rI n) (hnb : -4294967296 < n ∧ n < 4294967296) (hk : 0 ≤ k ∧ k ≤ 1000) (hfit : rN (pAt K n k.toNat)) (hI : Inj ad) (hB : MB κ ad P f g mk S K thr len many a1 a2 a3 a4 H0) : Mt κ yX4_isRoot cX4_isRoot 3 (some .boolean) 3 76 0 0 H0 [.ref (ad 3002), vi n, vi k] (AH ad) (fun v H1 => v = some (vi (if pAt K n k.toNat = 0 then 1 else 0)) ∧ ∃ (P1 : Nat → Nat → Int) (f1 : Nat → Int), eq7 (P1 7) (P 7) ∧ MB κ ad P1 f1 g mk S K thr len many a1 a2 a3 a4 H1) := by
  refine Mt.of (by decide) (Nat.le_of_ble_eq_true rfl) ?_
  intro z E hE hH0 hA0 hL hini
  have hAll : ∀ q, (AH ad) q → zA z.A z.H0 q := fun q h => Or.inl (by rw [hA0]; exact h)
  have hNew : ∀ q, H0.size ≤ q → zA z.A z.H0 q := fun q h => Or.inr (by rw [hH0]; exact h)
  have E : zOK z cX4_isRoot RX4 κ 3 76 (some .boolean) := E
  refine V.eqL (lv' := [(0, .ref (ad 3002)), (1, vi n), (2, vi k)]) rfl ?_
  refine v_aload_n E 0 rfl dX4_isRoot_0 ?_
  refine v_getf E in_X4 hB.ho (ci := 3) rfl 20 (by decide) q1780 rfl (v := .ref (ad 3004)) rfl dX4_isRoot_1 ?_
  refine v_aload_n E 0 rfl dX4_isRoot_4 ?_
  refine v_getf E in_X4 hB.ho (ci := 3) rfl 17 (by decide) q1777 rfl (v := .ref (ad (2000 + 6))) rfl dX4_isRoot_5 ?_
  refine v_callS E (As := [.ref (ad 3004), .ref (ad (2000 + 6))]) (m_load κ H0 hKr (fun i hi => hI.ne (by omega)) hB.ke (by decide) hI hB.ms hB.ns) (lw_S q1918 q1919 q82 q1920) 2 (by decide +kernel) rfl (by decide) (by decide) (cb' := 0) (sb' := 0) (by decide) (by decide) rfl (rest := []) (Nat.le_of_ble_eq_true rfl) (fun q h => hAll q (AH.N q h)) dX4_isRoot_8 (fun v_1 H_2 hpost_3 hz_4 hk_5 => ?_)
  clear hz_4
  obtain ⟨rfl, hN_6⟩ := hpost_3
  have hN_7 : NS κ ad (bk (va_up P 6 K) f) H_2 := hN_6.ps eq7.rfl'
  have hB_8 : MB κ ad (va_up P 6 K) f g mk S K thr len many a1 a2 a3 a4 H_2 := hB.num hI hk_5 hN_7
  refine V.eq (st' := []) rfl ?_
  refine v_aload_n E 0 rfl dX4_isRoot_11 ?_
  refine v_aload_n E 0 rfl dX4_isRoot_12 ?_
  refine v_getf E in_X4 hB_8.ho (ci := 3) rfl 17 (by decide) q1777 rfl (v := .ref (ad (2000 + 6))) rfl dX4_isRoot_13 ?_
  refine v_iload_n E 1 rfl dX4_isRoot_16 ?_
  refine v_i2l E ⟨by omega, by omega⟩ dX4_isRoot_17 ?_
  refine v_iload_n E 2 rfl dX4_isRoot_18 ?_
  refine V.topi (x' := ((k.toNat : Nat) : Int)) (congrArg iZ (by omega)) ?_
  have hg : eq7 (pget (bk (va_up P 6 K) f) 6) K := bk_get
  refine v_callV E (As := [.ref (ad (2000 + 6)), vj n, vi ((k.toNat : Nat) : Int)]) (b := (ad 3002)) (ci := 3) (C := RX4) (T := TX4) (N := 27) hB_8.ho rfl (m_signAt κ H_2 (j := 6) (e := k.toNat) (by decide) (by omega) hnb hI hB_8.ms hB_8.ns hB_8.ho (pS_congr (eq7.symm hg) hKS).N (show rN (pAt (pget (bk (va_up P 6 K) f) 6) n k.toNat) by rw [pAt_congr hg]; exact hfit)) (lw_V q2045 q2047 qs60 q82 q2048) 3 (by decide +kernel) rfl (by decide) (by decide) (cb' := 0) (sb' := 0) (by decide) (by decide) rfl (rest := []) (Nat.le_of_ble_eq_true rfl) (fun q h => hAll q (AH.N q h)) dX4_isRoot_19 (fun v_9 H_10 hpost_11 hz_12 hk_13 => ?_)
  clear hz_12
  obtain ⟨rfl, f9, hN9⟩ := hpost_11
  have hB_14 : MB κ ad (va_up P 6 K) f9 g mk S K thr len many a1 a2 a3 a4 H_10 := hB_8.num hI hk_13 (NS.flat0 hN9)
  refine V.eq (st' := [vi ((pAt K n k.toNat).sign)]) (by rw [← pAt_congr hg]; rfl) ?_
  have hsb := rsign3 (pAt K n k.toNat)
  refine v_if_ne E (tgt := 29) dX4_isRoot_22 (by decide) ⟨by omega, by omega⟩ (fun c_22 => ?_) (fun c_22 => ?_)
  · refine v_iconst E dX4_isRoot_29 ?_
    refine v_zret E hE dX4_isRoot_30 rfl ?_
    rw [if_neg (fun h => absurd (Int.sign_eq_zero_iff_zero.mpr h) (by omega))]
    exact ⟨rfl, va_up P 6 K, f9, eq7.rfl', hB_14⟩
  · refine v_iconst E dX4_isRoot_25 ?_
    refine v_goto E (tgt := 30) dX4_isRoot_26 (by decide) ?_
    refine v_zret E hE dX4_isRoot_30 rfl ?_
    rw [if_pos (Int.sign_eq_zero_iff_zero.mp (by omega))]
    exact ⟨rfl, va_up P 6 K, f9, eq7.rfl', hB_14⟩

set_option maxHeartbeats 400000 in
set_option maxRecDepth 100000 in
/-- sturmCoefficient -/
theorem m_opScf (κ : zK) (H0 : Heap) {ad : Nat → Nat} {P : Nat → Nat → Int} {f g mk : Nat → Int} {S : Nat → Nat → Int} {K : Nat → Int} {thr len many : Int} {a1 a2 a3 a4 : Nat} {a i y : Int} (ha : rI a) (hi : rI i) (hy : rI y) (hS : bS S) (hfit : (0 ≤ a ∧ a < 5) → 0 ≤ pdeg (S a.toNat) → okRow (S a.toNat)) (hI : Inj ad) (hB : MB κ ad P f g mk S K thr len many a1 a2 a3 a4 H0) : Mt κ yX4_sturmCoefficient cX4_sturmCoefficient 5 (some .long) 6 137 0 0 H0 [.ref (ad 3002), vi a, vi i, vi y] (AH ad) (fun v H1 => v = some (vj (opScf S a i y).1) ∧ ∃ (P1 : Nat → Nat → Int) (f1 g1 mk1 : Nat → Int) (len1 : Int), eq7 (P1 7) (P 7) ∧ MB κ ad P1 f1 g1 mk1 ((opScf S a i y).2.2) K ((opScf S a i y).2.1) len1 many a1 a2 a3 a4 H1) := by
  refine Mt.of (by decide) (Nat.le_of_ble_eq_true rfl) ?_
  intro z E hE hH0 hA0 hL hini
  have hAll : ∀ q, (AH ad) q → zA z.A z.H0 q := fun q h => Or.inl (by rw [hA0]; exact h)
  have hNew : ∀ q, H0.size ≤ q → zA z.A z.H0 q := fun q h => Or.inr (by rw [hH0]; exact h)
  have E : zOK z cX4_sturmCoefficient RX4 κ 6 137 (some .long) := E
  refine V.eqL (lv' := [(0, .ref (ad 3002)), (1, vi a), (2, vi i), (3, vi y)]) rfl ?_
  refine v_iload_n E 1 rfl dX4_sturmCoefficient_0 ?_
  refine v_callS E (As := [vi a]) (m_isSlot κ H0 (by first | assumption | decide | exact ⟨by omega, by omega⟩)) (lw_S q1851 q1852 q82 q1853) 1 (by decide +kernel) rfl (by decide) (by decide) (cb' := 0) (sb' := 0) (by decide) (by decide) rfl (rest := []) (Nat.le_of_ble_eq_true rfl) (fun q h => h.elim) dX4_sturmCoefficient_1 (fun v_2 H_3 hpost_4 hz_5 hk_6 => ?_)
  clear hz_5
  obtain rfl := hpost_4
  obtain ⟨b_1, hb_7, hb_7e⟩ : ∃ b9 : Int, (b9 = 0 ∧ ¬ (0 ≤ a ∧ a < 5) ∨ b9 = 1 ∧ (0 ≤ a ∧ a < 5)) ∧ (if 0 ≤ a ∧ a < 5 then 1 else 0 : Int) = b9 := by
    by_cases c : 0 ≤ a ∧ a < 5
    · exact ⟨1, Or.inr ⟨rfl, c⟩, if_pos c⟩
    · exact ⟨0, Or.inl ⟨rfl, c⟩, if_neg c⟩
  have hB_8 : MB κ ad P f g mk S K thr len many a1 a2 a3 a4 H_3 := hB.nil hk_6
  refine V.eq (st' := [vi b_1]) (by rw [hb_7e]; rfl) ?_
  refine v_if_eq E (tgt := 17) dX4_sturmCoefficient_4 (by decide) ⟨by omega, by omega⟩ (fun c_4 => ?_) (fun c_4 => ?_)
  · refine v_aload_n E 0 rfl dX4_sturmCoefficient_17 ?_
    refine v_iconst E dX4_sturmCoefficient_18 ?_
    refine v_callV E (As := [vi 1]) (b := (ad 3002)) (ci := 3) (C := RX4) (T := TX4) (N := 27) hB_8.ho rfl (m_fails κ H_3 hI hB_8) (lw_V q1857 q1859 qs47 q82 q1860) 1 (by decide +kernel) rfl (by decide) (by decide) (cb' := 0) (sb' := 0) (by decide) (by decide) rfl (rest := []) (Nat.le_of_ble_eq_true rfl) hAll dX4_sturmCoefficient_19 (fun v_9 H_10 hpost_11 hz_12 hk_13 => ?_)
    clear hz_12
    obtain ⟨rfl, hB_14⟩ := hpost_11
    refine V.eq (st' := [vi 0]) rfl ?_
    refine v_i2l E ⟨by omega, by omega⟩ dX4_sturmCoefficient_22 ?_
    refine v_lret E hE dX4_sturmCoefficient_23 ?_
    have hR : opScf S a i y = (0, 1, S) := by unfold opScf; rw [if_neg (by omega)]
    rw [hR]; exact ⟨rfl, P, _, _, _, _, eq7.rfl', hB_14⟩
  · refine v_iload_n E 3 rfl dX4_sturmCoefficient_7 ?_
    refine v_iconst E dX4_sturmCoefficient_8 ?_
    refine v_bipush E ⟨by decide, by decide⟩ dX4_sturmCoefficient_9 ?_
    refine v_callS E (As := [vi y, vi 0, vi 6]) (m_in κ H_3 (by first | assumption | decide | exact ⟨by omega, by omega⟩) (by first | assumption | decide | exact ⟨by omega, by omega⟩) (by first | assumption | decide | exact ⟨by omega, by omega⟩)) (lw_S q1854 q1855 q82 q1856) 3 (by decide +kernel) rfl (by decide) (by decide) (cb' := 0) (sb' := 0) (by decide) (by decide) rfl (rest := []) (Nat.le_of_ble_eq_true rfl) (fun q h => h.elim) dX4_sturmCoefficient_11 (fun v_16 H_17 hpost_18 hz_19 hk_20 => ?_)
    clear hz_19
    obtain rfl := hpost_18
    obtain ⟨b_15, hb_21, hb_21e⟩ : ∃ b9 : Int, (b9 = 0 ∧ ¬ (0 ≤ y ∧ y ≤ 6) ∨ b9 = 1 ∧ (0 ≤ y ∧ y ≤ 6)) ∧ (if 0 ≤ y ∧ y ≤ 6 then 1 else 0 : Int) = b9 := by
      by_cases c : 0 ≤ y ∧ y ≤ 6
      · exact ⟨1, Or.inr ⟨rfl, c⟩, if_pos c⟩
      · exact ⟨0, Or.inl ⟨rfl, c⟩, if_neg c⟩
    have hB_22 : MB κ ad P f g mk S K thr len many a1 a2 a3 a4 H_17 := hB_8.nil hk_20
    refine V.eq (st' := [vi b_15]) (by rw [hb_21e]; rfl) ?_
    refine v_if_ne E (tgt := 24) dX4_sturmCoefficient_14 (by decide) ⟨by omega, by omega⟩ (fun c_14 => ?_) (fun c_14 => ?_)
    · refine v_aload_n E 0 rfl dX4_sturmCoefficient_24 ?_
      refine v_iload_n E 1 rfl dX4_sturmCoefficient_25 ?_
      refine v_callV E (As := [vi a]) (b := (ad 3002)) (ci := 3) (C := RX4) (T := TX4) (N := 27) hB_22.ho rfl (m_isZero κ H_17 (by omega) hS hI hB_22) (lw_V q2006 q2008 qs57 q82 q2009) 1 (by decide +kernel) rfl (by decide) (by decide) (cb' := 0) (sb' := 0) (by decide) (by decide) rfl (rest := []) (Nat.le_of_ble_eq_true rfl) (fun q h => h.elim) dX4_sturmCoefficient_26 (fun v_24 H_25 hpost_26 hz_27 hk_28 => ?_)
      clear hz_27
      obtain rfl := hpost_26
      obtain ⟨b_23, hb_29, hb_29e⟩ : ∃ b9 : Int, (b9 = 0 ∧ ¬ (pdeg (S a.toNat) < 0) ∨ b9 = 1 ∧ (pdeg (S a.toNat) < 0)) ∧ (if pdeg (S a.toNat) < 0 then 1 else 0 : Int) = b9 := by
        by_cases c : pdeg (S a.toNat) < 0
        · exact ⟨1, Or.inr ⟨rfl, c⟩, if_pos c⟩
        · exact ⟨0, Or.inl ⟨rfl, c⟩, if_neg c⟩
      have hB_30 : MB κ ad P f g mk S K thr len many a1 a2 a3 a4 H_25 := hB_22.nil hk_28
      refine V.eq (st' := [vi b_23]) (by rw [hb_29e]; rfl) ?_
      refine v_if_eq E (tgt := 39) dX4_sturmCoefficient_29 (by decide) ⟨by omega, by omega⟩ (fun c_29 => ?_) (fun c_29 => ?_)
      · refine v_aload_n E 0 rfl dX4_sturmCoefficient_39 ?_
        refine v_iload_n E 1 rfl dX4_sturmCoefficient_40 ?_
        refine V.topi (x' := ((a.toNat : Nat) : Int)) (congrArg iZ (by omega)) ?_
        have hok := hfit (by omega) (by omega)
        refine v_callV E (As := [vi ((a.toNat : Nat) : Int)]) (b := (ad 3002)) (ci := 3) (C := RX4) (T := TX4) (N := 27) hB_30.ho rfl (m_findRow κ H_25 (sl := a.toNat) (by omega) (hS.rI (by omega)) hI hB_30.ms hB_30.ns hB_30.ho hB_30.sl hok.1 hok.2) (lw_V q2024 q2026 qs59 q82 q2027) 1 (by decide +kernel) rfl (by decide) (by decide) (cb' := 0) (sb' := 0) (by decide) (by decide) rfl (rest := []) (Nat.le_of_ble_eq_true rfl) (fun q h => hAll q (AH.R q h)) dX4_sturmCoefficient_41 (fun v_31 H_32 hpost_33 hz_34 hk_35 => ?_)
        clear hz_34
        obtain ⟨rfl, L, P1, f1, hrow, hP8, hPo, _, hN9, ho9, _⟩ := hpost_33
        have hlen := hrow.len
        have hL7 := hrow.2.1
        have hL1 := hrow.1
        have hB_36 : MB κ ad P1 f1 g mk S K thr (L : Int) many a1 a2 a3 a4 H_32 := hB_30.row hI hk_35 hN9 ho9
        refine V.eq (st' := []) rfl ?_
        refine v_iload_n E 2 rfl dX4_sturmCoefficient_44 ?_
        refine v_iconst E dX4_sturmCoefficient_45 ?_
        refine v_aload_n E 0 rfl dX4_sturmCoefficient_46 ?_
        refine v_getf E in_X4 hB_36.ho (ci := 3) rfl 19 (by decide) q1779 rfl (v := vi (L : Int)) rfl dX4_sturmCoefficient_47 ?_
        refine v_iconst E dX4_sturmCoefficient_50 ?_
        refine v_isub E dX4_sturmCoefficient_51 ?_
        refine v_callS E (As := [vi i, vi 0, vi ((L : Int) - 1)]) (m_in κ H_32 (by first | assumption | decide | exact ⟨by omega, by omega⟩) (by first | assumption | decide | exact ⟨by omega, by omega⟩) (by first | assumption | decide | exact ⟨by omega, by omega⟩)) (lw_S q1854 q1855 q82 q1856) 3 (by decide +kernel) rfl (by decide) (by decide) (cb' := 0) (sb' := 0) (by decide) (by decide) rfl (rest := []) (Nat.le_of_ble_eq_true rfl) (fun q h => h.elim) dX4_sturmCoefficient_52 (fun v_38 H_39 hpost_40 hz_41 hk_42 => ?_)
        clear hz_41
        obtain rfl := hpost_40
        obtain ⟨b_37, hb_43, hb_43e⟩ : ∃ b9 : Int, (b9 = 0 ∧ ¬ (0 ≤ i ∧ i ≤ (L : Int) - 1) ∨ b9 = 1 ∧ (0 ≤ i ∧ i ≤ (L : Int) - 1)) ∧ (if 0 ≤ i ∧ i ≤ (L : Int) - 1 then 1 else 0 : Int) = b9 := by
          by_cases c : 0 ≤ i ∧ i ≤ (L : Int) - 1
          · exact ⟨1, Or.inr ⟨rfl, c⟩, if_pos c⟩
          · exact ⟨0, Or.inl ⟨rfl, c⟩, if_neg c⟩
        have hB_44 : MB κ ad P1 f1 g mk S K thr (L : Int) many a1 a2 a3 a4 H_39 := hB_36.nil hk_42
        refine V.eq (st' := [vi b_37]) (by rw [hb_43e]; rfl) ?_
        refine v_if_ne E (tgt := 65) dX4_sturmCoefficient_55 (by decide) ⟨by omega, by omega⟩ (fun c_55 => ?_) (fun c_55 => ?_)
        · refine v_aload_n E 0 rfl dX4_sturmCoefficient_65 ?_
          refine v_iconst E dX4_sturmCoefficient_66 ?_
          refine v_putf E in_X4 tyX4 tyX4_ok nmX4 hB_44.ho (ci := 3) rfl 0 (Nat.le_of_ble_eq_true rfl) q1760 rfl rfl rfl rfl (Nat.le_of_ble_eq_true rfl) (hAll _ (AH.of (by unfold uA; omega))) dX4_sturmCoefficient_67 (fun H_47 hB_45 hs_46 => ?_)
          have hB_45 : hp κ H_47 (ad 3002) (.inr (3, MF ad 0 (L : Int) many a1 a2 a3 a4)) := hB_45
          have hB_48 : MB κ ad P1 f1 g mk S K 0 (L : Int) many a1 a2 a3 a4 H_47 := hB_44.obj hI hs_46 hB_45
          refine v_aload_n E 0 rfl dX4_sturmCoefficient_70 ?_
          refine v_getf E in_X4 hB_48.ho (ci := 3) rfl 18 (by decide) q1778 rfl (v := .ref (ad 3000)) rfl dX4_sturmCoefficient_71 ?_
          refine v_iload_n E 2 rfl dX4_sturmCoefficient_74 ?_
          refine v_aaldS E dX4_sturmCoefficient_75 (hB_48.ms).2.1 (t := 4) (ty := (.array (.array .int))) rfl rfl i.toNat (by omega) (by omega) (by omega) (b := (ad (2000 + (8 + i.toNat)))) (congrArg (fun q => some (ad q)) (by omega)) ?_
          refine v_iload_n E 3 rfl dX4_sturmCoefficient_76 ?_
          refine v_aaldS E dX4_sturmCoefficient_77 ((hB_48.ms).1 (8 + i.toNat) (by omega)) (t := 3) (ty := (.array .int)) rfl rfl y.toNat (by omega) (by omega) (by omega) (b := (ad (6 + 7 * (8 + i.toNat) + y.toNat))) rfl ?_
          refine v_astore E dX4_sturmCoefficient_78 (zlt hL rfl) (lv' := [(4, .ref (ad (6 + 7 * (8 + i.toNat) + y.toNat))), (0, .ref (ad 3002)), (1, vi a), (2, vi i), (3, vi y)]) rfl ?_
          refine v_aload E 0 rfl dX4_sturmCoefficient_80 ?_
          refine v_iconst E dX4_sturmCoefficient_82 ?_
          have hv_49 : hp κ H_47 (ad (6 + 7 * (8 + i.toNat) + y.toNat)) (eN κ (rsq (S a.toNat) i.toNat y.toNat)) := by
            have e : (bk P1 f1) (6 + 7 * (8 + i.toNat) + y.toNat) = (rsq (S a.toNat) i.toNat y.toNat) := (bk_at _ _ _ _ (by omega)).trans (hP8 i.toNat (by omega) y.toNat (by omega))
            rw [← e]; exact ((hB_48.ns) (6 + 7 * (8 + i.toNat) + y.toNat) (by omega))
          refine v_iald E dX4_sturmCoefficient_83 hv_49 1 rfl (by omega) (by omega) ?_
          refine V.topi (x' := (if dg (rsq (S a.toNat) i.toNat y.toNat) 1 < 2147483648 then dg (rsq (S a.toNat) i.toNat y.toNat) 1 else dg (rsq (S a.toNat) i.toNat y.toNat) 1 - 4294967296)) (by by_cases q : dg (rsq (S a.toNat) i.toNat y.toNat) 1 < 2147483648; (rw [if_pos q]); (rw [if_neg q]; exact iZ_cong (by omega))) ?_
          have hd1 := dg_in (rsq (S a.toNat) i.toNat y.toNat) 1
          refine v_i2l E ⟨by split <;> omega, by split <;> omega⟩ dX4_sturmCoefficient_84 ?_
          refine v_bipush E ⟨by decide, by decide⟩ dX4_sturmCoefficient_85 ?_
          refine v_lshl E 32 (by decide) dX4_sturmCoefficient_87 ?_
          refine v_aload E 0 rfl dX4_sturmCoefficient_88 ?_
          refine v_iconst E dX4_sturmCoefficient_90 ?_
          have hv_50 : hp κ H_47 (ad (6 + 7 * (8 + i.toNat) + y.toNat)) (eN κ (rsq (S a.toNat) i.toNat y.toNat)) := by
            have e : (bk P1 f1) (6 + 7 * (8 + i.toNat) + y.toNat) = (rsq (S a.toNat) i.toNat y.toNat) := (bk_at _ _ _ _ (by omega)).trans (hP8 i.toNat (by omega) y.toNat (by omega))
            rw [← e]; exact ((hB_48.ns) (6 + 7 * (8 + i.toNat) + y.toNat) (by omega))
          refine v_iald E dX4_sturmCoefficient_91 hv_50 0 rfl (by omega) (by omega) ?_
          refine v_i2lLow E dX4_sturmCoefficient_92 q1947 dX4_sturmCoefficient_93 dX4_sturmCoefficient_96 ?_
          refine v_lor E (c := (rsq (S a.toNat) i.toNat y.toNat)) (by have h9 := jZ_low64 (rsq (S a.toNat) i.toNat y.toNat); rw [show (dg (rsq (S a.toNat) i.toNat y.toNat) 0) % 4294967296 = dg (rsq (S a.toNat) i.toNat y.toNat) 0 from Int.emod_eq_of_lt (dg_in _ _).1 (dg_in _ _).2]; exact h9) dX4_sturmCoefficient_97 ?_
          refine v_lret E hE dX4_sturmCoefficient_98 ?_
          have hR : opScf S a i y = ((rsq (S a.toNat) i.toNat y.toNat), 0, S) := by unfold opScf; rw [if_pos ⟨by omega, by omega⟩, if_neg (by omega), if_pos (by omega)]
          rw [hR]; exact ⟨rfl, P1, _, _, _, _, (hPo 7 (by decide) (by decide) (by decide)).trans bk_get, hB_48⟩
        · refine v_aload_n E 0 rfl dX4_sturmCoefficient_58 ?_
          refine v_iconst E dX4_sturmCoefficient_59 ?_
          refine v_callV E (As := [vi 3]) (b := (ad 3002)) (ci := 3) (C := RX4) (T := TX4) (N := 27) hB_44.ho rfl (m_fails κ H_39 hI hB_44) (lw_V q1857 q1859 qs47 q82 q1860) 1 (by decide +kernel) rfl (by decide) (by decide) (cb' := 0) (sb' := 0) (by decide) (by decide) rfl (rest := []) (Nat.le_of_ble_eq_true rfl) hAll dX4_sturmCoefficient_60 (fun v_51 H_52 hpost_53 hz_54 hk_55 => ?_)
          clear hz_54
          obtain ⟨rfl, hB_56⟩ := hpost_53
          refine V.eq (st' := [vi 0]) rfl ?_
          refine v_i2l E ⟨by omega, by omega⟩ dX4_sturmCoefficient_63 ?_
          refine v_lret E hE dX4_sturmCoefficient_64 ?_
          have hR : opScf S a i y = (0, 3, S) := by unfold opScf; rw [if_pos ⟨by omega, by omega⟩, if_neg (by omega), if_neg (by omega)]
          rw [hR]; exact ⟨rfl, P1, _, _, _, _, (hPo 7 (by decide) (by decide) (by decide)).trans bk_get, hB_56⟩
      · refine v_aload_n E 0 rfl dX4_sturmCoefficient_32 ?_
        refine v_iconst E dX4_sturmCoefficient_33 ?_
        refine v_callV E (As := [vi 2]) (b := (ad 3002)) (ci := 3) (C := RX4) (T := TX4) (N := 27) hB_30.ho rfl (m_fails κ H_25 hI hB_30) (lw_V q1857 q1859 qs47 q82 q1860) 1 (by decide +kernel) rfl (by decide) (by decide) (cb' := 0) (sb' := 0) (by decide) (by decide) rfl (rest := []) (Nat.le_of_ble_eq_true rfl) hAll dX4_sturmCoefficient_34 (fun v_57 H_58 hpost_59 hz_60 hk_61 => ?_)
        clear hz_60
        obtain ⟨rfl, hB_62⟩ := hpost_59
        refine V.eq (st' := [vi 0]) rfl ?_
        refine v_i2l E ⟨by omega, by omega⟩ dX4_sturmCoefficient_37 ?_
        refine v_lret E hE dX4_sturmCoefficient_38 ?_
        have hR : opScf S a i y = (0, 2, S) := by unfold opScf; rw [if_pos ⟨by omega, by omega⟩, if_pos (by omega)]
        rw [hR]; exact ⟨rfl, P, _, _, _, _, eq7.rfl', hB_62⟩
    · refine v_aload_n E 0 rfl dX4_sturmCoefficient_17 ?_
      refine v_iconst E dX4_sturmCoefficient_18 ?_
      refine v_callV E (As := [vi 1]) (b := (ad 3002)) (ci := 3) (C := RX4) (T := TX4) (N := 27) hB_22.ho rfl (m_fails κ H_17 hI hB_22) (lw_V q1857 q1859 qs47 q82 q1860) 1 (by decide +kernel) rfl (by decide) (by decide) (cb' := 0) (sb' := 0) (by decide) (by decide) rfl (rest := []) (Nat.le_of_ble_eq_true rfl) hAll dX4_sturmCoefficient_19 (fun v_63 H_64 hpost_65 hz_66 hk_67 => ?_)
      clear hz_66
      obtain ⟨rfl, hB_68⟩ := hpost_65
      refine V.eq (st' := [vi 0]) rfl ?_
      refine v_i2l E ⟨by omega, by omega⟩ dX4_sturmCoefficient_22 ?_
      refine v_lret E hE dX4_sturmCoefficient_23 ?_
      have hR : opScf S a i y = (0, 1, S) := by unfold opScf; rw [if_neg (by omega)]
      rw [hR]; exact ⟨rfl, P, _, _, _, _, eq7.rfl', hB_68⟩
