set_option maxHeartbeats 400000 in
set_option maxRecDepth 100000 in
/-- the slot's row -/
theorem m_findRow (κ : zK) (H0 : Heap) {ad : Nat → Nat} {σ : Nat → Int} {thr len many : Int} {a1 a2 a3 a4 : Nat} {S : Nat → Nat → Int} {sl : Nat} (hsl : sl < 5) (hSr : ∀ k, k < 7 → rI (S sl k)) (hI : Inj ad) (hM : MS κ ad H0) (hN : NS κ ad σ H0) (ho : hp κ H0 (ad 3002) (.inr (3, MF ad thr len many a1 a2 a3 a4))) (hSl : SL κ ad S H0) (hfit : fitRow (S sl)) (h0 : 0 ≤ pdeg (pprim (S sl))) : Mt κ yX4_findRow cX4_findRow 2 (none) 5 116 0 0 H0 [.ref (ad 3002), vi (sl : Int)] (AR ad) (fun v H1 => v = none ∧ ∃ (L : Nat) (P : Nat → Nat → Int) (f : Nat → Int), isRow (S sl) L ∧ (∀ i, i < L → eq7 (P (8 + i)) (rsq (S sl) i)) ∧ (∀ m, m < 176 → (m < 8 ∨ 16 ≤ m) → m ≠ 2 → eq7 (P m) (pget σ m)) ∧ MS κ ad H1 ∧ NS κ ad (bk P f) H1 ∧ hp κ H1 (ad 3002) (.inr (3, MF ad thr (L : Int) many a1 a2 a3 a4)) ∧ SL κ ad S H1) := by
  refine Mt.of (by decide) (Nat.le_of_ble_eq_true rfl) ?_
  intro z E hE hH0 hA0 hL hini
  have hAll : ∀ q, (AR ad) q → zA z.A z.H0 q := fun q h => Or.inl (by rw [hA0]; exact h)
  have hNew : ∀ q, H0.size ≤ q → zA z.A z.H0 q := fun q h => Or.inr (by rw [hH0]; exact h)
  have E : zOK z cX4_findRow RX4 κ 5 116 (none) := E
  refine V.eqL (lv' := [(0, .ref (ad 3002)), (1, vi (sl : Int))]) rfl ?_
  have hAllB := hAll
  have hAll : ∀ q, AN ad q → zA z.A z.H0 q := fun q h => hAllB q (Or.inl h)
  have hN_1 : NS κ ad (bk (pget σ) σ) H0 := hN.toBk
  refine v_aload_n E 0 rfl dX4_findRow_0 ?_
  refine v_getf E in_X4 ho (ci := 3) rfl 1 (by decide) q1761 rfl (v := .ref (ad 3003)) rfl dX4_findRow_1 ?_
  refine v_iload_n E 1 rfl dX4_findRow_4 ?_
  refine v_aaldS E dX4_findRow_5 hM.2.2.2 (t := 3) (ty := (.array .int)) rfl rfl sl rfl (by omega) (by omega) (b := (ad (3010 + sl))) rfl ?_
  refine v_aload_n E 0 rfl dX4_findRow_6 ?_
  refine v_getf E in_X4 ho (ci := 3) rfl 18 (by decide) q1778 rfl (v := .ref (ad 3000)) rfl dX4_findRow_7 ?_
  refine v_iconst E dX4_findRow_10 ?_
  refine v_aaldS E dX4_findRow_11 hM.2.1 (t := 4) (ty := (.array (.array .int))) rfl rfl 0 rfl (by omega) (by omega) (b := (ad (2000 + 8))) rfl ?_
  refine v_callS E (As := [.ref (ad (3010 + sl)), .ref (ad (2000 + 8))]) (m_load κ H0 hSr (fun i hi => hI.ne (by omega)) (hSl sl (by omega)) (by decide) hI hM hN_1) (lw_S q1918 q1919 q82 q1920) 2 (by decide +kernel) rfl (by decide) (by decide) (cb' := 0) (sb' := 0) (by decide) (by decide) rfl (rest := []) (Nat.le_of_ble_eq_true rfl) hAll dX4_findRow_12 (fun v_2 H_3 hpost_4 hz_5 hk_6 => ?_)
  clear hz_5
  obtain ⟨rfl, hN_7⟩ := hpost_4
  have hM_8 := hM.kept hI (A := AN ad) (fun q h => h) hk_6
  have ho_9 := ho.far hI (by decide) (A := AN ad) (fun q h => h) hk_6
  have hSl_10 := hSl.kept hI (A := AN ad) (fun q h => h) hk_6
  have hN_11 : NS κ ad (bk (va_up (pget σ) 8 (S sl)) σ) H_3 := hN_7.ps eq7.rfl'
  refine V.eq (st' := []) rfl ?_
  refine v_aload_n E 0 rfl dX4_findRow_15 ?_
  refine v_getf E in_X4 ho_9 (ci := 3) rfl 18 (by decide) q1778 rfl (v := .ref (ad 3000)) rfl dX4_findRow_16 ?_
  refine v_iconst E dX4_findRow_19 ?_
  refine v_aaldS E dX4_findRow_20 hM_8.2.1 (t := 4) (ty := (.array (.array .int))) rfl rfl 0 rfl (by omega) (by omega) (b := (ad (2000 + 8))) rfl ?_
  refine v_aload_n E 0 rfl dX4_findRow_21 ?_
  refine v_getf E in_X4 ho_9 (ci := 3) rfl 18 (by decide) q1778 rfl (v := .ref (ad 3000)) rfl dX4_findRow_22 ?_
  refine v_iconst E dX4_findRow_25 ?_
  refine v_aaldS E dX4_findRow_26 hM_8.2.1 (t := 4) (ty := (.array (.array .int))) rfl rfl 1 rfl (by omega) (by omega) (b := (ad (2000 + 9))) rfl ?_
  refine v_callS E (As := [.ref (ad (2000 + 8)), .ref (ad (2000 + 9))]) (m_derive κ H_3 (by decide) (by decide) (by decide) hI hM_8 hN_11) (lw_S q2014 q2015 q82 q2016) 2 (by decide +kernel) rfl (by decide) (by decide) (cb' := 0) (sb' := 0) (by decide) (by decide) rfl (rest := []) (Nat.le_of_ble_eq_true rfl) hAll dX4_findRow_27 (fun v_12 H_13 hpost_14 hz_15 hk_16 => ?_)
  clear hz_15
  obtain ⟨rfl, hN_17⟩ := hpost_14
  have hM_18 := hM_8.kept hI (A := AN ad) (fun q h => h) hk_16
  have ho_19 := ho_9.far hI (by decide) (A := AN ad) (fun q h => h) hk_16
  have hSl_20 := hSl_10.kept hI (A := AN ad) (fun q h => h) hk_16
  have hN_21 : NS κ ad (bk (va_up (va_up (pget σ) 8 (S sl)) 9 (drv (S sl))) σ) H_13 := hN_17.ps (drv_congr bk_get)
  refine V.eq (st' := []) rfl ?_
  refine v_aload_n E 0 rfl dX4_findRow_30 ?_
  refine v_aload_n E 0 rfl dX4_findRow_31 ?_
  refine v_getf E in_X4 ho_19 (ci := 3) rfl 18 (by decide) q1778 rfl (v := .ref (ad 3000)) rfl dX4_findRow_32 ?_
  refine v_iconst E dX4_findRow_35 ?_
  refine v_aaldS E dX4_findRow_36 hM_18.2.1 (t := 4) (ty := (.array (.array .int))) rfl rfl 0 rfl (by omega) (by omega) (b := (ad (2000 + 8))) rfl ?_
  have hg8 : eq7 (pget (bk (va_up (va_up (pget σ) 8 (S sl)) 9 (drv (S sl))) σ) 8) (S sl) := bk_get
  refine v_callV E (As := [.ref (ad (2000 + 8))]) (b := (ad 3002)) (ci := 3) (C := RX4) (T := TX4) (N := 27) ho_19 rfl (m_prim κ H_13 (by decide) hI hM_18 hN_21 ho_19 (pS_congr hg8.symm hfit.1)) (lw_V q1954 q1956 qs53 q82 q1957) 1 (by decide +kernel) rfl (by decide) (by decide) (cb' := 0) (sb' := 0) (by decide) (by decide) rfl (rest := []) (Nat.le_of_ble_eq_true rfl) hAll dX4_findRow_37 (fun v_22 H_23 hpost_24 hz_25 hk_26 => ?_)
  clear hz_25
  obtain ⟨rfl, f8, hN_27⟩ := hpost_24
  have hM_28 := hM_18.kept hI (A := AN ad) (fun q h => h) hk_26
  have ho_29 := ho_19.far hI (by decide) (A := AN ad) (fun q h => h) hk_26
  have hSl_30 := hSl_20.kept hI (A := AN ad) (fun q h => h) hk_26
  have hN_31 : NS κ ad (bk (va_up (va_up (va_up (pget σ) 8 (S sl)) 9 (drv (S sl))) 8 (pprim (S sl))) f8) H_23 := hN_27.psT (hg8.prim)
  refine V.eq (st' := []) rfl ?_
  refine v_aload_n E 0 rfl dX4_findRow_40 ?_
  refine v_aload_n E 0 rfl dX4_findRow_41 ?_
  refine v_getf E in_X4 ho_29 (ci := 3) rfl 18 (by decide) q1778 rfl (v := .ref (ad 3000)) rfl dX4_findRow_42 ?_
  refine v_iconst E dX4_findRow_45 ?_
  refine v_aaldS E dX4_findRow_46 hM_28.2.1 (t := 4) (ty := (.array (.array .int))) rfl rfl 1 rfl (by omega) (by omega) (b := (ad (2000 + 9))) rfl ?_
  have hg9 : eq7 (pget (bk (va_up (va_up (va_up (pget σ) 8 (S sl)) 9 (drv (S sl))) 8 (pprim (S sl))) f8) 9) (drv (S sl)) := bk_get
  refine v_callV E (As := [.ref (ad (2000 + 9))]) (b := (ad 3002)) (ci := 3) (C := RX4) (T := TX4) (N := 27) ho_29 rfl (m_prim κ H_23 (by decide) hI hM_28 hN_31 ho_29 (pS_congr hg9.symm hfit.2.1)) (lw_V q1954 q1956 qs53 q82 q1957) 1 (by decide +kernel) rfl (by decide) (by decide) (cb' := 0) (sb' := 0) (by decide) (by decide) rfl (rest := []) (Nat.le_of_ble_eq_true rfl) hAll dX4_findRow_47 (fun v_32 H_33 hpost_34 hz_35 hk_36 => ?_)
  clear hz_35
  obtain ⟨rfl, f9, hN_37⟩ := hpost_34
  have hM_38 := hM_28.kept hI (A := AN ad) (fun q h => h) hk_36
  have ho_39 := ho_29.far hI (by decide) (A := AN ad) (fun q h => h) hk_36
  have hSl_40 := hSl_30.kept hI (A := AN ad) (fun q h => h) hk_36
  have hN_41 : NS κ ad (bk (va_up (va_up (va_up (va_up (pget σ) 8 (S sl)) 9 (drv (S sl))) 8 (pprim (S sl))) 9 (pprim (drv (S sl)))) f9) H_33 := hN_37.psT (hg9.prim)
  refine V.eq (st' := []) rfl ?_
  refine v_aload_n E 0 rfl dX4_findRow_50 ?_
  refine v_aload_n E 0 rfl dX4_findRow_51 ?_
  refine v_getf E in_X4 ho_39 (ci := 3) rfl 18 (by decide) q1778 rfl (v := .ref (ad 3000)) rfl dX4_findRow_52 ?_
  refine v_iconst E dX4_findRow_55 ?_
  refine v_aaldS E dX4_findRow_56 hM_38.2.1 (t := 4) (ty := (.array (.array .int))) rfl rfl 1 rfl (by omega) (by omega) (b := (ad (2000 + 9))) rfl ?_
  have hg57 : eq7 (pget (bk (va_up (va_up (va_up (va_up (pget σ) 8 (S sl)) 9 (drv (S sl))) 8 (pprim (S sl))) 9 (pprim (drv (S sl)))) f9) 9) (rsq (S sl) 1) := by rw [rsq_1]; exact bk_get
  refine v_callS E (As := [.ref (ad (2000 + 9))]) (m_pdeg κ H_33 (j := 9) (by decide) hI hM_38 hN_41 (pS_congr hg57.symm (by rw [rsq_1]; exact hfit.2.1.prim)).N) (lw_S q1928 q1929 q82 q1930) 1 (by decide +kernel) rfl (by decide) (by decide) (cb' := 0) (sb' := 0) (by decide) (by decide) rfl (rest := [.ref (ad 3002)]) (Nat.le_of_ble_eq_true rfl) (fun q h => h.elim) dX4_findRow_57 (fun v_42 H_43 hpost_44 hz_45 hk_46 => ?_)
  clear hz_45
  obtain rfl := hpost_44
  have hM_47 := hM_38.kept hI (A := fun _ => False) (fun q h => h.elim) hk_46
  have ho_48 := ho_39.far hI (by decide) (A := fun _ => False) (fun q h => h.elim) hk_46
  have hSl_49 := hSl_40.kept hI (A := fun _ => False) (fun q h => h.elim) hk_46
  have hN_50 := hN_41.kept0 hk_46
  refine V.eq (st' := [vi (pdeg (rsq (S sl) 1)), .ref (ad 3002)]) (by rw [hg57.deg]; rfl) ?_
  have hdr1 := pdeg_in (rsq (S sl) 1)
  refine v_if_ge E (tgt := 67) dX4_findRow_60 (by decide) ⟨by omega, by omega⟩ (fun c_60 => ?_) (fun c_60 => ?_)
  · refine v_iconst E dX4_findRow_67 ?_
    refine v_putf E in_X4 tyX4 tyX4_ok nmX4 ho_48 (ci := 3) rfl 19 (Nat.le_of_ble_eq_true rfl) q1779 rfl rfl rfl rfl (Nat.le_of_ble_eq_true rfl) (hAllB _ (Or.inr rfl)) dX4_findRow_68 (fun H_53 ho_51 hs_52 => ?_)
    have hM_54 := hM_47.same hI hs_52 (by decide)
    have hN_55 := hN_50.same hI hs_52 (by decide)
    have hSl_56 := hSl_49.same hI hs_52 (by decide)
    have ho_51 : hp κ H_53 (ad 3002) (.inr (3, MF ad thr 2 many a1 a2 a3 a4)) := ho_51
    have loop_71 : ∀ (m_71 : Nat) (H : Heap) (L : Nat) (P : Nat → Nat → Int) (f : Nat → Int), 8 - L < m_71 → (1 ≤ L ∧ L ≤ 7) → (∀ i, i < L → eq7 (P (8 + i)) (rsq (S sl) i)) → (∀ i, i < L → pS (rsq (S sl) i)) → (∀ i, i < L → 0 ≤ pdeg (rsq (S sl) i)) → (2 ≤ L → pdeg (rsq (S sl) (L - 1)) ≤ 7 - (L : Int)) → (L = 1 → pdeg (rsq (S sl) 1) < 0) → (∀ m, m < 176 → (m < 8 ∨ 16 ≤ m) → m ≠ 2 → eq7 (P m) (pget σ m)) → hp κ H (ad 3002) (.inr (3, MF ad thr (L : Int) many a1 a2 a3 a4)) → MS κ ad H → NS κ ad (bk P f) H → SL κ ad S H → V z H 0 0 71 [(0, .ref (ad 3002))] [] := by
      intro m_71
      induction m_71 with
      | zero => intro H L P f hm; exact absurd hm (by omega)
      | succ m_71 ih_71 =>
        intro H L P f hm_71 h1 hP hS9 hD hdg hone hO ho hM hN hSl
        refine v_aload_n E 0 rfl dX4_findRow_71 ?_
        refine v_getf E in_X4 ho (ci := 3) rfl 19 (by decide) q1779 rfl (v := vi (L : Int)) rfl dX4_findRow_72 ?_
        refine v_iconst E dX4_findRow_75 ?_
        refine v_icmp_le E (tgt := 163) dX4_findRow_76 (by decide) ⟨by omega, by omega⟩ ⟨by omega, by omega⟩ (fun c_76 => ?_) (fun c_76 => ?_)
        · refine v_vret E hE dX4_findRow_163 ?_
          have hL1 : L = 1 := by omega
          exact ⟨rfl, L, _, _, ⟨h1.1, h1.2, hD, by rw [hL1]; exact hone hL1⟩, hP, hO, hM, hN, ho, hSl⟩
        · obtain ⟨M, hLM⟩ : ∃ M, L = M + 2 := ⟨L - 2, by omega⟩
          have hPM := hP M (by omega)
          have hPN := hP (M + 1) (by omega)
          have hff := hfit.2.2 M (hD (M + 1) (by omega))
          obtain ⟨h, hh⟩ := Int.eq_ofNat_of_zero_le (hD (M + 1) (by omega))
          refine v_aload_n E 0 rfl dX4_findRow_79 ?_
          refine v_getf E in_X4 ho (ci := 3) rfl 18 (by decide) q1778 rfl (v := .ref (ad 3000)) rfl dX4_findRow_80 ?_
          refine v_aload_n E 0 rfl dX4_findRow_83 ?_
          refine v_getf E in_X4 ho (ci := 3) rfl 19 (by decide) q1779 rfl (v := vi (L : Int)) rfl dX4_findRow_84 ?_
          refine v_iconst E dX4_findRow_87 ?_
          refine v_isub E dX4_findRow_88 ?_
          refine v_aaldS E dX4_findRow_89 hM.2.1 (t := 4) (ty := (.array (.array .int))) rfl rfl M (by omega) (by omega) (by omega) (b := (ad (2000 + (8 + M)))) (congrArg (fun q => some (ad q)) (by omega)) ?_
          refine v_aload_n E 0 rfl dX4_findRow_90 ?_
          refine v_getf E in_X4 ho (ci := 3) rfl 10 (by decide) q1770 rfl (v := .ref (ad (2000 + 2))) rfl dX4_findRow_91 ?_
          refine v_callS E (As := [.ref (ad (2000 + (8 + M))), .ref (ad (2000 + 2))]) (m_pcopy κ H (by omega) (by decide) (by omega) hI hM hN) (lw_S q1994 q1995 q82 q1996) 2 (by decide +kernel) rfl (by decide) (by decide) (cb' := 0) (sb' := 0) (by decide) (by decide) rfl (rest := []) (Nat.le_of_ble_eq_true rfl) hAll dX4_findRow_94 (fun v_57 H_58 hpost_59 hz_60 hk_61 => ?_)
          clear hz_60
          obtain ⟨rfl, hN_62⟩ := hpost_59
          have hM_63 := hM.kept hI (A := AN ad) (fun q h => h) hk_61
          have ho_64 := ho.far hI (by decide) (A := AN ad) (fun q h => h) hk_61
          have hSl_65 := hSl.kept hI (A := AN ad) (fun q h => h) hk_61
          have hN_66 : NS κ ad (bk (va_up P 2 (rsq (S sl) M)) f) H_58 := hN_62.ps (bk_get.trans hPM)
          refine V.eq (st' := []) rfl ?_
          refine v_aload_n E 0 rfl dX4_findRow_97 ?_
          refine v_aload_n E 0 rfl dX4_findRow_98 ?_
          refine v_getf E in_X4 ho_64 (ci := 3) rfl 10 (by decide) q1770 rfl (v := .ref (ad (2000 + 2))) rfl dX4_findRow_99 ?_
          refine v_aload_n E 0 rfl dX4_findRow_102 ?_
          refine v_getf E in_X4 ho_64 (ci := 3) rfl 18 (by decide) q1778 rfl (v := .ref (ad 3000)) rfl dX4_findRow_103 ?_
          refine v_aload_n E 0 rfl dX4_findRow_106 ?_
          refine v_getf E in_X4 ho_64 (ci := 3) rfl 19 (by decide) q1779 rfl (v := vi (L : Int)) rfl dX4_findRow_107 ?_
          refine v_iconst E dX4_findRow_110 ?_
          refine v_isub E dX4_findRow_111 ?_
          refine v_aaldS E dX4_findRow_112 hM_63.2.1 (t := 4) (ty := (.array (.array .int))) rfl rfl (M + 1) (by omega) (by omega) (by omega) (b := (ad (2000 + (8 + (M + 1))))) (congrArg (fun q => some (ad q)) (by omega)) ?_
          have hgA : eq7 (pget (bk (va_up P 2 (rsq (S sl) M)) f) 2) (rsq (S sl) M) := bk_get
          have hgB : eq7 (pget (bk (va_up P 2 (rsq (S sl) M)) f) (8 + (M + 1))) (rsq (S sl) (M + 1)) := bk_get.trans (by rw [va_upn _ _ (by omega)]; exact hPN)
          refine v_callV E (As := [.ref (ad (2000 + 2)), .ref (ad (2000 + (8 + (M + 1))))]) (b := (ad 3002)) (ci := 3) (C := RX4) (T := TX4) (N := 27) ho_64 rfl (m_rem κ H_58 (by omega) (by decide) (by omega) hI hM_63 hN_66 ho_64 (pS_congr hgA.symm (hS9 M (by omega))).N (pS_congr hgB.symm (hS9 (M + 1) (by omega))).N (hgB.deg.trans hh) (fitR_congr 7 hgA.symm hgB.symm hff)) (lw_V q1934 q1936 qs52 q82 q1937) 2 (by decide +kernel) rfl (by decide) (by decide) (cb' := 0) (sb' := 0) (by decide) (by decide) rfl (rest := []) (Nat.le_of_ble_eq_true rfl) hAll dX4_findRow_113 (fun v_67 H_68 hpost_69 hz_70 hk_71 => ?_)
          clear hz_70
          obtain ⟨rfl, f3, hN_72⟩ := hpost_69
          have hM_73 := hM_63.kept hI (A := AN ad) (fun q h => h) hk_71
          have ho_74 := ho_64.far hI (by decide) (A := AN ad) (fun q h => h) hk_71
          have hSl_75 := hSl_65.kept hI (A := AN ad) (fun q h => h) hk_71
          have hN_76 : NS κ ad (bk (va_up P 2 (remF 7 (rsq (S sl) M) (rsq (S sl) (M + 1)))) f3) H_68 := (by have h9 := hN_72.psT (s := (remF 7 (rsq (S sl) M) (rsq (S sl) (M + 1)))) (remF_congr 7 hgA hgB); rw [va_upU] at h9; exact h9)
          refine V.eq (st' := []) rfl ?_
          refine v_aload_n E 0 rfl dX4_findRow_116 ?_
          refine v_getf E in_X4 ho_74 (ci := 3) rfl 10 (by decide) q1770 rfl (v := .ref (ad (2000 + 2))) rfl dX4_findRow_117 ?_
          have hgC : eq7 (pget (bk (va_up P 2 (remF 7 (rsq (S sl) M) (rsq (S sl) (M + 1)))) f3) 2) (remF 7 (rsq (S sl) M) (rsq (S sl) (M + 1))) := bk_get
          have hS3 : pS (remF 7 (rsq (S sl) M) (rsq (S sl) (M + 1))) := remF_pS 7 (hS9 M (by omega)) hff
          refine v_callS E (As := [.ref (ad (2000 + 2))]) (m_pdeg κ H_68 (j := 2) (by decide) hI hM_73 hN_76 (pS_congr hgC.symm hS3).N) (lw_S q1928 q1929 q82 q1930) 1 (by decide +kernel) rfl (by decide) (by decide) (cb' := 0) (sb' := 0) (by decide) (by decide) rfl (rest := []) (Nat.le_of_ble_eq_true rfl) (fun q h => h.elim) dX4_findRow_120 (fun v_77 H_78 hpost_79 hz_80 hk_81 => ?_)
          clear hz_80
          obtain rfl := hpost_79
          have hM_82 := hM_73.kept hI (A := fun _ => False) (fun q h => h.elim) hk_81
          have ho_83 := ho_74.far hI (by decide) (A := fun _ => False) (fun q h => h.elim) hk_81
          have hSl_84 := hSl_75.kept hI (A := fun _ => False) (fun q h => h.elim) hk_81
          have hN_85 := hN_76.kept0 hk_81
          refine V.eq (st' := [vi (pdeg (remF 7 (rsq (S sl) M) (rsq (S sl) (M + 1))))]) (by rw [hgC.deg]; rfl) ?_
          have hdi := pdeg_in (remF 7 (rsq (S sl) M) (rsq (S sl) (M + 1)))
          refine v_if_ge E (tgt := 127) dX4_findRow_123 (by decide) ⟨by omega, by omega⟩ (fun c_123 => ?_) (fun c_123 => ?_)
          · refine v_aload_n E 0 rfl dX4_findRow_127 ?_
            refine v_getf E in_X4 ho_83 (ci := 3) rfl 10 (by decide) q1770 rfl (v := .ref (ad (2000 + 2))) rfl dX4_findRow_128 ?_
            have hd3 : 0 ≤ pdeg (remF 7 (rsq (S sl) M) (rsq (S sl) (M + 1))) := by omega
            have hgD : eq7 (pget (bk (va_up P 2 (remF 7 (rsq (S sl) M) (rsq (S sl) (M + 1)))) f3) 2) (remF 7 (rsq (S sl) M) (rsq (S sl) (M + 1))) := bk_get
            have hS2 : pS (rsq (S sl) (M + 2)) := by rw [rsq_s]; exact pS_neg hS3
            refine v_callS E (As := [.ref (ad (2000 + 2))]) (m_pneg κ H_78 (by decide) hI hM_82 hN_85) (lw_S q1991 q1992 q82 q1993) 1 (by decide +kernel) rfl (by decide) (by decide) (cb' := 0) (sb' := 0) (by decide) (by decide) rfl (rest := []) (Nat.le_of_ble_eq_true rfl) hAll dX4_findRow_131 (fun v_86 H_87 hpost_88 hz_89 hk_90 => ?_)
            clear hz_89
            obtain ⟨rfl, hN_91⟩ := hpost_88
            have hM_92 := hM_82.kept hI (A := AN ad) (fun q h => h) hk_90
            have ho_93 := ho_83.far hI (by decide) (A := AN ad) (fun q h => h) hk_90
            have hSl_94 := hSl_84.kept hI (A := AN ad) (fun q h => h) hk_90
            have hN_95 : NS κ ad (bk (va_up P 2 (rsq (S sl) (M + 2))) f3) H_87 := (by have h9 := hN_91.ps (s := rsq (S sl) (M + 2)) (by rw [rsq_s]; exact neg_congr7 hgD); rw [va_upU] at h9; exact h9)
            refine V.eq (st' := []) rfl ?_
            refine v_aload_n E 0 rfl dX4_findRow_134 ?_
            refine v_getf E in_X4 ho_93 (ci := 3) rfl 10 (by decide) q1770 rfl (v := .ref (ad (2000 + 2))) rfl dX4_findRow_135 ?_
            refine v_aload_n E 0 rfl dX4_findRow_138 ?_
            refine v_getf E in_X4 ho_93 (ci := 3) rfl 18 (by decide) q1778 rfl (v := .ref (ad 3000)) rfl dX4_findRow_139 ?_
            have hd0 := hdg (by omega)
            have hd1 := rsq_deg (hD (M + 1) (by omega))
            have hd2 : 0 ≤ pdeg (rsq (S sl) (M + 2)) := by rw [rsq_s, pdeg_neg]; exact hd3
            rw [show L - 1 = M + 1 by omega] at hd0
            refine v_aload_n E 0 rfl dX4_findRow_142 ?_
            refine v_getf E in_X4 ho_93 (ci := 3) rfl 19 (by decide) q1779 rfl (v := vi (L : Int)) rfl dX4_findRow_143 ?_
            refine v_aaldS E dX4_findRow_146 hM_92.2.1 (t := 4) (ty := (.array (.array .int))) rfl rfl (M + 2) (by omega) (by omega) (by omega) (b := (ad (2000 + (8 + (M + 2))))) (congrArg (fun q => some (ad q)) (by omega)) ?_
            have hd0 := hdg (by omega)
            have hd1 := rsq_deg (hD (M + 1) (by omega))
            have hd2 : 0 ≤ pdeg (rsq (S sl) (M + 2)) := by rw [rsq_s, pdeg_neg]; exact hd3
            rw [show L - 1 = M + 1 by omega] at hd0
            refine v_callS E (As := [.ref (ad (2000 + 2)), .ref (ad (2000 + (8 + (M + 2))))]) (m_pcopy κ H_87 (by omega) (by omega) (by decide) hI hM_92 hN_95) (lw_S q1994 q1995 q82 q1996) 2 (by decide +kernel) rfl (by decide) (by decide) (cb' := 0) (sb' := 0) (by decide) (by decide) rfl (rest := []) (Nat.le_of_ble_eq_true rfl) hAll dX4_findRow_147 (fun v_96 H_97 hpost_98 hz_99 hk_100 => ?_)
            clear hz_99
            obtain ⟨rfl, hN_101⟩ := hpost_98
            have hM_102 := hM_92.kept hI (A := AN ad) (fun q h => h) hk_100
            have ho_103 := ho_93.far hI (by decide) (A := AN ad) (fun q h => h) hk_100
            have hSl_104 := hSl_94.kept hI (A := AN ad) (fun q h => h) hk_100
            have hN_105 : NS κ ad (bk (va_up (va_up P 2 (rsq (S sl) (M + 2))) (8 + (M + 2)) (rsq (S sl) (M + 2))) f3) H_97 := hN_101.ps bk_get
            refine V.eq (st' := []) rfl ?_
            refine v_aload_n E 0 rfl dX4_findRow_150 ?_
            refine v_dup E rfl dX4_findRow_151 ?_
            refine v_getf E in_X4 ho_103 (ci := 3) rfl 19 (by decide) q1779 rfl (v := vi (L : Int)) rfl dX4_findRow_152 ?_
            refine v_iconst E dX4_findRow_155 ?_
            refine v_iadd E dX4_findRow_156 ?_
            refine V.topi (x' := ((L + 1 : Nat) : Int)) rfl ?_
            refine v_putf E in_X4 tyX4 tyX4_ok nmX4 ho_103 (ci := 3) rfl 19 (Nat.le_of_ble_eq_true rfl) q1779 rfl rfl rfl rfl (Nat.le_of_ble_eq_true rfl) (hAllB _ (Or.inr rfl)) dX4_findRow_157 (fun H_108 ho_106 hs_107 => ?_)
            have hM_109 := hM_102.same hI hs_107 (by decide)
            have hN_110 := hN_105.same hI hs_107 (by decide)
            have hSl_111 := hSl_104.same hI hs_107 (by decide)
            have ho_106 : hp κ H_108 (ad 3002) (.inr (3, MF ad thr ((L + 1 : Nat) : Int) many a1 a2 a3 a4)) := ho_106
            refine v_goto E (tgt := 71) dX4_findRow_160 (by decide) ?_
            exact ih_71  H_108 (L + 1) (va_up (va_up P 2 (rsq (S sl) (M + 2))) (8 + (M + 2)) (rsq (S sl) (M + 2))) f3 (by omega) (by omega) (fun i hi => by
              by_cases e : i = M + 2
              · subst e; rw [va_upj]; exact eq7.rfl'
              · rw [va_upn _ _ (by omega), va_upn _ _ (by omega)]; exact hP i (by omega)) (fun i hi => by
              by_cases e : i = M + 2
              · subst e; exact hS2
              · exact hS9 i (by omega)) (fun i hi => by
              by_cases e : i = M + 2
              · subst e; rw [rsq_s, pdeg_neg]; exact hd3
              · exact hD i (by omega)) (fun _ => by rw [show L + 1 - 1 = M + 2 by omega]; have h5 := rsq_deg (hD (M + 1) (by omega)); have h6 := hdg (by omega); rw [show L - 1 = M + 1 by omega] at h6; omega) (fun h => by omega) (fun m hm h2 h3 => by rw [va_upn _ _ (by omega), va_upn _ _ h3]; exact hO m hm h2 h3) ho_106 hM_109 hN_110 hSl_111
          · refine v_vret E hE dX4_findRow_126 ?_
            exact ⟨rfl, L, _, _, ⟨h1.1, h1.2, hD, by rw [hLM, rsq_s, pdeg_neg]; omega⟩, (fun i hi => by rw [va_upn _ _ (by omega)]; exact hP i hi), (fun m hm h2 h3 => by rw [va_upn _ _ h3]; exact hO m hm h2 h3), hM_82, hN_85, ho_83, hSl_84⟩
    refine V.sub [0] (lv' := [(0, .ref (ad 3002))]) rfl ?_
    have hE8 : eq7 (va_up (va_up (va_up (va_up (pget σ) 8 (S sl)) 9 (drv (S sl))) 8 (pprim (S sl))) 9 (pprim (drv (S sl))) 8) (rsq (S sl) 0) := by rw [rsq_0]; exact eq7.rfl'
    have hE9 : eq7 (va_up (va_up (va_up (va_up (pget σ) 8 (S sl)) 9 (drv (S sl))) 8 (pprim (S sl))) 9 (pprim (drv (S sl))) 9) (rsq (S sl) 1) := by rw [rsq_1]; exact eq7.rfl'
    exact loop_71 (8 - 2 + 1) H_53 2 (va_up (va_up (va_up (va_up (pget σ) 8 (S sl)) 9 (drv (S sl))) 8 (pprim (S sl))) 9 (pprim (drv (S sl)))) f9 (by omega) (by omega) (fun i hi => by
      rcases (show i = 0 ∨ i = 1 by omega) with e | e
      · rw [e]; exact hE8
      · rw [e]; exact hE9) (fun i hi => by
      rcases (show i = 0 ∨ i = 1 by omega) with e | e
      · rw [e]; exact (by rw [rsq_0]; exact hfit.1.prim)
      · rw [e]; exact (by rw [rsq_1]; exact hfit.2.1.prim)) (fun i hi => by
      rcases (show i = 0 ∨ i = 1 by omega) with e | e
      · rw [e]; exact (by rw [rsq_0]; exact h0)
      · rw [e]; exact (by omega)) (fun _ => by have := rsq1_deg (S sl); show pdeg (rsq (S sl) 1) ≤ 7 - ((2 : Nat) : Int); omega) (fun h => by omega) (fun m hm h2 h3 => by rw [va_upn _ _ (by omega), va_upn _ _ (by omega), va_upn _ _ (by omega), va_upn _ _ (by omega)]; exact eq7.rfl') ho_51 hM_54 hN_55 hSl_56
  · refine v_iconst E dX4_findRow_63 ?_
    refine v_goto E (tgt := 68) dX4_findRow_64 (by decide) ?_
    refine v_putf E in_X4 tyX4 tyX4_ok nmX4 ho_48 (ci := 3) rfl 19 (Nat.le_of_ble_eq_true rfl) q1779 rfl rfl rfl rfl (Nat.le_of_ble_eq_true rfl) (hAllB _ (Or.inr rfl)) dX4_findRow_68 (fun H_114 ho_112 hs_113 => ?_)
    have hM_115 := hM_47.same hI hs_113 (by decide)
    have hN_116 := hN_50.same hI hs_113 (by decide)
    have hSl_117 := hSl_49.same hI hs_113 (by decide)
    have ho_112 : hp κ H_114 (ad 3002) (.inr (3, MF ad thr 1 many a1 a2 a3 a4)) := ho_112
    have loop_71 : ∀ (m_71 : Nat) (H : Heap) (L : Nat) (P : Nat → Nat → Int) (f : Nat → Int), 8 - L < m_71 → (1 ≤ L ∧ L ≤ 7) → (∀ i, i < L → eq7 (P (8 + i)) (rsq (S sl) i)) → (∀ i, i < L → pS (rsq (S sl) i)) → (∀ i, i < L → 0 ≤ pdeg (rsq (S sl) i)) → (2 ≤ L → pdeg (rsq (S sl) (L - 1)) ≤ 7 - (L : Int)) → (L = 1 → pdeg (rsq (S sl) 1) < 0) → (∀ m, m < 176 → (m < 8 ∨ 16 ≤ m) → m ≠ 2 → eq7 (P m) (pget σ m)) → hp κ H (ad 3002) (.inr (3, MF ad thr (L : Int) many a1 a2 a3 a4)) → MS κ ad H → NS κ ad (bk P f) H → SL κ ad S H → V z H 0 0 71 [(0, .ref (ad 3002))] [] := by
      intro m_71
      induction m_71 with
      | zero => intro H L P f hm; exact absurd hm (by omega)
      | succ m_71 ih_71 =>
        intro H L P f hm_71 h1 hP hS9 hD hdg hone hO ho hM hN hSl
        refine v_aload_n E 0 rfl dX4_findRow_71 ?_
        refine v_getf E in_X4 ho (ci := 3) rfl 19 (by decide) q1779 rfl (v := vi (L : Int)) rfl dX4_findRow_72 ?_
        refine v_iconst E dX4_findRow_75 ?_
        refine v_icmp_le E (tgt := 163) dX4_findRow_76 (by decide) ⟨by omega, by omega⟩ ⟨by omega, by omega⟩ (fun c_76 => ?_) (fun c_76 => ?_)
        · refine v_vret E hE dX4_findRow_163 ?_
          have hL1 : L = 1 := by omega
          exact ⟨rfl, L, _, _, ⟨h1.1, h1.2, hD, by rw [hL1]; exact hone hL1⟩, hP, hO, hM, hN, ho, hSl⟩
        · obtain ⟨M, hLM⟩ : ∃ M, L = M + 2 := ⟨L - 2, by omega⟩
          have hPM := hP M (by omega)
          have hPN := hP (M + 1) (by omega)
          have hff := hfit.2.2 M (hD (M + 1) (by omega))
          obtain ⟨h, hh⟩ := Int.eq_ofNat_of_zero_le (hD (M + 1) (by omega))
          refine v_aload_n E 0 rfl dX4_findRow_79 ?_
          refine v_getf E in_X4 ho (ci := 3) rfl 18 (by decide) q1778 rfl (v := .ref (ad 3000)) rfl dX4_findRow_80 ?_
          refine v_aload_n E 0 rfl dX4_findRow_83 ?_
          refine v_getf E in_X4 ho (ci := 3) rfl 19 (by decide) q1779 rfl (v := vi (L : Int)) rfl dX4_findRow_84 ?_
          refine v_iconst E dX4_findRow_87 ?_
          refine v_isub E dX4_findRow_88 ?_
          refine v_aaldS E dX4_findRow_89 hM.2.1 (t := 4) (ty := (.array (.array .int))) rfl rfl M (by omega) (by omega) (by omega) (b := (ad (2000 + (8 + M)))) (congrArg (fun q => some (ad q)) (by omega)) ?_
          refine v_aload_n E 0 rfl dX4_findRow_90 ?_
          refine v_getf E in_X4 ho (ci := 3) rfl 10 (by decide) q1770 rfl (v := .ref (ad (2000 + 2))) rfl dX4_findRow_91 ?_
          refine v_callS E (As := [.ref (ad (2000 + (8 + M))), .ref (ad (2000 + 2))]) (m_pcopy κ H (by omega) (by decide) (by omega) hI hM hN) (lw_S q1994 q1995 q82 q1996) 2 (by decide +kernel) rfl (by decide) (by decide) (cb' := 0) (sb' := 0) (by decide) (by decide) rfl (rest := []) (Nat.le_of_ble_eq_true rfl) hAll dX4_findRow_94 (fun v_118 H_119 hpost_120 hz_121 hk_122 => ?_)
          clear hz_121
          obtain ⟨rfl, hN_123⟩ := hpost_120
          have hM_124 := hM.kept hI (A := AN ad) (fun q h => h) hk_122
          have ho_125 := ho.far hI (by decide) (A := AN ad) (fun q h => h) hk_122
          have hSl_126 := hSl.kept hI (A := AN ad) (fun q h => h) hk_122
          have hN_127 : NS κ ad (bk (va_up P 2 (rsq (S sl) M)) f) H_119 := hN_123.ps (bk_get.trans hPM)
          refine V.eq (st' := []) rfl ?_
          refine v_aload_n E 0 rfl dX4_findRow_97 ?_
          refine v_aload_n E 0 rfl dX4_findRow_98 ?_
          refine v_getf E in_X4 ho_125 (ci := 3) rfl 10 (by decide) q1770 rfl (v := .ref (ad (2000 + 2))) rfl dX4_findRow_99 ?_
          refine v_aload_n E 0 rfl dX4_findRow_102 ?_
          refine v_getf E in_X4 ho_125 (ci := 3) rfl 18 (by decide) q1778 rfl (v := .ref (ad 3000)) rfl dX4_findRow_103 ?_
          refine v_aload_n E 0 rfl dX4_findRow_106 ?_
          refine v_getf E in_X4 ho_125 (ci := 3) rfl 19 (by decide) q1779 rfl (v := vi (L : Int)) rfl dX4_findRow_107 ?_
          refine v_iconst E dX4_findRow_110 ?_
          refine v_isub E dX4_findRow_111 ?_
          refine v_aaldS E dX4_findRow_112 hM_124.2.1 (t := 4) (ty := (.array (.array .int))) rfl rfl (M + 1) (by omega) (by omega) (by omega) (b := (ad (2000 + (8 + (M + 1))))) (congrArg (fun q => some (ad q)) (by omega)) ?_
          have hgA : eq7 (pget (bk (va_up P 2 (rsq (S sl) M)) f) 2) (rsq (S sl) M) := bk_get
          have hgB : eq7 (pget (bk (va_up P 2 (rsq (S sl) M)) f) (8 + (M + 1))) (rsq (S sl) (M + 1)) := bk_get.trans (by rw [va_upn _ _ (by omega)]; exact hPN)
          refine v_callV E (As := [.ref (ad (2000 + 2)), .ref (ad (2000 + (8 + (M + 1))))]) (b := (ad 3002)) (ci := 3) (C := RX4) (T := TX4) (N := 27) ho_125 rfl (m_rem κ H_119 (by omega) (by decide) (by omega) hI hM_124 hN_127 ho_125 (pS_congr hgA.symm (hS9 M (by omega))).N (pS_congr hgB.symm (hS9 (M + 1) (by omega))).N (hgB.deg.trans hh) (fitR_congr 7 hgA.symm hgB.symm hff)) (lw_V q1934 q1936 qs52 q82 q1937) 2 (by decide +kernel) rfl (by decide) (by decide) (cb' := 0) (sb' := 0) (by decide) (by decide) rfl (rest := []) (Nat.le_of_ble_eq_true rfl) hAll dX4_findRow_113 (fun v_128 H_129 hpost_130 hz_131 hk_132 => ?_)
          clear hz_131
          obtain ⟨rfl, f3, hN_133⟩ := hpost_130
          have hM_134 := hM_124.kept hI (A := AN ad) (fun q h => h) hk_132
          have ho_135 := ho_125.far hI (by decide) (A := AN ad) (fun q h => h) hk_132
          have hSl_136 := hSl_126.kept hI (A := AN ad) (fun q h => h) hk_132
          have hN_137 : NS κ ad (bk (va_up P 2 (remF 7 (rsq (S sl) M) (rsq (S sl) (M + 1)))) f3) H_129 := (by have h9 := hN_133.psT (s := (remF 7 (rsq (S sl) M) (rsq (S sl) (M + 1)))) (remF_congr 7 hgA hgB); rw [va_upU] at h9; exact h9)
          refine V.eq (st' := []) rfl ?_
          refine v_aload_n E 0 rfl dX4_findRow_116 ?_
          refine v_getf E in_X4 ho_135 (ci := 3) rfl 10 (by decide) q1770 rfl (v := .ref (ad (2000 + 2))) rfl dX4_findRow_117 ?_
          have hgC : eq7 (pget (bk (va_up P 2 (remF 7 (rsq (S sl) M) (rsq (S sl) (M + 1)))) f3) 2) (remF 7 (rsq (S sl) M) (rsq (S sl) (M + 1))) := bk_get
          have hS3 : pS (remF 7 (rsq (S sl) M) (rsq (S sl) (M + 1))) := remF_pS 7 (hS9 M (by omega)) hff
          refine v_callS E (As := [.ref (ad (2000 + 2))]) (m_pdeg κ H_129 (j := 2) (by decide) hI hM_134 hN_137 (pS_congr hgC.symm hS3).N) (lw_S q1928 q1929 q82 q1930) 1 (by decide +kernel) rfl (by decide) (by decide) (cb' := 0) (sb' := 0) (by decide) (by decide) rfl (rest := []) (Nat.le_of_ble_eq_true rfl) (fun q h => h.elim) dX4_findRow_120 (fun v_138 H_139 hpost_140 hz_141 hk_142 => ?_)
          clear hz_141
          obtain rfl := hpost_140
          have hM_143 := hM_134.kept hI (A := fun _ => False) (fun q h => h.elim) hk_142
          have ho_144 := ho_135.far hI (by decide) (A := fun _ => False) (fun q h => h.elim) hk_142
          have hSl_145 := hSl_136.kept hI (A := fun _ => False) (fun q h => h.elim) hk_142
          have hN_146 := hN_137.kept0 hk_142
          refine V.eq (st' := [vi (pdeg (remF 7 (rsq (S sl) M) (rsq (S sl) (M + 1))))]) (by rw [hgC.deg]; rfl) ?_
          have hdi := pdeg_in (remF 7 (rsq (S sl) M) (rsq (S sl) (M + 1)))
          refine v_if_ge E (tgt := 127) dX4_findRow_123 (by decide) ⟨by omega, by omega⟩ (fun c_123 => ?_) (fun c_123 => ?_)
          · refine v_aload_n E 0 rfl dX4_findRow_127 ?_
            refine v_getf E in_X4 ho_144 (ci := 3) rfl 10 (by decide) q1770 rfl (v := .ref (ad (2000 + 2))) rfl dX4_findRow_128 ?_
            have hd3 : 0 ≤ pdeg (remF 7 (rsq (S sl) M) (rsq (S sl) (M + 1))) := by omega
            have hgD : eq7 (pget (bk (va_up P 2 (remF 7 (rsq (S sl) M) (rsq (S sl) (M + 1)))) f3) 2) (remF 7 (rsq (S sl) M) (rsq (S sl) (M + 1))) := bk_get
            have hS2 : pS (rsq (S sl) (M + 2)) := by rw [rsq_s]; exact pS_neg hS3
            refine v_callS E (As := [.ref (ad (2000 + 2))]) (m_pneg κ H_139 (by decide) hI hM_143 hN_146) (lw_S q1991 q1992 q82 q1993) 1 (by decide +kernel) rfl (by decide) (by decide) (cb' := 0) (sb' := 0) (by decide) (by decide) rfl (rest := []) (Nat.le_of_ble_eq_true rfl) hAll dX4_findRow_131 (fun v_147 H_148 hpost_149 hz_150 hk_151 => ?_)
            clear hz_150
            obtain ⟨rfl, hN_152⟩ := hpost_149
            have hM_153 := hM_143.kept hI (A := AN ad) (fun q h => h) hk_151
            have ho_154 := ho_144.far hI (by decide) (A := AN ad) (fun q h => h) hk_151
            have hSl_155 := hSl_145.kept hI (A := AN ad) (fun q h => h) hk_151
            have hN_156 : NS κ ad (bk (va_up P 2 (rsq (S sl) (M + 2))) f3) H_148 := (by have h9 := hN_152.ps (s := rsq (S sl) (M + 2)) (by rw [rsq_s]; exact neg_congr7 hgD); rw [va_upU] at h9; exact h9)
            refine V.eq (st' := []) rfl ?_
            refine v_aload_n E 0 rfl dX4_findRow_134 ?_
            refine v_getf E in_X4 ho_154 (ci := 3) rfl 10 (by decide) q1770 rfl (v := .ref (ad (2000 + 2))) rfl dX4_findRow_135 ?_
            refine v_aload_n E 0 rfl dX4_findRow_138 ?_
            refine v_getf E in_X4 ho_154 (ci := 3) rfl 18 (by decide) q1778 rfl (v := .ref (ad 3000)) rfl dX4_findRow_139 ?_
            have hd0 := hdg (by omega)
            have hd1 := rsq_deg (hD (M + 1) (by omega))
            have hd2 : 0 ≤ pdeg (rsq (S sl) (M + 2)) := by rw [rsq_s, pdeg_neg]; exact hd3
            rw [show L - 1 = M + 1 by omega] at hd0
            refine v_aload_n E 0 rfl dX4_findRow_142 ?_
            refine v_getf E in_X4 ho_154 (ci := 3) rfl 19 (by decide) q1779 rfl (v := vi (L : Int)) rfl dX4_findRow_143 ?_
            refine v_aaldS E dX4_findRow_146 hM_153.2.1 (t := 4) (ty := (.array (.array .int))) rfl rfl (M + 2) (by omega) (by omega) (by omega) (b := (ad (2000 + (8 + (M + 2))))) (congrArg (fun q => some (ad q)) (by omega)) ?_
            have hd0 := hdg (by omega)
            have hd1 := rsq_deg (hD (M + 1) (by omega))
            have hd2 : 0 ≤ pdeg (rsq (S sl) (M + 2)) := by rw [rsq_s, pdeg_neg]; exact hd3
            rw [show L - 1 = M + 1 by omega] at hd0
            refine v_callS E (As := [.ref (ad (2000 + 2)), .ref (ad (2000 + (8 + (M + 2))))]) (m_pcopy κ H_148 (by omega) (by omega) (by decide) hI hM_153 hN_156) (lw_S q1994 q1995 q82 q1996) 2 (by decide +kernel) rfl (by decide) (by decide) (cb' := 0) (sb' := 0) (by decide) (by decide) rfl (rest := []) (Nat.le_of_ble_eq_true rfl) hAll dX4_findRow_147 (fun v_157 H_158 hpost_159 hz_160 hk_161 => ?_)
            clear hz_160
            obtain ⟨rfl, hN_162⟩ := hpost_159
            have hM_163 := hM_153.kept hI (A := AN ad) (fun q h => h) hk_161
            have ho_164 := ho_154.far hI (by decide) (A := AN ad) (fun q h => h) hk_161
            have hSl_165 := hSl_155.kept hI (A := AN ad) (fun q h => h) hk_161
            have hN_166 : NS κ ad (bk (va_up (va_up P 2 (rsq (S sl) (M + 2))) (8 + (M + 2)) (rsq (S sl) (M + 2))) f3) H_158 := hN_162.ps bk_get
            refine V.eq (st' := []) rfl ?_
            refine v_aload_n E 0 rfl dX4_findRow_150 ?_
            refine v_dup E rfl dX4_findRow_151 ?_
            refine v_getf E in_X4 ho_164 (ci := 3) rfl 19 (by decide) q1779 rfl (v := vi (L : Int)) rfl dX4_findRow_152 ?_
            refine v_iconst E dX4_findRow_155 ?_
            refine v_iadd E dX4_findRow_156 ?_
            refine V.topi (x' := ((L + 1 : Nat) : Int)) rfl ?_
            refine v_putf E in_X4 tyX4 tyX4_ok nmX4 ho_164 (ci := 3) rfl 19 (Nat.le_of_ble_eq_true rfl) q1779 rfl rfl rfl rfl (Nat.le_of_ble_eq_true rfl) (hAllB _ (Or.inr rfl)) dX4_findRow_157 (fun H_169 ho_167 hs_168 => ?_)
            have hM_170 := hM_163.same hI hs_168 (by decide)
            have hN_171 := hN_166.same hI hs_168 (by decide)
            have hSl_172 := hSl_165.same hI hs_168 (by decide)
            have ho_167 : hp κ H_169 (ad 3002) (.inr (3, MF ad thr ((L + 1 : Nat) : Int) many a1 a2 a3 a4)) := ho_167
            refine v_goto E (tgt := 71) dX4_findRow_160 (by decide) ?_
            exact ih_71  H_169 (L + 1) (va_up (va_up P 2 (rsq (S sl) (M + 2))) (8 + (M + 2)) (rsq (S sl) (M + 2))) f3 (by omega) (by omega) (fun i hi => by
              by_cases e : i = M + 2
              · subst e; rw [va_upj]; exact eq7.rfl'
              · rw [va_upn _ _ (by omega), va_upn _ _ (by omega)]; exact hP i (by omega)) (fun i hi => by
              by_cases e : i = M + 2
              · subst e; exact hS2
              · exact hS9 i (by omega)) (fun i hi => by
              by_cases e : i = M + 2
              · subst e; rw [rsq_s, pdeg_neg]; exact hd3
              · exact hD i (by omega)) (fun _ => by rw [show L + 1 - 1 = M + 2 by omega]; have h5 := rsq_deg (hD (M + 1) (by omega)); have h6 := hdg (by omega); rw [show L - 1 = M + 1 by omega] at h6; omega) (fun h => by omega) (fun m hm h2 h3 => by rw [va_upn _ _ (by omega), va_upn _ _ h3]; exact hO m hm h2 h3) ho_167 hM_170 hN_171 hSl_172
          · refine v_vret E hE dX4_findRow_126 ?_
            exact ⟨rfl, L, _, _, ⟨h1.1, h1.2, hD, by rw [hLM, rsq_s, pdeg_neg]; omega⟩, (fun i hi => by rw [va_upn _ _ (by omega)]; exact hP i hi), (fun m hm h2 h3 => by rw [va_upn _ _ h3]; exact hO m hm h2 h3), hM_143, hN_146, ho_144, hSl_145⟩
    refine V.sub [0] (lv' := [(0, .ref (ad 3002))]) rfl ?_
    have hE8 : eq7 (va_up (va_up (va_up (va_up (pget σ) 8 (S sl)) 9 (drv (S sl))) 8 (pprim (S sl))) 9 (pprim (drv (S sl))) 8) (rsq (S sl) 0) := by rw [rsq_0]; exact eq7.rfl'
    have hE9 : eq7 (va_up (va_up (va_up (va_up (pget σ) 8 (S sl)) 9 (drv (S sl))) 8 (pprim (S sl))) 9 (pprim (drv (S sl))) 9) (rsq (S sl) 1) := by rw [rsq_1]; exact eq7.rfl'
    exact loop_71 (8 - 1 + 1) H_114 1 (va_up (va_up (va_up (va_up (pget σ) 8 (S sl)) 9 (drv (S sl))) 8 (pprim (S sl))) 9 (pprim (drv (S sl)))) f9 (by omega) (by omega) (fun i hi => by rw [show i = 0 by omega]; exact hE8) (fun i hi => by rw [show i = 0 by omega]; exact (by rw [rsq_0]; exact hfit.1.prim)) (fun i hi => by rw [show i = 0 by omega, rsq_0]; exact h0) (fun h => by omega) (fun _ => by omega) (fun m hm h2 h3 => by rw [va_upn _ _ (by omega), va_upn _ _ (by omega), va_upn _ _ (by omega), va_upn _ _ (by omega)]; exact eq7.rfl') ho_112 hM_115 hN_116 hSl_117
