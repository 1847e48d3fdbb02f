set_option maxHeartbeats 400000 in
set_option maxRecDepth 100000 in
/-- isolate -/
theorem m_isolate (κ : zK) (H0 : Heap) {ad : Nat → Nat} {P : Nat → Nat → Int} {f g mk : Nat → Int} {S : Nat → Nat → Int} {K : Nat → Int} {thr len many : Int} {a1 a2 a3 a4 : Nat} {cap : Nat} {lv lo hi rt : Nat → Int} (hap : ∀ i, uA i → a1 ≠ ad i ∧ a2 ≠ ad i ∧ a3 ≠ ad i ∧ a4 ≠ ad i) (hmn : 0 ≤ many ∧ many ≤ (cap : Int)) (hcp : cap < 1000000) (hne : a1 ≠ a2 ∧ a1 ≠ a3 ∧ a1 ≠ a4 ∧ a2 ≠ a3 ∧ a2 ≠ a4 ∧ a3 ≠ a4) {a : Int} (ha : rI a) (hc0 : 0 < cap) (hS : bS S) (hfit : (0 ≤ a ∧ a < 5) → 0 ≤ pdeg (S a.toNat) → okFree (S a.toNat)) (hfit2 : (0 ≤ a ∧ a < 5) → 0 ≤ pdeg (S a.toNat) → okIso (S a.toNat)) (hI : Inj ad) (hB : MB κ ad P f g mk S K thr len many a1 a2 a3 a4 H0) (hv1 : hp κ H0 a1 (eI κ cap lv)) (hv2 : hp κ H0 a2 (eI κ cap lo)) (hv3 : hp κ H0 a3 (eI κ cap hi)) (hv4 : hp κ H0 a4 (eI κ cap rt))  : Mt κ yX4_isolate cX4_isolate 3 (some .int) 7 164 0 0 H0 [.ref (ad 3002), vi a] (AI ad a1 a2 a3 a4) (fun v H1 => (¬ (0 ≤ a ∧ a < 5) ∧ v = some (vi 0) ∧ MB κ ad P f g mk S K 1 len many a1 a2 a3 a4 H1 ∧ hp κ H1 a1 (eI κ cap lv) ∧ hp κ H1 a2 (eI κ cap lo) ∧ hp κ H1 a3 (eI κ cap hi) ∧ hp κ H1 a4 (eI κ cap rt)) ∨ ((0 ≤ a ∧ a < 5) ∧ pdeg (S a.toNat) < 0 ∧ v = some (vi 0) ∧ MB κ ad P f g mk S K 2 len many a1 a2 a3 a4 H1 ∧ hp κ H1 a1 (eI κ cap lv) ∧ hp κ H1 a2 (eI κ cap lo) ∧ hp κ H1 a3 (eI κ cap hi) ∧ hp κ H1 a4 (eI κ cap rt)) ∨ ((0 ≤ a ∧ a < 5) ∧ 0 ≤ pdeg (S a.toNat) ∧ v = some (vi (plF (freeR (S a.toNat)) 0 (-bnd (S a.toNat)) (bnd (S a.toNat)))) ∧ ∃ (P1 : Nat → Nat → Int) (f1 g1 K1 : Nat → Int), eq7 K1 (S a.toNat) ∧ eq7 (P1 7) (freeR (S a.toNat)) ∧ MB κ ad P1 f1 g1 mk S K1 0 len 1 a1 a2 a3 a4 H1 ∧ hp κ H1 a1 (eI κ cap (va_up lv 0 0)) ∧ hp κ H1 a2 (eI κ cap (va_up lo 0 (-bnd (S a.toNat)))) ∧ hp κ H1 a3 (eI κ cap (va_up hi 0 (bnd (S a.toNat)))) ∧ hp κ H1 a4 (eI κ cap (va_up rt 0 (plF (freeR (S a.toNat)) 0 (-bnd (S a.toNat)) (bnd (S a.toNat))))))) := by
  refine Mt.of (by decide) (Nat.le_of_ble_eq_true rfl) ?_
  intro z E hE hH0 hA0 hL hini
  have hAll : ∀ q, (AI ad a1 a2 a3 a4) q → zA z.A z.H0 q := fun q h => Or.inl (by rw [hA0]; exact h)
  have hNew : ∀ q, H0.size ≤ q → zA z.A z.H0 q := fun q h => Or.inr (by rw [hH0]; exact h)
  have E : zOK z cX4_isolate RX4 κ 7 164 (some .int) := E
  refine V.eqL (lv' := [(0, .ref (ad 3002)), (1, vi a)]) rfl ?_
  refine v_iload_n E 1 rfl dX4_isolate_0 ?_
  refine v_callS E (As := [vi a]) (m_isSlot κ H0 (by first | assumption | decide | exact ⟨by omega, by omega⟩)) (lw_S q1851 q1852 q82 q1853) 1 (by decide +kernel) rfl (by decide) (by decide) (cb' := 0) (sb' := 0) (by decide) (by decide) rfl (rest := []) (Nat.le_of_ble_eq_true rfl) (fun q h => h.elim) dX4_isolate_1 (fun v_2 H_3 hpost_4 hz_5 hk_6 => ?_)
  clear hz_5
  obtain rfl := hpost_4
  obtain ⟨b_1, hb_7, hb_7e⟩ : ∃ b9 : Int, (b9 = 0 ∧ ¬ (0 ≤ a ∧ a < 5) ∨ b9 = 1 ∧ (0 ≤ a ∧ a < 5)) ∧ (if 0 ≤ a ∧ a < 5 then 1 else 0 : Int) = b9 := by
    by_cases c : 0 ≤ a ∧ a < 5
    · exact ⟨1, Or.inr ⟨rfl, c⟩, if_pos c⟩
    · exact ⟨0, Or.inl ⟨rfl, c⟩, if_neg c⟩
  have hv1_8 := hv1.kept (hk_6 _ hv1.lt (fun h => h))
  have hv2_9 := hv2.kept (hk_6 _ hv2.lt (fun h => h))
  have hv3_10 := hv3.kept (hk_6 _ hv3.lt (fun h => h))
  have hv4_11 := hv4.kept (hk_6 _ hv4.lt (fun h => h))
  have hB_12 : MB κ ad P f g mk S K thr len many a1 a2 a3 a4 H_3 := hB.nil hk_6
  refine V.eq (st' := [vi b_1]) (by rw [hb_7e]; rfl) ?_
  refine v_if_ne E (tgt := 13) dX4_isolate_4 (by decide) ⟨by omega, by omega⟩ (fun c_4 => ?_) (fun c_4 => ?_)
  · refine v_aload_n E 0 rfl dX4_isolate_13 ?_
    refine v_iload_n E 1 rfl dX4_isolate_14 ?_
    refine v_callV E (As := [vi a]) (b := (ad 3002)) (ci := 3) (C := RX4) (T := TX4) (N := 27) hB_12.ho rfl (m_isZero κ H_3 (by omega) hS hI hB_12) (lw_V q2006 q2008 qs57 q82 q2009) 1 (by decide +kernel) rfl (by decide) (by decide) (cb' := 0) (sb' := 0) (by decide) (by decide) rfl (rest := []) (Nat.le_of_ble_eq_true rfl) (fun q h => h.elim) dX4_isolate_15 (fun v_14 H_15 hpost_16 hz_17 hk_18 => ?_)
    clear hz_17
    have hv_19 := hv1_8.kept (hk_18 _ hv1_8.lt (fun h => h))
    have hv_20 := hv2_9.kept (hk_18 _ hv2_9.lt (fun h => h))
    have hv_21 := hv3_10.kept (hk_18 _ hv3_10.lt (fun h => h))
    have hv_22 := hv4_11.kept (hk_18 _ hv4_11.lt (fun h => h))
    obtain rfl := hpost_16
    obtain ⟨b_13, hb_23, hb_23e⟩ : ∃ b9 : Int, (b9 = 0 ∧ ¬ (pdeg (S a.toNat) < 0) ∨ b9 = 1 ∧ (pdeg (S a.toNat) < 0)) ∧ (if pdeg (S a.toNat) < 0 then 1 else 0 : Int) = b9 := by
      by_cases c : pdeg (S a.toNat) < 0
      · exact ⟨1, Or.inr ⟨rfl, c⟩, if_pos c⟩
      · exact ⟨0, Or.inl ⟨rfl, c⟩, if_neg c⟩
    have hB_24 : MB κ ad P f g mk S K thr len many a1 a2 a3 a4 H_15 := hB_12.nil hk_18
    refine V.eq (st' := [vi b_13]) (by rw [hb_23e]; rfl) ?_
    refine v_if_eq E (tgt := 27) dX4_isolate_18 (by decide) ⟨by omega, by omega⟩ (fun c_18 => ?_) (fun c_18 => ?_)
    · refine v_iconst E dX4_isolate_27 ?_
      refine v_istore_n E dX4_isolate_28 (zlt hL rfl) (lv' := [(2, vi 0), (0, .ref (ad 3002)), (1, vi a)]) rfl ?_
      have loop_29 : ∀ (m_29 : Nat) (H : Heap) (k : Nat) (r : Nat → Int), 7 - k < m_29 → (k ≤ 7) → (∀ m, m < k → r m = S a.toNat m) → hp κ H a1 (eI κ cap lv) → hp κ H a2 (eI κ cap lo) → hp κ H a3 (eI κ cap hi) → hp κ H a4 (eI κ cap rt) → MB κ ad P f g mk S r thr len many a1 a2 a3 a4 H → V z H 0 0 29 [(2, vi (k : Int)), (1, vi a), (0, .ref (ad 3002))] [] := by
        intro m_29
        induction m_29 with
        | zero => intro H k r hm; exact absurd hm (by omega)
        | succ m_29 ih_29 =>
          intro H k r hm_29 hk hr hv1 hv2 hv3 hv4 hB
          refine v_iload_n E 0 rfl dX4_isolate_29 ?_
          refine v_bipush E ⟨by decide, by decide⟩ dX4_isolate_30 ?_
          refine v_icmp_ge E (tgt := 55) dX4_isolate_32 (by decide) ⟨by omega, by omega⟩ ⟨by omega, by omega⟩ (fun c_32 => ?_) (fun c_32 => ?_)
          · have hok2 := hfit2 (by omega) (by omega)
            refine v_aload_n E 2 rfl dX4_isolate_55 ?_
            refine v_getf E in_X4 hB.ho (ci := 3) rfl 20 (by decide) q1780 rfl (v := .ref (ad 3004)) rfl dX4_isolate_56 ?_
            refine v_aload_n E 2 rfl dX4_isolate_59 ?_
            refine v_getf E in_X4 hB.ho (ci := 3) rfl 17 (by decide) q1777 rfl (v := .ref (ad (2000 + 6))) rfl dX4_isolate_60 ?_
            refine v_callS E (As := [.ref (ad 3004), .ref (ad (2000 + 6))]) (m_load κ H (fun k hk => by rw [hr k (by omega)]; exact hS.rI (i := a.toNat) (by omega) k hk) (fun i hi => hI.ne (by omega)) hB.ke (by decide) hI hB.ms hB.ns) (lw_S q1918 q1919 q82 q1920) 2 (by decide +kernel) rfl (by decide) (by decide) (cb' := 0) (sb' := 0) (by decide) (by decide) rfl (rest := []) (Nat.le_of_ble_eq_true rfl) (fun q h => hAll q (Or.inl (AH.N q h))) dX4_isolate_63 (fun v_25 H_26 hpost_27 hz_28 hk_29 => ?_)
            clear hz_28
            have hv_30 := hv1.kept (hk_29 _ hv1.lt (fun h => (AH.N _ h).elim (fun i e => (hap i e.1).1 e.2)))
            have hv_31 := hv2.kept (hk_29 _ hv2.lt (fun h => (AH.N _ h).elim (fun i e => (hap i e.1).2.1 e.2)))
            have hv_32 := hv3.kept (hk_29 _ hv3.lt (fun h => (AH.N _ h).elim (fun i e => (hap i e.1).2.2.1 e.2)))
            have hv_33 := hv4.kept (hk_29 _ hv4.lt (fun h => (AH.N _ h).elim (fun i e => (hap i e.1).2.2.2 e.2)))
            obtain ⟨rfl, hN_34⟩ := hpost_27
            have hN_35 : NS κ ad (bk (va_up P 6 (S a.toNat)) f) H_26 := hN_34.ps (fun k hk => hr k (by omega))
            have hB_36 : MB κ ad (va_up P 6 (S a.toNat)) f g mk S r thr len many a1 a2 a3 a4 H_26 := hB.num hI hk_29 hN_35
            refine V.eq (st' := []) rfl ?_
            refine v_aload_n E 2 rfl dX4_isolate_66 ?_
            refine v_aload_n E 2 rfl dX4_isolate_67 ?_
            refine v_getf E in_X4 hB_36.ho (ci := 3) rfl 17 (by decide) q1777 rfl (v := .ref (ad (2000 + 6))) rfl dX4_isolate_68 ?_
            have hS6 : eq7 (pget (bk (va_up P 6 (S a.toNat)) f) 6) (S a.toNat) := bk_get
            have hok := hfit (by omega) (by omega)
            refine v_callV E (As := [.ref (ad (2000 + 6))]) (b := (ad 3002)) (ci := 3) (C := RX4) (T := TX4) (N := 27) hB_36.ho rfl (m_findFree κ H_26 hI hB_36.ms hB_36.ns hB_36.ho (fitFree_congr0 hok.2 hS6.symm hok.1) (okD_congr hS6.symm hok.2)) (lw_V q2010 q2012 qs58 q82 q2013) 1 (by decide +kernel) rfl (by decide) (by decide) (cb' := 0) (sb' := 0) (by decide) (by decide) rfl (rest := []) (Nat.le_of_ble_eq_true rfl) (fun q h => hAll q (Or.inl (AH.N q h))) dX4_isolate_71 (fun v_37 H_38 hpost_39 hz_40 hk_41 => ?_)
            clear hz_40
            have hv_42 := hv_30.kept (hk_41 _ hv_30.lt (fun h => (AH.N _ h).elim (fun i e => (hap i e.1).1 e.2)))
            have hv_43 := hv_31.kept (hk_41 _ hv_31.lt (fun h => (AH.N _ h).elim (fun i e => (hap i e.1).2.1 e.2)))
            have hv_44 := hv_32.kept (hk_41 _ hv_32.lt (fun h => (AH.N _ h).elim (fun i e => (hap i e.1).2.2.1 e.2)))
            have hv_45 := hv_33.kept (hk_41 _ hv_33.lt (fun h => (AH.N _ h).elim (fun i e => (hap i e.1).2.2.2 e.2)))
            obtain ⟨rfl, r0, r1, r2, f0, hN_46⟩ := hpost_39
            have hN_47 : NS κ ad (bk (va_up (va_up (va_up (va_up (va_up (va_up P 6 (S a.toNat)) 0 r0) 1 r1) 2 r2) 3 (freeD (S a.toNat))) 4 (freeR (S a.toNat))) f0) H_38 := (by exact NS.ofBk hN_46 (va_upPm (va_upPm (va_upPm (va_upPm (va_upPm (fun m _ => bk_get) eq7.rfl') eq7.rfl') eq7.rfl') (drv_congr2 hS6)) (freeR_congr hok hS6)) (fun _ _ => rfl))
            have hB_48 : MB κ ad (va_up (va_up (va_up (va_up (va_up (va_up P 6 (S a.toNat)) 0 r0) 1 r1) 2 r2) 3 (freeD (S a.toNat))) 4 (freeR (S a.toNat))) f0 g mk S r thr len many a1 a2 a3 a4 H_38 := hB_36.num hI hk_41 hN_47
            refine V.eq (st' := []) rfl ?_
            refine v_aload_n E 2 rfl dX4_isolate_74 ?_
            refine v_getf E in_X4 hB_48.ho (ci := 3) rfl 12 (by decide) q1772 rfl (v := .ref (ad (2000 + 4))) rfl dX4_isolate_75 ?_
            refine v_aload_n E 2 rfl dX4_isolate_78 ?_
            refine v_getf E in_X4 hB_48.ho (ci := 3) rfl 21 (by decide) q1781 rfl (v := .ref (ad (2000 + 7))) rfl dX4_isolate_79 ?_
            refine v_callS E (As := [.ref (ad (2000 + 4)), .ref (ad (2000 + 7))]) (m_pcopy κ H_38 (i := 7) (j := 4) (by decide) (by decide) (by decide) hI hB_48.ms hB_48.ns) (lw_S q1994 q1995 q82 q1996) 2 (by decide +kernel) rfl (by decide) (by decide) (cb' := 0) (sb' := 0) (by decide) (by decide) rfl (rest := []) (Nat.le_of_ble_eq_true rfl) (fun q h => hAll q (Or.inl (AH.N q h))) dX4_isolate_82 (fun v_49 H_50 hpost_51 hz_52 hk_53 => ?_)
            clear hz_52
            have hv_54 := hv_42.kept (hk_53 _ hv_42.lt (fun h => (AH.N _ h).elim (fun i e => (hap i e.1).1 e.2)))
            have hv_55 := hv_43.kept (hk_53 _ hv_43.lt (fun h => (AH.N _ h).elim (fun i e => (hap i e.1).2.1 e.2)))
            have hv_56 := hv_44.kept (hk_53 _ hv_44.lt (fun h => (AH.N _ h).elim (fun i e => (hap i e.1).2.2.1 e.2)))
            have hv_57 := hv_45.kept (hk_53 _ hv_45.lt (fun h => (AH.N _ h).elim (fun i e => (hap i e.1).2.2.2 e.2)))
            obtain ⟨rfl, hN_58⟩ := hpost_51
            have hN_59 : NS κ ad (bk (va_up (va_up (va_up (va_up (va_up (va_up (va_up P 6 (S a.toNat)) 0 r0) 1 r1) 2 r2) 3 (freeD (S a.toNat))) 4 (freeR (S a.toNat))) 7 (freeR (S a.toNat))) f0) H_50 := hN_58.ps bk_get
            have hB_60 : MB κ ad (va_up (va_up (va_up (va_up (va_up (va_up (va_up P 6 (S a.toNat)) 0 r0) 1 r1) 2 r2) 3 (freeD (S a.toNat))) 4 (freeR (S a.toNat))) 7 (freeR (S a.toNat))) f0 g mk S r thr len many a1 a2 a3 a4 H_50 := hB_48.num hI hk_53 hN_59
            refine V.eq (st' := []) rfl ?_
            refine v_aload_n E 2 rfl dX4_isolate_85 ?_
            refine v_iconst E dX4_isolate_86 ?_
            refine v_putf E in_X4 tyX4 tyX4_ok nmX4 hB_60.ho (ci := 3) rfl 26 (Nat.le_of_ble_eq_true rfl) q1786 rfl rfl rfl rfl (Nat.le_of_ble_eq_true rfl) (hAll _ (Or.inl (AH.of (by unfold uA; omega)))) dX4_isolate_87 (fun H_63 hB_61 hs_62 => ?_)
            have hv_64 := hv_54.same hs_62 (fun e => (hap _ (by unfold uA; omega)).1 e)
            have hv_65 := hv_55.same hs_62 (fun e => (hap _ (by unfold uA; omega)).2.1 e)
            have hv_66 := hv_56.same hs_62 (fun e => (hap _ (by unfold uA; omega)).2.2.1 e)
            have hv_67 := hv_57.same hs_62 (fun e => (hap _ (by unfold uA; omega)).2.2.2 e)
            have hB_61 : hp κ H_63 (ad 3002) (.inr (3, MF ad thr len 1 a1 a2 a3 a4)) := hB_61
            have hB_68 : MB κ ad (va_up (va_up (va_up (va_up (va_up (va_up (va_up P 6 (S a.toNat)) 0 r0) 1 r1) 2 r2) 3 (freeD (S a.toNat))) 4 (freeR (S a.toNat))) 7 (freeR (S a.toNat))) f0 g mk S r thr len 1 a1 a2 a3 a4 H_63 := hB_60.obj hI hs_62 hB_61
            have hre : eq7 r (S a.toNat) := fun k hk => hr k (by omega)
            have hdr : pdeg r = pdeg (S a.toNat) := hre.deg
            have hda := pdeg_in (S a.toNat)
            have hbi := bnd_in (S a.toNat)
            have hbr : bnd r = bnd (S a.toNat) := bnd_congr hre
            refine v_aload_n E 2 rfl dX4_isolate_90 ?_
            refine v_iconst E dX4_isolate_91 ?_
            refine v_iconst E dX4_isolate_92 ?_
            refine v_aload_n E 2 rfl dX4_isolate_93 ?_
            refine v_getf E in_X4 hB_68.ho (ci := 3) rfl 20 (by decide) q1780 rfl (v := .ref (ad 3004)) rfl dX4_isolate_94 ?_
            refine v_callS E (As := [.ref (ad 3004)]) (m_bound κ H_63 (g := (pdeg (S a.toNat)).toNat) (fun k hk => by rw [hr k (by omega)]; exact hS a.toNat (by omega) k hk) (by rw [hdr]; omega) hB_68.ke) (lw_S q2090 q2091 q82 q2092) 1 (by decide +kernel) rfl (by decide) (by decide) (cb' := 0) (sb' := 0) (by decide) (by decide) rfl (rest := [vi 0, vi 0, .ref (ad 3002)]) (Nat.le_of_ble_eq_true rfl) (fun q h => h.elim) dX4_isolate_97 (fun v_69 H_70 hpost_71 hz_72 hk_73 => ?_)
            clear hz_72
            obtain rfl := hpost_71
            have hv_74 := hv_64.kept (hk_73 _ hv_64.lt (fun h => h))
            have hv_75 := hv_65.kept (hk_73 _ hv_65.lt (fun h => h))
            have hv_76 := hv_66.kept (hk_73 _ hv_66.lt (fun h => h))
            have hv_77 := hv_67.kept (hk_73 _ hv_67.lt (fun h => h))
            have hB_78 : MB κ ad (va_up (va_up (va_up (va_up (va_up (va_up (va_up P 6 (S a.toNat)) 0 r0) 1 r1) 2 r2) 3 (freeD (S a.toNat))) 4 (freeR (S a.toNat))) 7 (freeR (S a.toNat))) f0 g mk S r thr len 1 a1 a2 a3 a4 H_70 := hB_68.nil hk_73
            refine V.eq (st' := [vi (bnd (S a.toNat)), vi 0, vi 0, .ref (ad 3002)]) (by rw [hbr]; rfl) ?_
            refine v_ineg E dX4_isolate_100 ?_
            refine v_aload_n E 2 rfl dX4_isolate_101 ?_
            refine v_getf E in_X4 hB_78.ho (ci := 3) rfl 20 (by decide) q1780 rfl (v := .ref (ad 3004)) rfl dX4_isolate_102 ?_
            refine v_callS E (As := [.ref (ad 3004)]) (m_bound κ H_70 (g := (pdeg (S a.toNat)).toNat) (fun k hk => by rw [hr k (by omega)]; exact hS a.toNat (by omega) k hk) (by rw [hdr]; omega) hB_78.ke) (lw_S q2090 q2091 q82 q2092) 1 (by decide +kernel) rfl (by decide) (by decide) (cb' := 0) (sb' := 0) (by decide) (by decide) rfl (rest := [vi (-(bnd (S a.toNat))), vi 0, vi 0, .ref (ad 3002)]) (Nat.le_of_ble_eq_true rfl) (fun q h => h.elim) dX4_isolate_105 (fun v_79 H_80 hpost_81 hz_82 hk_83 => ?_)
            clear hz_82
            obtain rfl := hpost_81
            have hv_84 := hv_74.kept (hk_83 _ hv_74.lt (fun h => h))
            have hv_85 := hv_75.kept (hk_83 _ hv_75.lt (fun h => h))
            have hv_86 := hv_76.kept (hk_83 _ hv_76.lt (fun h => h))
            have hv_87 := hv_77.kept (hk_83 _ hv_77.lt (fun h => h))
            have hB_88 : MB κ ad (va_up (va_up (va_up (va_up (va_up (va_up (va_up P 6 (S a.toNat)) 0 r0) 1 r1) 2 r2) 3 (freeD (S a.toNat))) 4 (freeR (S a.toNat))) 7 (freeR (S a.toNat))) f0 g mk S r thr len 1 a1 a2 a3 a4 H_80 := hB_78.nil hk_83
            refine V.eq (st' := [vi (bnd (S a.toNat)), vi (-(bnd (S a.toNat))), vi 0, vi 0, .ref (ad 3002)]) (by rw [hbr]; rfl) ?_
            refine v_callV E (As := [vi 0, vi 0, vi (-(bnd (S a.toNat))), vi (bnd (S a.toNat))]) (b := (ad 3002)) (ci := 3) (C := RX4) (T := TX4) (N := 27) hB_88.ho rfl (m_place κ H_80 (x := 0) (e := 0) (m := -bnd (S a.toNat)) (n := bnd (S a.toNat)) hap (by omega) hcp hne (by omega) (by decide) ⟨by omega, by omega⟩ ⟨by omega, by omega⟩ ⟨by omega, by omega⟩ ⟨by omega, by omega⟩ (freeR_pS hok.1) hok2.2.1 hok2.2.2 hI hB_88 hv_84 hv_85 hv_86 hv_87) (lw_V q2102 q2104 qs65 q82 q2105) 4 (by decide +kernel) rfl (by decide) (by decide) (cb' := 0) (sb' := 0) (by decide) (by decide) rfl (rest := []) (Nat.le_of_ble_eq_true rfl) hAll dX4_isolate_108 (fun v_89 H_90 hpost_91 hz_92 hk_93 => ?_)
            clear hz_92
            obtain ⟨rfl, P5, f5, g5, hP57, hB5, hw1, hw2, hw3, hw4⟩ := hpost_91
            refine V.eq (st' := []) rfl ?_
            refine v_aload_n E 2 rfl dX4_isolate_111 ?_
            refine v_aload_n E 2 rfl dX4_isolate_112 ?_
            refine v_getf E in_X4 hB5.ho (ci := 3) rfl 25 (by decide) q1785 rfl (v := .ref a4) rfl dX4_isolate_113 ?_
            refine v_iconst E dX4_isolate_116 ?_
            refine v_iald E dX4_isolate_117 hw4 0 rfl (by omega) (by omega) ?_
            refine V.topi (x' := plF (freeR (S a.toNat)) 0 (-bnd (S a.toNat)) (bnd (S a.toNat))) rfl ?_
            refine v_callV E (As := [vi (plF (freeR (S a.toNat)) 0 (-bnd (S a.toNat)) (bnd (S a.toNat)))]) (b := (ad 3002)) (ci := 3) (C := RX4) (T := TX4) (N := 27) hB5.ho rfl (m_tells κ H_90 hI hB5) (lw_V q1864 q1866 qs48 q82 q1867) 1 (by decide +kernel) rfl (by decide) (by decide) (cb' := 0) (sb' := 0) (by decide) (by decide) rfl (rest := []) (Nat.le_of_ble_eq_true rfl) (fun q h => hAll q (Or.inl h)) dX4_isolate_118 (fun v_94 H_95 hpost_96 hz_97 hk_98 => ?_)
            clear hz_97
            have hv_99 := hw1.kept (hk_98 _ hw1.lt (fun ⟨i, u, e⟩ => (hap i u).1 e))
            have hv_100 := hw2.kept (hk_98 _ hw2.lt (fun ⟨i, u, e⟩ => (hap i u).2.1 e))
            have hv_101 := hw3.kept (hk_98 _ hw3.lt (fun ⟨i, u, e⟩ => (hap i u).2.2.1 e))
            have hv_102 := hw4.kept (hk_98 _ hw4.lt (fun ⟨i, u, e⟩ => (hap i u).2.2.2 e))
            obtain ⟨rfl, hB_103⟩ := hpost_96
            refine V.eq (st' := [vi (plF (freeR (S a.toNat)) 0 (-bnd (S a.toNat)) (bnd (S a.toNat)))]) rfl ?_
            refine v_iret E hE dX4_isolate_121 ?_
            right; right
            refine ⟨by omega, by omega, rfl, P5, f5, g5, r, hre, hP57.trans eq7.rfl', hB_103, hv_99, hv_100, hv_101, hv_102⟩
          · refine v_aload_n E 2 rfl dX4_isolate_35 ?_
            refine v_getf E in_X4 hB.ho (ci := 3) rfl 20 (by decide) q1780 rfl (v := .ref (ad 3004)) rfl dX4_isolate_36 ?_
            refine v_iload_n E 0 rfl dX4_isolate_39 ?_
            refine v_aload_n E 2 rfl dX4_isolate_40 ?_
            refine v_getf E in_X4 hB.ho (ci := 3) rfl 1 (by decide) q1761 rfl (v := .ref (ad 3003)) rfl dX4_isolate_41 ?_
            refine v_iload_n E 1 rfl dX4_isolate_44 ?_
            refine v_aaldS E dX4_isolate_45 (hB.ms).2.2.2 (t := 3) (ty := (.array .int)) rfl rfl a.toNat (by omega) (by omega) (by omega) (b := (ad (3010 + a.toNat))) rfl ?_
            refine v_iload_n E 0 rfl dX4_isolate_46 ?_
            refine v_iald E dX4_isolate_47 (hB.sl a.toNat (by omega)) k rfl (by omega) (by omega) ?_
            refine v_iast E dX4_isolate_48 hB.ke k rfl (by omega) (by omega) (hAll _ (Or.inl (AH.of (by unfold uA; omega)))) (fun H_106 hBke_104 hs_105 => ?_)
            have hv1_107 := hv1.same hs_105 (fun e => (hap _ (by unfold uA; omega)).1 e)
            have hv2_108 := hv2.same hs_105 (fun e => (hap _ (by unfold uA; omega)).2.1 e)
            have hv3_109 := hv3.same hs_105 (fun e => (hap _ (by unfold uA; omega)).2.2.1 e)
            have hv4_110 := hv4.same hs_105 (fun e => (hap _ (by unfold uA; omega)).2.2.2 e)
            have hB_111 : MB κ ad P f g mk S (va_up r k (S a.toNat k)) thr len many a1 a2 a3 a4 H_106 := hB.kept hI hs_105 hBke_104
            refine v_iinc E 0 rfl dX4_isolate_49 (zlt hL rfl) (lv' := [(2, vi ((k : Int) + 1)), (1, vi a), (0, .ref (ad 3002))]) rfl ?_
            refine v_goto E (tgt := 29) dX4_isolate_52 (by decide) ?_
            exact ih_29  H_106 (k + 1) _ (by omega) (by omega) (fun m hm => by unfold va_up; split; rename_i e; rw [e]; exact hr m (by omega)) hv1_107 hv2_108 hv3_109 hv4_110 hB_111
      refine V.sub [0, 2, 1] (lv' := [(2, vi 0), (1, vi a), (0, .ref (ad 3002))]) rfl ?_
      exact loop_29 (7 + 1) H_15 0 K (by omega) (by omega) (fun m hm => by omega) hv_19 hv_20 hv_21 hv_22 hB_24
    · refine v_aload_n E 0 rfl dX4_isolate_21 ?_
      refine v_iconst E dX4_isolate_22 ?_
      refine v_callV E (As := [vi 2]) (b := (ad 3002)) (ci := 3) (C := RX4) (T := TX4) (N := 27) hB_24.ho rfl (m_fails κ H_15 hI hB_24) (lw_V q1857 q1859 qs47 q82 q1860) 1 (by decide +kernel) rfl (by decide) (by decide) (cb' := 0) (sb' := 0) (by decide) (by decide) rfl (rest := []) (Nat.le_of_ble_eq_true rfl) (fun q h => hAll q (Or.inl h)) dX4_isolate_23 (fun v_112 H_113 hpost_114 hz_115 hk_116 => ?_)
      clear hz_115
      have hv_117 := hv_19.kept (hk_116 _ hv_19.lt (fun ⟨i, u, e⟩ => (hap i u).1 e))
      have hv_118 := hv_20.kept (hk_116 _ hv_20.lt (fun ⟨i, u, e⟩ => (hap i u).2.1 e))
      have hv_119 := hv_21.kept (hk_116 _ hv_21.lt (fun ⟨i, u, e⟩ => (hap i u).2.2.1 e))
      have hv_120 := hv_22.kept (hk_116 _ hv_22.lt (fun ⟨i, u, e⟩ => (hap i u).2.2.2 e))
      obtain ⟨rfl, hB_121⟩ := hpost_114
      refine V.eq (st' := [vi 0]) rfl ?_
      refine v_iret E hE dX4_isolate_26 ?_
      right; left
      exact ⟨by omega, by omega, rfl, hB_121, hv_117, hv_118, hv_119, hv_120⟩
  · refine v_aload_n E 0 rfl dX4_isolate_7 ?_
    refine v_iconst E dX4_isolate_8 ?_
    refine v_callV E (As := [vi 1]) (b := (ad 3002)) (ci := 3) (C := RX4) (T := TX4) (N := 27) hB_12.ho rfl (m_fails κ H_3 hI hB_12) (lw_V q1857 q1859 qs47 q82 q1860) 1 (by decide +kernel) rfl (by decide) (by decide) (cb' := 0) (sb' := 0) (by decide) (by decide) rfl (rest := []) (Nat.le_of_ble_eq_true rfl) (fun q h => hAll q (Or.inl h)) dX4_isolate_9 (fun v_122 H_123 hpost_124 hz_125 hk_126 => ?_)
    clear hz_125
    have hv_127 := hv1_8.kept (hk_126 _ hv1_8.lt (fun ⟨i, u, e⟩ => (hap i u).1 e))
    have hv_128 := hv2_9.kept (hk_126 _ hv2_9.lt (fun ⟨i, u, e⟩ => (hap i u).2.1 e))
    have hv_129 := hv3_10.kept (hk_126 _ hv3_10.lt (fun ⟨i, u, e⟩ => (hap i u).2.2.1 e))
    have hv_130 := hv4_11.kept (hk_126 _ hv4_11.lt (fun ⟨i, u, e⟩ => (hap i u).2.2.2 e))
    obtain ⟨rfl, hB_131⟩ := hpost_124
    refine V.eq (st' := [vi 0]) rfl ?_
    refine v_iret E hE dX4_isolate_12 ?_
    left
    exact ⟨by omega, rfl, hB_131, hv_127, hv_128, hv_129, hv_130⟩
