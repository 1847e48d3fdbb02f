set_option maxHeartbeats 400000 in
set_option maxRecDepth 100000 in
/-- multiplicity -/
theorem m_multiplicity (κ : zK) (H0 : Heap) {ad : Nat → Nat} {P : Nat → Nat → Int} {f g mk : Nat → Int} {S : Nat → Nat → Int} {K : Nat → Int} {thr len : Int} {a1 a2 a3 a4 : Nat} {cap : Nat} {lv lo hi rt : Nat → Int} {x : Int} {M : Nat} (hx : rI x) (hMc : M ≤ cap) (hcp : cap < 1000000) (hL9 : okL M lv lo hi rt) (hle : ∀ j, j < M → lo j ≤ hi j) (hK9 : 0 < M → (∀ k, k < 7 → rI (K k)) ∧ pS K ∧ True) (hfit : ∀ (j d : Nat), x = (j : Int) → j < M → rt j = 1 → lv j = (d : Int) → okMu d (lo j) (hi j) 8 K) (hI : Inj ad) (hB : MB κ ad P f g mk S K thr len (M : Int) a1 a2 a3 a4 H0) (hV : LV κ ad a1 a2 a3 a4 cap lv lo hi rt H0) : Mt κ yX4_multiplicity cX4_multiplicity 7 (some .int) 7 164 0 0 H0 [.ref (ad 3002), vi x] (AH ad) (fun v H1 => (¬ (0 ≤ x ∧ x < (M : Int)) ∧ v = some (vi 0) ∧ MB κ ad P f g mk S K 1 len (M : Int) a1 a2 a3 a4 H1 ∧ LV κ ad a1 a2 a3 a4 cap lv lo hi rt H1) ∨ ((0 ≤ x ∧ x < (M : Int)) ∧ rt x.toNat ≠ 1 ∧ v = some (vi 0) ∧ MB κ ad P f g mk S K 2 len (M : Int) a1 a2 a3 a4 H1 ∧ LV κ ad a1 a2 a3 a4 cap lv lo hi rt H1) ∨ ((0 ≤ x ∧ x < (M : Int)) ∧ rt x.toNat = 1 ∧ ∃ (d : Nat) (P1 : Nat → Nat → Int) (f1 g1 : Nat → Int), lv x.toNat = (d : Int) ∧ v = some (vi (muF d (lo x.toNat) (hi x.toNat) 8 K)) ∧ eq7 (P1 7) (P 7) ∧ MB κ ad P1 f1 g1 mk S K 0 len (M : Int) a1 a2 a3 a4 H1 ∧ LV κ ad a1 a2 a3 a4 cap lv lo hi rt H1)) := by
  refine Mt.of (by decide) (Nat.le_of_ble_eq_true rfl) ?_
  intro z E hE hH0 hA0 hL hini
  have hAll : ∀ q, (AH ad) q → zA z.A z.H0 q := fun q h => Or.inl (by rw [hA0]; exact h)
  have hNew : ∀ q, H0.size ≤ q → zA z.A z.H0 q := fun q h => Or.inr (by rw [hH0]; exact h)
  have E : zOK z cX4_multiplicity RX4 κ 7 164 (some .int) := E
  refine V.eqL (lv' := [(0, .ref (ad 3002)), (1, vi x)]) rfl ?_
  refine v_aload_n E 0 rfl dX4_multiplicity_0 ?_
  refine v_iload_n E 1 rfl dX4_multiplicity_1 ?_
  refine v_callV E (As := [vi x]) (b := (ad 3002)) (ci := 3) (C := RX4) (T := TX4) (N := 27) hB.ho rfl (m_isIv κ H0 (by first | assumption | exact ⟨by omega, by omega⟩) (show rI (M : Int) from ⟨by omega, by omega⟩) hB) (lw_V q2114 q2116 qs66 q82 q2117) 1 (by decide +kernel) rfl (by decide) (by decide) (cb' := 0) (sb' := 0) (by decide) (by decide) rfl (rest := []) (Nat.le_of_ble_eq_true rfl) (fun q h => h.elim) dX4_multiplicity_2 (fun v_2 H_3 hpost_4 hz_5 hk_6 => ?_)
  clear hz_5
  obtain rfl := hpost_4
  obtain ⟨b_1, hb_7, hb_7e⟩ : ∃ b9 : Int, (b9 = 0 ∧ ¬ (0 ≤ x ∧ x < (M : Int)) ∨ b9 = 1 ∧ (0 ≤ x ∧ x < (M : Int))) ∧ (if 0 ≤ x ∧ x < (M : Int) then 1 else 0 : Int) = b9 := by
    by_cases c : 0 ≤ x ∧ x < (M : Int)
    · exact ⟨1, Or.inr ⟨rfl, c⟩, if_pos c⟩
    · exact ⟨0, Or.inl ⟨rfl, c⟩, if_neg c⟩
  have hB_8 : MB κ ad P f g mk S K thr len (M : Int) a1 a2 a3 a4 H_3 := hB.nil hk_6
  have hV_9 : LV κ ad a1 a2 a3 a4 cap lv lo hi rt H_3 := hV.nil hk_6
  refine V.eq (st' := [vi b_1]) (by rw [hb_7e]; rfl) ?_
  refine v_if_ne E (tgt := 14) dX4_multiplicity_5 (by decide) ⟨by omega, by omega⟩ (fun c_5 => ?_) (fun c_5 => ?_)
  · obtain ⟨j, rfl⟩ : ∃ j : Nat, x = (j : Int) := ⟨x.toNat, by omega⟩
    have hjM : j < M := by omega
    have hLj := hL9 j hjM
    have hrj := hLj.2.2.2
    have hF9 := hK9 (by omega)
    have hLe := hle j hjM
    refine V.eqL (lv' := [(0, .ref (ad 3002)), (1, vi (j : Int))]) rfl ?_
    refine v_aload_n E 0 rfl dX4_multiplicity_14 ?_
    refine v_getf E in_X4 hB_8.ho (ci := 3) rfl 25 (by decide) q1785 rfl (v := .ref a4) rfl dX4_multiplicity_15 ?_
    refine v_iload_n E 1 rfl dX4_multiplicity_18 ?_
    refine v_iald E dX4_multiplicity_19 hV_9.2.2.2.2.2 j rfl (by omega) (by omega) ?_
    refine v_iconst E dX4_multiplicity_20 ?_
    refine v_icmp_eq E (tgt := 30) dX4_multiplicity_21 (by decide) ⟨by omega, by omega⟩ ⟨by omega, by omega⟩ (fun c_21 => ?_) (fun c_21 => ?_)
    · obtain ⟨d, hd⟩ : ∃ d : Nat, lv j = (d : Int) := ⟨(lv j).toNat, by omega⟩
      have hd12 : d ≤ 12 := by omega
      have hfm := hfit j d rfl hjM (by omega) hd
      refine v_aload_n E 0 rfl dX4_multiplicity_30 ?_
      refine v_getf E in_X4 hB_8.ho (ci := 3) rfl 23 (by decide) q1783 rfl (v := .ref a2) rfl dX4_multiplicity_31 ?_
      refine v_iload_n E 1 rfl dX4_multiplicity_34 ?_
      refine v_iald E dX4_multiplicity_35 hV_9.2.2.2.1 j rfl (by omega) (by omega) ?_
      refine v_istore_n E dX4_multiplicity_36 (zlt hL rfl) (lv' := [(2, vi (lo j)), (0, .ref (ad 3002)), (1, vi (j : Int))]) rfl ?_
      refine v_aload_n E 1 rfl dX4_multiplicity_37 ?_
      refine v_getf E in_X4 hB_8.ho (ci := 3) rfl 24 (by decide) q1784 rfl (v := .ref a3) rfl dX4_multiplicity_38 ?_
      refine v_iload_n E 2 rfl dX4_multiplicity_41 ?_
      refine v_iald E dX4_multiplicity_42 hV_9.2.2.2.2.1 j rfl (by omega) (by omega) ?_
      refine v_istore_n E dX4_multiplicity_43 (zlt hL rfl) (lv' := [(3, vi (hi j)), (2, vi (lo j)), (0, .ref (ad 3002)), (1, vi (j : Int))]) rfl ?_
      refine v_aload_n E 2 rfl dX4_multiplicity_44 ?_
      refine v_getf E in_X4 hB_8.ho (ci := 3) rfl 22 (by decide) q1782 rfl (v := .ref a1) rfl dX4_multiplicity_45 ?_
      refine v_iload_n E 3 rfl dX4_multiplicity_48 ?_
      refine v_iald E dX4_multiplicity_49 hV_9.2.2.1 j rfl (by omega) (by omega) ?_
      refine V.topi (x' := (d : Int)) (by rw [hd]) ?_
      refine v_istore E dX4_multiplicity_50 (zlt hL rfl) (lv' := [(4, vi (d : Int)), (3, vi (hi j)), (2, vi (lo j)), (0, .ref (ad 3002)), (1, vi (j : Int))]) rfl ?_
      refine v_iconst E dX4_multiplicity_52 ?_
      refine v_istore E dX4_multiplicity_53 (zlt hL rfl) (lv' := [(5, vi 0), (4, vi (d : Int)), (3, vi (hi j)), (2, vi (lo j)), (0, .ref (ad 3002)), (1, vi (j : Int))]) rfl ?_
      refine v_aload_n E 4 rfl dX4_multiplicity_55 ?_
      refine v_getf E in_X4 hB_8.ho (ci := 3) rfl 20 (by decide) q1780 rfl (v := .ref (ad 3004)) rfl dX4_multiplicity_56 ?_
      refine v_aload_n E 4 rfl dX4_multiplicity_59 ?_
      refine v_getf E in_X4 hB_8.ho (ci := 3) rfl 17 (by decide) q1777 rfl (v := .ref (ad (2000 + 6))) rfl dX4_multiplicity_60 ?_
      refine v_callS E (As := [.ref (ad 3004), .ref (ad (2000 + 6))]) (m_load κ H_3 hF9.1 (fun i hi => hI.ne (by omega)) hB_8.ke (by decide) hI hB_8.ms hB_8.ns) (lw_S q1918 q1919 q82 q1920) 2 (by decide +kernel) rfl (by decide) (by decide) (cb' := 0) (sb' := 0) (by decide) (by decide) rfl (rest := []) (Nat.le_of_ble_eq_true rfl) (fun q h => hAll q (AH.N q h)) dX4_multiplicity_63 (fun v_10 H_11 hpost_12 hz_13 hk_14 => ?_)
      clear hz_13
      obtain ⟨rfl, hN_15⟩ := hpost_12
      have hN_16 : NS κ ad (bk (va_up P 6 K) f) H_11 := hN_15.ps eq7.rfl'
      have hB_17 : MB κ ad (va_up P 6 K) f g mk S K thr len (M : Int) a1 a2 a3 a4 H_11 := hB_8.num hI hk_14 hN_16
      have hV_18 : LV κ ad a1 a2 a3 a4 cap lv lo hi rt H_11 := hV_9.keptN hk_14
      refine V.eq (st' := []) rfl ?_
      refine v_iconst E dX4_multiplicity_66 ?_
      refine v_istore E dX4_multiplicity_67 (zlt hL rfl) (lv' := [(6, vi 1), (5, vi 0), (4, vi (d : Int)), (3, vi (hi j)), (2, vi (lo j)), (0, .ref (ad 3002)), (1, vi (j : Int))]) rfl ?_
      have loop_69 : ∀ (m_69 : Nat) (H : Heap) (sf : Nat) (zz : Int) (p : Nat → Int) (P5 : Nat → Nat → Int) (f5 g5 : Nat → Int), sf < m_69 → (eq7 (P5 6) p) → (eq7 (P5 7) (P 7)) → (pS p) → (okMu d (lo j) (hi j) sf p) → (0 ≤ zz ∧ zz + (sf : Int) ≤ 8) → (muF d (lo j) (hi j) 8 K = zz + muF d (lo j) (hi j) sf p) → MB κ ad P5 f5 g5 mk S K thr len (M : Int) a1 a2 a3 a4 H → LV κ ad a1 a2 a3 a4 cap lv lo hi rt H → V z H 0 0 69 [(6, vi 1), (5, vi zz), (4, vi (d : Int)), (3, vi (hi j)), (2, vi (lo j)), (0, .ref (ad 3002))] [] := by
        intro m_69
        induction m_69 with
        | zero => intro H sf zz p P5 f5 g5 hm; exact absurd hm (by omega)
        | succ m_69 ih_69 =>
          intro H sf zz p P5 f5 g5 hm_69 he6 h57 hpS hoa hzz hres hB hV
          refine v_iload E 0 rfl dX4_multiplicity_69 ?_
          refine v_if_eq E (tgt := 177) dX4_multiplicity_71 (by decide) ⟨by omega, by omega⟩ (fun c_71 => absurd c_71 (by omega)) (fun c_71 => ?_)
          obtain ⟨s9, rfl⟩ : ∃ s9, sf = s9 + 1 := by
            cases sf with
            | zero => exact (hoa : False).elim
            | succ s9 => exact ⟨s9, rfl⟩
          have hok : okFree p ∧ (1 ≤ pdeg (freeD p) → (lo j = hi j → rN (pAt (freeD p) (lo j) d)) ∧ (lo j < hi j → okFree (freeD p) ∧ 0 ≤ pdeg (freeR (freeD p)) ∧ okPl (freeR (freeD p)) d (lo j) (hi j) ∧ rI (plF (freeR (freeD p)) d (lo j) (hi j))) ∧ ((lo j = hi j ∧ pAt (freeD p) (lo j) d = 0) ∨ (lo j < hi j ∧ 0 < plF (freeR (freeD p)) d (lo j) (hi j)) → okMu d (lo j) (hi j) s9 (freeD p))) := hoa
          refine v_iinc E 1 rfl dX4_multiplicity_74 (zlt hL rfl) (lv' := [(5, vi (zz + 1)), (6, vi 1), (4, vi (d : Int)), (3, vi (hi j)), (2, vi (lo j)), (0, .ref (ad 3002))]) rfl ?_
          refine v_aload_n E 5 rfl dX4_multiplicity_77 ?_
          refine v_aload_n E 5 rfl dX4_multiplicity_78 ?_
          refine v_getf E in_X4 hB.ho (ci := 3) rfl 17 (by decide) q1777 rfl (v := .ref (ad (2000 + 6))) rfl dX4_multiplicity_79 ?_
          have hS6_19 : eq7 (pget (bk P5 f5) 6) p := bk_get.trans he6
          refine v_callV E (As := [.ref (ad (2000 + 6))]) (b := (ad 3002)) (ci := 3) (C := RX4) (T := TX4) (N := 27) hB.ho rfl (m_findFree κ H hI hB.ms hB.ns hB.ho (fitFree_congr0 hok.1.2 hS6_19.symm hok.1.1) (okD_congr hS6_19.symm hok.1.2)) (lw_V q2010 q2012 qs58 q82 q2013) 1 (by decide +kernel) rfl (by decide) (by decide) (cb' := 0) (sb' := 0) (by decide) (by decide) rfl (rest := []) (Nat.le_of_ble_eq_true rfl) (fun q h => hAll q (AH.N q h)) dX4_multiplicity_82 (fun v_24 H_25 hpost_26 hz_27 hk_28 => ?_)
          clear hz_27
          obtain ⟨rfl, r_20, r_21, r_22, f_23, hN_29⟩ := hpost_26
          have hN_30 : NS κ ad (bk (va_up (va_up (va_up (va_up (va_up P5 0 r_20) 1 r_21) 2 r_22) 3 (freeD p)) 4 (freeR p)) f_23) H_25 := (by exact NS.ofBk hN_29 (va_upPm (va_upPm (va_upPm (va_upPm (va_upPm (fun m _ => bk_get) eq7.rfl') eq7.rfl') eq7.rfl') (drv_congr2 hS6_19)) (freeR_congr hok.1 hS6_19)) (fun _ _ => rfl))
          have hB_31 : MB κ ad (va_up (va_up (va_up (va_up (va_up P5 0 r_20) 1 r_21) 2 r_22) 3 (freeD p)) 4 (freeR p)) f_23 g5 mk S K thr len (M : Int) a1 a2 a3 a4 H_25 := hB.num hI hk_28 hN_30
          have hV_32 : LV κ ad a1 a2 a3 a4 cap lv lo hi rt H_25 := hV.keptN hk_28
          refine V.eq (st' := []) rfl ?_
          refine v_aload_n E 5 rfl dX4_multiplicity_85 ?_
          refine v_getf E in_X4 hB_31.ho (ci := 3) rfl 11 (by decide) q1771 rfl (v := .ref (ad (2000 + 3))) rfl dX4_multiplicity_86 ?_
          refine v_aload_n E 5 rfl dX4_multiplicity_89 ?_
          refine v_getf E in_X4 hB_31.ho (ci := 3) rfl 17 (by decide) q1777 rfl (v := .ref (ad (2000 + 6))) rfl dX4_multiplicity_90 ?_
          refine v_callS E (As := [.ref (ad (2000 + 3)), .ref (ad (2000 + 6))]) (m_pcopy κ H_25 (i := 6) (j := 3) (by decide) (by decide) (by decide) hI hB_31.ms hB_31.ns) (lw_S q1994 q1995 q82 q1996) 2 (by decide +kernel) rfl (by decide) (by decide) (cb' := 0) (sb' := 0) (by decide) (by decide) rfl (rest := []) (Nat.le_of_ble_eq_true rfl) (fun q h => hAll q (AH.N q h)) dX4_multiplicity_93 (fun v_33 H_34 hpost_35 hz_36 hk_37 => ?_)
          clear hz_36
          obtain ⟨rfl, hN_38⟩ := hpost_35
          have hN_39 : NS κ ad (bk (va_up (va_up (va_up (va_up (va_up (va_up P5 0 r_20) 1 r_21) 2 r_22) 3 (freeD p)) 4 (freeR p)) 6 (freeD p)) f_23) H_34 := hN_38.ps bk_get
          have hB_40 : MB κ ad (va_up (va_up (va_up (va_up (va_up (va_up P5 0 r_20) 1 r_21) 2 r_22) 3 (freeD p)) 4 (freeR p)) 6 (freeD p)) f_23 g5 mk S K thr len (M : Int) a1 a2 a3 a4 H_34 := hB_31.num hI hk_37 hN_39
          have hV_41 : LV κ ad a1 a2 a3 a4 cap lv lo hi rt H_34 := hV_32.keptN hk_37
          refine V.eq (st' := []) rfl ?_
          refine v_aload_n E 5 rfl dX4_multiplicity_96 ?_
          refine v_getf E in_X4 hB_40.ho (ci := 3) rfl 17 (by decide) q1777 rfl (v := .ref (ad (2000 + 6))) rfl dX4_multiplicity_97 ?_
          have hg6 : eq7 (pget (bk (va_up (va_up (va_up (va_up (va_up (va_up P5 0 r_20) 1 r_21) 2 r_22) 3 (freeD p)) 4 (freeR p)) 6 (freeD p)) f_23) 6) (freeD p) := bk_get
          have hdp := pdeg_in (freeD p)
          have hpQ : pS (freeD p) := freeD_pS hok.1.1
          refine v_callS E (As := [.ref (ad (2000 + 6))]) (m_pdeg κ H_34 (j := 6) (by decide) hI hB_40.ms hB_40.ns (pS_congr hg6.symm hpQ).N) (lw_S q1928 q1929 q82 q1930) 1 (by decide +kernel) rfl (by decide) (by decide) (cb' := 0) (sb' := 0) (by decide) (by decide) rfl (rest := []) (Nat.le_of_ble_eq_true rfl) (fun q h => h.elim) dX4_multiplicity_100 (fun v_42 H_43 hpost_44 hz_45 hk_46 => ?_)
          clear hz_45
          obtain rfl := hpost_44
          have hB_47 : MB κ ad (va_up (va_up (va_up (va_up (va_up (va_up P5 0 r_20) 1 r_21) 2 r_22) 3 (freeD p)) 4 (freeR p)) 6 (freeD p)) f_23 g5 mk S K thr len (M : Int) a1 a2 a3 a4 H_43 := hB_40.nil hk_46
          have hV_48 : LV κ ad a1 a2 a3 a4 cap lv lo hi rt H_43 := hV_41.nil hk_46
          refine V.eq (st' := [vi (pdeg (freeD p))]) (by rw [hg6.deg]; rfl) ?_
          refine v_iconst E dX4_multiplicity_103 ?_
          refine v_icmp_ge E (tgt := 110) dX4_multiplicity_104 (by decide) ⟨by omega, by omega⟩ ⟨by omega, by omega⟩ (fun c_104 => ?_) (fun c_104 => ?_)
          · refine v_iload_n E 4 rfl dX4_multiplicity_110 ?_
            refine v_iload_n E 3 rfl dX4_multiplicity_111 ?_
            refine v_icmp_ne E (tgt := 137) dX4_multiplicity_112 (by decide) ⟨by omega, by omega⟩ ⟨by omega, by omega⟩ (fun c_112 => ?_) (fun c_112 => ?_)
            · refine v_iload_n E 4 rfl dX4_multiplicity_137 ?_
              refine v_iload_n E 3 rfl dX4_multiplicity_138 ?_
              refine v_icmp_ge E (tgt := 69) dX4_multiplicity_139 (by decide) ⟨by omega, by omega⟩ ⟨by omega, by omega⟩ (fun c_139 => absurd c_139 (by omega)) (fun c_139 => ?_)
              have hok2 := (hok.2 (by omega)).2.1 (by omega)
              refine v_aload_n E 5 rfl dX4_multiplicity_142 ?_
              refine v_aload_n E 5 rfl dX4_multiplicity_143 ?_
              refine v_getf E in_X4 hB_47.ho (ci := 3) rfl 17 (by decide) q1777 rfl (v := .ref (ad (2000 + 6))) rfl dX4_multiplicity_144 ?_
              have hS6_49 : eq7 (pget (bk (va_up (va_up (va_up (va_up (va_up (va_up P5 0 r_20) 1 r_21) 2 r_22) 3 (freeD p)) 4 (freeR p)) 6 (freeD p)) f_23) 6) (freeD p) := bk_get.trans (show eq7 ((va_up (va_up (va_up (va_up (va_up (va_up P5 0 r_20) 1 r_21) 2 r_22) 3 (freeD p)) 4 (freeR p)) 6 (freeD p)) 6) (freeD p) from eq7.rfl')
              refine v_callV E (As := [.ref (ad (2000 + 6))]) (b := (ad 3002)) (ci := 3) (C := RX4) (T := TX4) (N := 27) hB_47.ho rfl (m_findFree κ H_43 hI hB_47.ms hB_47.ns hB_47.ho (fitFree_congr0 hok2.1.2 hS6_49.symm hok2.1.1) (okD_congr hS6_49.symm hok2.1.2)) (lw_V q2010 q2012 qs58 q82 q2013) 1 (by decide +kernel) rfl (by decide) (by decide) (cb' := 0) (sb' := 0) (by decide) (by decide) rfl (rest := []) (Nat.le_of_ble_eq_true rfl) (fun q h => hAll q (AH.N q h)) dX4_multiplicity_147 (fun v_54 H_55 hpost_56 hz_57 hk_58 => ?_)
              clear hz_57
              obtain ⟨rfl, r_50, r_51, r_52, f_53, hN_59⟩ := hpost_56
              have hN_60 : NS κ ad (bk (va_up (va_up (va_up (va_up (va_up (va_up (va_up (va_up (va_up (va_up (va_up P5 0 r_20) 1 r_21) 2 r_22) 3 (freeD p)) 4 (freeR p)) 6 (freeD p)) 0 r_50) 1 r_51) 2 r_52) 3 (freeD (freeD p))) 4 (freeR (freeD p))) f_53) H_55 := (by exact NS.ofBk hN_59 (va_upPm (va_upPm (va_upPm (va_upPm (va_upPm (fun m _ => bk_get) eq7.rfl') eq7.rfl') eq7.rfl') (drv_congr2 hS6_49)) (freeR_congr hok2.1 hS6_49)) (fun _ _ => rfl))
              have hB_61 : MB κ ad (va_up (va_up (va_up (va_up (va_up (va_up (va_up (va_up (va_up (va_up (va_up P5 0 r_20) 1 r_21) 2 r_22) 3 (freeD p)) 4 (freeR p)) 6 (freeD p)) 0 r_50) 1 r_51) 2 r_52) 3 (freeD (freeD p))) 4 (freeR (freeD p))) f_53 g5 mk S K thr len (M : Int) a1 a2 a3 a4 H_55 := hB_47.num hI hk_58 hN_60
              have hV_62 : LV κ ad a1 a2 a3 a4 cap lv lo hi rt H_55 := hV_48.keptN hk_58
              refine V.eq (st' := []) rfl ?_
              refine v_aload_n E 5 rfl dX4_multiplicity_150 ?_
              refine v_aload_n E 5 rfl dX4_multiplicity_151 ?_
              refine v_getf E in_X4 hB_61.ho (ci := 3) rfl 12 (by decide) q1772 rfl (v := .ref (ad (2000 + 4))) rfl dX4_multiplicity_152 ?_
              refine v_iload_n E 4 rfl dX4_multiplicity_155 ?_
              refine v_i2l E ⟨by omega, by omega⟩ dX4_multiplicity_156 ?_
              refine v_iload_n E 3 rfl dX4_multiplicity_157 ?_
              refine v_i2l E ⟨by omega, by omega⟩ dX4_multiplicity_158 ?_
              refine v_iload E 2 rfl dX4_multiplicity_159 ?_
              have hg4 : eq7 (pget (bk (va_up (va_up (va_up (va_up (va_up (va_up (va_up (va_up (va_up (va_up (va_up P5 0 r_20) 1 r_21) 2 r_22) 3 (freeD p)) 4 (freeR p)) 6 (freeD p)) 0 r_50) 1 r_51) 2 r_52) 3 (freeD (freeD p))) 4 (freeR (freeD p))) f_53) 4) (freeR (freeD p)) := bk_get
              have hd4 := pdeg_in (freeR (freeD p))
              have hho : ∀ k9, k9 ≤ (pdeg (freeR (freeD p))).toNat → hoP (pget (bk (va_up (va_up (va_up (va_up (va_up (va_up (va_up (va_up (va_up (va_up (va_up P5 0 r_20) 1 r_21) 2 r_22) 3 (freeD p)) 4 (freeR p)) 6 (freeD p)) 0 r_50) 1 r_51) 2 r_52) 3 (freeD (freeD p))) 4 (freeR (freeD p))) f_53) 4) (pdeg (freeR (freeD p))).toNat (lo j) (hi j - lo j) d ((pdeg (freeR (freeD p))).toNat + 1) k9 = hoP (freeR (freeD p)) (pdeg (freeR (freeD p))).toNat (lo j) (hi j - lo j) d ((pdeg (freeR (freeD p))).toNat + 1) k9 := fun k9 h9 => hoP_congr (by omega) hg4 _ k9 (by omega)
              refine v_callV E (As := [.ref (ad (2000 + 4)), vj (lo j), vj (hi j), vi (d : Int)]) (b := (ad 3002)) (ci := 3) (C := RX4) (T := TX4) (N := 27) hB_61.ho rfl (m_between κ H_55 (j := 4) (d := (pdeg (freeR (freeD p))).toNat) (e := d) (n := 158) (by decide) (by omega) ⟨by omega, by omega⟩ ⟨by omega, by omega⟩ hI hB_61.ms hB_61.ns hB_61.ho hB_61.ca (pS_congr hg4.symm (freeR_pS hok2.1.1)).N (by rw [hg4.deg]; omega) (by decide) (fitB_congr 158 (fun k9 h9 => (hho k9 h9).symm) (hok2.2.2.1 (by omega)))) (lw_V q2068 q2070 qs63 q82 q2071) 4 (by decide +kernel) rfl (by decide) (by decide) (cb' := 0) (sb' := 0) (by decide) (by decide) rfl (rest := []) (Nat.le_of_ble_eq_true rfl) (fun q h => hAll q (AH.B q h)) dX4_multiplicity_161 (fun v_63 H_64 hpost_65 hz_66 hk_67 => ?_)
              clear hz_66
              obtain ⟨rfl, P2, f2, g2, hP2, hN9, hc9⟩ := hpost_65
              have hB_68 : MB κ ad P2 f2 g2 mk S K thr len (M : Int) a1 a2 a3 a4 H_64 := hB_61.btw hI hk_67 hN9 hc9
              have hpr := hok2.2.2.2
              have hV_69 : LV κ ad a1 a2 a3 a4 cap lv lo hi rt H_64 := hV_62.keptB hk_67
              refine V.eq (st' := [vi (plF (freeR (freeD p)) d (lo j) (hi j))]) (by rw [cnB_congr 158 hho]; unfold plF; rw [if_neg (by omega)]; rfl) ?_
              refine v_if_le E (tgt := 171) dX4_multiplicity_164 (by decide) ⟨by omega, by omega⟩ (fun c_164 => ?_) (fun c_164 => ?_)
              · refine v_iconst E dX4_multiplicity_171 ?_
                refine v_istore E dX4_multiplicity_172 (zlt hL rfl) (lv' := [(6, vi 0), (5, vi (zz + 1)), (4, vi (d : Int)), (3, vi (hi j)), (2, vi (lo j)), (0, .ref (ad 3002))]) rfl ?_
                refine v_goto E (tgt := 69) dX4_multiplicity_174 (by decide) ?_
                refine v_iload E 0 rfl dX4_multiplicity_69 ?_
                refine v_if_eq E (tgt := 177) dX4_multiplicity_71 (by decide) ⟨by omega, by omega⟩ (fun c_71 => ?_) (fun c_71 => absurd c_71 (by omega))
                refine v_aload_n E 5 rfl dX4_multiplicity_177 ?_
                refine v_iload E 1 rfl dX4_multiplicity_178 ?_
                refine v_callV E (As := [vi (zz + 1)]) (b := (ad 3002)) (ci := 3) (C := RX4) (T := TX4) (N := 27) hB_68.ho rfl (m_tells κ H_64 hI hB_68) (lw_V q1864 q1866 qs48 q82 q1867) 1 (by decide +kernel) rfl (by decide) (by decide) (cb' := 0) (sb' := 0) (by decide) (by decide) rfl (rest := []) (Nat.le_of_ble_eq_true rfl) hAll dX4_multiplicity_180 (fun v_70 H_71 hpost_72 hz_73 hk_74 => ?_)
                clear hz_73
                obtain ⟨rfl, hB_75⟩ := hpost_72
                have hV_76 : LV κ ad a1 a2 a3 a4 cap lv lo hi rt H_71 := hV_69.kept hk_74
                refine V.eq (st' := [vi (zz + 1)]) rfl ?_
                refine v_iret E hE dX4_multiplicity_183 ?_
                have hfin : muF d (lo j) (hi j) 8 K = zz + 1 := hres.trans (by show zz + (if _ then _ else if _ then _ else _) = _; rw [if_neg (by omega), if_neg (by omega)])
                exact Or.inr (Or.inr ⟨by omega, by show rt j = 1; omega, d, _, _, _, hd, by show some (vi (zz + 1)) = some (vi (muF d (lo j) (hi j) 8 K)); rw [hfin], ((hP2 7 (by decide) (by decide)).trans (bk_get.trans ((show eq7 ((va_up (va_up (va_up (va_up (va_up (va_up (va_up (va_up (va_up (va_up (va_up P5 0 r_20) 1 r_21) 2 r_22) 3 (freeD p)) 4 (freeR p)) 6 (freeD p)) 0 r_50) 1 r_51) 2 r_52) 3 (freeD (freeD p))) 4 (freeR (freeD p))) 7) (P5 7) from eq7.rfl').trans h57))), hB_75, hV_76⟩)
              · refine v_iconst E dX4_multiplicity_167 ?_
                refine v_goto E (tgt := 172) dX4_multiplicity_168 (by decide) ?_
                refine v_istore E dX4_multiplicity_172 (zlt hL rfl) (lv' := [(6, vi 1), (5, vi (zz + 1)), (4, vi (d : Int)), (3, vi (hi j)), (2, vi (lo j)), (0, .ref (ad 3002))]) rfl ?_
                refine v_goto E (tgt := 69) dX4_multiplicity_174 (by decide) ?_
                exact ih_69  H_64 s9 (zz + 1) (freeD p) P2 f2 g2 (by omega) ((hP2 6 (by decide) (by decide)).trans (bk_get.trans (show eq7 ((va_up (va_up (va_up (va_up (va_up (va_up (va_up (va_up (va_up (va_up (va_up P5 0 r_20) 1 r_21) 2 r_22) 3 (freeD p)) 4 (freeR p)) 6 (freeD p)) 0 r_50) 1 r_51) 2 r_52) 3 (freeD (freeD p))) 4 (freeR (freeD p))) 6) (freeD p) from eq7.rfl'))) ((hP2 7 (by decide) (by decide)).trans (bk_get.trans ((show eq7 ((va_up (va_up (va_up (va_up (va_up (va_up (va_up (va_up (va_up (va_up (va_up P5 0 r_20) 1 r_21) 2 r_22) 3 (freeD p)) 4 (freeR p)) 6 (freeD p)) 0 r_50) 1 r_51) 2 r_52) 3 (freeD (freeD p))) 4 (freeR (freeD p))) 7) (P5 7) from eq7.rfl').trans h57))) hpQ ((hok.2 (by omega)).2.2 (Or.inr ⟨by omega, by omega⟩)) (by omega) (hres.trans (by show zz + (if _ then _ else if _ then _ else _) = _; rw [if_neg (by omega), if_pos (Or.inr ⟨by omega, by omega⟩), Int.add_assoc])) hB_68 hV_69
            · refine v_aload_n E 5 rfl dX4_multiplicity_115 ?_
              refine v_aload_n E 5 rfl dX4_multiplicity_116 ?_
              refine v_getf E in_X4 hB_47.ho (ci := 3) rfl 17 (by decide) q1777 rfl (v := .ref (ad (2000 + 6))) rfl dX4_multiplicity_117 ?_
              refine v_iload_n E 4 rfl dX4_multiplicity_120 ?_
              refine v_i2l E ⟨by omega, by omega⟩ dX4_multiplicity_121 ?_
              refine v_iload E 2 rfl dX4_multiplicity_122 ?_
              have hok1 := hok.2 (by omega)
              have hfs := hok1.1 (by omega)
              refine v_callV E (As := [.ref (ad (2000 + 6)), vj (lo j), vi (d : Int)]) (b := (ad 3002)) (ci := 3) (C := RX4) (T := TX4) (N := 27) hB_47.ho rfl (m_signAt κ H_43 (j := 6) (e := d) (by decide) (by omega) ⟨by omega, by omega⟩ hI hB_47.ms hB_47.ns hB_47.ho (pS_congr hg6.symm hpQ).N (show rN (pAt (pget (bk (va_up (va_up (va_up (va_up (va_up (va_up P5 0 r_20) 1 r_21) 2 r_22) 3 (freeD p)) 4 (freeR p)) 6 (freeD p)) f_23) 6) (lo j) d) by rw [pAt_congr hg6]; exact hfs)) (lw_V q2045 q2047 qs60 q82 q2048) 3 (by decide +kernel) rfl (by decide) (by decide) (cb' := 0) (sb' := 0) (by decide) (by decide) rfl (rest := []) (Nat.le_of_ble_eq_true rfl) (fun q h => hAll q (AH.N q h)) dX4_multiplicity_124 (fun v_77 H_78 hpost_79 hz_80 hk_81 => ?_)
              clear hz_80
              obtain ⟨rfl, f9, hN9⟩ := hpost_79
              have hB_82 : MB κ ad (va_up (va_up (va_up (va_up (va_up (va_up P5 0 r_20) 1 r_21) 2 r_22) 3 (freeD p)) 4 (freeR p)) 6 (freeD p)) f9 g5 mk S K thr len (M : Int) a1 a2 a3 a4 H_78 := hB_47.num hI hk_81 (NS.flat0 hN9)
              have hsb := rsign3 (pAt (freeD p) (lo j) d)
              have hV_83 : LV κ ad a1 a2 a3 a4 cap lv lo hi rt H_78 := hV_48.keptN hk_81
              refine V.eq (st' := [vi ((pAt (freeD p) (lo j) d).sign)]) (by rw [← pAt_congr hg6]; rfl) ?_
              refine v_if_ne E (tgt := 134) dX4_multiplicity_127 (by decide) ⟨by omega, by omega⟩ (fun c_127 => ?_) (fun c_127 => ?_)
              · refine v_iconst E dX4_multiplicity_134 ?_
                refine v_istore E dX4_multiplicity_135 (zlt hL rfl) (lv' := [(6, vi 0), (5, vi (zz + 1)), (4, vi (d : Int)), (3, vi (hi j)), (2, vi (lo j)), (0, .ref (ad 3002))]) rfl ?_
                refine v_iload_n E 4 rfl dX4_multiplicity_137 ?_
                refine v_iload_n E 3 rfl dX4_multiplicity_138 ?_
                refine v_icmp_ge E (tgt := 69) dX4_multiplicity_139 (by decide) ⟨by omega, by omega⟩ ⟨by omega, by omega⟩ (fun c_139 => ?_) (fun c_139 => absurd c_139 (by omega))
                refine v_iload E 0 rfl dX4_multiplicity_69 ?_
                refine v_if_eq E (tgt := 177) dX4_multiplicity_71 (by decide) ⟨by omega, by omega⟩ (fun c_71 => ?_) (fun c_71 => absurd c_71 (by omega))
                refine v_aload_n E 5 rfl dX4_multiplicity_177 ?_
                refine v_iload E 1 rfl dX4_multiplicity_178 ?_
                refine v_callV E (As := [vi (zz + 1)]) (b := (ad 3002)) (ci := 3) (C := RX4) (T := TX4) (N := 27) hB_82.ho rfl (m_tells κ H_78 hI hB_82) (lw_V q1864 q1866 qs48 q82 q1867) 1 (by decide +kernel) rfl (by decide) (by decide) (cb' := 0) (sb' := 0) (by decide) (by decide) rfl (rest := []) (Nat.le_of_ble_eq_true rfl) hAll dX4_multiplicity_180 (fun v_84 H_85 hpost_86 hz_87 hk_88 => ?_)
                clear hz_87
                obtain ⟨rfl, hB_89⟩ := hpost_86
                have hV_90 : LV κ ad a1 a2 a3 a4 cap lv lo hi rt H_85 := hV_83.kept hk_88
                refine V.eq (st' := [vi (zz + 1)]) rfl ?_
                refine v_iret E hE dX4_multiplicity_183 ?_
                have hfin : muF d (lo j) (hi j) 8 K = zz + 1 := hres.trans (by show zz + (if _ then _ else if _ then _ else _) = _; rw [if_neg (by omega), if_neg (fun h => h.elim (fun g => absurd (Int.sign_eq_zero_iff_zero.mpr g.2) (by omega)) (fun g => absurd g.1 (by omega)))])
                exact Or.inr (Or.inr ⟨by omega, by show rt j = 1; omega, d, _, _, _, hd, by show some (vi (zz + 1)) = some (vi (muF d (lo j) (hi j) 8 K)); rw [hfin], ((show eq7 ((va_up (va_up (va_up (va_up (va_up (va_up P5 0 r_20) 1 r_21) 2 r_22) 3 (freeD p)) 4 (freeR p)) 6 (freeD p)) 7) (P5 7) from eq7.rfl').trans h57), hB_89, hV_90⟩)
              · refine v_iconst E dX4_multiplicity_130 ?_
                refine v_goto E (tgt := 135) dX4_multiplicity_131 (by decide) ?_
                refine v_istore E dX4_multiplicity_135 (zlt hL rfl) (lv' := [(6, vi 1), (5, vi (zz + 1)), (4, vi (d : Int)), (3, vi (hi j)), (2, vi (lo j)), (0, .ref (ad 3002))]) rfl ?_
                refine v_iload_n E 4 rfl dX4_multiplicity_137 ?_
                refine v_iload_n E 3 rfl dX4_multiplicity_138 ?_
                refine v_icmp_ge E (tgt := 69) dX4_multiplicity_139 (by decide) ⟨by omega, by omega⟩ ⟨by omega, by omega⟩ (fun c_139 => ?_) (fun c_139 => absurd c_139 (by omega))
                exact ih_69  H_78 s9 (zz + 1) (freeD p) (va_up (va_up (va_up (va_up (va_up (va_up P5 0 r_20) 1 r_21) 2 r_22) 3 (freeD p)) 4 (freeR p)) 6 (freeD p)) f9 g5 (by omega) (show eq7 ((va_up (va_up (va_up (va_up (va_up (va_up P5 0 r_20) 1 r_21) 2 r_22) 3 (freeD p)) 4 (freeR p)) 6 (freeD p)) 6) (freeD p) from eq7.rfl') ((show eq7 ((va_up (va_up (va_up (va_up (va_up (va_up P5 0 r_20) 1 r_21) 2 r_22) 3 (freeD p)) 4 (freeR p)) 6 (freeD p)) 7) (P5 7) from eq7.rfl').trans h57) hpQ (hok1.2.2 (Or.inl ⟨by omega, Int.sign_eq_zero_iff_zero.mp (by omega)⟩)) (by omega) (hres.trans (by show zz + (if _ then _ else if _ then _ else _) = _; rw [if_neg (by omega), if_pos (Or.inl ⟨by omega, Int.sign_eq_zero_iff_zero.mp (by omega)⟩), Int.add_assoc])) hB_82 hV_83
          · refine v_goto E (tgt := 177) dX4_multiplicity_107 (by decide) ?_
            refine v_aload_n E 5 rfl dX4_multiplicity_177 ?_
            refine v_iload E 0 rfl dX4_multiplicity_178 ?_
            refine v_callV E (As := [vi (zz + 1)]) (b := (ad 3002)) (ci := 3) (C := RX4) (T := TX4) (N := 27) hB_47.ho rfl (m_tells κ H_43 hI hB_47) (lw_V q1864 q1866 qs48 q82 q1867) 1 (by decide +kernel) rfl (by decide) (by decide) (cb' := 0) (sb' := 0) (by decide) (by decide) rfl (rest := []) (Nat.le_of_ble_eq_true rfl) hAll dX4_multiplicity_180 (fun v_91 H_92 hpost_93 hz_94 hk_95 => ?_)
            clear hz_94
            obtain ⟨rfl, hB_96⟩ := hpost_93
            have hV_97 : LV κ ad a1 a2 a3 a4 cap lv lo hi rt H_92 := hV_48.kept hk_95
            refine V.eq (st' := [vi (zz + 1)]) rfl ?_
            refine v_iret E hE dX4_multiplicity_183 ?_
            have hfin : muF d (lo j) (hi j) 8 K = zz + 1 := hres.trans (by show zz + (if _ then _ else if _ then _ else _) = _; rw [if_pos (by omega)])
            exact Or.inr (Or.inr ⟨by omega, by show rt j = 1; omega, d, _, _, _, hd, by show some (vi (zz + 1)) = some (vi (muF d (lo j) (hi j) 8 K)); rw [hfin], ((show eq7 ((va_up (va_up (va_up (va_up (va_up (va_up P5 0 r_20) 1 r_21) 2 r_22) 3 (freeD p)) 4 (freeR p)) 6 (freeD p)) 7) (P5 7) from eq7.rfl').trans h57), hB_96, hV_97⟩)
      refine V.sub [0, 1, 2, 3, 4, 5] (lv' := [(6, vi 1), (5, vi 0), (4, vi (d : Int)), (3, vi (hi j)), (2, vi (lo j)), (0, .ref (ad 3002))]) rfl ?_
      exact loop_69 (8 + 1) H_11 8 0 K (va_up P 6 K) f g (by omega) (show eq7 ((va_up P 6 K) 6) K from eq7.rfl') (show eq7 ((va_up P 6 K) 7) (P 7) from eq7.rfl') hF9.2.1 hfm (by omega) (Int.zero_add _).symm hB_17 hV_18
    · refine v_aload_n E 0 rfl dX4_multiplicity_24 ?_
      refine v_iconst E dX4_multiplicity_25 ?_
      refine v_callV E (As := [vi 2]) (b := (ad 3002)) (ci := 3) (C := RX4) (T := TX4) (N := 27) hB_8.ho rfl (m_fails κ H_3 hI hB_8) (lw_V q1857 q1859 qs47 q82 q1860) 1 (by decide +kernel) rfl (by decide) (by decide) (cb' := 0) (sb' := 0) (by decide) (by decide) rfl (rest := []) (Nat.le_of_ble_eq_true rfl) hAll dX4_multiplicity_26 (fun v_98 H_99 hpost_100 hz_101 hk_102 => ?_)
      clear hz_101
      obtain ⟨rfl, hB_103⟩ := hpost_100
      have hV_104 : LV κ ad a1 a2 a3 a4 cap lv lo hi rt H_99 := hV_9.kept hk_102
      refine V.eq (st' := [vi 0]) rfl ?_
      refine v_iret E hE dX4_multiplicity_29 ?_
      exact Or.inr (Or.inl ⟨by omega, by show rt j ≠ 1; omega, rfl, hB_103, hV_104⟩)
  · refine v_aload_n E 0 rfl dX4_multiplicity_8 ?_
    refine v_iconst E dX4_multiplicity_9 ?_
    refine v_callV E (As := [vi 1]) (b := (ad 3002)) (ci := 3) (C := RX4) (T := TX4) (N := 27) hB_8.ho rfl (m_fails κ H_3 hI hB_8) (lw_V q1857 q1859 qs47 q82 q1860) 1 (by decide +kernel) rfl (by decide) (by decide) (cb' := 0) (sb' := 0) (by decide) (by decide) rfl (rest := []) (Nat.le_of_ble_eq_true rfl) hAll dX4_multiplicity_10 (fun v_105 H_106 hpost_107 hz_108 hk_109 => ?_)
    clear hz_108
    obtain ⟨rfl, hB_110⟩ := hpost_107
    have hV_111 : LV κ ad a1 a2 a3 a4 cap lv lo hi rt H_106 := hV_9.kept hk_109
    refine V.eq (st' := [vi 0]) rfl ?_
    refine v_iret E hE dX4_multiplicity_13 ?_
    exact Or.inl ⟨by omega, rfl, hB_110, hV_111⟩
