set_option maxHeartbeats 400000 in
set_option maxRecDepth 100000 in
/-- bisect -/
theorem m_bisect2 (κ : zK) (H0 : Heap) {ad : Nat → Nat} {P : Nat → Nat → Int} {f g mk : Nat → Int} {S : Nat → Nat → Int} {K : Nat → Int} {thr len : Int} {a1 a2 a3 a4 : Nat} {cap : Nat} {lv lo hi rt : Nat → Int} {x : Int} {M : Nat} {F : Nat → Int} (hx : rI x) (hMc : M ≤ cap) (hc2 : 2 ≤ cap) (hcp2 : 2 * cap < 1000000) (hL9 : okL M lv lo hi rt) (hK9 : 0 < M → okK K (P 7) F) (hfit : ∀ (j e : Nat), x = (j : Int) → j < M → lo j ≠ hi j → lv j ≠ 12 → lv j + 1 = (e : Int) → rN (pAt K (lo j + hi j) e) ∧ okPl F e (2 * lo j) (lo j + hi j) ∧ okPl F e (lo j + hi j) (2 * hi j)) (hI : Inj ad) (hB : MB κ ad P f g mk S K thr len (M : Int) a1 a2 a3 a4 H0) (hV : LV κ ad a1 a2 a3 a4 cap lv lo hi rt H0) : Mt κ yX4_bisect cX4_bisect 7 (some .int) 5 128 4 (8 * cap) H0 [.ref (ad 3002), vi x] (AI ad a1 a2 a3 a4) (fun v H1 => (¬ (0 ≤ x ∧ x < (M : Int)) ∧ v = some (vi 0) ∧ MB κ ad P f g mk S K 1 len (M : Int) a1 a2 a3 a4 H1 ∧ LV κ ad a1 a2 a3 a4 cap lv lo hi rt H1) ∨ ((0 ≤ x ∧ x < (M : Int)) ∧ (lo x.toNat = hi x.toNat ∨ lv x.toNat = 12) ∧ v = some (vi 0) ∧ MB κ ad P f g mk S K 2 len (M : Int) a1 a2 a3 a4 H1 ∧ LV κ ad a1 a2 a3 a4 cap lv lo hi rt H1) ∨ ((0 ≤ x ∧ x < (M : Int)) ∧ lo x.toNat ≠ hi x.toNat ∧ lv x.toNat ≠ 12 ∧ ∃ (e wn b1 b2 b3 b4 c2 : Nat) (lv2 lo2 hi2 rt2 : Nat → Int) (P1 : Nat → Nat → Int) (f1 g1 : Nat → Int), lv x.toNat + 1 = (e : Int) ∧ (wn = 2 ∧ pAt K (lo x.toNat + hi x.toNat) e = 0 ∨ wn = 1 ∧ pAt K (lo x.toNat + hi x.toNat) e ≠ 0) ∧ v = some (vi ((M + wn : Nat) : Int)) ∧ eq7 (P1 7) F ∧ MB κ ad P1 f1 g1 mk S K 0 len ((M + wn : Nat) : Int) b1 b2 b3 b4 H1 ∧ LV κ ad b1 b2 b3 b4 c2 lv2 lo2 hi2 rt2 H1 ∧ M + wn ≤ c2 ∧ (M + wn ≤ cap → c2 = cap ∧ b1 = a1 ∧ b2 = a2 ∧ b3 = a3 ∧ b4 = a4) ∧ ((b1 = a1 ∧ b2 = a2 ∧ b3 = a3 ∧ b4 = a4) ∨ (H0.size ≤ b1 ∧ H0.size ≤ b2 ∧ H0.size ≤ b3 ∧ H0.size ≤ b4)) ∧ ∀ i, i < M + wn → lv2 i = bsF lv x.toNat wn e e e i ∧ lo2 i = bsF lo x.toNat wn (2 * lo x.toNat) (lo x.toNat + hi x.toNat) (lo x.toNat + hi x.toNat) i ∧ hi2 i = bsF hi x.toNat wn (lo x.toNat + hi x.toNat) (lo x.toNat + hi x.toNat) (2 * hi x.toNat) i ∧ rt2 i = bsF rt x.toNat wn (plF F e (2 * lo x.toNat) (lo x.toNat + hi x.toNat)) 1 (plF F e (lo x.toNat + hi x.toNat) (2 * hi x.toNat)) i)) := by
  refine Mt.of (by decide) (Nat.le_of_ble_eq_true rfl) ?_
  intro z E hE hH0 hA0 hL hini
  have hAll : ∀ q, (AI ad a1 a2 a3 a4) q → zA z.A z.H0 q := fun q h => Or.inl (by rw [hA0]; exact h)
  have hNew : ∀ q, H0.size ≤ q → zA z.A z.H0 q := fun q h => Or.inr (by rw [hH0]; exact h)
  have E : zOK z cX4_bisect RX4 κ 5 128 (some .int) := E
  refine V.eqL (lv' := [(0, .ref (ad 3002)), (1, vi x)]) rfl ?_
  refine v_aload_n E 0 rfl dX4_bisect_0 ?_
  refine v_iload_n E 1 rfl dX4_bisect_1 ?_
  refine v_callV E (As := [vi x]) (b := (ad 3002)) (ci := 3) (C := RX4) (T := TX4) (N := 27) hB.ho rfl (m_isIv κ H0 (by first | assumption | exact ⟨by omega, by omega⟩) (show rI (M : Int) from ⟨by omega, by omega⟩) hB) (lw_V q2114 q2116 qs66 q82 q2117) 1 (by decide +kernel) rfl (by decide) (by decide) (cb' := (4 - 0)) (sb' := (8 * cap - 0)) (by omega) (by omega) rfl (rest := []) (Nat.le_of_ble_eq_true rfl) (fun q h => h.elim) dX4_bisect_2 (fun v_2 H_3 hpost_4 hz_5 hk_6 => ?_)
  clear hz_5
  obtain rfl := hpost_4
  obtain ⟨b_1, hb_7, hb_7e⟩ : ∃ b9 : Int, (b9 = 0 ∧ ¬ (0 ≤ x ∧ x < (M : Int)) ∨ b9 = 1 ∧ (0 ≤ x ∧ x < (M : Int))) ∧ (if 0 ≤ x ∧ x < (M : Int) then 1 else 0 : Int) = b9 := by
    by_cases c : 0 ≤ x ∧ x < (M : Int)
    · exact ⟨1, Or.inr ⟨rfl, c⟩, if_pos c⟩
    · exact ⟨0, Or.inl ⟨rfl, c⟩, if_neg c⟩
  have hB_8 : MB κ ad P f g mk S K thr len (M : Int) a1 a2 a3 a4 H_3 := hB.nil hk_6
  have hV_9 : LV κ ad a1 a2 a3 a4 cap lv lo hi rt H_3 := hV.nil hk_6
  refine V.eq (st' := [vi b_1]) (by rw [hb_7e]; rfl) ?_
  refine v_if_ne E (tgt := 14) dX4_bisect_5 (by decide) ⟨by omega, by omega⟩ (fun c_5 => ?_) (fun c_5 => ?_)
  · obtain ⟨j, rfl⟩ : ∃ j : Nat, x = (j : Int) := ⟨x.toNat, by omega⟩
    have hjM : j < M := by omega
    have hLj := hL9 j hjM
    have hF9 := hK9 (by omega)
    obtain ⟨e, he⟩ : ∃ e : Nat, lv j + 1 = (e : Int) := ⟨(lv j + 1).toNat, by omega⟩
    refine V.eqL (lv' := [(0, .ref (ad 3002)), (1, vi (j : Int))]) rfl ?_
    refine v_aload_n E 0 rfl dX4_bisect_14 ?_
    refine v_getf E in_X4 hB_8.ho (ci := 3) rfl 23 (by decide) q1783 rfl (v := .ref a2) rfl dX4_bisect_15 ?_
    refine v_iload_n E 1 rfl dX4_bisect_18 ?_
    refine v_iald E dX4_bisect_19 hV_9.2.2.2.1 j rfl (by omega) (by omega) ?_
    refine v_aload_n E 0 rfl dX4_bisect_20 ?_
    refine v_getf E in_X4 hB_8.ho (ci := 3) rfl 24 (by decide) q1784 rfl (v := .ref a3) rfl dX4_bisect_21 ?_
    refine v_iload_n E 1 rfl dX4_bisect_24 ?_
    refine v_iald E dX4_bisect_25 hV_9.2.2.2.2.1 j rfl (by omega) (by omega) ?_
    refine v_icmp_eq E (tgt := 40) dX4_bisect_26 (by decide) ⟨by omega, by omega⟩ ⟨by omega, by omega⟩ (fun c_26 => ?_) (fun c_26 => ?_)
    · refine v_aload_n E 0 rfl dX4_bisect_40 ?_
      refine v_iconst E dX4_bisect_41 ?_
      refine v_callV E (As := [vi 2]) (b := (ad 3002)) (ci := 3) (C := RX4) (T := TX4) (N := 27) hB_8.ho rfl (m_fails κ H_3 hI hB_8) (lw_V q1857 q1859 qs47 q82 q1860) 1 (by decide +kernel) rfl (by decide) (by decide) (cb' := ((4 - 0) - 0)) (sb' := ((8 * cap - 0) - 0)) (by omega) (by omega) rfl (rest := []) (Nat.le_of_ble_eq_true rfl) (fun q h => hAll q (Or.inl h)) dX4_bisect_42 (fun v_10 H_11 hpost_12 hz_13 hk_14 => ?_)
      clear hz_13
      obtain ⟨rfl, hB_15⟩ := hpost_12
      have hV_16 : LV κ ad a1 a2 a3 a4 cap lv lo hi rt H_11 := hV_9.kept hk_14
      refine V.eq (st' := [vi 0]) rfl ?_
      refine v_iret E hE dX4_bisect_45 ?_
      exact Or.inr (Or.inl ⟨by omega, by show lo j = hi j ∨ lv j = 12; omega, rfl, hB_15, hV_16⟩)
    · refine v_aload_n E 0 rfl dX4_bisect_29 ?_
      refine v_getf E in_X4 hB_8.ho (ci := 3) rfl 22 (by decide) q1782 rfl (v := .ref a1) rfl dX4_bisect_30 ?_
      refine v_iload_n E 1 rfl dX4_bisect_33 ?_
      refine v_iald E dX4_bisect_34 hV_9.2.2.1 j rfl (by omega) (by omega) ?_
      refine v_bipush E ⟨by decide, by decide⟩ dX4_bisect_35 ?_
      refine v_icmp_ne E (tgt := 46) dX4_bisect_37 (by decide) ⟨by omega, by omega⟩ ⟨by omega, by omega⟩ (fun c_37 => ?_) (fun c_37 => ?_)
      · refine v_aload_n E 0 rfl dX4_bisect_46 ?_
        refine v_getf E in_X4 hB_8.ho (ci := 3) rfl 22 (by decide) q1782 rfl (v := .ref a1) rfl dX4_bisect_47 ?_
        refine v_iload_n E 1 rfl dX4_bisect_50 ?_
        refine v_iald E dX4_bisect_51 hV_9.2.2.1 j rfl (by omega) (by omega) ?_
        refine v_iconst E dX4_bisect_52 ?_
        refine v_iadd E dX4_bisect_53 ?_
        refine V.topi (x' := (e : Int)) (by rw [he]) ?_
        have hft := hfit j e rfl hjM (by omega) (by omega) he
        refine v_istore_n E dX4_bisect_54 (zlt hL rfl) (lv' := [(2, vi (e : Int)), (0, .ref (ad 3002)), (1, vi (j : Int))]) rfl ?_
        refine v_iconst E dX4_bisect_55 ?_
        refine v_aload_n E 1 rfl dX4_bisect_56 ?_
        refine v_getf E in_X4 hB_8.ho (ci := 3) rfl 23 (by decide) q1783 rfl (v := .ref a2) rfl dX4_bisect_57 ?_
        refine v_iload_n E 2 rfl dX4_bisect_60 ?_
        refine v_iald E dX4_bisect_61 hV_9.2.2.2.1 j rfl (by omega) (by omega) ?_
        refine v_imul E dX4_bisect_62 ?_
        refine v_istore_n E dX4_bisect_63 (zlt hL rfl) (lv' := [(3, vi (2 * (lo j))), (2, vi (e : Int)), (0, .ref (ad 3002)), (1, vi (j : Int))]) rfl ?_
        refine v_iconst E dX4_bisect_64 ?_
        refine v_aload_n E 2 rfl dX4_bisect_65 ?_
        refine v_getf E in_X4 hB_8.ho (ci := 3) rfl 24 (by decide) q1784 rfl (v := .ref a3) rfl dX4_bisect_66 ?_
        refine v_iload_n E 3 rfl dX4_bisect_69 ?_
        refine v_iald E dX4_bisect_70 hV_9.2.2.2.2.1 j rfl (by omega) (by omega) ?_
        refine v_imul E dX4_bisect_71 ?_
        refine v_istore E dX4_bisect_72 (zlt hL rfl) (lv' := [(4, vi (2 * (hi j))), (3, vi (2 * (lo j))), (2, vi (e : Int)), (0, .ref (ad 3002)), (1, vi (j : Int))]) rfl ?_
        refine v_aload_n E 3 rfl dX4_bisect_74 ?_
        refine v_getf E in_X4 hB_8.ho (ci := 3) rfl 23 (by decide) q1783 rfl (v := .ref a2) rfl dX4_bisect_75 ?_
        refine v_iload_n E 4 rfl dX4_bisect_78 ?_
        refine v_iald E dX4_bisect_79 hV_9.2.2.2.1 j rfl (by omega) (by omega) ?_
        refine v_aload_n E 3 rfl dX4_bisect_80 ?_
        refine v_getf E in_X4 hB_8.ho (ci := 3) rfl 24 (by decide) q1784 rfl (v := .ref a3) rfl dX4_bisect_81 ?_
        refine v_iload_n E 4 rfl dX4_bisect_84 ?_
        refine v_iald E dX4_bisect_85 hV_9.2.2.2.2.1 j rfl (by omega) (by omega) ?_
        refine v_iadd E dX4_bisect_86 ?_
        refine v_istore E dX4_bisect_87 (zlt hL rfl) (lv' := [(5, vi ((lo j) + (hi j))), (4, vi (2 * (hi j))), (3, vi (2 * (lo j))), (2, vi (e : Int)), (0, .ref (ad 3002)), (1, vi (j : Int))]) rfl ?_
        refine v_aload_n E 4 rfl dX4_bisect_89 ?_
        refine v_iload E 0 rfl dX4_bisect_90 ?_
        refine v_iload_n E 3 rfl dX4_bisect_92 ?_
        refine v_callV E (As := [vi ((lo j) + (hi j)), vi (e : Int)]) (b := (ad 3002)) (ci := 3) (C := RX4) (T := TX4) (N := 27) hB_8.ho rfl (m_isRoot κ H_3 (n := (lo j) + (hi j)) (k := (e : Int)) hF9.1 hF9.2.1 ⟨by omega, by omega⟩ ⟨by omega, by omega⟩ ⟨by omega, by omega⟩ hft.1 hI hB_8) (lw_V q2126 q2128 qs67 q82 q2129) 2 (by decide +kernel) rfl (by decide) (by decide) (cb' := ((4 - 0) - 0)) (sb' := ((8 * cap - 0) - 0)) (by omega) (by omega) rfl (rest := []) (Nat.le_of_ble_eq_true rfl) (fun q h => hAll q (Or.inl h)) dX4_bisect_93 (fun v_18 H_19 hpost_20 hz_21 hk_22 => ?_)
        clear hz_21
        obtain ⟨rfl, P_24, f_25, h7_26, hB_27⟩ := hpost_20
        have h7_26 := h7_26.trans hF9.2.2.1
        obtain ⟨b_17, hb_23, hb_23e⟩ : ∃ b9 : Int, (b9 = 0 ∧ ¬ (pAt K ((lo j) + (hi j)) e = 0) ∨ b9 = 1 ∧ (pAt K ((lo j) + (hi j)) e = 0)) ∧ (if pAt K ((lo j) + (hi j)) e = 0 then 1 else 0 : Int) = b9 := by
          by_cases c : pAt K ((lo j) + (hi j)) e = 0
          · exact ⟨1, Or.inr ⟨rfl, c⟩, if_pos c⟩
          · exact ⟨0, Or.inl ⟨rfl, c⟩, if_neg c⟩
        have hV_28 : LV κ ad a1 a2 a3 a4 cap lv lo hi rt H_19 := hV_9.kept hk_22
        refine V.eq (st' := [vi b_17]) (by rw [← hb_23e]; rfl) ?_
        refine v_istore E dX4_bisect_96 (zlt hL rfl) (lv' := [(6, vi b_17), (5, vi ((lo j) + (hi j))), (4, vi (2 * (hi j))), (3, vi (2 * (lo j))), (2, vi (e : Int)), (0, .ref (ad 3002)), (1, vi (j : Int))]) rfl ?_
        refine v_aload_n E 5 rfl dX4_bisect_98 ?_
        refine v_iload_n E 6 rfl dX4_bisect_99 ?_
        refine v_iload E 0 rfl dX4_bisect_100 ?_
        refine v_if_eq E (tgt := 109) dX4_bisect_102 (by decide) ⟨by omega, by omega⟩ (fun c_102 => ?_) (fun c_102 => ?_)
        · refine v_iconst E dX4_bisect_109 ?_
          refine V.frame (fun hfz _ => ?_)
          rw [hH0] at hfz
          refine v_callV E (As := [vi (j : Int), vi 1]) (b := (ad 3002)) (ci := 3) (C := RX4) (T := TX4) (N := 27) hB_27.ho rfl (m_opens κ H_19 (x := j) (wn := 1) (M := M) hV_28.1 ⟨by omega, by omega⟩ (by omega) hV_28.2.1 rfl hjM (by decide) (by omega) (by omega) hI hB_27 hV_28.2.2.1 hV_28.2.2.2.1 hV_28.2.2.2.2.1 hV_28.2.2.2.2.2) (lw_V q2130 q2132 qs68 q82 q2133) 2 (by decide +kernel) rfl (by decide) (by decide) (cb' := 0) (sb' := 0) (by omega) (by omega) rfl (rest := []) (Nat.le_of_ble_eq_true rfl) hAll dX4_bisect_110 (fun v_29 H_30 hpost_31 hz_32 hk_33 => ?_)
          clear hz_32
          obtain ⟨rfl, b1, b2, b3, b4, c2, lv2, lo2, hi2, rt2, hB7, hV7, hc7, hd7, hl7⟩ := hpost_31
          have hb7 : (b1 = a1 ∧ b2 = a2 ∧ b3 = a3 ∧ b4 = a4) ∨ (H0.size ≤ b1 ∧ H0.size ≤ b2 ∧ H0.size ≤ b3 ∧ H0.size ≤ b4) := hd7.elim (fun h => Or.inl h.2) (fun h => Or.inr ⟨Nat.le_trans hfz h.2.2.1, Nat.le_trans hfz h.2.2.2.1, Nat.le_trans hfz h.2.2.2.2.1, Nat.le_trans hfz h.2.2.2.2.2⟩)
          have hAll9 : ∀ q, AI ad b1 b2 b3 b4 q → zA z.A z.H0 q := fun q h => by
            rcases hb7 with ⟨rfl, rfl, rfl, rfl⟩ | ⟨g1, g2, g3, g4⟩
            · exact hAll q h
            · rcases h with h | h | h | h | h
              · exact hAll q (Or.inl h)
              · exact hNew q (by rw [h]; exact g1)
              · exact hNew q (by rw [h]; exact g2)
              · exact hNew q (by rw [h]; exact g3)
              · exact hNew q (by rw [h]; exact g4)
          have hc8 : c2 < 1000000 := by omega
          refine V.eq (st' := []) rfl ?_
          refine v_aload_n E 5 rfl dX4_bisect_113 ?_
          refine v_iload_n E 6 rfl dX4_bisect_114 ?_
          refine v_iload_n E 4 rfl dX4_bisect_115 ?_
          refine v_iload_n E 3 rfl dX4_bisect_116 ?_
          refine v_iload E 1 rfl dX4_bisect_117 ?_
          refine v_callV E (As := [vi (j : Int), vi (e : Int), vi (2 * (lo j)), vi ((lo j) + (hi j))]) (b := (ad 3002)) (ci := 3) (C := RX4) (T := TX4) (N := 27) hB7.ho rfl (m_place2 κ H_30 (x := j) (e := e) (m := (2 * lo j)) (n := (lo j + hi j)) hV7 (by omega) (by omega) (by omega) (by omega) ⟨by omega, by omega⟩ ⟨by omega, by omega⟩ ⟨by omega, by omega⟩ ⟨by omega, by omega⟩ h7_26 hF9.2.2.2.1 hF9.2.2.2.2 hft.2.1 hI hB7) (lw_V q2102 q2104 qs65 q82 q2105) 4 (by decide +kernel) rfl (by decide) (by decide) (cb' := 0) (sb' := 0) (by decide) (by decide) rfl (rest := []) (Nat.le_of_ble_eq_true rfl) hAll9 dX4_bisect_119 (fun v_34 H_35 hpost_36 hz_37 hk_38 => ?_)
          clear hz_37
          obtain ⟨rfl, P_39, f_40, g_41, h7_42, hB_43, hV_44⟩ := hpost_36
          refine V.eq (st' := []) rfl ?_
          refine v_iload E 0 rfl dX4_bisect_122 ?_
          refine v_if_eq E (tgt := 139) dX4_bisect_124 (by decide) ⟨by omega, by omega⟩ (fun c_124 => ?_) (fun c_124 => absurd c_124 (by omega))
          refine v_aload_n E 5 rfl dX4_bisect_139 ?_
          refine v_iload E 0 rfl dX4_bisect_140 ?_
          refine v_if_eq E (tgt := 151) dX4_bisect_142 (by decide) ⟨by omega, by omega⟩ (fun c_142 => ?_) (fun c_142 => absurd c_142 (by omega))
          refine v_iload_n E 6 rfl dX4_bisect_151 ?_
          refine v_iconst E dX4_bisect_152 ?_
          refine v_iadd E dX4_bisect_153 ?_
          refine v_iload_n E 4 rfl dX4_bisect_154 ?_
          refine v_iload E 1 rfl dX4_bisect_155 ?_
          refine v_iload E 2 rfl dX4_bisect_157 ?_
          refine v_callV E (As := [vi ((j : Int) + 1), vi (e : Int), vi ((lo j) + (hi j)), vi (2 * (hi j))]) (b := (ad 3002)) (ci := 3) (C := RX4) (T := TX4) (N := 27) hB_43.ho rfl (m_place2 κ H_35 (x := (j + 1)) (e := e) (m := (lo j + hi j)) (n := (2 * hi j)) hV_44 (by omega) (by omega) (by omega) (by omega) ⟨by omega, by omega⟩ ⟨by omega, by omega⟩ ⟨by omega, by omega⟩ ⟨by omega, by omega⟩ h7_42 hF9.2.2.2.1 hF9.2.2.2.2 hft.2.2 hI hB_43) (lw_V q2102 q2104 qs65 q82 q2105) 4 (by decide +kernel) rfl (by decide) (by decide) (cb' := 0) (sb' := 0) (by decide) (by decide) rfl (rest := []) (Nat.le_of_ble_eq_true rfl) hAll9 dX4_bisect_159 (fun v_45 H_46 hpost_47 hz_48 hk_49 => ?_)
          clear hz_48
          obtain ⟨rfl, P_50, f_51, g_52, h7_53, hB_54, hV_55⟩ := hpost_47
          refine V.eq (st' := []) rfl ?_
          refine v_aload_n E 5 rfl dX4_bisect_162 ?_
          refine v_aload_n E 5 rfl dX4_bisect_163 ?_
          refine v_getf E in_X4 hB_54.ho (ci := 3) rfl 26 (by decide) q1786 rfl (v := vi ((M : Int) + ((1 : Nat) : Int))) rfl dX4_bisect_164 ?_
          refine v_callV E (As := [vi ((M : Int) + ((1 : Nat) : Int))]) (b := (ad 3002)) (ci := 3) (C := RX4) (T := TX4) (N := 27) hB_54.ho rfl (m_tells κ H_46 hI hB_54) (lw_V q1864 q1866 qs48 q82 q1867) 1 (by decide +kernel) rfl (by decide) (by decide) (cb' := 0) (sb' := 0) (by decide) (by decide) rfl (rest := []) (Nat.le_of_ble_eq_true rfl) (fun q h => hAll9 q (Or.inl h)) dX4_bisect_167 (fun v_56 H_57 hpost_58 hz_59 hk_60 => ?_)
          clear hz_59
          obtain ⟨rfl, hB_61⟩ := hpost_58
          have hV_62 : LV κ ad b1 b2 b3 b4 c2 (va_up (va_up lv2 j (e : Int)) (j + 1) (e : Int)) (va_up (va_up lo2 j (2 * lo j)) (j + 1) (lo j + hi j)) (va_up (va_up hi2 j (lo j + hi j)) (j + 1) (2 * hi j)) (va_up (va_up rt2 j (plF F e (2 * lo j) (lo j + hi j))) (j + 1) (plF F e (lo j + hi j) (2 * hi j))) H_57 := hV_55.kept hk_60
          refine V.eq (st' := [vi ((M : Int) + ((1 : Nat) : Int))]) rfl ?_
          refine v_iret E hE dX4_bisect_170 ?_
          refine Or.inr (Or.inr ⟨by omega, by show lo j ≠ hi j; omega, by show lv j ≠ 12; omega, e, 1, b1, b2, b3, b4, c2, _, _, _, _, _, _, _, he, Or.inr ⟨rfl, by show pAt K (lo j + hi j) e ≠ 0; omega⟩, rfl, h7_53, hB_61, hV_62, hc7, fun w7 => hd7.elim (fun h => h) (fun h => absurd h.2.1 (by omega)), hb7, fun i hi9 => ⟨bsF_1 hjM (fun i h1 h2 => (hl7 i h1 h2).1) hi9, bsF_1 hjM (fun i h1 h2 => (hl7 i h1 h2).2.1) hi9, bsF_1 hjM (fun i h1 h2 => (hl7 i h1 h2).2.2.1) hi9, bsF_1 hjM (fun i h1 h2 => (hl7 i h1 h2).2.2.2) hi9⟩⟩)
        · refine v_iconst E dX4_bisect_105 ?_
          refine v_goto E (tgt := 110) dX4_bisect_106 (by decide) ?_
          refine V.frame (fun hfz _ => ?_)
          rw [hH0] at hfz
          refine v_callV E (As := [vi (j : Int), vi 2]) (b := (ad 3002)) (ci := 3) (C := RX4) (T := TX4) (N := 27) hB_27.ho rfl (m_opens κ H_19 (x := j) (wn := 2) (M := M) hV_28.1 ⟨by omega, by omega⟩ (by omega) hV_28.2.1 rfl hjM (by decide) (by omega) (by omega) hI hB_27 hV_28.2.2.1 hV_28.2.2.2.1 hV_28.2.2.2.2.1 hV_28.2.2.2.2.2) (lw_V q2130 q2132 qs68 q82 q2133) 2 (by decide +kernel) rfl (by decide) (by decide) (cb' := 0) (sb' := 0) (by omega) (by omega) rfl (rest := []) (Nat.le_of_ble_eq_true rfl) hAll dX4_bisect_110 (fun v_63 H_64 hpost_65 hz_66 hk_67 => ?_)
          clear hz_66
          obtain ⟨rfl, b1, b2, b3, b4, c2, lv2, lo2, hi2, rt2, hB7, hV7, hc7, hd7, hl7⟩ := hpost_65
          have hb7 : (b1 = a1 ∧ b2 = a2 ∧ b3 = a3 ∧ b4 = a4) ∨ (H0.size ≤ b1 ∧ H0.size ≤ b2 ∧ H0.size ≤ b3 ∧ H0.size ≤ b4) := hd7.elim (fun h => Or.inl h.2) (fun h => Or.inr ⟨Nat.le_trans hfz h.2.2.1, Nat.le_trans hfz h.2.2.2.1, Nat.le_trans hfz h.2.2.2.2.1, Nat.le_trans hfz h.2.2.2.2.2⟩)
          have hAll9 : ∀ q, AI ad b1 b2 b3 b4 q → zA z.A z.H0 q := fun q h => by
            rcases hb7 with ⟨rfl, rfl, rfl, rfl⟩ | ⟨g1, g2, g3, g4⟩
            · exact hAll q h
            · rcases h with h | h | h | h | h
              · exact hAll q (Or.inl h)
              · exact hNew q (by rw [h]; exact g1)
              · exact hNew q (by rw [h]; exact g2)
              · exact hNew q (by rw [h]; exact g3)
              · exact hNew q (by rw [h]; exact g4)
          have hc8 : c2 < 1000000 := by omega
          refine V.eq (st' := []) rfl ?_
          refine v_aload_n E 5 rfl dX4_bisect_113 ?_
          refine v_iload_n E 6 rfl dX4_bisect_114 ?_
          refine v_iload_n E 4 rfl dX4_bisect_115 ?_
          refine v_iload_n E 3 rfl dX4_bisect_116 ?_
          refine v_iload E 1 rfl dX4_bisect_117 ?_
          refine v_callV E (As := [vi (j : Int), vi (e : Int), vi (2 * (lo j)), vi ((lo j) + (hi j))]) (b := (ad 3002)) (ci := 3) (C := RX4) (T := TX4) (N := 27) hB7.ho rfl (m_place2 κ H_64 (x := j) (e := e) (m := (2 * lo j)) (n := (lo j + hi j)) hV7 (by omega) (by omega) (by omega) (by omega) ⟨by omega, by omega⟩ ⟨by omega, by omega⟩ ⟨by omega, by omega⟩ ⟨by omega, by omega⟩ h7_26 hF9.2.2.2.1 hF9.2.2.2.2 hft.2.1 hI hB7) (lw_V q2102 q2104 qs65 q82 q2105) 4 (by decide +kernel) rfl (by decide) (by decide) (cb' := 0) (sb' := 0) (by decide) (by decide) rfl (rest := []) (Nat.le_of_ble_eq_true rfl) hAll9 dX4_bisect_119 (fun v_68 H_69 hpost_70 hz_71 hk_72 => ?_)
          clear hz_71
          obtain ⟨rfl, P_73, f_74, g_75, h7_76, hB_77, hV_78⟩ := hpost_70
          refine V.eq (st' := []) rfl ?_
          refine v_iload E 0 rfl dX4_bisect_122 ?_
          refine v_if_eq E (tgt := 139) dX4_bisect_124 (by decide) ⟨by omega, by omega⟩ (fun c_124 => absurd c_124 (by omega)) (fun c_124 => ?_)
          refine v_aload_n E 5 rfl dX4_bisect_127 ?_
          refine v_iload_n E 6 rfl dX4_bisect_128 ?_
          refine v_iconst E dX4_bisect_129 ?_
          refine v_iadd E dX4_bisect_130 ?_
          refine v_iload_n E 4 rfl dX4_bisect_131 ?_
          refine v_iload E 1 rfl dX4_bisect_132 ?_
          refine v_iload E 1 rfl dX4_bisect_134 ?_
          refine v_callV E (As := [vi ((j : Int) + 1), vi (e : Int), vi ((lo j) + (hi j)), vi ((lo j) + (hi j))]) (b := (ad 3002)) (ci := 3) (C := RX4) (T := TX4) (N := 27) hB_77.ho rfl (m_place2 κ H_69 (x := (j + 1)) (e := e) (m := (lo j + hi j)) (n := (lo j + hi j)) hV_78 (by omega) (by omega) (by omega) (by omega) ⟨by omega, by omega⟩ ⟨by omega, by omega⟩ ⟨by omega, by omega⟩ ⟨by omega, by omega⟩ h7_76 hF9.2.2.2.1 hF9.2.2.2.2 (fun h => absurd rfl h) hI hB_77) (lw_V q2102 q2104 qs65 q82 q2105) 4 (by decide +kernel) rfl (by decide) (by decide) (cb' := 0) (sb' := 0) (by decide) (by decide) rfl (rest := []) (Nat.le_of_ble_eq_true rfl) hAll9 dX4_bisect_136 (fun v_79 H_80 hpost_81 hz_82 hk_83 => ?_)
          clear hz_82
          obtain ⟨rfl, P_84, f_85, g_86, h7_87, hB_88, hV_89⟩ := hpost_81
          refine V.eq (st' := []) rfl ?_
          refine v_aload_n E 5 rfl dX4_bisect_139 ?_
          refine v_iload E 0 rfl dX4_bisect_140 ?_
          refine v_if_eq E (tgt := 151) dX4_bisect_142 (by decide) ⟨by omega, by omega⟩ (fun c_142 => absurd c_142 (by omega)) (fun c_142 => ?_)
          refine v_iload_n E 6 rfl dX4_bisect_145 ?_
          refine v_iconst E dX4_bisect_146 ?_
          refine v_iadd E dX4_bisect_147 ?_
          refine v_goto E (tgt := 154) dX4_bisect_148 (by decide) ?_
          refine v_iload_n E 4 rfl dX4_bisect_154 ?_
          refine v_iload E 1 rfl dX4_bisect_155 ?_
          refine v_iload E 2 rfl dX4_bisect_157 ?_
          refine v_callV E (As := [vi ((j : Int) + 2), vi (e : Int), vi ((lo j) + (hi j)), vi (2 * (hi j))]) (b := (ad 3002)) (ci := 3) (C := RX4) (T := TX4) (N := 27) hB_88.ho rfl (m_place2 κ H_80 (x := (j + 2)) (e := e) (m := (lo j + hi j)) (n := (2 * hi j)) hV_89 (by omega) (by omega) (by omega) (by omega) ⟨by omega, by omega⟩ ⟨by omega, by omega⟩ ⟨by omega, by omega⟩ ⟨by omega, by omega⟩ h7_87 hF9.2.2.2.1 hF9.2.2.2.2 hft.2.2 hI hB_88) (lw_V q2102 q2104 qs65 q82 q2105) 4 (by decide +kernel) rfl (by decide) (by decide) (cb' := 0) (sb' := 0) (by decide) (by decide) rfl (rest := []) (Nat.le_of_ble_eq_true rfl) hAll9 dX4_bisect_159 (fun v_90 H_91 hpost_92 hz_93 hk_94 => ?_)
          clear hz_93
          obtain ⟨rfl, P_95, f_96, g_97, h7_98, hB_99, hV_100⟩ := hpost_92
          refine V.eq (st' := []) rfl ?_
          refine v_aload_n E 5 rfl dX4_bisect_162 ?_
          refine v_aload_n E 5 rfl dX4_bisect_163 ?_
          refine v_getf E in_X4 hB_99.ho (ci := 3) rfl 26 (by decide) q1786 rfl (v := vi ((M : Int) + ((2 : Nat) : Int))) rfl dX4_bisect_164 ?_
          refine v_callV E (As := [vi ((M : Int) + ((2 : Nat) : Int))]) (b := (ad 3002)) (ci := 3) (C := RX4) (T := TX4) (N := 27) hB_99.ho rfl (m_tells κ H_91 hI hB_99) (lw_V q1864 q1866 qs48 q82 q1867) 1 (by decide +kernel) rfl (by decide) (by decide) (cb' := 0) (sb' := 0) (by decide) (by decide) rfl (rest := []) (Nat.le_of_ble_eq_true rfl) (fun q h => hAll9 q (Or.inl h)) dX4_bisect_167 (fun v_101 H_102 hpost_103 hz_104 hk_105 => ?_)
          clear hz_104
          obtain ⟨rfl, hB_106⟩ := hpost_103
          have hV_107 : LV κ ad b1 b2 b3 b4 c2 (va_up (va_up (va_up lv2 j (e : Int)) (j + 1) (e : Int)) (j + 2) (e : Int)) (va_up (va_up (va_up lo2 j (2 * lo j)) (j + 1) (lo j + hi j)) (j + 2) (lo j + hi j)) (va_up (va_up (va_up hi2 j (lo j + hi j)) (j + 1) (lo j + hi j)) (j + 2) (2 * hi j)) (va_up (va_up (va_up rt2 j (plF F e (2 * lo j) (lo j + hi j))) (j + 1) (plF F e (lo j + hi j) (lo j + hi j))) (j + 2) (plF F e (lo j + hi j) (2 * hi j))) H_102 := hV_100.kept hk_105
          refine V.eq (st' := [vi ((M : Int) + ((2 : Nat) : Int))]) rfl ?_
          refine v_iret E hE dX4_bisect_170 ?_
          refine Or.inr (Or.inr ⟨by omega, by show lo j ≠ hi j; omega, by show lv j ≠ 12; omega, e, 2, b1, b2, b3, b4, c2, _, _, _, _, _, _, _, he, Or.inl ⟨rfl, by show pAt K (lo j + hi j) e = 0; omega⟩, rfl, h7_98, hB_106, hV_107, hc7, fun w7 => hd7.elim (fun h => h) (fun h => absurd h.2.1 (by omega)), hb7, fun i hi9 => ⟨bsF_2 hjM (fun i h1 h2 => (hl7 i h1 h2).1) hi9, bsF_2 hjM (fun i h1 h2 => (hl7 i h1 h2).2.1) hi9, bsF_2 hjM (fun i h1 h2 => (hl7 i h1 h2).2.2.1) hi9, by have h := bsF_2 (e0 := plF F e (2 * lo j) (lo j + hi j)) (e1 := plF F e (lo j + hi j) (lo j + hi j)) (e2 := plF F e (lo j + hi j) (2 * hi j)) hjM (fun i h1 h2 => (hl7 i h1 h2).2.2.2) hi9; exact h.trans (congrArg (fun q => bsF rt j 2 (plF F e (2 * lo j) (lo j + hi j)) q (plF F e (lo j + hi j) (2 * hi j)) i) plF_eq)⟩⟩)
      · refine v_aload_n E 0 rfl dX4_bisect_40 ?_
        refine v_iconst E dX4_bisect_41 ?_
        refine v_callV E (As := [vi 2]) (b := (ad 3002)) (ci := 3) (C := RX4) (T := TX4) (N := 27) hB_8.ho rfl (m_fails κ H_3 hI hB_8) (lw_V q1857 q1859 qs47 q82 q1860) 1 (by decide +kernel) rfl (by decide) (by decide) (cb' := ((4 - 0) - 0)) (sb' := ((8 * cap - 0) - 0)) (by omega) (by omega) rfl (rest := []) (Nat.le_of_ble_eq_true rfl) (fun q h => hAll q (Or.inl h)) dX4_bisect_42 (fun v_108 H_109 hpost_110 hz_111 hk_112 => ?_)
        clear hz_111
        obtain ⟨rfl, hB_113⟩ := hpost_110
        have hV_114 : LV κ ad a1 a2 a3 a4 cap lv lo hi rt H_109 := hV_9.kept hk_112
        refine V.eq (st' := [vi 0]) rfl ?_
        refine v_iret E hE dX4_bisect_45 ?_
        exact Or.inr (Or.inl ⟨by omega, by show lo j = hi j ∨ lv j = 12; omega, rfl, hB_113, hV_114⟩)
  · refine v_aload_n E 0 rfl dX4_bisect_8 ?_
    refine v_iconst E dX4_bisect_9 ?_
    refine v_callV E (As := [vi 1]) (b := (ad 3002)) (ci := 3) (C := RX4) (T := TX4) (N := 27) hB_8.ho rfl (m_fails κ H_3 hI hB_8) (lw_V q1857 q1859 qs47 q82 q1860) 1 (by decide +kernel) rfl (by decide) (by decide) (cb' := ((4 - 0) - 0)) (sb' := ((8 * cap - 0) - 0)) (by omega) (by omega) rfl (rest := []) (Nat.le_of_ble_eq_true rfl) (fun q h => hAll q (Or.inl h)) dX4_bisect_10 (fun v_115 H_116 hpost_117 hz_118 hk_119 => ?_)
    clear hz_118
    obtain ⟨rfl, hB_120⟩ := hpost_117
    have hV_121 : LV κ ad a1 a2 a3 a4 cap lv lo hi rt H_116 := hV_9.kept hk_119
    refine V.eq (st' := [vi 0]) rfl ?_
    refine v_iret E hE dX4_bisect_13 ?_
    exact Or.inl ⟨by omega, rfl, hB_120, hV_121⟩
