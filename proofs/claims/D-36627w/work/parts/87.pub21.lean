set_option maxHeartbeats 400000 in
set_option maxRecDepth 100000 in
/-- refine -/
theorem m_refine (κ : zK) (H0 : Heap) {ad : Nat → Nat} {P : Nat → Nat → Int} {f g mk : Nat → Int} {S : Nat → Nat → Int} {K : Nat → Int} {thr len : Int} {a1 a2 a3 a4 : Nat} {cap : Nat} {lv lo hi rt : Nat → Int} {x t : Int} {M : Nat} {F : Nat → Int} (hx : rI x) (ht : rI t) (hMc : M ≤ cap) (hcp : cap < 1000000) (hL9 : okL M lv lo hi rt) (hK9 : 0 < M → okK K (P 7) F) (hfit : ∀ (j e T : Nat), x = (j : Int) → t = (T : Int) → j < M → rt j = 1 → lo j ≠ hi j → lv j + t ≤ 12 → lv j = (e : Int) → okRf K F T e (lo j) (hi j)) (hI : Inj ad) (hB : MB κ ad P f g mk S K thr len (M : Int) a1 a2 a3 a4 H0) (hV : LV κ ad a1 a2 a3 a4 cap lv lo hi rt H0) : Mt κ yX4_refine cX4_refine 8 (some .int) 5 128 0 0 H0 [.ref (ad 3002), vi x, vi t] (AI ad a1 a2 a3 a4) (fun v H1 => (¬ (0 ≤ x ∧ x < (M : Int)) ∧ v = some (vi 0) ∧ MB κ ad P f g mk S K 1 len (M : Int) a1 a2 a3 a4 H1 ∧ LV κ ad a1 a2 a3 a4 cap lv lo hi rt H1) ∨ ((0 ≤ x ∧ x < (M : Int)) ∧ ¬ (1 ≤ t ∧ t ≤ 6) ∧ v = some (vi 0) ∧ MB κ ad P f g mk S K 2 len (M : Int) a1 a2 a3 a4 H1 ∧ LV κ ad a1 a2 a3 a4 cap lv lo hi rt H1) ∨ ((0 ≤ x ∧ x < (M : Int)) ∧ (1 ≤ t ∧ t ≤ 6) ∧ (rt x.toNat ≠ 1 ∨ lo x.toNat = hi x.toNat ∨ 12 < lv x.toNat + t) ∧ v = some (vi 0) ∧ MB κ ad P f g mk S K 3 len (M : Int) a1 a2 a3 a4 H1 ∧ LV κ ad a1 a2 a3 a4 cap lv lo hi rt H1) ∨ ((0 ≤ x ∧ x < (M : Int)) ∧ (1 ≤ t ∧ t ≤ 6) ∧ ¬ (rt x.toNat ≠ 1 ∨ lo x.toNat = hi x.toNat ∨ 12 < lv x.toNat + t) ∧ ∃ (e0 : Nat) (lv2 lo2 hi2 rt2 : Nat → Int) (P1 : Nat → Nat → Int) (f1 g1 : Nat → Int), lv x.toNat = (e0 : Int) ∧ v = some (vi ((rfS K F t.toNat e0 (lo x.toNat) (hi x.toNat) (rt x.toNat)).1 : Int)) ∧ eq7 (P1 7) F ∧ MB κ ad P1 f1 g1 mk S K 0 len (M : Int) a1 a2 a3 a4 H1 ∧ LV κ ad a1 a2 a3 a4 cap lv2 lo2 hi2 rt2 H1 ∧ lv2 x.toNat = ((rfS K F t.toNat e0 (lo x.toNat) (hi x.toNat) (rt x.toNat)).1 : Int) ∧ lo2 x.toNat = (rfS K F t.toNat e0 (lo x.toNat) (hi x.toNat) (rt x.toNat)).2.1 ∧ hi2 x.toNat = (rfS K F t.toNat e0 (lo x.toNat) (hi x.toNat) (rt x.toNat)).2.2.1 ∧ rt2 x.toNat = (rfS K F t.toNat e0 (lo x.toNat) (hi x.toNat) (rt x.toNat)).2.2.2 ∧ ∀ i, i ≠ x.toNat → lv2 i = lv i ∧ lo2 i = lo i ∧ hi2 i = hi i ∧ rt2 i = rt i)) := by
  refine Mt.of (by decide) (Nat.le_of_ble_eq_true rfl) ?_
  intro z E hE hH0 hA0 hL hini
  have hAll : ∀ q, (AI ad a1 a2 a3 a4) q → zA z.A z.H0 q := fun q h => Or.inl (by rw [hA0]; exact h)
  have hNew : ∀ q, H0.size ≤ q → zA z.A z.H0 q := fun q h => Or.inr (by rw [hH0]; exact h)
  have E : zOK z cX4_refine RX4 κ 5 128 (some .int) := E
  refine V.eqL (lv' := [(0, .ref (ad 3002)), (1, vi x), (2, vi t)]) rfl ?_
  refine v_aload_n E 0 rfl dX4_refine_0 ?_
  refine v_iload_n E 1 rfl dX4_refine_1 ?_
  refine v_callV E (As := [vi x]) (b := (ad 3002)) (ci := 3) (C := RX4) (T := TX4) (N := 27) hB.ho rfl (m_isIv κ H0 (by first | assumption | exact ⟨by omega, by omega⟩) (show rI (M : Int) from ⟨by omega, by omega⟩) hB) (lw_V q2114 q2116 qs66 q82 q2117) 1 (by decide +kernel) rfl (by decide) (by decide) (cb' := 0) (sb' := 0) (by decide) (by decide) rfl (rest := []) (Nat.le_of_ble_eq_true rfl) (fun q h => h.elim) dX4_refine_2 (fun v_2 H_3 hpost_4 hz_5 hk_6 => ?_)
  clear hz_5
  obtain rfl := hpost_4
  obtain ⟨b_1, hb_7, hb_7e⟩ : ∃ b9 : Int, (b9 = 0 ∧ ¬ (0 ≤ x ∧ x < (M : Int)) ∨ b9 = 1 ∧ (0 ≤ x ∧ x < (M : Int))) ∧ (if 0 ≤ x ∧ x < (M : Int) then 1 else 0 : Int) = b9 := by
    by_cases c : 0 ≤ x ∧ x < (M : Int)
    · exact ⟨1, Or.inr ⟨rfl, c⟩, if_pos c⟩
    · exact ⟨0, Or.inl ⟨rfl, c⟩, if_neg c⟩
  have hB_8 : MB κ ad P f g mk S K thr len (M : Int) a1 a2 a3 a4 H_3 := hB.nil hk_6
  have hV_9 : LV κ ad a1 a2 a3 a4 cap lv lo hi rt H_3 := hV.nil hk_6
  refine V.eq (st' := [vi b_1]) (by rw [hb_7e]; rfl) ?_
  refine v_if_ne E (tgt := 14) dX4_refine_5 (by decide) ⟨by omega, by omega⟩ (fun c_5 => ?_) (fun c_5 => ?_)
  · refine v_iload_n E 2 rfl dX4_refine_14 ?_
    refine v_iconst E dX4_refine_15 ?_
    refine v_bipush E ⟨by decide, by decide⟩ dX4_refine_16 ?_
    refine v_callS E (As := [vi t, vi 1, vi 6]) (m_in κ H_3 (by first | assumption | decide | exact ⟨by omega, by omega⟩) (by first | assumption | decide | exact ⟨by omega, by omega⟩) (by first | assumption | decide | exact ⟨by omega, by omega⟩)) (lw_S q1854 q1855 q82 q1856) 3 (by decide +kernel) rfl (by decide) (by decide) (cb' := 0) (sb' := 0) (by decide) (by decide) rfl (rest := []) (Nat.le_of_ble_eq_true rfl) (fun q h => h.elim) dX4_refine_18 (fun v_11 H_12 hpost_13 hz_14 hk_15 => ?_)
    clear hz_14
    obtain rfl := hpost_13
    obtain ⟨b_10, hb_16, hb_16e⟩ : ∃ b9 : Int, (b9 = 0 ∧ ¬ (1 ≤ t ∧ t ≤ 6) ∨ b9 = 1 ∧ (1 ≤ t ∧ t ≤ 6)) ∧ (if 1 ≤ t ∧ t ≤ 6 then 1 else 0 : Int) = b9 := by
      by_cases c : 1 ≤ t ∧ t ≤ 6
      · exact ⟨1, Or.inr ⟨rfl, c⟩, if_pos c⟩
      · exact ⟨0, Or.inl ⟨rfl, c⟩, if_neg c⟩
    have hB_17 : MB κ ad P f g mk S K thr len (M : Int) a1 a2 a3 a4 H_12 := hB_8.nil hk_15
    have hV_18 : LV κ ad a1 a2 a3 a4 cap lv lo hi rt H_12 := hV_9.nil hk_15
    refine V.eq (st' := [vi b_10]) (by rw [hb_16e]; rfl) ?_
    refine v_if_ne E (tgt := 30) dX4_refine_21 (by decide) ⟨by omega, by omega⟩ (fun c_21 => ?_) (fun c_21 => ?_)
    · obtain ⟨j, rfl⟩ : ∃ j : Nat, x = (j : Int) := ⟨x.toNat, by omega⟩
      have hjM : j < M := by omega
      have hLj := hL9 j hjM
      have hF9 := hK9 (by omega)
      have hrj := hLj.2.2.2
      obtain ⟨T, rfl⟩ : ∃ T : Nat, t = (T : Int) := ⟨t.toNat, by omega⟩
      obtain ⟨e0, he0⟩ : ∃ e0 : Nat, lv j = (e0 : Int) := ⟨(lv j).toNat, by omega⟩
      refine V.eqL (lv' := [(0, .ref (ad 3002)), (1, vi (j : Int)), (2, vi (T : Int))]) rfl ?_
      refine v_aload_n E 0 rfl dX4_refine_30 ?_
      refine v_getf E in_X4 hB_17.ho (ci := 3) rfl 25 (by decide) q1785 rfl (v := .ref a4) rfl dX4_refine_31 ?_
      refine v_iload_n E 1 rfl dX4_refine_34 ?_
      refine v_iald E dX4_refine_35 hV_18.2.2.2.2.2 j rfl (by omega) (by omega) ?_
      refine v_iconst E dX4_refine_36 ?_
      refine v_icmp_ne E (tgt := 68) dX4_refine_37 (by decide) ⟨by omega, by omega⟩ ⟨by omega, by omega⟩ (fun c_37 => ?_) (fun c_37 => ?_)
      · refine v_aload_n E 0 rfl dX4_refine_68 ?_
        refine v_iconst E dX4_refine_69 ?_
        refine v_callV E (As := [vi 3]) (b := (ad 3002)) (ci := 3) (C := RX4) (T := TX4) (N := 27) hB_17.ho rfl (m_fails κ H_12 hI hB_17) (lw_V q1857 q1859 qs47 q82 q1860) 1 (by decide +kernel) rfl (by decide) (by decide) (cb' := 0) (sb' := 0) (by decide) (by decide) rfl (rest := []) (Nat.le_of_ble_eq_true rfl) (fun q h => hAll q (Or.inl h)) dX4_refine_70 (fun v_19 H_20 hpost_21 hz_22 hk_23 => ?_)
        clear hz_22
        obtain ⟨rfl, hB_24⟩ := hpost_21
        have hV_25 : LV κ ad a1 a2 a3 a4 cap lv lo hi rt H_20 := hV_18.kept hk_23
        refine V.eq (st' := [vi 0]) rfl ?_
        refine v_iret E hE dX4_refine_73 ?_
        exact Or.inr (Or.inr (Or.inl ⟨by omega, by omega, by show rt j ≠ 1 ∨ lo j = hi j ∨ 12 < lv j + (T : Int); omega, rfl, hB_24, hV_25⟩))
      · refine v_aload_n E 0 rfl dX4_refine_40 ?_
        refine v_getf E in_X4 hB_17.ho (ci := 3) rfl 23 (by decide) q1783 rfl (v := .ref a2) rfl dX4_refine_41 ?_
        refine v_iload_n E 1 rfl dX4_refine_44 ?_
        refine v_iald E dX4_refine_45 hV_18.2.2.2.1 j rfl (by omega) (by omega) ?_
        refine v_aload_n E 0 rfl dX4_refine_46 ?_
        refine v_getf E in_X4 hB_17.ho (ci := 3) rfl 24 (by decide) q1784 rfl (v := .ref a3) rfl dX4_refine_47 ?_
        refine v_iload_n E 1 rfl dX4_refine_50 ?_
        refine v_iald E dX4_refine_51 hV_18.2.2.2.2.1 j rfl (by omega) (by omega) ?_
        refine v_icmp_eq E (tgt := 68) dX4_refine_52 (by decide) ⟨by omega, by omega⟩ ⟨by omega, by omega⟩ (fun c_52 => ?_) (fun c_52 => ?_)
        · refine v_aload_n E 0 rfl dX4_refine_68 ?_
          refine v_iconst E dX4_refine_69 ?_
          refine v_callV E (As := [vi 3]) (b := (ad 3002)) (ci := 3) (C := RX4) (T := TX4) (N := 27) hB_17.ho rfl (m_fails κ H_12 hI hB_17) (lw_V q1857 q1859 qs47 q82 q1860) 1 (by decide +kernel) rfl (by decide) (by decide) (cb' := 0) (sb' := 0) (by decide) (by decide) rfl (rest := []) (Nat.le_of_ble_eq_true rfl) (fun q h => hAll q (Or.inl h)) dX4_refine_70 (fun v_26 H_27 hpost_28 hz_29 hk_30 => ?_)
          clear hz_29
          obtain ⟨rfl, hB_31⟩ := hpost_28
          have hV_32 : LV κ ad a1 a2 a3 a4 cap lv lo hi rt H_27 := hV_18.kept hk_30
          refine V.eq (st' := [vi 0]) rfl ?_
          refine v_iret E hE dX4_refine_73 ?_
          exact Or.inr (Or.inr (Or.inl ⟨by omega, by omega, by show rt j ≠ 1 ∨ lo j = hi j ∨ 12 < lv j + (T : Int); omega, rfl, hB_31, hV_32⟩))
        · refine v_aload_n E 0 rfl dX4_refine_55 ?_
          refine v_getf E in_X4 hB_17.ho (ci := 3) rfl 22 (by decide) q1782 rfl (v := .ref a1) rfl dX4_refine_56 ?_
          refine v_iload_n E 1 rfl dX4_refine_59 ?_
          refine v_iald E dX4_refine_60 hV_18.2.2.1 j rfl (by omega) (by omega) ?_
          refine v_iload_n E 2 rfl dX4_refine_61 ?_
          refine v_iadd E dX4_refine_62 ?_
          refine v_bipush E ⟨by decide, by decide⟩ dX4_refine_63 ?_
          refine v_icmp_le E (tgt := 74) dX4_refine_65 (by decide) ⟨by omega, by omega⟩ ⟨by omega, by omega⟩ (fun c_65 => ?_) (fun c_65 => ?_)
          · refine v_iconst E dX4_refine_74 ?_
            refine v_istore_n E dX4_refine_75 (zlt hL rfl) (lv' := [(3, vi 0), (0, .ref (ad 3002)), (1, vi (j : Int)), (2, vi (T : Int))]) rfl ?_
            have loop_76 : ∀ (m_76 : Nat) (H : Heap) (k e : Nat) (lv5 lo5 hi5 rt5 : Nat → Int) (P5 : Nat → Nat → Int) (f5 g5 : Nat → Int), T - k < m_76 → (k ≤ T) → (lv5 j = (e : Int)) → (∀ i, i ≠ j → lv5 i = lv i ∧ lo5 i = lo i ∧ hi5 i = hi i ∧ rt5 i = rt i) → (eq7 (P5 7) F) → (e + (T - k) ≤ 12) → ((-268435456 ≤ lo5 j ∧ lo5 j ≤ 268435456) ∧ (-268435456 ≤ hi5 j ∧ hi5 j ≤ 268435456) ∧ rI (rt5 j)) → (okRf K F (T - k) e (lo5 j) (hi5 j)) → (rfS K F T e0 (lo j) (hi j) (rt j) = rfS K F (T - k) e (lo5 j) (hi5 j) (rt5 j)) → MB κ ad P5 f5 g5 mk S K thr len (M : Int) a1 a2 a3 a4 H → LV κ ad a1 a2 a3 a4 cap lv5 lo5 hi5 rt5 H → V z H 0 0 76 [(3, vi (k : Int)), (2, vi (T : Int)), (1, vi (j : Int)), (0, .ref (ad 3002))] [] := by
              intro m_76
              induction m_76 with
              | zero => intro H k e lv5 lo5 hi5 rt5 P5 f5 g5 hm; exact absurd hm (by omega)
              | succ m_76 ih_76 =>
                intro H k e lv5 lo5 hi5 rt5 P5 f5 g5 hm_76 hk he5 hoth h75 hek hlb hok hres hB hV
                refine v_iload_n E 0 rfl dX4_refine_76 ?_
                refine v_iload_n E 1 rfl dX4_refine_77 ?_
                refine v_icmp_ge E (tgt := 203) dX4_refine_78 (by decide) ⟨by omega, by omega⟩ ⟨by omega, by omega⟩ (fun c_78 => ?_) (fun c_78 => ?_)
                · refine v_aload_n E 3 rfl dX4_refine_203 ?_
                  refine v_aload_n E 3 rfl dX4_refine_204 ?_
                  refine v_getf E in_X4 hB.ho (ci := 3) rfl 22 (by decide) q1782 rfl (v := .ref a1) rfl dX4_refine_205 ?_
                  refine v_iload_n E 2 rfl dX4_refine_208 ?_
                  refine v_iald E dX4_refine_209 hV.2.2.1 j rfl (by omega) (by omega) ?_
                  refine v_callV E (As := [vi (lv5 j)]) (b := (ad 3002)) (ci := 3) (C := RX4) (T := TX4) (N := 27) hB.ho rfl (m_tells κ H hI hB) (lw_V q1864 q1866 qs48 q82 q1867) 1 (by decide +kernel) rfl (by decide) (by decide) (cb' := 0) (sb' := 0) (by decide) (by decide) rfl (rest := []) (Nat.le_of_ble_eq_true rfl) (fun q h => hAll q (Or.inl h)) dX4_refine_210 (fun v_33 H_34 hpost_35 hz_36 hk_37 => ?_)
                  clear hz_36
                  obtain ⟨rfl, hB_38⟩ := hpost_35
                  have hV_39 : LV κ ad a1 a2 a3 a4 cap lv5 lo5 hi5 rt5 H_34 := hV.kept hk_37
                  refine V.eq (st' := [vi (lv5 j)]) rfl ?_
                  refine v_iret E hE dX4_refine_213 ?_
                  have hfin : rfS K F T e0 (lo j) (hi j) (rt j) = (e, lo5 j, hi5 j, rt5 j) := hres.trans (rfS_end (by omega))
                  refine Or.inr (Or.inr (Or.inr ⟨by omega, by omega, by show ¬ (rt j ≠ 1 ∨ lo j = hi j ∨ 12 < lv j + (T : Int)); omega, e0, lv5, lo5, hi5, rt5, P5, f5, g5, he0, ?_, h75, hB_38, hV_39, ?_, ?_, ?_, ?_, hoth⟩))
                  all_goals show _ = _
                  · show some (vi (lv5 j)) = some (vi ((rfS K F T e0 (lo j) (hi j) (rt j)).1 : Int)); rw [hfin, he5]
                  · show lv5 j = ((rfS K F T e0 (lo j) (hi j) (rt j)).1 : Int); rw [hfin]; exact he5
                  · show lo5 j = (rfS K F T e0 (lo j) (hi j) (rt j)).2.1; rw [hfin]
                  · show hi5 j = (rfS K F T e0 (lo j) (hi j) (rt j)).2.2.1; rw [hfin]
                  · show rt5 j = (rfS K F T e0 (lo j) (hi j) (rt j)).2.2.2; rw [hfin]
                · refine v_aload_n E 3 rfl dX4_refine_81 ?_
                  refine v_getf E in_X4 hB.ho (ci := 3) rfl 23 (by decide) q1783 rfl (v := .ref a2) rfl dX4_refine_82 ?_
                  refine v_iload_n E 2 rfl dX4_refine_85 ?_
                  refine v_iald E dX4_refine_86 hV.2.2.2.1 j rfl (by omega) (by omega) ?_
                  refine v_aload_n E 3 rfl dX4_refine_87 ?_
                  refine v_getf E in_X4 hB.ho (ci := 3) rfl 24 (by decide) q1784 rfl (v := .ref a3) rfl dX4_refine_88 ?_
                  refine v_iload_n E 2 rfl dX4_refine_91 ?_
                  refine v_iald E dX4_refine_92 hV.2.2.2.2.1 j rfl (by omega) (by omega) ?_
                  refine v_icmp_ge E (tgt := 203) dX4_refine_93 (by decide) ⟨by omega, by omega⟩ ⟨by omega, by omega⟩ (fun c_93 => ?_) (fun c_93 => ?_)
                  · refine v_aload_n E 3 rfl dX4_refine_203 ?_
                    refine v_aload_n E 3 rfl dX4_refine_204 ?_
                    refine v_getf E in_X4 hB.ho (ci := 3) rfl 22 (by decide) q1782 rfl (v := .ref a1) rfl dX4_refine_205 ?_
                    refine v_iload_n E 2 rfl dX4_refine_208 ?_
                    refine v_iald E dX4_refine_209 hV.2.2.1 j rfl (by omega) (by omega) ?_
                    refine v_callV E (As := [vi (lv5 j)]) (b := (ad 3002)) (ci := 3) (C := RX4) (T := TX4) (N := 27) hB.ho rfl (m_tells κ H hI hB) (lw_V q1864 q1866 qs48 q82 q1867) 1 (by decide +kernel) rfl (by decide) (by decide) (cb' := 0) (sb' := 0) (by decide) (by decide) rfl (rest := []) (Nat.le_of_ble_eq_true rfl) (fun q h => hAll q (Or.inl h)) dX4_refine_210 (fun v_40 H_41 hpost_42 hz_43 hk_44 => ?_)
                    clear hz_43
                    obtain ⟨rfl, hB_45⟩ := hpost_42
                    have hV_46 : LV κ ad a1 a2 a3 a4 cap lv5 lo5 hi5 rt5 H_41 := hV.kept hk_44
                    refine V.eq (st' := [vi (lv5 j)]) rfl ?_
                    refine v_iret E hE dX4_refine_213 ?_
                    have hfin : rfS K F T e0 (lo j) (hi j) (rt j) = (e, lo5 j, hi5 j, rt5 j) := hres.trans (rfS_end (by omega))
                    refine Or.inr (Or.inr (Or.inr ⟨by omega, by omega, by show ¬ (rt j ≠ 1 ∨ lo j = hi j ∨ 12 < lv j + (T : Int)); omega, e0, lv5, lo5, hi5, rt5, P5, f5, g5, he0, ?_, h75, hB_45, hV_46, ?_, ?_, ?_, ?_, hoth⟩))
                    all_goals show _ = _
                    · show some (vi (lv5 j)) = some (vi ((rfS K F T e0 (lo j) (hi j) (rt j)).1 : Int)); rw [hfin, he5]
                    · show lv5 j = ((rfS K F T e0 (lo j) (hi j) (rt j)).1 : Int); rw [hfin]; exact he5
                    · show lo5 j = (rfS K F T e0 (lo j) (hi j) (rt j)).2.1; rw [hfin]
                    · show hi5 j = (rfS K F T e0 (lo j) (hi j) (rt j)).2.2.1; rw [hfin]
                    · show rt5 j = (rfS K F T e0 (lo j) (hi j) (rt j)).2.2.2; rw [hfin]
                  · obtain ⟨s9, hs9⟩ : ∃ s9, T - k = s9 + 1 := ⟨T - k - 1, by omega⟩
                    rw [hs9] at hok hres
                    have hk9 := hok (by omega)
                    have hst : rfS K F (s9 + 1) e (lo5 j) (hi5 j) (rt5 j) = rfS K F s9 (e + 1) (rfF K F (e + 1) (lo5 j) (hi5 j)).1 (rfF K F (e + 1) (lo5 j) (hi5 j)).2 (rfR K F (e + 1) (lo5 j) (hi5 j)) := if_pos (by omega)
                    refine v_aload_n E 3 rfl dX4_refine_96 ?_
                    refine v_getf E in_X4 hB.ho (ci := 3) rfl 22 (by decide) q1782 rfl (v := .ref a1) rfl dX4_refine_97 ?_
                    refine v_iload_n E 2 rfl dX4_refine_100 ?_
                    refine v_iald E dX4_refine_101 hV.2.2.1 j rfl (by omega) (by omega) ?_
                    refine v_iconst E dX4_refine_102 ?_
                    refine v_iadd E dX4_refine_103 ?_
                    refine V.topi (x' := ((e + 1 : Nat) : Int)) (by rw [he5]; rfl) ?_
                    refine v_istore E dX4_refine_104 (zlt hL rfl) (lv' := [(4, vi ((e + 1 : Nat) : Int)), (3, vi (k : Int)), (2, vi (T : Int)), (1, vi (j : Int)), (0, .ref (ad 3002))]) rfl ?_
                    refine v_iconst E dX4_refine_106 ?_
                    refine v_aload_n E 4 rfl dX4_refine_107 ?_
                    refine v_getf E in_X4 hB.ho (ci := 3) rfl 23 (by decide) q1783 rfl (v := .ref a2) rfl dX4_refine_108 ?_
                    refine v_iload_n E 3 rfl dX4_refine_111 ?_
                    refine v_iald E dX4_refine_112 hV.2.2.2.1 j rfl (by omega) (by omega) ?_
                    refine v_imul E dX4_refine_113 ?_
                    refine v_istore E dX4_refine_114 (zlt hL rfl) (lv' := [(5, vi (2 * (lo5 j))), (4, vi ((e + 1 : Nat) : Int)), (3, vi (k : Int)), (2, vi (T : Int)), (1, vi (j : Int)), (0, .ref (ad 3002))]) rfl ?_
                    refine v_iconst E dX4_refine_116 ?_
                    refine v_aload_n E 5 rfl dX4_refine_117 ?_
                    refine v_getf E in_X4 hB.ho (ci := 3) rfl 24 (by decide) q1784 rfl (v := .ref a3) rfl dX4_refine_118 ?_
                    refine v_iload_n E 4 rfl dX4_refine_121 ?_
                    refine v_iald E dX4_refine_122 hV.2.2.2.2.1 j rfl (by omega) (by omega) ?_
                    refine v_imul E dX4_refine_123 ?_
                    refine v_istore E dX4_refine_124 (zlt hL rfl) (lv' := [(6, vi (2 * (hi5 j))), (5, vi (2 * (lo5 j))), (4, vi ((e + 1 : Nat) : Int)), (3, vi (k : Int)), (2, vi (T : Int)), (1, vi (j : Int)), (0, .ref (ad 3002))]) rfl ?_
                    refine v_aload_n E 6 rfl dX4_refine_126 ?_
                    refine v_getf E in_X4 hB.ho (ci := 3) rfl 23 (by decide) q1783 rfl (v := .ref a2) rfl dX4_refine_127 ?_
                    refine v_iload_n E 5 rfl dX4_refine_130 ?_
                    refine v_iald E dX4_refine_131 hV.2.2.2.1 j rfl (by omega) (by omega) ?_
                    refine v_aload_n E 6 rfl dX4_refine_132 ?_
                    refine v_getf E in_X4 hB.ho (ci := 3) rfl 24 (by decide) q1784 rfl (v := .ref a3) rfl dX4_refine_133 ?_
                    refine v_iload_n E 5 rfl dX4_refine_136 ?_
                    refine v_iald E dX4_refine_137 hV.2.2.2.2.1 j rfl (by omega) (by omega) ?_
                    refine v_iadd E dX4_refine_138 ?_
                    refine v_istore E dX4_refine_139 (zlt hL rfl) (lv' := [(7, vi ((lo5 j) + (hi5 j))), (6, vi (2 * (hi5 j))), (5, vi (2 * (lo5 j))), (4, vi ((e + 1 : Nat) : Int)), (3, vi (k : Int)), (2, vi (T : Int)), (1, vi (j : Int)), (0, .ref (ad 3002))]) rfl ?_
                    refine v_aload_n E 7 rfl dX4_refine_141 ?_
                    refine v_iload E 0 rfl dX4_refine_142 ?_
                    refine v_iload E 3 rfl dX4_refine_144 ?_
                    refine v_callV E (As := [vi ((lo5 j) + (hi5 j)), vi ((e + 1 : Nat) : Int)]) (b := (ad 3002)) (ci := 3) (C := RX4) (T := TX4) (N := 27) hB.ho rfl (m_isRoot κ H (n := (lo5 j) + (hi5 j)) (k := ((e + 1 : Nat) : Int)) hF9.1 hF9.2.1 ⟨by omega, by omega⟩ ⟨by omega, by omega⟩ ⟨by omega, by omega⟩ hk9.2.2.1 hI hB) (lw_V q2126 q2128 qs67 q82 q2129) 2 (by decide +kernel) rfl (by decide) (by decide) (cb' := 0) (sb' := 0) (by decide) (by decide) rfl (rest := []) (Nat.le_of_ble_eq_true rfl) (fun q h => hAll q (Or.inl h)) dX4_refine_146 (fun v_48 H_49 hpost_50 hz_51 hk_52 => ?_)
                    clear hz_51
                    obtain ⟨rfl, P_54, f_55, h7_56, hB_57⟩ := hpost_50
                    have h7_56 := h7_56.trans h75
                    obtain ⟨b_47, hb_53, hb_53e⟩ : ∃ b9 : Int, (b9 = 0 ∧ ¬ (pAt K ((lo5 j) + (hi5 j)) (e + 1) = 0) ∨ b9 = 1 ∧ (pAt K ((lo5 j) + (hi5 j)) (e + 1) = 0)) ∧ (if pAt K ((lo5 j) + (hi5 j)) (e + 1) = 0 then 1 else 0 : Int) = b9 := by
                      by_cases c : pAt K ((lo5 j) + (hi5 j)) (e + 1) = 0
                      · exact ⟨1, Or.inr ⟨rfl, c⟩, if_pos c⟩
                      · exact ⟨0, Or.inl ⟨rfl, c⟩, if_neg c⟩
                    have hV_58 : LV κ ad a1 a2 a3 a4 cap lv5 lo5 hi5 rt5 H_49 := hV.kept hk_52
                    refine V.eq (st' := [vi b_47]) (by rw [← hb_53e]; rfl) ?_
                    refine v_if_eq E (tgt := 166) dX4_refine_149 (by decide) ⟨by omega, by omega⟩ (fun c_149 => ?_) (fun c_149 => ?_)
                    · refine v_aload_n E 7 rfl dX4_refine_166 ?_
                      refine v_iload_n E 6 rfl dX4_refine_167 ?_
                      refine v_iload E 3 rfl dX4_refine_168 ?_
                      refine v_iload E 2 rfl dX4_refine_170 ?_
                      refine v_iload E 0 rfl dX4_refine_172 ?_
                      refine v_callV E (As := [vi (j : Int), vi ((e + 1 : Nat) : Int), vi (2 * (lo5 j)), vi ((lo5 j) + (hi5 j))]) (b := (ad 3002)) (ci := 3) (C := RX4) (T := TX4) (N := 27) hB_57.ho rfl (m_place2 κ H_49 (x := j) (e := (e + 1)) (m := (2 * lo5 j)) (n := (lo5 j + hi5 j)) hV_58 (by omega) (by omega) (by omega) (by omega) ⟨by omega, by omega⟩ ⟨by omega, by omega⟩ ⟨by omega, by omega⟩ ⟨by omega, by omega⟩ h7_56 hF9.2.2.2.1 hF9.2.2.2.2 hk9.2.2.2.1 hI hB_57) (lw_V q2102 q2104 qs65 q82 q2105) 4 (by decide +kernel) rfl (by decide) (by decide) (cb' := 0) (sb' := 0) (by decide) (by decide) rfl (rest := []) (Nat.le_of_ble_eq_true rfl) hAll dX4_refine_174 (fun v_59 H_60 hpost_61 hz_62 hk_63 => ?_)
                      clear hz_62
                      obtain ⟨rfl, P_64, f_65, g_66, h7_67, hB_68, hV_69⟩ := hpost_61
                      refine V.eq (st' := []) rfl ?_
                      refine v_aload_n E 7 rfl dX4_refine_177 ?_
                      refine v_getf E in_X4 hB_68.ho (ci := 3) rfl 25 (by decide) q1785 rfl (v := .ref a4) rfl dX4_refine_178 ?_
                      refine v_iload_n E 6 rfl dX4_refine_181 ?_
                      refine v_iald E dX4_refine_182 hV_69.2.2.2.2.2 j rfl (by omega) (by omega) ?_
                      refine V.topi (x' := plF F (e + 1) (2 * lo5 j) (lo5 j + hi5 j)) (by rw [va_up_self]) ?_
                      have hpr := hk9.2.2.2.2.2.1
                      refine v_if_ne E (tgt := 197) dX4_refine_183 (by decide) ⟨by omega, by omega⟩ (fun c_183 => ?_) (fun c_183 => ?_)
                      · refine v_iinc E 4 rfl dX4_refine_197 (zlt hL rfl) (lv' := [(3, vi ((k : Int) + 1)), (7, vi ((lo5 j) + (hi5 j))), (6, vi (2 * (hi5 j))), (5, vi (2 * (lo5 j))), (4, vi ((e + 1 : Nat) : Int)), (2, vi (T : Int)), (1, vi (j : Int)), (0, .ref (ad 3002))]) rfl ?_
                        refine v_goto E (tgt := 76) dX4_refine_200 (by decide) ?_
                        refine V.sub [0, 5, 6, 7] (lv' := [(3, vi ((k : Int) + 1)), (2, vi (T : Int)), (1, vi (j : Int)), (0, .ref (ad 3002))]) rfl ?_
                        have hrf : rfF K F (e + 1) (lo5 j) (hi5 j) = ((2 * lo5 j), (lo5 j + hi5 j)) := by unfold rfF; rw [if_neg (by omega), if_neg (by omega)]
                        have hrg : rfR K F (e + 1) (lo5 j) (hi5 j) = (plF F (e + 1) (2 * lo5 j) (lo5 j + hi5 j)) := by unfold rfR; rw [if_neg (by omega), if_neg (by omega)]
                        rw [hrf] at hk9 hst
                        rw [hrg] at hst
                        exact V.eqL (by rw [show ((k + 1 : Nat) : Int) = (k : Int) + 1 from rfl]) (ih_76  H_60 (k + 1) (e + 1) (va_up lv5 j ((e + 1) : Int)) (va_up lo5 j (2 * lo5 j)) (va_up hi5 j (lo5 j + hi5 j)) (va_up rt5 j (plF F (e + 1) (2 * lo5 j) (lo5 j + hi5 j))) P_64 f_65 g_66 (by omega) (by omega) (va_up_self _ _ _) (fun i hi => by simp only [va_up_ne _ _ hi]; exact hoth i hi) h7_67 (by omega) (by simp only [va_up_self]; exact ⟨⟨by omega, by omega⟩, ⟨by omega, by omega⟩, hk9.2.2.2.2.2.1⟩) (by simp only [va_up_self]; rw [show T - (k + 1) = s9 by omega]; exact hk9.2.2.2.2.2.2.2) (by simp only [va_up_self]; rw [show T - (k + 1) = s9 by omega]; exact hres.trans hst) hB_68 hV_69)
                      · refine v_aload_n E 7 rfl dX4_refine_186 ?_
                        refine v_iload_n E 6 rfl dX4_refine_187 ?_
                        refine v_iload E 3 rfl dX4_refine_188 ?_
                        refine v_iload E 0 rfl dX4_refine_190 ?_
                        refine v_iload E 1 rfl dX4_refine_192 ?_
                        refine v_callV E (As := [vi (j : Int), vi ((e + 1 : Nat) : Int), vi ((lo5 j) + (hi5 j)), vi (2 * (hi5 j))]) (b := (ad 3002)) (ci := 3) (C := RX4) (T := TX4) (N := 27) hB_68.ho rfl (m_place2 κ H_60 (x := j) (e := (e + 1)) (m := (lo5 j + hi5 j)) (n := (2 * hi5 j)) hV_69 (by omega) (by omega) (by omega) (by omega) ⟨by omega, by omega⟩ ⟨by omega, by omega⟩ ⟨by omega, by omega⟩ ⟨by omega, by omega⟩ h7_67 hF9.2.2.2.1 hF9.2.2.2.2 hk9.2.2.2.2.1 hI hB_68) (lw_V q2102 q2104 qs65 q82 q2105) 4 (by decide +kernel) rfl (by decide) (by decide) (cb' := 0) (sb' := 0) (by decide) (by decide) rfl (rest := []) (Nat.le_of_ble_eq_true rfl) hAll dX4_refine_194 (fun v_70 H_71 hpost_72 hz_73 hk_74 => ?_)
                        clear hz_73
                        obtain ⟨rfl, P_75, f_76, g_77, h7_78, hB_79, hV_80⟩ := hpost_72
                        refine V.eq (st' := []) rfl ?_
                        refine v_iinc E 4 rfl dX4_refine_197 (zlt hL rfl) (lv' := [(3, vi ((k : Int) + 1)), (7, vi ((lo5 j) + (hi5 j))), (6, vi (2 * (hi5 j))), (5, vi (2 * (lo5 j))), (4, vi ((e + 1 : Nat) : Int)), (2, vi (T : Int)), (1, vi (j : Int)), (0, .ref (ad 3002))]) rfl ?_
                        refine v_goto E (tgt := 76) dX4_refine_200 (by decide) ?_
                        refine V.sub [0, 5, 6, 7] (lv' := [(3, vi ((k : Int) + 1)), (2, vi (T : Int)), (1, vi (j : Int)), (0, .ref (ad 3002))]) rfl ?_
                        have hrf : rfF K F (e + 1) (lo5 j) (hi5 j) = ((lo5 j + hi5 j), (2 * hi5 j)) := by unfold rfF; rw [if_neg (by omega), if_pos (by omega)]
                        have hrg : rfR K F (e + 1) (lo5 j) (hi5 j) = (plF F (e + 1) (lo5 j + hi5 j) (2 * hi5 j)) := by unfold rfR; rw [if_neg (by omega), if_pos (by omega)]
                        rw [hrf] at hk9 hst
                        rw [hrg] at hst
                        exact V.eqL (by rw [show ((k + 1 : Nat) : Int) = (k : Int) + 1 from rfl]) (ih_76  H_71 (k + 1) (e + 1) (va_up (va_up lv5 j ((e + 1) : Int)) j ((e + 1) : Int)) (va_up (va_up lo5 j (2 * lo5 j)) j (lo5 j + hi5 j)) (va_up (va_up hi5 j (lo5 j + hi5 j)) j (2 * hi5 j)) (va_up (va_up rt5 j (plF F (e + 1) (2 * lo5 j) (lo5 j + hi5 j))) j (plF F (e + 1) (lo5 j + hi5 j) (2 * hi5 j))) P_75 f_76 g_77 (by omega) (by omega) (va_up_self _ _ _) (fun i hi => by simp only [va_up_ne _ _ hi]; exact hoth i hi) h7_78 (by omega) (by simp only [va_up_self]; exact ⟨⟨by omega, by omega⟩, ⟨by omega, by omega⟩, hk9.2.2.2.2.2.2.1⟩) (by simp only [va_up_self]; rw [show T - (k + 1) = s9 by omega]; exact hk9.2.2.2.2.2.2.2) (by simp only [va_up_self]; rw [show T - (k + 1) = s9 by omega]; exact hres.trans hst) hB_79 hV_80)
                    · refine v_aload_n E 7 rfl dX4_refine_152 ?_
                      refine v_iload_n E 6 rfl dX4_refine_153 ?_
                      refine v_iload E 3 rfl dX4_refine_154 ?_
                      refine v_iload E 0 rfl dX4_refine_156 ?_
                      refine v_iload E 0 rfl dX4_refine_158 ?_
                      refine v_callV E (As := [vi (j : Int), vi ((e + 1 : Nat) : Int), vi ((lo5 j) + (hi5 j)), vi ((lo5 j) + (hi5 j))]) (b := (ad 3002)) (ci := 3) (C := RX4) (T := TX4) (N := 27) hB_57.ho rfl (m_place2 κ H_49 (x := j) (e := (e + 1)) (m := (lo5 j + hi5 j)) (n := (lo5 j + hi5 j)) hV_58 (by omega) (by omega) (by omega) (by omega) ⟨by omega, by omega⟩ ⟨by omega, by omega⟩ ⟨by omega, by omega⟩ ⟨by omega, by omega⟩ h7_56 hF9.2.2.2.1 hF9.2.2.2.2 (fun h => absurd rfl h) hI hB_57) (lw_V q2102 q2104 qs65 q82 q2105) 4 (by decide +kernel) rfl (by decide) (by decide) (cb' := 0) (sb' := 0) (by decide) (by decide) rfl (rest := []) (Nat.le_of_ble_eq_true rfl) hAll dX4_refine_160 (fun v_81 H_82 hpost_83 hz_84 hk_85 => ?_)
                      clear hz_84
                      obtain ⟨rfl, P_86, f_87, g_88, h7_89, hB_90, hV_91⟩ := hpost_83
                      refine V.eq (st' := []) rfl ?_
                      refine v_goto E (tgt := 197) dX4_refine_163 (by decide) ?_
                      refine v_iinc E 4 rfl dX4_refine_197 (zlt hL rfl) (lv' := [(3, vi ((k : Int) + 1)), (7, vi ((lo5 j) + (hi5 j))), (6, vi (2 * (hi5 j))), (5, vi (2 * (lo5 j))), (4, vi ((e + 1 : Nat) : Int)), (2, vi (T : Int)), (1, vi (j : Int)), (0, .ref (ad 3002))]) rfl ?_
                      refine v_goto E (tgt := 76) dX4_refine_200 (by decide) ?_
                      refine V.sub [0, 5, 6, 7] (lv' := [(3, vi ((k : Int) + 1)), (2, vi (T : Int)), (1, vi (j : Int)), (0, .ref (ad 3002))]) rfl ?_
                      have hrf : rfF K F (e + 1) (lo5 j) (hi5 j) = ((lo5 j + hi5 j), (lo5 j + hi5 j)) := by unfold rfF; rw [if_pos (by omega)]
                      have hrg : rfR K F (e + 1) (lo5 j) (hi5 j) = 1 := by unfold rfR; rw [if_pos (by omega)]
                      rw [hrf] at hk9 hst
                      rw [hrg] at hst
                      exact V.eqL (by rw [show ((k + 1 : Nat) : Int) = (k : Int) + 1 from rfl]) (ih_76  H_82 (k + 1) (e + 1) (va_up lv5 j ((e + 1) : Int)) (va_up lo5 j (lo5 j + hi5 j)) (va_up hi5 j (lo5 j + hi5 j)) (va_up rt5 j (plF F (e + 1) (lo5 j + hi5 j) (lo5 j + hi5 j))) P_86 f_87 g_88 (by omega) (by omega) (va_up_self _ _ _) (fun i hi => by simp only [va_up_ne _ _ hi]; exact hoth i hi) h7_89 (by omega) (by simp only [va_up_self, plF_eq]; exact ⟨⟨by omega, by omega⟩, ⟨by omega, by omega⟩, ⟨by decide, by decide⟩⟩) (by simp only [va_up_self, plF_eq]; rw [show T - (k + 1) = s9 by omega]; exact hk9.2.2.2.2.2.2.2) (by simp only [va_up_self, plF_eq]; rw [show T - (k + 1) = s9 by omega]; exact hres.trans hst) hB_90 hV_91)
            refine V.sub [0, 3, 2, 1] (lv' := [(3, vi 0), (2, vi (T : Int)), (1, vi (j : Int)), (0, .ref (ad 3002))]) rfl ?_
            exact loop_76 (T + 1) H_12 0 e0 lv lo hi rt P f g (by omega) (Nat.zero_le _) he0 (fun i _ => ⟨rfl, rfl, rfl, rfl⟩) hF9.2.2.1 (by omega) ⟨⟨by omega, by omega⟩, ⟨by omega, by omega⟩, hrj⟩ (hfit j e0 T rfl rfl hjM (by omega) (by omega) (by omega) he0) rfl hB_17 hV_18
          · refine v_aload_n E 0 rfl dX4_refine_68 ?_
            refine v_iconst E dX4_refine_69 ?_
            refine v_callV E (As := [vi 3]) (b := (ad 3002)) (ci := 3) (C := RX4) (T := TX4) (N := 27) hB_17.ho rfl (m_fails κ H_12 hI hB_17) (lw_V q1857 q1859 qs47 q82 q1860) 1 (by decide +kernel) rfl (by decide) (by decide) (cb' := 0) (sb' := 0) (by decide) (by decide) rfl (rest := []) (Nat.le_of_ble_eq_true rfl) (fun q h => hAll q (Or.inl h)) dX4_refine_70 (fun v_92 H_93 hpost_94 hz_95 hk_96 => ?_)
            clear hz_95
            obtain ⟨rfl, hB_97⟩ := hpost_94
            have hV_98 : LV κ ad a1 a2 a3 a4 cap lv lo hi rt H_93 := hV_18.kept hk_96
            refine V.eq (st' := [vi 0]) rfl ?_
            refine v_iret E hE dX4_refine_73 ?_
            exact Or.inr (Or.inr (Or.inl ⟨by omega, by omega, by show rt j ≠ 1 ∨ lo j = hi j ∨ 12 < lv j + (T : Int); omega, rfl, hB_97, hV_98⟩))
    · refine v_aload_n E 0 rfl dX4_refine_24 ?_
      refine v_iconst E dX4_refine_25 ?_
      refine v_callV E (As := [vi 2]) (b := (ad 3002)) (ci := 3) (C := RX4) (T := TX4) (N := 27) hB_17.ho rfl (m_fails κ H_12 hI hB_17) (lw_V q1857 q1859 qs47 q82 q1860) 1 (by decide +kernel) rfl (by decide) (by decide) (cb' := 0) (sb' := 0) (by decide) (by decide) rfl (rest := []) (Nat.le_of_ble_eq_true rfl) (fun q h => hAll q (Or.inl h)) dX4_refine_26 (fun v_99 H_100 hpost_101 hz_102 hk_103 => ?_)
      clear hz_102
      obtain ⟨rfl, hB_104⟩ := hpost_101
      have hV_105 : LV κ ad a1 a2 a3 a4 cap lv lo hi rt H_100 := hV_18.kept hk_103
      refine V.eq (st' := [vi 0]) rfl ?_
      refine v_iret E hE dX4_refine_29 ?_
      exact Or.inr (Or.inl ⟨by omega, by omega, rfl, hB_104, hV_105⟩)
  · refine v_aload_n E 0 rfl dX4_refine_8 ?_
    refine v_iconst E dX4_refine_9 ?_
    refine v_callV E (As := [vi 1]) (b := (ad 3002)) (ci := 3) (C := RX4) (T := TX4) (N := 27) hB_8.ho rfl (m_fails κ H_3 hI hB_8) (lw_V q1857 q1859 qs47 q82 q1860) 1 (by decide +kernel) rfl (by decide) (by decide) (cb' := 0) (sb' := 0) (by decide) (by decide) rfl (rest := []) (Nat.le_of_ble_eq_true rfl) (fun q h => hAll q (Or.inl h)) dX4_refine_10 (fun v_106 H_107 hpost_108 hz_109 hk_110 => ?_)
    clear hz_109
    obtain ⟨rfl, hB_111⟩ := hpost_108
    have hV_112 : LV κ ad a1 a2 a3 a4 cap lv lo hi rt H_107 := hV_9.kept hk_110
    refine V.eq (st' := [vi 0]) rfl ?_
    refine v_iret E hE dX4_refine_13 ?_
    exact Or.inl ⟨by omega, rfl, hB_111, hV_112⟩
