set_option maxHeartbeats 400000 in
set_option maxRecDepth 100000 in
/-- what comes of great numbers -/
theorem m_great (κ : zK) (H0 : Heap) {ad : Nat → Nat} {P : Nat → Nat → Int} {f g mk : Nat → Int} {S : Nat → Nat → Int} {K : Nat → Int} {thr len many : Int} {a1 a2 a3 a4 : Nat} {t ref : Int} {j : Nat} (ht : 0 ≤ t ∧ t < 5) (hj : j < 176) (hR : pS (P j)) (hI : Inj ad) (hB : MB κ ad P f g mk S K thr len many a1 a2 a3 a4 H0) : Mt κ yX4_comesGreat cX4_comesGreat 6 (some .int) 2 44 0 0 H0 [.ref (ad 3002), .ref (ad (2000 + j)), vi t, vi ref] (AH ad) (fun v H1 => v = some (vi (greatR (P j) t.toNat ref S).1) ∧ ∃ f1 mk1 : Nat → Int, MB κ ad P f1 g mk1 ((greatR (P j) t.toNat ref S).2.2) K ((greatR (P j) t.toNat ref S).2.1) len many a1 a2 a3 a4 H1) := by
  refine Mt.of (by decide) (Nat.le_of_ble_eq_true rfl) ?_
  intro z E hE hH0 hA0 hL hini
  have hAll : ∀ q, (AH ad) q → zA z.A z.H0 q := fun q h => Or.inl (by rw [hA0]; exact h)
  have hNew : ∀ q, H0.size ≤ q → zA z.A z.H0 q := fun q h => Or.inr (by rw [hH0]; exact h)
  have E : zOK z cX4_comesGreat RX4 κ 2 44 (some .int) := E
  refine V.eqL (lv' := [(0, .ref (ad 3002)), (1, .ref (ad (2000 + j))), (2, vi t), (3, vi ref)]) rfl ?_
  refine v_aload_n E 0 rfl dX4_comesGreat_0 ?_
  refine v_callV E (As := []) (b := (ad 3002)) (ci := 3) (C := RX4) (T := TX4) (N := 27) hB.ho rfl (m_clear κ H0 hI hB) (lw_V q1880 q1882 qs49 q82 q1883) 0 (by decide +kernel) rfl (by decide) (by decide) (cb' := 0) (sb' := 0) (by decide) (by decide) rfl (rest := []) (Nat.le_of_ble_eq_true rfl) hAll dX4_comesGreat_1 (fun v_1 H_2 hpost_3 hz_4 hk_5 => ?_)
  clear hz_4
  obtain ⟨rfl, r0, hr0, hB_6⟩ := hpost_3
  refine V.eq (st' := []) rfl ?_
  refine v_iconst E dX4_comesGreat_4 ?_
  refine v_istore E dX4_comesGreat_5 (zlt hL rfl) (lv' := [(4, vi 0), (0, .ref (ad 3002)), (1, .ref (ad (2000 + j))), (2, vi t), (3, vi ref)]) rfl ?_
  have loop_7 : ∀ (m_7 : Nat) (H : Heap) (k : Nat) (r f1 : Nat → Int), 7 - k < m_7 → (k ≤ 7) → (∀ m, m < 14 → r m = if m < k then (fun k => grF (P j k)) m else 0) → MB κ ad P f1 g r S K thr len many a1 a2 a3 a4 H → V z H 0 0 7 [(4, vi (k : Int)), (3, vi ref), (2, vi t), (1, .ref (ad (2000 + j))), (0, .ref (ad 3002))] [] := by
    intro m_7
    induction m_7 with
    | zero => intro H k r f1 hm; exact absurd hm (by omega)
    | succ m_7 ih_7 =>
      intro H k r f1 hm_7 hk hr hB
      refine v_iload E 0 rfl dX4_comesGreat_7 ?_
      refine v_bipush E ⟨by decide, by decide⟩ dX4_comesGreat_9 ?_
      refine v_icmp_ge E (tgt := 88) dX4_comesGreat_11 (by decide) ⟨by omega, by omega⟩ ⟨by omega, by omega⟩ (fun c_11 => ?_) (fun c_11 => ?_)
      · refine v_aload_n E 4 rfl dX4_comesGreat_88 ?_
        refine v_iload_n E 2 rfl dX4_comesGreat_89 ?_
        refine v_iload_n E 1 rfl dX4_comesGreat_90 ?_
        refine v_callV E (As := [vi t, vi ref]) (b := (ad 3002)) (ci := 3) (C := RX4) (T := TX4) (N := 27) hB.ho rfl (m_comes κ H (by omega) (fun k9 hk9 => by
          rw [hr k9 hk9]
          by_cases c : k9 < k
          · rw [if_pos c]; show rJ (grF (P j k9)); unfold grF; split <;> exact ⟨by omega, by omega⟩
          · rw [if_neg c]; exact ⟨by decide, by decide⟩) hI hB) (lw_V q1884 q1886 qs50 q82 q1887) 2 (by decide +kernel) rfl (by decide) (by decide) (cb' := 0) (sb' := 0) (by decide) (by decide) rfl (rest := []) (Nat.le_of_ble_eq_true rfl) hAll dX4_comesGreat_91 (fun v_7 H_8 hpost_9 hz_10 hk_11 => ?_)
        clear hz_10
        obtain ⟨rfl, hB_12⟩ := hpost_9
        refine V.eq (st' := [vi ((comesR r t.toNat ref S).1)]) rfl ?_
        refine v_iret E hE dX4_comesGreat_94 ?_
        have hRe : (comesR r t.toNat ref S) = greatR (P j) t.toNat ref S := comesR_congr (fun k9 hk9 => by rw [hr k9 hk9, show k = 7 by omega]; rfl)
        rw [← hRe]; exact ⟨rfl, _, _, hB_12⟩
      · refine v_aload_n E 3 rfl dX4_comesGreat_14 ?_
        refine v_iload E 0 rfl dX4_comesGreat_15 ?_
        refine v_aaldS E dX4_comesGreat_17 ((hB.ms).1 j (by omega)) (t := 3) (ty := (.array .int)) rfl rfl k rfl (by omega) (by omega) (b := (ad (6 + 7 * j + k))) rfl ?_
        refine v_aload_n E 4 rfl dX4_comesGreat_18 ?_
        refine v_getf E in_X4 hB.ho (ci := 3) rfl 3 (by decide) q1763 rfl (v := .ref (ad 1)) rfl dX4_comesGreat_19 ?_
        have hv_13 : hp κ H (ad (6 + 7 * j + k)) (eN κ (P j k)) := by
          have e : (bk P f1) (6 + 7 * j + k) = P j k := (bk_at _ _ _ _ (by omega)).trans (rfl)
          rw [← e]; exact ((hB.ns) (6 + 7 * j + k) (by omega))
        refine v_callS E (As := [.ref (ad (6 + 7 * j + k)), .ref (ad 1)]) (m_copy κ H (hI.ne (by omega)) hv_13 (hB.ns 1 (by decide))) (lw_S q1938 q1939 q82 q1940) 2 (by decide +kernel) rfl (by decide) (by decide) (cb' := 0) (sb' := 0) (by decide) (by decide) rfl (rest := []) (Nat.le_of_ble_eq_true rfl) (fun q h => hAll q ⟨1, Or.inl (by decide), h⟩) dX4_comesGreat_22 (fun v_14 H_15 hpost_16 hz_17 hk_18 => ?_)
        clear hz_17
        obtain ⟨rfl, hx_19⟩ := hpost_16
        have hB_20 : MB κ ad P (va_up f1 1 (P j k)) g r S K thr len many a1 a2 a3 a4 H_15 := hB.num hI (fun q h1 h2 => hk_18 q h1 (fun e => h2 ⟨1, by decide, e⟩)) ((hB.ns.set hI (i := 1) hx_19 hk_18).lo (by decide))
        refine V.eq (st' := []) rfl ?_
        refine v_aload_n E 4 rfl dX4_comesGreat_25 ?_
        refine v_getf E in_X4 hB_20.ho (ci := 3) rfl 3 (by decide) q1763 rfl (v := .ref (ad 1)) rfl dX4_comesGreat_26 ?_
        have hv_21 : hp κ H_15 (ad 1) (eN κ (P j k)) := by
          have e : (bk P (va_up f1 1 (P j k))) 1 = P j k := (bk_lo _ _ (by decide)).trans (rfl)
          rw [← e]; exact ((hB_20.ns) 1 (by omega))
        refine v_callS E (As := [.ref (ad 1)]) (m_bare κ H_15 (rN_abs (hR k (by omega))) hv_21) (lw_S q1941 q1942 q82 q1943) 1 (by decide +kernel) rfl (by decide) (by decide) (cb' := 0) (sb' := 0) (by decide) (by decide) rfl (rest := []) (Nat.le_of_ble_eq_true rfl) (fun q h => hAll q ⟨1, Or.inl (by decide), h⟩) dX4_comesGreat_29 (fun v_22 H_23 hpost_24 hz_25 hk_26 => ?_)
        clear hz_25
        obtain ⟨rfl, hx_27⟩ := hpost_24
        have hB_28 : MB κ ad P (va_up (va_up f1 1 (P j k)) 1 ((P j k).natAbs : Int)) g r S K thr len many a1 a2 a3 a4 H_23 := hB_20.num hI (fun q h1 h2 => hk_26 q h1 (fun e => h2 ⟨1, by decide, e⟩)) ((hB_20.ns.set hI (i := 1) hx_27 hk_26).lo (by decide))
        refine V.eq (st' := [vi (if P j k < 0 then 1 else 0)]) rfl ?_
        refine v_istore E dX4_comesGreat_32 (zlt hL rfl) (lv' := [(5, vi (if P j k < 0 then 1 else 0)), (4, vi (k : Int)), (3, vi ref), (2, vi t), (1, .ref (ad (2000 + j))), (0, .ref (ad 3002))]) rfl ?_
        refine v_aload_n E 5 rfl dX4_comesGreat_34 ?_
        refine v_getf E in_X4 hB_28.ho (ci := 3) rfl 16 (by decide) q1776 rfl (v := .ref (ad 3006)) rfl dX4_comesGreat_35 ?_
        refine v_iload E 1 rfl dX4_comesGreat_38 ?_
        refine v_aload_n E 5 rfl dX4_comesGreat_40 ?_
        refine v_getf E in_X4 hB_28.ho (ci := 3) rfl 3 (by decide) q1763 rfl (v := .ref (ad 1)) rfl dX4_comesGreat_41 ?_
        have hv_29 : hp κ H_23 (ad 1) (eN κ ((P j k).natAbs : Int)) := by
          have e : (bk P (va_up (va_up f1 1 (P j k)) 1 ((P j k).natAbs : Int))) 1 = ((P j k).natAbs : Int) := (bk_lo _ _ (by decide)).trans (rfl)
          rw [← e]; exact ((hB_28.ns) 1 (by omega))
        refine v_callS E (As := [.ref (ad 1)]) (m_bits κ H_23 (rU_nat (hR k (by omega))) hv_29) (lw_S q1979 q1980 q82 q1981) 1 (by decide +kernel) rfl (by decide) (by decide) (cb' := 0) (sb' := 0) (by decide) (by decide) rfl (rest := [vi (k : Int), .ref (ad 3006)]) (Nat.le_of_ble_eq_true rfl) (fun q h => h.elim) dX4_comesGreat_44 (fun v_30 H_31 hpost_32 hz_33 hk_34 => ?_)
        clear hz_33
        obtain ⟨n, rfl, hn1536, hn⟩ := hpost_32
        have hB_35 : MB κ ad P (va_up (va_up f1 1 (P j k)) 1 ((P j k).natAbs : Int)) g r S K thr len many a1 a2 a3 a4 H_31 := hB_28.nil hk_34
        refine V.eq (st' := [vi (n : Int), vi (k : Int), .ref (ad 3006)]) rfl ?_
        refine v_bipush E ⟨by decide, by decide⟩ dX4_comesGreat_47 ?_
        refine v_icmp_le E (tgt := 58) dX4_comesGreat_49 (by decide) ⟨by omega, by omega⟩ ⟨by omega, by omega⟩ (fun c_49 => ?_) (fun c_49 => ?_)
        · have hsm := bits_32 hn (by omega)
          refine v_iload E 0 rfl dX4_comesGreat_58 ?_
          refine v_if_eq E (tgt := 74) dX4_comesGreat_60 (by decide) ⟨by split <;> omega, by split <;> omega⟩ (fun c_60 => ?_) (fun c_60 => ?_)
          · have hsg : 0 ≤ P j k := by rcases Int.lt_or_le (P j k) 0 with q | q <;> first | exact q | (exfalso; first | (rw [if_pos q] at c_60; omega) | (rw [if_neg (by omega)] at c_60; exact c_60 rfl))
            refine v_aload_n E 5 rfl dX4_comesGreat_74 ?_
            refine v_getf E in_X4 hB_35.ho (ci := 3) rfl 3 (by decide) q1763 rfl (v := .ref (ad 1)) rfl dX4_comesGreat_75 ?_
            refine v_iconst E dX4_comesGreat_78 ?_
            have hv_36 : hp κ H_31 (ad 1) (eN κ ((P j k).natAbs : Int)) := by
              have e : (bk P (va_up (va_up f1 1 (P j k)) 1 ((P j k).natAbs : Int))) 1 = ((P j k).natAbs : Int) := (bk_lo _ _ (by decide)).trans (rfl)
              rw [← e]; exact ((hB_35.ns) 1 (by omega))
            refine v_iald E dX4_comesGreat_79 hv_36 0 rfl (by omega) (by omega) ?_
            refine V.topi (x' := ((P j k).natAbs : Int)) (congrArg iZ (dg0_small hsm)) ?_
            refine v_i2l E ⟨by omega, by omega⟩ dX4_comesGreat_80 ?_
            refine v_last E dX4_comesGreat_81 hB_35.ma k rfl (by omega) (by omega) (hAll _ (AH.of (by unfold uA; omega))) (fun H_39 hB_37 hs_38 => ?_)
            have hB_40 : MB κ ad P (va_up (va_up f1 1 (P j k)) 1 ((P j k).natAbs : Int)) g (va_up r k ((P j k).natAbs : Int)) S K thr len many a1 a2 a3 a4 H_39 := hB_35.made hI hs_38 hB_37
            refine v_iinc E 1 rfl dX4_comesGreat_82 (zlt hL rfl) (lv' := [(4, vi ((k : Int) + 1)), (5, vi (if P j k < 0 then 1 else 0)), (3, vi ref), (2, vi t), (1, .ref (ad (2000 + j))), (0, .ref (ad 3002))]) rfl ?_
            refine v_goto E (tgt := 7) dX4_comesGreat_85 (by decide) ?_
            refine V.sub [0, 2, 3, 4, 5] (lv' := [(4, vi ((k : Int) + 1)), (3, vi ref), (2, vi t), (1, .ref (ad (2000 + j))), (0, .ref (ad 3002))]) rfl ?_
            exact ih_7  H_39 (k + 1) (va_up r k ((P j k).natAbs : Int)) (va_up (va_up f1 1 (P j k)) 1 ((P j k).natAbs : Int)) (by omega) (by omega) (fill_s hr (show _ = grF (P j k) from by unfold grF; rw [if_neg (by omega)]; omega)) hB_40
          · have hsg : P j k < 0 := by rcases Int.lt_or_le (P j k) 0 with q | q <;> first | exact q | (exfalso; first | (rw [if_pos q] at c_60; omega) | (rw [if_neg (by omega)] at c_60; exact c_60 rfl))
            refine v_aload_n E 5 rfl dX4_comesGreat_63 ?_
            refine v_getf E in_X4 hB_35.ho (ci := 3) rfl 3 (by decide) q1763 rfl (v := .ref (ad 1)) rfl dX4_comesGreat_64 ?_
            refine v_iconst E dX4_comesGreat_67 ?_
            have hv_41 : hp κ H_31 (ad 1) (eN κ ((P j k).natAbs : Int)) := by
              have e : (bk P (va_up (va_up f1 1 (P j k)) 1 ((P j k).natAbs : Int))) 1 = ((P j k).natAbs : Int) := (bk_lo _ _ (by decide)).trans (rfl)
              rw [← e]; exact ((hB_35.ns) 1 (by omega))
            refine v_iald E dX4_comesGreat_68 hv_41 0 rfl (by omega) (by omega) ?_
            refine V.topi (x' := ((P j k).natAbs : Int)) (congrArg iZ (dg0_small hsm)) ?_
            refine v_ineg E dX4_comesGreat_69 ?_
            refine v_i2l E ⟨by omega, by omega⟩ dX4_comesGreat_70 ?_
            refine v_goto E (tgt := 81) dX4_comesGreat_71 (by decide) ?_
            refine v_last E dX4_comesGreat_81 hB_35.ma k rfl (by omega) (by omega) (hAll _ (AH.of (by unfold uA; omega))) (fun H_44 hB_42 hs_43 => ?_)
            have hB_45 : MB κ ad P (va_up (va_up f1 1 (P j k)) 1 ((P j k).natAbs : Int)) g (va_up r k (-((P j k).natAbs : Int))) S K thr len many a1 a2 a3 a4 H_44 := hB_35.made hI hs_43 hB_42
            refine v_iinc E 1 rfl dX4_comesGreat_82 (zlt hL rfl) (lv' := [(4, vi ((k : Int) + 1)), (5, vi (if P j k < 0 then 1 else 0)), (3, vi ref), (2, vi t), (1, .ref (ad (2000 + j))), (0, .ref (ad 3002))]) rfl ?_
            refine v_goto E (tgt := 7) dX4_comesGreat_85 (by decide) ?_
            refine V.sub [0, 2, 3, 4, 5] (lv' := [(4, vi ((k : Int) + 1)), (3, vi ref), (2, vi t), (1, .ref (ad (2000 + j))), (0, .ref (ad 3002))]) rfl ?_
            exact ih_7  H_44 (k + 1) (va_up r k (-((P j k).natAbs : Int))) (va_up (va_up f1 1 (P j k)) 1 ((P j k).natAbs : Int)) (by omega) (by omega) (fill_s hr (show _ = grF (P j k) from by unfold grF; rw [if_neg (by omega)]; omega)) hB_45
        · have hbig := bits_31 hn (by omega)
          refine v_ldc2 E q2001 dX4_comesGreat_52 ?_
          refine V.eq (st' := vj 10000 :: _) rfl ?_
          refine v_goto E (tgt := 81) dX4_comesGreat_55 (by decide) ?_
          refine v_last E dX4_comesGreat_81 hB_35.ma k rfl (by omega) (by omega) (hAll _ (AH.of (by unfold uA; omega))) (fun H_48 hB_46 hs_47 => ?_)
          have hB_49 : MB κ ad P (va_up (va_up f1 1 (P j k)) 1 ((P j k).natAbs : Int)) g (va_up r k 10000) S K thr len many a1 a2 a3 a4 H_48 := hB_35.made hI hs_47 hB_46
          refine v_iinc E 1 rfl dX4_comesGreat_82 (zlt hL rfl) (lv' := [(4, vi ((k : Int) + 1)), (5, vi (if P j k < 0 then 1 else 0)), (3, vi ref), (2, vi t), (1, .ref (ad (2000 + j))), (0, .ref (ad 3002))]) rfl ?_
          refine v_goto E (tgt := 7) dX4_comesGreat_85 (by decide) ?_
          refine V.sub [0, 2, 3, 4, 5] (lv' := [(4, vi ((k : Int) + 1)), (3, vi ref), (2, vi t), (1, .ref (ad (2000 + j))), (0, .ref (ad 3002))]) rfl ?_
          exact ih_7  H_48 (k + 1) (va_up r k 10000) (va_up (va_up f1 1 (P j k)) 1 ((P j k).natAbs : Int)) (by omega) (by omega) (fill_s hr (show _ = grF (P j k) from by unfold grF; rw [if_pos hbig])) hB_49
  refine V.sub [0, 4, 3, 2, 1] (lv' := [(4, vi 0), (3, vi ref), (2, vi t), (1, .ref (ad (2000 + j))), (0, .ref (ad 3002))]) rfl ?_
  exact loop_7 (7 + 1) H_2 0 r0 f (by omega) (by omega) (fill_0 hr0) hB_6

set_option maxHeartbeats 400000 in
set_option maxRecDepth 100000 in
/-- gcd -/
theorem m_opGcd (κ : zK) (H0 : Heap) {ad : Nat → Nat} {P : Nat → Nat → Int} {f g mk : Nat → Int} {S : Nat → Nat → Int} {K : Nat → Int} {thr len many : Int} {a1 a2 a3 a4 : Nat} {a b t : Int} (ha : rI a) (hb : rI b) (ht : rI t) (hS : bS S) (hfit : (0 ≤ a ∧ a < 5) → (0 ≤ b ∧ b < 5) → fitG (S a.toNat) (S b.toNat)) (hI : Inj ad) (hB : MB κ ad P f g mk S K thr len many a1 a2 a3 a4 H0) : Mt κ yX4_gcd cX4_gcd 4 (some .int) 6 139 0 0 H0 [.ref (ad 3002), vi a, vi b, vi t] (AH ad) (fun v H1 => v = some (vi (opGcd S a b t).1) ∧ ∃ (P1 : Nat → Nat → Int) (f1 mk1 : Nat → Int), eq7 (P1 7) (P 7) ∧ MB κ ad P1 f1 g mk1 ((opGcd S a b t).2.2) K ((opGcd S a b t).2.1) len many a1 a2 a3 a4 H1) := by
  refine Mt.of (by decide) (Nat.le_of_ble_eq_true rfl) ?_
  intro z E hE hH0 hA0 hL hini
  have hAll : ∀ q, (AH ad) q → zA z.A z.H0 q := fun q h => Or.inl (by rw [hA0]; exact h)
  have hNew : ∀ q, H0.size ≤ q → zA z.A z.H0 q := fun q h => Or.inr (by rw [hH0]; exact h)
  have E : zOK z cX4_gcd RX4 κ 6 139 (some .int) := E
  refine V.eqL (lv' := [(0, .ref (ad 3002)), (1, vi a), (2, vi b), (3, vi t)]) rfl ?_
  refine v_iload_n E 1 rfl dX4_gcd_0 ?_
  refine v_callS E (As := [vi a]) (m_isSlot κ H0 (by first | assumption | decide | exact ⟨by omega, by omega⟩)) (lw_S q1851 q1852 q82 q1853) 1 (by decide +kernel) rfl (by decide) (by decide) (cb' := 0) (sb' := 0) (by decide) (by decide) rfl (rest := []) (Nat.le_of_ble_eq_true rfl) (fun q h => h.elim) dX4_gcd_1 (fun v_2 H_3 hpost_4 hz_5 hk_6 => ?_)
  clear hz_5
  obtain rfl := hpost_4
  obtain ⟨b_1, hb_7, hb_7e⟩ : ∃ b9 : Int, (b9 = 0 ∧ ¬ (0 ≤ a ∧ a < 5) ∨ b9 = 1 ∧ (0 ≤ a ∧ a < 5)) ∧ (if 0 ≤ a ∧ a < 5 then 1 else 0 : Int) = b9 := by
    by_cases c : 0 ≤ a ∧ a < 5
    · exact ⟨1, Or.inr ⟨rfl, c⟩, if_pos c⟩
    · exact ⟨0, Or.inl ⟨rfl, c⟩, if_neg c⟩
  have hB_8 : MB κ ad P f g mk S K thr len many a1 a2 a3 a4 H_3 := hB.nil hk_6
  refine V.eq (st' := [vi b_1]) (by rw [hb_7e]; rfl) ?_
  refine v_if_eq E (tgt := 21) dX4_gcd_4 (by decide) ⟨by omega, by omega⟩ (fun c_4 => ?_) (fun c_4 => ?_)
  · refine v_aload_n E 0 rfl dX4_gcd_21 ?_
    refine v_iconst E dX4_gcd_22 ?_
    refine v_callV E (As := [vi 1]) (b := (ad 3002)) (ci := 3) (C := RX4) (T := TX4) (N := 27) hB_8.ho rfl (m_fails κ H_3 hI hB_8) (lw_V q1857 q1859 qs47 q82 q1860) 1 (by decide +kernel) rfl (by decide) (by decide) (cb' := 0) (sb' := 0) (by decide) (by decide) rfl (rest := []) (Nat.le_of_ble_eq_true rfl) hAll dX4_gcd_23 (fun v_9 H_10 hpost_11 hz_12 hk_13 => ?_)
    clear hz_12
    obtain ⟨rfl, hB_14⟩ := hpost_11
    refine V.eq (st' := [vi 0]) rfl ?_
    refine v_iret E hE dX4_gcd_26 ?_
    have hR : opGcd S a b t = (0, 1, S) := by unfold opGcd; rw [if_neg (by omega)]
    rw [hR]; exact ⟨rfl, P, _, _, eq7.rfl', hB_14⟩
  · refine v_iload_n E 2 rfl dX4_gcd_7 ?_
    refine v_callS E (As := [vi b]) (m_isSlot κ H_3 (by first | assumption | decide | exact ⟨by omega, by omega⟩)) (lw_S q1851 q1852 q82 q1853) 1 (by decide +kernel) rfl (by decide) (by decide) (cb' := 0) (sb' := 0) (by decide) (by decide) rfl (rest := []) (Nat.le_of_ble_eq_true rfl) (fun q h => h.elim) dX4_gcd_8 (fun v_16 H_17 hpost_18 hz_19 hk_20 => ?_)
    clear hz_19
    obtain rfl := hpost_18
    obtain ⟨b_15, hb_21, hb_21e⟩ : ∃ b9 : Int, (b9 = 0 ∧ ¬ (0 ≤ b ∧ b < 5) ∨ b9 = 1 ∧ (0 ≤ b ∧ b < 5)) ∧ (if 0 ≤ b ∧ b < 5 then 1 else 0 : Int) = b9 := by
      by_cases c : 0 ≤ b ∧ b < 5
      · exact ⟨1, Or.inr ⟨rfl, c⟩, if_pos c⟩
      · exact ⟨0, Or.inl ⟨rfl, c⟩, if_neg c⟩
    have hB_22 : MB κ ad P f g mk S K thr len many a1 a2 a3 a4 H_17 := hB_8.nil hk_20
    refine V.eq (st' := [vi b_15]) (by rw [hb_21e]; rfl) ?_
    refine v_if_eq E (tgt := 21) dX4_gcd_11 (by decide) ⟨by omega, by omega⟩ (fun c_11 => ?_) (fun c_11 => ?_)
    · refine v_aload_n E 0 rfl dX4_gcd_21 ?_
      refine v_iconst E dX4_gcd_22 ?_
      refine v_callV E (As := [vi 1]) (b := (ad 3002)) (ci := 3) (C := RX4) (T := TX4) (N := 27) hB_22.ho rfl (m_fails κ H_17 hI hB_22) (lw_V q1857 q1859 qs47 q82 q1860) 1 (by decide +kernel) rfl (by decide) (by decide) (cb' := 0) (sb' := 0) (by decide) (by decide) rfl (rest := []) (Nat.le_of_ble_eq_true rfl) hAll dX4_gcd_23 (fun v_23 H_24 hpost_25 hz_26 hk_27 => ?_)
      clear hz_26
      obtain ⟨rfl, hB_28⟩ := hpost_25
      refine V.eq (st' := [vi 0]) rfl ?_
      refine v_iret E hE dX4_gcd_26 ?_
      have hR : opGcd S a b t = (0, 1, S) := by unfold opGcd; rw [if_neg (by omega)]
      rw [hR]; exact ⟨rfl, P, _, _, eq7.rfl', hB_28⟩
    · refine v_iload_n E 3 rfl dX4_gcd_14 ?_
      refine v_callS E (As := [vi t]) (m_isSlot κ H_17 (by first | assumption | decide | exact ⟨by omega, by omega⟩)) (lw_S q1851 q1852 q82 q1853) 1 (by decide +kernel) rfl (by decide) (by decide) (cb' := 0) (sb' := 0) (by decide) (by decide) rfl (rest := []) (Nat.le_of_ble_eq_true rfl) (fun q h => h.elim) dX4_gcd_15 (fun v_30 H_31 hpost_32 hz_33 hk_34 => ?_)
      clear hz_33
      obtain rfl := hpost_32
      obtain ⟨b_29, hb_35, hb_35e⟩ : ∃ b9 : Int, (b9 = 0 ∧ ¬ (0 ≤ t ∧ t < 5) ∨ b9 = 1 ∧ (0 ≤ t ∧ t < 5)) ∧ (if 0 ≤ t ∧ t < 5 then 1 else 0 : Int) = b9 := by
        by_cases c : 0 ≤ t ∧ t < 5
        · exact ⟨1, Or.inr ⟨rfl, c⟩, if_pos c⟩
        · exact ⟨0, Or.inl ⟨rfl, c⟩, if_neg c⟩
      have hB_36 : MB κ ad P f g mk S K thr len many a1 a2 a3 a4 H_31 := hB_22.nil hk_34
      refine V.eq (st' := [vi b_29]) (by rw [hb_35e]; rfl) ?_
      refine v_if_ne E (tgt := 27) dX4_gcd_18 (by decide) ⟨by omega, by omega⟩ (fun c_18 => ?_) (fun c_18 => ?_)
      · refine v_aload_n E 0 rfl dX4_gcd_27 ?_
        refine v_getf E in_X4 hB_36.ho (ci := 3) rfl 1 (by decide) q1761 rfl (v := .ref (ad 3003)) rfl dX4_gcd_28 ?_
        refine v_iload_n E 1 rfl dX4_gcd_31 ?_
        refine v_aaldS E dX4_gcd_32 (hB_36.ms).2.2.2 (t := 3) (ty := (.array .int)) rfl rfl a.toNat (by omega) (by omega) (by omega) (b := (ad (3010 + a.toNat))) rfl ?_
        refine v_aload_n E 0 rfl dX4_gcd_33 ?_
        refine v_getf E in_X4 hB_36.ho (ci := 3) rfl 8 (by decide) q1768 rfl (v := .ref (ad (2000 + 0))) rfl dX4_gcd_34 ?_
        refine v_callS E (As := [.ref (ad (3010 + a.toNat)), .ref (ad (2000 + 0))]) (m_load κ H_31 (hS.rI (i := a.toNat) (by omega)) (fun i hi => hI.ne (by omega)) (hB_36.sl a.toNat (by omega)) (by decide) hI hB_36.ms hB_36.ns) (lw_S q1918 q1919 q82 q1920) 2 (by decide +kernel) rfl (by decide) (by decide) (cb' := 0) (sb' := 0) (by decide) (by decide) rfl (rest := []) (Nat.le_of_ble_eq_true rfl) (fun q h => hAll q (AH.N q h)) dX4_gcd_37 (fun v_37 H_38 hpost_39 hz_40 hk_41 => ?_)
        clear hz_40
        obtain ⟨rfl, hN_42⟩ := hpost_39
        have hN_43 : NS κ ad (bk (va_up P 0 (S a.toNat)) f) H_38 := hN_42.ps eq7.rfl'
        have hB_44 : MB κ ad (va_up P 0 (S a.toNat)) f g mk S K thr len many a1 a2 a3 a4 H_38 := hB_36.num hI hk_41 hN_43
        refine V.eq (st' := []) rfl ?_
        refine v_aload_n E 0 rfl dX4_gcd_40 ?_
        refine v_getf E in_X4 hB_44.ho (ci := 3) rfl 1 (by decide) q1761 rfl (v := .ref (ad 3003)) rfl dX4_gcd_41 ?_
        refine v_iload_n E 2 rfl dX4_gcd_44 ?_
        refine v_aaldS E dX4_gcd_45 (hB_44.ms).2.2.2 (t := 3) (ty := (.array .int)) rfl rfl b.toNat (by omega) (by omega) (by omega) (b := (ad (3010 + b.toNat))) rfl ?_
        refine v_aload_n E 0 rfl dX4_gcd_46 ?_
        refine v_getf E in_X4 hB_44.ho (ci := 3) rfl 9 (by decide) q1769 rfl (v := .ref (ad (2000 + 1))) rfl dX4_gcd_47 ?_
        refine v_callS E (As := [.ref (ad (3010 + b.toNat)), .ref (ad (2000 + 1))]) (m_load κ H_38 (hS.rI (i := b.toNat) (by omega)) (fun i hi => hI.ne (by omega)) (hB_44.sl b.toNat (by omega)) (by decide) hI hB_44.ms hB_44.ns) (lw_S q1918 q1919 q82 q1920) 2 (by decide +kernel) rfl (by decide) (by decide) (cb' := 0) (sb' := 0) (by decide) (by decide) rfl (rest := []) (Nat.le_of_ble_eq_true rfl) (fun q h => hAll q (AH.N q h)) dX4_gcd_50 (fun v_45 H_46 hpost_47 hz_48 hk_49 => ?_)
        clear hz_48
        obtain ⟨rfl, hN_50⟩ := hpost_47
        have hN_51 : NS κ ad (bk (va_up (va_up P 0 (S a.toNat)) 1 (S b.toNat)) f) H_46 := hN_50.ps eq7.rfl'
        have hB_52 : MB κ ad (va_up (va_up P 0 (S a.toNat)) 1 (S b.toNat)) f g mk S K thr len many a1 a2 a3 a4 H_46 := hB_44.num hI hk_49 hN_51
        refine V.eq (st' := []) rfl ?_
        refine v_aload_n E 0 rfl dX4_gcd_53 ?_
        have hS0 : eq7 (pget (bk (va_up (va_up P 0 (S a.toNat)) 1 (S b.toNat)) f) 0) (S a.toNat) := bk_get
        have hS1 : eq7 (pget (bk (va_up (va_up P 0 (S a.toNat)) 1 (S b.toNat)) f) 1) (S b.toNat) := bk_get
        refine v_callV E (As := []) (b := (ad 3002)) (ci := 3) (C := RX4) (T := TX4) (N := 27) hB_52.ho rfl (m_findCommon κ H_46 hI hB_52.ms hB_52.ns hB_52.ho (pS_congr hS0.symm (hS.pS (by omega))) (pS_congr hS1.symm (hS.pS (by omega))) (fitG_congr hS0.symm hS1.symm (hfit (by omega) (by omega)))) (lw_V q1924 q1926 qs51 q82 q1927) 0 (by decide +kernel) rfl (by decide) (by decide) (cb' := 0) (sb' := 0) (by decide) (by decide) rfl (rest := []) (Nat.le_of_ble_eq_true rfl) (fun q h => hAll q (AH.N q h)) dX4_gcd_54 (fun v_53 H_54 hpost_55 hz_56 hk_57 => ?_)
        clear hz_56
        obtain ⟨rfl, r0, r1, f0, hN_58⟩ := hpost_55
        have hN_59 : NS κ ad (bk (va_up (va_up (va_up (va_up (va_up P 0 (S a.toNat)) 1 (S b.toNat)) 0 r0) 1 r1) 3 (comR (S a.toNat) (S b.toNat))) f0) H_54 := (by have h9 := hN_58; unfold two at h9; rw [bk_pset, bk_pset] at h9; exact h9.psT (comR_congr hS0 hS1))
        have hB_60 : MB κ ad (va_up (va_up (va_up (va_up (va_up P 0 (S a.toNat)) 1 (S b.toNat)) 0 r0) 1 r1) 3 (comR (S a.toNat) (S b.toNat))) f0 g mk S K thr len many a1 a2 a3 a4 H_54 := hB_52.num hI hk_57 hN_59
        refine V.eq (st' := []) rfl ?_
        refine v_aload_n E 0 rfl dX4_gcd_57 ?_
        refine v_aload_n E 0 rfl dX4_gcd_58 ?_
        refine v_getf E in_X4 hB_60.ho (ci := 3) rfl 11 (by decide) q1771 rfl (v := .ref (ad (2000 + 3))) rfl dX4_gcd_59 ?_
        refine v_iload_n E 3 rfl dX4_gcd_62 ?_
        refine v_iconst E dX4_gcd_63 ?_
        have hpj : (va_up (va_up (va_up (va_up (va_up P 0 (S a.toNat)) 1 (S b.toNat)) 0 r0) 1 r1) 3 (comR (S a.toNat) (S b.toNat))) 3 = (comR (S a.toNat) (S b.toNat)) := va_upj _ _ _
        refine v_callV E (As := [.ref (ad (2000 + 3)), vi t, vi 2]) (b := (ad 3002)) (ci := 3) (C := RX4) (T := TX4) (N := 27) hB_60.ho rfl (m_great κ H_54 (by omega) (by decide) (by rw [hpj]; exact comR_pS (hS.pS (by omega)) (hS.pS (by omega)) (hfit (by omega) (by omega))) hI hB_60) (lw_V q1997 q1999 qs56 q82 q2000) 3 (by decide +kernel) rfl (by decide) (by decide) (cb' := 0) (sb' := 0) (by decide) (by decide) rfl (rest := []) (Nat.le_of_ble_eq_true rfl) hAll dX4_gcd_64 (fun v_61 H_62 hpost_63 hz_64 hk_65 => ?_)
        clear hz_64
        rw [hpj] at hpost_63
        obtain ⟨rfl, f9, mk9, hB_66⟩ := hpost_63
        refine V.eq (st' := [vi ((greatR (comR (S a.toNat) (S b.toNat)) t.toNat 2 S).1)]) rfl ?_
        refine v_iret E hE dX4_gcd_67 ?_
        have hR : opGcd S a b t = greatR (comR (S a.toNat) (S b.toNat)) t.toNat 2 S := by unfold opGcd; rw [if_pos ⟨by omega, by omega, by omega⟩]
        rw [hR]; exact ⟨rfl, (va_up (va_up (va_up (va_up (va_up P 0 (S a.toNat)) 1 (S b.toNat)) 0 r0) 1 r1) 3 (comR (S a.toNat) (S b.toNat))), _, _, eq7.rfl', hB_66⟩
      · refine v_aload_n E 0 rfl dX4_gcd_21 ?_
        refine v_iconst E dX4_gcd_22 ?_
        refine v_callV E (As := [vi 1]) (b := (ad 3002)) (ci := 3) (C := RX4) (T := TX4) (N := 27) hB_36.ho rfl (m_fails κ H_31 hI hB_36) (lw_V q1857 q1859 qs47 q82 q1860) 1 (by decide +kernel) rfl (by decide) (by decide) (cb' := 0) (sb' := 0) (by decide) (by decide) rfl (rest := []) (Nat.le_of_ble_eq_true rfl) hAll dX4_gcd_23 (fun v_67 H_68 hpost_69 hz_70 hk_71 => ?_)
        clear hz_70
        obtain ⟨rfl, hB_72⟩ := hpost_69
        refine V.eq (st' := [vi 0]) rfl ?_
        refine v_iret E hE dX4_gcd_26 ?_
        have hR : opGcd S a b t = (0, 1, S) := by unfold opGcd; rw [if_neg (by omega)]
        rw [hR]; exact ⟨rfl, P, _, _, eq7.rfl', hB_72⟩

set_option maxHeartbeats 400000 in
set_option maxRecDepth 100000 in
/-- is it zero -/
theorem m_isZero (κ : zK) (H0 : Heap) {ad : Nat → Nat} {P : Nat → Nat → Int} {f g mk : Nat → Int} {S : Nat → Nat → Int} {K : Nat → Int} {thr len many : Int} {a1 a2 a3 a4 : Nat} {a : Int} (ha : 0 ≤ a ∧ a < 5) (hS : bS S) (hI : Inj ad) (hB : MB κ ad P f g mk S K thr len many a1 a2 a3 a4 H0) : Mt κ yX4_isZero cX4_isZero 2 (some .boolean) 1 21 0 0 H0 [.ref (ad 3002), vi a] (fun _ => False) (fun v H1 => v = some (vi (if pdeg (S a.toNat) < 0 then 1 else 0))) := by
  refine Mt.of (by decide) (Nat.le_of_ble_eq_true rfl) ?_
  intro z E hE hH0 hA0 hL hini
  have hAll : ∀ q, (fun _ => False) q → zA z.A z.H0 q := fun q h => Or.inl (by rw [hA0]; exact h)
  have hNew : ∀ q, H0.size ≤ q → zA z.A z.H0 q := fun q h => Or.inr (by rw [hH0]; exact h)
  have E : zOK z cX4_isZero RX4 κ 1 21 (some .boolean) := E
  refine V.eqL (lv' := [(0, .ref (ad 3002)), (1, vi a)]) rfl ?_
  refine v_aload_n E 0 rfl dX4_isZero_0 ?_
  refine v_getf E in_X4 hB.ho (ci := 3) rfl 1 (by decide) q1761 rfl (v := .ref (ad 3003)) rfl dX4_isZero_1 ?_
  refine v_iload_n E 1 rfl dX4_isZero_4 ?_
  refine v_aaldS E dX4_isZero_5 (hB.ms).2.2.2 (t := 3) (ty := (.array .int)) rfl rfl a.toNat (by omega) (by omega) (by omega) (b := (ad (3010 + a.toNat))) rfl ?_
  refine v_callS E (As := [.ref (ad (3010 + a.toNat))]) (m_deg κ H0 (fun k hk => by have := hS a.toNat (by omega) k hk; exact ⟨by omega, by omega⟩) (hB.sl a.toNat (by omega))) (lw_S q1861 q1862 q82 q1863) 1 (by decide +kernel) rfl (by decide) (by decide) (cb' := 0) (sb' := 0) (by decide) (by decide) rfl (rest := []) (Nat.le_of_ble_eq_true rfl) (fun q h => h.elim) dX4_isZero_6 (fun v_1 H_2 hpost_3 hz_4 hk_5 => ?_)
  clear hz_4
  obtain rfl := hpost_3
  have hB_6 : MB κ ad P f g mk S K thr len many a1 a2 a3 a4 H_2 := hB.nil hk_5
  have hda := pdeg_in (S a.toNat)
  refine V.eq (st' := [vi (pdeg (S a.toNat))]) rfl ?_
  refine v_if_ge E (tgt := 16) dX4_isZero_9 (by decide) ⟨by omega, by omega⟩ (fun c_9 => ?_) (fun c_9 => ?_)
  · refine v_iconst E dX4_isZero_16 ?_
    refine v_zret E hE dX4_isZero_17 rfl ?_
    rw [if_neg (by omega)]
  · refine v_iconst E dX4_isZero_12 ?_
    refine v_goto E (tgt := 17) dX4_isZero_13 (by decide) ?_
    refine v_zret E hE dX4_isZero_17 rfl ?_
    rw [if_pos (by omega)]

set_option maxHeartbeats 400000 in
set_option maxRecDepth 100000 in
/-- the square-free part -/
theorem m_opFree (κ : zK) (H0 : Heap) {ad : Nat → Nat} {P : Nat → Nat → Int} {f g mk : Nat → Int} {S : Nat → Nat → Int} {K : Nat → Int} {thr len many : Int} {a1 a2 a3 a4 : Nat} {a t : Int} (ha : rI a) (ht : rI t) (hS : bS S) (hfit : (0 ≤ a ∧ a < 5) → 0 ≤ pdeg (S a.toNat) → okFree (S a.toNat)) (hI : Inj ad) (hB : MB κ ad P f g mk S K thr len many a1 a2 a3 a4 H0) : Mt κ yX4_squareFreePart cX4_squareFreePart 3 (some .int) 7 164 0 0 H0 [.ref (ad 3002), vi a, vi t] (AH ad) (fun v H1 => v = some (vi (opFree S a t).1) ∧ ∃ (P1 : Nat → Nat → Int) (f1 mk1 : Nat → Int), eq7 (P1 7) (P 7) ∧ MB κ ad P1 f1 g mk1 ((opFree S a t).2.2) K ((opFree S a t).2.1) len many a1 a2 a3 a4 H1) := by
  refine Mt.of (by decide) (Nat.le_of_ble_eq_true rfl) ?_
  intro z E hE hH0 hA0 hL hini
  have hAll : ∀ q, (AH ad) q → zA z.A z.H0 q := fun q h => Or.inl (by rw [hA0]; exact h)
  have hNew : ∀ q, H0.size ≤ q → zA z.A z.H0 q := fun q h => Or.inr (by rw [hH0]; exact h)
  have E : zOK z cX4_squareFreePart RX4 κ 7 164 (some .int) := E
  refine V.eqL (lv' := [(0, .ref (ad 3002)), (1, vi a), (2, vi t)]) rfl ?_
  refine v_iload_n E 1 rfl dX4_squareFreePart_0 ?_
  refine v_callS E (As := [vi a]) (m_isSlot κ H0 (by first | assumption | decide | exact ⟨by omega, by omega⟩)) (lw_S q1851 q1852 q82 q1853) 1 (by decide +kernel) rfl (by decide) (by decide) (cb' := 0) (sb' := 0) (by decide) (by decide) rfl (rest := []) (Nat.le_of_ble_eq_true rfl) (fun q h => h.elim) dX4_squareFreePart_1 (fun v_2 H_3 hpost_4 hz_5 hk_6 => ?_)
  clear hz_5
  obtain rfl := hpost_4
  obtain ⟨b_1, hb_7, hb_7e⟩ : ∃ b9 : Int, (b9 = 0 ∧ ¬ (0 ≤ a ∧ a < 5) ∨ b9 = 1 ∧ (0 ≤ a ∧ a < 5)) ∧ (if 0 ≤ a ∧ a < 5 then 1 else 0 : Int) = b9 := by
    by_cases c : 0 ≤ a ∧ a < 5
    · exact ⟨1, Or.inr ⟨rfl, c⟩, if_pos c⟩
    · exact ⟨0, Or.inl ⟨rfl, c⟩, if_neg c⟩
  have hB_8 : MB κ ad P f g mk S K thr len many a1 a2 a3 a4 H_3 := hB.nil hk_6
  refine V.eq (st' := [vi b_1]) (by rw [hb_7e]; rfl) ?_
  refine v_if_eq E (tgt := 14) dX4_squareFreePart_4 (by decide) ⟨by omega, by omega⟩ (fun c_4 => ?_) (fun c_4 => ?_)
  · refine v_aload_n E 0 rfl dX4_squareFreePart_14 ?_
    refine v_iconst E dX4_squareFreePart_15 ?_
    refine v_callV E (As := [vi 1]) (b := (ad 3002)) (ci := 3) (C := RX4) (T := TX4) (N := 27) hB_8.ho rfl (m_fails κ H_3 hI hB_8) (lw_V q1857 q1859 qs47 q82 q1860) 1 (by decide +kernel) rfl (by decide) (by decide) (cb' := 0) (sb' := 0) (by decide) (by decide) rfl (rest := []) (Nat.le_of_ble_eq_true rfl) hAll dX4_squareFreePart_16 (fun v_9 H_10 hpost_11 hz_12 hk_13 => ?_)
    clear hz_12
    obtain ⟨rfl, hB_14⟩ := hpost_11
    refine V.eq (st' := [vi 0]) rfl ?_
    refine v_iret E hE dX4_squareFreePart_19 ?_
    have hR : opFree S a t = (0, 1, S) := by unfold opFree; rw [if_neg (by omega)]
    rw [hR]; exact ⟨rfl, P, _, _, eq7.rfl', hB_14⟩
  · refine v_iload_n E 2 rfl dX4_squareFreePart_7 ?_
    refine v_callS E (As := [vi t]) (m_isSlot κ H_3 (by first | assumption | decide | exact ⟨by omega, by omega⟩)) (lw_S q1851 q1852 q82 q1853) 1 (by decide +kernel) rfl (by decide) (by decide) (cb' := 0) (sb' := 0) (by decide) (by decide) rfl (rest := []) (Nat.le_of_ble_eq_true rfl) (fun q h => h.elim) dX4_squareFreePart_8 (fun v_16 H_17 hpost_18 hz_19 hk_20 => ?_)
    clear hz_19
    obtain rfl := hpost_18
    obtain ⟨b_15, hb_21, hb_21e⟩ : ∃ b9 : Int, (b9 = 0 ∧ ¬ (0 ≤ t ∧ t < 5) ∨ b9 = 1 ∧ (0 ≤ t ∧ t < 5)) ∧ (if 0 ≤ t ∧ t < 5 then 1 else 0 : Int) = b9 := by
      by_cases c : 0 ≤ t ∧ t < 5
      · exact ⟨1, Or.inr ⟨rfl, c⟩, if_pos c⟩
      · exact ⟨0, Or.inl ⟨rfl, c⟩, if_neg c⟩
    have hB_22 : MB κ ad P f g mk S K thr len many a1 a2 a3 a4 H_17 := hB_8.nil hk_20
    refine V.eq (st' := [vi b_15]) (by rw [hb_21e]; rfl) ?_
    refine v_if_ne E (tgt := 20) dX4_squareFreePart_11 (by decide) ⟨by omega, by omega⟩ (fun c_11 => ?_) (fun c_11 => ?_)
    · refine v_aload_n E 0 rfl dX4_squareFreePart_20 ?_
      refine v_iload_n E 1 rfl dX4_squareFreePart_21 ?_
      refine v_callV E (As := [vi a]) (b := (ad 3002)) (ci := 3) (C := RX4) (T := TX4) (N := 27) hB_22.ho rfl (m_isZero κ H_17 (by omega) hS hI hB_22) (lw_V q2006 q2008 qs57 q82 q2009) 1 (by decide +kernel) rfl (by decide) (by decide) (cb' := 0) (sb' := 0) (by decide) (by decide) rfl (rest := []) (Nat.le_of_ble_eq_true rfl) (fun q h => h.elim) dX4_squareFreePart_22 (fun v_24 H_25 hpost_26 hz_27 hk_28 => ?_)
      clear hz_27
      obtain rfl := hpost_26
      obtain ⟨b_23, hb_29, hb_29e⟩ : ∃ b9 : Int, (b9 = 0 ∧ ¬ (pdeg (S a.toNat) < 0) ∨ b9 = 1 ∧ (pdeg (S a.toNat) < 0)) ∧ (if pdeg (S a.toNat) < 0 then 1 else 0 : Int) = b9 := by
        by_cases c : pdeg (S a.toNat) < 0
        · exact ⟨1, Or.inr ⟨rfl, c⟩, if_pos c⟩
        · exact ⟨0, Or.inl ⟨rfl, c⟩, if_neg c⟩
      have hB_30 : MB κ ad P f g mk S K thr len many a1 a2 a3 a4 H_25 := hB_22.nil hk_28
      refine V.eq (st' := [vi b_23]) (by rw [hb_29e]; rfl) ?_
      refine v_if_eq E (tgt := 34) dX4_squareFreePart_25 (by decide) ⟨by omega, by omega⟩ (fun c_25 => ?_) (fun c_25 => ?_)
      · refine v_aload_n E 0 rfl dX4_squareFreePart_34 ?_
        refine v_getf E in_X4 hB_30.ho (ci := 3) rfl 1 (by decide) q1761 rfl (v := .ref (ad 3003)) rfl dX4_squareFreePart_35 ?_
        refine v_iload_n E 1 rfl dX4_squareFreePart_38 ?_
        refine v_aaldS E dX4_squareFreePart_39 (hB_30.ms).2.2.2 (t := 3) (ty := (.array .int)) rfl rfl a.toNat (by omega) (by omega) (by omega) (b := (ad (3010 + a.toNat))) rfl ?_
        refine v_aload_n E 0 rfl dX4_squareFreePart_40 ?_
        refine v_getf E in_X4 hB_30.ho (ci := 3) rfl 17 (by decide) q1777 rfl (v := .ref (ad (2000 + 6))) rfl dX4_squareFreePart_41 ?_
        refine v_callS E (As := [.ref (ad (3010 + a.toNat)), .ref (ad (2000 + 6))]) (m_load κ H_25 (hS.rI (i := a.toNat) (by omega)) (fun i hi => hI.ne (by omega)) (hB_30.sl a.toNat (by omega)) (by decide) hI hB_30.ms hB_30.ns) (lw_S q1918 q1919 q82 q1920) 2 (by decide +kernel) rfl (by decide) (by decide) (cb' := 0) (sb' := 0) (by decide) (by decide) rfl (rest := []) (Nat.le_of_ble_eq_true rfl) (fun q h => hAll q (AH.N q h)) dX4_squareFreePart_44 (fun v_31 H_32 hpost_33 hz_34 hk_35 => ?_)
        clear hz_34
        obtain ⟨rfl, hN_36⟩ := hpost_33
        have hN_37 : NS κ ad (bk (va_up P 6 (S a.toNat)) f) H_32 := hN_36.ps eq7.rfl'
        have hB_38 : MB κ ad (va_up P 6 (S a.toNat)) f g mk S K thr len many a1 a2 a3 a4 H_32 := hB_30.num hI hk_35 hN_37
        refine V.eq (st' := []) rfl ?_
        refine v_aload_n E 0 rfl dX4_squareFreePart_47 ?_
        refine v_aload_n E 0 rfl dX4_squareFreePart_48 ?_
        refine v_getf E in_X4 hB_38.ho (ci := 3) rfl 17 (by decide) q1777 rfl (v := .ref (ad (2000 + 6))) rfl dX4_squareFreePart_49 ?_
        have hS6 : eq7 (pget (bk (va_up P 6 (S a.toNat)) f) 6) (S a.toNat) := bk_get
        have hok := hfit (by omega) (by omega)
        refine v_callV E (As := [.ref (ad (2000 + 6))]) (b := (ad 3002)) (ci := 3) (C := RX4) (T := TX4) (N := 27) hB_38.ho rfl (m_findFree κ H_32 hI hB_38.ms hB_38.ns hB_38.ho (fitFree_congr0 hok.2 hS6.symm hok.1) (okD_congr hS6.symm hok.2)) (lw_V q2010 q2012 qs58 q82 q2013) 1 (by decide +kernel) rfl (by decide) (by decide) (cb' := 0) (sb' := 0) (by decide) (by decide) rfl (rest := []) (Nat.le_of_ble_eq_true rfl) (fun q h => hAll q (AH.N q h)) dX4_squareFreePart_52 (fun v_39 H_40 hpost_41 hz_42 hk_43 => ?_)
        clear hz_42
        obtain ⟨rfl, r0, r1, r2, f0, hN_44⟩ := hpost_41
        have hN_45 : NS κ ad (bk (va_up (va_up (va_up (va_up (va_up (va_up P 6 (S a.toNat)) 0 r0) 1 r1) 2 r2) 3 (freeD (S a.toNat))) 4 (freeR (S a.toNat))) f0) H_40 := (by exact NS.ofBk hN_44 (va_upPm (va_upPm (va_upPm (va_upPm (va_upPm (fun m _ => bk_get) eq7.rfl') eq7.rfl') eq7.rfl') (drv_congr2 hS6)) (freeR_congr hok hS6)) (fun _ _ => rfl))
        have hB_46 : MB κ ad (va_up (va_up (va_up (va_up (va_up (va_up P 6 (S a.toNat)) 0 r0) 1 r1) 2 r2) 3 (freeD (S a.toNat))) 4 (freeR (S a.toNat))) f0 g mk S K thr len many a1 a2 a3 a4 H_40 := hB_38.num hI hk_43 hN_45
        refine V.eq (st' := []) rfl ?_
        refine v_aload_n E 0 rfl dX4_squareFreePart_55 ?_
        refine v_aload_n E 0 rfl dX4_squareFreePart_56 ?_
        refine v_getf E in_X4 hB_46.ho (ci := 3) rfl 12 (by decide) q1772 rfl (v := .ref (ad (2000 + 4))) rfl dX4_squareFreePart_57 ?_
        refine v_iload_n E 2 rfl dX4_squareFreePart_60 ?_
        refine v_iconst E dX4_squareFreePart_61 ?_
        have hpj : (va_up (va_up (va_up (va_up (va_up (va_up P 6 (S a.toNat)) 0 r0) 1 r1) 2 r2) 3 (freeD (S a.toNat))) 4 (freeR (S a.toNat))) 4 = (freeR (S a.toNat)) := va_upj _ _ _
        refine v_callV E (As := [.ref (ad (2000 + 4)), vi t, vi 3]) (b := (ad 3002)) (ci := 3) (C := RX4) (T := TX4) (N := 27) hB_46.ho rfl (m_great κ H_40 (by omega) (by decide) (by rw [hpj]; exact freeR_pS hok.1) hI hB_46) (lw_V q1997 q1999 qs56 q82 q2000) 3 (by decide +kernel) rfl (by decide) (by decide) (cb' := 0) (sb' := 0) (by decide) (by decide) rfl (rest := []) (Nat.le_of_ble_eq_true rfl) hAll dX4_squareFreePart_62 (fun v_47 H_48 hpost_49 hz_50 hk_51 => ?_)
        clear hz_50
        rw [hpj] at hpost_49
        obtain ⟨rfl, f9, mk9, hB_52⟩ := hpost_49
        refine V.eq (st' := [vi ((greatR (freeR (S a.toNat)) t.toNat 3 S).1)]) rfl ?_
        refine v_iret E hE dX4_squareFreePart_65 ?_
        have hR : opFree S a t = greatR (freeR (S a.toNat)) t.toNat 3 S := by unfold opFree; rw [if_pos ⟨by omega, by omega⟩, if_neg (by omega)]
        rw [hR]; exact ⟨rfl, (va_up (va_up (va_up (va_up (va_up (va_up P 6 (S a.toNat)) 0 r0) 1 r1) 2 r2) 3 (freeD (S a.toNat))) 4 (freeR (S a.toNat))), _, _, eq7.rfl', hB_52⟩
      · refine v_aload_n E 0 rfl dX4_squareFreePart_28 ?_
        refine v_iconst E dX4_squareFreePart_29 ?_
        refine v_callV E (As := [vi 2]) (b := (ad 3002)) (ci := 3) (C := RX4) (T := TX4) (N := 27) hB_30.ho rfl (m_fails κ H_25 hI hB_30) (lw_V q1857 q1859 qs47 q82 q1860) 1 (by decide +kernel) rfl (by decide) (by decide) (cb' := 0) (sb' := 0) (by decide) (by decide) rfl (rest := []) (Nat.le_of_ble_eq_true rfl) hAll dX4_squareFreePart_30 (fun v_53 H_54 hpost_55 hz_56 hk_57 => ?_)
        clear hz_56
        obtain ⟨rfl, hB_58⟩ := hpost_55
        refine V.eq (st' := [vi 0]) rfl ?_
        refine v_iret E hE dX4_squareFreePart_33 ?_
        have hR : opFree S a t = (0, 2, S) := by unfold opFree; rw [if_pos ⟨by omega, by omega⟩, if_pos (by omega)]
        rw [hR]; exact ⟨rfl, P, _, _, eq7.rfl', hB_58⟩
    · refine v_aload_n E 0 rfl dX4_squareFreePart_14 ?_
      refine v_iconst E dX4_squareFreePart_15 ?_
      refine v_callV E (As := [vi 1]) (b := (ad 3002)) (ci := 3) (C := RX4) (T := TX4) (N := 27) hB_22.ho rfl (m_fails κ H_17 hI hB_22) (lw_V q1857 q1859 qs47 q82 q1860) 1 (by decide +kernel) rfl (by decide) (by decide) (cb' := 0) (sb' := 0) (by decide) (by decide) rfl (rest := []) (Nat.le_of_ble_eq_true rfl) hAll dX4_squareFreePart_16 (fun v_59 H_60 hpost_61 hz_62 hk_63 => ?_)
      clear hz_62
      obtain ⟨rfl, hB_64⟩ := hpost_61
      refine V.eq (st' := [vi 0]) rfl ?_
      refine v_iret E hE dX4_squareFreePart_19 ?_
      have hR : opFree S a t = (0, 1, S) := by unfold opFree; rw [if_neg (by omega)]
      rw [hR]; exact ⟨rfl, P, _, _, eq7.rfl', hB_64⟩
