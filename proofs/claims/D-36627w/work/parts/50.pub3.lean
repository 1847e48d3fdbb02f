set_option maxHeartbeats 400000 in
set_option maxRecDepth 100000 in
/-- derivative -/
theorem m_opDrv (κ : zK) (H0 : Heap) {ad : Nat → Nat} {P : Nat → Nat → Int} {f g mk : Nat → Int} {S : Nat → Nat → Int} {K : Nat → Int} {thr len many : Int} {a1 a2 a3 a4 : Nat} {a t : Int} (ha : rI a) (ht : rI t) (hS : bS S) (hI : Inj ad) (hB : MB κ ad P f g mk S K thr len many a1 a2 a3 a4 H0) : Mt κ yX4_derivative cX4_derivative 4 (some .int) 2 44 0 0 H0 [.ref (ad 3002), vi a, vi t] (AH ad) (fun v H1 => v = some (vi (opDrv S a t).1) ∧ ∃ mk1 : Nat → Int, MB κ ad P f g mk1 ((opDrv S a t).2.2) K ((opDrv S a t).2.1) len many a1 a2 a3 a4 H1) := by
  refine Mt.of (by decide) (Nat.le_of_ble_eq_true rfl) ?_
  intro z E hE hH0 hA0 hL hini
  have hAll : ∀ q, (AH ad) q → zA z.A z.H0 q := fun q h => Or.inl (by rw [hA0]; exact h)
  have hNew : ∀ q, H0.size ≤ q → zA z.A z.H0 q := fun q h => Or.inr (by rw [hH0]; exact h)
  have E : zOK z cX4_derivative RX4 κ 2 44 (some .int) := E
  refine V.eqL (lv' := [(0, .ref (ad 3002)), (1, vi a), (2, vi t)]) rfl ?_
  refine v_iload_n E 1 rfl dX4_derivative_0 ?_
  refine v_callS E (As := [vi a]) (m_isSlot κ H0 (by first | assumption | decide | exact ⟨by omega, by omega⟩)) (lw_S q1851 q1852 q82 q1853) 1 (by decide +kernel) rfl (by decide) (by decide) (cb' := 0) (sb' := 0) (by decide) (by decide) rfl (rest := []) (Nat.le_of_ble_eq_true rfl) (fun q h => h.elim) dX4_derivative_1 (fun v_2 H_3 hpost_4 hz_5 hk_6 => ?_)
  clear hz_5
  obtain rfl := hpost_4
  obtain ⟨b_1, hb_7, hb_7e⟩ : ∃ b9 : Int, (b9 = 0 ∧ ¬ (0 ≤ a ∧ a < 5) ∨ b9 = 1 ∧ (0 ≤ a ∧ a < 5)) ∧ (if 0 ≤ a ∧ a < 5 then 1 else 0 : Int) = b9 := by
    by_cases c : 0 ≤ a ∧ a < 5
    · exact ⟨1, Or.inr ⟨rfl, c⟩, if_pos c⟩
    · exact ⟨0, Or.inl ⟨rfl, c⟩, if_neg c⟩
  have hB_8 : MB κ ad P f g mk S K thr len many a1 a2 a3 a4 H_3 := hB.nil hk_6
  refine V.eq (st' := [vi b_1]) (by rw [hb_7e]; rfl) ?_
  refine v_if_eq E (tgt := 14) dX4_derivative_4 (by decide) ⟨by omega, by omega⟩ (fun c_4 => ?_) (fun c_4 => ?_)
  · refine v_aload_n E 0 rfl dX4_derivative_14 ?_
    refine v_iconst E dX4_derivative_15 ?_
    refine v_callV E (As := [vi 1]) (b := (ad 3002)) (ci := 3) (C := RX4) (T := TX4) (N := 27) hB_8.ho rfl (m_fails κ H_3 hI hB_8) (lw_V q1857 q1859 qs47 q82 q1860) 1 (by decide +kernel) rfl (by decide) (by decide) (cb' := 0) (sb' := 0) (by decide) (by decide) rfl (rest := []) (Nat.le_of_ble_eq_true rfl) hAll dX4_derivative_16 (fun v_9 H_10 hpost_11 hz_12 hk_13 => ?_)
    clear hz_12
    obtain ⟨rfl, hB_14⟩ := hpost_11
    refine V.eq (st' := [vi 0]) rfl ?_
    refine v_iret E hE dX4_derivative_19 ?_
    have hR : opDrv S a t = (0, 1, S) := by unfold opDrv; rw [if_neg (by omega)]
    rw [hR]; exact ⟨rfl, _, hB_14⟩
  · refine v_iload_n E 2 rfl dX4_derivative_7 ?_
    refine v_callS E (As := [vi t]) (m_isSlot κ H_3 (by first | assumption | decide | exact ⟨by omega, by omega⟩)) (lw_S q1851 q1852 q82 q1853) 1 (by decide +kernel) rfl (by decide) (by decide) (cb' := 0) (sb' := 0) (by decide) (by decide) rfl (rest := []) (Nat.le_of_ble_eq_true rfl) (fun q h => h.elim) dX4_derivative_8 (fun v_16 H_17 hpost_18 hz_19 hk_20 => ?_)
    clear hz_19
    obtain rfl := hpost_18
    obtain ⟨b_15, hb_21, hb_21e⟩ : ∃ b9 : Int, (b9 = 0 ∧ ¬ (0 ≤ t ∧ t < 5) ∨ b9 = 1 ∧ (0 ≤ t ∧ t < 5)) ∧ (if 0 ≤ t ∧ t < 5 then 1 else 0 : Int) = b9 := by
      by_cases c : 0 ≤ t ∧ t < 5
      · exact ⟨1, Or.inr ⟨rfl, c⟩, if_pos c⟩
      · exact ⟨0, Or.inl ⟨rfl, c⟩, if_neg c⟩
    have hB_22 : MB κ ad P f g mk S K thr len many a1 a2 a3 a4 H_17 := hB_8.nil hk_20
    refine V.eq (st' := [vi b_15]) (by rw [hb_21e]; rfl) ?_
    refine v_if_ne E (tgt := 20) dX4_derivative_11 (by decide) ⟨by omega, by omega⟩ (fun c_11 => ?_) (fun c_11 => ?_)
    · refine v_aload_n E 0 rfl dX4_derivative_20 ?_
      refine v_callV E (As := []) (b := (ad 3002)) (ci := 3) (C := RX4) (T := TX4) (N := 27) hB_22.ho rfl (m_clear κ H_17 hI hB_22) (lw_V q1880 q1882 qs49 q82 q1883) 0 (by decide +kernel) rfl (by decide) (by decide) (cb' := 0) (sb' := 0) (by decide) (by decide) rfl (rest := []) (Nat.le_of_ble_eq_true rfl) hAll dX4_derivative_21 (fun v_23 H_24 hpost_25 hz_26 hk_27 => ?_)
      clear hz_26
      obtain ⟨rfl, r0, hr0, hB_28⟩ := hpost_25
      refine V.eq (st' := []) rfl ?_
      refine v_iconst E dX4_derivative_24 ?_
      refine v_istore_n E dX4_derivative_25 (zlt hL rfl) (lv' := [(3, vi 1), (0, .ref (ad 3002)), (1, vi a), (2, vi t)]) rfl ?_
      have loop_26 : ∀ (m_26 : Nat) (H : Heap) (k : Nat) (r : Nat → Int), 6 - k < m_26 → (k ≤ 6) → (∀ m, m < 14 → r m = if m < k then drv (S a.toNat) m else 0) → MB κ ad P f g r S K thr len many a1 a2 a3 a4 H → V z H 0 0 26 [(3, vi ((k : Int) + 1)), (2, vi t), (1, vi a), (0, .ref (ad 3002))] [] := by
        intro m_26
        induction m_26 with
        | zero => intro H k r hm; exact absurd hm (by omega)
        | succ m_26 ih_26 =>
          intro H k r hm_26 hk hr hB
          refine v_iload_n E 0 rfl dX4_derivative_26 ?_
          refine v_bipush E ⟨by decide, by decide⟩ dX4_derivative_27 ?_
          refine v_icmp_ge E (tgt := 58) dX4_derivative_29 (by decide) ⟨by omega, by omega⟩ ⟨by omega, by omega⟩ (fun c_29 => ?_) (fun c_29 => ?_)
          · refine v_aload_n E 3 rfl dX4_derivative_58 ?_
            refine v_iload_n E 1 rfl dX4_derivative_59 ?_
            refine v_iconst E dX4_derivative_60 ?_
            refine v_callV E (As := [vi t, vi 2]) (b := (ad 3002)) (ci := 3) (C := RX4) (T := TX4) (N := 27) hB.ho rfl (m_comes κ H (by omega) (fun k9 hk9 => by
              rw [hr k9 hk9]
              by_cases c : k9 < k
              · rw [if_pos c]; unfold drv; rw [if_pos (by omega)]; have h1 := hS a.toNat (by omega) (k9 + 1) (by omega); have h2 := mul_abs (x := (k9 : Int) + 1) (by omega) h1; exact rJ_small ⟨by omega, by omega⟩
              · rw [if_neg c]; exact ⟨by decide, by decide⟩) hI hB) (lw_V q1884 q1886 qs50 q82 q1887) 2 (by decide +kernel) rfl (by decide) (by decide) (cb' := 0) (sb' := 0) (by decide) (by decide) rfl (rest := []) (Nat.le_of_ble_eq_true rfl) hAll dX4_derivative_61 (fun v_29 H_30 hpost_31 hz_32 hk_33 => ?_)
            clear hz_32
            obtain ⟨rfl, hB_34⟩ := hpost_31
            refine V.eq (st' := [vi ((comesR r t.toNat 2 S).1)]) rfl ?_
            refine v_iret E hE dX4_derivative_64 ?_
            have hR : opDrv S a t = (comesR r t.toNat 2 S) := by unfold opDrv; rw [if_pos ⟨by omega, by omega⟩]; exact (comesR_congr (fun k9 hk9 => by rw [hr k9 hk9]; rw [show k = 6 by omega]; exact drv_cut _ k9)).symm
            rw [hR]; exact ⟨rfl, _, hB_34⟩
          · refine v_aload_n E 3 rfl dX4_derivative_32 ?_
            refine v_getf E in_X4 hB.ho (ci := 3) rfl 16 (by decide) q1776 rfl (v := .ref (ad 3006)) rfl dX4_derivative_33 ?_
            refine v_iload_n E 0 rfl dX4_derivative_36 ?_
            refine v_iconst E dX4_derivative_37 ?_
            refine v_isub E dX4_derivative_38 ?_
            refine v_iload_n E 0 rfl dX4_derivative_39 ?_
            refine v_i2l E ⟨by omega, by omega⟩ dX4_derivative_40 ?_
            refine v_aload_n E 3 rfl dX4_derivative_41 ?_
            refine v_getf E in_X4 hB.ho (ci := 3) rfl 1 (by decide) q1761 rfl (v := .ref (ad 3003)) rfl dX4_derivative_42 ?_
            refine v_iload_n E 2 rfl dX4_derivative_45 ?_
            refine v_aaldS E dX4_derivative_46 (hB.ms).2.2.2 (t := 3) (ty := (.array .int)) rfl rfl a.toNat (by omega) (by omega) (by omega) (b := (ad (3010 + a.toNat))) rfl ?_
            refine v_iload_n E 0 rfl dX4_derivative_47 ?_
            refine v_iald E dX4_derivative_48 (hB.sl a.toNat (by omega)) (k + 1) rfl (by omega) (by omega) ?_
            refine v_i2l E (by have := hS a.toNat (by omega) (k + 1) (by omega); exact ⟨by omega, by omega⟩) dX4_derivative_49 ?_
            refine v_lmul E dX4_derivative_50 ?_
            refine v_last E dX4_derivative_51 hB.ma k (by omega) (by omega) (by omega) (hAll _ (AH.of (by unfold uA; omega))) (fun H_37 hBma_35 hs_36 => ?_)
            have hB_38 : MB κ ad P f g (va_up r k (((k : Int) + 1) * (S a.toNat (k + 1)))) S K thr len many a1 a2 a3 a4 H_37 := hB.made hI hs_36 hBma_35
            refine v_iinc E 0 rfl dX4_derivative_52 (zlt hL rfl) (lv' := [(3, vi (((k : Int) + 1) + 1)), (2, vi t), (1, vi a), (0, .ref (ad 3002))]) rfl ?_
            refine v_goto E (tgt := 26) dX4_derivative_55 (by decide) ?_
            exact V.eqL (by rw [show ((k + 1 : Nat) : Int) + 1 = (k : Int) + 1 + 1 by omega]) (ih_26  H_37 (k + 1) (va_up r k (((k : Int) + 1) * (S a.toNat (k + 1)))) (by omega) (by omega) (fill_s hr (by unfold drv; rw [if_pos (by omega)])) hB_38)
      refine V.sub [0, 3, 2, 1] (lv' := [(3, vi 1), (2, vi t), (1, vi a), (0, .ref (ad 3002))]) rfl ?_
      exact V.eqL (by rw [show ((0 : Nat) : Int) + 1 = (1 : Int) by decide]) (loop_26 (6 + 1) H_24 0 r0 (by omega) (by omega) (fill_0 hr0) hB_28)
    · refine v_aload_n E 0 rfl dX4_derivative_14 ?_
      refine v_iconst E dX4_derivative_15 ?_
      refine v_callV E (As := [vi 1]) (b := (ad 3002)) (ci := 3) (C := RX4) (T := TX4) (N := 27) hB_22.ho rfl (m_fails κ H_17 hI hB_22) (lw_V q1857 q1859 qs47 q82 q1860) 1 (by decide +kernel) rfl (by decide) (by decide) (cb' := 0) (sb' := 0) (by decide) (by decide) rfl (rest := []) (Nat.le_of_ble_eq_true rfl) hAll dX4_derivative_16 (fun v_39 H_40 hpost_41 hz_42 hk_43 => ?_)
      clear hz_42
      obtain ⟨rfl, hB_44⟩ := hpost_41
      refine V.eq (st' := [vi 0]) rfl ?_
      refine v_iret E hE dX4_derivative_19 ?_
      have hR : opDrv S a t = (0, 1, S) := by unfold opDrv; rw [if_neg (by omega)]
      rw [hR]; exact ⟨rfl, _, hB_44⟩

set_option maxHeartbeats 400000 in
set_option maxRecDepth 100000 in
/-- reflect -/
theorem m_opRefl (κ : zK) (H0 : Heap) {ad : Nat → Nat} {P : Nat → Nat → Int} {f g mk : Nat → Int} {S : Nat → Nat → Int} {K : Nat → Int} {thr len many : Int} {a1 a2 a3 a4 : Nat} {a t : Int} (ha : rI a) (ht : rI t) (hS : bS S) (hI : Inj ad) (hB : MB κ ad P f g mk S K thr len many a1 a2 a3 a4 H0) : Mt κ yX4_reflect cX4_reflect 4 (some .int) 2 44 0 0 H0 [.ref (ad 3002), vi a, vi t] (AH ad) (fun v H1 => v = some (vi (opRefl S a t).1) ∧ ∃ mk1 : Nat → Int, MB κ ad P f g mk1 ((opRefl S a t).2.2) K ((opRefl S a t).2.1) len many a1 a2 a3 a4 H1) := by
  refine Mt.of (by decide) (Nat.le_of_ble_eq_true rfl) ?_
  intro z E hE hH0 hA0 hL hini
  have hAll : ∀ q, (AH ad) q → zA z.A z.H0 q := fun q h => Or.inl (by rw [hA0]; exact h)
  have hNew : ∀ q, H0.size ≤ q → zA z.A z.H0 q := fun q h => Or.inr (by rw [hH0]; exact h)
  have E : zOK z cX4_reflect RX4 κ 2 44 (some .int) := E
  refine V.eqL (lv' := [(0, .ref (ad 3002)), (1, vi a), (2, vi t)]) rfl ?_
  refine v_iload_n E 1 rfl dX4_reflect_0 ?_
  refine v_callS E (As := [vi a]) (m_isSlot κ H0 (by first | assumption | decide | exact ⟨by omega, by omega⟩)) (lw_S q1851 q1852 q82 q1853) 1 (by decide +kernel) rfl (by decide) (by decide) (cb' := 0) (sb' := 0) (by decide) (by decide) rfl (rest := []) (Nat.le_of_ble_eq_true rfl) (fun q h => h.elim) dX4_reflect_1 (fun v_2 H_3 hpost_4 hz_5 hk_6 => ?_)
  clear hz_5
  obtain rfl := hpost_4
  obtain ⟨b_1, hb_7, hb_7e⟩ : ∃ b9 : Int, (b9 = 0 ∧ ¬ (0 ≤ a ∧ a < 5) ∨ b9 = 1 ∧ (0 ≤ a ∧ a < 5)) ∧ (if 0 ≤ a ∧ a < 5 then 1 else 0 : Int) = b9 := by
    by_cases c : 0 ≤ a ∧ a < 5
    · exact ⟨1, Or.inr ⟨rfl, c⟩, if_pos c⟩
    · exact ⟨0, Or.inl ⟨rfl, c⟩, if_neg c⟩
  have hB_8 : MB κ ad P f g mk S K thr len many a1 a2 a3 a4 H_3 := hB.nil hk_6
  refine V.eq (st' := [vi b_1]) (by rw [hb_7e]; rfl) ?_
  refine v_if_eq E (tgt := 14) dX4_reflect_4 (by decide) ⟨by omega, by omega⟩ (fun c_4 => ?_) (fun c_4 => ?_)
  · refine v_aload_n E 0 rfl dX4_reflect_14 ?_
    refine v_iconst E dX4_reflect_15 ?_
    refine v_callV E (As := [vi 1]) (b := (ad 3002)) (ci := 3) (C := RX4) (T := TX4) (N := 27) hB_8.ho rfl (m_fails κ H_3 hI hB_8) (lw_V q1857 q1859 qs47 q82 q1860) 1 (by decide +kernel) rfl (by decide) (by decide) (cb' := 0) (sb' := 0) (by decide) (by decide) rfl (rest := []) (Nat.le_of_ble_eq_true rfl) hAll dX4_reflect_16 (fun v_9 H_10 hpost_11 hz_12 hk_13 => ?_)
    clear hz_12
    obtain ⟨rfl, hB_14⟩ := hpost_11
    refine V.eq (st' := [vi 0]) rfl ?_
    refine v_iret E hE dX4_reflect_19 ?_
    have hR : opRefl S a t = (0, 1, S) := by unfold opRefl; rw [if_neg (by omega)]
    rw [hR]; exact ⟨rfl, _, hB_14⟩
  · refine v_iload_n E 2 rfl dX4_reflect_7 ?_
    refine v_callS E (As := [vi t]) (m_isSlot κ H_3 (by first | assumption | decide | exact ⟨by omega, by omega⟩)) (lw_S q1851 q1852 q82 q1853) 1 (by decide +kernel) rfl (by decide) (by decide) (cb' := 0) (sb' := 0) (by decide) (by decide) rfl (rest := []) (Nat.le_of_ble_eq_true rfl) (fun q h => h.elim) dX4_reflect_8 (fun v_16 H_17 hpost_18 hz_19 hk_20 => ?_)
    clear hz_19
    obtain rfl := hpost_18
    obtain ⟨b_15, hb_21, hb_21e⟩ : ∃ b9 : Int, (b9 = 0 ∧ ¬ (0 ≤ t ∧ t < 5) ∨ b9 = 1 ∧ (0 ≤ t ∧ t < 5)) ∧ (if 0 ≤ t ∧ t < 5 then 1 else 0 : Int) = b9 := by
      by_cases c : 0 ≤ t ∧ t < 5
      · exact ⟨1, Or.inr ⟨rfl, c⟩, if_pos c⟩
      · exact ⟨0, Or.inl ⟨rfl, c⟩, if_neg c⟩
    have hB_22 : MB κ ad P f g mk S K thr len many a1 a2 a3 a4 H_17 := hB_8.nil hk_20
    refine V.eq (st' := [vi b_15]) (by rw [hb_21e]; rfl) ?_
    refine v_if_ne E (tgt := 20) dX4_reflect_11 (by decide) ⟨by omega, by omega⟩ (fun c_11 => ?_) (fun c_11 => ?_)
    · refine v_aload_n E 0 rfl dX4_reflect_20 ?_
      refine v_callV E (As := []) (b := (ad 3002)) (ci := 3) (C := RX4) (T := TX4) (N := 27) hB_22.ho rfl (m_clear κ H_17 hI hB_22) (lw_V q1880 q1882 qs49 q82 q1883) 0 (by decide +kernel) rfl (by decide) (by decide) (cb' := 0) (sb' := 0) (by decide) (by decide) rfl (rest := []) (Nat.le_of_ble_eq_true rfl) hAll dX4_reflect_21 (fun v_23 H_24 hpost_25 hz_26 hk_27 => ?_)
      clear hz_26
      obtain ⟨rfl, r0, hr0, hB_28⟩ := hpost_25
      refine V.eq (st' := []) rfl ?_
      refine v_iconst E dX4_reflect_24 ?_
      refine v_istore_n E dX4_reflect_25 (zlt hL rfl) (lv' := [(3, vi 0), (0, .ref (ad 3002)), (1, vi a), (2, vi t)]) rfl ?_
      have loop_26 : ∀ (m_26 : Nat) (H : Heap) (k : Nat) (r : Nat → Int), 7 - k < m_26 → (k ≤ 7) → (∀ m, m < 14 → r m = if m < k then (fun k => if k % 2 = 0 then S a.toNat k else -S a.toNat k) m else 0) → MB κ ad P f g r S K thr len many a1 a2 a3 a4 H → V z H 0 0 26 [(3, vi (k : Int)), (2, vi t), (1, vi a), (0, .ref (ad 3002))] [] := by
        intro m_26
        induction m_26 with
        | zero => intro H k r hm; exact absurd hm (by omega)
        | succ m_26 ih_26 =>
          intro H k r hm_26 hk hr hB
          refine v_iload_n E 0 rfl dX4_reflect_26 ?_
          refine v_bipush E ⟨by decide, by decide⟩ dX4_reflect_27 ?_
          refine v_icmp_ge E (tgt := 72) dX4_reflect_29 (by decide) ⟨by omega, by omega⟩ ⟨by omega, by omega⟩ (fun c_29 => ?_) (fun c_29 => ?_)
          · refine v_aload_n E 3 rfl dX4_reflect_72 ?_
            refine v_iload_n E 1 rfl dX4_reflect_73 ?_
            refine v_iconst E dX4_reflect_74 ?_
            refine v_callV E (As := [vi t, vi 0]) (b := (ad 3002)) (ci := 3) (C := RX4) (T := TX4) (N := 27) hB.ho rfl (m_comes κ H (by omega) (fun k9 hk9 => by
              rw [hr k9 hk9]
              by_cases c : k9 < k
              · rw [if_pos c]; have h1 := hS a.toNat (by omega) k9 (by omega); show rJ (if k9 % 2 = 0 then S a.toNat k9 else -S a.toNat k9); split <;> exact rJ_small ⟨by omega, by omega⟩
              · rw [if_neg c]; exact ⟨by decide, by decide⟩) hI hB) (lw_V q1884 q1886 qs50 q82 q1887) 2 (by decide +kernel) rfl (by decide) (by decide) (cb' := 0) (sb' := 0) (by decide) (by decide) rfl (rest := []) (Nat.le_of_ble_eq_true rfl) hAll dX4_reflect_75 (fun v_29 H_30 hpost_31 hz_32 hk_33 => ?_)
            clear hz_32
            obtain ⟨rfl, hB_34⟩ := hpost_31
            refine V.eq (st' := [vi ((comesR r t.toNat 0 S).1)]) rfl ?_
            refine v_iret E hE dX4_reflect_78 ?_
            have hR : opRefl S a t = (comesR r t.toNat 0 S) := by unfold opRefl; rw [if_pos ⟨by omega, by omega⟩]; exact (comesR_congr (fun k9 hk9 => by rw [hr k9 hk9]; rw [show k = 7 by omega]; rfl)).symm
            rw [hR]; exact ⟨rfl, _, hB_34⟩
          · refine v_aload_n E 3 rfl dX4_reflect_32 ?_
            refine v_getf E in_X4 hB.ho (ci := 3) rfl 16 (by decide) q1776 rfl (v := .ref (ad 3006)) rfl dX4_reflect_33 ?_
            refine v_iload_n E 0 rfl dX4_reflect_36 ?_
            refine v_iload_n E 0 rfl dX4_reflect_37 ?_
            refine v_iconst E dX4_reflect_38 ?_
            refine v_irem E ⟨by omega, by omega⟩ ⟨by omega, by omega⟩ (by omega) dX4_reflect_39 ?_
            refine V.topi (x' := ((k % 2 : Nat) : Int)) (congrArg iZ (show Int.tmod (k : Int) 2 = _ from rfl)) ?_
            refine v_if_ne E (tgt := 55) dX4_reflect_40 (by decide) ⟨by omega, by omega⟩ (fun c_40 => ?_) (fun c_40 => ?_)
            · refine v_aload_n E 3 rfl dX4_reflect_55 ?_
              refine v_getf E in_X4 hB.ho (ci := 3) rfl 1 (by decide) q1761 rfl (v := .ref (ad 3003)) rfl dX4_reflect_56 ?_
              refine v_iload_n E 2 rfl dX4_reflect_59 ?_
              refine v_aaldS E dX4_reflect_60 (hB.ms).2.2.2 (t := 3) (ty := (.array .int)) rfl rfl a.toNat (by omega) (by omega) (by omega) (b := (ad (3010 + a.toNat))) rfl ?_
              refine v_iload_n E 0 rfl dX4_reflect_61 ?_
              refine v_iald E dX4_reflect_62 (hB.sl a.toNat (by omega)) k rfl (by omega) (by omega) ?_
              refine v_ineg E dX4_reflect_63 ?_
              refine v_i2l E (by have := hS a.toNat (by omega) k (by omega); exact ⟨by omega, by omega⟩) dX4_reflect_64 ?_
              refine v_last E dX4_reflect_65 hB.ma k rfl (by omega) (by omega) (hAll _ (AH.of (by unfold uA; omega))) (fun H_37 hBma_35 hs_36 => ?_)
              have hB_38 : MB κ ad P f g (va_up r k (-(S a.toNat k))) S K thr len many a1 a2 a3 a4 H_37 := hB.made hI hs_36 hBma_35
              refine v_iinc E 0 rfl dX4_reflect_66 (zlt hL rfl) (lv' := [(3, vi ((k : Int) + 1)), (2, vi t), (1, vi a), (0, .ref (ad 3002))]) rfl ?_
              refine v_goto E (tgt := 26) dX4_reflect_69 (by decide) ?_
              exact ih_26  H_37 (k + 1) (va_up r k (-(S a.toNat k))) (by omega) (by omega) (fill_s hr (by show _ = if k % 2 = 0 then _ else _; first | (rw [if_pos (by omega)]; done) | rw [if_neg (by omega)])) hB_38
            · refine v_aload_n E 3 rfl dX4_reflect_43 ?_
              refine v_getf E in_X4 hB.ho (ci := 3) rfl 1 (by decide) q1761 rfl (v := .ref (ad 3003)) rfl dX4_reflect_44 ?_
              refine v_iload_n E 2 rfl dX4_reflect_47 ?_
              refine v_aaldS E dX4_reflect_48 (hB.ms).2.2.2 (t := 3) (ty := (.array .int)) rfl rfl a.toNat (by omega) (by omega) (by omega) (b := (ad (3010 + a.toNat))) rfl ?_
              refine v_iload_n E 0 rfl dX4_reflect_49 ?_
              refine v_iald E dX4_reflect_50 (hB.sl a.toNat (by omega)) k rfl (by omega) (by omega) ?_
              refine v_i2l E (by have := hS a.toNat (by omega) k (by omega); exact ⟨by omega, by omega⟩) dX4_reflect_51 ?_
              refine v_goto E (tgt := 65) dX4_reflect_52 (by decide) ?_
              refine v_last E dX4_reflect_65 hB.ma k rfl (by omega) (by omega) (hAll _ (AH.of (by unfold uA; omega))) (fun H_41 hBma_39 hs_40 => ?_)
              have hB_42 : MB κ ad P f g (va_up r k (S a.toNat k)) S K thr len many a1 a2 a3 a4 H_41 := hB.made hI hs_40 hBma_39
              refine v_iinc E 0 rfl dX4_reflect_66 (zlt hL rfl) (lv' := [(3, vi ((k : Int) + 1)), (2, vi t), (1, vi a), (0, .ref (ad 3002))]) rfl ?_
              refine v_goto E (tgt := 26) dX4_reflect_69 (by decide) ?_
              exact ih_26  H_41 (k + 1) (va_up r k (S a.toNat k)) (by omega) (by omega) (fill_s hr (by show _ = if k % 2 = 0 then _ else _; first | (rw [if_pos (by omega)]; done) | rw [if_neg (by omega)])) hB_42
      refine V.sub [0, 3, 2, 1] (lv' := [(3, vi 0), (2, vi t), (1, vi a), (0, .ref (ad 3002))]) rfl ?_
      exact loop_26 (7 + 1) H_24 0 r0 (by omega) (by omega) (fill_0 hr0) hB_28
    · refine v_aload_n E 0 rfl dX4_reflect_14 ?_
      refine v_iconst E dX4_reflect_15 ?_
      refine v_callV E (As := [vi 1]) (b := (ad 3002)) (ci := 3) (C := RX4) (T := TX4) (N := 27) hB_22.ho rfl (m_fails κ H_17 hI hB_22) (lw_V q1857 q1859 qs47 q82 q1860) 1 (by decide +kernel) rfl (by decide) (by decide) (cb' := 0) (sb' := 0) (by decide) (by decide) rfl (rest := []) (Nat.le_of_ble_eq_true rfl) hAll dX4_reflect_16 (fun v_43 H_44 hpost_45 hz_46 hk_47 => ?_)
      clear hz_46
      obtain ⟨rfl, hB_48⟩ := hpost_45
      refine V.eq (st' := [vi 0]) rfl ?_
      refine v_iret E hE dX4_reflect_19 ?_
      have hR : opRefl S a t = (0, 1, S) := by unfold opRefl; rw [if_neg (by omega)]
      rw [hR]; exact ⟨rfl, _, hB_48⟩

set_option maxHeartbeats 400000 in
set_option maxRecDepth 100000 in
/-- multiply -/
theorem m_opMul (κ : zK) (H0 : Heap) {ad : Nat → Nat} {P : Nat → Nat → Int} {f g mk : Nat → Int} {S : Nat → Nat → Int} {K : Nat → Int} {thr len many : Int} {a1 a2 a3 a4 : Nat} {a b t : Int} (ha : rI a) (hb : rI b) (ht : rI t) (hS : bS S) (hI : Inj ad) (hB : MB κ ad P f g mk S K thr len many a1 a2 a3 a4 H0) : Mt κ yX4_multiply cX4_multiply 6 (some .int) 2 44 0 0 H0 [.ref (ad 3002), vi a, vi b, vi t] (AH ad) (fun v H1 => v = some (vi (opMul S a b t).1) ∧ ∃ mk1 : Nat → Int, MB κ ad P f g mk1 ((opMul S a b t).2.2) K ((opMul S a b t).2.1) len many a1 a2 a3 a4 H1) := by
  refine Mt.of (by decide) (Nat.le_of_ble_eq_true rfl) ?_
  intro z E hE hH0 hA0 hL hini
  have hAll : ∀ q, (AH ad) q → zA z.A z.H0 q := fun q h => Or.inl (by rw [hA0]; exact h)
  have hNew : ∀ q, H0.size ≤ q → zA z.A z.H0 q := fun q h => Or.inr (by rw [hH0]; exact h)
  have E : zOK z cX4_multiply RX4 κ 2 44 (some .int) := E
  refine V.eqL (lv' := [(0, .ref (ad 3002)), (1, vi a), (2, vi b), (3, vi t)]) rfl ?_
  refine v_iload_n E 1 rfl dX4_multiply_0 ?_
  refine v_callS E (As := [vi a]) (m_isSlot κ H0 (by first | assumption | decide | exact ⟨by omega, by omega⟩)) (lw_S q1851 q1852 q82 q1853) 1 (by decide +kernel) rfl (by decide) (by decide) (cb' := 0) (sb' := 0) (by decide) (by decide) rfl (rest := []) (Nat.le_of_ble_eq_true rfl) (fun q h => h.elim) dX4_multiply_1 (fun v_2 H_3 hpost_4 hz_5 hk_6 => ?_)
  clear hz_5
  obtain rfl := hpost_4
  obtain ⟨b_1, hb_7, hb_7e⟩ : ∃ b9 : Int, (b9 = 0 ∧ ¬ (0 ≤ a ∧ a < 5) ∨ b9 = 1 ∧ (0 ≤ a ∧ a < 5)) ∧ (if 0 ≤ a ∧ a < 5 then 1 else 0 : Int) = b9 := by
    by_cases c : 0 ≤ a ∧ a < 5
    · exact ⟨1, Or.inr ⟨rfl, c⟩, if_pos c⟩
    · exact ⟨0, Or.inl ⟨rfl, c⟩, if_neg c⟩
  have hB_8 : MB κ ad P f g mk S K thr len many a1 a2 a3 a4 H_3 := hB.nil hk_6
  refine V.eq (st' := [vi b_1]) (by rw [hb_7e]; rfl) ?_
  refine v_if_eq E (tgt := 21) dX4_multiply_4 (by decide) ⟨by omega, by omega⟩ (fun c_4 => ?_) (fun c_4 => ?_)
  · refine v_aload_n E 0 rfl dX4_multiply_21 ?_
    refine v_iconst E dX4_multiply_22 ?_
    refine v_callV E (As := [vi 1]) (b := (ad 3002)) (ci := 3) (C := RX4) (T := TX4) (N := 27) hB_8.ho rfl (m_fails κ H_3 hI hB_8) (lw_V q1857 q1859 qs47 q82 q1860) 1 (by decide +kernel) rfl (by decide) (by decide) (cb' := 0) (sb' := 0) (by decide) (by decide) rfl (rest := []) (Nat.le_of_ble_eq_true rfl) hAll dX4_multiply_23 (fun v_9 H_10 hpost_11 hz_12 hk_13 => ?_)
    clear hz_12
    obtain ⟨rfl, hB_14⟩ := hpost_11
    refine V.eq (st' := [vi 0]) rfl ?_
    refine v_iret E hE dX4_multiply_26 ?_
    have hR : opMul S a b t = (0, 1, S) := by unfold opMul; rw [if_neg (by omega)]
    rw [hR]; exact ⟨rfl, _, hB_14⟩
  · refine v_iload_n E 2 rfl dX4_multiply_7 ?_
    refine v_callS E (As := [vi b]) (m_isSlot κ H_3 (by first | assumption | decide | exact ⟨by omega, by omega⟩)) (lw_S q1851 q1852 q82 q1853) 1 (by decide +kernel) rfl (by decide) (by decide) (cb' := 0) (sb' := 0) (by decide) (by decide) rfl (rest := []) (Nat.le_of_ble_eq_true rfl) (fun q h => h.elim) dX4_multiply_8 (fun v_16 H_17 hpost_18 hz_19 hk_20 => ?_)
    clear hz_19
    obtain rfl := hpost_18
    obtain ⟨b_15, hb_21, hb_21e⟩ : ∃ b9 : Int, (b9 = 0 ∧ ¬ (0 ≤ b ∧ b < 5) ∨ b9 = 1 ∧ (0 ≤ b ∧ b < 5)) ∧ (if 0 ≤ b ∧ b < 5 then 1 else 0 : Int) = b9 := by
      by_cases c : 0 ≤ b ∧ b < 5
      · exact ⟨1, Or.inr ⟨rfl, c⟩, if_pos c⟩
      · exact ⟨0, Or.inl ⟨rfl, c⟩, if_neg c⟩
    have hB_22 : MB κ ad P f g mk S K thr len many a1 a2 a3 a4 H_17 := hB_8.nil hk_20
    refine V.eq (st' := [vi b_15]) (by rw [hb_21e]; rfl) ?_
    refine v_if_eq E (tgt := 21) dX4_multiply_11 (by decide) ⟨by omega, by omega⟩ (fun c_11 => ?_) (fun c_11 => ?_)
    · refine v_aload_n E 0 rfl dX4_multiply_21 ?_
      refine v_iconst E dX4_multiply_22 ?_
      refine v_callV E (As := [vi 1]) (b := (ad 3002)) (ci := 3) (C := RX4) (T := TX4) (N := 27) hB_22.ho rfl (m_fails κ H_17 hI hB_22) (lw_V q1857 q1859 qs47 q82 q1860) 1 (by decide +kernel) rfl (by decide) (by decide) (cb' := 0) (sb' := 0) (by decide) (by decide) rfl (rest := []) (Nat.le_of_ble_eq_true rfl) hAll dX4_multiply_23 (fun v_23 H_24 hpost_25 hz_26 hk_27 => ?_)
      clear hz_26
      obtain ⟨rfl, hB_28⟩ := hpost_25
      refine V.eq (st' := [vi 0]) rfl ?_
      refine v_iret E hE dX4_multiply_26 ?_
      have hR : opMul S a b t = (0, 1, S) := by unfold opMul; rw [if_neg (by omega)]
      rw [hR]; exact ⟨rfl, _, hB_28⟩
    · refine v_iload_n E 3 rfl dX4_multiply_14 ?_
      refine v_callS E (As := [vi t]) (m_isSlot κ H_17 (by first | assumption | decide | exact ⟨by omega, by omega⟩)) (lw_S q1851 q1852 q82 q1853) 1 (by decide +kernel) rfl (by decide) (by decide) (cb' := 0) (sb' := 0) (by decide) (by decide) rfl (rest := []) (Nat.le_of_ble_eq_true rfl) (fun q h => h.elim) dX4_multiply_15 (fun v_30 H_31 hpost_32 hz_33 hk_34 => ?_)
      clear hz_33
      obtain rfl := hpost_32
      obtain ⟨b_29, hb_35, hb_35e⟩ : ∃ b9 : Int, (b9 = 0 ∧ ¬ (0 ≤ t ∧ t < 5) ∨ b9 = 1 ∧ (0 ≤ t ∧ t < 5)) ∧ (if 0 ≤ t ∧ t < 5 then 1 else 0 : Int) = b9 := by
        by_cases c : 0 ≤ t ∧ t < 5
        · exact ⟨1, Or.inr ⟨rfl, c⟩, if_pos c⟩
        · exact ⟨0, Or.inl ⟨rfl, c⟩, if_neg c⟩
      have hB_36 : MB κ ad P f g mk S K thr len many a1 a2 a3 a4 H_31 := hB_22.nil hk_34
      refine V.eq (st' := [vi b_29]) (by rw [hb_35e]; rfl) ?_
      refine v_if_ne E (tgt := 27) dX4_multiply_18 (by decide) ⟨by omega, by omega⟩ (fun c_18 => ?_) (fun c_18 => ?_)
      · refine v_aload_n E 0 rfl dX4_multiply_27 ?_
        refine v_callV E (As := []) (b := (ad 3002)) (ci := 3) (C := RX4) (T := TX4) (N := 27) hB_36.ho rfl (m_clear κ H_31 hI hB_36) (lw_V q1880 q1882 qs49 q82 q1883) 0 (by decide +kernel) rfl (by decide) (by decide) (cb' := 0) (sb' := 0) (by decide) (by decide) rfl (rest := []) (Nat.le_of_ble_eq_true rfl) hAll dX4_multiply_28 (fun v_37 H_38 hpost_39 hz_40 hk_41 => ?_)
        clear hz_40
        obtain ⟨rfl, r0, hr0, hB_42⟩ := hpost_39
        refine V.eq (st' := []) rfl ?_
        refine v_iconst E dX4_multiply_31 ?_
        refine v_istore E dX4_multiply_32 (zlt hL rfl) (lv' := [(4, vi 0), (0, .ref (ad 3002)), (1, vi a), (2, vi b), (3, vi t)]) rfl ?_
        have loop_34 : ∀ (m_34 : Nat) (H : Heap) (i : Nat) (r : Nat → Int), 7 - i < m_34 → (i ≤ 7) → (∀ m, m < 14 → r m = mu (S a.toNat) (S b.toNat) i m) → MB κ ad P f g r S K thr len many a1 a2 a3 a4 H → V z H 0 0 34 [(4, vi (i : Int)), (3, vi t), (2, vi b), (1, vi a), (0, .ref (ad 3002))] [] := by
          intro m_34
          induction m_34 with
          | zero => intro H i r hm; exact absurd hm (by omega)
          | succ m_34 ih_34 =>
            intro H i r hm_34 hi hr hB
            refine v_iload E 0 rfl dX4_multiply_34 ?_
            refine v_bipush E ⟨by decide, by decide⟩ dX4_multiply_36 ?_
            refine v_icmp_ge E (tgt := 97) dX4_multiply_38 (by decide) ⟨by omega, by omega⟩ ⟨by omega, by omega⟩ (fun c_38 => ?_) (fun c_38 => ?_)
            · refine v_aload_n E 4 rfl dX4_multiply_97 ?_
              refine v_iload_n E 1 rfl dX4_multiply_98 ?_
              refine v_iconst E dX4_multiply_99 ?_
              refine v_callV E (As := [vi t, vi 2]) (b := (ad 3002)) (ci := 3) (C := RX4) (T := TX4) (N := 27) hB.ho rfl (m_comes κ H (by omega) (fun k9 hk9 => by rw [hr k9 hk9]; have h1 := mu_in (hS a.toNat (by omega)) (hS b.toNat (by omega)) i k9 hi; exact rJ_small ⟨by omega, by omega⟩) hI hB) (lw_V q1884 q1886 qs50 q82 q1887) 2 (by decide +kernel) rfl (by decide) (by decide) (cb' := 0) (sb' := 0) (by decide) (by decide) rfl (rest := []) (Nat.le_of_ble_eq_true rfl) hAll dX4_multiply_100 (fun v_43 H_44 hpost_45 hz_46 hk_47 => ?_)
              clear hz_46
              obtain ⟨rfl, hB_48⟩ := hpost_45
              refine V.eq (st' := [vi ((comesR r t.toNat 2 S).1)]) rfl ?_
              refine v_iret E hE dX4_multiply_103 ?_
              have hR : opMul S a b t = (comesR r t.toNat 2 S) := by unfold opMul; rw [if_pos ⟨by omega, by omega, by omega⟩]; exact (comesR_congr (fun k9 hk9 => by rw [hr k9 hk9, show i = 7 by omega])).symm
              rw [hR]; exact ⟨rfl, _, hB_48⟩
            · refine v_iconst E dX4_multiply_41 ?_
              refine v_istore E dX4_multiply_42 (zlt hL rfl) (lv' := [(5, vi 0), (4, vi (i : Int)), (3, vi t), (2, vi b), (1, vi a), (0, .ref (ad 3002))]) rfl ?_
              have loop_44 : ∀ (m_44 : Nat) (H : Heap) (k : Nat) (r : Nat → Int), 7 - k < m_44 → (k ≤ 7) → (∀ m, m < 14 → r m = muK (S a.toNat) (S b.toNat) i k m) → MB κ ad P f g r S K thr len many a1 a2 a3 a4 H → V z H 0 0 44 [(5, vi (k : Int)), (4, vi (i : Int)), (3, vi t), (2, vi b), (1, vi a), (0, .ref (ad 3002))] [] := by
                intro m_44
                induction m_44 with
                | zero => intro H k r hm; exact absurd hm (by omega)
                | succ m_44 ih_44 =>
                  intro H k r hm_44 hk hr hB
                  refine v_iload E 0 rfl dX4_multiply_44 ?_
                  refine v_bipush E ⟨by decide, by decide⟩ dX4_multiply_46 ?_
                  refine v_icmp_ge E (tgt := 91) dX4_multiply_48 (by decide) ⟨by omega, by omega⟩ ⟨by omega, by omega⟩ (fun c_48 => ?_) (fun c_48 => ?_)
                  · refine v_iinc E 1 rfl dX4_multiply_91 (zlt hL rfl) (lv' := [(4, vi ((i : Int) + 1)), (5, vi (k : Int)), (3, vi t), (2, vi b), (1, vi a), (0, .ref (ad 3002))]) rfl ?_
                    refine v_goto E (tgt := 34) dX4_multiply_94 (by decide) ?_
                    refine V.sub [0, 2, 3, 4, 5] (lv' := [(4, vi ((i : Int) + 1)), (3, vi t), (2, vi b), (1, vi a), (0, .ref (ad 3002))]) rfl ?_
                    exact ih_34  H (i + 1) r (by omega) (by omega) (fun m hm => by rw [hr m hm, show k = 7 by omega]; rfl) hB
                  · refine v_aload_n E 5 rfl dX4_multiply_51 ?_
                    refine v_getf E in_X4 hB.ho (ci := 3) rfl 16 (by decide) q1776 rfl (v := .ref (ad 3006)) rfl dX4_multiply_52 ?_
                    refine v_iload E 1 rfl dX4_multiply_55 ?_
                    refine v_iload E 0 rfl dX4_multiply_57 ?_
                    refine v_iadd E dX4_multiply_59 ?_
                    refine v_dup2 E rfl rfl dX4_multiply_60 ?_
                    refine v_lald E dX4_multiply_61 hB.ma (i + k) (by omega) (by omega) (by omega) ?_
                    refine v_aload_n E 5 rfl dX4_multiply_62 ?_
                    refine v_getf E in_X4 hB.ho (ci := 3) rfl 1 (by decide) q1761 rfl (v := .ref (ad 3003)) rfl dX4_multiply_63 ?_
                    refine v_iload_n E 4 rfl dX4_multiply_66 ?_
                    refine v_aaldS E dX4_multiply_67 (hB.ms).2.2.2 (t := 3) (ty := (.array .int)) rfl rfl a.toNat (by omega) (by omega) (by omega) (b := (ad (3010 + a.toNat))) rfl ?_
                    refine v_iload E 1 rfl dX4_multiply_68 ?_
                    refine v_iald E dX4_multiply_70 (hB.sl a.toNat (by omega)) i rfl (by omega) (by omega) ?_
                    refine v_i2l E (by have := hS a.toNat (by omega) i (by omega); exact ⟨by omega, by omega⟩) dX4_multiply_71 ?_
                    refine v_aload_n E 5 rfl dX4_multiply_72 ?_
                    refine v_getf E in_X4 hB.ho (ci := 3) rfl 1 (by decide) q1761 rfl (v := .ref (ad 3003)) rfl dX4_multiply_73 ?_
                    refine v_iload_n E 3 rfl dX4_multiply_76 ?_
                    refine v_aaldS E dX4_multiply_77 (hB.ms).2.2.2 (t := 3) (ty := (.array .int)) rfl rfl b.toNat (by omega) (by omega) (by omega) (b := (ad (3010 + b.toNat))) rfl ?_
                    refine v_iload E 0 rfl dX4_multiply_78 ?_
                    refine v_iald E dX4_multiply_80 (hB.sl b.toNat (by omega)) k rfl (by omega) (by omega) ?_
                    refine v_i2l E (by have := hS b.toNat (by omega) k (by omega); exact ⟨by omega, by omega⟩) dX4_multiply_81 ?_
                    refine v_lmul E dX4_multiply_82 ?_
                    refine v_ladd E dX4_multiply_83 ?_
                    refine v_last E dX4_multiply_84 hB.ma (i + k) (by omega) (by omega) (by omega) (hAll _ (AH.of (by unfold uA; omega))) (fun H_51 hBma_49 hs_50 => ?_)
                    have hB_52 : MB κ ad P f g (va_up r (i + k) ((r (i + k)) + ((S a.toNat i) * (S b.toNat k)))) S K thr len many a1 a2 a3 a4 H_51 := hB.made hI hs_50 hBma_49
                    refine v_iinc E 0 rfl dX4_multiply_85 (zlt hL rfl) (lv' := [(5, vi ((k : Int) + 1)), (4, vi (i : Int)), (3, vi t), (2, vi b), (1, vi a), (0, .ref (ad 3002))]) rfl ?_
                    refine v_goto E (tgt := 44) dX4_multiply_88 (by decide) ?_
                    exact ih_44  H_51 (k + 1) _ (by omega) (by omega) (muK_s hr (by rw [hr (i + k) (by omega)])) hB_52
              exact loop_44 (7 + 1) H 0 r (by omega) (by omega) (muK_0 hr) hB
        refine V.sub [0, 4, 3, 2, 1] (lv' := [(4, vi 0), (3, vi t), (2, vi b), (1, vi a), (0, .ref (ad 3002))]) rfl ?_
        exact loop_34 (7 + 1) H_38 0 r0 (by omega) (by omega) hr0 hB_42
      · refine v_aload_n E 0 rfl dX4_multiply_21 ?_
        refine v_iconst E dX4_multiply_22 ?_
        refine v_callV E (As := [vi 1]) (b := (ad 3002)) (ci := 3) (C := RX4) (T := TX4) (N := 27) hB_36.ho rfl (m_fails κ H_31 hI hB_36) (lw_V q1857 q1859 qs47 q82 q1860) 1 (by decide +kernel) rfl (by decide) (by decide) (cb' := 0) (sb' := 0) (by decide) (by decide) rfl (rest := []) (Nat.le_of_ble_eq_true rfl) hAll dX4_multiply_23 (fun v_53 H_54 hpost_55 hz_56 hk_57 => ?_)
        clear hz_56
        obtain ⟨rfl, hB_58⟩ := hpost_55
        refine V.eq (st' := [vi 0]) rfl ?_
        refine v_iret E hE dX4_multiply_26 ?_
        have hR : opMul S a b t = (0, 1, S) := by unfold opMul; rw [if_neg (by omega)]
        rw [hR]; exact ⟨rfl, _, hB_58⟩

set_option maxHeartbeats 400000 in
set_option maxRecDepth 100000 in
/-- shift -/
theorem m_opShift (κ : zK) (H0 : Heap) {ad : Nat → Nat} {P : Nat → Nat → Int} {f g mk : Nat → Int} {S : Nat → Nat → Int} {K : Nat → Int} {thr len many : Int} {a1 a2 a3 a4 : Nat} {a y t : Int} (ha : rI a) (hy : rI y) (ht : rI t) (hS : bS S) (hI : Inj ad) (hB : MB κ ad P f g mk S K thr len many a1 a2 a3 a4 H0) : Mt κ yX4_shift cX4_shift 6 (some .int) 2 44 0 0 H0 [.ref (ad 3002), vi a, vi y, vi t] (AH ad) (fun v H1 => v = some (vi (opShift S a y t).1) ∧ ∃ mk1 : Nat → Int, MB κ ad P f g mk1 ((opShift S a y t).2.2) K ((opShift S a y t).2.1) len many a1 a2 a3 a4 H1) := by
  refine Mt.of (by decide) (Nat.le_of_ble_eq_true rfl) ?_
  intro z E hE hH0 hA0 hL hini
  have hAll : ∀ q, (AH ad) q → zA z.A z.H0 q := fun q h => Or.inl (by rw [hA0]; exact h)
  have hNew : ∀ q, H0.size ≤ q → zA z.A z.H0 q := fun q h => Or.inr (by rw [hH0]; exact h)
  have E : zOK z cX4_shift RX4 κ 2 44 (some .int) := E
  refine V.eqL (lv' := [(0, .ref (ad 3002)), (1, vi a), (2, vi y), (3, vi t)]) rfl ?_
  refine v_iload_n E 1 rfl dX4_shift_0 ?_
  refine v_callS E (As := [vi a]) (m_isSlot κ H0 (by first | assumption | decide | exact ⟨by omega, by omega⟩)) (lw_S q1851 q1852 q82 q1853) 1 (by decide +kernel) rfl (by decide) (by decide) (cb' := 0) (sb' := 0) (by decide) (by decide) rfl (rest := []) (Nat.le_of_ble_eq_true rfl) (fun q h => h.elim) dX4_shift_1 (fun v_2 H_3 hpost_4 hz_5 hk_6 => ?_)
  clear hz_5
  obtain rfl := hpost_4
  obtain ⟨b_1, hb_7, hb_7e⟩ : ∃ b9 : Int, (b9 = 0 ∧ ¬ (0 ≤ a ∧ a < 5) ∨ b9 = 1 ∧ (0 ≤ a ∧ a < 5)) ∧ (if 0 ≤ a ∧ a < 5 then 1 else 0 : Int) = b9 := by
    by_cases c : 0 ≤ a ∧ a < 5
    · exact ⟨1, Or.inr ⟨rfl, c⟩, if_pos c⟩
    · exact ⟨0, Or.inl ⟨rfl, c⟩, if_neg c⟩
  have hB_8 : MB κ ad P f g mk S K thr len many a1 a2 a3 a4 H_3 := hB.nil hk_6
  refine V.eq (st' := [vi b_1]) (by rw [hb_7e]; rfl) ?_
  refine v_if_eq E (tgt := 14) dX4_shift_4 (by decide) ⟨by omega, by omega⟩ (fun c_4 => ?_) (fun c_4 => ?_)
  · refine v_aload_n E 0 rfl dX4_shift_14 ?_
    refine v_iconst E dX4_shift_15 ?_
    refine v_callV E (As := [vi 1]) (b := (ad 3002)) (ci := 3) (C := RX4) (T := TX4) (N := 27) hB_8.ho rfl (m_fails κ H_3 hI hB_8) (lw_V q1857 q1859 qs47 q82 q1860) 1 (by decide +kernel) rfl (by decide) (by decide) (cb' := 0) (sb' := 0) (by decide) (by decide) rfl (rest := []) (Nat.le_of_ble_eq_true rfl) hAll dX4_shift_16 (fun v_9 H_10 hpost_11 hz_12 hk_13 => ?_)
    clear hz_12
    obtain ⟨rfl, hB_14⟩ := hpost_11
    refine V.eq (st' := [vi 0]) rfl ?_
    refine v_iret E hE dX4_shift_19 ?_
    have hR : opShift S a y t = (0, 1, S) := by unfold opShift; rw [if_neg (by omega)]
    rw [hR]; exact ⟨rfl, _, hB_14⟩
  · refine v_iload_n E 3 rfl dX4_shift_7 ?_
    refine v_callS E (As := [vi t]) (m_isSlot κ H_3 (by first | assumption | decide | exact ⟨by omega, by omega⟩)) (lw_S q1851 q1852 q82 q1853) 1 (by decide +kernel) rfl (by decide) (by decide) (cb' := 0) (sb' := 0) (by decide) (by decide) rfl (rest := []) (Nat.le_of_ble_eq_true rfl) (fun q h => h.elim) dX4_shift_8 (fun v_16 H_17 hpost_18 hz_19 hk_20 => ?_)
    clear hz_19
    obtain rfl := hpost_18
    obtain ⟨b_15, hb_21, hb_21e⟩ : ∃ b9 : Int, (b9 = 0 ∧ ¬ (0 ≤ t ∧ t < 5) ∨ b9 = 1 ∧ (0 ≤ t ∧ t < 5)) ∧ (if 0 ≤ t ∧ t < 5 then 1 else 0 : Int) = b9 := by
      by_cases c : 0 ≤ t ∧ t < 5
      · exact ⟨1, Or.inr ⟨rfl, c⟩, if_pos c⟩
      · exact ⟨0, Or.inl ⟨rfl, c⟩, if_neg c⟩
    have hB_22 : MB κ ad P f g mk S K thr len many a1 a2 a3 a4 H_17 := hB_8.nil hk_20
    refine V.eq (st' := [vi b_15]) (by rw [hb_21e]; rfl) ?_
    refine v_if_ne E (tgt := 20) dX4_shift_11 (by decide) ⟨by omega, by omega⟩ (fun c_11 => ?_) (fun c_11 => ?_)
    · refine v_iload_n E 2 rfl dX4_shift_20 ?_
      refine v_bipush E ⟨by decide, by decide⟩ dX4_shift_21 ?_
      refine v_bipush E ⟨by decide, by decide⟩ dX4_shift_23 ?_
      refine v_callS E (As := [vi y, vi (-9), vi 9]) (m_in κ H_17 (by first | assumption | decide | exact ⟨by omega, by omega⟩) (by first | assumption | decide | exact ⟨by omega, by omega⟩) (by first | assumption | decide | exact ⟨by omega, by omega⟩)) (lw_S q1854 q1855 q82 q1856) 3 (by decide +kernel) rfl (by decide) (by decide) (cb' := 0) (sb' := 0) (by decide) (by decide) rfl (rest := []) (Nat.le_of_ble_eq_true rfl) (fun q h => h.elim) dX4_shift_25 (fun v_24 H_25 hpost_26 hz_27 hk_28 => ?_)
      clear hz_27
      obtain rfl := hpost_26
      obtain ⟨b_23, hb_29, hb_29e⟩ : ∃ b9 : Int, (b9 = 0 ∧ ¬ ((-9) ≤ y ∧ y ≤ 9) ∨ b9 = 1 ∧ ((-9) ≤ y ∧ y ≤ 9)) ∧ (if (-9) ≤ y ∧ y ≤ 9 then 1 else 0 : Int) = b9 := by
        by_cases c : (-9) ≤ y ∧ y ≤ 9
        · exact ⟨1, Or.inr ⟨rfl, c⟩, if_pos c⟩
        · exact ⟨0, Or.inl ⟨rfl, c⟩, if_neg c⟩
      have hB_30 : MB κ ad P f g mk S K thr len many a1 a2 a3 a4 H_25 := hB_22.nil hk_28
      refine V.eq (st' := [vi b_23]) (by rw [hb_29e]; rfl) ?_
      refine v_if_ne E (tgt := 37) dX4_shift_28 (by decide) ⟨by omega, by omega⟩ (fun c_28 => ?_) (fun c_28 => ?_)
      · refine v_aload_n E 0 rfl dX4_shift_37 ?_
        refine v_callV E (As := []) (b := (ad 3002)) (ci := 3) (C := RX4) (T := TX4) (N := 27) hB_30.ho rfl (m_clear κ H_25 hI hB_30) (lw_V q1880 q1882 qs49 q82 q1883) 0 (by decide +kernel) rfl (by decide) (by decide) (cb' := 0) (sb' := 0) (by decide) (by decide) rfl (rest := []) (Nat.le_of_ble_eq_true rfl) hAll dX4_shift_38 (fun v_31 H_32 hpost_33 hz_34 hk_35 => ?_)
        clear hz_34
        obtain ⟨rfl, r0, hr0, hB_36⟩ := hpost_33
        refine V.eq (st' := []) rfl ?_
        refine v_bipush E ⟨by decide, by decide⟩ dX4_shift_41 ?_
        refine v_istore E dX4_shift_43 (zlt hL rfl) (lv' := [(4, vi 6), (0, .ref (ad 3002)), (1, vi a), (2, vi y), (3, vi t)]) rfl ?_
        have loop_45 : ∀ (m_45 : Nat) (H : Heap) (q : Nat) (r : Nat → Int), 7 - q < m_45 → (q ≤ 7) → (∀ m, m < 14 → r m = shF (S a.toNat) y q m) → MB κ ad P f g r S K thr len many a1 a2 a3 a4 H → V z H 0 0 45 [(4, vi (6 - (q : Int))), (3, vi t), (2, vi y), (1, vi a), (0, .ref (ad 3002))] [] := by
          intro m_45
          induction m_45 with
          | zero => intro H q r hm; exact absurd hm (by omega)
          | succ m_45 ih_45 =>
            intro H q r hm_45 hq hr hB
            refine v_iload E 0 rfl dX4_shift_45 ?_
            refine v_if_lt E (tgt := 116) dX4_shift_47 (by decide) ⟨by omega, by omega⟩ (fun c_47 => ?_) (fun c_47 => ?_)
            · refine v_aload_n E 4 rfl dX4_shift_116 ?_
              refine v_iload_n E 1 rfl dX4_shift_117 ?_
              refine v_iconst E dX4_shift_118 ?_
              refine v_callV E (As := [vi t, vi 3]) (b := (ad 3002)) (ci := 3) (C := RX4) (T := TX4) (N := 27) hB.ho rfl (m_comes κ H (by omega) (fun k9 hk9 => by rw [hr k9 hk9]; have h1 := shF_in (hS a.toNat (by omega)) (show -9 ≤ y ∧ y ≤ 9 by omega) q k9; have h2 : 9999 * 10 ^ q ≤ 9999 * 10 ^ 7 := Nat.mul_le_mul_left _ (Nat.pow_le_pow_right (by decide) hq); rw [show (10 : Nat) ^ 7 = 10000000 by decide] at h2; exact rJ_small ⟨by omega, by omega⟩) hI hB) (lw_V q1884 q1886 qs50 q82 q1887) 2 (by decide +kernel) rfl (by decide) (by decide) (cb' := 0) (sb' := 0) (by decide) (by decide) rfl (rest := []) (Nat.le_of_ble_eq_true rfl) hAll dX4_shift_119 (fun v_37 H_38 hpost_39 hz_40 hk_41 => ?_)
              clear hz_40
              obtain ⟨rfl, hB_42⟩ := hpost_39
              refine V.eq (st' := [vi ((comesR r t.toNat 3 S).1)]) rfl ?_
              refine v_iret E hE dX4_shift_122 ?_
              have hR : opShift S a y t = (comesR r t.toNat 3 S) := by unfold opShift; rw [if_pos ⟨by omega, by omega⟩, if_pos ⟨by omega, by omega⟩]; exact (comesR_congr (fun k9 hk9 => by rw [hr k9 hk9, show q = 7 by omega])).symm
              rw [hR]; exact ⟨rfl, _, hB_42⟩
            · obtain ⟨k, hk⟩ : ∃ k, k = 6 - q := ⟨_, rfl⟩
              refine V.eqL (lv' := [(4, vi (k : Int)), (3, vi t), (2, vi y), (1, vi a), (0, .ref (ad 3002))]) (by rw [show (6 : Int) - (q : Int) = (k : Int) by omega]) ?_
              refine v_bipush E ⟨by decide, by decide⟩ dX4_shift_50 ?_
              refine v_istore E dX4_shift_52 (zlt hL rfl) (lv' := [(5, vi 6), (4, vi (k : Int)), (3, vi t), (2, vi y), (1, vi a), (0, .ref (ad 3002))]) rfl ?_
              have loop_54 : ∀ (m_54 : Nat) (H : Heap) (n : Nat) (r : Nat → Int), n < m_54 → (n ≤ 7) → (∀ m, m < 14 → r m = shK (shF (S a.toNat) y q) y (S a.toNat k) n m) → MB κ ad P f g r S K thr len many a1 a2 a3 a4 H → V z H 0 0 54 [(5, vi ((n : Int) - 1)), (4, vi (k : Int)), (3, vi t), (2, vi y), (1, vi a), (0, .ref (ad 3002))] [] := by
                intro m_54
                induction m_54 with
                | zero => intro H n r hm; exact absurd hm (by omega)
                | succ m_54 ih_54 =>
                  intro H n r hm_54 hn hr hB
                  refine v_iload E 0 rfl dX4_shift_54 ?_
                  refine v_if_lt E (tgt := 110) dX4_shift_56 (by decide) ⟨by omega, by omega⟩ (fun c_56 => ?_) (fun c_56 => ?_)
                  · refine v_iinc E 1 rfl dX4_shift_110 (zlt hL rfl) (lv' := [(4, vi ((k : Int) + (-1))), (5, vi ((n : Int) - 1)), (3, vi t), (2, vi y), (1, vi a), (0, .ref (ad 3002))]) rfl ?_
                    refine v_goto E (tgt := 45) dX4_shift_113 (by decide) ?_
                    refine V.sub [0, 2, 3, 4, 5] (lv' := [(4, vi ((k : Int) + (-1))), (3, vi t), (2, vi y), (1, vi a), (0, .ref (ad 3002))]) rfl ?_
                    exact V.eqL (by rw [show (6 : Int) - ((q + 1 : Nat) : Int) = (k : Int) + (-1) by omega]) (ih_45  H (q + 1) r (by omega) (by omega) (fun m hm => by rw [hr m hm, show n = 0 by omega]; show (if m < 0 then _ else shN _ y _ m) = shN _ y (S a.toNat (6 - q)) m; rw [if_neg (by omega), show 6 - q = k by omega]) hB)
                  · obtain ⟨l, hnl⟩ : ∃ l, n = l + 1 := ⟨n - 1, by omega⟩
                    refine V.eqL (lv' := [(5, vi (l : Int)), (4, vi (k : Int)), (3, vi t), (2, vi y), (1, vi a), (0, .ref (ad 3002))]) (by rw [show (n : Int) - 1 = (l : Int) by omega]) ?_
                    refine v_aload_n E 5 rfl dX4_shift_59 ?_
                    refine v_getf E in_X4 hB.ho (ci := 3) rfl 16 (by decide) q1776 rfl (v := .ref (ad 3006)) rfl dX4_shift_60 ?_
                    refine v_iload E 0 rfl dX4_shift_63 ?_
                    refine v_aload_n E 5 rfl dX4_shift_65 ?_
                    refine v_getf E in_X4 hB.ho (ci := 3) rfl 16 (by decide) q1776 rfl (v := .ref (ad 3006)) rfl dX4_shift_66 ?_
                    refine v_iload E 0 rfl dX4_shift_69 ?_
                    refine v_lald E dX4_shift_71 hB.ma l rfl (by omega) (by omega) ?_
                    refine v_iload_n E 3 rfl dX4_shift_72 ?_
                    refine v_i2l E ⟨by omega, by omega⟩ dX4_shift_73 ?_
                    refine v_lmul E dX4_shift_74 ?_
                    refine v_iload E 0 rfl dX4_shift_75 ?_
                    refine v_if_le E (tgt := 92) dX4_shift_77 (by decide) ⟨by omega, by omega⟩ (fun c_77 => ?_) (fun c_77 => ?_)
                    · refine v_aload_n E 5 rfl dX4_shift_92 ?_
                      refine v_getf E in_X4 hB.ho (ci := 3) rfl 1 (by decide) q1761 rfl (v := .ref (ad 3003)) rfl dX4_shift_93 ?_
                      refine v_iload_n E 4 rfl dX4_shift_96 ?_
                      refine v_aaldS E dX4_shift_97 (hB.ms).2.2.2 (t := 3) (ty := (.array .int)) rfl rfl a.toNat (by omega) (by omega) (by omega) (b := (ad (3010 + a.toNat))) rfl ?_
                      refine v_iload E 1 rfl dX4_shift_98 ?_
                      refine v_iald E dX4_shift_100 (hB.sl a.toNat (by omega)) k rfl (by omega) (by omega) ?_
                      refine v_i2l E (by have := hS a.toNat (by omega) k (by omega); exact ⟨by omega, by omega⟩) dX4_shift_101 ?_
                      refine v_ladd E dX4_shift_102 ?_
                      refine v_last E dX4_shift_103 hB.ma l rfl (by omega) (by omega) (hAll _ (AH.of (by unfold uA; omega))) (fun H_45 hBma_43 hs_44 => ?_)
                      have hB_46 : MB κ ad P f g (va_up r l (((r l) * y) + (S a.toNat k))) S K thr len many a1 a2 a3 a4 H_45 := hB.made hI hs_44 hBma_43
                      refine v_iinc E 0 rfl dX4_shift_104 (zlt hL rfl) (lv' := [(5, vi ((l : Int) + (-1))), (4, vi (k : Int)), (3, vi t), (2, vi y), (1, vi a), (0, .ref (ad 3002))]) rfl ?_
                      refine v_goto E (tgt := 54) dX4_shift_107 (by decide) ?_
                      exact V.eqL (by rw [show (l : Int) + (-1) = (l : Int) - 1 by omega]) (ih_54  H_45 l _ (by omega) (by omega) (shK_s (by rw [← hnl]; exact hr) (by show _ = if l < 7 then _ else _; rw [if_pos (by omega)]; unfold shK at hr; rw [hr l (by omega), if_pos (by omega)]; first | (rw [if_pos (show 0 < l by omega), hr (l - 1) (by omega), if_pos (by omega)]; done) | rw [if_neg (show ¬ 0 < l by omega)])) hB_46)
                    · refine v_aload_n E 5 rfl dX4_shift_80 ?_
                      refine v_getf E in_X4 hB.ho (ci := 3) rfl 16 (by decide) q1776 rfl (v := .ref (ad 3006)) rfl dX4_shift_81 ?_
                      refine v_iload E 0 rfl dX4_shift_84 ?_
                      refine v_iconst E dX4_shift_86 ?_
                      refine v_isub E dX4_shift_87 ?_
                      refine v_lald E dX4_shift_88 hB.ma (l - 1) (by omega) (by omega) (by omega) ?_
                      refine v_goto E (tgt := 102) dX4_shift_89 (by decide) ?_
                      refine v_ladd E dX4_shift_102 ?_
                      refine v_last E dX4_shift_103 hB.ma l rfl (by omega) (by omega) (hAll _ (AH.of (by unfold uA; omega))) (fun H_49 hBma_47 hs_48 => ?_)
                      have hB_50 : MB κ ad P f g (va_up r l (((r l) * y) + (r (l - 1)))) S K thr len many a1 a2 a3 a4 H_49 := hB.made hI hs_48 hBma_47
                      refine v_iinc E 0 rfl dX4_shift_104 (zlt hL rfl) (lv' := [(5, vi ((l : Int) + (-1))), (4, vi (k : Int)), (3, vi t), (2, vi y), (1, vi a), (0, .ref (ad 3002))]) rfl ?_
                      refine v_goto E (tgt := 54) dX4_shift_107 (by decide) ?_
                      exact V.eqL (by rw [show (l : Int) + (-1) = (l : Int) - 1 by omega]) (ih_54  H_49 l _ (by omega) (by omega) (shK_s (by rw [← hnl]; exact hr) (by show _ = if l < 7 then _ else _; rw [if_pos (by omega)]; unfold shK at hr; rw [hr l (by omega), if_pos (by omega)]; first | (rw [if_pos (show 0 < l by omega), hr (l - 1) (by omega), if_pos (by omega)]; done) | rw [if_neg (show ¬ 0 < l by omega)])) hB_50)
              exact V.eqL (by rw [show ((7 : Nat) : Int) - 1 = 6 by decide]) (loop_54 (7 + 1) H 7 r (by omega) (by omega) (fun m hm => by rw [hr m hm]; unfold shK; by_cases c : m < 7; rw [if_pos c]; rw [if_neg c]; unfold shN; rw [if_neg c]; exact shF_hi _ _ _ _ (by omega)) hB)
        refine V.sub [0, 4, 3, 2, 1] (lv' := [(4, vi 6), (3, vi t), (2, vi y), (1, vi a), (0, .ref (ad 3002))]) rfl ?_
        exact V.eqL (by rw [show (6 : Int) - ((0 : Nat) : Int) = 6 by decide]) (loop_45 (7 + 1) H_32 0 r0 (by omega) (by omega) hr0 hB_36)
      · refine v_aload_n E 0 rfl dX4_shift_31 ?_
        refine v_iconst E dX4_shift_32 ?_
        refine v_callV E (As := [vi 2]) (b := (ad 3002)) (ci := 3) (C := RX4) (T := TX4) (N := 27) hB_30.ho rfl (m_fails κ H_25 hI hB_30) (lw_V q1857 q1859 qs47 q82 q1860) 1 (by decide +kernel) rfl (by decide) (by decide) (cb' := 0) (sb' := 0) (by decide) (by decide) rfl (rest := []) (Nat.le_of_ble_eq_true rfl) hAll dX4_shift_33 (fun v_51 H_52 hpost_53 hz_54 hk_55 => ?_)
        clear hz_54
        obtain ⟨rfl, hB_56⟩ := hpost_53
        refine V.eq (st' := [vi 0]) rfl ?_
        refine v_iret E hE dX4_shift_36 ?_
        have hR : opShift S a y t = (0, 2, S) := by unfold opShift; rw [if_pos (by omega), if_neg (by omega)]
        rw [hR]; exact ⟨rfl, _, hB_56⟩
    · refine v_aload_n E 0 rfl dX4_shift_14 ?_
      refine v_iconst E dX4_shift_15 ?_
      refine v_callV E (As := [vi 1]) (b := (ad 3002)) (ci := 3) (C := RX4) (T := TX4) (N := 27) hB_22.ho rfl (m_fails κ H_17 hI hB_22) (lw_V q1857 q1859 qs47 q82 q1860) 1 (by decide +kernel) rfl (by decide) (by decide) (cb' := 0) (sb' := 0) (by decide) (by decide) rfl (rest := []) (Nat.le_of_ble_eq_true rfl) hAll dX4_shift_16 (fun v_57 H_58 hpost_59 hz_60 hk_61 => ?_)
      clear hz_60
      obtain ⟨rfl, hB_62⟩ := hpost_59
      refine V.eq (st' := [vi 0]) rfl ?_
      refine v_iret E hE dX4_shift_19 ?_
      have hR : opShift S a y t = (0, 1, S) := by unfold opShift; rw [if_neg (by omega)]
      rw [hR]; exact ⟨rfl, _, hB_62⟩

set_option maxHeartbeats 400000 in
set_option maxRecDepth 100000 in
/-- scale -/
theorem m_opScale (κ : zK) (H0 : Heap) {ad : Nat → Nat} {P : Nat → Nat → Int} {f g mk : Nat → Int} {S : Nat → Nat → Int} {K : Nat → Int} {thr len many : Int} {a1 a2 a3 a4 : Nat} {a y t : Int} (ha : rI a) (hy : rI y) (ht : rI t) (hS : bS S) (hI : Inj ad) (hB : MB κ ad P f g mk S K thr len many a1 a2 a3 a4 H0) : Mt κ yX4_scale cX4_scale 7 (some .int) 2 44 0 0 H0 [.ref (ad 3002), vi a, vi y, vi t] (AH ad) (fun v H1 => v = some (vi (opScale S a y t).1) ∧ ∃ mk1 : Nat → Int, MB κ ad P f g mk1 ((opScale S a y t).2.2) K ((opScale S a y t).2.1) len many a1 a2 a3 a4 H1) := by
  refine Mt.of (by decide) (Nat.le_of_ble_eq_true rfl) ?_
  intro z E hE hH0 hA0 hL hini
  have hAll : ∀ q, (AH ad) q → zA z.A z.H0 q := fun q h => Or.inl (by rw [hA0]; exact h)
  have hNew : ∀ q, H0.size ≤ q → zA z.A z.H0 q := fun q h => Or.inr (by rw [hH0]; exact h)
  have E : zOK z cX4_scale RX4 κ 2 44 (some .int) := E
  refine V.eqL (lv' := [(0, .ref (ad 3002)), (1, vi a), (2, vi y), (3, vi t)]) rfl ?_
  refine v_iload_n E 1 rfl dX4_scale_0 ?_
  refine v_callS E (As := [vi a]) (m_isSlot κ H0 (by first | assumption | decide | exact ⟨by omega, by omega⟩)) (lw_S q1851 q1852 q82 q1853) 1 (by decide +kernel) rfl (by decide) (by decide) (cb' := 0) (sb' := 0) (by decide) (by decide) rfl (rest := []) (Nat.le_of_ble_eq_true rfl) (fun q h => h.elim) dX4_scale_1 (fun v_2 H_3 hpost_4 hz_5 hk_6 => ?_)
  clear hz_5
  obtain rfl := hpost_4
  obtain ⟨b_1, hb_7, hb_7e⟩ : ∃ b9 : Int, (b9 = 0 ∧ ¬ (0 ≤ a ∧ a < 5) ∨ b9 = 1 ∧ (0 ≤ a ∧ a < 5)) ∧ (if 0 ≤ a ∧ a < 5 then 1 else 0 : Int) = b9 := by
    by_cases c : 0 ≤ a ∧ a < 5
    · exact ⟨1, Or.inr ⟨rfl, c⟩, if_pos c⟩
    · exact ⟨0, Or.inl ⟨rfl, c⟩, if_neg c⟩
  have hB_8 : MB κ ad P f g mk S K thr len many a1 a2 a3 a4 H_3 := hB.nil hk_6
  refine V.eq (st' := [vi b_1]) (by rw [hb_7e]; rfl) ?_
  refine v_if_eq E (tgt := 14) dX4_scale_4 (by decide) ⟨by omega, by omega⟩ (fun c_4 => ?_) (fun c_4 => ?_)
  · refine v_aload_n E 0 rfl dX4_scale_14 ?_
    refine v_iconst E dX4_scale_15 ?_
    refine v_callV E (As := [vi 1]) (b := (ad 3002)) (ci := 3) (C := RX4) (T := TX4) (N := 27) hB_8.ho rfl (m_fails κ H_3 hI hB_8) (lw_V q1857 q1859 qs47 q82 q1860) 1 (by decide +kernel) rfl (by decide) (by decide) (cb' := 0) (sb' := 0) (by decide) (by decide) rfl (rest := []) (Nat.le_of_ble_eq_true rfl) hAll dX4_scale_16 (fun v_9 H_10 hpost_11 hz_12 hk_13 => ?_)
    clear hz_12
    obtain ⟨rfl, hB_14⟩ := hpost_11
    refine V.eq (st' := [vi 0]) rfl ?_
    refine v_iret E hE dX4_scale_19 ?_
    have hR : opScale S a y t = (0, 1, S) := by unfold opScale; rw [if_neg (by omega)]
    rw [hR]; exact ⟨rfl, _, hB_14⟩
  · refine v_iload_n E 3 rfl dX4_scale_7 ?_
    refine v_callS E (As := [vi t]) (m_isSlot κ H_3 (by first | assumption | decide | exact ⟨by omega, by omega⟩)) (lw_S q1851 q1852 q82 q1853) 1 (by decide +kernel) rfl (by decide) (by decide) (cb' := 0) (sb' := 0) (by decide) (by decide) rfl (rest := []) (Nat.le_of_ble_eq_true rfl) (fun q h => h.elim) dX4_scale_8 (fun v_16 H_17 hpost_18 hz_19 hk_20 => ?_)
    clear hz_19
    obtain rfl := hpost_18
    obtain ⟨b_15, hb_21, hb_21e⟩ : ∃ b9 : Int, (b9 = 0 ∧ ¬ (0 ≤ t ∧ t < 5) ∨ b9 = 1 ∧ (0 ≤ t ∧ t < 5)) ∧ (if 0 ≤ t ∧ t < 5 then 1 else 0 : Int) = b9 := by
      by_cases c : 0 ≤ t ∧ t < 5
      · exact ⟨1, Or.inr ⟨rfl, c⟩, if_pos c⟩
      · exact ⟨0, Or.inl ⟨rfl, c⟩, if_neg c⟩
    have hB_22 : MB κ ad P f g mk S K thr len many a1 a2 a3 a4 H_17 := hB_8.nil hk_20
    refine V.eq (st' := [vi b_15]) (by rw [hb_21e]; rfl) ?_
    refine v_if_ne E (tgt := 20) dX4_scale_11 (by decide) ⟨by omega, by omega⟩ (fun c_11 => ?_) (fun c_11 => ?_)
    · refine v_iload_n E 2 rfl dX4_scale_20 ?_
      refine v_iconst E dX4_scale_21 ?_
      refine v_bipush E ⟨by decide, by decide⟩ dX4_scale_22 ?_
      refine v_callS E (As := [vi y, vi 2, vi 9]) (m_in κ H_17 (by first | assumption | decide | exact ⟨by omega, by omega⟩) (by first | assumption | decide | exact ⟨by omega, by omega⟩) (by first | assumption | decide | exact ⟨by omega, by omega⟩)) (lw_S q1854 q1855 q82 q1856) 3 (by decide +kernel) rfl (by decide) (by decide) (cb' := 0) (sb' := 0) (by decide) (by decide) rfl (rest := []) (Nat.le_of_ble_eq_true rfl) (fun q h => h.elim) dX4_scale_24 (fun v_24 H_25 hpost_26 hz_27 hk_28 => ?_)
      clear hz_27
      obtain rfl := hpost_26
      obtain ⟨b_23, hb_29, hb_29e⟩ : ∃ b9 : Int, (b9 = 0 ∧ ¬ (2 ≤ y ∧ y ≤ 9) ∨ b9 = 1 ∧ (2 ≤ y ∧ y ≤ 9)) ∧ (if 2 ≤ y ∧ y ≤ 9 then 1 else 0 : Int) = b9 := by
        by_cases c : 2 ≤ y ∧ y ≤ 9
        · exact ⟨1, Or.inr ⟨rfl, c⟩, if_pos c⟩
        · exact ⟨0, Or.inl ⟨rfl, c⟩, if_neg c⟩
      have hB_30 : MB κ ad P f g mk S K thr len many a1 a2 a3 a4 H_25 := hB_22.nil hk_28
      refine V.eq (st' := [vi b_23]) (by rw [hb_29e]; rfl) ?_
      refine v_if_ne E (tgt := 36) dX4_scale_27 (by decide) ⟨by omega, by omega⟩ (fun c_27 => ?_) (fun c_27 => ?_)
      · refine v_aload_n E 0 rfl dX4_scale_36 ?_
        refine v_callV E (As := []) (b := (ad 3002)) (ci := 3) (C := RX4) (T := TX4) (N := 27) hB_30.ho rfl (m_clear κ H_25 hI hB_30) (lw_V q1880 q1882 qs49 q82 q1883) 0 (by decide +kernel) rfl (by decide) (by decide) (cb' := 0) (sb' := 0) (by decide) (by decide) rfl (rest := []) (Nat.le_of_ble_eq_true rfl) hAll dX4_scale_37 (fun v_31 H_32 hpost_33 hz_34 hk_35 => ?_)
        clear hz_34
        obtain ⟨rfl, r0, hr0, hB_36⟩ := hpost_33
        refine V.eq (st' := []) rfl ?_
        refine v_lconst E (x := 1) rfl dX4_scale_40 ?_
        refine v_lstore E dX4_scale_41 (zlt hL rfl) (lv' := [(4, vj 1), (0, .ref (ad 3002)), (1, vi a), (2, vi y), (3, vi t)]) rfl ?_
        refine v_aload_n E 1 rfl dX4_scale_43 ?_
        refine v_getf E in_X4 hB_36.ho (ci := 3) rfl 1 (by decide) q1761 rfl (v := .ref (ad 3003)) rfl dX4_scale_44 ?_
        refine v_iload_n E 2 rfl dX4_scale_47 ?_
        refine v_aaldS E dX4_scale_48 (hB_36.ms).2.2.2 (t := 3) (ty := (.array .int)) rfl rfl a.toNat (by omega) (by omega) (by omega) (b := (ad (3010 + a.toNat))) rfl ?_
        refine v_callS E (As := [.ref (ad (3010 + a.toNat))]) (m_deg κ H_32 (fun k hk => by have := hS a.toNat (by omega) k hk; exact ⟨by omega, by omega⟩) (hB_36.sl a.toNat (by omega))) (lw_S q1861 q1862 q82 q1863) 1 (by decide +kernel) rfl (by decide) (by decide) (cb' := 0) (sb' := 0) (by decide) (by decide) rfl (rest := []) (Nat.le_of_ble_eq_true rfl) (fun q h => h.elim) dX4_scale_49 (fun v_37 H_38 hpost_39 hz_40 hk_41 => ?_)
        clear hz_40
        obtain rfl := hpost_39
        have hB_42 : MB κ ad P f g r0 S K thr len many a1 a2 a3 a4 H_38 := hB_36.nil hk_41
        have hda := pdeg_in (S a.toNat)
        refine V.eq (st' := [vi (pdeg (S a.toNat))]) rfl ?_
        refine v_istore E dX4_scale_52 (zlt hL rfl) (lv' := [(6, vi (pdeg (S a.toNat))), (4, vj 1), (0, .ref (ad 3002)), (1, vi a), (2, vi y), (3, vi t)]) rfl ?_
        have loop_54 : ∀ (m_54 : Nat) (H : Heap) (n : Nat) (x : Int) (r : Nat → Int), n < m_54 → ((n : Int) ≤ pdeg (S a.toNat) + 1) → (x = y ^ ((pdeg (S a.toNat) + 1).toNat - n)) → (∀ m, m < 14 → r m = if m < n then 0 else scF (S a.toNat) y m) → MB κ ad P f g r S K thr len many a1 a2 a3 a4 H → V z H 0 0 54 [(6, vi ((n : Int) - 1)), (4, vj x), (3, vi t), (2, vi y), (1, vi a), (0, .ref (ad 3002))] [] := by
          intro m_54
          induction m_54 with
          | zero => intro H n x r hm; exact absurd hm (by omega)
          | succ m_54 ih_54 =>
            intro H n x r hm_54 hn hx hr hB
            refine v_iload E 0 rfl dX4_scale_54 ?_
            refine v_if_lt E (tgt := 92) dX4_scale_56 (by decide) ⟨by omega, by omega⟩ (fun c_56 => ?_) (fun c_56 => ?_)
            · refine v_aload_n E 5 rfl dX4_scale_92 ?_
              refine v_iload_n E 2 rfl dX4_scale_93 ?_
              refine v_iconst E dX4_scale_94 ?_
              refine v_callV E (As := [vi t, vi 3]) (b := (ad 3002)) (ci := 3) (C := RX4) (T := TX4) (N := 27) hB.ho rfl (m_comes κ H (by omega) (fun k9 hk9 => by
                rw [hr k9 hk9]
                by_cases c : k9 < n
                · rw [if_pos c]; exact ⟨by decide, by decide⟩
                · rw [if_neg c]
                  unfold scF
                  by_cases c2 : k9 ≤ (pdeg (S a.toNat)).toNat ∧ 0 ≤ pdeg (S a.toNat)
                  · rw [if_pos c2]; have h1 := hS a.toNat (by omega) k9 (by omega); have h2 := pow9_in (show 2 ≤ y ∧ y ≤ 9 by omega) (n := (pdeg (S a.toNat)).toNat - k9) (by omega); have h3 : (S a.toNat k9 * y ^ ((pdeg (S a.toNat)).toNat - k9)).natAbs ≤ 9999 * 4782969 := by rw [Int.natAbs_mul]; exact Nat.mul_le_mul (by omega) (by omega)
                    exact rJ_small ⟨by omega, by omega⟩
                  · rw [if_neg c2]; exact ⟨by decide, by decide⟩) hI hB) (lw_V q1884 q1886 qs50 q82 q1887) 2 (by decide +kernel) rfl (by decide) (by decide) (cb' := 0) (sb' := 0) (by decide) (by decide) rfl (rest := []) (Nat.le_of_ble_eq_true rfl) hAll dX4_scale_95 (fun v_43 H_44 hpost_45 hz_46 hk_47 => ?_)
              clear hz_46
              obtain ⟨rfl, hB_48⟩ := hpost_45
              refine V.eq (st' := [vi ((comesR r t.toNat 3 S).1)]) rfl ?_
              refine v_iret E hE dX4_scale_98 ?_
              have hR : opScale S a y t = (comesR r t.toNat 3 S) := by unfold opScale; rw [if_pos ⟨by omega, by omega⟩, if_pos ⟨by omega, by omega⟩]; exact (comesR_congr (fun k9 hk9 => by rw [hr k9 hk9, if_neg (by omega)])).symm
              rw [hR]; exact ⟨rfl, _, hB_48⟩
            · obtain ⟨l, hnl⟩ : ∃ l, n = l + 1 := ⟨n - 1, by omega⟩
              refine V.eqL (lv' := [(6, vi (l : Int)), (4, vj x), (3, vi t), (2, vi y), (1, vi a), (0, .ref (ad 3002))]) (by rw [show (n : Int) - 1 = (l : Int) by omega]) ?_
              refine v_aload_n E 5 rfl dX4_scale_59 ?_
              refine v_getf E in_X4 hB.ho (ci := 3) rfl 16 (by decide) q1776 rfl (v := .ref (ad 3006)) rfl dX4_scale_60 ?_
              refine v_iload E 0 rfl dX4_scale_63 ?_
              refine v_aload_n E 5 rfl dX4_scale_65 ?_
              refine v_getf E in_X4 hB.ho (ci := 3) rfl 1 (by decide) q1761 rfl (v := .ref (ad 3003)) rfl dX4_scale_66 ?_
              refine v_iload_n E 4 rfl dX4_scale_69 ?_
              refine v_aaldS E dX4_scale_70 (hB.ms).2.2.2 (t := 3) (ty := (.array .int)) rfl rfl a.toNat (by omega) (by omega) (by omega) (b := (ad (3010 + a.toNat))) rfl ?_
              refine v_iload E 0 rfl dX4_scale_71 ?_
              refine v_iald E dX4_scale_73 (hB.sl a.toNat (by omega)) l rfl (by omega) (by omega) ?_
              refine v_i2l E (by have := hS a.toNat (by omega) l (by omega); exact ⟨by omega, by omega⟩) dX4_scale_74 ?_
              refine v_lload E 1 rfl dX4_scale_75 ?_
              refine v_lmul E dX4_scale_77 ?_
              refine v_last E dX4_scale_78 hB.ma l rfl (by omega) (by omega) (hAll _ (AH.of (by unfold uA; omega))) (fun H_51 hBma_49 hs_50 => ?_)
              have hB_52 : MB κ ad P f g (va_up r l ((S a.toNat l) * x)) S K thr len many a1 a2 a3 a4 H_51 := hB.made hI hs_50 hBma_49
              refine v_lload E 1 rfl dX4_scale_79 ?_
              refine v_iload_n E 3 rfl dX4_scale_81 ?_
              refine v_i2l E ⟨by omega, by omega⟩ dX4_scale_82 ?_
              refine v_lmul E dX4_scale_83 ?_
              refine v_lstore E dX4_scale_84 (zlt hL rfl) (lv' := [(4, vj (x * y)), (6, vi (l : Int)), (3, vi t), (2, vi y), (1, vi a), (0, .ref (ad 3002))]) rfl ?_
              refine v_iinc E 1 rfl dX4_scale_86 (zlt hL rfl) (lv' := [(6, vi ((l : Int) + (-1))), (4, vj (x * y)), (3, vi t), (2, vi y), (1, vi a), (0, .ref (ad 3002))]) rfl ?_
              refine v_goto E (tgt := 54) dX4_scale_89 (by decide) ?_
              exact V.eqL (by rw [show (l : Int) + (-1) = (l : Int) - 1 by omega]) (ih_54  H_51 l (x * y) _ (by omega) (by omega) (by rw [hx, show (pdeg (S a.toNat) + 1).toNat - l = ((pdeg (S a.toNat) + 1).toNat - n) + 1 by omega]; exact (Int.pow_succ _ _).symm) (fun m hm => by
                show (if m = l then S a.toNat l * x else r m) = _
                by_cases e : m = l
                · subst e; rw [if_pos rfl, if_neg (by omega)]; unfold scF; rw [if_pos ⟨by omega, by omega⟩, hx, show (pdeg (S a.toNat) + 1).toNat - n = (pdeg (S a.toNat)).toNat - m by omega]
                · rw [if_neg e, hr m hm]
                  by_cases q : m < l
                  · rw [if_pos (by omega), if_pos q]
                  · rw [if_neg (by omega), if_neg q]) hB_52)
        refine V.sub [0, 1, 5, 4, 3, 2] (lv' := [(6, vi (pdeg (S a.toNat))), (4, vj 1), (3, vi t), (2, vi y), (1, vi a), (0, .ref (ad 3002))]) rfl ?_
        exact V.eqL (by rw [show (((pdeg (S a.toNat) + 1).toNat : Nat) : Int) - 1 = pdeg (S a.toNat) by omega]) (loop_54 ((pdeg (S a.toNat) + 1).toNat + 1) H_38 (pdeg (S a.toNat) + 1).toNat 1 r0 (by omega) (by omega) (by rw [Nat.sub_self]; exact (Int.pow_zero y).symm) (fun m hm => by
          rw [hr0 m hm]
          by_cases q : m < (pdeg (S a.toNat) + 1).toNat
          · rw [if_pos q]
          · rw [if_neg q]; unfold scF; rw [if_neg (by omega)]) hB_42)
      · refine v_aload_n E 0 rfl dX4_scale_30 ?_
        refine v_iconst E dX4_scale_31 ?_
        refine v_callV E (As := [vi 2]) (b := (ad 3002)) (ci := 3) (C := RX4) (T := TX4) (N := 27) hB_30.ho rfl (m_fails κ H_25 hI hB_30) (lw_V q1857 q1859 qs47 q82 q1860) 1 (by decide +kernel) rfl (by decide) (by decide) (cb' := 0) (sb' := 0) (by decide) (by decide) rfl (rest := []) (Nat.le_of_ble_eq_true rfl) hAll dX4_scale_32 (fun v_53 H_54 hpost_55 hz_56 hk_57 => ?_)
        clear hz_56
        obtain ⟨rfl, hB_58⟩ := hpost_55
        refine V.eq (st' := [vi 0]) rfl ?_
        refine v_iret E hE dX4_scale_35 ?_
        have hR : opScale S a y t = (0, 2, S) := by unfold opScale; rw [if_pos (by omega), if_neg (by omega)]
        rw [hR]; exact ⟨rfl, _, hB_58⟩
    · refine v_aload_n E 0 rfl dX4_scale_14 ?_
      refine v_iconst E dX4_scale_15 ?_
      refine v_callV E (As := [vi 1]) (b := (ad 3002)) (ci := 3) (C := RX4) (T := TX4) (N := 27) hB_22.ho rfl (m_fails κ H_17 hI hB_22) (lw_V q1857 q1859 qs47 q82 q1860) 1 (by decide +kernel) rfl (by decide) (by decide) (cb' := 0) (sb' := 0) (by decide) (by decide) rfl (rest := []) (Nat.le_of_ble_eq_true rfl) hAll dX4_scale_16 (fun v_59 H_60 hpost_61 hz_62 hk_63 => ?_)
      clear hz_62
      obtain ⟨rfl, hB_64⟩ := hpost_61
      refine V.eq (st' := [vi 0]) rfl ?_
      refine v_iret E hE dX4_scale_19 ?_
      have hR : opScale S a y t = (0, 1, S) := by unfold opScale; rw [if_neg (by omega)]
      rw [hR]; exact ⟨rfl, _, hB_64⟩
