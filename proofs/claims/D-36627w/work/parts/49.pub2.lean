set_option maxHeartbeats 400000 in
set_option maxRecDepth 100000 in
/-- what comes of the made row -/
theorem m_comes (κ : zK) (H0 : Heap) {ad : Nat → Nat} {P : Nat → Nat → Int} {f g mk : Nat → Int} {S : Nat → Nat → Int} {K : Nat → Int} {thr len many : Int} {a1 a2 a3 a4 : Nat} {t ref : Int} (ht : 0 ≤ t ∧ t < 5) (hmr : ∀ k, k < 14 → rJ (mk k)) (hI : Inj ad) (hB : MB κ ad P f g mk S K thr len many a1 a2 a3 a4 H0) : Mt κ yX4_comes cX4_comes 4 (some .int) 1 21 0 0 H0 [.ref (ad 3002), vi t, vi ref] (AH ad) (fun v H1 => v = some (vi (comesR mk t.toNat ref S).1) ∧ MB κ ad P f g mk ((comesR mk t.toNat ref S).2.2) K ((comesR mk t.toNat ref S).2.1) len many a1 a2 a3 a4 H1) := by
  refine Mt.of (by decide) (Nat.le_of_ble_eq_true rfl) ?_
  intro z E hE hH0 hA0 hL hini
  have hAll : ∀ q, (AH ad) q → zA z.A z.H0 q := fun q h => Or.inl (by rw [hA0]; exact h)
  have hNew : ∀ q, H0.size ≤ q → zA z.A z.H0 q := fun q h => Or.inr (by rw [hH0]; exact h)
  have E : zOK z cX4_comes RX4 κ 1 21 (some .int) := E
  refine V.eqL (lv' := [(0, .ref (ad 3002)), (1, vi t), (2, vi ref)]) rfl ?_
  refine v_iconst E dX4_comes_0 ?_
  refine v_istore_n E dX4_comes_1 (zlt hL rfl) (lv' := [(3, vi 0), (0, .ref (ad 3002)), (1, vi t), (2, vi ref)]) rfl ?_
  have loop_2 : ∀ (m_2 : Nat) (H : Heap) (k : Nat), 14 - k < m_2 → (k ≤ 14) → (okB mk k = true) → MB κ ad P f g mk S K thr len many a1 a2 a3 a4 H → V z H 0 0 2 [(3, vi (k : Int)), (2, vi ref), (1, vi t), (0, .ref (ad 3002))] [] := by
    intro m_2
    induction m_2 with
    | zero => intro H k hm; exact absurd hm (by omega)
    | succ m_2 ih_2 =>
      intro H k hm_2 hk ho hB
      refine v_iload_n E 0 rfl dX4_comes_2 ?_
      refine v_aload_n E 3 rfl dX4_comes_3 ?_
      refine v_getf E in_X4 hB.ho (ci := 3) rfl 16 (by decide) q1776 rfl (v := .ref (ad 3006)) rfl dX4_comes_4 ?_
      refine v_alen E dX4_comes_7 (t := 1) (ty := .long) hB.ma rfl ?_
      refine V.eq (st' := vi 14 :: _) rfl ?_
      refine v_icmp_ge E (tgt := 66) dX4_comes_8 (by decide) ⟨by omega, by omega⟩ ⟨by omega, by omega⟩ (fun c_8 => ?_) (fun c_8 => ?_)
      · have hok : okB mk 14 = true := by rw [show 14 = k by omega]; exact ho
        refine v_iconst E dX4_comes_66 ?_
        refine v_istore_n E dX4_comes_67 (zlt hL rfl) (lv' := [(3, vi 0), (2, vi ref), (1, vi t), (0, .ref (ad 3002))]) rfl ?_
        have loop_68 : ∀ (m_68 : Nat) (H : Heap) (k : Nat) (r : Nat → Int), 7 - k < m_68 → (k ≤ 7) → (∀ m, m < k → r m = mk m) → MB κ ad P f g mk (va_up S t.toNat r) K thr len many a1 a2 a3 a4 H → V z H 0 0 68 [(3, vi (k : Int)), (2, vi ref), (1, vi t), (0, .ref (ad 3002))] [] := by
          intro m_68
          induction m_68 with
          | zero => intro H k r hm; exact absurd hm (by omega)
          | succ m_68 ih_68 =>
            intro H k r hm_68 hk hr hB
            refine v_iload_n E 0 rfl dX4_comes_68 ?_
            refine v_bipush E ⟨by decide, by decide⟩ dX4_comes_69 ?_
            refine v_icmp_ge E (tgt := 95) dX4_comes_71 (by decide) ⟨by omega, by omega⟩ ⟨by omega, by omega⟩ (fun c_71 => ?_) (fun c_71 => ?_)
            · refine v_aload_n E 3 rfl dX4_comes_95 ?_
              refine v_aload_n E 3 rfl dX4_comes_96 ?_
              refine v_getf E in_X4 hB.ho (ci := 3) rfl 1 (by decide) q1761 rfl (v := .ref (ad 3003)) rfl dX4_comes_97 ?_
              refine v_iload_n E 2 rfl dX4_comes_100 ?_
              refine v_aaldS E dX4_comes_101 (hB.ms).2.2.2 (t := 3) (ty := (.array .int)) rfl rfl t.toNat (by omega) (by omega) (by omega) (b := (ad (3010 + t.toNat))) rfl ?_
              have hre : ∀ k, k < 7 → (va_up S t.toNat r) t.toNat k = mk k := fun k hk => by rw [va_upj]; exact hr k (by omega)
              refine v_callS E (As := [.ref (ad (3010 + t.toNat))]) (m_deg κ H (fun k hk => by rw [hre k hk]; have := (okB_at 14 hok k (by omega)).2; exact ⟨by omega, by omega⟩) (hB.sl t.toNat (by omega))) (lw_S q1861 q1862 q82 q1863) 1 (by decide +kernel) rfl (by decide) (by decide) (cb' := 0) (sb' := 0) (by decide) (by decide) rfl (rest := [.ref (ad 3002)]) (Nat.le_of_ble_eq_true rfl) (fun q h => h.elim) dX4_comes_102 (fun v_1 H_2 hpost_3 hz_4 hk_5 => ?_)
              clear hz_4
              obtain rfl := hpost_3
              have hB_6 : MB κ ad P f g mk (va_up S t.toNat r) K thr len many a1 a2 a3 a4 H_2 := hB.nil hk_5
              refine V.eq (st' := [vi (pdeg mk), .ref (ad 3002)]) (by rw [pdeg_congr hre]; rfl) ?_
              refine v_callV E (As := [vi (pdeg mk)]) (b := (ad 3002)) (ci := 3) (C := RX4) (T := TX4) (N := 27) hB_6.ho rfl (m_tells κ H_2 hI hB_6) (lw_V q1864 q1866 qs48 q82 q1867) 1 (by decide +kernel) rfl (by decide) (by decide) (cb' := 0) (sb' := 0) (by decide) (by decide) rfl (rest := []) (Nat.le_of_ble_eq_true rfl) hAll dX4_comes_105 (fun v_7 H_8 hpost_9 hz_10 hk_11 => ?_)
              clear hz_10
              obtain ⟨rfl, hB_12⟩ := hpost_9
              refine V.eq (st' := [vi (pdeg mk)]) rfl ?_
              refine v_iret E hE dX4_comes_108 ?_
              have hR : comesR mk t.toNat ref S = (pdeg mk, 0, va_up S t.toNat (cut7 mk)) := by unfold comesR; rw [if_pos hok]
              rw [hR]
              exact ⟨rfl, hB_12.slc (S' := va_up S t.toNat (cut7 mk)) (fun i hi k hk => by
                by_cases e : i = t.toNat
                · subst e; rw [va_upj, va_upj]; unfold cut7; rw [if_pos hk]; exact hr k (by omega)
                · rw [va_upn _ _ e, va_upn _ _ e])⟩
            · refine v_aload_n E 3 rfl dX4_comes_74 ?_
              refine v_getf E in_X4 hB.ho (ci := 3) rfl 1 (by decide) q1761 rfl (v := .ref (ad 3003)) rfl dX4_comes_75 ?_
              refine v_iload_n E 2 rfl dX4_comes_78 ?_
              refine v_aaldS E dX4_comes_79 (hB.ms).2.2.2 (t := 3) (ty := (.array .int)) rfl rfl t.toNat (by omega) (by omega) (by omega) (b := (ad (3010 + t.toNat))) rfl ?_
              refine v_iload_n E 0 rfl dX4_comes_80 ?_
              refine v_aload_n E 3 rfl dX4_comes_81 ?_
              refine v_getf E in_X4 hB.ho (ci := 3) rfl 16 (by decide) q1776 rfl (v := .ref (ad 3006)) rfl dX4_comes_82 ?_
              refine v_iload_n E 0 rfl dX4_comes_85 ?_
              refine v_lald E dX4_comes_86 hB.ma k rfl (by omega) (by omega) ?_
              refine v_l2i E dX4_comes_87 ?_
              refine v_iast E dX4_comes_88 (hB.sl t.toNat (by omega)) k rfl (by omega) (by omega) (hAll _ (AH.of (by unfold uA; omega))) (fun H_15 hBslttoNatbyomega_13 hs_14 => ?_)
              have hB_16 : MB κ ad P f g mk (va_up (va_up S t.toNat r) t.toNat (va_up ((va_up S t.toNat r) t.toNat) k (mk k))) K thr len many a1 a2 a3 a4 H_15 := hB.slot hI (by omega) hs_14 hBslttoNatbyomega_13
              refine v_iinc E 0 rfl dX4_comes_89 (zlt hL rfl) (lv' := [(3, vi ((k : Int) + 1)), (2, vi ref), (1, vi t), (0, .ref (ad 3002))]) rfl ?_
              refine v_goto E (tgt := 68) dX4_comes_92 (by decide) ?_
              exact ih_68  H_15 (k + 1) (va_up r k (mk k)) (by omega) (by omega) (fun m hm => by unfold va_up; split; rename_i e; rw [e]; exact hr m (by omega)) (by have h9 := hB_16; rw [va_upU, va_upj] at h9; exact h9)
        exact loop_68 (7 + 1) H 0 (S t.toNat) (by omega) (by omega) (fun m hm => by omega) (by rw [va_upS]; exact hB)
      · refine v_iload_n E 0 rfl dX4_comes_11 ?_
        refine v_bipush E ⟨by decide, by decide⟩ dX4_comes_12 ?_
        refine v_icmp_lt E (tgt := 28) dX4_comes_14 (by decide) ⟨by omega, by omega⟩ ⟨by omega, by omega⟩ (fun c_14 => ?_) (fun c_14 => ?_)
        · refine v_aload_n E 3 rfl dX4_comes_28 ?_
          refine v_getf E in_X4 hB.ho (ci := 3) rfl 16 (by decide) q1776 rfl (v := .ref (ad 3006)) rfl dX4_comes_29 ?_
          refine v_iload_n E 0 rfl dX4_comes_32 ?_
          refine v_lald E dX4_comes_33 hB.ma k rfl (by omega) (by omega) ?_
          refine v_ldc2 E q1888 dX4_comes_34 ?_
          refine V.eq (st' := vj 9999 :: _) rfl ?_
          refine v_lc_gt E (tgt := 54) dX4_comes_37 dX4_comes_38 (by decide) (hmr k (by omega)) ⟨by omega, by omega⟩ (fun c_37 => ?_) (fun c_37 => ?_)
          · refine v_aload_n E 3 rfl dX4_comes_54 ?_
            refine v_iload_n E 1 rfl dX4_comes_55 ?_
            refine v_callV E (As := [vi ref]) (b := (ad 3002)) (ci := 3) (C := RX4) (T := TX4) (N := 27) hB.ho rfl (m_fails κ H hI hB) (lw_V q1857 q1859 qs47 q82 q1860) 1 (by decide +kernel) rfl (by decide) (by decide) (cb' := 0) (sb' := 0) (by decide) (by decide) rfl (rest := []) (Nat.le_of_ble_eq_true rfl) hAll dX4_comes_56 (fun v_17 H_18 hpost_19 hz_20 hk_21 => ?_)
            clear hz_20
            obtain ⟨rfl, hB_22⟩ := hpost_19
            refine V.eq (st' := [vi 0]) rfl ?_
            refine v_iret E hE dX4_comes_59 ?_
            have hno : ¬ okB mk 14 = true := fun h => by have h2 := okB_at 14 h k (by omega); have h3 := h2.1; have h4 := h2.2; omega
            have hR : comesR mk t.toNat ref S = (0, ref, S) := by unfold comesR; rw [if_neg hno]
            rw [hR]; exact ⟨rfl, hB_22⟩
          · refine v_aload_n E 3 rfl dX4_comes_41 ?_
            refine v_getf E in_X4 hB.ho (ci := 3) rfl 16 (by decide) q1776 rfl (v := .ref (ad 3006)) rfl dX4_comes_42 ?_
            refine v_iload_n E 0 rfl dX4_comes_45 ?_
            refine v_lald E dX4_comes_46 hB.ma k rfl (by omega) (by omega) ?_
            refine v_ldc2 E q1889 dX4_comes_47 ?_
            refine V.eq (st' := vj (-9999) :: _) rfl ?_
            refine v_lc_ge E (tgt := 60) dX4_comes_50 dX4_comes_51 (by decide) (hmr k (by omega)) ⟨by omega, by omega⟩ (fun c_50 => ?_) (fun c_50 => ?_)
            · refine v_iinc E 0 rfl dX4_comes_60 (zlt hL rfl) (lv' := [(3, vi ((k : Int) + 1)), (2, vi ref), (1, vi t), (0, .ref (ad 3002))]) rfl ?_
              refine v_goto E (tgt := 2) dX4_comes_63 (by decide) ?_
              exact ih_2  H (k + 1) (by omega) (by omega) (okB_s.mpr ⟨ho, fun h7 => by omega, by omega, by omega⟩) hB
            · refine v_aload_n E 3 rfl dX4_comes_54 ?_
              refine v_iload_n E 1 rfl dX4_comes_55 ?_
              refine v_callV E (As := [vi ref]) (b := (ad 3002)) (ci := 3) (C := RX4) (T := TX4) (N := 27) hB.ho rfl (m_fails κ H hI hB) (lw_V q1857 q1859 qs47 q82 q1860) 1 (by decide +kernel) rfl (by decide) (by decide) (cb' := 0) (sb' := 0) (by decide) (by decide) rfl (rest := []) (Nat.le_of_ble_eq_true rfl) hAll dX4_comes_56 (fun v_23 H_24 hpost_25 hz_26 hk_27 => ?_)
              clear hz_26
              obtain ⟨rfl, hB_28⟩ := hpost_25
              refine V.eq (st' := [vi 0]) rfl ?_
              refine v_iret E hE dX4_comes_59 ?_
              have hno : ¬ okB mk 14 = true := fun h => by have h2 := okB_at 14 h k (by omega); have h3 := h2.1; have h4 := h2.2; omega
              have hR : comesR mk t.toNat ref S = (0, ref, S) := by unfold comesR; rw [if_neg hno]
              rw [hR]; exact ⟨rfl, hB_28⟩
        · refine v_aload_n E 3 rfl dX4_comes_17 ?_
          refine v_getf E in_X4 hB.ho (ci := 3) rfl 16 (by decide) q1776 rfl (v := .ref (ad 3006)) rfl dX4_comes_18 ?_
          refine v_iload_n E 0 rfl dX4_comes_21 ?_
          refine v_lald E dX4_comes_22 hB.ma k rfl (by omega) (by omega) ?_
          refine v_lconst E (x := 0) rfl dX4_comes_23 ?_
          refine v_lc_ne E (tgt := 54) dX4_comes_24 dX4_comes_25 (by decide) (hmr k (by omega)) ⟨by omega, by omega⟩ (fun c_24 => ?_) (fun c_24 => ?_)
          · refine v_aload_n E 3 rfl dX4_comes_54 ?_
            refine v_iload_n E 1 rfl dX4_comes_55 ?_
            refine v_callV E (As := [vi ref]) (b := (ad 3002)) (ci := 3) (C := RX4) (T := TX4) (N := 27) hB.ho rfl (m_fails κ H hI hB) (lw_V q1857 q1859 qs47 q82 q1860) 1 (by decide +kernel) rfl (by decide) (by decide) (cb' := 0) (sb' := 0) (by decide) (by decide) rfl (rest := []) (Nat.le_of_ble_eq_true rfl) hAll dX4_comes_56 (fun v_29 H_30 hpost_31 hz_32 hk_33 => ?_)
            clear hz_32
            obtain ⟨rfl, hB_34⟩ := hpost_31
            refine V.eq (st' := [vi 0]) rfl ?_
            refine v_iret E hE dX4_comes_59 ?_
            have hno : ¬ okB mk 14 = true := fun h => by have h2 := okB_at 14 h k (by omega); have h3 := h2.1; have h4 := h2.2; omega
            have hR : comesR mk t.toNat ref S = (0, ref, S) := by unfold comesR; rw [if_neg hno]
            rw [hR]; exact ⟨rfl, hB_34⟩
          · refine v_aload_n E 3 rfl dX4_comes_28 ?_
            refine v_getf E in_X4 hB.ho (ci := 3) rfl 16 (by decide) q1776 rfl (v := .ref (ad 3006)) rfl dX4_comes_29 ?_
            refine v_iload_n E 0 rfl dX4_comes_32 ?_
            refine v_lald E dX4_comes_33 hB.ma k rfl (by omega) (by omega) ?_
            refine v_ldc2 E q1888 dX4_comes_34 ?_
            refine V.eq (st' := vj 9999 :: _) rfl ?_
            refine v_lc_gt E (tgt := 54) dX4_comes_37 dX4_comes_38 (by decide) (hmr k (by omega)) ⟨by omega, by omega⟩ (fun c_37 => ?_) (fun c_37 => ?_)
            · refine v_aload_n E 3 rfl dX4_comes_54 ?_
              refine v_iload_n E 1 rfl dX4_comes_55 ?_
              refine v_callV E (As := [vi ref]) (b := (ad 3002)) (ci := 3) (C := RX4) (T := TX4) (N := 27) hB.ho rfl (m_fails κ H hI hB) (lw_V q1857 q1859 qs47 q82 q1860) 1 (by decide +kernel) rfl (by decide) (by decide) (cb' := 0) (sb' := 0) (by decide) (by decide) rfl (rest := []) (Nat.le_of_ble_eq_true rfl) hAll dX4_comes_56 (fun v_35 H_36 hpost_37 hz_38 hk_39 => ?_)
              clear hz_38
              obtain ⟨rfl, hB_40⟩ := hpost_37
              refine V.eq (st' := [vi 0]) rfl ?_
              refine v_iret E hE dX4_comes_59 ?_
              have hno : ¬ okB mk 14 = true := fun h => by have h2 := okB_at 14 h k (by omega); have h3 := h2.1; have h4 := h2.2; omega
              have hR : comesR mk t.toNat ref S = (0, ref, S) := by unfold comesR; rw [if_neg hno]
              rw [hR]; exact ⟨rfl, hB_40⟩
            · refine v_aload_n E 3 rfl dX4_comes_41 ?_
              refine v_getf E in_X4 hB.ho (ci := 3) rfl 16 (by decide) q1776 rfl (v := .ref (ad 3006)) rfl dX4_comes_42 ?_
              refine v_iload_n E 0 rfl dX4_comes_45 ?_
              refine v_lald E dX4_comes_46 hB.ma k rfl (by omega) (by omega) ?_
              refine v_ldc2 E q1889 dX4_comes_47 ?_
              refine V.eq (st' := vj (-9999) :: _) rfl ?_
              refine v_lc_ge E (tgt := 60) dX4_comes_50 dX4_comes_51 (by decide) (hmr k (by omega)) ⟨by omega, by omega⟩ (fun c_50 => ?_) (fun c_50 => ?_)
              · refine v_iinc E 0 rfl dX4_comes_60 (zlt hL rfl) (lv' := [(3, vi ((k : Int) + 1)), (2, vi ref), (1, vi t), (0, .ref (ad 3002))]) rfl ?_
                refine v_goto E (tgt := 2) dX4_comes_63 (by decide) ?_
                exact ih_2  H (k + 1) (by omega) (by omega) (okB_s.mpr ⟨ho, fun h7 => by omega, by omega, by omega⟩) hB
              · refine v_aload_n E 3 rfl dX4_comes_54 ?_
                refine v_iload_n E 1 rfl dX4_comes_55 ?_
                refine v_callV E (As := [vi ref]) (b := (ad 3002)) (ci := 3) (C := RX4) (T := TX4) (N := 27) hB.ho rfl (m_fails κ H hI hB) (lw_V q1857 q1859 qs47 q82 q1860) 1 (by decide +kernel) rfl (by decide) (by decide) (cb' := 0) (sb' := 0) (by decide) (by decide) rfl (rest := []) (Nat.le_of_ble_eq_true rfl) hAll dX4_comes_56 (fun v_41 H_42 hpost_43 hz_44 hk_45 => ?_)
                clear hz_44
                obtain ⟨rfl, hB_46⟩ := hpost_43
                refine V.eq (st' := [vi 0]) rfl ?_
                refine v_iret E hE dX4_comes_59 ?_
                have hno : ¬ okB mk 14 = true := fun h => by have h2 := okB_at 14 h k (by omega); have h3 := h2.1; have h4 := h2.2; omega
                have hR : comesR mk t.toNat ref S = (0, ref, S) := by unfold comesR; rw [if_neg hno]
                rw [hR]; exact ⟨rfl, hB_46⟩
  refine V.sub [0, 3, 2, 1] (lv' := [(3, vi 0), (2, vi ref), (1, vi t), (0, .ref (ad 3002))]) rfl ?_
  exact loop_2 (14 + 1) H0 0 (by omega) (by omega) rfl hB

set_option maxHeartbeats 400000 in
set_option maxRecDepth 100000 in
/-- set -/
theorem m_opSet (κ : zK) (H0 : Heap) {ad : Nat → Nat} {P : Nat → Nat → Int} {f g mk : Nat → Int} {S : Nat → Nat → Int} {K : Nat → Int} {thr len many : Int} {a1 a2 a3 a4 : Nat} {a p v0 : Int} (ha : rI a) (hp : rI p) (hv0 : rI v0) (hS : bS S) (hI : Inj ad) (hB : MB κ ad P f g mk S K thr len many a1 a2 a3 a4 H0) : Mt κ yX4_set cX4_set 4 (some .int) 1 22 0 0 H0 [.ref (ad 3002), vi a, vi p, vi v0] (AH ad) (fun v H1 => v = some (vi (opSet S a p v0).1) ∧ ∃ mk1 : Nat → Int, MB κ ad P f g mk1 ((opSet S a p v0).2.2) K ((opSet S a p v0).2.1) len many a1 a2 a3 a4 H1) := by
  refine Mt.of (by decide) (Nat.le_of_ble_eq_true rfl) ?_
  intro z E hE hH0 hA0 hL hini
  have hAll : ∀ q, (AH ad) q → zA z.A z.H0 q := fun q h => Or.inl (by rw [hA0]; exact h)
  have hNew : ∀ q, H0.size ≤ q → zA z.A z.H0 q := fun q h => Or.inr (by rw [hH0]; exact h)
  have E : zOK z cX4_set RX4 κ 1 22 (some .int) := E
  refine V.eqL (lv' := [(0, .ref (ad 3002)), (1, vi a), (2, vi p), (3, vi v0)]) rfl ?_
  refine v_iload_n E 1 rfl dX4_set_0 ?_
  refine v_callS E (As := [vi a]) (m_isSlot κ H0 (by first | assumption | decide | exact ⟨by omega, by omega⟩)) (lw_S q1851 q1852 q82 q1853) 1 (by decide +kernel) rfl (by decide) (by decide) (cb' := 0) (sb' := 0) (by decide) (by decide) rfl (rest := []) (Nat.le_of_ble_eq_true rfl) (fun q h => h.elim) dX4_set_1 (fun v_2 H_3 hpost_4 hz_5 hk_6 => ?_)
  clear hz_5
  obtain rfl := hpost_4
  obtain ⟨b_1, hb_7, hb_7e⟩ : ∃ b9 : Int, (b9 = 0 ∧ ¬ (0 ≤ a ∧ a < 5) ∨ b9 = 1 ∧ (0 ≤ a ∧ a < 5)) ∧ (if 0 ≤ a ∧ a < 5 then 1 else 0 : Int) = b9 := by
    by_cases c : 0 ≤ a ∧ a < 5
    · exact ⟨1, Or.inr ⟨rfl, c⟩, if_pos c⟩
    · exact ⟨0, Or.inl ⟨rfl, c⟩, if_neg c⟩
  have hB_8 : MB κ ad P f g mk S K thr len many a1 a2 a3 a4 H_3 := hB.nil hk_6
  refine V.eq (st' := [vi b_1]) (by rw [hb_7e]; rfl) ?_
  refine v_if_eq E (tgt := 17) dX4_set_4 (by decide) ⟨by omega, by omega⟩ (fun c_4 => ?_) (fun c_4 => ?_)
  · refine v_aload_n E 0 rfl dX4_set_17 ?_
    refine v_iconst E dX4_set_18 ?_
    refine v_callV E (As := [vi 1]) (b := (ad 3002)) (ci := 3) (C := RX4) (T := TX4) (N := 27) hB_8.ho rfl (m_fails κ H_3 hI hB_8) (lw_V q1857 q1859 qs47 q82 q1860) 1 (by decide +kernel) rfl (by decide) (by decide) (cb' := 0) (sb' := 0) (by decide) (by decide) rfl (rest := []) (Nat.le_of_ble_eq_true rfl) hAll dX4_set_19 (fun v_9 H_10 hpost_11 hz_12 hk_13 => ?_)
    clear hz_12
    obtain ⟨rfl, hB_14⟩ := hpost_11
    refine V.eq (st' := [vi 0]) rfl ?_
    refine v_iret E hE dX4_set_22 ?_
    have hR : opSet S a p v0 = (0, 1, S) := by unfold opSet; rw [if_neg (by omega)]
    rw [hR]; exact ⟨rfl, _, hB_14⟩
  · refine v_iload_n E 2 rfl dX4_set_7 ?_
    refine v_iconst E dX4_set_8 ?_
    refine v_bipush E ⟨by decide, by decide⟩ dX4_set_9 ?_
    refine v_callS E (As := [vi p, vi 0, vi 6]) (m_in κ H_3 (by first | assumption | decide | exact ⟨by omega, by omega⟩) (by first | assumption | decide | exact ⟨by omega, by omega⟩) (by first | assumption | decide | exact ⟨by omega, by omega⟩)) (lw_S q1854 q1855 q82 q1856) 3 (by decide +kernel) rfl (by decide) (by decide) (cb' := 0) (sb' := 0) (by decide) (by decide) rfl (rest := []) (Nat.le_of_ble_eq_true rfl) (fun q h => h.elim) dX4_set_11 (fun v_16 H_17 hpost_18 hz_19 hk_20 => ?_)
    clear hz_19
    obtain rfl := hpost_18
    obtain ⟨b_15, hb_21, hb_21e⟩ : ∃ b9 : Int, (b9 = 0 ∧ ¬ (0 ≤ p ∧ p ≤ 6) ∨ b9 = 1 ∧ (0 ≤ p ∧ p ≤ 6)) ∧ (if 0 ≤ p ∧ p ≤ 6 then 1 else 0 : Int) = b9 := by
      by_cases c : 0 ≤ p ∧ p ≤ 6
      · exact ⟨1, Or.inr ⟨rfl, c⟩, if_pos c⟩
      · exact ⟨0, Or.inl ⟨rfl, c⟩, if_neg c⟩
    have hB_22 : MB κ ad P f g mk S K thr len many a1 a2 a3 a4 H_17 := hB_8.nil hk_20
    refine V.eq (st' := [vi b_15]) (by rw [hb_21e]; rfl) ?_
    refine v_if_ne E (tgt := 23) dX4_set_14 (by decide) ⟨by omega, by omega⟩ (fun c_14 => ?_) (fun c_14 => ?_)
    · refine v_iload_n E 3 rfl dX4_set_23 ?_
      refine v_bipush E ⟨by decide, by decide⟩ dX4_set_24 ?_
      refine v_bipush E ⟨by decide, by decide⟩ dX4_set_26 ?_
      refine v_callS E (As := [vi v0, vi (-99), vi 99]) (m_in κ H_17 (by first | assumption | decide | exact ⟨by omega, by omega⟩) (by first | assumption | decide | exact ⟨by omega, by omega⟩) (by first | assumption | decide | exact ⟨by omega, by omega⟩)) (lw_S q1854 q1855 q82 q1856) 3 (by decide +kernel) rfl (by decide) (by decide) (cb' := 0) (sb' := 0) (by decide) (by decide) rfl (rest := []) (Nat.le_of_ble_eq_true rfl) (fun q h => h.elim) dX4_set_28 (fun v_24 H_25 hpost_26 hz_27 hk_28 => ?_)
      clear hz_27
      obtain rfl := hpost_26
      obtain ⟨b_23, hb_29, hb_29e⟩ : ∃ b9 : Int, (b9 = 0 ∧ ¬ ((-99) ≤ v0 ∧ v0 ≤ 99) ∨ b9 = 1 ∧ ((-99) ≤ v0 ∧ v0 ≤ 99)) ∧ (if (-99) ≤ v0 ∧ v0 ≤ 99 then 1 else 0 : Int) = b9 := by
        by_cases c : (-99) ≤ v0 ∧ v0 ≤ 99
        · exact ⟨1, Or.inr ⟨rfl, c⟩, if_pos c⟩
        · exact ⟨0, Or.inl ⟨rfl, c⟩, if_neg c⟩
      have hB_30 : MB κ ad P f g mk S K thr len many a1 a2 a3 a4 H_25 := hB_22.nil hk_28
      refine V.eq (st' := [vi b_23]) (by rw [hb_29e]; rfl) ?_
      refine v_if_ne E (tgt := 40) dX4_set_31 (by decide) ⟨by omega, by omega⟩ (fun c_31 => ?_) (fun c_31 => ?_)
      · refine v_aload_n E 0 rfl dX4_set_40 ?_
        refine v_getf E in_X4 hB_30.ho (ci := 3) rfl 1 (by decide) q1761 rfl (v := .ref (ad 3003)) rfl dX4_set_41 ?_
        refine v_iload_n E 1 rfl dX4_set_44 ?_
        refine v_aaldS E dX4_set_45 (hB_30.ms).2.2.2 (t := 3) (ty := (.array .int)) rfl rfl a.toNat (by omega) (by omega) (by omega) (b := (ad (3010 + a.toNat))) rfl ?_
        refine v_iload_n E 2 rfl dX4_set_46 ?_
        refine v_iload_n E 3 rfl dX4_set_47 ?_
        refine v_iast E dX4_set_48 (hB_30.sl a.toNat (by omega)) p.toNat (by omega) (by omega) (by omega) (hAll _ (AH.of (by unfold uA; omega))) (fun H_33 hB_31 hs_32 => ?_)
        have hB_34 : MB κ ad P f g mk (va_up S a.toNat (va_up (S a.toNat) p.toNat v0)) K thr len many a1 a2 a3 a4 H_33 := hB_30.slot hI (by omega) hs_32 hB_31
        refine v_aload_n E 0 rfl dX4_set_49 ?_
        refine v_aload_n E 0 rfl dX4_set_50 ?_
        refine v_getf E in_X4 hB_34.ho (ci := 3) rfl 1 (by decide) q1761 rfl (v := .ref (ad 3003)) rfl dX4_set_51 ?_
        refine v_iload_n E 1 rfl dX4_set_54 ?_
        refine v_aaldS E dX4_set_55 (hB_34.ms).2.2.2 (t := 3) (ty := (.array .int)) rfl rfl a.toNat (by omega) (by omega) (by omega) (b := (ad (3010 + a.toNat))) rfl ?_
        have hse : ∀ k, k < 7 → va_up S a.toNat (va_up (S a.toNat) p.toNat v0) a.toNat k = va_up (S a.toNat) p.toNat v0 k := fun k hk => by rw [va_upj]
        refine v_callS E (As := [.ref (ad (3010 + a.toNat))]) (m_deg κ H_33 (fun k hk => by rw [hse k hk]; show rI (if k = p.toNat then v0 else S a.toNat k); have := hS a.toNat (by omega) k hk; split <;> exact ⟨by omega, by omega⟩) (hB_34.sl a.toNat (by omega))) (lw_S q1861 q1862 q82 q1863) 1 (by decide +kernel) rfl (by decide) (by decide) (cb' := 0) (sb' := 0) (by decide) (by decide) rfl (rest := [.ref (ad 3002)]) (Nat.le_of_ble_eq_true rfl) (fun q h => h.elim) dX4_set_56 (fun v_35 H_36 hpost_37 hz_38 hk_39 => ?_)
        clear hz_38
        obtain rfl := hpost_37
        have hB_40 : MB κ ad P f g mk (va_up S a.toNat (va_up (S a.toNat) p.toNat v0)) K thr len many a1 a2 a3 a4 H_36 := hB_34.nil hk_39
        refine V.eq (st' := [vi (pdeg (va_up (S a.toNat) p.toNat v0)), .ref (ad 3002)]) (by rw [pdeg_congr hse]; rfl) ?_
        refine v_callV E (As := [vi (pdeg (va_up (S a.toNat) p.toNat v0))]) (b := (ad 3002)) (ci := 3) (C := RX4) (T := TX4) (N := 27) hB_40.ho rfl (m_tells κ H_36 hI hB_40) (lw_V q1864 q1866 qs48 q82 q1867) 1 (by decide +kernel) rfl (by decide) (by decide) (cb' := 0) (sb' := 0) (by decide) (by decide) rfl (rest := []) (Nat.le_of_ble_eq_true rfl) hAll dX4_set_59 (fun v_41 H_42 hpost_43 hz_44 hk_45 => ?_)
        clear hz_44
        obtain ⟨rfl, hB_46⟩ := hpost_43
        refine V.eq (st' := [vi (pdeg (va_up (S a.toNat) p.toNat v0))]) rfl ?_
        refine v_iret E hE dX4_set_62 ?_
        have hR : opSet S a p v0 = (pdeg (va_up (S a.toNat) p.toNat v0), 0, va_up S a.toNat (va_up (S a.toNat) p.toNat v0)) := by unfold opSet; rw [if_pos (by omega), if_pos (by omega)]
        rw [hR]; exact ⟨rfl, _, hB_46⟩
      · refine v_aload_n E 0 rfl dX4_set_34 ?_
        refine v_iconst E dX4_set_35 ?_
        refine v_callV E (As := [vi 2]) (b := (ad 3002)) (ci := 3) (C := RX4) (T := TX4) (N := 27) hB_30.ho rfl (m_fails κ H_25 hI hB_30) (lw_V q1857 q1859 qs47 q82 q1860) 1 (by decide +kernel) rfl (by decide) (by decide) (cb' := 0) (sb' := 0) (by decide) (by decide) rfl (rest := []) (Nat.le_of_ble_eq_true rfl) hAll dX4_set_36 (fun v_47 H_48 hpost_49 hz_50 hk_51 => ?_)
        clear hz_50
        obtain ⟨rfl, hB_52⟩ := hpost_49
        refine V.eq (st' := [vi 0]) rfl ?_
        refine v_iret E hE dX4_set_39 ?_
        have hR : opSet S a p v0 = (0, 2, S) := by unfold opSet; rw [if_pos (by omega), if_neg (by omega)]
        rw [hR]; exact ⟨rfl, _, hB_52⟩
    · refine v_aload_n E 0 rfl dX4_set_17 ?_
      refine v_iconst E dX4_set_18 ?_
      refine v_callV E (As := [vi 1]) (b := (ad 3002)) (ci := 3) (C := RX4) (T := TX4) (N := 27) hB_22.ho rfl (m_fails κ H_17 hI hB_22) (lw_V q1857 q1859 qs47 q82 q1860) 1 (by decide +kernel) rfl (by decide) (by decide) (cb' := 0) (sb' := 0) (by decide) (by decide) rfl (rest := []) (Nat.le_of_ble_eq_true rfl) hAll dX4_set_19 (fun v_53 H_54 hpost_55 hz_56 hk_57 => ?_)
      clear hz_56
      obtain ⟨rfl, hB_58⟩ := hpost_55
      refine V.eq (st' := [vi 0]) rfl ?_
      refine v_iret E hE dX4_set_22 ?_
      have hR : opSet S a p v0 = (0, 1, S) := by unfold opSet; rw [if_neg (by omega)]
      rw [hR]; exact ⟨rfl, _, hB_58⟩

set_option maxHeartbeats 400000 in
set_option maxRecDepth 100000 in
/-- coefficient -/
theorem m_opCoef (κ : zK) (H0 : Heap) {ad : Nat → Nat} {P : Nat → Nat → Int} {f g mk : Nat → Int} {S : Nat → Nat → Int} {K : Nat → Int} {thr len many : Int} {a1 a2 a3 a4 : Nat} {a p : Int} (ha : rI a) (hp : rI p) (hS : bS S) (hI : Inj ad) (hB : MB κ ad P f g mk S K thr len many a1 a2 a3 a4 H0) : Mt κ yX4_coefficient cX4_coefficient 3 (some .int) 1 22 0 0 H0 [.ref (ad 3002), vi a, vi p] (AH ad) (fun v H1 => v = some (vi (opCoef S a p).1) ∧ ∃ mk1 : Nat → Int, MB κ ad P f g mk1 ((opCoef S a p).2.2) K ((opCoef S a p).2.1) len many a1 a2 a3 a4 H1) := by
  refine Mt.of (by decide) (Nat.le_of_ble_eq_true rfl) ?_
  intro z E hE hH0 hA0 hL hini
  have hAll : ∀ q, (AH ad) q → zA z.A z.H0 q := fun q h => Or.inl (by rw [hA0]; exact h)
  have hNew : ∀ q, H0.size ≤ q → zA z.A z.H0 q := fun q h => Or.inr (by rw [hH0]; exact h)
  have E : zOK z cX4_coefficient RX4 κ 1 22 (some .int) := E
  refine V.eqL (lv' := [(0, .ref (ad 3002)), (1, vi a), (2, vi p)]) rfl ?_
  refine v_iload_n E 1 rfl dX4_coefficient_0 ?_
  refine v_callS E (As := [vi a]) (m_isSlot κ H0 (by first | assumption | decide | exact ⟨by omega, by omega⟩)) (lw_S q1851 q1852 q82 q1853) 1 (by decide +kernel) rfl (by decide) (by decide) (cb' := 0) (sb' := 0) (by decide) (by decide) rfl (rest := []) (Nat.le_of_ble_eq_true rfl) (fun q h => h.elim) dX4_coefficient_1 (fun v_2 H_3 hpost_4 hz_5 hk_6 => ?_)
  clear hz_5
  obtain rfl := hpost_4
  obtain ⟨b_1, hb_7, hb_7e⟩ : ∃ b9 : Int, (b9 = 0 ∧ ¬ (0 ≤ a ∧ a < 5) ∨ b9 = 1 ∧ (0 ≤ a ∧ a < 5)) ∧ (if 0 ≤ a ∧ a < 5 then 1 else 0 : Int) = b9 := by
    by_cases c : 0 ≤ a ∧ a < 5
    · exact ⟨1, Or.inr ⟨rfl, c⟩, if_pos c⟩
    · exact ⟨0, Or.inl ⟨rfl, c⟩, if_neg c⟩
  have hB_8 : MB κ ad P f g mk S K thr len many a1 a2 a3 a4 H_3 := hB.nil hk_6
  refine V.eq (st' := [vi b_1]) (by rw [hb_7e]; rfl) ?_
  refine v_if_eq E (tgt := 32) dX4_coefficient_4 (by decide) ⟨by omega, by omega⟩ (fun c_4 => ?_) (fun c_4 => ?_)
  · refine v_aload_n E 0 rfl dX4_coefficient_32 ?_
    refine v_iconst E dX4_coefficient_33 ?_
    refine v_callV E (As := [vi 1]) (b := (ad 3002)) (ci := 3) (C := RX4) (T := TX4) (N := 27) hB_8.ho rfl (m_fails κ H_3 hI hB_8) (lw_V q1857 q1859 qs47 q82 q1860) 1 (by decide +kernel) rfl (by decide) (by decide) (cb' := 0) (sb' := 0) (by decide) (by decide) rfl (rest := []) (Nat.le_of_ble_eq_true rfl) hAll dX4_coefficient_34 (fun v_9 H_10 hpost_11 hz_12 hk_13 => ?_)
    clear hz_12
    obtain ⟨rfl, hB_14⟩ := hpost_11
    refine V.eq (st' := [vi 0]) rfl ?_
    refine v_iret E hE dX4_coefficient_37 ?_
    have hR : opCoef S a p = (0, 1, S) := by unfold opCoef; rw [if_neg (by omega)]
    rw [hR]; exact ⟨rfl, _, hB_14⟩
  · refine v_iload_n E 2 rfl dX4_coefficient_7 ?_
    refine v_iconst E dX4_coefficient_8 ?_
    refine v_bipush E ⟨by decide, by decide⟩ dX4_coefficient_9 ?_
    refine v_callS E (As := [vi p, vi 0, vi 6]) (m_in κ H_3 (by first | assumption | decide | exact ⟨by omega, by omega⟩) (by first | assumption | decide | exact ⟨by omega, by omega⟩) (by first | assumption | decide | exact ⟨by omega, by omega⟩)) (lw_S q1854 q1855 q82 q1856) 3 (by decide +kernel) rfl (by decide) (by decide) (cb' := 0) (sb' := 0) (by decide) (by decide) rfl (rest := []) (Nat.le_of_ble_eq_true rfl) (fun q h => h.elim) dX4_coefficient_11 (fun v_16 H_17 hpost_18 hz_19 hk_20 => ?_)
    clear hz_19
    obtain rfl := hpost_18
    obtain ⟨b_15, hb_21, hb_21e⟩ : ∃ b9 : Int, (b9 = 0 ∧ ¬ (0 ≤ p ∧ p ≤ 6) ∨ b9 = 1 ∧ (0 ≤ p ∧ p ≤ 6)) ∧ (if 0 ≤ p ∧ p ≤ 6 then 1 else 0 : Int) = b9 := by
      by_cases c : 0 ≤ p ∧ p ≤ 6
      · exact ⟨1, Or.inr ⟨rfl, c⟩, if_pos c⟩
      · exact ⟨0, Or.inl ⟨rfl, c⟩, if_neg c⟩
    have hB_22 : MB κ ad P f g mk S K thr len many a1 a2 a3 a4 H_17 := hB_8.nil hk_20
    refine V.eq (st' := [vi b_15]) (by rw [hb_21e]; rfl) ?_
    refine v_if_eq E (tgt := 32) dX4_coefficient_14 (by decide) ⟨by omega, by omega⟩ (fun c_14 => ?_) (fun c_14 => ?_)
    · refine v_aload_n E 0 rfl dX4_coefficient_32 ?_
      refine v_iconst E dX4_coefficient_33 ?_
      refine v_callV E (As := [vi 1]) (b := (ad 3002)) (ci := 3) (C := RX4) (T := TX4) (N := 27) hB_22.ho rfl (m_fails κ H_17 hI hB_22) (lw_V q1857 q1859 qs47 q82 q1860) 1 (by decide +kernel) rfl (by decide) (by decide) (cb' := 0) (sb' := 0) (by decide) (by decide) rfl (rest := []) (Nat.le_of_ble_eq_true rfl) hAll dX4_coefficient_34 (fun v_23 H_24 hpost_25 hz_26 hk_27 => ?_)
      clear hz_26
      obtain ⟨rfl, hB_28⟩ := hpost_25
      refine V.eq (st' := [vi 0]) rfl ?_
      refine v_iret E hE dX4_coefficient_37 ?_
      have hR : opCoef S a p = (0, 1, S) := by unfold opCoef; rw [if_neg (by omega)]
      rw [hR]; exact ⟨rfl, _, hB_28⟩
    · refine v_aload_n E 0 rfl dX4_coefficient_17 ?_
      refine v_aload_n E 0 rfl dX4_coefficient_18 ?_
      refine v_getf E in_X4 hB_22.ho (ci := 3) rfl 1 (by decide) q1761 rfl (v := .ref (ad 3003)) rfl dX4_coefficient_19 ?_
      refine v_iload_n E 1 rfl dX4_coefficient_22 ?_
      refine v_aaldS E dX4_coefficient_23 (hB_22.ms).2.2.2 (t := 3) (ty := (.array .int)) rfl rfl a.toNat (by omega) (by omega) (by omega) (b := (ad (3010 + a.toNat))) rfl ?_
      refine v_iload_n E 2 rfl dX4_coefficient_24 ?_
      refine v_iald E dX4_coefficient_25 (hB_22.sl a.toNat (by omega)) p.toNat (by omega) (by omega) (by omega) ?_
      refine v_callV E (As := [vi (S a.toNat p.toNat)]) (b := (ad 3002)) (ci := 3) (C := RX4) (T := TX4) (N := 27) hB_22.ho rfl (m_tells κ H_17 hI hB_22) (lw_V q1864 q1866 qs48 q82 q1867) 1 (by decide +kernel) rfl (by decide) (by decide) (cb' := 0) (sb' := 0) (by decide) (by decide) rfl (rest := []) (Nat.le_of_ble_eq_true rfl) hAll dX4_coefficient_26 (fun v_29 H_30 hpost_31 hz_32 hk_33 => ?_)
      clear hz_32
      obtain ⟨rfl, hB_34⟩ := hpost_31
      refine V.eq (st' := [vi (S a.toNat p.toNat)]) rfl ?_
      refine v_goto E (tgt := 37) dX4_coefficient_29 (by decide) ?_
      refine v_iret E hE dX4_coefficient_37 ?_
      have hR : opCoef S a p = (S a.toNat p.toNat, 0, S) := by unfold opCoef; rw [if_pos (by omega)]
      rw [hR]; exact ⟨rfl, _, hB_34⟩

set_option maxHeartbeats 400000 in
set_option maxRecDepth 100000 in
/-- degree -/
theorem m_opDeg (κ : zK) (H0 : Heap) {ad : Nat → Nat} {P : Nat → Nat → Int} {f g mk : Nat → Int} {S : Nat → Nat → Int} {K : Nat → Int} {thr len many : Int} {a1 a2 a3 a4 : Nat} {a : Int} (ha : rI a) (hS : bS S) (hI : Inj ad) (hB : MB κ ad P f g mk S K thr len many a1 a2 a3 a4 H0) : Mt κ yX4_degree_2 cX4_degree_2 2 (some .int) 1 21 0 0 H0 [.ref (ad 3002), vi a] (AH ad) (fun v H1 => v = some (vi (opDeg S a).1) ∧ ∃ mk1 : Nat → Int, MB κ ad P f g mk1 ((opDeg S a).2.2) K ((opDeg S a).2.1) len many a1 a2 a3 a4 H1) := by
  refine Mt.of (by decide) (Nat.le_of_ble_eq_true rfl) ?_
  intro z E hE hH0 hA0 hL hini
  have hAll : ∀ q, (AH ad) q → zA z.A z.H0 q := fun q h => Or.inl (by rw [hA0]; exact h)
  have hNew : ∀ q, H0.size ≤ q → zA z.A z.H0 q := fun q h => Or.inr (by rw [hH0]; exact h)
  have E : zOK z cX4_degree_2 RX4 κ 1 21 (some .int) := E
  refine V.eqL (lv' := [(0, .ref (ad 3002)), (1, vi a)]) rfl ?_
  refine v_iload_n E 1 rfl dX4_degree_2_0 ?_
  refine v_callS E (As := [vi a]) (m_isSlot κ H0 (by first | assumption | decide | exact ⟨by omega, by omega⟩)) (lw_S q1851 q1852 q82 q1853) 1 (by decide +kernel) rfl (by decide) (by decide) (cb' := 0) (sb' := 0) (by decide) (by decide) rfl (rest := []) (Nat.le_of_ble_eq_true rfl) (fun q h => h.elim) dX4_degree_2_1 (fun v_2 H_3 hpost_4 hz_5 hk_6 => ?_)
  clear hz_5
  obtain rfl := hpost_4
  obtain ⟨b_1, hb_7, hb_7e⟩ : ∃ b9 : Int, (b9 = 0 ∧ ¬ (0 ≤ a ∧ a < 5) ∨ b9 = 1 ∧ (0 ≤ a ∧ a < 5)) ∧ (if 0 ≤ a ∧ a < 5 then 1 else 0 : Int) = b9 := by
    by_cases c : 0 ≤ a ∧ a < 5
    · exact ⟨1, Or.inr ⟨rfl, c⟩, if_pos c⟩
    · exact ⟨0, Or.inl ⟨rfl, c⟩, if_neg c⟩
  have hB_8 : MB κ ad P f g mk S K thr len many a1 a2 a3 a4 H_3 := hB.nil hk_6
  refine V.eq (st' := [vi b_1]) (by rw [hb_7e]; rfl) ?_
  refine v_if_eq E (tgt := 23) dX4_degree_2_4 (by decide) ⟨by omega, by omega⟩ (fun c_4 => ?_) (fun c_4 => ?_)
  · refine v_aload_n E 0 rfl dX4_degree_2_23 ?_
    refine v_iconst E dX4_degree_2_24 ?_
    refine v_callV E (As := [vi 1]) (b := (ad 3002)) (ci := 3) (C := RX4) (T := TX4) (N := 27) hB_8.ho rfl (m_fails κ H_3 hI hB_8) (lw_V q1857 q1859 qs47 q82 q1860) 1 (by decide +kernel) rfl (by decide) (by decide) (cb' := 0) (sb' := 0) (by decide) (by decide) rfl (rest := []) (Nat.le_of_ble_eq_true rfl) hAll dX4_degree_2_25 (fun v_9 H_10 hpost_11 hz_12 hk_13 => ?_)
    clear hz_12
    obtain ⟨rfl, hB_14⟩ := hpost_11
    refine V.eq (st' := [vi 0]) rfl ?_
    refine v_iret E hE dX4_degree_2_28 ?_
    have hR : opDeg S a = (0, 1, S) := by unfold opDeg; rw [if_neg (by omega)]
    rw [hR]; exact ⟨rfl, _, hB_14⟩
  · refine v_aload_n E 0 rfl dX4_degree_2_7 ?_
    refine v_aload_n E 0 rfl dX4_degree_2_8 ?_
    refine v_getf E in_X4 hB_8.ho (ci := 3) rfl 1 (by decide) q1761 rfl (v := .ref (ad 3003)) rfl dX4_degree_2_9 ?_
    refine v_iload_n E 1 rfl dX4_degree_2_12 ?_
    refine v_aaldS E dX4_degree_2_13 (hB_8.ms).2.2.2 (t := 3) (ty := (.array .int)) rfl rfl a.toNat (by omega) (by omega) (by omega) (b := (ad (3010 + a.toNat))) rfl ?_
    refine v_callS E (As := [.ref (ad (3010 + a.toNat))]) (m_deg κ H_3 (fun k hk => by have := hS a.toNat (by omega) k hk; exact ⟨by omega, by omega⟩) (hB_8.sl a.toNat (by omega))) (lw_S q1861 q1862 q82 q1863) 1 (by decide +kernel) rfl (by decide) (by decide) (cb' := 0) (sb' := 0) (by decide) (by decide) rfl (rest := [.ref (ad 3002)]) (Nat.le_of_ble_eq_true rfl) (fun q h => h.elim) dX4_degree_2_14 (fun v_15 H_16 hpost_17 hz_18 hk_19 => ?_)
    clear hz_18
    obtain rfl := hpost_17
    have hB_20 : MB κ ad P f g mk S K thr len many a1 a2 a3 a4 H_16 := hB_8.nil hk_19
    refine V.eq (st' := [vi (pdeg (S a.toNat)), .ref (ad 3002)]) rfl ?_
    refine v_callV E (As := [vi (pdeg (S a.toNat))]) (b := (ad 3002)) (ci := 3) (C := RX4) (T := TX4) (N := 27) hB_20.ho rfl (m_tells κ H_16 hI hB_20) (lw_V q1864 q1866 qs48 q82 q1867) 1 (by decide +kernel) rfl (by decide) (by decide) (cb' := 0) (sb' := 0) (by decide) (by decide) rfl (rest := []) (Nat.le_of_ble_eq_true rfl) hAll dX4_degree_2_17 (fun v_21 H_22 hpost_23 hz_24 hk_25 => ?_)
    clear hz_24
    obtain ⟨rfl, hB_26⟩ := hpost_23
    refine V.eq (st' := [vi (pdeg (S a.toNat))]) rfl ?_
    refine v_goto E (tgt := 28) dX4_degree_2_20 (by decide) ?_
    refine v_iret E hE dX4_degree_2_28 ?_
    have hR : opDeg S a = (pdeg (S a.toNat), 0, S) := by unfold opDeg; rw [if_pos (by omega)]
    rw [hR]; exact ⟨rfl, _, hB_26⟩

set_option maxHeartbeats 400000 in
set_option maxRecDepth 100000 in
/-- copy -/
theorem m_opCopy (κ : zK) (H0 : Heap) {ad : Nat → Nat} {P : Nat → Nat → Int} {f g mk : Nat → Int} {S : Nat → Nat → Int} {K : Nat → Int} {thr len many : Int} {a1 a2 a3 a4 : Nat} {a t : Int} (ha : rI a) (ht : rI t) (hS : bS S) (hI : Inj ad) (hB : MB κ ad P f g mk S K thr len many a1 a2 a3 a4 H0) : Mt κ yX4_copy cX4_copy 4 (some .int) 2 44 0 0 H0 [.ref (ad 3002), vi a, vi t] (AH ad) (fun v H1 => v = some (vi (opCopy S a t).1) ∧ ∃ mk1 : Nat → Int, MB κ ad P f g mk1 ((opCopy S a t).2.2) K ((opCopy S a t).2.1) len many a1 a2 a3 a4 H1) := by
  refine Mt.of (by decide) (Nat.le_of_ble_eq_true rfl) ?_
  intro z E hE hH0 hA0 hL hini
  have hAll : ∀ q, (AH ad) q → zA z.A z.H0 q := fun q h => Or.inl (by rw [hA0]; exact h)
  have hNew : ∀ q, H0.size ≤ q → zA z.A z.H0 q := fun q h => Or.inr (by rw [hH0]; exact h)
  have E : zOK z cX4_copy RX4 κ 2 44 (some .int) := E
  refine V.eqL (lv' := [(0, .ref (ad 3002)), (1, vi a), (2, vi t)]) rfl ?_
  refine v_iload_n E 1 rfl dX4_copy_0 ?_
  refine v_callS E (As := [vi a]) (m_isSlot κ H0 (by first | assumption | decide | exact ⟨by omega, by omega⟩)) (lw_S q1851 q1852 q82 q1853) 1 (by decide +kernel) rfl (by decide) (by decide) (cb' := 0) (sb' := 0) (by decide) (by decide) rfl (rest := []) (Nat.le_of_ble_eq_true rfl) (fun q h => h.elim) dX4_copy_1 (fun v_2 H_3 hpost_4 hz_5 hk_6 => ?_)
  clear hz_5
  obtain rfl := hpost_4
  obtain ⟨b_1, hb_7, hb_7e⟩ : ∃ b9 : Int, (b9 = 0 ∧ ¬ (0 ≤ a ∧ a < 5) ∨ b9 = 1 ∧ (0 ≤ a ∧ a < 5)) ∧ (if 0 ≤ a ∧ a < 5 then 1 else 0 : Int) = b9 := by
    by_cases c : 0 ≤ a ∧ a < 5
    · exact ⟨1, Or.inr ⟨rfl, c⟩, if_pos c⟩
    · exact ⟨0, Or.inl ⟨rfl, c⟩, if_neg c⟩
  have hB_8 : MB κ ad P f g mk S K thr len many a1 a2 a3 a4 H_3 := hB.nil hk_6
  refine V.eq (st' := [vi b_1]) (by rw [hb_7e]; rfl) ?_
  refine v_if_eq E (tgt := 14) dX4_copy_4 (by decide) ⟨by omega, by omega⟩ (fun c_4 => ?_) (fun c_4 => ?_)
  · refine v_aload_n E 0 rfl dX4_copy_14 ?_
    refine v_iconst E dX4_copy_15 ?_
    refine v_callV E (As := [vi 1]) (b := (ad 3002)) (ci := 3) (C := RX4) (T := TX4) (N := 27) hB_8.ho rfl (m_fails κ H_3 hI hB_8) (lw_V q1857 q1859 qs47 q82 q1860) 1 (by decide +kernel) rfl (by decide) (by decide) (cb' := 0) (sb' := 0) (by decide) (by decide) rfl (rest := []) (Nat.le_of_ble_eq_true rfl) hAll dX4_copy_16 (fun v_9 H_10 hpost_11 hz_12 hk_13 => ?_)
    clear hz_12
    obtain ⟨rfl, hB_14⟩ := hpost_11
    refine V.eq (st' := [vi 0]) rfl ?_
    refine v_iret E hE dX4_copy_19 ?_
    have hR : opCopy S a t = (0, 1, S) := by unfold opCopy; rw [if_neg (by omega)]
    rw [hR]; exact ⟨rfl, _, hB_14⟩
  · refine v_iload_n E 2 rfl dX4_copy_7 ?_
    refine v_callS E (As := [vi t]) (m_isSlot κ H_3 (by first | assumption | decide | exact ⟨by omega, by omega⟩)) (lw_S q1851 q1852 q82 q1853) 1 (by decide +kernel) rfl (by decide) (by decide) (cb' := 0) (sb' := 0) (by decide) (by decide) rfl (rest := []) (Nat.le_of_ble_eq_true rfl) (fun q h => h.elim) dX4_copy_8 (fun v_16 H_17 hpost_18 hz_19 hk_20 => ?_)
    clear hz_19
    obtain rfl := hpost_18
    obtain ⟨b_15, hb_21, hb_21e⟩ : ∃ b9 : Int, (b9 = 0 ∧ ¬ (0 ≤ t ∧ t < 5) ∨ b9 = 1 ∧ (0 ≤ t ∧ t < 5)) ∧ (if 0 ≤ t ∧ t < 5 then 1 else 0 : Int) = b9 := by
      by_cases c : 0 ≤ t ∧ t < 5
      · exact ⟨1, Or.inr ⟨rfl, c⟩, if_pos c⟩
      · exact ⟨0, Or.inl ⟨rfl, c⟩, if_neg c⟩
    have hB_22 : MB κ ad P f g mk S K thr len many a1 a2 a3 a4 H_17 := hB_8.nil hk_20
    refine V.eq (st' := [vi b_15]) (by rw [hb_21e]; rfl) ?_
    refine v_if_ne E (tgt := 20) dX4_copy_11 (by decide) ⟨by omega, by omega⟩ (fun c_11 => ?_) (fun c_11 => ?_)
    · refine v_aload_n E 0 rfl dX4_copy_20 ?_
      refine v_callV E (As := []) (b := (ad 3002)) (ci := 3) (C := RX4) (T := TX4) (N := 27) hB_22.ho rfl (m_clear κ H_17 hI hB_22) (lw_V q1880 q1882 qs49 q82 q1883) 0 (by decide +kernel) rfl (by decide) (by decide) (cb' := 0) (sb' := 0) (by decide) (by decide) rfl (rest := []) (Nat.le_of_ble_eq_true rfl) hAll dX4_copy_21 (fun v_23 H_24 hpost_25 hz_26 hk_27 => ?_)
      clear hz_26
      obtain ⟨rfl, r0, hr0, hB_28⟩ := hpost_25
      refine V.eq (st' := []) rfl ?_
      refine v_iconst E dX4_copy_24 ?_
      refine v_istore_n E dX4_copy_25 (zlt hL rfl) (lv' := [(3, vi 0), (0, .ref (ad 3002)), (1, vi a), (2, vi t)]) rfl ?_
      have loop_26 : ∀ (m_26 : Nat) (H : Heap) (k : Nat) (r : Nat → Int), 7 - k < m_26 → (k ≤ 7) → (∀ m, m < 14 → r m = if m < k then S a.toNat m else 0) → MB κ ad P f g r S K thr len many a1 a2 a3 a4 H → V z H 0 0 26 [(3, vi (k : Int)), (2, vi t), (1, vi a), (0, .ref (ad 3002))] [] := by
        intro m_26
        induction m_26 with
        | zero => intro H k r hm; exact absurd hm (by omega)
        | succ m_26 ih_26 =>
          intro H k r hm_26 hk hr hB
          refine v_iload_n E 0 rfl dX4_copy_26 ?_
          refine v_bipush E ⟨by decide, by decide⟩ dX4_copy_27 ?_
          refine v_icmp_ge E (tgt := 53) dX4_copy_29 (by decide) ⟨by omega, by omega⟩ ⟨by omega, by omega⟩ (fun c_29 => ?_) (fun c_29 => ?_)
          · refine v_aload_n E 3 rfl dX4_copy_53 ?_
            refine v_iload_n E 1 rfl dX4_copy_54 ?_
            refine v_iconst E dX4_copy_55 ?_
            refine v_callV E (As := [vi t, vi 0]) (b := (ad 3002)) (ci := 3) (C := RX4) (T := TX4) (N := 27) hB.ho rfl (m_comes κ H (by omega) (fun k9 hk9 => by rw [hr k9 hk9]; have := hS a.toNat (by omega) k9; split; have := this (by omega); exact rJ_small ⟨by omega, by omega⟩; exact ⟨by decide, by decide⟩) hI hB) (lw_V q1884 q1886 qs50 q82 q1887) 2 (by decide +kernel) rfl (by decide) (by decide) (cb' := 0) (sb' := 0) (by decide) (by decide) rfl (rest := []) (Nat.le_of_ble_eq_true rfl) hAll dX4_copy_56 (fun v_29 H_30 hpost_31 hz_32 hk_33 => ?_)
            clear hz_32
            obtain ⟨rfl, hB_34⟩ := hpost_31
            refine V.eq (st' := [vi ((comesR r t.toNat 0 S).1)]) rfl ?_
            refine v_iret E hE dX4_copy_59 ?_
            have hR : opCopy S a t = (comesR r t.toNat 0 S) := by unfold opCopy; rw [if_pos ⟨by omega, by omega⟩]; exact (comesR_congr (fun k9 hk9 => by rw [hr k9 hk9]; rw [show k = 7 by omega]; rfl)).symm
            rw [hR]; exact ⟨rfl, _, hB_34⟩
          · refine v_aload_n E 3 rfl dX4_copy_32 ?_
            refine v_getf E in_X4 hB.ho (ci := 3) rfl 16 (by decide) q1776 rfl (v := .ref (ad 3006)) rfl dX4_copy_33 ?_
            refine v_iload_n E 0 rfl dX4_copy_36 ?_
            refine v_aload_n E 3 rfl dX4_copy_37 ?_
            refine v_getf E in_X4 hB.ho (ci := 3) rfl 1 (by decide) q1761 rfl (v := .ref (ad 3003)) rfl dX4_copy_38 ?_
            refine v_iload_n E 2 rfl dX4_copy_41 ?_
            refine v_aaldS E dX4_copy_42 (hB.ms).2.2.2 (t := 3) (ty := (.array .int)) rfl rfl a.toNat (by omega) (by omega) (by omega) (b := (ad (3010 + a.toNat))) rfl ?_
            refine v_iload_n E 0 rfl dX4_copy_43 ?_
            refine v_iald E dX4_copy_44 (hB.sl a.toNat (by omega)) k rfl (by omega) (by omega) ?_
            refine v_i2l E (by have := hS a.toNat (by omega) k (by omega); exact ⟨by omega, by omega⟩) dX4_copy_45 ?_
            refine v_last E dX4_copy_46 hB.ma k rfl (by omega) (by omega) (hAll _ (AH.of (by unfold uA; omega))) (fun H_37 hBma_35 hs_36 => ?_)
            have hB_38 : MB κ ad P f g (va_up r k (S a.toNat k)) S K thr len many a1 a2 a3 a4 H_37 := hB.made hI hs_36 hBma_35
            refine v_iinc E 0 rfl dX4_copy_47 (zlt hL rfl) (lv' := [(3, vi ((k : Int) + 1)), (2, vi t), (1, vi a), (0, .ref (ad 3002))]) rfl ?_
            refine v_goto E (tgt := 26) dX4_copy_50 (by decide) ?_
            exact ih_26  H_37 (k + 1) (va_up r k (S a.toNat k)) (by omega) (by omega) (fill_s hr (rfl)) hB_38
      refine V.sub [0, 3, 2, 1] (lv' := [(3, vi 0), (2, vi t), (1, vi a), (0, .ref (ad 3002))]) rfl ?_
      exact loop_26 (7 + 1) H_24 0 r0 (by omega) (by omega) (fill_0 hr0) hB_28
    · refine v_aload_n E 0 rfl dX4_copy_14 ?_
      refine v_iconst E dX4_copy_15 ?_
      refine v_callV E (As := [vi 1]) (b := (ad 3002)) (ci := 3) (C := RX4) (T := TX4) (N := 27) hB_22.ho rfl (m_fails κ H_17 hI hB_22) (lw_V q1857 q1859 qs47 q82 q1860) 1 (by decide +kernel) rfl (by decide) (by decide) (cb' := 0) (sb' := 0) (by decide) (by decide) rfl (rest := []) (Nat.le_of_ble_eq_true rfl) hAll dX4_copy_16 (fun v_39 H_40 hpost_41 hz_42 hk_43 => ?_)
      clear hz_42
      obtain ⟨rfl, hB_44⟩ := hpost_41
      refine V.eq (st' := [vi 0]) rfl ?_
      refine v_iret E hE dX4_copy_19 ?_
      have hR : opCopy S a t = (0, 1, S) := by unfold opCopy; rw [if_neg (by omega)]
      rw [hR]; exact ⟨rfl, _, hB_44⟩

set_option maxHeartbeats 400000 in
set_option maxRecDepth 100000 in
/-- add -/
theorem m_opAdd (κ : zK) (H0 : Heap) {ad : Nat → Nat} {P : Nat → Nat → Int} {f g mk : Nat → Int} {S : Nat → Nat → Int} {K : Nat → Int} {thr len many : Int} {a1 a2 a3 a4 : Nat} {a b t : Int} (ha : rI a) (hb : rI b) (ht : rI t) (hS : bS S) (hI : Inj ad) (hB : MB κ ad P f g mk S K thr len many a1 a2 a3 a4 H0) : Mt κ yX4_add cX4_add 5 (some .int) 2 44 0 0 H0 [.ref (ad 3002), vi a, vi b, vi t] (AH ad) (fun v H1 => v = some (vi (opAdd S a b t).1) ∧ ∃ mk1 : Nat → Int, MB κ ad P f g mk1 ((opAdd S a b t).2.2) K ((opAdd S a b t).2.1) len many a1 a2 a3 a4 H1) := by
  refine Mt.of (by decide) (Nat.le_of_ble_eq_true rfl) ?_
  intro z E hE hH0 hA0 hL hini
  have hAll : ∀ q, (AH ad) q → zA z.A z.H0 q := fun q h => Or.inl (by rw [hA0]; exact h)
  have hNew : ∀ q, H0.size ≤ q → zA z.A z.H0 q := fun q h => Or.inr (by rw [hH0]; exact h)
  have E : zOK z cX4_add RX4 κ 2 44 (some .int) := E
  refine V.eqL (lv' := [(0, .ref (ad 3002)), (1, vi a), (2, vi b), (3, vi t)]) rfl ?_
  refine v_iload_n E 1 rfl dX4_add_0 ?_
  refine v_callS E (As := [vi a]) (m_isSlot κ H0 (by first | assumption | decide | exact ⟨by omega, by omega⟩)) (lw_S q1851 q1852 q82 q1853) 1 (by decide +kernel) rfl (by decide) (by decide) (cb' := 0) (sb' := 0) (by decide) (by decide) rfl (rest := []) (Nat.le_of_ble_eq_true rfl) (fun q h => h.elim) dX4_add_1 (fun v_2 H_3 hpost_4 hz_5 hk_6 => ?_)
  clear hz_5
  obtain rfl := hpost_4
  obtain ⟨b_1, hb_7, hb_7e⟩ : ∃ b9 : Int, (b9 = 0 ∧ ¬ (0 ≤ a ∧ a < 5) ∨ b9 = 1 ∧ (0 ≤ a ∧ a < 5)) ∧ (if 0 ≤ a ∧ a < 5 then 1 else 0 : Int) = b9 := by
    by_cases c : 0 ≤ a ∧ a < 5
    · exact ⟨1, Or.inr ⟨rfl, c⟩, if_pos c⟩
    · exact ⟨0, Or.inl ⟨rfl, c⟩, if_neg c⟩
  have hB_8 : MB κ ad P f g mk S K thr len many a1 a2 a3 a4 H_3 := hB.nil hk_6
  refine V.eq (st' := [vi b_1]) (by rw [hb_7e]; rfl) ?_
  refine v_if_eq E (tgt := 21) dX4_add_4 (by decide) ⟨by omega, by omega⟩ (fun c_4 => ?_) (fun c_4 => ?_)
  · refine v_aload_n E 0 rfl dX4_add_21 ?_
    refine v_iconst E dX4_add_22 ?_
    refine v_callV E (As := [vi 1]) (b := (ad 3002)) (ci := 3) (C := RX4) (T := TX4) (N := 27) hB_8.ho rfl (m_fails κ H_3 hI hB_8) (lw_V q1857 q1859 qs47 q82 q1860) 1 (by decide +kernel) rfl (by decide) (by decide) (cb' := 0) (sb' := 0) (by decide) (by decide) rfl (rest := []) (Nat.le_of_ble_eq_true rfl) hAll dX4_add_23 (fun v_9 H_10 hpost_11 hz_12 hk_13 => ?_)
    clear hz_12
    obtain ⟨rfl, hB_14⟩ := hpost_11
    refine V.eq (st' := [vi 0]) rfl ?_
    refine v_iret E hE dX4_add_26 ?_
    have hR : opAdd S a b t = (0, 1, S) := by unfold opAdd; rw [if_neg (by omega)]
    rw [hR]; exact ⟨rfl, _, hB_14⟩
  · refine v_iload_n E 2 rfl dX4_add_7 ?_
    refine v_callS E (As := [vi b]) (m_isSlot κ H_3 (by first | assumption | decide | exact ⟨by omega, by omega⟩)) (lw_S q1851 q1852 q82 q1853) 1 (by decide +kernel) rfl (by decide) (by decide) (cb' := 0) (sb' := 0) (by decide) (by decide) rfl (rest := []) (Nat.le_of_ble_eq_true rfl) (fun q h => h.elim) dX4_add_8 (fun v_16 H_17 hpost_18 hz_19 hk_20 => ?_)
    clear hz_19
    obtain rfl := hpost_18
    obtain ⟨b_15, hb_21, hb_21e⟩ : ∃ b9 : Int, (b9 = 0 ∧ ¬ (0 ≤ b ∧ b < 5) ∨ b9 = 1 ∧ (0 ≤ b ∧ b < 5)) ∧ (if 0 ≤ b ∧ b < 5 then 1 else 0 : Int) = b9 := by
      by_cases c : 0 ≤ b ∧ b < 5
      · exact ⟨1, Or.inr ⟨rfl, c⟩, if_pos c⟩
      · exact ⟨0, Or.inl ⟨rfl, c⟩, if_neg c⟩
    have hB_22 : MB κ ad P f g mk S K thr len many a1 a2 a3 a4 H_17 := hB_8.nil hk_20
    refine V.eq (st' := [vi b_15]) (by rw [hb_21e]; rfl) ?_
    refine v_if_eq E (tgt := 21) dX4_add_11 (by decide) ⟨by omega, by omega⟩ (fun c_11 => ?_) (fun c_11 => ?_)
    · refine v_aload_n E 0 rfl dX4_add_21 ?_
      refine v_iconst E dX4_add_22 ?_
      refine v_callV E (As := [vi 1]) (b := (ad 3002)) (ci := 3) (C := RX4) (T := TX4) (N := 27) hB_22.ho rfl (m_fails κ H_17 hI hB_22) (lw_V q1857 q1859 qs47 q82 q1860) 1 (by decide +kernel) rfl (by decide) (by decide) (cb' := 0) (sb' := 0) (by decide) (by decide) rfl (rest := []) (Nat.le_of_ble_eq_true rfl) hAll dX4_add_23 (fun v_23 H_24 hpost_25 hz_26 hk_27 => ?_)
      clear hz_26
      obtain ⟨rfl, hB_28⟩ := hpost_25
      refine V.eq (st' := [vi 0]) rfl ?_
      refine v_iret E hE dX4_add_26 ?_
      have hR : opAdd S a b t = (0, 1, S) := by unfold opAdd; rw [if_neg (by omega)]
      rw [hR]; exact ⟨rfl, _, hB_28⟩
    · refine v_iload_n E 3 rfl dX4_add_14 ?_
      refine v_callS E (As := [vi t]) (m_isSlot κ H_17 (by first | assumption | decide | exact ⟨by omega, by omega⟩)) (lw_S q1851 q1852 q82 q1853) 1 (by decide +kernel) rfl (by decide) (by decide) (cb' := 0) (sb' := 0) (by decide) (by decide) rfl (rest := []) (Nat.le_of_ble_eq_true rfl) (fun q h => h.elim) dX4_add_15 (fun v_30 H_31 hpost_32 hz_33 hk_34 => ?_)
      clear hz_33
      obtain rfl := hpost_32
      obtain ⟨b_29, hb_35, hb_35e⟩ : ∃ b9 : Int, (b9 = 0 ∧ ¬ (0 ≤ t ∧ t < 5) ∨ b9 = 1 ∧ (0 ≤ t ∧ t < 5)) ∧ (if 0 ≤ t ∧ t < 5 then 1 else 0 : Int) = b9 := by
        by_cases c : 0 ≤ t ∧ t < 5
        · exact ⟨1, Or.inr ⟨rfl, c⟩, if_pos c⟩
        · exact ⟨0, Or.inl ⟨rfl, c⟩, if_neg c⟩
      have hB_36 : MB κ ad P f g mk S K thr len many a1 a2 a3 a4 H_31 := hB_22.nil hk_34
      refine V.eq (st' := [vi b_29]) (by rw [hb_35e]; rfl) ?_
      refine v_if_ne E (tgt := 27) dX4_add_18 (by decide) ⟨by omega, by omega⟩ (fun c_18 => ?_) (fun c_18 => ?_)
      · refine v_aload_n E 0 rfl dX4_add_27 ?_
        refine v_callV E (As := []) (b := (ad 3002)) (ci := 3) (C := RX4) (T := TX4) (N := 27) hB_36.ho rfl (m_clear κ H_31 hI hB_36) (lw_V q1880 q1882 qs49 q82 q1883) 0 (by decide +kernel) rfl (by decide) (by decide) (cb' := 0) (sb' := 0) (by decide) (by decide) rfl (rest := []) (Nat.le_of_ble_eq_true rfl) hAll dX4_add_28 (fun v_37 H_38 hpost_39 hz_40 hk_41 => ?_)
        clear hz_40
        obtain ⟨rfl, r0, hr0, hB_42⟩ := hpost_39
        refine V.eq (st' := []) rfl ?_
        refine v_iconst E dX4_add_31 ?_
        refine v_istore E dX4_add_32 (zlt hL rfl) (lv' := [(4, vi 0), (0, .ref (ad 3002)), (1, vi a), (2, vi b), (3, vi t)]) rfl ?_
        have loop_34 : ∀ (m_34 : Nat) (H : Heap) (k : Nat) (r : Nat → Int), 7 - k < m_34 → (k ≤ 7) → (∀ m, m < 14 → r m = if m < k then (fun k => S a.toNat k + S b.toNat k) m else 0) → MB κ ad P f g r S K thr len many a1 a2 a3 a4 H → V z H 0 0 34 [(4, vi (k : Int)), (3, vi t), (2, vi b), (1, vi a), (0, .ref (ad 3002))] [] := by
          intro m_34
          induction m_34 with
          | zero => intro H k r hm; exact absurd hm (by omega)
          | succ m_34 ih_34 =>
            intro H k r hm_34 hk hr hB
            refine v_iload E 0 rfl dX4_add_34 ?_
            refine v_bipush E ⟨by decide, by decide⟩ dX4_add_36 ?_
            refine v_icmp_ge E (tgt := 74) dX4_add_38 (by decide) ⟨by omega, by omega⟩ ⟨by omega, by omega⟩ (fun c_38 => ?_) (fun c_38 => ?_)
            · refine v_aload_n E 4 rfl dX4_add_74 ?_
              refine v_iload_n E 1 rfl dX4_add_75 ?_
              refine v_iconst E dX4_add_76 ?_
              refine v_callV E (As := [vi t, vi 2]) (b := (ad 3002)) (ci := 3) (C := RX4) (T := TX4) (N := 27) hB.ho rfl (m_comes κ H (by omega) (fun k9 hk9 => by rw [hr k9 hk9]; split; have h1 := hS a.toNat (by omega) k9 (by omega); have h2 := hS b.toNat (by omega) k9 (by omega); exact (show rJ (S a.toNat k9 + S b.toNat k9) from rJ_small ⟨by omega, by omega⟩); exact ⟨by decide, by decide⟩) hI hB) (lw_V q1884 q1886 qs50 q82 q1887) 2 (by decide +kernel) rfl (by decide) (by decide) (cb' := 0) (sb' := 0) (by decide) (by decide) rfl (rest := []) (Nat.le_of_ble_eq_true rfl) hAll dX4_add_77 (fun v_43 H_44 hpost_45 hz_46 hk_47 => ?_)
              clear hz_46
              obtain ⟨rfl, hB_48⟩ := hpost_45
              refine V.eq (st' := [vi ((comesR r t.toNat 2 S).1)]) rfl ?_
              refine v_iret E hE dX4_add_80 ?_
              have hR : opAdd S a b t = (comesR r t.toNat 2 S) := by unfold opAdd; rw [if_pos ⟨by omega, by omega, by omega⟩]; exact (comesR_congr (fun k9 hk9 => by rw [hr k9 hk9]; rw [show k = 7 by omega]; rfl)).symm
              rw [hR]; exact ⟨rfl, _, hB_48⟩
            · refine v_aload_n E 4 rfl dX4_add_41 ?_
              refine v_getf E in_X4 hB.ho (ci := 3) rfl 16 (by decide) q1776 rfl (v := .ref (ad 3006)) rfl dX4_add_42 ?_
              refine v_iload E 0 rfl dX4_add_45 ?_
              refine v_aload_n E 4 rfl dX4_add_47 ?_
              refine v_getf E in_X4 hB.ho (ci := 3) rfl 1 (by decide) q1761 rfl (v := .ref (ad 3003)) rfl dX4_add_48 ?_
              refine v_iload_n E 3 rfl dX4_add_51 ?_
              refine v_aaldS E dX4_add_52 (hB.ms).2.2.2 (t := 3) (ty := (.array .int)) rfl rfl a.toNat (by omega) (by omega) (by omega) (b := (ad (3010 + a.toNat))) rfl ?_
              refine v_iload E 0 rfl dX4_add_53 ?_
              refine v_iald E dX4_add_55 (hB.sl a.toNat (by omega)) k rfl (by omega) (by omega) ?_
              refine v_aload_n E 4 rfl dX4_add_56 ?_
              refine v_getf E in_X4 hB.ho (ci := 3) rfl 1 (by decide) q1761 rfl (v := .ref (ad 3003)) rfl dX4_add_57 ?_
              refine v_iload_n E 2 rfl dX4_add_60 ?_
              refine v_aaldS E dX4_add_61 (hB.ms).2.2.2 (t := 3) (ty := (.array .int)) rfl rfl b.toNat (by omega) (by omega) (by omega) (b := (ad (3010 + b.toNat))) rfl ?_
              refine v_iload E 0 rfl dX4_add_62 ?_
              refine v_iald E dX4_add_64 (hB.sl b.toNat (by omega)) k rfl (by omega) (by omega) ?_
              refine v_iadd E dX4_add_65 ?_
              refine v_i2l E (by have h1 := hS a.toNat (by omega) k (by omega); have h2 := hS b.toNat (by omega) k (by omega); exact ⟨by omega, by omega⟩) dX4_add_66 ?_
              refine v_last E dX4_add_67 hB.ma k rfl (by omega) (by omega) (hAll _ (AH.of (by unfold uA; omega))) (fun H_51 hBma_49 hs_50 => ?_)
              have hB_52 : MB κ ad P f g (va_up r k ((S a.toNat k) + (S b.toNat k))) S K thr len many a1 a2 a3 a4 H_51 := hB.made hI hs_50 hBma_49
              refine v_iinc E 0 rfl dX4_add_68 (zlt hL rfl) (lv' := [(4, vi ((k : Int) + 1)), (3, vi t), (2, vi b), (1, vi a), (0, .ref (ad 3002))]) rfl ?_
              refine v_goto E (tgt := 34) dX4_add_71 (by decide) ?_
              exact ih_34  H_51 (k + 1) (va_up r k ((S a.toNat k) + (S b.toNat k))) (by omega) (by omega) (fill_s hr (rfl)) hB_52
        refine V.sub [0, 4, 3, 2, 1] (lv' := [(4, vi 0), (3, vi t), (2, vi b), (1, vi a), (0, .ref (ad 3002))]) rfl ?_
        exact loop_34 (7 + 1) H_38 0 r0 (by omega) (by omega) (fill_0 hr0) hB_42
      · refine v_aload_n E 0 rfl dX4_add_21 ?_
        refine v_iconst E dX4_add_22 ?_
        refine v_callV E (As := [vi 1]) (b := (ad 3002)) (ci := 3) (C := RX4) (T := TX4) (N := 27) hB_36.ho rfl (m_fails κ H_31 hI hB_36) (lw_V q1857 q1859 qs47 q82 q1860) 1 (by decide +kernel) rfl (by decide) (by decide) (cb' := 0) (sb' := 0) (by decide) (by decide) rfl (rest := []) (Nat.le_of_ble_eq_true rfl) hAll dX4_add_23 (fun v_53 H_54 hpost_55 hz_56 hk_57 => ?_)
        clear hz_56
        obtain ⟨rfl, hB_58⟩ := hpost_55
        refine V.eq (st' := [vi 0]) rfl ?_
        refine v_iret E hE dX4_add_26 ?_
        have hR : opAdd S a b t = (0, 1, S) := by unfold opAdd; rw [if_neg (by omega)]
        rw [hR]; exact ⟨rfl, _, hB_58⟩
