set_option maxHeartbeats 400000 in
set_option maxRecDepth 100000 in
/-- common and free of here -/
theorem m_findFree (κ : zK) (H0 : Heap) {ad : Nat → Nat} {σ : Nat → Int} {thr len many : Int} {a1 a2 a3 a4 : Nat} (hI : Inj ad) (hM : MS κ ad H0) (hN : NS κ ad σ H0) (ho : hp κ H0 (ad 3002) (.inr (3, MF ad thr len many a1 a2 a3 a4))) (hfit : fitFree (pget σ 6)) (hd : 0 ≤ pdeg (freeD (pget σ 6)) ∧ pdeg (freeD (pget σ 6)) ≤ pdeg (pprim (pget σ 6))) : Mt κ yX4_findFree cX4_findFree 6 (none) 6 139 0 0 H0 [.ref (ad 3002), .ref (ad (2000 + 6))] (AN ad) (fun v H1 => v = none ∧ ∃ r0 r1 r2 f, NS κ ad (bk (va_up (va_up (va_up (va_up (va_up (pget σ) 0 r0) 1 r1) 2 r2) 3 (freeD (pget σ 6))) 4 (freeR (pget σ 6))) f) H1) := by
  refine Mt.of (by decide) (Nat.le_of_ble_eq_true rfl) ?_
  intro z E hE hH0 hA0 hL hini
  have hAll : ∀ q, (AN ad) q → zA z.A z.H0 q := fun q h => Or.inl (by rw [hA0]; exact h)
  have hNew : ∀ q, H0.size ≤ q → zA z.A z.H0 q := fun q h => Or.inr (by rw [hH0]; exact h)
  have E : zOK z cX4_findFree RX4 κ 6 139 (none) := E
  refine V.eqL (lv' := [(0, .ref (ad 3002)), (1, .ref (ad (2000 + 6)))]) rfl ?_
  have hN_1 : NS κ ad (bk (pget σ) σ) H0 := hN.toBk
  refine v_aload_n E 1 rfl dX4_findFree_0 ?_
  refine v_aload_n E 0 rfl dX4_findFree_1 ?_
  refine v_getf E in_X4 ho (ci := 3) rfl 8 (by decide) q1768 rfl (v := .ref (ad (2000 + 0))) rfl dX4_findFree_2 ?_
  refine v_callS E (As := [.ref (ad (2000 + 6)), .ref (ad (2000 + 0))]) (m_pcopy κ H0 (by decide) (by decide) (by decide) hI hM hN_1) (lw_S q1994 q1995 q82 q1996) 2 (by decide +kernel) rfl (by decide) (by decide) (cb' := 0) (sb' := 0) (by decide) (by decide) rfl (rest := []) (Nat.le_of_ble_eq_true rfl) hAll dX4_findFree_5 (fun v_2 H_3 hpost_4 hz_5 hk_6 => ?_)
  clear hz_5
  obtain ⟨rfl, hN_7⟩ := hpost_4
  have hM_8 := hM.kept hI (A := AN ad) (fun q h => h) hk_6
  have ho_9 := ho.far hI (by decide) (A := AN ad) (fun q h => h) hk_6
  have hN_10 : NS κ ad (bk (va_up (pget σ) 0 (pget σ 6)) σ) H_3 := hN_7.ps bk_get
  refine V.eq (st' := []) rfl ?_
  refine v_aload_n E 1 rfl dX4_findFree_8 ?_
  refine v_aload_n E 0 rfl dX4_findFree_9 ?_
  refine v_getf E in_X4 ho_9 (ci := 3) rfl 9 (by decide) q1769 rfl (v := .ref (ad (2000 + 1))) rfl dX4_findFree_10 ?_
  refine v_callS E (As := [.ref (ad (2000 + 6)), .ref (ad (2000 + 1))]) (m_derive κ H_3 (by decide) (by decide) (by decide) hI hM_8 hN_10) (lw_S q2014 q2015 q82 q2016) 2 (by decide +kernel) rfl (by decide) (by decide) (cb' := 0) (sb' := 0) (by decide) (by decide) rfl (rest := []) (Nat.le_of_ble_eq_true rfl) hAll dX4_findFree_13 (fun v_11 H_12 hpost_13 hz_14 hk_15 => ?_)
  clear hz_14
  obtain ⟨rfl, hN_16⟩ := hpost_13
  have hM_17 := hM_8.kept hI (A := AN ad) (fun q h => h) hk_15
  have ho_18 := ho_9.far hI (by decide) (A := AN ad) (fun q h => h) hk_15
  have hN_19 : NS κ ad (bk (va_up (va_up (pget σ) 0 (pget σ 6)) 1 (drv (pget σ 6))) σ) H_12 := hN_16.ps (drv_congr bk_get)
  refine V.eq (st' := []) rfl ?_
  refine v_aload_n E 1 rfl dX4_findFree_16 ?_
  refine v_aload_n E 0 rfl dX4_findFree_17 ?_
  refine v_getf E in_X4 ho_18 (ci := 3) rfl 10 (by decide) q1770 rfl (v := .ref (ad (2000 + 2))) rfl dX4_findFree_18 ?_
  refine v_callS E (As := [.ref (ad (2000 + 6)), .ref (ad (2000 + 2))]) (m_pcopy κ H_12 (by decide) (by decide) (by decide) hI hM_17 hN_19) (lw_S q1994 q1995 q82 q1996) 2 (by decide +kernel) rfl (by decide) (by decide) (cb' := 0) (sb' := 0) (by decide) (by decide) rfl (rest := []) (Nat.le_of_ble_eq_true rfl) hAll dX4_findFree_21 (fun v_20 H_21 hpost_22 hz_23 hk_24 => ?_)
  clear hz_23
  obtain ⟨rfl, hN_25⟩ := hpost_22
  have hM_26 := hM_17.kept hI (A := AN ad) (fun q h => h) hk_24
  have ho_27 := ho_18.far hI (by decide) (A := AN ad) (fun q h => h) hk_24
  have hN_28 : NS κ ad (bk (va_up (va_up (va_up (pget σ) 0 (pget σ 6)) 1 (drv (pget σ 6))) 2 (pget σ 6)) σ) H_21 := hN_25.ps bk_get
  refine V.eq (st' := []) rfl ?_
  refine v_aload_n E 0 rfl dX4_findFree_24 ?_
  have hS0 : eq7 (pget (bk (va_up (va_up (va_up (pget σ) 0 (pget σ 6)) 1 (drv (pget σ 6))) 2 (pget σ 6)) σ) 0) (pget σ 6) := bk_get
  have hS1 : eq7 (pget (bk (va_up (va_up (va_up (pget σ) 0 (pget σ 6)) 1 (drv (pget σ 6))) 2 (pget σ 6)) σ) 1) (drv (pget σ 6)) := bk_get
  refine v_callV E (As := []) (b := (ad 3002)) (ci := 3) (C := RX4) (T := TX4) (N := 27) ho_27 rfl (m_findCommon κ H_21 hI hM_26 hN_28 ho_27 (pS_congr hS0.symm hfit.1) (pS_congr hS1.symm hfit.2.1) (fitG_congr hS0.symm hS1.symm hfit.2.2.1)) (lw_V q1924 q1926 qs51 q82 q1927) 0 (by decide +kernel) rfl (by decide) (by decide) (cb' := 0) (sb' := 0) (by decide) (by decide) rfl (rest := []) (Nat.le_of_ble_eq_true rfl) hAll dX4_findFree_25 (fun v_29 H_30 hpost_31 hz_32 hk_33 => ?_)
  clear hz_32
  obtain ⟨rfl, r0, r1, f0, hN_34⟩ := hpost_31
  have hM_35 := hM_26.kept hI (A := AN ad) (fun q h => h) hk_33
  have ho_36 := ho_27.far hI (by decide) (A := AN ad) (fun q h => h) hk_33
  have hN_37 : NS κ ad (bk (va_up (va_up (va_up (va_up (va_up (va_up (pget σ) 0 (pget σ 6)) 1 (drv (pget σ 6))) 2 (pget σ 6)) 0 r0) 1 r1) 3 (freeD (pget σ 6))) f0) H_30 := (by have h9 := hN_34; unfold two at h9; rw [bk_pset, bk_pset] at h9; exact h9.psT (comR_congr hS0 hS1))
  refine V.eq (st' := []) rfl ?_
  refine v_aload_n E 0 rfl dX4_findFree_28 ?_
  refine v_aload_n E 0 rfl dX4_findFree_29 ?_
  refine v_getf E in_X4 ho_36 (ci := 3) rfl 10 (by decide) q1770 rfl (v := .ref (ad (2000 + 2))) rfl dX4_findFree_30 ?_
  have hS2 : eq7 (pget (bk (va_up (va_up (va_up (va_up (va_up (va_up (pget σ) 0 (pget σ 6)) 1 (drv (pget σ 6))) 2 (pget σ 6)) 0 r0) 1 r1) 3 (freeD (pget σ 6))) f0) 2) (pget σ 6) := bk_get
  refine v_callV E (As := [.ref (ad (2000 + 2))]) (b := (ad 3002)) (ci := 3) (C := RX4) (T := TX4) (N := 27) ho_36 rfl (m_prim κ H_30 (by decide) hI hM_35 hN_37 ho_36 (pS_congr hS2.symm hfit.1)) (lw_V q1954 q1956 qs53 q82 q1957) 1 (by decide +kernel) rfl (by decide) (by decide) (cb' := 0) (sb' := 0) (by decide) (by decide) rfl (rest := []) (Nat.le_of_ble_eq_true rfl) hAll dX4_findFree_33 (fun v_38 H_39 hpost_40 hz_41 hk_42 => ?_)
  clear hz_41
  obtain ⟨rfl, f1, hN_43⟩ := hpost_40
  have hM_44 := hM_35.kept hI (A := AN ad) (fun q h => h) hk_42
  have ho_45 := ho_36.far hI (by decide) (A := AN ad) (fun q h => h) hk_42
  obtain ⟨Q, hQ⟩ : ∃ Q : Nat → Nat → Int, Q = va_up (va_up (va_up (pget σ) 0 r0) 1 r1) 3 (freeD (pget σ 6)) := ⟨_, rfl⟩
  have hQ3 : Q 3 = (freeD (pget σ 6)) := by rw [hQ]; rfl
  obtain ⟨D, hD⟩ : ∃ D : Nat → Int, D = (freeD (pget σ 6)) := ⟨_, rfl⟩
  obtain ⟨N, hN0⟩ : ∃ N : Nat, N = (pdeg (pprim (pget σ 6)) - pdeg (freeD (pget σ 6)) + 1).toNat := ⟨_, rfl⟩
  obtain ⟨h, hh⟩ := Int.eq_ofNat_of_zero_le hd.1
  have hfr := hfit.2.2.2
  have hl := ppos_lead hh
  rw [hh, Int.toNat_natCast] at hfr
  have hdp := pdeg_in (pprim (pget σ 6))
  have hpo : 0 < D h := by rw [hD]; exact hl
  obtain ⟨dh, hdh⟩ := Int.eq_ofNat_of_zero_le (Int.le_of_lt hpo)
  have hQ3 : Q 3 = D := by rw [hQ3, hD]
  have hDS : pS D := by rw [hD]; exact comR_pS hfit.1 hfit.2.1 hfit.2.2.1
  have hd2 := hd.2
  rw [hh] at hd2
  have hfr : fitF D h N (pprim (pget σ 6)) := by rw [hD, hN0, hh]; exact hfr
  have hN_46 : NS κ ad (bk (up24 Q (pprim (pget σ 6)) (pget σ 4)) f1) H_39 := (by have h9 := hN_43.psT (s := pprim (pget σ 6)) hS2.prim; rw [up24_in, ← hQ] at h9; exact h9)
  refine V.eq (st' := []) rfl ?_
  refine v_aload_n E 0 rfl dX4_findFree_36 ?_
  refine v_getf E in_X4 ho_45 (ci := 3) rfl 11 (by decide) q1771 rfl (v := .ref (ad (2000 + 3))) rfl dX4_findFree_37 ?_
  have hg3 : eq7 (pget (bk (up24 Q (pprim (pget σ 6)) (pget σ 4)) f1) 3) D := by rw [← hQ3]; exact bk_get
  refine v_callS E (As := [.ref (ad (2000 + 3))]) (m_pdeg κ H_39 (j := 3) (by decide) hI hM_44 hN_46 (pS_congr hg3.symm hDS).N) (lw_S q1928 q1929 q82 q1930) 1 (by decide +kernel) rfl (by decide) (by decide) (cb' := 0) (sb' := 0) (by decide) (by decide) rfl (rest := []) (Nat.le_of_ble_eq_true rfl) (fun q h => h.elim) dX4_findFree_40 (fun v_47 H_48 hpost_49 hz_50 hk_51 => ?_)
  clear hz_50
  obtain rfl := hpost_49
  have hM_52 := hM_44.kept hI (A := fun _ => False) (fun q h => h.elim) hk_51
  have ho_53 := ho_45.far hI (by decide) (A := fun _ => False) (fun q h => h.elim) hk_51
  have hN_54 := hN_46.kept0 hk_51
  refine V.eq (st' := [vi (h : Int)]) (by rw [hg3.deg, hD, hh]; rfl) ?_
  refine v_istore_n E dX4_findFree_43 (zlt hL rfl) (lv' := [(2, vi (h : Int)), (0, .ref (ad 3002)), (1, .ref (ad (2000 + 6)))]) rfl ?_
  refine v_iconst E dX4_findFree_44 ?_
  refine v_istore_n E dX4_findFree_45 (zlt hL rfl) (lv' := [(3, vi 0), (2, vi (h : Int)), (0, .ref (ad 3002)), (1, .ref (ad (2000 + 6)))]) rfl ?_
  have loop_46 : ∀ (m_46 : Nat) (H : Heap) (k : Nat) (R : Nat → Int), 7 - k < m_46 → (k ≤ 7) → (∀ m, m < k → R m = 0) → hp κ H (ad 3002) (.inr (3, MF ad thr len many a1 a2 a3 a4)) → MS κ ad H → NS κ ad (bk (up24 Q (pprim (pget σ 6)) R) f1) H → V z H 0 0 46 [(3, vi (k : Int)), (2, vi (h : Int)), (1, .ref (ad (2000 + 6))), (0, .ref (ad 3002))] [] := by
    intro m_46
    induction m_46 with
    | zero => intro H k R hm; exact absurd hm (by omega)
    | succ m_46 ih_46 =>
      intro H k R hm_46 hk hR ho hM hN
      refine v_iload_n E 0 rfl dX4_findFree_46 ?_
      refine v_bipush E ⟨by decide, by decide⟩ dX4_findFree_47 ?_
      refine v_icmp_ge E (tgt := 68) dX4_findFree_49 (by decide) ⟨by omega, by omega⟩ ⟨by omega, by omega⟩ (fun c_49 => ?_) (fun c_49 => ?_)
      · refine v_aload_n E 3 rfl dX4_findFree_68 ?_
        refine v_getf E in_X4 ho (ci := 3) rfl 10 (by decide) q1770 rfl (v := .ref (ad (2000 + 2))) rfl dX4_findFree_69 ?_
        have hg2 : eq7 (pget (bk (up24 Q (pprim (pget σ 6)) R) f1) 2) (pprim (pget σ 6)) := bk_get
        refine v_callS E (As := [.ref (ad (2000 + 2))]) (m_pdeg κ H (j := 2) (by decide) hI hM hN (pS_congr hg2.symm hfit.1.prim).N) (lw_S q1928 q1929 q82 q1930) 1 (by decide +kernel) rfl (by decide) (by decide) (cb' := 0) (sb' := 0) (by decide) (by decide) rfl (rest := []) (Nat.le_of_ble_eq_true rfl) (fun q h => h.elim) dX4_findFree_72 (fun v_55 H_56 hpost_57 hz_58 hk_59 => ?_)
        clear hz_58
        obtain rfl := hpost_57
        have hM_60 := hM.kept hI (A := fun _ => False) (fun q h => h.elim) hk_59
        have ho_61 := ho.far hI (by decide) (A := fun _ => False) (fun q h => h.elim) hk_59
        have hN_62 := hN.kept0 hk_59
        refine V.eq (st' := [vi (pdeg (pprim (pget σ 6)))]) (by rw [hg2.deg]; rfl) ?_
        refine v_iload_n E 1 rfl dX4_findFree_75 ?_
        refine v_isub E dX4_findFree_76 ?_
        refine v_istore_n E dX4_findFree_77 (zlt hL rfl) (lv' := [(3, vi ((pdeg (pprim (pget σ 6))) - (h : Int))), (2, vi (h : Int)), (1, .ref (ad (2000 + 6))), (0, .ref (ad 3002))]) rfl ?_
        have loop_78 : ∀ (m_78 : Nat) (H : Heap) (n : Nat) (T R f : Nat → Int), n < m_78 → (n + h ≤ 7) → (fitF D h n T) → (∀ k, k < 7 → frF D h N (pprim (pget σ 6)) k = if k < n then frF D h n T k else R k) → hp κ H (ad 3002) (.inr (3, MF ad thr len many a1 a2 a3 a4)) → MS κ ad H → NS κ ad (bk (up24 Q T R) f) H → V z H 0 0 78 [(3, vi ((n : Int) - 1)), (2, vi (h : Int)), (1, .ref (ad (2000 + 6))), (0, .ref (ad 3002))] [] := by
          intro m_78
          induction m_78 with
          | zero => intro H n T R f hm; exact absurd hm (by omega)
          | succ m_78 ih_78 =>
            intro H n T R f hm_78 hnh hf hres ho hM hN
            refine v_iload_n E 0 rfl dX4_findFree_78 ?_
            refine v_if_lt E (tgt := 199) dX4_findFree_79 (by decide) ⟨by omega, by omega⟩ (fun c_79 => ?_) (fun c_79 => ?_)
            · have hRe : eq7 R (frF D h N (pprim (pget σ 6))) := fun k hk => by rw [hres k hk, if_neg (by omega)]
              refine v_aload_n E 3 rfl dX4_findFree_199 ?_
              refine v_aload_n E 3 rfl dX4_findFree_200 ?_
              refine v_getf E in_X4 ho (ci := 3) rfl 12 (by decide) q1772 rfl (v := .ref (ad (2000 + 4))) rfl dX4_findFree_201 ?_
              have hRS : pS R := pS_congr hRe.symm (frF_pS N hfr)
              have hg4 : eq7 (pget (bk (up24 Q T R) f) 4) R := bk_get
              refine v_callV E (As := [.ref (ad (2000 + 4))]) (b := (ad 3002)) (ci := 3) (C := RX4) (T := TX4) (N := 27) ho rfl (m_prim κ H (by decide) hI hM hN ho (pS_congr hg4.symm hRS)) (lw_V q1954 q1956 qs53 q82 q1957) 1 (by decide +kernel) rfl (by decide) (by decide) (cb' := 0) (sb' := 0) (by decide) (by decide) rfl (rest := []) (Nat.le_of_ble_eq_true rfl) hAll dX4_findFree_204 (fun v_63 H_64 hpost_65 hz_66 hk_67 => ?_)
              clear hz_66
              obtain ⟨rfl, f2, hN_68⟩ := hpost_65
              have hM_69 := hM.kept hI (A := AN ad) (fun q h => h) hk_67
              have ho_70 := ho.far hI (by decide) (A := AN ad) (fun q h => h) hk_67
              have hN_71 : NS κ ad (bk (up24 Q T (pprim R)) f2) H_64 := (by have h9 := hN_68.psT (s := pprim R) hg4.prim; rw [up24_s4] at h9; exact h9)
              refine V.eq (st' := []) rfl ?_
              refine v_aload_n E 3 rfl dX4_findFree_207 ?_
              refine v_aload_n E 3 rfl dX4_findFree_208 ?_
              refine v_getf E in_X4 ho_70 (ci := 3) rfl 12 (by decide) q1772 rfl (v := .ref (ad (2000 + 4))) rfl dX4_findFree_209 ?_
              have hg5 : eq7 (pget (bk (up24 Q T (pprim R)) f2) 4) (pprim R) := bk_get
              refine v_callV E (As := [.ref (ad (2000 + 4))]) (b := (ad 3002)) (ci := 3) (C := RX4) (T := TX4) (N := 27) ho_70 rfl (m_ppos κ H_64 (by decide) hI hM_69 hN_71 (pS_congr hg5.symm hRS.prim).N) (lw_V q1987 q1989 qs55 q82 q1990) 1 (by decide +kernel) rfl (by decide) (by decide) (cb' := 0) (sb' := 0) (by decide) (by decide) rfl (rest := []) (Nat.le_of_ble_eq_true rfl) hAll dX4_findFree_212 (fun v_72 H_73 hpost_74 hz_75 hk_76 => ?_)
              clear hz_75
              obtain ⟨rfl, hN_77⟩ := hpost_74
              have hM_78 := hM_69.kept hI (A := AN ad) (fun q h => h) hk_76
              have ho_79 := ho_70.far hI (by decide) (A := AN ad) (fun q h => h) hk_76
              have hN_80 : NS κ ad (bk (up24 Q T (ppos (pprim R))) f2) H_73 := (by have h9 := hN_77.ps (s := ppos (pprim R)) (ppos_congr hg5); rw [up24_s4] at h9; exact h9)
              refine V.eq (st' := []) rfl ?_
              refine v_vret E hE dX4_findFree_215 ?_
              refine ⟨rfl, r0, r1, T, f2, ?_⟩
              rw [← up24_out, ← hQ]
              refine NS.ofBk hN_80 (fun j _ => ?_) (fun _ _ => rfl)
              by_cases e : j = 4
              · subst e
                show eq7 (ppos (pprim R)) (freeR (pget σ 6))
                unfold freeR
                rw [← hN0, hh, Int.toNat_natCast, ← hD]
                exact ppos_congr hRe.prim
              · have e2 : up24 Q T (ppos (pprim R)) j = up24 Q T (freeR (pget σ 6)) j := by unfold up24; rw [if_neg e, if_neg e]
                rw [e2]; exact eq7.rfl'
            · obtain ⟨m, rfl⟩ : ∃ m, n = m + 1 := ⟨n - 1, by omega⟩
              refine V.eqL (lv' := [(3, vi (m : Int)), (2, vi (h : Int)), (1, .ref (ad (2000 + 6))), (0, .ref (ad 3002))]) (by rw [show ((m + 1 : Nat) : Int) - 1 = (m : Int) by omega]) ?_
              refine v_aload_n E 3 rfl dX4_findFree_82 ?_
              refine v_getf E in_X4 ho (ci := 3) rfl 10 (by decide) q1770 rfl (v := .ref (ad (2000 + 2))) rfl dX4_findFree_83 ?_
              refine v_iload_n E 0 rfl dX4_findFree_86 ?_
              refine v_iload_n E 1 rfl dX4_findFree_87 ?_
              refine v_iadd E dX4_findFree_88 ?_
              refine v_aaldS E dX4_findFree_89 (hM.1 2 (by decide)) (t := 3) (ty := (.array .int)) rfl rfl (m + h) (by omega) (by omega) (by omega) (b := (ad (6 + 7 * 2 + (m + h)))) rfl ?_
              refine v_aload_n E 3 rfl dX4_findFree_90 ?_
              refine v_getf E in_X4 ho (ci := 3) rfl 3 (by decide) q1763 rfl (v := .ref (ad 1)) rfl dX4_findFree_91 ?_
              have hv_81 : hp κ H (ad (6 + 7 * 2 + (m + h))) (eN κ (T (m + h))) := by
                have e : (bk (up24 Q T R) f) (6 + 7 * 2 + (m + h)) = T (m + h) := (bk_at _ _ _ _ (by omega)).trans (rfl)
                rw [← e]; exact (hN (6 + 7 * 2 + (m + h)) (by omega))
              refine v_callS E (As := [.ref (ad (6 + 7 * 2 + (m + h))), .ref (ad 1)]) (m_copy κ H (hI.ne (by omega)) hv_81 (hN 1 (by omega))) (lw_S q1938 q1939 q82 q1940) 2 (by decide +kernel) rfl (by decide) (by decide) (cb' := 0) (sb' := 0) (by decide) (by decide) rfl (rest := []) (Nat.le_of_ble_eq_true rfl) (fun q h => hAll q ⟨1, by omega, h⟩) dX4_findFree_94 (fun v_82 H_83 hpost_84 hz_85 hk_86 => ?_)
              clear hz_85
              obtain ⟨rfl, hx_87⟩ := hpost_84
              have hN_88 := hN.set hI (i := 1) hx_87 hk_86
              have hM_89 := hM.kept hI (A := fun q => q = ad 1) (fun q h => ⟨1, by omega, h⟩) hk_86
              have ho_90 := ho.far hI (by decide) (A := fun q => q = ad 1) (fun q h => ⟨1, by omega, h⟩) hk_86
              have hN_91 : NS κ ad (bk (up24 Q T R) (va_up f 1 (T (m + h)))) H_83 := hN_88.lo (by decide)
              refine V.eq (st' := []) rfl ?_
              refine v_aload_n E 3 rfl dX4_findFree_97 ?_
              refine v_getf E in_X4 ho_90 (ci := 3) rfl 3 (by decide) q1763 rfl (v := .ref (ad 1)) rfl dX4_findFree_98 ?_
              have hv_92 : hp κ H_83 (ad 1) (eN κ (T (m + h))) := by
                have e : (bk (up24 Q T R) (va_up f 1 (T (m + h)))) 1 = T (m + h) := (bk_lo _ _ (by decide)).trans (rfl)
                rw [← e]; exact (hN_91 1 (by omega))
              refine v_callS E (As := [.ref (ad 1)]) (m_bare κ H_83 (rN_abs hf.1) hv_92) (lw_S q1941 q1942 q82 q1943) 1 (by decide +kernel) rfl (by decide) (by decide) (cb' := 0) (sb' := 0) (by decide) (by decide) rfl (rest := []) (Nat.le_of_ble_eq_true rfl) (fun q h => hAll q ⟨1, by omega, h⟩) dX4_findFree_101 (fun v_93 H_94 hpost_95 hz_96 hk_97 => ?_)
              clear hz_96
              obtain ⟨rfl, hx_98⟩ := hpost_95
              have hN_99 := hN_91.set hI (i := 1) hx_98 hk_97
              have hM_100 := hM_89.kept hI (A := fun q => q = ad 1) (fun q h => ⟨1, by omega, h⟩) hk_97
              have ho_101 := ho_90.far hI (by decide) (A := fun q => q = ad 1) (fun q h => ⟨1, by omega, h⟩) hk_97
              have hN_102 : NS κ ad (bk (up24 Q T R) (va_up (va_up f 1 (T (m + h))) 1 ((T (m + h)).natAbs : Int))) H_94 := hN_99.lo (by decide)
              refine V.eq (st' := [vi (if T (m + h) < 0 then 1 else 0)]) rfl ?_
              refine v_istore E dX4_findFree_104 (zlt hL rfl) (lv' := [(4, vi (if T (m + h) < 0 then 1 else 0)), (3, vi (m : Int)), (2, vi (h : Int)), (1, .ref (ad (2000 + 6))), (0, .ref (ad 3002))]) rfl ?_
              refine v_aload_n E 4 rfl dX4_findFree_106 ?_
              refine v_aload_n E 4 rfl dX4_findFree_107 ?_
              refine v_getf E in_X4 ho_101 (ci := 3) rfl 3 (by decide) q1763 rfl (v := .ref (ad 1)) rfl dX4_findFree_108 ?_
              refine v_aload_n E 4 rfl dX4_findFree_111 ?_
              refine v_getf E in_X4 ho_101 (ci := 3) rfl 11 (by decide) q1771 rfl (v := .ref (ad (2000 + 3))) rfl dX4_findFree_112 ?_
              refine v_iload_n E 2 rfl dX4_findFree_115 ?_
              refine v_aaldS E dX4_findFree_116 (hM_100.1 3 (by decide)) (t := 3) (ty := (.array .int)) rfl rfl h rfl (by omega) (by omega) (b := (ad (6 + 7 * 3 + h))) rfl ?_
              refine v_aload_n E 4 rfl dX4_findFree_117 ?_
              refine v_getf E in_X4 ho_101 (ci := 3) rfl 12 (by decide) q1772 rfl (v := .ref (ad (2000 + 4))) rfl dX4_findFree_118 ?_
              refine v_iload_n E 1 rfl dX4_findFree_121 ?_
              refine v_aaldS E dX4_findFree_122 (hM_100.1 4 (by decide)) (t := 3) (ty := (.array .int)) rfl rfl m rfl (by omega) (by omega) (b := (ad (6 + 7 * 4 + m))) rfl ?_
              have hv_103 : hp κ H_94 (ad (6 + 7 * 3 + h)) (eN κ (dh : Int)) := by
                have e : (bk (up24 Q T R) (va_up (va_up f 1 (T (m + h))) 1 ((T (m + h)).natAbs : Int))) (6 + 7 * 3 + h) = (dh : Int) := (bk_at _ _ _ _ (by omega)).trans ((show Q 3 h = _ by rw [hQ3]; exact hdh))
                rw [← e]; exact (hN_102 (6 + 7 * 3 + h) (by omega))
              have hv_104 : hp κ H_94 (ad 1) (eN κ ((T (m + h)).natAbs : Int)) := by
                have e : (bk (up24 Q T R) (va_up (va_up f 1 (T (m + h))) 1 ((T (m + h)).natAbs : Int))) 1 = ((T (m + h)).natAbs : Int) := (bk_lo _ _ (by decide)).trans (rfl)
                rw [← e]; exact (hN_102 1 (by omega))
              refine v_callV E (As := [.ref (ad 1), .ref (ad (6 + 7 * 3 + h)), .ref (ad (6 + 7 * 4 + m))]) (b := (ad 3002)) (ci := 3) (C := RX4) (T := TX4) (N := 27) ho_101 rfl (m_quotient κ H_94 (hI.ne (by omega)) (hI.ne (by omega)) (hI.ne (by omega)) (hI.ne (by omega)) (hI.ne (by omega)) (hI.ne (by omega)) (hI.ne (by omega)) (hI.ne (by omega)) (hI.ne (by decide)) hf.1 (by have := hDS h (by omega); rw [hdh, Int.natAbs_natCast] at this; exact this) (by omega) rfl ho_101 hv_104 hv_103 (hN_102 (6 + 7 * 4 + m) (by omega)) (hN_102 5 (by omega))) (lw_V q1983 q1985 qs54 q82 q1986) 3 (by decide +kernel) rfl (by decide) (by decide) (cb' := 0) (sb' := 0) (by decide) (by decide) rfl (rest := []) (Nat.le_of_ble_eq_true rfl) (fun q h => hAll q (h.elim (fun h => ⟨1, by omega, h⟩) (fun h => h.elim (fun h => ⟨6 + 7 * 4 + m, by omega, h⟩) (fun h => ⟨5, by decide, h⟩)))) dX4_findFree_123 (fun v_105 H_106 hpost_107 hz_108 hk_109 => ?_)
              clear hz_108
              obtain ⟨rfl, hqt, r2, s2, hqa, hqy⟩ := hpost_107
              have hN_110 := hN_102.set3 hI (i := 1) (k := 6 + 7 * 4 + m) (m := 5) (by omega) hqa hqt hqy (fun q g h => hk_109 q g (fun h2 => h (h2.elim Or.inl (fun h3 => h3.elim (fun h4 => Or.inr (Or.inl h4)) (fun h4 => Or.inr (Or.inr h4))))))
              have hM_111 := hM_100.kept hI (A := fun q => q = ad 1 ∨ q = ad (6 + 7 * 4 + m) ∨ q = ad 5) (fun q h => h.elim (fun h => ⟨1, by omega, h⟩) (fun h => h.elim (fun h => ⟨6 + 7 * 4 + m, by omega, h⟩) (fun h => ⟨5, by decide, h⟩))) hk_109
              have ho_112 := ho_101.far hI (by decide) (A := fun q => q = ad 1 ∨ q = ad (6 + 7 * 4 + m) ∨ q = ad 5) (fun q h => h.elim (fun h => ⟨1, by omega, h⟩) (fun h => h.elim (fun h => ⟨6 + 7 * 4 + m, by omega, h⟩) (fun h => ⟨5, by decide, h⟩))) hk_109
              have hN_113 : NS κ ad (bk (up24 Q T (va_up R m (((T (m + h)).natAbs / dh : Nat) : Int))) (va_up (va_up (va_up (va_up f 1 (T (m + h))) 1 ((T (m + h)).natAbs : Int)) 1 r2) 5 s2)) H_106 := (by have h9 := hN_110; rw [bk_up _ _ _ (by decide), bk_upP _ _ _ _ _ (by omega), bk_up _ _ _ (by decide), up24_s4] at h9; exact h9)
              refine V.eq (st' := []) rfl ?_
              refine v_iload E 0 rfl dX4_findFree_126 ?_
              refine v_if_eq E (tgt := 140) dX4_findFree_128 (by decide) ⟨by split <;> omega, by split <;> omega⟩ (fun c_128 => ?_) (fun c_128 => ?_)
              · have hsg : 0 ≤ T (m + h) := by rcases Int.lt_or_le (T (m + h)) 0 with q | q <;> first | exact q | (exfalso; first | (rw [if_pos q] at c_128; omega) | (rw [if_neg (by omega)] at c_128; exact c_128 rfl))
                have hqe : (((T (m + h)).natAbs / dh : Nat) : Int) = (T (m + h)).tdiv (D h) := by rw [hdh]; exact (tdiv_pos hsg).symm
                have hN_114 : NS κ ad (bk (up24 Q T (va_up R m ((T (m + h)).tdiv (D h)))) (va_up (va_up (va_up (va_up f 1 (T (m + h))) 1 ((T (m + h)).natAbs : Int)) 1 r2) 5 s2)) H_106 := by rw [← hqe]; exact hN_113
                refine v_iconst E dX4_findFree_140 ?_
                refine v_istore E dX4_findFree_141 (zlt hL rfl) (lv' := [(5, vi 0), (4, vi (if T (m + h) < 0 then 1 else 0)), (3, vi (m : Int)), (2, vi (h : Int)), (1, .ref (ad (2000 + 6))), (0, .ref (ad 3002))]) rfl ?_
                have loop_143 : ∀ (m_143 : Nat) (H : Heap) (k : Nat) (f2 : Nat → Int), h + 1 - k < m_143 → (k ≤ h + 1) → hp κ H (ad 3002) (.inr (3, MF ad thr len many a1 a2 a3 a4)) → MS κ ad H → NS κ ad (bk (up24 Q (frK D T ((T (m + h)).tdiv (D h)) m k) (va_up R m ((T (m + h)).tdiv (D h)))) f2) H → V z H 0 0 143 [(5, vi (k : Int)), (3, vi (m : Int)), (2, vi (h : Int)), (1, .ref (ad (2000 + 6))), (0, .ref (ad 3002))] [] := by
                  intro m_143
                  induction m_143 with
                  | zero => intro H k f2 hm; exact absurd hm (by omega)
                  | succ m_143 ih_143 =>
                    intro H k f2 hm_143 hk ho hM hN
                    refine v_iload E 0 rfl dX4_findFree_143 ?_
                    refine v_iload_n E 2 rfl dX4_findFree_145 ?_
                    refine v_icmp_gt E (tgt := 193) dX4_findFree_146 (by decide) ⟨by omega, by omega⟩ ⟨by omega, by omega⟩ (fun c_146 => ?_) (fun c_146 => ?_)
                    · have hkh : k = h + 1 := by omega
                      have hN_115 : NS κ ad (bk (up24 Q (frT D h m T) (va_up R m ((T (m + h)).tdiv (D h)))) f2) H := by rw [← frK_h, ← hkh]; exact hN
                      refine v_iinc E 1 rfl dX4_findFree_193 (zlt hL rfl) (lv' := [(3, vi ((m : Int) + (-1))), (5, vi (k : Int)), (2, vi (h : Int)), (1, .ref (ad (2000 + 6))), (0, .ref (ad 3002))]) rfl ?_
                      refine v_goto E (tgt := 78) dX4_findFree_196 (by decide) ?_
                      refine V.sub [0, 2, 3, 4] (lv' := [(3, vi ((m : Int) + (-1))), (2, vi (h : Int)), (1, .ref (ad (2000 + 6))), (0, .ref (ad 3002))]) rfl ?_
                      exact ih_78  H m (frT D h m T) (va_up R m ((T (m + h)).tdiv (D h))) f2 (by omega) (by omega) hf.2 (fr_step hres) ho hM hN_115
                    · refine v_aload_n E 4 rfl dX4_findFree_149 ?_
                      refine v_getf E in_X4 ho (ci := 3) rfl 11 (by decide) q1771 rfl (v := .ref (ad (2000 + 3))) rfl dX4_findFree_150 ?_
                      refine v_iload E 0 rfl dX4_findFree_153 ?_
                      refine v_aaldS E dX4_findFree_155 (hM.1 3 (by decide)) (t := 3) (ty := (.array .int)) rfl rfl k rfl (by omega) (by omega) (b := (ad (6 + 7 * 3 + k))) rfl ?_
                      refine v_aload_n E 4 rfl dX4_findFree_156 ?_
                      refine v_getf E in_X4 ho (ci := 3) rfl 12 (by decide) q1772 rfl (v := .ref (ad (2000 + 4))) rfl dX4_findFree_157 ?_
                      refine v_iload_n E 1 rfl dX4_findFree_160 ?_
                      refine v_aaldS E dX4_findFree_161 (hM.1 4 (by decide)) (t := 3) (ty := (.array .int)) rfl rfl m rfl (by omega) (by omega) (b := (ad (6 + 7 * 4 + m))) rfl ?_
                      refine v_aload_n E 4 rfl dX4_findFree_162 ?_
                      refine v_getf E in_X4 ho (ci := 3) rfl 6 (by decide) q1766 rfl (v := .ref (ad 4)) rfl dX4_findFree_163 ?_
                      have hv_116 : hp κ H (ad (6 + 7 * 3 + k)) (eN κ (D k)) := by
                        have e : (bk (up24 Q (frK D T ((T (m + h)).tdiv (D h)) m k) (va_up R m ((T (m + h)).tdiv (D h)))) f2) (6 + 7 * 3 + k) = D k := (bk_at _ _ _ _ (by omega)).trans ((show Q 3 k = _ by rw [hQ3]))
                        rw [← e]; exact (hN (6 + 7 * 3 + k) (by omega))
                      have hv_117 : hp κ H (ad (6 + 7 * 4 + m)) (eN κ ((T (m + h)).tdiv (D h))) := by
                        have e : (bk (up24 Q (frK D T ((T (m + h)).tdiv (D h)) m k) (va_up R m ((T (m + h)).tdiv (D h)))) f2) (6 + 7 * 4 + m) = (T (m + h)).tdiv (D h) := (bk_at _ _ _ _ (by omega)).trans (if_pos rfl)
                        rw [← e]; exact (hN (6 + 7 * 4 + m) (by omega))
                      refine v_callS E (As := [.ref (ad (6 + 7 * 3 + k)), .ref (ad (6 + 7 * 4 + m)), .ref (ad 4)]) (m_multiply κ H (hI.ne (by omega)) (hI.ne (by omega)) hv_116 hv_117 (hN 4 (by omega))) (lw_S q1948 q1949 q82 q1950) 3 (by decide +kernel) rfl (by decide) (by decide) (cb' := 0) (sb' := 0) (by decide) (by decide) rfl (rest := []) (Nat.le_of_ble_eq_true rfl) (fun q h => hAll q ⟨4, by omega, h⟩) dX4_findFree_166 (fun v_118 H_119 hpost_120 hz_121 hk_122 => ?_)
                      clear hz_121
                      obtain ⟨rfl, hx_123⟩ := hpost_120
                      have hN_124 := hN.set hI (i := 4) hx_123 hk_122
                      have hM_125 := hM.kept hI (A := fun q => q = ad 4) (fun q h => ⟨4, by omega, h⟩) hk_122
                      have ho_126 := ho.far hI (by decide) (A := fun q => q = ad 4) (fun q h => ⟨4, by omega, h⟩) hk_122
                      have hN_127 : NS κ ad (bk (up24 Q (frK D T ((T (m + h)).tdiv (D h)) m k) (va_up R m ((T (m + h)).tdiv (D h)))) (va_up f2 4 (D k * (T (m + h)).tdiv (D h)))) H_119 := hN_124.lo (by decide)
                      refine V.eq (st' := []) rfl ?_
                      refine v_aload_n E 4 rfl dX4_findFree_169 ?_
                      refine v_getf E in_X4 ho_126 (ci := 3) rfl 10 (by decide) q1770 rfl (v := .ref (ad (2000 + 2))) rfl dX4_findFree_170 ?_
                      refine v_iload_n E 1 rfl dX4_findFree_173 ?_
                      refine v_iload E 0 rfl dX4_findFree_174 ?_
                      refine v_iadd E dX4_findFree_176 ?_
                      refine v_aaldS E dX4_findFree_177 (hM_125.1 2 (by decide)) (t := 3) (ty := (.array .int)) rfl rfl (m + k) (by omega) (by omega) (by omega) (b := (ad (6 + 7 * 2 + (m + k)))) rfl ?_
                      refine v_aload_n E 4 rfl dX4_findFree_178 ?_
                      refine v_getf E in_X4 ho_126 (ci := 3) rfl 6 (by decide) q1766 rfl (v := .ref (ad 4)) rfl dX4_findFree_179 ?_
                      refine v_bipush E ⟨by decide, by decide⟩ dX4_findFree_182 ?_
                      have hv_128 : hp κ H_119 (ad (6 + 7 * 2 + (m + k))) (eN κ (T (m + k))) := by
                        have e : (bk (up24 Q (frK D T ((T (m + h)).tdiv (D h)) m k) (va_up R m ((T (m + h)).tdiv (D h)))) (va_up f2 4 (D k * (T (m + h)).tdiv (D h)))) (6 + 7 * 2 + (m + k)) = T (m + k) := (bk_at _ _ _ _ (by omega)).trans (frK_at _ _ _ _ _)
                        rw [← e]; exact (hN_127 (6 + 7 * 2 + (m + k)) (by omega))
                      have hv_129 : hp κ H_119 (ad 4) (eN κ (D k * (T (m + h)).tdiv (D h))) := by
                        have e : (bk (up24 Q (frK D T ((T (m + h)).tdiv (D h)) m k) (va_up R m ((T (m + h)).tdiv (D h)))) (va_up f2 4 (D k * (T (m + h)).tdiv (D h)))) 4 = D k * (T (m + h)).tdiv (D h) := (bk_lo _ _ (by decide)).trans (rfl)
                        rw [← e]; exact (hN_127 4 (by omega))
                      refine v_callS E (As := [.ref (ad (6 + 7 * 2 + (m + k))), .ref (ad 4), vi 48]) (m_lessW κ H_119 (hI.ne (by omega)) hv_128 hv_129) (lw_S q1951 q1952 q82 q1953) 3 (by decide +kernel) rfl (by decide) (by decide) (cb' := 0) (sb' := 0) (by decide) (by decide) rfl (rest := []) (Nat.le_of_ble_eq_true rfl) (fun q h => hAll q ⟨6 + 7 * 2 + (m + k), by omega, h⟩) dX4_findFree_184 (fun v_130 H_131 hpost_132 hz_133 hk_134 => ?_)
                      clear hz_133
                      obtain ⟨rfl, hx_135⟩ := hpost_132
                      have hN_136 := hN_127.set hI (i := (6 + 7 * 2 + (m + k))) hx_135 hk_134
                      have hM_137 := hM_125.kept hI (A := fun q => q = ad (6 + 7 * 2 + (m + k))) (fun q h => ⟨6 + 7 * 2 + (m + k), by omega, h⟩) hk_134
                      have ho_138 := ho_126.far hI (by decide) (A := fun q => q = ad (6 + 7 * 2 + (m + k))) (fun q h => ⟨6 + 7 * 2 + (m + k), by omega, h⟩) hk_134
                      have hN_139 : NS κ ad (bk (va_up (up24 Q (frK D T ((T (m + h)).tdiv (D h)) m k) (va_up R m ((T (m + h)).tdiv (D h)))) 2 (va_up ((up24 Q (frK D T ((T (m + h)).tdiv (D h)) m k) (va_up R m ((T (m + h)).tdiv (D h)))) 2) (m + k) (T (m + k) - D k * (T (m + h)).tdiv (D h)))) (va_up f2 4 (D k * (T (m + h)).tdiv (D h)))) H_131 := hN_136.hi (by omega)
                      have hN_140 : NS κ ad (bk (up24 Q (frK D T ((T (m + h)).tdiv (D h)) m (k + 1)) (va_up R m ((T (m + h)).tdiv (D h)))) (va_up f2 4 (D k * (T (m + h)).tdiv (D h)))) H_131 := (by have h9 := hN_139; rw [up24_s2] at h9; rw [← frK_s]; exact h9)
                      refine V.eq (st' := []) rfl ?_
                      refine v_iinc E 0 rfl dX4_findFree_187 (zlt hL rfl) (lv' := [(5, vi ((k : Int) + 1)), (3, vi (m : Int)), (2, vi (h : Int)), (1, .ref (ad (2000 + 6))), (0, .ref (ad 3002))]) rfl ?_
                      refine v_goto E (tgt := 143) dX4_findFree_190 (by decide) ?_
                      exact ih_143  H_131 (k + 1) (va_up f2 4 (D k * (T (m + h)).tdiv (D h))) (by omega) (by omega) ho_138 hM_137 hN_140
                refine V.sub [0, 2, 3, 4, 5] (lv' := [(5, vi 0), (3, vi (m : Int)), (2, vi (h : Int)), (1, .ref (ad (2000 + 6))), (0, .ref (ad 3002))]) rfl ?_
                exact loop_143 (h + 1 + 1) H_106 0 (va_up (va_up (va_up (va_up f 1 (T (m + h))) 1 ((T (m + h)).natAbs : Int)) 1 r2) 5 s2) (by omega) (by omega) ho_112 hM_111 (by rw [frK_0]; exact hN_114)
              · refine v_aload_n E 4 rfl dX4_findFree_131 ?_
                refine v_getf E in_X4 ho_112 (ci := 3) rfl 12 (by decide) q1772 rfl (v := .ref (ad (2000 + 4))) rfl dX4_findFree_132 ?_
                refine v_iload_n E 1 rfl dX4_findFree_135 ?_
                refine v_aaldS E dX4_findFree_136 (hM_111.1 4 (by decide)) (t := 3) (ty := (.array .int)) rfl rfl m rfl (by omega) (by omega) (b := (ad (6 + 7 * 4 + m))) rfl ?_
                have hv_141 : hp κ H_106 (ad (6 + 7 * 4 + m)) (eN κ (((T (m + h)).natAbs / dh : Nat) : Int)) := by
                  have e : (bk (up24 Q T (va_up R m (((T (m + h)).natAbs / dh : Nat) : Int))) (va_up (va_up (va_up (va_up f 1 (T (m + h))) 1 ((T (m + h)).natAbs : Int)) 1 r2) 5 s2)) (6 + 7 * 4 + m) = (((T (m + h)).natAbs / dh : Nat) : Int) := (bk_at _ _ _ _ (by omega)).trans (if_pos rfl)
                  rw [← e]; exact (hN_113 (6 + 7 * 4 + m) (by omega))
                refine v_callS E (As := [.ref (ad (6 + 7 * 4 + m))]) (m_negate κ H_106 hv_141) (lw_S q1944 q1945 q82 q1946) 1 (by decide +kernel) rfl (by decide) (by decide) (cb' := 0) (sb' := 0) (by decide) (by decide) rfl (rest := []) (Nat.le_of_ble_eq_true rfl) (fun q h => hAll q ⟨6 + 7 * 4 + m, by omega, h⟩) dX4_findFree_137 (fun v_142 H_143 hpost_144 hz_145 hk_146 => ?_)
                clear hz_145
                obtain ⟨rfl, hx_147⟩ := hpost_144
                have hN_148 := hN_113.set hI (i := (6 + 7 * 4 + m)) hx_147 hk_146
                have hM_149 := hM_111.kept hI (A := fun q => q = ad (6 + 7 * 4 + m)) (fun q h => ⟨6 + 7 * 4 + m, by omega, h⟩) hk_146
                have ho_150 := ho_112.far hI (by decide) (A := fun q => q = ad (6 + 7 * 4 + m)) (fun q h => ⟨6 + 7 * 4 + m, by omega, h⟩) hk_146
                have hN_151 : NS κ ad (bk (va_up (up24 Q T (va_up R m (((T (m + h)).natAbs / dh : Nat) : Int))) 4 (va_up ((up24 Q T (va_up R m (((T (m + h)).natAbs / dh : Nat) : Int))) 4) m (-(((T (m + h)).natAbs / dh : Nat) : Int)))) (va_up (va_up (va_up (va_up f 1 (T (m + h))) 1 ((T (m + h)).natAbs : Int)) 1 r2) 5 s2)) H_143 := hN_148.hi (by omega)
                have hN_152 : NS κ ad (bk (up24 Q T (va_up R m (-(((T (m + h)).natAbs / dh : Nat) : Int)))) (va_up (va_up (va_up (va_up f 1 (T (m + h))) 1 ((T (m + h)).natAbs : Int)) 1 r2) 5 s2)) H_143 := (by have h9 := hN_151; rw [up24_s4] at h9; rw [← va_up2 R m (((T (m + h)).natAbs / dh : Nat) : Int)]; exact h9)
                refine V.eq (st' := []) rfl ?_
                have hsg : T (m + h) < 0 := by rcases Int.lt_or_le (T (m + h)) 0 with q | q <;> first | exact q | (exfalso; first | (rw [if_pos q] at c_128; omega) | (rw [if_neg (by omega)] at c_128; exact c_128 rfl))
                have hqe : -(((T (m + h)).natAbs / dh : Nat) : Int) = (T (m + h)).tdiv (D h) := by rw [hdh]; exact (tdiv_neg hsg).symm
                have hN_153 : NS κ ad (bk (up24 Q T (va_up R m ((T (m + h)).tdiv (D h)))) (va_up (va_up (va_up (va_up f 1 (T (m + h))) 1 ((T (m + h)).natAbs : Int)) 1 r2) 5 s2)) H_143 := by rw [← hqe]; exact hN_152
                refine v_iconst E dX4_findFree_140 ?_
                refine v_istore E dX4_findFree_141 (zlt hL rfl) (lv' := [(5, vi 0), (4, vi (if T (m + h) < 0 then 1 else 0)), (3, vi (m : Int)), (2, vi (h : Int)), (1, .ref (ad (2000 + 6))), (0, .ref (ad 3002))]) rfl ?_
                have loop_143 : ∀ (m_143 : Nat) (H : Heap) (k : Nat) (f2 : Nat → Int), h + 1 - k < m_143 → (k ≤ h + 1) → hp κ H (ad 3002) (.inr (3, MF ad thr len many a1 a2 a3 a4)) → MS κ ad H → NS κ ad (bk (up24 Q (frK D T ((T (m + h)).tdiv (D h)) m k) (va_up R m ((T (m + h)).tdiv (D h)))) f2) H → V z H 0 0 143 [(5, vi (k : Int)), (3, vi (m : Int)), (2, vi (h : Int)), (1, .ref (ad (2000 + 6))), (0, .ref (ad 3002))] [] := by
                  intro m_143
                  induction m_143 with
                  | zero => intro H k f2 hm; exact absurd hm (by omega)
                  | succ m_143 ih_143 =>
                    intro H k f2 hm_143 hk ho hM hN
                    refine v_iload E 0 rfl dX4_findFree_143 ?_
                    refine v_iload_n E 2 rfl dX4_findFree_145 ?_
                    refine v_icmp_gt E (tgt := 193) dX4_findFree_146 (by decide) ⟨by omega, by omega⟩ ⟨by omega, by omega⟩ (fun c_146 => ?_) (fun c_146 => ?_)
                    · have hkh : k = h + 1 := by omega
                      have hN_154 : NS κ ad (bk (up24 Q (frT D h m T) (va_up R m ((T (m + h)).tdiv (D h)))) f2) H := by rw [← frK_h, ← hkh]; exact hN
                      refine v_iinc E 1 rfl dX4_findFree_193 (zlt hL rfl) (lv' := [(3, vi ((m : Int) + (-1))), (5, vi (k : Int)), (2, vi (h : Int)), (1, .ref (ad (2000 + 6))), (0, .ref (ad 3002))]) rfl ?_
                      refine v_goto E (tgt := 78) dX4_findFree_196 (by decide) ?_
                      refine V.sub [0, 2, 3, 4] (lv' := [(3, vi ((m : Int) + (-1))), (2, vi (h : Int)), (1, .ref (ad (2000 + 6))), (0, .ref (ad 3002))]) rfl ?_
                      exact ih_78  H m (frT D h m T) (va_up R m ((T (m + h)).tdiv (D h))) f2 (by omega) (by omega) hf.2 (fr_step hres) ho hM hN_154
                    · refine v_aload_n E 4 rfl dX4_findFree_149 ?_
                      refine v_getf E in_X4 ho (ci := 3) rfl 11 (by decide) q1771 rfl (v := .ref (ad (2000 + 3))) rfl dX4_findFree_150 ?_
                      refine v_iload E 0 rfl dX4_findFree_153 ?_
                      refine v_aaldS E dX4_findFree_155 (hM.1 3 (by decide)) (t := 3) (ty := (.array .int)) rfl rfl k rfl (by omega) (by omega) (b := (ad (6 + 7 * 3 + k))) rfl ?_
                      refine v_aload_n E 4 rfl dX4_findFree_156 ?_
                      refine v_getf E in_X4 ho (ci := 3) rfl 12 (by decide) q1772 rfl (v := .ref (ad (2000 + 4))) rfl dX4_findFree_157 ?_
                      refine v_iload_n E 1 rfl dX4_findFree_160 ?_
                      refine v_aaldS E dX4_findFree_161 (hM.1 4 (by decide)) (t := 3) (ty := (.array .int)) rfl rfl m rfl (by omega) (by omega) (b := (ad (6 + 7 * 4 + m))) rfl ?_
                      refine v_aload_n E 4 rfl dX4_findFree_162 ?_
                      refine v_getf E in_X4 ho (ci := 3) rfl 6 (by decide) q1766 rfl (v := .ref (ad 4)) rfl dX4_findFree_163 ?_
                      have hv_155 : hp κ H (ad (6 + 7 * 3 + k)) (eN κ (D k)) := by
                        have e : (bk (up24 Q (frK D T ((T (m + h)).tdiv (D h)) m k) (va_up R m ((T (m + h)).tdiv (D h)))) f2) (6 + 7 * 3 + k) = D k := (bk_at _ _ _ _ (by omega)).trans ((show Q 3 k = _ by rw [hQ3]))
                        rw [← e]; exact (hN (6 + 7 * 3 + k) (by omega))
                      have hv_156 : hp κ H (ad (6 + 7 * 4 + m)) (eN κ ((T (m + h)).tdiv (D h))) := by
                        have e : (bk (up24 Q (frK D T ((T (m + h)).tdiv (D h)) m k) (va_up R m ((T (m + h)).tdiv (D h)))) f2) (6 + 7 * 4 + m) = (T (m + h)).tdiv (D h) := (bk_at _ _ _ _ (by omega)).trans (if_pos rfl)
                        rw [← e]; exact (hN (6 + 7 * 4 + m) (by omega))
                      refine v_callS E (As := [.ref (ad (6 + 7 * 3 + k)), .ref (ad (6 + 7 * 4 + m)), .ref (ad 4)]) (m_multiply κ H (hI.ne (by omega)) (hI.ne (by omega)) hv_155 hv_156 (hN 4 (by omega))) (lw_S q1948 q1949 q82 q1950) 3 (by decide +kernel) rfl (by decide) (by decide) (cb' := 0) (sb' := 0) (by decide) (by decide) rfl (rest := []) (Nat.le_of_ble_eq_true rfl) (fun q h => hAll q ⟨4, by omega, h⟩) dX4_findFree_166 (fun v_157 H_158 hpost_159 hz_160 hk_161 => ?_)
                      clear hz_160
                      obtain ⟨rfl, hx_162⟩ := hpost_159
                      have hN_163 := hN.set hI (i := 4) hx_162 hk_161
                      have hM_164 := hM.kept hI (A := fun q => q = ad 4) (fun q h => ⟨4, by omega, h⟩) hk_161
                      have ho_165 := ho.far hI (by decide) (A := fun q => q = ad 4) (fun q h => ⟨4, by omega, h⟩) hk_161
                      have hN_166 : NS κ ad (bk (up24 Q (frK D T ((T (m + h)).tdiv (D h)) m k) (va_up R m ((T (m + h)).tdiv (D h)))) (va_up f2 4 (D k * (T (m + h)).tdiv (D h)))) H_158 := hN_163.lo (by decide)
                      refine V.eq (st' := []) rfl ?_
                      refine v_aload_n E 4 rfl dX4_findFree_169 ?_
                      refine v_getf E in_X4 ho_165 (ci := 3) rfl 10 (by decide) q1770 rfl (v := .ref (ad (2000 + 2))) rfl dX4_findFree_170 ?_
                      refine v_iload_n E 1 rfl dX4_findFree_173 ?_
                      refine v_iload E 0 rfl dX4_findFree_174 ?_
                      refine v_iadd E dX4_findFree_176 ?_
                      refine v_aaldS E dX4_findFree_177 (hM_164.1 2 (by decide)) (t := 3) (ty := (.array .int)) rfl rfl (m + k) (by omega) (by omega) (by omega) (b := (ad (6 + 7 * 2 + (m + k)))) rfl ?_
                      refine v_aload_n E 4 rfl dX4_findFree_178 ?_
                      refine v_getf E in_X4 ho_165 (ci := 3) rfl 6 (by decide) q1766 rfl (v := .ref (ad 4)) rfl dX4_findFree_179 ?_
                      refine v_bipush E ⟨by decide, by decide⟩ dX4_findFree_182 ?_
                      have hv_167 : hp κ H_158 (ad (6 + 7 * 2 + (m + k))) (eN κ (T (m + k))) := by
                        have e : (bk (up24 Q (frK D T ((T (m + h)).tdiv (D h)) m k) (va_up R m ((T (m + h)).tdiv (D h)))) (va_up f2 4 (D k * (T (m + h)).tdiv (D h)))) (6 + 7 * 2 + (m + k)) = T (m + k) := (bk_at _ _ _ _ (by omega)).trans (frK_at _ _ _ _ _)
                        rw [← e]; exact (hN_166 (6 + 7 * 2 + (m + k)) (by omega))
                      have hv_168 : hp κ H_158 (ad 4) (eN κ (D k * (T (m + h)).tdiv (D h))) := by
                        have e : (bk (up24 Q (frK D T ((T (m + h)).tdiv (D h)) m k) (va_up R m ((T (m + h)).tdiv (D h)))) (va_up f2 4 (D k * (T (m + h)).tdiv (D h)))) 4 = D k * (T (m + h)).tdiv (D h) := (bk_lo _ _ (by decide)).trans (rfl)
                        rw [← e]; exact (hN_166 4 (by omega))
                      refine v_callS E (As := [.ref (ad (6 + 7 * 2 + (m + k))), .ref (ad 4), vi 48]) (m_lessW κ H_158 (hI.ne (by omega)) hv_167 hv_168) (lw_S q1951 q1952 q82 q1953) 3 (by decide +kernel) rfl (by decide) (by decide) (cb' := 0) (sb' := 0) (by decide) (by decide) rfl (rest := []) (Nat.le_of_ble_eq_true rfl) (fun q h => hAll q ⟨6 + 7 * 2 + (m + k), by omega, h⟩) dX4_findFree_184 (fun v_169 H_170 hpost_171 hz_172 hk_173 => ?_)
                      clear hz_172
                      obtain ⟨rfl, hx_174⟩ := hpost_171
                      have hN_175 := hN_166.set hI (i := (6 + 7 * 2 + (m + k))) hx_174 hk_173
                      have hM_176 := hM_164.kept hI (A := fun q => q = ad (6 + 7 * 2 + (m + k))) (fun q h => ⟨6 + 7 * 2 + (m + k), by omega, h⟩) hk_173
                      have ho_177 := ho_165.far hI (by decide) (A := fun q => q = ad (6 + 7 * 2 + (m + k))) (fun q h => ⟨6 + 7 * 2 + (m + k), by omega, h⟩) hk_173
                      have hN_178 : NS κ ad (bk (va_up (up24 Q (frK D T ((T (m + h)).tdiv (D h)) m k) (va_up R m ((T (m + h)).tdiv (D h)))) 2 (va_up ((up24 Q (frK D T ((T (m + h)).tdiv (D h)) m k) (va_up R m ((T (m + h)).tdiv (D h)))) 2) (m + k) (T (m + k) - D k * (T (m + h)).tdiv (D h)))) (va_up f2 4 (D k * (T (m + h)).tdiv (D h)))) H_170 := hN_175.hi (by omega)
                      have hN_179 : NS κ ad (bk (up24 Q (frK D T ((T (m + h)).tdiv (D h)) m (k + 1)) (va_up R m ((T (m + h)).tdiv (D h)))) (va_up f2 4 (D k * (T (m + h)).tdiv (D h)))) H_170 := (by have h9 := hN_178; rw [up24_s2] at h9; rw [← frK_s]; exact h9)
                      refine V.eq (st' := []) rfl ?_
                      refine v_iinc E 0 rfl dX4_findFree_187 (zlt hL rfl) (lv' := [(5, vi ((k : Int) + 1)), (3, vi (m : Int)), (2, vi (h : Int)), (1, .ref (ad (2000 + 6))), (0, .ref (ad 3002))]) rfl ?_
                      refine v_goto E (tgt := 143) dX4_findFree_190 (by decide) ?_
                      exact ih_143  H_170 (k + 1) (va_up f2 4 (D k * (T (m + h)).tdiv (D h))) (by omega) (by omega) ho_177 hM_176 hN_179
                refine V.sub [0, 2, 3, 4, 5] (lv' := [(5, vi 0), (3, vi (m : Int)), (2, vi (h : Int)), (1, .ref (ad (2000 + 6))), (0, .ref (ad 3002))]) rfl ?_
                exact loop_143 (h + 1 + 1) H_143 0 (va_up (va_up (va_up (va_up f 1 (T (m + h))) 1 ((T (m + h)).natAbs : Int)) 1 r2) 5 s2) (by omega) (by omega) ho_150 hM_149 (by rw [frK_0]; exact hN_153)
        exact V.eqL (by rw [show pdeg (pprim (pget σ 6)) - (h : Int) = (N : Int) - 1 by omega]) (loop_78 (N + 1) H_56 N (pprim (pget σ 6)) R f1 (by omega) (by omega) hfr (fun k hk => by split; rfl; exact (frF_hi (n := N) (by omega)).trans (hR k (by omega)).symm) ho_61 hM_60 hN_62)
      · refine v_aload_n E 3 rfl dX4_findFree_52 ?_
        refine v_getf E in_X4 ho (ci := 3) rfl 12 (by decide) q1772 rfl (v := .ref (ad (2000 + 4))) rfl dX4_findFree_53 ?_
        refine v_iload_n E 0 rfl dX4_findFree_56 ?_
        refine v_aaldS E dX4_findFree_57 (hM.1 4 (by decide)) (t := 3) (ty := (.array .int)) rfl rfl k rfl (by omega) (by omega) (b := (ad (6 + 7 * 4 + k))) rfl ?_
        refine v_lconst E (x := 0) rfl dX4_findFree_58 ?_
        refine v_callS E (As := [.ref (ad (6 + 7 * 4 + k)), vj 0]) (m_set κ H ⟨by decide, by decide⟩ (hN (6 + 7 * 4 + k) (by omega))) (lw_S q1921 q1922 q82 q1923) 2 (by decide +kernel) rfl (by decide) (by decide) (cb' := 0) (sb' := 0) (by decide) (by decide) rfl (rest := []) (Nat.le_of_ble_eq_true rfl) (fun q h => hAll q ⟨6 + 7 * 4 + k, by omega, h⟩) dX4_findFree_59 (fun v_180 H_181 hpost_182 hz_183 hk_184 => ?_)
        clear hz_183
        obtain ⟨rfl, hx_185⟩ := hpost_182
        have hN_186 := hN.set hI (i := (6 + 7 * 4 + k)) hx_185 hk_184
        have hM_187 := hM.kept hI (A := fun q => q = ad (6 + 7 * 4 + k)) (fun q h => ⟨6 + 7 * 4 + k, by omega, h⟩) hk_184
        have ho_188 := ho.far hI (by decide) (A := fun q => q = ad (6 + 7 * 4 + k)) (fun q h => ⟨6 + 7 * 4 + k, by omega, h⟩) hk_184
        have hN_189 : NS κ ad (bk (va_up (up24 Q (pprim (pget σ 6)) R) 4 (va_up ((up24 Q (pprim (pget σ 6)) R) 4) k 0)) f1) H_181 := hN_186.hi (by omega)
        have hN_190 : NS κ ad (bk (up24 Q (pprim (pget σ 6)) (va_up R k 0)) f1) H_181 := (by have h9 := hN_189; rw [up24_s4] at h9; exact h9)
        refine V.eq (st' := []) rfl ?_
        refine v_iinc E 0 rfl dX4_findFree_62 (zlt hL rfl) (lv' := [(3, vi ((k : Int) + 1)), (2, vi (h : Int)), (1, .ref (ad (2000 + 6))), (0, .ref (ad 3002))]) rfl ?_
        refine v_goto E (tgt := 46) dX4_findFree_65 (by decide) ?_
        exact ih_46  H_181 (k + 1) (va_up R k 0) (by omega) (by omega) (fun m hm => by unfold va_up; split; rfl; exact hR m (by omega)) ho_188 hM_187 hN_190
  refine V.sub [0, 1, 3, 2] (lv' := [(3, vi 0), (2, vi (h : Int)), (1, .ref (ad (2000 + 6))), (0, .ref (ad 3002))]) rfl ?_
  exact loop_46 (7 + 1) H_48 0 (pget σ 4) (by omega) (by omega) (fun m hm => by omega) ho_53 hM_52 hN_54
