set_option maxHeartbeats 400000 in
set_option maxRecDepth 100000 in
/-- common = the divisor of one and other -/
theorem m_findCommon (κ : zK) (H0 : Heap) {ad : Nat → Nat} {σ : Nat → Int} {thr len many : Int} {a1 a2 a3 a4 : Nat} (hI : Inj ad) (hM : MS κ ad H0) (hN : NS κ ad σ H0) (ho : hp κ H0 (ad 3002) (.inr (3, MF ad thr len many a1 a2 a3 a4))) (hS0 : pS (pget σ 0)) (hS1 : pS (pget σ 1)) (hfit : fitG (pget σ 0) (pget σ 1)) : Mt κ yX4_findCommon cX4_findCommon 4 (none) 5 116 0 0 H0 [.ref (ad 3002)] (AN ad) (fun v H1 => v = none ∧ ∃ p q f, NS κ ad (pset (two σ 0 1 p q f) 3 (comR (pget σ 0) (pget σ 1))) H1) := by
  refine Mt.of (by decide) (Nat.le_of_ble_eq_true rfl) ?_
  intro z E hE hH0 hA0 hL hini
  have hAll : ∀ q, (AN ad) q → zA z.A z.H0 q := fun q h => Or.inl (by rw [hA0]; exact h)
  have hNew : ∀ q, H0.size ≤ q → zA z.A z.H0 q := fun q h => Or.inr (by rw [hH0]; exact h)
  have E : zOK z cX4_findCommon RX4 κ 5 116 (none) := E
  refine V.eqL (lv' := [(0, .ref (ad 3002))]) rfl ?_
  refine v_aload_n E 0 rfl dX4_findCommon_0 ?_
  refine v_getf E in_X4 ho (ci := 3) rfl 8 (by decide) q1768 rfl (v := .ref (ad (2000 + 0))) rfl dX4_findCommon_1 ?_
  refine v_callS E (As := [.ref (ad (2000 + 0))]) (m_pdeg κ H0 (j := 0) (by decide) hI hM hN (pS.N hS0)) (lw_S q1928 q1929 q82 q1930) 1 (by decide +kernel) rfl (by decide) (by decide) (cb' := 0) (sb' := 0) (by decide) (by decide) rfl (rest := []) (Nat.le_of_ble_eq_true rfl) (fun q h => h.elim) dX4_findCommon_4 (fun v_1 H_2 hpost_3 hz_4 hk_5 => ?_)
  clear hz_4
  obtain rfl := hpost_3
  have hM_6 := hM.kept hI (A := fun _ => False) (fun q h => h.elim) hk_5
  have ho_7 := ho.far hI (by decide) (A := fun _ => False) (fun q h => h.elim) hk_5
  have hN_8 := hN.kept0 hk_5
  refine V.eq (st' := [vi (pdeg (pget σ 0))]) (rfl) ?_
  refine v_aload_n E 0 rfl dX4_findCommon_7 ?_
  refine v_getf E in_X4 ho_7 (ci := 3) rfl 9 (by decide) q1769 rfl (v := .ref (ad (2000 + 1))) rfl dX4_findCommon_8 ?_
  refine v_callS E (As := [.ref (ad (2000 + 1))]) (m_pdeg κ H_2 (j := 1) (by decide) hI hM_6 hN_8 (pS.N hS1)) (lw_S q1928 q1929 q82 q1930) 1 (by decide +kernel) rfl (by decide) (by decide) (cb' := 0) (sb' := 0) (by decide) (by decide) rfl (rest := [vi (pdeg (pget σ 0))]) (Nat.le_of_ble_eq_true rfl) (fun q h => h.elim) dX4_findCommon_11 (fun v_9 H_10 hpost_11 hz_12 hk_13 => ?_)
  clear hz_12
  obtain rfl := hpost_11
  have hM_14 := hM_6.kept hI (A := fun _ => False) (fun q h => h.elim) hk_13
  have ho_15 := ho_7.far hI (by decide) (A := fun _ => False) (fun q h => h.elim) hk_13
  have hN_16 := hN_8.kept0 hk_13
  refine V.eq (st' := [vi (pdeg (pget σ 1)), vi (pdeg (pget σ 0))]) (rfl) ?_
  have hd0 := pdeg_in (pget σ 0)
  have hd1 := pdeg_in (pget σ 1)
  refine v_icmp_ge E (tgt := 24) dX4_findCommon_14 (by decide) ⟨by omega, by omega⟩ ⟨by omega, by omega⟩ (fun c_14 => ?_) (fun c_14 => ?_)
  · refine v_aload_n E 0 rfl dX4_findCommon_24 ?_
    refine v_getf E in_X4 ho_15 (ci := 3) rfl 8 (by decide) q1768 rfl (v := .ref (ad (2000 + 0))) rfl dX4_findCommon_25 ?_
    refine v_astore_n E dX4_findCommon_28 (zlt hL rfl) (lv' := [(1, .ref (ad (2000 + 0))), (0, .ref (ad 3002))]) rfl ?_
    refine v_aload_n E 0 rfl dX4_findCommon_29 ?_
    refine v_aload_n E 1 rfl dX4_findCommon_30 ?_
    refine v_getf E in_X4 ho_15 (ci := 3) rfl 8 (by decide) q1768 rfl (v := .ref (ad (2000 + 0))) rfl dX4_findCommon_31 ?_
    refine v_acmp_ne E (tgt := 44) dX4_findCommon_34 (by decide) (fun c_34 => absurd c_34 (by exact (fun q => q rfl))) (fun c_34 => ?_)
    refine v_aload_n E 1 rfl dX4_findCommon_37 ?_
    refine v_getf E in_X4 ho_15 (ci := 3) rfl 9 (by decide) q1769 rfl (v := .ref (ad (2000 + 1))) rfl dX4_findCommon_38 ?_
    refine v_goto E (tgt := 48) dX4_findCommon_41 (by decide) ?_
    refine v_astore_n E dX4_findCommon_48 (zlt hL rfl) (lv' := [(2, .ref (ad (2000 + 1))), (1, .ref (ad (2000 + 0))), (0, .ref (ad 3002))]) rfl ?_
    have loop_49 : ∀ (m_49 : Nat) (H : Heap) (n i j : Nat) (p q f : Nat → Int), n < m_49 → ((i = 0 ∧ j = 1) ∨ (i = 1 ∧ j = 0)) → (pdeg q < (n : Int)) → (pS p) → (pS q) → (fitC n p q) → (comR (pget σ 0) (pget σ 1) = ppos (pprim (comF n p q))) → hp κ H (ad 3002) (.inr (3, MF ad thr len many a1 a2 a3 a4)) → MS κ ad H → NS κ ad (two σ i j p q f) H → V z H 0 0 49 [(2, .ref (ad (2000 + j))), (1, .ref (ad (2000 + i))), (0, .ref (ad 3002))] [] := by
      intro m_49
      induction m_49 with
      | zero => intro H n i j p q f hm; exact absurd hm (by omega)
      | succ m_49 ih_49 =>
        intro H n i j p q f hm_49 hij hn hSp hSq hfit hres ho hM hN
        have hdq := pdeg_in q
        refine v_aload_n E 0 rfl dX4_findCommon_49 ?_
        refine v_callS E (As := [.ref (ad (2000 + j))]) (m_pdeg κ H (j := j) (by omega) hI hM hN (pS_congr two_j.symm hSq).N) (lw_S q1928 q1929 q82 q1930) 1 (by decide +kernel) rfl (by decide) (by decide) (cb' := 0) (sb' := 0) (by decide) (by decide) rfl (rest := []) (Nat.le_of_ble_eq_true rfl) (fun q h => h.elim) dX4_findCommon_50 (fun v_17 H_18 hpost_19 hz_20 hk_21 => ?_)
        clear hz_20
        obtain rfl := hpost_19
        have hM_22 := hM.kept hI (A := fun _ => False) (fun q h => h.elim) hk_21
        have ho_23 := ho.far hI (by decide) (A := fun _ => False) (fun q h => h.elim) hk_21
        have hN_24 := hN.kept0 hk_21
        refine V.eq (st' := [vi (pdeg q)]) (by rw [two_j.deg]; rfl) ?_
        refine v_if_lt E (tgt := 71) dX4_findCommon_53 (by decide) ⟨by omega, by omega⟩ (fun c_53 => ?_) (fun c_53 => ?_)
        · refine v_aload_n E 2 rfl dX4_findCommon_71 ?_
          refine v_aload_n E 1 rfl dX4_findCommon_72 ?_
          have hne : i ≠ j := by omega
          refine v_callV E (As := [.ref (ad (2000 + i))]) (b := (ad 3002)) (ci := 3) (C := RX4) (T := TX4) (N := 27) ho_23 rfl (m_prim κ H_18 (by omega) hI hM_22 hN_24 ho_23 (pS_congr (two_i hne).symm hSp)) (lw_V q1954 q1956 qs53 q82 q1957) 1 (by decide +kernel) rfl (by decide) (by decide) (cb' := 0) (sb' := 0) (by decide) (by decide) rfl (rest := []) (Nat.le_of_ble_eq_true rfl) hAll dX4_findCommon_73 (fun v_25 H_26 hpost_27 hz_28 hk_29 => ?_)
          clear hz_28
          obtain ⟨rfl, f3, hN_30⟩ := hpost_27
          have hM_31 := hM_22.kept hI (A := AN ad) (fun q h => h) hk_29
          have ho_32 := ho_23.far hI (by decide) (A := AN ad) (fun q h => h) hk_29
          have hN_33 : NS κ ad (two σ i j (pprim p) q f3) H_26 := by rw [← two_set _ p _ _ _ hne, ← two_tmp σ p q f, ← pset_eq7 (two_i hne).prim]; exact hN_30
          refine V.eq (st' := []) rfl ?_
          refine v_aload_n E 2 rfl dX4_findCommon_76 ?_
          refine v_aload_n E 1 rfl dX4_findCommon_77 ?_
          refine v_callV E (As := [.ref (ad (2000 + i))]) (b := (ad 3002)) (ci := 3) (C := RX4) (T := TX4) (N := 27) ho_32 rfl (m_ppos κ H_26 (by omega) hI hM_31 hN_33 (pS_congr (two_i hne).symm hSp.prim).N) (lw_V q1987 q1989 qs55 q82 q1990) 1 (by decide +kernel) rfl (by decide) (by decide) (cb' := 0) (sb' := 0) (by decide) (by decide) rfl (rest := []) (Nat.le_of_ble_eq_true rfl) hAll dX4_findCommon_78 (fun v_34 H_35 hpost_36 hz_37 hk_38 => ?_)
          clear hz_37
          obtain ⟨rfl, hN_39⟩ := hpost_36
          have hM_40 := hM_31.kept hI (A := AN ad) (fun q h => h) hk_38
          have ho_41 := ho_32.far hI (by decide) (A := AN ad) (fun q h => h) hk_38
          have hN_42 : NS κ ad (two σ i j (ppos (pprim p)) q f3) H_35 := by rw [← two_set _ (pprim p) _ _ _ hne, ← pset_eq7 (ppos_congr (two_i hne))]; exact hN_39
          refine V.eq (st' := []) rfl ?_
          refine v_aload_n E 1 rfl dX4_findCommon_81 ?_
          refine v_aload_n E 2 rfl dX4_findCommon_82 ?_
          refine v_getf E in_X4 ho_41 (ci := 3) rfl 11 (by decide) q1771 rfl (v := .ref (ad (2000 + 3))) rfl dX4_findCommon_83 ?_
          refine v_callS E (As := [.ref (ad (2000 + i)), .ref (ad (2000 + 3))]) (m_pcopy κ H_35 (by omega) (by decide) (by omega) hI hM_40 hN_42) (lw_S q1994 q1995 q82 q1996) 2 (by decide +kernel) rfl (by decide) (by decide) (cb' := 0) (sb' := 0) (by decide) (by decide) rfl (rest := []) (Nat.le_of_ble_eq_true rfl) hAll dX4_findCommon_86 (fun v_43 H_44 hpost_45 hz_46 hk_47 => ?_)
          clear hz_46
          obtain ⟨rfl, hN_48⟩ := hpost_45
          have hM_49 := hM_40.kept hI (A := AN ad) (fun q h => h) hk_47
          have ho_50 := ho_41.far hI (by decide) (A := AN ad) (fun q h => h) hk_47
          have hN_51 : NS κ ad (pset (two σ i j (ppos (pprim p)) q f3) 3 (ppos (pprim p))) H_44 := by rw [← pset_eq7 (two_i hne)]; exact hN_48
          refine V.eq (st' := []) rfl ?_
          refine v_vret E hE dX4_findCommon_89 ?_
          obtain ⟨p2, q2, e⟩ := two_fin (σ := σ) (p := ppos (pprim p)) (q := q) (f := f3) (r := ppos (pprim p)) hij
          refine ⟨rfl, p2, q2, f3, ?_⟩
          rw [hres, comF_t (by omega), ← e]
          exact hN_51
        · obtain ⟨m, rfl⟩ : ∃ m, n = m + 1 := ⟨n - 1, by omega⟩
          have hf2 := hfit (by omega)
          obtain ⟨h, hh⟩ := Int.eq_ofNat_of_zero_le (show 0 ≤ pdeg q by omega)
          have hne : i ≠ j := by omega
          refine v_aload_n E 2 rfl dX4_findCommon_56 ?_
          refine v_aload_n E 1 rfl dX4_findCommon_57 ?_
          refine v_aload_n E 0 rfl dX4_findCommon_58 ?_
          refine v_callV E (As := [.ref (ad (2000 + i)), .ref (ad (2000 + j))]) (b := (ad 3002)) (ci := 3) (C := RX4) (T := TX4) (N := 27) ho_23 rfl (m_rem κ H_18 hne (by omega) (by omega) hI hM_22 hN_24 ho_23 (pS_congr (two_i hne).symm hSp).N (pS_congr two_j.symm hSq).N (two_j.deg.trans hh) (fitR_congr 7 (two_i hne).symm two_j.symm hf2.1)) (lw_V q1934 q1936 qs52 q82 q1937) 2 (by decide +kernel) rfl (by decide) (by decide) (cb' := 0) (sb' := 0) (by decide) (by decide) rfl (rest := []) (Nat.le_of_ble_eq_true rfl) hAll dX4_findCommon_59 (fun v_52 H_53 hpost_54 hz_55 hk_56 => ?_)
          clear hz_55
          obtain ⟨rfl, f3, hN_57⟩ := hpost_54
          have hM_58 := hM_22.kept hI (A := AN ad) (fun q h => h) hk_56
          have ho_59 := ho_23.far hI (by decide) (A := AN ad) (fun q h => h) hk_56
          have hN_60 : NS κ ad (two σ j i q (remF 7 p q) f3) H_53 := by rw [← two_comm _ _ _ _ hne, ← two_set _ p _ _ _ hne, ← two_tmp σ p q f, ← pset_eq7 (remF_congr 7 (two_i hne) two_j)]; exact hN_57
          refine V.eq (st' := []) rfl ?_
          refine v_aload_n E 1 rfl dX4_findCommon_62 ?_
          refine v_astore_n E dX4_findCommon_63 (zlt hL rfl) (lv' := [(3, .ref (ad (2000 + i))), (2, .ref (ad (2000 + j))), (1, .ref (ad (2000 + i))), (0, .ref (ad 3002))]) rfl ?_
          refine v_aload_n E 1 rfl dX4_findCommon_64 ?_
          refine v_astore_n E dX4_findCommon_65 (zlt hL rfl) (lv' := [(1, .ref (ad (2000 + j))), (3, .ref (ad (2000 + i))), (2, .ref (ad (2000 + j))), (0, .ref (ad 3002))]) rfl ?_
          refine v_aload_n E 1 rfl dX4_findCommon_66 ?_
          refine v_astore_n E dX4_findCommon_67 (zlt hL rfl) (lv' := [(2, .ref (ad (2000 + i))), (1, .ref (ad (2000 + j))), (3, .ref (ad (2000 + i))), (0, .ref (ad 3002))]) rfl ?_
          refine v_goto E (tgt := 49) dX4_findCommon_68 (by decide) ?_
          refine V.sub [0, 1, 3] (lv' := [(2, .ref (ad (2000 + i))), (1, .ref (ad (2000 + j))), (0, .ref (ad 3002))]) rfl ?_
          exact ih_49  H_53 m j i q (remF 7 p q) f3 (by omega) (by omega) (by have := remF_deg 7 (a := p) (b := q) (by omega) (pdeg_in p).2; omega) hSq (remF_pS 7 hSp hf2.1) hf2.2 (hres.trans (by rw [comF_s (by omega)])) ho_59 hM_58 hN_60
    exact loop_49 (8 + 1) H_10 8 0 1 (pget σ 0) (pget σ 1) σ (by omega) (by omega) (by have := pdeg_in (pget σ 1); omega) hS0 hS1 (by have h := hfit; unfold fitG at h; rw [if_neg (by omega)] at h; exact h) (by unfold comR; rw [if_neg (by omega)]) ho_15 hM_14 (by rw [two_self]; exact hN_16)
  · refine v_aload_n E 0 rfl dX4_findCommon_17 ?_
    refine v_getf E in_X4 ho_15 (ci := 3) rfl 9 (by decide) q1769 rfl (v := .ref (ad (2000 + 1))) rfl dX4_findCommon_18 ?_
    refine v_goto E (tgt := 28) dX4_findCommon_21 (by decide) ?_
    refine v_astore_n E dX4_findCommon_28 (zlt hL rfl) (lv' := [(1, .ref (ad (2000 + 1))), (0, .ref (ad 3002))]) rfl ?_
    refine v_aload_n E 0 rfl dX4_findCommon_29 ?_
    refine v_aload_n E 1 rfl dX4_findCommon_30 ?_
    refine v_getf E in_X4 ho_15 (ci := 3) rfl 8 (by decide) q1768 rfl (v := .ref (ad (2000 + 0))) rfl dX4_findCommon_31 ?_
    refine v_acmp_ne E (tgt := 44) dX4_findCommon_34 (by decide) (fun c_34 => ?_) (fun c_34 => absurd c_34 (by exact (hI.ne (by decide))))
    refine v_aload_n E 1 rfl dX4_findCommon_44 ?_
    refine v_getf E in_X4 ho_15 (ci := 3) rfl 8 (by decide) q1768 rfl (v := .ref (ad (2000 + 0))) rfl dX4_findCommon_45 ?_
    refine v_astore_n E dX4_findCommon_48 (zlt hL rfl) (lv' := [(2, .ref (ad (2000 + 0))), (1, .ref (ad (2000 + 1))), (0, .ref (ad 3002))]) rfl ?_
    have loop_49 : ∀ (m_49 : Nat) (H : Heap) (n i j : Nat) (p q f : Nat → Int), n < m_49 → ((i = 0 ∧ j = 1) ∨ (i = 1 ∧ j = 0)) → (pdeg q < (n : Int)) → (pS p) → (pS q) → (fitC n p q) → (comR (pget σ 0) (pget σ 1) = ppos (pprim (comF n p q))) → hp κ H (ad 3002) (.inr (3, MF ad thr len many a1 a2 a3 a4)) → MS κ ad H → NS κ ad (two σ i j p q f) H → V z H 0 0 49 [(2, .ref (ad (2000 + j))), (1, .ref (ad (2000 + i))), (0, .ref (ad 3002))] [] := by
      intro m_49
      induction m_49 with
      | zero => intro H n i j p q f hm; exact absurd hm (by omega)
      | succ m_49 ih_49 =>
        intro H n i j p q f hm_49 hij hn hSp hSq hfit hres ho hM hN
        have hdq := pdeg_in q
        refine v_aload_n E 0 rfl dX4_findCommon_49 ?_
        refine v_callS E (As := [.ref (ad (2000 + j))]) (m_pdeg κ H (j := j) (by omega) hI hM hN (pS_congr two_j.symm hSq).N) (lw_S q1928 q1929 q82 q1930) 1 (by decide +kernel) rfl (by decide) (by decide) (cb' := 0) (sb' := 0) (by decide) (by decide) rfl (rest := []) (Nat.le_of_ble_eq_true rfl) (fun q h => h.elim) dX4_findCommon_50 (fun v_61 H_62 hpost_63 hz_64 hk_65 => ?_)
        clear hz_64
        obtain rfl := hpost_63
        have hM_66 := hM.kept hI (A := fun _ => False) (fun q h => h.elim) hk_65
        have ho_67 := ho.far hI (by decide) (A := fun _ => False) (fun q h => h.elim) hk_65
        have hN_68 := hN.kept0 hk_65
        refine V.eq (st' := [vi (pdeg q)]) (by rw [two_j.deg]; rfl) ?_
        refine v_if_lt E (tgt := 71) dX4_findCommon_53 (by decide) ⟨by omega, by omega⟩ (fun c_53 => ?_) (fun c_53 => ?_)
        · refine v_aload_n E 2 rfl dX4_findCommon_71 ?_
          refine v_aload_n E 1 rfl dX4_findCommon_72 ?_
          have hne : i ≠ j := by omega
          refine v_callV E (As := [.ref (ad (2000 + i))]) (b := (ad 3002)) (ci := 3) (C := RX4) (T := TX4) (N := 27) ho_67 rfl (m_prim κ H_62 (by omega) hI hM_66 hN_68 ho_67 (pS_congr (two_i hne).symm hSp)) (lw_V q1954 q1956 qs53 q82 q1957) 1 (by decide +kernel) rfl (by decide) (by decide) (cb' := 0) (sb' := 0) (by decide) (by decide) rfl (rest := []) (Nat.le_of_ble_eq_true rfl) hAll dX4_findCommon_73 (fun v_69 H_70 hpost_71 hz_72 hk_73 => ?_)
          clear hz_72
          obtain ⟨rfl, f3, hN_74⟩ := hpost_71
          have hM_75 := hM_66.kept hI (A := AN ad) (fun q h => h) hk_73
          have ho_76 := ho_67.far hI (by decide) (A := AN ad) (fun q h => h) hk_73
          have hN_77 : NS κ ad (two σ i j (pprim p) q f3) H_70 := by rw [← two_set _ p _ _ _ hne, ← two_tmp σ p q f, ← pset_eq7 (two_i hne).prim]; exact hN_74
          refine V.eq (st' := []) rfl ?_
          refine v_aload_n E 2 rfl dX4_findCommon_76 ?_
          refine v_aload_n E 1 rfl dX4_findCommon_77 ?_
          refine v_callV E (As := [.ref (ad (2000 + i))]) (b := (ad 3002)) (ci := 3) (C := RX4) (T := TX4) (N := 27) ho_76 rfl (m_ppos κ H_70 (by omega) hI hM_75 hN_77 (pS_congr (two_i hne).symm hSp.prim).N) (lw_V q1987 q1989 qs55 q82 q1990) 1 (by decide +kernel) rfl (by decide) (by decide) (cb' := 0) (sb' := 0) (by decide) (by decide) rfl (rest := []) (Nat.le_of_ble_eq_true rfl) hAll dX4_findCommon_78 (fun v_78 H_79 hpost_80 hz_81 hk_82 => ?_)
          clear hz_81
          obtain ⟨rfl, hN_83⟩ := hpost_80
          have hM_84 := hM_75.kept hI (A := AN ad) (fun q h => h) hk_82
          have ho_85 := ho_76.far hI (by decide) (A := AN ad) (fun q h => h) hk_82
          have hN_86 : NS κ ad (two σ i j (ppos (pprim p)) q f3) H_79 := by rw [← two_set _ (pprim p) _ _ _ hne, ← pset_eq7 (ppos_congr (two_i hne))]; exact hN_83
          refine V.eq (st' := []) rfl ?_
          refine v_aload_n E 1 rfl dX4_findCommon_81 ?_
          refine v_aload_n E 2 rfl dX4_findCommon_82 ?_
          refine v_getf E in_X4 ho_85 (ci := 3) rfl 11 (by decide) q1771 rfl (v := .ref (ad (2000 + 3))) rfl dX4_findCommon_83 ?_
          refine v_callS E (As := [.ref (ad (2000 + i)), .ref (ad (2000 + 3))]) (m_pcopy κ H_79 (by omega) (by decide) (by omega) hI hM_84 hN_86) (lw_S q1994 q1995 q82 q1996) 2 (by decide +kernel) rfl (by decide) (by decide) (cb' := 0) (sb' := 0) (by decide) (by decide) rfl (rest := []) (Nat.le_of_ble_eq_true rfl) hAll dX4_findCommon_86 (fun v_87 H_88 hpost_89 hz_90 hk_91 => ?_)
          clear hz_90
          obtain ⟨rfl, hN_92⟩ := hpost_89
          have hM_93 := hM_84.kept hI (A := AN ad) (fun q h => h) hk_91
          have ho_94 := ho_85.far hI (by decide) (A := AN ad) (fun q h => h) hk_91
          have hN_95 : NS κ ad (pset (two σ i j (ppos (pprim p)) q f3) 3 (ppos (pprim p))) H_88 := by rw [← pset_eq7 (two_i hne)]; exact hN_92
          refine V.eq (st' := []) rfl ?_
          refine v_vret E hE dX4_findCommon_89 ?_
          obtain ⟨p2, q2, e⟩ := two_fin (σ := σ) (p := ppos (pprim p)) (q := q) (f := f3) (r := ppos (pprim p)) hij
          refine ⟨rfl, p2, q2, f3, ?_⟩
          rw [hres, comF_t (by omega), ← e]
          exact hN_95
        · obtain ⟨m, rfl⟩ : ∃ m, n = m + 1 := ⟨n - 1, by omega⟩
          have hf2 := hfit (by omega)
          obtain ⟨h, hh⟩ := Int.eq_ofNat_of_zero_le (show 0 ≤ pdeg q by omega)
          have hne : i ≠ j := by omega
          refine v_aload_n E 2 rfl dX4_findCommon_56 ?_
          refine v_aload_n E 1 rfl dX4_findCommon_57 ?_
          refine v_aload_n E 0 rfl dX4_findCommon_58 ?_
          refine v_callV E (As := [.ref (ad (2000 + i)), .ref (ad (2000 + j))]) (b := (ad 3002)) (ci := 3) (C := RX4) (T := TX4) (N := 27) ho_67 rfl (m_rem κ H_62 hne (by omega) (by omega) hI hM_66 hN_68 ho_67 (pS_congr (two_i hne).symm hSp).N (pS_congr two_j.symm hSq).N (two_j.deg.trans hh) (fitR_congr 7 (two_i hne).symm two_j.symm hf2.1)) (lw_V q1934 q1936 qs52 q82 q1937) 2 (by decide +kernel) rfl (by decide) (by decide) (cb' := 0) (sb' := 0) (by decide) (by decide) rfl (rest := []) (Nat.le_of_ble_eq_true rfl) hAll dX4_findCommon_59 (fun v_96 H_97 hpost_98 hz_99 hk_100 => ?_)
          clear hz_99
          obtain ⟨rfl, f3, hN_101⟩ := hpost_98
          have hM_102 := hM_66.kept hI (A := AN ad) (fun q h => h) hk_100
          have ho_103 := ho_67.far hI (by decide) (A := AN ad) (fun q h => h) hk_100
          have hN_104 : NS κ ad (two σ j i q (remF 7 p q) f3) H_97 := by rw [← two_comm _ _ _ _ hne, ← two_set _ p _ _ _ hne, ← two_tmp σ p q f, ← pset_eq7 (remF_congr 7 (two_i hne) two_j)]; exact hN_101
          refine V.eq (st' := []) rfl ?_
          refine v_aload_n E 1 rfl dX4_findCommon_62 ?_
          refine v_astore_n E dX4_findCommon_63 (zlt hL rfl) (lv' := [(3, .ref (ad (2000 + i))), (2, .ref (ad (2000 + j))), (1, .ref (ad (2000 + i))), (0, .ref (ad 3002))]) rfl ?_
          refine v_aload_n E 1 rfl dX4_findCommon_64 ?_
          refine v_astore_n E dX4_findCommon_65 (zlt hL rfl) (lv' := [(1, .ref (ad (2000 + j))), (3, .ref (ad (2000 + i))), (2, .ref (ad (2000 + j))), (0, .ref (ad 3002))]) rfl ?_
          refine v_aload_n E 1 rfl dX4_findCommon_66 ?_
          refine v_astore_n E dX4_findCommon_67 (zlt hL rfl) (lv' := [(2, .ref (ad (2000 + i))), (1, .ref (ad (2000 + j))), (3, .ref (ad (2000 + i))), (0, .ref (ad 3002))]) rfl ?_
          refine v_goto E (tgt := 49) dX4_findCommon_68 (by decide) ?_
          refine V.sub [0, 1, 3] (lv' := [(2, .ref (ad (2000 + i))), (1, .ref (ad (2000 + j))), (0, .ref (ad 3002))]) rfl ?_
          exact ih_49  H_97 m j i q (remF 7 p q) f3 (by omega) (by omega) (by have := remF_deg 7 (a := p) (b := q) (by omega) (pdeg_in p).2; omega) hSq (remF_pS 7 hSp hf2.1) hf2.2 (hres.trans (by rw [comF_s (by omega)])) ho_103 hM_102 hN_104
    exact loop_49 (8 + 1) H_10 8 1 0 (pget σ 1) (pget σ 0) σ (by omega) (by omega) (by have := pdeg_in (pget σ 0); omega) hS1 hS0 (by have h := hfit; unfold fitG at h; rw [if_pos (by omega)] at h; exact h) (by unfold comR; rw [if_pos (by omega)]) ho_15 hM_14 (by rw [two_self]; exact hN_16)
