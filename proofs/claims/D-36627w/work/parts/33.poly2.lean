set_option maxHeartbeats 400000 in
set_option maxRecDepth 100000 in
/-- polynomial j = its primitive part -/
theorem m_prim (κ : zK) (H0 : Heap) {ad : Nat → Nat} {σ : Nat → Int} {thr len many : Int} {a1 a2 a3 a4 : Nat} {j : Nat} (hj : j < 176) (hI : Inj ad) (hM : MS κ ad H0) (hN : NS κ ad σ H0) (ho : hp κ H0 (ad 3002) (.inr (3, MF ad thr len many a1 a2 a3 a4))) (hS : pS (pget σ j)) : Mt κ yX4_primitive cX4_primitive 4 (none) 3 68 0 0 H0 [.ref (ad 3002), .ref (ad (2000 + j))] (AN ad) (fun v H1 => v = none ∧ ∃ f, NS κ ad (pset (tmp σ f) j (pprim (pget σ j))) H1) := by
  refine Mt.of (by decide) (Nat.le_of_ble_eq_true rfl) ?_
  intro z E hE hH0 hA0 hL hini
  have hAll : ∀ q, (AN ad) q → zA z.A z.H0 q := fun q h => Or.inl (by rw [hA0]; exact h)
  have hNew : ∀ q, H0.size ≤ q → zA z.A z.H0 q := fun q h => Or.inr (by rw [hH0]; exact h)
  have E : zOK z cX4_primitive RX4 κ 3 68 (none) := E
  refine V.eqL (lv' := [(0, .ref (ad 3002)), (1, .ref (ad (2000 + j)))]) rfl ?_
  refine v_aload_n E 0 rfl dX4_primitive_0 ?_
  refine v_getf E in_X4 ho (ci := 3) rfl 2 (by decide) q1762 rfl (v := .ref (ad 0)) rfl dX4_primitive_1 ?_
  refine v_lconst E (x := 0) rfl dX4_primitive_4 ?_
  refine v_callS E (As := [.ref (ad 0), vj 0]) (m_set κ H0 ⟨by decide, by decide⟩ (hN 0 (by omega))) (lw_S q1921 q1922 q82 q1923) 2 (by decide +kernel) rfl (by decide) (by decide) (cb' := 0) (sb' := 0) (by decide) (by decide) rfl (rest := []) (Nat.le_of_ble_eq_true rfl) (fun q h => hAll q ⟨0, by omega, h⟩) dX4_primitive_5 (fun v_1 H_2 hpost_3 hz_4 hk_5 => ?_)
  clear hz_4
  obtain ⟨rfl, hx_6⟩ := hpost_3
  have hN_7 := hN.set hI (i := 0) hx_6 hk_5
  have hM_8 := hM.kept hI (A := fun q => q = ad 0) (fun q h => ⟨0, by omega, h⟩) hk_5
  have ho_9 := ho.far hI (by decide) (A := fun q => q = ad 0) (fun q h => ⟨0, by omega, h⟩) hk_5
  refine V.eq (st' := []) rfl ?_
  refine v_iconst E dX4_primitive_8 ?_
  refine v_istore_n E dX4_primitive_9 (zlt hL rfl) (lv' := [(2, vi 0), (0, .ref (ad 3002)), (1, .ref (ad (2000 + j)))]) rfl ?_
  have loop_10 : ∀ (m_10 : Nat) (H : Heap) (k : Nat) (f : Nat → Int), 7 - k < m_10 → (k ≤ 7) → (f 0 = (pg (pget σ j) k : Int)) → hp κ H (ad 3002) (.inr (3, MF ad thr len many a1 a2 a3 a4)) → MS κ ad H → NS κ ad (tmp σ f) H → V z H 0 0 10 [(2, vi (k : Int)), (1, .ref (ad (2000 + j))), (0, .ref (ad 3002))] [] := by
    intro m_10
    induction m_10 with
    | zero => intro H k f hm; exact absurd hm (by omega)
    | succ m_10 ih_10 =>
      intro H k f hm_10 hk hf ho hM hN
      refine v_iload_n E 0 rfl dX4_primitive_10 ?_
      refine v_bipush E ⟨by decide, by decide⟩ dX4_primitive_11 ?_
      refine v_icmp_ge E (tgt := 51) dX4_primitive_13 (by decide) ⟨by omega, by omega⟩ ⟨by omega, by omega⟩ (fun c_13 => ?_) (fun c_13 => ?_)
      · refine v_aload_n E 2 rfl dX4_primitive_51 ?_
        refine v_getf E in_X4 ho (ci := 3) rfl 2 (by decide) q1762 rfl (v := .ref (ad 0)) rfl dX4_primitive_52 ?_
        have hk7 : k = 7 := by omega
        subst hk7
        have hv_10 : hp κ H (ad 0) (eN κ (pcont (pget σ j) : Int)) := by
          have e : (tmp σ f) 0 = (pcont (pget σ j) : Int) := (show f 0 = _ from hf)
          rw [← e]; exact (hN 0 (by omega))
        refine v_callS E (As := [.ref (ad 0)]) (m_bits κ H (rU_nat (sN_pg hS 7 (by decide))) hv_10) (lw_S q1979 q1980 q82 q1981) 1 (by decide +kernel) rfl (by decide) (by decide) (cb' := 0) (sb' := 0) (by decide) (by decide) rfl (rest := []) (Nat.le_of_ble_eq_true rfl) (fun q h => h.elim) dX4_primitive_55 (fun v_11 H_12 hpost_13 hz_14 hk_15 => ?_)
        clear hz_14
        obtain ⟨n, rfl, hn1536, hn⟩ := hpost_13
        have hM_16 := hM.kept hI (A := fun _ => False) (fun q h => h.elim) hk_15
        have ho_17 := ho.far hI (by decide) (A := fun _ => False) (fun q h => h.elim) hk_15
        have hN_18 := hN.kept0 hk_15
        refine V.eq (st' := [vi (n : Int)]) rfl ?_
        refine v_iconst E dX4_primitive_58 ?_
        refine v_icmp_ge E (tgt := 63) dX4_primitive_59 (by decide) ⟨by omega, by omega⟩ ⟨by omega, by omega⟩ (fun c_59 => ?_) (fun c_59 => ?_)
        · have hg2 : ¬ pcont (pget σ j) < 2 := by have e : pcont (pget σ j) = pg (pget σ j) 7 := rfl; have h1 := hn.2 (by omega); have h2 := pw_mono (a := 1) (b := n - 1) (by omega); simp at h2; omega
          refine v_iconst E dX4_primitive_63 ?_
          refine v_istore_n E dX4_primitive_64 (zlt hL rfl) (lv' := [(2, vi 0), (1, .ref (ad (2000 + j))), (0, .ref (ad 3002))]) rfl ?_
          have loop_65 : ∀ (m_65 : Nat) (H : Heap) (k : Nat) (f : Nat → Int), 7 - k < m_65 → (k ≤ 7) → (f 0 = (pcont (pget σ j) : Int)) → hp κ H (ad 3002) (.inr (3, MF ad thr len many a1 a2 a3 a4)) → MS κ ad H → NS κ ad (psk (tmp σ f) j (pprim (pget σ j)) k) H → V z H 0 0 65 [(2, vi (k : Int)), (1, .ref (ad (2000 + j))), (0, .ref (ad 3002))] [] := by
            intro m_65
            induction m_65 with
            | zero => intro H k f hm; exact absurd hm (by omega)
            | succ m_65 ih_65 =>
              intro H k f hm_65 hk hf ho hM hN
              refine v_iload_n E 0 rfl dX4_primitive_65 ?_
              refine v_bipush E ⟨by decide, by decide⟩ dX4_primitive_66 ?_
              refine v_icmp_ge E (tgt := 120) dX4_primitive_68 (by decide) ⟨by omega, by omega⟩ ⟨by omega, by omega⟩ (fun c_68 => ?_) (fun c_68 => ?_)
              · refine v_vret E hE dX4_primitive_120 ?_
                have hk7 : k = 7 := by omega
                subst hk7
                exact ⟨rfl, f, hN⟩
              · refine v_aload_n E 1 rfl dX4_primitive_71 ?_
                refine v_iload_n E 0 rfl dX4_primitive_72 ?_
                refine v_aaldS E dX4_primitive_73 (hM.1 j hj) (t := 3) (ty := (.array .int)) rfl rfl k rfl (by omega) (by omega) (b := (ad (6 + 7 * j + k))) rfl ?_
                have hxk : (psk (tmp σ f) j (pprim (pget σ j)) k) (6 + 7 * j + k) = pget σ j k := by rw [psk_ne _ _ _ _ (by omega)]; exact tmp_hi _ _ (by omega)
                have hdk : hp κ H (ad (6 + 7 * j + k)) (eN κ (pget σ j k)) := by rw [← hxk]; exact (hN (6 + 7 * j + k) (by omega))
                refine v_callS E (As := [.ref (ad (6 + 7 * j + k))]) (m_bare κ H (rN_abs (hS k (by omega))) hdk) (lw_S q1941 q1942 q82 q1943) 1 (by decide +kernel) rfl (by decide) (by decide) (cb' := 0) (sb' := 0) (by decide) (by decide) rfl (rest := []) (Nat.le_of_ble_eq_true rfl) (fun q h => hAll q ⟨6 + 7 * j + k, by omega, h⟩) dX4_primitive_74 (fun v_19 H_20 hpost_21 hz_22 hk_23 => ?_)
                clear hz_22
                obtain ⟨rfl, hx_24⟩ := hpost_21
                have hN_25 := hN.set hI (i := (6 + 7 * j + k)) hx_24 hk_23
                have hM_26 := hM.kept hI (A := fun q => q = ad (6 + 7 * j + k)) (fun q h => ⟨6 + 7 * j + k, by omega, h⟩) hk_23
                have ho_27 := ho.far hI (by decide) (A := fun q => q = ad (6 + 7 * j + k)) (fun q h => ⟨6 + 7 * j + k, by omega, h⟩) hk_23
                refine V.eq (st' := [vi (if pget σ j k < 0 then 1 else 0)]) rfl ?_
                refine v_istore_n E dX4_primitive_77 (zlt hL rfl) (lv' := [(3, vi (if pget σ j k < 0 then 1 else 0)), (2, vi (k : Int)), (1, .ref (ad (2000 + j))), (0, .ref (ad 3002))]) rfl ?_
                refine v_aload_n E 3 rfl dX4_primitive_78 ?_
                refine v_aload_n E 2 rfl dX4_primitive_79 ?_
                refine v_iload_n E 1 rfl dX4_primitive_80 ?_
                refine v_aaldS E dX4_primitive_81 (hM_26.1 j hj) (t := 3) (ty := (.array .int)) rfl rfl k rfl (by omega) (by omega) (b := (ad (6 + 7 * j + k))) rfl ?_
                refine v_aload_n E 3 rfl dX4_primitive_82 ?_
                refine v_getf E in_X4 ho_27 (ci := 3) rfl 2 (by decide) q1762 rfl (v := .ref (ad 0)) rfl dX4_primitive_83 ?_
                refine v_aload_n E 3 rfl dX4_primitive_86 ?_
                refine v_getf E in_X4 ho_27 (ci := 3) rfl 3 (by decide) q1763 rfl (v := .ref (ad 1)) rfl dX4_primitive_87 ?_
                have hv_28 : hp κ H_20 (ad 0) (eN κ (pcont (pget σ j) : Int)) := by
                  have e : (va_up (psk (tmp σ f) j (pprim (pget σ j)) k) (6 + 7 * j + k) ((pget σ j k).natAbs : Int)) 0 = (pcont (pget σ j) : Int) := by rw [← hf]; simp only [va_up, psk, tmp]; repeat (first | rw [if_pos (by omega)] | rw [if_neg (by omega)])
                  rw [← e]; exact (hN_25 0 (by omega))
                have hv_29 : hp κ H_20 (ad (6 + 7 * j + k)) (eN κ ((pget σ j k).natAbs : Int)) := by
                  have e : (va_up (psk (tmp σ f) j (pprim (pget σ j)) k) (6 + 7 * j + k) ((pget σ j k).natAbs : Int)) (6 + 7 * j + k) = ((pget σ j k).natAbs : Int) := (if_pos rfl)
                  rw [← e]; exact (hN_25 (6 + 7 * j + k) (by omega))
                refine v_callV E (As := [.ref (ad (6 + 7 * j + k)), .ref (ad 0), .ref (ad 1)]) (b := (ad 3002)) (ci := 3) (C := RX4) (T := TX4) (N := 27) ho_27 rfl (m_quotient κ H_20 (hI.ne (by omega)) (hI.ne (by omega)) (hI.ne (by omega)) (hI.ne (by decide)) (hI.ne (by decide)) (hI.ne (by decide)) (hI.ne (by omega)) (hI.ne (by decide)) (hI.ne (by decide)) (hS k (by omega)) (sN_pg hS 7 (by decide)) (by have := hg2; unfold pcont at this; omega) rfl ho_27 hv_29 hv_28 (hN_25 1 (by omega)) (hN_25 5 (by omega))) (lw_V q1983 q1985 qs54 q82 q1986) 3 (by decide +kernel) rfl (by decide) (by decide) (cb' := 0) (sb' := 0) (by decide) (by decide) rfl (rest := []) (Nat.le_of_ble_eq_true rfl) (fun q h => hAll q (h.elim (fun h => ⟨6 + 7 * j + k, by omega, h⟩) (fun h => h.elim (fun h => ⟨1, by decide, h⟩) (fun h => ⟨5, by decide, h⟩)))) dX4_primitive_90 (fun v_30 H_31 hpost_32 hz_33 hk_34 => ?_)
                clear hz_33
                obtain ⟨rfl, hqt, r1, s1, hqa, hqy⟩ := hpost_32
                have hN_35 := hN_25.set3 hI (i := (6 + 7 * j + k)) (k := 1) (m := 5) (by omega) hqa hqt hqy (fun q g h => hk_34 q g (fun h2 => h (h2.elim Or.inl (fun h3 => h3.elim (fun h4 => Or.inr (Or.inl h4)) (fun h4 => Or.inr (Or.inr h4))))))
                have hM_36 := hM_26.kept hI (A := fun q => q = ad (6 + 7 * j + k) ∨ q = ad 1 ∨ q = ad 5) (fun q h => h.elim (fun h => ⟨6 + 7 * j + k, by omega, h⟩) (fun h => h.elim (fun h => ⟨1, by decide, h⟩) (fun h => ⟨5, by decide, h⟩))) hk_34
                have ho_37 := ho_27.far hI (by decide) (A := fun q => q = ad (6 + 7 * j + k) ∨ q = ad 1 ∨ q = ad 5) (fun q h => h.elim (fun h => ⟨6 + 7 * j + k, by omega, h⟩) (fun h => h.elim (fun h => ⟨1, by decide, h⟩) (fun h => ⟨5, by decide, h⟩))) hk_34
                refine V.eq (st' := []) rfl ?_
                refine v_iload_n E 0 rfl dX4_primitive_93 ?_
                refine v_if_eq E (tgt := 104) dX4_primitive_94 (by decide) ⟨by split <;> omega, by split <;> omega⟩ (fun c_94 => ?_) (fun c_94 => ?_)
                · have hpos : 0 ≤ pget σ j k := by rcases Int.lt_or_le (pget σ j k) 0 with q | q; rw [if_pos q] at c_94; omega; exact q
                  refine v_aload_n E 3 rfl dX4_primitive_104 ?_
                  refine v_getf E in_X4 ho_37 (ci := 3) rfl 3 (by decide) q1763 rfl (v := .ref (ad 1)) rfl dX4_primitive_105 ?_
                  refine v_aload_n E 2 rfl dX4_primitive_108 ?_
                  refine v_iload_n E 1 rfl dX4_primitive_109 ?_
                  refine v_aaldS E dX4_primitive_110 (hM_36.1 j hj) (t := 3) (ty := (.array .int)) rfl rfl k rfl (by omega) (by omega) (b := (ad (6 + 7 * j + k))) rfl ?_
                  refine v_callS E (As := [.ref (ad 1), .ref (ad (6 + 7 * j + k))]) (m_copy κ H_31 (hI.ne (by omega)) (hN_35 1 (by omega)) (hN_35 (6 + 7 * j + k) (by omega))) (lw_S q1938 q1939 q82 q1940) 2 (by decide +kernel) rfl (by decide) (by decide) (cb' := 0) (sb' := 0) (by decide) (by decide) rfl (rest := []) (Nat.le_of_ble_eq_true rfl) (fun q h => hAll q ⟨6 + 7 * j + k, by omega, h⟩) dX4_primitive_111 (fun v_38 H_39 hpost_40 hz_41 hk_42 => ?_)
                  clear hz_41
                  obtain ⟨rfl, hx_43⟩ := hpost_40
                  have hN_44 := hN_35.set hI (i := (6 + 7 * j + k)) hx_43 hk_42
                  have hM_45 := hM_36.kept hI (A := fun q => q = ad (6 + 7 * j + k)) (fun q h => ⟨6 + 7 * j + k, by omega, h⟩) hk_42
                  have ho_46 := ho_37.far hI (by decide) (A := fun q => q = ad (6 + 7 * j + k)) (fun q h => ⟨6 + 7 * j + k, by omega, h⟩) hk_42
                  have hqk : (((pget σ j k).natAbs / pcont (pget σ j) : Nat) : Int) = pprim (pget σ j) k := by
                    unfold pprim
                    rw [if_neg (by omega)]
                    exact (tdiv_pos (by omega)).symm
                  have hN_47 : NS κ ad (psk (tmp σ (va_up (va_up f 1 (((pget σ j k).natAbs / pcont (pget σ j) : Nat) : Int)) 5 s1)) j (pprim (pget σ j)) (k + 1)) H_39 := by
                    rw [← prim_sig σ f _ j k (by omega) ((pget σ j k).natAbs : Int) r1 _ s1 hqk]
                    exact (hN_44).congr (fun m _ => rfl)
                  refine V.eq (st' := []) rfl ?_
                  refine v_iinc E 1 rfl dX4_primitive_114 (zlt hL rfl) (lv' := [(2, vi ((k : Int) + 1)), (3, vi (if pget σ j k < 0 then 1 else 0)), (1, .ref (ad (2000 + j))), (0, .ref (ad 3002))]) rfl ?_
                  refine v_goto E (tgt := 65) dX4_primitive_117 (by decide) ?_
                  refine V.sub [0, 2, 3] (lv' := [(2, vi ((k : Int) + 1)), (1, .ref (ad (2000 + j))), (0, .ref (ad 3002))]) rfl ?_
                  exact ih_65  H_39 (k + 1) _ (by omega) (by omega) (by exact hf) ho_46 hM_45 hN_47
                · have hneg : pget σ j k < 0 := by rcases Int.lt_or_le (pget σ j k) 0 with q | q; exact q; rw [if_neg (by omega)] at c_94; exact absurd rfl c_94
                  refine v_aload_n E 3 rfl dX4_primitive_97 ?_
                  refine v_getf E in_X4 ho_37 (ci := 3) rfl 3 (by decide) q1763 rfl (v := .ref (ad 1)) rfl dX4_primitive_98 ?_
                  refine v_callS E (As := [.ref (ad 1)]) (m_negate κ H_31 (hN_35 1 (by omega))) (lw_S q1944 q1945 q82 q1946) 1 (by decide +kernel) rfl (by decide) (by decide) (cb' := 0) (sb' := 0) (by decide) (by decide) rfl (rest := []) (Nat.le_of_ble_eq_true rfl) (fun q h => hAll q ⟨1, by omega, h⟩) dX4_primitive_101 (fun v_48 H_49 hpost_50 hz_51 hk_52 => ?_)
                  clear hz_51
                  obtain ⟨rfl, hx_53⟩ := hpost_50
                  have hN_54 := hN_35.set hI (i := 1) hx_53 hk_52
                  have hM_55 := hM_36.kept hI (A := fun q => q = ad 1) (fun q h => ⟨1, by omega, h⟩) hk_52
                  have ho_56 := ho_37.far hI (by decide) (A := fun q => q = ad 1) (fun q h => ⟨1, by omega, h⟩) hk_52
                  refine V.eq (st' := []) rfl ?_
                  refine v_aload_n E 3 rfl dX4_primitive_104 ?_
                  refine v_getf E in_X4 ho_56 (ci := 3) rfl 3 (by decide) q1763 rfl (v := .ref (ad 1)) rfl dX4_primitive_105 ?_
                  refine v_aload_n E 2 rfl dX4_primitive_108 ?_
                  refine v_iload_n E 1 rfl dX4_primitive_109 ?_
                  refine v_aaldS E dX4_primitive_110 (hM_55.1 j hj) (t := 3) (ty := (.array .int)) rfl rfl k rfl (by omega) (by omega) (b := (ad (6 + 7 * j + k))) rfl ?_
                  refine v_callS E (As := [.ref (ad 1), .ref (ad (6 + 7 * j + k))]) (m_copy κ H_49 (hI.ne (by omega)) (hN_54 1 (by omega)) (hN_54 (6 + 7 * j + k) (by omega))) (lw_S q1938 q1939 q82 q1940) 2 (by decide +kernel) rfl (by decide) (by decide) (cb' := 0) (sb' := 0) (by decide) (by decide) rfl (rest := []) (Nat.le_of_ble_eq_true rfl) (fun q h => hAll q ⟨6 + 7 * j + k, by omega, h⟩) dX4_primitive_111 (fun v_57 H_58 hpost_59 hz_60 hk_61 => ?_)
                  clear hz_60
                  obtain ⟨rfl, hx_62⟩ := hpost_59
                  have hN_63 := hN_54.set hI (i := (6 + 7 * j + k)) hx_62 hk_61
                  have hM_64 := hM_55.kept hI (A := fun q => q = ad (6 + 7 * j + k)) (fun q h => ⟨6 + 7 * j + k, by omega, h⟩) hk_61
                  have ho_65 := ho_56.far hI (by decide) (A := fun q => q = ad (6 + 7 * j + k)) (fun q h => ⟨6 + 7 * j + k, by omega, h⟩) hk_61
                  have hqk : -(((pget σ j k).natAbs / pcont (pget σ j) : Nat) : Int) = pprim (pget σ j) k := by
                    unfold pprim
                    rw [if_neg (by omega)]
                    exact (tdiv_neg (by omega)).symm
                  have hN_66 : NS κ ad (psk (tmp σ (va_up (va_up f 1 (-(((pget σ j k).natAbs / pcont (pget σ j) : Nat) : Int))) 5 s1)) j (pprim (pget σ j)) (k + 1)) H_58 := by
                    rw [← prim_sig σ f _ j k (by omega) ((pget σ j k).natAbs : Int) r1 _ s1 hqk]
                    exact (hN_63).congr (fun m _ => by rw [va_up15]; rfl)
                  refine V.eq (st' := []) rfl ?_
                  refine v_iinc E 1 rfl dX4_primitive_114 (zlt hL rfl) (lv' := [(2, vi ((k : Int) + 1)), (3, vi (if pget σ j k < 0 then 1 else 0)), (1, .ref (ad (2000 + j))), (0, .ref (ad 3002))]) rfl ?_
                  refine v_goto E (tgt := 65) dX4_primitive_117 (by decide) ?_
                  refine V.sub [0, 2, 3] (lv' := [(2, vi ((k : Int) + 1)), (1, .ref (ad (2000 + j))), (0, .ref (ad 3002))]) rfl ?_
                  exact ih_65  H_58 (k + 1) _ (by omega) (by omega) (by exact hf) ho_65 hM_64 hN_66
          exact loop_65 (7 + 1) H_12 0 f (by omega) (by omega) hf ho_17 hM_16 (by rw [psk_0]; exact hN_18)
        · refine v_vret E hE dX4_primitive_62 ?_
          refine ⟨rfl, f, ?_⟩
          have hg2 : pcont (pget σ j) < 2 := by have e : pcont (pget σ j) = pg (pget σ j) 7 := rfl; have := nat_lt' hn.1; have h2 : (2 : Nat) ^ n ≤ 2 ^ 1 := Nat.pow_le_pow_right (by decide) (by omega); omega
          exact (hN_18).congr (fun m _ => (prim_triv σ f j hg2 m).symm)
      · refine v_aload_n E 1 rfl dX4_primitive_16 ?_
        refine v_iload_n E 0 rfl dX4_primitive_17 ?_
        refine v_aaldS E dX4_primitive_18 (hM.1 j hj) (t := 3) (ty := (.array .int)) rfl rfl k rfl (by omega) (by omega) (b := (ad (6 + 7 * j + k))) rfl ?_
        refine v_aload_n E 2 rfl dX4_primitive_19 ?_
        refine v_getf E in_X4 ho (ci := 3) rfl 3 (by decide) q1763 rfl (v := .ref (ad 1)) rfl dX4_primitive_20 ?_
        refine v_callS E (As := [.ref (ad (6 + 7 * j + k)), .ref (ad 1)]) (m_copy κ H (hI.ne (by omega)) (hN (6 + 7 * j + k) (by omega)) (hN 1 (by omega))) (lw_S q1938 q1939 q82 q1940) 2 (by decide +kernel) rfl (by decide) (by decide) (cb' := 0) (sb' := 0) (by decide) (by decide) rfl (rest := []) (Nat.le_of_ble_eq_true rfl) (fun q h => hAll q ⟨1, by omega, h⟩) dX4_primitive_23 (fun v_67 H_68 hpost_69 hz_70 hk_71 => ?_)
        clear hz_70
        obtain ⟨rfl, hx_72⟩ := hpost_69
        have hN_73 := hN.set hI (i := 1) hx_72 hk_71
        have hM_74 := hM.kept hI (A := fun q => q = ad 1) (fun q h => ⟨1, by omega, h⟩) hk_71
        have ho_75 := ho.far hI (by decide) (A := fun q => q = ad 1) (fun q h => ⟨1, by omega, h⟩) hk_71
        refine V.eq (st' := []) rfl ?_
        refine v_aload_n E 2 rfl dX4_primitive_26 ?_
        refine v_getf E in_X4 ho_75 (ci := 3) rfl 3 (by decide) q1763 rfl (v := .ref (ad 1)) rfl dX4_primitive_27 ?_
        have hx1 : (va_up (tmp σ f) 1 ((tmp σ f) (6 + 7 * j + k))) 1 = pget σ j k := by show tmp σ f (6 + 7 * j + k) = _; exact tmp_hi _ _ (by omega)
        refine v_callS E (As := [.ref (ad 1)]) (m_bare κ H_68 (rN_abs (by rw [hx1]; exact hS k (by omega))) (hN_73 1 (by omega))) (lw_S q1941 q1942 q82 q1943) 1 (by decide +kernel) rfl (by decide) (by decide) (cb' := 0) (sb' := 0) (by decide) (by decide) rfl (rest := []) (Nat.le_of_ble_eq_true rfl) (fun q h => hAll q ⟨1, by omega, h⟩) dX4_primitive_30 (fun v_76 H_77 hpost_78 hz_79 hk_80 => ?_)
        clear hz_79
        obtain ⟨rfl, hx_81⟩ := hpost_78
        have hN_82 := hN_73.set hI (i := 1) hx_81 hk_80
        have hM_83 := hM_74.kept hI (A := fun q => q = ad 1) (fun q h => ⟨1, by omega, h⟩) hk_80
        have ho_84 := ho_75.far hI (by decide) (A := fun q => q = ad 1) (fun q h => ⟨1, by omega, h⟩) hk_80
        refine V.eq (st' := [vi (if (va_up (tmp σ f) 1 ((tmp σ f) (6 + 7 * j + k))) 1 < 0 then 1 else 0)]) rfl ?_
        refine v_pop E rfl dX4_primitive_33 ?_
        refine v_aload_n E 2 rfl dX4_primitive_34 ?_
        refine v_getf E in_X4 ho_84 (ci := 3) rfl 2 (by decide) q1762 rfl (v := .ref (ad 0)) rfl dX4_primitive_35 ?_
        refine v_aload_n E 2 rfl dX4_primitive_38 ?_
        refine v_getf E in_X4 ho_84 (ci := 3) rfl 3 (by decide) q1763 rfl (v := .ref (ad 1)) rfl dX4_primitive_39 ?_
        have hv_85 : hp κ H_77 (ad 0) (eN κ (pg (pget σ j) k : Int)) := by
          have e : (va_up (va_up (tmp σ f) 1 ((tmp σ f) (6 + 7 * j + k))) 1 (((va_up (tmp σ f) 1 ((tmp σ f) (6 + 7 * j + k))) 1).natAbs : Int)) 0 = (pg (pget σ j) k : Int) := by rw [← hf]; simp only [va_up, psk, tmp]; repeat (first | rw [if_pos (by omega)] | rw [if_neg (by omega)])
          rw [← e]; exact (hN_82 0 (by omega))
        have hv_86 : hp κ H_77 (ad 1) (eN κ ((pget σ j k).natAbs : Int)) := by
          have e : (va_up (va_up (tmp σ f) 1 ((tmp σ f) (6 + 7 * j + k))) 1 (((va_up (tmp σ f) 1 ((tmp σ f) (6 + 7 * j + k))) 1).natAbs : Int)) 1 = ((pget σ j k).natAbs : Int) := by rw [← hx1]; exact (if_pos rfl)
          rw [← e]; exact (hN_82 1 (by omega))
        refine v_callS E (As := [.ref (ad 0), .ref (ad 1)]) (m_divisor κ H_77 (hI.ne (by decide)) (sN_pg hS k (by omega)) (hS k (by omega)) hv_85 hv_86) (lw_S q1958 q1959 q82 q1960) 2 (by decide +kernel) rfl (by decide) (by decide) (cb' := 0) (sb' := 0) (by decide) (by decide) rfl (rest := []) (Nat.le_of_ble_eq_true rfl) (fun q h => hAll q (h.elim (fun h => ⟨0, by decide, h⟩) (fun h => ⟨1, by decide, h⟩))) dX4_primitive_42 (fun v_87 H_88 hpost_89 hz_90 hk_91 => ?_)
        clear hz_90
        obtain ⟨rfl, hx0, y1, hx1b⟩ := hpost_89
        have hN_92 := hN_82.set2 hI (i := 0) (k := 1) (by decide) hx0 hx1b hk_91
        have hM_93 := hM_83.kept hI (A := fun q => q = ad 0 ∨ q = ad 1) (fun q h => h.elim (fun h => ⟨0, by decide, h⟩) (fun h => ⟨1, by decide, h⟩)) hk_91
        have ho_94 := ho_84.far hI (by decide) (A := fun q => q = ad 0 ∨ q = ad 1) (fun q h => h.elim (fun h => ⟨0, by decide, h⟩) (fun h => ⟨1, by decide, h⟩)) hk_91
        have hN_95 : NS κ ad (tmp σ (va_up (va_up f 0 (pg (pget σ j) (k + 1) : Int)) 1 y1)) H_88 := (hN_92).congr (fun m _ => div_sig _ _ _ _ _ _ m)
        refine V.eq (st' := []) rfl ?_
        refine v_iinc E 0 rfl dX4_primitive_45 (zlt hL rfl) (lv' := [(2, vi ((k : Int) + 1)), (1, .ref (ad (2000 + j))), (0, .ref (ad 3002))]) rfl ?_
        refine v_goto E (tgt := 10) dX4_primitive_48 (by decide) ?_
        exact ih_10  H_88 (k + 1) _ (by omega) (by omega) rfl ho_94 hM_93 hN_95
  refine V.sub [0, 2, 1] (lv' := [(2, vi 0), (1, .ref (ad (2000 + j))), (0, .ref (ad 3002))]) rfl ?_
  exact loop_10 (7 + 1) H_2 0 (va_up σ 0 0) (by omega) (by omega) rfl ho_9 hM_8 (by rw [← tmp_up _ _ _ (by decide), tmp_self]; exact hN_7)

set_option maxHeartbeats 400000 in
set_option maxRecDepth 100000 in
/-- polynomial j with a positive head -/
theorem m_ppos (κ : zK) (H0 : Heap) {ad : Nat → Nat} {σ : Nat → Int} {o j : Nat} (hj : j < 176) (hI : Inj ad) (hM : MS κ ad H0) (hN : NS κ ad σ H0) (hR : pN (pget σ j)) : Mt κ yX4_positive cX4_positive 3 (none) 2 44 0 0 H0 [.ref o, .ref (ad (2000 + j))] (AN ad) (fun v H1 => v = none ∧ NS κ ad (pset σ j (ppos (pget σ j))) H1) := by
  refine Mt.of (by decide) (Nat.le_of_ble_eq_true rfl) ?_
  intro z E hE hH0 hA0 hL hini
  have hAll : ∀ q, (AN ad) q → zA z.A z.H0 q := fun q h => Or.inl (by rw [hA0]; exact h)
  have hNew : ∀ q, H0.size ≤ q → zA z.A z.H0 q := fun q h => Or.inr (by rw [hH0]; exact h)
  have E : zOK z cX4_positive RX4 κ 2 44 (none) := E
  refine V.eqL (lv' := [(0, .ref o), (1, .ref (ad (2000 + j)))]) rfl ?_
  refine v_aload_n E 1 rfl dX4_positive_0 ?_
  refine v_callS E (As := [.ref (ad (2000 + j))]) (m_pdeg κ H0 hj hI hM hN hR) (lw_S q1928 q1929 q82 q1930) 1 (by decide +kernel) rfl (by decide) (by decide) (cb' := 0) (sb' := 0) (by decide) (by decide) rfl (rest := []) (Nat.le_of_ble_eq_true rfl) (fun q h => h.elim) dX4_positive_1 (fun v_1 H_2 hpost_3 hz_4 hk_5 => ?_)
  clear hz_4
  obtain rfl := hpost_3
  have hM_6 := hM.kept hI (A := fun _ => False) (fun q h => h.elim) hk_5
  have hN_7 := hN.kept0 hk_5
  have hdi := pdeg_in (pget σ j)
  refine V.eq (st' := [vi (pdeg (pget σ j))]) rfl ?_
  refine v_istore_n E dX4_positive_4 (zlt hL rfl) (lv' := [(2, vi (pdeg (pget σ j))), (0, .ref o), (1, .ref (ad (2000 + j)))]) rfl ?_
  refine v_iload_n E 0 rfl dX4_positive_5 ?_
  refine v_if_lt E (tgt := 22) dX4_positive_6 (by decide) ⟨by omega, by omega⟩ (fun c_6 => ?_) (fun c_6 => ?_)
  · refine v_vret E hE dX4_positive_22 ?_
    refine ⟨rfl, (hN_7).congr (fun m _ => ?_)⟩
    first
      | exact pos_deg (by omega) m
      | exact pos_pos hg (by have := rsign3 (pget σ j g); have h2 := @Int.sign_eq_neg_one_iff_neg (pget σ j g); omega) m
  · obtain ⟨g, hg⟩ := Int.eq_ofNat_of_zero_le (show 0 ≤ pdeg (pget σ j) by omega)
    refine v_aload_n E 2 rfl dX4_positive_9 ?_
    refine v_iload_n E 0 rfl dX4_positive_10 ?_
    refine v_aaldS E dX4_positive_11 (hM_6.1 j hj) (t := 3) (ty := (.array .int)) rfl rfl g hg (by omega) (by omega) (b := (ad (6 + 7 * j + g))) rfl ?_
    refine v_callS E (As := [.ref (ad (6 + 7 * j + g))]) (m_sign κ H_2 (hR g (by omega)) (hN_7 (6 + 7 * j + g) (by omega))) (lw_S q1931 q1932 q82 q1933) 1 (by decide +kernel) rfl (by decide) (by decide) (cb' := 0) (sb' := 0) (by decide) (by decide) rfl (rest := []) (Nat.le_of_ble_eq_true rfl) (fun q h => h.elim) dX4_positive_12 (fun v_8 H_9 hpost_10 hz_11 hk_12 => ?_)
    clear hz_11
    obtain rfl := hpost_10
    have hM_13 := hM_6.kept hI (A := fun _ => False) (fun q h => h.elim) hk_12
    have hN_14 := hN_7.kept0 hk_12
    have hsr := rsign (pget σ j g)
    refine V.eq (st' := [vi ((pget σ j g).sign)]) rfl ?_
    refine v_if_ge E (tgt := 22) dX4_positive_15 (by decide) ⟨by omega, by omega⟩ (fun c_15 => ?_) (fun c_15 => ?_)
    · refine v_vret E hE dX4_positive_22 ?_
      refine ⟨rfl, (hN_14).congr (fun m _ => ?_)⟩
      first
        | exact pos_deg (by omega) m
        | exact pos_pos hg (by have := rsign3 (pget σ j g); have h2 := @Int.sign_eq_neg_one_iff_neg (pget σ j g); omega) m
    · refine v_aload_n E 2 rfl dX4_positive_18 ?_
      refine v_callS E (As := [.ref (ad (2000 + j))]) (m_pneg κ H_9 hj hI hM_13 hN_14) (lw_S q1991 q1992 q82 q1993) 1 (by decide +kernel) rfl (by decide) (by decide) (cb' := 0) (sb' := 0) (by decide) (by decide) rfl (rest := []) (Nat.le_of_ble_eq_true rfl) hAll dX4_positive_19 (fun v_15 H_16 hpost_17 hz_18 hk_19 => ?_)
      clear hz_18
      obtain ⟨rfl, hN_20⟩ := hpost_17
      have hM_21 := hM_13.kept hI (A := AN ad) (fun q h => h) hk_19
      refine V.eq (st' := []) rfl ?_
      refine v_vret E hE dX4_positive_22 ?_
      refine ⟨rfl, (hN_20).congr (fun m _ => ?_)⟩
      have hlt : pget σ j g < 0 := Int.sign_eq_neg_one_iff_neg.mp (by have := rsign3 (pget σ j g); omega)
      exact pos_neg hg hlt m
