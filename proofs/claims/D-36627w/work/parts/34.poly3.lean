set_option maxHeartbeats 400000 in
set_option maxRecDepth 100000 in
/-- polynomial i = what is left of it by polynomial j -/
theorem m_rem (κ : zK) (H0 : Heap) {ad : Nat → Nat} {σ : Nat → Int} {thr len many : Int} {a1 a2 a3 a4 : Nat} {i j h : Nat} (hij : i ≠ j) (hi : i < 176) (hj : j < 176) (hI : Inj ad) (hM : MS κ ad H0) (hN : NS κ ad σ H0) (ho : hp κ H0 (ad 3002) (.inr (3, MF ad thr len many a1 a2 a3 a4))) (hRa : pN (pget σ i)) (hRb : pN (pget σ j)) (hh : pdeg (pget σ j) = (h : Int)) (hfit : fitR 7 (pget σ i) (pget σ j)) : Mt κ yX4_remainder cX4_remainder 6 (none) 4 91 0 0 H0 [.ref (ad 3002), .ref (ad (2000 + i)), .ref (ad (2000 + j))] (AN ad) (fun v H1 => v = none ∧ ∃ f, NS κ ad (pset (tmp σ f) i (remF 7 (pget σ i) (pget σ j))) H1) := by
  refine Mt.of (by decide) (Nat.le_of_ble_eq_true rfl) ?_
  intro z E hE hH0 hA0 hL hini
  have hAll : ∀ q, (AN ad) q → zA z.A z.H0 q := fun q h => Or.inl (by rw [hA0]; exact h)
  have hNew : ∀ q, H0.size ≤ q → zA z.A z.H0 q := fun q h => Or.inr (by rw [hH0]; exact h)
  have E : zOK z cX4_remainder RX4 κ 4 91 (none) := E
  refine V.eqL (lv' := [(0, .ref (ad 3002)), (1, .ref (ad (2000 + i))), (2, .ref (ad (2000 + j)))]) rfl ?_
  have hh7 : h < 7 := by have := pdeg_in (pget σ j); omega
  refine v_aload_n E 2 rfl dX4_remainder_0 ?_
  refine v_callS E (As := [.ref (ad (2000 + j))]) (m_pdeg κ H0 hj hI hM hN hRb) (lw_S q1928 q1929 q82 q1930) 1 (by decide +kernel) rfl (by decide) (by decide) (cb' := 0) (sb' := 0) (by decide) (by decide) rfl (rest := []) (Nat.le_of_ble_eq_true rfl) (fun q h => h.elim) dX4_remainder_1 (fun v_1 H_2 hpost_3 hz_4 hk_5 => ?_)
  clear hz_4
  obtain rfl := hpost_3
  have hM_6 := hM.kept hI (A := fun _ => False) (fun q h => h.elim) hk_5
  have ho_7 := ho.far hI (by decide) (A := fun _ => False) (fun q h => h.elim) hk_5
  have hN_8 := hN.kept0 hk_5
  refine V.eq (st' := [vi (h : Int)]) (by rw [← hh]; rfl) ?_
  refine v_istore_n E dX4_remainder_4 (zlt hL rfl) (lv' := [(3, vi (h : Int)), (0, .ref (ad 3002)), (1, .ref (ad (2000 + i))), (2, .ref (ad (2000 + j)))]) rfl ?_
  refine v_aload_n E 2 rfl dX4_remainder_5 ?_
  refine v_callS E (As := [.ref (ad (2000 + i))]) (m_pdeg κ H_2 hi hI hM_6 hN_8 hRa) (lw_S q1928 q1929 q82 q1930) 1 (by decide +kernel) rfl (by decide) (by decide) (cb' := 0) (sb' := 0) (by decide) (by decide) rfl (rest := []) (Nat.le_of_ble_eq_true rfl) (fun q h => h.elim) dX4_remainder_6 (fun v_9 H_10 hpost_11 hz_12 hk_13 => ?_)
  clear hz_12
  obtain rfl := hpost_11
  have hM_14 := hM_6.kept hI (A := fun _ => False) (fun q h => h.elim) hk_13
  have ho_15 := ho_7.far hI (by decide) (A := fun _ => False) (fun q h => h.elim) hk_13
  have hN_16 := hN_8.kept0 hk_13
  refine V.eq (st' := [vi (pdeg (pget σ i))]) rfl ?_
  refine v_istore E dX4_remainder_9 (zlt hL rfl) (lv' := [(4, vi (pdeg (pget σ i))), (3, vi (h : Int)), (0, .ref (ad 3002)), (1, .ref (ad (2000 + i))), (2, .ref (ad (2000 + j)))]) rfl ?_
  have loop_11 : ∀ (m_11 : Nat) (H : Heap) (n : Nat) (p f : Nat → Int), n < m_11 → (pdeg p < (n : Int)) → (fitR n p (pget σ j)) → (remF 7 (pget σ i) (pget σ j) = remF n p (pget σ j)) → (pN p) → hp κ H (ad 3002) (.inr (3, MF ad thr len many a1 a2 a3 a4)) → MS κ ad H → NS κ ad (tmp (pset σ i p) f) H → V z H 0 0 11 [(4, vi (pdeg p)), (3, vi (h : Int)), (2, .ref (ad (2000 + j))), (1, .ref (ad (2000 + i))), (0, .ref (ad 3002))] [] := by
    intro m_11
    induction m_11 with
    | zero => intro H n p f hm; exact absurd hm (by omega)
    | succ m_11 ih_11 =>
      intro H n p f hm_11 hn hfit hres hRp ho hM hN
      have hdi := pdeg_in p
      refine v_iload E 0 rfl dX4_remainder_11 ?_
      refine v_iload_n E 1 rfl dX4_remainder_13 ?_
      refine v_icmp_lt E (tgt := 156) dX4_remainder_14 (by decide) ⟨by omega, by omega⟩ ⟨by omega, by omega⟩ (fun c_14 => ?_) (fun c_14 => ?_)
      · refine v_vret E hE dX4_remainder_156 ?_
        refine ⟨rfl, f, ?_⟩
        rw [hres, remF_t (by omega), ← tmp_pset]
        exact hN
      · obtain ⟨g, hg⟩ := Int.eq_ofNat_of_zero_le (show 0 ≤ pdeg p by omega)
        obtain ⟨m, rfl⟩ : ∃ m, n = m + 1 := ⟨n - 1, by omega⟩
        have hf2 := hfit (by omega)
        have hbh : pdeg (pget σ j) = (h : Int) := hh
        obtain ⟨wx, hwx⟩ : ∃ x : Int, x = (if pget σ j h < 0 then -p g else p g) := ⟨_, rfl⟩
        refine V.eqL (lv' := [(4, vi (g : Int)), (3, vi (h : Int)), (2, .ref (ad (2000 + j))), (1, .ref (ad (2000 + i))), (0, .ref (ad 3002))]) (by rw [hg]) ?_
        refine v_aload_n E 2 rfl dX4_remainder_17 ?_
        refine v_iload_n E 1 rfl dX4_remainder_18 ?_
        refine v_aaldS E dX4_remainder_19 (hM.1 j hj) (t := 3) (ty := (.array .int)) rfl rfl h rfl (by omega) (by omega) (b := (ad (6 + 7 * j + h))) rfl ?_
        refine v_aload_n E 4 rfl dX4_remainder_20 ?_
        refine v_getf E in_X4 ho (ci := 3) rfl 4 (by decide) q1764 rfl (v := .ref (ad 2)) rfl dX4_remainder_21 ?_
        have hv_17 : hp κ H (ad (6 + 7 * j + h)) (eN κ (pget σ j h)) := by
          have e : (tmp (pset σ i p) f) (6 + 7 * j + h) = pget σ j h := by rw [tmp_hi _ _ (by omega), pset_ne _ _ _ (by omega)]; rfl
          rw [← e]; exact (hN (6 + 7 * j + h) (by omega))
        refine v_callS E (As := [.ref (ad (6 + 7 * j + h)), .ref (ad 2)]) (m_copy κ H (hI.ne (by omega)) hv_17 (hN 2 (by omega))) (lw_S q1938 q1939 q82 q1940) 2 (by decide +kernel) rfl (by decide) (by decide) (cb' := 0) (sb' := 0) (by decide) (by decide) rfl (rest := []) (Nat.le_of_ble_eq_true rfl) (fun q h => hAll q ⟨2, by omega, h⟩) dX4_remainder_24 (fun v_18 H_19 hpost_20 hz_21 hk_22 => ?_)
        clear hz_21
        obtain ⟨rfl, hx_23⟩ := hpost_20
        have hN_24 := hN.set hI (i := 2) hx_23 hk_22
        have hM_25 := hM.kept hI (A := fun q => q = ad 2) (fun q h => ⟨2, by omega, h⟩) hk_22
        have ho_26 := ho.far hI (by decide) (A := fun q => q = ad 2) (fun q h => ⟨2, by omega, h⟩) hk_22
        have hN_27 : NS κ ad (tmp (pset σ i p) (va_up f 2 (pget σ j h))) H_19 := by rw [← tmp_up _ _ _ (by decide)]; exact hN_24
        refine V.eq (st' := []) rfl ?_
        refine v_aload_n E 3 rfl dX4_remainder_27 ?_
        refine v_iload E 0 rfl dX4_remainder_28 ?_
        refine v_aaldS E dX4_remainder_30 (hM_25.1 i hi) (t := 3) (ty := (.array .int)) rfl rfl g rfl (by omega) (by omega) (b := (ad (6 + 7 * i + g))) rfl ?_
        refine v_aload_n E 4 rfl dX4_remainder_31 ?_
        refine v_getf E in_X4 ho_26 (ci := 3) rfl 5 (by decide) q1765 rfl (v := .ref (ad 3)) rfl dX4_remainder_32 ?_
        have hv_28 : hp κ H_19 (ad (6 + 7 * i + g)) (eN κ (p g)) := by
          have e : (tmp (pset σ i p) (va_up f 2 (pget σ j h))) (6 + 7 * i + g) = p g := by rw [tmp_hi _ _ (by omega)]; exact pset_get _ _ _ (by omega)
          rw [← e]; exact (hN_27 (6 + 7 * i + g) (by omega))
        refine v_callS E (As := [.ref (ad (6 + 7 * i + g)), .ref (ad 3)]) (m_copy κ H_19 (hI.ne (by omega)) hv_28 (hN_27 3 (by omega))) (lw_S q1938 q1939 q82 q1940) 2 (by decide +kernel) rfl (by decide) (by decide) (cb' := 0) (sb' := 0) (by decide) (by decide) rfl (rest := []) (Nat.le_of_ble_eq_true rfl) (fun q h => hAll q ⟨3, by omega, h⟩) dX4_remainder_35 (fun v_29 H_30 hpost_31 hz_32 hk_33 => ?_)
        clear hz_32
        obtain ⟨rfl, hx_34⟩ := hpost_31
        have hN_35 := hN_27.set hI (i := 3) hx_34 hk_33
        have hM_36 := hM_25.kept hI (A := fun q => q = ad 3) (fun q h => ⟨3, by omega, h⟩) hk_33
        have ho_37 := ho_26.far hI (by decide) (A := fun q => q = ad 3) (fun q h => ⟨3, by omega, h⟩) hk_33
        have hN_38 : NS κ ad (tmp (pset σ i p) (va_up (va_up f 2 (pget σ j h)) 3 (p g))) H_30 := by rw [← tmp_up _ _ _ (by decide)]; exact hN_35
        refine V.eq (st' := []) rfl ?_
        refine v_aload_n E 4 rfl dX4_remainder_38 ?_
        refine v_getf E in_X4 ho_37 (ci := 3) rfl 4 (by decide) q1764 rfl (v := .ref (ad 2)) rfl dX4_remainder_39 ?_
        have hv_39 : hp κ H_30 (ad 2) (eN κ (pget σ j h)) := by
          have e : (tmp (pset σ i p) (va_up (va_up f 2 (pget σ j h)) 3 (p g))) 2 = pget σ j h := (by simp only [va_up, psk, tmp, pset]; repeat (first | rw [if_pos (by omega)] | rw [if_neg (by omega)] | rw [if_pos trivial]))
          rw [← e]; exact (hN_38 2 (by omega))
        refine v_callS E (As := [.ref (ad 2)]) (m_bare κ H_30 (hRb h (by omega)) hv_39) (lw_S q1941 q1942 q82 q1943) 1 (by decide +kernel) rfl (by decide) (by decide) (cb' := 0) (sb' := 0) (by decide) (by decide) rfl (rest := []) (Nat.le_of_ble_eq_true rfl) (fun q h => hAll q ⟨2, by omega, h⟩) dX4_remainder_42 (fun v_40 H_41 hpost_42 hz_43 hk_44 => ?_)
        clear hz_43
        obtain ⟨rfl, hx_45⟩ := hpost_42
        have hN_46 := hN_38.set hI (i := 2) hx_45 hk_44
        have hM_47 := hM_36.kept hI (A := fun q => q = ad 2) (fun q h => ⟨2, by omega, h⟩) hk_44
        have ho_48 := ho_37.far hI (by decide) (A := fun q => q = ad 2) (fun q h => ⟨2, by omega, h⟩) hk_44
        have hN_49 : NS κ ad (tmp (pset σ i p) (va_up (va_up (va_up f 2 (pget σ j h)) 3 (p g)) 2 ((pget σ j h).natAbs : Int))) H_41 := by rw [← tmp_up _ _ _ (by decide)]; exact hN_46
        refine V.eq (st' := [vi (if pget σ j h < 0 then 1 else 0)]) rfl ?_
        refine v_if_eq E (tgt := 55) dX4_remainder_45 (by decide) ⟨by split <;> omega, by split <;> omega⟩ (fun c_45 => ?_) (fun c_45 => ?_)
        · have hsgn : 0 ≤ pget σ j h := by rcases Int.lt_or_le (pget σ j h) 0 with q | q <;> first | exact q | (exfalso; first | (rw [if_pos q] at c_45; omega) | (rw [if_neg (by omega)] at c_45; exact c_45 rfl))
          have hN_50 : NS κ ad (tmp (pset σ i p) (fun c => if c = 2 then ((pget σ j h).natAbs : Int) else if c = 3 then wx else f c)) H_41 := (hN_49).congr (fun m _ => by
            unfold tmp va_up
            by_cases l : m < 6
            · simp only [l, if_true]
              by_cases e2 : m = 2
              · subst e2; simp
              · by_cases e3 : m = 3
                · subst e3; simp [hwx, show ¬ pget σ j h < 0 by omega]
                · simp [e2, e3]
            · simp [l])
          refine v_iconst E dX4_remainder_55 ?_
          refine v_istore E dX4_remainder_56 (zlt hL rfl) (lv' := [(5, vi 0), (4, vi (g : Int)), (3, vi (h : Int)), (2, .ref (ad (2000 + j))), (1, .ref (ad (2000 + i))), (0, .ref (ad 3002))]) rfl ?_
          have loop_58 : ∀ (m_58 : Nat) (H : Heap) (k : Nat) (f2 : Nat → Int), g + 1 - k < m_58 → (k ≤ g + 1) → (f2 2 = ((pget σ j h).natAbs : Int)) → (f2 3 = wx) → hp κ H (ad 3002) (.inr (3, MF ad thr len many a1 a2 a3 a4)) → MS κ ad H → NS κ ad (psk (tmp (pset σ i p) f2) i (rq p (pget σ j)) k) H → V z H 0 0 58 [(5, vi (k : Int)), (4, vi (g : Int)), (3, vi (h : Int)), (2, .ref (ad (2000 + j))), (1, .ref (ad (2000 + i))), (0, .ref (ad 3002))] [] := by
            intro m_58
            induction m_58 with
            | zero => intro H k f2 hm; exact absurd hm (by omega)
            | succ m_58 ih_58 =>
              intro H k f2 hm_58 hk hf2v hf3v ho hM hN
              refine v_iload E 0 rfl dX4_remainder_58 ?_
              refine v_iload E 1 rfl dX4_remainder_60 ?_
              refine v_icmp_gt E (tgt := 142) dX4_remainder_62 (by decide) ⟨by omega, by omega⟩ ⟨by omega, by omega⟩ (fun c_62 => ?_) (fun c_62 => ?_)
              · have hkg : k = g + 1 := by omega
                have hN_51 : NS κ ad (tmp (pset σ i (rq p (pget σ j))) f2) H := by
                  rw [← psk_pset (p := p) (n := k) (by omega) (fun k2 h1 h2 => by rw [rq_hi hg (by omega) h2]; exact (degU_hi p 7 k2 (by show pdeg p < _; omega) h2).symm)]; exact hN
                refine v_aload_n E 5 rfl dX4_remainder_142 ?_
                refine v_aload_n E 4 rfl dX4_remainder_143 ?_
                have hpq : ∀ k, k < 7 → pget (tmp (pset σ i (rq p (pget σ j))) f2) i k = (rq p (pget σ j)) k := fun k hk => (tmp_hi _ _ (by omega)).trans (pset_get _ _ _ hk)
                refine v_callV E (As := [.ref (ad (2000 + i))]) (b := (ad 3002)) (ci := 3) (C := RX4) (T := TX4) (N := 27) ho rfl (m_prim κ H hi hI hM hN_51 ho (fun k hk => by rw [hpq k hk]; exact hf2.1 k hk)) (lw_V q1954 q1956 qs53 q82 q1957) 1 (by decide +kernel) rfl (by decide) (by decide) (cb' := 0) (sb' := 0) (by decide) (by decide) rfl (rest := []) (Nat.le_of_ble_eq_true rfl) hAll dX4_remainder_144 (fun v_52 H_53 hpost_54 hz_55 hk_56 => ?_)
                clear hz_55
                obtain ⟨rfl, f3, hN_57⟩ := hpost_54
                have hM_58 := hM.kept hI (A := AN ad) (fun q h => h) hk_56
                have ho_59 := ho.far hI (by decide) (A := AN ad) (fun q h => h) hk_56
                have hN_60 : NS κ ad (tmp (pset σ i (pprim (rq p (pget σ j)))) f3) H_53 := by
                  rw [tmp_pset, ← pset_congr (fun k hk => pprim_congr hpq hk), ← pset_pset (tmp σ f3) (rq p (pget σ j)), ← tmp_pset σ f3, ← tmp_tmp _ f2]
                  exact hN_57
                refine V.eq (st' := []) rfl ?_
                refine v_aload_n E 4 rfl dX4_remainder_147 ?_
                have hpp : ∀ k, k < 7 → pget (tmp (pset σ i (pprim (rq p (pget σ j)))) f3) i k = pprim (rq p (pget σ j)) k := fun k hk => (tmp_hi _ _ (by omega)).trans (pset_get _ _ _ hk)
                refine v_callS E (As := [.ref (ad (2000 + i))]) (m_pdeg κ H_53 hi hI hM_58 hN_60 (pN_congr hf2.1.prim.N (fun k hk => (hpp k hk).symm))) (lw_S q1928 q1929 q82 q1930) 1 (by decide +kernel) rfl (by decide) (by decide) (cb' := 0) (sb' := 0) (by decide) (by decide) rfl (rest := []) (Nat.le_of_ble_eq_true rfl) (fun q h => h.elim) dX4_remainder_148 (fun v_61 H_62 hpost_63 hz_64 hk_65 => ?_)
                clear hz_64
                obtain rfl := hpost_63
                have hM_66 := hM_58.kept hI (A := fun _ => False) (fun q h => h.elim) hk_65
                have ho_67 := ho_59.far hI (by decide) (A := fun _ => False) (fun q h => h.elim) hk_65
                have hN_68 := hN_60.kept0 hk_65
                refine V.eq (st' := [vi (pdeg (pprim (rq p (pget σ j))))]) (by rw [pdeg_congr hpp]; rfl) ?_
                refine v_istore E dX4_remainder_151 (zlt hL rfl) (lv' := [(4, vi (pdeg (pprim (rq p (pget σ j))))), (5, vi (k : Int)), (3, vi (h : Int)), (2, .ref (ad (2000 + j))), (1, .ref (ad (2000 + i))), (0, .ref (ad 3002))]) rfl ?_
                refine v_goto E (tgt := 11) dX4_remainder_153 (by decide) ?_
                refine V.sub [0, 2, 3, 4, 5] (lv' := [(4, vi (pdeg (pprim (rq p (pget σ j))))), (3, vi (h : Int)), (2, .ref (ad (2000 + j))), (1, .ref (ad (2000 + i))), (0, .ref (ad 3002))]) rfl ?_
                exact ih_11  H_62 m (pprim (rq p (pget σ j))) f3 (by omega) (by have := rq_deg hg hh (by omega); omega) hf2.2 (hres.trans (remF_s (by omega))) hf2.1.prim.N ho_67 hM_66 hN_68
              · refine v_aload_n E 4 rfl dX4_remainder_65 ?_
                refine v_iload E 0 rfl dX4_remainder_66 ?_
                refine v_aaldS E dX4_remainder_68 (hM.1 i hi) (t := 3) (ty := (.array .int)) rfl rfl k rfl (by omega) (by omega) (b := (ad (6 + 7 * i + k))) rfl ?_
                refine v_aload_n E 5 rfl dX4_remainder_69 ?_
                refine v_getf E in_X4 ho (ci := 3) rfl 4 (by decide) q1764 rfl (v := .ref (ad 2)) rfl dX4_remainder_70 ?_
                refine v_aload_n E 5 rfl dX4_remainder_73 ?_
                refine v_getf E in_X4 ho (ci := 3) rfl 6 (by decide) q1766 rfl (v := .ref (ad 4)) rfl dX4_remainder_74 ?_
                have hv_69 : hp κ H (ad (6 + 7 * i + k)) (eN κ (p k)) := by
                  have e : (psk (tmp (pset σ i p) f2) i (rq p (pget σ j)) k) (6 + 7 * i + k) = p k := by rw [psk_ne _ _ _ _ (by omega), tmp_hi _ _ (by omega)]; exact pset_get _ _ _ (by omega)
                  rw [← e]; exact (hN (6 + 7 * i + k) (by omega))
                have hv_70 : hp κ H (ad 2) (eN κ ((pget σ j h).natAbs : Int)) := by
                  have e : (psk (tmp (pset σ i p) f2) i (rq p (pget σ j)) k) 2 = ((pget σ j h).natAbs : Int) := by rw [← hf2v]; simp only [va_up, psk, tmp, pset]; repeat (first | rw [if_pos (by omega)] | rw [if_neg (by omega)] | rw [if_pos trivial])
                  rw [← e]; exact (hN 2 (by omega))
                refine v_callS E (As := [.ref (ad (6 + 7 * i + k)), .ref (ad 2), .ref (ad 4)]) (m_multiply κ H (hI.ne (by omega)) (hI.ne (by decide)) hv_69 hv_70 (hN 4 (by omega))) (lw_S q1948 q1949 q82 q1950) 3 (by decide +kernel) rfl (by decide) (by decide) (cb' := 0) (sb' := 0) (by decide) (by decide) rfl (rest := []) (Nat.le_of_ble_eq_true rfl) (fun q h => hAll q ⟨4, by omega, h⟩) dX4_remainder_77 (fun v_71 H_72 hpost_73 hz_74 hk_75 => ?_)
                clear hz_74
                obtain ⟨rfl, hx_76⟩ := hpost_73
                have hN_77 := hN.set hI (i := 4) hx_76 hk_75
                have hM_78 := hM.kept hI (A := fun q => q = ad 4) (fun q h => ⟨4, by omega, h⟩) hk_75
                have ho_79 := ho.far hI (by decide) (A := fun q => q = ad 4) (fun q h => ⟨4, by omega, h⟩) hk_75
                have hN_80 : NS κ ad (psk (tmp (pset σ i p) (va_up f2 4 (p k * ((pget σ j h).natAbs : Int)))) i (rq p (pget σ j)) k) H_72 := by rw [← psk_up _ _ _ _ _ _ (by decide)]; exact hN_77
                refine V.eq (st' := []) rfl ?_
                refine v_aload_n E 5 rfl dX4_remainder_80 ?_
                refine v_getf E in_X4 ho_79 (ci := 3) rfl 6 (by decide) q1766 rfl (v := .ref (ad 4)) rfl dX4_remainder_81 ?_
                refine v_aload_n E 4 rfl dX4_remainder_84 ?_
                refine v_iload E 0 rfl dX4_remainder_85 ?_
                refine v_aaldS E dX4_remainder_87 (hM_78.1 i hi) (t := 3) (ty := (.array .int)) rfl rfl k rfl (by omega) (by omega) (b := (ad (6 + 7 * i + k))) rfl ?_
                have hv_81 : hp κ H_72 (ad 4) (eN κ (p k * ((pget σ j h).natAbs : Int))) := by
                  have e : (psk (tmp (pset σ i p) (va_up f2 4 (p k * ((pget σ j h).natAbs : Int)))) i (rq p (pget σ j)) k) 4 = p k * ((pget σ j h).natAbs : Int) := (by simp only [va_up, psk, tmp, pset]; repeat (first | rw [if_pos (by omega)] | rw [if_neg (by omega)] | rw [if_pos trivial]))
                  rw [← e]; exact (hN_80 4 (by omega))
                refine v_callS E (As := [.ref (ad 4), .ref (ad (6 + 7 * i + k))]) (m_copy κ H_72 (hI.ne (by omega)) hv_81 (hN_80 (6 + 7 * i + k) (by omega))) (lw_S q1938 q1939 q82 q1940) 2 (by decide +kernel) rfl (by decide) (by decide) (cb' := 0) (sb' := 0) (by decide) (by decide) rfl (rest := []) (Nat.le_of_ble_eq_true rfl) (fun q h => hAll q ⟨6 + 7 * i + k, by omega, h⟩) dX4_remainder_88 (fun v_82 H_83 hpost_84 hz_85 hk_86 => ?_)
                clear hz_85
                obtain ⟨rfl, hx_87⟩ := hpost_84
                have hN_88 := hN_80.set hI (i := (6 + 7 * i + k)) hx_87 hk_86
                have hM_89 := hM_78.kept hI (A := fun q => q = ad (6 + 7 * i + k)) (fun q h => ⟨6 + 7 * i + k, by omega, h⟩) hk_86
                have ho_90 := ho_79.far hI (by decide) (A := fun q => q = ad (6 + 7 * i + k)) (fun q h => ⟨6 + 7 * i + k, by omega, h⟩) hk_86
                refine V.eq (st' := []) rfl ?_
                refine v_iload E 0 rfl dX4_remainder_91 ?_
                refine v_iload E 1 rfl dX4_remainder_93 ?_
                refine v_iload_n E 2 rfl dX4_remainder_95 ?_
                refine v_isub E dX4_remainder_96 ?_
                refine v_icmp_ge E (tgt := 103) dX4_remainder_97 (by decide) ⟨by omega, by omega⟩ ⟨by omega, by omega⟩ (fun c_97 => ?_) (fun c_97 => ?_)
                · refine v_aload_n E 3 rfl dX4_remainder_103 ?_
                  refine v_iload E 0 rfl dX4_remainder_104 ?_
                  refine v_iload E 1 rfl dX4_remainder_106 ?_
                  refine v_isub E dX4_remainder_108 ?_
                  refine v_iload_n E 2 rfl dX4_remainder_109 ?_
                  refine v_iadd E dX4_remainder_110 ?_
                  refine v_aaldS E dX4_remainder_111 (hM_89.1 j hj) (t := 3) (ty := (.array .int)) rfl rfl (k - (g - h)) (by omega) (by omega) (by omega) (b := (ad (6 + 7 * j + (k - (g - h))))) rfl ?_
                  refine v_aload_n E 5 rfl dX4_remainder_112 ?_
                  refine v_getf E in_X4 ho_90 (ci := 3) rfl 5 (by decide) q1765 rfl (v := .ref (ad 3)) rfl dX4_remainder_113 ?_
                  refine v_aload_n E 5 rfl dX4_remainder_116 ?_
                  refine v_getf E in_X4 ho_90 (ci := 3) rfl 6 (by decide) q1766 rfl (v := .ref (ad 4)) rfl dX4_remainder_117 ?_
                  have hv_91 : hp κ H_83 (ad (6 + 7 * j + (k - (g - h)))) (eN κ (pget σ j (k - (g - h)))) := by
                    have e : (va_up (psk (tmp (pset σ i p) (va_up f2 4 (p k * ((pget σ j h).natAbs : Int)))) i (rq p (pget σ j)) k) (6 + 7 * i + k) (p k * ((pget σ j h).natAbs : Int))) (6 + 7 * j + (k - (g - h))) = pget σ j (k - (g - h)) := (show _ = σ (6 + 7 * j + (k - (g - h))) by simp only [va_up, psk, tmp, pset]; repeat (first | rw [if_pos (by omega)] | rw [if_neg (by omega)] | rw [if_pos trivial]))
                    rw [← e]; exact (hN_88 (6 + 7 * j + (k - (g - h))) (by omega))
                  have hv_92 : hp κ H_83 (ad 3) (eN κ wx) := by
                    have e : (va_up (psk (tmp (pset σ i p) (va_up f2 4 (p k * ((pget σ j h).natAbs : Int)))) i (rq p (pget σ j)) k) (6 + 7 * i + k) (p k * ((pget σ j h).natAbs : Int))) 3 = wx := by rw [← hf3v]; simp only [va_up, psk, tmp, pset]; repeat (first | rw [if_pos (by omega)] | rw [if_neg (by omega)] | rw [if_pos trivial])
                    rw [← e]; exact (hN_88 3 (by omega))
                  refine v_callS E (As := [.ref (ad (6 + 7 * j + (k - (g - h)))), .ref (ad 3), .ref (ad 4)]) (m_multiply κ H_83 (hI.ne (by omega)) (hI.ne (by decide)) hv_91 hv_92 (hN_88 4 (by omega))) (lw_S q1948 q1949 q82 q1950) 3 (by decide +kernel) rfl (by decide) (by decide) (cb' := 0) (sb' := 0) (by decide) (by decide) rfl (rest := []) (Nat.le_of_ble_eq_true rfl) (fun q h => hAll q ⟨4, by omega, h⟩) dX4_remainder_120 (fun v_93 H_94 hpost_95 hz_96 hk_97 => ?_)
                  clear hz_96
                  obtain ⟨rfl, hx_98⟩ := hpost_95
                  have hN_99 := hN_88.set hI (i := 4) hx_98 hk_97
                  have hM_100 := hM_89.kept hI (A := fun q => q = ad 4) (fun q h => ⟨4, by omega, h⟩) hk_97
                  have ho_101 := ho_90.far hI (by decide) (A := fun q => q = ad 4) (fun q h => ⟨4, by omega, h⟩) hk_97
                  have hN_102 : NS κ ad (va_up (psk (tmp (pset σ i p) (va_up (va_up f2 4 (p k * ((pget σ j h).natAbs : Int))) 4 (pget σ j (k - (g - h)) * wx))) i (rq p (pget σ j)) k) (6 + 7 * i + k) (p k * ((pget σ j h).natAbs : Int))) H_94 := by rw [← psk_up _ _ _ _ _ _ (by decide), va_upC _ _ _ (by omega)]; exact hN_99
                  refine V.eq (st' := []) rfl ?_
                  refine v_aload_n E 4 rfl dX4_remainder_123 ?_
                  refine v_iload E 0 rfl dX4_remainder_124 ?_
                  refine v_aaldS E dX4_remainder_126 (hM_100.1 i hi) (t := 3) (ty := (.array .int)) rfl rfl k rfl (by omega) (by omega) (b := (ad (6 + 7 * i + k))) rfl ?_
                  refine v_aload_n E 5 rfl dX4_remainder_127 ?_
                  refine v_getf E in_X4 ho_101 (ci := 3) rfl 6 (by decide) q1766 rfl (v := .ref (ad 4)) rfl dX4_remainder_128 ?_
                  refine v_bipush E ⟨by decide, by decide⟩ dX4_remainder_131 ?_
                  have hv_103 : hp κ H_94 (ad (6 + 7 * i + k)) (eN κ (p k * ((pget σ j h).natAbs : Int))) := by
                    have e : (va_up (psk (tmp (pset σ i p) (va_up (va_up f2 4 (p k * ((pget σ j h).natAbs : Int))) 4 (pget σ j (k - (g - h)) * wx))) i (rq p (pget σ j)) k) (6 + 7 * i + k) (p k * ((pget σ j h).natAbs : Int))) (6 + 7 * i + k) = p k * ((pget σ j h).natAbs : Int) := (if_pos rfl)
                    rw [← e]; exact (hN_102 (6 + 7 * i + k) (by omega))
                  have hv_104 : hp κ H_94 (ad 4) (eN κ (pget σ j (k - (g - h)) * wx)) := by
                    have e : (va_up (psk (tmp (pset σ i p) (va_up (va_up f2 4 (p k * ((pget σ j h).natAbs : Int))) 4 (pget σ j (k - (g - h)) * wx))) i (rq p (pget σ j)) k) (6 + 7 * i + k) (p k * ((pget σ j h).natAbs : Int))) 4 = pget σ j (k - (g - h)) * wx := (by simp only [va_up, psk, tmp, pset]; repeat (first | rw [if_pos (by omega)] | rw [if_neg (by omega)] | rw [if_pos trivial]))
                    rw [← e]; exact (hN_102 4 (by omega))
                  refine v_callS E (As := [.ref (ad (6 + 7 * i + k)), .ref (ad 4), vi 48]) (m_lessW κ H_94 (hI.ne (by omega)) hv_103 hv_104) (lw_S q1951 q1952 q82 q1953) 3 (by decide +kernel) rfl (by decide) (by decide) (cb' := 0) (sb' := 0) (by decide) (by decide) rfl (rest := []) (Nat.le_of_ble_eq_true rfl) (fun q h => hAll q ⟨6 + 7 * i + k, by omega, h⟩) dX4_remainder_133 (fun v_105 H_106 hpost_107 hz_108 hk_109 => ?_)
                  clear hz_108
                  obtain ⟨rfl, hx_110⟩ := hpost_107
                  have hN_111 := hN_102.set hI (i := (6 + 7 * i + k)) hx_110 hk_109
                  have hM_112 := hM_100.kept hI (A := fun q => q = ad (6 + 7 * i + k)) (fun q h => ⟨6 + 7 * i + k, by omega, h⟩) hk_109
                  have ho_113 := ho_101.far hI (by decide) (A := fun q => q = ad (6 + 7 * i + k)) (fun q h => ⟨6 + 7 * i + k, by omega, h⟩) hk_109
                  refine V.eq (st' := []) rfl ?_
                  have hFk : (rq p (pget σ j)) k = p k * ((pget σ j h).natAbs : Int) - pget σ j (k - (g - h)) * wx := by
                    unfold rq
                    rw [hg, hbh, Int.toNat_natCast, Int.toNat_natCast, if_pos (by omega), if_pos (by omega), ← hwx]
                  have eS : (va_up (va_up (psk (tmp (pset σ i p) (va_up (va_up f2 4 (p k * ((pget σ j h).natAbs : Int))) 4 (pget σ j (k - (g - h)) * wx))) i (rq p (pget σ j)) k) (6 + 7 * i + k) (p k * ((pget σ j h).natAbs : Int))) (6 + 7 * i + k) (p k * ((pget σ j h).natAbs : Int) - pget σ j (k - (g - h)) * wx)) = psk (tmp (pset σ i p) (va_up (va_up f2 4 (p k * ((pget σ j h).natAbs : Int))) 4 (pget σ j (k - (g - h)) * wx))) i (rq p (pget σ j)) (k + 1) := by rw [va_up2, ← hFk, psk_s]
                  have hN_114 : NS κ ad (psk (tmp (pset σ i p) (va_up (va_up f2 4 (p k * ((pget σ j h).natAbs : Int))) 4 (pget σ j (k - (g - h)) * wx))) i (rq p (pget σ j)) (k + 1)) H_106 := by rw [← eS]; exact hN_111
                  refine v_iinc E 0 rfl dX4_remainder_136 (zlt hL rfl) (lv' := [(5, vi ((k : Int) + 1)), (4, vi (g : Int)), (3, vi (h : Int)), (2, .ref (ad (2000 + j))), (1, .ref (ad (2000 + i))), (0, .ref (ad 3002))]) rfl ?_
                  refine v_goto E (tgt := 58) dX4_remainder_139 (by decide) ?_
                  exact ih_58  H_106 (k + 1) (va_up (va_up f2 4 (p k * ((pget σ j h).natAbs : Int))) 4 (pget σ j (k - (g - h)) * wx)) (by omega) (by omega) hf2v hf3v ho_113 hM_112 hN_114
                · refine v_goto E (tgt := 136) dX4_remainder_100 (by decide) ?_
                  have hFk : (rq p (pget σ j)) k = p k * ((pget σ j h).natAbs : Int) := by
                    unfold rq
                    rw [hg, hbh, Int.toNat_natCast, Int.toNat_natCast, if_pos (by omega), if_neg (by omega), Int.sub_zero]
                  have eS : (va_up (psk (tmp (pset σ i p) (va_up f2 4 (p k * ((pget σ j h).natAbs : Int)))) i (rq p (pget σ j)) k) (6 + 7 * i + k) (p k * ((pget σ j h).natAbs : Int))) = psk (tmp (pset σ i p) (va_up f2 4 (p k * ((pget σ j h).natAbs : Int)))) i (rq p (pget σ j)) (k + 1) := by rw [← hFk, psk_s]
                  have hN_115 : NS κ ad (psk (tmp (pset σ i p) (va_up f2 4 (p k * ((pget σ j h).natAbs : Int)))) i (rq p (pget σ j)) (k + 1)) H_83 := by rw [← eS]; exact hN_88
                  refine v_iinc E 0 rfl dX4_remainder_136 (zlt hL rfl) (lv' := [(5, vi ((k : Int) + 1)), (4, vi (g : Int)), (3, vi (h : Int)), (2, .ref (ad (2000 + j))), (1, .ref (ad (2000 + i))), (0, .ref (ad 3002))]) rfl ?_
                  refine v_goto E (tgt := 58) dX4_remainder_139 (by decide) ?_
                  exact ih_58  H_83 (k + 1) (va_up f2 4 (p k * ((pget σ j h).natAbs : Int))) (by omega) (by omega) hf2v hf3v ho_90 hM_89 hN_115
          exact loop_58 (g + 1 + 1) H_41 0 (fun c => if c = 2 then ((pget σ j h).natAbs : Int) else if c = 3 then wx else f c) (by omega) (by omega) rfl rfl ho_48 hM_47 (by rw [psk_0]; exact hN_50)
        · refine v_aload_n E 4 rfl dX4_remainder_48 ?_
          refine v_getf E in_X4 ho_48 (ci := 3) rfl 5 (by decide) q1765 rfl (v := .ref (ad 3)) rfl dX4_remainder_49 ?_
          have hv_116 : hp κ H_41 (ad 3) (eN κ (p g)) := by
            have e : (tmp (pset σ i p) (va_up (va_up (va_up f 2 (pget σ j h)) 3 (p g)) 2 ((pget σ j h).natAbs : Int))) 3 = p g := (by simp only [va_up, psk, tmp, pset]; repeat (first | rw [if_pos (by omega)] | rw [if_neg (by omega)] | rw [if_pos trivial]))
            rw [← e]; exact (hN_49 3 (by omega))
          refine v_callS E (As := [.ref (ad 3)]) (m_negate κ H_41 hv_116) (lw_S q1944 q1945 q82 q1946) 1 (by decide +kernel) rfl (by decide) (by decide) (cb' := 0) (sb' := 0) (by decide) (by decide) rfl (rest := []) (Nat.le_of_ble_eq_true rfl) (fun q h => hAll q ⟨3, by omega, h⟩) dX4_remainder_52 (fun v_117 H_118 hpost_119 hz_120 hk_121 => ?_)
          clear hz_120
          obtain ⟨rfl, hx_122⟩ := hpost_119
          have hN_123 := hN_49.set hI (i := 3) hx_122 hk_121
          have hM_124 := hM_47.kept hI (A := fun q => q = ad 3) (fun q h => ⟨3, by omega, h⟩) hk_121
          have ho_125 := ho_48.far hI (by decide) (A := fun q => q = ad 3) (fun q h => ⟨3, by omega, h⟩) hk_121
          have hN_126 : NS κ ad (tmp (pset σ i p) (va_up (va_up (va_up (va_up f 2 (pget σ j h)) 3 (p g)) 2 ((pget σ j h).natAbs : Int)) 3 (-p g))) H_118 := by rw [← tmp_up _ _ _ (by decide)]; exact hN_123
          refine V.eq (st' := []) rfl ?_
          have hsgn : pget σ j h < 0 := by rcases Int.lt_or_le (pget σ j h) 0 with q | q <;> first | exact q | (exfalso; first | (rw [if_pos q] at c_45; omega) | (rw [if_neg (by omega)] at c_45; exact c_45 rfl))
          have hN_127 : NS κ ad (tmp (pset σ i p) (fun c => if c = 2 then ((pget σ j h).natAbs : Int) else if c = 3 then wx else f c)) H_118 := (hN_126).congr (fun m _ => by
            unfold tmp va_up
            by_cases l : m < 6
            · simp only [l, if_true]
              by_cases e2 : m = 2
              · subst e2; simp
              · by_cases e3 : m = 3
                · subst e3; simp [hwx, hsgn]
                · simp [e2, e3]
            · simp [l])
          refine v_iconst E dX4_remainder_55 ?_
          refine v_istore E dX4_remainder_56 (zlt hL rfl) (lv' := [(5, vi 0), (4, vi (g : Int)), (3, vi (h : Int)), (2, .ref (ad (2000 + j))), (1, .ref (ad (2000 + i))), (0, .ref (ad 3002))]) rfl ?_
          have loop_58 : ∀ (m_58 : Nat) (H : Heap) (k : Nat) (f2 : Nat → Int), g + 1 - k < m_58 → (k ≤ g + 1) → (f2 2 = ((pget σ j h).natAbs : Int)) → (f2 3 = wx) → hp κ H (ad 3002) (.inr (3, MF ad thr len many a1 a2 a3 a4)) → MS κ ad H → NS κ ad (psk (tmp (pset σ i p) f2) i (rq p (pget σ j)) k) H → V z H 0 0 58 [(5, vi (k : Int)), (4, vi (g : Int)), (3, vi (h : Int)), (2, .ref (ad (2000 + j))), (1, .ref (ad (2000 + i))), (0, .ref (ad 3002))] [] := by
            intro m_58
            induction m_58 with
            | zero => intro H k f2 hm; exact absurd hm (by omega)
            | succ m_58 ih_58 =>
              intro H k f2 hm_58 hk hf2v hf3v ho hM hN
              refine v_iload E 0 rfl dX4_remainder_58 ?_
              refine v_iload E 1 rfl dX4_remainder_60 ?_
              refine v_icmp_gt E (tgt := 142) dX4_remainder_62 (by decide) ⟨by omega, by omega⟩ ⟨by omega, by omega⟩ (fun c_62 => ?_) (fun c_62 => ?_)
              · have hkg : k = g + 1 := by omega
                have hN_128 : NS κ ad (tmp (pset σ i (rq p (pget σ j))) f2) H := by
                  rw [← psk_pset (p := p) (n := k) (by omega) (fun k2 h1 h2 => by rw [rq_hi hg (by omega) h2]; exact (degU_hi p 7 k2 (by show pdeg p < _; omega) h2).symm)]; exact hN
                refine v_aload_n E 5 rfl dX4_remainder_142 ?_
                refine v_aload_n E 4 rfl dX4_remainder_143 ?_
                have hpq : ∀ k, k < 7 → pget (tmp (pset σ i (rq p (pget σ j))) f2) i k = (rq p (pget σ j)) k := fun k hk => (tmp_hi _ _ (by omega)).trans (pset_get _ _ _ hk)
                refine v_callV E (As := [.ref (ad (2000 + i))]) (b := (ad 3002)) (ci := 3) (C := RX4) (T := TX4) (N := 27) ho rfl (m_prim κ H hi hI hM hN_128 ho (fun k hk => by rw [hpq k hk]; exact hf2.1 k hk)) (lw_V q1954 q1956 qs53 q82 q1957) 1 (by decide +kernel) rfl (by decide) (by decide) (cb' := 0) (sb' := 0) (by decide) (by decide) rfl (rest := []) (Nat.le_of_ble_eq_true rfl) hAll dX4_remainder_144 (fun v_129 H_130 hpost_131 hz_132 hk_133 => ?_)
                clear hz_132
                obtain ⟨rfl, f3, hN_134⟩ := hpost_131
                have hM_135 := hM.kept hI (A := AN ad) (fun q h => h) hk_133
                have ho_136 := ho.far hI (by decide) (A := AN ad) (fun q h => h) hk_133
                have hN_137 : NS κ ad (tmp (pset σ i (pprim (rq p (pget σ j)))) f3) H_130 := by
                  rw [tmp_pset, ← pset_congr (fun k hk => pprim_congr hpq hk), ← pset_pset (tmp σ f3) (rq p (pget σ j)), ← tmp_pset σ f3, ← tmp_tmp _ f2]
                  exact hN_134
                refine V.eq (st' := []) rfl ?_
                refine v_aload_n E 4 rfl dX4_remainder_147 ?_
                have hpp : ∀ k, k < 7 → pget (tmp (pset σ i (pprim (rq p (pget σ j)))) f3) i k = pprim (rq p (pget σ j)) k := fun k hk => (tmp_hi _ _ (by omega)).trans (pset_get _ _ _ hk)
                refine v_callS E (As := [.ref (ad (2000 + i))]) (m_pdeg κ H_130 hi hI hM_135 hN_137 (pN_congr hf2.1.prim.N (fun k hk => (hpp k hk).symm))) (lw_S q1928 q1929 q82 q1930) 1 (by decide +kernel) rfl (by decide) (by decide) (cb' := 0) (sb' := 0) (by decide) (by decide) rfl (rest := []) (Nat.le_of_ble_eq_true rfl) (fun q h => h.elim) dX4_remainder_148 (fun v_138 H_139 hpost_140 hz_141 hk_142 => ?_)
                clear hz_141
                obtain rfl := hpost_140
                have hM_143 := hM_135.kept hI (A := fun _ => False) (fun q h => h.elim) hk_142
                have ho_144 := ho_136.far hI (by decide) (A := fun _ => False) (fun q h => h.elim) hk_142
                have hN_145 := hN_137.kept0 hk_142
                refine V.eq (st' := [vi (pdeg (pprim (rq p (pget σ j))))]) (by rw [pdeg_congr hpp]; rfl) ?_
                refine v_istore E dX4_remainder_151 (zlt hL rfl) (lv' := [(4, vi (pdeg (pprim (rq p (pget σ j))))), (5, vi (k : Int)), (3, vi (h : Int)), (2, .ref (ad (2000 + j))), (1, .ref (ad (2000 + i))), (0, .ref (ad 3002))]) rfl ?_
                refine v_goto E (tgt := 11) dX4_remainder_153 (by decide) ?_
                refine V.sub [0, 2, 3, 4, 5] (lv' := [(4, vi (pdeg (pprim (rq p (pget σ j))))), (3, vi (h : Int)), (2, .ref (ad (2000 + j))), (1, .ref (ad (2000 + i))), (0, .ref (ad 3002))]) rfl ?_
                exact ih_11  H_139 m (pprim (rq p (pget σ j))) f3 (by omega) (by have := rq_deg hg hh (by omega); omega) hf2.2 (hres.trans (remF_s (by omega))) hf2.1.prim.N ho_144 hM_143 hN_145
              · refine v_aload_n E 4 rfl dX4_remainder_65 ?_
                refine v_iload E 0 rfl dX4_remainder_66 ?_
                refine v_aaldS E dX4_remainder_68 (hM.1 i hi) (t := 3) (ty := (.array .int)) rfl rfl k rfl (by omega) (by omega) (b := (ad (6 + 7 * i + k))) rfl ?_
                refine v_aload_n E 5 rfl dX4_remainder_69 ?_
                refine v_getf E in_X4 ho (ci := 3) rfl 4 (by decide) q1764 rfl (v := .ref (ad 2)) rfl dX4_remainder_70 ?_
                refine v_aload_n E 5 rfl dX4_remainder_73 ?_
                refine v_getf E in_X4 ho (ci := 3) rfl 6 (by decide) q1766 rfl (v := .ref (ad 4)) rfl dX4_remainder_74 ?_
                have hv_146 : hp κ H (ad (6 + 7 * i + k)) (eN κ (p k)) := by
                  have e : (psk (tmp (pset σ i p) f2) i (rq p (pget σ j)) k) (6 + 7 * i + k) = p k := by rw [psk_ne _ _ _ _ (by omega), tmp_hi _ _ (by omega)]; exact pset_get _ _ _ (by omega)
                  rw [← e]; exact (hN (6 + 7 * i + k) (by omega))
                have hv_147 : hp κ H (ad 2) (eN κ ((pget σ j h).natAbs : Int)) := by
                  have e : (psk (tmp (pset σ i p) f2) i (rq p (pget σ j)) k) 2 = ((pget σ j h).natAbs : Int) := by rw [← hf2v]; simp only [va_up, psk, tmp, pset]; repeat (first | rw [if_pos (by omega)] | rw [if_neg (by omega)] | rw [if_pos trivial])
                  rw [← e]; exact (hN 2 (by omega))
                refine v_callS E (As := [.ref (ad (6 + 7 * i + k)), .ref (ad 2), .ref (ad 4)]) (m_multiply κ H (hI.ne (by omega)) (hI.ne (by decide)) hv_146 hv_147 (hN 4 (by omega))) (lw_S q1948 q1949 q82 q1950) 3 (by decide +kernel) rfl (by decide) (by decide) (cb' := 0) (sb' := 0) (by decide) (by decide) rfl (rest := []) (Nat.le_of_ble_eq_true rfl) (fun q h => hAll q ⟨4, by omega, h⟩) dX4_remainder_77 (fun v_148 H_149 hpost_150 hz_151 hk_152 => ?_)
                clear hz_151
                obtain ⟨rfl, hx_153⟩ := hpost_150
                have hN_154 := hN.set hI (i := 4) hx_153 hk_152
                have hM_155 := hM.kept hI (A := fun q => q = ad 4) (fun q h => ⟨4, by omega, h⟩) hk_152
                have ho_156 := ho.far hI (by decide) (A := fun q => q = ad 4) (fun q h => ⟨4, by omega, h⟩) hk_152
                have hN_157 : NS κ ad (psk (tmp (pset σ i p) (va_up f2 4 (p k * ((pget σ j h).natAbs : Int)))) i (rq p (pget σ j)) k) H_149 := by rw [← psk_up _ _ _ _ _ _ (by decide)]; exact hN_154
                refine V.eq (st' := []) rfl ?_
                refine v_aload_n E 5 rfl dX4_remainder_80 ?_
                refine v_getf E in_X4 ho_156 (ci := 3) rfl 6 (by decide) q1766 rfl (v := .ref (ad 4)) rfl dX4_remainder_81 ?_
                refine v_aload_n E 4 rfl dX4_remainder_84 ?_
                refine v_iload E 0 rfl dX4_remainder_85 ?_
                refine v_aaldS E dX4_remainder_87 (hM_155.1 i hi) (t := 3) (ty := (.array .int)) rfl rfl k rfl (by omega) (by omega) (b := (ad (6 + 7 * i + k))) rfl ?_
                have hv_158 : hp κ H_149 (ad 4) (eN κ (p k * ((pget σ j h).natAbs : Int))) := by
                  have e : (psk (tmp (pset σ i p) (va_up f2 4 (p k * ((pget σ j h).natAbs : Int)))) i (rq p (pget σ j)) k) 4 = p k * ((pget σ j h).natAbs : Int) := (by simp only [va_up, psk, tmp, pset]; repeat (first | rw [if_pos (by omega)] | rw [if_neg (by omega)] | rw [if_pos trivial]))
                  rw [← e]; exact (hN_157 4 (by omega))
                refine v_callS E (As := [.ref (ad 4), .ref (ad (6 + 7 * i + k))]) (m_copy κ H_149 (hI.ne (by omega)) hv_158 (hN_157 (6 + 7 * i + k) (by omega))) (lw_S q1938 q1939 q82 q1940) 2 (by decide +kernel) rfl (by decide) (by decide) (cb' := 0) (sb' := 0) (by decide) (by decide) rfl (rest := []) (Nat.le_of_ble_eq_true rfl) (fun q h => hAll q ⟨6 + 7 * i + k, by omega, h⟩) dX4_remainder_88 (fun v_159 H_160 hpost_161 hz_162 hk_163 => ?_)
                clear hz_162
                obtain ⟨rfl, hx_164⟩ := hpost_161
                have hN_165 := hN_157.set hI (i := (6 + 7 * i + k)) hx_164 hk_163
                have hM_166 := hM_155.kept hI (A := fun q => q = ad (6 + 7 * i + k)) (fun q h => ⟨6 + 7 * i + k, by omega, h⟩) hk_163
                have ho_167 := ho_156.far hI (by decide) (A := fun q => q = ad (6 + 7 * i + k)) (fun q h => ⟨6 + 7 * i + k, by omega, h⟩) hk_163
                refine V.eq (st' := []) rfl ?_
                refine v_iload E 0 rfl dX4_remainder_91 ?_
                refine v_iload E 1 rfl dX4_remainder_93 ?_
                refine v_iload_n E 2 rfl dX4_remainder_95 ?_
                refine v_isub E dX4_remainder_96 ?_
                refine v_icmp_ge E (tgt := 103) dX4_remainder_97 (by decide) ⟨by omega, by omega⟩ ⟨by omega, by omega⟩ (fun c_97 => ?_) (fun c_97 => ?_)
                · refine v_aload_n E 3 rfl dX4_remainder_103 ?_
                  refine v_iload E 0 rfl dX4_remainder_104 ?_
                  refine v_iload E 1 rfl dX4_remainder_106 ?_
                  refine v_isub E dX4_remainder_108 ?_
                  refine v_iload_n E 2 rfl dX4_remainder_109 ?_
                  refine v_iadd E dX4_remainder_110 ?_
                  refine v_aaldS E dX4_remainder_111 (hM_166.1 j hj) (t := 3) (ty := (.array .int)) rfl rfl (k - (g - h)) (by omega) (by omega) (by omega) (b := (ad (6 + 7 * j + (k - (g - h))))) rfl ?_
                  refine v_aload_n E 5 rfl dX4_remainder_112 ?_
                  refine v_getf E in_X4 ho_167 (ci := 3) rfl 5 (by decide) q1765 rfl (v := .ref (ad 3)) rfl dX4_remainder_113 ?_
                  refine v_aload_n E 5 rfl dX4_remainder_116 ?_
                  refine v_getf E in_X4 ho_167 (ci := 3) rfl 6 (by decide) q1766 rfl (v := .ref (ad 4)) rfl dX4_remainder_117 ?_
                  have hv_168 : hp κ H_160 (ad (6 + 7 * j + (k - (g - h)))) (eN κ (pget σ j (k - (g - h)))) := by
                    have e : (va_up (psk (tmp (pset σ i p) (va_up f2 4 (p k * ((pget σ j h).natAbs : Int)))) i (rq p (pget σ j)) k) (6 + 7 * i + k) (p k * ((pget σ j h).natAbs : Int))) (6 + 7 * j + (k - (g - h))) = pget σ j (k - (g - h)) := (show _ = σ (6 + 7 * j + (k - (g - h))) by simp only [va_up, psk, tmp, pset]; repeat (first | rw [if_pos (by omega)] | rw [if_neg (by omega)] | rw [if_pos trivial]))
                    rw [← e]; exact (hN_165 (6 + 7 * j + (k - (g - h))) (by omega))
                  have hv_169 : hp κ H_160 (ad 3) (eN κ wx) := by
                    have e : (va_up (psk (tmp (pset σ i p) (va_up f2 4 (p k * ((pget σ j h).natAbs : Int)))) i (rq p (pget σ j)) k) (6 + 7 * i + k) (p k * ((pget σ j h).natAbs : Int))) 3 = wx := by rw [← hf3v]; simp only [va_up, psk, tmp, pset]; repeat (first | rw [if_pos (by omega)] | rw [if_neg (by omega)] | rw [if_pos trivial])
                    rw [← e]; exact (hN_165 3 (by omega))
                  refine v_callS E (As := [.ref (ad (6 + 7 * j + (k - (g - h)))), .ref (ad 3), .ref (ad 4)]) (m_multiply κ H_160 (hI.ne (by omega)) (hI.ne (by decide)) hv_168 hv_169 (hN_165 4 (by omega))) (lw_S q1948 q1949 q82 q1950) 3 (by decide +kernel) rfl (by decide) (by decide) (cb' := 0) (sb' := 0) (by decide) (by decide) rfl (rest := []) (Nat.le_of_ble_eq_true rfl) (fun q h => hAll q ⟨4, by omega, h⟩) dX4_remainder_120 (fun v_170 H_171 hpost_172 hz_173 hk_174 => ?_)
                  clear hz_173
                  obtain ⟨rfl, hx_175⟩ := hpost_172
                  have hN_176 := hN_165.set hI (i := 4) hx_175 hk_174
                  have hM_177 := hM_166.kept hI (A := fun q => q = ad 4) (fun q h => ⟨4, by omega, h⟩) hk_174
                  have ho_178 := ho_167.far hI (by decide) (A := fun q => q = ad 4) (fun q h => ⟨4, by omega, h⟩) hk_174
                  have hN_179 : NS κ ad (va_up (psk (tmp (pset σ i p) (va_up (va_up f2 4 (p k * ((pget σ j h).natAbs : Int))) 4 (pget σ j (k - (g - h)) * wx))) i (rq p (pget σ j)) k) (6 + 7 * i + k) (p k * ((pget σ j h).natAbs : Int))) H_171 := by rw [← psk_up _ _ _ _ _ _ (by decide), va_upC _ _ _ (by omega)]; exact hN_176
                  refine V.eq (st' := []) rfl ?_
                  refine v_aload_n E 4 rfl dX4_remainder_123 ?_
                  refine v_iload E 0 rfl dX4_remainder_124 ?_
                  refine v_aaldS E dX4_remainder_126 (hM_177.1 i hi) (t := 3) (ty := (.array .int)) rfl rfl k rfl (by omega) (by omega) (b := (ad (6 + 7 * i + k))) rfl ?_
                  refine v_aload_n E 5 rfl dX4_remainder_127 ?_
                  refine v_getf E in_X4 ho_178 (ci := 3) rfl 6 (by decide) q1766 rfl (v := .ref (ad 4)) rfl dX4_remainder_128 ?_
                  refine v_bipush E ⟨by decide, by decide⟩ dX4_remainder_131 ?_
                  have hv_180 : hp κ H_171 (ad (6 + 7 * i + k)) (eN κ (p k * ((pget σ j h).natAbs : Int))) := by
                    have e : (va_up (psk (tmp (pset σ i p) (va_up (va_up f2 4 (p k * ((pget σ j h).natAbs : Int))) 4 (pget σ j (k - (g - h)) * wx))) i (rq p (pget σ j)) k) (6 + 7 * i + k) (p k * ((pget σ j h).natAbs : Int))) (6 + 7 * i + k) = p k * ((pget σ j h).natAbs : Int) := (if_pos rfl)
                    rw [← e]; exact (hN_179 (6 + 7 * i + k) (by omega))
                  have hv_181 : hp κ H_171 (ad 4) (eN κ (pget σ j (k - (g - h)) * wx)) := by
                    have e : (va_up (psk (tmp (pset σ i p) (va_up (va_up f2 4 (p k * ((pget σ j h).natAbs : Int))) 4 (pget σ j (k - (g - h)) * wx))) i (rq p (pget σ j)) k) (6 + 7 * i + k) (p k * ((pget σ j h).natAbs : Int))) 4 = pget σ j (k - (g - h)) * wx := (by simp only [va_up, psk, tmp, pset]; repeat (first | rw [if_pos (by omega)] | rw [if_neg (by omega)] | rw [if_pos trivial]))
                    rw [← e]; exact (hN_179 4 (by omega))
                  refine v_callS E (As := [.ref (ad (6 + 7 * i + k)), .ref (ad 4), vi 48]) (m_lessW κ H_171 (hI.ne (by omega)) hv_180 hv_181) (lw_S q1951 q1952 q82 q1953) 3 (by decide +kernel) rfl (by decide) (by decide) (cb' := 0) (sb' := 0) (by decide) (by decide) rfl (rest := []) (Nat.le_of_ble_eq_true rfl) (fun q h => hAll q ⟨6 + 7 * i + k, by omega, h⟩) dX4_remainder_133 (fun v_182 H_183 hpost_184 hz_185 hk_186 => ?_)
                  clear hz_185
                  obtain ⟨rfl, hx_187⟩ := hpost_184
                  have hN_188 := hN_179.set hI (i := (6 + 7 * i + k)) hx_187 hk_186
                  have hM_189 := hM_177.kept hI (A := fun q => q = ad (6 + 7 * i + k)) (fun q h => ⟨6 + 7 * i + k, by omega, h⟩) hk_186
                  have ho_190 := ho_178.far hI (by decide) (A := fun q => q = ad (6 + 7 * i + k)) (fun q h => ⟨6 + 7 * i + k, by omega, h⟩) hk_186
                  refine V.eq (st' := []) rfl ?_
                  have hFk : (rq p (pget σ j)) k = p k * ((pget σ j h).natAbs : Int) - pget σ j (k - (g - h)) * wx := by
                    unfold rq
                    rw [hg, hbh, Int.toNat_natCast, Int.toNat_natCast, if_pos (by omega), if_pos (by omega), ← hwx]
                  have eS : (va_up (va_up (psk (tmp (pset σ i p) (va_up (va_up f2 4 (p k * ((pget σ j h).natAbs : Int))) 4 (pget σ j (k - (g - h)) * wx))) i (rq p (pget σ j)) k) (6 + 7 * i + k) (p k * ((pget σ j h).natAbs : Int))) (6 + 7 * i + k) (p k * ((pget σ j h).natAbs : Int) - pget σ j (k - (g - h)) * wx)) = psk (tmp (pset σ i p) (va_up (va_up f2 4 (p k * ((pget σ j h).natAbs : Int))) 4 (pget σ j (k - (g - h)) * wx))) i (rq p (pget σ j)) (k + 1) := by rw [va_up2, ← hFk, psk_s]
                  have hN_191 : NS κ ad (psk (tmp (pset σ i p) (va_up (va_up f2 4 (p k * ((pget σ j h).natAbs : Int))) 4 (pget σ j (k - (g - h)) * wx))) i (rq p (pget σ j)) (k + 1)) H_183 := by rw [← eS]; exact hN_188
                  refine v_iinc E 0 rfl dX4_remainder_136 (zlt hL rfl) (lv' := [(5, vi ((k : Int) + 1)), (4, vi (g : Int)), (3, vi (h : Int)), (2, .ref (ad (2000 + j))), (1, .ref (ad (2000 + i))), (0, .ref (ad 3002))]) rfl ?_
                  refine v_goto E (tgt := 58) dX4_remainder_139 (by decide) ?_
                  exact ih_58  H_183 (k + 1) (va_up (va_up f2 4 (p k * ((pget σ j h).natAbs : Int))) 4 (pget σ j (k - (g - h)) * wx)) (by omega) (by omega) hf2v hf3v ho_190 hM_189 hN_191
                · refine v_goto E (tgt := 136) dX4_remainder_100 (by decide) ?_
                  have hFk : (rq p (pget σ j)) k = p k * ((pget σ j h).natAbs : Int) := by
                    unfold rq
                    rw [hg, hbh, Int.toNat_natCast, Int.toNat_natCast, if_pos (by omega), if_neg (by omega), Int.sub_zero]
                  have eS : (va_up (psk (tmp (pset σ i p) (va_up f2 4 (p k * ((pget σ j h).natAbs : Int)))) i (rq p (pget σ j)) k) (6 + 7 * i + k) (p k * ((pget σ j h).natAbs : Int))) = psk (tmp (pset σ i p) (va_up f2 4 (p k * ((pget σ j h).natAbs : Int)))) i (rq p (pget σ j)) (k + 1) := by rw [← hFk, psk_s]
                  have hN_192 : NS κ ad (psk (tmp (pset σ i p) (va_up f2 4 (p k * ((pget σ j h).natAbs : Int)))) i (rq p (pget σ j)) (k + 1)) H_160 := by rw [← eS]; exact hN_165
                  refine v_iinc E 0 rfl dX4_remainder_136 (zlt hL rfl) (lv' := [(5, vi ((k : Int) + 1)), (4, vi (g : Int)), (3, vi (h : Int)), (2, .ref (ad (2000 + j))), (1, .ref (ad (2000 + i))), (0, .ref (ad 3002))]) rfl ?_
                  refine v_goto E (tgt := 58) dX4_remainder_139 (by decide) ?_
                  exact ih_58  H_160 (k + 1) (va_up f2 4 (p k * ((pget σ j h).natAbs : Int))) (by omega) (by omega) hf2v hf3v ho_167 hM_166 hN_192
          exact loop_58 (g + 1 + 1) H_118 0 (fun c => if c = 2 then ((pget σ j h).natAbs : Int) else if c = 3 then wx else f c) (by omega) (by omega) rfl rfl ho_125 hM_124 (by rw [psk_0]; exact hN_127)
  refine V.sub [0, 1, 4, 3, 2] (lv' := [(4, vi (pdeg (pget σ i))), (3, vi (h : Int)), (2, .ref (ad (2000 + j))), (1, .ref (ad (2000 + i))), (0, .ref (ad 3002))]) rfl ?_
  exact loop_11 (7 + 1) H_10 7 (pget σ i) σ (by omega) (pdeg_in _).2 hfit rfl hRa ho_15 hM_14 (by rw [pset_pget, tmp_self]; exact hN_16)
