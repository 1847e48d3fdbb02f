set_option maxHeartbeats 400000 in
set_option maxRecDepth 100000 in
/-- the sign of polynomial j at m / 2^e -/
theorem m_signAt (κ : zK) (H0 : Heap) {ad : Nat → Nat} {σ : Nat → Int} {thr len many : Int} {a1 a2 a3 a4 : Nat} {j e : Nat} {m : Int} (hj : j < 176) (he : e ≤ 1000) (hm : -4294967296 < m ∧ m < 4294967296) (hI : Inj ad) (hM : MS κ ad H0) (hN : NS κ ad σ H0) (ho : hp κ H0 (ad 3002) (.inr (3, MF ad thr len many a1 a2 a3 a4))) (hR : pN (pget σ j)) (hs : rN (hv (pget σ j) m e (pdeg (pget σ j) + 1).toNat (pdeg (pget σ j) + 1).toNat)) : Mt κ yX4_signAt cX4_signAt 7 (some .int) 2 50 0 0 H0 [.ref (ad 3002), .ref (ad (2000 + j)), vj m, vi (e : Int)] (AN ad) (fun v H1 => v = some (vi (hv (pget σ j) m e (pdeg (pget σ j) + 1).toNat (pdeg (pget σ j) + 1).toNat).sign) ∧ ∃ f, NS κ ad (bk (pget σ) f) H1) := by
  refine Mt.of (by decide) (Nat.le_of_ble_eq_true rfl) ?_
  intro z E hE hH0 hA0 hL hini
  have hAll : ∀ q, (AN ad) q → zA z.A z.H0 q := fun q h => Or.inl (by rw [hA0]; exact h)
  have hNew : ∀ q, H0.size ≤ q → zA z.A z.H0 q := fun q h => Or.inr (by rw [hH0]; exact h)
  have E : zOK z cX4_signAt RX4 κ 2 50 (some .int) := E
  refine V.eqL (lv' := [(0, .ref (ad 3002)), (1, .ref (ad (2000 + j))), (2, vj m), (4, vi (e : Int))]) rfl ?_
  have hN_1 : NS κ ad (bk (pget σ) σ) H0 := hN.toBk
  refine v_aload_n E 1 rfl dX4_signAt_0 ?_
  have hR0 : eq7 (pget (bk (pget σ) σ) j) (pget σ j) := bk_get
  obtain ⟨N, hNd⟩ : ∃ N : Nat, N = (pdeg (pget σ j) + 1).toNat := ⟨_, rfl⟩
  have hdj := pdeg_in (pget σ j)
  rw [← hNd] at hs
  refine v_callS E (As := [.ref (ad (2000 + j))]) (m_pdeg κ H0 (j := j) hj hI hM hN_1 (pN_congr hR hR0.symm)) (lw_S q1928 q1929 q82 q1930) 1 (by decide +kernel) rfl (by decide) (by decide) (cb' := 0) (sb' := 0) (by decide) (by decide) rfl (rest := []) (Nat.le_of_ble_eq_true rfl) (fun q h => h.elim) dX4_signAt_1 (fun v_2 H_3 hpost_4 hz_5 hk_6 => ?_)
  clear hz_5
  obtain rfl := hpost_4
  have hM_7 := hM.kept hI (A := fun _ => False) (fun q h => h.elim) hk_6
  have ho_8 := ho.far hI (by decide) (A := fun _ => False) (fun q h => h.elim) hk_6
  have hN_9 := hN_1.kept0 hk_6
  refine V.eq (st' := [vi ((N : Int) - 1)]) (by rw [hR0.deg, show (N : Int) - 1 = pdeg (pget σ j) by omega]; rfl) ?_
  refine v_istore E dX4_signAt_4 (zlt hL rfl) (lv' := [(5, vi ((N : Int) - 1)), (0, .ref (ad 3002)), (1, .ref (ad (2000 + j))), (2, vj m), (4, vi (e : Int))]) rfl ?_
  refine v_aload_n E 1 rfl dX4_signAt_6 ?_
  refine v_getf E in_X4 ho_8 (ci := 3) rfl 2 (by decide) q1762 rfl (v := .ref (ad 0)) rfl dX4_signAt_7 ?_
  refine v_lconst E (x := 0) rfl dX4_signAt_10 ?_
  refine v_callS E (As := [.ref (ad 0), vj 0]) (m_set κ H_3 ⟨by decide, by decide⟩ (hN_9 0 (by omega))) (lw_S q1921 q1922 q82 q1923) 2 (by decide +kernel) rfl (by decide) (by decide) (cb' := 0) (sb' := 0) (by decide) (by decide) rfl (rest := []) (Nat.le_of_ble_eq_true rfl) (fun q h => hAll q ⟨0, by omega, h⟩) dX4_signAt_11 (fun v_10 H_11 hpost_12 hz_13 hk_14 => ?_)
  clear hz_13
  obtain ⟨rfl, hx_15⟩ := hpost_12
  have hN_16 := hN_9.set hI (i := 0) hx_15 hk_14
  have hM_17 := hM_7.kept hI (A := fun q => q = ad 0) (fun q h => ⟨0, by omega, h⟩) hk_14
  have ho_18 := ho_8.far hI (by decide) (A := fun q => q = ad 0) (fun q h => ⟨0, by omega, h⟩) hk_14
  have hN_19 : NS κ ad (bk (pget σ) (va_up σ 0 0)) H_11 := hN_16.lo (by decide)
  refine V.eq (st' := []) rfl ?_
  refine v_iload E 0 rfl dX4_signAt_14 ?_
  refine v_istore E dX4_signAt_16 (zlt hL rfl) (lv' := [(6, vi ((N : Int) - 1)), (5, vi ((N : Int) - 1)), (0, .ref (ad 3002)), (1, .ref (ad (2000 + j))), (2, vj m), (4, vi (e : Int))]) rfl ?_
  have loop_18 : ∀ (m_18 : Nat) (H : Heap) (i : Nat) (f : Nat → Int), N - i < m_18 → (i ≤ N) → (f 0 = hv (pget σ j) m e N i) → hp κ H (ad 3002) (.inr (3, MF ad thr len many a1 a2 a3 a4)) → MS κ ad H → NS κ ad (bk (pget σ) f) H → V z H 0 0 18 [(6, vi ((N : Int) - 1 - (i : Int))), (5, vi ((N : Int) - 1)), (4, vi (e : Int)), (2, vj m), (1, .ref (ad (2000 + j))), (0, .ref (ad 3002))] [] := by
    intro m_18
    induction m_18 with
    | zero => intro H i f hm; exact absurd hm (by omega)
    | succ m_18 ih_18 =>
      intro H i f hm_18 hi hf ho hM hN
      refine v_iload E 0 rfl dX4_signAt_18 ?_
      refine v_if_lt E (tgt := 74) dX4_signAt_20 (by decide) ⟨by omega, by omega⟩ (fun c_20 => ?_) (fun c_20 => ?_)
      · refine v_aload_n E 5 rfl dX4_signAt_74 ?_
        refine v_getf E in_X4 ho (ci := 3) rfl 2 (by decide) q1762 rfl (v := .ref (ad 0)) rfl dX4_signAt_75 ?_
        have hiN : i = N := by omega
        have hv_20 : hp κ H (ad 0) (eN κ (hv (pget σ j) m e N N)) := by
          have e : (bk (pget σ) f) 0 = hv (pget σ j) m e N N := (bk_lo _ _ (by decide)).trans (by rw [hf, hiN])
          rw [← e]; exact (hN 0 (by omega))
        refine v_callS E (As := [.ref (ad 0)]) (m_sign κ H hs hv_20) (lw_S q1931 q1932 q82 q1933) 1 (by decide +kernel) rfl (by decide) (by decide) (cb' := 0) (sb' := 0) (by decide) (by decide) rfl (rest := []) (Nat.le_of_ble_eq_true rfl) (fun q h => h.elim) dX4_signAt_78 (fun v_21 H_22 hpost_23 hz_24 hk_25 => ?_)
        clear hz_24
        obtain rfl := hpost_23
        have hM_26 := hM.kept hI (A := fun _ => False) (fun q h => h.elim) hk_25
        have ho_27 := ho.far hI (by decide) (A := fun _ => False) (fun q h => h.elim) hk_25
        have hN_28 := hN.kept0 hk_25
        refine V.eq (st' := [vi ((hv (pget σ j) m e N N).sign)]) rfl ?_
        refine v_iret E hE dX4_signAt_81 ?_
        rw [← hNd]
        exact ⟨rfl, f, hN_28⟩
      · obtain ⟨k, hk⟩ : ∃ k, N = i + 1 + k := ⟨N - 1 - i, by omega⟩
        refine V.eqL (lv' := [(6, vi (k : Int)), (5, vi ((N : Int) - 1)), (4, vi (e : Int)), (2, vj m), (1, .ref (ad (2000 + j))), (0, .ref (ad 3002))]) (by rw [show (N : Int) - 1 - (i : Int) = (k : Int) by omega]) ?_
        refine v_aload_n E 5 rfl dX4_signAt_23 ?_
        refine v_getf E in_X4 ho (ci := 3) rfl 2 (by decide) q1762 rfl (v := .ref (ad 0)) rfl dX4_signAt_24 ?_
        refine v_lload_n E 3 rfl dX4_signAt_27 ?_
        have hv_29 : hp κ H (ad 0) (eN κ (hv (pget σ j) m e N i)) := by
          have e : (bk (pget σ) f) 0 = hv (pget σ j) m e N i := (bk_lo _ _ (by decide)).trans (hf)
          rw [← e]; exact (hN 0 (by omega))
        refine v_callS E (As := [.ref (ad 0), vj m]) (m_times κ H hm hv_29) (lw_S q2017 q2018 q82 q2019) 2 (by decide +kernel) rfl (by decide) (by decide) (cb' := 0) (sb' := 0) (by decide) (by decide) rfl (rest := []) (Nat.le_of_ble_eq_true rfl) (fun q h => hAll q ⟨0, by omega, h⟩) dX4_signAt_28 (fun v_30 H_31 hpost_32 hz_33 hk_34 => ?_)
        clear hz_33
        obtain ⟨rfl, hx_35⟩ := hpost_32
        have hN_36 := hN.set hI (i := 0) hx_35 hk_34
        have hM_37 := hM.kept hI (A := fun q => q = ad 0) (fun q h => ⟨0, by omega, h⟩) hk_34
        have ho_38 := ho.far hI (by decide) (A := fun q => q = ad 0) (fun q h => ⟨0, by omega, h⟩) hk_34
        have hN_39 : NS κ ad (bk (pget σ) (va_up f 0 (hv (pget σ j) m e N i * m))) H_31 := hN_36.lo (by decide)
        refine V.eq (st' := []) rfl ?_
        refine v_aload_n E 4 rfl dX4_signAt_31 ?_
        refine v_iload E 0 rfl dX4_signAt_32 ?_
        refine v_aaldS E dX4_signAt_34 (hM_37.1 j hj) (t := 3) (ty := (.array .int)) rfl rfl k rfl (by omega) (by omega) (b := (ad (6 + 7 * j + k))) rfl ?_
        refine v_aload_n E 5 rfl dX4_signAt_35 ?_
        refine v_getf E in_X4 ho_38 (ci := 3) rfl 3 (by decide) q1763 rfl (v := .ref (ad 1)) rfl dX4_signAt_36 ?_
        have hv_40 : hp κ H_31 (ad (6 + 7 * j + k)) (eN κ (pget σ j k)) := by
          have e : (bk (pget σ) (va_up f 0 (hv (pget σ j) m e N i * m))) (6 + 7 * j + k) = pget σ j k := (bk_at _ _ _ _ (by omega)).trans (rfl)
          rw [← e]; exact (hN_39 (6 + 7 * j + k) (by omega))
        refine v_callS E (As := [.ref (ad (6 + 7 * j + k)), .ref (ad 1)]) (m_copy κ H_31 (hI.ne (by omega)) hv_40 (hN_39 1 (by omega))) (lw_S q1938 q1939 q82 q1940) 2 (by decide +kernel) rfl (by decide) (by decide) (cb' := 0) (sb' := 0) (by decide) (by decide) rfl (rest := []) (Nat.le_of_ble_eq_true rfl) (fun q h => hAll q ⟨1, by omega, h⟩) dX4_signAt_39 (fun v_41 H_42 hpost_43 hz_44 hk_45 => ?_)
        clear hz_44
        obtain ⟨rfl, hx_46⟩ := hpost_43
        have hN_47 := hN_39.set hI (i := 1) hx_46 hk_45
        have hM_48 := hM_37.kept hI (A := fun q => q = ad 1) (fun q h => ⟨1, by omega, h⟩) hk_45
        have ho_49 := ho_38.far hI (by decide) (A := fun q => q = ad 1) (fun q h => ⟨1, by omega, h⟩) hk_45
        have hN_50 : NS κ ad (bk (pget σ) (va_up (va_up f 0 (hv (pget σ j) m e N i * m)) 1 (pget σ j k))) H_42 := hN_47.lo (by decide)
        refine V.eq (st' := []) rfl ?_
        refine v_aload_n E 5 rfl dX4_signAt_42 ?_
        refine v_getf E in_X4 ho_49 (ci := 3) rfl 3 (by decide) q1763 rfl (v := .ref (ad 1)) rfl dX4_signAt_43 ?_
        refine v_iload E 2 rfl dX4_signAt_46 ?_
        refine v_iload E 1 rfl dX4_signAt_48 ?_
        refine v_iload E 0 rfl dX4_signAt_50 ?_
        refine v_isub E dX4_signAt_52 ?_
        refine v_imul E dX4_signAt_53 ?_
        refine V.topi (x' := ((e * i : Nat) : Int)) (congrArg iZ (by rw [show (N : Int) - 1 - (k : Int) = (i : Int) by omega]; exact (Int.natCast_mul e i).symm)) ?_
        have hv_51 : hp κ H_42 (ad 1) (eN κ (pget σ j k)) := by
          have e : (bk (pget σ) (va_up (va_up f 0 (hv (pget σ j) m e N i * m)) 1 (pget σ j k))) 1 = pget σ j k := (bk_lo _ _ (by decide)).trans (rfl)
          rw [← e]; exact (hN_50 1 (by omega))
        have hei : e * i < 1000000000 := Nat.lt_of_le_of_lt (Nat.mul_le_mul he (show i ≤ 7 by omega)) (by decide)
        refine v_callS E (As := [.ref (ad 1), vi ((e * i : Nat) : Int)]) (m_left' κ H_42 hei hv_51) (lw_S q1976 q1977 q82 q1978) 2 (by decide +kernel) rfl (by decide) (by decide) (cb' := 0) (sb' := 0) (by decide) (by decide) rfl (rest := []) (Nat.le_of_ble_eq_true rfl) (fun q h => hAll q ⟨1, by omega, h⟩) dX4_signAt_54 (fun v_52 H_53 hpost_54 hz_55 hk_56 => ?_)
        clear hz_55
        obtain ⟨rfl, hx_57⟩ := hpost_54
        have hN_58 := hN_50.set hI (i := 1) hx_57 hk_56
        have hM_59 := hM_48.kept hI (A := fun q => q = ad 1) (fun q h => ⟨1, by omega, h⟩) hk_56
        have ho_60 := ho_49.far hI (by decide) (A := fun q => q = ad 1) (fun q h => ⟨1, by omega, h⟩) hk_56
        have hN_61 : NS κ ad (bk (pget σ) (va_up (va_up (va_up f 0 (hv (pget σ j) m e N i * m)) 1 (pget σ j k)) 1 (pget σ j k * 2 ^ (e * i)))) H_53 := hN_58.lo (by decide)
        refine V.eq (st' := []) rfl ?_
        refine v_aload_n E 5 rfl dX4_signAt_57 ?_
        refine v_getf E in_X4 ho_60 (ci := 3) rfl 2 (by decide) q1762 rfl (v := .ref (ad 0)) rfl dX4_signAt_58 ?_
        refine v_aload_n E 5 rfl dX4_signAt_61 ?_
        refine v_getf E in_X4 ho_60 (ci := 3) rfl 3 (by decide) q1763 rfl (v := .ref (ad 1)) rfl dX4_signAt_62 ?_
        have hv_62 : hp κ H_53 (ad 0) (eN κ (hv (pget σ j) m e N i * m)) := by
          have e : (bk (pget σ) (va_up (va_up (va_up f 0 (hv (pget σ j) m e N i * m)) 1 (pget σ j k)) 1 (pget σ j k * 2 ^ (e * i)))) 0 = hv (pget σ j) m e N i * m := (bk_lo _ _ (by decide)).trans (rfl)
          rw [← e]; exact (hN_61 0 (by omega))
        have hv_63 : hp κ H_53 (ad 1) (eN κ (pget σ j k * 2 ^ (e * i))) := by
          have e : (bk (pget σ) (va_up (va_up (va_up f 0 (hv (pget σ j) m e N i * m)) 1 (pget σ j k)) 1 (pget σ j k * 2 ^ (e * i)))) 1 = pget σ j k * 2 ^ (e * i) := (bk_lo _ _ (by decide)).trans (rfl)
          rw [← e]; exact (hN_61 1 (by omega))
        refine v_callS E (As := [.ref (ad 0), .ref (ad 1)]) (m_add κ H_53 (hI.ne (by decide)) hv_62 hv_63) (lw_S q2049 q2050 q82 q2051) 2 (by decide +kernel) rfl (by decide) (by decide) (cb' := 0) (sb' := 0) (by decide) (by decide) rfl (rest := []) (Nat.le_of_ble_eq_true rfl) (fun q h => hAll q ⟨0, by omega, h⟩) dX4_signAt_65 (fun v_64 H_65 hpost_66 hz_67 hk_68 => ?_)
        clear hz_67
        obtain ⟨rfl, hx_69⟩ := hpost_66
        have hN_70 := hN_61.set hI (i := 0) hx_69 hk_68
        have hM_71 := hM_59.kept hI (A := fun q => q = ad 0) (fun q h => ⟨0, by omega, h⟩) hk_68
        have ho_72 := ho_60.far hI (by decide) (A := fun q => q = ad 0) (fun q h => ⟨0, by omega, h⟩) hk_68
        have hN_73 : NS κ ad (bk (pget σ) (va_up (va_up (va_up (va_up f 0 (hv (pget σ j) m e N i * m)) 1 (pget σ j k)) 1 (pget σ j k * 2 ^ (e * i))) 0 (hv (pget σ j) m e N i * m + pget σ j k * 2 ^ (e * i)))) H_65 := hN_70.lo (by decide)
        refine V.eq (st' := []) rfl ?_
        refine v_iinc E 0 rfl dX4_signAt_68 (zlt hL rfl) (lv' := [(6, vi ((k : Int) + (-1))), (5, vi ((N : Int) - 1)), (4, vi (e : Int)), (2, vj m), (1, .ref (ad (2000 + j))), (0, .ref (ad 3002))]) rfl ?_
        refine v_goto E (tgt := 18) dX4_signAt_71 (by decide) ?_
        exact V.eqL (by rw [show (N : Int) - 1 - ((i + 1 : Nat) : Int) = (k : Int) + (-1) by omega]) (ih_18  H_65 (i + 1) (va_up (va_up (va_up (va_up f 0 (hv (pget σ j) m e N i * m)) 1 (pget σ j k)) 1 (pget σ j k * 2 ^ (e * i))) 0 (hv (pget σ j) m e N i * m + pget σ j k * 2 ^ (e * i))) (by omega) (by omega) (by show _ = hv (pget σ j) m e N i * m + pget σ j (N - 1 - i) * 2 ^ (e * i); rw [show N - 1 - i = k by omega]; rfl) ho_72 hM_71 hN_73)
  refine V.sub [0, 1, 5, 4, 3, 2] (lv' := [(6, vi ((N : Int) - 1)), (5, vi ((N : Int) - 1)), (4, vi (e : Int)), (2, vj m), (1, .ref (ad (2000 + j))), (0, .ref (ad 3002))]) rfl ?_
  exact V.eqL (by rw [show (N : Int) - 1 - ((0 : Nat) : Int) = (N : Int) - 1 by omega]) (loop_18 (N + 1) H_11 0 (va_up σ 0 0) (by omega) (by omega) rfl ho_18 hM_17 hN_19)

set_option maxHeartbeats 400000 in
set_option maxRecDepth 100000 in
/-- polynomial j moved by one -/
theorem m_moves (κ : zK) (H0 : Heap) {ad : Nat → Nat} {σ : Nat → Int} {j n : Nat} (hj : j < 176) (hn : n < 7) (hI : Inj ad) (hM : MS κ ad H0) (hN : NS κ ad σ H0) : Mt κ yX4_moves cX4_moves 4 (none) 1 24 0 0 H0 [.ref (ad (2000 + j)), vi (n : Int)] (AN ad) (fun v H1 => v = none ∧ NS κ ad (bk (va_up (pget σ) j (mvF (pget σ j) n n)) σ) H1) := by
  refine Mt.of (by decide) (Nat.le_of_ble_eq_true rfl) ?_
  intro z E hE hH0 hA0 hL hini
  have hAll : ∀ q, (AN ad) q → zA z.A z.H0 q := fun q h => Or.inl (by rw [hA0]; exact h)
  have hNew : ∀ q, H0.size ≤ q → zA z.A z.H0 q := fun q h => Or.inr (by rw [hH0]; exact h)
  have E : zOK z cX4_moves RX4 κ 1 24 (none) := E
  refine V.eqL (lv' := [(0, .ref (ad (2000 + j))), (1, vi (n : Int))]) rfl ?_
  have hN_1 : NS κ ad (bk (pget σ) σ) H0 := hN.toBk
  refine v_iconst E dX4_moves_0 ?_
  refine v_istore_n E dX4_moves_1 (zlt hL rfl) (lv' := [(2, vi 0), (0, .ref (ad (2000 + j))), (1, vi (n : Int))]) rfl ?_
  have loop_2 : ∀ (m_2 : Nat) (H : Heap) (i : Nat), n - i < m_2 → (i ≤ n) → MS κ ad H → NS κ ad (bk (va_up (pget σ) j (mvF (pget σ j) n i)) σ) H → V z H 0 0 2 [(2, vi (i : Int)), (1, vi (n : Int)), (0, .ref (ad (2000 + j)))] [] := by
    intro m_2
    induction m_2 with
    | zero => intro H i hm; exact absurd hm (by omega)
    | succ m_2 ih_2 =>
      intro H i hm_2 hi hM hN
      refine v_iload_n E 0 rfl dX4_moves_2 ?_
      refine v_iload_n E 1 rfl dX4_moves_3 ?_
      refine v_icmp_ge E (tgt := 39) dX4_moves_4 (by decide) ⟨by omega, by omega⟩ ⟨by omega, by omega⟩ (fun c_4 => ?_) (fun c_4 => ?_)
      · refine v_vret E hE dX4_moves_39 ?_
        have hin : i = n := by omega
        rw [hin] at hN
        exact ⟨rfl, hN⟩
      · refine v_iload_n E 1 rfl dX4_moves_7 ?_
        refine v_iconst E dX4_moves_8 ?_
        refine v_isub E dX4_moves_9 ?_
        refine v_istore_n E dX4_moves_10 (zlt hL rfl) (lv' := [(3, vi ((n : Int) - 1)), (2, vi (i : Int)), (1, vi (n : Int)), (0, .ref (ad (2000 + j)))]) rfl ?_
        have loop_11 : ∀ (m_11 : Nat) (H : Heap) (c : Nat), n - i - c < m_11 → (c ≤ n - i) → MS κ ad H → NS κ ad (bk (va_up (pget σ) j (inn (mvF (pget σ j) n i) n c)) σ) H → V z H 0 0 11 [(3, vi ((n : Int) - 1 - (c : Int))), (2, vi (i : Int)), (1, vi (n : Int)), (0, .ref (ad (2000 + j)))] [] := by
          intro m_11
          induction m_11 with
          | zero => intro H c hm; exact absurd hm (by omega)
          | succ m_11 ih_11 =>
            intro H c hm_11 hc hM hN
            refine v_iload_n E 0 rfl dX4_moves_11 ?_
            refine v_iload_n E 1 rfl dX4_moves_12 ?_
            refine v_icmp_lt E (tgt := 33) dX4_moves_13 (by decide) ⟨by omega, by omega⟩ ⟨by omega, by omega⟩ (fun c_13 => ?_) (fun c_13 => ?_)
            · have hcn : c = n - i := by omega
              have hN_2 : NS κ ad (bk (va_up (pget σ) j (mvF (pget σ j) n (i + 1))) σ) H := by rw [show mvF (pget σ j) n (i + 1) = inn (mvF (pget σ j) n i) n (n - i) from rfl, ← hcn]; exact hN
              refine v_iinc E 1 rfl dX4_moves_33 (zlt hL rfl) (lv' := [(2, vi ((i : Int) + 1)), (3, vi ((n : Int) - 1 - (c : Int))), (1, vi (n : Int)), (0, .ref (ad (2000 + j)))]) rfl ?_
              refine v_goto E (tgt := 2) dX4_moves_36 (by decide) ?_
              refine V.sub [0, 2, 3] (lv' := [(2, vi ((i : Int) + 1)), (1, vi (n : Int)), (0, .ref (ad (2000 + j)))]) rfl ?_
              exact ih_2  H (i + 1) (by omega) (by omega) hM hN_2
            · obtain ⟨k, hk⟩ : ∃ k, n = c + 1 + k := ⟨n - 1 - c, by omega⟩
              refine V.eqL (lv' := [(3, vi (k : Int)), (2, vi (i : Int)), (1, vi (n : Int)), (0, .ref (ad (2000 + j)))]) (by rw [show (n : Int) - 1 - (c : Int) = (k : Int) by omega]) ?_
              refine v_aload_n E 3 rfl dX4_moves_16 ?_
              refine v_iload_n E 0 rfl dX4_moves_17 ?_
              refine v_aaldS E dX4_moves_18 (hM.1 j hj) (t := 3) (ty := (.array .int)) rfl rfl k rfl (by omega) (by omega) (b := (ad (6 + 7 * j + k))) rfl ?_
              refine v_aload_n E 3 rfl dX4_moves_19 ?_
              refine v_iload_n E 0 rfl dX4_moves_20 ?_
              refine v_iconst E dX4_moves_21 ?_
              refine v_iadd E dX4_moves_22 ?_
              refine v_aaldS E dX4_moves_23 (hM.1 j hj) (t := 3) (ty := (.array .int)) rfl rfl (k + 1) rfl (by omega) (by omega) (b := (ad (6 + 7 * j + (k + 1)))) rfl ?_
              have hv_3 : hp κ H (ad (6 + 7 * j + k)) (eN κ (inn (mvF (pget σ j) n i) n c k)) := by
                have e : (bk (va_up (pget σ) j (inn (mvF (pget σ j) n i) n c)) σ) (6 + 7 * j + k) = inn (mvF (pget σ j) n i) n c k := (bk_at _ _ _ _ (by omega)).trans (congrFun (va_upj _ _ _) _)
                rw [← e]; exact (hN (6 + 7 * j + k) (by omega))
              have hv_4 : hp κ H (ad (6 + 7 * j + (k + 1))) (eN κ (inn (mvF (pget σ j) n i) n c (k + 1))) := by
                have e : (bk (va_up (pget σ) j (inn (mvF (pget σ j) n i) n c)) σ) (6 + 7 * j + (k + 1)) = inn (mvF (pget σ j) n i) n c (k + 1) := (bk_at _ _ _ _ (by omega)).trans (congrFun (va_upj _ _ _) _)
                rw [← e]; exact (hN (6 + 7 * j + (k + 1)) (by omega))
              refine v_callS E (As := [.ref (ad (6 + 7 * j + k)), .ref (ad (6 + 7 * j + (k + 1)))]) (m_add κ H (hI.ne (by omega)) hv_3 hv_4) (lw_S q2049 q2050 q82 q2051) 2 (by decide +kernel) rfl (by decide) (by decide) (cb' := 0) (sb' := 0) (by decide) (by decide) rfl (rest := []) (Nat.le_of_ble_eq_true rfl) (fun q h => hAll q ⟨6 + 7 * j + k, by omega, h⟩) dX4_moves_24 (fun v_5 H_6 hpost_7 hz_8 hk_9 => ?_)
              clear hz_8
              obtain ⟨rfl, hx_10⟩ := hpost_7
              have hN_11 := hN.set hI (i := (6 + 7 * j + k)) hx_10 hk_9
              have hM_12 := hM.kept hI (A := fun q => q = ad (6 + 7 * j + k)) (fun q h => ⟨6 + 7 * j + k, by omega, h⟩) hk_9
              have hN_13 : NS κ ad (bk (va_up (va_up (pget σ) j (inn (mvF (pget σ j) n i) n c)) j (va_up ((va_up (pget σ) j (inn (mvF (pget σ j) n i) n c)) j) k (inn (mvF (pget σ j) n i) n c k + inn (mvF (pget σ j) n i) n c (k + 1)))) σ) H_6 := hN_11.hi (by omega)
              have hN_14 : NS κ ad (bk (va_up (pget σ) j (inn (mvF (pget σ j) n i) n (c + 1))) σ) H_6 := (by have h9 := hN_13; rw [va_upU, va_upj] at h9; have e9 : inn (mvF (pget σ j) n i) n (c + 1) = va_up (inn (mvF (pget σ j) n i) n c) k (inn (mvF (pget σ j) n i) n c k + inn (mvF (pget σ j) n i) n c (k + 1)) := (by show va_up _ (n - 1 - c) _ = _; rw [show n - 1 - c = k by omega]); rw [e9]; exact h9)
              refine V.eq (st' := []) rfl ?_
              refine v_iinc E 0 rfl dX4_moves_27 (zlt hL rfl) (lv' := [(3, vi ((k : Int) + (-1))), (2, vi (i : Int)), (1, vi (n : Int)), (0, .ref (ad (2000 + j)))]) rfl ?_
              refine v_goto E (tgt := 11) dX4_moves_30 (by decide) ?_
              exact V.eqL (by rw [show (n : Int) - 1 - ((c + 1 : Nat) : Int) = (k : Int) + (-1) by omega]) (ih_11  H_6 (c + 1) (by omega) (by omega) hM_12 hN_14)
        exact V.eqL (by rw [show (n : Int) - 1 - ((0 : Nat) : Int) = (n : Int) - 1 by omega]) (loop_11 (n - i + 1) H 0 (by omega) (by omega) hM hN)
  refine V.sub [0, 2, 1] (lv' := [(2, vi 0), (1, vi (n : Int)), (0, .ref (ad (2000 + j)))]) rfl ?_
  exact loop_2 (n + 1) H0 0 (by omega) (by omega) hM (by rw [show mvF (pget σ j) n 0 = pget σ j from rfl, va_upS]; exact hN_1)

set_option maxHeartbeats 400000 in
set_option maxRecDepth 100000 in
/-- the changes of sign of polynomial j -/
theorem m_changes (κ : zK) (H0 : Heap) {ad : Nat → Nat} {σ : Nat → Int} {j n : Nat} (hj : j < 176) (hn : n < 7) (hI : Inj ad) (hM : MS κ ad H0) (hN : NS κ ad σ H0) (hR : ∀ k, k ≤ n → rN (pget σ j k)) : Mt κ yX4_changes cX4_changes 6 (some .int) 1 21 0 0 H0 [.ref (ad (2000 + j)), vi (n : Int)] (fun _ => False) (fun v H1 => v = some (vi (chC (pget σ j) (n + 1) : Int))) := by
  refine Mt.of (by decide) (Nat.le_of_ble_eq_true rfl) ?_
  intro z E hE hH0 hA0 hL hini
  have hAll : ∀ q, (fun _ => False) q → zA z.A z.H0 q := fun q h => Or.inl (by rw [hA0]; exact h)
  have hNew : ∀ q, H0.size ≤ q → zA z.A z.H0 q := fun q h => Or.inr (by rw [hH0]; exact h)
  have E : zOK z cX4_changes RX4 κ 1 21 (some .int) := E
  refine V.eqL (lv' := [(0, .ref (ad (2000 + j))), (1, vi (n : Int))]) rfl ?_
  refine v_iconst E dX4_changes_0 ?_
  refine v_istore_n E dX4_changes_1 (zlt hL rfl) (lv' := [(2, vi 0), (0, .ref (ad (2000 + j))), (1, vi (n : Int))]) rfl ?_
  refine v_iconst E dX4_changes_2 ?_
  refine v_istore_n E dX4_changes_3 (zlt hL rfl) (lv' := [(3, vi 0), (2, vi 0), (0, .ref (ad (2000 + j))), (1, vi (n : Int))]) rfl ?_
  refine v_iconst E dX4_changes_4 ?_
  refine v_istore E dX4_changes_5 (zlt hL rfl) (lv' := [(4, vi 0), (3, vi 0), (2, vi 0), (0, .ref (ad (2000 + j))), (1, vi (n : Int))]) rfl ?_
  have loop_7 : ∀ (m_7 : Nat) (H : Heap) (k : Nat) (c : Nat) (l : Int), n + 1 - k < m_7 → (k ≤ n + 1) → (c = chC (pget σ j) k) → (l = chL (pget σ j) k) → (-1 ≤ l ∧ l ≤ 1) → MS κ ad H → NS κ ad σ H → V z H 0 0 7 [(4, vi (k : Int)), (3, vi l), (2, vi (c : Int)), (1, vi (n : Int)), (0, .ref (ad (2000 + j)))] [] := by
    intro m_7
    induction m_7 with
    | zero => intro H k c l hm; exact absurd hm (by omega)
    | succ m_7 ih_7 =>
      intro H k c l hm_7 hk hc hl hl2 hM hN
      refine v_iload E 0 rfl dX4_changes_7 ?_
      refine v_iload_n E 3 rfl dX4_changes_9 ?_
      refine v_icmp_gt E (tgt := 63) dX4_changes_10 (by decide) ⟨by omega, by omega⟩ ⟨by omega, by omega⟩ (fun c_10 => ?_) (fun c_10 => ?_)
      · refine v_iload_n E 2 rfl dX4_changes_63 ?_
        refine v_iret E hE dX4_changes_64 ?_
        have hkn : k = n + 1 := by omega
        rw [hkn] at hc
        rw [hc]
      · refine v_aload_n E 4 rfl dX4_changes_13 ?_
        refine v_iload E 0 rfl dX4_changes_14 ?_
        refine v_aaldS E dX4_changes_16 (hM.1 j hj) (t := 3) (ty := (.array .int)) rfl rfl k rfl (by omega) (by omega) (b := (ad (6 + 7 * j + k))) rfl ?_
        refine v_callS E (As := [.ref (ad (6 + 7 * j + k))]) (m_sign κ H (hR k (by omega)) (show hp κ H (ad (6 + 7 * j + k)) (eN κ (pget σ j k)) from (hN (6 + 7 * j + k) (by omega)))) (lw_S q1931 q1932 q82 q1933) 1 (by decide +kernel) rfl (by decide) (by decide) (cb' := 0) (sb' := 0) (by decide) (by decide) rfl (rest := []) (Nat.le_of_ble_eq_true rfl) (fun q h => h.elim) dX4_changes_17 (fun v_1 H_2 hpost_3 hz_4 hk_5 => ?_)
        clear hz_4
        obtain rfl := hpost_3
        obtain ⟨sg, hs⟩ : ∃ sg : Int, sg = (pget σ j k).sign := ⟨_, rfl⟩
        have hsr : -1 ≤ sg ∧ sg ≤ 1 := by rw [hs]; have := rsign3 (pget σ j k); omega
        have hM_6 := hM.kept hI (A := fun _ => False) (fun q h => h.elim) hk_5
        have hN_7 := hN.kept0 hk_5
        refine V.eq (st' := [vi sg]) (by rw [hs]; rfl) ?_
        refine v_istore E dX4_changes_20 (zlt hL rfl) (lv' := [(5, vi sg), (4, vi (k : Int)), (3, vi l), (2, vi (c : Int)), (1, vi (n : Int)), (0, .ref (ad (2000 + j)))]) rfl ?_
        refine v_iload_n E 3 rfl dX4_changes_22 ?_
        refine v_iload E 0 rfl dX4_changes_23 ?_
        refine v_if_eq E (tgt := 42) dX4_changes_25 (by decide) ⟨by omega, by omega⟩ (fun c_25 => ?_) (fun c_25 => ?_)
        · refine v_iconst E dX4_changes_42 ?_
          refine v_iadd E dX4_changes_43 ?_
          refine v_istore_n E dX4_changes_44 (zlt hL rfl) (lv' := [(2, vi ((c : Int) + 0)), (5, vi sg), (4, vi (k : Int)), (3, vi l), (1, vi (n : Int)), (0, .ref (ad (2000 + j)))]) rfl ?_
          refine v_iload E 1 rfl dX4_changes_45 ?_
          refine v_if_ne E (tgt := 54) dX4_changes_47 (by decide) ⟨by omega, by omega⟩ (fun c_47 => ?_) (fun c_47 => ?_)
          · refine v_iload E 1 rfl dX4_changes_54 ?_
            refine v_istore_n E dX4_changes_56 (zlt hL rfl) (lv' := [(3, vi sg), (2, vi ((c : Int) + 0)), (5, vi sg), (4, vi (k : Int)), (1, vi (n : Int)), (0, .ref (ad (2000 + j)))]) rfl ?_
            refine v_iinc E 3 rfl dX4_changes_57 (zlt hL rfl) (lv' := [(4, vi ((k : Int) + 1)), (3, vi sg), (2, vi ((c : Int) + 0)), (5, vi sg), (1, vi (n : Int)), (0, .ref (ad (2000 + j)))]) rfl ?_
            refine v_goto E (tgt := 7) dX4_changes_60 (by decide) ?_
            refine V.sub [0, 1, 2, 4, 5] (lv' := [(4, vi ((k : Int) + 1)), (3, vi sg), (2, vi ((c : Int) + 0)), (1, vi (n : Int)), (0, .ref (ad (2000 + j)))]) rfl ?_
            exact V.eqL (by first | rfl | rw [show ((c + 1 : Nat) : Int) = (c : Int) + 1 by omega] | rw [show (c : Int) + 0 = (c : Int) by omega]) (ih_7  H_2 (k + 1) c sg (by omega) (by omega) (by show _ = if (pget σ j k).sign ≠ 0 ∧ chL (pget σ j) k ≠ 0 ∧ (pget σ j k).sign ≠ chL (pget σ j) k then chC (pget σ j) k + 1 else chC (pget σ j) k; rw [← hc, ← hl, ← hs]; first | (exfalso; omega) | rw [if_pos (by omega)] | rw [if_neg (by omega)]) (by show _ = if (pget σ j k).sign = 0 then chL (pget σ j) k else (pget σ j k).sign; rw [← hl, ← hs]; first | (exfalso; omega) | rw [if_pos (by omega)] | rw [if_neg (by omega)]) (by omega) hM_6 hN_7)
          · refine v_iload_n E 3 rfl dX4_changes_50 ?_
            refine v_goto E (tgt := 56) dX4_changes_51 (by decide) ?_
            refine v_istore_n E dX4_changes_56 (zlt hL rfl) (lv' := [(3, vi l), (2, vi ((c : Int) + 0)), (5, vi sg), (4, vi (k : Int)), (1, vi (n : Int)), (0, .ref (ad (2000 + j)))]) rfl ?_
            refine v_iinc E 3 rfl dX4_changes_57 (zlt hL rfl) (lv' := [(4, vi ((k : Int) + 1)), (3, vi l), (2, vi ((c : Int) + 0)), (5, vi sg), (1, vi (n : Int)), (0, .ref (ad (2000 + j)))]) rfl ?_
            refine v_goto E (tgt := 7) dX4_changes_60 (by decide) ?_
            refine V.sub [0, 1, 2, 4, 5] (lv' := [(4, vi ((k : Int) + 1)), (3, vi l), (2, vi ((c : Int) + 0)), (1, vi (n : Int)), (0, .ref (ad (2000 + j)))]) rfl ?_
            exact V.eqL (by first | rfl | rw [show ((c + 1 : Nat) : Int) = (c : Int) + 1 by omega] | rw [show (c : Int) + 0 = (c : Int) by omega]) (ih_7  H_2 (k + 1) c l (by omega) (by omega) (by show _ = if (pget σ j k).sign ≠ 0 ∧ chL (pget σ j) k ≠ 0 ∧ (pget σ j k).sign ≠ chL (pget σ j) k then chC (pget σ j) k + 1 else chC (pget σ j) k; rw [← hc, ← hl, ← hs]; first | (exfalso; omega) | rw [if_pos (by omega)] | rw [if_neg (by omega)]) (by show _ = if (pget σ j k).sign = 0 then chL (pget σ j) k else (pget σ j k).sign; rw [← hl, ← hs]; first | (exfalso; omega) | rw [if_pos (by omega)] | rw [if_neg (by omega)]) (by omega) hM_6 hN_7)
        · refine v_iload_n E 2 rfl dX4_changes_28 ?_
          refine v_if_eq E (tgt := 42) dX4_changes_29 (by decide) ⟨by omega, by omega⟩ (fun c_29 => ?_) (fun c_29 => ?_)
          · refine v_iconst E dX4_changes_42 ?_
            refine v_iadd E dX4_changes_43 ?_
            refine v_istore_n E dX4_changes_44 (zlt hL rfl) (lv' := [(2, vi ((c : Int) + 0)), (5, vi sg), (4, vi (k : Int)), (3, vi l), (1, vi (n : Int)), (0, .ref (ad (2000 + j)))]) rfl ?_
            refine v_iload E 1 rfl dX4_changes_45 ?_
            refine v_if_ne E (tgt := 54) dX4_changes_47 (by decide) ⟨by omega, by omega⟩ (fun c_47 => ?_) (fun c_47 => ?_)
            · refine v_iload E 1 rfl dX4_changes_54 ?_
              refine v_istore_n E dX4_changes_56 (zlt hL rfl) (lv' := [(3, vi sg), (2, vi ((c : Int) + 0)), (5, vi sg), (4, vi (k : Int)), (1, vi (n : Int)), (0, .ref (ad (2000 + j)))]) rfl ?_
              refine v_iinc E 3 rfl dX4_changes_57 (zlt hL rfl) (lv' := [(4, vi ((k : Int) + 1)), (3, vi sg), (2, vi ((c : Int) + 0)), (5, vi sg), (1, vi (n : Int)), (0, .ref (ad (2000 + j)))]) rfl ?_
              refine v_goto E (tgt := 7) dX4_changes_60 (by decide) ?_
              refine V.sub [0, 1, 2, 4, 5] (lv' := [(4, vi ((k : Int) + 1)), (3, vi sg), (2, vi ((c : Int) + 0)), (1, vi (n : Int)), (0, .ref (ad (2000 + j)))]) rfl ?_
              exact V.eqL (by first | rfl | rw [show ((c + 1 : Nat) : Int) = (c : Int) + 1 by omega] | rw [show (c : Int) + 0 = (c : Int) by omega]) (ih_7  H_2 (k + 1) c sg (by omega) (by omega) (by show _ = if (pget σ j k).sign ≠ 0 ∧ chL (pget σ j) k ≠ 0 ∧ (pget σ j k).sign ≠ chL (pget σ j) k then chC (pget σ j) k + 1 else chC (pget σ j) k; rw [← hc, ← hl, ← hs]; first | (exfalso; omega) | rw [if_pos (by omega)] | rw [if_neg (by omega)]) (by show _ = if (pget σ j k).sign = 0 then chL (pget σ j) k else (pget σ j k).sign; rw [← hl, ← hs]; first | (exfalso; omega) | rw [if_pos (by omega)] | rw [if_neg (by omega)]) (by omega) hM_6 hN_7)
            · refine v_iload_n E 3 rfl dX4_changes_50 ?_
              refine v_goto E (tgt := 56) dX4_changes_51 (by decide) ?_
              refine v_istore_n E dX4_changes_56 (zlt hL rfl) (lv' := [(3, vi l), (2, vi ((c : Int) + 0)), (5, vi sg), (4, vi (k : Int)), (1, vi (n : Int)), (0, .ref (ad (2000 + j)))]) rfl ?_
              refine v_iinc E 3 rfl dX4_changes_57 (zlt hL rfl) (lv' := [(4, vi ((k : Int) + 1)), (3, vi l), (2, vi ((c : Int) + 0)), (5, vi sg), (1, vi (n : Int)), (0, .ref (ad (2000 + j)))]) rfl ?_
              refine v_goto E (tgt := 7) dX4_changes_60 (by decide) ?_
              refine V.sub [0, 1, 2, 4, 5] (lv' := [(4, vi ((k : Int) + 1)), (3, vi l), (2, vi ((c : Int) + 0)), (1, vi (n : Int)), (0, .ref (ad (2000 + j)))]) rfl ?_
              exact V.eqL (by first | rfl | rw [show ((c + 1 : Nat) : Int) = (c : Int) + 1 by omega] | rw [show (c : Int) + 0 = (c : Int) by omega]) (ih_7  H_2 (k + 1) c l (by omega) (by omega) (by show _ = if (pget σ j k).sign ≠ 0 ∧ chL (pget σ j) k ≠ 0 ∧ (pget σ j k).sign ≠ chL (pget σ j) k then chC (pget σ j) k + 1 else chC (pget σ j) k; rw [← hc, ← hl, ← hs]; first | (exfalso; omega) | rw [if_pos (by omega)] | rw [if_neg (by omega)]) (by show _ = if (pget σ j k).sign = 0 then chL (pget σ j) k else (pget σ j k).sign; rw [← hl, ← hs]; first | (exfalso; omega) | rw [if_pos (by omega)] | rw [if_neg (by omega)]) (by omega) hM_6 hN_7)
          · refine v_iload E 0 rfl dX4_changes_32 ?_
            refine v_iload_n E 2 rfl dX4_changes_34 ?_
            refine v_icmp_eq E (tgt := 42) dX4_changes_35 (by decide) ⟨by omega, by omega⟩ ⟨by omega, by omega⟩ (fun c_35 => ?_) (fun c_35 => ?_)
            · refine v_iconst E dX4_changes_42 ?_
              refine v_iadd E dX4_changes_43 ?_
              refine v_istore_n E dX4_changes_44 (zlt hL rfl) (lv' := [(2, vi ((c : Int) + 0)), (5, vi sg), (4, vi (k : Int)), (3, vi l), (1, vi (n : Int)), (0, .ref (ad (2000 + j)))]) rfl ?_
              refine v_iload E 1 rfl dX4_changes_45 ?_
              refine v_if_ne E (tgt := 54) dX4_changes_47 (by decide) ⟨by omega, by omega⟩ (fun c_47 => ?_) (fun c_47 => ?_)
              · refine v_iload E 1 rfl dX4_changes_54 ?_
                refine v_istore_n E dX4_changes_56 (zlt hL rfl) (lv' := [(3, vi sg), (2, vi ((c : Int) + 0)), (5, vi sg), (4, vi (k : Int)), (1, vi (n : Int)), (0, .ref (ad (2000 + j)))]) rfl ?_
                refine v_iinc E 3 rfl dX4_changes_57 (zlt hL rfl) (lv' := [(4, vi ((k : Int) + 1)), (3, vi sg), (2, vi ((c : Int) + 0)), (5, vi sg), (1, vi (n : Int)), (0, .ref (ad (2000 + j)))]) rfl ?_
                refine v_goto E (tgt := 7) dX4_changes_60 (by decide) ?_
                refine V.sub [0, 1, 2, 4, 5] (lv' := [(4, vi ((k : Int) + 1)), (3, vi sg), (2, vi ((c : Int) + 0)), (1, vi (n : Int)), (0, .ref (ad (2000 + j)))]) rfl ?_
                exact V.eqL (by first | rfl | rw [show ((c + 1 : Nat) : Int) = (c : Int) + 1 by omega] | rw [show (c : Int) + 0 = (c : Int) by omega]) (ih_7  H_2 (k + 1) c sg (by omega) (by omega) (by show _ = if (pget σ j k).sign ≠ 0 ∧ chL (pget σ j) k ≠ 0 ∧ (pget σ j k).sign ≠ chL (pget σ j) k then chC (pget σ j) k + 1 else chC (pget σ j) k; rw [← hc, ← hl, ← hs]; first | (exfalso; omega) | rw [if_pos (by omega)] | rw [if_neg (by omega)]) (by show _ = if (pget σ j k).sign = 0 then chL (pget σ j) k else (pget σ j k).sign; rw [← hl, ← hs]; first | (exfalso; omega) | rw [if_pos (by omega)] | rw [if_neg (by omega)]) (by omega) hM_6 hN_7)
              · refine v_iload_n E 3 rfl dX4_changes_50 ?_
                refine v_goto E (tgt := 56) dX4_changes_51 (by decide) ?_
                refine v_istore_n E dX4_changes_56 (zlt hL rfl) (lv' := [(3, vi l), (2, vi ((c : Int) + 0)), (5, vi sg), (4, vi (k : Int)), (1, vi (n : Int)), (0, .ref (ad (2000 + j)))]) rfl ?_
                refine v_iinc E 3 rfl dX4_changes_57 (zlt hL rfl) (lv' := [(4, vi ((k : Int) + 1)), (3, vi l), (2, vi ((c : Int) + 0)), (5, vi sg), (1, vi (n : Int)), (0, .ref (ad (2000 + j)))]) rfl ?_
                refine v_goto E (tgt := 7) dX4_changes_60 (by decide) ?_
                refine V.sub [0, 1, 2, 4, 5] (lv' := [(4, vi ((k : Int) + 1)), (3, vi l), (2, vi ((c : Int) + 0)), (1, vi (n : Int)), (0, .ref (ad (2000 + j)))]) rfl ?_
                exact V.eqL (by first | rfl | rw [show ((c + 1 : Nat) : Int) = (c : Int) + 1 by omega] | rw [show (c : Int) + 0 = (c : Int) by omega]) (ih_7  H_2 (k + 1) c l (by omega) (by omega) (by show _ = if (pget σ j k).sign ≠ 0 ∧ chL (pget σ j) k ≠ 0 ∧ (pget σ j k).sign ≠ chL (pget σ j) k then chC (pget σ j) k + 1 else chC (pget σ j) k; rw [← hc, ← hl, ← hs]; first | (exfalso; omega) | rw [if_pos (by omega)] | rw [if_neg (by omega)]) (by show _ = if (pget σ j k).sign = 0 then chL (pget σ j) k else (pget σ j k).sign; rw [← hl, ← hs]; first | (exfalso; omega) | rw [if_pos (by omega)] | rw [if_neg (by omega)]) (by omega) hM_6 hN_7)
            · refine v_iconst E dX4_changes_38 ?_
              refine v_goto E (tgt := 43) dX4_changes_39 (by decide) ?_
              refine v_iadd E dX4_changes_43 ?_
              refine v_istore_n E dX4_changes_44 (zlt hL rfl) (lv' := [(2, vi ((c : Int) + 1)), (5, vi sg), (4, vi (k : Int)), (3, vi l), (1, vi (n : Int)), (0, .ref (ad (2000 + j)))]) rfl ?_
              refine v_iload E 1 rfl dX4_changes_45 ?_
              refine v_if_ne E (tgt := 54) dX4_changes_47 (by decide) ⟨by omega, by omega⟩ (fun c_47 => ?_) (fun c_47 => ?_)
              · refine v_iload E 1 rfl dX4_changes_54 ?_
                refine v_istore_n E dX4_changes_56 (zlt hL rfl) (lv' := [(3, vi sg), (2, vi ((c : Int) + 1)), (5, vi sg), (4, vi (k : Int)), (1, vi (n : Int)), (0, .ref (ad (2000 + j)))]) rfl ?_
                refine v_iinc E 3 rfl dX4_changes_57 (zlt hL rfl) (lv' := [(4, vi ((k : Int) + 1)), (3, vi sg), (2, vi ((c : Int) + 1)), (5, vi sg), (1, vi (n : Int)), (0, .ref (ad (2000 + j)))]) rfl ?_
                refine v_goto E (tgt := 7) dX4_changes_60 (by decide) ?_
                refine V.sub [0, 1, 2, 4, 5] (lv' := [(4, vi ((k : Int) + 1)), (3, vi sg), (2, vi ((c : Int) + 1)), (1, vi (n : Int)), (0, .ref (ad (2000 + j)))]) rfl ?_
                exact V.eqL (by first | rfl | rw [show ((c + 1 : Nat) : Int) = (c : Int) + 1 by omega] | rw [show (c : Int) + 0 = (c : Int) by omega]) (ih_7  H_2 (k + 1) (c + 1) sg (by omega) (by omega) (by show _ = if (pget σ j k).sign ≠ 0 ∧ chL (pget σ j) k ≠ 0 ∧ (pget σ j k).sign ≠ chL (pget σ j) k then chC (pget σ j) k + 1 else chC (pget σ j) k; rw [← hc, ← hl, ← hs]; first | (exfalso; omega) | rw [if_pos (by omega)] | rw [if_neg (by omega)]) (by show _ = if (pget σ j k).sign = 0 then chL (pget σ j) k else (pget σ j k).sign; rw [← hl, ← hs]; first | (exfalso; omega) | rw [if_pos (by omega)] | rw [if_neg (by omega)]) (by omega) hM_6 hN_7)
              · refine v_iload_n E 3 rfl dX4_changes_50 ?_
                refine v_goto E (tgt := 56) dX4_changes_51 (by decide) ?_
                refine v_istore_n E dX4_changes_56 (zlt hL rfl) (lv' := [(3, vi l), (2, vi ((c : Int) + 1)), (5, vi sg), (4, vi (k : Int)), (1, vi (n : Int)), (0, .ref (ad (2000 + j)))]) rfl ?_
                refine v_iinc E 3 rfl dX4_changes_57 (zlt hL rfl) (lv' := [(4, vi ((k : Int) + 1)), (3, vi l), (2, vi ((c : Int) + 1)), (5, vi sg), (1, vi (n : Int)), (0, .ref (ad (2000 + j)))]) rfl ?_
                refine v_goto E (tgt := 7) dX4_changes_60 (by decide) ?_
                refine V.sub [0, 1, 2, 4, 5] (lv' := [(4, vi ((k : Int) + 1)), (3, vi l), (2, vi ((c : Int) + 1)), (1, vi (n : Int)), (0, .ref (ad (2000 + j)))]) rfl ?_
                exact V.eqL (by first | rfl | rw [show ((c + 1 : Nat) : Int) = (c : Int) + 1 by omega] | rw [show (c : Int) + 0 = (c : Int) by omega]) (ih_7  H_2 (k + 1) (c + 1) l (by omega) (by omega) (by show _ = if (pget σ j k).sign ≠ 0 ∧ chL (pget σ j) k ≠ 0 ∧ (pget σ j k).sign ≠ chL (pget σ j) k then chC (pget σ j) k + 1 else chC (pget σ j) k; rw [← hc, ← hl, ← hs]; first | (exfalso; omega) | rw [if_pos (by omega)] | rw [if_neg (by omega)]) (by show _ = if (pget σ j k).sign = 0 then chL (pget σ j) k else (pget σ j k).sign; rw [← hl, ← hs]; first | (exfalso; omega) | rw [if_pos (by omega)] | rw [if_neg (by omega)]) (by omega) hM_6 hN_7)
  refine V.sub [0, 1, 2, 4, 3] (lv' := [(4, vi 0), (3, vi 0), (2, vi 0), (1, vi (n : Int)), (0, .ref (ad (2000 + j)))]) rfl ?_
  exact loop_7 (n + 1 + 1) H0 0 0 0 (by omega) (by omega) rfl rfl (by decide) hM hN

set_option maxHeartbeats 400000 in
set_option maxRecDepth 100000 in
/-- the changes of sign within the unit interval -/
theorem m_changesWithin (κ : zK) (H0 : Heap) {ad : Nat → Nat} {σ : Nat → Int} {thr len many : Int} {a1 a2 a3 a4 : Nat} {j n : Nat} (hj : j < 176) (hj5 : j ≠ 5) (hn : n < 7) (hI : Inj ad) (hM : MS κ ad H0) (hN : NS κ ad σ H0) (ho : hp κ H0 (ad 3002) (.inr (3, MF ad thr len many a1 a2 a3 a4))) (hs : ∀ k, k ≤ n → rN (wiF (pget σ j) n k)) : Mt κ yX4_changesWithin cX4_changesWithin 4 (some .int) 2 47 0 0 H0 [.ref (ad 3002), .ref (ad (2000 + j)), vi (n : Int)] (AN ad) (fun v H1 => v = some (vi (chC (wiF (pget σ j) n) (n + 1) : Int)) ∧ ∃ r, NS κ ad (bk (va_up (pget σ) 5 r) σ) H1) := by
  refine Mt.of (by decide) (Nat.le_of_ble_eq_true rfl) ?_
  intro z E hE hH0 hA0 hL hini
  have hAll : ∀ q, (AN ad) q → zA z.A z.H0 q := fun q h => Or.inl (by rw [hA0]; exact h)
  have hNew : ∀ q, H0.size ≤ q → zA z.A z.H0 q := fun q h => Or.inr (by rw [hH0]; exact h)
  have E : zOK z cX4_changesWithin RX4 κ 2 47 (some .int) := E
  refine V.eqL (lv' := [(0, .ref (ad 3002)), (1, .ref (ad (2000 + j))), (2, vi (n : Int))]) rfl ?_
  have hN_1 : NS κ ad (bk (pget σ) σ) H0 := hN.toBk
  refine v_iconst E dX4_changesWithin_0 ?_
  refine v_istore_n E dX4_changesWithin_1 (zlt hL rfl) (lv' := [(3, vi 0), (0, .ref (ad 3002)), (1, .ref (ad (2000 + j))), (2, vi (n : Int))]) rfl ?_
  have loop_2 : ∀ (m_2 : Nat) (H : Heap) (k : Nat), n + 1 - k < m_2 → (k ≤ n + 1) → hp κ H (ad 3002) (.inr (3, MF ad thr len many a1 a2 a3 a4)) → MS κ ad H → NS κ ad (bk (va_up (pget σ) 5 (rvK (pget σ j) (pget σ 5) n k)) σ) H → V z H 0 0 2 [(3, vi (k : Int)), (2, vi (n : Int)), (1, .ref (ad (2000 + j))), (0, .ref (ad 3002))] [] := by
    intro m_2
    induction m_2 with
    | zero => intro H k hm; exact absurd hm (by omega)
    | succ m_2 ih_2 =>
      intro H k hm_2 hk ho hM hN
      refine v_iload_n E 0 rfl dX4_changesWithin_2 ?_
      refine v_iload_n E 1 rfl dX4_changesWithin_3 ?_
      refine v_icmp_gt E (tgt := 27) dX4_changesWithin_4 (by decide) ⟨by omega, by omega⟩ ⟨by omega, by omega⟩ (fun c_4 => ?_) (fun c_4 => ?_)
      · refine v_aload_n E 3 rfl dX4_changesWithin_27 ?_
        refine v_getf E in_X4 ho (ci := 3) rfl 15 (by decide) q1775 rfl (v := .ref (ad (2000 + 5))) rfl dX4_changesWithin_28 ?_
        refine v_iload_n E 1 rfl dX4_changesWithin_31 ?_
        have hkn : k = n + 1 := by omega
        have hg5 : ∀ i, i < n + 1 → pget (bk (va_up (pget σ) 5 (rvK (pget σ j) (pget σ 5) n k)) σ) 5 i = (fun i => pget σ j (n - i)) i := fun i hi => by rw [(show eq7 (pget (bk (va_up (pget σ) 5 (rvK (pget σ j) (pget σ 5) n k)) σ) 5) (rvK (pget σ j) (pget σ 5) n k) from bk_get) i (by omega)]; unfold rvK; rw [if_pos (by omega)]
        refine v_callS E (As := [.ref (ad (2000 + 5)), vi (n : Int)]) (m_moves κ H (by decide) hn hI hM hN) (lw_S q2076 q2077 q82 q2078) 2 (by decide +kernel) rfl (by decide) (by decide) (cb' := 0) (sb' := 0) (by decide) (by decide) rfl (rest := []) (Nat.le_of_ble_eq_true rfl) hAll dX4_changesWithin_32 (fun v_2 H_3 hpost_4 hz_5 hk_6 => ?_)
        clear hz_5
        obtain ⟨rfl, hN_7⟩ := hpost_4
        have hM_8 := hM.kept hI (A := AN ad) (fun q h => h) hk_6
        have ho_9 := ho.far hI (by decide) (A := AN ad) (fun q h => h) hk_6
        have hg6 : ∀ i, i < n + 1 → pget (bk (va_up (pget (bk (va_up (pget σ) 5 (rvK (pget σ j) (pget σ 5) n k)) σ)) 5 (mvF (pget (bk (va_up (pget σ) 5 (rvK (pget σ j) (pget σ 5) n k)) σ) 5) n n)) (bk (va_up (pget σ) 5 (rvK (pget σ j) (pget σ 5) n k)) σ)) 5 i = wiF (pget σ j) n i := fun i hi => (bk_at _ _ _ _ (by omega)).trans ((congrFun (va_upj _ _ _) _).trans (mvF_congr (by omega) hg5 n i hi))
        refine V.eq (st' := []) rfl ?_
        refine v_aload_n E 3 rfl dX4_changesWithin_35 ?_
        refine v_getf E in_X4 ho_9 (ci := 3) rfl 15 (by decide) q1775 rfl (v := .ref (ad (2000 + 5))) rfl dX4_changesWithin_36 ?_
        refine v_iload_n E 1 rfl dX4_changesWithin_39 ?_
        refine v_callS E (As := [.ref (ad (2000 + 5)), vi (n : Int)]) (m_changes κ H_3 (by decide) hn hI hM_8 hN_7 (fun k hk => by rw [hg6 k (by omega)]; exact hs k hk)) (lw_S q2079 q2080 q82 q2081) 2 (by decide +kernel) rfl (by decide) (by decide) (cb' := 0) (sb' := 0) (by decide) (by decide) rfl (rest := []) (Nat.le_of_ble_eq_true rfl) (fun q h => h.elim) dX4_changesWithin_40 (fun v_10 H_11 hpost_12 hz_13 hk_14 => ?_)
        clear hz_13
        obtain rfl := hpost_12
        have hM_15 := hM_8.kept hI (A := fun _ => False) (fun q h => h.elim) hk_14
        have ho_16 := ho_9.far hI (by decide) (A := fun _ => False) (fun q h => h.elim) hk_14
        have hN_17 := hN_7.kept0 hk_14
        refine V.eq (st' := [vi (chC (pget (bk (va_up (pget (bk (va_up (pget σ) 5 (rvK (pget σ j) (pget σ 5) n k)) σ)) 5 (mvF (pget (bk (va_up (pget σ) 5 (rvK (pget σ j) (pget σ 5) n k)) σ) 5) n n)) (bk (va_up (pget σ) 5 (rvK (pget σ j) (pget σ 5) n k)) σ)) 5) (n + 1) : Int)]) rfl ?_
        refine v_iret E hE dX4_changesWithin_43 ?_
        rw [chC_congr (n + 1) hg6]
        refine ⟨rfl, _, NS.ofBk hN_17 (g := σ) (Q := va_up (pget σ) 5 (mvF (pget (bk (va_up (pget σ) 5 (rvK (pget σ j) (pget σ 5) n k)) σ) 5) n n)) (fun m hm => ?_) (fun i hi => bk_lo _ _ hi)⟩
        by_cases e : m = 5
        · subst e; rw [va_upj, va_upj]; exact eq7.rfl'
        · rw [va_upn _ _ e, va_upn _ _ e]; refine eq7.trans bk_get ?_; rw [va_upn _ _ e]; exact eq7.rfl'
      · refine v_aload_n E 2 rfl dX4_changesWithin_7 ?_
        refine v_iload_n E 1 rfl dX4_changesWithin_8 ?_
        refine v_iload_n E 0 rfl dX4_changesWithin_9 ?_
        refine v_isub E dX4_changesWithin_10 ?_
        refine v_aaldS E dX4_changesWithin_11 (hM.1 j hj) (t := 3) (ty := (.array .int)) rfl rfl (n - k) (by omega) (by omega) (by omega) (b := (ad (6 + 7 * j + (n - k)))) rfl ?_
        refine v_aload_n E 3 rfl dX4_changesWithin_12 ?_
        refine v_getf E in_X4 ho (ci := 3) rfl 15 (by decide) q1775 rfl (v := .ref (ad (2000 + 5))) rfl dX4_changesWithin_13 ?_
        refine v_iload_n E 0 rfl dX4_changesWithin_16 ?_
        refine v_aaldS E dX4_changesWithin_17 (hM.1 5 (by decide)) (t := 3) (ty := (.array .int)) rfl rfl k rfl (by omega) (by omega) (b := (ad (6 + 7 * 5 + k))) rfl ?_
        have hv_18 : hp κ H (ad (6 + 7 * j + (n - k))) (eN κ (pget σ j (n - k))) := by
          have e : (bk (va_up (pget σ) 5 (rvK (pget σ j) (pget σ 5) n k)) σ) (6 + 7 * j + (n - k)) = pget σ j (n - k) := (bk_at _ _ _ _ (by omega)).trans (congrFun (va_upn _ _ hj5) _)
          rw [← e]; exact (hN (6 + 7 * j + (n - k)) (by omega))
        refine v_callS E (As := [.ref (ad (6 + 7 * j + (n - k))), .ref (ad (6 + 7 * 5 + k))]) (m_copy κ H (hI.ne (by omega)) hv_18 (hN (6 + 7 * 5 + k) (by omega))) (lw_S q1938 q1939 q82 q1940) 2 (by decide +kernel) rfl (by decide) (by decide) (cb' := 0) (sb' := 0) (by decide) (by decide) rfl (rest := []) (Nat.le_of_ble_eq_true rfl) (fun q h => hAll q ⟨6 + 7 * 5 + k, by omega, h⟩) dX4_changesWithin_18 (fun v_19 H_20 hpost_21 hz_22 hk_23 => ?_)
        clear hz_22
        obtain ⟨rfl, hx_24⟩ := hpost_21
        have hN_25 := hN.set hI (i := (6 + 7 * 5 + k)) hx_24 hk_23
        have hM_26 := hM.kept hI (A := fun q => q = ad (6 + 7 * 5 + k)) (fun q h => ⟨6 + 7 * 5 + k, by omega, h⟩) hk_23
        have ho_27 := ho.far hI (by decide) (A := fun q => q = ad (6 + 7 * 5 + k)) (fun q h => ⟨6 + 7 * 5 + k, by omega, h⟩) hk_23
        have hN_28 : NS κ ad (bk (va_up (va_up (pget σ) 5 (rvK (pget σ j) (pget σ 5) n k)) 5 (va_up ((va_up (pget σ) 5 (rvK (pget σ j) (pget σ 5) n k)) 5) k (pget σ j (n - k)))) σ) H_20 := hN_25.hi (by omega)
        have hN_29 : NS κ ad (bk (va_up (pget σ) 5 (rvK (pget σ j) (pget σ 5) n (k + 1))) σ) H_20 := (by have h9 := hN_28; rw [va_upU, va_upj, rvK_s] at h9; exact h9)
        refine V.eq (st' := []) rfl ?_
        refine v_iinc E 0 rfl dX4_changesWithin_21 (zlt hL rfl) (lv' := [(3, vi ((k : Int) + 1)), (2, vi (n : Int)), (1, .ref (ad (2000 + j))), (0, .ref (ad 3002))]) rfl ?_
        refine v_goto E (tgt := 2) dX4_changesWithin_24 (by decide) ?_
        exact ih_2  H_20 (k + 1) (by omega) (by omega) ho_27 hM_26 hN_29
  refine V.sub [0, 3, 2, 1] (lv' := [(3, vi 0), (2, vi (n : Int)), (1, .ref (ad (2000 + j))), (0, .ref (ad 3002))]) rfl ?_
  exact loop_2 (n + 1 + 1) H0 0 (by omega) (by omega) ho hM (by rw [rvK_0, va_upS]; exact hN_1)
