set_option maxHeartbeats 400000 in
set_option maxRecDepth 100000 in
/-- the roots of polynomial j between a and b, over 2^e -/
theorem m_between (κ : zK) (H0 : Heap) {ad : Nat → Nat} {σ : Nat → Int} {thr len many : Int} {a1 a2 a3 a4 : Nat} {j d e n : Nat} {a b : Int} {g : Nat → Int} (hj : j < 16) (he : e ≤ 1000) (ha : -4294967296 < a ∧ a < 4294967296) (hab : -4294967296 < b - a ∧ b - a < 4294967296) (hI : Inj ad) (hM : MS κ ad H0) (hN : NS κ ad σ H0) (ho : hp κ H0 (ad 3002) (.inr (3, MF ad thr len many a1 a2 a3 a4))) (hcame : hp κ H0 (ad 3005) (eI κ 160 g)) (hR : pN (pget σ j)) (hd : pdeg (pget σ j) = (d : Int)) (hn : n ≤ 158) (hfit : fitB d n (hoP (pget σ j) d a (b - a) e (d + 1))) : Mt κ yX4_between cX4_between 15 (some .int) 3 70 0 0 H0 [.ref (ad 3002), .ref (ad (2000 + j)), vj a, vj b, vi (e : Int)] (AB ad) (fun v H1 => v = some (vi (cnB d n (hoP (pget σ j) d a (b - a) e (d + 1)) : Int)) ∧ ∃ (P : Nat → Nat → Int) (f g1 : Nat → Int), (∀ m, m < 16 → m ≠ 5 → eq7 (P m) (pget σ m)) ∧ NS κ ad (bk P f) H1 ∧ hp κ H1 (ad 3005) (eI κ 160 g1)) := by
  refine Mt.of (by decide) (Nat.le_of_ble_eq_true rfl) ?_
  intro z E hE hH0 hA0 hL hini
  have hAll : ∀ q, (AB ad) q → zA z.A z.H0 q := fun q h => Or.inl (by rw [hA0]; exact h)
  have hNew : ∀ q, H0.size ≤ q → zA z.A z.H0 q := fun q h => Or.inr (by rw [hH0]; exact h)
  have E : zOK z cX4_between RX4 κ 3 70 (some .int) := E
  refine V.eqL (lv' := [(0, .ref (ad 3002)), (1, .ref (ad (2000 + j))), (2, vj a), (4, vj b), (6, vi (e : Int))]) rfl ?_
  have hAllB := hAll
  have hAll : ∀ q, AN ad q → zA z.A z.H0 q := fun q h => hAllB q (Or.inl h)
  have hN_1 : NS κ ad (bk (pget σ) σ) H0 := hN.toBk
  refine v_aload_n E 1 rfl dX4_between_0 ?_
  have hR0 : eq7 (pget (bk (pget σ) σ) j) (pget σ j) := bk_get
  have hd7 : d < 7 := by have := pdeg_in (pget σ j); omega
  refine v_callS E (As := [.ref (ad (2000 + j))]) (m_pdeg κ H0 (j := j) (by omega) hI hM hN_1 (pN_congr hR hR0.symm)) (lw_S q1928 q1929 q82 q1930) 1 (by decide +kernel) rfl (by decide) (by decide) (cb' := 0) (sb' := 0) (by decide) (by decide) rfl (rest := []) (Nat.le_of_ble_eq_true rfl) (fun q h => h.elim) dX4_between_1 (fun v_2 H_3 hpost_4 hz_5 hk_6 => ?_)
  clear hz_5
  obtain rfl := hpost_4
  have hM_7 := hM.kept hI (A := fun _ => False) (fun q h => h.elim) hk_6
  have ho_8 := ho.far hI (by decide) (A := fun _ => False) (fun q h => h.elim) hk_6
  have hcame_9 := hcame.far hI (by decide) (A := fun _ => False) (fun q h => h.elim) hk_6
  have hN_10 := hN_1.kept0 hk_6
  refine V.eq (st' := [vi (d : Int)]) (by rw [hR0.deg, hd]; rfl) ?_
  refine v_istore E dX4_between_4 (zlt hL rfl) (lv' := [(7, vi (d : Int)), (0, .ref (ad 3002)), (1, .ref (ad (2000 + j))), (2, vj a), (4, vj b), (6, vi (e : Int))]) rfl ?_
  refine v_aload_n E 1 rfl dX4_between_6 ?_
  refine v_getf E in_X4 ho_8 (ci := 3) rfl 13 (by decide) q1773 rfl (v := .ref (ad 3001)) rfl dX4_between_7 ?_
  refine v_iconst E dX4_between_10 ?_
  refine v_aaldS E dX4_between_11 hM_7.2.2.1 (t := 4) (ty := (.array (.array .int))) rfl rfl 0 rfl (by omega) (by omega) (b := (ad (2000 + (16 + 0)))) rfl ?_
  refine v_astore E dX4_between_12 (zlt hL rfl) (lv' := [(8, .ref (ad (2000 + (16 + 0)))), (7, vi (d : Int)), (0, .ref (ad 3002)), (1, .ref (ad (2000 + j))), (2, vj a), (4, vj b), (6, vi (e : Int))]) rfl ?_
  refine v_iconst E dX4_between_14 ?_
  refine v_istore E dX4_between_15 (zlt hL rfl) (lv' := [(9, vi 0), (8, .ref (ad (2000 + (16 + 0)))), (7, vi (d : Int)), (0, .ref (ad 3002)), (1, .ref (ad (2000 + j))), (2, vj a), (4, vj b), (6, vi (e : Int))]) rfl ?_
  have loop_17 : ∀ (m_17 : Nat) (H : Heap) (k : Nat) (R : Nat → Int), 7 - k < m_17 → (k ≤ 7) → (∀ m, m < k → R m = 0) → hp κ H (ad 3002) (.inr (3, MF ad thr len many a1 a2 a3 a4)) → hp κ H (ad 3005) (eI κ 160 g) → MS κ ad H → NS κ ad (bk (va_up (pget σ) (16 + 0) R) σ) H → V z H 0 0 17 [(9, vi (k : Int)), (8, .ref (ad (2000 + (16 + 0)))), (7, vi (d : Int)), (6, vi (e : Int)), (4, vj b), (2, vj a), (1, .ref (ad (2000 + j))), (0, .ref (ad 3002))] [] := by
    intro m_17
    induction m_17 with
    | zero => intro H k R hm; exact absurd hm (by omega)
    | succ m_17 ih_17 =>
      intro H k R hm_17 hk hR9 ho hcame hM hN
      refine v_iload E 0 rfl dX4_between_17 ?_
      refine v_bipush E ⟨by decide, by decide⟩ dX4_between_19 ?_
      refine v_icmp_ge E (tgt := 39) dX4_between_21 (by decide) ⟨by omega, by omega⟩ ⟨by omega, by omega⟩ (fun c_21 => ?_) (fun c_21 => ?_)
      · refine v_iload E 2 rfl dX4_between_39 ?_
        refine v_istore E dX4_between_41 (zlt hL rfl) (lv' := [(9, vi (d : Int)), (8, .ref (ad (2000 + (16 + 0)))), (7, vi (d : Int)), (6, vi (e : Int)), (4, vj b), (2, vj a), (1, .ref (ad (2000 + j))), (0, .ref (ad 3002))]) rfl ?_
        have loop_43 : ∀ (m_43 : Nat) (H : Heap) (i : Nat) (R f : Nat → Int), d + 1 - i < m_43 → (i ≤ d + 1) → (eq7 R (hoP (pget σ j) d a (b - a) e i)) → hp κ H (ad 3002) (.inr (3, MF ad thr len many a1 a2 a3 a4)) → hp κ H (ad 3005) (eI κ 160 g) → MS κ ad H → NS κ ad (bk (va_up (pget σ) (16 + 0) R) f) H → V z H 0 0 43 [(9, vi ((d : Int) - (i : Int))), (8, .ref (ad (2000 + (16 + 0)))), (7, vi (d : Int)), (6, vi (e : Int)), (4, vj b), (2, vj a), (1, .ref (ad (2000 + j))), (0, .ref (ad 3002))] [] := by
          intro m_43
          induction m_43 with
          | zero => intro H i R f hm; exact absurd hm (by omega)
          | succ m_43 ih_43 =>
            intro H i R f hm_43 hi hRi ho hcame hM hN
            refine v_iload E 0 rfl dX4_between_43 ?_
            refine v_if_lt E (tgt := 160) dX4_between_45 (by decide) ⟨by omega, by omega⟩ (fun c_45 => ?_) (fun c_45 => ?_)
            · refine v_iconst E dX4_between_160 ?_
              refine v_istore E dX4_between_161 (zlt hL rfl) (lv' := [(9, vi 0), (8, .ref (ad (2000 + (16 + 0)))), (7, vi (d : Int)), (6, vi (e : Int)), (4, vj b), (2, vj a), (1, .ref (ad (2000 + j))), (0, .ref (ad 3002))]) rfl ?_
              refine v_iconst E dX4_between_163 ?_
              refine v_istore E dX4_between_164 (zlt hL rfl) (lv' := [(10, vi 0), (9, vi 0), (8, .ref (ad (2000 + (16 + 0)))), (7, vi (d : Int)), (6, vi (e : Int)), (4, vj b), (2, vj a), (1, .ref (ad (2000 + j))), (0, .ref (ad 3002))]) rfl ?_
              refine v_aload_n E 8 rfl dX4_between_166 ?_
              refine v_getf E in_X4 ho (ci := 3) rfl 14 (by decide) q1774 rfl (v := .ref (ad 3005)) rfl dX4_between_167 ?_
              refine v_iconst E dX4_between_170 ?_
              refine v_iconst E dX4_between_171 ?_
              refine v_iast E dX4_between_172 hcame 0 rfl (by omega) (by omega) (hAllB _ (Or.inr rfl)) (fun H_13 hcame_11 hs_12 => ?_)
              have ho_14 := ho.same hs_12 (hI.ne (by decide))
              have hM_15 := hM.same hI hs_12 (by decide)
              have hN_16 := hN.same hI hs_12 (by decide)
              have hid : i = d + 1 := by omega
              rw [hid] at hRi
              have hQe : ∀ k, k ≤ d → va_up (pget σ) (16 + 0) R (16 + 0) k = (hoP (pget σ j) d a (b - a) e (d + 1)) k := fun k hk => by rw [va_upj]; exact hRi k (by omega)
              refine V.sub [0, 1, 3, 8] (lv' := [(10, vi 0), (9, vi 0), (7, vi (d : Int)), (0, .ref (ad 3002))]) rfl ?_
              refine b_rec E hL hAllB hd7 hI n 0 (by omega) (fitB_congr n (fun k hk => (hQe k hk).symm) hfit) (va_upj _ _ _) hM_15 hN_16 ho_14 hcame_11 (fun H1 P1 f1 g1 hP1 hg1 hM1 hN1 ho1 hc1 => ?_)
              refine v_iload E 0 rfl dX4_between_173 ?_
              refine v_if_lt E (tgt := 355) dX4_between_175 (by decide) ⟨by omega, by omega⟩ (fun c_175 => ?_) (fun c_175 => absurd c_175 (by decide))
              refine v_iload E 1 rfl dX4_between_355 ?_
              refine v_iret E hE dX4_between_357 ?_
              rw [Int.zero_add, cnB_congr n hQe]
              exact ⟨rfl, P1, f1, g1, fun m hm h5 => (hP1 m (by omega) h5).trans (by rw [va_upn _ _ (by omega)]; exact eq7.rfl'), hN1, hc1⟩
            · obtain ⟨k, hk⟩ : ∃ k, d = i + k := ⟨d - i, by omega⟩
              refine V.eqL (lv' := [(9, vi (k : Int)), (8, .ref (ad (2000 + (16 + 0)))), (7, vi (d : Int)), (6, vi (e : Int)), (4, vj b), (2, vj a), (1, .ref (ad (2000 + j))), (0, .ref (ad 3002))]) (by rw [show (d : Int) - (i : Int) = (k : Int) by omega]) ?_
              refine v_iload E 2 rfl dX4_between_48 ?_
              refine v_istore E dX4_between_50 (zlt hL rfl) (lv' := [(10, vi (d : Int)), (9, vi (k : Int)), (8, .ref (ad (2000 + (16 + 0)))), (7, vi (d : Int)), (6, vi (e : Int)), (4, vj b), (2, vj a), (1, .ref (ad (2000 + j))), (0, .ref (ad 3002))]) rfl ?_
              have loop_52 : ∀ (m_52 : Nat) (H : Heap) (c : Nat) (f2 : Nat → Int), d + 1 - c < m_52 → (c ≤ d + 1) → hp κ H (ad 3002) (.inr (3, MF ad thr len many a1 a2 a3 a4)) → hp κ H (ad 3005) (eI κ 160 g) → MS κ ad H → NS κ ad (bk (va_up (pget σ) (16 + 0) (psT R d a (b - a) c)) f2) H → V z H 0 0 52 [(10, vi ((d : Int) - (c : Int))), (9, vi (k : Int)), (8, .ref (ad (2000 + (16 + 0)))), (7, vi (d : Int)), (6, vi (e : Int)), (4, vj b), (2, vj a), (1, .ref (ad (2000 + j))), (0, .ref (ad 3002))] [] := by
                intro m_52
                induction m_52 with
                | zero => intro H c f2 hm; exact absurd hm (by omega)
                | succ m_52 ih_52 =>
                  intro H c f2 hm_52 hc ho hcame hM hN
                  refine v_iload E 0 rfl dX4_between_52 ?_
                  refine v_if_lt E (tgt := 117) dX4_between_54 (by decide) ⟨by omega, by omega⟩ (fun c_54 => ?_) (fun c_54 => ?_)
                  · have hcd : c = d + 1 := by omega
                    have hN_17 : NS κ ad (bk (va_up (pget σ) (16 + 0) (psT R d a (b - a) (d + 1))) f2) H := (by rw [← hcd]; exact hN)
                    refine v_aload_n E 7 rfl dX4_between_117 ?_
                    refine v_iload E 1 rfl dX4_between_118 ?_
                    refine v_aaldS E dX4_between_120 (hM.1 j (by omega)) (t := 3) (ty := (.array .int)) rfl rfl k rfl (by omega) (by omega) (b := (ad (6 + 7 * j + k))) rfl ?_
                    refine v_aload_n E 8 rfl dX4_between_121 ?_
                    refine v_getf E in_X4 ho (ci := 3) rfl 3 (by decide) q1763 rfl (v := .ref (ad 1)) rfl dX4_between_122 ?_
                    have hv_18 : hp κ H (ad (6 + 7 * j + k)) (eN κ (pget σ j k)) := by
                      have e : (bk (va_up (pget σ) (16 + 0) (psT R d a (b - a) (d + 1))) f2) (6 + 7 * j + k) = pget σ j k := (bk_at _ _ _ _ (by omega)).trans (congrFun (va_upn _ _ (by omega)) _)
                      rw [← e]; exact (hN_17 (6 + 7 * j + k) (by omega))
                    refine v_callS E (As := [.ref (ad (6 + 7 * j + k)), .ref (ad 1)]) (m_copy κ H (hI.ne (by omega)) hv_18 (hN_17 1 (by omega))) (lw_S q1938 q1939 q82 q1940) 2 (by decide +kernel) rfl (by decide) (by decide) (cb' := 0) (sb' := 0) (by decide) (by decide) rfl (rest := []) (Nat.le_of_ble_eq_true rfl) (fun q h => hAll q ⟨1, by omega, h⟩) dX4_between_125 (fun v_19 H_20 hpost_21 hz_22 hk_23 => ?_)
                    clear hz_22
                    obtain ⟨rfl, hx_24⟩ := hpost_21
                    have hN_25 := hN_17.set hI (i := 1) hx_24 hk_23
                    have hM_26 := hM.kept hI (A := fun q => q = ad 1) (fun q h => ⟨1, by omega, h⟩) hk_23
                    have ho_27 := ho.far hI (by decide) (A := fun q => q = ad 1) (fun q h => ⟨1, by omega, h⟩) hk_23
                    have hcame_28 := hcame.far hI (by decide) (A := fun q => q = ad 1) (fun q h => ⟨1, by omega, h⟩) hk_23
                    have hN_29 : NS κ ad (bk (va_up (pget σ) (16 + 0) (psT R d a (b - a) (d + 1))) (va_up f2 1 (pget σ j k))) H_20 := hN_25.lo (by decide)
                    refine V.eq (st' := []) rfl ?_
                    refine v_aload_n E 8 rfl dX4_between_128 ?_
                    refine v_getf E in_X4 ho_27 (ci := 3) rfl 3 (by decide) q1763 rfl (v := .ref (ad 1)) rfl dX4_between_129 ?_
                    refine v_iload E 4 rfl dX4_between_132 ?_
                    refine v_iload E 3 rfl dX4_between_134 ?_
                    refine v_iload E 1 rfl dX4_between_136 ?_
                    refine v_isub E dX4_between_138 ?_
                    refine v_imul E dX4_between_139 ?_
                    refine V.topi (x' := ((e * i : Nat) : Int)) (congrArg iZ (by rw [show (d : Int) - (k : Int) = (i : Int) by omega]; exact (Int.natCast_mul e i).symm)) ?_
                    have hv_30 : hp κ H_20 (ad 1) (eN κ (pget σ j k)) := by
                      have e : (bk (va_up (pget σ) (16 + 0) (psT R d a (b - a) (d + 1))) (va_up f2 1 (pget σ j k))) 1 = pget σ j k := (bk_lo _ _ (by decide)).trans (rfl)
                      rw [← e]; exact (hN_29 1 (by omega))
                    have hei : e * i < 1000000000 := Nat.lt_of_le_of_lt (Nat.mul_le_mul he (show i ≤ 7 by omega)) (by decide)
                    refine v_callS E (As := [.ref (ad 1), vi ((e * i : Nat) : Int)]) (m_left' κ H_20 hei hv_30) (lw_S q1976 q1977 q82 q1978) 2 (by decide +kernel) rfl (by decide) (by decide) (cb' := 0) (sb' := 0) (by decide) (by decide) rfl (rest := []) (Nat.le_of_ble_eq_true rfl) (fun q h => hAll q ⟨1, by omega, h⟩) dX4_between_140 (fun v_31 H_32 hpost_33 hz_34 hk_35 => ?_)
                    clear hz_34
                    obtain ⟨rfl, hx_36⟩ := hpost_33
                    have hN_37 := hN_29.set hI (i := 1) hx_36 hk_35
                    have hM_38 := hM_26.kept hI (A := fun q => q = ad 1) (fun q h => ⟨1, by omega, h⟩) hk_35
                    have ho_39 := ho_27.far hI (by decide) (A := fun q => q = ad 1) (fun q h => ⟨1, by omega, h⟩) hk_35
                    have hcame_40 := hcame_28.far hI (by decide) (A := fun q => q = ad 1) (fun q h => ⟨1, by omega, h⟩) hk_35
                    have hN_41 : NS κ ad (bk (va_up (pget σ) (16 + 0) (psT R d a (b - a) (d + 1))) (va_up (va_up f2 1 (pget σ j k)) 1 (pget σ j k * 2 ^ (e * i)))) H_32 := hN_37.lo (by decide)
                    refine V.eq (st' := []) rfl ?_
                    refine v_aload E 2 rfl dX4_between_143 ?_
                    refine v_iconst E dX4_between_145 ?_
                    refine v_aaldS E dX4_between_146 (hM_38.1 (16 + 0) (by omega)) (t := 3) (ty := (.array .int)) rfl rfl 0 rfl (by omega) (by omega) (b := (ad (6 + 7 * (16 + 0) + 0))) rfl ?_
                    refine v_aload_n E 8 rfl dX4_between_147 ?_
                    refine v_getf E in_X4 ho_39 (ci := 3) rfl 3 (by decide) q1763 rfl (v := .ref (ad 1)) rfl dX4_between_148 ?_
                    have hv_42 : hp κ H_32 (ad (6 + 7 * (16 + 0) + 0)) (eN κ ((psT R d a (b - a) (d + 1)) 0)) := by
                      have e : (bk (va_up (pget σ) (16 + 0) (psT R d a (b - a) (d + 1))) (va_up (va_up f2 1 (pget σ j k)) 1 (pget σ j k * 2 ^ (e * i)))) (6 + 7 * (16 + 0) + 0) = (psT R d a (b - a) (d + 1)) 0 := (bk_at _ _ _ _ (by omega)).trans (congrFun (va_upj _ _ _) _)
                      rw [← e]; exact (hN_41 (6 + 7 * (16 + 0) + 0) (by omega))
                    have hv_43 : hp κ H_32 (ad 1) (eN κ (pget σ j (d - i) * 2 ^ (e * i))) := by
                      have e : (bk (va_up (pget σ) (16 + 0) (psT R d a (b - a) (d + 1))) (va_up (va_up f2 1 (pget σ j k)) 1 (pget σ j k * 2 ^ (e * i)))) 1 = pget σ j (d - i) * 2 ^ (e * i) := (bk_lo _ _ (by decide)).trans (by rw [show d - i = k by omega]; rfl)
                      rw [← e]; exact (hN_41 1 (by omega))
                    refine v_callS E (As := [.ref (ad (6 + 7 * (16 + 0) + 0)), .ref (ad 1)]) (m_add κ H_32 (hI.ne (by decide)) hv_42 hv_43) (lw_S q2049 q2050 q82 q2051) 2 (by decide +kernel) rfl (by decide) (by decide) (cb' := 0) (sb' := 0) (by decide) (by decide) rfl (rest := []) (Nat.le_of_ble_eq_true rfl) (fun q h => hAll q ⟨6 + 7 * (16 + 0) + 0, by omega, h⟩) dX4_between_151 (fun v_44 H_45 hpost_46 hz_47 hk_48 => ?_)
                    clear hz_47
                    obtain ⟨rfl, hx_49⟩ := hpost_46
                    have hN_50 := hN_41.set hI (i := (6 + 7 * (16 + 0) + 0)) hx_49 hk_48
                    have hM_51 := hM_38.kept hI (A := fun q => q = ad (6 + 7 * (16 + 0) + 0)) (fun q h => ⟨6 + 7 * (16 + 0) + 0, by omega, h⟩) hk_48
                    have ho_52 := ho_39.far hI (by decide) (A := fun q => q = ad (6 + 7 * (16 + 0) + 0)) (fun q h => ⟨6 + 7 * (16 + 0) + 0, by omega, h⟩) hk_48
                    have hcame_53 := hcame_40.far hI (by decide) (A := fun q => q = ad (6 + 7 * (16 + 0) + 0)) (fun q h => ⟨6 + 7 * (16 + 0) + 0, by omega, h⟩) hk_48
                    have hN_54 : NS κ ad (bk (va_up (va_up (pget σ) (16 + 0) (psT R d a (b - a) (d + 1))) (16 + 0) (va_up ((va_up (pget σ) (16 + 0) (psT R d a (b - a) (d + 1))) (16 + 0)) 0 ((psT R d a (b - a) (d + 1)) 0 + pget σ j (d - i) * 2 ^ (e * i)))) (va_up (va_up f2 1 (pget σ j k)) 1 (pget σ j k * 2 ^ (e * i)))) H_45 := hN_50.hi (by omega)
                    have hN_55 : NS κ ad (bk (va_up (pget σ) (16 + 0) (va_up (psT R d a (b - a) (d + 1)) 0 ((psT R d a (b - a) (d + 1)) 0 + pget σ j (d - i) * 2 ^ (e * i)))) (va_up (va_up f2 1 (pget σ j k)) 1 (pget σ j k * 2 ^ (e * i)))) H_45 := (by have h9 := hN_54; rw [va_upU, va_upj] at h9; exact h9)
                    refine V.eq (st' := []) rfl ?_
                    refine v_iinc E 1 rfl dX4_between_154 (zlt hL rfl) (lv' := [(9, vi ((k : Int) + (-1))), (10, vi ((d : Int) - (c : Int))), (8, .ref (ad (2000 + (16 + 0)))), (7, vi (d : Int)), (6, vi (e : Int)), (4, vj b), (2, vj a), (1, .ref (ad (2000 + j))), (0, .ref (ad 3002))]) rfl ?_
                    refine v_goto E (tgt := 43) dX4_between_157 (by decide) ?_
                    refine V.sub [0, 2, 3, 4, 5, 6, 7, 8] (lv' := [(9, vi ((k : Int) + (-1))), (8, .ref (ad (2000 + (16 + 0)))), (7, vi (d : Int)), (6, vi (e : Int)), (4, vj b), (2, vj a), (1, .ref (ad (2000 + j))), (0, .ref (ad 3002))]) rfl ?_
                    exact V.eqL (by rw [show (d : Int) - ((i + 1 : Nat) : Int) = (k : Int) + (-1) by omega]) (ih_43  H_45 (i + 1) (va_up (psT R d a (b - a) (d + 1)) 0 (psT R d a (b - a) (d + 1) 0 + pget σ j (d - i) * 2 ^ (e * i))) (va_up (va_up f2 1 (pget σ j k)) 1 (pget σ j k * 2 ^ (e * i))) (by omega) (by omega) (hoP_s hRi) ho_52 hcame_53 hM_51 hN_55)
                  · obtain ⟨l, hl⟩ : ∃ l, d = c + l := ⟨d - c, by omega⟩
                    refine V.eqL (lv' := [(10, vi (l : Int)), (9, vi (k : Int)), (8, .ref (ad (2000 + (16 + 0)))), (7, vi (d : Int)), (6, vi (e : Int)), (4, vj b), (2, vj a), (1, .ref (ad (2000 + j))), (0, .ref (ad 3002))]) (by rw [show (d : Int) - (c : Int) = (l : Int) by omega]) ?_
                    refine v_aload E 2 rfl dX4_between_57 ?_
                    refine v_iload E 0 rfl dX4_between_59 ?_
                    refine v_aaldS E dX4_between_61 (hM.1 (16 + 0) (by omega)) (t := 3) (ty := (.array .int)) rfl rfl l rfl (by omega) (by omega) (b := (ad (6 + 7 * (16 + 0) + l))) rfl ?_
                    refine v_lload_n E 6 rfl dX4_between_62 ?_
                    have hv_56 : hp κ H (ad (6 + 7 * (16 + 0) + l)) (eN κ (R l)) := by
                      have e : (bk (va_up (pget σ) (16 + 0) (psT R d a (b - a) c)) f2) (6 + 7 * (16 + 0) + l) = R l := (bk_at _ _ _ _ (by omega)).trans ((congrFun (va_upj _ _ _) _).trans (psT_lo _ _ _ (by omega)))
                      rw [← e]; exact (hN (6 + 7 * (16 + 0) + l) (by omega))
                    refine v_callS E (As := [.ref (ad (6 + 7 * (16 + 0) + l)), vj a]) (m_times κ H ha hv_56) (lw_S q2017 q2018 q82 q2019) 2 (by decide +kernel) rfl (by decide) (by decide) (cb' := 0) (sb' := 0) (by decide) (by decide) rfl (rest := []) (Nat.le_of_ble_eq_true rfl) (fun q h => hAll q ⟨6 + 7 * (16 + 0) + l, by omega, h⟩) dX4_between_63 (fun v_57 H_58 hpost_59 hz_60 hk_61 => ?_)
                    clear hz_60
                    obtain ⟨rfl, hx_62⟩ := hpost_59
                    have hN_63 := hN.set hI (i := (6 + 7 * (16 + 0) + l)) hx_62 hk_61
                    have hM_64 := hM.kept hI (A := fun q => q = ad (6 + 7 * (16 + 0) + l)) (fun q h => ⟨6 + 7 * (16 + 0) + l, by omega, h⟩) hk_61
                    have ho_65 := ho.far hI (by decide) (A := fun q => q = ad (6 + 7 * (16 + 0) + l)) (fun q h => ⟨6 + 7 * (16 + 0) + l, by omega, h⟩) hk_61
                    have hcame_66 := hcame.far hI (by decide) (A := fun q => q = ad (6 + 7 * (16 + 0) + l)) (fun q h => ⟨6 + 7 * (16 + 0) + l, by omega, h⟩) hk_61
                    have hN_67 : NS κ ad (bk (va_up (va_up (pget σ) (16 + 0) (psT R d a (b - a) c)) (16 + 0) (va_up ((va_up (pget σ) (16 + 0) (psT R d a (b - a) c)) (16 + 0)) l (R l * a))) f2) H_58 := hN_63.hi (by omega)
                    have hN_68 : NS κ ad (bk (va_up (pget σ) (16 + 0) (va_up (psT R d a (b - a) c) l (R l * a))) f2) H_58 := (by have h9 := hN_67; rw [va_upU, va_upj] at h9; exact h9)
                    refine V.eq (st' := []) rfl ?_
                    refine v_iload E 0 rfl dX4_between_66 ?_
                    refine v_if_ne E (tgt := 74) dX4_between_68 (by decide) ⟨by omega, by omega⟩ (fun c_68 => ?_) (fun c_68 => ?_)
                    · refine v_aload E 2 rfl dX4_between_74 ?_
                      refine v_iload E 0 rfl dX4_between_76 ?_
                      refine v_iconst E dX4_between_78 ?_
                      refine v_isub E dX4_between_79 ?_
                      refine v_aaldS E dX4_between_80 (hM_64.1 (16 + 0) (by omega)) (t := 3) (ty := (.array .int)) rfl rfl (l - 1) (by omega) (by omega) (by omega) (b := (ad (6 + 7 * (16 + 0) + (l - 1)))) rfl ?_
                      refine v_aload_n E 8 rfl dX4_between_81 ?_
                      refine v_getf E in_X4 ho_65 (ci := 3) rfl 3 (by decide) q1763 rfl (v := .ref (ad 1)) rfl dX4_between_82 ?_
                      have hv_69 : hp κ H_58 (ad (6 + 7 * (16 + 0) + (l - 1))) (eN κ (R (l - 1))) := by
                        have e : (bk (va_up (pget σ) (16 + 0) (va_up (psT R d a (b - a) c) l (R l * a))) f2) (6 + 7 * (16 + 0) + (l - 1)) = R (l - 1) := (bk_at _ _ _ _ (by omega)).trans ((congrFun (va_upj _ _ _) _).trans ((va_upn _ _ (by omega)).trans (psT_lo _ _ _ (by omega))))
                        rw [← e]; exact (hN_68 (6 + 7 * (16 + 0) + (l - 1)) (by omega))
                      refine v_callS E (As := [.ref (ad (6 + 7 * (16 + 0) + (l - 1))), .ref (ad 1)]) (m_copy κ H_58 (hI.ne (by omega)) hv_69 (hN_68 1 (by omega))) (lw_S q1938 q1939 q82 q1940) 2 (by decide +kernel) rfl (by decide) (by decide) (cb' := 0) (sb' := 0) (by decide) (by decide) rfl (rest := []) (Nat.le_of_ble_eq_true rfl) (fun q h => hAll q ⟨1, by omega, h⟩) dX4_between_85 (fun v_70 H_71 hpost_72 hz_73 hk_74 => ?_)
                      clear hz_73
                      obtain ⟨rfl, hx_75⟩ := hpost_72
                      have hN_76 := hN_68.set hI (i := 1) hx_75 hk_74
                      have hM_77 := hM_64.kept hI (A := fun q => q = ad 1) (fun q h => ⟨1, by omega, h⟩) hk_74
                      have ho_78 := ho_65.far hI (by decide) (A := fun q => q = ad 1) (fun q h => ⟨1, by omega, h⟩) hk_74
                      have hcame_79 := hcame_66.far hI (by decide) (A := fun q => q = ad 1) (fun q h => ⟨1, by omega, h⟩) hk_74
                      have hN_80 : NS κ ad (bk (va_up (pget σ) (16 + 0) (va_up (psT R d a (b - a) c) l (R l * a))) (va_up f2 1 (R (l - 1)))) H_71 := hN_76.lo (by decide)
                      refine V.eq (st' := []) rfl ?_
                      refine v_aload_n E 8 rfl dX4_between_88 ?_
                      refine v_getf E in_X4 ho_78 (ci := 3) rfl 3 (by decide) q1763 rfl (v := .ref (ad 1)) rfl dX4_between_89 ?_
                      refine v_lload E 5 rfl dX4_between_92 ?_
                      refine v_lload_n E 6 rfl dX4_between_94 ?_
                      refine v_lsub E dX4_between_95 ?_
                      have hv_81 : hp κ H_71 (ad 1) (eN κ (R (l - 1))) := by
                        have e : (bk (va_up (pget σ) (16 + 0) (va_up (psT R d a (b - a) c) l (R l * a))) (va_up f2 1 (R (l - 1)))) 1 = R (l - 1) := (bk_lo _ _ (by decide)).trans (rfl)
                        rw [← e]; exact (hN_80 1 (by omega))
                      refine v_callS E (As := [.ref (ad 1), vj (b - a)]) (m_times κ H_71 hab hv_81) (lw_S q2017 q2018 q82 q2019) 2 (by decide +kernel) rfl (by decide) (by decide) (cb' := 0) (sb' := 0) (by decide) (by decide) rfl (rest := []) (Nat.le_of_ble_eq_true rfl) (fun q h => hAll q ⟨1, by omega, h⟩) dX4_between_96 (fun v_82 H_83 hpost_84 hz_85 hk_86 => ?_)
                      clear hz_85
                      obtain ⟨rfl, hx_87⟩ := hpost_84
                      have hN_88 := hN_80.set hI (i := 1) hx_87 hk_86
                      have hM_89 := hM_77.kept hI (A := fun q => q = ad 1) (fun q h => ⟨1, by omega, h⟩) hk_86
                      have ho_90 := ho_78.far hI (by decide) (A := fun q => q = ad 1) (fun q h => ⟨1, by omega, h⟩) hk_86
                      have hcame_91 := hcame_79.far hI (by decide) (A := fun q => q = ad 1) (fun q h => ⟨1, by omega, h⟩) hk_86
                      have hN_92 : NS κ ad (bk (va_up (pget σ) (16 + 0) (va_up (psT R d a (b - a) c) l (R l * a))) (va_up (va_up f2 1 (R (l - 1))) 1 (R (l - 1) * (b - a)))) H_83 := hN_88.lo (by decide)
                      refine V.eq (st' := []) rfl ?_
                      refine v_aload E 2 rfl dX4_between_99 ?_
                      refine v_iload E 0 rfl dX4_between_101 ?_
                      refine v_aaldS E dX4_between_103 (hM_89.1 (16 + 0) (by omega)) (t := 3) (ty := (.array .int)) rfl rfl l rfl (by omega) (by omega) (b := (ad (6 + 7 * (16 + 0) + l))) rfl ?_
                      refine v_aload_n E 8 rfl dX4_between_104 ?_
                      refine v_getf E in_X4 ho_90 (ci := 3) rfl 3 (by decide) q1763 rfl (v := .ref (ad 1)) rfl dX4_between_105 ?_
                      have hv_93 : hp κ H_83 (ad (6 + 7 * (16 + 0) + l)) (eN κ (R l * a)) := by
                        have e : (bk (va_up (pget σ) (16 + 0) (va_up (psT R d a (b - a) c) l (R l * a))) (va_up (va_up f2 1 (R (l - 1))) 1 (R (l - 1) * (b - a)))) (6 + 7 * (16 + 0) + l) = R l * a := (bk_at _ _ _ _ (by omega)).trans ((congrFun (va_upj _ _ _) _).trans (va_upj _ _ _))
                        rw [← e]; exact (hN_92 (6 + 7 * (16 + 0) + l) (by omega))
                      have hv_94 : hp κ H_83 (ad 1) (eN κ (R (l - 1) * (b - a))) := by
                        have e : (bk (va_up (pget σ) (16 + 0) (va_up (psT R d a (b - a) c) l (R l * a))) (va_up (va_up f2 1 (R (l - 1))) 1 (R (l - 1) * (b - a)))) 1 = R (l - 1) * (b - a) := (bk_lo _ _ (by decide)).trans (rfl)
                        rw [← e]; exact (hN_92 1 (by omega))
                      refine v_callS E (As := [.ref (ad (6 + 7 * (16 + 0) + l)), .ref (ad 1)]) (m_add κ H_83 (hI.ne (by omega)) hv_93 hv_94) (lw_S q2049 q2050 q82 q2051) 2 (by decide +kernel) rfl (by decide) (by decide) (cb' := 0) (sb' := 0) (by decide) (by decide) rfl (rest := []) (Nat.le_of_ble_eq_true rfl) (fun q h => hAll q ⟨6 + 7 * (16 + 0) + l, by omega, h⟩) dX4_between_108 (fun v_95 H_96 hpost_97 hz_98 hk_99 => ?_)
                      clear hz_98
                      obtain ⟨rfl, hx_100⟩ := hpost_97
                      have hN_101 := hN_92.set hI (i := (6 + 7 * (16 + 0) + l)) hx_100 hk_99
                      have hM_102 := hM_89.kept hI (A := fun q => q = ad (6 + 7 * (16 + 0) + l)) (fun q h => ⟨6 + 7 * (16 + 0) + l, by omega, h⟩) hk_99
                      have ho_103 := ho_90.far hI (by decide) (A := fun q => q = ad (6 + 7 * (16 + 0) + l)) (fun q h => ⟨6 + 7 * (16 + 0) + l, by omega, h⟩) hk_99
                      have hcame_104 := hcame_91.far hI (by decide) (A := fun q => q = ad (6 + 7 * (16 + 0) + l)) (fun q h => ⟨6 + 7 * (16 + 0) + l, by omega, h⟩) hk_99
                      have hN_105 : NS κ ad (bk (va_up (va_up (pget σ) (16 + 0) (va_up (psT R d a (b - a) c) l (R l * a))) (16 + 0) (va_up ((va_up (pget σ) (16 + 0) (va_up (psT R d a (b - a) c) l (R l * a))) (16 + 0)) l (R l * a + R (l - 1) * (b - a)))) (va_up (va_up f2 1 (R (l - 1))) 1 (R (l - 1) * (b - a)))) H_96 := hN_101.hi (by omega)
                      have hN_106 : NS κ ad (bk (va_up (pget σ) (16 + 0) (va_up (psT R d a (b - a) c) l (R l * a + R (l - 1) * (b - a)))) (va_up (va_up f2 1 (R (l - 1))) 1 (R (l - 1) * (b - a)))) H_96 := (by have h9 := hN_105; rw [va_upU, va_upj, va_upU] at h9; exact h9)
                      refine V.eq (st' := []) rfl ?_
                      refine v_iinc E 0 rfl dX4_between_111 (zlt hL rfl) (lv' := [(10, vi ((l : Int) + (-1))), (9, vi (k : Int)), (8, .ref (ad (2000 + (16 + 0)))), (7, vi (d : Int)), (6, vi (e : Int)), (4, vj b), (2, vj a), (1, .ref (ad (2000 + j))), (0, .ref (ad 3002))]) rfl ?_
                      refine v_goto E (tgt := 52) dX4_between_114 (by decide) ?_
                      have hN_107 : NS κ ad (bk (va_up (pget σ) (16 + 0) (psT R d a (b - a) (c + 1))) (va_up (va_up f2 1 (R (l - 1))) 1 (R (l - 1) * (b - a)))) H_96 := (by rw [← psT_s R a (b - a) hl (R l * a + R (l - 1) * (b - a)) (by rw [if_neg (by omega)])]; exact hN_106)
                      exact V.eqL (by rw [show (d : Int) - ((c + 1 : Nat) : Int) = (l : Int) + (-1) by omega]) (ih_52  H_96 (c + 1) (va_up (va_up f2 1 (R (l - 1))) 1 (R (l - 1) * (b - a))) (by omega) (by omega) ho_103 hcame_104 hM_102 hN_107)
                    · refine v_goto E (tgt := 111) dX4_between_71 (by decide) ?_
                      refine v_iinc E 0 rfl dX4_between_111 (zlt hL rfl) (lv' := [(10, vi ((l : Int) + (-1))), (9, vi (k : Int)), (8, .ref (ad (2000 + (16 + 0)))), (7, vi (d : Int)), (6, vi (e : Int)), (4, vj b), (2, vj a), (1, .ref (ad (2000 + j))), (0, .ref (ad 3002))]) rfl ?_
                      refine v_goto E (tgt := 52) dX4_between_114 (by decide) ?_
                      have hN_108 : NS κ ad (bk (va_up (pget σ) (16 + 0) (psT R d a (b - a) (c + 1))) f2) H_58 := (by rw [← psT_s R a (b - a) hl (R l * a) (by rw [if_pos (by omega)]; exact (Int.add_zero _).symm)]; exact hN_68)
                      exact V.eqL (by rw [show (d : Int) - ((c + 1 : Nat) : Int) = (l : Int) + (-1) by omega]) (ih_52  H_58 (c + 1) f2 (by omega) (by omega) ho_65 hcame_66 hM_64 hN_108)
              exact V.eqL (by rw [show (d : Int) - ((0 : Nat) : Int) = (d : Int) by omega]) (loop_52 (d + 1 + 1) H 0 f (by omega) (by omega) ho hcame hM (by rw [psT_0]; exact hN))
        exact V.eqL (by rw [show (d : Int) - ((0 : Nat) : Int) = (d : Int) by omega]) (loop_43 (d + 1 + 1) H 0 R σ (by omega) (by omega) (fun k hk => hR9 k (by omega)) ho hcame hM hN)
      · refine v_aload E 1 rfl dX4_between_24 ?_
        refine v_iload E 0 rfl dX4_between_26 ?_
        refine v_aaldS E dX4_between_28 (hM.1 (16 + 0) (by omega)) (t := 3) (ty := (.array .int)) rfl rfl k rfl (by omega) (by omega) (b := (ad (6 + 7 * (16 + 0) + k))) rfl ?_
        refine v_lconst E (x := 0) rfl dX4_between_29 ?_
        refine v_callS E (As := [.ref (ad (6 + 7 * (16 + 0) + k)), vj 0]) (m_set κ H ⟨by decide, by decide⟩ (hN (6 + 7 * (16 + 0) + k) (by omega))) (lw_S q1921 q1922 q82 q1923) 2 (by decide +kernel) rfl (by decide) (by decide) (cb' := 0) (sb' := 0) (by decide) (by decide) rfl (rest := []) (Nat.le_of_ble_eq_true rfl) (fun q h => hAll q ⟨6 + 7 * (16 + 0) + k, by omega, h⟩) dX4_between_30 (fun v_109 H_110 hpost_111 hz_112 hk_113 => ?_)
        clear hz_112
        obtain ⟨rfl, hx_114⟩ := hpost_111
        have hN_115 := hN.set hI (i := (6 + 7 * (16 + 0) + k)) hx_114 hk_113
        have hM_116 := hM.kept hI (A := fun q => q = ad (6 + 7 * (16 + 0) + k)) (fun q h => ⟨6 + 7 * (16 + 0) + k, by omega, h⟩) hk_113
        have ho_117 := ho.far hI (by decide) (A := fun q => q = ad (6 + 7 * (16 + 0) + k)) (fun q h => ⟨6 + 7 * (16 + 0) + k, by omega, h⟩) hk_113
        have hcame_118 := hcame.far hI (by decide) (A := fun q => q = ad (6 + 7 * (16 + 0) + k)) (fun q h => ⟨6 + 7 * (16 + 0) + k, by omega, h⟩) hk_113
        have hN_119 : NS κ ad (bk (va_up (va_up (pget σ) (16 + 0) R) (16 + 0) (va_up ((va_up (pget σ) (16 + 0) R) (16 + 0)) k 0)) σ) H_110 := hN_115.hi (by omega)
        have hN_120 : NS κ ad (bk (va_up (pget σ) (16 + 0) (va_up R k 0)) σ) H_110 := (by have h9 := hN_119; rw [va_upU, va_upj] at h9; exact h9)
        refine V.eq (st' := []) rfl ?_
        refine v_iinc E 0 rfl dX4_between_33 (zlt hL rfl) (lv' := [(9, vi ((k : Int) + 1)), (8, .ref (ad (2000 + (16 + 0)))), (7, vi (d : Int)), (6, vi (e : Int)), (4, vj b), (2, vj a), (1, .ref (ad (2000 + j))), (0, .ref (ad 3002))]) rfl ?_
        refine v_goto E (tgt := 17) dX4_between_36 (by decide) ?_
        exact ih_17  H_110 (k + 1) (va_up R k 0) (by omega) (by omega) (fun m hm => by unfold va_up; split; rfl; exact hR9 m (by omega)) ho_117 hcame_118 hM_116 hN_120
  refine V.sub [0, 1, 2, 7, 6, 5, 4, 3] (lv' := [(9, vi 0), (8, .ref (ad (2000 + (16 + 0)))), (7, vi (d : Int)), (6, vi (e : Int)), (4, vj b), (2, vj a), (1, .ref (ad (2000 + j))), (0, .ref (ad 3002))]) rfl ?_
  exact loop_17 (7 + 1) H_3 0 (pget σ 16) (by omega) (by omega) (fun m hm => by omega) ho_8 hcame_9 hM_7 (by rw [show va_up (pget σ) (16 + 0) (pget σ 16) = pget σ from va_upS _ _]; exact hN_10)
