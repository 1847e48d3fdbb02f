set_option maxHeartbeats 400000 in
set_option maxRecDepth 100000 in
/-- between, at a depth for the first time -/
theorem b_first {κ : zK} {z : zT} (E : zOK z cX4_between RX4 κ 3 70 (some .int)) (hL : z.nL = 15) {H : Heap} {ad : Nat → Nat} {P : Nat → Nat → Int} {f g : Nat → Int} {thr len many N : Int} {a1 a2 a3 a4 j d : Nat} (hAll : ∀ q, (AB ad) q → zA z.A z.H0 q) (hj : j + 1 < 160) (hd : d < 7) (hI : Inj ad) (hM : MS κ ad H) (hN : NS κ ad (bk P f) H) (ho : hp κ H (ad 3002) (.inr (3, MF ad thr len many a1 a2 a3 a4))) (hcame : hp κ H (ad 3005) (eI κ 160 g)) (hg : g j = 0) (hw : ∀ k, k ≤ d → rN (wiF (P (16 + j)) d k)) (K1 : chC (wiF (P (16 + j)) d) (d + 1) < 2 → ∀ (H1 : Heap) (r5 f1 : Nat → Int) {v : Nat}, v = chC (wiF (P (16 + j)) d) (d + 1) → MS κ ad H1 → NS κ ad (bk (va_up P 5 r5) f1) H1 → hp κ H1 (ad 3002) (.inr (3, MF ad thr len many a1 a2 a3 a4)) → hp κ H1 (ad 3005) (eI κ 160 (va_up g j 1)) → V z H1 0 0 173 [(10, vi ((j : Int) + (-1))), (9, vi (N + (v : Int))), (7, vi (d : Int)), (0, .ref (ad 3002))] []) (K2 : 2 ≤ chC (wiF (P (16 + j)) d) (d + 1) → ∀ (H1 : Heap) (r5 S f1 : Nat → Int), (∀ k, k ≤ d → S k = lfF (P (16 + j)) d k) → MS κ ad H1 → NS κ ad (bk (va_up (va_up P 5 r5) (16 + (j + 1)) S) f1) H1 → hp κ H1 (ad 3002) (.inr (3, MF ad thr len many a1 a2 a3 a4)) → hp κ H1 (ad 3005) (eI κ 160 (va_up (va_up g j 1) (j + 1) 0)) → V z H1 0 0 173 [(10, vi ((j : Int) + 1)), (9, vi (N)), (7, vi (d : Int)), (0, .ref (ad 3002))] []) : V z H 0 0 173 [(10, vi (j : Int)), (9, vi N), (7, vi (d : Int)), (0, .ref (ad 3002))] [] := by
  have hAllB := hAll
  have hAll : ∀ q, AN ad q → zA z.A z.H0 q := fun q h => hAllB q (Or.inl h)
  refine v_iload E 0 rfl dX4_between_173 ?_
  refine v_if_lt E (tgt := 355) dX4_between_175 (by decide) ⟨by omega, by omega⟩ (fun c_175 => absurd c_175 (by omega)) (fun c_175 => ?_)
  refine v_aload_n E 3 rfl dX4_between_178 ?_
  refine v_getf E in_X4 ho (ci := 3) rfl 13 (by decide) q1773 rfl (v := .ref (ad 3001)) rfl dX4_between_179 ?_
  refine v_iload E 0 rfl dX4_between_182 ?_
  refine v_aaldS E dX4_between_184 hM.2.2.1 (t := 4) (ty := (.array (.array .int))) rfl rfl j rfl (by omega) (by omega) (b := (ad (2000 + (16 + j)))) (congrArg (fun q => some (ad q)) (by omega)) ?_
  refine v_astore E dX4_between_185 (zlt hL rfl) (lv' := [(11, .ref (ad (2000 + (16 + j)))), (10, vi (j : Int)), (9, vi N), (7, vi (d : Int)), (0, .ref (ad 3002))]) rfl ?_
  refine v_aload_n E 4 rfl dX4_between_187 ?_
  refine v_getf E in_X4 ho (ci := 3) rfl 13 (by decide) q1773 rfl (v := .ref (ad 3001)) rfl dX4_between_188 ?_
  refine v_iload E 1 rfl dX4_between_191 ?_
  refine v_iconst E dX4_between_193 ?_
  refine v_iadd E dX4_between_194 ?_
  refine v_aaldS E dX4_between_195 hM.2.2.1 (t := 4) (ty := (.array (.array .int))) rfl rfl (j + 1) rfl (by omega) (by omega) (b := (ad (2000 + (16 + (j + 1))))) (congrArg (fun q => some (ad q)) (by omega)) ?_
  refine v_astore E dX4_between_196 (zlt hL rfl) (lv' := [(12, .ref (ad (2000 + (16 + (j + 1))))), (11, .ref (ad (2000 + (16 + j)))), (10, vi (j : Int)), (9, vi N), (7, vi (d : Int)), (0, .ref (ad 3002))]) rfl ?_
  refine v_aload_n E 5 rfl dX4_between_198 ?_
  refine v_getf E in_X4 ho (ci := 3) rfl 14 (by decide) q1774 rfl (v := .ref (ad 3005)) rfl dX4_between_199 ?_
  refine v_iload E 2 rfl dX4_between_202 ?_
  refine v_dup2 E rfl rfl dX4_between_204 ?_
  refine v_iald E dX4_between_205 hcame j rfl (by omega) (by omega) ?_
  refine v_iconst E dX4_between_206 ?_
  refine v_iadd E dX4_between_207 ?_
  refine V.topi (x' := 1) (congrArg iZ (by rw [hg]; rfl)) ?_
  refine v_iast E dX4_between_208 hcame j rfl (by omega) (by omega) (hAllB _ (Or.inr rfl)) (fun H_3 hcame_1 hs_2 => ?_)
  have ho_4 := ho.same hs_2 (hI.ne (by decide))
  have hM_5 := hM.same hI hs_2 (by decide)
  have hN_6 := hN.same hI hs_2 (by decide)
  refine v_aload_n E 5 rfl dX4_between_209 ?_
  refine v_getf E in_X4 ho_4 (ci := 3) rfl 14 (by decide) q1774 rfl (v := .ref (ad 3005)) rfl dX4_between_210 ?_
  refine v_iload E 2 rfl dX4_between_213 ?_
  refine v_iald E dX4_between_215 hcame_1 j rfl (by omega) (by omega) ?_
  refine V.topi (x' := 1) (congrArg iZ (va_upj _ _ _)) ?_
  refine v_iconst E dX4_between_216 ?_
  refine v_icmp_ne E (tgt := 294) dX4_between_217 (by decide) ⟨by omega, by omega⟩ ⟨by omega, by omega⟩ (fun c_217 => absurd c_217 (by decide)) (fun c_217 => ?_)
  refine v_aload_n E 5 rfl dX4_between_220 ?_
  refine v_aload E 1 rfl dX4_between_221 ?_
  refine v_iload E 4 rfl dX4_between_223 ?_
  have hqe : ∀ k, k ≤ d → pget (bk P f) (16 + j) k = P (16 + j) k := fun k hk => bk_at _ _ _ _ (by omega)
  refine v_callV E (As := [.ref (ad (2000 + (16 + j))), vi (d : Int)]) (b := (ad 3002)) (ci := 3) (C := RX4) (T := TX4) (N := 27) ho_4 rfl (m_changesWithin κ H_3 (by omega) (by omega) hd hI hM_5 hN_6 ho_4 (fun k hk => by rw [wiF_congr hqe k hk]; exact hw k hk)) (lw_V q2072 q2074 qs64 q82 q2075) 2 (by decide +kernel) rfl (by decide) (by decide) (cb' := 0) (sb' := 0) (by decide) (by decide) rfl (rest := []) (Nat.le_of_ble_eq_true rfl) hAll dX4_between_225 (fun v_7 H_8 hpost_9 hz_10 hk_11 => ?_)
  clear hz_10
  obtain ⟨rfl, r5, hN_12⟩ := hpost_9
  have hM_13 := hM_5.kept hI (A := AN ad) (fun q h => h) hk_11
  have ho_14 := ho_4.far hI (by decide) (A := AN ad) (fun q h => h) hk_11
  have hcame_15 := hcame_1.far hI (by decide) (A := AN ad) (fun q h => h) hk_11
  obtain ⟨v, hv⟩ : ∃ v : Nat, v = chC (wiF (P (16 + j)) d) (d + 1) := ⟨_, rfl⟩
  have hv8 : v ≤ d + 1 := by rw [hv]; exact chC_le _ _
  have hN_16 : NS κ ad (bk (va_up P 5 r5) f) H_8 := NS.flat hN_12
  refine V.eq (st' := [vi (v : Int)]) (by rw [wiC_congr hqe, ← hv]; rfl) ?_
  refine v_istore E dX4_between_228 (zlt hL rfl) (lv' := [(13, vi (v : Int)), (12, .ref (ad (2000 + (16 + (j + 1))))), (11, .ref (ad (2000 + (16 + j)))), (10, vi (j : Int)), (9, vi N), (7, vi (d : Int)), (0, .ref (ad 3002))]) rfl ?_
  refine v_iload E 0 rfl dX4_between_230 ?_
  refine v_iconst E dX4_between_232 ?_
  refine v_icmp_ge E (tgt := 249) dX4_between_233 (by decide) ⟨by omega, by omega⟩ ⟨by omega, by omega⟩ (fun c_233 => ?_) (fun c_233 => ?_)
  · refine v_iconst E dX4_between_249 ?_
    refine v_istore E dX4_between_250 (zlt hL rfl) (lv' := [(14, vi 0), (13, vi (v : Int)), (12, .ref (ad (2000 + (16 + (j + 1))))), (11, .ref (ad (2000 + (16 + j)))), (10, vi (j : Int)), (9, vi N), (7, vi (d : Int)), (0, .ref (ad 3002))]) rfl ?_
    have loop_252 : ∀ (m_252 : Nat) (H : Heap) (k : Nat), d + 1 - k < m_252 → (k ≤ d + 1) → hp κ H (ad 3002) (.inr (3, MF ad thr len many a1 a2 a3 a4)) → hp κ H (ad 3005) (eI κ 160 (va_up g j 1)) → MS κ ad H → NS κ ad (bk (va_up (va_up P 5 r5) (16 + (j + 1)) (lfK (P (16 + j)) (P (16 + (j + 1))) d k)) f) H → V z H 0 0 252 [(14, vi (k : Int)), (12, .ref (ad (2000 + (16 + (j + 1))))), (11, .ref (ad (2000 + (16 + j)))), (10, vi (j : Int)), (9, vi N), (7, vi (d : Int)), (0, .ref (ad 3002))] [] := by
      intro m_252
      induction m_252 with
      | zero => intro H k hm; exact absurd hm (by omega)
      | succ m_252 ih_252 =>
        intro H k hm_252 hk ho hcame hM hN
        refine v_iload E 0 rfl dX4_between_252 ?_
        refine v_iload E 5 rfl dX4_between_254 ?_
        refine v_icmp_gt E (tgt := 291) dX4_between_256 (by decide) ⟨by omega, by omega⟩ ⟨by omega, by omega⟩ (fun c_256 => ?_) (fun c_256 => ?_)
        · refine v_goto E (tgt := 341) dX4_between_291 (by decide) ?_
          refine v_iinc E 3 rfl dX4_between_341 (zlt hL rfl) (lv' := [(10, vi ((j : Int) + 1)), (14, vi (k : Int)), (12, .ref (ad (2000 + (16 + (j + 1))))), (11, .ref (ad (2000 + (16 + j)))), (9, vi N), (7, vi (d : Int)), (0, .ref (ad 3002))]) rfl ?_
          refine v_aload_n E 6 rfl dX4_between_344 ?_
          refine v_getf E in_X4 ho (ci := 3) rfl 14 (by decide) q1774 rfl (v := .ref (ad 3005)) rfl dX4_between_345 ?_
          refine v_iload E 0 rfl dX4_between_348 ?_
          refine v_iconst E dX4_between_350 ?_
          refine v_iast E dX4_between_351 hcame (j + 1) rfl (by omega) (by omega) (hAllB _ (Or.inr rfl)) (fun H_19 hcame_17 hs_18 => ?_)
          have ho_20 := ho.same hs_18 (hI.ne (by decide))
          have hM_21 := hM.same hI hs_18 (by decide)
          have hN_22 := hN.same hI hs_18 (by decide)
          refine v_goto E (tgt := 173) dX4_between_352 (by decide) ?_
          refine V.sub [0, 4, 5, 6] (lv' := [(10, vi ((j : Int) + 1)), (9, vi N), (7, vi (d : Int)), (0, .ref (ad 3002))]) rfl ?_
          exact K2 (by omega) _ r5 _ f (fun k hk => (if_pos (by omega))) hM_21 hN_22 ho_20 hcame_17
        · refine v_aload E 2 rfl dX4_between_259 ?_
          refine v_iload E 0 rfl dX4_between_261 ?_
          refine v_aaldS E dX4_between_263 (hM.1 (16 + j) (by omega)) (t := 3) (ty := (.array .int)) rfl rfl k rfl (by omega) (by omega) (b := (ad (6 + 7 * (16 + j) + k))) rfl ?_
          refine v_aload E 1 rfl dX4_between_264 ?_
          refine v_iload E 0 rfl dX4_between_266 ?_
          refine v_aaldS E dX4_between_268 (hM.1 (16 + (j + 1)) (by omega)) (t := 3) (ty := (.array .int)) rfl rfl k rfl (by omega) (by omega) (b := (ad (6 + 7 * (16 + (j + 1)) + k))) rfl ?_
          have hv_23 : hp κ H (ad (6 + 7 * (16 + j) + k)) (eN κ (P (16 + j) k)) := by
            have e : (bk (va_up (va_up P 5 r5) (16 + (j + 1)) (lfK (P (16 + j)) (P (16 + (j + 1))) d k)) f) (6 + 7 * (16 + j) + k) = P (16 + j) k := (bk_at _ _ _ _ (by omega)).trans (congrFun ((va_upn _ _ (by omega)).trans (va_upn _ _ (by omega))) _)
            rw [← e]; exact (hN (6 + 7 * (16 + j) + k) (by omega))
          refine v_callS E (As := [.ref (ad (6 + 7 * (16 + j) + k)), .ref (ad (6 + 7 * (16 + (j + 1)) + k))]) (m_copy κ H (hI.ne (by omega)) hv_23 (hN (6 + 7 * (16 + (j + 1)) + k) (by omega))) (lw_S q1938 q1939 q82 q1940) 2 (by decide +kernel) rfl (by decide) (by decide) (cb' := 0) (sb' := 0) (by decide) (by decide) rfl (rest := []) (Nat.le_of_ble_eq_true rfl) (fun q h => hAll q ⟨6 + 7 * (16 + (j + 1)) + k, by omega, h⟩) dX4_between_269 (fun v_24 H_25 hpost_26 hz_27 hk_28 => ?_)
          clear hz_27
          obtain ⟨rfl, hx_29⟩ := hpost_26
          have hN_30 := hN.set hI (i := (6 + 7 * (16 + (j + 1)) + k)) hx_29 hk_28
          have hM_31 := hM.kept hI (A := fun q => q = ad (6 + 7 * (16 + (j + 1)) + k)) (fun q h => ⟨6 + 7 * (16 + (j + 1)) + k, by omega, h⟩) hk_28
          have ho_32 := ho.far hI (by decide) (A := fun q => q = ad (6 + 7 * (16 + (j + 1)) + k)) (fun q h => ⟨6 + 7 * (16 + (j + 1)) + k, by omega, h⟩) hk_28
          have hcame_33 := hcame.far hI (by decide) (A := fun q => q = ad (6 + 7 * (16 + (j + 1)) + k)) (fun q h => ⟨6 + 7 * (16 + (j + 1)) + k, by omega, h⟩) hk_28
          have hN_34 : NS κ ad (bk (va_up (va_up (va_up P 5 r5) (16 + (j + 1)) (lfK (P (16 + j)) (P (16 + (j + 1))) d k)) (16 + (j + 1)) (va_up ((va_up (va_up P 5 r5) (16 + (j + 1)) (lfK (P (16 + j)) (P (16 + (j + 1))) d k)) (16 + (j + 1))) k (P (16 + j) k))) f) H_25 := hN_30.hi (by omega)
          have hN_35 : NS κ ad (bk (va_up (va_up P 5 r5) (16 + (j + 1)) (va_up (lfK (P (16 + j)) (P (16 + (j + 1))) d k) k (P (16 + j) k))) f) H_25 := (by have h9 := hN_34; rw [va_upU, va_upj] at h9; exact h9)
          refine V.eq (st' := []) rfl ?_
          refine v_aload E 1 rfl dX4_between_272 ?_
          refine v_iload E 0 rfl dX4_between_274 ?_
          refine v_aaldS E dX4_between_276 (hM_31.1 (16 + (j + 1)) (by omega)) (t := 3) (ty := (.array .int)) rfl rfl k rfl (by omega) (by omega) (b := (ad (6 + 7 * (16 + (j + 1)) + k))) rfl ?_
          refine v_iload E 5 rfl dX4_between_277 ?_
          refine v_iload E 0 rfl dX4_between_279 ?_
          refine v_isub E dX4_between_281 ?_
          refine V.topi (x' := ((d - k : Nat) : Int)) (congrArg iZ (by omega)) ?_
          have hv_36 : hp κ H_25 (ad (6 + 7 * (16 + (j + 1)) + k)) (eN κ (P (16 + j) k)) := by
            have e : (bk (va_up (va_up P 5 r5) (16 + (j + 1)) (va_up (lfK (P (16 + j)) (P (16 + (j + 1))) d k) k (P (16 + j) k))) f) (6 + 7 * (16 + (j + 1)) + k) = P (16 + j) k := (bk_at _ _ _ _ (by omega)).trans ((congrFun (va_upj _ _ _) _).trans (va_upj _ _ _))
            rw [← e]; exact (hN_35 (6 + 7 * (16 + (j + 1)) + k) (by omega))
          refine v_callS E (As := [.ref (ad (6 + 7 * (16 + (j + 1)) + k)), vi ((d - k : Nat) : Int)]) (m_left' κ H_25 (by omega) hv_36) (lw_S q1976 q1977 q82 q1978) 2 (by decide +kernel) rfl (by decide) (by decide) (cb' := 0) (sb' := 0) (by decide) (by decide) rfl (rest := []) (Nat.le_of_ble_eq_true rfl) (fun q h => hAll q ⟨6 + 7 * (16 + (j + 1)) + k, by omega, h⟩) dX4_between_282 (fun v_37 H_38 hpost_39 hz_40 hk_41 => ?_)
          clear hz_40
          obtain ⟨rfl, hx_42⟩ := hpost_39
          have hN_43 := hN_35.set hI (i := (6 + 7 * (16 + (j + 1)) + k)) hx_42 hk_41
          have hM_44 := hM_31.kept hI (A := fun q => q = ad (6 + 7 * (16 + (j + 1)) + k)) (fun q h => ⟨6 + 7 * (16 + (j + 1)) + k, by omega, h⟩) hk_41
          have ho_45 := ho_32.far hI (by decide) (A := fun q => q = ad (6 + 7 * (16 + (j + 1)) + k)) (fun q h => ⟨6 + 7 * (16 + (j + 1)) + k, by omega, h⟩) hk_41
          have hcame_46 := hcame_33.far hI (by decide) (A := fun q => q = ad (6 + 7 * (16 + (j + 1)) + k)) (fun q h => ⟨6 + 7 * (16 + (j + 1)) + k, by omega, h⟩) hk_41
          have hN_47 : NS κ ad (bk (va_up (va_up (va_up P 5 r5) (16 + (j + 1)) (va_up (lfK (P (16 + j)) (P (16 + (j + 1))) d k) k (P (16 + j) k))) (16 + (j + 1)) (va_up ((va_up (va_up P 5 r5) (16 + (j + 1)) (va_up (lfK (P (16 + j)) (P (16 + (j + 1))) d k) k (P (16 + j) k))) (16 + (j + 1))) k (P (16 + j) k * 2 ^ (d - k)))) f) H_38 := hN_43.hi (by omega)
          have hN_48 : NS κ ad (bk (va_up (va_up P 5 r5) (16 + (j + 1)) (lfK (P (16 + j)) (P (16 + (j + 1))) d (k + 1))) f) H_38 := (by have h9 := hN_47; rw [va_upU, va_upj, va_upU, lfK_s] at h9; exact h9)
          refine V.eq (st' := []) rfl ?_
          refine v_iinc E 0 rfl dX4_between_285 (zlt hL rfl) (lv' := [(14, vi ((k : Int) + 1)), (12, .ref (ad (2000 + (16 + (j + 1))))), (11, .ref (ad (2000 + (16 + j)))), (10, vi (j : Int)), (9, vi N), (7, vi (d : Int)), (0, .ref (ad 3002))]) rfl ?_
          refine v_goto E (tgt := 252) dX4_between_288 (by decide) ?_
          exact ih_252  H_38 (k + 1) (by omega) (by omega) ho_45 hcame_46 hM_44 hN_48
    refine V.sub [0, 2, 3, 4, 5, 6, 7] (lv' := [(14, vi 0), (12, .ref (ad (2000 + (16 + (j + 1))))), (11, .ref (ad (2000 + (16 + j)))), (10, vi (j : Int)), (9, vi N), (7, vi (d : Int)), (0, .ref (ad 3002))]) rfl ?_
    exact loop_252 (d + 1 + 1) H_8 0 (by omega) (by omega) ho_14 hcame_15 hM_13 (by rw [lfK_0, show va_up (va_up P 5 r5) (16 + (j + 1)) (P (16 + (j + 1))) = va_up P 5 r5 from by rw [← va_upn P r5 (show 16 + (j + 1) ≠ 5 by omega)]; exact va_upS _ _]; exact hN_16)
  · refine v_iload E 4 rfl dX4_between_236 ?_
    refine v_iload E 0 rfl dX4_between_238 ?_
    refine v_iadd E dX4_between_240 ?_
    refine v_istore E dX4_between_241 (zlt hL rfl) (lv' := [(9, vi (N + (v : Int))), (13, vi (v : Int)), (12, .ref (ad (2000 + (16 + (j + 1))))), (11, .ref (ad (2000 + (16 + j)))), (10, vi (j : Int)), (7, vi (d : Int)), (0, .ref (ad 3002))]) rfl ?_
    refine v_iinc E 4 rfl dX4_between_243 (zlt hL rfl) (lv' := [(10, vi ((j : Int) + (-1))), (9, vi (N + (v : Int))), (13, vi (v : Int)), (12, .ref (ad (2000 + (16 + (j + 1))))), (11, .ref (ad (2000 + (16 + j)))), (7, vi (d : Int)), (0, .ref (ad 3002))]) rfl ?_
    refine v_goto E (tgt := 173) dX4_between_246 (by decide) ?_
    refine V.sub [0, 1, 5, 6] (lv' := [(10, vi ((j : Int) + (-1))), (9, vi (N + (v : Int))), (7, vi (d : Int)), (0, .ref (ad 3002))]) rfl ?_
    exact K1 (by omega) _ r5 f hv hM_13 hN_16 ho_14 hcame_15

set_option maxHeartbeats 400000 in
set_option maxRecDepth 100000 in
/-- between, at a depth for the second time -/
theorem b_second {κ : zK} {z : zT} (E : zOK z cX4_between RX4 κ 3 70 (some .int)) (hL : z.nL = 15) {H : Heap} {ad : Nat → Nat} {P : Nat → Nat → Int} {f g : Nat → Int} {thr len many N : Int} {a1 a2 a3 a4 j d : Nat} (hAll : ∀ q, (AB ad) q → zA z.A z.H0 q) (hj : j + 1 < 160) (hd : d < 7) (hI : Inj ad) (hM : MS κ ad H) (hN : NS κ ad (bk P f) H) (ho : hp κ H (ad 3002) (.inr (3, MF ad thr len many a1 a2 a3 a4))) (hcame : hp κ H (ad 3005) (eI κ 160 g)) (hg : g j = 1) (hw : rN (mvF (P (16 + (j + 1))) d d 0)) (K : ∀ (H1 : Heap) (f1 : Nat → Int) (w : Int), w = (if mvF (P (16 + (j + 1))) d d 0 = 0 then 1 else 0) → MS κ ad H1 → NS κ ad (bk (va_up P (16 + (j + 1)) (mvF (P (16 + (j + 1))) d d)) f1) H1 → hp κ H1 (ad 3002) (.inr (3, MF ad thr len many a1 a2 a3 a4)) → hp κ H1 (ad 3005) (eI κ 160 (va_up (va_up g j 2) (j + 1) 0)) → V z H1 0 0 173 [(10, vi ((j : Int) + 1)), (9, vi (N + w)), (7, vi (d : Int)), (0, .ref (ad 3002))] []) : V z H 0 0 173 [(10, vi (j : Int)), (9, vi N), (7, vi (d : Int)), (0, .ref (ad 3002))] [] := by
  have hAllB := hAll
  have hAll : ∀ q, AN ad q → zA z.A z.H0 q := fun q h => hAllB q (Or.inl h)
  refine v_iload E 0 rfl dX4_between_173 ?_
  refine v_if_lt E (tgt := 355) dX4_between_175 (by decide) ⟨by omega, by omega⟩ (fun c_175 => absurd c_175 (by omega)) (fun c_175 => ?_)
  refine v_aload_n E 3 rfl dX4_between_178 ?_
  refine v_getf E in_X4 ho (ci := 3) rfl 13 (by decide) q1773 rfl (v := .ref (ad 3001)) rfl dX4_between_179 ?_
  refine v_iload E 0 rfl dX4_between_182 ?_
  refine v_aaldS E dX4_between_184 hM.2.2.1 (t := 4) (ty := (.array (.array .int))) rfl rfl j rfl (by omega) (by omega) (b := (ad (2000 + (16 + j)))) (congrArg (fun q => some (ad q)) (by omega)) ?_
  refine v_astore E dX4_between_185 (zlt hL rfl) (lv' := [(11, .ref (ad (2000 + (16 + j)))), (10, vi (j : Int)), (9, vi N), (7, vi (d : Int)), (0, .ref (ad 3002))]) rfl ?_
  refine v_aload_n E 4 rfl dX4_between_187 ?_
  refine v_getf E in_X4 ho (ci := 3) rfl 13 (by decide) q1773 rfl (v := .ref (ad 3001)) rfl dX4_between_188 ?_
  refine v_iload E 1 rfl dX4_between_191 ?_
  refine v_iconst E dX4_between_193 ?_
  refine v_iadd E dX4_between_194 ?_
  refine v_aaldS E dX4_between_195 hM.2.2.1 (t := 4) (ty := (.array (.array .int))) rfl rfl (j + 1) rfl (by omega) (by omega) (b := (ad (2000 + (16 + (j + 1))))) (congrArg (fun q => some (ad q)) (by omega)) ?_
  refine v_astore E dX4_between_196 (zlt hL rfl) (lv' := [(12, .ref (ad (2000 + (16 + (j + 1))))), (11, .ref (ad (2000 + (16 + j)))), (10, vi (j : Int)), (9, vi N), (7, vi (d : Int)), (0, .ref (ad 3002))]) rfl ?_
  refine v_aload_n E 5 rfl dX4_between_198 ?_
  refine v_getf E in_X4 ho (ci := 3) rfl 14 (by decide) q1774 rfl (v := .ref (ad 3005)) rfl dX4_between_199 ?_
  refine v_iload E 2 rfl dX4_between_202 ?_
  refine v_dup2 E rfl rfl dX4_between_204 ?_
  refine v_iald E dX4_between_205 hcame j rfl (by omega) (by omega) ?_
  refine v_iconst E dX4_between_206 ?_
  refine v_iadd E dX4_between_207 ?_
  refine V.topi (x' := 2) (congrArg iZ (by rw [hg]; rfl)) ?_
  refine v_iast E dX4_between_208 hcame j rfl (by omega) (by omega) (hAllB _ (Or.inr rfl)) (fun H_3 hcame_1 hs_2 => ?_)
  have ho_4 := ho.same hs_2 (hI.ne (by decide))
  have hM_5 := hM.same hI hs_2 (by decide)
  have hN_6 := hN.same hI hs_2 (by decide)
  refine v_aload_n E 5 rfl dX4_between_209 ?_
  refine v_getf E in_X4 ho_4 (ci := 3) rfl 14 (by decide) q1774 rfl (v := .ref (ad 3005)) rfl dX4_between_210 ?_
  refine v_iload E 2 rfl dX4_between_213 ?_
  refine v_iald E dX4_between_215 hcame_1 j rfl (by omega) (by omega) ?_
  refine V.topi (x' := 2) (congrArg iZ (va_upj _ _ _)) ?_
  refine v_iconst E dX4_between_216 ?_
  refine v_icmp_ne E (tgt := 294) dX4_between_217 (by decide) ⟨by omega, by omega⟩ ⟨by omega, by omega⟩ (fun c_217 => ?_) (fun c_217 => absurd c_217 (by decide))
  refine v_aload_n E 5 rfl dX4_between_294 ?_
  refine v_getf E in_X4 ho_4 (ci := 3) rfl 14 (by decide) q1774 rfl (v := .ref (ad 3005)) rfl dX4_between_295 ?_
  refine v_iload E 2 rfl dX4_between_298 ?_
  refine v_iald E dX4_between_300 hcame_1 j rfl (by omega) (by omega) ?_
  refine V.topi (x' := 2) (congrArg iZ (va_upj _ _ _)) ?_
  refine v_iconst E dX4_between_301 ?_
  refine v_icmp_ne E (tgt := 335) dX4_between_302 (by decide) ⟨by omega, by omega⟩ ⟨by omega, by omega⟩ (fun c_302 => absurd c_302 (by decide)) (fun c_302 => ?_)
  refine v_aload E 0 rfl dX4_between_305 ?_
  refine v_iload E 4 rfl dX4_between_307 ?_
  have hqe : eq7 (pget (bk P f) (16 + (j + 1))) (P (16 + (j + 1))) := bk_get
  refine v_callS E (As := [.ref (ad (2000 + (16 + (j + 1)))), vi (d : Int)]) (m_moves κ H_3 (by omega) hd hI hM_5 hN_6) (lw_S q2076 q2077 q82 q2078) 2 (by decide +kernel) rfl (by decide) (by decide) (cb' := 0) (sb' := 0) (by decide) (by decide) rfl (rest := []) (Nat.le_of_ble_eq_true rfl) hAll dX4_between_309 (fun v_7 H_8 hpost_9 hz_10 hk_11 => ?_)
  clear hz_10
  obtain ⟨rfl, hN_12⟩ := hpost_9
  have hM_13 := hM_5.kept hI (A := AN ad) (fun q h => h) hk_11
  have ho_14 := ho_4.far hI (by decide) (A := AN ad) (fun q h => h) hk_11
  have hcame_15 := hcame_1.far hI (by decide) (A := AN ad) (fun q h => h) hk_11
  have hN_16 : NS κ ad (bk (va_up P (16 + (j + 1)) (mvF (P (16 + (j + 1))) d d)) f) H_8 := (NS.flat hN_12).ofBk (va_upPc (fun k hk => mvF_congr (by omega) hqe d k hk)) (fun _ _ => rfl)
  refine V.eq (st' := []) rfl ?_
  refine v_iload E 3 rfl dX4_between_312 ?_
  refine v_aload E 0 rfl dX4_between_314 ?_
  refine v_iconst E dX4_between_316 ?_
  refine v_aaldS E dX4_between_317 (hM_13.1 (16 + (j + 1)) (by omega)) (t := 3) (ty := (.array .int)) rfl rfl 0 rfl (by omega) (by omega) (b := (ad (6 + 7 * (16 + (j + 1)) + 0))) rfl ?_
  have hv_17 : hp κ H_8 (ad (6 + 7 * (16 + (j + 1)) + 0)) (eN κ (mvF (P (16 + (j + 1))) d d 0)) := by
    have e : (bk (va_up P (16 + (j + 1)) (mvF (P (16 + (j + 1))) d d)) f) (6 + 7 * (16 + (j + 1)) + 0) = mvF (P (16 + (j + 1))) d d 0 := (bk_at _ _ _ _ (by omega)).trans (congrFun (va_upj _ _ _) _)
    rw [← e]; exact (hN_16 (6 + 7 * (16 + (j + 1)) + 0) (by omega))
  refine v_callS E (As := [.ref (ad (6 + 7 * (16 + (j + 1)) + 0))]) (m_sign κ H_8 hw hv_17) (lw_S q1931 q1932 q82 q1933) 1 (by decide +kernel) rfl (by decide) (by decide) (cb' := 0) (sb' := 0) (by decide) (by decide) rfl (rest := [vi N]) (Nat.le_of_ble_eq_true rfl) (fun q h => h.elim) dX4_between_318 (fun v_18 H_19 hpost_20 hz_21 hk_22 => ?_)
  clear hz_21
  obtain rfl := hpost_20
  have hM_23 := hM_13.kept hI (A := fun _ => False) (fun q h => h.elim) hk_22
  have ho_24 := ho_14.far hI (by decide) (A := fun _ => False) (fun q h => h.elim) hk_22
  have hcame_25 := hcame_15.far hI (by decide) (A := fun _ => False) (fun q h => h.elim) hk_22
  have hN_26 := hN_16.kept0 hk_22
  have hsr := rsign3 (mvF (P (16 + (j + 1))) d d 0)
  refine V.eq (st' := [vi ((mvF (P (16 + (j + 1))) d d 0).sign), vi N]) rfl ?_
  refine v_if_ne E (tgt := 328) dX4_between_321 (by decide) ⟨by omega, by omega⟩ (fun c_321 => ?_) (fun c_321 => ?_)
  · refine v_iconst E dX4_between_328 ?_
    refine v_iadd E dX4_between_329 ?_
    refine v_istore E dX4_between_330 (zlt hL rfl) (lv' := [(9, vi (N + 0)), (12, .ref (ad (2000 + (16 + (j + 1))))), (11, .ref (ad (2000 + (16 + j)))), (10, vi (j : Int)), (7, vi (d : Int)), (0, .ref (ad 3002))]) rfl ?_
    refine v_goto E (tgt := 341) dX4_between_332 (by decide) ?_
    refine v_iinc E 3 rfl dX4_between_341 (zlt hL rfl) (lv' := [(10, vi ((j : Int) + 1)), (9, vi (N + 0)), (12, .ref (ad (2000 + (16 + (j + 1))))), (11, .ref (ad (2000 + (16 + j)))), (7, vi (d : Int)), (0, .ref (ad 3002))]) rfl ?_
    refine v_aload_n E 5 rfl dX4_between_344 ?_
    refine v_getf E in_X4 ho_24 (ci := 3) rfl 14 (by decide) q1774 rfl (v := .ref (ad 3005)) rfl dX4_between_345 ?_
    refine v_iload E 0 rfl dX4_between_348 ?_
    refine v_iconst E dX4_between_350 ?_
    refine v_iast E dX4_between_351 hcame_25 (j + 1) rfl (by omega) (by omega) (hAllB _ (Or.inr rfl)) (fun H_29 hcame_27 hs_28 => ?_)
    have ho_30 := ho_24.same hs_28 (hI.ne (by decide))
    have hM_31 := hM_23.same hI hs_28 (by decide)
    have hN_32 := hN_26.same hI hs_28 (by decide)
    refine v_goto E (tgt := 173) dX4_between_352 (by decide) ?_
    refine V.sub [0, 1, 4, 5] (lv' := [(10, vi ((j : Int) + 1)), (9, vi (N + 0)), (7, vi (d : Int)), (0, .ref (ad 3002))]) rfl ?_
    exact K _ f 0 (by rw [if_neg (fun h => by rw [h] at c_321; exact c_321 rfl)]) hM_31 hN_32 ho_30 hcame_27
  · refine v_iconst E dX4_between_324 ?_
    refine v_goto E (tgt := 329) dX4_between_325 (by decide) ?_
    refine v_iadd E dX4_between_329 ?_
    refine v_istore E dX4_between_330 (zlt hL rfl) (lv' := [(9, vi (N + 1)), (12, .ref (ad (2000 + (16 + (j + 1))))), (11, .ref (ad (2000 + (16 + j)))), (10, vi (j : Int)), (7, vi (d : Int)), (0, .ref (ad 3002))]) rfl ?_
    refine v_goto E (tgt := 341) dX4_between_332 (by decide) ?_
    refine v_iinc E 3 rfl dX4_between_341 (zlt hL rfl) (lv' := [(10, vi ((j : Int) + 1)), (9, vi (N + 1)), (12, .ref (ad (2000 + (16 + (j + 1))))), (11, .ref (ad (2000 + (16 + j)))), (7, vi (d : Int)), (0, .ref (ad 3002))]) rfl ?_
    refine v_aload_n E 5 rfl dX4_between_344 ?_
    refine v_getf E in_X4 ho_24 (ci := 3) rfl 14 (by decide) q1774 rfl (v := .ref (ad 3005)) rfl dX4_between_345 ?_
    refine v_iload E 0 rfl dX4_between_348 ?_
    refine v_iconst E dX4_between_350 ?_
    refine v_iast E dX4_between_351 hcame_25 (j + 1) rfl (by omega) (by omega) (hAllB _ (Or.inr rfl)) (fun H_35 hcame_33 hs_34 => ?_)
    have ho_36 := ho_24.same hs_34 (hI.ne (by decide))
    have hM_37 := hM_23.same hI hs_34 (by decide)
    have hN_38 := hN_26.same hI hs_34 (by decide)
    refine v_goto E (tgt := 173) dX4_between_352 (by decide) ?_
    refine V.sub [0, 1, 4, 5] (lv' := [(10, vi ((j : Int) + 1)), (9, vi (N + 1)), (7, vi (d : Int)), (0, .ref (ad 3002))]) rfl ?_
    exact K _ f 1 (by rw [if_pos (Int.sign_eq_zero_iff_zero.mp (by omega))]) hM_37 hN_38 ho_36 hcame_33

set_option maxHeartbeats 400000 in
set_option maxRecDepth 100000 in
/-- between, at a depth for the third time -/
theorem b_third {κ : zK} {z : zT} (E : zOK z cX4_between RX4 κ 3 70 (some .int)) (hL : z.nL = 15) {H : Heap} {ad : Nat → Nat} {P : Nat → Nat → Int} {f g : Nat → Int} {thr len many N : Int} {a1 a2 a3 a4 j d : Nat} (hAll : ∀ q, (AB ad) q → zA z.A z.H0 q) (hj : j + 1 < 160) (hd : d < 7) (hI : Inj ad) (hM : MS κ ad H) (hN : NS κ ad (bk P f) H) (ho : hp κ H (ad 3002) (.inr (3, MF ad thr len many a1 a2 a3 a4))) (hcame : hp κ H (ad 3005) (eI κ 160 g)) (hg : g j = 2)  (K : ∀ (H1 : Heap) (f1 : Nat → Int), MS κ ad H1 → NS κ ad (bk P f1) H1 → hp κ H1 (ad 3002) (.inr (3, MF ad thr len many a1 a2 a3 a4)) → hp κ H1 (ad 3005) (eI κ 160 (va_up g j 3)) → V z H1 0 0 173 [(10, vi ((j : Int) + (-1))), (9, vi (N)), (7, vi (d : Int)), (0, .ref (ad 3002))] []) : V z H 0 0 173 [(10, vi (j : Int)), (9, vi N), (7, vi (d : Int)), (0, .ref (ad 3002))] [] := by
  have hAllB := hAll
  have hAll : ∀ q, AN ad q → zA z.A z.H0 q := fun q h => hAllB q (Or.inl h)
  refine v_iload E 0 rfl dX4_between_173 ?_
  refine v_if_lt E (tgt := 355) dX4_between_175 (by decide) ⟨by omega, by omega⟩ (fun c_175 => absurd c_175 (by omega)) (fun c_175 => ?_)
  refine v_aload_n E 3 rfl dX4_between_178 ?_
  refine v_getf E in_X4 ho (ci := 3) rfl 13 (by decide) q1773 rfl (v := .ref (ad 3001)) rfl dX4_between_179 ?_
  refine v_iload E 0 rfl dX4_between_182 ?_
  refine v_aaldS E dX4_between_184 hM.2.2.1 (t := 4) (ty := (.array (.array .int))) rfl rfl j rfl (by omega) (by omega) (b := (ad (2000 + (16 + j)))) (congrArg (fun q => some (ad q)) (by omega)) ?_
  refine v_astore E dX4_between_185 (zlt hL rfl) (lv' := [(11, .ref (ad (2000 + (16 + j)))), (10, vi (j : Int)), (9, vi N), (7, vi (d : Int)), (0, .ref (ad 3002))]) rfl ?_
  refine v_aload_n E 4 rfl dX4_between_187 ?_
  refine v_getf E in_X4 ho (ci := 3) rfl 13 (by decide) q1773 rfl (v := .ref (ad 3001)) rfl dX4_between_188 ?_
  refine v_iload E 1 rfl dX4_between_191 ?_
  refine v_iconst E dX4_between_193 ?_
  refine v_iadd E dX4_between_194 ?_
  refine v_aaldS E dX4_between_195 hM.2.2.1 (t := 4) (ty := (.array (.array .int))) rfl rfl (j + 1) rfl (by omega) (by omega) (b := (ad (2000 + (16 + (j + 1))))) (congrArg (fun q => some (ad q)) (by omega)) ?_
  refine v_astore E dX4_between_196 (zlt hL rfl) (lv' := [(12, .ref (ad (2000 + (16 + (j + 1))))), (11, .ref (ad (2000 + (16 + j)))), (10, vi (j : Int)), (9, vi N), (7, vi (d : Int)), (0, .ref (ad 3002))]) rfl ?_
  refine v_aload_n E 5 rfl dX4_between_198 ?_
  refine v_getf E in_X4 ho (ci := 3) rfl 14 (by decide) q1774 rfl (v := .ref (ad 3005)) rfl dX4_between_199 ?_
  refine v_iload E 2 rfl dX4_between_202 ?_
  refine v_dup2 E rfl rfl dX4_between_204 ?_
  refine v_iald E dX4_between_205 hcame j rfl (by omega) (by omega) ?_
  refine v_iconst E dX4_between_206 ?_
  refine v_iadd E dX4_between_207 ?_
  refine V.topi (x' := 3) (congrArg iZ (by rw [hg]; rfl)) ?_
  refine v_iast E dX4_between_208 hcame j rfl (by omega) (by omega) (hAllB _ (Or.inr rfl)) (fun H_3 hcame_1 hs_2 => ?_)
  have ho_4 := ho.same hs_2 (hI.ne (by decide))
  have hM_5 := hM.same hI hs_2 (by decide)
  have hN_6 := hN.same hI hs_2 (by decide)
  refine v_aload_n E 5 rfl dX4_between_209 ?_
  refine v_getf E in_X4 ho_4 (ci := 3) rfl 14 (by decide) q1774 rfl (v := .ref (ad 3005)) rfl dX4_between_210 ?_
  refine v_iload E 2 rfl dX4_between_213 ?_
  refine v_iald E dX4_between_215 hcame_1 j rfl (by omega) (by omega) ?_
  refine V.topi (x' := 3) (congrArg iZ (va_upj _ _ _)) ?_
  refine v_iconst E dX4_between_216 ?_
  refine v_icmp_ne E (tgt := 294) dX4_between_217 (by decide) ⟨by omega, by omega⟩ ⟨by omega, by omega⟩ (fun c_217 => ?_) (fun c_217 => absurd c_217 (by decide))
  refine v_aload_n E 5 rfl dX4_between_294 ?_
  refine v_getf E in_X4 ho_4 (ci := 3) rfl 14 (by decide) q1774 rfl (v := .ref (ad 3005)) rfl dX4_between_295 ?_
  refine v_iload E 2 rfl dX4_between_298 ?_
  refine v_iald E dX4_between_300 hcame_1 j rfl (by omega) (by omega) ?_
  refine V.topi (x' := 3) (congrArg iZ (va_upj _ _ _)) ?_
  refine v_iconst E dX4_between_301 ?_
  refine v_icmp_ne E (tgt := 335) dX4_between_302 (by decide) ⟨by omega, by omega⟩ ⟨by omega, by omega⟩ (fun c_302 => ?_) (fun c_302 => absurd c_302 (by decide))
  refine v_iinc E 2 rfl dX4_between_335 (zlt hL rfl) (lv' := [(10, vi ((j : Int) + (-1))), (12, .ref (ad (2000 + (16 + (j + 1))))), (11, .ref (ad (2000 + (16 + j)))), (9, vi N), (7, vi (d : Int)), (0, .ref (ad 3002))]) rfl ?_
  refine v_goto E (tgt := 173) dX4_between_338 (by decide) ?_
  refine V.sub [0, 3, 4, 5] (lv' := [(10, vi ((j : Int) + (-1))), (9, vi N), (7, vi (d : Int)), (0, .ref (ad 3002))]) rfl ?_
  exact K _ f hM_5 hN_6 ho_4 hcame_1
