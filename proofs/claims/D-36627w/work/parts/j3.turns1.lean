/-! THE LAW's TURNS over the slots (printed by tools/m_j3.py) -/
theorem lw_hAc {z : zT} {κ : zK} {ad : Nat → Nat} {a1 a2 a3 a4 oa a0 : Nat} {H : Heap} (hz0 : z.H0.size ≤ κ.2 93) (hE : lwE κ ad a1 a2 a3 a4 oa a0) : ∀ q, (pA κ H q ∨ q = oa) → zA z.A z.H0 q := fun q h => Or.inr (h.elim (fun e => Nat.le_trans hz0 e.1) (fun e => by
  obtain ⟨_, ⟨h1, h2, _⟩, h4, _⟩ := hE
  have g1 := nle (h2 0 (by decide)).1
  have g2 := (h2 0 (by decide)).2
  have g3 := nle h1
  have g4 := nle hz0
  subst e
  exact nle (by omega)))
theorem lw_hAm {z : zT} {κ : zK} {ad : Nat → Nat} {a1 a2 a3 a4 oa a0 : Nat} (hz0 : z.H0.size ≤ κ.2 93) (hE : lwE κ ad a1 a2 a3 a4 oa a0) : ∀ q, AI ad a1 a2 a3 a4 q → zA z.A z.H0 q := fun q h => Or.inr (Nat.le_trans hz0 (hE.nq h).2.2)
theorem relI.up {c : Nat} {P0 : Option Pl} {K F : Nat → Int} {n : Nat} {iv : Nat → Ivl} {many : Int} {lv lo hi rt : Nat → Int} (h : relI c P0 K F n iv many lv lo hi rt) : relI (c + 1) P0 K F n iv many lv lo hi rt := ⟨h.1, h.2.1, h.2.2.1, h.2.2.2.1, by have := h.2.2.2.2; omega⟩
theorem rI_many {c : Nat} {P0 : Option Pl} {K F : Nat → Int} {n : Nat} {iv : Nat → Ivl} {many : Int} {lv lo hi rt : Nat → Int} (h : relI c P0 K F n iv many lv lo hi rt) (hc : c < 42) : 0 ≤ many ∧ many ≤ ((64 : Nat) : Int) := by
  have h1 := h.few
  have h2 := h.1
  omega
theorem eq7.trans' {p q r : Nat → Int} (h : eq7 p q) (h2 : eq7 q r) : eq7 p r := fun k hk => (h k hk).trans (h2 k hk)
set_option maxHeartbeats 400000 in
/-- set -/
theorem l_set {z : zT} {κ : zK} {ad : Nat → Nat} {a1 a2 a3 a4 x oa a0 N c j fr lo9 : Nat} {fS : Nat → Int} {H : Heap} {cb sb : Nat} (E : zOK z cL_law RX0 κ fr lo9 (some .boolean)) (X9 : zLw z) (hfr : 30 ≤ fr) (hlo : 700 ≤ lo9) (hz0 : z.H0.size ≤ κ.2 93) (hL : z.nL = 8) (hE : lwE κ ad a1 a2 a3 a4 oa a0) (hrI : ∀ k, rI (fS k)) (h : lwI κ ad a1 a2 a3 a4 x oa a0 N fS c H) (hc : c < 42) (hj : j + 6 ≤ N) (hN : N ≤ 252) (K9 : ∀ H1 : Heap, lwI κ ad a1 a2 a3 a4 x oa a0 N fS (c + 1) H1 → V z H1 cb sb 2204 (lwL x (ad 3002) oa a0 j) []) : V z H (cb + 28500) (sb + 129000) 180 (lwL x (ad 3002) oa a0 j) [] := by
  obtain ⟨hC, hA, ⟨g0, ho⟩, Sc, isoP, n, cap, iv, Sm, K, F, many, thr, lv, lo, hi, rt, P, f, g, mk, len, hP, hB, hV, hS, hR, hF7, hcap⟩ := h
  obtain ⟨hI, hreg, hou, h0⟩ := id hE
  have hD := hC.D
  obtain ⟨fsx, hx⟩ := hP.hx
  have hoA : ¬ pA κ H oa := mK.pA hD (Or.inr (Or.inl ⟨1, g0, ho⟩))
  have hM := c_set κ H (hrI (j + 1)) (hrI (j + 2)) (hrI (j + 3)) hC hS.bC hP
  rw [vi_rp (xoSet Sc (fS (j + 1)) (fS (j + 2)) (fS (j + 3))).1] at hM
  have hR9 := okr_Set Sc (fS (j + 1)) (fS (j + 2)) (fS (j + 3))
  refine v_aload_n E 3 rfl dL_law_180 ?_
  refine l_arg E (k := 1) ⟨by decide, by decide⟩ 4 0 rfl rfl hA hj hN dL_law_181 dL_law_182 dL_law_184 dL_law_185 dL_law_186 ?_
  refine l_arg E (k := 2) ⟨by decide, by decide⟩ 4 0 rfl rfl hA hj hN dL_law_187 dL_law_188 dL_law_190 dL_law_191 dL_law_192 ?_
  refine l_arg E (k := 3) ⟨by decide, by decide⟩ 4 0 rfl rfl hA hj hN dL_law_193 dL_law_194 dL_law_196 dL_law_197 dL_law_198 ?_
  refine v_aload_n E 1 rfl dL_law_199 ?_
  refine v_callSK E X9 (As := [.ref x, vi (fS (j + 1)), vi (fS (j + 2)), vi (fS (j + 3)), .ref oa]) (w_set κ H hx ho (fun _ => rp_r _) hoA hM (hk_CP hD)) (lw_SW q529 q530 q69 q531) 5 (by decide +kernel) rfl (by omega) (by omega) (cb' := cb + 4) (sb' := sb + 512) (by omega) (by omega) rfl (rest := []) (Nat.le_of_ble_eq_true rfl) (lw_hAc hz0 hE) dL_law_200 (fun v9 H1 hp9 hz9 hk9 => ?_)
  obtain ⟨rfl, hcase⟩ := hp9
  obtain ⟨hP1, g2, ho1, hg2⟩ := s_post (PO := fun H1 => CP κ H1 x (xoSet Sc (fS (j + 1)) (fS (j + 2)) (fS (j + 3))).2.2 isoP n cap iv) (PX := fun H1 => CP κ H1 x Sc isoP n cap iv) (PR := fun H1 => CP κ H1 x (xoSet Sc (fS (j + 1)) (fS (j + 2)) (fS (j + 3))).2.2 isoP n cap iv) hcase (fun h => h) (fun hne h => by rw [hR9.1 hne]; exact h)
  obtain ⟨hC1, hA1, hB1, hV1⟩ := lw_c hE hC hA hB hV hz9 hk9
  obtain ⟨e1, e2, hS1⟩ := ag_set hS (fS (j + 1)) (fS (j + 2)) (fS (j + 3))
  refine v_istore E dL_law_203 (by rw [hL]; decide) (lv' := (5, vi (xoSet Sc (fS (j + 1)) (fS (j + 2)) (fS (j + 3))).2.1) :: lwL x (ad 3002) oa a0 j) rfl ?_
  refine v_aload_n E 3 rfl dL_law_205 ?_
  refine l_arg E (k := 1) ⟨by decide, by decide⟩ 5 1 rfl rfl hA1 hj hN dL_law_206 dL_law_207 dL_law_209 dL_law_210 dL_law_211 ?_
  refine l_arg E (k := 2) ⟨by decide, by decide⟩ 5 1 rfl rfl hA1 hj hN dL_law_212 dL_law_213 dL_law_215 dL_law_216 dL_law_217 ?_
  refine l_arg E (k := 3) ⟨by decide, by decide⟩ 5 1 rfl rfl hA1 hj hN dL_law_218 dL_law_219 dL_law_221 dL_law_222 dL_law_223 ?_
  refine v_callV E (As := [vi (fS (j + 1)), vi (fS (j + 2)), vi (fS (j + 3))]) (b := ad 3002) (ci := 3) (C := RX4) (T := TX4) (N := 27) hB1.ho rfl (m_opSet κ H1 (hrI (j + 1)) (hrI (j + 2)) (hrI (j + 3)) hS.b hI hB1) (lw_V q1847 q1848 q1849 q82 q1850) 3 (by decide +kernel) rfl (by omega) (by omega) (cb' := cb) (sb' := sb) (by omega) (by omega) rfl (rest := []) (Nat.le_of_ble_eq_true rfl) (fun q hq => lw_hAm hz0 hE q (Or.inl hq)) dL_law_224 (fun v10 H2 hp10 hz10 hk10 => ?_)
  obtain ⟨rfl, mk1, hB2⟩ := hp10
  obtain ⟨hC2, hP2, hA2, ho2⟩ := lw_m hE (A := AH ad) (fun q h => Or.inl h) hC1 hP1 hA1 ho1 hB1 hV1 hz10 hk10
  have hV2 := lw_v hE hV1 hk10
  refine V.eq (st' := [vi (rp (opSet Sm (fS (j + 1)) (fS (j + 2)) (fS (j + 3))).1)]) (by rw [← vi_rp]; rfl) ?_
  refine v_istore E dL_law_227 (by rw [hL]; decide) (lv' := (6, vi (rp (opSet Sm (fS (j + 1)) (fS (j + 2)) (fS (j + 3))).1)) :: (5, vi (xoSet Sc (fS (j + 1)) (fS (j + 2)) (fS (j + 3))).2.1) :: lwL x (ad 3002) oa a0 j) rfl ?_
  exact l_tail E (by omega) (by omega) dL_law_229 dL_law_230 dL_law_233 dL_law_235 dL_law_240 dL_law_242 dL_law_245 dL_law_246 dL_law_247 dL_law_248 dL_law_250 dL_law_251 dL_law_252 dL_law_257 (by decide) hI hB2 ho2 e2 hR9.2 (rp_r _) (fun h => by rw [hg2 h, e1]) (fun H3 hz3 hk3 => K9 H3 (lwI.kept hE ⟨hC2, hA2, ⟨g2, ho2⟩, _, isoP, n, cap, iv, _, K, F, many, _, lv, lo, hi, rt, _, _, _, _, _, hP2, hB2, hV2, hS1, hR.up, hF7, hcap⟩ hz3 hk3))
set_option maxHeartbeats 400000 in
/-- coefficient -/
theorem l_coefficient {z : zT} {κ : zK} {ad : Nat → Nat} {a1 a2 a3 a4 x oa a0 N c j fr lo9 : Nat} {fS : Nat → Int} {H : Heap} {cb sb : Nat} (E : zOK z cL_law RX0 κ fr lo9 (some .boolean)) (X9 : zLw z) (hfr : 30 ≤ fr) (hlo : 700 ≤ lo9) (hz0 : z.H0.size ≤ κ.2 93) (hL : z.nL = 8) (hE : lwE κ ad a1 a2 a3 a4 oa a0) (hrI : ∀ k, rI (fS k)) (h : lwI κ ad a1 a2 a3 a4 x oa a0 N fS c H) (hc : c < 42) (hj : j + 6 ≤ N) (hN : N ≤ 252) (K9 : ∀ H1 : Heap, lwI κ ad a1 a2 a3 a4 x oa a0 N fS (c + 1) H1 → V z H1 cb sb 2204 (lwL x (ad 3002) oa a0 j) []) : V z H (cb + 28500) (sb + 129000) 260 (lwL x (ad 3002) oa a0 j) [] := by
  obtain ⟨hC, hA, ⟨g0, ho⟩, Sc, isoP, n, cap, iv, Sm, K, F, many, thr, lv, lo, hi, rt, P, f, g, mk, len, hP, hB, hV, hS, hR, hF7, hcap⟩ := h
  obtain ⟨hI, hreg, hou, h0⟩ := id hE
  have hD := hC.D
  obtain ⟨fsx, hx⟩ := hP.hx
  have hoA : ¬ pA κ H oa := mK.pA hD (Or.inr (Or.inl ⟨1, g0, ho⟩))
  have hM := c_coef κ H (hrI (j + 1)) (hrI (j + 2)) hC hP
  rw [vi_rp (xoCoef Sc (fS (j + 1)) (fS (j + 2))).1] at hM
  have hR9 := okr_Coef Sc (fS (j + 1)) (fS (j + 2))
  refine v_aload_n E 3 rfl dL_law_260 ?_
  refine l_arg E (k := 1) ⟨by decide, by decide⟩ 4 0 rfl rfl hA hj hN dL_law_261 dL_law_262 dL_law_264 dL_law_265 dL_law_266 ?_
  refine l_arg E (k := 2) ⟨by decide, by decide⟩ 4 0 rfl rfl hA hj hN dL_law_267 dL_law_268 dL_law_270 dL_law_271 dL_law_272 ?_
  refine v_aload_n E 1 rfl dL_law_273 ?_
  refine v_callSK E X9 (As := [.ref x, vi (fS (j + 1)), vi (fS (j + 2)), .ref oa]) (w_coefficient κ H hx ho (fun _ => rp_r _) hoA hM (hk_CP hD)) (lw_SW q671 q672 q69 q673) 4 (by decide +kernel) rfl (by omega) (by omega) (cb' := cb + 4) (sb' := sb + 512) (by omega) (by omega) rfl (rest := []) (Nat.le_of_ble_eq_true rfl) (lw_hAc hz0 hE) dL_law_274 (fun v9 H1 hp9 hz9 hk9 => ?_)
  obtain ⟨rfl, hcase⟩ := hp9
  obtain ⟨hP1, g2, ho1, hg2⟩ := s_post (PO := fun H1 => CP κ H1 x (xoCoef Sc (fS (j + 1)) (fS (j + 2))).2.2 isoP n cap iv) (PX := fun H1 => CP κ H1 x Sc isoP n cap iv) (PR := fun H1 => CP κ H1 x (xoCoef Sc (fS (j + 1)) (fS (j + 2))).2.2 isoP n cap iv) hcase (fun h => h) (fun hne h => by rw [hR9.1 hne]; exact h)
  obtain ⟨hC1, hA1, hB1, hV1⟩ := lw_c hE hC hA hB hV hz9 hk9
  obtain ⟨e1, e2, hS1⟩ := ag_coef hS (fS (j + 1)) (fS (j + 2))
  refine v_istore E dL_law_277 (by rw [hL]; decide) (lv' := (5, vi (xoCoef Sc (fS (j + 1)) (fS (j + 2))).2.1) :: lwL x (ad 3002) oa a0 j) rfl ?_
  refine v_aload_n E 3 rfl dL_law_279 ?_
  refine l_arg E (k := 1) ⟨by decide, by decide⟩ 5 1 rfl rfl hA1 hj hN dL_law_280 dL_law_281 dL_law_283 dL_law_284 dL_law_285 ?_
  refine l_arg E (k := 2) ⟨by decide, by decide⟩ 5 1 rfl rfl hA1 hj hN dL_law_286 dL_law_287 dL_law_289 dL_law_290 dL_law_291 ?_
  refine v_callV E (As := [vi (fS (j + 1)), vi (fS (j + 2))]) (b := ad 3002) (ci := 3) (C := RX4) (T := TX4) (N := 27) hB1.ho rfl (m_opCoef κ H1 (hrI (j + 1)) (hrI (j + 2)) hS.b hI hB1) (lw_V q1868 q1869 q1870 q82 q1871) 2 (by decide +kernel) rfl (by omega) (by omega) (cb' := cb) (sb' := sb) (by omega) (by omega) rfl (rest := []) (Nat.le_of_ble_eq_true rfl) (fun q hq => lw_hAm hz0 hE q (Or.inl hq)) dL_law_292 (fun v10 H2 hp10 hz10 hk10 => ?_)
  obtain ⟨rfl, mk1, hB2⟩ := hp10
  obtain ⟨hC2, hP2, hA2, ho2⟩ := lw_m hE (A := AH ad) (fun q h => Or.inl h) hC1 hP1 hA1 ho1 hB1 hV1 hz10 hk10
  have hV2 := lw_v hE hV1 hk10
  refine V.eq (st' := [vi (rp (opCoef Sm (fS (j + 1)) (fS (j + 2))).1)]) (by rw [← vi_rp]; rfl) ?_
  refine v_istore E dL_law_295 (by rw [hL]; decide) (lv' := (6, vi (rp (opCoef Sm (fS (j + 1)) (fS (j + 2))).1)) :: (5, vi (xoCoef Sc (fS (j + 1)) (fS (j + 2))).2.1) :: lwL x (ad 3002) oa a0 j) rfl ?_
  exact l_tail E (by omega) (by omega) dL_law_297 dL_law_298 dL_law_301 dL_law_303 dL_law_308 dL_law_310 dL_law_313 dL_law_314 dL_law_315 dL_law_316 dL_law_318 dL_law_319 dL_law_320 dL_law_325 (by decide) hI hB2 ho2 e2 hR9.2 (rp_r _) (fun h => by rw [hg2 h, e1]) (fun H3 hz3 hk3 => K9 H3 (lwI.kept hE ⟨hC2, hA2, ⟨g2, ho2⟩, _, isoP, n, cap, iv, _, K, F, many, _, lv, lo, hi, rt, _, _, _, _, _, hP2, hB2, hV2, hS1, hR.up, hF7, hcap⟩ hz3 hk3))
set_option maxHeartbeats 400000 in
/-- degree -/
theorem l_degree {z : zT} {κ : zK} {ad : Nat → Nat} {a1 a2 a3 a4 x oa a0 N c j fr lo9 : Nat} {fS : Nat → Int} {H : Heap} {cb sb : Nat} (E : zOK z cL_law RX0 κ fr lo9 (some .boolean)) (X9 : zLw z) (hfr : 30 ≤ fr) (hlo : 700 ≤ lo9) (hz0 : z.H0.size ≤ κ.2 93) (hL : z.nL = 8) (hE : lwE κ ad a1 a2 a3 a4 oa a0) (hrI : ∀ k, rI (fS k)) (h : lwI κ ad a1 a2 a3 a4 x oa a0 N fS c H) (hc : c < 42) (hj : j + 6 ≤ N) (hN : N ≤ 252) (K9 : ∀ H1 : Heap, lwI κ ad a1 a2 a3 a4 x oa a0 N fS (c + 1) H1 → V z H1 cb sb 2204 (lwL x (ad 3002) oa a0 j) []) : V z H (cb + 28500) (sb + 129000) 328 (lwL x (ad 3002) oa a0 j) [] := by
  obtain ⟨hC, hA, ⟨g0, ho⟩, Sc, isoP, n, cap, iv, Sm, K, F, many, thr, lv, lo, hi, rt, P, f, g, mk, len, hP, hB, hV, hS, hR, hF7, hcap⟩ := h
  obtain ⟨hI, hreg, hou, h0⟩ := id hE
  have hD := hC.D
  obtain ⟨fsx, hx⟩ := hP.hx
  have hoA : ¬ pA κ H oa := mK.pA hD (Or.inr (Or.inl ⟨1, g0, ho⟩))
  have hM := c_deg κ H (hrI (j + 1)) hC hP
  rw [vi_rp (xoDeg Sc (fS (j + 1))).1] at hM
  have hR9 := okr_Deg Sc (fS (j + 1))
  refine v_aload_n E 3 rfl dL_law_328 ?_
  refine l_arg E (k := 1) ⟨by decide, by decide⟩ 4 0 rfl rfl hA hj hN dL_law_329 dL_law_330 dL_law_332 dL_law_333 dL_law_334 ?_
  refine v_aload_n E 1 rfl dL_law_335 ?_
  refine v_callSK E X9 (As := [.ref x, vi (fS (j + 1)), .ref oa]) (w_degree κ H hx ho (fun _ => rp_r _) hoA hM (hk_CP hD)) (lw_SW q682 q683 q69 q684) 3 (by decide +kernel) rfl (by omega) (by omega) (cb' := cb + 4) (sb' := sb + 512) (by omega) (by omega) rfl (rest := []) (Nat.le_of_ble_eq_true rfl) (lw_hAc hz0 hE) dL_law_336 (fun v9 H1 hp9 hz9 hk9 => ?_)
  obtain ⟨rfl, hcase⟩ := hp9
  obtain ⟨hP1, g2, ho1, hg2⟩ := s_post (PO := fun H1 => CP κ H1 x (xoDeg Sc (fS (j + 1))).2.2 isoP n cap iv) (PX := fun H1 => CP κ H1 x Sc isoP n cap iv) (PR := fun H1 => CP κ H1 x (xoDeg Sc (fS (j + 1))).2.2 isoP n cap iv) hcase (fun h => h) (fun hne h => by rw [hR9.1 hne]; exact h)
  obtain ⟨hC1, hA1, hB1, hV1⟩ := lw_c hE hC hA hB hV hz9 hk9
  obtain ⟨e1, e2, hS1⟩ := ag_deg hS (fS (j + 1))
  refine v_istore E dL_law_339 (by rw [hL]; decide) (lv' := (5, vi (xoDeg Sc (fS (j + 1))).2.1) :: lwL x (ad 3002) oa a0 j) rfl ?_
  refine v_aload_n E 3 rfl dL_law_341 ?_
  refine l_arg E (k := 1) ⟨by decide, by decide⟩ 5 1 rfl rfl hA1 hj hN dL_law_342 dL_law_343 dL_law_345 dL_law_346 dL_law_347 ?_
  refine v_callV E (As := [vi (fS (j + 1))]) (b := ad 3002) (ci := 3) (C := RX4) (T := TX4) (N := 27) hB1.ho rfl (m_opDeg κ H1 (hrI (j + 1)) hS.b hI hB1) (lw_V q1872 q1873 q1874 q82 q1875) 1 (by decide +kernel) rfl (by omega) (by omega) (cb' := cb) (sb' := sb) (by omega) (by omega) rfl (rest := []) (Nat.le_of_ble_eq_true rfl) (fun q hq => lw_hAm hz0 hE q (Or.inl hq)) dL_law_348 (fun v10 H2 hp10 hz10 hk10 => ?_)
  obtain ⟨rfl, mk1, hB2⟩ := hp10
  obtain ⟨hC2, hP2, hA2, ho2⟩ := lw_m hE (A := AH ad) (fun q h => Or.inl h) hC1 hP1 hA1 ho1 hB1 hV1 hz10 hk10
  have hV2 := lw_v hE hV1 hk10
  refine V.eq (st' := [vi (rp (opDeg Sm (fS (j + 1))).1)]) (by rw [← vi_rp]; rfl) ?_
  refine v_istore E dL_law_351 (by rw [hL]; decide) (lv' := (6, vi (rp (opDeg Sm (fS (j + 1))).1)) :: (5, vi (xoDeg Sc (fS (j + 1))).2.1) :: lwL x (ad 3002) oa a0 j) rfl ?_
  exact l_tail E (by omega) (by omega) dL_law_353 dL_law_354 dL_law_357 dL_law_359 dL_law_364 dL_law_366 dL_law_369 dL_law_370 dL_law_371 dL_law_372 dL_law_374 dL_law_375 dL_law_376 dL_law_381 (by decide) hI hB2 ho2 e2 hR9.2 (rp_r _) (fun h => by rw [hg2 h, e1]) (fun H3 hz3 hk3 => K9 H3 (lwI.kept hE ⟨hC2, hA2, ⟨g2, ho2⟩, _, isoP, n, cap, iv, _, K, F, many, _, lv, lo, hi, rt, _, _, _, _, _, hP2, hB2, hV2, hS1, hR.up, hF7, hcap⟩ hz3 hk3))
set_option maxHeartbeats 400000 in
/-- copy -/
theorem l_copy {z : zT} {κ : zK} {ad : Nat → Nat} {a1 a2 a3 a4 x oa a0 N c j fr lo9 : Nat} {fS : Nat → Int} {H : Heap} {cb sb : Nat} (E : zOK z cL_law RX0 κ fr lo9 (some .boolean)) (X9 : zLw z) (hfr : 30 ≤ fr) (hlo : 700 ≤ lo9) (hz0 : z.H0.size ≤ κ.2 93) (hL : z.nL = 8) (hE : lwE κ ad a1 a2 a3 a4 oa a0) (hrI : ∀ k, rI (fS k)) (h : lwI κ ad a1 a2 a3 a4 x oa a0 N fS c H) (hc : c < 42) (hj : j + 6 ≤ N) (hN : N ≤ 252) (K9 : ∀ H1 : Heap, lwI κ ad a1 a2 a3 a4 x oa a0 N fS (c + 1) H1 → V z H1 cb sb 2204 (lwL x (ad 3002) oa a0 j) []) : V z H (cb + 28500) (sb + 129000) 384 (lwL x (ad 3002) oa a0 j) [] := by
  obtain ⟨hC, hA, ⟨g0, ho⟩, Sc, isoP, n, cap, iv, Sm, K, F, many, thr, lv, lo, hi, rt, P, f, g, mk, len, hP, hB, hV, hS, hR, hF7, hcap⟩ := h
  obtain ⟨hI, hreg, hou, h0⟩ := id hE
  have hD := hC.D
  obtain ⟨fsx, hx⟩ := hP.hx
  have hoA : ¬ pA κ H oa := mK.pA hD (Or.inr (Or.inl ⟨1, g0, ho⟩))
  have hM := c_copy κ H (hrI (j + 1)) (hrI (j + 2)) hC hP
  rw [vi_rp (xoCopy Sc (fS (j + 1)) (fS (j + 2))).1] at hM
  have hR9 := okr_Copy Sc (fS (j + 1)) (fS (j + 2))
  refine v_aload_n E 3 rfl dL_law_384 ?_
  refine l_arg E (k := 1) ⟨by decide, by decide⟩ 4 0 rfl rfl hA hj hN dL_law_385 dL_law_386 dL_law_388 dL_law_389 dL_law_390 ?_
  refine l_arg E (k := 2) ⟨by decide, by decide⟩ 4 0 rfl rfl hA hj hN dL_law_391 dL_law_392 dL_law_394 dL_law_395 dL_law_396 ?_
  refine v_aload_n E 1 rfl dL_law_397 ?_
  refine v_callSK E X9 (As := [.ref x, vi (fS (j + 1)), vi (fS (j + 2)), .ref oa]) (w_copy κ H hx ho (fun _ => rp_r _) hoA hM (hk_CP hD)) (lw_SW q689 q690 q69 q691) 4 (by decide +kernel) rfl (by omega) (by omega) (cb' := cb + 4) (sb' := sb + 512) (by omega) (by omega) rfl (rest := []) (Nat.le_of_ble_eq_true rfl) (lw_hAc hz0 hE) dL_law_398 (fun v9 H1 hp9 hz9 hk9 => ?_)
  obtain ⟨rfl, hcase⟩ := hp9
  obtain ⟨hP1, g2, ho1, hg2⟩ := s_post (PO := fun H1 => CP κ H1 x (xoCopy Sc (fS (j + 1)) (fS (j + 2))).2.2 isoP n cap iv) (PX := fun H1 => CP κ H1 x Sc isoP n cap iv) (PR := fun H1 => CP κ H1 x (xoCopy Sc (fS (j + 1)) (fS (j + 2))).2.2 isoP n cap iv) hcase (fun h => h) (fun hne h => by rw [hR9.1 hne]; exact h)
  obtain ⟨hC1, hA1, hB1, hV1⟩ := lw_c hE hC hA hB hV hz9 hk9
  obtain ⟨e1, e2, hS1⟩ := ag_copy hS (fS (j + 1)) (fS (j + 2))
  refine v_istore E dL_law_401 (by rw [hL]; decide) (lv' := (5, vi (xoCopy Sc (fS (j + 1)) (fS (j + 2))).2.1) :: lwL x (ad 3002) oa a0 j) rfl ?_
  refine v_aload_n E 3 rfl dL_law_403 ?_
  refine l_arg E (k := 1) ⟨by decide, by decide⟩ 5 1 rfl rfl hA1 hj hN dL_law_404 dL_law_405 dL_law_407 dL_law_408 dL_law_409 ?_
  refine l_arg E (k := 2) ⟨by decide, by decide⟩ 5 1 rfl rfl hA1 hj hN dL_law_410 dL_law_411 dL_law_413 dL_law_414 dL_law_415 ?_
  refine v_callV E (As := [vi (fS (j + 1)), vi (fS (j + 2))]) (b := ad 3002) (ci := 3) (C := RX4) (T := TX4) (N := 27) hB1.ho rfl (m_opCopy κ H1 (hrI (j + 1)) (hrI (j + 2)) hS.b hI hB1) (lw_V q1876 q1877 q1878 q82 q1879) 2 (by decide +kernel) rfl (by omega) (by omega) (cb' := cb) (sb' := sb) (by omega) (by omega) rfl (rest := []) (Nat.le_of_ble_eq_true rfl) (fun q hq => lw_hAm hz0 hE q (Or.inl hq)) dL_law_416 (fun v10 H2 hp10 hz10 hk10 => ?_)
  obtain ⟨rfl, mk1, hB2⟩ := hp10
  obtain ⟨hC2, hP2, hA2, ho2⟩ := lw_m hE (A := AH ad) (fun q h => Or.inl h) hC1 hP1 hA1 ho1 hB1 hV1 hz10 hk10
  have hV2 := lw_v hE hV1 hk10
  refine V.eq (st' := [vi (rp (opCopy Sm (fS (j + 1)) (fS (j + 2))).1)]) (by rw [← vi_rp]; rfl) ?_
  refine v_istore E dL_law_419 (by rw [hL]; decide) (lv' := (6, vi (rp (opCopy Sm (fS (j + 1)) (fS (j + 2))).1)) :: (5, vi (xoCopy Sc (fS (j + 1)) (fS (j + 2))).2.1) :: lwL x (ad 3002) oa a0 j) rfl ?_
  exact l_tail E (by omega) (by omega) dL_law_421 dL_law_422 dL_law_425 dL_law_427 dL_law_432 dL_law_434 dL_law_437 dL_law_438 dL_law_439 dL_law_440 dL_law_442 dL_law_443 dL_law_444 dL_law_449 (by decide) hI hB2 ho2 e2 hR9.2 (rp_r _) (fun h => by rw [hg2 h, e1]) (fun H3 hz3 hk3 => K9 H3 (lwI.kept hE ⟨hC2, hA2, ⟨g2, ho2⟩, _, isoP, n, cap, iv, _, K, F, many, _, lv, lo, hi, rt, _, _, _, _, _, hP2, hB2, hV2, hS1, hR.up, hF7, hcap⟩ hz3 hk3))
set_option maxHeartbeats 400000 in
/-- add -/
theorem l_add {z : zT} {κ : zK} {ad : Nat → Nat} {a1 a2 a3 a4 x oa a0 N c j fr lo9 : Nat} {fS : Nat → Int} {H : Heap} {cb sb : Nat} (E : zOK z cL_law RX0 κ fr lo9 (some .boolean)) (X9 : zLw z) (hfr : 30 ≤ fr) (hlo : 700 ≤ lo9) (hz0 : z.H0.size ≤ κ.2 93) (hL : z.nL = 8) (hE : lwE κ ad a1 a2 a3 a4 oa a0) (hrI : ∀ k, rI (fS k)) (h : lwI κ ad a1 a2 a3 a4 x oa a0 N fS c H) (hc : c < 42) (hj : j + 6 ≤ N) (hN : N ≤ 252) (K9 : ∀ H1 : Heap, lwI κ ad a1 a2 a3 a4 x oa a0 N fS (c + 1) H1 → V z H1 cb sb 2204 (lwL x (ad 3002) oa a0 j) []) : V z H (cb + 28500) (sb + 129000) 452 (lwL x (ad 3002) oa a0 j) [] := by
  obtain ⟨hC, hA, ⟨g0, ho⟩, Sc, isoP, n, cap, iv, Sm, K, F, many, thr, lv, lo, hi, rt, P, f, g, mk, len, hP, hB, hV, hS, hR, hF7, hcap⟩ := h
  obtain ⟨hI, hreg, hou, h0⟩ := id hE
  have hD := hC.D
  obtain ⟨fsx, hx⟩ := hP.hx
  have hoA : ¬ pA κ H oa := mK.pA hD (Or.inr (Or.inl ⟨1, g0, ho⟩))
  have hM := c_add κ H (hrI (j + 1)) (hrI (j + 2)) (hrI (j + 3)) hC hS.bC hP
  rw [vi_rp (xoAdd Sc (fS (j + 1)) (fS (j + 2)) (fS (j + 3))).1] at hM
  have hR9 := okr_Add Sc (fS (j + 1)) (fS (j + 2)) (fS (j + 3))
  refine v_aload_n E 3 rfl dL_law_452 ?_
  refine l_arg E (k := 1) ⟨by decide, by decide⟩ 4 0 rfl rfl hA hj hN dL_law_453 dL_law_454 dL_law_456 dL_law_457 dL_law_458 ?_
  refine l_arg E (k := 2) ⟨by decide, by decide⟩ 4 0 rfl rfl hA hj hN dL_law_459 dL_law_460 dL_law_462 dL_law_463 dL_law_464 ?_
  refine l_arg E (k := 3) ⟨by decide, by decide⟩ 4 0 rfl rfl hA hj hN dL_law_465 dL_law_466 dL_law_468 dL_law_469 dL_law_470 ?_
  refine v_aload_n E 1 rfl dL_law_471 ?_
  refine v_callSK E X9 (As := [.ref x, vi (fS (j + 1)), vi (fS (j + 2)), vi (fS (j + 3)), .ref oa]) (w_add κ H hx ho (fun _ => rp_r _) hoA hM (hk_CP hD)) (lw_SW q696 q697 q69 q698) 5 (by decide +kernel) rfl (by omega) (by omega) (cb' := cb + 4) (sb' := sb + 512) (by omega) (by omega) rfl (rest := []) (Nat.le_of_ble_eq_true rfl) (lw_hAc hz0 hE) dL_law_472 (fun v9 H1 hp9 hz9 hk9 => ?_)
  obtain ⟨rfl, hcase⟩ := hp9
  obtain ⟨hP1, g2, ho1, hg2⟩ := s_post (PO := fun H1 => CP κ H1 x (xoAdd Sc (fS (j + 1)) (fS (j + 2)) (fS (j + 3))).2.2 isoP n cap iv) (PX := fun H1 => CP κ H1 x Sc isoP n cap iv) (PR := fun H1 => CP κ H1 x (xoAdd Sc (fS (j + 1)) (fS (j + 2)) (fS (j + 3))).2.2 isoP n cap iv) hcase (fun h => h) (fun hne h => by rw [hR9.1 hne]; exact h)
  obtain ⟨hC1, hA1, hB1, hV1⟩ := lw_c hE hC hA hB hV hz9 hk9
  obtain ⟨e1, e2, hS1⟩ := ag_add hS (fS (j + 1)) (fS (j + 2)) (fS (j + 3))
  refine v_istore E dL_law_475 (by rw [hL]; decide) (lv' := (5, vi (xoAdd Sc (fS (j + 1)) (fS (j + 2)) (fS (j + 3))).2.1) :: lwL x (ad 3002) oa a0 j) rfl ?_
  refine v_aload_n E 3 rfl dL_law_477 ?_
  refine l_arg E (k := 1) ⟨by decide, by decide⟩ 5 1 rfl rfl hA1 hj hN dL_law_478 dL_law_479 dL_law_481 dL_law_482 dL_law_483 ?_
  refine l_arg E (k := 2) ⟨by decide, by decide⟩ 5 1 rfl rfl hA1 hj hN dL_law_484 dL_law_485 dL_law_487 dL_law_488 dL_law_489 ?_
  refine l_arg E (k := 3) ⟨by decide, by decide⟩ 5 1 rfl rfl hA1 hj hN dL_law_490 dL_law_491 dL_law_493 dL_law_494 dL_law_495 ?_
  refine v_callV E (As := [vi (fS (j + 1)), vi (fS (j + 2)), vi (fS (j + 3))]) (b := ad 3002) (ci := 3) (C := RX4) (T := TX4) (N := 27) hB1.ho rfl (m_opAdd κ H1 (hrI (j + 1)) (hrI (j + 2)) (hrI (j + 3)) hS.b hI hB1) (lw_V q1890 q1891 q1892 q82 q1893) 3 (by decide +kernel) rfl (by omega) (by omega) (cb' := cb) (sb' := sb) (by omega) (by omega) rfl (rest := []) (Nat.le_of_ble_eq_true rfl) (fun q hq => lw_hAm hz0 hE q (Or.inl hq)) dL_law_496 (fun v10 H2 hp10 hz10 hk10 => ?_)
  obtain ⟨rfl, mk1, hB2⟩ := hp10
  obtain ⟨hC2, hP2, hA2, ho2⟩ := lw_m hE (A := AH ad) (fun q h => Or.inl h) hC1 hP1 hA1 ho1 hB1 hV1 hz10 hk10
  have hV2 := lw_v hE hV1 hk10
  refine V.eq (st' := [vi (rp (opAdd Sm (fS (j + 1)) (fS (j + 2)) (fS (j + 3))).1)]) (by rw [← vi_rp]; rfl) ?_
  refine v_istore E dL_law_499 (by rw [hL]; decide) (lv' := (6, vi (rp (opAdd Sm (fS (j + 1)) (fS (j + 2)) (fS (j + 3))).1)) :: (5, vi (xoAdd Sc (fS (j + 1)) (fS (j + 2)) (fS (j + 3))).2.1) :: lwL x (ad 3002) oa a0 j) rfl ?_
  exact l_tail E (by omega) (by omega) dL_law_501 dL_law_502 dL_law_505 dL_law_507 dL_law_512 dL_law_514 dL_law_517 dL_law_518 dL_law_519 dL_law_520 dL_law_522 dL_law_523 dL_law_524 dL_law_529 (by decide) hI hB2 ho2 e2 hR9.2 (rp_r _) (fun h => by rw [hg2 h, e1]) (fun H3 hz3 hk3 => K9 H3 (lwI.kept hE ⟨hC2, hA2, ⟨g2, ho2⟩, _, isoP, n, cap, iv, _, K, F, many, _, lv, lo, hi, rt, _, _, _, _, _, hP2, hB2, hV2, hS1, hR.up, hF7, hcap⟩ hz3 hk3))
set_option maxHeartbeats 400000 in
/-- multiply -/
theorem l_multiply {z : zT} {κ : zK} {ad : Nat → Nat} {a1 a2 a3 a4 x oa a0 N c j fr lo9 : Nat} {fS : Nat → Int} {H : Heap} {cb sb : Nat} (E : zOK z cL_law RX0 κ fr lo9 (some .boolean)) (X9 : zLw z) (hfr : 30 ≤ fr) (hlo : 700 ≤ lo9) (hz0 : z.H0.size ≤ κ.2 93) (hL : z.nL = 8) (hE : lwE κ ad a1 a2 a3 a4 oa a0) (hrI : ∀ k, rI (fS k)) (h : lwI κ ad a1 a2 a3 a4 x oa a0 N fS c H) (hc : c < 42) (hj : j + 6 ≤ N) (hN : N ≤ 252) (K9 : ∀ H1 : Heap, lwI κ ad a1 a2 a3 a4 x oa a0 N fS (c + 1) H1 → V z H1 cb sb 2204 (lwL x (ad 3002) oa a0 j) []) : V z H (cb + 28500) (sb + 129000) 532 (lwL x (ad 3002) oa a0 j) [] := by
  obtain ⟨hC, hA, ⟨g0, ho⟩, Sc, isoP, n, cap, iv, Sm, K, F, many, thr, lv, lo, hi, rt, P, f, g, mk, len, hP, hB, hV, hS, hR, hF7, hcap⟩ := h
  obtain ⟨hI, hreg, hou, h0⟩ := id hE
  have hD := hC.D
  obtain ⟨fsx, hx⟩ := hP.hx
  have hoA : ¬ pA κ H oa := mK.pA hD (Or.inr (Or.inl ⟨1, g0, ho⟩))
  have hM := c_mul κ H (hrI (j + 1)) (hrI (j + 2)) (hrI (j + 3)) hC hS.bC hP
  rw [vi_rp (xoMul Sc (fS (j + 1)) (fS (j + 2)) (fS (j + 3))).1] at hM
  have hR9 := okr_Mul Sc (fS (j + 1)) (fS (j + 2)) (fS (j + 3))
  refine v_aload_n E 3 rfl dL_law_532 ?_
  refine l_arg E (k := 1) ⟨by decide, by decide⟩ 4 0 rfl rfl hA hj hN dL_law_533 dL_law_534 dL_law_536 dL_law_537 dL_law_538 ?_
  refine l_arg E (k := 2) ⟨by decide, by decide⟩ 4 0 rfl rfl hA hj hN dL_law_539 dL_law_540 dL_law_542 dL_law_543 dL_law_544 ?_
  refine l_arg E (k := 3) ⟨by decide, by decide⟩ 4 0 rfl rfl hA hj hN dL_law_545 dL_law_546 dL_law_548 dL_law_549 dL_law_550 ?_
  refine v_aload_n E 1 rfl dL_law_551 ?_
  refine v_callSK E X9 (As := [.ref x, vi (fS (j + 1)), vi (fS (j + 2)), vi (fS (j + 3)), .ref oa]) (w_multiply κ H hx ho (fun _ => rp_r _) hoA hM (hk_CP hD)) (lw_SW q951 q952 q69 q953) 5 (by decide +kernel) rfl (by omega) (by omega) (cb' := cb + 4) (sb' := sb + 512) (by omega) (by omega) rfl (rest := []) (Nat.le_of_ble_eq_true rfl) (lw_hAc hz0 hE) dL_law_552 (fun v9 H1 hp9 hz9 hk9 => ?_)
  obtain ⟨rfl, hcase⟩ := hp9
  obtain ⟨hP1, g2, ho1, hg2⟩ := s_post (PO := fun H1 => CP κ H1 x (xoMul Sc (fS (j + 1)) (fS (j + 2)) (fS (j + 3))).2.2 isoP n cap iv) (PX := fun H1 => CP κ H1 x Sc isoP n cap iv) (PR := fun H1 => CP κ H1 x (xoMul Sc (fS (j + 1)) (fS (j + 2)) (fS (j + 3))).2.2 isoP n cap iv) hcase (fun h => h) (fun hne h => by rw [hR9.1 hne]; exact h)
  obtain ⟨hC1, hA1, hB1, hV1⟩ := lw_c hE hC hA hB hV hz9 hk9
  obtain ⟨e1, e2, hS1⟩ := ag_mul hS (fS (j + 1)) (fS (j + 2)) (fS (j + 3))
  refine v_istore E dL_law_555 (by rw [hL]; decide) (lv' := (5, vi (xoMul Sc (fS (j + 1)) (fS (j + 2)) (fS (j + 3))).2.1) :: lwL x (ad 3002) oa a0 j) rfl ?_
  refine v_aload_n E 3 rfl dL_law_557 ?_
  refine l_arg E (k := 1) ⟨by decide, by decide⟩ 5 1 rfl rfl hA1 hj hN dL_law_558 dL_law_559 dL_law_561 dL_law_562 dL_law_563 ?_
  refine l_arg E (k := 2) ⟨by decide, by decide⟩ 5 1 rfl rfl hA1 hj hN dL_law_564 dL_law_565 dL_law_567 dL_law_568 dL_law_569 ?_
  refine l_arg E (k := 3) ⟨by decide, by decide⟩ 5 1 rfl rfl hA1 hj hN dL_law_570 dL_law_571 dL_law_573 dL_law_574 dL_law_575 ?_
  refine v_callV E (As := [vi (fS (j + 1)), vi (fS (j + 2)), vi (fS (j + 3))]) (b := ad 3002) (ci := 3) (C := RX4) (T := TX4) (N := 27) hB1.ho rfl (m_opMul κ H1 (hrI (j + 1)) (hrI (j + 2)) (hrI (j + 3)) hS.b hI hB1) (lw_V q1894 q1895 q1896 q82 q1897) 3 (by decide +kernel) rfl (by omega) (by omega) (cb' := cb) (sb' := sb) (by omega) (by omega) rfl (rest := []) (Nat.le_of_ble_eq_true rfl) (fun q hq => lw_hAm hz0 hE q (Or.inl hq)) dL_law_576 (fun v10 H2 hp10 hz10 hk10 => ?_)
  obtain ⟨rfl, mk1, hB2⟩ := hp10
  obtain ⟨hC2, hP2, hA2, ho2⟩ := lw_m hE (A := AH ad) (fun q h => Or.inl h) hC1 hP1 hA1 ho1 hB1 hV1 hz10 hk10
  have hV2 := lw_v hE hV1 hk10
  refine V.eq (st' := [vi (rp (opMul Sm (fS (j + 1)) (fS (j + 2)) (fS (j + 3))).1)]) (by rw [← vi_rp]; rfl) ?_
  refine v_istore E dL_law_579 (by rw [hL]; decide) (lv' := (6, vi (rp (opMul Sm (fS (j + 1)) (fS (j + 2)) (fS (j + 3))).1)) :: (5, vi (xoMul Sc (fS (j + 1)) (fS (j + 2)) (fS (j + 3))).2.1) :: lwL x (ad 3002) oa a0 j) rfl ?_
  exact l_tail E (by omega) (by omega) dL_law_581 dL_law_582 dL_law_585 dL_law_587 dL_law_592 dL_law_594 dL_law_597 dL_law_598 dL_law_599 dL_law_600 dL_law_602 dL_law_603 dL_law_604 dL_law_609 (by decide) hI hB2 ho2 e2 hR9.2 (rp_r _) (fun h => by rw [hg2 h, e1]) (fun H3 hz3 hk3 => K9 H3 (lwI.kept hE ⟨hC2, hA2, ⟨g2, ho2⟩, _, isoP, n, cap, iv, _, K, F, many, _, lv, lo, hi, rt, _, _, _, _, _, hP2, hB2, hV2, hS1, hR.up, hF7, hcap⟩ hz3 hk3))
set_option maxHeartbeats 400000 in
/-- derivative -/
theorem l_derivative {z : zT} {κ : zK} {ad : Nat → Nat} {a1 a2 a3 a4 x oa a0 N c j fr lo9 : Nat} {fS : Nat → Int} {H : Heap} {cb sb : Nat} (E : zOK z cL_law RX0 κ fr lo9 (some .boolean)) (X9 : zLw z) (hfr : 30 ≤ fr) (hlo : 700 ≤ lo9) (hz0 : z.H0.size ≤ κ.2 93) (hL : z.nL = 8) (hE : lwE κ ad a1 a2 a3 a4 oa a0) (hrI : ∀ k, rI (fS k)) (h : lwI κ ad a1 a2 a3 a4 x oa a0 N fS c H) (hc : c < 42) (hj : j + 6 ≤ N) (hN : N ≤ 252) (K9 : ∀ H1 : Heap, lwI κ ad a1 a2 a3 a4 x oa a0 N fS (c + 1) H1 → V z H1 cb sb 2204 (lwL x (ad 3002) oa a0 j) []) : V z H (cb + 28500) (sb + 129000) 612 (lwL x (ad 3002) oa a0 j) [] := by
  obtain ⟨hC, hA, ⟨g0, ho⟩, Sc, isoP, n, cap, iv, Sm, K, F, many, thr, lv, lo, hi, rt, P, f, g, mk, len, hP, hB, hV, hS, hR, hF7, hcap⟩ := h
  obtain ⟨hI, hreg, hou, h0⟩ := id hE
  have hD := hC.D
  obtain ⟨fsx, hx⟩ := hP.hx
  have hoA : ¬ pA κ H oa := mK.pA hD (Or.inr (Or.inl ⟨1, g0, ho⟩))
  have hM := c_drv κ H (hrI (j + 1)) (hrI (j + 2)) hC hS.bC hP
  rw [vi_rp (xoDrv Sc (fS (j + 1)) (fS (j + 2))).1] at hM
  have hR9 := okr_Drv Sc (fS (j + 1)) (fS (j + 2))
  refine v_aload_n E 3 rfl dL_law_612 ?_
  refine l_arg E (k := 1) ⟨by decide, by decide⟩ 4 0 rfl rfl hA hj hN dL_law_613 dL_law_614 dL_law_616 dL_law_617 dL_law_618 ?_
  refine l_arg E (k := 2) ⟨by decide, by decide⟩ 4 0 rfl rfl hA hj hN dL_law_619 dL_law_620 dL_law_622 dL_law_623 dL_law_624 ?_
  refine v_aload_n E 1 rfl dL_law_625 ?_
  refine v_callSK E X9 (As := [.ref x, vi (fS (j + 1)), vi (fS (j + 2)), .ref oa]) (w_derivative κ H hx ho (fun _ => rp_r _) hoA hM (hk_CP hD)) (lw_SW q1099 q1100 q69 q1101) 4 (by decide +kernel) rfl (by omega) (by omega) (cb' := cb + 4) (sb' := sb + 512) (by omega) (by omega) rfl (rest := []) (Nat.le_of_ble_eq_true rfl) (lw_hAc hz0 hE) dL_law_626 (fun v9 H1 hp9 hz9 hk9 => ?_)
  obtain ⟨rfl, hcase⟩ := hp9
  obtain ⟨hP1, g2, ho1, hg2⟩ := s_post (PO := fun H1 => CP κ H1 x (xoDrv Sc (fS (j + 1)) (fS (j + 2))).2.2 isoP n cap iv) (PX := fun H1 => CP κ H1 x Sc isoP n cap iv) (PR := fun H1 => CP κ H1 x (xoDrv Sc (fS (j + 1)) (fS (j + 2))).2.2 isoP n cap iv) hcase (fun h => h) (fun hne h => by rw [hR9.1 hne]; exact h)
  obtain ⟨hC1, hA1, hB1, hV1⟩ := lw_c hE hC hA hB hV hz9 hk9
  obtain ⟨e1, e2, hS1⟩ := ag_drv hS (fS (j + 1)) (fS (j + 2))
  refine v_istore E dL_law_629 (by rw [hL]; decide) (lv' := (5, vi (xoDrv Sc (fS (j + 1)) (fS (j + 2))).2.1) :: lwL x (ad 3002) oa a0 j) rfl ?_
  refine v_aload_n E 3 rfl dL_law_631 ?_
  refine l_arg E (k := 1) ⟨by decide, by decide⟩ 5 1 rfl rfl hA1 hj hN dL_law_632 dL_law_633 dL_law_635 dL_law_636 dL_law_637 ?_
  refine l_arg E (k := 2) ⟨by decide, by decide⟩ 5 1 rfl rfl hA1 hj hN dL_law_638 dL_law_639 dL_law_641 dL_law_642 dL_law_643 ?_
  refine v_callV E (As := [vi (fS (j + 1)), vi (fS (j + 2))]) (b := ad 3002) (ci := 3) (C := RX4) (T := TX4) (N := 27) hB1.ho rfl (m_opDrv κ H1 (hrI (j + 1)) (hrI (j + 2)) hS.b hI hB1) (lw_V q1898 q1899 q1900 q82 q1901) 2 (by decide +kernel) rfl (by omega) (by omega) (cb' := cb) (sb' := sb) (by omega) (by omega) rfl (rest := []) (Nat.le_of_ble_eq_true rfl) (fun q hq => lw_hAm hz0 hE q (Or.inl hq)) dL_law_644 (fun v10 H2 hp10 hz10 hk10 => ?_)
  obtain ⟨rfl, mk1, hB2⟩ := hp10
  obtain ⟨hC2, hP2, hA2, ho2⟩ := lw_m hE (A := AH ad) (fun q h => Or.inl h) hC1 hP1 hA1 ho1 hB1 hV1 hz10 hk10
  have hV2 := lw_v hE hV1 hk10
  refine V.eq (st' := [vi (rp (opDrv Sm (fS (j + 1)) (fS (j + 2))).1)]) (by rw [← vi_rp]; rfl) ?_
  refine v_istore E dL_law_647 (by rw [hL]; decide) (lv' := (6, vi (rp (opDrv Sm (fS (j + 1)) (fS (j + 2))).1)) :: (5, vi (xoDrv Sc (fS (j + 1)) (fS (j + 2))).2.1) :: lwL x (ad 3002) oa a0 j) rfl ?_
  exact l_tail E (by omega) (by omega) dL_law_649 dL_law_650 dL_law_653 dL_law_655 dL_law_660 dL_law_662 dL_law_665 dL_law_666 dL_law_667 dL_law_668 dL_law_670 dL_law_671 dL_law_672 dL_law_677 (by decide) hI hB2 ho2 e2 hR9.2 (rp_r _) (fun h => by rw [hg2 h, e1]) (fun H3 hz3 hk3 => K9 H3 (lwI.kept hE ⟨hC2, hA2, ⟨g2, ho2⟩, _, isoP, n, cap, iv, _, K, F, many, _, lv, lo, hi, rt, _, _, _, _, _, hP2, hB2, hV2, hS1, hR.up, hF7, hcap⟩ hz3 hk3))
set_option maxHeartbeats 400000 in
/-- shift -/
theorem l_shift {z : zT} {κ : zK} {ad : Nat → Nat} {a1 a2 a3 a4 x oa a0 N c j fr lo9 : Nat} {fS : Nat → Int} {H : Heap} {cb sb : Nat} (E : zOK z cL_law RX0 κ fr lo9 (some .boolean)) (X9 : zLw z) (hfr : 30 ≤ fr) (hlo : 700 ≤ lo9) (hz0 : z.H0.size ≤ κ.2 93) (hL : z.nL = 8) (hE : lwE κ ad a1 a2 a3 a4 oa a0) (hrI : ∀ k, rI (fS k)) (h : lwI κ ad a1 a2 a3 a4 x oa a0 N fS c H) (hc : c < 42) (hj : j + 6 ≤ N) (hN : N ≤ 252) (K9 : ∀ H1 : Heap, lwI κ ad a1 a2 a3 a4 x oa a0 N fS (c + 1) H1 → V z H1 cb sb 2204 (lwL x (ad 3002) oa a0 j) []) : V z H (cb + 28500) (sb + 129000) 680 (lwL x (ad 3002) oa a0 j) [] := by
  obtain ⟨hC, hA, ⟨g0, ho⟩, Sc, isoP, n, cap, iv, Sm, K, F, many, thr, lv, lo, hi, rt, P, f, g, mk, len, hP, hB, hV, hS, hR, hF7, hcap⟩ := h
  obtain ⟨hI, hreg, hou, h0⟩ := id hE
  have hD := hC.D
  obtain ⟨fsx, hx⟩ := hP.hx
  have hoA : ¬ pA κ H oa := mK.pA hD (Or.inr (Or.inl ⟨1, g0, ho⟩))
  have hM := c_shift κ H (hrI (j + 1)) (hrI (j + 2)) (hrI (j + 3)) hC hS.bC hP
  rw [vi_rp (xoShift Sc (fS (j + 1)) (fS (j + 2)) (fS (j + 3))).1] at hM
  have hR9 := okr_Shift Sc (fS (j + 1)) (fS (j + 2)) (fS (j + 3))
  refine v_aload_n E 3 rfl dL_law_680 ?_
  refine l_arg E (k := 1) ⟨by decide, by decide⟩ 4 0 rfl rfl hA hj hN dL_law_681 dL_law_682 dL_law_684 dL_law_685 dL_law_686 ?_
  refine l_arg E (k := 2) ⟨by decide, by decide⟩ 4 0 rfl rfl hA hj hN dL_law_687 dL_law_688 dL_law_690 dL_law_691 dL_law_692 ?_
  refine l_arg E (k := 3) ⟨by decide, by decide⟩ 4 0 rfl rfl hA hj hN dL_law_693 dL_law_694 dL_law_696 dL_law_697 dL_law_698 ?_
  refine v_aload_n E 1 rfl dL_law_699 ?_
  refine v_callSK E X9 (As := [.ref x, vi (fS (j + 1)), vi (fS (j + 2)), vi (fS (j + 3)), .ref oa]) (w_shift κ H hx ho (fun _ => rp_r _) hoA hM (hk_CP hD)) (lw_SW q1109 q1110 q69 q1111) 5 (by decide +kernel) rfl (by omega) (by omega) (cb' := cb + 4) (sb' := sb + 512) (by omega) (by omega) rfl (rest := []) (Nat.le_of_ble_eq_true rfl) (lw_hAc hz0 hE) dL_law_700 (fun v9 H1 hp9 hz9 hk9 => ?_)
  obtain ⟨rfl, hcase⟩ := hp9
  obtain ⟨hP1, g2, ho1, hg2⟩ := s_post (PO := fun H1 => CP κ H1 x (xoShift Sc (fS (j + 1)) (fS (j + 2)) (fS (j + 3))).2.2 isoP n cap iv) (PX := fun H1 => CP κ H1 x Sc isoP n cap iv) (PR := fun H1 => CP κ H1 x (xoShift Sc (fS (j + 1)) (fS (j + 2)) (fS (j + 3))).2.2 isoP n cap iv) hcase (fun h => h) (fun hne h => by rw [hR9.1 hne]; exact h)
  obtain ⟨hC1, hA1, hB1, hV1⟩ := lw_c hE hC hA hB hV hz9 hk9
  obtain ⟨e1, e2, hS1⟩ := ag_shift hS (fS (j + 1)) (fS (j + 2)) (fS (j + 3))
  refine v_istore E dL_law_703 (by rw [hL]; decide) (lv' := (5, vi (xoShift Sc (fS (j + 1)) (fS (j + 2)) (fS (j + 3))).2.1) :: lwL x (ad 3002) oa a0 j) rfl ?_
  refine v_aload_n E 3 rfl dL_law_705 ?_
  refine l_arg E (k := 1) ⟨by decide, by decide⟩ 5 1 rfl rfl hA1 hj hN dL_law_706 dL_law_707 dL_law_709 dL_law_710 dL_law_711 ?_
  refine l_arg E (k := 2) ⟨by decide, by decide⟩ 5 1 rfl rfl hA1 hj hN dL_law_712 dL_law_713 dL_law_715 dL_law_716 dL_law_717 ?_
  refine l_arg E (k := 3) ⟨by decide, by decide⟩ 5 1 rfl rfl hA1 hj hN dL_law_718 dL_law_719 dL_law_721 dL_law_722 dL_law_723 ?_
  refine v_callV E (As := [vi (fS (j + 1)), vi (fS (j + 2)), vi (fS (j + 3))]) (b := ad 3002) (ci := 3) (C := RX4) (T := TX4) (N := 27) hB1.ho rfl (m_opShift κ H1 (hrI (j + 1)) (hrI (j + 2)) (hrI (j + 3)) hS.b hI hB1) (lw_V q1902 q1903 q1904 q82 q1905) 3 (by decide +kernel) rfl (by omega) (by omega) (cb' := cb) (sb' := sb) (by omega) (by omega) rfl (rest := []) (Nat.le_of_ble_eq_true rfl) (fun q hq => lw_hAm hz0 hE q (Or.inl hq)) dL_law_724 (fun v10 H2 hp10 hz10 hk10 => ?_)
  obtain ⟨rfl, mk1, hB2⟩ := hp10
  obtain ⟨hC2, hP2, hA2, ho2⟩ := lw_m hE (A := AH ad) (fun q h => Or.inl h) hC1 hP1 hA1 ho1 hB1 hV1 hz10 hk10
  have hV2 := lw_v hE hV1 hk10
  refine V.eq (st' := [vi (rp (opShift Sm (fS (j + 1)) (fS (j + 2)) (fS (j + 3))).1)]) (by rw [← vi_rp]; rfl) ?_
  refine v_istore E dL_law_727 (by rw [hL]; decide) (lv' := (6, vi (rp (opShift Sm (fS (j + 1)) (fS (j + 2)) (fS (j + 3))).1)) :: (5, vi (xoShift Sc (fS (j + 1)) (fS (j + 2)) (fS (j + 3))).2.1) :: lwL x (ad 3002) oa a0 j) rfl ?_
  exact l_tail E (by omega) (by omega) dL_law_729 dL_law_730 dL_law_733 dL_law_735 dL_law_740 dL_law_742 dL_law_745 dL_law_746 dL_law_747 dL_law_748 dL_law_750 dL_law_751 dL_law_752 dL_law_757 (by decide) hI hB2 ho2 e2 hR9.2 (rp_r _) (fun h => by rw [hg2 h, e1]) (fun H3 hz3 hk3 => K9 H3 (lwI.kept hE ⟨hC2, hA2, ⟨g2, ho2⟩, _, isoP, n, cap, iv, _, K, F, many, _, lv, lo, hi, rt, _, _, _, _, _, hP2, hB2, hV2, hS1, hR.up, hF7, hcap⟩ hz3 hk3))
set_option maxHeartbeats 400000 in
/-- reflect -/
theorem l_reflect {z : zT} {κ : zK} {ad : Nat → Nat} {a1 a2 a3 a4 x oa a0 N c j fr lo9 : Nat} {fS : Nat → Int} {H : Heap} {cb sb : Nat} (E : zOK z cL_law RX0 κ fr lo9 (some .boolean)) (X9 : zLw z) (hfr : 30 ≤ fr) (hlo : 700 ≤ lo9) (hz0 : z.H0.size ≤ κ.2 93) (hL : z.nL = 8) (hE : lwE κ ad a1 a2 a3 a4 oa a0) (hrI : ∀ k, rI (fS k)) (h : lwI κ ad a1 a2 a3 a4 x oa a0 N fS c H) (hc : c < 42) (hj : j + 6 ≤ N) (hN : N ≤ 252) (K9 : ∀ H1 : Heap, lwI κ ad a1 a2 a3 a4 x oa a0 N fS (c + 1) H1 → V z H1 cb sb 2204 (lwL x (ad 3002) oa a0 j) []) : V z H (cb + 28500) (sb + 129000) 760 (lwL x (ad 3002) oa a0 j) [] := by
  obtain ⟨hC, hA, ⟨g0, ho⟩, Sc, isoP, n, cap, iv, Sm, K, F, many, thr, lv, lo, hi, rt, P, f, g, mk, len, hP, hB, hV, hS, hR, hF7, hcap⟩ := h
  obtain ⟨hI, hreg, hou, h0⟩ := id hE
  have hD := hC.D
  obtain ⟨fsx, hx⟩ := hP.hx
  have hoA : ¬ pA κ H oa := mK.pA hD (Or.inr (Or.inl ⟨1, g0, ho⟩))
  have hM := c_refl κ H (hrI (j + 1)) (hrI (j + 2)) hC hS.bC hP
  rw [vi_rp (xoRefl Sc (fS (j + 1)) (fS (j + 2))).1] at hM
  have hR9 := okr_Refl Sc (fS (j + 1)) (fS (j + 2))
  refine v_aload_n E 3 rfl dL_law_760 ?_
  refine l_arg E (k := 1) ⟨by decide, by decide⟩ 4 0 rfl rfl hA hj hN dL_law_761 dL_law_762 dL_law_764 dL_law_765 dL_law_766 ?_
  refine l_arg E (k := 2) ⟨by decide, by decide⟩ 4 0 rfl rfl hA hj hN dL_law_767 dL_law_768 dL_law_770 dL_law_771 dL_law_772 ?_
  refine v_aload_n E 1 rfl dL_law_773 ?_
  refine v_callSK E X9 (As := [.ref x, vi (fS (j + 1)), vi (fS (j + 2)), .ref oa]) (w_reflect κ H hx ho (fun _ => rp_r _) hoA hM (hk_CP hD)) (lw_SW q1120 q1121 q69 q1122) 4 (by decide +kernel) rfl (by omega) (by omega) (cb' := cb + 4) (sb' := sb + 512) (by omega) (by omega) rfl (rest := []) (Nat.le_of_ble_eq_true rfl) (lw_hAc hz0 hE) dL_law_774 (fun v9 H1 hp9 hz9 hk9 => ?_)
  obtain ⟨rfl, hcase⟩ := hp9
  obtain ⟨hP1, g2, ho1, hg2⟩ := s_post (PO := fun H1 => CP κ H1 x (xoRefl Sc (fS (j + 1)) (fS (j + 2))).2.2 isoP n cap iv) (PX := fun H1 => CP κ H1 x Sc isoP n cap iv) (PR := fun H1 => CP κ H1 x (xoRefl Sc (fS (j + 1)) (fS (j + 2))).2.2 isoP n cap iv) hcase (fun h => h) (fun hne h => by rw [hR9.1 hne]; exact h)
  obtain ⟨hC1, hA1, hB1, hV1⟩ := lw_c hE hC hA hB hV hz9 hk9
  obtain ⟨e1, e2, hS1⟩ := ag_refl hS (fS (j + 1)) (fS (j + 2))
  refine v_istore E dL_law_777 (by rw [hL]; decide) (lv' := (5, vi (xoRefl Sc (fS (j + 1)) (fS (j + 2))).2.1) :: lwL x (ad 3002) oa a0 j) rfl ?_
  refine v_aload_n E 3 rfl dL_law_779 ?_
  refine l_arg E (k := 1) ⟨by decide, by decide⟩ 5 1 rfl rfl hA1 hj hN dL_law_780 dL_law_781 dL_law_783 dL_law_784 dL_law_785 ?_
  refine l_arg E (k := 2) ⟨by decide, by decide⟩ 5 1 rfl rfl hA1 hj hN dL_law_786 dL_law_787 dL_law_789 dL_law_790 dL_law_791 ?_
  refine v_callV E (As := [vi (fS (j + 1)), vi (fS (j + 2))]) (b := ad 3002) (ci := 3) (C := RX4) (T := TX4) (N := 27) hB1.ho rfl (m_opRefl κ H1 (hrI (j + 1)) (hrI (j + 2)) hS.b hI hB1) (lw_V q1906 q1907 q1908 q82 q1909) 2 (by decide +kernel) rfl (by omega) (by omega) (cb' := cb) (sb' := sb) (by omega) (by omega) rfl (rest := []) (Nat.le_of_ble_eq_true rfl) (fun q hq => lw_hAm hz0 hE q (Or.inl hq)) dL_law_792 (fun v10 H2 hp10 hz10 hk10 => ?_)
  obtain ⟨rfl, mk1, hB2⟩ := hp10
  obtain ⟨hC2, hP2, hA2, ho2⟩ := lw_m hE (A := AH ad) (fun q h => Or.inl h) hC1 hP1 hA1 ho1 hB1 hV1 hz10 hk10
  have hV2 := lw_v hE hV1 hk10
  refine V.eq (st' := [vi (rp (opRefl Sm (fS (j + 1)) (fS (j + 2))).1)]) (by rw [← vi_rp]; rfl) ?_
  refine v_istore E dL_law_795 (by rw [hL]; decide) (lv' := (6, vi (rp (opRefl Sm (fS (j + 1)) (fS (j + 2))).1)) :: (5, vi (xoRefl Sc (fS (j + 1)) (fS (j + 2))).2.1) :: lwL x (ad 3002) oa a0 j) rfl ?_
  exact l_tail E (by omega) (by omega) dL_law_797 dL_law_798 dL_law_801 dL_law_803 dL_law_808 dL_law_810 dL_law_813 dL_law_814 dL_law_815 dL_law_816 dL_law_818 dL_law_819 dL_law_820 dL_law_825 (by decide) hI hB2 ho2 e2 hR9.2 (rp_r _) (fun h => by rw [hg2 h, e1]) (fun H3 hz3 hk3 => K9 H3 (lwI.kept hE ⟨hC2, hA2, ⟨g2, ho2⟩, _, isoP, n, cap, iv, _, K, F, many, _, lv, lo, hi, rt, _, _, _, _, _, hP2, hB2, hV2, hS1, hR.up, hF7, hcap⟩ hz3 hk3))
set_option maxHeartbeats 400000 in
/-- scale -/
theorem l_scale {z : zT} {κ : zK} {ad : Nat → Nat} {a1 a2 a3 a4 x oa a0 N c j fr lo9 : Nat} {fS : Nat → Int} {H : Heap} {cb sb : Nat} (E : zOK z cL_law RX0 κ fr lo9 (some .boolean)) (X9 : zLw z) (hfr : 30 ≤ fr) (hlo : 700 ≤ lo9) (hz0 : z.H0.size ≤ κ.2 93) (hL : z.nL = 8) (hE : lwE κ ad a1 a2 a3 a4 oa a0) (hrI : ∀ k, rI (fS k)) (h : lwI κ ad a1 a2 a3 a4 x oa a0 N fS c H) (hc : c < 42) (hj : j + 6 ≤ N) (hN : N ≤ 252) (K9 : ∀ H1 : Heap, lwI κ ad a1 a2 a3 a4 x oa a0 N fS (c + 1) H1 → V z H1 cb sb 2204 (lwL x (ad 3002) oa a0 j) []) : V z H (cb + 28500) (sb + 129000) 828 (lwL x (ad 3002) oa a0 j) [] := by
  obtain ⟨hC, hA, ⟨g0, ho⟩, Sc, isoP, n, cap, iv, Sm, K, F, many, thr, lv, lo, hi, rt, P, f, g, mk, len, hP, hB, hV, hS, hR, hF7, hcap⟩ := h
  obtain ⟨hI, hreg, hou, h0⟩ := id hE
  have hD := hC.D
  obtain ⟨fsx, hx⟩ := hP.hx
  have hoA : ¬ pA κ H oa := mK.pA hD (Or.inr (Or.inl ⟨1, g0, ho⟩))
  have hM := c_scale κ H (hrI (j + 1)) (hrI (j + 2)) (hrI (j + 3)) hC hS.bC hP
  rw [vi_rp (xoScale Sc (fS (j + 1)) (fS (j + 2)) (fS (j + 3))).1] at hM
  have hR9 := okr_Scale Sc (fS (j + 1)) (fS (j + 2)) (fS (j + 3))
  refine v_aload_n E 3 rfl dL_law_828 ?_
  refine l_arg E (k := 1) ⟨by decide, by decide⟩ 4 0 rfl rfl hA hj hN dL_law_829 dL_law_830 dL_law_832 dL_law_833 dL_law_834 ?_
  refine l_arg E (k := 2) ⟨by decide, by decide⟩ 4 0 rfl rfl hA hj hN dL_law_835 dL_law_836 dL_law_838 dL_law_839 dL_law_840 ?_
  refine l_arg E (k := 3) ⟨by decide, by decide⟩ 4 0 rfl rfl hA hj hN dL_law_841 dL_law_842 dL_law_844 dL_law_845 dL_law_846 ?_
  refine v_aload_n E 1 rfl dL_law_847 ?_
  refine v_callSK E X9 (As := [.ref x, vi (fS (j + 1)), vi (fS (j + 2)), vi (fS (j + 3)), .ref oa]) (w_scale κ H hx ho (fun _ => rp_r _) hoA hM (hk_CP hD)) (lw_SW q1128 q1129 q69 q1130) 5 (by decide +kernel) rfl (by omega) (by omega) (cb' := cb + 4) (sb' := sb + 512) (by omega) (by omega) rfl (rest := []) (Nat.le_of_ble_eq_true rfl) (lw_hAc hz0 hE) dL_law_848 (fun v9 H1 hp9 hz9 hk9 => ?_)
  obtain ⟨rfl, hcase⟩ := hp9
  obtain ⟨hP1, g2, ho1, hg2⟩ := s_post (PO := fun H1 => CP κ H1 x (xoScale Sc (fS (j + 1)) (fS (j + 2)) (fS (j + 3))).2.2 isoP n cap iv) (PX := fun H1 => CP κ H1 x Sc isoP n cap iv) (PR := fun H1 => CP κ H1 x (xoScale Sc (fS (j + 1)) (fS (j + 2)) (fS (j + 3))).2.2 isoP n cap iv) hcase (fun h => h) (fun hne h => by rw [hR9.1 hne]; exact h)
  obtain ⟨hC1, hA1, hB1, hV1⟩ := lw_c hE hC hA hB hV hz9 hk9
  obtain ⟨e1, e2, hS1⟩ := ag_scale hS (fS (j + 1)) (fS (j + 2)) (fS (j + 3))
  refine v_istore E dL_law_851 (by rw [hL]; decide) (lv' := (5, vi (xoScale Sc (fS (j + 1)) (fS (j + 2)) (fS (j + 3))).2.1) :: lwL x (ad 3002) oa a0 j) rfl ?_
  refine v_aload_n E 3 rfl dL_law_853 ?_
  refine l_arg E (k := 1) ⟨by decide, by decide⟩ 5 1 rfl rfl hA1 hj hN dL_law_854 dL_law_855 dL_law_857 dL_law_858 dL_law_859 ?_
  refine l_arg E (k := 2) ⟨by decide, by decide⟩ 5 1 rfl rfl hA1 hj hN dL_law_860 dL_law_861 dL_law_863 dL_law_864 dL_law_865 ?_
  refine l_arg E (k := 3) ⟨by decide, by decide⟩ 5 1 rfl rfl hA1 hj hN dL_law_866 dL_law_867 dL_law_869 dL_law_870 dL_law_871 ?_
  refine v_callV E (As := [vi (fS (j + 1)), vi (fS (j + 2)), vi (fS (j + 3))]) (b := ad 3002) (ci := 3) (C := RX4) (T := TX4) (N := 27) hB1.ho rfl (m_opScale κ H1 (hrI (j + 1)) (hrI (j + 2)) (hrI (j + 3)) hS.b hI hB1) (lw_V q1910 q1911 q1912 q82 q1913) 3 (by decide +kernel) rfl (by omega) (by omega) (cb' := cb) (sb' := sb) (by omega) (by omega) rfl (rest := []) (Nat.le_of_ble_eq_true rfl) (fun q hq => lw_hAm hz0 hE q (Or.inl hq)) dL_law_872 (fun v10 H2 hp10 hz10 hk10 => ?_)
  obtain ⟨rfl, mk1, hB2⟩ := hp10
  obtain ⟨hC2, hP2, hA2, ho2⟩ := lw_m hE (A := AH ad) (fun q h => Or.inl h) hC1 hP1 hA1 ho1 hB1 hV1 hz10 hk10
  have hV2 := lw_v hE hV1 hk10
  refine V.eq (st' := [vi (rp (opScale Sm (fS (j + 1)) (fS (j + 2)) (fS (j + 3))).1)]) (by rw [← vi_rp]; rfl) ?_
  refine v_istore E dL_law_875 (by rw [hL]; decide) (lv' := (6, vi (rp (opScale Sm (fS (j + 1)) (fS (j + 2)) (fS (j + 3))).1)) :: (5, vi (xoScale Sc (fS (j + 1)) (fS (j + 2)) (fS (j + 3))).2.1) :: lwL x (ad 3002) oa a0 j) rfl ?_
  exact l_tail E (by omega) (by omega) dL_law_877 dL_law_878 dL_law_881 dL_law_883 dL_law_888 dL_law_890 dL_law_893 dL_law_894 dL_law_895 dL_law_896 dL_law_898 dL_law_899 dL_law_900 dL_law_905 (by decide) hI hB2 ho2 e2 hR9.2 (rp_r _) (fun h => by rw [hg2 h, e1]) (fun H3 hz3 hk3 => K9 H3 (lwI.kept hE ⟨hC2, hA2, ⟨g2, ho2⟩, _, isoP, n, cap, iv, _, K, F, many, _, lv, lo, hi, rt, _, _, _, _, _, hP2, hB2, hV2, hS1, hR.up, hF7, hcap⟩ hz3 hk3))
set_option maxHeartbeats 400000 in
/-- gcd -/
theorem l_gcd {z : zT} {κ : zK} {ad : Nat → Nat} {a1 a2 a3 a4 x oa a0 N c j fr lo9 : Nat} {fS : Nat → Int} {H : Heap} {cb sb : Nat} (E : zOK z cL_law RX0 κ fr lo9 (some .boolean)) (X9 : zLw z) (hfr : 30 ≤ fr) (hlo : 700 ≤ lo9) (hz0 : z.H0.size ≤ κ.2 93) (hL : z.nL = 8) (hE : lwE κ ad a1 a2 a3 a4 oa a0) (hrI : ∀ k, rI (fS k)) (h : lwI κ ad a1 a2 a3 a4 x oa a0 N fS c H) (hc : c < 42) (hj : j + 6 ≤ N) (hN : N ≤ 252) (K9 : ∀ H1 : Heap, lwI κ ad a1 a2 a3 a4 x oa a0 N fS (c + 1) H1 → V z H1 cb sb 2204 (lwL x (ad 3002) oa a0 j) []) : V z H (cb + 28500) (sb + 129000) 908 (lwL x (ad 3002) oa a0 j) [] := by
  obtain ⟨hC, hA, ⟨g0, ho⟩, Sc, isoP, n, cap, iv, Sm, K, F, many, thr, lv, lo, hi, rt, P, f, g, mk, len, hP, hB, hV, hS, hR, hF7, hcap⟩ := h
  obtain ⟨hI, hreg, hou, h0⟩ := id hE
  have hD := hC.D
  obtain ⟨fsx, hx⟩ := hP.hx
  have hoA : ¬ pA κ H oa := mK.pA hD (Or.inr (Or.inl ⟨1, g0, ho⟩))
  have hM := c_gcd κ H (hrI (j + 1)) (hrI (j + 2)) (hrI (j + 3)) hC hS.bC okT_g hS.hG hP
  rw [vi_rp (xoGcd Sc (fS (j + 1)) (fS (j + 2)) (fS (j + 3))).1] at hM
  have hR9 := okr_Gcd Sc (fS (j + 1)) (fS (j + 2)) (fS (j + 3))
  refine v_aload_n E 3 rfl dL_law_908 ?_
  refine l_arg E (k := 1) ⟨by decide, by decide⟩ 4 0 rfl rfl hA hj hN dL_law_909 dL_law_910 dL_law_912 dL_law_913 dL_law_914 ?_
  refine l_arg E (k := 2) ⟨by decide, by decide⟩ 4 0 rfl rfl hA hj hN dL_law_915 dL_law_916 dL_law_918 dL_law_919 dL_law_920 ?_
  refine l_arg E (k := 3) ⟨by decide, by decide⟩ 4 0 rfl rfl hA hj hN dL_law_921 dL_law_922 dL_law_924 dL_law_925 dL_law_926 ?_
  refine v_aload_n E 1 rfl dL_law_927 ?_
  refine v_callSK E X9 (As := [.ref x, vi (fS (j + 1)), vi (fS (j + 2)), vi (fS (j + 3)), .ref oa]) (w_gcd κ H hx ho (fun _ => rp_r _) hoA hM (hk_CP hD)) (lw_SW q1135 q1136 q69 q1137) 5 (by decide +kernel) rfl (by omega) (by omega) (cb' := cb + 4) (sb' := sb + 512) (by omega) (by omega) rfl (rest := []) (Nat.le_of_ble_eq_true rfl) (lw_hAc hz0 hE) dL_law_928 (fun v9 H1 hp9 hz9 hk9 => ?_)
  obtain ⟨rfl, hcase⟩ := hp9
  obtain ⟨hP1, g2, ho1, hg2⟩ := s_post (PO := fun H1 => CP κ H1 x (xoGcd Sc (fS (j + 1)) (fS (j + 2)) (fS (j + 3))).2.2 isoP n cap iv) (PX := fun H1 => CP κ H1 x Sc isoP n cap iv) (PR := fun H1 => CP κ H1 x (xoGcd Sc (fS (j + 1)) (fS (j + 2)) (fS (j + 3))).2.2 isoP n cap iv) hcase (fun h => h) (fun hne h => by rw [hR9.1 hne]; exact h)
  obtain ⟨hC1, hA1, hB1, hV1⟩ := lw_c hE hC hA hB hV hz9 hk9
  obtain ⟨e1, e2, hS1⟩ := ag_gcd hS (fS (j + 1)) (fS (j + 2)) (fS (j + 3))
  refine v_istore E dL_law_931 (by rw [hL]; decide) (lv' := (5, vi (xoGcd Sc (fS (j + 1)) (fS (j + 2)) (fS (j + 3))).2.1) :: lwL x (ad 3002) oa a0 j) rfl ?_
  refine v_aload_n E 3 rfl dL_law_933 ?_
  refine l_arg E (k := 1) ⟨by decide, by decide⟩ 5 1 rfl rfl hA1 hj hN dL_law_934 dL_law_935 dL_law_937 dL_law_938 dL_law_939 ?_
  refine l_arg E (k := 2) ⟨by decide, by decide⟩ 5 1 rfl rfl hA1 hj hN dL_law_940 dL_law_941 dL_law_943 dL_law_944 dL_law_945 ?_
  refine l_arg E (k := 3) ⟨by decide, by decide⟩ 5 1 rfl rfl hA1 hj hN dL_law_946 dL_law_947 dL_law_949 dL_law_950 dL_law_951 ?_
  refine v_callV E (As := [vi (fS (j + 1)), vi (fS (j + 2)), vi (fS (j + 3))]) (b := ad 3002) (ci := 3) (C := RX4) (T := TX4) (N := 27) hB1.ho rfl (m_opGcd κ H1 (hrI (j + 1)) (hrI (j + 2)) (hrI (j + 3)) hS.b (rs_mG hS) hI hB1) (lw_V q1914 q1915 q1916 q82 q1917) 3 (by decide +kernel) rfl (by omega) (by omega) (cb' := cb) (sb' := sb) (by omega) (by omega) rfl (rest := []) (Nat.le_of_ble_eq_true rfl) (fun q hq => lw_hAm hz0 hE q (Or.inl hq)) dL_law_952 (fun v10 H2 hp10 hz10 hk10 => ?_)
  obtain ⟨rfl, P1, f1, mk1, h77, hB2⟩ := hp10
  obtain ⟨hC2, hP2, hA2, ho2⟩ := lw_m hE (A := AH ad) (fun q h => Or.inl h) hC1 hP1 hA1 ho1 hB1 hV1 hz10 hk10
  have hV2 := lw_v hE hV1 hk10
  refine V.eq (st' := [vi (rp (opGcd Sm (fS (j + 1)) (fS (j + 2)) (fS (j + 3))).1)]) (by rw [← vi_rp]; rfl) ?_
  refine v_istore E dL_law_955 (by rw [hL]; decide) (lv' := (6, vi (rp (opGcd Sm (fS (j + 1)) (fS (j + 2)) (fS (j + 3))).1)) :: (5, vi (xoGcd Sc (fS (j + 1)) (fS (j + 2)) (fS (j + 3))).2.1) :: lwL x (ad 3002) oa a0 j) rfl ?_
  exact l_tail E (by omega) (by omega) dL_law_957 dL_law_958 dL_law_961 dL_law_963 dL_law_968 dL_law_970 dL_law_973 dL_law_974 dL_law_975 dL_law_976 dL_law_978 dL_law_979 dL_law_980 dL_law_985 (by decide) hI hB2 ho2 e2 hR9.2 (rp_r _) (fun h => by rw [hg2 h, e1]) (fun H3 hz3 hk3 => K9 H3 (lwI.kept hE ⟨hC2, hA2, ⟨g2, ho2⟩, _, isoP, n, cap, iv, _, K, F, many, _, lv, lo, hi, rt, _, _, _, _, _, hP2, hB2, hV2, hS1, hR.up, (h77.trans' hF7), hcap⟩ hz3 hk3))
set_option maxHeartbeats 400000 in
/-- squareFreePart -/
theorem l_squareFreePart {z : zT} {κ : zK} {ad : Nat → Nat} {a1 a2 a3 a4 x oa a0 N c j fr lo9 : Nat} {fS : Nat → Int} {H : Heap} {cb sb : Nat} (E : zOK z cL_law RX0 κ fr lo9 (some .boolean)) (X9 : zLw z) (hfr : 30 ≤ fr) (hlo : 700 ≤ lo9) (hz0 : z.H0.size ≤ κ.2 93) (hL : z.nL = 8) (hE : lwE κ ad a1 a2 a3 a4 oa a0) (hrI : ∀ k, rI (fS k)) (h : lwI κ ad a1 a2 a3 a4 x oa a0 N fS c H) (hc : c < 42) (hj : j + 6 ≤ N) (hN : N ≤ 252) (K9 : ∀ H1 : Heap, lwI κ ad a1 a2 a3 a4 x oa a0 N fS (c + 1) H1 → V z H1 cb sb 2204 (lwL x (ad 3002) oa a0 j) []) : V z H (cb + 28500) (sb + 129000) 988 (lwL x (ad 3002) oa a0 j) [] := by
  obtain ⟨hC, hA, ⟨g0, ho⟩, Sc, isoP, n, cap, iv, Sm, K, F, many, thr, lv, lo, hi, rt, P, f, g, mk, len, hP, hB, hV, hS, hR, hF7, hcap⟩ := h
  obtain ⟨hI, hreg, hou, h0⟩ := id hE
  have hD := hC.D
  obtain ⟨fsx, hx⟩ := hP.hx
  have hoA : ¬ pA κ H oa := mK.pA hD (Or.inr (Or.inl ⟨1, g0, ho⟩))
  have hM := c_free κ H (hrI (j + 1)) (hrI (j + 2)) hC hS.hQ hS.hFr hP
  rw [vi_rp (xoFree Sc (fS (j + 1)) (fS (j + 2))).1] at hM
  have hR9 := okr_Free Sc (fS (j + 1)) (fS (j + 2))
  refine v_aload_n E 3 rfl dL_law_988 ?_
  refine l_arg E (k := 1) ⟨by decide, by decide⟩ 4 0 rfl rfl hA hj hN dL_law_989 dL_law_990 dL_law_992 dL_law_993 dL_law_994 ?_
  refine l_arg E (k := 2) ⟨by decide, by decide⟩ 4 0 rfl rfl hA hj hN dL_law_995 dL_law_996 dL_law_998 dL_law_999 dL_law_1000 ?_
  refine v_aload_n E 1 rfl dL_law_1001 ?_
  refine v_callSK E X9 (As := [.ref x, vi (fS (j + 1)), vi (fS (j + 2)), .ref oa]) (w_squareFreePart κ H hx ho (fun _ => rp_r _) hoA hM (hk_CP hD)) (lw_SW q1450 q1451 q69 q1452) 4 (by decide +kernel) rfl (by omega) (by omega) (cb' := cb + 4) (sb' := sb + 512) (by omega) (by omega) rfl (rest := []) (Nat.le_of_ble_eq_true rfl) (lw_hAc hz0 hE) dL_law_1002 (fun v9 H1 hp9 hz9 hk9 => ?_)
  obtain ⟨rfl, hcase⟩ := hp9
  obtain ⟨hP1, g2, ho1, hg2⟩ := s_post (PO := fun H1 => CP κ H1 x (xoFree Sc (fS (j + 1)) (fS (j + 2))).2.2 isoP n cap iv) (PX := fun H1 => CP κ H1 x Sc isoP n cap iv) (PR := fun H1 => CP κ H1 x (xoFree Sc (fS (j + 1)) (fS (j + 2))).2.2 isoP n cap iv) hcase (fun h => h) (fun hne h => by rw [hR9.1 hne]; exact h)
  obtain ⟨hC1, hA1, hB1, hV1⟩ := lw_c hE hC hA hB hV hz9 hk9
  obtain ⟨e1, e2, hS1⟩ := ag_free hS (fS (j + 1)) (fS (j + 2))
  refine v_istore E dL_law_1005 (by rw [hL]; decide) (lv' := (5, vi (xoFree Sc (fS (j + 1)) (fS (j + 2))).2.1) :: lwL x (ad 3002) oa a0 j) rfl ?_
  refine v_aload_n E 3 rfl dL_law_1007 ?_
  refine l_arg E (k := 1) ⟨by decide, by decide⟩ 5 1 rfl rfl hA1 hj hN dL_law_1008 dL_law_1009 dL_law_1011 dL_law_1012 dL_law_1013 ?_
  refine l_arg E (k := 2) ⟨by decide, by decide⟩ 5 1 rfl rfl hA1 hj hN dL_law_1014 dL_law_1015 dL_law_1017 dL_law_1018 dL_law_1019 ?_
  refine v_callV E (As := [vi (fS (j + 1)), vi (fS (j + 2))]) (b := ad 3002) (ci := 3) (C := RX4) (T := TX4) (N := 27) hB1.ho rfl (m_opFree κ H1 (hrI (j + 1)) (hrI (j + 2)) hS.b (rs_mF hS) hI hB1) (lw_V q2002 q2003 q2004 q82 q2005) 2 (by decide +kernel) rfl (by omega) (by omega) (cb' := cb) (sb' := sb) (by omega) (by omega) rfl (rest := []) (Nat.le_of_ble_eq_true rfl) (fun q hq => lw_hAm hz0 hE q (Or.inl hq)) dL_law_1020 (fun v10 H2 hp10 hz10 hk10 => ?_)
  obtain ⟨rfl, P1, f1, mk1, h77, hB2⟩ := hp10
  obtain ⟨hC2, hP2, hA2, ho2⟩ := lw_m hE (A := AH ad) (fun q h => Or.inl h) hC1 hP1 hA1 ho1 hB1 hV1 hz10 hk10
  have hV2 := lw_v hE hV1 hk10
  refine V.eq (st' := [vi (rp (opFree Sm (fS (j + 1)) (fS (j + 2))).1)]) (by rw [← vi_rp]; rfl) ?_
  refine v_istore E dL_law_1023 (by rw [hL]; decide) (lv' := (6, vi (rp (opFree Sm (fS (j + 1)) (fS (j + 2))).1)) :: (5, vi (xoFree Sc (fS (j + 1)) (fS (j + 2))).2.1) :: lwL x (ad 3002) oa a0 j) rfl ?_
  exact l_tail E (by omega) (by omega) dL_law_1025 dL_law_1026 dL_law_1029 dL_law_1031 dL_law_1036 dL_law_1038 dL_law_1041 dL_law_1042 dL_law_1043 dL_law_1044 dL_law_1046 dL_law_1047 dL_law_1048 dL_law_1053 (by decide) hI hB2 ho2 e2 hR9.2 (rp_r _) (fun h => by rw [hg2 h, e1]) (fun H3 hz3 hk3 => K9 H3 (lwI.kept hE ⟨hC2, hA2, ⟨g2, ho2⟩, _, isoP, n, cap, iv, _, K, F, many, _, lv, lo, hi, rt, _, _, _, _, _, hP2, hB2, hV2, hS1, hR.up, (h77.trans' hF7), hcap⟩ hz3 hk3))
set_option maxHeartbeats 400000 in
/-- sturmLength -/
theorem l_sturmLength {z : zT} {κ : zK} {ad : Nat → Nat} {a1 a2 a3 a4 x oa a0 N c j fr lo9 : Nat} {fS : Nat → Int} {H : Heap} {cb sb : Nat} (E : zOK z cL_law RX0 κ fr lo9 (some .boolean)) (X9 : zLw z) (hfr : 30 ≤ fr) (hlo : 700 ≤ lo9) (hz0 : z.H0.size ≤ κ.2 93) (hL : z.nL = 8) (hE : lwE κ ad a1 a2 a3 a4 oa a0) (hrI : ∀ k, rI (fS k)) (h : lwI κ ad a1 a2 a3 a4 x oa a0 N fS c H) (hc : c < 42) (hj : j + 6 ≤ N) (hN : N ≤ 252) (K9 : ∀ H1 : Heap, lwI κ ad a1 a2 a3 a4 x oa a0 N fS (c + 1) H1 → V z H1 cb sb 2204 (lwL x (ad 3002) oa a0 j) []) : V z H (cb + 28500) (sb + 129000) 1056 (lwL x (ad 3002) oa a0 j) [] := by
  obtain ⟨hC, hA, ⟨g0, ho⟩, Sc, isoP, n, cap, iv, Sm, K, F, many, thr, lv, lo, hi, rt, P, f, g, mk, len, hP, hB, hV, hS, hR, hF7, hcap⟩ := h
  obtain ⟨hI, hreg, hou, h0⟩ := id hE
  have hD := hC.D
  obtain ⟨fsx, hx⟩ := hP.hx
  have hoA : ¬ pA κ H oa := mK.pA hD (Or.inr (Or.inl ⟨1, g0, ho⟩))
  have hM := c_len κ H (hrI (j + 1)) hC hS.hQ hP
  rw [vi_rp (xoLen Sc (fS (j + 1))).1] at hM
  have hR9 := okr_Len Sc (fS (j + 1))
  refine v_aload_n E 3 rfl dL_law_1056 ?_
  refine l_arg E (k := 1) ⟨by decide, by decide⟩ 4 0 rfl rfl hA hj hN dL_law_1057 dL_law_1058 dL_law_1060 dL_law_1061 dL_law_1062 ?_
  refine v_aload_n E 1 rfl dL_law_1063 ?_
  refine v_callSK E X9 (As := [.ref x, vi (fS (j + 1)), .ref oa]) (w_sturmLength κ H hx ho (fun _ => rp_r _) hoA hM (hk_CP hD)) (lw_SW q1489 q1490 q69 q1491) 3 (by decide +kernel) rfl (by omega) (by omega) (cb' := cb + 4) (sb' := sb + 512) (by omega) (by omega) rfl (rest := []) (Nat.le_of_ble_eq_true rfl) (lw_hAc hz0 hE) dL_law_1064 (fun v9 H1 hp9 hz9 hk9 => ?_)
  obtain ⟨rfl, hcase⟩ := hp9
  obtain ⟨hP1, g2, ho1, hg2⟩ := s_post (PO := fun H1 => CP κ H1 x (xoLen Sc (fS (j + 1))).2.2 isoP n cap iv) (PX := fun H1 => CP κ H1 x Sc isoP n cap iv) (PR := fun H1 => CP κ H1 x (xoLen Sc (fS (j + 1))).2.2 isoP n cap iv) hcase (fun h => h) (fun hne h => by rw [hR9.1 hne]; exact h)
  obtain ⟨hC1, hA1, hB1, hV1⟩ := lw_c hE hC hA hB hV hz9 hk9
  obtain ⟨e1, e2, hS1⟩ := ag_len hS (fS (j + 1))
  refine v_istore E dL_law_1067 (by rw [hL]; decide) (lv' := (5, vi (xoLen Sc (fS (j + 1))).2.1) :: lwL x (ad 3002) oa a0 j) rfl ?_
  refine v_aload_n E 3 rfl dL_law_1069 ?_
  refine l_arg E (k := 1) ⟨by decide, by decide⟩ 5 1 rfl rfl hA1 hj hN dL_law_1070 dL_law_1071 dL_law_1073 dL_law_1074 dL_law_1075 ?_
  refine v_callV E (As := [vi (fS (j + 1))]) (b := ad 3002) (ci := 3) (C := RX4) (T := TX4) (N := 27) hB1.ho rfl (m_opLen κ H1 (hrI (j + 1)) hS.b (rs_mR hS) hI hB1) (lw_V q2020 q2021 q2022 q82 q2023) 1 (by decide +kernel) rfl (by omega) (by omega) (cb' := cb) (sb' := sb) (by omega) (by omega) rfl (rest := []) (Nat.le_of_ble_eq_true rfl) (fun q hq => lw_hAm hz0 hE q (Or.inl hq)) dL_law_1076 (fun v10 H2 hp10 hz10 hk10 => ?_)
  obtain ⟨rfl, P1, f1, g1, mk1, len1, h77, hB2⟩ := hp10
  obtain ⟨hC2, hP2, hA2, ho2⟩ := lw_m hE (A := AH ad) (fun q h => Or.inl h) hC1 hP1 hA1 ho1 hB1 hV1 hz10 hk10
  have hV2 := lw_v hE hV1 hk10
  refine V.eq (st' := [vi (rp (opLen Sm (fS (j + 1))).1)]) (by rw [← vi_rp]; rfl) ?_
  refine v_istore E dL_law_1079 (by rw [hL]; decide) (lv' := (6, vi (rp (opLen Sm (fS (j + 1))).1)) :: (5, vi (xoLen Sc (fS (j + 1))).2.1) :: lwL x (ad 3002) oa a0 j) rfl ?_
  exact l_tail E (by omega) (by omega) dL_law_1081 dL_law_1082 dL_law_1085 dL_law_1087 dL_law_1092 dL_law_1094 dL_law_1097 dL_law_1098 dL_law_1099 dL_law_1100 dL_law_1102 dL_law_1103 dL_law_1104 dL_law_1109 (by decide) hI hB2 ho2 e2 hR9.2 (rp_r _) (fun h => by rw [hg2 h, e1]) (fun H3 hz3 hk3 => K9 H3 (lwI.kept hE ⟨hC2, hA2, ⟨g2, ho2⟩, _, isoP, n, cap, iv, _, K, F, many, _, lv, lo, hi, rt, _, _, _, _, _, hP2, hB2, hV2, hS1, hR.up, (h77.trans' hF7), hcap⟩ hz3 hk3))
set_option maxHeartbeats 400000 in
/-- sturmDegree -/
theorem l_sturmDegree {z : zT} {κ : zK} {ad : Nat → Nat} {a1 a2 a3 a4 x oa a0 N c j fr lo9 : Nat} {fS : Nat → Int} {H : Heap} {cb sb : Nat} (E : zOK z cL_law RX0 κ fr lo9 (some .boolean)) (X9 : zLw z) (hfr : 30 ≤ fr) (hlo : 700 ≤ lo9) (hz0 : z.H0.size ≤ κ.2 93) (hL : z.nL = 8) (hE : lwE κ ad a1 a2 a3 a4 oa a0) (hrI : ∀ k, rI (fS k)) (h : lwI κ ad a1 a2 a3 a4 x oa a0 N fS c H) (hc : c < 42) (hj : j + 6 ≤ N) (hN : N ≤ 252) (K9 : ∀ H1 : Heap, lwI κ ad a1 a2 a3 a4 x oa a0 N fS (c + 1) H1 → V z H1 cb sb 2204 (lwL x (ad 3002) oa a0 j) []) : V z H (cb + 28500) (sb + 129000) 1191 (lwL x (ad 3002) oa a0 j) [] := by
  obtain ⟨hC, hA, ⟨g0, ho⟩, Sc, isoP, n, cap, iv, Sm, K, F, many, thr, lv, lo, hi, rt, P, f, g, mk, len, hP, hB, hV, hS, hR, hF7, hcap⟩ := h
  obtain ⟨hI, hreg, hou, h0⟩ := id hE
  have hD := hC.D
  obtain ⟨fsx, hx⟩ := hP.hx
  have hoA : ¬ pA κ H oa := mK.pA hD (Or.inr (Or.inl ⟨1, g0, ho⟩))
  have hM := c_sdeg κ H (hrI (j + 1)) (hrI (j + 2)) hC hS.hQ hP
  rw [vi_rp (xoSdeg Sc (fS (j + 1)) (fS (j + 2))).1] at hM
  have hR9 := okr_Sdeg Sc (fS (j + 1)) (fS (j + 2))
  refine v_aload_n E 3 rfl dL_law_1191 ?_
  refine l_arg E (k := 1) ⟨by decide, by decide⟩ 4 0 rfl rfl hA hj hN dL_law_1192 dL_law_1193 dL_law_1195 dL_law_1196 dL_law_1197 ?_
  refine l_arg E (k := 2) ⟨by decide, by decide⟩ 4 0 rfl rfl hA hj hN dL_law_1198 dL_law_1199 dL_law_1201 dL_law_1202 dL_law_1203 ?_
  refine v_aload_n E 1 rfl dL_law_1204 ?_
  refine v_callSK E X9 (As := [.ref x, vi (fS (j + 1)), vi (fS (j + 2)), .ref oa]) (w_sturmDegree κ H hx ho (fun _ => rp_r _) hoA hM (hk_CP hD)) (lw_SW q1511 q1512 q69 q1513) 4 (by decide +kernel) rfl (by omega) (by omega) (cb' := cb + 4) (sb' := sb + 512) (by omega) (by omega) rfl (rest := []) (Nat.le_of_ble_eq_true rfl) (lw_hAc hz0 hE) dL_law_1205 (fun v9 H1 hp9 hz9 hk9 => ?_)
  obtain ⟨rfl, hcase⟩ := hp9
  obtain ⟨hP1, g2, ho1, hg2⟩ := s_post (PO := fun H1 => CP κ H1 x (xoSdeg Sc (fS (j + 1)) (fS (j + 2))).2.2 isoP n cap iv) (PX := fun H1 => CP κ H1 x Sc isoP n cap iv) (PR := fun H1 => CP κ H1 x (xoSdeg Sc (fS (j + 1)) (fS (j + 2))).2.2 isoP n cap iv) hcase (fun h => h) (fun hne h => by rw [hR9.1 hne]; exact h)
  obtain ⟨hC1, hA1, hB1, hV1⟩ := lw_c hE hC hA hB hV hz9 hk9
  obtain ⟨e1, e2, hS1⟩ := ag_sdeg hS (fS (j + 1)) (fS (j + 2))
  refine v_istore E dL_law_1208 (by rw [hL]; decide) (lv' := (5, vi (xoSdeg Sc (fS (j + 1)) (fS (j + 2))).2.1) :: lwL x (ad 3002) oa a0 j) rfl ?_
  refine v_aload_n E 3 rfl dL_law_1210 ?_
  refine l_arg E (k := 1) ⟨by decide, by decide⟩ 5 1 rfl rfl hA1 hj hN dL_law_1211 dL_law_1212 dL_law_1214 dL_law_1215 dL_law_1216 ?_
  refine l_arg E (k := 2) ⟨by decide, by decide⟩ 5 1 rfl rfl hA1 hj hN dL_law_1217 dL_law_1218 dL_law_1220 dL_law_1221 dL_law_1222 ?_
  refine v_callV E (As := [vi (fS (j + 1)), vi (fS (j + 2))]) (b := ad 3002) (ci := 3) (C := RX4) (T := TX4) (N := 27) hB1.ho rfl (m_opSdeg κ H1 (hrI (j + 1)) (hrI (j + 2)) hS.b (rs_mR hS) hI hB1) (lw_V q2032 q2033 q2034 q82 q2035) 2 (by decide +kernel) rfl (by omega) (by omega) (cb' := cb) (sb' := sb) (by omega) (by omega) rfl (rest := []) (Nat.le_of_ble_eq_true rfl) (fun q hq => lw_hAm hz0 hE q (Or.inl hq)) dL_law_1223 (fun v10 H2 hp10 hz10 hk10 => ?_)
  obtain ⟨rfl, P1, f1, g1, mk1, len1, h77, hB2⟩ := hp10
  obtain ⟨hC2, hP2, hA2, ho2⟩ := lw_m hE (A := AH ad) (fun q h => Or.inl h) hC1 hP1 hA1 ho1 hB1 hV1 hz10 hk10
  have hV2 := lw_v hE hV1 hk10
  refine V.eq (st' := [vi (rp (opSdeg Sm (fS (j + 1)) (fS (j + 2))).1)]) (by rw [← vi_rp]; rfl) ?_
  refine v_istore E dL_law_1226 (by rw [hL]; decide) (lv' := (6, vi (rp (opSdeg Sm (fS (j + 1)) (fS (j + 2))).1)) :: (5, vi (xoSdeg Sc (fS (j + 1)) (fS (j + 2))).2.1) :: lwL x (ad 3002) oa a0 j) rfl ?_
  exact l_tail E (by omega) (by omega) dL_law_1228 dL_law_1229 dL_law_1232 dL_law_1234 dL_law_1239 dL_law_1241 dL_law_1244 dL_law_1245 dL_law_1246 dL_law_1247 dL_law_1249 dL_law_1250 dL_law_1251 dL_law_1256 (by decide) hI hB2 ho2 e2 hR9.2 (rp_r _) (fun h => by rw [hg2 h, e1]) (fun H3 hz3 hk3 => K9 H3 (lwI.kept hE ⟨hC2, hA2, ⟨g2, ho2⟩, _, isoP, n, cap, iv, _, K, F, many, _, lv, lo, hi, rt, _, _, _, _, _, hP2, hB2, hV2, hS1, hR.up, (h77.trans' hF7), hcap⟩ hz3 hk3))
set_option maxHeartbeats 400000 in
/-- signChanges -/
theorem l_signChanges {z : zT} {κ : zK} {ad : Nat → Nat} {a1 a2 a3 a4 x oa a0 N c j fr lo9 : Nat} {fS : Nat → Int} {H : Heap} {cb sb : Nat} (E : zOK z cL_law RX0 κ fr lo9 (some .boolean)) (X9 : zLw z) (hfr : 30 ≤ fr) (hlo : 700 ≤ lo9) (hz0 : z.H0.size ≤ κ.2 93) (hL : z.nL = 8) (hE : lwE κ ad a1 a2 a3 a4 oa a0) (hrI : ∀ k, rI (fS k)) (h : lwI κ ad a1 a2 a3 a4 x oa a0 N fS c H) (hc : c < 42) (hj : j + 6 ≤ N) (hN : N ≤ 252) (K9 : ∀ H1 : Heap, lwI κ ad a1 a2 a3 a4 x oa a0 N fS (c + 1) H1 → V z H1 cb sb 2204 (lwL x (ad 3002) oa a0 j) []) : V z H (cb + 28500) (sb + 129000) 1259 (lwL x (ad 3002) oa a0 j) [] := by
  obtain ⟨hC, hA, ⟨g0, ho⟩, Sc, isoP, n, cap, iv, Sm, K, F, many, thr, lv, lo, hi, rt, P, f, g, mk, len, hP, hB, hV, hS, hR, hF7, hcap⟩ := h
  obtain ⟨hI, hreg, hou, h0⟩ := id hE
  have hD := hC.D
  obtain ⟨fsx, hx⟩ := hP.hx
  have hoA : ¬ pA κ H oa := mK.pA hD (Or.inr (Or.inl ⟨1, g0, ho⟩))
  have hM := c_var κ H (hrI (j + 1)) (hrI (j + 2)) (hrI (j + 3)) hC hS.hQ hP
  rw [vi_rp (xoVar Sc (fS (j + 1)) (fS (j + 2)) (fS (j + 3))).1] at hM
  have hR9 := okr_Var Sc (fS (j + 1)) (fS (j + 2)) (fS (j + 3))
  refine v_aload_n E 3 rfl dL_law_1259 ?_
  refine l_arg E (k := 1) ⟨by decide, by decide⟩ 4 0 rfl rfl hA hj hN dL_law_1260 dL_law_1261 dL_law_1263 dL_law_1264 dL_law_1265 ?_
  refine l_arg E (k := 2) ⟨by decide, by decide⟩ 4 0 rfl rfl hA hj hN dL_law_1266 dL_law_1267 dL_law_1269 dL_law_1270 dL_law_1271 ?_
  refine l_arg E (k := 3) ⟨by decide, by decide⟩ 4 0 rfl rfl hA hj hN dL_law_1272 dL_law_1273 dL_law_1275 dL_law_1276 dL_law_1277 ?_
  refine v_aload_n E 1 rfl dL_law_1278 ?_
  refine v_callSK E X9 (As := [.ref x, vi (fS (j + 1)), vi (fS (j + 2)), vi (fS (j + 3)), .ref oa]) (w_signChanges κ H hx ho (fun _ => rp_r _) hoA hM (hk_CP hD)) (lw_SW q1518 q1519 q69 q1520) 5 (by decide +kernel) rfl (by omega) (by omega) (cb' := cb + 4) (sb' := sb + 512) (by omega) (by omega) rfl (rest := []) (Nat.le_of_ble_eq_true rfl) (lw_hAc hz0 hE) dL_law_1279 (fun v9 H1 hp9 hz9 hk9 => ?_)
  obtain ⟨rfl, hcase⟩ := hp9
  obtain ⟨hP1, g2, ho1, hg2⟩ := s_post (PO := fun H1 => CP κ H1 x (xoVar Sc (fS (j + 1)) (fS (j + 2)) (fS (j + 3))).2.2 isoP n cap iv) (PX := fun H1 => CP κ H1 x Sc isoP n cap iv) (PR := fun H1 => CP κ H1 x (xoVar Sc (fS (j + 1)) (fS (j + 2)) (fS (j + 3))).2.2 isoP n cap iv) hcase (fun h => h) (fun hne h => by rw [hR9.1 hne]; exact h)
  obtain ⟨hC1, hA1, hB1, hV1⟩ := lw_c hE hC hA hB hV hz9 hk9
  obtain ⟨e1, e2, hS1⟩ := ag_var hS (fS (j + 1)) (fS (j + 2)) (fS (j + 3))
  refine v_istore E dL_law_1282 (by rw [hL]; decide) (lv' := (5, vi (xoVar Sc (fS (j + 1)) (fS (j + 2)) (fS (j + 3))).2.1) :: lwL x (ad 3002) oa a0 j) rfl ?_
  refine v_aload_n E 3 rfl dL_law_1284 ?_
  refine l_arg E (k := 1) ⟨by decide, by decide⟩ 5 1 rfl rfl hA1 hj hN dL_law_1285 dL_law_1286 dL_law_1288 dL_law_1289 dL_law_1290 ?_
  refine l_arg E (k := 2) ⟨by decide, by decide⟩ 5 1 rfl rfl hA1 hj hN dL_law_1291 dL_law_1292 dL_law_1294 dL_law_1295 dL_law_1296 ?_
  refine l_arg E (k := 3) ⟨by decide, by decide⟩ 5 1 rfl rfl hA1 hj hN dL_law_1297 dL_law_1298 dL_law_1300 dL_law_1301 dL_law_1302 ?_
  refine v_callV E (As := [vi (fS (j + 1)), vi (fS (j + 2)), vi (fS (j + 3))]) (b := ad 3002) (ci := 3) (C := RX4) (T := TX4) (N := 27) hB1.ho rfl (m_opVar κ H1 (hrI (j + 1)) (hrI (j + 2)) (hrI (j + 3)) hS.b (rs_mR hS) (rs_mV hS) hI hB1) (lw_V q2036 q2037 q2038 q82 q2039) 3 (by decide +kernel) rfl (by omega) (by omega) (cb' := cb) (sb' := sb) (by omega) (by omega) rfl (rest := []) (Nat.le_of_ble_eq_true rfl) (fun q hq => lw_hAm hz0 hE q (Or.inl hq)) dL_law_1303 (fun v10 H2 hp10 hz10 hk10 => ?_)
  obtain ⟨rfl, P1, f1, g1, mk1, len1, h77, hB2⟩ := hp10
  obtain ⟨hC2, hP2, hA2, ho2⟩ := lw_m hE (A := AH ad) (fun q h => Or.inl h) hC1 hP1 hA1 ho1 hB1 hV1 hz10 hk10
  have hV2 := lw_v hE hV1 hk10
  refine V.eq (st' := [vi (rp (opVar Sm (fS (j + 1)) (fS (j + 2)) (fS (j + 3))).1)]) (by rw [← vi_rp]; rfl) ?_
  refine v_istore E dL_law_1306 (by rw [hL]; decide) (lv' := (6, vi (rp (opVar Sm (fS (j + 1)) (fS (j + 2)) (fS (j + 3))).1)) :: (5, vi (xoVar Sc (fS (j + 1)) (fS (j + 2)) (fS (j + 3))).2.1) :: lwL x (ad 3002) oa a0 j) rfl ?_
  exact l_tail E (by omega) (by omega) dL_law_1308 dL_law_1309 dL_law_1312 dL_law_1314 dL_law_1319 dL_law_1321 dL_law_1324 dL_law_1325 dL_law_1326 dL_law_1327 dL_law_1329 dL_law_1330 dL_law_1331 dL_law_1336 (by decide) hI hB2 ho2 e2 hR9.2 (rp_r _) (fun h => by rw [hg2 h, e1]) (fun H3 hz3 hk3 => K9 H3 (lwI.kept hE ⟨hC2, hA2, ⟨g2, ho2⟩, _, isoP, n, cap, iv, _, K, F, many, _, lv, lo, hi, rt, _, _, _, _, _, hP2, hB2, hV2, hS1, hR.up, (h77.trans' hF7), hcap⟩ hz3 hk3))
set_option maxHeartbeats 400000 in
/-- sign -/
theorem l_sign {z : zT} {κ : zK} {ad : Nat → Nat} {a1 a2 a3 a4 x oa a0 N c j fr lo9 : Nat} {fS : Nat → Int} {H : Heap} {cb sb : Nat} (E : zOK z cL_law RX0 κ fr lo9 (some .boolean)) (X9 : zLw z) (hfr : 30 ≤ fr) (hlo : 700 ≤ lo9) (hz0 : z.H0.size ≤ κ.2 93) (hL : z.nL = 8) (hE : lwE κ ad a1 a2 a3 a4 oa a0) (hrI : ∀ k, rI (fS k)) (h : lwI κ ad a1 a2 a3 a4 x oa a0 N fS c H) (hc : c < 42) (hj : j + 6 ≤ N) (hN : N ≤ 252) (K9 : ∀ H1 : Heap, lwI κ ad a1 a2 a3 a4 x oa a0 N fS (c + 1) H1 → V z H1 cb sb 2204 (lwL x (ad 3002) oa a0 j) []) : V z H (cb + 28500) (sb + 129000) 1339 (lwL x (ad 3002) oa a0 j) [] := by
  obtain ⟨hC, hA, ⟨g0, ho⟩, Sc, isoP, n, cap, iv, Sm, K, F, many, thr, lv, lo, hi, rt, P, f, g, mk, len, hP, hB, hV, hS, hR, hF7, hcap⟩ := h
  obtain ⟨hI, hreg, hou, h0⟩ := id hE
  have hD := hC.D
  obtain ⟨fsx, hx⟩ := hP.hx
  have hoA : ¬ pA κ H oa := mK.pA hD (Or.inr (Or.inl ⟨1, g0, ho⟩))
  have hM := c_sign κ H (hrI (j + 1)) (hrI (j + 2)) (hrI (j + 3)) hC hS.bC hS.hV hP
  rw [vi_rp (xoSign Sc (fS (j + 1)) (fS (j + 2)) (fS (j + 3))).1] at hM
  have hR9 := okr_Sign Sc (fS (j + 1)) (fS (j + 2)) (fS (j + 3))
  refine v_aload_n E 3 rfl dL_law_1339 ?_
  refine l_arg E (k := 1) ⟨by decide, by decide⟩ 4 0 rfl rfl hA hj hN dL_law_1340 dL_law_1341 dL_law_1343 dL_law_1344 dL_law_1345 ?_
  refine l_arg E (k := 2) ⟨by decide, by decide⟩ 4 0 rfl rfl hA hj hN dL_law_1346 dL_law_1347 dL_law_1349 dL_law_1350 dL_law_1351 ?_
  refine l_arg E (k := 3) ⟨by decide, by decide⟩ 4 0 rfl rfl hA hj hN dL_law_1352 dL_law_1353 dL_law_1355 dL_law_1356 dL_law_1357 ?_
  refine v_aload_n E 1 rfl dL_law_1358 ?_
  refine v_callSK E X9 (As := [.ref x, vi (fS (j + 1)), vi (fS (j + 2)), vi (fS (j + 3)), .ref oa]) (w_sign κ H hx ho (fun _ => rp_r _) hoA hM (hk_CP hD)) (lw_SW q1537 q1538 q69 q1539) 5 (by decide +kernel) rfl (by omega) (by omega) (cb' := cb + 4) (sb' := sb + 512) (by omega) (by omega) rfl (rest := []) (Nat.le_of_ble_eq_true rfl) (lw_hAc hz0 hE) dL_law_1359 (fun v9 H1 hp9 hz9 hk9 => ?_)
  obtain ⟨rfl, hcase⟩ := hp9
  obtain ⟨hP1, g2, ho1, hg2⟩ := s_post (PO := fun H1 => CP κ H1 x (xoSign Sc (fS (j + 1)) (fS (j + 2)) (fS (j + 3))).2.2 isoP n cap iv) (PX := fun H1 => CP κ H1 x Sc isoP n cap iv) (PR := fun H1 => CP κ H1 x (xoSign Sc (fS (j + 1)) (fS (j + 2)) (fS (j + 3))).2.2 isoP n cap iv) hcase (fun h => h) (fun hne h => by rw [hR9.1 hne]; exact h)
  obtain ⟨hC1, hA1, hB1, hV1⟩ := lw_c hE hC hA hB hV hz9 hk9
  obtain ⟨e1, e2, hS1⟩ := ag_sign hS (fS (j + 1)) (fS (j + 2)) (fS (j + 3))
  refine v_istore E dL_law_1362 (by rw [hL]; decide) (lv' := (5, vi (xoSign Sc (fS (j + 1)) (fS (j + 2)) (fS (j + 3))).2.1) :: lwL x (ad 3002) oa a0 j) rfl ?_
  refine v_aload_n E 3 rfl dL_law_1364 ?_
  refine l_arg E (k := 1) ⟨by decide, by decide⟩ 5 1 rfl rfl hA1 hj hN dL_law_1365 dL_law_1366 dL_law_1368 dL_law_1369 dL_law_1370 ?_
  refine l_arg E (k := 2) ⟨by decide, by decide⟩ 5 1 rfl rfl hA1 hj hN dL_law_1371 dL_law_1372 dL_law_1374 dL_law_1375 dL_law_1376 ?_
  refine l_arg E (k := 3) ⟨by decide, by decide⟩ 5 1 rfl rfl hA1 hj hN dL_law_1377 dL_law_1378 dL_law_1380 dL_law_1381 dL_law_1382 ?_
  refine v_callV E (As := [vi (fS (j + 1)), vi (fS (j + 2)), vi (fS (j + 3))]) (b := ad 3002) (ci := 3) (C := RX4) (T := TX4) (N := 27) hB1.ho rfl (m_opSign κ H1 (hrI (j + 1)) (hrI (j + 2)) (hrI (j + 3)) hS.b (rs_mP hS) hI hB1) (lw_V q2052 q2053 q2054 q82 q2055) 3 (by decide +kernel) rfl (by omega) (by omega) (cb' := cb) (sb' := sb) (by omega) (by omega) rfl (rest := []) (Nat.le_of_ble_eq_true rfl) (fun q hq => lw_hAm hz0 hE q (Or.inl hq)) dL_law_1383 (fun v10 H2 hp10 hz10 hk10 => ?_)
  obtain ⟨rfl, P1, f1, g1, mk1, len1, h77, hB2⟩ := hp10
  obtain ⟨hC2, hP2, hA2, ho2⟩ := lw_m hE (A := AH ad) (fun q h => Or.inl h) hC1 hP1 hA1 ho1 hB1 hV1 hz10 hk10
  have hV2 := lw_v hE hV1 hk10
  refine V.eq (st' := [vi (rp (opSign Sm (fS (j + 1)) (fS (j + 2)) (fS (j + 3))).1)]) (by rw [← vi_rp]; rfl) ?_
  refine v_istore E dL_law_1386 (by rw [hL]; decide) (lv' := (6, vi (rp (opSign Sm (fS (j + 1)) (fS (j + 2)) (fS (j + 3))).1)) :: (5, vi (xoSign Sc (fS (j + 1)) (fS (j + 2)) (fS (j + 3))).2.1) :: lwL x (ad 3002) oa a0 j) rfl ?_
  exact l_tail E (by omega) (by omega) dL_law_1388 dL_law_1389 dL_law_1392 dL_law_1394 dL_law_1399 dL_law_1401 dL_law_1404 dL_law_1405 dL_law_1406 dL_law_1407 dL_law_1409 dL_law_1410 dL_law_1411 dL_law_1416 (by decide) hI hB2 ho2 e2 hR9.2 (rp_r _) (fun h => by rw [hg2 h, e1]) (fun H3 hz3 hk3 => K9 H3 (lwI.kept hE ⟨hC2, hA2, ⟨g2, ho2⟩, _, isoP, n, cap, iv, _, K, F, many, _, lv, lo, hi, rt, _, _, _, _, _, hP2, hB2, hV2, hS1, hR.up, (h77.trans' hF7), hcap⟩ hz3 hk3))
set_option maxHeartbeats 400000 in
/-- countDistinct -/
theorem l_countDistinct {z : zT} {κ : zK} {ad : Nat → Nat} {a1 a2 a3 a4 x oa a0 N c j fr lo9 : Nat} {fS : Nat → Int} {H : Heap} {cb sb : Nat} (E : zOK z cL_law RX0 κ fr lo9 (some .boolean)) (X9 : zLw z) (hfr : 30 ≤ fr) (hlo : 700 ≤ lo9) (hz0 : z.H0.size ≤ κ.2 93) (hL : z.nL = 8) (hE : lwE κ ad a1 a2 a3 a4 oa a0) (hrI : ∀ k, rI (fS k)) (h : lwI κ ad a1 a2 a3 a4 x oa a0 N fS c H) (hc : c < 42) (hj : j + 6 ≤ N) (hN : N ≤ 252) (K9 : ∀ H1 : Heap, lwI κ ad a1 a2 a3 a4 x oa a0 N fS (c + 1) H1 → V z H1 cb sb 2204 (lwL x (ad 3002) oa a0 j) []) : V z H (cb + 28500) (sb + 129000) 1419 (lwL x (ad 3002) oa a0 j) [] := by
  obtain ⟨hC, hA, ⟨g0, ho⟩, Sc, isoP, n, cap, iv, Sm, K, F, many, thr, lv, lo, hi, rt, P, f, g, mk, len, hP, hB, hV, hS, hR, hF7, hcap⟩ := h
  obtain ⟨hI, hreg, hou, h0⟩ := id hE
  have hD := hC.D
  obtain ⟨fsx, hx⟩ := hP.hx
  have hoA : ¬ pA κ H oa := mK.pA hD (Or.inr (Or.inl ⟨1, g0, ho⟩))
  have hM := c_cnt κ H (hrI (j + 1)) (hrI (j + 2)) (hrI (j + 3)) (hrI (j + 4)) (hrI (j + 5)) hC hS.hQ hS.h7 hS.hV hP
  rw [vi_rp (xoCnt Sc (fS (j + 1)) (fS (j + 2)) (fS (j + 3)) (fS (j + 4)) (fS (j + 5))).1] at hM
  have hR9 := okr_Cnt Sc (fS (j + 1)) (fS (j + 2)) (fS (j + 3)) (fS (j + 4)) (fS (j + 5))
  refine v_aload_n E 3 rfl dL_law_1419 ?_
  refine l_arg E (k := 1) ⟨by decide, by decide⟩ 4 0 rfl rfl hA hj hN dL_law_1420 dL_law_1421 dL_law_1423 dL_law_1424 dL_law_1425 ?_
  refine l_arg E (k := 2) ⟨by decide, by decide⟩ 4 0 rfl rfl hA hj hN dL_law_1426 dL_law_1427 dL_law_1429 dL_law_1430 dL_law_1431 ?_
  refine l_arg E (k := 3) ⟨by decide, by decide⟩ 4 0 rfl rfl hA hj hN dL_law_1432 dL_law_1433 dL_law_1435 dL_law_1436 dL_law_1437 ?_
  refine l_arg E (k := 4) ⟨by decide, by decide⟩ 4 0 rfl rfl hA hj hN dL_law_1438 dL_law_1439 dL_law_1441 dL_law_1442 dL_law_1443 ?_
  refine l_arg E (k := 5) ⟨by decide, by decide⟩ 4 0 rfl rfl hA hj hN dL_law_1444 dL_law_1445 dL_law_1447 dL_law_1448 dL_law_1449 ?_
  refine v_aload_n E 1 rfl dL_law_1450 ?_
  refine v_callSK E X9 (As := [.ref x, vi (fS (j + 1)), vi (fS (j + 2)), vi (fS (j + 3)), vi (fS (j + 4)), vi (fS (j + 5)), .ref oa]) (w_countDistinct κ H hx ho (fun _ => rp_r _) hoA hM (hk_CP hD)) (lw_SW q1544 q1545 q69 q1546) 7 (by decide +kernel) rfl (by omega) (by omega) (cb' := cb + 4) (sb' := sb + 512) (by omega) (by omega) rfl (rest := []) (Nat.le_of_ble_eq_true rfl) (lw_hAc hz0 hE) dL_law_1451 (fun v9 H1 hp9 hz9 hk9 => ?_)
  obtain ⟨rfl, hcase⟩ := hp9
  obtain ⟨hP1, g2, ho1, hg2⟩ := s_post (PO := fun H1 => CP κ H1 x (xoCnt Sc (fS (j + 1)) (fS (j + 2)) (fS (j + 3)) (fS (j + 4)) (fS (j + 5))).2.2 isoP n cap iv) (PX := fun H1 => CP κ H1 x Sc isoP n cap iv) (PR := fun H1 => CP κ H1 x (xoCnt Sc (fS (j + 1)) (fS (j + 2)) (fS (j + 3)) (fS (j + 4)) (fS (j + 5))).2.2 isoP n cap iv) hcase (fun h => h) (fun hne h => by rw [hR9.1 hne]; exact h)
  obtain ⟨hC1, hA1, hB1, hV1⟩ := lw_c hE hC hA hB hV hz9 hk9
  obtain ⟨e1, e2, hS1⟩ := ag_cnt hS (fS (j + 1)) (fS (j + 2)) (fS (j + 3)) (fS (j + 4)) (fS (j + 5))
  refine v_istore E dL_law_1454 (by rw [hL]; decide) (lv' := (5, vi (xoCnt Sc (fS (j + 1)) (fS (j + 2)) (fS (j + 3)) (fS (j + 4)) (fS (j + 5))).2.1) :: lwL x (ad 3002) oa a0 j) rfl ?_
  refine v_aload_n E 3 rfl dL_law_1456 ?_
  refine l_arg E (k := 1) ⟨by decide, by decide⟩ 5 1 rfl rfl hA1 hj hN dL_law_1457 dL_law_1458 dL_law_1460 dL_law_1461 dL_law_1462 ?_
  refine l_arg E (k := 2) ⟨by decide, by decide⟩ 5 1 rfl rfl hA1 hj hN dL_law_1463 dL_law_1464 dL_law_1466 dL_law_1467 dL_law_1468 ?_
  refine l_arg E (k := 3) ⟨by decide, by decide⟩ 5 1 rfl rfl hA1 hj hN dL_law_1469 dL_law_1470 dL_law_1472 dL_law_1473 dL_law_1474 ?_
  refine l_arg E (k := 4) ⟨by decide, by decide⟩ 5 1 rfl rfl hA1 hj hN dL_law_1475 dL_law_1476 dL_law_1478 dL_law_1479 dL_law_1480 ?_
  refine l_arg E (k := 5) ⟨by decide, by decide⟩ 5 1 rfl rfl hA1 hj hN dL_law_1481 dL_law_1482 dL_law_1484 dL_law_1485 dL_law_1486 ?_
  refine v_callV E (As := [vi (fS (j + 1)), vi (fS (j + 2)), vi (fS (j + 3)), vi (fS (j + 4)), vi (fS (j + 5))]) (b := ad 3002) (ci := 3) (C := RX4) (T := TX4) (N := 27) hB1.ho rfl (m_opCnt κ H1 (hrI (j + 1)) (hrI (j + 2)) (hrI (j + 3)) (hrI (j + 4)) (hrI (j + 5)) hS.b (rs_mC hS) (rs_mD hS) hI hB1) (lw_V q2056 q2057 q2058 q82 q2059) 5 (by decide +kernel) rfl (by omega) (by omega) (cb' := cb) (sb' := sb) (by omega) (by omega) rfl (rest := []) (Nat.le_of_ble_eq_true rfl) (fun q hq => lw_hAm hz0 hE q (Or.inl hq)) dL_law_1487 (fun v10 H2 hp10 hz10 hk10 => ?_)
  obtain ⟨rfl, P1, f1, g1, mk1, len1, h77, hB2⟩ := hp10
  obtain ⟨hC2, hP2, hA2, ho2⟩ := lw_m hE (A := AH ad) (fun q h => Or.inl h) hC1 hP1 hA1 ho1 hB1 hV1 hz10 hk10
  have hV2 := lw_v hE hV1 hk10
  refine V.eq (st' := [vi (rp (opCnt Sm (fS (j + 1)) (fS (j + 2)) (fS (j + 3)) (fS (j + 4)) (fS (j + 5))).1)]) (by rw [← vi_rp]; rfl) ?_
  refine v_istore E dL_law_1490 (by rw [hL]; decide) (lv' := (6, vi (rp (opCnt Sm (fS (j + 1)) (fS (j + 2)) (fS (j + 3)) (fS (j + 4)) (fS (j + 5))).1)) :: (5, vi (xoCnt Sc (fS (j + 1)) (fS (j + 2)) (fS (j + 3)) (fS (j + 4)) (fS (j + 5))).2.1) :: lwL x (ad 3002) oa a0 j) rfl ?_
  exact l_tail E (by omega) (by omega) dL_law_1492 dL_law_1493 dL_law_1496 dL_law_1498 dL_law_1503 dL_law_1505 dL_law_1508 dL_law_1509 dL_law_1510 dL_law_1511 dL_law_1513 dL_law_1514 dL_law_1515 dL_law_1520 (by decide) hI hB2 ho2 e2 hR9.2 (rp_r _) (fun h => by rw [hg2 h, e1]) (fun H3 hz3 hk3 => K9 H3 (lwI.kept hE ⟨hC2, hA2, ⟨g2, ho2⟩, _, isoP, n, cap, iv, _, K, F, many, _, lv, lo, hi, rt, _, _, _, _, _, hP2, hB2, hV2, hS1, hR.up, (h77.trans' hF7), hcap⟩ hz3 hk3))
set_option maxHeartbeats 400000 in
/-- countAll -/
theorem l_countAll {z : zT} {κ : zK} {ad : Nat → Nat} {a1 a2 a3 a4 x oa a0 N c j fr lo9 : Nat} {fS : Nat → Int} {H : Heap} {cb sb : Nat} (E : zOK z cL_law RX0 κ fr lo9 (some .boolean)) (X9 : zLw z) (hfr : 30 ≤ fr) (hlo : 700 ≤ lo9) (hz0 : z.H0.size ≤ κ.2 93) (hL : z.nL = 8) (hE : lwE κ ad a1 a2 a3 a4 oa a0) (hrI : ∀ k, rI (fS k)) (h : lwI κ ad a1 a2 a3 a4 x oa a0 N fS c H) (hc : c < 42) (hj : j + 6 ≤ N) (hN : N ≤ 252) (K9 : ∀ H1 : Heap, lwI κ ad a1 a2 a3 a4 x oa a0 N fS (c + 1) H1 → V z H1 cb sb 2204 (lwL x (ad 3002) oa a0 j) []) : V z H (cb + 28500) (sb + 129000) 1523 (lwL x (ad 3002) oa a0 j) [] := by
  obtain ⟨hC, hA, ⟨g0, ho⟩, Sc, isoP, n, cap, iv, Sm, K, F, many, thr, lv, lo, hi, rt, P, f, g, mk, len, hP, hB, hV, hS, hR, hF7, hcap⟩ := h
  obtain ⟨hI, hreg, hou, h0⟩ := id hE
  have hD := hC.D
  obtain ⟨fsx, hx⟩ := hP.hx
  have hoA : ¬ pA κ H oa := mK.pA hD (Or.inr (Or.inl ⟨1, g0, ho⟩))
  have hM := c_all κ H (hrI (j + 1)) (hrI (j + 2)) (hrI (j + 3)) (hrI (j + 4)) (hrI (j + 5)) hC hS.hDv hS.h7 hS.hV hP
  rw [vi_rp (xoAll Sc (fS (j + 1)) (fS (j + 2)) (fS (j + 3)) (fS (j + 4)) (fS (j + 5))).1] at hM
  have hR9 := okr_All Sc (fS (j + 1)) (fS (j + 2)) (fS (j + 3)) (fS (j + 4)) (fS (j + 5))
  refine v_aload_n E 3 rfl dL_law_1523 ?_
  refine l_arg E (k := 1) ⟨by decide, by decide⟩ 4 0 rfl rfl hA hj hN dL_law_1524 dL_law_1525 dL_law_1527 dL_law_1528 dL_law_1529 ?_
  refine l_arg E (k := 2) ⟨by decide, by decide⟩ 4 0 rfl rfl hA hj hN dL_law_1530 dL_law_1531 dL_law_1533 dL_law_1534 dL_law_1535 ?_
  refine l_arg E (k := 3) ⟨by decide, by decide⟩ 4 0 rfl rfl hA hj hN dL_law_1536 dL_law_1537 dL_law_1539 dL_law_1540 dL_law_1541 ?_
  refine l_arg E (k := 4) ⟨by decide, by decide⟩ 4 0 rfl rfl hA hj hN dL_law_1542 dL_law_1543 dL_law_1545 dL_law_1546 dL_law_1547 ?_
  refine l_arg E (k := 5) ⟨by decide, by decide⟩ 4 0 rfl rfl hA hj hN dL_law_1548 dL_law_1549 dL_law_1551 dL_law_1552 dL_law_1553 ?_
  refine v_aload_n E 1 rfl dL_law_1554 ?_
  refine v_callSK E X9 (As := [.ref x, vi (fS (j + 1)), vi (fS (j + 2)), vi (fS (j + 3)), vi (fS (j + 4)), vi (fS (j + 5)), .ref oa]) (w_countAll κ H hx ho (fun _ => rp_r _) hoA hM (hk_CP hD)) (lw_SW q1555 q1556 q69 q1557) 7 (by decide +kernel) rfl (by omega) (by omega) (cb' := cb + 4) (sb' := sb + 512) (by omega) (by omega) rfl (rest := []) (Nat.le_of_ble_eq_true rfl) (lw_hAc hz0 hE) dL_law_1555 (fun v9 H1 hp9 hz9 hk9 => ?_)
  obtain ⟨rfl, hcase⟩ := hp9
  obtain ⟨hP1, g2, ho1, hg2⟩ := s_post (PO := fun H1 => CP κ H1 x (xoAll Sc (fS (j + 1)) (fS (j + 2)) (fS (j + 3)) (fS (j + 4)) (fS (j + 5))).2.2 isoP n cap iv) (PX := fun H1 => CP κ H1 x Sc isoP n cap iv) (PR := fun H1 => CP κ H1 x (xoAll Sc (fS (j + 1)) (fS (j + 2)) (fS (j + 3)) (fS (j + 4)) (fS (j + 5))).2.2 isoP n cap iv) hcase (fun h => h) (fun hne h => by rw [hR9.1 hne]; exact h)
  obtain ⟨hC1, hA1, hB1, hV1⟩ := lw_c hE hC hA hB hV hz9 hk9
  obtain ⟨e1, e2, hS1⟩ := ag_all hS (fS (j + 1)) (fS (j + 2)) (fS (j + 3)) (fS (j + 4)) (fS (j + 5))
  refine v_istore E dL_law_1558 (by rw [hL]; decide) (lv' := (5, vi (xoAll Sc (fS (j + 1)) (fS (j + 2)) (fS (j + 3)) (fS (j + 4)) (fS (j + 5))).2.1) :: lwL x (ad 3002) oa a0 j) rfl ?_
  refine v_aload_n E 3 rfl dL_law_1560 ?_
  refine l_arg E (k := 1) ⟨by decide, by decide⟩ 5 1 rfl rfl hA1 hj hN dL_law_1561 dL_law_1562 dL_law_1564 dL_law_1565 dL_law_1566 ?_
  refine l_arg E (k := 2) ⟨by decide, by decide⟩ 5 1 rfl rfl hA1 hj hN dL_law_1567 dL_law_1568 dL_law_1570 dL_law_1571 dL_law_1572 ?_
  refine l_arg E (k := 3) ⟨by decide, by decide⟩ 5 1 rfl rfl hA1 hj hN dL_law_1573 dL_law_1574 dL_law_1576 dL_law_1577 dL_law_1578 ?_
  refine l_arg E (k := 4) ⟨by decide, by decide⟩ 5 1 rfl rfl hA1 hj hN dL_law_1579 dL_law_1580 dL_law_1582 dL_law_1583 dL_law_1584 ?_
  refine l_arg E (k := 5) ⟨by decide, by decide⟩ 5 1 rfl rfl hA1 hj hN dL_law_1585 dL_law_1586 dL_law_1588 dL_law_1589 dL_law_1590 ?_
  refine v_callV E (As := [vi (fS (j + 1)), vi (fS (j + 2)), vi (fS (j + 3)), vi (fS (j + 4)), vi (fS (j + 5))]) (b := ad 3002) (ci := 3) (C := RX4) (T := TX4) (N := 27) hB1.ho rfl (m_opAll κ H1 (hrI (j + 1)) (hrI (j + 2)) (hrI (j + 3)) (hrI (j + 4)) (hrI (j + 5)) hS.b (rs_mC hS) (rs_mA hS) hI hB1) (lw_V q2082 q2083 q2084 q82 q2085) 5 (by decide +kernel) rfl (by omega) (by omega) (cb' := cb) (sb' := sb) (by omega) (by omega) rfl (rest := []) (Nat.le_of_ble_eq_true rfl) (fun q hq => lw_hAm hz0 hE q (Or.inl hq)) dL_law_1591 (fun v10 H2 hp10 hz10 hk10 => ?_)
  obtain ⟨rfl, P1, f1, g1, mk1, len1, h77, hB2⟩ := hp10
  obtain ⟨hC2, hP2, hA2, ho2⟩ := lw_m hE (A := AH ad) (fun q h => Or.inl h) hC1 hP1 hA1 ho1 hB1 hV1 hz10 hk10
  have hV2 := lw_v hE hV1 hk10
  refine V.eq (st' := [vi (rp (opAll Sm (fS (j + 1)) (fS (j + 2)) (fS (j + 3)) (fS (j + 4)) (fS (j + 5))).1)]) (by rw [← vi_rp]; rfl) ?_
  refine v_istore E dL_law_1594 (by rw [hL]; decide) (lv' := (6, vi (rp (opAll Sm (fS (j + 1)) (fS (j + 2)) (fS (j + 3)) (fS (j + 4)) (fS (j + 5))).1)) :: (5, vi (xoAll Sc (fS (j + 1)) (fS (j + 2)) (fS (j + 3)) (fS (j + 4)) (fS (j + 5))).2.1) :: lwL x (ad 3002) oa a0 j) rfl ?_
  exact l_tail E (by omega) (by omega) dL_law_1596 dL_law_1597 dL_law_1600 dL_law_1602 dL_law_1607 dL_law_1609 dL_law_1612 dL_law_1613 dL_law_1614 dL_law_1615 dL_law_1617 dL_law_1618 dL_law_1619 dL_law_1624 (by decide) hI hB2 ho2 e2 hR9.2 (rp_r _) (fun h => by rw [hg2 h, e1]) (fun H3 hz3 hk3 => K9 H3 (lwI.kept hE ⟨hC2, hA2, ⟨g2, ho2⟩, _, isoP, n, cap, iv, _, K, F, many, _, lv, lo, hi, rt, _, _, _, _, _, hP2, hB2, hV2, hS1, hR.up, (h77.trans' hF7), hcap⟩ hz3 hk3))
set_option maxHeartbeats 400000 in
/-- distinctRoots -/
theorem l_distinctRoots {z : zT} {κ : zK} {ad : Nat → Nat} {a1 a2 a3 a4 x oa a0 N c j fr lo9 : Nat} {fS : Nat → Int} {H : Heap} {cb sb : Nat} (E : zOK z cL_law RX0 κ fr lo9 (some .boolean)) (X9 : zLw z) (hfr : 30 ≤ fr) (hlo : 700 ≤ lo9) (hz0 : z.H0.size ≤ κ.2 93) (hL : z.nL = 8) (hE : lwE κ ad a1 a2 a3 a4 oa a0) (hrI : ∀ k, rI (fS k)) (h : lwI κ ad a1 a2 a3 a4 x oa a0 N fS c H) (hc : c < 42) (hj : j + 6 ≤ N) (hN : N ≤ 252) (K9 : ∀ H1 : Heap, lwI κ ad a1 a2 a3 a4 x oa a0 N fS (c + 1) H1 → V z H1 cb sb 2204 (lwL x (ad 3002) oa a0 j) []) : V z H (cb + 28500) (sb + 129000) 1627 (lwL x (ad 3002) oa a0 j) [] := by
  obtain ⟨hC, hA, ⟨g0, ho⟩, Sc, isoP, n, cap, iv, Sm, K, F, many, thr, lv, lo, hi, rt, P, f, g, mk, len, hP, hB, hV, hS, hR, hF7, hcap⟩ := h
  obtain ⟨hI, hreg, hou, h0⟩ := id hE
  have hD := hC.D
  obtain ⟨fsx, hx⟩ := hP.hx
  have hoA : ¬ pA κ H oa := mK.pA hD (Or.inr (Or.inl ⟨1, g0, ho⟩))
  have hM := c_dr κ H (hrI (j + 1)) hC hS.hQ hS.hpos hP
  rw [vi_rp (xoDR Sc (fS (j + 1))).1] at hM
  have hR9 := okr_DR Sc (fS (j + 1))
  refine v_aload_n E 3 rfl dL_law_1627 ?_
  refine l_arg E (k := 1) ⟨by decide, by decide⟩ 4 0 rfl rfl hA hj hN dL_law_1628 dL_law_1629 dL_law_1631 dL_law_1632 dL_law_1633 ?_
  refine v_aload_n E 1 rfl dL_law_1634 ?_
  refine v_callSK E X9 (As := [.ref x, vi (fS (j + 1)), .ref oa]) (w_distinctRoots κ H hx ho (fun _ => rp_r _) hoA hM (hk_CP hD)) (lw_SW q1563 q1564 q69 q1565) 3 (by decide +kernel) rfl (by omega) (by omega) (cb' := cb + 4) (sb' := sb + 512) (by omega) (by omega) rfl (rest := []) (Nat.le_of_ble_eq_true rfl) (lw_hAc hz0 hE) dL_law_1635 (fun v9 H1 hp9 hz9 hk9 => ?_)
  obtain ⟨rfl, hcase⟩ := hp9
  obtain ⟨hP1, g2, ho1, hg2⟩ := s_post (PO := fun H1 => CP κ H1 x (xoDR Sc (fS (j + 1))).2.2 isoP n cap iv) (PX := fun H1 => CP κ H1 x Sc isoP n cap iv) (PR := fun H1 => CP κ H1 x (xoDR Sc (fS (j + 1))).2.2 isoP n cap iv) hcase (fun h => h) (fun hne h => by rw [hR9.1 hne]; exact h)
  obtain ⟨hC1, hA1, hB1, hV1⟩ := lw_c hE hC hA hB hV hz9 hk9
  obtain ⟨e1, e2, hS1⟩ := ag_dr hS (fS (j + 1))
  refine v_istore E dL_law_1638 (by rw [hL]; decide) (lv' := (5, vi (xoDR Sc (fS (j + 1))).2.1) :: lwL x (ad 3002) oa a0 j) rfl ?_
  refine v_aload_n E 3 rfl dL_law_1640 ?_
  refine l_arg E (k := 1) ⟨by decide, by decide⟩ 5 1 rfl rfl hA1 hj hN dL_law_1641 dL_law_1642 dL_law_1644 dL_law_1645 dL_law_1646 ?_
  refine v_callV E (As := [vi (fS (j + 1))]) (b := ad 3002) (ci := 3) (C := RX4) (T := TX4) (N := 27) hB1.ho rfl (m_opDR κ H1 (hrI (j + 1)) hS.b (rs_mDR hS) hI hB1) (lw_V q2086 q2087 q2088 q82 q2089) 1 (by decide +kernel) rfl (by omega) (by omega) (cb' := cb) (sb' := sb) (by omega) (by omega) rfl (rest := []) (Nat.le_of_ble_eq_true rfl) (fun q hq => lw_hAm hz0 hE q (Or.inl hq)) dL_law_1647 (fun v10 H2 hp10 hz10 hk10 => ?_)
  obtain ⟨rfl, P1, f1, g1, mk1, len1, h77, hB2⟩ := hp10
  obtain ⟨hC2, hP2, hA2, ho2⟩ := lw_m hE (A := AH ad) (fun q h => Or.inl h) hC1 hP1 hA1 ho1 hB1 hV1 hz10 hk10
  have hV2 := lw_v hE hV1 hk10
  refine V.eq (st' := [vi (rp (opDR Sm (fS (j + 1))).1)]) (by rw [← vi_rp]; rfl) ?_
  refine v_istore E dL_law_1650 (by rw [hL]; decide) (lv' := (6, vi (rp (opDR Sm (fS (j + 1))).1)) :: (5, vi (xoDR Sc (fS (j + 1))).2.1) :: lwL x (ad 3002) oa a0 j) rfl ?_
  exact l_tail E (by omega) (by omega) dL_law_1652 dL_law_1653 dL_law_1656 dL_law_1658 dL_law_1663 dL_law_1665 dL_law_1668 dL_law_1669 dL_law_1670 dL_law_1671 dL_law_1673 dL_law_1674 dL_law_1675 dL_law_1680 (by decide) hI hB2 ho2 e2 hR9.2 (rp_r _) (fun h => by rw [hg2 h, e1]) (fun H3 hz3 hk3 => K9 H3 (lwI.kept hE ⟨hC2, hA2, ⟨g2, ho2⟩, _, isoP, n, cap, iv, _, K, F, many, _, lv, lo, hi, rt, _, _, _, _, _, hP2, hB2, hV2, hS1, hR.up, (h77.trans' hF7), hcap⟩ hz3 hk3))
set_option maxHeartbeats 400000 in
/-- coefficientSignChanges -/
theorem l_coefficientSignChanges {z : zT} {κ : zK} {ad : Nat → Nat} {a1 a2 a3 a4 x oa a0 N c j fr lo9 : Nat} {fS : Nat → Int} {H : Heap} {cb sb : Nat} (E : zOK z cL_law RX0 κ fr lo9 (some .boolean)) (X9 : zLw z) (hfr : 30 ≤ fr) (hlo : 700 ≤ lo9) (hz0 : z.H0.size ≤ κ.2 93) (hL : z.nL = 8) (hE : lwE κ ad a1 a2 a3 a4 oa a0) (hrI : ∀ k, rI (fS k)) (h : lwI κ ad a1 a2 a3 a4 x oa a0 N fS c H) (hc : c < 42) (hj : j + 6 ≤ N) (hN : N ≤ 252) (K9 : ∀ H1 : Heap, lwI κ ad a1 a2 a3 a4 x oa a0 N fS (c + 1) H1 → V z H1 cb sb 2204 (lwL x (ad 3002) oa a0 j) []) : V z H (cb + 28500) (sb + 129000) 1683 (lwL x (ad 3002) oa a0 j) [] := by
  obtain ⟨hC, hA, ⟨g0, ho⟩, Sc, isoP, n, cap, iv, Sm, K, F, many, thr, lv, lo, hi, rt, P, f, g, mk, len, hP, hB, hV, hS, hR, hF7, hcap⟩ := h
  obtain ⟨hI, hreg, hou, h0⟩ := id hE
  have hD := hC.D
  obtain ⟨fsx, hx⟩ := hP.hx
  have hoA : ¬ pA κ H oa := mK.pA hD (Or.inr (Or.inl ⟨1, g0, ho⟩))
  have hM := c_csc κ H (hrI (j + 1)) hC hP
  rw [vi_rp (xoCsc Sc (fS (j + 1))).1] at hM
  have hR9 := okr_Csc Sc (fS (j + 1))
  refine v_aload_n E 3 rfl dL_law_1683 ?_
  refine l_arg E (k := 1) ⟨by decide, by decide⟩ 4 0 rfl rfl hA hj hN dL_law_1684 dL_law_1685 dL_law_1687 dL_law_1688 dL_law_1689 ?_
  refine v_aload_n E 1 rfl dL_law_1690 ?_
  refine v_callSK E X9 (As := [.ref x, vi (fS (j + 1)), .ref oa]) (w_coefficientSignChanges κ H hx ho (fun _ => rp_r _) hoA hM (hk_CP hD)) (lw_SW q1573 q1574 q69 q1575) 3 (by decide +kernel) rfl (by omega) (by omega) (cb' := cb + 4) (sb' := sb + 512) (by omega) (by omega) rfl (rest := []) (Nat.le_of_ble_eq_true rfl) (lw_hAc hz0 hE) dL_law_1691 (fun v9 H1 hp9 hz9 hk9 => ?_)
  obtain ⟨rfl, hcase⟩ := hp9
  obtain ⟨hP1, g2, ho1, hg2⟩ := s_post (PO := fun H1 => CP κ H1 x (xoCsc Sc (fS (j + 1))).2.2 isoP n cap iv) (PX := fun H1 => CP κ H1 x Sc isoP n cap iv) (PR := fun H1 => CP κ H1 x (xoCsc Sc (fS (j + 1))).2.2 isoP n cap iv) hcase (fun h => h) (fun hne h => by rw [hR9.1 hne]; exact h)
  obtain ⟨hC1, hA1, hB1, hV1⟩ := lw_c hE hC hA hB hV hz9 hk9
  obtain ⟨e1, e2, hS1⟩ := ag_csc hS (fS (j + 1))
  refine v_istore E dL_law_1694 (by rw [hL]; decide) (lv' := (5, vi (xoCsc Sc (fS (j + 1))).2.1) :: lwL x (ad 3002) oa a0 j) rfl ?_
  refine v_aload_n E 3 rfl dL_law_1696 ?_
  refine l_arg E (k := 1) ⟨by decide, by decide⟩ 5 1 rfl rfl hA1 hj hN dL_law_1697 dL_law_1698 dL_law_1700 dL_law_1701 dL_law_1702 ?_
  refine v_callV E (As := [vi (fS (j + 1))]) (b := ad 3002) (ci := 3) (C := RX4) (T := TX4) (N := 27) hB1.ho rfl (m_opCsc κ H1 (hrI (j + 1)) hS.b hI hB1) (lw_V q2094 q2095 q2096 q82 q2097) 1 (by decide +kernel) rfl (by omega) (by omega) (cb' := cb) (sb' := sb) (by omega) (by omega) rfl (rest := []) (Nat.le_of_ble_eq_true rfl) (fun q hq => lw_hAm hz0 hE q (Or.inl hq)) dL_law_1703 (fun v10 H2 hp10 hz10 hk10 => ?_)
  obtain ⟨rfl, P1, f1, g1, mk1, len1, h77, hB2⟩ := hp10
  obtain ⟨hC2, hP2, hA2, ho2⟩ := lw_m hE (A := AH ad) (fun q h => Or.inl h) hC1 hP1 hA1 ho1 hB1 hV1 hz10 hk10
  have hV2 := lw_v hE hV1 hk10
  refine V.eq (st' := [vi (rp (opCsc Sm (fS (j + 1))).1)]) (by rw [← vi_rp]; rfl) ?_
  refine v_istore E dL_law_1706 (by rw [hL]; decide) (lv' := (6, vi (rp (opCsc Sm (fS (j + 1))).1)) :: (5, vi (xoCsc Sc (fS (j + 1))).2.1) :: lwL x (ad 3002) oa a0 j) rfl ?_
  exact l_tail E (by omega) (by omega) dL_law_1708 dL_law_1709 dL_law_1712 dL_law_1714 dL_law_1719 dL_law_1721 dL_law_1724 dL_law_1725 dL_law_1726 dL_law_1727 dL_law_1729 dL_law_1730 dL_law_1731 dL_law_1736 (by decide) hI hB2 ho2 e2 hR9.2 (rp_r _) (fun h => by rw [hg2 h, e1]) (fun H3 hz3 hk3 => K9 H3 (lwI.kept hE ⟨hC2, hA2, ⟨g2, ho2⟩, _, isoP, n, cap, iv, _, K, F, many, _, lv, lo, hi, rt, _, _, _, _, _, hP2, hB2, hV2, hS1, hR.up, (h77.trans' hF7), hcap⟩ hz3 hk3))
set_option maxHeartbeats 400000 in
/-- rootsIn -/
theorem l_rootsIn {z : zT} {κ : zK} {ad : Nat → Nat} {a1 a2 a3 a4 x oa a0 N c j fr lo9 : Nat} {fS : Nat → Int} {H : Heap} {cb sb : Nat} (E : zOK z cL_law RX0 κ fr lo9 (some .boolean)) (X9 : zLw z) (hfr : 30 ≤ fr) (hlo : 700 ≤ lo9) (hz0 : z.H0.size ≤ κ.2 93) (hL : z.nL = 8) (hE : lwE κ ad a1 a2 a3 a4 oa a0) (hrI : ∀ k, rI (fS k)) (h : lwI κ ad a1 a2 a3 a4 x oa a0 N fS c H) (hc : c < 42) (hj : j + 6 ≤ N) (hN : N ≤ 252) (K9 : ∀ H1 : Heap, lwI κ ad a1 a2 a3 a4 x oa a0 N fS (c + 1) H1 → V z H1 cb sb 2204 (lwL x (ad 3002) oa a0 j) []) : V z H (cb + 28500) (sb + 129000) 1808 (lwL x (ad 3002) oa a0 j) [] := by
  obtain ⟨hC, hA, ⟨g0, ho⟩, Sc, isoP, n, cap, iv, Sm, K, F, many, thr, lv, lo, hi, rt, P, f, g, mk, len, hP, hB, hV, hS, hR, hF7, hcap⟩ := h
  obtain ⟨hI, hreg, hou, h0⟩ := id hE
  have hD := hC.D
  obtain ⟨fsx, hx⟩ := hP.hx
  have hoA : ¬ pA κ H oa := mK.pA hD (Or.inr (Or.inl ⟨1, g0, ho⟩))
  have hM := c_rts κ H (hrI (j + 1)) hC hP
  rw [vi_rp (xoRts Sc n iv (fS (j + 1))).1] at hM
  have hR9 := okr_Rts Sc n iv (fS (j + 1))
  refine v_aload_n E 3 rfl dL_law_1808 ?_
  refine l_arg E (k := 1) ⟨by decide, by decide⟩ 4 0 rfl rfl hA hj hN dL_law_1809 dL_law_1810 dL_law_1812 dL_law_1813 dL_law_1814 ?_
  refine v_aload_n E 1 rfl dL_law_1815 ?_
  refine v_callSK E X9 (As := [.ref x, vi (fS (j + 1)), .ref oa]) (w_rootsIn κ H hx ho (fun _ => rp_r _) hoA hM (hk_CP hD)) (lw_SW q1617 q1618 q69 q1619) 3 (by decide +kernel) rfl (by omega) (by omega) (cb' := cb + 4) (sb' := sb + 512) (by omega) (by omega) rfl (rest := []) (Nat.le_of_ble_eq_true rfl) (lw_hAc hz0 hE) dL_law_1816 (fun v9 H1 hp9 hz9 hk9 => ?_)
  obtain ⟨rfl, hcase⟩ := hp9
  obtain ⟨hP1, g2, ho1, hg2⟩ := s_post (PO := fun H1 => CP κ H1 x (xoRts Sc n iv (fS (j + 1))).2.2 isoP n cap iv) (PX := fun H1 => CP κ H1 x Sc isoP n cap iv) (PR := fun H1 => CP κ H1 x (xoRts Sc n iv (fS (j + 1))).2.2 isoP n cap iv) hcase (fun h => h) (fun hne h => by rw [hR9.1 hne]; exact h)
  obtain ⟨hC1, hA1, hB1, hV1⟩ := lw_c hE hC hA hB hV hz9 hk9
  obtain ⟨e1, e2, hS1⟩ := ag_rts hS hR (fS (j + 1))
  refine v_istore E dL_law_1819 (by rw [hL]; decide) (lv' := (5, vi (xoRts Sc n iv (fS (j + 1))).2.1) :: lwL x (ad 3002) oa a0 j) rfl ?_
  refine v_aload_n E 3 rfl dL_law_1821 ?_
  refine l_arg E (k := 1) ⟨by decide, by decide⟩ 5 1 rfl rfl hA1 hj hN dL_law_1822 dL_law_1823 dL_law_1825 dL_law_1826 dL_law_1827 ?_
  refine v_callV E (As := [vi (fS (j + 1))]) (b := ad 3002) (ci := 3) (C := RX4) (T := TX4) (N := 27) hB1.ho rfl (m_opRts κ H1 (lo := lo) hV1.1 (rI_many hR hc) (by decide) (hrI (j + 1)) hI hB1 hV1.2.2.1 hV1.2.2.2.1 hV1.2.2.2.2.1 hV1.2.2.2.2.2) (lw_V q2110 q2111 q2112 q82 q2113) 1 (by decide +kernel) rfl (by omega) (by omega) (cb' := cb) (sb' := sb) (by omega) (by omega) rfl (rest := []) (Nat.le_of_ble_eq_true rfl) (fun q hq => lw_hAm hz0 hE q (Or.inl hq)) dL_law_1828 (fun v10 H2 hp10 hz10 hk10 => ?_)
  obtain ⟨rfl, P1, f1, g1, mk1, len1, h77, hB2⟩ := hp10
  obtain ⟨hC2, hP2, hA2, ho2⟩ := lw_m hE (A := AH ad) (fun q h => Or.inl h) hC1 hP1 hA1 ho1 hB1 hV1 hz10 hk10
  have hV2 := lw_v hE hV1 hk10
  refine V.eq (st' := [vi (rp (opRts Sm many rt (fS (j + 1))).1)]) (by rw [← vi_rp]; rfl) ?_
  refine v_istore E dL_law_1831 (by rw [hL]; decide) (lv' := (6, vi (rp (opRts Sm many rt (fS (j + 1))).1)) :: (5, vi (xoRts Sc n iv (fS (j + 1))).2.1) :: lwL x (ad 3002) oa a0 j) rfl ?_
  exact l_tail E (by omega) (by omega) dL_law_1833 dL_law_1834 dL_law_1837 dL_law_1839 dL_law_1844 dL_law_1846 dL_law_1849 dL_law_1850 dL_law_1851 dL_law_1852 dL_law_1854 dL_law_1855 dL_law_1856 dL_law_1861 (by decide) hI hB2 ho2 e2 hR9.2 (rp_r _) (fun h => by rw [hg2 h, e1]) (fun H3 hz3 hk3 => K9 H3 (lwI.kept hE ⟨hC2, hA2, ⟨g2, ho2⟩, _, isoP, n, cap, iv, _, K, F, many, _, lv, lo, hi, rt, _, _, _, _, _, hP2, hB2, hV2, hS1, hR.up, (h77.trans' hF7), hcap⟩ hz3 hk3))
