set_option maxHeartbeats 1000000 in
set_option maxRecDepth 100000 in
/-- a sum of arrays -/
theorem g_addA (κ : zK) (H0 : Heap) {a b n m N : Nat} {X Y Z : Int} (hX0 : 0 < X) (hY0 : 0 < Y) (hn : isInts X n) (hm : isInts Y m) (hnN : n ≤ N) (hmN : m ≤ N) (hs : sB (X + Y)) (hZ : X + Y = Z) (ha : hp κ H0 a (eI κ n (bM X n))) (hb : hp κ H0 b (eI κ m (bM Y m))) : Mt κ yJ16_add_2 cJ16_add_2 9 (some (.array .int)) 1 27 2 (2 * N + 1) H0 [.ref a, .ref b] (fun _ => False) (fun v H1 => ∃ (q r : Nat), v = some (.ref q) ∧ hp κ H1 q (eI κ r (bM Z r)) ∧ isInts Z r ∧ H0.size ≤ q) := by
  refine Mt.of (by decide) (Nat.le_of_ble_eq_true rfl) ?_
  intro z E hE hH0 hA0 hL hini
  have hAll : ∀ q, (fun _ => False) q → zA z.A z.H0 q := fun q h => Or.inl (by rw [hA0]; exact h)
  have hNew : ∀ q, H0.size ≤ q → zA z.A z.H0 q := fun q h => Or.inr (by rw [hH0]; exact h)
  have E : zOK z cJ16_add_2 RJ16 κ 1 27 (some (.array .int)) := E
  refine V.eqL (lv' := [(0, .ref a), (1, .ref b)]) rfl ?_
  have h48n := hn.1
  have h48m := hm.1
  have join_13 : ∀ (H : Heap) (a b n m : Nat) (X Y : Int), (0 < X) → (0 < Y) → (isInts X n) → (isInts Y m) → (m ≤ n) → (n ≤ N) → (sB (X + Y)) → (X + Y = Z) → hp κ H a (eI κ n (bM X n)) → hp κ H b (eI κ m (bM Y m)) → V z H 2 (2 * N + 1) 13 [(1, .ref b), (0, .ref a)] [] := by
    intro H a b n m X Y hX0 hY0 hn hm hmn hnN hs hZ ha hb
    subst hZ
    have h48n := hn.1
    have h48m := hm.1
    have hpn := ints_pos (by omega) hn
    have hpm := ints_pos (by omega) hm
    refine v_aload_n E 1 rfl dJ16_add_2_13 ?_
    refine v_alen E dJ16_add_2_14 (t := 0) (ty := .int) ha rfl ?_
    refine v_istore_n E dJ16_add_2_15 (zlt hL rfl) (lv' := [(2, vi (n : Int)), (1, .ref b), (0, .ref a)]) rfl ?_
    refine v_aload_n E 1 rfl dJ16_add_2_16 ?_
    refine v_alen E dJ16_add_2_17 (t := 0) (ty := .int) hb rfl ?_
    refine v_istore_n E dJ16_add_2_18 (zlt hL rfl) (lv' := [(3, vi (m : Int)), (2, vi (n : Int)), (1, .ref b), (0, .ref a)]) rfl ?_
    refine v_iload_n E 1 rfl dJ16_add_2_19 ?_
    refine V.frame (fun hfz_fr_1 hfk_fr_1 => ?_)
    rw [hH0] at hfz_fr_1 hfk_fr_1
    rw [hA0] at hfk_fr_1
    refine v_newI E (n := n) q511 (by omega) rfl (cb' := (2 - 1)) (sb' := ((2 * N + 1) - n)) (by omega) (by omega) dJ16_add_2_20 (fun q H_2 hq_5 hn_3 hg_4 => ?_)
    have hne_a_q : a ≠ q := by have := ha.lt; omega
    have hne_b_q : b ≠ q := by have := hb.lt; omega
    have ha_8 := ha.grow hg_4
    have hb_9 := hb.grow hg_4
    refine v_astore E dJ16_add_2_22 (zlt hL rfl) (lv' := [(4, .ref q), (3, vi (m : Int)), (2, vi (n : Int)), (1, .ref b), (0, .ref a)]) rfl ?_
    refine v_lconst E (x := 0) rfl dJ16_add_2_24 ?_
    refine v_lstore E dJ16_add_2_25 (zlt hL rfl) (lv' := [(5, vj 0), (4, .ref q), (3, vi (m : Int)), (2, vi (n : Int)), (1, .ref b), (0, .ref a)]) rfl ?_
    refine v_iload_n E 2 rfl dJ16_add_2_27 ?_
    refine v_iconst E dJ16_add_2_28 ?_
    refine v_icmp_ne E (tgt := 64) dJ16_add_2_29 (by decide) ⟨by omega, by omega⟩ ⟨by omega, by omega⟩ (fun c_29 => ?_) (fun c_29 => ?_)
    · have loop_64 : ∀ (m_64 : Nat) (H : Heap) (k : Nat) (f : Nat → Int) (u v t : Int), m - k < m_64 → (k ≤ m) → (u = (n : Int) - (k : Int)) → (v = (m : Int) - (k : Int)) → (t / 4294967296 = cy X Y k ∧ 0 ≤ t ∧ t < 18446744073709551616) → (∀ j, j < n → n - k ≤ j → f j = bM (X + Y) n j) → hp κ H a (eI κ n (bM X n)) → hp κ H b (eI κ m (bM Y m)) → hp κ H q (eI κ n f) → V z H (2 - 1) ((2 * N + 1) - n) 64 [(5, vj t), (3, vi v), (2, vi u), (4, .ref q), (1, .ref b), (0, .ref a)] [] := by
        intro m_64
        induction m_64 with
        | zero => intro H k f u v t hm; exact absurd hm (by omega)
        | succ m_64 ih_64 =>
          intro H k f u v t hm_64 hk hu hv ht hf ha hb hq9
          have hdx := dg_in X k
          have hci := cy_in X Y k
          have hdy := dg_in Y k
          refine v_iload_n E 1 rfl dJ16_add_2_64 ?_
          refine v_if_le E (tgt := 109) dJ16_add_2_65 (by decide) ⟨by omega, by omega⟩ (fun c_65 => ?_) (fun c_65 => ?_)
          · obtain rfl : m = k := by omega
            refine v_lload E 0 rfl dJ16_add_2_109 ?_
            refine v_bipush E ⟨by decide, by decide⟩ dJ16_add_2_111 ?_
            refine v_lushr E 32 (by decide) dJ16_add_2_113 ?_
            refine v_lconst E (x := 0) rfl dJ16_add_2_114 ?_
            refine v_lc_eq E (tgt := 123) dJ16_add_2_115 dJ16_add_2_116 (by decide) ⟨by omega, by omega⟩ ⟨by omega, by omega⟩ (fun c_115 => ?_) (fun c_115 => ?_)
            · refine v_iconst E dJ16_add_2_123 ?_
              refine v_istore E dJ16_add_2_124 (zlt hL rfl) (lv' := [(7, vi 0), (5, vj t), (3, vi v), (2, vi u), (4, .ref q), (1, .ref b), (0, .ref a)]) rfl ?_
              have loop_126 : ∀ (m_126 : Nat) (H : Heap) (k : Nat) (f : Nat → Int) (u c : Int), n - k < m_126 → (k ≤ n) → (m ≤ k) → (u = (n : Int) - (k : Int)) → (c = cy X Y k) → (∀ j, j < n → n - k ≤ j → f j = bM (X + Y) n j) → hp κ H a (eI κ n (bM X n)) → hp κ H q (eI κ n f) → V z H (2 - 1) ((2 * N + 1) - n) 126 [(7, vi c), (2, vi u), (4, .ref q), (0, .ref a)] [] := by
                intro m_126
                induction m_126 with
                | zero => intro H k f u c hm; exact absurd hm (by omega)
                | succ m_126 ih_126 =>
                  intro H k f u c hm_126 hk hkm hu hc hf ha hq9
                  have hdx := dg_in X k
                  have hci := cy_in X Y k
                  have hct := cy_top (X := X) ⟨by omega, hm.2.1⟩ hkm
                  have hds := dg_in (X + Y) k
                  refine v_iload_n E 1 rfl dJ16_add_2_126 ?_
                  refine v_if_le E (tgt := 161) dJ16_add_2_127 (by decide) ⟨by omega, by omega⟩ (fun c_127 => ?_) (fun c_127 => ?_)
                  · have loop_161 : ∀ (m_161 : Nat) (H : Heap) (k : Nat) (f : Nat → Int) (u c : Int), n - k < m_161 → (k ≤ n) → (m ≤ k) → (u = (n : Int) - (k : Int)) → (k < n → cy X Y k = 0) → (c = cy X Y k) → (∀ j, j < n → n - k ≤ j → f j = bM (X + Y) n j) → hp κ H a (eI κ n (bM X n)) → hp κ H q (eI κ n f) → V z H (2 - 1) ((2 * N + 1) - n) 161 [(7, vi c), (2, vi u), (4, .ref q), (0, .ref a)] [] := by
                      intro m_161
                      induction m_161 with
                      | zero => intro H k f u c hm; exact absurd hm (by omega)
                      | succ m_161 ih_161 =>
                        intro H k f u c hm_161 hk hkm hu hcz hc hf ha hq9
                        have hdx := dg_in X k
                        have hci := cy_in X Y k
                        have hct := cy_top (X := X) ⟨by omega, hm.2.1⟩ hkm
                        refine v_iload_n E 1 rfl dJ16_add_2_161 ?_
                        refine v_if_le E (tgt := 178) dJ16_add_2_162 (by decide) ⟨by omega, by omega⟩ (fun c_162 => ?_) (fun c_162 => ?_)
                        · obtain rfl : n = k := by omega
                          refine v_iload E 0 rfl dJ16_add_2_178 ?_
                          refine v_if_eq E (tgt := 212) dJ16_add_2_180 (by decide) ⟨by omega, by omega⟩ (fun c_180 => ?_) (fun c_180 => ?_)
                          · refine v_aload E 2 rfl dJ16_add_2_212 ?_
                            refine v_aret E hE rfl (Or.inr ⟨_, rfl⟩) dJ16_add_2_214 (Or.inr ⟨_, rfl⟩) ?_
                            exact ⟨_, _, rfl, eI.congr hq9 (fun j hj => congrArg iZ (hf j hj (by omega))), add_fin0 (by omega) (by omega) hn hm hmn (by omega), by omega⟩
                          · refine v_aload E 2 rfl dJ16_add_2_183 ?_
                            refine v_alen E dJ16_add_2_185 (t := 0) (ty := .int) hq9 rfl ?_
                            refine v_iconst E dJ16_add_2_186 ?_
                            refine v_iadd E dJ16_add_2_187 ?_
                            refine V.frame (fun hfz_fr_10 hfk_fr_10 => ?_)
                            rw [hH0] at hfz_fr_10 hfk_fr_10
                            rw [hA0] at hfk_fr_10
                            refine v_newI E (n := (n + 1)) q511 (by omega) (by omega) (cb' := ((2 - 1) - 1)) (sb' := (((2 * N + 1) - n) - (n + 1))) (by omega) (by omega) dJ16_add_2_188 (fun q2 H_11 hq_14 hn_12 hg_13 => ?_)
                            have hne_a_q2 : a ≠ q2 := by have := ha.lt; omega
                            have hne_q_q2 : q ≠ q2 := by have := hq9.lt; omega
                            have ha_17 := ha.grow hg_13
                            have hq9_18 := hq9.grow hg_13
                            refine v_astore E dJ16_add_2_190 (zlt hL rfl) (lv' := [(8, .ref q2), (7, vi c), (2, vi u), (4, .ref q), (0, .ref a)]) rfl ?_
                            refine v_aload E 3 rfl dJ16_add_2_192 ?_
                            refine v_iconst E dJ16_add_2_194 ?_
                            refine v_aload E 0 rfl dJ16_add_2_195 ?_
                            refine v_iconst E dJ16_add_2_197 ?_
                            refine v_aload E 3 rfl dJ16_add_2_198 ?_
                            refine v_alen E dJ16_add_2_200 (t := 0) (ty := .int) hq9_18 rfl ?_
                            refine v_copyI E (n0 := n) (n1 := (n + 1)) hq9_18 hn_12 q711 q184 q183 q78 (sp := 0) (dp := 1) (w := n) (by omega) (by omega) (by omega) (by omega) (hNew _ (by omega)) (by decide) (Nat.le_of_ble_eq_true rfl) (by omega) (by omega) (by omega) dJ16_add_2_201 (fun H_21 hv_19 hs_20 => ?_)
                            have ha_22 := ha_17.same hs_20 hne_a_q2
                            have hq9_23 := hq9_18.same hs_20 hne_q_q2
                            refine v_aload E 0 rfl dJ16_add_2_204 ?_
                            refine v_iconst E dJ16_add_2_206 ?_
                            refine v_iconst E dJ16_add_2_207 ?_
                            refine v_iast E dJ16_add_2_208 hv_19 0 rfl (by omega) (by omega) (hNew _ (by omega)) (fun H_26 hv_24 hs_25 => ?_)
                            have ha_27 := ha_22.same hs_25 hne_a_q2
                            have hq9_28 := hq9_23.same hs_25 hne_q_q2
                            refine v_aload E 0 rfl dJ16_add_2_209 ?_
                            refine v_aret E hE rfl (Or.inr ⟨_, rfl⟩) dJ16_add_2_211 (Or.inr ⟨_, rfl⟩) ?_
                            have h19 := add_fin1 (by omega) (by omega) hn hm hmn hs (by have := cy_in X Y n; omega)
                            exact ⟨_, _, rfl, eI.congr hv_24 (bg_fin hf h19.2), h19.1, by omega⟩
                        · refine v_aload E 2 rfl dJ16_add_2_165 ?_
                          refine v_iinc E 1 rfl dJ16_add_2_167 (zlt hL rfl) (lv' := [(2, vi (u + (-1))), (7, vi c), (4, .ref q), (0, .ref a)]) rfl ?_
                          refine v_iload_n E 0 rfl dJ16_add_2_170 ?_
                          refine v_aload_n E 3 rfl dJ16_add_2_171 ?_
                          refine v_iload_n E 0 rfl dJ16_add_2_172 ?_
                          refine v_iald E dJ16_add_2_173 ha (n - (k + 1)) (by omega) (by omega) (by omega) ?_
                          refine V.topi (x' := dg (X + Y) k) (by rw [bM_at (X := X) (n := n) (k := k) rfl (by omega), hct.2, hcz (by omega), Int.zero_add]; exact (iZ_mod _).symm) ?_
                          refine v_iast E dJ16_add_2_174 hq9 (n - (k + 1)) (by omega) (by omega) (by omega) (hNew _ (by omega)) (fun H_31 hq9_29 hs_30 => ?_)
                          have ha_32 := ha.same hs_30 hne_a_q
                          refine v_goto E (tgt := 161) dJ16_add_2_175 (by decide) ?_
                          refine V.sub [1, 0, 2, 3] (lv' := [(7, vi c), (2, vi (u + (-1))), (4, .ref q), (0, .ref a)]) rfl ?_
                          exact ih_161  H_31 (k + 1) _ _ _ (by omega) (by omega) (by omega) (by omega) (by intro h; omega) (by omega) (hi_s rfl (by omega) hf) ha_32 hq9_29
                    exact loop_161 (n + 1) H k f _ _ (by omega) hk hkm hu (by intro h; omega) hc hf ha hq9
                  · refine v_iload E 0 rfl dJ16_add_2_130 ?_
                    refine v_if_eq E (tgt := 161) dJ16_add_2_132 (by decide) ⟨by omega, by omega⟩ (fun c_132 => ?_) (fun c_132 => ?_)
                    · have loop_161 : ∀ (m_161 : Nat) (H : Heap) (k : Nat) (f : Nat → Int) (u c : Int), n - k < m_161 → (k ≤ n) → (m ≤ k) → (u = (n : Int) - (k : Int)) → (k < n → cy X Y k = 0) → (c = cy X Y k) → (∀ j, j < n → n - k ≤ j → f j = bM (X + Y) n j) → hp κ H a (eI κ n (bM X n)) → hp κ H q (eI κ n f) → V z H (2 - 1) ((2 * N + 1) - n) 161 [(7, vi c), (2, vi u), (4, .ref q), (0, .ref a)] [] := by
                        intro m_161
                        induction m_161 with
                        | zero => intro H k f u c hm; exact absurd hm (by omega)
                        | succ m_161 ih_161 =>
                          intro H k f u c hm_161 hk hkm hu hcz hc hf ha hq9
                          have hdx := dg_in X k
                          have hci := cy_in X Y k
                          have hct := cy_top (X := X) ⟨by omega, hm.2.1⟩ hkm
                          refine v_iload_n E 1 rfl dJ16_add_2_161 ?_
                          refine v_if_le E (tgt := 178) dJ16_add_2_162 (by decide) ⟨by omega, by omega⟩ (fun c_162 => ?_) (fun c_162 => ?_)
                          · obtain rfl : n = k := by omega
                            refine v_iload E 0 rfl dJ16_add_2_178 ?_
                            refine v_if_eq E (tgt := 212) dJ16_add_2_180 (by decide) ⟨by omega, by omega⟩ (fun c_180 => ?_) (fun c_180 => ?_)
                            · refine v_aload E 2 rfl dJ16_add_2_212 ?_
                              refine v_aret E hE rfl (Or.inr ⟨_, rfl⟩) dJ16_add_2_214 (Or.inr ⟨_, rfl⟩) ?_
                              exact ⟨_, _, rfl, eI.congr hq9 (fun j hj => congrArg iZ (hf j hj (by omega))), add_fin0 (by omega) (by omega) hn hm hmn (by omega), by omega⟩
                            · refine v_aload E 2 rfl dJ16_add_2_183 ?_
                              refine v_alen E dJ16_add_2_185 (t := 0) (ty := .int) hq9 rfl ?_
                              refine v_iconst E dJ16_add_2_186 ?_
                              refine v_iadd E dJ16_add_2_187 ?_
                              refine V.frame (fun hfz_fr_33 hfk_fr_33 => ?_)
                              rw [hH0] at hfz_fr_33 hfk_fr_33
                              rw [hA0] at hfk_fr_33
                              refine v_newI E (n := (n + 1)) q511 (by omega) (by omega) (cb' := ((2 - 1) - 1)) (sb' := (((2 * N + 1) - n) - (n + 1))) (by omega) (by omega) dJ16_add_2_188 (fun q2 H_34 hq_37 hn_35 hg_36 => ?_)
                              have hne_a_q2 : a ≠ q2 := by have := ha.lt; omega
                              have hne_q_q2 : q ≠ q2 := by have := hq9.lt; omega
                              have ha_40 := ha.grow hg_36
                              have hq9_41 := hq9.grow hg_36
                              refine v_astore E dJ16_add_2_190 (zlt hL rfl) (lv' := [(8, .ref q2), (7, vi c), (2, vi u), (4, .ref q), (0, .ref a)]) rfl ?_
                              refine v_aload E 3 rfl dJ16_add_2_192 ?_
                              refine v_iconst E dJ16_add_2_194 ?_
                              refine v_aload E 0 rfl dJ16_add_2_195 ?_
                              refine v_iconst E dJ16_add_2_197 ?_
                              refine v_aload E 3 rfl dJ16_add_2_198 ?_
                              refine v_alen E dJ16_add_2_200 (t := 0) (ty := .int) hq9_41 rfl ?_
                              refine v_copyI E (n0 := n) (n1 := (n + 1)) hq9_41 hn_35 q711 q184 q183 q78 (sp := 0) (dp := 1) (w := n) (by omega) (by omega) (by omega) (by omega) (hNew _ (by omega)) (by decide) (Nat.le_of_ble_eq_true rfl) (by omega) (by omega) (by omega) dJ16_add_2_201 (fun H_44 hv_42 hs_43 => ?_)
                              have ha_45 := ha_40.same hs_43 hne_a_q2
                              have hq9_46 := hq9_41.same hs_43 hne_q_q2
                              refine v_aload E 0 rfl dJ16_add_2_204 ?_
                              refine v_iconst E dJ16_add_2_206 ?_
                              refine v_iconst E dJ16_add_2_207 ?_
                              refine v_iast E dJ16_add_2_208 hv_42 0 rfl (by omega) (by omega) (hNew _ (by omega)) (fun H_49 hv_47 hs_48 => ?_)
                              have ha_50 := ha_45.same hs_48 hne_a_q2
                              have hq9_51 := hq9_46.same hs_48 hne_q_q2
                              refine v_aload E 0 rfl dJ16_add_2_209 ?_
                              refine v_aret E hE rfl (Or.inr ⟨_, rfl⟩) dJ16_add_2_211 (Or.inr ⟨_, rfl⟩) ?_
                              have h19 := add_fin1 (by omega) (by omega) hn hm hmn hs (by have := cy_in X Y n; omega)
                              exact ⟨_, _, rfl, eI.congr hv_47 (bg_fin hf h19.2), h19.1, by omega⟩
                          · refine v_aload E 2 rfl dJ16_add_2_165 ?_
                            refine v_iinc E 1 rfl dJ16_add_2_167 (zlt hL rfl) (lv' := [(2, vi (u + (-1))), (7, vi c), (4, .ref q), (0, .ref a)]) rfl ?_
                            refine v_iload_n E 0 rfl dJ16_add_2_170 ?_
                            refine v_aload_n E 3 rfl dJ16_add_2_171 ?_
                            refine v_iload_n E 0 rfl dJ16_add_2_172 ?_
                            refine v_iald E dJ16_add_2_173 ha (n - (k + 1)) (by omega) (by omega) (by omega) ?_
                            refine V.topi (x' := dg (X + Y) k) (by rw [bM_at (X := X) (n := n) (k := k) rfl (by omega), hct.2, hcz (by omega), Int.zero_add]; exact (iZ_mod _).symm) ?_
                            refine v_iast E dJ16_add_2_174 hq9 (n - (k + 1)) (by omega) (by omega) (by omega) (hNew _ (by omega)) (fun H_54 hq9_52 hs_53 => ?_)
                            have ha_55 := ha.same hs_53 hne_a_q
                            refine v_goto E (tgt := 161) dJ16_add_2_175 (by decide) ?_
                            refine V.sub [1, 0, 2, 3] (lv' := [(7, vi c), (2, vi (u + (-1))), (4, .ref q), (0, .ref a)]) rfl ?_
                            exact ih_161  H_54 (k + 1) _ _ _ (by omega) (by omega) (by omega) (by omega) (by intro h; omega) (by omega) (hi_s rfl (by omega) hf) ha_55 hq9_52
                      exact loop_161 (n + 1) H k f _ _ (by omega) hk hkm hu (by intro h; omega) hc hf ha hq9
                    · refine v_aload E 2 rfl dJ16_add_2_135 ?_
                      refine v_iinc E 1 rfl dJ16_add_2_137 (zlt hL rfl) (lv' := [(2, vi (u + (-1))), (7, vi c), (4, .ref q), (0, .ref a)]) rfl ?_
                      refine v_iload_n E 0 rfl dJ16_add_2_140 ?_
                      refine v_aload_n E 3 rfl dJ16_add_2_141 ?_
                      refine v_iload_n E 0 rfl dJ16_add_2_142 ?_
                      refine v_iald E dJ16_add_2_143 ha (n - (k + 1)) (by omega) (by omega) (by omega) ?_
                      refine v_iconst E dJ16_add_2_144 ?_
                      refine v_iadd E dJ16_add_2_145 ?_
                      refine V.topi (x' := dg (X + Y) k) (by rw [bM_at (X := X) (n := n) (k := k) rfl (by omega), hct.2]; exact iZ_cong (by omega)) ?_
                      refine v_dup_x2 E rfl rfl rfl dJ16_add_2_146 ?_
                      refine v_iast E dJ16_add_2_147 hq9 (n - (k + 1)) (by omega) (by omega) (by omega) (hNew _ (by omega)) (fun H_58 hq9_56 hs_57 => ?_)
                      have ha_59 := ha.same hs_57 hne_a_q
                      refine V.topi (x' := ((dg (X + Y) k) + 2147483648) % 4294967296 - 2147483648) (iZ_sg _) ?_
                      refine v_if_ne E (tgt := 155) dJ16_add_2_148 (by decide) ⟨by omega, by omega⟩ (fun c_148 => ?_) (fun c_148 => ?_)
                      · refine v_iconst E dJ16_add_2_155 ?_
                        refine v_istore E dJ16_add_2_156 (zlt hL rfl) (lv' := [(7, vi 0), (2, vi (u + (-1))), (4, .ref q), (0, .ref a)]) rfl ?_
                        refine v_goto E (tgt := 126) dJ16_add_2_158 (by decide) ?_
                        exact ih_126  H_58 (k + 1) _ _ _ (by omega) (by omega) (by omega) (by omega) (by omega) (hi_s rfl (by omega) hf) ha_59 hq9_56
                      · refine v_iconst E dJ16_add_2_151 ?_
                        refine v_goto E (tgt := 156) dJ16_add_2_152 (by decide) ?_
                        refine v_istore E dJ16_add_2_156 (zlt hL rfl) (lv' := [(7, vi 1), (2, vi (u + (-1))), (4, .ref q), (0, .ref a)]) rfl ?_
                        refine v_goto E (tgt := 126) dJ16_add_2_158 (by decide) ?_
                        exact ih_126  H_58 (k + 1) _ _ _ (by omega) (by omega) (by omega) (by omega) (by omega) (hi_s rfl (by omega) hf) ha_59 hq9_56
              refine V.sub [0, 3, 4, 6] (lv' := [(7, vi 0), (2, vi u), (4, .ref q), (0, .ref a)]) rfl ?_
              exact loop_126 (n + 1) H m f _ _ (by omega) (by omega) (by omega) (by omega) (by omega) hf ha hq9
            · refine v_iconst E dJ16_add_2_119 ?_
              refine v_goto E (tgt := 124) dJ16_add_2_120 (by decide) ?_
              refine v_istore E dJ16_add_2_124 (zlt hL rfl) (lv' := [(7, vi 1), (5, vj t), (3, vi v), (2, vi u), (4, .ref q), (1, .ref b), (0, .ref a)]) rfl ?_
              have loop_126 : ∀ (m_126 : Nat) (H : Heap) (k : Nat) (f : Nat → Int) (u c : Int), n - k < m_126 → (k ≤ n) → (m ≤ k) → (u = (n : Int) - (k : Int)) → (c = cy X Y k) → (∀ j, j < n → n - k ≤ j → f j = bM (X + Y) n j) → hp κ H a (eI κ n (bM X n)) → hp κ H q (eI κ n f) → V z H (2 - 1) ((2 * N + 1) - n) 126 [(7, vi c), (2, vi u), (4, .ref q), (0, .ref a)] [] := by
                intro m_126
                induction m_126 with
                | zero => intro H k f u c hm; exact absurd hm (by omega)
                | succ m_126 ih_126 =>
                  intro H k f u c hm_126 hk hkm hu hc hf ha hq9
                  have hdx := dg_in X k
                  have hci := cy_in X Y k
                  have hct := cy_top (X := X) ⟨by omega, hm.2.1⟩ hkm
                  have hds := dg_in (X + Y) k
                  refine v_iload_n E 1 rfl dJ16_add_2_126 ?_
                  refine v_if_le E (tgt := 161) dJ16_add_2_127 (by decide) ⟨by omega, by omega⟩ (fun c_127 => ?_) (fun c_127 => ?_)
                  · have loop_161 : ∀ (m_161 : Nat) (H : Heap) (k : Nat) (f : Nat → Int) (u c : Int), n - k < m_161 → (k ≤ n) → (m ≤ k) → (u = (n : Int) - (k : Int)) → (k < n → cy X Y k = 0) → (c = cy X Y k) → (∀ j, j < n → n - k ≤ j → f j = bM (X + Y) n j) → hp κ H a (eI κ n (bM X n)) → hp κ H q (eI κ n f) → V z H (2 - 1) ((2 * N + 1) - n) 161 [(7, vi c), (2, vi u), (4, .ref q), (0, .ref a)] [] := by
                      intro m_161
                      induction m_161 with
                      | zero => intro H k f u c hm; exact absurd hm (by omega)
                      | succ m_161 ih_161 =>
                        intro H k f u c hm_161 hk hkm hu hcz hc hf ha hq9
                        have hdx := dg_in X k
                        have hci := cy_in X Y k
                        have hct := cy_top (X := X) ⟨by omega, hm.2.1⟩ hkm
                        refine v_iload_n E 1 rfl dJ16_add_2_161 ?_
                        refine v_if_le E (tgt := 178) dJ16_add_2_162 (by decide) ⟨by omega, by omega⟩ (fun c_162 => ?_) (fun c_162 => ?_)
                        · obtain rfl : n = k := by omega
                          refine v_iload E 0 rfl dJ16_add_2_178 ?_
                          refine v_if_eq E (tgt := 212) dJ16_add_2_180 (by decide) ⟨by omega, by omega⟩ (fun c_180 => ?_) (fun c_180 => ?_)
                          · refine v_aload E 2 rfl dJ16_add_2_212 ?_
                            refine v_aret E hE rfl (Or.inr ⟨_, rfl⟩) dJ16_add_2_214 (Or.inr ⟨_, rfl⟩) ?_
                            exact ⟨_, _, rfl, eI.congr hq9 (fun j hj => congrArg iZ (hf j hj (by omega))), add_fin0 (by omega) (by omega) hn hm hmn (by omega), by omega⟩
                          · refine v_aload E 2 rfl dJ16_add_2_183 ?_
                            refine v_alen E dJ16_add_2_185 (t := 0) (ty := .int) hq9 rfl ?_
                            refine v_iconst E dJ16_add_2_186 ?_
                            refine v_iadd E dJ16_add_2_187 ?_
                            refine V.frame (fun hfz_fr_60 hfk_fr_60 => ?_)
                            rw [hH0] at hfz_fr_60 hfk_fr_60
                            rw [hA0] at hfk_fr_60
                            refine v_newI E (n := (n + 1)) q511 (by omega) (by omega) (cb' := ((2 - 1) - 1)) (sb' := (((2 * N + 1) - n) - (n + 1))) (by omega) (by omega) dJ16_add_2_188 (fun q2 H_61 hq_64 hn_62 hg_63 => ?_)
                            have hne_a_q2 : a ≠ q2 := by have := ha.lt; omega
                            have hne_q_q2 : q ≠ q2 := by have := hq9.lt; omega
                            have ha_67 := ha.grow hg_63
                            have hq9_68 := hq9.grow hg_63
                            refine v_astore E dJ16_add_2_190 (zlt hL rfl) (lv' := [(8, .ref q2), (7, vi c), (2, vi u), (4, .ref q), (0, .ref a)]) rfl ?_
                            refine v_aload E 3 rfl dJ16_add_2_192 ?_
                            refine v_iconst E dJ16_add_2_194 ?_
                            refine v_aload E 0 rfl dJ16_add_2_195 ?_
                            refine v_iconst E dJ16_add_2_197 ?_
                            refine v_aload E 3 rfl dJ16_add_2_198 ?_
                            refine v_alen E dJ16_add_2_200 (t := 0) (ty := .int) hq9_68 rfl ?_
                            refine v_copyI E (n0 := n) (n1 := (n + 1)) hq9_68 hn_62 q711 q184 q183 q78 (sp := 0) (dp := 1) (w := n) (by omega) (by omega) (by omega) (by omega) (hNew _ (by omega)) (by decide) (Nat.le_of_ble_eq_true rfl) (by omega) (by omega) (by omega) dJ16_add_2_201 (fun H_71 hv_69 hs_70 => ?_)
                            have ha_72 := ha_67.same hs_70 hne_a_q2
                            have hq9_73 := hq9_68.same hs_70 hne_q_q2
                            refine v_aload E 0 rfl dJ16_add_2_204 ?_
                            refine v_iconst E dJ16_add_2_206 ?_
                            refine v_iconst E dJ16_add_2_207 ?_
                            refine v_iast E dJ16_add_2_208 hv_69 0 rfl (by omega) (by omega) (hNew _ (by omega)) (fun H_76 hv_74 hs_75 => ?_)
                            have ha_77 := ha_72.same hs_75 hne_a_q2
                            have hq9_78 := hq9_73.same hs_75 hne_q_q2
                            refine v_aload E 0 rfl dJ16_add_2_209 ?_
                            refine v_aret E hE rfl (Or.inr ⟨_, rfl⟩) dJ16_add_2_211 (Or.inr ⟨_, rfl⟩) ?_
                            have h19 := add_fin1 (by omega) (by omega) hn hm hmn hs (by have := cy_in X Y n; omega)
                            exact ⟨_, _, rfl, eI.congr hv_74 (bg_fin hf h19.2), h19.1, by omega⟩
                        · refine v_aload E 2 rfl dJ16_add_2_165 ?_
                          refine v_iinc E 1 rfl dJ16_add_2_167 (zlt hL rfl) (lv' := [(2, vi (u + (-1))), (7, vi c), (4, .ref q), (0, .ref a)]) rfl ?_
                          refine v_iload_n E 0 rfl dJ16_add_2_170 ?_
                          refine v_aload_n E 3 rfl dJ16_add_2_171 ?_
                          refine v_iload_n E 0 rfl dJ16_add_2_172 ?_
                          refine v_iald E dJ16_add_2_173 ha (n - (k + 1)) (by omega) (by omega) (by omega) ?_
                          refine V.topi (x' := dg (X + Y) k) (by rw [bM_at (X := X) (n := n) (k := k) rfl (by omega), hct.2, hcz (by omega), Int.zero_add]; exact (iZ_mod _).symm) ?_
                          refine v_iast E dJ16_add_2_174 hq9 (n - (k + 1)) (by omega) (by omega) (by omega) (hNew _ (by omega)) (fun H_81 hq9_79 hs_80 => ?_)
                          have ha_82 := ha.same hs_80 hne_a_q
                          refine v_goto E (tgt := 161) dJ16_add_2_175 (by decide) ?_
                          refine V.sub [1, 0, 2, 3] (lv' := [(7, vi c), (2, vi (u + (-1))), (4, .ref q), (0, .ref a)]) rfl ?_
                          exact ih_161  H_81 (k + 1) _ _ _ (by omega) (by omega) (by omega) (by omega) (by intro h; omega) (by omega) (hi_s rfl (by omega) hf) ha_82 hq9_79
                    exact loop_161 (n + 1) H k f _ _ (by omega) hk hkm hu (by intro h; omega) hc hf ha hq9
                  · refine v_iload E 0 rfl dJ16_add_2_130 ?_
                    refine v_if_eq E (tgt := 161) dJ16_add_2_132 (by decide) ⟨by omega, by omega⟩ (fun c_132 => ?_) (fun c_132 => ?_)
                    · have loop_161 : ∀ (m_161 : Nat) (H : Heap) (k : Nat) (f : Nat → Int) (u c : Int), n - k < m_161 → (k ≤ n) → (m ≤ k) → (u = (n : Int) - (k : Int)) → (k < n → cy X Y k = 0) → (c = cy X Y k) → (∀ j, j < n → n - k ≤ j → f j = bM (X + Y) n j) → hp κ H a (eI κ n (bM X n)) → hp κ H q (eI κ n f) → V z H (2 - 1) ((2 * N + 1) - n) 161 [(7, vi c), (2, vi u), (4, .ref q), (0, .ref a)] [] := by
                        intro m_161
                        induction m_161 with
                        | zero => intro H k f u c hm; exact absurd hm (by omega)
                        | succ m_161 ih_161 =>
                          intro H k f u c hm_161 hk hkm hu hcz hc hf ha hq9
                          have hdx := dg_in X k
                          have hci := cy_in X Y k
                          have hct := cy_top (X := X) ⟨by omega, hm.2.1⟩ hkm
                          refine v_iload_n E 1 rfl dJ16_add_2_161 ?_
                          refine v_if_le E (tgt := 178) dJ16_add_2_162 (by decide) ⟨by omega, by omega⟩ (fun c_162 => ?_) (fun c_162 => ?_)
                          · obtain rfl : n = k := by omega
                            refine v_iload E 0 rfl dJ16_add_2_178 ?_
                            refine v_if_eq E (tgt := 212) dJ16_add_2_180 (by decide) ⟨by omega, by omega⟩ (fun c_180 => ?_) (fun c_180 => ?_)
                            · refine v_aload E 2 rfl dJ16_add_2_212 ?_
                              refine v_aret E hE rfl (Or.inr ⟨_, rfl⟩) dJ16_add_2_214 (Or.inr ⟨_, rfl⟩) ?_
                              exact ⟨_, _, rfl, eI.congr hq9 (fun j hj => congrArg iZ (hf j hj (by omega))), add_fin0 (by omega) (by omega) hn hm hmn (by omega), by omega⟩
                            · refine v_aload E 2 rfl dJ16_add_2_183 ?_
                              refine v_alen E dJ16_add_2_185 (t := 0) (ty := .int) hq9 rfl ?_
                              refine v_iconst E dJ16_add_2_186 ?_
                              refine v_iadd E dJ16_add_2_187 ?_
                              refine V.frame (fun hfz_fr_83 hfk_fr_83 => ?_)
                              rw [hH0] at hfz_fr_83 hfk_fr_83
                              rw [hA0] at hfk_fr_83
                              refine v_newI E (n := (n + 1)) q511 (by omega) (by omega) (cb' := ((2 - 1) - 1)) (sb' := (((2 * N + 1) - n) - (n + 1))) (by omega) (by omega) dJ16_add_2_188 (fun q2 H_84 hq_87 hn_85 hg_86 => ?_)
                              have hne_a_q2 : a ≠ q2 := by have := ha.lt; omega
                              have hne_q_q2 : q ≠ q2 := by have := hq9.lt; omega
                              have ha_90 := ha.grow hg_86
                              have hq9_91 := hq9.grow hg_86
                              refine v_astore E dJ16_add_2_190 (zlt hL rfl) (lv' := [(8, .ref q2), (7, vi c), (2, vi u), (4, .ref q), (0, .ref a)]) rfl ?_
                              refine v_aload E 3 rfl dJ16_add_2_192 ?_
                              refine v_iconst E dJ16_add_2_194 ?_
                              refine v_aload E 0 rfl dJ16_add_2_195 ?_
                              refine v_iconst E dJ16_add_2_197 ?_
                              refine v_aload E 3 rfl dJ16_add_2_198 ?_
                              refine v_alen E dJ16_add_2_200 (t := 0) (ty := .int) hq9_91 rfl ?_
                              refine v_copyI E (n0 := n) (n1 := (n + 1)) hq9_91 hn_85 q711 q184 q183 q78 (sp := 0) (dp := 1) (w := n) (by omega) (by omega) (by omega) (by omega) (hNew _ (by omega)) (by decide) (Nat.le_of_ble_eq_true rfl) (by omega) (by omega) (by omega) dJ16_add_2_201 (fun H_94 hv_92 hs_93 => ?_)
                              have ha_95 := ha_90.same hs_93 hne_a_q2
                              have hq9_96 := hq9_91.same hs_93 hne_q_q2
                              refine v_aload E 0 rfl dJ16_add_2_204 ?_
                              refine v_iconst E dJ16_add_2_206 ?_
                              refine v_iconst E dJ16_add_2_207 ?_
                              refine v_iast E dJ16_add_2_208 hv_92 0 rfl (by omega) (by omega) (hNew _ (by omega)) (fun H_99 hv_97 hs_98 => ?_)
                              have ha_100 := ha_95.same hs_98 hne_a_q2
                              have hq9_101 := hq9_96.same hs_98 hne_q_q2
                              refine v_aload E 0 rfl dJ16_add_2_209 ?_
                              refine v_aret E hE rfl (Or.inr ⟨_, rfl⟩) dJ16_add_2_211 (Or.inr ⟨_, rfl⟩) ?_
                              have h19 := add_fin1 (by omega) (by omega) hn hm hmn hs (by have := cy_in X Y n; omega)
                              exact ⟨_, _, rfl, eI.congr hv_97 (bg_fin hf h19.2), h19.1, by omega⟩
                          · refine v_aload E 2 rfl dJ16_add_2_165 ?_
                            refine v_iinc E 1 rfl dJ16_add_2_167 (zlt hL rfl) (lv' := [(2, vi (u + (-1))), (7, vi c), (4, .ref q), (0, .ref a)]) rfl ?_
                            refine v_iload_n E 0 rfl dJ16_add_2_170 ?_
                            refine v_aload_n E 3 rfl dJ16_add_2_171 ?_
                            refine v_iload_n E 0 rfl dJ16_add_2_172 ?_
                            refine v_iald E dJ16_add_2_173 ha (n - (k + 1)) (by omega) (by omega) (by omega) ?_
                            refine V.topi (x' := dg (X + Y) k) (by rw [bM_at (X := X) (n := n) (k := k) rfl (by omega), hct.2, hcz (by omega), Int.zero_add]; exact (iZ_mod _).symm) ?_
                            refine v_iast E dJ16_add_2_174 hq9 (n - (k + 1)) (by omega) (by omega) (by omega) (hNew _ (by omega)) (fun H_104 hq9_102 hs_103 => ?_)
                            have ha_105 := ha.same hs_103 hne_a_q
                            refine v_goto E (tgt := 161) dJ16_add_2_175 (by decide) ?_
                            refine V.sub [1, 0, 2, 3] (lv' := [(7, vi c), (2, vi (u + (-1))), (4, .ref q), (0, .ref a)]) rfl ?_
                            exact ih_161  H_104 (k + 1) _ _ _ (by omega) (by omega) (by omega) (by omega) (by intro h; omega) (by omega) (hi_s rfl (by omega) hf) ha_105 hq9_102
                      exact loop_161 (n + 1) H k f _ _ (by omega) hk hkm hu (by intro h; omega) hc hf ha hq9
                    · refine v_aload E 2 rfl dJ16_add_2_135 ?_
                      refine v_iinc E 1 rfl dJ16_add_2_137 (zlt hL rfl) (lv' := [(2, vi (u + (-1))), (7, vi c), (4, .ref q), (0, .ref a)]) rfl ?_
                      refine v_iload_n E 0 rfl dJ16_add_2_140 ?_
                      refine v_aload_n E 3 rfl dJ16_add_2_141 ?_
                      refine v_iload_n E 0 rfl dJ16_add_2_142 ?_
                      refine v_iald E dJ16_add_2_143 ha (n - (k + 1)) (by omega) (by omega) (by omega) ?_
                      refine v_iconst E dJ16_add_2_144 ?_
                      refine v_iadd E dJ16_add_2_145 ?_
                      refine V.topi (x' := dg (X + Y) k) (by rw [bM_at (X := X) (n := n) (k := k) rfl (by omega), hct.2]; exact iZ_cong (by omega)) ?_
                      refine v_dup_x2 E rfl rfl rfl dJ16_add_2_146 ?_
                      refine v_iast E dJ16_add_2_147 hq9 (n - (k + 1)) (by omega) (by omega) (by omega) (hNew _ (by omega)) (fun H_108 hq9_106 hs_107 => ?_)
                      have ha_109 := ha.same hs_107 hne_a_q
                      refine V.topi (x' := ((dg (X + Y) k) + 2147483648) % 4294967296 - 2147483648) (iZ_sg _) ?_
                      refine v_if_ne E (tgt := 155) dJ16_add_2_148 (by decide) ⟨by omega, by omega⟩ (fun c_148 => ?_) (fun c_148 => ?_)
                      · refine v_iconst E dJ16_add_2_155 ?_
                        refine v_istore E dJ16_add_2_156 (zlt hL rfl) (lv' := [(7, vi 0), (2, vi (u + (-1))), (4, .ref q), (0, .ref a)]) rfl ?_
                        refine v_goto E (tgt := 126) dJ16_add_2_158 (by decide) ?_
                        exact ih_126  H_108 (k + 1) _ _ _ (by omega) (by omega) (by omega) (by omega) (by omega) (hi_s rfl (by omega) hf) ha_109 hq9_106
                      · refine v_iconst E dJ16_add_2_151 ?_
                        refine v_goto E (tgt := 156) dJ16_add_2_152 (by decide) ?_
                        refine v_istore E dJ16_add_2_156 (zlt hL rfl) (lv' := [(7, vi 1), (2, vi (u + (-1))), (4, .ref q), (0, .ref a)]) rfl ?_
                        refine v_goto E (tgt := 126) dJ16_add_2_158 (by decide) ?_
                        exact ih_126  H_108 (k + 1) _ _ _ (by omega) (by omega) (by omega) (by omega) (by omega) (hi_s rfl (by omega) hf) ha_109 hq9_106
              refine V.sub [0, 3, 4, 6] (lv' := [(7, vi 1), (2, vi u), (4, .ref q), (0, .ref a)]) rfl ?_
              exact loop_126 (n + 1) H m f _ _ (by omega) (by omega) (by omega) (by omega) (by omega) hf ha hq9
          · refine v_aload_n E 5 rfl dJ16_add_2_68 ?_
            refine v_iinc E 2 rfl dJ16_add_2_69 (zlt hL rfl) (lv' := [(2, vi (u + (-1))), (5, vj t), (3, vi v), (4, .ref q), (1, .ref b), (0, .ref a)]) rfl ?_
            refine v_iload_n E 0 rfl dJ16_add_2_72 ?_
            refine v_iald E dJ16_add_2_73 ha (n - (k + 1)) (by omega) (by omega) (by omega) ?_
            refine v_i2lLow E dJ16_add_2_74 q528 dJ16_add_2_75 dJ16_add_2_78 ?_
            refine v_aload_n E 4 rfl dJ16_add_2_79 ?_
            refine v_iinc E 2 rfl dJ16_add_2_80 (zlt hL rfl) (lv' := [(3, vi (v + (-1))), (2, vi (u + (-1))), (5, vj t), (4, .ref q), (1, .ref b), (0, .ref a)]) rfl ?_
            refine v_iload_n E 0 rfl dJ16_add_2_83 ?_
            refine v_iald E dJ16_add_2_84 hb (m - (k + 1)) (by omega) (by omega) (by omega) ?_
            refine v_i2lLow E dJ16_add_2_85 q528 dJ16_add_2_86 dJ16_add_2_89 ?_
            refine v_ladd E dJ16_add_2_90 ?_
            refine v_lload E 2 rfl dJ16_add_2_91 ?_
            refine v_bipush E ⟨by decide, by decide⟩ dJ16_add_2_93 ?_
            refine v_lushr E 32 (by decide) dJ16_add_2_95 ?_
            refine v_ladd E dJ16_add_2_96 ?_
            refine V.topl (x' := dg X k + dg Y k + cy X Y k) (congrArg jZ (by rw [bM_at (X := X) (n := n) (k := k) rfl (by omega), bM_at (X := Y) (n := m) (k := k) rfl (by omega)]; omega)) ?_
            refine v_lstore E dJ16_add_2_97 (zlt hL rfl) (lv' := [(5, vj (dg X k + dg Y k + cy X Y k)), (3, vi (v + (-1))), (2, vi (u + (-1))), (4, .ref q), (1, .ref b), (0, .ref a)]) rfl ?_
            refine v_aload E 3 rfl dJ16_add_2_99 ?_
            refine v_iload_n E 2 rfl dJ16_add_2_101 ?_
            refine v_lload E 0 rfl dJ16_add_2_102 ?_
            refine v_l2i E dJ16_add_2_104 ?_
            refine V.topi (x' := dg (X + Y) k) (by rw [dg_add]; exact iZ_cong (by omega)) ?_
            refine v_iast E dJ16_add_2_105 hq9 (n - (k + 1)) (by omega) (by omega) (by omega) (hNew _ (by omega)) (fun H_112 hq9_110 hs_111 => ?_)
            have ha_113 := ha.same hs_111 hne_a_q
            have hb_114 := hb.same hs_111 hne_b_q
            refine v_goto E (tgt := 64) dJ16_add_2_106 (by decide) ?_
            exact ih_64  H_112 (k + 1) _ _ _ _ (by omega) (by omega) (by omega) (by omega) (by rw [cy_s]; exact ⟨by omega, by omega, by omega⟩) (hi_s rfl (by omega) hf) ha_113 hb_114 hq9_110
      refine V.sub [0, 2, 3, 1, 4, 5] (lv' := [(5, vj 0), (3, vi (m : Int)), (2, vi (n : Int)), (4, .ref q), (1, .ref b), (0, .ref a)]) rfl ?_
      exact loop_64 (m + 1) H_2 0 (fun _ => 0) _ _ _ (by omega) (by omega) (by omega) (by omega) (by rw [cy_0]; decide) (fun j h1 h2 => absurd h2 (by omega)) ha_8 hb_9 hn_3
    · refine v_aload_n E 5 rfl dJ16_add_2_32 ?_
      refine v_iinc E 3 rfl dJ16_add_2_33 (zlt hL rfl) (lv' := [(2, vi ((n : Int) + (-1))), (5, vj 0), (4, .ref q), (3, vi (m : Int)), (1, .ref b), (0, .ref a)]) rfl ?_
      refine v_iload_n E 0 rfl dJ16_add_2_36 ?_
      refine v_iald E dJ16_add_2_37 ha_8 (n - (0 + 1)) (by omega) (by omega) (by omega) ?_
      refine v_i2lLow E dJ16_add_2_38 q528 dJ16_add_2_39 dJ16_add_2_42 ?_
      refine v_aload_n E 4 rfl dJ16_add_2_43 ?_
      refine v_iconst E dJ16_add_2_44 ?_
      refine v_iald E dJ16_add_2_45 hb_9 0 rfl (by omega) (by omega) ?_
      refine v_i2lLow E dJ16_add_2_46 q528 dJ16_add_2_47 dJ16_add_2_50 ?_
      refine v_ladd E dJ16_add_2_51 ?_
      refine V.topl (x' := dg X 0 + dg Y 0) (congrArg jZ (by have := dg_in X 0; have := dg_in Y 0; rw [bM_at (X := X) (n := n) (k := 0) rfl (by omega), bM_at (X := Y) (n := m) (k := 0) (by omega) (by omega)]; omega)) ?_
      refine v_lstore E dJ16_add_2_52 (zlt hL rfl) (lv' := [(5, vj (dg X 0 + dg Y 0)), (2, vi ((n : Int) + (-1))), (4, .ref q), (3, vi (m : Int)), (1, .ref b), (0, .ref a)]) rfl ?_
      refine v_aload E 2 rfl dJ16_add_2_54 ?_
      refine v_iload_n E 1 rfl dJ16_add_2_56 ?_
      refine v_lload E 0 rfl dJ16_add_2_57 ?_
      refine v_l2i E dJ16_add_2_59 ?_
      refine V.topi (x' := dg (X + Y) 0) (by rw [dg_add, cy_0]; exact iZ_cong (by omega)) ?_
      refine v_iast E dJ16_add_2_60 hn_3 (n - (0 + 1)) (by omega) (by omega) (by omega) (hNew _ (by omega)) (fun H_117 hn_115 hs_116 => ?_)
      have ha_118 := ha_8.same hs_116 hne_a_q
      have hb_119 := hb_9.same hs_116 hne_b_q
      have hf1 := hi_s (f := fun _ => 0) (Z := X + Y) (n := n) (k := 0) (j0 := n - 1) (by omega) (by omega) (fun j h1 h2 => absurd h2 (by omega))
      refine v_goto E (tgt := 109) dJ16_add_2_61 (by decide) ?_
      have e9 : cy X Y 1 = (cy X Y 0 + dg X 0 + dg Y 0) / 4294967296 := cy_s X Y 0
      rw [cy_0] at e9
      have hd0x := dg_in X 0
      have hd0y := dg_in Y 0
      have hci := cy_in X Y 1
      refine v_lload E 0 rfl dJ16_add_2_109 ?_
      refine v_bipush E ⟨by decide, by decide⟩ dJ16_add_2_111 ?_
      refine v_lushr E 32 (by decide) dJ16_add_2_113 ?_
      refine v_lconst E (x := 0) rfl dJ16_add_2_114 ?_
      refine v_lc_eq E (tgt := 123) dJ16_add_2_115 dJ16_add_2_116 (by decide) ⟨by omega, by omega⟩ ⟨by omega, by omega⟩ (fun c_115 => ?_) (fun c_115 => ?_)
      · refine v_iconst E dJ16_add_2_123 ?_
        refine v_istore E dJ16_add_2_124 (zlt hL rfl) (lv' := [(7, vi 0), (5, vj (dg X 0 + dg Y 0)), (2, vi ((n : Int) + (-1))), (4, .ref q), (3, vi (m : Int)), (1, .ref b), (0, .ref a)]) rfl ?_
        have loop_126 : ∀ (m_126 : Nat) (H : Heap) (k : Nat) (f : Nat → Int) (u c : Int), n - k < m_126 → (k ≤ n) → (m ≤ k) → (u = (n : Int) - (k : Int)) → (c = cy X Y k) → (∀ j, j < n → n - k ≤ j → f j = bM (X + Y) n j) → hp κ H a (eI κ n (bM X n)) → hp κ H q (eI κ n f) → V z H (2 - 1) ((2 * N + 1) - n) 126 [(7, vi c), (2, vi u), (4, .ref q), (0, .ref a)] [] := by
          intro m_126
          induction m_126 with
          | zero => intro H k f u c hm; exact absurd hm (by omega)
          | succ m_126 ih_126 =>
            intro H k f u c hm_126 hk hkm hu hc hf ha hq9
            have hdx := dg_in X k
            have hci := cy_in X Y k
            have hct := cy_top (X := X) ⟨by omega, hm.2.1⟩ hkm
            have hds := dg_in (X + Y) k
            refine v_iload_n E 1 rfl dJ16_add_2_126 ?_
            refine v_if_le E (tgt := 161) dJ16_add_2_127 (by decide) ⟨by omega, by omega⟩ (fun c_127 => ?_) (fun c_127 => ?_)
            · have loop_161 : ∀ (m_161 : Nat) (H : Heap) (k : Nat) (f : Nat → Int) (u c : Int), n - k < m_161 → (k ≤ n) → (m ≤ k) → (u = (n : Int) - (k : Int)) → (k < n → cy X Y k = 0) → (c = cy X Y k) → (∀ j, j < n → n - k ≤ j → f j = bM (X + Y) n j) → hp κ H a (eI κ n (bM X n)) → hp κ H q (eI κ n f) → V z H (2 - 1) ((2 * N + 1) - n) 161 [(7, vi c), (2, vi u), (4, .ref q), (0, .ref a)] [] := by
                intro m_161
                induction m_161 with
                | zero => intro H k f u c hm; exact absurd hm (by omega)
                | succ m_161 ih_161 =>
                  intro H k f u c hm_161 hk hkm hu hcz hc hf ha hq9
                  have hdx := dg_in X k
                  have hci := cy_in X Y k
                  have hct := cy_top (X := X) ⟨by omega, hm.2.1⟩ hkm
                  refine v_iload_n E 1 rfl dJ16_add_2_161 ?_
                  refine v_if_le E (tgt := 178) dJ16_add_2_162 (by decide) ⟨by omega, by omega⟩ (fun c_162 => ?_) (fun c_162 => ?_)
                  · obtain rfl : n = k := by omega
                    refine v_iload E 0 rfl dJ16_add_2_178 ?_
                    refine v_if_eq E (tgt := 212) dJ16_add_2_180 (by decide) ⟨by omega, by omega⟩ (fun c_180 => ?_) (fun c_180 => ?_)
                    · refine v_aload E 2 rfl dJ16_add_2_212 ?_
                      refine v_aret E hE rfl (Or.inr ⟨_, rfl⟩) dJ16_add_2_214 (Or.inr ⟨_, rfl⟩) ?_
                      exact ⟨_, _, rfl, eI.congr hq9 (fun j hj => congrArg iZ (hf j hj (by omega))), add_fin0 (by omega) (by omega) hn hm hmn (by omega), by omega⟩
                    · refine v_aload E 2 rfl dJ16_add_2_183 ?_
                      refine v_alen E dJ16_add_2_185 (t := 0) (ty := .int) hq9 rfl ?_
                      refine v_iconst E dJ16_add_2_186 ?_
                      refine v_iadd E dJ16_add_2_187 ?_
                      refine V.frame (fun hfz_fr_120 hfk_fr_120 => ?_)
                      rw [hH0] at hfz_fr_120 hfk_fr_120
                      rw [hA0] at hfk_fr_120
                      refine v_newI E (n := (n + 1)) q511 (by omega) (by omega) (cb' := ((2 - 1) - 1)) (sb' := (((2 * N + 1) - n) - (n + 1))) (by omega) (by omega) dJ16_add_2_188 (fun q2 H_121 hq_124 hn_122 hg_123 => ?_)
                      have hne_a_q2 : a ≠ q2 := by have := ha.lt; omega
                      have hne_q_q2 : q ≠ q2 := by have := hq9.lt; omega
                      have ha_127 := ha.grow hg_123
                      have hq9_128 := hq9.grow hg_123
                      refine v_astore E dJ16_add_2_190 (zlt hL rfl) (lv' := [(8, .ref q2), (7, vi c), (2, vi u), (4, .ref q), (0, .ref a)]) rfl ?_
                      refine v_aload E 3 rfl dJ16_add_2_192 ?_
                      refine v_iconst E dJ16_add_2_194 ?_
                      refine v_aload E 0 rfl dJ16_add_2_195 ?_
                      refine v_iconst E dJ16_add_2_197 ?_
                      refine v_aload E 3 rfl dJ16_add_2_198 ?_
                      refine v_alen E dJ16_add_2_200 (t := 0) (ty := .int) hq9_128 rfl ?_
                      refine v_copyI E (n0 := n) (n1 := (n + 1)) hq9_128 hn_122 q711 q184 q183 q78 (sp := 0) (dp := 1) (w := n) (by omega) (by omega) (by omega) (by omega) (hNew _ (by omega)) (by decide) (Nat.le_of_ble_eq_true rfl) (by omega) (by omega) (by omega) dJ16_add_2_201 (fun H_131 hv_129 hs_130 => ?_)
                      have ha_132 := ha_127.same hs_130 hne_a_q2
                      have hq9_133 := hq9_128.same hs_130 hne_q_q2
                      refine v_aload E 0 rfl dJ16_add_2_204 ?_
                      refine v_iconst E dJ16_add_2_206 ?_
                      refine v_iconst E dJ16_add_2_207 ?_
                      refine v_iast E dJ16_add_2_208 hv_129 0 rfl (by omega) (by omega) (hNew _ (by omega)) (fun H_136 hv_134 hs_135 => ?_)
                      have ha_137 := ha_132.same hs_135 hne_a_q2
                      have hq9_138 := hq9_133.same hs_135 hne_q_q2
                      refine v_aload E 0 rfl dJ16_add_2_209 ?_
                      refine v_aret E hE rfl (Or.inr ⟨_, rfl⟩) dJ16_add_2_211 (Or.inr ⟨_, rfl⟩) ?_
                      have h19 := add_fin1 (by omega) (by omega) hn hm hmn hs (by have := cy_in X Y n; omega)
                      exact ⟨_, _, rfl, eI.congr hv_134 (bg_fin hf h19.2), h19.1, by omega⟩
                  · refine v_aload E 2 rfl dJ16_add_2_165 ?_
                    refine v_iinc E 1 rfl dJ16_add_2_167 (zlt hL rfl) (lv' := [(2, vi (u + (-1))), (7, vi c), (4, .ref q), (0, .ref a)]) rfl ?_
                    refine v_iload_n E 0 rfl dJ16_add_2_170 ?_
                    refine v_aload_n E 3 rfl dJ16_add_2_171 ?_
                    refine v_iload_n E 0 rfl dJ16_add_2_172 ?_
                    refine v_iald E dJ16_add_2_173 ha (n - (k + 1)) (by omega) (by omega) (by omega) ?_
                    refine V.topi (x' := dg (X + Y) k) (by rw [bM_at (X := X) (n := n) (k := k) rfl (by omega), hct.2, hcz (by omega), Int.zero_add]; exact (iZ_mod _).symm) ?_
                    refine v_iast E dJ16_add_2_174 hq9 (n - (k + 1)) (by omega) (by omega) (by omega) (hNew _ (by omega)) (fun H_141 hq9_139 hs_140 => ?_)
                    have ha_142 := ha.same hs_140 hne_a_q
                    refine v_goto E (tgt := 161) dJ16_add_2_175 (by decide) ?_
                    refine V.sub [1, 0, 2, 3] (lv' := [(7, vi c), (2, vi (u + (-1))), (4, .ref q), (0, .ref a)]) rfl ?_
                    exact ih_161  H_141 (k + 1) _ _ _ (by omega) (by omega) (by omega) (by omega) (by intro h; omega) (by omega) (hi_s rfl (by omega) hf) ha_142 hq9_139
              exact loop_161 (n + 1) H k f _ _ (by omega) hk hkm hu (by intro h; omega) hc hf ha hq9
            · refine v_iload E 0 rfl dJ16_add_2_130 ?_
              refine v_if_eq E (tgt := 161) dJ16_add_2_132 (by decide) ⟨by omega, by omega⟩ (fun c_132 => ?_) (fun c_132 => ?_)
              · have loop_161 : ∀ (m_161 : Nat) (H : Heap) (k : Nat) (f : Nat → Int) (u c : Int), n - k < m_161 → (k ≤ n) → (m ≤ k) → (u = (n : Int) - (k : Int)) → (k < n → cy X Y k = 0) → (c = cy X Y k) → (∀ j, j < n → n - k ≤ j → f j = bM (X + Y) n j) → hp κ H a (eI κ n (bM X n)) → hp κ H q (eI κ n f) → V z H (2 - 1) ((2 * N + 1) - n) 161 [(7, vi c), (2, vi u), (4, .ref q), (0, .ref a)] [] := by
                  intro m_161
                  induction m_161 with
                  | zero => intro H k f u c hm; exact absurd hm (by omega)
                  | succ m_161 ih_161 =>
                    intro H k f u c hm_161 hk hkm hu hcz hc hf ha hq9
                    have hdx := dg_in X k
                    have hci := cy_in X Y k
                    have hct := cy_top (X := X) ⟨by omega, hm.2.1⟩ hkm
                    refine v_iload_n E 1 rfl dJ16_add_2_161 ?_
                    refine v_if_le E (tgt := 178) dJ16_add_2_162 (by decide) ⟨by omega, by omega⟩ (fun c_162 => ?_) (fun c_162 => ?_)
                    · obtain rfl : n = k := by omega
                      refine v_iload E 0 rfl dJ16_add_2_178 ?_
                      refine v_if_eq E (tgt := 212) dJ16_add_2_180 (by decide) ⟨by omega, by omega⟩ (fun c_180 => ?_) (fun c_180 => ?_)
                      · refine v_aload E 2 rfl dJ16_add_2_212 ?_
                        refine v_aret E hE rfl (Or.inr ⟨_, rfl⟩) dJ16_add_2_214 (Or.inr ⟨_, rfl⟩) ?_
                        exact ⟨_, _, rfl, eI.congr hq9 (fun j hj => congrArg iZ (hf j hj (by omega))), add_fin0 (by omega) (by omega) hn hm hmn (by omega), by omega⟩
                      · refine v_aload E 2 rfl dJ16_add_2_183 ?_
                        refine v_alen E dJ16_add_2_185 (t := 0) (ty := .int) hq9 rfl ?_
                        refine v_iconst E dJ16_add_2_186 ?_
                        refine v_iadd E dJ16_add_2_187 ?_
                        refine V.frame (fun hfz_fr_143 hfk_fr_143 => ?_)
                        rw [hH0] at hfz_fr_143 hfk_fr_143
                        rw [hA0] at hfk_fr_143
                        refine v_newI E (n := (n + 1)) q511 (by omega) (by omega) (cb' := ((2 - 1) - 1)) (sb' := (((2 * N + 1) - n) - (n + 1))) (by omega) (by omega) dJ16_add_2_188 (fun q2 H_144 hq_147 hn_145 hg_146 => ?_)
                        have hne_a_q2 : a ≠ q2 := by have := ha.lt; omega
                        have hne_q_q2 : q ≠ q2 := by have := hq9.lt; omega
                        have ha_150 := ha.grow hg_146
                        have hq9_151 := hq9.grow hg_146
                        refine v_astore E dJ16_add_2_190 (zlt hL rfl) (lv' := [(8, .ref q2), (7, vi c), (2, vi u), (4, .ref q), (0, .ref a)]) rfl ?_
                        refine v_aload E 3 rfl dJ16_add_2_192 ?_
                        refine v_iconst E dJ16_add_2_194 ?_
                        refine v_aload E 0 rfl dJ16_add_2_195 ?_
                        refine v_iconst E dJ16_add_2_197 ?_
                        refine v_aload E 3 rfl dJ16_add_2_198 ?_
                        refine v_alen E dJ16_add_2_200 (t := 0) (ty := .int) hq9_151 rfl ?_
                        refine v_copyI E (n0 := n) (n1 := (n + 1)) hq9_151 hn_145 q711 q184 q183 q78 (sp := 0) (dp := 1) (w := n) (by omega) (by omega) (by omega) (by omega) (hNew _ (by omega)) (by decide) (Nat.le_of_ble_eq_true rfl) (by omega) (by omega) (by omega) dJ16_add_2_201 (fun H_154 hv_152 hs_153 => ?_)
                        have ha_155 := ha_150.same hs_153 hne_a_q2
                        have hq9_156 := hq9_151.same hs_153 hne_q_q2
                        refine v_aload E 0 rfl dJ16_add_2_204 ?_
                        refine v_iconst E dJ16_add_2_206 ?_
                        refine v_iconst E dJ16_add_2_207 ?_
                        refine v_iast E dJ16_add_2_208 hv_152 0 rfl (by omega) (by omega) (hNew _ (by omega)) (fun H_159 hv_157 hs_158 => ?_)
                        have ha_160 := ha_155.same hs_158 hne_a_q2
                        have hq9_161 := hq9_156.same hs_158 hne_q_q2
                        refine v_aload E 0 rfl dJ16_add_2_209 ?_
                        refine v_aret E hE rfl (Or.inr ⟨_, rfl⟩) dJ16_add_2_211 (Or.inr ⟨_, rfl⟩) ?_
                        have h19 := add_fin1 (by omega) (by omega) hn hm hmn hs (by have := cy_in X Y n; omega)
                        exact ⟨_, _, rfl, eI.congr hv_157 (bg_fin hf h19.2), h19.1, by omega⟩
                    · refine v_aload E 2 rfl dJ16_add_2_165 ?_
                      refine v_iinc E 1 rfl dJ16_add_2_167 (zlt hL rfl) (lv' := [(2, vi (u + (-1))), (7, vi c), (4, .ref q), (0, .ref a)]) rfl ?_
                      refine v_iload_n E 0 rfl dJ16_add_2_170 ?_
                      refine v_aload_n E 3 rfl dJ16_add_2_171 ?_
                      refine v_iload_n E 0 rfl dJ16_add_2_172 ?_
                      refine v_iald E dJ16_add_2_173 ha (n - (k + 1)) (by omega) (by omega) (by omega) ?_
                      refine V.topi (x' := dg (X + Y) k) (by rw [bM_at (X := X) (n := n) (k := k) rfl (by omega), hct.2, hcz (by omega), Int.zero_add]; exact (iZ_mod _).symm) ?_
                      refine v_iast E dJ16_add_2_174 hq9 (n - (k + 1)) (by omega) (by omega) (by omega) (hNew _ (by omega)) (fun H_164 hq9_162 hs_163 => ?_)
                      have ha_165 := ha.same hs_163 hne_a_q
                      refine v_goto E (tgt := 161) dJ16_add_2_175 (by decide) ?_
                      refine V.sub [1, 0, 2, 3] (lv' := [(7, vi c), (2, vi (u + (-1))), (4, .ref q), (0, .ref a)]) rfl ?_
                      exact ih_161  H_164 (k + 1) _ _ _ (by omega) (by omega) (by omega) (by omega) (by intro h; omega) (by omega) (hi_s rfl (by omega) hf) ha_165 hq9_162
                exact loop_161 (n + 1) H k f _ _ (by omega) hk hkm hu (by intro h; omega) hc hf ha hq9
              · refine v_aload E 2 rfl dJ16_add_2_135 ?_
                refine v_iinc E 1 rfl dJ16_add_2_137 (zlt hL rfl) (lv' := [(2, vi (u + (-1))), (7, vi c), (4, .ref q), (0, .ref a)]) rfl ?_
                refine v_iload_n E 0 rfl dJ16_add_2_140 ?_
                refine v_aload_n E 3 rfl dJ16_add_2_141 ?_
                refine v_iload_n E 0 rfl dJ16_add_2_142 ?_
                refine v_iald E dJ16_add_2_143 ha (n - (k + 1)) (by omega) (by omega) (by omega) ?_
                refine v_iconst E dJ16_add_2_144 ?_
                refine v_iadd E dJ16_add_2_145 ?_
                refine V.topi (x' := dg (X + Y) k) (by rw [bM_at (X := X) (n := n) (k := k) rfl (by omega), hct.2]; exact iZ_cong (by omega)) ?_
                refine v_dup_x2 E rfl rfl rfl dJ16_add_2_146 ?_
                refine v_iast E dJ16_add_2_147 hq9 (n - (k + 1)) (by omega) (by omega) (by omega) (hNew _ (by omega)) (fun H_168 hq9_166 hs_167 => ?_)
                have ha_169 := ha.same hs_167 hne_a_q
                refine V.topi (x' := ((dg (X + Y) k) + 2147483648) % 4294967296 - 2147483648) (iZ_sg _) ?_
                refine v_if_ne E (tgt := 155) dJ16_add_2_148 (by decide) ⟨by omega, by omega⟩ (fun c_148 => ?_) (fun c_148 => ?_)
                · refine v_iconst E dJ16_add_2_155 ?_
                  refine v_istore E dJ16_add_2_156 (zlt hL rfl) (lv' := [(7, vi 0), (2, vi (u + (-1))), (4, .ref q), (0, .ref a)]) rfl ?_
                  refine v_goto E (tgt := 126) dJ16_add_2_158 (by decide) ?_
                  exact ih_126  H_168 (k + 1) _ _ _ (by omega) (by omega) (by omega) (by omega) (by omega) (hi_s rfl (by omega) hf) ha_169 hq9_166
                · refine v_iconst E dJ16_add_2_151 ?_
                  refine v_goto E (tgt := 156) dJ16_add_2_152 (by decide) ?_
                  refine v_istore E dJ16_add_2_156 (zlt hL rfl) (lv' := [(7, vi 1), (2, vi (u + (-1))), (4, .ref q), (0, .ref a)]) rfl ?_
                  refine v_goto E (tgt := 126) dJ16_add_2_158 (by decide) ?_
                  exact ih_126  H_168 (k + 1) _ _ _ (by omega) (by omega) (by omega) (by omega) (by omega) (hi_s rfl (by omega) hf) ha_169 hq9_166
        refine V.sub [0, 2, 3, 6] (lv' := [(7, vi 0), (2, vi ((n : Int) + (-1))), (4, .ref q), (0, .ref a)]) rfl ?_
        exact loop_126 (n + 1) H_117 1 (va_up (fun _ => 0) (n - (0 + 1)) (dg (X + Y) 0)) _ _ (by omega) (by omega) (by omega) (by omega) (by omega) (fun j h1 h2 => hf1 j h1 h2) ha_118 hn_115
      · refine v_iconst E dJ16_add_2_119 ?_
        refine v_goto E (tgt := 124) dJ16_add_2_120 (by decide) ?_
        refine v_istore E dJ16_add_2_124 (zlt hL rfl) (lv' := [(7, vi 1), (5, vj (dg X 0 + dg Y 0)), (2, vi ((n : Int) + (-1))), (4, .ref q), (3, vi (m : Int)), (1, .ref b), (0, .ref a)]) rfl ?_
        have loop_126 : ∀ (m_126 : Nat) (H : Heap) (k : Nat) (f : Nat → Int) (u c : Int), n - k < m_126 → (k ≤ n) → (m ≤ k) → (u = (n : Int) - (k : Int)) → (c = cy X Y k) → (∀ j, j < n → n - k ≤ j → f j = bM (X + Y) n j) → hp κ H a (eI κ n (bM X n)) → hp κ H q (eI κ n f) → V z H (2 - 1) ((2 * N + 1) - n) 126 [(7, vi c), (2, vi u), (4, .ref q), (0, .ref a)] [] := by
          intro m_126
          induction m_126 with
          | zero => intro H k f u c hm; exact absurd hm (by omega)
          | succ m_126 ih_126 =>
            intro H k f u c hm_126 hk hkm hu hc hf ha hq9
            have hdx := dg_in X k
            have hci := cy_in X Y k
            have hct := cy_top (X := X) ⟨by omega, hm.2.1⟩ hkm
            have hds := dg_in (X + Y) k
            refine v_iload_n E 1 rfl dJ16_add_2_126 ?_
            refine v_if_le E (tgt := 161) dJ16_add_2_127 (by decide) ⟨by omega, by omega⟩ (fun c_127 => ?_) (fun c_127 => ?_)
            · have loop_161 : ∀ (m_161 : Nat) (H : Heap) (k : Nat) (f : Nat → Int) (u c : Int), n - k < m_161 → (k ≤ n) → (m ≤ k) → (u = (n : Int) - (k : Int)) → (k < n → cy X Y k = 0) → (c = cy X Y k) → (∀ j, j < n → n - k ≤ j → f j = bM (X + Y) n j) → hp κ H a (eI κ n (bM X n)) → hp κ H q (eI κ n f) → V z H (2 - 1) ((2 * N + 1) - n) 161 [(7, vi c), (2, vi u), (4, .ref q), (0, .ref a)] [] := by
                intro m_161
                induction m_161 with
                | zero => intro H k f u c hm; exact absurd hm (by omega)
                | succ m_161 ih_161 =>
                  intro H k f u c hm_161 hk hkm hu hcz hc hf ha hq9
                  have hdx := dg_in X k
                  have hci := cy_in X Y k
                  have hct := cy_top (X := X) ⟨by omega, hm.2.1⟩ hkm
                  refine v_iload_n E 1 rfl dJ16_add_2_161 ?_
                  refine v_if_le E (tgt := 178) dJ16_add_2_162 (by decide) ⟨by omega, by omega⟩ (fun c_162 => ?_) (fun c_162 => ?_)
                  · obtain rfl : n = k := by omega
                    refine v_iload E 0 rfl dJ16_add_2_178 ?_
                    refine v_if_eq E (tgt := 212) dJ16_add_2_180 (by decide) ⟨by omega, by omega⟩ (fun c_180 => ?_) (fun c_180 => ?_)
                    · refine v_aload E 2 rfl dJ16_add_2_212 ?_
                      refine v_aret E hE rfl (Or.inr ⟨_, rfl⟩) dJ16_add_2_214 (Or.inr ⟨_, rfl⟩) ?_
                      exact ⟨_, _, rfl, eI.congr hq9 (fun j hj => congrArg iZ (hf j hj (by omega))), add_fin0 (by omega) (by omega) hn hm hmn (by omega), by omega⟩
                    · refine v_aload E 2 rfl dJ16_add_2_183 ?_
                      refine v_alen E dJ16_add_2_185 (t := 0) (ty := .int) hq9 rfl ?_
                      refine v_iconst E dJ16_add_2_186 ?_
                      refine v_iadd E dJ16_add_2_187 ?_
                      refine V.frame (fun hfz_fr_170 hfk_fr_170 => ?_)
                      rw [hH0] at hfz_fr_170 hfk_fr_170
                      rw [hA0] at hfk_fr_170
                      refine v_newI E (n := (n + 1)) q511 (by omega) (by omega) (cb' := ((2 - 1) - 1)) (sb' := (((2 * N + 1) - n) - (n + 1))) (by omega) (by omega) dJ16_add_2_188 (fun q2 H_171 hq_174 hn_172 hg_173 => ?_)
                      have hne_a_q2 : a ≠ q2 := by have := ha.lt; omega
                      have hne_q_q2 : q ≠ q2 := by have := hq9.lt; omega
                      have ha_177 := ha.grow hg_173
                      have hq9_178 := hq9.grow hg_173
                      refine v_astore E dJ16_add_2_190 (zlt hL rfl) (lv' := [(8, .ref q2), (7, vi c), (2, vi u), (4, .ref q), (0, .ref a)]) rfl ?_
                      refine v_aload E 3 rfl dJ16_add_2_192 ?_
                      refine v_iconst E dJ16_add_2_194 ?_
                      refine v_aload E 0 rfl dJ16_add_2_195 ?_
                      refine v_iconst E dJ16_add_2_197 ?_
                      refine v_aload E 3 rfl dJ16_add_2_198 ?_
                      refine v_alen E dJ16_add_2_200 (t := 0) (ty := .int) hq9_178 rfl ?_
                      refine v_copyI E (n0 := n) (n1 := (n + 1)) hq9_178 hn_172 q711 q184 q183 q78 (sp := 0) (dp := 1) (w := n) (by omega) (by omega) (by omega) (by omega) (hNew _ (by omega)) (by decide) (Nat.le_of_ble_eq_true rfl) (by omega) (by omega) (by omega) dJ16_add_2_201 (fun H_181 hv_179 hs_180 => ?_)
                      have ha_182 := ha_177.same hs_180 hne_a_q2
                      have hq9_183 := hq9_178.same hs_180 hne_q_q2
                      refine v_aload E 0 rfl dJ16_add_2_204 ?_
                      refine v_iconst E dJ16_add_2_206 ?_
                      refine v_iconst E dJ16_add_2_207 ?_
                      refine v_iast E dJ16_add_2_208 hv_179 0 rfl (by omega) (by omega) (hNew _ (by omega)) (fun H_186 hv_184 hs_185 => ?_)
                      have ha_187 := ha_182.same hs_185 hne_a_q2
                      have hq9_188 := hq9_183.same hs_185 hne_q_q2
                      refine v_aload E 0 rfl dJ16_add_2_209 ?_
                      refine v_aret E hE rfl (Or.inr ⟨_, rfl⟩) dJ16_add_2_211 (Or.inr ⟨_, rfl⟩) ?_
                      have h19 := add_fin1 (by omega) (by omega) hn hm hmn hs (by have := cy_in X Y n; omega)
                      exact ⟨_, _, rfl, eI.congr hv_184 (bg_fin hf h19.2), h19.1, by omega⟩
                  · refine v_aload E 2 rfl dJ16_add_2_165 ?_
                    refine v_iinc E 1 rfl dJ16_add_2_167 (zlt hL rfl) (lv' := [(2, vi (u + (-1))), (7, vi c), (4, .ref q), (0, .ref a)]) rfl ?_
                    refine v_iload_n E 0 rfl dJ16_add_2_170 ?_
                    refine v_aload_n E 3 rfl dJ16_add_2_171 ?_
                    refine v_iload_n E 0 rfl dJ16_add_2_172 ?_
                    refine v_iald E dJ16_add_2_173 ha (n - (k + 1)) (by omega) (by omega) (by omega) ?_
                    refine V.topi (x' := dg (X + Y) k) (by rw [bM_at (X := X) (n := n) (k := k) rfl (by omega), hct.2, hcz (by omega), Int.zero_add]; exact (iZ_mod _).symm) ?_
                    refine v_iast E dJ16_add_2_174 hq9 (n - (k + 1)) (by omega) (by omega) (by omega) (hNew _ (by omega)) (fun H_191 hq9_189 hs_190 => ?_)
                    have ha_192 := ha.same hs_190 hne_a_q
                    refine v_goto E (tgt := 161) dJ16_add_2_175 (by decide) ?_
                    refine V.sub [1, 0, 2, 3] (lv' := [(7, vi c), (2, vi (u + (-1))), (4, .ref q), (0, .ref a)]) rfl ?_
                    exact ih_161  H_191 (k + 1) _ _ _ (by omega) (by omega) (by omega) (by omega) (by intro h; omega) (by omega) (hi_s rfl (by omega) hf) ha_192 hq9_189
              exact loop_161 (n + 1) H k f _ _ (by omega) hk hkm hu (by intro h; omega) hc hf ha hq9
            · refine v_iload E 0 rfl dJ16_add_2_130 ?_
              refine v_if_eq E (tgt := 161) dJ16_add_2_132 (by decide) ⟨by omega, by omega⟩ (fun c_132 => ?_) (fun c_132 => ?_)
              · have loop_161 : ∀ (m_161 : Nat) (H : Heap) (k : Nat) (f : Nat → Int) (u c : Int), n - k < m_161 → (k ≤ n) → (m ≤ k) → (u = (n : Int) - (k : Int)) → (k < n → cy X Y k = 0) → (c = cy X Y k) → (∀ j, j < n → n - k ≤ j → f j = bM (X + Y) n j) → hp κ H a (eI κ n (bM X n)) → hp κ H q (eI κ n f) → V z H (2 - 1) ((2 * N + 1) - n) 161 [(7, vi c), (2, vi u), (4, .ref q), (0, .ref a)] [] := by
                  intro m_161
                  induction m_161 with
                  | zero => intro H k f u c hm; exact absurd hm (by omega)
                  | succ m_161 ih_161 =>
                    intro H k f u c hm_161 hk hkm hu hcz hc hf ha hq9
                    have hdx := dg_in X k
                    have hci := cy_in X Y k
                    have hct := cy_top (X := X) ⟨by omega, hm.2.1⟩ hkm
                    refine v_iload_n E 1 rfl dJ16_add_2_161 ?_
                    refine v_if_le E (tgt := 178) dJ16_add_2_162 (by decide) ⟨by omega, by omega⟩ (fun c_162 => ?_) (fun c_162 => ?_)
                    · obtain rfl : n = k := by omega
                      refine v_iload E 0 rfl dJ16_add_2_178 ?_
                      refine v_if_eq E (tgt := 212) dJ16_add_2_180 (by decide) ⟨by omega, by omega⟩ (fun c_180 => ?_) (fun c_180 => ?_)
                      · refine v_aload E 2 rfl dJ16_add_2_212 ?_
                        refine v_aret E hE rfl (Or.inr ⟨_, rfl⟩) dJ16_add_2_214 (Or.inr ⟨_, rfl⟩) ?_
                        exact ⟨_, _, rfl, eI.congr hq9 (fun j hj => congrArg iZ (hf j hj (by omega))), add_fin0 (by omega) (by omega) hn hm hmn (by omega), by omega⟩
                      · refine v_aload E 2 rfl dJ16_add_2_183 ?_
                        refine v_alen E dJ16_add_2_185 (t := 0) (ty := .int) hq9 rfl ?_
                        refine v_iconst E dJ16_add_2_186 ?_
                        refine v_iadd E dJ16_add_2_187 ?_
                        refine V.frame (fun hfz_fr_193 hfk_fr_193 => ?_)
                        rw [hH0] at hfz_fr_193 hfk_fr_193
                        rw [hA0] at hfk_fr_193
                        refine v_newI E (n := (n + 1)) q511 (by omega) (by omega) (cb' := ((2 - 1) - 1)) (sb' := (((2 * N + 1) - n) - (n + 1))) (by omega) (by omega) dJ16_add_2_188 (fun q2 H_194 hq_197 hn_195 hg_196 => ?_)
                        have hne_a_q2 : a ≠ q2 := by have := ha.lt; omega
                        have hne_q_q2 : q ≠ q2 := by have := hq9.lt; omega
                        have ha_200 := ha.grow hg_196
                        have hq9_201 := hq9.grow hg_196
                        refine v_astore E dJ16_add_2_190 (zlt hL rfl) (lv' := [(8, .ref q2), (7, vi c), (2, vi u), (4, .ref q), (0, .ref a)]) rfl ?_
                        refine v_aload E 3 rfl dJ16_add_2_192 ?_
                        refine v_iconst E dJ16_add_2_194 ?_
                        refine v_aload E 0 rfl dJ16_add_2_195 ?_
                        refine v_iconst E dJ16_add_2_197 ?_
                        refine v_aload E 3 rfl dJ16_add_2_198 ?_
                        refine v_alen E dJ16_add_2_200 (t := 0) (ty := .int) hq9_201 rfl ?_
                        refine v_copyI E (n0 := n) (n1 := (n + 1)) hq9_201 hn_195 q711 q184 q183 q78 (sp := 0) (dp := 1) (w := n) (by omega) (by omega) (by omega) (by omega) (hNew _ (by omega)) (by decide) (Nat.le_of_ble_eq_true rfl) (by omega) (by omega) (by omega) dJ16_add_2_201 (fun H_204 hv_202 hs_203 => ?_)
                        have ha_205 := ha_200.same hs_203 hne_a_q2
                        have hq9_206 := hq9_201.same hs_203 hne_q_q2
                        refine v_aload E 0 rfl dJ16_add_2_204 ?_
                        refine v_iconst E dJ16_add_2_206 ?_
                        refine v_iconst E dJ16_add_2_207 ?_
                        refine v_iast E dJ16_add_2_208 hv_202 0 rfl (by omega) (by omega) (hNew _ (by omega)) (fun H_209 hv_207 hs_208 => ?_)
                        have ha_210 := ha_205.same hs_208 hne_a_q2
                        have hq9_211 := hq9_206.same hs_208 hne_q_q2
                        refine v_aload E 0 rfl dJ16_add_2_209 ?_
                        refine v_aret E hE rfl (Or.inr ⟨_, rfl⟩) dJ16_add_2_211 (Or.inr ⟨_, rfl⟩) ?_
                        have h19 := add_fin1 (by omega) (by omega) hn hm hmn hs (by have := cy_in X Y n; omega)
                        exact ⟨_, _, rfl, eI.congr hv_207 (bg_fin hf h19.2), h19.1, by omega⟩
                    · refine v_aload E 2 rfl dJ16_add_2_165 ?_
                      refine v_iinc E 1 rfl dJ16_add_2_167 (zlt hL rfl) (lv' := [(2, vi (u + (-1))), (7, vi c), (4, .ref q), (0, .ref a)]) rfl ?_
                      refine v_iload_n E 0 rfl dJ16_add_2_170 ?_
                      refine v_aload_n E 3 rfl dJ16_add_2_171 ?_
                      refine v_iload_n E 0 rfl dJ16_add_2_172 ?_
                      refine v_iald E dJ16_add_2_173 ha (n - (k + 1)) (by omega) (by omega) (by omega) ?_
                      refine V.topi (x' := dg (X + Y) k) (by rw [bM_at (X := X) (n := n) (k := k) rfl (by omega), hct.2, hcz (by omega), Int.zero_add]; exact (iZ_mod _).symm) ?_
                      refine v_iast E dJ16_add_2_174 hq9 (n - (k + 1)) (by omega) (by omega) (by omega) (hNew _ (by omega)) (fun H_214 hq9_212 hs_213 => ?_)
                      have ha_215 := ha.same hs_213 hne_a_q
                      refine v_goto E (tgt := 161) dJ16_add_2_175 (by decide) ?_
                      refine V.sub [1, 0, 2, 3] (lv' := [(7, vi c), (2, vi (u + (-1))), (4, .ref q), (0, .ref a)]) rfl ?_
                      exact ih_161  H_214 (k + 1) _ _ _ (by omega) (by omega) (by omega) (by omega) (by intro h; omega) (by omega) (hi_s rfl (by omega) hf) ha_215 hq9_212
                exact loop_161 (n + 1) H k f _ _ (by omega) hk hkm hu (by intro h; omega) hc hf ha hq9
              · refine v_aload E 2 rfl dJ16_add_2_135 ?_
                refine v_iinc E 1 rfl dJ16_add_2_137 (zlt hL rfl) (lv' := [(2, vi (u + (-1))), (7, vi c), (4, .ref q), (0, .ref a)]) rfl ?_
                refine v_iload_n E 0 rfl dJ16_add_2_140 ?_
                refine v_aload_n E 3 rfl dJ16_add_2_141 ?_
                refine v_iload_n E 0 rfl dJ16_add_2_142 ?_
                refine v_iald E dJ16_add_2_143 ha (n - (k + 1)) (by omega) (by omega) (by omega) ?_
                refine v_iconst E dJ16_add_2_144 ?_
                refine v_iadd E dJ16_add_2_145 ?_
                refine V.topi (x' := dg (X + Y) k) (by rw [bM_at (X := X) (n := n) (k := k) rfl (by omega), hct.2]; exact iZ_cong (by omega)) ?_
                refine v_dup_x2 E rfl rfl rfl dJ16_add_2_146 ?_
                refine v_iast E dJ16_add_2_147 hq9 (n - (k + 1)) (by omega) (by omega) (by omega) (hNew _ (by omega)) (fun H_218 hq9_216 hs_217 => ?_)
                have ha_219 := ha.same hs_217 hne_a_q
                refine V.topi (x' := ((dg (X + Y) k) + 2147483648) % 4294967296 - 2147483648) (iZ_sg _) ?_
                refine v_if_ne E (tgt := 155) dJ16_add_2_148 (by decide) ⟨by omega, by omega⟩ (fun c_148 => ?_) (fun c_148 => ?_)
                · refine v_iconst E dJ16_add_2_155 ?_
                  refine v_istore E dJ16_add_2_156 (zlt hL rfl) (lv' := [(7, vi 0), (2, vi (u + (-1))), (4, .ref q), (0, .ref a)]) rfl ?_
                  refine v_goto E (tgt := 126) dJ16_add_2_158 (by decide) ?_
                  exact ih_126  H_218 (k + 1) _ _ _ (by omega) (by omega) (by omega) (by omega) (by omega) (hi_s rfl (by omega) hf) ha_219 hq9_216
                · refine v_iconst E dJ16_add_2_151 ?_
                  refine v_goto E (tgt := 156) dJ16_add_2_152 (by decide) ?_
                  refine v_istore E dJ16_add_2_156 (zlt hL rfl) (lv' := [(7, vi 1), (2, vi (u + (-1))), (4, .ref q), (0, .ref a)]) rfl ?_
                  refine v_goto E (tgt := 126) dJ16_add_2_158 (by decide) ?_
                  exact ih_126  H_218 (k + 1) _ _ _ (by omega) (by omega) (by omega) (by omega) (by omega) (hi_s rfl (by omega) hf) ha_219 hq9_216
        refine V.sub [0, 2, 3, 6] (lv' := [(7, vi 1), (2, vi ((n : Int) + (-1))), (4, .ref q), (0, .ref a)]) rfl ?_
        exact loop_126 (n + 1) H_117 1 (va_up (fun _ => 0) (n - (0 + 1)) (dg (X + Y) 0)) _ _ (by omega) (by omega) (by omega) (by omega) (by omega) (fun j h1 h2 => hf1 j h1 h2) ha_118 hn_115
  refine v_aload_n E 0 rfl dJ16_add_2_0 ?_
  refine v_alen E dJ16_add_2_1 (t := 0) (ty := .int) ha rfl ?_
  refine v_aload_n E 1 rfl dJ16_add_2_2 ?_
  refine v_alen E dJ16_add_2_3 (t := 0) (ty := .int) hb rfl ?_
  refine v_icmp_ge E (tgt := 13) dJ16_add_2_4 (by decide) ⟨by omega, by omega⟩ ⟨by omega, by omega⟩ (fun c_4 => ?_) (fun c_4 => ?_)
  · refine V.sub [1, 0] (lv' := [(1, .ref b), (0, .ref a)]) rfl ?_
    exact join_13 H0 a b n m X Y hX0 hY0 hn hm (by omega) hnN hs hZ ha hb
  · refine v_aload_n E 0 rfl dJ16_add_2_7 ?_
    refine v_astore_n E dJ16_add_2_8 (zlt hL rfl) (lv' := [(2, .ref a), (0, .ref a), (1, .ref b)]) rfl ?_
    refine v_aload_n E 2 rfl dJ16_add_2_9 ?_
    refine v_astore_n E dJ16_add_2_10 (zlt hL rfl) (lv' := [(0, .ref b), (2, .ref a), (1, .ref b)]) rfl ?_
    refine v_aload_n E 1 rfl dJ16_add_2_11 ?_
    refine v_astore_n E dJ16_add_2_12 (zlt hL rfl) (lv' := [(1, .ref a), (0, .ref b), (2, .ref a)]) rfl ?_
    refine V.sub [0, 1] (lv' := [(1, .ref a), (0, .ref b)]) rfl ?_
    exact join_13 H0 b a m n Y X hY0 hX0 hm hn (by omega) hmN (by rw [Int.add_comm]; exact hs) (by omega) hb ha

set_option maxHeartbeats 1000000 in
set_option maxRecDepth 100000 in
/-- a difference of arrays -/
theorem g_subA (κ : zK) (H0 : Heap) {a b n m : Nat} {X Y : Int} (hY0 : 0 < Y) (hYX : Y < X) (hn : isInts X n) (hm : isInts Y m) (hmn : m ≤ n) (ha : hp κ H0 a (eI κ n (bM X n))) (hb : hp κ H0 b (eI κ m (bM Y m))) : Mt κ yJ16_subtract cJ16_subtract 8 (some (.array .int)) 0 0 1 n H0 [.ref a, .ref b] (fun _ => False) (fun v H1 => ∃ q : Nat, v = some (.ref q) ∧ hp κ H1 q (eI κ n (bM (X - Y) n)) ∧ H0.size ≤ q) := by
  refine Mt.of (by decide) (Nat.le_of_ble_eq_true rfl) ?_
  intro z E hE hH0 hA0 hL hini
  have hAll : ∀ q, (fun _ => False) q → zA z.A z.H0 q := fun q h => Or.inl (by rw [hA0]; exact h)
  have hNew : ∀ q, H0.size ≤ q → zA z.A z.H0 q := fun q h => Or.inr (by rw [hH0]; exact h)
  have E : zOK z cJ16_subtract RJ16 κ 0 0 (some (.array .int)) := E
  refine V.eqL (lv' := [(0, .ref a), (1, .ref b)]) rfl ?_
  have h48n := hn.1
  have h48m := hm.1
  refine v_aload_n E 0 rfl dJ16_subtract_0 ?_
  refine v_alen E dJ16_subtract_1 (t := 0) (ty := .int) ha rfl ?_
  refine v_istore_n E dJ16_subtract_2 (zlt hL rfl) (lv' := [(2, vi (n : Int)), (0, .ref a), (1, .ref b)]) rfl ?_
  refine v_iload_n E 0 rfl dJ16_subtract_3 ?_
  refine V.frame (fun hfz_fr_1 hfk_fr_1 => ?_)
  rw [hH0] at hfz_fr_1 hfk_fr_1
  rw [hA0] at hfk_fr_1
  refine v_newI E (n := n) q511 (by omega) rfl (cb' := (1 - 1)) (sb' := (n - n)) (by omega) (by omega) dJ16_subtract_4 (fun q H_2 hq_5 hn_3 hg_4 => ?_)
  have hne_a_q : a ≠ q := by have := ha.lt; omega
  have hne_b_q : b ≠ q := by have := hb.lt; omega
  have ha_8 := ha.grow hg_4
  have hb_9 := hb.grow hg_4
  refine v_astore_n E dJ16_subtract_6 (zlt hL rfl) (lv' := [(3, .ref q), (2, vi (n : Int)), (0, .ref a), (1, .ref b)]) rfl ?_
  refine v_aload_n E 3 rfl dJ16_subtract_7 ?_
  refine v_alen E dJ16_subtract_8 (t := 0) (ty := .int) hb_9 rfl ?_
  refine v_istore E dJ16_subtract_9 (zlt hL rfl) (lv' := [(4, vi (m : Int)), (3, .ref q), (2, vi (n : Int)), (0, .ref a), (1, .ref b)]) rfl ?_
  refine v_lconst E (x := 0) rfl dJ16_subtract_11 ?_
  refine v_lstore E dJ16_subtract_12 (zlt hL rfl) (lv' := [(5, vj 0), (4, vi (m : Int)), (3, .ref q), (2, vi (n : Int)), (0, .ref a), (1, .ref b)]) rfl ?_
  have loop_14 : ∀ (m_14 : Nat) (H : Heap) (k : Nat) (f : Nat → Int) (u v t : Int), m - k < m_14 → (k ≤ m) → (u = (n : Int) - (k : Int)) → (v = (m : Int) - (k : Int)) → (t / 4294967296 = bw X Y k ∧ -18446744073709551616 ≤ t ∧ t < 8589934592) → (∀ j, j < n → n - k ≤ j → f j = bM (X - Y) n j) → hp κ H a (eI κ n (bM X n)) → hp κ H b (eI κ m (bM Y m)) → hp κ H q (eI κ n f) → V z H 0 0 14 [(5, vj t), (4, vi v), (2, vi u), (3, .ref q), (1, .ref b), (0, .ref a)] [] := by
    intro m_14
    induction m_14 with
    | zero => intro H k f u v t hm; exact absurd hm (by omega)
    | succ m_14 ih_14 =>
      intro H k f u v t hm_14 hk hu hv ht hf ha hb hq9
      have hdx := dg_in X k
      have hci := bw_in X Y k
      have hdy := dg_in Y k
      refine v_iload E 1 rfl dJ16_subtract_14 ?_
      refine v_if_le E (tgt := 60) dJ16_subtract_16 (by decide) ⟨by omega, by omega⟩ (fun c_16 => ?_) (fun c_16 => ?_)
      · obtain rfl : m = k := by omega
        refine v_lload E 0 rfl dJ16_subtract_60 ?_
        refine v_bipush E ⟨by decide, by decide⟩ dJ16_subtract_62 ?_
        refine v_lshr E ⟨by omega, by omega⟩ 32 (by decide) dJ16_subtract_64 ?_
        refine v_lconst E (x := 0) rfl dJ16_subtract_65 ?_
        refine v_lc_eq E (tgt := 74) dJ16_subtract_66 dJ16_subtract_67 (by decide) ⟨by omega, by omega⟩ ⟨by omega, by omega⟩ (fun c_66 => ?_) (fun c_66 => ?_)
        · refine v_iconst E dJ16_subtract_74 ?_
          refine v_istore E dJ16_subtract_75 (zlt hL rfl) (lv' := [(7, vi 0), (5, vj t), (4, vi v), (2, vi u), (3, .ref q), (1, .ref b), (0, .ref a)]) rfl ?_
          have loop_77 : ∀ (m_77 : Nat) (H : Heap) (k : Nat) (f : Nat → Int) (u c : Int), n - k < m_77 → (k ≤ n) → (m ≤ k) → (u = (n : Int) - (k : Int)) → (c = - bw X Y k) → (∀ j, j < n → n - k ≤ j → f j = bM (X - Y) n j) → hp κ H a (eI κ n (bM X n)) → hp κ H q (eI κ n f) → V z H 0 0 77 [(7, vi c), (2, vi u), (3, .ref q), (0, .ref a)] [] := by
            intro m_77
            induction m_77 with
            | zero => intro H k f u c hm; exact absurd hm (by omega)
            | succ m_77 ih_77 =>
              intro H k f u c hm_77 hk hkm hu hc hf ha hq9
              have hdx := dg_in X k
              have hci := bw_in X Y k
              have hct := bw_top (X := X) ⟨by omega, hm.2.1⟩ hkm
              have hds := dg_in (X - Y) k
              refine v_iload_n E 1 rfl dJ16_subtract_77 ?_
              refine v_if_le E (tgt := 112) dJ16_subtract_78 (by decide) ⟨by omega, by omega⟩ (fun c_78 => ?_) (fun c_78 => ?_)
              · have loop_112 : ∀ (m_112 : Nat) (H : Heap) (k : Nat) (f : Nat → Int) (u : Int), n - k < m_112 → (k ≤ n) → (m ≤ k) → (u = (n : Int) - (k : Int)) → (k < n → bw X Y k = 0) → (∀ j, j < n → n - k ≤ j → f j = bM (X - Y) n j) → hp κ H a (eI κ n (bM X n)) → hp κ H q (eI κ n f) → V z H 0 0 112 [(2, vi u), (3, .ref q), (0, .ref a)] [] := by
                  intro m_112
                  induction m_112 with
                  | zero => intro H k f u hm; exact absurd hm (by omega)
                  | succ m_112 ih_112 =>
                    intro H k f u hm_112 hk hkm hu hcz hf ha hq9
                    have hdx := dg_in X k
                    have hci := bw_in X Y k
                    have hct := bw_top (X := X) ⟨by omega, hm.2.1⟩ hkm
                    refine v_iload_n E 0 rfl dJ16_subtract_112 ?_
                    refine v_if_le E (tgt := 128) dJ16_subtract_113 (by decide) ⟨by omega, by omega⟩ (fun c_113 => ?_) (fun c_113 => ?_)
                    · obtain rfl : n = k := by omega
                      refine v_aload_n E 1 rfl dJ16_subtract_128 ?_
                      refine v_aret E hE rfl (Or.inr ⟨_, rfl⟩) dJ16_subtract_129 (Or.inr ⟨_, rfl⟩) ?_
                      exact ⟨_, rfl, eI.congr hq9 (fun j hj => congrArg iZ (hf j hj (by omega))), by omega⟩
                    · refine v_aload_n E 1 rfl dJ16_subtract_116 ?_
                      refine v_iinc E 0 rfl dJ16_subtract_117 (zlt hL rfl) (lv' := [(2, vi (u + (-1))), (3, .ref q), (0, .ref a)]) rfl ?_
                      refine v_iload_n E 0 rfl dJ16_subtract_120 ?_
                      refine v_aload_n E 2 rfl dJ16_subtract_121 ?_
                      refine v_iload_n E 0 rfl dJ16_subtract_122 ?_
                      refine v_iald E dJ16_subtract_123 ha (n - (k + 1)) (by omega) (by omega) (by omega) ?_
                      refine V.topi (x' := dg (X - Y) k) (by rw [bM_at (X := X) (n := n) (k := k) rfl (by omega), hct.2, hcz (by omega), Int.zero_add]; exact (iZ_mod _).symm) ?_
                      refine v_iast E dJ16_subtract_124 hq9 (n - (k + 1)) (by omega) (by omega) (by omega) (hNew _ (by omega)) (fun H_12 hq9_10 hs_11 => ?_)
                      have ha_13 := ha.same hs_11 hne_a_q
                      refine v_goto E (tgt := 112) dJ16_subtract_125 (by decide) ?_
                      exact ih_112  H_12 (k + 1) _ _ (by omega) (by omega) (by omega) (by omega) (by intro h; omega) (hi_s rfl (by omega) hf) ha_13 hq9_10
                refine V.sub [1, 2, 3] (lv' := [(2, vi u), (3, .ref q), (0, .ref a)]) rfl ?_
                exact loop_112 (n + 1) H k f _ (by omega) hk hkm hu (by intro h; omega) hf ha hq9
              · refine v_iload E 0 rfl dJ16_subtract_81 ?_
                refine v_if_eq E (tgt := 112) dJ16_subtract_83 (by decide) ⟨by omega, by omega⟩ (fun c_83 => ?_) (fun c_83 => ?_)
                · have loop_112 : ∀ (m_112 : Nat) (H : Heap) (k : Nat) (f : Nat → Int) (u : Int), n - k < m_112 → (k ≤ n) → (m ≤ k) → (u = (n : Int) - (k : Int)) → (k < n → bw X Y k = 0) → (∀ j, j < n → n - k ≤ j → f j = bM (X - Y) n j) → hp κ H a (eI κ n (bM X n)) → hp κ H q (eI κ n f) → V z H 0 0 112 [(2, vi u), (3, .ref q), (0, .ref a)] [] := by
                    intro m_112
                    induction m_112 with
                    | zero => intro H k f u hm; exact absurd hm (by omega)
                    | succ m_112 ih_112 =>
                      intro H k f u hm_112 hk hkm hu hcz hf ha hq9
                      have hdx := dg_in X k
                      have hci := bw_in X Y k
                      have hct := bw_top (X := X) ⟨by omega, hm.2.1⟩ hkm
                      refine v_iload_n E 0 rfl dJ16_subtract_112 ?_
                      refine v_if_le E (tgt := 128) dJ16_subtract_113 (by decide) ⟨by omega, by omega⟩ (fun c_113 => ?_) (fun c_113 => ?_)
                      · obtain rfl : n = k := by omega
                        refine v_aload_n E 1 rfl dJ16_subtract_128 ?_
                        refine v_aret E hE rfl (Or.inr ⟨_, rfl⟩) dJ16_subtract_129 (Or.inr ⟨_, rfl⟩) ?_
                        exact ⟨_, rfl, eI.congr hq9 (fun j hj => congrArg iZ (hf j hj (by omega))), by omega⟩
                      · refine v_aload_n E 1 rfl dJ16_subtract_116 ?_
                        refine v_iinc E 0 rfl dJ16_subtract_117 (zlt hL rfl) (lv' := [(2, vi (u + (-1))), (3, .ref q), (0, .ref a)]) rfl ?_
                        refine v_iload_n E 0 rfl dJ16_subtract_120 ?_
                        refine v_aload_n E 2 rfl dJ16_subtract_121 ?_
                        refine v_iload_n E 0 rfl dJ16_subtract_122 ?_
                        refine v_iald E dJ16_subtract_123 ha (n - (k + 1)) (by omega) (by omega) (by omega) ?_
                        refine V.topi (x' := dg (X - Y) k) (by rw [bM_at (X := X) (n := n) (k := k) rfl (by omega), hct.2, hcz (by omega), Int.zero_add]; exact (iZ_mod _).symm) ?_
                        refine v_iast E dJ16_subtract_124 hq9 (n - (k + 1)) (by omega) (by omega) (by omega) (hNew _ (by omega)) (fun H_16 hq9_14 hs_15 => ?_)
                        have ha_17 := ha.same hs_15 hne_a_q
                        refine v_goto E (tgt := 112) dJ16_subtract_125 (by decide) ?_
                        exact ih_112  H_16 (k + 1) _ _ (by omega) (by omega) (by omega) (by omega) (by intro h; omega) (hi_s rfl (by omega) hf) ha_17 hq9_14
                  refine V.sub [1, 2, 3] (lv' := [(2, vi u), (3, .ref q), (0, .ref a)]) rfl ?_
                  exact loop_112 (n + 1) H k f _ (by omega) hk hkm hu (by intro h; omega) hf ha hq9
                · refine v_aload_n E 2 rfl dJ16_subtract_86 ?_
                  refine v_iinc E 1 rfl dJ16_subtract_87 (zlt hL rfl) (lv' := [(2, vi (u + (-1))), (7, vi c), (3, .ref q), (0, .ref a)]) rfl ?_
                  refine v_iload_n E 0 rfl dJ16_subtract_90 ?_
                  refine v_aload_n E 3 rfl dJ16_subtract_91 ?_
                  refine v_iload_n E 0 rfl dJ16_subtract_92 ?_
                  refine v_iald E dJ16_subtract_93 ha (n - (k + 1)) (by omega) (by omega) (by omega) ?_
                  refine v_iconst E dJ16_subtract_94 ?_
                  refine v_isub E dJ16_subtract_95 ?_
                  refine V.topi (x' := dg (X - Y) k) (by rw [bM_at (X := X) (n := n) (k := k) rfl (by omega), hct.2]; exact iZ_cong (by omega)) ?_
                  refine v_dup_x2 E rfl rfl rfl dJ16_subtract_96 ?_
                  refine v_iast E dJ16_subtract_97 hq9 (n - (k + 1)) (by omega) (by omega) (by omega) (hNew _ (by omega)) (fun H_20 hq9_18 hs_19 => ?_)
                  have ha_21 := ha.same hs_19 hne_a_q
                  refine V.topi (x' := ((dg (X - Y) k) + 2147483648) % 4294967296 - 2147483648) (iZ_sg _) ?_
                  refine v_iconst E dJ16_subtract_98 ?_
                  refine v_icmp_ne E (tgt := 106) dJ16_subtract_99 (by decide) ⟨by omega, by omega⟩ ⟨by omega, by omega⟩ (fun c_99 => ?_) (fun c_99 => ?_)
                  · refine v_iconst E dJ16_subtract_106 ?_
                    refine v_istore E dJ16_subtract_107 (zlt hL rfl) (lv' := [(7, vi 0), (2, vi (u + (-1))), (3, .ref q), (0, .ref a)]) rfl ?_
                    refine v_goto E (tgt := 77) dJ16_subtract_109 (by decide) ?_
                    exact ih_77  H_20 (k + 1) _ _ _ (by omega) (by omega) (by omega) (by omega) (by omega) (hi_s rfl (by omega) hf) ha_21 hq9_18
                  · refine v_iconst E dJ16_subtract_102 ?_
                    refine v_goto E (tgt := 107) dJ16_subtract_103 (by decide) ?_
                    refine v_istore E dJ16_subtract_107 (zlt hL rfl) (lv' := [(7, vi 1), (2, vi (u + (-1))), (3, .ref q), (0, .ref a)]) rfl ?_
                    refine v_goto E (tgt := 77) dJ16_subtract_109 (by decide) ?_
                    exact ih_77  H_20 (k + 1) _ _ _ (by omega) (by omega) (by omega) (by omega) (by omega) (hi_s rfl (by omega) hf) ha_21 hq9_18
          refine V.sub [0, 3, 4, 6] (lv' := [(7, vi 0), (2, vi u), (3, .ref q), (0, .ref a)]) rfl ?_
          exact loop_77 (n + 1) H m f _ _ (by omega) (by omega) (by omega) (by omega) (by omega) hf ha hq9
        · refine v_iconst E dJ16_subtract_70 ?_
          refine v_goto E (tgt := 75) dJ16_subtract_71 (by decide) ?_
          refine v_istore E dJ16_subtract_75 (zlt hL rfl) (lv' := [(7, vi 1), (5, vj t), (4, vi v), (2, vi u), (3, .ref q), (1, .ref b), (0, .ref a)]) rfl ?_
          have loop_77 : ∀ (m_77 : Nat) (H : Heap) (k : Nat) (f : Nat → Int) (u c : Int), n - k < m_77 → (k ≤ n) → (m ≤ k) → (u = (n : Int) - (k : Int)) → (c = - bw X Y k) → (∀ j, j < n → n - k ≤ j → f j = bM (X - Y) n j) → hp κ H a (eI κ n (bM X n)) → hp κ H q (eI κ n f) → V z H 0 0 77 [(7, vi c), (2, vi u), (3, .ref q), (0, .ref a)] [] := by
            intro m_77
            induction m_77 with
            | zero => intro H k f u c hm; exact absurd hm (by omega)
            | succ m_77 ih_77 =>
              intro H k f u c hm_77 hk hkm hu hc hf ha hq9
              have hdx := dg_in X k
              have hci := bw_in X Y k
              have hct := bw_top (X := X) ⟨by omega, hm.2.1⟩ hkm
              have hds := dg_in (X - Y) k
              refine v_iload_n E 1 rfl dJ16_subtract_77 ?_
              refine v_if_le E (tgt := 112) dJ16_subtract_78 (by decide) ⟨by omega, by omega⟩ (fun c_78 => ?_) (fun c_78 => ?_)
              · have loop_112 : ∀ (m_112 : Nat) (H : Heap) (k : Nat) (f : Nat → Int) (u : Int), n - k < m_112 → (k ≤ n) → (m ≤ k) → (u = (n : Int) - (k : Int)) → (k < n → bw X Y k = 0) → (∀ j, j < n → n - k ≤ j → f j = bM (X - Y) n j) → hp κ H a (eI κ n (bM X n)) → hp κ H q (eI κ n f) → V z H 0 0 112 [(2, vi u), (3, .ref q), (0, .ref a)] [] := by
                  intro m_112
                  induction m_112 with
                  | zero => intro H k f u hm; exact absurd hm (by omega)
                  | succ m_112 ih_112 =>
                    intro H k f u hm_112 hk hkm hu hcz hf ha hq9
                    have hdx := dg_in X k
                    have hci := bw_in X Y k
                    have hct := bw_top (X := X) ⟨by omega, hm.2.1⟩ hkm
                    refine v_iload_n E 0 rfl dJ16_subtract_112 ?_
                    refine v_if_le E (tgt := 128) dJ16_subtract_113 (by decide) ⟨by omega, by omega⟩ (fun c_113 => ?_) (fun c_113 => ?_)
                    · obtain rfl : n = k := by omega
                      refine v_aload_n E 1 rfl dJ16_subtract_128 ?_
                      refine v_aret E hE rfl (Or.inr ⟨_, rfl⟩) dJ16_subtract_129 (Or.inr ⟨_, rfl⟩) ?_
                      exact ⟨_, rfl, eI.congr hq9 (fun j hj => congrArg iZ (hf j hj (by omega))), by omega⟩
                    · refine v_aload_n E 1 rfl dJ16_subtract_116 ?_
                      refine v_iinc E 0 rfl dJ16_subtract_117 (zlt hL rfl) (lv' := [(2, vi (u + (-1))), (3, .ref q), (0, .ref a)]) rfl ?_
                      refine v_iload_n E 0 rfl dJ16_subtract_120 ?_
                      refine v_aload_n E 2 rfl dJ16_subtract_121 ?_
                      refine v_iload_n E 0 rfl dJ16_subtract_122 ?_
                      refine v_iald E dJ16_subtract_123 ha (n - (k + 1)) (by omega) (by omega) (by omega) ?_
                      refine V.topi (x' := dg (X - Y) k) (by rw [bM_at (X := X) (n := n) (k := k) rfl (by omega), hct.2, hcz (by omega), Int.zero_add]; exact (iZ_mod _).symm) ?_
                      refine v_iast E dJ16_subtract_124 hq9 (n - (k + 1)) (by omega) (by omega) (by omega) (hNew _ (by omega)) (fun H_24 hq9_22 hs_23 => ?_)
                      have ha_25 := ha.same hs_23 hne_a_q
                      refine v_goto E (tgt := 112) dJ16_subtract_125 (by decide) ?_
                      exact ih_112  H_24 (k + 1) _ _ (by omega) (by omega) (by omega) (by omega) (by intro h; omega) (hi_s rfl (by omega) hf) ha_25 hq9_22
                refine V.sub [1, 2, 3] (lv' := [(2, vi u), (3, .ref q), (0, .ref a)]) rfl ?_
                exact loop_112 (n + 1) H k f _ (by omega) hk hkm hu (by intro h; omega) hf ha hq9
              · refine v_iload E 0 rfl dJ16_subtract_81 ?_
                refine v_if_eq E (tgt := 112) dJ16_subtract_83 (by decide) ⟨by omega, by omega⟩ (fun c_83 => ?_) (fun c_83 => ?_)
                · have loop_112 : ∀ (m_112 : Nat) (H : Heap) (k : Nat) (f : Nat → Int) (u : Int), n - k < m_112 → (k ≤ n) → (m ≤ k) → (u = (n : Int) - (k : Int)) → (k < n → bw X Y k = 0) → (∀ j, j < n → n - k ≤ j → f j = bM (X - Y) n j) → hp κ H a (eI κ n (bM X n)) → hp κ H q (eI κ n f) → V z H 0 0 112 [(2, vi u), (3, .ref q), (0, .ref a)] [] := by
                    intro m_112
                    induction m_112 with
                    | zero => intro H k f u hm; exact absurd hm (by omega)
                    | succ m_112 ih_112 =>
                      intro H k f u hm_112 hk hkm hu hcz hf ha hq9
                      have hdx := dg_in X k
                      have hci := bw_in X Y k
                      have hct := bw_top (X := X) ⟨by omega, hm.2.1⟩ hkm
                      refine v_iload_n E 0 rfl dJ16_subtract_112 ?_
                      refine v_if_le E (tgt := 128) dJ16_subtract_113 (by decide) ⟨by omega, by omega⟩ (fun c_113 => ?_) (fun c_113 => ?_)
                      · obtain rfl : n = k := by omega
                        refine v_aload_n E 1 rfl dJ16_subtract_128 ?_
                        refine v_aret E hE rfl (Or.inr ⟨_, rfl⟩) dJ16_subtract_129 (Or.inr ⟨_, rfl⟩) ?_
                        exact ⟨_, rfl, eI.congr hq9 (fun j hj => congrArg iZ (hf j hj (by omega))), by omega⟩
                      · refine v_aload_n E 1 rfl dJ16_subtract_116 ?_
                        refine v_iinc E 0 rfl dJ16_subtract_117 (zlt hL rfl) (lv' := [(2, vi (u + (-1))), (3, .ref q), (0, .ref a)]) rfl ?_
                        refine v_iload_n E 0 rfl dJ16_subtract_120 ?_
                        refine v_aload_n E 2 rfl dJ16_subtract_121 ?_
                        refine v_iload_n E 0 rfl dJ16_subtract_122 ?_
                        refine v_iald E dJ16_subtract_123 ha (n - (k + 1)) (by omega) (by omega) (by omega) ?_
                        refine V.topi (x' := dg (X - Y) k) (by rw [bM_at (X := X) (n := n) (k := k) rfl (by omega), hct.2, hcz (by omega), Int.zero_add]; exact (iZ_mod _).symm) ?_
                        refine v_iast E dJ16_subtract_124 hq9 (n - (k + 1)) (by omega) (by omega) (by omega) (hNew _ (by omega)) (fun H_28 hq9_26 hs_27 => ?_)
                        have ha_29 := ha.same hs_27 hne_a_q
                        refine v_goto E (tgt := 112) dJ16_subtract_125 (by decide) ?_
                        exact ih_112  H_28 (k + 1) _ _ (by omega) (by omega) (by omega) (by omega) (by intro h; omega) (hi_s rfl (by omega) hf) ha_29 hq9_26
                  refine V.sub [1, 2, 3] (lv' := [(2, vi u), (3, .ref q), (0, .ref a)]) rfl ?_
                  exact loop_112 (n + 1) H k f _ (by omega) hk hkm hu (by intro h; omega) hf ha hq9
                · refine v_aload_n E 2 rfl dJ16_subtract_86 ?_
                  refine v_iinc E 1 rfl dJ16_subtract_87 (zlt hL rfl) (lv' := [(2, vi (u + (-1))), (7, vi c), (3, .ref q), (0, .ref a)]) rfl ?_
                  refine v_iload_n E 0 rfl dJ16_subtract_90 ?_
                  refine v_aload_n E 3 rfl dJ16_subtract_91 ?_
                  refine v_iload_n E 0 rfl dJ16_subtract_92 ?_
                  refine v_iald E dJ16_subtract_93 ha (n - (k + 1)) (by omega) (by omega) (by omega) ?_
                  refine v_iconst E dJ16_subtract_94 ?_
                  refine v_isub E dJ16_subtract_95 ?_
                  refine V.topi (x' := dg (X - Y) k) (by rw [bM_at (X := X) (n := n) (k := k) rfl (by omega), hct.2]; exact iZ_cong (by omega)) ?_
                  refine v_dup_x2 E rfl rfl rfl dJ16_subtract_96 ?_
                  refine v_iast E dJ16_subtract_97 hq9 (n - (k + 1)) (by omega) (by omega) (by omega) (hNew _ (by omega)) (fun H_32 hq9_30 hs_31 => ?_)
                  have ha_33 := ha.same hs_31 hne_a_q
                  refine V.topi (x' := ((dg (X - Y) k) + 2147483648) % 4294967296 - 2147483648) (iZ_sg _) ?_
                  refine v_iconst E dJ16_subtract_98 ?_
                  refine v_icmp_ne E (tgt := 106) dJ16_subtract_99 (by decide) ⟨by omega, by omega⟩ ⟨by omega, by omega⟩ (fun c_99 => ?_) (fun c_99 => ?_)
                  · refine v_iconst E dJ16_subtract_106 ?_
                    refine v_istore E dJ16_subtract_107 (zlt hL rfl) (lv' := [(7, vi 0), (2, vi (u + (-1))), (3, .ref q), (0, .ref a)]) rfl ?_
                    refine v_goto E (tgt := 77) dJ16_subtract_109 (by decide) ?_
                    exact ih_77  H_32 (k + 1) _ _ _ (by omega) (by omega) (by omega) (by omega) (by omega) (hi_s rfl (by omega) hf) ha_33 hq9_30
                  · refine v_iconst E dJ16_subtract_102 ?_
                    refine v_goto E (tgt := 107) dJ16_subtract_103 (by decide) ?_
                    refine v_istore E dJ16_subtract_107 (zlt hL rfl) (lv' := [(7, vi 1), (2, vi (u + (-1))), (3, .ref q), (0, .ref a)]) rfl ?_
                    refine v_goto E (tgt := 77) dJ16_subtract_109 (by decide) ?_
                    exact ih_77  H_32 (k + 1) _ _ _ (by omega) (by omega) (by omega) (by omega) (by omega) (hi_s rfl (by omega) hf) ha_33 hq9_30
          refine V.sub [0, 3, 4, 6] (lv' := [(7, vi 1), (2, vi u), (3, .ref q), (0, .ref a)]) rfl ?_
          exact loop_77 (n + 1) H m f _ _ (by omega) (by omega) (by omega) (by omega) (by omega) hf ha hq9
      · refine v_aload_n E 5 rfl dJ16_subtract_19 ?_
        refine v_iinc E 2 rfl dJ16_subtract_20 (zlt hL rfl) (lv' := [(2, vi (u + (-1))), (5, vj t), (4, vi v), (3, .ref q), (1, .ref b), (0, .ref a)]) rfl ?_
        refine v_iload_n E 0 rfl dJ16_subtract_23 ?_
        refine v_iald E dJ16_subtract_24 ha (n - (k + 1)) (by omega) (by omega) (by omega) ?_
        refine v_i2lLow E dJ16_subtract_25 q528 dJ16_subtract_26 dJ16_subtract_29 ?_
        refine v_aload_n E 4 rfl dJ16_subtract_30 ?_
        refine v_iinc E 2 rfl dJ16_subtract_31 (zlt hL rfl) (lv' := [(4, vi (v + (-1))), (2, vi (u + (-1))), (5, vj t), (3, .ref q), (1, .ref b), (0, .ref a)]) rfl ?_
        refine v_iload E 0 rfl dJ16_subtract_34 ?_
        refine v_iald E dJ16_subtract_36 hb (m - (k + 1)) (by omega) (by omega) (by omega) ?_
        refine v_i2lLow E dJ16_subtract_37 q528 dJ16_subtract_38 dJ16_subtract_41 ?_
        refine v_lsub E dJ16_subtract_42 ?_
        refine v_lload E 2 rfl dJ16_subtract_43 ?_
        refine v_bipush E ⟨by decide, by decide⟩ dJ16_subtract_45 ?_
        refine v_lshr E ⟨by omega, by omega⟩ 32 (by decide) dJ16_subtract_47 ?_
        refine v_ladd E dJ16_subtract_48 ?_
        refine V.topl (x' := dg X k - dg Y k + bw X Y k) (congrArg jZ (by rw [bM_at (X := X) (n := n) (k := k) rfl (by omega), bM_at (X := Y) (n := m) (k := k) rfl (by omega)]; omega)) ?_
        refine v_lstore E dJ16_subtract_49 (zlt hL rfl) (lv' := [(5, vj (dg X k - dg Y k + bw X Y k)), (4, vi (v + (-1))), (2, vi (u + (-1))), (3, .ref q), (1, .ref b), (0, .ref a)]) rfl ?_
        refine v_aload_n E 3 rfl dJ16_subtract_51 ?_
        refine v_iload_n E 2 rfl dJ16_subtract_52 ?_
        refine v_lload E 0 rfl dJ16_subtract_53 ?_
        refine v_l2i E dJ16_subtract_55 ?_
        refine V.topi (x' := dg (X - Y) k) (by rw [dg_sub]; exact iZ_cong (by omega)) ?_
        refine v_iast E dJ16_subtract_56 hq9 (n - (k + 1)) (by omega) (by omega) (by omega) (hNew _ (by omega)) (fun H_36 hq9_34 hs_35 => ?_)
        have ha_37 := ha.same hs_35 hne_a_q
        have hb_38 := hb.same hs_35 hne_b_q
        refine v_goto E (tgt := 14) dJ16_subtract_57 (by decide) ?_
        exact ih_14  H_36 (k + 1) _ _ _ _ (by omega) (by omega) (by omega) (by omega) (by rw [bw_s]; exact ⟨by omega, by omega, by omega⟩) (hi_s rfl (by omega) hf) ha_37 hb_38 hq9_34
  refine V.sub [0, 1, 3, 2, 5, 4] (lv' := [(5, vj 0), (4, vi (m : Int)), (2, vi (n : Int)), (3, .ref q), (1, .ref b), (0, .ref a)]) rfl ?_
  refine V.less (Nat.zero_le _) (Nat.zero_le _) ?_
  exact loop_14 (m + 1) H_2 0 (fun _ => 0) _ _ _ (by omega) (by omega) (by omega) (by omega) (by rw [bw_0]; decide) (fun j h1 h2 => absurd h2 (by omega)) ha_8 hb_9 hn_3
