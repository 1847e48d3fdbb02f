/-- the larger of two less the other one -/
def dfP (κ : zK) (H1 : Heap) (a v cap b w p m cbp : Nat) (g : Nat → Int) (X Y : Int) : Prop :=
  ∃ (o2 n2 : Nat) (f2 : Nat → Int), MI κ H1 a v o2 n2 cap f2 (X - Y) ∧ isInts (X - Y) n2 ∧ MI κ H1 b w p m cbp g Y
theorem bw_rest {X Y : Int} {m k : Nat} (hY : 0 ≤ Y ∧ Y < 2 ^ (32 * m)) (hk : m ≤ k) (h0 : bw X Y k = 0) : ∀ j, k ≤ j → dg (X - Y) j = dg X j ∧ bw X Y j = 0 := by
  intro j hj
  have key : ∀ i, bw X Y (k + i) = 0 := by
    intro i
    induction i with
    | zero => exact h0
    | succ i ih =>
      have h1 := (bw_top (X := X) hY (show m ≤ k + i by omega)).1
      have h2 := dg_in X (k + i)
      rw [ih] at h1
      rw [show k + (i + 1) = k + i + 1 by omega, h1]
      omega
  have h1 := key (j - k)
  rw [show k + (j - k) = j by omega] at h1
  have h2 := (bw_top (X := X) hY (show m ≤ j by omega)).2
  have h3 := dg_in X j
  rw [h1] at h2
  exact ⟨by omega, h1⟩
theorem df_win {f1 : Nat → Int} {X Y : Int} {n m o k : Nat} (hY : 0 ≤ Y ∧ Y < 2 ^ (32 * m)) (hk : m ≤ k) (hkn : k ≤ n) (h0 : k < n → bw X Y k = 0) (h : (∀ j, n - k ≤ j → j < n → f1 (o + j) = bM (X - Y) n j) ∧ ∀ j, j < n - k → f1 (o + j) = bM X n j) : ∀ j, j < n → f1 (o + j) = bM (X - Y) n j := by
  intro j hj
  by_cases c : n - k ≤ j
  · exact h.1 j c hj
  · rw [h.2 j (by omega)]
    unfold bM
    exact (bw_rest hY hk (h0 (by omega)) (n - 1 - j) (by omega)).1.symm
theorem sub_lt {X Y : Int} {n : Nat} (h : X < 2 ^ (32 * n)) (hY : 0 ≤ Y) : X - Y < 2 ^ (32 * n) := by omega
theorem sB_sub {X Y : Int} {n : Nat} (h : isInts X n) (hY : 0 ≤ Y) : sB (X - Y) := by
  have h1 := h.2.1
  have h2 := pw_mono (show 32 * n ≤ 1536 by have := h.1; omega)
  unfold sB
  generalize (2 : Int) ^ 1536 = A at h2 ⊢
  omega
set_option maxHeartbeats 1000000 in
set_option maxRecDepth 100000 in
/-- the larger less the other -/
theorem h_diff (κ : zK) (H0 : Heap) {a v o n cap : Nat} {f : Nat → Int} {X : Int} {b w p m cbp : Nat} {g : Nat → Int} {Y : Int} (hD : zDist κ) (hne_a_b : a ≠ b) (hne_v_w : v ≠ w) (hn : isInts X n) (hm : isInts Y m) (hM : MI κ H0 a v o n cap f X) (hM2 : MI κ H0 b w p m cbp g Y)  : Mt κ yJ26_difference cJ26_difference 8 (some .int) 1 27 0 0 H0 [.ref a, .ref b] (fun q => q = a ∨ q = v ∨ q = b ∨ q = w) (fun v9 H1 => (v9 = some (vi 0) ∧ X = Y ∧ MI κ H1 a v o n cap f X ∧ MI κ H1 b w p m cbp g Y) ∨ (v9 = some (vi 1) ∧ Y < X ∧ dfP κ H1 a v cap b w p m cbp g X Y) ∨ (v9 = some (vi (-1)) ∧ X < Y ∧ dfP κ H1 b w cbp a v o n cap f Y X)) := by
  refine Mt.of (by decide) (Nat.le_of_ble_eq_true rfl) ?_
  intro z E hE hH0 hA0 hL hini
  have hAll : ∀ q, (fun q => q = a ∨ q = v ∨ q = b ∨ q = w) q → zA z.A z.H0 q := fun q h => Or.inl (by rw [hA0]; exact h)
  have hNew : ∀ q, H0.size ≤ q → zA z.A z.H0 q := fun q h => Or.inr (by rw [hH0]; exact h)
  have E : zOK z cJ26_difference RJ26 κ 1 27 (some .int) := E
  refine V.eqL (lv' := [(0, .ref a), (1, .ref b)]) rfl ?_
  obtain ⟨hoa, hv, hcap, hc2, hW, hX0, hX1⟩ := hM
  have hne_v_a : v ≠ a := Ne.symm (hp.ka hD hoa hv (by decide) (by decide))
  obtain ⟨hob, hw, hcap2, hc22, hW2, hX02, hX12⟩ := hM2
  obtain ⟨PO, hPO⟩ : ∃ PO : Option Value → Heap → Prop, PO = (fun v9 H1 => (v9 = some (vi 0) ∧ X = Y ∧ MI κ H1 a v o n cap f X ∧ MI κ H1 b w p m cbp g Y) ∨ (v9 = some (vi 1) ∧ Y < X ∧ dfP κ H1 a v cap b w p m cbp g X Y) ∨ (v9 = some (vi (-1)) ∧ X < Y ∧ dfP κ H1 b w cbp a v o n cap f Y X)) := ⟨_, rfl⟩
  have hM := (show MI κ H0 a v o n cap f X from ⟨hoa, hv, hcap, hc2, hW, hX0, hX1⟩)
  have hM2 := (show MI κ H0 b w p m cbp g Y from ⟨hob, hw, hcap2, hc22, hW2, hX02, hX12⟩)
  have hne_w_v := Ne.symm hne_v_w
  have hne_v_b : v ≠ b := Ne.symm (hp.ka hD hob hv (by decide) (by decide))
  have hne_w_a : w ≠ a := Ne.symm (hp.ka hD hoa hw (by decide) (by decide))
  have hne_w_b : w ≠ b := Ne.symm (hp.ka hD hob hw (by decide) (by decide))
  have join_26 : ∀ (H : Heap) (a b v w o p n m cap cbp : Nat) (f g : Nat → Int) (X Y sg : Int), (v ≠ a) → (a ≠ b) → (v ≠ b) → (w ≠ a) → (w ≠ v) → (zA z.A z.H0 a) → (zA z.A z.H0 v) → (isInts X n) → (isInts Y m) → (Y < X) → (o + n ≤ cap) → (cap ≤ 1000) → (p + m ≤ cbp) → (cbp ≤ 1000) → (∀ k, k < n → f (o + k) = bM X n k) → (∀ k, k < m → g (p + k) = bM Y m k) → (0 ≤ X) → (0 ≤ Y) → (∀ H1 : Heap, dfP κ H1 a v cap b w p m cbp g X Y → PO (some (vi sg)) H1) → hp κ H a (.inr (9, [.ref v, vi (n : Int), vi (o : Int)])) → hp κ H v (eI κ cap f) → hp κ H b (.inr (9, [.ref w, vi (m : Int), vi (p : Int)])) → hp κ H w (eI κ cbp g) → V z H 0 0 26 [(3, vi sg), (2, .ref a), (1, .ref b)] [] := by
    intro H a b v w o p n m cap cbp f g X Y sg hne_v_a hne_a_b hne_v_b hne_w_a hne_w_v hAa hAv hn hm hYX hcap hc2 hcap2 hc22 hW hW2 hX0 hY0 hK hoa hv hob hw
    have hmn : m ≤ n := Nat.le_of_not_lt (fun h => Int.lt_asymm hYX (ints_lt hn hm h))
    have h48 := hn.1
    refine v_lconst E (x := 0) rfl dJ26_difference_26 ?_
    refine v_lstore E dJ26_difference_27 (zlt hL rfl) (lv' := [(4, vj 0), (3, vi sg), (2, .ref a), (1, .ref b)]) rfl ?_
    refine v_aload_n E 2 rfl dJ26_difference_29 ?_
    refine v_getf E in_J26 hoa (ci := 9) rfl 1 (by decide) q1173 rfl (v := vi (n : Int)) rfl dJ26_difference_30 ?_
    refine v_istore E dJ26_difference_33 (zlt hL rfl) (lv' := [(6, vi (n : Int)), (4, vj 0), (3, vi sg), (2, .ref a), (1, .ref b)]) rfl ?_
    refine v_aload_n E 4 rfl dJ26_difference_35 ?_
    refine v_getf E in_J26 hob (ci := 9) rfl 1 (by decide) q1173 rfl (v := vi (m : Int)) rfl dJ26_difference_36 ?_
    refine v_istore E dJ26_difference_39 (zlt hL rfl) (lv' := [(7, vi (m : Int)), (6, vi (n : Int)), (4, vj 0), (3, vi sg), (2, .ref a), (1, .ref b)]) rfl ?_
    have loop_41 : ∀ (m_41 : Nat) (H : Heap) (k : Nat) (f1 : Nat → Int) (u t s9 : Int), m - k < m_41 → (k ≤ m) → (u = (n : Int) - (k : Int)) → (t = (m : Int) - (k : Int)) → (s9 / 4294967296 = bw X Y k ∧ -8589934592 ≤ s9 ∧ s9 < 8589934592) → ((∀ j, n - k ≤ j → j < n → f1 (o + j) = bM (X - Y) n j) ∧ ∀ j, j < n - k → f1 (o + j) = bM X n j) → hp κ H a (.inr (9, [.ref v, vi (n : Int), vi (o : Int)])) → hp κ H v (eI κ cap f1) → hp κ H b (.inr (9, [.ref w, vi (m : Int), vi (p : Int)])) → hp κ H w (eI κ cbp g) → V z H 0 0 41 [(4, vj s9), (6, vi u), (7, vi t), (3, vi sg), (2, .ref a), (1, .ref b)] [] := by
      intro m_41
      induction m_41 with
      | zero => intro H k f1 u t s9 hm; exact absurd hm (by omega)
      | succ m_41 ih_41 =>
        intro H k f1 u t s9 hm_41 hk hu ht9 hs9 hf hoa hv hob hw
        have hdx := dg_in X k
        have hdy := dg_in Y k
        have hci := bw_in X Y k
        refine v_iload E 2 rfl dJ26_difference_41 ?_
        refine v_if_le E (tgt := 113) dJ26_difference_43 (by decide) ⟨by omega, by omega⟩ (fun c_43 => ?_) (fun c_43 => ?_)
        · have loop_113 : ∀ (m_113 : Nat) (H : Heap) (k : Nat) (f1 : Nat → Int) (u s9 : Int), n - k < m_113 → (k ≤ n) → (m ≤ k) → (u = (n : Int) - (k : Int)) → (s9 / 4294967296 = bw X Y k ∧ -8589934592 ≤ s9 ∧ s9 < 8589934592) → ((∀ j, n - k ≤ j → j < n → f1 (o + j) = bM (X - Y) n j) ∧ ∀ j, j < n - k → f1 (o + j) = bM X n j) → hp κ H a (.inr (9, [.ref v, vi (n : Int), vi (o : Int)])) → hp κ H v (eI κ cap f1) → hp κ H b (.inr (9, [.ref w, vi (m : Int), vi (p : Int)])) → hp κ H w (eI κ cbp g) → V z H 0 0 113 [(4, vj s9), (6, vi u), (3, vi sg), (2, .ref a), (1, .ref b)] [] := by
            intro m_113
            induction m_113 with
            | zero => intro H k f1 u s9 hm; exact absurd hm (by omega)
            | succ m_113 ih_113 =>
              intro H k f1 u s9 hm_113 hk hkm hu hs9 hf hoa hv hob hw
              have hdx := dg_in X k
              have hci := bw_in X Y k
              have hct := bw_top (X := X) ⟨hY0, hm.2.1⟩ hkm
              refine v_lload E 0 rfl dJ26_difference_113 ?_
              refine v_lconst E (x := 0) rfl dJ26_difference_115 ?_
              refine v_lc_ge E (tgt := 171) dJ26_difference_116 dJ26_difference_117 (by decide) ⟨by omega, by omega⟩ ⟨by omega, by omega⟩ (fun c_116 => ?_) (fun c_116 => ?_)
              · refine v_aload_n E 3 rfl dJ26_difference_171 ?_
                refine v_callV E (As := []) (b := a) (ci := 9) (C := RJ26) (T := TJ26) (N := 3) hoa rfl (h_norm κ H (X := X - Y) (f := f1) (o := o) (n := n) hD (sB_sub hn hY0) ⟨hoa, hv, hcap, hc2, df_win ⟨hY0, hm.2.1⟩ hkm hk (fun h => by omega) hf, by omega, sub_lt hn.2.1 hY0⟩) (lw_V q1241 q1242 q1243 q101 q1244) 0 (by decide +kernel) rfl (by decide) (by decide) (cb' := 0) (sb' := 0) (by decide) (by decide) rfl (rest := []) (Nat.le_of_ble_eq_true rfl) (fun q h => by rw [show q = a from h]; exact hAa) dJ26_difference_172 (fun v_1 H_2 hpost_3 hz_4 hk_5 => ?_)
                clear hz_4
                obtain ⟨rfl, o2, n2, hoa2, hc3, hn9, hW9, hI9⟩ := hpost_3
                have hz_6 := hv.kept (hk_5 _ hv.lt (fun h => hne_v_a h))
                have hz_7 := hob.kept (hk_5 _ hob.lt (fun h => (Ne.symm hne_a_b) h))
                have hz_8 := hw.kept (hk_5 _ hw.lt (fun h => hne_w_a h))
                refine V.eq (st' := []) rfl ?_
                refine v_iload_n E 2 rfl dJ26_difference_175 ?_
                refine v_iret E hE dJ26_difference_176 ?_
                have h77 := hK _ ⟨o2, n2, f1, ⟨hoa2, hz_6, by omega, hc2, hW9, by omega, hI9.2.1⟩, hI9, ⟨hz_7, hz_8, hcap2, hc22, hW2, hY0, hm.2.1⟩⟩
                rw [hPO] at h77
                exact h77
              · refine v_iload E 1 rfl dJ26_difference_120 ?_
                refine v_if_le E (tgt := 171) dJ26_difference_122 (by decide) ⟨by omega, by omega⟩ (fun c_122 => ?_) (fun c_122 => ?_)
                · refine v_aload_n E 3 rfl dJ26_difference_171 ?_
                  refine v_callV E (As := []) (b := a) (ci := 9) (C := RJ26) (T := TJ26) (N := 3) hoa rfl (h_norm κ H (X := X - Y) (f := f1) (o := o) (n := n) hD (sB_sub hn hY0) ⟨hoa, hv, hcap, hc2, df_win ⟨hY0, hm.2.1⟩ hkm hk (fun h => by omega) hf, by omega, sub_lt hn.2.1 hY0⟩) (lw_V q1241 q1242 q1243 q101 q1244) 0 (by decide +kernel) rfl (by decide) (by decide) (cb' := 0) (sb' := 0) (by decide) (by decide) rfl (rest := []) (Nat.le_of_ble_eq_true rfl) (fun q h => by rw [show q = a from h]; exact hAa) dJ26_difference_172 (fun v_9 H_10 hpost_11 hz_12 hk_13 => ?_)
                  clear hz_12
                  obtain ⟨rfl, o2, n2, hoa2, hc3, hn9, hW9, hI9⟩ := hpost_11
                  have hz_14 := hv.kept (hk_13 _ hv.lt (fun h => hne_v_a h))
                  have hz_15 := hob.kept (hk_13 _ hob.lt (fun h => (Ne.symm hne_a_b) h))
                  have hz_16 := hw.kept (hk_13 _ hw.lt (fun h => hne_w_a h))
                  refine V.eq (st' := []) rfl ?_
                  refine v_iload_n E 2 rfl dJ26_difference_175 ?_
                  refine v_iret E hE dJ26_difference_176 ?_
                  have h77 := hK _ ⟨o2, n2, f1, ⟨hoa2, hz_14, by omega, hc2, hW9, by omega, hI9.2.1⟩, hI9, ⟨hz_15, hz_16, hcap2, hc22, hW2, hY0, hm.2.1⟩⟩
                  rw [hPO] at h77
                  exact h77
                · refine v_iinc E 1 rfl dJ26_difference_125 (zlt hL rfl) (lv' := [(6, vi (u + (-1))), (4, vj s9), (3, vi sg), (2, .ref a), (1, .ref b)]) rfl ?_
                  refine v_aload_n E 3 rfl dJ26_difference_128 ?_
                  refine v_getf E in_J26 hoa (ci := 9) rfl 0 (by decide) q1172 rfl (v := .ref v) rfl dJ26_difference_129 ?_
                  refine v_aload_n E 3 rfl dJ26_difference_132 ?_
                  refine v_getf E in_J26 hoa (ci := 9) rfl 2 (by decide) q1174 rfl (v := vi (o : Int)) rfl dJ26_difference_133 ?_
                  refine v_iload E 0 rfl dJ26_difference_136 ?_
                  refine v_iadd E dJ26_difference_138 ?_
                  refine v_iald E dJ26_difference_139 hv (o + (n - 1 - k)) (by omega) (by omega) (by omega) ?_
                  refine v_i2lLow E dJ26_difference_140 q1240 dJ26_difference_141 dJ26_difference_144 ?_
                  refine v_lload E 1 rfl dJ26_difference_145 ?_
                  refine v_bipush E ⟨by decide, by decide⟩ dJ26_difference_147 ?_
                  refine v_lshr E ⟨by omega, by omega⟩ 32 (by decide) dJ26_difference_149 ?_
                  refine v_ladd E dJ26_difference_150 ?_
                  refine V.topl (x' := dg X k + bw X Y k) (congrArg jZ (by rw [hf.2 (n - 1 - k) (by omega), bM_s (by omega), dg_m]; omega)) ?_
                  refine v_lstore E dJ26_difference_151 (zlt hL rfl) (lv' := [(4, vj (dg X k + bw X Y k)), (6, vi (u + (-1))), (3, vi sg), (2, .ref a), (1, .ref b)]) rfl ?_
                  refine v_aload_n E 3 rfl dJ26_difference_153 ?_
                  refine v_getf E in_J26 hoa (ci := 9) rfl 0 (by decide) q1172 rfl (v := .ref v) rfl dJ26_difference_154 ?_
                  refine v_aload_n E 3 rfl dJ26_difference_157 ?_
                  refine v_getf E in_J26 hoa (ci := 9) rfl 2 (by decide) q1174 rfl (v := vi (o : Int)) rfl dJ26_difference_158 ?_
                  refine v_iload E 1 rfl dJ26_difference_161 ?_
                  refine v_iadd E dJ26_difference_163 ?_
                  refine v_lload E 0 rfl dJ26_difference_164 ?_
                  refine v_l2i E dJ26_difference_166 ?_
                  refine V.topi (x' := dg (X - Y) k) (by rw [hct.2]; exact iZ_cong (by omega)) ?_
                  refine v_iast E dJ26_difference_167 hv (o + (n - 1 - k)) (by omega) (by omega) (by omega) hAv (fun H_19 hv_17 hs_18 => ?_)
                  have hoa_20 := hoa.same hs_18 (Ne.symm hne_v_a)
                  have hob_21 := hob.same hs_18 (Ne.symm hne_v_b)
                  have hw_22 := hw.same hs_18 hne_w_v
                  refine v_goto E (tgt := 113) dJ26_difference_168 (by decide) ?_
                  exact ih_113  H_19 (k + 1) _ _ _ (by omega) (by omega) (by omega) (by omega) ⟨by omega, by omega, by omega⟩ (pr_s (by omega) hf) hoa_20 hv_17 hob_21 hw_22
          refine V.sub [0, 1, 3, 4, 5] (lv' := [(4, vj s9), (6, vi u), (3, vi sg), (2, .ref a), (1, .ref b)]) rfl ?_
          exact loop_113 (n + 1) H k f1 _ _ (by omega) (by omega) (by omega) hu hs9 hf hoa hv hob hw
        · refine v_iinc E 1 rfl dJ26_difference_46 (zlt hL rfl) (lv' := [(6, vi (u + (-1))), (4, vj s9), (7, vi t), (3, vi sg), (2, .ref a), (1, .ref b)]) rfl ?_
          refine v_iinc E 2 rfl dJ26_difference_49 (zlt hL rfl) (lv' := [(7, vi (t + (-1))), (6, vi (u + (-1))), (4, vj s9), (3, vi sg), (2, .ref a), (1, .ref b)]) rfl ?_
          refine v_aload_n E 4 rfl dJ26_difference_52 ?_
          refine v_getf E in_J26 hoa (ci := 9) rfl 0 (by decide) q1172 rfl (v := .ref v) rfl dJ26_difference_53 ?_
          refine v_aload_n E 4 rfl dJ26_difference_56 ?_
          refine v_getf E in_J26 hoa (ci := 9) rfl 2 (by decide) q1174 rfl (v := vi (o : Int)) rfl dJ26_difference_57 ?_
          refine v_iload E 1 rfl dJ26_difference_60 ?_
          refine v_iadd E dJ26_difference_62 ?_
          refine v_iald E dJ26_difference_63 hv (o + (n - 1 - k)) (by omega) (by omega) (by omega) ?_
          refine v_i2lLow E dJ26_difference_64 q1240 dJ26_difference_65 dJ26_difference_68 ?_
          refine v_aload_n E 5 rfl dJ26_difference_69 ?_
          refine v_getf E in_J26 hob (ci := 9) rfl 0 (by decide) q1172 rfl (v := .ref w) rfl dJ26_difference_70 ?_
          refine v_aload_n E 5 rfl dJ26_difference_73 ?_
          refine v_getf E in_J26 hob (ci := 9) rfl 2 (by decide) q1174 rfl (v := vi (p : Int)) rfl dJ26_difference_74 ?_
          refine v_iload E 0 rfl dJ26_difference_77 ?_
          refine v_iadd E dJ26_difference_79 ?_
          refine v_iald E dJ26_difference_80 hw (p + (m - 1 - k)) (by omega) (by omega) (by omega) ?_
          refine v_i2lLow E dJ26_difference_81 q1240 dJ26_difference_82 dJ26_difference_85 ?_
          refine v_lsub E dJ26_difference_86 ?_
          refine v_lload E 2 rfl dJ26_difference_87 ?_
          refine v_bipush E ⟨by decide, by decide⟩ dJ26_difference_89 ?_
          refine v_lshr E ⟨by omega, by omega⟩ 32 (by decide) dJ26_difference_91 ?_
          refine v_ladd E dJ26_difference_92 ?_
          refine V.topl (x' := dg X k - dg Y k + bw X Y k) (congrArg jZ (by rw [hf.2 (n - 1 - k) (by omega), bM_s (by omega), hW2 (m - 1 - k) (by omega), bM_s (by omega), dg_m, dg_m]; omega)) ?_
          refine v_lstore E dJ26_difference_93 (zlt hL rfl) (lv' := [(4, vj (dg X k - dg Y k + bw X Y k)), (7, vi (t + (-1))), (6, vi (u + (-1))), (3, vi sg), (2, .ref a), (1, .ref b)]) rfl ?_
          refine v_aload_n E 4 rfl dJ26_difference_95 ?_
          refine v_getf E in_J26 hoa (ci := 9) rfl 0 (by decide) q1172 rfl (v := .ref v) rfl dJ26_difference_96 ?_
          refine v_aload_n E 4 rfl dJ26_difference_99 ?_
          refine v_getf E in_J26 hoa (ci := 9) rfl 2 (by decide) q1174 rfl (v := vi (o : Int)) rfl dJ26_difference_100 ?_
          refine v_iload E 2 rfl dJ26_difference_103 ?_
          refine v_iadd E dJ26_difference_105 ?_
          refine v_lload E 0 rfl dJ26_difference_106 ?_
          refine v_l2i E dJ26_difference_108 ?_
          refine V.topi (x' := dg (X - Y) k) (by first | (rw [dg_sub]; exact iZ_cong (by omega)) | omega) ?_
          refine v_iast E dJ26_difference_109 hv (o + (n - 1 - k)) (by omega) (by omega) (by omega) hAv (fun H_25 hv_23 hs_24 => ?_)
          have hoa_26 := hoa.same hs_24 (Ne.symm hne_v_a)
          have hob_27 := hob.same hs_24 (Ne.symm hne_v_b)
          have hw_28 := hw.same hs_24 hne_w_v
          refine v_goto E (tgt := 41) dJ26_difference_110 (by decide) ?_
          refine V.sub [0, 2, 1, 3, 4, 5] (lv' := [(4, vj (dg X k - dg Y k + bw X Y k)), (6, vi (u + (-1))), (7, vi (t + (-1))), (3, vi sg), (2, .ref a), (1, .ref b)]) rfl ?_
          exact ih_41  H_25 (k + 1) _ _ _ _ (by omega) (by omega) (by omega) (by omega) (by rw [bw_s]; exact ⟨by omega, by omega, by omega⟩) (pr_s (by omega) hf) hoa_26 hv_23 hob_27 hw_28
    refine V.sub [2, 1, 0, 3, 4, 5] (lv' := [(4, vj 0), (6, vi (n : Int)), (7, vi (m : Int)), (3, vi sg), (2, .ref a), (1, .ref b)]) rfl ?_
    exact loop_41 (m + 1) H 0 f _ _ _ (by omega) (by omega) (by omega) (by omega) (by rw [bw_0]; decide) ⟨fun j h1 h2 => absurd h2 (by omega), fun j hj => hW j (by omega)⟩ hoa hv hob hw
  refine v_aload_n E 0 rfl dJ26_difference_0 ?_
  refine v_astore_n E dJ26_difference_1 (zlt hL rfl) (lv' := [(2, .ref a), (0, .ref a), (1, .ref b)]) rfl ?_
  refine v_aload_n E 0 rfl dJ26_difference_2 ?_
  refine v_aload_n E 2 rfl dJ26_difference_3 ?_
  refine v_callV E (As := [.ref b]) (b := a) (ci := 9) (C := RJ26) (T := TJ26) (N := 3) hoa rfl (h_cmp κ H0 hD hn hm hM hM2) (lw_V q1236 q1237 q1238 q101 q1239) 1 (by decide +kernel) rfl (by decide) (by decide) (cb' := 0) (sb' := 0) (by decide) (by decide) rfl (rest := []) (Nat.le_of_ble_eq_true rfl) (fun q h => h.elim) dJ26_difference_4 (fun v_29 H_30 hpost_31 hz_32 hk_33 => ?_)
  clear hz_32
  obtain ⟨o9, rfl, ho9⟩ := hpost_31
  have hoa_34 := hoa.kept (hk_33 _ hoa.lt (fun h => h))
  have hv_35 := hv.kept (hk_33 _ hv.lt (fun h => h))
  have hob_36 := hob.kept (hk_33 _ hob.lt (fun h => h))
  have hw_37 := hw.kept (hk_33 _ hw.lt (fun h => h))
  refine V.eq (st' := [vi o9]) rfl ?_
  refine v_istore_n E dJ26_difference_7 (zlt hL rfl) (lv' := [(3, vi o9), (2, .ref a), (0, .ref a), (1, .ref b)]) rfl ?_
  refine v_iload_n E 0 rfl dJ26_difference_8 ?_
  have hri := cmp_r ho9
  refine v_if_ne E (tgt := 14) dJ26_difference_9 (by decide) hri (fun c_9 => ?_) (fun c_9 => ?_)
  · refine v_iload_n E 0 rfl dJ26_difference_14 ?_
    refine v_if_ge E (tgt := 26) dJ26_difference_15 (by decide) hri (fun c_15 => ?_) (fun c_15 => ?_)
    · refine V.sub [0, 1, 3] (lv' := [(3, vi o9), (2, .ref a), (1, .ref b)]) rfl ?_
      exact join_26 H_30 a b v w o p n m cap cbp f g X Y _ hne_v_a hne_a_b hne_v_b hne_w_a hne_w_v (hAll _ (Or.inl rfl)) (hAll _ (Or.inr (Or.inl rfl))) hn hm (cmp_p ho9 c_9 (by omega)).2 hcap hc2 hcap2 hc22 hW hW2 hX0 hX02 (fun H1 h => by rw [hPO]; exact Or.inr (Or.inl ⟨by rw [(cmp_p ho9 c_9 (by omega)).1], (cmp_p ho9 c_9 (by omega)).2, h⟩)) hoa_34 hv_35 hob_36 hw_37
    · refine v_aload_n E 1 rfl dJ26_difference_18 ?_
      refine v_astore E dJ26_difference_19 (zlt hL rfl) (lv' := [(4, .ref a), (3, vi o9), (2, .ref a), (0, .ref a), (1, .ref b)]) rfl ?_
      refine v_aload_n E 4 rfl dJ26_difference_21 ?_
      refine v_astore_n E dJ26_difference_22 (zlt hL rfl) (lv' := [(2, .ref b), (4, .ref a), (3, vi o9), (0, .ref a), (1, .ref b)]) rfl ?_
      refine v_aload E 1 rfl dJ26_difference_23 ?_
      refine v_astore_n E dJ26_difference_25 (zlt hL rfl) (lv' := [(1, .ref a), (2, .ref b), (4, .ref a), (3, vi o9), (0, .ref a)]) rfl ?_
      refine V.sub [3, 1, 0] (lv' := [(3, vi o9), (2, .ref b), (1, .ref a)]) rfl ?_
      exact join_26 H_30 b a w v p o m n cbp cap g f Y X _ hne_w_b (Ne.symm hne_a_b) hne_w_a hne_v_b (Ne.symm hne_w_v) (hAll _ (Or.inr (Or.inr (Or.inl rfl)))) (hAll _ (Or.inr (Or.inr (Or.inr rfl)))) hm hn (cmp_n ho9 c_9 (by omega)).2 hcap2 hc22 hcap hc2 hW2 hW hX02 hX0 (fun H1 h => by rw [hPO]; exact Or.inr (Or.inr ⟨by rw [(cmp_n ho9 c_9 (by omega)).1], (cmp_n ho9 c_9 (by omega)).2, h⟩)) hob_36 hw_37 hoa_34 hv_35
  · refine v_iconst E dJ26_difference_12 ?_
    refine v_iret E hE dJ26_difference_13 ?_
    exact Or.inl ⟨rfl, cmp_0 ho9 c_9, ⟨hoa_34, hv_35, hcap, hc2, hW, hX0, hX1⟩, ⟨hob_36, hw_37, hcap2, hc22, hW2, hX02, hX12⟩⟩
