/-! DIVISION by one int -/
theorem sg_mul_i (x q d : Int) : iZ (x - ((q + 2147483648) % 4294967296 - 2147483648) * d) = iZ (x - q * d) := by
  have e : (q + 2147483648) % 4294967296 - 2147483648 = q + 4294967296 * (-((q + 2147483648) / 4294967296)) := by omega
  rw [e]
  apply iZ_cong
  rw [show x - (q + 4294967296 * (-((q + 2147483648) / 4294967296))) * d = x - q * d + 4294967296 * ((q + 2147483648) / 4294967296 * d) by grind, Int.add_mul_emod_self_left]
theorem dw_dg {X d : Int} {n k : Nat} (hd : 0 < d ∧ d < 4294967296) (hk : k < n) :
    let est := (X / 2 ^ (32 * (n - k))) % d * 4294967296 + dg X (n - 1 - k)
    est / d = dg (X / d) (n - 1 - k) ∧ est % d = (X / 2 ^ (32 * (n - (k + 1)))) % d ∧ 0 ≤ est ∧ est < d * 4294967296 := by
  intro est
  obtain ⟨Y, hY⟩ : ∃ Y, Y = X / 2 ^ (32 * (n - 1 - k)) := ⟨_, rfl⟩
  have h1 : X / 2 ^ (32 * (n - k)) = Y / 4294967296 := by
    rw [hY, Int.ediv_ediv_of_nonneg (Int.le_of_lt (p2 _)), ← p32, show n - 1 - k + 1 = n - k by omega]
  have h2 : dg X (n - 1 - k) = Y % 4294967296 := by rw [hY]; rfl
  have h3 : dg (X / d) (n - 1 - k) = Y / d % 4294967296 := by
    unfold dg
    rw [hY, Int.ediv_ediv_of_nonneg (Int.le_of_lt hd.1), Int.mul_comm, ← Int.ediv_ediv_of_nonneg (Int.le_of_lt (p2 _))]
  have h4 : X / 2 ^ (32 * (n - (k + 1))) = Y := by rw [hY, show n - (k + 1) = n - 1 - k by omega]
  have he : est = (Y / 4294967296) % d * 4294967296 + Y % 4294967296 := by show _ * _ + _ = _; rw [h1, h2]
  have hm0 := Int.emod_nonneg (Y / 4294967296) (Int.ne_of_gt hd.1)
  have hm1 := Int.emod_lt_of_pos (Y / 4294967296) hd.1
  have e0 : 0 ≤ est := by omega
  have e1 : est < d * 4294967296 := by omega
  have hYe : Y = est + d * (Y / 4294967296 / d * 4294967296) := by
    have a1 := Int.mul_ediv_add_emod (Y / 4294967296) d
    have a2 := Int.mul_ediv_add_emod Y 4294967296
    rw [he]
    conv => lhs; rw [← a2, ← a1]
    grind
  have hq0 : 0 ≤ est / d := Int.ediv_nonneg e0 (by omega)
  have hq1 : est / d < 4294967296 := Int.ediv_lt_of_lt_mul hd.1 (by rw [Int.mul_comm]; exact e1)
  have hYd : Y / d = est / d + Y / 4294967296 / d * 4294967296 := by
    conv => lhs; rw [hYe]
    rw [Int.add_mul_ediv_left _ _ (by omega)]
  refine ⟨?_, ?_, e0, e1⟩
  · rw [h3, hYd, Int.add_mul_emod_self_right, Int.emod_eq_of_lt hq0 hq1]
  · rw [h4]
    conv => rhs; rw [hYe]
    rw [Int.add_mul_emod_self_left]
theorem div_small {X d : Int} {n : Nat} (h0 : 0 ≤ X) (hd : 0 < d) (h : X < 2 ^ (32 * n)) : 0 ≤ X / d ∧ X / d < 2 ^ (32 * n) := by
  refine ⟨Int.ediv_nonneg h0 (by omega), Int.lt_of_le_of_lt (Int.ediv_le_self _ h0) h⟩
theorem lowq {m q : Int} (h0 : 0 ≤ q) (h1 : q < 4294967296) : (m * 2 ^ 32 + q) % 4294967296 = q := by omega
theorem hiq {m q : Int} (h0 : 0 ≤ m) (h1 : m < 4294967296) (h2 : 0 ≤ q) (h3 : q < 4294967296) : ((m * 2 ^ 32 + q) % 18446744073709551616) / 2 ^ 32 = m := by omega
theorem fq_s {f : Nat → Int} {Z : Int} {n k : Nat} (h : ∀ j, j < k → f j = bM Z n j) : ∀ j, j < k + 1 → va_up f k (dg Z (n - 1 - k)) j = bM Z n j := by
  intro j hj
  by_cases e : j = k
  · rw [e, va_up_self]; rfl
  · rw [va_up_ne _ _ e]; exact h j (by omega)
theorem sB_div {x n : Nat} {d : Int} (h : isInts (x : Int) n) (hd : 0 < d) : sB ((x : Int) / d) := by
  have h1 := Int.ediv_le_self d (Int.natCast_nonneg x)
  have h2 := h.2.1
  have h3 := pw_mono (show 32 * n ≤ 1536 by have := h.1; omega)
  unfold sB
  generalize (2 : Int) ^ 1536 = A at h3 ⊢
  omega
set_option maxHeartbeats 2000000 in
set_option maxRecDepth 100000 in
/-- division by one int -/
theorem h_dow (κ : zK) (H0 : Heap) {a v o n cap : Nat} {f : Nat → Int} {x d : Nat} {c qv qc : Nat} {i9 o9 : Int} {fq : Nat → Int} (hD : zDist κ) (hd : 0 < d ∧ d < 4294967296) (hdx : d ≤ x) (hn : isInts (x : Int) n) (hne_a_c : a ≠ c) (hne_v_qv : v ≠ qv) (hqc : 1 ≤ qc ∧ qc ≤ 1000) (hc : hp κ H0 c (.inr (9, [.ref qv, vi i9, vi o9]))) (hq : hp κ H0 qv (eI κ qc fq)) (hM : MI κ H0 a v o n cap f (x : Int))  : Mt κ yJ26_divideOneWord cJ26_divideOneWord 15 (some .int) 1 28 1 n H0 [.ref a, vi (d : Int), .ref c] (fun q => q = c ∨ q = qv) (fun v9 H1 => v9 = some (vi ((x % d : Nat) : Int)) ∧ ∃ (v2 o2 n2 cap2 : Nat) (f2 : Nat → Int), MI κ H1 c v2 o2 n2 cap2 f2 ((x / d : Nat) : Int) ∧ isInts ((x / d : Nat) : Int) n2 ∧ (v2 = qv ∨ H0.size ≤ v2)) := by
  refine Mt.of (by decide) (Nat.le_of_ble_eq_true rfl) ?_
  intro z E hE hH0 hA0 hL hini
  have hAll : ∀ q, (fun q => q = c ∨ q = qv) q → zA z.A z.H0 q := fun q h => Or.inl (by rw [hA0]; exact h)
  have hNew : ∀ q, H0.size ≤ q → zA z.A z.H0 q := fun q h => Or.inr (by rw [hH0]; exact h)
  have E : zOK z cJ26_divideOneWord RJ26 κ 1 28 (some .int) := E
  refine V.eqL (lv' := [(0, .ref a), (1, vi (d : Int)), (2, .ref c)]) rfl ?_
  obtain ⟨hoa, hv, hcap, hc2, hW, hX0, hX1⟩ := hM
  have h48 := hn.1
  have hpn : 0 < n := ints_pos' (by omega) hn
  have hne_v_a : v ≠ a := Ne.symm (hp.ka hD hoa hv (by decide) (by decide))
  have hne_v_c : v ≠ c := Ne.symm (hp.ka hD hc hv (by decide) (by decide))
  have hne_qv_a : qv ≠ a := Ne.symm (hp.ka hD hoa hq (by decide) (by decide))
  have hne_qv_c : qv ≠ c := Ne.symm (hp.ka hD hc hq (by decide) (by decide))
  have hdI : 0 < (d : Int) ∧ (d : Int) < 4294967296 := ⟨by omega, by omega⟩
  have join_101 : ∀ (H : Heap) (w qc2 : Nat) (fw : Nat → Int), (2 ≤ n) → (n ≤ qc2 ∧ qc2 ≤ 1000) → (w = qv ∨ H0.size ≤ w) → (zA z.A z.H0 w) → (w ≠ a) → (w ≠ c) → (w ≠ v) → hp κ H a (.inr (9, [.ref v, vi (n : Int), vi (o : Int)])) → hp κ H v (eI κ cap f) → hp κ H c (.inr (9, [.ref w, vi i9, vi o9])) → hp κ H w (eI κ qc2 fw) → V z H 0 0 101 [(1, vi (d : Int)), (3, vj (d : Int)), (2, .ref c), (0, .ref a)] [] := by
    intro H w qc2 fw hn2 hqc2 hwf hAw hne_w_a hne_w_c hne_w_v hoa hv hc hw9
    refine v_aload_n E 2 rfl dJ26_divideOneWord_101 ?_
    refine v_iconst E dJ26_divideOneWord_102 ?_
    refine v_putf E in_J26 tyJ26 tyJ26_ok nmJ26 hc (ci := 9) rfl 2 (Nat.le_of_ble_eq_true rfl) q1174 rfl rfl rfl rfl (Nat.le_of_ble_eq_true rfl) (hAll _ (Or.inl rfl)) dJ26_divideOneWord_103 (fun H_3 hc_1 hs_2 => ?_)
    have hoa_4 := hoa.same hs_2 hne_a_c
    have hv_5 := hv.same hs_2 hne_v_c
    have hw9_6 := hw9.same hs_2 hne_w_c
    have hc_1 : hp κ H_3 c (.inr (9, [.ref w, vi i9, vi 0])) := hc_1
    refine v_aload_n E 2 rfl dJ26_divideOneWord_106 ?_
    refine v_aload_n E 3 rfl dJ26_divideOneWord_107 ?_
    refine v_getf E in_J26 hoa_4 (ci := 9) rfl 1 (by decide) q1173 rfl (v := vi (n : Int)) rfl dJ26_divideOneWord_108 ?_
    refine v_putf E in_J26 tyJ26 tyJ26_ok nmJ26 hc_1 (ci := 9) rfl 1 (Nat.le_of_ble_eq_true rfl) q1173 rfl rfl rfl rfl (Nat.le_of_ble_eq_true rfl) (hAll _ (Or.inl rfl)) dJ26_divideOneWord_111 (fun H_9 hc_7 hs_8 => ?_)
    have hoa_10 := hoa_4.same hs_8 hne_a_c
    have hv_11 := hv_5.same hs_8 hne_v_c
    have hw9_12 := hw9_6.same hs_8 hne_w_c
    have hc_7 : hp κ H_9 c (.inr (9, [.ref w, vi (n : Int), vi 0])) := hc_7
    refine v_iload_n E 0 rfl dJ26_divideOneWord_114 ?_
    refine v_callS E (As := [vi (d : Int)]) (m_nlz κ H_9 (by omega) (by omega)) (lw_S q1272 q1210 q99 q1211) 1 (by decide +kernel) rfl (by decide) (by decide) (cb' := 0) (sb' := 0) (by decide) (by decide) rfl (rest := []) (Nat.le_of_ble_eq_true rfl) (fun q h => h.elim) dJ26_divideOneWord_115 (fun v_13 H_14 hpost_15 hz_16 hk_17 => ?_)
    clear hz_16
    obtain ⟨l, rfl, hl32, hl⟩ := hpost_15
    have hz_18 := hoa_10.kept (hk_17 _ hoa_10.lt (fun h => h))
    have hz_19 := hv_11.kept (hk_17 _ hv_11.lt (fun h => h))
    have hz_20 := hc_7.kept (hk_17 _ hc_7.lt (fun h => h))
    have hz_21 := hw9_12.kept (hk_17 _ hw9_12.lt (fun h => h))
    refine V.eq (st' := [vi (32 - (l : Int))]) rfl ?_
    have join_192 : ∀ (H : Heap) (f3 : Nat → Int) (r : Int), (r = (x : Int) / 2 ^ (32 * (n - 1)) % (d : Int)) → (∀ j, j < 1 → f3 j = bM ((x : Int) / (d : Int)) n j) → hp κ H a (.inr (9, [.ref v, vi (n : Int), vi (o : Int)])) → hp κ H v (eI κ cap f) → hp κ H c (.inr (9, [.ref w, vi (n : Int), vi 0])) → hp κ H w (eI κ qc2 f3) → V z H 0 0 192 [(7, vj r), (6, vi r), (5, vi (32 - (l : Int))), (1, vi (d : Int)), (3, vj (d : Int)), (2, .ref c), (0, .ref a)] [] := by
      intro H f3 r hr hf3 hoa hv hc hw9
      refine v_aload_n E 6 rfl dJ26_divideOneWord_192 ?_
      refine v_getf E in_J26 hoa (ci := 9) rfl 1 (by decide) q1173 rfl (v := vi (n : Int)) rfl dJ26_divideOneWord_193 ?_
      refine v_istore E dJ26_divideOneWord_196 (zlt hL rfl) (lv' := [(9, vi (n : Int)), (7, vj r), (6, vi r), (5, vi (32 - (l : Int))), (1, vi (d : Int)), (3, vj (d : Int)), (2, .ref c), (0, .ref a)]) rfl ?_
      have loop_198 : ∀ (m_198 : Nat) (H : Heap) (k : Nat) (f3 : Nat → Int) (u r : Int), n + 1 - k < m_198 → (1 ≤ k ∧ k ≤ n) → (u = (n : Int) - (k : Int) + 1) → (r = (x : Int) / 2 ^ (32 * (n - k)) % (d : Int)) → (∀ j, j < k → f3 j = bM ((x : Int) / (d : Int)) n j) → hp κ H a (.inr (9, [.ref v, vi (n : Int), vi (o : Int)])) → hp κ H v (eI κ cap f) → hp κ H c (.inr (9, [.ref w, vi (n : Int), vi 0])) → hp κ H w (eI κ qc2 f3) → V z H 0 0 198 [(9, vi u), (7, vj r), (6, vi r), (5, vi (32 - (l : Int))), (1, vi (d : Int)), (3, vj (d : Int)), (2, .ref c), (0, .ref a)] [] := by
        intro m_198
        induction m_198 with
        | zero => intro H k f3 u r hm; exact absurd hm (by omega)
        | succ m_198 ih_198 =>
          intro H k f3 u r hm_198 hk hu hr hf3 hoa hv hc hw9
          have hr0 : 0 ≤ r := by rw [hr]; exact Int.emod_nonneg _ (by omega)
          have hr1 : r < (d : Int) := by rw [hr]; exact Int.emod_lt_of_pos _ hdI.1
          refine v_iinc E 0 rfl dJ26_divideOneWord_198 (zlt hL rfl) (lv' := [(9, vi (u + (-1))), (7, vj r), (6, vi r), (5, vi (32 - (l : Int))), (1, vi (d : Int)), (3, vj (d : Int)), (2, .ref c), (0, .ref a)]) rfl ?_
          refine v_iload E 0 rfl dJ26_divideOneWord_201 ?_
          refine v_if_le E (tgt := 315) dJ26_divideOneWord_203 (by decide) ⟨by omega, by omega⟩ (fun c_203 => ?_) (fun c_203 => ?_)
          · refine v_aload_n E 6 rfl dJ26_divideOneWord_315 ?_
            have ek : k = n := by omega
            have hrr : r = ((x % d : Nat) : Int) := by rw [hr, ek, Nat.sub_self, Int.natCast_emod]; show (x : Int) / 1 % _ = _; rw [Int.ediv_one]
            have hds9 := div_small (d := (d : Int)) (Int.natCast_nonneg x) hdI.1 hn.2.1
            refine v_callV E (As := []) (b := c) (ci := 9) (C := RJ26) (T := TJ26) (N := 3) hc rfl (h_norm κ H (X := (x : Int) / (d : Int)) (f := f3) (o := 0) (n := n) hD (sB_div hn hdI.1) ⟨hc, hw9, by omega, by omega, fun j hj => by rw [Nat.zero_add]; exact hf3 j (by omega), hds9.1, hds9.2⟩) (lw_V q1241 q1242 q1243 q101 q1244) 0 (by decide +kernel) rfl (by decide) (by decide) (cb' := 0) (sb' := 0) (by decide) (by decide) rfl (rest := []) (Nat.le_of_ble_eq_true rfl) (fun q h => hAll q (Or.inl h)) dJ26_divideOneWord_316 (fun v_22 H_23 hpost_24 hz_25 hk_26 => ?_)
            clear hz_25
            obtain ⟨rfl, o2, n2, hc9, hb9, hn9, hW9, hI9⟩ := hpost_24
            have hz_27 := hoa.kept (hk_26 _ hoa.lt (fun h => hne_a_c h))
            have hz_28 := hv.kept (hk_26 _ hv.lt (fun h => hne_v_c h))
            have hz_29 := hw9.kept (hk_26 _ hw9.lt (fun h => hne_w_c h))
            refine V.eq (st' := []) rfl ?_
            refine v_iload E 3 rfl dJ26_divideOneWord_319 ?_
            refine v_if_le E (tgt := 329) dJ26_divideOneWord_321 (by decide) ⟨by omega, by omega⟩ (fun c_321 => ?_) (fun c_321 => ?_)
            · refine v_iload E 2 rfl dJ26_divideOneWord_329 ?_
              refine v_iret E hE dJ26_divideOneWord_331 ?_
              have eqd : ((x / d : Nat) : Int) = (x : Int) / (d : Int) := Int.natCast_ediv _ _
              rw [eqd]
              exact ⟨congrArg (fun t => some (vi t)) (hrr), w, o2, n2, qc2, f3, ⟨hc9, hz_29, by omega, hqc2.2, hW9, hds9.1, hI9.2.1⟩, hI9, hwf⟩
            · have hd31 : (d : Int) < 2147483648 := Int.lt_of_lt_of_le hl.1 (pw_mono (show l ≤ 31 by omega))
              have hrd := Nat.mod_lt x hd.1
              refine v_iload E 2 rfl dJ26_divideOneWord_324 ?_
              refine v_iload_n E 4 rfl dJ26_divideOneWord_326 ?_
              refine v_irem E ⟨by omega, by omega⟩ ⟨by omega, by omega⟩ (by omega) dJ26_divideOneWord_327 ?_
              refine v_iret E hE dJ26_divideOneWord_328 ?_
              have eqd : ((x / d : Nat) : Int) = (x : Int) / (d : Int) := Int.natCast_ediv _ _
              rw [eqd]
              exact ⟨congrArg (fun t => some (vi t)) (by rw [hrr, Int.tmod_eq_emod_of_nonneg (by omega), Int.emod_eq_of_lt (by omega) (by omega)]), w, o2, n2, qc2, f3, ⟨hc9, hz_29, by omega, hqc2.2, hW9, hds9.1, hI9.2.1⟩, hI9, hwf⟩
          · refine v_lload E 1 rfl dJ26_divideOneWord_206 ?_
            refine v_bipush E ⟨by decide, by decide⟩ dJ26_divideOneWord_208 ?_
            refine v_lshl E 32 (by decide) dJ26_divideOneWord_210 ?_
            refine v_aload_n E 7 rfl dJ26_divideOneWord_211 ?_
            refine v_getf E in_J26 hoa (ci := 9) rfl 0 (by decide) q1172 rfl (v := .ref v) rfl dJ26_divideOneWord_212 ?_
            refine v_aload_n E 7 rfl dJ26_divideOneWord_215 ?_
            refine v_getf E in_J26 hoa (ci := 9) rfl 2 (by decide) q1174 rfl (v := vi (o : Int)) rfl dJ26_divideOneWord_216 ?_
            refine v_aload_n E 7 rfl dJ26_divideOneWord_219 ?_
            refine v_getf E in_J26 hoa (ci := 9) rfl 1 (by decide) q1173 rfl (v := vi (n : Int)) rfl dJ26_divideOneWord_220 ?_
            refine v_iadd E dJ26_divideOneWord_223 ?_
            refine v_iload E 0 rfl dJ26_divideOneWord_224 ?_
            refine v_isub E dJ26_divideOneWord_226 ?_
            refine v_iald E dJ26_divideOneWord_227 hv (o + k) (by omega) (by omega) (by omega) ?_
            refine v_i2lLow E dJ26_divideOneWord_228 q1240 dJ26_divideOneWord_229 dJ26_divideOneWord_232 ?_
            have hdk := bM_in (x : Int) n k
            have hds := dw_dg (X := (x : Int)) (n := n) (k := k) hdI (by omega)
            rw [← hr] at hds
            change (r * 2 ^ 32 + bM (x : Int) n k) / (d : Int) = _ ∧ (r * 2 ^ 32 + bM (x : Int) n k) % (d : Int) = _ ∧ 0 ≤ (r * 2 ^ 32 + bM (x : Int) n k) ∧ (r * 2 ^ 32 + bM (x : Int) n k) < _ at hds
            refine V.topl (x' := bM (x : Int) n k) (congrArg jZ (by rw [hW k (by omega)]; omega)) ?_
            refine v_lor E (c := r * 2 ^ 32 + bM (x : Int) n k) (jZ_or ⟨by omega, by omega⟩ ⟨by omega, by omega⟩) dJ26_divideOneWord_233 ?_
            refine v_lstore E dJ26_divideOneWord_234 (zlt hL rfl) (lv' := [(10, vj (r * 2 ^ 32 + bM (x : Int) n k)), (9, vi (u + (-1))), (7, vj r), (6, vi r), (5, vi (32 - (l : Int))), (1, vi (d : Int)), (3, vj (d : Int)), (2, .ref c), (0, .ref a)]) rfl ?_
            refine v_lload E 0 rfl dJ26_divideOneWord_236 ?_
            have hq0 : 0 ≤ (r * 2 ^ 32 + bM (x : Int) n k) / (d : Int) := Int.ediv_nonneg hds.2.2.1 (by omega)
            have hq1 : (r * 2 ^ 32 + bM (x : Int) n k) / (d : Int) < 4294967296 := Int.ediv_lt_of_lt_mul hdI.1 (by have := hds.2.2.2; omega)
            have hm0 : 0 ≤ (r * 2 ^ 32 + bM (x : Int) n k) % (d : Int) := Int.emod_nonneg _ (by omega)
            have hm1 : (r * 2 ^ 32 + bM (x : Int) n k) % (d : Int) < (d : Int) := Int.emod_lt_of_pos _ hdI.1
            obtain ⟨E9, hE9⟩ : ∃ E9, E9 = (r * 2 ^ 32 + bM (x : Int) n k) := ⟨_, rfl⟩
            rw [← hE9] at hds hq0 hq1 hm0 hm1 ⊢
            by_cases hb : E9 < 9223372036854775808
            ·
              refine v_lconst E (x := 0) rfl dJ26_divideOneWord_238 ?_
              refine v_lc_lt E (tgt := 264) dJ26_divideOneWord_239 dJ26_divideOneWord_240 (by decide) ⟨by omega, by omega⟩ ⟨by omega, by omega⟩ (fun c_239 => absurd c_239 (by omega)) (fun c_239 => ?_)
              refine v_lload E 0 rfl dJ26_divideOneWord_243 ?_
              refine v_lload_n E 6 rfl dJ26_divideOneWord_245 ?_
              refine v_ldiv E ⟨by omega, by omega⟩ ⟨by omega, by omega⟩ (by omega) dJ26_divideOneWord_246 ?_
              refine V.topl (x' := E9 / (d : Int)) (congrArg jZ (Int.tdiv_eq_ediv_of_nonneg (by omega))) ?_
              refine v_l2i E dJ26_divideOneWord_247 ?_
              refine v_istore E dJ26_divideOneWord_248 (zlt hL rfl) (lv' := [(12, vi (E9 / (d : Int))), (10, vj E9), (9, vi (u + (-1))), (7, vj r), (6, vi r), (5, vi (32 - (l : Int))), (1, vi (d : Int)), (3, vj (d : Int)), (2, .ref c), (0, .ref a)]) rfl ?_
              refine v_lload E 1 rfl dJ26_divideOneWord_250 ?_
              refine v_iload E 0 rfl dJ26_divideOneWord_252 ?_
              refine V.topi (x' := ((E9 / (d : Int)) + 2147483648) % 4294967296 - 2147483648) (iZ_sg _) ?_
              refine v_i2l E ⟨by omega, by omega⟩ dJ26_divideOneWord_254 ?_
              refine v_lload_n E 7 rfl dJ26_divideOneWord_255 ?_
              refine v_lmul E dJ26_divideOneWord_256 ?_
              refine v_lsub E dJ26_divideOneWord_257 ?_
              refine v_l2i E dJ26_divideOneWord_258 ?_
              refine V.topi (x' := E9 % (d : Int)) (by rw [sg_mul_i]; exact congrArg iZ (by have := Int.mul_ediv_add_emod E9 (d : Int); rw [Int.mul_comm] at this; omega)) ?_
              refine v_istore E dJ26_divideOneWord_259 (zlt hL rfl) (lv' := [(6, vi (E9 % (d : Int))), (12, vi (E9 / (d : Int))), (10, vj E9), (9, vi (u + (-1))), (7, vj r), (5, vi (32 - (l : Int))), (1, vi (d : Int)), (3, vj (d : Int)), (2, .ref c), (0, .ref a)]) rfl ?_
              refine v_goto E (tgt := 289) dJ26_divideOneWord_261 (by decide) ?_
              refine v_aload_n E 8 rfl dJ26_divideOneWord_289 ?_
              refine v_getf E in_J26 hc (ci := 9) rfl 0 (by decide) q1172 rfl (v := .ref w) rfl dJ26_divideOneWord_290 ?_
              refine v_aload_n E 9 rfl dJ26_divideOneWord_293 ?_
              refine v_getf E in_J26 hoa (ci := 9) rfl 1 (by decide) q1173 rfl (v := vi (n : Int)) rfl dJ26_divideOneWord_294 ?_
              refine v_iload E 3 rfl dJ26_divideOneWord_297 ?_
              refine v_isub E dJ26_divideOneWord_299 ?_
              refine v_iload E 1 rfl dJ26_divideOneWord_300 ?_
              refine V.topi (x' := dg ((x : Int) / (d : Int)) (n - 1 - k)) (congrArg iZ hds.1) ?_
              refine v_iast E dJ26_divideOneWord_302 hw9 k (by omega) (by omega) (by omega) hAw (fun H_32 hw9_30 hs_31 => ?_)
              have hoa_33 := hoa.same hs_31 (Ne.symm hne_w_a)
              have hv_34 := hv.same hs_31 (Ne.symm hne_w_v)
              have hc_35 := hc.same hs_31 (Ne.symm hne_w_c)
              refine v_iload E 0 rfl dJ26_divideOneWord_303 ?_
              refine v_i2lLow E dJ26_divideOneWord_305 q1240 dJ26_divideOneWord_306 dJ26_divideOneWord_309 ?_
              refine V.topl (x' := E9 % (d : Int)) (congrArg jZ (by omega)) ?_
              refine v_lstore E dJ26_divideOneWord_310 (zlt hL rfl) (lv' := [(7, vj (E9 % (d : Int))), (6, vi (E9 % (d : Int))), (12, vi (E9 / (d : Int))), (10, vj E9), (9, vi (u + (-1))), (5, vi (32 - (l : Int))), (1, vi (d : Int)), (3, vj (d : Int)), (2, .ref c), (0, .ref a)]) rfl ?_
              refine v_goto E (tgt := 198) dJ26_divideOneWord_312 (by decide) ?_
              refine V.sub [4, 0, 1, 5, 6, 7, 8, 9] (lv' := [(9, vi (u + (-1))), (7, vj (E9 % (d : Int))), (6, vi (E9 % (d : Int))), (5, vi (32 - (l : Int))), (1, vi (d : Int)), (3, vj (d : Int)), (2, .ref c), (0, .ref a)]) rfl ?_
              exact ih_198  H_32 (k + 1) _ _ _ (by omega) ⟨by omega, by omega⟩ (by omega) hds.2.1 (fq_s hf3) hoa_33 hv_34 hc_35 hw9_30
            ·
              refine V.topl (x' := E9 - 18446744073709551616) (jZ_cong (by omega)) ?_
              refine v_lconst E (x := 0) rfl dJ26_divideOneWord_238 ?_
              refine v_lc_lt E (tgt := 264) dJ26_divideOneWord_239 dJ26_divideOneWord_240 (by decide) ⟨by omega, by omega⟩ ⟨by omega, by omega⟩ (fun c_239 => ?_) (fun c_239 => absurd c_239 (by omega))
              refine v_lload E 0 rfl dJ26_divideOneWord_264 ?_
              refine v_iload_n E 5 rfl dJ26_divideOneWord_266 ?_
              refine v_callS E (As := [vj E9, vi (d : Int)]) (h_divW κ H (N := E9) (d := (d : Int)) ⟨by omega, by omega⟩ hdI) (lw_S q1273 q1274 q101 q1275) 2 (by decide +kernel) rfl (by decide) (by decide) (cb' := 0) (sb' := 0) (by decide) (by decide) rfl (rest := []) (Nat.le_of_ble_eq_true rfl) (fun q h => h.elim) dJ26_divideOneWord_267 (fun v_36 H_37 hpost_38 hz_39 hk_40 => ?_)
              clear hz_39
              obtain rfl := hpost_38
              have hz_41 := hoa.kept (hk_40 _ hoa.lt (fun h => h))
              have hz_42 := hv.kept (hk_40 _ hv.lt (fun h => h))
              have hz_43 := hc.kept (hk_40 _ hc.lt (fun h => h))
              have hz_44 := hw9.kept (hk_40 _ hw9.lt (fun h => h))
              refine V.eq (st' := [vj ((E9 % (d : Int)) * 2 ^ 32 + E9 / (d : Int))]) rfl ?_
              refine v_lstore E dJ26_divideOneWord_270 (zlt hL rfl) (lv' := [(13, vj ((E9 % (d : Int)) * 2 ^ 32 + E9 / (d : Int))), (10, vj E9), (9, vi (u + (-1))), (7, vj r), (6, vi r), (5, vi (32 - (l : Int))), (1, vi (d : Int)), (3, vj (d : Int)), (2, .ref c), (0, .ref a)]) rfl ?_
              refine v_lload E 0 rfl dJ26_divideOneWord_272 ?_
              refine v_ldc2 E q1240 dJ26_divideOneWord_274 ?_
              refine v_landLow E dJ26_divideOneWord_277 ?_
              refine V.topl (x' := E9 / (d : Int)) (congrArg jZ (lowq hq0 hq1)) ?_
              refine v_l2i E dJ26_divideOneWord_278 ?_
              refine v_istore E dJ26_divideOneWord_279 (zlt hL rfl) (lv' := [(12, vi (E9 / (d : Int))), (13, vj ((E9 % (d : Int)) * 2 ^ 32 + E9 / (d : Int))), (10, vj E9), (9, vi (u + (-1))), (7, vj r), (6, vi r), (5, vi (32 - (l : Int))), (1, vi (d : Int)), (3, vj (d : Int)), (2, .ref c), (0, .ref a)]) rfl ?_
              refine v_lload E 1 rfl dJ26_divideOneWord_281 ?_
              refine v_bipush E ⟨by decide, by decide⟩ dJ26_divideOneWord_283 ?_
              refine v_lushr E 32 (by decide) dJ26_divideOneWord_285 ?_
              refine v_l2i E dJ26_divideOneWord_286 ?_
              refine V.topi (x' := E9 % (d : Int)) (congrArg iZ (hiq hm0 (by omega) hq0 hq1)) ?_
              refine v_istore E dJ26_divideOneWord_287 (zlt hL rfl) (lv' := [(6, vi (E9 % (d : Int))), (12, vi (E9 / (d : Int))), (13, vj ((E9 % (d : Int)) * 2 ^ 32 + E9 / (d : Int))), (10, vj E9), (9, vi (u + (-1))), (7, vj r), (5, vi (32 - (l : Int))), (1, vi (d : Int)), (3, vj (d : Int)), (2, .ref c), (0, .ref a)]) rfl ?_
              refine v_aload_n E 9 rfl dJ26_divideOneWord_289 ?_
              refine v_getf E in_J26 hz_43 (ci := 9) rfl 0 (by decide) q1172 rfl (v := .ref w) rfl dJ26_divideOneWord_290 ?_
              refine v_aload_n E 10 rfl dJ26_divideOneWord_293 ?_
              refine v_getf E in_J26 hz_41 (ci := 9) rfl 1 (by decide) q1173 rfl (v := vi (n : Int)) rfl dJ26_divideOneWord_294 ?_
              refine v_iload E 4 rfl dJ26_divideOneWord_297 ?_
              refine v_isub E dJ26_divideOneWord_299 ?_
              refine v_iload E 1 rfl dJ26_divideOneWord_300 ?_
              refine V.topi (x' := dg ((x : Int) / (d : Int)) (n - 1 - k)) (congrArg iZ hds.1) ?_
              refine v_iast E dJ26_divideOneWord_302 hz_44 k (by omega) (by omega) (by omega) hAw (fun H_47 hz_45 hs_46 => ?_)
              have hz_48 := hz_41.same hs_46 (Ne.symm hne_w_a)
              have hz_49 := hz_42.same hs_46 (Ne.symm hne_w_v)
              have hz_50 := hz_43.same hs_46 (Ne.symm hne_w_c)
              refine v_iload E 0 rfl dJ26_divideOneWord_303 ?_
              refine v_i2lLow E dJ26_divideOneWord_305 q1240 dJ26_divideOneWord_306 dJ26_divideOneWord_309 ?_
              refine V.topl (x' := E9 % (d : Int)) (congrArg jZ (by omega)) ?_
              refine v_lstore E dJ26_divideOneWord_310 (zlt hL rfl) (lv' := [(7, vj (E9 % (d : Int))), (6, vi (E9 % (d : Int))), (12, vi (E9 / (d : Int))), (13, vj ((E9 % (d : Int)) * 2 ^ 32 + E9 / (d : Int))), (10, vj E9), (9, vi (u + (-1))), (5, vi (32 - (l : Int))), (1, vi (d : Int)), (3, vj (d : Int)), (2, .ref c), (0, .ref a)]) rfl ?_
              refine v_goto E (tgt := 198) dJ26_divideOneWord_312 (by decide) ?_
              refine V.sub [5, 0, 1, 6, 7, 8, 9, 10] (lv' := [(9, vi (u + (-1))), (7, vj (E9 % (d : Int))), (6, vi (E9 % (d : Int))), (5, vi (32 - (l : Int))), (1, vi (d : Int)), (3, vj (d : Int)), (2, .ref c), (0, .ref a)]) rfl ?_
              exact ih_198  H_47 (k + 1) _ _ _ (by omega) ⟨by omega, by omega⟩ (by omega) hds.2.1 (fq_s hf3) hz_48 hz_49 hz_50 hz_45
      exact loop_198 ((n + 1) + 1) H 1 f3 _ r (by omega) ⟨by omega, by omega⟩ (by omega) hr hf3 hoa hv hc hw9
    refine v_istore E dJ26_divideOneWord_118 (zlt hL rfl) (lv' := [(5, vi (32 - (l : Int))), (1, vi (d : Int)), (3, vj (d : Int)), (2, .ref c), (0, .ref a)]) rfl ?_
    refine v_aload_n E 4 rfl dJ26_divideOneWord_120 ?_
    refine v_getf E in_J26 hz_18 (ci := 9) rfl 0 (by decide) q1172 rfl (v := .ref v) rfl dJ26_divideOneWord_121 ?_
    refine v_aload_n E 4 rfl dJ26_divideOneWord_124 ?_
    refine v_getf E in_J26 hz_18 (ci := 9) rfl 2 (by decide) q1174 rfl (v := vi (o : Int)) rfl dJ26_divideOneWord_125 ?_
    refine v_iald E dJ26_divideOneWord_128 hz_19 o rfl (by omega) (by omega) ?_
    have ht0 := bM_in (x : Int) n 0
    have hd0 := dw_dg (X := (x : Int)) (n := n) (k := 0) hdI hpn
    rw [show (x : Int) / 2 ^ (32 * (n - 0)) = 0 from Int.ediv_eq_zero_of_lt (by omega) hn.2.1, Int.zero_emod, Int.zero_mul, Int.zero_add] at hd0
    change bM (x : Int) n 0 / (d : Int) = _ ∧ bM (x : Int) n 0 % (d : Int) = _ ∧ _ at hd0
    refine V.topi (x' := bM (x : Int) n 0) (congrArg iZ (hW 0 hpn)) ?_
    refine v_istore E dJ26_divideOneWord_129 (zlt hL rfl) (lv' := [(6, vi (bM (x : Int) n 0)), (5, vi (32 - (l : Int))), (1, vi (d : Int)), (3, vj (d : Int)), (2, .ref c), (0, .ref a)]) rfl ?_
    refine v_iload E 0 rfl dJ26_divideOneWord_131 ?_
    refine v_i2lLow E dJ26_divideOneWord_133 q1240 dJ26_divideOneWord_134 dJ26_divideOneWord_137 ?_
    refine V.topl (x' := bM (x : Int) n 0) (congrArg jZ (by omega)) ?_
    refine v_lstore E dJ26_divideOneWord_138 (zlt hL rfl) (lv' := [(7, vj (bM (x : Int) n 0)), (6, vi (bM (x : Int) n 0)), (5, vi (32 - (l : Int))), (1, vi (d : Int)), (3, vj (d : Int)), (2, .ref c), (0, .ref a)]) rfl ?_
    refine v_lload E 0 rfl dJ26_divideOneWord_140 ?_
    refine v_lload_n E 4 rfl dJ26_divideOneWord_142 ?_
    refine v_lc_ge E (tgt := 157) dJ26_divideOneWord_143 dJ26_divideOneWord_144 (by decide) ⟨by omega, by omega⟩ ⟨by omega, by omega⟩ (fun c_143 => ?_) (fun c_143 => ?_)
    · refine v_aload_n E 5 rfl dJ26_divideOneWord_157 ?_
      refine v_getf E in_J26 hz_20 (ci := 9) rfl 0 (by decide) q1172 rfl (v := .ref w) rfl dJ26_divideOneWord_158 ?_
      refine v_iconst E dJ26_divideOneWord_161 ?_
      refine v_lload E 0 rfl dJ26_divideOneWord_162 ?_
      refine v_lload_n E 4 rfl dJ26_divideOneWord_164 ?_
      refine v_ldiv E ⟨by omega, by omega⟩ ⟨by omega, by omega⟩ (by omega) dJ26_divideOneWord_165 ?_
      refine V.topl (x' := bM (x : Int) n 0 / (d : Int)) (congrArg jZ (Int.tdiv_eq_ediv_of_nonneg (by omega))) ?_
      refine v_l2i E dJ26_divideOneWord_166 ?_
      refine V.topi (x' := dg ((x : Int) / (d : Int)) (n - 1 - 0)) (congrArg iZ hd0.1) ?_
      refine v_iast E dJ26_divideOneWord_167 hz_21 0 rfl (by omega) (by omega) hAw (fun H_53 hz_51 hs_52 => ?_)
      have hz_54 := hz_18.same hs_52 (Ne.symm hne_w_a)
      have hz_55 := hz_19.same hs_52 (Ne.symm hne_w_v)
      have hz_56 := hz_20.same hs_52 (Ne.symm hne_w_c)
      refine v_lload E 0 rfl dJ26_divideOneWord_168 ?_
      refine v_aload_n E 5 rfl dJ26_divideOneWord_170 ?_
      refine v_getf E in_J26 hz_56 (ci := 9) rfl 0 (by decide) q1172 rfl (v := .ref w) rfl dJ26_divideOneWord_171 ?_
      refine v_iconst E dJ26_divideOneWord_174 ?_
      refine v_iald E dJ26_divideOneWord_175 hz_51 0 rfl (by omega) (by omega) ?_
      refine V.topi (x' := bM (x : Int) n 0 / (d : Int)) (congrArg iZ (by rw [va_up_self]; exact hd0.1.symm)) ?_
      refine V.topi (x' := ((bM (x : Int) n 0 / (d : Int)) + 2147483648) % 4294967296 - 2147483648) (iZ_sg _) ?_
      refine v_i2l E ⟨by omega, by omega⟩ dJ26_divideOneWord_176 ?_
      refine v_lload_n E 4 rfl dJ26_divideOneWord_177 ?_
      refine v_lmul E dJ26_divideOneWord_178 ?_
      refine v_lsub E dJ26_divideOneWord_179 ?_
      refine v_l2i E dJ26_divideOneWord_180 ?_
      have hm0 := Int.emod_nonneg (bM (x : Int) n 0) (Int.ne_of_gt hdI.1)
      have hm1 := Int.emod_lt_of_pos (bM (x : Int) n 0) hdI.1
      refine V.topi (x' := bM (x : Int) n 0 % (d : Int)) (by rw [sg_mul_i]; exact congrArg iZ (by have := Int.mul_ediv_add_emod (bM (x : Int) n 0) (d : Int); rw [Int.mul_comm] at this; omega)) ?_
      refine v_istore E dJ26_divideOneWord_181 (zlt hL rfl) (lv' := [(6, vi (bM (x : Int) n 0 % (d : Int))), (7, vj (bM (x : Int) n 0)), (5, vi (32 - (l : Int))), (1, vi (d : Int)), (3, vj (d : Int)), (2, .ref c), (0, .ref a)]) rfl ?_
      refine v_iload E 0 rfl dJ26_divideOneWord_183 ?_
      refine v_i2lLow E dJ26_divideOneWord_185 q1240 dJ26_divideOneWord_186 dJ26_divideOneWord_189 ?_
      refine V.topl (x' := bM (x : Int) n 0 % (d : Int)) (congrArg jZ (by omega)) ?_
      have hr0 : bM (x : Int) n 0 % (d : Int) = (x : Int) / 2 ^ (32 * (n - 1)) % (d : Int) := hd0.2.1
      have hf0 := fq_s (f := fw) (Z := (x : Int) / (d : Int)) (n := n) (k := 0) (fun j hj => absurd hj (by omega))
      refine v_lstore E dJ26_divideOneWord_190 (zlt hL rfl) (lv' := [(7, vj (bM (x : Int) n 0 % (d : Int))), (6, vi (bM (x : Int) n 0 % (d : Int))), (5, vi (32 - (l : Int))), (1, vi (d : Int)), (3, vj (d : Int)), (2, .ref c), (0, .ref a)]) rfl ?_
      exact join_192 H_53 _ _ hr0 hf0 hz_54 hz_55 hz_56 hz_51
    · refine v_aload_n E 5 rfl dJ26_divideOneWord_147 ?_
      refine v_getf E in_J26 hz_20 (ci := 9) rfl 0 (by decide) q1172 rfl (v := .ref w) rfl dJ26_divideOneWord_148 ?_
      refine v_iconst E dJ26_divideOneWord_151 ?_
      refine v_iconst E dJ26_divideOneWord_152 ?_
      have hq0 : bM (x : Int) n 0 / (d : Int) = 0 := Int.ediv_eq_zero_of_lt (by omega) (by omega)
      have hm0 : bM (x : Int) n 0 % (d : Int) = bM (x : Int) n 0 := Int.emod_eq_of_lt (by omega) (by omega)
      refine V.topi (x' := dg ((x : Int) / (d : Int)) (n - 1 - 0)) (congrArg iZ (by rw [← hd0.1]; exact hq0.symm)) ?_
      refine v_iast E dJ26_divideOneWord_153 hz_21 0 rfl (by omega) (by omega) hAw (fun H_59 hz_57 hs_58 => ?_)
      have hz_60 := hz_18.same hs_58 (Ne.symm hne_w_a)
      have hz_61 := hz_19.same hs_58 (Ne.symm hne_w_v)
      have hz_62 := hz_20.same hs_58 (Ne.symm hne_w_c)
      have hr0 : bM (x : Int) n 0 = (x : Int) / 2 ^ (32 * (n - 1)) % (d : Int) := by rw [← hm0]; exact hd0.2.1
      have hf0 := fq_s (f := fw) (Z := (x : Int) / (d : Int)) (n := n) (k := 0) (fun j hj => absurd hj (by omega))
      refine v_goto E (tgt := 192) dJ26_divideOneWord_154 (by decide) ?_
      exact join_192 H_59 _ _ hr0 hf0 hz_60 hz_61 hz_62 hz_57
  refine v_iload_n E 1 rfl dJ26_divideOneWord_0 ?_
  refine v_i2lLow E dJ26_divideOneWord_1 q1240 dJ26_divideOneWord_2 dJ26_divideOneWord_5 ?_
  refine V.topl (x' := (d : Int)) (congrArg jZ (by omega)) ?_
  refine v_lstore_n E dJ26_divideOneWord_6 (zlt hL rfl) (lv' := [(3, vj (d : Int)), (0, .ref a), (1, vi (d : Int)), (2, .ref c)]) rfl ?_
  refine v_aload_n E 1 rfl dJ26_divideOneWord_7 ?_
  refine v_getf E in_J26 hoa (ci := 9) rfl 1 (by decide) q1173 rfl (v := vi (n : Int)) rfl dJ26_divideOneWord_8 ?_
  refine v_iconst E dJ26_divideOneWord_11 ?_
  refine v_icmp_ne E (tgt := 79) dJ26_divideOneWord_12 (by decide) ⟨by omega, by omega⟩ ⟨by omega, by omega⟩ (fun c_12 => ?_) (fun c_12 => ?_)
  · refine v_aload_n E 3 rfl dJ26_divideOneWord_79 ?_
    refine v_getf E in_J26 hc (ci := 9) rfl 0 (by decide) q1172 rfl (v := .ref qv) rfl dJ26_divideOneWord_80 ?_
    refine v_alen E dJ26_divideOneWord_83 (t := 0) (ty := .int) hq rfl ?_
    refine v_aload_n E 1 rfl dJ26_divideOneWord_84 ?_
    refine v_getf E in_J26 hoa (ci := 9) rfl 1 (by decide) q1173 rfl (v := vi (n : Int)) rfl dJ26_divideOneWord_85 ?_
    refine v_icmp_ge E (tgt := 101) dJ26_divideOneWord_88 (by decide) ⟨by omega, by omega⟩ ⟨by omega, by omega⟩ (fun c_88 => ?_) (fun c_88 => ?_)
    · refine V.sub [2, 0, 3, 1] (lv' := [(1, vi (d : Int)), (3, vj (d : Int)), (2, .ref c), (0, .ref a)]) rfl ?_
      refine V.less (Nat.zero_le _) (Nat.zero_le _) ?_
      exact join_101 H0 qv qc fq (by omega) ⟨by omega, hqc.2⟩ (Or.inl rfl) (hAll _ (Or.inr rfl)) hne_qv_a hne_qv_c (Ne.symm hne_v_qv) hoa hv hc hq
    · refine v_aload_n E 3 rfl dJ26_divideOneWord_91 ?_
      refine v_aload_n E 1 rfl dJ26_divideOneWord_92 ?_
      refine v_getf E in_J26 hoa (ci := 9) rfl 1 (by decide) q1173 rfl (v := vi (n : Int)) rfl dJ26_divideOneWord_93 ?_
      refine V.frame (fun hfz_fr_63 hfk_fr_63 => ?_)
      rw [hH0] at hfz_fr_63 hfk_fr_63
      rw [hA0] at hfk_fr_63
      refine v_newI E (n := n) q511 (by omega) rfl (cb' := (1 - 1)) (sb' := (n - n)) (by omega) (by omega) dJ26_divideOneWord_96 (fun q H_64 hq_67 hn_65 hg_66 => ?_)
      have hne_a_q : a ≠ q := by have := hoa.lt; omega
      have hne_v_q : v ≠ q := by have := hv.lt; omega
      have hne_c_q : c ≠ q := by have := hc.lt; omega
      have hne_qv_q : qv ≠ q := by have := hq.lt; omega
      have hoa_72 := hoa.grow hg_66
      have hv_73 := hv.grow hg_66
      have hc_74 := hc.grow hg_66
      have hq_75 := hq.grow hg_66
      refine v_putf E in_J26 tyJ26 tyJ26_ok nmJ26 hc_74 (ci := 9) rfl 0 (Nat.le_of_ble_eq_true rfl) q1172 rfl rfl rfl rfl (Nat.le_of_ble_eq_true rfl) (hAll _ (Or.inl rfl)) dJ26_divideOneWord_98 (fun H_78 hc_76 hs_77 => ?_)
      have hoa_79 := hoa_72.same hs_77 hne_a_c
      have hv_80 := hv_73.same hs_77 hne_v_c
      have hq_81 := hq_75.same hs_77 hne_qv_c
      have hn_82 := hn_65.same hs_77 (Ne.symm hne_c_q)
      have hc_76 : hp κ H_78 c (.inr (9, [.ref q, vi i9, vi o9])) := hc_76
      refine V.sub [2, 0, 3, 1] (lv' := [(1, vi (d : Int)), (3, vj (d : Int)), (2, .ref c), (0, .ref a)]) rfl ?_
      refine V.less (Nat.zero_le _) (Nat.zero_le _) ?_
      exact join_101 H_78 q n (fun _ => 0) (by omega) ⟨by omega, by omega⟩ (Or.inr (by omega)) (hNew _ (by omega)) (Ne.symm hne_a_q) (Ne.symm hne_c_q) (Ne.symm hne_v_q) hoa_79 hv_80 hc_76 hn_82
  · refine v_aload_n E 1 rfl dJ26_divideOneWord_15 ?_
    refine v_getf E in_J26 hoa (ci := 9) rfl 0 (by decide) q1172 rfl (v := .ref v) rfl dJ26_divideOneWord_16 ?_
    refine v_aload_n E 1 rfl dJ26_divideOneWord_19 ?_
    refine v_getf E in_J26 hoa (ci := 9) rfl 2 (by decide) q1174 rfl (v := vi (o : Int)) rfl dJ26_divideOneWord_20 ?_
    refine v_iald E dJ26_divideOneWord_23 hv o rfl (by omega) (by omega) ?_
    refine v_i2lLow E dJ26_divideOneWord_24 q1240 dJ26_divideOneWord_25 dJ26_divideOneWord_28 ?_
    have e1 : n = 1 := by omega
    have hx1 : (x : Int) < 4294967296 := by have := hn.2.1; rw [e1] at this; exact this
    have hdig : f o = (x : Int) := by
      have h9 := hW 0 hpn
      rw [Nat.add_zero] at h9
      rw [h9, e1]
      unfold bM
      rw [dg_0]
      exact Int.emod_eq_of_lt (by omega) hx1
    refine V.topl (x' := (x : Int)) (congrArg jZ (by rw [hdig]; omega)) ?_
    refine v_lstore E dJ26_divideOneWord_29 (zlt hL rfl) (lv' := [(5, vj (x : Int)), (3, vj (d : Int)), (0, .ref a), (1, vi (d : Int)), (2, .ref c)]) rfl ?_
    refine v_lload E 0 rfl dJ26_divideOneWord_31 ?_
    refine v_lload_n E 1 rfl dJ26_divideOneWord_33 ?_
    refine v_ldiv E ⟨by omega, by omega⟩ ⟨by omega, by omega⟩ (by omega) dJ26_divideOneWord_34 ?_
    have hq1 : 1 ≤ (x : Int) / (d : Int) := Int.le_ediv_of_mul_le (by omega) (by omega)
    have hq2 : (x : Int) / (d : Int) ≤ (x : Int) := Int.ediv_le_self _ (by omega)
    refine V.topl (x' := (x : Int) / (d : Int)) (congrArg jZ (Int.tdiv_eq_ediv_of_nonneg (by omega))) ?_
    refine v_l2i E dJ26_divideOneWord_35 ?_
    refine v_istore E dJ26_divideOneWord_36 (zlt hL rfl) (lv' := [(7, vi ((x : Int) / (d : Int))), (5, vj (x : Int)), (3, vj (d : Int)), (0, .ref a), (1, vi (d : Int)), (2, .ref c)]) rfl ?_
    refine v_lload E 1 rfl dJ26_divideOneWord_38 ?_
    refine v_iload E 0 rfl dJ26_divideOneWord_40 ?_
    refine V.topi (x' := (((x : Int) / (d : Int)) + 2147483648) % 4294967296 - 2147483648) (iZ_sg _) ?_
    refine v_i2l E ⟨by omega, by omega⟩ dJ26_divideOneWord_42 ?_
    refine v_lload_n E 2 rfl dJ26_divideOneWord_43 ?_
    refine v_lmul E dJ26_divideOneWord_44 ?_
    refine v_lsub E dJ26_divideOneWord_45 ?_
    refine v_l2i E dJ26_divideOneWord_46 ?_
    refine V.topi (x' := ((x % d : Nat) : Int)) (by rw [sg_mul_i]; exact congrArg iZ (by have := Int.mul_ediv_add_emod (x : Int) (d : Int); rw [Int.mul_comm] at this; rw [Int.natCast_emod]; omega)) ?_
    refine v_istore E dJ26_divideOneWord_47 (zlt hL rfl) (lv' := [(8, vi ((x % d : Nat) : Int)), (7, vi ((x : Int) / (d : Int))), (5, vj (x : Int)), (3, vj (d : Int)), (0, .ref a), (1, vi (d : Int)), (2, .ref c)]) rfl ?_
    refine v_aload_n E 6 rfl dJ26_divideOneWord_49 ?_
    refine v_getf E in_J26 hc (ci := 9) rfl 0 (by decide) q1172 rfl (v := .ref qv) rfl dJ26_divideOneWord_50 ?_
    refine v_iconst E dJ26_divideOneWord_53 ?_
    refine v_iload E 1 rfl dJ26_divideOneWord_54 ?_
    refine v_iast E dJ26_divideOneWord_56 hq 0 rfl (by omega) (by omega) (hAll _ (Or.inr rfl)) (fun H_85 hq_83 hs_84 => ?_)
    have hoa_86 := hoa.same hs_84 (Ne.symm hne_qv_a)
    have hv_87 := hv.same hs_84 hne_v_qv
    have hc_88 := hc.same hs_84 (Ne.symm hne_qv_c)
    refine v_aload_n E 6 rfl dJ26_divideOneWord_57 ?_
    refine v_iload E 1 rfl dJ26_divideOneWord_58 ?_
    refine V.topi (x' := (((x : Int) / (d : Int)) + 2147483648) % 4294967296 - 2147483648) (iZ_sg _) ?_
    refine v_if_ne E (tgt := 67) dJ26_divideOneWord_60 (by decide) ⟨by omega, by omega⟩ (fun c_60 => ?_) (fun c_60 => absurd c_60 (by omega))
    refine v_iconst E dJ26_divideOneWord_67 ?_
    refine v_putf E in_J26 tyJ26 tyJ26_ok nmJ26 hc_88 (ci := 9) rfl 1 (Nat.le_of_ble_eq_true rfl) q1173 rfl rfl rfl rfl (Nat.le_of_ble_eq_true rfl) (hAll _ (Or.inl rfl)) dJ26_divideOneWord_68 (fun H_91 hc_89 hs_90 => ?_)
    have hoa_92 := hoa_86.same hs_90 hne_a_c
    have hv_93 := hv_87.same hs_90 hne_v_c
    have hq_94 := hq_83.same hs_90 hne_qv_c
    have hc_89 : hp κ H_91 c (.inr (9, [.ref qv, vi 1, vi o9])) := hc_89
    refine v_aload_n E 6 rfl dJ26_divideOneWord_71 ?_
    refine v_iconst E dJ26_divideOneWord_72 ?_
    refine v_putf E in_J26 tyJ26 tyJ26_ok nmJ26 hc_89 (ci := 9) rfl 2 (Nat.le_of_ble_eq_true rfl) q1174 rfl rfl rfl rfl (Nat.le_of_ble_eq_true rfl) (hAll _ (Or.inl rfl)) dJ26_divideOneWord_73 (fun H_97 hc_95 hs_96 => ?_)
    have hoa_98 := hoa_92.same hs_96 hne_a_c
    have hv_99 := hv_93.same hs_96 hne_v_c
    have hq_100 := hq_94.same hs_96 hne_qv_c
    have hc_95 : hp κ H_97 c (.inr (9, [.ref qv, vi 1, vi 0])) := hc_95
    refine v_iload E 0 rfl dJ26_divideOneWord_76 ?_
    refine v_iret E hE dJ26_divideOneWord_78 ?_
    have eqd : ((x / d : Nat) : Int) = (x : Int) / (d : Int) := Int.natCast_ediv _ _
    rw [eqd]
    have hI1 : isInts ((x : Int) / (d : Int)) 1 := ints_1 (by omega) (by omega)
    exact ⟨rfl, qv, 0, 1, qc, _, ⟨hc_95, hq_100, by omega, hqc.2, fun j hj => by rw [show j = 0 by omega, Nat.zero_add, va_up_self]; unfold bM; rw [dg_0]; exact (Int.emod_eq_of_lt (by omega) (by omega)).symm, by omega, hI1.2.1⟩, hI1, Or.inl rfl⟩
