theorem sh_ints {X : Int} {E s L : Nat} (hB : isBits X E) (hE : 0 < E) (h1 : E + s ≤ 32 * L) (h2 : 32 * (L - 1) ≤ E - 1 + s) (hs : sB (X * 2 ^ s)) : isInts (X * 2 ^ s) L := by
  have ha : X * 2 ^ s < 2 ^ (32 * L) := by
    have := Int.mul_lt_mul_of_pos_right hB.1 (p2 s)
    rw [← Int.pow_add] at this
    exact Int.lt_of_lt_of_le this (pw_mono h1)
  have hb : 2 ^ (32 * (L - 1)) ≤ X * 2 ^ s := by
    have := Int.mul_le_mul_of_nonneg_right (hB.2 hE) (Int.le_of_lt (p2 s))
    rw [← Int.pow_add] at this
    exact Int.le_trans (pw_mono h2) this
  exact ⟨hs.n (fun _ => hb), ha, fun _ => hb⟩
theorem grow_win {f : Nat → Int} {X : Int} {n o L : Nat} (hL : n ≤ L) (hf : ∀ j, j < n → f (o + j) = bM X n j) (hz : ∀ j, n ≤ j → j < L → f (o + j) = 0) : ∀ k, k < L → f (o + k) = bM (X * 2 ^ (32 * (L - n))) L k := by
  intro k hk
  by_cases c : k < n
  · rw [hf k c]
    unfold bM
    rw [show L - 1 - k = L - n + (n - 1 - k) by omega, dg_far]
  · rw [hz k (by omega) hk]
    unfold bM
    have := dg_shl_lo X (L - n) 0 (L - 1 - k) (by decide) (by omega)
    rw [Nat.add_zero] at this
    rw [this]
theorem up_pos {f g : Nat → Int} {i : Nat} {x : Int} {j : Nat} (h : j ≠ i) (e : f j = g j) : va_up f i x j = g j := by rw [va_up_ne _ _ h]; exact e
set_option maxHeartbeats 400000 in
set_option maxRecDepth 100000 in
theorem h_setv (κ : zK) (H0 : Heap) {a v w n o : Nat} {L : Nat} (hoa : hp κ H0 a (.inr (9, [.ref v, vi (n : Int), vi (o : Int)])))  : Mt κ yJ26_setValue cJ26_setValue 3 (none) 0 0 0 0 H0 [.ref a, .ref w, vi (L : Int)] (fun q => q = a) (fun v9 H1 => v9 = none ∧ hp κ H1 a (.inr (9, [.ref w, vi (L : Int), vi 0]))) := by
  refine Mt.of (by decide) (Nat.le_of_ble_eq_true rfl) ?_
  intro z E hE hH0 hA0 hL hini
  have hAll : ∀ q, (fun q => q = a) q → zA z.A z.H0 q := fun q h => Or.inl (by rw [hA0]; exact h)
  have hNew : ∀ q, H0.size ≤ q → zA z.A z.H0 q := fun q h => Or.inr (by rw [hH0]; exact h)
  have E : zOK z cJ26_setValue RJ26 κ 0 0 (none) := E
  refine V.eqL (lv' := [(0, .ref a), (1, .ref w), (2, vi (L : Int))]) rfl ?_
  refine v_aload_n E 0 rfl dJ26_setValue_0 ?_
  refine v_aload_n E 1 rfl dJ26_setValue_1 ?_
  refine v_putf E in_J26 tyJ26 tyJ26_ok nmJ26 hoa (ci := 9) rfl 0 (Nat.le_of_ble_eq_true rfl) q1172 rfl rfl rfl rfl (Nat.le_of_ble_eq_true rfl) (hAll _ rfl) dJ26_setValue_2 (fun H_3 hoa_1 hs_2 => ?_)
  have hoa_1 : hp κ H_3 a (.inr (9, [.ref w, vi (n : Int), vi (o : Int)])) := hoa_1
  refine v_aload_n E 0 rfl dJ26_setValue_5 ?_
  refine v_iload_n E 2 rfl dJ26_setValue_6 ?_
  refine v_putf E in_J26 tyJ26 tyJ26_ok nmJ26 hoa_1 (ci := 9) rfl 1 (Nat.le_of_ble_eq_true rfl) q1173 rfl rfl rfl rfl (Nat.le_of_ble_eq_true rfl) (hAll _ rfl) dJ26_setValue_7 (fun H_6 hoa_4 hs_5 => ?_)
  have hoa_4 : hp κ H_6 a (.inr (9, [.ref w, vi (L : Int), vi (o : Int)])) := hoa_4
  refine v_aload_n E 0 rfl dJ26_setValue_10 ?_
  refine v_iconst E dJ26_setValue_11 ?_
  refine v_putf E in_J26 tyJ26 tyJ26_ok nmJ26 hoa_4 (ci := 9) rfl 2 (Nat.le_of_ble_eq_true rfl) q1174 rfl rfl rfl rfl (Nat.le_of_ble_eq_true rfl) (hAll _ rfl) dJ26_setValue_12 (fun H_9 hoa_7 hs_8 => ?_)
  have hoa_7 : hp κ H_9 a (.inr (9, [.ref w, vi (L : Int), vi 0])) := hoa_7
  refine v_vret E hE dJ26_setValue_15 ?_
  exact ⟨rfl, hoa_7⟩

set_option maxHeartbeats 2000000 in
set_option maxRecDepth 100000 in
/-- a shift to the left -/
theorem h_lsh (κ : zK) (H0 : Heap) {a v o n cap : Nat} {f : Nat → Int} {X : Int} {u b : Nat} (hD : zDist κ) (hb : b ≤ 31) (hu : u ≤ 48) (hub : 0 < 32 * u + b) (hn : isInts X n) (hpn : 0 < n) (hs : sB (X * 2 ^ (32 * u + b))) (hM : MI κ H0 a v o n cap f X)  : Mt κ yJ26_leftShift cJ26_leftShift 8 (none) 2 41 1 (n + u + 1) H0 [.ref a, vi ((32 * u + b : Nat) : Int)] (fun q => q = a ∨ q = v) (fun v9 H1 => v9 = none ∧ ∃ (v2 o2 n2 cap2 : Nat) (f2 : Nat → Int), MI κ H1 a v2 o2 n2 cap2 f2 (X * 2 ^ (32 * u + b)) ∧ isInts (X * 2 ^ (32 * u + b)) n2 ∧ (v2 = v ∨ H0.size ≤ v2)) := by
  refine Mt.of (by decide) (Nat.le_of_ble_eq_true rfl) ?_
  intro z E hE hH0 hA0 hL hini
  have hAll : ∀ q, (fun q => q = a ∨ q = v) q → zA z.A z.H0 q := fun q h => Or.inl (by rw [hA0]; exact h)
  have hNew : ∀ q, H0.size ≤ q → zA z.A z.H0 q := fun q h => Or.inr (by rw [hH0]; exact h)
  have E : zOK z cJ26_leftShift RJ26 κ 2 41 (none) := E
  refine V.eqL (lv' := [(0, .ref a), (1, vi ((32 * u + b : Nat) : Int))]) rfl ?_
  obtain ⟨hoa, hv, hcap, hc2, hW, hX0, hX1⟩ := hM
  have hne_v_a : v ≠ a := Ne.symm (hp.ka hD hoa hv (by decide) (by decide))
  have h48 := hn.1
  refine v_aload_n E 0 rfl dJ26_leftShift_0 ?_
  refine v_getf E in_J26 hoa (ci := 9) rfl 1 (by decide) q1173 rfl (v := vi (n : Int)) rfl dJ26_leftShift_1 ?_
  refine v_if_ne E (tgt := 8) dJ26_leftShift_4 (by decide) ⟨by omega, by omega⟩ (fun c_4 => ?_) (fun c_4 => absurd c_4 (by omega))
  refine v_iload_n E 1 rfl dJ26_leftShift_8 ?_
  refine v_iconst E dJ26_leftShift_9 ?_
  refine v_iushr E 5 (by decide) dJ26_leftShift_10 ?_
  refine V.topi (x' := (u : Int)) (congrArg iZ (by omega)) ?_
  refine v_istore_n E dJ26_leftShift_11 (zlt hL rfl) (lv' := [(2, vi (u : Int)), (0, .ref a), (1, vi ((32 * u + b : Nat) : Int))]) rfl ?_
  refine v_iload_n E 2 rfl dJ26_leftShift_12 ?_
  refine v_bipush E ⟨by decide, by decide⟩ dJ26_leftShift_13 ?_
  refine v_iand E (c := (b : Int)) (iZ_andN (a := 32 * u + b) (b := 31) (by omega) (by decide) (by rw [show 31 = 2 ^ 5 - 1 by decide, Nat.and_two_pow_sub_one_eq_mod]; omega)) dJ26_leftShift_15 ?_
  refine v_istore_n E dJ26_leftShift_16 (zlt hL rfl) (lv' := [(3, vi (b : Int)), (2, vi (u : Int)), (0, .ref a), (1, vi ((32 * u + b : Nat) : Int))]) rfl ?_
  refine v_aload_n E 2 rfl dJ26_leftShift_17 ?_
  refine v_getf E in_J26 hoa (ci := 9) rfl 0 (by decide) q1172 rfl (v := .ref v) rfl dJ26_leftShift_18 ?_
  refine v_aload_n E 2 rfl dJ26_leftShift_21 ?_
  refine v_getf E in_J26 hoa (ci := 9) rfl 2 (by decide) q1174 rfl (v := vi (o : Int)) rfl dJ26_leftShift_22 ?_
  refine v_iald E dJ26_leftShift_25 hv o rfl (by omega) (by omega) ?_
  refine V.topi (x' := bM X n 0) (congrArg iZ (hW 0 hpn)) ?_
  refine v_callS E (As := [vi (bM X n 0)]) (h_bl κ H0 (bM_in X n 0).1 (bM_in X n 0).2) (lw_S q1206 q1207 q91 q1208) 1 (by decide +kernel) rfl (by decide) (by decide) (cb' := (1 - 0)) (sb' := ((n + u + 1) - 0)) (by omega) (by omega) rfl (rest := []) (Nat.le_of_ble_eq_true rfl) (fun q h => h.elim) dJ26_leftShift_26 (fun v_1 H_2 hpost_3 hz_4 hk_5 => ?_)
  clear hz_4
  obtain ⟨l, rfl, hl32, hl⟩ := hpost_3
  have hoa_6 := hoa.kept (hk_5 _ hoa.lt (fun h => h))
  have hv_7 := hv.kept (hk_5 _ hv.lt (fun h => h))
  refine V.eq (st' := [vi (l : Int)]) rfl ?_
  have hl1 : 1 ≤ l := by
    have h8 := top_ne hn hpn hX0
    have h9 := hl.1
    have h7 := bM_in X n 0
    rcases Nat.eq_zero_or_pos l with e | e
    · subst e
      exact absurd (show dg X (n - 1) = 0 from by have : bM X n 0 = dg X (n - 1) := rfl; have h6 : bM X n 0 < 1 := h9; omega) h8
    · exact e
  have hB : isBits X (32 * (n - 1) + l) := bits_dg hX0 hn hpn hl
  have join_256 : ∀ (H : Heap) (v2 o2 i9 cap2 L : Nat) (f2 : Nat → Int), (L = n + u ∧ b + l ≤ 32 ∨ L = n + u + 1 ∧ 33 ≤ b + l) → (v2 ≠ a) → (v2 = v ∨ H0.size ≤ v2) → (o2 + L ≤ cap2) → (cap2 ≤ 1000) → (∀ k, k < L → f2 (o2 + k) = bM (X * 2 ^ (32 * (L - n))) L k) → hp κ H a (.inr (9, [.ref v2, vi (i9 : Int), vi (o2 : Int)])) → hp κ H v2 (eI κ cap2 f2) → V z H 0 0 256 [(5, vi (L : Int)), (4, vi (l : Int)), (3, vi (b : Int)), (0, .ref a)] [] := by
    intro H v2 o2 i9 cap2 L f2 hL hne_v2_a hvf hoc hc22 hw9 hoa hv2
    refine v_aload_n E 3 rfl dJ26_leftShift_256 ?_
    refine v_iload E 0 rfl dJ26_leftShift_257 ?_
    refine v_putf E in_J26 tyJ26 tyJ26_ok nmJ26 hoa (ci := 9) rfl 1 (Nat.le_of_ble_eq_true rfl) q1173 rfl rfl rfl rfl (Nat.le_of_ble_eq_true rfl) (hAll _ (Or.inl rfl)) dJ26_leftShift_259 (fun H_10 hoa_8 hs_9 => ?_)
    have hv2_11 := hv2.same hs_9 hne_v2_a
    have hoa_8 : hp κ H_10 a (.inr (9, [.ref v2, vi (L : Int), vi (o2 : Int)])) := hoa_8
    have hY1 : X * 2 ^ (32 * (L - n)) < 2 ^ (32 * L) := by
      have h9 := Int.mul_lt_mul_of_pos_right hX1 (p2 (32 * (L - n)))
      rw [← Int.pow_add, show 32 * n + 32 * (L - n) = 32 * L by omega] at h9
      exact h9
    have hRL : isInts (X * 2 ^ (32 * u + b)) L := sh_ints hB (by omega) (by omega) (by omega) hs
    refine v_iload_n E 2 rfl dJ26_leftShift_262 ?_
    refine v_if_ne E (tgt := 267) dJ26_leftShift_263 (by decide) ⟨by omega, by omega⟩ (fun c_263 => ?_) (fun c_263 => ?_)
    · refine v_iload_n E 2 rfl dJ26_leftShift_267 ?_
      refine v_bipush E ⟨by decide, by decide⟩ dJ26_leftShift_268 ?_
      refine v_iload E 1 rfl dJ26_leftShift_270 ?_
      refine v_isub E dJ26_leftShift_272 ?_
      refine v_icmp_gt E (tgt := 284) dJ26_leftShift_273 (by decide) ⟨by omega, by omega⟩ ⟨by omega, by omega⟩ (fun c_273 => ?_) (fun c_273 => ?_)
      · refine v_aload_n E 3 rfl dJ26_leftShift_284 ?_
        refine v_bipush E ⟨by decide, by decide⟩ dJ26_leftShift_285 ?_
        refine v_iload_n E 2 rfl dJ26_leftShift_287 ?_
        refine v_isub E dJ26_leftShift_288 ?_
        refine V.topi (x' := ((32 - b : Nat) : Int)) (congrArg iZ (by omega)) ?_
        refine v_callV E (As := [vi ((32 - b : Nat) : Int)]) (b := a) (ci := 9) (C := RJ26) (T := TJ26) (N := 3) hoa_8 rfl (h_prs κ H_10 (s := 32 - b) hD (by omega) (by omega) (by omega) ⟨hoa_8, hv2_11, hoc, hc22, hw9, Int.mul_nonneg hX0 (Int.le_of_lt (p2 _)), hY1⟩) (lw_V q1216 q1218 qs22 q101 q1219) 1 (by decide +kernel) rfl (by decide) (by decide) (cb' := 0) (sb' := 0) (by decide) (by decide) rfl (rest := []) (Nat.le_of_ble_eq_true rfl) (fun q h => hvf.elim (fun e => hAll q (Or.inr (h.trans e))) (fun e => hNew q (by rw [show q = v2 from h]; exact e))) dJ26_leftShift_289 (fun v_12 H_13 hpost_14 hz_15 hk_16 => ?_)
        clear hz_15
        obtain ⟨rfl, f3, hv3, hf3⟩ := hpost_14
        have hoa_17 := hoa_8.kept (hk_16 _ hoa_8.lt (fun h => hne_v2_a h.symm))
        refine V.eq (st' := []) rfl ?_
        refine v_vret E hE dJ26_leftShift_292 ?_
        have ev : X * 2 ^ (32 * (L - n)) / 2 ^ (32 - b) = (X * 2 ^ (32 * u + b)) := by
          rw [show 32 * (L - n) = 32 * u + b + (32 - b) by omega, Int.pow_add, ← Int.mul_assoc, Int.mul_ediv_cancel _ (Int.ne_of_gt (p2 _))]
        rw [ev] at hf3
        exact ⟨rfl, v2, o2, L, cap2, f3, ⟨hoa_17, hv3, hoc, hc22, hf3, Int.mul_nonneg hX0 (Int.le_of_lt (p2 _)), hRL.2.1⟩, hRL, hvf⟩
      · refine v_aload_n E 3 rfl dJ26_leftShift_276 ?_
        refine v_iload_n E 2 rfl dJ26_leftShift_277 ?_
        refine v_callV E (As := [vi (b : Int)]) (b := a) (ci := 9) (C := RJ26) (T := TJ26) (N := 3) hoa_8 rfl (h_pls κ H_10 (s := b) hD (by omega) (by omega) (by omega) ⟨hoa_8, hv2_11, hoc, hc22, hw9, Int.mul_nonneg hX0 (Int.le_of_lt (p2 _)), hY1⟩) (lw_V q1212 q1214 qs21 q101 q1215) 1 (by decide +kernel) rfl (by decide) (by decide) (cb' := 0) (sb' := 0) (by decide) (by decide) rfl (rest := []) (Nat.le_of_ble_eq_true rfl) (fun q h => hvf.elim (fun e => hAll q (Or.inr (h.trans e))) (fun e => hNew q (by rw [show q = v2 from h]; exact e))) dJ26_leftShift_278 (fun v_18 H_19 hpost_20 hz_21 hk_22 => ?_)
        clear hz_21
        obtain ⟨rfl, f3, hv3, hf3⟩ := hpost_20
        have hoa_23 := hoa_8.kept (hk_22 _ hoa_8.lt (fun h => hne_v2_a h.symm))
        refine V.eq (st' := []) rfl ?_
        refine v_goto E (tgt := 292) dJ26_leftShift_281 (by decide) ?_
        refine v_vret E hE dJ26_leftShift_292 ?_
        have ev : X * 2 ^ (32 * (L - n)) * 2 ^ b = (X * 2 ^ (32 * u + b)) := by rw [show L - n = u by omega, Int.pow_add, Int.mul_assoc]
        rw [ev] at hf3
        exact ⟨rfl, v2, o2, L, cap2, f3, ⟨hoa_23, hv3, hoc, hc22, hf3, Int.mul_nonneg hX0 (Int.le_of_lt (p2 _)), hRL.2.1⟩, hRL, hvf⟩
    · refine v_vret E hE dJ26_leftShift_266 ?_
      obtain rfl : b = 0 := by omega
      obtain rfl : L = n + u := by omega
      rw [show n + u - n = u by omega] at hw9
      exact ⟨rfl, v2, o2, n + u, cap2, f2, ⟨hoa_8, hv2_11, hoc, hc22, by rw [Nat.add_zero]; exact hw9, Int.mul_nonneg hX0 (Int.le_of_lt (p2 _)), hRL.2.1⟩, hRL, hvf⟩
  refine v_istore E dJ26_leftShift_29 (zlt hL rfl) (lv' := [(4, vi (l : Int)), (3, vi (b : Int)), (2, vi (u : Int)), (0, .ref a), (1, vi ((32 * u + b : Nat) : Int))]) rfl ?_
  refine v_iload_n E 4 rfl dJ26_leftShift_31 ?_
  refine v_bipush E ⟨by decide, by decide⟩ dJ26_leftShift_32 ?_
  refine v_iload E 0 rfl dJ26_leftShift_34 ?_
  refine v_isub E dJ26_leftShift_36 ?_
  refine v_icmp_gt E (tgt := 46) dJ26_leftShift_37 (by decide) ⟨by omega, by omega⟩ ⟨by omega, by omega⟩ (fun c_37 => ?_) (fun c_37 => ?_)
  · refine v_aload_n E 3 rfl dJ26_leftShift_46 ?_
    refine v_getf E in_J26 hoa_6 (ci := 9) rfl 1 (by decide) q1173 rfl (v := vi (n : Int)) rfl dJ26_leftShift_47 ?_
    refine v_iload_n E 2 rfl dJ26_leftShift_50 ?_
    refine v_iadd E dJ26_leftShift_51 ?_
    refine v_iconst E dJ26_leftShift_52 ?_
    refine v_iadd E dJ26_leftShift_53 ?_
    refine v_istore E dJ26_leftShift_54 (zlt hL rfl) (lv' := [(5, vi (((n : Int) + (u : Int)) + 1)), (4, vi (l : Int)), (3, vi (b : Int)), (2, vi (u : Int)), (0, .ref a), (1, vi ((32 * u + b : Nat) : Int))]) rfl ?_
    refine v_iload_n E 2 rfl dJ26_leftShift_56 ?_
    refine v_bipush E ⟨by decide, by decide⟩ dJ26_leftShift_57 ?_
    refine v_iload E 1 rfl dJ26_leftShift_59 ?_
    refine v_isub E dJ26_leftShift_61 ?_
    refine v_icmp_gt E (tgt := 68) dJ26_leftShift_62 (by decide) ⟨by omega, by omega⟩ ⟨by omega, by omega⟩ (fun c_62 => ?_) (fun c_62 => ?_)
    · have e5 : ((n : Int) + (u : Int)) + 1 = ((n + u + 1 : Nat) : Int) := by omega
      refine V.eqL (lv' := [(5, vi ((n + u + 1 : Nat) : Int)), (4, vi (l : Int)), (3, vi (b : Int)), (2, vi (u : Int)), (0, .ref a), (1, vi ((32 * u + b : Nat) : Int))]) (by rw [e5]) ?_
      have hoL : isInts X n := hn
      refine v_aload_n E 4 rfl dJ26_leftShift_68 ?_
      refine v_getf E in_J26 hoa_6 (ci := 9) rfl 0 (by decide) q1172 rfl (v := .ref v) rfl dJ26_leftShift_69 ?_
      refine v_alen E dJ26_leftShift_72 (t := 0) (ty := .int) hv_7 rfl ?_
      refine v_iload E 0 rfl dJ26_leftShift_73 ?_
      refine v_icmp_ge E (tgt := 130) dJ26_leftShift_75 (by decide) ⟨by omega, by omega⟩ ⟨by omega, by omega⟩ (fun c_75 => ?_) (fun c_75 => ?_)
      · refine v_aload_n E 4 rfl dJ26_leftShift_130 ?_
        refine v_getf E in_J26 hoa_6 (ci := 9) rfl 0 (by decide) q1172 rfl (v := .ref v) rfl dJ26_leftShift_131 ?_
        refine v_alen E dJ26_leftShift_134 (t := 0) (ty := .int) hv_7 rfl ?_
        refine v_aload_n E 4 rfl dJ26_leftShift_135 ?_
        refine v_getf E in_J26 hoa_6 (ci := 9) rfl 2 (by decide) q1174 rfl (v := vi (o : Int)) rfl dJ26_leftShift_136 ?_
        refine v_isub E dJ26_leftShift_139 ?_
        refine v_iload E 0 rfl dJ26_leftShift_140 ?_
        refine v_icmp_lt E (tgt := 187) dJ26_leftShift_142 (by decide) ⟨by omega, by omega⟩ ⟨by omega, by omega⟩ (fun c_142 => ?_) (fun c_142 => ?_)
        · refine v_iconst E dJ26_leftShift_187 ?_
          refine v_istore E dJ26_leftShift_188 (zlt hL rfl) (lv' := [(6, vi 0), (5, vi ((n + u + 1 : Nat) : Int)), (4, vi (l : Int)), (3, vi (b : Int)), (2, vi (u : Int)), (0, .ref a), (1, vi ((32 * u + b : Nat) : Int))]) rfl ?_
          have loop_190 : ∀ (m_190 : Nat) (H : Heap) (i : Nat) (f2 : Nat → Int), n - i < m_190 → (i ≤ n) → (∀ j, j < i → f2 j = f (o + j)) → (∀ j, i ≤ j → f2 j = f j) → hp κ H a (.inr (9, [.ref v, vi (n : Int), vi (o : Int)])) → hp κ H v (eI κ cap f2) → V z H 1 (n + u + 1) 190 [(6, vi (i : Int)), (5, vi ((n + u + 1 : Nat) : Int)), (4, vi (l : Int)), (3, vi (b : Int)), (0, .ref a)] [] := by
            intro m_190
            induction m_190 with
            | zero => intro H i f2 hm; exact absurd hm (by omega)
            | succ m_190 ih_190 =>
              intro H i f2 hm_190 hi h1 h2 hoa hv
              refine v_iload E 0 rfl dJ26_leftShift_190 ?_
              refine v_aload_n E 4 rfl dJ26_leftShift_192 ?_
              refine v_getf E in_J26 hoa (ci := 9) rfl 1 (by decide) q1173 rfl (v := vi (n : Int)) rfl dJ26_leftShift_193 ?_
              refine v_icmp_ge E (tgt := 224) dJ26_leftShift_196 (by decide) ⟨by omega, by omega⟩ ⟨by omega, by omega⟩ (fun c_196 => ?_) (fun c_196 => ?_)
              · refine v_aload_n E 4 rfl dJ26_leftShift_224 ?_
                refine v_getf E in_J26 hoa (ci := 9) rfl 1 (by decide) q1173 rfl (v := vi (n : Int)) rfl dJ26_leftShift_225 ?_
                refine v_istore E dJ26_leftShift_228 (zlt hL rfl) (lv' := [(6, vi (n : Int)), (5, vi ((n + u + 1 : Nat) : Int)), (4, vi (l : Int)), (3, vi (b : Int)), (0, .ref a)]) rfl ?_
                have loop_230 : ∀ (m_230 : Nat) (H : Heap) (i : Nat) (f2 : Nat → Int), n + u + 1 - i < m_230 → (i ≤ n + u + 1) → (n ≤ i) → (∀ j, j < n → f2 j = bM X n j) → (∀ j, n ≤ j → j < i → f2 j = 0) → hp κ H a (.inr (9, [.ref v, vi (n : Int), vi (o : Int)])) → hp κ H v (eI κ cap f2) → V z H 1 (n + u + 1) 230 [(6, vi (i : Int)), (5, vi ((n + u + 1 : Nat) : Int)), (4, vi (l : Int)), (3, vi (b : Int)), (0, .ref a)] [] := by
                  intro m_230
                  induction m_230 with
                  | zero => intro H i f2 hm; exact absurd hm (by omega)
                  | succ m_230 ih_230 =>
                    intro H i f2 hm_230 hi hin h1 h2 hoa hv
                    refine v_iload E 0 rfl dJ26_leftShift_230 ?_
                    refine v_iload E 1 rfl dJ26_leftShift_232 ?_
                    refine v_icmp_ge E (tgt := 251) dJ26_leftShift_234 (by decide) ⟨by omega, by omega⟩ ⟨by omega, by omega⟩ (fun c_234 => ?_) (fun c_234 => ?_)
                    · refine v_aload_n E 4 rfl dJ26_leftShift_251 ?_
                      refine v_iconst E dJ26_leftShift_252 ?_
                      refine v_putf E in_J26 tyJ26 tyJ26_ok nmJ26 hoa (ci := 9) rfl 2 (Nat.le_of_ble_eq_true rfl) q1174 rfl rfl rfl rfl (Nat.le_of_ble_eq_true rfl) (hAll _ (Or.inl rfl)) dJ26_leftShift_253 (fun H_26 hoa_24 hs_25 => ?_)
                      have hv_27 := hv.same hs_25 hne_v_a
                      have hoa_24 : hp κ H_26 a (.inr (9, [.ref v, vi (n : Int), vi 0])) := hoa_24
                      refine V.sub [1, 2, 3, 4] (lv' := [(5, vi ((n + u + 1 : Nat) : Int)), (4, vi (l : Int)), (3, vi (b : Int)), (0, .ref a)]) rfl ?_
                      refine V.less (Nat.zero_le _) (Nat.zero_le _) ?_
                      exact join_256 H_26 v 0 n cap (n + u + 1) f2 (by omega) hne_v_a (Or.inl rfl) (by omega) (by omega) (grow_win (o := 0) (by omega) (fun j hj => by rw [Nat.zero_add]; exact h1 j hj) (fun j q1 q2 => by rw [Nat.zero_add]; exact h2 j q1 (by omega))) hoa_24 hv_27
                    · refine v_aload_n E 4 rfl dJ26_leftShift_237 ?_
                      refine v_getf E in_J26 hoa (ci := 9) rfl 0 (by decide) q1172 rfl (v := .ref v) rfl dJ26_leftShift_238 ?_
                      refine v_iload E 0 rfl dJ26_leftShift_241 ?_
                      refine v_iconst E dJ26_leftShift_243 ?_
                      refine v_iast E dJ26_leftShift_244 hv i rfl (by omega) (by omega) (hAll _ (Or.inr rfl)) (fun H_30 hv_28 hs_29 => ?_)
                      have hoa_31 := hoa.same hs_29 (Ne.symm hne_v_a)
                      refine v_iinc E 0 rfl dJ26_leftShift_245 (zlt hL rfl) (lv' := [(6, vi ((i : Int) + 1)), (5, vi ((n + u + 1 : Nat) : Int)), (4, vi (l : Int)), (3, vi (b : Int)), (0, .ref a)]) rfl ?_
                      refine v_goto E (tgt := 230) dJ26_leftShift_248 (by decide) ?_
                      exact ih_230  H_30 (i + 1) _ (by omega) (by omega) (by omega) (fun j hj => by rw [va_up_ne _ _ (by omega)]; exact h1 j hj) (fun j q1 q2 => by by_cases e : j = i; (rw [e, va_up_self]); (rw [va_up_ne _ _ (by omega)]; exact h2 j q1 (by omega))) hoa_31 hv_28
                exact loop_230 ((n + u + 1) + 1) H n f2 (by omega) (by omega) (by omega) (fun j hj => (h1 j (by omega)).trans (hW j hj)) (fun j q1 q2 => absurd q2 (by omega)) hoa hv
              · refine v_aload_n E 4 rfl dJ26_leftShift_199 ?_
                refine v_getf E in_J26 hoa (ci := 9) rfl 0 (by decide) q1172 rfl (v := .ref v) rfl dJ26_leftShift_200 ?_
                refine v_iload E 0 rfl dJ26_leftShift_203 ?_
                refine v_aload_n E 4 rfl dJ26_leftShift_205 ?_
                refine v_getf E in_J26 hoa (ci := 9) rfl 0 (by decide) q1172 rfl (v := .ref v) rfl dJ26_leftShift_206 ?_
                refine v_aload_n E 4 rfl dJ26_leftShift_209 ?_
                refine v_getf E in_J26 hoa (ci := 9) rfl 2 (by decide) q1174 rfl (v := vi (o : Int)) rfl dJ26_leftShift_210 ?_
                refine v_iload E 0 rfl dJ26_leftShift_213 ?_
                refine v_iadd E dJ26_leftShift_215 ?_
                refine v_iald E dJ26_leftShift_216 hv (o + i) (by omega) (by omega) (by omega) ?_
                refine v_iast E dJ26_leftShift_217 hv i rfl (by omega) (by omega) (hAll _ (Or.inr rfl)) (fun H_34 hv_32 hs_33 => ?_)
                have hoa_35 := hoa.same hs_33 (Ne.symm hne_v_a)
                refine v_iinc E 0 rfl dJ26_leftShift_218 (zlt hL rfl) (lv' := [(6, vi ((i : Int) + 1)), (5, vi ((n + u + 1 : Nat) : Int)), (4, vi (l : Int)), (3, vi (b : Int)), (0, .ref a)]) rfl ?_
                refine v_goto E (tgt := 190) dJ26_leftShift_221 (by decide) ?_
                exact ih_190  H_34 (i + 1) _ (by omega) (by omega) (fun j hj => by by_cases e : j = i; (rw [e, va_up_self]; exact h2 (o + i) (by omega)); (rw [va_up_ne _ _ e]; exact h1 j (by omega))) (fun j hj => by rw [va_up_ne _ _ (by omega)]; exact h2 j (by omega)) hoa_35 hv_32
          refine V.sub [0, 1, 2, 3, 5] (lv' := [(6, vi 0), (5, vi ((n + u + 1 : Nat) : Int)), (4, vi (l : Int)), (3, vi (b : Int)), (0, .ref a)]) rfl ?_
          exact loop_190 (n + 1) H_2 0 f (by omega) (by omega) (fun j hj => absurd hj (by omega)) (fun j hj => rfl) hoa_6 hv_7
        · refine v_iconst E dJ26_leftShift_145 ?_
          refine v_istore E dJ26_leftShift_146 (zlt hL rfl) (lv' := [(6, vi 0), (5, vi ((n + u + 1 : Nat) : Int)), (4, vi (l : Int)), (3, vi (b : Int)), (2, vi (u : Int)), (0, .ref a), (1, vi ((32 * u + b : Nat) : Int))]) rfl ?_
          have loop_148 : ∀ (m_148 : Nat) (H : Heap) (i : Nat) (f2 : Nat → Int), u + 1 - i < m_148 → (i ≤ u + 1) → (∀ j, j < n → f2 (o + j) = bM X n j) → (∀ j, n ≤ j → j < n + i → f2 (o + j) = 0) → hp κ H a (.inr (9, [.ref v, vi (n : Int), vi (o : Int)])) → hp κ H v (eI κ cap f2) → V z H 1 (n + u + 1) 148 [(6, vi (i : Int)), (5, vi ((n + u + 1 : Nat) : Int)), (4, vi (l : Int)), (3, vi (b : Int)), (0, .ref a)] [] := by
            intro m_148
            induction m_148 with
            | zero => intro H i f2 hm; exact absurd hm (by omega)
            | succ m_148 ih_148 =>
              intro H i f2 hm_148 hi h1 h2 hoa hv
              refine v_iload E 0 rfl dJ26_leftShift_148 ?_
              refine v_iload E 1 rfl dJ26_leftShift_150 ?_
              refine v_aload_n E 4 rfl dJ26_leftShift_152 ?_
              refine v_getf E in_J26 hoa (ci := 9) rfl 1 (by decide) q1173 rfl (v := vi (n : Int)) rfl dJ26_leftShift_153 ?_
              refine v_isub E dJ26_leftShift_156 ?_
              refine v_icmp_ge E (tgt := 184) dJ26_leftShift_157 (by decide) ⟨by omega, by omega⟩ ⟨by omega, by omega⟩ (fun c_157 => ?_) (fun c_157 => ?_)
              · refine v_goto E (tgt := 256) dJ26_leftShift_184 (by decide) ?_
                refine V.sub [1, 2, 3, 4] (lv' := [(5, vi ((n + u + 1 : Nat) : Int)), (4, vi (l : Int)), (3, vi (b : Int)), (0, .ref a)]) rfl ?_
                refine V.less (Nat.zero_le _) (Nat.zero_le _) ?_
                exact join_256 H v o n cap (n + u + 1) f2 (by omega) hne_v_a (Or.inl rfl) (by omega) (by omega) (grow_win (by omega) h1 (fun j q1 q2 => h2 j q1 (by omega))) hoa hv
              · refine v_aload_n E 4 rfl dJ26_leftShift_160 ?_
                refine v_getf E in_J26 hoa (ci := 9) rfl 0 (by decide) q1172 rfl (v := .ref v) rfl dJ26_leftShift_161 ?_
                refine v_aload_n E 4 rfl dJ26_leftShift_164 ?_
                refine v_getf E in_J26 hoa (ci := 9) rfl 2 (by decide) q1174 rfl (v := vi (o : Int)) rfl dJ26_leftShift_165 ?_
                refine v_aload_n E 4 rfl dJ26_leftShift_168 ?_
                refine v_getf E in_J26 hoa (ci := 9) rfl 1 (by decide) q1173 rfl (v := vi (n : Int)) rfl dJ26_leftShift_169 ?_
                refine v_iadd E dJ26_leftShift_172 ?_
                refine v_iload E 0 rfl dJ26_leftShift_173 ?_
                refine v_iadd E dJ26_leftShift_175 ?_
                refine v_iconst E dJ26_leftShift_176 ?_
                refine v_iast E dJ26_leftShift_177 hv (o + n + i) (by omega) (by omega) (by omega) (hAll _ (Or.inr rfl)) (fun H_38 hv_36 hs_37 => ?_)
                have hoa_39 := hoa.same hs_37 (Ne.symm hne_v_a)
                refine v_iinc E 0 rfl dJ26_leftShift_178 (zlt hL rfl) (lv' := [(6, vi ((i : Int) + 1)), (5, vi ((n + u + 1 : Nat) : Int)), (4, vi (l : Int)), (3, vi (b : Int)), (0, .ref a)]) rfl ?_
                refine v_goto E (tgt := 148) dJ26_leftShift_181 (by decide) ?_
                exact ih_148  H_38 (i + 1) _ (by omega) (by omega) (fun j hj => by rw [va_up_ne _ _ (by omega)]; exact h1 j hj) (fun j q1 q2 => by by_cases e : j = n + i; (rw [e, show o + (n + i) = o + n + i by omega, va_up_self]); (rw [va_up_ne _ _ (by omega)]; exact h2 j q1 (by omega))) hoa_39 hv_36
          refine V.sub [0, 1, 2, 3, 5] (lv' := [(6, vi 0), (5, vi ((n + u + 1 : Nat) : Int)), (4, vi (l : Int)), (3, vi (b : Int)), (0, .ref a)]) rfl ?_
          exact loop_148 ((u + 1) + 1) H_2 0 f (by omega) (by omega) hW (fun j h1 h2 => absurd h2 (by omega)) hoa_6 hv_7
      · refine v_iload E 0 rfl dJ26_leftShift_78 ?_
        refine V.frame (fun hfz_fr_40 hfk_fr_40 => ?_)
        rw [hH0] at hfz_fr_40 hfk_fr_40
        rw [hA0] at hfk_fr_40
        refine v_newI E (n := (n + u + 1)) q511 (by omega) rfl (cb' := ((1 - 0) - 1)) (sb' := (((n + u + 1) - 0) - (n + u + 1))) (by omega) (by omega) dJ26_leftShift_80 (fun q H_41 hq_44 hn_42 hg_43 => ?_)
        have hne_a_q : a ≠ q := by have := hoa_6.lt; omega
        have hne_v_q : v ≠ q := by have := hv_7.lt; omega
        have hoa_47 := hoa_6.grow hg_43
        have hv_48 := hv_7.grow hg_43
        refine v_astore E dJ26_leftShift_82 (zlt hL rfl) (lv' := [(6, .ref q), (5, vi ((n + u + 1 : Nat) : Int)), (4, vi (l : Int)), (3, vi (b : Int)), (2, vi (u : Int)), (0, .ref a), (1, vi ((32 * u + b : Nat) : Int))]) rfl ?_
        refine v_iconst E dJ26_leftShift_84 ?_
        refine v_istore E dJ26_leftShift_85 (zlt hL rfl) (lv' := [(7, vi 0), (6, .ref q), (5, vi ((n + u + 1 : Nat) : Int)), (4, vi (l : Int)), (3, vi (b : Int)), (2, vi (u : Int)), (0, .ref a), (1, vi ((32 * u + b : Nat) : Int))]) rfl ?_
        have loop_87 : ∀ (m_87 : Nat) (H : Heap) (i : Nat) (f2 : Nat → Int), n - i < m_87 → (i ≤ n) → (∀ j, j < i → f2 j = f (o + j)) → (∀ j, i ≤ j → f2 j = 0) → hp κ H a (.inr (9, [.ref v, vi (n : Int), vi (o : Int)])) → hp κ H v (eI κ cap f) → hp κ H q (eI κ (n + u + 1) f2) → V z H (1 - 1) ((n + u + 1) - (n + u + 1)) 87 [(7, vi (i : Int)), (6, .ref q), (5, vi ((n + u + 1 : Nat) : Int)), (4, vi (l : Int)), (3, vi (b : Int)), (0, .ref a)] [] := by
          intro m_87
          induction m_87 with
          | zero => intro H i f2 hm; exact absurd hm (by omega)
          | succ m_87 ih_87 =>
            intro H i f2 hm_87 hi h1 h2 hoa hv hq
            refine v_iload E 0 rfl dJ26_leftShift_87 ?_
            refine v_aload_n E 5 rfl dJ26_leftShift_89 ?_
            refine v_getf E in_J26 hoa (ci := 9) rfl 1 (by decide) q1173 rfl (v := vi (n : Int)) rfl dJ26_leftShift_90 ?_
            refine v_icmp_ge E (tgt := 119) dJ26_leftShift_93 (by decide) ⟨by omega, by omega⟩ ⟨by omega, by omega⟩ (fun c_93 => ?_) (fun c_93 => ?_)
            · refine v_aload_n E 5 rfl dJ26_leftShift_119 ?_
              refine v_aload E 1 rfl dJ26_leftShift_120 ?_
              refine v_iload E 2 rfl dJ26_leftShift_122 ?_
              refine v_callV E (As := [.ref q, vi ((n + u + 1 : Nat) : Int)]) (b := a) (ci := 9) (C := RJ26) (T := TJ26) (N := 3) hoa rfl (h_setv κ H (w := q) (L := n + u + 1) hoa) (lw_V q1228 q1229 q1230 q101 q1231) 2 (by decide +kernel) rfl (by decide) (by decide) (cb' := ((1 - 1) - 0)) (sb' := (((n + u + 1) - (n + u + 1)) - 0)) (by omega) (by omega) rfl (rest := []) (Nat.le_of_ble_eq_true rfl) (fun q9 h => hAll q9 (Or.inl h)) dJ26_leftShift_124 (fun v_49 H_50 hpost_51 hz_52 hk_53 => ?_)
              clear hz_52
              obtain ⟨rfl, hoa9⟩ := hpost_51
              have hq_54 := hq.kept (hk_53 _ hq.lt (fun h => (Ne.symm hne_a_q) h))
              refine V.eq (st' := []) rfl ?_
              refine v_goto E (tgt := 256) dJ26_leftShift_127 (by decide) ?_
              refine V.sub [2, 3, 4, 5] (lv' := [(5, vi ((n + u + 1 : Nat) : Int)), (4, vi (l : Int)), (3, vi (b : Int)), (0, .ref a)]) rfl ?_
              refine V.less (Nat.zero_le _) (Nat.zero_le _) ?_
              exact join_256 H_50 q 0 (n + u + 1) (n + u + 1) (n + u + 1) f2 (by omega) (Ne.symm hne_a_q) (Or.inr (by omega)) (by omega) (by omega) (grow_win (o := 0) (by omega) (fun j hj => by rw [Nat.zero_add]; exact (h1 j (by omega)).trans (hW j hj)) (fun j q1 q2 => by rw [Nat.zero_add]; exact h2 j (by omega))) hoa9 hq_54
            · refine v_aload E 1 rfl dJ26_leftShift_96 ?_
              refine v_iload E 0 rfl dJ26_leftShift_98 ?_
              refine v_aload_n E 5 rfl dJ26_leftShift_100 ?_
              refine v_getf E in_J26 hoa (ci := 9) rfl 0 (by decide) q1172 rfl (v := .ref v) rfl dJ26_leftShift_101 ?_
              refine v_aload_n E 5 rfl dJ26_leftShift_104 ?_
              refine v_getf E in_J26 hoa (ci := 9) rfl 2 (by decide) q1174 rfl (v := vi (o : Int)) rfl dJ26_leftShift_105 ?_
              refine v_iload E 0 rfl dJ26_leftShift_108 ?_
              refine v_iadd E dJ26_leftShift_110 ?_
              refine v_iald E dJ26_leftShift_111 hv (o + i) (by omega) (by omega) (by omega) ?_
              refine v_iast E dJ26_leftShift_112 hq i rfl (by omega) (by omega) (hNew _ (by omega)) (fun H_57 hq_55 hs_56 => ?_)
              have hoa_58 := hoa.same hs_56 hne_a_q
              have hv_59 := hv.same hs_56 hne_v_q
              refine v_iinc E 0 rfl dJ26_leftShift_113 (zlt hL rfl) (lv' := [(7, vi ((i : Int) + 1)), (6, .ref q), (5, vi ((n + u + 1 : Nat) : Int)), (4, vi (l : Int)), (3, vi (b : Int)), (0, .ref a)]) rfl ?_
              refine v_goto E (tgt := 87) dJ26_leftShift_116 (by decide) ?_
              exact ih_87  H_57 (i + 1) _ (by omega) (by omega) (fun j hj => by by_cases e : j = i; (rw [e, va_up_self]); (rw [va_up_ne _ _ e]; exact h1 j (by omega))) (fun j hj => by rw [va_up_ne _ _ (by omega)]; exact h2 j (by omega)) hoa_58 hv_59 hq_55
        refine V.sub [0, 1, 2, 3, 4, 6] (lv' := [(7, vi 0), (6, .ref q), (5, vi ((n + u + 1 : Nat) : Int)), (4, vi (l : Int)), (3, vi (b : Int)), (0, .ref a)]) rfl ?_
        exact loop_87 (n + 1) H_41 0 (fun _ => 0) (by omega) (by omega) (fun j hj => absurd hj (by omega)) (fun j hj => rfl) hoa_47 hv_48 hn_42
    · refine v_iinc E 0 rfl dJ26_leftShift_65 (zlt hL rfl) (lv' := [(5, vi ((((n : Int) + (u : Int)) + 1) + (-1))), (4, vi (l : Int)), (3, vi (b : Int)), (2, vi (u : Int)), (0, .ref a), (1, vi ((32 * u + b : Nat) : Int))]) rfl ?_
      have e5 : (((n : Int) + (u : Int)) + 1) + (-1) = ((n + u + 0 : Nat) : Int) := by omega
      refine V.eqL (lv' := [(5, vi ((n + u + 0 : Nat) : Int)), (4, vi (l : Int)), (3, vi (b : Int)), (2, vi (u : Int)), (0, .ref a), (1, vi ((32 * u + b : Nat) : Int))]) (by rw [e5]) ?_
      have hoL : isInts X n := hn
      refine v_aload_n E 4 rfl dJ26_leftShift_68 ?_
      refine v_getf E in_J26 hoa_6 (ci := 9) rfl 0 (by decide) q1172 rfl (v := .ref v) rfl dJ26_leftShift_69 ?_
      refine v_alen E dJ26_leftShift_72 (t := 0) (ty := .int) hv_7 rfl ?_
      refine v_iload E 0 rfl dJ26_leftShift_73 ?_
      refine v_icmp_ge E (tgt := 130) dJ26_leftShift_75 (by decide) ⟨by omega, by omega⟩ ⟨by omega, by omega⟩ (fun c_75 => ?_) (fun c_75 => ?_)
      · refine v_aload_n E 4 rfl dJ26_leftShift_130 ?_
        refine v_getf E in_J26 hoa_6 (ci := 9) rfl 0 (by decide) q1172 rfl (v := .ref v) rfl dJ26_leftShift_131 ?_
        refine v_alen E dJ26_leftShift_134 (t := 0) (ty := .int) hv_7 rfl ?_
        refine v_aload_n E 4 rfl dJ26_leftShift_135 ?_
        refine v_getf E in_J26 hoa_6 (ci := 9) rfl 2 (by decide) q1174 rfl (v := vi (o : Int)) rfl dJ26_leftShift_136 ?_
        refine v_isub E dJ26_leftShift_139 ?_
        refine v_iload E 0 rfl dJ26_leftShift_140 ?_
        refine v_icmp_lt E (tgt := 187) dJ26_leftShift_142 (by decide) ⟨by omega, by omega⟩ ⟨by omega, by omega⟩ (fun c_142 => ?_) (fun c_142 => ?_)
        · refine v_iconst E dJ26_leftShift_187 ?_
          refine v_istore E dJ26_leftShift_188 (zlt hL rfl) (lv' := [(6, vi 0), (5, vi ((n + u + 0 : Nat) : Int)), (4, vi (l : Int)), (3, vi (b : Int)), (2, vi (u : Int)), (0, .ref a), (1, vi ((32 * u + b : Nat) : Int))]) rfl ?_
          have loop_190 : ∀ (m_190 : Nat) (H : Heap) (i : Nat) (f2 : Nat → Int), n - i < m_190 → (i ≤ n) → (∀ j, j < i → f2 j = f (o + j)) → (∀ j, i ≤ j → f2 j = f j) → hp κ H a (.inr (9, [.ref v, vi (n : Int), vi (o : Int)])) → hp κ H v (eI κ cap f2) → V z H 1 (n + u + 1) 190 [(6, vi (i : Int)), (5, vi ((n + u + 0 : Nat) : Int)), (4, vi (l : Int)), (3, vi (b : Int)), (0, .ref a)] [] := by
            intro m_190
            induction m_190 with
            | zero => intro H i f2 hm; exact absurd hm (by omega)
            | succ m_190 ih_190 =>
              intro H i f2 hm_190 hi h1 h2 hoa hv
              refine v_iload E 0 rfl dJ26_leftShift_190 ?_
              refine v_aload_n E 4 rfl dJ26_leftShift_192 ?_
              refine v_getf E in_J26 hoa (ci := 9) rfl 1 (by decide) q1173 rfl (v := vi (n : Int)) rfl dJ26_leftShift_193 ?_
              refine v_icmp_ge E (tgt := 224) dJ26_leftShift_196 (by decide) ⟨by omega, by omega⟩ ⟨by omega, by omega⟩ (fun c_196 => ?_) (fun c_196 => ?_)
              · refine v_aload_n E 4 rfl dJ26_leftShift_224 ?_
                refine v_getf E in_J26 hoa (ci := 9) rfl 1 (by decide) q1173 rfl (v := vi (n : Int)) rfl dJ26_leftShift_225 ?_
                refine v_istore E dJ26_leftShift_228 (zlt hL rfl) (lv' := [(6, vi (n : Int)), (5, vi ((n + u + 0 : Nat) : Int)), (4, vi (l : Int)), (3, vi (b : Int)), (0, .ref a)]) rfl ?_
                have loop_230 : ∀ (m_230 : Nat) (H : Heap) (i : Nat) (f2 : Nat → Int), n + u + 0 - i < m_230 → (i ≤ n + u + 0) → (n ≤ i) → (∀ j, j < n → f2 j = bM X n j) → (∀ j, n ≤ j → j < i → f2 j = 0) → hp κ H a (.inr (9, [.ref v, vi (n : Int), vi (o : Int)])) → hp κ H v (eI κ cap f2) → V z H 1 (n + u + 1) 230 [(6, vi (i : Int)), (5, vi ((n + u + 0 : Nat) : Int)), (4, vi (l : Int)), (3, vi (b : Int)), (0, .ref a)] [] := by
                  intro m_230
                  induction m_230 with
                  | zero => intro H i f2 hm; exact absurd hm (by omega)
                  | succ m_230 ih_230 =>
                    intro H i f2 hm_230 hi hin h1 h2 hoa hv
                    refine v_iload E 0 rfl dJ26_leftShift_230 ?_
                    refine v_iload E 1 rfl dJ26_leftShift_232 ?_
                    refine v_icmp_ge E (tgt := 251) dJ26_leftShift_234 (by decide) ⟨by omega, by omega⟩ ⟨by omega, by omega⟩ (fun c_234 => ?_) (fun c_234 => ?_)
                    · refine v_aload_n E 4 rfl dJ26_leftShift_251 ?_
                      refine v_iconst E dJ26_leftShift_252 ?_
                      refine v_putf E in_J26 tyJ26 tyJ26_ok nmJ26 hoa (ci := 9) rfl 2 (Nat.le_of_ble_eq_true rfl) q1174 rfl rfl rfl rfl (Nat.le_of_ble_eq_true rfl) (hAll _ (Or.inl rfl)) dJ26_leftShift_253 (fun H_62 hoa_60 hs_61 => ?_)
                      have hv_63 := hv.same hs_61 hne_v_a
                      have hoa_60 : hp κ H_62 a (.inr (9, [.ref v, vi (n : Int), vi 0])) := hoa_60
                      refine V.sub [1, 2, 3, 4] (lv' := [(5, vi ((n + u + 0 : Nat) : Int)), (4, vi (l : Int)), (3, vi (b : Int)), (0, .ref a)]) rfl ?_
                      refine V.less (Nat.zero_le _) (Nat.zero_le _) ?_
                      exact join_256 H_62 v 0 n cap (n + u + 0) f2 (by omega) hne_v_a (Or.inl rfl) (by omega) (by omega) (grow_win (o := 0) (by omega) (fun j hj => by rw [Nat.zero_add]; exact h1 j hj) (fun j q1 q2 => by rw [Nat.zero_add]; exact h2 j q1 (by omega))) hoa_60 hv_63
                    · refine v_aload_n E 4 rfl dJ26_leftShift_237 ?_
                      refine v_getf E in_J26 hoa (ci := 9) rfl 0 (by decide) q1172 rfl (v := .ref v) rfl dJ26_leftShift_238 ?_
                      refine v_iload E 0 rfl dJ26_leftShift_241 ?_
                      refine v_iconst E dJ26_leftShift_243 ?_
                      refine v_iast E dJ26_leftShift_244 hv i rfl (by omega) (by omega) (hAll _ (Or.inr rfl)) (fun H_66 hv_64 hs_65 => ?_)
                      have hoa_67 := hoa.same hs_65 (Ne.symm hne_v_a)
                      refine v_iinc E 0 rfl dJ26_leftShift_245 (zlt hL rfl) (lv' := [(6, vi ((i : Int) + 1)), (5, vi ((n + u + 0 : Nat) : Int)), (4, vi (l : Int)), (3, vi (b : Int)), (0, .ref a)]) rfl ?_
                      refine v_goto E (tgt := 230) dJ26_leftShift_248 (by decide) ?_
                      exact ih_230  H_66 (i + 1) _ (by omega) (by omega) (by omega) (fun j hj => by rw [va_up_ne _ _ (by omega)]; exact h1 j hj) (fun j q1 q2 => by by_cases e : j = i; (rw [e, va_up_self]); (rw [va_up_ne _ _ (by omega)]; exact h2 j q1 (by omega))) hoa_67 hv_64
                exact loop_230 ((n + u + 0) + 1) H n f2 (by omega) (by omega) (by omega) (fun j hj => (h1 j (by omega)).trans (hW j hj)) (fun j q1 q2 => absurd q2 (by omega)) hoa hv
              · refine v_aload_n E 4 rfl dJ26_leftShift_199 ?_
                refine v_getf E in_J26 hoa (ci := 9) rfl 0 (by decide) q1172 rfl (v := .ref v) rfl dJ26_leftShift_200 ?_
                refine v_iload E 0 rfl dJ26_leftShift_203 ?_
                refine v_aload_n E 4 rfl dJ26_leftShift_205 ?_
                refine v_getf E in_J26 hoa (ci := 9) rfl 0 (by decide) q1172 rfl (v := .ref v) rfl dJ26_leftShift_206 ?_
                refine v_aload_n E 4 rfl dJ26_leftShift_209 ?_
                refine v_getf E in_J26 hoa (ci := 9) rfl 2 (by decide) q1174 rfl (v := vi (o : Int)) rfl dJ26_leftShift_210 ?_
                refine v_iload E 0 rfl dJ26_leftShift_213 ?_
                refine v_iadd E dJ26_leftShift_215 ?_
                refine v_iald E dJ26_leftShift_216 hv (o + i) (by omega) (by omega) (by omega) ?_
                refine v_iast E dJ26_leftShift_217 hv i rfl (by omega) (by omega) (hAll _ (Or.inr rfl)) (fun H_70 hv_68 hs_69 => ?_)
                have hoa_71 := hoa.same hs_69 (Ne.symm hne_v_a)
                refine v_iinc E 0 rfl dJ26_leftShift_218 (zlt hL rfl) (lv' := [(6, vi ((i : Int) + 1)), (5, vi ((n + u + 0 : Nat) : Int)), (4, vi (l : Int)), (3, vi (b : Int)), (0, .ref a)]) rfl ?_
                refine v_goto E (tgt := 190) dJ26_leftShift_221 (by decide) ?_
                exact ih_190  H_70 (i + 1) _ (by omega) (by omega) (fun j hj => by by_cases e : j = i; (rw [e, va_up_self]; exact h2 (o + i) (by omega)); (rw [va_up_ne _ _ e]; exact h1 j (by omega))) (fun j hj => by rw [va_up_ne _ _ (by omega)]; exact h2 j (by omega)) hoa_71 hv_68
          refine V.sub [0, 1, 2, 3, 5] (lv' := [(6, vi 0), (5, vi ((n + u + 0 : Nat) : Int)), (4, vi (l : Int)), (3, vi (b : Int)), (0, .ref a)]) rfl ?_
          exact loop_190 (n + 1) H_2 0 f (by omega) (by omega) (fun j hj => absurd hj (by omega)) (fun j hj => rfl) hoa_6 hv_7
        · refine v_iconst E dJ26_leftShift_145 ?_
          refine v_istore E dJ26_leftShift_146 (zlt hL rfl) (lv' := [(6, vi 0), (5, vi ((n + u + 0 : Nat) : Int)), (4, vi (l : Int)), (3, vi (b : Int)), (2, vi (u : Int)), (0, .ref a), (1, vi ((32 * u + b : Nat) : Int))]) rfl ?_
          have loop_148 : ∀ (m_148 : Nat) (H : Heap) (i : Nat) (f2 : Nat → Int), u + 0 - i < m_148 → (i ≤ u + 0) → (∀ j, j < n → f2 (o + j) = bM X n j) → (∀ j, n ≤ j → j < n + i → f2 (o + j) = 0) → hp κ H a (.inr (9, [.ref v, vi (n : Int), vi (o : Int)])) → hp κ H v (eI κ cap f2) → V z H 1 (n + u + 1) 148 [(6, vi (i : Int)), (5, vi ((n + u + 0 : Nat) : Int)), (4, vi (l : Int)), (3, vi (b : Int)), (0, .ref a)] [] := by
            intro m_148
            induction m_148 with
            | zero => intro H i f2 hm; exact absurd hm (by omega)
            | succ m_148 ih_148 =>
              intro H i f2 hm_148 hi h1 h2 hoa hv
              refine v_iload E 0 rfl dJ26_leftShift_148 ?_
              refine v_iload E 1 rfl dJ26_leftShift_150 ?_
              refine v_aload_n E 4 rfl dJ26_leftShift_152 ?_
              refine v_getf E in_J26 hoa (ci := 9) rfl 1 (by decide) q1173 rfl (v := vi (n : Int)) rfl dJ26_leftShift_153 ?_
              refine v_isub E dJ26_leftShift_156 ?_
              refine v_icmp_ge E (tgt := 184) dJ26_leftShift_157 (by decide) ⟨by omega, by omega⟩ ⟨by omega, by omega⟩ (fun c_157 => ?_) (fun c_157 => ?_)
              · refine v_goto E (tgt := 256) dJ26_leftShift_184 (by decide) ?_
                refine V.sub [1, 2, 3, 4] (lv' := [(5, vi ((n + u + 0 : Nat) : Int)), (4, vi (l : Int)), (3, vi (b : Int)), (0, .ref a)]) rfl ?_
                refine V.less (Nat.zero_le _) (Nat.zero_le _) ?_
                exact join_256 H v o n cap (n + u + 0) f2 (by omega) hne_v_a (Or.inl rfl) (by omega) (by omega) (grow_win (by omega) h1 (fun j q1 q2 => h2 j q1 (by omega))) hoa hv
              · refine v_aload_n E 4 rfl dJ26_leftShift_160 ?_
                refine v_getf E in_J26 hoa (ci := 9) rfl 0 (by decide) q1172 rfl (v := .ref v) rfl dJ26_leftShift_161 ?_
                refine v_aload_n E 4 rfl dJ26_leftShift_164 ?_
                refine v_getf E in_J26 hoa (ci := 9) rfl 2 (by decide) q1174 rfl (v := vi (o : Int)) rfl dJ26_leftShift_165 ?_
                refine v_aload_n E 4 rfl dJ26_leftShift_168 ?_
                refine v_getf E in_J26 hoa (ci := 9) rfl 1 (by decide) q1173 rfl (v := vi (n : Int)) rfl dJ26_leftShift_169 ?_
                refine v_iadd E dJ26_leftShift_172 ?_
                refine v_iload E 0 rfl dJ26_leftShift_173 ?_
                refine v_iadd E dJ26_leftShift_175 ?_
                refine v_iconst E dJ26_leftShift_176 ?_
                refine v_iast E dJ26_leftShift_177 hv (o + n + i) (by omega) (by omega) (by omega) (hAll _ (Or.inr rfl)) (fun H_74 hv_72 hs_73 => ?_)
                have hoa_75 := hoa.same hs_73 (Ne.symm hne_v_a)
                refine v_iinc E 0 rfl dJ26_leftShift_178 (zlt hL rfl) (lv' := [(6, vi ((i : Int) + 1)), (5, vi ((n + u + 0 : Nat) : Int)), (4, vi (l : Int)), (3, vi (b : Int)), (0, .ref a)]) rfl ?_
                refine v_goto E (tgt := 148) dJ26_leftShift_181 (by decide) ?_
                exact ih_148  H_74 (i + 1) _ (by omega) (by omega) (fun j hj => by rw [va_up_ne _ _ (by omega)]; exact h1 j hj) (fun j q1 q2 => by by_cases e : j = n + i; (rw [e, show o + (n + i) = o + n + i by omega, va_up_self]); (rw [va_up_ne _ _ (by omega)]; exact h2 j q1 (by omega))) hoa_75 hv_72
          refine V.sub [0, 1, 2, 3, 5] (lv' := [(6, vi 0), (5, vi ((n + u + 0 : Nat) : Int)), (4, vi (l : Int)), (3, vi (b : Int)), (0, .ref a)]) rfl ?_
          exact loop_148 ((u + 0) + 1) H_2 0 f (by omega) (by omega) hW (fun j h1 h2 => absurd h2 (by omega)) hoa_6 hv_7
      · refine v_iload E 0 rfl dJ26_leftShift_78 ?_
        refine V.frame (fun hfz_fr_76 hfk_fr_76 => ?_)
        rw [hH0] at hfz_fr_76 hfk_fr_76
        rw [hA0] at hfk_fr_76
        refine v_newI E (n := (n + u + 0)) q511 (by omega) rfl (cb' := ((1 - 0) - 1)) (sb' := (((n + u + 1) - 0) - (n + u + 0))) (by omega) (by omega) dJ26_leftShift_80 (fun q H_77 hq_80 hn_78 hg_79 => ?_)
        have hne_a_q : a ≠ q := by have := hoa_6.lt; omega
        have hne_v_q : v ≠ q := by have := hv_7.lt; omega
        have hoa_83 := hoa_6.grow hg_79
        have hv_84 := hv_7.grow hg_79
        refine v_astore E dJ26_leftShift_82 (zlt hL rfl) (lv' := [(6, .ref q), (5, vi ((n + u + 0 : Nat) : Int)), (4, vi (l : Int)), (3, vi (b : Int)), (2, vi (u : Int)), (0, .ref a), (1, vi ((32 * u + b : Nat) : Int))]) rfl ?_
        refine v_iconst E dJ26_leftShift_84 ?_
        refine v_istore E dJ26_leftShift_85 (zlt hL rfl) (lv' := [(7, vi 0), (6, .ref q), (5, vi ((n + u + 0 : Nat) : Int)), (4, vi (l : Int)), (3, vi (b : Int)), (2, vi (u : Int)), (0, .ref a), (1, vi ((32 * u + b : Nat) : Int))]) rfl ?_
        have loop_87 : ∀ (m_87 : Nat) (H : Heap) (i : Nat) (f2 : Nat → Int), n - i < m_87 → (i ≤ n) → (∀ j, j < i → f2 j = f (o + j)) → (∀ j, i ≤ j → f2 j = 0) → hp κ H a (.inr (9, [.ref v, vi (n : Int), vi (o : Int)])) → hp κ H v (eI κ cap f) → hp κ H q (eI κ (n + u + 0) f2) → V z H (1 - 1) ((n + u + 1) - (n + u + 0)) 87 [(7, vi (i : Int)), (6, .ref q), (5, vi ((n + u + 0 : Nat) : Int)), (4, vi (l : Int)), (3, vi (b : Int)), (0, .ref a)] [] := by
          intro m_87
          induction m_87 with
          | zero => intro H i f2 hm; exact absurd hm (by omega)
          | succ m_87 ih_87 =>
            intro H i f2 hm_87 hi h1 h2 hoa hv hq
            refine v_iload E 0 rfl dJ26_leftShift_87 ?_
            refine v_aload_n E 5 rfl dJ26_leftShift_89 ?_
            refine v_getf E in_J26 hoa (ci := 9) rfl 1 (by decide) q1173 rfl (v := vi (n : Int)) rfl dJ26_leftShift_90 ?_
            refine v_icmp_ge E (tgt := 119) dJ26_leftShift_93 (by decide) ⟨by omega, by omega⟩ ⟨by omega, by omega⟩ (fun c_93 => ?_) (fun c_93 => ?_)
            · refine v_aload_n E 5 rfl dJ26_leftShift_119 ?_
              refine v_aload E 1 rfl dJ26_leftShift_120 ?_
              refine v_iload E 2 rfl dJ26_leftShift_122 ?_
              refine v_callV E (As := [.ref q, vi ((n + u + 0 : Nat) : Int)]) (b := a) (ci := 9) (C := RJ26) (T := TJ26) (N := 3) hoa rfl (h_setv κ H (w := q) (L := n + u + 0) hoa) (lw_V q1228 q1229 q1230 q101 q1231) 2 (by decide +kernel) rfl (by decide) (by decide) (cb' := ((1 - 1) - 0)) (sb' := (((n + u + 1) - (n + u + 0)) - 0)) (by omega) (by omega) rfl (rest := []) (Nat.le_of_ble_eq_true rfl) (fun q9 h => hAll q9 (Or.inl h)) dJ26_leftShift_124 (fun v_85 H_86 hpost_87 hz_88 hk_89 => ?_)
              clear hz_88
              obtain ⟨rfl, hoa9⟩ := hpost_87
              have hq_90 := hq.kept (hk_89 _ hq.lt (fun h => (Ne.symm hne_a_q) h))
              refine V.eq (st' := []) rfl ?_
              refine v_goto E (tgt := 256) dJ26_leftShift_127 (by decide) ?_
              refine V.sub [2, 3, 4, 5] (lv' := [(5, vi ((n + u + 0 : Nat) : Int)), (4, vi (l : Int)), (3, vi (b : Int)), (0, .ref a)]) rfl ?_
              refine V.less (Nat.zero_le _) (Nat.zero_le _) ?_
              exact join_256 H_86 q 0 (n + u + 0) (n + u + 0) (n + u + 0) f2 (by omega) (Ne.symm hne_a_q) (Or.inr (by omega)) (by omega) (by omega) (grow_win (o := 0) (by omega) (fun j hj => by rw [Nat.zero_add]; exact (h1 j (by omega)).trans (hW j hj)) (fun j q1 q2 => by rw [Nat.zero_add]; exact h2 j (by omega))) hoa9 hq_90
            · refine v_aload E 1 rfl dJ26_leftShift_96 ?_
              refine v_iload E 0 rfl dJ26_leftShift_98 ?_
              refine v_aload_n E 5 rfl dJ26_leftShift_100 ?_
              refine v_getf E in_J26 hoa (ci := 9) rfl 0 (by decide) q1172 rfl (v := .ref v) rfl dJ26_leftShift_101 ?_
              refine v_aload_n E 5 rfl dJ26_leftShift_104 ?_
              refine v_getf E in_J26 hoa (ci := 9) rfl 2 (by decide) q1174 rfl (v := vi (o : Int)) rfl dJ26_leftShift_105 ?_
              refine v_iload E 0 rfl dJ26_leftShift_108 ?_
              refine v_iadd E dJ26_leftShift_110 ?_
              refine v_iald E dJ26_leftShift_111 hv (o + i) (by omega) (by omega) (by omega) ?_
              refine v_iast E dJ26_leftShift_112 hq i rfl (by omega) (by omega) (hNew _ (by omega)) (fun H_93 hq_91 hs_92 => ?_)
              have hoa_94 := hoa.same hs_92 hne_a_q
              have hv_95 := hv.same hs_92 hne_v_q
              refine v_iinc E 0 rfl dJ26_leftShift_113 (zlt hL rfl) (lv' := [(7, vi ((i : Int) + 1)), (6, .ref q), (5, vi ((n + u + 0 : Nat) : Int)), (4, vi (l : Int)), (3, vi (b : Int)), (0, .ref a)]) rfl ?_
              refine v_goto E (tgt := 87) dJ26_leftShift_116 (by decide) ?_
              exact ih_87  H_93 (i + 1) _ (by omega) (by omega) (fun j hj => by by_cases e : j = i; (rw [e, va_up_self]); (rw [va_up_ne _ _ e]; exact h1 j (by omega))) (fun j hj => by rw [va_up_ne _ _ (by omega)]; exact h2 j (by omega)) hoa_94 hv_95 hq_91
        refine V.sub [0, 1, 2, 3, 4, 6] (lv' := [(7, vi 0), (6, .ref q), (5, vi ((n + u + 0 : Nat) : Int)), (4, vi (l : Int)), (3, vi (b : Int)), (0, .ref a)]) rfl ?_
        exact loop_87 (n + 1) H_77 0 (fun _ => 0) (by omega) (by omega) (fun j hj => absurd hj (by omega)) (fun j hj => rfl) hoa_83 hv_84 hn_78
  · refine v_aload_n E 3 rfl dJ26_leftShift_40 ?_
    refine v_iload_n E 1 rfl dJ26_leftShift_41 ?_
    refine v_callV E (As := [vi (b : Int)]) (b := a) (ci := 9) (C := RJ26) (T := TJ26) (N := 3) hoa_6 rfl (h_pls κ H_2 (s := b) hD (by omega) hb hpn ⟨hoa_6, hv_7, hcap, hc2, hW, hX0, hX1⟩) (lw_V q1212 q1214 qs21 q101 q1215) 1 (by decide +kernel) rfl (by decide) (by decide) (cb' := ((1 - 0) - 0)) (sb' := (((n + u + 1) - 0) - 0)) (by omega) (by omega) rfl (rest := []) (Nat.le_of_ble_eq_true rfl) (fun q h => hAll q (Or.inr h)) dJ26_leftShift_42 (fun v_96 H_97 hpost_98 hz_99 hk_100 => ?_)
    clear hz_99
    obtain ⟨rfl, f1, hv1, hf1⟩ := hpost_98
    have hoa_101 := hoa_6.kept (hk_100 _ hoa_6.lt (fun h => hne_v_a h.symm))
    refine V.eq (st' := []) rfl ?_
    refine v_vret E hE dJ26_leftShift_45 ?_
    obtain rfl : u = 0 := by omega
    have hRL : isInts (X * 2 ^ (32 * 0 + b)) n := sh_ints hB (by omega) (by omega) (by omega) hs
    exact ⟨rfl, v, o, n, cap, f1, ⟨hoa_101, hv1, hcap, hc2, by rw [Nat.mul_zero, Nat.zero_add]; exact hf1, Int.mul_nonneg hX0 (Int.le_of_lt (p2 _)), hRL.2.1⟩, hRL, Or.inl rfl⟩
