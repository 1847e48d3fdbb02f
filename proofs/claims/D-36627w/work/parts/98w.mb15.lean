/-! DIVISION: magnitudes -/
theorem dm_div (x y : Nat) (s : Nat) (hy : 0 < y) : ((x : Int) * 2 ^ s) / ((y : Int) * 2 ^ s) = ((x / y : Nat) : Int) ∧ ((x : Int) * 2 ^ s) % ((y : Int) * 2 ^ s) / 2 ^ s = ((x % y : Nat) : Int) ∧ ((x : Int) * 2 ^ s) % ((y : Int) * 2 ^ s) = ((x % y : Nat) : Int) * 2 ^ s := by
  have hP := p2 s
  have e : ((x : Int) * 2 ^ s) % ((y : Int) * 2 ^ s) = ((x % y : Nat) : Int) * 2 ^ s := by
    rw [Int.mul_comm (x : Int), Int.mul_comm (y : Int), Int.mul_emod_mul_of_pos _ _ hP, Int.natCast_emod, Int.mul_comm]
  refine ⟨?_, ?_, e⟩
  · rw [Int.mul_comm (x : Int), Int.mul_comm (y : Int), Int.mul_ediv_mul_of_pos _ _ hP, Int.natCast_ediv]
  · rw [e, Int.mul_ediv_cancel _ (Int.ne_of_gt hP)]
theorem dm_top {Y : Int} {m l s : Nat} (h0 : 0 ≤ Y) (hY : Y < 2 ^ (32 * m)) (hm : 0 < m) (hl : isBits (bM Y m 0) l) (hl1 : 0 < l) (hs : l + s = 32) : Y * 2 ^ s < 2 ^ (32 * m) ∧ 2147483648 ≤ dg (Y * 2 ^ s) (m - 1) := by
  have hb : isBits (dg Y (m - 1)) l := hl
  have hP := p2 (32 * (m - 1))
  have e := dg_top_ne h0 (show Y < 2 ^ (32 * (m - 1 + 1)) by rw [show m - 1 + 1 = m by omega]; exact hY)
  rw [e] at hb
  have h1 := Int.lt_mul_of_ediv_lt hP hb.1
  have h2 := Int.mul_le_of_le_ediv hP (hb.2 hl1)
  have h3 : Y * 2 ^ s < 2 ^ (32 * m) := by
    have := Int.mul_lt_mul_of_pos_right h1 (p2 s)
    rw [← Int.pow_add, ← Int.pow_add] at this
    exact Int.lt_of_lt_of_le this (pw_mono (by omega))
  have h4 : 2 ^ (32 * (m - 1) + 31) ≤ Y * 2 ^ s := by
    have := Int.mul_le_mul_of_nonneg_right h2 (Int.le_of_lt (p2 s))
    rw [← Int.pow_add, ← Int.pow_add] at this
    exact Int.le_trans (pw_mono (by omega)) this
  refine ⟨h3, ?_⟩
  rw [dg_top_ne (Int.mul_nonneg h0 (Int.le_of_lt (p2 s))) (by rw [show m - 1 + 1 = m by omega]; exact h3)]
  apply Int.le_ediv_of_mul_le hP
  rw [Int.pow_add] at h4
  rw [Int.mul_comm]
  exact h4
theorem dm_fit {X : Int} {n l s : Nat} (h0 : 0 ≤ X) (hX : X < 2 ^ (32 * n)) (hn : 0 < n) (hl : isBits (bM X n 0) l) (hs : l + s ≤ 32) : X * 2 ^ s < 2 ^ (32 * n) := by
  have hb : isBits (dg X (n - 1)) l := hl
  have hP := p2 (32 * (n - 1))
  have e := dg_top_ne h0 (show X < 2 ^ (32 * (n - 1 + 1)) by rw [show n - 1 + 1 = n by omega]; exact hX)
  rw [e] at hb
  have h1 := Int.lt_mul_of_ediv_lt hP hb.1
  have := Int.mul_lt_mul_of_pos_right h1 (p2 s)
  rw [← Int.pow_add, ← Int.pow_add] at this
  exact Int.lt_of_lt_of_le this (pw_mono (by omega))
theorem bM_up {X : Int} {n k : Nat} (hk : k < n) : bM X (n + 1) (k + 1) = bM X n k := by unfold bM; rw [show n + 1 - 1 - (k + 1) = n - 1 - k by omega]
theorem bM_0 (n : Nat) : ∀ k, k < n → iZ ((fun _ => 0 : Nat → Int) k) = iZ (bM 0 n k) := fun k _ => by unfold bM; rw [dg_z]
theorem dm_N {N n m : Nat} (h : N = n ∨ N = n + 1) (hm : m ≤ n) : m ≤ N ∧ N ≤ n + 1 ∧ n ≤ N := by omega
theorem dm_r {x y n N : Nat} (hn : isInts (x : Int) n) (hN : n ≤ N) : 0 ≤ ((x % y : Nat) : Int) ∧ ((x % y : Nat) : Int) < 2 ^ (32 * (N + 1)) ∧ sB ((x % y : Nat) : Int) :=
  ⟨Int.natCast_nonneg _, Int.lt_of_le_of_lt (Int.ofNat_le.mpr (Nat.mod_le x y)) (Int.lt_of_lt_of_le hn.2.1 (pw_mono (by omega))), sB_nat hn (Nat.mod_le x y)⟩
theorem dm_win {fw : Nat → Int} {R : Int} {N : Nat} (h0 : 0 ≤ R) (hR : R < 2 ^ (32 * N)) (h : ∀ i, i < N → fw (1 + i) = bM R N i) : ∀ i, i < N + 1 → va_up fw 0 0 i = bM R (N + 1) i := by
  intro i hi
  by_cases e : i = 0
  · rw [e, va_up_self]
    unfold bM
    exact (dg_hi h0 hR (by omega)).symm
  · rw [va_up_ne _ _ e]
    have := h (i - 1) (by omega)
    rw [show 1 + (i - 1) = i by omega] at this
    rw [this]
    unfold bM
    rw [show N + 1 - 1 - i = N - 1 - (i - 1) by omega]
set_option maxHeartbeats 1500000 in
set_option maxRecDepth 100000 in
/-- division of magnitudes -/
theorem h_dm (κ : zK) (H0 : Heap) {a v o n cap : Nat} {f : Nat → Int} {x : Nat} {b e p m cbp : Nat} {g : Nat → Int} {y : Nat} {c qv qc : Nat} {z3 : Int} (hD : zDist κ) (hz3 : z3 = 0 ∨ z3 = 1) (hm2 : 2 ≤ m) (hyx : y < x) (hn : isInts (x : Int) n) (hm : isInts (y : Int) m) (hne_a_c : a ≠ c) (hne_b_c : b ≠ c) (hne_v_qv : v ≠ qv) (hne_e_qv : e ≠ qv) (hqc : 1 ≤ qc ∧ qc ≤ 1000) (hc : hp κ H0 c (.inr (9, [.ref qv, vi 0, vi 0]))) (hq : hp κ H0 qv (eI κ qc (fun _ => 0))) (hM : MI κ H0 a v o n cap f (x : Int)) (hM2 : MI κ H0 b e p m cbp g (y : Int))  : Mt κ yJ26_divideMagnitude cJ26_divideMagnitude 28 (some (.object "java/math/MutableBigInteger")) 3 96 4 (2 * n + 7) H0 [.ref a, .ref b, .ref c, vi z3] (fun q => q = c ∨ q = qv) (fun v9 H1 => ∃ (v2 o2 n2 cap2 : Nat) (f2 : Nat → Int), MI κ H1 c v2 o2 n2 cap2 f2 ((x / y : Nat) : Int) ∧ isInts ((x / y : Nat) : Int) n2 ∧ (v2 = qv ∨ H0.size ≤ v2) ∧ (z3 = 0 ∧ v9 = some .null ∨ z3 = 1 ∧ ∃ (r v3 o3 n3 cap3 : Nat) (f3 : Nat → Int), v9 = some (.ref r) ∧ H0.size ≤ r ∧ H0.size ≤ v3 ∧ v3 ≠ v2 ∧ MI κ H1 r v3 o3 n3 cap3 f3 ((x % y : Nat) : Int) ∧ isInts ((x % y : Nat) : Int) n3)) := by
  refine Mt.of (by decide) (Nat.le_of_ble_eq_true rfl) ?_
  intro z E hE hH0 hA0 hL hini
  have hAll : ∀ q, (fun q => q = c ∨ q = qv) q → zA z.A z.H0 q := fun q h => Or.inl (by rw [hA0]; exact h)
  have hNew : ∀ q, H0.size ≤ q → zA z.A z.H0 q := fun q h => Or.inr (by rw [hH0]; exact h)
  have E : zOK z cJ26_divideMagnitude RJ26 κ 3 96 (some (.object "java/math/MutableBigInteger")) := E
  refine V.eqL (lv' := [(0, .ref a), (1, .ref b), (2, .ref c), (3, vi z3)]) rfl ?_
  obtain ⟨hoa, hv, hcap, hc2, hW, hX0, hX1⟩ := hM
  obtain ⟨hob, he, hcap2, hc22, hW2, hX02, hX12⟩ := hM2
  have hne_v_a : v ≠ a := Ne.symm (hp.ka hD hoa hv (by decide) (by decide))
  have hne_v_b : v ≠ b := Ne.symm (hp.ka hD hob hv (by decide) (by decide))
  have hne_v_c : v ≠ c := Ne.symm (hp.ka hD hc hv (by decide) (by decide))
  have hne_e_a : e ≠ a := Ne.symm (hp.ka hD hoa he (by decide) (by decide))
  have hne_e_b : e ≠ b := Ne.symm (hp.ka hD hob he (by decide) (by decide))
  have hne_e_c : e ≠ c := Ne.symm (hp.ka hD hc he (by decide) (by decide))
  have hne_qv_a : qv ≠ a := Ne.symm (hp.ka hD hoa hq (by decide) (by decide))
  have hne_qv_b : qv ≠ b := Ne.symm (hp.ka hD hob hq (by decide) (by decide))
  have hne_qv_c : qv ≠ c := Ne.symm (hp.ka hD hc hq (by decide) (by decide))
  have h48 := hn.1
  have h48m := hm.1
  have hrz : rI z3 := by rcases hz3 with h | h <;> rw [h] <;> exact ⟨by decide, by decide⟩
  have hmn : m ≤ n := Nat.le_of_not_lt (fun h => by have := ints_lt hn hm h; omega)
  have hv0 := hv
  have he0 := he
  have hq00 := hq
  have hoa0 := hoa
  have hob0 := hob
  have hc00 := hc
  refine v_aload_n E 1 rfl dJ26_divideMagnitude_0 ?_
  refine v_getf E in_J26 hob (ci := 9) rfl 0 (by decide) q1172 rfl (v := .ref e) rfl dJ26_divideMagnitude_1 ?_
  refine v_aload_n E 1 rfl dJ26_divideMagnitude_4 ?_
  refine v_getf E in_J26 hob (ci := 9) rfl 2 (by decide) q1174 rfl (v := vi (p : Int)) rfl dJ26_divideMagnitude_5 ?_
  refine v_iald E dJ26_divideMagnitude_8 he p rfl (by omega) (by omega) ?_
  refine V.topi (x' := bM (y : Int) m 0) (congrArg iZ (hW2 0 (by omega))) ?_
  refine v_callS E (As := [vi (bM (y : Int) m 0)]) (m_nlz κ H0 (bM_in (y : Int) m 0).1 (bM_in (y : Int) m 0).2) (lw_S q1272 q1210 q99 q1211) 1 (by decide +kernel) rfl (by decide) (by decide) (cb' := (4 - 0)) (sb' := ((2 * n + 7) - 0)) (by omega) (by omega) rfl (rest := []) (Nat.le_of_ble_eq_true rfl) (fun q h => h.elim) dJ26_divideMagnitude_9 (fun v_1 H_2 hpost_3 hz_4 hk_5 => ?_)
  clear hz_4
  obtain ⟨l, rfl, hl32, hl⟩ := hpost_3
  have hz_6 := hoa.kept (hk_5 _ hoa.lt (fun h => h))
  have hz_7 := hv.kept (hk_5 _ hv.lt (fun h => h))
  have hz_8 := hob.kept (hk_5 _ hob.lt (fun h => h))
  have hz_9 := he.kept (hk_5 _ he.lt (fun h => h))
  have hz_10 := hc.kept (hk_5 _ hc.lt (fun h => h))
  have hz_11 := hq.kept (hk_5 _ hq.lt (fun h => h))
  refine V.eq (st' := [vi (32 - (l : Int))]) rfl ?_
  have hl1 : 0 < l := by
    have h8 := top_ne hm (by omega) (Int.natCast_nonneg y)
    rcases Nat.eq_zero_or_pos l with e | e
    · subst e
      have h9 := hl.1
      have h7 := bM_in (y : Int) m 0
      exact absurd (show dg (y : Int) (m - 1) = 0 from by have : bM (y : Int) m 0 = dg (y : Int) (m - 1) := rfl; have h6 : bM (y : Int) m 0 < 1 := h9; omega) h8
    · exact e
  obtain ⟨s, hs9⟩ : ∃ s, l + s = 32 := ⟨32 - l, by omega⟩
  have hDt := dm_top (Int.natCast_nonneg y) hm.2.1 (by omega) hl hl1 hs9
  have hx0 : 0 ≤ ((x : Int) * 2 ^ s) := Int.mul_nonneg (Int.natCast_nonneg x) (Int.le_of_lt (p2 s))
  have hy0 : 0 ≤ ((y : Int) * 2 ^ s) := Int.mul_nonneg (Int.natCast_nonneg y) (Int.le_of_lt (p2 s))
  refine V.topi (x' := (s : Int)) (congrArg iZ (by omega)) ?_
  have join_323 : ∀ (H : Heap) (r w d N wc : Nat) (fw : Nat → Int), (N = n ∨ N = n + 1) → (((x : Int) * 2 ^ s) < 2 ^ (32 * N)) → (N + 1 ≤ wc ∧ wc ≤ 1000) → (∀ i, i < N → fw (1 + i) = bM ((x : Int) * 2 ^ s) N i) → (H0.size ≤ r) → (H0.size ≤ w) → (H0.size ≤ d) → (w ≠ d) → hp κ H a (.inr (9, [.ref v, vi (n : Int), vi (o : Int)])) → hp κ H v (eI κ cap f) → hp κ H b (.inr (9, [.ref e, vi (m : Int), vi (p : Int)])) → hp κ H e (eI κ cbp g) → hp κ H c (.inr (9, [.ref qv, vi 0, vi 0])) → hp κ H qv (eI κ qc (fun _ => 0)) → hp κ H r (.inr (9, [.ref w, vi (N : Int), vi 1])) → hp κ H w (eI κ wc fw) → hp κ H d (eI κ m (bM ((y : Int) * 2 ^ s) m)) → V z H 1 (n + 2 - m) 323 [(0, .ref a), (2, .ref c), (3, vi z3), (4, vi (s : Int)), (5, vi (m : Int)), (6, .ref d), (7, .ref r)] [] := by
    intro H r w d N wc fw hNn hRN hwc hwin hr9 hw9 hd9 hne_w_d hoa hv hob he hc hq hr hw hd
    have hmN := dm_N hNn hmn
    clear hNn
    refine v_aload E 6 rfl dJ26_divideMagnitude_323 ?_
    refine v_getf E in_J26 hr (ci := 9) rfl 1 (by decide) q1173 rfl (v := vi (N : Int)) rfl dJ26_divideMagnitude_325 ?_
    have hne_v_r : v ≠ r := Ne.symm (hp.ka hD hr hv (by decide) (by decide))
    have hne_e_r : e ≠ r := Ne.symm (hp.ka hD hr he (by decide) (by decide))
    have hne_qv_r : qv ≠ r := Ne.symm (hp.ka hD hr hq (by decide) (by decide))
    have hne_w_r : w ≠ r := Ne.symm (hp.ka hD hr hw (by decide) (by decide))
    have hne_d_r : d ≠ r := Ne.symm (hp.ka hD hr hd (by decide) (by decide))
    have hne_w_a : w ≠ a := Ne.symm (hp.ka hD hoa hw (by decide) (by decide))
    have hne_w_b : w ≠ b := Ne.symm (hp.ka hD hob hw (by decide) (by decide))
    have hne_w_c : w ≠ c := Ne.symm (hp.ka hD hc hw (by decide) (by decide))
    have hne_d_a : d ≠ a := Ne.symm (hp.ka hD hoa hd (by decide) (by decide))
    have hne_d_b : d ≠ b := Ne.symm (hp.ka hD hob hd (by decide) (by decide))
    have hne_d_c : d ≠ c := Ne.symm (hp.ka hD hc hd (by decide) (by decide))
    have hne_w_v : w ≠ v := Nat.ne_of_gt (Nat.lt_of_lt_of_le hv0.lt hw9)
    have hne_w_e : w ≠ e := Nat.ne_of_gt (Nat.lt_of_lt_of_le he0.lt hw9)
    have hne_w_qv : w ≠ qv := Nat.ne_of_gt (Nat.lt_of_lt_of_le hq00.lt hw9)
    have hne_d_v : d ≠ v := Nat.ne_of_gt (Nat.lt_of_lt_of_le hv0.lt hd9)
    have hne_d_e : d ≠ e := Nat.ne_of_gt (Nat.lt_of_lt_of_le he0.lt hd9)
    have hne_d_qv : d ≠ qv := Nat.ne_of_gt (Nat.lt_of_lt_of_le hq00.lt hd9)
    have hne_r_a : r ≠ a := Nat.ne_of_gt (Nat.lt_of_lt_of_le hoa0.lt hr9)
    have hne_r_b : r ≠ b := Nat.ne_of_gt (Nat.lt_of_lt_of_le hob0.lt hr9)
    have hne_r_c : r ≠ c := Nat.ne_of_gt (Nat.lt_of_lt_of_le hc00.lt hr9)
    refine v_istore E dJ26_divideMagnitude_328 (zlt hL rfl) (lv' := [(8, vi (N : Int)), (0, .ref a), (2, .ref c), (3, vi z3), (4, vi (s : Int)), (5, vi (m : Int)), (6, .ref d), (7, .ref r)]) rfl ?_
    refine v_iload E 0 rfl dJ26_divideMagnitude_330 ?_
    refine v_iload E 5 rfl dJ26_divideMagnitude_332 ?_
    refine v_isub E dJ26_divideMagnitude_334 ?_
    refine v_iconst E dJ26_divideMagnitude_335 ?_
    refine v_iadd E dJ26_divideMagnitude_336 ?_
    obtain ⟨lim, hlim⟩ : ∃ lim, lim + m = N + 1 := ⟨N + 1 - m, Nat.sub_add_cancel (Nat.le_succ_of_le hmN.1)⟩
    refine V.topi (x' := (lim : Int)) (congrArg iZ (by omega)) ?_
    refine v_istore E dJ26_divideMagnitude_337 (zlt hL rfl) (lv' := [(9, vi (lim : Int)), (8, vi (N : Int)), (0, .ref a), (2, .ref c), (3, vi z3), (4, vi (s : Int)), (5, vi (m : Int)), (6, .ref d), (7, .ref r)]) rfl ?_
    refine v_aload_n E 3 rfl dJ26_divideMagnitude_339 ?_
    refine v_getf E in_J26 hc (ci := 9) rfl 0 (by decide) q1172 rfl (v := .ref qv) rfl dJ26_divideMagnitude_340 ?_
    refine v_alen E dJ26_divideMagnitude_343 (t := 0) (ty := .int) hq rfl ?_
    refine v_iload E 0 rfl dJ26_divideMagnitude_344 ?_
    refine v_icmp_ge E (tgt := 362) dJ26_divideMagnitude_346 (by decide) ⟨by omega, by omega⟩ ⟨by omega, by omega⟩ (fun c_346 => ?_) (fun c_346 => ?_)
    · refine v_aload_n E 3 rfl dJ26_divideMagnitude_362 ?_
      refine v_iload E 0 rfl dJ26_divideMagnitude_363 ?_
      refine v_putf E in_J26 tyJ26 tyJ26_ok nmJ26 hc (ci := 9) rfl 1 (Nat.le_of_ble_eq_true rfl) q1173 rfl rfl rfl rfl (Nat.le_of_ble_eq_true rfl) (hAll _ (Or.inl rfl)) dJ26_divideMagnitude_365 (fun H_14 hc_12 hs_13 => ?_)
      have hoa_15 := hoa.same hs_13 hne_a_c
      have hv_16 := hv.same hs_13 hne_v_c
      have hob_17 := hob.same hs_13 hne_b_c
      have he_18 := he.same hs_13 hne_e_c
      have hq_19 := hq.same hs_13 hne_qv_c
      have hr_20 := hr.same hs_13 hne_r_c
      have hw_21 := hw.same hs_13 hne_w_c
      have hd_22 := hd.same hs_13 hne_d_c
      have hc_12 : hp κ H_14 c (.inr (9, [.ref qv, vi (lim : Int), vi 0])) := hc_12
      refine v_aload_n E 3 rfl dJ26_divideMagnitude_368 ?_
      refine v_getf E in_J26 hc_12 (ci := 9) rfl 0 (by decide) q1172 rfl (v := .ref qv) rfl dJ26_divideMagnitude_369 ?_
      refine v_astore E dJ26_divideMagnitude_372 (zlt hL rfl) (lv' := [(10, .ref qv), (9, vi (lim : Int)), (8, vi (N : Int)), (0, .ref a), (2, .ref c), (3, vi z3), (4, vi (s : Int)), (5, vi (m : Int)), (6, .ref d), (7, .ref r)]) rfl ?_
      refine v_aload E 9 rfl dJ26_divideMagnitude_374 ?_
      refine v_iconst E dJ26_divideMagnitude_376 ?_
      refine v_putf E in_J26 tyJ26 tyJ26_ok nmJ26 hr_20 (ci := 9) rfl 2 (Nat.le_of_ble_eq_true rfl) q1174 rfl rfl rfl rfl (Nat.le_of_ble_eq_true rfl) (hNew _ hr9) dJ26_divideMagnitude_377 (fun H_25 hr_23 hs_24 => ?_)
      have hoa_26 := hoa_15.same hs_24 (Ne.symm hne_r_a)
      have hv_27 := hv_16.same hs_24 hne_v_r
      have hob_28 := hob_17.same hs_24 (Ne.symm hne_r_b)
      have he_29 := he_18.same hs_24 hne_e_r
      have hc_30 := hc_12.same hs_24 (Ne.symm hne_r_c)
      have hq_31 := hq_19.same hs_24 hne_qv_r
      have hw_32 := hw_21.same hs_24 hne_w_r
      have hd_33 := hd_22.same hs_24 hne_d_r
      have hr_23 : hp κ H_25 r (.inr (9, [.ref w, vi (N : Int), vi 0])) := hr_23
      refine v_aload E 9 rfl dJ26_divideMagnitude_380 ?_
      refine v_getf E in_J26 hr_23 (ci := 9) rfl 0 (by decide) q1172 rfl (v := .ref w) rfl dJ26_divideMagnitude_382 ?_
      refine v_iconst E dJ26_divideMagnitude_385 ?_
      refine v_iconst E dJ26_divideMagnitude_386 ?_
      refine v_iast E dJ26_divideMagnitude_387 hw_32 0 rfl (by omega) (by omega) (hNew _ hw9) (fun H_36 hw_34 hs_35 => ?_)
      have hoa_37 := hoa_26.same hs_35 (Ne.symm hne_w_a)
      have hv_38 := hv_27.same hs_35 (Ne.symm hne_w_v)
      have hob_39 := hob_28.same hs_35 (Ne.symm hne_w_b)
      have he_40 := he_29.same hs_35 (Ne.symm hne_w_e)
      have hc_41 := hc_30.same hs_35 (Ne.symm hne_w_c)
      have hq_42 := hq_31.same hs_35 (Ne.symm hne_w_qv)
      have hr_43 := hr_23.same hs_35 (Ne.symm hne_w_r)
      have hd_44 := hd_33.same hs_35 (Ne.symm hne_w_d)
      refine v_aload E 9 rfl dJ26_divideMagnitude_388 ?_
      refine v_dup E rfl dJ26_divideMagnitude_390 ?_
      refine v_getf E in_J26 hr_43 (ci := 9) rfl 1 (by decide) q1173 rfl (v := vi (N : Int)) rfl dJ26_divideMagnitude_391 ?_
      refine v_iconst E dJ26_divideMagnitude_394 ?_
      refine v_iadd E dJ26_divideMagnitude_395 ?_
      refine v_putf E in_J26 tyJ26 tyJ26_ok nmJ26 hr_43 (ci := 9) rfl 1 (Nat.le_of_ble_eq_true rfl) q1173 rfl rfl rfl rfl (Nat.le_of_ble_eq_true rfl) (hNew _ hr9) dJ26_divideMagnitude_396 (fun H_47 hr_45 hs_46 => ?_)
      have hoa_48 := hoa_37.same hs_46 (Ne.symm hne_r_a)
      have hv_49 := hv_38.same hs_46 hne_v_r
      have hob_50 := hob_39.same hs_46 (Ne.symm hne_r_b)
      have he_51 := he_40.same hs_46 hne_e_r
      have hc_52 := hc_41.same hs_46 (Ne.symm hne_r_c)
      have hq_53 := hq_42.same hs_46 hne_qv_r
      have hw_54 := hw_34.same hs_46 hne_w_r
      have hd_55 := hd_44.same hs_46 hne_d_r
      have hr_45 : hp κ H_47 r (.inr (9, [.ref w, vi ((N : Int) + 1), vi 0])) := hr_45
      have hrL : hp κ H_47 r (.inr (9, [.ref w, vi ((N + 1 : Nat) : Int), vi 0])) := by rw [show ((N + 1 : Nat) : Int) = (N : Int) + 1 by omega]; exact hr_45
      obtain ⟨dh, hdh⟩ : ∃ dh, dh = dg ((y : Int) * 2 ^ s) (m - 1) := ⟨_, rfl⟩
      obtain ⟨dl, hdl⟩ : ∃ dl, dl = dg ((y : Int) * 2 ^ s) (m - 2) := ⟨_, rfl⟩
      have hKD := knD.of hm2 hy0 hDt.1 hDt.2
      rw [← hdh, ← hdl] at hKD
      have hdh0 := hKD.2.2.1
      have hdh1 := hKD.2.2.2.1
      refine v_aload E 8 rfl dJ26_divideMagnitude_399 ?_
      refine v_iconst E dJ26_divideMagnitude_401 ?_
      refine v_iald E dJ26_divideMagnitude_402 hd_55 0 rfl (by omega) (by omega) ?_
      refine V.topi (x' := dh) (congrArg iZ (by rw [hdh]; rfl)) ?_
      refine v_istore E dJ26_divideMagnitude_403 (zlt hL rfl) (lv' := [(11, vi dh), (10, .ref qv), (9, vi (lim : Int)), (8, vi (N : Int)), (0, .ref a), (2, .ref c), (3, vi z3), (4, vi (s : Int)), (5, vi (m : Int)), (6, .ref d), (7, .ref r)]) rfl ?_
      refine v_iload E 0 rfl dJ26_divideMagnitude_405 ?_
      refine v_i2lLow E dJ26_divideMagnitude_407 q1240 dJ26_divideMagnitude_408 dJ26_divideMagnitude_411 ?_
      refine V.topl (x' := dh) (congrArg jZ (by omega)) ?_
      refine v_lstore E dJ26_divideMagnitude_412 (zlt hL rfl) (lv' := [(12, vj dh), (11, vi dh), (10, .ref qv), (9, vi (lim : Int)), (8, vi (N : Int)), (0, .ref a), (2, .ref c), (3, vi z3), (4, vi (s : Int)), (5, vi (m : Int)), (6, .ref d), (7, .ref r)]) rfl ?_
      refine v_aload E 10 rfl dJ26_divideMagnitude_414 ?_
      refine v_iconst E dJ26_divideMagnitude_416 ?_
      refine v_iald E dJ26_divideMagnitude_417 hd_55 1 rfl (by omega) (by omega) ?_
      refine V.topi (x' := dl) (congrArg iZ (by rw [hdl]; rfl)) ?_
      refine v_istore E dJ26_divideMagnitude_418 (zlt hL rfl) (lv' := [(14, vi dl), (12, vj dh), (11, vi dh), (10, .ref qv), (9, vi (lim : Int)), (8, vi (N : Int)), (0, .ref a), (2, .ref c), (3, vi z3), (4, vi (s : Int)), (5, vi (m : Int)), (6, .ref d), (7, .ref r)]) rfl ?_
      refine v_iconst E dJ26_divideMagnitude_420 ?_
      refine v_istore E dJ26_divideMagnitude_421 (zlt hL rfl) (lv' := [(15, vi 0), (14, vi dl), (12, vj dh), (11, vi dh), (10, .ref qv), (9, vi (lim : Int)), (8, vi (N : Int)), (0, .ref a), (2, .ref c), (3, vi z3), (4, vi (s : Int)), (5, vi (m : Int)), (6, .ref d), (7, .ref r)]) rfl ?_
      have hlqc : lim ≤ qc ∧ qc ≤ 1000 := ⟨by omega, by omega⟩
      have hlimL : N + 1 = lim + m := hlim.symm
      have hyp : 0 < y := by have := ints_pos (Int.natCast_nonneg y) hm; omega
      have hDp := kn_pos hKD
      have hfin := dm_win hx0 hRN hwin
      have hdmd := dm_div x y s hyp
      have hT0 : ((x : Int) * 2 ^ s) = ((x : Int) * 2 ^ s) % (((y : Int) * 2 ^ s) * 2 ^ (32 * lim)) := (Int.emod_eq_of_lt hx0 (by
        refine Int.lt_of_lt_of_le hRN ?_
        rw [show N = m - 1 + lim by omega, p32a]
        refine Int.mul_le_mul_of_nonneg_right ?_ (Int.le_of_lt (p2 _))
        have := hKD.2.1; have h2 : (1 : Int) ≤ ((y : Int) * 2 ^ s) / 2 ^ (32 * (m - 1)) := by omega
        have := Int.mul_le_of_le_ediv (p2 _) h2
        omega)).symm
      refine V.sub [0, 7, 8, 9, 10, 11, 12, 13, 5, 4, 3, 2, 1] (lv' := [(15, vi 0), (0, .ref a), (2, .ref c), (3, vi z3), (4, vi (s : Int)), (5, vi (m : Int)), (6, .ref d), (7, .ref r), (9, vi (lim : Int)), (10, .ref qv), (11, vi dh), (12, vj dh), (14, vi dl)]) rfl ?_
      refine h_dmL E hL hKD hDt.1 hx0 hlimL (by omega) hwc.1 hwc.2 (by omega) (by omega) hne_w_r hne_d_r hne_qv_r (Ne.symm hne_w_d) (Ne.symm hne_w_qv) (Ne.symm hne_d_qv) hne_w_a hne_qv_a hne_w_c hne_qv_c (fun H f5 fq5 T5 k1 k2 k3 k4 g1 g2 g3 g4 g5 g6 => h_dmE E hL hrz hKD hDt.1 hx0 hlimL (by omega) hwc.1 hwc.2 (by omega) (by omega) hne_w_r hne_d_r hne_qv_r (Ne.symm hne_w_d) (Ne.symm hne_w_qv) (Ne.symm hne_d_qv) hne_w_a hne_qv_a hne_w_c hne_qv_c (fun H fE fqE hqd hrd gA gR gW gD gQ gC => ?_) (fun q9 h => h.elim (fun h => hNew q9 (by rw [h]; exact hw9)) (fun h => hAll q9 (Or.inr (by rw [h])))) k1 k2 k3 k4 g1 g2 g3 g4 g5 g6) (fun q9 h => h.elim (fun h => hNew q9 (by rw [h]; exact hw9)) (fun h => hAll q9 (Or.inr (by rw [h])))) hT0 hfin (fun _ => rfl) hoa_48 hrL hw_54 hd_55 hq_53 hc_52
      rw [hdmd.1] at hqd
      refine v_iload_n E 2 rfl dJ26_divideMagnitude_1261 ?_
      refine v_if_eq E (tgt := 1282) dJ26_divideMagnitude_1262 (by decide) hrz (fun c_1262 => ?_) (fun c_1262 => ?_)
      · refine v_aload_n E 1 rfl dJ26_divideMagnitude_1282 ?_
        have hsq : sB ((x / y : Nat) : Int) := sB_nat hn (Nat.div_le_self x y)
        have hq33 : ((x / y : Nat) : Int) < 2 ^ (32 * lim) := by
          rw [← hdmd.1]
          refine Int.ediv_lt_of_lt_mul hDp ?_
          have h1 := Int.emod_lt_of_pos ((x : Int) * 2 ^ s) (Int.mul_pos hDp (p2 (32 * lim)))
          rw [← hT0] at h1
          rw [Int.mul_comm (2 ^ (32 * lim))]
          exact h1
        refine v_callV E (As := []) (b := c) (ci := 9) (C := RJ26) (T := TJ26) (N := 3) gC rfl (h_norm κ H (v := qv) (o := 0) (n := lim) (f := fqE) (cap := qc) (X := ((x / y : Nat) : Int)) hD hsq ⟨gC, gQ, by omega, by omega, fun k hk => by rw [Nat.zero_add]; exact hqd k hk, Int.natCast_nonneg _, hq33⟩) (lw_V q1241 q1242 q1243 q101 q1244) 0 (by decide +kernel) rfl (by decide) (by decide) (cb' := (1 - 0)) (sb' := ((n + 2 - m) - 0)) (by omega) (by omega) rfl (rest := []) (Nat.le_of_ble_eq_true rfl) (fun q9 h => hAll q9 (Or.inl h)) dJ26_divideMagnitude_1283 (fun v_56 H_57 hpost_58 hz_59 hk_60 => ?_)
        clear hz_59
        obtain ⟨rfl, o6, n6, gC6, hb6, hn6, hW6, hI6⟩ := hpost_58
        have hz_61 := gA.kept (hk_60 _ gA.lt (fun h => hne_a_c h))
        have hz_62 := gR.kept (hk_60 _ gR.lt (fun h => hne_r_c h))
        have hz_63 := gW.kept (hk_60 _ gW.lt (fun h => hne_w_c h))
        have hz_64 := gD.kept (hk_60 _ gD.lt (fun h => hne_d_c h))
        have hz_65 := gQ.kept (hk_60 _ gQ.lt (fun h => hne_qv_c h))
        refine V.eq (st' := []) rfl ?_
        refine v_iload_n E 2 rfl dJ26_divideMagnitude_1286 ?_
        refine v_if_eq E (tgt := 1295) dJ26_divideMagnitude_1287 (by decide) hrz (fun c_1287 => ?_) (fun c_1287 => ?_)
        · refine v_null E dJ26_divideMagnitude_1295 ?_
          refine v_aret E hE rfl (Or.inl ⟨_, rfl⟩) dJ26_divideMagnitude_1296 (Or.inl rfl) ?_
          exact ⟨qv, o6, n6, qc, fqE, ⟨gC6, hz_65, Nat.le_trans hb6 (by rw [Nat.zero_add]; exact hlqc.1), hlqc.2, hW6, Int.natCast_nonneg _, hI6.2.1⟩, hI6, Or.inl rfl, Or.inl ⟨c_1287, rfl⟩⟩
        · refine v_aload E 6 rfl dJ26_divideMagnitude_1290 ?_
          refine v_goto E (tgt := 1296) dJ26_divideMagnitude_1292 (by decide) ?_
          refine v_aret E hE rfl (Or.inl ⟨_, rfl⟩) dJ26_divideMagnitude_1296 (Or.inr ⟨_, rfl⟩) ?_
          exact absurd c_1262 c_1287
      · refine v_iload E 3 rfl dJ26_divideMagnitude_1265 ?_
        refine v_if_le E (tgt := 1277) dJ26_divideMagnitude_1267 (by decide) ⟨by omega, by omega⟩ (fun c_1267 => ?_) (fun c_1267 => ?_)
        · have es : s = 0 := by omega
          have hW3 : ∀ k, k < N + 1 → fE (0 + k) = bM ((x % y : Nat) : Int) (N + 1) k := fun k hk => by
            rw [Nat.zero_add, hrd (by omega) k hk, hdmd.2.2, es, show (2 : Int) ^ 0 = 1 from rfl, Int.mul_one]
          have hrr := dm_r (y := y) hn hmN.2.2
          have hX3 := hrr.1
          have hX33 := hrr.2.1
          have hc3 : 0 + (N + 1) ≤ wc := by rw [Nat.zero_add]; exact hwc.1
          have hsx := (dm_r (y := y) hn hmN.2.2).2.2
          refine v_aload E 6 rfl dJ26_divideMagnitude_1277 ?_
          refine v_callV E (As := []) (b := r) (ci := 9) (C := RJ26) (T := TJ26) (N := 3) gR rfl (h_norm κ H (o := 0) (n := (N + 1)) (f := fE) (X := ((x % y : Nat) : Int)) hD hsx ⟨gR, gW, hc3, hwc.2, hW3, hX3, hX33⟩) (lw_V q1241 q1242 q1243 q101 q1244) 0 (by decide +kernel) rfl (by decide) (by decide) (cb' := (1 - 0)) (sb' := ((n + 2 - m) - 0)) (by omega) (by omega) rfl (rest := []) (Nat.le_of_ble_eq_true rfl) (fun q9 h => hNew q9 (by rw [show q9 = r from h]; exact hr9)) dJ26_divideMagnitude_1279 (fun v_66 H_67 hpost_68 hz_69 hk_70 => ?_)
          clear hz_69
          obtain ⟨rfl, o4, n4, gR4, hb4, hn4, hW4, hI4⟩ := hpost_68
          have hz_71 := gA.kept (hk_70 _ gA.lt (fun h => (Ne.symm hne_r_a) h))
          have hz_72 := gW.kept (hk_70 _ gW.lt (fun h => hne_w_r h))
          have hz_73 := gD.kept (hk_70 _ gD.lt (fun h => hne_d_r h))
          have hz_74 := gQ.kept (hk_70 _ gQ.lt (fun h => hne_qv_r h))
          have hz_75 := gC.kept (hk_70 _ gC.lt (fun h => (Ne.symm hne_r_c) h))
          refine V.eq (st' := []) rfl ?_
          refine v_aload_n E 1 rfl dJ26_divideMagnitude_1282 ?_
          have hsq : sB ((x / y : Nat) : Int) := sB_nat hn (Nat.div_le_self x y)
          have hq33 : ((x / y : Nat) : Int) < 2 ^ (32 * lim) := by
            rw [← hdmd.1]
            refine Int.ediv_lt_of_lt_mul hDp ?_
            have h1 := Int.emod_lt_of_pos ((x : Int) * 2 ^ s) (Int.mul_pos hDp (p2 (32 * lim)))
            rw [← hT0] at h1
            rw [Int.mul_comm (2 ^ (32 * lim))]
            exact h1
          refine v_callV E (As := []) (b := c) (ci := 9) (C := RJ26) (T := TJ26) (N := 3) hz_75 rfl (h_norm κ H_67 (v := qv) (o := 0) (n := lim) (f := fqE) (cap := qc) (X := ((x / y : Nat) : Int)) hD hsq ⟨hz_75, hz_74, by omega, by omega, fun k hk => by rw [Nat.zero_add]; exact hqd k hk, Int.natCast_nonneg _, hq33⟩) (lw_V q1241 q1242 q1243 q101 q1244) 0 (by decide +kernel) rfl (by decide) (by decide) (cb' := ((1 - 0) - 0)) (sb' := (((n + 2 - m) - 0) - 0)) (by omega) (by omega) rfl (rest := []) (Nat.le_of_ble_eq_true rfl) (fun q9 h => hAll q9 (Or.inl h)) dJ26_divideMagnitude_1283 (fun v_76 H_77 hpost_78 hz_79 hk_80 => ?_)
          clear hz_79
          obtain ⟨rfl, o6, n6, gC6, hb6, hn6, hW6, hI6⟩ := hpost_78
          have hz_81 := hz_71.kept (hk_80 _ hz_71.lt (fun h => hne_a_c h))
          have hz_82 := gR4.kept (hk_80 _ gR4.lt (fun h => hne_r_c h))
          have hz_83 := hz_72.kept (hk_80 _ hz_72.lt (fun h => hne_w_c h))
          have hz_84 := hz_73.kept (hk_80 _ hz_73.lt (fun h => hne_d_c h))
          have hz_85 := hz_74.kept (hk_80 _ hz_74.lt (fun h => hne_qv_c h))
          refine V.eq (st' := []) rfl ?_
          refine v_iload_n E 2 rfl dJ26_divideMagnitude_1286 ?_
          refine v_if_eq E (tgt := 1295) dJ26_divideMagnitude_1287 (by decide) hrz (fun c_1287 => ?_) (fun c_1287 => ?_)
          · refine v_null E dJ26_divideMagnitude_1295 ?_
            refine v_aret E hE rfl (Or.inl ⟨_, rfl⟩) dJ26_divideMagnitude_1296 (Or.inl rfl) ?_
            exact ⟨qv, o6, n6, qc, fqE, ⟨gC6, hz_85, Nat.le_trans hb6 (by rw [Nat.zero_add]; exact hlqc.1), hlqc.2, hW6, Int.natCast_nonneg _, hI6.2.1⟩, hI6, Or.inl rfl, Or.inl ⟨c_1287, rfl⟩⟩
          · refine v_aload E 6 rfl dJ26_divideMagnitude_1290 ?_
            refine v_goto E (tgt := 1296) dJ26_divideMagnitude_1292 (by decide) ?_
            refine v_aret E hE rfl (Or.inl ⟨_, rfl⟩) dJ26_divideMagnitude_1296 (Or.inr ⟨_, rfl⟩) ?_
            exact ⟨qv, o6, n6, qc, fqE, ⟨gC6, hz_85, Nat.le_trans hb6 (by rw [Nat.zero_add]; exact hlqc.1), hlqc.2, hW6, Int.natCast_nonneg _, hI6.2.1⟩, hI6, Or.inl rfl, Or.inr ⟨hz3.resolve_left c_1287, r, w, o4, n4, wc, fE, rfl, hr9, hw9, hne_w_qv, ⟨hz_82, hz_83, Nat.le_trans hb4 hc3, hwc.2, hW4, Int.natCast_nonneg _, hI4.2.1⟩, hI4⟩⟩
        · refine v_aload E 6 rfl dJ26_divideMagnitude_1270 ?_
          refine v_iload E 3 rfl dJ26_divideMagnitude_1272 ?_
          refine V.topi (x' := ((32 * 0 + s : Nat) : Int)) (congrArg iZ (by omega)) ?_
          refine v_callV E (As := [vi ((32 * 0 + s : Nat) : Int)]) (b := r) (ci := 9) (C := RJ26) (T := TJ26) (N := 3) gR rfl (h_rsh κ H (o := 0) (n := N + 1) (u := 0) (b := s) hD (by omega) (by omega) ⟨gR, gW, by omega, hwc.2, fun k hk => by rw [Nat.zero_add]; exact hrd (by omega) k hk, Int.emod_nonneg _ (Int.ne_of_gt hDp), Int.lt_trans (Int.emod_lt_of_pos _ hDp) (Int.lt_of_lt_of_le hDt.1 (pw_mono (by omega)))⟩) (lw_V q1202 q1203 q1204 q101 q1205) 1 (by decide +kernel) rfl (by decide) (by decide) (cb' := (1 - 0)) (sb' := ((n + 2 - m) - 0)) (by omega) (by omega) rfl (rest := []) (Nat.le_of_ble_eq_true rfl) (fun q9 h => hNew q9 (h.elim (fun h => by rw [h]; exact hr9) (fun h => by rw [h]; exact hw9))) dJ26_divideMagnitude_1274 (fun v_86 H_87 hpost_88 hz_89 hk_90 => ?_)
          clear hz_89
          obtain ⟨rfl, n3, f3, hM3, hle3, _⟩ := hpost_88
          rw [Nat.mul_zero, Nat.zero_add, hdmd.2.1] at hM3
          obtain ⟨gR3, gW3, hc3, hc33, hW3, hX3, hX33⟩ := hM3
          have hz_91 := gA.kept (hk_90 _ gA.lt (fun h => h.elim (fun h => (Ne.symm hne_r_a) h) (fun h => (Ne.symm hne_w_a) h)))
          have hz_92 := gD.kept (hk_90 _ gD.lt (fun h => h.elim (fun h => hne_d_r h) (fun h => (Ne.symm hne_w_d) h)))
          have hz_93 := gQ.kept (hk_90 _ gQ.lt (fun h => h.elim (fun h => hne_qv_r h) (fun h => (Ne.symm hne_w_qv) h)))
          have hz_94 := gC.kept (hk_90 _ gC.lt (fun h => h.elim (fun h => (Ne.symm hne_r_c) h) (fun h => (Ne.symm hne_w_c) h)))
          refine V.eq (st' := []) rfl ?_
          have hsx := (dm_r (y := y) hn hmN.2.2).2.2
          refine v_aload E 6 rfl dJ26_divideMagnitude_1277 ?_
          refine v_callV E (As := []) (b := r) (ci := 9) (C := RJ26) (T := TJ26) (N := 3) gR3 rfl (h_norm κ H_87 (o := 0) (n := n3) (f := f3) (X := ((x % y : Nat) : Int)) hD hsx ⟨gR3, gW3, hc3, hwc.2, hW3, hX3, hX33⟩) (lw_V q1241 q1242 q1243 q101 q1244) 0 (by decide +kernel) rfl (by decide) (by decide) (cb' := ((1 - 0) - 0)) (sb' := (((n + 2 - m) - 0) - 0)) (by omega) (by omega) rfl (rest := []) (Nat.le_of_ble_eq_true rfl) (fun q9 h => hNew q9 (by rw [show q9 = r from h]; exact hr9)) dJ26_divideMagnitude_1279 (fun v_95 H_96 hpost_97 hz_98 hk_99 => ?_)
          clear hz_98
          obtain ⟨rfl, o4, n4, gR4, hb4, hn4, hW4, hI4⟩ := hpost_97
          have hz_100 := hz_91.kept (hk_99 _ hz_91.lt (fun h => (Ne.symm hne_r_a) h))
          have hz_101 := hz_92.kept (hk_99 _ hz_92.lt (fun h => hne_d_r h))
          have hz_102 := hz_93.kept (hk_99 _ hz_93.lt (fun h => hne_qv_r h))
          have hz_103 := hz_94.kept (hk_99 _ hz_94.lt (fun h => (Ne.symm hne_r_c) h))
          have hz_104 := gW3.kept (hk_99 _ gW3.lt (fun h => hne_w_r h))
          refine V.eq (st' := []) rfl ?_
          refine v_aload_n E 1 rfl dJ26_divideMagnitude_1282 ?_
          have hsq : sB ((x / y : Nat) : Int) := sB_nat hn (Nat.div_le_self x y)
          have hq33 : ((x / y : Nat) : Int) < 2 ^ (32 * lim) := by
            rw [← hdmd.1]
            refine Int.ediv_lt_of_lt_mul hDp ?_
            have h1 := Int.emod_lt_of_pos ((x : Int) * 2 ^ s) (Int.mul_pos hDp (p2 (32 * lim)))
            rw [← hT0] at h1
            rw [Int.mul_comm (2 ^ (32 * lim))]
            exact h1
          refine v_callV E (As := []) (b := c) (ci := 9) (C := RJ26) (T := TJ26) (N := 3) hz_103 rfl (h_norm κ H_96 (v := qv) (o := 0) (n := lim) (f := fqE) (cap := qc) (X := ((x / y : Nat) : Int)) hD hsq ⟨hz_103, hz_102, by omega, by omega, fun k hk => by rw [Nat.zero_add]; exact hqd k hk, Int.natCast_nonneg _, hq33⟩) (lw_V q1241 q1242 q1243 q101 q1244) 0 (by decide +kernel) rfl (by decide) (by decide) (cb' := (((1 - 0) - 0) - 0)) (sb' := ((((n + 2 - m) - 0) - 0) - 0)) (by omega) (by omega) rfl (rest := []) (Nat.le_of_ble_eq_true rfl) (fun q9 h => hAll q9 (Or.inl h)) dJ26_divideMagnitude_1283 (fun v_105 H_106 hpost_107 hz_108 hk_109 => ?_)
          clear hz_108
          obtain ⟨rfl, o6, n6, gC6, hb6, hn6, hW6, hI6⟩ := hpost_107
          have hz_110 := hz_100.kept (hk_109 _ hz_100.lt (fun h => hne_a_c h))
          have hz_111 := hz_101.kept (hk_109 _ hz_101.lt (fun h => hne_d_c h))
          have hz_112 := hz_102.kept (hk_109 _ hz_102.lt (fun h => hne_qv_c h))
          have hz_113 := gR4.kept (hk_109 _ gR4.lt (fun h => hne_r_c h))
          have hz_114 := hz_104.kept (hk_109 _ hz_104.lt (fun h => hne_w_c h))
          refine V.eq (st' := []) rfl ?_
          refine v_iload_n E 2 rfl dJ26_divideMagnitude_1286 ?_
          refine v_if_eq E (tgt := 1295) dJ26_divideMagnitude_1287 (by decide) hrz (fun c_1287 => ?_) (fun c_1287 => ?_)
          · refine v_null E dJ26_divideMagnitude_1295 ?_
            refine v_aret E hE rfl (Or.inl ⟨_, rfl⟩) dJ26_divideMagnitude_1296 (Or.inl rfl) ?_
            exact ⟨qv, o6, n6, qc, fqE, ⟨gC6, hz_112, Nat.le_trans hb6 (by rw [Nat.zero_add]; exact hlqc.1), hlqc.2, hW6, Int.natCast_nonneg _, hI6.2.1⟩, hI6, Or.inl rfl, Or.inl ⟨c_1287, rfl⟩⟩
          · refine v_aload E 6 rfl dJ26_divideMagnitude_1290 ?_
            refine v_goto E (tgt := 1296) dJ26_divideMagnitude_1292 (by decide) ?_
            refine v_aret E hE rfl (Or.inl ⟨_, rfl⟩) dJ26_divideMagnitude_1296 (Or.inr ⟨_, rfl⟩) ?_
            exact ⟨qv, o6, n6, qc, fqE, ⟨gC6, hz_112, Nat.le_trans hb6 (by rw [Nat.zero_add]; exact hlqc.1), hlqc.2, hW6, Int.natCast_nonneg _, hI6.2.1⟩, hI6, Or.inl rfl, Or.inr ⟨hz3.resolve_left c_1287, r, w, o4, n4, wc, f3, rfl, hr9, hw9, hne_w_qv, ⟨hz_113, hz_114, Nat.le_trans hb4 hc3, hwc.2, hW4, Int.natCast_nonneg _, hI4.2.1⟩, hI4⟩⟩
    · refine v_aload_n E 3 rfl dJ26_divideMagnitude_349 ?_
      refine v_iload E 0 rfl dJ26_divideMagnitude_350 ?_
      refine V.frame (fun hfz_fr_115 hfk_fr_115 => ?_)
      rw [hH0] at hfz_fr_115 hfk_fr_115
      rw [hA0] at hfk_fr_115
      refine v_newI E (n := lim) q511 (by omega) rfl (cb' := (1 - 1)) (sb' := ((n + 2 - m) - lim)) (by omega) (by omega) dJ26_divideMagnitude_352 (fun q H_116 hq_119 hn_117 hg_118 => ?_)
      have hne_a_q : a ≠ q := by have := hoa.lt; omega
      have hne_v_q : v ≠ q := by have := hv.lt; omega
      have hne_b_q : b ≠ q := by have := hob.lt; omega
      have hne_e_q : e ≠ q := by have := he.lt; omega
      have hne_c_q : c ≠ q := by have := hc.lt; omega
      have hne_qv_q : qv ≠ q := by have := hq.lt; omega
      have hne_r_q : r ≠ q := by have := hr.lt; omega
      have hne_w_q : w ≠ q := by have := hw.lt; omega
      have hne_d_q : d ≠ q := by have := hd.lt; omega
      have hoa_129 := hoa.grow hg_118
      have hv_130 := hv.grow hg_118
      have hob_131 := hob.grow hg_118
      have he_132 := he.grow hg_118
      have hc_133 := hc.grow hg_118
      have hq_134 := hq.grow hg_118
      have hr_135 := hr.grow hg_118
      have hw_136 := hw.grow hg_118
      have hd_137 := hd.grow hg_118
      have hqH : H0.size ≤ q := by omega
      have hne_q_r : q ≠ r := Ne.symm (hp.ka hD hr_135 hn_117 (by decide) (by decide))
      have hne_q_a : q ≠ a := Ne.symm (hp.ka hD hoa_129 hn_117 (by decide) (by decide))
      have hne_q_c : q ≠ c := Ne.symm (hp.ka hD hc_133 hn_117 (by decide) (by decide))
      refine v_putf E in_J26 tyJ26 tyJ26_ok nmJ26 hc_133 (ci := 9) rfl 0 (Nat.le_of_ble_eq_true rfl) q1172 rfl rfl rfl rfl (Nat.le_of_ble_eq_true rfl) (hAll _ (Or.inl rfl)) dJ26_divideMagnitude_354 (fun H_140 hc_138 hs_139 => ?_)
      have hoa_141 := hoa_129.same hs_139 hne_a_c
      have hv_142 := hv_130.same hs_139 hne_v_c
      have hob_143 := hob_131.same hs_139 hne_b_c
      have he_144 := he_132.same hs_139 hne_e_c
      have hq_145 := hq_134.same hs_139 hne_qv_c
      have hr_146 := hr_135.same hs_139 hne_r_c
      have hw_147 := hw_136.same hs_139 hne_w_c
      have hd_148 := hd_137.same hs_139 hne_d_c
      have hn_149 := hn_117.same hs_139 (Ne.symm hne_c_q)
      have hc_138 : hp κ H_140 c (.inr (9, [.ref q, vi 0, vi 0])) := hc_138
      refine v_aload_n E 3 rfl dJ26_divideMagnitude_357 ?_
      refine v_iconst E dJ26_divideMagnitude_358 ?_
      refine v_putf E in_J26 tyJ26 tyJ26_ok nmJ26 hc_138 (ci := 9) rfl 2 (Nat.le_of_ble_eq_true rfl) q1174 rfl rfl rfl rfl (Nat.le_of_ble_eq_true rfl) (hAll _ (Or.inl rfl)) dJ26_divideMagnitude_359 (fun H_152 hc_150 hs_151 => ?_)
      have hoa_153 := hoa_141.same hs_151 hne_a_c
      have hv_154 := hv_142.same hs_151 hne_v_c
      have hob_155 := hob_143.same hs_151 hne_b_c
      have he_156 := he_144.same hs_151 hne_e_c
      have hq_157 := hq_145.same hs_151 hne_qv_c
      have hr_158 := hr_146.same hs_151 hne_r_c
      have hw_159 := hw_147.same hs_151 hne_w_c
      have hd_160 := hd_148.same hs_151 hne_d_c
      have hn_161 := hn_149.same hs_151 (Ne.symm hne_c_q)
      have hc_150 : hp κ H_152 c (.inr (9, [.ref q, vi 0, vi 0])) := hc_150
      refine v_aload_n E 3 rfl dJ26_divideMagnitude_362 ?_
      refine v_iload E 0 rfl dJ26_divideMagnitude_363 ?_
      refine v_putf E in_J26 tyJ26 tyJ26_ok nmJ26 hc_150 (ci := 9) rfl 1 (Nat.le_of_ble_eq_true rfl) q1173 rfl rfl rfl rfl (Nat.le_of_ble_eq_true rfl) (hAll _ (Or.inl rfl)) dJ26_divideMagnitude_365 (fun H_164 hc_162 hs_163 => ?_)
      have hoa_165 := hoa_153.same hs_163 hne_a_c
      have hv_166 := hv_154.same hs_163 hne_v_c
      have hob_167 := hob_155.same hs_163 hne_b_c
      have he_168 := he_156.same hs_163 hne_e_c
      have hq_169 := hq_157.same hs_163 hne_qv_c
      have hr_170 := hr_158.same hs_163 hne_r_c
      have hw_171 := hw_159.same hs_163 hne_w_c
      have hd_172 := hd_160.same hs_163 hne_d_c
      have hn_173 := hn_161.same hs_163 (Ne.symm hne_c_q)
      have hc_162 : hp κ H_164 c (.inr (9, [.ref q, vi (lim : Int), vi 0])) := hc_162
      refine v_aload_n E 3 rfl dJ26_divideMagnitude_368 ?_
      refine v_getf E in_J26 hc_162 (ci := 9) rfl 0 (by decide) q1172 rfl (v := .ref q) rfl dJ26_divideMagnitude_369 ?_
      refine v_astore E dJ26_divideMagnitude_372 (zlt hL rfl) (lv' := [(10, .ref q), (9, vi (lim : Int)), (8, vi (N : Int)), (0, .ref a), (2, .ref c), (3, vi z3), (4, vi (s : Int)), (5, vi (m : Int)), (6, .ref d), (7, .ref r)]) rfl ?_
      refine v_aload E 9 rfl dJ26_divideMagnitude_374 ?_
      refine v_iconst E dJ26_divideMagnitude_376 ?_
      refine v_putf E in_J26 tyJ26 tyJ26_ok nmJ26 hr_170 (ci := 9) rfl 2 (Nat.le_of_ble_eq_true rfl) q1174 rfl rfl rfl rfl (Nat.le_of_ble_eq_true rfl) (hNew _ hr9) dJ26_divideMagnitude_377 (fun H_176 hr_174 hs_175 => ?_)
      have hoa_177 := hoa_165.same hs_175 (Ne.symm hne_r_a)
      have hv_178 := hv_166.same hs_175 hne_v_r
      have hob_179 := hob_167.same hs_175 (Ne.symm hne_r_b)
      have he_180 := he_168.same hs_175 hne_e_r
      have hc_181 := hc_162.same hs_175 (Ne.symm hne_r_c)
      have hq_182 := hq_169.same hs_175 hne_qv_r
      have hw_183 := hw_171.same hs_175 hne_w_r
      have hd_184 := hd_172.same hs_175 hne_d_r
      have hn_185 := hn_173.same hs_175 (Ne.symm hne_r_q)
      have hr_174 : hp κ H_176 r (.inr (9, [.ref w, vi (N : Int), vi 0])) := hr_174
      refine v_aload E 9 rfl dJ26_divideMagnitude_380 ?_
      refine v_getf E in_J26 hr_174 (ci := 9) rfl 0 (by decide) q1172 rfl (v := .ref w) rfl dJ26_divideMagnitude_382 ?_
      refine v_iconst E dJ26_divideMagnitude_385 ?_
      refine v_iconst E dJ26_divideMagnitude_386 ?_
      refine v_iast E dJ26_divideMagnitude_387 hw_183 0 rfl (by omega) (by omega) (hNew _ hw9) (fun H_188 hw_186 hs_187 => ?_)
      have hoa_189 := hoa_177.same hs_187 (Ne.symm hne_w_a)
      have hv_190 := hv_178.same hs_187 (Ne.symm hne_w_v)
      have hob_191 := hob_179.same hs_187 (Ne.symm hne_w_b)
      have he_192 := he_180.same hs_187 (Ne.symm hne_w_e)
      have hc_193 := hc_181.same hs_187 (Ne.symm hne_w_c)
      have hq_194 := hq_182.same hs_187 (Ne.symm hne_w_qv)
      have hr_195 := hr_174.same hs_187 (Ne.symm hne_w_r)
      have hd_196 := hd_184.same hs_187 (Ne.symm hne_w_d)
      have hn_197 := hn_185.same hs_187 (Ne.symm hne_w_q)
      refine v_aload E 9 rfl dJ26_divideMagnitude_388 ?_
      refine v_dup E rfl dJ26_divideMagnitude_390 ?_
      refine v_getf E in_J26 hr_195 (ci := 9) rfl 1 (by decide) q1173 rfl (v := vi (N : Int)) rfl dJ26_divideMagnitude_391 ?_
      refine v_iconst E dJ26_divideMagnitude_394 ?_
      refine v_iadd E dJ26_divideMagnitude_395 ?_
      refine v_putf E in_J26 tyJ26 tyJ26_ok nmJ26 hr_195 (ci := 9) rfl 1 (Nat.le_of_ble_eq_true rfl) q1173 rfl rfl rfl rfl (Nat.le_of_ble_eq_true rfl) (hNew _ hr9) dJ26_divideMagnitude_396 (fun H_200 hr_198 hs_199 => ?_)
      have hoa_201 := hoa_189.same hs_199 (Ne.symm hne_r_a)
      have hv_202 := hv_190.same hs_199 hne_v_r
      have hob_203 := hob_191.same hs_199 (Ne.symm hne_r_b)
      have he_204 := he_192.same hs_199 hne_e_r
      have hc_205 := hc_193.same hs_199 (Ne.symm hne_r_c)
      have hq_206 := hq_194.same hs_199 hne_qv_r
      have hw_207 := hw_186.same hs_199 hne_w_r
      have hd_208 := hd_196.same hs_199 hne_d_r
      have hn_209 := hn_197.same hs_199 (Ne.symm hne_r_q)
      have hr_198 : hp κ H_200 r (.inr (9, [.ref w, vi ((N : Int) + 1), vi 0])) := hr_198
      have hrL : hp κ H_200 r (.inr (9, [.ref w, vi ((N + 1 : Nat) : Int), vi 0])) := by rw [show ((N + 1 : Nat) : Int) = (N : Int) + 1 by omega]; exact hr_198
      obtain ⟨dh, hdh⟩ : ∃ dh, dh = dg ((y : Int) * 2 ^ s) (m - 1) := ⟨_, rfl⟩
      obtain ⟨dl, hdl⟩ : ∃ dl, dl = dg ((y : Int) * 2 ^ s) (m - 2) := ⟨_, rfl⟩
      have hKD := knD.of hm2 hy0 hDt.1 hDt.2
      rw [← hdh, ← hdl] at hKD
      have hdh0 := hKD.2.2.1
      have hdh1 := hKD.2.2.2.1
      refine v_aload E 8 rfl dJ26_divideMagnitude_399 ?_
      refine v_iconst E dJ26_divideMagnitude_401 ?_
      refine v_iald E dJ26_divideMagnitude_402 hd_208 0 rfl (by omega) (by omega) ?_
      refine V.topi (x' := dh) (congrArg iZ (by rw [hdh]; rfl)) ?_
      refine v_istore E dJ26_divideMagnitude_403 (zlt hL rfl) (lv' := [(11, vi dh), (10, .ref q), (9, vi (lim : Int)), (8, vi (N : Int)), (0, .ref a), (2, .ref c), (3, vi z3), (4, vi (s : Int)), (5, vi (m : Int)), (6, .ref d), (7, .ref r)]) rfl ?_
      refine v_iload E 0 rfl dJ26_divideMagnitude_405 ?_
      refine v_i2lLow E dJ26_divideMagnitude_407 q1240 dJ26_divideMagnitude_408 dJ26_divideMagnitude_411 ?_
      refine V.topl (x' := dh) (congrArg jZ (by omega)) ?_
      refine v_lstore E dJ26_divideMagnitude_412 (zlt hL rfl) (lv' := [(12, vj dh), (11, vi dh), (10, .ref q), (9, vi (lim : Int)), (8, vi (N : Int)), (0, .ref a), (2, .ref c), (3, vi z3), (4, vi (s : Int)), (5, vi (m : Int)), (6, .ref d), (7, .ref r)]) rfl ?_
      refine v_aload E 10 rfl dJ26_divideMagnitude_414 ?_
      refine v_iconst E dJ26_divideMagnitude_416 ?_
      refine v_iald E dJ26_divideMagnitude_417 hd_208 1 rfl (by omega) (by omega) ?_
      refine V.topi (x' := dl) (congrArg iZ (by rw [hdl]; rfl)) ?_
      refine v_istore E dJ26_divideMagnitude_418 (zlt hL rfl) (lv' := [(14, vi dl), (12, vj dh), (11, vi dh), (10, .ref q), (9, vi (lim : Int)), (8, vi (N : Int)), (0, .ref a), (2, .ref c), (3, vi z3), (4, vi (s : Int)), (5, vi (m : Int)), (6, .ref d), (7, .ref r)]) rfl ?_
      refine v_iconst E dJ26_divideMagnitude_420 ?_
      refine v_istore E dJ26_divideMagnitude_421 (zlt hL rfl) (lv' := [(15, vi 0), (14, vi dl), (12, vj dh), (11, vi dh), (10, .ref q), (9, vi (lim : Int)), (8, vi (N : Int)), (0, .ref a), (2, .ref c), (3, vi z3), (4, vi (s : Int)), (5, vi (m : Int)), (6, .ref d), (7, .ref r)]) rfl ?_
      have hlqc : lim ≤ lim ∧ lim ≤ 1000 := ⟨by omega, by omega⟩
      have hlimL : N + 1 = lim + m := hlim.symm
      have hyp : 0 < y := by have := ints_pos (Int.natCast_nonneg y) hm; omega
      have hDp := kn_pos hKD
      have hfin := dm_win hx0 hRN hwin
      have hdmd := dm_div x y s hyp
      have hT0 : ((x : Int) * 2 ^ s) = ((x : Int) * 2 ^ s) % (((y : Int) * 2 ^ s) * 2 ^ (32 * lim)) := (Int.emod_eq_of_lt hx0 (by
        refine Int.lt_of_lt_of_le hRN ?_
        rw [show N = m - 1 + lim by omega, p32a]
        refine Int.mul_le_mul_of_nonneg_right ?_ (Int.le_of_lt (p2 _))
        have := hKD.2.1; have h2 : (1 : Int) ≤ ((y : Int) * 2 ^ s) / 2 ^ (32 * (m - 1)) := by omega
        have := Int.mul_le_of_le_ediv (p2 _) h2
        omega)).symm
      refine V.sub [0, 7, 8, 9, 10, 11, 12, 13, 5, 4, 3, 2, 1] (lv' := [(15, vi 0), (0, .ref a), (2, .ref c), (3, vi z3), (4, vi (s : Int)), (5, vi (m : Int)), (6, .ref d), (7, .ref r), (9, vi (lim : Int)), (10, .ref q), (11, vi dh), (12, vj dh), (14, vi dl)]) rfl ?_
      refine h_dmL E hL hKD hDt.1 hx0 hlimL (by omega) hwc.1 hwc.2 (by omega) (by omega) hne_w_r hne_d_r (Ne.symm hne_r_q) (Ne.symm hne_w_d) (Ne.symm hne_w_q) (Ne.symm hne_d_q) hne_w_a (Ne.symm hne_a_q) hne_w_c (Ne.symm hne_c_q) (fun H f5 fq5 T5 k1 k2 k3 k4 g1 g2 g3 g4 g5 g6 => h_dmE E hL hrz hKD hDt.1 hx0 hlimL (by omega) hwc.1 hwc.2 (by omega) (by omega) hne_w_r hne_d_r (Ne.symm hne_r_q) (Ne.symm hne_w_d) (Ne.symm hne_w_q) (Ne.symm hne_d_q) hne_w_a (Ne.symm hne_a_q) hne_w_c (Ne.symm hne_c_q) (fun H fE fqE hqd hrd gA gR gW gD gQ gC => ?_) (fun q9 h => h.elim (fun h => hNew q9 (by rw [h]; exact hw9)) (fun h => hNew q9 (by rw [h]; omega))) k1 k2 k3 k4 g1 g2 g3 g4 g5 g6) (fun q9 h => h.elim (fun h => hNew q9 (by rw [h]; exact hw9)) (fun h => hNew q9 (by rw [h]; omega))) hT0 hfin (fun _ => rfl) hoa_201 hrL hw_207 hd_208 hn_209 hc_205
      rw [hdmd.1] at hqd
      refine v_iload_n E 2 rfl dJ26_divideMagnitude_1261 ?_
      refine v_if_eq E (tgt := 1282) dJ26_divideMagnitude_1262 (by decide) hrz (fun c_1262 => ?_) (fun c_1262 => ?_)
      · refine v_aload_n E 1 rfl dJ26_divideMagnitude_1282 ?_
        have hsq : sB ((x / y : Nat) : Int) := sB_nat hn (Nat.div_le_self x y)
        have hq33 : ((x / y : Nat) : Int) < 2 ^ (32 * lim) := by
          rw [← hdmd.1]
          refine Int.ediv_lt_of_lt_mul hDp ?_
          have h1 := Int.emod_lt_of_pos ((x : Int) * 2 ^ s) (Int.mul_pos hDp (p2 (32 * lim)))
          rw [← hT0] at h1
          rw [Int.mul_comm (2 ^ (32 * lim))]
          exact h1
        refine v_callV E (As := []) (b := c) (ci := 9) (C := RJ26) (T := TJ26) (N := 3) gC rfl (h_norm κ H (v := q) (o := 0) (n := lim) (f := fqE) (cap := lim) (X := ((x / y : Nat) : Int)) hD hsq ⟨gC, gQ, by omega, by omega, fun k hk => by rw [Nat.zero_add]; exact hqd k hk, Int.natCast_nonneg _, hq33⟩) (lw_V q1241 q1242 q1243 q101 q1244) 0 (by decide +kernel) rfl (by decide) (by decide) (cb' := ((1 - 1) - 0)) (sb' := (((n + 2 - m) - lim) - 0)) (by omega) (by omega) rfl (rest := []) (Nat.le_of_ble_eq_true rfl) (fun q9 h => hAll q9 (Or.inl h)) dJ26_divideMagnitude_1283 (fun v_210 H_211 hpost_212 hz_213 hk_214 => ?_)
        clear hz_213
        obtain ⟨rfl, o6, n6, gC6, hb6, hn6, hW6, hI6⟩ := hpost_212
        have hz_215 := gA.kept (hk_214 _ gA.lt (fun h => hne_a_c h))
        have hz_216 := gR.kept (hk_214 _ gR.lt (fun h => hne_r_c h))
        have hz_217 := gW.kept (hk_214 _ gW.lt (fun h => hne_w_c h))
        have hz_218 := gD.kept (hk_214 _ gD.lt (fun h => hne_d_c h))
        have hz_219 := gQ.kept (hk_214 _ gQ.lt (fun h => (Ne.symm hne_c_q) h))
        refine V.eq (st' := []) rfl ?_
        refine v_iload_n E 2 rfl dJ26_divideMagnitude_1286 ?_
        refine v_if_eq E (tgt := 1295) dJ26_divideMagnitude_1287 (by decide) hrz (fun c_1287 => ?_) (fun c_1287 => ?_)
        · refine v_null E dJ26_divideMagnitude_1295 ?_
          refine v_aret E hE rfl (Or.inl ⟨_, rfl⟩) dJ26_divideMagnitude_1296 (Or.inl rfl) ?_
          exact ⟨q, o6, n6, lim, fqE, ⟨gC6, hz_219, Nat.le_trans hb6 (by rw [Nat.zero_add]; exact hlqc.1), hlqc.2, hW6, Int.natCast_nonneg _, hI6.2.1⟩, hI6, Or.inr hqH, Or.inl ⟨c_1287, rfl⟩⟩
        · refine v_aload E 6 rfl dJ26_divideMagnitude_1290 ?_
          refine v_goto E (tgt := 1296) dJ26_divideMagnitude_1292 (by decide) ?_
          refine v_aret E hE rfl (Or.inl ⟨_, rfl⟩) dJ26_divideMagnitude_1296 (Or.inr ⟨_, rfl⟩) ?_
          exact absurd c_1262 c_1287
      · refine v_iload E 3 rfl dJ26_divideMagnitude_1265 ?_
        refine v_if_le E (tgt := 1277) dJ26_divideMagnitude_1267 (by decide) ⟨by omega, by omega⟩ (fun c_1267 => ?_) (fun c_1267 => ?_)
        · have es : s = 0 := by omega
          have hW3 : ∀ k, k < N + 1 → fE (0 + k) = bM ((x % y : Nat) : Int) (N + 1) k := fun k hk => by
            rw [Nat.zero_add, hrd (by omega) k hk, hdmd.2.2, es, show (2 : Int) ^ 0 = 1 from rfl, Int.mul_one]
          have hrr := dm_r (y := y) hn hmN.2.2
          have hX3 := hrr.1
          have hX33 := hrr.2.1
          have hc3 : 0 + (N + 1) ≤ wc := by rw [Nat.zero_add]; exact hwc.1
          have hsx := (dm_r (y := y) hn hmN.2.2).2.2
          refine v_aload E 6 rfl dJ26_divideMagnitude_1277 ?_
          refine v_callV E (As := []) (b := r) (ci := 9) (C := RJ26) (T := TJ26) (N := 3) gR rfl (h_norm κ H (o := 0) (n := (N + 1)) (f := fE) (X := ((x % y : Nat) : Int)) hD hsx ⟨gR, gW, hc3, hwc.2, hW3, hX3, hX33⟩) (lw_V q1241 q1242 q1243 q101 q1244) 0 (by decide +kernel) rfl (by decide) (by decide) (cb' := ((1 - 1) - 0)) (sb' := (((n + 2 - m) - lim) - 0)) (by omega) (by omega) rfl (rest := []) (Nat.le_of_ble_eq_true rfl) (fun q9 h => hNew q9 (by rw [show q9 = r from h]; exact hr9)) dJ26_divideMagnitude_1279 (fun v_220 H_221 hpost_222 hz_223 hk_224 => ?_)
          clear hz_223
          obtain ⟨rfl, o4, n4, gR4, hb4, hn4, hW4, hI4⟩ := hpost_222
          have hz_225 := gA.kept (hk_224 _ gA.lt (fun h => (Ne.symm hne_r_a) h))
          have hz_226 := gW.kept (hk_224 _ gW.lt (fun h => hne_w_r h))
          have hz_227 := gD.kept (hk_224 _ gD.lt (fun h => hne_d_r h))
          have hz_228 := gQ.kept (hk_224 _ gQ.lt (fun h => (Ne.symm hne_r_q) h))
          have hz_229 := gC.kept (hk_224 _ gC.lt (fun h => (Ne.symm hne_r_c) h))
          refine V.eq (st' := []) rfl ?_
          refine v_aload_n E 1 rfl dJ26_divideMagnitude_1282 ?_
          have hsq : sB ((x / y : Nat) : Int) := sB_nat hn (Nat.div_le_self x y)
          have hq33 : ((x / y : Nat) : Int) < 2 ^ (32 * lim) := by
            rw [← hdmd.1]
            refine Int.ediv_lt_of_lt_mul hDp ?_
            have h1 := Int.emod_lt_of_pos ((x : Int) * 2 ^ s) (Int.mul_pos hDp (p2 (32 * lim)))
            rw [← hT0] at h1
            rw [Int.mul_comm (2 ^ (32 * lim))]
            exact h1
          refine v_callV E (As := []) (b := c) (ci := 9) (C := RJ26) (T := TJ26) (N := 3) hz_229 rfl (h_norm κ H_221 (v := q) (o := 0) (n := lim) (f := fqE) (cap := lim) (X := ((x / y : Nat) : Int)) hD hsq ⟨hz_229, hz_228, by omega, by omega, fun k hk => by rw [Nat.zero_add]; exact hqd k hk, Int.natCast_nonneg _, hq33⟩) (lw_V q1241 q1242 q1243 q101 q1244) 0 (by decide +kernel) rfl (by decide) (by decide) (cb' := (((1 - 1) - 0) - 0)) (sb' := ((((n + 2 - m) - lim) - 0) - 0)) (by omega) (by omega) rfl (rest := []) (Nat.le_of_ble_eq_true rfl) (fun q9 h => hAll q9 (Or.inl h)) dJ26_divideMagnitude_1283 (fun v_230 H_231 hpost_232 hz_233 hk_234 => ?_)
          clear hz_233
          obtain ⟨rfl, o6, n6, gC6, hb6, hn6, hW6, hI6⟩ := hpost_232
          have hz_235 := hz_225.kept (hk_234 _ hz_225.lt (fun h => hne_a_c h))
          have hz_236 := gR4.kept (hk_234 _ gR4.lt (fun h => hne_r_c h))
          have hz_237 := hz_226.kept (hk_234 _ hz_226.lt (fun h => hne_w_c h))
          have hz_238 := hz_227.kept (hk_234 _ hz_227.lt (fun h => hne_d_c h))
          have hz_239 := hz_228.kept (hk_234 _ hz_228.lt (fun h => (Ne.symm hne_c_q) h))
          refine V.eq (st' := []) rfl ?_
          refine v_iload_n E 2 rfl dJ26_divideMagnitude_1286 ?_
          refine v_if_eq E (tgt := 1295) dJ26_divideMagnitude_1287 (by decide) hrz (fun c_1287 => ?_) (fun c_1287 => ?_)
          · refine v_null E dJ26_divideMagnitude_1295 ?_
            refine v_aret E hE rfl (Or.inl ⟨_, rfl⟩) dJ26_divideMagnitude_1296 (Or.inl rfl) ?_
            exact ⟨q, o6, n6, lim, fqE, ⟨gC6, hz_239, Nat.le_trans hb6 (by rw [Nat.zero_add]; exact hlqc.1), hlqc.2, hW6, Int.natCast_nonneg _, hI6.2.1⟩, hI6, Or.inr hqH, Or.inl ⟨c_1287, rfl⟩⟩
          · refine v_aload E 6 rfl dJ26_divideMagnitude_1290 ?_
            refine v_goto E (tgt := 1296) dJ26_divideMagnitude_1292 (by decide) ?_
            refine v_aret E hE rfl (Or.inl ⟨_, rfl⟩) dJ26_divideMagnitude_1296 (Or.inr ⟨_, rfl⟩) ?_
            exact ⟨q, o6, n6, lim, fqE, ⟨gC6, hz_239, Nat.le_trans hb6 (by rw [Nat.zero_add]; exact hlqc.1), hlqc.2, hW6, Int.natCast_nonneg _, hI6.2.1⟩, hI6, Or.inr hqH, Or.inr ⟨hz3.resolve_left c_1287, r, w, o4, n4, wc, fE, rfl, hr9, hw9, hne_w_q, ⟨hz_236, hz_237, Nat.le_trans hb4 hc3, hwc.2, hW4, Int.natCast_nonneg _, hI4.2.1⟩, hI4⟩⟩
        · refine v_aload E 6 rfl dJ26_divideMagnitude_1270 ?_
          refine v_iload E 3 rfl dJ26_divideMagnitude_1272 ?_
          refine V.topi (x' := ((32 * 0 + s : Nat) : Int)) (congrArg iZ (by omega)) ?_
          refine v_callV E (As := [vi ((32 * 0 + s : Nat) : Int)]) (b := r) (ci := 9) (C := RJ26) (T := TJ26) (N := 3) gR rfl (h_rsh κ H (o := 0) (n := N + 1) (u := 0) (b := s) hD (by omega) (by omega) ⟨gR, gW, by omega, hwc.2, fun k hk => by rw [Nat.zero_add]; exact hrd (by omega) k hk, Int.emod_nonneg _ (Int.ne_of_gt hDp), Int.lt_trans (Int.emod_lt_of_pos _ hDp) (Int.lt_of_lt_of_le hDt.1 (pw_mono (by omega)))⟩) (lw_V q1202 q1203 q1204 q101 q1205) 1 (by decide +kernel) rfl (by decide) (by decide) (cb' := ((1 - 1) - 0)) (sb' := (((n + 2 - m) - lim) - 0)) (by omega) (by omega) rfl (rest := []) (Nat.le_of_ble_eq_true rfl) (fun q9 h => hNew q9 (h.elim (fun h => by rw [h]; exact hr9) (fun h => by rw [h]; exact hw9))) dJ26_divideMagnitude_1274 (fun v_240 H_241 hpost_242 hz_243 hk_244 => ?_)
          clear hz_243
          obtain ⟨rfl, n3, f3, hM3, hle3, _⟩ := hpost_242
          rw [Nat.mul_zero, Nat.zero_add, hdmd.2.1] at hM3
          obtain ⟨gR3, gW3, hc3, hc33, hW3, hX3, hX33⟩ := hM3
          have hz_245 := gA.kept (hk_244 _ gA.lt (fun h => h.elim (fun h => (Ne.symm hne_r_a) h) (fun h => (Ne.symm hne_w_a) h)))
          have hz_246 := gD.kept (hk_244 _ gD.lt (fun h => h.elim (fun h => hne_d_r h) (fun h => (Ne.symm hne_w_d) h)))
          have hz_247 := gQ.kept (hk_244 _ gQ.lt (fun h => h.elim (fun h => (Ne.symm hne_r_q) h) (fun h => (Ne.symm hne_w_q) h)))
          have hz_248 := gC.kept (hk_244 _ gC.lt (fun h => h.elim (fun h => (Ne.symm hne_r_c) h) (fun h => (Ne.symm hne_w_c) h)))
          refine V.eq (st' := []) rfl ?_
          have hsx := (dm_r (y := y) hn hmN.2.2).2.2
          refine v_aload E 6 rfl dJ26_divideMagnitude_1277 ?_
          refine v_callV E (As := []) (b := r) (ci := 9) (C := RJ26) (T := TJ26) (N := 3) gR3 rfl (h_norm κ H_241 (o := 0) (n := n3) (f := f3) (X := ((x % y : Nat) : Int)) hD hsx ⟨gR3, gW3, hc3, hwc.2, hW3, hX3, hX33⟩) (lw_V q1241 q1242 q1243 q101 q1244) 0 (by decide +kernel) rfl (by decide) (by decide) (cb' := (((1 - 1) - 0) - 0)) (sb' := ((((n + 2 - m) - lim) - 0) - 0)) (by omega) (by omega) rfl (rest := []) (Nat.le_of_ble_eq_true rfl) (fun q9 h => hNew q9 (by rw [show q9 = r from h]; exact hr9)) dJ26_divideMagnitude_1279 (fun v_249 H_250 hpost_251 hz_252 hk_253 => ?_)
          clear hz_252
          obtain ⟨rfl, o4, n4, gR4, hb4, hn4, hW4, hI4⟩ := hpost_251
          have hz_254 := hz_245.kept (hk_253 _ hz_245.lt (fun h => (Ne.symm hne_r_a) h))
          have hz_255 := hz_246.kept (hk_253 _ hz_246.lt (fun h => hne_d_r h))
          have hz_256 := hz_247.kept (hk_253 _ hz_247.lt (fun h => (Ne.symm hne_r_q) h))
          have hz_257 := hz_248.kept (hk_253 _ hz_248.lt (fun h => (Ne.symm hne_r_c) h))
          have hz_258 := gW3.kept (hk_253 _ gW3.lt (fun h => hne_w_r h))
          refine V.eq (st' := []) rfl ?_
          refine v_aload_n E 1 rfl dJ26_divideMagnitude_1282 ?_
          have hsq : sB ((x / y : Nat) : Int) := sB_nat hn (Nat.div_le_self x y)
          have hq33 : ((x / y : Nat) : Int) < 2 ^ (32 * lim) := by
            rw [← hdmd.1]
            refine Int.ediv_lt_of_lt_mul hDp ?_
            have h1 := Int.emod_lt_of_pos ((x : Int) * 2 ^ s) (Int.mul_pos hDp (p2 (32 * lim)))
            rw [← hT0] at h1
            rw [Int.mul_comm (2 ^ (32 * lim))]
            exact h1
          refine v_callV E (As := []) (b := c) (ci := 9) (C := RJ26) (T := TJ26) (N := 3) hz_257 rfl (h_norm κ H_250 (v := q) (o := 0) (n := lim) (f := fqE) (cap := lim) (X := ((x / y : Nat) : Int)) hD hsq ⟨hz_257, hz_256, by omega, by omega, fun k hk => by rw [Nat.zero_add]; exact hqd k hk, Int.natCast_nonneg _, hq33⟩) (lw_V q1241 q1242 q1243 q101 q1244) 0 (by decide +kernel) rfl (by decide) (by decide) (cb' := ((((1 - 1) - 0) - 0) - 0)) (sb' := (((((n + 2 - m) - lim) - 0) - 0) - 0)) (by omega) (by omega) rfl (rest := []) (Nat.le_of_ble_eq_true rfl) (fun q9 h => hAll q9 (Or.inl h)) dJ26_divideMagnitude_1283 (fun v_259 H_260 hpost_261 hz_262 hk_263 => ?_)
          clear hz_262
          obtain ⟨rfl, o6, n6, gC6, hb6, hn6, hW6, hI6⟩ := hpost_261
          have hz_264 := hz_254.kept (hk_263 _ hz_254.lt (fun h => hne_a_c h))
          have hz_265 := hz_255.kept (hk_263 _ hz_255.lt (fun h => hne_d_c h))
          have hz_266 := hz_256.kept (hk_263 _ hz_256.lt (fun h => (Ne.symm hne_c_q) h))
          have hz_267 := gR4.kept (hk_263 _ gR4.lt (fun h => hne_r_c h))
          have hz_268 := hz_258.kept (hk_263 _ hz_258.lt (fun h => hne_w_c h))
          refine V.eq (st' := []) rfl ?_
          refine v_iload_n E 2 rfl dJ26_divideMagnitude_1286 ?_
          refine v_if_eq E (tgt := 1295) dJ26_divideMagnitude_1287 (by decide) hrz (fun c_1287 => ?_) (fun c_1287 => ?_)
          · refine v_null E dJ26_divideMagnitude_1295 ?_
            refine v_aret E hE rfl (Or.inl ⟨_, rfl⟩) dJ26_divideMagnitude_1296 (Or.inl rfl) ?_
            exact ⟨q, o6, n6, lim, fqE, ⟨gC6, hz_266, Nat.le_trans hb6 (by rw [Nat.zero_add]; exact hlqc.1), hlqc.2, hW6, Int.natCast_nonneg _, hI6.2.1⟩, hI6, Or.inr hqH, Or.inl ⟨c_1287, rfl⟩⟩
          · refine v_aload E 6 rfl dJ26_divideMagnitude_1290 ?_
            refine v_goto E (tgt := 1296) dJ26_divideMagnitude_1292 (by decide) ?_
            refine v_aret E hE rfl (Or.inl ⟨_, rfl⟩) dJ26_divideMagnitude_1296 (Or.inr ⟨_, rfl⟩) ?_
            exact ⟨q, o6, n6, lim, fqE, ⟨gC6, hz_266, Nat.le_trans hb6 (by rw [Nat.zero_add]; exact hlqc.1), hlqc.2, hW6, Int.natCast_nonneg _, hI6.2.1⟩, hI6, Or.inr hqH, Or.inr ⟨hz3.resolve_left c_1287, r, w, o4, n4, wc, f3, rfl, hr9, hw9, hne_w_q, ⟨hz_267, hz_268, Nat.le_trans hb4 hc3, hwc.2, hW4, Int.natCast_nonneg _, hI4.2.1⟩, hI4⟩⟩
  refine v_istore E dJ26_divideMagnitude_12 (zlt hL rfl) (lv' := [(4, vi (s : Int)), (0, .ref a), (1, .ref b), (2, .ref c), (3, vi z3)]) rfl ?_
  refine v_aload_n E 2 rfl dJ26_divideMagnitude_14 ?_
  refine v_getf E in_J26 hz_8 (ci := 9) rfl 1 (by decide) q1173 rfl (v := vi (m : Int)) rfl dJ26_divideMagnitude_15 ?_
  refine v_istore E dJ26_divideMagnitude_18 (zlt hL rfl) (lv' := [(5, vi (m : Int)), (4, vi (s : Int)), (0, .ref a), (1, .ref b), (2, .ref c), (3, vi z3)]) rfl ?_
  refine v_iload E 1 rfl dJ26_divideMagnitude_20 ?_
  refine v_if_le E (tgt := 248) dJ26_divideMagnitude_22 (by decide) ⟨by omega, by omega⟩ (fun c_22 => ?_) (fun c_22 => ?_)
  · refine v_aload_n E 3 rfl dJ26_divideMagnitude_248 ?_
    refine v_getf E in_J26 hz_8 (ci := 9) rfl 0 (by decide) q1172 rfl (v := .ref e) rfl dJ26_divideMagnitude_249 ?_
    refine v_aload_n E 3 rfl dJ26_divideMagnitude_252 ?_
    refine v_getf E in_J26 hz_8 (ci := 9) rfl 2 (by decide) q1174 rfl (v := vi (p : Int)) rfl dJ26_divideMagnitude_253 ?_
    refine v_aload_n E 3 rfl dJ26_divideMagnitude_256 ?_
    refine v_getf E in_J26 hz_8 (ci := 9) rfl 2 (by decide) q1174 rfl (v := vi (p : Int)) rfl dJ26_divideMagnitude_257 ?_
    refine v_aload_n E 3 rfl dJ26_divideMagnitude_260 ?_
    refine v_getf E in_J26 hz_8 (ci := 9) rfl 1 (by decide) q1173 rfl (v := vi (m : Int)) rfl dJ26_divideMagnitude_261 ?_
    refine v_iadd E dJ26_divideMagnitude_264 ?_
    refine V.topi (x' := ((p + m : Nat) : Int)) (congrArg iZ (by omega)) ?_
    refine V.frame (fun hfz_fr_269 hfk_fr_269 => ?_)
    rw [hH0] at hfz_fr_269 hfk_fr_269
    rw [hA0] at hfk_fr_269
    refine v_callS E (As := [.ref e, vi (p : Int), vi ((p + m : Nat) : Int)]) (g_cpr κ H_2 (i := p) (w := m) (n := cbp) hcap2 hc22 hz_9) (lw_S q1263 q719 q81 q720) 3 (by decide +kernel) rfl (by decide) (by decide) (cb' := ((4 - 0) - 1)) (sb' := (((2 * n + 7) - 0) - m)) (by omega) (by omega) rfl (rest := []) (Nat.le_of_ble_eq_true rfl) (fun q h => h.elim) dJ26_divideMagnitude_265 (fun v_270 H_271 hpost_272 hz_273 hk_274 => ?_)
    clear hz_273
    obtain ⟨d, rfl, hdq, hdn⟩ := hpost_272
    have hne_a_d0 : a ≠ d := Nat.ne_of_lt (Nat.lt_of_lt_of_le hz_6.lt hdq)
    have hne_v_d0 : v ≠ d := Nat.ne_of_lt (Nat.lt_of_lt_of_le hz_7.lt hdq)
    have hne_b_d0 : b ≠ d := Nat.ne_of_lt (Nat.lt_of_lt_of_le hz_8.lt hdq)
    have hne_e_d0 : e ≠ d := Nat.ne_of_lt (Nat.lt_of_lt_of_le hz_9.lt hdq)
    have hne_c_d0 : c ≠ d := Nat.ne_of_lt (Nat.lt_of_lt_of_le hz_10.lt hdq)
    have hne_qv_d0 : qv ≠ d := Nat.ne_of_lt (Nat.lt_of_lt_of_le hz_11.lt hdq)
    have hz_275 := hz_6.kept (hk_274 _ hz_6.lt (fun h => h))
    have hz_276 := hz_7.kept (hk_274 _ hz_7.lt (fun h => h))
    have hz_277 := hz_8.kept (hk_274 _ hz_8.lt (fun h => h))
    have hz_278 := hz_9.kept (hk_274 _ hz_9.lt (fun h => h))
    have hz_279 := hz_10.kept (hk_274 _ hz_10.lt (fun h => h))
    have hz_280 := hz_11.kept (hk_274 _ hz_11.lt (fun h => h))
    have es : s = 0 := by omega
    have hdH : H0.size ≤ d := Nat.le_trans hfz_fr_269 hdq
    have hd7 : hp κ H_271 d (eI κ m (bM ((y : Int) * 2 ^ s) m)) := eI.congr hdn (fun k hk => congrArg iZ (by rw [es, show (2 : Int) ^ 0 = 1 from rfl, Int.mul_one]; exact hW2 k hk))
    have hne_d_v := Ne.symm hne_v_d0
    have hne_d_e := Ne.symm hne_e_d0
    have hne_d_qv := Ne.symm hne_qv_d0
    have hne_d_a : d ≠ a := Ne.symm (hp.ka hD hz_275 hd7 (by decide) (by decide))
    have hne_d_b : d ≠ b := Ne.symm (hp.ka hD hz_277 hd7 (by decide) (by decide))
    have hne_d_c : d ≠ c := Ne.symm (hp.ka hD hz_279 hd7 (by decide) (by decide))
    refine V.eq (st' := [.ref d]) rfl ?_
    refine v_astore E dJ26_divideMagnitude_268 (zlt hL rfl) (lv' := [(6, .ref d), (5, vi (m : Int)), (4, vi (s : Int)), (0, .ref a), (1, .ref b), (2, .ref c), (3, vi z3)]) rfl ?_
    refine V.frame (fun hfz_fr_281 hfk_fr_281 => ?_)
    rw [hH0] at hfz_fr_281 hfk_fr_281
    rw [hA0] at hfk_fr_281
    refine v_new E in_J26 tyJ26 tyJ26_ok q1186 q1166 q101 (ci := 9) rfl (fs := [.null, vi 0, vi 0]) (fun j hj => by rcases (show j = 0 ∨ j = 1 ∨ j = 2 by omega) with rfl | rfl | rfl <;> rfl) (cb' := (((4 - 0) - 1) - 1)) (sb' := ((((2 * n + 7) - 0) - m) - 3)) (by omega) (by omega) dJ26_divideMagnitude_270 (fun r H_282 hq_285 ho_283 hg_284 => ?_)
    have hne_a_r : a ≠ r := by have := hz_275.lt; omega
    have hne_v_r : v ≠ r := by have := hz_276.lt; omega
    have hne_b_r : b ≠ r := by have := hz_277.lt; omega
    have hne_e_r : e ≠ r := by have := hz_278.lt; omega
    have hne_c_r : c ≠ r := by have := hz_279.lt; omega
    have hne_qv_r : qv ≠ r := by have := hz_280.lt; omega
    have hne_d_r : d ≠ r := by have := hd7.lt; omega
    have hz_293 := hz_275.grow hg_284
    have hz_294 := hz_276.grow hg_284
    have hz_295 := hz_277.grow hg_284
    have hz_296 := hz_278.grow hg_284
    have hz_297 := hz_279.grow hg_284
    have hz_298 := hz_280.grow hg_284
    have hd7_299 := hd7.grow hg_284
    have hrH : H0.size ≤ r := by omega
    have hne_r_a := Ne.symm hne_a_r
    have hne_r_b := Ne.symm hne_b_r
    have hne_r_c := Ne.symm hne_c_r
    have hne_v_r : v ≠ r := Ne.symm (hp.ka hD ho_283 hz_294 (by decide) (by decide))
    have hne_e_r : e ≠ r := Ne.symm (hp.ka hD ho_283 hz_296 (by decide) (by decide))
    have hne_qv_r : qv ≠ r := Ne.symm (hp.ka hD ho_283 hz_298 (by decide) (by decide))
    have hne_d_r : d ≠ r := Ne.symm (hp.ka hD ho_283 hd7_299 (by decide) (by decide))
    refine v_dup E rfl dJ26_divideMagnitude_273 ?_
    refine v_aload_n E 3 rfl dJ26_divideMagnitude_274 ?_
    refine v_getf E in_J26 hz_293 (ci := 9) rfl 1 (by decide) q1173 rfl (v := vi (n : Int)) rfl dJ26_divideMagnitude_275 ?_
    refine v_iconst E dJ26_divideMagnitude_278 ?_
    refine v_iadd E dJ26_divideMagnitude_279 ?_
    refine V.frame (fun hfz_fr_300 hfk_fr_300 => ?_)
    rw [hH0] at hfz_fr_300 hfk_fr_300
    rw [hA0] at hfk_fr_300
    refine v_newI E (n := (n + 1)) q511 (by omega) (by omega) (cb' := ((((4 - 0) - 1) - 1) - 1)) (sb' := (((((2 * n + 7) - 0) - m) - 3) - (n + 1))) (by omega) (by omega) dJ26_divideMagnitude_280 (fun w H_301 hq_304 hn_302 hg_303 => ?_)
    have hne_a_w : a ≠ w := by have := hz_293.lt; omega
    have hne_v_w : v ≠ w := by have := hz_294.lt; omega
    have hne_b_w : b ≠ w := by have := hz_295.lt; omega
    have hne_e_w : e ≠ w := by have := hz_296.lt; omega
    have hne_c_w : c ≠ w := by have := hz_297.lt; omega
    have hne_qv_w : qv ≠ w := by have := hz_298.lt; omega
    have hne_d_w : d ≠ w := by have := hd7_299.lt; omega
    have hne_r_w : r ≠ w := by have := ho_283.lt; omega
    have hz_313 := hz_293.grow hg_303
    have hz_314 := hz_294.grow hg_303
    have hz_315 := hz_295.grow hg_303
    have hz_316 := hz_296.grow hg_303
    have hz_317 := hz_297.grow hg_303
    have hz_318 := hz_298.grow hg_303
    have hd7_319 := hd7_299.grow hg_303
    have ho_320 := ho_283.grow hg_303
    have hwH : H0.size ≤ w := by omega
    have hne_w_v := Ne.symm hne_v_w
    have hne_w_e := Ne.symm hne_e_w
    have hne_w_qv := Ne.symm hne_qv_w
    have hne_w_d := Ne.symm hne_d_w
    have hne_w_a : w ≠ a := Ne.symm (hp.ka hD hz_313 hn_302 (by decide) (by decide))
    have hne_w_b : w ≠ b := Ne.symm (hp.ka hD hz_315 hn_302 (by decide) (by decide))
    have hne_w_c : w ≠ c := Ne.symm (hp.ka hD hz_317 hn_302 (by decide) (by decide))
    have hne_w_r : w ≠ r := Ne.symm (hp.ka hD ho_320 hn_302 (by decide) (by decide))
    have hne_r_w := Ne.symm hne_w_r
    have hw0 := eI.congr (g := bM 0 (n + 1)) hn_302 (bM_0 _)
    refine v_callI E (As := [.ref w]) (b := r) (h_i5 κ H_301 (m := w) (n := (n + 1)) (X := 0) hD (by omega) (Int.le_refl 0) (p2 _) ho_320 hw0) q1293 q101 q1291 q1292 rfl 1 (by decide +kernel) rfl (by decide) (by decide) (cb' := (((((4 - 0) - 1) - 1) - 1) - 0)) (sb' := ((((((2 * n + 7) - 0) - m) - 3) - (n + 1)) - 0)) (by omega) (by omega) rfl (rest := [.ref r]) (Nat.le_of_ble_eq_true rfl) (fun q9 h => hNew q9 (by rw [show q9 = r from h]; exact hrH)) dJ26_divideMagnitude_282 (fun v_321 H_322 hpost_323 hz_324 hk_325 => ?_)
    clear hz_324
    obtain ⟨rfl, hr5, hw5, _⟩ := hpost_323
    have hz_326 := hz_313.kept (hk_325 _ hz_313.lt (fun h => (Ne.symm hne_r_a) h))
    have hz_327 := hz_314.kept (hk_325 _ hz_314.lt (fun h => hne_v_r h))
    have hz_328 := hz_315.kept (hk_325 _ hz_315.lt (fun h => (Ne.symm hne_r_b) h))
    have hz_329 := hz_316.kept (hk_325 _ hz_316.lt (fun h => hne_e_r h))
    have hz_330 := hz_317.kept (hk_325 _ hz_317.lt (fun h => (Ne.symm hne_r_c) h))
    have hz_331 := hz_318.kept (hk_325 _ hz_318.lt (fun h => hne_qv_r h))
    have hz_332 := hd7_319.kept (hk_325 _ hd7_319.lt (fun h => hne_d_r h))
    refine V.eq (st' := [.ref r]) rfl ?_
    refine v_astore E dJ26_divideMagnitude_285 (zlt hL rfl) (lv' := [(7, .ref r), (6, .ref d), (5, vi (m : Int)), (4, vi (s : Int)), (0, .ref a), (1, .ref b), (2, .ref c), (3, vi z3)]) rfl ?_
    refine v_aload_n E 4 rfl dJ26_divideMagnitude_287 ?_
    refine v_getf E in_J26 hz_326 (ci := 9) rfl 0 (by decide) q1172 rfl (v := .ref v) rfl dJ26_divideMagnitude_288 ?_
    refine v_aload_n E 4 rfl dJ26_divideMagnitude_291 ?_
    refine v_getf E in_J26 hz_326 (ci := 9) rfl 2 (by decide) q1174 rfl (v := vi (o : Int)) rfl dJ26_divideMagnitude_292 ?_
    refine v_aload E 0 rfl dJ26_divideMagnitude_295 ?_
    refine v_getf E in_J26 hr5 (ci := 9) rfl 0 (by decide) q1172 rfl (v := .ref w) rfl dJ26_divideMagnitude_297 ?_
    refine v_iconst E dJ26_divideMagnitude_300 ?_
    refine v_aload_n E 4 rfl dJ26_divideMagnitude_301 ?_
    refine v_getf E in_J26 hz_326 (ci := 9) rfl 1 (by decide) q1173 rfl (v := vi (n : Int)) rfl dJ26_divideMagnitude_302 ?_
    refine v_copyI E (n0 := cap) (n1 := (n + 1)) hz_327 hw5 q1294 q184 q183 q78 (sp := o) (dp := 1) (w := n) (by omega) (by omega) (by omega) (by omega) (hNew _ (by omega)) (by decide) (Nat.le_of_ble_eq_true rfl) (by omega) (by omega) (by omega) dJ26_divideMagnitude_305 (fun H_335 hv_333 hs_334 => ?_)
    have hz_336 := hz_326.same hs_334 (Ne.symm hne_w_a)
    have hz_337 := hz_327.same hs_334 (Ne.symm hne_w_v)
    have hz_338 := hz_328.same hs_334 (Ne.symm hne_w_b)
    have hz_339 := hz_329.same hs_334 (Ne.symm hne_w_e)
    have hz_340 := hz_330.same hs_334 (Ne.symm hne_w_c)
    have hz_341 := hz_331.same hs_334 (Ne.symm hne_w_qv)
    have hz_342 := hz_332.same hs_334 (Ne.symm hne_w_d)
    have hr5_343 := hr5.same hs_334 (Ne.symm hne_w_r)
    refine v_aload E 0 rfl dJ26_divideMagnitude_308 ?_
    refine v_aload_n E 4 rfl dJ26_divideMagnitude_310 ?_
    refine v_getf E in_J26 hz_336 (ci := 9) rfl 1 (by decide) q1173 rfl (v := vi (n : Int)) rfl dJ26_divideMagnitude_311 ?_
    refine v_putf E in_J26 tyJ26 tyJ26_ok nmJ26 hr5_343 (ci := 9) rfl 1 (Nat.le_of_ble_eq_true rfl) q1173 rfl rfl rfl rfl (Nat.le_of_ble_eq_true rfl) (hNew _ hrH) dJ26_divideMagnitude_314 (fun H_346 hr5_344 hs_345 => ?_)
    have hz_347 := hz_336.same hs_345 (Ne.symm hne_r_a)
    have hz_348 := hz_337.same hs_345 hne_v_r
    have hz_349 := hz_338.same hs_345 (Ne.symm hne_r_b)
    have hz_350 := hz_339.same hs_345 hne_e_r
    have hz_351 := hz_340.same hs_345 (Ne.symm hne_r_c)
    have hz_352 := hz_341.same hs_345 hne_qv_r
    have hz_353 := hz_342.same hs_345 hne_d_r
    have hv_354 := hv_333.same hs_345 (Ne.symm hne_r_w)
    have hr5_344 : hp κ H_346 r (.inr (9, [.ref w, vi (n : Int), vi 0])) := hr5_344
    refine v_aload E 0 rfl dJ26_divideMagnitude_317 ?_
    refine v_iconst E dJ26_divideMagnitude_319 ?_
    refine v_putf E in_J26 tyJ26 tyJ26_ok nmJ26 hr5_344 (ci := 9) rfl 2 (Nat.le_of_ble_eq_true rfl) q1174 rfl rfl rfl rfl (Nat.le_of_ble_eq_true rfl) (hNew _ hrH) dJ26_divideMagnitude_320 (fun H_357 hr5_355 hs_356 => ?_)
    have hz_358 := hz_347.same hs_356 (Ne.symm hne_r_a)
    have hz_359 := hz_348.same hs_356 hne_v_r
    have hz_360 := hz_349.same hs_356 (Ne.symm hne_r_b)
    have hz_361 := hz_350.same hs_356 hne_e_r
    have hz_362 := hz_351.same hs_356 (Ne.symm hne_r_c)
    have hz_363 := hz_352.same hs_356 hne_qv_r
    have hz_364 := hz_353.same hs_356 hne_d_r
    have hv_365 := hv_354.same hs_356 (Ne.symm hne_r_w)
    have hr5_355 : hp κ H_357 r (.inr (9, [.ref w, vi (n : Int), vi 1])) := hr5_355
    refine V.sub [4, 6, 7, 3, 2, 1, 0] (lv' := [(0, .ref a), (2, .ref c), (3, vi z3), (4, vi (s : Int)), (5, vi (m : Int)), (6, .ref d), (7, .ref r)]) rfl ?_
    refine V.less (cb' := 1) (sb' := n + 2 - m) (by omega) (by omega) ?_
    exact join_323 H_357 r w d n (n + 1) (va_cpy f (bM 0 (n + 1)) o 1 n) (Or.inl rfl) (by rw [show s = 0 by omega, show (2 : Int) ^ 0 = 1 from rfl, Int.mul_one]; exact hn.2.1) ⟨by omega, by omega⟩ (fun i hi => by rw [show s = 0 by omega, show (2 : Int) ^ 0 = 1 from rfl, Int.mul_one, pk_cpy_in (by omega) (by omega), show 1 + i - 1 = i by omega]; exact hW i hi) hrH hwH hdH hne_w_d hz_358 hz_359 hz_360 hz_361 hz_362 hz_363 hr5_355 hv_365 hz_364
  · refine v_iload E 0 rfl dJ26_divideMagnitude_25 ?_
    refine V.frame (fun hfz_fr_366 hfk_fr_366 => ?_)
    rw [hH0] at hfz_fr_366 hfk_fr_366
    rw [hA0] at hfk_fr_366
    refine v_newI E (n := m) q511 (by omega) rfl (cb' := ((4 - 0) - 1)) (sb' := (((2 * n + 7) - 0) - m)) (by omega) (by omega) dJ26_divideMagnitude_27 (fun d H_367 hq_370 hn_368 hg_369 => ?_)
    have hne_a_d : a ≠ d := by have := hz_6.lt; omega
    have hne_v_d : v ≠ d := by have := hz_7.lt; omega
    have hne_b_d : b ≠ d := by have := hz_8.lt; omega
    have hne_e_d : e ≠ d := by have := hz_9.lt; omega
    have hne_c_d : c ≠ d := by have := hz_10.lt; omega
    have hne_qv_d : qv ≠ d := by have := hz_11.lt; omega
    have hz_377 := hz_6.grow hg_369
    have hz_378 := hz_7.grow hg_369
    have hz_379 := hz_8.grow hg_369
    have hz_380 := hz_9.grow hg_369
    have hz_381 := hz_10.grow hg_369
    have hz_382 := hz_11.grow hg_369
    have hdH : H0.size ≤ d := by omega
    have hne_d_v := Ne.symm hne_v_d
    have hne_d_e := Ne.symm hne_e_d
    have hne_d_qv := Ne.symm hne_qv_d
    have hne_d_a : d ≠ a := Ne.symm (hp.ka hD hz_377 hn_368 (by decide) (by decide))
    have hne_d_b : d ≠ b := Ne.symm (hp.ka hD hz_379 hn_368 (by decide) (by decide))
    have hne_d_c : d ≠ c := Ne.symm (hp.ka hD hz_381 hn_368 (by decide) (by decide))
    refine v_astore E dJ26_divideMagnitude_29 (zlt hL rfl) (lv' := [(6, .ref d), (5, vi (m : Int)), (4, vi (s : Int)), (0, .ref a), (1, .ref b), (2, .ref c), (3, vi z3)]) rfl ?_
    refine v_aload_n E 4 rfl dJ26_divideMagnitude_31 ?_
    refine v_getf E in_J26 hz_379 (ci := 9) rfl 0 (by decide) q1172 rfl (v := .ref e) rfl dJ26_divideMagnitude_32 ?_
    refine v_aload_n E 4 rfl dJ26_divideMagnitude_35 ?_
    refine v_getf E in_J26 hz_379 (ci := 9) rfl 2 (by decide) q1174 rfl (v := vi (p : Int)) rfl dJ26_divideMagnitude_36 ?_
    refine v_iload E 1 rfl dJ26_divideMagnitude_39 ?_
    refine v_aload E 0 rfl dJ26_divideMagnitude_41 ?_
    refine v_iconst E dJ26_divideMagnitude_43 ?_
    refine v_iload E 2 rfl dJ26_divideMagnitude_44 ?_
    refine v_callS E (As := [.ref e, vi (p : Int), vi (m : Int), .ref d, vi 0, vi (s : Int)]) (h_cas κ H_367 (o := p) (p := 0) (n := m) (s := s) (X := (y : Int)) (by omega) (by omega) (by omega) (by omega) (by omega) (by omega) (by omega) (Ne.symm hne_d_e) hW2 hz_380 hn_368) (lw_S q1288 q1289 q101 q1290) 6 (by decide +kernel) rfl (by decide) (by decide) (cb' := (((4 - 0) - 1) - 0)) (sb' := ((((2 * n + 7) - 0) - m) - 0)) (by omega) (by omega) rfl (rest := []) (Nat.le_of_ble_eq_true rfl) (fun q9 h => hNew q9 (by rw [show q9 = d from h]; exact hdH)) dJ26_divideMagnitude_46 (fun v_383 H_384 hpost_385 hz_386 hk_387 => ?_)
    clear hz_386
    obtain ⟨rfl, g_388, hg_388, hg_388w, hg_388o⟩ := hpost_385
    have hz_389 := hz_377.kept (hk_387 _ hz_377.lt (fun h => (Ne.symm hne_d_a) h))
    have hz_390 := hz_378.kept (hk_387 _ hz_378.lt (fun h => (Ne.symm hne_d_v) h))
    have hz_391 := hz_379.kept (hk_387 _ hz_379.lt (fun h => (Ne.symm hne_d_b) h))
    have hz_392 := hz_380.kept (hk_387 _ hz_380.lt (fun h => (Ne.symm hne_d_e) h))
    have hz_393 := hz_381.kept (hk_387 _ hz_381.lt (fun h => (Ne.symm hne_d_c) h))
    have hz_394 := hz_382.kept (hk_387 _ hz_382.lt (fun h => (Ne.symm hne_d_qv) h))
    have hd7 := eI.congr (g := bM ((y : Int) * 2 ^ s) m) hg_388 (fun k hk => congrArg iZ (by have := hg_388w k hk; rwa [Nat.zero_add] at this))
    refine V.eq (st' := []) rfl ?_
    refine v_aload_n E 3 rfl dJ26_divideMagnitude_49 ?_
    refine v_getf E in_J26 hz_389 (ci := 9) rfl 0 (by decide) q1172 rfl (v := .ref v) rfl dJ26_divideMagnitude_50 ?_
    refine v_aload_n E 3 rfl dJ26_divideMagnitude_53 ?_
    refine v_getf E in_J26 hz_389 (ci := 9) rfl 2 (by decide) q1174 rfl (v := vi (o : Int)) rfl dJ26_divideMagnitude_54 ?_
    refine v_iald E dJ26_divideMagnitude_57 hz_390 o rfl (by omega) (by omega) ?_
    refine V.topi (x' := bM (x : Int) n 0) (congrArg iZ (hW 0 (by omega))) ?_
    refine v_callS E (As := [vi (bM (x : Int) n 0)]) (m_nlz κ H_384 (bM_in (x : Int) n 0).1 (bM_in (x : Int) n 0).2) (lw_S q1272 q1210 q99 q1211) 1 (by decide +kernel) rfl (by decide) (by decide) (cb' := ((((4 - 0) - 1) - 0) - 0)) (sb' := (((((2 * n + 7) - 0) - m) - 0) - 0)) (by omega) (by omega) rfl (rest := []) (Nat.le_of_ble_eq_true rfl) (fun q h => h.elim) dJ26_divideMagnitude_58 (fun v_395 H_396 hpost_397 hz_398 hk_399 => ?_)
    clear hz_398
    obtain ⟨la, rfl, hla32, hla⟩ := hpost_397
    have hz_400 := hz_389.kept (hk_399 _ hz_389.lt (fun h => h))
    have hz_401 := hz_390.kept (hk_399 _ hz_390.lt (fun h => h))
    have hz_402 := hz_391.kept (hk_399 _ hz_391.lt (fun h => h))
    have hz_403 := hz_392.kept (hk_399 _ hz_392.lt (fun h => h))
    have hz_404 := hz_393.kept (hk_399 _ hz_393.lt (fun h => h))
    have hz_405 := hz_394.kept (hk_399 _ hz_394.lt (fun h => h))
    have hz_406 := hd7.kept (hk_399 _ hd7.lt (fun h => h))
    refine V.eq (st' := [vi (32 - (la : Int))]) rfl ?_
    refine v_iload E 2 rfl dJ26_divideMagnitude_61 ?_
    refine v_icmp_lt E (tgt := 125) dJ26_divideMagnitude_63 (by decide) ⟨by omega, by omega⟩ ⟨by omega, by omega⟩ (fun c_63 => ?_) (fun c_63 => ?_)
    · refine v_aload_n E 3 rfl dJ26_divideMagnitude_125 ?_
      refine v_getf E in_J26 hz_400 (ci := 9) rfl 1 (by decide) q1173 rfl (v := vi (n : Int)) rfl dJ26_divideMagnitude_126 ?_
      refine v_iconst E dJ26_divideMagnitude_129 ?_
      refine v_iadd E dJ26_divideMagnitude_130 ?_
      refine V.frame (fun hfz_fr_407 hfk_fr_407 => ?_)
      rw [hH0] at hfz_fr_407 hfk_fr_407
      rw [hA0] at hfk_fr_407
      refine v_newI E (n := (n + 2)) q511 (by omega) (by omega) (cb' := (((((4 - 0) - 1) - 0) - 0) - 1)) (sb' := ((((((2 * n + 7) - 0) - m) - 0) - 0) - (n + 2))) (by omega) (by omega) dJ26_divideMagnitude_131 (fun w H_408 hq_411 hn_409 hg_410 => ?_)
      have hne_a_w : a ≠ w := by have := hz_400.lt; omega
      have hne_v_w : v ≠ w := by have := hz_401.lt; omega
      have hne_b_w : b ≠ w := by have := hz_402.lt; omega
      have hne_e_w : e ≠ w := by have := hz_403.lt; omega
      have hne_c_w : c ≠ w := by have := hz_404.lt; omega
      have hne_qv_w : qv ≠ w := by have := hz_405.lt; omega
      have hne_d_w : d ≠ w := by have := hz_406.lt; omega
      have hz_419 := hz_400.grow hg_410
      have hz_420 := hz_401.grow hg_410
      have hz_421 := hz_402.grow hg_410
      have hz_422 := hz_403.grow hg_410
      have hz_423 := hz_404.grow hg_410
      have hz_424 := hz_405.grow hg_410
      have hz_425 := hz_406.grow hg_410
      have hwH : H0.size ≤ w := by omega
      have hne_w_v := Ne.symm hne_v_w
      have hne_w_e := Ne.symm hne_e_w
      have hne_w_qv := Ne.symm hne_qv_w
      have hne_w_d := Ne.symm hne_d_w
      have hne_w_a : w ≠ a := Ne.symm (hp.ka hD hz_419 hn_409 (by decide) (by decide))
      have hne_w_b : w ≠ b := Ne.symm (hp.ka hD hz_421 hn_409 (by decide) (by decide))
      have hne_w_c : w ≠ c := Ne.symm (hp.ka hD hz_423 hn_409 (by decide) (by decide))
      refine v_astore E dJ26_divideMagnitude_133 (zlt hL rfl) (lv' := [(8, .ref w), (6, .ref d), (5, vi (m : Int)), (4, vi (s : Int)), (0, .ref a), (1, .ref b), (2, .ref c), (3, vi z3)]) rfl ?_
      refine V.frame (fun hfz_fr_426 hfk_fr_426 => ?_)
      rw [hH0] at hfz_fr_426 hfk_fr_426
      rw [hA0] at hfk_fr_426
      refine v_new E in_J26 tyJ26 tyJ26_ok q1186 q1166 q101 (ci := 9) rfl (fs := [.null, vi 0, vi 0]) (fun j hj => by rcases (show j = 0 ∨ j = 1 ∨ j = 2 by omega) with rfl | rfl | rfl <;> rfl) (cb' := ((((((4 - 0) - 1) - 0) - 0) - 1) - 1)) (sb' := (((((((2 * n + 7) - 0) - m) - 0) - 0) - (n + 2)) - 3)) (by omega) (by omega) dJ26_divideMagnitude_135 (fun r H_427 hq_430 ho_428 hg_429 => ?_)
      have hne_a_r : a ≠ r := by have := hz_419.lt; omega
      have hne_v_r : v ≠ r := by have := hz_420.lt; omega
      have hne_b_r : b ≠ r := by have := hz_421.lt; omega
      have hne_e_r : e ≠ r := by have := hz_422.lt; omega
      have hne_c_r : c ≠ r := by have := hz_423.lt; omega
      have hne_qv_r : qv ≠ r := by have := hz_424.lt; omega
      have hne_d_r : d ≠ r := by have := hz_425.lt; omega
      have hne_w_r : w ≠ r := by have := hn_409.lt; omega
      have hz_439 := hz_419.grow hg_429
      have hz_440 := hz_420.grow hg_429
      have hz_441 := hz_421.grow hg_429
      have hz_442 := hz_422.grow hg_429
      have hz_443 := hz_423.grow hg_429
      have hz_444 := hz_424.grow hg_429
      have hz_445 := hz_425.grow hg_429
      have hn_446 := hn_409.grow hg_429
      have hrH : H0.size ≤ r := by omega
      have hne_r_a := Ne.symm hne_a_r
      have hne_r_b := Ne.symm hne_b_r
      have hne_r_c := Ne.symm hne_c_r
      have hne_v_r : v ≠ r := Ne.symm (hp.ka hD ho_428 hz_440 (by decide) (by decide))
      have hne_e_r : e ≠ r := Ne.symm (hp.ka hD ho_428 hz_442 (by decide) (by decide))
      have hne_qv_r : qv ≠ r := Ne.symm (hp.ka hD ho_428 hz_444 (by decide) (by decide))
      have hne_w_r : w ≠ r := Ne.symm (hp.ka hD ho_428 hn_446 (by decide) (by decide))
      have hne_d_r : d ≠ r := Ne.symm (hp.ka hD ho_428 hz_445 (by decide) (by decide))
      have hne_r_w := Ne.symm hne_w_r
      refine v_dup E rfl dJ26_divideMagnitude_138 ?_
      refine v_aload E 0 rfl dJ26_divideMagnitude_139 ?_
      have hw0 := eI.congr (g := bM 0 (n + 2)) hn_446 (bM_0 _)
      refine v_callI E (As := [.ref w]) (b := r) (h_i5 κ H_427 (m := w) (n := (n + 2)) (X := 0) hD (by omega) (Int.le_refl 0) (p2 _) ho_428 hw0) q1293 q101 q1291 q1292 rfl 1 (by decide +kernel) rfl (by decide) (by decide) (cb' := (((((((4 - 0) - 1) - 0) - 0) - 1) - 1) - 0)) (sb' := ((((((((2 * n + 7) - 0) - m) - 0) - 0) - (n + 2)) - 3) - 0)) (by omega) (by omega) rfl (rest := [.ref r]) (Nat.le_of_ble_eq_true rfl) (fun q9 h => hNew q9 (by rw [show q9 = r from h]; exact hrH)) dJ26_divideMagnitude_141 (fun v_447 H_448 hpost_449 hz_450 hk_451 => ?_)
      clear hz_450
      obtain ⟨rfl, hr5, hw5, _⟩ := hpost_449
      have hz_452 := hz_439.kept (hk_451 _ hz_439.lt (fun h => (Ne.symm hne_r_a) h))
      have hz_453 := hz_440.kept (hk_451 _ hz_440.lt (fun h => hne_v_r h))
      have hz_454 := hz_441.kept (hk_451 _ hz_441.lt (fun h => (Ne.symm hne_r_b) h))
      have hz_455 := hz_442.kept (hk_451 _ hz_442.lt (fun h => hne_e_r h))
      have hz_456 := hz_443.kept (hk_451 _ hz_443.lt (fun h => (Ne.symm hne_r_c) h))
      have hz_457 := hz_444.kept (hk_451 _ hz_444.lt (fun h => hne_qv_r h))
      have hz_458 := hz_445.kept (hk_451 _ hz_445.lt (fun h => hne_d_r h))
      refine V.eq (st' := [.ref r]) rfl ?_
      refine v_astore E dJ26_divideMagnitude_144 (zlt hL rfl) (lv' := [(7, .ref r), (8, .ref w), (6, .ref d), (5, vi (m : Int)), (4, vi (s : Int)), (0, .ref a), (1, .ref b), (2, .ref c), (3, vi z3)]) rfl ?_
      refine v_aload E 0 rfl dJ26_divideMagnitude_146 ?_
      refine v_aload_n E 5 rfl dJ26_divideMagnitude_148 ?_
      refine v_getf E in_J26 hz_452 (ci := 9) rfl 1 (by decide) q1173 rfl (v := vi (n : Int)) rfl dJ26_divideMagnitude_149 ?_
      refine v_iconst E dJ26_divideMagnitude_152 ?_
      refine v_iadd E dJ26_divideMagnitude_153 ?_
      refine v_putf E in_J26 tyJ26 tyJ26_ok nmJ26 hr5 (ci := 9) rfl 1 (Nat.le_of_ble_eq_true rfl) q1173 rfl rfl rfl rfl (Nat.le_of_ble_eq_true rfl) (hNew _ hrH) dJ26_divideMagnitude_154 (fun H_461 hr5_459 hs_460 => ?_)
      have hz_462 := hz_452.same hs_460 (Ne.symm hne_r_a)
      have hz_463 := hz_453.same hs_460 hne_v_r
      have hz_464 := hz_454.same hs_460 (Ne.symm hne_r_b)
      have hz_465 := hz_455.same hs_460 hne_e_r
      have hz_466 := hz_456.same hs_460 (Ne.symm hne_r_c)
      have hz_467 := hz_457.same hs_460 hne_qv_r
      have hz_468 := hz_458.same hs_460 hne_d_r
      have hw5_469 := hw5.same hs_460 (Ne.symm hne_r_w)
      have hr5_459 : hp κ H_461 r (.inr (9, [.ref w, vi ((n : Int) + 1), vi 0])) := hr5_459
      refine v_aload E 0 rfl dJ26_divideMagnitude_157 ?_
      refine v_iconst E dJ26_divideMagnitude_159 ?_
      refine v_putf E in_J26 tyJ26 tyJ26_ok nmJ26 hr5_459 (ci := 9) rfl 2 (Nat.le_of_ble_eq_true rfl) q1174 rfl rfl rfl rfl (Nat.le_of_ble_eq_true rfl) (hNew _ hrH) dJ26_divideMagnitude_160 (fun H_472 hr5_470 hs_471 => ?_)
      have hz_473 := hz_462.same hs_471 (Ne.symm hne_r_a)
      have hz_474 := hz_463.same hs_471 hne_v_r
      have hz_475 := hz_464.same hs_471 (Ne.symm hne_r_b)
      have hz_476 := hz_465.same hs_471 hne_e_r
      have hz_477 := hz_466.same hs_471 (Ne.symm hne_r_c)
      have hz_478 := hz_467.same hs_471 hne_qv_r
      have hz_479 := hz_468.same hs_471 hne_d_r
      have hw5_480 := hw5_469.same hs_471 (Ne.symm hne_r_w)
      have hr5_470 : hp κ H_472 r (.inr (9, [.ref w, vi ((n : Int) + 1), vi 1])) := hr5_470
      refine v_aload_n E 5 rfl dJ26_divideMagnitude_163 ?_
      refine v_getf E in_J26 hz_473 (ci := 9) rfl 2 (by decide) q1174 rfl (v := vi (o : Int)) rfl dJ26_divideMagnitude_164 ?_
      refine v_istore E dJ26_divideMagnitude_167 (zlt hL rfl) (lv' := [(9, vi (o : Int)), (7, .ref r), (8, .ref w), (6, .ref d), (5, vi (m : Int)), (4, vi (s : Int)), (0, .ref a), (1, .ref b), (2, .ref c), (3, vi z3)]) rfl ?_
      refine v_iconst E dJ26_divideMagnitude_169 ?_
      refine v_istore E dJ26_divideMagnitude_170 (zlt hL rfl) (lv' := [(10, vi 0), (9, vi (o : Int)), (7, .ref r), (8, .ref w), (6, .ref d), (5, vi (m : Int)), (4, vi (s : Int)), (0, .ref a), (1, .ref b), (2, .ref c), (3, vi z3)]) rfl ?_
      refine v_bipush E ⟨by decide, by decide⟩ dJ26_divideMagnitude_172 ?_
      refine v_iload E 6 rfl dJ26_divideMagnitude_174 ?_
      refine v_isub E dJ26_divideMagnitude_176 ?_
      refine v_istore E dJ26_divideMagnitude_177 (zlt hL rfl) (lv' := [(11, vi (32 - (s : Int))), (10, vi 0), (9, vi (o : Int)), (7, .ref r), (8, .ref w), (6, .ref d), (5, vi (m : Int)), (4, vi (s : Int)), (0, .ref a), (1, .ref b), (2, .ref c), (3, vi z3)]) rfl ?_
      refine v_iconst E dJ26_divideMagnitude_179 ?_
      refine v_istore E dJ26_divideMagnitude_180 (zlt hL rfl) (lv' := [(12, vi 1), (11, vi (32 - (s : Int))), (10, vi 0), (9, vi (o : Int)), (7, .ref r), (8, .ref w), (6, .ref d), (5, vi (m : Int)), (4, vi (s : Int)), (0, .ref a), (1, .ref b), (2, .ref c), (3, vi z3)]) rfl ?_
      have loop_182 : ∀ (m_182 : Nat) (H : Heap) (k : Nat) (fw : Nat → Int) (u t : Int), n - k < m_182 → (k ≤ n) → (u = (o : Int) + (k : Int)) → (t = (k : Int) + 1) → ((∀ j, j < k → fw (1 + j) = bM ((x : Int) * 2 ^ s) (n + 1) j) ∧ ∀ j, j < 1 ∨ 1 + (n + 1) ≤ j → fw j = bM 0 (n + 2) j) → hp κ H a (.inr (9, [.ref v, vi (n : Int), vi (o : Int)])) → hp κ H v (eI κ cap f) → hp κ H b (.inr (9, [.ref e, vi (m : Int), vi (p : Int)])) → hp κ H e (eI κ cbp g) → hp κ H c (.inr (9, [.ref qv, vi 0, vi 0])) → hp κ H qv (eI κ qc (fun _ => 0)) → hp κ H r (.inr (9, [.ref w, vi ((n : Int) + 1), vi 1])) → hp κ H w (eI κ (n + 2) fw) → hp κ H d (eI κ m (bM ((y : Int) * 2 ^ s) m)) → V z H (((((((4 - 0) - 1) - 0) - 0) - 1) - 1) - 0) ((((((((2 * n + 7) - 0) - m) - 0) - 0) - (n + 2)) - 3) - 0) 182 [(12, vi t), (11, vi (32 - (s : Int))), (10, vi (bM (x : Int) (n + 1) k)), (9, vi u), (8, .ref w), (0, .ref a), (2, .ref c), (3, vi z3), (4, vi (s : Int)), (5, vi (m : Int)), (6, .ref d), (7, .ref r)] [] := by
        intro m_182
        induction m_182 with
        | zero => intro H k fw u t hm; exact absurd hm (by omega)
        | succ m_182 ih_182 =>
          intro H k fw u t hm_182 hk hu ht hf hoa hv hob he hc hq hr hw hd
          refine v_iload E 0 rfl dJ26_divideMagnitude_182 ?_
          refine v_aload_n E 5 rfl dJ26_divideMagnitude_184 ?_
          refine v_getf E in_J26 hoa (ci := 9) rfl 1 (by decide) q1173 rfl (v := vi (n : Int)) rfl dJ26_divideMagnitude_185 ?_
          refine v_iconst E dJ26_divideMagnitude_188 ?_
          refine v_iadd E dJ26_divideMagnitude_189 ?_
          refine v_icmp_ge E (tgt := 231) dJ26_divideMagnitude_190 (by decide) ⟨by omega, by omega⟩ ⟨by omega, by omega⟩ (fun c_190 => ?_) (fun c_190 => ?_)
          · refine v_aload E 4 rfl dJ26_divideMagnitude_231 ?_
            refine v_aload_n E 5 rfl dJ26_divideMagnitude_233 ?_
            refine v_getf E in_J26 hoa (ci := 9) rfl 1 (by decide) q1173 rfl (v := vi (n : Int)) rfl dJ26_divideMagnitude_234 ?_
            refine v_iconst E dJ26_divideMagnitude_237 ?_
            refine v_iadd E dJ26_divideMagnitude_238 ?_
            refine v_iload E 2 rfl dJ26_divideMagnitude_239 ?_
            refine v_iload E 8 rfl dJ26_divideMagnitude_241 ?_
            refine v_ishl E s (by omega) dJ26_divideMagnitude_243 ?_
            have ek : k = n := by omega
            refine V.topi (x' := dg ((x : Int) * 2 ^ s) (n + 1 - 1 - k)) (by rw [ek, Nat.add_sub_cancel, Nat.sub_self]; exact sh_last (n := n + 1)) ?_
            refine v_iast E dJ26_divideMagnitude_244 hw (1 + k) (by omega) (by omega) (by omega) (hNew _ hwH) (fun H_483 hw_481 hs_482 => ?_)
            have hoa_484 := hoa.same hs_482 (Ne.symm hne_w_a)
            have hv_485 := hv.same hs_482 (Ne.symm hne_w_v)
            have hob_486 := hob.same hs_482 (Ne.symm hne_w_b)
            have he_487 := he.same hs_482 (Ne.symm hne_w_e)
            have hc_488 := hc.same hs_482 (Ne.symm hne_w_c)
            have hq_489 := hq.same hs_482 (Ne.symm hne_w_qv)
            have hr_490 := hr.same hs_482 (Ne.symm hne_w_r)
            have hd_491 := hd.same hs_482 (Ne.symm hne_w_d)
            have hrN : hp κ H_483 r (.inr (9, [.ref w, vi (((n + 1) : Nat) : Int), vi 1])) := by rw [show ((n + 1 : Nat) : Int) = (n : Int) + 1 by omega]; exact hr_490
            refine v_goto E (tgt := 323) dJ26_divideMagnitude_245 (by decide) ?_
            refine V.sub [5, 6, 7, 8, 9, 10, 11] (lv' := [(0, .ref a), (2, .ref c), (3, vi z3), (4, vi (s : Int)), (5, vi (m : Int)), (6, .ref d), (7, .ref r)]) rfl ?_
            refine V.less (cb' := 1) (sb' := n + 2 - m) (by omega) (by omega) ?_
            exact join_323 H_483 r w d (n + 1) (n + 2) (va_up fw (1 + k) (dg ((x : Int) * 2 ^ s) (n + 1 - 1 - k))) (Or.inr rfl) (shl_lt (by omega) (Int.natCast_nonneg x) hn) ⟨by omega, by omega⟩ (fun i hi => (cs_s (n := n + 1) (p := 1) (by omega) hf).1 i (by omega)) hrH hwH hdH hne_w_d hoa_484 hv_485 hob_486 he_487 hc_488 hq_489 hrN hw_481 hd_491
          · refine v_iload E 2 rfl dJ26_divideMagnitude_193 ?_
            refine v_istore E dJ26_divideMagnitude_195 (zlt hL rfl) (lv' := [(13, vi (bM (x : Int) (n + 1) k)), (12, vi t), (11, vi (32 - (s : Int))), (10, vi (bM (x : Int) (n + 1) k)), (9, vi u), (8, .ref w), (0, .ref a), (2, .ref c), (3, vi z3), (4, vi (s : Int)), (5, vi (m : Int)), (6, .ref d), (7, .ref r)]) rfl ?_
            refine v_aload_n E 6 rfl dJ26_divideMagnitude_197 ?_
            refine v_getf E in_J26 hoa (ci := 9) rfl 0 (by decide) q1172 rfl (v := .ref v) rfl dJ26_divideMagnitude_198 ?_
            refine v_iload E 4 rfl dJ26_divideMagnitude_201 ?_
            refine v_iald E dJ26_divideMagnitude_203 hv (o + k) (by omega) (by omega) (by omega) ?_
            refine V.topi (x' := bM (x : Int) (n + 1) (k + 1)) (congrArg iZ (by rw [hW k (by omega)]; exact (bM_up (by omega)).symm)) ?_
            refine v_istore E dJ26_divideMagnitude_204 (zlt hL rfl) (lv' := [(10, vi (bM (x : Int) (n + 1) (k + 1))), (13, vi (bM (x : Int) (n + 1) k)), (12, vi t), (11, vi (32 - (s : Int))), (9, vi u), (8, .ref w), (0, .ref a), (2, .ref c), (3, vi z3), (4, vi (s : Int)), (5, vi (m : Int)), (6, .ref d), (7, .ref r)]) rfl ?_
            refine v_aload E 5 rfl dJ26_divideMagnitude_206 ?_
            refine v_iload E 2 rfl dJ26_divideMagnitude_208 ?_
            refine v_iload E 1 rfl dJ26_divideMagnitude_210 ?_
            refine v_iload E 9 rfl dJ26_divideMagnitude_212 ?_
            refine v_ishl E s (by omega) dJ26_divideMagnitude_214 ?_
            refine v_iload E 0 rfl dJ26_divideMagnitude_215 ?_
            refine v_iload E 3 rfl dJ26_divideMagnitude_217 ?_
            refine V.topi (x' := ((32 - s : Nat) : Int)) (congrArg iZ (by omega)) ?_
            refine v_iushr E (32 - s) (by omega) dJ26_divideMagnitude_219 ?_
            refine v_ior E (c := dg ((x : Int) * 2 ^ s) (n + 1 - 1 - k)) (shl_or (by omega) (by omega)) dJ26_divideMagnitude_220 ?_
            refine v_iast E dJ26_divideMagnitude_221 hw (1 + k) (by omega) (by omega) (by omega) (hNew _ hwH) (fun H_494 hw_492 hs_493 => ?_)
            have hoa_495 := hoa.same hs_493 (Ne.symm hne_w_a)
            have hv_496 := hv.same hs_493 (Ne.symm hne_w_v)
            have hob_497 := hob.same hs_493 (Ne.symm hne_w_b)
            have he_498 := he.same hs_493 (Ne.symm hne_w_e)
            have hc_499 := hc.same hs_493 (Ne.symm hne_w_c)
            have hq_500 := hq.same hs_493 (Ne.symm hne_w_qv)
            have hr_501 := hr.same hs_493 (Ne.symm hne_w_r)
            have hd_502 := hd.same hs_493 (Ne.symm hne_w_d)
            refine v_iinc E 2 rfl dJ26_divideMagnitude_222 (zlt hL rfl) (lv' := [(12, vi (t + 1)), (10, vi (bM (x : Int) (n + 1) (k + 1))), (13, vi (bM (x : Int) (n + 1) k)), (11, vi (32 - (s : Int))), (9, vi u), (8, .ref w), (0, .ref a), (2, .ref c), (3, vi z3), (4, vi (s : Int)), (5, vi (m : Int)), (6, .ref d), (7, .ref r)]) rfl ?_
            refine v_iinc E 4 rfl dJ26_divideMagnitude_225 (zlt hL rfl) (lv' := [(9, vi (u + 1)), (12, vi (t + 1)), (10, vi (bM (x : Int) (n + 1) (k + 1))), (13, vi (bM (x : Int) (n + 1) k)), (11, vi (32 - (s : Int))), (8, .ref w), (0, .ref a), (2, .ref c), (3, vi z3), (4, vi (s : Int)), (5, vi (m : Int)), (6, .ref d), (7, .ref r)]) rfl ?_
            refine v_goto E (tgt := 182) dJ26_divideMagnitude_228 (by decide) ?_
            refine V.sub [1, 4, 2, 0, 5, 6, 7, 8, 9, 10, 11, 12] (lv' := [(12, vi (t + 1)), (11, vi (32 - (s : Int))), (10, vi (bM (x : Int) (n + 1) (k + 1))), (9, vi (u + 1)), (8, .ref w), (0, .ref a), (2, .ref c), (3, vi z3), (4, vi (s : Int)), (5, vi (m : Int)), (6, .ref d), (7, .ref r)]) rfl ?_
            exact ih_182  H_494 (k + 1) _ _ _ (by omega) (by omega) (by omega) (by omega) (cs_s (by omega) hf) hoa_495 hv_496 hob_497 he_498 hc_499 hq_500 hr_501 hw_492 hd_502
      refine V.sub [0, 1, 2, 3, 5, 9, 11, 12, 8, 7, 6, 4] (lv' := [(12, vi 1), (11, vi (32 - (s : Int))), (10, vi 0), (9, vi (o : Int)), (8, .ref w), (0, .ref a), (2, .ref c), (3, vi z3), (4, vi (s : Int)), (5, vi (m : Int)), (6, .ref d), (7, .ref r)]) rfl ?_
      exact V.eqL (by rw [show bM (x : Int) (n + 1) 0 = 0 from dg_hi (Int.natCast_nonneg x) hn.2.1 (Nat.le_refl n)]) (loop_182 (n + 1) H_472 0 (bM 0 (n + 2)) _ _ (by omega) (by omega) (by omega) (by omega) ⟨fun j hj => absurd hj (by omega), fun j _ => rfl⟩ hz_473 hz_474 hz_475 hz_476 hz_477 hz_478 hr5_470 hw5_480 hz_479)
    · refine v_aload_n E 3 rfl dJ26_divideMagnitude_66 ?_
      refine v_getf E in_J26 hz_400 (ci := 9) rfl 1 (by decide) q1173 rfl (v := vi (n : Int)) rfl dJ26_divideMagnitude_67 ?_
      refine v_iconst E dJ26_divideMagnitude_70 ?_
      refine v_iadd E dJ26_divideMagnitude_71 ?_
      refine V.frame (fun hfz_fr_503 hfk_fr_503 => ?_)
      rw [hH0] at hfz_fr_503 hfk_fr_503
      rw [hA0] at hfk_fr_503
      refine v_newI E (n := (n + 1)) q511 (by omega) (by omega) (cb' := (((((4 - 0) - 1) - 0) - 0) - 1)) (sb' := ((((((2 * n + 7) - 0) - m) - 0) - 0) - (n + 1))) (by omega) (by omega) dJ26_divideMagnitude_72 (fun w H_504 hq_507 hn_505 hg_506 => ?_)
      have hne_a_w : a ≠ w := by have := hz_400.lt; omega
      have hne_v_w : v ≠ w := by have := hz_401.lt; omega
      have hne_b_w : b ≠ w := by have := hz_402.lt; omega
      have hne_e_w : e ≠ w := by have := hz_403.lt; omega
      have hne_c_w : c ≠ w := by have := hz_404.lt; omega
      have hne_qv_w : qv ≠ w := by have := hz_405.lt; omega
      have hne_d_w : d ≠ w := by have := hz_406.lt; omega
      have hz_515 := hz_400.grow hg_506
      have hz_516 := hz_401.grow hg_506
      have hz_517 := hz_402.grow hg_506
      have hz_518 := hz_403.grow hg_506
      have hz_519 := hz_404.grow hg_506
      have hz_520 := hz_405.grow hg_506
      have hz_521 := hz_406.grow hg_506
      have hwH : H0.size ≤ w := by omega
      have hne_w_v := Ne.symm hne_v_w
      have hne_w_e := Ne.symm hne_e_w
      have hne_w_qv := Ne.symm hne_qv_w
      have hne_w_d := Ne.symm hne_d_w
      have hne_w_a : w ≠ a := Ne.symm (hp.ka hD hz_515 hn_505 (by decide) (by decide))
      have hne_w_b : w ≠ b := Ne.symm (hp.ka hD hz_517 hn_505 (by decide) (by decide))
      have hne_w_c : w ≠ c := Ne.symm (hp.ka hD hz_519 hn_505 (by decide) (by decide))
      refine v_astore E dJ26_divideMagnitude_74 (zlt hL rfl) (lv' := [(8, .ref w), (6, .ref d), (5, vi (m : Int)), (4, vi (s : Int)), (0, .ref a), (1, .ref b), (2, .ref c), (3, vi z3)]) rfl ?_
      refine V.frame (fun hfz_fr_522 hfk_fr_522 => ?_)
      rw [hH0] at hfz_fr_522 hfk_fr_522
      rw [hA0] at hfk_fr_522
      refine v_new E in_J26 tyJ26 tyJ26_ok q1186 q1166 q101 (ci := 9) rfl (fs := [.null, vi 0, vi 0]) (fun j hj => by rcases (show j = 0 ∨ j = 1 ∨ j = 2 by omega) with rfl | rfl | rfl <;> rfl) (cb' := ((((((4 - 0) - 1) - 0) - 0) - 1) - 1)) (sb' := (((((((2 * n + 7) - 0) - m) - 0) - 0) - (n + 1)) - 3)) (by omega) (by omega) dJ26_divideMagnitude_76 (fun r H_523 hq_526 ho_524 hg_525 => ?_)
      have hne_a_r : a ≠ r := by have := hz_515.lt; omega
      have hne_v_r : v ≠ r := by have := hz_516.lt; omega
      have hne_b_r : b ≠ r := by have := hz_517.lt; omega
      have hne_e_r : e ≠ r := by have := hz_518.lt; omega
      have hne_c_r : c ≠ r := by have := hz_519.lt; omega
      have hne_qv_r : qv ≠ r := by have := hz_520.lt; omega
      have hne_d_r : d ≠ r := by have := hz_521.lt; omega
      have hne_w_r : w ≠ r := by have := hn_505.lt; omega
      have hz_535 := hz_515.grow hg_525
      have hz_536 := hz_516.grow hg_525
      have hz_537 := hz_517.grow hg_525
      have hz_538 := hz_518.grow hg_525
      have hz_539 := hz_519.grow hg_525
      have hz_540 := hz_520.grow hg_525
      have hz_541 := hz_521.grow hg_525
      have hn_542 := hn_505.grow hg_525
      have hrH : H0.size ≤ r := by omega
      have hne_r_a := Ne.symm hne_a_r
      have hne_r_b := Ne.symm hne_b_r
      have hne_r_c := Ne.symm hne_c_r
      have hne_v_r : v ≠ r := Ne.symm (hp.ka hD ho_524 hz_536 (by decide) (by decide))
      have hne_e_r : e ≠ r := Ne.symm (hp.ka hD ho_524 hz_538 (by decide) (by decide))
      have hne_qv_r : qv ≠ r := Ne.symm (hp.ka hD ho_524 hz_540 (by decide) (by decide))
      have hne_w_r : w ≠ r := Ne.symm (hp.ka hD ho_524 hn_542 (by decide) (by decide))
      have hne_d_r : d ≠ r := Ne.symm (hp.ka hD ho_524 hz_541 (by decide) (by decide))
      have hne_r_w := Ne.symm hne_w_r
      refine v_dup E rfl dJ26_divideMagnitude_79 ?_
      refine v_aload E 0 rfl dJ26_divideMagnitude_80 ?_
      have hw0 := eI.congr (g := bM 0 (n + 1)) hn_542 (bM_0 _)
      refine v_callI E (As := [.ref w]) (b := r) (h_i5 κ H_523 (m := w) (n := (n + 1)) (X := 0) hD (by omega) (Int.le_refl 0) (p2 _) ho_524 hw0) q1293 q101 q1291 q1292 rfl 1 (by decide +kernel) rfl (by decide) (by decide) (cb' := (((((((4 - 0) - 1) - 0) - 0) - 1) - 1) - 0)) (sb' := ((((((((2 * n + 7) - 0) - m) - 0) - 0) - (n + 1)) - 3) - 0)) (by omega) (by omega) rfl (rest := [.ref r]) (Nat.le_of_ble_eq_true rfl) (fun q9 h => hNew q9 (by rw [show q9 = r from h]; exact hrH)) dJ26_divideMagnitude_82 (fun v_543 H_544 hpost_545 hz_546 hk_547 => ?_)
      clear hz_546
      obtain ⟨rfl, hr5, hw5, _⟩ := hpost_545
      have hz_548 := hz_535.kept (hk_547 _ hz_535.lt (fun h => (Ne.symm hne_r_a) h))
      have hz_549 := hz_536.kept (hk_547 _ hz_536.lt (fun h => hne_v_r h))
      have hz_550 := hz_537.kept (hk_547 _ hz_537.lt (fun h => (Ne.symm hne_r_b) h))
      have hz_551 := hz_538.kept (hk_547 _ hz_538.lt (fun h => hne_e_r h))
      have hz_552 := hz_539.kept (hk_547 _ hz_539.lt (fun h => (Ne.symm hne_r_c) h))
      have hz_553 := hz_540.kept (hk_547 _ hz_540.lt (fun h => hne_qv_r h))
      have hz_554 := hz_541.kept (hk_547 _ hz_541.lt (fun h => hne_d_r h))
      refine V.eq (st' := [.ref r]) rfl ?_
      refine v_astore E dJ26_divideMagnitude_85 (zlt hL rfl) (lv' := [(7, .ref r), (8, .ref w), (6, .ref d), (5, vi (m : Int)), (4, vi (s : Int)), (0, .ref a), (1, .ref b), (2, .ref c), (3, vi z3)]) rfl ?_
      refine v_aload E 0 rfl dJ26_divideMagnitude_87 ?_
      refine v_aload_n E 5 rfl dJ26_divideMagnitude_89 ?_
      refine v_getf E in_J26 hz_548 (ci := 9) rfl 1 (by decide) q1173 rfl (v := vi (n : Int)) rfl dJ26_divideMagnitude_90 ?_
      refine v_putf E in_J26 tyJ26 tyJ26_ok nmJ26 hr5 (ci := 9) rfl 1 (Nat.le_of_ble_eq_true rfl) q1173 rfl rfl rfl rfl (Nat.le_of_ble_eq_true rfl) (hNew _ hrH) dJ26_divideMagnitude_93 (fun H_557 hr5_555 hs_556 => ?_)
      have hz_558 := hz_548.same hs_556 (Ne.symm hne_r_a)
      have hz_559 := hz_549.same hs_556 hne_v_r
      have hz_560 := hz_550.same hs_556 (Ne.symm hne_r_b)
      have hz_561 := hz_551.same hs_556 hne_e_r
      have hz_562 := hz_552.same hs_556 (Ne.symm hne_r_c)
      have hz_563 := hz_553.same hs_556 hne_qv_r
      have hz_564 := hz_554.same hs_556 hne_d_r
      have hw5_565 := hw5.same hs_556 (Ne.symm hne_r_w)
      have hr5_555 : hp κ H_557 r (.inr (9, [.ref w, vi (n : Int), vi 0])) := hr5_555
      refine v_aload E 0 rfl dJ26_divideMagnitude_96 ?_
      refine v_iconst E dJ26_divideMagnitude_98 ?_
      refine v_putf E in_J26 tyJ26 tyJ26_ok nmJ26 hr5_555 (ci := 9) rfl 2 (Nat.le_of_ble_eq_true rfl) q1174 rfl rfl rfl rfl (Nat.le_of_ble_eq_true rfl) (hNew _ hrH) dJ26_divideMagnitude_99 (fun H_568 hr5_566 hs_567 => ?_)
      have hz_569 := hz_558.same hs_567 (Ne.symm hne_r_a)
      have hz_570 := hz_559.same hs_567 hne_v_r
      have hz_571 := hz_560.same hs_567 (Ne.symm hne_r_b)
      have hz_572 := hz_561.same hs_567 hne_e_r
      have hz_573 := hz_562.same hs_567 (Ne.symm hne_r_c)
      have hz_574 := hz_563.same hs_567 hne_qv_r
      have hz_575 := hz_564.same hs_567 hne_d_r
      have hw5_576 := hw5_565.same hs_567 (Ne.symm hne_r_w)
      have hr5_566 : hp κ H_568 r (.inr (9, [.ref w, vi (n : Int), vi 1])) := hr5_566
      refine v_aload_n E 5 rfl dJ26_divideMagnitude_102 ?_
      refine v_getf E in_J26 hz_569 (ci := 9) rfl 0 (by decide) q1172 rfl (v := .ref v) rfl dJ26_divideMagnitude_103 ?_
      refine v_aload_n E 5 rfl dJ26_divideMagnitude_106 ?_
      refine v_getf E in_J26 hz_569 (ci := 9) rfl 2 (by decide) q1174 rfl (v := vi (o : Int)) rfl dJ26_divideMagnitude_107 ?_
      refine v_aload_n E 5 rfl dJ26_divideMagnitude_110 ?_
      refine v_getf E in_J26 hz_569 (ci := 9) rfl 1 (by decide) q1173 rfl (v := vi (n : Int)) rfl dJ26_divideMagnitude_111 ?_
      refine v_aload E 1 rfl dJ26_divideMagnitude_114 ?_
      refine v_iconst E dJ26_divideMagnitude_116 ?_
      refine v_iload E 4 rfl dJ26_divideMagnitude_117 ?_
      refine v_callS E (As := [.ref v, vi (o : Int), vi (n : Int), .ref w, vi 1, vi (s : Int)]) (h_cas κ H_568 (o := o) (p := 1) (n := n) (s := s) (X := (x : Int)) (by omega) (by omega) (by omega) (by omega) (by omega) (by omega) (by omega) (Ne.symm hne_w_v) hW hz_570 hw5_576) (lw_S q1288 q1289 q101 q1290) 6 (by decide +kernel) rfl (by decide) (by decide) (cb' := ((((((((4 - 0) - 1) - 0) - 0) - 1) - 1) - 0) - 0)) (sb' := (((((((((2 * n + 7) - 0) - m) - 0) - 0) - (n + 1)) - 3) - 0) - 0)) (by omega) (by omega) rfl (rest := []) (Nat.le_of_ble_eq_true rfl) (fun q9 h => hNew q9 (by rw [show q9 = w from h]; exact hwH)) dJ26_divideMagnitude_119 (fun v_577 H_578 hpost_579 hz_580 hk_581 => ?_)
      clear hz_580
      obtain ⟨rfl, g_582, hg_582, hg_582w, hg_582o⟩ := hpost_579
      have hz_583 := hz_569.kept (hk_581 _ hz_569.lt (fun h => (Ne.symm hne_w_a) h))
      have hz_584 := hz_570.kept (hk_581 _ hz_570.lt (fun h => (Ne.symm hne_w_v) h))
      have hz_585 := hz_571.kept (hk_581 _ hz_571.lt (fun h => (Ne.symm hne_w_b) h))
      have hz_586 := hz_572.kept (hk_581 _ hz_572.lt (fun h => (Ne.symm hne_w_e) h))
      have hz_587 := hz_573.kept (hk_581 _ hz_573.lt (fun h => (Ne.symm hne_w_c) h))
      have hz_588 := hz_574.kept (hk_581 _ hz_574.lt (fun h => (Ne.symm hne_w_qv) h))
      have hz_589 := hz_575.kept (hk_581 _ hz_575.lt (fun h => (Ne.symm hne_w_d) h))
      have hz_590 := hr5_566.kept (hk_581 _ hr5_566.lt (fun h => (Ne.symm hne_w_r) h))
      refine V.eq (st' := []) rfl ?_
      refine v_goto E (tgt := 323) dJ26_divideMagnitude_122 (by decide) ?_
      refine V.sub [5, 7, 8, 4, 3, 2, 0] (lv' := [(0, .ref a), (2, .ref c), (3, vi z3), (4, vi (s : Int)), (5, vi (m : Int)), (6, .ref d), (7, .ref r)]) rfl ?_
      refine V.less (cb' := 1) (sb' := n + 2 - m) (by omega) (by omega) ?_
      exact join_323 H_578 r w d n (n + 1) g_582 (Or.inl rfl) (dm_fit (Int.natCast_nonneg x) hn.2.1 (by omega) hla (by omega)) ⟨by omega, by omega⟩ hg_582w hrH hwH hdH hne_w_d hz_583 hz_584 hz_585 hz_586 hz_587 hz_588 hz_590 hg_582 hz_589
