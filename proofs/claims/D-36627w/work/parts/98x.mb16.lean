/-! DIVISION: the three ways of divideKnuth -/
theorem MI.pos {κ : zK} {H : Heap} {a v o n cap : Nat} {f : Nat → Int} {X : Int} (h : MI κ H a v o n cap f X) (hn : isInts X n) (hX : 0 < X) : 1 ≤ cap := by
  obtain ⟨_, _, hc, _⟩ := h
  have := ints_pos (Int.le_of_lt hX) hn
  omega
theorem ints_0 : isInts (0 : Int) 0 := ⟨by decide, by decide, fun h => absurd h (by decide)⟩
theorem dk_one {κ : zK} {H : Heap} {c qv qc : Nat} {fq : Nat → Int} (hc : hp κ H c (.inr (9, [.ref qv, vi 1, vi 0]))) (hq : hp κ H qv (eI κ qc (va_up fq 0 1))) (h1 : 1 ≤ qc) (h2 : qc ≤ 1000) : MI κ H c qv 0 1 qc (va_up fq 0 1) ((1 : Nat) : Int) ∧ isInts (((1 : Nat)) : Int) 1 :=
  ⟨⟨hc, hq, h1, h2, fun k hk => by rw [show k = 0 by omega]; show va_up fq 0 1 0 = _; rw [va_up_self]; rfl, by decide, by decide⟩, ints_1 (by decide) (by decide)⟩
theorem dk_y {g : Nat → Int} {p m y : Nat} (h1 : m = 1) (hm : isInts (y : Int) m) (hW : ∀ k, k < m → g (p + k) = bM (y : Int) m k) : g p = (y : Int) ∧ y < 4294967296 := by
  subst h1
  have h2 := hm.2.1
  have h3 : (y : Int) < 4294967296 := h2
  refine ⟨?_, by omega⟩
  have h4 := hW 0 (by decide)
  rw [Nat.add_zero] at h4
  rw [h4]
  show dg (y : Int) (1 - 1 - 0) = _
  rw [show 1 - 1 - 0 = 0 from rfl, dg_0]
  omega
theorem dk_min {i j t i2 j2 : Nat} (h : t = min i j) (e1 : t + i2 = i) (e2 : t + j2 = j) : min i2 j2 < 96 := by omega
theorem dk_sh {x y i j t : Nat} (hi : isZeros (x : Int) i) (hj : isZeros (y : Int) j) (hti : t ≤ i) (htj : t ≤ j) : x / 2 ^ t / (y / 2 ^ t) = x / y ∧ (x / 2 ^ t) % (y / 2 ^ t) * 2 ^ t = x % y := by
  have h1 := (zeros_split hi).1
  have h2 := (zeros_split hj).1
  have d1 : 2 ^ t ∣ x := by rw [h1]; exact Nat.dvd_trans (Nat.pow_dvd_pow 2 hti) (Nat.dvd_mul_right _ _)
  have d2 : 2 ^ t ∣ y := by rw [h2]; exact Nat.dvd_trans (Nat.pow_dvd_pow 2 htj) (Nat.dvd_mul_right _ _)
  have hp : 0 < 2 ^ t := Nat.pow_pos (by decide)
  obtain ⟨u, rfl⟩ := d1
  obtain ⟨v, rfl⟩ := d2
  rw [Nat.mul_div_cancel_left _ hp, Nat.mul_div_cancel_left _ hp, Nat.mul_div_mul_left _ _ hp, Nat.mul_mod_mul_left, Nat.mul_comm]
  exact ⟨rfl, rfl⟩
theorem zeros_one {x i t : Nat} (hi : isZeros (x : Int) i) (ht : t ≤ i) {k : Nat} (hk : isZeros ((x / 2 ^ t : Nat) : Int) k) : t + k = i := by
  have h0 := zeros_split hk
  have h1 := zeros_split hi
  have d1 : 2 ^ t ∣ x := by rw [h1.1]; exact Nat.dvd_trans (Nat.pow_dvd_pow 2 ht) (Nat.dvd_mul_right _ _)
  have e : x / 2 ^ t / 2 ^ k = x / 2 ^ (t + k) := by rw [Nat.div_div_eq_div_mul, ← Nat.pow_add]
  have e2 : x = 2 ^ (t + k) * (x / 2 ^ (t + k)) := by
    have h3 := h0.1
    rw [e] at h3
    have h4 := Nat.mul_div_cancel' d1
    rw [h3, ← Nat.mul_assoc, ← Nat.pow_add] at h4
    exact h4.symm
  rw [e] at h0
  rcases Nat.lt_trichotomy (t + k) i with h | h | h
  · exfalso
    have h5 : x / 2 ^ (t + k) = 2 ^ (i - (t + k)) * (x / 2 ^ i) := by
      conv => lhs; rw [h1.1]
      rw [show i = t + k + (i - (t + k)) by omega, Nat.pow_add, Nat.mul_assoc, Nat.mul_div_cancel_left _ (Nat.pow_pos (by decide)), ← show i = t + k + (i - (t + k)) by omega]
    have h6 := h0.2
    rw [h5, show i - (t + k) = (i - (t + k) - 1) + 1 by omega, Nat.pow_succ, Nat.mul_comm (2 ^ _) 2, Nat.mul_assoc, Nat.mul_mod_right] at h6
    cases h6
  · exact h
  · exfalso
    have h5 : x / 2 ^ i = 2 ^ (t + k - i) * (x / 2 ^ (t + k)) := by
      conv => lhs; rw [e2]
      rw [show t + k = i + (t + k - i) by omega, Nat.pow_add, Nat.mul_assoc, Nat.mul_div_cancel_left _ (Nat.pow_pos (by decide)), ← show t + k = i + (t + k - i) by omega]
    have h6 := h1.2
    rw [h5, show t + k - i = (t + k - i - 1) + 1 by omega, Nat.pow_succ, Nat.mul_comm (2 ^ _) 2, Nat.mul_assoc, Nat.mul_mod_right] at h6
    cases h6
set_option maxHeartbeats 1500000 in
set_option maxRecDepth 100000 in
/-- division, without the many zeros in common -/
theorem h_dk0 (κ : zK) (H0 : Heap) {a v o n cap : Nat} {f : Nat → Int} {x : Nat} {b e p m cbp : Nat} {g : Nat → Int} {y : Nat} {c qv oq nq qc : Nat} {fq : Nat → Int} {Q : Int} {z3 : Int} (hD : zDist κ) (hz3 : z3 = 0 ∨ z3 = 1) (hy : 0 < y) (hn : isInts (x : Int) n) (hm : isInts (y : Int) m) (hne_a_c : a ≠ c) (hne_b_c : b ≠ c) (hne_v_qv : v ≠ qv) (hne_e_qv : e ≠ qv) (hqc : 1 ≤ qc) (hM : MI κ H0 a v o n cap f (x : Int)) (hM2 : MI κ H0 b e p m cbp g (y : Int)) (hM3 : MI κ H0 c qv oq nq qc fq Q) (hEz : ∀ i j, isZeros (x : Int) i → isZeros (y : Int) j → min i j < 96)  : Mt κ yJ26_divideKnuth cJ26_divideKnuth 8 (some (.object "java/math/MutableBigInteger")) 4 143 4 (2 * n + 7) H0 [.ref a, .ref b, .ref c, vi z3] (fun q => q = c ∨ q = qv) (fun v9 H1 => ∃ (v2 o2 n2 cap2 : Nat) (f2 : Nat → Int), MI κ H1 c v2 o2 n2 cap2 f2 ((x / y : Nat) : Int) ∧ isInts ((x / y : Nat) : Int) n2 ∧ 1 ≤ cap2 ∧ (v2 = qv ∨ H0.size ≤ v2) ∧ ∃ r : Nat, (z3 = 0 ∧ v9 = some .null ∨ v9 = some (.ref r)) ∧ (z3 = 1 → v9 = some (.ref r) ∧ H0.size ≤ r ∧ ∃ (v3 o3 n3 cap3 : Nat) (f3 : Nat → Int), H0.size ≤ v3 ∧ v3 ≠ v2 ∧ MI κ H1 r v3 o3 n3 cap3 f3 ((x % y : Nat) : Int) ∧ isInts ((x % y : Nat) : Int) n3)) := by
  refine Mt.of (by decide) (Nat.le_of_ble_eq_true rfl) ?_
  intro z E hE hH0 hA0 hL hini
  have hAll : ∀ q, (fun q => q = c ∨ q = qv) q → zA z.A z.H0 q := fun q h => Or.inl (by rw [hA0]; exact h)
  have hNew : ∀ q, H0.size ≤ q → zA z.A z.H0 q := fun q h => Or.inr (by rw [hH0]; exact h)
  have E : zOK z cJ26_divideKnuth RJ26 κ 4 143 (some (.object "java/math/MutableBigInteger")) := E
  refine V.eqL (lv' := [(0, .ref a), (1, .ref b), (2, .ref c), (3, vi z3)]) rfl ?_
  obtain ⟨hoa, hv, hcap, hc2, hW, hX0, hX1⟩ := hM
  obtain ⟨hob, he, hcap2, hc22, hW2, hX02, hX12⟩ := hM2
  obtain ⟨hoc, hqv, hcap3, hc23, hW3, hX03, hX13⟩ := hM3
  have hne_v_a : v ≠ a := Ne.symm (hp.ka hD hoa hv (by decide) (by decide))
  have hne_v_b : v ≠ b := Ne.symm (hp.ka hD hob hv (by decide) (by decide))
  have hne_v_c : v ≠ c := Ne.symm (hp.ka hD hoc hv (by decide) (by decide))
  have hne_e_a : e ≠ a := Ne.symm (hp.ka hD hoa he (by decide) (by decide))
  have hne_e_b : e ≠ b := Ne.symm (hp.ka hD hob he (by decide) (by decide))
  have hne_e_c : e ≠ c := Ne.symm (hp.ka hD hoc he (by decide) (by decide))
  have hne_qv_a : qv ≠ a := Ne.symm (hp.ka hD hoa hqv (by decide) (by decide))
  have hne_qv_b : qv ≠ b := Ne.symm (hp.ka hD hob hqv (by decide) (by decide))
  have hne_qv_c : qv ≠ c := Ne.symm (hp.ka hD hoc hqv (by decide) (by decide))
  have h48 := hn.1
  have h48m := hm.1
  have hrz : rI z3 := by rcases hz3 with h | h <;> rw [h] <;> exact ⟨by decide, by decide⟩
  have hm0 : 0 < m := ints_pos' hy hm
  refine v_aload_n E 1 rfl dJ26_divideKnuth_0 ?_
  refine v_getf E in_J26 hob (ci := 9) rfl 1 (by decide) q1173 rfl (v := vi (m : Int)) rfl dJ26_divideKnuth_1 ?_
  refine v_if_ne E (tgt := 17) dJ26_divideKnuth_4 (by decide) ⟨by omega, by omega⟩ (fun c_4 => ?_) (fun c_4 => absurd c_4 (by omega))
  refine v_aload_n E 0 rfl dJ26_divideKnuth_17 ?_
  refine v_getf E in_J26 hoa (ci := 9) rfl 1 (by decide) q1173 rfl (v := vi (n : Int)) rfl dJ26_divideKnuth_18 ?_
  refine v_if_ne E (tgt := 50) dJ26_divideKnuth_21 (by decide) ⟨by omega, by omega⟩ (fun c_21 => ?_) (fun c_21 => ?_)
  · refine v_aload_n E 0 rfl dJ26_divideKnuth_50 ?_
    refine v_aload_n E 1 rfl dJ26_divideKnuth_51 ?_
    refine v_callV E (As := [.ref b]) (b := a) (ci := 9) (C := RJ26) (T := TJ26) (N := 3) hoa rfl (h_cmp κ H0 (X := (x : Int)) (Y := (y : Int)) hD hn hm ⟨hoa, hv, hcap, hc2, hW, hX0, hX1⟩ ⟨hob, he, hcap2, hc22, hW2, hX02, hX12⟩) (lw_V q1236 q1237 q1238 q101 q1239) 1 (by decide +kernel) rfl (by decide) (by decide) (cb' := (4 - 0)) (sb' := ((2 * n + 7) - 0)) (by omega) (by omega) rfl (rest := []) (Nat.le_of_ble_eq_true rfl) (fun q h => h.elim) dJ26_divideKnuth_52 (fun v_1 H_2 hpost_3 hz_4 hk_5 => ?_)
    clear hz_4
    obtain ⟨d0, rfl, hd0⟩ := hpost_3
    have hz_6 := hoa.kept (hk_5 _ hoa.lt (fun h => h))
    have hz_7 := hv.kept (hk_5 _ hv.lt (fun h => h))
    have hz_8 := hob.kept (hk_5 _ hob.lt (fun h => h))
    have hz_9 := he.kept (hk_5 _ he.lt (fun h => h))
    have hz_10 := hoc.kept (hk_5 _ hoc.lt (fun h => h))
    have hz_11 := hqv.kept (hk_5 _ hqv.lt (fun h => h))
    have hrd : rI d0 := ⟨by omega, by omega⟩
    refine V.eq (st' := [vi d0]) rfl ?_
    refine v_istore E dJ26_divideKnuth_55 (zlt hL rfl) (lv' := [(4, vi d0), (0, .ref a), (1, .ref b), (2, .ref c), (3, vi z3)]) rfl ?_
    refine v_iload E 0 rfl dJ26_divideKnuth_57 ?_
    refine v_if_ge E (tgt := 89) dJ26_divideKnuth_59 (by decide) hrd (fun c_59 => ?_) (fun c_59 => ?_)
    · refine v_iload E 0 rfl dJ26_divideKnuth_89 ?_
      refine v_if_ne E (tgt := 127) dJ26_divideKnuth_91 (by decide) hrd (fun c_91 => ?_) (fun c_91 => ?_)
      · refine v_aload_n E 3 rfl dJ26_divideKnuth_127 ?_
        refine v_callV E (As := []) (b := c) (ci := 9) (C := RJ26) (T := TJ26) (N := 3) hz_10 rfl (h_clear κ H_2 hD ⟨hz_10, hz_11, hcap3, hc23, hW3, hX03, hX13⟩) (lw_V q1264 q1265 q1266 q101 q1267) 0 (by decide +kernel) rfl (by decide) (by decide) (cb' := ((4 - 0) - 0)) (sb' := (((2 * n + 7) - 0) - 0)) (by omega) (by omega) rfl (rest := []) (Nat.le_of_ble_eq_true rfl) (fun q h => hAll q h) dJ26_divideKnuth_128 (fun v_12 H_13 hpost_14 hz_15 hk_16 => ?_)
        clear hz_15
        obtain ⟨rfl, hMc⟩ := hpost_14
        obtain ⟨hoc9, hq9, -⟩ := hMc
        have hz_17 := hz_6.kept (hk_16 _ hz_6.lt (fun h => h.elim (fun h => hne_a_c h) (fun h => (Ne.symm hne_qv_a) h)))
        have hz_18 := hz_7.kept (hk_16 _ hz_7.lt (fun h => h.elim (fun h => hne_v_c h) (fun h => hne_v_qv h)))
        have hz_19 := hz_8.kept (hk_16 _ hz_8.lt (fun h => h.elim (fun h => hne_b_c h) (fun h => (Ne.symm hne_qv_b) h)))
        have hz_20 := hz_9.kept (hk_16 _ hz_9.lt (fun h => h.elim (fun h => hne_e_c h) (fun h => hne_e_qv h)))
        change hp κ H_13 c (.inr (9, [.ref qv, vi 0, vi 0])) at hoc9
        refine V.eq (st' := []) rfl ?_
        refine v_aload_n E 2 rfl dJ26_divideKnuth_131 ?_
        refine v_getf E in_J26 hz_19 (ci := 9) rfl 1 (by decide) q1173 rfl (v := vi (m : Int)) rfl dJ26_divideKnuth_132 ?_
        refine v_iconst E dJ26_divideKnuth_135 ?_
        refine v_icmp_ne E (tgt := 184) dJ26_divideKnuth_136 (by decide) ⟨by omega, by omega⟩ ⟨by omega, by omega⟩ (fun c_136 => ?_) (fun c_136 => ?_)
        · refine v_aload_n E 1 rfl dJ26_divideKnuth_184 ?_
          refine v_getf E in_J26 hz_17 (ci := 9) rfl 1 (by decide) q1173 rfl (v := vi (n : Int)) rfl dJ26_divideKnuth_185 ?_
          refine v_bipush E ⟨by decide, by decide⟩ dJ26_divideKnuth_188 ?_
          refine v_icmp_lt E (tgt := 264) dJ26_divideKnuth_190 (by decide) ⟨by omega, by omega⟩ ⟨by omega, by omega⟩ (fun c_190 => ?_) (fun c_190 => ?_)
          · refine v_aload_n E 1 rfl dJ26_divideKnuth_264 ?_
            refine v_aload_n E 2 rfl dJ26_divideKnuth_265 ?_
            refine v_aload_n E 3 rfl dJ26_divideKnuth_266 ?_
            refine v_iload_n E 4 rfl dJ26_divideKnuth_267 ?_
            refine V.frame (fun hfz_fr_21 hfk_fr_21 => ?_)
            rw [hH0] at hfz_fr_21 hfk_fr_21
            rw [hA0] at hfk_fr_21
            have hyx9 : y < x := by omega
            refine v_callV E (As := [.ref b, .ref c, vi z3]) (b := a) (ci := 9) (C := RJ26) (T := TJ26) (N := 3) hz_17 rfl (h_dm κ H_13 hD hz3 (by omega) (by omega) hn hm hne_a_c hne_b_c hne_v_qv hne_e_qv ⟨hqc, hc23⟩ hoc9 hq9 ⟨hz_17, hz_18, hcap, hc2, hW, hX0, hX1⟩ ⟨hz_19, hz_20, hcap2, hc22, hW2, hX02, hX12⟩) (lw_V q1284 q1286 qs24 q101 q1287) 3 (by decide +kernel) rfl (by decide) (by decide) (cb' := 0) (sb' := 0) (by omega) (by omega) rfl (rest := []) (Nat.le_of_ble_eq_true rfl) (fun q h => hAll q h) dJ26_divideKnuth_268 (fun v_22 H_23 hpost_24 hz_25 hk_26 => ?_)
            clear hz_25
            obtain ⟨v2, o2, n2, cap2, f2, hMq, hIq, hvq, hr9⟩ := hpost_24
            have hvq := hvq.imp id (fun h => Nat.le_trans hfz_fr_21 h)
            have hcq := hMq.pos hIq (Int.natCast_pos.mpr (Nat.div_pos (Nat.le_of_lt hyx9) hy))
            rcases hr9 with ⟨hz9, rfl⟩ | ⟨hz9, r, v3, o3, n3, cap3, f3, rfl, hrH, hvH, hv32, hM9, hI9⟩
            ·
              refine V.eq (st' := [.null]) rfl ?_
              refine v_aret E hE rfl (Or.inl ⟨_, rfl⟩) dJ26_divideKnuth_271 (Or.inl rfl) ?_
              exact ⟨v2, o2, n2, cap2, f2, hMq, hIq, hcq, hvq, 0, Or.inl ⟨by omega, rfl⟩, fun h => absurd h (by omega)⟩
            ·
              have hrH := Nat.le_trans hfz_fr_21 hrH
              have hvH := Nat.le_trans hfz_fr_21 hvH
              refine V.eq (st' := [.ref r]) rfl ?_
              refine v_aret E hE rfl (Or.inl ⟨_, rfl⟩) dJ26_divideKnuth_271 (Or.inr ⟨_, rfl⟩) ?_
              exact ⟨v2, o2, n2, cap2, f2, hMq, hIq, hcq, hvq, r, Or.inr rfl, fun _ => ⟨rfl, hrH, v3, o3, n3, cap3, f3, hvH, hv32, hM9, hI9⟩⟩
          · refine v_aload_n E 1 rfl dJ26_divideKnuth_193 ?_
            refine v_callV E (As := []) (b := a) (ci := 9) (C := RJ26) (T := TJ26) (N := 3) hz_17 rfl (h_lsb κ H_13 hD hn (by omega) ⟨hz_17, hz_18, hcap, hc2, hW, hX0, hX1⟩) (lw_V q1197 q1199 qs20 q101 q1200) 0 (by decide +kernel) rfl (by decide) (by decide) (cb' := (((4 - 0) - 0) - 0)) (sb' := ((((2 * n + 7) - 0) - 0) - 0)) (by omega) (by omega) rfl (rest := []) (Nat.le_of_ble_eq_true rfl) (fun q h => h.elim) dJ26_divideKnuth_194 (fun v_27 H_28 hpost_29 hz_30 hk_31 => ?_)
            clear hz_30
            obtain ⟨i, rfl, hi, hil⟩ := hpost_29
            have hz_32 := hz_17.kept (hk_31 _ hz_17.lt (fun h => h))
            have hz_33 := hz_18.kept (hk_31 _ hz_18.lt (fun h => h))
            have hz_34 := hz_19.kept (hk_31 _ hz_19.lt (fun h => h))
            have hz_35 := hz_20.kept (hk_31 _ hz_20.lt (fun h => h))
            have hz_36 := hoc9.kept (hk_31 _ hoc9.lt (fun h => h))
            have hz_37 := hq9.kept (hk_31 _ hq9.lt (fun h => h))
            refine V.eq (st' := [vi (i : Int)]) rfl ?_
            refine v_aload_n E 2 rfl dJ26_divideKnuth_197 ?_
            refine v_callV E (As := []) (b := b) (ci := 9) (C := RJ26) (T := TJ26) (N := 3) hz_34 rfl (h_lsb κ H_28 hD hm hm0 ⟨hz_34, hz_35, hcap2, hc22, hW2, hX02, hX12⟩) (lw_V q1197 q1199 qs20 q101 q1200) 0 (by decide +kernel) rfl (by decide) (by decide) (cb' := ((((4 - 0) - 0) - 0) - 0)) (sb' := (((((2 * n + 7) - 0) - 0) - 0) - 0)) (by omega) (by omega) rfl (rest := [vi (i : Int)]) (Nat.le_of_ble_eq_true rfl) (fun q h => h.elim) dJ26_divideKnuth_198 (fun v_38 H_39 hpost_40 hz_41 hk_42 => ?_)
            clear hz_41
            obtain ⟨j, rfl, hj, hjl⟩ := hpost_40
            have hz_43 := hz_32.kept (hk_42 _ hz_32.lt (fun h => h))
            have hz_44 := hz_33.kept (hk_42 _ hz_33.lt (fun h => h))
            have hz_45 := hz_34.kept (hk_42 _ hz_34.lt (fun h => h))
            have hz_46 := hz_35.kept (hk_42 _ hz_35.lt (fun h => h))
            have hz_47 := hz_36.kept (hk_42 _ hz_36.lt (fun h => h))
            have hz_48 := hz_37.kept (hk_42 _ hz_37.lt (fun h => h))
            refine V.eq (st' := [vi (j : Int), vi (i : Int)]) rfl ?_
            refine v_mmin E ⟨by omega, by omega⟩ ⟨by omega, by omega⟩ q1279 q267 q80 q268 (by decide) (Nat.le_of_ble_eq_true rfl) dJ26_divideKnuth_201 ?_
            obtain ⟨t, ht9⟩ : ∃ t, t = min i j := ⟨_, rfl⟩
            have hti : t ≤ i := by rw [ht9]; exact Nat.min_le_left _ _
            have htj : t ≤ j := by rw [ht9]; exact Nat.min_le_right _ _
            refine V.topi (x' := (t : Int)) (congrArg iZ (by omega)) ?_
            refine v_istore E dJ26_divideKnuth_204 (zlt hL rfl) (lv' := [(5, vi (t : Int)), (4, vi d0), (0, .ref a), (1, .ref b), (2, .ref c), (3, vi z3)]) rfl ?_
            refine v_iload E 0 rfl dJ26_divideKnuth_206 ?_
            refine v_bipush E ⟨by decide, by decide⟩ dJ26_divideKnuth_208 ?_
            refine v_icmp_lt E (tgt := 264) dJ26_divideKnuth_210 (by decide) ⟨by omega, by omega⟩ ⟨by omega, by omega⟩ (fun c_210 => ?_) (fun c_210 => absurd c_210 (by have := hEz i j hi hj; omega))
            refine v_aload_n E 2 rfl dJ26_divideKnuth_264 ?_
            refine v_aload_n E 3 rfl dJ26_divideKnuth_265 ?_
            refine v_aload_n E 4 rfl dJ26_divideKnuth_266 ?_
            refine v_iload_n E 5 rfl dJ26_divideKnuth_267 ?_
            refine V.frame (fun hfz_fr_49 hfk_fr_49 => ?_)
            rw [hH0] at hfz_fr_49 hfk_fr_49
            rw [hA0] at hfk_fr_49
            have hyx9 : y < x := by omega
            refine v_callV E (As := [.ref b, .ref c, vi z3]) (b := a) (ci := 9) (C := RJ26) (T := TJ26) (N := 3) hz_43 rfl (h_dm κ H_39 hD hz3 (by omega) (by omega) hn hm hne_a_c hne_b_c hne_v_qv hne_e_qv ⟨hqc, hc23⟩ hz_47 hz_48 ⟨hz_43, hz_44, hcap, hc2, hW, hX0, hX1⟩ ⟨hz_45, hz_46, hcap2, hc22, hW2, hX02, hX12⟩) (lw_V q1284 q1286 qs24 q101 q1287) 3 (by decide +kernel) rfl (by decide) (by decide) (cb' := 0) (sb' := 0) (by omega) (by omega) rfl (rest := []) (Nat.le_of_ble_eq_true rfl) (fun q h => hAll q h) dJ26_divideKnuth_268 (fun v_50 H_51 hpost_52 hz_53 hk_54 => ?_)
            clear hz_53
            obtain ⟨v2, o2, n2, cap2, f2, hMq, hIq, hvq, hr9⟩ := hpost_52
            have hvq := hvq.imp id (fun h => Nat.le_trans hfz_fr_49 h)
            have hcq := hMq.pos hIq (Int.natCast_pos.mpr (Nat.div_pos (Nat.le_of_lt hyx9) hy))
            rcases hr9 with ⟨hz9, rfl⟩ | ⟨hz9, r, v3, o3, n3, cap3, f3, rfl, hrH, hvH, hv32, hM9, hI9⟩
            ·
              refine V.eq (st' := [.null]) rfl ?_
              refine v_aret E hE rfl (Or.inl ⟨_, rfl⟩) dJ26_divideKnuth_271 (Or.inl rfl) ?_
              exact ⟨v2, o2, n2, cap2, f2, hMq, hIq, hcq, hvq, 0, Or.inl ⟨by omega, rfl⟩, fun h => absurd h (by omega)⟩
            ·
              have hrH := Nat.le_trans hfz_fr_49 hrH
              have hvH := Nat.le_trans hfz_fr_49 hvH
              refine V.eq (st' := [.ref r]) rfl ?_
              refine v_aret E hE rfl (Or.inl ⟨_, rfl⟩) dJ26_divideKnuth_271 (Or.inr ⟨_, rfl⟩) ?_
              exact ⟨v2, o2, n2, cap2, f2, hMq, hIq, hcq, hvq, r, Or.inr rfl, fun _ => ⟨rfl, hrH, v3, o3, n3, cap3, f3, hvH, hv32, hM9, hI9⟩⟩
        · refine v_aload_n E 1 rfl dJ26_divideKnuth_139 ?_
          refine v_aload_n E 2 rfl dJ26_divideKnuth_140 ?_
          refine v_getf E in_J26 hz_19 (ci := 9) rfl 0 (by decide) q1172 rfl (v := .ref e) rfl dJ26_divideKnuth_141 ?_
          refine v_aload_n E 2 rfl dJ26_divideKnuth_144 ?_
          refine v_getf E in_J26 hz_19 (ci := 9) rfl 2 (by decide) q1174 rfl (v := vi (p : Int)) rfl dJ26_divideKnuth_145 ?_
          refine v_iald E dJ26_divideKnuth_148 hz_20 p rfl (by omega) (by omega) ?_
          have hy32 := dk_y (g := g) (p := p) (by omega) hm hW2
          refine V.topi (x' := (y : Int)) (congrArg iZ hy32.1) ?_
          refine v_aload_n E 3 rfl dJ26_divideKnuth_149 ?_
          refine V.frame (fun hfz_fr_55 hfk_fr_55 => ?_)
          rw [hH0] at hfz_fr_55 hfk_fr_55
          rw [hA0] at hfk_fr_55
          refine v_callV E (As := [vi (y : Int), .ref c]) (b := a) (ci := 9) (C := RJ26) (T := TJ26) (N := 3) hz_17 rfl (h_dow κ H_13 (d := y) hD ⟨hy, hy32.2⟩ (by omega) hn hne_a_c hne_v_qv ⟨hqc, hc23⟩ hoc9 hq9 ⟨hz_17, hz_18, hcap, hc2, hW, hX0, hX1⟩) (lw_V q1268 q1269 q1270 q101 q1271) 2 (by decide +kernel) rfl (by decide) (by decide) (cb' := (((4 - 0) - 0) - 1)) (sb' := ((((2 * n + 7) - 0) - 0) - n)) (by omega) (by omega) rfl (rest := []) (Nat.le_of_ble_eq_true rfl) (fun q h => hAll q h) dJ26_divideKnuth_150 (fun v_56 H_57 hpost_58 hz_59 hk_60 => ?_)
          clear hz_59
          obtain ⟨rfl, v2, o2, n2, cap2, f2, hMq, hIq, hvq⟩ := hpost_58
          have hvq := hvq.imp id (fun h => Nat.le_trans hfz_fr_55 h)
          have hrm := Nat.mod_lt x hy
          refine V.eq (st' := [vi ((x % y : Nat) : Int)]) rfl ?_
          refine v_istore E dJ26_divideKnuth_153 (zlt hL rfl) (lv' := [(5, vi ((x % y : Nat) : Int)), (4, vi d0), (0, .ref a), (1, .ref b), (2, .ref c), (3, vi z3)]) rfl ?_
          refine v_iload_n E 5 rfl dJ26_divideKnuth_155 ?_
          refine v_if_eq E (tgt := 182) dJ26_divideKnuth_156 (by decide) hrz (fun c_156 => ?_) (fun c_156 => ?_)
          · refine v_null E dJ26_divideKnuth_182 ?_
            refine v_aret E hE rfl (Or.inl ⟨_, rfl⟩) dJ26_divideKnuth_183 (Or.inl rfl) ?_
            have hcq := hMq.pos hIq (by have := Nat.div_pos (show y ≤ x by omega) hy; omega)
            exact ⟨v2, o2, n2, cap2, f2, hMq, hIq, hcq, hvq, 0, Or.inl ⟨by omega, rfl⟩, fun h => absurd h (by omega)⟩
          · refine v_iload E 0 rfl dJ26_divideKnuth_159 ?_
            refine V.topi (x' := (((x % y : Nat) : Int) + 2147483648) % 4294967296 - 2147483648) (iZ_sg _) ?_
            refine v_if_ne E (tgt := 172) dJ26_divideKnuth_161 (by decide) ⟨by omega, by omega⟩ (fun c_161 => ?_) (fun c_161 => ?_)
            · refine V.frame (fun hfz_fr_61 hfk_fr_61 => ?_)
              rw [hH0] at hfz_fr_61 hfk_fr_61
              rw [hA0] at hfk_fr_61
              refine v_new E in_J26 tyJ26 tyJ26_ok q1186 q1166 q101 (ci := 9) rfl (fs := [.null, vi 0, vi 0]) (fun j hj => by rcases (show j = 0 ∨ j = 1 ∨ j = 2 by omega) with rfl | rfl | rfl <;> rfl) (cb' := ((((4 - 0) - 0) - 1) - 1)) (sb' := (((((2 * n + 7) - 0) - 0) - n) - 3)) (by omega) (by omega) dJ26_divideKnuth_172 (fun q_62 H_63 hq_66 ho_64 hg_65 => ?_)
              have hMq8 := hMq.kept (hg_65.2 _ hMq.lt.1) (hg_65.2 _ hMq.lt.2)
              refine v_dup E rfl dJ26_divideKnuth_175 ?_
              refine v_iload E 0 rfl dJ26_divideKnuth_176 ?_
              refine V.frame (fun hfz_fr_67 hfk_fr_67 => ?_)
              rw [hH0] at hfz_fr_67 hfk_fr_67
              rw [hA0] at hfk_fr_67
              refine v_callI E (As := [vi ((x % y : Nat) : Int)]) (b := q_62) (h_i4 κ H_63 (d := x % y) (Nat.lt_trans (Nat.mod_lt x hy) hy32.2) ho_64) q1278 q101 q1276 q1277 rfl 1 (by decide +kernel) rfl (by decide) (by decide) (cb' := (((((4 - 0) - 0) - 1) - 1) - 1)) (sb' := ((((((2 * n + 7) - 0) - 0) - n) - 3) - 1)) (by omega) (by omega) rfl (rest := [.ref q_62]) (Nat.le_of_ble_eq_true rfl) (fun q9 h => hNew q9 (by rw [show q9 = q_62 from h]; omega)) dJ26_divideKnuth_178 (fun v_68 H_69 hpost_70 hz_71 hk_72 => ?_)
              clear hz_71
              obtain ⟨rfl, vr, fr9, hvr, hMr⟩ := hpost_70
              have hMq9 := hMq8.kept (hk_72 _ hMq8.lt.1 (fun h => Nat.ne_of_lt (Nat.lt_of_lt_of_le hMq.lt.1 (Nat.le_of_eq hq_66.symm)) h)) (hk_72 _ hMq8.lt.2 (fun h => Nat.ne_of_lt (Nat.lt_of_lt_of_le hMq.lt.2 (Nat.le_of_eq hq_66.symm)) h))
              refine V.eq (st' := [.ref q_62]) rfl ?_
              refine v_aret E hE rfl (Or.inl ⟨_, rfl⟩) dJ26_divideKnuth_181 (Or.inr ⟨_, rfl⟩) ?_
              
              have hcq := hMq9.pos hIq (by have := Nat.div_pos (show y ≤ x by omega) hy; omega)
              exact ⟨v2, o2, n2, cap2, f2, hMq9, hIq, hcq, hvq, q_62, Or.inr rfl, fun _ => ⟨rfl, (by omega), vr, 0, 1, 1, _, Nat.le_trans hfz_fr_67 hvr, Nat.ne_of_gt (Nat.lt_of_lt_of_le hMq8.lt.2 hvr), hMr, (ints_1 (by omega) (by omega))⟩⟩
            · refine V.frame (fun hfz_fr_73 hfk_fr_73 => ?_)
              rw [hH0] at hfz_fr_73 hfk_fr_73
              rw [hA0] at hfk_fr_73
              refine v_new E in_J26 tyJ26 tyJ26_ok q1186 q1166 q101 (ci := 9) rfl (fs := [.null, vi 0, vi 0]) (fun j hj => by rcases (show j = 0 ∨ j = 1 ∨ j = 2 by omega) with rfl | rfl | rfl <;> rfl) (cb' := ((((4 - 0) - 0) - 1) - 1)) (sb' := (((((2 * n + 7) - 0) - 0) - n) - 3)) (by omega) (by omega) dJ26_divideKnuth_164 (fun q_74 H_75 hq_78 ho_76 hg_77 => ?_)
              have hMq8 := hMq.kept (hg_77.2 _ hMq.lt.1) (hg_77.2 _ hMq.lt.2)
              refine v_dup E rfl dJ26_divideKnuth_167 ?_
              refine V.frame (fun hfz_fr_79 hfk_fr_79 => ?_)
              rw [hH0] at hfz_fr_79 hfk_fr_79
              rw [hA0] at hfk_fr_79
              refine v_callI E (As := []) (b := q_74) (h_i2 κ H_75 ho_76) q1189 q101 q1187 q1188 rfl 0 (by decide +kernel) rfl (by decide) (by decide) (cb' := (((((4 - 0) - 0) - 1) - 1) - 1)) (sb' := ((((((2 * n + 7) - 0) - 0) - n) - 3) - 1)) (by omega) (by omega) rfl (rest := [.ref q_74]) (Nat.le_of_ble_eq_true rfl) (fun q9 h => hNew q9 (by rw [show q9 = q_74 from h]; omega)) dJ26_divideKnuth_168 (fun v_80 H_81 hpost_82 hz_83 hk_84 => ?_)
              clear hz_83
              obtain ⟨rfl, vr, hvr, hMr⟩ := hpost_82
              have hMq9 := hMq8.kept (hk_84 _ hMq8.lt.1 (fun h => Nat.ne_of_lt (Nat.lt_of_lt_of_le hMq.lt.1 (Nat.le_of_eq hq_78.symm)) h)) (hk_84 _ hMq8.lt.2 (fun h => Nat.ne_of_lt (Nat.lt_of_lt_of_le hMq.lt.2 (Nat.le_of_eq hq_78.symm)) h))
              refine V.eq (st' := [.ref q_74]) rfl ?_
              refine v_aret E hE rfl (Or.inl ⟨_, rfl⟩) dJ26_divideKnuth_171 (Or.inr ⟨_, rfl⟩) ?_
              
              have hcq := hMq9.pos hIq (by have := Nat.div_pos (show y ≤ x by omega) hy; omega)
              have er : x % y = 0 := by omega
              exact ⟨v2, o2, n2, cap2, f2, hMq9, hIq, hcq, hvq, q_74, Or.inr rfl, fun _ => ⟨rfl, (by omega), vr, 0, 0, 1, _, Nat.le_trans hfz_fr_79 hvr, Nat.ne_of_gt (Nat.lt_of_lt_of_le hMq8.lt.2 hvr), (by rw [er]; exact hMr), (by rw [er]; exact ints_0)⟩⟩
      · refine v_aload_n E 3 rfl dJ26_divideKnuth_94 ?_
        refine v_getf E in_J26 hz_10 (ci := 9) rfl 0 (by decide) q1172 rfl (v := .ref qv) rfl dJ26_divideKnuth_95 ?_
        refine v_iconst E dJ26_divideKnuth_98 ?_
        refine v_aload_n E 3 rfl dJ26_divideKnuth_99 ?_
        refine v_iconst E dJ26_divideKnuth_100 ?_
        refine v_dup_x1 E rfl rfl dJ26_divideKnuth_101 ?_
        refine v_putf E in_J26 tyJ26 tyJ26_ok nmJ26 hz_10 (ci := 9) rfl 1 (Nat.le_of_ble_eq_true rfl) q1173 rfl rfl rfl rfl (Nat.le_of_ble_eq_true rfl) (hAll _ (Or.inl rfl)) dJ26_divideKnuth_102 (fun H_87 hz_85 hs_86 => ?_)
        have hz_88 := hz_6.same hs_86 hne_a_c
        have hz_89 := hz_7.same hs_86 hne_v_c
        have hz_90 := hz_8.same hs_86 hne_b_c
        have hz_91 := hz_9.same hs_86 hne_e_c
        have hz_92 := hz_11.same hs_86 hne_qv_c
        have hz_85 : hp κ H_87 c (.inr (9, [.ref qv, vi 1, vi (oq : Int)])) := hz_85
        refine v_iast E dJ26_divideKnuth_105 hz_92 0 rfl (by omega) (by omega) (hAll _ (Or.inr rfl)) (fun H_95 hz_93 hs_94 => ?_)
        have hz_96 := hz_88.same hs_94 (Ne.symm hne_qv_a)
        have hz_97 := hz_89.same hs_94 hne_v_qv
        have hz_98 := hz_90.same hs_94 (Ne.symm hne_qv_b)
        have hz_99 := hz_91.same hs_94 hne_e_qv
        have hz_100 := hz_85.same hs_94 (Ne.symm hne_qv_c)
        refine v_aload_n E 3 rfl dJ26_divideKnuth_106 ?_
        refine v_iconst E dJ26_divideKnuth_107 ?_
        refine v_putf E in_J26 tyJ26 tyJ26_ok nmJ26 hz_100 (ci := 9) rfl 2 (Nat.le_of_ble_eq_true rfl) q1174 rfl rfl rfl rfl (Nat.le_of_ble_eq_true rfl) (hAll _ (Or.inl rfl)) dJ26_divideKnuth_108 (fun H_103 hz_101 hs_102 => ?_)
        have hz_104 := hz_96.same hs_102 hne_a_c
        have hz_105 := hz_97.same hs_102 hne_v_c
        have hz_106 := hz_98.same hs_102 hne_b_c
        have hz_107 := hz_99.same hs_102 hne_e_c
        have hz_108 := hz_93.same hs_102 hne_qv_c
        have hz_101 : hp κ H_103 c (.inr (9, [.ref qv, vi 1, vi 0])) := hz_101
        refine v_iload_n E 4 rfl dJ26_divideKnuth_111 ?_
        refine v_if_eq E (tgt := 125) dJ26_divideKnuth_112 (by decide) hrz (fun c_112 => ?_) (fun c_112 => ?_)
        · refine v_null E dJ26_divideKnuth_125 ?_
          refine v_aret E hE rfl (Or.inl ⟨_, rfl⟩) dJ26_divideKnuth_126 (Or.inl rfl) ?_
          have hxy : x = y := by omega
          subst hxy
          rw [Nat.div_self hy, Nat.mod_self]
          have h1 := dk_one hz_101 hz_108 hqc hc23
          exact ⟨qv, 0, 1, qc, _, h1.1, h1.2, hqc, Or.inl rfl, 0, Or.inl ⟨by omega, rfl⟩, fun h => absurd h (by omega)⟩
        · refine V.frame (fun hfz_fr_109 hfk_fr_109 => ?_)
          rw [hH0] at hfz_fr_109 hfk_fr_109
          rw [hA0] at hfk_fr_109
          refine v_new E in_J26 tyJ26 tyJ26_ok q1186 q1166 q101 (ci := 9) rfl (fs := [.null, vi 0, vi 0]) (fun j hj => by rcases (show j = 0 ∨ j = 1 ∨ j = 2 by omega) with rfl | rfl | rfl <;> rfl) (cb' := ((4 - 0) - 1)) (sb' := (((2 * n + 7) - 0) - 3)) (by omega) (by omega) dJ26_divideKnuth_115 (fun q_110 H_111 hq_114 ho_112 hg_113 => ?_)
          have hne_a_q_110 : a ≠ q_110 := by have := hz_104.lt; omega
          have hne_v_q_110 : v ≠ q_110 := by have := hz_105.lt; omega
          have hne_b_q_110 : b ≠ q_110 := by have := hz_106.lt; omega
          have hne_e_q_110 : e ≠ q_110 := by have := hz_107.lt; omega
          have hne_c_q_110 : c ≠ q_110 := by have := hz_101.lt; omega
          have hne_qv_q_110 : qv ≠ q_110 := by have := hz_108.lt; omega
          have hz_121 := hz_104.grow hg_113
          have hz_122 := hz_105.grow hg_113
          have hz_123 := hz_106.grow hg_113
          have hz_124 := hz_107.grow hg_113
          have hz_125 := hz_101.grow hg_113
          have hz_126 := hz_108.grow hg_113
          refine v_dup E rfl dJ26_divideKnuth_118 ?_
          refine V.frame (fun hfz_fr_127 hfk_fr_127 => ?_)
          rw [hH0] at hfz_fr_127 hfk_fr_127
          rw [hA0] at hfk_fr_127
          refine v_callI E (As := []) (b := q_110) (h_i2 κ H_111 ho_112) q1189 q101 q1187 q1188 rfl 0 (by decide +kernel) rfl (by decide) (by decide) (cb' := (((4 - 0) - 1) - 1)) (sb' := ((((2 * n + 7) - 0) - 3) - 1)) (by omega) (by omega) rfl (rest := [.ref q_110]) (Nat.le_of_ble_eq_true rfl) (fun q9 h => hNew q9 (by rw [show q9 = q_110 from h]; omega)) dJ26_divideKnuth_119 (fun v_128 H_129 hpost_130 hz_131 hk_132 => ?_)
          clear hz_131
          obtain ⟨rfl, vr, hvr, hMr⟩ := hpost_130
          have hz_133 := hz_121.kept (hk_132 _ hz_121.lt (fun h => hne_a_q_110 h))
          have hz_134 := hz_122.kept (hk_132 _ hz_122.lt (fun h => hne_v_q_110 h))
          have hz_135 := hz_123.kept (hk_132 _ hz_123.lt (fun h => hne_b_q_110 h))
          have hz_136 := hz_124.kept (hk_132 _ hz_124.lt (fun h => hne_e_q_110 h))
          have hz_137 := hz_125.kept (hk_132 _ hz_125.lt (fun h => hne_c_q_110 h))
          have hz_138 := hz_126.kept (hk_132 _ hz_126.lt (fun h => hne_qv_q_110 h))
          refine V.eq (st' := [.ref q_110]) rfl ?_
          refine v_goto E (tgt := 126) dJ26_divideKnuth_122 (by decide) ?_
          refine v_aret E hE rfl (Or.inl ⟨_, rfl⟩) dJ26_divideKnuth_126 (Or.inr ⟨_, rfl⟩) ?_
          have hxy : x = y := by omega
          subst hxy
          rw [Nat.div_self hy, Nat.mod_self]
          have h1 := dk_one hz_137 hz_138 hqc hc23
          exact ⟨qv, 0, 1, qc, _, h1.1, h1.2, hqc, Or.inl rfl, q_110, Or.inr rfl, fun _ => ⟨rfl, (by omega), vr, 0, 0, 1, _, Nat.le_trans hfz_fr_127 hvr, Nat.ne_of_gt (Nat.lt_of_lt_of_le hz_126.lt hvr), hMr, ints_0⟩⟩
    · refine v_aload_n E 3 rfl dJ26_divideKnuth_62 ?_
      refine v_aload_n E 3 rfl dJ26_divideKnuth_63 ?_
      refine v_iconst E dJ26_divideKnuth_64 ?_
      refine v_dup_x1 E rfl rfl dJ26_divideKnuth_65 ?_
      refine v_putf E in_J26 tyJ26 tyJ26_ok nmJ26 hz_10 (ci := 9) rfl 2 (Nat.le_of_ble_eq_true rfl) q1174 rfl rfl rfl rfl (Nat.le_of_ble_eq_true rfl) (hAll _ (Or.inl rfl)) dJ26_divideKnuth_66 (fun H_141 hz_139 hs_140 => ?_)
      have hz_142 := hz_6.same hs_140 hne_a_c
      have hz_143 := hz_7.same hs_140 hne_v_c
      have hz_144 := hz_8.same hs_140 hne_b_c
      have hz_145 := hz_9.same hs_140 hne_e_c
      have hz_146 := hz_11.same hs_140 hne_qv_c
      have hz_139 : hp κ H_141 c (.inr (9, [.ref qv, vi (nq : Int), vi 0])) := hz_139
      refine v_putf E in_J26 tyJ26 tyJ26_ok nmJ26 hz_139 (ci := 9) rfl 1 (Nat.le_of_ble_eq_true rfl) q1173 rfl rfl rfl rfl (Nat.le_of_ble_eq_true rfl) (hAll _ (Or.inl rfl)) dJ26_divideKnuth_69 (fun H_149 hz_147 hs_148 => ?_)
      have hz_150 := hz_142.same hs_148 hne_a_c
      have hz_151 := hz_143.same hs_148 hne_v_c
      have hz_152 := hz_144.same hs_148 hne_b_c
      have hz_153 := hz_145.same hs_148 hne_e_c
      have hz_154 := hz_146.same hs_148 hne_qv_c
      have hz_147 : hp κ H_149 c (.inr (9, [.ref qv, vi 0, vi 0])) := hz_147
      refine v_iload_n E 4 rfl dJ26_divideKnuth_72 ?_
      refine v_if_eq E (tgt := 87) dJ26_divideKnuth_73 (by decide) hrz (fun c_73 => ?_) (fun c_73 => ?_)
      · refine v_null E dJ26_divideKnuth_87 ?_
        refine v_aret E hE rfl (Or.inl ⟨_, rfl⟩) dJ26_divideKnuth_88 (Or.inl rfl) ?_
        have hxy : x < y := by omega
        rw [Nat.div_eq_of_lt hxy, Nat.mod_eq_of_lt hxy]
        exact ⟨qv, 0, 0, qc, fq, ⟨hz_147, hz_154, by omega, hc23, fun k hk => absurd hk (Nat.not_lt_zero k), Int.le_refl 0, by decide⟩, ints_0, hqc, Or.inl rfl, 0, Or.inl ⟨by omega, rfl⟩, fun h => absurd h (by omega)⟩
      · refine V.frame (fun hfz_fr_155 hfk_fr_155 => ?_)
        rw [hH0] at hfz_fr_155 hfk_fr_155
        rw [hA0] at hfk_fr_155
        refine v_new E in_J26 tyJ26 tyJ26_ok q1186 q1166 q101 (ci := 9) rfl (fs := [.null, vi 0, vi 0]) (fun j hj => by rcases (show j = 0 ∨ j = 1 ∨ j = 2 by omega) with rfl | rfl | rfl <;> rfl) (cb' := ((4 - 0) - 1)) (sb' := (((2 * n + 7) - 0) - 3)) (by omega) (by omega) dJ26_divideKnuth_76 (fun q_156 H_157 hq_160 ho_158 hg_159 => ?_)
        have hne_a_q_156 : a ≠ q_156 := by have := hz_150.lt; omega
        have hne_v_q_156 : v ≠ q_156 := by have := hz_151.lt; omega
        have hne_b_q_156 : b ≠ q_156 := by have := hz_152.lt; omega
        have hne_e_q_156 : e ≠ q_156 := by have := hz_153.lt; omega
        have hne_c_q_156 : c ≠ q_156 := by have := hz_147.lt; omega
        have hne_qv_q_156 : qv ≠ q_156 := by have := hz_154.lt; omega
        have hz_167 := hz_150.grow hg_159
        have hz_168 := hz_151.grow hg_159
        have hz_169 := hz_152.grow hg_159
        have hz_170 := hz_153.grow hg_159
        have hz_171 := hz_147.grow hg_159
        have hz_172 := hz_154.grow hg_159
        refine v_dup E rfl dJ26_divideKnuth_79 ?_
        refine v_aload_n E 1 rfl dJ26_divideKnuth_80 ?_
        refine V.frame (fun hfz_fr_173 hfk_fr_173 => ?_)
        rw [hH0] at hfz_fr_173 hfk_fr_173
        rw [hA0] at hfk_fr_173
        refine v_callI E (As := [.ref a]) (b := q_156) (h_i3 κ H_157 hD hne_a_q_156 ho_158 ⟨hz_167, hz_168, hcap, hc2, hW, hX0, hX1⟩) q1262 q101 q1260 q1261 rfl 1 (by decide +kernel) rfl (by decide) (by decide) (cb' := (((4 - 0) - 1) - 1)) (sb' := ((((2 * n + 7) - 0) - 3) - n)) (by omega) (by omega) rfl (rest := [.ref q_156]) (Nat.le_of_ble_eq_true rfl) (fun q9 h => hNew q9 (by rw [show q9 = q_156 from h]; omega)) dJ26_divideKnuth_81 (fun v_174 H_175 hpost_176 hz_177 hk_178 => ?_)
        clear hz_177
        obtain ⟨rfl, vr, hvr, hMr⟩ := hpost_176
        have hz_179 := hz_167.kept (hk_178 _ hz_167.lt (fun h => hne_a_q_156 h))
        have hz_180 := hz_168.kept (hk_178 _ hz_168.lt (fun h => hne_v_q_156 h))
        have hz_181 := hz_169.kept (hk_178 _ hz_169.lt (fun h => hne_b_q_156 h))
        have hz_182 := hz_170.kept (hk_178 _ hz_170.lt (fun h => hne_e_q_156 h))
        have hz_183 := hz_171.kept (hk_178 _ hz_171.lt (fun h => hne_c_q_156 h))
        have hz_184 := hz_172.kept (hk_178 _ hz_172.lt (fun h => hne_qv_q_156 h))
        refine V.eq (st' := [.ref q_156]) rfl ?_
        refine v_goto E (tgt := 88) dJ26_divideKnuth_84 (by decide) ?_
        refine v_aret E hE rfl (Or.inl ⟨_, rfl⟩) dJ26_divideKnuth_88 (Or.inr ⟨_, rfl⟩) ?_
        have hxy : x < y := by omega
        rw [Nat.div_eq_of_lt hxy, Nat.mod_eq_of_lt hxy]
        exact ⟨qv, 0, 0, qc, fq, ⟨hz_183, hz_184, by omega, hc23, fun k hk => absurd hk (Nat.not_lt_zero k), Int.le_refl 0, by decide⟩, ints_0, hqc, Or.inl rfl, q_156, Or.inr rfl, fun _ => ⟨rfl, (by omega), vr, 0, n, n, _, Nat.le_trans hfz_fr_173 hvr, Nat.ne_of_gt (Nat.lt_of_lt_of_le hz_172.lt hvr), hMr, hn⟩⟩
  · refine v_aload_n E 2 rfl dJ26_divideKnuth_24 ?_
    refine v_aload_n E 2 rfl dJ26_divideKnuth_25 ?_
    refine v_iconst E dJ26_divideKnuth_26 ?_
    refine v_dup_x1 E rfl rfl dJ26_divideKnuth_27 ?_
    refine v_putf E in_J26 tyJ26 tyJ26_ok nmJ26 hoc (ci := 9) rfl 2 (Nat.le_of_ble_eq_true rfl) q1174 rfl rfl rfl rfl (Nat.le_of_ble_eq_true rfl) (hAll _ (Or.inl rfl)) dJ26_divideKnuth_28 (fun H_187 hoc_185 hs_186 => ?_)
    have hoa_188 := hoa.same hs_186 hne_a_c
    have hv_189 := hv.same hs_186 hne_v_c
    have hob_190 := hob.same hs_186 hne_b_c
    have he_191 := he.same hs_186 hne_e_c
    have hqv_192 := hqv.same hs_186 hne_qv_c
    have hoc_185 : hp κ H_187 c (.inr (9, [.ref qv, vi (nq : Int), vi 0])) := hoc_185
    refine v_putf E in_J26 tyJ26 tyJ26_ok nmJ26 hoc_185 (ci := 9) rfl 1 (Nat.le_of_ble_eq_true rfl) q1173 rfl rfl rfl rfl (Nat.le_of_ble_eq_true rfl) (hAll _ (Or.inl rfl)) dJ26_divideKnuth_31 (fun H_195 hoc_193 hs_194 => ?_)
    have hoa_196 := hoa_188.same hs_194 hne_a_c
    have hv_197 := hv_189.same hs_194 hne_v_c
    have hob_198 := hob_190.same hs_194 hne_b_c
    have he_199 := he_191.same hs_194 hne_e_c
    have hqv_200 := hqv_192.same hs_194 hne_qv_c
    have hoc_193 : hp κ H_195 c (.inr (9, [.ref qv, vi 0, vi 0])) := hoc_193
    refine v_iload_n E 3 rfl dJ26_divideKnuth_34 ?_
    refine v_if_eq E (tgt := 48) dJ26_divideKnuth_35 (by decide) hrz (fun c_35 => ?_) (fun c_35 => ?_)
    · refine v_null E dJ26_divideKnuth_48 ?_
      refine v_aret E hE rfl (Or.inl ⟨_, rfl⟩) dJ26_divideKnuth_49 (Or.inl rfl) ?_
      have ex : x = 0 := by have := ints_pos (Int.natCast_nonneg x) hn; omega
      subst ex
      rw [Nat.zero_div, Nat.zero_mod]
      exact ⟨qv, 0, 0, qc, fq, ⟨hoc_193, hqv_200, by omega, hc23, fun k hk => absurd hk (Nat.not_lt_zero k), Int.le_refl 0, by decide⟩, ints_0, hqc, Or.inl rfl, 0, Or.inl ⟨by omega, rfl⟩, fun h => absurd h (by omega)⟩
    · refine V.frame (fun hfz_fr_201 hfk_fr_201 => ?_)
      rw [hH0] at hfz_fr_201 hfk_fr_201
      rw [hA0] at hfk_fr_201
      refine v_new E in_J26 tyJ26 tyJ26_ok q1186 q1166 q101 (ci := 9) rfl (fs := [.null, vi 0, vi 0]) (fun j hj => by rcases (show j = 0 ∨ j = 1 ∨ j = 2 by omega) with rfl | rfl | rfl <;> rfl) (cb' := (4 - 1)) (sb' := ((2 * n + 7) - 3)) (by omega) (by omega) dJ26_divideKnuth_38 (fun q_202 H_203 hq_206 ho_204 hg_205 => ?_)
      have hne_a_q_202 : a ≠ q_202 := by have := hoa_196.lt; omega
      have hne_v_q_202 : v ≠ q_202 := by have := hv_197.lt; omega
      have hne_b_q_202 : b ≠ q_202 := by have := hob_198.lt; omega
      have hne_e_q_202 : e ≠ q_202 := by have := he_199.lt; omega
      have hne_c_q_202 : c ≠ q_202 := by have := hoc_193.lt; omega
      have hne_qv_q_202 : qv ≠ q_202 := by have := hqv_200.lt; omega
      have hoa_213 := hoa_196.grow hg_205
      have hv_214 := hv_197.grow hg_205
      have hob_215 := hob_198.grow hg_205
      have he_216 := he_199.grow hg_205
      have hoc_217 := hoc_193.grow hg_205
      have hqv_218 := hqv_200.grow hg_205
      refine v_dup E rfl dJ26_divideKnuth_41 ?_
      refine V.frame (fun hfz_fr_219 hfk_fr_219 => ?_)
      rw [hH0] at hfz_fr_219 hfk_fr_219
      rw [hA0] at hfk_fr_219
      refine v_callI E (As := []) (b := q_202) (h_i2 κ H_203 ho_204) q1189 q101 q1187 q1188 rfl 0 (by decide +kernel) rfl (by decide) (by decide) (cb' := ((4 - 1) - 1)) (sb' := (((2 * n + 7) - 3) - 1)) (by omega) (by omega) rfl (rest := [.ref q_202]) (Nat.le_of_ble_eq_true rfl) (fun q9 h => hNew q9 (by rw [show q9 = q_202 from h]; omega)) dJ26_divideKnuth_42 (fun v_220 H_221 hpost_222 hz_223 hk_224 => ?_)
      clear hz_223
      obtain ⟨rfl, vr, hvr, hMr⟩ := hpost_222
      have hz_225 := hoa_213.kept (hk_224 _ hoa_213.lt (fun h => hne_a_q_202 h))
      have hz_226 := hv_214.kept (hk_224 _ hv_214.lt (fun h => hne_v_q_202 h))
      have hz_227 := hob_215.kept (hk_224 _ hob_215.lt (fun h => hne_b_q_202 h))
      have hz_228 := he_216.kept (hk_224 _ he_216.lt (fun h => hne_e_q_202 h))
      have hz_229 := hoc_217.kept (hk_224 _ hoc_217.lt (fun h => hne_c_q_202 h))
      have hz_230 := hqv_218.kept (hk_224 _ hqv_218.lt (fun h => hne_qv_q_202 h))
      refine V.eq (st' := [.ref q_202]) rfl ?_
      refine v_goto E (tgt := 49) dJ26_divideKnuth_45 (by decide) ?_
      refine v_aret E hE rfl (Or.inl ⟨_, rfl⟩) dJ26_divideKnuth_49 (Or.inr ⟨_, rfl⟩) ?_
      have ex : x = 0 := by have := ints_pos (Int.natCast_nonneg x) hn; omega
      subst ex
      rw [Nat.zero_div, Nat.zero_mod]
      exact ⟨qv, 0, 0, qc, fq, ⟨hz_229, hz_230, by omega, hc23, fun k hk => absurd hk (Nat.not_lt_zero k), Int.le_refl 0, by decide⟩, ints_0, hqc, Or.inl rfl, q_202, Or.inr rfl, fun _ => ⟨rfl, (by omega), vr, 0, 0, 1, _, Nat.le_trans hfz_fr_219 hvr, Nat.ne_of_gt (Nat.lt_of_lt_of_le hqv_218.lt hvr), hMr, ints_0⟩⟩
