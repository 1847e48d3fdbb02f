theorem dk_len {x y n r n3 t : Nat} (hn : isInts (x : Int) n) (hr : isInts (r : Int) n3) (e : r * 2 ^ t = x % y) (ht : t / 32 ≤ n) : n3 + t / 32 ≤ n := by
  rcases Nat.eq_zero_or_pos n3 with h | h
  · omega
  have h1 := hr.2.2 h
  have h2 := hn.2.1
  have h3 : (r : Int) * 2 ^ t = ((x % y : Nat) : Int) := by rw [← e, Int.natCast_mul, Int.natCast_pow]; rfl
  have h4 : ((x % y : Nat) : Int) ≤ (x : Int) := Int.ofNat_le.mpr (Nat.mod_le x y)
  have h5 := Int.mul_le_mul_of_nonneg_right h1 (Int.le_of_lt (p2 t))
  rw [h3, ← Int.pow_add] at h5
  refine Classical.byContradiction fun hc => ?_
  have h6 := pw_mono (show 32 * n ≤ 32 * (n3 - 1) + t by omega)
  omega
set_option maxHeartbeats 400000 in
set_option maxRecDepth 100000 in
theorem h_lsh0 (κ : zK) (H0 : Heap) {a v o n cap : Nat} {f : Nat → Int} {X : Int} {u b : Nat} (hD : zDist κ) (hb : b ≤ 31) (hu : u ≤ 48) (hub : 0 < 32 * u + b) (hn : isInts X n) (hn0 : n = 0) (hs : sB (X * 2 ^ (32 * u + b))) (hM : MI κ H0 a v o n cap f X)  : Mt κ yJ26_leftShift cJ26_leftShift 8 (none) 2 41 1 (n + u + 1) H0 [.ref a, vi ((32 * u + b : Nat) : Int)] (fun q => q = a ∨ q = v) (fun v9 H1 => v9 = none ∧ ∃ (v2 o2 n2 cap2 : Nat) (f2 : Nat → Int), MI κ H1 a v2 o2 n2 cap2 f2 (X * 2 ^ (32 * u + b)) ∧ isInts (X * 2 ^ (32 * u + b)) n2 ∧ (v2 = v ∨ H0.size ≤ v2)) := by
  refine Mt.of (by decide) (Nat.le_of_ble_eq_true rfl) ?_
  intro z E hE hH0 hA0 hL hini
  have hAll : ∀ q, (fun q => q = a ∨ q = v) q → zA z.A z.H0 q := fun q h => Or.inl (by rw [hA0]; exact h)
  have hNew : ∀ q, H0.size ≤ q → zA z.A z.H0 q := fun q h => Or.inr (by rw [hH0]; exact h)
  have E : zOK z cJ26_leftShift RJ26 κ 2 41 (none) := E
  refine V.eqL (lv' := [(0, .ref a), (1, vi ((32 * u + b : Nat) : Int))]) rfl ?_
  obtain ⟨hoa, hv, hcap, hc2, hW, hX0, hX1⟩ := hM
  refine v_aload_n E 0 rfl dJ26_leftShift_0 ?_
  refine v_getf E in_J26 hoa (ci := 9) rfl 1 (by decide) q1173 rfl (v := vi (n : Int)) rfl dJ26_leftShift_1 ?_
  refine v_if_ne E (tgt := 8) dJ26_leftShift_4 (by decide) ⟨by omega, by omega⟩ (fun c_4 => absurd c_4 (by omega)) (fun c_4 => ?_)
  refine v_vret E hE dJ26_leftShift_7 ?_
  have hX : X = 0 := by have := ints_pos hX0 hn; omega
  subst hX
  subst hn0
  rw [Int.zero_mul]
  exact ⟨rfl, v, o, 0, cap, f, ⟨hoa, hv, hcap, hc2, hW, hX0, hX1⟩, ints_0, Or.inl rfl⟩

/-- a shift to the left, of 0 too -/
theorem h_lshA (κ : zK) (H0 : Heap) {a v o n cap : Nat} {f : Nat → Int} {X : Int} {u b : Nat} (hD : zDist κ) (hb : b ≤ 31) (hu : u ≤ 48) (hub : 0 < 32 * u + b) (hn : isInts X n) (hs : sB (X * 2 ^ (32 * u + b))) (hM : MI κ H0 a v o n cap f X)  : Mt κ yJ26_leftShift cJ26_leftShift 8 (none) 2 41 1 (n + u + 1) H0 [.ref a, vi ((32 * u + b : Nat) : Int)] (fun q => q = a ∨ q = v) (fun v9 H1 => v9 = none ∧ ∃ (v2 o2 n2 cap2 : Nat) (f2 : Nat → Int), MI κ H1 a v2 o2 n2 cap2 f2 (X * 2 ^ (32 * u + b)) ∧ isInts (X * 2 ^ (32 * u + b)) n2 ∧ (v2 = v ∨ H0.size ≤ v2)) := by
  rcases Nat.eq_zero_or_pos n with h | h
  · exact h_lsh0 κ H0 hD hb hu hub hn h hs hM
  · exact h_lsh κ H0 hD hb hu hub hn h hs hM

set_option maxHeartbeats 1500000 in
set_option maxRecDepth 100000 in
theorem h_dk2 (κ : zK) (H0 : Heap) {a v o n cap : Nat} {f : Nat → Int} {x : Nat} {b e p m cbp : Nat} {g : Nat → Int} {y : Nat} {c qv oq nq qc : Nat} {fq : Nat → Int} {Q : Int} (hD : zDist κ) (hy : 0 < y) (hn : isInts (x : Int) n) (hm : isInts (y : Int) m) (hne_a_c : a ≠ c) (hne_b_c : b ≠ c) (hne_v_qv : v ≠ qv) (hne_e_qv : e ≠ qv) (hqc : 1 ≤ qc) (hM : MI κ H0 a v o n cap f (x : Int)) (hM2 : MI κ H0 b e p m cbp g (y : Int)) (hM3 : MI κ H0 c qv oq nq qc fq Q) (hEz : ∀ i j, isZeros (x : Int) i → isZeros (y : Int) j → min i j < 96)  : Mt κ yJ26_divideKnuth_2 cJ26_divideKnuth_2 3 (some (.object "java/math/MutableBigInteger")) 5 170 4 (2 * n + 7) H0 [.ref a, .ref b, .ref c] (fun q => q = c ∨ q = qv) (fun v9 H1 => ∃ (v2 o2 n2 cap2 : Nat) (f2 : Nat → Int), MI κ H1 c v2 o2 n2 cap2 f2 ((x / y : Nat) : Int) ∧ isInts ((x / y : Nat) : Int) n2 ∧ 1 ≤ cap2 ∧ (v2 = qv ∨ H0.size ≤ v2) ∧ ∃ r : Nat, (False ∧ v9 = some .null ∨ v9 = some (.ref r)) ∧ (v9 = some (.ref r) ∧ H0.size ≤ r ∧ ∃ (v3 o3 n3 cap3 : Nat) (f3 : Nat → Int), H0.size ≤ v3 ∧ v3 ≠ v2 ∧ MI κ H1 r v3 o3 n3 cap3 f3 ((x % y : Nat) : Int) ∧ isInts ((x % y : Nat) : Int) n3)) := by
  refine Mt.of (by decide) (Nat.le_of_ble_eq_true rfl) ?_
  intro z E hE hH0 hA0 hL hini
  have hAll : ∀ q, (fun q => q = c ∨ q = qv) q → zA z.A z.H0 q := fun q h => Or.inl (by rw [hA0]; exact h)
  have hNew : ∀ q, H0.size ≤ q → zA z.A z.H0 q := fun q h => Or.inr (by rw [hH0]; exact h)
  have E : zOK z cJ26_divideKnuth_2 RJ26 κ 5 170 (some (.object "java/math/MutableBigInteger")) := E
  refine V.eqL (lv' := [(0, .ref a), (1, .ref b), (2, .ref c)]) rfl ?_
  have hM0 := hM
  have hM20 := hM2
  obtain ⟨hoa, hv, hcap, hc2, hW, hX0, hX1⟩ := hM
  obtain ⟨hob, he, hcap2, hc22, hW2, hX02, hX12⟩ := hM2
  have h48 := hn.1
  have h48m := hm.1
  refine v_aload_n E 0 rfl dJ26_divideKnuth_2_0 ?_
  refine v_aload_n E 1 rfl dJ26_divideKnuth_2_1 ?_
  refine v_aload_n E 2 rfl dJ26_divideKnuth_2_2 ?_
  refine v_iconst E dJ26_divideKnuth_2_3 ?_
  refine v_callV E (As := [.ref b, .ref c, vi 1]) (b := a) (ci := 9) (C := RJ26) (T := TJ26) (N := 3) hoa rfl (h_dk0 κ H0 (z3 := 1) hD (Or.inr rfl) hy hn hm hne_a_c hne_b_c hne_v_qv hne_e_qv hqc hM0 hM20 hM3 hEz) (lw_V q1253 q1254 q1255 q101 q1256) 3 (by decide +kernel) rfl (by decide) (by decide) (cb' := 0) (sb' := 0) (by omega) (by omega) rfl (rest := []) (Nat.le_of_ble_eq_true rfl) (fun q h => hAll q h) dJ26_divideKnuth_2_4 (fun v_1 H_2 hpost_3 hz_4 hk_5 => ?_)
  clear hz_4
  obtain ⟨v2, o2, n2, cap2, f2, hMq, hIq, hcq, hvq, r, -, hr1⟩ := hpost_3
  obtain ⟨rfl, hr2⟩ := hr1 rfl
  refine V.eq (st' := [.ref r]) rfl ?_
  refine v_aret E hE rfl (Or.inl ⟨_, rfl⟩) dJ26_divideKnuth_2_7 (Or.inr ⟨_, rfl⟩) ?_
  exact ⟨v2, o2, n2, cap2, f2, hMq, hIq, hcq, hvq, r, Or.inr rfl, rfl, hr2⟩

set_option maxHeartbeats 3000000 in
set_option maxRecDepth 100000 in
/-- division -/
theorem h_dk (κ : zK) (H0 : Heap) {a v o n cap : Nat} {f : Nat → Int} {x : Nat} {b e p m cbp : Nat} {g : Nat → Int} {y : Nat} {c qv oq nq qc : Nat} {fq : Nat → Int} {Q : Int} {z3 : Int} (hD : zDist κ) (hz3 : z3 = 0 ∨ z3 = 1) (hy : 0 < y) (hn : isInts (x : Int) n) (hm : isInts (y : Int) m) (hne_a_c : a ≠ c) (hne_b_c : b ≠ c) (hne_v_qv : v ≠ qv) (hne_e_qv : e ≠ qv) (hqc : 1 ≤ qc) (hM : MI κ H0 a v o n cap f (x : Int)) (hM2 : MI κ H0 b e p m cbp g (y : Int)) (hM3 : MI κ H0 c qv oq nq qc fq Q)  : Mt κ yJ26_divideKnuth cJ26_divideKnuth 8 (some (.object "java/math/MutableBigInteger")) 6 192 9 (5 * n + 14) H0 [.ref a, .ref b, .ref c, vi z3] (fun q => q = c ∨ q = qv) (fun v9 H1 => ∃ (v2 o2 n2 cap2 : Nat) (f2 : Nat → Int), MI κ H1 c v2 o2 n2 cap2 f2 ((x / y : Nat) : Int) ∧ isInts ((x / y : Nat) : Int) n2 ∧ 1 ≤ cap2 ∧ (v2 = qv ∨ H0.size ≤ v2) ∧ ∃ r : Nat, (z3 = 0 ∧ v9 = some .null ∨ v9 = some (.ref r)) ∧ (z3 = 1 → v9 = some (.ref r) ∧ H0.size ≤ r ∧ ∃ (v3 o3 n3 cap3 : Nat) (f3 : Nat → Int), H0.size ≤ v3 ∧ v3 ≠ v2 ∧ MI κ H1 r v3 o3 n3 cap3 f3 ((x % y : Nat) : Int) ∧ isInts ((x % y : Nat) : Int) n3)) := by
  refine Mt.of (by decide) (Nat.le_of_ble_eq_true rfl) ?_
  intro z E hE hH0 hA0 hL hini
  have hAll : ∀ q, (fun q => q = c ∨ q = qv) q → zA z.A z.H0 q := fun q h => Or.inl (by rw [hA0]; exact h)
  have hNew : ∀ q, H0.size ≤ q → zA z.A z.H0 q := fun q h => Or.inr (by rw [hH0]; exact h)
  have E : zOK z cJ26_divideKnuth RJ26 κ 6 192 (some (.object "java/math/MutableBigInteger")) := E
  refine V.eqL (lv' := [(0, .ref a), (1, .ref b), (2, .ref c), (3, vi z3)]) rfl ?_
  obtain ⟨hoa, hv, hcap, hc2, hW, hX0, hX1⟩ := hM
  obtain ⟨hob, he, hcap2, hc22, hW2, hX02, hX12⟩ := hM2
  obtain ⟨hoc, hqv, hcap3, hc23, hW3, hX03, hX13⟩ := hM3
  have hne_v_a : v ≠ a := Ne.symm (hp.ka hD hoa hv (by decide) (by decide))
  have hne_v_b : v ≠ b := Ne.symm (hp.ka hD hob hv (by decide) (by decide))
  have hne_v_c : v ≠ c := Ne.symm (hp.ka hD hoc hv (by decide) (by decide))
  have hne_e_a : e ≠ a := Ne.symm (hp.ka hD hoa he (by decide) (by decide))
  have hne_e_b : e ≠ b := Ne.symm (hp.ka hD hob he (by decide) (by decide))
  have hne_e_c : e ≠ c := Ne.symm (hp.ka hD hoc he (by decide) (by decide))
  have hne_qv_a : qv ≠ a := Ne.symm (hp.ka hD hoa hqv (by decide) (by decide))
  have hne_qv_b : qv ≠ b := Ne.symm (hp.ka hD hob hqv (by decide) (by decide))
  have hne_qv_c : qv ≠ c := Ne.symm (hp.ka hD hoc hqv (by decide) (by decide))
  have h48 := hn.1
  have h48m := hm.1
  have hrz : rI z3 := by rcases hz3 with h | h <;> rw [h] <;> exact ⟨by decide, by decide⟩
  have hm0 : 0 < m := ints_pos' hy hm
  refine v_aload_n E 1 rfl dJ26_divideKnuth_0 ?_
  refine v_getf E in_J26 hob (ci := 9) rfl 1 (by decide) q1173 rfl (v := vi (m : Int)) rfl dJ26_divideKnuth_1 ?_
  refine v_if_ne E (tgt := 17) dJ26_divideKnuth_4 (by decide) ⟨by omega, by omega⟩ (fun c_4 => ?_) (fun c_4 => absurd c_4 (by omega))
  refine v_aload_n E 0 rfl dJ26_divideKnuth_17 ?_
  refine v_getf E in_J26 hoa (ci := 9) rfl 1 (by decide) q1173 rfl (v := vi (n : Int)) rfl dJ26_divideKnuth_18 ?_
  refine v_if_ne E (tgt := 50) dJ26_divideKnuth_21 (by decide) ⟨by omega, by omega⟩ (fun c_21 => ?_) (fun c_21 => ?_)
  · refine v_aload_n E 0 rfl dJ26_divideKnuth_50 ?_
    refine v_aload_n E 1 rfl dJ26_divideKnuth_51 ?_
    refine v_callV E (As := [.ref b]) (b := a) (ci := 9) (C := RJ26) (T := TJ26) (N := 3) hoa rfl (h_cmp κ H0 (X := (x : Int)) (Y := (y : Int)) hD hn hm ⟨hoa, hv, hcap, hc2, hW, hX0, hX1⟩ ⟨hob, he, hcap2, hc22, hW2, hX02, hX12⟩) (lw_V q1236 q1237 q1238 q101 q1239) 1 (by decide +kernel) rfl (by decide) (by decide) (cb' := (9 - 0)) (sb' := ((5 * n + 14) - 0)) (by omega) (by omega) rfl (rest := []) (Nat.le_of_ble_eq_true rfl) (fun q h => h.elim) dJ26_divideKnuth_52 (fun v_1 H_2 hpost_3 hz_4 hk_5 => ?_)
    clear hz_4
    obtain ⟨d0, rfl, hd0⟩ := hpost_3
    have hz_6 := hoa.kept (hk_5 _ hoa.lt (fun h => h))
    have hz_7 := hv.kept (hk_5 _ hv.lt (fun h => h))
    have hz_8 := hob.kept (hk_5 _ hob.lt (fun h => h))
    have hz_9 := he.kept (hk_5 _ he.lt (fun h => h))
    have hz_10 := hoc.kept (hk_5 _ hoc.lt (fun h => h))
    have hz_11 := hqv.kept (hk_5 _ hqv.lt (fun h => h))
    have hrd : rI d0 := ⟨by omega, by omega⟩
    refine V.eq (st' := [vi d0]) rfl ?_
    refine v_istore E dJ26_divideKnuth_55 (zlt hL rfl) (lv' := [(4, vi d0), (0, .ref a), (1, .ref b), (2, .ref c), (3, vi z3)]) rfl ?_
    refine v_iload E 0 rfl dJ26_divideKnuth_57 ?_
    refine v_if_ge E (tgt := 89) dJ26_divideKnuth_59 (by decide) hrd (fun c_59 => ?_) (fun c_59 => ?_)
    · refine v_iload E 0 rfl dJ26_divideKnuth_89 ?_
      refine v_if_ne E (tgt := 127) dJ26_divideKnuth_91 (by decide) hrd (fun c_91 => ?_) (fun c_91 => ?_)
      · refine v_aload_n E 3 rfl dJ26_divideKnuth_127 ?_
        refine v_callV E (As := []) (b := c) (ci := 9) (C := RJ26) (T := TJ26) (N := 3) hz_10 rfl (h_clear κ H_2 hD ⟨hz_10, hz_11, hcap3, hc23, hW3, hX03, hX13⟩) (lw_V q1264 q1265 q1266 q101 q1267) 0 (by decide +kernel) rfl (by decide) (by decide) (cb' := ((9 - 0) - 0)) (sb' := (((5 * n + 14) - 0) - 0)) (by omega) (by omega) rfl (rest := []) (Nat.le_of_ble_eq_true rfl) (fun q h => hAll q h) dJ26_divideKnuth_128 (fun v_12 H_13 hpost_14 hz_15 hk_16 => ?_)
        clear hz_15
        obtain ⟨rfl, hMc⟩ := hpost_14
        obtain ⟨hoc9, hq9, -⟩ := hMc
        have hz_17 := hz_6.kept (hk_16 _ hz_6.lt (fun h => h.elim (fun h => hne_a_c h) (fun h => (Ne.symm hne_qv_a) h)))
        have hz_18 := hz_7.kept (hk_16 _ hz_7.lt (fun h => h.elim (fun h => hne_v_c h) (fun h => hne_v_qv h)))
        have hz_19 := hz_8.kept (hk_16 _ hz_8.lt (fun h => h.elim (fun h => hne_b_c h) (fun h => (Ne.symm hne_qv_b) h)))
        have hz_20 := hz_9.kept (hk_16 _ hz_9.lt (fun h => h.elim (fun h => hne_e_c h) (fun h => hne_e_qv h)))
        change hp κ H_13 c (.inr (9, [.ref qv, vi 0, vi 0])) at hoc9
        refine V.eq (st' := []) rfl ?_
        refine v_aload_n E 2 rfl dJ26_divideKnuth_131 ?_
        refine v_getf E in_J26 hz_19 (ci := 9) rfl 1 (by decide) q1173 rfl (v := vi (m : Int)) rfl dJ26_divideKnuth_132 ?_
        refine v_iconst E dJ26_divideKnuth_135 ?_
        refine v_icmp_ne E (tgt := 184) dJ26_divideKnuth_136 (by decide) ⟨by omega, by omega⟩ ⟨by omega, by omega⟩ (fun c_136 => ?_) (fun c_136 => ?_)
        · refine v_aload_n E 1 rfl dJ26_divideKnuth_184 ?_
          refine v_getf E in_J26 hz_17 (ci := 9) rfl 1 (by decide) q1173 rfl (v := vi (n : Int)) rfl dJ26_divideKnuth_185 ?_
          refine v_bipush E ⟨by decide, by decide⟩ dJ26_divideKnuth_188 ?_
          refine v_icmp_lt E (tgt := 264) dJ26_divideKnuth_190 (by decide) ⟨by omega, by omega⟩ ⟨by omega, by omega⟩ (fun c_190 => ?_) (fun c_190 => ?_)
          · refine v_aload_n E 1 rfl dJ26_divideKnuth_264 ?_
            refine v_aload_n E 2 rfl dJ26_divideKnuth_265 ?_
            refine v_aload_n E 3 rfl dJ26_divideKnuth_266 ?_
            refine v_iload_n E 4 rfl dJ26_divideKnuth_267 ?_
            refine V.frame (fun hfz_fr_21 hfk_fr_21 => ?_)
            rw [hH0] at hfz_fr_21 hfk_fr_21
            rw [hA0] at hfk_fr_21
            have hyx9 : y < x := by omega
            refine v_callV E (As := [.ref b, .ref c, vi z3]) (b := a) (ci := 9) (C := RJ26) (T := TJ26) (N := 3) hz_17 rfl (h_dm κ H_13 hD hz3 (by omega) (by omega) hn hm hne_a_c hne_b_c hne_v_qv hne_e_qv ⟨hqc, hc23⟩ hoc9 hq9 ⟨hz_17, hz_18, hcap, hc2, hW, hX0, hX1⟩ ⟨hz_19, hz_20, hcap2, hc22, hW2, hX02, hX12⟩) (lw_V q1284 q1286 qs24 q101 q1287) 3 (by decide +kernel) rfl (by decide) (by decide) (cb' := (((9 - 0) - 0) - 4)) (sb' := ((((5 * n + 14) - 0) - 0) - (2 * n + 7))) (by omega) (by omega) rfl (rest := []) (Nat.le_of_ble_eq_true rfl) (fun q h => hAll q h) dJ26_divideKnuth_268 (fun v_22 H_23 hpost_24 hz_25 hk_26 => ?_)
            clear hz_25
            obtain ⟨v2, o2, n2, cap2, f2, hMq, hIq, hvq, hr9⟩ := hpost_24
            have hvq := hvq.imp id (fun h => Nat.le_trans hfz_fr_21 h)
            have hcq := hMq.pos hIq (Int.natCast_pos.mpr (Nat.div_pos (Nat.le_of_lt hyx9) hy))
            rcases hr9 with ⟨hz9, rfl⟩ | ⟨hz9, r, v3, o3, n3, cap3, f3, rfl, hrH, hvH, hv32, hM9, hI9⟩
            ·
              refine V.eq (st' := [.null]) rfl ?_
              refine v_aret E hE rfl (Or.inl ⟨_, rfl⟩) dJ26_divideKnuth_271 (Or.inl rfl) ?_
              exact ⟨v2, o2, n2, cap2, f2, hMq, hIq, hcq, hvq, 0, Or.inl ⟨by omega, rfl⟩, fun h => absurd h (by omega)⟩
            ·
              have hrH := Nat.le_trans hfz_fr_21 hrH
              have hvH := Nat.le_trans hfz_fr_21 hvH
              refine V.eq (st' := [.ref r]) rfl ?_
              refine v_aret E hE rfl (Or.inl ⟨_, rfl⟩) dJ26_divideKnuth_271 (Or.inr ⟨_, rfl⟩) ?_
              exact ⟨v2, o2, n2, cap2, f2, hMq, hIq, hcq, hvq, r, Or.inr rfl, fun _ => ⟨rfl, hrH, v3, o3, n3, cap3, f3, hvH, hv32, hM9, hI9⟩⟩
          · refine v_aload_n E 1 rfl dJ26_divideKnuth_193 ?_
            refine v_callV E (As := []) (b := a) (ci := 9) (C := RJ26) (T := TJ26) (N := 3) hz_17 rfl (h_lsb κ H_13 hD hn (by omega) ⟨hz_17, hz_18, hcap, hc2, hW, hX0, hX1⟩) (lw_V q1197 q1199 qs20 q101 q1200) 0 (by decide +kernel) rfl (by decide) (by decide) (cb' := (((9 - 0) - 0) - 0)) (sb' := ((((5 * n + 14) - 0) - 0) - 0)) (by omega) (by omega) rfl (rest := []) (Nat.le_of_ble_eq_true rfl) (fun q h => h.elim) dJ26_divideKnuth_194 (fun v_27 H_28 hpost_29 hz_30 hk_31 => ?_)
            clear hz_30
            obtain ⟨i, rfl, hi, hil⟩ := hpost_29
            have hz_32 := hz_17.kept (hk_31 _ hz_17.lt (fun h => h))
            have hz_33 := hz_18.kept (hk_31 _ hz_18.lt (fun h => h))
            have hz_34 := hz_19.kept (hk_31 _ hz_19.lt (fun h => h))
            have hz_35 := hz_20.kept (hk_31 _ hz_20.lt (fun h => h))
            have hz_36 := hoc9.kept (hk_31 _ hoc9.lt (fun h => h))
            have hz_37 := hq9.kept (hk_31 _ hq9.lt (fun h => h))
            refine V.eq (st' := [vi (i : Int)]) rfl ?_
            refine v_aload_n E 2 rfl dJ26_divideKnuth_197 ?_
            refine v_callV E (As := []) (b := b) (ci := 9) (C := RJ26) (T := TJ26) (N := 3) hz_34 rfl (h_lsb κ H_28 hD hm hm0 ⟨hz_34, hz_35, hcap2, hc22, hW2, hX02, hX12⟩) (lw_V q1197 q1199 qs20 q101 q1200) 0 (by decide +kernel) rfl (by decide) (by decide) (cb' := ((((9 - 0) - 0) - 0) - 0)) (sb' := (((((5 * n + 14) - 0) - 0) - 0) - 0)) (by omega) (by omega) rfl (rest := [vi (i : Int)]) (Nat.le_of_ble_eq_true rfl) (fun q h => h.elim) dJ26_divideKnuth_198 (fun v_38 H_39 hpost_40 hz_41 hk_42 => ?_)
            clear hz_41
            obtain ⟨j, rfl, hj, hjl⟩ := hpost_40
            have hz_43 := hz_32.kept (hk_42 _ hz_32.lt (fun h => h))
            have hz_44 := hz_33.kept (hk_42 _ hz_33.lt (fun h => h))
            have hz_45 := hz_34.kept (hk_42 _ hz_34.lt (fun h => h))
            have hz_46 := hz_35.kept (hk_42 _ hz_35.lt (fun h => h))
            have hz_47 := hz_36.kept (hk_42 _ hz_36.lt (fun h => h))
            have hz_48 := hz_37.kept (hk_42 _ hz_37.lt (fun h => h))
            refine V.eq (st' := [vi (j : Int), vi (i : Int)]) rfl ?_
            refine v_mmin E ⟨by omega, by omega⟩ ⟨by omega, by omega⟩ q1279 q267 q80 q268 (by decide) (Nat.le_of_ble_eq_true rfl) dJ26_divideKnuth_201 ?_
            obtain ⟨t, ht9⟩ : ∃ t, t = min i j := ⟨_, rfl⟩
            have hti : t ≤ i := by rw [ht9]; exact Nat.min_le_left _ _
            have htj : t ≤ j := by rw [ht9]; exact Nat.min_le_right _ _
            refine V.topi (x' := (t : Int)) (congrArg iZ (by omega)) ?_
            refine v_istore E dJ26_divideKnuth_204 (zlt hL rfl) (lv' := [(5, vi (t : Int)), (4, vi d0), (0, .ref a), (1, .ref b), (2, .ref c), (3, vi z3)]) rfl ?_
            refine v_iload E 0 rfl dJ26_divideKnuth_206 ?_
            refine v_bipush E ⟨by decide, by decide⟩ dJ26_divideKnuth_208 ?_
            refine v_icmp_lt E (tgt := 264) dJ26_divideKnuth_210 (by decide) ⟨by omega, by omega⟩ ⟨by omega, by omega⟩ (fun c_210 => ?_) (fun c_210 => ?_)
            · refine v_aload_n E 2 rfl dJ26_divideKnuth_264 ?_
              refine v_aload_n E 3 rfl dJ26_divideKnuth_265 ?_
              refine v_aload_n E 4 rfl dJ26_divideKnuth_266 ?_
              refine v_iload_n E 5 rfl dJ26_divideKnuth_267 ?_
              refine V.frame (fun hfz_fr_49 hfk_fr_49 => ?_)
              rw [hH0] at hfz_fr_49 hfk_fr_49
              rw [hA0] at hfk_fr_49
              have hyx9 : y < x := by omega
              refine v_callV E (As := [.ref b, .ref c, vi z3]) (b := a) (ci := 9) (C := RJ26) (T := TJ26) (N := 3) hz_43 rfl (h_dm κ H_39 hD hz3 (by omega) (by omega) hn hm hne_a_c hne_b_c hne_v_qv hne_e_qv ⟨hqc, hc23⟩ hz_47 hz_48 ⟨hz_43, hz_44, hcap, hc2, hW, hX0, hX1⟩ ⟨hz_45, hz_46, hcap2, hc22, hW2, hX02, hX12⟩) (lw_V q1284 q1286 qs24 q101 q1287) 3 (by decide +kernel) rfl (by decide) (by decide) (cb' := (((((9 - 0) - 0) - 0) - 0) - 4)) (sb' := ((((((5 * n + 14) - 0) - 0) - 0) - 0) - (2 * n + 7))) (by omega) (by omega) rfl (rest := []) (Nat.le_of_ble_eq_true rfl) (fun q h => hAll q h) dJ26_divideKnuth_268 (fun v_50 H_51 hpost_52 hz_53 hk_54 => ?_)
              clear hz_53
              obtain ⟨v2, o2, n2, cap2, f2, hMq, hIq, hvq, hr9⟩ := hpost_52
              have hvq := hvq.imp id (fun h => Nat.le_trans hfz_fr_49 h)
              have hcq := hMq.pos hIq (Int.natCast_pos.mpr (Nat.div_pos (Nat.le_of_lt hyx9) hy))
              rcases hr9 with ⟨hz9, rfl⟩ | ⟨hz9, r, v3, o3, n3, cap3, f3, rfl, hrH, hvH, hv32, hM9, hI9⟩
              ·
                refine V.eq (st' := [.null]) rfl ?_
                refine v_aret E hE rfl (Or.inl ⟨_, rfl⟩) dJ26_divideKnuth_271 (Or.inl rfl) ?_
                exact ⟨v2, o2, n2, cap2, f2, hMq, hIq, hcq, hvq, 0, Or.inl ⟨by omega, rfl⟩, fun h => absurd h (by omega)⟩
              ·
                have hrH := Nat.le_trans hfz_fr_49 hrH
                have hvH := Nat.le_trans hfz_fr_49 hvH
                refine V.eq (st' := [.ref r]) rfl ?_
                refine v_aret E hE rfl (Or.inl ⟨_, rfl⟩) dJ26_divideKnuth_271 (Or.inr ⟨_, rfl⟩) ?_
                exact ⟨v2, o2, n2, cap2, f2, hMq, hIq, hcq, hvq, r, Or.inr rfl, fun _ => ⟨rfl, hrH, v3, o3, n3, cap3, f3, hvH, hv32, hM9, hI9⟩⟩
            · have hyx9 : y < x := by omega
              have hx0 : 0 < x := by omega
              have hmn : m ≤ n := Nat.le_of_not_lt (fun h => by have := ints_lt hn hm h; omega)
              have ht96 : 96 ≤ t := by omega
              have htm : t / 32 ≤ n := by omega
              clear hd0 c_59 c_91 hz3
              try change Hid _ at hne_a_c
              try change Hid _ at hne_b_c
              try change Hid _ at hne_e_a
              try change Hid _ at hne_e_b
              try change Hid _ at hne_e_c
              try change Hid _ at hne_e_qv
              try change Hid _ at hne_qv_a
              try change Hid _ at hne_qv_b
              try change Hid _ at hne_qv_c
              try change Hid _ at hne_v_a
              try change Hid _ at hne_v_b
              try change Hid _ at hne_v_c
              try change Hid _ at hne_v_qv
              refine V.frame (fun hfz_fr_55 hfk_fr_55 => ?_)
              rw [hH0] at hfz_fr_55 hfk_fr_55
              rw [hA0] at hfk_fr_55
              refine v_new E in_J26 tyJ26 tyJ26_ok q1186 q1166 q101 (ci := 9) rfl (fs := [.null, vi 0, vi 0]) (fun j hj => by rcases (show j = 0 ∨ j = 1 ∨ j = 2 by omega) with rfl | rfl | rfl <;> rfl) (cb' := (((((9 - 0) - 0) - 0) - 0) - 1)) (sb' := ((((((5 * n + 14) - 0) - 0) - 0) - 0) - 3)) (by omega) (by omega) dJ26_divideKnuth_213 (fun r6 H_56 hq_59 ho_57 hg_58 => ?_)
              have hne_a_r6 : a ≠ r6 := by have := hz_43.lt; omega
              have hne_v_r6 : v ≠ r6 := by have := hz_44.lt; omega
              have hne_b_r6 : b ≠ r6 := by have := hz_45.lt; omega
              have hne_e_r6 : e ≠ r6 := by have := hz_46.lt; omega
              have hne_c_r6 : c ≠ r6 := by have := hz_47.lt; omega
              have hne_qv_r6 : qv ≠ r6 := by have := hz_48.lt; omega
              have hz_66 := hz_43.grow hg_58
              have hz_67 := hz_44.grow hg_58
              have hz_68 := hz_45.grow hg_58
              have hz_69 := hz_46.grow hg_58
              have hz_70 := hz_47.grow hg_58
              have hz_71 := hz_48.grow hg_58
              have hr6H : H0.size ≤ r6 := by omega
              refine v_dup E rfl dJ26_divideKnuth_216 ?_
              refine v_aload_n E 2 rfl dJ26_divideKnuth_217 ?_
              refine V.frame (fun hfz_fr_72 hfk_fr_72 => ?_)
              rw [hH0] at hfz_fr_72 hfk_fr_72
              rw [hA0] at hfk_fr_72
              refine v_callI E (As := [.ref a]) (b := r6) (h_i3 κ H_56 hD hne_a_r6 ho_57 ⟨hz_66, hz_67, hcap, hc2, hW, hX0, hX1⟩) q1262 q101 q1260 q1261 rfl 1 (by decide +kernel) rfl (by decide) (by decide) (cb' := ((((((9 - 0) - 0) - 0) - 0) - 1) - 1)) (sb' := (((((((5 * n + 14) - 0) - 0) - 0) - 0) - 3) - n)) (by omega) (by omega) rfl (rest := [.ref r6]) (Nat.le_of_ble_eq_true rfl) (fun q9 h => hNew q9 (by rw [show q9 = r6 from h]; omega)) dJ26_divideKnuth_218 (fun v_73 H_74 hpost_75 hz_76 hk_77 => ?_)
              clear hz_76
              obtain ⟨rfl, v6, hv6q, hv6M⟩ := hpost_75
              have hne_v6_a : v6 ≠ a := Nat.ne_of_gt (Nat.lt_of_lt_of_le hz_66.lt hv6q)
              have hne_r6_a := Ne.symm hne_a_r6
              have hne_v6_v : v6 ≠ v := Nat.ne_of_gt (Nat.lt_of_lt_of_le hz_67.lt hv6q)
              have hne_r6_v := Ne.symm hne_v_r6
              have hne_v6_b : v6 ≠ b := Nat.ne_of_gt (Nat.lt_of_lt_of_le hz_68.lt hv6q)
              have hne_r6_b := Ne.symm hne_b_r6
              have hne_v6_e : v6 ≠ e := Nat.ne_of_gt (Nat.lt_of_lt_of_le hz_69.lt hv6q)
              have hne_r6_e := Ne.symm hne_e_r6
              have hne_v6_c : v6 ≠ c := Nat.ne_of_gt (Nat.lt_of_lt_of_le hz_70.lt hv6q)
              have hne_r6_c := Ne.symm hne_c_r6
              have hne_v6_qv : v6 ≠ qv := Nat.ne_of_gt (Nat.lt_of_lt_of_le hz_71.lt hv6q)
              have hne_r6_qv := Ne.symm hne_qv_r6
              have hv6H : H0.size ≤ v6 := Nat.le_trans hfz_fr_72 hv6q
              have hz_78 := hz_66.kept (hk_77 _ hz_66.lt (fun h => hne_a_r6 h))
              have hz_79 := hz_67.kept (hk_77 _ hz_67.lt (fun h => hne_v_r6 h))
              have hz_80 := hz_68.kept (hk_77 _ hz_68.lt (fun h => hne_b_r6 h))
              have hz_81 := hz_69.kept (hk_77 _ hz_69.lt (fun h => hne_e_r6 h))
              have hz_82 := hz_70.kept (hk_77 _ hz_70.lt (fun h => hne_c_r6 h))
              have hz_83 := hz_71.kept (hk_77 _ hz_71.lt (fun h => hne_qv_r6 h))
              obtain ⟨M_84o, M_84v, M_84cap, M_84c2, M_84W, M_84X0, M_84X1⟩ := hv6M
              have hne_v6_r6 : v6 ≠ r6 := Ne.symm (hp.ka hD M_84o M_84v (by decide) (by decide))
              have hne_v6_c0 := hne_v6_c
              refine V.eq (st' := [.ref r6]) rfl ?_
              refine v_astore E dJ26_divideKnuth_221 (zlt hL rfl) (lv' := [(6, .ref r6), (5, vi (t : Int)), (4, vi d0), (0, .ref a), (1, .ref b), (2, .ref c), (3, vi z3)]) rfl ?_
              refine V.frame (fun hfz_fr_85 hfk_fr_85 => ?_)
              rw [hH0] at hfz_fr_85 hfk_fr_85
              rw [hA0] at hfk_fr_85
              refine v_new E in_J26 tyJ26 tyJ26_ok q1186 q1166 q101 (ci := 9) rfl (fs := [.null, vi 0, vi 0]) (fun j hj => by rcases (show j = 0 ∨ j = 1 ∨ j = 2 by omega) with rfl | rfl | rfl <;> rfl) (cb' := (((((((9 - 0) - 0) - 0) - 0) - 1) - 1) - 1)) (sb' := ((((((((5 * n + 14) - 0) - 0) - 0) - 0) - 3) - n) - 3)) (by omega) (by omega) dJ26_divideKnuth_223 (fun r8 H_86 hq_89 ho_87 hg_88 => ?_)
              have hne_a_r8 : a ≠ r8 := by have := hz_78.lt; omega
              have hne_v_r8 : v ≠ r8 := by have := hz_79.lt; omega
              have hne_b_r8 : b ≠ r8 := by have := hz_80.lt; omega
              have hne_e_r8 : e ≠ r8 := by have := hz_81.lt; omega
              have hne_c_r8 : c ≠ r8 := by have := hz_82.lt; omega
              have hne_qv_r8 : qv ≠ r8 := by have := hz_83.lt; omega
              have hne_r6_r8 : r6 ≠ r8 := by have := M_84o.lt; omega
              have hne_v6_r8 : v6 ≠ r8 := by have := M_84v.lt; omega
              have hz_98 := hz_78.grow hg_88
              have hz_99 := hz_79.grow hg_88
              have hz_100 := hz_80.grow hg_88
              have hz_101 := hz_81.grow hg_88
              have hz_102 := hz_82.grow hg_88
              have hz_103 := hz_83.grow hg_88
              have M_104 := M_84o.grow hg_88
              have M_105 := M_84v.grow hg_88
              have hr8H : H0.size ≤ r8 := by omega
              refine v_dup E rfl dJ26_divideKnuth_226 ?_
              refine v_aload_n E 4 rfl dJ26_divideKnuth_227 ?_
              refine V.frame (fun hfz_fr_106 hfk_fr_106 => ?_)
              rw [hH0] at hfz_fr_106 hfk_fr_106
              rw [hA0] at hfk_fr_106
              refine v_callI E (As := [.ref b]) (b := r8) (h_i3 κ H_86 hD hne_b_r8 ho_87 ⟨hz_100, hz_101, hcap2, hc22, hW2, hX02, hX12⟩) q1262 q101 q1260 q1261 rfl 1 (by decide +kernel) rfl (by decide) (by decide) (cb' := ((((((((9 - 0) - 0) - 0) - 0) - 1) - 1) - 1) - 1)) (sb' := (((((((((5 * n + 14) - 0) - 0) - 0) - 0) - 3) - n) - 3) - m)) (by omega) (by omega) rfl (rest := [.ref r8]) (Nat.le_of_ble_eq_true rfl) (fun q9 h => hNew q9 (by rw [show q9 = r8 from h]; omega)) dJ26_divideKnuth_228 (fun v_107 H_108 hpost_109 hz_110 hk_111 => ?_)
              clear hz_110
              obtain ⟨rfl, v8, hv8q, hv8M⟩ := hpost_109
              have hne_v8_a : v8 ≠ a := Nat.ne_of_gt (Nat.lt_of_lt_of_le hz_98.lt hv8q)
              have hne_r8_a := Ne.symm hne_a_r8
              have hne_v8_v : v8 ≠ v := Nat.ne_of_gt (Nat.lt_of_lt_of_le hz_99.lt hv8q)
              have hne_r8_v := Ne.symm hne_v_r8
              have hne_v8_b : v8 ≠ b := Nat.ne_of_gt (Nat.lt_of_lt_of_le hz_100.lt hv8q)
              have hne_r8_b := Ne.symm hne_b_r8
              have hne_v8_e : v8 ≠ e := Nat.ne_of_gt (Nat.lt_of_lt_of_le hz_101.lt hv8q)
              have hne_r8_e := Ne.symm hne_e_r8
              have hne_v8_c : v8 ≠ c := Nat.ne_of_gt (Nat.lt_of_lt_of_le hz_102.lt hv8q)
              have hne_r8_c := Ne.symm hne_c_r8
              have hne_v8_qv : v8 ≠ qv := Nat.ne_of_gt (Nat.lt_of_lt_of_le hz_103.lt hv8q)
              have hne_r8_qv := Ne.symm hne_qv_r8
              have hne_v8_r6 : v8 ≠ r6 := Nat.ne_of_gt (Nat.lt_of_lt_of_le M_104.lt hv8q)
              have hne_r8_r6 := Ne.symm hne_r6_r8
              have hne_v8_v6 : v8 ≠ v6 := Nat.ne_of_gt (Nat.lt_of_lt_of_le M_105.lt hv8q)
              have hne_r8_v6 := Ne.symm hne_v6_r8
              have hv8H : H0.size ≤ v8 := Nat.le_trans hfz_fr_106 hv8q
              have hz_112 := hz_98.kept (hk_111 _ hz_98.lt (fun h => hne_a_r8 h))
              have hz_113 := hz_99.kept (hk_111 _ hz_99.lt (fun h => hne_v_r8 h))
              have hz_114 := hz_100.kept (hk_111 _ hz_100.lt (fun h => hne_b_r8 h))
              have hz_115 := hz_101.kept (hk_111 _ hz_101.lt (fun h => hne_e_r8 h))
              have hz_116 := hz_102.kept (hk_111 _ hz_102.lt (fun h => hne_c_r8 h))
              have hz_117 := hz_103.kept (hk_111 _ hz_103.lt (fun h => hne_qv_r8 h))
              have hz_118 := M_104.kept (hk_111 _ M_104.lt (fun h => hne_r6_r8 h))
              have hz_119 := M_105.kept (hk_111 _ M_105.lt (fun h => hne_v6_r8 h))
              obtain ⟨M_120o, M_120v, M_120cap, M_120c2, M_120W, M_120X0, M_120X1⟩ := hv8M
              have hne_v8_r8 : v8 ≠ r8 := Ne.symm (hp.ka hD M_120o M_120v (by decide) (by decide))
              have hne_v8_c0 := hne_v8_c
              have hne_v8_c : v8 ≠ c := Ne.symm (hp.ka hD hz_116 M_120v (by decide) (by decide))
              have hne_v8_r6 : v8 ≠ r6 := Ne.symm (hp.ka hD hz_118 M_120v (by decide) (by decide))
              have hne_v6_r8 : v6 ≠ r8 := Ne.symm (hp.ka hD M_120o hz_119 (by decide) (by decide))
              have hne_qv_r8 : qv ≠ r8 := Ne.symm (hp.ka hD M_120o hz_117 (by decide) (by decide))
              refine V.eq (st' := [.ref r8]) rfl ?_
              refine v_astore_n E dJ26_divideKnuth_231 (zlt hL rfl) (lv' := [(1, .ref r8), (6, .ref r6), (5, vi (t : Int)), (4, vi d0), (0, .ref a), (2, .ref c), (3, vi z3)]) rfl ?_
              refine v_aload E 1 rfl dJ26_divideKnuth_232 ?_
              refine v_iload E 2 rfl dJ26_divideKnuth_234 ?_
              refine V.topi (x' := ((32 * (t / 32) + t % 32 : Nat) : Int)) (congrArg iZ (by omega)) ?_
              refine v_callV E (As := [vi ((32 * (t / 32) + t % 32 : Nat) : Int)]) (b := r6) (ci := 9) (C := RJ26) (T := TJ26) (N := 3) hz_118 rfl (h_rsh κ H_108 (u := t / 32) (b := t % 32) hD (by omega) (Nat.lt_of_le_of_lt (Nat.div_le_div_right hti) (zeros_lt2 hx0 hn hi)) ⟨hz_118, hz_119, M_84cap, M_84c2, M_84W, M_84X0, M_84X1⟩) (lw_V q1202 q1203 q1204 q101 q1205) 1 (by decide +kernel) rfl (by decide) (by decide) (cb' := (((((((((9 - 0) - 0) - 0) - 0) - 1) - 1) - 1) - 1) - 0)) (sb' := ((((((((((5 * n + 14) - 0) - 0) - 0) - 0) - 3) - n) - 3) - m) - 0)) (by omega) (by omega) rfl (rest := []) (Nat.le_of_ble_eq_true rfl) (fun q9 h => h.elim (fun h => hNew q9 (by rw [h]; exact hr6H)) (fun h => hNew q9 (by rw [h]; exact hv6H))) dJ26_divideKnuth_236 (fun v_121 H_122 hpost_123 hz_124 hk_125 => ?_)
              clear hz_124
              obtain ⟨rfl, n_126, f_127, hM_128, hle_129, hI_130⟩ := hpost_123
              rw [show 32 * (t / 32) + t % 32 = t by omega, nat_div] at hM_128 hI_130
              have hz_131 := hz_116.kept (hk_125 _ hz_116.lt (fun h => h.elim (fun h => hne_c_r6 h) (fun h => (Ne.symm hne_v6_c) h)))
              have hz_132 := hz_117.kept (hk_125 _ hz_117.lt (fun h => h.elim (fun h => hne_qv_r6 h) (fun h => (Ne.symm hne_v6_qv) h)))
              have hz_133 := M_120o.kept (hk_125 _ M_120o.lt (fun h => h.elim (fun h => hne_r8_r6 h) (fun h => hne_r8_v6 h)))
              have hz_134 := M_120v.kept (hk_125 _ M_120v.lt (fun h => h.elim (fun h => hne_v8_r6 h) (fun h => hne_v8_v6 h)))
              obtain ⟨M_135o, M_135v, M_135cap, M_135c2, M_135W, M_135X0, M_135X1⟩ := hM_128
              refine V.eq (st' := []) rfl ?_
              refine v_aload_n E 0 rfl dJ26_divideKnuth_239 ?_
              refine v_iload E 2 rfl dJ26_divideKnuth_240 ?_
              refine V.topi (x' := ((32 * (t / 32) + t % 32 : Nat) : Int)) (congrArg iZ (by omega)) ?_
              refine v_callV E (As := [vi ((32 * (t / 32) + t % 32 : Nat) : Int)]) (b := r8) (ci := 9) (C := RJ26) (T := TJ26) (N := 3) hz_133 rfl (h_rsh κ H_122 (u := t / 32) (b := t % 32) hD (by omega) (Nat.lt_of_le_of_lt (Nat.div_le_div_right htj) (zeros_lt2 hy hm hj)) ⟨hz_133, hz_134, M_120cap, M_120c2, M_120W, M_120X0, M_120X1⟩) (lw_V q1202 q1203 q1204 q101 q1205) 1 (by decide +kernel) rfl (by decide) (by decide) (cb' := ((((((((((9 - 0) - 0) - 0) - 0) - 1) - 1) - 1) - 1) - 0) - 0)) (sb' := (((((((((((5 * n + 14) - 0) - 0) - 0) - 0) - 3) - n) - 3) - m) - 0) - 0)) (by omega) (by omega) rfl (rest := []) (Nat.le_of_ble_eq_true rfl) (fun q9 h => h.elim (fun h => hNew q9 (by rw [h]; exact hr8H)) (fun h => hNew q9 (by rw [h]; exact hv8H))) dJ26_divideKnuth_242 (fun v_136 H_137 hpost_138 hz_139 hk_140 => ?_)
              clear hz_139
              obtain ⟨rfl, n_141, f_142, hM_143, hle_144, hI_145⟩ := hpost_138
              rw [show 32 * (t / 32) + t % 32 = t by omega, nat_div] at hM_143 hI_145
              have hz_146 := hz_131.kept (hk_140 _ hz_131.lt (fun h => h.elim (fun h => hne_c_r8 h) (fun h => (Ne.symm hne_v8_c) h)))
              have hz_147 := hz_132.kept (hk_140 _ hz_132.lt (fun h => h.elim (fun h => hne_qv_r8 h) (fun h => (Ne.symm hne_v8_qv) h)))
              have hz_148 := M_135o.kept (hk_140 _ M_135o.lt (fun h => h.elim (fun h => hne_r6_r8 h) (fun h => (Ne.symm hne_v8_r6) h)))
              have hz_149 := M_135v.kept (hk_140 _ M_135v.lt (fun h => h.elim (fun h => hne_v6_r8 h) (fun h => (Ne.symm hne_v8_v6) h)))
              obtain ⟨M_150o, M_150v, M_150cap, M_150c2, M_150W, M_150X0, M_150X1⟩ := hM_143
              refine V.eq (st' := []) rfl ?_
              refine v_aload E 1 rfl dJ26_divideKnuth_245 ?_
              refine v_aload_n E 0 rfl dJ26_divideKnuth_247 ?_
              refine v_aload_n E 5 rfl dJ26_divideKnuth_248 ?_
              refine V.frame (fun hfz_fr_151 hfk_fr_151 => ?_)
              rw [hH0] at hfz_fr_151 hfk_fr_151
              rw [hA0] at hfk_fr_151
              have hds := dk_sh hi hj hti htj
              have hty : 0 < y / 2 ^ t := zeros_le hy hj htj
              refine v_callV E (As := [.ref r8, .ref c]) (b := r6) (ci := 9) (C := RJ26) (T := TJ26) (N := 3) hz_148 rfl (h_dk2 κ H_137 (c := c) (oq := 0) (nq := 0) (Q := 0) hD hty (hI_130 hn) (hI_145 hm) hne_r6_c hne_r8_c hne_v6_qv hne_v8_qv hqc ⟨hz_148, hz_149, M_135cap, M_135c2, M_135W, M_135X0, M_135X1⟩ ⟨M_150o, M_150v, M_150cap, M_150c2, M_150W, M_150X0, M_150X1⟩ ⟨hz_146, hz_147, by omega, hc23, fun k hk => absurd hk (Nat.not_lt_zero k), Int.le_refl 0, by decide⟩ (fun i2 j2 k1 k2 => by have e1 := zeros_one hi hti k1; have e2 := zeros_one hj htj k2; exact dk_min ht9 e1 e2)) (lw_V q1280 q1281 q1282 q101 q1283) 2 (by decide +kernel) rfl (by decide) (by decide) (cb' := 1) (sb' := (n + 1)) (by omega) (by omega) rfl (rest := []) (Nat.le_of_ble_eq_true rfl) (fun q h => hAll q h) dJ26_divideKnuth_249 (fun v_152 H_153 hpost_154 hz_155 hk_156 => ?_)
              clear hz_155
              obtain ⟨v2, o2, n2, cap2, f2, hMq, hIq, hcq, hvq, r, -, hR9⟩ := hpost_154
              obtain ⟨rfl, hrH, v3, o3, n3, cap3, f3, hvH, hv32, hM9, hI9⟩ := hR9
              rw [hds.1] at hMq hIq
              have hvq := hvq.imp id (fun h => Nat.le_trans hfz_fr_151 h)
              have hrH0 := Nat.le_trans hfz_fr_151 hrH
              have hvH0 := Nat.le_trans hfz_fr_151 hvH
              have hne_r_c : r ≠ c := Nat.ne_of_gt (Nat.lt_of_lt_of_le hz_146.lt hrH)
              refine V.eq (st' := [.ref r]) rfl ?_
              refine v_astore E dJ26_divideKnuth_252 (zlt hL rfl) (lv' := [(7, .ref r), (1, .ref r8), (6, .ref r6), (5, vi (t : Int)), (4, vi d0), (0, .ref a), (2, .ref c), (3, vi z3)]) rfl ?_
              refine v_aload E 0 rfl dJ26_divideKnuth_254 ?_
              refine v_iload E 3 rfl dJ26_divideKnuth_256 ?_
              refine V.topi (x' := ((32 * (t / 32) + t % 32 : Nat) : Int)) (congrArg iZ (by omega)) ?_
              refine V.frame (fun hfz_fr_157 hfk_fr_157 => ?_)
              rw [hH0] at hfz_fr_157 hfk_fr_157
              rw [hA0] at hfk_fr_157
              have hfz9 := hfz_fr_157
              have hle := dk_len hn hI9 hds.2 htm
              refine v_callV E (As := [vi ((32 * (t / 32) + t % 32 : Nat) : Int)]) (b := r) (ci := 9) (C := RJ26) (T := TJ26) (N := 3) hM9.1 rfl (h_lshA κ H_153 (u := t / 32) (b := t % 32) hD (by omega) (by omega) (by omega) hI9 (by rw [show 32 * (t / 32) + t % 32 = t by omega]; have e5 : (((x / 2 ^ t % (y / 2 ^ t) : Nat) : Int)) * 2 ^ t = ((x % y : Nat) : Int) := (by rw [← hds.2, Int.natCast_mul, Int.natCast_pow]; rfl); rw [e5]; exact sB_nat hn (Nat.mod_le x y)) hM9) (lw_V q1224 q1225 q1226 q101 q1227) 1 (by decide +kernel) rfl (by decide) (by decide) (cb' := (1 - 1)) (sb' := ((n + 1) - (n3 + t / 32 + 1))) (by omega) (by omega) rfl (rest := []) (Nat.le_of_ble_eq_true rfl) (fun q9 h => hNew q9 (h.elim (fun h => by rw [h]; exact hrH0) (fun h => by rw [h]; exact hvH0))) dJ26_divideKnuth_258 (fun v_158 H_159 hpost_160 hz_161 hk_162 => ?_)
              clear hz_161
              obtain ⟨rfl, v5, o5, n5, cap5, f5, hM5, hI5, hv5⟩ := hpost_160
              rw [show 32 * (t / 32) + t % 32 = t by omega] at hM5 hI5
              have e5 : (((x / 2 ^ t % (y / 2 ^ t) : Nat) : Int)) * 2 ^ t = ((x % y : Nat) : Int) := by rw [← hds.2, Int.natCast_mul, Int.natCast_pow]; rfl
              rw [e5] at hM5 hI5
              have hMq5 := hMq.kept (hk_162 _ hMq.lt.1 (fun h => h.elim (fun h => hne_r_c h.symm) (fun h => hp.ka hD hMq.1 hM9.2.1 (by decide) (by decide) h))) (hk_162 _ hMq.lt.2 (fun h => h.elim (fun h => hp.ka hD hM9.1 hMq.2.1 (by decide) (by decide) h.symm) (fun h => hv32 h.symm)))
              refine V.eq (st' := []) rfl ?_
              refine v_aload E 0 rfl dJ26_divideKnuth_261 ?_
              refine v_aret E hE rfl (Or.inl ⟨_, rfl⟩) dJ26_divideKnuth_263 (Or.inr ⟨_, rfl⟩) ?_
              exact ⟨v2, o2, n2, cap2, f2, hMq5, hIq, hcq, hvq, r, Or.inr rfl, fun _ => ⟨rfl, hrH0, v5, o5, n5, cap5, f5, hv5.elim (fun h => by rw [h]; exact hvH0) (fun h => Nat.le_trans hfz9 h), hv5.elim (fun h => by rw [h]; exact hv32) (fun h => Nat.ne_of_gt (Nat.lt_of_lt_of_le hMq.lt.2 h)), hM5, hI5⟩⟩
        · refine v_aload_n E 1 rfl dJ26_divideKnuth_139 ?_
          refine v_aload_n E 2 rfl dJ26_divideKnuth_140 ?_
          refine v_getf E in_J26 hz_19 (ci := 9) rfl 0 (by decide) q1172 rfl (v := .ref e) rfl dJ26_divideKnuth_141 ?_
          refine v_aload_n E 2 rfl dJ26_divideKnuth_144 ?_
          refine v_getf E in_J26 hz_19 (ci := 9) rfl 2 (by decide) q1174 rfl (v := vi (p : Int)) rfl dJ26_divideKnuth_145 ?_
          refine v_iald E dJ26_divideKnuth_148 hz_20 p rfl (by omega) (by omega) ?_
          have hy32 := dk_y (g := g) (p := p) (by omega) hm hW2
          refine V.topi (x' := (y : Int)) (congrArg iZ hy32.1) ?_
          refine v_aload_n E 3 rfl dJ26_divideKnuth_149 ?_
          refine V.frame (fun hfz_fr_163 hfk_fr_163 => ?_)
          rw [hH0] at hfz_fr_163 hfk_fr_163
          rw [hA0] at hfk_fr_163
          refine v_callV E (As := [vi (y : Int), .ref c]) (b := a) (ci := 9) (C := RJ26) (T := TJ26) (N := 3) hz_17 rfl (h_dow κ H_13 (d := y) hD ⟨hy, hy32.2⟩ (by omega) hn hne_a_c hne_v_qv ⟨hqc, hc23⟩ hoc9 hq9 ⟨hz_17, hz_18, hcap, hc2, hW, hX0, hX1⟩) (lw_V q1268 q1269 q1270 q101 q1271) 2 (by decide +kernel) rfl (by decide) (by decide) (cb' := (((9 - 0) - 0) - 1)) (sb' := ((((5 * n + 14) - 0) - 0) - n)) (by omega) (by omega) rfl (rest := []) (Nat.le_of_ble_eq_true rfl) (fun q h => hAll q h) dJ26_divideKnuth_150 (fun v_164 H_165 hpost_166 hz_167 hk_168 => ?_)
          clear hz_167
          obtain ⟨rfl, v2, o2, n2, cap2, f2, hMq, hIq, hvq⟩ := hpost_166
          have hvq := hvq.imp id (fun h => Nat.le_trans hfz_fr_163 h)
          have hrm := Nat.mod_lt x hy
          refine V.eq (st' := [vi ((x % y : Nat) : Int)]) rfl ?_
          refine v_istore E dJ26_divideKnuth_153 (zlt hL rfl) (lv' := [(5, vi ((x % y : Nat) : Int)), (4, vi d0), (0, .ref a), (1, .ref b), (2, .ref c), (3, vi z3)]) rfl ?_
          refine v_iload_n E 5 rfl dJ26_divideKnuth_155 ?_
          refine v_if_eq E (tgt := 182) dJ26_divideKnuth_156 (by decide) hrz (fun c_156 => ?_) (fun c_156 => ?_)
          · refine v_null E dJ26_divideKnuth_182 ?_
            refine v_aret E hE rfl (Or.inl ⟨_, rfl⟩) dJ26_divideKnuth_183 (Or.inl rfl) ?_
            have hcq := hMq.pos hIq (by have := Nat.div_pos (show y ≤ x by omega) hy; omega)
            exact ⟨v2, o2, n2, cap2, f2, hMq, hIq, hcq, hvq, 0, Or.inl ⟨by omega, rfl⟩, fun h => absurd h (by omega)⟩
          · refine v_iload E 0 rfl dJ26_divideKnuth_159 ?_
            refine V.topi (x' := (((x % y : Nat) : Int) + 2147483648) % 4294967296 - 2147483648) (iZ_sg _) ?_
            refine v_if_ne E (tgt := 172) dJ26_divideKnuth_161 (by decide) ⟨by omega, by omega⟩ (fun c_161 => ?_) (fun c_161 => ?_)
            · refine V.frame (fun hfz_fr_169 hfk_fr_169 => ?_)
              rw [hH0] at hfz_fr_169 hfk_fr_169
              rw [hA0] at hfk_fr_169
              refine v_new E in_J26 tyJ26 tyJ26_ok q1186 q1166 q101 (ci := 9) rfl (fs := [.null, vi 0, vi 0]) (fun j hj => by rcases (show j = 0 ∨ j = 1 ∨ j = 2 by omega) with rfl | rfl | rfl <;> rfl) (cb' := ((((9 - 0) - 0) - 1) - 1)) (sb' := (((((5 * n + 14) - 0) - 0) - n) - 3)) (by omega) (by omega) dJ26_divideKnuth_172 (fun q_170 H_171 hq_174 ho_172 hg_173 => ?_)
              have hMq8 := hMq.kept (hg_173.2 _ hMq.lt.1) (hg_173.2 _ hMq.lt.2)
              refine v_dup E rfl dJ26_divideKnuth_175 ?_
              refine v_iload E 0 rfl dJ26_divideKnuth_176 ?_
              refine V.frame (fun hfz_fr_175 hfk_fr_175 => ?_)
              rw [hH0] at hfz_fr_175 hfk_fr_175
              rw [hA0] at hfk_fr_175
              refine v_callI E (As := [vi ((x % y : Nat) : Int)]) (b := q_170) (h_i4 κ H_171 (d := x % y) (Nat.lt_trans (Nat.mod_lt x hy) hy32.2) ho_172) q1278 q101 q1276 q1277 rfl 1 (by decide +kernel) rfl (by decide) (by decide) (cb' := (((((9 - 0) - 0) - 1) - 1) - 1)) (sb' := ((((((5 * n + 14) - 0) - 0) - n) - 3) - 1)) (by omega) (by omega) rfl (rest := [.ref q_170]) (Nat.le_of_ble_eq_true rfl) (fun q9 h => hNew q9 (by rw [show q9 = q_170 from h]; omega)) dJ26_divideKnuth_178 (fun v_176 H_177 hpost_178 hz_179 hk_180 => ?_)
              clear hz_179
              obtain ⟨rfl, vr, fr9, hvr, hMr⟩ := hpost_178
              have hMq9 := hMq8.kept (hk_180 _ hMq8.lt.1 (fun h => Nat.ne_of_lt (Nat.lt_of_lt_of_le hMq.lt.1 (Nat.le_of_eq hq_174.symm)) h)) (hk_180 _ hMq8.lt.2 (fun h => Nat.ne_of_lt (Nat.lt_of_lt_of_le hMq.lt.2 (Nat.le_of_eq hq_174.symm)) h))
              refine V.eq (st' := [.ref q_170]) rfl ?_
              refine v_aret E hE rfl (Or.inl ⟨_, rfl⟩) dJ26_divideKnuth_181 (Or.inr ⟨_, rfl⟩) ?_
              
              have hcq := hMq9.pos hIq (by have := Nat.div_pos (show y ≤ x by omega) hy; omega)
              exact ⟨v2, o2, n2, cap2, f2, hMq9, hIq, hcq, hvq, q_170, Or.inr rfl, fun _ => ⟨rfl, (by omega), vr, 0, 1, 1, _, Nat.le_trans hfz_fr_175 hvr, Nat.ne_of_gt (Nat.lt_of_lt_of_le hMq8.lt.2 hvr), hMr, (ints_1 (by omega) (by omega))⟩⟩
            · refine V.frame (fun hfz_fr_181 hfk_fr_181 => ?_)
              rw [hH0] at hfz_fr_181 hfk_fr_181
              rw [hA0] at hfk_fr_181
              refine v_new E in_J26 tyJ26 tyJ26_ok q1186 q1166 q101 (ci := 9) rfl (fs := [.null, vi 0, vi 0]) (fun j hj => by rcases (show j = 0 ∨ j = 1 ∨ j = 2 by omega) with rfl | rfl | rfl <;> rfl) (cb' := ((((9 - 0) - 0) - 1) - 1)) (sb' := (((((5 * n + 14) - 0) - 0) - n) - 3)) (by omega) (by omega) dJ26_divideKnuth_164 (fun q_182 H_183 hq_186 ho_184 hg_185 => ?_)
              have hMq8 := hMq.kept (hg_185.2 _ hMq.lt.1) (hg_185.2 _ hMq.lt.2)
              refine v_dup E rfl dJ26_divideKnuth_167 ?_
              refine V.frame (fun hfz_fr_187 hfk_fr_187 => ?_)
              rw [hH0] at hfz_fr_187 hfk_fr_187
              rw [hA0] at hfk_fr_187
              refine v_callI E (As := []) (b := q_182) (h_i2 κ H_183 ho_184) q1189 q101 q1187 q1188 rfl 0 (by decide +kernel) rfl (by decide) (by decide) (cb' := (((((9 - 0) - 0) - 1) - 1) - 1)) (sb' := ((((((5 * n + 14) - 0) - 0) - n) - 3) - 1)) (by omega) (by omega) rfl (rest := [.ref q_182]) (Nat.le_of_ble_eq_true rfl) (fun q9 h => hNew q9 (by rw [show q9 = q_182 from h]; omega)) dJ26_divideKnuth_168 (fun v_188 H_189 hpost_190 hz_191 hk_192 => ?_)
              clear hz_191
              obtain ⟨rfl, vr, hvr, hMr⟩ := hpost_190
              have hMq9 := hMq8.kept (hk_192 _ hMq8.lt.1 (fun h => Nat.ne_of_lt (Nat.lt_of_lt_of_le hMq.lt.1 (Nat.le_of_eq hq_186.symm)) h)) (hk_192 _ hMq8.lt.2 (fun h => Nat.ne_of_lt (Nat.lt_of_lt_of_le hMq.lt.2 (Nat.le_of_eq hq_186.symm)) h))
              refine V.eq (st' := [.ref q_182]) rfl ?_
              refine v_aret E hE rfl (Or.inl ⟨_, rfl⟩) dJ26_divideKnuth_171 (Or.inr ⟨_, rfl⟩) ?_
              
              have hcq := hMq9.pos hIq (by have := Nat.div_pos (show y ≤ x by omega) hy; omega)
              have er : x % y = 0 := by omega
              exact ⟨v2, o2, n2, cap2, f2, hMq9, hIq, hcq, hvq, q_182, Or.inr rfl, fun _ => ⟨rfl, (by omega), vr, 0, 0, 1, _, Nat.le_trans hfz_fr_187 hvr, Nat.ne_of_gt (Nat.lt_of_lt_of_le hMq8.lt.2 hvr), (by rw [er]; exact hMr), (by rw [er]; exact ints_0)⟩⟩
      · refine v_aload_n E 3 rfl dJ26_divideKnuth_94 ?_
        refine v_getf E in_J26 hz_10 (ci := 9) rfl 0 (by decide) q1172 rfl (v := .ref qv) rfl dJ26_divideKnuth_95 ?_
        refine v_iconst E dJ26_divideKnuth_98 ?_
        refine v_aload_n E 3 rfl dJ26_divideKnuth_99 ?_
        refine v_iconst E dJ26_divideKnuth_100 ?_
        refine v_dup_x1 E rfl rfl dJ26_divideKnuth_101 ?_
        refine v_putf E in_J26 tyJ26 tyJ26_ok nmJ26 hz_10 (ci := 9) rfl 1 (Nat.le_of_ble_eq_true rfl) q1173 rfl rfl rfl rfl (Nat.le_of_ble_eq_true rfl) (hAll _ (Or.inl rfl)) dJ26_divideKnuth_102 (fun H_195 hz_193 hs_194 => ?_)
        have hz_196 := hz_6.same hs_194 hne_a_c
        have hz_197 := hz_7.same hs_194 hne_v_c
        have hz_198 := hz_8.same hs_194 hne_b_c
        have hz_199 := hz_9.same hs_194 hne_e_c
        have hz_200 := hz_11.same hs_194 hne_qv_c
        have hz_193 : hp κ H_195 c (.inr (9, [.ref qv, vi 1, vi (oq : Int)])) := hz_193
        refine v_iast E dJ26_divideKnuth_105 hz_200 0 rfl (by omega) (by omega) (hAll _ (Or.inr rfl)) (fun H_203 hz_201 hs_202 => ?_)
        have hz_204 := hz_196.same hs_202 (Ne.symm hne_qv_a)
        have hz_205 := hz_197.same hs_202 hne_v_qv
        have hz_206 := hz_198.same hs_202 (Ne.symm hne_qv_b)
        have hz_207 := hz_199.same hs_202 hne_e_qv
        have hz_208 := hz_193.same hs_202 (Ne.symm hne_qv_c)
        refine v_aload_n E 3 rfl dJ26_divideKnuth_106 ?_
        refine v_iconst E dJ26_divideKnuth_107 ?_
        refine v_putf E in_J26 tyJ26 tyJ26_ok nmJ26 hz_208 (ci := 9) rfl 2 (Nat.le_of_ble_eq_true rfl) q1174 rfl rfl rfl rfl (Nat.le_of_ble_eq_true rfl) (hAll _ (Or.inl rfl)) dJ26_divideKnuth_108 (fun H_211 hz_209 hs_210 => ?_)
        have hz_212 := hz_204.same hs_210 hne_a_c
        have hz_213 := hz_205.same hs_210 hne_v_c
        have hz_214 := hz_206.same hs_210 hne_b_c
        have hz_215 := hz_207.same hs_210 hne_e_c
        have hz_216 := hz_201.same hs_210 hne_qv_c
        have hz_209 : hp κ H_211 c (.inr (9, [.ref qv, vi 1, vi 0])) := hz_209
        refine v_iload_n E 4 rfl dJ26_divideKnuth_111 ?_
        refine v_if_eq E (tgt := 125) dJ26_divideKnuth_112 (by decide) hrz (fun c_112 => ?_) (fun c_112 => ?_)
        · refine v_null E dJ26_divideKnuth_125 ?_
          refine v_aret E hE rfl (Or.inl ⟨_, rfl⟩) dJ26_divideKnuth_126 (Or.inl rfl) ?_
          have hxy : x = y := by omega
          subst hxy
          rw [Nat.div_self hy, Nat.mod_self]
          have h1 := dk_one hz_209 hz_216 hqc hc23
          exact ⟨qv, 0, 1, qc, _, h1.1, h1.2, hqc, Or.inl rfl, 0, Or.inl ⟨by omega, rfl⟩, fun h => absurd h (by omega)⟩
        · refine V.frame (fun hfz_fr_217 hfk_fr_217 => ?_)
          rw [hH0] at hfz_fr_217 hfk_fr_217
          rw [hA0] at hfk_fr_217
          refine v_new E in_J26 tyJ26 tyJ26_ok q1186 q1166 q101 (ci := 9) rfl (fs := [.null, vi 0, vi 0]) (fun j hj => by rcases (show j = 0 ∨ j = 1 ∨ j = 2 by omega) with rfl | rfl | rfl <;> rfl) (cb' := ((9 - 0) - 1)) (sb' := (((5 * n + 14) - 0) - 3)) (by omega) (by omega) dJ26_divideKnuth_115 (fun q_218 H_219 hq_222 ho_220 hg_221 => ?_)
          have hne_a_q_218 : a ≠ q_218 := by have := hz_212.lt; omega
          have hne_v_q_218 : v ≠ q_218 := by have := hz_213.lt; omega
          have hne_b_q_218 : b ≠ q_218 := by have := hz_214.lt; omega
          have hne_e_q_218 : e ≠ q_218 := by have := hz_215.lt; omega
          have hne_c_q_218 : c ≠ q_218 := by have := hz_209.lt; omega
          have hne_qv_q_218 : qv ≠ q_218 := by have := hz_216.lt; omega
          have hz_229 := hz_212.grow hg_221
          have hz_230 := hz_213.grow hg_221
          have hz_231 := hz_214.grow hg_221
          have hz_232 := hz_215.grow hg_221
          have hz_233 := hz_209.grow hg_221
          have hz_234 := hz_216.grow hg_221
          refine v_dup E rfl dJ26_divideKnuth_118 ?_
          refine V.frame (fun hfz_fr_235 hfk_fr_235 => ?_)
          rw [hH0] at hfz_fr_235 hfk_fr_235
          rw [hA0] at hfk_fr_235
          refine v_callI E (As := []) (b := q_218) (h_i2 κ H_219 ho_220) q1189 q101 q1187 q1188 rfl 0 (by decide +kernel) rfl (by decide) (by decide) (cb' := (((9 - 0) - 1) - 1)) (sb' := ((((5 * n + 14) - 0) - 3) - 1)) (by omega) (by omega) rfl (rest := [.ref q_218]) (Nat.le_of_ble_eq_true rfl) (fun q9 h => hNew q9 (by rw [show q9 = q_218 from h]; omega)) dJ26_divideKnuth_119 (fun v_236 H_237 hpost_238 hz_239 hk_240 => ?_)
          clear hz_239
          obtain ⟨rfl, vr, hvr, hMr⟩ := hpost_238
          have hz_241 := hz_229.kept (hk_240 _ hz_229.lt (fun h => hne_a_q_218 h))
          have hz_242 := hz_230.kept (hk_240 _ hz_230.lt (fun h => hne_v_q_218 h))
          have hz_243 := hz_231.kept (hk_240 _ hz_231.lt (fun h => hne_b_q_218 h))
          have hz_244 := hz_232.kept (hk_240 _ hz_232.lt (fun h => hne_e_q_218 h))
          have hz_245 := hz_233.kept (hk_240 _ hz_233.lt (fun h => hne_c_q_218 h))
          have hz_246 := hz_234.kept (hk_240 _ hz_234.lt (fun h => hne_qv_q_218 h))
          refine V.eq (st' := [.ref q_218]) rfl ?_
          refine v_goto E (tgt := 126) dJ26_divideKnuth_122 (by decide) ?_
          refine v_aret E hE rfl (Or.inl ⟨_, rfl⟩) dJ26_divideKnuth_126 (Or.inr ⟨_, rfl⟩) ?_
          have hxy : x = y := by omega
          subst hxy
          rw [Nat.div_self hy, Nat.mod_self]
          have h1 := dk_one hz_245 hz_246 hqc hc23
          exact ⟨qv, 0, 1, qc, _, h1.1, h1.2, hqc, Or.inl rfl, q_218, Or.inr rfl, fun _ => ⟨rfl, (by omega), vr, 0, 0, 1, _, Nat.le_trans hfz_fr_235 hvr, Nat.ne_of_gt (Nat.lt_of_lt_of_le hz_234.lt hvr), hMr, ints_0⟩⟩
    · refine v_aload_n E 3 rfl dJ26_divideKnuth_62 ?_
      refine v_aload_n E 3 rfl dJ26_divideKnuth_63 ?_
      refine v_iconst E dJ26_divideKnuth_64 ?_
      refine v_dup_x1 E rfl rfl dJ26_divideKnuth_65 ?_
      refine v_putf E in_J26 tyJ26 tyJ26_ok nmJ26 hz_10 (ci := 9) rfl 2 (Nat.le_of_ble_eq_true rfl) q1174 rfl rfl rfl rfl (Nat.le_of_ble_eq_true rfl) (hAll _ (Or.inl rfl)) dJ26_divideKnuth_66 (fun H_249 hz_247 hs_248 => ?_)
      have hz_250 := hz_6.same hs_248 hne_a_c
      have hz_251 := hz_7.same hs_248 hne_v_c
      have hz_252 := hz_8.same hs_248 hne_b_c
      have hz_253 := hz_9.same hs_248 hne_e_c
      have hz_254 := hz_11.same hs_248 hne_qv_c
      have hz_247 : hp κ H_249 c (.inr (9, [.ref qv, vi (nq : Int), vi 0])) := hz_247
      refine v_putf E in_J26 tyJ26 tyJ26_ok nmJ26 hz_247 (ci := 9) rfl 1 (Nat.le_of_ble_eq_true rfl) q1173 rfl rfl rfl rfl (Nat.le_of_ble_eq_true rfl) (hAll _ (Or.inl rfl)) dJ26_divideKnuth_69 (fun H_257 hz_255 hs_256 => ?_)
      have hz_258 := hz_250.same hs_256 hne_a_c
      have hz_259 := hz_251.same hs_256 hne_v_c
      have hz_260 := hz_252.same hs_256 hne_b_c
      have hz_261 := hz_253.same hs_256 hne_e_c
      have hz_262 := hz_254.same hs_256 hne_qv_c
      have hz_255 : hp κ H_257 c (.inr (9, [.ref qv, vi 0, vi 0])) := hz_255
      refine v_iload_n E 4 rfl dJ26_divideKnuth_72 ?_
      refine v_if_eq E (tgt := 87) dJ26_divideKnuth_73 (by decide) hrz (fun c_73 => ?_) (fun c_73 => ?_)
      · refine v_null E dJ26_divideKnuth_87 ?_
        refine v_aret E hE rfl (Or.inl ⟨_, rfl⟩) dJ26_divideKnuth_88 (Or.inl rfl) ?_
        have hxy : x < y := by omega
        rw [Nat.div_eq_of_lt hxy, Nat.mod_eq_of_lt hxy]
        exact ⟨qv, 0, 0, qc, fq, ⟨hz_255, hz_262, by omega, hc23, fun k hk => absurd hk (Nat.not_lt_zero k), Int.le_refl 0, by decide⟩, ints_0, hqc, Or.inl rfl, 0, Or.inl ⟨by omega, rfl⟩, fun h => absurd h (by omega)⟩
      · refine V.frame (fun hfz_fr_263 hfk_fr_263 => ?_)
        rw [hH0] at hfz_fr_263 hfk_fr_263
        rw [hA0] at hfk_fr_263
        refine v_new E in_J26 tyJ26 tyJ26_ok q1186 q1166 q101 (ci := 9) rfl (fs := [.null, vi 0, vi 0]) (fun j hj => by rcases (show j = 0 ∨ j = 1 ∨ j = 2 by omega) with rfl | rfl | rfl <;> rfl) (cb' := ((9 - 0) - 1)) (sb' := (((5 * n + 14) - 0) - 3)) (by omega) (by omega) dJ26_divideKnuth_76 (fun q_264 H_265 hq_268 ho_266 hg_267 => ?_)
        have hne_a_q_264 : a ≠ q_264 := by have := hz_258.lt; omega
        have hne_v_q_264 : v ≠ q_264 := by have := hz_259.lt; omega
        have hne_b_q_264 : b ≠ q_264 := by have := hz_260.lt; omega
        have hne_e_q_264 : e ≠ q_264 := by have := hz_261.lt; omega
        have hne_c_q_264 : c ≠ q_264 := by have := hz_255.lt; omega
        have hne_qv_q_264 : qv ≠ q_264 := by have := hz_262.lt; omega
        have hz_275 := hz_258.grow hg_267
        have hz_276 := hz_259.grow hg_267
        have hz_277 := hz_260.grow hg_267
        have hz_278 := hz_261.grow hg_267
        have hz_279 := hz_255.grow hg_267
        have hz_280 := hz_262.grow hg_267
        refine v_dup E rfl dJ26_divideKnuth_79 ?_
        refine v_aload_n E 1 rfl dJ26_divideKnuth_80 ?_
        refine V.frame (fun hfz_fr_281 hfk_fr_281 => ?_)
        rw [hH0] at hfz_fr_281 hfk_fr_281
        rw [hA0] at hfk_fr_281
        refine v_callI E (As := [.ref a]) (b := q_264) (h_i3 κ H_265 hD hne_a_q_264 ho_266 ⟨hz_275, hz_276, hcap, hc2, hW, hX0, hX1⟩) q1262 q101 q1260 q1261 rfl 1 (by decide +kernel) rfl (by decide) (by decide) (cb' := (((9 - 0) - 1) - 1)) (sb' := ((((5 * n + 14) - 0) - 3) - n)) (by omega) (by omega) rfl (rest := [.ref q_264]) (Nat.le_of_ble_eq_true rfl) (fun q9 h => hNew q9 (by rw [show q9 = q_264 from h]; omega)) dJ26_divideKnuth_81 (fun v_282 H_283 hpost_284 hz_285 hk_286 => ?_)
        clear hz_285
        obtain ⟨rfl, vr, hvr, hMr⟩ := hpost_284
        have hz_287 := hz_275.kept (hk_286 _ hz_275.lt (fun h => hne_a_q_264 h))
        have hz_288 := hz_276.kept (hk_286 _ hz_276.lt (fun h => hne_v_q_264 h))
        have hz_289 := hz_277.kept (hk_286 _ hz_277.lt (fun h => hne_b_q_264 h))
        have hz_290 := hz_278.kept (hk_286 _ hz_278.lt (fun h => hne_e_q_264 h))
        have hz_291 := hz_279.kept (hk_286 _ hz_279.lt (fun h => hne_c_q_264 h))
        have hz_292 := hz_280.kept (hk_286 _ hz_280.lt (fun h => hne_qv_q_264 h))
        refine V.eq (st' := [.ref q_264]) rfl ?_
        refine v_goto E (tgt := 88) dJ26_divideKnuth_84 (by decide) ?_
        refine v_aret E hE rfl (Or.inl ⟨_, rfl⟩) dJ26_divideKnuth_88 (Or.inr ⟨_, rfl⟩) ?_
        have hxy : x < y := by omega
        rw [Nat.div_eq_of_lt hxy, Nat.mod_eq_of_lt hxy]
        exact ⟨qv, 0, 0, qc, fq, ⟨hz_291, hz_292, by omega, hc23, fun k hk => absurd hk (Nat.not_lt_zero k), Int.le_refl 0, by decide⟩, ints_0, hqc, Or.inl rfl, q_264, Or.inr rfl, fun _ => ⟨rfl, (by omega), vr, 0, n, n, _, Nat.le_trans hfz_fr_281 hvr, Nat.ne_of_gt (Nat.lt_of_lt_of_le hz_280.lt hvr), hMr, hn⟩⟩
  · refine v_aload_n E 2 rfl dJ26_divideKnuth_24 ?_
    refine v_aload_n E 2 rfl dJ26_divideKnuth_25 ?_
    refine v_iconst E dJ26_divideKnuth_26 ?_
    refine v_dup_x1 E rfl rfl dJ26_divideKnuth_27 ?_
    refine v_putf E in_J26 tyJ26 tyJ26_ok nmJ26 hoc (ci := 9) rfl 2 (Nat.le_of_ble_eq_true rfl) q1174 rfl rfl rfl rfl (Nat.le_of_ble_eq_true rfl) (hAll _ (Or.inl rfl)) dJ26_divideKnuth_28 (fun H_295 hoc_293 hs_294 => ?_)
    have hoa_296 := hoa.same hs_294 hne_a_c
    have hv_297 := hv.same hs_294 hne_v_c
    have hob_298 := hob.same hs_294 hne_b_c
    have he_299 := he.same hs_294 hne_e_c
    have hqv_300 := hqv.same hs_294 hne_qv_c
    have hoc_293 : hp κ H_295 c (.inr (9, [.ref qv, vi (nq : Int), vi 0])) := hoc_293
    refine v_putf E in_J26 tyJ26 tyJ26_ok nmJ26 hoc_293 (ci := 9) rfl 1 (Nat.le_of_ble_eq_true rfl) q1173 rfl rfl rfl rfl (Nat.le_of_ble_eq_true rfl) (hAll _ (Or.inl rfl)) dJ26_divideKnuth_31 (fun H_303 hoc_301 hs_302 => ?_)
    have hoa_304 := hoa_296.same hs_302 hne_a_c
    have hv_305 := hv_297.same hs_302 hne_v_c
    have hob_306 := hob_298.same hs_302 hne_b_c
    have he_307 := he_299.same hs_302 hne_e_c
    have hqv_308 := hqv_300.same hs_302 hne_qv_c
    have hoc_301 : hp κ H_303 c (.inr (9, [.ref qv, vi 0, vi 0])) := hoc_301
    refine v_iload_n E 3 rfl dJ26_divideKnuth_34 ?_
    refine v_if_eq E (tgt := 48) dJ26_divideKnuth_35 (by decide) hrz (fun c_35 => ?_) (fun c_35 => ?_)
    · refine v_null E dJ26_divideKnuth_48 ?_
      refine v_aret E hE rfl (Or.inl ⟨_, rfl⟩) dJ26_divideKnuth_49 (Or.inl rfl) ?_
      have ex : x = 0 := by have := ints_pos (Int.natCast_nonneg x) hn; omega
      subst ex
      rw [Nat.zero_div, Nat.zero_mod]
      exact ⟨qv, 0, 0, qc, fq, ⟨hoc_301, hqv_308, by omega, hc23, fun k hk => absurd hk (Nat.not_lt_zero k), Int.le_refl 0, by decide⟩, ints_0, hqc, Or.inl rfl, 0, Or.inl ⟨by omega, rfl⟩, fun h => absurd h (by omega)⟩
    · refine V.frame (fun hfz_fr_309 hfk_fr_309 => ?_)
      rw [hH0] at hfz_fr_309 hfk_fr_309
      rw [hA0] at hfk_fr_309
      refine v_new E in_J26 tyJ26 tyJ26_ok q1186 q1166 q101 (ci := 9) rfl (fs := [.null, vi 0, vi 0]) (fun j hj => by rcases (show j = 0 ∨ j = 1 ∨ j = 2 by omega) with rfl | rfl | rfl <;> rfl) (cb' := (9 - 1)) (sb' := ((5 * n + 14) - 3)) (by omega) (by omega) dJ26_divideKnuth_38 (fun q_310 H_311 hq_314 ho_312 hg_313 => ?_)
      have hne_a_q_310 : a ≠ q_310 := by have := hoa_304.lt; omega
      have hne_v_q_310 : v ≠ q_310 := by have := hv_305.lt; omega
      have hne_b_q_310 : b ≠ q_310 := by have := hob_306.lt; omega
      have hne_e_q_310 : e ≠ q_310 := by have := he_307.lt; omega
      have hne_c_q_310 : c ≠ q_310 := by have := hoc_301.lt; omega
      have hne_qv_q_310 : qv ≠ q_310 := by have := hqv_308.lt; omega
      have hoa_321 := hoa_304.grow hg_313
      have hv_322 := hv_305.grow hg_313
      have hob_323 := hob_306.grow hg_313
      have he_324 := he_307.grow hg_313
      have hoc_325 := hoc_301.grow hg_313
      have hqv_326 := hqv_308.grow hg_313
      refine v_dup E rfl dJ26_divideKnuth_41 ?_
      refine V.frame (fun hfz_fr_327 hfk_fr_327 => ?_)
      rw [hH0] at hfz_fr_327 hfk_fr_327
      rw [hA0] at hfk_fr_327
      refine v_callI E (As := []) (b := q_310) (h_i2 κ H_311 ho_312) q1189 q101 q1187 q1188 rfl 0 (by decide +kernel) rfl (by decide) (by decide) (cb' := ((9 - 1) - 1)) (sb' := (((5 * n + 14) - 3) - 1)) (by omega) (by omega) rfl (rest := [.ref q_310]) (Nat.le_of_ble_eq_true rfl) (fun q9 h => hNew q9 (by rw [show q9 = q_310 from h]; omega)) dJ26_divideKnuth_42 (fun v_328 H_329 hpost_330 hz_331 hk_332 => ?_)
      clear hz_331
      obtain ⟨rfl, vr, hvr, hMr⟩ := hpost_330
      have hz_333 := hoa_321.kept (hk_332 _ hoa_321.lt (fun h => hne_a_q_310 h))
      have hz_334 := hv_322.kept (hk_332 _ hv_322.lt (fun h => hne_v_q_310 h))
      have hz_335 := hob_323.kept (hk_332 _ hob_323.lt (fun h => hne_b_q_310 h))
      have hz_336 := he_324.kept (hk_332 _ he_324.lt (fun h => hne_e_q_310 h))
      have hz_337 := hoc_325.kept (hk_332 _ hoc_325.lt (fun h => hne_c_q_310 h))
      have hz_338 := hqv_326.kept (hk_332 _ hqv_326.lt (fun h => hne_qv_q_310 h))
      refine V.eq (st' := [.ref q_310]) rfl ?_
      refine v_goto E (tgt := 49) dJ26_divideKnuth_45 (by decide) ?_
      refine v_aret E hE rfl (Or.inl ⟨_, rfl⟩) dJ26_divideKnuth_49 (Or.inr ⟨_, rfl⟩) ?_
      have ex : x = 0 := by have := ints_pos (Int.natCast_nonneg x) hn; omega
      subst ex
      rw [Nat.zero_div, Nat.zero_mod]
      exact ⟨qv, 0, 0, qc, fq, ⟨hz_337, hz_338, by omega, hc23, fun k hk => absurd hk (Nat.not_lt_zero k), Int.le_refl 0, by decide⟩, ints_0, hqc, Or.inl rfl, q_310, Or.inr rfl, fun _ => ⟨rfl, (by omega), vr, 0, 0, 1, _, Nat.le_trans hfz_fr_327 hvr, Nat.ne_of_gt (Nat.lt_of_lt_of_le hqv_326.lt hvr), hMr, ints_0⟩⟩

set_option maxHeartbeats 1500000 in
set_option maxRecDepth 100000 in
theorem h_div2 (κ : zK) (H0 : Heap) {a v o n cap : Nat} {f : Nat → Int} {x : Nat} {b e p m cbp : Nat} {g : Nat → Int} {y : Nat} {c qv oq nq qc : Nat} {fq : Nat → Int} {Q : Int} {z3 : Int} (hD : zDist κ) (hz3 : z3 = 0 ∨ z3 = 1) (hy : 0 < y) (hn : isInts (x : Int) n) (hm : isInts (y : Int) m) (hne_a_c : a ≠ c) (hne_b_c : b ≠ c) (hne_v_qv : v ≠ qv) (hne_e_qv : e ≠ qv) (hqc : 1 ≤ qc) (hM : MI κ H0 a v o n cap f (x : Int)) (hM2 : MI κ H0 b e p m cbp g (y : Int)) (hM3 : MI κ H0 c qv oq nq qc fq Q)  : Mt κ yJ26_divide_2 cJ26_divide_2 4 (some (.object "java/math/MutableBigInteger")) 7 219 9 (5 * n + 14) H0 [.ref a, .ref b, .ref c, vi z3] (fun q => q = c ∨ q = qv) (fun v9 H1 => ∃ (v2 o2 n2 cap2 : Nat) (f2 : Nat → Int), MI κ H1 c v2 o2 n2 cap2 f2 ((x / y : Nat) : Int) ∧ isInts ((x / y : Nat) : Int) n2 ∧ 1 ≤ cap2 ∧ (v2 = qv ∨ H0.size ≤ v2) ∧ ∃ r : Nat, (z3 = 0 ∧ v9 = some .null ∨ v9 = some (.ref r)) ∧ (z3 = 1 → v9 = some (.ref r) ∧ H0.size ≤ r ∧ ∃ (v3 o3 n3 cap3 : Nat) (f3 : Nat → Int), H0.size ≤ v3 ∧ v3 ≠ v2 ∧ MI κ H1 r v3 o3 n3 cap3 f3 ((x % y : Nat) : Int) ∧ isInts ((x % y : Nat) : Int) n3)) := by
  refine Mt.of (by decide) (Nat.le_of_ble_eq_true rfl) ?_
  intro z E hE hH0 hA0 hL hini
  have hAll : ∀ q, (fun q => q = c ∨ q = qv) q → zA z.A z.H0 q := fun q h => Or.inl (by rw [hA0]; exact h)
  have hNew : ∀ q, H0.size ≤ q → zA z.A z.H0 q := fun q h => Or.inr (by rw [hH0]; exact h)
  have E : zOK z cJ26_divide_2 RJ26 κ 7 219 (some (.object "java/math/MutableBigInteger")) := E
  refine V.eqL (lv' := [(0, .ref a), (1, .ref b), (2, .ref c), (3, vi z3)]) rfl ?_
  have hM0 := hM
  have hM20 := hM2
  obtain ⟨hoa, hv, hcap, hc2, hW, hX0, hX1⟩ := hM
  obtain ⟨hob, he, hcap2, hc22, hW2, hX02, hX12⟩ := hM2
  have h48 := hn.1
  have h48m := hm.1
  refine v_aload_n E 1 rfl dJ26_divide_2_0 ?_
  refine v_getf E in_J26 hob (ci := 9) rfl 1 (by decide) q1173 rfl (v := vi (m : Int)) rfl dJ26_divide_2_1 ?_
  refine v_bipush E ⟨by decide, by decide⟩ dJ26_divide_2_4 ?_
  refine v_icmp_lt E (tgt := 23) dJ26_divide_2_6 (by decide) ⟨by omega, by omega⟩ ⟨by omega, by omega⟩ (fun c_6 => ?_) (fun c_6 => absurd c_6 (by omega))
  refine v_aload_n E 0 rfl dJ26_divide_2_23 ?_
  refine v_aload_n E 1 rfl dJ26_divide_2_24 ?_
  refine v_aload_n E 2 rfl dJ26_divide_2_25 ?_
  refine v_iload_n E 3 rfl dJ26_divide_2_26 ?_
  refine v_callV E (As := [.ref b, .ref c, vi z3]) (b := a) (ci := 9) (C := RJ26) (T := TJ26) (N := 3) hoa rfl (h_dk κ H0 hD hz3 hy hn hm hne_a_c hne_b_c hne_v_qv hne_e_qv hqc hM0 hM20 hM3) (lw_V q1253 q1254 q1255 q101 q1256) 3 (by decide +kernel) rfl (by decide) (by decide) (cb' := 0) (sb' := 0) (by omega) (by omega) rfl (rest := []) (Nat.le_of_ble_eq_true rfl) (fun q h => hAll q h) dJ26_divide_2_27 (fun v_1 H_2 hpost_3 hz_4 hk_5 => ?_)
  clear hz_4
  obtain ⟨v2, o2, n2, cap2, f2, hMq, hIq, hcq, hvq, r, hr9, hr1⟩ := hpost_3
  rcases hr9 with ⟨hz9, rfl⟩ | rfl
  ·
    refine V.eq (st' := [.null]) rfl ?_
    refine v_aret E hE rfl (Or.inl ⟨_, rfl⟩) dJ26_divide_2_30 (Or.inl rfl) ?_
    exact ⟨v2, o2, n2, cap2, f2, hMq, hIq, hcq, hvq, r, Or.inl ⟨hz9, rfl⟩, fun h => absurd h (by omega)⟩
  ·
    refine V.eq (st' := [.ref r]) rfl ?_
    refine v_aret E hE rfl (Or.inl ⟨_, rfl⟩) dJ26_divide_2_30 (Or.inr ⟨_, rfl⟩) ?_
    exact ⟨v2, o2, n2, cap2, f2, hMq, hIq, hcq, hvq, r, Or.inr rfl, hr1⟩

set_option maxHeartbeats 1500000 in
set_option maxRecDepth 100000 in
theorem h_div (κ : zK) (H0 : Heap) {a v o n cap : Nat} {f : Nat → Int} {x : Nat} {b e p m cbp : Nat} {g : Nat → Int} {y : Nat} {c qv oq nq qc : Nat} {fq : Nat → Int} {Q : Int} (hD : zDist κ) (hy : 0 < y) (hn : isInts (x : Int) n) (hm : isInts (y : Int) m) (hne_a_c : a ≠ c) (hne_b_c : b ≠ c) (hne_v_qv : v ≠ qv) (hne_e_qv : e ≠ qv) (hqc : 1 ≤ qc) (hM : MI κ H0 a v o n cap f (x : Int)) (hM2 : MI κ H0 b e p m cbp g (y : Int)) (hM3 : MI κ H0 c qv oq nq qc fq Q)  : Mt κ yJ26_divide cJ26_divide 3 (some (.object "java/math/MutableBigInteger")) 8 242 9 (5 * n + 14) H0 [.ref a, .ref b, .ref c] (fun q => q = c ∨ q = qv) (fun v9 H1 => ∃ (v2 o2 n2 cap2 : Nat) (f2 : Nat → Int), MI κ H1 c v2 o2 n2 cap2 f2 ((x / y : Nat) : Int) ∧ isInts ((x / y : Nat) : Int) n2 ∧ 1 ≤ cap2 ∧ (v2 = qv ∨ H0.size ≤ v2) ∧ ∃ r : Nat, (False ∧ v9 = some .null ∨ v9 = some (.ref r)) ∧ (v9 = some (.ref r) ∧ H0.size ≤ r ∧ ∃ (v3 o3 n3 cap3 : Nat) (f3 : Nat → Int), H0.size ≤ v3 ∧ v3 ≠ v2 ∧ MI κ H1 r v3 o3 n3 cap3 f3 ((x % y : Nat) : Int) ∧ isInts ((x % y : Nat) : Int) n3)) := by
  refine Mt.of (by decide) (Nat.le_of_ble_eq_true rfl) ?_
  intro z E hE hH0 hA0 hL hini
  have hAll : ∀ q, (fun q => q = c ∨ q = qv) q → zA z.A z.H0 q := fun q h => Or.inl (by rw [hA0]; exact h)
  have hNew : ∀ q, H0.size ≤ q → zA z.A z.H0 q := fun q h => Or.inr (by rw [hH0]; exact h)
  have E : zOK z cJ26_divide RJ26 κ 8 242 (some (.object "java/math/MutableBigInteger")) := E
  refine V.eqL (lv' := [(0, .ref a), (1, .ref b), (2, .ref c)]) rfl ?_
  have hM0 := hM
  have hM20 := hM2
  obtain ⟨hoa, hv, hcap, hc2, hW, hX0, hX1⟩ := hM
  obtain ⟨hob, he, hcap2, hc22, hW2, hX02, hX12⟩ := hM2
  have h48 := hn.1
  have h48m := hm.1
  refine v_aload_n E 0 rfl dJ26_divide_0 ?_
  refine v_aload_n E 1 rfl dJ26_divide_1 ?_
  refine v_aload_n E 2 rfl dJ26_divide_2 ?_
  refine v_iconst E dJ26_divide_3 ?_
  refine v_callV E (As := [.ref b, .ref c, vi 1]) (b := a) (ci := 9) (C := RJ26) (T := TJ26) (N := 3) hoa rfl (h_div2 κ H0 (z3 := 1) hD (Or.inr rfl) hy hn hm hne_a_c hne_b_c hne_v_qv hne_e_qv hqc hM0 hM20 hM3) (lw_V q1249 q1250 q1251 q101 q1252) 3 (by decide +kernel) rfl (by decide) (by decide) (cb' := 0) (sb' := 0) (by omega) (by omega) rfl (rest := []) (Nat.le_of_ble_eq_true rfl) (fun q h => hAll q h) dJ26_divide_4 (fun v_1 H_2 hpost_3 hz_4 hk_5 => ?_)
  clear hz_4
  obtain ⟨v2, o2, n2, cap2, f2, hMq, hIq, hcq, hvq, r, -, hr1⟩ := hpost_3
  obtain ⟨rfl, hr2⟩ := hr1 rfl
  refine V.eq (st' := [.ref r]) rfl ?_
  refine v_aret E hE rfl (Or.inl ⟨_, rfl⟩) dJ26_divide_7 (Or.inr ⟨_, rfl⟩) ?_
  exact ⟨v2, o2, n2, cap2, f2, hMq, hIq, hcq, hvq, r, Or.inr rfl, rfl, hr2⟩
