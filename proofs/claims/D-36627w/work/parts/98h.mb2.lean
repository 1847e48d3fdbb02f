theorem top_ne {X : Int} {n : Nat} (hn : isInts X n) (hp : 0 < n) (h0 : 0 ≤ X) : dg X (n - 1) ≠ 0 := by
  rw [dg_top_ne h0 (by rw [show n - 1 + 1 = n by omega]; exact hn.2.1)]
  have := hn.2.2 hp
  have h2 := Int.le_ediv_of_mul_le (p2 (32 * (n - 1))) (show (1 : Int) * 2 ^ (32 * (n - 1)) ≤ X by omega)
  omega
theorem bM_s {X : Int} {n k : Nat} (hk : k < n) : bM X n (n - 1 - k) = dg X k := by unfold bM; rw [show n - 1 - (n - 1 - k) = k by omega]
theorem pl_s {f1 : Nat → Int} {X Y : Int} {n o k : Nat} (hk : k < n) (h : (∀ j, j < k → f1 (o + j) = bM Y n j) ∧ ∀ j, k ≤ j → j < n → f1 (o + j) = bM X n j) :
    (∀ j, j < k + 1 → va_up f1 (o + k) (dg Y (n - 1 - k)) (o + j) = bM Y n j) ∧ ∀ j, k + 1 ≤ j → j < n → va_up f1 (o + k) (dg Y (n - 1 - k)) (o + j) = bM X n j := by
  refine ⟨fun j hj => ?_, fun j h1 h2 => ?_⟩
  · by_cases e : j = k
    · rw [e, va_up_self]; rfl
    · rw [va_up_ne _ _ (by omega)]; exact h.1 j (by omega)
  · rw [va_up_ne _ _ (by omega)]; exact h.2 j (by omega) h2
theorem pr_s {f1 : Nat → Int} {X Y : Int} {n o k : Nat} (hk : k < n) (h : (∀ j, n - k ≤ j → j < n → f1 (o + j) = bM Y n j) ∧ ∀ j, j < n - k → f1 (o + j) = bM X n j) :
    (∀ j, n - (k + 1) ≤ j → j < n → va_up f1 (o + (n - 1 - k)) (dg Y k) (o + j) = bM Y n j) ∧ ∀ j, j < n - (k + 1) → va_up f1 (o + (n - 1 - k)) (dg Y k) (o + j) = bM X n j := by
  refine ⟨fun j h1 h2 => ?_, fun j hj => ?_⟩
  · by_cases e : j = n - 1 - k
    · rw [e, va_up_self, bM_s hk]
    · rw [va_up_ne _ _ (by omega)]; exact h.1 j (by omega) h2
  · rw [va_up_ne _ _ (by omega)]; exact h.2 j (by omega)
theorem shr_or {X : Int} {k b : Nat} (hb : b ≤ 31) : iZ (dg X (k + 1) * 2 ^ (32 - b)) ||| iZ ((dg X k % 4294967296) / 2 ^ b) = iZ (dg (X / 2 ^ b) k) := by
  have h := dg_shr X 0 b (by omega) k
  rw [Nat.mul_zero, Nat.zero_add, Nat.add_zero] at h
  rw [h, dg_m, iZ_or (Int.ediv_nonneg (dg_in _ _).1 (Int.le_of_lt (p2 _))) (lo_lt' b hb (dg_in _ _).2) (by omega), Int.add_comm]
  exact (iZ_mod _).symm
theorem shr_top {X : Int} {n b : Nat} (hb : b ≤ 31) (hp : 0 < n) (h0 : 0 ≤ X) (h : X < 2 ^ (32 * n)) : iZ ((dg X (n - 1) % 4294967296) / 2 ^ b) = iZ (dg (X / 2 ^ b) (n - 1)) := by
  rw [← shr_or hb, show n - 1 + 1 = n by omega, dg_hi h0 h (Nat.le_refl n), Int.zero_mul]
  exact (Int32.zero_or).symm
theorem div_pow (X : Int) (u b : Nat) : X / 2 ^ (32 * u + b) = X / 2 ^ (32 * u) / 2 ^ b := by
  rw [Int.pow_add, Int.ediv_ediv_of_nonneg (Int.le_of_lt (p2 _))]
theorem div_lt {X : Int} {n u : Nat} (h : X < 2 ^ (32 * n)) (hu : u ≤ n) : X / 2 ^ (32 * u) < 2 ^ (32 * (n - u)) := by
  apply Int.ediv_lt_of_lt_mul (p2 _)
  rw [← Int.pow_add, show 32 * (n - u) + 32 * u = 32 * n by omega]
  exact h
theorem up_dn (X : Int) {b : Nat} (hb : b ≤ 32) : X * 2 ^ (32 - b) / 2 ^ 32 = X / 2 ^ b := by
  rw [show (32 : Nat) = (32 - b) + b by omega, show 32 - b + b - b = 32 - b by omega, Int.pow_add]
  rw [Int.mul_comm X, Int.mul_ediv_mul_of_pos _ _ (p2 _)]
theorem cut1_win {f : Nat → Int} {X : Int} {n o b : Nat} (hb : b ≤ 32) (hp : 0 < n) (hf : ∀ k, k < n → f (o + k) = bM (X * 2 ^ (32 - b)) n k) : ∀ j, j < n - 1 → f (o + j) = bM (X / 2 ^ b) (n - 1) j := by
  have := cut_win (u := 1) hf (by omega)
  rw [show 32 * 1 = 32 by decide, up_dn X hb] at this
  exact this
theorem bits_top {X : Int} {n b l : Nat} (h0 : 0 ≤ X) (h : X < 2 ^ (32 * n)) (hp : 0 < n) (hl : isBits (bM X n 0) l) (hlb : l ≤ b) : X / 2 ^ b < 2 ^ (32 * (n - 1)) := by
  apply Int.ediv_lt_of_lt_mul (p2 _)
  have h1 := hl.1
  unfold bM at h1
  rw [Nat.sub_zero, dg_top_ne h0 (by rw [show n - 1 + 1 = n by omega]; exact h)] at h1
  have h2 := Int.lt_mul_of_ediv_lt (p2 (32 * (n - 1))) h1
  refine Int.lt_of_lt_of_le h2 ?_
  rw [Int.mul_comm]
  exact Int.mul_le_mul_of_nonneg_left (pw_mono hlb) (Int.le_of_lt (p2 _))
theorem bits_low {X : Int} {n b l : Nat} (h0 : 0 ≤ X) (h : X < 2 ^ (32 * n)) (hp : 0 < n) (hl : isBits (bM X n 0) l) (hlb : b < l) : 2 ^ (32 * (n - 1)) ≤ X / 2 ^ b := by
  apply Int.le_ediv_of_mul_le (p2 _)
  have h1 := hl.2 (by omega)
  unfold bM at h1
  rw [Nat.sub_zero, dg_top_ne h0 (by rw [show n - 1 + 1 = n by omega]; exact h)] at h1
  have h2 := Int.mul_le_of_le_ediv (p2 (32 * (n - 1))) h1
  refine Int.le_trans ?_ h2
  rw [Int.mul_comm]
  exact Int.mul_le_mul_of_nonneg_right (pw_mono (by omega)) (Int.le_of_lt (p2 _))
theorem div_ints {X : Int} {n u : Nat} (hn : isInts X n) (hu : u < n) : isInts (X / 2 ^ (32 * u)) (n - u) := by
  refine ⟨by have := hn.1; omega, div_lt hn.2.1 (by omega), fun hp => Int.le_ediv_of_mul_le (p2 _) ?_⟩
  rw [← Int.pow_add, show 32 * (n - u - 1) + 32 * u = 32 * (n - 1) by omega]
  exact hn.2.2 (by omega)
theorem ints_dn {X : Int} {n b l : Nat} (hb : b ≤ 31) (hn : isInts X n) (hp : 0 < n) (h0 : 0 ≤ X) (hl : isBits (bM X n 0) l) (hlb : l ≤ b) : isInts (X / 2 ^ b) (n - 1) := by
  refine ⟨by have := hn.1; omega, bits_top h0 hn.2.1 hp hl hlb, fun hq => Int.le_ediv_of_mul_le (p2 _) (Int.le_trans ?_ (hn.2.2 hp))⟩
  rw [← Int.pow_add]
  exact pw_mono (by omega)
theorem ints_dn0 {X : Int} {n b l : Nat} (hn : isInts X n) (hp : 0 < n) (h0 : 0 ≤ X) (hl : isBits (bM X n 0) l) (hlb : b < l) : isInts (X / 2 ^ b) n :=
  ⟨hn.1, (shr_lt h0 hn.2.1).2, fun _ => bits_low h0 hn.2.1 hp hl hlb⟩
set_option maxHeartbeats 400000 in
set_option maxRecDepth 100000 in
/-- the lowest bit that is set -/
theorem h_lsb (κ : zK) (H0 : Heap) {a v o n cap : Nat} {f : Nat → Int} {X : Int} (hD : zDist κ) (hn : isInts X n) (hpn : 0 < n) (hM : MI κ H0 a v o n cap f X)  : Mt κ yJ26_getLowestSetBit cJ26_getLowestSetBit 3 (some .int) 1 21 0 0 H0 [.ref a] (fun _ => False) (fun v H1 => ∃ t : Nat, v = some (vi (t : Int)) ∧ isZeros X t ∧ t < 32 * n) := by
  refine Mt.of (by decide) (Nat.le_of_ble_eq_true rfl) ?_
  intro z E hE hH0 hA0 hL hini
  have hAll : ∀ q, (fun _ => False) q → zA z.A z.H0 q := fun q h => Or.inl (by rw [hA0]; exact h)
  have hNew : ∀ q, H0.size ≤ q → zA z.A z.H0 q := fun q h => Or.inr (by rw [hH0]; exact h)
  have E : zOK z cJ26_getLowestSetBit RJ26 κ 1 21 (some .int) := E
  refine V.eqL (lv' := [(0, .ref a)]) rfl ?_
  obtain ⟨hoa, hv, hcap, hc2, hW, hX0, hX1⟩ := hM
  have hne_v_a : v ≠ a := Ne.symm (hp.ka hD hoa hv (by decide) (by decide))
  have h48 := hn.1
  refine v_aload_n E 0 rfl dJ26_getLowestSetBit_0 ?_
  refine v_getf E in_J26 hoa (ci := 9) rfl 1 (by decide) q1173 rfl (v := vi (n : Int)) rfl dJ26_getLowestSetBit_1 ?_
  refine v_if_ne E (tgt := 9) dJ26_getLowestSetBit_4 (by decide) ⟨by omega, by omega⟩ (fun c_4 => ?_) (fun c_4 => absurd c_4 (by omega))
  refine v_aload_n E 0 rfl dJ26_getLowestSetBit_9 ?_
  refine v_getf E in_J26 hoa (ci := 9) rfl 1 (by decide) q1173 rfl (v := vi (n : Int)) rfl dJ26_getLowestSetBit_10 ?_
  refine v_iconst E dJ26_getLowestSetBit_13 ?_
  refine v_isub E dJ26_getLowestSetBit_14 ?_
  refine v_istore_n E dJ26_getLowestSetBit_15 (zlt hL rfl) (lv' := [(1, vi ((n : Int) - 1)), (0, .ref a)]) rfl ?_
  have loop_16 : ∀ (m_16 : Nat) (H : Heap) (k : Nat) (u : Int), n - k < m_16 → (k < n) → (u = (n : Int) - 1 - (k : Int)) → (∀ j, j < k → dg X j = 0) → hp κ H a (.inr (9, [.ref v, vi (n : Int), vi (o : Int)])) → hp κ H v (eI κ cap f) → V z H 0 0 16 [(1, vi u), (0, .ref a)] [] := by
    intro m_16
    induction m_16 with
    | zero => intro H k u hm; exact absurd hm (by omega)
    | succ m_16 ih_16 =>
      intro H k u hm_16 hk hu hz hoa hv
      have hdk := dg_in X k
      refine v_iload_n E 0 rfl dJ26_getLowestSetBit_16 ?_
      refine v_if_le E (tgt := 40) dJ26_getLowestSetBit_17 (by decide) ⟨by omega, by omega⟩ (fun c_17 => ?_) (fun c_17 => ?_)
      · refine v_aload_n E 1 rfl dJ26_getLowestSetBit_40 ?_
        refine v_getf E in_J26 hoa (ci := 9) rfl 0 (by decide) q1172 rfl (v := .ref v) rfl dJ26_getLowestSetBit_41 ?_
        refine v_iload_n E 0 rfl dJ26_getLowestSetBit_44 ?_
        refine v_aload_n E 1 rfl dJ26_getLowestSetBit_45 ?_
        refine v_getf E in_J26 hoa (ci := 9) rfl 2 (by decide) q1174 rfl (v := vi (o : Int)) rfl dJ26_getLowestSetBit_46 ?_
        refine v_iadd E dJ26_getLowestSetBit_49 ?_
        refine v_iald E dJ26_getLowestSetBit_50 hv (o + (n - 1 - k)) (by omega) (by omega) (by omega) ?_
        refine V.topi (x' := dg X k) (congrArg iZ ((hW (n - 1 - k) (by omega)).trans (bM_s hk))) ?_
        have hdn : dg X k ≠ 0 := by
          by_cases e : k = n - 1
          · rw [e]; exact top_ne hn hpn hX0
          · omega
        obtain ⟨d, hd⟩ : ∃ d : Nat, (d : Int) = dg X k := ⟨(dg X k).toNat, Int.toNat_of_nonneg hdk.1⟩
        obtain ⟨t, ht⟩ := zeros_ex 32 (d : Int) (by omega) (by omega)
        have ht32 : t < 32 := zeros_lt (by omega) (by omega) ht
        refine V.topi (x' := (d : Int)) (congrArg iZ hd.symm) ?_
        refine v_istore_n E dJ26_getLowestSetBit_51 (zlt hL rfl) (lv' := [(2, vi (d : Int)), (1, vi u), (0, .ref a)]) rfl ?_
        refine v_iload_n E 0 rfl dJ26_getLowestSetBit_52 ?_
        refine V.topi (x' := ((d : Int) + 2147483648) % 4294967296 - 2147483648) (iZ_sg _) ?_
        refine v_if_ne E (tgt := 58) dJ26_getLowestSetBit_53 (by decide) ⟨by omega, by omega⟩ (fun c_53 => ?_) (fun c_53 => absurd c_53 (by omega))
        refine v_aload_n E 2 rfl dJ26_getLowestSetBit_58 ?_
        refine v_getf E in_J26 hoa (ci := 9) rfl 1 (by decide) q1173 rfl (v := vi (n : Int)) rfl dJ26_getLowestSetBit_59 ?_
        refine v_iconst E dJ26_getLowestSetBit_62 ?_
        refine v_isub E dJ26_getLowestSetBit_63 ?_
        refine v_iload_n E 1 rfl dJ26_getLowestSetBit_64 ?_
        refine v_isub E dJ26_getLowestSetBit_65 ?_
        refine v_iconst E dJ26_getLowestSetBit_66 ?_
        refine v_ishl E 5 (by decide) dJ26_getLowestSetBit_67 ?_
        refine v_iload_n E 0 rfl dJ26_getLowestSetBit_68 ?_
        refine v_callS E (As := [vi (d : Int)]) (m_ntz κ H (d := d) (t := t) (by omega) (by omega) ht ht32) (lw_S q1201 q1069 q99 q1070) 1 (by decide +kernel) rfl (by decide) (by decide) (cb' := 0) (sb' := 0) (by decide) (by decide) rfl (rest := [vi ((((n : Int) - 1) - u) * 2 ^ 5)]) (Nat.le_of_ble_eq_true rfl) (fun q h => h.elim) dJ26_getLowestSetBit_69 (fun v_1 H_2 hpost_3 hz_4 hk_5 => ?_)
        clear hz_4
        obtain rfl := hpost_3
        have hoa_6 := hoa.kept (hk_5 _ hoa.lt (fun h => h))
        have hv_7 := hv.kept (hk_5 _ hv.lt (fun h => h))
        refine V.eq (st' := [vi (t : Int), vi ((((n : Int) - 1) - u) * 2 ^ 5)]) rfl ?_
        refine v_iadd E dJ26_getLowestSetBit_72 ?_
        refine v_iret E hE dJ26_getLowestSetBit_73 ?_
        rw [hd] at ht
        exact ⟨32 * k + t, congrArg (fun t => some (vi t)) (by omega), zeros_dg hz ht ht32, by omega⟩
      · refine v_aload_n E 1 rfl dJ26_getLowestSetBit_20 ?_
        refine v_getf E in_J26 hoa (ci := 9) rfl 0 (by decide) q1172 rfl (v := .ref v) rfl dJ26_getLowestSetBit_21 ?_
        refine v_iload_n E 0 rfl dJ26_getLowestSetBit_24 ?_
        refine v_aload_n E 1 rfl dJ26_getLowestSetBit_25 ?_
        refine v_getf E in_J26 hoa (ci := 9) rfl 2 (by decide) q1174 rfl (v := vi (o : Int)) rfl dJ26_getLowestSetBit_26 ?_
        refine v_iadd E dJ26_getLowestSetBit_29 ?_
        refine v_iald E dJ26_getLowestSetBit_30 hv (o + (n - 1 - k)) (by omega) (by omega) (by omega) ?_
        refine V.topi (x' := dg X k) (congrArg iZ ((hW (n - 1 - k) (by omega)).trans (bM_s hk))) ?_
        refine V.topi (x' := ((dg X k) + 2147483648) % 4294967296 - 2147483648) (iZ_sg _) ?_
        refine v_if_ne E (tgt := 40) dJ26_getLowestSetBit_31 (by decide) ⟨by omega, by omega⟩ (fun c_31 => ?_) (fun c_31 => ?_)
        · refine v_aload_n E 1 rfl dJ26_getLowestSetBit_40 ?_
          refine v_getf E in_J26 hoa (ci := 9) rfl 0 (by decide) q1172 rfl (v := .ref v) rfl dJ26_getLowestSetBit_41 ?_
          refine v_iload_n E 0 rfl dJ26_getLowestSetBit_44 ?_
          refine v_aload_n E 1 rfl dJ26_getLowestSetBit_45 ?_
          refine v_getf E in_J26 hoa (ci := 9) rfl 2 (by decide) q1174 rfl (v := vi (o : Int)) rfl dJ26_getLowestSetBit_46 ?_
          refine v_iadd E dJ26_getLowestSetBit_49 ?_
          refine v_iald E dJ26_getLowestSetBit_50 hv (o + (n - 1 - k)) (by omega) (by omega) (by omega) ?_
          refine V.topi (x' := dg X k) (congrArg iZ ((hW (n - 1 - k) (by omega)).trans (bM_s hk))) ?_
          have hdn : dg X k ≠ 0 := by
            by_cases e : k = n - 1
            · rw [e]; exact top_ne hn hpn hX0
            · omega
          obtain ⟨d, hd⟩ : ∃ d : Nat, (d : Int) = dg X k := ⟨(dg X k).toNat, Int.toNat_of_nonneg hdk.1⟩
          obtain ⟨t, ht⟩ := zeros_ex 32 (d : Int) (by omega) (by omega)
          have ht32 : t < 32 := zeros_lt (by omega) (by omega) ht
          refine V.topi (x' := (d : Int)) (congrArg iZ hd.symm) ?_
          refine v_istore_n E dJ26_getLowestSetBit_51 (zlt hL rfl) (lv' := [(2, vi (d : Int)), (1, vi u), (0, .ref a)]) rfl ?_
          refine v_iload_n E 0 rfl dJ26_getLowestSetBit_52 ?_
          refine V.topi (x' := ((d : Int) + 2147483648) % 4294967296 - 2147483648) (iZ_sg _) ?_
          refine v_if_ne E (tgt := 58) dJ26_getLowestSetBit_53 (by decide) ⟨by omega, by omega⟩ (fun c_53 => ?_) (fun c_53 => absurd c_53 (by omega))
          refine v_aload_n E 2 rfl dJ26_getLowestSetBit_58 ?_
          refine v_getf E in_J26 hoa (ci := 9) rfl 1 (by decide) q1173 rfl (v := vi (n : Int)) rfl dJ26_getLowestSetBit_59 ?_
          refine v_iconst E dJ26_getLowestSetBit_62 ?_
          refine v_isub E dJ26_getLowestSetBit_63 ?_
          refine v_iload_n E 1 rfl dJ26_getLowestSetBit_64 ?_
          refine v_isub E dJ26_getLowestSetBit_65 ?_
          refine v_iconst E dJ26_getLowestSetBit_66 ?_
          refine v_ishl E 5 (by decide) dJ26_getLowestSetBit_67 ?_
          refine v_iload_n E 0 rfl dJ26_getLowestSetBit_68 ?_
          refine v_callS E (As := [vi (d : Int)]) (m_ntz κ H (d := d) (t := t) (by omega) (by omega) ht ht32) (lw_S q1201 q1069 q99 q1070) 1 (by decide +kernel) rfl (by decide) (by decide) (cb' := 0) (sb' := 0) (by decide) (by decide) rfl (rest := [vi ((((n : Int) - 1) - u) * 2 ^ 5)]) (Nat.le_of_ble_eq_true rfl) (fun q h => h.elim) dJ26_getLowestSetBit_69 (fun v_8 H_9 hpost_10 hz_11 hk_12 => ?_)
          clear hz_11
          obtain rfl := hpost_10
          have hoa_13 := hoa.kept (hk_12 _ hoa.lt (fun h => h))
          have hv_14 := hv.kept (hk_12 _ hv.lt (fun h => h))
          refine V.eq (st' := [vi (t : Int), vi ((((n : Int) - 1) - u) * 2 ^ 5)]) rfl ?_
          refine v_iadd E dJ26_getLowestSetBit_72 ?_
          refine v_iret E hE dJ26_getLowestSetBit_73 ?_
          rw [hd] at ht
          exact ⟨32 * k + t, congrArg (fun t => some (vi t)) (by omega), zeros_dg hz ht ht32, by omega⟩
        · refine v_iinc E 0 rfl dJ26_getLowestSetBit_34 (zlt hL rfl) (lv' := [(1, vi (u + (-1))), (0, .ref a)]) rfl ?_
          refine v_goto E (tgt := 16) dJ26_getLowestSetBit_37 (by decide) ?_
          exact ih_16  H (k + 1) _ (by omega) (by omega) (by omega) (lt_s hz (by omega)) hoa hv
  exact loop_16 (n + 1) H0 0 _ (by omega) hpn (by omega) (fun j hj => absurd hj (by omega)) hoa hv

set_option maxHeartbeats 400000 in
set_option maxRecDepth 100000 in
/-- a shift to the left in place -/
theorem h_pls (κ : zK) (H0 : Heap) {a v o n cap : Nat} {f : Nat → Int} {X : Int} {s : Nat} (hD : zDist κ) (hs1 : 1 ≤ s) (hs : s ≤ 31) (hpn : 0 < n) (hM : MI κ H0 a v o n cap f X)  : Mt κ yJ26_primitiveLeftShift cJ26_primitiveLeftShift 8 (none) 0 0 0 0 H0 [.ref a, vi (s : Int)] (fun q => q = v) (fun v9 H1 => v9 = none ∧ ∃ f1 : Nat → Int, hp κ H1 v (eI κ cap f1) ∧ ∀ k, k < n → f1 (o + k) = bM (X * 2 ^ s) n k) := by
  refine Mt.of (by decide) (Nat.le_of_ble_eq_true rfl) ?_
  intro z E hE hH0 hA0 hL hini
  have hAll : ∀ q, (fun q => q = v) q → zA z.A z.H0 q := fun q h => Or.inl (by rw [hA0]; exact h)
  have hNew : ∀ q, H0.size ≤ q → zA z.A z.H0 q := fun q h => Or.inr (by rw [hH0]; exact h)
  have E : zOK z cJ26_primitiveLeftShift RJ26 κ 0 0 (none) := E
  refine V.eqL (lv' := [(0, .ref a), (1, vi (s : Int))]) rfl ?_
  obtain ⟨hoa, hv, hcap, hc2, hW, hX0, hX1⟩ := hM
  have hne_v_a : v ≠ a := Ne.symm (hp.ka hD hoa hv (by decide) (by decide))
  refine v_aload_n E 0 rfl dJ26_primitiveLeftShift_0 ?_
  refine v_getf E in_J26 hoa (ci := 9) rfl 0 (by decide) q1172 rfl (v := .ref v) rfl dJ26_primitiveLeftShift_1 ?_
  refine v_astore_n E dJ26_primitiveLeftShift_4 (zlt hL rfl) (lv' := [(2, .ref v), (0, .ref a), (1, vi (s : Int))]) rfl ?_
  refine v_bipush E ⟨by decide, by decide⟩ dJ26_primitiveLeftShift_5 ?_
  refine v_iload_n E 2 rfl dJ26_primitiveLeftShift_7 ?_
  refine v_isub E dJ26_primitiveLeftShift_8 ?_
  refine v_istore_n E dJ26_primitiveLeftShift_9 (zlt hL rfl) (lv' := [(3, vi (32 - (s : Int))), (2, .ref v), (0, .ref a), (1, vi (s : Int))]) rfl ?_
  refine v_aload_n E 2 rfl dJ26_primitiveLeftShift_10 ?_
  refine v_getf E in_J26 hoa (ci := 9) rfl 2 (by decide) q1174 rfl (v := vi (o : Int)) rfl dJ26_primitiveLeftShift_11 ?_
  refine v_istore E dJ26_primitiveLeftShift_14 (zlt hL rfl) (lv' := [(4, vi (o : Int)), (3, vi (32 - (s : Int))), (2, .ref v), (0, .ref a), (1, vi (s : Int))]) rfl ?_
  refine v_aload_n E 2 rfl dJ26_primitiveLeftShift_16 ?_
  refine v_iload E 0 rfl dJ26_primitiveLeftShift_17 ?_
  refine v_iald E dJ26_primitiveLeftShift_19 hv o rfl (by omega) (by omega) ?_
  refine V.topi (x' := bM X n 0) (congrArg iZ (hW 0 hpn)) ?_
  refine v_istore E dJ26_primitiveLeftShift_20 (zlt hL rfl) (lv' := [(5, vi (bM X n 0)), (4, vi (o : Int)), (3, vi (32 - (s : Int))), (2, .ref v), (0, .ref a), (1, vi (s : Int))]) rfl ?_
  refine v_iload E 1 rfl dJ26_primitiveLeftShift_22 ?_
  refine v_aload_n E 4 rfl dJ26_primitiveLeftShift_24 ?_
  refine v_getf E in_J26 hoa (ci := 9) rfl 1 (by decide) q1173 rfl (v := vi (n : Int)) rfl dJ26_primitiveLeftShift_25 ?_
  refine v_iadd E dJ26_primitiveLeftShift_28 ?_
  refine v_iconst E dJ26_primitiveLeftShift_29 ?_
  refine v_isub E dJ26_primitiveLeftShift_30 ?_
  refine v_istore E dJ26_primitiveLeftShift_31 (zlt hL rfl) (lv' := [(6, vi (((o : Int) + (n : Int)) - 1)), (5, vi (bM X n 0)), (4, vi (o : Int)), (3, vi (32 - (s : Int))), (2, .ref v), (0, .ref a), (1, vi (s : Int))]) rfl ?_
  have loop_33 : ∀ (m_33 : Nat) (H : Heap) (k : Nat) (f1 : Nat → Int) (u : Int), n - k < m_33 → (k < n) → (u = (o : Int) + (k : Int)) → ((∀ j, j < k → f1 (o + j) = bM (X * 2 ^ s) n j) ∧ ∀ j, k ≤ j → j < n → f1 (o + j) = bM X n j) → hp κ H a (.inr (9, [.ref v, vi (n : Int), vi (o : Int)])) → hp κ H v (eI κ cap f1) → V z H 0 0 33 [(4, vi u), (5, vi (bM X n k)), (6, vi ((o : Int) + (n : Int) - 1)), (3, vi (32 - (s : Int))), (2, .ref v), (1, vi (s : Int)), (0, .ref a)] [] := by
    intro m_33
    induction m_33 with
    | zero => intro H k f1 u hm; exact absurd hm (by omega)
    | succ m_33 ih_33 =>
      intro H k f1 u hm_33 hk hu hf hoa hv
      refine v_iload E 0 rfl dJ26_primitiveLeftShift_33 ?_
      refine v_iload E 2 rfl dJ26_primitiveLeftShift_35 ?_
      refine v_icmp_ge E (tgt := 71) dJ26_primitiveLeftShift_37 (by decide) ⟨by omega, by omega⟩ ⟨by omega, by omega⟩ (fun c_37 => ?_) (fun c_37 => ?_)
      · have ek : k = n - 1 := by omega
        refine v_aload_n E 4 rfl dJ26_primitiveLeftShift_71 ?_
        refine v_aload_n E 6 rfl dJ26_primitiveLeftShift_72 ?_
        refine v_getf E in_J26 hoa (ci := 9) rfl 2 (by decide) q1174 rfl (v := vi (o : Int)) rfl dJ26_primitiveLeftShift_73 ?_
        refine v_aload_n E 6 rfl dJ26_primitiveLeftShift_76 ?_
        refine v_getf E in_J26 hoa (ci := 9) rfl 1 (by decide) q1173 rfl (v := vi (n : Int)) rfl dJ26_primitiveLeftShift_77 ?_
        refine v_iadd E dJ26_primitiveLeftShift_80 ?_
        refine v_iconst E dJ26_primitiveLeftShift_81 ?_
        refine v_isub E dJ26_primitiveLeftShift_82 ?_
        refine v_dup2 E rfl rfl dJ26_primitiveLeftShift_83 ?_
        refine v_iald E dJ26_primitiveLeftShift_84 hv (o + k) (by omega) (by omega) (by omega) ?_
        refine v_iload_n E 5 rfl dJ26_primitiveLeftShift_85 ?_
        refine v_ishl E s (by omega) dJ26_primitiveLeftShift_86 ?_
        refine V.topi (x' := dg (X * 2 ^ s) (n - 1 - k)) (by rw [hf.2 k (Nat.le_refl _) hk, ek, Nat.sub_self]; exact sh_last) ?_
        refine v_iast E dJ26_primitiveLeftShift_87 hv (o + k) (by omega) (by omega) (by omega) (hAll _ rfl) (fun H_3 hv_1 hs_2 => ?_)
        have hoa_4 := hoa.same hs_2 (Ne.symm hne_v_a)
        refine v_vret E hE dJ26_primitiveLeftShift_88 ?_
        exact ⟨rfl, _, hv_1, fun j hj => (pl_s (by omega) hf).1 j (by omega)⟩
      · refine v_iload E 1 rfl dJ26_primitiveLeftShift_40 ?_
        refine v_istore E dJ26_primitiveLeftShift_42 (zlt hL rfl) (lv' := [(7, vi (bM X n k)), (4, vi u), (5, vi (bM X n k)), (6, vi ((o : Int) + (n : Int) - 1)), (3, vi (32 - (s : Int))), (2, .ref v), (1, vi (s : Int)), (0, .ref a)]) rfl ?_
        refine v_aload_n E 5 rfl dJ26_primitiveLeftShift_44 ?_
        refine v_iload E 1 rfl dJ26_primitiveLeftShift_45 ?_
        refine v_iconst E dJ26_primitiveLeftShift_47 ?_
        refine v_iadd E dJ26_primitiveLeftShift_48 ?_
        refine v_iald E dJ26_primitiveLeftShift_49 hv (o + (k + 1)) (by omega) (by omega) (by omega) ?_
        refine V.topi (x' := bM X n (k + 1)) (congrArg iZ (hf.2 (k + 1) (by omega) (by omega))) ?_
        refine v_istore E dJ26_primitiveLeftShift_50 (zlt hL rfl) (lv' := [(5, vi (bM X n (k + 1))), (7, vi (bM X n k)), (4, vi u), (6, vi ((o : Int) + (n : Int) - 1)), (3, vi (32 - (s : Int))), (2, .ref v), (1, vi (s : Int)), (0, .ref a)]) rfl ?_
        refine v_aload_n E 5 rfl dJ26_primitiveLeftShift_52 ?_
        refine v_iload E 2 rfl dJ26_primitiveLeftShift_53 ?_
        refine v_iload E 1 rfl dJ26_primitiveLeftShift_55 ?_
        refine v_iload_n E 6 rfl dJ26_primitiveLeftShift_57 ?_
        refine v_ishl E s (by omega) dJ26_primitiveLeftShift_58 ?_
        refine v_iload E 0 rfl dJ26_primitiveLeftShift_59 ?_
        refine v_iload_n E 4 rfl dJ26_primitiveLeftShift_61 ?_
        refine V.topi (x' := ((32 - s : Nat) : Int)) (congrArg iZ (by omega)) ?_
        refine v_iushr E (32 - s) (by omega) dJ26_primitiveLeftShift_62 ?_
        refine v_ior E (c := dg (X * 2 ^ s) (n - 1 - k)) (shl_or hs (by omega)) dJ26_primitiveLeftShift_63 ?_
        refine v_iast E dJ26_primitiveLeftShift_64 hv (o + k) (by omega) (by omega) (by omega) (hAll _ rfl) (fun H_7 hv_5 hs_6 => ?_)
        have hoa_8 := hoa.same hs_6 (Ne.symm hne_v_a)
        refine v_iinc E 2 rfl dJ26_primitiveLeftShift_65 (zlt hL rfl) (lv' := [(4, vi (u + 1)), (5, vi (bM X n (k + 1))), (7, vi (bM X n k)), (6, vi ((o : Int) + (n : Int) - 1)), (3, vi (32 - (s : Int))), (2, .ref v), (1, vi (s : Int)), (0, .ref a)]) rfl ?_
        refine v_goto E (tgt := 33) dJ26_primitiveLeftShift_68 (by decide) ?_
        refine V.sub [0, 1, 3, 4, 5, 6, 7] (lv' := [(4, vi (u + 1)), (5, vi (bM X n (k + 1))), (6, vi ((o : Int) + (n : Int) - 1)), (3, vi (32 - (s : Int))), (2, .ref v), (1, vi (s : Int)), (0, .ref a)]) rfl ?_
        exact ih_33  H_7 (k + 1) _ _ (by omega) (by omega) (by omega) (pl_s (by omega) hf) hoa_8 hv_5
  refine V.sub [2, 1, 0, 3, 4, 6, 5] (lv' := [(4, vi (o : Int)), (5, vi (bM X n 0)), (6, vi (((o : Int) + (n : Int)) - 1)), (3, vi (32 - (s : Int))), (2, .ref v), (1, vi (s : Int)), (0, .ref a)]) rfl ?_
  exact loop_33 (n + 1) H0 0 f _ (by omega) hpn (by omega) ⟨fun j hj => absurd hj (by omega), fun j _ hj => hW j hj⟩ hoa hv

set_option maxHeartbeats 400000 in
set_option maxRecDepth 100000 in
/-- a shift to the right in place -/
theorem h_prs (κ : zK) (H0 : Heap) {a v o n cap : Nat} {f : Nat → Int} {X : Int} {s : Nat} (hD : zDist κ) (hs1 : 1 ≤ s) (hs : s ≤ 31) (hpn : 0 < n) (hM : MI κ H0 a v o n cap f X)  : Mt κ yJ26_primitiveRightShift cJ26_primitiveRightShift 7 (none) 0 0 0 0 H0 [.ref a, vi (s : Int)] (fun q => q = v) (fun v9 H1 => v9 = none ∧ ∃ f1 : Nat → Int, hp κ H1 v (eI κ cap f1) ∧ ∀ k, k < n → f1 (o + k) = bM (X / 2 ^ s) n k) := by
  refine Mt.of (by decide) (Nat.le_of_ble_eq_true rfl) ?_
  intro z E hE hH0 hA0 hL hini
  have hAll : ∀ q, (fun q => q = v) q → zA z.A z.H0 q := fun q h => Or.inl (by rw [hA0]; exact h)
  have hNew : ∀ q, H0.size ≤ q → zA z.A z.H0 q := fun q h => Or.inr (by rw [hH0]; exact h)
  have E : zOK z cJ26_primitiveRightShift RJ26 κ 0 0 (none) := E
  refine V.eqL (lv' := [(0, .ref a), (1, vi (s : Int))]) rfl ?_
  obtain ⟨hoa, hv, hcap, hc2, hW, hX0, hX1⟩ := hM
  have hne_v_a : v ≠ a := Ne.symm (hp.ka hD hoa hv (by decide) (by decide))
  refine v_aload_n E 0 rfl dJ26_primitiveRightShift_0 ?_
  refine v_getf E in_J26 hoa (ci := 9) rfl 0 (by decide) q1172 rfl (v := .ref v) rfl dJ26_primitiveRightShift_1 ?_
  refine v_astore_n E dJ26_primitiveRightShift_4 (zlt hL rfl) (lv' := [(2, .ref v), (0, .ref a), (1, vi (s : Int))]) rfl ?_
  refine v_bipush E ⟨by decide, by decide⟩ dJ26_primitiveRightShift_5 ?_
  refine v_iload_n E 2 rfl dJ26_primitiveRightShift_7 ?_
  refine v_isub E dJ26_primitiveRightShift_8 ?_
  refine v_istore_n E dJ26_primitiveRightShift_9 (zlt hL rfl) (lv' := [(3, vi (32 - (s : Int))), (2, .ref v), (0, .ref a), (1, vi (s : Int))]) rfl ?_
  refine v_aload_n E 2 rfl dJ26_primitiveRightShift_10 ?_
  refine v_getf E in_J26 hoa (ci := 9) rfl 2 (by decide) q1174 rfl (v := vi (o : Int)) rfl dJ26_primitiveRightShift_11 ?_
  refine v_aload_n E 2 rfl dJ26_primitiveRightShift_14 ?_
  refine v_getf E in_J26 hoa (ci := 9) rfl 1 (by decide) q1173 rfl (v := vi (n : Int)) rfl dJ26_primitiveRightShift_15 ?_
  refine v_iadd E dJ26_primitiveRightShift_18 ?_
  refine v_iconst E dJ26_primitiveRightShift_19 ?_
  refine v_isub E dJ26_primitiveRightShift_20 ?_
  refine v_istore E dJ26_primitiveRightShift_21 (zlt hL rfl) (lv' := [(4, vi (((o : Int) + (n : Int)) - 1)), (3, vi (32 - (s : Int))), (2, .ref v), (0, .ref a), (1, vi (s : Int))]) rfl ?_
  refine v_aload_n E 2 rfl dJ26_primitiveRightShift_23 ?_
  refine v_iload E 0 rfl dJ26_primitiveRightShift_24 ?_
  refine v_iald E dJ26_primitiveRightShift_26 hv (o + (n - 1 - 0)) (by omega) (by omega) (by omega) ?_
  refine V.topi (x' := dg X 0) (congrArg iZ ((hW (n - 1 - 0) (by omega)).trans (bM_s hpn))) ?_
  refine v_istore E dJ26_primitiveRightShift_27 (zlt hL rfl) (lv' := [(5, vi (dg X 0)), (4, vi (((o : Int) + (n : Int)) - 1)), (3, vi (32 - (s : Int))), (2, .ref v), (0, .ref a), (1, vi (s : Int))]) rfl ?_
  have loop_29 : ∀ (m_29 : Nat) (H : Heap) (k : Nat) (f1 : Nat → Int) (u : Int), n - k < m_29 → (k < n) → (u = (o : Int) + (n : Int) - 1 - (k : Int)) → ((∀ j, n - k ≤ j → j < n → f1 (o + j) = bM (X / 2 ^ s) n j) ∧ ∀ j, j < n - k → f1 (o + j) = bM X n j) → hp κ H a (.inr (9, [.ref v, vi (n : Int), vi (o : Int)])) → hp κ H v (eI κ cap f1) → V z H 0 0 29 [(4, vi u), (5, vi (dg X k)), (3, vi (32 - (s : Int))), (2, .ref v), (1, vi (s : Int)), (0, .ref a)] [] := by
    intro m_29
    induction m_29 with
    | zero => intro H k f1 u hm; exact absurd hm (by omega)
    | succ m_29 ih_29 =>
      intro H k f1 u hm_29 hk hu hf hoa hv
      refine v_iload E 0 rfl dJ26_primitiveRightShift_29 ?_
      refine v_aload_n E 5 rfl dJ26_primitiveRightShift_31 ?_
      refine v_getf E in_J26 hoa (ci := 9) rfl 2 (by decide) q1174 rfl (v := vi (o : Int)) rfl dJ26_primitiveRightShift_32 ?_
      refine v_icmp_le E (tgt := 69) dJ26_primitiveRightShift_35 (by decide) ⟨by omega, by omega⟩ ⟨by omega, by omega⟩ (fun c_35 => ?_) (fun c_35 => ?_)
      · refine v_aload_n E 3 rfl dJ26_primitiveRightShift_69 ?_
        refine v_aload_n E 5 rfl dJ26_primitiveRightShift_70 ?_
        refine v_getf E in_J26 hoa (ci := 9) rfl 2 (by decide) q1174 rfl (v := vi (o : Int)) rfl dJ26_primitiveRightShift_71 ?_
        refine v_dup2 E rfl rfl dJ26_primitiveRightShift_74 ?_
        refine v_iald E dJ26_primitiveRightShift_75 hv o rfl (by omega) (by omega) ?_
        refine v_iload_n E 4 rfl dJ26_primitiveRightShift_76 ?_
        refine v_iushr E s (by omega) dJ26_primitiveRightShift_77 ?_
        have ek : k = n - 1 := by omega
        have eo : f1 o = dg X k := ((congrArg f1 (show o = o + (n - 1 - k) by omega)).trans (hf.2 (n - 1 - k) (by omega))).trans (bM_s hk)
        refine V.topi (x' := dg (X / 2 ^ s) k) (by rw [eo, ek]; exact shr_top hs hpn hX0 hX1) ?_
        refine v_iast E dJ26_primitiveRightShift_78 hv (o + (n - 1 - k)) (by omega) (by omega) (by omega) (hAll _ rfl) (fun H_3 hv_1 hs_2 => ?_)
        have hoa_4 := hoa.same hs_2 (Ne.symm hne_v_a)
        refine v_vret E hE dJ26_primitiveRightShift_79 ?_
        exact ⟨rfl, _, hv_1, fun j hj => (pr_s hk hf).1 j (by omega) hj⟩
      · refine v_iload E 1 rfl dJ26_primitiveRightShift_38 ?_
        refine v_istore E dJ26_primitiveRightShift_40 (zlt hL rfl) (lv' := [(6, vi (dg X k)), (4, vi u), (5, vi (dg X k)), (3, vi (32 - (s : Int))), (2, .ref v), (1, vi (s : Int)), (0, .ref a)]) rfl ?_
        refine v_aload_n E 4 rfl dJ26_primitiveRightShift_42 ?_
        refine v_iload E 1 rfl dJ26_primitiveRightShift_43 ?_
        refine v_iconst E dJ26_primitiveRightShift_45 ?_
        refine v_isub E dJ26_primitiveRightShift_46 ?_
        refine v_iald E dJ26_primitiveRightShift_47 hv (o + (n - 1 - (k + 1))) (by omega) (by omega) (by omega) ?_
        refine V.topi (x' := dg X (k + 1)) (congrArg iZ ((hf.2 (n - 1 - (k + 1)) (by omega)).trans (bM_s (by omega)))) ?_
        refine v_istore E dJ26_primitiveRightShift_48 (zlt hL rfl) (lv' := [(5, vi (dg X (k + 1))), (6, vi (dg X k)), (4, vi u), (3, vi (32 - (s : Int))), (2, .ref v), (1, vi (s : Int)), (0, .ref a)]) rfl ?_
        refine v_aload_n E 4 rfl dJ26_primitiveRightShift_50 ?_
        refine v_iload E 2 rfl dJ26_primitiveRightShift_51 ?_
        refine v_iload E 0 rfl dJ26_primitiveRightShift_53 ?_
        refine v_iload_n E 3 rfl dJ26_primitiveRightShift_55 ?_
        refine V.topi (x' := ((32 - s : Nat) : Int)) (congrArg iZ (by omega)) ?_
        refine v_ishl E (32 - s) (by omega) dJ26_primitiveRightShift_56 ?_
        refine v_iload E 1 rfl dJ26_primitiveRightShift_57 ?_
        refine v_iload_n E 5 rfl dJ26_primitiveRightShift_59 ?_
        refine v_iushr E s (by omega) dJ26_primitiveRightShift_60 ?_
        refine v_ior E (c := dg (X / 2 ^ s) k) (shr_or hs) dJ26_primitiveRightShift_61 ?_
        refine v_iast E dJ26_primitiveRightShift_62 hv (o + (n - 1 - k)) (by omega) (by omega) (by omega) (hAll _ rfl) (fun H_7 hv_5 hs_6 => ?_)
        have hoa_8 := hoa.same hs_6 (Ne.symm hne_v_a)
        refine v_iinc E 2 rfl dJ26_primitiveRightShift_63 (zlt hL rfl) (lv' := [(4, vi (u + (-1))), (5, vi (dg X (k + 1))), (6, vi (dg X k)), (3, vi (32 - (s : Int))), (2, .ref v), (1, vi (s : Int)), (0, .ref a)]) rfl ?_
        refine v_goto E (tgt := 29) dJ26_primitiveRightShift_66 (by decide) ?_
        refine V.sub [0, 1, 3, 4, 5, 6] (lv' := [(4, vi (u + (-1))), (5, vi (dg X (k + 1))), (3, vi (32 - (s : Int))), (2, .ref v), (1, vi (s : Int)), (0, .ref a)]) rfl ?_
        exact ih_29  H_7 (k + 1) _ _ (by omega) (by omega) (by omega) (pr_s (by omega) hf) hoa_8 hv_5
  refine V.sub [1, 0, 2, 3, 5, 4] (lv' := [(4, vi (((o : Int) + (n : Int)) - 1)), (5, vi (dg X 0)), (3, vi (32 - (s : Int))), (2, .ref v), (1, vi (s : Int)), (0, .ref a)]) rfl ?_
  exact loop_29 (n + 1) H0 0 f _ (by omega) hpn (by omega) ⟨fun j h1 h2 => absurd h2 (by omega), fun j hj => hW j (by omega)⟩ hoa hv
