/-! BIG INTEGERS: shifts to the left -/
theorem shl_or {X : Int} {n t b : Nat} (hb : b ≤ 31) (ht : t + 1 < n) : iZ (bM X n t * 2 ^ b) ||| iZ ((bM X n (t + 1) % 4294967296) / 2 ^ (32 - b)) = iZ (dg (X * 2 ^ b) (n - 1 - t)) := by
  have h1 : bM X n t = dg X (n - 2 - t + 1) := by unfold bM; rw [show n - 1 - t = n - 2 - t + 1 by omega]
  have h2 : bM X n (t + 1) = dg X (n - 2 - t) := by unfold bM; rw [show n - 1 - (t + 1) = n - 2 - t by omega]
  rw [h1, h2, dg_m, show n - 1 - t = n - 2 - t + 1 by omega, dg_shl1 X b (by omega)]
  rw [iZ_or (Int.ediv_nonneg (dg_in _ _).1 (Int.le_of_lt (p2 _))) (lo_lt b hb (dg_in _ _).2) (by omega)]
  exact (iZ_mod _).symm
theorem shl_hi {X : Int} {n b : Nat} (hb : b ≤ 31) (h0 : 0 ≤ X) (hn : isInts X n) (hp : 0 < n) : (bM X n 0 % 4294967296) / 2 ^ (32 - b) = dg (X * 2 ^ b) n := by
  have h1 : dg X n = 0 := dg_hi h0 hn.2.1 (Nat.le_refl n)
  have h2 := dg_in X (n - 1)
  have h3 := ush_in (32 - b) h2.1
  unfold bM
  rw [dg_m, Nat.sub_zero]
  conv => rhs; rw [show n = n - 1 + 1 by omega, dg_shl1 X b (by omega), show n - 1 + 1 = n by omega, h1, Int.zero_mul, Int.zero_add]
  exact (Int.emod_eq_of_lt h3.1 (by omega)).symm
theorem shl_lt {X : Int} {n b : Nat} (hb : b ≤ 31) (h0 : 0 ≤ X) (hn : isInts X n) : X * 2 ^ b < 2 ^ (32 * (n + 1)) := by
  have h1 := Int.mul_lt_mul_of_pos_right hn.2.1 (p2 b)
  rw [← Int.pow_add] at h1
  exact Int.lt_of_lt_of_le h1 (pw_mono (by omega))
theorem sB.n {Z : Int} {l : Nat} (h : sB Z) (hl : 0 < l → 2 ^ (32 * (l - 1)) ≤ Z) : l ≤ 48 := by
  rcases Nat.eq_zero_or_pos l with e | e
  · omega
  · have := pw_lt (Int.lt_of_le_of_lt (hl e) (show Z < 2 ^ (32 * 48) from h))
    omega
theorem le_mul_pow {X : Int} (h0 : 0 ≤ X) (b : Nat) : X ≤ X * 2 ^ b := by
  have h1 : (1 : Int) ≤ 2 ^ b := p2 b
  have h2 := Int.mul_le_mul_of_nonneg_left h1 h0
  rwa [Int.mul_one] at h2
theorem ints_sh0 {X : Int} {n b : Nat} (hb : b ≤ 31) (h0 : 0 ≤ X) (hn : isInts X n) (hd : dg (X * 2 ^ b) n = 0) : isInts (X * 2 ^ b) n :=
  ⟨hn.1, dg_top (Int.mul_nonneg h0 (Int.le_of_lt (p2 b))) (shl_lt hb h0 hn) hd, fun hp => Int.le_trans (hn.2.2 hp) (le_mul_pow h0 b)⟩
theorem ints_sh1 {X : Int} {n b : Nat} (hb : b ≤ 31) (h0 : 0 ≤ X) (hn : isInts X n) (hs : sB (X * 2 ^ b)) (hd : ¬ dg (X * 2 ^ b) n = 0) : isInts (X * 2 ^ b) (n + 1) := by
  have h1 : 2 ^ (32 * n) ≤ X * 2 ^ b := top_ge (Int.mul_nonneg h0 (Int.le_of_lt (p2 b))) hd
  exact ⟨hs.n (fun _ => h1), shl_lt hb h0 hn, fun _ => h1⟩
theorem ints_far {Y : Int} {l u : Nat} (hl : isInts Y l) (hp : 0 < l) (hs : sB (Y * 2 ^ (32 * u))) : isInts (Y * 2 ^ (32 * u)) (l + u) := by
  have h1 : (2 : Int) ^ (32 * (l + u - 1)) ≤ Y * 2 ^ (32 * u) := by
    rw [show 32 * (l + u - 1) = 32 * (l - 1) + 32 * u by omega, Int.pow_add]
    exact Int.mul_le_mul_of_nonneg_right (hl.2.2 hp) (Int.le_of_lt (p2 _))
  refine ⟨hs.n (fun _ => h1), ?_, fun _ => h1⟩
  rw [show 32 * (l + u) = 32 * l + 32 * u by omega, Int.pow_add]
  exact Int.mul_lt_mul_of_pos_right hl.2.1 (p2 _)
theorem far_fin {f : Nat → Int} {Y : Int} {l u : Nat} (hf : ∀ j, j < l → iZ (f j) = iZ (bM Y l j)) (hz : ∀ j, l ≤ j → j < l + u → f j = 0) : ∀ j, j < l + u → iZ (f j) = iZ (bM (Y * 2 ^ (32 * u)) (l + u) j) := by
  intro j hj
  by_cases c : j < l
  · rw [hf j c]
    unfold bM
    rw [show l + u - 1 - j = u + (l - 1 - j) by omega, dg_far]
  · rw [hz j (by omega) hj]
    unfold bM
    have := dg_shl_lo Y u 0 (l + u - 1 - j) (by decide) (by omega)
    rw [Nat.add_zero] at this
    rw [this]
theorem pow_far (X : Int) (u b : Nat) : X * 2 ^ (32 * u + b) = X * 2 ^ b * 2 ^ (32 * u) := by rw [Nat.add_comm, Int.pow_add, Int.mul_assoc]
theorem sh_last {X : Int} {n b : Nat} : iZ (bM X n (n - 1) * 2 ^ b) = iZ (dg (X * 2 ^ b) 0) := by
  unfold bM
  rw [Nat.sub_self, dg_shl0]
  exact (iZ_mod _).symm
theorem sB.part {X : Int} {u b : Nat} (h0 : 0 ≤ X) (h : sB (X * 2 ^ b * 2 ^ (32 * u))) : sB (X * 2 ^ b) := Int.lt_of_le_of_lt (le_mul_pow (Int.mul_nonneg h0 (Int.le_of_lt (p2 b))) _) h
theorem wk_s {f f0 : Nat → Int} {Y : Int} {n i t : Nat} (hf : (∀ j, j < t → iZ (f (i + j)) = iZ (dg Y (n - 1 - j))) ∧ ∀ j, j < i ∨ i + t ≤ j → f j = f0 j) :
    (∀ j, j < t + 1 → iZ (va_up f (i + t) (dg Y (n - 1 - t)) (i + j)) = iZ (dg Y (n - 1 - j))) ∧ ∀ j, j < i ∨ i + (t + 1) ≤ j → va_up f (i + t) (dg Y (n - 1 - t)) j = f0 j := by
  refine ⟨fun j hj => ?_, fun j hj => ?_⟩
  · by_cases e : j = t
    · rw [e, va_up_self]
    · rw [va_up_ne _ _ (by omega)]; exact hf.1 j (by omega)
  · rw [va_up_ne _ _ (by omega)]; exact hf.2 j (by omega)
set_option maxHeartbeats 400000 in
set_option maxRecDepth 100000 in
/-- the loop of a shift to the left -/
theorem g_shW (κ : zK) (H0 : Heap) {a d n r i b w : Nat} {f0 : Nat → Int} {X : Int} (hb1 : 1 ≤ b) (hb : b ≤ 31) (hw : w + 1 ≤ n) (hir : i + w ≤ r) (hn : n ≤ 1000) (hr : r ≤ 1000) (hne_a_d : a ≠ d) (ha : hp κ H0 a (eI κ n (bM X n))) (hq : hp κ H0 d (eI κ r f0)) : Mt κ yJ16_shiftLeftImplWorker cJ16_shiftLeftImplWorker 7 (none) 0 0 0 0 H0 [.ref d, .ref a, vi (i : Int), vi (b : Int), vi (w : Int)] (fun q => q = d) (fun v H1 => v = none ∧ ∃ f : Nat → Int, hp κ H1 d (eI κ r f) ∧ (∀ j, j < w → iZ (f (i + j)) = iZ (dg (X * 2 ^ b) (n - 1 - j))) ∧ ∀ j, j < i ∨ i + w ≤ j → f j = f0 j) := by
  refine Mt.of (by decide) (Nat.le_of_ble_eq_true rfl) ?_
  intro z E hE hH0 hA0 hL hini
  have hAll : ∀ q, (fun q => q = d) q → zA z.A z.H0 q := fun q h => Or.inl (by rw [hA0]; exact h)
  have hNew : ∀ q, H0.size ≤ q → zA z.A z.H0 q := fun q h => Or.inr (by rw [hH0]; exact h)
  have E : zOK z cJ16_shiftLeftImplWorker RJ16 κ 0 0 (none) := E
  refine V.eqL (lv' := [(0, .ref d), (1, .ref a), (2, vi (i : Int)), (3, vi (b : Int)), (4, vi (w : Int))]) rfl ?_
  refine v_bipush E ⟨by decide, by decide⟩ dJ16_shiftLeftImplWorker_0 ?_
  refine v_iload_n E 3 rfl dJ16_shiftLeftImplWorker_2 ?_
  refine v_isub E dJ16_shiftLeftImplWorker_3 ?_
  refine v_istore E dJ16_shiftLeftImplWorker_4 (zlt hL rfl) (lv' := [(5, vi (32 - (b : Int))), (0, .ref d), (1, .ref a), (2, vi (i : Int)), (3, vi (b : Int)), (4, vi (w : Int))]) rfl ?_
  refine v_iconst E dJ16_shiftLeftImplWorker_6 ?_
  refine v_istore E dJ16_shiftLeftImplWorker_7 (zlt hL rfl) (lv' := [(6, vi 0), (5, vi (32 - (b : Int))), (0, .ref d), (1, .ref a), (2, vi (i : Int)), (3, vi (b : Int)), (4, vi (w : Int))]) rfl ?_
  have loop_9 : ∀ (m_9 : Nat) (H : Heap) (t : Nat) (f : Nat → Int) (v : Int), w - t < m_9 → (t ≤ w) → (v = (i : Int) + (t : Int)) → ((∀ j, j < t → iZ (f (i + j)) = iZ (dg (X * 2 ^ b) (n - 1 - j))) ∧ ∀ j, j < i ∨ i + t ≤ j → f j = f0 j) → hp κ H a (eI κ n (bM X n)) → hp κ H d (eI κ r f) → V z H 0 0 9 [(6, vi (t : Int)), (2, vi v), (5, vi (32 - (b : Int))), (4, vi (w : Int)), (3, vi (b : Int)), (1, .ref a), (0, .ref d)] [] := by
    intro m_9
    induction m_9 with
    | zero => intro H t f v hm; exact absurd hm (by omega)
    | succ m_9 ih_9 =>
      intro H t f v hm_9 ht hv hf ha hq
      refine v_iload E 0 rfl dJ16_shiftLeftImplWorker_9 ?_
      refine v_iload E 3 rfl dJ16_shiftLeftImplWorker_11 ?_
      refine v_icmp_ge E (tgt := 42) dJ16_shiftLeftImplWorker_13 (by decide) ⟨by omega, by omega⟩ ⟨by omega, by omega⟩ (fun c_13 => ?_) (fun c_13 => ?_)
      · refine v_vret E hE dJ16_shiftLeftImplWorker_42 ?_
        obtain rfl : w = t := by omega
        exact ⟨rfl, f, hq, hf⟩
      · refine v_aload_n E 6 rfl dJ16_shiftLeftImplWorker_16 ?_
        refine v_iload_n E 1 rfl dJ16_shiftLeftImplWorker_17 ?_
        refine v_iinc E 1 rfl dJ16_shiftLeftImplWorker_18 (zlt hL rfl) (lv' := [(2, vi (v + 1)), (6, vi (t : Int)), (5, vi (32 - (b : Int))), (4, vi (w : Int)), (3, vi (b : Int)), (1, .ref a), (0, .ref d)]) rfl ?_
        refine v_aload_n E 5 rfl dJ16_shiftLeftImplWorker_21 ?_
        refine v_iload E 1 rfl dJ16_shiftLeftImplWorker_22 ?_
        refine v_iinc E 1 rfl dJ16_shiftLeftImplWorker_24 (zlt hL rfl) (lv' := [(6, vi ((t : Int) + 1)), (2, vi (v + 1)), (5, vi (32 - (b : Int))), (4, vi (w : Int)), (3, vi (b : Int)), (1, .ref a), (0, .ref d)]) rfl ?_
        refine v_iald E dJ16_shiftLeftImplWorker_27 ha t (by omega) (by omega) (by omega) ?_
        refine v_iload_n E 4 rfl dJ16_shiftLeftImplWorker_28 ?_
        refine v_ishl E b (by omega) dJ16_shiftLeftImplWorker_29 ?_
        refine v_aload_n E 5 rfl dJ16_shiftLeftImplWorker_30 ?_
        refine v_iload E 0 rfl dJ16_shiftLeftImplWorker_31 ?_
        refine v_iald E dJ16_shiftLeftImplWorker_33 ha (t + 1) (by omega) (by omega) (by omega) ?_
        refine v_iload E 2 rfl dJ16_shiftLeftImplWorker_34 ?_
        refine V.topi (x' := ((32 - b : Nat) : Int)) (congrArg iZ (by omega)) ?_
        refine v_iushr E (32 - b) (by omega) dJ16_shiftLeftImplWorker_36 ?_
        refine v_ior E (c := dg (X * 2 ^ b) (n - 1 - t)) (shl_or hb (by omega)) dJ16_shiftLeftImplWorker_37 ?_
        refine v_iast E dJ16_shiftLeftImplWorker_38 hq (i + t) (by omega) (by omega) (by omega) (hAll _ rfl) (fun H_3 hq_1 hs_2 => ?_)
        have ha_4 := ha.same hs_2 hne_a_d
        refine v_goto E (tgt := 9) dJ16_shiftLeftImplWorker_39 (by decide) ?_
        exact ih_9  H_3 (t + 1) _ _ (by omega) (by omega) (by omega) (wk_s hf) ha_4 hq_1
  refine V.sub [0, 4, 1, 6, 5, 3, 2] (lv' := [(6, vi 0), (2, vi (i : Int)), (5, vi (32 - (b : Int))), (4, vi (w : Int)), (3, vi (b : Int)), (1, .ref a), (0, .ref d)]) rfl ?_
  exact loop_9 (w + 1) H0 0 f0 _ (by omega) (by omega) (by omega) ⟨fun j hj => absurd hj (by omega), fun j hj => rfl⟩ ha hq

set_option maxHeartbeats 400000 in
set_option maxRecDepth 100000 in
theorem g_ckF4 (κ : zK) (H0 : Heap) {i j n : Int} (h0 : 0 ≤ i ∧ i ≤ j ∧ j ≤ n ∧ n ≤ 100000) : Mt κ yJ4_checkFromToIndex cJ4_checkFromToIndex 4 (some .int) 0 0 0 0 H0 [vi i, vi j, vi n, .null] (fun _ => False) (fun v H1 => v = some (vi i)) := by
  refine Mt.of (by decide) (Nat.le_of_ble_eq_true rfl) ?_
  intro z E hE hH0 hA0 hL hini
  have hAll : ∀ q, (fun _ => False) q → zA z.A z.H0 q := fun q h => Or.inl (by rw [hA0]; exact h)
  have hNew : ∀ q, H0.size ≤ q → zA z.A z.H0 q := fun q h => Or.inr (by rw [hH0]; exact h)
  have E : zOK z cJ4_checkFromToIndex RJ4 κ 0 0 (some .int) := E
  refine V.eqL (lv' := [(0, vi i), (1, vi j), (2, vi n), (3, .null)]) rfl ?_
  refine v_iload_n E 0 rfl dJ4_checkFromToIndex_0 ?_
  refine v_if_lt E (tgt := 14) dJ4_checkFromToIndex_1 (by decide) ⟨by omega, by omega⟩ (fun c_1 => absurd c_1 (by omega)) (fun c_1 => ?_)
  refine v_iload_n E 0 rfl dJ4_checkFromToIndex_4 ?_
  refine v_iload_n E 1 rfl dJ4_checkFromToIndex_5 ?_
  refine v_icmp_gt E (tgt := 14) dJ4_checkFromToIndex_6 (by decide) ⟨by omega, by omega⟩ ⟨by omega, by omega⟩ (fun c_6 => absurd c_6 (by omega)) (fun c_6 => ?_)
  refine v_iload_n E 1 rfl dJ4_checkFromToIndex_9 ?_
  refine v_iload_n E 2 rfl dJ4_checkFromToIndex_10 ?_
  refine v_icmp_le E (tgt := 22) dJ4_checkFromToIndex_11 (by decide) ⟨by omega, by omega⟩ ⟨by omega, by omega⟩ (fun c_11 => ?_) (fun c_11 => absurd c_11 (by omega))
  refine v_iload_n E 0 rfl dJ4_checkFromToIndex_22 ?_
  refine v_iret E hE dJ4_checkFromToIndex_23 ?_
  rfl

set_option maxHeartbeats 400000 in
set_option maxRecDepth 100000 in
theorem g_ckF3 (κ : zK) (H0 : Heap) {i j n : Int} (h0 : 0 ≤ i ∧ i ≤ j ∧ j ≤ n ∧ n ≤ 100000) : Mt κ yJ3_checkFromToIndex cJ3_checkFromToIndex 3 (some .int) 1 23 0 0 H0 [vi i, vi j, vi n] (fun _ => False) (fun v H1 => v = some (vi i)) := by
  refine Mt.of (by decide) (Nat.le_of_ble_eq_true rfl) ?_
  intro z E hE hH0 hA0 hL hini
  have hAll : ∀ q, (fun _ => False) q → zA z.A z.H0 q := fun q h => Or.inl (by rw [hA0]; exact h)
  have hNew : ∀ q, H0.size ≤ q → zA z.A z.H0 q := fun q h => Or.inr (by rw [hH0]; exact h)
  have E : zOK z cJ3_checkFromToIndex RJ3 κ 1 23 (some .int) := E
  refine V.eqL (lv' := [(0, vi i), (1, vi j), (2, vi n)]) rfl ?_
  refine v_iload_n E 0 rfl dJ3_checkFromToIndex_0 ?_
  refine v_iload_n E 1 rfl dJ3_checkFromToIndex_1 ?_
  refine v_iload_n E 2 rfl dJ3_checkFromToIndex_2 ?_
  refine v_null E dJ3_checkFromToIndex_3 ?_
  refine v_callS E (As := [vi i, vi j, vi n, .null]) (g_ckF4 κ H0 h0) (lw_S q1012 q816 q77 q817) 4 (by decide +kernel) rfl (by decide) (by decide) (cb' := 0) (sb' := 0) (by decide) (by decide) rfl (rest := []) (Nat.le_of_ble_eq_true rfl) (fun q h => h.elim) dJ3_checkFromToIndex_4 (fun v_1 H_2 hpost_3 hz_4 hk_5 => ?_)
  clear hz_4
  obtain rfl := hpost_3
  refine V.eq (st' := [vi i]) rfl ?_
  refine v_iret E hE dJ3_checkFromToIndex_7 ?_
  rfl

set_option maxHeartbeats 1000000 in
set_option maxRecDepth 100000 in
/-- an array shifted to the left -/
theorem g_shA (κ : zK) (H0 : Heap) {a n u b : Nat} {X : Int} (hb : b ≤ 31) (hu : u ≤ 48) (hX0 : 0 < X) (hn : isInts X n) (hs : sB (X * 2 ^ (32 * u + b))) (ha : hp κ H0 a (eI κ n (bM X n))) : Mt κ yJ16_shiftLeft_2 cJ16_shiftLeft_2 10 (some (.array .int)) 2 45 1 (n + u + 1) H0 [.ref a, vi ((32 * u + b : Nat) : Int)] (fun _ => False) (fun v H1 => ∃ (q r : Nat), v = some (.ref q) ∧ hp κ H1 q (eI κ r (bM (X * 2 ^ (32 * u + b)) r)) ∧ isInts (X * 2 ^ (32 * u + b)) r ∧ H0.size ≤ q) := by
  refine Mt.of (by decide) (Nat.le_of_ble_eq_true rfl) ?_
  intro z E hE hH0 hA0 hL hini
  have hAll : ∀ q, (fun _ => False) q → zA z.A z.H0 q := fun q h => Or.inl (by rw [hA0]; exact h)
  have hNew : ∀ q, H0.size ≤ q → zA z.A z.H0 q := fun q h => Or.inr (by rw [hH0]; exact h)
  have E : zOK z cJ16_shiftLeft_2 RJ16 κ 2 45 (some (.array .int)) := E
  refine V.eqL (lv' := [(0, .ref a), (1, vi ((32 * u + b : Nat) : Int))]) rfl ?_
  have h48n := hn.1
  have hpn : 0 < n := by have := ints_pos (by omega) hn; omega
  refine v_iload_n E 1 rfl dJ16_shiftLeft_2_0 ?_
  refine v_iconst E dJ16_shiftLeft_2_1 ?_
  refine v_iushr E 5 (by decide) dJ16_shiftLeft_2_2 ?_
  refine V.topi (x' := (u : Int)) (congrArg iZ (by omega)) ?_
  refine v_istore_n E dJ16_shiftLeft_2_3 (zlt hL rfl) (lv' := [(2, vi (u : Int)), (0, .ref a), (1, vi ((32 * u + b : Nat) : Int))]) rfl ?_
  refine v_iload_n E 2 rfl dJ16_shiftLeft_2_4 ?_
  refine v_bipush E ⟨by decide, by decide⟩ dJ16_shiftLeft_2_5 ?_
  refine v_iand E (c := (b : Int)) (iZ_andN (a := 32 * u + b) (b := 31) (by omega) (by decide) (by rw [show 31 = 2 ^ 5 - 1 by decide, Nat.and_two_pow_sub_one_eq_mod]; omega)) dJ16_shiftLeft_2_7 ?_
  refine v_istore_n E dJ16_shiftLeft_2_8 (zlt hL rfl) (lv' := [(3, vi (b : Int)), (2, vi (u : Int)), (0, .ref a), (1, vi ((32 * u + b : Nat) : Int))]) rfl ?_
  refine v_aload_n E 2 rfl dJ16_shiftLeft_2_9 ?_
  refine v_alen E dJ16_shiftLeft_2_10 (t := 0) (ty := .int) ha rfl ?_
  refine v_istore E dJ16_shiftLeft_2_11 (zlt hL rfl) (lv' := [(4, vi (n : Int)), (3, vi (b : Int)), (2, vi (u : Int)), (0, .ref a), (1, vi ((32 * u + b : Nat) : Int))]) rfl ?_
  refine v_null E dJ16_shiftLeft_2_13 ?_
  refine v_astoreN E dJ16_shiftLeft_2_14 (zlt hL rfl) (lv' := [(5, .null), (4, vi (n : Int)), (3, vi (b : Int)), (2, vi (u : Int)), (0, .ref a), (1, vi ((32 * u + b : Nat) : Int))]) rfl ?_
  refine v_iload_n E 2 rfl dJ16_shiftLeft_2_16 ?_
  refine v_if_ne E (tgt := 41) dJ16_shiftLeft_2_17 (by decide) ⟨by omega, by omega⟩ (fun c_17 => ?_) (fun c_17 => ?_)
  · refine v_iconst E dJ16_shiftLeft_2_41 ?_
    refine v_istore E dJ16_shiftLeft_2_42 (zlt hL rfl) (lv' := [(6, vi 0), (5, .null), (4, vi (n : Int)), (3, vi (b : Int)), (2, vi (u : Int)), (0, .ref a), (1, vi ((32 * u + b : Nat) : Int))]) rfl ?_
    refine v_bipush E ⟨by decide, by decide⟩ dJ16_shiftLeft_2_44 ?_
    refine v_iload_n E 3 rfl dJ16_shiftLeft_2_46 ?_
    refine v_isub E dJ16_shiftLeft_2_47 ?_
    refine v_istore E dJ16_shiftLeft_2_48 (zlt hL rfl) (lv' := [(7, vi (32 - (b : Int))), (6, vi 0), (5, .null), (4, vi (n : Int)), (3, vi (b : Int)), (2, vi (u : Int)), (0, .ref a), (1, vi ((32 * u + b : Nat) : Int))]) rfl ?_
    refine v_aload_n E 6 rfl dJ16_shiftLeft_2_50 ?_
    refine v_iconst E dJ16_shiftLeft_2_51 ?_
    refine v_iald E dJ16_shiftLeft_2_52 ha 0 rfl (by omega) (by omega) ?_
    refine v_iload E 0 rfl dJ16_shiftLeft_2_53 ?_
    refine V.topi (x' := ((32 - b : Nat) : Int)) (congrArg iZ (by omega)) ?_
    have hb1 : 1 ≤ b := by omega
    refine v_iushr E (32 - b) (by omega) dJ16_shiftLeft_2_55 ?_
    have ehi := shl_hi hb (Int.le_of_lt hX0) hn hpn
    have hdi := dg_in (X * 2 ^ b) n
    have hdj : dg (X * 2 ^ b) n < 2147483648 := by
      rw [← ehi, Int.emod_eq_of_lt (bM_in X n 0).1 (bM_in X n 0).2]
      exact Int.lt_of_lt_of_le (lo_lt b hb (bM_in X n 0).2) (pw_mono (show b ≤ 31 from hb))
    refine V.topi (x' := dg (X * 2 ^ b) n) (congrArg iZ ehi) ?_
    refine v_istore E dJ16_shiftLeft_2_56 (zlt hL rfl) (lv' := [(8, vi (dg (X * 2 ^ b) n)), (7, vi (32 - (b : Int))), (6, vi 0), (5, .null), (4, vi (n : Int)), (3, vi (b : Int)), (2, vi (u : Int)), (0, .ref a), (1, vi ((32 * u + b : Nat) : Int))]) rfl ?_
    refine v_iload E 0 rfl dJ16_shiftLeft_2_58 ?_
    refine v_if_eq E (tgt := 86) dJ16_shiftLeft_2_60 (by decide) ⟨by omega, by omega⟩ (fun c_60 => ?_) (fun c_60 => ?_)
    · refine v_iload E 4 rfl dJ16_shiftLeft_2_86 ?_
      refine v_iload_n E 6 rfl dJ16_shiftLeft_2_88 ?_
      refine v_iadd E dJ16_shiftLeft_2_89 ?_
      refine V.frame (fun hfz_fr_1 hfk_fr_1 => ?_)
      rw [hH0] at hfz_fr_1 hfk_fr_1
      rw [hA0] at hfk_fr_1
      refine v_newI E (n := (n + u)) q511 (by omega) (by omega) (cb' := (1 - 1)) (sb' := ((n + u + 1) - (n + u))) (by omega) (by omega) dJ16_shiftLeft_2_90 (fun q_2 H_3 hq_6 hn_4 hg_5 => ?_)
      have hne_a_q_2 : a ≠ q_2 := by have := ha.lt; omega
      have ha_8 := ha.grow hg_5
      refine v_astore E dJ16_shiftLeft_2_92 (zlt hL rfl) (lv' := [(5, .ref q_2), (8, vi (dg (X * 2 ^ b) n)), (7, vi (32 - (b : Int))), (6, vi 0), (4, vi (n : Int)), (3, vi (b : Int)), (2, vi (u : Int)), (0, .ref a), (1, vi ((32 * u + b : Nat) : Int))]) rfl ?_
      refine v_iload E 4 rfl dJ16_shiftLeft_2_94 ?_
      refine v_iconst E dJ16_shiftLeft_2_96 ?_
      refine v_isub E dJ16_shiftLeft_2_97 ?_
      refine v_istore E dJ16_shiftLeft_2_98 (zlt hL rfl) (lv' := [(9, vi ((n : Int) - 1)), (5, .ref q_2), (8, vi (dg (X * 2 ^ b) n)), (7, vi (32 - (b : Int))), (6, vi 0), (4, vi (n : Int)), (3, vi (b : Int)), (2, vi (u : Int)), (0, .ref a), (1, vi ((32 * u + b : Nat) : Int))]) rfl ?_
      refine v_iconst E dJ16_shiftLeft_2_100 ?_
      refine v_iload E 0 rfl dJ16_shiftLeft_2_101 ?_
      refine v_iconst E dJ16_shiftLeft_2_103 ?_
      refine v_iadd E dJ16_shiftLeft_2_104 ?_
      refine v_aload_n E 8 rfl dJ16_shiftLeft_2_105 ?_
      refine v_alen E dJ16_shiftLeft_2_106 (t := 0) (ty := .int) ha_8 rfl ?_
      refine v_callS E (As := [vi 0, vi (((n : Int) - 1) + 1), vi (n : Int)]) (g_ckF3 κ H_3 (i := 0) (j := ((n : Int) - 1) + 1) (n := (n : Int)) ⟨by omega, by omega, by omega, by omega⟩) (lw_S q1009 q1010 q76 q1011) 3 (by decide +kernel) rfl (by decide) (by decide) (cb' := ((1 - 1) - 0)) (sb' := (((n + u + 1) - (n + u)) - 0)) (by omega) (by omega) rfl (rest := []) (Nat.le_of_ble_eq_true rfl) (fun q h => h.elim) dJ16_shiftLeft_2_107 (fun v_9 H_10 hpost_11 hz_12 hk_13 => ?_)
      clear hz_12
      obtain rfl := hpost_11
      have ha_14 := ha_8.kept (hk_13 _ ha_8.lt (fun h => h))
      have hn_15 := hn_4.kept (hk_13 _ hn_4.lt (fun h => h))
      refine V.eq (st' := [vi 0]) rfl ?_
      refine v_pop E rfl dJ16_shiftLeft_2_110 ?_
      refine v_iload E 4 rfl dJ16_shiftLeft_2_111 ?_
      refine v_iload E 0 rfl dJ16_shiftLeft_2_113 ?_
      refine v_iload E 4 rfl dJ16_shiftLeft_2_115 ?_
      refine v_iadd E dJ16_shiftLeft_2_117 ?_
      refine v_iconst E dJ16_shiftLeft_2_118 ?_
      refine v_iadd E dJ16_shiftLeft_2_119 ?_
      refine v_aload E 1 rfl dJ16_shiftLeft_2_120 ?_
      refine v_alen E dJ16_shiftLeft_2_122 (t := 0) (ty := .int) hn_15 rfl ?_
      refine v_callS E (As := [vi 0, vi ((((n : Int) - 1) + 0) + 1), vi ((n + u) : Int)]) (g_ckF3 κ H_10 (i := 0) (j := (((n : Int) - 1) + 0) + 1) (n := ((n + u) : Int)) ⟨by omega, by omega, by omega, by omega⟩) (lw_S q1009 q1010 q76 q1011) 3 (by decide +kernel) rfl (by decide) (by decide) (cb' := (((1 - 1) - 0) - 0)) (sb' := ((((n + u + 1) - (n + u)) - 0) - 0)) (by omega) (by omega) rfl (rest := []) (Nat.le_of_ble_eq_true rfl) (fun q h => h.elim) dJ16_shiftLeft_2_123 (fun v_16 H_17 hpost_18 hz_19 hk_20 => ?_)
      clear hz_19
      obtain rfl := hpost_18
      have ha_21 := ha_14.kept (hk_20 _ ha_14.lt (fun h => h))
      have hn_22 := hn_15.kept (hk_20 _ hn_15.lt (fun h => h))
      refine V.eq (st' := [vi 0]) rfl ?_
      refine v_pop E rfl dJ16_shiftLeft_2_126 ?_
      refine v_aload E 1 rfl dJ16_shiftLeft_2_127 ?_
      refine v_aload_n E 8 rfl dJ16_shiftLeft_2_129 ?_
      refine v_iload E 4 rfl dJ16_shiftLeft_2_130 ?_
      refine v_iload_n E 6 rfl dJ16_shiftLeft_2_132 ?_
      refine v_iload E 0 rfl dJ16_shiftLeft_2_133 ?_
      refine V.topi (x' := ((n - 1 : Nat) : Int)) (congrArg iZ (by omega)) ?_
      have hne_aq := hne_a_q_2
      refine v_callS E (As := [.ref q_2, .ref a, vi 0, vi (b : Int), vi ((n - 1 : Nat) : Int)]) (g_shW κ H_17 (i := 0) (w := n - 1) (n := n) (b := b) (r := (n + u)) (X := X) hb1 hb (by omega) (by omega) (by omega) (by omega) hne_aq ha_21 hn_22) (lw_S q1013 q1014 q91 q1015) 5 (by decide +kernel) rfl (by decide) (by decide) (cb' := ((((1 - 1) - 0) - 0) - 0)) (sb' := (((((n + u + 1) - (n + u)) - 0) - 0) - 0)) (by omega) (by omega) rfl (rest := []) (Nat.le_of_ble_eq_true rfl) (fun q9 h => hNew q9 (by rw [show q9 = q_2 from h]; omega)) dJ16_shiftLeft_2_135 (fun v_23 H_24 hpost_25 hz_26 hk_27 => ?_)
      clear hz_26
      obtain ⟨rfl, fw, hfw, hw1, hw2⟩ := hpost_25
      have ha_28 := ha_21.kept (hk_27 _ ha_21.lt (fun h => hne_aq h))
      refine V.eq (st' := []) rfl ?_
      refine v_aload E 1 rfl dJ16_shiftLeft_2_138 ?_
      refine v_iload E 0 rfl dJ16_shiftLeft_2_140 ?_
      refine v_iload E 4 rfl dJ16_shiftLeft_2_142 ?_
      refine v_iadd E dJ16_shiftLeft_2_144 ?_
      refine v_aload_n E 8 rfl dJ16_shiftLeft_2_145 ?_
      refine v_iload E 0 rfl dJ16_shiftLeft_2_146 ?_
      refine v_iald E dJ16_shiftLeft_2_148 ha_28 (n - 1) (by omega) (by omega) (by omega) ?_
      refine v_iload_n E 6 rfl dJ16_shiftLeft_2_149 ?_
      refine v_ishl E b (by omega) dJ16_shiftLeft_2_150 ?_
      refine V.topi (x' := dg (X * 2 ^ b) 0) (sh_last) ?_
      refine v_iast E dJ16_shiftLeft_2_151 hfw (n - 1 + 0) (by omega) (by omega) (by omega) (hNew _ (by omega)) (fun H_31 hfw_29 hs_30 => ?_)
      have ha_32 := ha_28.same hs_30 hne_a_q_2
      refine v_aload E 1 rfl dJ16_shiftLeft_2_152 ?_
      refine v_aret E hE rfl (Or.inr ⟨_, rfl⟩) dJ16_shiftLeft_2_154 (Or.inr ⟨_, rfl⟩) ?_
      rw [pow_far] at hs ⊢
      have hlen : isInts (X * 2 ^ b) (n) := ints_sh0 hb (Int.le_of_lt hX0) hn (by omega)
      have hcon : ∀ j, j < n → iZ (va_up fw (n - 1 + 0) (dg (X * 2 ^ b) 0) j) = iZ (bM (X * 2 ^ b) (n) j) := by
        intro j hj
        by_cases c1 : j < 0
        · omega
        by_cases c2 : j = n - 1 + 0
        · rw [c2, va_up_self]; unfold bM; rw [show n - 1 - (n - 1 + 0) = 0 by omega]
        · rw [va_up_ne _ _ c2]
          have h9 := hw1 (j - 0) (by omega)
          rw [show 0 + (j - 0) = j by omega] at h9
          rw [h9]; unfold bM; rw [show n - 1 - (j - 0) = n - 1 - j by omega]
      have hzer : ∀ j, n ≤ j → j < n + u → va_up fw (n - 1 + 0) (dg (X * 2 ^ b) 0) j = 0 := by
        intro j h1 h2
        rw [va_up_ne _ _ (by omega), hw2 j (Or.inr (by omega))]
      exact ⟨_, _, rfl, eI.congr (show hp κ _ _ (eI κ (n + u) _) from hfw_29) (far_fin hcon hzer), ints_far hlen (by omega) hs, by omega⟩
    · refine v_iload E 4 rfl dJ16_shiftLeft_2_63 ?_
      refine v_iload_n E 6 rfl dJ16_shiftLeft_2_65 ?_
      refine v_iadd E dJ16_shiftLeft_2_66 ?_
      refine v_iconst E dJ16_shiftLeft_2_67 ?_
      refine v_iadd E dJ16_shiftLeft_2_68 ?_
      refine V.frame (fun hfz_fr_33 hfk_fr_33 => ?_)
      rw [hH0] at hfz_fr_33 hfk_fr_33
      rw [hA0] at hfk_fr_33
      refine v_newI E (n := (n + u + 1)) q511 (by omega) (by omega) (cb' := (1 - 1)) (sb' := ((n + u + 1) - (n + u + 1))) (by omega) (by omega) dJ16_shiftLeft_2_69 (fun q_34 H_35 hq_38 hn_36 hg_37 => ?_)
      have hne_a_q_34 : a ≠ q_34 := by have := ha.lt; omega
      have ha_40 := ha.grow hg_37
      refine v_astore E dJ16_shiftLeft_2_71 (zlt hL rfl) (lv' := [(5, .ref q_34), (8, vi (dg (X * 2 ^ b) n)), (7, vi (32 - (b : Int))), (6, vi 0), (4, vi (n : Int)), (3, vi (b : Int)), (2, vi (u : Int)), (0, .ref a), (1, vi ((32 * u + b : Nat) : Int))]) rfl ?_
      refine v_aload E 0 rfl dJ16_shiftLeft_2_73 ?_
      refine v_iload E 3 rfl dJ16_shiftLeft_2_75 ?_
      refine v_iinc E 3 rfl dJ16_shiftLeft_2_77 (zlt hL rfl) (lv' := [(6, vi (0 + 1)), (5, .ref q_34), (8, vi (dg (X * 2 ^ b) n)), (7, vi (32 - (b : Int))), (4, vi (n : Int)), (3, vi (b : Int)), (2, vi (u : Int)), (0, .ref a), (1, vi ((32 * u + b : Nat) : Int))]) rfl ?_
      refine v_iload E 2 rfl dJ16_shiftLeft_2_80 ?_
      refine v_iast E dJ16_shiftLeft_2_82 hn_36 0 rfl (by omega) (by omega) (hNew _ (by omega)) (fun H_43 hn_41 hs_42 => ?_)
      have ha_44 := ha_40.same hs_42 hne_a_q_34
      refine v_goto E (tgt := 94) dJ16_shiftLeft_2_83 (by decide) ?_
      refine v_iload E 4 rfl dJ16_shiftLeft_2_94 ?_
      refine v_iconst E dJ16_shiftLeft_2_96 ?_
      refine v_isub E dJ16_shiftLeft_2_97 ?_
      refine v_istore E dJ16_shiftLeft_2_98 (zlt hL rfl) (lv' := [(9, vi ((n : Int) - 1)), (6, vi (0 + 1)), (5, .ref q_34), (8, vi (dg (X * 2 ^ b) n)), (7, vi (32 - (b : Int))), (4, vi (n : Int)), (3, vi (b : Int)), (2, vi (u : Int)), (0, .ref a), (1, vi ((32 * u + b : Nat) : Int))]) rfl ?_
      refine v_iconst E dJ16_shiftLeft_2_100 ?_
      refine v_iload E 0 rfl dJ16_shiftLeft_2_101 ?_
      refine v_iconst E dJ16_shiftLeft_2_103 ?_
      refine v_iadd E dJ16_shiftLeft_2_104 ?_
      refine v_aload_n E 8 rfl dJ16_shiftLeft_2_105 ?_
      refine v_alen E dJ16_shiftLeft_2_106 (t := 0) (ty := .int) ha_44 rfl ?_
      refine v_callS E (As := [vi 0, vi (((n : Int) - 1) + 1), vi (n : Int)]) (g_ckF3 κ H_43 (i := 0) (j := ((n : Int) - 1) + 1) (n := (n : Int)) ⟨by omega, by omega, by omega, by omega⟩) (lw_S q1009 q1010 q76 q1011) 3 (by decide +kernel) rfl (by decide) (by decide) (cb' := ((1 - 1) - 0)) (sb' := (((n + u + 1) - (n + u + 1)) - 0)) (by omega) (by omega) rfl (rest := []) (Nat.le_of_ble_eq_true rfl) (fun q h => h.elim) dJ16_shiftLeft_2_107 (fun v_45 H_46 hpost_47 hz_48 hk_49 => ?_)
      clear hz_48
      obtain rfl := hpost_47
      have ha_50 := ha_44.kept (hk_49 _ ha_44.lt (fun h => h))
      have hn_51 := hn_41.kept (hk_49 _ hn_41.lt (fun h => h))
      refine V.eq (st' := [vi 0]) rfl ?_
      refine v_pop E rfl dJ16_shiftLeft_2_110 ?_
      refine v_iload E 1 rfl dJ16_shiftLeft_2_111 ?_
      refine v_iload E 0 rfl dJ16_shiftLeft_2_113 ?_
      refine v_iload E 1 rfl dJ16_shiftLeft_2_115 ?_
      refine v_iadd E dJ16_shiftLeft_2_117 ?_
      refine v_iconst E dJ16_shiftLeft_2_118 ?_
      refine v_iadd E dJ16_shiftLeft_2_119 ?_
      refine v_aload E 2 rfl dJ16_shiftLeft_2_120 ?_
      refine v_alen E dJ16_shiftLeft_2_122 (t := 0) (ty := .int) hn_51 rfl ?_
      refine v_callS E (As := [vi (0 + 1), vi ((((n : Int) - 1) + (0 + 1)) + 1), vi ((n + u + 1) : Int)]) (g_ckF3 κ H_46 (i := 0 + 1) (j := (((n : Int) - 1) + (0 + 1)) + 1) (n := ((n + u + 1) : Int)) ⟨by omega, by omega, by omega, by omega⟩) (lw_S q1009 q1010 q76 q1011) 3 (by decide +kernel) rfl (by decide) (by decide) (cb' := (((1 - 1) - 0) - 0)) (sb' := ((((n + u + 1) - (n + u + 1)) - 0) - 0)) (by omega) (by omega) rfl (rest := []) (Nat.le_of_ble_eq_true rfl) (fun q h => h.elim) dJ16_shiftLeft_2_123 (fun v_52 H_53 hpost_54 hz_55 hk_56 => ?_)
      clear hz_55
      obtain rfl := hpost_54
      have ha_57 := ha_50.kept (hk_56 _ ha_50.lt (fun h => h))
      have hn_58 := hn_51.kept (hk_56 _ hn_51.lt (fun h => h))
      refine V.eq (st' := [vi (0 + 1)]) rfl ?_
      refine v_pop E rfl dJ16_shiftLeft_2_126 ?_
      refine v_aload E 2 rfl dJ16_shiftLeft_2_127 ?_
      refine v_aload_n E 8 rfl dJ16_shiftLeft_2_129 ?_
      refine v_iload E 1 rfl dJ16_shiftLeft_2_130 ?_
      refine v_iload_n E 6 rfl dJ16_shiftLeft_2_132 ?_
      refine v_iload E 0 rfl dJ16_shiftLeft_2_133 ?_
      refine V.topi (x' := ((n - 1 : Nat) : Int)) (congrArg iZ (by omega)) ?_
      have hne_aq := hne_a_q_34
      refine v_callS E (As := [.ref q_34, .ref a, vi (0 + 1), vi (b : Int), vi ((n - 1 : Nat) : Int)]) (g_shW κ H_53 (i := 1) (w := n - 1) (n := n) (b := b) (r := (n + u + 1)) (X := X) hb1 hb (by omega) (by omega) (by omega) (by omega) hne_aq ha_57 hn_58) (lw_S q1013 q1014 q91 q1015) 5 (by decide +kernel) rfl (by decide) (by decide) (cb' := ((((1 - 1) - 0) - 0) - 0)) (sb' := (((((n + u + 1) - (n + u + 1)) - 0) - 0) - 0)) (by omega) (by omega) rfl (rest := []) (Nat.le_of_ble_eq_true rfl) (fun q9 h => hNew q9 (by rw [show q9 = q_34 from h]; omega)) dJ16_shiftLeft_2_135 (fun v_59 H_60 hpost_61 hz_62 hk_63 => ?_)
      clear hz_62
      obtain ⟨rfl, fw, hfw, hw1, hw2⟩ := hpost_61
      have ha_64 := ha_57.kept (hk_63 _ ha_57.lt (fun h => hne_aq h))
      refine V.eq (st' := []) rfl ?_
      refine v_aload E 2 rfl dJ16_shiftLeft_2_138 ?_
      refine v_iload E 0 rfl dJ16_shiftLeft_2_140 ?_
      refine v_iload E 1 rfl dJ16_shiftLeft_2_142 ?_
      refine v_iadd E dJ16_shiftLeft_2_144 ?_
      refine v_aload_n E 8 rfl dJ16_shiftLeft_2_145 ?_
      refine v_iload E 0 rfl dJ16_shiftLeft_2_146 ?_
      refine v_iald E dJ16_shiftLeft_2_148 ha_64 (n - 1) (by omega) (by omega) (by omega) ?_
      refine v_iload_n E 6 rfl dJ16_shiftLeft_2_149 ?_
      refine v_ishl E b (by omega) dJ16_shiftLeft_2_150 ?_
      refine V.topi (x' := dg (X * 2 ^ b) 0) (sh_last) ?_
      refine v_iast E dJ16_shiftLeft_2_151 hfw (n - 1 + 1) (by omega) (by omega) (by omega) (hNew _ (by omega)) (fun H_67 hfw_65 hs_66 => ?_)
      have ha_68 := ha_64.same hs_66 hne_a_q_34
      refine v_aload E 2 rfl dJ16_shiftLeft_2_152 ?_
      refine v_aret E hE rfl (Or.inr ⟨_, rfl⟩) dJ16_shiftLeft_2_154 (Or.inr ⟨_, rfl⟩) ?_
      rw [pow_far] at hs ⊢
      have hlen : isInts (X * 2 ^ b) (n + 1) := ints_sh1 hb (Int.le_of_lt hX0) hn (hs.part (Int.le_of_lt hX0)) (by omega)
      have hcon : ∀ j, j < n + 1 → iZ (va_up fw (n - 1 + 1) (dg (X * 2 ^ b) 0) j) = iZ (bM (X * 2 ^ b) (n + 1) j) := by
        intro j hj
        by_cases c1 : j < 1
        · obtain rfl : j = 0 := by omega
          rw [va_up_ne _ _ (by omega), hw2 0 (Or.inl (by decide)), va_up_self]; rfl
        by_cases c2 : j = n - 1 + 1
        · rw [c2, va_up_self]; unfold bM; rw [show n + 1 - 1 - (n - 1 + 1) = 0 by omega]
        · rw [va_up_ne _ _ c2]
          have h9 := hw1 (j - 1) (by omega)
          rw [show 1 + (j - 1) = j by omega] at h9
          rw [h9]; unfold bM; rw [show n - 1 - (j - 1) = n + 1 - 1 - j by omega]
      have hzer : ∀ j, n + 1 ≤ j → j < n + 1 + u → va_up fw (n - 1 + 1) (dg (X * 2 ^ b) 0) j = 0 := by
        intro j h1 h2
        rw [va_up_ne _ _ (by omega), hw2 j (Or.inr (by omega))]; rw [va_up_ne _ _ (by omega)]
      exact ⟨_, _, rfl, eI.congr (show hp κ _ _ (eI κ (n + 1 + u) _) from by rw [show n + 1 + u = n + u + 1 by omega]; exact hfw_65) (far_fin hcon hzer), ints_far hlen (by omega) hs, by omega⟩
  · refine v_iload E 1 rfl dJ16_shiftLeft_2_20 ?_
    refine v_iload_n E 3 rfl dJ16_shiftLeft_2_22 ?_
    refine v_iadd E dJ16_shiftLeft_2_23 ?_
    refine V.frame (fun hfz_fr_69 hfk_fr_69 => ?_)
    rw [hH0] at hfz_fr_69 hfk_fr_69
    rw [hA0] at hfk_fr_69
    refine v_newI E (n := (n + u)) q511 (by omega) (by omega) (cb' := (1 - 1)) (sb' := ((n + u + 1) - (n + u))) (by omega) (by omega) dJ16_shiftLeft_2_24 (fun q_70 H_71 hq_74 hn_72 hg_73 => ?_)
    have hne_a_q_70 : a ≠ q_70 := by have := ha.lt; omega
    have ha_76 := ha.grow hg_73
    refine v_astore E dJ16_shiftLeft_2_26 (zlt hL rfl) (lv' := [(5, .ref q_70), (4, vi (n : Int)), (3, vi (b : Int)), (2, vi (u : Int)), (0, .ref a), (1, vi ((32 * u + b : Nat) : Int))]) rfl ?_
    refine v_aload_n E 4 rfl dJ16_shiftLeft_2_28 ?_
    refine v_iconst E dJ16_shiftLeft_2_29 ?_
    refine v_aload E 0 rfl dJ16_shiftLeft_2_30 ?_
    refine v_iconst E dJ16_shiftLeft_2_32 ?_
    refine v_iload E 1 rfl dJ16_shiftLeft_2_33 ?_
    refine v_copyI E (n0 := n) (n1 := (n + u)) ha_76 hn_72 q711 q184 q183 q78 (sp := 0) (dp := 0) (w := n) (by omega) (by omega) (by omega) (by omega) (hNew _ (by omega)) (by decide) (Nat.le_of_ble_eq_true rfl) (by omega) (by omega) (by omega) dJ16_shiftLeft_2_35 (fun H_79 hv_77 hs_78 => ?_)
    have ha_80 := ha_76.same hs_78 hne_a_q_70
    refine v_goto E (tgt := 152) dJ16_shiftLeft_2_38 (by decide) ?_
    refine v_aload E 0 rfl dJ16_shiftLeft_2_152 ?_
    refine v_aret E hE rfl (Or.inr ⟨_, rfl⟩) dJ16_shiftLeft_2_154 (Or.inr ⟨_, rfl⟩) ?_
    obtain rfl : b = 0 := by omega
    rw [Nat.add_zero] at hs ⊢
    exact ⟨_, _, rfl, eI.congr hv_77 (far_fin (fun j hj => congrArg iZ ((pk_cpy_in (Nat.zero_le _) (by omega)).trans (by rw [Nat.zero_add, Nat.sub_zero]))) (fun j h1 h2 => pk_cpy_out (Or.inr (by omega)))), ints_far hn hpn hs, by omega⟩
