/-! DIVISION: a multiple taken off, the divisor added -/
/-- the borrow of W - x D after k digits -/
def mb (W x D : Int) (k : Nat) : Int := (W % 2 ^ (32 * k) - x * (D % 2 ^ (32 * k))) / 2 ^ (32 * k)
theorem mb_0 (W x D : Int) : mb W x D 0 = 0 := by simp [mb, Int.emod_one]
theorem mb_in {W x D : Int} (k : Nat) (hx : 0 ≤ x) : -x ≤ mb W x D k ∧ mb W x D k ≤ 0 := by
  unfold mb
  have hP := p2 (32 * k)
  have h1 := Int.emod_nonneg W (Int.ne_of_gt hP)
  have h2 := Int.emod_lt_of_pos W hP
  have h3 := Int.emod_nonneg D (Int.ne_of_gt hP)
  have h4 := Int.emod_lt_of_pos D hP
  have h5 : 0 ≤ x * (D % 2 ^ (32 * k)) := Int.mul_nonneg hx h3
  have h6 : x * (D % 2 ^ (32 * k)) ≤ x * 2 ^ (32 * k) := Int.mul_le_mul_of_nonneg_left (Int.le_of_lt h4) hx
  constructor
  · apply Int.le_ediv_of_mul_le hP
    rw [Int.neg_mul]
    omega
  · have : (W % 2 ^ (32 * k) - x * (D % 2 ^ (32 * k))) / 2 ^ (32 * k) < 1 := Int.ediv_lt_of_lt_mul hP (by omega)
    omega
theorem mb_num (W x D : Int) (k : Nat) : W % 2 ^ (32 * (k + 1)) - x * (D % 2 ^ (32 * (k + 1))) = (W % 2 ^ (32 * k) - x * (D % 2 ^ (32 * k))) + 2 ^ (32 * k) * (dg W k - x * dg D k) := by
  rw [low_s, low_s]; grind
theorem mb_s (W x D : Int) (k : Nat) : mb W x D (k + 1) = (mb W x D k + dg W k - x * dg D k) / 4294967296 := by
  have hP := p2 (32 * k)
  unfold mb
  rw [mb_num, p32, ← Int.ediv_ediv_of_nonneg (Int.le_of_lt hP), Int.add_mul_ediv_left _ _ (Int.ne_of_gt hP)]
  congr 1
  omega
theorem dg_mb (W x D : Int) (k : Nat) : dg (W - x * D) k = (mb W x D k + dg W k - x * dg D k) % 4294967296 := by
  have hP := p2 (32 * k)
  have e : W - x * D = (W % 2 ^ (32 * (k + 1)) - x * (D % 2 ^ (32 * (k + 1)))) + 2 ^ (32 * (k + 1)) * (W / 2 ^ (32 * (k + 1)) - x * (D / 2 ^ (32 * (k + 1)))) := by
    have h1 := Int.mul_ediv_add_emod W (2 ^ (32 * (k + 1)))
    have h2 := Int.mul_ediv_add_emod D (2 ^ (32 * (k + 1)))
    conv => lhs; rw [← h1, ← h2]
    grind
  unfold dg
  rw [e, mb_num, p32, Int.mul_assoc, Int.add_mul_ediv_left _ _ (Int.ne_of_gt hP), Int.add_mul_ediv_left _ _ (Int.ne_of_gt hP)]
  rw [Int.add_mul_emod_self_left]
  unfold mb dg
  congr 1
  omega
theorem mb_all {W x D : Int} {m : Nat} (hW : 0 ≤ W ∧ W < 2 ^ (32 * m)) (hD : 0 ≤ D ∧ D < 2 ^ (32 * m)) : mb W x D m = (W - x * D) / 2 ^ (32 * m) := by
  unfold mb
  rw [Int.emod_eq_of_lt hW.1 hW.2, Int.emod_eq_of_lt hD.1 hD.2]
theorem ms_lo {w p : Int} (hw : 0 ≤ w ∧ w < 4294967296) (hp : 0 ≤ p) : ((w - p) % 4294967296 ≤ (-1 - p) % 4294967296 → (w - p) / 4294967296 = -(p / 4294967296)) ∧ (¬ (w - p) % 4294967296 ≤ (-1 - p) % 4294967296 → (w - p) / 4294967296 = -(p / 4294967296) - 1) := by
  omega
theorem cs_s {g1 g : Nat → Int} {Y : Int} {n p k : Nat} (hk : k < n) (h : (∀ j, j < k → g1 (p + j) = bM Y n j) ∧ ∀ j, j < p ∨ p + n ≤ j → g1 j = g j) : (∀ j, j < k + 1 → va_up g1 (p + k) (dg Y (n - 1 - k)) (p + j) = bM Y n j) ∧ ∀ j, j < p ∨ p + n ≤ j → va_up g1 (p + k) (dg Y (n - 1 - k)) j = g j := by
  refine ⟨fun j hj => ?_, fun j hj => ?_⟩
  · by_cases e : j = k
    · rw [e, va_up_self]; rfl
    · rw [va_up_ne _ _ (by omega)]; exact h.1 j (by omega)
  · rw [va_up_ne _ _ (by omega)]; exact h.2 j hj
set_option maxHeartbeats 1000000 in
set_option maxRecDepth 100000 in
/-- a multiple of the divisor taken off -/
theorem h_ms (κ : zK) (H0 : Heap) {a v d o m cap : Nat} {f : Nat → Int} {W x D : Int} (hx : 0 ≤ x ∧ x < 4294967296) (ho1 : 1 ≤ o) (hom : o + m ≤ cap) (hc2 : cap ≤ 1000) (hne_d_v : d ≠ v) (hW : ∀ j, j < m → f (o + j) = bM W m j) (hv : hp κ H0 v (eI κ cap f)) (hd : hp κ H0 d (eI κ m (bM D m))) : Mt κ yJ26_mulsub cJ26_mulsub 15 (some .int) 0 0 0 0 H0 [.ref a, .ref v, .ref d, vi x, vi (m : Int), vi ((o : Int) - 1)] (fun q => q = v) (fun v9 H1 => ∃ f1 : Nat → Int, v9 = some (vi (- mb W x D m)) ∧ hp κ H1 v (eI κ cap f1) ∧ (∀ j, j < m → f1 (o + j) = bM (W - x * D) m j) ∧ ∀ j, j < o ∨ o + m ≤ j → f1 j = f j) := by
  refine Mt.of (by decide) (Nat.le_of_ble_eq_true rfl) ?_
  intro z E hE hH0 hA0 hL hini
  have hAll : ∀ q, (fun q => q = v) q → zA z.A z.H0 q := fun q h => Or.inl (by rw [hA0]; exact h)
  have hNew : ∀ q, H0.size ≤ q → zA z.A z.H0 q := fun q h => Or.inr (by rw [hH0]; exact h)
  have E : zOK z cJ26_mulsub RJ26 κ 0 0 (some .int) := E
  refine V.eqL (lv' := [(0, .ref a), (1, .ref v), (2, .ref d), (3, vi x), (4, vi (m : Int)), (5, vi ((o : Int) - 1))]) rfl ?_
  refine v_iload_n E 3 rfl dJ26_mulsub_0 ?_
  refine v_i2lLow E dJ26_mulsub_1 q1240 dJ26_mulsub_2 dJ26_mulsub_5 ?_
  refine V.topl (x' := x) (congrArg jZ (by omega)) ?_
  refine v_lstore E dJ26_mulsub_6 (zlt hL rfl) (lv' := [(6, vj x), (0, .ref a), (1, .ref v), (2, .ref d), (3, vi x), (4, vi (m : Int)), (5, vi ((o : Int) - 1))]) rfl ?_
  refine v_lconst E (x := 0) rfl dJ26_mulsub_8 ?_
  refine v_lstore E dJ26_mulsub_9 (zlt hL rfl) (lv' := [(8, vj 0), (6, vj x), (0, .ref a), (1, .ref v), (2, .ref d), (3, vi x), (4, vi (m : Int)), (5, vi ((o : Int) - 1))]) rfl ?_
  refine v_iload E 7 rfl dJ26_mulsub_11 ?_
  refine v_iload E 6 rfl dJ26_mulsub_13 ?_
  refine v_iadd E dJ26_mulsub_15 ?_
  refine v_istore E dJ26_mulsub_16 (zlt hL rfl) (lv' := [(5, vi (((o : Int) - 1) + (m : Int))), (8, vj 0), (6, vj x), (0, .ref a), (1, .ref v), (2, .ref d), (3, vi x), (4, vi (m : Int))]) rfl ?_
  refine v_iload E 7 rfl dJ26_mulsub_18 ?_
  refine v_iconst E dJ26_mulsub_20 ?_
  refine v_isub E dJ26_mulsub_21 ?_
  refine v_istore E dJ26_mulsub_22 (zlt hL rfl) (lv' := [(10, vi ((m : Int) - 1)), (5, vi (((o : Int) - 1) + (m : Int))), (8, vj 0), (6, vj x), (0, .ref a), (1, .ref v), (2, .ref d), (3, vi x), (4, vi (m : Int))]) rfl ?_
  have loop_24 : ∀ (m_24 : Nat) (H : Heap) (k : Nat) (f1 : Nat → Int) (u t c : Int), m - k < m_24 → (k ≤ m) → (u = (o : Int) - 1 + (m : Int) - (k : Int)) → (t = (m : Int) - 1 - (k : Int)) → (c = - mb W x D k) → ((∀ j, m - k ≤ j → j < m → f1 (o + j) = bM (W - x * D) m j) ∧ ∀ j, j < m - k → f1 (o + j) = bM W m j) → (∀ j, j < o ∨ o + m ≤ j → f1 j = f j) → hp κ H v (eI κ cap f1) → hp κ H d (eI κ m (bM D m)) → V z H 0 0 24 [(8, vj c), (10, vi t), (5, vi u), (6, vj x), (4, vi (m : Int)), (2, .ref d), (1, .ref v)] [] := by
    intro m_24
    induction m_24 with
    | zero => intro H k f1 u t c hm; exact absurd hm (by omega)
    | succ m_24 ih_24 =>
      intro H k f1 u t c hm_24 hk hu ht hcb hf hout hv hd
      have hdw := dg_in W k
      have hdd := dg_in D k
      have hmb := mb_in (W := W) (D := D) k hx.1
      have hpr := mul_in hdd.1 hdd.2 hx.1 (by omega)
      have hms := mb_s W x D k
      refine v_iload E 1 rfl dJ26_mulsub_24 ?_
      refine v_if_lt E (tgt := 106) dJ26_mulsub_26 (by decide) ⟨by omega, by omega⟩ (fun c_26 => ?_) (fun c_26 => ?_)
      · refine v_lload E 0 rfl dJ26_mulsub_106 ?_
        refine v_l2i E dJ26_mulsub_108 ?_
        refine v_iret E hE dJ26_mulsub_109 ?_
        obtain rfl : m = k := by omega
        exact ⟨f1, congrArg (fun t => some (vi t)) hcb, hv, fun j hj => hf.1 j (by omega) hj, hout⟩
      · refine v_aload_n E 5 rfl dJ26_mulsub_29 ?_
        refine v_iload E 1 rfl dJ26_mulsub_30 ?_
        refine v_iald E dJ26_mulsub_32 hd (m - (k + 1)) (by omega) (by omega) (by omega) ?_
        refine v_i2lLow E dJ26_mulsub_33 q1240 dJ26_mulsub_34 dJ26_mulsub_37 ?_
        refine v_lload E 3 rfl dJ26_mulsub_38 ?_
        refine v_lmul E dJ26_mulsub_40 ?_
        refine v_lload E 0 rfl dJ26_mulsub_41 ?_
        refine v_ladd E dJ26_mulsub_43 ?_
        refine V.topl (x' := x * dg D k + c) (congrArg jZ (by rw [bM_at (X := D) (n := m) (k := k) rfl (by omega), dg_m, Int.mul_comm])) ?_
        refine v_lstore E dJ26_mulsub_44 (zlt hL rfl) (lv' := [(11, vj (x * dg D k + c)), (8, vj c), (10, vi t), (5, vi u), (6, vj x), (4, vi (m : Int)), (2, .ref d), (1, .ref v)]) rfl ?_
        refine v_aload_n E 7 rfl dJ26_mulsub_46 ?_
        refine v_iload E 3 rfl dJ26_mulsub_47 ?_
        refine v_iald E dJ26_mulsub_49 hv (o + (m - 1 - k)) (by omega) (by omega) (by omega) ?_
        refine V.topi (x' := dg W k) (congrArg iZ ((hf.2 (m - 1 - k) (by omega)).trans (bM_s (by omega)))) ?_
        refine V.topi (x' := ((dg W k) + 2147483648) % 4294967296 - 2147483648) (iZ_sg _) ?_
        refine v_i2l E ⟨by omega, by omega⟩ dJ26_mulsub_50 ?_
        refine v_lload E 0 rfl dJ26_mulsub_51 ?_
        refine v_lsub E dJ26_mulsub_53 ?_
        refine v_lstore E dJ26_mulsub_54 (zlt hL rfl) (lv' := [(13, vj ((((dg W k) + 2147483648) % 4294967296 - 2147483648) - (x * dg D k + c))), (11, vj (x * dg D k + c)), (8, vj c), (10, vi t), (5, vi u), (6, vj x), (4, vi (m : Int)), (2, .ref d), (1, .ref v)]) rfl ?_
        refine v_aload_n E 8 rfl dJ26_mulsub_56 ?_
        refine v_iload E 4 rfl dJ26_mulsub_57 ?_
        refine v_iinc E 4 rfl dJ26_mulsub_59 (zlt hL rfl) (lv' := [(5, vi (u + (-1))), (13, vj ((((dg W k) + 2147483648) % 4294967296 - 2147483648) - (x * dg D k + c))), (11, vj (x * dg D k + c)), (8, vj c), (10, vi t), (6, vj x), (4, vi (m : Int)), (2, .ref d), (1, .ref v)]) rfl ?_
        refine v_lload E 1 rfl dJ26_mulsub_62 ?_
        refine v_l2i E dJ26_mulsub_64 ?_
        refine V.topi (x' := dg (W - x * D) k) (by rw [dg_mb]; exact iZ_cong (by omega)) ?_
        refine v_iast E dJ26_mulsub_65 hv (o + (m - 1 - k)) (by omega) (by omega) (by omega) (hAll _ rfl) (fun H_3 hv_1 hs_2 => ?_)
        have hd_4 := hd.same hs_2 hne_d_v
        refine v_lload E 2 rfl dJ26_mulsub_66 ?_
        refine v_bipush E ⟨by decide, by decide⟩ dJ26_mulsub_68 ?_
        refine v_lushr E 32 (by decide) dJ26_mulsub_70 ?_
        refine v_lload E 1 rfl dJ26_mulsub_71 ?_
        refine v_ldc2 E q1240 dJ26_mulsub_73 ?_
        refine v_landLow E dJ26_mulsub_76 ?_
        refine v_lload E 2 rfl dJ26_mulsub_77 ?_
        refine v_l2i E dJ26_mulsub_79 ?_
        refine v_iconst E dJ26_mulsub_80 ?_
        refine v_ixor E (c := -1 - (x * dg D k + c)) (iZ_not _) dJ26_mulsub_81 ?_
        refine v_i2lLow E dJ26_mulsub_82 q1240 dJ26_mulsub_83 dJ26_mulsub_86 ?_
        refine v_lc_le E (tgt := 95) dJ26_mulsub_87 dJ26_mulsub_88 (by decide) ⟨by omega, by omega⟩ ⟨by omega, by omega⟩ (fun c_87 => ?_) (fun c_87 => ?_)
        · refine v_iconst E dJ26_mulsub_95 ?_
          refine v_i2l E ⟨by omega, by omega⟩ dJ26_mulsub_96 ?_
          refine v_ladd E dJ26_mulsub_97 ?_
          refine v_lstore E dJ26_mulsub_98 (zlt hL rfl) (lv' := [(8, vj ((((x * dg D k + c) % 18446744073709551616) / 2 ^ 32) + 0)), (5, vi (u + (-1))), (13, vj ((((dg W k) + 2147483648) % 4294967296 - 2147483648) - (x * dg D k + c))), (11, vj (x * dg D k + c)), (10, vi t), (6, vj x), (4, vi (m : Int)), (2, .ref d), (1, .ref v)]) rfl ?_
          refine v_iinc E 4 rfl dJ26_mulsub_100 (zlt hL rfl) (lv' := [(10, vi (t + (-1))), (8, vj ((((x * dg D k + c) % 18446744073709551616) / 2 ^ 32) + 0)), (5, vi (u + (-1))), (13, vj ((((dg W k) + 2147483648) % 4294967296 - 2147483648) - (x * dg D k + c))), (11, vj (x * dg D k + c)), (6, vj x), (4, vi (m : Int)), (2, .ref d), (1, .ref v)]) rfl ?_
          refine v_goto E (tgt := 24) dJ26_mulsub_103 (by decide) ?_
          refine V.sub [1, 0, 2, 5, 6, 7, 8] (lv' := [(8, vj ((((x * dg D k + c) % 18446744073709551616) / 2 ^ 32) + 0)), (10, vi (t + (-1))), (5, vi (u + (-1))), (6, vj x), (4, vi (m : Int)), (2, .ref d), (1, .ref v)]) rfl ?_
          exact ih_24  H_3 (k + 1) _ _ _ _ (by omega) (by omega) (by omega) (by omega) (by rw [hms]; omega) (pr_s (by omega) hf) (fun j hj => by rw [va_up_ne _ _ (by omega)]; exact hout j hj) hv_1 hd_4
        · refine v_iconst E dJ26_mulsub_91 ?_
          refine v_goto E (tgt := 96) dJ26_mulsub_92 (by decide) ?_
          refine v_i2l E ⟨by omega, by omega⟩ dJ26_mulsub_96 ?_
          refine v_ladd E dJ26_mulsub_97 ?_
          refine v_lstore E dJ26_mulsub_98 (zlt hL rfl) (lv' := [(8, vj ((((x * dg D k + c) % 18446744073709551616) / 2 ^ 32) + 1)), (5, vi (u + (-1))), (13, vj ((((dg W k) + 2147483648) % 4294967296 - 2147483648) - (x * dg D k + c))), (11, vj (x * dg D k + c)), (10, vi t), (6, vj x), (4, vi (m : Int)), (2, .ref d), (1, .ref v)]) rfl ?_
          refine v_iinc E 4 rfl dJ26_mulsub_100 (zlt hL rfl) (lv' := [(10, vi (t + (-1))), (8, vj ((((x * dg D k + c) % 18446744073709551616) / 2 ^ 32) + 1)), (5, vi (u + (-1))), (13, vj ((((dg W k) + 2147483648) % 4294967296 - 2147483648) - (x * dg D k + c))), (11, vj (x * dg D k + c)), (6, vj x), (4, vi (m : Int)), (2, .ref d), (1, .ref v)]) rfl ?_
          refine v_goto E (tgt := 24) dJ26_mulsub_103 (by decide) ?_
          refine V.sub [1, 0, 2, 5, 6, 7, 8] (lv' := [(8, vj ((((x * dg D k + c) % 18446744073709551616) / 2 ^ 32) + 1)), (10, vi (t + (-1))), (5, vi (u + (-1))), (6, vj x), (4, vi (m : Int)), (2, .ref d), (1, .ref v)]) rfl ?_
          exact ih_24  H_3 (k + 1) _ _ _ _ (by omega) (by omega) (by omega) (by omega) (by rw [hms]; omega) (pr_s (by omega) hf) (fun j hj => by rw [va_up_ne _ _ (by omega)]; exact hout j hj) hv_1 hd_4
  refine V.sub [2, 0, 1, 3, 8, 6, 5] (lv' := [(8, vj 0), (10, vi ((m : Int) - 1)), (5, vi (((o : Int) - 1) + (m : Int))), (6, vj x), (4, vi (m : Int)), (2, .ref d), (1, .ref v)]) rfl ?_
  exact loop_24 (m + 1) H0 0 f _ _ _ (by omega) (by omega) (by omega) (by omega) (by rw [mb_0]; rfl) ⟨fun j h1 h2 => absurd h2 (by omega), fun j hj => hW j (by omega)⟩ (fun j _ => rfl) hv hd

set_option maxHeartbeats 1000000 in
set_option maxRecDepth 100000 in
/-- the borrow of a multiple taken off -/
theorem h_msB (κ : zK) (H0 : Heap) {a v d o m cap : Nat} {f : Nat → Int} {W x D : Int} (hx : 0 ≤ x ∧ x < 4294967296) (ho1 : 1 ≤ o) (hom : o + m ≤ cap) (hc2 : cap ≤ 1000) (hne_d_v : d ≠ v) (hW : ∀ j, j < m → f (o + j) = bM W m j) (hv : hp κ H0 v (eI κ cap f)) (hd : hp κ H0 d (eI κ m (bM D m))) : Mt κ yJ26_mulsubBorrow cJ26_mulsubBorrow 15 (some .int) 0 0 0 0 H0 [.ref a, .ref v, .ref d, vi x, vi (m : Int), vi ((o : Int) - 1)] (fun _ => False) (fun v9 H1 => v9 = some (vi (- mb W x D m))) := by
  refine Mt.of (by decide) (Nat.le_of_ble_eq_true rfl) ?_
  intro z E hE hH0 hA0 hL hini
  have hAll : ∀ q, (fun _ => False) q → zA z.A z.H0 q := fun q h => Or.inl (by rw [hA0]; exact h)
  have hNew : ∀ q, H0.size ≤ q → zA z.A z.H0 q := fun q h => Or.inr (by rw [hH0]; exact h)
  have E : zOK z cJ26_mulsubBorrow RJ26 κ 0 0 (some .int) := E
  refine V.eqL (lv' := [(0, .ref a), (1, .ref v), (2, .ref d), (3, vi x), (4, vi (m : Int)), (5, vi ((o : Int) - 1))]) rfl ?_
  refine v_iload_n E 3 rfl dJ26_mulsubBorrow_0 ?_
  refine v_i2lLow E dJ26_mulsubBorrow_1 q1240 dJ26_mulsubBorrow_2 dJ26_mulsubBorrow_5 ?_
  refine V.topl (x' := x) (congrArg jZ (by omega)) ?_
  refine v_lstore E dJ26_mulsubBorrow_6 (zlt hL rfl) (lv' := [(6, vj x), (0, .ref a), (1, .ref v), (2, .ref d), (3, vi x), (4, vi (m : Int)), (5, vi ((o : Int) - 1))]) rfl ?_
  refine v_lconst E (x := 0) rfl dJ26_mulsubBorrow_8 ?_
  refine v_lstore E dJ26_mulsubBorrow_9 (zlt hL rfl) (lv' := [(8, vj 0), (6, vj x), (0, .ref a), (1, .ref v), (2, .ref d), (3, vi x), (4, vi (m : Int)), (5, vi ((o : Int) - 1))]) rfl ?_
  refine v_iload E 7 rfl dJ26_mulsubBorrow_11 ?_
  refine v_iload E 6 rfl dJ26_mulsubBorrow_13 ?_
  refine v_iadd E dJ26_mulsubBorrow_15 ?_
  refine v_istore E dJ26_mulsubBorrow_16 (zlt hL rfl) (lv' := [(5, vi (((o : Int) - 1) + (m : Int))), (8, vj 0), (6, vj x), (0, .ref a), (1, .ref v), (2, .ref d), (3, vi x), (4, vi (m : Int))]) rfl ?_
  refine v_iload E 7 rfl dJ26_mulsubBorrow_18 ?_
  refine v_iconst E dJ26_mulsubBorrow_20 ?_
  refine v_isub E dJ26_mulsubBorrow_21 ?_
  refine v_istore E dJ26_mulsubBorrow_22 (zlt hL rfl) (lv' := [(10, vi ((m : Int) - 1)), (5, vi (((o : Int) - 1) + (m : Int))), (8, vj 0), (6, vj x), (0, .ref a), (1, .ref v), (2, .ref d), (3, vi x), (4, vi (m : Int))]) rfl ?_
  have loop_24 : ∀ (m_24 : Nat) (H : Heap) (k : Nat) (u t c : Int), m - k < m_24 → (k ≤ m) → (u = (o : Int) - 1 + (m : Int) - (k : Int)) → (t = (m : Int) - 1 - (k : Int)) → (c = - mb W x D k) → hp κ H v (eI κ cap f) → hp κ H d (eI κ m (bM D m)) → V z H 0 0 24 [(8, vj c), (10, vi t), (5, vi u), (6, vj x), (4, vi (m : Int)), (2, .ref d), (1, .ref v)] [] := by
    intro m_24
    induction m_24 with
    | zero => intro H k u t c hm; exact absurd hm (by omega)
    | succ m_24 ih_24 =>
      intro H k u t c hm_24 hk hu ht hcb hv hd
      have hdw := dg_in W k
      have hdd := dg_in D k
      have hmb := mb_in (W := W) (D := D) k hx.1
      have hpr := mul_in hdd.1 hdd.2 hx.1 (by omega)
      have hms := mb_s W x D k
      refine v_iload E 1 rfl dJ26_mulsubBorrow_24 ?_
      refine v_if_lt E (tgt := 99) dJ26_mulsubBorrow_26 (by decide) ⟨by omega, by omega⟩ (fun c_26 => ?_) (fun c_26 => ?_)
      · refine v_lload E 0 rfl dJ26_mulsubBorrow_99 ?_
        refine v_l2i E dJ26_mulsubBorrow_101 ?_
        refine v_iret E hE dJ26_mulsubBorrow_102 ?_
        obtain rfl : m = k := by omega
        exact congrArg (fun t => some (vi t)) hcb
      · refine v_aload_n E 5 rfl dJ26_mulsubBorrow_29 ?_
        refine v_iload E 1 rfl dJ26_mulsubBorrow_30 ?_
        refine v_iald E dJ26_mulsubBorrow_32 hd (m - (k + 1)) (by omega) (by omega) (by omega) ?_
        refine v_i2lLow E dJ26_mulsubBorrow_33 q1240 dJ26_mulsubBorrow_34 dJ26_mulsubBorrow_37 ?_
        refine v_lload E 3 rfl dJ26_mulsubBorrow_38 ?_
        refine v_lmul E dJ26_mulsubBorrow_40 ?_
        refine v_lload E 0 rfl dJ26_mulsubBorrow_41 ?_
        refine v_ladd E dJ26_mulsubBorrow_43 ?_
        refine V.topl (x' := x * dg D k + c) (congrArg jZ (by rw [bM_at (X := D) (n := m) (k := k) rfl (by omega), dg_m, Int.mul_comm])) ?_
        refine v_lstore E dJ26_mulsubBorrow_44 (zlt hL rfl) (lv' := [(11, vj (x * dg D k + c)), (8, vj c), (10, vi t), (5, vi u), (6, vj x), (4, vi (m : Int)), (2, .ref d), (1, .ref v)]) rfl ?_
        refine v_aload_n E 7 rfl dJ26_mulsubBorrow_46 ?_
        refine v_iload E 3 rfl dJ26_mulsubBorrow_47 ?_
        refine v_iinc E 3 rfl dJ26_mulsubBorrow_49 (zlt hL rfl) (lv' := [(5, vi (u + (-1))), (11, vj (x * dg D k + c)), (8, vj c), (10, vi t), (6, vj x), (4, vi (m : Int)), (2, .ref d), (1, .ref v)]) rfl ?_
        refine v_iald E dJ26_mulsubBorrow_52 hv (o + (m - 1 - k)) (by omega) (by omega) (by omega) ?_
        refine V.topi (x' := dg W k) (congrArg iZ ((hW (m - 1 - k) (by omega)).trans (bM_s (by omega)))) ?_
        refine V.topi (x' := ((dg W k) + 2147483648) % 4294967296 - 2147483648) (iZ_sg _) ?_
        refine v_i2l E ⟨by omega, by omega⟩ dJ26_mulsubBorrow_53 ?_
        refine v_lload E 1 rfl dJ26_mulsubBorrow_54 ?_
        refine v_lsub E dJ26_mulsubBorrow_56 ?_
        refine v_lstore E dJ26_mulsubBorrow_57 (zlt hL rfl) (lv' := [(13, vj ((((dg W k) + 2147483648) % 4294967296 - 2147483648) - (x * dg D k + c))), (5, vi (u + (-1))), (11, vj (x * dg D k + c)), (8, vj c), (10, vi t), (6, vj x), (4, vi (m : Int)), (2, .ref d), (1, .ref v)]) rfl ?_
        refine v_lload E 2 rfl dJ26_mulsubBorrow_59 ?_
        refine v_bipush E ⟨by decide, by decide⟩ dJ26_mulsubBorrow_61 ?_
        refine v_lushr E 32 (by decide) dJ26_mulsubBorrow_63 ?_
        refine v_lload E 0 rfl dJ26_mulsubBorrow_64 ?_
        refine v_ldc2 E q1240 dJ26_mulsubBorrow_66 ?_
        refine v_landLow E dJ26_mulsubBorrow_69 ?_
        refine v_lload E 2 rfl dJ26_mulsubBorrow_70 ?_
        refine v_l2i E dJ26_mulsubBorrow_72 ?_
        refine v_iconst E dJ26_mulsubBorrow_73 ?_
        refine v_ixor E (c := -1 - (x * dg D k + c)) (iZ_not _) dJ26_mulsubBorrow_74 ?_
        refine v_i2lLow E dJ26_mulsubBorrow_75 q1240 dJ26_mulsubBorrow_76 dJ26_mulsubBorrow_79 ?_
        refine v_lc_le E (tgt := 88) dJ26_mulsubBorrow_80 dJ26_mulsubBorrow_81 (by decide) ⟨by omega, by omega⟩ ⟨by omega, by omega⟩ (fun c_80 => ?_) (fun c_80 => ?_)
        · refine v_iconst E dJ26_mulsubBorrow_88 ?_
          refine v_i2l E ⟨by omega, by omega⟩ dJ26_mulsubBorrow_89 ?_
          refine v_ladd E dJ26_mulsubBorrow_90 ?_
          refine v_lstore E dJ26_mulsubBorrow_91 (zlt hL rfl) (lv' := [(8, vj ((((x * dg D k + c) % 18446744073709551616) / 2 ^ 32) + 0)), (13, vj ((((dg W k) + 2147483648) % 4294967296 - 2147483648) - (x * dg D k + c))), (5, vi (u + (-1))), (11, vj (x * dg D k + c)), (10, vi t), (6, vj x), (4, vi (m : Int)), (2, .ref d), (1, .ref v)]) rfl ?_
          refine v_iinc E 4 rfl dJ26_mulsubBorrow_93 (zlt hL rfl) (lv' := [(10, vi (t + (-1))), (8, vj ((((x * dg D k + c) % 18446744073709551616) / 2 ^ 32) + 0)), (13, vj ((((dg W k) + 2147483648) % 4294967296 - 2147483648) - (x * dg D k + c))), (5, vi (u + (-1))), (11, vj (x * dg D k + c)), (6, vj x), (4, vi (m : Int)), (2, .ref d), (1, .ref v)]) rfl ?_
          refine v_goto E (tgt := 24) dJ26_mulsubBorrow_96 (by decide) ?_
          refine V.sub [1, 0, 3, 5, 6, 7, 8] (lv' := [(8, vj ((((x * dg D k + c) % 18446744073709551616) / 2 ^ 32) + 0)), (10, vi (t + (-1))), (5, vi (u + (-1))), (6, vj x), (4, vi (m : Int)), (2, .ref d), (1, .ref v)]) rfl ?_
          exact ih_24  H (k + 1) _ _ _ (by omega) (by omega) (by omega) (by omega) (by rw [hms]; omega) hv hd
        · refine v_iconst E dJ26_mulsubBorrow_84 ?_
          refine v_goto E (tgt := 89) dJ26_mulsubBorrow_85 (by decide) ?_
          refine v_i2l E ⟨by omega, by omega⟩ dJ26_mulsubBorrow_89 ?_
          refine v_ladd E dJ26_mulsubBorrow_90 ?_
          refine v_lstore E dJ26_mulsubBorrow_91 (zlt hL rfl) (lv' := [(8, vj ((((x * dg D k + c) % 18446744073709551616) / 2 ^ 32) + 1)), (13, vj ((((dg W k) + 2147483648) % 4294967296 - 2147483648) - (x * dg D k + c))), (5, vi (u + (-1))), (11, vj (x * dg D k + c)), (10, vi t), (6, vj x), (4, vi (m : Int)), (2, .ref d), (1, .ref v)]) rfl ?_
          refine v_iinc E 4 rfl dJ26_mulsubBorrow_93 (zlt hL rfl) (lv' := [(10, vi (t + (-1))), (8, vj ((((x * dg D k + c) % 18446744073709551616) / 2 ^ 32) + 1)), (13, vj ((((dg W k) + 2147483648) % 4294967296 - 2147483648) - (x * dg D k + c))), (5, vi (u + (-1))), (11, vj (x * dg D k + c)), (6, vj x), (4, vi (m : Int)), (2, .ref d), (1, .ref v)]) rfl ?_
          refine v_goto E (tgt := 24) dJ26_mulsubBorrow_96 (by decide) ?_
          refine V.sub [1, 0, 3, 5, 6, 7, 8] (lv' := [(8, vj ((((x * dg D k + c) % 18446744073709551616) / 2 ^ 32) + 1)), (10, vi (t + (-1))), (5, vi (u + (-1))), (6, vj x), (4, vi (m : Int)), (2, .ref d), (1, .ref v)]) rfl ?_
          exact ih_24  H (k + 1) _ _ _ (by omega) (by omega) (by omega) (by omega) (by rw [hms]; omega) hv hd
  refine V.sub [2, 0, 1, 3, 8, 6, 5] (lv' := [(8, vj 0), (10, vi ((m : Int) - 1)), (5, vi (((o : Int) - 1) + (m : Int))), (6, vj x), (4, vi (m : Int)), (2, .ref d), (1, .ref v)]) rfl ?_
  exact loop_24 (m + 1) H0 0 _ _ _ (by omega) (by omega) (by omega) (by omega) (by rw [mb_0]; rfl) hv hd

set_option maxHeartbeats 1000000 in
set_option maxRecDepth 100000 in
/-- the divisor added -/
theorem h_da (κ : zK) (H0 : Heap) {a v d o m cap : Nat} {f : Nat → Int} {W D : Int} (hom : o + m ≤ cap) (hc2 : cap ≤ 1000) (hne_d_v : d ≠ v) (hW : ∀ j, j < m → f (o + j) = bM W m j) (hv : hp κ H0 v (eI κ cap f)) (hd : hp κ H0 d (eI κ m (bM D m))) : Mt κ yJ26_divadd cJ26_divadd 9 (some .int) 0 0 0 0 H0 [.ref a, .ref d, .ref v, vi (o : Int)] (fun q => q = v) (fun v9 H1 => ∃ (f1 : Nat → Int) (c : Int), v9 = some (vi c) ∧ hp κ H1 v (eI κ cap f1) ∧ (∀ j, j < m → f1 (o + j) = bM (W + D) m j) ∧ ∀ j, j < o ∨ o + m ≤ j → f1 j = f j) := by
  refine Mt.of (by decide) (Nat.le_of_ble_eq_true rfl) ?_
  intro z E hE hH0 hA0 hL hini
  have hAll : ∀ q, (fun q => q = v) q → zA z.A z.H0 q := fun q h => Or.inl (by rw [hA0]; exact h)
  have hNew : ∀ q, H0.size ≤ q → zA z.A z.H0 q := fun q h => Or.inr (by rw [hH0]; exact h)
  have E : zOK z cJ26_divadd RJ26 κ 0 0 (some .int) := E
  refine V.eqL (lv' := [(0, .ref a), (1, .ref d), (2, .ref v), (3, vi (o : Int))]) rfl ?_
  refine v_lconst E (x := 0) rfl dJ26_divadd_0 ?_
  refine v_lstore E dJ26_divadd_1 (zlt hL rfl) (lv' := [(4, vj 0), (0, .ref a), (1, .ref d), (2, .ref v), (3, vi (o : Int))]) rfl ?_
  refine v_aload_n E 2 rfl dJ26_divadd_3 ?_
  refine v_alen E dJ26_divadd_4 (t := 0) (ty := .int) hd rfl ?_
  refine v_iconst E dJ26_divadd_5 ?_
  refine v_isub E dJ26_divadd_6 ?_
  refine v_istore E dJ26_divadd_7 (zlt hL rfl) (lv' := [(6, vi ((m : Int) - 1)), (4, vj 0), (0, .ref a), (1, .ref d), (2, .ref v), (3, vi (o : Int))]) rfl ?_
  have loop_9 : ∀ (m_9 : Nat) (H : Heap) (k : Nat) (f1 : Nat → Int) (t c : Int), m - k < m_9 → (k ≤ m) → (t = (m : Int) - 1 - (k : Int)) → (c = cy W D k) → ((∀ j, m - k ≤ j → j < m → f1 (o + j) = bM (W + D) m j) ∧ ∀ j, j < m - k → f1 (o + j) = bM W m j) → (∀ j, j < o ∨ o + m ≤ j → f1 j = f j) → hp κ H v (eI κ cap f1) → hp κ H d (eI κ m (bM D m)) → V z H 0 0 9 [(4, vj c), (6, vi t), (3, vi (o : Int)), (2, .ref v), (1, .ref d)] [] := by
    intro m_9
    induction m_9 with
    | zero => intro H k f1 t c hm; exact absurd hm (by omega)
    | succ m_9 ih_9 =>
      intro H k f1 t c hm_9 hk ht hcb hf hout hv hd
      have hdw := dg_in W k
      have hdd := dg_in D k
      have hci := cy_in W D k
      have hcs := cy_s W D k
      refine v_iload E 1 rfl dJ26_divadd_9 ?_
      refine v_if_lt E (tgt := 62) dJ26_divadd_11 (by decide) ⟨by omega, by omega⟩ (fun c_11 => ?_) (fun c_11 => ?_)
      · refine v_lload E 0 rfl dJ26_divadd_62 ?_
        refine v_l2i E dJ26_divadd_64 ?_
        refine v_iret E hE dJ26_divadd_65 ?_
        obtain rfl : m = k := by omega
        exact ⟨f1, _, rfl, hv, fun j hj => hf.1 j (by omega) hj, hout⟩
      · refine v_aload_n E 4 rfl dJ26_divadd_14 ?_
        refine v_iload E 1 rfl dJ26_divadd_15 ?_
        refine v_iald E dJ26_divadd_17 hd (m - (k + 1)) (by omega) (by omega) (by omega) ?_
        refine v_i2lLow E dJ26_divadd_18 q1240 dJ26_divadd_19 dJ26_divadd_22 ?_
        refine v_aload_n E 3 rfl dJ26_divadd_23 ?_
        refine v_iload E 1 rfl dJ26_divadd_24 ?_
        refine v_iload_n E 2 rfl dJ26_divadd_26 ?_
        refine v_iadd E dJ26_divadd_27 ?_
        refine v_iald E dJ26_divadd_28 hv (o + (m - 1 - k)) (by omega) (by omega) (by omega) ?_
        refine v_i2lLow E dJ26_divadd_29 q1240 dJ26_divadd_30 dJ26_divadd_33 ?_
        refine v_ladd E dJ26_divadd_34 ?_
        refine v_lload E 0 rfl dJ26_divadd_35 ?_
        refine v_ladd E dJ26_divadd_37 ?_
        refine V.topl (x' := dg W k + dg D k + c) (congrArg jZ (by rw [hf.2 (m - 1 - k) (by omega), bM_s (by omega), bM_at (X := D) (n := m) (k := k) rfl (by omega), dg_m, dg_m]; omega)) ?_
        refine v_lstore E dJ26_divadd_38 (zlt hL rfl) (lv' := [(7, vj (dg W k + dg D k + c)), (4, vj c), (6, vi t), (3, vi (o : Int)), (2, .ref v), (1, .ref d)]) rfl ?_
        refine v_aload_n E 4 rfl dJ26_divadd_40 ?_
        refine v_iload E 2 rfl dJ26_divadd_41 ?_
        refine v_iload_n E 3 rfl dJ26_divadd_43 ?_
        refine v_iadd E dJ26_divadd_44 ?_
        refine v_lload E 0 rfl dJ26_divadd_45 ?_
        refine v_l2i E dJ26_divadd_47 ?_
        refine V.topi (x' := dg (W + D) k) (by rw [dg_add]; exact iZ_cong (by omega)) ?_
        refine v_iast E dJ26_divadd_48 hv (o + (m - 1 - k)) (by omega) (by omega) (by omega) (hAll _ rfl) (fun H_3 hv_1 hs_2 => ?_)
        have hd_4 := hd.same hs_2 hne_d_v
        refine v_lload E 0 rfl dJ26_divadd_49 ?_
        refine v_bipush E ⟨by decide, by decide⟩ dJ26_divadd_51 ?_
        refine v_lushr E 32 (by decide) dJ26_divadd_53 ?_
        refine v_lstore E dJ26_divadd_54 (zlt hL rfl) (lv' := [(4, vj (((dg W k + dg D k + c) % 18446744073709551616) / 2 ^ 32)), (7, vj (dg W k + dg D k + c)), (6, vi t), (3, vi (o : Int)), (2, .ref v), (1, .ref d)]) rfl ?_
        refine v_iinc E 2 rfl dJ26_divadd_56 (zlt hL rfl) (lv' := [(6, vi (t + (-1))), (4, vj (((dg W k + dg D k + c) % 18446744073709551616) / 2 ^ 32)), (7, vj (dg W k + dg D k + c)), (3, vi (o : Int)), (2, .ref v), (1, .ref d)]) rfl ?_
        refine v_goto E (tgt := 9) dJ26_divadd_59 (by decide) ?_
        refine V.sub [1, 0, 3, 4, 5] (lv' := [(4, vj (((dg W k + dg D k + c) % 18446744073709551616) / 2 ^ 32)), (6, vi (t + (-1))), (3, vi (o : Int)), (2, .ref v), (1, .ref d)]) rfl ?_
        exact ih_9  H_3 (k + 1) _ _ _ (by omega) (by omega) (by omega) (by rw [hcs]; omega) (pr_s (by omega) hf) (fun j hj => by rw [va_up_ne _ _ (by omega)]; exact hout j hj) hv_1 hd_4
  refine V.sub [1, 0, 5, 4, 3] (lv' := [(4, vj 0), (6, vi ((m : Int) - 1)), (3, vi (o : Int)), (2, .ref v), (1, .ref d)]) rfl ?_
  exact loop_9 (m + 1) H0 0 f _ _ (by omega) (by omega) (by omega) (by rw [cy_0]) ⟨fun j h1 h2 => absurd h2 (by omega), fun j hj => hW j (by omega)⟩ (fun j _ => rfl) hv hd

set_option maxHeartbeats 400000 in
set_option maxRecDepth 100000 in
/-- copied with a shift -/
theorem h_cas (κ : zK) (H0 : Heap) {v d o p n s cap cbp : Nat} {f g : Nat → Int} {X : Int} (hs1 : 1 ≤ s) (hs : s ≤ 31) (hpn : 0 < n) (hon : o + n ≤ cap) (hpc : p + n ≤ cbp) (hc2 : cap ≤ 1000) (hc22 : cbp ≤ 1000) (hne_v_d : v ≠ d) (hW : ∀ j, j < n → f (o + j) = bM X n j) (hv : hp κ H0 v (eI κ cap f)) (hd : hp κ H0 d (eI κ cbp g)) : Mt κ yJ26_copyAndShift cJ26_copyAndShift 10 (none) 0 0 0 0 H0 [.ref v, vi (o : Int), vi (n : Int), .ref d, vi (p : Int), vi (s : Int)] (fun q => q = d) (fun v9 H1 => v9 = none ∧ ∃ g1 : Nat → Int, hp κ H1 d (eI κ cbp g1) ∧ (∀ j, j < n → g1 (p + j) = bM (X * 2 ^ s) n j) ∧ ∀ j, j < p ∨ p + n ≤ j → g1 j = g j) := by
  refine Mt.of (by decide) (Nat.le_of_ble_eq_true rfl) ?_
  intro z E hE hH0 hA0 hL hini
  have hAll : ∀ q, (fun q => q = d) q → zA z.A z.H0 q := fun q h => Or.inl (by rw [hA0]; exact h)
  have hNew : ∀ q, H0.size ≤ q → zA z.A z.H0 q := fun q h => Or.inr (by rw [hH0]; exact h)
  have E : zOK z cJ26_copyAndShift RJ26 κ 0 0 (none) := E
  refine V.eqL (lv' := [(0, .ref v), (1, vi (o : Int)), (2, vi (n : Int)), (3, .ref d), (4, vi (p : Int)), (5, vi (s : Int))]) rfl ?_
  refine v_bipush E ⟨by decide, by decide⟩ dJ26_copyAndShift_0 ?_
  refine v_iload E 5 rfl dJ26_copyAndShift_2 ?_
  refine v_isub E dJ26_copyAndShift_4 ?_
  refine v_istore E dJ26_copyAndShift_5 (zlt hL rfl) (lv' := [(6, vi (32 - (s : Int))), (0, .ref v), (1, vi (o : Int)), (2, vi (n : Int)), (3, .ref d), (4, vi (p : Int)), (5, vi (s : Int))]) rfl ?_
  refine v_aload_n E 1 rfl dJ26_copyAndShift_7 ?_
  refine v_iload_n E 2 rfl dJ26_copyAndShift_8 ?_
  refine v_iald E dJ26_copyAndShift_9 hv o rfl (by omega) (by omega) ?_
  refine V.topi (x' := bM X n 0) (congrArg iZ (hW 0 hpn)) ?_
  refine v_istore E dJ26_copyAndShift_10 (zlt hL rfl) (lv' := [(7, vi (bM X n 0)), (6, vi (32 - (s : Int))), (0, .ref v), (1, vi (o : Int)), (2, vi (n : Int)), (3, .ref d), (4, vi (p : Int)), (5, vi (s : Int))]) rfl ?_
  refine v_iconst E dJ26_copyAndShift_12 ?_
  refine v_istore E dJ26_copyAndShift_13 (zlt hL rfl) (lv' := [(8, vi 0), (7, vi (bM X n 0)), (6, vi (32 - (s : Int))), (0, .ref v), (1, vi (o : Int)), (2, vi (n : Int)), (3, .ref d), (4, vi (p : Int)), (5, vi (s : Int))]) rfl ?_
  have loop_15 : ∀ (m_15 : Nat) (H : Heap) (k : Nat) (g1 : Nat → Int) (u : Int), n - k < m_15 → (k < n) → (u = (o : Int) + (k : Int)) → ((∀ j, j < k → g1 (p + j) = bM (X * 2 ^ s) n j) ∧ ∀ j, j < p ∨ p + n ≤ j → g1 j = g j) → hp κ H v (eI κ cap f) → hp κ H d (eI κ cbp g1) → V z H 0 0 15 [(8, vi (k : Int)), (7, vi (bM X n k)), (1, vi u), (6, vi (32 - (s : Int))), (5, vi (s : Int)), (4, vi (p : Int)), (3, .ref d), (2, vi (n : Int)), (0, .ref v)] [] := by
    intro m_15
    induction m_15 with
    | zero => intro H k g1 u hm; exact absurd hm (by omega)
    | succ m_15 ih_15 =>
      intro H k g1 u hm_15 hk hu hf hv hd
      refine v_iload E 0 rfl dJ26_copyAndShift_15 ?_
      refine v_iload_n E 7 rfl dJ26_copyAndShift_17 ?_
      refine v_iconst E dJ26_copyAndShift_18 ?_
      refine v_isub E dJ26_copyAndShift_19 ?_
      refine v_icmp_ge E (tgt := 59) dJ26_copyAndShift_20 (by decide) ⟨by omega, by omega⟩ ⟨by omega, by omega⟩ (fun c_20 => ?_) (fun c_20 => ?_)
      · refine v_aload_n E 6 rfl dJ26_copyAndShift_59 ?_
        refine v_iload E 5 rfl dJ26_copyAndShift_60 ?_
        refine v_iload_n E 7 rfl dJ26_copyAndShift_62 ?_
        refine v_iadd E dJ26_copyAndShift_63 ?_
        refine v_iconst E dJ26_copyAndShift_64 ?_
        refine v_isub E dJ26_copyAndShift_65 ?_
        refine v_iload E 1 rfl dJ26_copyAndShift_66 ?_
        refine v_iload E 4 rfl dJ26_copyAndShift_68 ?_
        refine v_ishl E s (by omega) dJ26_copyAndShift_70 ?_
        have ek : k = n - 1 := by omega
        refine V.topi (x' := dg (X * 2 ^ s) (n - 1 - k)) (by rw [ek, Nat.sub_self]; exact sh_last) ?_
        refine v_iast E dJ26_copyAndShift_71 hd (p + k) (by omega) (by omega) (by omega) (hAll _ rfl) (fun H_3 hd_1 hs_2 => ?_)
        have hv_4 := hv.same hs_2 hne_v_d
        refine v_vret E hE dJ26_copyAndShift_72 ?_
        exact ⟨rfl, _, hd_1, fun j hj => (cs_s hk hf).1 j (by omega), (cs_s hk hf).2⟩
      · refine v_iload E 1 rfl dJ26_copyAndShift_23 ?_
        refine v_istore E dJ26_copyAndShift_25 (zlt hL rfl) (lv' := [(9, vi (bM X n k)), (8, vi (k : Int)), (7, vi (bM X n k)), (1, vi u), (6, vi (32 - (s : Int))), (5, vi (s : Int)), (4, vi (p : Int)), (3, .ref d), (2, vi (n : Int)), (0, .ref v)]) rfl ?_
        refine v_aload_n E 9 rfl dJ26_copyAndShift_27 ?_
        refine v_iinc E 3 rfl dJ26_copyAndShift_28 (zlt hL rfl) (lv' := [(1, vi (u + 1)), (9, vi (bM X n k)), (8, vi (k : Int)), (7, vi (bM X n k)), (6, vi (32 - (s : Int))), (5, vi (s : Int)), (4, vi (p : Int)), (3, .ref d), (2, vi (n : Int)), (0, .ref v)]) rfl ?_
        refine v_iload_n E 0 rfl dJ26_copyAndShift_31 ?_
        refine v_iald E dJ26_copyAndShift_32 hv (o + (k + 1)) (by omega) (by omega) (by omega) ?_
        refine V.topi (x' := bM X n (k + 1)) (congrArg iZ (hW (k + 1) (by omega))) ?_
        refine v_istore E dJ26_copyAndShift_33 (zlt hL rfl) (lv' := [(7, vi (bM X n (k + 1))), (1, vi (u + 1)), (9, vi (bM X n k)), (8, vi (k : Int)), (6, vi (32 - (s : Int))), (5, vi (s : Int)), (4, vi (p : Int)), (3, .ref d), (2, vi (n : Int)), (0, .ref v)]) rfl ?_
        refine v_aload_n E 7 rfl dJ26_copyAndShift_35 ?_
        refine v_iload E 6 rfl dJ26_copyAndShift_36 ?_
        refine v_iload E 3 rfl dJ26_copyAndShift_38 ?_
        refine v_iadd E dJ26_copyAndShift_40 ?_
        refine v_iload E 2 rfl dJ26_copyAndShift_41 ?_
        refine v_iload E 5 rfl dJ26_copyAndShift_43 ?_
        refine v_ishl E s (by omega) dJ26_copyAndShift_45 ?_
        refine v_iload E 0 rfl dJ26_copyAndShift_46 ?_
        refine v_iload E 4 rfl dJ26_copyAndShift_48 ?_
        refine V.topi (x' := ((32 - s : Nat) : Int)) (congrArg iZ (by omega)) ?_
        refine v_iushr E (32 - s) (by omega) dJ26_copyAndShift_50 ?_
        refine v_ior E (c := dg (X * 2 ^ s) (n - 1 - k)) (shl_or hs (by omega)) dJ26_copyAndShift_51 ?_
        refine v_iast E dJ26_copyAndShift_52 hd (p + k) (by omega) (by omega) (by omega) (hAll _ rfl) (fun H_7 hd_5 hs_6 => ?_)
        have hv_8 := hv.same hs_6 hne_v_d
        refine v_iinc E 3 rfl dJ26_copyAndShift_53 (zlt hL rfl) (lv' := [(8, vi ((k : Int) + 1)), (7, vi (bM X n (k + 1))), (1, vi (u + 1)), (9, vi (bM X n k)), (6, vi (32 - (s : Int))), (5, vi (s : Int)), (4, vi (p : Int)), (3, .ref d), (2, vi (n : Int)), (0, .ref v)]) rfl ?_
        refine v_goto E (tgt := 15) dJ26_copyAndShift_56 (by decide) ?_
        refine V.sub [0, 1, 2, 4, 5, 6, 7, 8, 9] (lv' := [(8, vi ((k : Int) + 1)), (7, vi (bM X n (k + 1))), (1, vi (u + 1)), (6, vi (32 - (s : Int))), (5, vi (s : Int)), (4, vi (p : Int)), (3, .ref d), (2, vi (n : Int)), (0, .ref v)]) rfl ?_
        exact ih_15  H_7 (k + 1) _ _ (by omega) (by omega) (by omega) (cs_s (by omega) hf) hv_8 hd_5
  refine V.sub [0, 1, 4, 2, 8, 7, 6, 5, 3] (lv' := [(8, vi 0), (7, vi (bM X n 0)), (1, vi (o : Int)), (6, vi (32 - (s : Int))), (5, vi (s : Int)), (4, vi (p : Int)), (3, .ref d), (2, vi (n : Int)), (0, .ref v)]) rfl ?_
  exact loop_15 (n + 1) H0 0 g _ (by omega) hpn (by omega) ⟨fun j hj => absurd hj (by omega), fun j _ => rfl⟩ hv hd
