/-! MUTABLE BIG INTEGERS -/
/-- a MutableBigInteger at a: array v of cap ints, n ints from o on hold X -/
def MI (κ : zK) (H : Heap) (a v o n cap : Nat) (f : Nat → Int) (X : Int) : Prop :=
  hp κ H a (.inr (9, [.ref v, vi (n : Int), vi (o : Int)])) ∧ hp κ H v (eI κ cap f) ∧ o + n ≤ cap ∧ cap ≤ 1000 ∧ (∀ k, k < n → f (o + k) = bM X n k) ∧ 0 ≤ X ∧ X < 2 ^ (32 * n)
theorem MI.kept {κ : zK} {H H1 : Heap} {a v o n cap : Nat} {f : Nat → Int} {X : Int} (h : MI κ H a v o n cap f X) (h1 : H1[a]? = H[a]?) (h2 : H1[v]? = H[v]?) : MI κ H1 a v o n cap f X :=
  ⟨h.1.kept h1, h.2.1.kept h2, h.2.2⟩
theorem MI.lt {κ : zK} {H : Heap} {a v o n cap : Nat} {f : Nat → Int} {X : Int} (h : MI κ H a v o n cap f X) : a < H.size ∧ v < H.size := ⟨h.1.lt, h.2.1.lt⟩
theorem win_eq {f g : Nat → Int} {X Y : Int} {n o p k : Nat} (hf : ∀ k, k < n → f (o + k) = bM X n k) (hg : ∀ k, k < n → g (p + k) = bM Y n k) (hk : k ≤ n) (h : ∀ j, j < k → f (o + j) = g (p + j)) : ∀ j, n - k ≤ j → j < n → dg X j = dg Y j := by
  intro j h1 h2
  have h3 := h (n - 1 - j) (by omega)
  rw [hf _ (by omega), hg _ (by omega)] at h3
  unfold bM at h3
  rwa [show n - 1 - (n - 1 - j) = j by omega] at h3
theorem skip_win {f : Nat → Int} {X : Int} {n o k : Nat} (hf : ∀ k, k < n → f (o + k) = bM X n k) (hk : k ≤ n) : ∀ j, j < n - k → f (o + k + j) = bM X (n - k) j := by
  intro j hj
  rw [show o + k + j = o + (k + j) by omega, hf _ (by omega)]
  unfold bM
  rw [show n - 1 - (k + j) = n - k - 1 - j by omega]
theorem cut_win {f : Nat → Int} {X : Int} {n o u : Nat} (hf : ∀ k, k < n → f (o + k) = bM X n k) (hu : u ≤ n) : ∀ j, j < n - u → f (o + j) = bM (X / 2 ^ (32 * u)) (n - u) j := by
  intro j hj
  rw [hf _ (by omega)]
  unfold bM
  have := dg_shr X u 0 (by decide) (n - u - 1 - j)
  rw [Nat.add_zero] at this
  rw [this, show n - u - 1 - j + u = n - 1 - j by omega, show (2 : Int) ^ (32 - 0) = 4294967296 from rfl, show (2 : Int) ^ 0 = 1 from rfl, Int.ediv_one, Int.add_mul_emod_self_right, dg_m]
set_option maxHeartbeats 400000 in
set_option maxRecDepth 100000 in
/-- compare -/
theorem h_cmp (κ : zK) (H0 : Heap) {a v o n cap : Nat} {f : Nat → Int} {X : Int} {b w p m cbp : Nat} {g : Nat → Int} {Y : Int} (hD : zDist κ) (hn : isInts X n) (hm : isInts Y m) (hM : MI κ H0 a v o n cap f X) (hM2 : MI κ H0 b w p m cbp g Y)  : Mt κ yJ26_compare cJ26_compare 8 (some .int) 0 0 0 0 H0 [.ref a, .ref b] (fun _ => False) (fun v H1 => ∃ o : Int, v = some (vi o) ∧ (o = -1 ∧ X < Y ∨ o = 0 ∧ X = Y ∨ o = 1 ∧ Y < X)) := by
  refine Mt.of (by decide) (Nat.le_of_ble_eq_true rfl) ?_
  intro z E hE hH0 hA0 hL hini
  have hAll : ∀ q, (fun _ => False) q → zA z.A z.H0 q := fun q h => Or.inl (by rw [hA0]; exact h)
  have hNew : ∀ q, H0.size ≤ q → zA z.A z.H0 q := fun q h => Or.inr (by rw [hH0]; exact h)
  have E : zOK z cJ26_compare RJ26 κ 0 0 (some .int) := E
  refine V.eqL (lv' := [(0, .ref a), (1, .ref b)]) rfl ?_
  obtain ⟨hoa, hv, hcap, hc2, hW, hX0, hX1⟩ := hM
  have hne_v_a : v ≠ a := Ne.symm (hp.ka hD hoa hv (by decide) (by decide))
  obtain ⟨hob, hw, hcap2, hc22, hW2, hX02, hX12⟩ := hM2
  refine v_aload_n E 1 rfl dJ26_compare_0 ?_
  refine v_getf E in_J26 hob (ci := 9) rfl 1 (by decide) q1173 rfl (v := vi (m : Int)) rfl dJ26_compare_1 ?_
  refine v_istore_n E dJ26_compare_4 (zlt hL rfl) (lv' := [(2, vi (m : Int)), (0, .ref a), (1, .ref b)]) rfl ?_
  refine v_aload_n E 1 rfl dJ26_compare_5 ?_
  refine v_getf E in_J26 hoa (ci := 9) rfl 1 (by decide) q1173 rfl (v := vi (n : Int)) rfl dJ26_compare_6 ?_
  refine v_iload_n E 0 rfl dJ26_compare_9 ?_
  refine v_icmp_ge E (tgt := 15) dJ26_compare_10 (by decide) ⟨by omega, by omega⟩ ⟨by omega, by omega⟩ (fun c_10 => ?_) (fun c_10 => ?_)
  · refine v_aload_n E 1 rfl dJ26_compare_15 ?_
    refine v_getf E in_J26 hoa (ci := 9) rfl 1 (by decide) q1173 rfl (v := vi (n : Int)) rfl dJ26_compare_16 ?_
    refine v_iload_n E 0 rfl dJ26_compare_19 ?_
    refine v_icmp_le E (tgt := 25) dJ26_compare_20 (by decide) ⟨by omega, by omega⟩ ⟨by omega, by omega⟩ (fun c_20 => ?_) (fun c_20 => ?_)
    · obtain rfl : n = m := by omega
      refine v_aload_n E 2 rfl dJ26_compare_25 ?_
      refine v_getf E in_J26 hob (ci := 9) rfl 0 (by decide) q1172 rfl (v := .ref w) rfl dJ26_compare_26 ?_
      refine v_astore_n E dJ26_compare_29 (zlt hL rfl) (lv' := [(3, .ref w), (2, vi (n : Int)), (0, .ref a), (1, .ref b)]) rfl ?_
      refine v_aload_n E 2 rfl dJ26_compare_30 ?_
      refine v_getf E in_J26 hoa (ci := 9) rfl 2 (by decide) q1174 rfl (v := vi (o : Int)) rfl dJ26_compare_31 ?_
      refine v_istore E dJ26_compare_34 (zlt hL rfl) (lv' := [(4, vi (o : Int)), (3, .ref w), (2, vi (n : Int)), (0, .ref a), (1, .ref b)]) rfl ?_
      refine v_aload_n E 4 rfl dJ26_compare_36 ?_
      refine v_getf E in_J26 hob (ci := 9) rfl 2 (by decide) q1174 rfl (v := vi (p : Int)) rfl dJ26_compare_37 ?_
      refine v_istore E dJ26_compare_40 (zlt hL rfl) (lv' := [(5, vi (p : Int)), (4, vi (o : Int)), (3, .ref w), (2, vi (n : Int)), (0, .ref a), (1, .ref b)]) rfl ?_
      have loop_42 : ∀ (m_42 : Nat) (H : Heap) (k : Nat) (u t : Int), n - k < m_42 → (k ≤ n) → (u = (o : Int) + (k : Int)) → (t = (p : Int) + (k : Int)) → (∀ j, j < k → f (o + j) = g (p + j)) → hp κ H a (.inr (9, [.ref v, vi (n : Int), vi (o : Int)])) → hp κ H v (eI κ cap f) → hp κ H w (eI κ cbp g) → V z H 0 0 42 [(4, vi u), (5, vi t), (3, .ref w), (2, vi (n : Int)), (0, .ref a)] [] := by
        intro m_42
        induction m_42 with
        | zero => intro H k u t hm; exact absurd hm (by omega)
        | succ m_42 ih_42 =>
          intro H k u t hm_42 hk hu ht he hoa hv hw
          refine v_iload E 0 rfl dJ26_compare_42 ?_
          refine v_aload_n E 4 rfl dJ26_compare_44 ?_
          refine v_getf E in_J26 hoa (ci := 9) rfl 1 (by decide) q1173 rfl (v := vi (n : Int)) rfl dJ26_compare_45 ?_
          refine v_aload_n E 4 rfl dJ26_compare_48 ?_
          refine v_getf E in_J26 hoa (ci := 9) rfl 2 (by decide) q1174 rfl (v := vi (o : Int)) rfl dJ26_compare_49 ?_
          refine v_iadd E dJ26_compare_52 ?_
          refine v_icmp_ge E (tgt := 104) dJ26_compare_53 (by decide) ⟨by omega, by omega⟩ ⟨by omega, by omega⟩ (fun c_53 => ?_) (fun c_53 => ?_)
          · refine v_iconst E dJ26_compare_104 ?_
            refine v_iret E hE dJ26_compare_105 ?_
            obtain rfl : n = k := by omega
            exact ⟨_, rfl, Or.inr (Or.inl ⟨rfl, cmp_eq ⟨hX0, hX1⟩ ⟨hX02, hX12⟩ (fun j hj => win_eq hW hW2 hk he j (by omega) hj)⟩)⟩
          · refine v_aload_n E 4 rfl dJ26_compare_56 ?_
            refine v_getf E in_J26 hoa (ci := 9) rfl 0 (by decide) q1172 rfl (v := .ref v) rfl dJ26_compare_57 ?_
            refine v_iload E 0 rfl dJ26_compare_60 ?_
            refine v_iald E dJ26_compare_62 hv (o + k) (by omega) (by omega) (by omega) ?_
            refine v_ldc E q1223 dJ26_compare_63 ?_
            refine V.eq (st' := vi (-2147483648) :: _) rfl ?_
            have hdx := bM_in X n k
            have hdy := bM_in Y n k
            refine v_iadd E dJ26_compare_65 ?_
            refine V.topi (x' := bM X n k - 2147483648) (iZ_cong (by rw [hW k (by omega)]; omega)) ?_
            refine v_istore E dJ26_compare_66 (zlt hL rfl) (lv' := [(6, vi (bM X n k - 2147483648)), (4, vi u), (5, vi t), (3, .ref w), (2, vi (n : Int)), (0, .ref a)]) rfl ?_
            refine v_aload_n E 3 rfl dJ26_compare_68 ?_
            refine v_iload E 2 rfl dJ26_compare_69 ?_
            refine v_iald E dJ26_compare_71 hw (p + k) (by omega) (by omega) (by omega) ?_
            refine v_ldc E q1223 dJ26_compare_72 ?_
            refine V.eq (st' := vi (-2147483648) :: _) rfl ?_
            refine v_iadd E dJ26_compare_74 ?_
            refine V.topi (x' := bM Y n k - 2147483648) (iZ_cong (by rw [hW2 k (by omega)]; omega)) ?_
            refine v_istore E dJ26_compare_75 (zlt hL rfl) (lv' := [(7, vi (bM Y n k - 2147483648)), (6, vi (bM X n k - 2147483648)), (4, vi u), (5, vi t), (3, .ref w), (2, vi (n : Int)), (0, .ref a)]) rfl ?_
            refine v_iload E 1 rfl dJ26_compare_77 ?_
            refine v_iload E 0 rfl dJ26_compare_79 ?_
            refine v_icmp_ge E (tgt := 86) dJ26_compare_81 (by decide) ⟨by omega, by omega⟩ ⟨by omega, by omega⟩ (fun c_81 => ?_) (fun c_81 => ?_)
            · refine v_iload E 1 rfl dJ26_compare_86 ?_
              refine v_iload E 0 rfl dJ26_compare_88 ?_
              refine v_icmp_le E (tgt := 95) dJ26_compare_90 (by decide) ⟨by omega, by omega⟩ ⟨by omega, by omega⟩ (fun c_90 => ?_) (fun c_90 => ?_)
              · refine v_iinc E 2 rfl dJ26_compare_95 (zlt hL rfl) (lv' := [(4, vi (u + 1)), (7, vi (bM Y n k - 2147483648)), (6, vi (bM X n k - 2147483648)), (5, vi t), (3, .ref w), (2, vi (n : Int)), (0, .ref a)]) rfl ?_
                refine v_iinc E 3 rfl dJ26_compare_98 (zlt hL rfl) (lv' := [(5, vi (t + 1)), (4, vi (u + 1)), (7, vi (bM Y n k - 2147483648)), (6, vi (bM X n k - 2147483648)), (3, .ref w), (2, vi (n : Int)), (0, .ref a)]) rfl ?_
                refine v_goto E (tgt := 42) dJ26_compare_101 (by decide) ?_
                refine V.sub [1, 0, 4, 5, 6] (lv' := [(4, vi (u + 1)), (5, vi (t + 1)), (3, .ref w), (2, vi (n : Int)), (0, .ref a)]) rfl ?_
                exact ih_42  H (k + 1) _ _ (by omega) (by omega) (by omega) (by omega) (lt_s (p := fun j => f (o + j) = g (p + j)) he (by rw [hW k (by omega), hW2 k (by omega)]; omega)) hoa hv hw
              · refine v_iconst E dJ26_compare_93 ?_
                refine v_iret E hE dJ26_compare_94 ?_
                have hdd : bM X n k = dg X (n - 1 - k) := rfl
                have hee : bM Y n k = dg Y (n - 1 - k) := rfl
                exact ⟨_, rfl, Or.inr (Or.inr ⟨rfl, cmp_lt ⟨hX02, hX12⟩ ⟨hX0, hX1⟩ (k := n - 1 - k) (by omega) (fun j h1 h2 => (win_eq hW hW2 hk he j (by omega) h2).symm) (by omega)⟩)⟩
            · refine v_iconst E dJ26_compare_84 ?_
              refine v_iret E hE dJ26_compare_85 ?_
              have hdd : bM X n k = dg X (n - 1 - k) := rfl
              have hee : bM Y n k = dg Y (n - 1 - k) := rfl
              exact ⟨_, rfl, Or.inl ⟨rfl, cmp_lt ⟨hX0, hX1⟩ ⟨hX02, hX12⟩ (k := n - 1 - k) (by omega) (fun j h1 h2 => win_eq hW hW2 hk he j (by omega) h2) (by omega)⟩⟩
      refine V.sub [1, 0, 2, 3, 4] (lv' := [(4, vi (o : Int)), (5, vi (p : Int)), (3, .ref w), (2, vi (n : Int)), (0, .ref a)]) rfl ?_
      exact loop_42 (n + 1) H0 0 _ _ (by omega) (by omega) (by omega) (by omega) (fun j hj => absurd hj (by omega)) hoa hv hw
    · refine v_iconst E dJ26_compare_23 ?_
      refine v_iret E hE dJ26_compare_24 ?_
      exact ⟨_, rfl, Or.inr (Or.inr ⟨rfl, ints_lt hm hn (by omega)⟩)⟩
  · refine v_iconst E dJ26_compare_13 ?_
    refine v_iret E hE dJ26_compare_14 ?_
    exact ⟨_, rfl, Or.inl ⟨rfl, ints_lt hn hm (by omega)⟩⟩

set_option maxHeartbeats 400000 in
set_option maxRecDepth 100000 in
/-- normalize -/
theorem h_norm (κ : zK) (H0 : Heap) {a v o n cap : Nat} {f : Nat → Int} {X : Int} (hD : zDist κ) (hs : sB X) (hM : MI κ H0 a v o n cap f X)  : Mt κ yJ26_normalize cJ26_normalize 4 (none) 0 0 0 0 H0 [.ref a] (fun q => q = a) (fun v9 H1 => v9 = none ∧ ∃ (o2 n2 : Nat), hp κ H1 a (.inr (9, [.ref v, vi (n2 : Int), vi (o2 : Int)])) ∧ o2 + n2 ≤ o + n ∧ n2 ≤ n ∧ (∀ k, k < n2 → f (o2 + k) = bM X n2 k) ∧ isInts X n2) := by
  refine Mt.of (by decide) (Nat.le_of_ble_eq_true rfl) ?_
  intro z E hE hH0 hA0 hL hini
  have hAll : ∀ q, (fun q => q = a) q → zA z.A z.H0 q := fun q h => Or.inl (by rw [hA0]; exact h)
  have hNew : ∀ q, H0.size ≤ q → zA z.A z.H0 q := fun q h => Or.inr (by rw [hH0]; exact h)
  have E : zOK z cJ26_normalize RJ26 κ 0 0 (none) := E
  refine V.eqL (lv' := [(0, .ref a)]) rfl ?_
  obtain ⟨hoa, hv, hcap, hc2, hW, hX0, hX1⟩ := hM
  have hne_v_a : v ≠ a := Ne.symm (hp.ka hD hoa hv (by decide) (by decide))
  refine v_aload_n E 0 rfl dJ26_normalize_0 ?_
  refine v_getf E in_J26 hoa (ci := 9) rfl 1 (by decide) q1173 rfl (v := vi (n : Int)) rfl dJ26_normalize_1 ?_
  refine v_if_ne E (tgt := 13) dJ26_normalize_4 (by decide) ⟨by omega, by omega⟩ (fun c_4 => ?_) (fun c_4 => ?_)
  · refine v_aload_n E 0 rfl dJ26_normalize_13 ?_
    refine v_getf E in_J26 hoa (ci := 9) rfl 2 (by decide) q1174 rfl (v := vi (o : Int)) rfl dJ26_normalize_14 ?_
    refine v_istore_n E dJ26_normalize_17 (zlt hL rfl) (lv' := [(1, vi (o : Int)), (0, .ref a)]) rfl ?_
    refine v_aload_n E 1 rfl dJ26_normalize_18 ?_
    refine v_getf E in_J26 hoa (ci := 9) rfl 0 (by decide) q1172 rfl (v := .ref v) rfl dJ26_normalize_19 ?_
    refine v_iload_n E 0 rfl dJ26_normalize_22 ?_
    refine v_iald E dJ26_normalize_23 hv (o + 0) (by omega) (by omega) (by omega) ?_
    have hb9 := bM_in X n 0
    refine V.topi (x' := bM X n 0) (congrArg iZ (hW 0 (by omega))) ?_
    refine V.topi (x' := ((bM X n 0) + 2147483648) % 4294967296 - 2147483648) (iZ_sg _) ?_
    refine v_if_eq E (tgt := 28) dJ26_normalize_24 (by decide) ⟨by omega, by omega⟩ (fun c_24 => ?_) (fun c_24 => ?_)
    · have hz1 : ∀ j, j < 0 + 1 → bM X n j = 0 := fun j hj => by rw [show j = 0 by omega]; omega
      refine v_iload_n E 0 rfl dJ26_normalize_28 ?_
      refine v_aload_n E 1 rfl dJ26_normalize_29 ?_
      refine v_getf E in_J26 hoa (ci := 9) rfl 1 (by decide) q1173 rfl (v := vi (n : Int)) rfl dJ26_normalize_30 ?_
      refine v_iadd E dJ26_normalize_33 ?_
      refine v_istore_n E dJ26_normalize_34 (zlt hL rfl) (lv' := [(2, vi ((o : Int) + (n : Int))), (1, vi (o : Int)), (0, .ref a)]) rfl ?_
      have loop_35 : ∀ (m_35 : Nat) (H : Heap) (k : Nat) (u : Int), n - k < m_35 → (k < n) → (u = (o : Int) + (k : Int)) → (∀ j, j < k + 1 → bM X n j = 0) → hp κ H a (.inr (9, [.ref v, vi (n : Int), vi (o : Int)])) → hp κ H v (eI κ cap f) → V z H 0 0 35 [(1, vi u), (2, vi ((o : Int) + (n : Int))), (0, .ref a)] [] := by
        intro m_35
        induction m_35 with
        | zero => intro H k u hm; exact absurd hm (by omega)
        | succ m_35 ih_35 =>
          intro H k u hm_35 hk hu hz hoa hv
          refine v_iinc E 0 rfl dJ26_normalize_35 (zlt hL rfl) (lv' := [(1, vi (u + 1)), (2, vi ((o : Int) + (n : Int))), (0, .ref a)]) rfl ?_
          refine v_iload_n E 0 rfl dJ26_normalize_38 ?_
          refine v_iload_n E 1 rfl dJ26_normalize_39 ?_
          refine v_icmp_ge E (tgt := 52) dJ26_normalize_40 (by decide) ⟨by omega, by omega⟩ ⟨by omega, by omega⟩ (fun c_40 => ?_) (fun c_40 => ?_)
          · have hfin : isInts X (n - (k + 1)) := strip_fin hX0 hX1 hs (by omega) hz (by intro h9; omega)
            refine v_iload_n E 0 rfl dJ26_normalize_52 ?_
            refine v_aload_n E 2 rfl dJ26_normalize_53 ?_
            refine v_getf E in_J26 hoa (ci := 9) rfl 2 (by decide) q1174 rfl (v := vi (o : Int)) rfl dJ26_normalize_54 ?_
            refine v_isub E dJ26_normalize_57 ?_
            refine v_istore_n E dJ26_normalize_58 (zlt hL rfl) (lv' := [(3, vi ((u + 1) - (o : Int))), (1, vi (u + 1)), (2, vi ((o : Int) + (n : Int))), (0, .ref a)]) rfl ?_
            refine v_aload_n E 3 rfl dJ26_normalize_59 ?_
            refine v_dup E rfl dJ26_normalize_60 ?_
            refine v_getf E in_J26 hoa (ci := 9) rfl 1 (by decide) q1173 rfl (v := vi (n : Int)) rfl dJ26_normalize_61 ?_
            refine v_iload_n E 0 rfl dJ26_normalize_64 ?_
            refine v_isub E dJ26_normalize_65 ?_
            refine v_putf E in_J26 tyJ26 tyJ26_ok nmJ26 hoa (ci := 9) rfl 1 (Nat.le_of_ble_eq_true rfl) q1173 rfl rfl rfl rfl (Nat.le_of_ble_eq_true rfl) (hAll _ rfl) dJ26_normalize_66 (fun H_3 hoa_1 hs_2 => ?_)
            have hv_4 := hv.same hs_2 hne_v_a
            have hoa_1 : hp κ H_3 a (.inr (9, [.ref v, vi ((n : Int) - ((u + 1) - (o : Int))), vi (o : Int)])) := hoa_1
            refine v_aload_n E 3 rfl dJ26_normalize_69 ?_
            refine v_aload_n E 3 rfl dJ26_normalize_70 ?_
            refine v_getf E in_J26 hoa_1 (ci := 9) rfl 1 (by decide) q1173 rfl (v := vi ((n : Int) - ((u + 1) - (o : Int)))) rfl dJ26_normalize_71 ?_
            refine v_if_ne E (tgt := 81) dJ26_normalize_74 (by decide) ⟨by omega, by omega⟩ (fun c_74 => ?_) (fun c_74 => ?_)
            · refine v_aload_n E 3 rfl dJ26_normalize_81 ?_
              refine v_getf E in_J26 hoa_1 (ci := 9) rfl 2 (by decide) q1174 rfl (v := vi (o : Int)) rfl dJ26_normalize_82 ?_
              refine v_iload_n E 0 rfl dJ26_normalize_85 ?_
              refine v_iadd E dJ26_normalize_86 ?_
              refine v_putf E in_J26 tyJ26 tyJ26_ok nmJ26 hoa_1 (ci := 9) rfl 2 (Nat.le_of_ble_eq_true rfl) q1174 rfl rfl rfl rfl (Nat.le_of_ble_eq_true rfl) (hAll _ rfl) dJ26_normalize_87 (fun H_7 hoa_5 hs_6 => ?_)
              have hv_8 := hv_4.same hs_6 hne_v_a
              have hoa_5 : hp κ H_7 a (.inr (9, [.ref v, vi ((n : Int) - ((u + 1) - (o : Int))), vi ((o : Int) + ((u + 1) - (o : Int)))])) := hoa_5
              refine v_vret E hE dJ26_normalize_90 ?_
              have e8 : ((n - (k + 1) : Nat) : Int) = (n : Int) - ((u + 1) - (o : Int)) := by omega
              have e7 : ((o + (k + 1) : Nat) : Int) = (o : Int) + ((u + 1) - (o : Int)) := by omega
              exact ⟨rfl, o + (k + 1), n - (k + 1), by rw [e8, e7]; exact hoa_5, by omega, by omega, skip_win hW (by omega), hfin⟩
            · refine v_iconst E dJ26_normalize_77 ?_
              refine v_goto E (tgt := 87) dJ26_normalize_78 (by decide) ?_
              refine v_putf E in_J26 tyJ26 tyJ26_ok nmJ26 hoa_1 (ci := 9) rfl 2 (Nat.le_of_ble_eq_true rfl) q1174 rfl rfl rfl rfl (Nat.le_of_ble_eq_true rfl) (hAll _ rfl) dJ26_normalize_87 (fun H_11 hoa_9 hs_10 => ?_)
              have hv_12 := hv_4.same hs_10 hne_v_a
              have hoa_9 : hp κ H_11 a (.inr (9, [.ref v, vi ((n : Int) - ((u + 1) - (o : Int))), vi 0])) := hoa_9
              refine v_vret E hE dJ26_normalize_90 ?_
              have e8 : ((n - (k + 1) : Nat) : Int) = (n : Int) - ((u + 1) - (o : Int)) := by omega
              exact ⟨rfl, 0, n - (k + 1), by rw [e8]; exact hoa_9, by omega, by omega, fun j hj => absurd hj (by omega), hfin⟩
          · refine v_aload_n E 2 rfl dJ26_normalize_43 ?_
            refine v_getf E in_J26 hoa (ci := 9) rfl 0 (by decide) q1172 rfl (v := .ref v) rfl dJ26_normalize_44 ?_
            refine v_iload_n E 0 rfl dJ26_normalize_47 ?_
            refine v_iald E dJ26_normalize_48 hv (o + (k + 1)) (by omega) (by omega) (by omega) ?_
            have hb9 := bM_in X n (k + 1)
            refine V.topi (x' := bM X n (k + 1)) (congrArg iZ (hW (k + 1) (by omega))) ?_
            refine V.topi (x' := ((bM X n (k + 1)) + 2147483648) % 4294967296 - 2147483648) (iZ_sg _) ?_
            refine v_if_eq E (tgt := 35) dJ26_normalize_49 (by decide) ⟨by omega, by omega⟩ (fun c_49 => ?_) (fun c_49 => ?_)
            · exact ih_35  H (k + 1) _ (by omega) (by omega) (by omega) (lt_s hz (by have := bM_in X n (k + 1); omega)) hoa hv
            · have hfin : isInts X (n - (k + 1)) := strip_fin hX0 hX1 hs (by omega) hz (by intro h9; omega)
              refine v_iload_n E 0 rfl dJ26_normalize_52 ?_
              refine v_aload_n E 2 rfl dJ26_normalize_53 ?_
              refine v_getf E in_J26 hoa (ci := 9) rfl 2 (by decide) q1174 rfl (v := vi (o : Int)) rfl dJ26_normalize_54 ?_
              refine v_isub E dJ26_normalize_57 ?_
              refine v_istore_n E dJ26_normalize_58 (zlt hL rfl) (lv' := [(3, vi ((u + 1) - (o : Int))), (1, vi (u + 1)), (2, vi ((o : Int) + (n : Int))), (0, .ref a)]) rfl ?_
              refine v_aload_n E 3 rfl dJ26_normalize_59 ?_
              refine v_dup E rfl dJ26_normalize_60 ?_
              refine v_getf E in_J26 hoa (ci := 9) rfl 1 (by decide) q1173 rfl (v := vi (n : Int)) rfl dJ26_normalize_61 ?_
              refine v_iload_n E 0 rfl dJ26_normalize_64 ?_
              refine v_isub E dJ26_normalize_65 ?_
              refine v_putf E in_J26 tyJ26 tyJ26_ok nmJ26 hoa (ci := 9) rfl 1 (Nat.le_of_ble_eq_true rfl) q1173 rfl rfl rfl rfl (Nat.le_of_ble_eq_true rfl) (hAll _ rfl) dJ26_normalize_66 (fun H_15 hoa_13 hs_14 => ?_)
              have hv_16 := hv.same hs_14 hne_v_a
              have hoa_13 : hp κ H_15 a (.inr (9, [.ref v, vi ((n : Int) - ((u + 1) - (o : Int))), vi (o : Int)])) := hoa_13
              refine v_aload_n E 3 rfl dJ26_normalize_69 ?_
              refine v_aload_n E 3 rfl dJ26_normalize_70 ?_
              refine v_getf E in_J26 hoa_13 (ci := 9) rfl 1 (by decide) q1173 rfl (v := vi ((n : Int) - ((u + 1) - (o : Int)))) rfl dJ26_normalize_71 ?_
              refine v_if_ne E (tgt := 81) dJ26_normalize_74 (by decide) ⟨by omega, by omega⟩ (fun c_74 => ?_) (fun c_74 => ?_)
              · refine v_aload_n E 3 rfl dJ26_normalize_81 ?_
                refine v_getf E in_J26 hoa_13 (ci := 9) rfl 2 (by decide) q1174 rfl (v := vi (o : Int)) rfl dJ26_normalize_82 ?_
                refine v_iload_n E 0 rfl dJ26_normalize_85 ?_
                refine v_iadd E dJ26_normalize_86 ?_
                refine v_putf E in_J26 tyJ26 tyJ26_ok nmJ26 hoa_13 (ci := 9) rfl 2 (Nat.le_of_ble_eq_true rfl) q1174 rfl rfl rfl rfl (Nat.le_of_ble_eq_true rfl) (hAll _ rfl) dJ26_normalize_87 (fun H_19 hoa_17 hs_18 => ?_)
                have hv_20 := hv_16.same hs_18 hne_v_a
                have hoa_17 : hp κ H_19 a (.inr (9, [.ref v, vi ((n : Int) - ((u + 1) - (o : Int))), vi ((o : Int) + ((u + 1) - (o : Int)))])) := hoa_17
                refine v_vret E hE dJ26_normalize_90 ?_
                have e8 : ((n - (k + 1) : Nat) : Int) = (n : Int) - ((u + 1) - (o : Int)) := by omega
                have e7 : ((o + (k + 1) : Nat) : Int) = (o : Int) + ((u + 1) - (o : Int)) := by omega
                exact ⟨rfl, o + (k + 1), n - (k + 1), by rw [e8, e7]; exact hoa_17, by omega, by omega, skip_win hW (by omega), hfin⟩
              · refine v_iconst E dJ26_normalize_77 ?_
                refine v_goto E (tgt := 87) dJ26_normalize_78 (by decide) ?_
                refine v_putf E in_J26 tyJ26 tyJ26_ok nmJ26 hoa_13 (ci := 9) rfl 2 (Nat.le_of_ble_eq_true rfl) q1174 rfl rfl rfl rfl (Nat.le_of_ble_eq_true rfl) (hAll _ rfl) dJ26_normalize_87 (fun H_23 hoa_21 hs_22 => ?_)
                have hv_24 := hv_16.same hs_22 hne_v_a
                have hoa_21 : hp κ H_23 a (.inr (9, [.ref v, vi ((n : Int) - ((u + 1) - (o : Int))), vi 0])) := hoa_21
                refine v_vret E hE dJ26_normalize_90 ?_
                have e8 : ((n - (k + 1) : Nat) : Int) = (n : Int) - ((u + 1) - (o : Int)) := by omega
                exact ⟨rfl, 0, n - (k + 1), by rw [e8]; exact hoa_21, by omega, by omega, fun j hj => absurd hj (by omega), hfin⟩
      refine V.sub [1, 0, 2] (lv' := [(1, vi (o : Int)), (2, vi ((o : Int) + (n : Int))), (0, .ref a)]) rfl ?_
      exact loop_35 (n + 1) H0 0 _ (by omega) (by omega) (by omega) hz1 hoa hv
    · refine v_vret E hE dJ26_normalize_27 ?_
      have hfin : isInts X (n - 0) := strip_fin hX0 hX1 hs (by omega) (fun j hj => absurd hj (by omega)) (by intro h9; omega)
      exact ⟨rfl, o, n, hoa, by omega, by omega, hW, hfin⟩
  · refine v_aload_n E 0 rfl dJ26_normalize_7 ?_
    refine v_iconst E dJ26_normalize_8 ?_
    refine v_putf E in_J26 tyJ26 tyJ26_ok nmJ26 hoa (ci := 9) rfl 2 (Nat.le_of_ble_eq_true rfl) q1174 rfl rfl rfl rfl (Nat.le_of_ble_eq_true rfl) (hAll _ rfl) dJ26_normalize_9 (fun H_27 hoa_25 hs_26 => ?_)
    have hv_28 := hv.same hs_26 hne_v_a
    have hoa_25 : hp κ H_27 a (.inr (9, [.ref v, vi (n : Int), vi 0])) := hoa_25
    refine v_vret E hE dJ26_normalize_12 ?_
    obtain rfl : n = 0 := by omega
    exact ⟨rfl, 0, 0, hoa_25, by omega, by omega, fun k hk => absurd hk (by omega), ⟨by decide, hX1, fun h => absurd h (by decide)⟩⟩
