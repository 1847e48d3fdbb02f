/-! BIG INTEGERS: products of arrays -/
theorem lo_s {f : Nat → Int} {g : Nat → Int} {L k j0 : Nat} (hj : j0 = L - k) (hk : k ≤ L) (hf : ∀ p, p < k → f (L - p) = g p) : ∀ p, p < k + 1 → va_up f j0 (g k) (L - p) = g p := by
  intro p hp
  subst hj
  by_cases e : p = k
  · rw [e, va_up_self]
  · rw [va_up_ne _ _ (by omega)]; exact hf p (by omega)
theorem in_s {f : Nat → Int} {g h : Nat → Int} {L M i k j0 : Nat} (hj : j0 = L - (i + k)) (hL : i + k ≤ L) (hM : M ≤ L + 1) (hf : ∀ p, p < M → f (L - p) = if p < i + k then g p else h p) : ∀ p, p < M → va_up f j0 (g (i + k)) (L - p) = if p < i + (k + 1) then g p else h p := by
  intro p hp
  subst hj
  by_cases e : p = i + k
  · rw [e, va_up_self, if_pos (by omega)]
  · rw [va_up_ne _ _ (by omega), hf p hp]
    by_cases c : p < i + k
    · rw [if_pos c, if_pos (by omega)]
    · rw [if_neg c, if_neg (by omega)]
theorem mcy_end {S m y : Int} {i k : Nat} (hy : dg y k = 0) (hS : dg S (i + k) = 0) : iZ (mcy S m y i k) = iZ (dg (S + m * 2 ^ (32 * i) * y) (i + k)) := by
  rw [dg_mcy, hy, hS, Int.mul_zero, Int.add_zero, Int.add_zero]
  exact (iZ_mod _).symm
theorem low_lt {X Y : Int} {i m : Nat} (hY : 0 ≤ Y ∧ Y < 2 ^ (32 * m)) : dg ((X % 2 ^ (32 * i)) * Y) (i + m) = 0 := by
  have h1 := Int.emod_nonneg X (Int.ne_of_gt (p2 (32 * i)))
  have h2 := Int.emod_lt_of_pos X (p2 (32 * i))
  refine dg_hi (n := i + m) (Int.mul_nonneg h1 hY.1) ?_ (Nat.le_refl _)
  rw [p32a]
  exact Int.lt_of_le_of_lt (Int.mul_le_mul_of_nonneg_left (Int.le_of_lt hY.2) h1) (Int.mul_lt_mul_of_pos_right h2 (p2 _))
theorem row_end {f : Nat → Int} {X Y : Int} {n m i j0 : Nat} (hj : j0 = n - (i + 1)) (hi : i < n) (hf : ∀ p, p < m + i → f (n + m - 1 - p) = if p < i + m then dg ((X % 2 ^ (32 * i)) * Y + dg X i * 2 ^ (32 * i) * Y) p else dg ((X % 2 ^ (32 * i)) * Y) p) :
    ∀ p, p < m + (i + 1) → va_up f j0 (dg ((X % 2 ^ (32 * i)) * Y + dg X i * 2 ^ (32 * i) * Y) (i + m)) (n + m - 1 - p) = dg ((X % 2 ^ (32 * (i + 1))) * Y) p := by
  intro p hp
  subst hj
  rw [mul_row]
  by_cases e : p = i + m
  · rw [e, show n + m - 1 - (i + m) = n - (i + 1) by omega, va_up_self]
  · rw [va_up_ne _ _ (by omega), hf p (by omega), if_pos (by omega)]
theorem mod_1 (X Y : Int) : (X % 2 ^ (32 * 1)) * Y = Y * dg X 0 := by rw [dg_0, Int.mul_comm]; rfl
theorem mul_all {f : Nat → Int} {X Y : Int} {n m : Nat} (hX : 0 ≤ X ∧ X < 2 ^ (32 * n)) (hf : ∀ p, p < m + n → f (n + m - 1 - p) = dg ((X % 2 ^ (32 * n)) * Y) p) : ∀ j, j < n + m → f j = bM (X * Y) (n + m) j := by
  intro j hj
  have h := hf (n + m - 1 - j) (by omega)
  rw [show n + m - 1 - (n + m - 1 - j) = j by omega, Int.emod_eq_of_lt hX.1 hX.2] at h
  exact h
theorem dg_m (x : Int) (k : Nat) : dg x k % 4294967296 = dg x k := Int.emod_emod _ _
set_option maxHeartbeats 1000000 in
set_option maxRecDepth 100000 in
/-- a product of arrays -/
theorem g_mulI (κ : zK) (H0 : Heap) {a b n m : Nat} {X Y : Int} (hX0 : 0 < X) (hY0 : 0 < Y) (hn : isInts X n) (hm : isInts Y m) (ha : hp κ H0 a (eI κ n (bM X n))) (hb : hp κ H0 b (eI κ m (bM Y m))) : Mt κ yJ16_implMultiplyToLen cJ16_implMultiplyToLen 14 (some (.array .int)) 0 0 1 (n + m) H0 [.ref a, vi (n : Int), .ref b, vi (m : Int), .null] (fun _ => False) (fun v H1 => ∃ q : Nat, v = some (.ref q) ∧ hp κ H1 q (eI κ (n + m) (bM (X * Y) (n + m))) ∧ H0.size ≤ q) := by
  refine Mt.of (by decide) (Nat.le_of_ble_eq_true rfl) ?_
  intro z E hE hH0 hA0 hL hini
  have hAll : ∀ q, (fun _ => False) q → zA z.A z.H0 q := fun q h => Or.inl (by rw [hA0]; exact h)
  have hNew : ∀ q, H0.size ≤ q → zA z.A z.H0 q := fun q h => Or.inr (by rw [hH0]; exact h)
  have E : zOK z cJ16_implMultiplyToLen RJ16 κ 0 0 (some (.array .int)) := E
  refine V.eqL (lv' := [(0, .ref a), (1, vi (n : Int)), (2, .ref b), (3, vi (m : Int)), (4, .null)]) rfl ?_
  have h48n := hn.1
  have h48m := hm.1
  have hpn := ints_pos (by omega) hn
  have hpm := ints_pos (by omega) hm
  refine v_iload_n E 1 rfl dJ16_implMultiplyToLen_0 ?_
  refine v_iconst E dJ16_implMultiplyToLen_1 ?_
  refine v_isub E dJ16_implMultiplyToLen_2 ?_
  refine v_istore E dJ16_implMultiplyToLen_3 (zlt hL rfl) (lv' := [(5, vi ((n : Int) - 1)), (0, .ref a), (1, vi (n : Int)), (2, .ref b), (3, vi (m : Int)), (4, .null)]) rfl ?_
  refine v_iload_n E 4 rfl dJ16_implMultiplyToLen_5 ?_
  refine v_iconst E dJ16_implMultiplyToLen_6 ?_
  refine v_isub E dJ16_implMultiplyToLen_7 ?_
  refine v_istore E dJ16_implMultiplyToLen_8 (zlt hL rfl) (lv' := [(6, vi ((m : Int) - 1)), (5, vi ((n : Int) - 1)), (0, .ref a), (1, vi (n : Int)), (2, .ref b), (3, vi (m : Int)), (4, .null)]) rfl ?_
  refine v_aloadN E 6 rfl dJ16_implMultiplyToLen_10 ?_
  refine v_ifnullN E (tgt := 24) dJ16_implMultiplyToLen_12 (by decide) ?_
  refine v_iload_n E 3 rfl dJ16_implMultiplyToLen_24 ?_
  refine v_iload_n E 5 rfl dJ16_implMultiplyToLen_25 ?_
  refine v_iadd E dJ16_implMultiplyToLen_26 ?_
  refine V.frame (fun hfz_fr_1 hfk_fr_1 => ?_)
  rw [hH0] at hfz_fr_1 hfk_fr_1
  rw [hA0] at hfk_fr_1
  refine v_newI E (n := (n + m)) q511 (by omega) (by omega) (cb' := (1 - 1)) (sb' := ((n + m) - (n + m))) (by omega) (by omega) dJ16_implMultiplyToLen_27 (fun q H_2 hq_5 hn_3 hg_4 => ?_)
  have hne_a_q : a ≠ q := by have := ha.lt; omega
  have hne_b_q : b ≠ q := by have := hb.lt; omega
  have ha_8 := ha.grow hg_4
  have hb_9 := hb.grow hg_4
  refine v_astore E dJ16_implMultiplyToLen_29 (zlt hL rfl) (lv' := [(4, .ref q), (6, vi ((m : Int) - 1)), (5, vi ((n : Int) - 1)), (0, .ref a), (1, vi (n : Int)), (2, .ref b), (3, vi (m : Int))]) rfl ?_
  refine v_lconst E (x := 0) rfl dJ16_implMultiplyToLen_31 ?_
  refine v_lstore E dJ16_implMultiplyToLen_32 (zlt hL rfl) (lv' := [(7, vj 0), (4, .ref q), (6, vi ((m : Int) - 1)), (5, vi ((n : Int) - 1)), (0, .ref a), (1, vi (n : Int)), (2, .ref b), (3, vi (m : Int))]) rfl ?_
  refine v_iload E 2 rfl dJ16_implMultiplyToLen_34 ?_
  refine v_istore E dJ16_implMultiplyToLen_36 (zlt hL rfl) (lv' := [(9, vi ((m : Int) - 1)), (7, vj 0), (4, .ref q), (6, vi ((m : Int) - 1)), (5, vi ((n : Int) - 1)), (0, .ref a), (1, vi (n : Int)), (2, .ref b), (3, vi (m : Int))]) rfl ?_
  refine v_iload E 3 rfl dJ16_implMultiplyToLen_38 ?_
  refine v_iconst E dJ16_implMultiplyToLen_40 ?_
  refine v_iadd E dJ16_implMultiplyToLen_41 ?_
  refine v_iload E 4 rfl dJ16_implMultiplyToLen_42 ?_
  refine v_iadd E dJ16_implMultiplyToLen_44 ?_
  refine v_istore E dJ16_implMultiplyToLen_45 (zlt hL rfl) (lv' := [(10, vi ((((m : Int) - 1) + 1) + ((n : Int) - 1))), (9, vi ((m : Int) - 1)), (7, vj 0), (4, .ref q), (6, vi ((m : Int) - 1)), (5, vi ((n : Int) - 1)), (0, .ref a), (1, vi (n : Int)), (2, .ref b), (3, vi (m : Int))]) rfl ?_
  have loop_47 : ∀ (m_47 : Nat) (H : Heap) (k : Nat) (f : Nat → Int) (u v : Int), m - k < m_47 → (k ≤ m) → (u = (m : Int) - 1 - (k : Int)) → (v = (n : Int) + (m : Int) - 1 - (k : Int)) → (∀ p, p < k → f (n + m - 1 - p) = dg (Y * dg X 0) p) → hp κ H a (eI κ n (bM X n)) → hp κ H b (eI κ m (bM Y m)) → hp κ H q (eI κ (n + m) f) → V z H 0 0 47 [(7, vj (mcy 0 (dg X 0) Y 0 k)), (9, vi u), (10, vi v), (6, vi ((m : Int) - 1)), (5, vi ((n : Int) - 1)), (4, .ref q), (2, .ref b), (0, .ref a)] [] := by
    intro m_47
    induction m_47 with
    | zero => intro H k f u v hm; exact absurd hm (by omega)
    | succ m_47 ih_47 =>
      intro H k f u v hm_47 hk hu hv hf ha hb hq9
      have hdx := dg_in X 0
      have hdy := dg_in Y k
      have hc : 0 ≤ mcy 0 (dg X 0) Y 0 k ∧ mcy 0 (dg X 0) Y 0 k ≤ dg X 0 := mcy_in 0 Y 0 k hdx.1
      have hq : 0 ≤ dg X 0 * dg Y k ∧ dg X 0 * dg Y k ≤ 18446744065119617025 := mul_in hdy.1 hdy.2 hdx.1 (by omega)
      refine v_iload E 1 rfl dJ16_implMultiplyToLen_47 ?_
      refine v_if_lt E (tgt := 100) dJ16_implMultiplyToLen_49 (by decide) ⟨by omega, by omega⟩ (fun c_49 => ?_) (fun c_49 => ?_)
      · obtain rfl : m = k := by omega
        have hYm := dg_hi (Int.le_of_lt hY0) hm.2.1 (Nat.le_refl m)
        refine v_aload E 5 rfl dJ16_implMultiplyToLen_100 ?_
        refine v_iload E 4 rfl dJ16_implMultiplyToLen_102 ?_
        refine v_lload E 0 rfl dJ16_implMultiplyToLen_104 ?_
        refine v_l2i E dJ16_implMultiplyToLen_106 ?_
        refine V.topi (x' := dg (Y * dg X 0) m) (by have := mcy_end (S := 0) (m := dg X 0) (i := 0) hYm (dg_z _); rw [this, Nat.zero_add, Int.zero_add, show (2 : Int) ^ (32 * 0) = 1 from rfl, Int.mul_one, Int.mul_comm]) ?_
        refine v_iast E dJ16_implMultiplyToLen_107 hq9 (n - 1) (by omega) (by omega) (by omega) (hNew _ (by omega)) (fun H_12 hq9_10 hs_11 => ?_)
        have ha_13 := ha.same hs_11 hne_a_q
        have hb_14 := hb.same hs_11 hne_b_q
        have hf1 : ∀ p, p < m + 1 → (va_up f (n - 1) (dg (Y * dg X 0) m)) (n + m - 1 - p) = dg ((X % 2 ^ (32 * 1)) * Y) p := by
          rw [mod_1]
          exact lo_s (g := dg (Y * dg X 0)) (by omega) (by omega) hf
        refine v_iload E 4 rfl dJ16_implMultiplyToLen_108 ?_
        refine v_iconst E dJ16_implMultiplyToLen_110 ?_
        refine v_isub E dJ16_implMultiplyToLen_111 ?_
        refine v_istore E dJ16_implMultiplyToLen_112 (zlt hL rfl) (lv' := [(9, vi (((n : Int) - 1) - 1)), (7, vj (mcy 0 (dg X 0) Y 0 m)), (10, vi v), (6, vi ((m : Int) - 1)), (5, vi ((n : Int) - 1)), (4, .ref q), (2, .ref b), (0, .ref a)]) rfl ?_
        have loop_114 : ∀ (m_114 : Nat) (H : Heap) (i : Nat) (f : Nat → Int) (u : Int), n - i < m_114 → (i ≤ n) → (u = (n : Int) - 1 - (i : Int)) → (∀ p, p < m + i → f (n + m - 1 - p) = dg ((X % 2 ^ (32 * i)) * Y) p) → hp κ H a (eI κ n (bM X n)) → hp κ H b (eI κ m (bM Y m)) → hp κ H q (eI κ (n + m) f) → V z H 0 0 114 [(9, vi u), (6, vi ((m : Int) - 1)), (4, .ref q), (2, .ref b), (0, .ref a)] [] := by
          intro m_114
          induction m_114 with
          | zero => intro H i f u hm; exact absurd hm (by omega)
          | succ m_114 ih_114 =>
            intro H i f u hm_114 hi hu hf ha hb hq9
            refine v_iload E 0 rfl dJ16_implMultiplyToLen_114 ?_
            refine v_if_lt E (tgt := 213) dJ16_implMultiplyToLen_116 (by decide) ⟨by omega, by omega⟩ (fun c_116 => ?_) (fun c_116 => ?_)
            · obtain rfl : n = i := by omega
              refine v_aload E 2 rfl dJ16_implMultiplyToLen_213 ?_
              refine v_aret E hE rfl (Or.inr ⟨_, rfl⟩) dJ16_implMultiplyToLen_215 (Or.inr ⟨_, rfl⟩) ?_
              exact ⟨_, rfl, eI.congr hq9 (fun j hj => congrArg iZ (mul_all ⟨Int.le_of_lt hX0, hn.2.1⟩ hf j hj)), by omega⟩
            · have hg0 : ∀ p, p < m + i → f (n + m - 1 - p) = if p < i + 0 then dg ((X % 2 ^ (32 * i)) * Y + dg X i * 2 ^ (32 * i) * Y) p else dg ((X % 2 ^ (32 * i)) * Y) p := by
                intro p hp
                rw [hf p hp]
                by_cases c : p < i
                · rw [if_pos (by omega), mul_low _ _ c]
                · rw [if_neg (by omega)]
              refine v_lconst E (x := 0) rfl dJ16_implMultiplyToLen_119 ?_
              refine v_lstore E dJ16_implMultiplyToLen_120 (zlt hL rfl) (lv' := [(7, vj 0), (9, vi u), (6, vi ((m : Int) - 1)), (4, .ref q), (2, .ref b), (0, .ref a)]) rfl ?_
              refine v_iload E 2 rfl dJ16_implMultiplyToLen_122 ?_
              refine v_istore E dJ16_implMultiplyToLen_124 (zlt hL rfl) (lv' := [(10, vi ((m : Int) - 1)), (7, vj 0), (9, vi u), (6, vi ((m : Int) - 1)), (4, .ref q), (2, .ref b), (0, .ref a)]) rfl ?_
              refine v_iload E 3 rfl dJ16_implMultiplyToLen_126 ?_
              refine v_iconst E dJ16_implMultiplyToLen_128 ?_
              refine v_iadd E dJ16_implMultiplyToLen_129 ?_
              refine v_iload E 2 rfl dJ16_implMultiplyToLen_130 ?_
              refine v_iadd E dJ16_implMultiplyToLen_132 ?_
              refine v_istore E dJ16_implMultiplyToLen_133 (zlt hL rfl) (lv' := [(11, vi ((((m : Int) - 1) + 1) + u)), (10, vi ((m : Int) - 1)), (7, vj 0), (9, vi u), (6, vi ((m : Int) - 1)), (4, .ref q), (2, .ref b), (0, .ref a)]) rfl ?_
              have loop_135 : ∀ (m_135 : Nat) (H : Heap) (k : Nat) (f : Nat → Int) (u2 v : Int), m - k < m_135 → (k ≤ m) → (u2 = (m : Int) - 1 - (k : Int)) → (v = (n : Int) + (m : Int) - 1 - (i : Int) - (k : Int)) → (∀ p, p < m + i → f (n + m - 1 - p) = if p < i + k then dg ((X % 2 ^ (32 * i)) * Y + dg X i * 2 ^ (32 * i) * Y) p else dg ((X % 2 ^ (32 * i)) * Y) p) → hp κ H a (eI κ n (bM X n)) → hp κ H b (eI κ m (bM Y m)) → hp κ H q (eI κ (n + m) f) → V z H 0 0 135 [(7, vj (mcy ((X % 2 ^ (32 * i)) * Y) (dg X i) Y i k)), (10, vi u2), (11, vi v), (9, vi u), (6, vi ((m : Int) - 1)), (4, .ref q), (2, .ref b), (0, .ref a)] [] := by
                intro m_135
                induction m_135 with
                | zero => intro H k f u2 v hm; exact absurd hm (by omega)
                | succ m_135 ih_135 =>
                  intro H k f u2 v hm_135 hk hu2 hv hg ha hb hq9
                  have hdx := dg_in X i
                  have hdy := dg_in Y k
                  have hds := dg_in ((X % 2 ^ (32 * i)) * Y) (i + k)
                  have hc : 0 ≤ mcy ((X % 2 ^ (32 * i)) * Y) (dg X i) Y i k ∧ mcy ((X % 2 ^ (32 * i)) * Y) (dg X i) Y i k ≤ dg X i := mcy_in ((X % 2 ^ (32 * i)) * Y) Y i k hdx.1
                  have hq : 0 ≤ dg X i * dg Y k ∧ dg X i * dg Y k ≤ 18446744065119617025 := mul_in hdy.1 hdy.2 hdx.1 (by omega)
                  refine v_iload E 1 rfl dJ16_implMultiplyToLen_135 ?_
                  refine v_if_lt E (tgt := 199) dJ16_implMultiplyToLen_137 (by decide) ⟨by omega, by omega⟩ (fun c_137 => ?_) (fun c_137 => ?_)
                  · obtain rfl : m = k := by omega
                    have hYm := dg_hi (Int.le_of_lt hY0) hm.2.1 (Nat.le_refl m)
                    have hfm := hg
                    refine v_aload E 5 rfl dJ16_implMultiplyToLen_199 ?_
                    refine v_iload E 3 rfl dJ16_implMultiplyToLen_201 ?_
                    refine v_lload E 0 rfl dJ16_implMultiplyToLen_203 ?_
                    refine v_l2i E dJ16_implMultiplyToLen_205 ?_
                    refine V.topi (x' := dg ((X % 2 ^ (32 * i)) * Y + dg X i * 2 ^ (32 * i) * Y) (i + m)) (mcy_end hYm (low_lt ⟨Int.le_of_lt hY0, hm.2.1⟩)) ?_
                    refine v_iast E dJ16_implMultiplyToLen_206 hq9 (n - (i + 1)) (by omega) (by omega) (by omega) (hNew _ (by omega)) (fun H_17 hq9_15 hs_16 => ?_)
                    have ha_18 := ha.same hs_16 hne_a_q
                    have hb_19 := hb.same hs_16 hne_b_q
                    refine v_iinc E 3 rfl dJ16_implMultiplyToLen_207 (zlt hL rfl) (lv' := [(9, vi (u + (-1))), (7, vj (mcy ((X % 2 ^ (32 * i)) * Y) (dg X i) Y i m)), (10, vi u2), (11, vi v), (6, vi ((m : Int) - 1)), (4, .ref q), (2, .ref b), (0, .ref a)]) rfl ?_
                    refine v_goto E (tgt := 114) dJ16_implMultiplyToLen_210 (by decide) ?_
                    refine V.sub [0, 4, 5, 6, 7] (lv' := [(9, vi (u + (-1))), (6, vi ((m : Int) - 1)), (4, .ref q), (2, .ref b), (0, .ref a)]) rfl ?_
                    exact ih_114  H_17 (i + 1) _ _ (by omega) (by omega) (by omega) (row_end (by omega) (by omega) hfm) ha_18 hb_19 hq9_15
                  · refine v_aload_n E 6 rfl dJ16_implMultiplyToLen_140 ?_
                    refine v_iload E 1 rfl dJ16_implMultiplyToLen_141 ?_
                    refine v_iald E dJ16_implMultiplyToLen_143 hb (m - (k + 1)) (by omega) (by omega) (by omega) ?_
                    refine v_i2lLow E dJ16_implMultiplyToLen_144 q528 dJ16_implMultiplyToLen_145 dJ16_implMultiplyToLen_148 ?_
                    refine v_aload_n E 7 rfl dJ16_implMultiplyToLen_149 ?_
                    refine v_iload E 3 rfl dJ16_implMultiplyToLen_150 ?_
                    refine v_iald E dJ16_implMultiplyToLen_152 ha (n - (i + 1)) (by omega) (by omega) (by omega) ?_
                    refine v_i2lLow E dJ16_implMultiplyToLen_153 q528 dJ16_implMultiplyToLen_154 dJ16_implMultiplyToLen_157 ?_
                    refine v_lmul E dJ16_implMultiplyToLen_158 ?_
                    refine v_aload E 5 rfl dJ16_implMultiplyToLen_159 ?_
                    refine v_iload E 2 rfl dJ16_implMultiplyToLen_161 ?_
                    refine v_iald E dJ16_implMultiplyToLen_163 hq9 (n + m - 1 - i - k) (by omega) (by omega) (by omega) ?_
                    refine v_i2lLow E dJ16_implMultiplyToLen_164 q528 dJ16_implMultiplyToLen_165 dJ16_implMultiplyToLen_168 ?_
                    refine v_ladd E dJ16_implMultiplyToLen_169 ?_
                    refine v_lload E 0 rfl dJ16_implMultiplyToLen_170 ?_
                    refine v_ladd E dJ16_implMultiplyToLen_172 ?_
                    refine V.topl (x' := mcy ((X % 2 ^ (32 * i)) * Y) (dg X i) Y i k + (dg X i * dg Y k + dg ((X % 2 ^ (32 * i)) * Y) (i + k))) (congrArg jZ (by rw [show n + m - 1 - i - k = n + m - 1 - (i + k) by omega, hg (i + k) (by omega), if_neg (by omega), bM_at (X := X) (n := n) (k := i) rfl (by omega), bM_at (X := Y) (n := m) (k := k) rfl (by omega), dg_m, dg_m, dg_m, Int.mul_comm, Int.add_comm])) ?_
                    refine v_lstore E dJ16_implMultiplyToLen_173 (zlt hL rfl) (lv' := [(12, vj (mcy ((X % 2 ^ (32 * i)) * Y) (dg X i) Y i k + (dg X i * dg Y k + dg ((X % 2 ^ (32 * i)) * Y) (i + k)))), (7, vj (mcy ((X % 2 ^ (32 * i)) * Y) (dg X i) Y i k)), (10, vi u2), (11, vi v), (9, vi u), (6, vi ((m : Int) - 1)), (4, .ref q), (2, .ref b), (0, .ref a)]) rfl ?_
                    refine v_aload E 6 rfl dJ16_implMultiplyToLen_175 ?_
                    refine v_iload E 3 rfl dJ16_implMultiplyToLen_177 ?_
                    refine v_lload E 0 rfl dJ16_implMultiplyToLen_179 ?_
                    refine v_l2i E dJ16_implMultiplyToLen_181 ?_
                    refine V.topi (x' := dg ((X % 2 ^ (32 * i)) * Y + dg X i * 2 ^ (32 * i) * Y) (i + k)) (by rw [dg_mcy]; exact (iZ_mod _).symm) ?_
                    refine v_iast E dJ16_implMultiplyToLen_182 hq9 (n + m - 1 - (i + k)) (by omega) (by omega) (by omega) (hNew _ (by omega)) (fun H_22 hq9_20 hs_21 => ?_)
                    have ha_23 := ha.same hs_21 hne_a_q
                    have hb_24 := hb.same hs_21 hne_b_q
                    refine v_lload E 0 rfl dJ16_implMultiplyToLen_183 ?_
                    refine v_bipush E ⟨by decide, by decide⟩ dJ16_implMultiplyToLen_185 ?_
                    refine v_lushr E 32 (by decide) dJ16_implMultiplyToLen_187 ?_
                    refine V.topl (x' := mcy ((X % 2 ^ (32 * i)) * Y) (dg X i) Y i (k + 1)) (congrArg jZ (mm_cy hq hc hds (by omega))) ?_
                    refine v_lstore E dJ16_implMultiplyToLen_188 (zlt hL rfl) (lv' := [(7, vj (mcy ((X % 2 ^ (32 * i)) * Y) (dg X i) Y i (k + 1))), (12, vj (mcy ((X % 2 ^ (32 * i)) * Y) (dg X i) Y i k + (dg X i * dg Y k + dg ((X % 2 ^ (32 * i)) * Y) (i + k)))), (10, vi u2), (11, vi v), (9, vi u), (6, vi ((m : Int) - 1)), (4, .ref q), (2, .ref b), (0, .ref a)]) rfl ?_
                    refine v_iinc E 2 rfl dJ16_implMultiplyToLen_190 (zlt hL rfl) (lv' := [(10, vi (u2 + (-1))), (7, vj (mcy ((X % 2 ^ (32 * i)) * Y) (dg X i) Y i (k + 1))), (12, vj (mcy ((X % 2 ^ (32 * i)) * Y) (dg X i) Y i k + (dg X i * dg Y k + dg ((X % 2 ^ (32 * i)) * Y) (i + k)))), (11, vi v), (9, vi u), (6, vi ((m : Int) - 1)), (4, .ref q), (2, .ref b), (0, .ref a)]) rfl ?_
                    refine v_iinc E 3 rfl dJ16_implMultiplyToLen_193 (zlt hL rfl) (lv' := [(11, vi (v + (-1))), (10, vi (u2 + (-1))), (7, vj (mcy ((X % 2 ^ (32 * i)) * Y) (dg X i) Y i (k + 1))), (12, vj (mcy ((X % 2 ^ (32 * i)) * Y) (dg X i) Y i k + (dg X i * dg Y k + dg ((X % 2 ^ (32 * i)) * Y) (i + k)))), (9, vi u), (6, vi ((m : Int) - 1)), (4, .ref q), (2, .ref b), (0, .ref a)]) rfl ?_
                    refine v_goto E (tgt := 135) dJ16_implMultiplyToLen_196 (by decide) ?_
                    refine V.sub [2, 1, 0, 4, 5, 6, 7, 8] (lv' := [(7, vj (mcy ((X % 2 ^ (32 * i)) * Y) (dg X i) Y i (k + 1))), (10, vi (u2 + (-1))), (11, vi (v + (-1))), (9, vi u), (6, vi ((m : Int) - 1)), (4, .ref q), (2, .ref b), (0, .ref a)]) rfl ?_
                    exact ih_135  H_22 (k + 1) _ _ _ (by omega) (by omega) (by omega) (by omega) (in_s (g := dg ((X % 2 ^ (32 * i)) * Y + dg X i * 2 ^ (32 * i) * Y)) (h := dg ((X % 2 ^ (32 * i)) * Y)) (by omega) (by omega) (by omega) hg) ha_23 hb_24 hq9_20
              refine V.sub [2, 1, 0, 3, 4, 5, 6, 7] (lv' := [(7, vj 0), (10, vi ((m : Int) - 1)), (11, vi ((((m : Int) - 1) + 1) + u)), (9, vi u), (6, vi ((m : Int) - 1)), (4, .ref q), (2, .ref b), (0, .ref a)]) rfl ?_
              exact V.eqL (by first | (rw [mcy_0]; done) | (rw [mcy_0]; rfl)) (loop_135 (m + 1) H 0 _ _ _ (by omega) (by omega) (by omega) (by omega) hg0 ha hb hq9)
        refine V.sub [0, 3, 5, 6, 7] (lv' := [(9, vi (((n : Int) - 1) - 1)), (6, vi ((m : Int) - 1)), (4, .ref q), (2, .ref b), (0, .ref a)]) rfl ?_
        exact loop_114 (n + 1) H_12 1 _ _ (by omega) (by omega) (by omega) hf1 ha_13 hb_14 hq9_10
      · refine v_aload_n E 6 rfl dJ16_implMultiplyToLen_52 ?_
        refine v_iload E 1 rfl dJ16_implMultiplyToLen_53 ?_
        refine v_iald E dJ16_implMultiplyToLen_55 hb (m - (k + 1)) (by omega) (by omega) (by omega) ?_
        refine v_i2lLow E dJ16_implMultiplyToLen_56 q528 dJ16_implMultiplyToLen_57 dJ16_implMultiplyToLen_60 ?_
        refine v_aload_n E 7 rfl dJ16_implMultiplyToLen_61 ?_
        refine v_iload E 4 rfl dJ16_implMultiplyToLen_62 ?_
        refine v_iald E dJ16_implMultiplyToLen_64 ha (n - (0 + 1)) (by omega) (by omega) (by omega) ?_
        refine v_i2lLow E dJ16_implMultiplyToLen_65 q528 dJ16_implMultiplyToLen_66 dJ16_implMultiplyToLen_69 ?_
        refine v_lmul E dJ16_implMultiplyToLen_70 ?_
        refine v_lload E 0 rfl dJ16_implMultiplyToLen_71 ?_
        refine v_ladd E dJ16_implMultiplyToLen_73 ?_
        refine V.topl (x' := mcy 0 (dg X 0) Y 0 k + dg X 0 * dg Y k) (congrArg jZ (by rw [bM_at (X := X) (n := n) (k := 0) (by omega) (by omega), bM_at (X := Y) (n := m) (k := k) rfl (by omega), dg_m, dg_m, Int.mul_comm, Int.add_comm])) ?_
        refine v_lstore E dJ16_implMultiplyToLen_74 (zlt hL rfl) (lv' := [(11, vj (mcy 0 (dg X 0) Y 0 k + dg X 0 * dg Y k)), (7, vj (mcy 0 (dg X 0) Y 0 k)), (9, vi u), (10, vi v), (6, vi ((m : Int) - 1)), (5, vi ((n : Int) - 1)), (4, .ref q), (2, .ref b), (0, .ref a)]) rfl ?_
        refine v_aload E 6 rfl dJ16_implMultiplyToLen_76 ?_
        refine v_iload E 3 rfl dJ16_implMultiplyToLen_78 ?_
        refine v_lload E 0 rfl dJ16_implMultiplyToLen_80 ?_
        refine v_l2i E dJ16_implMultiplyToLen_82 ?_
        refine V.topi (x' := dg (Y * dg X 0) k) (tm_dg _ _ _) ?_
        refine v_iast E dJ16_implMultiplyToLen_83 hq9 (n + m - 1 - k) (by omega) (by omega) (by omega) (hNew _ (by omega)) (fun H_27 hq9_25 hs_26 => ?_)
        have ha_28 := ha.same hs_26 hne_a_q
        have hb_29 := hb.same hs_26 hne_b_q
        refine v_lload E 0 rfl dJ16_implMultiplyToLen_84 ?_
        refine v_bipush E ⟨by decide, by decide⟩ dJ16_implMultiplyToLen_86 ?_
        refine v_lushr E 32 (by decide) dJ16_implMultiplyToLen_88 ?_
        refine V.topl (x' := mcy 0 (dg X 0) Y 0 (k + 1)) (congrArg jZ (tm_cy (by omega) hq hc)) ?_
        refine v_lstore E dJ16_implMultiplyToLen_89 (zlt hL rfl) (lv' := [(7, vj (mcy 0 (dg X 0) Y 0 (k + 1))), (11, vj (mcy 0 (dg X 0) Y 0 k + dg X 0 * dg Y k)), (9, vi u), (10, vi v), (6, vi ((m : Int) - 1)), (5, vi ((n : Int) - 1)), (4, .ref q), (2, .ref b), (0, .ref a)]) rfl ?_
        refine v_iinc E 2 rfl dJ16_implMultiplyToLen_91 (zlt hL rfl) (lv' := [(9, vi (u + (-1))), (7, vj (mcy 0 (dg X 0) Y 0 (k + 1))), (11, vj (mcy 0 (dg X 0) Y 0 k + dg X 0 * dg Y k)), (10, vi v), (6, vi ((m : Int) - 1)), (5, vi ((n : Int) - 1)), (4, .ref q), (2, .ref b), (0, .ref a)]) rfl ?_
        refine v_iinc E 3 rfl dJ16_implMultiplyToLen_94 (zlt hL rfl) (lv' := [(10, vi (v + (-1))), (9, vi (u + (-1))), (7, vj (mcy 0 (dg X 0) Y 0 (k + 1))), (11, vj (mcy 0 (dg X 0) Y 0 k + dg X 0 * dg Y k)), (6, vi ((m : Int) - 1)), (5, vi ((n : Int) - 1)), (4, .ref q), (2, .ref b), (0, .ref a)]) rfl ?_
        refine v_goto E (tgt := 47) dJ16_implMultiplyToLen_97 (by decide) ?_
        refine V.sub [2, 1, 0, 4, 5, 6, 7, 8] (lv' := [(7, vj (mcy 0 (dg X 0) Y 0 (k + 1))), (9, vi (u + (-1))), (10, vi (v + (-1))), (6, vi ((m : Int) - 1)), (5, vi ((n : Int) - 1)), (4, .ref q), (2, .ref b), (0, .ref a)]) rfl ?_
        exact ih_47  H_27 (k + 1) _ _ _ (by omega) (by omega) (by omega) (by omega) (lo_s (g := dg (Y * dg X 0)) (by omega) (by omega) hf) ha_28 hb_29 hq9_25
  refine V.sub [2, 1, 0, 4, 5, 3, 8, 6] (lv' := [(7, vj 0), (9, vi ((m : Int) - 1)), (10, vi ((((m : Int) - 1) + 1) + ((n : Int) - 1))), (6, vi ((m : Int) - 1)), (5, vi ((n : Int) - 1)), (4, .ref q), (2, .ref b), (0, .ref a)]) rfl ?_
  refine V.less (Nat.zero_le _) (Nat.zero_le _) ?_
  exact V.eqL (by first | (rw [mcy_0]; done) | (rw [mcy_0]; rfl)) (loop_47 (m + 1) H_2 0 (fun _ => 0) _ _ (by omega) (by omega) (by omega) (by omega) (fun p hp => absurd hp (by omega)) ha_8 hb_9 hn_3)

set_option maxHeartbeats 400000 in
set_option maxRecDepth 100000 in
theorem g_rnn (κ : zK) (H0 : Heap) {a : Nat} : Mt κ yJ3_requireNonNull cJ3_requireNonNull 1 (some (.object "java/lang/Object")) 0 0 0 0 H0 [.ref a] (fun _ => False) (fun v H1 => v = some (.ref a)) := by
  refine Mt.of (by decide) (Nat.le_of_ble_eq_true rfl) ?_
  intro z E hE hH0 hA0 hL hini
  have hAll : ∀ q, (fun _ => False) q → zA z.A z.H0 q := fun q h => Or.inl (by rw [hA0]; exact h)
  have hNew : ∀ q, H0.size ≤ q → zA z.A z.H0 q := fun q h => Or.inr (by rw [hH0]; exact h)
  have E : zOK z cJ3_requireNonNull RJ3 κ 0 0 (some (.object "java/lang/Object")) := E
  refine V.eqL (lv' := [(0, .ref a)]) rfl ?_
  refine v_aload_n E 0 rfl dJ3_requireNonNull_0 ?_
  refine v_ifnonnull E (tgt := 12) dJ3_requireNonNull_1 (by decide) ?_
  refine v_aload_n E 0 rfl dJ3_requireNonNull_12 ?_
  refine v_aret E hE rfl (Or.inl ⟨_, rfl⟩) dJ3_requireNonNull_13 (Or.inr ⟨_, rfl⟩) ?_
  rfl

set_option maxHeartbeats 400000 in
set_option maxRecDepth 100000 in
theorem g_mulC (κ : zK) (H0 : Heap) {a n : Nat} {f : Nat → Int} (hn : 0 < n) (hn2 : n ≤ 1000) (ha : hp κ H0 a (eI κ n f)) : Mt κ yJ16_multiplyToLenCheck cJ16_multiplyToLenCheck 2 (none) 1 20 0 0 H0 [.ref a, vi (n : Int)] (fun _ => False) (fun v H1 => v = none) := by
  refine Mt.of (by decide) (Nat.le_of_ble_eq_true rfl) ?_
  intro z E hE hH0 hA0 hL hini
  have hAll : ∀ q, (fun _ => False) q → zA z.A z.H0 q := fun q h => Or.inl (by rw [hA0]; exact h)
  have hNew : ∀ q, H0.size ≤ q → zA z.A z.H0 q := fun q h => Or.inr (by rw [hH0]; exact h)
  have E : zOK z cJ16_multiplyToLenCheck RJ16 κ 1 20 (none) := E
  refine V.eqL (lv' := [(0, .ref a), (1, vi (n : Int))]) rfl ?_
  refine v_iload_n E 1 rfl dJ16_multiplyToLenCheck_0 ?_
  refine v_if_gt E (tgt := 5) dJ16_multiplyToLenCheck_1 (by decide) ⟨by omega, by omega⟩ (fun c_1 => ?_) (fun c_1 => absurd c_1 (by omega))
  refine v_aload_n E 0 rfl dJ16_multiplyToLenCheck_5 ?_
  refine v_callS E (As := [.ref a]) (g_rnn κ H0 (a := a)) (lw_S q1078 q1079 q76 q1080) 1 (by decide +kernel) rfl (by decide) (by decide) (cb' := 0) (sb' := 0) (by decide) (by decide) rfl (rest := []) (Nat.le_of_ble_eq_true rfl) (fun q h => h.elim) dJ16_multiplyToLenCheck_6 (fun v_1 H_2 hpost_3 hz_4 hk_5 => ?_)
  clear hz_4
  obtain rfl := hpost_3
  have ha_6 := ha.kept (hk_5 _ ha.lt (fun h => h))
  refine V.eq (st' := [.ref a]) rfl ?_
  refine v_pop E rfl dJ16_multiplyToLenCheck_9 ?_
  refine v_iload_n E 1 rfl dJ16_multiplyToLenCheck_10 ?_
  refine v_aload_n E 0 rfl dJ16_multiplyToLenCheck_11 ?_
  refine v_alen E dJ16_multiplyToLenCheck_12 (t := 0) (ty := .int) ha_6 rfl ?_
  refine v_icmp_le E (tgt := 27) dJ16_multiplyToLenCheck_13 (by decide) ⟨by omega, by omega⟩ ⟨by omega, by omega⟩ (fun c_13 => ?_) (fun c_13 => absurd c_13 (by omega))
  refine v_vret E hE dJ16_multiplyToLenCheck_27 ?_
  rfl

set_option maxHeartbeats 400000 in
set_option maxRecDepth 100000 in
theorem g_mulA (κ : zK) (H0 : Heap) {a b n m : Nat} {X Y : Int} (hX0 : 0 < X) (hY0 : 0 < Y) (hn : isInts X n) (hm : isInts Y m) (ha : hp κ H0 a (eI κ n (bM X n))) (hb : hp κ H0 b (eI κ m (bM Y m))) : Mt κ yJ16_multiplyToLen cJ16_multiplyToLen 5 (some (.array .int)) 2 41 1 (n + m) H0 [.ref a, vi (n : Int), .ref b, vi (m : Int), .null] (fun _ => False) (fun v H1 => ∃ q : Nat, v = some (.ref q) ∧ hp κ H1 q (eI κ (n + m) (bM (X * Y) (n + m))) ∧ H0.size ≤ q) := by
  refine Mt.of (by decide) (Nat.le_of_ble_eq_true rfl) ?_
  intro z E hE hH0 hA0 hL hini
  have hAll : ∀ q, (fun _ => False) q → zA z.A z.H0 q := fun q h => Or.inl (by rw [hA0]; exact h)
  have hNew : ∀ q, H0.size ≤ q → zA z.A z.H0 q := fun q h => Or.inr (by rw [hH0]; exact h)
  have E : zOK z cJ16_multiplyToLen RJ16 κ 2 41 (some (.array .int)) := E
  refine V.eqL (lv' := [(0, .ref a), (1, vi (n : Int)), (2, .ref b), (3, vi (m : Int)), (4, .null)]) rfl ?_
  have h48n := hn.1
  have h48m := hm.1
  have hpn := ints_pos (by omega) hn
  have hpm := ints_pos (by omega) hm
  refine v_aload_n E 0 rfl dJ16_multiplyToLen_0 ?_
  refine v_iload_n E 1 rfl dJ16_multiplyToLen_1 ?_
  refine v_callS E (As := [.ref a, vi (n : Int)]) (g_mulC κ H0 (n := n) (by omega) (by omega) ha) (lw_S q1075 q1076 q91 q1077) 2 (by decide +kernel) rfl (by decide) (by decide) (cb' := (1 - 0)) (sb' := ((n + m) - 0)) (by omega) (by omega) rfl (rest := []) (Nat.le_of_ble_eq_true rfl) (fun q h => h.elim) dJ16_multiplyToLen_2 (fun v_1 H_2 hpost_3 hz_4 hk_5 => ?_)
  clear hz_4
  obtain rfl := hpost_3
  have ha_6 := ha.kept (hk_5 _ ha.lt (fun h => h))
  have hb_7 := hb.kept (hk_5 _ hb.lt (fun h => h))
  refine V.eq (st' := []) rfl ?_
  refine v_aload_n E 2 rfl dJ16_multiplyToLen_5 ?_
  refine v_iload_n E 3 rfl dJ16_multiplyToLen_6 ?_
  refine v_callS E (As := [.ref b, vi (m : Int)]) (g_mulC κ H_2 (n := m) (by omega) (by omega) hb_7) (lw_S q1075 q1076 q91 q1077) 2 (by decide +kernel) rfl (by decide) (by decide) (cb' := ((1 - 0) - 0)) (sb' := (((n + m) - 0) - 0)) (by omega) (by omega) rfl (rest := []) (Nat.le_of_ble_eq_true rfl) (fun q h => h.elim) dJ16_multiplyToLen_7 (fun v_8 H_9 hpost_10 hz_11 hk_12 => ?_)
  clear hz_11
  obtain rfl := hpost_10
  have ha_13 := ha_6.kept (hk_12 _ ha_6.lt (fun h => h))
  have hb_14 := hb_7.kept (hk_12 _ hb_7.lt (fun h => h))
  refine V.eq (st' := []) rfl ?_
  refine v_aload_n E 0 rfl dJ16_multiplyToLen_10 ?_
  refine v_iload_n E 1 rfl dJ16_multiplyToLen_11 ?_
  refine v_aload_n E 2 rfl dJ16_multiplyToLen_12 ?_
  refine v_iload_n E 3 rfl dJ16_multiplyToLen_13 ?_
  refine v_aloadN E 4 rfl dJ16_multiplyToLen_14 ?_
  refine V.frame (fun hfz_fr_15 hfk_fr_15 => ?_)
  rw [hH0] at hfz_fr_15 hfk_fr_15
  rw [hA0] at hfk_fr_15
  refine v_callS E (As := [.ref a, vi (n : Int), .ref b, vi (m : Int), .null]) (g_mulI κ H_9 hX0 hY0 hn hm ha_13 hb_14) (lw_S q1091 q1092 q91 q1093) 5 (by decide +kernel) rfl (by decide) (by decide) (cb' := (((1 - 0) - 0) - 1)) (sb' := ((((n + m) - 0) - 0) - (n + m))) (by omega) (by omega) rfl (rest := []) (Nat.le_of_ble_eq_true rfl) (fun q h => h.elim) dJ16_multiplyToLen_16 (fun v_16 H_17 hpost_18 hz_19 hk_20 => ?_)
  clear hz_19
  obtain ⟨r0, rfl, hr0, hr0H⟩ := hpost_18
  have hr0H := Nat.le_trans hfz_fr_15 hr0H
  refine V.eq (st' := [.ref r0]) rfl ?_
  refine v_aret E hE rfl (Or.inr ⟨_, rfl⟩) dJ16_multiplyToLen_19 (Or.inr ⟨_, rfl⟩) ?_
  exact ⟨_, rfl, hr0, hr0H⟩
