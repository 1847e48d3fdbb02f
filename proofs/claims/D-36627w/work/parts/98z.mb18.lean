/-! The hybrid gcd -/
def hyT : Nat → Nat
  | 0 => 0
  | 1 => 19
  | m + 2 => 5 * (m + 2) + 14 + hyT m
theorem hyT_mono1 (m : Nat) : hyT m ≤ hyT (m + 1) ∧ hyT (m + 1) ≤ hyT (m + 2) := by
  induction m with
  | zero => decide
  | succ m ih => exact ⟨ih.2, by show hyT (m + 2) ≤ 5 * (m + 1 + 2) + 14 + hyT (m + 1); have : hyT (m + 2) = 5 * (m + 2) + 14 + hyT m := rfl; omega⟩
theorem hyT_mono {m n : Nat} (h : m ≤ n) : hyT m ≤ hyT n := by
  induction n with
  | zero => rw [show m = 0 by omega]; exact Nat.le_refl _
  | succ n ih =>
    by_cases e : m = n + 1
    · rw [e]; exact Nat.le_refl _
    · exact Nat.le_trans (ih (by omega)) (hyT_mono1 n).1
/-- room for the hybrid gcd of n and m ints -/
def hyR (n m cb sb : Nat) : Prop := if n < m then 9 + 9 * ((n + 1) / 2) + 3 ≤ cb ∧ 5 * n + 14 + (5 * m + 14) + hyT n + 101 ≤ sb else 9 * ((m + 1) / 2) + 3 ≤ cb ∧ 5 * n + 14 + hyT m + 101 ≤ sb
theorem hyR_le {n m cb sb : Nat} (h : hyR n m cb sb) : 3 ≤ cb ∧ 101 ≤ sb := by
  unfold hyR at h
  split at h <;> omega
theorem hyR_s {n m k cb sb : Nat} (h : hyR n m cb sb) (hm : 0 < m) (hd : n + 2 ≤ m ∨ m + 2 ≤ n) (hk : n < m → k = n) (hkm : k ≤ m) : 9 ≤ cb ∧ 5 * n + 14 ≤ sb ∧ (k = 0 ∨ (m < k + 2 ∧ k < m + 2 ∧ 3 ≤ cb - 9 ∧ 101 ≤ sb - (5 * n + 14)) ∨ hyR m k (cb - 9) (sb - (5 * n + 14))) := by
  unfold hyR at h
  by_cases c : n < m
  · rw [if_pos c] at h
    have e := hk c
    subst e
    refine ⟨by omega, by omega, Or.inr (Or.inr ?_)⟩
    unfold hyR
    rw [if_neg (by omega)]
    omega
  · rw [if_neg c] at h
    have e1 : 5 * (m + 0) + 14 + hyT (m - 2) ≤ hyT m + 19 := by
      match m, hm with
      | 1, _ => decide
      | m + 2, _ => show _ ≤ 5 * (m + 2) + 14 + hyT m + 19; simp
    refine ⟨by omega, by omega, ?_⟩
    by_cases c2 : m < k + 2
    · exact Or.inr (Or.inl ⟨c2, by omega, by omega, by omega⟩)
    · refine Or.inr (Or.inr ?_)
      unfold hyR
      rw [if_neg (by omega)]
      match m, hm, c2 with
      | 1, _, c2 => omega
      | m + 2, _, c2 =>
        have e2 : hyT (m + 2) = 5 * (m + 2) + 14 + hyT m := rfl
        have e3 := hyT_mono (show k ≤ m by omega)
        rw [e2] at h
        omega
theorem hyR_of {n m N M cb sb : Nat} (hn : n ≤ N) (hm : m ≤ M) (h1 : 9 + 9 * ((min N M + 1) / 2) + 3 ≤ cb) (h2 : 5 * min N M + 14 + (5 * max N M + 14) + hyT (min N M) + 101 ≤ sb) : hyR n m cb sb := by
  unfold hyR
  split
  · have := hyT_mono (show n ≤ min N M by omega)
    omega
  · have := hyT_mono (show m ≤ min N M by omega)
    omega
theorem hy_len {x y n m k : Nat} (hx : isInts (x : Int) n) (hy : isInts (y : Int) m) (hk : isInts ((x % y : Nat) : Int) k) (hy0 : 0 < y) : (n < m → k = n) ∧ k ≤ m := by
  constructor
  · intro h
    have := ints_lt hx hy h
    rw [Nat.mod_eq_of_lt (by omega)] at hk
    exact Nat.le_antisymm (ints_le (Int.natCast_nonneg _) hk hx.2.1) (ints_le (Int.natCast_nonneg _) hx hk.2.1)
  · have := Nat.mod_lt x hy0
    exact ints_le (Int.natCast_nonneg _) hk (Int.lt_trans (by omega) hy.2.1)
set_option maxHeartbeats 1500000 in
set_option maxRecDepth 100000 in
/-- the hybrid gcd -/
theorem h_hyb (κ : zK) (H0 : Heap) {a v o n cap : Nat} {f : Nat → Int} {x : Nat} {b e p m cbp : Nat} {g : Nat → Int} {y N M : Nat} (hC : CO κ H0) (hx : 0 < x) (hne_a_b : a ≠ b) (hne_v_e : v ≠ e) {B : Nat} (hB : B ≤ H0.size) (hB4 : B ≤ a ∧ B ≤ v ∧ B ≤ b ∧ B ≤ e) (h93 : κ.2 93 ≤ a ∧ κ.2 93 ≤ v ∧ κ.2 93 ≤ b ∧ κ.2 93 ≤ e) (hn : isInts (x : Int) n) (hm : isInts (y : Int) m) (hnN : n ≤ N) (hmM : m ≤ M) (hM : MI κ H0 a v o n cap f (x : Int)) (hM2 : MI κ H0 b e p m cbp g (y : Int))  : Mt κ yJ26_hybridGCD cJ26_hybridGCD 5 (some (.object "java/math/MutableBigInteger")) 9 264 (12 + 9 * ((min N M + 1) / 2) + 2) (5 * min N M + 14 + (5 * max N M + 14) + hyT (min N M) + 101 + 4) H0 [.ref a, .ref b] (fun q => q = a ∨ q = v ∨ q = b ∨ q = e) (fun v9 H1 => ∃ (q v2 o2 n2 cap2 : Nat) (f2 : Nat → Int), v9 = some (.ref q) ∧ MI κ H1 q v2 o2 n2 cap2 f2 ((Nat.gcd x y : Nat) : Int) ∧ isInts ((Nat.gcd x y : Nat) : Int) n2 ∧ B ≤ q ∧ B ≤ v2) := by
  refine Mt.of (by decide) (Nat.le_of_ble_eq_true rfl) ?_
  intro z E hE hH0 hA0 hL hini
  have hAll : ∀ q, (fun q => q = a ∨ q = v ∨ q = b ∨ q = e) q → zA z.A z.H0 q := fun q h => Or.inl (by rw [hA0]; exact h)
  have hNew : ∀ q, H0.size ≤ q → zA z.A z.H0 q := fun q h => Or.inr (by rw [hH0]; exact h)
  have E : zOK z cJ26_hybridGCD RJ26 κ 9 264 (some (.object "java/math/MutableBigInteger")) := E
  refine V.eqL (lv' := [(0, .ref a), (1, .ref b)]) rfl ?_
  have hD := hC.D
  have h48 := hn.1
  have h48m := hm.1
  have hA93 : ∀ q, (fun q => q = a ∨ q = v ∨ q = b ∨ q = e) q → κ.2 93 ≤ q := fun q h => h.elim (fun h => by rw [h]; exact h93.1) (fun h => h.elim (fun h => by rw [h]; exact h93.2.1) (fun h => h.elim (fun h => by rw [h]; exact h93.2.2.1) (fun h => by rw [h]; exact h93.2.2.2)))
  refine v_aload_n E 0 rfl dJ26_hybridGCD_0 ?_
  refine v_astore_n E dJ26_hybridGCD_1 (zlt hL rfl) (lv' := [(2, .ref a), (0, .ref a), (1, .ref b)]) rfl ?_
  refine V.frame (fun hfz_fr_1 hfk_fr_1 => ?_)
  rw [hH0] at hfz_fr_1 hfk_fr_1
  rw [hA0] at hfk_fr_1
  refine v_new E in_J26 tyJ26 tyJ26_ok q1186 q1166 q101 (ci := 9) rfl (fs := [.null, vi 0, vi 0]) (fun j hj => by rcases (show j = 0 ∨ j = 1 ∨ j = 2 by omega) with rfl | rfl | rfl <;> rfl) (cb' := ((12 + 9 * ((min N M + 1) / 2) + 2) - 1)) (sb' := ((5 * min N M + 14 + (5 * max N M + 14) + hyT (min N M) + 101 + 4) - 3)) (by omega) (by omega) dJ26_hybridGCD_2 (fun c H_2 hq_5 ho_3 hg_4 => ?_)
  have hMa8 := hM.kept (hg_4.2 _ hM.lt.1) (hg_4.2 _ hM.lt.2)
  have hMb8 := hM2.kept (hg_4.2 _ hM2.lt.1) (hg_4.2 _ hM2.lt.2)
  have hcq : c = H0.size := hq_5
  refine v_dup E rfl dJ26_hybridGCD_5 ?_
  refine V.frame (fun hfz_fr_6 hfk_fr_6 => ?_)
  rw [hH0] at hfz_fr_6 hfk_fr_6
  rw [hA0] at hfk_fr_6
  refine v_callI E (As := []) (b := c) (h_i2 κ H_2 ho_3) q1189 q101 q1187 q1188 rfl 0 (by decide +kernel) rfl (by decide) (by decide) (cb' := (((12 + 9 * ((min N M + 1) / 2) + 2) - 1) - 1)) (sb' := (((5 * min N M + 14 + (5 * max N M + 14) + hyT (min N M) + 101 + 4) - 3) - 1)) (by omega) (by omega) rfl (rest := [.ref c]) (Nat.le_of_ble_eq_true rfl) (fun q h => hNew q (by rw [show q = c from h]; omega)) dJ26_hybridGCD_6 (fun v_7 H_8 hpost_9 hz_10 hk_11 => ?_)
  clear hz_10
  obtain ⟨rfl, vq, hvq9, hMq⟩ := hpost_9
  have hMa9 := hMa8.kept (hk_11 _ hMa8.lt.1 (fun h => Nat.ne_of_lt (Nat.lt_of_lt_of_le hM.lt.1 (by omega)) h)) (hk_11 _ hMa8.lt.2 (fun h => Nat.ne_of_lt (Nat.lt_of_lt_of_le hM.lt.2 (by omega)) h))
  have hMb9 := hMb8.kept (hk_11 _ hMb8.lt.1 (fun h => Nat.ne_of_lt (Nat.lt_of_lt_of_le hM2.lt.1 (by omega)) h)) (hk_11 _ hMb8.lt.2 (fun h => Nat.ne_of_lt (Nat.lt_of_lt_of_le hM2.lt.2 (by omega)) h))
  refine V.eq (st' := [.ref c]) rfl ?_
  refine v_astore_n E dJ26_hybridGCD_9 (zlt hL rfl) (lv' := [(3, .ref c), (2, .ref a), (0, .ref a), (1, .ref b)]) rfl ?_
  have loop_10 : ∀ (m_10 : Nat) (H : Heap) (a1 v1 o1 n1 cp1 x1 b1 e1 p1 m1 cq1 y1 qv1 oq nq qc cb sb : Nat) (f1 g1 fq : Nat → Int) (Q : Int), y1 < m_10 → (0 < x1) → (Nat.gcd x1 y1 = Nat.gcd x y) → (isInts (x1 : Int) n1) → (isInts (y1 : Int) m1) → (a1 ≠ b1 ∧ v1 ≠ e1 ∧ a1 ≠ c ∧ b1 ≠ c ∧ v1 ≠ qv1 ∧ e1 ≠ qv1) → (B ≤ a1 ∧ B ≤ v1 ∧ B ≤ b1 ∧ B ≤ e1) → (∀ q, (q = a1 ∨ q = v1 ∨ q = b1 ∨ q = e1) → zA z.A z.H0 q) → (H0.size ≤ c ∧ H0.size ≤ qv1 ∧ 1 ≤ qc) → (m1 = 0 ∨ (m1 < n1 + 2 ∧ n1 < m1 + 2 ∧ 3 ≤ cb ∧ 101 ≤ sb) ∨ hyR n1 m1 cb sb) → MI κ H a1 v1 o1 n1 cp1 f1 (x1 : Int) → MI κ H b1 e1 p1 m1 cq1 g1 (y1 : Int) → MI κ H c qv1 oq nq qc fq Q → V z H cb sb 10 [(3, .ref c), (2, .ref a1), (1, .ref b1)] [] := by
    intro m_10
    induction m_10 with
    | zero => intro H a1 v1 o1 n1 cp1 x1 b1 e1 p1 m1 cq1 y1 qv1 oq nq qc cb sb f1 g1 fq Q hm; exact absurd hm (by omega)
    | succ m_10 ih_10 =>
      intro H a1 v1 o1 n1 cp1 x1 b1 e1 p1 m1 cq1 y1 qv1 oq nq qc cb sb f1 g1 fq Q hm_10 hx1 hG hn1 hm1 hab h931 hA1 hqv1 hR hMa hMb hMc
      have h481 := hn1.1
      have h48m1 := hm1.1
      refine v_aload_n E 2 rfl dJ26_hybridGCD_10 ?_
      refine v_getf E in_J26 hMb.1 (ci := 9) rfl 1 (by decide) q1173 rfl (v := vi (m1 : Int)) rfl dJ26_hybridGCD_11 ?_
      refine v_if_eq E (tgt := 55) dJ26_hybridGCD_14 (by decide) ⟨by omega, by omega⟩ (fun c_14 => ?_) (fun c_14 => ?_)
      · refine v_aload_n E 1 rfl dJ26_hybridGCD_55 ?_
        refine v_aret E hE rfl (Or.inl ⟨_, rfl⟩) dJ26_hybridGCD_56 (Or.inr ⟨_, rfl⟩) ?_
        have ey : y1 = 0 := by have := ints_pos (Int.natCast_nonneg y1) hm1; omega
        subst ey
        rw [Nat.gcd_zero_right] at hG
        exact ⟨a1, v1, o1, n1, cp1, f1, rfl, by rw [← hG]; exact hMa, by rw [← hG]; exact hn1, h931.1, h931.2.1⟩
      · refine v_aload_n E 1 rfl dJ26_hybridGCD_17 ?_
        refine v_getf E in_J26 hMa.1 (ci := 9) rfl 1 (by decide) q1173 rfl (v := vi (n1 : Int)) rfl dJ26_hybridGCD_18 ?_
        refine v_aload_n E 2 rfl dJ26_hybridGCD_21 ?_
        refine v_getf E in_J26 hMb.1 (ci := 9) rfl 1 (by decide) q1173 rfl (v := vi (m1 : Int)) rfl dJ26_hybridGCD_22 ?_
        refine v_isub E dJ26_hybridGCD_25 ?_
        refine v_mabs E ⟨by omega, by omega⟩ q1190 q1191 q80 q1192 (by decide) (Nat.le_of_ble_eq_true rfl) dJ26_hybridGCD_26 ?_
        refine v_iconst E dJ26_hybridGCD_29 ?_
        refine v_icmp_ge E (tgt := 39) dJ26_hybridGCD_30 (by decide) ⟨by omega, by omega⟩ ⟨by omega, by omega⟩ (fun c_30 => ?_) (fun c_30 => ?_)
        · refine v_aload_n E 1 rfl dJ26_hybridGCD_39 ?_
          refine v_aload_n E 2 rfl dJ26_hybridGCD_40 ?_
          refine v_aload_n E 0 rfl dJ26_hybridGCD_41 ?_
          refine V.frame (fun hfz_fr_12 hfk_fr_12 => ?_)
          rw [hH0] at hfz_fr_12 hfk_fr_12
          rw [hA0] at hfk_fr_12
          have hy1 : 0 < y1 := by have := ints_pos (Int.natCast_nonneg y1) hm1; omega
          have hR9 : hyR n1 m1 cb sb := by rcases hR with h | h | h; (· omega); (· omega); (· exact h)
          have hR8 := hyR_le hR9
          have hR7 : 9 ≤ cb ∧ 5 * n1 + 14 ≤ sb := by have := hyR_s (k := if n1 < m1 then n1 else 0) hR9 (by omega) (by omega) (fun h => if_pos h) (by split <;> omega); exact ⟨this.1, this.2.1⟩
          refine v_callV E (As := [.ref b1, .ref c]) (b := a1) (ci := 9) (C := RJ26) (T := TJ26) (N := 3) hMa.1 rfl (h_div κ H hD hy1 hn1 hm1 hab.2.2.1 hab.2.2.2.1 hab.2.2.2.2.1 hab.2.2.2.2.2 hqv1.2.2 hMa hMb hMc) (lw_V q1245 q1246 q1247 q101 q1248) 2 (by decide +kernel) rfl (by decide) (by decide) (cb' := (cb - 9)) (sb' := (sb - (5 * n1 + 14))) (by omega) (by omega) rfl (rest := []) (Nat.le_of_ble_eq_true rfl) (fun q9 h => hNew q9 (h.elim (fun h => by rw [h]; exact hqv1.1) (fun h => by rw [h]; exact hqv1.2.1))) dJ26_hybridGCD_42 (fun v_13 H_14 hpost_15 hz_16 hk_17 => ?_)
          clear hz_16
          obtain ⟨v2, o2, n2, cap2, f2, hMq9, hIq, hcq9, hv2q, r, hr0, hr1⟩ := hpost_15
          obtain ⟨rfl, hrH, v3, o3, n3, cap3, f3, hvH, hv32, hM9, hI9⟩ := hr1
          have hbl := hMb.lt
          have hcl := hMc.lt
          have hMb9 := hMb.kept (hk_17 _ hbl.1 (fun h => h.elim (fun h => hab.2.2.2.1 h) (fun h => hp.ka hD hMb.1 hMc.2.1 (by decide) (by decide) h))) (hk_17 _ hbl.2 (fun h => h.elim (fun h => hp.ka hD hMc.1 hMb.2.1 (by decide) (by decide) h.symm) (fun h => hab.2.2.2.2.2 h)))
          have hrb : r ≠ b1 := Nat.ne_of_gt (Nat.lt_of_lt_of_le hbl.1 hrH)
          have hv3e : v3 ≠ e1 := Nat.ne_of_gt (Nat.lt_of_lt_of_le hbl.2 hvH)
          have hrc : r ≠ c := Nat.ne_of_gt (Nat.lt_of_lt_of_le hcl.1 hrH)
          have hev2 : e1 ≠ v2 := hv2q.elim (fun h => by rw [h]; exact hab.2.2.2.2.2) (fun h => Nat.ne_of_lt (Nat.lt_of_lt_of_le hbl.2 h))
          have hml := Nat.mod_lt x1 hy1
          have hst := hyR_s hR9 (by omega) (by omega) (hy_len hn1 hm1 hI9 hy1).1 (hy_len hn1 hm1 hI9 hy1).2
          refine V.eq (st' := [.ref r]) rfl ?_
          refine v_astore E dJ26_hybridGCD_45 (zlt hL rfl) (lv' := [(4, .ref r), (3, .ref c), (2, .ref a1), (1, .ref b1)]) rfl ?_
          refine v_aload_n E 3 rfl dJ26_hybridGCD_47 ?_
          refine v_astore_n E dJ26_hybridGCD_48 (zlt hL rfl) (lv' := [(2, .ref b1), (4, .ref r), (3, .ref c), (1, .ref b1)]) rfl ?_
          refine v_aload E 1 rfl dJ26_hybridGCD_49 ?_
          refine v_astore_n E dJ26_hybridGCD_51 (zlt hL rfl) (lv' := [(1, .ref r), (2, .ref b1), (4, .ref r), (3, .ref c)]) rfl ?_
          refine v_goto E (tgt := 10) dJ26_hybridGCD_52 (by decide) ?_
          refine V.sub [3, 1, 0] (lv' := [(3, .ref c), (2, .ref b1), (1, .ref r)]) rfl ?_
          exact ih_10  H_14 _ _ _ _ _ _ _ _ _ _ _ _ _ _ _ _ (cb - 9) (sb - (5 * n1 + 14)) _ _ _ _ (by omega) hy1 ((Nat.gcd_comm _ _).trans ((Nat.gcd_rec y1 x1).symm.trans ((Nat.gcd_comm _ _).trans hG))) hm1 hI9 ⟨Ne.symm hrb, Ne.symm hv3e, hab.2.2.2.1, hrc, hev2, hv32⟩ ⟨h931.2.2.1, h931.2.2.2, Nat.le_trans hB (by omega), Nat.le_trans hB (by omega)⟩ (fun q h => h.elim (fun h => hA1 q (Or.inr (Or.inr (Or.inl h)))) (fun h => h.elim (fun h => hA1 q (Or.inr (Or.inr (Or.inr h)))) (fun h => h.elim (fun h => hNew q (by rw [h]; omega)) (fun h => hNew q (by rw [h]; omega))))) ⟨hqv1.1, hv2q.elim (fun h => by rw [h]; exact hqv1.2.1) (fun h => by omega), hcq9⟩ (hst.2.2.imp id (fun h => h.imp (fun h => ⟨h.2.1, h.1, h.2.2⟩) id)) hMb9 hM9 hMq9
        · refine v_aload_n E 1 rfl dJ26_hybridGCD_33 ?_
          refine v_aload_n E 2 rfl dJ26_hybridGCD_34 ?_
          refine V.frame (fun hfz_fr_18 hfk_fr_18 => ?_)
          rw [hH0] at hfz_fr_18 hfk_fr_18
          rw [hA0] at hfk_fr_18
          have hy1 : 0 < y1 := by have := ints_pos (Int.natCast_nonneg y1) hm1; omega
          refine v_callV E (As := [.ref b1]) (b := a1) (ci := 9) (C := RJ26) (T := TJ26) (N := 3) hMa.1 rfl (h_bg κ H (B := B) (hC.call hA93 hfz_fr_18 hfk_fr_18) hx1 hy1 hab.1 hab.2.1 (Nat.le_trans hB (by omega)) h931 hn1 hm1 hMa hMb) (lw_V q1193 q1195 qs19 q101 q1196) 1 (by decide +kernel) rfl (by decide) (by decide) (cb' := (cb - 3)) (sb' := (sb - 101)) (by rcases hR with h | h | h; (· omega); (· omega); (· have := hyR_le h; omega)) (by rcases hR with h | h | h; (· omega); (· omega); (· have := hyR_le h; omega)) rfl (rest := []) (Nat.le_of_ble_eq_true rfl) (fun q9 h => hA1 q9 h) dJ26_hybridGCD_35 (fun v_19 H_20 hpost_21 hz_22 hk_23 => ?_)
          clear hz_22
          obtain ⟨q, v2, o2, n2, cap2, f2, rfl, hM9, hI9, hq9, hv9⟩ := hpost_21
          rw [hG] at hM9 hI9
          refine V.eq (st' := [.ref q]) rfl ?_
          refine v_aret E hE rfl (Or.inl ⟨_, rfl⟩) dJ26_hybridGCD_38 (Or.inr ⟨_, rfl⟩) ?_
          exact ⟨q, v2, o2, n2, cap2, f2, rfl, hM9, hI9, hq9, hv9⟩
  refine V.sub [0, 1, 3] (lv' := [(3, .ref c), (2, .ref a), (1, .ref b)]) rfl ?_
  refine V.less (cb' := ((12 + 9 * ((min N M + 1) / 2) + 2) - 2)) (sb' := ((5 * min N M + 14 + (5 * max N M + 14) + hyT (min N M) + 101 + 4) - 4)) (by omega) (by omega) ?_
  exact loop_10 (y + 1) H_8 a v o n cap x b e p m cbp y vq 0 0 1 ((12 + 9 * ((min N M + 1) / 2) + 2) - 2) ((5 * min N M + 14 + (5 * max N M + 14) + hyT (min N M) + 101 + 4) - 4) f g (fun _ => 0) 0 (by omega) hx rfl hn hm ⟨hne_a_b, hne_v_e, Nat.ne_of_lt (Nat.lt_of_lt_of_le hM.lt.1 (by omega)), Nat.ne_of_lt (Nat.lt_of_lt_of_le hM2.lt.1 (by omega)), Nat.ne_of_lt (Nat.lt_of_lt_of_le hM.lt.2 (by omega)), Nat.ne_of_lt (Nat.lt_of_lt_of_le hM2.lt.2 (by omega))⟩ hB4 hAll ⟨by omega, by omega, Nat.le_refl 1⟩ (Or.inr (Or.inr (hyR_of hnN hmM (by omega) (by omega)))) hMa9 hMb9 hMq
