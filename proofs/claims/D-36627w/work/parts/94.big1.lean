/-! BIG INTEGERS: what they are asked -/
/-- out of omega's sight -/
def Hid (p : Prop) : Prop := p
theorem sgn3 (x : Int) : x.sign = -1 ∧ x < 0 ∨ x.sign = 0 ∧ x = 0 ∨ x.sign = 1 ∧ 0 < x := by
  rcases Int.lt_trichotomy x 0 with h | h | h
  · exact Or.inl ⟨Int.sign_eq_neg_one_of_neg h, h⟩
  · exact Or.inr (Or.inl ⟨by rw [h]; rfl, h⟩)
  · exact Or.inr (Or.inr ⟨Int.sign_eq_one_of_pos h, h⟩)
theorem BI.mk {κ : zK} {H : Heap} {a m n : Nat} {x : Int} (ho : hp κ H a (.inr (6, [vi x.sign, .ref m, vi 0, vi 0, vi 0, vi 0]))) (hm : hp κ H m (eI κ n (bm x n))) (hn : isInts (x.natAbs : Int) n) (ha : κ.2 93 ≤ a) (hmd : mD κ m) : BI κ H a x :=
  ⟨m, n, 0, ⟨0, 0, 0, ho⟩, hm, hn, Or.inl ⟨rfl, ha⟩, hmd⟩
theorem Hid.r {p q : Prop} (h : Hid (p ∧ q)) : q := h.2
theorem ints_lt {X Y : Int} {n m : Nat} (h1 : isInts X n) (h2 : isInts Y m) (h : n < m) : X < Y :=
  Int.lt_of_lt_of_le h1.2.1 (Int.le_trans (pw_mono (by omega)) (h2.2.2 (by omega)))
theorem ints_rU {X : Int} {n : Nat} (h0 : 0 ≤ X) (h : isInts X n) : 0 ≤ X ∧ X < 2 ^ (32 * n) := ⟨h0, h.2.1⟩
theorem ints_pos {X : Int} {n : Nat} (h0 : 0 ≤ X) (h : isInts X n) : X = 0 ∧ n = 0 ∨ 0 < X ∧ 0 < n := by
  rcases Nat.eq_zero_or_pos n with e | e
  · left
    have := h.2.1
    rw [e] at this
    exact ⟨by omega, e⟩
  · right
    have h1 := h.2.2 e
    have h2 := p2 (32 * (n - 1))
    omega
theorem ints_le {X : Int} {n N : Nat} (h0 : 0 ≤ X) (h : isInts X n) (hN : X < 2 ^ (32 * N)) : n ≤ N := by
  rcases Nat.eq_zero_or_pos n with e | e
  · omega
  · have := pw_lt (Int.lt_of_le_of_lt (h.2.2 e) hN)
    omega
theorem ints_1 {X : Int} (h : 0 < X) (h2 : X < 4294967296) : isInts X 1 := ⟨by decide, h2, fun _ => h⟩
theorem ints_2 {X : Int} (h : 4294967296 ≤ X) (h2 : X < 18446744073709551616) : isInts X 2 := ⟨by decide, h2, fun _ => h⟩
theorem bm_eq {x y : Int} {n k : Nat} (hk : k ≤ n) (h : ∀ j, j < k → bm x n j = bm y n j) : ∀ j, n - k ≤ j → j < n → dg (x.natAbs : Int) j = dg (y.natAbs : Int) j := by
  intro j h1 h2
  have := h (n - 1 - j) (by omega)
  unfold bm at this
  rwa [show n - 1 - (n - 1 - j) = j by omega] at this

/-! what a cell holds is one thing -/
theorem hp.injO {κ : zK} {H : Heap} {a ci : Nat} {fs gs : List Value} (h : hp κ H a (.inr (ci, fs))) (h' : hp κ H a (.inr (ci, gs))) {q : String × u_T × Nat} (hq : zC[ci]? = some q) (k : Nat) (hk : k < q.2.2) : vp_V fs k = vp_V gs k := by
  obtain ⟨r, g1, cell, q1, q2, q3, q4⟩ := h
  obtain ⟨r', g1', cell', q1', q2', q3', q4'⟩ := h'
  obtain rfl := Option.some.inj (g1.symm.trans hq)
  obtain rfl := Option.some.inj (g1'.symm.trans hq)
  obtain rfl := Option.some.inj (q1.symm.trans q1')
  exact Option.some.inj ((q4 k hk).symm.trans (q4' k hk))
theorem hp.injI {κ : zK} {H : Heap} {a n : Nat} {f g : Nat → Int} (h : hp κ H a (eI κ n f)) (h' : hp κ H a (eI κ n g)) (k : Nat) (hk : k < n) : iZ (f k) = iZ (g k) := by
  have h1 : H[a]? = some (arrV (κ.2 0) n (fun k => .int (iZ (f k)))) := h
  have h2 : H[a]? = some (arrV (κ.2 0) n (fun k => .int (iZ (g k)))) := h'
  have e := congrArg (fun c : Cell => c.slots[k]?) (Option.some.inj (h1.symm.trans h2))
  have e2 : some (Value.int (iZ (f k))) = some (Value.int (iZ (g k))) := by
    simpa [arrV, Array.getElem?_ofFn, hk] using e
  injection e2 with e3
  injection e3
theorem iZ_dgI {a b : Int} (ha : 0 ≤ a ∧ a < 4294967296) (hb : 0 ≤ b ∧ b < 4294967296) (h : iZ a = iZ b) : a = b := by
  have := congrArg (fun x : Int32 => x.toBitVec.toNat) h
  simp only [iZ_tn] at this
  omega
theorem BI.inj {κ : zK} {H : Heap} {a : Nat} {x y : Int} (h : BI κ H a x) (h' : BI κ H a y) : x = y := by
  obtain ⟨m, n, cf, ⟨c1, c2, c3, ho⟩, hm, hn, hcf⟩ := h
  obtain ⟨m', n', cf', ⟨d1, d2, d3, ho'⟩, hm', hn', hcf'⟩ := h'
  have e0 : vi x.sign = vi y.sign := hp.injO ho ho' rfl 0 (by decide)
  have e1 : Value.ref m = Value.ref m' := hp.injO ho ho' rfl 1 (by decide)
  injection e1 with e1
  subst e1
  obtain rfl := hp.inj (e := eI κ n (bm x n)) (e' := eI κ n (bm x n)) hm hm'
  have es : x.sign = y.sign := by
    injection e0 with e0
    exact (iZ_inj (rsign x) (rsign y)).mp e0
  have ed : (x.natAbs : Int) = (y.natAbs : Int) := cmp_eq (ints_rU (by omega) hn) (ints_rU (by omega) hn') (fun j hj => by
    have := iZ_dgI (dg_in _ _) (dg_in _ _) (hp.injI hm hm' (n - 1 - j) (by omega))
    rwa [show n - 1 - (n - 1 - j) = j by omega] at this)
  have := sgn3 x
  have := sgn3 y
  omega
set_option maxHeartbeats 400000 in
set_option maxRecDepth 100000 in
/-- signum -/
theorem g_signum (κ : zK) (H0 : Heap) {a : Nat} {x : Int} (hx : BI κ H0 a x)  : Mt κ yJ16_signum cJ16_signum 1 (some .int) 0 0 0 0 H0 [.ref a] (fun _ => False) (fun v H1 => v = some (vi x.sign)) := by
  refine Mt.of (by decide) (Nat.le_of_ble_eq_true rfl) ?_
  intro z E hE hH0 hA0 hL hini
  have hAll : ∀ q, (fun _ => False) q → zA z.A z.H0 q := fun q h => Or.inl (by rw [hA0]; exact h)
  have hNew : ∀ q, H0.size ≤ q → zA z.A z.H0 q := fun q h => Or.inr (by rw [hH0]; exact h)
  have E : zOK z cJ16_signum RJ16 κ 0 0 (some .int) := E
  refine V.eqL (lv' := [(0, .ref a)]) rfl ?_
  obtain ⟨ma, na, cfa, ⟨c1a, c2a, c3a, hoa⟩, hma, hna, hcfa⟩ := hx
  change Hid _ at hcfa
  have hsa := sgn3 x
  have h48a := hna.1
  refine v_aload_n E 0 rfl dJ16_signum_0 ?_
  refine v_getf E in_J16 hoa (ci := 6) rfl 0 (by decide) q494 rfl (v := vi x.sign) rfl dJ16_signum_1 ?_
  refine v_iret E hE dJ16_signum_4 ?_
  rfl

set_option maxHeartbeats 400000 in
set_option maxRecDepth 100000 in
theorem g_num (κ : zK) (H0 : Heap) {a : Nat} : Mt κ yJ15_init cJ15_init 1 (none) 1 12 0 0 H0 [.ref a] (fun _ => False) (fun v H1 => v = none) := by
  refine Mt.of (by decide) (Nat.le_of_ble_eq_true rfl) ?_
  intro z E hE hH0 hA0 hL hini
  have hini := hini rfl
  have hAll : ∀ q, (fun _ => False) q → zA z.A z.H0 q := fun q h => Or.inl (by rw [hA0]; exact h)
  have hNew : ∀ q, H0.size ≤ q → zA z.A z.H0 q := fun q h => Or.inr (by rw [hH0]; exact h)
  have E : zOK z cJ15_init RJ15 κ 1 12 (none) := E
  refine V.eqL (lv' := [(0, .ref a)]) rfl ?_
  refine v_aload_n E 0 rfl dJ15_init_0 ?_
  refine v_objInit E q493 q111 q112 dJ15_init_1 (by decide) (Nat.le_of_ble_eq_true rfl) ?_
  refine v_vret E hE dJ15_init_4 ?_
  rfl

set_option maxHeartbeats 400000 in
set_option maxRecDepth 100000 in
/-- a new one from its ints -/
theorem g_initM (κ : zK) (H0 : Heap) {a m n : Nat} {f : Nat → Int} {c : Int} (hC : CO κ H0) (hn : n ≤ 1000) (ho : hp κ H0 a (.inr (6, [vi 0, .null, vi 0, vi 0, vi 0, vi 0]))) (hm : hp κ H0 m (eI κ n f))  : Mt κ yJ16_init_2 cJ16_init_2 3 (none) 2 32 0 0 H0 [.ref a, .ref m, vi c] (fun q => q = a) (fun v H1 => v = none ∧ hp κ H1 a (.inr (6, [vi (if n = 0 then 0 else c), .ref m, vi 0, vi 0, vi 0, vi 0]))) := by
  refine Mt.of (by decide) (Nat.le_of_ble_eq_true rfl) ?_
  intro z E hE hH0 hA0 hL hini
  have hini := hini rfl
  have hAll : ∀ q, (fun q => q = a) q → zA z.A z.H0 q := fun q h => Or.inl (by rw [hA0]; exact h)
  have hNew : ∀ q, H0.size ≤ q → zA z.A z.H0 q := fun q h => Or.inr (by rw [hH0]; exact h)
  have E : zOK z cJ16_init_2 RJ16 κ 2 32 (none) := E
  refine V.eqL (lv' := [(0, .ref a), (1, .ref m), (2, vi c)]) rfl ?_
  have hne_m_a : m ≠ a := Ne.symm (hp.ka hC.D ho hm (by decide) (by decide))
  refine v_aload_n E 0 rfl dJ16_init_2_0 ?_
  refine v_callI E (As := []) (b := a) (g_num κ H0 (a := a)) q492 q90 q490 q491 rfl 0 (by decide +kernel) rfl (by decide) (by decide) (cb' := 0) (sb' := 0) (by decide) (by decide) rfl (rest := []) (Nat.le_of_ble_eq_true rfl) (fun q h => h.elim) dJ16_init_2_1 (fun v_1 H_2 hpost_3 hz_4 hk_5 => ?_)
  clear hz_4
  obtain rfl := hpost_3
  have ho_6 := ho.kept (hk_5 _ ho.lt (fun h => h))
  have hm_7 := hm.kept (hk_5 _ hm.lt (fun h => h))
  refine V.eq (st' := []) rfl ?_
  refine v_aload_n E 0 rfl dJ16_init_2_4 ?_
  refine v_aload_n E 1 rfl dJ16_init_2_5 ?_
  refine v_alen E dJ16_init_2_6 (t := 0) (ty := .int) hm_7 rfl ?_
  refine v_if_ne E (tgt := 14) dJ16_init_2_7 (by decide) ⟨by omega, by omega⟩ (fun c_7 => ?_) (fun c_7 => ?_)
  · refine v_iload_n E 2 rfl dJ16_init_2_14 ?_
    refine v_putfF E hini in_J16 tyJ16 tyJ16_ok nmJ16 ho_6 (ci := 6) rfl 0 (Nat.le_of_ble_eq_true rfl) q494 rfl rfl rfl rfl rfl (Nat.le_of_ble_eq_true rfl) (hAll _ rfl) dJ16_init_2_15 (fun H_10 ho_8 hs_9 => ?_)
    have hm_11 := hm_7.same hs_9 hne_m_a
    have ho_8 : hp κ H_10 a (.inr (6, [vi c, .null, vi 0, vi 0, vi 0, vi 0])) := ho_8
    refine v_aload_n E 0 rfl dJ16_init_2_18 ?_
    refine v_aload_n E 1 rfl dJ16_init_2_19 ?_
    refine v_putfF E hini in_J16 tyJ16 tyJ16_ok nmJ16 ho_8 (ci := 6) rfl 1 (Nat.le_of_ble_eq_true rfl) q496 rfl rfl rfl rfl rfl (Nat.le_of_ble_eq_true rfl) (hAll _ rfl) dJ16_init_2_20 (fun H_14 ho_12 hs_13 => ?_)
    have hm_15 := hm_11.same hs_13 hne_m_a
    have ho_12 : hp κ H_14 a (.inr (6, [vi c, .ref m, vi 0, vi 0, vi 0, vi 0])) := ho_12
    refine v_aload_n E 0 rfl dJ16_init_2_23 ?_
    refine v_getf E in_J16 ho_12 (ci := 6) rfl 1 (by decide) q496 rfl (v := .ref m) rfl dJ16_init_2_24 ?_
    refine v_alen E dJ16_init_2_27 (t := 0) (ty := .int) hm_15 rfl ?_
    refine v_ldc E q633 dJ16_init_2_28 ?_
    refine V.eq (st' := vi 67108864 :: _) rfl ?_
    refine v_icmp_lt E (tgt := 37) dJ16_init_2_30 (by decide) ⟨by omega, by omega⟩ ⟨by omega, by omega⟩ (fun c_30 => ?_) (fun c_30 => absurd c_30 (by omega))
    refine v_vret E hE dJ16_init_2_37 ?_
    refine ⟨rfl, ?_⟩
    rw [if_neg (by omega)]; exact ho_12
  · refine v_iconst E dJ16_init_2_10 ?_
    refine v_goto E (tgt := 15) dJ16_init_2_11 (by decide) ?_
    refine v_putfF E hini in_J16 tyJ16 tyJ16_ok nmJ16 ho_6 (ci := 6) rfl 0 (Nat.le_of_ble_eq_true rfl) q494 rfl rfl rfl rfl rfl (Nat.le_of_ble_eq_true rfl) (hAll _ rfl) dJ16_init_2_15 (fun H_18 ho_16 hs_17 => ?_)
    have hm_19 := hm_7.same hs_17 hne_m_a
    have ho_16 : hp κ H_18 a (.inr (6, [vi 0, .null, vi 0, vi 0, vi 0, vi 0])) := ho_16
    refine v_aload_n E 0 rfl dJ16_init_2_18 ?_
    refine v_aload_n E 1 rfl dJ16_init_2_19 ?_
    refine v_putfF E hini in_J16 tyJ16 tyJ16_ok nmJ16 ho_16 (ci := 6) rfl 1 (Nat.le_of_ble_eq_true rfl) q496 rfl rfl rfl rfl rfl (Nat.le_of_ble_eq_true rfl) (hAll _ rfl) dJ16_init_2_20 (fun H_22 ho_20 hs_21 => ?_)
    have hm_23 := hm_19.same hs_21 hne_m_a
    have ho_20 : hp κ H_22 a (.inr (6, [vi 0, .ref m, vi 0, vi 0, vi 0, vi 0])) := ho_20
    refine v_aload_n E 0 rfl dJ16_init_2_23 ?_
    refine v_getf E in_J16 ho_20 (ci := 6) rfl 1 (by decide) q496 rfl (v := .ref m) rfl dJ16_init_2_24 ?_
    refine v_alen E dJ16_init_2_27 (t := 0) (ty := .int) hm_23 rfl ?_
    refine v_ldc E q633 dJ16_init_2_28 ?_
    refine V.eq (st' := vi 67108864 :: _) rfl ?_
    refine v_icmp_lt E (tgt := 37) dJ16_init_2_30 (by decide) ⟨by omega, by omega⟩ ⟨by omega, by omega⟩ (fun c_30 => ?_) (fun c_30 => absurd c_30 (by omega))
    refine v_vret E hE dJ16_init_2_37 ?_
    refine ⟨rfl, ?_⟩
    rw [if_pos (by omega)]; exact ho_20

set_option maxHeartbeats 400000 in
set_option maxRecDepth 100000 in
/-- a new one from a long -/
theorem g_initL (κ : zK) (H0 : Heap) {a : Nat} {x : Int} (hC : CO κ H0) (hx0 : x ≠ 0) (hx : -4611686018427387904 ≤ x ∧ x ≤ 4611686018427387904) (h93 : κ.2 93 ≤ a) (ho : hp κ H0 a (.inr (6, [vi 0, .null, vi 0, vi 0, vi 0, vi 0])))  : Mt κ yJ16_init cJ16_init 4 (none) 2 32 1 2 H0 [.ref a, vj x] (fun q => q = a) (fun v H1 => v = none ∧ BI κ H1 a x) := by
  refine Mt.of (by decide) (Nat.le_of_ble_eq_true rfl) ?_
  intro z E hE hH0 hA0 hL hini
  have hini := hini rfl
  have hAll : ∀ q, (fun q => q = a) q → zA z.A z.H0 q := fun q h => Or.inl (by rw [hA0]; exact h)
  have hNew : ∀ q, H0.size ≤ q → zA z.A z.H0 q := fun q h => Or.inr (by rw [hH0]; exact h)
  have E : zOK z cJ16_init RJ16 κ 2 32 (none) := E
  refine V.eqL (lv' := [(0, .ref a), (1, vj x)]) rfl ?_
  refine v_aload_n E 0 rfl dJ16_init_0 ?_
  refine v_callI E (As := []) (b := a) (g_num κ H0 (a := a)) q492 q90 q490 q491 rfl 0 (by decide +kernel) rfl (by decide) (by decide) (cb' := 1) (sb' := 2) (by decide) (by decide) rfl (rest := []) (Nat.le_of_ble_eq_true rfl) (fun q h => h.elim) dJ16_init_1 (fun v_1 H_2 hpost_3 hz_4 hk_5 => ?_)
  clear hz_4
  obtain rfl := hpost_3
  have ho_6 := ho.kept (hk_5 _ ho.lt (fun h => h))
  refine V.eq (st' := []) rfl ?_
  refine v_lload_n E 1 rfl dJ16_init_4 ?_
  refine v_lconst E (x := 0) rfl dJ16_init_5 ?_
  refine v_lc_ge E (tgt := 21) dJ16_init_6 dJ16_init_7 (by decide) ⟨by omega, by omega⟩ ⟨by omega, by omega⟩ (fun c_6 => ?_) (fun c_6 => ?_)
  · refine v_aload_n E 0 rfl dJ16_init_21 ?_
    refine v_iconst E dJ16_init_22 ?_
    refine v_putfF E hini in_J16 tyJ16 tyJ16_ok nmJ16 ho_6 (ci := 6) rfl 0 (Nat.le_of_ble_eq_true rfl) q494 rfl rfl rfl rfl rfl (Nat.le_of_ble_eq_true rfl) (hAll _ rfl) dJ16_init_23 (fun H_9 ho_7 hs_8 => ?_)
    have ho_7 : hp κ H_9 a (.inr (6, [vi 1, .null, vi 0, vi 0, vi 0, vi 0])) := ho_7
    have hX : (x.natAbs : Int) = x := by omega
    refine v_lload_n E 1 rfl dJ16_init_26 ?_
    refine v_bipush E ⟨by decide, by decide⟩ dJ16_init_27 ?_
    refine v_lushr E 32 (by decide) dJ16_init_29 ?_
    refine v_l2i E dJ16_init_30 ?_
    refine V.topi (x' := (x.natAbs : Int) / 4294967296) (congrArg iZ (by omega)) ?_
    refine v_istore_n E dJ16_init_31 (zlt hL rfl) (lv' := [(3, vi ((x.natAbs : Int) / 4294967296)), (0, .ref a), (1, vj x)]) rfl ?_
    refine v_iload_n E 0 rfl dJ16_init_32 ?_
    refine v_if_ne E (tgt := 54) dJ16_init_33 (by decide) ⟨by omega, by omega⟩ (fun c_33 => ?_) (fun c_33 => ?_)
    · refine v_aload_n E 1 rfl dJ16_init_54 ?_
      refine v_iconst E dJ16_init_55 ?_
      refine V.frame (fun hfz_fr_10 hfk_fr_10 => ?_)
      rw [hH0] at hfz_fr_10 hfk_fr_10
      rw [hA0] at hfk_fr_10
      refine v_newI E (n := 2) q511 (by decide) rfl (cb' := 0) (sb' := 0) (by decide) (by decide) dJ16_init_56 (fun q_11 H_12 hq_15 hn_13 hg_14 => ?_)
      have hne_a_q_11 : a ≠ q_11 := by have := ho_7.lt; omega
      have ho_17 := ho_7.grow hg_14
      refine v_putfF E hini in_J16 tyJ16 tyJ16_ok nmJ16 ho_17 (ci := 6) rfl 1 (Nat.le_of_ble_eq_true rfl) q496 rfl rfl rfl rfl rfl (Nat.le_of_ble_eq_true rfl) (hAll _ rfl) dJ16_init_58 (fun H_20 ho_18 hs_19 => ?_)
      have hn_21 := hn_13.same hs_19 (Ne.symm hne_a_q_11)
      have ho_18 : hp κ H_20 a (.inr (6, [vi 1, .ref q_11, vi 0, vi 0, vi 0, vi 0])) := ho_18
      refine v_aload_n E 1 rfl dJ16_init_61 ?_
      refine v_getf E in_J16 ho_18 (ci := 6) rfl 1 (by decide) q496 rfl (v := .ref q_11) rfl dJ16_init_62 ?_
      refine v_iconst E dJ16_init_65 ?_
      refine v_iload_n E 0 rfl dJ16_init_66 ?_
      refine v_iast E dJ16_init_67 hn_21 0 rfl (by omega) (by omega) (hNew _ (by omega)) (fun H_24 hn_22 hs_23 => ?_)
      have ho_25 := ho_18.same hs_23 hne_a_q_11
      refine v_aload_n E 1 rfl dJ16_init_68 ?_
      refine v_getf E in_J16 ho_25 (ci := 6) rfl 1 (by decide) q496 rfl (v := .ref q_11) rfl dJ16_init_69 ?_
      refine v_iconst E dJ16_init_72 ?_
      refine v_lload_n E 2 rfl dJ16_init_73 ?_
      refine v_l2i E dJ16_init_74 ?_
      refine V.topi (x' := (x.natAbs : Int) % 4294967296) (iZ_cong (by omega)) ?_
      refine v_iast E dJ16_init_75 hn_22 1 rfl (by omega) (by omega) (hNew _ (by omega)) (fun H_28 hn_26 hs_27 => ?_)
      have ho_29 := ho_25.same hs_27 hne_a_q_11
      refine v_vret E hE dJ16_init_76 ?_
      refine ⟨rfl, BI.mk (n := 2) (m := q_11) ?_ (eI.congr hn_26 (fun k hk => ?_)) (ints_2 (by omega) (by omega)) h93 (Or.inr (Nat.le_trans hC.m (by omega)))⟩
      · rw [show x.sign = 1 from Int.sign_eq_one_of_pos (by omega)]; exact ho_29
      · rcases (show k = 0 ∨ k = 1 by omega) with rfl | rfl
        · rw [va_up_ne _ _ (by decide), va_up_self]; unfold bm; exact congrArg iZ ((Int.emod_eq_of_lt (by omega) (by omega)).symm.trans (dg_1 _).symm)
        · rw [va_up_self]; unfold bm; exact congrArg iZ (dg_0 _).symm
    · refine v_aload_n E 1 rfl dJ16_init_36 ?_
      refine v_iconst E dJ16_init_37 ?_
      refine V.frame (fun hfz_fr_30 hfk_fr_30 => ?_)
      rw [hH0] at hfz_fr_30 hfk_fr_30
      rw [hA0] at hfk_fr_30
      refine v_newI E (n := 1) q511 (by decide) rfl (cb' := 0) (sb' := 1) (by decide) (by decide) dJ16_init_38 (fun q_31 H_32 hq_35 hn_33 hg_34 => ?_)
      have hne_a_q_31 : a ≠ q_31 := by have := ho_7.lt; omega
      have ho_37 := ho_7.grow hg_34
      refine v_putfF E hini in_J16 tyJ16 tyJ16_ok nmJ16 ho_37 (ci := 6) rfl 1 (Nat.le_of_ble_eq_true rfl) q496 rfl rfl rfl rfl rfl (Nat.le_of_ble_eq_true rfl) (hAll _ rfl) dJ16_init_40 (fun H_40 ho_38 hs_39 => ?_)
      have hn_41 := hn_33.same hs_39 (Ne.symm hne_a_q_31)
      have ho_38 : hp κ H_40 a (.inr (6, [vi 1, .ref q_31, vi 0, vi 0, vi 0, vi 0])) := ho_38
      refine v_aload_n E 1 rfl dJ16_init_43 ?_
      refine v_getf E in_J16 ho_38 (ci := 6) rfl 1 (by decide) q496 rfl (v := .ref q_31) rfl dJ16_init_44 ?_
      refine v_iconst E dJ16_init_47 ?_
      refine v_lload_n E 2 rfl dJ16_init_48 ?_
      refine v_l2i E dJ16_init_49 ?_
      refine V.topi (x' := (x.natAbs : Int) % 4294967296) (iZ_cong (by omega)) ?_
      refine v_iast E dJ16_init_50 hn_41 0 rfl (by omega) (by omega) (hNew _ (by omega)) (fun H_44 hn_42 hs_43 => ?_)
      have ho_45 := ho_38.same hs_43 hne_a_q_31
      refine v_goto E (tgt := 76) dJ16_init_51 (by decide) ?_
      refine v_vret E hE dJ16_init_76 ?_
      refine ⟨rfl, BI.mk (n := 1) (m := q_31) ?_ (eI.congr hn_42 (fun k hk => ?_)) (ints_1 (by omega) (by omega)) h93 (Or.inr (Nat.le_trans hC.m (by omega)))⟩
      · rw [show x.sign = 1 from Int.sign_eq_one_of_pos (by omega)]; exact ho_45
      · obtain rfl : k = 0 := by omega
        rw [va_up_self]; unfold bm; exact congrArg iZ (dg_0 _).symm
  · refine v_lload_n E 1 rfl dJ16_init_10 ?_
    refine v_lneg E dJ16_init_11 ?_
    refine v_lstore_n E dJ16_init_12 (zlt hL rfl) (lv' := [(1, vj (-x)), (0, .ref a)]) rfl ?_
    refine v_aload_n E 1 rfl dJ16_init_13 ?_
    refine v_iconst E dJ16_init_14 ?_
    refine v_putfF E hini in_J16 tyJ16 tyJ16_ok nmJ16 ho_6 (ci := 6) rfl 0 (Nat.le_of_ble_eq_true rfl) q494 rfl rfl rfl rfl rfl (Nat.le_of_ble_eq_true rfl) (hAll _ rfl) dJ16_init_15 (fun H_48 ho_46 hs_47 => ?_)
    have ho_46 : hp κ H_48 a (.inr (6, [vi (-1), .null, vi 0, vi 0, vi 0, vi 0])) := ho_46
    refine v_goto E (tgt := 26) dJ16_init_18 (by decide) ?_
    have hX : (x.natAbs : Int) = -x := by omega
    refine v_lload_n E 0 rfl dJ16_init_26 ?_
    refine v_bipush E ⟨by decide, by decide⟩ dJ16_init_27 ?_
    refine v_lushr E 32 (by decide) dJ16_init_29 ?_
    refine v_l2i E dJ16_init_30 ?_
    refine V.topi (x' := (x.natAbs : Int) / 4294967296) (congrArg iZ (by omega)) ?_
    refine v_istore_n E dJ16_init_31 (zlt hL rfl) (lv' := [(3, vi ((x.natAbs : Int) / 4294967296)), (1, vj (-x)), (0, .ref a)]) rfl ?_
    refine v_iload_n E 0 rfl dJ16_init_32 ?_
    refine v_if_ne E (tgt := 54) dJ16_init_33 (by decide) ⟨by omega, by omega⟩ (fun c_33 => ?_) (fun c_33 => ?_)
    · refine v_aload_n E 2 rfl dJ16_init_54 ?_
      refine v_iconst E dJ16_init_55 ?_
      refine V.frame (fun hfz_fr_49 hfk_fr_49 => ?_)
      rw [hH0] at hfz_fr_49 hfk_fr_49
      rw [hA0] at hfk_fr_49
      refine v_newI E (n := 2) q511 (by decide) rfl (cb' := 0) (sb' := 0) (by decide) (by decide) dJ16_init_56 (fun q_50 H_51 hq_54 hn_52 hg_53 => ?_)
      have hne_a_q_50 : a ≠ q_50 := by have := ho_46.lt; omega
      have ho_56 := ho_46.grow hg_53
      refine v_putfF E hini in_J16 tyJ16 tyJ16_ok nmJ16 ho_56 (ci := 6) rfl 1 (Nat.le_of_ble_eq_true rfl) q496 rfl rfl rfl rfl rfl (Nat.le_of_ble_eq_true rfl) (hAll _ rfl) dJ16_init_58 (fun H_59 ho_57 hs_58 => ?_)
      have hn_60 := hn_52.same hs_58 (Ne.symm hne_a_q_50)
      have ho_57 : hp κ H_59 a (.inr (6, [vi (-1), .ref q_50, vi 0, vi 0, vi 0, vi 0])) := ho_57
      refine v_aload_n E 2 rfl dJ16_init_61 ?_
      refine v_getf E in_J16 ho_57 (ci := 6) rfl 1 (by decide) q496 rfl (v := .ref q_50) rfl dJ16_init_62 ?_
      refine v_iconst E dJ16_init_65 ?_
      refine v_iload_n E 0 rfl dJ16_init_66 ?_
      refine v_iast E dJ16_init_67 hn_60 0 rfl (by omega) (by omega) (hNew _ (by omega)) (fun H_63 hn_61 hs_62 => ?_)
      have ho_64 := ho_57.same hs_62 hne_a_q_50
      refine v_aload_n E 2 rfl dJ16_init_68 ?_
      refine v_getf E in_J16 ho_64 (ci := 6) rfl 1 (by decide) q496 rfl (v := .ref q_50) rfl dJ16_init_69 ?_
      refine v_iconst E dJ16_init_72 ?_
      refine v_lload_n E 1 rfl dJ16_init_73 ?_
      refine v_l2i E dJ16_init_74 ?_
      refine V.topi (x' := (x.natAbs : Int) % 4294967296) (iZ_cong (by omega)) ?_
      refine v_iast E dJ16_init_75 hn_61 1 rfl (by omega) (by omega) (hNew _ (by omega)) (fun H_67 hn_65 hs_66 => ?_)
      have ho_68 := ho_64.same hs_66 hne_a_q_50
      refine v_vret E hE dJ16_init_76 ?_
      refine ⟨rfl, BI.mk (n := 2) (m := q_50) ?_ (eI.congr hn_65 (fun k hk => ?_)) (ints_2 (by omega) (by omega)) h93 (Or.inr (Nat.le_trans hC.m (by omega)))⟩
      · rw [show x.sign = -1 from Int.sign_eq_neg_one_of_neg (by omega)]; exact ho_68
      · rcases (show k = 0 ∨ k = 1 by omega) with rfl | rfl
        · rw [va_up_ne _ _ (by decide), va_up_self]; unfold bm; exact congrArg iZ ((Int.emod_eq_of_lt (by omega) (by omega)).symm.trans (dg_1 _).symm)
        · rw [va_up_self]; unfold bm; exact congrArg iZ (dg_0 _).symm
    · refine v_aload_n E 2 rfl dJ16_init_36 ?_
      refine v_iconst E dJ16_init_37 ?_
      refine V.frame (fun hfz_fr_69 hfk_fr_69 => ?_)
      rw [hH0] at hfz_fr_69 hfk_fr_69
      rw [hA0] at hfk_fr_69
      refine v_newI E (n := 1) q511 (by decide) rfl (cb' := 0) (sb' := 1) (by decide) (by decide) dJ16_init_38 (fun q_70 H_71 hq_74 hn_72 hg_73 => ?_)
      have hne_a_q_70 : a ≠ q_70 := by have := ho_46.lt; omega
      have ho_76 := ho_46.grow hg_73
      refine v_putfF E hini in_J16 tyJ16 tyJ16_ok nmJ16 ho_76 (ci := 6) rfl 1 (Nat.le_of_ble_eq_true rfl) q496 rfl rfl rfl rfl rfl (Nat.le_of_ble_eq_true rfl) (hAll _ rfl) dJ16_init_40 (fun H_79 ho_77 hs_78 => ?_)
      have hn_80 := hn_72.same hs_78 (Ne.symm hne_a_q_70)
      have ho_77 : hp κ H_79 a (.inr (6, [vi (-1), .ref q_70, vi 0, vi 0, vi 0, vi 0])) := ho_77
      refine v_aload_n E 2 rfl dJ16_init_43 ?_
      refine v_getf E in_J16 ho_77 (ci := 6) rfl 1 (by decide) q496 rfl (v := .ref q_70) rfl dJ16_init_44 ?_
      refine v_iconst E dJ16_init_47 ?_
      refine v_lload_n E 1 rfl dJ16_init_48 ?_
      refine v_l2i E dJ16_init_49 ?_
      refine V.topi (x' := (x.natAbs : Int) % 4294967296) (iZ_cong (by omega)) ?_
      refine v_iast E dJ16_init_50 hn_80 0 rfl (by omega) (by omega) (hNew _ (by omega)) (fun H_83 hn_81 hs_82 => ?_)
      have ho_84 := ho_77.same hs_82 hne_a_q_70
      refine v_goto E (tgt := 76) dJ16_init_51 (by decide) ?_
      refine v_vret E hE dJ16_init_76 ?_
      refine ⟨rfl, BI.mk (n := 1) (m := q_70) ?_ (eI.congr hn_81 (fun k hk => ?_)) (ints_1 (by omega) (by omega)) h93 (Or.inr (Nat.le_trans hC.m (by omega)))⟩
      · rw [show x.sign = -1 from Int.sign_eq_neg_one_of_neg (by omega)]; exact ho_84
      · obtain rfl : k = 0 := by omega
        rw [va_up_self]; unfold bm; exact congrArg iZ (dg_0 _).symm

set_option maxHeartbeats 400000 in
set_option maxRecDepth 100000 in
/-- valueOf -/
theorem g_valueOf (κ : zK) (H0 : Heap) {x : Int} (hC : CO κ H0) (hx : -4611686018427387904 ≤ x ∧ x ≤ 4611686018427387904)  : Mt κ yJ16_valueOf cJ16_valueOf 2 (some (.object "java/math/BigInteger")) 3 55 2 8 H0 [vj x] (fun _ => False) (fun v H1 => ∃ q : Nat, v = some (.ref q) ∧ BI κ H1 q x) := by
  refine Mt.of (by decide) (Nat.le_of_ble_eq_true rfl) ?_
  intro z E hE hH0 hA0 hL hini
  have hAll : ∀ q, (fun _ => False) q → zA z.A z.H0 q := fun q h => Or.inl (by rw [hA0]; exact h)
  have hNew : ∀ q, H0.size ≤ q → zA z.A z.H0 q := fun q h => Or.inr (by rw [hH0]; exact h)
  have E : zOK z cJ16_valueOf RJ16 κ 3 55 (some (.object "java/math/BigInteger")) := E
  refine V.eqL (lv' := [(0, vj x)]) rfl ?_
  refine v_lload_n E 0 rfl dJ16_valueOf_0 ?_
  refine v_lconst E (x := 0) rfl dJ16_valueOf_1 ?_
  refine v_lc_ne E (tgt := 10) dJ16_valueOf_2 dJ16_valueOf_3 (by decide) ⟨by omega, by omega⟩ ⟨by omega, by omega⟩ (fun c_2 => ?_) (fun c_2 => ?_)
  · refine v_lload_n E 0 rfl dJ16_valueOf_10 ?_
    refine v_lconst E (x := 0) rfl dJ16_valueOf_11 ?_
    refine v_lc_le E (tgt := 31) dJ16_valueOf_12 dJ16_valueOf_13 (by decide) ⟨by omega, by omega⟩ ⟨by omega, by omega⟩ (fun c_12 => ?_) (fun c_12 => ?_)
    · refine v_lload_n E 0 rfl dJ16_valueOf_31 ?_
      refine v_lconst E (x := 0) rfl dJ16_valueOf_32 ?_
      refine v_lc_ge E (tgt := 53) dJ16_valueOf_33 dJ16_valueOf_34 (by decide) ⟨by omega, by omega⟩ ⟨by omega, by omega⟩ (fun c_33 => ?_) (fun c_33 => ?_)
      · refine V.frame (fun hfz_fr_1 hfk_fr_1 => ?_)
        rw [hH0] at hfz_fr_1 hfk_fr_1
        rw [hA0] at hfk_fr_1
        refine v_new E in_J16 tyJ16 tyJ16_ok q485 q486 q91 (ci := 6) rfl (fs := [vi 0, .null, vi 0, vi 0, vi 0, vi 0]) (fun j hj => by rcases (show j = 0 ∨ j = 1 ∨ j = 2 ∨ j = 3 ∨ j = 4 ∨ j = 5 by omega) with rfl | rfl | rfl | rfl | rfl | rfl <;> rfl) (cb' := 1) (sb' := 2) (by decide) (by decide) dJ16_valueOf_53 (fun q_2 H_3 hq_6 ho_4 hg_5 => ?_)
        refine v_dup E rfl dJ16_valueOf_56 ?_
        refine v_lload_n E 0 rfl dJ16_valueOf_57 ?_
        refine V.frame (fun hfz_fr_7 hfk_fr_7 => ?_)
        rw [hH0] at hfz_fr_7 hfk_fr_7
        rw [hA0] at hfk_fr_7
        refine v_callI E (As := [vj x]) (b := q_2) (g_initL κ H_3 (hC.call (fun q h => h.elim) hfz_fr_7 hfk_fr_7) (by omega) ⟨by omega, by omega⟩ (Nat.le_trans hC.le (by omega)) ho_4) q489 q91 q487 q488 rfl 1 (by decide +kernel) rfl (by decide) (by decide) (cb' := 0) (sb' := 0) (by decide) (by decide) rfl (rest := [.ref q_2]) (Nat.le_of_ble_eq_true rfl) (fun q h => hNew q (by rw [show q = q_2 from h]; omega)) dJ16_valueOf_58 (fun v_8 H_9 hpost_10 hz_11 hk_12 => ?_)
        clear hz_11
        obtain ⟨rfl, hb9⟩ := hpost_10
        refine V.eq (st' := [.ref q_2]) rfl ?_
        refine v_aret E hE rfl (Or.inl ⟨_, rfl⟩) dJ16_valueOf_61 (Or.inr ⟨_, rfl⟩) ?_
        exact ⟨_, rfl, hb9⟩
      · refine v_lload_n E 0 rfl dJ16_valueOf_37 ?_
        refine v_ldc2 E q482 dJ16_valueOf_38 ?_
        refine V.eq (st' := vj (-16) :: _) rfl ?_
        refine v_lc_lt E (tgt := 53) dJ16_valueOf_41 dJ16_valueOf_42 (by decide) ⟨by omega, by omega⟩ ⟨by omega, by omega⟩ (fun c_41 => ?_) (fun c_41 => ?_)
        · refine V.frame (fun hfz_fr_13 hfk_fr_13 => ?_)
          rw [hH0] at hfz_fr_13 hfk_fr_13
          rw [hA0] at hfk_fr_13
          refine v_new E in_J16 tyJ16 tyJ16_ok q485 q486 q91 (ci := 6) rfl (fs := [vi 0, .null, vi 0, vi 0, vi 0, vi 0]) (fun j hj => by rcases (show j = 0 ∨ j = 1 ∨ j = 2 ∨ j = 3 ∨ j = 4 ∨ j = 5 by omega) with rfl | rfl | rfl | rfl | rfl | rfl <;> rfl) (cb' := 1) (sb' := 2) (by decide) (by decide) dJ16_valueOf_53 (fun q_14 H_15 hq_18 ho_16 hg_17 => ?_)
          refine v_dup E rfl dJ16_valueOf_56 ?_
          refine v_lload_n E 0 rfl dJ16_valueOf_57 ?_
          refine V.frame (fun hfz_fr_19 hfk_fr_19 => ?_)
          rw [hH0] at hfz_fr_19 hfk_fr_19
          rw [hA0] at hfk_fr_19
          refine v_callI E (As := [vj x]) (b := q_14) (g_initL κ H_15 (hC.call (fun q h => h.elim) hfz_fr_19 hfk_fr_19) (by omega) ⟨by omega, by omega⟩ (Nat.le_trans hC.le (by omega)) ho_16) q489 q91 q487 q488 rfl 1 (by decide +kernel) rfl (by decide) (by decide) (cb' := 0) (sb' := 0) (by decide) (by decide) rfl (rest := [.ref q_14]) (Nat.le_of_ble_eq_true rfl) (fun q h => hNew q (by rw [show q = q_14 from h]; omega)) dJ16_valueOf_58 (fun v_20 H_21 hpost_22 hz_23 hk_24 => ?_)
          clear hz_23
          obtain ⟨rfl, hb9⟩ := hpost_22
          refine V.eq (st' := [.ref q_14]) rfl ?_
          refine v_aret E hE rfl (Or.inl ⟨_, rfl⟩) dJ16_valueOf_61 (Or.inr ⟨_, rfl⟩) ?_
          exact ⟨_, rfl, hb9⟩
        · refine v_gets E 2 rfl q483 hC.s2 dJ16_valueOf_45 ?_
          refine v_lload_n E 0 rfl dJ16_valueOf_48 ?_
          refine v_lneg E dJ16_valueOf_49 ?_
          refine v_l2i E dJ16_valueOf_50 ?_
          refine v_aaldS E dJ16_valueOf_51 hC.2.2.2.2.2.2.2.2.2.1 (t := 5) (ty := (.object "java/math/BigInteger")) rfl rfl ((-x).toNat) (by omega) (by omega) (by omega) (b := κ.2 (250 + ((-x).toNat))) (if_neg (by omega)) ?_
          refine v_aret E hE rfl (Or.inl ⟨_, rfl⟩) dJ16_valueOf_52 (Or.inr ⟨_, rfl⟩) ?_
          exact ⟨_, rfl, _, _, _, by have := (hC.2.2.2.2.2.2.2.2.2.2.2.1 (-x).toNat (by omega) (by omega)).2; rw [show -(((-x).toNat : Nat) : Int) = x by omega] at this; exact this⟩
    · refine v_lload_n E 0 rfl dJ16_valueOf_16 ?_
      refine v_ldc2 E q479 dJ16_valueOf_17 ?_
      refine V.eq (st' := vj 16 :: _) rfl ?_
      refine v_lc_gt E (tgt := 31) dJ16_valueOf_20 dJ16_valueOf_21 (by decide) ⟨by omega, by omega⟩ ⟨by omega, by omega⟩ (fun c_20 => ?_) (fun c_20 => ?_)
      · refine v_lload_n E 0 rfl dJ16_valueOf_31 ?_
        refine v_lconst E (x := 0) rfl dJ16_valueOf_32 ?_
        refine v_lc_ge E (tgt := 53) dJ16_valueOf_33 dJ16_valueOf_34 (by decide) ⟨by omega, by omega⟩ ⟨by omega, by omega⟩ (fun c_33 => ?_) (fun c_33 => ?_)
        · refine V.frame (fun hfz_fr_25 hfk_fr_25 => ?_)
          rw [hH0] at hfz_fr_25 hfk_fr_25
          rw [hA0] at hfk_fr_25
          refine v_new E in_J16 tyJ16 tyJ16_ok q485 q486 q91 (ci := 6) rfl (fs := [vi 0, .null, vi 0, vi 0, vi 0, vi 0]) (fun j hj => by rcases (show j = 0 ∨ j = 1 ∨ j = 2 ∨ j = 3 ∨ j = 4 ∨ j = 5 by omega) with rfl | rfl | rfl | rfl | rfl | rfl <;> rfl) (cb' := 1) (sb' := 2) (by decide) (by decide) dJ16_valueOf_53 (fun q_26 H_27 hq_30 ho_28 hg_29 => ?_)
          refine v_dup E rfl dJ16_valueOf_56 ?_
          refine v_lload_n E 0 rfl dJ16_valueOf_57 ?_
          refine V.frame (fun hfz_fr_31 hfk_fr_31 => ?_)
          rw [hH0] at hfz_fr_31 hfk_fr_31
          rw [hA0] at hfk_fr_31
          refine v_callI E (As := [vj x]) (b := q_26) (g_initL κ H_27 (hC.call (fun q h => h.elim) hfz_fr_31 hfk_fr_31) (by omega) ⟨by omega, by omega⟩ (Nat.le_trans hC.le (by omega)) ho_28) q489 q91 q487 q488 rfl 1 (by decide +kernel) rfl (by decide) (by decide) (cb' := 0) (sb' := 0) (by decide) (by decide) rfl (rest := [.ref q_26]) (Nat.le_of_ble_eq_true rfl) (fun q h => hNew q (by rw [show q = q_26 from h]; omega)) dJ16_valueOf_58 (fun v_32 H_33 hpost_34 hz_35 hk_36 => ?_)
          clear hz_35
          obtain ⟨rfl, hb9⟩ := hpost_34
          refine V.eq (st' := [.ref q_26]) rfl ?_
          refine v_aret E hE rfl (Or.inl ⟨_, rfl⟩) dJ16_valueOf_61 (Or.inr ⟨_, rfl⟩) ?_
          exact ⟨_, rfl, hb9⟩
        · refine v_lload_n E 0 rfl dJ16_valueOf_37 ?_
          refine v_ldc2 E q482 dJ16_valueOf_38 ?_
          refine V.eq (st' := vj (-16) :: _) rfl ?_
          refine v_lc_lt E (tgt := 53) dJ16_valueOf_41 dJ16_valueOf_42 (by decide) ⟨by omega, by omega⟩ ⟨by omega, by omega⟩ (fun c_41 => ?_) (fun c_41 => ?_)
          · refine V.frame (fun hfz_fr_37 hfk_fr_37 => ?_)
            rw [hH0] at hfz_fr_37 hfk_fr_37
            rw [hA0] at hfk_fr_37
            refine v_new E in_J16 tyJ16 tyJ16_ok q485 q486 q91 (ci := 6) rfl (fs := [vi 0, .null, vi 0, vi 0, vi 0, vi 0]) (fun j hj => by rcases (show j = 0 ∨ j = 1 ∨ j = 2 ∨ j = 3 ∨ j = 4 ∨ j = 5 by omega) with rfl | rfl | rfl | rfl | rfl | rfl <;> rfl) (cb' := 1) (sb' := 2) (by decide) (by decide) dJ16_valueOf_53 (fun q_38 H_39 hq_42 ho_40 hg_41 => ?_)
            refine v_dup E rfl dJ16_valueOf_56 ?_
            refine v_lload_n E 0 rfl dJ16_valueOf_57 ?_
            refine V.frame (fun hfz_fr_43 hfk_fr_43 => ?_)
            rw [hH0] at hfz_fr_43 hfk_fr_43
            rw [hA0] at hfk_fr_43
            refine v_callI E (As := [vj x]) (b := q_38) (g_initL κ H_39 (hC.call (fun q h => h.elim) hfz_fr_43 hfk_fr_43) (by omega) ⟨by omega, by omega⟩ (Nat.le_trans hC.le (by omega)) ho_40) q489 q91 q487 q488 rfl 1 (by decide +kernel) rfl (by decide) (by decide) (cb' := 0) (sb' := 0) (by decide) (by decide) rfl (rest := [.ref q_38]) (Nat.le_of_ble_eq_true rfl) (fun q h => hNew q (by rw [show q = q_38 from h]; omega)) dJ16_valueOf_58 (fun v_44 H_45 hpost_46 hz_47 hk_48 => ?_)
            clear hz_47
            obtain ⟨rfl, hb9⟩ := hpost_46
            refine V.eq (st' := [.ref q_38]) rfl ?_
            refine v_aret E hE rfl (Or.inl ⟨_, rfl⟩) dJ16_valueOf_61 (Or.inr ⟨_, rfl⟩) ?_
            exact ⟨_, rfl, hb9⟩
          · refine v_gets E 2 rfl q483 hC.s2 dJ16_valueOf_45 ?_
            refine v_lload_n E 0 rfl dJ16_valueOf_48 ?_
            refine v_lneg E dJ16_valueOf_49 ?_
            refine v_l2i E dJ16_valueOf_50 ?_
            refine v_aaldS E dJ16_valueOf_51 hC.2.2.2.2.2.2.2.2.2.1 (t := 5) (ty := (.object "java/math/BigInteger")) rfl rfl ((-x).toNat) (by omega) (by omega) (by omega) (b := κ.2 (250 + ((-x).toNat))) (if_neg (by omega)) ?_
            refine v_aret E hE rfl (Or.inl ⟨_, rfl⟩) dJ16_valueOf_52 (Or.inr ⟨_, rfl⟩) ?_
            exact ⟨_, rfl, _, _, _, by have := (hC.2.2.2.2.2.2.2.2.2.2.2.1 (-x).toNat (by omega) (by omega)).2; rw [show -(((-x).toNat : Nat) : Int) = x by omega] at this; exact this⟩
      · refine v_gets E 1 rfl q480 hC.s1 dJ16_valueOf_24 ?_
        refine v_lload_n E 0 rfl dJ16_valueOf_27 ?_
        refine v_l2i E dJ16_valueOf_28 ?_
        refine v_aaldS E dJ16_valueOf_29 hC.2.2.2.2.2.2.2.2.1 (t := 5) (ty := (.object "java/math/BigInteger")) rfl rfl x.toNat (by omega) (by omega) (by omega) (b := κ.2 (200 + x.toNat)) (if_neg (by omega)) ?_
        refine v_aret E hE rfl (Or.inl ⟨_, rfl⟩) dJ16_valueOf_30 (Or.inr ⟨_, rfl⟩) ?_
        exact ⟨_, rfl, _, _, _, by have := (hC.2.2.2.2.2.2.2.2.2.2.2.1 x.toNat (by omega) (by omega)).1; rw [show ((x.toNat : Nat) : Int) = x by omega] at this; exact this⟩
  · refine v_gets E 0 rfl q477 hC.s0 dJ16_valueOf_6 ?_
    refine v_aret E hE rfl (Or.inl ⟨_, rfl⟩) dJ16_valueOf_9 (Or.inr ⟨_, rfl⟩) ?_
    exact ⟨_, rfl, by rw [show x = 0 by omega]; exact ⟨_, _, _, hC.2.2.2.2.2.2.2.2.2.2.1⟩⟩

set_option maxHeartbeats 400000 in
set_option maxRecDepth 100000 in
/-- negate -/
theorem g_negate (κ : zK) (H0 : Heap) {a : Nat} {x : Int} (hC : CO κ H0) (hx : BI κ H0 a x)  : Mt κ yJ16_negate cJ16_negate 1 (some (.object "java/math/BigInteger")) 3 54 1 6 H0 [.ref a] (fun _ => False) (fun v H1 => ∃ q : Nat, v = some (.ref q) ∧ BI κ H1 q (-x)) := by
  refine Mt.of (by decide) (Nat.le_of_ble_eq_true rfl) ?_
  intro z E hE hH0 hA0 hL hini
  have hAll : ∀ q, (fun _ => False) q → zA z.A z.H0 q := fun q h => Or.inl (by rw [hA0]; exact h)
  have hNew : ∀ q, H0.size ≤ q → zA z.A z.H0 q := fun q h => Or.inr (by rw [hH0]; exact h)
  have E : zOK z cJ16_negate RJ16 κ 3 54 (some (.object "java/math/BigInteger")) := E
  refine V.eqL (lv' := [(0, .ref a)]) rfl ?_
  obtain ⟨ma, na, cfa, ⟨c1a, c2a, c3a, hoa⟩, hma, hna, hcfa⟩ := hx
  change Hid _ at hcfa
  have hsa := sgn3 x
  have h48a := hna.1
  refine V.frame (fun hfz_fr_1 hfk_fr_1 => ?_)
  rw [hH0] at hfz_fr_1 hfk_fr_1
  rw [hA0] at hfk_fr_1
  refine v_new E in_J16 tyJ16 tyJ16_ok q485 q486 q91 (ci := 6) rfl (fs := [vi 0, .null, vi 0, vi 0, vi 0, vi 0]) (fun j hj => by rcases (show j = 0 ∨ j = 1 ∨ j = 2 ∨ j = 3 ∨ j = 4 ∨ j = 5 by omega) with rfl | rfl | rfl | rfl | rfl | rfl <;> rfl) (cb' := 0) (sb' := 0) (by decide) (by decide) dJ16_negate_0 (fun q_2 H_3 hq_6 ho_4 hg_5 => ?_)
  have hne_a_q_2 : a ≠ q_2 := by have := hoa.lt; omega
  have hne_ma_q_2 : ma ≠ q_2 := by have := hma.lt; omega
  have hoa_9 := hoa.grow hg_5
  have hma_10 := hma.grow hg_5
  refine v_dup E rfl dJ16_negate_3 ?_
  refine v_aload_n E 0 rfl dJ16_negate_4 ?_
  refine v_getf E in_J16 hoa_9 (ci := 6) rfl 1 (by decide) q496 rfl (v := .ref ma) rfl dJ16_negate_5 ?_
  refine v_aload_n E 0 rfl dJ16_negate_8 ?_
  refine v_getf E in_J16 hoa_9 (ci := 6) rfl 0 (by decide) q494 rfl (v := vi x.sign) rfl dJ16_negate_9 ?_
  refine v_ineg E dJ16_negate_12 ?_
  refine V.frame (fun hfz_fr_11 hfk_fr_11 => ?_)
  rw [hH0] at hfz_fr_11 hfk_fr_11
  rw [hA0] at hfk_fr_11
  refine v_callI E (As := [.ref ma, vi (-x.sign)]) (b := q_2) (g_initM κ H_3 (hC.call (fun q h => h.elim) hfz_fr_11 hfk_fr_11) (by omega) ho_4 hma_10) q632 q91 q630 q631 rfl 2 (by decide +kernel) rfl (by decide) (by decide) (cb' := 0) (sb' := 0) (by decide) (by decide) rfl (rest := [.ref q_2]) (Nat.le_of_ble_eq_true rfl) (fun q h => hNew q (by rw [show q = q_2 from h]; omega)) dJ16_negate_13 (fun v_12 H_13 hpost_14 hz_15 hk_16 => ?_)
  clear hz_15
  obtain ⟨rfl, hq9⟩ := hpost_14
  have hm_17 := hma_10.kept (hk_16 _ hma_10.lt (fun h => hne_ma_q_2 h))
  refine V.eq (st' := [.ref q_2]) rfl ?_
  refine v_aret E hE rfl (Or.inl ⟨_, rfl⟩) dJ16_negate_16 (Or.inr ⟨_, rfl⟩) ?_
  refine ⟨_, rfl, BI.mk (n := na) (m := ma) ?_ (eI.congr hm_17 (fun k hk => by unfold bm; rw [Int.natAbs_neg])) (by rw [Int.natAbs_neg]; exact hna) (Nat.le_trans hC.le (by omega)) hcfa.r⟩
  have e9 : (if na = 0 then 0 else -x.sign) = (-x).sign := by
    rw [Int.sign_neg]; have := ints_pos (by omega) hna; split <;> omega
  rw [← e9]; exact hq9

set_option maxHeartbeats 400000 in
set_option maxRecDepth 100000 in
/-- abs -/
theorem g_abs (κ : zK) (H0 : Heap) {a : Nat} {x : Int} (hC : CO κ H0) (hx : BI κ H0 a x)  : Mt κ yJ16_abs cJ16_abs 1 (some (.object "java/math/BigInteger")) 4 74 1 6 H0 [.ref a] (fun _ => False) (fun v H1 => ∃ q : Nat, v = some (.ref q) ∧ BI κ H1 q (x.natAbs : Int)) := by
  refine Mt.of (by decide) (Nat.le_of_ble_eq_true rfl) ?_
  intro z E hE hH0 hA0 hL hini
  have hAll : ∀ q, (fun _ => False) q → zA z.A z.H0 q := fun q h => Or.inl (by rw [hA0]; exact h)
  have hNew : ∀ q, H0.size ≤ q → zA z.A z.H0 q := fun q h => Or.inr (by rw [hH0]; exact h)
  have E : zOK z cJ16_abs RJ16 κ 4 74 (some (.object "java/math/BigInteger")) := E
  refine V.eqL (lv' := [(0, .ref a)]) rfl ?_
  obtain ⟨ma, na, cfa, ⟨c1a, c2a, c3a, hoa⟩, hma, hna, hcfa⟩ := hx
  change Hid _ at hcfa
  have hsa := sgn3 x
  have h48a := hna.1
  refine v_aload_n E 0 rfl dJ16_abs_0 ?_
  refine v_getf E in_J16 hoa (ci := 6) rfl 0 (by decide) q494 rfl (v := vi x.sign) rfl dJ16_abs_1 ?_
  refine v_if_lt E (tgt := 11) dJ16_abs_4 (by decide) ⟨by omega, by omega⟩ (fun c_4 => ?_) (fun c_4 => ?_)
  · refine v_aload_n E 0 rfl dJ16_abs_11 ?_
    refine v_callV E (As := []) (b := a) (ci := 6) (C := RJ16) (T := TJ16) (N := 6) hoa rfl (g_negate κ H0 hC ⟨ma, na, cfa, ⟨c1a, c2a, c3a, hoa⟩, hma, hna, hcfa⟩) (lw_V q626 q627 q628 q91 q629) 0 (by decide +kernel) rfl (by decide) (by decide) (cb' := 0) (sb' := 0) (by decide) (by decide) rfl (rest := []) (Nat.le_of_ble_eq_true rfl) (fun q h => h.elim) dJ16_abs_12 (fun v_1 H_2 hpost_3 hz_4 hk_5 => ?_)
    clear hz_4
    obtain ⟨q, rfl, hq9⟩ := hpost_3
    refine V.eq (st' := [.ref q]) rfl ?_
    refine v_aret E hE rfl (Or.inl ⟨_, rfl⟩) dJ16_abs_15 (Or.inr ⟨_, rfl⟩) ?_
    exact ⟨_, rfl, by rw [show (x.natAbs : Int) = -x by omega]; exact hq9⟩
  · refine v_aload_n E 0 rfl dJ16_abs_7 ?_
    refine v_goto E (tgt := 15) dJ16_abs_8 (by decide) ?_
    refine v_aret E hE rfl (Or.inl ⟨_, rfl⟩) dJ16_abs_15 (Or.inr ⟨_, rfl⟩) ?_
    exact ⟨_, rfl, by rw [show (x.natAbs : Int) = x by omega]; exact ⟨ma, na, cfa, ⟨c1a, c2a, c3a, hoa⟩, hma, hna, hcfa⟩⟩

set_option maxHeartbeats 400000 in
set_option maxRecDepth 100000 in
/-- compareMagnitude -/
theorem g_cmpM (κ : zK) (H0 : Heap) {a : Nat} {x : Int} {b : Nat} {y : Int} (hx : BI κ H0 a x) (hy : BI κ H0 b y)  : Mt κ yJ16_compareMagnitude cJ16_compareMagnitude 9 (some .int) 0 0 0 0 H0 [.ref a, .ref b] (fun _ => False) (fun v H1 => ∃ o : Int, v = some (vi o) ∧ (o = -1 ∧ (x.natAbs : Int) < (y.natAbs : Int) ∨ o = 0 ∧ (x.natAbs : Int) = (y.natAbs : Int) ∨ o = 1 ∧ (y.natAbs : Int) < (x.natAbs : Int))) := by
  refine Mt.of (by decide) (Nat.le_of_ble_eq_true rfl) ?_
  intro z E hE hH0 hA0 hL hini
  have hAll : ∀ q, (fun _ => False) q → zA z.A z.H0 q := fun q h => Or.inl (by rw [hA0]; exact h)
  have hNew : ∀ q, H0.size ≤ q → zA z.A z.H0 q := fun q h => Or.inr (by rw [hH0]; exact h)
  have E : zOK z cJ16_compareMagnitude RJ16 κ 0 0 (some .int) := E
  refine V.eqL (lv' := [(0, .ref a), (1, .ref b)]) rfl ?_
  obtain ⟨ma, na, cfa, ⟨c1a, c2a, c3a, hoa⟩, hma, hna, hcfa⟩ := hx
  change Hid _ at hcfa
  have hsa := sgn3 x
  have h48a := hna.1
  obtain ⟨mb, nb, cfb, ⟨c1b, c2b, c3b, hob⟩, hmb, hnb, hcfb⟩ := hy
  change Hid _ at hcfb
  have hsb := sgn3 y
  have h48b := hnb.1
  refine v_aload_n E 0 rfl dJ16_compareMagnitude_0 ?_
  refine v_getf E in_J16 hoa (ci := 6) rfl 1 (by decide) q496 rfl (v := .ref ma) rfl dJ16_compareMagnitude_1 ?_
  refine v_astore_n E dJ16_compareMagnitude_4 (zlt hL rfl) (lv' := [(2, .ref ma), (0, .ref a), (1, .ref b)]) rfl ?_
  refine v_aload_n E 0 rfl dJ16_compareMagnitude_5 ?_
  refine v_alen E dJ16_compareMagnitude_6 (t := 0) (ty := .int) hma rfl ?_
  refine v_istore_n E dJ16_compareMagnitude_7 (zlt hL rfl) (lv' := [(3, vi (na : Int)), (2, .ref ma), (0, .ref a), (1, .ref b)]) rfl ?_
  refine v_aload_n E 3 rfl dJ16_compareMagnitude_8 ?_
  refine v_getf E in_J16 hob (ci := 6) rfl 1 (by decide) q496 rfl (v := .ref mb) rfl dJ16_compareMagnitude_9 ?_
  refine v_astore E dJ16_compareMagnitude_12 (zlt hL rfl) (lv' := [(4, .ref mb), (3, vi (na : Int)), (2, .ref ma), (0, .ref a), (1, .ref b)]) rfl ?_
  refine v_aload E 0 rfl dJ16_compareMagnitude_14 ?_
  refine v_alen E dJ16_compareMagnitude_16 (t := 0) (ty := .int) hmb rfl ?_
  refine v_istore E dJ16_compareMagnitude_17 (zlt hL rfl) (lv' := [(5, vi (nb : Int)), (4, .ref mb), (3, vi (na : Int)), (2, .ref ma), (0, .ref a), (1, .ref b)]) rfl ?_
  refine v_iload_n E 2 rfl dJ16_compareMagnitude_19 ?_
  refine v_iload E 0 rfl dJ16_compareMagnitude_20 ?_
  refine v_icmp_ge E (tgt := 27) dJ16_compareMagnitude_22 (by decide) ⟨by omega, by omega⟩ ⟨by omega, by omega⟩ (fun c_22 => ?_) (fun c_22 => ?_)
  · refine v_iload_n E 2 rfl dJ16_compareMagnitude_27 ?_
    refine v_iload E 0 rfl dJ16_compareMagnitude_28 ?_
    refine v_icmp_le E (tgt := 35) dJ16_compareMagnitude_30 (by decide) ⟨by omega, by omega⟩ ⟨by omega, by omega⟩ (fun c_30 => ?_) (fun c_30 => ?_)
    · obtain rfl : na = nb := by omega
      refine v_iconst E dJ16_compareMagnitude_35 ?_
      refine v_istore E dJ16_compareMagnitude_36 (zlt hL rfl) (lv' := [(6, vi 0), (5, vi (na : Int)), (4, .ref mb), (3, vi (na : Int)), (2, .ref ma), (0, .ref a), (1, .ref b)]) rfl ?_
      have loop_38 : ∀ (m_38 : Nat) (H : Heap) (k : Nat), na - k < m_38 → (k ≤ na) → (∀ j, j < k → bm x na j = bm y na j) → hp κ H ma (eI κ na (bm x na)) → hp κ H mb (eI κ na (bm y na)) → V z H 0 0 38 [(6, vi (k : Int)), (3, vi (na : Int)), (4, .ref mb), (2, .ref ma)] [] := by
        intro m_38
        induction m_38 with
        | zero => intro H k hm; exact absurd hm (by omega)
        | succ m_38 ih_38 =>
          intro H k hm_38 hk he hma hmb
          have hdx : 0 ≤ bm x na k ∧ bm x na k < 4294967296 := dg_in _ _
          have hdy : 0 ≤ bm y na k ∧ bm y na k < 4294967296 := dg_in _ _
          refine v_iload E 0 rfl dJ16_compareMagnitude_38 ?_
          refine v_iload_n E 1 rfl dJ16_compareMagnitude_40 ?_
          refine v_icmp_ge E (tgt := 94) dJ16_compareMagnitude_41 (by decide) ⟨by omega, by omega⟩ ⟨by omega, by omega⟩ (fun c_41 => ?_) (fun c_41 => ?_)
          · refine v_iconst E dJ16_compareMagnitude_94 ?_
            refine v_iret E hE dJ16_compareMagnitude_95 ?_
            exact ⟨_, rfl, Or.inr (Or.inl ⟨rfl, cmp_eq (ints_rU (by omega) hna) (ints_rU (by omega) hnb) (fun j hj => bm_eq hk he j (by omega) hj)⟩)⟩
          · refine v_aload_n E 3 rfl dJ16_compareMagnitude_44 ?_
            refine v_iload E 0 rfl dJ16_compareMagnitude_45 ?_
            refine v_iald E dJ16_compareMagnitude_47 hma k rfl (by omega) (by omega) ?_
            refine v_istore E dJ16_compareMagnitude_48 (zlt hL rfl) (lv' := [(7, vi (bm x na k)), (6, vi (k : Int)), (3, vi (na : Int)), (4, .ref mb), (2, .ref ma)]) rfl ?_
            refine v_aload E 3 rfl dJ16_compareMagnitude_50 ?_
            refine v_iload E 1 rfl dJ16_compareMagnitude_52 ?_
            refine v_iald E dJ16_compareMagnitude_54 hmb k rfl (by omega) (by omega) ?_
            refine v_istore E dJ16_compareMagnitude_55 (zlt hL rfl) (lv' := [(8, vi (bm y na k)), (7, vi (bm x na k)), (6, vi (k : Int)), (3, vi (na : Int)), (4, .ref mb), (2, .ref ma)]) rfl ?_
            refine v_iload E 1 rfl dJ16_compareMagnitude_57 ?_
            refine v_iload E 0 rfl dJ16_compareMagnitude_59 ?_
            refine V.top2i (x' := ((bm y na k) + 2147483648) % 4294967296 - 2147483648) (y' := ((bm x na k) + 2147483648) % 4294967296 - 2147483648) (iZ_sg _) (iZ_sg _) ?_
            refine v_icmp_eq E (tgt := 88) dJ16_compareMagnitude_61 (by decide) ⟨by omega, by omega⟩ ⟨by omega, by omega⟩ (fun c_61 => ?_) (fun c_61 => ?_)
            · refine v_iinc E 2 rfl dJ16_compareMagnitude_88 (zlt hL rfl) (lv' := [(6, vi ((k : Int) + 1)), (8, vi (bm y na k)), (7, vi (bm x na k)), (3, vi (na : Int)), (4, .ref mb), (2, .ref ma)]) rfl ?_
              refine v_goto E (tgt := 38) dJ16_compareMagnitude_91 (by decide) ?_
              refine V.sub [0, 3, 4, 5] (lv' := [(6, vi ((k : Int) + 1)), (3, vi (na : Int)), (4, .ref mb), (2, .ref ma)]) rfl ?_
              exact ih_38  H (k + 1) (by omega) (by omega) (lt_s he (by omega)) hma hmb
            · refine v_iload E 1 rfl dJ16_compareMagnitude_64 ?_
              refine v_i2lLow E dJ16_compareMagnitude_66 q528 dJ16_compareMagnitude_67 dJ16_compareMagnitude_70 ?_
              refine v_iload E 0 rfl dJ16_compareMagnitude_71 ?_
              refine v_i2lLow E dJ16_compareMagnitude_73 q528 dJ16_compareMagnitude_74 dJ16_compareMagnitude_77 ?_
              refine v_lc_ge E (tgt := 86) dJ16_compareMagnitude_78 dJ16_compareMagnitude_79 (by decide) ⟨by omega, by omega⟩ ⟨by omega, by omega⟩ (fun c_78 => ?_) (fun c_78 => ?_)
              · refine v_iconst E dJ16_compareMagnitude_86 ?_
                refine v_iret E hE dJ16_compareMagnitude_87 ?_
                have hdd : bm x na k = dg (x.natAbs : Int) (na - 1 - k) := rfl
                have hee : bm y na k = dg (y.natAbs : Int) (na - 1 - k) := rfl
                exact ⟨_, rfl, Or.inr (Or.inr ⟨rfl, cmp_lt (ints_rU (by omega) hnb) (ints_rU (by omega) hna) (k := na - 1 - k) (by omega) (fun j h1 h2 => (bm_eq hk he j (by omega) h2).symm) (by omega)⟩)⟩
              · refine v_iconst E dJ16_compareMagnitude_82 ?_
                refine v_goto E (tgt := 87) dJ16_compareMagnitude_83 (by decide) ?_
                refine v_iret E hE dJ16_compareMagnitude_87 ?_
                have hdd : bm x na k = dg (x.natAbs : Int) (na - 1 - k) := rfl
                have hee : bm y na k = dg (y.natAbs : Int) (na - 1 - k) := rfl
                exact ⟨_, rfl, Or.inl ⟨rfl, cmp_lt (ints_rU (by omega) hna) (ints_rU (by omega) hnb) (k := na - 1 - k) (by omega) (fun j h1 h2 => bm_eq hk he j (by omega) h2) (by omega)⟩⟩
      refine V.sub [0, 3, 2, 4] (lv' := [(6, vi 0), (3, vi (na : Int)), (4, .ref mb), (2, .ref ma)]) rfl ?_
      exact loop_38 (na + 1) H0 0 (by omega) (by omega) (fun j hj => absurd hj (by omega)) hma hmb
    · refine v_iconst E dJ16_compareMagnitude_33 ?_
      refine v_iret E hE dJ16_compareMagnitude_34 ?_
      exact ⟨_, rfl, Or.inr (Or.inr ⟨rfl, ints_lt hnb hna (by omega)⟩)⟩
  · refine v_iconst E dJ16_compareMagnitude_25 ?_
    refine v_iret E hE dJ16_compareMagnitude_26 ?_
    exact ⟨_, rfl, Or.inl ⟨rfl, ints_lt hna hnb (by omega)⟩⟩

set_option maxHeartbeats 400000 in
set_option maxRecDepth 100000 in
/-- compareTo -/
theorem g_cmp (κ : zK) (H0 : Heap) {a : Nat} {x : Int} {b : Nat} {y : Int} (hx : BI κ H0 a x) (hy : BI κ H0 b y)  : Mt κ yJ16_compareTo cJ16_compareTo 2 (some .int) 1 28 0 0 H0 [.ref a, .ref b] (fun _ => False) (fun v H1 => ∃ o : Int, v = some (vi o) ∧ (o = -1 ∧ x < y ∨ o = 0 ∧ x = y ∨ o = 1 ∧ y < x)) := by
  refine Mt.of (by decide) (Nat.le_of_ble_eq_true rfl) ?_
  intro z E hE hH0 hA0 hL hini
  have hAll : ∀ q, (fun _ => False) q → zA z.A z.H0 q := fun q h => Or.inl (by rw [hA0]; exact h)
  have hNew : ∀ q, H0.size ≤ q → zA z.A z.H0 q := fun q h => Or.inr (by rw [hH0]; exact h)
  have E : zOK z cJ16_compareTo RJ16 κ 1 28 (some .int) := E
  refine V.eqL (lv' := [(0, .ref a), (1, .ref b)]) rfl ?_
  obtain ⟨ma, na, cfa, ⟨c1a, c2a, c3a, hoa⟩, hma, hna, hcfa⟩ := hx
  change Hid _ at hcfa
  have hsa := sgn3 x
  have h48a := hna.1
  obtain ⟨mb, nb, cfb, ⟨c1b, c2b, c3b, hob⟩, hmb, hnb, hcfb⟩ := hy
  change Hid _ at hcfb
  have hsb := sgn3 y
  have h48b := hnb.1
  refine v_aload_n E 0 rfl dJ16_compareTo_0 ?_
  refine v_getf E in_J16 hoa (ci := 6) rfl 0 (by decide) q494 rfl (v := vi x.sign) rfl dJ16_compareTo_1 ?_
  refine v_aload_n E 1 rfl dJ16_compareTo_4 ?_
  refine v_getf E in_J16 hob (ci := 6) rfl 0 (by decide) q494 rfl (v := vi y.sign) rfl dJ16_compareTo_5 ?_
  refine v_icmp_ne E (tgt := 58) dJ16_compareTo_8 (by decide) ⟨by omega, by omega⟩ ⟨by omega, by omega⟩ (fun c_8 => ?_) (fun c_8 => ?_)
  · refine v_aload_n E 0 rfl dJ16_compareTo_58 ?_
    refine v_getf E in_J16 hoa (ci := 6) rfl 0 (by decide) q494 rfl (v := vi x.sign) rfl dJ16_compareTo_59 ?_
    refine v_aload_n E 1 rfl dJ16_compareTo_62 ?_
    refine v_getf E in_J16 hob (ci := 6) rfl 0 (by decide) q494 rfl (v := vi y.sign) rfl dJ16_compareTo_63 ?_
    refine v_icmp_le E (tgt := 73) dJ16_compareTo_66 (by decide) ⟨by omega, by omega⟩ ⟨by omega, by omega⟩ (fun c_66 => ?_) (fun c_66 => ?_)
    · refine v_iconst E dJ16_compareTo_73 ?_
      refine v_iret E hE dJ16_compareTo_74 ?_
      exact ⟨_, rfl, Or.inl ⟨rfl, by omega⟩⟩
    · refine v_iconst E dJ16_compareTo_69 ?_
      refine v_goto E (tgt := 74) dJ16_compareTo_70 (by decide) ?_
      refine v_iret E hE dJ16_compareTo_74 ?_
      exact ⟨_, rfl, Or.inr (Or.inr ⟨rfl, by omega⟩)⟩
  · refine v_aload_n E 0 rfl dJ16_compareTo_11 ?_
    refine v_getf E in_J16 hoa (ci := 6) rfl 0 (by decide) q494 rfl (v := vi x.sign) rfl dJ16_compareTo_12 ?_
    by_cases c_15_0 : x.sign = (-1)
    ·
      refine v_lookup E (off := 33) (tgt := 48) ⟨by omega, by omega⟩ dJ16_compareTo_15 (by decide) (by rw [c_15_0]; decide) (by decide) ?_
      refine v_aload_n E 1 rfl dJ16_compareTo_48 ?_
      refine v_aload_n E 0 rfl dJ16_compareTo_49 ?_
      refine v_callV E (As := [.ref a]) (b := b) (ci := 6) (C := RJ16) (T := TJ16) (N := 6) hob rfl (g_cmpM κ H0 (x := y) (y := x) ⟨mb, nb, cfb, ⟨c1b, c2b, c3b, hob⟩, hmb, hnb, hcfb⟩ ⟨ma, na, cfa, ⟨c1a, c2a, c3a, hoa⟩, hma, hna, hcfa⟩) (lw_V q661 q662 q663 q91 q664) 1 (by decide +kernel) rfl (by decide) (by decide) (cb' := 0) (sb' := 0) (by decide) (by decide) rfl (rest := []) (Nat.le_of_ble_eq_true rfl) (fun q h => h.elim) dJ16_compareTo_50 (fun v_1 H_2 hpost_3 hz_4 hk_5 => ?_)
      clear hz_4
      obtain ⟨o, rfl, ho9⟩ := hpost_3
      refine V.eq (st' := [vi o]) rfl ?_
      refine v_goto E (tgt := 57) dJ16_compareTo_53 (by decide) ?_
      refine v_iret E hE dJ16_compareTo_57 ?_
      exact ⟨_, rfl, by omega⟩
    ·
      by_cases c_15_1 : x.sign = 1
      ·
        refine v_lookup E (off := 25) (tgt := 40) ⟨by omega, by omega⟩ dJ16_compareTo_15 (by decide) (by rw [c_15_1]; decide) (by decide) ?_
        refine v_aload_n E 0 rfl dJ16_compareTo_40 ?_
        refine v_aload_n E 1 rfl dJ16_compareTo_41 ?_
        refine v_callV E (As := [.ref b]) (b := a) (ci := 6) (C := RJ16) (T := TJ16) (N := 6) hoa rfl (g_cmpM κ H0 (x := x) (y := y) ⟨ma, na, cfa, ⟨c1a, c2a, c3a, hoa⟩, hma, hna, hcfa⟩ ⟨mb, nb, cfb, ⟨c1b, c2b, c3b, hob⟩, hmb, hnb, hcfb⟩) (lw_V q661 q662 q663 q91 q664) 1 (by decide +kernel) rfl (by decide) (by decide) (cb' := 0) (sb' := 0) (by decide) (by decide) rfl (rest := []) (Nat.le_of_ble_eq_true rfl) (fun q h => h.elim) dJ16_compareTo_42 (fun v_6 H_7 hpost_8 hz_9 hk_10 => ?_)
        clear hz_9
        obtain ⟨o, rfl, ho9⟩ := hpost_8
        refine V.eq (st' := [vi o]) rfl ?_
        refine v_goto E (tgt := 57) dJ16_compareTo_45 (by decide) ?_
        refine v_iret E hE dJ16_compareTo_57 ?_
        exact ⟨_, rfl, by omega⟩
      ·
        refine v_lookup E (off := 41) (tgt := 56) ⟨by omega, by omega⟩ dJ16_compareTo_15 (by decide) (by rw [Op.lookupswitch.offset_cons, if_neg (fun h => c_15_0 h.symm), Op.lookupswitch.offset_cons, if_neg (fun h => c_15_1 h.symm)]; rfl) (by decide) ?_
        refine v_iconst E dJ16_compareTo_56 ?_
        refine v_iret E hE dJ16_compareTo_57 ?_
        exact ⟨_, rfl, Or.inr (Or.inl ⟨rfl, by omega⟩)⟩

set_option maxHeartbeats 400000 in
set_option maxRecDepth 100000 in
/-- equals -/
theorem g_eq (κ : zK) (H0 : Heap) {a : Nat} {x : Int} {b : Nat} {y : Int} (hx : BI κ H0 a x) (hy : BI κ H0 b y)  : Mt κ yJ16_equals cJ16_equals 7 (some .boolean) 0 0 0 0 H0 [.ref a, .ref b] (fun _ => False) (fun v H1 => v = some (vi (if x = y then 1 else 0))) := by
  refine Mt.of (by decide) (Nat.le_of_ble_eq_true rfl) ?_
  intro z E hE hH0 hA0 hL hini
  have hAll : ∀ q, (fun _ => False) q → zA z.A z.H0 q := fun q h => Or.inl (by rw [hA0]; exact h)
  have hNew : ∀ q, H0.size ≤ q → zA z.A z.H0 q := fun q h => Or.inr (by rw [hH0]; exact h)
  have E : zOK z cJ16_equals RJ16 κ 0 0 (some .boolean) := E
  refine V.eqL (lv' := [(0, .ref a), (1, .ref b)]) rfl ?_
  have hx0 := hx
  have hy0 := hy
  obtain ⟨ma, na, cfa, ⟨c1a, c2a, c3a, hoa⟩, hma, hna, hcfa⟩ := hx
  change Hid _ at hcfa
  have hsa := sgn3 x
  have h48a := hna.1
  obtain ⟨mb, nb, cfb, ⟨c1b, c2b, c3b, hob⟩, hmb, hnb, hcfb⟩ := hy
  change Hid _ at hcfb
  have hsb := sgn3 y
  have h48b := hnb.1
  refine v_aload_n E 1 rfl dJ16_equals_0 ?_
  refine v_aload_n E 0 rfl dJ16_equals_1 ?_
  refine v_acmp_ne E (tgt := 7) dJ16_equals_2 (by decide) (fun c_2 => ?_) (fun c_2 => ?_)
  · refine v_aload_n E 1 rfl dJ16_equals_7 ?_
    refine v_instS E hob (q := (RJ16, TJ16, 6)) rfl q485 dJ16_equals_8 ?_
    refine v_if_eq E (tgt := 22) dJ16_equals_11 (by decide) ⟨by omega, by omega⟩ (fun c_11 => absurd c_11 (by omega)) (fun c_11 => ?_)
    refine v_aload_n E 1 rfl dJ16_equals_14 ?_
    refine v_castS E hob (q := (RJ16, TJ16, 6)) rfl q485 dJ16_equals_15 ?_
    refine v_astore_n E dJ16_equals_18 (zlt hL rfl) (lv' := [(2, .ref b), (0, .ref a), (1, .ref b)]) rfl ?_
    refine v_goto E (tgt := 24) dJ16_equals_19 (by decide) ?_
    refine v_aload_n E 0 rfl dJ16_equals_24 ?_
    refine v_getf E in_J16 hob (ci := 6) rfl 0 (by decide) q494 rfl (v := vi y.sign) rfl dJ16_equals_25 ?_
    refine v_aload_n E 1 rfl dJ16_equals_28 ?_
    refine v_getf E in_J16 hoa (ci := 6) rfl 0 (by decide) q494 rfl (v := vi x.sign) rfl dJ16_equals_29 ?_
    refine v_icmp_eq E (tgt := 37) dJ16_equals_32 (by decide) ⟨by omega, by omega⟩ ⟨by omega, by omega⟩ (fun c_32 => ?_) (fun c_32 => ?_)
    · refine v_aload_n E 1 rfl dJ16_equals_37 ?_
      refine v_getf E in_J16 hoa (ci := 6) rfl 1 (by decide) q496 rfl (v := .ref ma) rfl dJ16_equals_38 ?_
      refine v_astore_n E dJ16_equals_41 (zlt hL rfl) (lv' := [(3, .ref ma), (2, .ref b), (0, .ref a), (1, .ref b)]) rfl ?_
      refine v_aload_n E 0 rfl dJ16_equals_42 ?_
      refine v_alen E dJ16_equals_43 (t := 0) (ty := .int) hma rfl ?_
      refine v_istore E dJ16_equals_44 (zlt hL rfl) (lv' := [(4, vi (na : Int)), (3, .ref ma), (2, .ref b), (0, .ref a), (1, .ref b)]) rfl ?_
      refine v_aload_n E 2 rfl dJ16_equals_46 ?_
      refine v_getf E in_J16 hob (ci := 6) rfl 1 (by decide) q496 rfl (v := .ref mb) rfl dJ16_equals_47 ?_
      refine v_astore E dJ16_equals_50 (zlt hL rfl) (lv' := [(5, .ref mb), (4, vi (na : Int)), (3, .ref ma), (2, .ref b), (0, .ref a), (1, .ref b)]) rfl ?_
      refine v_iload E 1 rfl dJ16_equals_52 ?_
      refine v_aload E 0 rfl dJ16_equals_54 ?_
      refine v_alen E dJ16_equals_56 (t := 0) (ty := .int) hmb rfl ?_
      refine v_icmp_eq E (tgt := 62) dJ16_equals_57 (by decide) ⟨by omega, by omega⟩ ⟨by omega, by omega⟩ (fun c_57 => ?_) (fun c_57 => ?_)
      · obtain rfl : na = nb := by omega
        refine v_iconst E dJ16_equals_62 ?_
        refine v_istore E dJ16_equals_63 (zlt hL rfl) (lv' := [(6, vi 0), (5, .ref mb), (4, vi (na : Int)), (3, .ref ma), (2, .ref b), (0, .ref a), (1, .ref b)]) rfl ?_
        have loop_65 : ∀ (m_65 : Nat) (H : Heap) (k : Nat), na - k < m_65 → (k ≤ na) → (∀ j, j < k → bm x na j = bm y na j) → hp κ H ma (eI κ na (bm x na)) → hp κ H mb (eI κ na (bm y na)) → V z H 0 0 65 [(6, vi (k : Int)), (4, vi (na : Int)), (5, .ref mb), (3, .ref ma)] [] := by
          intro m_65
          induction m_65 with
          | zero => intro H k hm; exact absurd hm (by omega)
          | succ m_65 ih_65 =>
            intro H k hm_65 hk he hma hmb
            have hdx : 0 ≤ bm x na k ∧ bm x na k < 4294967296 := dg_in _ _
            have hdy : 0 ≤ bm y na k ∧ bm y na k < 4294967296 := dg_in _ _
            refine v_iload E 0 rfl dJ16_equals_65 ?_
            refine v_iload E 1 rfl dJ16_equals_67 ?_
            refine v_icmp_ge E (tgt := 92) dJ16_equals_69 (by decide) ⟨by omega, by omega⟩ ⟨by omega, by omega⟩ (fun c_69 => ?_) (fun c_69 => ?_)
            · refine v_iconst E dJ16_equals_92 ?_
              refine v_zret E hE dJ16_equals_93 rfl ?_
              have e9 := cmp_eq (ints_rU (by omega) hna) (ints_rU (by omega) hnb) (fun j hj => bm_eq hk he j (by omega) hj)
              rw [if_pos (by omega)]
            · refine v_aload E 2 rfl dJ16_equals_72 ?_
              refine v_iload E 0 rfl dJ16_equals_74 ?_
              refine v_iald E dJ16_equals_76 hmb k rfl (by omega) (by omega) ?_
              refine v_aload_n E 3 rfl dJ16_equals_77 ?_
              refine v_iload E 0 rfl dJ16_equals_78 ?_
              refine v_iald E dJ16_equals_80 hma k rfl (by omega) (by omega) ?_
              refine V.top2i (x' := ((bm x na k) + 2147483648) % 4294967296 - 2147483648) (y' := ((bm y na k) + 2147483648) % 4294967296 - 2147483648) (iZ_sg _) (iZ_sg _) ?_
              refine v_icmp_eq E (tgt := 86) dJ16_equals_81 (by decide) ⟨by omega, by omega⟩ ⟨by omega, by omega⟩ (fun c_81 => ?_) (fun c_81 => ?_)
              · refine v_iinc E 0 rfl dJ16_equals_86 (zlt hL rfl) (lv' := [(6, vi ((k : Int) + 1)), (4, vi (na : Int)), (5, .ref mb), (3, .ref ma)]) rfl ?_
                refine v_goto E (tgt := 65) dJ16_equals_89 (by decide) ?_
                exact ih_65  H (k + 1) (by omega) (by omega) (lt_s he (by omega)) hma hmb
              · refine v_iconst E dJ16_equals_84 ?_
                refine v_zret E hE dJ16_equals_85 rfl ?_
                rw [if_neg (fun e => by subst e; omega)]
        refine V.sub [0, 2, 1, 3] (lv' := [(6, vi 0), (4, vi (na : Int)), (5, .ref mb), (3, .ref ma)]) rfl ?_
        exact loop_65 (na + 1) H0 0 (by omega) (by omega) (fun j hj => absurd hj (by omega)) hma hmb
      · refine v_iconst E dJ16_equals_60 ?_
        refine v_zret E hE dJ16_equals_61 rfl ?_
        rw [if_neg (fun e => by subst e; have := ints_lt hna hnb; have := ints_lt hnb hna; omega)]
    · refine v_iconst E dJ16_equals_35 ?_
      refine v_zret E hE dJ16_equals_36 rfl ?_
      rw [if_neg (fun e => by rw [e] at c_32; exact absurd rfl c_32)]
  · refine v_iconst E dJ16_equals_5 ?_
    refine v_zret E hE dJ16_equals_6 rfl ?_
    rw [if_pos (by rw [c_2] at hy0; exact hx0.inj hy0)]
