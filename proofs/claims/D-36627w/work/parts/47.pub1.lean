set_option maxHeartbeats 400000 in
set_option maxRecDepth 100000 in
/-- is it a slot -/
theorem m_isSlot (κ : zK) (H0 : Heap) {x : Int} (hx : rI x) : Mt κ yX4_isSlot cX4_isSlot 1 (some .boolean) 0 0 0 0 H0 [vi x] (fun _ => False) (fun v H1 => v = some (vi (if 0 ≤ x ∧ x < 5 then 1 else 0))) := by
  refine Mt.of (by decide) (Nat.le_of_ble_eq_true rfl) ?_
  intro z E hE hH0 hA0 hL hini
  have hAll : ∀ q, (fun _ => False) q → zA z.A z.H0 q := fun q h => Or.inl (by rw [hA0]; exact h)
  have hNew : ∀ q, H0.size ≤ q → zA z.A z.H0 q := fun q h => Or.inr (by rw [hH0]; exact h)
  have E : zOK z cX4_isSlot RX4 κ 0 0 (some .boolean) := E
  refine V.eqL (lv' := [(0, vi x)]) rfl ?_
  refine v_iload_n E 0 rfl dX4_isSlot_0 ?_
  refine v_if_lt E (tgt := 13) dX4_isSlot_1 (by decide) hx (fun c_1 => ?_) (fun c_1 => ?_)
  · refine v_iconst E dX4_isSlot_13 ?_
    refine v_zret E hE dX4_isSlot_14 rfl ?_
    rw [if_neg (by omega)]
  · refine v_iload_n E 0 rfl dX4_isSlot_4 ?_
    refine v_iconst E dX4_isSlot_5 ?_
    refine v_icmp_ge E (tgt := 13) dX4_isSlot_6 (by decide) hx ⟨by omega, by omega⟩ (fun c_6 => ?_) (fun c_6 => ?_)
    · refine v_iconst E dX4_isSlot_13 ?_
      refine v_zret E hE dX4_isSlot_14 rfl ?_
      rw [if_neg (by omega)]
    · refine v_iconst E dX4_isSlot_9 ?_
      refine v_goto E (tgt := 14) dX4_isSlot_10 (by decide) ?_
      refine v_zret E hE dX4_isSlot_14 rfl ?_
      rw [if_pos (by omega)]

set_option maxHeartbeats 400000 in
set_option maxRecDepth 100000 in
/-- is it within -/
theorem m_in (κ : zK) (H0 : Heap) {x y z0 : Int} (hx : rI x) (hy : rI y) (hz : rI z0) : Mt κ yX4_in cX4_in 3 (some .boolean) 0 0 0 0 H0 [vi x, vi y, vi z0] (fun _ => False) (fun v H1 => v = some (vi (if y ≤ x ∧ x ≤ z0 then 1 else 0))) := by
  refine Mt.of (by decide) (Nat.le_of_ble_eq_true rfl) ?_
  intro z E hE hH0 hA0 hL hini
  have hAll : ∀ q, (fun _ => False) q → zA z.A z.H0 q := fun q h => Or.inl (by rw [hA0]; exact h)
  have hNew : ∀ q, H0.size ≤ q → zA z.A z.H0 q := fun q h => Or.inr (by rw [hH0]; exact h)
  have E : zOK z cX4_in RX4 κ 0 0 (some .boolean) := E
  refine V.eqL (lv' := [(0, vi x), (1, vi y), (2, vi z0)]) rfl ?_
  refine v_iload_n E 0 rfl dX4_in_0 ?_
  refine v_iload_n E 1 rfl dX4_in_1 ?_
  refine v_icmp_lt E (tgt := 14) dX4_in_2 (by decide) hx hy (fun c_2 => ?_) (fun c_2 => ?_)
  · refine v_iconst E dX4_in_14 ?_
    refine v_zret E hE dX4_in_15 rfl ?_
    rw [if_neg (by omega)]
  · refine v_iload_n E 0 rfl dX4_in_5 ?_
    refine v_iload_n E 2 rfl dX4_in_6 ?_
    refine v_icmp_gt E (tgt := 14) dX4_in_7 (by decide) hx hz (fun c_7 => ?_) (fun c_7 => ?_)
    · refine v_iconst E dX4_in_14 ?_
      refine v_zret E hE dX4_in_15 rfl ?_
      rw [if_neg (by omega)]
    · refine v_iconst E dX4_in_10 ?_
      refine v_goto E (tgt := 15) dX4_in_11 (by decide) ?_
      refine v_zret E hE dX4_in_15 rfl ?_
      rw [if_pos (by omega)]

set_option maxHeartbeats 400000 in
set_option maxRecDepth 100000 in
/-- a refusal -/
theorem m_fails (κ : zK) (H0 : Heap) {ad : Nat → Nat} {P : Nat → Nat → Int} {f g mk : Nat → Int} {S : Nat → Nat → Int} {K : Nat → Int} {thr len many : Int} {a1 a2 a3 a4 : Nat} {k : Int} (hI : Inj ad) (hB : MB κ ad P f g mk S K thr len many a1 a2 a3 a4 H0) : Mt κ yX4_fails cX4_fails 2 (some .int) 0 0 0 0 H0 [.ref (ad 3002), vi k] (AH ad) (fun v H1 => v = some (vi 0) ∧ MB κ ad P f g mk S K k len many a1 a2 a3 a4 H1) := by
  refine Mt.of (by decide) (Nat.le_of_ble_eq_true rfl) ?_
  intro z E hE hH0 hA0 hL hini
  have hAll : ∀ q, (AH ad) q → zA z.A z.H0 q := fun q h => Or.inl (by rw [hA0]; exact h)
  have hNew : ∀ q, H0.size ≤ q → zA z.A z.H0 q := fun q h => Or.inr (by rw [hH0]; exact h)
  have E : zOK z cX4_fails RX4 κ 0 0 (some .int) := E
  refine V.eqL (lv' := [(0, .ref (ad 3002)), (1, vi k)]) rfl ?_
  refine v_aload_n E 0 rfl dX4_fails_0 ?_
  refine v_iload_n E 1 rfl dX4_fails_1 ?_
  refine v_putf E in_X4 tyX4 tyX4_ok nmX4 hB.ho (ci := 3) rfl 0 (Nat.le_of_ble_eq_true rfl) q1760 rfl rfl rfl rfl (Nat.le_of_ble_eq_true rfl) (hAll _ (AH.of (by unfold uA; omega))) dX4_fails_2 (fun H_3 hBho_1 hs_2 => ?_)
  have hBho_1 : hp κ H_3 (ad 3002) (.inr (3, MF ad k len many a1 a2 a3 a4)) := hBho_1
  have hB_4 : MB κ ad P f g mk S K k len many a1 a2 a3 a4 H_3 := hB.obj hI hs_2 hBho_1
  refine v_iconst E dX4_fails_5 ?_
  refine v_iret E hE dX4_fails_6 ?_
  exact ⟨rfl, hB_4⟩

set_option maxHeartbeats 400000 in
set_option maxRecDepth 100000 in
/-- an answer -/
theorem m_tells (κ : zK) (H0 : Heap) {ad : Nat → Nat} {P : Nat → Nat → Int} {f g mk : Nat → Int} {S : Nat → Nat → Int} {K : Nat → Int} {thr len many : Int} {a1 a2 a3 a4 : Nat} {x : Int} (hI : Inj ad) (hB : MB κ ad P f g mk S K thr len many a1 a2 a3 a4 H0) : Mt κ yX4_tells cX4_tells 2 (some .int) 0 0 0 0 H0 [.ref (ad 3002), vi x] (AH ad) (fun v H1 => v = some (vi x) ∧ MB κ ad P f g mk S K 0 len many a1 a2 a3 a4 H1) := by
  refine Mt.of (by decide) (Nat.le_of_ble_eq_true rfl) ?_
  intro z E hE hH0 hA0 hL hini
  have hAll : ∀ q, (AH ad) q → zA z.A z.H0 q := fun q h => Or.inl (by rw [hA0]; exact h)
  have hNew : ∀ q, H0.size ≤ q → zA z.A z.H0 q := fun q h => Or.inr (by rw [hH0]; exact h)
  have E : zOK z cX4_tells RX4 κ 0 0 (some .int) := E
  refine V.eqL (lv' := [(0, .ref (ad 3002)), (1, vi x)]) rfl ?_
  refine v_aload_n E 0 rfl dX4_tells_0 ?_
  refine v_iconst E dX4_tells_1 ?_
  refine v_putf E in_X4 tyX4 tyX4_ok nmX4 hB.ho (ci := 3) rfl 0 (Nat.le_of_ble_eq_true rfl) q1760 rfl rfl rfl rfl (Nat.le_of_ble_eq_true rfl) (hAll _ (AH.of (by unfold uA; omega))) dX4_tells_2 (fun H_3 hBho_1 hs_2 => ?_)
  have hBho_1 : hp κ H_3 (ad 3002) (.inr (3, MF ad 0 len many a1 a2 a3 a4)) := hBho_1
  have hB_4 : MB κ ad P f g mk S K 0 len many a1 a2 a3 a4 H_3 := hB.obj hI hs_2 hBho_1
  refine v_iload_n E 1 rfl dX4_tells_5 ?_
  refine v_iret E hE dX4_tells_6 ?_
  exact ⟨rfl, hB_4⟩

set_option maxHeartbeats 400000 in
set_option maxRecDepth 100000 in
/-- the degree of ints -/
theorem m_deg (κ : zK) (H0 : Heap) {c : Nat} {p : Nat → Int} (hr : ∀ k, k < 7 → rI (p k)) (hc : hp κ H0 c (eI κ 7 p)) : Mt κ yX4_degree cX4_degree 2 (some .int) 0 0 0 0 H0 [.ref c] (fun _ => False) (fun v H1 => v = some (vi (pdeg p))) := by
  refine Mt.of (by decide) (Nat.le_of_ble_eq_true rfl) ?_
  intro z E hE hH0 hA0 hL hini
  have hAll : ∀ q, (fun _ => False) q → zA z.A z.H0 q := fun q h => Or.inl (by rw [hA0]; exact h)
  have hNew : ∀ q, H0.size ≤ q → zA z.A z.H0 q := fun q h => Or.inr (by rw [hH0]; exact h)
  have E : zOK z cX4_degree RX4 κ 0 0 (some .int) := E
  refine V.eqL (lv' := [(0, .ref c)]) rfl ?_
  refine v_bipush E ⟨by decide, by decide⟩ dX4_degree_0 ?_
  refine v_istore_n E dX4_degree_2 (zlt hL rfl) (lv' := [(1, vi 6), (0, .ref c)]) rfl ?_
  have loop_3 : ∀ (m_3 : Nat) (H : Heap) (n : Nat), n < m_3 → (n ≤ 7) → (pdeg p = degU p n) → hp κ H c (eI κ 7 p) → V z H 0 0 3 [(1, vi ((n : Int) - 1)), (0, .ref c)] [] := by
    intro m_3
    induction m_3 with
    | zero => intro H n hm; exact absurd hm (by omega)
    | succ m_3 ih_3 =>
      intro H n hm_3 hn hd hc
      refine v_iload_n E 0 rfl dX4_degree_3 ?_
      refine v_if_lt E (tgt := 19) dX4_degree_4 (by decide) ⟨by omega, by omega⟩ (fun c_4 => ?_) (fun c_4 => ?_)
      · refine v_iload_n E 0 rfl dX4_degree_19 ?_
        refine v_iret E hE dX4_degree_20 ?_
        have hn0 : n = 0 := by omega
        rw [hd, hn0]; rfl
      · obtain ⟨m, hnm⟩ : ∃ m, n = m + 1 := ⟨n - 1, by omega⟩
        refine V.eqL (lv' := [(1, vi (m : Int)), (0, .ref c)]) (by rw [show (n : Int) - 1 = (m : Int) by omega]) ?_
        refine v_aload_n E 1 rfl dX4_degree_7 ?_
        refine v_iload_n E 0 rfl dX4_degree_8 ?_
        refine v_iald E dX4_degree_9 hc m rfl (by omega) (by omega) ?_
        refine v_if_ne E (tgt := 19) dX4_degree_10 (by decide) (hr m (by omega)) (fun c_10 => ?_) (fun c_10 => ?_)
        · refine v_iload_n E 0 rfl dX4_degree_19 ?_
          refine v_iret E hE dX4_degree_20 ?_
          rw [hd, hnm, degU_t c_10]
        · refine v_iinc E 0 rfl dX4_degree_13 (zlt hL rfl) (lv' := [(1, vi ((m : Int) + (-1))), (0, .ref c)]) rfl ?_
          refine v_goto E (tgt := 3) dX4_degree_16 (by decide) ?_
          exact V.eqL (by rw [show ((m : Int) : Int) + (-1) = (m : Int) - 1 by omega]) (ih_3  H m (by omega) (by omega) (hd.trans (by rw [hnm, degU_s c_10])) hc)
  exact V.eqL (by rw [show (6 : Int) = ((7 : Nat) : Int) - 1 by decide]) (loop_3 (7 + 1) H0 7 (by omega) (by omega) rfl hc)

set_option maxHeartbeats 400000 in
set_option maxRecDepth 100000 in
/-- nothing made -/
theorem m_clear (κ : zK) (H0 : Heap) {ad : Nat → Nat} {P : Nat → Nat → Int} {f g mk : Nat → Int} {S : Nat → Nat → Int} {K : Nat → Int} {thr len many : Int} {a1 a2 a3 a4 : Nat} (hI : Inj ad) (hB : MB κ ad P f g mk S K thr len many a1 a2 a3 a4 H0) : Mt κ yX4_clear cX4_clear 2 (none) 0 0 0 0 H0 [.ref (ad 3002)] (AH ad) (fun v H1 => v = none ∧ ∃ r : Nat → Int, (∀ k, k < 14 → r k = 0) ∧ MB κ ad P f g r S K thr len many a1 a2 a3 a4 H1) := by
  refine Mt.of (by decide) (Nat.le_of_ble_eq_true rfl) ?_
  intro z E hE hH0 hA0 hL hini
  have hAll : ∀ q, (AH ad) q → zA z.A z.H0 q := fun q h => Or.inl (by rw [hA0]; exact h)
  have hNew : ∀ q, H0.size ≤ q → zA z.A z.H0 q := fun q h => Or.inr (by rw [hH0]; exact h)
  have E : zOK z cX4_clear RX4 κ 0 0 (none) := E
  refine V.eqL (lv' := [(0, .ref (ad 3002))]) rfl ?_
  refine v_iconst E dX4_clear_0 ?_
  refine v_istore_n E dX4_clear_1 (zlt hL rfl) (lv' := [(1, vi 0), (0, .ref (ad 3002))]) rfl ?_
  have loop_2 : ∀ (m_2 : Nat) (H : Heap) (k : Nat) (r : Nat → Int), 14 - k < m_2 → (k ≤ 14) → (∀ m, m < k → r m = 0) → MB κ ad P f g r S K thr len many a1 a2 a3 a4 H → V z H 0 0 2 [(1, vi (k : Int)), (0, .ref (ad 3002))] [] := by
    intro m_2
    induction m_2 with
    | zero => intro H k r hm; exact absurd hm (by omega)
    | succ m_2 ih_2 =>
      intro H k r hm_2 hk hr hB
      refine v_iload_n E 0 rfl dX4_clear_2 ?_
      refine v_aload_n E 1 rfl dX4_clear_3 ?_
      refine v_getf E in_X4 hB.ho (ci := 3) rfl 16 (by decide) q1776 rfl (v := .ref (ad 3006)) rfl dX4_clear_4 ?_
      refine v_alen E dX4_clear_7 (t := 1) (ty := .long) hB.ma rfl ?_
      refine V.eq (st' := vi 14 :: _) rfl ?_
      refine v_icmp_ge E (tgt := 24) dX4_clear_8 (by decide) ⟨by omega, by omega⟩ ⟨by omega, by omega⟩ (fun c_8 => ?_) (fun c_8 => ?_)
      · refine v_vret E hE dX4_clear_24 ?_
        exact ⟨rfl, r, fun k hk => hr k (by omega), hB⟩
      · refine v_aload_n E 1 rfl dX4_clear_11 ?_
        refine v_getf E in_X4 hB.ho (ci := 3) rfl 16 (by decide) q1776 rfl (v := .ref (ad 3006)) rfl dX4_clear_12 ?_
        refine v_iload_n E 0 rfl dX4_clear_15 ?_
        refine v_lconst E (x := 0) rfl dX4_clear_16 ?_
        refine v_last E dX4_clear_17 hB.ma k rfl (by omega) (by omega) (hAll _ (AH.of (by unfold uA; omega))) (fun H_3 hBma_1 hs_2 => ?_)
        have hB_4 : MB κ ad P f g (va_up r k 0) S K thr len many a1 a2 a3 a4 H_3 := hB.made hI hs_2 hBma_1
        refine v_iinc E 0 rfl dX4_clear_18 (zlt hL rfl) (lv' := [(1, vi ((k : Int) + 1)), (0, .ref (ad 3002))]) rfl ?_
        refine v_goto E (tgt := 2) dX4_clear_21 (by decide) ?_
        exact ih_2  H_3 (k + 1) (va_up r k 0) (by omega) (by omega) (fun m hm => by unfold va_up; split; rfl; exact hr m (by omega)) hB_4
  exact loop_2 (14 + 1) H0 0 mk (by omega) (by omega) (fun m hm => by omega) hB
