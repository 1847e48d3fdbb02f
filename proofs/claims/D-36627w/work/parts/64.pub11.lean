set_option maxHeartbeats 400000 in
set_option maxRecDepth 100000 in
/-- isTrue -/
theorem m_opTrue (κ : zK) (H0 : Heap) {ad : Nat → Nat} {P : Nat → Nat → Int} {f g mk : Nat → Int} {S : Nat → Nat → Int} {K : Nat → Int} {thr len many : Int} {a1 a2 a3 a4 : Nat} {a : Int} (ha : rI a) (hI : Inj ad) (hB : MB κ ad P f g mk S K thr len many a1 a2 a3 a4 H0) : Mt κ yX4_isTrue cX4_isTrue 2 (some .boolean) 1 21 0 0 H0 [.ref (ad 3002), vi a] (AH ad) (fun v H1 => v = some (vi (opTrue S a).1) ∧ ∃ (P1 : Nat → Nat → Int) (f1 g1 mk1 : Nat → Int) (len1 : Int), eq7 (P1 7) (P 7) ∧ MB κ ad P1 f1 g1 mk1 ((opTrue S a).2.2) K ((opTrue S a).2.1) len1 many a1 a2 a3 a4 H1) := by
  refine Mt.of (by decide) (Nat.le_of_ble_eq_true rfl) ?_
  intro z E hE hH0 hA0 hL hini
  have hAll : ∀ q, (AH ad) q → zA z.A z.H0 q := fun q h => Or.inl (by rw [hA0]; exact h)
  have hNew : ∀ q, H0.size ≤ q → zA z.A z.H0 q := fun q h => Or.inr (by rw [hH0]; exact h)
  have E : zOK z cX4_isTrue RX4 κ 1 21 (some .boolean) := E
  refine V.eqL (lv' := [(0, .ref (ad 3002)), (1, vi a)]) rfl ?_
  refine v_iload_n E 1 rfl dX4_isTrue_0 ?_
  refine v_callS E (As := [vi a]) (m_isSlot κ H0 (by first | assumption | decide | exact ⟨by omega, by omega⟩)) (lw_S q1851 q1852 q82 q1853) 1 (by decide +kernel) rfl (by decide) (by decide) (cb' := 0) (sb' := 0) (by decide) (by decide) rfl (rest := []) (Nat.le_of_ble_eq_true rfl) (fun q h => h.elim) dX4_isTrue_1 (fun v_2 H_3 hpost_4 hz_5 hk_6 => ?_)
  clear hz_5
  obtain rfl := hpost_4
  obtain ⟨b_1, hb_7, hb_7e⟩ : ∃ b9 : Int, (b9 = 0 ∧ ¬ (0 ≤ a ∧ a < 5) ∨ b9 = 1 ∧ (0 ≤ a ∧ a < 5)) ∧ (if 0 ≤ a ∧ a < 5 then 1 else 0 : Int) = b9 := by
    by_cases c : 0 ≤ a ∧ a < 5
    · exact ⟨1, Or.inr ⟨rfl, c⟩, if_pos c⟩
    · exact ⟨0, Or.inl ⟨rfl, c⟩, if_neg c⟩
  have hB_8 : MB κ ad P f g mk S K thr len many a1 a2 a3 a4 H_3 := hB.nil hk_6
  refine V.eq (st' := [vi b_1]) (by rw [hb_7e]; rfl) ?_
  refine v_if_eq E (tgt := 24) dX4_isTrue_4 (by decide) ⟨by omega, by omega⟩ (fun c_4 => ?_) (fun c_4 => ?_)
  · refine v_aload_n E 0 rfl dX4_isTrue_24 ?_
    refine v_iconst E dX4_isTrue_25 ?_
    refine v_callV E (As := [vi 1]) (b := (ad 3002)) (ci := 3) (C := RX4) (T := TX4) (N := 27) hB_8.ho rfl (m_fails κ H_3 hI hB_8) (lw_V q1857 q1859 qs47 q82 q1860) 1 (by decide +kernel) rfl (by decide) (by decide) (cb' := 0) (sb' := 0) (by decide) (by decide) rfl (rest := []) (Nat.le_of_ble_eq_true rfl) hAll dX4_isTrue_26 (fun v_9 H_10 hpost_11 hz_12 hk_13 => ?_)
    clear hz_12
    obtain ⟨rfl, hB_14⟩ := hpost_11
    refine V.eq (st' := [vi 0]) rfl ?_
    refine v_iconst E dX4_isTrue_29 ?_
    refine v_icmp_ne E (tgt := 37) dX4_isTrue_30 (by decide) ⟨by omega, by omega⟩ ⟨by omega, by omega⟩ (fun c_30 => ?_) (fun c_30 => absurd c_30 (by decide))
    refine v_iconst E dX4_isTrue_37 ?_
    refine v_zret E hE dX4_isTrue_38 rfl ?_
    have hR : opTrue S a = (0, 1, S) := by unfold opTrue; rw [if_neg (by omega)]
    rw [hR]; exact ⟨rfl, P, _, _, _, _, eq7.rfl', hB_14⟩
  · refine v_aload_n E 0 rfl dX4_isTrue_7 ?_
    refine v_iconst E dX4_isTrue_8 ?_
    refine v_callV E (As := [vi 1]) (b := (ad 3002)) (ci := 3) (C := RX4) (T := TX4) (N := 27) hB_8.ho rfl (m_tells κ H_3 hI hB_8) (lw_V q1864 q1866 qs48 q82 q1867) 1 (by decide +kernel) rfl (by decide) (by decide) (cb' := 0) (sb' := 0) (by decide) (by decide) rfl (rest := []) (Nat.le_of_ble_eq_true rfl) hAll dX4_isTrue_9 (fun v_15 H_16 hpost_17 hz_18 hk_19 => ?_)
    clear hz_18
    obtain ⟨rfl, hB_20⟩ := hpost_17
    refine V.eq (st' := [vi 1]) rfl ?_
    refine v_iconst E dX4_isTrue_12 ?_
    refine v_icmp_ne E (tgt := 20) dX4_isTrue_13 (by decide) ⟨by omega, by omega⟩ ⟨by omega, by omega⟩ (fun c_13 => absurd c_13 (by decide)) (fun c_13 => ?_)
    refine v_iconst E dX4_isTrue_16 ?_
    refine v_goto E (tgt := 38) dX4_isTrue_17 (by decide) ?_
    refine v_zret E hE dX4_isTrue_38 rfl ?_
    have hR : opTrue S a = (1, 0, S) := by unfold opTrue; rw [if_pos (by omega)]
    rw [hR]; exact ⟨rfl, P, _, _, _, _, eq7.rfl', hB_20⟩

set_option maxHeartbeats 400000 in
set_option maxRecDepth 100000 in
/-- intervals -/
theorem m_opIvs (κ : zK) (H0 : Heap) {ad : Nat → Nat} {P : Nat → Nat → Int} {f g mk : Nat → Int} {S : Nat → Nat → Int} {K : Nat → Int} {thr len many : Int} {a1 a2 a3 a4 : Nat} (hI : Inj ad) (hB : MB κ ad P f g mk S K thr len many a1 a2 a3 a4 H0) : Mt κ yX4_intervals cX4_intervals 1 (some .int) 1 21 0 0 H0 [.ref (ad 3002)] (AH ad) (fun v H1 => v = some (vi ((many, (0 : Int), S)).1) ∧ ∃ (P1 : Nat → Nat → Int) (f1 g1 mk1 : Nat → Int) (len1 : Int), eq7 (P1 7) (P 7) ∧ MB κ ad P1 f1 g1 mk1 (((many, (0 : Int), S)).2.2) K (((many, (0 : Int), S)).2.1) len1 many a1 a2 a3 a4 H1) := by
  refine Mt.of (by decide) (Nat.le_of_ble_eq_true rfl) ?_
  intro z E hE hH0 hA0 hL hini
  have hAll : ∀ q, (AH ad) q → zA z.A z.H0 q := fun q h => Or.inl (by rw [hA0]; exact h)
  have hNew : ∀ q, H0.size ≤ q → zA z.A z.H0 q := fun q h => Or.inr (by rw [hH0]; exact h)
  have E : zOK z cX4_intervals RX4 κ 1 21 (some .int) := E
  refine V.eqL (lv' := [(0, .ref (ad 3002))]) rfl ?_
  refine v_aload_n E 0 rfl dX4_intervals_0 ?_
  refine v_aload_n E 0 rfl dX4_intervals_1 ?_
  refine v_getf E in_X4 hB.ho (ci := 3) rfl 26 (by decide) q1786 rfl (v := vi many) rfl dX4_intervals_2 ?_
  refine v_callV E (As := [vi many]) (b := (ad 3002)) (ci := 3) (C := RX4) (T := TX4) (N := 27) hB.ho rfl (m_tells κ H0 hI hB) (lw_V q1864 q1866 qs48 q82 q1867) 1 (by decide +kernel) rfl (by decide) (by decide) (cb' := 0) (sb' := 0) (by decide) (by decide) rfl (rest := []) (Nat.le_of_ble_eq_true rfl) hAll dX4_intervals_5 (fun v_1 H_2 hpost_3 hz_4 hk_5 => ?_)
  clear hz_4
  obtain ⟨rfl, hB_6⟩ := hpost_3
  refine V.eq (st' := [vi many]) rfl ?_
  refine v_iret E hE dX4_intervals_8 ?_
  exact ⟨rfl, P, _, _, _, _, eq7.rfl', hB_6⟩

set_option maxHeartbeats 400000 in
set_option maxRecDepth 100000 in
/-- is it an interval -/
theorem m_isIv (κ : zK) (H0 : Heap) {ad : Nat → Nat} {P : Nat → Nat → Int} {f g mk : Nat → Int} {S : Nat → Nat → Int} {K : Nat → Int} {thr len many : Int} {a1 a2 a3 a4 : Nat} {x : Int} (hx : rI x) (hmr : rI many) (hB : MB κ ad P f g mk S K thr len many a1 a2 a3 a4 H0) : Mt κ yX4_isInterval cX4_isInterval 2 (some .boolean) 0 0 0 0 H0 [.ref (ad 3002), vi x] (fun _ => False) (fun v H1 => v = some (vi (if 0 ≤ x ∧ x < many then 1 else 0))) := by
  refine Mt.of (by decide) (Nat.le_of_ble_eq_true rfl) ?_
  intro z E hE hH0 hA0 hL hini
  have hAll : ∀ q, (fun _ => False) q → zA z.A z.H0 q := fun q h => Or.inl (by rw [hA0]; exact h)
  have hNew : ∀ q, H0.size ≤ q → zA z.A z.H0 q := fun q h => Or.inr (by rw [hH0]; exact h)
  have E : zOK z cX4_isInterval RX4 κ 0 0 (some .boolean) := E
  refine V.eqL (lv' := [(0, .ref (ad 3002)), (1, vi x)]) rfl ?_
  refine v_iload_n E 1 rfl dX4_isInterval_0 ?_
  refine v_if_lt E (tgt := 16) dX4_isInterval_1 (by decide) hx (fun c_1 => ?_) (fun c_1 => ?_)
  · refine v_iconst E dX4_isInterval_16 ?_
    refine v_zret E hE dX4_isInterval_17 rfl ?_
    rw [if_neg (by omega)]
  · refine v_iload_n E 1 rfl dX4_isInterval_4 ?_
    refine v_aload_n E 0 rfl dX4_isInterval_5 ?_
    refine v_getf E in_X4 hB.ho (ci := 3) rfl 26 (by decide) q1786 rfl (v := vi many) rfl dX4_isInterval_6 ?_
    refine v_icmp_ge E (tgt := 16) dX4_isInterval_9 (by decide) hx hmr (fun c_9 => ?_) (fun c_9 => ?_)
    · refine v_iconst E dX4_isInterval_16 ?_
      refine v_zret E hE dX4_isInterval_17 rfl ?_
      rw [if_neg (by omega)]
    · refine v_iconst E dX4_isInterval_12 ?_
      refine v_goto E (tgt := 17) dX4_isInterval_13 (by decide) ?_
      refine v_zret E hE dX4_isInterval_17 rfl ?_
      rw [if_pos (by omega)]

set_option maxHeartbeats 400000 in
set_option maxRecDepth 100000 in
/-- rootsIn -/
theorem m_opRts (κ : zK) (H0 : Heap) {ad : Nat → Nat} {P : Nat → Nat → Int} {f g mk : Nat → Int} {S : Nat → Nat → Int} {K : Nat → Int} {thr len many : Int} {a1 a2 a3 a4 : Nat} {cap : Nat} {lv lo hi rt : Nat → Int} (hap : ∀ i, uA i → a1 ≠ ad i ∧ a2 ≠ ad i ∧ a3 ≠ ad i ∧ a4 ≠ ad i) (hmn : 0 ≤ many ∧ many ≤ (cap : Int)) (hcp : cap < 1000000) {x : Int} (hx : rI x) (hI : Inj ad) (hB : MB κ ad P f g mk S K thr len many a1 a2 a3 a4 H0) (hv1 : hp κ H0 a1 (eI κ cap lv)) (hv2 : hp κ H0 a2 (eI κ cap lo)) (hv3 : hp κ H0 a3 (eI κ cap hi)) (hv4 : hp κ H0 a4 (eI κ cap rt))  : Mt κ yX4_rootsIn cX4_rootsIn 2 (some .int) 1 21 0 0 H0 [.ref (ad 3002), vi x] (AH ad) (fun v H1 => v = some (vi (opRts S many rt x).1) ∧ ∃ (P1 : Nat → Nat → Int) (f1 g1 mk1 : Nat → Int) (len1 : Int), eq7 (P1 7) (P 7) ∧ MB κ ad P1 f1 g1 mk1 ((opRts S many rt x).2.2) K ((opRts S many rt x).2.1) len1 many a1 a2 a3 a4 H1) := by
  refine Mt.of (by decide) (Nat.le_of_ble_eq_true rfl) ?_
  intro z E hE hH0 hA0 hL hini
  have hAll : ∀ q, (AH ad) q → zA z.A z.H0 q := fun q h => Or.inl (by rw [hA0]; exact h)
  have hNew : ∀ q, H0.size ≤ q → zA z.A z.H0 q := fun q h => Or.inr (by rw [hH0]; exact h)
  have E : zOK z cX4_rootsIn RX4 κ 1 21 (some .int) := E
  refine V.eqL (lv' := [(0, .ref (ad 3002)), (1, vi x)]) rfl ?_
  refine v_aload_n E 0 rfl dX4_rootsIn_0 ?_
  refine v_iload_n E 1 rfl dX4_rootsIn_1 ?_
  refine v_callV E (As := [vi x]) (b := (ad 3002)) (ci := 3) (C := RX4) (T := TX4) (N := 27) hB.ho rfl (m_isIv κ H0 (by first | assumption | exact ⟨by omega, by omega⟩) (show rI many from ⟨by omega, by omega⟩) hB) (lw_V q2114 q2116 qs66 q82 q2117) 1 (by decide +kernel) rfl (by decide) (by decide) (cb' := 0) (sb' := 0) (by decide) (by decide) rfl (rest := []) (Nat.le_of_ble_eq_true rfl) (fun q h => h.elim) dX4_rootsIn_2 (fun v_2 H_3 hpost_4 hz_5 hk_6 => ?_)
  clear hz_5
  obtain rfl := hpost_4
  obtain ⟨b_1, hb_7, hb_7e⟩ : ∃ b9 : Int, (b9 = 0 ∧ ¬ (0 ≤ x ∧ x < many) ∨ b9 = 1 ∧ (0 ≤ x ∧ x < many)) ∧ (if 0 ≤ x ∧ x < many then 1 else 0 : Int) = b9 := by
    by_cases c : 0 ≤ x ∧ x < many
    · exact ⟨1, Or.inr ⟨rfl, c⟩, if_pos c⟩
    · exact ⟨0, Or.inl ⟨rfl, c⟩, if_neg c⟩
  have hv_8 := hv1.kept (hk_6 _ hv1.lt (fun h => h))
  have hv_9 := hv2.kept (hk_6 _ hv2.lt (fun h => h))
  have hv_10 := hv3.kept (hk_6 _ hv3.lt (fun h => h))
  have hv_11 := hv4.kept (hk_6 _ hv4.lt (fun h => h))
  have hB_12 : MB κ ad P f g mk S K thr len many a1 a2 a3 a4 H_3 := hB.nil hk_6
  refine V.eq (st' := [vi b_1]) (by rw [hb_7e]; rfl) ?_
  refine v_if_eq E (tgt := 21) dX4_rootsIn_5 (by decide) ⟨by omega, by omega⟩ (fun c_5 => ?_) (fun c_5 => ?_)
  · refine v_aload_n E 0 rfl dX4_rootsIn_21 ?_
    refine v_iconst E dX4_rootsIn_22 ?_
    refine v_callV E (As := [vi 1]) (b := (ad 3002)) (ci := 3) (C := RX4) (T := TX4) (N := 27) hB_12.ho rfl (m_fails κ H_3 hI hB_12) (lw_V q1857 q1859 qs47 q82 q1860) 1 (by decide +kernel) rfl (by decide) (by decide) (cb' := 0) (sb' := 0) (by decide) (by decide) rfl (rest := []) (Nat.le_of_ble_eq_true rfl) hAll dX4_rootsIn_23 (fun v_13 H_14 hpost_15 hz_16 hk_17 => ?_)
    clear hz_16
    obtain ⟨rfl, hB_18⟩ := hpost_15
    have hv_19 := hv_8.kept (hk_17 _ hv_8.lt (fun ⟨i, u, e⟩ => (hap i u).1 e))
    have hv_20 := hv_9.kept (hk_17 _ hv_9.lt (fun ⟨i, u, e⟩ => (hap i u).2.1 e))
    have hv_21 := hv_10.kept (hk_17 _ hv_10.lt (fun ⟨i, u, e⟩ => (hap i u).2.2.1 e))
    have hv_22 := hv_11.kept (hk_17 _ hv_11.lt (fun ⟨i, u, e⟩ => (hap i u).2.2.2 e))
    refine V.eq (st' := [vi 0]) rfl ?_
    refine v_iret E hE dX4_rootsIn_26 ?_
    have hR : opRts S many rt x = (0, 1, S) := by unfold opRts; rw [if_neg (by omega)]
    rw [hR]; exact ⟨rfl, P, _, _, _, _, eq7.rfl', hB_18⟩
  · refine v_aload_n E 0 rfl dX4_rootsIn_8 ?_
    refine v_aload_n E 0 rfl dX4_rootsIn_9 ?_
    refine v_getf E in_X4 hB_12.ho (ci := 3) rfl 25 (by decide) q1785 rfl (v := .ref a4) rfl dX4_rootsIn_10 ?_
    refine v_iload_n E 1 rfl dX4_rootsIn_13 ?_
    refine v_iald E dX4_rootsIn_14 hv_11 x.toNat (by omega) (by omega) (by omega) ?_
    refine v_callV E (As := [vi (rt x.toNat)]) (b := (ad 3002)) (ci := 3) (C := RX4) (T := TX4) (N := 27) hB_12.ho rfl (m_tells κ H_3 hI hB_12) (lw_V q1864 q1866 qs48 q82 q1867) 1 (by decide +kernel) rfl (by decide) (by decide) (cb' := 0) (sb' := 0) (by decide) (by decide) rfl (rest := []) (Nat.le_of_ble_eq_true rfl) hAll dX4_rootsIn_15 (fun v_23 H_24 hpost_25 hz_26 hk_27 => ?_)
    clear hz_26
    obtain ⟨rfl, hB_28⟩ := hpost_25
    have hv_29 := hv_8.kept (hk_27 _ hv_8.lt (fun ⟨i, u, e⟩ => (hap i u).1 e))
    have hv_30 := hv_9.kept (hk_27 _ hv_9.lt (fun ⟨i, u, e⟩ => (hap i u).2.1 e))
    have hv_31 := hv_10.kept (hk_27 _ hv_10.lt (fun ⟨i, u, e⟩ => (hap i u).2.2.1 e))
    have hv_32 := hv_11.kept (hk_27 _ hv_11.lt (fun ⟨i, u, e⟩ => (hap i u).2.2.2 e))
    refine V.eq (st' := [vi (rt x.toNat)]) rfl ?_
    refine v_goto E (tgt := 26) dX4_rootsIn_18 (by decide) ?_
    refine v_iret E hE dX4_rootsIn_26 ?_
    have hR : opRts S many rt x = (rt x.toNat, 0, S) := by unfold opRts; rw [if_pos (by omega)]
    rw [hR]; exact ⟨rfl, P, _, _, _, _, eq7.rfl', hB_28⟩

set_option maxHeartbeats 400000 in
set_option maxRecDepth 100000 in
/-- interval -/
theorem m_opIv (κ : zK) (H0 : Heap) {ad : Nat → Nat} {P : Nat → Nat → Int} {f g mk : Nat → Int} {S : Nat → Nat → Int} {K : Nat → Int} {thr len many : Int} {a1 a2 a3 a4 : Nat} {cap : Nat} {lv lo hi rt : Nat → Int} (hap : ∀ i, uA i → a1 ≠ ad i ∧ a2 ≠ ad i ∧ a3 ≠ ad i ∧ a4 ≠ ad i) (hmn : 0 ≤ many ∧ many ≤ (cap : Int)) (hcp : cap < 1000000) {x q : Int} (hx : rI x) (hq : 0 ≤ q ∧ q ≤ 65535) (hI : Inj ad) (hB : MB κ ad P f g mk S K thr len many a1 a2 a3 a4 H0) (hv1 : hp κ H0 a1 (eI κ cap lv)) (hv2 : hp κ H0 a2 (eI κ cap lo)) (hv3 : hp κ H0 a3 (eI κ cap hi)) (hv4 : hp κ H0 a4 (eI κ cap rt))  : Mt κ yX4_interval cX4_interval 3 (some .int) 1 21 0 0 H0 [.ref (ad 3002), vi x, vi q] (AH ad) (fun v H1 => v = some (vi (opIv S many lv lo hi x q).1) ∧ ∃ (P1 : Nat → Nat → Int) (f1 g1 mk1 : Nat → Int) (len1 : Int), eq7 (P1 7) (P 7) ∧ MB κ ad P1 f1 g1 mk1 ((opIv S many lv lo hi x q).2.2) K ((opIv S many lv lo hi x q).2.1) len1 many a1 a2 a3 a4 H1) := by
  refine Mt.of (by decide) (Nat.le_of_ble_eq_true rfl) ?_
  intro z E hE hH0 hA0 hL hini
  have hAll : ∀ q, (AH ad) q → zA z.A z.H0 q := fun q h => Or.inl (by rw [hA0]; exact h)
  have hNew : ∀ q, H0.size ≤ q → zA z.A z.H0 q := fun q h => Or.inr (by rw [hH0]; exact h)
  have E : zOK z cX4_interval RX4 κ 1 21 (some .int) := E
  refine V.eqL (lv' := [(0, .ref (ad 3002)), (1, vi x), (2, vi q)]) rfl ?_
  refine v_aload_n E 0 rfl dX4_interval_0 ?_
  refine v_iload_n E 1 rfl dX4_interval_1 ?_
  refine v_callV E (As := [vi x]) (b := (ad 3002)) (ci := 3) (C := RX4) (T := TX4) (N := 27) hB.ho rfl (m_isIv κ H0 (by first | assumption | exact ⟨by omega, by omega⟩) (show rI many from ⟨by omega, by omega⟩) hB) (lw_V q2114 q2116 qs66 q82 q2117) 1 (by decide +kernel) rfl (by decide) (by decide) (cb' := 0) (sb' := 0) (by decide) (by decide) rfl (rest := []) (Nat.le_of_ble_eq_true rfl) (fun q h => h.elim) dX4_interval_2 (fun v_2 H_3 hpost_4 hz_5 hk_6 => ?_)
  clear hz_5
  obtain rfl := hpost_4
  obtain ⟨b_1, hb_7, hb_7e⟩ : ∃ b9 : Int, (b9 = 0 ∧ ¬ (0 ≤ x ∧ x < many) ∨ b9 = 1 ∧ (0 ≤ x ∧ x < many)) ∧ (if 0 ≤ x ∧ x < many then 1 else 0 : Int) = b9 := by
    by_cases c : 0 ≤ x ∧ x < many
    · exact ⟨1, Or.inr ⟨rfl, c⟩, if_pos c⟩
    · exact ⟨0, Or.inl ⟨rfl, c⟩, if_neg c⟩
  have hv_8 := hv1.kept (hk_6 _ hv1.lt (fun h => h))
  have hv_9 := hv2.kept (hk_6 _ hv2.lt (fun h => h))
  have hv_10 := hv3.kept (hk_6 _ hv3.lt (fun h => h))
  have hv_11 := hv4.kept (hk_6 _ hv4.lt (fun h => h))
  have hB_12 : MB κ ad P f g mk S K thr len many a1 a2 a3 a4 H_3 := hB.nil hk_6
  refine V.eq (st' := [vi b_1]) (by rw [hb_7e]; rfl) ?_
  refine v_if_ne E (tgt := 14) dX4_interval_5 (by decide) ⟨by omega, by omega⟩ (fun c_5 => ?_) (fun c_5 => ?_)
  · refine v_iload_n E 2 rfl dX4_interval_14 ?_
    refine v_bipush E ⟨by decide, by decide⟩ dX4_interval_15 ?_
    refine v_icmp_eq E (tgt := 38) dX4_interval_17 (by decide) ⟨by omega, by omega⟩ ⟨by omega, by omega⟩ (fun c_17 => ?_) (fun c_17 => ?_)
    · refine v_aload_n E 0 rfl dX4_interval_38 ?_
      refine v_iload_n E 2 rfl dX4_interval_39 ?_
      refine v_bipush E ⟨by decide, by decide⟩ dX4_interval_40 ?_
      refine v_icmp_ne E (tgt := 54) dX4_interval_42 (by decide) ⟨by omega, by omega⟩ ⟨by omega, by omega⟩ (fun c_42 => ?_) (fun c_42 => ?_)
      · refine v_iload_n E 2 rfl dX4_interval_54 ?_
        refine v_bipush E ⟨by decide, by decide⟩ dX4_interval_55 ?_
        refine v_icmp_ne E (tgt := 69) dX4_interval_57 (by decide) ⟨by omega, by omega⟩ ⟨by omega, by omega⟩ (fun c_57 => ?_) (fun c_57 => ?_)
        · refine v_aload_n E 0 rfl dX4_interval_69 ?_
          refine v_getf E in_X4 hB_12.ho (ci := 3) rfl 24 (by decide) q1784 rfl (v := .ref a3) rfl dX4_interval_70 ?_
          refine v_iload_n E 1 rfl dX4_interval_73 ?_
          refine v_iald E dX4_interval_74 hv_10 x.toNat (by omega) (by omega) (by omega) ?_
          refine v_callV E (As := [vi (hi x.toNat)]) (b := (ad 3002)) (ci := 3) (C := RX4) (T := TX4) (N := 27) hB_12.ho rfl (m_tells κ H_3 hI hB_12) (lw_V q1864 q1866 qs48 q82 q1867) 1 (by decide +kernel) rfl (by decide) (by decide) (cb' := 0) (sb' := 0) (by decide) (by decide) rfl (rest := []) (Nat.le_of_ble_eq_true rfl) hAll dX4_interval_75 (fun v_13 H_14 hpost_15 hz_16 hk_17 => ?_)
          clear hz_16
          obtain ⟨rfl, hB_18⟩ := hpost_15
          have hv_19 := hv_8.kept (hk_17 _ hv_8.lt (fun ⟨i, u, e⟩ => (hap i u).1 e))
          have hv_20 := hv_9.kept (hk_17 _ hv_9.lt (fun ⟨i, u, e⟩ => (hap i u).2.1 e))
          have hv_21 := hv_10.kept (hk_17 _ hv_10.lt (fun ⟨i, u, e⟩ => (hap i u).2.2.1 e))
          have hv_22 := hv_11.kept (hk_17 _ hv_11.lt (fun ⟨i, u, e⟩ => (hap i u).2.2.2 e))
          refine V.eq (st' := [vi (hi x.toNat)]) rfl ?_
          refine v_iret E hE dX4_interval_78 ?_
          have hR : opIv S many lv lo hi x q = (hi x.toNat, 0, S) := by
            first
              | (exfalso; omega)
              | (unfold opIv; rw [if_pos (by omega), if_pos (by omega), if_neg (by omega), if_neg (by omega)])
          rw [hR]; exact ⟨rfl, P, _, _, _, _, eq7.rfl', hB_18⟩
        · refine v_aload_n E 0 rfl dX4_interval_60 ?_
          refine v_getf E in_X4 hB_12.ho (ci := 3) rfl 23 (by decide) q1783 rfl (v := .ref a2) rfl dX4_interval_61 ?_
          refine v_iload_n E 1 rfl dX4_interval_64 ?_
          refine v_iald E dX4_interval_65 hv_9 x.toNat (by omega) (by omega) (by omega) ?_
          refine v_goto E (tgt := 75) dX4_interval_66 (by decide) ?_
          refine v_callV E (As := [vi (lo x.toNat)]) (b := (ad 3002)) (ci := 3) (C := RX4) (T := TX4) (N := 27) hB_12.ho rfl (m_tells κ H_3 hI hB_12) (lw_V q1864 q1866 qs48 q82 q1867) 1 (by decide +kernel) rfl (by decide) (by decide) (cb' := 0) (sb' := 0) (by decide) (by decide) rfl (rest := []) (Nat.le_of_ble_eq_true rfl) hAll dX4_interval_75 (fun v_23 H_24 hpost_25 hz_26 hk_27 => ?_)
          clear hz_26
          obtain ⟨rfl, hB_28⟩ := hpost_25
          have hv_29 := hv_8.kept (hk_27 _ hv_8.lt (fun ⟨i, u, e⟩ => (hap i u).1 e))
          have hv_30 := hv_9.kept (hk_27 _ hv_9.lt (fun ⟨i, u, e⟩ => (hap i u).2.1 e))
          have hv_31 := hv_10.kept (hk_27 _ hv_10.lt (fun ⟨i, u, e⟩ => (hap i u).2.2.1 e))
          have hv_32 := hv_11.kept (hk_27 _ hv_11.lt (fun ⟨i, u, e⟩ => (hap i u).2.2.2 e))
          refine V.eq (st' := [vi (lo x.toNat)]) rfl ?_
          refine v_iret E hE dX4_interval_78 ?_
          have hR : opIv S many lv lo hi x q = (lo x.toNat, 0, S) := by
            first
              | (exfalso; omega)
              | (unfold opIv; rw [if_pos (by omega), if_pos (by omega), if_neg (by omega), if_pos (by omega)])
          rw [hR]; exact ⟨rfl, P, _, _, _, _, eq7.rfl', hB_28⟩
      · refine v_aload_n E 0 rfl dX4_interval_45 ?_
        refine v_getf E in_X4 hB_12.ho (ci := 3) rfl 22 (by decide) q1782 rfl (v := .ref a1) rfl dX4_interval_46 ?_
        refine v_iload_n E 1 rfl dX4_interval_49 ?_
        refine v_iald E dX4_interval_50 hv_8 x.toNat (by omega) (by omega) (by omega) ?_
        refine v_goto E (tgt := 75) dX4_interval_51 (by decide) ?_
        refine v_callV E (As := [vi (lv x.toNat)]) (b := (ad 3002)) (ci := 3) (C := RX4) (T := TX4) (N := 27) hB_12.ho rfl (m_tells κ H_3 hI hB_12) (lw_V q1864 q1866 qs48 q82 q1867) 1 (by decide +kernel) rfl (by decide) (by decide) (cb' := 0) (sb' := 0) (by decide) (by decide) rfl (rest := []) (Nat.le_of_ble_eq_true rfl) hAll dX4_interval_75 (fun v_33 H_34 hpost_35 hz_36 hk_37 => ?_)
        clear hz_36
        obtain ⟨rfl, hB_38⟩ := hpost_35
        have hv_39 := hv_8.kept (hk_37 _ hv_8.lt (fun ⟨i, u, e⟩ => (hap i u).1 e))
        have hv_40 := hv_9.kept (hk_37 _ hv_9.lt (fun ⟨i, u, e⟩ => (hap i u).2.1 e))
        have hv_41 := hv_10.kept (hk_37 _ hv_10.lt (fun ⟨i, u, e⟩ => (hap i u).2.2.1 e))
        have hv_42 := hv_11.kept (hk_37 _ hv_11.lt (fun ⟨i, u, e⟩ => (hap i u).2.2.2 e))
        refine V.eq (st' := [vi (lv x.toNat)]) rfl ?_
        refine v_iret E hE dX4_interval_78 ?_
        have hR : opIv S many lv lo hi x q = (lv x.toNat, 0, S) := by
          first
            | (exfalso; omega)
            | (unfold opIv; rw [if_pos (by omega), if_pos (by omega), if_pos (by omega)])
        rw [hR]; exact ⟨rfl, P, _, _, _, _, eq7.rfl', hB_38⟩
    · refine v_iload_n E 2 rfl dX4_interval_20 ?_
      refine v_bipush E ⟨by decide, by decide⟩ dX4_interval_21 ?_
      refine v_icmp_eq E (tgt := 38) dX4_interval_23 (by decide) ⟨by omega, by omega⟩ ⟨by omega, by omega⟩ (fun c_23 => ?_) (fun c_23 => ?_)
      · refine v_aload_n E 0 rfl dX4_interval_38 ?_
        refine v_iload_n E 2 rfl dX4_interval_39 ?_
        refine v_bipush E ⟨by decide, by decide⟩ dX4_interval_40 ?_
        refine v_icmp_ne E (tgt := 54) dX4_interval_42 (by decide) ⟨by omega, by omega⟩ ⟨by omega, by omega⟩ (fun c_42 => ?_) (fun c_42 => ?_)
        · refine v_iload_n E 2 rfl dX4_interval_54 ?_
          refine v_bipush E ⟨by decide, by decide⟩ dX4_interval_55 ?_
          refine v_icmp_ne E (tgt := 69) dX4_interval_57 (by decide) ⟨by omega, by omega⟩ ⟨by omega, by omega⟩ (fun c_57 => ?_) (fun c_57 => ?_)
          · refine v_aload_n E 0 rfl dX4_interval_69 ?_
            refine v_getf E in_X4 hB_12.ho (ci := 3) rfl 24 (by decide) q1784 rfl (v := .ref a3) rfl dX4_interval_70 ?_
            refine v_iload_n E 1 rfl dX4_interval_73 ?_
            refine v_iald E dX4_interval_74 hv_10 x.toNat (by omega) (by omega) (by omega) ?_
            refine v_callV E (As := [vi (hi x.toNat)]) (b := (ad 3002)) (ci := 3) (C := RX4) (T := TX4) (N := 27) hB_12.ho rfl (m_tells κ H_3 hI hB_12) (lw_V q1864 q1866 qs48 q82 q1867) 1 (by decide +kernel) rfl (by decide) (by decide) (cb' := 0) (sb' := 0) (by decide) (by decide) rfl (rest := []) (Nat.le_of_ble_eq_true rfl) hAll dX4_interval_75 (fun v_43 H_44 hpost_45 hz_46 hk_47 => ?_)
            clear hz_46
            obtain ⟨rfl, hB_48⟩ := hpost_45
            have hv_49 := hv_8.kept (hk_47 _ hv_8.lt (fun ⟨i, u, e⟩ => (hap i u).1 e))
            have hv_50 := hv_9.kept (hk_47 _ hv_9.lt (fun ⟨i, u, e⟩ => (hap i u).2.1 e))
            have hv_51 := hv_10.kept (hk_47 _ hv_10.lt (fun ⟨i, u, e⟩ => (hap i u).2.2.1 e))
            have hv_52 := hv_11.kept (hk_47 _ hv_11.lt (fun ⟨i, u, e⟩ => (hap i u).2.2.2 e))
            refine V.eq (st' := [vi (hi x.toNat)]) rfl ?_
            refine v_iret E hE dX4_interval_78 ?_
            have hR : opIv S many lv lo hi x q = (hi x.toNat, 0, S) := by
              first
                | (exfalso; omega)
                | (unfold opIv; rw [if_pos (by omega), if_pos (by omega), if_neg (by omega), if_neg (by omega)])
            rw [hR]; exact ⟨rfl, P, _, _, _, _, eq7.rfl', hB_48⟩
          · refine v_aload_n E 0 rfl dX4_interval_60 ?_
            refine v_getf E in_X4 hB_12.ho (ci := 3) rfl 23 (by decide) q1783 rfl (v := .ref a2) rfl dX4_interval_61 ?_
            refine v_iload_n E 1 rfl dX4_interval_64 ?_
            refine v_iald E dX4_interval_65 hv_9 x.toNat (by omega) (by omega) (by omega) ?_
            refine v_goto E (tgt := 75) dX4_interval_66 (by decide) ?_
            refine v_callV E (As := [vi (lo x.toNat)]) (b := (ad 3002)) (ci := 3) (C := RX4) (T := TX4) (N := 27) hB_12.ho rfl (m_tells κ H_3 hI hB_12) (lw_V q1864 q1866 qs48 q82 q1867) 1 (by decide +kernel) rfl (by decide) (by decide) (cb' := 0) (sb' := 0) (by decide) (by decide) rfl (rest := []) (Nat.le_of_ble_eq_true rfl) hAll dX4_interval_75 (fun v_53 H_54 hpost_55 hz_56 hk_57 => ?_)
            clear hz_56
            obtain ⟨rfl, hB_58⟩ := hpost_55
            have hv_59 := hv_8.kept (hk_57 _ hv_8.lt (fun ⟨i, u, e⟩ => (hap i u).1 e))
            have hv_60 := hv_9.kept (hk_57 _ hv_9.lt (fun ⟨i, u, e⟩ => (hap i u).2.1 e))
            have hv_61 := hv_10.kept (hk_57 _ hv_10.lt (fun ⟨i, u, e⟩ => (hap i u).2.2.1 e))
            have hv_62 := hv_11.kept (hk_57 _ hv_11.lt (fun ⟨i, u, e⟩ => (hap i u).2.2.2 e))
            refine V.eq (st' := [vi (lo x.toNat)]) rfl ?_
            refine v_iret E hE dX4_interval_78 ?_
            have hR : opIv S many lv lo hi x q = (lo x.toNat, 0, S) := by
              first
                | (exfalso; omega)
                | (unfold opIv; rw [if_pos (by omega), if_pos (by omega), if_neg (by omega), if_pos (by omega)])
            rw [hR]; exact ⟨rfl, P, _, _, _, _, eq7.rfl', hB_58⟩
        · refine v_aload_n E 0 rfl dX4_interval_45 ?_
          refine v_getf E in_X4 hB_12.ho (ci := 3) rfl 22 (by decide) q1782 rfl (v := .ref a1) rfl dX4_interval_46 ?_
          refine v_iload_n E 1 rfl dX4_interval_49 ?_
          refine v_iald E dX4_interval_50 hv_8 x.toNat (by omega) (by omega) (by omega) ?_
          refine v_goto E (tgt := 75) dX4_interval_51 (by decide) ?_
          refine v_callV E (As := [vi (lv x.toNat)]) (b := (ad 3002)) (ci := 3) (C := RX4) (T := TX4) (N := 27) hB_12.ho rfl (m_tells κ H_3 hI hB_12) (lw_V q1864 q1866 qs48 q82 q1867) 1 (by decide +kernel) rfl (by decide) (by decide) (cb' := 0) (sb' := 0) (by decide) (by decide) rfl (rest := []) (Nat.le_of_ble_eq_true rfl) hAll dX4_interval_75 (fun v_63 H_64 hpost_65 hz_66 hk_67 => ?_)
          clear hz_66
          obtain ⟨rfl, hB_68⟩ := hpost_65
          have hv_69 := hv_8.kept (hk_67 _ hv_8.lt (fun ⟨i, u, e⟩ => (hap i u).1 e))
          have hv_70 := hv_9.kept (hk_67 _ hv_9.lt (fun ⟨i, u, e⟩ => (hap i u).2.1 e))
          have hv_71 := hv_10.kept (hk_67 _ hv_10.lt (fun ⟨i, u, e⟩ => (hap i u).2.2.1 e))
          have hv_72 := hv_11.kept (hk_67 _ hv_11.lt (fun ⟨i, u, e⟩ => (hap i u).2.2.2 e))
          refine V.eq (st' := [vi (lv x.toNat)]) rfl ?_
          refine v_iret E hE dX4_interval_78 ?_
          have hR : opIv S many lv lo hi x q = (lv x.toNat, 0, S) := by
            first
              | (exfalso; omega)
              | (unfold opIv; rw [if_pos (by omega), if_pos (by omega), if_pos (by omega)])
          rw [hR]; exact ⟨rfl, P, _, _, _, _, eq7.rfl', hB_68⟩
      · refine v_iload_n E 2 rfl dX4_interval_26 ?_
        refine v_bipush E ⟨by decide, by decide⟩ dX4_interval_27 ?_
        refine v_icmp_eq E (tgt := 38) dX4_interval_29 (by decide) ⟨by omega, by omega⟩ ⟨by omega, by omega⟩ (fun c_29 => ?_) (fun c_29 => ?_)
        · refine v_aload_n E 0 rfl dX4_interval_38 ?_
          refine v_iload_n E 2 rfl dX4_interval_39 ?_
          refine v_bipush E ⟨by decide, by decide⟩ dX4_interval_40 ?_
          refine v_icmp_ne E (tgt := 54) dX4_interval_42 (by decide) ⟨by omega, by omega⟩ ⟨by omega, by omega⟩ (fun c_42 => ?_) (fun c_42 => ?_)
          · refine v_iload_n E 2 rfl dX4_interval_54 ?_
            refine v_bipush E ⟨by decide, by decide⟩ dX4_interval_55 ?_
            refine v_icmp_ne E (tgt := 69) dX4_interval_57 (by decide) ⟨by omega, by omega⟩ ⟨by omega, by omega⟩ (fun c_57 => ?_) (fun c_57 => ?_)
            · refine v_aload_n E 0 rfl dX4_interval_69 ?_
              refine v_getf E in_X4 hB_12.ho (ci := 3) rfl 24 (by decide) q1784 rfl (v := .ref a3) rfl dX4_interval_70 ?_
              refine v_iload_n E 1 rfl dX4_interval_73 ?_
              refine v_iald E dX4_interval_74 hv_10 x.toNat (by omega) (by omega) (by omega) ?_
              refine v_callV E (As := [vi (hi x.toNat)]) (b := (ad 3002)) (ci := 3) (C := RX4) (T := TX4) (N := 27) hB_12.ho rfl (m_tells κ H_3 hI hB_12) (lw_V q1864 q1866 qs48 q82 q1867) 1 (by decide +kernel) rfl (by decide) (by decide) (cb' := 0) (sb' := 0) (by decide) (by decide) rfl (rest := []) (Nat.le_of_ble_eq_true rfl) hAll dX4_interval_75 (fun v_73 H_74 hpost_75 hz_76 hk_77 => ?_)
              clear hz_76
              obtain ⟨rfl, hB_78⟩ := hpost_75
              have hv_79 := hv_8.kept (hk_77 _ hv_8.lt (fun ⟨i, u, e⟩ => (hap i u).1 e))
              have hv_80 := hv_9.kept (hk_77 _ hv_9.lt (fun ⟨i, u, e⟩ => (hap i u).2.1 e))
              have hv_81 := hv_10.kept (hk_77 _ hv_10.lt (fun ⟨i, u, e⟩ => (hap i u).2.2.1 e))
              have hv_82 := hv_11.kept (hk_77 _ hv_11.lt (fun ⟨i, u, e⟩ => (hap i u).2.2.2 e))
              refine V.eq (st' := [vi (hi x.toNat)]) rfl ?_
              refine v_iret E hE dX4_interval_78 ?_
              have hR : opIv S many lv lo hi x q = (hi x.toNat, 0, S) := by
                first
                  | (exfalso; omega)
                  | (unfold opIv; rw [if_pos (by omega), if_pos (by omega), if_neg (by omega), if_neg (by omega)])
              rw [hR]; exact ⟨rfl, P, _, _, _, _, eq7.rfl', hB_78⟩
            · refine v_aload_n E 0 rfl dX4_interval_60 ?_
              refine v_getf E in_X4 hB_12.ho (ci := 3) rfl 23 (by decide) q1783 rfl (v := .ref a2) rfl dX4_interval_61 ?_
              refine v_iload_n E 1 rfl dX4_interval_64 ?_
              refine v_iald E dX4_interval_65 hv_9 x.toNat (by omega) (by omega) (by omega) ?_
              refine v_goto E (tgt := 75) dX4_interval_66 (by decide) ?_
              refine v_callV E (As := [vi (lo x.toNat)]) (b := (ad 3002)) (ci := 3) (C := RX4) (T := TX4) (N := 27) hB_12.ho rfl (m_tells κ H_3 hI hB_12) (lw_V q1864 q1866 qs48 q82 q1867) 1 (by decide +kernel) rfl (by decide) (by decide) (cb' := 0) (sb' := 0) (by decide) (by decide) rfl (rest := []) (Nat.le_of_ble_eq_true rfl) hAll dX4_interval_75 (fun v_83 H_84 hpost_85 hz_86 hk_87 => ?_)
              clear hz_86
              obtain ⟨rfl, hB_88⟩ := hpost_85
              have hv_89 := hv_8.kept (hk_87 _ hv_8.lt (fun ⟨i, u, e⟩ => (hap i u).1 e))
              have hv_90 := hv_9.kept (hk_87 _ hv_9.lt (fun ⟨i, u, e⟩ => (hap i u).2.1 e))
              have hv_91 := hv_10.kept (hk_87 _ hv_10.lt (fun ⟨i, u, e⟩ => (hap i u).2.2.1 e))
              have hv_92 := hv_11.kept (hk_87 _ hv_11.lt (fun ⟨i, u, e⟩ => (hap i u).2.2.2 e))
              refine V.eq (st' := [vi (lo x.toNat)]) rfl ?_
              refine v_iret E hE dX4_interval_78 ?_
              have hR : opIv S many lv lo hi x q = (lo x.toNat, 0, S) := by
                first
                  | (exfalso; omega)
                  | (unfold opIv; rw [if_pos (by omega), if_pos (by omega), if_neg (by omega), if_pos (by omega)])
              rw [hR]; exact ⟨rfl, P, _, _, _, _, eq7.rfl', hB_88⟩
          · refine v_aload_n E 0 rfl dX4_interval_45 ?_
            refine v_getf E in_X4 hB_12.ho (ci := 3) rfl 22 (by decide) q1782 rfl (v := .ref a1) rfl dX4_interval_46 ?_
            refine v_iload_n E 1 rfl dX4_interval_49 ?_
            refine v_iald E dX4_interval_50 hv_8 x.toNat (by omega) (by omega) (by omega) ?_
            refine v_goto E (tgt := 75) dX4_interval_51 (by decide) ?_
            refine v_callV E (As := [vi (lv x.toNat)]) (b := (ad 3002)) (ci := 3) (C := RX4) (T := TX4) (N := 27) hB_12.ho rfl (m_tells κ H_3 hI hB_12) (lw_V q1864 q1866 qs48 q82 q1867) 1 (by decide +kernel) rfl (by decide) (by decide) (cb' := 0) (sb' := 0) (by decide) (by decide) rfl (rest := []) (Nat.le_of_ble_eq_true rfl) hAll dX4_interval_75 (fun v_93 H_94 hpost_95 hz_96 hk_97 => ?_)
            clear hz_96
            obtain ⟨rfl, hB_98⟩ := hpost_95
            have hv_99 := hv_8.kept (hk_97 _ hv_8.lt (fun ⟨i, u, e⟩ => (hap i u).1 e))
            have hv_100 := hv_9.kept (hk_97 _ hv_9.lt (fun ⟨i, u, e⟩ => (hap i u).2.1 e))
            have hv_101 := hv_10.kept (hk_97 _ hv_10.lt (fun ⟨i, u, e⟩ => (hap i u).2.2.1 e))
            have hv_102 := hv_11.kept (hk_97 _ hv_11.lt (fun ⟨i, u, e⟩ => (hap i u).2.2.2 e))
            refine V.eq (st' := [vi (lv x.toNat)]) rfl ?_
            refine v_iret E hE dX4_interval_78 ?_
            have hR : opIv S many lv lo hi x q = (lv x.toNat, 0, S) := by
              first
                | (exfalso; omega)
                | (unfold opIv; rw [if_pos (by omega), if_pos (by omega), if_pos (by omega)])
            rw [hR]; exact ⟨rfl, P, _, _, _, _, eq7.rfl', hB_98⟩
        · refine v_aload_n E 0 rfl dX4_interval_32 ?_
          refine v_iconst E dX4_interval_33 ?_
          refine v_callV E (As := [vi 2]) (b := (ad 3002)) (ci := 3) (C := RX4) (T := TX4) (N := 27) hB_12.ho rfl (m_fails κ H_3 hI hB_12) (lw_V q1857 q1859 qs47 q82 q1860) 1 (by decide +kernel) rfl (by decide) (by decide) (cb' := 0) (sb' := 0) (by decide) (by decide) rfl (rest := []) (Nat.le_of_ble_eq_true rfl) hAll dX4_interval_34 (fun v_103 H_104 hpost_105 hz_106 hk_107 => ?_)
          clear hz_106
          obtain ⟨rfl, hB_108⟩ := hpost_105
          have hv_109 := hv_8.kept (hk_107 _ hv_8.lt (fun ⟨i, u, e⟩ => (hap i u).1 e))
          have hv_110 := hv_9.kept (hk_107 _ hv_9.lt (fun ⟨i, u, e⟩ => (hap i u).2.1 e))
          have hv_111 := hv_10.kept (hk_107 _ hv_10.lt (fun ⟨i, u, e⟩ => (hap i u).2.2.1 e))
          have hv_112 := hv_11.kept (hk_107 _ hv_11.lt (fun ⟨i, u, e⟩ => (hap i u).2.2.2 e))
          refine V.eq (st' := [vi 0]) rfl ?_
          refine v_iret E hE dX4_interval_37 ?_
          have hR : opIv S many lv lo hi x q = (0, 2, S) := by
            first
              | (exfalso; omega)
              | (unfold opIv; rw [if_pos (by omega), if_neg (by omega)])
          rw [hR]; exact ⟨rfl, P, _, _, _, _, eq7.rfl', hB_108⟩
  · refine v_aload_n E 0 rfl dX4_interval_8 ?_
    refine v_iconst E dX4_interval_9 ?_
    refine v_callV E (As := [vi 1]) (b := (ad 3002)) (ci := 3) (C := RX4) (T := TX4) (N := 27) hB_12.ho rfl (m_fails κ H_3 hI hB_12) (lw_V q1857 q1859 qs47 q82 q1860) 1 (by decide +kernel) rfl (by decide) (by decide) (cb' := 0) (sb' := 0) (by decide) (by decide) rfl (rest := []) (Nat.le_of_ble_eq_true rfl) hAll dX4_interval_10 (fun v_113 H_114 hpost_115 hz_116 hk_117 => ?_)
    clear hz_116
    obtain ⟨rfl, hB_118⟩ := hpost_115
    have hv_119 := hv_8.kept (hk_117 _ hv_8.lt (fun ⟨i, u, e⟩ => (hap i u).1 e))
    have hv_120 := hv_9.kept (hk_117 _ hv_9.lt (fun ⟨i, u, e⟩ => (hap i u).2.1 e))
    have hv_121 := hv_10.kept (hk_117 _ hv_10.lt (fun ⟨i, u, e⟩ => (hap i u).2.2.1 e))
    have hv_122 := hv_11.kept (hk_117 _ hv_11.lt (fun ⟨i, u, e⟩ => (hap i u).2.2.2 e))
    refine V.eq (st' := [vi 0]) rfl ?_
    refine v_iret E hE dX4_interval_13 ?_
    have hR : opIv S many lv lo hi x q = (0, 1, S) := by
      first
        | (exfalso; omega)
        | (unfold opIv; rw [if_neg (by omega)])
    rw [hR]; exact ⟨rfl, P, _, _, _, _, eq7.rfl', hB_118⟩
