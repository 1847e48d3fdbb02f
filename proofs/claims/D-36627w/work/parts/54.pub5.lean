set_option maxHeartbeats 400000 in
set_option maxRecDepth 100000 in
/-- is it a point -/
theorem m_isPoint (κ : zK) (H0 : Heap) {n k : Int} (hn : rI n) (hk : rI k) : Mt κ yX4_isPoint cX4_isPoint 2 (some .boolean) 1 22 0 0 H0 [vi n, vi k] (fun _ => False) (fun v H1 => v = some (vi (if (-1000000 ≤ n ∧ n ≤ 1000000) ∧ (0 ≤ k ∧ k ≤ 12) then 1 else 0))) := by
  refine Mt.of (by decide) (Nat.le_of_ble_eq_true rfl) ?_
  intro z E hE hH0 hA0 hL hini
  have hAll : ∀ q, (fun _ => False) q → zA z.A z.H0 q := fun q h => Or.inl (by rw [hA0]; exact h)
  have hNew : ∀ q, H0.size ≤ q → zA z.A z.H0 q := fun q h => Or.inr (by rw [hH0]; exact h)
  have E : zOK z cX4_isPoint RX4 κ 1 22 (some .boolean) := E
  refine V.eqL (lv' := [(0, vi n), (1, vi k)]) rfl ?_
  refine v_iload_n E 0 rfl dX4_isPoint_0 ?_
  refine v_ldcw E q2043 dX4_isPoint_1 ?_
  refine V.eq (st' := vi (-1000000) :: _) rfl ?_
  refine v_ldcw E q2044 dX4_isPoint_4 ?_
  refine V.eq (st' := vi 1000000 :: _) rfl ?_
  refine v_callS E (As := [vi n, vi (-1000000), vi 1000000]) (m_in κ H0 (by first | assumption | decide | exact ⟨by omega, by omega⟩) (by first | assumption | decide | exact ⟨by omega, by omega⟩) (by first | assumption | decide | exact ⟨by omega, by omega⟩)) (lw_S q1854 q1855 q82 q1856) 3 (by decide +kernel) rfl (by decide) (by decide) (cb' := 0) (sb' := 0) (by decide) (by decide) rfl (rest := []) (Nat.le_of_ble_eq_true rfl) (fun q h => h.elim) dX4_isPoint_7 (fun v_2 H_3 hpost_4 hz_5 hk_6 => ?_)
  clear hz_5
  obtain rfl := hpost_4
  obtain ⟨b_1, hb_7, hb_7e⟩ : ∃ b9 : Int, (b9 = 0 ∧ ¬ ((-1000000) ≤ n ∧ n ≤ 1000000) ∨ b9 = 1 ∧ ((-1000000) ≤ n ∧ n ≤ 1000000)) ∧ (if (-1000000) ≤ n ∧ n ≤ 1000000 then 1 else 0 : Int) = b9 := by
    by_cases c : (-1000000) ≤ n ∧ n ≤ 1000000
    · exact ⟨1, Or.inr ⟨rfl, c⟩, if_pos c⟩
    · exact ⟨0, Or.inl ⟨rfl, c⟩, if_neg c⟩
  refine V.eq (st' := [vi b_1]) (by rw [hb_7e]; rfl) ?_
  refine v_if_eq E (tgt := 27) dX4_isPoint_10 (by decide) ⟨by omega, by omega⟩ (fun c_10 => ?_) (fun c_10 => ?_)
  · refine v_iconst E dX4_isPoint_27 ?_
    refine v_zret E hE dX4_isPoint_28 rfl ?_
    rw [if_neg (by omega)]
  · refine v_iload_n E 1 rfl dX4_isPoint_13 ?_
    refine v_iconst E dX4_isPoint_14 ?_
    refine v_bipush E ⟨by decide, by decide⟩ dX4_isPoint_15 ?_
    refine v_callS E (As := [vi k, vi 0, vi 12]) (m_in κ H_3 (by first | assumption | decide | exact ⟨by omega, by omega⟩) (by first | assumption | decide | exact ⟨by omega, by omega⟩) (by first | assumption | decide | exact ⟨by omega, by omega⟩)) (lw_S q1854 q1855 q82 q1856) 3 (by decide +kernel) rfl (by decide) (by decide) (cb' := 0) (sb' := 0) (by decide) (by decide) rfl (rest := []) (Nat.le_of_ble_eq_true rfl) (fun q h => h.elim) dX4_isPoint_17 (fun v_9 H_10 hpost_11 hz_12 hk_13 => ?_)
    clear hz_12
    obtain rfl := hpost_11
    obtain ⟨b_8, hb_14, hb_14e⟩ : ∃ b9 : Int, (b9 = 0 ∧ ¬ (0 ≤ k ∧ k ≤ 12) ∨ b9 = 1 ∧ (0 ≤ k ∧ k ≤ 12)) ∧ (if 0 ≤ k ∧ k ≤ 12 then 1 else 0 : Int) = b9 := by
      by_cases c : 0 ≤ k ∧ k ≤ 12
      · exact ⟨1, Or.inr ⟨rfl, c⟩, if_pos c⟩
      · exact ⟨0, Or.inl ⟨rfl, c⟩, if_neg c⟩
    refine V.eq (st' := [vi b_8]) (by rw [hb_14e]; rfl) ?_
    refine v_if_eq E (tgt := 27) dX4_isPoint_20 (by decide) ⟨by omega, by omega⟩ (fun c_20 => ?_) (fun c_20 => ?_)
    · refine v_iconst E dX4_isPoint_27 ?_
      refine v_zret E hE dX4_isPoint_28 rfl ?_
      rw [if_neg (by omega)]
    · refine v_iconst E dX4_isPoint_23 ?_
      refine v_goto E (tgt := 28) dX4_isPoint_24 (by decide) ?_
      refine v_zret E hE dX4_isPoint_28 rfl ?_
      rw [if_pos (by omega)]

set_option maxHeartbeats 400000 in
set_option maxRecDepth 100000 in
/-- the length of the row -/
theorem m_opLen (κ : zK) (H0 : Heap) {ad : Nat → Nat} {P : Nat → Nat → Int} {f g mk : Nat → Int} {S : Nat → Nat → Int} {K : Nat → Int} {thr len many : Int} {a1 a2 a3 a4 : Nat} {a : Int} (ha : rI a) (hS : bS S) (hfit : (0 ≤ a ∧ a < 5) → 0 ≤ pdeg (S a.toNat) → okRow (S a.toNat)) (hI : Inj ad) (hB : MB κ ad P f g mk S K thr len many a1 a2 a3 a4 H0) : Mt κ yX4_sturmLength cX4_sturmLength 2 (some .int) 6 137 0 0 H0 [.ref (ad 3002), vi a] (AH ad) (fun v H1 => v = some (vi (opLen S a).1) ∧ ∃ (P1 : Nat → Nat → Int) (f1 g1 mk1 : Nat → Int) (len1 : Int), eq7 (P1 7) (P 7) ∧ MB κ ad P1 f1 g1 mk1 ((opLen S a).2.2) K ((opLen S a).2.1) len1 many a1 a2 a3 a4 H1) := by
  refine Mt.of (by decide) (Nat.le_of_ble_eq_true rfl) ?_
  intro z E hE hH0 hA0 hL hini
  have hAll : ∀ q, (AH ad) q → zA z.A z.H0 q := fun q h => Or.inl (by rw [hA0]; exact h)
  have hNew : ∀ q, H0.size ≤ q → zA z.A z.H0 q := fun q h => Or.inr (by rw [hH0]; exact h)
  have E : zOK z cX4_sturmLength RX4 κ 6 137 (some .int) := E
  refine V.eqL (lv' := [(0, .ref (ad 3002)), (1, vi a)]) rfl ?_
  refine v_iload_n E 1 rfl dX4_sturmLength_0 ?_
  refine v_callS E (As := [vi a]) (m_isSlot κ H0 (by first | assumption | decide | exact ⟨by omega, by omega⟩)) (lw_S q1851 q1852 q82 q1853) 1 (by decide +kernel) rfl (by decide) (by decide) (cb' := 0) (sb' := 0) (by decide) (by decide) rfl (rest := []) (Nat.le_of_ble_eq_true rfl) (fun q h => h.elim) dX4_sturmLength_1 (fun v_2 H_3 hpost_4 hz_5 hk_6 => ?_)
  clear hz_5
  obtain rfl := hpost_4
  obtain ⟨b_1, hb_7, hb_7e⟩ : ∃ b9 : Int, (b9 = 0 ∧ ¬ (0 ≤ a ∧ a < 5) ∨ b9 = 1 ∧ (0 ≤ a ∧ a < 5)) ∧ (if 0 ≤ a ∧ a < 5 then 1 else 0 : Int) = b9 := by
    by_cases c : 0 ≤ a ∧ a < 5
    · exact ⟨1, Or.inr ⟨rfl, c⟩, if_pos c⟩
    · exact ⟨0, Or.inl ⟨rfl, c⟩, if_neg c⟩
  have hB_8 : MB κ ad P f g mk S K thr len many a1 a2 a3 a4 H_3 := hB.nil hk_6
  refine V.eq (st' := [vi b_1]) (by rw [hb_7e]; rfl) ?_
  refine v_if_ne E (tgt := 13) dX4_sturmLength_4 (by decide) ⟨by omega, by omega⟩ (fun c_4 => ?_) (fun c_4 => ?_)
  · refine v_aload_n E 0 rfl dX4_sturmLength_13 ?_
    refine v_iload_n E 1 rfl dX4_sturmLength_14 ?_
    refine v_callV E (As := [vi a]) (b := (ad 3002)) (ci := 3) (C := RX4) (T := TX4) (N := 27) hB_8.ho rfl (m_isZero κ H_3 (by omega) hS hI hB_8) (lw_V q2006 q2008 qs57 q82 q2009) 1 (by decide +kernel) rfl (by decide) (by decide) (cb' := 0) (sb' := 0) (by decide) (by decide) rfl (rest := []) (Nat.le_of_ble_eq_true rfl) (fun q h => h.elim) dX4_sturmLength_15 (fun v_10 H_11 hpost_12 hz_13 hk_14 => ?_)
    clear hz_13
    obtain rfl := hpost_12
    obtain ⟨b_9, hb_15, hb_15e⟩ : ∃ b9 : Int, (b9 = 0 ∧ ¬ (pdeg (S a.toNat) < 0) ∨ b9 = 1 ∧ (pdeg (S a.toNat) < 0)) ∧ (if pdeg (S a.toNat) < 0 then 1 else 0 : Int) = b9 := by
      by_cases c : pdeg (S a.toNat) < 0
      · exact ⟨1, Or.inr ⟨rfl, c⟩, if_pos c⟩
      · exact ⟨0, Or.inl ⟨rfl, c⟩, if_neg c⟩
    have hB_16 : MB κ ad P f g mk S K thr len many a1 a2 a3 a4 H_11 := hB_8.nil hk_14
    refine V.eq (st' := [vi b_9]) (by rw [hb_15e]; rfl) ?_
    refine v_if_eq E (tgt := 27) dX4_sturmLength_18 (by decide) ⟨by omega, by omega⟩ (fun c_18 => ?_) (fun c_18 => ?_)
    · refine v_aload_n E 0 rfl dX4_sturmLength_27 ?_
      refine v_iload_n E 1 rfl dX4_sturmLength_28 ?_
      refine V.topi (x' := ((a.toNat : Nat) : Int)) (congrArg iZ (by omega)) ?_
      have hok := hfit (by omega) (by omega)
      refine v_callV E (As := [vi ((a.toNat : Nat) : Int)]) (b := (ad 3002)) (ci := 3) (C := RX4) (T := TX4) (N := 27) hB_16.ho rfl (m_findRow κ H_11 (sl := a.toNat) (by omega) (hS.rI (by omega)) hI hB_16.ms hB_16.ns hB_16.ho hB_16.sl hok.1 hok.2) (lw_V q2024 q2026 qs59 q82 q2027) 1 (by decide +kernel) rfl (by decide) (by decide) (cb' := 0) (sb' := 0) (by decide) (by decide) rfl (rest := []) (Nat.le_of_ble_eq_true rfl) (fun q h => hAll q (AH.R q h)) dX4_sturmLength_29 (fun v_17 H_18 hpost_19 hz_20 hk_21 => ?_)
      clear hz_20
      obtain ⟨rfl, L, P1, f1, hrow, hP8, hPo, _, hN9, ho9, _⟩ := hpost_19
      have hlen := hrow.len
      have hL7 := hrow.2.1
      have hL1 := hrow.1
      have hB_22 : MB κ ad P1 f1 g mk S K thr (L : Int) many a1 a2 a3 a4 H_18 := hB_16.row hI hk_21 hN9 ho9
      refine V.eq (st' := []) rfl ?_
      refine v_aload_n E 0 rfl dX4_sturmLength_32 ?_
      refine v_aload_n E 0 rfl dX4_sturmLength_33 ?_
      refine v_getf E in_X4 hB_22.ho (ci := 3) rfl 19 (by decide) q1779 rfl (v := vi (L : Int)) rfl dX4_sturmLength_34 ?_
      refine v_callV E (As := [vi (L : Int)]) (b := (ad 3002)) (ci := 3) (C := RX4) (T := TX4) (N := 27) hB_22.ho rfl (m_tells κ H_18 hI hB_22) (lw_V q1864 q1866 qs48 q82 q1867) 1 (by decide +kernel) rfl (by decide) (by decide) (cb' := 0) (sb' := 0) (by decide) (by decide) rfl (rest := []) (Nat.le_of_ble_eq_true rfl) hAll dX4_sturmLength_37 (fun v_23 H_24 hpost_25 hz_26 hk_27 => ?_)
      clear hz_26
      obtain ⟨rfl, hB_28⟩ := hpost_25
      refine V.eq (st' := [vi (L : Int)]) rfl ?_
      refine v_iret E hE dX4_sturmLength_40 ?_
      have hR : opLen S a = ((L : Int), 0, S) := by unfold opLen; rw [if_pos (by omega), if_neg (by omega), hlen]
      rw [hR]; exact ⟨rfl, P1, _, _, _, _, ((hPo 7 (by decide) (by decide) (by decide)).trans bk_get), hB_28⟩
    · refine v_aload_n E 0 rfl dX4_sturmLength_21 ?_
      refine v_iconst E dX4_sturmLength_22 ?_
      refine v_callV E (As := [vi 2]) (b := (ad 3002)) (ci := 3) (C := RX4) (T := TX4) (N := 27) hB_16.ho rfl (m_fails κ H_11 hI hB_16) (lw_V q1857 q1859 qs47 q82 q1860) 1 (by decide +kernel) rfl (by decide) (by decide) (cb' := 0) (sb' := 0) (by decide) (by decide) rfl (rest := []) (Nat.le_of_ble_eq_true rfl) hAll dX4_sturmLength_23 (fun v_29 H_30 hpost_31 hz_32 hk_33 => ?_)
      clear hz_32
      obtain ⟨rfl, hB_34⟩ := hpost_31
      refine V.eq (st' := [vi 0]) rfl ?_
      refine v_iret E hE dX4_sturmLength_26 ?_
      have hR : opLen S a = (0, 2, S) := by unfold opLen; rw [if_pos (by omega), if_pos (by omega)]
      rw [hR]; exact ⟨rfl, P, _, _, _, _, eq7.rfl', hB_34⟩
  · refine v_aload_n E 0 rfl dX4_sturmLength_7 ?_
    refine v_iconst E dX4_sturmLength_8 ?_
    refine v_callV E (As := [vi 1]) (b := (ad 3002)) (ci := 3) (C := RX4) (T := TX4) (N := 27) hB_8.ho rfl (m_fails κ H_3 hI hB_8) (lw_V q1857 q1859 qs47 q82 q1860) 1 (by decide +kernel) rfl (by decide) (by decide) (cb' := 0) (sb' := 0) (by decide) (by decide) rfl (rest := []) (Nat.le_of_ble_eq_true rfl) hAll dX4_sturmLength_9 (fun v_35 H_36 hpost_37 hz_38 hk_39 => ?_)
    clear hz_38
    obtain ⟨rfl, hB_40⟩ := hpost_37
    refine V.eq (st' := [vi 0]) rfl ?_
    refine v_iret E hE dX4_sturmLength_12 ?_
    have hR : opLen S a = (0, 1, S) := by unfold opLen; rw [if_neg (by omega)]
    rw [hR]; exact ⟨rfl, P, _, _, _, _, eq7.rfl', hB_40⟩

set_option maxHeartbeats 400000 in
set_option maxRecDepth 100000 in
/-- the degree of a member of the row -/
theorem m_opSdeg (κ : zK) (H0 : Heap) {ad : Nat → Nat} {P : Nat → Nat → Int} {f g mk : Nat → Int} {S : Nat → Nat → Int} {K : Nat → Int} {thr len many : Int} {a1 a2 a3 a4 : Nat} {a i : Int} (ha : rI a) (hi : rI i) (hS : bS S) (hfit : (0 ≤ a ∧ a < 5) → 0 ≤ pdeg (S a.toNat) → okRow (S a.toNat)) (hI : Inj ad) (hB : MB κ ad P f g mk S K thr len many a1 a2 a3 a4 H0) : Mt κ yX4_sturmDegree cX4_sturmDegree 3 (some .int) 6 137 0 0 H0 [.ref (ad 3002), vi a, vi i] (AH ad) (fun v H1 => v = some (vi (opSdeg S a i).1) ∧ ∃ (P1 : Nat → Nat → Int) (f1 g1 mk1 : Nat → Int) (len1 : Int), eq7 (P1 7) (P 7) ∧ MB κ ad P1 f1 g1 mk1 ((opSdeg S a i).2.2) K ((opSdeg S a i).2.1) len1 many a1 a2 a3 a4 H1) := by
  refine Mt.of (by decide) (Nat.le_of_ble_eq_true rfl) ?_
  intro z E hE hH0 hA0 hL hini
  have hAll : ∀ q, (AH ad) q → zA z.A z.H0 q := fun q h => Or.inl (by rw [hA0]; exact h)
  have hNew : ∀ q, H0.size ≤ q → zA z.A z.H0 q := fun q h => Or.inr (by rw [hH0]; exact h)
  have E : zOK z cX4_sturmDegree RX4 κ 6 137 (some .int) := E
  refine V.eqL (lv' := [(0, .ref (ad 3002)), (1, vi a), (2, vi i)]) rfl ?_
  refine v_iload_n E 1 rfl dX4_sturmDegree_0 ?_
  refine v_callS E (As := [vi a]) (m_isSlot κ H0 (by first | assumption | decide | exact ⟨by omega, by omega⟩)) (lw_S q1851 q1852 q82 q1853) 1 (by decide +kernel) rfl (by decide) (by decide) (cb' := 0) (sb' := 0) (by decide) (by decide) rfl (rest := []) (Nat.le_of_ble_eq_true rfl) (fun q h => h.elim) dX4_sturmDegree_1 (fun v_2 H_3 hpost_4 hz_5 hk_6 => ?_)
  clear hz_5
  obtain rfl := hpost_4
  obtain ⟨b_1, hb_7, hb_7e⟩ : ∃ b9 : Int, (b9 = 0 ∧ ¬ (0 ≤ a ∧ a < 5) ∨ b9 = 1 ∧ (0 ≤ a ∧ a < 5)) ∧ (if 0 ≤ a ∧ a < 5 then 1 else 0 : Int) = b9 := by
    by_cases c : 0 ≤ a ∧ a < 5
    · exact ⟨1, Or.inr ⟨rfl, c⟩, if_pos c⟩
    · exact ⟨0, Or.inl ⟨rfl, c⟩, if_neg c⟩
  have hB_8 : MB κ ad P f g mk S K thr len many a1 a2 a3 a4 H_3 := hB.nil hk_6
  refine V.eq (st' := [vi b_1]) (by rw [hb_7e]; rfl) ?_
  refine v_if_ne E (tgt := 13) dX4_sturmDegree_4 (by decide) ⟨by omega, by omega⟩ (fun c_4 => ?_) (fun c_4 => ?_)
  · refine v_aload_n E 0 rfl dX4_sturmDegree_13 ?_
    refine v_iload_n E 1 rfl dX4_sturmDegree_14 ?_
    refine v_callV E (As := [vi a]) (b := (ad 3002)) (ci := 3) (C := RX4) (T := TX4) (N := 27) hB_8.ho rfl (m_isZero κ H_3 (by omega) hS hI hB_8) (lw_V q2006 q2008 qs57 q82 q2009) 1 (by decide +kernel) rfl (by decide) (by decide) (cb' := 0) (sb' := 0) (by decide) (by decide) rfl (rest := []) (Nat.le_of_ble_eq_true rfl) (fun q h => h.elim) dX4_sturmDegree_15 (fun v_10 H_11 hpost_12 hz_13 hk_14 => ?_)
    clear hz_13
    obtain rfl := hpost_12
    obtain ⟨b_9, hb_15, hb_15e⟩ : ∃ b9 : Int, (b9 = 0 ∧ ¬ (pdeg (S a.toNat) < 0) ∨ b9 = 1 ∧ (pdeg (S a.toNat) < 0)) ∧ (if pdeg (S a.toNat) < 0 then 1 else 0 : Int) = b9 := by
      by_cases c : pdeg (S a.toNat) < 0
      · exact ⟨1, Or.inr ⟨rfl, c⟩, if_pos c⟩
      · exact ⟨0, Or.inl ⟨rfl, c⟩, if_neg c⟩
    have hB_16 : MB κ ad P f g mk S K thr len many a1 a2 a3 a4 H_11 := hB_8.nil hk_14
    refine V.eq (st' := [vi b_9]) (by rw [hb_15e]; rfl) ?_
    refine v_if_eq E (tgt := 27) dX4_sturmDegree_18 (by decide) ⟨by omega, by omega⟩ (fun c_18 => ?_) (fun c_18 => ?_)
    · refine v_aload_n E 0 rfl dX4_sturmDegree_27 ?_
      refine v_iload_n E 1 rfl dX4_sturmDegree_28 ?_
      refine V.topi (x' := ((a.toNat : Nat) : Int)) (congrArg iZ (by omega)) ?_
      have hok := hfit (by omega) (by omega)
      refine v_callV E (As := [vi ((a.toNat : Nat) : Int)]) (b := (ad 3002)) (ci := 3) (C := RX4) (T := TX4) (N := 27) hB_16.ho rfl (m_findRow κ H_11 (sl := a.toNat) (by omega) (hS.rI (by omega)) hI hB_16.ms hB_16.ns hB_16.ho hB_16.sl hok.1 hok.2) (lw_V q2024 q2026 qs59 q82 q2027) 1 (by decide +kernel) rfl (by decide) (by decide) (cb' := 0) (sb' := 0) (by decide) (by decide) rfl (rest := []) (Nat.le_of_ble_eq_true rfl) (fun q h => hAll q (AH.R q h)) dX4_sturmDegree_29 (fun v_17 H_18 hpost_19 hz_20 hk_21 => ?_)
      clear hz_20
      obtain ⟨rfl, L, P1, f1, hrow, hP8, hPo, _, hN9, ho9, _⟩ := hpost_19
      have hlen := hrow.len
      have hL7 := hrow.2.1
      have hL1 := hrow.1
      have hB_22 : MB κ ad P1 f1 g mk S K thr (L : Int) many a1 a2 a3 a4 H_18 := hB_16.row hI hk_21 hN9 ho9
      refine V.eq (st' := []) rfl ?_
      refine v_iload_n E 2 rfl dX4_sturmDegree_32 ?_
      refine v_iconst E dX4_sturmDegree_33 ?_
      refine v_aload_n E 0 rfl dX4_sturmDegree_34 ?_
      refine v_getf E in_X4 hB_22.ho (ci := 3) rfl 19 (by decide) q1779 rfl (v := vi (L : Int)) rfl dX4_sturmDegree_35 ?_
      refine v_iconst E dX4_sturmDegree_38 ?_
      refine v_isub E dX4_sturmDegree_39 ?_
      refine v_callS E (As := [vi i, vi 0, vi ((L : Int) - 1)]) (m_in κ H_18 (by first | assumption | decide | exact ⟨by omega, by omega⟩) (by first | assumption | decide | exact ⟨by omega, by omega⟩) (by first | assumption | decide | exact ⟨by omega, by omega⟩)) (lw_S q1854 q1855 q82 q1856) 3 (by decide +kernel) rfl (by decide) (by decide) (cb' := 0) (sb' := 0) (by decide) (by decide) rfl (rest := []) (Nat.le_of_ble_eq_true rfl) (fun q h => h.elim) dX4_sturmDegree_40 (fun v_24 H_25 hpost_26 hz_27 hk_28 => ?_)
      clear hz_27
      obtain rfl := hpost_26
      obtain ⟨b_23, hb_29, hb_29e⟩ : ∃ b9 : Int, (b9 = 0 ∧ ¬ (0 ≤ i ∧ i ≤ (L : Int) - 1) ∨ b9 = 1 ∧ (0 ≤ i ∧ i ≤ (L : Int) - 1)) ∧ (if 0 ≤ i ∧ i ≤ (L : Int) - 1 then 1 else 0 : Int) = b9 := by
        by_cases c : 0 ≤ i ∧ i ≤ (L : Int) - 1
        · exact ⟨1, Or.inr ⟨rfl, c⟩, if_pos c⟩
        · exact ⟨0, Or.inl ⟨rfl, c⟩, if_neg c⟩
      have hB_30 : MB κ ad P1 f1 g mk S K thr (L : Int) many a1 a2 a3 a4 H_25 := hB_22.nil hk_28
      refine V.eq (st' := [vi b_23]) (by rw [hb_29e]; rfl) ?_
      refine v_if_eq E (tgt := 62) dX4_sturmDegree_43 (by decide) ⟨by omega, by omega⟩ (fun c_43 => ?_) (fun c_43 => ?_)
      · refine v_aload_n E 0 rfl dX4_sturmDegree_62 ?_
        refine v_iconst E dX4_sturmDegree_63 ?_
        refine v_callV E (As := [vi 3]) (b := (ad 3002)) (ci := 3) (C := RX4) (T := TX4) (N := 27) hB_30.ho rfl (m_fails κ H_25 hI hB_30) (lw_V q1857 q1859 qs47 q82 q1860) 1 (by decide +kernel) rfl (by decide) (by decide) (cb' := 0) (sb' := 0) (by decide) (by decide) rfl (rest := []) (Nat.le_of_ble_eq_true rfl) hAll dX4_sturmDegree_64 (fun v_31 H_32 hpost_33 hz_34 hk_35 => ?_)
        clear hz_34
        obtain ⟨rfl, hB_36⟩ := hpost_33
        refine V.eq (st' := [vi 0]) rfl ?_
        refine v_iret E hE dX4_sturmDegree_67 ?_
        have hR : opSdeg S a i = (0, 3, S) := by unfold opSdeg; rw [if_pos (by omega), if_neg (by omega), if_neg (by omega)]
        rw [hR]; exact ⟨rfl, P1, _, _, _, _, ((hPo 7 (by decide) (by decide) (by decide)).trans bk_get), hB_36⟩
      · refine v_aload_n E 0 rfl dX4_sturmDegree_46 ?_
        refine v_aload_n E 0 rfl dX4_sturmDegree_47 ?_
        refine v_getf E in_X4 hB_30.ho (ci := 3) rfl 18 (by decide) q1778 rfl (v := .ref (ad 3000)) rfl dX4_sturmDegree_48 ?_
        refine v_iload_n E 2 rfl dX4_sturmDegree_51 ?_
        refine v_aaldS E dX4_sturmDegree_52 (hB_30.ms).2.1 (t := 4) (ty := (.array (.array .int))) rfl rfl i.toNat (by omega) (by omega) (by omega) (b := (ad (2000 + (8 + i.toNat)))) (congrArg (fun q => some (ad q)) (by omega)) ?_
        have hgi : eq7 (pget (bk P1 f1) (8 + i.toNat)) (rsq (S a.toNat) i.toNat) := bk_get.trans (hP8 i.toNat (by omega))
        refine v_callS E (As := [.ref (ad (2000 + (8 + i.toNat)))]) (m_pdeg κ H_25 (j := 8 + i.toNat) (by omega) hI hB_30.ms hB_30.ns (pS_congr hgi.symm (rsq_pS hok.1 hrow.2.2.1 i.toNat (by omega))).N) (lw_S q1928 q1929 q82 q1930) 1 (by decide +kernel) rfl (by decide) (by decide) (cb' := 0) (sb' := 0) (by decide) (by decide) rfl (rest := [.ref (ad 3002)]) (Nat.le_of_ble_eq_true rfl) (fun q h => h.elim) dX4_sturmDegree_53 (fun v_37 H_38 hpost_39 hz_40 hk_41 => ?_)
        clear hz_40
        obtain rfl := hpost_39
        have hB_42 : MB κ ad P1 f1 g mk S K thr (L : Int) many a1 a2 a3 a4 H_38 := hB_30.nil hk_41
        refine V.eq (st' := [vi (pdeg (pget (bk P1 f1) (8 + i.toNat))), .ref (ad 3002)]) rfl ?_
        refine v_callV E (As := [vi (pdeg (pget (bk P1 f1) (8 + i.toNat)))]) (b := (ad 3002)) (ci := 3) (C := RX4) (T := TX4) (N := 27) hB_42.ho rfl (m_tells κ H_38 hI hB_42) (lw_V q1864 q1866 qs48 q82 q1867) 1 (by decide +kernel) rfl (by decide) (by decide) (cb' := 0) (sb' := 0) (by decide) (by decide) rfl (rest := []) (Nat.le_of_ble_eq_true rfl) hAll dX4_sturmDegree_56 (fun v_43 H_44 hpost_45 hz_46 hk_47 => ?_)
        clear hz_46
        obtain ⟨rfl, hB_48⟩ := hpost_45
        refine V.eq (st' := [vi (pdeg (pget (bk P1 f1) (8 + i.toNat)))]) rfl ?_
        refine v_goto E (tgt := 67) dX4_sturmDegree_59 (by decide) ?_
        refine v_iret E hE dX4_sturmDegree_67 ?_
        have hR : opSdeg S a i = (pdeg (pget (bk P1 f1) (8 + i.toNat)), 0, S) := by unfold opSdeg; rw [if_pos (by omega), if_neg (by omega), if_pos (by omega), ← hgi.deg]
        rw [hR]; exact ⟨rfl, P1, _, _, _, _, ((hPo 7 (by decide) (by decide) (by decide)).trans bk_get), hB_48⟩
    · refine v_aload_n E 0 rfl dX4_sturmDegree_21 ?_
      refine v_iconst E dX4_sturmDegree_22 ?_
      refine v_callV E (As := [vi 2]) (b := (ad 3002)) (ci := 3) (C := RX4) (T := TX4) (N := 27) hB_16.ho rfl (m_fails κ H_11 hI hB_16) (lw_V q1857 q1859 qs47 q82 q1860) 1 (by decide +kernel) rfl (by decide) (by decide) (cb' := 0) (sb' := 0) (by decide) (by decide) rfl (rest := []) (Nat.le_of_ble_eq_true rfl) hAll dX4_sturmDegree_23 (fun v_49 H_50 hpost_51 hz_52 hk_53 => ?_)
      clear hz_52
      obtain ⟨rfl, hB_54⟩ := hpost_51
      refine V.eq (st' := [vi 0]) rfl ?_
      refine v_iret E hE dX4_sturmDegree_26 ?_
      have hR : opSdeg S a i = (0, 2, S) := by unfold opSdeg; rw [if_pos (by omega), if_pos (by omega)]
      rw [hR]; exact ⟨rfl, P, _, _, _, _, eq7.rfl', hB_54⟩
  · refine v_aload_n E 0 rfl dX4_sturmDegree_7 ?_
    refine v_iconst E dX4_sturmDegree_8 ?_
    refine v_callV E (As := [vi 1]) (b := (ad 3002)) (ci := 3) (C := RX4) (T := TX4) (N := 27) hB_8.ho rfl (m_fails κ H_3 hI hB_8) (lw_V q1857 q1859 qs47 q82 q1860) 1 (by decide +kernel) rfl (by decide) (by decide) (cb' := 0) (sb' := 0) (by decide) (by decide) rfl (rest := []) (Nat.le_of_ble_eq_true rfl) hAll dX4_sturmDegree_9 (fun v_55 H_56 hpost_57 hz_58 hk_59 => ?_)
    clear hz_58
    obtain ⟨rfl, hB_60⟩ := hpost_57
    refine V.eq (st' := [vi 0]) rfl ?_
    refine v_iret E hE dX4_sturmDegree_12 ?_
    have hR : opSdeg S a i = (0, 1, S) := by unfold opSdeg; rw [if_neg (by omega)]
    rw [hR]; exact ⟨rfl, P, _, _, _, _, eq7.rfl', hB_60⟩
