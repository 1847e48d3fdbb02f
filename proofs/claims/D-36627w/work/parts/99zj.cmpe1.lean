/-! THE COMPONENT: checksum -/
def xkI (c : Nat → Int) : Nat → Int → Int
  | 0, s => s
  | k + 1, s => 31 * xkI c k s + c k
def xkR (S : Nat → Pl) : Nat → Int → Int
  | 0, s => s
  | i + 1, s => xkI (S i).2 7 (xkR S i s)
def xkV (iv : Nat → Ivl) : Nat → Int → Int
  | 0, s => s
  | k + 1, s => 31 * (31 * (31 * (31 * xkV iv k s + (iv k).1) + (iv k).2.1) + (iv k).2.2.1) + (iv k).2.2.2
set_option maxHeartbeats 1000000 in
set_option maxRecDepth 100000 in
/-- checksum -/
theorem c_ck (κ : zK) (H0 : Heap) {x : Nat} {S : Nat → Pl} {isoP : Option Pl} {n cap : Nat} {iv : Nat → Ivl} (hiv : ∀ k, k < n → rI (iv k).1 ∧ rI (iv k).2.1 ∧ rI (iv k).2.2.1 ∧ rI (iv k).2.2.2) (hC : CO κ H0) (hP : CP κ H0 x S isoP n cap iv)  : Mt κ yX1_checksum cX1_checksum 6 (some .long) 4 85 2 8 H0 [.ref x] (pA κ H0) (fun v H1 => v = some (vj (xkV iv n (31 * xkR S 5 7 + (n : Int)))) ∧ CP κ H1 x S isoP n cap iv) := by
  refine Mt.of (by decide) (Nat.le_of_ble_eq_true rfl) ?_
  intro z E hE hH0 hA0 hL hini
  have hAll : ∀ q, (pA κ H0) q → zA z.A z.H0 q := fun q h => Or.inl (by rw [hA0]; exact h)
  have hNew : ∀ q, H0.size ≤ q → zA z.A z.H0 q := fun q h => Or.inr (by rw [hH0]; exact h)
  have E : zOK z cX1_checksum RX1 κ 4 85 (some .long) := E
  refine V.eqL (lv' := [(0, .ref x)]) rfl ?_
  obtain ⟨ls, bs, li, bi, a, iso, T, hS, hST, hiso⟩ := hP
  have hA93 : ∀ q, pA κ H0 q → κ.2 93 ≤ q := fun q h => h.1
  have hD := hC.D
  have hsl0 := hS.sl
  have hn1 := hS.n
  refine v_ldc2 E q465 dX1_checksum_0 ?_
  refine V.eq (st' := vj 7 :: _) rfl ?_
  refine v_lstore_n E dX1_checksum_3 (zlt hL rfl) (lv' := [(1, vj 7), (0, .ref x)]) rfl ?_
  refine V.frame (fun hfz_fr_1 hfk_fr_1 => ?_)
  rw [hH0] at hfz_fr_1 hfk_fr_1
  rw [hA0] at hfk_fr_1
  have hC_fr_1 := hC.call hA93 hfz_fr_1 hfk_fr_1
  obtain ⟨mds, gs, md, g, hCT, hIA⟩ := CS.split hC_fr_1 hS
  refine v_aload_n E 1 rfl dX1_checksum_4 ?_
  refine v_getf E in_X1 hCT.2.1 (ci := 0) rfl 0 (by decide) q272 rfl (v := .ref ls) rfl dX1_checksum_5 ?_
  refine v_callV E (As := []) (b := ls) (ci := 5) (C := RJ2) (T := TJ2) (N := 3) hCT.2.2.1.1 rfl (j_iter κ H0 hC_fr_1 hCT.2.2.1) (lw_V q291 q292 q293 q73 q294) 0 (by decide +kernel) rfl (by decide) (by decide) (cb' := 1) (sb' := 4) (by decide) (by decide) rfl (rest := []) (Nat.le_of_ble_eq_true rfl) (fun q h => h.elim) dX1_checksum_8 (fun v_2 H_3 hpost_4 hz_5 hk_6 => ?_)
  obtain ⟨it, rfl, hitH, hitI⟩ := hpost_4
  have hl_7 := CT.kf0 hC_fr_1 (kF.ext hz_5 hk_6) hCT
  have hl_8 := IA.kf0 hC_fr_1 (kF.ext hz_5 hk_6) hIA
  have hitH : H0.size ≤ it := Nat.le_trans hfz_fr_1 hitH
  refine V.eq (st' := [.ref it]) rfl ?_
  refine v_astore_n E dX1_checksum_11 (zlt hL rfl) (lv' := [(3, .ref it), (1, vj 7), (0, .ref x)]) rfl ?_
  have loop_12 : ∀ (m_12 : Nat) (H : Heap) (i cb sb : Nat) (r t : Int), 5 - i < m_12 → (i ≤ 5) → (t = xkR (fun k => T (a k)) i 7) → (1 ≤ cb) → (4 ≤ sb) → CT κ (dS ls bs li bi) H x ls bs li bi mds gs a iso T → IA κ H li bi md n cap g iv → IT κ H it ls (i : Int) r mds → V z H cb sb 12 [(3, .ref it), (1, vj t), (0, .ref x)] [] := by
    intro m_12
    induction m_12 with
    | zero => intro H i cb sb r t hm; exact absurd hm (by omega)
    | succ m_12 ih_12 =>
      intro H i cb sb r t hm_12 hi9 ht hcb hsb hT2 hI2 hIT
      refine v_aload_n E 0 rfl dX1_checksum_12 ?_
      refine V.frame (fun hfz_fr_9 hfk_fr_9 => ?_)
      rw [hH0] at hfz_fr_9 hfk_fr_9
      rw [hA0] at hfk_fr_9
      have hC_fr_9 := hC.call hA93 hfz_fr_9 hfk_fr_9
      refine v_callF E (As := []) (b := it) (ci := 7) (C := RJ17) (T := TJ17) (N := 4) hIT.1 rfl (j_hasNext κ H hC_fr_9 (by omega) hT2.2.2.1 hIT) (by decide +kernel) (lw_F q321 q325 q327 q92 q329) 0 (by decide +kernel) rfl (by decide) (by decide) (cb' := (cb - 0)) (sb' := (sb - 0)) (by omega) (by omega) rfl (rest := []) (Nat.le_of_ble_eq_true rfl) (fun q h => h.elim) dX1_checksum_13 (fun v_10 H_11 hpost_12 hz_13 hk_14 => ?_)
      obtain rfl := hpost_12
      have hl_15 := CT.kf0 hC_fr_9 (kF.ext hz_13 hk_14) hT2
      have hl_16 := IA.kf0 hC_fr_9 (kF.ext hz_13 hk_14) hI2
      have hl_17 := IT.kf (kF.ext hz_13 hk_14) hIT (fun h => h)
      by_cases hkn5 : i = 5
      ·
        refine V.eq (st' := [vi 0]) (by rw [if_pos (show ((i : Nat) : Int) = ((5 : Nat) : Int) by omega)]; rfl) ?_
        refine v_if_eq E (tgt := 71) dX1_checksum_18 (by decide) ⟨by omega, by omega⟩ (fun c_18 => ?_) (fun c_18 => absurd c_18 (by omega))
        refine v_ldc2 E q466 dX1_checksum_71 ?_
        refine V.eq (st' := vj 31 :: _) rfl ?_
        refine v_lload_n E 1 rfl dX1_checksum_74 ?_
        refine v_lmul E dX1_checksum_75 ?_
        refine v_aload_n E 2 rfl dX1_checksum_76 ?_
        refine v_getf E in_X1 hl_15.2.1 (ci := 0) rfl 2 (by decide) q274 rfl (v := .ref li) rfl dX1_checksum_77 ?_
        refine V.frame (fun hfz_fr_18 hfk_fr_18 => ?_)
        rw [hH0] at hfz_fr_18 hfk_fr_18
        rw [hA0] at hfk_fr_18
        have hC_fr_18 := hC.call hA93 hfz_fr_18 hfk_fr_18
        refine v_callV E (As := []) (b := li) (ci := 5) (C := RJ2) (T := TJ2) (N := 3) hl_16.1.1 rfl (j_size κ H_11 hl_16.1) (lw_V q286 q152 q153 q73 q154) 0 (by decide +kernel) rfl (by decide) (by decide) (cb' := ((cb - 0) - 0)) (sb' := ((sb - 0) - 0)) (by omega) (by omega) rfl (rest := [vj (31 * t)]) (Nat.le_of_ble_eq_true rfl) (fun q h => h.elim) dX1_checksum_80 (fun v_19 H_20 hpost_21 hz_22 hk_23 => ?_)
        obtain rfl := hpost_21
        have hl_24 := CT.kf0 hC_fr_18 (kF.ext hz_22 hk_23) hl_15
        have hl_25 := IA.kf0 hC_fr_18 (kF.ext hz_22 hk_23) hl_16
        have hl_26 := IT.kf (kF.ext hz_22 hk_23) hl_17 (fun h => h)
        refine V.eq (st' := [vi ((n : Nat) : Int), vj (31 * t)]) rfl ?_
        refine v_i2l E ⟨by omega, by omega⟩ dX1_checksum_83 ?_
        refine v_ladd E dX1_checksum_84 ?_
        refine v_lstore_n E dX1_checksum_85 (zlt hL rfl) (lv' := [(1, vj ((31 * t) + ((n : Nat) : Int))), (3, .ref it), (0, .ref x)]) rfl ?_
        obtain ⟨t9, ht9⟩ : ∃ t9 : Int, t9 = (31 * t) + ((n : Nat) : Int) := ⟨_, rfl⟩
        refine V.eqL (by rw [← ht9]) ?_
        refine v_aload_n E 2 rfl dX1_checksum_86 ?_
        refine v_getf E in_X1 hl_24.2.1 (ci := 0) rfl 2 (by decide) q274 rfl (v := .ref li) rfl dX1_checksum_87 ?_
        refine V.frame (fun hfz_fr_27 hfk_fr_27 => ?_)
        rw [hH0] at hfz_fr_27 hfk_fr_27
        rw [hA0] at hfk_fr_27
        have hC_fr_27 := hC.call hA93 hfz_fr_27 hfk_fr_27
        refine v_callV E (As := []) (b := li) (ci := 5) (C := RJ2) (T := TJ2) (N := 3) hl_25.1.1 rfl (j_iter κ H_20 hC_fr_27 hl_25.1) (lw_V q291 q292 q293 q73 q294) 0 (by decide +kernel) rfl (by decide) (by decide) (cb' := (((cb - 0) - 0) - 1)) (sb' := (((sb - 0) - 0) - 4)) (by omega) (by omega) rfl (rest := []) (Nat.le_of_ble_eq_true rfl) (fun q h => h.elim) dX1_checksum_90 (fun v_28 H_29 hpost_30 hz_31 hk_32 => ?_)
        obtain ⟨it2, rfl, hit2H, hit2I⟩ := hpost_30
        have hl_33 := CT.kf0 hC_fr_27 (kF.ext hz_31 hk_32) hl_24
        have hl_34 := IA.kf0 hC_fr_27 (kF.ext hz_31 hk_32) hl_25
        have hl_35 := IT.kf (kF.ext hz_31 hk_32) hl_26 (fun h => h)
        have hit2H : H0.size ≤ it2 := Nat.le_trans hfz_fr_27 hit2H
        refine V.eq (st' := [.ref it2]) rfl ?_
        refine v_astore_n E dX1_checksum_93 (zlt hL rfl) (lv' := [(3, .ref it2), (1, vj t9), (0, .ref x)]) rfl ?_
        have loop_94 : ∀ (m_94 : Nat) (H : Heap) (k : Nat) (r t3 : Int), n - k < m_94 → (k ≤ n) → (t3 = xkV iv k t9) → CT κ (dS ls bs li bi) H x ls bs li bi mds gs a iso T → IA κ H li bi md n cap g iv → IT κ H it2 li (k : Int) r md → V z H 0 0 94 [(3, .ref it2), (1, vj t3), (0, .ref x)] [] := by
          intro m_94
          induction m_94 with
          | zero => intro H k r t3 hm; exact absurd hm (by omega)
          | succ m_94 ih_94 =>
            intro H k r t3 hm_94 hk ht3 hT2 hI2 hIT2
            refine v_aload_n E 0 rfl dX1_checksum_94 ?_
            refine V.frame (fun hfz_fr_36 hfk_fr_36 => ?_)
            rw [hH0] at hfz_fr_36 hfk_fr_36
            rw [hA0] at hfk_fr_36
            have hC_fr_36 := hC.call hA93 hfz_fr_36 hfk_fr_36
            refine v_callF E (As := []) (b := it2) (ci := 7) (C := RJ17) (T := TJ17) (N := 4) hIT2.1 rfl (j_hasNext κ H hC_fr_36 (by omega) hI2.1 hIT2) (by decide +kernel) (lw_F q321 q325 q327 q92 q329) 0 (by decide +kernel) rfl (by decide) (by decide) (cb' := 0) (sb' := 0) (by decide) (by decide) rfl (rest := []) (Nat.le_of_ble_eq_true rfl) (fun q h => h.elim) dX1_checksum_95 (fun v_37 H_38 hpost_39 hz_40 hk_41 => ?_)
            obtain rfl := hpost_39
            have hl_42 := CT.kf0 hC_fr_36 (kF.ext hz_40 hk_41) hT2
            have hl_43 := IA.kf0 hC_fr_36 (kF.ext hz_40 hk_41) hI2
            have hl_44 := IT.kf (kF.ext hz_40 hk_41) hIT2 (fun h => h)
            by_cases hkn : k = n
            ·
              refine V.eq (st' := [vi 0]) (by rw [if_pos (show ((k : Nat) : Int) = ((n : Nat) : Int) by omega)]; rfl) ?_
              refine v_if_eq E (tgt := 163) dX1_checksum_100 (by decide) ⟨by omega, by omega⟩ (fun c_100 => ?_) (fun c_100 => absurd c_100 (by omega))
              refine v_lload_n E 1 rfl dX1_checksum_163 ?_
              refine v_lret E hE dX1_checksum_164 ?_
              have e5 : xkR S 5 7 = xkR (fun k => T (a k)) 5 7 := by show xkI (S 4).2 7 (xkI (S 3).2 7 (xkI (S 2).2 7 (xkI (S 1).2 7 (xkI (S 0).2 7 7)))) = _; rw [hST 0 (by decide), hST 1 (by decide), hST 2 (by decide), hST 3 (by decide), hST 4 (by decide)]; rfl
              have hkn9 : k = n := hkn
              have hi5 : i = 5 := hkn5
              exact ⟨by rw [ht3, hkn9, ht9, ht, hi5, e5], CS.pub (CT.join hl_42 hl_43) hST hiso⟩
            ·
              refine V.eq (st' := [vi 1]) (by rw [if_neg (show ¬ ((k : Nat) : Int) = ((n : Nat) : Int) by omega)]; rfl) ?_
              refine v_if_eq E (tgt := 163) dX1_checksum_100 (by decide) ⟨by omega, by omega⟩ (fun c_100 => absurd c_100 (by omega)) (fun c_100 => ?_)
              refine v_aload_n E 0 rfl dX1_checksum_103 ?_
              obtain ⟨y_45, hy_46, hEy_47⟩ := hl_43.2 k (by omega)
              refine V.frame (fun hfz_fr_48 hfk_fr_48 => ?_)
              rw [hH0] at hfz_fr_48 hfk_fr_48
              rw [hA0] at hfk_fr_48
              have hC_fr_48 := hC.call hA93 hfz_fr_48 hfk_fr_48
              refine v_callF E (As := []) (b := it2) (ci := 7) (C := RJ17) (T := TJ17) (N := 4) hl_44.1 rfl (j_next7 κ H_38 hC_fr_48 (i := k) (y := y_45) (by omega) hy_46 hl_43.1 hl_44) (by decide +kernel) (lw_F q334 q337 q339 q92 q341) 0 (by decide +kernel) rfl (by decide) (by decide) (cb' := 0) (sb' := 0) (by decide) (by decide) rfl (rest := []) (Nat.le_of_ble_eq_true rfl) (fun q9 h => hNew q9 (by rw [show q9 = it2 from h]; exact hit2H)) dX1_checksum_104 (fun v_49 H_50 hpost_51 hz_52 hk_53 => ?_)
              obtain ⟨rfl, hI_54⟩ := hpost_51
              have hl_55 := CT.kfA hC_fr_48 (kF.itr (A := fun q => q = it2) hl_44 (fun q h => h) hz_52 hk_53) (fun q h => Or.inr (Or.inr (IT.cl hl_44 h))) dS_li dS_bi hl_42
              have hl_56 := IA.kfI hC_fr_48 (kF.itr (A := fun q => q = it2) hl_44 (fun q h => h) hz_52 hk_53) (fun q h => IT.cl hl_44 h) hl_43
              have hl_57 := (e4_kf hC.D (kF.itr (A := fun q => q = it2) hl_44 (fun q h => h) hz_52 hk_53) hEy_47)
              refine V.eq (st' := [.ref y_45]) rfl ?_
              refine v_castS E hl_57 (q := (RX5, TX5, 4)) rfl q418 dX1_checksum_109 ?_
              refine v_astore E dX1_checksum_112 (zlt hL rfl) (lv' := [(4, .ref y_45), (3, .ref it2), (1, vj t3), (0, .ref x)]) rfl ?_
              refine v_ldc2 E q466 dX1_checksum_114 ?_
              refine V.eq (st' := vj 31 :: _) rfl ?_
              refine v_ldc2 E q466 dX1_checksum_117 ?_
              refine V.eq (st' := vj 31 :: _) rfl ?_
              refine v_ldc2 E q466 dX1_checksum_120 ?_
              refine V.eq (st' := vj 31 :: _) rfl ?_
              refine v_ldc2 E q466 dX1_checksum_123 ?_
              refine V.eq (st' := vj 31 :: _) rfl ?_
              refine v_lload_n E 2 rfl dX1_checksum_126 ?_
              refine v_lmul E dX1_checksum_127 ?_
              refine v_aload E 0 rfl dX1_checksum_128 ?_
              refine v_getfN (host := "SturmRoots") E in_X5 hl_57 (ci := 4) rfl 0 (by decide) (by decide +kernel) rfl (v := vi ((iv k).1)) rfl dX1_checksum_130 ?_
              refine v_i2l E (hiv k (by omega)).1 dX1_checksum_133 ?_
              refine v_ladd E dX1_checksum_134 ?_
              refine v_lmul E dX1_checksum_135 ?_
              refine v_aload E 0 rfl dX1_checksum_136 ?_
              refine v_getfN (host := "SturmRoots") E in_X5 hl_57 (ci := 4) rfl 1 (by decide) (by decide +kernel) rfl (v := vi ((iv k).2.1)) rfl dX1_checksum_138 ?_
              refine v_i2l E (hiv k (by omega)).2.1 dX1_checksum_141 ?_
              refine v_ladd E dX1_checksum_142 ?_
              refine v_lmul E dX1_checksum_143 ?_
              refine v_aload E 0 rfl dX1_checksum_144 ?_
              refine v_getfN (host := "SturmRoots") E in_X5 hl_57 (ci := 4) rfl 2 (by decide) (by decide +kernel) rfl (v := vi ((iv k).2.2.1)) rfl dX1_checksum_146 ?_
              refine v_i2l E (hiv k (by omega)).2.2.1 dX1_checksum_149 ?_
              refine v_ladd E dX1_checksum_150 ?_
              refine v_lmul E dX1_checksum_151 ?_
              refine v_aload E 0 rfl dX1_checksum_152 ?_
              refine v_getfN (host := "SturmRoots") E in_X5 hl_57 (ci := 4) rfl 3 (by decide) (by decide +kernel) rfl (v := vi ((iv k).2.2.2)) rfl dX1_checksum_154 ?_
              refine v_i2l E (hiv k (by omega)).2.2.2 dX1_checksum_157 ?_
              refine v_ladd E dX1_checksum_158 ?_
              refine v_lstore_n E dX1_checksum_159 (zlt hL rfl) (lv' := [(1, vj ((31 * ((31 * ((31 * ((31 * t3) + ((iv k).1))) + ((iv k).2.1))) + ((iv k).2.2.1))) + ((iv k).2.2.2))), (4, .ref y_45), (3, .ref it2), (0, .ref x)]) rfl ?_
              refine v_goto E (tgt := 94) dX1_checksum_160 (by decide) ?_
              refine V.sub [2, 0, 3] (lv' := [(3, .ref it2), (1, vj ((31 * ((31 * ((31 * ((31 * t3) + ((iv k).1))) + ((iv k).2.1))) + ((iv k).2.2.1))) + ((iv k).2.2.2))), (0, .ref x)]) rfl ?_
              exact ih_94  H_50 (k + 1) _ _ (by omega) (by omega) (by rw [ht3]; rfl) hl_55 hl_56 hI_54
        refine V.less (Nat.zero_le _) (Nat.zero_le _) ?_
        exact loop_94 (n + 1) H_29 0 (-1) t9 (by omega) (Nat.zero_le _) rfl hl_33 hl_34 hit2I
      ·
        refine V.eq (st' := [vi 1]) (by rw [if_neg (show ¬ ((i : Nat) : Int) = ((5 : Nat) : Int) by omega)]; rfl) ?_
        refine v_if_eq E (tgt := 71) dX1_checksum_18 (by decide) ⟨by omega, by omega⟩ (fun c_18 => absurd c_18 (by omega)) (fun c_18 => ?_)
        refine v_aload_n E 0 rfl dX1_checksum_21 ?_
        obtain ⟨y_58, hy_59, hEy_60⟩ := (show ∀ k, k < 5 → ∃ y, gs k = some y ∧ y = a k from fun k hk => ⟨a k, hl_15.2.2.2.1 k hk, rfl⟩) i (by omega)
        refine V.frame (fun hfz_fr_61 hfk_fr_61 => ?_)
        rw [hH0] at hfz_fr_61 hfk_fr_61
        rw [hA0] at hfk_fr_61
        have hC_fr_61 := hC.call hA93 hfz_fr_61 hfk_fr_61
        refine v_callF E (As := []) (b := it) (ci := 7) (C := RJ17) (T := TJ17) (N := 4) hl_17.1 rfl (j_next7 κ H_11 hC_fr_61 (i := i) (y := y_58) (by omega) hy_59 hl_15.2.2.1 hl_17) (by decide +kernel) (lw_F q334 q337 q339 q92 q341) 0 (by decide +kernel) rfl (by decide) (by decide) (cb' := ((cb - 0) - 0)) (sb' := ((sb - 0) - 0)) (by omega) (by omega) rfl (rest := []) (Nat.le_of_ble_eq_true rfl) (fun q9 h => hNew q9 (by rw [show q9 = it from h]; exact hitH)) dX1_checksum_22 (fun v_62 H_63 hpost_64 hz_65 hk_66 => ?_)
        obtain ⟨rfl, hI_67⟩ := hpost_64
        have hl_68 := CT.kfA hC_fr_61 (kF.itr (A := fun q => q = it) hl_17 (fun q h => h) hz_65 hk_66) (fun q h => Or.inr (Or.inr (IT.cl hl_17 h))) dS_li dS_bi hl_15
        have hl_69 := IA.kfI hC_fr_61 (kF.itr (A := fun q => q = it) hl_17 (fun q h => h) hz_65 hk_66) (fun q h => IT.cl hl_17 h) hl_16
        refine V.eq (st' := [.ref y_58]) rfl ?_
        refine V.eq (st' := [.ref (a i)]) (by rw [hEy_60]) ?_
        obtain ⟨-, -, pk_70, vs_71, vf_72, vg_73, hkn_74, hpk_75, -⟩ := id (hl_68.2.2.2.2.1 i (by omega))
        refine v_castS E hkn_74 (q := (RX2, TX2, 4)) rfl q143 dX1_checksum_27 ?_
        refine v_astore E dX1_checksum_30 (zlt hL rfl) (lv' := [(4, .ref (a i)), (3, .ref it), (1, vj t), (0, .ref x)]) rfl ?_
        refine v_iconst E dX1_checksum_32 ?_
        refine v_istore E dX1_checksum_33 (zlt hL rfl) (lv' := [(5, vi 0), (4, .ref (a i)), (3, .ref it), (1, vj t), (0, .ref x)]) rfl ?_
        have loop_35 : ∀ (m_35 : Nat) (H : Heap) (j : Nat) (t2 : Int), 7 - j < m_35 → (j ≤ 7) → (t2 = xkI (T (a i)).2 j t) → CT κ (dS ls bs li bi) H x ls bs li bi mds gs a iso T → IA κ H li bi md n cap g iv → IT κ H it ls ((i : Int) + 1) (i : Int) mds → V z H cb sb 35 [(5, vi (j : Int)), (4, .ref (a i)), (3, .ref it), (1, vj t2), (0, .ref x)] [] := by
          intro m_35
          induction m_35 with
          | zero => intro H j t2 hm; exact absurd hm (by omega)
          | succ m_35 ih_35 =>
            intro H j t2 hm_35 hj ht2 hT2 hI2 hIT
            refine v_iload E 0 rfl dX1_checksum_35 ?_
            refine v_bipush E ⟨by decide, by decide⟩ dX1_checksum_37 ?_
            refine v_icmp_gt E (tgt := 68) dX1_checksum_39 (by decide) ⟨by omega, by omega⟩ ⟨by omega, by omega⟩ (fun c_39 => ?_) (fun c_39 => ?_)
            · refine v_goto E (tgt := 12) dX1_checksum_68 (by decide) ?_
              refine V.sub [2, 3, 4] (lv' := [(3, .ref it), (1, vj t2), (0, .ref x)]) rfl ?_
              exact ih_12  H (i + 1) cb sb _ t2 (by omega) (by omega) (by rw [ht2, show j = 7 by omega, ht]; rfl) (by omega) (by omega) hT2 hI2 hIT
            · refine v_ldc2 E q466 dX1_checksum_42 ?_
              refine V.eq (st' := vj 31 :: _) rfl ?_
              refine v_lload_n E 3 rfl dX1_checksum_45 ?_
              refine v_lmul E dX1_checksum_46 ?_
              refine v_aload E 1 rfl dX1_checksum_47 ?_
              obtain ⟨-, -, pk_76, vs_77, vf_78, vg_79, hkn_80, hpk_81, -⟩ := id (hT2.2.2.2.2.1 i (by omega))
              refine v_getfN (host := "SturmRoots") E in_X2 hkn_80 (ci := 1) rfl 0 (by decide) (by decide +kernel) rfl (v := .ref pk_76) rfl dX1_checksum_49 ?_
              refine v_iload E 0 rfl dX1_checksum_52 ?_
              refine V.frame (fun hfz_fr_84 hfk_fr_84 => ?_)
              rw [hH0] at hfz_fr_84 hfk_fr_84
              rw [hA0] at hfk_fr_84
              have hC_fr_84 := hC.call hA93 hfz_fr_84 hfk_fr_84
              obtain ⟨-, -, l_91, ho_90, -⟩ := id hpk_81
              refine v_callV E (As := [vi (j : Int)]) (b := pk_76) (ci := 2) (C := RX3) (T := TX3) (N := 1) ho_90 rfl (p_at κ H (i := j) (by omega) hC_fr_84 hpk_81) (lw_V q467 q468 q469 q75 q470) 1 (by decide +kernel) rfl (by decide) (by decide) (cb' := (cb - 0)) (sb' := (sb - 0)) (by omega) (by omega) rfl (rest := [vj (31 * t2)]) (Nat.le_of_ble_eq_true rfl) (fun q h => h.elim) dX1_checksum_54 (fun v_85 H_86 hpost_87 hz_88 hk_89 => ?_)
              obtain ⟨qa_82, rfl, hBa_83⟩ := hpost_87
              have hl_92 := CT.kf0 hC_fr_84 (kF.ext hz_88 hk_89) hT2
              have hl_93 := IA.kf0 hC_fr_84 (kF.ext hz_88 hk_89) hI2
              have hl_94 := IT.kf (kF.ext hz_88 hk_89) hIT (fun h => h)
              have hl_95 := Po.kf hC_fr_84 (kF.ext hz_88 hk_89) aD.no hpk_81
              refine V.eq (st' := [.ref qa_82, vj (31 * t2)]) rfl ?_
              refine V.frame (fun hfz_fr_97 hfk_fr_97 => ?_)
              rw [hH0] at hfz_fr_97 hfk_fr_97
              rw [hA0] at hfk_fr_97
              have hC_fr_97 := hC.call hA93 hfz_fr_97 hfk_fr_97
              obtain ⟨mz_104, nz_104, cfz_104, ⟨c1z_104, c2z_104, c3z_104, ho_103⟩, -⟩ := id hBa_83
              refine v_callV E (As := []) (b := qa_82) (ci := 6) (C := RJ16) (T := TJ16) (N := 6) ho_103 rfl (g_longValue κ H_86 hC_fr_97 hBa_83) (lw_V q512 q513 q514 q91 q515) 0 (by decide +kernel) rfl (by decide) (by decide) (cb' := ((cb - 0) - 0)) (sb' := ((sb - 0) - 0)) (by omega) (by omega) rfl (rest := [vj (31 * t2)]) (Nat.le_of_ble_eq_true rfl) (fun q h => by have h9 := pA.bi hfk_fr_97 hBa_83 h.2; rw [← h.1] at h9; exact h9.elim (fun e => hAll q e) (fun e => hNew q e)) dX1_checksum_57 (fun v_98 H_99 hpost_100 hz_101 hk_102 => ?_)
              obtain ⟨rfl, hBV_96⟩ := hpost_100
              have hU_105 := kU.of hC_fr_97 hBa_83 hBV_96 hz_101 hk_102
              have hl_106 := CT.ku hC_fr_97 hU_105 hl_92
              have hl_107 := IA.ku hC_fr_97 hU_105 hl_93
              have hl_108 := IT.ku hC_fr_97 hU_105 hl_94
              refine V.eq (st' := [vj ((T (a i)).2 j), vj (31 * t2)]) rfl ?_
              refine v_ladd E dX1_checksum_60 ?_
              refine v_lstore_n E dX1_checksum_61 (zlt hL rfl) (lv' := [(1, vj ((31 * t2) + ((T (a i)).2 j))), (5, vi (j : Int)), (4, .ref (a i)), (3, .ref it), (0, .ref x)]) rfl ?_
              refine v_iinc E 1 rfl dX1_checksum_62 (zlt hL rfl) (lv' := [(5, vi ((j : Int) + 1)), (1, vj ((31 * t2) + ((T (a i)).2 j))), (4, .ref (a i)), (3, .ref it), (0, .ref x)]) rfl ?_
              refine v_goto E (tgt := 35) dX1_checksum_65 (by decide) ?_
              refine V.sub [0, 2, 3, 1, 4] (lv' := [(5, vi ((j : Int) + 1)), (4, .ref (a i)), (3, .ref it), (1, vj ((31 * t2) + ((T (a i)).2 j))), (0, .ref x)]) rfl ?_
              exact ih_35  H_99 (j + 1) _ (by omega) (by omega) (by rw [ht2]; rfl) hl_106 hl_107 hl_108
        exact loop_35 (7 + 1) H_63 0 t (by omega) (Nat.zero_le _) rfl hl_68 hl_69 hI_67
  exact loop_12 (5 + 1) H_3 0 1 4 (-1) 7 (by omega) (Nat.zero_le _) rfl (by omega) (by omega) hl_7 hl_8 hitI
