/-! THE COMPONENT: lists written in place -/
theorem LB.low {κ : zK} {S S' : Nat} {E : Heap → Nat → Nat → Prop} {H : Heap} {l b n : Nat} (h : S' ≤ S) (hL : LB κ S E H l b n) : LB κ S' E H l b n := by
  obtain ⟨md, g, h1, h2, h3, h4⟩ := hL
  exact ⟨md, g, h1, h2, Nat.le_trans h h3, fun e => Nat.le_trans h (h4 e)⟩
theorem LB.congr {κ : zK} {S : Nat} {c c' : Nat → Int} {H : Heap} {l b n : Nat} (h : ∀ k, k < n → c k = c' k) (hL : LB κ S (eB κ c) H l b n) : LB κ S (eB κ c') H l b n := by
  obtain ⟨md, g, h1, h2, h3, h4⟩ := hL
  refine ⟨md, g, h1, fun k hk => ?_, h3, h4⟩
  obtain ⟨y, e1, e2⟩ := h2 k hk
  exact ⟨y, e1, by show BI κ H y (c' k); rw [← h k hk]; exact e2⟩
theorem LB.put {κ : zK} {S : Nat} {c c' : Nat → Int} {H : Heap} {l b n k v : Nat} {md : Int} {g : Nat → Option Nat} {x : Int} (hel : ∀ j, j < n → ∃ y, g j = some y ∧ BI κ H y (c j)) (hv : BI κ H v x) (hA : AL κ H l b md n (capR n) (va_up g k (some v))) (hl : S ≤ l) (hb : 0 < n → S ≤ b) (hc : ∀ j, j < n → j ≠ k → c j = c' j) (hk : x = c' k) : LB κ S (eB κ c') H l b n := by
  refine ⟨md, _, hA, fun j hj => ?_, hl, hb⟩
  by_cases e : j = k
  · subst e
    exact ⟨v, va_up_self _ _ _, by show BI κ H v (c' j); rw [← hk]; exact hv⟩
  · obtain ⟨y, e1, e2⟩ := hel j hj
    exact ⟨y, (va_up_ne _ _ e).trans e1, by show BI κ H y (c' j); rw [← hc j hj e]; exact e2⟩
/-! THE COMPONENT: scale -/
/-- places above u are done -/
def scU (P : Pl) (y u : Int) : Nat → Int := fun k => if u < (k : Int) then P.2 k * y ^ (P.1 - 1 - k) else P.2 k
def scC (P : Pl) (y : Int) : Nat → Int := fun k => P.2 k * y ^ (P.1 - 1 - k)
def xoScale (S : Nat → Pl) (a y t : Int) : zRc := if (0 ≤ a ∧ a < 5) ∧ (0 ≤ t ∧ t < 5) then (if 2 ≤ y ∧ y ≤ 9 then storeR (mkP (S a.toNat).1 (scC (S a.toNat) y)) t.toNat 3 S else (0, 2, S)) else (0, 1, S)
theorem scU_0 {P : Pl} {y u : Int} {n k : Nat} (hn : n = P.1) (hu : u = (n : Int) - 2) (hk : k < n) : P.2 k = scU P y u k := by
  unfold scU
  by_cases c : u < (k : Int)
  · rw [if_pos c, show P.1 - 1 - k = 0 by omega, Int.pow_zero, Int.mul_one]
  · rw [if_neg c]
theorem scU_s {P : Pl} {y : Int} {k j : Nat} (h : j ≠ k) : scU P y (k : Int) j = scU P y ((k : Int) + (-1)) j := by
  unfold scU
  by_cases c : (k : Int) < (j : Int)
  · rw [if_pos c, if_pos (by omega)]
  · rw [if_neg c, if_neg (by omega)]
theorem scU_k {P : Pl} {y x : Int} {k m : Nat} (hx : x = P.2 k * y ^ m) (hm : (m : Int) = (P.1 : Int) - 1 - (k : Int)) : x = scU P y ((k : Int) + (-1)) k := by
  unfold scU
  rw [if_pos (by omega), hx, show m = P.1 - 1 - k by omega]
theorem scU_e {P : Pl} {y u : Int} {k : Nat} (hu : u < 0) : scU P y u k = scC P y k := by
  unfold scU scC
  rw [if_pos (by omega)]
theorem pw9 {y : Int} (hy : 2 ≤ y ∧ y ≤ 9) {m : Nat} (hm : m ≤ 8) : (((y ^ m).natAbs : Nat) : Int) ≤ 43046721 := by
  have h := Int.natAbs_pow y m
  rw [h]
  have h1 : y.natAbs ^ m ≤ 9 ^ m := Nat.pow_le_pow_left (by omega) m
  have h2 : 9 ^ m ≤ 9 ^ 8 := Nat.pow_le_pow_right (by decide) hm
  have h3 : (9 : Nat) ^ 8 = 43046721 := by decide
  omega
theorem sB_m1 {x y : Int} {u v : Nat} (hx : (x.natAbs : Int) < 2 ^ (32 * u)) (hy : (y.natAbs : Int) < 2 ^ (32 * v)) (h : u + v ≤ 47) : sB ((x.natAbs : Int) * (y.natAbs : Int)) := by
  have h1 := prod_lt hx hy
  rw [Int.natAbs_mul, Int.natCast_mul] at h1
  unfold sB
  exact Int.lt_of_lt_of_le h1 (pw_mono (by omega))
theorem p32z : (2 : Int) ^ (32 * 1) = 4294967296 := by decide
set_option maxHeartbeats 1000000 in
set_option maxRecDepth 100000 in
/-- scale -/
theorem c_scale (κ : zK) (H0 : Heap) {x : Nat} {S : Nat → Pl} {isoP : Option Pl} {n cap : Nat} {iv : Nat → Ivl} {v0 : Int} (hrv0 : rI v0) {v1 : Int} (hrv1 : rI v1) {v2 : Int} (hrv2 : rI v2) (hC : CO κ H0) (hok : bC5 S) (hP : CP κ H0 x S isoP n cap iv)  : MtX κ yX1_scale cX1_scale 7 (some .int) 8 182 90 460 H0 [.ref x, vi v0, vi v1, vi v2] (pA κ H0) (fun v H1 => (xoScale S v0 v1 v2).2.1 = 0 ∧ v = some (vi (xoScale S v0 v1 v2).1) ∧ CP κ H1 x (xoScale S v0 v1 v2).2.2 isoP n cap iv) (fun C H1 => (C = "java/lang/IndexOutOfBoundsException" ∧ (xoScale S v0 v1 v2).2.1 = 1 ∨ C = "java/lang/IllegalArgumentException" ∧ (xoScale S v0 v1 v2).2.1 = 2 ∨ C = "java/lang/IllegalStateException" ∧ (xoScale S v0 v1 v2).2.1 = 3) ∧ CP κ H1 x S isoP n cap iv) := by
  refine MtX.of (by decide) (Nat.le_of_ble_eq_true rfl) ?_
  intro z E X9 hE hH0 hA0 hL hini
  have hAll : ∀ q, (pA κ H0) q → zA z.A z.H0 q := fun q h => Or.inl (by rw [hA0]; exact h)
  have hNew : ∀ q, H0.size ≤ q → zA z.A z.H0 q := fun q h => Or.inr (by rw [hH0]; exact h)
  have E : zOK z cX1_scale RX1 κ 8 182 (some .int) := E
  refine V.eqL (lv' := [(0, .ref x), (1, vi v0), (2, vi v1), (3, vi v2)]) rfl ?_
  obtain ⟨ls, bs, li, bi, a, iso, T, hS, hST, hiso⟩ := hP
  have hA93 : ∀ q, pA κ H0 q → κ.2 93 ≤ q := fun q h => h.1
  have hD := hC.D
  have hsl0 := hS.sl
  have hokT : ∀ k, k < 5 → okP (T (a k)) := fun k hk => by rw [← hST k hk]; exact (hok k hk).2
  have hSt := CS.mono (D' := fun q => dS ls bs li bi q ∧ q < Array.size H0) hS (fun q h1 h2 => ⟨h2, h1⟩)
  refine v_iload_n E 1 rfl dX1_scale_0 ?_
  refine V.frame (fun hfz_fr_1 hfk_fr_1 => ?_)
  rw [hH0] at hfz_fr_1 hfk_fr_1
  rw [hA0] at hfk_fr_1
  have hC_fr_1 := hC.call hA93 hfz_fr_1 hfk_fr_1
  refine v_callSX E X9 hE (As := [vi v0]) (x_slot κ H0 hrv0) (lw_S q570 q571 q70 q572) 1 (by decide +kernel) rfl (by decide) (by decide) (cb' := 89) (sb' := 454) (by decide) (by decide) rfl (rest := []) (Nat.le_of_ble_eq_true rfl) (fun q h => h.elim) dX1_scale_1 (fun C9 H9 hx9 hz9 hk9 => by exact ⟨Or.inl (⟨hx9.1, (by have hx8 := hx9.2; unfold xoScale; first | (split <;> first | rfl | (exfalso; omega) | (split <;> first | rfl | (exfalso; omega) | (split <;> first | rfl | (exfalso; omega)))))⟩), CS.pub (CS.kf0 hC_fr_1 (kF.ext hz9 hk9) (CS.mono (D' := dS ls bs li bi) hSt (fun q h1 h2 => h2.1))) hST hiso⟩) (fun v_2 H_3 hpost_4 hz_5 hk_6 => ?_)
  obtain ⟨rfl, hsv0⟩ := hpost_4
  have hl_7 := CS.kf0 hC_fr_1 (kF.ext hz_5 hk_6) hSt
  obtain ⟨i0, hni0⟩ : ∃ i0 : Nat, v0 = (i0 : Int) := ⟨v0.toNat, by omega⟩
  subst hni0
  have hii0 : i0 < 5 := by omega
  refine V.eq (st' := []) rfl ?_
  refine v_iload_n E 3 rfl dX1_scale_4 ?_
  refine V.frame (fun hfz_fr_8 hfk_fr_8 => ?_)
  rw [hH0] at hfz_fr_8 hfk_fr_8
  rw [hA0] at hfk_fr_8
  have hC_fr_8 := hC.call hA93 hfz_fr_8 hfk_fr_8
  refine v_callSX E X9 hE (As := [vi v2]) (x_slot κ H_3 hrv2) (lw_S q570 q571 q70 q572) 1 (by decide +kernel) rfl (by decide) (by decide) (cb' := 88) (sb' := 448) (by decide) (by decide) rfl (rest := []) (Nat.le_of_ble_eq_true rfl) (fun q h => h.elim) dX1_scale_5 (fun C9 H9 hx9 hz9 hk9 => by exact ⟨Or.inl (⟨hx9.1, (by have hx8 := hx9.2; unfold xoScale; first | (split <;> first | rfl | (exfalso; omega) | (split <;> first | rfl | (exfalso; omega) | (split <;> first | rfl | (exfalso; omega)))))⟩), CS.pub (CS.kf0 hC_fr_8 (kF.ext hz9 hk9) (CS.mono (D' := dS ls bs li bi) hl_7 (fun q h1 h2 => h2.1))) hST hiso⟩) (fun v_9 H_10 hpost_11 hz_12 hk_13 => ?_)
  obtain ⟨rfl, hsv2⟩ := hpost_11
  have hl_14 := CS.kf0 hC_fr_8 (kF.ext hz_12 hk_13) hl_7
  obtain ⟨i2, hni2⟩ : ∃ i2 : Nat, v2 = (i2 : Int) := ⟨v2.toNat, by omega⟩
  subst hni2
  have hii2 : i2 < 5 := by omega
  refine V.eq (st' := []) rfl ?_
  refine v_iload_n E 2 rfl dX1_scale_8 ?_
  refine v_iconst E dX1_scale_9 ?_
  refine v_icmp_lt E (tgt := 19) dX1_scale_10 (by decide) hrv1 ⟨by omega, by omega⟩ (fun c_10 => ?_) (fun c_10 => ?_)
  · refine V.frame (fun hfz_fr_15 hfk_fr_15 => ?_)
    rw [hH0] at hfz_fr_15 hfk_fr_15
    rw [hA0] at hfk_fr_15
    have hC_fr_15 := hC.call hA93 hfz_fr_15 hfk_fr_15
    refine V.frame (fun hfz_fr_16 hfk_fr_16 => ?_)
    rw [hH0] at hfz_fr_16 hfk_fr_16
    rw [hA0] at hfk_fr_16
    refine v_throw0 E X9 hE (cls := "java/lang/IllegalArgumentException") (names := ["java/lang/RuntimeException", "java/lang/Exception"]) (ik := 138) (ic := 140) (by decide +kernel) (by decide +kernel) q591 q89 (ex_1 E.kn E.2.2.2.2.1 q600) ex_1_ok dX1_scale_19 dX1_scale_22 dX1_scale_23 dX1_scale_26 (by decide) (Nat.le_of_ble_eq_true rfl) (by omega) (by omega) (fun H9 hz9 hk9 => ?_)
    exact ⟨Or.inr (Or.inl (⟨rfl, (by unfold xoScale; first | (split <;> first | rfl | (exfalso; omega) | (split <;> first | rfl | (exfalso; omega) | (split <;> first | rfl | (exfalso; omega)))))⟩)), CS.pub (CS.kf0 hC_fr_15 (kF.ext hz9 (fun q hq _ => hk9 q hq)) (CS.mono (D' := dS ls bs li bi) hl_14 (fun q h1 h2 => h2.1))) hST hiso⟩
  · refine v_iload_n E 2 rfl dX1_scale_13 ?_
    refine v_bipush E ⟨by decide, by decide⟩ dX1_scale_14 ?_
    refine v_icmp_le E (tgt := 27) dX1_scale_16 (by decide) hrv1 ⟨by omega, by omega⟩ (fun c_16 => ?_) (fun c_16 => ?_)
    · refine v_aload_n E 0 rfl dX1_scale_27 ?_
      refine v_iload_n E 1 rfl dX1_scale_28 ?_
      refine V.frame (fun hfz_fr_17 hfk_fr_17 => ?_)
      rw [hH0] at hfz_fr_17 hfk_fr_17
      rw [hA0] at hfk_fr_17
      have hC_fr_17 := hC.call hA93 hfz_fr_17 hfk_fr_17
      refine v_callV E (As := [vi ((i0 : Nat) : Int)]) (b := x) (ci := 0) (C := RX1) (T := TX1) (N := 3) hl_14.2.1 rfl (x_row κ H_10 (i := i0) hii0 (hokT i0 hii0).1 hC_fr_17 (CS.mono (D' := dS ls bs li bi) hl_14 (fun q h1 h2 => h2.1))) (lw_V q1116 q1118 qs18 q70 q1119) 1 (by decide +kernel) rfl (by decide) (by decide) (cb' := 85) (sb' := 428) (by decide) (by decide) rfl (rest := []) (Nat.le_of_ble_eq_true rfl) (fun q h => h.elim) dX1_scale_29 (fun v_18 H_19 hpost_20 hz_21 hk_22 => ?_)
      obtain ⟨l2, b2, rfl, hLBr0⟩ := hpost_20
      have hl_23 := CS.kf0 hC_fr_17 (kF.ext hz_21 hk_22) hl_14
      have hLBr := LB.low hfz_fr_17 hLBr0
      refine V.eq (st' := [.ref l2]) rfl ?_
      refine v_astore E dX1_scale_32 (zlt hL rfl) (lv' := [(4, .ref l2), (0, .ref x), (1, vi ((i0 : Nat) : Int)), (2, vi v1), (3, vi ((i2 : Nat) : Int))]) rfl ?_
      refine v_iload_n E 3 rfl dX1_scale_34 ?_
      refine v_i2l E ⟨by omega, by omega⟩ dX1_scale_35 ?_
      refine V.frame (fun hfz_fr_26 hfk_fr_26 => ?_)
      rw [hH0] at hfz_fr_26 hfk_fr_26
      rw [hA0] at hfk_fr_26
      have hC_fr_26 := hC.call hA93 hfz_fr_26 hfk_fr_26
      refine v_callS E (As := [vj v1]) (p_num κ H_19 (x := v1) hC_fr_26 ⟨by omega, by omega⟩) (lw_S q611 q472 q70 q473) 1 (by decide +kernel) rfl (by decide) (by decide) (cb' := 83) (sb' := 420) (by decide) (by decide) rfl (rest := []) (Nat.le_of_ble_eq_true rfl) (fun q h => h.elim) dX1_scale_36 (fun v_27 H_28 hpost_29 hz_30 hk_31 => ?_)
      obtain ⟨nq_24, rfl, hnq_25⟩ := hpost_29
      have hl_32 := CS.kf0 hC_fr_26 (kF.ext hz_30 hk_31) hl_23
      have hl_33 := LB.kf (eB_L κ _) hC_fr_26 (kF.ext hz_30 hk_31) aD.f aD.no hLBr
      refine V.eq (st' := [.ref nq_24]) rfl ?_
      refine v_astore E dX1_scale_39 (zlt hL rfl) (lv' := [(5, .ref nq_24), (4, .ref l2), (0, .ref x), (1, vi ((i0 : Nat) : Int)), (2, vi v1), (3, vi ((i2 : Nat) : Int))]) rfl ?_
      refine v_aload E 1 rfl dX1_scale_41 ?_
      obtain ⟨md_34, g_35, hA_36, hel_37, hSl_38, hSb_39⟩ := id hl_33
      refine V.frame (fun hfz_fr_40 hfk_fr_40 => ?_)
      rw [hH0] at hfz_fr_40 hfk_fr_40
      rw [hA0] at hfk_fr_40
      have hC_fr_40 := hC.call hA93 hfz_fr_40 hfk_fr_40
      obtain ⟨md_46, g_47, hA_48, -⟩ := id hl_33
      refine v_callV E (As := []) (b := l2) (ci := 5) (C := RJ2) (T := TJ2) (N := 3) hA_48.1 rfl (j_size κ H_28 hA_36) (lw_V q286 q152 q153 q73 q154) 0 (by decide +kernel) rfl (by decide) (by decide) (cb' := 83) (sb' := 420) (by decide) (by decide) rfl (rest := []) (Nat.le_of_ble_eq_true rfl) (fun q h => h.elim) dX1_scale_43 (fun v_41 H_42 hpost_43 hz_44 hk_45 => ?_)
      obtain rfl := hpost_43
      have hl_49 := CS.kf0 hC_fr_40 (kF.ext hz_44 hk_45) hl_32
      have hl_50 := LB.kf (eB_L κ _) hC_fr_40 (kF.ext hz_44 hk_45) aD.f aD.no hl_33
      have hl_51 := BI.kf hC.D (kF.ext hz_44 hk_45) hnq_25
      refine V.eq (st' := [vi (((T (a i0)).1 : Nat) : Int)]) rfl ?_
      refine v_iconst E dX1_scale_46 ?_
      refine v_isub E dX1_scale_47 ?_
      refine v_istore E dX1_scale_48 (zlt hL rfl) (lv' := [(6, vi ((((T (a i0)).1 : Nat) : Int) - 2)), (5, .ref nq_24), (4, .ref l2), (0, .ref x), (1, vi ((i0 : Nat) : Int)), (2, vi v1), (3, vi ((i2 : Nat) : Int))]) rfl ?_
      have loop_50 : ∀ (m_50 : Nat) (H : Heap) (u : Int) (m tq cb sb : Nat), (u + 1).toNat < m_50 → (-2 ≤ u ∧ u ≤ ((T (a i0)).1 : Int) - 2) → ((m : Int) = ((T (a i0)).1 : Int) - 1 - u) → (20 + 8 * (u + 1).toNat ≤ cb) → (120 + 40 * (u + 1).toNat ≤ sb) → LB κ H0.size (eB κ (scU (T (a i0)) v1 u)) H l2 b2 (T (a i0)).1 → BI κ H tq (v1 ^ m) → CS κ (fun q => dS ls bs li bi q ∧ q < Array.size H0) H x ls bs li bi a iso T n cap iv → V z H cb sb 50 [(6, vi u), (5, .ref tq), (4, .ref l2), (3, vi ((i2 : Nat) : Int)), (2, vi v1), (1, vi ((i0 : Nat) : Int)), (0, .ref x)] [] := by
        intro m_50
        induction m_50 with
        | zero => intro H u m tq cb sb hm; exact absurd hm (by omega)
        | succ m_50 ih_50 =>
          intro H u m tq cb sb hm_50 hu hm hcb hsb hR hT hS2
          have h7i := (hokT i0 hii0).1
          refine v_iload E 0 rfl dX1_scale_50 ?_
          refine v_if_lt E (tgt := 96) dX1_scale_52 (by decide) ⟨by omega, by omega⟩ (fun c_52 => ?_) (fun c_52 => ?_)
          · refine v_aload_n E 6 rfl dX1_scale_96 ?_
            refine v_iload_n E 3 rfl dX1_scale_97 ?_
            have hR_52 : LB κ H0.size (eB κ (scC (T (a i0)) v1)) H l2 b2 (T (a i0)).1 := LB.congr (fun k9 hk9 => scU_e (by omega)) hR
            refine V.frame (fun hfz_fr_53 hfk_fr_53 => ?_)
            rw [hH0] at hfz_fr_53 hfk_fr_53
            rw [hA0] at hfk_fr_53
            have hC_fr_53 := hC.call hA93 hfz_fr_53 hfk_fr_53
            refine V.frame (fun hfz_fr_54 hfk_fr_54 => ?_)
            rw [hH0] at hfz_fr_54 hfk_fr_54
            rw [hA0] at hfk_fr_54
            refine v_new E in_X3 tyX3 tyX3_ok q145 q146 q75 (ci := 2) rfl (fs := [.null]) (fun j hj => by rcases (show j = 0 by omega) with rfl <;> rfl) (cb' := (cb - 1)) (sb' := (sb - 1)) (by omega) (by omega) dX1_scale_98 (fun pn H_55 hq_58 ho_56 hg_57 => ?_)
            refine v_dup E rfl dX1_scale_101 ?_
            refine v_aload E 2 rfl dX1_scale_102 ?_
            refine V.frame (fun hfz_fr_59 hfk_fr_59 => ?_)
            rw [hH0] at hfz_fr_59 hfk_fr_59
            rw [hA0] at hfk_fr_59
            have hC_fr_59 := hC.call hA93 hfz_fr_59 hfk_fr_59
            have hLB_60 := LB.kf (eB_L κ _) hC_fr_53 (kF.grow hg_57) aD.no aD.no hR_52
            refine v_callI E (As := [.ref l2]) (b := pn) (p_init κ H_55 (D := (dS ls bs li bi)) (n := (T (a i0)).1) (c := scC (T (a i0)) v1) hC_fr_59 (Nat.le_trans hC.le (by omega)) (by omega) (fun q h => by have h2 := hsl0; exact ⟨by omega, by omega, by omega, by omega⟩) hC.le ho_56 hLB_60) q149 q75 q147 q148 rfl 1 (by decide +kernel) rfl (by decide) (by decide) (cb' := ((cb - 1) - 0)) (sb' := ((sb - 1) - 0)) (by omega) (by omega) rfl (rest := [.ref pn, vi ((i2 : Nat) : Int), .ref x]) (Nat.le_of_ble_eq_true rfl) (fun q h => hNew q (h.elim (fun h => by rw [h]; omega) (fun h => h.elim (fun h => by rw [h]; exact (hR_52).choose_spec.choose_spec.2.2.1) (fun h => by rw [h.1]; exact (hR_52).choose_spec.choose_spec.2.2.2 h.2)))) dX1_scale_104 (fun v_61 H_62 hpost_63 hz_64 hk_65 => ?_)
            obtain ⟨rfl, hPo_pn⟩ := hpost_63
            obtain ⟨md_67, g_68, hA_69, -, hSl_70, hSb_71⟩ := id hR_52
            have hkN_66 : ∀ q9 : Nat, q9 < Array.size H → ¬ (q9 = l2 ∨ (q9 = b2 ∧ 0 < (T (a i0)).1)) → H_62[q9]? = H[q9]? := fun q9 h9 h8 => (hk_65 q9 (by rw [hg_57.1]; omega) (fun h => h.elim (fun h => by omega) h8)).trans (hg_57.2 q9 h9)
            have hF_72 : kF κ H H_62 (fun q => q = l2 ∨ (q = b2 ∧ 0 < (T (a i0)).1)) := kF.lst hA_69 (fun q h => h.imp id (fun h => ⟨h.1, capR_pos h.2⟩)) (by have := hg_57.1; omega) hkN_66
            have hl_73 := BI.kf hC.D hF_72 hT
            have hl_74 := CS.kf hC_fr_53 hF_72 (aD.nn (fun q h hd => absurd hd.2 (Nat.not_lt.mpr (h.elim (fun e => by rw [e]; exact hSl_70) (fun e => by rw [e.1]; exact hSb_71 e.2))))) (fun q h => by have h1 : H0.size ≤ q := h.elim (fun e => by rw [e]; exact hSl_70) (fun e => by rw [e.1]; exact hSb_71 e.2); have h3 := hsl0; exact ⟨by omega, by omega, by omega, by omega, fun _ => by omega⟩) hS2
            refine V.eq (st' := [.ref pn, vi ((i2 : Nat) : Int), .ref x]) rfl ?_
            have hSo_75 := CS.mono (D' := dS ls bs li bi) hl_74 (fun q h1 h2 => h2.1)
            have hop : xoScale S (i0 : Int) v1 (i2 : Int) = storeR (mkP (T (a i0)).1 (scC (T (a i0)) v1)) i2 3 S := by unfold xoScale; rw [if_pos ⟨⟨by omega, by omega⟩, by omega, by omega⟩, if_pos ⟨by omega, by omega⟩]; show storeR (mkP (S i0).1 (scC (S i0) v1)) i2 3 S = _; rw [hST i0 hii0]
            refine V.frame (fun hfz_fr_76 hfk_fr_76 => ?_)
            rw [hH0] at hfz_fr_76 hfk_fr_76
            rw [hA0] at hfk_fr_76
            have hC_fr_76 := hC.call hA93 hfz_fr_76 hfk_fr_76
            obtain ⟨md_78, g_79, hA_77, hg_80⟩ := hSo_75.2.2.1
            refine v_callVX E X9 hE (As := [vi ((i2 : Nat) : Int), .ref pn]) (b := x) (ci := 0) (C := RX1) (T := TX1) (N := 3) hSo_75.2.1 rfl (x_store κ H_62 hii2 hC_fr_76 dS_bs hPo_pn hSo_75) (lw_V q612 q614 qs9 q70 q615) 2 (by decide +kernel) rfl (by decide) (by decide) (cb' := (((cb - 1) - 0) - 18)) (sb' := (((sb - 1) - 0) - 110)) (by omega) (by omega) rfl (rest := []) (Nat.le_of_ble_eq_true rfl) (fun q h => by have h9 := pA.arr hfk_fr_76 hA_77.2.1 (hA_77.2.2.2.2.2.2.2.2.1 (by decide)); rw [← show q = bs from h] at h9; exact h9.elim (fun e => hAll q e) (fun e => hNew q e)) dX1_scale_107 (fun C9 H9 hx9 hz9 hk9 => (by exact ⟨Or.inr (Or.inr (⟨hx9.1, by rw [hop, storeR_n hPo_pn.1 hx9.2.1]⟩)), CS.pub hx9.2.2 hST hiso⟩)) (fun v_81 H_82 hpost_83 hz_84 hk_85 => ?_)
            obtain ⟨hok9, rfl, kq, hkq9, hS9⟩ := hpost_83
            refine V.eq (st' := [vi (((Prod.fst (mkP ((T (a i0)).1) (scC (T (a i0)) v1)) : Nat) : Int) - 1)]) rfl ?_
            refine V.rt E hE (fun z9 E hE => ?_)
            refine v_iret E hE dX1_scale_110 ?_
            rw [hop, storeR_y hok9]; exact ⟨rfl, rfl, CS.pubT hSo_75 hkq9 hS9 hST hiso⟩
          · obtain ⟨k, hk⟩ : ∃ k : Nat, u = (k : Int) := ⟨u.toNat, by omega⟩
            subst hk
            have h7i := (hokT i0 hii0).1
            have hPk := (hokT i0 hii0).2 k
            have hpw := pw9 (y := v1) (m := m) ⟨by omega, by omega⟩ (by omega)
            refine v_aload E 2 rfl dX1_scale_55 ?_
            refine v_iload E 0 rfl dX1_scale_57 ?_
            refine v_aload E 2 rfl dX1_scale_59 ?_
            refine v_iload E 0 rfl dX1_scale_61 ?_
            obtain ⟨md_86, g_87, hA_88, hel_89, hSl_90, hSb_91⟩ := id hR
            obtain ⟨y_92, hy_93, hE_94⟩ := hel_89 k (by omega)
            have hE_94 : BI κ H y_92 ((T (a i0)).2 k) := by rw [← show (scU (T (a i0)) v1 (k : Int)) k = ((T (a i0)).2 k) from if_neg (by omega)]; exact hE_94
            refine V.frame (fun hfz_fr_95 hfk_fr_95 => ?_)
            rw [hH0] at hfz_fr_95 hfk_fr_95
            rw [hA0] at hfk_fr_95
            have hC_fr_95 := hC.call hA93 hfz_fr_95 hfk_fr_95
            obtain ⟨md_101, g_102, hA_103, -⟩ := id hR
            refine v_callV E (As := [vi ((k : Nat) : Int)]) (b := l2) (ci := 5) (C := RJ2) (T := TJ2) (N := 3) hA_103.1 rfl (j_get κ H (i := k) (y := y_92) (by omega) hy_93 hA_88) (lw_V q610 q156 q157 q73 q158) 1 (by decide +kernel) rfl (by decide) (by decide) (cb' := (cb - 0)) (sb' := (sb - 0)) (by omega) (by omega) rfl (rest := [vi ((k : Nat) : Int), .ref l2]) (Nat.le_of_ble_eq_true rfl) (fun q h => h.elim) dX1_scale_63 (fun v_96 H_97 hpost_98 hz_99 hk_100 => ?_)
            obtain rfl := hpost_98
            have hl_104 := LB.kf (eB_L κ _) hC_fr_95 (kF.ext hz_99 hk_100) aD.f aD.no hR
            have hl_105 := BI.kf hC.D (kF.ext hz_99 hk_100) hT
            have hl_106 := CS.kf0 hC_fr_95 (kF.ext hz_99 hk_100) hS2
            have hl_107 := BI.kf hC.D (kF.ext hz_99 hk_100) hE_94
            refine V.eq (st' := [.ref y_92, vi ((k : Nat) : Int), .ref l2]) rfl ?_
            obtain ⟨mz_109, nz_109, cfz_109, ⟨c1z_109, c2z_109, c3z_109, ho_108⟩, -⟩ := id hl_107
            refine v_castS E ho_108 (q := (RJ16, TJ16, 6)) rfl q621 dX1_scale_66 ?_
            refine v_aload E 1 rfl dX1_scale_69 ?_
            refine V.frame (fun hfz_fr_112 hfk_fr_112 => ?_)
            rw [hH0] at hfz_fr_112 hfk_fr_112
            rw [hA0] at hfk_fr_112
            have hC_fr_112 := hC.call hA93 hfz_fr_112 hfk_fr_112
            obtain ⟨mz_119, nz_119, cfz_119, ⟨c1z_119, c2z_119, c3z_119, ho_118⟩, -⟩ := id hl_107
            refine v_callV E (As := [.ref tq]) (b := y_92) (ci := 6) (C := RJ16) (T := TJ16) (N := 6) ho_118 rfl (g_mul κ H_97 (N := 1) (M := 1) hC_fr_112 hl_107 hl_105 (by rw [p32z]; omega) (by rw [p32z]; omega) (Or.inl (by decide)) (sB_m1 (u := 1) (v := 1) (by rw [p32z]; omega) (by rw [p32z]; omega) (by decide))) (lw_V q959 q960 q961 q91 q962) 1 (by decide +kernel) rfl (by decide) (by decide) (cb' := ((cb - 0) - 3)) (sb' := ((sb - 0) - (2 * (1 + 1) + 7))) (by omega) (by omega) rfl (rest := [vi ((k : Nat) : Int), .ref l2]) (Nat.le_of_ble_eq_true rfl) (fun q h => h.elim) dX1_scale_71 (fun v_113 H_114 hpost_115 hz_116 hk_117 => ?_)
            obtain ⟨qm_110, rfl, hBm_111⟩ := hpost_115
            have hl_120 := LB.kf (eB_L κ _) hC_fr_112 (kF.ext hz_116 hk_117) aD.f aD.no hl_104
            have hl_121 := BI.kf hC.D (kF.ext hz_116 hk_117) hl_105
            have hl_122 := CS.kf0 hC_fr_112 (kF.ext hz_116 hk_117) hl_106
            have hl_123 := BI.kf hC.D (kF.ext hz_116 hk_117) hl_107
            refine V.eq (st' := [.ref qm_110, vi ((k : Nat) : Int), .ref l2]) rfl ?_
            refine V.frame (fun hfz_fr_124 hfk_fr_124 => ?_)
            rw [hH0] at hfz_fr_124 hfk_fr_124
            rw [hA0] at hfk_fr_124
            have hC_fr_124 := hC.call hA93 hfz_fr_124 hfk_fr_124
            obtain ⟨md_125, g_126, hA_127, hel_128, hSl_129, hSb_130⟩ := id hl_120
            obtain ⟨y_131, hy_132, -⟩ := hel_128 k (by omega)
            obtain ⟨md_138, g_139, hA_140, -⟩ := id hl_120
            refine v_callV E (As := [vi ((k : Nat) : Int), .ref qm_110]) (b := l2) (ci := 5) (C := RJ2) (T := TJ2) (N := 3) hA_140.1 rfl (j_set κ H_114 hC_fr_124 (i := k) hBm_111.oA (by omega) hy_132 hA_127) (lw_V q667 q668 q669 q73 q670) 2 (by decide +kernel) rfl (by decide) (by decide) (cb' := (((cb - 0) - 3) - 0)) (sb' := (((sb - 0) - (2 * (1 + 1) + 7)) - 0)) (by omega) (by omega) rfl (rest := []) (Nat.le_of_ble_eq_true rfl) (fun q h => hNew q (by rw [show q = b2 from h]; exact hSb_130 (by omega))) dX1_scale_74 (fun v_133 H_134 hpost_135 hz_136 hk_137 => ?_)
            obtain ⟨rfl, hA_141⟩ := hpost_135
            have hk2_144 : ∀ q : Nat, q < Array.size H_114 → ¬ (q = l2 ∨ (q = b2 ∧ 0 < (T (a i0)).1)) → H_134[q]? = H_114[q]? := fun q h1 h2 => hk_137 q h1 (fun e => h2 (Or.inr ⟨e, by omega⟩))
            have hF_142 := (kF.lst hA_127 (fun q h => h.imp id (fun h => ⟨h.1, capR_pos h.2⟩)) hz_136 hk2_144)
            have hl_145 := BI.kf hC.D hF_142 hl_121
            have hl_146 := CS.kf hC_fr_124 hF_142 (aD.nn (fun q h hd => absurd hd.2 (Nat.not_lt.mpr (h.elim (fun e => by rw [e]; exact hSl_129) (fun e => by rw [e.1]; exact hSb_130 e.2))))) (fun q h => by have h1 : H0.size ≤ q := h.elim (fun e => by rw [e]; exact hSl_129) (fun e => by rw [e.1]; exact hSb_130 e.2); have h3 := hsl0; exact ⟨by omega, by omega, by omega, by omega, fun _ => by omega⟩) hl_122
            have hl_147 := BI.kf hC.D hF_142 hl_123
            have hl_148 := BI.kf hC.D hF_142 hBm_111
            have hR_143 : LB κ H0.size (eB κ (scU (T (a i0)) v1 ((k : Int) + (-1)))) H_134 l2 b2 (T (a i0)).1 := LB.put (c := scU (T (a i0)) v1 (k : Int)) (fun j9 hj9 => (hel_128 j9 hj9).elim (fun y9 hy9 => ⟨y9, hy9.1, hy9.2.kf hC.D hF_142⟩)) hl_148 hA_141 hSl_129 hSb_130 (fun j9 hj9 ne9 => scU_s ne9) (scU_k (m := m) rfl hm)
            refine V.eq (st' := [.ref y_131]) rfl ?_
            refine v_pop E rfl dX1_scale_77 ?_
            refine v_aload E 1 rfl dX1_scale_78 ?_
            refine v_iload_n E 4 rfl dX1_scale_80 ?_
            refine v_i2l E ⟨by omega, by omega⟩ dX1_scale_81 ?_
            refine V.frame (fun hfz_fr_151 hfk_fr_151 => ?_)
            rw [hH0] at hfz_fr_151 hfk_fr_151
            rw [hA0] at hfk_fr_151
            have hC_fr_151 := hC.call hA93 hfz_fr_151 hfk_fr_151
            refine v_callS E (As := [vj v1]) (p_num κ H_134 (x := v1) hC_fr_151 ⟨by omega, by omega⟩) (lw_S q611 q472 q70 q473) 1 (by decide +kernel) rfl (by decide) (by decide) (cb' := ((((cb - 0) - 3) - 0) - 2)) (sb' := ((((sb - 0) - (2 * (1 + 1) + 7)) - 0) - 8)) (by omega) (by omega) rfl (rest := [.ref tq]) (Nat.le_of_ble_eq_true rfl) (fun q h => h.elim) dX1_scale_82 (fun v_152 H_153 hpost_154 hz_155 hk_156 => ?_)
            obtain ⟨nq_149, rfl, hnq_150⟩ := hpost_154
            have hl_157 := BI.kf hC.D (kF.ext hz_155 hk_156) hl_145
            have hl_158 := CS.kf0 hC_fr_151 (kF.ext hz_155 hk_156) hl_146
            have hl_159 := BI.kf hC.D (kF.ext hz_155 hk_156) hl_147
            have hl_160 := BI.kf hC.D (kF.ext hz_155 hk_156) hl_148
            have hl_161 := LB.kf (eB_L κ _) hC_fr_151 (kF.ext hz_155 hk_156) aD.f aD.no hR_143
            refine V.eq (st' := [.ref nq_149, .ref tq]) rfl ?_
            refine V.frame (fun hfz_fr_164 hfk_fr_164 => ?_)
            rw [hH0] at hfz_fr_164 hfk_fr_164
            rw [hA0] at hfk_fr_164
            have hC_fr_164 := hC.call hA93 hfz_fr_164 hfk_fr_164
            obtain ⟨mz_171, nz_171, cfz_171, ⟨c1z_171, c2z_171, c3z_171, ho_170⟩, -⟩ := id hl_157
            refine v_callV E (As := [.ref nq_149]) (b := tq) (ci := 6) (C := RJ16) (T := TJ16) (N := 6) ho_170 rfl (g_mul κ H_153 (N := 1) (M := 1) hC_fr_164 hl_157 hnq_150 (by rw [p32z]; omega) (by rw [p32z]; omega) (Or.inl (by decide)) (sB_m1 (u := 1) (v := 1) (by rw [p32z]; omega) (by rw [p32z]; omega) (by decide))) (lw_V q959 q960 q961 q91 q962) 1 (by decide +kernel) rfl (by decide) (by decide) (cb' := (((((cb - 0) - 3) - 0) - 2) - 3)) (sb' := (((((sb - 0) - (2 * (1 + 1) + 7)) - 0) - 8) - (2 * (1 + 1) + 7))) (by omega) (by omega) rfl (rest := []) (Nat.le_of_ble_eq_true rfl) (fun q h => h.elim) dX1_scale_85 (fun v_165 H_166 hpost_167 hz_168 hk_169 => ?_)
            obtain ⟨qm_162, rfl, hBm_163⟩ := hpost_167
            have hl_172 := BI.kf hC.D (kF.ext hz_168 hk_169) hl_157
            have hl_173 := CS.kf0 hC_fr_164 (kF.ext hz_168 hk_169) hl_158
            have hl_174 := BI.kf hC.D (kF.ext hz_168 hk_169) hl_159
            have hl_175 := BI.kf hC.D (kF.ext hz_168 hk_169) hl_160
            have hl_176 := LB.kf (eB_L κ _) hC_fr_164 (kF.ext hz_168 hk_169) aD.f aD.no hl_161
            have hl_177 := BI.kf hC.D (kF.ext hz_168 hk_169) hnq_150
            refine V.eq (st' := [.ref qm_162]) rfl ?_
            refine v_astore E dX1_scale_88 (zlt hL rfl) (lv' := [(5, .ref qm_162), (6, vi ((k : Nat) : Int)), (4, .ref l2), (3, vi ((i2 : Nat) : Int)), (2, vi v1), (1, vi ((i0 : Nat) : Int)), (0, .ref x)]) rfl ?_
            refine v_iinc E 1 rfl dX1_scale_90 (zlt hL rfl) (lv' := [(6, vi (((k : Nat) : Int) + (-1))), (5, .ref qm_162), (4, .ref l2), (3, vi ((i2 : Nat) : Int)), (2, vi v1), (1, vi ((i0 : Nat) : Int)), (0, .ref x)]) rfl ?_
            refine v_goto E (tgt := 50) dX1_scale_93 (by decide) ?_
            have hT_178 : BI κ H_166 qm_162 (v1 ^ (m + 1)) := by rw [Int.pow_succ]; exact hBm_163
            exact ih_50  H_166 ((k : Int) + (-1)) (m + 1) qm_162 (((((cb - 0) - 3) - 0) - 2) - 3) (((((sb - 0) - (2 * (1 + 1) + 7)) - 0) - 8) - (2 * (1 + 1) + 7)) (by omega) ⟨by omega, by omega⟩ (by omega) (by omega) (by omega) hl_176 hT_178 hl_173
      refine V.sub [0, 1, 2, 6, 5, 4, 3] (lv' := [(6, vi ((((T (a i0)).1 : Nat) : Int) - 2)), (5, .ref nq_24), (4, .ref l2), (3, vi ((i2 : Nat) : Int)), (2, vi v1), (1, vi ((i0 : Nat) : Int)), (0, .ref x)]) rfl ?_
      have hT_179 : BI κ H_42 nq_24 (v1 ^ 1) := by rw [Int.pow_succ, Int.pow_zero, Int.one_mul]; exact hl_51
      have hR_180 : LB κ H0.size (eB κ (scU (T (a i0)) v1 (((T (a i0)).1 : Int) - 2))) H_42 l2 b2 (T (a i0)).1 := LB.congr (fun k9 hk9 => scU_0 rfl rfl hk9) hl_50
      exact loop_50 (((T (a i0)).1 : Int).toNat + 1) H_42 (((T (a i0)).1 : Int) - 2) 1 nq_24 83 420 (by omega) ⟨by omega, by omega⟩ (by omega) (by have := (hokT i0 hii0).1; omega) (by have := (hokT i0 hii0).1; omega) hR_180 hT_179 hl_49
    · refine V.frame (fun hfz_fr_181 hfk_fr_181 => ?_)
      rw [hH0] at hfz_fr_181 hfk_fr_181
      rw [hA0] at hfk_fr_181
      have hC_fr_181 := hC.call hA93 hfz_fr_181 hfk_fr_181
      refine V.frame (fun hfz_fr_182 hfk_fr_182 => ?_)
      rw [hH0] at hfz_fr_182 hfk_fr_182
      rw [hA0] at hfk_fr_182
      refine v_throw0 E X9 hE (cls := "java/lang/IllegalArgumentException") (names := ["java/lang/RuntimeException", "java/lang/Exception"]) (ik := 138) (ic := 140) (by decide +kernel) (by decide +kernel) q591 q89 (ex_1 E.kn E.2.2.2.2.1 q600) ex_1_ok dX1_scale_19 dX1_scale_22 dX1_scale_23 dX1_scale_26 (by decide) (Nat.le_of_ble_eq_true rfl) (by omega) (by omega) (fun H9 hz9 hk9 => ?_)
      exact ⟨Or.inr (Or.inl (⟨rfl, (by unfold xoScale; first | (split <;> first | rfl | (exfalso; omega) | (split <;> first | rfl | (exfalso; omega) | (split <;> first | rfl | (exfalso; omega)))))⟩)), CS.pub (CS.kf0 hC_fr_181 (kF.ext hz9 (fun q hq _ => hk9 q hq)) (CS.mono (D' := dS ls bs li bi) hl_14 (fun q h1 h2 => h2.1))) hST hiso⟩
