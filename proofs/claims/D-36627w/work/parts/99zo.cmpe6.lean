/-! THE COMPONENT: refine -/
def xrS (P : Pl) : Nat → Nat → Int → Int → Int → Nat × Int × Int
  | 0, e, l, h, _ => (e, l, h)
  | s + 1, e, l, h, c => if l < h then (if cSg P (l + h) (e + 1) = 0 then xrS P s (e + 1) (l + h) (l + h) c else (if fch P (l + h) (e + 1) < c then xrS P s (e + 1) (2 * l) (l + h) c else xrS P s (e + 1) (l + h) (2 * h) (fch P (l + h) (e + 1)))) else (e, l, h)
def xoRf (S : Nat → Pl) (P : Pl) (n : Nat) (iv : Nat → Ivl) (j t : Int) : zRc := if 0 ≤ j ∧ j < (n : Int) then (if 1 ≤ t ∧ t ≤ 6 then (if (iv j.toNat).2.2.2 ≠ 1 ∨ (iv j.toNat).2.1 = (iv j.toNat).2.2.1 ∨ 12 < (iv j.toNat).1 + t then (0, 3, S) else (((xrS P t.toNat (iv j.toNat).1.toNat (iv j.toNat).2.1 (iv j.toNat).2.2.1 (fch P (iv j.toNat).2.1 (iv j.toNat).1.toNat)).1 : Int), 0, S)) else (0, 2, S)) else (0, 1, S)
def xrV (P : Pl) (v : Ivl) (t : Nat) : Ivl := (((xrS P t v.1.toNat v.2.1 v.2.2.1 (fch P v.2.1 v.1.toNat)).1 : Int), (xrS P t v.1.toNat v.2.1 v.2.2.1 (fch P v.2.1 v.1.toNat)).2.1, (xrS P t v.1.toNat v.2.1 v.2.2.1 (fch P v.2.1 v.1.toNat)).2.2, 1)
theorem xrS_e {P : Pl} {s e : Nat} {l h c : Int} (hs : s = 0 ∨ ¬ l < h) : xrS P s e l h c = (e, l, h) := by
  cases s with
  | zero => rfl
  | succ s => exact if_neg (hs.resolve_left (by omega))
theorem xrS_0 {P : Pl} {s e : Nat} {l h c : Int} (hs : 0 < s) (hl : l < h) (hr : cSg P (l + h) (e + 1) = 0) : xrS P s e l h c = xrS P (s - 1) (e + 1) (l + h) (l + h) c := by
  match s, hs with
  | s + 1, _ => exact (if_pos hl).trans (if_pos hr)
theorem xrS_l {P : Pl} {s e : Nat} {l h c : Int} (hs : 0 < s) (hl : l < h) (hr : ¬ cSg P (l + h) (e + 1) = 0) (hc : fch P (l + h) (e + 1) < c) : xrS P s e l h c = xrS P (s - 1) (e + 1) (2 * l) (l + h) c := by
  match s, hs with
  | s + 1, _ => exact (if_pos hl).trans ((if_neg hr).trans (if_pos hc))
theorem xrS_r {P : Pl} {s e : Nat} {l h c : Int} (hs : 0 < s) (hl : l < h) (hr : ¬ cSg P (l + h) (e + 1) = 0) (hc : ¬ fch P (l + h) (e + 1) < c) : xrS P s e l h c = xrS P (s - 1) (e + 1) (l + h) (2 * h) (fch P (l + h) (e + 1)) := by
  match s, hs with
  | s + 1, _ => exact (if_pos hl).trans ((if_neg hr).trans (if_neg hc))
theorem p2_11 {e : Nat} (h : e ≤ 11) : 2 ^ e ≤ 2048 := Nat.le_trans (Nat.pow_le_pow_right (by decide) h) (by decide)
theorem p2_12 {e : Nat} (h : e ≤ 12) : 2 ^ e ≤ 4096 := Nat.le_trans (Nat.pow_le_pow_right (by decide) h) (by decide)
def okJ (n : Nat) (iv : Nat → Ivl) : Prop := ∀ k, k < n → (iv k).2.1.natAbs ≤ 16384 * 2 ^ (iv k).1.toNat ∧ (iv k).2.2.1.natAbs ≤ 16384 * 2 ^ (iv k).1.toNat
set_option maxHeartbeats 1000000 in
set_option maxRecDepth 100000 in
/-- refine -/
theorem c_rf (κ : zK) (H0 : Heap) {x : Nat} {S : Nat → Pl} {isoP : Option Pl} {n cap : Nat} {iv : Nat → Ivl} {v0 : Int} (hrv0 : rI v0) {v1 : Int} (hrv1 : rI v1) (hC : CO κ H0) {N : Nat → Nat → Nat} {M : Nat → Nat} {M0 N1 M1 : Nat} {Nt Kt : Nat → Nat} {Cf Lf C1 L1 : Nat} {N3 K3 : Nat} {P0 : Pl} (hisP : isoP = some P0) (hokI : okI n iv) (hQH : okH P0 N M M0 N1 M1 Nt Kt Cf Lf C1 L1) (hfV : ∀ (m : Int) (e : Nat), -4294967296 < m → m < 4294967296 → e ≤ 12 → fitV P0 m e N3 K3) (hokJ : okJ n iv) (hP : CP κ H0 x S isoP n cap iv)  : MtX κ yX1_refine cX1_refine 11 (some .int) 17 440 (60 + Cf + C1 + 6 * (51 + C1)) ((8 + (4 * K3 + N3 + 28) * 6) + Lf + L1 + 6 * ((8 + (4 * K3 + N3 + 28) * 6) + L1 + 4) + 30) H0 [.ref x, vi v0, vi v1] (pA κ H0) (fun v H1 => (xoRf S P0 n iv v0 v1).2.1 = 0 ∧ v = some (vi (xoRf S P0 n iv v0 v1).1) ∧ CP κ H1 x S isoP n cap (va_up iv v0.toNat (xrV P0 (iv v0.toNat) v1.toNat))) (fun C H1 => (C = "java/lang/IndexOutOfBoundsException" ∧ (xoRf S P0 n iv v0 v1).2.1 = 1 ∨ C = "java/lang/IllegalArgumentException" ∧ (xoRf S P0 n iv v0 v1).2.1 = 2 ∨ C = "java/lang/IllegalStateException" ∧ (xoRf S P0 n iv v0 v1).2.1 = 3) ∧ CP κ H1 x S isoP n cap iv) := by
  refine MtX.of (by decide) (Nat.le_of_ble_eq_true rfl) ?_
  intro z E X9 hE hH0 hA0 hL hini
  have hAll : ∀ q, (pA κ H0) q → zA z.A z.H0 q := fun q h => Or.inl (by rw [hA0]; exact h)
  have hNew : ∀ q, H0.size ≤ q → zA z.A z.H0 q := fun q h => Or.inr (by rw [hH0]; exact h)
  have E : zOK z cX1_refine RX1 κ 17 440 (some .int) := E
  refine V.eqL (lv' := [(0, .ref x), (1, vi v0), (2, vi v1)]) rfl ?_
  obtain ⟨ls, bs, li, bi, a, iso, T, hS, hST, hiso⟩ := hP
  have hA93 : ∀ q, pA κ H0 q → κ.2 93 ≤ q := fun q h => h.1
  have hD := hC.D
  have hsl0 := hS.sl
  obtain ⟨kk0, hik, hTP⟩ : ∃ kk0, iso = some kk0 ∧ T kk0 = P0 := by
    rw [hisP] at hiso
    cases hi9 : iso with
    | none => rw [hi9] at hiso; exact absurd hiso (by simp)
    | some k => rw [hi9] at hiso; exact ⟨k, rfl, (Option.some.inj hiso).symm⟩
  subst hTP
  have hQ9 : okH (T kk0) N M M0 N1 M1 Nt Kt Cf Lf C1 L1 := hQH
  have h7k : (T kk0).1 ≤ 7 := hQH.1.1
  have hn1 := hS.n
  refine v_aload_n E 0 rfl dX1_refine_0 ?_
  refine v_iload_n E 1 rfl dX1_refine_1 ?_
  refine V.frame (fun hfz_fr_1 hfk_fr_1 => ?_)
  rw [hH0] at hfz_fr_1 hfk_fr_1
  rw [hA0] at hfk_fr_1
  have hC_fr_1 := hC.call hA93 hfz_fr_1 hfk_fr_1
  refine v_callVX E X9 hE (As := [vi v0]) (b := x) (ci := 0) (C := RX1) (T := TX1) (N := 3) hS.2.1 rfl (x_iv κ H0 hrv0 hC_fr_1 hS) (lw_V q1624 q1626 qs43 q70 q1627) 1 (by decide +kernel) rfl (by decide) (by decide) (cb' := ((60 + Cf + C1 + 6 * (51 + C1)) - 1)) (sb' := (((8 + (4 * K3 + N3 + 28) * 6) + Lf + L1 + 6 * ((8 + (4 * K3 + N3 + 28) * 6) + L1 + 4) + 30) - 6)) (by omega) (by omega) rfl (rest := []) (Nat.le_of_ble_eq_true rfl) (fun q h => h.elim) dX1_refine_2 (fun C9 H9 hx9 hz9 hk9 => (by exact ⟨Or.inl (⟨hx9.1, (by have hx8 := hx9.2; unfold xoRf; first | (split <;> first | rfl | (exfalso; omega) | (split <;> first | rfl | (exfalso; omega) | (split <;> first | rfl | (exfalso; omega)))))⟩), CS.pub (CS.kf0 hC_fr_1 (kF.ext hz9 hk9) hS) hST hiso⟩)) (fun v_2 H_3 hpost_4 hz_5 hk_6 => ?_)
  obtain ⟨k9, y9, rfl, hk9n, rfl, hE9⟩ := hpost_4
  have hl_7 := CS.kf0 hC_fr_1 (kF.ext hz_5 hk_6) hS
  obtain ⟨e, lo9, hi9, rt9, hiv9⟩ : ∃ (e : Nat) (lo9 hi9 rt9 : Int), iv k9 = ((e : Int), lo9, hi9, rt9) := ⟨_, _, _, _, iv_at _ (hokI k9 hk9n).1.1⟩
  have hok9 := hokI k9 hk9n
  rw [hiv9] at hE9 hok9
  obtain ⟨⟨hq1, hq2⟩, hq3, hq4, hq5⟩ : (0 ≤ (e : Int) ∧ (e : Int) ≤ 12) ∧ (-134217728 ≤ lo9 ∧ lo9 ≤ 134217728) ∧ (-134217728 ≤ hi9 ∧ hi9 ≤ 134217728) ∧ (-100 ≤ rt9 ∧ rt9 ≤ 100) := hok9
  have he12 : e ≤ 12 := by omega
  refine V.eq (st' := [.ref y9]) rfl ?_
  refine v_astore_n E dX1_refine_5 (zlt hL rfl) (lv' := [(3, .ref y9), (0, .ref x), (1, vi ((k9 : Nat) : Int)), (2, vi v1)]) rfl ?_
  refine v_iload_n E 3 rfl dX1_refine_6 ?_
  refine v_iconst E dX1_refine_7 ?_
  refine v_icmp_lt E (tgt := 17) dX1_refine_8 (by decide) hrv1 ⟨by omega, by omega⟩ (fun c_8 => ?_) (fun c_8 => ?_)
  · refine V.frame (fun hfz_fr_8 hfk_fr_8 => ?_)
    rw [hH0] at hfz_fr_8 hfk_fr_8
    rw [hA0] at hfk_fr_8
    have hC_fr_8 := hC.call hA93 hfz_fr_8 hfk_fr_8
    refine V.frame (fun hfz_fr_9 hfk_fr_9 => ?_)
    rw [hH0] at hfz_fr_9 hfk_fr_9
    rw [hA0] at hfk_fr_9
    refine v_throw0 E X9 hE (cls := "java/lang/IllegalArgumentException") (names := ["java/lang/RuntimeException", "java/lang/Exception"]) (ik := 138) (ic := 140) (by decide +kernel) (by decide +kernel) q591 q89 (ex_1 E.kn E.2.2.2.2.1 q600) ex_1_ok dX1_refine_17 dX1_refine_20 dX1_refine_21 dX1_refine_24 (by decide) (Nat.le_of_ble_eq_true rfl) (by omega) (by omega) (fun H9 hz9 hk9 => ?_)
    exact ⟨Or.inr (Or.inl ⟨rfl, by unfold xoRf; rw [if_pos ⟨by omega, by omega⟩, Int.toNat_natCast, hiv9]; exact congrArg (fun t : zRc => t.2.1) (if_neg (show ¬ (1 ≤ v1 ∧ v1 ≤ 6) by omega))⟩), CS.pub (CS.kf0 hC_fr_8 (kF.ext hz9 (fun q hq _ => hk9 q hq)) hl_7) hST hiso⟩
  · refine v_iload_n E 3 rfl dX1_refine_11 ?_
    refine v_bipush E ⟨by decide, by decide⟩ dX1_refine_12 ?_
    refine v_icmp_le E (tgt := 25) dX1_refine_14 (by decide) hrv1 ⟨by omega, by omega⟩ (fun c_14 => ?_) (fun c_14 => ?_)
    · refine v_aload_n E 0 rfl dX1_refine_25 ?_
      refine v_getfN (host := "SturmRoots") E in_X5 hE9 (ci := 4) rfl 3 (by decide) (by decide +kernel) rfl (v := vi rt9) rfl dX1_refine_26 ?_
      refine v_iconst E dX1_refine_29 ?_
      refine v_icmp_ne E (tgt := 55) dX1_refine_30 (by decide) ⟨by omega, by omega⟩ ⟨by omega, by omega⟩ (fun c_30 => ?_) (fun c_30 => ?_)
      · refine V.frame (fun hfz_fr_10 hfk_fr_10 => ?_)
        rw [hH0] at hfz_fr_10 hfk_fr_10
        rw [hA0] at hfk_fr_10
        have hC_fr_10 := hC.call hA93 hfz_fr_10 hfk_fr_10
        refine V.frame (fun hfz_fr_11 hfk_fr_11 => ?_)
        rw [hH0] at hfz_fr_11 hfk_fr_11
        rw [hA0] at hfk_fr_11
        refine v_throw0 E X9 hE (cls := "java/lang/IllegalStateException") (names := ["java/lang/RuntimeException", "java/lang/Exception"]) (ik := 157) (ic := 159) (by decide +kernel) (by decide +kernel) q665 q95 (ex_2 E.kn E.2.2.2.2.1 q666) ex_2_ok dX1_refine_55 dX1_refine_58 dX1_refine_59 dX1_refine_62 (by decide) (Nat.le_of_ble_eq_true rfl) (by omega) (by omega) (fun H9 hz9 hk9 => ?_)
        exact ⟨Or.inr (Or.inr ⟨rfl, by unfold xoRf; rw [if_pos ⟨by omega, by omega⟩, Int.toNat_natCast, hiv9]; exact congrArg (fun t : zRc => t.2.1) ((if_pos (show 1 ≤ v1 ∧ v1 ≤ 6 by omega)).trans (if_pos (show rt9 ≠ 1 ∨ lo9 = hi9 ∨ 12 < (e : Int) + v1 by omega)))⟩), CS.pub (CS.kf0 hC_fr_10 (kF.ext hz9 (fun q hq _ => hk9 q hq)) hl_7) hST hiso⟩
      · refine v_aload_n E 0 rfl dX1_refine_33 ?_
        refine v_getfN (host := "SturmRoots") E in_X5 hE9 (ci := 4) rfl 1 (by decide) (by decide +kernel) rfl (v := vi lo9) rfl dX1_refine_34 ?_
        refine v_aload_n E 0 rfl dX1_refine_37 ?_
        refine v_getfN (host := "SturmRoots") E in_X5 hE9 (ci := 4) rfl 2 (by decide) (by decide +kernel) rfl (v := vi hi9) rfl dX1_refine_38 ?_
        refine v_icmp_eq E (tgt := 55) dX1_refine_41 (by decide) ⟨by omega, by omega⟩ ⟨by omega, by omega⟩ (fun c_41 => ?_) (fun c_41 => ?_)
        · refine V.frame (fun hfz_fr_12 hfk_fr_12 => ?_)
          rw [hH0] at hfz_fr_12 hfk_fr_12
          rw [hA0] at hfk_fr_12
          have hC_fr_12 := hC.call hA93 hfz_fr_12 hfk_fr_12
          refine V.frame (fun hfz_fr_13 hfk_fr_13 => ?_)
          rw [hH0] at hfz_fr_13 hfk_fr_13
          rw [hA0] at hfk_fr_13
          refine v_throw0 E X9 hE (cls := "java/lang/IllegalStateException") (names := ["java/lang/RuntimeException", "java/lang/Exception"]) (ik := 157) (ic := 159) (by decide +kernel) (by decide +kernel) q665 q95 (ex_2 E.kn E.2.2.2.2.1 q666) ex_2_ok dX1_refine_55 dX1_refine_58 dX1_refine_59 dX1_refine_62 (by decide) (Nat.le_of_ble_eq_true rfl) (by omega) (by omega) (fun H9 hz9 hk9 => ?_)
          exact ⟨Or.inr (Or.inr ⟨rfl, by unfold xoRf; rw [if_pos ⟨by omega, by omega⟩, Int.toNat_natCast, hiv9]; exact congrArg (fun t : zRc => t.2.1) ((if_pos (show 1 ≤ v1 ∧ v1 ≤ 6 by omega)).trans (if_pos (show rt9 ≠ 1 ∨ lo9 = hi9 ∨ 12 < (e : Int) + v1 by omega)))⟩), CS.pub (CS.kf0 hC_fr_12 (kF.ext hz9 (fun q hq _ => hk9 q hq)) hl_7) hST hiso⟩
        · refine v_aload_n E 0 rfl dX1_refine_44 ?_
          refine v_getfN (host := "SturmRoots") E in_X5 hE9 (ci := 4) rfl 0 (by decide) (by decide +kernel) rfl (v := vi (e : Int)) rfl dX1_refine_45 ?_
          refine v_iload_n E 3 rfl dX1_refine_48 ?_
          refine v_iadd E dX1_refine_49 ?_
          refine v_bipush E ⟨by decide, by decide⟩ dX1_refine_50 ?_
          refine v_icmp_le E (tgt := 63) dX1_refine_52 (by decide) ⟨by omega, by omega⟩ ⟨by omega, by omega⟩ (fun c_52 => ?_) (fun c_52 => ?_)
          · obtain ⟨tm, htm⟩ : ∃ tm : Nat, v1 = (tm : Int) := ⟨v1.toNat, by omega⟩
            subst htm
            have hj9 := hokJ k9 hk9n
            rw [hiv9] at hj9
            obtain ⟨hj1, hj2⟩ : lo9.natAbs ≤ 16384 * 2 ^ e ∧ hi9.natAbs ≤ 16384 * 2 ^ e := hj9
            refine v_aload_n E 1 rfl dX1_refine_63 ?_
            refine v_getf E in_X1 hl_7.2.1 (ci := 0) rfl 1 (by decide) q273 rfl (v := (isoV iso)) rfl dX1_refine_64 ?_
            refine V.eq (st' := [.ref kk0]) (by rw [hik]; rfl) ?_
            refine V.frame (fun hfz_fr_15 hfk_fr_15 => ?_)
            rw [hH0] at hfz_fr_15 hfk_fr_15
            rw [hA0] at hfk_fr_15
            have hC_fr_15 := hC.call hA93 hfz_fr_15 hfk_fr_15
            obtain ⟨-, -, pk_21, vs_22, vf_23, vg_24, hkn_25, hpk_26, -⟩ := id (hl_7.2.2.2.2.2 kk0 hik)
            refine v_callV E (As := []) (b := kk0) (ci := 1) (C := RX2) (T := TX2) (N := 4) hkn_25 rfl (k_fs κ H_3 (b := false) (N := N) (M := M) (M0 := M0) (N1 := N1) (M1 := M1) (N2 := N) (M2 := M) (M02 := M0) hC_fr_15 (fun q h => by have h2 := hsl0; exact ⟨by omega, by omega, by omega, by omega⟩) hQ9.1 hQ9.2.1 (hl_7.2.2.2.2.2 kk0 hik)) (lw_V q1646 q1647 q1648 q74 q1649) 0 (by decide +kernel) rfl (by decide) (by decide) (cb' := (((60 + Cf + C1 + 6 * (51 + C1)) - 1) - Cf)) (sb' := ((((8 + (4 * K3 + N3 + 28) * 6) + Lf + L1 + 6 * ((8 + (4 * K3 + N3 + 28) * 6) + L1 + 4) + 30) - 6) - Lf)) (by rw [bC_f]; have := hQ9.2.2.1; omega) (by rw [bC_f]; have := hQ9.2.2.2.1; omega) rfl (rest := []) (Nat.le_of_ble_eq_true rfl) (fun q h => by obtain ⟨fs9, h8⟩ := (hl_7.2.2.2.2.2 kk0 hik).cl; have h9 := pA.any hfk_fr_15 h8 (Or.inr (Or.inl rfl)) (hl_7.2.2.2.2.2 kk0 hik).2.1; rw [← show q = _ from h] at h9; exact h9.elim (fun e => hAll q e) (fun e => hNew q e)) dX1_refine_67 (fun v_16 H_17 hpost_18 hz_19 hk_20 => ?_)
            obtain ⟨ls_14, rfl, hls_14, hKls_14⟩ := hpost_18
            have hSk_27 := kS.of (hl_7.2.2.2.2.2 kk0 hik) hKls_14 hz_19 hk_20
            have hl_28 := CS.ks hC_fr_15 hSk_27 hKls_14 hl_7
            have hl_29 := kS.obj hC_fr_15 hSk_27 hE9 (by decide) (by decide)
            have hl_30 := Po.ks hC_fr_15 hSk_27 hpk_26
            refine V.eq (st' := [.ref ls_14]) rfl ?_
            refine v_astore E dX1_refine_70 (zlt hL rfl) (lv' := [(4, .ref ls_14), (3, .ref y9), (0, .ref x), (1, vi ((k9 : Nat) : Int)), (2, vi ((tm : Nat) : Int))]) rfl ?_
            refine v_aload E 0 rfl dX1_refine_72 ?_
            refine v_aload_n E 1 rfl dX1_refine_74 ?_
            refine v_getfN (host := "SturmRoots") E in_X5 hl_29 (ci := 4) rfl 1 (by decide) (by decide +kernel) rfl (v := vi lo9) rfl dX1_refine_75 ?_
            refine v_i2l E ⟨by omega, by omega⟩ dX1_refine_78 ?_
            refine v_aload_n E 1 rfl dX1_refine_79 ?_
            refine v_getfN (host := "SturmRoots") E in_X5 hl_29 (ci := 4) rfl 0 (by decide) (by decide +kernel) rfl (v := vi (e : Int)) rfl dX1_refine_80 ?_
            refine V.frame (fun hfz_fr_31 hfk_fr_31 => ?_)
            rw [hH0] at hfz_fr_31 hfk_fr_31
            rw [hA0] at hfk_fr_31
            have hC_fr_31 := hC.call hA93 hfz_fr_31 hfk_fr_31
            refine v_callS E (As := [.ref ls_14, vj lo9, vi (e : Int)]) (p_chg κ H_17 (n := lo9) (e := e) (Nt := Nt) (Kt := Kt) hC_fr_31 (show -4294967296 < lo9 ∧ lo9 < 4294967296 from ⟨by omega, by omega⟩) (by omega) (hQ9.2.2.2.2.2.2 _ _ (show -4294967296 < lo9 ∧ lo9 < 4294967296 from ⟨by omega, by omega⟩).1 (show -4294967296 < lo9 ∧ lo9 < 4294967296 from ⟨by omega, by omega⟩).2 (by omega)) hls_14) (lw_S q1530 q1531 q70 q1532) 3 (by decide +kernel) rfl (by decide) (by decide) (cb' := ((((60 + Cf + C1 + 6 * (51 + C1)) - 1) - Cf) - C1)) (sb' := (((((8 + (4 * K3 + N3 + 28) * 6) + Lf + L1 + 6 * ((8 + (4 * K3 + N3 + 28) * 6) + L1 + 4) + 30) - 6) - Lf) - L1)) (by have := hQ9.2.2.2.2.1; omega) (by have := hQ9.2.2.2.2.2.1; omega) rfl (rest := []) (Nat.le_of_ble_eq_true rfl) (fun q h => h.elim) dX1_refine_83 (fun v_32 H_33 hpost_34 hz_35 hk_36 => ?_)
            obtain rfl := hpost_34
            have hl_37 := CS.kf0 hC_fr_31 (kF.ext hz_35 hk_36) hl_28
            have hl_38 := (e4_kf hC.D (kF.ext hz_35 hk_36) hl_29)
            have hl_39 := Po.kf hC_fr_31 (kF.ext hz_35 hk_36) aD.no hl_30
            have hl_40 := SQ.kf hC_fr_31 (kF.ext hz_35 hk_36) aD.no hls_14
            have hfi_n_41 := fch_in (T kk0) lo9 e
            refine V.eq (st' := [vi (fch (T kk0) lo9 e)]) rfl ?_
            refine v_istore E dX1_refine_86 (zlt hL rfl) (lv' := [(5, vi (fch (T kk0) lo9 e)), (4, .ref ls_14), (3, .ref y9), (0, .ref x), (1, vi ((k9 : Nat) : Int)), (2, vi ((tm : Nat) : Int))]) rfl ?_
            refine v_iconst E dX1_refine_88 ?_
            refine v_istore E dX1_refine_89 (zlt hL rfl) (lv' := [(6, vi 0), (5, vi (fch (T kk0) lo9 e)), (4, .ref ls_14), (3, .ref y9), (0, .ref x), (1, vi ((k9 : Nat) : Int)), (2, vi ((tm : Nat) : Int))]) rfl ?_
            have loop_91 : ∀ (m_91 : Nat) (H : Heap) (k its e2 : Nat) (l2 h2 r2 c2 : Int) (cb sb : Nat), tm - k < m_91 → (k ≤ tm) → (e2 = e + k) → (l2.natAbs ≤ 16384 * 2 ^ e2) → (h2.natAbs ≤ 16384 * 2 ^ e2) → (r2 = 1) → (0 ≤ c2 ∧ c2 ≤ 10) → (xrS (T kk0) (tm - k) e2 l2 h2 c2 = xrS (T kk0) tm e lo9 hi9 (fch (T kk0) lo9 e)) → ((51 + C1) * (6 - k) ≤ cb) → (((8 + (4 * K3 + N3 + 28) * 6) + L1 + 4) * (6 - k) ≤ sb) → CS κ (dS ls bs li bi) H x ls bs li bi a iso T n cap iv → SQ κ (dS ls bs li bi) H ls_14 (fsL (T kk0)) (fsq (T kk0)) → e4 κ H its ((e2 : Int), l2, h2, r2) → V z H cb sb 91 [(6, vi (k : Int)), (5, vi c2), (4, .ref ls_14), (3, .ref its), (2, vi ((tm : Nat) : Int)), (1, vi ((k9 : Nat) : Int)), (0, .ref x)] [] := by
              intro m_91
              induction m_91 with
              | zero => intro H k its e2 l2 h2 r2 c2 cb sb hm; exact absurd hm (by omega)
              | succ m_91 ih_91 =>
                intro H k its e2 l2 h2 r2 c2 cb sb hm_91 hk he2 hb1 hb2 hr2 hc2 hres hcb hsb hS2 hQ2 hE2
                have hp12 := p2_12 (e := e2) (by omega)
                refine v_iload E 0 rfl dX1_refine_91 ?_
                refine v_iload_n E 4 rfl dX1_refine_93 ?_
                refine v_icmp_ge E (tgt := 246) dX1_refine_94 (by decide) ⟨by omega, by omega⟩ ⟨by omega, by omega⟩ (fun c_94 => ?_) (fun c_94 => ?_)
                · refine V.frame (fun hfz_fr_42 hfk_fr_42 => ?_)
                  rw [hH0] at hfz_fr_42 hfk_fr_42
                  rw [hA0] at hfk_fr_42
                  have hC_fr_42 := hC.call hA93 hfz_fr_42 hfk_fr_42
                  obtain ⟨mds, gs, md, g, hCT, hIA⟩ := CS.split hC_fr_42 hS2
                  refine v_aload_n E 6 rfl dX1_refine_246 ?_
                  refine v_getf E in_X1 hCT.2.1 (ci := 0) rfl 2 (by decide) q274 rfl (v := .ref li) rfl dX1_refine_247 ?_
                  refine v_iload_n E 5 rfl dX1_refine_250 ?_
                  refine v_aload_n E 3 rfl dX1_refine_251 ?_
                  obtain ⟨yo, hyo, -⟩ := hIA.2 k9 (by omega)
                  have hcp9 : 0 < cap := by have h9 := hIA.1.2.2.1; omega
                  refine v_callV E (As := [vi ((k9 : Nat) : Int), .ref its]) (b := li) (ci := 5) (C := RJ2) (T := TJ2) (N := 3) hIA.1.1 rfl (j_set κ H hC_fr_42 (i := k9) ⟨4, _, hE2, Or.inr (Or.inr (Or.inl rfl))⟩ (by omega) hyo hIA.1) (lw_V q667 q668 q669 q73 q670) 2 (by decide +kernel) rfl (by decide) (by decide) (cb' := (cb - 0)) (sb' := (sb - 0)) (by omega) (by omega) rfl (rest := []) (Nat.le_of_ble_eq_true rfl) (fun q h => by have h9 := pA.arr hfk_fr_42 hIA.1.2.1 (hIA.1.2.2.2.2.2.2.2.2.1 hcp9); rw [← show q = _ from h] at h9; exact h9.elim (fun e => hAll q e) (fun e => hNew q e)) dX1_refine_252 (fun v_43 H_44 hpost_45 hz_46 hk_47 => ?_)
                  obtain ⟨rfl, hA9⟩ := hpost_45
                  have hF9 : kF κ H H_44 (fun q => q = bi) := kF.lst hIA.1 (fun q h => Or.inr ⟨h, hcp9⟩) hz_46 hk_47
                  have hT9 := CT.kfA hC_fr_42 hF9 (fun q h => Or.inr (Or.inl h)) dS_li dS_bi hCT
                  have hI9 := IA.set (w := ((e2 : Int), l2, h2, r2)) hC_fr_42 hF9 hA9 hE2 hIA
                  have hE9_ := e4_kf hC.D hF9 hE2
                  refine V.eq (st' := [.ref yo]) rfl ?_
                  refine v_pop E rfl dX1_refine_255 ?_
                  refine v_aload_n E 3 rfl dX1_refine_256 ?_
                  refine v_getfN (host := "SturmRoots") E in_X5 hE9_ (ci := 4) rfl 0 (by decide) (by decide +kernel) rfl (v := vi (e2 : Int)) rfl dX1_refine_257 ?_
                  refine V.rt E hE (fun z9 E hE => ?_)
                  refine v_iret E hE dX1_refine_260 ?_
                  have hxe : xrS (T kk0) tm e lo9 hi9 (fch (T kk0) lo9 e) = (e2, l2, h2) := by rw [← hres]; exact xrS_e (by omega)
                  have hop : xoRf S (T kk0) n iv (k9 : Int) (tm : Int) = ((e2 : Int), 0, S) := by unfold xoRf; rw [if_pos ⟨by omega, by omega⟩, Int.toNat_natCast, hiv9]; show (if 1 ≤ (tm : Int) ∧ (tm : Int) ≤ 6 then (if rt9 ≠ 1 ∨ lo9 = hi9 ∨ 12 < (e : Int) + (tm : Int) then _ else (((xrS (T kk0) (Int.toNat (tm : Int)) (Int.toNat (e : Int)) lo9 hi9 (fch (T kk0) lo9 (Int.toNat (e : Int)))).1 : Int), 0, S)) else _) = _; rw [if_pos (by omega), if_neg (by omega), Int.toNat_natCast, Int.toNat_natCast, hxe]
                  refine ⟨by rw [hop], by rw [hop], ?_⟩
                  have hxv : xrV (T kk0) (iv k9) tm = ((e2 : Int), l2, h2, 1) := by rw [hiv9]; unfold xrV; show (((xrS (T kk0) tm (Int.toNat (e : Int)) lo9 hi9 (fch (T kk0) lo9 (Int.toNat (e : Int)))).1 : Int), _, _, 1) = _; rw [Int.toNat_natCast, hxe]
                  rw [Int.toNat_natCast, Int.toNat_natCast, hxv]
                  subst hr2
                  exact CS.pub (CT.join hT9 hI9) hST hiso
                · refine v_aload_n E 3 rfl dX1_refine_97 ?_
                  refine v_getfN (host := "SturmRoots") E in_X5 hE2 (ci := 4) rfl 1 (by decide) (by decide +kernel) rfl (v := vi l2) rfl dX1_refine_98 ?_
                  refine v_aload_n E 3 rfl dX1_refine_101 ?_
                  refine v_getfN (host := "SturmRoots") E in_X5 hE2 (ci := 4) rfl 2 (by decide) (by decide +kernel) rfl (v := vi h2) rfl dX1_refine_102 ?_
                  refine v_icmp_ge E (tgt := 246) dX1_refine_105 (by decide) ⟨by omega, by omega⟩ ⟨by omega, by omega⟩ (fun c_105 => ?_) (fun c_105 => ?_)
                  · refine V.frame (fun hfz_fr_48 hfk_fr_48 => ?_)
                    rw [hH0] at hfz_fr_48 hfk_fr_48
                    rw [hA0] at hfk_fr_48
                    have hC_fr_48 := hC.call hA93 hfz_fr_48 hfk_fr_48
                    obtain ⟨mds, gs, md, g, hCT, hIA⟩ := CS.split hC_fr_48 hS2
                    refine v_aload_n E 6 rfl dX1_refine_246 ?_
                    refine v_getf E in_X1 hCT.2.1 (ci := 0) rfl 2 (by decide) q274 rfl (v := .ref li) rfl dX1_refine_247 ?_
                    refine v_iload_n E 5 rfl dX1_refine_250 ?_
                    refine v_aload_n E 3 rfl dX1_refine_251 ?_
                    obtain ⟨yo, hyo, -⟩ := hIA.2 k9 (by omega)
                    have hcp9 : 0 < cap := by have h9 := hIA.1.2.2.1; omega
                    refine v_callV E (As := [vi ((k9 : Nat) : Int), .ref its]) (b := li) (ci := 5) (C := RJ2) (T := TJ2) (N := 3) hIA.1.1 rfl (j_set κ H hC_fr_48 (i := k9) ⟨4, _, hE2, Or.inr (Or.inr (Or.inl rfl))⟩ (by omega) hyo hIA.1) (lw_V q667 q668 q669 q73 q670) 2 (by decide +kernel) rfl (by decide) (by decide) (cb' := (cb - 0)) (sb' := (sb - 0)) (by omega) (by omega) rfl (rest := []) (Nat.le_of_ble_eq_true rfl) (fun q h => by have h9 := pA.arr hfk_fr_48 hIA.1.2.1 (hIA.1.2.2.2.2.2.2.2.2.1 hcp9); rw [← show q = _ from h] at h9; exact h9.elim (fun e => hAll q e) (fun e => hNew q e)) dX1_refine_252 (fun v_49 H_50 hpost_51 hz_52 hk_53 => ?_)
                    obtain ⟨rfl, hA9⟩ := hpost_51
                    have hF9 : kF κ H H_50 (fun q => q = bi) := kF.lst hIA.1 (fun q h => Or.inr ⟨h, hcp9⟩) hz_52 hk_53
                    have hT9 := CT.kfA hC_fr_48 hF9 (fun q h => Or.inr (Or.inl h)) dS_li dS_bi hCT
                    have hI9 := IA.set (w := ((e2 : Int), l2, h2, r2)) hC_fr_48 hF9 hA9 hE2 hIA
                    have hE9_ := e4_kf hC.D hF9 hE2
                    refine V.eq (st' := [.ref yo]) rfl ?_
                    refine v_pop E rfl dX1_refine_255 ?_
                    refine v_aload_n E 3 rfl dX1_refine_256 ?_
                    refine v_getfN (host := "SturmRoots") E in_X5 hE9_ (ci := 4) rfl 0 (by decide) (by decide +kernel) rfl (v := vi (e2 : Int)) rfl dX1_refine_257 ?_
                    refine V.rt E hE (fun z9 E hE => ?_)
                    refine v_iret E hE dX1_refine_260 ?_
                    have hxe : xrS (T kk0) tm e lo9 hi9 (fch (T kk0) lo9 e) = (e2, l2, h2) := by rw [← hres]; exact xrS_e (by omega)
                    have hop : xoRf S (T kk0) n iv (k9 : Int) (tm : Int) = ((e2 : Int), 0, S) := by unfold xoRf; rw [if_pos ⟨by omega, by omega⟩, Int.toNat_natCast, hiv9]; show (if 1 ≤ (tm : Int) ∧ (tm : Int) ≤ 6 then (if rt9 ≠ 1 ∨ lo9 = hi9 ∨ 12 < (e : Int) + (tm : Int) then _ else (((xrS (T kk0) (Int.toNat (tm : Int)) (Int.toNat (e : Int)) lo9 hi9 (fch (T kk0) lo9 (Int.toNat (e : Int)))).1 : Int), 0, S)) else _) = _; rw [if_pos (by omega), if_neg (by omega), Int.toNat_natCast, Int.toNat_natCast, hxe]
                    refine ⟨by rw [hop], by rw [hop], ?_⟩
                    have hxv : xrV (T kk0) (iv k9) tm = ((e2 : Int), l2, h2, 1) := by rw [hiv9]; unfold xrV; show (((xrS (T kk0) tm (Int.toNat (e : Int)) lo9 hi9 (fch (T kk0) lo9 (Int.toNat (e : Int)))).1 : Int), _, _, 1) = _; rw [Int.toNat_natCast, hxe]
                    rw [Int.toNat_natCast, Int.toNat_natCast, hxv]
                    subst hr2
                    exact CS.pub (CT.join hT9 hI9) hST hiso
                  · have hpw : 2 ^ (e2 + 1) = 2 ^ e2 * 2 := Nat.pow_succ 2 e2
                    have hp11 := p2_11 (e := e2) (by omega)
                    obtain ⟨p9, hp9⟩ : ∃ p9 : Nat, p9 = 2 ^ e2 := ⟨_, rfl⟩
                    rw [← hp9] at hpw hp11 hb1 hb2
                    have e91 := mulS (51 + C1) 6 k (by omega)
                    have e92 := mulS ((8 + (4 * K3 + N3 + 28) * 6) + L1 + 4) 6 k (by omega)
                    refine v_aload_n E 3 rfl dX1_refine_108 ?_
                    refine v_getfN (host := "SturmRoots") E in_X5 hE2 (ci := 4) rfl 0 (by decide) (by decide +kernel) rfl (v := vi (e2 : Int)) rfl dX1_refine_109 ?_
                    refine v_iconst E dX1_refine_112 ?_
                    refine v_iadd E dX1_refine_113 ?_
                    refine V.topi (x' := ((e2 + 1 : Nat) : Int)) (congrArg iZ (by omega)) ?_
                    refine v_istore E dX1_refine_114 (zlt hL rfl) (lv' := [(7, vi ((e2 + 1 : Nat) : Int)), (6, vi (k : Int)), (5, vi c2), (4, .ref ls_14), (3, .ref its), (2, vi ((tm : Nat) : Int)), (1, vi ((k9 : Nat) : Int)), (0, .ref x)]) rfl ?_
                    refine v_aload_n E 4 rfl dX1_refine_116 ?_
                    refine v_getfN (host := "SturmRoots") E in_X5 hE2 (ci := 4) rfl 1 (by decide) (by decide +kernel) rfl (v := vi l2) rfl dX1_refine_117 ?_
                    refine v_aload_n E 4 rfl dX1_refine_120 ?_
                    refine v_getfN (host := "SturmRoots") E in_X5 hE2 (ci := 4) rfl 2 (by decide) (by decide +kernel) rfl (v := vi h2) rfl dX1_refine_121 ?_
                    refine v_iadd E dX1_refine_124 ?_
                    refine v_istore E dX1_refine_125 (zlt hL rfl) (lv' := [(8, vi (l2 + h2)), (7, vi ((e2 + 1 : Nat) : Int)), (6, vi (k : Int)), (5, vi c2), (4, .ref ls_14), (3, .ref its), (2, vi ((tm : Nat) : Int)), (1, vi ((k9 : Nat) : Int)), (0, .ref x)]) rfl ?_
                    refine v_aload_n E 8 rfl dX1_refine_127 ?_
                    refine v_iload E 0 rfl dX1_refine_128 ?_
                    refine v_i2l E ⟨by omega, by omega⟩ dX1_refine_130 ?_
                    refine v_iload E 1 rfl dX1_refine_131 ?_
                    refine V.frame (fun hfz_fr_54 hfk_fr_54 => ?_)
                    rw [hH0] at hfz_fr_54 hfk_fr_54
                    rw [hA0] at hfk_fr_54
                    have hC_fr_54 := hC.call hA93 hfz_fr_54 hfk_fr_54
                    refine v_callV E (As := [vj (l2 + h2), vi ((e2 + 1 : Nat) : Int)]) (b := x) (ci := 0) (C := RX1) (T := TX1) (N := 3) hS2.2.1 rfl (x_isr κ H (N3 := N3) (K3 := K3) (kk := kk0) (e := (e2 + 1)) (nn := (l2 + h2)) ⟨by omega, by omega⟩ (by omega) hik h7k (hfV _ _ (by omega) (by omega) (by omega)) hC_fr_54 hS2) (lw_V q1642 q1644 qs44 q70 q1645) 2 (by decide +kernel) rfl (by decide) (by decide) (cb' := (cb - 50)) (sb' := (sb - (8 + (4 * K3 + N3 + 28) * 6))) (by have h9 : sgC (T kk0).1 ≤ 50 := (by unfold sgC; omega); omega) (by have h9 := sgL_7 (N := N3) (K := K3) h7k; omega) rfl (rest := []) (Nat.le_of_ble_eq_true rfl) (fun q h => h.elim) dX1_refine_133 (fun v_55 H_56 hpost_57 hz_58 hk_59 => ?_)
                    obtain rfl := hpost_57
                    have hl_60 := CS.kf0 hC_fr_54 (kF.ext hz_58 hk_59) hS2
                    have hl_61 := SQ.kf hC_fr_54 (kF.ext hz_58 hk_59) aD.no hQ2
                    have hl_62 := (e4_kf hC.D (kF.ext hz_58 hk_59) hE2)
                    by_cases hroot : cSg (T kk0) (l2 + h2) (e2 + 1) = 0
                    ·
                      refine V.eq (st' := [vi 1]) (by rw [if_pos hroot]; rfl) ?_
                      refine v_if_eq E (tgt := 157) dX1_refine_136 (by decide) ⟨by omega, by omega⟩ (fun c_136 => absurd c_136 (by omega)) (fun c_136 => ?_)
                      refine V.frame (fun hfz_fr_63 hfk_fr_63 => ?_)
                      rw [hH0] at hfz_fr_63 hfk_fr_63
                      rw [hA0] at hfk_fr_63
                      have hC_fr_63 := hC.call hA93 hfz_fr_63 hfk_fr_63
                      refine V.frame (fun hfz_fr_64 hfk_fr_64 => ?_)
                      rw [hH0] at hfz_fr_64 hfk_fr_64
                      rw [hA0] at hfk_fr_64
                      refine v_new E in_X5 tyX5 tyX5_ok q418 q1595 q102 (ci := 4) rfl (fs := [vi 0, vi 0, vi 0, vi 0]) (fun j hj => by rcases (show j = 0 ∨ j = 1 ∨ j = 2 ∨ j = 3 by omega) with rfl | rfl | rfl | rfl <;> rfl) (cb' := ((cb - 50) - 1)) (sb' := ((sb - (8 + (4 * K3 + N3 + 28) * 6)) - 4)) (by omega) (by omega) dX1_refine_139 (fun q_65 H_66 hq_69 ho_67 hg_68 => ?_)
                      refine v_dup E rfl dX1_refine_142 ?_
                      refine v_iload E 1 rfl dX1_refine_143 ?_
                      refine v_iload E 0 rfl dX1_refine_145 ?_
                      refine v_iload E 0 rfl dX1_refine_147 ?_
                      refine v_iconst E dX1_refine_149 ?_
                      refine V.frame (fun hfz_fr_71 hfk_fr_71 => ?_)
                      rw [hH0] at hfz_fr_71 hfk_fr_71
                      rw [hA0] at hfk_fr_71
                      have hC_fr_71 := hC.call hA93 hfz_fr_71 hfk_fr_71
                      refine v_callI E (As := [vi ((e2 + 1 : Nat) : Int), vi (l2 + h2), vi (l2 + h2), vi 1]) (b := q_65) (i_init κ H_66 ho_67) q1598 q102 q1596 q1597 rfl 4 (by decide +kernel) rfl (by decide) (by decide) (cb' := (((cb - 50) - 1) - 0)) (sb' := (((sb - (8 + (4 * K3 + N3 + 28) * 6)) - 4) - 0)) (by omega) (by omega) rfl (rest := [.ref q_65]) (Nat.le_of_ble_eq_true rfl) (fun q9 h => hNew q9 (by rw [show q9 = q_65 from h]; omega)) dX1_refine_150 (fun v_72 H_73 hpost_74 hz_75 hk_76 => ?_)
                      obtain ⟨rfl, hEq_70⟩ := hpost_74
                      have hkN_77 : ∀ q9 : Nat, q9 < Array.size H_56 → ¬ (fun _ => False : Nat → Prop) q9 → H_73[q9]? = H_56[q9]? := fun q9 h9 _ => (hk_76 q9 (by rw [hg_68.1]; omega) (fun h => by have h8 : q9 = q_65 := h; omega)).trans (hg_68.2 q9 h9)
                      have hl_78 := CS.kf0 hC_fr_63 (kF.ext (by have := hg_68.1; omega) hkN_77) hl_60
                      have hl_79 := SQ.kf hC_fr_63 (kF.ext (by have := hg_68.1; omega) hkN_77) aD.no hl_61
                      have hl_80 := (e4_kf hC.D (kF.ext (by have := hg_68.1; omega) hkN_77) hl_62)
                      refine V.eq (st' := [.ref q_65]) rfl ?_
                      refine v_astore_n E dX1_refine_153 (zlt hL rfl) (lv' := [(3, .ref q_65), (8, vi (l2 + h2)), (7, vi ((e2 + 1 : Nat) : Int)), (6, vi (k : Int)), (5, vi c2), (4, .ref ls_14), (2, vi ((tm : Nat) : Int)), (1, vi ((k9 : Nat) : Int)), (0, .ref x)]) rfl ?_
                      refine v_goto E (tgt := 240) dX1_refine_154 (by decide) ?_
                      refine v_iinc E 3 rfl dX1_refine_240 (zlt hL rfl) (lv' := [(6, vi ((k : Int) + 1)), (3, .ref q_65), (8, vi (l2 + h2)), (7, vi ((e2 + 1 : Nat) : Int)), (5, vi c2), (4, .ref ls_14), (2, vi ((tm : Nat) : Int)), (1, vi ((k9 : Nat) : Int)), (0, .ref x)]) rfl ?_
                      refine v_goto E (tgt := 91) dX1_refine_243 (by decide) ?_
                      refine V.sub [0, 4, 5, 1, 6, 7, 8] (lv' := [(6, vi ((k : Int) + 1)), (5, vi c2), (4, .ref ls_14), (3, .ref q_65), (2, vi ((tm : Nat) : Int)), (1, vi ((k9 : Nat) : Int)), (0, .ref x)]) rfl ?_
                      exact ih_91  H_73 (k + 1) q_65 (e2 + 1) (l2 + h2) (l2 + h2) 1 _ (((cb - 50) - 1) - 0) (((sb - (8 + (4 * K3 + N3 + 28) * 6)) - 4) - 0) (by omega) (by omega) (by omega) (by omega) (by omega) rfl ⟨by omega, by omega⟩ (by rw [← hres, show tm - (k + 1) = tm - k - 1 by omega]; exact (xrS_0 (by omega) (by omega) hroot).symm) (by have e9 := mulS (51 + C1) 6 k (by omega); omega) (by have e9 := mulS ((8 + (4 * K3 + N3 + 28) * 6) + L1 + 4) 6 k (by omega); omega) hl_78 hl_79 hEq_70
                    ·
                      refine V.eq (st' := [vi 0]) (by rw [if_neg hroot]; rfl) ?_
                      refine v_if_eq E (tgt := 157) dX1_refine_136 (by decide) ⟨by omega, by omega⟩ (fun c_136 => ?_) (fun c_136 => absurd c_136 (by omega))
                      refine v_aload E 4 rfl dX1_refine_157 ?_
                      refine v_iload E 0 rfl dX1_refine_159 ?_
                      refine v_i2l E ⟨by omega, by omega⟩ dX1_refine_161 ?_
                      refine v_iload E 1 rfl dX1_refine_162 ?_
                      refine V.frame (fun hfz_fr_81 hfk_fr_81 => ?_)
                      rw [hH0] at hfz_fr_81 hfk_fr_81
                      rw [hA0] at hfk_fr_81
                      have hC_fr_81 := hC.call hA93 hfz_fr_81 hfk_fr_81
                      refine v_callS E (As := [.ref ls_14, vj (l2 + h2), vi ((e2 + 1 : Nat) : Int)]) (p_chg κ H_56 (n := (l2 + h2)) (e := (e2 + 1)) (Nt := Nt) (Kt := Kt) hC_fr_81 (show -4294967296 < (l2 + h2) ∧ (l2 + h2) < 4294967296 from ⟨by omega, by omega⟩) (by omega) (hQ9.2.2.2.2.2.2 _ _ (show -4294967296 < (l2 + h2) ∧ (l2 + h2) < 4294967296 from ⟨by omega, by omega⟩).1 (show -4294967296 < (l2 + h2) ∧ (l2 + h2) < 4294967296 from ⟨by omega, by omega⟩).2 (by omega)) hl_61) (lw_S q1530 q1531 q70 q1532) 3 (by decide +kernel) rfl (by decide) (by decide) (cb' := ((cb - 50) - C1)) (sb' := ((sb - (8 + (4 * K3 + N3 + 28) * 6)) - L1)) (by have := hQ9.2.2.2.2.1; omega) (by have := hQ9.2.2.2.2.2.1; omega) rfl (rest := []) (Nat.le_of_ble_eq_true rfl) (fun q h => h.elim) dX1_refine_164 (fun v_82 H_83 hpost_84 hz_85 hk_86 => ?_)
                      obtain rfl := hpost_84
                      have hl_87 := CS.kf0 hC_fr_81 (kF.ext hz_85 hk_86) hl_60
                      have hl_88 := SQ.kf hC_fr_81 (kF.ext hz_85 hk_86) aD.no hl_61
                      have hl_89 := (e4_kf hC.D (kF.ext hz_85 hk_86) hl_62)
                      have hfi_n_90 := fch_in (T kk0) (l2 + h2) (e2 + 1)
                      refine V.eq (st' := [vi (fch (T kk0) (l2 + h2) (e2 + 1))]) rfl ?_
                      refine v_istore E dX1_refine_167 (zlt hL rfl) (lv' := [(9, vi (fch (T kk0) (l2 + h2) (e2 + 1))), (8, vi (l2 + h2)), (7, vi ((e2 + 1 : Nat) : Int)), (6, vi (k : Int)), (5, vi c2), (4, .ref ls_14), (3, .ref its), (2, vi ((tm : Nat) : Int)), (1, vi ((k9 : Nat) : Int)), (0, .ref x)]) rfl ?_
                      refine v_iload E 4 rfl dX1_refine_169 ?_
                      refine v_iload E 0 rfl dX1_refine_171 ?_
                      refine v_icmp_le E (tgt := 180) dX1_refine_173 (by decide) ⟨by omega, by omega⟩ ⟨by omega, by omega⟩ (fun c_173 => ?_) (fun c_173 => ?_)
                      · refine v_iconst E dX1_refine_180 ?_
                        refine v_istore E dX1_refine_181 (zlt hL rfl) (lv' := [(10, vi 0), (9, vi (fch (T kk0) (l2 + h2) (e2 + 1))), (8, vi (l2 + h2)), (7, vi ((e2 + 1 : Nat) : Int)), (6, vi (k : Int)), (5, vi c2), (4, .ref ls_14), (3, .ref its), (2, vi ((tm : Nat) : Int)), (1, vi ((k9 : Nat) : Int)), (0, .ref x)]) rfl ?_
                        refine V.frame (fun hfz_fr_91 hfk_fr_91 => ?_)
                        rw [hH0] at hfz_fr_91 hfk_fr_91
                        rw [hA0] at hfk_fr_91
                        have hC_fr_91 := hC.call hA93 hfz_fr_91 hfk_fr_91
                        refine V.frame (fun hfz_fr_92 hfk_fr_92 => ?_)
                        rw [hH0] at hfz_fr_92 hfk_fr_92
                        rw [hA0] at hfk_fr_92
                        refine v_new E in_X5 tyX5 tyX5_ok q418 q1595 q102 (ci := 4) rfl (fs := [vi 0, vi 0, vi 0, vi 0]) (fun j hj => by rcases (show j = 0 ∨ j = 1 ∨ j = 2 ∨ j = 3 by omega) with rfl | rfl | rfl | rfl <;> rfl) (cb' := (((cb - 50) - C1) - 1)) (sb' := (((sb - (8 + (4 * K3 + N3 + 28) * 6)) - L1) - 4)) (by omega) (by omega) dX1_refine_183 (fun q_93 H_94 hq_97 ho_95 hg_96 => ?_)
                        refine v_dup E rfl dX1_refine_186 ?_
                        refine v_iload E 3 rfl dX1_refine_187 ?_
                        refine v_iload E 0 rfl dX1_refine_189 ?_
                        refine v_if_eq E (tgt := 203) dX1_refine_191 (by decide) ⟨by omega, by omega⟩ (fun c_191 => ?_) (fun c_191 => absurd c_191 (by omega))
                        refine v_iload E 2 rfl dX1_refine_203 ?_
                        refine v_iload E 0 rfl dX1_refine_205 ?_
                        refine v_if_eq E (tgt := 215) dX1_refine_207 (by decide) ⟨by omega, by omega⟩ (fun c_207 => ?_) (fun c_207 => absurd c_207 (by omega))
                        refine v_iconst E dX1_refine_215 ?_
                        refine v_aload_n E 7 rfl dX1_refine_216 ?_
                        refine v_getfN (host := "SturmRoots") E in_X5 (hl_89.grow hg_96) (ci := 4) rfl 2 (by decide) (by decide +kernel) rfl (v := vi h2) rfl dX1_refine_217 ?_
                        refine v_imul E dX1_refine_220 ?_
                        refine v_iconst E dX1_refine_221 ?_
                        refine V.frame (fun hfz_fr_99 hfk_fr_99 => ?_)
                        rw [hH0] at hfz_fr_99 hfk_fr_99
                        rw [hA0] at hfk_fr_99
                        have hC_fr_99 := hC.call hA93 hfz_fr_99 hfk_fr_99
                        refine v_callI E (As := [vi ((e2 + 1 : Nat) : Int), vi (l2 + h2), vi (2 * h2), vi 1]) (b := q_93) (i_init κ H_94 ho_95) q1598 q102 q1596 q1597 rfl 4 (by decide +kernel) rfl (by decide) (by decide) (cb' := ((((cb - 50) - C1) - 1) - 0)) (sb' := ((((sb - (8 + (4 * K3 + N3 + 28) * 6)) - L1) - 4) - 0)) (by omega) (by omega) rfl (rest := [.ref q_93]) (Nat.le_of_ble_eq_true rfl) (fun q9 h => hNew q9 (by rw [show q9 = q_93 from h]; omega)) dX1_refine_222 (fun v_100 H_101 hpost_102 hz_103 hk_104 => ?_)
                        obtain ⟨rfl, hEq_98⟩ := hpost_102
                        have hkN_105 : ∀ q9 : Nat, q9 < Array.size H_83 → ¬ (fun _ => False : Nat → Prop) q9 → H_101[q9]? = H_83[q9]? := fun q9 h9 _ => (hk_104 q9 (by rw [hg_96.1]; omega) (fun h => by have h8 : q9 = q_93 := h; omega)).trans (hg_96.2 q9 h9)
                        have hl_106 := CS.kf0 hC_fr_91 (kF.ext (by have := hg_96.1; omega) hkN_105) hl_87
                        have hl_107 := SQ.kf hC_fr_91 (kF.ext (by have := hg_96.1; omega) hkN_105) aD.no hl_88
                        have hl_108 := (e4_kf hC.D (kF.ext (by have := hg_96.1; omega) hkN_105) hl_89)
                        refine V.eq (st' := [.ref q_93]) rfl ?_
                        refine v_astore_n E dX1_refine_225 (zlt hL rfl) (lv' := [(3, .ref q_93), (10, vi 0), (9, vi (fch (T kk0) (l2 + h2) (e2 + 1))), (8, vi (l2 + h2)), (7, vi ((e2 + 1 : Nat) : Int)), (6, vi (k : Int)), (5, vi c2), (4, .ref ls_14), (2, vi ((tm : Nat) : Int)), (1, vi ((k9 : Nat) : Int)), (0, .ref x)]) rfl ?_
                        refine v_iload E 1 rfl dX1_refine_226 ?_
                        refine v_if_eq E (tgt := 236) dX1_refine_228 (by decide) ⟨by omega, by omega⟩ (fun c_228 => ?_) (fun c_228 => absurd c_228 (by omega))
                        refine v_iload E 2 rfl dX1_refine_236 ?_
                        refine v_istore E dX1_refine_238 (zlt hL rfl) (lv' := [(5, vi (fch (T kk0) (l2 + h2) (e2 + 1))), (3, .ref q_93), (10, vi 0), (9, vi (fch (T kk0) (l2 + h2) (e2 + 1))), (8, vi (l2 + h2)), (7, vi ((e2 + 1 : Nat) : Int)), (6, vi (k : Int)), (4, .ref ls_14), (2, vi ((tm : Nat) : Int)), (1, vi ((k9 : Nat) : Int)), (0, .ref x)]) rfl ?_
                        refine v_iinc E 6 rfl dX1_refine_240 (zlt hL rfl) (lv' := [(6, vi ((k : Int) + 1)), (5, vi (fch (T kk0) (l2 + h2) (e2 + 1))), (3, .ref q_93), (10, vi 0), (9, vi (fch (T kk0) (l2 + h2) (e2 + 1))), (8, vi (l2 + h2)), (7, vi ((e2 + 1 : Nat) : Int)), (4, .ref ls_14), (2, vi ((tm : Nat) : Int)), (1, vi ((k9 : Nat) : Int)), (0, .ref x)]) rfl ?_
                        refine v_goto E (tgt := 91) dX1_refine_243 (by decide) ?_
                        refine V.sub [0, 1, 7, 2, 8, 9, 10] (lv' := [(6, vi ((k : Int) + 1)), (5, vi (fch (T kk0) (l2 + h2) (e2 + 1))), (4, .ref ls_14), (3, .ref q_93), (2, vi ((tm : Nat) : Int)), (1, vi ((k9 : Nat) : Int)), (0, .ref x)]) rfl ?_
                        exact ih_91  H_101 (k + 1) q_93 (e2 + 1) (l2 + h2) (2 * h2) 1 _ ((((cb - 50) - C1) - 1) - 0) ((((sb - (8 + (4 * K3 + N3 + 28) * 6)) - L1) - 4) - 0) (by omega) (by omega) (by omega) (by omega) (by omega) rfl ⟨by omega, by omega⟩ (by rw [← hres, show tm - (k + 1) = tm - k - 1 by omega]; exact (xrS_r (by omega) (by omega) hroot (by omega)).symm) (by have e9 := mulS (51 + C1) 6 k (by omega); omega) (by have e9 := mulS ((8 + (4 * K3 + N3 + 28) * 6) + L1 + 4) 6 k (by omega); omega) hl_106 hl_107 hEq_98
                      · refine v_iconst E dX1_refine_176 ?_
                        refine v_goto E (tgt := 181) dX1_refine_177 (by decide) ?_
                        refine v_istore E dX1_refine_181 (zlt hL rfl) (lv' := [(10, vi 1), (9, vi (fch (T kk0) (l2 + h2) (e2 + 1))), (8, vi (l2 + h2)), (7, vi ((e2 + 1 : Nat) : Int)), (6, vi (k : Int)), (5, vi c2), (4, .ref ls_14), (3, .ref its), (2, vi ((tm : Nat) : Int)), (1, vi ((k9 : Nat) : Int)), (0, .ref x)]) rfl ?_
                        refine V.frame (fun hfz_fr_109 hfk_fr_109 => ?_)
                        rw [hH0] at hfz_fr_109 hfk_fr_109
                        rw [hA0] at hfk_fr_109
                        have hC_fr_109 := hC.call hA93 hfz_fr_109 hfk_fr_109
                        refine V.frame (fun hfz_fr_110 hfk_fr_110 => ?_)
                        rw [hH0] at hfz_fr_110 hfk_fr_110
                        rw [hA0] at hfk_fr_110
                        refine v_new E in_X5 tyX5 tyX5_ok q418 q1595 q102 (ci := 4) rfl (fs := [vi 0, vi 0, vi 0, vi 0]) (fun j hj => by rcases (show j = 0 ∨ j = 1 ∨ j = 2 ∨ j = 3 by omega) with rfl | rfl | rfl | rfl <;> rfl) (cb' := (((cb - 50) - C1) - 1)) (sb' := (((sb - (8 + (4 * K3 + N3 + 28) * 6)) - L1) - 4)) (by omega) (by omega) dX1_refine_183 (fun q_111 H_112 hq_115 ho_113 hg_114 => ?_)
                        refine v_dup E rfl dX1_refine_186 ?_
                        refine v_iload E 3 rfl dX1_refine_187 ?_
                        refine v_iload E 0 rfl dX1_refine_189 ?_
                        refine v_if_eq E (tgt := 203) dX1_refine_191 (by decide) ⟨by omega, by omega⟩ (fun c_191 => absurd c_191 (by omega)) (fun c_191 => ?_)
                        refine v_iconst E dX1_refine_194 ?_
                        refine v_aload_n E 7 rfl dX1_refine_195 ?_
                        refine v_getfN (host := "SturmRoots") E in_X5 (hl_89.grow hg_114) (ci := 4) rfl 1 (by decide) (by decide +kernel) rfl (v := vi l2) rfl dX1_refine_196 ?_
                        refine v_imul E dX1_refine_199 ?_
                        refine v_goto E (tgt := 205) dX1_refine_200 (by decide) ?_
                        refine v_iload E 0 rfl dX1_refine_205 ?_
                        refine v_if_eq E (tgt := 215) dX1_refine_207 (by decide) ⟨by omega, by omega⟩ (fun c_207 => absurd c_207 (by omega)) (fun c_207 => ?_)
                        refine v_iload E 2 rfl dX1_refine_210 ?_
                        refine v_goto E (tgt := 221) dX1_refine_212 (by decide) ?_
                        refine v_iconst E dX1_refine_221 ?_
                        refine V.frame (fun hfz_fr_117 hfk_fr_117 => ?_)
                        rw [hH0] at hfz_fr_117 hfk_fr_117
                        rw [hA0] at hfk_fr_117
                        have hC_fr_117 := hC.call hA93 hfz_fr_117 hfk_fr_117
                        refine v_callI E (As := [vi ((e2 + 1 : Nat) : Int), vi (2 * l2), vi (l2 + h2), vi 1]) (b := q_111) (i_init κ H_112 ho_113) q1598 q102 q1596 q1597 rfl 4 (by decide +kernel) rfl (by decide) (by decide) (cb' := ((((cb - 50) - C1) - 1) - 0)) (sb' := ((((sb - (8 + (4 * K3 + N3 + 28) * 6)) - L1) - 4) - 0)) (by omega) (by omega) rfl (rest := [.ref q_111]) (Nat.le_of_ble_eq_true rfl) (fun q9 h => hNew q9 (by rw [show q9 = q_111 from h]; omega)) dX1_refine_222 (fun v_118 H_119 hpost_120 hz_121 hk_122 => ?_)
                        obtain ⟨rfl, hEq_116⟩ := hpost_120
                        have hkN_123 : ∀ q9 : Nat, q9 < Array.size H_83 → ¬ (fun _ => False : Nat → Prop) q9 → H_119[q9]? = H_83[q9]? := fun q9 h9 _ => (hk_122 q9 (by rw [hg_114.1]; omega) (fun h => by have h8 : q9 = q_111 := h; omega)).trans (hg_114.2 q9 h9)
                        have hl_124 := CS.kf0 hC_fr_109 (kF.ext (by have := hg_114.1; omega) hkN_123) hl_87
                        have hl_125 := SQ.kf hC_fr_109 (kF.ext (by have := hg_114.1; omega) hkN_123) aD.no hl_88
                        have hl_126 := (e4_kf hC.D (kF.ext (by have := hg_114.1; omega) hkN_123) hl_89)
                        refine V.eq (st' := [.ref q_111]) rfl ?_
                        refine v_astore_n E dX1_refine_225 (zlt hL rfl) (lv' := [(3, .ref q_111), (10, vi 1), (9, vi (fch (T kk0) (l2 + h2) (e2 + 1))), (8, vi (l2 + h2)), (7, vi ((e2 + 1 : Nat) : Int)), (6, vi (k : Int)), (5, vi c2), (4, .ref ls_14), (2, vi ((tm : Nat) : Int)), (1, vi ((k9 : Nat) : Int)), (0, .ref x)]) rfl ?_
                        refine v_iload E 1 rfl dX1_refine_226 ?_
                        refine v_if_eq E (tgt := 236) dX1_refine_228 (by decide) ⟨by omega, by omega⟩ (fun c_228 => absurd c_228 (by omega)) (fun c_228 => ?_)
                        refine v_iload E 6 rfl dX1_refine_231 ?_
                        refine v_goto E (tgt := 238) dX1_refine_233 (by decide) ?_
                        refine v_istore E dX1_refine_238 (zlt hL rfl) (lv' := [(5, vi c2), (3, .ref q_111), (10, vi 1), (9, vi (fch (T kk0) (l2 + h2) (e2 + 1))), (8, vi (l2 + h2)), (7, vi ((e2 + 1 : Nat) : Int)), (6, vi (k : Int)), (4, .ref ls_14), (2, vi ((tm : Nat) : Int)), (1, vi ((k9 : Nat) : Int)), (0, .ref x)]) rfl ?_
                        refine v_iinc E 6 rfl dX1_refine_240 (zlt hL rfl) (lv' := [(6, vi ((k : Int) + 1)), (5, vi c2), (3, .ref q_111), (10, vi 1), (9, vi (fch (T kk0) (l2 + h2) (e2 + 1))), (8, vi (l2 + h2)), (7, vi ((e2 + 1 : Nat) : Int)), (4, .ref ls_14), (2, vi ((tm : Nat) : Int)), (1, vi ((k9 : Nat) : Int)), (0, .ref x)]) rfl ?_
                        refine v_goto E (tgt := 91) dX1_refine_243 (by decide) ?_
                        refine V.sub [0, 1, 7, 2, 8, 9, 10] (lv' := [(6, vi ((k : Int) + 1)), (5, vi c2), (4, .ref ls_14), (3, .ref q_111), (2, vi ((tm : Nat) : Int)), (1, vi ((k9 : Nat) : Int)), (0, .ref x)]) rfl ?_
                        exact ih_91  H_119 (k + 1) q_111 (e2 + 1) (2 * l2) (l2 + h2) 1 _ ((((cb - 50) - C1) - 1) - 0) ((((sb - (8 + (4 * K3 + N3 + 28) * 6)) - L1) - 4) - 0) (by omega) (by omega) (by omega) (by omega) (by omega) rfl ⟨by omega, by omega⟩ (by rw [← hres, show tm - (k + 1) = tm - k - 1 by omega]; exact (xrS_l (by omega) (by omega) hroot (by omega)).symm) (by have e9 := mulS (51 + C1) 6 k (by omega); omega) (by have e9 := mulS ((8 + (4 * K3 + N3 + 28) * 6) + L1 + 4) 6 k (by omega); omega) hl_124 hl_125 hEq_116
            refine V.sub [0, 1, 2, 3, 6, 5, 4] (lv' := [(6, vi 0), (5, vi (fch (T kk0) lo9 e)), (4, .ref ls_14), (3, .ref y9), (2, vi ((tm : Nat) : Int)), (1, vi ((k9 : Nat) : Int)), (0, .ref x)]) rfl ?_
            exact loop_91 (tm + 1) H_33 0 y9 e lo9 hi9 rt9 _ ((((60 + Cf + C1 + 6 * (51 + C1)) - 1) - Cf) - C1) (((((8 + (4 * K3 + N3 + 28) * 6) + Lf + L1 + 6 * ((8 + (4 * K3 + N3 + 28) * 6) + L1 + 4) + 30) - 6) - Lf) - L1) (by omega) (Nat.zero_le _) rfl hj1 hj2 (by omega) ⟨by omega, by omega⟩ (by rw [Nat.sub_zero]) (by rw [Nat.sub_zero, Nat.mul_comm]; omega) (by rw [Nat.sub_zero, Nat.mul_comm]; omega) hl_37 hl_40 hl_38
          · refine V.frame (fun hfz_fr_127 hfk_fr_127 => ?_)
            rw [hH0] at hfz_fr_127 hfk_fr_127
            rw [hA0] at hfk_fr_127
            have hC_fr_127 := hC.call hA93 hfz_fr_127 hfk_fr_127
            refine V.frame (fun hfz_fr_128 hfk_fr_128 => ?_)
            rw [hH0] at hfz_fr_128 hfk_fr_128
            rw [hA0] at hfk_fr_128
            refine v_throw0 E X9 hE (cls := "java/lang/IllegalStateException") (names := ["java/lang/RuntimeException", "java/lang/Exception"]) (ik := 157) (ic := 159) (by decide +kernel) (by decide +kernel) q665 q95 (ex_2 E.kn E.2.2.2.2.1 q666) ex_2_ok dX1_refine_55 dX1_refine_58 dX1_refine_59 dX1_refine_62 (by decide) (Nat.le_of_ble_eq_true rfl) (by omega) (by omega) (fun H9 hz9 hk9 => ?_)
            exact ⟨Or.inr (Or.inr ⟨rfl, by unfold xoRf; rw [if_pos ⟨by omega, by omega⟩, Int.toNat_natCast, hiv9]; exact congrArg (fun t : zRc => t.2.1) ((if_pos (show 1 ≤ v1 ∧ v1 ≤ 6 by omega)).trans (if_pos (show rt9 ≠ 1 ∨ lo9 = hi9 ∨ 12 < (e : Int) + v1 by omega)))⟩), CS.pub (CS.kf0 hC_fr_127 (kF.ext hz9 (fun q hq _ => hk9 q hq)) hl_7) hST hiso⟩
    · refine V.frame (fun hfz_fr_129 hfk_fr_129 => ?_)
      rw [hH0] at hfz_fr_129 hfk_fr_129
      rw [hA0] at hfk_fr_129
      have hC_fr_129 := hC.call hA93 hfz_fr_129 hfk_fr_129
      refine V.frame (fun hfz_fr_130 hfk_fr_130 => ?_)
      rw [hH0] at hfz_fr_130 hfk_fr_130
      rw [hA0] at hfk_fr_130
      refine v_throw0 E X9 hE (cls := "java/lang/IllegalArgumentException") (names := ["java/lang/RuntimeException", "java/lang/Exception"]) (ik := 138) (ic := 140) (by decide +kernel) (by decide +kernel) q591 q89 (ex_1 E.kn E.2.2.2.2.1 q600) ex_1_ok dX1_refine_17 dX1_refine_20 dX1_refine_21 dX1_refine_24 (by decide) (Nat.le_of_ble_eq_true rfl) (by omega) (by omega) (fun H9 hz9 hk9 => ?_)
      exact ⟨Or.inr (Or.inl ⟨rfl, by unfold xoRf; rw [if_pos ⟨by omega, by omega⟩, Int.toNat_natCast, hiv9]; exact congrArg (fun t : zRc => t.2.1) (if_neg (show ¬ (1 ≤ v1 ∧ v1 ≤ 6) by omega))⟩), CS.pub (CS.kf0 hC_fr_129 (kF.ext hz9 (fun q hq _ => hk9 q hq)) hl_7) hST hiso⟩
