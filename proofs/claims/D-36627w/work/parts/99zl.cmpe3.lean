/-! THE COMPONENT: multiplicity -/
def xmF (l h : Int) (e : Nat) : Nat → Pl → Int
  | 0, _ => 1
  | s + 1, P => if 1 < P.1 then (if xhR P l h e = 0 then 1 else 1 + xmF l h e s (cDvs P)) else 1
def xoMu (S : Nat → Pl) (P0 : Pl) (n : Nat) (iv : Nat → Ivl) (j : Int) : zRc := if 0 ≤ j ∧ j < (n : Int) then (if (iv j.toNat).2.2.2 = 1 then (xmF (iv j.toNat).2.1 (iv j.toNat).2.2.1 (iv j.toNat).1.toNat 7 (cDvs P0), 0, S) else (0, 2, S)) else (0, 1, S)
theorem xmF_e {l h : Int} {e s : Nat} {P : Pl} (c : ¬ 1 < P.1) : xmF l h e s P = 1 := by
  cases s with
  | zero => rfl
  | succ s => exact if_neg c
theorem xmF_0 {l h : Int} {e s : Nat} {P : Pl} (c : 1 < P.1) (hr : xhR P l h e = 0) : xmF l h e s P = 1 := by
  cases s with
  | zero => rfl
  | succ s => exact (if_pos c).trans (if_pos hr)
theorem xmF_s {l h : Int} {e s : Nat} {P : Pl} (c : 1 < P.1) (hr : xhR P l h e ≠ 0) (hs : 0 < s) : xmF l h e s P = 1 + xmF l h e (s - 1) (cDvs P) := by
  match s, hs with
  | s + 1, _ => exact (if_pos c).trans (if_neg hr)
theorem xhR_01 (P : Pl) (l h : Int) (e : Nat) : xhR P l h e = 0 ∨ xhR P l h e = 1 := by
  unfold xhR
  split <;> split <;> omega
theorem sumN_le {g : Nat → Nat} {a b : Nat} (h : a ≤ b) : sumN g a ≤ sumN g b := by
  rcases Nat.eq_or_lt_of_le h with e | e
  · rw [e]; exact Nat.le_refl _
  · exact Nat.le_trans (Nat.le_add_right _ _) (sumN_lt (g := g) e)
/-- an interval's ranges -/
def okI (n : Nat) (iv : Nat → Ivl) : Prop := ∀ k, k < n → (0 ≤ (iv k).1 ∧ (iv k).1 ≤ 12) ∧ (-134217728 ≤ (iv k).2.1 ∧ (iv k).2.1 ≤ 134217728) ∧ (-134217728 ≤ (iv k).2.2.1 ∧ (iv k).2.2.1 ≤ 134217728) ∧ (-100 ≤ (iv k).2.2.2 ∧ (iv k).2.2.2 ≤ 100)
/-- all that the divisors need -/
def okMl (P : Pl) (N : Nat → Nat → Nat) (M : Nat → Nat) (M0 N1 M1 : Nat) (Nt Kt : Nat → Nat) (gC gL : Nat → Nat) (C1 L1 N3 K3 : Nat) : Prop := (cDvs P).1 ≤ 6 ∧ ∀ j, 1 ≤ j → (∀ i, 1 ≤ i → i ≤ j → 1 < (dvI P i).1) → okH (dvI P j) N M M0 N1 M1 Nt Kt (gC (dvI P j).1) (gL (dvI P j).1) C1 L1 ∧ (dvI P (j + 1)).1 < (dvI P j).1 ∧ ∀ (h : Int) (e : Nat), -4294967296 < h → h < 4294967296 → e ≤ 12 → fitV (dvI P j) h e N3 K3
theorem iv_at (v : Ivl) (h : 0 ≤ v.1) : v = ((v.1.toNat : Int), v.2.1, v.2.2.1, v.2.2.2) := by rw [Int.toNat_of_nonneg h]
set_option maxHeartbeats 1000000 in
set_option maxRecDepth 100000 in
/-- multiplicity -/
theorem c_mu (κ : zK) (H0 : Heap) {x : Nat} {S : Nat → Pl} {isoP : Option Pl} {n cap : Nat} {iv : Nat → Ivl} {v0 : Int} (hrv0 : rI v0) (hC : CO κ H0) {N : Nat → Nat → Nat} {M : Nat → Nat} {M0 N1 M1 : Nat} {Nt Kt : Nat → Nat} {gC gL : Nat → Nat} {C0 L0 C1 L1 N3 K3 : Nat} {P0 : Pl} (hisP : isoP = some P0) (hokI : okI n iv) (hQ0 : fitN P0 N M M0 ∧ suC N M0 P0.1 ≤ C0 ∧ suL N M M0 P0.1 ≤ L0) (hML : okMl P0 N M M0 N1 M1 Nt Kt gC gL C1 L1 N3 K3) (hP : CP κ H0 x S isoP n cap iv)  : MtX κ yX1_multiplicity cX1_multiplicity 5 (some .int) 18 463 (C0 + 2 + sumN (fun i => 2 * gC i + 2 * C1 + 51) 7) (L0 + 20 + sumN (fun i => 2 * gL i + 2 * L1 + (8 + (4 * K3 + N3 + 28) * 6) + 4) 7) H0 [.ref x, vi v0] (pA κ H0) (fun v H1 => (xoMu S P0 n iv v0).2.1 = 0 ∧ v = some (vi (xoMu S P0 n iv v0).1) ∧ CP κ H1 x (xoMu S P0 n iv v0).2.2 isoP n cap iv) (fun C H1 => (C = "java/lang/IndexOutOfBoundsException" ∧ (xoMu S P0 n iv v0).2.1 = 1 ∨ C = "java/lang/IllegalStateException" ∧ (xoMu S P0 n iv v0).2.1 = 2) ∧ CP κ H1 x S isoP n cap iv) := by
  refine MtX.of (by decide) (Nat.le_of_ble_eq_true rfl) ?_
  intro z E X9 hE hH0 hA0 hL hini
  have hAll : ∀ q, (pA κ H0) q → zA z.A z.H0 q := fun q h => Or.inl (by rw [hA0]; exact h)
  have hNew : ∀ q, H0.size ≤ q → zA z.A z.H0 q := fun q h => Or.inr (by rw [hH0]; exact h)
  have E : zOK z cX1_multiplicity RX1 κ 18 463 (some .int) := E
  refine V.eqL (lv' := [(0, .ref x), (1, vi v0)]) rfl ?_
  obtain ⟨ls, bs, li, bi, a, iso, T, hS, hST, hiso⟩ := hP
  have hA93 : ∀ q, pA κ H0 q → κ.2 93 ≤ q := fun q h => h.1
  have hD := hC.D
  have hsl0 := hS.sl
  obtain ⟨kk0, hik, hTP⟩ : ∃ kk0, iso = some kk0 ∧ T kk0 = P0 := by
    rw [hisP] at hiso
    cases hi9 : iso with
    | none => rw [hi9] at hiso; exact absurd hiso (by simp)
    | some k => rw [hi9] at hiso; exact ⟨k, rfl, (Option.some.inj hiso).symm⟩
  subst hTP
  have hQ9 : fitN (T kk0) N M M0 ∧ suC N M0 (T kk0).1 ≤ C0 ∧ suL N M M0 (T kk0).1 ≤ L0 ∧ True := ⟨hQ0.1, hQ0.2.1, hQ0.2.2, trivial⟩
  refine v_aload_n E 0 rfl dX1_multiplicity_0 ?_
  refine v_iload_n E 1 rfl dX1_multiplicity_1 ?_
  refine V.frame (fun hfz_fr_1 hfk_fr_1 => ?_)
  rw [hH0] at hfz_fr_1 hfk_fr_1
  rw [hA0] at hfk_fr_1
  have hC_fr_1 := hC.call hA93 hfz_fr_1 hfk_fr_1
  refine v_callVX E X9 hE (As := [vi v0]) (b := x) (ci := 0) (C := RX1) (T := TX1) (N := 3) hS.2.1 rfl (x_iv κ H0 hrv0 hC_fr_1 hS) (lw_V q1624 q1626 qs43 q70 q1627) 1 (by decide +kernel) rfl (by decide) (by decide) (cb' := ((C0 + 2 + sumN (fun i => 2 * gC i + 2 * C1 + 51) 7) - 1)) (sb' := ((L0 + 20 + sumN (fun i => 2 * gL i + 2 * L1 + (8 + (4 * K3 + N3 + 28) * 6) + 4) 7) - 6)) (by omega) (by omega) rfl (rest := []) (Nat.le_of_ble_eq_true rfl) (fun q h => h.elim) dX1_multiplicity_2 (fun C9 H9 hx9 hz9 hk9 => (by exact ⟨Or.inl (⟨hx9.1, (by have hx8 := hx9.2; unfold xoMu; first | (split <;> first | rfl | (exfalso; omega) | (split <;> first | rfl | (exfalso; omega) | (split <;> first | rfl | (exfalso; omega)))))⟩), CS.pub (CS.kf0 hC_fr_1 (kF.ext hz9 hk9) hS) hST hiso⟩)) (fun v_2 H_3 hpost_4 hz_5 hk_6 => ?_)
  obtain ⟨k9, y9, rfl, hk9n, rfl, hE9⟩ := hpost_4
  have hl_7 := CS.kf0 hC_fr_1 (kF.ext hz_5 hk_6) hS
  obtain ⟨e, lo9, hi9, rt9, hiv9⟩ : ∃ (e : Nat) (lo9 hi9 rt9 : Int), iv k9 = ((e : Int), lo9, hi9, rt9) := ⟨_, _, _, _, iv_at _ (hokI k9 hk9n).1.1⟩
  have hok9 := hokI k9 hk9n
  rw [hiv9] at hE9 hok9
  obtain ⟨⟨hq1, hq2⟩, hq3, hq4, hq5⟩ : (0 ≤ (e : Int) ∧ (e : Int) ≤ 12) ∧ (-134217728 ≤ lo9 ∧ lo9 ≤ 134217728) ∧ (-134217728 ≤ hi9 ∧ hi9 ≤ 134217728) ∧ (-100 ≤ rt9 ∧ rt9 ≤ 100) := hok9
  have he12 : e ≤ 12 := by omega
  refine V.eq (st' := [.ref y9]) rfl ?_
  refine v_astore_n E dX1_multiplicity_5 (zlt hL rfl) (lv' := [(2, .ref y9), (0, .ref x), (1, vi ((k9 : Nat) : Int))]) rfl ?_
  refine v_aload_n E 0 rfl dX1_multiplicity_6 ?_
  refine v_getfN (host := "SturmRoots") E in_X5 hE9 (ci := 4) rfl 3 (by decide) (by decide +kernel) rfl (v := vi rt9) rfl dX1_multiplicity_7 ?_
  refine v_iconst E dX1_multiplicity_10 ?_
  refine v_icmp_eq E (tgt := 22) dX1_multiplicity_11 (by decide) ⟨by omega, by omega⟩ ⟨by omega, by omega⟩ (fun c_11 => ?_) (fun c_11 => ?_)
  · refine v_iconst E dX1_multiplicity_22 ?_
    refine v_istore_n E dX1_multiplicity_23 (zlt hL rfl) (lv' := [(3, vi 1), (2, .ref y9), (0, .ref x), (1, vi ((k9 : Nat) : Int))]) rfl ?_
    refine V.frame (fun hfz_fr_8 hfk_fr_8 => ?_)
    rw [hH0] at hfz_fr_8 hfk_fr_8
    rw [hA0] at hfk_fr_8
    have hC_fr_8 := hC.call hA93 hfz_fr_8 hfk_fr_8
    refine V.frame (fun hfz_fr_9 hfk_fr_9 => ?_)
    rw [hH0] at hfz_fr_9 hfk_fr_9
    rw [hA0] at hfk_fr_9
    refine v_new E in_X2 tyX2 tyX2_ok q143 q144 q74 (ci := 1) rfl (fs := [.null, .null, .null, .null]) (fun j hj => by rcases (show j = 0 ∨ j = 1 ∨ j = 2 ∨ j = 3 by omega) with rfl | rfl | rfl | rfl <;> rfl) (cb' := (((C0 + 2 + sumN (fun i => 2 * gC i + 2 * C1 + 51) 7) - 1) - 1)) (sb' := (((L0 + 20 + sumN (fun i => 2 * gL i + 2 * L1 + (8 + (4 * K3 + N3 + 28) * 6) + 4) 7) - 6) - 4)) (by omega) (by omega) dX1_multiplicity_24 (fun q1 H_10 hq_13 ho_11 hg_12 => ?_)
    have hneK_q1 : q1 ≠ kk0 := by have h9 := ((hl_7.2.2.2.2.2 kk0 hik)).lt; omega
    have h93_q1 : κ.2 93 ≤ q1 := Nat.le_trans hC.le (by rw [hq_13]; exact hfz_fr_8)
    have hge0_q1 : H0.size ≤ q1 := by rw [hq_13]; exact hfz_fr_8
    have hal_q1 : ∀ k, k < 5 → a k ≠ q1 := fun k hk => by have h9 := (hl_7).al hk; omega
    have hio_q1 : ∀ k, iso = some k → k ≠ q1 := fun k hk => by have h9 := ((hl_7).2.2.2.2.2 k hk).lt; omega
    refine v_dup E rfl dX1_multiplicity_27 ?_
    refine v_aload_n E 2 rfl dX1_multiplicity_28 ?_
    have hl_14 := CS.kf0 hC_fr_8 (kF.grow hg_12) hl_7
    have hl_15 := (e4_kf hC.D (kF.grow hg_12) hE9)
    have hl_16 := Kn.kf hC_fr_8 (kF.grow hg_12) aD.no (hl_7.2.2.2.2.2 kk0 hik)
    refine v_getf E in_X1 hl_14.2.1 (ci := 0) rfl 1 (by decide) q273 rfl (v := (isoV iso)) rfl dX1_multiplicity_29 ?_
    refine V.eq (st' := [.ref kk0, .ref q1, .ref q1]) (by rw [hik]; rfl) ?_
    refine V.frame (fun hfz_fr_18 hfk_fr_18 => ?_)
    rw [hH0] at hfz_fr_18 hfk_fr_18
    rw [hA0] at hfk_fr_18
    have hC_fr_18 := hC.call hA93 hfz_fr_18 hfk_fr_18
    obtain ⟨-, -, pk_24, vs_25, vf_26, vg_27, hkn_28, hpk_29, -⟩ := id hl_16
    refine v_callV E (As := []) (b := kk0) (ci := 1) (C := RX2) (T := TX2) (N := 4) hkn_28 rfl (k_div κ H_10 (b := false) (N := N) (M := M) (M0 := M0) hC_fr_18 (fun q h => by have h2 := hsl0; exact ⟨by omega, by omega, by omega, by omega⟩) hQ9.1 hl_16) (lw_V q1562 q1481 q1482 q74 q1483) 0 (by decide +kernel) rfl (by decide) (by decide) (cb' := ((((C0 + 2 + sumN (fun i => 2 * gC i + 2 * C1 + 51) 7) - 1) - 1) - C0)) (sb' := ((((L0 + 20 + sumN (fun i => 2 * gL i + 2 * L1 + (8 + (4 * K3 + N3 + 28) * 6) + 4) 7) - 6) - 4) - L0)) (by rw [bC_f]; have := hQ9.2.1; omega) (by rw [bC_f]; have := hQ9.2.2.1; omega) rfl (rest := [.ref q1, .ref q1]) (Nat.le_of_ble_eq_true rfl) (fun q h => by obtain ⟨fs9, h8⟩ := hl_16.cl; have h9 := pA.any hfk_fr_18 h8 (Or.inr (Or.inl rfl)) hl_16.2.1; rw [← show q = _ from h] at h9; exact h9.elim (fun e => hAll q e) (fun e => hNew q e)) dX1_multiplicity_32 (fun v_19 H_20 hpost_21 hz_22 hk_23 => ?_)
    obtain ⟨rd_17, rfl, hrd_17, hKrd_17⟩ := hpost_21
    have hSk_30 := kS.of hl_16 hKrd_17 hz_22 hk_23
    have hl_31 := CS.ks hC_fr_18 hSk_30 hKrd_17 hl_14
    have hl_32 := kS.obj hC_fr_18 hSk_30 hl_15 (by decide) (by decide)
    have hl_33 := Po.ks hC_fr_18 hSk_30 hpk_29
    have hr_34 := ho_11.kept (hk_23 _ ho_11.lt (fun h => hneK_q1 h))
    refine V.eq (st' := [.ref rd_17, .ref q1, .ref q1]) rfl ?_
    refine V.frame (fun hfz_fr_35 hfk_fr_35 => ?_)
    rw [hH0] at hfz_fr_35 hfk_fr_35
    rw [hA0] at hfk_fr_35
    have hC_fr_35 := hC.call hA93 hfz_fr_35 hfk_fr_35
    have hCT_q1 := CS.congrT (T' := (va_up T q1 (cDvs (T kk0)))) (fun k hk => va_up_ne _ _ (hal_q1 k hk)) (fun k hk => va_up_ne _ _ (hio_q1 k hk)) hl_31
    refine v_callI E (As := [.ref rd_17]) (b := q1) (k_init κ H_20 hr_34) q192 q74 q190 q191 rfl 1 (by decide +kernel) rfl (by decide) (by decide) (cb' := (((((C0 + 2 + sumN (fun i => 2 * gC i + 2 * C1 + 51) 7) - 1) - 1) - C0) - 0)) (sb' := (((((L0 + 20 + sumN (fun i => 2 * gL i + 2 * L1 + (8 + (4 * K3 + N3 + 28) * 6) + 4) 7) - 6) - 4) - L0) - 0)) (by omega) (by omega) rfl (rest := [.ref q1]) (Nat.le_of_ble_eq_true rfl) (fun q9 h => hNew q9 (by rw [show q9 = q1 from h]; exact hge0_q1)) dX1_multiplicity_35 (fun v_36 H_37 hpost_38 hz_39 hk_40 => ?_)
    obtain ⟨rfl, hkn_q1⟩ := hpost_38
    have hSk_q1 : kS κ H_20 H_37 q1 := ⟨h93_q1, hz_39, fun q9 h9 h8 => hk_40 q9 h9 h8, ⟨_, hr_34⟩, ⟨_, hkn_q1⟩⟩
    have hPo_q1 := Po.ks hC_fr_35 hSk_q1 hrd_17
    have hKn_q1 : Kn κ (dS ls bs li bi) H_37 q1 (cDvs (T kk0)) false := Kn.new h93_q1 hkn_q1 hPo_q1
    have hCS_q1 := CS.ks hC_fr_35 hSk_q1 (b := false) (by rw [va_up_self]; exact hKn_q1) hCT_q1
    refine V.eq (st' := [.ref q1]) rfl ?_
    refine v_astore E dX1_multiplicity_38 (zlt hL rfl) (lv' := [(4, .ref q1), (3, vi 1), (2, .ref y9), (0, .ref x), (1, vi ((k9 : Nat) : Int))]) rfl ?_
    have loop_40 : ∀ (m_40 : Nat) (H : Heap) (kk j : Nat) (T2 : Nat → Pl) (tm : Int) (cb sb : Nat), 8 - j < m_40 → (T2 kk = dvI (T kk0) j) → (1 ≤ j) → ((T2 kk).1 + j ≤ 7) → (∀ i, 1 ≤ i → i < j → 1 < (dvI (T kk0) i).1) → (∀ k, k < 5 → T2 (a k) = T (a k)) → (∀ k, iso = some k → T2 k = T k) → (tm - 1 + xmF lo9 hi9 e (8 - j) (T2 kk) = xmF lo9 hi9 e 7 (cDvs (T kk0))) → (sumN (fun i => 2 * gC i + 2 * C1 + 51) ((T2 kk).1 + 1) ≤ cb) → (sumN (fun i => 2 * gL i + 2 * L1 + (8 + (4 * K3 + N3 + 28) * 6) + 4) ((T2 kk).1 + 1) ≤ sb) → CS κ (dS ls bs li bi) H x ls bs li bi a iso T2 n cap iv → Kn κ (dS ls bs li bi) H kk (T2 kk) false → e4 κ H y9 ((e : Int), lo9, hi9, rt9) → V z H cb sb 40 [(4, .ref kk), (3, vi tm), (2, .ref y9)] [] := by
      intro m_40
      induction m_40 with
      | zero => intro H kk j T2 tm cb sb hm; exact absurd hm (by omega)
      | succ m_40 ih_40 =>
        intro H kk j T2 tm cb sb hm_40 hTk hj1 hdg hch hag hai htm hcb hsb hS2 hK2 hE2
        refine v_aload E 0 rfl dX1_multiplicity_40 ?_
        obtain ⟨-, -, pk_41, vs_42, vf_43, vg_44, hkn_45, hpk_46, -⟩ := id hK2
        refine v_getfN (host := "SturmRoots") E in_X2 hkn_45 (ci := 1) rfl 0 (by decide) (by decide +kernel) rfl (v := .ref pk_41) rfl dX1_multiplicity_42 ?_
        refine V.frame (fun hfz_fr_47 hfk_fr_47 => ?_)
        rw [hH0] at hfz_fr_47 hfk_fr_47
        rw [hA0] at hfk_fr_47
        have hC_fr_47 := hC.call hA93 hfz_fr_47 hfk_fr_47
        obtain ⟨-, -, l_54, ho_53, -⟩ := id hpk_46
        refine v_callV E (As := []) (b := pk_41) (ci := 2) (C := RX3) (T := TX3) (N := 1) ho_53 rfl (p_deg κ H hC_fr_47 hpk_46) (lw_V q617 q618 q619 q75 q620) 0 (by decide +kernel) rfl (by decide) (by decide) (cb' := (cb - 0)) (sb' := (sb - 0)) (by omega) (by omega) rfl (rest := []) (Nat.le_of_ble_eq_true rfl) (fun q h => h.elim) dX1_multiplicity_45 (fun v_48 H_49 hpost_50 hz_51 hk_52 => ?_)
        obtain rfl := hpost_50
        have hl_55 := CS.kf0 hC_fr_47 (kF.ext hz_51 hk_52) hS2
        have hl_56 := Kn.kf hC_fr_47 (kF.ext hz_51 hk_52) aD.no hK2
        have hl_57 := (e4_kf hC.D (kF.ext hz_51 hk_52) hE2)
        have hl_58 := Po.kf hC_fr_47 (kF.ext hz_51 hk_52) aD.no hpk_46
        refine V.eq (st' := [vi (((Prod.fst (T2 kk) : Nat) : Int) - 1)]) rfl ?_
        refine v_if_le E (tgt := 80) dX1_multiplicity_48 (by decide) ⟨by omega, by omega⟩ (fun c_48 => ?_) (fun c_48 => ?_)
        · refine v_iload_n E 1 rfl dX1_multiplicity_80 ?_
          refine V.rt E hE (fun z9 E hE => ?_)
          refine v_iret E hE dX1_multiplicity_81 ?_
          have hm1 : xmF lo9 hi9 e (8 - j) (T2 kk) = 1 := by
            first | exact xmF_e (by omega) | exact xmF_0 h1k (by omega)
          have hop : xoMu S (T kk0) n iv (k9 : Int) = (tm, 0, S) := by unfold xoMu; rw [if_pos ⟨by omega, by omega⟩, Int.toNat_natCast, hiv9]; show (if rt9 = 1 then (xmF lo9 hi9 (Int.toNat (e : Int)) 7 (cDvs (T kk0)), 0, S) else _) = _; rw [if_pos (by omega), Int.toNat_natCast, ← htm, hm1, show tm - 1 + 1 = tm by omega]
          rw [hop]; exact ⟨rfl, rfl, CS.pub hl_55 (fun k hk => (hST k hk).trans (hag k hk).symm) (hiso.trans (by cases hi9 : iso with | none => rfl | some k => exact congrArg some (hai k hi9).symm))⟩
        · have h1k : 1 < (T2 kk).1 := by omega
          have h1j : 1 < (dvI (T kk0) j).1 := by rw [← hTk]; exact h1k
          have hq9 := hML.2 j hj1 (fun i hi1 hi => by by_cases e : i = j; (· rw [e]; exact h1j); (· exact hch i hi1 (by omega)))
          have hqH : okH (T2 kk) N M M0 N1 M1 Nt Kt (gC (T2 kk).1) (gL (T2 kk).1) C1 L1 := by rw [hTk]; exact hq9.1
          have hqV : fitV (T2 kk) hi9 e N3 K3 := by rw [hTk]; exact hq9.2.2 hi9 e (by omega) (by omega) he12
          have e91 : sumN (fun i => 2 * gC i + 2 * C1 + 51) ((T2 kk).1 + 1) = sumN (fun i => 2 * gC i + 2 * C1 + 51) (T2 kk).1 + (2 * gC (T2 kk).1 + 2 * C1 + 51) := rfl
          have e92 : sumN (fun i => 2 * gL i + 2 * L1 + (8 + (4 * K3 + N3 + 28) * 6) + 4) ((T2 kk).1 + 1) = sumN (fun i => 2 * gL i + 2 * L1 + (8 + (4 * K3 + N3 + 28) * 6) + 4) (T2 kk).1 + (2 * gL (T2 kk).1 + 2 * L1 + (8 + (4 * K3 + N3 + 28) * 6) + 4) := rfl
          rw [e91] at hcb
          rw [e92] at hsb
          refine v_aload E 0 rfl dX1_multiplicity_51 ?_
          refine v_aload_n E 2 rfl dX1_multiplicity_53 ?_
          refine V.frame (fun hfz_fr_59 hfk_fr_59 => ?_)
          rw [hH0] at hfz_fr_59 hfk_fr_59
          rw [hA0] at hfk_fr_59
          have hC_fr_59 := hC.call hA93 hfz_fr_59 hfk_fr_59
          refine v_callS E (As := [.ref kk, .ref y9]) (x_hr κ H_49 (N3 := N3) (K3 := K3) (D := dS ls bs li bi) hq3 hq4 he12 (by omega) hqV hqH hC_fr_59 (fun q h => by have h2 := hsl0; exact ⟨by omega, by omega, by omega, by omega⟩) hl_56 hl_57) (lw_S q1738 q1739 q70 q1740) 2 (by decide +kernel) rfl (by decide) (by decide) (cb' := ((cb - 0) - (50 + gC (T2 kk).1 + 2 * C1))) (sb' := ((sb - 0) - ((8 + (4 * K3 + N3 + 28) * 6) + gL (T2 kk).1 + 2 * L1))) (by omega) (by omega) rfl (rest := []) (Nat.le_of_ble_eq_true rfl) (fun q h => by obtain ⟨fs9, h8⟩ := hl_56.cl; have h9 := pA.any hfk_fr_59 h8 (Or.inr (Or.inl rfl)) hl_56.2.1; rw [← show q = _ from h] at h9; exact h9.elim (fun e => hAll q e) (fun e => hNew q e)) dX1_multiplicity_54 (fun v_60 H_61 hpost_62 hz_63 hk_64 => ?_)
          obtain ⟨rfl, hKhr⟩ := hpost_62
          have hSk_65 := kS.of hl_56 hKhr hz_63 hk_64
          have hl_66 := CS.ks hC_fr_59 hSk_65 hKhr hl_55
          have hl_67 := kS.obj hC_fr_59 hSk_65 hl_57 (by decide) (by decide)
          have hl_68 := Po.ks hC_fr_59 hSk_65 hl_58
          have hx01 := xhR_01 (T2 kk) lo9 hi9 e
          refine V.eq (st' := [vi (xhR (T2 kk) lo9 hi9 e)]) rfl ?_
          refine v_if_eq E (tgt := 80) dX1_multiplicity_57 (by decide) ⟨by omega, by omega⟩ (fun c_57 => ?_) (fun c_57 => ?_)
          · refine v_iload_n E 1 rfl dX1_multiplicity_80 ?_
            refine V.rt E hE (fun z9 E hE => ?_)
            refine v_iret E hE dX1_multiplicity_81 ?_
            have hm1 : xmF lo9 hi9 e (8 - j) (T2 kk) = 1 := by
              first | exact xmF_e (by omega) | exact xmF_0 h1k (by omega)
            have hop : xoMu S (T kk0) n iv (k9 : Int) = (tm, 0, S) := by unfold xoMu; rw [if_pos ⟨by omega, by omega⟩, Int.toNat_natCast, hiv9]; show (if rt9 = 1 then (xmF lo9 hi9 (Int.toNat (e : Int)) 7 (cDvs (T kk0)), 0, S) else _) = _; rw [if_pos (by omega), Int.toNat_natCast, ← htm, hm1, show tm - 1 + 1 = tm by omega]
            rw [hop]; exact ⟨rfl, rfl, CS.pub hl_66 (fun k hk => (hST k hk).trans (hag k hk).symm) (hiso.trans (by cases hi9 : iso with | none => rfl | some k => exact congrArg some (hai k hi9).symm))⟩
          · have hxn : xhR (T2 kk) lo9 hi9 e ≠ 0 := by omega
            refine v_iinc E 1 rfl dX1_multiplicity_60 (zlt hL rfl) (lv' := [(3, vi (tm + 1)), (4, .ref kk), (2, .ref y9)]) rfl ?_
            refine V.frame (fun hfz_fr_69 hfk_fr_69 => ?_)
            rw [hH0] at hfz_fr_69 hfk_fr_69
            rw [hA0] at hfk_fr_69
            have hC_fr_69 := hC.call hA93 hfz_fr_69 hfk_fr_69
            refine V.frame (fun hfz_fr_70 hfk_fr_70 => ?_)
            rw [hH0] at hfz_fr_70 hfk_fr_70
            rw [hA0] at hfk_fr_70
            refine v_new E in_X2 tyX2 tyX2_ok q143 q144 q74 (ci := 1) rfl (fs := [.null, .null, .null, .null]) (fun j hj => by rcases (show j = 0 ∨ j = 1 ∨ j = 2 ∨ j = 3 by omega) with rfl | rfl | rfl | rfl <;> rfl) (cb' := (((cb - 0) - (50 + gC (T2 kk).1 + 2 * C1)) - 1)) (sb' := (((sb - 0) - ((8 + (4 * K3 + N3 + 28) * 6) + gL (T2 kk).1 + 2 * L1)) - 4)) (by omega) (by omega) dX1_multiplicity_63 (fun q2 H_71 hq_74 ho_72 hg_73 => ?_)
            have hneK_q2 : q2 ≠ kk := by have h9 := (hKhr).lt; omega
            have h93_q2 : κ.2 93 ≤ q2 := Nat.le_trans hC.le (by rw [hq_74]; exact hfz_fr_69)
            have hge0_q2 : H0.size ≤ q2 := by rw [hq_74]; exact hfz_fr_69
            have hal_q2 : ∀ k, k < 5 → a k ≠ q2 := fun k hk => by have h9 := (hl_66).al hk; omega
            have hio_q2 : ∀ k, iso = some k → k ≠ q2 := fun k hk => by have h9 := ((hl_66).2.2.2.2.2 k hk).lt; omega
            refine v_dup E rfl dX1_multiplicity_66 ?_
            refine v_aload E 1 rfl dX1_multiplicity_67 ?_
            have hl_75 := CS.kf0 hC_fr_69 (kF.grow hg_73) hl_66
            have hl_76 := (e4_kf hC.D (kF.grow hg_73) hl_67)
            have hl_77 := Po.kf hC_fr_69 (kF.grow hg_73) aD.no hl_68
            have hl_78 := Kn.kf hC_fr_69 (kF.grow hg_73) aD.no hKhr
            refine V.frame (fun hfz_fr_80 hfk_fr_80 => ?_)
            rw [hH0] at hfz_fr_80 hfk_fr_80
            rw [hA0] at hfk_fr_80
            have hC_fr_80 := hC.call hA93 hfz_fr_80 hfk_fr_80
            obtain ⟨-, -, pk_86, vs_87, vf_88, vg_89, hkn_90, hpk_91, -⟩ := id hl_78
            refine v_callV E (As := []) (b := kk) (ci := 1) (C := RX2) (T := TX2) (N := 4) hkn_90 rfl (k_div κ H_71 (b := false) (N := N) (M := M) (M0 := M0) hC_fr_80 (fun q h => by have h2 := hsl0; exact ⟨by omega, by omega, by omega, by omega⟩) hqH.1 hl_78) (lw_V q1562 q1481 q1482 q74 q1483) 0 (by decide +kernel) rfl (by decide) (by decide) (cb' := ((((cb - 0) - (50 + gC (T2 kk).1 + 2 * C1)) - 1) - gC (T2 kk).1)) (sb' := ((((sb - 0) - ((8 + (4 * K3 + N3 + 28) * 6) + gL (T2 kk).1 + 2 * L1)) - 4) - gL (T2 kk).1)) (by rw [bC_f]; have := hqH.2.2.1; omega) (by rw [bC_f]; have := hqH.2.2.2.1; omega) rfl (rest := [.ref q2, .ref q2]) (Nat.le_of_ble_eq_true rfl) (fun q h => by obtain ⟨fs9, h8⟩ := hl_78.cl; have h9 := pA.any hfk_fr_80 h8 (Or.inr (Or.inl rfl)) hl_78.2.1; rw [← show q = _ from h] at h9; exact h9.elim (fun e => hAll q e) (fun e => hNew q e)) dX1_multiplicity_69 (fun v_81 H_82 hpost_83 hz_84 hk_85 => ?_)
            obtain ⟨rd_79, rfl, hrd_79, hKrd_79⟩ := hpost_83
            have hSk_92 := kS.of hl_78 hKrd_79 hz_84 hk_85
            have hl_93 := CS.ks hC_fr_80 hSk_92 hKrd_79 hl_75
            have hl_94 := kS.obj hC_fr_80 hSk_92 hl_76 (by decide) (by decide)
            have hl_95 := Po.ks hC_fr_80 hSk_92 hl_77
            have hl_96 := Po.ks hC_fr_80 hSk_92 hpk_91
            have hr_97 := ho_72.kept (hk_85 _ ho_72.lt (fun h => hneK_q2 h))
            refine V.eq (st' := [.ref rd_79, .ref q2, .ref q2]) rfl ?_
            refine V.frame (fun hfz_fr_98 hfk_fr_98 => ?_)
            rw [hH0] at hfz_fr_98 hfk_fr_98
            rw [hA0] at hfk_fr_98
            have hC_fr_98 := hC.call hA93 hfz_fr_98 hfk_fr_98
            have hCT_q2 := CS.congrT (T' := (va_up T2 q2 (cDvs (T2 kk)))) (fun k hk => va_up_ne _ _ (hal_q2 k hk)) (fun k hk => va_up_ne _ _ (hio_q2 k hk)) hl_93
            refine v_callI E (As := [.ref rd_79]) (b := q2) (k_init κ H_82 hr_97) q192 q74 q190 q191 rfl 1 (by decide +kernel) rfl (by decide) (by decide) (cb' := (((((cb - 0) - (50 + gC (T2 kk).1 + 2 * C1)) - 1) - gC (T2 kk).1) - 0)) (sb' := (((((sb - 0) - ((8 + (4 * K3 + N3 + 28) * 6) + gL (T2 kk).1 + 2 * L1)) - 4) - gL (T2 kk).1) - 0)) (by omega) (by omega) rfl (rest := [.ref q2]) (Nat.le_of_ble_eq_true rfl) (fun q9 h => hNew q9 (by rw [show q9 = q2 from h]; exact hge0_q2)) dX1_multiplicity_72 (fun v_99 H_100 hpost_101 hz_102 hk_103 => ?_)
            obtain ⟨rfl, hkn_q2⟩ := hpost_101
            have hSk_q2 : kS κ H_82 H_100 q2 := ⟨h93_q2, hz_102, fun q9 h9 h8 => hk_103 q9 h9 h8, ⟨_, hr_97⟩, ⟨_, hkn_q2⟩⟩
            have hPo_q2 := Po.ks hC_fr_98 hSk_q2 hrd_79
            have hKn_q2 : Kn κ (dS ls bs li bi) H_100 q2 (cDvs (T2 kk)) false := Kn.new h93_q2 hkn_q2 hPo_q2
            have hCS_q2 := CS.ks hC_fr_98 hSk_q2 (b := false) (by rw [va_up_self]; exact hKn_q2) hCT_q2
            refine V.eq (st' := [.ref q2]) rfl ?_
            refine v_astore E dX1_multiplicity_75 (zlt hL rfl) (lv' := [(4, .ref q2), (3, vi (tm + 1)), (2, .ref y9)]) rfl ?_
            refine v_goto E (tgt := 40) dX1_multiplicity_77 (by decide) ?_
            have hKb_104 : Kn κ (dS ls bs li bi) H_100 q2 (va_up T2 q2 (cDvs (T2 kk)) q2) false := by rw [va_up_self]; exact hKn_q2
            have hlt9 : (cDvs (T2 kk)).1 < (T2 kk).1 := by rw [hTk]; exact hq9.2.1
            have hs91 := sumN_le (g := (fun i => 2 * gC i + 2 * C1 + 51)) (show (cDvs (T2 kk)).1 + 1 ≤ (T2 kk).1 by omega)
            have hs92 := sumN_le (g := (fun i => 2 * gL i + 2 * L1 + (8 + (4 * K3 + N3 + 28) * 6) + 4)) (show (cDvs (T2 kk)).1 + 1 ≤ (T2 kk).1 by omega)
            exact ih_40  H_100 q2 (j + 1) (va_up T2 q2 (cDvs (T2 kk))) _ (((((cb - 0) - (50 + gC (T2 kk).1 + 2 * C1)) - 1) - gC (T2 kk).1) - 0) (((((sb - 0) - ((8 + (4 * K3 + N3 + 28) * 6) + gL (T2 kk).1 + 2 * L1)) - 4) - gL (T2 kk).1) - 0) (by omega) (by rw [va_up_self, hTk]; rfl) (by omega) (by rw [va_up_self]; omega) (fun i hi1 hi => by by_cases e : i = j; (· rw [e]; exact h1j); (· exact hch i hi1 (by omega))) (fun k hk => (va_up_ne _ _ (hal_q2 k hk)).trans (hag k hk)) (fun k hk => (va_up_ne _ _ (hio_q2 k hk)).trans (hai k hk)) (by rw [va_up_self, show 8 - (j + 1) = 8 - j - 1 by omega]; have h9 := xmF_s (l := lo9) (h := hi9) (e := e) (s := 8 - j) (P := T2 kk) h1k hxn (by omega); rw [h9] at htm; omega) (by rw [va_up_self]; omega) (by rw [va_up_self]; omega) hCS_q2 hKb_104 (kS.obj hC_fr_98 hSk_q2 hl_94 (by decide) (by decide))
    refine V.sub [0, 1, 2] (lv' := [(4, .ref q1), (3, vi 1), (2, .ref y9)]) rfl ?_
    have hKb_105 : Kn κ (dS ls bs li bi) H_37 q1 (va_up T q1 (cDvs (T kk0)) q1) false := by rw [va_up_self]; exact hKn_q1
    exact loop_40 (8 + 1) H_37 q1 1 (va_up T q1 (cDvs (T kk0))) 1 (((((C0 + 2 + sumN (fun i => 2 * gC i + 2 * C1 + 51) 7) - 1) - 1) - C0) - 0) (((((L0 + 20 + sumN (fun i => 2 * gL i + 2 * L1 + (8 + (4 * K3 + N3 + 28) * 6) + 4) 7) - 6) - 4) - L0) - 0) (by omega) (by rw [va_up_self]; rfl) (Nat.le_refl _) (by rw [va_up_self]; have := hML.1; omega) (fun i h1 h2 => absurd h2 (by omega)) (fun k hk => va_up_ne _ _ (hal_q1 k hk)) (fun k hk => va_up_ne _ _ (hio_q1 k hk)) (by rw [va_up_self]; show 1 - 1 + xmF lo9 hi9 e 7 (cDvs (T kk0)) = _; omega) (by rw [va_up_self]; have := sumN_le (g := (fun i => 2 * gC i + 2 * C1 + 51)) (show (cDvs (T kk0)).1 + 1 ≤ 7 by have := hML.1; omega); omega) (by rw [va_up_self]; have := sumN_le (g := (fun i => 2 * gL i + 2 * L1 + (8 + (4 * K3 + N3 + 28) * 6) + 4)) (show (cDvs (T kk0)).1 + 1 ≤ 7 by have := hML.1; omega); omega) hCS_q1 hKb_105 (kS.obj hC_fr_35 hSk_q1 hl_32 (by decide) (by decide))
  · refine V.frame (fun hfz_fr_106 hfk_fr_106 => ?_)
    rw [hH0] at hfz_fr_106 hfk_fr_106
    rw [hA0] at hfk_fr_106
    have hC_fr_106 := hC.call hA93 hfz_fr_106 hfk_fr_106
    refine V.frame (fun hfz_fr_107 hfk_fr_107 => ?_)
    rw [hH0] at hfz_fr_107 hfk_fr_107
    rw [hA0] at hfk_fr_107
    refine v_throw0 E X9 hE (cls := "java/lang/IllegalStateException") (names := ["java/lang/RuntimeException", "java/lang/Exception"]) (ik := 157) (ic := 159) (by decide +kernel) (by decide +kernel) q665 q95 (ex_2 E.kn E.2.2.2.2.1 q666) ex_2_ok dX1_multiplicity_14 dX1_multiplicity_17 dX1_multiplicity_18 dX1_multiplicity_21 (by decide) (Nat.le_of_ble_eq_true rfl) (by omega) (by omega) (fun H9 hz9 hk9 => ?_)
    exact ⟨Or.inr ⟨rfl, by unfold xoMu; rw [if_pos ⟨by omega, by omega⟩, Int.toNat_natCast, hiv9]; exact congrArg (fun t : zRc => t.2.1) (if_neg (show ¬ rt9 = 1 by omega))⟩, CS.pub (CS.kf0 hC_fr_106 (kF.ext hz9 (fun q hq _ => hk9 q hq)) hl_7) hST hiso⟩
