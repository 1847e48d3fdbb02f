/-! POLYNOMIALS OF THE COMPONENT: quotient -/
def qut (R B : Pl) : Int := (R.2 (R.1 - 1)).tdiv (B.2 (B.1 - 1))
def quc (R B : Pl) : Nat → Int := fun i => if i < R.1 - B.1 then R.2 i else R.2 i - B.2 (i - (R.1 - B.1)) * qut R B
def quS (R B : Pl) : Pl := mkP (R.1 - 1) (quc R B)
def qF : Nat → Pl → Pl → (Nat → Int) → (Nat → Int)
  | 0, _, _, r => r
  | f + 1, R, B, r => if R.1 < B.1 then r else qF f (quS R B) B (va_up r (R.1 - B.1) (qut R B))
def cQuo (P B : Pl) : Pl := mkP (P.1 - B.1 + 1) (qF (P.1 + 1) P B (fun _ => 0))
def qs (P B : Pl) : Nat → Pl
  | 0 => P
  | j + 1 => quS (qs P B j) B
def fitQ (P B : Pl) (N : Nat) : Prop := ∀ j, (∀ i, i < j → B.1 ≤ (qs P B i).1) → ∀ k, (((qs P B j).2 k).natAbs : Int) < 2 ^ (32 * N)
def quC (m : Nat) : Nat → Nat
  | 0 => 0
  | n + 1 => if n + 1 < m then 0 else 19 + 6 * n + quC m n
def quL (m N K : Nat) : Nat → Nat
  | 0 => 0
  | n + 1 => if n + 1 < m then 0 else (6 * N + 44) + (4 * K + 14) * n + quL m N K n
theorem quC_mono (m : Nat) : ∀ {a b : Nat}, a ≤ b → quC m a ≤ quC m b := by
  intro a b h
  induction b with
  | zero => rw [show a = 0 by omega]; exact Nat.le_refl _
  | succ b ih =>
    by_cases e : a = b + 1
    · rw [e]; exact Nat.le_refl _
    · have h1 := ih (by omega)
      by_cases c : b + 1 < m
      · have h2 : quC m a = 0 := by
          match a with
          | 0 => rfl
          | a + 1 => exact if_pos (by omega)
        omega
      · have h2 : quC m (b + 1) = 19 + 6 * b + quC m b := if_neg c
        omega
theorem quL_mono (m N K : Nat) : ∀ {a b : Nat}, a ≤ b → quL m N K a ≤ quL m N K b := by
  intro a b h
  induction b with
  | zero => rw [show a = 0 by omega]; exact Nat.le_refl _
  | succ b ih =>
    by_cases e : a = b + 1
    · rw [e]; exact Nat.le_refl _
    · have h1 := ih (by omega)
      by_cases c : b + 1 < m
      · have h2 : quL m N K a = 0 := by
          match a with
          | 0 => rfl
          | a + 1 => exact if_pos (by omega)
        omega
      · have h2 : quL m N K (b + 1) = (6 * N + 44) + (4 * K + 14) * b + quL m N K b := if_neg c
        omega
theorem quC_s {m n : Nat} (h : m ≤ n) (h0 : 0 < n) : quC m n = 19 + 6 * (n - 1) + quC m (n - 1) := by
  match n, h0 with
  | n + 1, _ => exact if_neg (by omega)
theorem quL_s {m n N K : Nat} (h : m ≤ n) (h0 : 0 < n) : quL m N K n = (6 * N + 44) + (4 * K + 14) * (n - 1) + quL m N K (n - 1) := by
  match n, h0 with
  | n + 1, _ => exact if_neg (by omega)
theorem qF_s {f : Nat} {R B : Pl} {r : Nat → Int} (h : B.1 ≤ R.1) (hf : 0 < f) : qF f R B r = qF (f - 1) (quS R B) B (va_up r (R.1 - B.1) (qut R B)) := by
  match f, hf with
  | f + 1, _ => exact if_neg (by omega)
theorem qF_e {f : Nat} {R B : Pl} {r : Nat → Int} (h : R.1 < B.1) : qF f R B r = r := by
  match f with
  | 0 => rfl
  | f + 1 => exact if_pos h
theorem qut_abs {R B : Pl} {N : Nat} (h : ∀ k, ((R.2 k).natAbs : Int) < 2 ^ (32 * N)) : ((qut R B).natAbs : Int) < 2 ^ (32 * N) := by
  unfold qut
  rw [Int.natAbs_tdiv]
  have := Nat.div_le_self (R.2 (R.1 - 1)).natAbs (B.2 (B.1 - 1)).natAbs
  exact Int.lt_of_le_of_lt (Int.ofNat_le.mpr this) (h _)
theorem up_lt {r : Nat → Int} {i : Nat} {x : Int} {j : Nat} (h : j ≠ i) : va_up r i x j = r j := va_up_ne _ _ h
theorem p_le {X : Int} {N M : Nat} (h : (X.natAbs : Int) < 2 ^ (32 * N)) : (X.natAbs : Int) < 2 ^ (32 * (N + M)) := Int.lt_of_lt_of_le h (pw_mono (by omega))
set_option maxHeartbeats 2000000 in
set_option maxRecDepth 100000 in
/-- quotient -/
theorem p_quo (κ : zK) (H0 : Heap) {p q : Nat} {P B : Pl} {D : Nat → Prop} {N M : Nat} (hC : CO κ H0) (hDU : ∀ q, H0.size ≤ q → D q) (h0 : 0 < B.1) (h7 : P.1 ≤ 7) (hNM : N + M ≤ 46) (hM20 : M ≤ 20) (hBM : ∀ k, ((B.2 k).natAbs : Int) < 2 ^ (32 * M)) (hle0 : B.1 ≤ P.1) (hN : fitQ P B N) (hP : Po κ D H0 p P) (hB : Po κ D H0 q B)  : Mt κ yX1_quotient cX1_quotient 8 (some (.object "SturmRoots$Poly")) 9 264 (3 + quC B.1 P.1) (14 + quL B.1 N (N + M) P.1) H0 [.ref p, .ref q] (fun _ => False) (fun v H1 => ∃ r : Nat, v = some (.ref r) ∧ Po κ D H1 r (cQuo P B)) := by
  refine Mt.of (by decide) (Nat.le_of_ble_eq_true rfl) ?_
  intro z E hE hH0 hA0 hL hini
  have hAll : ∀ q, (fun _ => False) q → zA z.A z.H0 q := fun q h => Or.inl (by rw [hA0]; exact h)
  have hNew : ∀ q, H0.size ≤ q → zA z.A z.H0 q := fun q h => Or.inr (by rw [hH0]; exact h)
  have E : zOK z cX1_quotient RX1 κ 9 264 (some (.object "SturmRoots$Poly")) := E
  refine V.eqL (lv' := [(0, .ref p), (1, .ref q)]) rfl ?_
  obtain ⟨hnf, h13, l, hop, b, cap, md, g, hA, hel, hDl, hDb⟩ := id hP
  obtain ⟨hnfB, h13B, lB, hoB, bB, capB, mdB, gB, hAB, helB, hDlB, hDbB⟩ := id hB
  have hD := hC.D
  refine V.frame (fun hfz_fr_1 hfk_fr_1 => ?_)
  rw [hH0] at hfz_fr_1 hfk_fr_1
  rw [hA0] at hfk_fr_1
  have hC_fr_1 := hC.call (fun q h => h.elim) hfz_fr_1 hfk_fr_1
  have hF_fr_1 : kF κ H0 H0 (fun _ => False) := ⟨(fun _ h => h.elim), hfz_fr_1, hfk_fr_1⟩
  refine V.frame (fun hfz_fr_2 hfk_fr_2 => ?_)
  rw [hH0] at hfz_fr_2 hfk_fr_2
  rw [hA0] at hfk_fr_2
  refine v_new E in_J2 tyJ2 tyJ2_ok q113 q114 q73 (ci := 5) rfl (fs := [vi 0, .null, vi 0]) (fun j hj => by rcases (show j = 0 ∨ j = 1 ∨ j = 2 by omega) with rfl | rfl | rfl <;> rfl) (cb' := ((3 + quC B.1 P.1) - 1)) (sb' := ((14 + quL B.1 N (N + M) P.1) - 3)) (by omega) (by omega) dX1_quotient_0 (fun lr H_3 hq_6 ho_4 hg_5 => ?_)
  refine v_dup E rfl dX1_quotient_3 ?_
  refine V.frame (fun hfz_fr_7 hfk_fr_7 => ?_)
  rw [hH0] at hfz_fr_7 hfk_fr_7
  rw [hA0] at hfk_fr_7
  have hC_fr_7 := hC.call (fun q h => h.elim) hfz_fr_7 hfk_fr_7
  have hF_fr_7 : kF κ H0 H_3 (fun _ => False) := ⟨(fun _ h => h.elim), hfz_fr_7, hfk_fr_7⟩
  have h93_lr : κ.2 93 ≤ lr := Nat.le_trans hC.le (by omega)
  refine v_callI E (As := []) (b := lr) (j_init κ H_3 h93_lr hC_fr_7 ho_4) q117 q73 q115 q116 rfl 0 (by decide +kernel) rfl (by decide) (by decide) (cb' := (((3 + quC B.1 P.1) - 1) - 0)) (sb' := (((14 + quL B.1 N (N + M) P.1) - 3) - 0)) (by omega) (by omega) rfl (rest := [.ref lr]) (Nat.le_of_ble_eq_true rfl) (fun q h => hNew q (by rw [show q = lr from h]; omega)) dX1_quotient_4 (fun v_8 H_9 hpost_10 hz_11 hk_12 => ?_)
  obtain ⟨rfl, hA_lr⟩ := hpost_10
  have hkN_13 : ∀ q9 : Nat, q9 < Array.size H0 → ¬ (fun _ => False : Nat → Prop) q9 → H_9[q9]? = H0[q9]? := fun q9 h9 _ => (hk_12 q9 (by rw [hg_5.1]; omega) (fun h => by have h8 : q9 = lr := h; omega)).trans (hg_5.2 q9 h9)
  have hLB_lr := LB.nil (S := H0.size) (E := (eB κ (fun _ => 0))) hA_lr (by omega)
  refine V.eq (st' := [.ref lr]) rfl ?_
  refine v_astore_n E dX1_quotient_7 (zlt hL rfl) (lv' := [(2, .ref lr), (0, .ref p), (1, .ref q)]) rfl ?_
  refine v_iconst E dX1_quotient_8 ?_
  refine v_istore_n E dX1_quotient_9 (zlt hL rfl) (lv' := [(3, vi 0), (2, .ref lr), (0, .ref p), (1, .ref q)]) rfl ?_
  have loop_10 : ∀ (m_10 : Nat) (H : Heap) (k b2 cb sb : Nat), (P.1 - B.1 + 1) - k < m_10 → (k ≤ (P.1 - B.1 + 1)) → (al0 k + quC B.1 P.1 + 1 ≤ cb) → (10 * al0 k + quL B.1 N (N + M) P.1 + 1 ≤ sb) → LB κ H0.size (eB κ (fun _ => 0)) H lr b2 k → V z H cb sb 10 [(3, vi (k : Int)), (2, .ref lr), (1, .ref q), (0, .ref p)] [] := by
    intro m_10
    induction m_10 with
    | zero => intro H k b2 cb sb hm; exact absurd hm (by omega)
    | succ m_10 ih_10 =>
      intro H k b2 cb sb hm_10 hk hcb hsb hZ
      refine v_iload_n E 0 rfl dX1_quotient_10 ?_
      refine v_aload_n E 3 rfl dX1_quotient_11 ?_
      refine V.frame (fun hfz_fr_14 hfk_fr_14 => ?_)
      rw [hH0] at hfz_fr_14 hfk_fr_14
      rw [hA0] at hfk_fr_14
      have hC_fr_14 := hC.call (fun q h => h.elim) hfz_fr_14 hfk_fr_14
      have hF_fr_14 : kF κ H0 H (fun _ => False) := ⟨(fun _ h => h.elim), hfz_fr_14, hfk_fr_14⟩
      have hb_20 := hF_fr_14.at hop (fun h => h)
      refine v_callV E (As := []) (b := p) (ci := 2) (C := RX3) (T := TX3) (N := 1) hb_20 rfl (p_deg κ H hC_fr_14 (hP.kf hC hF_fr_14 aD.no)) (lw_V q617 q618 q619 q75 q620) 0 (by decide +kernel) rfl (by decide) (by decide) (cb' := (cb - 0)) (sb' := (sb - 0)) (by omega) (by omega) rfl (rest := [vi (k : Int)]) (Nat.le_of_ble_eq_true rfl) (fun q h => h.elim) dX1_quotient_12 (fun v_15 H_16 hpost_17 hz_18 hk_19 => ?_)
      obtain rfl := hpost_17
      have hl_21 := LB.kf (eB_L κ _) hC_fr_14 (kF.ext hz_18 hk_19) aD.f aD.no hZ
      refine V.eq (st' := [vi ((P.1 : Int) - 1), vi (k : Int)]) rfl ?_
      refine v_aload_n E 2 rfl dX1_quotient_15 ?_
      refine V.frame (fun hfz_fr_22 hfk_fr_22 => ?_)
      rw [hH0] at hfz_fr_22 hfk_fr_22
      rw [hA0] at hfk_fr_22
      have hC_fr_22 := hC.call (fun q h => h.elim) hfz_fr_22 hfk_fr_22
      have hF_fr_22 : kF κ H0 H_16 (fun _ => False) := ⟨(fun _ h => h.elim), hfz_fr_22, hfk_fr_22⟩
      have hb_28 := hF_fr_22.at hoB (fun h => h)
      refine v_callV E (As := []) (b := q) (ci := 2) (C := RX3) (T := TX3) (N := 1) hb_28 rfl (p_deg κ H_16 hC_fr_22 (hB.kf hC hF_fr_22 aD.no)) (lw_V q617 q618 q619 q75 q620) 0 (by decide +kernel) rfl (by decide) (by decide) (cb' := ((cb - 0) - 0)) (sb' := ((sb - 0) - 0)) (by omega) (by omega) rfl (rest := [vi ((P.1 : Int) - 1), vi (k : Int)]) (Nat.le_of_ble_eq_true rfl) (fun q h => h.elim) dX1_quotient_16 (fun v_23 H_24 hpost_25 hz_26 hk_27 => ?_)
      obtain rfl := hpost_25
      have hl_29 := LB.kf (eB_L κ _) hC_fr_22 (kF.ext hz_26 hk_27) aD.f aD.no hl_21
      refine V.eq (st' := [vi ((B.1 : Int) - 1), vi ((P.1 : Int) - 1), vi (k : Int)]) rfl ?_
      refine v_isub E dX1_quotient_19 ?_
      refine v_icmp_gt E (tgt := 38) dX1_quotient_20 (by decide) ⟨by omega, by omega⟩ ⟨by omega, by omega⟩ (fun c_20 => ?_) (fun c_20 => ?_)
      · have hkn2 : k = (P.1 - B.1 + 1) := by omega
        have hZ_30 := hkn2 ▸ hl_29
        obtain ⟨br, hbr⟩ : ∃ br, br = b2 := ⟨_, rfl⟩
        rw [← hbr] at hZ_30
        refine v_aload_n E 3 rfl dX1_quotient_38 ?_
        refine v_astore_n E dX1_quotient_39 (zlt hL rfl) (lv' := [(3, .ref p), (2, .ref lr), (1, .ref q), (0, .ref p)]) rfl ?_
        have loop_40 : ∀ (m_40 : Nat) (H : Heap) (rq : Nat) (R : Pl) (r : Nat → Int) (j f cb sb : Nat), R.1 < m_40 → (R = qs P B j) → (∀ i, i < j → B.1 ≤ (qs P B i).1) → (R.1 < f) → (qF (P.1 + 1) P B (fun _ => 0) = qF f R B r) → (R.1 ≤ P.1) → (quC B.1 R.1 + 1 ≤ cb) → (quL B.1 N (N + M) R.1 + 1 ≤ sb) → Po κ (fun q => D q ∧ q ≠ lr ∧ q ≠ br) H rq R → LB κ H0.size (eB κ r) H lr br (P.1 - B.1 + 1) → V z H cb sb 40 [(3, .ref rq), (2, .ref lr), (1, .ref q), (0, .ref p)] [] := by
          intro m_40
          induction m_40 with
          | zero => intro H rq R r j f cb sb hm; exact absurd hm (by omega)
          | succ m_40 ih_40 =>
            intro H rq R r j f cb sb hm_40 hRj hji hf hcr hR7 hcb hsb hR hZ
            have hRN : ∀ k, ((R.2 k).natAbs : Int) < 2 ^ (32 * N) := by rw [hRj]; exact hN j hji
            refine v_aload_n E 0 rfl dX1_quotient_40 ?_
            refine V.frame (fun hfz_fr_31 hfk_fr_31 => ?_)
            rw [hH0] at hfz_fr_31 hfk_fr_31
            rw [hA0] at hfk_fr_31
            have hC_fr_31 := hC.call (fun q h => h.elim) hfz_fr_31 hfk_fr_31
            have hF_fr_31 : kF κ H0 H (fun _ => False) := ⟨(fun _ h => h.elim), hfz_fr_31, hfk_fr_31⟩
            obtain ⟨-, -, l_38, ho_37, -⟩ := id hR
            refine v_callV E (As := []) (b := rq) (ci := 2) (C := RX3) (T := TX3) (N := 1) ho_37 rfl (p_deg κ H hC_fr_31 hR) (lw_V q617 q618 q619 q75 q620) 0 (by decide +kernel) rfl (by decide) (by decide) (cb' := (cb - 0)) (sb' := (sb - 0)) (by omega) (by omega) rfl (rest := []) (Nat.le_of_ble_eq_true rfl) (fun q h => h.elim) dX1_quotient_41 (fun v_32 H_33 hpost_34 hz_35 hk_36 => ?_)
            obtain rfl := hpost_34
            have hl_39 := Po.kf hC_fr_31 (kF.ext hz_35 hk_36) aD.no hR
            have hl_40 := LB.kf (eB_L κ _) hC_fr_31 (kF.ext hz_35 hk_36) aD.f aD.no hZ
            refine V.eq (st' := [vi ((R.1 : Int) - 1)]) rfl ?_
            refine v_aload_n E 2 rfl dX1_quotient_44 ?_
            refine V.frame (fun hfz_fr_41 hfk_fr_41 => ?_)
            rw [hH0] at hfz_fr_41 hfk_fr_41
            rw [hA0] at hfk_fr_41
            have hC_fr_41 := hC.call (fun q h => h.elim) hfz_fr_41 hfk_fr_41
            have hF_fr_41 : kF κ H0 H_33 (fun _ => False) := ⟨(fun _ h => h.elim), hfz_fr_41, hfk_fr_41⟩
            have hb_47 := hF_fr_41.at hoB (fun h => h)
            refine v_callV E (As := []) (b := q) (ci := 2) (C := RX3) (T := TX3) (N := 1) hb_47 rfl (p_deg κ H_33 hC_fr_41 (hB.kf hC hF_fr_41 aD.no)) (lw_V q617 q618 q619 q75 q620) 0 (by decide +kernel) rfl (by decide) (by decide) (cb' := ((cb - 0) - 0)) (sb' := ((sb - 0) - 0)) (by omega) (by omega) rfl (rest := [vi ((R.1 : Int) - 1)]) (Nat.le_of_ble_eq_true rfl) (fun q h => h.elim) dX1_quotient_45 (fun v_42 H_43 hpost_44 hz_45 hk_46 => ?_)
            obtain rfl := hpost_44
            have hl_48 := Po.kf hC_fr_41 (kF.ext hz_45 hk_46) aD.no hl_39
            have hl_49 := LB.kf (eB_L κ _) hC_fr_41 (kF.ext hz_45 hk_46) aD.f aD.no hl_40
            refine V.eq (st' := [vi ((B.1 : Int) - 1), vi ((R.1 : Int) - 1)]) rfl ?_
            refine v_icmp_lt E (tgt := 169) dX1_quotient_48 (by decide) ⟨by omega, by omega⟩ ⟨by omega, by omega⟩ (fun c_48 => ?_) (fun c_48 => ?_)
            · refine V.frame (fun hfz_fr_50 hfk_fr_50 => ?_)
              rw [hH0] at hfz_fr_50 hfk_fr_50
              rw [hA0] at hfk_fr_50
              have hC_fr_50 := hC.call (fun q h => h.elim) hfz_fr_50 hfk_fr_50
              have hF_fr_50 : kF κ H0 H_43 (fun _ => False) := ⟨(fun _ h => h.elim), hfz_fr_50, hfk_fr_50⟩
              refine V.frame (fun hfz_fr_51 hfk_fr_51 => ?_)
              rw [hH0] at hfz_fr_51 hfk_fr_51
              rw [hA0] at hfk_fr_51
              refine v_new E in_X3 tyX3 tyX3_ok q145 q146 q75 (ci := 2) rfl (fs := [.null]) (fun j hj => by rcases (show j = 0 by omega) with rfl <;> rfl) (cb' := (((cb - 0) - 0) - 1)) (sb' := (((sb - 0) - 0) - 1)) (by omega) (by omega) dX1_quotient_169 (fun pf H_52 hq_55 ho_53 hg_54 => ?_)
              refine v_dup E rfl dX1_quotient_172 ?_
              refine v_aload_n E 1 rfl dX1_quotient_173 ?_
              refine V.frame (fun hfz_fr_56 hfk_fr_56 => ?_)
              rw [hH0] at hfz_fr_56 hfk_fr_56
              rw [hA0] at hfk_fr_56
              have hC_fr_56 := hC.call (fun q h => h.elim) hfz_fr_56 hfk_fr_56
              have hF_fr_56 : kF κ H0 H_52 (fun _ => False) := ⟨(fun _ h => h.elim), hfz_fr_56, hfk_fr_56⟩
              have hLB_57 := LB.kf (eB_L κ _) hC_fr_50 (kF.grow hg_54) aD.no aD.no hl_49
              refine v_callI E (As := [.ref lr]) (b := pf) (p_init κ H_52 (D := D) (n := (P.1 - B.1 + 1)) (c := r) hC_fr_56 (Nat.le_trans hC.le (by omega)) (by omega) hDU hC.le ho_53 hLB_57) q149 q75 q147 q148 rfl 1 (by decide +kernel) rfl (by decide) (by decide) (cb' := ((((cb - 0) - 0) - 1) - 0)) (sb' := ((((sb - 0) - 0) - 1) - 0)) (by omega) (by omega) rfl (rest := [.ref pf]) (Nat.le_of_ble_eq_true rfl) (fun q h => hNew q (h.elim (fun h => by rw [h]; omega) (fun h => h.elim (fun h => by rw [h]; exact ((Exists.choose_spec (Exists.choose_spec hl_49)).2.2.1)) (fun h => by rw [h.1]; exact ((Exists.choose_spec (Exists.choose_spec hl_49)).2.2.2 h.2))))) dX1_quotient_174 (fun v_58 H_59 hpost_60 hz_61 hk_62 => ?_)
              obtain ⟨rfl, hPo_pf⟩ := hpost_60
              obtain ⟨md_64, g_65, hA_66, -, hSl_67, hSb_68⟩ := id hl_49
              have hkN_63 : ∀ q9 : Nat, q9 < Array.size H_43 → ¬ (q9 = lr ∨ (q9 = br ∧ 0 < (P.1 - B.1 + 1))) → H_59[q9]? = H_43[q9]? := fun q9 h9 h8 => (hk_62 q9 (by rw [hg_54.1]; omega) (fun h => h.elim (fun h => by omega) h8)).trans (hg_54.2 q9 h9)
              have hF_69 : kF κ H_43 H_59 (fun q => q = lr ∨ (q = br ∧ 0 < (P.1 - B.1 + 1))) := kF.lst hA_66 (fun q h => h.imp id (fun h => ⟨h.1, capR_pos h.2⟩)) (by have := hg_54.1; omega) hkN_63
              have hl_70 := Po.kf hC_fr_50 hF_69 (aD.nn (fun q h hd => h.elim (fun e => hd.2.1 e) (fun e => hd.2.2 e.1))) hl_48
              refine V.eq (st' := [.ref pf]) rfl ?_
              refine v_aret E hE rfl (Or.inl ⟨_, rfl⟩) dX1_quotient_177 (Or.inr ⟨_, rfl⟩) ?_
              exact ⟨pf, rfl, by show Po κ D _ _ (mkP (P.1 - B.1 + 1) (qF (P.1 + 1) P B (fun _ => 0))); rw [hcr, qF_e (by omega)]; exact hPo_pf⟩
            · refine v_aload_n E 0 rfl dX1_quotient_51 ?_
              refine V.frame (fun hfz_fr_71 hfk_fr_71 => ?_)
              rw [hH0] at hfz_fr_71 hfk_fr_71
              rw [hA0] at hfk_fr_71
              have hC_fr_71 := hC.call (fun q h => h.elim) hfz_fr_71 hfk_fr_71
              have hF_fr_71 : kF κ H0 H_43 (fun _ => False) := ⟨(fun _ h => h.elim), hfz_fr_71, hfk_fr_71⟩
              obtain ⟨-, -, l_78, ho_77, -⟩ := id hl_48
              refine v_callV E (As := []) (b := rq) (ci := 2) (C := RX3) (T := TX3) (N := 1) ho_77 rfl (p_deg κ H_43 hC_fr_71 hl_48) (lw_V q617 q618 q619 q75 q620) 0 (by decide +kernel) rfl (by decide) (by decide) (cb' := (((cb - 0) - 0) - 0)) (sb' := (((sb - 0) - 0) - 0)) (by omega) (by omega) rfl (rest := []) (Nat.le_of_ble_eq_true rfl) (fun q h => h.elim) dX1_quotient_52 (fun v_72 H_73 hpost_74 hz_75 hk_76 => ?_)
              obtain rfl := hpost_74
              have hl_79 := Po.kf hC_fr_71 (kF.ext hz_75 hk_76) aD.no hl_48
              have hl_80 := LB.kf (eB_L κ _) hC_fr_71 (kF.ext hz_75 hk_76) aD.f aD.no hl_49
              refine V.eq (st' := [vi ((R.1 : Int) - 1)]) rfl ?_
              refine v_aload_n E 2 rfl dX1_quotient_55 ?_
              refine V.frame (fun hfz_fr_81 hfk_fr_81 => ?_)
              rw [hH0] at hfz_fr_81 hfk_fr_81
              rw [hA0] at hfk_fr_81
              have hC_fr_81 := hC.call (fun q h => h.elim) hfz_fr_81 hfk_fr_81
              have hF_fr_81 : kF κ H0 H_73 (fun _ => False) := ⟨(fun _ h => h.elim), hfz_fr_81, hfk_fr_81⟩
              have hb_87 := hF_fr_81.at hoB (fun h => h)
              refine v_callV E (As := []) (b := q) (ci := 2) (C := RX3) (T := TX3) (N := 1) hb_87 rfl (p_deg κ H_73 hC_fr_81 (hB.kf hC hF_fr_81 aD.no)) (lw_V q617 q618 q619 q75 q620) 0 (by decide +kernel) rfl (by decide) (by decide) (cb' := ((((cb - 0) - 0) - 0) - 0)) (sb' := ((((sb - 0) - 0) - 0) - 0)) (by omega) (by omega) rfl (rest := [vi ((R.1 : Int) - 1)]) (Nat.le_of_ble_eq_true rfl) (fun q h => h.elim) dX1_quotient_56 (fun v_82 H_83 hpost_84 hz_85 hk_86 => ?_)
              obtain rfl := hpost_84
              have hl_88 := Po.kf hC_fr_81 (kF.ext hz_85 hk_86) aD.no hl_79
              have hl_89 := LB.kf (eB_L κ _) hC_fr_81 (kF.ext hz_85 hk_86) aD.f aD.no hl_80
              refine V.eq (st' := [vi ((B.1 : Int) - 1), vi ((R.1 : Int) - 1)]) rfl ?_
              refine v_isub E dX1_quotient_59 ?_
              refine V.topi (x' := ((R.1 - B.1 : Nat) : Int)) (congrArg iZ (by omega)) ?_
              refine v_istore E dX1_quotient_60 (zlt hL rfl) (lv' := [(4, vi ((R.1 - B.1 : Nat) : Int)), (3, .ref rq), (2, .ref lr), (1, .ref q), (0, .ref p)]) rfl ?_
              refine v_aload_n E 1 rfl dX1_quotient_62 ?_
              refine V.frame (fun hfz_fr_92 hfk_fr_92 => ?_)
              rw [hH0] at hfz_fr_92 hfk_fr_92
              rw [hA0] at hfk_fr_92
              have hC_fr_92 := hC.call (fun q h => h.elim) hfz_fr_92 hfk_fr_92
              have hF_fr_92 : kF κ H0 H_83 (fun _ => False) := ⟨(fun _ h => h.elim), hfz_fr_92, hfk_fr_92⟩
              obtain ⟨-, -, l_99, ho_98, -⟩ := id hl_88
              refine v_callV E (As := []) (b := rq) (ci := 2) (C := RX3) (T := TX3) (N := 1) ho_98 rfl (p_lead κ H_83 (by omega) hC_fr_92 hl_88) (lw_V q1148 q1149 q1150 q75 q1151) 0 (by decide +kernel) rfl (by decide) (by decide) (cb' := (((((cb - 0) - 0) - 0) - 0) - 0)) (sb' := (((((sb - 0) - 0) - 0) - 0) - 0)) (by omega) (by omega) rfl (rest := []) (Nat.le_of_ble_eq_true rfl) (fun q h => h.elim) dX1_quotient_63 (fun v_93 H_94 hpost_95 hz_96 hk_97 => ?_)
              obtain ⟨ql_90, rfl, hBl_91⟩ := hpost_95
              have hl_100 := Po.kf hC_fr_92 (kF.ext hz_96 hk_97) aD.no hl_88
              have hl_101 := LB.kf (eB_L κ _) hC_fr_92 (kF.ext hz_96 hk_97) aD.f aD.no hl_89
              refine V.eq (st' := [.ref ql_90]) rfl ?_
              refine v_aload_n E 3 rfl dX1_quotient_66 ?_
              refine V.frame (fun hfz_fr_104 hfk_fr_104 => ?_)
              rw [hH0] at hfz_fr_104 hfk_fr_104
              rw [hA0] at hfk_fr_104
              have hC_fr_104 := hC.call (fun q h => h.elim) hfz_fr_104 hfk_fr_104
              have hF_fr_104 : kF κ H0 H_94 (fun _ => False) := ⟨(fun _ h => h.elim), hfz_fr_104, hfk_fr_104⟩
              have hb_110 := hF_fr_104.at hoB (fun h => h)
              refine v_callV E (As := []) (b := q) (ci := 2) (C := RX3) (T := TX3) (N := 1) hb_110 rfl (p_lead κ H_94 (by omega) hC_fr_104 (hB.kf hC hF_fr_104 aD.no)) (lw_V q1148 q1149 q1150 q75 q1151) 0 (by decide +kernel) rfl (by decide) (by decide) (cb' := ((((((cb - 0) - 0) - 0) - 0) - 0) - 0)) (sb' := ((((((sb - 0) - 0) - 0) - 0) - 0) - 0)) (by omega) (by omega) rfl (rest := [.ref ql_90]) (Nat.le_of_ble_eq_true rfl) (fun q h => h.elim) dX1_quotient_67 (fun v_105 H_106 hpost_107 hz_108 hk_109 => ?_)
              obtain ⟨ql_102, rfl, hBl_103⟩ := hpost_107
              have hl_111 := Po.kf hC_fr_104 (kF.ext hz_108 hk_109) aD.no hl_100
              have hl_112 := LB.kf (eB_L κ _) hC_fr_104 (kF.ext hz_108 hk_109) aD.f aD.no hl_101
              have hl_113 := BI.kf hC.D (kF.ext hz_108 hk_109) hBl_91
              refine V.eq (st' := [.ref ql_102, .ref ql_90]) rfl ?_
              refine V.frame (fun hfz_fr_114 hfk_fr_114 => ?_)
              rw [hH0] at hfz_fr_114 hfk_fr_114
              rw [hA0] at hfk_fr_114
              have hC_fr_114 := hC.call (fun q h => h.elim) hfz_fr_114 hfk_fr_114
              have hF_fr_114 : kF κ H0 H_106 (fun _ => False) := ⟨(fun _ h => h.elim), hfz_fr_114, hfk_fr_114⟩
              obtain ⟨mz_121, nz_121, cfz_121, ⟨c1z_121, c2z_121, c3z_121, ho_120⟩, -⟩ := id hl_113
              refine v_callV E (As := [.ref ql_102]) (b := ql_90) (ci := 6) (C := RJ16) (T := TJ16) (N := 6) ho_120 rfl (g_div κ H_106 (N := N) hC_fr_114 hl_113 hBl_103 (hRN _) (hnfB.1.resolve_left (by omega))) (lw_V q1422 q1423 q1424 q91 q1425) 1 (by decide +kernel) rfl (by decide) (by decide) (cb' := (((((((cb - 0) - 0) - 0) - 0) - 0) - 0) - 15)) (sb' := (((((((sb - 0) - 0) - 0) - 0) - 0) - 0) - (6 * N + 30))) (by have := quC_s (m := B.1) (n := R.1) (by omega) (by omega); omega) (by have := quL_s (m := B.1) (n := R.1) (N := N) (K := (N + M)) (by omega) (by omega); omega) rfl (rest := []) (Nat.le_of_ble_eq_true rfl) (fun q h => h.elim) dX1_quotient_70 (fun v_115 H_116 hpost_117 hz_118 hk_119 => ?_)
              obtain ⟨tq, rfl, htq⟩ := hpost_117
              have hl_122 := Po.kf hC_fr_114 (kF.ext hz_118 hk_119) aD.no hl_111
              have hl_123 := LB.kf (eB_L κ _) hC_fr_114 (kF.ext hz_118 hk_119) aD.f aD.no hl_112
              have hl_124 := BI.kf hC.D (kF.ext hz_118 hk_119) hl_113
              have hl_125 := BI.kf hC.D (kF.ext hz_118 hk_119) hBl_103
              refine V.eq (st' := [.ref tq]) rfl ?_
              refine v_astore E dX1_quotient_73 (zlt hL rfl) (lv' := [(5, .ref tq), (4, vi ((R.1 - B.1 : Nat) : Int)), (3, .ref rq), (2, .ref lr), (1, .ref q), (0, .ref p)]) rfl ?_
              refine v_aload_n E 3 rfl dX1_quotient_75 ?_
              refine v_iload E 1 rfl dX1_quotient_76 ?_
              refine v_aload E 0 rfl dX1_quotient_78 ?_
              refine V.frame (fun hfz_fr_126 hfk_fr_126 => ?_)
              rw [hH0] at hfz_fr_126 hfk_fr_126
              rw [hA0] at hfk_fr_126
              have hC_fr_126 := hC.call (fun q h => h.elim) hfz_fr_126 hfk_fr_126
              have hF_fr_126 : kF κ H0 H_116 (fun _ => False) := ⟨(fun _ h => h.elim), hfz_fr_126, hfk_fr_126⟩
              obtain ⟨mdS, gS, hAS, helS, hSlS, hSbS⟩ := id hl_123
              obtain ⟨yS, hyS, -⟩ := helS (R.1 - B.1) (by omega)
              obtain ⟨md_132, g_133, hA_134, -⟩ := id hl_123
              refine v_callV E (As := [vi ((R.1 - B.1 : Nat) : Int), .ref tq]) (b := lr) (ci := 5) (C := RJ2) (T := TJ2) (N := 3) hA_134.1 rfl (j_set κ H_116 hC_fr_126 (i := R.1 - B.1) htq.oA (by omega) hyS hAS) (lw_V q667 q668 q669 q73 q670) 2 (by decide +kernel) rfl (by decide) (by decide) (cb' := ((((((((cb - 0) - 0) - 0) - 0) - 0) - 0) - 15) - 0)) (sb' := ((((((((sb - 0) - 0) - 0) - 0) - 0) - 0) - (6 * N + 30)) - 0)) (by omega) (by omega) rfl (rest := []) (Nat.le_of_ble_eq_true rfl) (fun q h => hNew q (by rw [show q = br from h]; exact hSbS (by omega))) dX1_quotient_80 (fun v_127 H_128 hpost_129 hz_130 hk_131 => ?_)
              obtain ⟨rfl, hAS2⟩ := hpost_129
              have hFS := kF.lst (A := fun q => q = br) hAS (fun q h => Or.inr ⟨h, capR_pos (by omega)⟩) hz_130 hk_131
              have hl_135 := Po.kf hC_fr_126 hFS (aD.nn (fun q h hd => hd.2.2 h)) hl_122
              have hl_136 := BI.kf hC.D hFS hl_124
              have hl_137 := BI.kf hC.D hFS hl_125
              have hl_138 := BI.kf hC.D hFS htq
              have hZ9 : LB κ H0.size (eB κ (va_up r (R.1 - B.1) (qut R B))) H_128 lr br (P.1 - B.1 + 1) := ⟨mdS, _, hAS2, fun k9 hk9 => by
                by_cases e : k9 = R.1 - B.1
                · subst e
                  exact ⟨tq, va_up_self _ _ _, by show BI κ _ _ (va_up r (R.1 - B.1) (qut R B) (R.1 - B.1)); rw [va_up_self]; exact hl_138⟩
                · obtain ⟨y, e1, e2⟩ := helS k9 hk9
                  exact ⟨y, (va_up_ne _ _ e).trans e1, by show BI κ _ _ (va_up r (R.1 - B.1) (qut R B) k9); rw [va_up_ne _ _ e]; exact e2.kf hC.D hFS⟩, hSlS, hSbS⟩
              refine V.eq (st' := [.ref yS]) rfl ?_
              refine v_pop E rfl dX1_quotient_83 ?_
              have hs1 := quC_s (m := B.1) (n := R.1) (by omega) (by omega)
              have hs2 := quL_s (m := B.1) (n := R.1) (N := N) (K := (N + M)) (by omega) (by omega)
              refine V.frame (fun hfz_fr_139 hfk_fr_139 => ?_)
              rw [hH0] at hfz_fr_139 hfk_fr_139
              rw [hA0] at hfk_fr_139
              have hC_fr_139 := hC.call (fun q h => h.elim) hfz_fr_139 hfk_fr_139
              have hF_fr_139 : kF κ H0 H_128 (fun _ => False) := ⟨(fun _ h => h.elim), hfz_fr_139, hfk_fr_139⟩
              obtain ⟨S9, hS9⟩ : ∃ S9, S9 = Array.size H_128 := ⟨_, rfl⟩
              have hS90 : H0.size ≤ S9 := by rw [hS9]; exact hfz_fr_139
              have hPt_140 := Po.mono (D' := fun q => (fun q => D q ∧ q ≠ lr ∧ q ≠ br) q ∧ q < S9) hl_135 (fun q h1 h2 => ⟨h2, by rw [hS9]; exact h1⟩)
              have hlS : lr < S9 ∧ br < S9 := by
                obtain ⟨md9, g9, hA9, -⟩ := id hZ9
                rw [hS9]
                exact ⟨hA9.1.lt, hA9.2.1.lt⟩
              refine V.frame (fun hfz_fr_141 hfk_fr_141 => ?_)
              rw [hH0] at hfz_fr_141 hfk_fr_141
              rw [hA0] at hfk_fr_141
              refine v_new E in_J2 tyJ2 tyJ2_ok q113 q114 q73 (ci := 5) rfl (fs := [vi 0, .null, vi 0]) (fun j hj => by rcases (show j = 0 ∨ j = 1 ∨ j = 2 by omega) with rfl | rfl | rfl <;> rfl) (cb' := (((((((((cb - 0) - 0) - 0) - 0) - 0) - 0) - 15) - 0) - 1)) (sb' := (((((((((sb - 0) - 0) - 0) - 0) - 0) - 0) - (6 * N + 30)) - 0) - 3)) (by omega) (by omega) dX1_quotient_84 (fun l2 H_142 hq_145 ho_143 hg_144 => ?_)
              refine v_dup E rfl dX1_quotient_87 ?_
              refine V.frame (fun hfz_fr_146 hfk_fr_146 => ?_)
              rw [hH0] at hfz_fr_146 hfk_fr_146
              rw [hA0] at hfk_fr_146
              have hC_fr_146 := hC.call (fun q h => h.elim) hfz_fr_146 hfk_fr_146
              have hF_fr_146 : kF κ H0 H_142 (fun _ => False) := ⟨(fun _ h => h.elim), hfz_fr_146, hfk_fr_146⟩
              have h93_l2 : κ.2 93 ≤ l2 := Nat.le_trans hC.le (by omega)
              refine v_callI E (As := []) (b := l2) (j_init κ H_142 h93_l2 hC_fr_146 ho_143) q117 q73 q115 q116 rfl 0 (by decide +kernel) rfl (by decide) (by decide) (cb' := ((((((((((cb - 0) - 0) - 0) - 0) - 0) - 0) - 15) - 0) - 1) - 0)) (sb' := ((((((((((sb - 0) - 0) - 0) - 0) - 0) - 0) - (6 * N + 30)) - 0) - 3) - 0)) (by omega) (by omega) rfl (rest := [.ref l2]) (Nat.le_of_ble_eq_true rfl) (fun q h => hNew q (by rw [show q = l2 from h]; omega)) dX1_quotient_88 (fun v_147 H_148 hpost_149 hz_150 hk_151 => ?_)
              obtain ⟨rfl, hA_l2⟩ := hpost_149
              have hkN_152 : ∀ q9 : Nat, q9 < Array.size H_128 → ¬ (fun _ => False : Nat → Prop) q9 → H_148[q9]? = H_128[q9]? := fun q9 h9 _ => (hk_151 q9 (by rw [hg_144.1]; omega) (fun h => by have h8 : q9 = l2 := h; omega)).trans (hg_144.2 q9 h9)
              have hl_153 := Po.kf hC_fr_139 (kF.ext (by have := hg_144.1; omega) hkN_152) aD.no hPt_140
              have hl_154 := BI.kf hC.D (kF.ext (by have := hg_144.1; omega) hkN_152) hl_136
              have hl_155 := BI.kf hC.D (kF.ext (by have := hg_144.1; omega) hkN_152) hl_137
              have hl_156 := BI.kf hC.D (kF.ext (by have := hg_144.1; omega) hkN_152) hl_138
              have hl_157 := LB.kf (eB_L κ _) hC_fr_139 (kF.ext (by have := hg_144.1; omega) hkN_152) aD.f aD.no hZ9
              have hLB_l2 := LB.nil (S := S9) (E := (eB κ (quc R B))) hA_l2 (by omega)
              refine V.eq (st' := [.ref l2]) rfl ?_
              refine v_astore E dX1_quotient_91 (zlt hL rfl) (lv' := [(6, .ref l2), (5, .ref tq), (4, vi ((R.1 - B.1 : Nat) : Int)), (3, .ref rq), (2, .ref lr), (1, .ref q), (0, .ref p)]) rfl ?_
              refine v_iconst E dX1_quotient_93 ?_
              refine v_istore E dX1_quotient_94 (zlt hL rfl) (lv' := [(7, vi 0), (6, .ref l2), (5, .ref tq), (4, vi ((R.1 - B.1 : Nat) : Int)), (3, .ref rq), (2, .ref lr), (1, .ref q), (0, .ref p)]) rfl ?_
              have loop_96 : ∀ (m_96 : Nat) (H : Heap) (k b2 cb sb : Nat), R.1 - 1 - k < m_96 → (k ≤ R.1 - 1) → (2 + 6 * (R.1 - 1 - k) + al0 k + quC B.1 (R.1 - 1) ≤ cb) → (2 + (4 * (N + M) + 14) * (R.1 - 1 - k) + 10 * al0 k + quL B.1 N (N + M) (R.1 - 1) ≤ sb) → LB κ S9 (eB κ (quc R B)) H l2 b2 k → Po κ (fun q => (fun q => D q ∧ q ≠ lr ∧ q ≠ br) q ∧ q < S9) H rq R → BI κ H tq (qut R B) → LB κ H0.size (eB κ (va_up r (R.1 - B.1) (qut R B))) H lr br (P.1 - B.1 + 1) → V z H cb sb 96 [(7, vi (k : Int)), (6, .ref l2), (5, .ref tq), (4, vi ((R.1 - B.1 : Nat) : Int)), (3, .ref rq), (2, .ref lr), (1, .ref q), (0, .ref p)] [] := by
                intro m_96
                induction m_96 with
                | zero => intro H k b2 cb sb hm; exact absurd hm (by omega)
                | succ m_96 ih_96 =>
                  intro H k b2 cb sb hm_96 hk hcb hsb hL2 hR htq hZ
                  refine v_iload E 0 rfl dX1_quotient_96 ?_
                  refine v_aload_n E 4 rfl dX1_quotient_98 ?_
                  refine V.frame (fun hfz_fr_158 hfk_fr_158 => ?_)
                  rw [hH0] at hfz_fr_158 hfk_fr_158
                  rw [hA0] at hfk_fr_158
                  have hC_fr_158 := hC.call (fun q h => h.elim) hfz_fr_158 hfk_fr_158
                  have hF_fr_158 : kF κ H0 H (fun _ => False) := ⟨(fun _ h => h.elim), hfz_fr_158, hfk_fr_158⟩
                  obtain ⟨-, -, l_165, ho_164, -⟩ := id hR
                  refine v_callV E (As := []) (b := rq) (ci := 2) (C := RX3) (T := TX3) (N := 1) ho_164 rfl (p_deg κ H hC_fr_158 hR) (lw_V q617 q618 q619 q75 q620) 0 (by decide +kernel) rfl (by decide) (by decide) (cb' := (cb - 0)) (sb' := (sb - 0)) (by omega) (by omega) rfl (rest := [vi (k : Int)]) (Nat.le_of_ble_eq_true rfl) (fun q h => h.elim) dX1_quotient_99 (fun v_159 H_160 hpost_161 hz_162 hk_163 => ?_)
                  obtain rfl := hpost_161
                  have hl_166 := LB.kf (eB_L κ _) hC_fr_158 (kF.ext hz_162 hk_163) aD.f aD.no hL2
                  have hl_167 := Po.kf hC_fr_158 (kF.ext hz_162 hk_163) aD.no hR
                  have hl_168 := BI.kf hC.D (kF.ext hz_162 hk_163) htq
                  have hl_169 := LB.kf (eB_L κ _) hC_fr_158 (kF.ext hz_162 hk_163) aD.f aD.no hZ
                  refine V.eq (st' := [vi ((R.1 : Int) - 1), vi (k : Int)]) rfl ?_
                  refine v_icmp_ge E (tgt := 156) dX1_quotient_102 (by decide) ⟨by omega, by omega⟩ ⟨by omega, by omega⟩ (fun c_102 => ?_) (fun c_102 => ?_)
                  · have hkn2 : k = R.1 - 1 := by omega
                    have hR_170 := hkn2 ▸ hl_166
                    refine V.frame (fun hfz_fr_171 hfk_fr_171 => ?_)
                    rw [hH0] at hfz_fr_171 hfk_fr_171
                    rw [hA0] at hfk_fr_171
                    have hC_fr_171 := hC.call (fun q h => h.elim) hfz_fr_171 hfk_fr_171
                    have hF_fr_171 : kF κ H0 H_160 (fun _ => False) := ⟨(fun _ h => h.elim), hfz_fr_171, hfk_fr_171⟩
                    refine V.frame (fun hfz_fr_172 hfk_fr_172 => ?_)
                    rw [hH0] at hfz_fr_172 hfk_fr_172
                    rw [hA0] at hfk_fr_172
                    refine v_new E in_X3 tyX3 tyX3_ok q145 q146 q75 (ci := 2) rfl (fs := [.null]) (fun j hj => by rcases (show j = 0 by omega) with rfl <;> rfl) (cb' := ((cb - 0) - 1)) (sb' := ((sb - 0) - 1)) (by omega) (by omega) dX1_quotient_156 (fun pn H_173 hq_176 ho_174 hg_175 => ?_)
                    refine v_dup E rfl dX1_quotient_159 ?_
                    refine v_aload E 1 rfl dX1_quotient_160 ?_
                    refine V.frame (fun hfz_fr_177 hfk_fr_177 => ?_)
                    rw [hH0] at hfz_fr_177 hfk_fr_177
                    rw [hA0] at hfk_fr_177
                    have hC_fr_177 := hC.call (fun q h => h.elim) hfz_fr_177 hfk_fr_177
                    have hF_fr_177 : kF κ H0 H_173 (fun _ => False) := ⟨(fun _ h => h.elim), hfz_fr_177, hfk_fr_177⟩
                    have hLB_178 := LB.kf (eB_L κ _) hC_fr_171 (kF.grow hg_175) aD.no aD.no hR_170
                    refine v_callI E (As := [.ref l2]) (b := pn) (p_init κ H_173 (D := (fun q => D q ∧ q ≠ lr ∧ q ≠ br)) (n := (R.1 - 1)) (c := quc R B) hC_fr_177 (Nat.le_trans hC.le (by omega)) (by omega) (fun q h => ⟨hDU q (Nat.le_trans hS90 h), by have := hlS; omega, by have := hlS; omega⟩) (Nat.le_trans hC.le hS90) ho_174 hLB_178) q149 q75 q147 q148 rfl 1 (by decide +kernel) rfl (by decide) (by decide) (cb' := (((cb - 0) - 1) - 0)) (sb' := (((sb - 0) - 1) - 0)) (by omega) (by omega) rfl (rest := [.ref pn]) (Nat.le_of_ble_eq_true rfl) (fun q h => hNew q (h.elim (fun h => by rw [h]; omega) (fun h => h.elim (fun h => by rw [h]; exact (Nat.le_trans hS90 ((Exists.choose_spec (Exists.choose_spec hR_170)).2.2.1))) (fun h => by rw [h.1]; exact (Nat.le_trans hS90 ((Exists.choose_spec (Exists.choose_spec hR_170)).2.2.2 h.2)))))) dX1_quotient_162 (fun v_179 H_180 hpost_181 hz_182 hk_183 => ?_)
                    obtain ⟨rfl, hPo_pn⟩ := hpost_181
                    obtain ⟨md_185, g_186, hA_187, -, hSl_188, hSb_189⟩ := id hR_170
                    have hkN_184 : ∀ q9 : Nat, q9 < Array.size H_160 → ¬ (q9 = l2 ∨ (q9 = b2 ∧ 0 < (R.1 - 1))) → H_180[q9]? = H_160[q9]? := fun q9 h9 h8 => (hk_183 q9 (by rw [hg_175.1]; omega) (fun h => h.elim (fun h => by omega) h8)).trans (hg_175.2 q9 h9)
                    have hF_190 : kF κ H_160 H_180 (fun q => q = l2 ∨ (q = b2 ∧ 0 < (R.1 - 1))) := kF.lst hA_187 (fun q h => h.imp id (fun h => ⟨h.1, capR_pos h.2⟩)) (by have := hg_175.1; omega) hkN_184
                    have hl_191 := Po.kf hC_fr_171 hF_190 (aD.nn (fun q h hd => absurd hd.2 (Nat.not_lt.mpr (h.elim (fun e => by rw [e]; exact hSl_188) (fun e => by rw [e.1]; exact hSb_189 e.2))))) hl_167
                    have hl_192 := BI.kf hC.D hF_190 hl_168
                    have hl_193 := LB.kf (eB_L κ _) hC_fr_171 hF_190 aD.f (aD.nn (fun q h hd => by have h1 : S9 ≤ q := h.elim (fun e => by rw [e]; exact hSl_188) (fun e => by rw [e.1]; exact hSb_189 e.2); have h2 := hlS; exact hd.elim (fun e => by omega) (fun e => by have := e.1; omega))) hl_169
                    refine V.eq (st' := [.ref pn]) rfl ?_
                    refine v_astore_n E dX1_quotient_165 (zlt hL rfl) (lv' := [(3, .ref pn), (7, vi (k : Int)), (6, .ref l2), (5, .ref tq), (4, vi ((R.1 - B.1 : Nat) : Int)), (2, .ref lr), (1, .ref q), (0, .ref p)]) rfl ?_
                    have hle := pl_le (quc R B) (R.1 - 1)
                    change (quS R B).1 ≤ R.1 - 1 at hle
                    refine v_goto E (tgt := 40) dX1_quotient_166 (by decide) ?_
                    refine V.sub [0, 5, 6, 7] (lv' := [(3, .ref pn), (2, .ref lr), (1, .ref q), (0, .ref p)]) rfl ?_
                    exact ih_40  H_180 _ (quS R B) _ (j + 1) (f - 1) (((cb - 0) - 1) - 0) (((sb - 0) - 1) - 0) (by omega) (by rw [hRj]; rfl) (ltj_s hji (by rw [← hRj]; omega)) (by omega) (by rw [hcr, qF_s (by omega) (by omega)]) (by omega) (by have := quC_mono B.1 hle; omega) (by have := quL_mono B.1 N (N + M) hle; omega) hPo_pn hl_193
                  · have e1 := mulS 6 (R.1 - 1) k (by omega)
                    have e2 := mulS (4 * (N + M) + 14) (R.1 - 1) k (by omega)
                    refine v_aload E 1 rfl dX1_quotient_105 ?_
                    refine v_iload E 0 rfl dX1_quotient_107 ?_
                    refine v_iload E 3 rfl dX1_quotient_109 ?_
                    refine v_icmp_ge E (tgt := 123) dX1_quotient_111 (by decide) ⟨by omega, by omega⟩ ⟨by omega, by omega⟩ (fun c_111 => ?_) (fun c_111 => ?_)
                    · refine v_aload_n E 4 rfl dX1_quotient_123 ?_
                      refine v_iload E 0 rfl dX1_quotient_124 ?_
                      refine V.frame (fun hfz_fr_196 hfk_fr_196 => ?_)
                      rw [hH0] at hfz_fr_196 hfk_fr_196
                      rw [hA0] at hfk_fr_196
                      have hC_fr_196 := hC.call (fun q h => h.elim) hfz_fr_196 hfk_fr_196
                      have hF_fr_196 : kF κ H0 H_160 (fun _ => False) := ⟨(fun _ h => h.elim), hfz_fr_196, hfk_fr_196⟩
                      obtain ⟨-, -, l_203, ho_202, -⟩ := id hl_167
                      refine v_callV E (As := [vi (k : Int)]) (b := rq) (ci := 2) (C := RX3) (T := TX3) (N := 1) ho_202 rfl (p_at κ H_160 (i := k) (by omega) hC_fr_196 hl_167) (lw_V q467 q468 q469 q75 q470) 1 (by decide +kernel) rfl (by decide) (by decide) (cb' := ((cb - 0) - 0)) (sb' := ((sb - 0) - 0)) (by omega) (by omega) rfl (rest := [.ref l2]) (Nat.le_of_ble_eq_true rfl) (fun q h => h.elim) dX1_quotient_126 (fun v_197 H_198 hpost_199 hz_200 hk_201 => ?_)
                      obtain ⟨qa_194, rfl, hBa_195⟩ := hpost_199
                      have hl_204 := LB.kf (eB_L κ _) hC_fr_196 (kF.ext hz_200 hk_201) aD.f aD.no hl_166
                      have hl_205 := Po.kf hC_fr_196 (kF.ext hz_200 hk_201) aD.no hl_167
                      have hl_206 := BI.kf hC.D (kF.ext hz_200 hk_201) hl_168
                      have hl_207 := LB.kf (eB_L κ _) hC_fr_196 (kF.ext hz_200 hk_201) aD.f aD.no hl_169
                      refine V.eq (st' := [.ref qa_194, .ref l2]) rfl ?_
                      refine v_aload_n E 6 rfl dX1_quotient_129 ?_
                      refine v_iload E 0 rfl dX1_quotient_130 ?_
                      refine v_iload E 3 rfl dX1_quotient_132 ?_
                      refine v_isub E dX1_quotient_134 ?_
                      refine V.topi (x' := ((k - (R.1 - B.1) : Nat) : Int)) (congrArg iZ (by omega)) ?_
                      refine V.frame (fun hfz_fr_210 hfk_fr_210 => ?_)
                      rw [hH0] at hfz_fr_210 hfk_fr_210
                      rw [hA0] at hfk_fr_210
                      have hC_fr_210 := hC.call (fun q h => h.elim) hfz_fr_210 hfk_fr_210
                      have hF_fr_210 : kF κ H0 H_198 (fun _ => False) := ⟨(fun _ h => h.elim), hfz_fr_210, hfk_fr_210⟩
                      have hb_216 := hF_fr_210.at hoB (fun h => h)
                      refine v_callV E (As := [vi ((k - (R.1 - B.1) : Nat) : Int)]) (b := q) (ci := 2) (C := RX3) (T := TX3) (N := 1) hb_216 rfl (p_at κ H_198 (i := (k - (R.1 - B.1))) (by omega) hC_fr_210 (hB.kf hC hF_fr_210 aD.no)) (lw_V q467 q468 q469 q75 q470) 1 (by decide +kernel) rfl (by decide) (by decide) (cb' := (((cb - 0) - 0) - 0)) (sb' := (((sb - 0) - 0) - 0)) (by omega) (by omega) rfl (rest := [.ref qa_194, .ref l2]) (Nat.le_of_ble_eq_true rfl) (fun q h => h.elim) dX1_quotient_135 (fun v_211 H_212 hpost_213 hz_214 hk_215 => ?_)
                      obtain ⟨qa_208, rfl, hBa_209⟩ := hpost_213
                      have hl_217 := LB.kf (eB_L κ _) hC_fr_210 (kF.ext hz_214 hk_215) aD.f aD.no hl_204
                      have hl_218 := Po.kf hC_fr_210 (kF.ext hz_214 hk_215) aD.no hl_205
                      have hl_219 := BI.kf hC.D (kF.ext hz_214 hk_215) hl_206
                      have hl_220 := LB.kf (eB_L κ _) hC_fr_210 (kF.ext hz_214 hk_215) aD.f aD.no hl_207
                      have hl_221 := BI.kf hC.D (kF.ext hz_214 hk_215) hBa_195
                      refine V.eq (st' := [.ref qa_208, .ref qa_194, .ref l2]) rfl ?_
                      refine v_aload E 2 rfl dX1_quotient_138 ?_
                      refine V.frame (fun hfz_fr_224 hfk_fr_224 => ?_)
                      rw [hH0] at hfz_fr_224 hfk_fr_224
                      rw [hA0] at hfk_fr_224
                      have hC_fr_224 := hC.call (fun q h => h.elim) hfz_fr_224 hfk_fr_224
                      have hF_fr_224 : kF κ H0 H_212 (fun _ => False) := ⟨(fun _ h => h.elim), hfz_fr_224, hfk_fr_224⟩
                      obtain ⟨mz_231, nz_231, cfz_231, ⟨c1z_231, c2z_231, c3z_231, ho_230⟩, -⟩ := id hBa_209
                      refine v_callV E (As := [.ref tq]) (b := qa_208) (ci := 6) (C := RJ16) (T := TJ16) (N := 6) ho_230 rfl (g_mul κ H_212 (N := M) (M := N) hC_fr_224 hBa_209 hl_219 (hBM _) (qut_abs hRN) (Or.inl hM20) (sB_m (hBM _) (qut_abs hRN) (by omega))) (lw_V q959 q960 q961 q91 q962) 1 (by decide +kernel) rfl (by decide) (by decide) (cb' := ((((cb - 0) - 0) - 0) - 3)) (sb' := ((((sb - 0) - 0) - 0) - (2 * (M + N) + 7))) (by omega) (by omega) rfl (rest := [.ref qa_194, .ref l2]) (Nat.le_of_ble_eq_true rfl) (fun q h => h.elim) dX1_quotient_140 (fun v_225 H_226 hpost_227 hz_228 hk_229 => ?_)
                      obtain ⟨qm_222, rfl, hBm_223⟩ := hpost_227
                      have hl_232 := LB.kf (eB_L κ _) hC_fr_224 (kF.ext hz_228 hk_229) aD.f aD.no hl_217
                      have hl_233 := Po.kf hC_fr_224 (kF.ext hz_228 hk_229) aD.no hl_218
                      have hl_234 := BI.kf hC.D (kF.ext hz_228 hk_229) hl_219
                      have hl_235 := LB.kf (eB_L κ _) hC_fr_224 (kF.ext hz_228 hk_229) aD.f aD.no hl_220
                      have hl_236 := BI.kf hC.D (kF.ext hz_228 hk_229) hl_221
                      have hl_237 := BI.kf hC.D (kF.ext hz_228 hk_229) hBa_209
                      refine V.eq (st' := [.ref qm_222, .ref qa_194, .ref l2]) rfl ?_
                      refine V.frame (fun hfz_fr_240 hfk_fr_240 => ?_)
                      rw [hH0] at hfz_fr_240 hfk_fr_240
                      rw [hA0] at hfk_fr_240
                      have hC_fr_240 := hC.call (fun q h => h.elim) hfz_fr_240 hfk_fr_240
                      have hF_fr_240 : kF κ H0 H_226 (fun _ => False) := ⟨(fun _ h => h.elim), hfz_fr_240, hfk_fr_240⟩
                      obtain ⟨mz_247, nz_247, cfz_247, ⟨c1z_247, c2z_247, c3z_247, ho_246⟩, -⟩ := id hl_236
                      refine v_callV E (As := [.ref qm_222]) (b := qa_194) (ci := 6) (C := RJ16) (T := TJ16) (N := 6) ho_246 rfl (g_sub κ H_226 (N := (N + M)) hC_fr_240 hl_236 hBm_223 (p_le (hRN k)) (by rw [Nat.add_comm N M]; exact prod_lt (hBM _) (qut_abs hRN)) (sB_s (p_le (M := M) (hRN k)) (by rw [Nat.add_comm N M]; exact prod_lt (hBM _) (qut_abs hRN)) (by omega))) (lw_V q1153 q1056 q1057 q91 q1058) 1 (by decide +kernel) rfl (by decide) (by decide) (cb' := (((((cb - 0) - 0) - 0) - 3) - 3)) (sb' := (((((sb - 0) - 0) - 0) - (2 * (M + N) + 7)) - (2 * (N + M) + 7))) (by omega) (by omega) rfl (rest := [.ref l2]) (Nat.le_of_ble_eq_true rfl) (fun q h => h.elim) dX1_quotient_143 (fun v_241 H_242 hpost_243 hz_244 hk_245 => ?_)
                      obtain ⟨qs_238, rfl, hBs_239⟩ := hpost_243
                      have hl_248 := LB.kf (eB_L κ _) hC_fr_240 (kF.ext hz_244 hk_245) aD.f aD.no hl_232
                      have hl_249 := Po.kf hC_fr_240 (kF.ext hz_244 hk_245) aD.no hl_233
                      have hl_250 := BI.kf hC.D (kF.ext hz_244 hk_245) hl_234
                      have hl_251 := LB.kf (eB_L κ _) hC_fr_240 (kF.ext hz_244 hk_245) aD.f aD.no hl_235
                      have hl_252 := BI.kf hC.D (kF.ext hz_244 hk_245) hl_236
                      have hl_253 := BI.kf hC.D (kF.ext hz_244 hk_245) hl_237
                      have hl_254 := BI.kf hC.D (kF.ext hz_244 hk_245) hBm_223
                      refine V.eq (st' := [.ref qs_238, .ref l2]) rfl ?_
                      refine V.frame (fun hfz_fr_255 hfk_fr_255 => ?_)
                      rw [hH0] at hfz_fr_255 hfk_fr_255
                      rw [hA0] at hfk_fr_255
                      have hC_fr_255 := hC.call (fun q h => h.elim) hfz_fr_255 hfk_fr_255
                      have hF_fr_255 : kF κ H0 H_242 (fun _ => False) := ⟨(fun _ h => h.elim), hfz_fr_255, hfk_fr_255⟩
                      obtain ⟨md_256, g_257, hA_258, hel_259, hSl_260, hSb_261⟩ := id hl_248
                      have hal_262 := al_k k (show k < 10 by omega)
                      obtain ⟨md_268, g_269, hA_270, -⟩ := id hl_248
                      refine v_callV E (As := [.ref qs_238]) (b := l2) (ci := 5) (C := RJ2) (T := TJ2) (N := 3) hA_270.1 rfl (j_addB κ H_242 hC_fr_255 (show k < 15 by omega) hBs_239.oA hA_258) (lw_V q208 q209 q210 q73 q211) 1 (by decide +kernel) rfl (by decide) (by decide) (cb' := ((((((cb - 0) - 0) - 0) - 3) - 3) - alM k)) (sb' := ((((((sb - 0) - 0) - 0) - (2 * (M + N) + 7)) - (2 * (N + M) + 7)) - alS k)) (by omega) (by omega) rfl (rest := []) (Nat.le_of_ble_eq_true rfl) (fun q h => hNew q (h.elim (fun h => by rw [h]; exact Nat.le_trans hS90 hSl_260) (fun h => by rw [h.1]; exact Nat.le_trans hS90 (hSb_261 h.2)))) dX1_quotient_146 (fun v_263 H_264 hpost_265 hz_266 hk_267 => ?_)
                      obtain ⟨rfl, b_271, md_272, g_273, hA_274, hg_275, hgn_276, hb_277⟩ := hpost_265
                      have hF_278 := (kF.lst hA_258 (fun q h => h.imp id (fun h => ⟨h.1, capR_pos h.2⟩)) hz_266 hk_267)
                      have hl_279 := Po.kf hC_fr_255 hF_278 (aD.nn (fun q h hd => absurd hd.2 (Nat.not_lt.mpr (h.elim (fun e => by rw [e]; exact hSl_260) (fun e => by rw [e.1]; exact hSb_261 e.2))))) hl_249
                      have hl_280 := BI.kf hC.D hF_278 hl_250
                      have hl_281 := LB.kf (eB_L κ _) hC_fr_255 hF_278 aD.f (aD.nn (fun q h hd => by have h1 : S9 ≤ q := h.elim (fun e => by rw [e]; exact hSl_260) (fun e => by rw [e.1]; exact hSb_261 e.2); have h2 := hlS; exact hd.elim (fun e => by omega) (fun e => by have := e.1; omega))) hl_251
                      have hl_282 := BI.kf hC.D hF_278 hl_252
                      have hl_283 := BI.kf hC.D hF_278 hl_253
                      have hl_284 := BI.kf hC.D hF_278 hl_254
                      have hl_285 := BI.kf hC.D hF_278 hBs_239
                      have hv_287 := BI.kf hC.D hF_278 hBs_239
                      have hLB_286 : LB κ S9 (eB κ (quc R B)) H_264 l2 b_271 (k + 1) := LB.step (fun k9 hk9 => (hel_259 k9 hk9).elim (fun y hy => ⟨y, hy.1, (eB_L κ _) _ _ _ _ _ hC_fr_255 hF_278 aD.f hy.2⟩)) (by show BI κ _ _ (quc R B k); rw [show quc R B k = ((R.2 k) - ((B.2 (k - (R.1 - B.1))) * qut R B)) from if_neg (by omega)]; exact hv_287) hA_274 hg_275 hgn_276 hSl_260 (hb_277.elim (fun h => by rw [h.1]; exact hSb_261 h.2) (fun h => Nat.le_trans (show S9 ≤ Array.size H_242 from (Nat.le_of_lt (Nat.lt_of_le_of_lt hSl_260 (hp.lt hA_258.1)))) h))
                      refine V.eq (st' := [vi 1]) rfl ?_
                      refine v_pop E rfl dX1_quotient_149 ?_
                      refine v_iinc E 0 rfl dX1_quotient_150 (zlt hL rfl) (lv' := [(7, vi ((k : Int) + 1)), (6, .ref l2), (5, .ref tq), (4, vi ((R.1 - B.1 : Nat) : Int)), (3, .ref rq), (2, .ref lr), (1, .ref q), (0, .ref p)]) rfl ?_
                      refine v_goto E (tgt := 96) dX1_quotient_153 (by decide) ?_
                      exact ih_96  H_264 (k + 1) _ ((((((cb - 0) - 0) - 0) - 3) - 3) - alM k) ((((((sb - 0) - 0) - 0) - (2 * (M + N) + 7)) - (2 * (N + M) + 7)) - alS k) (by omega) (by omega) (by have e1 := mulS 6 (R.1 - 1) k (by omega); omega) (by have e1 := mulS (4 * (N + M) + 14) (R.1 - 1) k (by omega); omega) hLB_286 hl_279 hl_280 hl_281
                    · refine v_aload_n E 4 rfl dX1_quotient_114 ?_
                      refine v_iload E 0 rfl dX1_quotient_115 ?_
                      refine V.frame (fun hfz_fr_290 hfk_fr_290 => ?_)
                      rw [hH0] at hfz_fr_290 hfk_fr_290
                      rw [hA0] at hfk_fr_290
                      have hC_fr_290 := hC.call (fun q h => h.elim) hfz_fr_290 hfk_fr_290
                      have hF_fr_290 : kF κ H0 H_160 (fun _ => False) := ⟨(fun _ h => h.elim), hfz_fr_290, hfk_fr_290⟩
                      obtain ⟨-, -, l_297, ho_296, -⟩ := id hl_167
                      refine v_callV E (As := [vi (k : Int)]) (b := rq) (ci := 2) (C := RX3) (T := TX3) (N := 1) ho_296 rfl (p_at κ H_160 (i := k) (by omega) hC_fr_290 hl_167) (lw_V q467 q468 q469 q75 q470) 1 (by decide +kernel) rfl (by decide) (by decide) (cb' := ((cb - 0) - 0)) (sb' := ((sb - 0) - 0)) (by omega) (by omega) rfl (rest := [.ref l2]) (Nat.le_of_ble_eq_true rfl) (fun q h => h.elim) dX1_quotient_117 (fun v_291 H_292 hpost_293 hz_294 hk_295 => ?_)
                      obtain ⟨qa_288, rfl, hBa_289⟩ := hpost_293
                      have hl_298 := LB.kf (eB_L κ _) hC_fr_290 (kF.ext hz_294 hk_295) aD.f aD.no hl_166
                      have hl_299 := Po.kf hC_fr_290 (kF.ext hz_294 hk_295) aD.no hl_167
                      have hl_300 := BI.kf hC.D (kF.ext hz_294 hk_295) hl_168
                      have hl_301 := LB.kf (eB_L κ _) hC_fr_290 (kF.ext hz_294 hk_295) aD.f aD.no hl_169
                      refine V.eq (st' := [.ref qa_288, .ref l2]) rfl ?_
                      refine v_goto E (tgt := 146) dX1_quotient_120 (by decide) ?_
                      refine V.frame (fun hfz_fr_302 hfk_fr_302 => ?_)
                      rw [hH0] at hfz_fr_302 hfk_fr_302
                      rw [hA0] at hfk_fr_302
                      have hC_fr_302 := hC.call (fun q h => h.elim) hfz_fr_302 hfk_fr_302
                      have hF_fr_302 : kF κ H0 H_292 (fun _ => False) := ⟨(fun _ h => h.elim), hfz_fr_302, hfk_fr_302⟩
                      obtain ⟨md_303, g_304, hA_305, hel_306, hSl_307, hSb_308⟩ := id hl_298
                      have hal_309 := al_k k (show k < 10 by omega)
                      obtain ⟨md_315, g_316, hA_317, -⟩ := id hl_298
                      refine v_callV E (As := [.ref qa_288]) (b := l2) (ci := 5) (C := RJ2) (T := TJ2) (N := 3) hA_317.1 rfl (j_addB κ H_292 hC_fr_302 (show k < 15 by omega) hBa_289.oA hA_305) (lw_V q208 q209 q210 q73 q211) 1 (by decide +kernel) rfl (by decide) (by decide) (cb' := (((cb - 0) - 0) - alM k)) (sb' := (((sb - 0) - 0) - alS k)) (by omega) (by omega) rfl (rest := []) (Nat.le_of_ble_eq_true rfl) (fun q h => hNew q (h.elim (fun h => by rw [h]; exact Nat.le_trans hS90 hSl_307) (fun h => by rw [h.1]; exact Nat.le_trans hS90 (hSb_308 h.2)))) dX1_quotient_146 (fun v_310 H_311 hpost_312 hz_313 hk_314 => ?_)
                      obtain ⟨rfl, b_318, md_319, g_320, hA_321, hg_322, hgn_323, hb_324⟩ := hpost_312
                      have hF_325 := (kF.lst hA_305 (fun q h => h.imp id (fun h => ⟨h.1, capR_pos h.2⟩)) hz_313 hk_314)
                      have hl_326 := Po.kf hC_fr_302 hF_325 (aD.nn (fun q h hd => absurd hd.2 (Nat.not_lt.mpr (h.elim (fun e => by rw [e]; exact hSl_307) (fun e => by rw [e.1]; exact hSb_308 e.2))))) hl_299
                      have hl_327 := BI.kf hC.D hF_325 hl_300
                      have hl_328 := LB.kf (eB_L κ _) hC_fr_302 hF_325 aD.f (aD.nn (fun q h hd => by have h1 : S9 ≤ q := h.elim (fun e => by rw [e]; exact hSl_307) (fun e => by rw [e.1]; exact hSb_308 e.2); have h2 := hlS; exact hd.elim (fun e => by omega) (fun e => by have := e.1; omega))) hl_301
                      have hl_329 := BI.kf hC.D hF_325 hBa_289
                      have hv_331 := BI.kf hC.D hF_325 hBa_289
                      have hLB_330 : LB κ S9 (eB κ (quc R B)) H_311 l2 b_318 (k + 1) := LB.step (fun k9 hk9 => (hel_306 k9 hk9).elim (fun y hy => ⟨y, hy.1, (eB_L κ _) _ _ _ _ _ hC_fr_302 hF_325 aD.f hy.2⟩)) (by show BI κ _ _ (quc R B k); rw [show quc R B k = (R.2 k) from if_pos (by omega)]; exact hv_331) hA_321 hg_322 hgn_323 hSl_307 (hb_324.elim (fun h => by rw [h.1]; exact hSb_308 h.2) (fun h => Nat.le_trans (show S9 ≤ Array.size H_292 from (Nat.le_of_lt (Nat.lt_of_le_of_lt hSl_307 (hp.lt hA_305.1)))) h))
                      refine V.eq (st' := [vi 1]) rfl ?_
                      refine v_pop E rfl dX1_quotient_149 ?_
                      refine v_iinc E 0 rfl dX1_quotient_150 (zlt hL rfl) (lv' := [(7, vi ((k : Int) + 1)), (6, .ref l2), (5, .ref tq), (4, vi ((R.1 - B.1 : Nat) : Int)), (3, .ref rq), (2, .ref lr), (1, .ref q), (0, .ref p)]) rfl ?_
                      refine v_goto E (tgt := 96) dX1_quotient_153 (by decide) ?_
                      exact ih_96  H_311 (k + 1) _ (((cb - 0) - 0) - alM k) (((sb - 0) - 0) - alS k) (by omega) (by omega) (by have e1 := mulS 6 (R.1 - 1) k (by omega); omega) (by have e1 := mulS (4 * (N + M) + 14) (R.1 - 1) k (by omega); omega) hLB_330 hl_326 hl_327 hl_328
              exact loop_96 ((R.1 - 1) + 1) H_148 0 (κ.2 98) ((((((((((cb - 0) - 0) - 0) - 0) - 0) - 0) - 15) - 0) - 1) - 0) ((((((((((sb - 0) - 0) - 0) - 0) - 0) - 0) - (6 * N + 30)) - 0) - 3) - 0) (by omega) (Nat.zero_le _) (by rw [al0_0, Nat.sub_zero]; have := quC_s (m := B.1) (n := R.1) (by omega) (by omega); omega) (by rw [al0_0, Nat.sub_zero]; have := quL_s (m := B.1) (n := R.1) (N := N) (K := (N + M)) (by omega) (by omega); omega) hLB_l2 hl_153 hl_156 hl_157
        refine V.frame (fun hfz_fr_332 hfk_fr_332 => ?_)
        rw [hH0] at hfz_fr_332 hfk_fr_332
        rw [hA0] at hfk_fr_332
        have hC_fr_332 := hC.call (fun q h => h.elim) hfz_fr_332 hfk_fr_332
        have hF_fr_332 : kF κ H0 H_24 (fun _ => False) := ⟨(fun _ h => h.elim), hfz_fr_332, hfk_fr_332⟩
        have hlr0 : H0.size ≤ lr ∧ H0.size ≤ br := by
          obtain ⟨md9, g9, hA9, hel9, hSl9, hSb9⟩ := id hZ_30
          exact ⟨hSl9, hSb9 (by omega)⟩
        exact loop_40 (P.1 + 1) H_24 p P (fun _ => 0) 0 (P.1 + 1) ((cb - 0) - 0) ((sb - 0) - 0) (by omega) rfl (fun i hi => absurd hi (Nat.not_lt_zero i)) (Nat.lt_succ_self _) rfl (Nat.le_refl _) (by omega) (by omega) ((Po.mono hP (fun q h1 h2 => ⟨h2, by omega, by omega⟩)).kf hC hF_fr_332 aD.no) hZ_30
      · refine v_aload_n E 1 rfl dX1_quotient_23 ?_
        refine v_lconst E (x := 0) rfl dX1_quotient_24 ?_
        refine V.frame (fun hfz_fr_333 hfk_fr_333 => ?_)
        rw [hH0] at hfz_fr_333 hfk_fr_333
        rw [hA0] at hfk_fr_333
        have hC_fr_333 := hC.call (fun q h => h.elim) hfz_fr_333 hfk_fr_333
        have hF_fr_333 : kF κ H0 H_24 (fun _ => False) := ⟨(fun _ h => h.elim), hfz_fr_333, hfk_fr_333⟩
        refine v_callS E (As := [vj 0]) (p_numS κ H_24 hC_fr_333 ⟨by decide, by decide⟩) (lw_S q611 q472 q70 q473) 1 (by decide +kernel) rfl (by decide) (by decide) (cb' := (((cb - 0) - 0) - 0)) (sb' := (((sb - 0) - 0) - 0)) (by omega) (by omega) rfl (rest := [.ref lr]) (Nat.le_of_ble_eq_true rfl) (fun q h => h.elim) dX1_quotient_25 (fun v_334 H_335 hpost_336 hz_337 hk_338 => ?_)
        obtain ⟨qz, rfl, hBz⟩ := hpost_336
        have hl_339 := LB.kf (eB_L κ _) hC_fr_333 (kF.ext hz_337 hk_338) aD.f aD.no hl_29
        refine V.eq (st' := [.ref qz, .ref lr]) rfl ?_
        refine V.frame (fun hfz_fr_340 hfk_fr_340 => ?_)
        rw [hH0] at hfz_fr_340 hfk_fr_340
        rw [hA0] at hfk_fr_340
        have hC_fr_340 := hC.call (fun q h => h.elim) hfz_fr_340 hfk_fr_340
        have hF_fr_340 : kF κ H0 H_335 (fun _ => False) := ⟨(fun _ h => h.elim), hfz_fr_340, hfk_fr_340⟩
        obtain ⟨md_341, g_342, hA_343, hel_344, hSl_345, hSb_346⟩ := id hl_339
        have hal_347 := al_k k (show k < 10 by omega)
        obtain ⟨md_353, g_354, hA_355, -⟩ := id hl_339
        refine v_callV E (As := [.ref qz]) (b := lr) (ci := 5) (C := RJ2) (T := TJ2) (N := 3) hA_355.1 rfl (j_addB κ H_335 hC_fr_340 (show k < 15 by omega) hBz.oA hA_343) (lw_V q208 q209 q210 q73 q211) 1 (by decide +kernel) rfl (by decide) (by decide) (cb' := ((((cb - 0) - 0) - 0) - alM k)) (sb' := ((((sb - 0) - 0) - 0) - alS k)) (by omega) (by omega) rfl (rest := []) (Nat.le_of_ble_eq_true rfl) (fun q h => hNew q (h.elim (fun h => by rw [h]; exact Nat.le_trans (Nat.le_refl _) hSl_345) (fun h => by rw [h.1]; exact Nat.le_trans (Nat.le_refl _) (hSb_346 h.2)))) dX1_quotient_28 (fun v_348 H_349 hpost_350 hz_351 hk_352 => ?_)
        obtain ⟨rfl, b_356, md_357, g_358, hA_359, hg_360, hgn_361, hb_362⟩ := hpost_350
        have hF_363 := (kF.lst hA_343 (fun q h => h.imp id (fun h => ⟨h.1, capR_pos h.2⟩)) hz_351 hk_352)
        have hl_364 := BI.kf hC.D hF_363 hBz
        have hv_366 := BI.kf hC.D hF_363 hBz
        have hLB_365 : LB κ H0.size (eB κ (fun _ => 0)) H_349 lr b_356 (k + 1) := LB.step (fun k9 hk9 => (hel_344 k9 hk9).elim (fun y hy => ⟨y, hy.1, (eB_L κ _) _ _ _ _ _ hC_fr_340 hF_363 aD.f hy.2⟩)) hv_366 hA_359 hg_360 hgn_361 hSl_345 (hb_362.elim (fun h => by rw [h.1]; exact hSb_346 h.2) (fun h => Nat.le_trans (show H0.size ≤ Array.size H_335 from (Nat.le_of_lt (Nat.lt_of_le_of_lt hSl_345 (hp.lt hA_343.1)))) h))
        refine V.eq (st' := [vi 1]) rfl ?_
        refine v_pop E rfl dX1_quotient_31 ?_
        refine v_iinc E 0 rfl dX1_quotient_32 (zlt hL rfl) (lv' := [(3, vi ((k : Int) + 1)), (2, .ref lr), (1, .ref q), (0, .ref p)]) rfl ?_
        refine v_goto E (tgt := 10) dX1_quotient_35 (by decide) ?_
        exact ih_10  H_349 (k + 1) _ ((((cb - 0) - 0) - 0) - alM k) ((((sb - 0) - 0) - 0) - alS k) (by omega) (by omega) (by omega) (by omega) hLB_365
  refine V.sub [0, 1, 3, 2] (lv' := [(3, vi 0), (2, .ref lr), (1, .ref q), (0, .ref p)]) rfl ?_
  exact loop_10 ((P.1 - B.1 + 1) + 1) H_9 0 (κ.2 98) (((3 + quC B.1 P.1) - 1) - 0) (((14 + quL B.1 N (N + M) P.1) - 3) - 0) (by omega) (Nat.zero_le _) (by rw [al0_0]; omega) (by rw [al0_0]; omega) hLB_lr
