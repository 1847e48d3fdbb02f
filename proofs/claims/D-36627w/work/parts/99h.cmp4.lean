/-! POLYNOMIALS OF THE COMPONENT: remainder -/
def rmt (R B : Pl) : Int := if B.2 (B.1 - 1) < 0 then -(R.2 (R.1 - 1)) else R.2 (R.1 - 1)
def rmc (R B : Pl) : Nat → Int := fun i => if i < R.1 - B.1 then R.2 i * ((B.2 (B.1 - 1)).natAbs : Int) else R.2 i * ((B.2 (B.1 - 1)).natAbs : Int) - B.2 (i - (R.1 - B.1)) * rmt R B
def rmS (R B : Pl) : Pl := mkP (R.1 - 1) (rmc R B)
def rmF : Nat → Pl → Pl → Pl
  | 0, R, _ => R
  | f + 1, R, B => if R.1 < B.1 then R else rmF f (rmS R B) B
def cRem (P B : Pl) : Pl := rmF (P.1 + 1) P B
/-- what is left after j steps -/
def rs (P B : Pl) : Nat → Pl
  | 0 => P
  | j + 1 => rmS (rs P B j) B
/-- all that is left, at any step, fits N ints -/
def fitS (P B : Pl) (N : Nat) : Prop := ∀ j, (∀ i, i < j → B.1 ≤ (rs P B i).1) → ∀ k, (((rs P B j).2 k).natAbs : Int) < 2 ^ (32 * N)
def rmC (m : Nat) : Nat → Nat
  | 0 => 0
  | n + 1 => if n + 1 < m then 0 else 5 + 9 * n + rmC m n
def rmL (m K : Nat) : Nat → Nat
  | 0 => 0
  | n + 1 => if n + 1 < m then 0 else 26 + (6 * K + 21) * n + rmL m K n
theorem rmC_mono (m : Nat) : ∀ {a b : Nat}, a ≤ b → rmC m a ≤ rmC m b := by
  intro a b h
  induction b with
  | zero => rw [show a = 0 by omega]; exact Nat.le_refl _
  | succ b ih =>
    by_cases e : a = b + 1
    · rw [e]; exact Nat.le_refl _
    · have h1 := ih (by omega)
      by_cases c : b + 1 < m
      · have h2 : rmC m a = 0 := by
          match a with
          | 0 => rfl
          | a + 1 => exact if_pos (by omega)
        omega
      · have h2 : rmC m (b + 1) = 5 + 9 * b + rmC m b := if_neg c
        omega
theorem rmL_mono (m K : Nat) : ∀ {a b : Nat}, a ≤ b → rmL m K a ≤ rmL m K b := by
  intro a b h
  induction b with
  | zero => rw [show a = 0 by omega]; exact Nat.le_refl _
  | succ b ih =>
    by_cases e : a = b + 1
    · rw [e]; exact Nat.le_refl _
    · have h1 := ih (by omega)
      by_cases c : b + 1 < m
      · have h2 : rmL m K a = 0 := by
          match a with
          | 0 => rfl
          | a + 1 => exact if_pos (by omega)
        omega
      · have h2 : rmL m K (b + 1) = 26 + (6 * K + 21) * b + rmL m K b := if_neg c
        omega
theorem rmC_s {m n : Nat} (h : m ≤ n) (h0 : 0 < n) : rmC m n = 5 + 9 * (n - 1) + rmC m (n - 1) := by
  match n, h0 with
  | n + 1, _ => exact if_neg (by omega)
theorem rmL_s {m n K : Nat} (h : m ≤ n) (h0 : 0 < n) : rmL m K n = 26 + (6 * K + 21) * (n - 1) + rmL m K (n - 1) := by
  match n, h0 with
  | n + 1, _ => exact if_neg (by omega)
theorem rmF_s {f : Nat} {R B : Pl} (h : B.1 ≤ R.1) (hf : 0 < f) : rmF f R B = rmF (f - 1) (rmS R B) B := by
  match f, hf with
  | f + 1, _ => exact if_neg (by omega)
theorem rmF_e {f : Nat} {R B : Pl} (h : R.1 < B.1) : rmF f R B = R := by
  match f with
  | 0 => rfl
  | f + 1 => exact if_pos h
theorem ltj_s {p : Nat → Prop} {j : Nat} (h : ∀ i, i < j → p i) (hj : p j) : ∀ i, i < j + 1 → p i := fun i hi => by
  by_cases e : i = j
  · rw [e]; exact hj
  · exact h i (by omega)
theorem rmt_abs {R B : Pl} {N : Nat} (h : ∀ k, ((R.2 k).natAbs : Int) < 2 ^ (32 * N)) : ((rmt R B).natAbs : Int) < 2 ^ (32 * N) := by
  unfold rmt
  split
  · rw [Int.natAbs_neg]; exact h _
  · exact h _
theorem prod_lt {X Y : Int} {N M : Nat} (h1 : (X.natAbs : Int) < 2 ^ (32 * N)) (h2 : (Y.natAbs : Int) < 2 ^ (32 * M)) : ((X * Y).natAbs : Int) < 2 ^ (32 * (N + M)) := by
  rw [Int.natAbs_mul, Int.natCast_mul]
  have h3 : (X.natAbs : Int) * (Y.natAbs : Int) ≤ 2 ^ (32 * N) * (Y.natAbs : Int) := Int.mul_le_mul_of_nonneg_right (Int.le_of_lt h1) (Int.natCast_nonneg _)
  have h4 : 2 ^ (32 * N) * (Y.natAbs : Int) < 2 ^ (32 * N) * 2 ^ (32 * M) := Int.mul_lt_mul_of_pos_left h2 (p2 _)
  rw [← Int.pow_add, ← Nat.mul_add] at h4
  exact Int.lt_of_le_of_lt h3 h4
theorem sB_s {X Y : Int} {N : Nat} (h1 : (X.natAbs : Int) < 2 ^ (32 * N)) (h2 : (Y.natAbs : Int) < 2 ^ (32 * N)) (h : N ≤ 47) : sB ((X.natAbs : Int) + (Y.natAbs : Int)) := by
  unfold sB
  have h3 : (2 : Int) ^ (32 * N) + 2 ^ (32 * N) ≤ 2 ^ 1536 := by
    have h4 : (2 : Int) ^ (32 * N) + 2 ^ (32 * N) = 2 ^ (32 * N + 1) := by rw [Int.pow_succ]; omega
    rw [h4]
    exact pw_mono (by omega)
  omega
theorem abs2 {x : Int} {N : Nat} (h : (x.natAbs : Int) < 2 ^ (32 * N)) : ((((x.natAbs : Nat) : Int).natAbs : Nat) : Int) < 2 ^ (32 * N) := h
set_option maxHeartbeats 2000000 in
set_option maxRecDepth 100000 in
/-- remainder -/
theorem p_rem (κ : zK) (H0 : Heap) {p q : Nat} {P B : Pl} {D : Nat → Prop} {N M : Nat} (hC : CO κ H0) (hDU : ∀ q, H0.size ≤ q → D q) (h0 : 0 < B.1) (h7 : P.1 ≤ 7) (hNM : N + M ≤ 46) (hM20 : M ≤ 20) (hBM : ∀ k, ((B.2 k).natAbs : Int) < 2 ^ (32 * M)) (hN : fitS P B N) (hP : Po κ D H0 p P) (hB : Po κ D H0 q B)  : Mt κ yX1_remainder cX1_remainder 10 (some (.object "SturmRoots$Poly")) 7 158 (1 + rmC B.1 P.1) (6 + rmL B.1 (N + M) P.1) H0 [.ref p, .ref q] (fun _ => False) (fun v H1 => ∃ r : Nat, v = some (.ref r) ∧ Po κ D H1 r (cRem P B)) := by
  refine Mt.of (by decide) (Nat.le_of_ble_eq_true rfl) ?_
  intro z E hE hH0 hA0 hL hini
  have hAll : ∀ q, (fun _ => False) q → zA z.A z.H0 q := fun q h => Or.inl (by rw [hA0]; exact h)
  have hNew : ∀ q, H0.size ≤ q → zA z.A z.H0 q := fun q h => Or.inr (by rw [hH0]; exact h)
  have E : zOK z cX1_remainder RX1 κ 7 158 (some (.object "SturmRoots$Poly")) := E
  refine V.eqL (lv' := [(0, .ref p), (1, .ref q)]) rfl ?_
  obtain ⟨hnf, h13, l, hop, b, cap, md, g, hA, hel, hDl, hDb⟩ := id hP
  obtain ⟨hnfB, h13B, lB, hoB, bB, capB, mdB, gB, hAB, helB, hDlB, hDbB⟩ := id hB
  have hD := hC.D
  obtain ⟨fl, hfl⟩ : ∃ fl : Int, B.2 (B.1 - 1) < 0 ∧ fl = 1 ∨ ¬ B.2 (B.1 - 1) < 0 ∧ fl = 0 := by
    by_cases h : B.2 (B.1 - 1) < 0
    · exact ⟨1, Or.inl ⟨h, rfl⟩⟩
    · exact ⟨0, Or.inr ⟨h, rfl⟩⟩
  have join_24 : ∀ (H : Heap) (sz : Nat), BI κ H sz ((Int.natAbs (B.2 (B.1 - 1)) : Nat) : Int) → V z H ((1 + rmC B.1 P.1) - 1) ((6 + rmL B.1 (N + M) P.1) - 6) 24 [(3, vi fl), (2, .ref sz), (1, .ref q), (0, .ref p)] [] := by
    intro H sz hsz
    refine v_aload_n E 3 rfl dX1_remainder_24 ?_
    refine v_astore E dX1_remainder_25 (zlt hL rfl) (lv' := [(4, .ref p), (3, vi fl), (2, .ref sz), (1, .ref q), (0, .ref p)]) rfl ?_
    have loop_27 : ∀ (m_27 : Nat) (H : Heap) (rq : Nat) (R : Pl) (j f cb sb : Nat), R.1 < m_27 → (R = rs P B j) → (∀ i, i < j → B.1 ≤ (rs P B i).1) → (R.1 < f) → (cRem P B = rmF f R B) → (R.1 ≤ 7) → (rmC B.1 R.1 ≤ cb) → (rmL B.1 (N + M) R.1 ≤ sb) → Po κ D H rq R → BI κ H sz ((Int.natAbs (B.2 (B.1 - 1)) : Nat) : Int) → V z H cb sb 27 [(4, .ref rq), (3, vi fl), (2, .ref sz), (1, .ref q), (0, .ref p)] [] := by
      intro m_27
      induction m_27 with
      | zero => intro H rq R j f cb sb hm; exact absurd hm (by omega)
      | succ m_27 ih_27 =>
        intro H rq R j f cb sb hm_27 hRj hji hf hcr hR7 hcb hsb hR hsz
        have hRN : ∀ k, ((R.2 k).natAbs : Int) < 2 ^ (32 * N) := by rw [hRj]; exact hN j hji
        refine v_aload E 0 rfl dX1_remainder_27 ?_
        refine V.frame (fun hfz_fr_1 hfk_fr_1 => ?_)
        rw [hH0] at hfz_fr_1 hfk_fr_1
        rw [hA0] at hfk_fr_1
        have hC_fr_1 := hC.call (fun q h => h.elim) hfz_fr_1 hfk_fr_1
        have hF_fr_1 : kF κ H0 H (fun _ => False) := ⟨(fun _ h => h.elim), hfz_fr_1, hfk_fr_1⟩
        obtain ⟨-, -, l_8, ho_7, -⟩ := id hR
        refine v_callV E (As := []) (b := rq) (ci := 2) (C := RX3) (T := TX3) (N := 1) ho_7 rfl (p_deg κ H hC_fr_1 hR) (lw_V q617 q618 q619 q75 q620) 0 (by decide +kernel) rfl (by decide) (by decide) (cb' := (cb - 0)) (sb' := (sb - 0)) (by omega) (by omega) rfl (rest := []) (Nat.le_of_ble_eq_true rfl) (fun q h => h.elim) dX1_remainder_29 (fun v_2 H_3 hpost_4 hz_5 hk_6 => ?_)
        obtain rfl := hpost_4
        have hl_9 := Po.kf hC_fr_1 (kF.ext hz_5 hk_6) aD.no hR
        have hl_10 := BI.kf hC.D (kF.ext hz_5 hk_6) hsz
        refine V.eq (st' := [vi ((R.1 : Int) - 1)]) rfl ?_
        refine v_aload_n E 3 rfl dX1_remainder_32 ?_
        refine V.frame (fun hfz_fr_11 hfk_fr_11 => ?_)
        rw [hH0] at hfz_fr_11 hfk_fr_11
        rw [hA0] at hfk_fr_11
        have hC_fr_11 := hC.call (fun q h => h.elim) hfz_fr_11 hfk_fr_11
        have hF_fr_11 : kF κ H0 H_3 (fun _ => False) := ⟨(fun _ h => h.elim), hfz_fr_11, hfk_fr_11⟩
        have hb_17 := hF_fr_11.at hoB (fun h => h)
        refine v_callV E (As := []) (b := q) (ci := 2) (C := RX3) (T := TX3) (N := 1) hb_17 rfl (p_deg κ H_3 hC_fr_11 (hB.kf hC hF_fr_11 aD.no)) (lw_V q617 q618 q619 q75 q620) 0 (by decide +kernel) rfl (by decide) (by decide) (cb' := ((cb - 0) - 0)) (sb' := ((sb - 0) - 0)) (by omega) (by omega) rfl (rest := [vi ((R.1 : Int) - 1)]) (Nat.le_of_ble_eq_true rfl) (fun q h => h.elim) dX1_remainder_33 (fun v_12 H_13 hpost_14 hz_15 hk_16 => ?_)
        obtain rfl := hpost_14
        have hl_18 := Po.kf hC_fr_11 (kF.ext hz_15 hk_16) aD.no hl_9
        have hl_19 := BI.kf hC.D (kF.ext hz_15 hk_16) hl_10
        refine V.eq (st' := [vi ((B.1 : Int) - 1), vi ((R.1 : Int) - 1)]) rfl ?_
        refine v_icmp_lt E (tgt := 165) dX1_remainder_36 (by decide) ⟨by omega, by omega⟩ ⟨by omega, by omega⟩ (fun c_36 => ?_) (fun c_36 => ?_)
        · refine v_aload E 0 rfl dX1_remainder_165 ?_
          refine v_aret E hE rfl (Or.inl ⟨_, rfl⟩) dX1_remainder_167 (Or.inr ⟨_, rfl⟩) ?_
          exact ⟨rq, rfl, by rw [hcr, rmF_e (by omega)]; exact hl_18⟩
        · refine v_aload E 0 rfl dX1_remainder_39 ?_
          refine V.frame (fun hfz_fr_20 hfk_fr_20 => ?_)
          rw [hH0] at hfz_fr_20 hfk_fr_20
          rw [hA0] at hfk_fr_20
          have hC_fr_20 := hC.call (fun q h => h.elim) hfz_fr_20 hfk_fr_20
          have hF_fr_20 : kF κ H0 H_13 (fun _ => False) := ⟨(fun _ h => h.elim), hfz_fr_20, hfk_fr_20⟩
          obtain ⟨-, -, l_27, ho_26, -⟩ := id hl_18
          refine v_callV E (As := []) (b := rq) (ci := 2) (C := RX3) (T := TX3) (N := 1) ho_26 rfl (p_deg κ H_13 hC_fr_20 hl_18) (lw_V q617 q618 q619 q75 q620) 0 (by decide +kernel) rfl (by decide) (by decide) (cb' := (((cb - 0) - 0) - 0)) (sb' := (((sb - 0) - 0) - 0)) (by omega) (by omega) rfl (rest := []) (Nat.le_of_ble_eq_true rfl) (fun q h => h.elim) dX1_remainder_41 (fun v_21 H_22 hpost_23 hz_24 hk_25 => ?_)
          obtain rfl := hpost_23
          have hl_28 := Po.kf hC_fr_20 (kF.ext hz_24 hk_25) aD.no hl_18
          have hl_29 := BI.kf hC.D (kF.ext hz_24 hk_25) hl_19
          refine V.eq (st' := [vi ((R.1 : Int) - 1)]) rfl ?_
          refine v_aload_n E 3 rfl dX1_remainder_44 ?_
          refine V.frame (fun hfz_fr_30 hfk_fr_30 => ?_)
          rw [hH0] at hfz_fr_30 hfk_fr_30
          rw [hA0] at hfk_fr_30
          have hC_fr_30 := hC.call (fun q h => h.elim) hfz_fr_30 hfk_fr_30
          have hF_fr_30 : kF κ H0 H_22 (fun _ => False) := ⟨(fun _ h => h.elim), hfz_fr_30, hfk_fr_30⟩
          have hb_36 := hF_fr_30.at hoB (fun h => h)
          refine v_callV E (As := []) (b := q) (ci := 2) (C := RX3) (T := TX3) (N := 1) hb_36 rfl (p_deg κ H_22 hC_fr_30 (hB.kf hC hF_fr_30 aD.no)) (lw_V q617 q618 q619 q75 q620) 0 (by decide +kernel) rfl (by decide) (by decide) (cb' := ((((cb - 0) - 0) - 0) - 0)) (sb' := ((((sb - 0) - 0) - 0) - 0)) (by omega) (by omega) rfl (rest := [vi ((R.1 : Int) - 1)]) (Nat.le_of_ble_eq_true rfl) (fun q h => h.elim) dX1_remainder_45 (fun v_31 H_32 hpost_33 hz_34 hk_35 => ?_)
          obtain rfl := hpost_33
          have hl_37 := Po.kf hC_fr_30 (kF.ext hz_34 hk_35) aD.no hl_28
          have hl_38 := BI.kf hC.D (kF.ext hz_34 hk_35) hl_29
          refine V.eq (st' := [vi ((B.1 : Int) - 1), vi ((R.1 : Int) - 1)]) rfl ?_
          refine v_isub E dX1_remainder_48 ?_
          refine V.topi (x' := ((R.1 - B.1 : Nat) : Int)) (congrArg iZ (by omega)) ?_
          refine v_istore E dX1_remainder_49 (zlt hL rfl) (lv' := [(5, vi ((R.1 - B.1 : Nat) : Int)), (4, .ref rq), (3, vi fl), (2, .ref sz), (1, .ref q), (0, .ref p)]) rfl ?_
          have hs1 := rmC_s (m := B.1) (n := R.1) (by omega) (by omega)
          have hs2 := rmL_s (m := B.1) (n := R.1) (K := (N + M)) (by omega) (by omega)
          have join_73 : ∀ (H : Heap) (tq : Nat), Po κ D H rq R → BI κ H sz ((Int.natAbs (B.2 (B.1 - 1)) : Nat) : Int) → BI κ H tq (rmt R B) → V z H (cb - 1) (sb - 6) 73 [(6, .ref tq), (5, vi ((R.1 - B.1 : Nat) : Int)), (4, .ref rq), (3, vi fl), (2, .ref sz), (1, .ref q), (0, .ref p)] [] := by
            intro H tq hR hsz htq
            have hs1 := rmC_s (m := B.1) (n := R.1) (by omega) (by omega)
            have hs2 := rmL_s (m := B.1) (n := R.1) (K := (N + M)) (by omega) (by omega)
            refine V.frame (fun hfz_fr_39 hfk_fr_39 => ?_)
            rw [hH0] at hfz_fr_39 hfk_fr_39
            rw [hA0] at hfk_fr_39
            have hC_fr_39 := hC.call (fun q h => h.elim) hfz_fr_39 hfk_fr_39
            have hF_fr_39 : kF κ H0 H (fun _ => False) := ⟨(fun _ h => h.elim), hfz_fr_39, hfk_fr_39⟩
            obtain ⟨S9, hS9⟩ : ∃ S9, S9 = Array.size H := ⟨_, rfl⟩
            have hS90 : H0.size ≤ S9 := by rw [hS9]; exact hfz_fr_39
            have hPt_40 := Po.mono (D' := fun q => D q ∧ q < S9) hR (fun q h1 h2 => ⟨h2, by rw [hS9]; exact h1⟩)
            refine V.frame (fun hfz_fr_41 hfk_fr_41 => ?_)
            rw [hH0] at hfz_fr_41 hfk_fr_41
            rw [hA0] at hfk_fr_41
            refine v_new E in_J2 tyJ2 tyJ2_ok q113 q114 q73 (ci := 5) rfl (fs := [vi 0, .null, vi 0]) (fun j hj => by rcases (show j = 0 ∨ j = 1 ∨ j = 2 by omega) with rfl | rfl | rfl <;> rfl) (cb' := ((cb - 1) - 1)) (sb' := ((sb - 6) - 3)) (by omega) (by omega) dX1_remainder_73 (fun l2 H_42 hq_45 ho_43 hg_44 => ?_)
            refine v_dup E rfl dX1_remainder_76 ?_
            refine V.frame (fun hfz_fr_46 hfk_fr_46 => ?_)
            rw [hH0] at hfz_fr_46 hfk_fr_46
            rw [hA0] at hfk_fr_46
            have hC_fr_46 := hC.call (fun q h => h.elim) hfz_fr_46 hfk_fr_46
            have hF_fr_46 : kF κ H0 H_42 (fun _ => False) := ⟨(fun _ h => h.elim), hfz_fr_46, hfk_fr_46⟩
            have h93_l2 : κ.2 93 ≤ l2 := Nat.le_trans hC.le (by omega)
            refine v_callI E (As := []) (b := l2) (j_init κ H_42 h93_l2 hC_fr_46 ho_43) q117 q73 q115 q116 rfl 0 (by decide +kernel) rfl (by decide) (by decide) (cb' := (((cb - 1) - 1) - 0)) (sb' := (((sb - 6) - 3) - 0)) (by omega) (by omega) rfl (rest := [.ref l2]) (Nat.le_of_ble_eq_true rfl) (fun q h => hNew q (by rw [show q = l2 from h]; omega)) dX1_remainder_77 (fun v_47 H_48 hpost_49 hz_50 hk_51 => ?_)
            obtain ⟨rfl, hA_l2⟩ := hpost_49
            have hkN_52 : ∀ q9 : Nat, q9 < Array.size H → ¬ (fun _ => False : Nat → Prop) q9 → H_48[q9]? = H[q9]? := fun q9 h9 _ => (hk_51 q9 (by rw [hg_44.1]; omega) (fun h => by have h8 : q9 = l2 := h; omega)).trans (hg_44.2 q9 h9)
            have hl_53 := Po.kf hC_fr_39 (kF.ext (by have := hg_44.1; omega) hkN_52) aD.no hPt_40
            have hl_54 := BI.kf hC.D (kF.ext (by have := hg_44.1; omega) hkN_52) hsz
            have hl_55 := BI.kf hC.D (kF.ext (by have := hg_44.1; omega) hkN_52) htq
            have hLB_l2 := LB.nil (S := S9) (E := (eB κ (rmc R B))) hA_l2 (by omega)
            refine V.eq (st' := [.ref l2]) rfl ?_
            refine v_astore E dX1_remainder_80 (zlt hL rfl) (lv' := [(7, .ref l2), (6, .ref tq), (5, vi ((R.1 - B.1 : Nat) : Int)), (4, .ref rq), (3, vi fl), (2, .ref sz), (1, .ref q), (0, .ref p)]) rfl ?_
            refine v_iconst E dX1_remainder_82 ?_
            refine v_istore E dX1_remainder_83 (zlt hL rfl) (lv' := [(8, vi 0), (7, .ref l2), (6, .ref tq), (5, vi ((R.1 - B.1 : Nat) : Int)), (4, .ref rq), (3, vi fl), (2, .ref sz), (1, .ref q), (0, .ref p)]) rfl ?_
            have loop_85 : ∀ (m_85 : Nat) (H : Heap) (k b2 cb sb : Nat), R.1 - 1 - k < m_85 → (k ≤ R.1 - 1) → (1 + 9 * (R.1 - 1 - k) + al0 k + rmC B.1 (R.1 - 1) ≤ cb) → (1 + (6 * (N + M) + 21) * (R.1 - 1 - k) + 10 * al0 k + rmL B.1 (N + M) (R.1 - 1) ≤ sb) → LB κ S9 (eB κ (rmc R B)) H l2 b2 k → Po κ (fun q => D q ∧ q < S9) H rq R → BI κ H sz ((Int.natAbs (B.2 (B.1 - 1)) : Nat) : Int) → BI κ H tq (rmt R B) → V z H cb sb 85 [(8, vi (k : Int)), (7, .ref l2), (6, .ref tq), (5, vi ((R.1 - B.1 : Nat) : Int)), (4, .ref rq), (3, vi fl), (2, .ref sz), (1, .ref q), (0, .ref p)] [] := by
              intro m_85
              induction m_85 with
              | zero => intro H k b2 cb sb hm; exact absurd hm (by omega)
              | succ m_85 ih_85 =>
                intro H k b2 cb sb hm_85 hk hcb hsb hL2 hR hsz htq
                refine v_iload E 0 rfl dX1_remainder_85 ?_
                refine v_aload E 4 rfl dX1_remainder_87 ?_
                refine V.frame (fun hfz_fr_56 hfk_fr_56 => ?_)
                rw [hH0] at hfz_fr_56 hfk_fr_56
                rw [hA0] at hfk_fr_56
                have hC_fr_56 := hC.call (fun q h => h.elim) hfz_fr_56 hfk_fr_56
                have hF_fr_56 : kF κ H0 H (fun _ => False) := ⟨(fun _ h => h.elim), hfz_fr_56, hfk_fr_56⟩
                obtain ⟨-, -, l_63, ho_62, -⟩ := id hR
                refine v_callV E (As := []) (b := rq) (ci := 2) (C := RX3) (T := TX3) (N := 1) ho_62 rfl (p_deg κ H hC_fr_56 hR) (lw_V q617 q618 q619 q75 q620) 0 (by decide +kernel) rfl (by decide) (by decide) (cb' := (cb - 0)) (sb' := (sb - 0)) (by omega) (by omega) rfl (rest := [vi (k : Int)]) (Nat.le_of_ble_eq_true rfl) (fun q h => h.elim) dX1_remainder_89 (fun v_57 H_58 hpost_59 hz_60 hk_61 => ?_)
                obtain rfl := hpost_59
                have hl_64 := LB.kf (eB_L κ _) hC_fr_56 (kF.ext hz_60 hk_61) aD.f aD.no hL2
                have hl_65 := Po.kf hC_fr_56 (kF.ext hz_60 hk_61) aD.no hR
                have hl_66 := BI.kf hC.D (kF.ext hz_60 hk_61) hsz
                have hl_67 := BI.kf hC.D (kF.ext hz_60 hk_61) htq
                refine V.eq (st' := [vi ((R.1 : Int) - 1), vi (k : Int)]) rfl ?_
                refine v_icmp_ge E (tgt := 151) dX1_remainder_92 (by decide) ⟨by omega, by omega⟩ ⟨by omega, by omega⟩ (fun c_92 => ?_) (fun c_92 => ?_)
                · have hkn2 : k = R.1 - 1 := by omega
                  have hR_68 := hkn2 ▸ hl_64
                  refine V.frame (fun hfz_fr_69 hfk_fr_69 => ?_)
                  rw [hH0] at hfz_fr_69 hfk_fr_69
                  rw [hA0] at hfk_fr_69
                  have hC_fr_69 := hC.call (fun q h => h.elim) hfz_fr_69 hfk_fr_69
                  have hF_fr_69 : kF κ H0 H_58 (fun _ => False) := ⟨(fun _ h => h.elim), hfz_fr_69, hfk_fr_69⟩
                  refine V.frame (fun hfz_fr_70 hfk_fr_70 => ?_)
                  rw [hH0] at hfz_fr_70 hfk_fr_70
                  rw [hA0] at hfk_fr_70
                  refine v_new E in_X3 tyX3 tyX3_ok q145 q146 q75 (ci := 2) rfl (fs := [.null]) (fun j hj => by rcases (show j = 0 by omega) with rfl <;> rfl) (cb' := ((cb - 0) - 1)) (sb' := ((sb - 0) - 1)) (by omega) (by omega) dX1_remainder_151 (fun pn H_71 hq_74 ho_72 hg_73 => ?_)
                  refine v_dup E rfl dX1_remainder_154 ?_
                  refine v_aload E 1 rfl dX1_remainder_155 ?_
                  refine V.frame (fun hfz_fr_75 hfk_fr_75 => ?_)
                  rw [hH0] at hfz_fr_75 hfk_fr_75
                  rw [hA0] at hfk_fr_75
                  have hC_fr_75 := hC.call (fun q h => h.elim) hfz_fr_75 hfk_fr_75
                  have hF_fr_75 : kF κ H0 H_71 (fun _ => False) := ⟨(fun _ h => h.elim), hfz_fr_75, hfk_fr_75⟩
                  have hLB_76 := LB.kf (eB_L κ _) hC_fr_69 (kF.grow hg_73) aD.no aD.no hR_68
                  refine v_callI E (As := [.ref l2]) (b := pn) (p_init κ H_71 (D := D) (n := (R.1 - 1)) (c := rmc R B) hC_fr_75 (Nat.le_trans hC.le (by omega)) (by omega) (fun q h => hDU q (Nat.le_trans hS90 h)) (Nat.le_trans hC.le hS90) ho_72 hLB_76) q149 q75 q147 q148 rfl 1 (by decide +kernel) rfl (by decide) (by decide) (cb' := (((cb - 0) - 1) - 0)) (sb' := (((sb - 0) - 1) - 0)) (by omega) (by omega) rfl (rest := [.ref pn]) (Nat.le_of_ble_eq_true rfl) (fun q h => hNew q (h.elim (fun h => by rw [h]; omega) (fun h => h.elim (fun h => by rw [h]; exact (Nat.le_trans hS90 (Exists.choose_spec (Exists.choose_spec hR_68)).2.2.1)) (fun h => by rw [h.1]; exact (Nat.le_trans hS90 ((Exists.choose_spec (Exists.choose_spec hR_68)).2.2.2 h.2)))))) dX1_remainder_157 (fun v_77 H_78 hpost_79 hz_80 hk_81 => ?_)
                  obtain ⟨rfl, hPo_pn⟩ := hpost_79
                  obtain ⟨md_83, g_84, hA_85, -, hSl_86, hSb_87⟩ := id hR_68
                  have hkN_82 : ∀ q9 : Nat, q9 < Array.size H_58 → ¬ (q9 = l2 ∨ (q9 = b2 ∧ 0 < (R.1 - 1))) → H_78[q9]? = H_58[q9]? := fun q9 h9 h8 => (hk_81 q9 (by rw [hg_73.1]; omega) (fun h => h.elim (fun h => by omega) h8)).trans (hg_73.2 q9 h9)
                  have hF_88 : kF κ H_58 H_78 (fun q => q = l2 ∨ (q = b2 ∧ 0 < (R.1 - 1))) := kF.lst hA_85 (fun q h => h.imp id (fun h => ⟨h.1, capR_pos h.2⟩)) (by have := hg_73.1; omega) hkN_82
                  have hl_89 := Po.kf hC_fr_69 hF_88 (aD.nn (fun q h hd => absurd hd.2 (Nat.not_lt.mpr (h.elim (fun e => by rw [e]; exact hSl_86) (fun e => by rw [e.1]; exact hSb_87 e.2))))) hl_65
                  have hl_90 := BI.kf hC.D hF_88 hl_66
                  have hl_91 := BI.kf hC.D hF_88 hl_67
                  refine V.eq (st' := [.ref pn]) rfl ?_
                  refine v_astore E dX1_remainder_160 (zlt hL rfl) (lv' := [(4, .ref pn), (8, vi (k : Int)), (7, .ref l2), (6, .ref tq), (5, vi ((R.1 - B.1 : Nat) : Int)), (3, vi fl), (2, .ref sz), (1, .ref q), (0, .ref p)]) rfl ?_
                  have hle := pl_le (rmc R B) (R.1 - 1)
                  change (rmS R B).1 ≤ R.1 - 1 at hle
                  refine v_goto E (tgt := 27) dX1_remainder_162 (by decide) ?_
                  refine V.sub [0, 5, 6, 7, 8] (lv' := [(4, .ref pn), (3, vi fl), (2, .ref sz), (1, .ref q), (0, .ref p)]) rfl ?_
                  exact ih_27  H_78 _ (rmS R B) (j + 1) (f - 1) (((cb - 0) - 1) - 0) (((sb - 0) - 1) - 0) (by omega) (by rw [hRj]; rfl) (ltj_s hji (by rw [← hRj]; omega)) (by omega) (by rw [hcr, rmF_s (by omega) (by omega)]) (by omega) (by have := rmC_mono B.1 hle; omega) (by have := rmL_mono B.1 (N + M) hle; omega) hPo_pn hl_90
                · have e1 := mulS 9 (R.1 - 1) k (by omega)
                  have e2 := mulS (6 * (N + M) + 21) (R.1 - 1) k (by omega)
                  refine v_aload E 4 rfl dX1_remainder_95 ?_
                  refine v_iload E 0 rfl dX1_remainder_97 ?_
                  refine V.frame (fun hfz_fr_94 hfk_fr_94 => ?_)
                  rw [hH0] at hfz_fr_94 hfk_fr_94
                  rw [hA0] at hfk_fr_94
                  have hC_fr_94 := hC.call (fun q h => h.elim) hfz_fr_94 hfk_fr_94
                  have hF_fr_94 : kF κ H0 H_58 (fun _ => False) := ⟨(fun _ h => h.elim), hfz_fr_94, hfk_fr_94⟩
                  obtain ⟨-, -, l_101, ho_100, -⟩ := id hl_65
                  refine v_callV E (As := [vi (k : Int)]) (b := rq) (ci := 2) (C := RX3) (T := TX3) (N := 1) ho_100 rfl (p_at κ H_58 (i := k) (by omega) hC_fr_94 hl_65) (lw_V q467 q468 q469 q75 q470) 1 (by decide +kernel) rfl (by decide) (by decide) (cb' := ((cb - 0) - 0)) (sb' := ((sb - 0) - 0)) (by omega) (by omega) rfl (rest := []) (Nat.le_of_ble_eq_true rfl) (fun q h => h.elim) dX1_remainder_99 (fun v_95 H_96 hpost_97 hz_98 hk_99 => ?_)
                  obtain ⟨qa_92, rfl, hBa_93⟩ := hpost_97
                  have hl_102 := LB.kf (eB_L κ _) hC_fr_94 (kF.ext hz_98 hk_99) aD.f aD.no hl_64
                  have hl_103 := Po.kf hC_fr_94 (kF.ext hz_98 hk_99) aD.no hl_65
                  have hl_104 := BI.kf hC.D (kF.ext hz_98 hk_99) hl_66
                  have hl_105 := BI.kf hC.D (kF.ext hz_98 hk_99) hl_67
                  refine V.eq (st' := [.ref qa_92]) rfl ?_
                  refine v_aload_n E 6 rfl dX1_remainder_102 ?_
                  refine V.frame (fun hfz_fr_108 hfk_fr_108 => ?_)
                  rw [hH0] at hfz_fr_108 hfk_fr_108
                  rw [hA0] at hfk_fr_108
                  have hC_fr_108 := hC.call (fun q h => h.elim) hfz_fr_108 hfk_fr_108
                  have hF_fr_108 : kF κ H0 H_96 (fun _ => False) := ⟨(fun _ h => h.elim), hfz_fr_108, hfk_fr_108⟩
                  obtain ⟨mz_115, nz_115, cfz_115, ⟨c1z_115, c2z_115, c3z_115, ho_114⟩, -⟩ := id hBa_93
                  refine v_callV E (As := [.ref sz]) (b := qa_92) (ci := 6) (C := RJ16) (T := TJ16) (N := 6) ho_114 rfl (g_mul κ H_96 (N := N) (M := M) hC_fr_108 hBa_93 hl_104 (hRN k) (abs2 (hBM (B.1 - 1))) (Or.inr hM20) (sB_m (hRN k) (abs2 (hBM (B.1 - 1))) (by omega))) (lw_V q959 q960 q961 q91 q962) 1 (by decide +kernel) rfl (by decide) (by decide) (cb' := (((cb - 0) - 0) - 3)) (sb' := (((sb - 0) - 0) - (2 * (N + M) + 7))) (by omega) (by omega) rfl (rest := []) (Nat.le_of_ble_eq_true rfl) (fun q h => h.elim) dX1_remainder_103 (fun v_109 H_110 hpost_111 hz_112 hk_113 => ?_)
                  obtain ⟨qm_106, rfl, hBm_107⟩ := hpost_111
                  have hl_116 := LB.kf (eB_L κ _) hC_fr_108 (kF.ext hz_112 hk_113) aD.f aD.no hl_102
                  have hl_117 := Po.kf hC_fr_108 (kF.ext hz_112 hk_113) aD.no hl_103
                  have hl_118 := BI.kf hC.D (kF.ext hz_112 hk_113) hl_104
                  have hl_119 := BI.kf hC.D (kF.ext hz_112 hk_113) hl_105
                  have hl_120 := BI.kf hC.D (kF.ext hz_112 hk_113) hBa_93
                  refine V.eq (st' := [.ref qm_106]) rfl ?_
                  refine v_astore E dX1_remainder_106 (zlt hL rfl) (lv' := [(9, .ref qm_106), (8, vi (k : Int)), (7, .ref l2), (6, .ref tq), (5, vi ((R.1 - B.1 : Nat) : Int)), (4, .ref rq), (3, vi fl), (2, .ref sz), (1, .ref q), (0, .ref p)]) rfl ?_
                  refine v_aload E 2 rfl dX1_remainder_108 ?_
                  refine v_iload E 1 rfl dX1_remainder_110 ?_
                  refine v_iload E 4 rfl dX1_remainder_112 ?_
                  refine v_icmp_ge E (tgt := 122) dX1_remainder_114 (by decide) ⟨by omega, by omega⟩ ⟨by omega, by omega⟩ (fun c_114 => ?_) (fun c_114 => ?_)
                  · refine v_aload E 0 rfl dX1_remainder_122 ?_
                    refine v_aload_n E 8 rfl dX1_remainder_124 ?_
                    refine v_iload E 1 rfl dX1_remainder_125 ?_
                    refine v_iload E 4 rfl dX1_remainder_127 ?_
                    refine v_isub E dX1_remainder_129 ?_
                    refine V.topi (x' := ((k - (R.1 - B.1) : Nat) : Int)) (congrArg iZ (by omega)) ?_
                    refine V.frame (fun hfz_fr_123 hfk_fr_123 => ?_)
                    rw [hH0] at hfz_fr_123 hfk_fr_123
                    rw [hA0] at hfk_fr_123
                    have hC_fr_123 := hC.call (fun q h => h.elim) hfz_fr_123 hfk_fr_123
                    have hF_fr_123 : kF κ H0 H_110 (fun _ => False) := ⟨(fun _ h => h.elim), hfz_fr_123, hfk_fr_123⟩
                    have hb_129 := hF_fr_123.at hoB (fun h => h)
                    refine v_callV E (As := [vi ((k - (R.1 - B.1) : Nat) : Int)]) (b := q) (ci := 2) (C := RX3) (T := TX3) (N := 1) hb_129 rfl (p_at κ H_110 (i := (k - (R.1 - B.1))) (by omega) hC_fr_123 (hB.kf hC hF_fr_123 aD.no)) (lw_V q467 q468 q469 q75 q470) 1 (by decide +kernel) rfl (by decide) (by decide) (cb' := ((((cb - 0) - 0) - 3) - 0)) (sb' := ((((sb - 0) - 0) - (2 * (N + M) + 7)) - 0)) (by omega) (by omega) rfl (rest := [.ref qm_106, .ref l2]) (Nat.le_of_ble_eq_true rfl) (fun q h => h.elim) dX1_remainder_130 (fun v_124 H_125 hpost_126 hz_127 hk_128 => ?_)
                    obtain ⟨qa_121, rfl, hBa_122⟩ := hpost_126
                    have hl_130 := LB.kf (eB_L κ _) hC_fr_123 (kF.ext hz_127 hk_128) aD.f aD.no hl_116
                    have hl_131 := Po.kf hC_fr_123 (kF.ext hz_127 hk_128) aD.no hl_117
                    have hl_132 := BI.kf hC.D (kF.ext hz_127 hk_128) hl_118
                    have hl_133 := BI.kf hC.D (kF.ext hz_127 hk_128) hl_119
                    have hl_134 := BI.kf hC.D (kF.ext hz_127 hk_128) hl_120
                    have hl_135 := BI.kf hC.D (kF.ext hz_127 hk_128) hBm_107
                    refine V.eq (st' := [.ref qa_121, .ref qm_106, .ref l2]) rfl ?_
                    refine v_aload E 3 rfl dX1_remainder_133 ?_
                    refine V.frame (fun hfz_fr_138 hfk_fr_138 => ?_)
                    rw [hH0] at hfz_fr_138 hfk_fr_138
                    rw [hA0] at hfk_fr_138
                    have hC_fr_138 := hC.call (fun q h => h.elim) hfz_fr_138 hfk_fr_138
                    have hF_fr_138 : kF κ H0 H_125 (fun _ => False) := ⟨(fun _ h => h.elim), hfz_fr_138, hfk_fr_138⟩
                    obtain ⟨mz_145, nz_145, cfz_145, ⟨c1z_145, c2z_145, c3z_145, ho_144⟩, -⟩ := id hBa_122
                    refine v_callV E (As := [.ref tq]) (b := qa_121) (ci := 6) (C := RJ16) (T := TJ16) (N := 6) ho_144 rfl (g_mul κ H_125 (N := M) (M := N) hC_fr_138 hBa_122 hl_133 (hBM _) (rmt_abs hRN) (Or.inl hM20) (sB_m (hBM _) (rmt_abs hRN) (by omega))) (lw_V q959 q960 q961 q91 q962) 1 (by decide +kernel) rfl (by decide) (by decide) (cb' := (((((cb - 0) - 0) - 3) - 0) - 3)) (sb' := (((((sb - 0) - 0) - (2 * (N + M) + 7)) - 0) - (2 * (M + N) + 7))) (by omega) (by omega) rfl (rest := [.ref qm_106, .ref l2]) (Nat.le_of_ble_eq_true rfl) (fun q h => h.elim) dX1_remainder_135 (fun v_139 H_140 hpost_141 hz_142 hk_143 => ?_)
                    obtain ⟨qm_136, rfl, hBm_137⟩ := hpost_141
                    have hl_146 := LB.kf (eB_L κ _) hC_fr_138 (kF.ext hz_142 hk_143) aD.f aD.no hl_130
                    have hl_147 := Po.kf hC_fr_138 (kF.ext hz_142 hk_143) aD.no hl_131
                    have hl_148 := BI.kf hC.D (kF.ext hz_142 hk_143) hl_132
                    have hl_149 := BI.kf hC.D (kF.ext hz_142 hk_143) hl_133
                    have hl_150 := BI.kf hC.D (kF.ext hz_142 hk_143) hl_134
                    have hl_151 := BI.kf hC.D (kF.ext hz_142 hk_143) hl_135
                    have hl_152 := BI.kf hC.D (kF.ext hz_142 hk_143) hBa_122
                    refine V.eq (st' := [.ref qm_136, .ref qm_106, .ref l2]) rfl ?_
                    refine V.frame (fun hfz_fr_155 hfk_fr_155 => ?_)
                    rw [hH0] at hfz_fr_155 hfk_fr_155
                    rw [hA0] at hfk_fr_155
                    have hC_fr_155 := hC.call (fun q h => h.elim) hfz_fr_155 hfk_fr_155
                    have hF_fr_155 : kF κ H0 H_140 (fun _ => False) := ⟨(fun _ h => h.elim), hfz_fr_155, hfk_fr_155⟩
                    obtain ⟨mz_162, nz_162, cfz_162, ⟨c1z_162, c2z_162, c3z_162, ho_161⟩, -⟩ := id hl_151
                    refine v_callV E (As := [.ref qm_136]) (b := qm_106) (ci := 6) (C := RJ16) (T := TJ16) (N := 6) ho_161 rfl (g_sub κ H_140 (N := (N + M)) hC_fr_155 hl_151 hBm_137 (prod_lt (hRN k) (abs2 (hBM (B.1 - 1)))) (by rw [Nat.add_comm N M]; exact prod_lt (hBM _) (rmt_abs hRN)) (sB_s (prod_lt (hRN k) (abs2 (hBM (B.1 - 1)))) (by rw [Nat.add_comm N M]; exact prod_lt (hBM _) (rmt_abs hRN)) (by omega))) (lw_V q1153 q1056 q1057 q91 q1058) 1 (by decide +kernel) rfl (by decide) (by decide) (cb' := ((((((cb - 0) - 0) - 3) - 0) - 3) - 3)) (sb' := ((((((sb - 0) - 0) - (2 * (N + M) + 7)) - 0) - (2 * (M + N) + 7)) - (2 * (N + M) + 7))) (by omega) (by omega) rfl (rest := [.ref l2]) (Nat.le_of_ble_eq_true rfl) (fun q h => h.elim) dX1_remainder_138 (fun v_156 H_157 hpost_158 hz_159 hk_160 => ?_)
                    obtain ⟨qs_153, rfl, hBs_154⟩ := hpost_158
                    have hl_163 := LB.kf (eB_L κ _) hC_fr_155 (kF.ext hz_159 hk_160) aD.f aD.no hl_146
                    have hl_164 := Po.kf hC_fr_155 (kF.ext hz_159 hk_160) aD.no hl_147
                    have hl_165 := BI.kf hC.D (kF.ext hz_159 hk_160) hl_148
                    have hl_166 := BI.kf hC.D (kF.ext hz_159 hk_160) hl_149
                    have hl_167 := BI.kf hC.D (kF.ext hz_159 hk_160) hl_150
                    have hl_168 := BI.kf hC.D (kF.ext hz_159 hk_160) hl_151
                    have hl_169 := BI.kf hC.D (kF.ext hz_159 hk_160) hl_152
                    have hl_170 := BI.kf hC.D (kF.ext hz_159 hk_160) hBm_137
                    refine V.eq (st' := [.ref qs_153, .ref l2]) rfl ?_
                    refine V.frame (fun hfz_fr_171 hfk_fr_171 => ?_)
                    rw [hH0] at hfz_fr_171 hfk_fr_171
                    rw [hA0] at hfk_fr_171
                    have hC_fr_171 := hC.call (fun q h => h.elim) hfz_fr_171 hfk_fr_171
                    have hF_fr_171 : kF κ H0 H_157 (fun _ => False) := ⟨(fun _ h => h.elim), hfz_fr_171, hfk_fr_171⟩
                    obtain ⟨md_172, g_173, hA_174, hel_175, hSl_176, hSb_177⟩ := id hl_163
                    have hal_178 := al_k k (show k < 10 by omega)
                    obtain ⟨md_184, g_185, hA_186, -⟩ := id hl_163
                    refine v_callV E (As := [.ref qs_153]) (b := l2) (ci := 5) (C := RJ2) (T := TJ2) (N := 3) hA_186.1 rfl (j_addB κ H_157 hC_fr_171 (show k < 15 by omega) hBs_154.oA hA_174) (lw_V q208 q209 q210 q73 q211) 1 (by decide +kernel) rfl (by decide) (by decide) (cb' := (((((((cb - 0) - 0) - 3) - 0) - 3) - 3) - alM k)) (sb' := (((((((sb - 0) - 0) - (2 * (N + M) + 7)) - 0) - (2 * (M + N) + 7)) - (2 * (N + M) + 7)) - alS k)) (by omega) (by omega) rfl (rest := []) (Nat.le_of_ble_eq_true rfl) (fun q h => hNew q (h.elim (fun h => by rw [h]; exact Nat.le_trans hS90 hSl_176) (fun h => by rw [h.1]; exact Nat.le_trans hS90 (hSb_177 h.2)))) dX1_remainder_141 (fun v_179 H_180 hpost_181 hz_182 hk_183 => ?_)
                    obtain ⟨rfl, b_187, md_188, g_189, hA_190, hg_191, hgn_192, hb_193⟩ := hpost_181
                    have hF_194 := (kF.lst hA_174 (fun q h => h.imp id (fun h => ⟨h.1, capR_pos h.2⟩)) hz_182 hk_183)
                    have hl_195 := Po.kf hC_fr_171 hF_194 (aD.nn (fun q h hd => absurd hd.2 (Nat.not_lt.mpr (h.elim (fun e => by rw [e]; exact hSl_176) (fun e => by rw [e.1]; exact hSb_177 e.2))))) hl_164
                    have hl_196 := BI.kf hC.D hF_194 hl_165
                    have hl_197 := BI.kf hC.D hF_194 hl_166
                    have hl_198 := BI.kf hC.D hF_194 hl_167
                    have hl_199 := BI.kf hC.D hF_194 hl_168
                    have hl_200 := BI.kf hC.D hF_194 hl_169
                    have hl_201 := BI.kf hC.D hF_194 hl_170
                    have hl_202 := BI.kf hC.D hF_194 hBs_154
                    have hv_204 := BI.kf hC.D hF_194 hBs_154
                    have hLB_203 : LB κ S9 (eB κ (rmc R B)) H_180 l2 b_187 (k + 1) := LB.step (fun k9 hk9 => (hel_175 k9 hk9).elim (fun y hy => ⟨y, hy.1, (eB_L κ _) _ _ _ _ _ hC_fr_171 hF_194 aD.f hy.2⟩)) (by show BI κ _ _ (rmc R B k); rw [show rmc R B k = (((R.2 k) * ((Int.natAbs (B.2 (B.1 - 1)) : Nat) : Int)) - ((B.2 (k - (R.1 - B.1))) * rmt R B)) from if_neg (by omega)]; exact hv_204) hA_190 hg_191 hgn_192 hSl_176 (hb_193.elim (fun h => by rw [h.1]; exact hSb_177 h.2) (fun h => Nat.le_trans (show S9 ≤ Array.size H_157 from (Nat.le_of_lt (Nat.lt_of_le_of_lt hSl_176 (hp.lt hA_174.1)))) h))
                    refine V.eq (st' := [vi 1]) rfl ?_
                    refine v_pop E rfl dX1_remainder_144 ?_
                    refine v_iinc E 1 rfl dX1_remainder_145 (zlt hL rfl) (lv' := [(8, vi ((k : Int) + 1)), (9, .ref qm_106), (7, .ref l2), (6, .ref tq), (5, vi ((R.1 - B.1 : Nat) : Int)), (4, .ref rq), (3, vi fl), (2, .ref sz), (1, .ref q), (0, .ref p)]) rfl ?_
                    refine v_goto E (tgt := 85) dX1_remainder_148 (by decide) ?_
                    refine V.sub [0, 2, 3, 4, 5, 6, 7, 8, 9] (lv' := [(8, vi ((k : Int) + 1)), (7, .ref l2), (6, .ref tq), (5, vi ((R.1 - B.1 : Nat) : Int)), (4, .ref rq), (3, vi fl), (2, .ref sz), (1, .ref q), (0, .ref p)]) rfl ?_
                    exact ih_85  H_180 (k + 1) _ (((((((cb - 0) - 0) - 3) - 0) - 3) - 3) - alM k) (((((((sb - 0) - 0) - (2 * (N + M) + 7)) - 0) - (2 * (M + N) + 7)) - (2 * (N + M) + 7)) - alS k) (by omega) (by omega) (by have e1 := mulS 9 (R.1 - 1) k (by omega); omega) (by have e1 := mulS (6 * (N + M) + 21) (R.1 - 1) k (by omega); omega) hLB_203 hl_195 hl_196 hl_197
                  · refine v_aload E 0 rfl dX1_remainder_117 ?_
                    refine v_goto E (tgt := 141) dX1_remainder_119 (by decide) ?_
                    refine V.frame (fun hfz_fr_205 hfk_fr_205 => ?_)
                    rw [hH0] at hfz_fr_205 hfk_fr_205
                    rw [hA0] at hfk_fr_205
                    have hC_fr_205 := hC.call (fun q h => h.elim) hfz_fr_205 hfk_fr_205
                    have hF_fr_205 : kF κ H0 H_110 (fun _ => False) := ⟨(fun _ h => h.elim), hfz_fr_205, hfk_fr_205⟩
                    obtain ⟨md_206, g_207, hA_208, hel_209, hSl_210, hSb_211⟩ := id hl_116
                    have hal_212 := al_k k (show k < 10 by omega)
                    obtain ⟨md_218, g_219, hA_220, -⟩ := id hl_116
                    refine v_callV E (As := [.ref qm_106]) (b := l2) (ci := 5) (C := RJ2) (T := TJ2) (N := 3) hA_220.1 rfl (j_addB κ H_110 hC_fr_205 (show k < 15 by omega) hBm_107.oA hA_208) (lw_V q208 q209 q210 q73 q211) 1 (by decide +kernel) rfl (by decide) (by decide) (cb' := ((((cb - 0) - 0) - 3) - alM k)) (sb' := ((((sb - 0) - 0) - (2 * (N + M) + 7)) - alS k)) (by omega) (by omega) rfl (rest := []) (Nat.le_of_ble_eq_true rfl) (fun q h => hNew q (h.elim (fun h => by rw [h]; exact Nat.le_trans hS90 hSl_210) (fun h => by rw [h.1]; exact Nat.le_trans hS90 (hSb_211 h.2)))) dX1_remainder_141 (fun v_213 H_214 hpost_215 hz_216 hk_217 => ?_)
                    obtain ⟨rfl, b_221, md_222, g_223, hA_224, hg_225, hgn_226, hb_227⟩ := hpost_215
                    have hF_228 := (kF.lst hA_208 (fun q h => h.imp id (fun h => ⟨h.1, capR_pos h.2⟩)) hz_216 hk_217)
                    have hl_229 := Po.kf hC_fr_205 hF_228 (aD.nn (fun q h hd => absurd hd.2 (Nat.not_lt.mpr (h.elim (fun e => by rw [e]; exact hSl_210) (fun e => by rw [e.1]; exact hSb_211 e.2))))) hl_117
                    have hl_230 := BI.kf hC.D hF_228 hl_118
                    have hl_231 := BI.kf hC.D hF_228 hl_119
                    have hl_232 := BI.kf hC.D hF_228 hl_120
                    have hl_233 := BI.kf hC.D hF_228 hBm_107
                    have hv_235 := BI.kf hC.D hF_228 hBm_107
                    have hLB_234 : LB κ S9 (eB κ (rmc R B)) H_214 l2 b_221 (k + 1) := LB.step (fun k9 hk9 => (hel_209 k9 hk9).elim (fun y hy => ⟨y, hy.1, (eB_L κ _) _ _ _ _ _ hC_fr_205 hF_228 aD.f hy.2⟩)) (by show BI κ _ _ (rmc R B k); rw [show rmc R B k = ((R.2 k) * ((Int.natAbs (B.2 (B.1 - 1)) : Nat) : Int)) from if_pos (by omega)]; exact hv_235) hA_224 hg_225 hgn_226 hSl_210 (hb_227.elim (fun h => by rw [h.1]; exact hSb_211 h.2) (fun h => Nat.le_trans (show S9 ≤ Array.size H_110 from (Nat.le_of_lt (Nat.lt_of_le_of_lt hSl_210 (hp.lt hA_208.1)))) h))
                    refine V.eq (st' := [vi 1]) rfl ?_
                    refine v_pop E rfl dX1_remainder_144 ?_
                    refine v_iinc E 1 rfl dX1_remainder_145 (zlt hL rfl) (lv' := [(8, vi ((k : Int) + 1)), (9, .ref qm_106), (7, .ref l2), (6, .ref tq), (5, vi ((R.1 - B.1 : Nat) : Int)), (4, .ref rq), (3, vi fl), (2, .ref sz), (1, .ref q), (0, .ref p)]) rfl ?_
                    refine v_goto E (tgt := 85) dX1_remainder_148 (by decide) ?_
                    refine V.sub [0, 2, 3, 4, 5, 6, 7, 8, 9] (lv' := [(8, vi ((k : Int) + 1)), (7, .ref l2), (6, .ref tq), (5, vi ((R.1 - B.1 : Nat) : Int)), (4, .ref rq), (3, vi fl), (2, .ref sz), (1, .ref q), (0, .ref p)]) rfl ?_
                    exact ih_85  H_214 (k + 1) _ ((((cb - 0) - 0) - 3) - alM k) ((((sb - 0) - 0) - (2 * (N + M) + 7)) - alS k) (by omega) (by omega) (by have e1 := mulS 9 (R.1 - 1) k (by omega); omega) (by have e1 := mulS (6 * (N + M) + 21) (R.1 - 1) k (by omega); omega) hLB_234 hl_229 hl_230 hl_231
            exact loop_85 ((R.1 - 1) + 1) H_48 0 (κ.2 98) (((cb - 1) - 1) - 0) (((sb - 6) - 3) - 0) (by omega) (Nat.zero_le _) (by rw [al0_0, Nat.sub_zero]; have := rmC_s (m := B.1) (n := R.1) (by omega) (by omega); omega) (by rw [al0_0, Nat.sub_zero]; have := rmL_s (m := B.1) (n := R.1) (K := (N + M)) (by omega) (by omega); omega) hLB_l2 hl_53 hl_54 hl_55
          refine v_iload_n E 2 rfl dX1_remainder_51 ?_
          refine v_if_eq E (tgt := 66) dX1_remainder_52 (by decide) ⟨by omega, by omega⟩ (fun c_52 => ?_) (fun c_52 => ?_)
          · refine v_aload E 1 rfl dX1_remainder_66 ?_
            refine V.frame (fun hfz_fr_238 hfk_fr_238 => ?_)
            rw [hH0] at hfz_fr_238 hfk_fr_238
            rw [hA0] at hfk_fr_238
            have hC_fr_238 := hC.call (fun q h => h.elim) hfz_fr_238 hfk_fr_238
            have hF_fr_238 : kF κ H0 H_32 (fun _ => False) := ⟨(fun _ h => h.elim), hfz_fr_238, hfk_fr_238⟩
            obtain ⟨-, -, l_245, ho_244, -⟩ := id hl_37
            refine v_callV E (As := []) (b := rq) (ci := 2) (C := RX3) (T := TX3) (N := 1) ho_244 rfl (p_lead κ H_32 (by omega) hC_fr_238 hl_37) (lw_V q1148 q1149 q1150 q75 q1151) 0 (by decide +kernel) rfl (by decide) (by decide) (cb' := (((((cb - 0) - 0) - 0) - 0) - 0)) (sb' := (((((sb - 0) - 0) - 0) - 0) - 0)) (by omega) (by omega) rfl (rest := []) (Nat.le_of_ble_eq_true rfl) (fun q h => h.elim) dX1_remainder_68 (fun v_239 H_240 hpost_241 hz_242 hk_243 => ?_)
            obtain ⟨ql_236, rfl, hBl_237⟩ := hpost_241
            have hl_246 := Po.kf hC_fr_238 (kF.ext hz_242 hk_243) aD.no hl_37
            have hl_247 := BI.kf hC.D (kF.ext hz_242 hk_243) hl_38
            refine V.eq (st' := [.ref ql_236]) rfl ?_
            have htq_248 : BI κ H_240 ql_236 (rmt R B) := by rw [show rmt R B = (R.2 (R.1 - 1)) from if_neg (by omega)]; exact hBl_237
            obtain ⟨tq, htqe⟩ : ∃ tq, tq = ql_236 := ⟨_, rfl⟩
            rw [← htqe] at htq_248
            refine V.eq (st' := .ref tq :: _) (by rw [htqe]) ?_
            refine v_astore E dX1_remainder_71 (zlt hL rfl) (lv' := [(6, .ref tq), (5, vi ((R.1 - B.1 : Nat) : Int)), (4, .ref rq), (3, vi fl), (2, .ref sz), (1, .ref q), (0, .ref p)]) rfl ?_
            refine V.less (cb' := (cb - 1)) (sb' := (sb - 6)) (by omega) (by omega) ?_
            exact join_73 H_240 tq hl_246 hl_247 htq_248
          · refine v_aload E 1 rfl dX1_remainder_55 ?_
            refine V.frame (fun hfz_fr_251 hfk_fr_251 => ?_)
            rw [hH0] at hfz_fr_251 hfk_fr_251
            rw [hA0] at hfk_fr_251
            have hC_fr_251 := hC.call (fun q h => h.elim) hfz_fr_251 hfk_fr_251
            have hF_fr_251 : kF κ H0 H_32 (fun _ => False) := ⟨(fun _ h => h.elim), hfz_fr_251, hfk_fr_251⟩
            obtain ⟨-, -, l_258, ho_257, -⟩ := id hl_37
            refine v_callV E (As := []) (b := rq) (ci := 2) (C := RX3) (T := TX3) (N := 1) ho_257 rfl (p_lead κ H_32 (by omega) hC_fr_251 hl_37) (lw_V q1148 q1149 q1150 q75 q1151) 0 (by decide +kernel) rfl (by decide) (by decide) (cb' := (((((cb - 0) - 0) - 0) - 0) - 0)) (sb' := (((((sb - 0) - 0) - 0) - 0) - 0)) (by omega) (by omega) rfl (rest := []) (Nat.le_of_ble_eq_true rfl) (fun q h => h.elim) dX1_remainder_57 (fun v_252 H_253 hpost_254 hz_255 hk_256 => ?_)
            obtain ⟨ql_249, rfl, hBl_250⟩ := hpost_254
            have hl_259 := Po.kf hC_fr_251 (kF.ext hz_255 hk_256) aD.no hl_37
            have hl_260 := BI.kf hC.D (kF.ext hz_255 hk_256) hl_38
            refine V.eq (st' := [.ref ql_249]) rfl ?_
            refine V.frame (fun hfz_fr_263 hfk_fr_263 => ?_)
            rw [hH0] at hfz_fr_263 hfk_fr_263
            rw [hA0] at hfk_fr_263
            have hC_fr_263 := hC.call (fun q h => h.elim) hfz_fr_263 hfk_fr_263
            have hF_fr_263 : kF κ H0 H_253 (fun _ => False) := ⟨(fun _ h => h.elim), hfz_fr_263, hfk_fr_263⟩
            obtain ⟨mz_270, nz_270, cfz_270, ⟨c1z_270, c2z_270, c3z_270, ho_269⟩, -⟩ := id hBl_250
            refine v_callV E (As := []) (b := ql_249) (ci := 6) (C := RJ16) (T := TJ16) (N := 6) ho_269 rfl (g_negate κ H_253 hC_fr_263 hBl_250) (lw_V q1127 q627 q628 q91 q629) 0 (by decide +kernel) rfl (by decide) (by decide) (cb' := ((((((cb - 0) - 0) - 0) - 0) - 0) - 1)) (sb' := ((((((sb - 0) - 0) - 0) - 0) - 0) - 6)) (by omega) (by omega) rfl (rest := []) (Nat.le_of_ble_eq_true rfl) (fun q h => h.elim) dX1_remainder_60 (fun v_264 H_265 hpost_266 hz_267 hk_268 => ?_)
            obtain ⟨qn_261, rfl, hBn_262⟩ := hpost_266
            have hl_271 := Po.kf hC_fr_263 (kF.ext hz_267 hk_268) aD.no hl_259
            have hl_272 := BI.kf hC.D (kF.ext hz_267 hk_268) hl_260
            have hl_273 := BI.kf hC.D (kF.ext hz_267 hk_268) hBl_250
            refine V.eq (st' := [.ref qn_261]) rfl ?_
            refine v_goto E (tgt := 71) dX1_remainder_63 (by decide) ?_
            have htq_274 : BI κ H_265 qn_261 (rmt R B) := by rw [show rmt R B = (-(R.2 (R.1 - 1))) from if_pos (by omega)]; exact hBn_262
            obtain ⟨tq, htqe⟩ : ∃ tq, tq = qn_261 := ⟨_, rfl⟩
            rw [← htqe] at htq_274
            refine V.eq (st' := .ref tq :: _) (by rw [htqe]) ?_
            refine v_astore E dX1_remainder_71 (zlt hL rfl) (lv' := [(6, .ref tq), (5, vi ((R.1 - B.1 : Nat) : Int)), (4, .ref rq), (3, vi fl), (2, .ref sz), (1, .ref q), (0, .ref p)]) rfl ?_
            refine V.less (cb' := (cb - 1)) (sb' := (sb - 6)) (by omega) (by omega) ?_
            exact join_73 H_265 tq hl_271 hl_272 htq_274
    refine V.frame (fun hfz_fr_275 hfk_fr_275 => ?_)
    rw [hH0] at hfz_fr_275 hfk_fr_275
    rw [hA0] at hfk_fr_275
    have hC_fr_275 := hC.call (fun q h => h.elim) hfz_fr_275 hfk_fr_275
    have hF_fr_275 : kF κ H0 H (fun _ => False) := ⟨(fun _ h => h.elim), hfz_fr_275, hfk_fr_275⟩
    exact loop_27 (P.1 + 1) H p P 0 (P.1 + 1) ((1 + rmC B.1 P.1) - 1) ((6 + rmL B.1 (N + M) P.1) - 6) (by omega) rfl (fun i hi => absurd hi (Nat.not_lt_zero i)) (Nat.lt_succ_self _) rfl h7 (by omega) (by omega) (hP.kf hC hF_fr_275 aD.no) hsz
  refine v_aload_n E 1 rfl dX1_remainder_0 ?_
  refine V.frame (fun hfz_fr_278 hfk_fr_278 => ?_)
  rw [hH0] at hfz_fr_278 hfk_fr_278
  rw [hA0] at hfk_fr_278
  have hC_fr_278 := hC.call (fun q h => h.elim) hfz_fr_278 hfk_fr_278
  have hF_fr_278 : kF κ H0 H0 (fun _ => False) := ⟨(fun _ h => h.elim), hfz_fr_278, hfk_fr_278⟩
  have hb_284 := hF_fr_278.at hoB (fun h => h)
  refine v_callV E (As := []) (b := q) (ci := 2) (C := RX3) (T := TX3) (N := 1) hb_284 rfl (p_lead κ H0 (by omega) hC_fr_278 (hB.kf hC hF_fr_278 aD.no)) (lw_V q1148 q1149 q1150 q75 q1151) 0 (by decide +kernel) rfl (by decide) (by decide) (cb' := ((1 + rmC B.1 P.1) - 0)) (sb' := ((6 + rmL B.1 (N + M) P.1) - 0)) (by omega) (by omega) rfl (rest := []) (Nat.le_of_ble_eq_true rfl) (fun q h => h.elim) dX1_remainder_1 (fun v_279 H_280 hpost_281 hz_282 hk_283 => ?_)
  obtain ⟨ql_276, rfl, hBl_277⟩ := hpost_281
  refine V.eq (st' := [.ref ql_276]) rfl ?_
  refine V.frame (fun hfz_fr_285 hfk_fr_285 => ?_)
  rw [hH0] at hfz_fr_285 hfk_fr_285
  rw [hA0] at hfk_fr_285
  have hC_fr_285 := hC.call (fun q h => h.elim) hfz_fr_285 hfk_fr_285
  have hF_fr_285 : kF κ H0 H_280 (fun _ => False) := ⟨(fun _ h => h.elim), hfz_fr_285, hfk_fr_285⟩
  obtain ⟨mz_292, nz_292, cfz_292, ⟨c1z_292, c2z_292, c3z_292, ho_291⟩, -⟩ := id hBl_277
  refine v_callV E (As := []) (b := ql_276) (ci := 6) (C := RJ16) (T := TJ16) (N := 6) ho_291 rfl (g_abs κ H_280 hC_fr_285 hBl_277) (lw_V q622 q623 q624 q91 q625) 0 (by decide +kernel) rfl (by decide) (by decide) (cb' := (((1 + rmC B.1 P.1) - 0) - 1)) (sb' := (((6 + rmL B.1 (N + M) P.1) - 0) - 6)) (by omega) (by omega) rfl (rest := []) (Nat.le_of_ble_eq_true rfl) (fun q h => h.elim) dX1_remainder_4 (fun v_286 H_287 hpost_288 hz_289 hk_290 => ?_)
  obtain ⟨sz, rfl, hsz0⟩ := hpost_288
  have hl_293 := BI.kf hC.D (kF.ext hz_289 hk_290) hBl_277
  refine V.eq (st' := [.ref sz]) rfl ?_
  refine v_astore_n E dX1_remainder_7 (zlt hL rfl) (lv' := [(2, .ref sz), (0, .ref p), (1, .ref q)]) rfl ?_
  refine v_aload_n E 2 rfl dX1_remainder_8 ?_
  refine V.frame (fun hfz_fr_296 hfk_fr_296 => ?_)
  rw [hH0] at hfz_fr_296 hfk_fr_296
  rw [hA0] at hfk_fr_296
  have hC_fr_296 := hC.call (fun q h => h.elim) hfz_fr_296 hfk_fr_296
  have hF_fr_296 : kF κ H0 H_287 (fun _ => False) := ⟨(fun _ h => h.elim), hfz_fr_296, hfk_fr_296⟩
  have hb_302 := hF_fr_296.at hoB (fun h => h)
  refine v_callV E (As := []) (b := q) (ci := 2) (C := RX3) (T := TX3) (N := 1) hb_302 rfl (p_lead κ H_287 (by omega) hC_fr_296 (hB.kf hC hF_fr_296 aD.no)) (lw_V q1148 q1149 q1150 q75 q1151) 0 (by decide +kernel) rfl (by decide) (by decide) (cb' := ((((1 + rmC B.1 P.1) - 0) - 1) - 0)) (sb' := ((((6 + rmL B.1 (N + M) P.1) - 0) - 6) - 0)) (by omega) (by omega) rfl (rest := []) (Nat.le_of_ble_eq_true rfl) (fun q h => h.elim) dX1_remainder_9 (fun v_297 H_298 hpost_299 hz_300 hk_301 => ?_)
  obtain ⟨ql_294, rfl, hBl_295⟩ := hpost_299
  have hl_303 := BI.kf hC.D (kF.ext hz_300 hk_301) hl_293
  have hl_304 := BI.kf hC.D (kF.ext hz_300 hk_301) hsz0
  refine V.eq (st' := [.ref ql_294]) rfl ?_
  refine V.frame (fun hfz_fr_305 hfk_fr_305 => ?_)
  rw [hH0] at hfz_fr_305 hfk_fr_305
  rw [hA0] at hfk_fr_305
  have hC_fr_305 := hC.call (fun q h => h.elim) hfz_fr_305 hfk_fr_305
  have hF_fr_305 : kF κ H0 H_298 (fun _ => False) := ⟨(fun _ h => h.elim), hfz_fr_305, hfk_fr_305⟩
  obtain ⟨mz_312, nz_312, cfz_312, ⟨c1z_312, c2z_312, c3z_312, ho_311⟩, -⟩ := id hBl_295
  refine v_callV E (As := []) (b := ql_294) (ci := 6) (C := RJ16) (T := TJ16) (N := 6) ho_311 rfl (g_signum κ H_298 hBl_295) (lw_V q1152 q171 q172 q91 q173) 0 (by decide +kernel) rfl (by decide) (by decide) (cb' := (((((1 + rmC B.1 P.1) - 0) - 1) - 0) - 0)) (sb' := (((((6 + rmL B.1 (N + M) P.1) - 0) - 6) - 0) - 0)) (by omega) (by omega) rfl (rest := []) (Nat.le_of_ble_eq_true rfl) (fun q h => h.elim) dX1_remainder_12 (fun v_306 H_307 hpost_308 hz_309 hk_310 => ?_)
  obtain rfl := hpost_308
  have hl_313 := BI.kf hC.D (kF.ext hz_309 hk_310) hl_303
  have hl_314 := BI.kf hC.D (kF.ext hz_309 hk_310) hl_304
  have hl_315 := BI.kf hC.D (kF.ext hz_309 hk_310) hBl_295
  refine V.eq (st' := [vi (Int.sign (B.2 (B.1 - 1)))]) rfl ?_
  refine v_if_ge E (tgt := 22) dX1_remainder_15 (by decide) (rsign _) (fun c_15 => ?_) (fun c_15 => ?_)
  · refine v_iconst E dX1_remainder_22 ?_
    refine V.topi (x' := fl) (congrArg iZ (by have := sgn3 (B.2 (B.1 - 1)); omega)) ?_
    refine v_istore_n E dX1_remainder_23 (zlt hL rfl) (lv' := [(3, vi fl), (2, .ref sz), (0, .ref p), (1, .ref q)]) rfl ?_
    refine V.sub [0, 1, 3, 2] (lv' := [(3, vi fl), (2, .ref sz), (1, .ref q), (0, .ref p)]) rfl ?_
    exact join_24 H_307 sz hl_314
  · refine v_iconst E dX1_remainder_18 ?_
    refine v_goto E (tgt := 23) dX1_remainder_19 (by decide) ?_
    refine V.topi (x' := fl) (congrArg iZ (by have := sgn3 (B.2 (B.1 - 1)); omega)) ?_
    refine v_istore_n E dX1_remainder_23 (zlt hL rfl) (lv' := [(3, vi fl), (2, .ref sz), (0, .ref p), (1, .ref q)]) rfl ?_
    refine V.sub [0, 1, 3, 2] (lv' := [(3, vi fl), (2, .ref sz), (1, .ref q), (0, .ref p)]) rfl ?_
    exact join_24 H_307 sz hl_314
