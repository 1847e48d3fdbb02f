/-! POLYNOMIALS OF THE COMPONENT: signs at a point, changes of signs -/
def sv (P : Pl) (n : Int) (k : Nat) : Nat → Int
  | 0 => P.2 (P.1 - 1)
  | j + 1 => sv P n k j * n + P.2 (P.1 - 2 - j) * 2 ^ (k * (j + 1))
def cVal (P : Pl) (n : Int) (k : Nat) : Int := sv P n k (P.1 - 1)
def cSg (P : Pl) (n : Int) (k : Nat) : Int := if P.1 = 0 then 0 else (cVal P n k).sign
def fitV (P : Pl) (n : Int) (k N K : Nat) : Prop := (∀ i, ((P.2 i).natAbs : Int) < 2 ^ (32 * N)) ∧ (∀ j, j < P.1 → ((sv P n k j).natAbs : Int) < 2 ^ (32 * K)) ∧ N + 3 ≤ K ∧ K ≤ 44
theorem cSg_3 (P : Pl) (n : Int) (k : Nat) : cSg P n k = -1 ∨ cSg P n k = 0 ∨ cSg P n k = 1 := by
  unfold cSg
  split
  · exact Or.inr (Or.inl rfl)
  · have := sgn3 (cVal P n k); omega
theorem shl_bd {X : Int} {N K s : Nat} (h : (X.natAbs : Int) < 2 ^ (32 * N)) (hs : s ≤ 96) (hK : N + 3 ≤ K) : ((X * 2 ^ s).natAbs : Int) < 2 ^ (32 * (K + 1)) ∧ (X.natAbs : Int) * 2 ^ s < 2 ^ (32 * (K + 1)) := by
  have e : ((X * 2 ^ s).natAbs : Int) = (X.natAbs : Int) * 2 ^ s := by rw [Int.natAbs_mul, Int.natCast_mul, Int.natAbs_pow, Int.natCast_pow]; rfl
  have h2 : (X.natAbs : Int) * 2 ^ s < 2 ^ (32 * (K + 1)) := by
    have := Int.mul_lt_mul_of_pos_right h (p2 s)
    rw [← Int.pow_add] at this
    exact Int.lt_of_lt_of_le this (pw_mono (by omega))
  exact ⟨by rw [e]; exact h2, h2⟩
/-- last sign that is not 0, and changes, of the first j signs -/
def lsG (s : Nat → Int) : Nat → Int
  | 0 => 0
  | j + 1 => if s j = 0 then lsG s j else s j
def chG (s : Nat → Int) : Nat → Nat
  | 0 => 0
  | j + 1 => chG s j + (if s j * lsG s j < 0 then 1 else 0)
theorem chG_le (s : Nat → Int) : ∀ j, chG s j ≤ j
  | 0 => Nat.le_refl 0
  | j + 1 => by
    have := chG_le s j
    unfold chG
    split <;> omega
theorem lsG_3 {s : Nat → Int} (h : ∀ j, s j = -1 ∨ s j = 0 ∨ s j = 1) : ∀ j, lsG s j = -1 ∨ lsG s j = 0 ∨ lsG s j = 1
  | 0 => Or.inr (Or.inl rfl)
  | j + 1 => by
    unfold lsG
    split
    · exact lsG_3 h j
    · exact h j
theorem mul3 {a b : Int} (ha : a = -1 ∨ a = 0 ∨ a = 1) (hb : b = -1 ∨ b = 0 ∨ b = 1) : rI (a * b) := by
  rcases ha with rfl | rfl | rfl <;> rcases hb with rfl | rfl | rfl <;> exact ⟨by decide, by decide⟩
def sumN (g : Nat → Nat) : Nat → Nat
  | 0 => 0
  | k + 1 => sumN g k + g k
theorem sumN_lt {g : Nat → Nat} : ∀ {k n : Nat}, k < n → sumN g k + g k ≤ sumN g n
  | k, 0, h => absurd h (Nat.not_lt_zero _)
  | k, n + 1, h => by
    by_cases e : k = n
    · rw [e]; exact Nat.le_refl _
    · exact Nat.le_trans (sumN_lt (show k < n by omega)) (Nat.le_add_right _ _)
theorem sumN_s (g : Nat → Nat) {k n : Nat} (h : k < n) : sumN g n - sumN g k = g k + (sumN g n - sumN g (k + 1)) := by
  have h1 := sumN_lt (g := g) h
  have h2 : sumN g (k + 1) = sumN g k + g k := rfl
  omega
/-- rooms of signAt; of changesAt -/
def sgC (n : Nat) : Nat := 2 + 8 * (n - 1)
def sgL (N K n : Nat) : Nat := 8 + (4 * K + N + 28) * (n - 1)
set_option maxHeartbeats 1000000 in
set_option maxRecDepth 100000 in
/-- signAt -/
theorem p_sg (κ : zK) (H0 : Heap) {p : Nat} {P : Pl} {D : Nat → Prop} {n : Int} {e N K : Nat} (hC : CO κ H0) (hn : -4294967296 < n ∧ n < 4294967296) (he : e ≤ 12) (h7 : P.1 ≤ 7) (hV : fitV P n e N K) (hP : Po κ D H0 p P)  : Mt κ yX1_signAt cX1_signAt 7 (some .int) 6 155 (sgC P.1) (sgL N K P.1) H0 [.ref p, vj n, vi (e : Int)] (fun _ => False) (fun v H1 => v = some (vi (cSg P n e))) := by
  refine Mt.of (by decide) (Nat.le_of_ble_eq_true rfl) ?_
  intro z E hE hH0 hA0 hL hini
  have hAll : ∀ q, (fun _ => False) q → zA z.A z.H0 q := fun q h => Or.inl (by rw [hA0]; exact h)
  have hNew : ∀ q, H0.size ≤ q → zA z.A z.H0 q := fun q h => Or.inr (by rw [hH0]; exact h)
  have E : zOK z cX1_signAt RX1 κ 6 155 (some .int) := E
  refine V.eqL (lv' := [(0, .ref p), (1, vj n), (3, vi (e : Int))]) rfl ?_
  obtain ⟨hnf, h13, l, hop, b, cap, md, g, hA, hel, hDl, hDb⟩ := id hP
  have hD := hC.D
  have hC20 : 2 ≤ sgC P.1 ∧ 8 ≤ sgL N K P.1 := by unfold sgC sgL; omega
  refine v_aload_n E 0 rfl dX1_signAt_0 ?_
  refine V.frame (fun hfz_fr_1 hfk_fr_1 => ?_)
  rw [hH0] at hfz_fr_1 hfk_fr_1
  rw [hA0] at hfk_fr_1
  have hC_fr_1 := hC.call (fun q h => h.elim) hfz_fr_1 hfk_fr_1
  have hF_fr_1 : kF κ H0 H0 (fun _ => False) := ⟨(fun _ h => h.elim), hfz_fr_1, hfk_fr_1⟩
  have hb_7 := hF_fr_1.at hop (fun h => h)
  refine v_callV E (As := []) (b := p) (ci := 2) (C := RX3) (T := TX3) (N := 1) hb_7 rfl (p_deg κ H0 hC_fr_1 (hP.kf hC hF_fr_1 aD.no)) (lw_V q617 q618 q619 q75 q620) 0 (by decide +kernel) rfl (by decide) (by decide) (cb' := ((sgC P.1) - 0)) (sb' := ((sgL N K P.1) - 0)) (by omega) (by omega) rfl (rest := []) (Nat.le_of_ble_eq_true rfl) (fun q h => h.elim) dX1_signAt_1 (fun v_2 H_3 hpost_4 hz_5 hk_6 => ?_)
  obtain rfl := hpost_4
  refine V.eq (st' := [vi ((P.1 : Int) - 1)]) rfl ?_
  refine v_if_ge E (tgt := 9) dX1_signAt_4 (by decide) ⟨by omega, by omega⟩ (fun c_4 => ?_) (fun c_4 => ?_)
  · refine v_lload_n E 1 rfl dX1_signAt_9 ?_
    refine V.frame (fun hfz_fr_8 hfk_fr_8 => ?_)
    rw [hH0] at hfz_fr_8 hfk_fr_8
    rw [hA0] at hfk_fr_8
    have hC_fr_8 := hC.call (fun q h => h.elim) hfz_fr_8 hfk_fr_8
    have hF_fr_8 : kF κ H0 H_3 (fun _ => False) := ⟨(fun _ h => h.elim), hfz_fr_8, hfk_fr_8⟩
    refine v_callS E (As := [vj n]) (p_num κ H_3 (x := n) hC_fr_8 ⟨by omega, by omega⟩) (lw_S q611 q472 q70 q473) 1 (by decide +kernel) rfl (by decide) (by decide) (cb' := (sgC P.1 - 2)) (sb' := (sgL N K P.1 - 8)) (by unfold sgC; omega) (by unfold sgL; omega) rfl (rest := []) (Nat.le_of_ble_eq_true rfl) (fun q h => h.elim) dX1_signAt_10 (fun v_9 H_10 hpost_11 hz_12 hk_13 => ?_)
    obtain ⟨na, rfl, hna⟩ := hpost_11
    refine V.eq (st' := [.ref na]) rfl ?_
    refine v_astore E dX1_signAt_13 (zlt hL rfl) (lv' := [(4, .ref na), (0, .ref p), (1, vj n), (3, vi (e : Int))]) rfl ?_
    refine v_aload_n E 1 rfl dX1_signAt_15 ?_
    refine V.frame (fun hfz_fr_16 hfk_fr_16 => ?_)
    rw [hH0] at hfz_fr_16 hfk_fr_16
    rw [hA0] at hfk_fr_16
    have hC_fr_16 := hC.call (fun q h => h.elim) hfz_fr_16 hfk_fr_16
    have hF_fr_16 : kF κ H0 H_10 (fun _ => False) := ⟨(fun _ h => h.elim), hfz_fr_16, hfk_fr_16⟩
    have hb_22 := hF_fr_16.at hop (fun h => h)
    refine v_callV E (As := []) (b := p) (ci := 2) (C := RX3) (T := TX3) (N := 1) hb_22 rfl (p_lead κ H_10 (by omega) hC_fr_16 (hP.kf hC hF_fr_16 aD.no)) (lw_V q1148 q1149 q1150 q75 q1151) 0 (by decide +kernel) rfl (by decide) (by decide) (cb' := ((sgC P.1 - 2) - 0)) (sb' := ((sgL N K P.1 - 8) - 0)) (by omega) (by omega) rfl (rest := []) (Nat.le_of_ble_eq_true rfl) (fun q h => h.elim) dX1_signAt_16 (fun v_17 H_18 hpost_19 hz_20 hk_21 => ?_)
    obtain ⟨ql_14, rfl, hBl_15⟩ := hpost_19
    have hl_23 := BI.kf hC.D (kF.ext hz_20 hk_21) hna
    refine V.eq (st' := [.ref ql_14]) rfl ?_
    refine v_astore E dX1_signAt_19 (zlt hL rfl) (lv' := [(5, .ref ql_14), (4, .ref na), (0, .ref p), (1, vj n), (3, vi (e : Int))]) rfl ?_
    refine v_aload_n E 2 rfl dX1_signAt_21 ?_
    refine V.frame (fun hfz_fr_24 hfk_fr_24 => ?_)
    rw [hH0] at hfz_fr_24 hfk_fr_24
    rw [hA0] at hfk_fr_24
    have hC_fr_24 := hC.call (fun q h => h.elim) hfz_fr_24 hfk_fr_24
    have hF_fr_24 : kF κ H0 H_18 (fun _ => False) := ⟨(fun _ h => h.elim), hfz_fr_24, hfk_fr_24⟩
    have hb_30 := hF_fr_24.at hop (fun h => h)
    refine v_callV E (As := []) (b := p) (ci := 2) (C := RX3) (T := TX3) (N := 1) hb_30 rfl (p_deg κ H_18 hC_fr_24 (hP.kf hC hF_fr_24 aD.no)) (lw_V q617 q618 q619 q75 q620) 0 (by decide +kernel) rfl (by decide) (by decide) (cb' := (((sgC P.1 - 2) - 0) - 0)) (sb' := (((sgL N K P.1 - 8) - 0) - 0)) (by omega) (by omega) rfl (rest := []) (Nat.le_of_ble_eq_true rfl) (fun q h => h.elim) dX1_signAt_22 (fun v_25 H_26 hpost_27 hz_28 hk_29 => ?_)
    obtain rfl := hpost_27
    have hl_31 := BI.kf hC.D (kF.ext hz_28 hk_29) hl_23
    have hl_32 := BI.kf hC.D (kF.ext hz_28 hk_29) hBl_15
    refine V.eq (st' := [vi ((P.1 : Int) - 1)]) rfl ?_
    refine v_iconst E dX1_signAt_25 ?_
    refine v_isub E dX1_signAt_26 ?_
    refine v_istore E dX1_signAt_27 (zlt hL rfl) (lv' := [(6, vi (((P.1 : Int) - 1) - 1)), (5, .ref ql_14), (4, .ref na), (0, .ref p), (1, vj n), (3, vi (e : Int))]) rfl ?_
    have loop_29 : ∀ (m_29 : Nat) (H : Heap) (vq : Nat) (j cb sb : Nat), P.1 - j < m_29 → (j ≤ P.1 - 1) → (8 * (P.1 - 1 - j) ≤ cb) → ((4 * K + N + 28) * (P.1 - 1 - j) ≤ sb) → BI κ H vq (sv P n e j) → BI κ H na n → V z H cb sb 29 [(6, vi ((P.1 : Int) - 2 - (j : Int))), (5, .ref vq), (4, .ref na), (3, vi (e : Int)), (1, vj n), (0, .ref p)] [] := by
      intro m_29
      induction m_29 with
      | zero => intro H vq j cb sb hm; exact absurd hm (by omega)
      | succ m_29 ih_29 =>
        intro H vq j cb sb hm_29 hj hcb hsb hv hna
        refine v_iload E 0 rfl dX1_signAt_29 ?_
        refine v_if_lt E (tgt := 70) dX1_signAt_31 (by decide) ⟨by omega, by omega⟩ (fun c_31 => ?_) (fun c_31 => ?_)
        · refine v_aload E 1 rfl dX1_signAt_70 ?_
          refine V.frame (fun hfz_fr_33 hfk_fr_33 => ?_)
          rw [hH0] at hfz_fr_33 hfk_fr_33
          rw [hA0] at hfk_fr_33
          have hC_fr_33 := hC.call (fun q h => h.elim) hfz_fr_33 hfk_fr_33
          have hF_fr_33 : kF κ H0 H (fun _ => False) := ⟨(fun _ h => h.elim), hfz_fr_33, hfk_fr_33⟩
          obtain ⟨mz_40, nz_40, cfz_40, ⟨c1z_40, c2z_40, c3z_40, ho_39⟩, -⟩ := id hv
          refine v_callV E (As := []) (b := vq) (ci := 6) (C := RJ16) (T := TJ16) (N := 6) ho_39 rfl (g_signum κ H hv) (lw_V q1152 q171 q172 q91 q173) 0 (by decide +kernel) rfl (by decide) (by decide) (cb' := (cb - 0)) (sb' := (sb - 0)) (by omega) (by omega) rfl (rest := []) (Nat.le_of_ble_eq_true rfl) (fun q h => h.elim) dX1_signAt_72 (fun v_34 H_35 hpost_36 hz_37 hk_38 => ?_)
          obtain rfl := hpost_36
          have hl_41 := BI.kf hC.D (kF.ext hz_37 hk_38) hv
          have hl_42 := BI.kf hC.D (kF.ext hz_37 hk_38) hna
          refine V.eq (st' := [vi (Int.sign (sv P n e j))]) rfl ?_
          refine v_iret E hE dX1_signAt_75 ?_
          have ej : j = P.1 - 1 := by omega
          rw [show cSg P n e = (cVal P n e).sign from if_neg (by omega), ← show sv P n e j = cVal P n e by rw [ej]; rfl]
        · refine v_aload E 1 rfl dX1_signAt_34 ?_
          refine v_aload E 2 rfl dX1_signAt_36 ?_
          refine V.frame (fun hfz_fr_45 hfk_fr_45 => ?_)
          rw [hH0] at hfz_fr_45 hfk_fr_45
          rw [hA0] at hfk_fr_45
          have hC_fr_45 := hC.call (fun q h => h.elim) hfz_fr_45 hfk_fr_45
          have hF_fr_45 : kF κ H0 H (fun _ => False) := ⟨(fun _ h => h.elim), hfz_fr_45, hfk_fr_45⟩
          obtain ⟨mz_52, nz_52, cfz_52, ⟨c1z_52, c2z_52, c3z_52, ho_51⟩, -⟩ := id hv
          refine v_callV E (As := [.ref na]) (b := vq) (ci := 6) (C := RJ16) (T := TJ16) (N := 6) ho_51 rfl (g_mul κ H (N := K) (M := 1) hC_fr_45 hv hna (hV.2.1 j (by omega)) (by omega) (Or.inr (by decide)) (sB_m (hV.2.1 j (by omega)) (show ((n.natAbs : Nat) : Int) < 2 ^ (32 * 1) by omega) (by have := hV.2.2; omega))) (lw_V q959 q960 q961 q91 q962) 1 (by decide +kernel) rfl (by decide) (by decide) (cb' := (cb - 3)) (sb' := (sb - (2 * (K + 1) + 7))) (by have e1 := mulS 8 (P.1 - 1) j (by omega); omega) (by have e1 := mulS (4 * K + N + 28) (P.1 - 1) j (by omega); omega) rfl (rest := []) (Nat.le_of_ble_eq_true rfl) (fun q h => h.elim) dX1_signAt_38 (fun v_46 H_47 hpost_48 hz_49 hk_50 => ?_)
          obtain ⟨qm_43, rfl, hBm_44⟩ := hpost_48
          have hl_53 := BI.kf hC.D (kF.ext hz_49 hk_50) hv
          have hl_54 := BI.kf hC.D (kF.ext hz_49 hk_50) hna
          refine V.eq (st' := [.ref qm_43]) rfl ?_
          refine v_aload_n E 5 rfl dX1_signAt_41 ?_
          refine v_iload E 0 rfl dX1_signAt_42 ?_
          refine V.topi (x' := ((P.1 - 2 - j : Nat) : Int)) (congrArg iZ (by omega)) ?_
          refine V.frame (fun hfz_fr_57 hfk_fr_57 => ?_)
          rw [hH0] at hfz_fr_57 hfk_fr_57
          rw [hA0] at hfk_fr_57
          have hC_fr_57 := hC.call (fun q h => h.elim) hfz_fr_57 hfk_fr_57
          have hF_fr_57 : kF κ H0 H_47 (fun _ => False) := ⟨(fun _ h => h.elim), hfz_fr_57, hfk_fr_57⟩
          have hb_63 := hF_fr_57.at hop (fun h => h)
          refine v_callV E (As := [vi ((P.1 - 2 - j : Nat) : Int)]) (b := p) (ci := 2) (C := RX3) (T := TX3) (N := 1) hb_63 rfl (p_at κ H_47 (i := (P.1 - 2 - j)) (by omega) hC_fr_57 (hP.kf hC hF_fr_57 aD.no)) (lw_V q467 q468 q469 q75 q470) 1 (by decide +kernel) rfl (by decide) (by decide) (cb' := ((cb - 3) - 0)) (sb' := ((sb - (2 * (K + 1) + 7)) - 0)) (by omega) (by omega) rfl (rest := [.ref qm_43]) (Nat.le_of_ble_eq_true rfl) (fun q h => h.elim) dX1_signAt_44 (fun v_58 H_59 hpost_60 hz_61 hk_62 => ?_)
          obtain ⟨qa_55, rfl, hBa_56⟩ := hpost_60
          have hl_64 := BI.kf hC.D (kF.ext hz_61 hk_62) hl_53
          have hl_65 := BI.kf hC.D (kF.ext hz_61 hk_62) hl_54
          have hl_66 := BI.kf hC.D (kF.ext hz_61 hk_62) hBm_44
          refine V.eq (st' := [.ref qa_55, .ref qm_43]) rfl ?_
          refine v_iload_n E 3 rfl dX1_signAt_47 ?_
          refine v_aload_n E 5 rfl dX1_signAt_48 ?_
          refine V.frame (fun hfz_fr_67 hfk_fr_67 => ?_)
          rw [hH0] at hfz_fr_67 hfk_fr_67
          rw [hA0] at hfk_fr_67
          have hC_fr_67 := hC.call (fun q h => h.elim) hfz_fr_67 hfk_fr_67
          have hF_fr_67 : kF κ H0 H_59 (fun _ => False) := ⟨(fun _ h => h.elim), hfz_fr_67, hfk_fr_67⟩
          have hb_73 := hF_fr_67.at hop (fun h => h)
          refine v_callV E (As := []) (b := p) (ci := 2) (C := RX3) (T := TX3) (N := 1) hb_73 rfl (p_deg κ H_59 hC_fr_67 (hP.kf hC hF_fr_67 aD.no)) (lw_V q617 q618 q619 q75 q620) 0 (by decide +kernel) rfl (by decide) (by decide) (cb' := (((cb - 3) - 0) - 0)) (sb' := (((sb - (2 * (K + 1) + 7)) - 0) - 0)) (by omega) (by omega) rfl (rest := [vi (e : Int), .ref qa_55, .ref qm_43]) (Nat.le_of_ble_eq_true rfl) (fun q h => h.elim) dX1_signAt_49 (fun v_68 H_69 hpost_70 hz_71 hk_72 => ?_)
          obtain rfl := hpost_70
          have hl_74 := BI.kf hC.D (kF.ext hz_71 hk_72) hl_64
          have hl_75 := BI.kf hC.D (kF.ext hz_71 hk_72) hl_65
          have hl_76 := BI.kf hC.D (kF.ext hz_71 hk_72) hl_66
          have hl_77 := BI.kf hC.D (kF.ext hz_71 hk_72) hBa_56
          refine V.eq (st' := [vi ((P.1 : Int) - 1), vi (e : Int), .ref qa_55, .ref qm_43]) rfl ?_
          refine v_iload E 0 rfl dX1_signAt_52 ?_
          refine v_isub E dX1_signAt_54 ?_
          refine v_imul E dX1_signAt_55 ?_
          obtain ⟨s9, hs9⟩ : ∃ s9, s9 = e * (j + 1) := ⟨_, rfl⟩
          have hs96 : s9 ≤ 96 := by rw [hs9]; exact Nat.le_trans (Nat.mul_le_mul he (show j + 1 ≤ 6 by omega)) (by decide)
          refine V.topi (x' := ((32 * (s9 / 32) + s9 % 32 : Nat) : Int)) (congrArg iZ (by rw [show 32 * (s9 / 32) + s9 % 32 = s9 by omega, hs9, Int.natCast_mul, show (P.1 : Int) - 1 - ((P.1 : Int) - 2 - (j : Int)) = ((j + 1 : Nat) : Int) by omega])) ?_
          refine V.frame (fun hfz_fr_78 hfk_fr_78 => ?_)
          rw [hH0] at hfz_fr_78 hfk_fr_78
          rw [hA0] at hfk_fr_78
          have hC_fr_78 := hC.call (fun q h => h.elim) hfz_fr_78 hfk_fr_78
          have hF_fr_78 : kF κ H0 H_69 (fun _ => False) := ⟨(fun _ h => h.elim), hfz_fr_78, hfk_fr_78⟩
          obtain ⟨mz_85, nz_85, cfz_85, ⟨c1z_85, c2z_85, c3z_85, ho_84⟩, -⟩ := id hl_77
          refine v_callV E (As := [vi ((32 * (s9 / 32) + s9 % 32 : Nat) : Int)]) (b := qa_55) (ci := 6) (C := RJ16) (T := TJ16) (N := 6) ho_84 rfl (g_shl κ H_69 (u := s9 / 32) (b := s9 % 32) (N := N) hC_fr_78 hl_77 (by omega) (by omega) (hV.1 _) (by rw [show 32 * (s9 / 32) + s9 % 32 = s9 by omega]; have h9 := (shl_bd (hV.1 (P.1 - 2 - j)) hs96 hV.2.2.1).2; exact Int.lt_of_lt_of_le h9 (pw_mono (by have := hV.2.2.2; omega)))) (lw_V q1536 q1034 q1035 q91 q1036) 1 (by decide +kernel) rfl (by decide) (by decide) (cb' := ((((cb - 3) - 0) - 0) - 2)) (sb' := ((((sb - (2 * (K + 1) + 7)) - 0) - 0) - (N + 10))) (by have e1 := mulS 8 (P.1 - 1) j (by omega); omega) (by have e1 := mulS (4 * K + N + 28) (P.1 - 1) j (by omega); omega) rfl (rest := [.ref qm_43]) (Nat.le_of_ble_eq_true rfl) (fun q h => h.elim) dX1_signAt_56 (fun v_79 H_80 hpost_81 hz_82 hk_83 => ?_)
          obtain ⟨qh, rfl, hBh0⟩ := hpost_81
          have hl_86 := BI.kf hC.D (kF.ext hz_82 hk_83) hl_74
          have hl_87 := BI.kf hC.D (kF.ext hz_82 hk_83) hl_75
          have hl_88 := BI.kf hC.D (kF.ext hz_82 hk_83) hl_76
          have hl_89 := BI.kf hC.D (kF.ext hz_82 hk_83) hl_77
          rw [show 32 * (s9 / 32) + s9 % 32 = s9 by omega] at hBh0
          refine V.eq (st' := [.ref qh, .ref qm_43]) rfl ?_
          refine V.frame (fun hfz_fr_90 hfk_fr_90 => ?_)
          rw [hH0] at hfz_fr_90 hfk_fr_90
          rw [hA0] at hfk_fr_90
          have hC_fr_90 := hC.call (fun q h => h.elim) hfz_fr_90 hfk_fr_90
          have hF_fr_90 : kF κ H0 H_80 (fun _ => False) := ⟨(fun _ h => h.elim), hfz_fr_90, hfk_fr_90⟩
          obtain ⟨mz_97, nz_97, cfz_97, ⟨c1z_97, c2z_97, c3z_97, ho_96⟩, -⟩ := id hl_88
          refine v_callV E (As := [.ref qh]) (b := qm_43) (ci := 6) (C := RJ16) (T := TJ16) (N := 6) ho_96 rfl (g_add κ H_80 (N := K + 1) hC_fr_90 hl_88 hBh0 (prod_lt (M := 1) (hV.2.1 j (by omega)) (show ((n.natAbs : Nat) : Int) < 2 ^ (32 * 1) by omega)) (shl_bd (hV.1 _) hs96 hV.2.2.1).1 (sB_s (prod_lt (M := 1) (hV.2.1 j (by omega)) (show ((n.natAbs : Nat) : Int) < 2 ^ (32 * 1) by omega)) (shl_bd (hV.1 _) hs96 hV.2.2.1).1 (by have := hV.2.2.2; omega))) (lw_V q704 q705 q706 q91 q707) 1 (by decide +kernel) rfl (by decide) (by decide) (cb' := (((((cb - 3) - 0) - 0) - 2) - 3)) (sb' := (((((sb - (2 * (K + 1) + 7)) - 0) - 0) - (N + 10)) - (2 * (K + 1) + 7))) (by have e1 := mulS 8 (P.1 - 1) j (by omega); omega) (by have e1 := mulS (4 * K + N + 28) (P.1 - 1) j (by omega); omega) rfl (rest := []) (Nat.le_of_ble_eq_true rfl) (fun q h => h.elim) dX1_signAt_59 (fun v_91 H_92 hpost_93 hz_94 hk_95 => ?_)
          obtain ⟨qv, rfl, hBv0⟩ := hpost_93
          have hl_98 := BI.kf hC.D (kF.ext hz_94 hk_95) hl_86
          have hl_99 := BI.kf hC.D (kF.ext hz_94 hk_95) hl_87
          have hl_100 := BI.kf hC.D (kF.ext hz_94 hk_95) hl_88
          have hl_101 := BI.kf hC.D (kF.ext hz_94 hk_95) hl_89
          have hl_102 := BI.kf hC.D (kF.ext hz_94 hk_95) hBh0
          have hBv : BI κ H_92 qv (sv P n e (j + 1)) := by rw [hs9] at hBv0; exact hBv0
          refine V.eq (st' := [.ref qv]) rfl ?_
          refine v_astore E dX1_signAt_62 (zlt hL rfl) (lv' := [(5, .ref qv), (6, vi ((P.1 : Int) - 2 - (j : Int))), (4, .ref na), (3, vi (e : Int)), (1, vj n), (0, .ref p)]) rfl ?_
          refine v_iinc E 1 rfl dX1_signAt_64 (zlt hL rfl) (lv' := [(6, vi (((P.1 : Int) - 2 - (j : Int)) + (-1))), (5, .ref qv), (4, .ref na), (3, vi (e : Int)), (1, vj n), (0, .ref p)]) rfl ?_
          refine v_goto E (tgt := 29) dX1_signAt_67 (by decide) ?_
          exact V.eqL (by rw [show (P.1 : Int) - 2 - (j : Int) + (-1) = (P.1 : Int) - 2 - ((j + 1 : Nat) : Int) by omega]) (ih_29  H_92 _ (j + 1) (((((cb - 3) - 0) - 0) - 2) - 3) (((((sb - (2 * (K + 1) + 7)) - 0) - 0) - (N + 10)) - (2 * (K + 1) + 7)) (by omega) (by omega) (by have e1 := mulS 8 (P.1 - 1) j (by omega); omega) (by have e1 := mulS (4 * K + N + 28) (P.1 - 1) j (by omega); omega) hBv hl_99)
    refine V.sub [0, 1, 2, 5, 4, 3] (lv' := [(6, vi (((P.1 : Int) - 1) - 1)), (5, .ref ql_14), (4, .ref na), (3, vi (e : Int)), (1, vj n), (0, .ref p)]) rfl ?_
    exact V.eqL (by rw [show (P.1 : Int) - 1 - 1 = (P.1 : Int) - 2 - ((0 : Nat) : Int) by omega]) (loop_29 (P.1 + 1) H_26 ql_14 0 (((sgC P.1 - 2) - 0) - 0) (((sgL N K P.1 - 8) - 0) - 0) (by omega) (by omega) (by rw [Nat.sub_zero]; unfold sgC; omega) (by rw [Nat.sub_zero]; unfold sgL; omega) hl_32 hl_31)
  · refine v_iconst E dX1_signAt_7 ?_
    refine v_iret E hE dX1_signAt_8 ?_
    exact congrArg (fun t => some (vi t)) (if_pos (show P.1 = 0 by omega)).symm

set_option maxHeartbeats 400000 in
set_option maxRecDepth 100000 in
/-- changesAt -/
theorem p_chg (κ : zK) (H0 : Heap) {l L : Nat} {s : Nat → Pl} {D : Nat → Prop} {n : Int} {e : Nat} {Nt Kt : Nat → Nat} (hC : CO κ H0) (hn : -4294967296 < n ∧ n < 4294967296) (he : e ≤ 12) (hEl : ∀ i, i < L → (s i).1 ≤ 7 ∧ fitV (s i) n e (Nt (s i).1) (Kt (s i).1)) (hS : SQ κ D H0 l L s)  : Mt κ yX1_changesAt cX1_changesAt 9 (some .int) 7 181 (1 + sumN (fun i => sgC (s i).1) L) (4 + sumN (fun i => sgL (Nt (s i).1) (Kt (s i).1) (s i).1) L) H0 [.ref l, vj n, vi (e : Int)] (fun _ => False) (fun v H1 => v = some (vi ((chG (fun i => cSg (s i) n e) L : Nat) : Int))) := by
  refine Mt.of (by decide) (Nat.le_of_ble_eq_true rfl) ?_
  intro z E hE hH0 hA0 hL hini
  have hAll : ∀ q, (fun _ => False) q → zA z.A z.H0 q := fun q h => Or.inl (by rw [hA0]; exact h)
  have hNew : ∀ q, H0.size ≤ q → zA z.A z.H0 q := fun q h => Or.inr (by rw [hH0]; exact h)
  have E : zOK z cX1_changesAt RX1 κ 7 181 (some .int) := E
  refine V.eqL (lv' := [(0, .ref l), (1, vj n), (3, vi (e : Int))]) rfl ?_
  obtain ⟨b, cap, md, g, hA, hel, hDl, hDb⟩ := id hS
  have hD := hC.D
  have hL1 : L ≤ 1000 := Nat.le_trans hA.2.2.1 hA.2.2.2.2.1
  refine v_iconst E dX1_changesAt_0 ?_
  refine v_istore E dX1_changesAt_1 (zlt hL rfl) (lv' := [(4, vi 0), (0, .ref l), (1, vj n), (3, vi (e : Int))]) rfl ?_
  refine v_iconst E dX1_changesAt_3 ?_
  refine v_istore E dX1_changesAt_4 (zlt hL rfl) (lv' := [(5, vi 0), (4, vi 0), (0, .ref l), (1, vj n), (3, vi (e : Int))]) rfl ?_
  refine v_aload_n E 2 rfl dX1_changesAt_6 ?_
  refine V.frame (fun hfz_fr_1 hfk_fr_1 => ?_)
  rw [hH0] at hfz_fr_1 hfk_fr_1
  rw [hA0] at hfk_fr_1
  have hC_fr_1 := hC.call (fun q h => h.elim) hfz_fr_1 hfk_fr_1
  have hF_fr_1 : kF κ H0 H0 (fun _ => False) := ⟨(fun _ h => h.elim), hfz_fr_1, hfk_fr_1⟩
  have hb_7 := hF_fr_1.at hA.1 (fun h => h)
  refine v_callV E (As := []) (b := l) (ci := 5) (C := RJ2) (T := TJ2) (N := 3) hb_7 rfl (j_iter κ H0 hC_fr_1 (hA.kf hC hF_fr_1 (fun h => h) (fun _ h => h))) (lw_V q291 q292 q293 q73 q294) 0 (by decide +kernel) rfl (by decide) (by decide) (cb' := ((1 + sumN (fun i => sgC (s i).1) L) - 1)) (sb' := ((4 + sumN (fun i => sgL (Nt (s i).1) (Kt (s i).1) (s i).1) L) - 4)) (by omega) (by omega) rfl (rest := []) (Nat.le_of_ble_eq_true rfl) (fun q h => h.elim) dX1_changesAt_7 (fun v_2 H_3 hpost_4 hz_5 hk_6 => ?_)
  obtain ⟨it, rfl, hitH, hitI⟩ := hpost_4
  have hitH : H0.size ≤ it := Nat.le_trans hfz_fr_1 hitH
  refine V.eq (st' := [.ref it]) rfl ?_
  refine v_astore E dX1_changesAt_10 (zlt hL rfl) (lv' := [(6, .ref it), (5, vi 0), (4, vi 0), (0, .ref l), (1, vj n), (3, vi (e : Int))]) rfl ?_
  have loop_12 : ∀ (m_12 : Nat) (H : Heap) (k cb sb : Nat) (r : Int), L - k < m_12 → (k ≤ L) → (sumN (fun i => sgC (s i).1) L - sumN (fun i => sgC (s i).1) k ≤ cb) → (sumN (fun i => sgL (Nt (s i).1) (Kt (s i).1) (s i).1) L - sumN (fun i => sgL (Nt (s i).1) (Kt (s i).1) (s i).1) k ≤ sb) → IT κ H it l (k : Int) r md → V z H cb sb 12 [(6, .ref it), (5, vi (lsG (fun i => cSg (s i) n e) k)), (4, vi ((chG (fun i => cSg (s i) n e) k : Nat) : Int)), (3, vi (e : Int)), (1, vj n)] [] := by
    intro m_12
    induction m_12 with
    | zero => intro H k cb sb r hm; exact absurd hm (by omega)
    | succ m_12 ih_12 =>
      intro H k cb sb r hm_12 hk hcb hsb hI
      have hl3 := lsG_3 (s := (fun i => cSg (s i) n e)) (fun i => cSg_3 (s i) n e) k
      have hc3 := cSg_3 (s k) n e
      have hcl := chG_le (fun i => cSg (s i) n e) k
      have hm3 := mul3 hc3 hl3
      refine v_aload E 0 rfl dX1_changesAt_12 ?_
      refine V.frame (fun hfz_fr_8 hfk_fr_8 => ?_)
      rw [hH0] at hfz_fr_8 hfk_fr_8
      rw [hA0] at hfk_fr_8
      have hC_fr_8 := hC.call (fun q h => h.elim) hfz_fr_8 hfk_fr_8
      have hF_fr_8 : kF κ H0 H (fun _ => False) := ⟨(fun _ h => h.elim), hfz_fr_8, hfk_fr_8⟩
      refine v_callF E (As := []) (b := it) (ci := 7) (C := RJ17) (T := TJ17) (N := 4) hI.1 rfl (j_hasNext κ H hC_fr_8 (by omega) (hA.kf hC hF_fr_8 (fun h => h) (fun _ h => h)) hI) (by decide +kernel) (lw_F q321 q325 q327 q92 q329) 0 (by decide +kernel) rfl (by decide) (by decide) (cb' := (cb - 0)) (sb' := (sb - 0)) (by omega) (by omega) rfl (rest := []) (Nat.le_of_ble_eq_true rfl) (fun q h => h.elim) dX1_changesAt_14 (fun v_9 H_10 hpost_11 hz_12 hk_13 => ?_)
      obtain rfl := hpost_11
      have hl_14 := IT.kf (kF.ext hz_12 hk_13) hI (fun h => h)
      by_cases hkn : k = L
      ·
        refine V.eq (st' := [vi 0]) (by rw [if_pos (show ((k : Nat) : Int) = ((L : Nat) : Int) by omega)]; rfl) ?_
        refine v_if_eq E (tgt := 78) dX1_changesAt_19 (by decide) ⟨by omega, by omega⟩ (fun c_19 => ?_) (fun c_19 => absurd c_19 (by omega))
        refine v_iload E 2 rfl dX1_changesAt_78 ?_
        refine v_iret E hE dX1_changesAt_80 ?_
        rw [show k = L from hkn]
      ·
        refine V.eq (st' := [vi 1]) (by rw [if_neg (show ¬ ((k : Nat) : Int) = ((L : Nat) : Int) by omega)]; rfl) ?_
        refine v_if_eq E (tgt := 78) dX1_changesAt_19 (by decide) ⟨by omega, by omega⟩ (fun c_19 => absurd c_19 (by omega)) (fun c_19 => ?_)
        refine v_aload E 0 rfl dX1_changesAt_22 ?_
        obtain ⟨y_15, hy_16, hEy_17⟩ := hel k (by omega)
        refine V.frame (fun hfz_fr_18 hfk_fr_18 => ?_)
        rw [hH0] at hfz_fr_18 hfk_fr_18
        rw [hA0] at hfk_fr_18
        have hC_fr_18 := hC.call (fun q h => h.elim) hfz_fr_18 hfk_fr_18
        have hF_fr_18 : kF κ H0 H_10 (fun _ => False) := ⟨(fun _ h => h.elim), hfz_fr_18, hfk_fr_18⟩
        refine v_callF E (As := []) (b := it) (ci := 7) (C := RJ17) (T := TJ17) (N := 4) hl_14.1 rfl (j_next7 κ H_10 hC_fr_18 (i := k) (y := y_15) (by omega) hy_16 (hA.kf hC hF_fr_18 (fun h => h) (fun _ h => h)) hl_14) (by decide +kernel) (lw_F q334 q337 q339 q92 q341) 0 (by decide +kernel) rfl (by decide) (by decide) (cb' := ((cb - 0) - 0)) (sb' := ((sb - 0) - 0)) (by omega) (by omega) rfl (rest := []) (Nat.le_of_ble_eq_true rfl) (fun q9 h => hNew q9 (by rw [show q9 = it from h]; exact hitH)) dX1_changesAt_24 (fun v_19 H_20 hpost_21 hz_22 hk_23 => ?_)
        obtain ⟨rfl, hI_24⟩ := hpost_21
        have hl_25 := Po.kf hC_fr_18 (kF.itr hl_14 (fun q h => h) hz_22 hk_23) (aD.it hl_14 (fun q h => h)) (Po.kf hC hF_fr_18 aD.no hEy_17)
        refine V.eq (st' := [.ref y_15]) rfl ?_
        obtain ⟨-, -, l_27, ho_26, -⟩ := id hl_25
        refine v_castS E ho_26 (q := (RX3, TX3, 1)) rfl q145 dX1_changesAt_29 ?_
        refine v_astore E dX1_changesAt_32 (zlt hL rfl) (lv' := [(7, .ref y_15), (6, .ref it), (5, vi (lsG (fun i => cSg (s i) n e) k)), (4, vi ((chG (fun i => cSg (s i) n e) k : Nat) : Int)), (3, vi (e : Int)), (1, vj n)]) rfl ?_
        refine v_aload E 0 rfl dX1_changesAt_34 ?_
        refine v_lload_n E 5 rfl dX1_changesAt_36 ?_
        refine v_iload_n E 4 rfl dX1_changesAt_37 ?_
        refine V.frame (fun hfz_fr_28 hfk_fr_28 => ?_)
        rw [hH0] at hfz_fr_28 hfk_fr_28
        rw [hA0] at hfk_fr_28
        have hC_fr_28 := hC.call (fun q h => h.elim) hfz_fr_28 hfk_fr_28
        have hF_fr_28 : kF κ H0 H_20 (fun _ => False) := ⟨(fun _ h => h.elim), hfz_fr_28, hfk_fr_28⟩
        refine v_callS E (As := [.ref y_15, vj n, vi (e : Int)]) (p_sg κ H_20 (N := Nt (s k).1) (K := Kt (s k).1) hC_fr_28 hn he (hEl k (by omega)).1 (hEl k (by omega)).2 hl_25) (lw_S q1533 q1534 q70 q1535) 3 (by decide +kernel) rfl (by decide) (by decide) (cb' := (((cb - 0) - 0) - sgC (s k).1)) (sb' := (((sb - 0) - 0) - sgL (Nt (s k).1) (Kt (s k).1) (s k).1)) (by have e1 := sumN_s (fun i => sgC (s i).1) (k := k) (n := L) (by omega); omega) (by have e1 := sumN_s (fun i => sgL (Nt (s i).1) (Kt (s i).1) (s i).1) (k := k) (n := L) (by omega); omega) rfl (rest := []) (Nat.le_of_ble_eq_true rfl) (fun q h => h.elim) dX1_changesAt_38 (fun v_29 H_30 hpost_31 hz_32 hk_33 => ?_)
        obtain rfl := hpost_31
        have hl_34 := Po.kf hC_fr_28 (kF.ext hz_32 hk_33) aD.no hl_25
        have hl_35 := IT.kf (kF.ext hz_32 hk_33) hI_24 (fun h => h)
        refine V.eq (st' := [vi (cSg (s k) n e)]) rfl ?_
        refine v_istore E dX1_changesAt_41 (zlt hL rfl) (lv' := [(8, vi (cSg (s k) n e)), (7, .ref y_15), (6, .ref it), (5, vi (lsG (fun i => cSg (s i) n e) k)), (4, vi ((chG (fun i => cSg (s i) n e) k : Nat) : Int)), (3, vi (e : Int)), (1, vj n)]) rfl ?_
        refine v_iload E 4 rfl dX1_changesAt_43 ?_
        refine v_iload E 0 rfl dX1_changesAt_45 ?_
        refine v_iload E 3 rfl dX1_changesAt_47 ?_
        refine v_imul E dX1_changesAt_49 ?_
        refine v_if_ge E (tgt := 57) dX1_changesAt_50 (by decide) hm3 (fun c_50 => ?_) (fun c_50 => ?_)
        · refine v_iconst E dX1_changesAt_57 ?_
          refine v_iadd E dX1_changesAt_58 ?_
          refine v_istore E dX1_changesAt_59 (zlt hL rfl) (lv' := [(4, vi (((chG (fun i => cSg (s i) n e) k : Nat) : Int) + 0)), (8, vi (cSg (s k) n e)), (7, .ref y_15), (6, .ref it), (5, vi (lsG (fun i => cSg (s i) n e) k)), (3, vi (e : Int)), (1, vj n)]) rfl ?_
          refine v_iload E 1 rfl dX1_changesAt_61 ?_
          refine v_if_ne E (tgt := 71) dX1_changesAt_63 (by decide) ⟨by omega, by omega⟩ (fun c_63 => ?_) (fun c_63 => ?_)
          · refine v_iload E 1 rfl dX1_changesAt_71 ?_
            refine v_istore E dX1_changesAt_73 (zlt hL rfl) (lv' := [(5, vi (cSg (s k) n e)), (4, vi (((chG (fun i => cSg (s i) n e) k : Nat) : Int) + 0)), (8, vi (cSg (s k) n e)), (7, .ref y_15), (6, .ref it), (3, vi (e : Int)), (1, vj n)]) rfl ?_
            refine v_goto E (tgt := 12) dX1_changesAt_75 (by decide) ?_
            refine V.sub [4, 0, 1, 5, 6] (lv' := [(6, .ref it), (5, vi (cSg (s k) n e)), (4, vi (((chG (fun i => cSg (s i) n e) k : Nat) : Int) + 0)), (3, vi (e : Int)), (1, vj n)]) rfl ?_
            exact V.eqL (by rw [show ((chG (fun i => cSg (s i) n e) (k + 1) : Nat) : Int) = ((chG (fun i => cSg (s i) n e) k : Nat) : Int) + 0 by show ((chG (fun i => cSg (s i) n e) k + _ : Nat) : Int) = _; rw [if_neg (show ¬ cSg (s k) n e * lsG (fun i => cSg (s i) n e) k < 0 by omega)]; omega, show lsG (fun i => cSg (s i) n e) (k + 1) = cSg (s k) n e from if_neg (show ¬ cSg (s k) n e = 0 by omega)]) (ih_12  H_30 (k + 1) (((cb - 0) - 0) - sgC (s k).1) (((sb - 0) - 0) - sgL (Nt (s k).1) (Kt (s k).1) (s k).1) _ (by omega) (by omega) (by have e1 := sumN_s (fun i => sgC (s i).1) (k := k) (n := L) (by omega); omega) (by have e1 := sumN_s (fun i => sgL (Nt (s i).1) (Kt (s i).1) (s i).1) (k := k) (n := L) (by omega); omega) hl_35)
          · refine v_iload E 4 rfl dX1_changesAt_66 ?_
            refine v_goto E (tgt := 73) dX1_changesAt_68 (by decide) ?_
            refine v_istore E dX1_changesAt_73 (zlt hL rfl) (lv' := [(5, vi (lsG (fun i => cSg (s i) n e) k)), (4, vi (((chG (fun i => cSg (s i) n e) k : Nat) : Int) + 0)), (8, vi (cSg (s k) n e)), (7, .ref y_15), (6, .ref it), (3, vi (e : Int)), (1, vj n)]) rfl ?_
            refine v_goto E (tgt := 12) dX1_changesAt_75 (by decide) ?_
            refine V.sub [4, 0, 1, 5, 6] (lv' := [(6, .ref it), (5, vi (lsG (fun i => cSg (s i) n e) k)), (4, vi (((chG (fun i => cSg (s i) n e) k : Nat) : Int) + 0)), (3, vi (e : Int)), (1, vj n)]) rfl ?_
            exact V.eqL (by rw [show ((chG (fun i => cSg (s i) n e) (k + 1) : Nat) : Int) = ((chG (fun i => cSg (s i) n e) k : Nat) : Int) + 0 by show ((chG (fun i => cSg (s i) n e) k + _ : Nat) : Int) = _; rw [if_neg (show ¬ cSg (s k) n e * lsG (fun i => cSg (s i) n e) k < 0 by omega)]; omega, show lsG (fun i => cSg (s i) n e) (k + 1) = lsG (fun i => cSg (s i) n e) k from if_pos (show cSg (s k) n e = 0 by omega)]) (ih_12  H_30 (k + 1) (((cb - 0) - 0) - sgC (s k).1) (((sb - 0) - 0) - sgL (Nt (s k).1) (Kt (s k).1) (s k).1) _ (by omega) (by omega) (by have e1 := sumN_s (fun i => sgC (s i).1) (k := k) (n := L) (by omega); omega) (by have e1 := sumN_s (fun i => sgL (Nt (s i).1) (Kt (s i).1) (s i).1) (k := k) (n := L) (by omega); omega) hl_35)
        · refine v_iconst E dX1_changesAt_53 ?_
          refine v_goto E (tgt := 58) dX1_changesAt_54 (by decide) ?_
          refine v_iadd E dX1_changesAt_58 ?_
          refine v_istore E dX1_changesAt_59 (zlt hL rfl) (lv' := [(4, vi (((chG (fun i => cSg (s i) n e) k : Nat) : Int) + 1)), (8, vi (cSg (s k) n e)), (7, .ref y_15), (6, .ref it), (5, vi (lsG (fun i => cSg (s i) n e) k)), (3, vi (e : Int)), (1, vj n)]) rfl ?_
          refine v_iload E 1 rfl dX1_changesAt_61 ?_
          refine v_if_ne E (tgt := 71) dX1_changesAt_63 (by decide) ⟨by omega, by omega⟩ (fun c_63 => ?_) (fun c_63 => ?_)
          · refine v_iload E 1 rfl dX1_changesAt_71 ?_
            refine v_istore E dX1_changesAt_73 (zlt hL rfl) (lv' := [(5, vi (cSg (s k) n e)), (4, vi (((chG (fun i => cSg (s i) n e) k : Nat) : Int) + 1)), (8, vi (cSg (s k) n e)), (7, .ref y_15), (6, .ref it), (3, vi (e : Int)), (1, vj n)]) rfl ?_
            refine v_goto E (tgt := 12) dX1_changesAt_75 (by decide) ?_
            refine V.sub [4, 0, 1, 5, 6] (lv' := [(6, .ref it), (5, vi (cSg (s k) n e)), (4, vi (((chG (fun i => cSg (s i) n e) k : Nat) : Int) + 1)), (3, vi (e : Int)), (1, vj n)]) rfl ?_
            exact V.eqL (by rw [show ((chG (fun i => cSg (s i) n e) (k + 1) : Nat) : Int) = ((chG (fun i => cSg (s i) n e) k : Nat) : Int) + 1 by show ((chG (fun i => cSg (s i) n e) k + _ : Nat) : Int) = _; rw [if_pos (show cSg (s k) n e * lsG (fun i => cSg (s i) n e) k < 0 by omega)]; omega, show lsG (fun i => cSg (s i) n e) (k + 1) = cSg (s k) n e from if_neg (show ¬ cSg (s k) n e = 0 by omega)]) (ih_12  H_30 (k + 1) (((cb - 0) - 0) - sgC (s k).1) (((sb - 0) - 0) - sgL (Nt (s k).1) (Kt (s k).1) (s k).1) _ (by omega) (by omega) (by have e1 := sumN_s (fun i => sgC (s i).1) (k := k) (n := L) (by omega); omega) (by have e1 := sumN_s (fun i => sgL (Nt (s i).1) (Kt (s i).1) (s i).1) (k := k) (n := L) (by omega); omega) hl_35)
          · refine v_iload E 4 rfl dX1_changesAt_66 ?_
            refine v_goto E (tgt := 73) dX1_changesAt_68 (by decide) ?_
            refine v_istore E dX1_changesAt_73 (zlt hL rfl) (lv' := [(5, vi (lsG (fun i => cSg (s i) n e) k)), (4, vi (((chG (fun i => cSg (s i) n e) k : Nat) : Int) + 1)), (8, vi (cSg (s k) n e)), (7, .ref y_15), (6, .ref it), (3, vi (e : Int)), (1, vj n)]) rfl ?_
            refine v_goto E (tgt := 12) dX1_changesAt_75 (by decide) ?_
            refine V.sub [4, 0, 1, 5, 6] (lv' := [(6, .ref it), (5, vi (lsG (fun i => cSg (s i) n e) k)), (4, vi (((chG (fun i => cSg (s i) n e) k : Nat) : Int) + 1)), (3, vi (e : Int)), (1, vj n)]) rfl ?_
            exact V.eqL (by rw [show ((chG (fun i => cSg (s i) n e) (k + 1) : Nat) : Int) = ((chG (fun i => cSg (s i) n e) k : Nat) : Int) + 1 by show ((chG (fun i => cSg (s i) n e) k + _ : Nat) : Int) = _; rw [if_pos (show cSg (s k) n e * lsG (fun i => cSg (s i) n e) k < 0 by omega)]; omega, show lsG (fun i => cSg (s i) n e) (k + 1) = lsG (fun i => cSg (s i) n e) k from if_pos (show cSg (s k) n e = 0 by omega)]) (ih_12  H_30 (k + 1) (((cb - 0) - 0) - sgC (s k).1) (((sb - 0) - 0) - sgL (Nt (s k).1) (Kt (s k).1) (s k).1) _ (by omega) (by omega) (by have e1 := sumN_s (fun i => sgC (s i).1) (k := k) (n := L) (by omega); omega) (by have e1 := sumN_s (fun i => sgL (Nt (s i).1) (Kt (s i).1) (s i).1) (k := k) (n := L) (by omega); omega) hl_35)
  refine V.sub [0, 1, 2, 5, 4] (lv' := [(6, .ref it), (5, vi 0), (4, vi 0), (3, vi (e : Int)), (1, vj n)]) rfl ?_
  exact loop_12 (L + 1) H_3 0 ((1 + sumN (fun i => sgC (s i).1) L) - 1) ((4 + sumN (fun i => sgL (Nt (s i).1) (Kt (s i).1) (s i).1) L) - 4) (-1) (by omega) (Nat.zero_le _) (by show sumN _ _ - 0 ≤ _; omega) (by show sumN _ _ - 0 ≤ _; omega) hitI
