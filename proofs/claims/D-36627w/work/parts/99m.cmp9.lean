/-! POLYNOMIALS OF THE COMPONENT: divisorOf -/
def dq (P Q : Pl) : Nat → Pl
  | 0 => P
  | 1 => Q
  | k + 2 => cPrim (cRem (dq P Q k) (dq P Q (k + 1)))
def dvK (P Q : Pl) : Nat → Nat → Nat
  | 0, k => k
  | f + 1, k => if (dq P Q (k + 1)).1 = 0 then k else dvK P Q f (k + 1)
def cDiv (P Q : Pl) : Pl := cPos (cPrim (dq P Q (dvK P Q 9 0)))
def fitD (P Q : Pl) (N : Nat → Nat → Nat) (M : Nat → Nat) : Prop := (∀ j, ((P.2 j).natAbs : Int) < 2 ^ (32 * M P.1)) ∧ ∀ k, (∀ i, i ≤ k → 0 < (dq P Q (i + 1)).1) → fitS (dq P Q k) (dq P Q (k + 1)) (N (dq P Q k).1 (dq P Q (k + 1)).1) ∧ ∀ j, (((dq P Q (k + 1)).2 j).natAbs : Int) < 2 ^ (32 * M (dq P Q (k + 1)).1)
def dvC (N : Nat → Nat → Nat) (M : Nat → Nat) : Nat → Nat → Nat → Nat
  | 0, _, _ => 0
  | f + 1, n, m => if m = 0 then prC (M n) n + (n + 4) else 1 + rmC m n + prC (N n m) (m - 1) + sup (dvC N M f m) m
def dvL (N : Nat → Nat → Nat) (M : Nat → Nat) : Nat → Nat → Nat → Nat
  | 0, _, _ => 0
  | f + 1, n, m => if m = 0 then prL (M n) n + (6 * n + 18) else 6 + rmL m (N n m + M m) n + prL (N n m) (m - 1) + sup (dvL N M f m) m
theorem dvC_s {N : Nat → Nat → Nat} {M : Nat → Nat} {f n m m' : Nat} (hf : 0 < f) (hm : 0 < m) (h : m' < m) : 1 + rmC m n + prC (N n m) (m - 1) + dvC N M (f - 1) m m' ≤ dvC N M f n m := by
  match f, hf with
  | f + 1, _ =>
    have h1 := sup_le (g := dvC N M f m) h
    have h2 : dvC N M (f + 1) n m = 1 + rmC m n + prC (N n m) (m - 1) + sup (dvC N M f m) m := if_neg (by omega)
    show _ + dvC N M f m m' ≤ _
    omega
theorem dvL_s {N : Nat → Nat → Nat} {M : Nat → Nat} {f n m m' : Nat} (hf : 0 < f) (hm : 0 < m) (h : m' < m) : 6 + rmL m (N n m + M m) n + prL (N n m) (m - 1) + dvL N M (f - 1) m m' ≤ dvL N M f n m := by
  match f, hf with
  | f + 1, _ =>
    have h1 := sup_le (g := dvL N M f m) h
    have h2 : dvL N M (f + 1) n m = 6 + rmL m (N n m + M m) n + prL (N n m) (m - 1) + sup (dvL N M f m) m := if_neg (by omega)
    show _ + dvL N M f m m' ≤ _
    omega
theorem dvC_e {N : Nat → Nat → Nat} {M : Nat → Nat} {f n m : Nat} (hf : 0 < f) (hm : m = 0) : dvC N M f n m = prC (M n) n + (n + 4) := by
  match f, hf with
  | f + 1, _ => exact if_pos hm
theorem dvL_e {N : Nat → Nat → Nat} {M : Nat → Nat} {f n m : Nat} (hf : 0 < f) (hm : m = 0) : dvL N M f n m = prL (M n) n + (6 * n + 18) := by
  match f, hf with
  | f + 1, _ => exact if_pos hm
theorem dvK_s {P Q : Pl} {f k : Nat} (hf : 0 < f) (h : (dq P Q (k + 1)).1 ≠ 0) : dvK P Q f k = dvK P Q (f - 1) (k + 1) := by
  match f, hf with
  | f + 1, _ => exact if_neg h
theorem dvK_e {P Q : Pl} {f k : Nat} (h : (dq P Q (k + 1)).1 = 0) : dvK P Q f k = k := by
  match f with
  | 0 => rfl
  | f + 1 => exact if_pos h
theorem cPrim_le (P : Pl) : (cPrim P).1 ≤ P.1 := by
  unfold cPrim
  split
  · exact Nat.le_refl _
  · exact pl_le _ _
set_option maxHeartbeats 1000000 in
set_option maxRecDepth 100000 in
/-- divisorOf -/
theorem p_div (κ : zK) (H0 : Heap) {p q : Nat} {P B : Pl} {D : Nat → Prop} {N : Nat → Nat → Nat} {M : Nat → Nat} (hC : CO κ H0) (hDU : ∀ q, H0.size ≤ q → D q) (h7 : P.1 ≤ 7) (hB7 : B.1 ≤ 7) (hT : okT N M) (hfit : fitD P B N M) (hP : Po κ D H0 p P) (hB : Po κ D H0 q B)  : Mt κ yX1_divisorOf cX1_divisorOf 5 (some (.object "SturmRoots$Poly")) 12 337 (dvC N M 9 P.1 B.1) (dvL N M 9 P.1 B.1) H0 [.ref p, .ref q] (fun _ => False) (fun v H1 => ∃ r : Nat, v = some (.ref r) ∧ Po κ D H1 r (cDiv P B)) := by
  refine Mt.of (by decide) (Nat.le_of_ble_eq_true rfl) ?_
  intro z E hE hH0 hA0 hL hini
  have hAll : ∀ q, (fun _ => False) q → zA z.A z.H0 q := fun q h => Or.inl (by rw [hA0]; exact h)
  have hNew : ∀ q, H0.size ≤ q → zA z.A z.H0 q := fun q h => Or.inr (by rw [hH0]; exact h)
  have E : zOK z cX1_divisorOf RX1 κ 12 337 (some (.object "SturmRoots$Poly")) := E
  refine V.eqL (lv' := [(0, .ref p), (1, .ref q)]) rfl ?_
  obtain ⟨hnf, h13, l, hop, b, cap, md, g, hA, hel, hDl, hDb⟩ := id hP
  obtain ⟨hnfB, h13B, lB, hoB, bB, capB, mdB, gB, hAB, helB, hDlB, hDbB⟩ := id hB
  have hD := hC.D
  refine v_aload_n E 0 rfl dX1_divisorOf_0 ?_
  refine v_astore_n E dX1_divisorOf_1 (zlt hL rfl) (lv' := [(2, .ref p), (0, .ref p), (1, .ref q)]) rfl ?_
  refine v_aload_n E 2 rfl dX1_divisorOf_2 ?_
  refine v_astore_n E dX1_divisorOf_3 (zlt hL rfl) (lv' := [(3, .ref q), (2, .ref p), (0, .ref p), (1, .ref q)]) rfl ?_
  have loop_4 : ∀ (m_4 : Nat) (H : Heap) (k f oq tq cb sb : Nat), f < m_4 → ((dq P B (k + 1)).1 < f) → (dvK P B 9 0 = dvK P B f k) → ((dq P B k).1 ≤ 7) → ((dq P B (k + 1)).1 ≤ 7) → (∀ i, i < k → 0 < (dq P B (i + 1)).1) → (∀ j, (((dq P B k).2 j).natAbs : Int) < 2 ^ (32 * M (dq P B k).1)) → (dvC N M f (dq P B k).1 (dq P B (k + 1)).1 ≤ cb) → (dvL N M f (dq P B k).1 (dq P B (k + 1)).1 ≤ sb) → Po κ D H oq (dq P B k) → Po κ D H tq (dq P B (k + 1)) → V z H cb sb 4 [(3, .ref tq), (2, .ref oq)] [] := by
    intro m_4
    induction m_4 with
    | zero => intro H k f oq tq cb sb hm; exact absurd hm (by omega)
    | succ m_4 ih_4 =>
      intro H k f oq tq cb sb hm_4 hf hk h7a h7b hall hMa hcb hsb hOn hOt
      refine v_aload_n E 0 rfl dX1_divisorOf_4 ?_
      refine V.frame (fun hfz_fr_1 hfk_fr_1 => ?_)
      rw [hH0] at hfz_fr_1 hfk_fr_1
      rw [hA0] at hfk_fr_1
      have hC_fr_1 := hC.call (fun q h => h.elim) hfz_fr_1 hfk_fr_1
      have hF_fr_1 : kF κ H0 H (fun _ => False) := ⟨(fun _ h => h.elim), hfz_fr_1, hfk_fr_1⟩
      obtain ⟨-, -, l_8, ho_7, -⟩ := id hOt
      refine v_callV E (As := []) (b := tq) (ci := 2) (C := RX3) (T := TX3) (N := 1) ho_7 rfl (p_deg κ H hC_fr_1 hOt) (lw_V q617 q618 q619 q75 q620) 0 (by decide +kernel) rfl (by decide) (by decide) (cb' := (cb - 0)) (sb' := (sb - 0)) (by omega) (by omega) rfl (rest := []) (Nat.le_of_ble_eq_true rfl) (fun q h => h.elim) dX1_divisorOf_5 (fun v_2 H_3 hpost_4 hz_5 hk_6 => ?_)
      obtain rfl := hpost_4
      have hl_9 := Po.kf hC_fr_1 (kF.ext hz_5 hk_6) aD.no hOn
      have hl_10 := Po.kf hC_fr_1 (kF.ext hz_5 hk_6) aD.no hOt
      refine V.eq (st' := [vi (((Prod.fst (dq P B (k + 1)) : Nat) : Int) - 1)]) rfl ?_
      refine v_if_lt E (tgt := 29) dX1_divisorOf_8 (by decide) ⟨by omega, by omega⟩ (fun c_8 => ?_) (fun c_8 => ?_)
      · have hm0 : (dq P B (k + 1)).1 = 0 := by omega
        have he1 := dvC_e (N := N) (M := M) (f := f) (n := (dq P B k).1) (m := (dq P B (k + 1)).1) (by omega) hm0
        have he2 := dvL_e (N := N) (M := M) (f := f) (n := (dq P B k).1) (m := (dq P B (k + 1)).1) (by omega) hm0
        have hcp := cPrim_le (dq P B k)
        refine v_aload_n E 1 rfl dX1_divisorOf_29 ?_
        refine V.frame (fun hfz_fr_11 hfk_fr_11 => ?_)
        rw [hH0] at hfz_fr_11 hfk_fr_11
        rw [hA0] at hfk_fr_11
        have hC_fr_11 := hC.call (fun q h => h.elim) hfz_fr_11 hfk_fr_11
        have hF_fr_11 : kF κ H0 H_3 (fun _ => False) := ⟨(fun _ h => h.elim), hfz_fr_11, hfk_fr_11⟩
        refine v_callS E (As := [.ref oq]) (p_primW κ H_3 (D := D) (N := M (dq P B k).1) hC_fr_11 (fun q h => hDU q (Nat.le_trans hfz_fr_11 h)) h7a (Nat.le_trans (hT 0 _).2.1 (by decide)) hMa hl_9) (lw_S q1154 q1155 q70 q1156) 1 (by decide +kernel) rfl (by decide) (by decide) (cb' := ((cb - 0) - (prC (M (dq P B k).1) (dq P B k).1))) (sb' := ((sb - 0) - (prL (M (dq P B k).1) (dq P B k).1))) (by omega) (by omega) rfl (rest := []) (Nat.le_of_ble_eq_true rfl) (fun q h => h.elim) dX1_divisorOf_30 (fun v_12 H_13 hpost_14 hz_15 hk_16 => ?_)
        obtain ⟨nq, rfl, hNq⟩ := hpost_14
        have hl_17 := Po.kf hC_fr_11 (kF.ext hz_15 hk_16) aD.no hl_9
        have hl_18 := Po.kf hC_fr_11 (kF.ext hz_15 hk_16) aD.no hl_10
        refine V.eq (st' := [.ref nq]) rfl ?_
        refine V.frame (fun hfz_fr_19 hfk_fr_19 => ?_)
        rw [hH0] at hfz_fr_19 hfk_fr_19
        rw [hA0] at hfk_fr_19
        have hC_fr_19 := hC.call (fun q h => h.elim) hfz_fr_19 hfk_fr_19
        have hF_fr_19 : kF κ H0 H_13 (fun _ => False) := ⟨(fun _ h => h.elim), hfz_fr_19, hfk_fr_19⟩
        refine v_callS E (As := [.ref nq]) (p_pos κ H_13 (D := D) hC_fr_19 (fun q h => hDU q (Nat.le_trans hfz_fr_19 h)) (by omega) hNq) (lw_S q1444 q1445 q70 q1446) 1 (by decide +kernel) rfl (by decide) (by decide) (cb' := (((cb - 0) - (prC (M (dq P B k).1) (dq P B k).1)) - ((cPrim (dq P B k)).1 + 4))) (sb' := (((sb - 0) - (prL (M (dq P B k).1) (dq P B k).1)) - (6 * (cPrim (dq P B k)).1 + 18))) (by omega) (by omega) rfl (rest := []) (Nat.le_of_ble_eq_true rfl) (fun q h => h.elim) dX1_divisorOf_33 (fun v_20 H_21 hpost_22 hz_23 hk_24 => ?_)
        obtain ⟨fq, rfl, hFq⟩ := hpost_22
        have hl_25 := Po.kf hC_fr_19 (kF.ext hz_23 hk_24) aD.no hl_17
        have hl_26 := Po.kf hC_fr_19 (kF.ext hz_23 hk_24) aD.no hl_18
        have hl_27 := Po.kf hC_fr_19 (kF.ext hz_23 hk_24) aD.no hNq
        refine V.eq (st' := [.ref fq]) rfl ?_
        refine v_aret E hE rfl (Or.inl ⟨_, rfl⟩) dX1_divisorOf_36 (Or.inr ⟨_, rfl⟩) ?_
        exact ⟨fq, rfl, by rw [show cDiv P B = cPos (cPrim (dq P B k)) by unfold cDiv; rw [hk, dvK_e hm0]]; exact hFq⟩
      · have hposn : 0 < (dq P B (k + 1)).1 := by omega
        have hall2 : ∀ i, i < k + 1 → 0 < (dq P B (i + 1)).1 := ltj_s hall hposn
        have hfk := hfit.2 k (fun i hi => hall2 i (by omega))
        have hlt := cRem_lt (P := (dq P B k)) hposn
        have hle2 : (dq P B (k + 1 + 1)).1 ≤ (cRem (dq P B k) (dq P B (k + 1))).1 := cPrim_le _
        have hn1 := dvC_s (N := N) (M := M) (f := f) (n := (dq P B k).1) (m := (dq P B (k + 1)).1) (m' := (dq P B (k + 1 + 1)).1) (by omega) hposn (by omega)
        have hn2 := dvL_s (N := N) (M := M) (f := f) (n := (dq P B k).1) (m := (dq P B (k + 1)).1) (m' := (dq P B (k + 1 + 1)).1) (by omega) hposn (by omega)
        have hpc := prC_le (N := N (dq P B k).1 (dq P B (k + 1)).1) (a := (cRem (dq P B k) (dq P B (k + 1))).1) (b := (dq P B (k + 1)).1 - 1) (by omega)
        have hpl := prL_le (N := N (dq P B k).1 (dq P B (k + 1)).1) (a := (cRem (dq P B k) (dq P B (k + 1))).1) (b := (dq P B (k + 1)).1 - 1) (by omega)
        refine v_aload_n E 1 rfl dX1_divisorOf_11 ?_
        refine v_aload_n E 0 rfl dX1_divisorOf_12 ?_
        refine V.frame (fun hfz_fr_28 hfk_fr_28 => ?_)
        rw [hH0] at hfz_fr_28 hfk_fr_28
        rw [hA0] at hfk_fr_28
        have hC_fr_28 := hC.call (fun q h => h.elim) hfz_fr_28 hfk_fr_28
        have hF_fr_28 : kF κ H0 H_3 (fun _ => False) := ⟨(fun _ h => h.elim), hfz_fr_28, hfk_fr_28⟩
        refine v_callS E (As := [.ref oq, .ref tq]) (p_rem κ H_3 (D := D) (N := (N (dq P B k).1 (dq P B (k + 1)).1)) (M := (M (dq P B (k + 1)).1)) hC_fr_28 (fun q h => hDU q (Nat.le_trans hfz_fr_28 h)) hposn h7a (hT _ _).1 (hT 0 _).2.1 hfk.2 hfk.1 hl_9 hl_10) (lw_S q1145 q1146 q70 q1147) 2 (by decide +kernel) rfl (by decide) (by decide) (cb' := ((cb - 0) - (1 + rmC (dq P B (k + 1)).1 (dq P B k).1))) (sb' := ((sb - 0) - (6 + rmL (dq P B (k + 1)).1 ((N (dq P B k).1 (dq P B (k + 1)).1) + (M (dq P B (k + 1)).1)) (dq P B k).1))) (by omega) (by omega) rfl (rest := []) (Nat.le_of_ble_eq_true rfl) (fun q h => h.elim) dX1_divisorOf_13 (fun v_29 H_30 hpost_31 hz_32 hk_33 => ?_)
        obtain ⟨rq, rfl, hRq⟩ := hpost_31
        have hl_34 := Po.kf hC_fr_28 (kF.ext hz_32 hk_33) aD.no hl_9
        have hl_35 := Po.kf hC_fr_28 (kF.ext hz_32 hk_33) aD.no hl_10
        refine V.eq (st' := [.ref rq]) rfl ?_
        refine v_astore E dX1_divisorOf_16 (zlt hL rfl) (lv' := [(4, .ref rq), (3, .ref tq), (2, .ref oq)]) rfl ?_
        refine v_aload_n E 1 rfl dX1_divisorOf_18 ?_
        refine v_astore_n E dX1_divisorOf_19 (zlt hL rfl) (lv' := [(2, .ref tq), (4, .ref rq), (3, .ref tq)]) rfl ?_
        refine v_aload E 1 rfl dX1_divisorOf_20 ?_
        refine V.frame (fun hfz_fr_36 hfk_fr_36 => ?_)
        rw [hH0] at hfz_fr_36 hfk_fr_36
        rw [hA0] at hfk_fr_36
        have hC_fr_36 := hC.call (fun q h => h.elim) hfz_fr_36 hfk_fr_36
        have hF_fr_36 : kF κ H0 H_30 (fun _ => False) := ⟨(fun _ h => h.elim), hfz_fr_36, hfk_fr_36⟩
        refine v_callS E (As := [.ref rq]) (p_primW κ H_30 (D := D) (N := (N (dq P B k).1 (dq P B (k + 1)).1)) hC_fr_36 (fun q h => hDU q (Nat.le_trans hfz_fr_36 h)) (by omega) (hT _ _).2.2 (cRem_fit hfk.1) hRq) (lw_S q1154 q1155 q70 q1156) 1 (by decide +kernel) rfl (by decide) (by decide) (cb' := (((cb - 0) - (1 + rmC (dq P B (k + 1)).1 (dq P B k).1)) - (prC (N (dq P B k).1 (dq P B (k + 1)).1) (cRem (dq P B k) (dq P B (k + 1))).1))) (sb' := (((sb - 0) - (6 + rmL (dq P B (k + 1)).1 ((N (dq P B k).1 (dq P B (k + 1)).1) + (M (dq P B (k + 1)).1)) (dq P B k).1)) - (prL (N (dq P B k).1 (dq P B (k + 1)).1) (cRem (dq P B k) (dq P B (k + 1))).1))) (by omega) (by omega) rfl (rest := []) (Nat.le_of_ble_eq_true rfl) (fun q h => h.elim) dX1_divisorOf_22 (fun v_37 H_38 hpost_39 hz_40 hk_41 => ?_)
        obtain ⟨nq, rfl, hNq⟩ := hpost_39
        have hl_42 := Po.kf hC_fr_36 (kF.ext hz_40 hk_41) aD.no hl_34
        have hl_43 := Po.kf hC_fr_36 (kF.ext hz_40 hk_41) aD.no hl_35
        have hl_44 := Po.kf hC_fr_36 (kF.ext hz_40 hk_41) aD.no hRq
        refine V.eq (st' := [.ref nq]) rfl ?_
        refine v_astore_n E dX1_divisorOf_25 (zlt hL rfl) (lv' := [(3, .ref nq), (2, .ref tq), (4, .ref rq)]) rfl ?_
        refine v_goto E (tgt := 4) dX1_divisorOf_26 (by decide) ?_
        refine V.sub [0, 1] (lv' := [(3, .ref nq), (2, .ref tq)]) rfl ?_
        exact ih_4  H_38 (k + 1) (f - 1) _ _ (((cb - 0) - (1 + rmC (dq P B (k + 1)).1 (dq P B k).1)) - (prC (N (dq P B k).1 (dq P B (k + 1)).1) (cRem (dq P B k) (dq P B (k + 1))).1)) (((sb - 0) - (6 + rmL (dq P B (k + 1)).1 ((N (dq P B k).1 (dq P B (k + 1)).1) + (M (dq P B (k + 1)).1)) (dq P B k).1)) - (prL (N (dq P B k).1 (dq P B (k + 1)).1) (cRem (dq P B k) (dq P B (k + 1))).1)) (by omega) (by omega) (hk.trans (dvK_s (by omega) (by omega))) h7b (by omega) hall2 hfk.2 (by omega) (by omega) hl_43 hNq
  refine V.sub [0, 1] (lv' := [(3, .ref q), (2, .ref p)]) rfl ?_
  refine V.frame (fun hfz_fr_45 hfk_fr_45 => ?_)
  rw [hH0] at hfz_fr_45 hfk_fr_45
  rw [hA0] at hfk_fr_45
  have hC_fr_45 := hC.call (fun q h => h.elim) hfz_fr_45 hfk_fr_45
  have hF_fr_45 : kF κ H0 H0 (fun _ => False) := ⟨(fun _ h => h.elim), hfz_fr_45, hfk_fr_45⟩
  exact loop_4 (9 + 1) H0 0 9 p q (dvC N M 9 P.1 B.1) (dvL N M 9 P.1 B.1) (by omega) (by show B.1 < 9; omega) rfl h7 hB7 (fun i hi => absurd hi (Nat.not_lt_zero i)) hfit.1 (Nat.le_refl _) (Nat.le_refl _) (hP.kf hC hF_fr_45 aD.no) (hB.kf hC hF_fr_45 aD.no)
