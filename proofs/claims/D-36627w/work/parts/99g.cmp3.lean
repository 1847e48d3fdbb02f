/-! POLYNOMIALS OF THE COMPONENT: primitive -/
theorem Mt.eqR {κ : zK} {y : MethodName} {cc : ByteArray} {maxL : Nat} {ret : Option FieldType} {fr lo mc ms mc' ms' : Nat} {H0 : Heap} {av : List Value} {A : Nat → Prop} {post : Option Value → Heap → Prop} (h : Mt κ y cc maxL ret fr lo mc ms H0 av A post) (e1 : mc = mc') (e2 : ms = ms') : Mt κ y cc maxL ret fr lo mc' ms' H0 av A post := by
  subst e1 e2
  exact h
def cg (c : Nat → Int) : Nat → Nat
  | 0 => 0
  | k + 1 => Nat.gcd (cg c k) (c k).natAbs
theorem cg_lt {c : Nat → Int} {N : Nat} (h : ∀ k, ((c k).natAbs : Int) < 2 ^ (32 * N)) : ∀ k, ((((cg c k : Nat) : Int).natAbs : Nat) : Int) < 2 ^ (32 * N)
  | 0 => p2 _
  | k + 1 => by
    have h1 := cg_lt h k
    have h2 := h k
    rcases Nat.eq_zero_or_pos (cg c k) with e | e
    · show ((Nat.gcd (cg c k) (c k).natAbs : Nat) : Int) < _
      rw [e, Nat.gcd_zero_left]
      exact h2
    · have h3 := Nat.gcd_le_left (c k).natAbs e
      exact Int.lt_of_le_of_lt (Int.ofNat_le.mpr h3) h1
def cPrim (P : Pl) : Pl := if cg P.2 P.1 = 1 ∨ cg P.2 P.1 = 0 then P else mkP P.1 (fun k => (P.2 k).tdiv ((cg P.2 P.1 : Nat) : Int))
theorem g_gcdN (κ : zK) (H0 : Heap) {a : Nat} {x : Int} {b : Nat} {y : Int} {N : Nat} (hC : CO κ H0) (hx : BI κ H0 a x) (hy : BI κ H0 b y) (hNx : (x.natAbs : Int) < 2 ^ (32 * N)) (hMy : (y.natAbs : Int) < 2 ^ (32 * N)) : Mt κ yJ16_gcd cJ16_gcd 5 (some (.object "java/math/BigInteger")) 10 288 (20 + 9 * ((N + 1) / 2)) (13 * N + 145 + hyT N) H0 [.ref a, .ref b] (fun _ => False) (fun v H1 => ∃ q : Nat, v = some (.ref q) ∧ BI κ H1 q ((Int.gcd x y : Nat) : Int)) :=
  (g_gcd κ H0 (N := N) (M := N) hC hx hy hNx hMy).eqR (by rw [Nat.min_self]; omega) (by rw [Nat.min_self, Nat.max_self]; omega)
set_option maxHeartbeats 1000000 in
set_option maxRecDepth 100000 in
/-- primitive -/
theorem p_prim (κ : zK) (H0 : Heap) {p : Nat} {P : Pl} {D : Nat → Prop} {N : Nat} (hC : CO κ H0) (hDU : ∀ q, H0.size ≤ q → D q) (h7 : P.1 ≤ 7) (hN40 : N ≤ 40) (hN : ∀ k, ((P.2 k).natAbs : Int) < 2 ^ (32 * N)) (hP : Po κ D H0 p P)  : Mt κ yX1_primitive cX1_primitive 6 (some (.object "SturmRoots$Poly")) 11 312 ((20 + 9 * ((N + 1) / 2)) * P.1 + 15 * P.1 + 5) ((13 * N + 145 + hyT N) * P.1 + (6 * N + 30) * P.1 + 22) H0 [.ref p] (fun _ => False) (fun v H1 => ∃ q : Nat, v = some (.ref q) ∧ Po κ D H1 q (cPrim P)) := by
  refine Mt.of (by decide) (Nat.le_of_ble_eq_true rfl) ?_
  intro z E hE hH0 hA0 hL hini
  have hAll : ∀ q, (fun _ => False) q → zA z.A z.H0 q := fun q h => Or.inl (by rw [hA0]; exact h)
  have hNew : ∀ q, H0.size ≤ q → zA z.A z.H0 q := fun q h => Or.inr (by rw [hH0]; exact h)
  have E : zOK z cX1_primitive RX1 κ 11 312 (some (.object "SturmRoots$Poly")) := E
  refine V.eqL (lv' := [(0, .ref p)]) rfl ?_
  obtain ⟨hnf, h13, l, hop, b, cap, md, g, hA, hel, hDl, hDb⟩ := id hP
  have hD := hC.D
  refine v_lconst E (x := 1) rfl dX1_primitive_0 ?_
  refine V.frame (fun hfz_fr_1 hfk_fr_1 => ?_)
  rw [hH0] at hfz_fr_1 hfk_fr_1
  rw [hA0] at hfk_fr_1
  have hC_fr_1 := hC.call (fun q h => h.elim) hfz_fr_1 hfk_fr_1
  have hF_fr_1 : kF κ H0 H0 (fun _ => False) := ⟨(fun _ h => h.elim), hfz_fr_1, hfk_fr_1⟩
  refine v_callS E (As := [vj 1]) (p_numS κ H0 hC_fr_1 ⟨by decide, by decide⟩) (lw_S q611 q472 q70 q473) 1 (by decide +kernel) rfl (by decide) (by decide) (cb' := (((20 + 9 * ((N + 1) / 2)) * P.1 + 15 * P.1 + 5) - 0)) (sb' := (((13 * N + 145 + hyT N) * P.1 + (6 * N + 30) * P.1 + 22) - 0)) (by omega) (by omega) rfl (rest := []) (Nat.le_of_ble_eq_true rfl) (fun q h => h.elim) dX1_primitive_1 (fun v_2 H_3 hpost_4 hz_5 hk_6 => ?_)
  obtain ⟨o1, rfl, hB1⟩ := hpost_4
  refine V.eq (st' := [.ref o1]) rfl ?_
  refine v_astore_n E dX1_primitive_4 (zlt hL rfl) (lv' := [(1, .ref o1), (0, .ref p)]) rfl ?_
  refine v_lconst E (x := 0) rfl dX1_primitive_5 ?_
  refine V.frame (fun hfz_fr_7 hfk_fr_7 => ?_)
  rw [hH0] at hfz_fr_7 hfk_fr_7
  rw [hA0] at hfk_fr_7
  have hC_fr_7 := hC.call (fun q h => h.elim) hfz_fr_7 hfk_fr_7
  have hF_fr_7 : kF κ H0 H_3 (fun _ => False) := ⟨(fun _ h => h.elim), hfz_fr_7, hfk_fr_7⟩
  refine v_callS E (As := [vj 0]) (p_numS κ H_3 hC_fr_7 ⟨by decide, by decide⟩) (lw_S q611 q472 q70 q473) 1 (by decide +kernel) rfl (by decide) (by decide) (cb' := ((((20 + 9 * ((N + 1) / 2)) * P.1 + 15 * P.1 + 5) - 0) - 0)) (sb' := ((((13 * N + 145 + hyT N) * P.1 + (6 * N + 30) * P.1 + 22) - 0) - 0)) (by omega) (by omega) rfl (rest := []) (Nat.le_of_ble_eq_true rfl) (fun q h => h.elim) dX1_primitive_6 (fun v_8 H_9 hpost_10 hz_11 hk_12 => ?_)
  obtain ⟨dz, rfl, hB0⟩ := hpost_10
  have hl_13 := BI.kf hC.D (kF.ext hz_11 hk_12) hB1
  refine V.eq (st' := [.ref dz]) rfl ?_
  refine v_astore_n E dX1_primitive_9 (zlt hL rfl) (lv' := [(2, .ref dz), (1, .ref o1), (0, .ref p)]) rfl ?_
  refine v_aload_n E 2 rfl dX1_primitive_10 ?_
  refine V.frame (fun hfz_fr_14 hfk_fr_14 => ?_)
  rw [hH0] at hfz_fr_14 hfk_fr_14
  rw [hA0] at hfk_fr_14
  have hC_fr_14 := hC.call (fun q h => h.elim) hfz_fr_14 hfk_fr_14
  have hF_fr_14 : kF κ H0 H_9 (fun _ => False) := ⟨(fun _ h => h.elim), hfz_fr_14, hfk_fr_14⟩
  have hb_15 := hF_fr_14.at hop (fun h => h)
  refine v_getfN (host := "SturmRoots") E in_X3 hb_15 (ci := 2) rfl 0 (by decide) (by decide +kernel) rfl (v := .ref l) rfl dX1_primitive_11 ?_
  have hb_21 := hF_fr_14.at hA.1 (fun h => h)
  refine v_callV E (As := []) (b := l) (ci := 5) (C := RJ2) (T := TJ2) (N := 3) hb_21 rfl (j_iter κ H_9 hC_fr_14 (hA.kf hC hF_fr_14 (fun h => h) (fun _ h => h))) (lw_V q291 q292 q293 q73 q294) 0 (by decide +kernel) rfl (by decide) (by decide) (cb' := (((((20 + 9 * ((N + 1) / 2)) * P.1 + 15 * P.1 + 5) - 0) - 0) - 1)) (sb' := (((((13 * N + 145 + hyT N) * P.1 + (6 * N + 30) * P.1 + 22) - 0) - 0) - 4)) (by omega) (by omega) rfl (rest := []) (Nat.le_of_ble_eq_true rfl) (fun q h => h.elim) dX1_primitive_14 (fun v_16 H_17 hpost_18 hz_19 hk_20 => ?_)
  obtain ⟨it, rfl, hitH, hitI⟩ := hpost_18
  have hl_22 := BI.kf hC.D (kF.ext hz_19 hk_20) hl_13
  have hl_23 := BI.kf hC.D (kF.ext hz_19 hk_20) hB0
  have hitH : H0.size ≤ it := Nat.le_trans hfz_fr_14 hitH
  refine V.eq (st' := [.ref it]) rfl ?_
  refine v_astore_n E dX1_primitive_17 (zlt hL rfl) (lv' := [(3, .ref it), (2, .ref dz), (1, .ref o1), (0, .ref p)]) rfl ?_
  have loop_18 : ∀ (m_18 : Nat) (H : Heap) (k dq cb sb : Nat) (r : Int), P.1 - k < m_18 → (k ≤ P.1) → ((20 + 9 * ((N + 1) / 2)) * (P.1 - k) + (15 * P.1 + 4) ≤ cb) → ((13 * N + 145 + hyT N) * (P.1 - k) + ((6 * N + 30) * P.1 + 18) ≤ sb) → BI κ H dq ((cg P.2 k : Nat) : Int) → BI κ H o1 1 → IT κ H it l (k : Int) r md → V z H cb sb 18 [(3, .ref it), (2, .ref dq), (1, .ref o1), (0, .ref p)] [] := by
    intro m_18
    induction m_18 with
    | zero => intro H k dq cb sb r hm; exact absurd hm (by omega)
    | succ m_18 ih_18 =>
      intro H k dq cb sb r hm_18 hk hcb hsb hd h1 hI
      refine v_aload_n E 0 rfl dX1_primitive_18 ?_
      refine V.frame (fun hfz_fr_24 hfk_fr_24 => ?_)
      rw [hH0] at hfz_fr_24 hfk_fr_24
      rw [hA0] at hfk_fr_24
      have hC_fr_24 := hC.call (fun q h => h.elim) hfz_fr_24 hfk_fr_24
      have hF_fr_24 : kF κ H0 H (fun _ => False) := ⟨(fun _ h => h.elim), hfz_fr_24, hfk_fr_24⟩
      refine v_callF E (As := []) (b := it) (ci := 7) (C := RJ17) (T := TJ17) (N := 4) hI.1 rfl (j_hasNext κ H hC_fr_24 (by omega) (hA.kf hC hF_fr_24 (fun h => h) (fun _ h => h)) hI) (by decide +kernel) (lw_F q321 q325 q327 q92 q329) 0 (by decide +kernel) rfl (by decide) (by decide) (cb' := (cb - 0)) (sb' := (sb - 0)) (by omega) (by omega) rfl (rest := []) (Nat.le_of_ble_eq_true rfl) (fun q h => h.elim) dX1_primitive_19 (fun v_25 H_26 hpost_27 hz_28 hk_29 => ?_)
      obtain rfl := hpost_27
      have hl_30 := BI.kf hC.D (kF.ext hz_28 hk_29) hd
      have hl_31 := BI.kf hC.D (kF.ext hz_28 hk_29) h1
      have hl_32 := IT.kf (kF.ext hz_28 hk_29) hI (fun h => h)
      by_cases hkn : k = P.1
      ·
        refine V.eq (st' := [vi 0]) (by rw [if_pos (show ((k : Nat) : Int) = ((P.1 : Nat) : Int) by omega)]; rfl) ?_
        refine v_if_eq E (tgt := 56) dX1_primitive_24 (by decide) ⟨by omega, by omega⟩ (fun c_24 => ?_) (fun c_24 => absurd c_24 (by omega))
        have hkn2 : k = P.1 := hkn
        have hd_33 : BI κ H_26 dq ((cg P.2 P.1 : Nat) : Int) := hkn2 ▸ hl_30
        have hcb2 : (15 * P.1 + 4) ≤ (cb - 0) := by omega
        have hsb2 : ((6 * N + 30) * P.1 + 18) ≤ (sb - 0) := by omega
        refine V.less (cb' := (15 * P.1 + 4)) (sb' := ((6 * N + 30) * P.1 + 18)) hcb2 hsb2 ?_
        refine v_aload_n E 1 rfl dX1_primitive_56 ?_
        refine v_aload_n E 2 rfl dX1_primitive_57 ?_
        refine V.frame (fun hfz_fr_34 hfk_fr_34 => ?_)
        rw [hH0] at hfz_fr_34 hfk_fr_34
        rw [hA0] at hfk_fr_34
        have hC_fr_34 := hC.call (fun q h => h.elim) hfz_fr_34 hfk_fr_34
        have hF_fr_34 : kF κ H0 H_26 (fun _ => False) := ⟨(fun _ h => h.elim), hfz_fr_34, hfk_fr_34⟩
        obtain ⟨mz_41, nz_41, cfz_41, ⟨c1z_41, c2z_41, c3z_41, ho_40⟩, -⟩ := id hd_33
        refine v_callV E (As := [.ref o1]) (b := dq) (ci := 6) (C := RJ16) (T := TJ16) (N := 6) ho_40 rfl (g_eq κ H_26 hd_33 hl_31) (lw_V q1157 q1158 q1159 q91 q1160) 1 (by decide +kernel) rfl (by decide) (by decide) (cb' := ((15 * P.1 + 4) - 0)) (sb' := (((6 * N + 30) * P.1 + 18) - 0)) (by omega) (by omega) rfl (rest := []) (Nat.le_of_ble_eq_true rfl) (fun q h => h.elim) dX1_primitive_58 (fun v_35 H_36 hpost_37 hz_38 hk_39 => ?_)
        obtain rfl := hpost_37
        have hl_42 := BI.kf hC.D (kF.ext hz_38 hk_39) hd_33
        have hl_43 := BI.kf hC.D (kF.ext hz_38 hk_39) hl_31
        have hl_44 := IT.kf (kF.ext hz_38 hk_39) hl_32 (fun h => h)
        by_cases hd2 : cg P.2 P.1 = 1
        ·
          refine V.eq (st' := [vi 1]) (by rw [if_pos (show ((cg P.2 P.1 : Nat) : Int) = 1 by omega)]; rfl) ?_
          refine v_if_ne E (tgt := 71) dX1_primitive_61 (by decide) ⟨by omega, by omega⟩ (fun c_61 => ?_) (fun c_61 => absurd c_61 (by omega))
          refine v_aload_n E 3 rfl dX1_primitive_71 ?_
          refine V.frame (fun hfz_fr_45 hfk_fr_45 => ?_)
          rw [hH0] at hfz_fr_45 hfk_fr_45
          rw [hA0] at hfk_fr_45
          have hC_fr_45 := hC.call (fun q h => h.elim) hfz_fr_45 hfk_fr_45
          have hF_fr_45 : kF κ H0 H_36 (fun _ => False) := ⟨(fun _ h => h.elim), hfz_fr_45, hfk_fr_45⟩
          refine v_aret E hE rfl (Or.inl ⟨_, rfl⟩) dX1_primitive_72 (Or.inr ⟨_, rfl⟩) ?_
          exact ⟨p, rfl, by rw [show cPrim P = P from if_pos (by have := sgn3 ((cg P.2 P.1 : Nat) : Int); omega)]; exact hP.kf hC hF_fr_45 aD.no⟩
        ·
          refine V.eq (st' := [vi 0]) (by rw [if_neg (show ¬ ((cg P.2 P.1 : Nat) : Int) = 1 by omega)]; rfl) ?_
          refine v_if_ne E (tgt := 71) dX1_primitive_61 (by decide) ⟨by omega, by omega⟩ (fun c_61 => absurd c_61 (by omega)) (fun c_61 => ?_)
          refine v_aload_n E 1 rfl dX1_primitive_64 ?_
          refine V.frame (fun hfz_fr_46 hfk_fr_46 => ?_)
          rw [hH0] at hfz_fr_46 hfk_fr_46
          rw [hA0] at hfk_fr_46
          have hC_fr_46 := hC.call (fun q h => h.elim) hfz_fr_46 hfk_fr_46
          have hF_fr_46 : kF κ H0 H_36 (fun _ => False) := ⟨(fun _ h => h.elim), hfz_fr_46, hfk_fr_46⟩
          obtain ⟨mz_53, nz_53, cfz_53, ⟨c1z_53, c2z_53, c3z_53, ho_52⟩, -⟩ := id hl_42
          refine v_callV E (As := []) (b := dq) (ci := 6) (C := RJ16) (T := TJ16) (N := 6) ho_52 rfl (g_signum κ H_36 hl_42) (lw_V q1152 q171 q172 q91 q173) 0 (by decide +kernel) rfl (by decide) (by decide) (cb' := (((15 * P.1 + 4) - 0) - 0)) (sb' := ((((6 * N + 30) * P.1 + 18) - 0) - 0)) (by omega) (by omega) rfl (rest := []) (Nat.le_of_ble_eq_true rfl) (fun q h => h.elim) dX1_primitive_65 (fun v_47 H_48 hpost_49 hz_50 hk_51 => ?_)
          obtain rfl := hpost_49
          have hl_54 := BI.kf hC.D (kF.ext hz_50 hk_51) hl_42
          have hl_55 := BI.kf hC.D (kF.ext hz_50 hk_51) hl_43
          have hl_56 := IT.kf (kF.ext hz_50 hk_51) hl_44 (fun h => h)
          refine V.eq (st' := [vi (Int.sign ((cg P.2 P.1 : Nat) : Int))]) rfl ?_
          refine v_if_ne E (tgt := 73) dX1_primitive_68 (by decide) (rsign _) (fun c_68 => ?_) (fun c_68 => ?_)
          · refine V.frame (fun hfz_fr_57 hfk_fr_57 => ?_)
            rw [hH0] at hfz_fr_57 hfk_fr_57
            rw [hA0] at hfk_fr_57
            have hC_fr_57 := hC.call (fun q h => h.elim) hfz_fr_57 hfk_fr_57
            have hF_fr_57 : kF κ H0 H_48 (fun _ => False) := ⟨(fun _ h => h.elim), hfz_fr_57, hfk_fr_57⟩
            refine V.frame (fun hfz_fr_58 hfk_fr_58 => ?_)
            rw [hH0] at hfz_fr_58 hfk_fr_58
            rw [hA0] at hfk_fr_58
            refine v_new E in_J2 tyJ2 tyJ2_ok q113 q114 q73 (ci := 5) rfl (fs := [vi 0, .null, vi 0]) (fun j hj => by rcases (show j = 0 ∨ j = 1 ∨ j = 2 by omega) with rfl | rfl | rfl <;> rfl) (cb' := ((((15 * P.1 + 4) - 0) - 0) - 1)) (sb' := (((((6 * N + 30) * P.1 + 18) - 0) - 0) - 3)) (by omega) (by omega) dX1_primitive_73 (fun l2 H_59 hq_62 ho_60 hg_61 => ?_)
            refine v_dup E rfl dX1_primitive_76 ?_
            refine V.frame (fun hfz_fr_63 hfk_fr_63 => ?_)
            rw [hH0] at hfz_fr_63 hfk_fr_63
            rw [hA0] at hfk_fr_63
            have hC_fr_63 := hC.call (fun q h => h.elim) hfz_fr_63 hfk_fr_63
            have hF_fr_63 : kF κ H0 H_59 (fun _ => False) := ⟨(fun _ h => h.elim), hfz_fr_63, hfk_fr_63⟩
            have h93_l2 : κ.2 93 ≤ l2 := Nat.le_trans hC.le (by omega)
            refine v_callI E (As := []) (b := l2) (j_init κ H_59 h93_l2 hC_fr_63 ho_60) q117 q73 q115 q116 rfl 0 (by decide +kernel) rfl (by decide) (by decide) (cb' := (((((15 * P.1 + 4) - 0) - 0) - 1) - 0)) (sb' := ((((((6 * N + 30) * P.1 + 18) - 0) - 0) - 3) - 0)) (by omega) (by omega) rfl (rest := [.ref l2]) (Nat.le_of_ble_eq_true rfl) (fun q h => hNew q (by rw [show q = l2 from h]; omega)) dX1_primitive_77 (fun v_64 H_65 hpost_66 hz_67 hk_68 => ?_)
            obtain ⟨rfl, hA_l2⟩ := hpost_66
            have hkN_69 : ∀ q9 : Nat, q9 < Array.size H_48 → ¬ (fun _ => False : Nat → Prop) q9 → H_65[q9]? = H_48[q9]? := fun q9 h9 _ => (hk_68 q9 (by rw [hg_61.1]; omega) (fun h => by have h8 : q9 = l2 := h; omega)).trans (hg_61.2 q9 h9)
            have hl_70 := BI.kf hC.D (kF.ext (by have := hg_61.1; omega) hkN_69) hl_54
            have hl_71 := BI.kf hC.D (kF.ext (by have := hg_61.1; omega) hkN_69) hl_55
            have hl_72 := IT.kf (kF.ext (by have := hg_61.1; omega) hkN_69) hl_56 (fun h => h)
            have hLB_l2 := LB.nil (S := H0.size) (E := (eB κ (fun k => (P.2 k).tdiv ((cg P.2 P.1 : Nat) : Int)))) hA_l2 (by omega)
            refine V.eq (st' := [.ref l2]) rfl ?_
            refine v_astore_n E dX1_primitive_80 (zlt hL rfl) (lv' := [(3, .ref l2), (2, .ref dq), (1, .ref o1), (0, .ref p)]) rfl ?_
            refine v_aload_n E 3 rfl dX1_primitive_81 ?_
            refine V.frame (fun hfz_fr_73 hfk_fr_73 => ?_)
            rw [hH0] at hfz_fr_73 hfk_fr_73
            rw [hA0] at hfk_fr_73
            have hC_fr_73 := hC.call (fun q h => h.elim) hfz_fr_73 hfk_fr_73
            have hF_fr_73 : kF κ H0 H_65 (fun _ => False) := ⟨(fun _ h => h.elim), hfz_fr_73, hfk_fr_73⟩
            have hb_74 := hF_fr_73.at hop (fun h => h)
            refine v_getfN (host := "SturmRoots") E in_X3 hb_74 (ci := 2) rfl 0 (by decide) (by decide +kernel) rfl (v := .ref l) rfl dX1_primitive_82 ?_
            have hb_80 := hF_fr_73.at hA.1 (fun h => h)
            refine v_callV E (As := []) (b := l) (ci := 5) (C := RJ2) (T := TJ2) (N := 3) hb_80 rfl (j_iter κ H_65 hC_fr_73 (hA.kf hC hF_fr_73 (fun h => h) (fun _ h => h))) (lw_V q291 q292 q293 q73 q294) 0 (by decide +kernel) rfl (by decide) (by decide) (cb' := ((((((15 * P.1 + 4) - 0) - 0) - 1) - 0) - 1)) (sb' := (((((((6 * N + 30) * P.1 + 18) - 0) - 0) - 3) - 0) - 4)) (by omega) (by omega) rfl (rest := []) (Nat.le_of_ble_eq_true rfl) (fun q h => h.elim) dX1_primitive_85 (fun v_75 H_76 hpost_77 hz_78 hk_79 => ?_)
            obtain ⟨it2, rfl, hit2H, hit2I⟩ := hpost_77
            have hl_81 := BI.kf hC.D (kF.ext hz_78 hk_79) hl_70
            have hl_82 := BI.kf hC.D (kF.ext hz_78 hk_79) hl_71
            have hl_83 := IT.kf (kF.ext hz_78 hk_79) hl_72 (fun h => h)
            have hl_84 := LB.kf (eB_L κ _) hC_fr_73 (kF.ext hz_78 hk_79) aD.f aD.no hLB_l2
            have hit2H : H0.size ≤ it2 := Nat.le_trans hfz_fr_73 hit2H
            refine V.eq (st' := [.ref it2]) rfl ?_
            refine v_astore E dX1_primitive_88 (zlt hL rfl) (lv' := [(4, .ref it2), (3, .ref l2), (2, .ref dq), (1, .ref o1), (0, .ref p)]) rfl ?_
            have loop_90 : ∀ (m_90 : Nat) (H : Heap) (k b2 cb sb : Nat) (r : Int), P.1 - k < m_90 → (k ≤ P.1) → (1 + 15 * (P.1 - k) + al0 k ≤ cb) → (1 + (6 * N + 30) * (P.1 - k) + 10 * al0 k ≤ sb) → LB κ H0.size (eB κ (fun k => (P.2 k).tdiv ((cg P.2 P.1 : Nat) : Int))) H l2 b2 k → IT κ H it2 l (k : Int) r md → BI κ H dq ((cg P.2 P.1 : Nat) : Int) → V z H cb sb 90 [(4, .ref it2), (3, .ref l2), (2, .ref dq), (0, .ref p)] [] := by
              intro m_90
              induction m_90 with
              | zero => intro H k b2 cb sb r hm; exact absurd hm (by omega)
              | succ m_90 ih_90 =>
                intro H k b2 cb sb r hm_90 hk hcb hsb hR hI hd
                refine v_aload E 0 rfl dX1_primitive_90 ?_
                refine V.frame (fun hfz_fr_85 hfk_fr_85 => ?_)
                rw [hH0] at hfz_fr_85 hfk_fr_85
                rw [hA0] at hfk_fr_85
                have hC_fr_85 := hC.call (fun q h => h.elim) hfz_fr_85 hfk_fr_85
                have hF_fr_85 : kF κ H0 H (fun _ => False) := ⟨(fun _ h => h.elim), hfz_fr_85, hfk_fr_85⟩
                refine v_callF E (As := []) (b := it2) (ci := 7) (C := RJ17) (T := TJ17) (N := 4) hI.1 rfl (j_hasNext κ H hC_fr_85 (by omega) (hA.kf hC hF_fr_85 (fun h => h) (fun _ h => h)) hI) (by decide +kernel) (lw_F q321 q325 q327 q92 q329) 0 (by decide +kernel) rfl (by decide) (by decide) (cb' := (cb - 0)) (sb' := (sb - 0)) (by omega) (by omega) rfl (rest := []) (Nat.le_of_ble_eq_true rfl) (fun q h => h.elim) dX1_primitive_92 (fun v_86 H_87 hpost_88 hz_89 hk_90 => ?_)
                obtain rfl := hpost_88
                have hl_91 := LB.kf (eB_L κ _) hC_fr_85 (kF.ext hz_89 hk_90) aD.f aD.no hR
                have hl_92 := IT.kf (kF.ext hz_89 hk_90) hI (fun h => h)
                have hl_93 := BI.kf hC.D (kF.ext hz_89 hk_90) hd
                by_cases hkm : k = P.1
                ·
                  refine V.eq (st' := [vi 0]) (by rw [if_pos (show ((k : Nat) : Int) = ((P.1 : Nat) : Int) by omega)]; rfl) ?_
                  refine v_if_eq E (tgt := 126) dX1_primitive_97 (by decide) ⟨by omega, by omega⟩ (fun c_97 => ?_) (fun c_97 => absurd c_97 (by omega))
                  have hkn2 : k = P.1 := hkm
                  have hR_94 := hkn2 ▸ hl_91
                  refine V.frame (fun hfz_fr_95 hfk_fr_95 => ?_)
                  rw [hH0] at hfz_fr_95 hfk_fr_95
                  rw [hA0] at hfk_fr_95
                  have hC_fr_95 := hC.call (fun q h => h.elim) hfz_fr_95 hfk_fr_95
                  have hF_fr_95 : kF κ H0 H_87 (fun _ => False) := ⟨(fun _ h => h.elim), hfz_fr_95, hfk_fr_95⟩
                  refine V.frame (fun hfz_fr_96 hfk_fr_96 => ?_)
                  rw [hH0] at hfz_fr_96 hfk_fr_96
                  rw [hA0] at hfk_fr_96
                  refine v_new E in_X3 tyX3 tyX3_ok q145 q146 q75 (ci := 2) rfl (fs := [.null]) (fun j hj => by rcases (show j = 0 by omega) with rfl <;> rfl) (cb' := ((cb - 0) - 1)) (sb' := ((sb - 0) - 1)) (by omega) (by omega) dX1_primitive_126 (fun pn H_97 hq_100 ho_98 hg_99 => ?_)
                  refine v_dup E rfl dX1_primitive_129 ?_
                  refine v_aload_n E 1 rfl dX1_primitive_130 ?_
                  refine V.frame (fun hfz_fr_101 hfk_fr_101 => ?_)
                  rw [hH0] at hfz_fr_101 hfk_fr_101
                  rw [hA0] at hfk_fr_101
                  have hC_fr_101 := hC.call (fun q h => h.elim) hfz_fr_101 hfk_fr_101
                  have hF_fr_101 : kF κ H0 H_97 (fun _ => False) := ⟨(fun _ h => h.elim), hfz_fr_101, hfk_fr_101⟩
                  have hLB_102 := LB.kf (eB_L κ _) hC_fr_95 (kF.grow hg_99) aD.no aD.no hR_94
                  refine v_callI E (As := [.ref l2]) (b := pn) (p_init κ H_97 (D := D) (n := P.1) (c := fun k => (P.2 k).tdiv ((cg P.2 P.1 : Nat) : Int)) hC_fr_101 (Nat.le_trans hC.le (by omega)) (by omega) hDU hC.le ho_98 hLB_102) q149 q75 q147 q148 rfl 1 (by decide +kernel) rfl (by decide) (by decide) (cb' := (((cb - 0) - 1) - 0)) (sb' := (((sb - 0) - 1) - 0)) (by omega) (by omega) rfl (rest := [.ref pn]) (Nat.le_of_ble_eq_true rfl) (fun q h => hNew q (h.elim (fun h => by rw [h]; omega) (fun h => h.elim (fun h => by rw [h]; exact (hR_94).choose_spec.choose_spec.2.2.1) (fun h => by rw [h.1]; exact (hR_94).choose_spec.choose_spec.2.2.2 h.2)))) dX1_primitive_131 (fun v_103 H_104 hpost_105 hz_106 hk_107 => ?_)
                  obtain ⟨rfl, hPo_pn⟩ := hpost_105
                  obtain ⟨md_109, g_110, hA_111, -, hSl_112, hSb_113⟩ := id hR_94
                  have hkN_108 : ∀ q9 : Nat, q9 < Array.size H_87 → ¬ (q9 = l2 ∨ (q9 = b2 ∧ 0 < P.1)) → H_104[q9]? = H_87[q9]? := fun q9 h9 h8 => (hk_107 q9 (by rw [hg_99.1]; omega) (fun h => h.elim (fun h => by omega) h8)).trans (hg_99.2 q9 h9)
                  have hF_114 : kF κ H_87 H_104 (fun q => q = l2 ∨ (q = b2 ∧ 0 < P.1)) := kF.lst hA_111 (fun q h => h.imp id (fun h => ⟨h.1, capR_pos h.2⟩)) (by have := hg_99.1; omega) hkN_108
                  have hl_115 := IT.kf hF_114 hl_92 (nIT hC.D hl_92 hA_111)
                  have hl_116 := BI.kf hC.D hF_114 hl_93
                  refine V.eq (st' := [.ref pn]) rfl ?_
                  refine v_aret E hE rfl (Or.inl ⟨_, rfl⟩) dX1_primitive_134 (Or.inr ⟨_, rfl⟩) ?_
                  exact ⟨pn, rfl, by rw [show cPrim P = mkP P.1 (fun k => (P.2 k).tdiv ((cg P.2 P.1 : Nat) : Int)) from if_neg (by have := sgn3 ((cg P.2 P.1 : Nat) : Int); omega)]; exact hPo_pn⟩
                ·
                  refine V.eq (st' := [vi 1]) (by rw [if_neg (show ¬ ((k : Nat) : Int) = ((P.1 : Nat) : Int) by omega)]; rfl) ?_
                  refine v_if_eq E (tgt := 126) dX1_primitive_97 (by decide) ⟨by omega, by omega⟩ (fun c_97 => absurd c_97 (by omega)) (fun c_97 => ?_)
                  refine v_aload E 0 rfl dX1_primitive_100 ?_
                  obtain ⟨y_117, hy_118, hEy_119⟩ := hel k (by omega)
                  refine V.frame (fun hfz_fr_120 hfk_fr_120 => ?_)
                  rw [hH0] at hfz_fr_120 hfk_fr_120
                  rw [hA0] at hfk_fr_120
                  have hC_fr_120 := hC.call (fun q h => h.elim) hfz_fr_120 hfk_fr_120
                  have hF_fr_120 : kF κ H0 H_87 (fun _ => False) := ⟨(fun _ h => h.elim), hfz_fr_120, hfk_fr_120⟩
                  refine v_callF E (As := []) (b := it2) (ci := 7) (C := RJ17) (T := TJ17) (N := 4) hl_92.1 rfl (j_next7 κ H_87 hC_fr_120 (i := k) (y := y_117) (by omega) hy_118 (hA.kf hC hF_fr_120 (fun h => h) (fun _ h => h)) hl_92) (by decide +kernel) (lw_F q334 q337 q339 q92 q341) 0 (by decide +kernel) rfl (by decide) (by decide) (cb' := ((cb - 0) - 0)) (sb' := ((sb - 0) - 0)) (by omega) (by omega) rfl (rest := []) (Nat.le_of_ble_eq_true rfl) (fun q9 h => hNew q9 (by rw [show q9 = it2 from h]; exact hit2H)) dX1_primitive_102 (fun v_121 H_122 hpost_123 hz_124 hk_125 => ?_)
                  obtain ⟨rfl, hI_126⟩ := hpost_123
                  have hl_127 := LB.kf (eB_L κ _) hC_fr_120 (kF.itr hl_92 (fun q h => h) hz_124 hk_125) aD.f (aD.it hl_92 (fun q h => h)) hl_91
                  have hl_128 := BI.kf hC.D (kF.itr hl_92 (fun q h => h) hz_124 hk_125) hl_93
                  have hl_129 := BI.kf hC.D (kF.itr hl_92 (fun q h => h) hz_124 hk_125) (BI.kf hC.D hF_fr_120 hEy_119)
                  refine V.eq (st' := [.ref y_117]) rfl ?_
                  obtain ⟨mz_131, nz_131, cfz_131, ⟨c1z_131, c2z_131, c3z_131, ho_130⟩, -⟩ := id hl_129
                  refine v_castS E ho_130 (q := (RJ16, TJ16, 6)) rfl q621 dX1_primitive_107 ?_
                  refine v_astore E dX1_primitive_110 (zlt hL rfl) (lv' := [(5, .ref y_117), (4, .ref it2), (3, .ref l2), (2, .ref dq), (0, .ref p)]) rfl ?_
                  have e1 := mulS 15 P.1 k (by omega)
                  have e2 := mulS (6 * N + 30) P.1 k (by omega)
                  refine v_aload_n E 2 rfl dX1_primitive_112 ?_
                  refine v_aload E 0 rfl dX1_primitive_113 ?_
                  refine v_aload_n E 3 rfl dX1_primitive_115 ?_
                  refine V.frame (fun hfz_fr_132 hfk_fr_132 => ?_)
                  rw [hH0] at hfz_fr_132 hfk_fr_132
                  rw [hA0] at hfk_fr_132
                  have hC_fr_132 := hC.call (fun q h => h.elim) hfz_fr_132 hfk_fr_132
                  have hF_fr_132 : kF κ H0 H_122 (fun _ => False) := ⟨(fun _ h => h.elim), hfz_fr_132, hfk_fr_132⟩
                  obtain ⟨mz_139, nz_139, cfz_139, ⟨c1z_139, c2z_139, c3z_139, ho_138⟩, -⟩ := id hl_129
                  refine v_callV E (As := [.ref dq]) (b := y_117) (ci := 6) (C := RJ16) (T := TJ16) (N := 6) ho_138 rfl (g_div κ H_122 (N := N) hC_fr_132 hl_129 hl_128 (hN k) (fun h => c_68 (by rw [h]; rfl))) (lw_V q1422 q1423 q1424 q91 q1425) 1 (by decide +kernel) rfl (by decide) (by decide) (cb' := (((cb - 0) - 0) - 15)) (sb' := (((sb - 0) - 0) - (6 * N + 30))) (by have e1 := mulS 15 P.1 k (by omega); omega) (by have e1 := mulS (6 * N + 30) P.1 k (by omega); omega) rfl (rest := [.ref l2]) (Nat.le_of_ble_eq_true rfl) (fun q h => h.elim) dX1_primitive_116 (fun v_133 H_134 hpost_135 hz_136 hk_137 => ?_)
                  obtain ⟨qd, rfl, hBd⟩ := hpost_135
                  have hl_140 := LB.kf (eB_L κ _) hC_fr_132 (kF.ext hz_136 hk_137) aD.f aD.no hl_127
                  have hl_141 := BI.kf hC.D (kF.ext hz_136 hk_137) hl_128
                  have hl_142 := BI.kf hC.D (kF.ext hz_136 hk_137) hl_129
                  have hl_143 := IT.kf (kF.ext hz_136 hk_137) hI_126 (fun h => h)
                  refine V.eq (st' := [.ref qd, .ref l2]) rfl ?_
                  refine V.frame (fun hfz_fr_144 hfk_fr_144 => ?_)
                  rw [hH0] at hfz_fr_144 hfk_fr_144
                  rw [hA0] at hfk_fr_144
                  have hC_fr_144 := hC.call (fun q h => h.elim) hfz_fr_144 hfk_fr_144
                  have hF_fr_144 : kF κ H0 H_134 (fun _ => False) := ⟨(fun _ h => h.elim), hfz_fr_144, hfk_fr_144⟩
                  obtain ⟨md_145, g_146, hA_147, hel_148, hSl_149, hSb_150⟩ := id hl_140
                  have hal_151 := al_k k (show k < 10 by omega)
                  obtain ⟨md_157, g_158, hA_159, -⟩ := id hl_140
                  refine v_callV E (As := [.ref qd]) (b := l2) (ci := 5) (C := RJ2) (T := TJ2) (N := 3) hA_159.1 rfl (j_addB κ H_134 hC_fr_144 (show k < 15 by omega) hBd.oA hA_147) (lw_V q208 q209 q210 q73 q211) 1 (by decide +kernel) rfl (by decide) (by decide) (cb' := ((((cb - 0) - 0) - 15) - alM k)) (sb' := ((((sb - 0) - 0) - (6 * N + 30)) - alS k)) (by omega) (by omega) rfl (rest := []) (Nat.le_of_ble_eq_true rfl) (fun q h => hNew q (h.elim (fun h => by rw [h]; exact Nat.le_trans (Nat.le_refl _) hSl_149) (fun h => by rw [h.1]; exact Nat.le_trans (Nat.le_refl _) (hSb_150 h.2)))) dX1_primitive_119 (fun v_152 H_153 hpost_154 hz_155 hk_156 => ?_)
                  obtain ⟨rfl, b_160, md_161, g_162, hA_163, hg_164, hgn_165, hb_166⟩ := hpost_154
                  have hF_167 := (kF.lst hA_147 (fun q h => h.imp id (fun h => ⟨h.1, capR_pos h.2⟩)) hz_155 hk_156)
                  have hl_168 := BI.kf hC.D hF_167 hl_141
                  have hl_169 := BI.kf hC.D hF_167 hl_142
                  have hl_170 := IT.kf hF_167 hl_143 (nIT hC.D hl_143 hA_147)
                  have hl_171 := BI.kf hC.D hF_167 hBd
                  have hv_173 := BI.kf hC.D hF_167 hBd
                  have hLB_172 : LB κ H0.size (eB κ (fun k => (P.2 k).tdiv ((cg P.2 P.1 : Nat) : Int))) H_153 l2 b_160 (k + 1) := LB.step (fun k9 hk9 => (hel_148 k9 hk9).elim (fun y hy => ⟨y, hy.1, (eB_L κ _) _ _ _ _ _ hC_fr_144 hF_167 aD.f hy.2⟩)) hv_173 hA_163 hg_164 hgn_165 hSl_149 (hb_166.elim (fun h => by rw [h.1]; exact hSb_150 h.2) (fun h => Nat.le_trans (show H0.size ≤ Array.size H_134 from hfz_fr_144) h))
                  refine V.eq (st' := [vi 1]) rfl ?_
                  refine v_pop E rfl dX1_primitive_122 ?_
                  refine v_goto E (tgt := 90) dX1_primitive_123 (by decide) ?_
                  refine V.sub [1, 2, 3, 4] (lv' := [(4, .ref it2), (3, .ref l2), (2, .ref dq), (0, .ref p)]) rfl ?_
                  exact ih_90  H_153 (k + 1) _ ((((cb - 0) - 0) - 15) - alM k) ((((sb - 0) - 0) - (6 * N + 30)) - alS k) _ (by omega) (by omega) (by have e1 := mulS 15 P.1 k (by omega); omega) (by have e1 := mulS (6 * N + 30) P.1 k (by omega); omega) hLB_172 hl_170 hl_168
            refine V.sub [0, 1, 2, 4] (lv' := [(4, .ref it2), (3, .ref l2), (2, .ref dq), (0, .ref p)]) rfl ?_
            exact loop_90 (P.1 + 1) H_76 0 (κ.2 98) ((((((15 * P.1 + 4) - 0) - 0) - 1) - 0) - 1) (((((((6 * N + 30) * P.1 + 18) - 0) - 0) - 3) - 0) - 4) (-1) (by omega) (Nat.zero_le _) (by rw [al0_0, Nat.sub_zero]; omega) (by rw [al0_0, Nat.sub_zero]; omega) hl_84 hit2I hl_81
          · refine v_aload_n E 3 rfl dX1_primitive_71 ?_
            refine V.frame (fun hfz_fr_174 hfk_fr_174 => ?_)
            rw [hH0] at hfz_fr_174 hfk_fr_174
            rw [hA0] at hfk_fr_174
            have hC_fr_174 := hC.call (fun q h => h.elim) hfz_fr_174 hfk_fr_174
            have hF_fr_174 : kF κ H0 H_48 (fun _ => False) := ⟨(fun _ h => h.elim), hfz_fr_174, hfk_fr_174⟩
            refine v_aret E hE rfl (Or.inl ⟨_, rfl⟩) dX1_primitive_72 (Or.inr ⟨_, rfl⟩) ?_
            exact ⟨p, rfl, by rw [show cPrim P = P from if_pos (by have := sgn3 ((cg P.2 P.1 : Nat) : Int); omega)]; exact hP.kf hC hF_fr_174 aD.no⟩
      ·
        refine V.eq (st' := [vi 1]) (by rw [if_neg (show ¬ ((k : Nat) : Int) = ((P.1 : Nat) : Int) by omega)]; rfl) ?_
        refine v_if_eq E (tgt := 56) dX1_primitive_24 (by decide) ⟨by omega, by omega⟩ (fun c_24 => absurd c_24 (by omega)) (fun c_24 => ?_)
        refine v_aload_n E 0 rfl dX1_primitive_27 ?_
        obtain ⟨y_175, hy_176, hEy_177⟩ := hel k (by omega)
        refine V.frame (fun hfz_fr_178 hfk_fr_178 => ?_)
        rw [hH0] at hfz_fr_178 hfk_fr_178
        rw [hA0] at hfk_fr_178
        have hC_fr_178 := hC.call (fun q h => h.elim) hfz_fr_178 hfk_fr_178
        have hF_fr_178 : kF κ H0 H_26 (fun _ => False) := ⟨(fun _ h => h.elim), hfz_fr_178, hfk_fr_178⟩
        refine v_callF E (As := []) (b := it) (ci := 7) (C := RJ17) (T := TJ17) (N := 4) hl_32.1 rfl (j_next7 κ H_26 hC_fr_178 (i := k) (y := y_175) (by omega) hy_176 (hA.kf hC hF_fr_178 (fun h => h) (fun _ h => h)) hl_32) (by decide +kernel) (lw_F q334 q337 q339 q92 q341) 0 (by decide +kernel) rfl (by decide) (by decide) (cb' := ((cb - 0) - 0)) (sb' := ((sb - 0) - 0)) (by omega) (by omega) rfl (rest := []) (Nat.le_of_ble_eq_true rfl) (fun q9 h => hNew q9 (by rw [show q9 = it from h]; exact hitH)) dX1_primitive_28 (fun v_179 H_180 hpost_181 hz_182 hk_183 => ?_)
        obtain ⟨rfl, hI_184⟩ := hpost_181
        have hl_185 := BI.kf hC.D (kF.itr hl_32 (fun q h => h) hz_182 hk_183) hl_30
        have hl_186 := BI.kf hC.D (kF.itr hl_32 (fun q h => h) hz_182 hk_183) hl_31
        have hl_187 := BI.kf hC.D (kF.itr hl_32 (fun q h => h) hz_182 hk_183) (BI.kf hC.D hF_fr_178 hEy_177)
        refine V.eq (st' := [.ref y_175]) rfl ?_
        obtain ⟨mz_189, nz_189, cfz_189, ⟨c1z_189, c2z_189, c3z_189, ho_188⟩, -⟩ := id hl_187
        refine v_castS E ho_188 (q := (RJ16, TJ16, 6)) rfl q621 dX1_primitive_33 ?_
        refine v_astore E dX1_primitive_36 (zlt hL rfl) (lv' := [(4, .ref y_175), (3, .ref it), (2, .ref dq), (1, .ref o1), (0, .ref p)]) rfl ?_
        refine v_aload_n E 2 rfl dX1_primitive_38 ?_
        refine v_aload_n E 3 rfl dX1_primitive_39 ?_
        refine V.frame (fun hfz_fr_190 hfk_fr_190 => ?_)
        rw [hH0] at hfz_fr_190 hfk_fr_190
        rw [hA0] at hfk_fr_190
        have hC_fr_190 := hC.call (fun q h => h.elim) hfz_fr_190 hfk_fr_190
        have hF_fr_190 : kF κ H0 H_180 (fun _ => False) := ⟨(fun _ h => h.elim), hfz_fr_190, hfk_fr_190⟩
        obtain ⟨mz_197, nz_197, cfz_197, ⟨c1z_197, c2z_197, c3z_197, ho_196⟩, -⟩ := id hl_185
        refine v_callV E (As := [.ref o1]) (b := dq) (ci := 6) (C := RJ16) (T := TJ16) (N := 6) ho_196 rfl (g_eq κ H_180 hl_185 hl_186) (lw_V q1157 q1158 q1159 q91 q1160) 1 (by decide +kernel) rfl (by decide) (by decide) (cb' := (((cb - 0) - 0) - 0)) (sb' := (((sb - 0) - 0) - 0)) (by omega) (by omega) rfl (rest := []) (Nat.le_of_ble_eq_true rfl) (fun q h => h.elim) dX1_primitive_40 (fun v_191 H_192 hpost_193 hz_194 hk_195 => ?_)
        obtain rfl := hpost_193
        have hl_198 := BI.kf hC.D (kF.ext hz_194 hk_195) hl_185
        have hl_199 := BI.kf hC.D (kF.ext hz_194 hk_195) hl_186
        have hl_200 := BI.kf hC.D (kF.ext hz_194 hk_195) hl_187
        have hl_201 := IT.kf (kF.ext hz_194 hk_195) hI_184 (fun h => h)
        by_cases hd1 : cg P.2 k = 1
        ·
          refine V.eq (st' := [vi 1]) (by rw [if_pos (show ((cg P.2 k : Nat) : Int) = 1 by omega)]; rfl) ?_
          refine v_if_ne E (tgt := 53) dX1_primitive_43 (by decide) ⟨by omega, by omega⟩ (fun c_43 => ?_) (fun c_43 => absurd c_43 (by omega))
          refine v_goto E (tgt := 18) dX1_primitive_53 (by decide) ?_
          refine V.sub [1, 2, 3, 4] (lv' := [(3, .ref it), (2, .ref dq), (1, .ref o1), (0, .ref p)]) rfl ?_
          exact ih_18  H_192 (k + 1) dq (((cb - 0) - 0) - 0) (((sb - 0) - 0) - 0) _ (by omega) (by omega) (by have e1 := mulS (20 + 9 * ((N + 1) / 2)) P.1 k (by omega); omega) (by have e1 := mulS (13 * N + 145 + hyT N) P.1 k (by omega); omega) (by rw [show cg P.2 (k + 1) = cg P.2 k by show Nat.gcd (cg P.2 k) _ = _; rw [hd1, Nat.gcd_one_left]]; exact hl_198) hl_199 hl_201
        ·
          refine V.eq (st' := [vi 0]) (by rw [if_neg (show ¬ ((cg P.2 k : Nat) : Int) = 1 by omega)]; rfl) ?_
          refine v_if_ne E (tgt := 53) dX1_primitive_43 (by decide) ⟨by omega, by omega⟩ (fun c_43 => absurd c_43 (by omega)) (fun c_43 => ?_)
          refine v_aload_n E 2 rfl dX1_primitive_46 ?_
          refine v_aload E 0 rfl dX1_primitive_47 ?_
          refine V.frame (fun hfz_fr_202 hfk_fr_202 => ?_)
          rw [hH0] at hfz_fr_202 hfk_fr_202
          rw [hA0] at hfk_fr_202
          have hC_fr_202 := hC.call (fun q h => h.elim) hfz_fr_202 hfk_fr_202
          have hF_fr_202 : kF κ H0 H_192 (fun _ => False) := ⟨(fun _ h => h.elim), hfz_fr_202, hfk_fr_202⟩
          obtain ⟨mz_209, nz_209, cfz_209, ⟨c1z_209, c2z_209, c3z_209, ho_208⟩, -⟩ := id hl_198
          refine v_callV E (As := [.ref y_175]) (b := dq) (ci := 6) (C := RJ16) (T := TJ16) (N := 6) ho_208 rfl (g_gcdN κ H_192 (N := N) hC_fr_202 hl_198 hl_200 (cg_lt hN k) (hN k)) (lw_V q1161 q1162 q1163 q91 q1164) 1 (by decide +kernel) rfl (by decide) (by decide) (cb' := ((((cb - 0) - 0) - 0) - (20 + 9 * ((N + 1) / 2)))) (sb' := ((((sb - 0) - 0) - 0) - (13 * N + 145 + hyT N))) (by have e1 := mulS (20 + 9 * ((N + 1) / 2)) P.1 k (by omega); omega) (by have e1 := mulS (13 * N + 145 + hyT N) P.1 k (by omega); omega) rfl (rest := []) (Nat.le_of_ble_eq_true rfl) (fun q h => h.elim) dX1_primitive_49 (fun v_203 H_204 hpost_205 hz_206 hk_207 => ?_)
          obtain ⟨qg, rfl, hBg⟩ := hpost_205
          have hl_210 := BI.kf hC.D (kF.ext hz_206 hk_207) hl_198
          have hl_211 := BI.kf hC.D (kF.ext hz_206 hk_207) hl_199
          have hl_212 := BI.kf hC.D (kF.ext hz_206 hk_207) hl_200
          have hl_213 := IT.kf (kF.ext hz_206 hk_207) hl_201 (fun h => h)
          refine V.eq (st' := [.ref qg]) rfl ?_
          refine v_astore_n E dX1_primitive_52 (zlt hL rfl) (lv' := [(2, .ref qg), (4, .ref y_175), (3, .ref it), (1, .ref o1), (0, .ref p)]) rfl ?_
          refine v_goto E (tgt := 18) dX1_primitive_53 (by decide) ?_
          refine V.sub [2, 0, 3, 4] (lv' := [(3, .ref it), (2, .ref qg), (1, .ref o1), (0, .ref p)]) rfl ?_
          exact ih_18  H_204 (k + 1) qg ((((cb - 0) - 0) - 0) - (20 + 9 * ((N + 1) / 2))) ((((sb - 0) - 0) - 0) - (13 * N + 145 + hyT N)) _ (by omega) (by omega) (by have e1 := mulS (20 + 9 * ((N + 1) / 2)) P.1 k (by omega); omega) (by have e1 := mulS (13 * N + 145 + hyT N) P.1 k (by omega); omega) hBg hl_211 hl_213
  exact loop_18 (P.1 + 1) H_17 0 dz (((((20 + 9 * ((N + 1) / 2)) * P.1 + 15 * P.1 + 5) - 0) - 0) - 1) (((((13 * N + 145 + hyT N) * P.1 + (6 * N + 30) * P.1 + 22) - 0) - 0) - 4) (-1) (by omega) (Nat.zero_le _) (by rw [Nat.sub_zero]; omega) (by rw [Nat.sub_zero]; omega) hl_23 hl_22 hitI
