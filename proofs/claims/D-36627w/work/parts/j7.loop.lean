/-! THE LAW's LOOP (printed by tools/m_j7.py) -/
theorem iZ_31 (z : Int) : iZ z &&& iZ 31 = iZ (z % 32) := by
  apply iZ_ext
  rw [iZ_tn]
  have h := iZ_tn z
  have e : (iZ z &&& iZ 31).toBitVec.toNat = (iZ z).toBitVec.toNat &&& (iZ 31).toBitVec.toNat := rfl
  have e2 : (iZ 31).toBitVec.toNat = 2 ^ 5 - 1 := by decide
  rw [e, e2, Nat.and_two_pow_sub_one_eq_mod, h]
  omega
theorem v_tswIn {z : zT} {cc : ByteArray} {own : String} {κ : zK} {fr lo : Nat} {ret : Option FieldType} {H : Heap} {cb sb pc : Nat} {lv : List (Nat × Value)} {st : List Value} (E : zOK z cc own κ fr lo ret) {a : Int} (k : Nat) {dflt hi : Int} {offs : Array Int} {len : Nat} {off : Int} {tgt : Nat} (d : decode cc pc = .ok (.tableswitch dflt 0 hi offs, len)) (ha : a = (k : Int)) (hk : (k : Int) ≤ hi) (h100 : k ≤ 100) (ho : offs[k]? = some off) (ht : (pc : Int) + off = (tgt : Int)) (K : V z H cb sb tgt lv st) : V z H cb sb pc lv (vi a :: st) := by
  intro locs ls cells slots h1 h2 h3 h4
  subst ha
  have e : (iZ (k : Int)).toInt = (k : Int) := iZ_toInt ⟨by omega, by omega⟩
  refine lv_tableIn E.1 E.2.1 d (by rw [e]; omega) (by rw [e]; omega) ?_ ht (K locs ls cells slots h1 h2 h3 h4)
  rw [e, Int.sub_zero, Int.toNat_natCast]
  exact ho
theorem v_tswOut {z : zT} {cc : ByteArray} {own : String} {κ : zK} {fr lo : Nat} {ret : Option FieldType} {H : Heap} {cb sb pc : Nat} {lv : List (Nat × Value)} {st : List Value} (E : zOK z cc own κ fr lo ret) {a : Int} (hr : rI a) {dflt hi : Int} {offs : Array Int} {len : Nat} {tgt : Nat} (d : decode cc pc = .ok (.tableswitch dflt 0 hi offs, len)) (h : a < 0 ∨ hi < a) (ht : (pc : Int) + dflt = (tgt : Int)) (K : V z H cb sb tgt lv st) : V z H cb sb pc lv (vi a :: st) := by
  intro locs ls cells slots h1 h2 h3 h4
  exact lv_tableOut E.1 E.2.1 d (by rw [iZ_toInt hr]; exact h) ht (K locs ls cells slots h1 h2 h3 h4)
theorem lwI.up {κ : zK} {ad : Nat → Nat} {a1 a2 a3 a4 x oa a0 N c : Nat} {fS : Nat → Int} {H : Heap} (h : lwI κ ad a1 a2 a3 a4 x oa a0 N fS c H) : lwI κ ad a1 a2 a3 a4 x oa a0 N fS (c + 1) H := by
  obtain ⟨hC, hA, ho, Sc, isoP, n, cap, iv, Sm, K, F, many, thr, lv, lo, hi, rt, P, f, g, mk, len, hP, hB, hV, hS, hR, hF7, hcap⟩ := h
  exact ⟨hC, hA, ho, Sc, isoP, n, cap, iv, Sm, K, F, many, thr, lv, lo, hi, rt, P, f, g, mk, len, hP, hB, hV, hS, hR.up, hF7, hcap⟩
set_option maxHeartbeats 1000000 in
/-- one turn -/
theorem l_turn {z : zT} {κ : zK} {ad : Nat → Nat} {a1 a2 a3 a4 x oa a0 N c j fr lo9 : Nat} {fS : Nat → Int} {H : Heap} {cb sb : Nat} (E : zOK z cL_law RX0 κ fr lo9 (some .boolean)) (X9 : zLw z) (hfr : 30 ≤ fr) (hlo : 700 ≤ lo9) (hz0 : z.H0.size ≤ κ.2 93) (hL : z.nL = 8) (hE : lwE κ ad a1 a2 a3 a4 oa a0) (hrI : ∀ k, rI (fS k)) (h : lwI κ ad a1 a2 a3 a4 x oa a0 N fS c H) (hc : c < 42) (hj : j + 6 ≤ N) (hN : N ≤ 252) (K9 : ∀ H1 : Heap, lwI κ ad a1 a2 a3 a4 x oa a0 N fS (c + 1) H1 → V z H1 cb sb 2204 (lwL x (ad 3002) oa a0 j) []) : V z H (cb + 28500) (sb + 129000) 33 (lwL x (ad 3002) oa a0 j) [] := by
  refine v_aload_n E 4 rfl dL_law_33 ?_
  refine v_iload E 0 rfl dL_law_34 ?_
  refine v_iald E dL_law_36 h.2.1 j rfl (by omega) (by omega) ?_
  refine v_bipush E ⟨by decide, by decide⟩ dL_law_37 ?_
  refine v_iand E (iZ_31 _) dL_law_39 ?_
  generalize hq : fS j % 32 = q
  have hq0 : 0 ≤ q ∧ q ≤ 31 := by omega
  clear hq
  by_cases q0 : q = 0
  · exact v_tswIn E 0 (tgt := 180) dL_law_40 q0 (by decide) (by decide) rfl (by decide) (l_set E X9 hfr hlo hz0 hL hE hrI h hc hj hN K9)
  by_cases q1 : q = 1
  · exact v_tswIn E 1 (tgt := 260) dL_law_40 q1 (by decide) (by decide) rfl (by decide) (l_coefficient E X9 hfr hlo hz0 hL hE hrI h hc hj hN K9)
  by_cases q2 : q = 2
  · exact v_tswIn E 2 (tgt := 328) dL_law_40 q2 (by decide) (by decide) rfl (by decide) (l_degree E X9 hfr hlo hz0 hL hE hrI h hc hj hN K9)
  by_cases q3 : q = 3
  · exact v_tswIn E 3 (tgt := 384) dL_law_40 q3 (by decide) (by decide) rfl (by decide) (l_copy E X9 hfr hlo hz0 hL hE hrI h hc hj hN K9)
  by_cases q4 : q = 4
  · exact v_tswIn E 4 (tgt := 452) dL_law_40 q4 (by decide) (by decide) rfl (by decide) (l_add E X9 hfr hlo hz0 hL hE hrI h hc hj hN K9)
  by_cases q5 : q = 5
  · exact v_tswIn E 5 (tgt := 532) dL_law_40 q5 (by decide) (by decide) rfl (by decide) (l_multiply E X9 hfr hlo hz0 hL hE hrI h hc hj hN K9)
  by_cases q6 : q = 6
  · exact v_tswIn E 6 (tgt := 612) dL_law_40 q6 (by decide) (by decide) rfl (by decide) (l_derivative E X9 hfr hlo hz0 hL hE hrI h hc hj hN K9)
  by_cases q7 : q = 7
  · exact v_tswIn E 7 (tgt := 680) dL_law_40 q7 (by decide) (by decide) rfl (by decide) (l_shift E X9 hfr hlo hz0 hL hE hrI h hc hj hN K9)
  by_cases q8 : q = 8
  · exact v_tswIn E 8 (tgt := 760) dL_law_40 q8 (by decide) (by decide) rfl (by decide) (l_reflect E X9 hfr hlo hz0 hL hE hrI h hc hj hN K9)
  by_cases q9 : q = 9
  · exact v_tswIn E 9 (tgt := 828) dL_law_40 q9 (by decide) (by decide) rfl (by decide) (l_scale E X9 hfr hlo hz0 hL hE hrI h hc hj hN K9)
  by_cases q10 : q = 10
  · exact v_tswIn E 10 (tgt := 908) dL_law_40 q10 (by decide) (by decide) rfl (by decide) (l_gcd E X9 hfr hlo hz0 hL hE hrI h hc hj hN K9)
  by_cases q11 : q = 11
  · exact v_tswIn E 11 (tgt := 988) dL_law_40 q11 (by decide) (by decide) rfl (by decide) (l_squareFreePart E X9 hfr hlo hz0 hL hE hrI h hc hj hN K9)
  by_cases q12 : q = 12
  · exact v_tswIn E 12 (tgt := 1056) dL_law_40 q12 (by decide) (by decide) rfl (by decide) (l_sturmLength E X9 hfr hlo hz0 hL hE hrI h hc hj hN K9)
  by_cases q13 : q = 13
  · exact v_tswIn E 13 (tgt := 1112) dL_law_40 q13 (by decide) (by decide) rfl (by decide) (l_sturmCoefficient E X9 hfr hlo hz0 hL hE hrI h hc hj hN K9)
  by_cases q14 : q = 14
  · exact v_tswIn E 14 (tgt := 1191) dL_law_40 q14 (by decide) (by decide) rfl (by decide) (l_sturmDegree E X9 hfr hlo hz0 hL hE hrI h hc hj hN K9)
  by_cases q15 : q = 15
  · exact v_tswIn E 15 (tgt := 1259) dL_law_40 q15 (by decide) (by decide) rfl (by decide) (l_signChanges E X9 hfr hlo hz0 hL hE hrI h hc hj hN K9)
  by_cases q16 : q = 16
  · exact v_tswIn E 16 (tgt := 1339) dL_law_40 q16 (by decide) (by decide) rfl (by decide) (l_sign E X9 hfr hlo hz0 hL hE hrI h hc hj hN K9)
  by_cases q17 : q = 17
  · exact v_tswIn E 17 (tgt := 1419) dL_law_40 q17 (by decide) (by decide) rfl (by decide) (l_countDistinct E X9 hfr hlo hz0 hL hE hrI h hc hj hN K9)
  by_cases q18 : q = 18
  · exact v_tswIn E 18 (tgt := 1523) dL_law_40 q18 (by decide) (by decide) rfl (by decide) (l_countAll E X9 hfr hlo hz0 hL hE hrI h hc hj hN K9)
  by_cases q19 : q = 19
  · exact v_tswIn E 19 (tgt := 1627) dL_law_40 q19 (by decide) (by decide) rfl (by decide) (l_distinctRoots E X9 hfr hlo hz0 hL hE hrI h hc hj hN K9)
  by_cases q20 : q = 20
  · exact v_tswIn E 20 (tgt := 1683) dL_law_40 q20 (by decide) (by decide) rfl (by decide) (l_coefficientSignChanges E X9 hfr hlo hz0 hL hE hrI h hc hj hN K9)
  by_cases q21 : q = 21
  · exact v_tswIn E 21 (tgt := 1739) dL_law_40 q21 (by decide) (by decide) rfl (by decide) (l_isolate E X9 hfr hlo hz0 hL hE hrI h hc hj hN K9)
  by_cases q22 : q = 22
  · exact v_tswIn E 22 (tgt := 1795) dL_law_40 q22 (by decide) (by decide) rfl (by decide) (l_intervals E X9 hfr hlo hz0 hL hE hrI h hc hj hN K9)
  by_cases q23 : q = 23
  · exact v_tswIn E 23 (tgt := 1808) dL_law_40 q23 (by decide) (by decide) rfl (by decide) (l_rootsIn E X9 hfr hlo hz0 hL hE hrI h hc hj hN K9)
  by_cases q24 : q = 24
  · exact v_tswIn E 24 (tgt := 1864) dL_law_40 q24 (by decide) (by decide) rfl (by decide) (l_interval E X9 hfr hlo hz0 hL hE hrI h hc hj hN K9)
  by_cases q25 : q = 25
  · exact v_tswIn E 25 (tgt := 1934) dL_law_40 q25 (by decide) (by decide) rfl (by decide) (l_bisect E X9 hfr hlo hz0 hL hE hrI h hc hj hN K9)
  by_cases q26 : q = 26
  · exact v_tswIn E 26 (tgt := 1990) dL_law_40 q26 (by decide) (by decide) rfl (by decide) (l_refine E X9 hfr hlo hz0 hL hE hrI h hc hj hN K9)
  by_cases q27 : q = 27
  · exact v_tswIn E 27 (tgt := 2058) dL_law_40 q27 (by decide) (by decide) rfl (by decide) (l_removeEmpty E X9 hfr hlo hz0 hL hE hrI h hc hj hN K9)
  by_cases q28 : q = 28
  · exact v_tswIn E 28 (tgt := 2071) dL_law_40 q28 (by decide) (by decide) rfl (by decide) (l_multiplicity E X9 hfr hlo hz0 hL hE hrI h hc hj hN K9)
  by_cases q29 : q = 29
  · exact v_tswIn E 29 (tgt := 2127) dL_law_40 q29 (by decide) (by decide) rfl (by decide) (l_isTrue E X9 hfr hlo hz0 hL hE hrI h hc hj hN K9)
  by_cases q30 : q = 30
  · exact v_tswIn E 30 (tgt := 2190) dL_law_40 q30 (by decide) (by decide) rfl (by decide) (l_checksum E X9 hfr hlo hz0 hL hE hrI h hc hj hN K9)
  have q31 : q = 31 := by omega
  subst q31
  exact v_tswOut E ⟨by decide, by decide⟩ (tgt := 2204) dL_law_40 (Or.inr (by decide)) (by decide) (V.less (cb' := cb) (sb' := sb) (by omega) (by omega) (K9 H h.up))
/-- the loop -/
theorem l_loop {z : zT} {κ : zK} {ad : Nat → Nat} {a1 a2 a3 a4 x oa a0 N fr lo9 : Nat} {fS : Nat → Int} (E : zOK z cL_law RX0 κ fr lo9 (some .boolean)) (X9 : zLw z) (hfr : 30 ≤ fr) (hlo : 700 ≤ lo9) (hz0 : z.H0.size ≤ κ.2 93) (hL : z.nL = 8) (hE : lwE κ ad a1 a2 a3 a4 oa a0) (hrI : ∀ k, rI (fS k)) (hN : N ≤ 252) (KF : ∀ (H : Heap) (cb sb : Nat) (lv : List (Nat × Value)), V z H cb sb 2211 lv [vi 1]) : ∀ (m c : Nat) (H : Heap), c + m = 42 → lwI κ ad a1 a2 a3 a4 x oa a0 N fS c H → V z H (m * 28500) (m * 129000) 23 (lwL x (ad 3002) oa a0 (6 * c)) [] := by
  intro m
  induction m with
  | zero =>
    intro c H hm h
    refine v_iload E 0 rfl dL_law_23 ?_
    refine v_aload_n E 4 rfl dL_law_25 ?_
    refine v_alen E dL_law_26 (t := 0) (ty := .int) h.2.1 rfl ?_
    refine v_bipush E ⟨by decide, by decide⟩ dL_law_27 ?_
    refine v_isub E dL_law_29 ?_
    refine v_icmp_gt E (tgt := 2210) dL_law_30 (by decide) ⟨by omega, by omega⟩ ⟨by omega, by omega⟩ (fun _ => ?_) (fun h9 => absurd h9 (by omega))
    refine v_iconst E dL_law_2210 ?_
    exact KF _ _ _ _
  | succ m ih =>
    intro c H hm h
    refine v_iload E 0 rfl dL_law_23 ?_
    refine v_aload_n E 4 rfl dL_law_25 ?_
    refine v_alen E dL_law_26 (t := 0) (ty := .int) h.2.1 rfl ?_
    refine v_bipush E ⟨by decide, by decide⟩ dL_law_27 ?_
    refine v_isub E dL_law_29 ?_
    refine v_icmp_gt E (tgt := 2210) dL_law_30 (by decide) ⟨by omega, by omega⟩ ⟨by omega, by omega⟩ (fun _ => ?_) (fun h9 => ?_)
    · refine v_iconst E dL_law_2210 ?_
      exact KF _ _ _ _
    · rw [Nat.succ_mul, Nat.succ_mul]
      refine l_turn (j := 6 * c) E X9 hfr hlo hz0 hL hE hrI h (by omega) (by omega) hN (fun H1 h1 => ?_)
      refine v_iinc E 0 rfl dL_law_2204 (by rw [hL]; decide) (lv' := [(4, vi (((6 * c : Nat) : Int) + 6)), (3, .ref oa), (2, .ref (ad 3002)), (1, .ref x), (0, .ref a0)]) rfl ?_
      refine v_goto E (tgt := 23) dL_law_2207 (by decide) ?_
      have e : ((6 * c : Nat) : Int) + 6 = ((6 * (c + 1) : Nat) : Int) := by omega
      rw [e]
      exact ih (c + 1) H1 (by omega) h1
