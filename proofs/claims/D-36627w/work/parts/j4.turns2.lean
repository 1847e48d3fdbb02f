/-! THE LAW's TURNS, more (printed by tools/m_j4.py) -/
theorem iZ_c (z : Int) : ((iZ z).toUInt32 % 65536).toInt32 = iZ (z % 65536) := by
  apply iZ_ext
  rw [iZ_tn]
  have h := iZ_tn z
  show ((iZ z).toUInt32 % 65536).toNat = _
  rw [UInt32.toNat_mod]
  show (iZ z).toBitVec.toNat % 65536 = _
  rw [h]
  omega
theorem v_i2c {z : zT} {cc : ByteArray} {own : String} {κ : zK} {fr lo : Nat} {ret : Option FieldType} {H : Heap} {cb sb pc : Nat} {lv : List (Nat × Value)} {st : List Value} (E : zOK z cc own κ fr lo ret) {a : Int} (d : decode cc pc = .ok (.i2c, 1)) (K : V z H cb sb (pc + 1) lv (vi (a % 65536) :: st)) : V z H cb sb pc lv (vi a :: st) := fun locs ls cells slots h1 h2 h3 h4 => lv_i2c E.1 E.2.1 d (iZ_c a) (K locs ls cells slots h1 h2 h3 h4)
theorem MtX.mono {κ : zK} {y : MethodName} {cc : ByteArray} {maxL : Nat} {ret : Option FieldType} {fr lo mc ms : Nat} {H0 : Heap} {av : List Value} {A : Nat → Prop} {post post' : Option Value → Heap → Prop} {postX postX' : String → Heap → Prop}
    (h : MtX κ y cc maxL ret fr lo mc ms H0 av A post postX) (hp : ∀ (v : Option Value) (H1 : Heap), post v H1 → post' v H1) (hx : ∀ (C : String) (H1 : Heap), postX C H1 → postX' C H1) : MtX κ y cc maxL ret fr lo mc ms H0 av A post' postX' := by
  intro l hs p e h1 h2 h3 s m args below hf happ hP hK
  obtain ⟨n, o, a1, a2, a3, hq⟩ := h l hs p e h1 h2 h3 s m args below hf happ hP hK
  refine ⟨n, o, a1, a2, a3, ?_⟩
  rcases hq with ⟨⟨⟨v, ho, hpost⟩, hF⟩, hL⟩ | ⟨q, ho, C, ce, L, ⟨t1, t2⟩, t3⟩
  · exact Or.inl ⟨⟨⟨v, ho, hp v _ hpost⟩, hF⟩, hL⟩
  · exact Or.inr ⟨q, ho, C, ce, L, ⟨hx C _ t1, t2⟩, t3⟩
theorem xoTr_1 {S : Nat → Pl} {a : Int} (h : (xoTr S a).2.1 = 0) : (xoTr S a).1 = 1 := by
  unfold xoTr at *
  split at h
  · rename_i c; rw [if_pos c]
  · exact absurd (show (1 : Int) = 0 from h) (by decide)
theorem iS_cg {f g : Nat → Int} : ∀ n, (∀ k, k < n → f k = g k) → iS f n = iS g n := by
  intro n
  induction n with
  | zero => intro _; rfl
  | succ n ih => intro h; show iS f n + f n = iS g n + g n; rw [ih (fun k hk => h k (by omega)), h n (Nat.lt_succ_self n)]
theorem iS_nn {f : Nat → Int} : ∀ n, (∀ i, i < n → 0 ≤ f i) → 0 ≤ iS f n ∧ ∀ k, k < n → f k ≤ iS f n := by
  intro n
  induction n with
  | zero => intro _; exact ⟨Int.le_refl _, fun k hk => absurd hk (Nat.not_lt_zero k)⟩
  | succ n ih =>
    intro h
    obtain ⟨i1, i2⟩ := ih (fun k hk => h k (by omega))
    have h9 := h n (Nat.lt_succ_self n)
    refine ⟨by show 0 ≤ iS f n + f n; omega, fun k hk => ?_⟩
    show f k ≤ iS f n + f n
    by_cases e : k = n
    · subst e; omega
    · have := i2 k (by omega); omega
/-- the lists as the machine holds them -/
theorem relI.rps {c : Nat} {P0 : Option Pl} {K F : Nat → Int} {n : Nat} {iv : Nat → Ivl} {many : Int} {lv lo hi rt : Nat → Int} (h : relI c P0 K F n iv many lv lo hi rt) : (∀ k, k < n → rI (lv k) ∧ rI (lo k) ∧ rI (hi k) ∧ rI (rt k)) ∧ relI c P0 K F n iv many (fun k => rp (lv k)) (fun k => rp (lo k)) (fun k => rp (hi k)) (fun k => rp (rt k)) := by
  obtain ⟨h1, h2, h3, h4, h5⟩ := h
  have key : ∀ k, k < n → rI (lv k) ∧ rI (lo k) ∧ rI (hi k) ∧ rI (rt k) := fun k hk => by
    have q := (h3 k hk).2
    have q1 := q.in
    have q2 := q.1
    have r0 := (iS_nn (f := rt) n (fun i hi => by rw [(h3 i hi).2.2.2.2]; exact plF_nn _ _ _ _)).2 k hk
    have r1 : 0 ≤ rt k := by rw [q.2.2.2]; exact plF_nn _ _ _ _
    exact ⟨⟨by omega, by omega⟩, ⟨by omega, by omega⟩, ⟨by omega, by omega⟩, ⟨by omega, by omega⟩⟩
  refine ⟨key, h1, h2, fun k hk => ?_, ?_, ?_⟩
  · obtain ⟨k1, k2, k3, k4⟩ := key k hk
    show iv k = (rp (lv k), rp (lo k), rp (hi k), rp (rt k)) ∧ iok F (rp (lv k)) (rp (lo k)) (rp (hi k)) (rp (rt k))
    rw [rp_id k1, rp_id k2, rp_id k3, rp_id k4]
    exact h3 k hk
  · rw [iS_cg (f := fun k => rp (rt k)) (g := rt) n (fun k hk => rp_id (key k hk).2.2.2)]; exact h4
  · rw [iS_cg (f := wI (fun k => rp (lo k)) (fun k => rp (hi k))) (g := wI lo hi) n (fun k hk => by show (if rp (lo k) = rp (hi k) then (0 : Int) else 1) = if lo k = hi k then 0 else 1; rw [rp_id (key k hk).2.1, rp_id (key k hk).2.2.1])]; exact h5
theorem LV.rps {κ : zK} {ad : Nat → Nat} {a1 a2 a3 a4 cap : Nat} {lv lo hi rt : Nat → Int} {H : Heap} (h : LV κ ad a1 a2 a3 a4 cap lv lo hi rt H) : LV κ ad a1 a2 a3 a4 cap (fun k => rp (lv k)) (fun k => rp (lo k)) (fun k => rp (hi k)) (fun k => rp (rt k)) H := by
  have e : ∀ x : Int, iZ x = iZ (rp x) := fun x => iZ_of (iZ x)
  exact ⟨h.1, h.2.1, eI.congr h.2.2.1 (fun k _ => e _), eI.congr h.2.2.2.1 (fun k _ => e _), eI.congr h.2.2.2.2.1 (fun k _ => e _), eI.congr h.2.2.2.2.2 (fun k _ => e _)⟩
set_option maxHeartbeats 400000 in
/-- interval -/
theorem l_interval {z : zT} {κ : zK} {ad : Nat → Nat} {a1 a2 a3 a4 x oa a0 N c j fr lo9 : Nat} {fS : Nat → Int} {H : Heap} {cb sb : Nat} (E : zOK z cL_law RX0 κ fr lo9 (some .boolean)) (X9 : zLw z) (hfr : 30 ≤ fr) (hlo : 700 ≤ lo9) (hz0 : z.H0.size ≤ κ.2 93) (hL : z.nL = 8) (hE : lwE κ ad a1 a2 a3 a4 oa a0) (hrI : ∀ k, rI (fS k)) (h : lwI κ ad a1 a2 a3 a4 x oa a0 N fS c H) (hc : c < 42) (hj : j + 6 ≤ N) (hN : N ≤ 252) (K9 : ∀ H1 : Heap, lwI κ ad a1 a2 a3 a4 x oa a0 N fS (c + 1) H1 → V z H1 cb sb 2204 (lwL x (ad 3002) oa a0 j) []) : V z H (cb + 28500) (sb + 129000) 1864 (lwL x (ad 3002) oa a0 j) [] := by
  obtain ⟨hC, hA, ⟨g0, ho⟩, Sc, isoP, n, cap, iv, Sm, K, F, many, thr, lv, lo, hi, rt, P, f, g, mk, len, hP, hB, hV, hS, hR, hF7, hcap⟩ := h
  obtain ⟨hI, hreg, hou, h0⟩ := id hE
  have hD := hC.D
  obtain ⟨fsx, hx⟩ := hP.hx
  have hoA : ¬ pA κ H oa := mK.pA hD (Or.inr (Or.inl ⟨1, g0, ho⟩))
  have hrc : rI (fS (j + 2) % 65536) := ⟨by omega, by omega⟩
  have hM := c_iv κ H (hrI (j + 1)) hrc hC hP
  rw [vi_rp (xoIv Sc n iv (fS (j + 1)) (fS (j + 2) % 65536)).1] at hM
  have hR9 := okr_Iv Sc n iv (fS (j + 1)) (fS (j + 2) % 65536)
  refine v_aload_n E 3 rfl dL_law_1864 ?_
  refine l_arg E (k := 1) ⟨by decide, by decide⟩ 4 0 rfl rfl hA hj hN dL_law_1865 dL_law_1866 dL_law_1868 dL_law_1869 dL_law_1870 ?_
  refine l_arg E (k := 2) ⟨by decide, by decide⟩ 4 0 rfl rfl hA hj hN dL_law_1871 dL_law_1872 dL_law_1874 dL_law_1875 dL_law_1876 ?_
  refine v_i2c E dL_law_1877 ?_
  refine v_aload_n E 1 rfl dL_law_1878 ?_
  refine v_callSK E X9 (As := [.ref x, vi (fS (j + 1)), vi (fS (j + 2) % 65536), .ref oa]) (w_interval κ H hx ho (fun _ => rp_r _) hoA hM (hk_CP hD)) (lw_SW q1628 q1629 q69 q1630) 4 (by decide +kernel) rfl (by omega) (by omega) (cb' := cb + 4) (sb' := sb + 512) (by omega) (by omega) rfl (rest := []) (Nat.le_of_ble_eq_true rfl) (lw_hAc hz0 hE) dL_law_1879 (fun v9 H1 hp9 hz9 hk9 => ?_)
  obtain ⟨rfl, hcase⟩ := hp9
  obtain ⟨hP1, g2, ho1, hg2⟩ := s_post (PO := fun H1 => CP κ H1 x (xoIv Sc n iv (fS (j + 1)) (fS (j + 2) % 65536)).2.2 isoP n cap iv) (PX := fun H1 => CP κ H1 x Sc isoP n cap iv) (PR := fun H1 => CP κ H1 x (xoIv Sc n iv (fS (j + 1)) (fS (j + 2) % 65536)).2.2 isoP n cap iv) hcase (fun h => h) (fun hne h => by rw [hR9.1 hne]; exact h)
  obtain ⟨hC1, hA1, hB1, hV1⟩ := lw_c hE hC hA hB hV hz9 hk9
  obtain ⟨e1, e2, hS1⟩ := ag_iv hS hR (fS (j + 1)) (fS (j + 2) % 65536)
  refine v_istore E dL_law_1882 (by rw [hL]; decide) (lv' := (5, vi (xoIv Sc n iv (fS (j + 1)) (fS (j + 2) % 65536)).2.1) :: lwL x (ad 3002) oa a0 j) rfl ?_
  refine v_aload_n E 3 rfl dL_law_1884 ?_
  refine l_arg E (k := 1) ⟨by decide, by decide⟩ 5 1 rfl rfl hA1 hj hN dL_law_1885 dL_law_1886 dL_law_1888 dL_law_1889 dL_law_1890 ?_
  refine l_arg E (k := 2) ⟨by decide, by decide⟩ 5 1 rfl rfl hA1 hj hN dL_law_1891 dL_law_1892 dL_law_1894 dL_law_1895 dL_law_1896 ?_
  refine v_i2c E dL_law_1897 ?_
  refine v_callV E (As := [vi (fS (j + 1)), vi (fS (j + 2) % 65536)]) (b := ad 3002) (ci := 3) (C := RX4) (T := TX4) (N := 27) hB1.ho rfl (m_opIv κ H1 (lo := lo) hV1.1 (rI_many hR hc) (by decide) (hrI (j + 1)) (by omega) hI hB1 hV1.2.2.1 hV1.2.2.2.1 hV1.2.2.2.2.1 hV1.2.2.2.2.2) (lw_V q2118 q2119 q2120 q82 q2121) 2 (by decide +kernel) rfl (by omega) (by omega) (cb' := cb) (sb' := sb) (by omega) (by omega) rfl (rest := []) (Nat.le_of_ble_eq_true rfl) (fun q hq => lw_hAm hz0 hE q (Or.inl hq)) dL_law_1898 (fun v10 H2 hp10 hz10 hk10 => ?_)
  obtain ⟨rfl, P1, f1, g1, mk1, len1, h77, hB2⟩ := hp10
  obtain ⟨hC2, hP2, hA2, ho2⟩ := lw_m hE (A := AH ad) (fun q h => Or.inl h) hC1 hP1 hA1 ho1 hB1 hV1 hz10 hk10
  have hV2 := lw_v hE hV1 hk10
  refine V.eq (st' := [vi (rp (opIv Sm many lv lo hi (fS (j + 1)) (fS (j + 2) % 65536)).1)]) (by rw [← vi_rp]; rfl) ?_
  refine v_istore E dL_law_1901 (by rw [hL]; decide) (lv' := (6, vi (rp (opIv Sm many lv lo hi (fS (j + 1)) (fS (j + 2) % 65536)).1)) :: (5, vi (xoIv Sc n iv (fS (j + 1)) (fS (j + 2) % 65536)).2.1) :: lwL x (ad 3002) oa a0 j) rfl ?_
  exact l_tail E (by omega) (by omega) dL_law_1903 dL_law_1904 dL_law_1907 dL_law_1909 dL_law_1914 dL_law_1916 dL_law_1919 dL_law_1920 dL_law_1921 dL_law_1922 dL_law_1924 dL_law_1925 dL_law_1926 dL_law_1931 (by decide) hI hB2 ho2 e2 hR9.2 (rp_r _) (fun h => by rw [hg2 h, e1]) (fun H3 hz3 hk3 => K9 H3 (lwI.kept hE ⟨hC2, hA2, ⟨g2, ho2⟩, _, isoP, n, cap, iv, _, K, F, many, _, lv, lo, hi, rt, _, _, _, _, _, hP2, hB2, hV2, hS1, hR.up, (h77.trans' hF7), hcap⟩ hz3 hk3))
set_option maxHeartbeats 400000 in
/-- sturmCoefficient -/
theorem l_sturmCoefficient {z : zT} {κ : zK} {ad : Nat → Nat} {a1 a2 a3 a4 x oa a0 N c j fr lo9 : Nat} {fS : Nat → Int} {H : Heap} {cb sb : Nat} (E : zOK z cL_law RX0 κ fr lo9 (some .boolean)) (X9 : zLw z) (hfr : 30 ≤ fr) (hlo : 700 ≤ lo9) (hz0 : z.H0.size ≤ κ.2 93) (hL : z.nL = 8) (hE : lwE κ ad a1 a2 a3 a4 oa a0) (hrI : ∀ k, rI (fS k)) (h : lwI κ ad a1 a2 a3 a4 x oa a0 N fS c H) (hc : c < 42) (hj : j + 6 ≤ N) (hN : N ≤ 252) (K9 : ∀ H1 : Heap, lwI κ ad a1 a2 a3 a4 x oa a0 N fS (c + 1) H1 → V z H1 cb sb 2204 (lwL x (ad 3002) oa a0 j) []) : V z H (cb + 28500) (sb + 129000) 1112 (lwL x (ad 3002) oa a0 j) [] := by
  obtain ⟨hC, hA, ⟨g0, ho⟩, Sc, isoP, n, cap, iv, Sm, K, F, many, thr, lv, lo, hi, rt, P, f, g, mk, len, hP, hB, hV, hS, hR, hF7, hcap⟩ := h
  obtain ⟨hI, hreg, hou, h0⟩ := id hE
  have hD := hC.D
  obtain ⟨fsx, hx⟩ := hP.hx
  have hoA : ¬ pA κ H oa := mK.pA hD (Or.inr (Or.inl ⟨1, g0, ho⟩))
  have hM := c_scf κ H (hrI (j + 1)) (hrI (j + 2)) (hrI (j + 3)) hC hS.hQ hP
  have hR9 := okr_Scf Sc (fS (j + 1)) (fS (j + 2)) (fS (j + 3))
  refine v_aload_n E 3 rfl dL_law_1112 ?_
  refine l_arg E (k := 1) ⟨by decide, by decide⟩ 4 0 rfl rfl hA hj hN dL_law_1113 dL_law_1114 dL_law_1116 dL_law_1117 dL_law_1118 ?_
  refine l_arg E (k := 2) ⟨by decide, by decide⟩ 4 0 rfl rfl hA hj hN dL_law_1119 dL_law_1120 dL_law_1122 dL_law_1123 dL_law_1124 ?_
  refine l_arg E (k := 3) ⟨by decide, by decide⟩ 4 0 rfl rfl hA hj hN dL_law_1125 dL_law_1126 dL_law_1128 dL_law_1129 dL_law_1130 ?_
  refine v_aload_n E 1 rfl dL_law_1131 ?_
  refine v_callSK E X9 (As := [.ref x, vi (fS (j + 1)), vi (fS (j + 2)), vi (fS (j + 3)), .ref oa]) (w_sturmCoefficient κ H hx ho (fun _ => trivial) hoA hM (hk_CP hD)) (lw_SW q1497 q1498 q69 q1499) 5 (by decide +kernel) rfl (by omega) (by omega) (cb' := cb + 4) (sb' := sb + 512) (by omega) (by omega) rfl (rest := []) (Nat.le_of_ble_eq_true rfl) (lw_hAc hz0 hE) dL_law_1132 (fun v9 H1 hp9 hz9 hk9 => ?_)
  obtain ⟨rfl, hcase⟩ := hp9
  obtain ⟨hP1, g2, ho1, hg2⟩ := s_post (PO := fun H1 => CP κ H1 x (xoScf Sc (fS (j + 1)) (fS (j + 2)) (fS (j + 3))).2.2 isoP n cap iv) (PX := fun H1 => CP κ H1 x Sc isoP n cap iv) (PR := fun H1 => CP κ H1 x (xoScf Sc (fS (j + 1)) (fS (j + 2)) (fS (j + 3))).2.2 isoP n cap iv) hcase (fun h => h) (fun hne h => by rw [hR9.1 hne]; exact h)
  obtain ⟨hC1, hA1, hB1, hV1⟩ := lw_c hE hC hA hB hV hz9 hk9
  obtain ⟨e1, e2, hS1⟩ := ag_scf hS (fS (j + 1)) (fS (j + 2)) (fS (j + 3))
  refine v_istore E dL_law_1135 (by rw [hL]; decide) (lv' := (5, vi (xoScf Sc (fS (j + 1)) (fS (j + 2)) (fS (j + 3))).2.1) :: lwL x (ad 3002) oa a0 j) rfl ?_
  refine v_aload_n E 3 rfl dL_law_1137 ?_
  refine l_arg E (k := 1) ⟨by decide, by decide⟩ 5 1 rfl rfl hA1 hj hN dL_law_1138 dL_law_1139 dL_law_1141 dL_law_1142 dL_law_1143 ?_
  refine l_arg E (k := 2) ⟨by decide, by decide⟩ 5 1 rfl rfl hA1 hj hN dL_law_1144 dL_law_1145 dL_law_1147 dL_law_1148 dL_law_1149 ?_
  refine l_arg E (k := 3) ⟨by decide, by decide⟩ 5 1 rfl rfl hA1 hj hN dL_law_1150 dL_law_1151 dL_law_1153 dL_law_1154 dL_law_1155 ?_
  refine v_callV E (As := [vi (fS (j + 1)), vi (fS (j + 2)), vi (fS (j + 3))]) (b := ad 3002) (ci := 3) (C := RX4) (T := TX4) (N := 27) hB1.ho rfl (m_opScf κ H1 (hrI (j + 1)) (hrI (j + 2)) (hrI (j + 3)) hS.b (rs_mR hS) hI hB1) (lw_V q2028 q2029 q2030 q82 q2031) 3 (by decide +kernel) rfl (by omega) (by omega) (cb' := cb) (sb' := sb) (by omega) (by omega) rfl (rest := []) (Nat.le_of_ble_eq_true rfl) (fun q hq => lw_hAm hz0 hE q (Or.inl hq)) dL_law_1156 (fun v10 H2 hp10 hz10 hk10 => ?_)
  obtain ⟨rfl, P1, f1, g1, mk1, len1, h77, hB2⟩ := hp10
  obtain ⟨hC2, hP2, hA2, ho2⟩ := lw_m hE (A := AH ad) (fun q h => Or.inl h) hC1 hP1 hA1 ho1 hB1 hV1 hz10 hk10
  have hV2 := lw_v hE hV1 hk10
  have hfin : lwI κ ad a1 a2 a3 a4 x oa a0 N fS (c + 1) H2 := ⟨hC2, hA2, ⟨g2, ho2⟩, _, isoP, n, cap, iv, _, K, F, many, _, lv, lo, hi, rt, _, _, _, _, _, hP2, hB2, hV2, hS1, hR.up, (h77.trans' hF7), hcap⟩
  refine V.eq (st' := [vj (rpJ (opScf Sm (fS (j + 1)) (fS (j + 2)) (fS (j + 3))).1)]) (by rw [← vj_rp]; rfl) ?_
  refine v_lstore E dL_law_1159 (by rw [hL]; decide) (lv' := (6, vj (rpJ (opScf Sm (fS (j + 1)) (fS (j + 2)) (fS (j + 3))).1)) :: (5, vi (xoScf Sc (fS (j + 1)) (fS (j + 2)) (fS (j + 3))).2.1) :: lwL x (ad 3002) oa a0 j) rfl ?_
  refine l_thr E (by omega) (by omega) 4 rfl dL_law_1161 dL_law_1162 hI hB2 (fun H3 hz3 hk3 => ?_)
  rw [← e2]
  refine v_iload E 1 rfl dL_law_1165 ?_
  have r9 : rI (xoScf Sc (fS (j + 1)) (fS (j + 2)) (fS (j + 3))).2.1 := ⟨by have := hR9.2; omega, by have := hR9.2; omega⟩
  refine v_icmp_eq E (tgt := 1172) dL_law_1167 (by decide) r9 r9 (fun _ => ?_) (fun h => absurd rfl h)
  refine v_iload E 1 rfl dL_law_1172 ?_
  have fin : V z H3 cb sb 1188 ((6, vj (rpJ (opScf Sm (fS (j + 1)) (fS (j + 2)) (fS (j + 3))).1)) :: (5, vi (xoScf Sc (fS (j + 1)) (fS (j + 2)) (fS (j + 3))).2.1) :: lwL x (ad 3002) oa a0 j) [] := by
    refine V.sub [2, 3, 4, 5, 6] rfl ?_
    exact v_goto E dL_law_1188 (by decide) (K9 H3 (lwI.kept hE hfin hz3 hk3))
  refine v_if_ne E (tgt := 1188) dL_law_1174 (by decide) r9 (fun _ => fin) (fun h0 => ?_)
  have ho3 := ho2.kept (hk3 oa ho2.lt)
  refine v_aload_n E 3 rfl dL_law_1177 ?_
  refine v_iconst E dL_law_1178 ?_
  refine v_lald E dL_law_1179 ho3 0 rfl (by decide) (by decide) ?_
  rw [hg2 h0, e1]
  refine v_lload E 0 rfl dL_law_1180 ?_
  refine V.eq (st' := [vj (rpJ (opScf Sm (fS (j + 1)) (fS (j + 2)) (fS (j + 3))).1), vj (rpJ (opScf Sm (fS (j + 1)) (fS (j + 2)) (fS (j + 3))).1)]) (congrArg (fun q => [vj (rpJ (opScf Sm (fS (j + 1)) (fS (j + 2)) (fS (j + 3))).1), q]) (vj_rp (opScf Sm (fS (j + 1)) (fS (j + 2)) (fS (j + 3))).1)) ?_
  refine v_lcmp E dL_law_1182 (rpJ_r _) (rpJ_r _) ?_
  rw [if_neg (Int.lt_irrefl _), if_pos rfl]
  exact v_if_eq E (tgt := 1188) dL_law_1183 (by decide) r0 (fun _ => fin) (fun h => absurd rfl h)
set_option maxHeartbeats 400000 in
/-- isTrue -/
theorem l_isTrue {z : zT} {κ : zK} {ad : Nat → Nat} {a1 a2 a3 a4 x oa a0 N c j fr lo9 : Nat} {fS : Nat → Int} {H : Heap} {cb sb : Nat} (E : zOK z cL_law RX0 κ fr lo9 (some .boolean)) (X9 : zLw z) (hfr : 30 ≤ fr) (hlo : 700 ≤ lo9) (hz0 : z.H0.size ≤ κ.2 93) (hL : z.nL = 8) (hE : lwE κ ad a1 a2 a3 a4 oa a0) (hrI : ∀ k, rI (fS k)) (h : lwI κ ad a1 a2 a3 a4 x oa a0 N fS c H) (hc : c < 42) (hj : j + 6 ≤ N) (hN : N ≤ 252) (K9 : ∀ H1 : Heap, lwI κ ad a1 a2 a3 a4 x oa a0 N fS (c + 1) H1 → V z H1 cb sb 2204 (lwL x (ad 3002) oa a0 j) []) : V z H (cb + 28500) (sb + 129000) 2127 (lwL x (ad 3002) oa a0 j) [] := by
  obtain ⟨hC, hA, ⟨g0, ho⟩, Sc, isoP, n, cap, iv, Sm, K, F, many, thr, lv, lo, hi, rt, P, f, g, mk, len, hP, hB, hV, hS, hR, hF7, hcap⟩ := h
  obtain ⟨hI, hreg, hou, h0⟩ := id hE
  have hD := hC.D
  obtain ⟨fsx, hx⟩ := hP.hx
  have hoA : ¬ pA κ H oa := mK.pA hD (Or.inr (Or.inl ⟨1, g0, ho⟩))
  have hM := c_tr κ H (hrI (j + 1)) hC hS.hQ hS.hH hS.hFr hS.hpos hS.h7 hS.hTr hP
  have hR9 := okr_Tr Sc (fS (j + 1))
  refine v_aload_n E 3 rfl dL_law_2127 ?_
  refine l_arg E (k := 1) ⟨by decide, by decide⟩ 4 0 rfl rfl hA hj hN dL_law_2128 dL_law_2129 dL_law_2131 dL_law_2132 dL_law_2133 ?_
  refine v_aload_n E 1 rfl dL_law_2134 ?_
  refine v_callSK E X9 (As := [.ref x, vi (fS (j + 1)), .ref oa]) (w_isTrue κ H hx ho (fun h => xoTr_1 h) hoA hM (hk_CP hD)) (lw_SW q1741 q1742 q69 q1743) 3 (by decide +kernel) rfl (by omega) (by omega) (cb' := cb + 4) (sb' := sb + 512) (by omega) (by omega) rfl (rest := []) (Nat.le_of_ble_eq_true rfl) (lw_hAc hz0 hE) dL_law_2135 (fun v9 H1 hp9 hz9 hk9 => ?_)
  obtain ⟨rfl, hcase⟩ := hp9
  obtain ⟨hP1, g2, ho1, hg2⟩ := s_post (PO := fun H1 => CP κ H1 x (xoTr Sc (fS (j + 1))).2.2 isoP n cap iv) (PX := fun H1 => CP κ H1 x Sc isoP n cap iv) (PR := fun H1 => CP κ H1 x (xoTr Sc (fS (j + 1))).2.2 isoP n cap iv) hcase (fun h => h) (fun hne h => by rw [hR9.1 hne]; exact h)
  obtain ⟨hC1, hA1, hB1, hV1⟩ := lw_c hE hC hA hB hV hz9 hk9
  obtain ⟨e1, e2, hS1⟩ := ag_tr hS (fS (j + 1))
  refine v_istore E dL_law_2138 (by rw [hL]; decide) (lv' := (5, vi (xoTr Sc (fS (j + 1))).2.1) :: lwL x (ad 3002) oa a0 j) rfl ?_
  refine v_aload_n E 3 rfl dL_law_2140 ?_
  refine l_arg E (k := 1) ⟨by decide, by decide⟩ 5 1 rfl rfl hA1 hj hN dL_law_2141 dL_law_2142 dL_law_2144 dL_law_2145 dL_law_2146 ?_
  refine v_callV E (As := [vi (fS (j + 1))]) (b := ad 3002) (ci := 3) (C := RX4) (T := TX4) (N := 27) hB1.ho rfl (m_opTrue κ H1 (hrI (j + 1)) hI hB1) (lw_V q2149 q2150 q2151 q82 q2152) 1 (by decide +kernel) rfl (by omega) (by omega) (cb' := cb) (sb' := sb) (by omega) (by omega) rfl (rest := []) (Nat.le_of_ble_eq_true rfl) (fun q hq => lw_hAm hz0 hE q (Or.inl hq)) dL_law_2147 (fun v10 H2 hp10 hz10 hk10 => ?_)
  obtain ⟨rfl, P1, f1, g1, mk1, len1, h77, hB2⟩ := hp10
  obtain ⟨hC2, hP2, hA2, ho2⟩ := lw_m hE (A := AH ad) (fun q h => Or.inl h) hC1 hP1 hA1 ho1 hB1 hV1 hz10 hk10
  have hV2 := lw_v hE hV1 hk10
  have hfin : lwI κ ad a1 a2 a3 a4 x oa a0 N fS (c + 1) H2 := ⟨hC2, hA2, ⟨g2, ho2⟩, _, isoP, n, cap, iv, _, K, F, many, _, lv, lo, hi, rt, _, _, _, _, _, hP2, hB2, hV2, hS1, hR.up, (h77.trans' hF7), hcap⟩
  refine V.eq (st' := [vi (opTrue Sm (fS (j + 1))).1]) rfl ?_
  refine v_istore E dL_law_2150 (by rw [hL]; decide) (lv' := (6, vi (opTrue Sm (fS (j + 1))).1) :: (5, vi (xoTr Sc (fS (j + 1))).2.1) :: lwL x (ad 3002) oa a0 j) rfl ?_
  refine l_thr E (by omega) (by omega) 4 rfl dL_law_2152 dL_law_2153 hI hB2 (fun H3 hz3 hk3 => ?_)
  rw [← e2]
  refine v_iload E 1 rfl dL_law_2156 ?_
  have r9 : rI (xoTr Sc (fS (j + 1))).2.1 := ⟨by have := hR9.2; omega, by have := hR9.2; omega⟩
  refine v_icmp_eq E (tgt := 2163) dL_law_2158 (by decide) r9 r9 (fun _ => ?_) (fun h => absurd rfl h)
  refine v_iload E 1 rfl dL_law_2163 ?_
  have fin : V z H3 cb sb 2187 ((6, vi (opTrue Sm (fS (j + 1))).1) :: (5, vi (xoTr Sc (fS (j + 1))).2.1) :: lwL x (ad 3002) oa a0 j) [] := by
    refine V.sub [2, 3, 4, 5, 6] rfl ?_
    exact v_goto E dL_law_2187 (by decide) (K9 H3 (lwI.kept hE hfin hz3 hk3))
  refine v_if_ne E (tgt := 2187) dL_law_2165 (by decide) r9 (fun _ => fin) (fun h0 => ?_)
  have ho3 := ho2.kept (hk3 oa ho2.lt)
  refine v_aload_n E 3 rfl dL_law_2168 ?_
  refine v_iconst E dL_law_2169 ?_
  refine v_lald E dL_law_2170 ho3 0 rfl (by decide) (by decide) ?_
  rw [hg2 h0, xoTr_1 h0]
  have e3 : (opTrue Sm (fS (j + 1))).1 = 1 := by rw [← e1]; exact xoTr_1 h0
  refine v_iload E 0 rfl dL_law_2171 ?_
  rw [e3] at fin ⊢
  refine v_if_eq E (tgt := 2180) dL_law_2173 (by decide) (by decide) (fun h => absurd h (by decide)) (fun _ => ?_)
  refine v_lconst E (x := 1) rfl dL_law_2176 ?_
  refine v_goto E (tgt := 2181) dL_law_2177 (by decide) ?_
  refine v_lcmp E dL_law_2181 (by decide) (by decide) ?_
  exact v_if_eq E (tgt := 2187) dL_law_2182 (by decide) (by decide) (fun _ => fin) (fun h => absurd rfl h)
set_option maxHeartbeats 400000 in
/-- intervals -/
theorem l_intervals {z : zT} {κ : zK} {ad : Nat → Nat} {a1 a2 a3 a4 x oa a0 N c j fr lo9 : Nat} {fS : Nat → Int} {H : Heap} {cb sb : Nat} (E : zOK z cL_law RX0 κ fr lo9 (some .boolean)) (X9 : zLw z) (hfr : 30 ≤ fr) (hlo : 700 ≤ lo9) (hz0 : z.H0.size ≤ κ.2 93) (hL : z.nL = 8) (hE : lwE κ ad a1 a2 a3 a4 oa a0) (hrI : ∀ k, rI (fS k)) (h : lwI κ ad a1 a2 a3 a4 x oa a0 N fS c H) (hc : c < 42) (hj : j + 6 ≤ N) (hN : N ≤ 252) (K9 : ∀ H1 : Heap, lwI κ ad a1 a2 a3 a4 x oa a0 N fS (c + 1) H1 → V z H1 cb sb 2204 (lwL x (ad 3002) oa a0 j) []) : V z H (cb + 28500) (sb + 129000) 1795 (lwL x (ad 3002) oa a0 j) [] := by
  obtain ⟨hC, hA, ⟨g0, ho⟩, Sc, isoP, n, cap, iv, Sm, K, F, many, thr, lv, lo, hi, rt, P, f, g, mk, len, hP, hB, hV, hS, hR, hF7, hcap⟩ := h
  obtain ⟨hI, hreg, hou, h0⟩ := id hE
  have hD := hC.D
  obtain ⟨fsx, hx⟩ := hP.hx
  have hoA : ¬ pA κ H oa := mK.pA hD (Or.inr (Or.inl ⟨1, g0, ho⟩))
  refine v_aload_n E 3 rfl dL_law_1795 ?_
  refine v_callV E (As := []) (b := x) (ci := 0) (C := RX1) (T := TX1) (N := 3) hx rfl (c_ivs κ H hC hP) (lw_V q282 q283 q284 q70 q285) 0 (by decide +kernel) rfl (by omega) (by omega) (cb' := cb + 4) (sb' := sb + 512) (by omega) (by omega) rfl (rest := []) (Nat.le_of_ble_eq_true rfl) (fun q hq => hq.elim) dL_law_1796 (fun v9 H1 hp9 hz9 hk9 => ?_)
  obtain ⟨rfl, hP1⟩ := hp9
  obtain ⟨hC1, hA1, hB1, hV1⟩ := lw_c hE hC hA hB hV hz9 (fun q hq hn => hk9 q hq (fun h => h))
  have ho1 := ho.kept (hk9 oa ho.lt (fun h => h))
  refine v_aload_n E 2 rfl dL_law_1799 ?_
  refine V.eq (st' := .ref (ad 3002) :: [vi (n : Int)]) rfl ?_
  refine v_callV E (As := []) (b := ad 3002) (ci := 3) (C := RX4) (T := TX4) (N := 27) hB1.ho rfl (m_opIvs κ H1 hI hB1) (lw_V q2106 q2107 q2108 q82 q2109) 0 (by decide +kernel) rfl (by omega) (by omega) (cb' := cb) (sb' := sb) (by omega) (by omega) rfl (rest := [vi (n : Int)]) (Nat.le_of_ble_eq_true rfl) (fun q hq => lw_hAm hz0 hE q (Or.inl hq)) dL_law_1800 (fun v10 H2 hp10 hz10 hk10 => ?_)
  obtain ⟨rfl, P1, f1, g1, mk1, len1, h77, hB2⟩ := hp10
  obtain ⟨hC2, hP2, hA2, ho2⟩ := lw_m hE (A := AH ad) (fun q h => Or.inl h) hC1 hP1 hA1 ho1 hB1 hV1 hz10 hk10
  have hV2 := lw_v hE hV1 hk10
  have hfin : lwI κ ad a1 a2 a3 a4 x oa a0 N fS (c + 1) H2 := ⟨hC2, hA2, ⟨g0, ho2⟩, _, isoP, n, cap, iv, _, K, F, many, _, lv, lo, hi, rt, _, _, _, _, _, hP2, hB2, hV2, hS, hR.up, (h77.trans' hF7), hcap⟩
  refine V.eq (st' := [vi (rp (n : Int)), vi (rp (n : Int))]) (by rw [← vi_rp]; show [vi many, vi (n : Int)] = _; rw [hR.1]) ?_
  exact v_icmp_eq E (tgt := 2204) dL_law_1803 (by decide) (rp_r _) (rp_r _) (fun _ => K9 H2 hfin) (fun h => absurd rfl h)
set_option maxHeartbeats 400000 in
/-- removeEmpty -/
theorem l_removeEmpty {z : zT} {κ : zK} {ad : Nat → Nat} {a1 a2 a3 a4 x oa a0 N c j fr lo9 : Nat} {fS : Nat → Int} {H : Heap} {cb sb : Nat} (E : zOK z cL_law RX0 κ fr lo9 (some .boolean)) (X9 : zLw z) (hfr : 30 ≤ fr) (hlo : 700 ≤ lo9) (hz0 : z.H0.size ≤ κ.2 93) (hL : z.nL = 8) (hE : lwE κ ad a1 a2 a3 a4 oa a0) (hrI : ∀ k, rI (fS k)) (h : lwI κ ad a1 a2 a3 a4 x oa a0 N fS c H) (hc : c < 42) (hj : j + 6 ≤ N) (hN : N ≤ 252) (K9 : ∀ H1 : Heap, lwI κ ad a1 a2 a3 a4 x oa a0 N fS (c + 1) H1 → V z H1 cb sb 2204 (lwL x (ad 3002) oa a0 j) []) : V z H (cb + 28500) (sb + 129000) 2058 (lwL x (ad 3002) oa a0 j) [] := by
  obtain ⟨hC, hA, ⟨g0, ho⟩, Sc, isoP, n, cap, iv, Sm, K, F, many, thr, lv, lo, hi, rt, P, f, g, mk, len, hP, hB, hV, hS, hR, hF7, hcap⟩ := h
  obtain ⟨hI, hreg, hou, h0⟩ := id hE
  have hD := hC.D
  obtain ⟨fsx, hx⟩ := hP.hx
  have hoA : ¬ pA κ H oa := mK.pA hD (Or.inr (Or.inl ⟨1, g0, ho⟩))
  have hrv := hR.rps
  refine v_aload_n E 3 rfl dL_law_2058 ?_
  refine v_callV E (As := []) (b := x) (ci := 0) (C := RX1) (T := TX1) (N := 3) hx rfl (c_rm κ H (fun k hk => by have := (hrv.1 k hk).2.2.2; rw [(hR.2.2.1 k hk).1]; exact this) hC hP) (lw_V q287 q288 q289 q70 q290) 0 (by decide +kernel) rfl (by omega) (by omega) (cb' := cb + 4) (sb' := sb + 512) (by omega) (by omega) rfl (rest := []) (Nat.le_of_ble_eq_true rfl) (fun q hq => lw_hAc hz0 hE q (Or.inl hq)) dL_law_2059 (fun v9 H1 hp9 hz9 hk9 => ?_)
  obtain ⟨rfl, hP1⟩ := hp9
  obtain ⟨hC1, hA1, hB1, hV1⟩ := lw_c hE hC hA hB hV hz9 (fun q hq hn => hk9 q hq (fun h => hn (Or.inl h)))
  have ho1 := ho.kept (hk9 oa ho.lt hoA)
  refine v_aload_n E 2 rfl dL_law_2062 ?_
  refine V.eq (st' := .ref (ad 3002) :: [vi ((n : Int) - (rvN iv n : Int))]) rfl ?_
  refine v_callV E (As := []) (b := ad 3002) (ci := 3) (C := RX4) (T := TX4) (N := 27) hB1.ho rfl (m_removeEmpty κ H1 hV1.1 (rI_many hR hc) (by decide) hV1.2.1 (fun i _ => rp_r (rt i)) hI hB1 hV1.rps.2.2.1 hV1.rps.2.2.2.1 hV1.rps.2.2.2.2.1 hV1.rps.2.2.2.2.2) (lw_V q2141 q2142 q2143 q82 q2144) 0 (by decide +kernel) rfl (by omega) (by omega) (cb' := cb) (sb' := sb) (by omega) (by omega) rfl (rest := [vi ((n : Int) - (rvN iv n : Int))]) (Nat.le_of_ble_eq_true rfl) (fun q hq => lw_hAm hz0 hE q hq) dL_law_2063 (fun v10 H2 hp10 hz10 hk10 => ?_)
  obtain ⟨rfl, hB2, hv1, hv2, hv3, hv4⟩ := hp10
  obtain ⟨hC2, hP2, hA2, ho2⟩ := lw_m hE (A := AI ad a1 a2 a3 a4) (fun q h => h) hC1 hP1 hA1 ho1 hB1 hV1 hz10 hk10
  obtain ⟨er, hR2⟩ := hrv.2.rm
  have em : many.toNat = n := by have := hR.1; omega
  rw [em] at hB2 hv1 hv2 hv3 hv4
  have hfin : lwI κ ad a1 a2 a3 a4 x oa a0 N fS (c + 1) H2 := ⟨hC2, hA2, ⟨g0, ho2⟩, _, isoP, _, cap, _, _, K, F, _, _, _, _, _, _, _, _, _, _, _, hP2, hB2, ⟨hV1.1, hV1.2.1, hv1, hv2, hv3, hv4⟩, hS, hR2.up, hF7, hcap⟩
  refine V.eq (st' := [vi (rp ((n : Int) - (rvN iv n : Int))), vi (rp ((n : Int) - (rvN iv n : Int)))]) (by rw [← vi_rp]; show [vi (many - (rmN (fun k => rp (rt k)) many.toNat : Int)), vi ((n : Int) - (rvN iv n : Int))] = _; rw [em, er, hR.1]) ?_
  exact v_icmp_eq E (tgt := 2204) dL_law_2066 (by decide) (rp_r _) (rp_r _) (fun _ => K9 H2 hfin) (fun h => absurd rfl h)
set_option maxHeartbeats 400000 in
/-- checksum -/
theorem l_checksum {z : zT} {κ : zK} {ad : Nat → Nat} {a1 a2 a3 a4 x oa a0 N c j fr lo9 : Nat} {fS : Nat → Int} {H : Heap} {cb sb : Nat} (E : zOK z cL_law RX0 κ fr lo9 (some .boolean)) (X9 : zLw z) (hfr : 30 ≤ fr) (hlo : 700 ≤ lo9) (hz0 : z.H0.size ≤ κ.2 93) (hL : z.nL = 8) (hE : lwE κ ad a1 a2 a3 a4 oa a0) (hrI : ∀ k, rI (fS k)) (h : lwI κ ad a1 a2 a3 a4 x oa a0 N fS c H) (hc : c < 42) (hj : j + 6 ≤ N) (hN : N ≤ 252) (K9 : ∀ H1 : Heap, lwI κ ad a1 a2 a3 a4 x oa a0 N fS (c + 1) H1 → V z H1 cb sb 2204 (lwL x (ad 3002) oa a0 j) []) : V z H (cb + 28500) (sb + 129000) 2190 (lwL x (ad 3002) oa a0 j) [] := by
  obtain ⟨hC, hA, ⟨g0, ho⟩, Sc, isoP, n, cap, iv, Sm, K, F, many, thr, lv, lo, hi, rt, P, f, g, mk, len, hP, hB, hV, hS, hR, hF7, hcap⟩ := h
  obtain ⟨hI, hreg, hou, h0⟩ := id hE
  have hD := hC.D
  obtain ⟨fsx, hx⟩ := hP.hx
  have hoA : ¬ pA κ H oa := mK.pA hD (Or.inr (Or.inl ⟨1, g0, ho⟩))
  have hrv := hR.rps
  refine v_aload_n E 3 rfl dL_law_2190 ?_
  refine v_callV E (As := []) (b := x) (ci := 0) (C := RX1) (T := TX1) (N := 3) hx rfl (c_ck κ H (fun k hk => by have := hrv.1 k hk; rw [(hR.2.2.1 k hk).1]; exact this) hC hP) (lw_V q461 q462 q463 q70 q464) 0 (by decide +kernel) rfl (by omega) (by omega) (cb' := cb + 4) (sb' := sb + 512) (by omega) (by omega) rfl (rest := []) (Nat.le_of_ble_eq_true rfl) (fun q hq => lw_hAc hz0 hE q (Or.inl hq)) dL_law_2191 (fun v9 H1 hp9 hz9 hk9 => ?_)
  obtain ⟨rfl, hP1⟩ := hp9
  obtain ⟨hC1, hA1, hB1, hV1⟩ := lw_c hE hC hA hB hV hz9 (fun q hq hn => hk9 q hq (fun h => hn (Or.inl h)))
  have ho1 := ho.kept (hk9 oa ho.lt hoA)
  refine v_aload_n E 2 rfl dL_law_2194 ?_
  refine V.eq (st' := .ref (ad 3002) :: [vj (xkV iv n (31 * xkR Sc 5 7 + (n : Int)))]) rfl ?_
  refine v_callV E (As := []) (b := ad 3002) (ci := 3) (C := RX4) (T := TX4) (N := 27) hB1.ho rfl (m_checksum κ H1 hV1.1 (rI_many hR hc) (by decide) hV1.2.1 hS.b (fun i _ => ⟨rp_r (lv i), rp_r (lo i), rp_r (hi i), rp_r (rt i)⟩) hI hB1 hV1.rps.2.2.1 hV1.rps.2.2.2.1 hV1.rps.2.2.2.2.1 hV1.rps.2.2.2.2.2) (lw_V q2153 q2154 q2155 q82 q2156) 0 (by decide +kernel) rfl (by omega) (by omega) (cb' := cb) (sb' := sb) (by omega) (by omega) rfl (rest := [vj (xkV iv n (31 * xkR Sc 5 7 + (n : Int)))]) (Nat.le_of_ble_eq_true rfl) (fun q hq => lw_hAm hz0 hE q (Or.inl hq)) dL_law_2195 (fun v10 H2 hp10 hz10 hk10 => ?_)
  obtain ⟨rfl, hB2⟩ := hp10
  obtain ⟨hC2, hP2, hA2, ho2⟩ := lw_m hE (A := AH ad) (fun q h => Or.inl h) hC1 hP1 hA1 ho1 hB1 hV1 hz10 hk10
  have hV2 := lw_v hE hV1 hk10
  have hfin : lwI κ ad a1 a2 a3 a4 x oa a0 N fS (c + 1) H2 := ⟨hC2, hA2, ⟨g0, ho2⟩, _, isoP, n, cap, iv, _, K, F, many, _, lv, lo, hi, rt, _, _, _, _, _, hP2, hB2, hV2, hS, hR.up, hF7, hcap⟩
  have ek := ck_ag hS hrv.2
  refine V.eq (st' := [vj (rpJ (xkV iv n (31 * xkR Sc 5 7 + (n : Int)))), vj (rpJ (xkV iv n (31 * xkR Sc 5 7 + (n : Int))))]) (by rw [← vj_rp]; show [vj (ckV _ _ _ _ _ _), vj (xkV iv n (31 * xkR Sc 5 7 + (n : Int)))] = _; rw [ek]) ?_
  refine v_lcmp E dL_law_2198 (rpJ_r _) (rpJ_r _) ?_
  rw [if_neg (Int.lt_irrefl _), if_pos rfl]
  exact v_if_eq E (tgt := 2204) dL_law_2199 (by decide) r0 (fun _ => K9 H2 hfin) (fun h => absurd rfl h)
