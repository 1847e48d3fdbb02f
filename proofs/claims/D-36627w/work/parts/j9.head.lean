/-! THE LAW's HEAD (printed by tools/m_j9.py) -/
theorem relS_0 : relS (fun _ => P00) (fun _ _ => 0) := fun i hi => ⟨⟨Or.inl rfl, fun k _ => rfl⟩, Nat.zero_le 7, fun k _ => rfl, fun k _ => ⟨(by decide : (-9999 : Int) ≤ 0), (by decide : (0 : Int) ≤ 9999)⟩⟩
theorem relI_0 {iv : Nat → Ivl} : relI 0 none (fun _ => 0) (fun _ => 0) 0 iv 0 (fun _ => 0) (fun _ => 0) (fun _ => 0) (fun _ => 0) := ⟨rfl, fun h => absurd h (by decide), fun k hk => absurd hk (Nat.not_lt_zero k), by decide, by decide⟩
theorem cK.lt {κ : zK} {H : Heap} {q : Nat} (h : cK κ H q) : q < H.size := by
  rcases h with ⟨ci, fs, g, _⟩ | ⟨n, f, g⟩ | ⟨⟨n, f, g⟩, _⟩
  · exact g.lt
  · exact g.lt
  · exact g.lt
set_option maxHeartbeats 2000000 in
theorem l_head {z : zT} {κ : zK} {a0 N fr lo9 : Nat} {fS : Nat → Int} {H : Heap} (E : zOK z cL_law RX0 κ fr lo9 (some .boolean)) (X9 : zLw z) (XO : zMO z.s) (hfr : 30 ≤ fr) (hlo : 700 ≤ lo9) (hH : z.H0 = H) (h93 : κ.2 93 = H.size) (hL : z.nL = 8) (hC : CO κ H) (hA : hp κ H a0 (eI κ N fS)) (hrI : ∀ k, rI (fS k)) (hN : N ≤ 252) (KF : ∀ (H : Heap) (cb sb : Nat) (lv : List (Nat × Value)), V z H cb sb 2211 lv [vi 1]) : V z H 1200252 5493094 0 [(0, .ref a0)] [] := by
  have hz0 : z.H0.size ≤ κ.2 93 := by rw [hH, h93]; exact Nat.le_refl _
  have hAll : ∀ q, H.size ≤ q → zA z.A z.H0 q := fun q h => Or.inr (by rw [hH]; exact h)
  have ha0 := hA.lt
  refine v_new E in_X1 tyX1 tyX1_ok q105 q106 q70 (ci := 0) rfl (fs := [.null, .null, .null]) (fun j hj => by rcases (show j = 0 ∨ j = 1 ∨ j = 2 by omega) with rfl | rfl | rfl <;> rfl) (cb' := 1200251) (sb' := 5493091) (by decide) (by decide) dL_law_0 (fun x H1 hx hox hg1 => ?_)
  refine v_dup E rfl dL_law_3 ?_
  have hC1 := hC.grow hg1
  have h93x : κ.2 93 ≤ x := by rw [h93, hx]; exact Nat.le_refl _
  refine v_callI E (As := []) (b := x) (x_init κ H1 (iv := fun _ => (0, 0, 0, 0)) h93x hC1 hox) q109 q70 q107 q108 rfl 0 (by decide +kernel) rfl (by omega) (by omega) (cb' := 1200233) (sb' := 5493031) (by decide) (by decide) rfl (rest := [.ref x]) (Nat.le_of_ble_eq_true rfl) (fun q hq => hAll q (by rw [show q = x from hq, hx]; exact Nat.le_refl _)) dL_law_4 (fun v2 H2 hp2 hz2 hk2 => ?_)
  obtain ⟨rfl, hP2⟩ := hp2
  have s1 : H1.size = H.size + 1 := hg1.1
  have old2 : ∀ q : Nat, q < H.size → H2[q]? = H[q]? := fun q hq => (hk2 q (by omega) (by rw [hx]; omega)).trans (hg1.2 q hq)
  have hC2 : CO κ H2 := hC.kept (fun q hq => old2 q (by rw [← h93]; exact hq)) (by omega)
  refine v_astore_n E dL_law_7 (by rw [hL]; decide) (lv' := [(1, .ref x), (0, .ref a0)]) rfl ?_
  have E' : zOK z cL_law RX0 (zR κ H2.size (H2.size + 1430)) fr lo9 (some .boolean) := E.kx
  generalize hκ : zR κ H2.size (H2.size + 1430) = κ' at E'
  have hP2' : CP κ' H2 x (fun _ => P00) none 0 0 (fun _ => (0, 0, 0, 0)) := by rw [← hκ]; exact hP2.kx (Nat.le_refl _)
  have hA' : hp κ' H a0 (eI κ' N fS) := by rw [← hκ]; exact hA
  have k91 : κ'.2 91 = H2.size := by rw [← hκ]; rfl
  have k92 : κ'.2 92 = H2.size + 1430 := by rw [← hκ]; rfl
  have k93 : κ'.2 93 = H.size := by rw [← hκ]; exact h93
  refine v_new E' in_X4 tyX4 tyX4_ok q1750 q1751 q82 (ci := 3) rfl (fs := [vi 0, .null, .null, .null, .null, .null, .null, .null, .null, .null, .null, .null, .null, .null, .null, .null, .null, .null, .null, vi 0, .null, .null, .null, .null, .null, .null, vi 0]) (fun j hj => match j, hj with | 0, _ => rfl | 1, _ => rfl | 2, _ => rfl | 3, _ => rfl | 4, _ => rfl | 5, _ => rfl | 6, _ => rfl | 7, _ => rfl | 8, _ => rfl | 9, _ => rfl | 10, _ => rfl | 11, _ => rfl | 12, _ => rfl | 13, _ => rfl | 14, _ => rfl | 15, _ => rfl | 16, _ => rfl | 17, _ => rfl | 18, _ => rfl | 19, _ => rfl | 20, _ => rfl | 21, _ => rfl | 22, _ => rfl | 23, _ => rfl | 24, _ => rfl | 25, _ => rfl | 26, _ => rfl | k + 27, h => absurd h (by omega)) (cb' := 1200232) (sb' := 5493004) (by decide) (by decide) dL_law_8 (fun o H3 ho hoo hg3 => ?_)
  refine v_dup E' rfl dL_law_11 ?_
  have s3 : H3.size = H2.size + 1 := hg3.1
  have s2 : H.size + 1 ≤ H2.size := by omega
  refine v_callIO E' XO (As := []) (b := o) (m_init κ' H3 hoo) q1754 q82 q1752 q1753 rfl 0 (by decide +kernel) rfl (by omega) (by omega) (cb' := 1198803) (sb' := 5431703) (by decide) (by decide) rfl (rest := [.ref o]) (Nat.le_of_ble_eq_true rfl) (fun q hq => hAll q (by rw [show q = o from hq, ho]; omega)) dL_law_12 (fun v4 H4 hp4 hz4 hk4 => ?_)
  obtain ⟨rfl, s4, hB4, hV4⟩ := hp4
  have old4 : ∀ q : Nat, q < H2.size → H4[q]? = H2[q]? := fun q hq => (hk4 q (by omega) (by rw [ho]; omega)).trans (hg3.2 q hq)
  refine v_astore_n E' dL_law_15 (by rw [hL]; decide) (lv' := [(2, .ref o), (1, .ref x), (0, .ref a0)]) rfl ?_
  refine v_iconst E' dL_law_16 ?_
  refine v_newJ E' (n := 1) q1842 (by decide) rfl (cb' := 1198802) (sb' := 5431702) (by decide) (by decide) dL_law_17 (fun oa H5 hoa hno hg5 => ?_)
  refine v_astore_n E' dL_law_19 (by rw [hL]; decide) (lv' := [(3, .ref oa), (2, .ref o), (1, .ref x), (0, .ref a0)]) rfl ?_
  refine v_iconst E' dL_law_20 ?_
  have eo : adM H3.size o 3002 = o := adM_o _ _
  refine v_istore E' dL_law_21 (by rw [hL]; decide) (lv' := lwL x (adM H3.size o 3002) oa a0 (6 * 0)) (by rw [eo]; rfl) ?_
  have s5 : H5.size = H4.size + 1 := hg5.1
  have old5 : ∀ q : Nat, q < H2.size → H5[q]? = H2[q]? := fun q hq => (hg5.2 q (by omega)).trans (old4 q hq)
  have hC5 : CO κ' H5 := by
    have hk : CO κ H5 := hC2.kept (fun q hq => old5 q (by have h9 : q < H.size := by rw [← h93]; exact hq
                                                          omega)) (by omega)
    rw [← hκ]
    exact hk.kx (by rw [h93]; exact nle (by omega)) (by omega)
  have hP5 : CP κ' H5 x (fun _ => P00) none 0 0 (fun _ => (0, 0, 0, 0)) := hP2'.kw ⟨by omega, fun q hq => old5 q hq.lt⟩
  have hE : lwE κ' (adM H3.size o) (H3.size + 1425) (H3.size + 1426) (H3.size + 1427) (H3.size + 1428) oa a0 := by
    refine ⟨adM_inj (by omega), ⟨?_, fun i hi => ?_, fun q hq => ?_⟩, ?_, ?_⟩
    · rw [k91, k93]; exact nle (by omega)
    · have r := adM_reg hi (show o + 1 = H3.size by omega)
      rw [k91, k92]; exact ⟨nle (by omega), by show adM H3.size o i < H2.size + 1430; omega⟩
    · rw [k91, k92]; exact ⟨nle (by omega), by show q < H2.size + 1430; omega⟩
    · rw [k92]; show H2.size + 1430 ≤ oa; omega
    · rw [k93]; exact ha0
  have hz0' : z.H0.size ≤ κ'.2 93 := by rw [hH, k93]; exact Nat.le_refl _
  have hB5 := hB4.kp (H1 := H5) (fun i hi => by
    have r := adM_reg hi (show o + 1 = H3.size by omega)
    exact hg5.2 _ (by omega))
  have hV5 := hV4.kp (H1 := H5) (fun q hq => hg5.2 q (by omega))
  have hI0 : lwI κ' (adM H3.size o) (H3.size + 1425) (H3.size + 1426) (H3.size + 1427) (H3.size + 1428) x oa a0 N fS 0 H5 :=
    ⟨hC5, hA'.kept ((old5 a0 (by omega)).trans (old2 a0 ha0)), ⟨_, hno⟩, _, none, 0, 0, _, _, _, (fun _ => 0), _, _, _, _, _, _, _, _, _, _, _, hP5, hB5, hV5, relS_0, relI_0, fun k _ => rfl, by decide⟩
  exact V.less (cb' := 42 * 28500) (sb' := 42 * 129000) (by decide) (by decide) (l_loop E' X9 hfr hlo hz0' hL hE hrI hN KF 42 0 H5 rfl hI0)
