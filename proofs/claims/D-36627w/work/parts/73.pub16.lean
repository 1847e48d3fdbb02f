set_option maxHeartbeats 400000 in
set_option maxRecDepth 100000 in
/-- thrown -/
theorem m_thrown (κ : zK) (H0 : Heap) {ad : Nat → Nat} {P : Nat → Nat → Int} {f g mk : Nat → Int} {S : Nat → Nat → Int} {K : Nat → Int} {thr len many : Int} {a1 a2 a3 a4 : Nat} (hI : Inj ad) (hB : MB κ ad P f g mk S K thr len many a1 a2 a3 a4 H0) : Mt κ yX4_thrown cX4_thrown 1 (some .int) 0 0 0 0 H0 [.ref (ad 3002)] (fun _ => False) (fun v H1 => v = some (vi thr)) := by
  refine Mt.of (by decide) (Nat.le_of_ble_eq_true rfl) ?_
  intro z E hE hH0 hA0 hL hini
  have hAll : ∀ q, (fun _ => False) q → zA z.A z.H0 q := fun q h => Or.inl (by rw [hA0]; exact h)
  have hNew : ∀ q, H0.size ≤ q → zA z.A z.H0 q := fun q h => Or.inr (by rw [hH0]; exact h)
  have E : zOK z cX4_thrown RX4 κ 0 0 (some .int) := E
  refine V.eqL (lv' := [(0, .ref (ad 3002))]) rfl ?_
  refine v_aload_n E 0 rfl dX4_thrown_0 ?_
  refine v_getf E in_X4 hB.ho (ci := 3) rfl 0 (by decide) q1760 rfl (v := vi thr) rfl dX4_thrown_1 ?_
  refine v_iret E hE dX4_thrown_4 ?_
  rfl

set_option maxHeartbeats 400000 in
set_option maxRecDepth 100000 in
/-- checksum -/
theorem m_checksum (κ : zK) (H0 : Heap) {ad : Nat → Nat} {P : Nat → Nat → Int} {f g mk : Nat → Int} {S : Nat → Nat → Int} {K : Nat → Int} {thr len many : Int} {a1 a2 a3 a4 : Nat} {cap : Nat} {lv lo hi rt : Nat → Int} (hap : ∀ i, uA i → a1 ≠ ad i ∧ a2 ≠ ad i ∧ a3 ≠ ad i ∧ a4 ≠ ad i) (hmn : 0 ≤ many ∧ many ≤ (cap : Int)) (hcp : cap < 1000000) (hne : a1 ≠ a2 ∧ a1 ≠ a3 ∧ a1 ≠ a4 ∧ a2 ≠ a3 ∧ a2 ≠ a4 ∧ a3 ≠ a4) (hS : bS S) (hrv : ∀ j, j < cap → rI (lv j) ∧ rI (lo j) ∧ rI (hi j) ∧ rI (rt j)) (hI : Inj ad) (hB : MB κ ad P f g mk S K thr len many a1 a2 a3 a4 H0) (hv1 : hp κ H0 a1 (eI κ cap lv)) (hv2 : hp κ H0 a2 (eI κ cap lo)) (hv3 : hp κ H0 a3 (eI κ cap hi)) (hv4 : hp κ H0 a4 (eI κ cap rt))  : Mt κ yX4_checksum cX4_checksum 8 (some .long) 0 0 0 0 H0 [.ref (ad 3002)] (AH ad) (fun v H1 => v = some (vj (ckV lv lo hi rt many.toNat (31 * ckR S 5 7 + many))) ∧ MB κ ad P f g mk S K 0 len many a1 a2 a3 a4 H1) := by
  refine Mt.of (by decide) (Nat.le_of_ble_eq_true rfl) ?_
  intro z E hE hH0 hA0 hL hini
  have hAll : ∀ q, (AH ad) q → zA z.A z.H0 q := fun q h => Or.inl (by rw [hA0]; exact h)
  have hNew : ∀ q, H0.size ≤ q → zA z.A z.H0 q := fun q h => Or.inr (by rw [hH0]; exact h)
  have E : zOK z cX4_checksum RX4 κ 0 0 (some .long) := E
  refine V.eqL (lv' := [(0, .ref (ad 3002))]) rfl ?_
  refine v_aload_n E 0 rfl dX4_checksum_0 ?_
  refine v_iconst E dX4_checksum_1 ?_
  refine v_putf E in_X4 tyX4 tyX4_ok nmX4 hB.ho (ci := 3) rfl 0 (Nat.le_of_ble_eq_true rfl) q1760 rfl rfl rfl rfl (Nat.le_of_ble_eq_true rfl) (hAll _ (AH.of (by unfold uA; omega))) dX4_checksum_2 (fun H_3 hBho_1 hs_2 => ?_)
  have hv1_4 := hv1.same hs_2 (fun e => (hap _ (by unfold uA; omega)).1 e)
  have hv2_5 := hv2.same hs_2 (fun e => (hap _ (by unfold uA; omega)).2.1 e)
  have hv3_6 := hv3.same hs_2 (fun e => (hap _ (by unfold uA; omega)).2.2.1 e)
  have hv4_7 := hv4.same hs_2 (fun e => (hap _ (by unfold uA; omega)).2.2.2 e)
  have hBho_1 : hp κ H_3 (ad 3002) (.inr (3, MF ad 0 len many a1 a2 a3 a4)) := hBho_1
  have hB_8 : MB κ ad P f g mk S K 0 len many a1 a2 a3 a4 H_3 := hB.obj hI hs_2 hBho_1
  refine v_ldc2 E q2157 dX4_checksum_5 ?_
  refine V.eq (st' := vj 7 :: _) rfl ?_
  refine v_lstore_n E dX4_checksum_8 (zlt hL rfl) (lv' := [(1, vj 7), (0, .ref (ad 3002))]) rfl ?_
  refine v_iconst E dX4_checksum_9 ?_
  refine v_istore_n E dX4_checksum_10 (zlt hL rfl) (lv' := [(3, vi 0), (1, vj 7), (0, .ref (ad 3002))]) rfl ?_
  have loop_11 : ∀ (m_11 : Nat) (H : Heap) (i : Nat), 5 - i < m_11 → (i ≤ 5) → hp κ H a1 (eI κ cap lv) → hp κ H a2 (eI κ cap lo) → hp κ H a3 (eI κ cap hi) → hp κ H a4 (eI κ cap rt) → MB κ ad P f g mk S K 0 len many a1 a2 a3 a4 H → V z H 0 0 11 [(3, vi (i : Int)), (1, vj (ckR S i 7)), (0, .ref (ad 3002))] [] := by
    intro m_11
    induction m_11 with
    | zero => intro H i hm; exact absurd hm (by omega)
    | succ m_11 ih_11 =>
      intro H i hm_11 hi5 hv1 hv2 hv3 hv4 hB
      refine v_iload_n E 0 rfl dX4_checksum_11 ?_
      refine v_iconst E dX4_checksum_12 ?_
      refine v_icmp_ge E (tgt := 68) dX4_checksum_13 (by decide) ⟨by omega, by omega⟩ ⟨by omega, by omega⟩ (fun c_13 => ?_) (fun c_13 => ?_)
      · refine v_ldc2 E q2158 dX4_checksum_68 ?_
        refine V.eq (st' := vj 31 :: _) rfl ?_
        refine v_lload_n E 1 rfl dX4_checksum_71 ?_
        refine v_lmul E dX4_checksum_72 ?_
        refine v_aload_n E 2 rfl dX4_checksum_73 ?_
        refine v_getf E in_X4 hB.ho (ci := 3) rfl 26 (by decide) q1786 rfl (v := vi many) rfl dX4_checksum_74 ?_
        refine v_i2l E ⟨by omega, by omega⟩ dX4_checksum_77 ?_
        refine v_ladd E dX4_checksum_78 ?_
        refine v_lstore_n E dX4_checksum_79 (zlt hL rfl) (lv' := [(1, vj ((31 * (ckR S i 7)) + many)), (3, vi (i : Int)), (0, .ref (ad 3002))]) rfl ?_
        refine v_iconst E dX4_checksum_80 ?_
        refine v_istore_n E dX4_checksum_81 (zlt hL rfl) (lv' := [(3, vi 0), (1, vj ((31 * (ckR S i 7)) + many)), (0, .ref (ad 3002))]) rfl ?_
        have loop_82 : ∀ (m_82 : Nat) (H : Heap) (k : Nat), many.toNat - k < m_82 → ((k : Int) ≤ many) → hp κ H a1 (eI κ cap lv) → hp κ H a2 (eI κ cap lo) → hp κ H a3 (eI κ cap hi) → hp κ H a4 (eI κ cap rt) → MB κ ad P f g mk S K 0 len many a1 a2 a3 a4 H → V z H 0 0 82 [(3, vi (k : Int)), (1, vj (ckV lv lo hi rt k (31 * ckR S 5 7 + many))), (0, .ref (ad 3002))] [] := by
          intro m_82
          induction m_82 with
          | zero => intro H k hm; exact absurd hm (by omega)
          | succ m_82 ih_82 =>
            intro H k hm_82 hk hv1 hv2 hv3 hv4 hB
            refine v_iload_n E 0 rfl dX4_checksum_82 ?_
            refine v_aload_n E 2 rfl dX4_checksum_83 ?_
            refine v_getf E in_X4 hB.ho (ci := 3) rfl 26 (by decide) q1786 rfl (v := vi many) rfl dX4_checksum_84 ?_
            refine v_icmp_ge E (tgt := 146) dX4_checksum_87 (by decide) ⟨by omega, by omega⟩ ⟨by omega, by omega⟩ (fun c_87 => ?_) (fun c_87 => ?_)
            · refine v_lload_n E 1 rfl dX4_checksum_146 ?_
              refine v_lret E hE dX4_checksum_147 ?_
              have hkm : k = many.toNat := by omega
              rw [← hkm]
              exact ⟨rfl, hB⟩
            · refine v_ldc2 E q2158 dX4_checksum_90 ?_
              refine V.eq (st' := vj 31 :: _) rfl ?_
              refine v_ldc2 E q2158 dX4_checksum_93 ?_
              refine V.eq (st' := vj 31 :: _) rfl ?_
              refine v_ldc2 E q2158 dX4_checksum_96 ?_
              refine V.eq (st' := vj 31 :: _) rfl ?_
              refine v_ldc2 E q2158 dX4_checksum_99 ?_
              refine V.eq (st' := vj 31 :: _) rfl ?_
              refine v_lload_n E 1 rfl dX4_checksum_102 ?_
              refine v_lmul E dX4_checksum_103 ?_
              refine v_aload_n E 2 rfl dX4_checksum_104 ?_
              refine v_getf E in_X4 hB.ho (ci := 3) rfl 22 (by decide) q1782 rfl (v := .ref a1) rfl dX4_checksum_105 ?_
              refine v_iload_n E 0 rfl dX4_checksum_108 ?_
              refine v_iald E dX4_checksum_109 hv1 k rfl (by omega) (by omega) ?_
              refine v_i2l E (hrv k (by omega)).1 dX4_checksum_110 ?_
              refine v_ladd E dX4_checksum_111 ?_
              refine v_lmul E dX4_checksum_112 ?_
              refine v_aload_n E 2 rfl dX4_checksum_113 ?_
              refine v_getf E in_X4 hB.ho (ci := 3) rfl 23 (by decide) q1783 rfl (v := .ref a2) rfl dX4_checksum_114 ?_
              refine v_iload_n E 0 rfl dX4_checksum_117 ?_
              refine v_iald E dX4_checksum_118 hv2 k rfl (by omega) (by omega) ?_
              refine v_i2l E (hrv k (by omega)).2.1 dX4_checksum_119 ?_
              refine v_ladd E dX4_checksum_120 ?_
              refine v_lmul E dX4_checksum_121 ?_
              refine v_aload_n E 2 rfl dX4_checksum_122 ?_
              refine v_getf E in_X4 hB.ho (ci := 3) rfl 24 (by decide) q1784 rfl (v := .ref a3) rfl dX4_checksum_123 ?_
              refine v_iload_n E 0 rfl dX4_checksum_126 ?_
              refine v_iald E dX4_checksum_127 hv3 k rfl (by omega) (by omega) ?_
              refine v_i2l E (hrv k (by omega)).2.2.1 dX4_checksum_128 ?_
              refine v_ladd E dX4_checksum_129 ?_
              refine v_lmul E dX4_checksum_130 ?_
              refine v_aload_n E 2 rfl dX4_checksum_131 ?_
              refine v_getf E in_X4 hB.ho (ci := 3) rfl 25 (by decide) q1785 rfl (v := .ref a4) rfl dX4_checksum_132 ?_
              refine v_iload_n E 0 rfl dX4_checksum_135 ?_
              refine v_iald E dX4_checksum_136 hv4 k rfl (by omega) (by omega) ?_
              refine v_i2l E (hrv k (by omega)).2.2.2 dX4_checksum_137 ?_
              refine v_ladd E dX4_checksum_138 ?_
              refine v_lstore_n E dX4_checksum_139 (zlt hL rfl) (lv' := [(1, vj ((31 * ((31 * ((31 * ((31 * (ckV lv lo hi rt k (31 * ckR S 5 7 + many))) + (lv k))) + (lo k))) + (hi k))) + (rt k))), (3, vi (k : Int)), (0, .ref (ad 3002))]) rfl ?_
              refine v_iinc E 1 rfl dX4_checksum_140 (zlt hL rfl) (lv' := [(3, vi ((k : Int) + 1)), (1, vj ((31 * ((31 * ((31 * ((31 * (ckV lv lo hi rt k (31 * ckR S 5 7 + many))) + (lv k))) + (lo k))) + (hi k))) + (rt k))), (0, .ref (ad 3002))]) rfl ?_
              refine v_goto E (tgt := 82) dX4_checksum_143 (by decide) ?_
              exact ih_82  H (k + 1) (by omega) (by omega) hv1 hv2 hv3 hv4 hB
        exact V.eqL (by rw [show i = 5 by omega]; rfl) (loop_82 (many.toNat + 1) H 0 (by omega) (by omega) hv1 hv2 hv3 hv4 hB)
      · refine v_aload_n E 2 rfl dX4_checksum_16 ?_
        refine v_getf E in_X4 hB.ho (ci := 3) rfl 1 (by decide) q1761 rfl (v := .ref (ad 3003)) rfl dX4_checksum_17 ?_
        refine v_iload_n E 0 rfl dX4_checksum_20 ?_
        refine v_aaldS E dX4_checksum_21 (hB.ms).2.2.2 (t := 3) (ty := (.array .int)) rfl rfl i rfl (by omega) (by omega) (b := (ad (3010 + i))) rfl ?_
        refine v_astore E dX4_checksum_22 (zlt hL rfl) (lv' := [(4, .ref (ad (3010 + i))), (3, vi (i : Int)), (1, vj (ckR S i 7)), (0, .ref (ad 3002))]) rfl ?_
        refine v_aload E 0 rfl dX4_checksum_24 ?_
        refine v_alen E dX4_checksum_26 (t := 0) (ty := .int) (hB.sl i (by omega)) rfl ?_
        refine V.eq (st' := vi 7 :: _) rfl ?_
        refine v_istore E dX4_checksum_27 (zlt hL rfl) (lv' := [(5, vi 7), (4, .ref (ad (3010 + i))), (3, vi (i : Int)), (1, vj (ckR S i 7)), (0, .ref (ad 3002))]) rfl ?_
        refine v_iconst E dX4_checksum_29 ?_
        refine v_istore E dX4_checksum_30 (zlt hL rfl) (lv' := [(6, vi 0), (5, vi 7), (4, .ref (ad (3010 + i))), (3, vi (i : Int)), (1, vj (ckR S i 7)), (0, .ref (ad 3002))]) rfl ?_
        have loop_32 : ∀ (m_32 : Nat) (H : Heap) (k : Nat), 7 - k < m_32 → (k ≤ 7) → hp κ H a1 (eI κ cap lv) → hp κ H a2 (eI κ cap lo) → hp κ H a3 (eI κ cap hi) → hp κ H a4 (eI κ cap rt) → MB κ ad P f g mk S K 0 len many a1 a2 a3 a4 H → V z H 0 0 32 [(6, vi (k : Int)), (5, vi 7), (4, .ref (ad (3010 + i))), (3, vi (i : Int)), (1, vj (ckI (S i) k (ckR S i 7))), (0, .ref (ad 3002))] [] := by
          intro m_32
          induction m_32 with
          | zero => intro H k hm; exact absurd hm (by omega)
          | succ m_32 ih_32 =>
            intro H k hm_32 hk hv1 hv2 hv3 hv4 hB
            refine v_iload E 0 rfl dX4_checksum_32 ?_
            refine v_iload E 1 rfl dX4_checksum_34 ?_
            refine v_icmp_ge E (tgt := 62) dX4_checksum_36 (by decide) ⟨by omega, by omega⟩ ⟨by omega, by omega⟩ (fun c_36 => ?_) (fun c_36 => ?_)
            · refine v_iinc E 3 rfl dX4_checksum_62 (zlt hL rfl) (lv' := [(3, vi ((i : Int) + 1)), (6, vi (k : Int)), (5, vi 7), (4, .ref (ad (3010 + i))), (1, vj (ckI (S i) k (ckR S i 7))), (0, .ref (ad 3002))]) rfl ?_
              refine v_goto E (tgt := 11) dX4_checksum_65 (by decide) ?_
              refine V.sub [0, 4, 5] (lv' := [(3, vi ((i : Int) + 1)), (1, vj (ckI (S i) k (ckR S i 7))), (0, .ref (ad 3002))]) rfl ?_
              exact V.eqL (by first | rfl | (rw [show k = 7 by omega]; rfl)) (ih_11  H (i + 1) (by omega) (by omega) hv1 hv2 hv3 hv4 hB)
            · refine v_aload E 2 rfl dX4_checksum_39 ?_
              refine v_iload E 0 rfl dX4_checksum_41 ?_
              refine v_iald E dX4_checksum_43 (hB.sl i (by omega)) k rfl (by omega) (by omega) ?_
              refine v_istore E dX4_checksum_44 (zlt hL rfl) (lv' := [(7, vi (S i k)), (6, vi (k : Int)), (5, vi 7), (4, .ref (ad (3010 + i))), (3, vi (i : Int)), (1, vj (ckI (S i) k (ckR S i 7))), (0, .ref (ad 3002))]) rfl ?_
              refine v_ldc2 E q2158 dX4_checksum_46 ?_
              refine V.eq (st' := vj 31 :: _) rfl ?_
              refine v_lload_n E 5 rfl dX4_checksum_49 ?_
              refine v_lmul E dX4_checksum_50 ?_
              refine v_iload E 0 rfl dX4_checksum_51 ?_
              refine v_i2l E (by have := hS i (by omega) k (by omega); exact ⟨by omega, by omega⟩) dX4_checksum_53 ?_
              refine v_ladd E dX4_checksum_54 ?_
              refine v_lstore_n E dX4_checksum_55 (zlt hL rfl) (lv' := [(1, vj ((31 * (ckI (S i) k (ckR S i 7))) + (S i k))), (7, vi (S i k)), (6, vi (k : Int)), (5, vi 7), (4, .ref (ad (3010 + i))), (3, vi (i : Int)), (0, .ref (ad 3002))]) rfl ?_
              refine v_iinc E 2 rfl dX4_checksum_56 (zlt hL rfl) (lv' := [(6, vi ((k : Int) + 1)), (1, vj ((31 * (ckI (S i) k (ckR S i 7))) + (S i k))), (7, vi (S i k)), (5, vi 7), (4, .ref (ad (3010 + i))), (3, vi (i : Int)), (0, .ref (ad 3002))]) rfl ?_
              refine v_goto E (tgt := 32) dX4_checksum_59 (by decide) ?_
              refine V.sub [0, 3, 4, 5, 1, 6] (lv' := [(6, vi ((k : Int) + 1)), (5, vi 7), (4, .ref (ad (3010 + i))), (3, vi (i : Int)), (1, vj ((31 * (ckI (S i) k (ckR S i 7))) + (S i k))), (0, .ref (ad 3002))]) rfl ?_
              exact ih_32  H (k + 1) (by omega) (by omega) hv1 hv2 hv3 hv4 hB
        exact loop_32 (7 + 1) H 0 (by omega) (by omega) hv1 hv2 hv3 hv4 hB
  exact loop_11 (5 + 1) H_3 0 (by omega) (by omega) hv1_4 hv2_5 hv3_6 hv4_7 hB_8
