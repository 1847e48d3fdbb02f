set_option maxHeartbeats 400000 in
set_option maxRecDepth 100000 in
/-- a bound of the roots -/
theorem m_bound (κ : zK) (H0 : Heap) {c g : Nat} {p : Nat → Int} (hr : ∀ k, k < 7 → -9999 ≤ p k ∧ p k ≤ 9999) (hd : pdeg p = (g : Int)) (hc : hp κ H0 c (eI κ 7 p)) : Mt κ yX4_bound cX4_bound 5 (some .int) 1 21 0 0 H0 [.ref c] (fun _ => False) (fun v H1 => v = some (vi (bnd p))) := by
  refine Mt.of (by decide) (Nat.le_of_ble_eq_true rfl) ?_
  intro z E hE hH0 hA0 hL hini
  have hAll : ∀ q, (fun _ => False) q → zA z.A z.H0 q := fun q h => Or.inl (by rw [hA0]; exact h)
  have hNew : ∀ q, H0.size ≤ q → zA z.A z.H0 q := fun q h => Or.inr (by rw [hH0]; exact h)
  have E : zOK z cX4_bound RX4 κ 1 21 (some .int) := E
  refine V.eqL (lv' := [(0, .ref c)]) rfl ?_
  refine v_aload_n E 0 rfl dX4_bound_0 ?_
  refine v_callS E (As := [.ref c]) (m_deg κ H0 (fun k hk => by have := hr k hk; exact ⟨by omega, by omega⟩) hc) (lw_S q1861 q1862 q82 q1863) 1 (by decide +kernel) rfl (by decide) (by decide) (cb' := 0) (sb' := 0) (by decide) (by decide) rfl (rest := []) (Nat.le_of_ble_eq_true rfl) (fun q h => h.elim) dX4_bound_1 (fun v_1 H_2 hpost_3 hz_4 hk_5 => ?_)
  clear hz_4
  obtain rfl := hpost_3
  have hg7 : g < 7 := by have := pdeg_in p; omega
  have hgz := (degU_at _ _ _ hd).1
  obtain ⟨l, hl⟩ : ∃ l : Int, l = ((p g).natAbs : Int) := ⟨_, rfl⟩
  have hl1 : 1 ≤ l ∧ l ≤ 9999 := by have := hr g hg7; omega
  obtain ⟨mm, hmm⟩ : ∃ mm : Int, mm = bmost p g := ⟨_, rfl⟩
  have hmb : 0 ≤ mm ∧ mm ≤ 9999 := by rw [hmm]; exact bmost_in hr g (by omega)
  have hbd : bnd p = bnL 14 mm l 1 := by unfold bnd; rw [hd, Int.toNat_natCast, hmm, hl]
  have hc_6 := hc.kept (hk_5 _ hc.lt (fun h => h))
  refine V.eq (st' := [vi (g : Int)]) (by rw [hd]; rfl) ?_
  refine v_istore_n E dX4_bound_4 (zlt hL rfl) (lv' := [(1, vi (g : Int)), (0, .ref c)]) rfl ?_
  refine v_iconst E dX4_bound_5 ?_
  refine v_istore_n E dX4_bound_6 (zlt hL rfl) (lv' := [(2, vi 1), (1, vi (g : Int)), (0, .ref c)]) rfl ?_
  refine v_iconst E dX4_bound_7 ?_
  refine v_istore_n E dX4_bound_8 (zlt hL rfl) (lv' := [(3, vi 0), (2, vi 1), (1, vi (g : Int)), (0, .ref c)]) rfl ?_
  refine v_iconst E dX4_bound_9 ?_
  refine v_istore E dX4_bound_10 (zlt hL rfl) (lv' := [(4, vi 0), (3, vi 0), (2, vi 1), (1, vi (g : Int)), (0, .ref c)]) rfl ?_
  have loop_12 : ∀ (m_12 : Nat) (H : Heap) (i : Nat) (x : Int), g - i < m_12 → (i ≤ g) → (x = bmost p i) → hp κ H c (eI κ 7 p) → V z H 0 0 12 [(4, vi (i : Int)), (3, vi x), (2, vi 1), (1, vi (g : Int)), (0, .ref c)] [] := by
    intro m_12
    induction m_12 with
    | zero => intro H i x hm; exact absurd hm (by omega)
    | succ m_12 ih_12 =>
      intro H i x hm_12 hi hx hc
      refine v_iload E 0 rfl dX4_bound_12 ?_
      refine v_iload_n E 3 rfl dX4_bound_14 ?_
      refine v_icmp_ge E (tgt := 36) dX4_bound_15 (by decide) ⟨by omega, by omega⟩ ⟨by omega, by omega⟩ (fun c_15 => ?_) (fun c_15 => ?_)
      · have loop_36 : ∀ (m_36 : Nat) (H : Heap) (n : Nat) (b : Int), n < m_36 → (1 ≤ b ∧ b * 2 ^ n = 16384) → (bnL 14 mm l 1 = bnL n mm l b) → hp κ H c (eI κ 7 p) → V z H 0 0 36 [(3, vi mm), (2, vi b), (1, vi (g : Int)), (0, .ref c)] [] := by
          intro m_36
          induction m_36 with
          | zero => intro H n b hm; exact absurd hm (by omega)
          | succ m_36 ih_36 =>
            intro H n b hm_36 hb hres hc
            have hbp := bn_pow hb.2 hb.1
            have hbm := bn_mul ⟨hb.1, hbp⟩ hl1
            refine v_iload_n E 1 rfl dX4_bound_36 ?_
            refine v_i2l E ⟨by omega, by omega⟩ dX4_bound_37 ?_
            refine v_lconst E (x := 1) rfl dX4_bound_38 ?_
            refine v_lsub E dX4_bound_39 ?_
            refine v_aload_n E 3 rfl dX4_bound_40 ?_
            refine v_iload_n E 2 rfl dX4_bound_41 ?_
            refine v_iald E dX4_bound_42 hc g rfl (by omega) (by omega) ?_
            refine v_mabs E (by have := hr g hg7; exact ⟨by omega, by omega⟩) q2093 q1191 q80 q1192 (by decide) (Nat.le_of_ble_eq_true rfl) dX4_bound_43 ?_
            refine V.topi (x' := l) (congrArg iZ hl.symm) ?_
            refine v_i2l E ⟨by omega, by omega⟩ dX4_bound_46 ?_
            refine v_lmul E dX4_bound_47 ?_
            refine v_iload_n E 0 rfl dX4_bound_48 ?_
            refine v_i2l E ⟨by omega, by omega⟩ dX4_bound_49 ?_
            refine v_lc_ge E (tgt := 61) dX4_bound_50 dX4_bound_51 (by decide) ⟨by omega, by omega⟩ ⟨by omega, by omega⟩ (fun c_50 => ?_) (fun c_50 => ?_)
            · refine v_iload_n E 1 rfl dX4_bound_61 ?_
              refine v_iret E hE dX4_bound_62 ?_
              rw [hbd, hres]
              have e : bnL n mm l b = b := by
                cases n with
                | zero => rfl
                | succ n => show (if (b - 1) * l < mm then _ else b) = b; rw [if_neg (by omega)]
              rw [e]
            · obtain ⟨n9, hn9⟩ : ∃ n9, n = n9 + 1 := by
                refine ⟨n - 1, ?_⟩
                by_cases q : n = 0
                · have := hb.2; rw [q, Int.pow_zero] at this; omega
                · omega
              refine v_iload_n E 1 rfl dX4_bound_54 ?_
              refine v_iconst E dX4_bound_55 ?_
              refine v_imul E dX4_bound_56 ?_
              refine v_istore_n E dX4_bound_57 (zlt hL rfl) (lv' := [(2, vi (b * 2)), (3, vi mm), (1, vi (g : Int)), (0, .ref c)]) rfl ?_
              refine v_goto E (tgt := 36) dX4_bound_58 (by decide) ?_
              refine V.sub [1, 0, 2, 3] (lv' := [(3, vi mm), (2, vi (b * 2)), (1, vi (g : Int)), (0, .ref c)]) rfl ?_
              exact ih_36  H n9 (b * 2) (by omega) ⟨by omega, by rw [Int.mul_assoc, show (2 : Int) * 2 ^ n9 = 2 ^ n by rw [hn9, Int.pow_succ]; exact Int.mul_comm _ _]; exact hb.2⟩ (hres.trans (by rw [hn9]; show (if (b - 1) * l < mm then _ else _) = _; rw [if_pos (by omega)])) hc
        refine V.sub [1, 2, 3, 4] (lv' := [(3, vi x), (2, vi 1), (1, vi (g : Int)), (0, .ref c)]) rfl ?_
        exact V.eqL (by rw [hmm, hx, show i = g by omega]) (loop_36 (14 + 1) H 14 1 (by omega) ⟨by decide, by decide⟩ rfl hc)
      · refine v_iload_n E 1 rfl dX4_bound_18 ?_
        refine v_aload_n E 4 rfl dX4_bound_19 ?_
        refine v_iload E 0 rfl dX4_bound_20 ?_
        refine v_iald E dX4_bound_22 hc i rfl (by omega) (by omega) ?_
        refine v_mabs E (by have := hr i (by omega); exact ⟨by omega, by omega⟩) q2093 q1191 q80 q1192 (by decide) (Nat.le_of_ble_eq_true rfl) dX4_bound_23 ?_
        refine v_mmax E (by have := bmost_in hr i (by omega); rw [hx]; exact ⟨by omega, by omega⟩) (by have := hr i (by omega); exact ⟨by omega, by omega⟩) q1964 q228 q80 q229 (by decide) (Nat.le_of_ble_eq_true rfl) dX4_bound_26 ?_
        refine v_istore_n E dX4_bound_29 (zlt hL rfl) (lv' := [(3, vi (max x ((p i).natAbs : Int))), (4, vi (i : Int)), (2, vi 1), (1, vi (g : Int)), (0, .ref c)]) rfl ?_
        refine v_iinc E 1 rfl dX4_bound_30 (zlt hL rfl) (lv' := [(4, vi ((i : Int) + 1)), (3, vi (max x ((p i).natAbs : Int))), (2, vi 1), (1, vi (g : Int)), (0, .ref c)]) rfl ?_
        refine v_goto E (tgt := 12) dX4_bound_33 (by decide) ?_
        exact ih_12  H (i + 1) (max x ((p i).natAbs : Int)) (by omega) (by omega) (by rw [hx]; rfl) hc
  exact loop_12 (g + 1) H_2 0 0 (by omega) (by omega) rfl hc_6
