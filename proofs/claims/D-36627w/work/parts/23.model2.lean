set_option maxHeartbeats 1000000 in
set_option maxRecDepth 100000 in
/-- a through a power of 2 -/
theorem m_right (κ : zK) (H0 : Heap) {a far b n : Nat} {x : Int} (hb : b ≤ 31) (hfar : far < 60000000) (hn : n ≤ 48) (h0 : 0 ≤ x) (hx : x < 2 ^ (32 * n)) (ha : hp κ H0 a (eN κ x)) : Mt κ yX4_right cX4_right 8 (none) 0 0 0 0 H0 [.ref a, vi ((32 * far + b : Nat) : Int), vi (n : Int)] (fun q => q = a) (fun v H1 => v = none ∧ hp κ H1 a (eN κ (x / 2 ^ (32 * far + b)))) := by
  refine Mt.of (by decide) (Nat.le_of_ble_eq_true rfl) ?_
  intro z E hE hH0 hA0 hL hini
  have hAll : ∀ q, (fun q => q = a) q → zA z.A z.H0 q := fun q h => Or.inl (by rw [hA0]; exact h)
  have hNew : ∀ q, H0.size ≤ q → zA z.A z.H0 q := fun q h => Or.inr (by rw [hH0]; exact h)
  have E : zOK z cX4_right RX4 κ 0 0 (none) := E
  refine V.eqL (lv' := [(0, .ref a), (1, vi ((32 * far + b : Nat) : Int)), (2, vi (n : Int))]) rfl ?_
  have hA_a : zA z.A z.H0 a := hAll a rfl
  refine v_iload_n E 1 rfl dX4_right_0 ?_
  refine v_bipush E ⟨by decide, by decide⟩ dX4_right_1 ?_
  refine v_idiv E ⟨by omega, by omega⟩ ⟨by omega, by omega⟩ (by omega) dX4_right_3 ?_
  refine V.topi (x' := (far : Int)) (congrArg iZ (show ((((32 * far + b) / 32 : Nat) : Int)) = _ by omega)) ?_
  refine v_istore_n E dX4_right_4 (zlt hL rfl) (lv' := [(3, vi (far : Int)), (0, .ref a), (1, vi ((32 * far + b : Nat) : Int)), (2, vi (n : Int))]) rfl ?_
  refine v_iload_n E 2 rfl dX4_right_5 ?_
  refine v_bipush E ⟨by decide, by decide⟩ dX4_right_6 ?_
  refine v_irem E ⟨by omega, by omega⟩ ⟨by omega, by omega⟩ (by omega) dX4_right_8 ?_
  refine V.topi (x' := (b : Int)) (congrArg iZ (show ((((32 * far + b) % 32 : Nat) : Int)) = _ by omega)) ?_
  refine v_istore E dX4_right_9 (zlt hL rfl) (lv' := [(4, vi (b : Int)), (3, vi (far : Int)), (0, .ref a), (1, vi ((32 * far + b : Nat) : Int)), (2, vi (n : Int))]) rfl ?_
  refine v_iconst E dX4_right_11 ?_
  refine v_istore E dX4_right_12 (zlt hL rfl) (lv' := [(5, vi 0), (4, vi (b : Int)), (3, vi (far : Int)), (0, .ref a), (1, vi ((32 * far + b : Nat) : Int)), (2, vi (n : Int))]) rfl ?_
  have loop_14 : ∀ (m_14 : Nat) (H : Heap) (k : Nat) (f : Nat → Int), n - k < m_14 → (k ≤ n) → (∀ j, j < 48 → f j = if j < k then dg (x / 2 ^ (32 * far + b)) j else dg x j) → hp κ H a (eI κ 48 f) → V z H 0 0 14 [(5, vi (k : Int)), (4, vi (b : Int)), (3, vi (far : Int)), (2, vi (n : Int)), (0, .ref a)] [] := by
    intro m_14
    induction m_14 with
    | zero => intro H k f hm; exact absurd hm (by omega)
    | succ m_14 ih_14 =>
      intro H k f hm_14 hk hf ha
      have hd0 := dg_in x (k + far)
      have hd1 := dg_in x (k + far + 1)
      refine v_iload E 0 rfl dX4_right_14 ?_
      refine v_iload_n E 3 rfl dX4_right_16 ?_
      refine v_icmp_ge E (tgt := 98) dX4_right_17 (by decide) ⟨by omega, by omega⟩ ⟨by omega, by omega⟩ (fun c_17 => ?_) (fun c_17 => ?_)
      · refine v_vret E hE dX4_right_98 ?_
        exact ⟨rfl, eI.congr ha (fun j hj => by rw [hf j hj]; split; rfl; exact congrArg iZ (right_fin h0 hx (by omega)))⟩
      · refine v_iload E 0 rfl dX4_right_20 ?_
        refine v_iload_n E 2 rfl dX4_right_22 ?_
        refine v_iadd E dX4_right_23 ?_
        refine v_iload_n E 3 rfl dX4_right_24 ?_
        refine v_icmp_ge E (tgt := 37) dX4_right_25 (by decide) ⟨by omega, by omega⟩ ⟨by omega, by omega⟩ (fun c_25 => ?_) (fun c_25 => ?_)
        · refine v_iconst E dX4_right_37 ?_
          refine V.topi (x' := dg x (k + far)) (congrArg iZ (by first | (rw [dg_hi h0 hx (by omega)]; done) | (rw [hf _ (by omega), if_neg (by omega)]; done))) ?_
          refine v_istore E dX4_right_38 (zlt hL rfl) (lv' := [(6, vi (dg x (k + far))), (5, vi (k : Int)), (4, vi (b : Int)), (3, vi (far : Int)), (2, vi (n : Int)), (0, .ref a)]) rfl ?_
          refine v_iload E 1 rfl dX4_right_40 ?_
          refine v_iload_n E 3 rfl dX4_right_42 ?_
          refine v_iadd E dX4_right_43 ?_
          refine v_iconst E dX4_right_44 ?_
          refine v_iadd E dX4_right_45 ?_
          refine v_iload_n E 4 rfl dX4_right_46 ?_
          refine v_icmp_ge E (tgt := 61) dX4_right_47 (by decide) ⟨by omega, by omega⟩ ⟨by omega, by omega⟩ (fun c_47 => ?_) (fun c_47 => ?_)
          · refine v_iconst E dX4_right_61 ?_
            refine V.topi (x' := dg x (k + far + 1)) (congrArg iZ (by first | (rw [dg_hi h0 hx (by omega)]; done) | (rw [hf _ (by omega), if_neg (by omega)]; done))) ?_
            refine v_istore E dX4_right_62 (zlt hL rfl) (lv' := [(7, vi (dg x (k + far + 1))), (6, vi (dg x (k + far))), (5, vi (k : Int)), (4, vi (b : Int)), (3, vi (far : Int)), (2, vi (n : Int)), (0, .ref a)]) rfl ?_
            refine v_aload_n E 6 rfl dX4_right_64 ?_
            refine v_iload E 2 rfl dX4_right_65 ?_
            refine v_iload E 3 rfl dX4_right_67 ?_
            refine v_if_ne E (tgt := 77) dX4_right_69 (by decide) ⟨by omega, by omega⟩ (fun c_69 => ?_) (fun c_69 => ?_)
            · refine v_iload E 1 rfl dX4_right_77 ?_
              refine v_iload E 3 rfl dX4_right_79 ?_
              refine v_iushr E b (by omega) dX4_right_81 ?_
              refine v_iload E 0 rfl dX4_right_82 ?_
              refine v_bipush E ⟨by decide, by decide⟩ dX4_right_84 ?_
              refine v_iload E 3 rfl dX4_right_86 ?_
              refine v_isub E dX4_right_88 ?_
              refine V.topi (x' := ((32 - b : Nat) : Int)) (congrArg iZ (by omega)) ?_
              refine v_ishl E (32 - b) (by omega) dX4_right_89 ?_
              refine v_ior E (c := dg x (k + far + 1) * 2 ^ (32 - b) + dg x (k + far) / 2 ^ b) (by rw [Int.emod_eq_of_lt hd0.1 hd0.2]; exact iZ_or' (Int.ediv_nonneg hd0.1 (Int.le_of_lt (p2 _))) (lo_lt' b hb hd0.2) (by omega)) dX4_right_90 ?_
              refine V.topi (x' := dg (x / 2 ^ (32 * far + b)) k) (by rw [dg_shr x far b (by omega), Int.add_comm]; exact (iZ_mod _).symm) ?_
              refine v_iast E dX4_right_91 ha k rfl (by omega) (by omega) hA_a (fun H_3 ha_1 hs_2 => ?_)
              refine v_iinc E 2 rfl dX4_right_92 (zlt hL rfl) (lv' := [(5, vi ((k : Int) + 1)), (7, vi (dg x (k + far + 1))), (6, vi (dg x (k + far))), (4, vi (b : Int)), (3, vi (far : Int)), (2, vi (n : Int)), (0, .ref a)]) rfl ?_
              refine v_goto E (tgt := 14) dX4_right_95 (by decide) ?_
              refine V.sub [0, 3, 4, 5, 6] (lv' := [(5, vi ((k : Int) + 1)), (4, vi (b : Int)), (3, vi (far : Int)), (2, vi (n : Int)), (0, .ref a)]) rfl ?_
              exact ih_14  H_3 (k + 1) _ (by omega) (by omega) (up_s hf) ha_1
            · have c_b0 : b = 0 := by omega
              refine v_iload E 1 rfl dX4_right_72 ?_
              refine v_goto E (tgt := 91) dX4_right_74 (by decide) ?_
              refine V.topi (x' := dg (x / 2 ^ (32 * far + b)) k) (by subst c_b0; exact congrArg iZ (right_dg0 x far k)) ?_
              refine v_iast E dX4_right_91 ha k rfl (by omega) (by omega) hA_a (fun H_6 ha_4 hs_5 => ?_)
              refine v_iinc E 2 rfl dX4_right_92 (zlt hL rfl) (lv' := [(5, vi ((k : Int) + 1)), (7, vi (dg x (k + far + 1))), (6, vi (dg x (k + far))), (4, vi (b : Int)), (3, vi (far : Int)), (2, vi (n : Int)), (0, .ref a)]) rfl ?_
              refine v_goto E (tgt := 14) dX4_right_95 (by decide) ?_
              refine V.sub [0, 3, 4, 5, 6] (lv' := [(5, vi ((k : Int) + 1)), (4, vi (b : Int)), (3, vi (far : Int)), (2, vi (n : Int)), (0, .ref a)]) rfl ?_
              exact ih_14  H_6 (k + 1) _ (by omega) (by omega) (up_s hf) ha_4
          · refine v_aload_n E 5 rfl dX4_right_50 ?_
            refine v_iload E 1 rfl dX4_right_51 ?_
            refine v_iload_n E 3 rfl dX4_right_53 ?_
            refine v_iadd E dX4_right_54 ?_
            refine v_iconst E dX4_right_55 ?_
            refine v_iadd E dX4_right_56 ?_
            refine v_iald E dX4_right_57 ha (k + far + 1) (by omega) (by omega) (by omega) ?_
            refine v_goto E (tgt := 62) dX4_right_58 (by decide) ?_
            refine V.topi (x' := dg x (k + far + 1)) (congrArg iZ (by first | (rw [dg_hi h0 hx (by omega)]; done) | (rw [hf _ (by omega), if_neg (by omega)]; done))) ?_
            refine v_istore E dX4_right_62 (zlt hL rfl) (lv' := [(7, vi (dg x (k + far + 1))), (6, vi (dg x (k + far))), (5, vi (k : Int)), (4, vi (b : Int)), (3, vi (far : Int)), (2, vi (n : Int)), (0, .ref a)]) rfl ?_
            refine v_aload_n E 6 rfl dX4_right_64 ?_
            refine v_iload E 2 rfl dX4_right_65 ?_
            refine v_iload E 3 rfl dX4_right_67 ?_
            refine v_if_ne E (tgt := 77) dX4_right_69 (by decide) ⟨by omega, by omega⟩ (fun c_69 => ?_) (fun c_69 => ?_)
            · refine v_iload E 1 rfl dX4_right_77 ?_
              refine v_iload E 3 rfl dX4_right_79 ?_
              refine v_iushr E b (by omega) dX4_right_81 ?_
              refine v_iload E 0 rfl dX4_right_82 ?_
              refine v_bipush E ⟨by decide, by decide⟩ dX4_right_84 ?_
              refine v_iload E 3 rfl dX4_right_86 ?_
              refine v_isub E dX4_right_88 ?_
              refine V.topi (x' := ((32 - b : Nat) : Int)) (congrArg iZ (by omega)) ?_
              refine v_ishl E (32 - b) (by omega) dX4_right_89 ?_
              refine v_ior E (c := dg x (k + far + 1) * 2 ^ (32 - b) + dg x (k + far) / 2 ^ b) (by rw [Int.emod_eq_of_lt hd0.1 hd0.2]; exact iZ_or' (Int.ediv_nonneg hd0.1 (Int.le_of_lt (p2 _))) (lo_lt' b hb hd0.2) (by omega)) dX4_right_90 ?_
              refine V.topi (x' := dg (x / 2 ^ (32 * far + b)) k) (by rw [dg_shr x far b (by omega), Int.add_comm]; exact (iZ_mod _).symm) ?_
              refine v_iast E dX4_right_91 ha k rfl (by omega) (by omega) hA_a (fun H_9 ha_7 hs_8 => ?_)
              refine v_iinc E 2 rfl dX4_right_92 (zlt hL rfl) (lv' := [(5, vi ((k : Int) + 1)), (7, vi (dg x (k + far + 1))), (6, vi (dg x (k + far))), (4, vi (b : Int)), (3, vi (far : Int)), (2, vi (n : Int)), (0, .ref a)]) rfl ?_
              refine v_goto E (tgt := 14) dX4_right_95 (by decide) ?_
              refine V.sub [0, 3, 4, 5, 6] (lv' := [(5, vi ((k : Int) + 1)), (4, vi (b : Int)), (3, vi (far : Int)), (2, vi (n : Int)), (0, .ref a)]) rfl ?_
              exact ih_14  H_9 (k + 1) _ (by omega) (by omega) (up_s hf) ha_7
            · have c_b0 : b = 0 := by omega
              refine v_iload E 1 rfl dX4_right_72 ?_
              refine v_goto E (tgt := 91) dX4_right_74 (by decide) ?_
              refine V.topi (x' := dg (x / 2 ^ (32 * far + b)) k) (by subst c_b0; exact congrArg iZ (right_dg0 x far k)) ?_
              refine v_iast E dX4_right_91 ha k rfl (by omega) (by omega) hA_a (fun H_12 ha_10 hs_11 => ?_)
              refine v_iinc E 2 rfl dX4_right_92 (zlt hL rfl) (lv' := [(5, vi ((k : Int) + 1)), (7, vi (dg x (k + far + 1))), (6, vi (dg x (k + far))), (4, vi (b : Int)), (3, vi (far : Int)), (2, vi (n : Int)), (0, .ref a)]) rfl ?_
              refine v_goto E (tgt := 14) dX4_right_95 (by decide) ?_
              refine V.sub [0, 3, 4, 5, 6] (lv' := [(5, vi ((k : Int) + 1)), (4, vi (b : Int)), (3, vi (far : Int)), (2, vi (n : Int)), (0, .ref a)]) rfl ?_
              exact ih_14  H_12 (k + 1) _ (by omega) (by omega) (up_s hf) ha_10
        · refine v_aload_n E 4 rfl dX4_right_28 ?_
          refine v_iload E 0 rfl dX4_right_29 ?_
          refine v_iload_n E 2 rfl dX4_right_31 ?_
          refine v_iadd E dX4_right_32 ?_
          refine v_iald E dX4_right_33 ha (k + far) (by omega) (by omega) (by omega) ?_
          refine v_goto E (tgt := 38) dX4_right_34 (by decide) ?_
          refine V.topi (x' := dg x (k + far)) (congrArg iZ (by first | (rw [dg_hi h0 hx (by omega)]; done) | (rw [hf _ (by omega), if_neg (by omega)]; done))) ?_
          refine v_istore E dX4_right_38 (zlt hL rfl) (lv' := [(6, vi (dg x (k + far))), (5, vi (k : Int)), (4, vi (b : Int)), (3, vi (far : Int)), (2, vi (n : Int)), (0, .ref a)]) rfl ?_
          refine v_iload E 1 rfl dX4_right_40 ?_
          refine v_iload_n E 3 rfl dX4_right_42 ?_
          refine v_iadd E dX4_right_43 ?_
          refine v_iconst E dX4_right_44 ?_
          refine v_iadd E dX4_right_45 ?_
          refine v_iload_n E 4 rfl dX4_right_46 ?_
          refine v_icmp_ge E (tgt := 61) dX4_right_47 (by decide) ⟨by omega, by omega⟩ ⟨by omega, by omega⟩ (fun c_47 => ?_) (fun c_47 => ?_)
          · refine v_iconst E dX4_right_61 ?_
            refine V.topi (x' := dg x (k + far + 1)) (congrArg iZ (by first | (rw [dg_hi h0 hx (by omega)]; done) | (rw [hf _ (by omega), if_neg (by omega)]; done))) ?_
            refine v_istore E dX4_right_62 (zlt hL rfl) (lv' := [(7, vi (dg x (k + far + 1))), (6, vi (dg x (k + far))), (5, vi (k : Int)), (4, vi (b : Int)), (3, vi (far : Int)), (2, vi (n : Int)), (0, .ref a)]) rfl ?_
            refine v_aload_n E 6 rfl dX4_right_64 ?_
            refine v_iload E 2 rfl dX4_right_65 ?_
            refine v_iload E 3 rfl dX4_right_67 ?_
            refine v_if_ne E (tgt := 77) dX4_right_69 (by decide) ⟨by omega, by omega⟩ (fun c_69 => ?_) (fun c_69 => ?_)
            · refine v_iload E 1 rfl dX4_right_77 ?_
              refine v_iload E 3 rfl dX4_right_79 ?_
              refine v_iushr E b (by omega) dX4_right_81 ?_
              refine v_iload E 0 rfl dX4_right_82 ?_
              refine v_bipush E ⟨by decide, by decide⟩ dX4_right_84 ?_
              refine v_iload E 3 rfl dX4_right_86 ?_
              refine v_isub E dX4_right_88 ?_
              refine V.topi (x' := ((32 - b : Nat) : Int)) (congrArg iZ (by omega)) ?_
              refine v_ishl E (32 - b) (by omega) dX4_right_89 ?_
              refine v_ior E (c := dg x (k + far + 1) * 2 ^ (32 - b) + dg x (k + far) / 2 ^ b) (by rw [Int.emod_eq_of_lt hd0.1 hd0.2]; exact iZ_or' (Int.ediv_nonneg hd0.1 (Int.le_of_lt (p2 _))) (lo_lt' b hb hd0.2) (by omega)) dX4_right_90 ?_
              refine V.topi (x' := dg (x / 2 ^ (32 * far + b)) k) (by rw [dg_shr x far b (by omega), Int.add_comm]; exact (iZ_mod _).symm) ?_
              refine v_iast E dX4_right_91 ha k rfl (by omega) (by omega) hA_a (fun H_15 ha_13 hs_14 => ?_)
              refine v_iinc E 2 rfl dX4_right_92 (zlt hL rfl) (lv' := [(5, vi ((k : Int) + 1)), (7, vi (dg x (k + far + 1))), (6, vi (dg x (k + far))), (4, vi (b : Int)), (3, vi (far : Int)), (2, vi (n : Int)), (0, .ref a)]) rfl ?_
              refine v_goto E (tgt := 14) dX4_right_95 (by decide) ?_
              refine V.sub [0, 3, 4, 5, 6] (lv' := [(5, vi ((k : Int) + 1)), (4, vi (b : Int)), (3, vi (far : Int)), (2, vi (n : Int)), (0, .ref a)]) rfl ?_
              exact ih_14  H_15 (k + 1) _ (by omega) (by omega) (up_s hf) ha_13
            · have c_b0 : b = 0 := by omega
              refine v_iload E 1 rfl dX4_right_72 ?_
              refine v_goto E (tgt := 91) dX4_right_74 (by decide) ?_
              refine V.topi (x' := dg (x / 2 ^ (32 * far + b)) k) (by subst c_b0; exact congrArg iZ (right_dg0 x far k)) ?_
              refine v_iast E dX4_right_91 ha k rfl (by omega) (by omega) hA_a (fun H_18 ha_16 hs_17 => ?_)
              refine v_iinc E 2 rfl dX4_right_92 (zlt hL rfl) (lv' := [(5, vi ((k : Int) + 1)), (7, vi (dg x (k + far + 1))), (6, vi (dg x (k + far))), (4, vi (b : Int)), (3, vi (far : Int)), (2, vi (n : Int)), (0, .ref a)]) rfl ?_
              refine v_goto E (tgt := 14) dX4_right_95 (by decide) ?_
              refine V.sub [0, 3, 4, 5, 6] (lv' := [(5, vi ((k : Int) + 1)), (4, vi (b : Int)), (3, vi (far : Int)), (2, vi (n : Int)), (0, .ref a)]) rfl ?_
              exact ih_14  H_18 (k + 1) _ (by omega) (by omega) (up_s hf) ha_16
          · refine v_aload_n E 5 rfl dX4_right_50 ?_
            refine v_iload E 1 rfl dX4_right_51 ?_
            refine v_iload_n E 3 rfl dX4_right_53 ?_
            refine v_iadd E dX4_right_54 ?_
            refine v_iconst E dX4_right_55 ?_
            refine v_iadd E dX4_right_56 ?_
            refine v_iald E dX4_right_57 ha (k + far + 1) (by omega) (by omega) (by omega) ?_
            refine v_goto E (tgt := 62) dX4_right_58 (by decide) ?_
            refine V.topi (x' := dg x (k + far + 1)) (congrArg iZ (by first | (rw [dg_hi h0 hx (by omega)]; done) | (rw [hf _ (by omega), if_neg (by omega)]; done))) ?_
            refine v_istore E dX4_right_62 (zlt hL rfl) (lv' := [(7, vi (dg x (k + far + 1))), (6, vi (dg x (k + far))), (5, vi (k : Int)), (4, vi (b : Int)), (3, vi (far : Int)), (2, vi (n : Int)), (0, .ref a)]) rfl ?_
            refine v_aload_n E 6 rfl dX4_right_64 ?_
            refine v_iload E 2 rfl dX4_right_65 ?_
            refine v_iload E 3 rfl dX4_right_67 ?_
            refine v_if_ne E (tgt := 77) dX4_right_69 (by decide) ⟨by omega, by omega⟩ (fun c_69 => ?_) (fun c_69 => ?_)
            · refine v_iload E 1 rfl dX4_right_77 ?_
              refine v_iload E 3 rfl dX4_right_79 ?_
              refine v_iushr E b (by omega) dX4_right_81 ?_
              refine v_iload E 0 rfl dX4_right_82 ?_
              refine v_bipush E ⟨by decide, by decide⟩ dX4_right_84 ?_
              refine v_iload E 3 rfl dX4_right_86 ?_
              refine v_isub E dX4_right_88 ?_
              refine V.topi (x' := ((32 - b : Nat) : Int)) (congrArg iZ (by omega)) ?_
              refine v_ishl E (32 - b) (by omega) dX4_right_89 ?_
              refine v_ior E (c := dg x (k + far + 1) * 2 ^ (32 - b) + dg x (k + far) / 2 ^ b) (by rw [Int.emod_eq_of_lt hd0.1 hd0.2]; exact iZ_or' (Int.ediv_nonneg hd0.1 (Int.le_of_lt (p2 _))) (lo_lt' b hb hd0.2) (by omega)) dX4_right_90 ?_
              refine V.topi (x' := dg (x / 2 ^ (32 * far + b)) k) (by rw [dg_shr x far b (by omega), Int.add_comm]; exact (iZ_mod _).symm) ?_
              refine v_iast E dX4_right_91 ha k rfl (by omega) (by omega) hA_a (fun H_21 ha_19 hs_20 => ?_)
              refine v_iinc E 2 rfl dX4_right_92 (zlt hL rfl) (lv' := [(5, vi ((k : Int) + 1)), (7, vi (dg x (k + far + 1))), (6, vi (dg x (k + far))), (4, vi (b : Int)), (3, vi (far : Int)), (2, vi (n : Int)), (0, .ref a)]) rfl ?_
              refine v_goto E (tgt := 14) dX4_right_95 (by decide) ?_
              refine V.sub [0, 3, 4, 5, 6] (lv' := [(5, vi ((k : Int) + 1)), (4, vi (b : Int)), (3, vi (far : Int)), (2, vi (n : Int)), (0, .ref a)]) rfl ?_
              exact ih_14  H_21 (k + 1) _ (by omega) (by omega) (up_s hf) ha_19
            · have c_b0 : b = 0 := by omega
              refine v_iload E 1 rfl dX4_right_72 ?_
              refine v_goto E (tgt := 91) dX4_right_74 (by decide) ?_
              refine V.topi (x' := dg (x / 2 ^ (32 * far + b)) k) (by subst c_b0; exact congrArg iZ (right_dg0 x far k)) ?_
              refine v_iast E dX4_right_91 ha k rfl (by omega) (by omega) hA_a (fun H_24 ha_22 hs_23 => ?_)
              refine v_iinc E 2 rfl dX4_right_92 (zlt hL rfl) (lv' := [(5, vi ((k : Int) + 1)), (7, vi (dg x (k + far + 1))), (6, vi (dg x (k + far))), (4, vi (b : Int)), (3, vi (far : Int)), (2, vi (n : Int)), (0, .ref a)]) rfl ?_
              refine v_goto E (tgt := 14) dX4_right_95 (by decide) ?_
              refine V.sub [0, 3, 4, 5, 6] (lv' := [(5, vi ((k : Int) + 1)), (4, vi (b : Int)), (3, vi (far : Int)), (2, vi (n : Int)), (0, .ref a)]) rfl ?_
              exact ih_14  H_24 (k + 1) _ (by omega) (by omega) (up_s hf) ha_22
  refine V.sub [0, 1, 2, 5, 3] (lv' := [(5, vi 0), (4, vi (b : Int)), (3, vi (far : Int)), (2, vi (n : Int)), (0, .ref a)]) rfl ?_
  exact loop_14 (n + 1) H0 0 (dg x) (by omega) (by omega) (fun j hj => by rw [if_neg (by omega)]) ha

set_option maxHeartbeats 1000000 in
set_option maxRecDepth 100000 in
/-- compare -/
theorem m_compare (κ : zK) (H0 : Heap) {a b n : Nat} {x y : Int} (hn : n ≤ 48) (hx : 0 ≤ x ∧ x < 2 ^ (32 * n)) (hy : 0 ≤ y ∧ y < 2 ^ (32 * n)) (ha : hp κ H0 a (eN κ x)) (hb : hp κ H0 b (eN κ y)) : Mt κ yX4_compare cX4_compare 4 (some .int) 0 0 0 0 H0 [.ref a, .ref b, vi (n : Int)] (fun _ => False) (fun v H1 => v = some (vi (if x < y then -1 else if x = y then 0 else 1))) := by
  refine Mt.of (by decide) (Nat.le_of_ble_eq_true rfl) ?_
  intro z E hE hH0 hA0 hL hini
  have hAll : ∀ q, (fun _ => False) q → zA z.A z.H0 q := fun q h => Or.inl (by rw [hA0]; exact h)
  have hNew : ∀ q, H0.size ≤ q → zA z.A z.H0 q := fun q h => Or.inr (by rw [hH0]; exact h)
  have E : zOK z cX4_compare RX4 κ 0 0 (some .int) := E
  refine V.eqL (lv' := [(0, .ref a), (1, .ref b), (2, vi (n : Int))]) rfl ?_
  refine v_iload_n E 2 rfl dX4_compare_0 ?_
  refine v_iconst E dX4_compare_1 ?_
  refine v_isub E dX4_compare_2 ?_
  refine v_istore_n E dX4_compare_3 (zlt hL rfl) (lv' := [(3, vi ((n : Int) - 1)), (0, .ref a), (1, .ref b), (2, vi (n : Int))]) rfl ?_
  have loop_4 : ∀ (m_4 : Nat) (H : Heap) (k : Nat), k < m_4 → (k ≤ n) → (∀ j, k ≤ j → j < n → dg x j = dg y j) → hp κ H a (eN κ x) → hp κ H b (eN κ y) → V z H 0 0 4 [(3, vi ((k : Int) - 1)), (2, vi (n : Int)), (1, .ref b), (0, .ref a)] [] := by
    intro m_4
    induction m_4 with
    | zero => intro H k hm; exact absurd hm (by omega)
    | succ m_4 ih_4 =>
      intro H k hm_4 hk he ha hb
      have hdx := dg_in x (k - 1)
      have hdy := dg_in y (k - 1)
      refine v_iload_n E 0 rfl dX4_compare_4 ?_
      refine v_if_lt E (tgt := 49) dX4_compare_5 (by decide) ⟨by omega, by omega⟩ (fun c_5 => ?_) (fun c_5 => ?_)
      · refine v_iconst E dX4_compare_49 ?_
        refine v_iret E hE dX4_compare_50 ?_
        have heq : x = y := cmp_eq hx hy (fun j hj => he j (by omega) hj)
        exact congrArg (fun t => some (vi t)) (show (0 : Int) = _ by rw [if_neg (by omega), if_pos heq])
      · refine v_aload_n E 3 rfl dX4_compare_8 ?_
        refine v_iload_n E 0 rfl dX4_compare_9 ?_
        refine v_iald E dX4_compare_10 ha (k - 1) (by omega) (by omega) (by omega) ?_
        refine v_aload_n E 2 rfl dX4_compare_11 ?_
        refine v_iload_n E 0 rfl dX4_compare_12 ?_
        refine v_iald E dX4_compare_13 hb (k - 1) (by omega) (by omega) (by omega) ?_
        refine V.top2i (x' := ((dg y (k - 1)) + 2147483648) % 4294967296 - 2147483648) (y' := ((dg x (k - 1)) + 2147483648) % 4294967296 - 2147483648) (iZ_sg _) (iZ_sg _) ?_
        refine v_icmp_eq E (tgt := 43) dX4_compare_14 (by decide) ⟨by omega, by omega⟩ ⟨by omega, by omega⟩ (fun c_14 => ?_) (fun c_14 => ?_)
        · refine v_iinc E 0 rfl dX4_compare_43 (zlt hL rfl) (lv' := [(3, vi (((k : Int) - 1) + (-1))), (2, vi (n : Int)), (1, .ref b), (0, .ref a)]) rfl ?_
          refine v_goto E (tgt := 4) dX4_compare_46 (by decide) ?_
          exact V.eqL (by congr 4; omega) (ih_4  H (k - 1) (by omega) (by omega) (fun j h1 h2 => by rcases Nat.eq_or_lt_of_le h1 with q | q; rw [← q]; omega; exact he j (by omega) h2) ha hb)
        · refine v_aload_n E 3 rfl dX4_compare_17 ?_
          refine v_iload_n E 0 rfl dX4_compare_18 ?_
          refine v_iald E dX4_compare_19 ha (k - 1) (by omega) (by omega) (by omega) ?_
          refine v_i2lLow E dX4_compare_20 q1947 dX4_compare_21 dX4_compare_24 ?_
          refine v_aload_n E 2 rfl dX4_compare_25 ?_
          refine v_iload_n E 0 rfl dX4_compare_26 ?_
          refine v_iald E dX4_compare_27 hb (k - 1) (by omega) (by omega) (by omega) ?_
          refine v_i2lLow E dX4_compare_28 q1947 dX4_compare_29 dX4_compare_32 ?_
          refine v_lc_ge E (tgt := 41) dX4_compare_33 dX4_compare_34 (by decide) ⟨by omega, by omega⟩ ⟨by omega, by omega⟩ (fun c_33 => ?_) (fun c_33 => ?_)
          · refine v_iconst E dX4_compare_41 ?_
            refine v_iret E hE dX4_compare_42 ?_
            have hlt : y < x := cmp_lt hy hx (k := k - 1) (by omega) (fun j h1 h2 => (he j (by omega) h2).symm) (by omega)
            exact congrArg (fun t => some (vi t)) (show (1 : Int) = _ by rw [if_neg (by omega), if_neg (by omega)])
          · refine v_iconst E dX4_compare_37 ?_
            refine v_goto E (tgt := 42) dX4_compare_38 (by decide) ?_
            refine v_iret E hE dX4_compare_42 ?_
            have hlt : x < y := cmp_lt hx hy (k := k - 1) (by omega) (fun j h1 h2 => he j (by omega) h2) (by omega)
            exact congrArg (fun t => some (vi t)) (show (-1 : Int) = _ by rw [if_pos hlt])
  refine V.sub [0, 3, 2, 1] (lv' := [(3, vi ((n : Int) - 1)), (2, vi (n : Int)), (1, .ref b), (0, .ref a)]) rfl ?_
  exact loop_4 (n + 1) H0 n (by omega) (by omega) (fun j h1 h2 => absurd h2 (by omega)) ha hb

set_option maxHeartbeats 1000000 in
set_option maxRecDepth 100000 in
/-- how many ints -/
theorem m_ints (κ : zK) (H0 : Heap) {a : Nat} {x : Int} (hx : rU x) (ha : hp κ H0 a (eN κ x)) : Mt κ yX4_ints cX4_ints 2 (some .int) 0 0 0 0 H0 [.ref a] (fun _ => False) (fun v H1 => ∃ n : Nat, v = some (vi (n : Int)) ∧ isInts x n) := by
  refine Mt.of (by decide) (Nat.le_of_ble_eq_true rfl) ?_
  intro z E hE hH0 hA0 hL hini
  have hAll : ∀ q, (fun _ => False) q → zA z.A z.H0 q := fun q h => Or.inl (by rw [hA0]; exact h)
  have hNew : ∀ q, H0.size ≤ q → zA z.A z.H0 q := fun q h => Or.inr (by rw [hH0]; exact h)
  have E : zOK z cX4_ints RX4 κ 0 0 (some .int) := E
  refine V.eqL (lv' := [(0, .ref a)]) rfl ?_
  refine v_bipush E ⟨by decide, by decide⟩ dX4_ints_0 ?_
  refine v_istore_n E dX4_ints_2 (zlt hL rfl) (lv' := [(1, vi 48), (0, .ref a)]) rfl ?_
  have loop_3 : ∀ (m_3 : Nat) (H : Heap) (k : Nat), k < m_3 → (k ≤ 48) → (∀ j, k ≤ j → j < 48 → dg x j = 0) → hp κ H a (eN κ x) → V z H 0 0 3 [(1, vi (k : Int)), (0, .ref a)] [] := by
    intro m_3
    induction m_3 with
    | zero => intro H k hm; exact absurd hm (by omega)
    | succ m_3 ih_3 =>
      intro H k hm_3 hk hz ha
      have hdx := dg_in x (k - 1)
      refine v_iload_n E 0 rfl dX4_ints_3 ?_
      refine v_if_le E (tgt := 21) dX4_ints_4 (by decide) ⟨by omega, by omega⟩ (fun c_4 => ?_) (fun c_4 => ?_)
      · refine v_iload_n E 0 rfl dX4_ints_21 ?_
        refine v_iret E hE dX4_ints_22 ?_
        refine ⟨k, rfl, hk, top_lt hx hz hk, fun h => ?_⟩
        first | exact absurd h (by omega) | exact top_ge hx.1 (by omega)
      · refine v_aload_n E 1 rfl dX4_ints_7 ?_
        refine v_iload_n E 0 rfl dX4_ints_8 ?_
        refine v_iconst E dX4_ints_9 ?_
        refine v_isub E dX4_ints_10 ?_
        refine v_iald E dX4_ints_11 ha (k - 1) (by omega) (by omega) (by omega) ?_
        refine V.topi (x' := ((dg x (k - 1)) + 2147483648) % 4294967296 - 2147483648) (iZ_sg _) ?_
        refine v_if_ne E (tgt := 21) dX4_ints_12 (by decide) ⟨by omega, by omega⟩ (fun c_12 => ?_) (fun c_12 => ?_)
        · refine v_iload_n E 0 rfl dX4_ints_21 ?_
          refine v_iret E hE dX4_ints_22 ?_
          refine ⟨k, rfl, hk, top_lt hx hz hk, fun h => ?_⟩
          first | exact absurd h (by omega) | exact top_ge hx.1 (by omega)
        · refine v_iinc E 0 rfl dX4_ints_15 (zlt hL rfl) (lv' := [(1, vi ((k : Int) + (-1))), (0, .ref a)]) rfl ?_
          refine v_goto E (tgt := 3) dX4_ints_18 (by decide) ?_
          exact V.eqL (by congr 3; omega) (ih_3  H (k - 1) (by omega) (by omega) (fun j h1 h2 => by rcases Nat.eq_or_lt_of_le h1 with q | q; rw [← q]; omega; exact hz j (by omega) h2) ha)
  exact loop_3 (48 + 1) H0 48 (by omega) (by omega) (fun j h1 h2 => absurd h2 (by omega)) ha

set_option maxHeartbeats 1000000 in
set_option maxRecDepth 100000 in
/-- leading zeros, of 32 bits as a number -/
theorem m_nlz (κ : zK) (H0 : Heap) {d : Int} (hd0 : 0 ≤ d) (hd1 : d < 4294967296) : Mt κ yJ24_numberOfLeadingZeros cJ24_numberOfLeadingZeros 2 (some .int) 0 0 0 0 H0 [vi d] (fun _ => False) (fun v H1 => ∃ n : Nat, v = some (vi (32 - (n : Int))) ∧ n ≤ 32 ∧ isBits d n) := by
  refine Mt.of (by decide) (Nat.le_of_ble_eq_true rfl) ?_
  intro z E hE hH0 hA0 hL hini
  have hAll : ∀ q, (fun _ => False) q → zA z.A z.H0 q := fun q h => Or.inl (by rw [hA0]; exact h)
  have hNew : ∀ q, H0.size ≤ q → zA z.A z.H0 q := fun q h => Or.inr (by rw [hH0]; exact h)
  have E : zOK z cJ24_numberOfLeadingZeros RJ24 κ 0 0 (some .int) := E
  refine V.eqL (lv' := [(0, vi d)]) rfl ?_
  have join_73 : ∀ (H : Heap) (s : Nat), (s ≤ 31) → (1 ≤ d / 2 ^ s ∧ d / 2 ^ s < 4) → V z H 0 0 73 [(0, vi (d / 2 ^ s)), (1, vi (31 - (s : Int)))] [] := by
    intro H s hs hi
    refine v_iload_n E 1 rfl dJ24_numberOfLeadingZeros_73 ?_
    refine v_iload_n E 0 rfl dJ24_numberOfLeadingZeros_74 ?_
    refine v_iconst E dJ24_numberOfLeadingZeros_75 ?_
    refine v_iushr E 1 (by decide) dJ24_numberOfLeadingZeros_76 ?_
    refine v_isub E dJ24_numberOfLeadingZeros_77 ?_
    refine v_iret E hE dJ24_numberOfLeadingZeros_78 ?_
    have hi2 : d / 2 ^ s = 1 ∨ 2 ≤ d / 2 ^ s := by omega
    rcases hi2 with q | q
    · refine ⟨s + 0 + 1, congrArg (fun t => some (vi t)) ?_, by omega, bits_div (by rw [q]; decide) (by rw [q]; decide)⟩
      rw [q]; omega
    · refine ⟨s + 1 + 1, congrArg (fun t => some (vi t)) ?_, nlz_t hd1 q, bits_div (by have := hi.2; omega) (by omega)⟩
      have e : (d / 2 ^ s % 4294967296) / 2 ^ 1 = 1 := by
        rw [Int.emod_eq_of_lt (by omega) (by omega), show d / 2 ^ s / 2 ^ 1 = d / 2 ^ s / 2 from rfl]; omega
      rw [e]; omega
  have join_61 : ∀ (H : Heap) (s : Nat), (s ≤ 31) → (1 ≤ d / 2 ^ s ∧ d / 2 ^ s < 16) → V z H 0 0 61 [(0, vi (d / 2 ^ s)), (1, vi (31 - (s : Int)))] [] := by
    intro H s hs hi
    refine v_iload_n E 0 rfl dJ24_numberOfLeadingZeros_61 ?_
    refine v_iconst E dJ24_numberOfLeadingZeros_62 ?_
    refine v_icmp_lt E (tgt := 73) dJ24_numberOfLeadingZeros_63 (by decide) ⟨by omega, by omega⟩ ⟨by omega, by omega⟩ (fun c_63 => ?_) (fun c_63 => ?_)
    · exact join_73 H s (by omega) (by omega)
    · refine v_iinc E 1 rfl dJ24_numberOfLeadingZeros_66 (zlt hL rfl) (lv' := [(1, vi ((31 - (s : Int)) + (-2))), (0, vi (d / 2 ^ s))]) rfl ?_
      refine v_iload_n E 1 rfl dJ24_numberOfLeadingZeros_69 ?_
      refine v_iconst E dJ24_numberOfLeadingZeros_70 ?_
      refine v_iushr E 2 (by decide) dJ24_numberOfLeadingZeros_71 ?_
      refine v_istore_n E dJ24_numberOfLeadingZeros_72 (zlt hL rfl) (lv' := [(0, vi (((d / 2 ^ s) % 4294967296) / 2 ^ 2)), (1, vi ((31 - (s : Int)) + (-2)))]) rfl ?_
      exact V.eqL (by rw [ush hd0 hd1]; congr 4; omega) (join_73 H (s + 2) (nlz_s hd0 hd1 hi.1 (by omega) (by decide) (by decide)) (by rw [← ush hd0 hd1, Int.emod_eq_of_lt (by omega) (by omega), show d / 2 ^ s / 2 ^ 2 = d / 2 ^ s / 4 from rfl]; omega))
  have join_48 : ∀ (H : Heap) (s : Nat), (s ≤ 31) → (1 ≤ d / 2 ^ s ∧ d / 2 ^ s < 256) → V z H 0 0 48 [(0, vi (d / 2 ^ s)), (1, vi (31 - (s : Int)))] [] := by
    intro H s hs hi
    refine v_iload_n E 0 rfl dJ24_numberOfLeadingZeros_48 ?_
    refine v_bipush E ⟨by decide, by decide⟩ dJ24_numberOfLeadingZeros_49 ?_
    refine v_icmp_lt E (tgt := 61) dJ24_numberOfLeadingZeros_51 (by decide) ⟨by omega, by omega⟩ ⟨by omega, by omega⟩ (fun c_51 => ?_) (fun c_51 => ?_)
    · exact join_61 H s (by omega) (by omega)
    · refine v_iinc E 1 rfl dJ24_numberOfLeadingZeros_54 (zlt hL rfl) (lv' := [(1, vi ((31 - (s : Int)) + (-4))), (0, vi (d / 2 ^ s))]) rfl ?_
      refine v_iload_n E 1 rfl dJ24_numberOfLeadingZeros_57 ?_
      refine v_iconst E dJ24_numberOfLeadingZeros_58 ?_
      refine v_iushr E 4 (by decide) dJ24_numberOfLeadingZeros_59 ?_
      refine v_istore_n E dJ24_numberOfLeadingZeros_60 (zlt hL rfl) (lv' := [(0, vi (((d / 2 ^ s) % 4294967296) / 2 ^ 4)), (1, vi ((31 - (s : Int)) + (-4)))]) rfl ?_
      exact V.eqL (by rw [ush hd0 hd1]; congr 4; omega) (join_61 H (s + 4) (nlz_s hd0 hd1 hi.1 (by omega) (by decide) (by decide)) (by rw [← ush hd0 hd1, Int.emod_eq_of_lt (by omega) (by omega), show d / 2 ^ s / 2 ^ 4 = d / 2 ^ s / 16 from rfl]; omega))
  have join_33 : ∀ (H : Heap) (s : Nat), (s ≤ 31) → (1 ≤ d / 2 ^ s ∧ d / 2 ^ s < 65536) → V z H 0 0 33 [(0, vi (d / 2 ^ s)), (1, vi (31 - (s : Int)))] [] := by
    intro H s hs hi
    refine v_iload_n E 0 rfl dJ24_numberOfLeadingZeros_33 ?_
    refine v_sipush E ⟨by decide, by decide⟩ dJ24_numberOfLeadingZeros_34 ?_
    refine v_icmp_lt E (tgt := 48) dJ24_numberOfLeadingZeros_37 (by decide) ⟨by omega, by omega⟩ ⟨by omega, by omega⟩ (fun c_37 => ?_) (fun c_37 => ?_)
    · exact join_48 H s (by omega) (by omega)
    · refine v_iinc E 1 rfl dJ24_numberOfLeadingZeros_40 (zlt hL rfl) (lv' := [(1, vi ((31 - (s : Int)) + (-8))), (0, vi (d / 2 ^ s))]) rfl ?_
      refine v_iload_n E 1 rfl dJ24_numberOfLeadingZeros_43 ?_
      refine v_bipush E ⟨by decide, by decide⟩ dJ24_numberOfLeadingZeros_44 ?_
      refine v_iushr E 8 (by decide) dJ24_numberOfLeadingZeros_46 ?_
      refine v_istore_n E dJ24_numberOfLeadingZeros_47 (zlt hL rfl) (lv' := [(0, vi (((d / 2 ^ s) % 4294967296) / 2 ^ 8)), (1, vi ((31 - (s : Int)) + (-8)))]) rfl ?_
      exact V.eqL (by rw [ush hd0 hd1]; congr 4; omega) (join_48 H (s + 8) (nlz_s hd0 hd1 hi.1 (by omega) (by decide) (by decide)) (by rw [← ush hd0 hd1, Int.emod_eq_of_lt (by omega) (by omega), show d / 2 ^ s / 2 ^ 8 = d / 2 ^ s / 256 from rfl]; omega))
  refine v_iload_n E 0 rfl dJ24_numberOfLeadingZeros_0 ?_
  refine V.topi (x' := (d + 2147483648) % 4294967296 - 2147483648) (iZ_sg _) ?_
  refine v_if_gt E (tgt := 15) dJ24_numberOfLeadingZeros_1 (by decide) ⟨by omega, by omega⟩ (fun c_1 => ?_) (fun c_1 => ?_)
  · refine v_bipush E ⟨by decide, by decide⟩ dJ24_numberOfLeadingZeros_15 ?_
    refine v_istore_n E dJ24_numberOfLeadingZeros_17 (zlt hL rfl) (lv' := [(1, vi 31), (0, vi d)]) rfl ?_
    have c_d : 0 < d ∧ d < 2147483648 := by omega
    refine v_iload_n E 1 rfl dJ24_numberOfLeadingZeros_18 ?_
    refine v_ldcw E q1071 dJ24_numberOfLeadingZeros_19 ?_
    refine V.eq (st' := vi 65536 :: _) rfl ?_
    refine v_icmp_lt E (tgt := 33) dJ24_numberOfLeadingZeros_22 (by decide) ⟨by omega, by omega⟩ ⟨by omega, by omega⟩ (fun c_22 => ?_) (fun c_22 => ?_)
    · refine V.sub [1, 0] (lv' := [(0, vi d), (1, vi 31)]) rfl ?_
      exact V.eqL (by simp) (join_33 H0 0 (by omega) (by simp; omega))
    · refine v_iinc E 0 rfl dJ24_numberOfLeadingZeros_25 (zlt hL rfl) (lv' := [(1, vi (31 + (-16))), (0, vi d)]) rfl ?_
      refine v_iload_n E 1 rfl dJ24_numberOfLeadingZeros_28 ?_
      refine v_bipush E ⟨by decide, by decide⟩ dJ24_numberOfLeadingZeros_29 ?_
      refine v_iushr E 16 (by decide) dJ24_numberOfLeadingZeros_31 ?_
      refine v_istore_n E dJ24_numberOfLeadingZeros_32 (zlt hL rfl) (lv' := [(0, vi ((d % 4294967296) / 2 ^ 16)), (1, vi (31 + (-16)))]) rfl ?_
      exact V.eqL (by rw [Int.emod_eq_of_lt (by omega) (by omega)]; rfl) (join_33 H0 16 (by omega) (by rw [show d / 2 ^ 16 = d / 65536 from rfl]; omega))
  · refine v_iload_n E 0 rfl dJ24_numberOfLeadingZeros_4 ?_
    refine V.topi (x' := (d + 2147483648) % 4294967296 - 2147483648) (iZ_sg _) ?_
    refine v_if_ne E (tgt := 13) dJ24_numberOfLeadingZeros_5 (by decide) ⟨by omega, by omega⟩ (fun c_5 => ?_) (fun c_5 => ?_)
    · refine v_iconst E dJ24_numberOfLeadingZeros_13 ?_
      refine v_iret E hE dJ24_numberOfLeadingZeros_14 ?_
      exact ⟨32, rfl, by decide, (show d < 4294967296 from hd1), fun h => (show 2147483648 ≤ d by omega)⟩
    · refine v_bipush E ⟨by decide, by decide⟩ dJ24_numberOfLeadingZeros_8 ?_
      refine v_goto E (tgt := 14) dJ24_numberOfLeadingZeros_10 (by decide) ?_
      refine v_iret E hE dJ24_numberOfLeadingZeros_14 ?_
      have : d = 0 := by omega
      subst this
      exact ⟨0, rfl, by decide, by decide, fun h => absurd h (by decide)⟩

set_option maxHeartbeats 1000000 in
set_option maxRecDepth 100000 in
/-- trailing zeros, of 32 bits as a number above 0 -/
theorem m_ntz (κ : zK) (H0 : Heap) {d t : Nat} (h0 : 0 < d) (hd : d < 4294967296) (ht : isZeros (d : Int) t) (ht32 : t < 32) : Mt κ yJ24_numberOfTrailingZeros cJ24_numberOfTrailingZeros 2 (some .int) 0 0 0 0 H0 [vi (d : Int)] (fun _ => False) (fun v H1 => v = some (vi (t : Int))) := by
  refine Mt.of (by decide) (Nat.le_of_ble_eq_true rfl) ?_
  intro z E hE hH0 hA0 hL hini
  have hAll : ∀ q, (fun _ => False) q → zA z.A z.H0 q := fun q h => Or.inl (by rw [hA0]; exact h)
  have hNew : ∀ q, H0.size ≤ q → zA z.A z.H0 q := fun q h => Or.inr (by rw [hH0]; exact h)
  have E : zOK z cJ24_numberOfTrailingZeros RJ24 κ 0 0 (some .int) := E
  refine V.eqL (lv' := [(0, vi (d : Int))]) rfl ?_
  have join_74 : ∀ (H : Heap) (u s : Nat), (1 ≤ u ∧ u ≤ 2) → (u + s = t) → V z H 0 0 74 [(0, vi (2 ^ u - 1)), (1, vi (1 + (s : Int)))] [] := by
    intro H u s hu hs
    have hpu := p2 u
    have hpm := pw_mono hu.2
    refine v_iload_n E 1 rfl dJ24_numberOfTrailingZeros_74 ?_
    refine v_iload_n E 0 rfl dJ24_numberOfTrailingZeros_75 ?_
    refine v_iconst E dJ24_numberOfTrailingZeros_76 ?_
    refine v_iushr E 1 (by decide) dJ24_numberOfTrailingZeros_77 ?_
    refine v_iadd E dJ24_numberOfTrailingZeros_78 ?_
    refine v_iret E hE dJ24_numberOfTrailingZeros_79 ?_
    have hu2 : u = 1 ∨ u = 2 := by omega
    rcases hu2 with q | q
    · subst q
      exact congrArg (fun t => some (vi t)) (show (1 + (s : Int)) + 0 = (t : Int) by omega)
    · subst q
      exact congrArg (fun t => some (vi t)) (show (1 + (s : Int)) + 1 = (t : Int) by omega)
  have join_62 : ∀ (H : Heap) (u s : Nat), (1 ≤ u ∧ u ≤ 4) → (u + s = t) → V z H 0 0 62 [(0, vi (2 ^ u - 1)), (1, vi (1 + (s : Int)))] [] := by
    intro H u s hu hs
    have hpu := p2 u
    have hpm := pw_mono hu.2
    refine v_iload_n E 0 rfl dJ24_numberOfTrailingZeros_62 ?_
    refine v_iconst E dJ24_numberOfTrailingZeros_63 ?_
    refine v_icmp_le E (tgt := 74) dJ24_numberOfTrailingZeros_64 (by decide) ⟨by omega, by omega⟩ ⟨by omega, by omega⟩ (fun c_64 => ?_) (fun c_64 => ?_)
    · exact join_74 H u s ⟨hu.1, pw_le (m := 3) (by omega)⟩ hs
    · refine v_iinc E 1 rfl dJ24_numberOfTrailingZeros_67 (zlt hL rfl) (lv' := [(1, vi ((1 + (s : Int)) + 2)), (0, vi (2 ^ u - 1))]) rfl ?_
      refine v_iload_n E 1 rfl dJ24_numberOfTrailingZeros_70 ?_
      refine v_iconst E dJ24_numberOfTrailingZeros_71 ?_
      refine v_iushr E 2 (by decide) dJ24_numberOfTrailingZeros_72 ?_
      refine v_istore_n E dJ24_numberOfTrailingZeros_73 (zlt hL rfl) (lv' := [(0, vi (((2 ^ u - 1) % 4294967296) / 2 ^ 2)), (1, vi ((1 + (s : Int)) + 2))]) rfl ?_
      exact V.eqL (by rw [pw_sh (by have := ntz_c (t := u) (r := 2) (by decide) (by omega); omega) (by omega)] <;> (congr 4 <;> omega)) (join_74 H (u - 2) (s + 2) ⟨ntz_c (t := u) (r := 2) (by decide) (by omega), by omega⟩ (by have := ntz_c (t := u) (r := 2) (by decide) (by omega); omega))
  have join_49 : ∀ (H : Heap) (u s : Nat), (1 ≤ u ∧ u ≤ 8) → (u + s = t) → V z H 0 0 49 [(0, vi (2 ^ u - 1)), (1, vi (1 + (s : Int)))] [] := by
    intro H u s hu hs
    have hpu := p2 u
    have hpm := pw_mono hu.2
    refine v_iload_n E 0 rfl dJ24_numberOfTrailingZeros_49 ?_
    refine v_bipush E ⟨by decide, by decide⟩ dJ24_numberOfTrailingZeros_50 ?_
    refine v_icmp_le E (tgt := 62) dJ24_numberOfTrailingZeros_52 (by decide) ⟨by omega, by omega⟩ ⟨by omega, by omega⟩ (fun c_52 => ?_) (fun c_52 => ?_)
    · exact join_62 H u s ⟨hu.1, pw_le (m := 5) (by omega)⟩ hs
    · refine v_iinc E 1 rfl dJ24_numberOfTrailingZeros_55 (zlt hL rfl) (lv' := [(1, vi ((1 + (s : Int)) + 4)), (0, vi (2 ^ u - 1))]) rfl ?_
      refine v_iload_n E 1 rfl dJ24_numberOfTrailingZeros_58 ?_
      refine v_iconst E dJ24_numberOfTrailingZeros_59 ?_
      refine v_iushr E 4 (by decide) dJ24_numberOfTrailingZeros_60 ?_
      refine v_istore_n E dJ24_numberOfTrailingZeros_61 (zlt hL rfl) (lv' := [(0, vi (((2 ^ u - 1) % 4294967296) / 2 ^ 4)), (1, vi ((1 + (s : Int)) + 4))]) rfl ?_
      exact V.eqL (by rw [pw_sh (by have := ntz_c (t := u) (r := 4) (by decide) (by omega); omega) (by omega)] <;> (congr 4 <;> omega)) (join_62 H (u - 4) (s + 4) ⟨ntz_c (t := u) (r := 4) (by decide) (by omega), by omega⟩ (by have := ntz_c (t := u) (r := 4) (by decide) (by omega); omega))
  have join_34 : ∀ (H : Heap) (u s : Nat), (1 ≤ u ∧ u ≤ 16) → (u + s = t) → V z H 0 0 34 [(0, vi (2 ^ u - 1)), (1, vi (1 + (s : Int)))] [] := by
    intro H u s hu hs
    have hpu := p2 u
    have hpm := pw_mono hu.2
    refine v_iload_n E 0 rfl dJ24_numberOfTrailingZeros_34 ?_
    refine v_sipush E ⟨by decide, by decide⟩ dJ24_numberOfTrailingZeros_35 ?_
    refine v_icmp_le E (tgt := 49) dJ24_numberOfTrailingZeros_38 (by decide) ⟨by omega, by omega⟩ ⟨by omega, by omega⟩ (fun c_38 => ?_) (fun c_38 => ?_)
    · exact join_49 H u s ⟨hu.1, pw_le (m := 9) (by omega)⟩ hs
    · refine v_iinc E 1 rfl dJ24_numberOfTrailingZeros_41 (zlt hL rfl) (lv' := [(1, vi ((1 + (s : Int)) + 8)), (0, vi (2 ^ u - 1))]) rfl ?_
      refine v_iload_n E 1 rfl dJ24_numberOfTrailingZeros_44 ?_
      refine v_bipush E ⟨by decide, by decide⟩ dJ24_numberOfTrailingZeros_45 ?_
      refine v_iushr E 8 (by decide) dJ24_numberOfTrailingZeros_47 ?_
      refine v_istore_n E dJ24_numberOfTrailingZeros_48 (zlt hL rfl) (lv' := [(0, vi (((2 ^ u - 1) % 4294967296) / 2 ^ 8)), (1, vi ((1 + (s : Int)) + 8))]) rfl ?_
      exact V.eqL (by rw [pw_sh (by have := ntz_c (t := u) (r := 8) (by decide) (by omega); omega) (by omega)] <;> (congr 4 <;> omega)) (join_49 H (u - 8) (s + 8) ⟨ntz_c (t := u) (r := 8) (by decide) (by omega), by omega⟩ (by have := ntz_c (t := u) (r := 8) (by decide) (by omega); omega))
  refine v_iload_n E 0 rfl dJ24_numberOfTrailingZeros_0 ?_
  refine v_iconst E dJ24_numberOfTrailingZeros_1 ?_
  refine v_ixor E (c := -1 - (d : Int)) (iZ_not _) dJ24_numberOfTrailingZeros_2 ?_
  refine v_iload_n E 0 rfl dJ24_numberOfTrailingZeros_3 ?_
  refine v_iconst E dJ24_numberOfTrailingZeros_4 ?_
  refine v_isub E dJ24_numberOfTrailingZeros_5 ?_
  refine v_iand E (c := 2 ^ t - 1) (ntz_iZ h0 hd (zeros_nat ht).1 (zeros_nat ht).2) dJ24_numberOfTrailingZeros_6 ?_
  refine v_istore_n E dJ24_numberOfTrailingZeros_7 (zlt hL rfl) (lv' := [(0, vi (2 ^ t - 1))]) rfl ?_
  have hpt := p2 t
  have hpm := pw_mono (show t ≤ 31 by omega)
  refine v_iload_n E 0 rfl dJ24_numberOfTrailingZeros_8 ?_
  refine v_if_gt E (tgt := 17) dJ24_numberOfTrailingZeros_9 (by decide) ⟨by omega, by omega⟩ (fun c_9 => ?_) (fun c_9 => ?_)
  · refine v_iconst E dJ24_numberOfTrailingZeros_17 ?_
    refine v_istore_n E dJ24_numberOfTrailingZeros_18 (zlt hL rfl) (lv' := [(1, vi 1), (0, vi (2 ^ t - 1))]) rfl ?_
    refine v_iload_n E 1 rfl dJ24_numberOfTrailingZeros_19 ?_
    refine v_ldcw E q1071 dJ24_numberOfTrailingZeros_20 ?_
    refine V.eq (st' := vi 65536 :: _) rfl ?_
    refine v_icmp_le E (tgt := 34) dJ24_numberOfTrailingZeros_23 (by decide) ⟨by omega, by omega⟩ ⟨by omega, by omega⟩ (fun c_23 => ?_) (fun c_23 => ?_)
    · refine V.sub [1, 0] (lv' := [(0, vi (2 ^ t - 1)), (1, vi 1)]) rfl ?_
      exact V.eqL (by rfl) (join_34 H0 t 0 ⟨ntz_b c_9, pw_le (m := 17) (by omega)⟩ rfl)
    · refine v_iinc E 0 rfl dJ24_numberOfTrailingZeros_26 (zlt hL rfl) (lv' := [(1, vi (1 + 16)), (0, vi (2 ^ t - 1))]) rfl ?_
      refine v_iload_n E 1 rfl dJ24_numberOfTrailingZeros_29 ?_
      refine v_bipush E ⟨by decide, by decide⟩ dJ24_numberOfTrailingZeros_30 ?_
      refine v_iushr E 16 (by decide) dJ24_numberOfTrailingZeros_32 ?_
      refine v_istore_n E dJ24_numberOfTrailingZeros_33 (zlt hL rfl) (lv' := [(0, vi (((2 ^ t - 1) % 4294967296) / 2 ^ 16)), (1, vi (1 + 16))]) rfl ?_
      exact V.eqL (by rw [pw_sh (by have := ntz_c (t := t) (r := 16) (by decide) (by omega); omega) (by omega)]; rfl) (join_34 H0 (t - 16) 16 ⟨ntz_c (t := t) (r := 16) (by decide) (by omega), by omega⟩ (by have := ntz_c (t := t) (r := 16) (by decide) (by omega); omega))
  · refine v_iload_n E 0 rfl dJ24_numberOfTrailingZeros_12 ?_
    refine v_bipush E ⟨by decide, by decide⟩ dJ24_numberOfTrailingZeros_13 ?_
    refine v_iand E (c := 0) (by have q0 : t = 0 := ntz_z c_9; subst q0; decide) dJ24_numberOfTrailingZeros_15 ?_
    refine v_iret E hE dJ24_numberOfTrailingZeros_16 ?_
    have h0 : t = 0 := ntz_z c_9
    subst h0
    exact rfl
