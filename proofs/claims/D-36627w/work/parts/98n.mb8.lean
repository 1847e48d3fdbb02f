/-! MUTABLE BIG INTEGERS: the binary gcd -/
theorem ints_pos' {x n : Nat} (hx : 0 < x) (h : isInts (x : Int) n) : 0 < n := by have := ints_pos (by omega) h; omega
theorem zeros_lt2 {x t n : Nat} (hx : 0 < x) (h : isInts (x : Int) n) (ht : isZeros (x : Int) t) : t / 32 < n := by
  have h1 := zeros_split ht
  have h2 : 2 ^ t ≤ x := by
    rw [h1.1]
    exact Nat.le_mul_of_pos_right _ (odd_pos h1.2)
  have h3 := h.2.1
  have h4 : (2 : Int) ^ t < 2 ^ (32 * n) := Int.lt_of_le_of_lt (by have : ((2 ^ t : Nat) : Int) ≤ (x : Int) := by omega
                                                                   rwa [Int.natCast_pow] at this) h3
  have := pw_lt h4
  omega
theorem ints_small {x n : Nat} (hx : 0 < x) (h : isInts (x : Int) n) (hn : n < 2) : x < 4294967296 ∧ n = 1 := by
  have h1 := ints_pos' hx h
  obtain rfl : n = 1 := by omega
  have := h.2.1
  exact ⟨by omega, rfl⟩
/-- one step: t zeros off x, y odd -/
theorem gcd_off {x y t : Nat} (hx : 0 < x) (hy : y % 2 = 1) (ht : isZeros (x : Int) t) : Nat.gcd (x / 2 ^ t) y = Nat.gcd x y ∧ x / 2 ^ t % 2 = 1 ∧ x / 2 ^ t ≤ x ∧ 0 < x / 2 ^ t := by
  have h := zeros_split ht
  refine ⟨?_, h.2, Nat.div_le_self _ _, odd_pos h.2⟩
  conv => rhs; rw [h.1]
  exact (gcd_two_pow hy _ _).symm
theorem gcd_sub9 {x y : Nat} (h : y < x) : Nat.gcd (x - y) y = Nat.gcd x y := by
  have := Nat.gcd_add_self_left y (x - y)
  rw [Nat.sub_add_cancel (Nat.le_of_lt h)] at this
  exact this.symm
set_option maxHeartbeats 2000000 in
set_option maxRecDepth 100000 in
/-- the loop of the binary gcd -/
theorem h_bgL {κ : zK} {z : zT} (E : zOK z cJ26_binaryGCD RJ26 κ 3 68 (some (.object "java/math/MutableBigInteger"))) (hL : z.nL = 13) {H : Heap} {H0 : Heap} {a v b w r vr k G cap cbp B : Nat} {x y o n p m : Nat} {f g : Nat → Int} {t : Nat} {sg : Int} {N : Nat} (hD : zDist κ) (hk48 : k / 32 ≤ 48) (hE : zEnd z (fun v9 H1 => ∃ (q v2 o2 n2 cap2 : Nat) (f2 : Nat → Int), v9 = some (.ref q) ∧ MI κ H1 q v2 o2 n2 cap2 f2 (G : Int) ∧ isInts (G : Int) n2 ∧ B ≤ q ∧ B ≤ v2)) (hH0 : z.H0 = H0) (h93 : B ≤ a ∧ B ≤ v ∧ B ≤ b ∧ B ≤ w ∧ B ≤ r ∧ B ≤ vr) (h93H : B ≤ H0.size) (hc2 : cap ≤ 1000) (hc22 : cbp ≤ 1000) (hsG : sB (G : Int)) (hne_a_b : a ≠ b) (hne_v_w : v ≠ w) (hne_v_a : v ≠ a) (hne_v_b : v ≠ b) (hne_w_a : w ≠ a) (hne_w_b : w ≠ b) (hne_r_a : r ≠ a) (hne_r_b : r ≠ b) (hne_vr_a : vr ≠ a) (hne_vr_b : vr ≠ b) (hne_vr_v : vr ≠ v) (hne_vr_w : vr ≠ w) (hne_vr_r : vr ≠ r) (hne_v_r : v ≠ r) (hne_w_r : w ≠ r) (hAr : (∀ q, q = r → zA z.A z.H0 q) ∧ ∀ q, q = vr → zA z.A z.H0 q) (hN48 : 48 ≤ N) (hAll : ∀ q, (fun q => q = a ∨ q = v ∨ q = b ∨ q = w) q → zA z.A z.H0 q) (hx : 0 < x) (hy : 0 < y) (hn : isInts (x : Int) n) (hm : isInts (y : Int) m) (hcap : o + n ≤ cap) (hcap2 : p + m ≤ cbp) (hW : ∀ k, k < n → f (o + k) = bM (x : Int) n k) (hW2 : ∀ k, k < m → g (p + k) = bM (y : Int) m k) (hT : (t = a ∧ 0 < sg ∧ y % 2 = 1) ∨ (t = b ∧ sg < 0 ∧ x % 2 = 1)) (hrs : rI sg) (hG : 2 ^ k * Nat.gcd x y = G) (hoa : hp κ H a (.inr (9, [.ref v, vi (n : Int), vi (o : Int)]))) (hv : hp κ H v (eI κ cap f)) (hob : hp κ H b (.inr (9, [.ref w, vi (m : Int), vi (p : Int)]))) (hw : hp κ H w (eI κ cbp g)) (hr : hp κ H r (.inr (9, [.ref vr, vi 0, vi 0]))) (hvr : hp κ H vr (eI κ 1 (fun _ => 0))) : V z H 1 (N + k / 32 + 1) 93 [(8, .ref t), (9, vi sg), (6, vi (k : Int)), (3, .ref r), (2, .ref a), (1, .ref b)] [] := by
  have loop_93 : ∀ (m_93 : Nat) (H : Heap) (x y o n p m : Nat) (f g : Nat → Int) (t : Nat) (sg : Int), x + y < m_93 → (0 < x) → (0 < y) → (isInts (x : Int) n) → (isInts (y : Int) m) → (o + n ≤ cap) → (p + m ≤ cbp) → (∀ k, k < n → f (o + k) = bM (x : Int) n k) → (∀ k, k < m → g (p + k) = bM (y : Int) m k) → ((t = a ∧ 0 < sg ∧ y % 2 = 1) ∨ (t = b ∧ sg < 0 ∧ x % 2 = 1)) → (rI sg) → (2 ^ k * Nat.gcd x y = G) → hp κ H a (.inr (9, [.ref v, vi (n : Int), vi (o : Int)])) → hp κ H v (eI κ cap f) → hp κ H b (.inr (9, [.ref w, vi (m : Int), vi (p : Int)])) → hp κ H w (eI κ cbp g) → hp κ H r (.inr (9, [.ref vr, vi 0, vi 0])) → hp κ H vr (eI κ 1 (fun _ => 0)) → V z H 1 (N + k / 32 + 1) 93 [(8, .ref t), (9, vi sg), (6, vi (k : Int)), (3, .ref r), (2, .ref a), (1, .ref b)] [] := by
    intro m_93
    induction m_93 with
    | zero => intro H x y o n p m f g t sg hm; exact absurd hm (by omega)
    | succ m_93 ih_93 =>
      intro H x y o n p m f g t sg hm_93 hx hy hn hm hcap hcap2 hW hW2 hT hrs hG hoa hv hob hw hr hvr
      rcases hT with ⟨et, hsg, hod⟩ | ⟨et, hsg, hod⟩
      ·
        obtain rfl : a = t := et.symm
        refine v_aload E 0 rfl dJ26_binaryGCD_93 ?_
        refine v_callV E (As := []) (b := a) (ci := 9) (C := RJ26) (T := TJ26) (N := 3) hoa rfl (h_lsb κ H hD hn (ints_pos' hx hn) ⟨hoa, hv, hcap, hc2, hW, (Int.natCast_nonneg x), hn.2.1⟩) (lw_V q1197 q1199 qs20 q101 q1200) 0 (by decide +kernel) rfl (by decide) (by decide) (cb' := (1 - 0)) (sb' := ((N + k / 32 + 1) - 0)) (by omega) (by omega) rfl (rest := []) (Nat.le_of_ble_eq_true rfl) (fun q h => h.elim) dJ26_binaryGCD_95 (fun v_1 H_2 hpost_3 hz_4 hk_5 => ?_)
        clear hz_4
        obtain ⟨i, rfl, hi, hil⟩ := hpost_3
        have hz_6 := hoa.kept (hk_5 _ hoa.lt (fun h => h))
        have hz_7 := hv.kept (hk_5 _ hv.lt (fun h => h))
        have hz_8 := hob.kept (hk_5 _ hob.lt (fun h => h))
        have hz_9 := hw.kept (hk_5 _ hw.lt (fun h => h))
        have hz_10 := hr.kept (hk_5 _ hr.lt (fun h => h))
        have hz_11 := hvr.kept (hk_5 _ hvr.lt (fun h => h))
        refine V.eq (st' := [vi (i : Int)]) rfl ?_
        refine v_dup E rfl dJ26_binaryGCD_98 ?_
        refine v_istore E dJ26_binaryGCD_99 (zlt hL rfl) (lv' := [(10, vi (i : Int)), (8, .ref a), (9, vi sg), (6, vi (k : Int)), (3, .ref r), (2, .ref a), (1, .ref b)]) rfl ?_
        refine v_if_lt E (tgt := 232) dJ26_binaryGCD_101 (by decide) ⟨by omega, by omega⟩ (fun c_101 => absurd c_101 (by omega)) (fun c_101 => ?_)
        refine v_aload E 1 rfl dJ26_binaryGCD_104 ?_
        refine v_iload E 0 rfl dJ26_binaryGCD_106 ?_
        refine V.topi (x' := ((32 * (i / 32) + i % 32 : Nat) : Int)) (congrArg iZ (by omega)) ?_
        refine v_callV E (As := [vi ((32 * (i / 32) + i % 32 : Nat) : Int)]) (b := a) (ci := 9) (C := RJ26) (T := TJ26) (N := 3) hz_6 rfl (h_rsh κ H_2 (u := i / 32) (b := i % 32) hD (by omega) (by first | exact zeros_lt2 hx hn hi | exact zeros_lt2 hy hm hi) ⟨hz_6, hz_7, hcap, hc2, hW, (Int.natCast_nonneg x), hn.2.1⟩) (lw_V q1202 q1203 q1204 q101 q1205) 1 (by decide +kernel) rfl (by decide) (by decide) (cb' := ((1 - 0) - 0)) (sb' := (((N + k / 32 + 1) - 0) - 0)) (by omega) (by omega) rfl (rest := []) (Nat.le_of_ble_eq_true rfl) (fun q h => hAll q (h.elim Or.inl (fun h => Or.inr (Or.inl h)))) dJ26_binaryGCD_108 (fun v_12 H_13 hpost_14 hz_15 hk_16 => ?_)
        clear hz_15
        obtain ⟨rfl, n_17, f_18, hM_19, hle_20, hI_21⟩ := hpost_14
        rw [show 32 * (i / 32) + i % 32 = i by omega, nat_div] at hM_19 hI_21
        have hz_22 := hz_8.kept (hk_16 _ hz_8.lt (fun h => h.elim (fun h => (Ne.symm hne_a_b) h) (fun h => (Ne.symm hne_v_b) h)))
        have hz_23 := hz_9.kept (hk_16 _ hz_9.lt (fun h => h.elim (fun h => hne_w_a h) (fun h => (Ne.symm hne_v_w) h)))
        have hz_24 := hz_10.kept (hk_16 _ hz_10.lt (fun h => h.elim (fun h => hne_r_a h) (fun h => (Ne.symm hne_v_r) h)))
        have hz_25 := hz_11.kept (hk_16 _ hz_11.lt (fun h => h.elim (fun h => hne_vr_a h) (fun h => hne_vr_v h)))
        obtain ⟨M_26o, M_26v, M_26cap, M_26c2, M_26W, M_26X0, M_26X1⟩ := hM_19
        have go := gcd_off (x := x) (y := y) hx hod hi
        refine V.eq (st' := []) rfl ?_
        refine v_iload E 2 rfl dJ26_binaryGCD_111 ?_
        refine v_if_le E (tgt := 122) dJ26_binaryGCD_113 (by decide) hrs (fun c_113 => absurd c_113 (by omega)) (fun c_113 => ?_)
        refine v_aload E 1 rfl dJ26_binaryGCD_116 ?_
        refine v_astore_n E dJ26_binaryGCD_118 (zlt hL rfl) (lv' := [(2, .ref a), (10, vi (i : Int)), (8, .ref a), (9, vi sg), (6, vi (k : Int)), (3, .ref r), (1, .ref b)]) rfl ?_
        refine v_goto E (tgt := 125) dJ26_binaryGCD_119 (by decide) ?_
        refine v_aload_n E 0 rfl dJ26_binaryGCD_125 ?_
        refine v_getf E in_J26 M_26o (ci := 9) rfl 1 (by decide) q1173 rfl (v := vi (n_17 : Int)) rfl dJ26_binaryGCD_126 ?_
        refine v_iconst E dJ26_binaryGCD_129 ?_
        refine v_icmp_ge E (tgt := 203) dJ26_binaryGCD_130 (by decide) ⟨by omega, by omega⟩ ⟨by omega, by omega⟩ (fun c_130 => ?_) (fun c_130 => ?_)
        · refine v_aload_n E 0 rfl dJ26_binaryGCD_203 ?_
          refine v_aload_n E 6 rfl dJ26_binaryGCD_204 ?_
          refine v_callV E (As := [.ref b]) (b := a) (ci := 9) (C := RJ26) (T := TJ26) (N := 3) M_26o rfl (h_diff κ H_13 hD hne_a_b hne_v_w (hI_21 hn) hm ⟨M_26o, M_26v, M_26cap, M_26c2, M_26W, M_26X0, M_26X1⟩ ⟨hz_22, hz_23, hcap2, hc22, hW2, (Int.natCast_nonneg y), hm.2.1⟩) (lw_V q1232 q1234 qs23 q101 q1235) 1 (by decide +kernel) rfl (by decide) (by decide) (cb' := (((1 - 0) - 0) - 0)) (sb' := ((((N + k / 32 + 1) - 0) - 0) - 0)) (by omega) (by omega) rfl (rest := []) (Nat.le_of_ble_eq_true rfl) hAll dJ26_binaryGCD_205 (fun v_27 H_28 hpost_29 hz_30 hk_31 => ?_)
          clear hz_30
          rcases hpost_29 with ⟨rfl, hxy, hMa, hMb⟩ | ⟨rfl, hxy, o2, n2, f2, hMa, hI2, hMb⟩ | ⟨rfl, hxy, o2, n2, f2, hMb, hI2, hMa⟩
          ·
            have hz_32 := hz_24.kept (hk_31 _ hz_24.lt (fun h => h.elim (fun h => hne_r_a h) (fun h => h.elim (fun h => (Ne.symm hne_v_r) h) (fun h => h.elim (fun h => hne_r_b h) (fun h => (Ne.symm hne_w_r) h)))))
            have hz_33 := hz_25.kept (hk_31 _ hz_25.lt (fun h => h.elim (fun h => hne_vr_a h) (fun h => h.elim (fun h => hne_vr_v h) (fun h => h.elim (fun h => hne_vr_b h) (fun h => hne_vr_w h)))))
            obtain ⟨M_34o, M_34v, M_34cap, M_34c2, M_34W, M_34X0, M_34X1⟩ := hMa
            obtain ⟨M_35o, M_35v, M_35cap, M_35c2, M_35W, M_35X0, M_35X1⟩ := hMb
            have hxe : (x / 2 ^ i) = y := by omega
            have hgx : (x / 2 ^ i) = Nat.gcd x y := by rw [← (go.1), hxe, Nat.gcd_self]
            refine V.eq (st' := [vi 0]) rfl ?_
            refine v_dup E rfl dJ26_binaryGCD_208 ?_
            refine v_istore E dJ26_binaryGCD_209 (zlt hL rfl) (lv' := [(9, vi 0), (2, .ref a), (10, vi (i : Int)), (8, .ref a), (6, vi (k : Int)), (3, .ref r), (1, .ref b)]) rfl ?_
            refine v_if_ne E (tgt := 217) dJ26_binaryGCD_211 (by decide) ⟨by omega, by omega⟩ (fun c_211 => absurd c_211 (by omega)) (fun c_211 => ?_)
            refine v_goto E (tgt := 232) dJ26_binaryGCD_214 (by decide) ?_
            refine v_iload E 4 rfl dJ26_binaryGCD_232 ?_
            refine v_if_le E (tgt := 243) dJ26_binaryGCD_234 (by decide) ⟨by omega, by omega⟩ (fun c_234 => ?_) (fun c_234 => ?_)
            · refine v_aload_n E 1 rfl dJ26_binaryGCD_243 ?_
              obtain rfl : k = 0 := by omega
              refine v_aret E hE rfl (Or.inl ⟨_, rfl⟩) dJ26_binaryGCD_244 (Or.inr ⟨_, rfl⟩) ?_
              have hgk : (x / 2 ^ i) = G := by rw [← hG, Nat.pow_zero, Nat.one_mul]; exact hgx
              have hMf : MI κ _ a v o n_17 cap f_18 (((x / 2 ^ i) : Nat) : Int) := ⟨M_34o, M_34v, M_34cap, M_34c2, M_34W, M_34X0, M_34X1⟩
              have hIf : isInts (((x / 2 ^ i) : Nat) : Int) n_17 := (hI_21 hn)
              rw [hgk] at hMf hIf
              exact ⟨_, _, _, _, _, _, rfl, hMf, hIf, h93.1, h93.2.1⟩
            · refine v_aload_n E 1 rfl dJ26_binaryGCD_237 ?_
              refine v_iload E 4 rfl dJ26_binaryGCD_238 ?_
              refine V.frame (fun hfz9 _ => ?_)
              rw [hH0] at hfz9
              have hHs : B ≤ H_28.size := Nat.le_trans h93H hfz9
              have hgk : (((x / 2 ^ i) : Nat) : Int) * 2 ^ k = (G : Int) := by rw [hgx, ← hG, Int.natCast_mul, Int.natCast_pow, Int.mul_comm]; rfl
              have hsk : sB ((((x / 2 ^ i) : Nat) : Int) * 2 ^ k) := by rw [hgk]; exact hsG
              have h48k := ((hI_21 hn)).1
              refine V.topi (x' := ((32 * (k / 32) + k % 32 : Nat) : Int)) (congrArg iZ (by omega)) ?_
              refine v_callV E (As := [vi ((32 * (k / 32) + k % 32 : Nat) : Int)]) (b := a) (ci := 9) (C := RJ26) (T := TJ26) (N := 3) M_34o rfl (h_lsh κ H_28 (u := k / 32) (b := k % 32) hD (by omega) (by omega) (by omega) (hI_21 hn) (ints_pos' (by omega) (hI_21 hn)) (by rw [show 32 * (k / 32) + k % 32 = k by omega]; exact hsk) ⟨M_34o, M_34v, M_34cap, M_34c2, M_34W, M_34X0, M_34X1⟩) (lw_V q1224 q1225 q1226 q101 q1227) 1 (by decide +kernel) rfl (by decide) (by decide) (cb' := ((((1 - 0) - 0) - 0) - 1)) (sb' := (((((N + k / 32 + 1) - 0) - 0) - 0) - (n_17 + k / 32 + 1))) (by omega) (by omega) rfl (rest := []) (Nat.le_of_ble_eq_true rfl) (fun q h => hAll q (h.elim Or.inl (fun h => Or.inr (Or.inl h)))) dJ26_binaryGCD_240 (fun v_36 H_37 hpost_38 hz_39 hk_40 => ?_)
              clear hz_39
              obtain ⟨rfl, v_41, o_42, n_43, cap_44, f_45, hM_46, hI_47, hv_48⟩ := hpost_38
              rw [show 32 * (k / 32) + k % 32 = k by omega] at hM_46 hI_47
              refine V.eq (st' := []) rfl ?_
              refine v_aload_n E 1 rfl dJ26_binaryGCD_243 ?_
              refine v_aret E hE rfl (Or.inl ⟨_, rfl⟩) dJ26_binaryGCD_244 (Or.inr ⟨_, rfl⟩) ?_
              rw [hgk] at hM_46 hI_47
              exact ⟨_, _, _, _, _, _, rfl, hM_46, hI_47, h93.1, hv_48.elim (fun e => e ▸ h93.2.1) (fun e => Nat.le_trans hHs e)⟩
          ·
            have hz_49 := hz_24.kept (hk_31 _ hz_24.lt (fun h => h.elim (fun h => hne_r_a h) (fun h => h.elim (fun h => (Ne.symm hne_v_r) h) (fun h => h.elim (fun h => hne_r_b h) (fun h => (Ne.symm hne_w_r) h)))))
            have hz_50 := hz_25.kept (hk_31 _ hz_25.lt (fun h => h.elim (fun h => hne_vr_a h) (fun h => h.elim (fun h => hne_vr_v h) (fun h => h.elim (fun h => hne_vr_b h) (fun h => hne_vr_w h)))))
            rw [show (((x / 2 ^ i) : Nat) : Int) - ((y : Nat) : Int) = (((x / 2 ^ i) - y : Nat) : Int) by omega] at hMa hI2
            obtain ⟨M_51o, M_51v, M_51cap, M_51c2, M_51W, M_51X0, M_51X1⟩ := hMa
            obtain ⟨M_52o, M_52v, M_52cap, M_52c2, M_52W, M_52X0, M_52X1⟩ := hMb
            refine V.eq (st' := [vi 1]) rfl ?_
            refine v_dup E rfl dJ26_binaryGCD_208 ?_
            refine v_istore E dJ26_binaryGCD_209 (zlt hL rfl) (lv' := [(9, vi 1), (2, .ref a), (10, vi (i : Int)), (8, .ref a), (6, vi (k : Int)), (3, .ref r), (1, .ref b)]) rfl ?_
            refine v_if_ne E (tgt := 217) dJ26_binaryGCD_211 (by decide) ⟨by omega, by omega⟩ (fun c_211 => ?_) (fun c_211 => absurd c_211 (by omega))
            refine v_iload E 0 rfl dJ26_binaryGCD_217 ?_
            refine v_if_lt E (tgt := 226) dJ26_binaryGCD_219 (by decide) ⟨by omega, by omega⟩ (fun c_219 => absurd c_219 (by omega)) (fun c_219 => ?_)
            refine v_aload_n E 1 rfl dJ26_binaryGCD_222 ?_
            refine v_goto E (tgt := 227) dJ26_binaryGCD_223 (by decide) ?_
            refine v_astore E dJ26_binaryGCD_227 (zlt hL rfl) (lv' := [(8, .ref a), (9, vi 1), (2, .ref a), (10, vi (i : Int)), (6, vi (k : Int)), (3, .ref r), (1, .ref b)]) rfl ?_
            refine v_goto E (tgt := 93) dJ26_binaryGCD_229 (by decide) ?_
            refine V.sub [0, 1, 4, 5, 2, 6] (lv' := [(8, .ref a), (9, vi 1), (6, vi (k : Int)), (3, .ref r), (2, .ref a), (1, .ref b)]) rfl ?_
            exact ih_93  H_28 _ _ _ _ _ _ _ _ _ _ (by omega) (by omega) (by omega) hI2 hm M_51cap M_52cap M_51W M_52W (Or.inl ⟨rfl, by decide, by omega⟩) ⟨by decide, by decide⟩ (by rw [gcd_sub9 (by omega), (go.1)]; exact hG) M_51o M_51v M_52o M_52v hz_49 hz_50
          ·
            have hz_53 := hz_24.kept (hk_31 _ hz_24.lt (fun h => h.elim (fun h => hne_r_a h) (fun h => h.elim (fun h => (Ne.symm hne_v_r) h) (fun h => h.elim (fun h => hne_r_b h) (fun h => (Ne.symm hne_w_r) h)))))
            have hz_54 := hz_25.kept (hk_31 _ hz_25.lt (fun h => h.elim (fun h => hne_vr_a h) (fun h => h.elim (fun h => hne_vr_v h) (fun h => h.elim (fun h => hne_vr_b h) (fun h => hne_vr_w h)))))
            rw [show ((y : Nat) : Int) - (((x / 2 ^ i) : Nat) : Int) = ((y - (x / 2 ^ i) : Nat) : Int) by omega] at hMb hI2
            obtain ⟨M_55o, M_55v, M_55cap, M_55c2, M_55W, M_55X0, M_55X1⟩ := hMa
            obtain ⟨M_56o, M_56v, M_56cap, M_56c2, M_56W, M_56X0, M_56X1⟩ := hMb
            refine V.eq (st' := [vi (-1)]) rfl ?_
            refine v_dup E rfl dJ26_binaryGCD_208 ?_
            refine v_istore E dJ26_binaryGCD_209 (zlt hL rfl) (lv' := [(9, vi (-1)), (2, .ref a), (10, vi (i : Int)), (8, .ref a), (6, vi (k : Int)), (3, .ref r), (1, .ref b)]) rfl ?_
            refine v_if_ne E (tgt := 217) dJ26_binaryGCD_211 (by decide) ⟨by omega, by omega⟩ (fun c_211 => ?_) (fun c_211 => absurd c_211 (by omega))
            refine v_iload E 0 rfl dJ26_binaryGCD_217 ?_
            refine v_if_lt E (tgt := 226) dJ26_binaryGCD_219 (by decide) ⟨by omega, by omega⟩ (fun c_219 => ?_) (fun c_219 => absurd c_219 (by omega))
            refine v_aload_n E 6 rfl dJ26_binaryGCD_226 ?_
            refine v_astore E dJ26_binaryGCD_227 (zlt hL rfl) (lv' := [(8, .ref b), (9, vi (-1)), (2, .ref a), (10, vi (i : Int)), (6, vi (k : Int)), (3, .ref r), (1, .ref b)]) rfl ?_
            refine v_goto E (tgt := 93) dJ26_binaryGCD_229 (by decide) ?_
            refine V.sub [0, 1, 4, 5, 2, 6] (lv' := [(8, .ref b), (9, vi (-1)), (6, vi (k : Int)), (3, .ref r), (2, .ref a), (1, .ref b)]) rfl ?_
            exact ih_93  H_28 _ _ _ _ _ _ _ _ _ _ (by omega) (by omega) (by omega) (hI_21 hn) hI2 M_55cap M_56cap M_55W M_56W (Or.inr ⟨rfl, by decide, by omega⟩) ⟨by decide, by decide⟩ (by rw [Nat.gcd_comm, gcd_sub9 (by omega), Nat.gcd_comm, (go.1)]; exact hG) M_55o M_55v M_56o M_56v hz_53 hz_54
        · refine v_aload_n E 6 rfl dJ26_binaryGCD_133 ?_
          refine v_getf E in_J26 hz_22 (ci := 9) rfl 1 (by decide) q1173 rfl (v := vi (m : Int)) rfl dJ26_binaryGCD_134 ?_
          refine v_iconst E dJ26_binaryGCD_137 ?_
          refine v_icmp_ge E (tgt := 203) dJ26_binaryGCD_138 (by decide) ⟨by omega, by omega⟩ ⟨by omega, by omega⟩ (fun c_138 => ?_) (fun c_138 => ?_)
          · refine v_aload_n E 0 rfl dJ26_binaryGCD_203 ?_
            refine v_aload_n E 6 rfl dJ26_binaryGCD_204 ?_
            refine v_callV E (As := [.ref b]) (b := a) (ci := 9) (C := RJ26) (T := TJ26) (N := 3) M_26o rfl (h_diff κ H_13 hD hne_a_b hne_v_w (hI_21 hn) hm ⟨M_26o, M_26v, M_26cap, M_26c2, M_26W, M_26X0, M_26X1⟩ ⟨hz_22, hz_23, hcap2, hc22, hW2, (Int.natCast_nonneg y), hm.2.1⟩) (lw_V q1232 q1234 qs23 q101 q1235) 1 (by decide +kernel) rfl (by decide) (by decide) (cb' := (((1 - 0) - 0) - 0)) (sb' := ((((N + k / 32 + 1) - 0) - 0) - 0)) (by omega) (by omega) rfl (rest := []) (Nat.le_of_ble_eq_true rfl) hAll dJ26_binaryGCD_205 (fun v_57 H_58 hpost_59 hz_60 hk_61 => ?_)
            clear hz_60
            rcases hpost_59 with ⟨rfl, hxy, hMa, hMb⟩ | ⟨rfl, hxy, o2, n2, f2, hMa, hI2, hMb⟩ | ⟨rfl, hxy, o2, n2, f2, hMb, hI2, hMa⟩
            ·
              have hz_62 := hz_24.kept (hk_61 _ hz_24.lt (fun h => h.elim (fun h => hne_r_a h) (fun h => h.elim (fun h => (Ne.symm hne_v_r) h) (fun h => h.elim (fun h => hne_r_b h) (fun h => (Ne.symm hne_w_r) h)))))
              have hz_63 := hz_25.kept (hk_61 _ hz_25.lt (fun h => h.elim (fun h => hne_vr_a h) (fun h => h.elim (fun h => hne_vr_v h) (fun h => h.elim (fun h => hne_vr_b h) (fun h => hne_vr_w h)))))
              obtain ⟨M_64o, M_64v, M_64cap, M_64c2, M_64W, M_64X0, M_64X1⟩ := hMa
              obtain ⟨M_65o, M_65v, M_65cap, M_65c2, M_65W, M_65X0, M_65X1⟩ := hMb
              have hxe : (x / 2 ^ i) = y := by omega
              have hgx : (x / 2 ^ i) = Nat.gcd x y := by rw [← (go.1), hxe, Nat.gcd_self]
              refine V.eq (st' := [vi 0]) rfl ?_
              refine v_dup E rfl dJ26_binaryGCD_208 ?_
              refine v_istore E dJ26_binaryGCD_209 (zlt hL rfl) (lv' := [(9, vi 0), (2, .ref a), (10, vi (i : Int)), (8, .ref a), (6, vi (k : Int)), (3, .ref r), (1, .ref b)]) rfl ?_
              refine v_if_ne E (tgt := 217) dJ26_binaryGCD_211 (by decide) ⟨by omega, by omega⟩ (fun c_211 => absurd c_211 (by omega)) (fun c_211 => ?_)
              refine v_goto E (tgt := 232) dJ26_binaryGCD_214 (by decide) ?_
              refine v_iload E 4 rfl dJ26_binaryGCD_232 ?_
              refine v_if_le E (tgt := 243) dJ26_binaryGCD_234 (by decide) ⟨by omega, by omega⟩ (fun c_234 => ?_) (fun c_234 => ?_)
              · refine v_aload_n E 1 rfl dJ26_binaryGCD_243 ?_
                obtain rfl : k = 0 := by omega
                refine v_aret E hE rfl (Or.inl ⟨_, rfl⟩) dJ26_binaryGCD_244 (Or.inr ⟨_, rfl⟩) ?_
                have hgk : (x / 2 ^ i) = G := by rw [← hG, Nat.pow_zero, Nat.one_mul]; exact hgx
                have hMf : MI κ _ a v o n_17 cap f_18 (((x / 2 ^ i) : Nat) : Int) := ⟨M_64o, M_64v, M_64cap, M_64c2, M_64W, M_64X0, M_64X1⟩
                have hIf : isInts (((x / 2 ^ i) : Nat) : Int) n_17 := (hI_21 hn)
                rw [hgk] at hMf hIf
                exact ⟨_, _, _, _, _, _, rfl, hMf, hIf, h93.1, h93.2.1⟩
              · refine v_aload_n E 1 rfl dJ26_binaryGCD_237 ?_
                refine v_iload E 4 rfl dJ26_binaryGCD_238 ?_
                refine V.frame (fun hfz9 _ => ?_)
                rw [hH0] at hfz9
                have hHs : B ≤ H_58.size := Nat.le_trans h93H hfz9
                have hgk : (((x / 2 ^ i) : Nat) : Int) * 2 ^ k = (G : Int) := by rw [hgx, ← hG, Int.natCast_mul, Int.natCast_pow, Int.mul_comm]; rfl
                have hsk : sB ((((x / 2 ^ i) : Nat) : Int) * 2 ^ k) := by rw [hgk]; exact hsG
                have h48k := ((hI_21 hn)).1
                refine V.topi (x' := ((32 * (k / 32) + k % 32 : Nat) : Int)) (congrArg iZ (by omega)) ?_
                refine v_callV E (As := [vi ((32 * (k / 32) + k % 32 : Nat) : Int)]) (b := a) (ci := 9) (C := RJ26) (T := TJ26) (N := 3) M_64o rfl (h_lsh κ H_58 (u := k / 32) (b := k % 32) hD (by omega) (by omega) (by omega) (hI_21 hn) (ints_pos' (by omega) (hI_21 hn)) (by rw [show 32 * (k / 32) + k % 32 = k by omega]; exact hsk) ⟨M_64o, M_64v, M_64cap, M_64c2, M_64W, M_64X0, M_64X1⟩) (lw_V q1224 q1225 q1226 q101 q1227) 1 (by decide +kernel) rfl (by decide) (by decide) (cb' := ((((1 - 0) - 0) - 0) - 1)) (sb' := (((((N + k / 32 + 1) - 0) - 0) - 0) - (n_17 + k / 32 + 1))) (by omega) (by omega) rfl (rest := []) (Nat.le_of_ble_eq_true rfl) (fun q h => hAll q (h.elim Or.inl (fun h => Or.inr (Or.inl h)))) dJ26_binaryGCD_240 (fun v_66 H_67 hpost_68 hz_69 hk_70 => ?_)
                clear hz_69
                obtain ⟨rfl, v_71, o_72, n_73, cap_74, f_75, hM_76, hI_77, hv_78⟩ := hpost_68
                rw [show 32 * (k / 32) + k % 32 = k by omega] at hM_76 hI_77
                refine V.eq (st' := []) rfl ?_
                refine v_aload_n E 1 rfl dJ26_binaryGCD_243 ?_
                refine v_aret E hE rfl (Or.inl ⟨_, rfl⟩) dJ26_binaryGCD_244 (Or.inr ⟨_, rfl⟩) ?_
                rw [hgk] at hM_76 hI_77
                exact ⟨_, _, _, _, _, _, rfl, hM_76, hI_77, h93.1, hv_78.elim (fun e => e ▸ h93.2.1) (fun e => Nat.le_trans hHs e)⟩
            ·
              have hz_79 := hz_24.kept (hk_61 _ hz_24.lt (fun h => h.elim (fun h => hne_r_a h) (fun h => h.elim (fun h => (Ne.symm hne_v_r) h) (fun h => h.elim (fun h => hne_r_b h) (fun h => (Ne.symm hne_w_r) h)))))
              have hz_80 := hz_25.kept (hk_61 _ hz_25.lt (fun h => h.elim (fun h => hne_vr_a h) (fun h => h.elim (fun h => hne_vr_v h) (fun h => h.elim (fun h => hne_vr_b h) (fun h => hne_vr_w h)))))
              rw [show (((x / 2 ^ i) : Nat) : Int) - ((y : Nat) : Int) = (((x / 2 ^ i) - y : Nat) : Int) by omega] at hMa hI2
              obtain ⟨M_81o, M_81v, M_81cap, M_81c2, M_81W, M_81X0, M_81X1⟩ := hMa
              obtain ⟨M_82o, M_82v, M_82cap, M_82c2, M_82W, M_82X0, M_82X1⟩ := hMb
              refine V.eq (st' := [vi 1]) rfl ?_
              refine v_dup E rfl dJ26_binaryGCD_208 ?_
              refine v_istore E dJ26_binaryGCD_209 (zlt hL rfl) (lv' := [(9, vi 1), (2, .ref a), (10, vi (i : Int)), (8, .ref a), (6, vi (k : Int)), (3, .ref r), (1, .ref b)]) rfl ?_
              refine v_if_ne E (tgt := 217) dJ26_binaryGCD_211 (by decide) ⟨by omega, by omega⟩ (fun c_211 => ?_) (fun c_211 => absurd c_211 (by omega))
              refine v_iload E 0 rfl dJ26_binaryGCD_217 ?_
              refine v_if_lt E (tgt := 226) dJ26_binaryGCD_219 (by decide) ⟨by omega, by omega⟩ (fun c_219 => absurd c_219 (by omega)) (fun c_219 => ?_)
              refine v_aload_n E 1 rfl dJ26_binaryGCD_222 ?_
              refine v_goto E (tgt := 227) dJ26_binaryGCD_223 (by decide) ?_
              refine v_astore E dJ26_binaryGCD_227 (zlt hL rfl) (lv' := [(8, .ref a), (9, vi 1), (2, .ref a), (10, vi (i : Int)), (6, vi (k : Int)), (3, .ref r), (1, .ref b)]) rfl ?_
              refine v_goto E (tgt := 93) dJ26_binaryGCD_229 (by decide) ?_
              refine V.sub [0, 1, 4, 5, 2, 6] (lv' := [(8, .ref a), (9, vi 1), (6, vi (k : Int)), (3, .ref r), (2, .ref a), (1, .ref b)]) rfl ?_
              exact ih_93  H_58 _ _ _ _ _ _ _ _ _ _ (by omega) (by omega) (by omega) hI2 hm M_81cap M_82cap M_81W M_82W (Or.inl ⟨rfl, by decide, by omega⟩) ⟨by decide, by decide⟩ (by rw [gcd_sub9 (by omega), (go.1)]; exact hG) M_81o M_81v M_82o M_82v hz_79 hz_80
            ·
              have hz_83 := hz_24.kept (hk_61 _ hz_24.lt (fun h => h.elim (fun h => hne_r_a h) (fun h => h.elim (fun h => (Ne.symm hne_v_r) h) (fun h => h.elim (fun h => hne_r_b h) (fun h => (Ne.symm hne_w_r) h)))))
              have hz_84 := hz_25.kept (hk_61 _ hz_25.lt (fun h => h.elim (fun h => hne_vr_a h) (fun h => h.elim (fun h => hne_vr_v h) (fun h => h.elim (fun h => hne_vr_b h) (fun h => hne_vr_w h)))))
              rw [show ((y : Nat) : Int) - (((x / 2 ^ i) : Nat) : Int) = ((y - (x / 2 ^ i) : Nat) : Int) by omega] at hMb hI2
              obtain ⟨M_85o, M_85v, M_85cap, M_85c2, M_85W, M_85X0, M_85X1⟩ := hMa
              obtain ⟨M_86o, M_86v, M_86cap, M_86c2, M_86W, M_86X0, M_86X1⟩ := hMb
              refine V.eq (st' := [vi (-1)]) rfl ?_
              refine v_dup E rfl dJ26_binaryGCD_208 ?_
              refine v_istore E dJ26_binaryGCD_209 (zlt hL rfl) (lv' := [(9, vi (-1)), (2, .ref a), (10, vi (i : Int)), (8, .ref a), (6, vi (k : Int)), (3, .ref r), (1, .ref b)]) rfl ?_
              refine v_if_ne E (tgt := 217) dJ26_binaryGCD_211 (by decide) ⟨by omega, by omega⟩ (fun c_211 => ?_) (fun c_211 => absurd c_211 (by omega))
              refine v_iload E 0 rfl dJ26_binaryGCD_217 ?_
              refine v_if_lt E (tgt := 226) dJ26_binaryGCD_219 (by decide) ⟨by omega, by omega⟩ (fun c_219 => ?_) (fun c_219 => absurd c_219 (by omega))
              refine v_aload_n E 6 rfl dJ26_binaryGCD_226 ?_
              refine v_astore E dJ26_binaryGCD_227 (zlt hL rfl) (lv' := [(8, .ref b), (9, vi (-1)), (2, .ref a), (10, vi (i : Int)), (6, vi (k : Int)), (3, .ref r), (1, .ref b)]) rfl ?_
              refine v_goto E (tgt := 93) dJ26_binaryGCD_229 (by decide) ?_
              refine V.sub [0, 1, 4, 5, 2, 6] (lv' := [(8, .ref b), (9, vi (-1)), (6, vi (k : Int)), (3, .ref r), (2, .ref a), (1, .ref b)]) rfl ?_
              exact ih_93  H_58 _ _ _ _ _ _ _ _ _ _ (by omega) (by omega) (by omega) (hI_21 hn) hI2 M_85cap M_86cap M_85W M_86W (Or.inr ⟨rfl, by decide, by omega⟩) ⟨by decide, by decide⟩ (by rw [Nat.gcd_comm, gcd_sub9 (by omega), Nat.gcd_comm, (go.1)]; exact hG) M_85o M_85v M_86o M_86v hz_83 hz_84
          · have s1 := ints_small (by omega) (hI_21 hn) (by omega)
            have s2 := ints_small (by omega) hm (by omega)
            refine v_aload_n E 0 rfl dJ26_binaryGCD_141 ?_
            refine v_getf E in_J26 M_26o (ci := 9) rfl 0 (by decide) q1172 rfl (v := .ref v) rfl dJ26_binaryGCD_142 ?_
            refine v_aload_n E 0 rfl dJ26_binaryGCD_145 ?_
            refine v_getf E in_J26 M_26o (ci := 9) rfl 2 (by decide) q1174 rfl (v := vi (o : Int)) rfl dJ26_binaryGCD_146 ?_
            refine v_iald E dJ26_binaryGCD_149 M_26v o rfl (by omega) (by omega) ?_
            have hda : f_18 o = (((x / 2 ^ i) : Nat) : Int) := by
              have h9 := M_26W 0 (by omega)
              rw [Nat.add_zero] at h9
              rw [h9, s1.2]
              unfold bM
              rw [dg_0]
              exact Int.emod_eq_of_lt (by omega) (by omega)
            refine V.topi (x' := (((x / 2 ^ i) : Nat) : Int)) (congrArg iZ hda) ?_
            refine v_istore E dJ26_binaryGCD_150 (zlt hL rfl) (lv' := [(11, vi (((x / 2 ^ i) : Nat) : Int)), (2, .ref a), (10, vi (i : Int)), (8, .ref a), (9, vi sg), (6, vi (k : Int)), (3, .ref r), (1, .ref b)]) rfl ?_
            refine v_aload_n E 7 rfl dJ26_binaryGCD_152 ?_
            refine v_getf E in_J26 hz_22 (ci := 9) rfl 0 (by decide) q1172 rfl (v := .ref w) rfl dJ26_binaryGCD_153 ?_
            refine v_aload_n E 7 rfl dJ26_binaryGCD_156 ?_
            refine v_getf E in_J26 hz_22 (ci := 9) rfl 2 (by decide) q1174 rfl (v := vi (p : Int)) rfl dJ26_binaryGCD_157 ?_
            refine v_iald E dJ26_binaryGCD_160 hz_23 p rfl (by omega) (by omega) ?_
            have hdb : g p = ((y : Nat) : Int) := by
              have h9 := hW2 0 (by omega)
              rw [Nat.add_zero] at h9
              rw [h9, s2.2]
              unfold bM
              rw [dg_0]
              exact Int.emod_eq_of_lt (by omega) (by omega)
            refine V.topi (x' := ((y : Nat) : Int)) (congrArg iZ hdb) ?_
            refine v_istore E dJ26_binaryGCD_161 (zlt hL rfl) (lv' := [(12, vi ((y : Nat) : Int)), (11, vi (((x / 2 ^ i) : Nat) : Int)), (2, .ref a), (10, vi (i : Int)), (8, .ref a), (9, vi sg), (6, vi (k : Int)), (3, .ref r), (1, .ref b)]) rfl ?_
            refine v_iload E 1 rfl dJ26_binaryGCD_163 ?_
            refine v_iload E 0 rfl dJ26_binaryGCD_165 ?_
            refine v_callS E (As := [vi (((x / 2 ^ i) : Nat) : Int), vi ((y : Nat) : Int)]) (h_bgI κ H_13 (p := (x / 2 ^ i)) (q := y) ⟨by omega, s1.1⟩ ⟨by omega, s2.1⟩) (lw_S q1220 q1221 q101 q1222) 2 (by decide +kernel) rfl (by decide) (by decide) (cb' := (((1 - 0) - 0) - 0)) (sb' := ((((N + k / 32 + 1) - 0) - 0) - 0)) (by omega) (by omega) rfl (rest := []) (Nat.le_of_ble_eq_true rfl) (fun q h => h.elim) dJ26_binaryGCD_167 (fun v_87 H_88 hpost_89 hz_90 hk_91 => ?_)
            clear hz_90
            obtain rfl := hpost_89
            have hz_92 := hz_22.kept (hk_91 _ hz_22.lt (fun h => h))
            have hz_93 := hz_23.kept (hk_91 _ hz_23.lt (fun h => h))
            have hz_94 := hz_24.kept (hk_91 _ hz_24.lt (fun h => h))
            have hz_95 := hz_25.kept (hk_91 _ hz_25.lt (fun h => h))
            have hz_96 := M_26o.kept (hk_91 _ M_26o.lt (fun h => h))
            have hz_97 := M_26v.kept (hk_91 _ M_26v.lt (fun h => h))
            refine V.eq (st' := [vi ((Nat.gcd (x / 2 ^ i) y : Nat) : Int)]) rfl ?_
            refine v_istore E dJ26_binaryGCD_170 (zlt hL rfl) (lv' := [(11, vi ((Nat.gcd (x / 2 ^ i) y : Nat) : Int)), (12, vi ((y : Nat) : Int)), (2, .ref a), (10, vi (i : Int)), (8, .ref a), (9, vi sg), (6, vi (k : Int)), (3, .ref r), (1, .ref b)]) rfl ?_
            refine v_aload_n E 7 rfl dJ26_binaryGCD_172 ?_
            refine v_getf E in_J26 hz_94 (ci := 9) rfl 0 (by decide) q1172 rfl (v := .ref vr) rfl dJ26_binaryGCD_173 ?_
            refine v_iconst E dJ26_binaryGCD_176 ?_
            refine v_iload E 0 rfl dJ26_binaryGCD_177 ?_
            refine v_iast E dJ26_binaryGCD_179 hz_95 0 rfl (by omega) (by omega) (hAr.2 _ rfl) (fun H_100 hz_98 hs_99 => ?_)
            have hz_101 := hz_92.same hs_99 (Ne.symm hne_vr_b)
            have hz_102 := hz_93.same hs_99 (Ne.symm hne_vr_w)
            have hz_103 := hz_94.same hs_99 (Ne.symm hne_vr_r)
            have hz_104 := hz_96.same hs_99 (Ne.symm hne_vr_a)
            have hz_105 := hz_97.same hs_99 (Ne.symm hne_vr_v)
            refine v_aload_n E 7 rfl dJ26_binaryGCD_180 ?_
            refine v_iconst E dJ26_binaryGCD_181 ?_
            refine v_putf E in_J26 tyJ26 tyJ26_ok nmJ26 hz_103 (ci := 9) rfl 1 (Nat.le_of_ble_eq_true rfl) q1173 rfl rfl rfl rfl (Nat.le_of_ble_eq_true rfl) (hAr.1 _ rfl) dJ26_binaryGCD_182 (fun H_108 hz_106 hs_107 => ?_)
            have hz_109 := hz_101.same hs_107 (Ne.symm hne_r_b)
            have hz_110 := hz_102.same hs_107 hne_w_r
            have hz_111 := hz_98.same hs_107 hne_vr_r
            have hz_112 := hz_104.same hs_107 (Ne.symm hne_r_a)
            have hz_113 := hz_105.same hs_107 hne_v_r
            have hz_106 : hp κ H_108 r (.inr (9, [.ref vr, vi 1, vi 0])) := hz_106
            refine v_aload_n E 7 rfl dJ26_binaryGCD_185 ?_
            refine v_iconst E dJ26_binaryGCD_186 ?_
            refine v_putf E in_J26 tyJ26 tyJ26_ok nmJ26 hz_106 (ci := 9) rfl 2 (Nat.le_of_ble_eq_true rfl) q1174 rfl rfl rfl rfl (Nat.le_of_ble_eq_true rfl) (hAr.1 _ rfl) dJ26_binaryGCD_187 (fun H_116 hz_114 hs_115 => ?_)
            have hz_117 := hz_109.same hs_115 (Ne.symm hne_r_b)
            have hz_118 := hz_110.same hs_115 hne_w_r
            have hz_119 := hz_111.same hs_115 hne_vr_r
            have hz_120 := hz_112.same hs_115 (Ne.symm hne_r_a)
            have hz_121 := hz_113.same hs_115 hne_v_r
            have hz_114 : hp κ H_116 r (.inr (9, [.ref vr, vi 1, vi 0])) := hz_114
            have hgx : (Nat.gcd (x / 2 ^ i) y) = Nat.gcd x y := go.1
            have hg0 : 0 < (Nat.gcd (x / 2 ^ i) y) := Nat.gcd_pos_of_pos_left _ (by omega)
            have hg1 : (Nat.gcd (x / 2 ^ i) y) < 4294967296 := Nat.lt_of_le_of_lt (Nat.gcd_le_left _ (by omega)) s1.1
            have hrI : isInts (((Nat.gcd (x / 2 ^ i) y) : Nat) : Int) 1 := ints_1 (by omega) (by omega)
            have hvrc := hp.lt hz_119
            refine v_iload E 6 rfl dJ26_binaryGCD_190 ?_
            refine v_if_le E (tgt := 201) dJ26_binaryGCD_192 (by decide) ⟨by omega, by omega⟩ (fun c_192 => ?_) (fun c_192 => ?_)
            · refine v_aload_n E 7 rfl dJ26_binaryGCD_201 ?_
              obtain rfl : k = 0 := by omega
              refine v_aret E hE rfl (Or.inl ⟨_, rfl⟩) dJ26_binaryGCD_202 (Or.inr ⟨_, rfl⟩) ?_
              have hgk : (Nat.gcd (x / 2 ^ i) y) = G := by rw [← hG, Nat.pow_zero, Nat.one_mul]; exact hgx
              have hMf : MI κ _ r vr 0 1 1 (va_up (fun _ => 0) 0 ((Nat.gcd (x / 2 ^ i) y : Nat) : Int)) (((Nat.gcd (x / 2 ^ i) y) : Nat) : Int) := ⟨hz_114, hz_119, (by decide), (by decide), (fun k hk => by rw [show k = 0 by omega, Nat.add_zero, va_up_self]; unfold bM; rw [dg_0]; exact (Int.emod_eq_of_lt (by omega) (by omega)).symm), (by omega), hrI.2.1⟩
              have hIf : isInts (((Nat.gcd (x / 2 ^ i) y) : Nat) : Int) 1 := hrI
              rw [hgk] at hMf hIf
              exact ⟨_, _, _, _, _, _, rfl, hMf, hIf, h93.2.2.2.2.1, h93.2.2.2.2.2⟩
            · refine v_aload_n E 7 rfl dJ26_binaryGCD_195 ?_
              refine v_iload E 6 rfl dJ26_binaryGCD_196 ?_
              refine V.frame (fun hfz9 _ => ?_)
              rw [hH0] at hfz9
              have hHs : B ≤ H_116.size := Nat.le_trans h93H hfz9
              have hgk : (((Nat.gcd (x / 2 ^ i) y) : Nat) : Int) * 2 ^ k = (G : Int) := by rw [hgx, ← hG, Int.natCast_mul, Int.natCast_pow, Int.mul_comm]; rfl
              have hsk : sB ((((Nat.gcd (x / 2 ^ i) y) : Nat) : Int) * 2 ^ k) := by rw [hgk]; exact hsG
              have h48k := (hrI).1
              refine V.topi (x' := ((32 * (k / 32) + k % 32 : Nat) : Int)) (congrArg iZ (by omega)) ?_
              refine v_callV E (As := [vi ((32 * (k / 32) + k % 32 : Nat) : Int)]) (b := r) (ci := 9) (C := RJ26) (T := TJ26) (N := 3) hz_114 rfl (h_lsh κ H_116 (u := k / 32) (b := k % 32) hD (by omega) (by omega) (by omega) hrI (ints_pos' (by omega) hrI) (by rw [show 32 * (k / 32) + k % 32 = k by omega]; exact hsk) ⟨hz_114, hz_119, (by decide), (by decide), (fun k hk => by rw [show k = 0 by omega, Nat.add_zero, va_up_self]; unfold bM; rw [dg_0]; exact (Int.emod_eq_of_lt (by omega) (by omega)).symm), (by omega), hrI.2.1⟩) (lw_V q1224 q1225 q1226 q101 q1227) 1 (by decide +kernel) rfl (by decide) (by decide) (cb' := ((((1 - 0) - 0) - 0) - 1)) (sb' := (((((N + k / 32 + 1) - 0) - 0) - 0) - (1 + k / 32 + 1))) (by omega) (by omega) rfl (rest := []) (Nat.le_of_ble_eq_true rfl) (fun q h => h.elim (fun h => hAr.1 q h) (fun h => hAr.2 q h)) dJ26_binaryGCD_198 (fun v_122 H_123 hpost_124 hz_125 hk_126 => ?_)
              clear hz_125
              obtain ⟨rfl, v_127, o_128, n_129, cap_130, f_131, hM_132, hI_133, hv_134⟩ := hpost_124
              rw [show 32 * (k / 32) + k % 32 = k by omega] at hM_132 hI_133
              refine V.eq (st' := []) rfl ?_
              refine v_aload_n E 7 rfl dJ26_binaryGCD_201 ?_
              refine v_aret E hE rfl (Or.inl ⟨_, rfl⟩) dJ26_binaryGCD_202 (Or.inr ⟨_, rfl⟩) ?_
              rw [hgk] at hM_132 hI_133
              exact ⟨_, _, _, _, _, _, rfl, hM_132, hI_133, h93.2.2.2.2.1, hv_134.elim (fun e => e ▸ h93.2.2.2.2.2) (fun e => Nat.le_trans hHs e)⟩
      ·
        obtain rfl : b = t := et.symm
        refine v_aload E 0 rfl dJ26_binaryGCD_93 ?_
        refine v_callV E (As := []) (b := b) (ci := 9) (C := RJ26) (T := TJ26) (N := 3) hob rfl (h_lsb κ H hD hm (ints_pos' hy hm) ⟨hob, hw, hcap2, hc22, hW2, (Int.natCast_nonneg y), hm.2.1⟩) (lw_V q1197 q1199 qs20 q101 q1200) 0 (by decide +kernel) rfl (by decide) (by decide) (cb' := (1 - 0)) (sb' := ((N + k / 32 + 1) - 0)) (by omega) (by omega) rfl (rest := []) (Nat.le_of_ble_eq_true rfl) (fun q h => h.elim) dJ26_binaryGCD_95 (fun v_135 H_136 hpost_137 hz_138 hk_139 => ?_)
        clear hz_138
        obtain ⟨i, rfl, hi, hil⟩ := hpost_137
        have hz_140 := hoa.kept (hk_139 _ hoa.lt (fun h => h))
        have hz_141 := hv.kept (hk_139 _ hv.lt (fun h => h))
        have hz_142 := hob.kept (hk_139 _ hob.lt (fun h => h))
        have hz_143 := hw.kept (hk_139 _ hw.lt (fun h => h))
        have hz_144 := hr.kept (hk_139 _ hr.lt (fun h => h))
        have hz_145 := hvr.kept (hk_139 _ hvr.lt (fun h => h))
        refine V.eq (st' := [vi (i : Int)]) rfl ?_
        refine v_dup E rfl dJ26_binaryGCD_98 ?_
        refine v_istore E dJ26_binaryGCD_99 (zlt hL rfl) (lv' := [(10, vi (i : Int)), (8, .ref b), (9, vi sg), (6, vi (k : Int)), (3, .ref r), (2, .ref a), (1, .ref b)]) rfl ?_
        refine v_if_lt E (tgt := 232) dJ26_binaryGCD_101 (by decide) ⟨by omega, by omega⟩ (fun c_101 => absurd c_101 (by omega)) (fun c_101 => ?_)
        refine v_aload E 1 rfl dJ26_binaryGCD_104 ?_
        refine v_iload E 0 rfl dJ26_binaryGCD_106 ?_
        refine V.topi (x' := ((32 * (i / 32) + i % 32 : Nat) : Int)) (congrArg iZ (by omega)) ?_
        refine v_callV E (As := [vi ((32 * (i / 32) + i % 32 : Nat) : Int)]) (b := b) (ci := 9) (C := RJ26) (T := TJ26) (N := 3) hz_142 rfl (h_rsh κ H_136 (u := i / 32) (b := i % 32) hD (by omega) (by first | exact zeros_lt2 hx hn hi | exact zeros_lt2 hy hm hi) ⟨hz_142, hz_143, hcap2, hc22, hW2, (Int.natCast_nonneg y), hm.2.1⟩) (lw_V q1202 q1203 q1204 q101 q1205) 1 (by decide +kernel) rfl (by decide) (by decide) (cb' := ((1 - 0) - 0)) (sb' := (((N + k / 32 + 1) - 0) - 0)) (by omega) (by omega) rfl (rest := []) (Nat.le_of_ble_eq_true rfl) (fun q h => hAll q (Or.inr (Or.inr h))) dJ26_binaryGCD_108 (fun v_146 H_147 hpost_148 hz_149 hk_150 => ?_)
        clear hz_149
        obtain ⟨rfl, n_151, f_152, hM_153, hle_154, hI_155⟩ := hpost_148
        rw [show 32 * (i / 32) + i % 32 = i by omega, nat_div] at hM_153 hI_155
        have hz_156 := hz_140.kept (hk_150 _ hz_140.lt (fun h => h.elim (fun h => hne_a_b h) (fun h => (Ne.symm hne_w_a) h)))
        have hz_157 := hz_141.kept (hk_150 _ hz_141.lt (fun h => h.elim (fun h => hne_v_b h) (fun h => hne_v_w h)))
        have hz_158 := hz_144.kept (hk_150 _ hz_144.lt (fun h => h.elim (fun h => hne_r_b h) (fun h => (Ne.symm hne_w_r) h)))
        have hz_159 := hz_145.kept (hk_150 _ hz_145.lt (fun h => h.elim (fun h => hne_vr_b h) (fun h => hne_vr_w h)))
        obtain ⟨M_160o, M_160v, M_160cap, M_160c2, M_160W, M_160X0, M_160X1⟩ := hM_153
        have go := gcd_off (x := y) (y := x) hy hod hi
        refine V.eq (st' := []) rfl ?_
        refine v_iload E 2 rfl dJ26_binaryGCD_111 ?_
        refine v_if_le E (tgt := 122) dJ26_binaryGCD_113 (by decide) hrs (fun c_113 => ?_) (fun c_113 => absurd c_113 (by omega))
        refine v_aload E 1 rfl dJ26_binaryGCD_122 ?_
        refine v_astore_n E dJ26_binaryGCD_124 (zlt hL rfl) (lv' := [(1, .ref b), (10, vi (i : Int)), (8, .ref b), (9, vi sg), (6, vi (k : Int)), (3, .ref r), (2, .ref a)]) rfl ?_
        refine v_aload_n E 6 rfl dJ26_binaryGCD_125 ?_
        refine v_getf E in_J26 hz_156 (ci := 9) rfl 1 (by decide) q1173 rfl (v := vi (n : Int)) rfl dJ26_binaryGCD_126 ?_
        refine v_iconst E dJ26_binaryGCD_129 ?_
        refine v_icmp_ge E (tgt := 203) dJ26_binaryGCD_130 (by decide) ⟨by omega, by omega⟩ ⟨by omega, by omega⟩ (fun c_130 => ?_) (fun c_130 => ?_)
        · refine v_aload_n E 6 rfl dJ26_binaryGCD_203 ?_
          refine v_aload_n E 0 rfl dJ26_binaryGCD_204 ?_
          refine v_callV E (As := [.ref b]) (b := a) (ci := 9) (C := RJ26) (T := TJ26) (N := 3) hz_156 rfl (h_diff κ H_147 hD hne_a_b hne_v_w hn (hI_155 hm) ⟨hz_156, hz_157, hcap, hc2, hW, (Int.natCast_nonneg x), hn.2.1⟩ ⟨M_160o, M_160v, M_160cap, M_160c2, M_160W, M_160X0, M_160X1⟩) (lw_V q1232 q1234 qs23 q101 q1235) 1 (by decide +kernel) rfl (by decide) (by decide) (cb' := (((1 - 0) - 0) - 0)) (sb' := ((((N + k / 32 + 1) - 0) - 0) - 0)) (by omega) (by omega) rfl (rest := []) (Nat.le_of_ble_eq_true rfl) hAll dJ26_binaryGCD_205 (fun v_161 H_162 hpost_163 hz_164 hk_165 => ?_)
          clear hz_164
          rcases hpost_163 with ⟨rfl, hxy, hMa, hMb⟩ | ⟨rfl, hxy, o2, n2, f2, hMa, hI2, hMb⟩ | ⟨rfl, hxy, o2, n2, f2, hMb, hI2, hMa⟩
          ·
            have hz_166 := hz_158.kept (hk_165 _ hz_158.lt (fun h => h.elim (fun h => hne_r_a h) (fun h => h.elim (fun h => (Ne.symm hne_v_r) h) (fun h => h.elim (fun h => hne_r_b h) (fun h => (Ne.symm hne_w_r) h)))))
            have hz_167 := hz_159.kept (hk_165 _ hz_159.lt (fun h => h.elim (fun h => hne_vr_a h) (fun h => h.elim (fun h => hne_vr_v h) (fun h => h.elim (fun h => hne_vr_b h) (fun h => hne_vr_w h)))))
            obtain ⟨M_168o, M_168v, M_168cap, M_168c2, M_168W, M_168X0, M_168X1⟩ := hMa
            obtain ⟨M_169o, M_169v, M_169cap, M_169c2, M_169W, M_169X0, M_169X1⟩ := hMb
            have hxe : x = (y / 2 ^ i) := by omega
            have hgx : x = Nat.gcd x y := by rw [← ((Nat.gcd_comm _ _).trans (go.1.trans (Nat.gcd_comm _ _))), hxe, Nat.gcd_self]
            refine V.eq (st' := [vi 0]) rfl ?_
            refine v_dup E rfl dJ26_binaryGCD_208 ?_
            refine v_istore E dJ26_binaryGCD_209 (zlt hL rfl) (lv' := [(9, vi 0), (1, .ref b), (10, vi (i : Int)), (8, .ref b), (6, vi (k : Int)), (3, .ref r), (2, .ref a)]) rfl ?_
            refine v_if_ne E (tgt := 217) dJ26_binaryGCD_211 (by decide) ⟨by omega, by omega⟩ (fun c_211 => absurd c_211 (by omega)) (fun c_211 => ?_)
            refine v_goto E (tgt := 232) dJ26_binaryGCD_214 (by decide) ?_
            refine v_iload E 4 rfl dJ26_binaryGCD_232 ?_
            refine v_if_le E (tgt := 243) dJ26_binaryGCD_234 (by decide) ⟨by omega, by omega⟩ (fun c_234 => ?_) (fun c_234 => ?_)
            · refine v_aload_n E 6 rfl dJ26_binaryGCD_243 ?_
              obtain rfl : k = 0 := by omega
              refine v_aret E hE rfl (Or.inl ⟨_, rfl⟩) dJ26_binaryGCD_244 (Or.inr ⟨_, rfl⟩) ?_
              have hgk : x = G := by rw [← hG, Nat.pow_zero, Nat.one_mul]; exact hgx
              have hMf : MI κ _ a v o n cap f ((x : Nat) : Int) := ⟨M_168o, M_168v, M_168cap, M_168c2, M_168W, M_168X0, M_168X1⟩
              have hIf : isInts ((x : Nat) : Int) n := hn
              rw [hgk] at hMf hIf
              exact ⟨_, _, _, _, _, _, rfl, hMf, hIf, h93.1, h93.2.1⟩
            · refine v_aload_n E 6 rfl dJ26_binaryGCD_237 ?_
              refine v_iload E 4 rfl dJ26_binaryGCD_238 ?_
              refine V.frame (fun hfz9 _ => ?_)
              rw [hH0] at hfz9
              have hHs : B ≤ H_162.size := Nat.le_trans h93H hfz9
              have hgk : ((x : Nat) : Int) * 2 ^ k = (G : Int) := by rw [hgx, ← hG, Int.natCast_mul, Int.natCast_pow, Int.mul_comm]; rfl
              have hsk : sB (((x : Nat) : Int) * 2 ^ k) := by rw [hgk]; exact hsG
              have h48k := (hn).1
              refine V.topi (x' := ((32 * (k / 32) + k % 32 : Nat) : Int)) (congrArg iZ (by omega)) ?_
              refine v_callV E (As := [vi ((32 * (k / 32) + k % 32 : Nat) : Int)]) (b := a) (ci := 9) (C := RJ26) (T := TJ26) (N := 3) M_168o rfl (h_lsh κ H_162 (u := k / 32) (b := k % 32) hD (by omega) (by omega) (by omega) hn (ints_pos' (by omega) hn) (by rw [show 32 * (k / 32) + k % 32 = k by omega]; exact hsk) ⟨M_168o, M_168v, M_168cap, M_168c2, M_168W, M_168X0, M_168X1⟩) (lw_V q1224 q1225 q1226 q101 q1227) 1 (by decide +kernel) rfl (by decide) (by decide) (cb' := ((((1 - 0) - 0) - 0) - 1)) (sb' := (((((N + k / 32 + 1) - 0) - 0) - 0) - (n + k / 32 + 1))) (by omega) (by omega) rfl (rest := []) (Nat.le_of_ble_eq_true rfl) (fun q h => hAll q (h.elim Or.inl (fun h => Or.inr (Or.inl h)))) dJ26_binaryGCD_240 (fun v_170 H_171 hpost_172 hz_173 hk_174 => ?_)
              clear hz_173
              obtain ⟨rfl, v_175, o_176, n_177, cap_178, f_179, hM_180, hI_181, hv_182⟩ := hpost_172
              rw [show 32 * (k / 32) + k % 32 = k by omega] at hM_180 hI_181
              refine V.eq (st' := []) rfl ?_
              refine v_aload_n E 6 rfl dJ26_binaryGCD_243 ?_
              refine v_aret E hE rfl (Or.inl ⟨_, rfl⟩) dJ26_binaryGCD_244 (Or.inr ⟨_, rfl⟩) ?_
              rw [hgk] at hM_180 hI_181
              exact ⟨_, _, _, _, _, _, rfl, hM_180, hI_181, h93.1, hv_182.elim (fun e => e ▸ h93.2.1) (fun e => Nat.le_trans hHs e)⟩
          ·
            have hz_183 := hz_158.kept (hk_165 _ hz_158.lt (fun h => h.elim (fun h => hne_r_a h) (fun h => h.elim (fun h => (Ne.symm hne_v_r) h) (fun h => h.elim (fun h => hne_r_b h) (fun h => (Ne.symm hne_w_r) h)))))
            have hz_184 := hz_159.kept (hk_165 _ hz_159.lt (fun h => h.elim (fun h => hne_vr_a h) (fun h => h.elim (fun h => hne_vr_v h) (fun h => h.elim (fun h => hne_vr_b h) (fun h => hne_vr_w h)))))
            rw [show ((x : Nat) : Int) - (((y / 2 ^ i) : Nat) : Int) = ((x - (y / 2 ^ i) : Nat) : Int) by omega] at hMa hI2
            obtain ⟨M_185o, M_185v, M_185cap, M_185c2, M_185W, M_185X0, M_185X1⟩ := hMa
            obtain ⟨M_186o, M_186v, M_186cap, M_186c2, M_186W, M_186X0, M_186X1⟩ := hMb
            refine V.eq (st' := [vi 1]) rfl ?_
            refine v_dup E rfl dJ26_binaryGCD_208 ?_
            refine v_istore E dJ26_binaryGCD_209 (zlt hL rfl) (lv' := [(9, vi 1), (1, .ref b), (10, vi (i : Int)), (8, .ref b), (6, vi (k : Int)), (3, .ref r), (2, .ref a)]) rfl ?_
            refine v_if_ne E (tgt := 217) dJ26_binaryGCD_211 (by decide) ⟨by omega, by omega⟩ (fun c_211 => ?_) (fun c_211 => absurd c_211 (by omega))
            refine v_iload E 0 rfl dJ26_binaryGCD_217 ?_
            refine v_if_lt E (tgt := 226) dJ26_binaryGCD_219 (by decide) ⟨by omega, by omega⟩ (fun c_219 => absurd c_219 (by omega)) (fun c_219 => ?_)
            refine v_aload_n E 6 rfl dJ26_binaryGCD_222 ?_
            refine v_goto E (tgt := 227) dJ26_binaryGCD_223 (by decide) ?_
            refine v_astore E dJ26_binaryGCD_227 (zlt hL rfl) (lv' := [(8, .ref a), (9, vi 1), (1, .ref b), (10, vi (i : Int)), (6, vi (k : Int)), (3, .ref r), (2, .ref a)]) rfl ?_
            refine v_goto E (tgt := 93) dJ26_binaryGCD_229 (by decide) ?_
            refine V.sub [0, 1, 4, 5, 6, 2] (lv' := [(8, .ref a), (9, vi 1), (6, vi (k : Int)), (3, .ref r), (2, .ref a), (1, .ref b)]) rfl ?_
            exact ih_93  H_162 _ _ _ _ _ _ _ _ _ _ (by omega) (by omega) (by omega) hI2 (hI_155 hm) M_185cap M_186cap M_185W M_186W (Or.inl ⟨rfl, by decide, by omega⟩) ⟨by decide, by decide⟩ (by rw [gcd_sub9 (by omega), ((Nat.gcd_comm _ _).trans (go.1.trans (Nat.gcd_comm _ _)))]; exact hG) M_185o M_185v M_186o M_186v hz_183 hz_184
          ·
            have hz_187 := hz_158.kept (hk_165 _ hz_158.lt (fun h => h.elim (fun h => hne_r_a h) (fun h => h.elim (fun h => (Ne.symm hne_v_r) h) (fun h => h.elim (fun h => hne_r_b h) (fun h => (Ne.symm hne_w_r) h)))))
            have hz_188 := hz_159.kept (hk_165 _ hz_159.lt (fun h => h.elim (fun h => hne_vr_a h) (fun h => h.elim (fun h => hne_vr_v h) (fun h => h.elim (fun h => hne_vr_b h) (fun h => hne_vr_w h)))))
            rw [show (((y / 2 ^ i) : Nat) : Int) - ((x : Nat) : Int) = (((y / 2 ^ i) - x : Nat) : Int) by omega] at hMb hI2
            obtain ⟨M_189o, M_189v, M_189cap, M_189c2, M_189W, M_189X0, M_189X1⟩ := hMa
            obtain ⟨M_190o, M_190v, M_190cap, M_190c2, M_190W, M_190X0, M_190X1⟩ := hMb
            refine V.eq (st' := [vi (-1)]) rfl ?_
            refine v_dup E rfl dJ26_binaryGCD_208 ?_
            refine v_istore E dJ26_binaryGCD_209 (zlt hL rfl) (lv' := [(9, vi (-1)), (1, .ref b), (10, vi (i : Int)), (8, .ref b), (6, vi (k : Int)), (3, .ref r), (2, .ref a)]) rfl ?_
            refine v_if_ne E (tgt := 217) dJ26_binaryGCD_211 (by decide) ⟨by omega, by omega⟩ (fun c_211 => ?_) (fun c_211 => absurd c_211 (by omega))
            refine v_iload E 0 rfl dJ26_binaryGCD_217 ?_
            refine v_if_lt E (tgt := 226) dJ26_binaryGCD_219 (by decide) ⟨by omega, by omega⟩ (fun c_219 => ?_) (fun c_219 => absurd c_219 (by omega))
            refine v_aload_n E 1 rfl dJ26_binaryGCD_226 ?_
            refine v_astore E dJ26_binaryGCD_227 (zlt hL rfl) (lv' := [(8, .ref b), (9, vi (-1)), (1, .ref b), (10, vi (i : Int)), (6, vi (k : Int)), (3, .ref r), (2, .ref a)]) rfl ?_
            refine v_goto E (tgt := 93) dJ26_binaryGCD_229 (by decide) ?_
            refine V.sub [0, 1, 4, 5, 6, 2] (lv' := [(8, .ref b), (9, vi (-1)), (6, vi (k : Int)), (3, .ref r), (2, .ref a), (1, .ref b)]) rfl ?_
            exact ih_93  H_162 _ _ _ _ _ _ _ _ _ _ (by omega) (by omega) (by omega) hn hI2 M_189cap M_190cap M_189W M_190W (Or.inr ⟨rfl, by decide, by omega⟩) ⟨by decide, by decide⟩ (by rw [Nat.gcd_comm, gcd_sub9 (by omega), Nat.gcd_comm, ((Nat.gcd_comm _ _).trans (go.1.trans (Nat.gcd_comm _ _)))]; exact hG) M_189o M_189v M_190o M_190v hz_187 hz_188
        · refine v_aload_n E 0 rfl dJ26_binaryGCD_133 ?_
          refine v_getf E in_J26 M_160o (ci := 9) rfl 1 (by decide) q1173 rfl (v := vi (n_151 : Int)) rfl dJ26_binaryGCD_134 ?_
          refine v_iconst E dJ26_binaryGCD_137 ?_
          refine v_icmp_ge E (tgt := 203) dJ26_binaryGCD_138 (by decide) ⟨by omega, by omega⟩ ⟨by omega, by omega⟩ (fun c_138 => ?_) (fun c_138 => ?_)
          · refine v_aload_n E 6 rfl dJ26_binaryGCD_203 ?_
            refine v_aload_n E 0 rfl dJ26_binaryGCD_204 ?_
            refine v_callV E (As := [.ref b]) (b := a) (ci := 9) (C := RJ26) (T := TJ26) (N := 3) hz_156 rfl (h_diff κ H_147 hD hne_a_b hne_v_w hn (hI_155 hm) ⟨hz_156, hz_157, hcap, hc2, hW, (Int.natCast_nonneg x), hn.2.1⟩ ⟨M_160o, M_160v, M_160cap, M_160c2, M_160W, M_160X0, M_160X1⟩) (lw_V q1232 q1234 qs23 q101 q1235) 1 (by decide +kernel) rfl (by decide) (by decide) (cb' := (((1 - 0) - 0) - 0)) (sb' := ((((N + k / 32 + 1) - 0) - 0) - 0)) (by omega) (by omega) rfl (rest := []) (Nat.le_of_ble_eq_true rfl) hAll dJ26_binaryGCD_205 (fun v_191 H_192 hpost_193 hz_194 hk_195 => ?_)
            clear hz_194
            rcases hpost_193 with ⟨rfl, hxy, hMa, hMb⟩ | ⟨rfl, hxy, o2, n2, f2, hMa, hI2, hMb⟩ | ⟨rfl, hxy, o2, n2, f2, hMb, hI2, hMa⟩
            ·
              have hz_196 := hz_158.kept (hk_195 _ hz_158.lt (fun h => h.elim (fun h => hne_r_a h) (fun h => h.elim (fun h => (Ne.symm hne_v_r) h) (fun h => h.elim (fun h => hne_r_b h) (fun h => (Ne.symm hne_w_r) h)))))
              have hz_197 := hz_159.kept (hk_195 _ hz_159.lt (fun h => h.elim (fun h => hne_vr_a h) (fun h => h.elim (fun h => hne_vr_v h) (fun h => h.elim (fun h => hne_vr_b h) (fun h => hne_vr_w h)))))
              obtain ⟨M_198o, M_198v, M_198cap, M_198c2, M_198W, M_198X0, M_198X1⟩ := hMa
              obtain ⟨M_199o, M_199v, M_199cap, M_199c2, M_199W, M_199X0, M_199X1⟩ := hMb
              have hxe : x = (y / 2 ^ i) := by omega
              have hgx : x = Nat.gcd x y := by rw [← ((Nat.gcd_comm _ _).trans (go.1.trans (Nat.gcd_comm _ _))), hxe, Nat.gcd_self]
              refine V.eq (st' := [vi 0]) rfl ?_
              refine v_dup E rfl dJ26_binaryGCD_208 ?_
              refine v_istore E dJ26_binaryGCD_209 (zlt hL rfl) (lv' := [(9, vi 0), (1, .ref b), (10, vi (i : Int)), (8, .ref b), (6, vi (k : Int)), (3, .ref r), (2, .ref a)]) rfl ?_
              refine v_if_ne E (tgt := 217) dJ26_binaryGCD_211 (by decide) ⟨by omega, by omega⟩ (fun c_211 => absurd c_211 (by omega)) (fun c_211 => ?_)
              refine v_goto E (tgt := 232) dJ26_binaryGCD_214 (by decide) ?_
              refine v_iload E 4 rfl dJ26_binaryGCD_232 ?_
              refine v_if_le E (tgt := 243) dJ26_binaryGCD_234 (by decide) ⟨by omega, by omega⟩ (fun c_234 => ?_) (fun c_234 => ?_)
              · refine v_aload_n E 6 rfl dJ26_binaryGCD_243 ?_
                obtain rfl : k = 0 := by omega
                refine v_aret E hE rfl (Or.inl ⟨_, rfl⟩) dJ26_binaryGCD_244 (Or.inr ⟨_, rfl⟩) ?_
                have hgk : x = G := by rw [← hG, Nat.pow_zero, Nat.one_mul]; exact hgx
                have hMf : MI κ _ a v o n cap f ((x : Nat) : Int) := ⟨M_198o, M_198v, M_198cap, M_198c2, M_198W, M_198X0, M_198X1⟩
                have hIf : isInts ((x : Nat) : Int) n := hn
                rw [hgk] at hMf hIf
                exact ⟨_, _, _, _, _, _, rfl, hMf, hIf, h93.1, h93.2.1⟩
              · refine v_aload_n E 6 rfl dJ26_binaryGCD_237 ?_
                refine v_iload E 4 rfl dJ26_binaryGCD_238 ?_
                refine V.frame (fun hfz9 _ => ?_)
                rw [hH0] at hfz9
                have hHs : B ≤ H_192.size := Nat.le_trans h93H hfz9
                have hgk : ((x : Nat) : Int) * 2 ^ k = (G : Int) := by rw [hgx, ← hG, Int.natCast_mul, Int.natCast_pow, Int.mul_comm]; rfl
                have hsk : sB (((x : Nat) : Int) * 2 ^ k) := by rw [hgk]; exact hsG
                have h48k := (hn).1
                refine V.topi (x' := ((32 * (k / 32) + k % 32 : Nat) : Int)) (congrArg iZ (by omega)) ?_
                refine v_callV E (As := [vi ((32 * (k / 32) + k % 32 : Nat) : Int)]) (b := a) (ci := 9) (C := RJ26) (T := TJ26) (N := 3) M_198o rfl (h_lsh κ H_192 (u := k / 32) (b := k % 32) hD (by omega) (by omega) (by omega) hn (ints_pos' (by omega) hn) (by rw [show 32 * (k / 32) + k % 32 = k by omega]; exact hsk) ⟨M_198o, M_198v, M_198cap, M_198c2, M_198W, M_198X0, M_198X1⟩) (lw_V q1224 q1225 q1226 q101 q1227) 1 (by decide +kernel) rfl (by decide) (by decide) (cb' := ((((1 - 0) - 0) - 0) - 1)) (sb' := (((((N + k / 32 + 1) - 0) - 0) - 0) - (n + k / 32 + 1))) (by omega) (by omega) rfl (rest := []) (Nat.le_of_ble_eq_true rfl) (fun q h => hAll q (h.elim Or.inl (fun h => Or.inr (Or.inl h)))) dJ26_binaryGCD_240 (fun v_200 H_201 hpost_202 hz_203 hk_204 => ?_)
                clear hz_203
                obtain ⟨rfl, v_205, o_206, n_207, cap_208, f_209, hM_210, hI_211, hv_212⟩ := hpost_202
                rw [show 32 * (k / 32) + k % 32 = k by omega] at hM_210 hI_211
                refine V.eq (st' := []) rfl ?_
                refine v_aload_n E 6 rfl dJ26_binaryGCD_243 ?_
                refine v_aret E hE rfl (Or.inl ⟨_, rfl⟩) dJ26_binaryGCD_244 (Or.inr ⟨_, rfl⟩) ?_
                rw [hgk] at hM_210 hI_211
                exact ⟨_, _, _, _, _, _, rfl, hM_210, hI_211, h93.1, hv_212.elim (fun e => e ▸ h93.2.1) (fun e => Nat.le_trans hHs e)⟩
            ·
              have hz_213 := hz_158.kept (hk_195 _ hz_158.lt (fun h => h.elim (fun h => hne_r_a h) (fun h => h.elim (fun h => (Ne.symm hne_v_r) h) (fun h => h.elim (fun h => hne_r_b h) (fun h => (Ne.symm hne_w_r) h)))))
              have hz_214 := hz_159.kept (hk_195 _ hz_159.lt (fun h => h.elim (fun h => hne_vr_a h) (fun h => h.elim (fun h => hne_vr_v h) (fun h => h.elim (fun h => hne_vr_b h) (fun h => hne_vr_w h)))))
              rw [show ((x : Nat) : Int) - (((y / 2 ^ i) : Nat) : Int) = ((x - (y / 2 ^ i) : Nat) : Int) by omega] at hMa hI2
              obtain ⟨M_215o, M_215v, M_215cap, M_215c2, M_215W, M_215X0, M_215X1⟩ := hMa
              obtain ⟨M_216o, M_216v, M_216cap, M_216c2, M_216W, M_216X0, M_216X1⟩ := hMb
              refine V.eq (st' := [vi 1]) rfl ?_
              refine v_dup E rfl dJ26_binaryGCD_208 ?_
              refine v_istore E dJ26_binaryGCD_209 (zlt hL rfl) (lv' := [(9, vi 1), (1, .ref b), (10, vi (i : Int)), (8, .ref b), (6, vi (k : Int)), (3, .ref r), (2, .ref a)]) rfl ?_
              refine v_if_ne E (tgt := 217) dJ26_binaryGCD_211 (by decide) ⟨by omega, by omega⟩ (fun c_211 => ?_) (fun c_211 => absurd c_211 (by omega))
              refine v_iload E 0 rfl dJ26_binaryGCD_217 ?_
              refine v_if_lt E (tgt := 226) dJ26_binaryGCD_219 (by decide) ⟨by omega, by omega⟩ (fun c_219 => absurd c_219 (by omega)) (fun c_219 => ?_)
              refine v_aload_n E 6 rfl dJ26_binaryGCD_222 ?_
              refine v_goto E (tgt := 227) dJ26_binaryGCD_223 (by decide) ?_
              refine v_astore E dJ26_binaryGCD_227 (zlt hL rfl) (lv' := [(8, .ref a), (9, vi 1), (1, .ref b), (10, vi (i : Int)), (6, vi (k : Int)), (3, .ref r), (2, .ref a)]) rfl ?_
              refine v_goto E (tgt := 93) dJ26_binaryGCD_229 (by decide) ?_
              refine V.sub [0, 1, 4, 5, 6, 2] (lv' := [(8, .ref a), (9, vi 1), (6, vi (k : Int)), (3, .ref r), (2, .ref a), (1, .ref b)]) rfl ?_
              exact ih_93  H_192 _ _ _ _ _ _ _ _ _ _ (by omega) (by omega) (by omega) hI2 (hI_155 hm) M_215cap M_216cap M_215W M_216W (Or.inl ⟨rfl, by decide, by omega⟩) ⟨by decide, by decide⟩ (by rw [gcd_sub9 (by omega), ((Nat.gcd_comm _ _).trans (go.1.trans (Nat.gcd_comm _ _)))]; exact hG) M_215o M_215v M_216o M_216v hz_213 hz_214
            ·
              have hz_217 := hz_158.kept (hk_195 _ hz_158.lt (fun h => h.elim (fun h => hne_r_a h) (fun h => h.elim (fun h => (Ne.symm hne_v_r) h) (fun h => h.elim (fun h => hne_r_b h) (fun h => (Ne.symm hne_w_r) h)))))
              have hz_218 := hz_159.kept (hk_195 _ hz_159.lt (fun h => h.elim (fun h => hne_vr_a h) (fun h => h.elim (fun h => hne_vr_v h) (fun h => h.elim (fun h => hne_vr_b h) (fun h => hne_vr_w h)))))
              rw [show (((y / 2 ^ i) : Nat) : Int) - ((x : Nat) : Int) = (((y / 2 ^ i) - x : Nat) : Int) by omega] at hMb hI2
              obtain ⟨M_219o, M_219v, M_219cap, M_219c2, M_219W, M_219X0, M_219X1⟩ := hMa
              obtain ⟨M_220o, M_220v, M_220cap, M_220c2, M_220W, M_220X0, M_220X1⟩ := hMb
              refine V.eq (st' := [vi (-1)]) rfl ?_
              refine v_dup E rfl dJ26_binaryGCD_208 ?_
              refine v_istore E dJ26_binaryGCD_209 (zlt hL rfl) (lv' := [(9, vi (-1)), (1, .ref b), (10, vi (i : Int)), (8, .ref b), (6, vi (k : Int)), (3, .ref r), (2, .ref a)]) rfl ?_
              refine v_if_ne E (tgt := 217) dJ26_binaryGCD_211 (by decide) ⟨by omega, by omega⟩ (fun c_211 => ?_) (fun c_211 => absurd c_211 (by omega))
              refine v_iload E 0 rfl dJ26_binaryGCD_217 ?_
              refine v_if_lt E (tgt := 226) dJ26_binaryGCD_219 (by decide) ⟨by omega, by omega⟩ (fun c_219 => ?_) (fun c_219 => absurd c_219 (by omega))
              refine v_aload_n E 1 rfl dJ26_binaryGCD_226 ?_
              refine v_astore E dJ26_binaryGCD_227 (zlt hL rfl) (lv' := [(8, .ref b), (9, vi (-1)), (1, .ref b), (10, vi (i : Int)), (6, vi (k : Int)), (3, .ref r), (2, .ref a)]) rfl ?_
              refine v_goto E (tgt := 93) dJ26_binaryGCD_229 (by decide) ?_
              refine V.sub [0, 1, 4, 5, 6, 2] (lv' := [(8, .ref b), (9, vi (-1)), (6, vi (k : Int)), (3, .ref r), (2, .ref a), (1, .ref b)]) rfl ?_
              exact ih_93  H_192 _ _ _ _ _ _ _ _ _ _ (by omega) (by omega) (by omega) hn hI2 M_219cap M_220cap M_219W M_220W (Or.inr ⟨rfl, by decide, by omega⟩) ⟨by decide, by decide⟩ (by rw [Nat.gcd_comm, gcd_sub9 (by omega), Nat.gcd_comm, ((Nat.gcd_comm _ _).trans (go.1.trans (Nat.gcd_comm _ _)))]; exact hG) M_219o M_219v M_220o M_220v hz_217 hz_218
          · have s1 := ints_small (by omega) hn (by omega)
            have s2 := ints_small (by omega) (hI_155 hm) (by omega)
            refine v_aload_n E 6 rfl dJ26_binaryGCD_141 ?_
            refine v_getf E in_J26 hz_156 (ci := 9) rfl 0 (by decide) q1172 rfl (v := .ref v) rfl dJ26_binaryGCD_142 ?_
            refine v_aload_n E 6 rfl dJ26_binaryGCD_145 ?_
            refine v_getf E in_J26 hz_156 (ci := 9) rfl 2 (by decide) q1174 rfl (v := vi (o : Int)) rfl dJ26_binaryGCD_146 ?_
            refine v_iald E dJ26_binaryGCD_149 hz_157 o rfl (by omega) (by omega) ?_
            have hda : f o = ((x : Nat) : Int) := by
              have h9 := hW 0 (by omega)
              rw [Nat.add_zero] at h9
              rw [h9, s1.2]
              unfold bM
              rw [dg_0]
              exact Int.emod_eq_of_lt (by omega) (by omega)
            refine V.topi (x' := ((x : Nat) : Int)) (congrArg iZ hda) ?_
            refine v_istore E dJ26_binaryGCD_150 (zlt hL rfl) (lv' := [(11, vi ((x : Nat) : Int)), (1, .ref b), (10, vi (i : Int)), (8, .ref b), (9, vi sg), (6, vi (k : Int)), (3, .ref r), (2, .ref a)]) rfl ?_
            refine v_aload_n E 1 rfl dJ26_binaryGCD_152 ?_
            refine v_getf E in_J26 M_160o (ci := 9) rfl 0 (by decide) q1172 rfl (v := .ref w) rfl dJ26_binaryGCD_153 ?_
            refine v_aload_n E 1 rfl dJ26_binaryGCD_156 ?_
            refine v_getf E in_J26 M_160o (ci := 9) rfl 2 (by decide) q1174 rfl (v := vi (p : Int)) rfl dJ26_binaryGCD_157 ?_
            refine v_iald E dJ26_binaryGCD_160 M_160v p rfl (by omega) (by omega) ?_
            have hdb : f_152 p = (((y / 2 ^ i) : Nat) : Int) := by
              have h9 := M_160W 0 (by omega)
              rw [Nat.add_zero] at h9
              rw [h9, s2.2]
              unfold bM
              rw [dg_0]
              exact Int.emod_eq_of_lt (by omega) (by omega)
            refine V.topi (x' := (((y / 2 ^ i) : Nat) : Int)) (congrArg iZ hdb) ?_
            refine v_istore E dJ26_binaryGCD_161 (zlt hL rfl) (lv' := [(12, vi (((y / 2 ^ i) : Nat) : Int)), (11, vi ((x : Nat) : Int)), (1, .ref b), (10, vi (i : Int)), (8, .ref b), (9, vi sg), (6, vi (k : Int)), (3, .ref r), (2, .ref a)]) rfl ?_
            refine v_iload E 1 rfl dJ26_binaryGCD_163 ?_
            refine v_iload E 0 rfl dJ26_binaryGCD_165 ?_
            refine v_callS E (As := [vi ((x : Nat) : Int), vi (((y / 2 ^ i) : Nat) : Int)]) (h_bgI κ H_147 (p := x) (q := (y / 2 ^ i)) ⟨by omega, s1.1⟩ ⟨by omega, s2.1⟩) (lw_S q1220 q1221 q101 q1222) 2 (by decide +kernel) rfl (by decide) (by decide) (cb' := (((1 - 0) - 0) - 0)) (sb' := ((((N + k / 32 + 1) - 0) - 0) - 0)) (by omega) (by omega) rfl (rest := []) (Nat.le_of_ble_eq_true rfl) (fun q h => h.elim) dJ26_binaryGCD_167 (fun v_221 H_222 hpost_223 hz_224 hk_225 => ?_)
            clear hz_224
            obtain rfl := hpost_223
            have hz_226 := hz_156.kept (hk_225 _ hz_156.lt (fun h => h))
            have hz_227 := hz_157.kept (hk_225 _ hz_157.lt (fun h => h))
            have hz_228 := hz_158.kept (hk_225 _ hz_158.lt (fun h => h))
            have hz_229 := hz_159.kept (hk_225 _ hz_159.lt (fun h => h))
            have hz_230 := M_160o.kept (hk_225 _ M_160o.lt (fun h => h))
            have hz_231 := M_160v.kept (hk_225 _ M_160v.lt (fun h => h))
            refine V.eq (st' := [vi ((Nat.gcd x (y / 2 ^ i) : Nat) : Int)]) rfl ?_
            refine v_istore E dJ26_binaryGCD_170 (zlt hL rfl) (lv' := [(11, vi ((Nat.gcd x (y / 2 ^ i) : Nat) : Int)), (12, vi (((y / 2 ^ i) : Nat) : Int)), (1, .ref b), (10, vi (i : Int)), (8, .ref b), (9, vi sg), (6, vi (k : Int)), (3, .ref r), (2, .ref a)]) rfl ?_
            refine v_aload_n E 7 rfl dJ26_binaryGCD_172 ?_
            refine v_getf E in_J26 hz_228 (ci := 9) rfl 0 (by decide) q1172 rfl (v := .ref vr) rfl dJ26_binaryGCD_173 ?_
            refine v_iconst E dJ26_binaryGCD_176 ?_
            refine v_iload E 0 rfl dJ26_binaryGCD_177 ?_
            refine v_iast E dJ26_binaryGCD_179 hz_229 0 rfl (by omega) (by omega) (hAr.2 _ rfl) (fun H_234 hz_232 hs_233 => ?_)
            have hz_235 := hz_226.same hs_233 (Ne.symm hne_vr_a)
            have hz_236 := hz_227.same hs_233 (Ne.symm hne_vr_v)
            have hz_237 := hz_228.same hs_233 (Ne.symm hne_vr_r)
            have hz_238 := hz_230.same hs_233 (Ne.symm hne_vr_b)
            have hz_239 := hz_231.same hs_233 (Ne.symm hne_vr_w)
            refine v_aload_n E 7 rfl dJ26_binaryGCD_180 ?_
            refine v_iconst E dJ26_binaryGCD_181 ?_
            refine v_putf E in_J26 tyJ26 tyJ26_ok nmJ26 hz_237 (ci := 9) rfl 1 (Nat.le_of_ble_eq_true rfl) q1173 rfl rfl rfl rfl (Nat.le_of_ble_eq_true rfl) (hAr.1 _ rfl) dJ26_binaryGCD_182 (fun H_242 hz_240 hs_241 => ?_)
            have hz_243 := hz_235.same hs_241 (Ne.symm hne_r_a)
            have hz_244 := hz_236.same hs_241 hne_v_r
            have hz_245 := hz_232.same hs_241 hne_vr_r
            have hz_246 := hz_238.same hs_241 (Ne.symm hne_r_b)
            have hz_247 := hz_239.same hs_241 hne_w_r
            have hz_240 : hp κ H_242 r (.inr (9, [.ref vr, vi 1, vi 0])) := hz_240
            refine v_aload_n E 7 rfl dJ26_binaryGCD_185 ?_
            refine v_iconst E dJ26_binaryGCD_186 ?_
            refine v_putf E in_J26 tyJ26 tyJ26_ok nmJ26 hz_240 (ci := 9) rfl 2 (Nat.le_of_ble_eq_true rfl) q1174 rfl rfl rfl rfl (Nat.le_of_ble_eq_true rfl) (hAr.1 _ rfl) dJ26_binaryGCD_187 (fun H_250 hz_248 hs_249 => ?_)
            have hz_251 := hz_243.same hs_249 (Ne.symm hne_r_a)
            have hz_252 := hz_244.same hs_249 hne_v_r
            have hz_253 := hz_245.same hs_249 hne_vr_r
            have hz_254 := hz_246.same hs_249 (Ne.symm hne_r_b)
            have hz_255 := hz_247.same hs_249 hne_w_r
            have hz_248 : hp κ H_250 r (.inr (9, [.ref vr, vi 1, vi 0])) := hz_248
            have hgx : (Nat.gcd x (y / 2 ^ i)) = Nat.gcd x y := (by rw [Nat.gcd_comm, go.1, Nat.gcd_comm])
            have hg0 : 0 < (Nat.gcd x (y / 2 ^ i)) := Nat.gcd_pos_of_pos_left _ (by omega)
            have hg1 : (Nat.gcd x (y / 2 ^ i)) < 4294967296 := Nat.lt_of_le_of_lt (Nat.gcd_le_left _ (by omega)) s1.1
            have hrI : isInts (((Nat.gcd x (y / 2 ^ i)) : Nat) : Int) 1 := ints_1 (by omega) (by omega)
            have hvrc := hp.lt hz_253
            refine v_iload E 6 rfl dJ26_binaryGCD_190 ?_
            refine v_if_le E (tgt := 201) dJ26_binaryGCD_192 (by decide) ⟨by omega, by omega⟩ (fun c_192 => ?_) (fun c_192 => ?_)
            · refine v_aload_n E 7 rfl dJ26_binaryGCD_201 ?_
              obtain rfl : k = 0 := by omega
              refine v_aret E hE rfl (Or.inl ⟨_, rfl⟩) dJ26_binaryGCD_202 (Or.inr ⟨_, rfl⟩) ?_
              have hgk : (Nat.gcd x (y / 2 ^ i)) = G := by rw [← hG, Nat.pow_zero, Nat.one_mul]; exact hgx
              have hMf : MI κ _ r vr 0 1 1 (va_up (fun _ => 0) 0 ((Nat.gcd x (y / 2 ^ i) : Nat) : Int)) (((Nat.gcd x (y / 2 ^ i)) : Nat) : Int) := ⟨hz_248, hz_253, (by decide), (by decide), (fun k hk => by rw [show k = 0 by omega, Nat.add_zero, va_up_self]; unfold bM; rw [dg_0]; exact (Int.emod_eq_of_lt (by omega) (by omega)).symm), (by omega), hrI.2.1⟩
              have hIf : isInts (((Nat.gcd x (y / 2 ^ i)) : Nat) : Int) 1 := hrI
              rw [hgk] at hMf hIf
              exact ⟨_, _, _, _, _, _, rfl, hMf, hIf, h93.2.2.2.2.1, h93.2.2.2.2.2⟩
            · refine v_aload_n E 7 rfl dJ26_binaryGCD_195 ?_
              refine v_iload E 6 rfl dJ26_binaryGCD_196 ?_
              refine V.frame (fun hfz9 _ => ?_)
              rw [hH0] at hfz9
              have hHs : B ≤ H_250.size := Nat.le_trans h93H hfz9
              have hgk : (((Nat.gcd x (y / 2 ^ i)) : Nat) : Int) * 2 ^ k = (G : Int) := by rw [hgx, ← hG, Int.natCast_mul, Int.natCast_pow, Int.mul_comm]; rfl
              have hsk : sB ((((Nat.gcd x (y / 2 ^ i)) : Nat) : Int) * 2 ^ k) := by rw [hgk]; exact hsG
              have h48k := (hrI).1
              refine V.topi (x' := ((32 * (k / 32) + k % 32 : Nat) : Int)) (congrArg iZ (by omega)) ?_
              refine v_callV E (As := [vi ((32 * (k / 32) + k % 32 : Nat) : Int)]) (b := r) (ci := 9) (C := RJ26) (T := TJ26) (N := 3) hz_248 rfl (h_lsh κ H_250 (u := k / 32) (b := k % 32) hD (by omega) (by omega) (by omega) hrI (ints_pos' (by omega) hrI) (by rw [show 32 * (k / 32) + k % 32 = k by omega]; exact hsk) ⟨hz_248, hz_253, (by decide), (by decide), (fun k hk => by rw [show k = 0 by omega, Nat.add_zero, va_up_self]; unfold bM; rw [dg_0]; exact (Int.emod_eq_of_lt (by omega) (by omega)).symm), (by omega), hrI.2.1⟩) (lw_V q1224 q1225 q1226 q101 q1227) 1 (by decide +kernel) rfl (by decide) (by decide) (cb' := ((((1 - 0) - 0) - 0) - 1)) (sb' := (((((N + k / 32 + 1) - 0) - 0) - 0) - (1 + k / 32 + 1))) (by omega) (by omega) rfl (rest := []) (Nat.le_of_ble_eq_true rfl) (fun q h => h.elim (fun h => hAr.1 q h) (fun h => hAr.2 q h)) dJ26_binaryGCD_198 (fun v_256 H_257 hpost_258 hz_259 hk_260 => ?_)
              clear hz_259
              obtain ⟨rfl, v_261, o_262, n_263, cap_264, f_265, hM_266, hI_267, hv_268⟩ := hpost_258
              rw [show 32 * (k / 32) + k % 32 = k by omega] at hM_266 hI_267
              refine V.eq (st' := []) rfl ?_
              refine v_aload_n E 7 rfl dJ26_binaryGCD_201 ?_
              refine v_aret E hE rfl (Or.inl ⟨_, rfl⟩) dJ26_binaryGCD_202 (Or.inr ⟨_, rfl⟩) ?_
              rw [hgk] at hM_266 hI_267
              exact ⟨_, _, _, _, _, _, rfl, hM_266, hI_267, h93.2.2.2.2.1, hv_268.elim (fun e => e ▸ h93.2.2.2.2.2) (fun e => Nat.le_trans hHs e)⟩
  exact loop_93 ((x + y) + 1) H x y o n p m f g _ _ (by omega) hx hy hn hm hcap hcap2 hW hW2 hT hrs hG hoa hv hob hw hr hvr
