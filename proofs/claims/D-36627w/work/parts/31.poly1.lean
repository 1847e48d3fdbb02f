set_option maxHeartbeats 1000000 in
set_option maxRecDepth 100000 in
/-- degree -/
theorem m_pdeg (κ : zK) (H0 : Heap) {ad : Nat → Nat} {σ : Nat → Int} {j : Nat} (hj : j < 176) (hI : Inj ad) (hM : MS κ ad H0) (hN : NS κ ad σ H0) (hR : pN (pget σ j)) : Mt κ yX4_degree_3 cX4_degree_3 2 (some .int) 1 21 0 0 H0 [.ref (ad (2000 + j))] (fun _ => False) (fun v H1 => v = some (vi (pdeg (pget σ j)))) := by
  refine Mt.of (by decide) (Nat.le_of_ble_eq_true rfl) ?_
  intro z E hE hH0 hA0 hL hini
  have hAll : ∀ q, (fun _ => False) q → zA z.A z.H0 q := fun q h => Or.inl (by rw [hA0]; exact h)
  have hNew : ∀ q, H0.size ≤ q → zA z.A z.H0 q := fun q h => Or.inr (by rw [hH0]; exact h)
  have E : zOK z cX4_degree_3 RX4 κ 1 21 (some .int) := E
  refine V.eqL (lv' := [(0, .ref (ad (2000 + j)))]) rfl ?_
  refine v_bipush E ⟨by decide, by decide⟩ dX4_degree_3_0 ?_
  refine v_istore_n E dX4_degree_3_2 (zlt hL rfl) (lv' := [(1, vi 6), (0, .ref (ad (2000 + j)))]) rfl ?_
  have loop_3 : ∀ (m_3 : Nat) (H : Heap) (k : Nat), k < m_3 → (k ≤ 7) → (degU (pget σ j) 7 = degU (pget σ j) k) → MS κ ad H → NS κ ad σ H → V z H 0 0 3 [(1, vi ((k : Int) - 1)), (0, .ref (ad (2000 + j)))] [] := by
    intro m_3
    induction m_3 with
    | zero => intro H k hm; exact absurd hm (by omega)
    | succ m_3 ih_3 =>
      intro H k hm_3 hk hd hM hN
      refine v_iload_n E 0 rfl dX4_degree_3_3 ?_
      refine v_if_lt E (tgt := 22) dX4_degree_3_4 (by decide) ⟨by omega, by omega⟩ (fun c_4 => ?_) (fun c_4 => ?_)
      · refine v_iload_n E 0 rfl dX4_degree_3_22 ?_
        refine v_iret E hE dX4_degree_3_23 ?_
        refine congrArg (fun t => some (vi t)) ?_
        first
          | (have hk0 : k = 0 := by omega
             subst hk0
             exact hd.symm)
          | (have hz1 : pget σ j (k - 1) ≠ 0 := fun h => by rw [show σ (6 + 7 * j + (k - 1)) = 0 from h] at c_13; exact c_13 rfl
             obtain ⟨m, rfl⟩ : ∃ m, k = m + 1 := ⟨k - 1, by omega⟩
             rw [Nat.add_sub_cancel] at hz1
             rw [degU_t hz1] at hd
             show _ = degU (pget σ j) 7
             omega)
      · refine v_aload_n E 1 rfl dX4_degree_3_7 ?_
        refine v_iload_n E 0 rfl dX4_degree_3_8 ?_
        refine v_aaldS E dX4_degree_3_9 (hM.1 j (by omega)) (t := 3) (ty := (.array .int)) rfl rfl (k - 1) (by omega) (by omega) (by omega) (b := (ad (6 + 7 * j + (k - 1)))) rfl ?_
        refine v_callS E (As := [.ref (ad (6 + 7 * j + (k - 1)))]) (m_sign κ H (hR (k - 1) (by omega)) (hN (6 + 7 * j + (k - 1)) (by omega))) (lw_S q1931 q1932 q82 q1933) 1 (by decide +kernel) rfl (by decide) (by decide) (cb' := 0) (sb' := 0) (by decide) (by decide) rfl (rest := []) (Nat.le_of_ble_eq_true rfl) (fun q h => h.elim) dX4_degree_3_10 (fun v_1 H_2 hpost_3 hz_4 hk_5 => ?_)
        clear hz_4
        obtain rfl := hpost_3
        have hM_6 := hM.kept hI (A := fun _ => False) (fun q h => h.elim) hk_5
        have hN_7 := hN.kept0 hk_5
        have hsr := rsign (σ (6 + 7 * j + (k - 1)))
        refine V.eq (st' := [vi ((σ (6 + 7 * j + (k - 1))).sign)]) rfl ?_
        refine v_if_ne E (tgt := 22) dX4_degree_3_13 (by decide) ⟨by omega, by omega⟩ (fun c_13 => ?_) (fun c_13 => ?_)
        · refine v_iload_n E 0 rfl dX4_degree_3_22 ?_
          refine v_iret E hE dX4_degree_3_23 ?_
          refine congrArg (fun t => some (vi t)) ?_
          first
            | (have hk0 : k = 0 := by omega
               subst hk0
               exact hd.symm)
            | (have hz1 : pget σ j (k - 1) ≠ 0 := fun h => by rw [show σ (6 + 7 * j + (k - 1)) = 0 from h] at c_13; exact c_13 rfl
               obtain ⟨m, rfl⟩ : ∃ m, k = m + 1 := ⟨k - 1, by omega⟩
               rw [Nat.add_sub_cancel] at hz1
               rw [degU_t hz1] at hd
               show _ = degU (pget σ j) 7
               omega)
        · have hz0 : pget σ j (k - 1) = 0 := sign_ne0.mp c_13
          refine v_iinc E 0 rfl dX4_degree_3_16 (zlt hL rfl) (lv' := [(1, vi (((k : Int) - 1) + (-1))), (0, .ref (ad (2000 + j)))]) rfl ?_
          refine v_goto E (tgt := 3) dX4_degree_3_19 (by decide) ?_
          exact V.eqL (by rw [show (k : Int) - 1 + -1 = ((k - 1 : Nat) : Int) - 1 by omega]) (ih_3  H_2 (k - 1) (by omega) (by omega) (hd.trans (by rw [show k = k - 1 + 1 by omega, degU_s (by exact hz0)]; rfl)) hM_6 hN_7)
  exact loop_3 (7 + 1) H0 7 (by omega) (by omega) rfl hM hN

set_option maxHeartbeats 1000000 in
set_option maxRecDepth 100000 in
/-- polynomial i = polynomial j -/
theorem m_pcopy (κ : zK) (H0 : Heap) {ad : Nat → Nat} {σ : Nat → Int} {i j : Nat} (hij : i ≠ j) (hi : i < 176) (hj : j < 176) (hI : Inj ad) (hM : MS κ ad H0) (hN : NS κ ad σ H0) : Mt κ yX4_copy_3 cX4_copy_3 3 (none) 1 22 0 0 H0 [.ref (ad (2000 + j)), .ref (ad (2000 + i))] (AN ad) (fun v H1 => v = none ∧ NS κ ad (pset σ i (pget σ j)) H1) := by
  refine Mt.of (by decide) (Nat.le_of_ble_eq_true rfl) ?_
  intro z E hE hH0 hA0 hL hini
  have hAll : ∀ q, (AN ad) q → zA z.A z.H0 q := fun q h => Or.inl (by rw [hA0]; exact h)
  have hNew : ∀ q, H0.size ≤ q → zA z.A z.H0 q := fun q h => Or.inr (by rw [hH0]; exact h)
  have E : zOK z cX4_copy_3 RX4 κ 1 22 (none) := E
  refine V.eqL (lv' := [(0, .ref (ad (2000 + j))), (1, .ref (ad (2000 + i)))]) rfl ?_
  refine v_iconst E dX4_copy_3_0 ?_
  refine v_istore_n E dX4_copy_3_1 (zlt hL rfl) (lv' := [(2, vi 0), (0, .ref (ad (2000 + j))), (1, .ref (ad (2000 + i)))]) rfl ?_
  have loop_2 : ∀ (m_2 : Nat) (H : Heap) (k : Nat), 7 - k < m_2 → (k ≤ 7) → MS κ ad H → NS κ ad (psk σ i (pget σ j) k) H → V z H 0 0 2 [(2, vi (k : Int)), (1, .ref (ad (2000 + i))), (0, .ref (ad (2000 + j)))] [] := by
    intro m_2
    induction m_2 with
    | zero => intro H k hm; exact absurd hm (by omega)
    | succ m_2 ih_2 =>
      intro H k hm_2 hk hM hN
      refine v_iload_n E 0 rfl dX4_copy_3_2 ?_
      refine v_bipush E ⟨by decide, by decide⟩ dX4_copy_3_3 ?_
      refine v_icmp_ge E (tgt := 23) dX4_copy_3_5 (by decide) ⟨by omega, by omega⟩ ⟨by omega, by omega⟩ (fun c_5 => ?_) (fun c_5 => ?_)
      · refine v_vret E hE dX4_copy_3_23 ?_
        have hk7 : k = 7 := by omega
        subst hk7
        exact ⟨rfl, hN⟩
      · refine v_aload_n E 2 rfl dX4_copy_3_8 ?_
        refine v_iload_n E 0 rfl dX4_copy_3_9 ?_
        refine v_aaldS E dX4_copy_3_10 (hM.1 j (by omega)) (t := 3) (ty := (.array .int)) rfl rfl k rfl (by omega) (by omega) (b := (ad (6 + 7 * j + k))) rfl ?_
        refine v_aload_n E 1 rfl dX4_copy_3_11 ?_
        refine v_iload_n E 0 rfl dX4_copy_3_12 ?_
        refine v_aaldS E dX4_copy_3_13 (hM.1 i (by omega)) (t := 3) (ty := (.array .int)) rfl rfl k rfl (by omega) (by omega) (b := (ad (6 + 7 * i + k))) rfl ?_
        refine v_callS E (As := [.ref (ad (6 + 7 * j + k)), .ref (ad (6 + 7 * i + k))]) (m_copy κ H (hI.ne (by omega)) (hN (6 + 7 * j + k) (by omega)) (hN (6 + 7 * i + k) (by omega))) (lw_S q1938 q1939 q82 q1940) 2 (by decide +kernel) rfl (by decide) (by decide) (cb' := 0) (sb' := 0) (by decide) (by decide) rfl (rest := []) (Nat.le_of_ble_eq_true rfl) (fun q h => hAll q ⟨6 + 7 * i + k, by omega, h⟩) dX4_copy_3_14 (fun v_1 H_2 hpost_3 hz_4 hk_5 => ?_)
        clear hz_4
        obtain ⟨rfl, hx_6⟩ := hpost_3
        have hN_7 := hN.set hI (i := (6 + 7 * i + k)) hx_6 hk_5
        have hM_8 := hM.kept hI (A := fun q => q = ad (6 + 7 * i + k)) (fun q h => ⟨6 + 7 * i + k, by omega, h⟩) hk_5
        have hN_9 : NS κ ad (psk σ i (pget σ j) (k + 1)) H_2 := by rw [← psk_s]; exact (hN_7).congr (fun m _ => by unfold va_up; split; exact psk_ne _ _ _ _ (by omega); rfl)
        refine V.eq (st' := []) rfl ?_
        refine v_iinc E 0 rfl dX4_copy_3_17 (zlt hL rfl) (lv' := [(2, vi ((k : Int) + 1)), (1, .ref (ad (2000 + i))), (0, .ref (ad (2000 + j)))]) rfl ?_
        refine v_goto E (tgt := 2) dX4_copy_3_20 (by decide) ?_
        exact ih_2  H_2 (k + 1) (by omega) (by omega) hM_8 hN_9
  refine V.sub [0, 2, 1] (lv' := [(2, vi 0), (1, .ref (ad (2000 + i))), (0, .ref (ad (2000 + j)))]) rfl ?_
  exact loop_2 (7 + 1) H0 0 (by omega) (by omega) hM (by rw [psk_0]; exact hN)

set_option maxHeartbeats 1000000 in
set_option maxRecDepth 100000 in
/-- polynomial j = its opposite -/
theorem m_pneg (κ : zK) (H0 : Heap) {ad : Nat → Nat} {σ : Nat → Int} {j : Nat} (hj : j < 176) (hI : Inj ad) (hM : MS κ ad H0) (hN : NS κ ad σ H0) : Mt κ yX4_negate_2 cX4_negate_2 2 (none) 1 23 0 0 H0 [.ref (ad (2000 + j))] (AN ad) (fun v H1 => v = none ∧ NS κ ad (pset σ j (fun k => -pget σ j k)) H1) := by
  refine Mt.of (by decide) (Nat.le_of_ble_eq_true rfl) ?_
  intro z E hE hH0 hA0 hL hini
  have hAll : ∀ q, (AN ad) q → zA z.A z.H0 q := fun q h => Or.inl (by rw [hA0]; exact h)
  have hNew : ∀ q, H0.size ≤ q → zA z.A z.H0 q := fun q h => Or.inr (by rw [hH0]; exact h)
  have E : zOK z cX4_negate_2 RX4 κ 1 23 (none) := E
  refine V.eqL (lv' := [(0, .ref (ad (2000 + j)))]) rfl ?_
  refine v_iconst E dX4_negate_2_0 ?_
  refine v_istore_n E dX4_negate_2_1 (zlt hL rfl) (lv' := [(1, vi 0), (0, .ref (ad (2000 + j)))]) rfl ?_
  have loop_2 : ∀ (m_2 : Nat) (H : Heap) (k : Nat), 7 - k < m_2 → (k ≤ 7) → MS κ ad H → NS κ ad (psk σ j (fun k => -pget σ j k) k) H → V z H 0 0 2 [(1, vi (k : Int)), (0, .ref (ad (2000 + j)))] [] := by
    intro m_2
    induction m_2 with
    | zero => intro H k hm; exact absurd hm (by omega)
    | succ m_2 ih_2 =>
      intro H k hm_2 hk hM hN
      refine v_iload_n E 0 rfl dX4_negate_2_2 ?_
      refine v_bipush E ⟨by decide, by decide⟩ dX4_negate_2_3 ?_
      refine v_icmp_ge E (tgt := 20) dX4_negate_2_5 (by decide) ⟨by omega, by omega⟩ ⟨by omega, by omega⟩ (fun c_5 => ?_) (fun c_5 => ?_)
      · refine v_vret E hE dX4_negate_2_20 ?_
        have hk7 : k = 7 := by omega
        subst hk7
        exact ⟨rfl, hN⟩
      · refine v_aload_n E 1 rfl dX4_negate_2_8 ?_
        refine v_iload_n E 0 rfl dX4_negate_2_9 ?_
        refine v_aaldS E dX4_negate_2_10 (hM.1 j (by omega)) (t := 3) (ty := (.array .int)) rfl rfl k rfl (by omega) (by omega) (b := (ad (6 + 7 * j + k))) rfl ?_
        refine v_callS E (As := [.ref (ad (6 + 7 * j + k))]) (m_negate κ H (hN (6 + 7 * j + k) (by omega))) (lw_S q1944 q1945 q82 q1946) 1 (by decide +kernel) rfl (by decide) (by decide) (cb' := 0) (sb' := 0) (by decide) (by decide) rfl (rest := []) (Nat.le_of_ble_eq_true rfl) (fun q h => hAll q ⟨6 + 7 * j + k, by omega, h⟩) dX4_negate_2_11 (fun v_1 H_2 hpost_3 hz_4 hk_5 => ?_)
        clear hz_4
        obtain ⟨rfl, hx_6⟩ := hpost_3
        have hN_7 := hN.set hI (i := (6 + 7 * j + k)) hx_6 hk_5
        have hM_8 := hM.kept hI (A := fun q => q = ad (6 + 7 * j + k)) (fun q h => ⟨6 + 7 * j + k, by omega, h⟩) hk_5
        have hN_9 : NS κ ad (psk σ j (fun k => -pget σ j k) (k + 1)) H_2 := by rw [← psk_s]; exact (hN_7).congr (fun m _ => by unfold va_up; split; exact congrArg Int.neg (psk_ne _ _ _ _ (by omega)); rfl)
        refine V.eq (st' := []) rfl ?_
        refine v_iinc E 0 rfl dX4_negate_2_14 (zlt hL rfl) (lv' := [(1, vi ((k : Int) + 1)), (0, .ref (ad (2000 + j)))]) rfl ?_
        refine v_goto E (tgt := 2) dX4_negate_2_17 (by decide) ?_
        exact ih_2  H_2 (k + 1) (by omega) (by omega) hM_8 hN_9
  exact loop_2 (7 + 1) H0 0 (by omega) (by omega) hM (by rw [psk_0]; exact hN)

set_option maxHeartbeats 1000000 in
set_option maxRecDepth 100000 in
/-- polynomial j = the slot -/
theorem m_load (κ : zK) (H0 : Heap) {ad : Nat → Nat} {σ : Nat → Int} {c j : Nat} {f : Nat → Int} (hf : ∀ k, k < 7 → rI (f k)) (hcn : ∀ i, i < 1238 → c ≠ ad i) (hc : hp κ H0 c (eI κ 7 f)) (hj : j < 176) (hI : Inj ad) (hM : MS κ ad H0) (hN : NS κ ad σ H0) : Mt κ yX4_load cX4_load 3 (none) 1 23 0 0 H0 [.ref c, .ref (ad (2000 + j))] (AN ad) (fun v H1 => v = none ∧ NS κ ad (pset σ j f) H1) := by
  refine Mt.of (by decide) (Nat.le_of_ble_eq_true rfl) ?_
  intro z E hE hH0 hA0 hL hini
  have hAll : ∀ q, (AN ad) q → zA z.A z.H0 q := fun q h => Or.inl (by rw [hA0]; exact h)
  have hNew : ∀ q, H0.size ≤ q → zA z.A z.H0 q := fun q h => Or.inr (by rw [hH0]; exact h)
  have E : zOK z cX4_load RX4 κ 1 23 (none) := E
  refine V.eqL (lv' := [(0, .ref c), (1, .ref (ad (2000 + j)))]) rfl ?_
  refine v_iconst E dX4_load_0 ?_
  refine v_istore_n E dX4_load_1 (zlt hL rfl) (lv' := [(2, vi 0), (0, .ref c), (1, .ref (ad (2000 + j)))]) rfl ?_
  have loop_2 : ∀ (m_2 : Nat) (H : Heap) (k : Nat), 7 - k < m_2 → (k ≤ 7) → hp κ H c (eI κ 7 f) → MS κ ad H → NS κ ad (psk σ j f k) H → V z H 0 0 2 [(2, vi (k : Int)), (1, .ref (ad (2000 + j))), (0, .ref c)] [] := by
    intro m_2
    induction m_2 with
    | zero => intro H k hm; exact absurd hm (by omega)
    | succ m_2 ih_2 =>
      intro H k hm_2 hk hc hM hN
      refine v_iload_n E 0 rfl dX4_load_2 ?_
      refine v_bipush E ⟨by decide, by decide⟩ dX4_load_3 ?_
      refine v_icmp_ge E (tgt := 24) dX4_load_5 (by decide) ⟨by omega, by omega⟩ ⟨by omega, by omega⟩ (fun c_5 => ?_) (fun c_5 => ?_)
      · refine v_vret E hE dX4_load_24 ?_
        have hk7 : k = 7 := by omega
        subst hk7
        exact ⟨rfl, hN⟩
      · refine v_aload_n E 1 rfl dX4_load_8 ?_
        refine v_iload_n E 0 rfl dX4_load_9 ?_
        refine v_aaldS E dX4_load_10 (hM.1 j (by omega)) (t := 3) (ty := (.array .int)) rfl rfl k rfl (by omega) (by omega) (b := (ad (6 + 7 * j + k))) rfl ?_
        refine v_aload_n E 2 rfl dX4_load_11 ?_
        refine v_iload_n E 0 rfl dX4_load_12 ?_
        refine v_iald E dX4_load_13 hc k rfl (by omega) (by omega) ?_
        refine v_i2l E (hf k (by omega)) dX4_load_14 ?_
        refine v_callS E (As := [.ref (ad (6 + 7 * j + k)), vj (f k)]) (m_set κ H (rJ_I (hf k (by omega))) (hN (6 + 7 * j + k) (by omega))) (lw_S q1921 q1922 q82 q1923) 2 (by decide +kernel) rfl (by decide) (by decide) (cb' := 0) (sb' := 0) (by decide) (by decide) rfl (rest := []) (Nat.le_of_ble_eq_true rfl) (fun q h => hAll q ⟨6 + 7 * j + k, by omega, h⟩) dX4_load_15 (fun v_1 H_2 hpost_3 hz_4 hk_5 => ?_)
        clear hz_4
        obtain ⟨rfl, hx_6⟩ := hpost_3
        have hN_7 := hN.set hI (i := (6 + 7 * j + k)) hx_6 hk_5
        have hM_8 := hM.kept hI (A := fun q => q = ad (6 + 7 * j + k)) (fun q h => ⟨6 + 7 * j + k, by omega, h⟩) hk_5
        have hc_9 := hc.kept (hk_5 _ hc.lt (hcn _ (by omega)))
        have hN_10 : NS κ ad (psk σ j f (k + 1)) H_2 := by rw [← psk_s]; exact hN_7
        refine V.eq (st' := []) rfl ?_
        refine v_iinc E 0 rfl dX4_load_18 (zlt hL rfl) (lv' := [(2, vi ((k : Int) + 1)), (1, .ref (ad (2000 + j))), (0, .ref c)]) rfl ?_
        refine v_goto E (tgt := 2) dX4_load_21 (by decide) ?_
        exact ih_2  H_2 (k + 1) (by omega) (by omega) hc_9 hM_8 hN_10
  refine V.sub [0, 2, 1] (lv' := [(2, vi 0), (1, .ref (ad (2000 + j))), (0, .ref c)]) rfl ?_
  exact loop_2 (7 + 1) H0 0 (by omega) (by omega) hc hM (by rw [psk_0]; exact hN)

set_option maxHeartbeats 1000000 in
set_option maxRecDepth 100000 in
/-- polynomial i = the derivative of polynomial j -/
theorem m_derive (κ : zK) (H0 : Heap) {ad : Nat → Nat} {σ : Nat → Int} {i j : Nat} (hij : i ≠ j) (hi : i < 176) (hj : j < 176) (hI : Inj ad) (hM : MS κ ad H0) (hN : NS κ ad σ H0) : Mt κ yX4_derive cX4_derive 3 (none) 2 50 0 0 H0 [.ref (ad (2000 + j)), .ref (ad (2000 + i))] (AN ad) (fun v H1 => v = none ∧ NS κ ad (pset σ i (drv (pget σ j))) H1) := by
  refine Mt.of (by decide) (Nat.le_of_ble_eq_true rfl) ?_
  intro z E hE hH0 hA0 hL hini
  have hAll : ∀ q, (AN ad) q → zA z.A z.H0 q := fun q h => Or.inl (by rw [hA0]; exact h)
  have hNew : ∀ q, H0.size ≤ q → zA z.A z.H0 q := fun q h => Or.inr (by rw [hH0]; exact h)
  have E : zOK z cX4_derive RX4 κ 2 50 (none) := E
  refine V.eqL (lv' := [(0, .ref (ad (2000 + j))), (1, .ref (ad (2000 + i)))]) rfl ?_
  refine v_iconst E dX4_derive_0 ?_
  refine v_istore_n E dX4_derive_1 (zlt hL rfl) (lv' := [(2, vi 0), (0, .ref (ad (2000 + j))), (1, .ref (ad (2000 + i)))]) rfl ?_
  have loop_2 : ∀ (m_2 : Nat) (H : Heap) (k : Nat), 7 - k < m_2 → (k ≤ 7) → MS κ ad H → NS κ ad (psk σ i (drv (pget σ j)) k) H → V z H 0 0 2 [(2, vi (k : Int)), (1, .ref (ad (2000 + i))), (0, .ref (ad (2000 + j)))] [] := by
    intro m_2
    induction m_2 with
    | zero => intro H k hm; exact absurd hm (by omega)
    | succ m_2 ih_2 =>
      intro H k hm_2 hk hM hN
      refine v_iload_n E 0 rfl dX4_derive_2 ?_
      refine v_bipush E ⟨by decide, by decide⟩ dX4_derive_3 ?_
      refine v_icmp_ge E (tgt := 58) dX4_derive_5 (by decide) ⟨by omega, by omega⟩ ⟨by omega, by omega⟩ (fun c_5 => ?_) (fun c_5 => ?_)
      · refine v_vret E hE dX4_derive_58 ?_
        have hk7 : k = 7 := by omega
        subst hk7
        exact ⟨rfl, hN⟩
      · refine v_iload_n E 0 rfl dX4_derive_8 ?_
        refine v_iconst E dX4_derive_9 ?_
        refine v_iadd E dX4_derive_10 ?_
        refine v_bipush E ⟨by decide, by decide⟩ dX4_derive_11 ?_
        refine v_icmp_ge E (tgt := 27) dX4_derive_13 (by decide) ⟨by omega, by omega⟩ ⟨by omega, by omega⟩ (fun c_13 => ?_) (fun c_13 => ?_)
        · refine v_iload_n E 0 rfl dX4_derive_27 ?_
          refine v_iconst E dX4_derive_28 ?_
          refine v_iadd E dX4_derive_29 ?_
          refine v_bipush E ⟨by decide, by decide⟩ dX4_derive_30 ?_
          refine v_icmp_ne E (tgt := 42) dX4_derive_32 (by decide) ⟨by omega, by omega⟩ ⟨by omega, by omega⟩ (fun c_32 => absurd c_32 (by omega)) (fun c_32 => ?_)
          refine v_aload_n E 1 rfl dX4_derive_35 ?_
          refine v_iload_n E 0 rfl dX4_derive_36 ?_
          refine v_aaldS E dX4_derive_37 (hM.1 i (by omega)) (t := 3) (ty := (.array .int)) rfl rfl k rfl (by omega) (by omega) (b := (ad (6 + 7 * i + k))) rfl ?_
          refine v_lconst E (x := 0) rfl dX4_derive_38 ?_
          refine v_callS E (As := [.ref (ad (6 + 7 * i + k)), vj 0]) (m_set κ H ⟨by decide, by decide⟩ (hN (6 + 7 * i + k) (by omega))) (lw_S q1921 q1922 q82 q1923) 2 (by decide +kernel) rfl (by decide) (by decide) (cb' := 0) (sb' := 0) (by decide) (by decide) rfl (rest := []) (Nat.le_of_ble_eq_true rfl) (fun q h => hAll q ⟨6 + 7 * i + k, by omega, h⟩) dX4_derive_39 (fun v_1 H_2 hpost_3 hz_4 hk_5 => ?_)
          clear hz_4
          obtain ⟨rfl, hx_6⟩ := hpost_3
          have hN_7 := hN.set hI (i := (6 + 7 * i + k)) hx_6 hk_5
          have hM_8 := hM.kept hI (A := fun q => q = ad (6 + 7 * i + k)) (fun q h => ⟨6 + 7 * i + k, by omega, h⟩) hk_5
          refine V.eq (st' := []) rfl ?_
          refine v_aload_n E 1 rfl dX4_derive_42 ?_
          refine v_iload_n E 0 rfl dX4_derive_43 ?_
          refine v_aaldS E dX4_derive_44 (hM_8.1 i (by omega)) (t := 3) (ty := (.array .int)) rfl rfl k rfl (by omega) (by omega) (b := (ad (6 + 7 * i + k))) rfl ?_
          refine v_iload_n E 0 rfl dX4_derive_45 ?_
          refine v_iconst E dX4_derive_46 ?_
          refine v_iadd E dX4_derive_47 ?_
          refine v_i2l E ⟨by omega, by omega⟩ dX4_derive_48 ?_
          refine v_callS E (As := [.ref (ad (6 + 7 * i + k)), vj ((k : Int) + 1)]) (m_times κ H_2 ⟨by omega, by omega⟩ (hN_7 (6 + 7 * i + k) (by omega))) (lw_S q2017 q2018 q82 q2019) 2 (by decide +kernel) rfl (by decide) (by decide) (cb' := 0) (sb' := 0) (by decide) (by decide) rfl (rest := []) (Nat.le_of_ble_eq_true rfl) (fun q h => hAll q ⟨6 + 7 * i + k, by omega, h⟩) dX4_derive_49 (fun v_9 H_10 hpost_11 hz_12 hk_13 => ?_)
          clear hz_12
          obtain ⟨rfl, hx_14⟩ := hpost_11
          have hN_15 := hN_7.set hI (i := (6 + 7 * i + k)) hx_14 hk_13
          have hM_16 := hM_8.kept hI (A := fun q => q = ad (6 + 7 * i + k)) (fun q h => ⟨6 + 7 * i + k, by omega, h⟩) hk_13
          have hN_17 : NS κ ad (psk σ i (drv (pget σ j)) (k + 1)) H_10 := by rw [← psk_s]; exact (hN_15).congr (fun m _ => by unfold va_up; by_cases e : m = 6 + 7 * i + k; (rw [if_pos e, if_pos e, if_pos rfl]; unfold drv; rw [if_neg (by omega)]; exact Int.zero_mul _); (rw [if_neg e, if_neg e, if_neg e]))
          refine V.eq (st' := []) rfl ?_
          refine v_iinc E 0 rfl dX4_derive_52 (zlt hL rfl) (lv' := [(2, vi ((k : Int) + 1)), (1, .ref (ad (2000 + i))), (0, .ref (ad (2000 + j)))]) rfl ?_
          refine v_goto E (tgt := 2) dX4_derive_55 (by decide) ?_
          exact ih_2  H_10 (k + 1) (by omega) (by omega) hM_16 hN_17
        · refine v_aload_n E 2 rfl dX4_derive_16 ?_
          refine v_iload_n E 0 rfl dX4_derive_17 ?_
          refine v_iconst E dX4_derive_18 ?_
          refine v_iadd E dX4_derive_19 ?_
          refine v_aaldS E dX4_derive_20 (hM.1 j (by omega)) (t := 3) (ty := (.array .int)) rfl rfl (k + 1) (by omega) (by omega) (by omega) (b := (ad (6 + 7 * j + (k + 1)))) rfl ?_
          refine v_aload_n E 1 rfl dX4_derive_21 ?_
          refine v_iload_n E 0 rfl dX4_derive_22 ?_
          refine v_aaldS E dX4_derive_23 (hM.1 i (by omega)) (t := 3) (ty := (.array .int)) rfl rfl k rfl (by omega) (by omega) (b := (ad (6 + 7 * i + k))) rfl ?_
          refine v_callS E (As := [.ref (ad (6 + 7 * j + (k + 1))), .ref (ad (6 + 7 * i + k))]) (m_copy κ H (hI.ne (by omega)) (hN (6 + 7 * j + (k + 1)) (by omega)) (hN (6 + 7 * i + k) (by omega))) (lw_S q1938 q1939 q82 q1940) 2 (by decide +kernel) rfl (by decide) (by decide) (cb' := 0) (sb' := 0) (by decide) (by decide) rfl (rest := []) (Nat.le_of_ble_eq_true rfl) (fun q h => hAll q ⟨6 + 7 * i + k, by omega, h⟩) dX4_derive_24 (fun v_18 H_19 hpost_20 hz_21 hk_22 => ?_)
          clear hz_21
          obtain ⟨rfl, hx_23⟩ := hpost_20
          have hN_24 := hN.set hI (i := (6 + 7 * i + k)) hx_23 hk_22
          have hM_25 := hM.kept hI (A := fun q => q = ad (6 + 7 * i + k)) (fun q h => ⟨6 + 7 * i + k, by omega, h⟩) hk_22
          refine V.eq (st' := []) rfl ?_
          refine v_iload_n E 0 rfl dX4_derive_27 ?_
          refine v_iconst E dX4_derive_28 ?_
          refine v_iadd E dX4_derive_29 ?_
          refine v_bipush E ⟨by decide, by decide⟩ dX4_derive_30 ?_
          refine v_icmp_ne E (tgt := 42) dX4_derive_32 (by decide) ⟨by omega, by omega⟩ ⟨by omega, by omega⟩ (fun c_32 => ?_) (fun c_32 => absurd c_32 (by omega))
          refine v_aload_n E 1 rfl dX4_derive_42 ?_
          refine v_iload_n E 0 rfl dX4_derive_43 ?_
          refine v_aaldS E dX4_derive_44 (hM_25.1 i (by omega)) (t := 3) (ty := (.array .int)) rfl rfl k rfl (by omega) (by omega) (b := (ad (6 + 7 * i + k))) rfl ?_
          refine v_iload_n E 0 rfl dX4_derive_45 ?_
          refine v_iconst E dX4_derive_46 ?_
          refine v_iadd E dX4_derive_47 ?_
          refine v_i2l E ⟨by omega, by omega⟩ dX4_derive_48 ?_
          refine v_callS E (As := [.ref (ad (6 + 7 * i + k)), vj ((k : Int) + 1)]) (m_times κ H_19 ⟨by omega, by omega⟩ (hN_24 (6 + 7 * i + k) (by omega))) (lw_S q2017 q2018 q82 q2019) 2 (by decide +kernel) rfl (by decide) (by decide) (cb' := 0) (sb' := 0) (by decide) (by decide) rfl (rest := []) (Nat.le_of_ble_eq_true rfl) (fun q h => hAll q ⟨6 + 7 * i + k, by omega, h⟩) dX4_derive_49 (fun v_26 H_27 hpost_28 hz_29 hk_30 => ?_)
          clear hz_29
          obtain ⟨rfl, hx_31⟩ := hpost_28
          have hN_32 := hN_24.set hI (i := (6 + 7 * i + k)) hx_31 hk_30
          have hM_33 := hM_25.kept hI (A := fun q => q = ad (6 + 7 * i + k)) (fun q h => ⟨6 + 7 * i + k, by omega, h⟩) hk_30
          have hN_34 : NS κ ad (psk σ i (drv (pget σ j)) (k + 1)) H_27 := by rw [← psk_s]; exact (hN_32).congr (fun m _ => by unfold va_up; by_cases e : m = 6 + 7 * i + k; (rw [if_pos e, if_pos e, if_pos rfl]; unfold drv pget; rw [if_pos (by omega), psk_ne _ _ _ _ (by omega)]; exact Int.mul_comm _ _); (rw [if_neg e, if_neg e, if_neg e]))
          refine V.eq (st' := []) rfl ?_
          refine v_iinc E 0 rfl dX4_derive_52 (zlt hL rfl) (lv' := [(2, vi ((k : Int) + 1)), (1, .ref (ad (2000 + i))), (0, .ref (ad (2000 + j)))]) rfl ?_
          refine v_goto E (tgt := 2) dX4_derive_55 (by decide) ?_
          exact ih_2  H_27 (k + 1) (by omega) (by omega) hM_33 hN_34
  refine V.sub [0, 2, 1] (lv' := [(2, vi 0), (1, .ref (ad (2000 + i))), (0, .ref (ad (2000 + j)))]) rfl ?_
  exact loop_2 (7 + 1) H0 0 (by omega) (by omega) hM (by rw [psk_0]; exact hN)
