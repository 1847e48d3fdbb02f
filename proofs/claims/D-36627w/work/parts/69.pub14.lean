set_option maxHeartbeats 400000 in
set_option maxRecDepth 100000 in
/-- a longer copy -/
theorem m_longer (κ : zK) (H0 : Heap) {c cap : Nat} {fv : Nat → Int} (hcap : cap ≤ 1000000) (hc : hp κ H0 c (eI κ cap fv)) : Mt κ yX4_longer cX4_longer 3 (some (.array .int)) 0 0 1 (2 * cap) H0 [.ref c] (fun _ => False) (fun v H1 => ∃ q, v = some (.ref q) ∧ H0.size ≤ q ∧ hp κ H1 q (eI κ (2 * cap) (fun m => if m < cap then fv m else 0))) := by
  refine Mt.of (by decide) (Nat.le_of_ble_eq_true rfl) ?_
  intro z E hE hH0 hA0 hL hini
  have hAll : ∀ q, (fun _ => False) q → zA z.A z.H0 q := fun q h => Or.inl (by rw [hA0]; exact h)
  have hNew : ∀ q, H0.size ≤ q → zA z.A z.H0 q := fun q h => Or.inr (by rw [hH0]; exact h)
  have E : zOK z cX4_longer RX4 κ 0 0 (some (.array .int)) := E
  refine V.eqL (lv' := [(0, .ref c)]) rfl ?_
  refine v_iconst E dX4_longer_0 ?_
  refine v_aload_n E 0 rfl dX4_longer_1 ?_
  refine v_alen E dX4_longer_2 (t := 0) (ty := .int) hc rfl ?_
  refine v_imul E dX4_longer_3 ?_
  refine v_newI E (n := (2 * cap)) q511 (by omega) (by omega) (cb' := 0) (sb' := 0) (by omega) (by omega) dX4_longer_4 (fun q_1 H_2 hq_5 hn_3 hg_4 => ?_)
  have hne_c_q_1 : c ≠ q_1 := by have := hc.lt; omega
  have hc_7 := hc.grow hg_4
  have hqs : H0.size ≤ q_1 := by omega
  have hcq : c ≠ q_1 := by have := hc.lt; omega
  refine v_astore_n E dX4_longer_6 (zlt hL rfl) (lv' := [(1, .ref q_1), (0, .ref c)]) rfl ?_
  refine v_iconst E dX4_longer_7 ?_
  refine v_istore_n E dX4_longer_8 (zlt hL rfl) (lv' := [(2, vi 0), (1, .ref q_1), (0, .ref c)]) rfl ?_
  have loop_9 : ∀ (m_9 : Nat) (H : Heap) (k : Nat) (r : Nat → Int), cap - k < m_9 → (k ≤ cap) → (∀ m, r m = if m < k then fv m else 0) → hp κ H c (eI κ cap fv) → hp κ H q_1 (eI κ (2 * cap) r) → V z H 0 0 9 [(2, vi (k : Int)), (1, .ref q_1), (0, .ref c)] [] := by
    intro m_9
    induction m_9 with
    | zero => intro H k r hm; exact absurd hm (by omega)
    | succ m_9 ih_9 =>
      intro H k r hm_9 hk hr hc hn
      refine v_iload_n E 0 rfl dX4_longer_9 ?_
      refine v_aload_n E 2 rfl dX4_longer_10 ?_
      refine v_alen E dX4_longer_11 (t := 0) (ty := .int) hc rfl ?_
      refine v_icmp_ge E (tgt := 27) dX4_longer_12 (by decide) ⟨by omega, by omega⟩ ⟨by omega, by omega⟩ (fun c_12 => ?_) (fun c_12 => ?_)
      · refine v_aload_n E 1 rfl dX4_longer_27 ?_
        refine v_aret E hE rfl (Or.inr ⟨_, rfl⟩) dX4_longer_28 (Or.inr ⟨_, rfl⟩) ?_
        have hkc : k = cap := by omega
        exact ⟨_, rfl, hqs, eI.congr hn (fun m hm => by rw [hr m, hkc])⟩
      · refine v_aload_n E 1 rfl dX4_longer_15 ?_
        refine v_iload_n E 0 rfl dX4_longer_16 ?_
        refine v_aload_n E 2 rfl dX4_longer_17 ?_
        refine v_iload_n E 0 rfl dX4_longer_18 ?_
        refine v_iald E dX4_longer_19 hc k rfl (by omega) (by omega) ?_
        refine v_iast E dX4_longer_20 hn k rfl (by omega) (by omega) (hNew _ hqs) (fun H_10 hn_8 hs_9 => ?_)
        have hc_11 := hc.same hs_9 hcq
        refine v_iinc E 0 rfl dX4_longer_21 (zlt hL rfl) (lv' := [(2, vi ((k : Int) + 1)), (1, .ref q_1), (0, .ref c)]) rfl ?_
        refine v_goto E (tgt := 9) dX4_longer_24 (by decide) ?_
        exact ih_9  H_10 (k + 1) _ (by omega) (by omega) (fun m => by
          show (if m = k then fv k else r m) = _
          by_cases e : m = k
          · subst e; rw [if_pos rfl, if_pos (by omega)]
          · rw [if_neg e, hr m]
            by_cases l : m < k
            · rw [if_pos l, if_pos (by omega)]
            · rw [if_neg l, if_neg (by omega)]) hc_11 hn_8
  exact loop_9 (cap + 1) H_2 0 (fun _ => 0) (by omega) (by omega) (fun m => by rw [if_neg (by omega)]) hc_7 hn_3
