/-! THE COMPONENT'S PUBLIC CALLS: isRoot -/
set_option maxHeartbeats 400000 in
set_option maxRecDepth 100000 in
/-- isRoot -/
theorem x_isr (κ : zK) (H0 : Heap) {x ls bs li bi : Nat} {a : Nat → Nat} {iso : Option Nat} {T : Nat → Pl} {n cap : Nat} {iv : Nat → Ivl} {N3 K3 : Nat} {kk e : Nat} {nn : Int} (hn : -4294967296 < nn ∧ nn < 4294967296) (he : e ≤ 12) (hik : iso = some kk) (h7k : (T kk).1 ≤ 7) (hfk : fitV (T kk) nn e N3 K3) (hC : CO κ H0) (hS : CS κ (dS ls bs li bi) H0 x ls bs li bi a iso T n cap iv)  : Mt κ yX1_isRoot cX1_isRoot 4 (some .boolean) 7 181 (sgC (T kk).1) (sgL N3 K3 (T kk).1) H0 [.ref x, vj nn, vi (e : Int)] (fun _ => False) (fun v H1 => v = some (vi (if cSg (T kk) nn e = 0 then 1 else 0))) := by
  refine Mt.of (by decide) (Nat.le_of_ble_eq_true rfl) ?_
  intro z E hE hH0 hA0 hL hini
  have hAll : ∀ q, (fun _ => False) q → zA z.A z.H0 q := fun q h => Or.inl (by rw [hA0]; exact h)
  have hNew : ∀ q, H0.size ≤ q → zA z.A z.H0 q := fun q h => Or.inr (by rw [hH0]; exact h)
  have E : zOK z cX1_isRoot RX1 κ 7 181 (some .boolean) := E
  refine V.eqL (lv' := [(0, .ref x), (1, vj nn), (3, vi (e : Int))]) rfl ?_
  have hA93 : ∀ q, (fun _ => False : Nat → Prop) q → κ.2 93 ≤ q := fun q h => h.elim
  have hD := hC.D
  have hsl0 := hS.sl
  refine v_aload_n E 0 rfl dX1_isRoot_0 ?_
  refine v_getf E in_X1 hS.2.1 (ci := 0) rfl 1 (by decide) q273 rfl (v := (isoV iso)) rfl dX1_isRoot_1 ?_
  refine V.eq (st' := .ref kk :: _) (by rw [hik]; rfl) ?_
  obtain ⟨-, -, pk_1, vs_2, vf_3, vg_4, hkn_5, hpk_6, -⟩ := id (hS.2.2.2.2.2 kk hik)
  refine v_getfN (host := "SturmRoots") E in_X2 hkn_5 (ci := 1) rfl 0 (by decide) (by decide +kernel) rfl (v := .ref pk_1) rfl dX1_isRoot_4 ?_
  refine v_lload_n E 1 rfl dX1_isRoot_7 ?_
  refine v_iload_n E 2 rfl dX1_isRoot_8 ?_
  refine V.frame (fun hfz_fr_7 hfk_fr_7 => ?_)
  rw [hH0] at hfz_fr_7 hfk_fr_7
  rw [hA0] at hfk_fr_7
  have hC_fr_7 := hC.call hA93 hfz_fr_7 hfk_fr_7
  refine v_callS E (As := [.ref pk_1, vj nn, vi (e : Int)]) (p_sg κ H0 (N := N3) (K := K3) hC_fr_7 hn he h7k hfk hpk_6) (lw_S q1533 q1534 q70 q1535) 3 (by decide +kernel) rfl (by decide) (by decide) (cb' := ((sgC (T kk).1) - (sgC (T kk).1))) (sb' := ((sgL N3 K3 (T kk).1) - (sgL N3 K3 (T kk).1))) (by omega) (by omega) rfl (rest := []) (Nat.le_of_ble_eq_true rfl) (fun q h => h.elim) dX1_isRoot_9 (fun v_8 H_9 hpost_10 hz_11 hk_12 => ?_)
  obtain rfl := hpost_10
  have hl_13 := CS.kf0 hC_fr_7 (kF.ext hz_11 hk_12) hS
  have hl_14 := Kn.kf hC_fr_7 (kF.ext hz_11 hk_12) aD.no (hS.2.2.2.2.2 kk hik)
  have hl_15 := Po.kf hC_fr_7 (kF.ext hz_11 hk_12) aD.no hpk_6
  refine V.eq (st' := [vi (cSg (T kk) nn e)]) rfl ?_
  refine v_if_ne E (tgt := 19) dX1_isRoot_12 (by decide) ⟨by have := cSg_3 (T kk) nn e; omega, by have := cSg_3 (T kk) nn e; omega⟩ (fun c_12 => ?_) (fun c_12 => ?_)
  · refine v_iconst E dX1_isRoot_19 ?_
    refine v_zret E hE dX1_isRoot_20 rfl ?_
    exact congrArg (fun t => some (vi t)) (if_neg (by omega)).symm
  · refine v_iconst E dX1_isRoot_15 ?_
    refine v_goto E (tgt := 20) dX1_isRoot_16 (by decide) ?_
    refine v_zret E hE dX1_isRoot_20 rfl ?_
    exact congrArg (fun t => some (vi t)) (if_pos (by omega)).symm
