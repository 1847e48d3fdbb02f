/-! THE COMPONENT's STATE OPENED: its object, slots and Knowns; its intervals -/
theorem e4_kf {κ : zK} {H H1 : Heap} {A : Nat → Prop} {y : Nat} {v : Ivl} (hD : zDist κ) (hF : kF κ H H1 A) (h : e4 κ H y v) : e4 κ H1 y v := by
  have hn : ¬ A y := kF.obj (a := y) (ci := 4) hD hF h (by decide)
  exact hF.at h hn
def CT (κ : zK) (D : Nat → Prop) (H : Heap) (x ls bs li bi : Nat) (mds : Int) (gs : Nat → Option Nat) (a : Nat → Nat) (iso : Option Nat) (T : Nat → Pl) : Prop :=
  (κ.2 93 ≤ x ∧ ls ≠ li ∧ bs ≠ bi ∧ x ≠ li ∧ x ≠ bi ∧ ls ≠ bi ∧ bs ≠ li) ∧ hp κ H x (.inr (0, [.ref ls, isoV iso, .ref li])) ∧ AL κ H ls bs mds 5 10 gs ∧ (∀ k, k < 5 → gs k = some (a k)) ∧ (∀ k, k < 5 → Kn κ D H (a k) (T (a k)) false) ∧ ∀ k, iso = some k → Kn κ D H k (T k) false
def IA (κ : zK) (H : Heap) (li bi : Nat) (md : Int) (n cap : Nat) (g : Nat → Option Nat) (iv : Nat → Ivl) : Prop := AL κ H li bi md n cap g ∧ ∀ k, k < n → ∃ y, g k = some y ∧ e4 κ H y (iv k)
section
variable {κ : zK} {D : Nat → Prop} {H H1 : Heap} {x ls bs li bi : Nat} {mds md : Int} {gs g : Nat → Option Nat} {a : Nat → Nat} {iso : Option Nat} {T : Nat → Pl} {n cap : Nat} {iv : Nat → Ivl} {A : Nat → Prop}
theorem IT.cl {it l : Nat} {c r : Int} (h : IT κ H it l c r md) {q : Nat} (e : q = it) : ∃ (ci : Nat) (fs : List Value), hp κ H q (.inr (ci, fs)) ∧ (ci = 7 ∨ ci = 8) := by subst e; exact ⟨7, _, h.1, Or.inl rfl⟩
theorem LI.cl {it l : Nat} {c r : Int} (h : LI κ H it l c r md) {q : Nat} (e : q = it) : ∃ (ci : Nat) (fs : List Value), hp κ H q (.inr (ci, fs)) ∧ (ci = 7 ∨ ci = 8) := by subst e; exact ⟨8, _, h.1, Or.inr rfl⟩
theorem CS.split (hC : CO κ H) (h : CS κ D H x ls bs li bi a iso T n cap iv) : ∃ mds gs md g, CT κ D H x ls bs li bi mds gs a iso T ∧ IA κ H li bi md n cap g iv := by
  obtain ⟨h0, h1, ⟨mds, gs, h2, h3⟩, ⟨md, g, h4, h5⟩, h6, h7⟩ := h
  exact ⟨mds, gs, md, g, ⟨⟨h0.1, h0.2.1, h0.2.2, hp.kk hC.D h1 h4.1 (by decide) (by decide) (by decide), hp.ka hC.D h1 h4.2.1 (by decide) (by decide), hp.ka hC.D h2.1 h4.2.1 (by decide) (by decide), fun e => hp.ka hC.D h4.1 h2.2.1 (by decide) (by decide) e.symm⟩, h1, h2, h3, h6, h7⟩, h4, h5⟩
theorem CT.join (h : CT κ D H x ls bs li bi mds gs a iso T) (h2 : IA κ H li bi md n cap g iv) : CS κ D H x ls bs li bi a iso T n cap iv :=
  ⟨⟨h.1.1, h.1.2.1, h.1.2.2.1⟩, h.2.1, ⟨mds, gs, h.2.2.1, h.2.2.2.1⟩, ⟨md, g, h2.1, h2.2⟩, h.2.2.2.2.1, h.2.2.2.2.2⟩
theorem CT.kfA (hC : CO κ H) (hF : kF κ H H1 A) (hA : ∀ q, A q → q = li ∨ q = bi ∨ ∃ (ci : Nat) (fs : List Value), hp κ H q (.inr (ci, fs)) ∧ (ci = 7 ∨ ci = 8)) (hDl : ¬ D li) (hDb : ¬ D bi) (h : CT κ D H x ls bs li bi mds gs a iso T) : CT κ D H1 x ls bs li bi mds gs a iso T := by
  obtain ⟨h0, h1, h2, h3, h6, h7⟩ := h
  have hx : ¬ A x := fun e => by
    rcases hA x e with e1 | e1 | ⟨ci, fs, e1, e2⟩
    · exact h0.2.2.2.1 e1
    · exact h0.2.2.2.2.1 e1
    · exact hp.kk hC.D h1 e1 (by decide) (by omega) (by omega) rfl
  have hl : ¬ A ls := fun e => by
    rcases hA ls e with e1 | e1 | ⟨ci, fs, e1, e2⟩
    · exact h0.2.1 e1
    · exact h0.2.2.2.2.2.1 e1
    · exact hp.kk hC.D h2.1 e1 (by decide) (by omega) (by omega) rfl
  have hb : ¬ A bs := fun e => by
    rcases hA bs e with e1 | e1 | ⟨ci, fs, e1, e2⟩
    · exact h0.2.2.2.2.2.2 e1
    · exact h0.2.2.1 e1
    · exact hp.ka hC.D e1 h2.2.1 (by omega) (by decide) rfl
  have ha : aD κ H A D := fun q e d _ => by
    rcases hA q e with e1 | e1 | ⟨ci, fs, e1, e2⟩
    · exact absurd (e1 ▸ d) hDl
    · exact absurd (e1 ▸ d) hDb
    · exact ⟨ci, fs, e1, by omega⟩
  exact ⟨h0, hF.at h1 hx, h2.kf hC hF hl (fun _ => hb), h3, fun k hk => (h6 k hk).kf hC hF ha, fun k hk => (h7 k hk).kf hC hF ha⟩
theorem CT.kf0 (hC : CO κ H) (hF : kF κ H H1 (fun _ => False)) (h : CT κ D H x ls bs li bi mds gs a iso T) : CT κ D H1 x ls bs li bi mds gs a iso T := by
  obtain ⟨h0, h1, h2, h3, h6, h7⟩ := h
  exact ⟨h0, hF.at h1 (fun e => e), h2.kf hC hF (fun e => e) (fun _ e => e), h3, fun k hk => (h6 k hk).kf hC hF aD.no, fun k hk => (h7 k hk).kf hC hF aD.no⟩
theorem IA.kfA (hC : CO κ H) (hF : kF κ H H1 A) (hl : ¬ A li) (hb : 0 < cap → ¬ A bi) (h : IA κ H li bi md n cap g iv) : IA κ H1 li bi md n cap g iv := by
  refine ⟨h.1.kf hC hF hl hb, fun k hk => ?_⟩
  obtain ⟨y, e1, e2⟩ := h.2 k hk
  exact ⟨y, e1, e4_kf hC.D hF e2⟩
theorem IA.kf0 (hC : CO κ H) (hF : kF κ H H1 (fun _ => False)) (h : IA κ H li bi md n cap g iv) : IA κ H1 li bi md n cap g iv := h.kfA hC hF (fun e => e) (fun _ e => e)
theorem IA.kfI (hC : CO κ H) (hF : kF κ H H1 A) (hA : ∀ q, A q → ∃ (ci : Nat) (fs : List Value), hp κ H q (.inr (ci, fs)) ∧ (ci = 7 ∨ ci = 8)) (h : IA κ H li bi md n cap g iv) : IA κ H1 li bi md n cap g iv :=
  h.kfA hC hF (fun e => by obtain ⟨ci, fs, e1, e2⟩ := hA li e; exact hp.kk hC.D h.1.1 e1 (by decide) (by omega) (by omega) rfl) (fun _ e => by obtain ⟨ci, fs, e1, e2⟩ := hA bi e; exact hp.ka hC.D e1 h.1.2.1 (by omega) (by decide) rfl)
theorem CT.ku {u : Nat} (hC : CO κ H) (hU : kU κ H H1 u) (h : CT κ D H x ls bs li bi mds gs a iso T) : CT κ D H1 x ls bs li bi mds gs a iso T := by
  obtain ⟨h0, h1, h2, h3, h6, h7⟩ := h
  exact ⟨h0, kU.obj hC hU h1 (by decide) (by decide), h2.ku hC hU, h3, fun k hk => (h6 k hk).ku hC hU, fun k hk => (h7 k hk).ku hC hU⟩
theorem IA.ku {u : Nat} (hC : CO κ H) (hU : kU κ H H1 u) (h : IA κ H li bi md n cap g iv) : IA κ H1 li bi md n cap g iv := by
  refine ⟨h.1.ku hC hU, fun k hk => ?_⟩
  obtain ⟨y, e1, e2⟩ := h.2 k hk
  exact ⟨y, e1, kU.obj hC hU e2 (by decide) (by decide)⟩
theorem IT.ku {u it l : Nat} {c r : Int} (hC : CO κ H) (hU : kU κ H H1 u) (h : IT κ H it l c r md) : IT κ H1 it l c r md := ⟨kU.obj hC hU h.1 (by decide) (by decide), h.2⟩
theorem CT.mono {D' : Nat → Prop} (h : CT κ D H x ls bs li bi mds gs a iso T) (hD : ∀ q, q < H.size → D q → D' q) : CT κ D' H x ls bs li bi mds gs a iso T := by
  obtain ⟨h0, h1, h2, h3, h6, h7⟩ := h
  exact ⟨h0, h1, h2, h3, fun k hk => (h6 k hk).mono hD, fun k hk => (h7 k hk).mono hD⟩
end
theorem dS_li {ls bs li bi : Nat} : ¬ dS ls bs li bi li := fun h => h.2.2.1 rfl
theorem dS_bi {ls bs li bi : Nat} : ¬ dS ls bs li bi bi := fun h => h.2.2.2 rfl
/-! removeEmpty -/
def rvN (iv : Nat → Ivl) : Nat → Nat
  | 0 => 0
  | k + 1 => if (iv k).2.2.2 = 0 then rvN iv k else rvN iv k + 1
def rvL (iv : Nat → Ivl) : Nat → (Nat → Ivl)
  | 0 => iv
  | k + 1 => if (iv k).2.2.2 = 0 then fun j => if j < rvN iv k then rvL iv k j else rvL iv k (j + 1) else rvL iv k
theorem rvN_le (iv : Nat → Ivl) : ∀ k, rvN iv k ≤ k
  | 0 => Nat.le_refl 0
  | k + 1 => by
    have := rvN_le iv k
    unfold rvN
    split <;> omega
theorem rvL_at (iv : Nat → Ivl) : ∀ k j, rvL iv k (rvN iv k + j) = iv (k + j)
  | 0, j => by show iv (0 + j) = iv (0 + j); rfl
  | k + 1, j => by
    unfold rvN rvL
    by_cases e : (iv k).2.2.2 = 0
    · rw [if_pos e, if_pos e]
      show (if rvN iv k + j < rvN iv k then _ else rvL iv k (rvN iv k + j + 1)) = _
      rw [if_neg (by omega), Nat.add_assoc, rvL_at iv k (j + 1)]
      congr 1; omega
    · rw [if_neg e, if_neg e, show rvN iv k + 1 + j = rvN iv k + (j + 1) by omega, rvL_at iv k (j + 1)]
      congr 1; omega
theorem rvN_z {iv : Nat → Ivl} {k : Nat} (h : (iv k).2.2.2 = 0) : rvN iv (k + 1) = rvN iv k := if_pos h
theorem rvN_n {iv : Nat → Ivl} {k : Nat} (h : (iv k).2.2.2 ≠ 0) : rvN iv (k + 1) = rvN iv k + 1 := if_neg h
theorem rvL_z {iv : Nat → Ivl} {k : Nat} (h : (iv k).2.2.2 = 0) (j : Nat) : rvL iv (k + 1) j = if j < rvN iv k then rvL iv k j else rvL iv k (j + 1) := by
  show (if (iv k).2.2.2 = 0 then fun j => if j < rvN iv k then rvL iv k j else rvL iv k (j + 1) else rvL iv k) j = _
  rw [if_pos h]
theorem rvL_n {iv : Nat → Ivl} {k : Nat} (h : (iv k).2.2.2 ≠ 0) : rvL iv (k + 1) = rvL iv k := if_neg h
/-- one interval was taken out -/
theorem IA.rm {κ : zK} {H H1 : Heap} {li bi n cap c : Nat} {md md2 : Int} {g g2 : Nat → Option Nat} {iv iv2 : Nat → Ivl} {A : Nat → Prop} (hC : CO κ H) (hF : kF κ H H1 A) (hA : AL κ H1 li bi md2 (n - 1) cap g2) (hg : ∀ k, k < n - 1 → g2 k = if k < c then g k else g (k + 1)) (hi : ∀ k, k < n - 1 → iv2 k = if k < c then iv k else iv (k + 1)) (h : IA κ H li bi md n cap g iv) : IA κ H1 li bi md2 (n - 1) cap g2 iv2 := by
  refine ⟨hA, fun k hk => ?_⟩
  rw [hg k hk, hi k hk]
  by_cases e : k < c
  · rw [if_pos e, if_pos e]
    obtain ⟨y, e1, e2⟩ := h.2 k (by omega)
    exact ⟨y, e1, e4_kf hC.D hF e2⟩
  · rw [if_neg e, if_neg e]
    obtain ⟨y, e1, e2⟩ := h.2 (k + 1) (by omega)
    exact ⟨y, e1, e4_kf hC.D hF e2⟩
set_option maxHeartbeats 1000000 in
set_option maxRecDepth 100000 in
/-- removeEmpty -/
theorem c_rm (κ : zK) (H0 : Heap) {x : Nat} {S : Nat → Pl} {isoP : Option Pl} {n cap : Nat} {iv : Nat → Ivl} (hiv : ∀ k, k < n → rI (iv k).2.2.2) (hC : CO κ H0) (hP : CP κ H0 x S isoP n cap iv)  : Mt κ yX1_removeEmpty cX1_removeEmpty 3 (some .int) 4 94 1 4 H0 [.ref x] (pA κ H0) (fun v H1 => v = some (vi ((n : Int) - (rvN iv n : Int))) ∧ CP κ H1 x S isoP (rvN iv n) cap (rvL iv n)) := by
  refine Mt.of (by decide) (Nat.le_of_ble_eq_true rfl) ?_
  intro z E hE hH0 hA0 hL hini
  have hAll : ∀ q, (pA κ H0) q → zA z.A z.H0 q := fun q h => Or.inl (by rw [hA0]; exact h)
  have hNew : ∀ q, H0.size ≤ q → zA z.A z.H0 q := fun q h => Or.inr (by rw [hH0]; exact h)
  have E : zOK z cX1_removeEmpty RX1 κ 4 94 (some .int) := E
  refine V.eqL (lv' := [(0, .ref x)]) rfl ?_
  obtain ⟨ls, bs, li, bi, a, iso, T, hS, hST, hiso⟩ := hP
  have hA93 : ∀ q, pA κ H0 q → κ.2 93 ≤ q := fun q h => h.1
  have hD := hC.D
  have hsl0 := hS.sl
  have hn1 := hS.n
  refine v_iconst E dX1_removeEmpty_0 ?_
  refine v_istore_n E dX1_removeEmpty_1 (zlt hL rfl) (lv' := [(1, vi 0), (0, .ref x)]) rfl ?_
  refine V.frame (fun hfz_fr_1 hfk_fr_1 => ?_)
  rw [hH0] at hfz_fr_1 hfk_fr_1
  rw [hA0] at hfk_fr_1
  have hC_fr_1 := hC.call hA93 hfz_fr_1 hfk_fr_1
  obtain ⟨mds, gs, md, g, hCT, hIA⟩ := CS.split hC_fr_1 hS
  refine v_aload_n E 1 rfl dX1_removeEmpty_2 ?_
  refine v_getf E in_X1 hCT.2.1 (ci := 0) rfl 2 (by decide) q274 rfl (v := .ref li) rfl dX1_removeEmpty_3 ?_
  refine v_callV E (As := []) (b := li) (ci := 5) (C := RJ2) (T := TJ2) (N := 3) hIA.1.1 rfl (j_iter κ H0 hC_fr_1 hIA.1) (lw_V q291 q292 q293 q73 q294) 0 (by decide +kernel) rfl (by decide) (by decide) (cb' := 0) (sb' := 0) (by decide) (by decide) rfl (rest := []) (Nat.le_of_ble_eq_true rfl) (fun q h => h.elim) dX1_removeEmpty_6 (fun v_2 H_3 hpost_4 hz_5 hk_6 => ?_)
  obtain ⟨it, rfl, hitH, hitI⟩ := hpost_4
  have hl_7 := CT.kf0 hC_fr_1 (kF.ext hz_5 hk_6) hCT
  have hl_8 := IA.kf0 hC_fr_1 (kF.ext hz_5 hk_6) hIA
  have hitH : H0.size ≤ it := Nat.le_trans hfz_fr_1 hitH
  refine V.eq (st' := [.ref it]) rfl ?_
  refine v_astore_n E dX1_removeEmpty_9 (zlt hL rfl) (lv' := [(2, .ref it), (1, vi 0), (0, .ref x)]) rfl ?_
  have loop_10 : ∀ (m_10 : Nat) (H : Heap) (k c N : Nat) (md2 : Int) (g2 : Nat → Option Nat) (r rm : Int), n - k < m_10 → (k ≤ n) → (c = rvN iv k) → (N = c + (n - k)) → (rm = (k : Int) - (c : Int)) → CT κ (dS ls bs li bi) H x ls bs li bi mds gs a iso T → IA κ H li bi md2 N cap g2 (rvL iv k) → IT κ H it li (c : Int) r md2 → V z H 0 0 10 [(2, .ref it), (1, vi rm), (0, .ref x)] [] := by
    intro m_10
    induction m_10 with
    | zero => intro H k c N md2 g2 r rm hm; exact absurd hm (by omega)
    | succ m_10 ih_10 =>
      intro H k c N md2 g2 r rm hm_10 hk hc hN hrm hT2 hI2 hIT
      have hrc := rvN_le iv k
      refine v_aload_n E 0 rfl dX1_removeEmpty_10 ?_
      refine V.frame (fun hfz_fr_9 hfk_fr_9 => ?_)
      rw [hH0] at hfz_fr_9 hfk_fr_9
      rw [hA0] at hfk_fr_9
      have hC_fr_9 := hC.call hA93 hfz_fr_9 hfk_fr_9
      refine v_callF E (As := []) (b := it) (ci := 7) (C := RJ17) (T := TJ17) (N := 4) hIT.1 rfl (j_hasNext κ H hC_fr_9 (by omega) hI2.1 hIT) (by decide +kernel) (lw_F q321 q325 q327 q92 q329) 0 (by decide +kernel) rfl (by decide) (by decide) (cb' := 0) (sb' := 0) (by decide) (by decide) rfl (rest := []) (Nat.le_of_ble_eq_true rfl) (fun q h => h.elim) dX1_removeEmpty_11 (fun v_10 H_11 hpost_12 hz_13 hk_14 => ?_)
      obtain rfl := hpost_12
      have hl_15 := CT.kf0 hC_fr_9 (kF.ext hz_13 hk_14) hT2
      have hl_16 := IA.kf0 hC_fr_9 (kF.ext hz_13 hk_14) hI2
      have hl_17 := IT.kf (kF.ext hz_13 hk_14) hIT (fun h => h)
      by_cases hkn : c = N
      ·
        refine V.eq (st' := [vi 0]) (by rw [if_pos (show ((c : Nat) : Int) = ((N : Nat) : Int) by omega)]; rfl) ?_
        refine v_if_eq E (tgt := 46) dX1_removeEmpty_16 (by decide) ⟨by omega, by omega⟩ (fun c_16 => ?_) (fun c_16 => absurd c_16 (by omega))
        refine v_iload_n E 1 rfl dX1_removeEmpty_46 ?_
        refine v_iret E hE dX1_removeEmpty_47 ?_
        have hkn2 : k = n := by omega
        have hNr : N = rvN iv n := by rw [hN, hc, hkn2]; omega
        refine ⟨by rw [hrm, hc, hkn2], ?_⟩
        have hI9 := hl_16
        rw [hNr, hkn2] at hI9
        exact CS.pub (CT.join hl_15 hI9) hST hiso
      ·
        refine V.eq (st' := [vi 1]) (by rw [if_neg (show ¬ ((c : Nat) : Int) = ((N : Nat) : Int) by omega)]; rfl) ?_
        refine v_if_eq E (tgt := 46) dX1_removeEmpty_16 (by decide) ⟨by omega, by omega⟩ (fun c_16 => absurd c_16 (by omega)) (fun c_16 => ?_)
        refine v_aload_n E 0 rfl dX1_removeEmpty_19 ?_
        obtain ⟨y_18, hy_19, hEy_20⟩ := hl_16.2 c (by omega)
        refine V.frame (fun hfz_fr_21 hfk_fr_21 => ?_)
        rw [hH0] at hfz_fr_21 hfk_fr_21
        rw [hA0] at hfk_fr_21
        have hC_fr_21 := hC.call hA93 hfz_fr_21 hfk_fr_21
        have hE9 : e4 κ H_11 y_18 (iv k) := by
          have h9 := hEy_20
          rw [hc, show rvN iv k = rvN iv k + 0 from rfl, rvL_at, Nat.add_zero] at h9
          exact h9
        refine v_callF E (As := []) (b := it) (ci := 7) (C := RJ17) (T := TJ17) (N := 4) hl_17.1 rfl (j_next7 κ H_11 hC_fr_21 (i := c) (y := y_18) (by omega) hy_19 hl_16.1 hl_17) (by decide +kernel) (lw_F q334 q337 q339 q92 q341) 0 (by decide +kernel) rfl (by decide) (by decide) (cb' := 0) (sb' := 0) (by decide) (by decide) rfl (rest := []) (Nat.le_of_ble_eq_true rfl) (fun q9 h => hNew q9 (by rw [show q9 = it from h]; exact hitH)) dX1_removeEmpty_20 (fun v_22 H_23 hpost_24 hz_25 hk_26 => ?_)
        obtain ⟨rfl, hI_27⟩ := hpost_24
        have hl_28 := CT.kfA hC_fr_21 (kF.itr (A := fun q => q = it) hl_17 (fun q h => h) hz_25 hk_26) (fun q h => Or.inr (Or.inr (IT.cl hl_17 h))) dS_li dS_bi hl_15
        have hl_29 := IA.kfI hC_fr_21 (kF.itr (A := fun q => q = it) hl_17 (fun q h => h) hz_25 hk_26) (fun q h => IT.cl hl_17 h) hl_16
        have hl_30 := (e4_kf hC.D (kF.itr (A := fun q => q = it) hl_17 (fun q h => h) hz_25 hk_26) hE9)
        refine V.eq (st' := [.ref y_18]) rfl ?_
        refine v_castS E hl_30 (q := (RX5, TX5, 4)) rfl q418 dX1_removeEmpty_25 ?_
        refine v_getfN (host := "SturmRoots") E in_X5 hl_30 (ci := 4) rfl 3 (by decide) (by decide +kernel) rfl (v := vi ((iv k).2.2.2)) rfl dX1_removeEmpty_28 ?_
        refine v_if_ne E (tgt := 10) dX1_removeEmpty_31 (by decide) (hiv k (by omega)) (fun c_31 => ?_) (fun c_31 => ?_)
        · exact ih_10  H_23 (k + 1) (c + 1) N md2 g2 _ rm (by omega) (by omega) (by rw [rvN_n (iv := iv) (k := k) (by omega)]; omega) (by omega) (by omega) hl_28 (by rw [rvL_n (iv := iv) (k := k) (by omega)]; exact hl_29) hI_27
        · have hz0 : (iv k).2.2.2 = 0 := by omega
          refine v_aload_n E 0 rfl dX1_removeEmpty_34 ?_
          refine V.frame (fun hfz_fr_31 hfk_fr_31 => ?_)
          rw [hH0] at hfz_fr_31 hfk_fr_31
          rw [hA0] at hfk_fr_31
          have hC_fr_31 := hC.call hA93 hfz_fr_31 hfk_fr_31
          obtain ⟨y_32, hy_33, -⟩ := hl_29.2 c (by omega)
          refine v_callFH E (As := []) (b := it) (ci := 7) (C := RJ17) (T := TJ17) (N := 4) hI_27.1 rfl (j_irm κ H_23 hC_fr_31 (r := c) (by omega) hy_33 hl_29.1 hI_27) (by decide +kernel) (lw_FW q420 q423 q425 q92 q427) 0 (by decide +kernel) rfl (by decide) (by decide) (cb' := 0) (sb' := 0) (by decide) (by decide) rfl (rest := []) (Nat.le_of_ble_eq_true rfl) (fun q h => h.elim (fun h => hNew q (by rw [h]; exact hitH)) (fun h => h.elim (fun h => by have h9 := pA.any hfk_fr_31 hl_29.1.1 (Or.inr (Or.inr (Or.inl rfl))) hl_29.1.2.2.2.2.2.2.2.1; rw [← h] at h9; exact h9.elim (fun e => hAll q e) (fun e => hNew q e)) (fun h => by have h9 := pA.arr hfk_fr_31 hl_29.1.2.1 (hl_29.1.2.2.2.2.2.2.2.2.1 h.2); rw [← h.1] at h9; exact h9.elim (fun e => hAll q e) (fun e => hNew q e)))) dX1_removeEmpty_35 (fun v_34 H_35 hpost_36 hz_37 hk_38 => ?_)
          obtain ⟨rfl, md3, g3, hA3, hg3, hIT3⟩ := hpost_36
          have hF3 : kF κ H_23 H_35 (fun q => q = it ∨ q = li ∨ (q = bi ∧ 0 < cap)) := ⟨fun q h => by
            rcases h with h | h | h
            · rw [h]; exact ⟨hI_27.2, fun _ => Or.inl ⟨7, _, hI_27.1, Or.inr (Or.inr (Or.inl rfl))⟩⟩
            · rw [h]; exact ⟨hl_29.1.2.2.2.2.2.2.2.1, fun _ => Or.inl ⟨5, _, hl_29.1.1, Or.inr (Or.inl rfl)⟩⟩
            · rw [h.1]; exact ⟨hl_29.1.2.2.2.2.2.2.2.2.1 h.2, fun _ => Or.inr ⟨_, _, hl_29.1.2.1⟩⟩, hz_37, hk_38⟩
          have hT3 := CT.kfA hC_fr_31 hF3 (fun q h => h.elim (fun h => Or.inr (Or.inr (IT.cl hI_27 h))) (fun h => h.elim Or.inl (fun h => Or.inr (Or.inl h.1)))) dS_li dS_bi hl_28
          have hI3 : IA κ H_35 li bi md3 (N - 1) cap g3 (rvL iv (k + 1)) := IA.rm (iv2 := rvL iv (k + 1)) hC_fr_31 hF3 hA3 hg3 (fun j _ => by rw [rvL_z hz0 j, hc]) hl_29
          refine V.eq (st' := []) rfl ?_
          refine v_iinc E 1 rfl dX1_removeEmpty_40 (zlt hL rfl) (lv' := [(1, vi (rm + 1)), (2, .ref it), (0, .ref x)]) rfl ?_
          refine v_goto E (tgt := 10) dX1_removeEmpty_43 (by decide) ?_
          refine V.sub [1, 0, 2] (lv' := [(2, .ref it), (1, vi (rm + 1)), (0, .ref x)]) rfl ?_
          exact ih_10  H_35 (k + 1) c (N - 1) md3 g3 _ (rm + 1) (by omega) (by omega) (by rw [rvN_z hz0]; exact hc) (by omega) (by omega) hT3 hI3 hIT3
  exact loop_10 (n + 1) H_3 0 0 n md g (-1) 0 (by omega) (Nat.zero_le _) rfl (by omega) rfl hl_7 hl_8 hitI
