/-! THE COMPONENT: the intervals' list iterator -/
theorem LI.kf {κ : zK} {H H1 : Heap} {A : Nat → Prop} {it l : Nat} {c r md : Int} (hF : kF κ H H1 A) (h : LI κ H it l c r md) (hn : ¬ A it) : LI κ H1 it l c r md := ⟨hF.at h.1 hn, h.2⟩
theorem kF.li {κ : zK} {H H1 : Heap} {it l : Nat} {c r md : Int} {A : Nat → Prop} (hI : LI κ H it l c r md) (hAq : ∀ q, A q → q = it) (hz : H.size ≤ H1.size) (hk : ∀ q : Nat, q < H.size → ¬ A q → H1[q]? = H[q]?) : kF κ H H1 A :=
  ⟨fun q h => (hAq q h) ▸ ⟨hI.2, fun _ => Or.inl ⟨8, _, hI.1, Or.inr (Or.inr (Or.inr (Or.inl rfl)))⟩⟩, hz, hk⟩
def insI (iv : Nat → Ivl) (c : Nat) (v : Ivl) : Nat → Ivl := fun k => if k < c then iv k else if k = c then v else iv (k - 1)
theorem IA.set {κ : zK} {H H1 : Heap} {li bi n cap c v : Nat} {md : Int} {g : Nat → Option Nat} {iv : Nat → Ivl} {A : Nat → Prop} {w : Ivl} (hC : CO κ H) (hF : kF κ H H1 A) (hA : AL κ H1 li bi md n cap (va_up g c (some v))) (hv : e4 κ H v w) (h : IA κ H li bi md n cap g iv) : IA κ H1 li bi md n cap (va_up g c (some v)) (va_up iv c w) := by
  refine ⟨hA, fun k hk => ?_⟩
  by_cases e : k = c
  · subst e
    rw [va_up_self, va_up_self]
    exact ⟨v, rfl, e4_kf hC.D hF hv⟩
  · rw [va_up_ne _ _ e, va_up_ne _ _ e]
    obtain ⟨y, e1, e2⟩ := h.2 k hk
    exact ⟨y, e1, e4_kf hC.D hF e2⟩
theorem IA.ins {κ : zK} {H H1 : Heap} {li bi b2 n cap cap2 c v : Nat} {md md2 : Int} {g g2 : Nat → Option Nat} {iv : Nat → Ivl} {A : Nat → Prop} {w : Ivl} (hC : CO κ H) (hF : kF κ H H1 A) (hc : c ≤ n) (hA : AL κ H1 li b2 md2 (n + 1) cap2 g2) (hg : ∀ k, k < n + 1 → g2 k = if k < c then g k else if k = c then some v else g (k - 1)) (hv : e4 κ H v w) (h : IA κ H li bi md n cap g iv) : IA κ H1 li b2 md2 (n + 1) cap2 g2 (insI iv c w) := by
  refine ⟨hA, fun k hk => ?_⟩
  rw [hg k hk]
  unfold insI
  by_cases e : k < c
  · rw [if_pos e, if_pos e]
    obtain ⟨y, e1, e2⟩ := h.2 k (by omega)
    exact ⟨y, e1, e4_kf hC.D hF e2⟩
  · rw [if_neg e, if_neg e]
    by_cases e1 : k = c
    · rw [if_pos e1, if_pos e1]
      exact ⟨v, rfl, e4_kf hC.D hF hv⟩
    · rw [if_neg e1, if_neg e1]
      obtain ⟨y, e2, e3⟩ := h.2 (k - 1) (by omega)
      exact ⟨y, e2, e4_kf hC.D hF e3⟩
theorem alG_b {cap : Nat} (h : cap ≤ 600) : alG cap ≤ 2 * cap + 10 ∧ alG cap ≤ 1000 := by
  unfold alG
  split <;> omega
/-- what an iterator over the intervals, and the list, may change -/
theorem kF.ivl {κ : zK} {H H1 : Heap} {it li bi n cap : Nat} {md c r : Int} {g : Nat → Option Nat} {iv : Nat → Ivl} {A : Nat → Prop} (hI : LI κ H it li c r md) (h : IA κ H li bi md n cap g iv) (hA : ∀ q, A q → q = it ∨ q = li ∨ (q = bi ∧ 0 < cap)) (hz : H.size ≤ H1.size) (hk : ∀ q : Nat, q < H.size → ¬ A q → H1[q]? = H[q]?) : kF κ H H1 A := by
  refine ⟨fun q e => ?_, hz, hk⟩
  rcases hA q e with e | e | e
  · rw [e]; exact ⟨hI.2, fun _ => Or.inl ⟨8, _, hI.1, Or.inr (Or.inr (Or.inr (Or.inl rfl)))⟩⟩
  · rw [e]; exact ⟨h.1.2.2.2.2.2.2.2.1, fun _ => Or.inl ⟨5, _, h.1.1, Or.inr (Or.inl rfl)⟩⟩
  · rw [e.1]; exact ⟨h.1.2.2.2.2.2.2.2.2.1 e.2, fun _ => Or.inr ⟨_, _, h.1.2.1⟩⟩
/-- the array of the intervals is another one now -/
theorem CT.bi {κ : zK} {H : Heap} {x ls bs li bi b2 : Nat} {mds : Int} {gs : Nat → Option Nat} {a : Nat → Nat} {iso : Option Nat} {T : Nat → Pl} (h : CT κ (fun q => dS ls bs li bi q ∧ q ≠ b2) H x ls bs li bi mds gs a iso T) (h1 : bs ≠ b2) (h2 : x ≠ b2) (h3 : ls ≠ b2) : CT κ (dS ls bs li b2) H x ls bs li b2 mds gs a iso T := by
  have h9 := h.mono (D' := dS ls bs li b2) (fun q _ e => ⟨e.1.1, e.1.2.1, e.1.2.2.1, e.2⟩)
  obtain ⟨g0, g1⟩ := h9
  exact ⟨⟨g0.1, g0.2.1, h1, g0.2.2.2.1, h2, h3, g0.2.2.2.2.2.2⟩, g1⟩
/-- over an add to the intervals -/
theorem CT.add {κ : zK} {H H1 : Heap} {x ls bs li bi b2 it n cap : Nat} {mds md c r : Int} {gs g : Nat → Option Nat} {a : Nat → Nat} {iso : Option Nat} {T : Nat → Pl} {iv : Nat → Ivl} {A : Nat → Prop} (hC : CO κ H) (hI : LI κ H it li c r md) (hV : IA κ H li bi md n cap g iv) (hA : ∀ q, A q → q = it ∨ q = li ∨ (q = bi ∧ 0 < cap)) (hz : H.size ≤ H1.size) (hk : ∀ q : Nat, q < H.size → ¬ A q → H1[q]? = H[q]?) (hb : b2 = bi ∨ H.size ≤ b2) (h : CT κ (dS ls bs li bi) H x ls bs li bi mds gs a iso T) : CT κ (dS ls bs li b2) H1 x ls bs li b2 mds gs a iso T := by
  have hF := kF.ivl hI hV hA hz hk
  have hA2 : ∀ q, A q → q = li ∨ q = bi ∨ ∃ (ci : Nat) (fs : List Value), hp κ H q (.inr (ci, fs)) ∧ (ci = 7 ∨ ci = 8) := fun q e => by
    rcases hA q e with e | e | e
    · exact Or.inr (Or.inr (LI.cl hI e))
    · exact Or.inl e
    · exact Or.inr (Or.inl e.1)
  rcases hb with e | e
  · rw [e]; exact CT.kfA hC hF hA2 dS_li dS_bi h
  · have hx := h.2.1.lt
    have hl := h.2.2.1.1.lt
    have hb := h.2.2.1.2.1.lt
    have h2 := h.mono (D' := fun q => dS ls bs li bi q ∧ q ≠ b2) (fun q e1 e2 => ⟨e2, by omega⟩)
    exact CT.bi (CT.kfA hC hF hA2 (fun e => dS_li e.1) (fun e => dS_bi e.1) h2) (by omega) (by omega) (by omega)
/-! THE COMPONENT: bisect -/
def xbV (P : Pl) (iv : Nat → Ivl) (k e : Nat) (l h r : Int) : Nat → Ivl :=
  if cSg P (l + h) (e + 1) = 0 then insI (insI (va_up iv k (((e + 1 : Nat) : Int), 2 * l, l + h, fch P l e - fch P (l + h) (e + 1) - 1)) (k + 1) (((e + 1 : Nat) : Int), l + h, l + h, 1)) (k + 1 + 1) (((e + 1 : Nat) : Int), l + h, 2 * h, r - (fch P l e - fch P (l + h) (e + 1) - 1) - 1)
  else insI (va_up iv k (((e + 1 : Nat) : Int), 2 * l, l + h, fch P l e - fch P (l + h) (e + 1) - 0)) (k + 1) (((e + 1 : Nat) : Int), l + h, 2 * h, r - (fch P l e - fch P (l + h) (e + 1) - 0) - 0)
def xbN (P : Pl) (e : Nat) (l h : Int) : Nat := if cSg P (l + h) (e + 1) = 0 then 2 else 1
def xoBi (S : Nat → Pl) (P : Pl) (n : Nat) (iv : Nat → Ivl) (j : Int) : zRc := if 0 ≤ j ∧ j < (n : Int) then (if (iv j.toNat).2.1 = (iv j.toNat).2.2.1 ∨ (iv j.toNat).1 = 12 then (0, 2, S) else (((n + xbN P (iv j.toNat).1.toNat (iv j.toNat).2.1 (iv j.toNat).2.2.1 : Nat) : Int), 0, S)) else (0, 1, S)
set_option maxHeartbeats 1000000 in
set_option maxRecDepth 100000 in
/-- bisect -/
theorem c_bi (κ : zK) (H0 : Heap) {x : Nat} {S : Nat → Pl} {isoP : Option Pl} {n cap : Nat} {iv : Nat → Ivl} {v0 : Int} (hrv0 : rI v0) (hC : CO κ H0) {N : Nat → Nat → Nat} {M : Nat → Nat} {M0 N1 M1 : Nat} {Nt Kt : Nat → Nat} {Cf Lf C1 L1 : Nat} {N3 K3 : Nat} {P0 : Pl} (hisP : isoP = some P0) (hokI : okI n iv) (hQH : okH P0 N M M0 N1 M1 Nt Kt Cf Lf C1 L1) (hfV : ∀ (m : Int) (e : Nat), -4294967296 < m → m < 4294967296 → e ≤ 12 → fitV P0 m e N3 K3) (hcap : cap ≤ 200) (hP : CP κ H0 x S isoP n cap iv)  : MtX κ yX1_bisect cX1_bisect 10 (some .int) 17 440 (60 + Cf + 2 * C1) ((8 + (4 * K3 + N3 + 28) * 6) + Lf + 2 * L1 + 3000) H0 [.ref x, vi v0] (pA κ H0) (fun v H1 => (xoBi S P0 n iv v0).2.1 = 0 ∧ v = some (vi (xoBi S P0 n iv v0).1) ∧ ∃ cap2 : Nat, cap2 ≤ max cap (2 * n + 12) ∧ CP κ H1 x S isoP (n + xbN P0 (iv v0.toNat).1.toNat (iv v0.toNat).2.1 (iv v0.toNat).2.2.1) cap2 (xbV P0 iv v0.toNat (iv v0.toNat).1.toNat (iv v0.toNat).2.1 (iv v0.toNat).2.2.1 (iv v0.toNat).2.2.2)) (fun C H1 => (C = "java/lang/IndexOutOfBoundsException" ∧ (xoBi S P0 n iv v0).2.1 = 1 ∨ C = "java/lang/IllegalStateException" ∧ (xoBi S P0 n iv v0).2.1 = 2) ∧ CP κ H1 x S isoP n cap iv) := by
  refine MtX.of (by decide) (Nat.le_of_ble_eq_true rfl) ?_
  intro z E X9 hE hH0 hA0 hL hini
  have hAll : ∀ q, (pA κ H0) q → zA z.A z.H0 q := fun q h => Or.inl (by rw [hA0]; exact h)
  have hNew : ∀ q, H0.size ≤ q → zA z.A z.H0 q := fun q h => Or.inr (by rw [hH0]; exact h)
  have E : zOK z cX1_bisect RX1 κ 17 440 (some .int) := E
  refine V.eqL (lv' := [(0, .ref x), (1, vi v0)]) rfl ?_
  obtain ⟨ls, bs, li, bi, a, iso, T, hS, hST, hiso⟩ := hP
  have hA93 : ∀ q, pA κ H0 q → κ.2 93 ≤ q := fun q h => h.1
  have hD := hC.D
  have hsl0 := hS.sl
  obtain ⟨kk0, hik, hTP⟩ : ∃ kk0, iso = some kk0 ∧ T kk0 = P0 := by
    rw [hisP] at hiso
    cases hi9 : iso with
    | none => rw [hi9] at hiso; exact absurd hiso (by simp)
    | some k => rw [hi9] at hiso; exact ⟨k, rfl, (Option.some.inj hiso).symm⟩
  subst hTP
  have hQ9 : okH (T kk0) N M M0 N1 M1 Nt Kt Cf Lf C1 L1 := hQH
  have h7k : (T kk0).1 ≤ 7 := hQH.1.1
  have hn1 := hS.n
  refine v_aload_n E 0 rfl dX1_bisect_0 ?_
  refine v_iload_n E 1 rfl dX1_bisect_1 ?_
  refine V.frame (fun hfz_fr_1 hfk_fr_1 => ?_)
  rw [hH0] at hfz_fr_1 hfk_fr_1
  rw [hA0] at hfk_fr_1
  have hC_fr_1 := hC.call hA93 hfz_fr_1 hfk_fr_1
  refine v_callVX E X9 hE (As := [vi v0]) (b := x) (ci := 0) (C := RX1) (T := TX1) (N := 3) hS.2.1 rfl (x_iv κ H0 hrv0 hC_fr_1 hS) (lw_V q1624 q1626 qs43 q70 q1627) 1 (by decide +kernel) rfl (by decide) (by decide) (cb' := ((60 + Cf + 2 * C1) - 1)) (sb' := (((8 + (4 * K3 + N3 + 28) * 6) + Lf + 2 * L1 + 3000) - 6)) (by omega) (by omega) rfl (rest := []) (Nat.le_of_ble_eq_true rfl) (fun q h => h.elim) dX1_bisect_2 (fun C9 H9 hx9 hz9 hk9 => (by exact ⟨Or.inl (⟨hx9.1, (by have hx8 := hx9.2; unfold xoBi; first | (split <;> first | rfl | (exfalso; omega) | (split <;> first | rfl | (exfalso; omega) | (split <;> first | rfl | (exfalso; omega)))))⟩), CS.pub (CS.kf0 hC_fr_1 (kF.ext hz9 hk9) hS) hST hiso⟩)) (fun v_2 H_3 hpost_4 hz_5 hk_6 => ?_)
  obtain ⟨k9, y9, rfl, hk9n, rfl, hE9⟩ := hpost_4
  have hl_7 := CS.kf0 hC_fr_1 (kF.ext hz_5 hk_6) hS
  obtain ⟨e, lo9, hi9, rt9, hiv9⟩ : ∃ (e : Nat) (lo9 hi9 rt9 : Int), iv k9 = ((e : Int), lo9, hi9, rt9) := ⟨_, _, _, _, iv_at _ (hokI k9 hk9n).1.1⟩
  have hok9 := hokI k9 hk9n
  rw [hiv9] at hE9 hok9
  obtain ⟨⟨hq1, hq2⟩, hq3, hq4, hq5⟩ : (0 ≤ (e : Int) ∧ (e : Int) ≤ 12) ∧ (-134217728 ≤ lo9 ∧ lo9 ≤ 134217728) ∧ (-134217728 ≤ hi9 ∧ hi9 ≤ 134217728) ∧ (-100 ≤ rt9 ∧ rt9 ≤ 100) := hok9
  have he12 : e ≤ 12 := by omega
  refine V.eq (st' := [.ref y9]) rfl ?_
  refine v_astore_n E dX1_bisect_5 (zlt hL rfl) (lv' := [(2, .ref y9), (0, .ref x), (1, vi ((k9 : Nat) : Int))]) rfl ?_
  refine v_aload_n E 0 rfl dX1_bisect_6 ?_
  refine v_getfN (host := "SturmRoots") E in_X5 hE9 (ci := 4) rfl 1 (by decide) (by decide +kernel) rfl (v := vi lo9) rfl dX1_bisect_7 ?_
  refine v_aload_n E 0 rfl dX1_bisect_10 ?_
  refine v_getfN (host := "SturmRoots") E in_X5 hE9 (ci := 4) rfl 2 (by decide) (by decide +kernel) rfl (v := vi hi9) rfl dX1_bisect_11 ?_
  refine v_icmp_eq E (tgt := 26) dX1_bisect_14 (by decide) ⟨by omega, by omega⟩ ⟨by omega, by omega⟩ (fun c_14 => ?_) (fun c_14 => ?_)
  · refine V.frame (fun hfz_fr_8 hfk_fr_8 => ?_)
    rw [hH0] at hfz_fr_8 hfk_fr_8
    rw [hA0] at hfk_fr_8
    have hC_fr_8 := hC.call hA93 hfz_fr_8 hfk_fr_8
    refine V.frame (fun hfz_fr_9 hfk_fr_9 => ?_)
    rw [hH0] at hfz_fr_9 hfk_fr_9
    rw [hA0] at hfk_fr_9
    refine v_throw0 E X9 hE (cls := "java/lang/IllegalStateException") (names := ["java/lang/RuntimeException", "java/lang/Exception"]) (ik := 157) (ic := 159) (by decide +kernel) (by decide +kernel) q665 q95 (ex_2 E.kn E.2.2.2.2.1 q666) ex_2_ok dX1_bisect_26 dX1_bisect_29 dX1_bisect_30 dX1_bisect_33 (by decide) (Nat.le_of_ble_eq_true rfl) (by omega) (by omega) (fun H9 hz9 hk9 => ?_)
    exact ⟨Or.inr ⟨rfl, by unfold xoBi; rw [if_pos ⟨by omega, by omega⟩, Int.toNat_natCast, hiv9]; exact congrArg (fun t : zRc => t.2.1) (if_pos (show lo9 = hi9 ∨ (e : Int) = 12 by omega))⟩, CS.pub (CS.kf0 hC_fr_8 (kF.ext hz9 (fun q hq _ => hk9 q hq)) hl_7) hST hiso⟩
  · refine v_aload_n E 0 rfl dX1_bisect_17 ?_
    refine v_getfN (host := "SturmRoots") E in_X5 hE9 (ci := 4) rfl 0 (by decide) (by decide +kernel) rfl (v := vi (e : Int)) rfl dX1_bisect_18 ?_
    refine v_bipush E ⟨by decide, by decide⟩ dX1_bisect_21 ?_
    refine v_icmp_ne E (tgt := 34) dX1_bisect_23 (by decide) ⟨by omega, by omega⟩ ⟨by omega, by omega⟩ (fun c_23 => ?_) (fun c_23 => ?_)
    · refine v_aload_n E 0 rfl dX1_bisect_34 ?_
      refine v_getfN (host := "SturmRoots") E in_X5 hE9 (ci := 4) rfl 0 (by decide) (by decide +kernel) rfl (v := vi (e : Int)) rfl dX1_bisect_35 ?_
      refine v_iconst E dX1_bisect_38 ?_
      refine v_iadd E dX1_bisect_39 ?_
      refine V.topi (x' := ((e + 1 : Nat) : Int)) (congrArg iZ (by omega)) ?_
      refine v_istore_n E dX1_bisect_40 (zlt hL rfl) (lv' := [(3, vi ((e + 1 : Nat) : Int)), (2, .ref y9), (0, .ref x), (1, vi ((k9 : Nat) : Int))]) rfl ?_
      refine v_aload_n E 1 rfl dX1_bisect_41 ?_
      refine v_getfN (host := "SturmRoots") E in_X5 hE9 (ci := 4) rfl 1 (by decide) (by decide +kernel) rfl (v := vi lo9) rfl dX1_bisect_42 ?_
      refine v_aload_n E 1 rfl dX1_bisect_45 ?_
      refine v_getfN (host := "SturmRoots") E in_X5 hE9 (ci := 4) rfl 2 (by decide) (by decide +kernel) rfl (v := vi hi9) rfl dX1_bisect_46 ?_
      refine v_iadd E dX1_bisect_49 ?_
      refine v_istore E dX1_bisect_50 (zlt hL rfl) (lv' := [(4, vi (lo9 + hi9)), (3, vi ((e + 1 : Nat) : Int)), (2, .ref y9), (0, .ref x), (1, vi ((k9 : Nat) : Int))]) rfl ?_
      refine v_aload_n E 3 rfl dX1_bisect_52 ?_
      refine v_iload E 0 rfl dX1_bisect_53 ?_
      refine v_i2l E ⟨by omega, by omega⟩ dX1_bisect_55 ?_
      refine v_iload_n E 1 rfl dX1_bisect_56 ?_
      refine V.frame (fun hfz_fr_10 hfk_fr_10 => ?_)
      rw [hH0] at hfz_fr_10 hfk_fr_10
      rw [hA0] at hfk_fr_10
      have hC_fr_10 := hC.call hA93 hfz_fr_10 hfk_fr_10
      refine v_callV E (As := [vj (lo9 + hi9), vi ((e + 1 : Nat) : Int)]) (b := x) (ci := 0) (C := RX1) (T := TX1) (N := 3) hl_7.2.1 rfl (x_isr κ H_3 (N3 := N3) (K3 := K3) (kk := kk0) (e := (e + 1)) (nn := (lo9 + hi9)) ⟨by omega, by omega⟩ (by omega) hik h7k (hfV _ _ (by omega) (by omega) (by omega)) hC_fr_10 hl_7) (lw_V q1642 q1644 qs44 q70 q1645) 2 (by decide +kernel) rfl (by decide) (by decide) (cb' := (((60 + Cf + 2 * C1) - 1) - 50)) (sb' := ((((8 + (4 * K3 + N3 + 28) * 6) + Lf + 2 * L1 + 3000) - 6) - (8 + (4 * K3 + N3 + 28) * 6))) (by have h9 : sgC (T kk0).1 ≤ 50 := (by unfold sgC; omega); omega) (by have h9 := sgL_7 (N := N3) (K := K3) h7k; omega) rfl (rest := []) (Nat.le_of_ble_eq_true rfl) (fun q h => h.elim) dX1_bisect_57 (fun v_11 H_12 hpost_13 hz_14 hk_15 => ?_)
      obtain rfl := hpost_13
      have hl_16 := CS.kf0 hC_fr_10 (kF.ext hz_14 hk_15) hl_7
      have hl_17 := (e4_kf hC.D (kF.ext hz_14 hk_15) hE9)
      by_cases hroot : cSg (T kk0) (lo9 + hi9) (e + 1) = 0
      ·
        refine V.eq (st' := [vi 1]) (by rw [if_pos hroot]; rfl) ?_
        refine v_if_eq E (tgt := 67) dX1_bisect_60 (by decide) ⟨by omega, by omega⟩ (fun c_60 => absurd c_60 (by omega)) (fun c_60 => ?_)
        refine v_iconst E dX1_bisect_63 ?_
        refine v_goto E (tgt := 68) dX1_bisect_64 (by decide) ?_
        refine v_istore E dX1_bisect_68 (zlt hL rfl) (lv' := [(5, vi 1), (4, vi (lo9 + hi9)), (3, vi ((e + 1 : Nat) : Int)), (2, .ref y9), (0, .ref x), (1, vi ((k9 : Nat) : Int))]) rfl ?_
        refine v_aload_n E 4 rfl dX1_bisect_70 ?_
        refine v_getf E in_X1 hl_16.2.1 (ci := 0) rfl 1 (by decide) q273 rfl (v := (isoV iso)) rfl dX1_bisect_71 ?_
        refine V.eq (st' := [.ref kk0]) (by rw [hik]; rfl) ?_
        refine V.frame (fun hfz_fr_19 hfk_fr_19 => ?_)
        rw [hH0] at hfz_fr_19 hfk_fr_19
        rw [hA0] at hfk_fr_19
        have hC_fr_19 := hC.call hA93 hfz_fr_19 hfk_fr_19
        obtain ⟨-, -, pk_25, vs_26, vf_27, vg_28, hkn_29, hpk_30, -⟩ := id (hl_16.2.2.2.2.2 kk0 hik)
        refine v_callV E (As := []) (b := kk0) (ci := 1) (C := RX2) (T := TX2) (N := 4) hkn_29 rfl (k_fs κ H_12 (b := false) (N := N) (M := M) (M0 := M0) (N1 := N1) (M1 := M1) (N2 := N) (M2 := M) (M02 := M0) hC_fr_19 (fun q h => by have h2 := hsl0; exact ⟨by omega, by omega, by omega, by omega⟩) hQ9.1 hQ9.2.1 (hl_16.2.2.2.2.2 kk0 hik)) (lw_V q1646 q1647 q1648 q74 q1649) 0 (by decide +kernel) rfl (by decide) (by decide) (cb' := ((((60 + Cf + 2 * C1) - 1) - 50) - Cf)) (sb' := (((((8 + (4 * K3 + N3 + 28) * 6) + Lf + 2 * L1 + 3000) - 6) - (8 + (4 * K3 + N3 + 28) * 6)) - Lf)) (by rw [bC_f]; have := hQ9.2.2.1; omega) (by rw [bC_f]; have := hQ9.2.2.2.1; omega) rfl (rest := []) (Nat.le_of_ble_eq_true rfl) (fun q h => by obtain ⟨fs9, h8⟩ := (hl_16.2.2.2.2.2 kk0 hik).cl; have h9 := pA.any hfk_fr_19 h8 (Or.inr (Or.inl rfl)) (hl_16.2.2.2.2.2 kk0 hik).2.1; rw [← show q = _ from h] at h9; exact h9.elim (fun e => hAll q e) (fun e => hNew q e)) dX1_bisect_74 (fun v_20 H_21 hpost_22 hz_23 hk_24 => ?_)
        obtain ⟨ls_18, rfl, hls_18, hKls_18⟩ := hpost_22
        have hSk_31 := kS.of (hl_16.2.2.2.2.2 kk0 hik) hKls_18 hz_23 hk_24
        have hl_32 := CS.ks hC_fr_19 hSk_31 hKls_18 hl_16
        have hl_33 := kS.obj hC_fr_19 hSk_31 hl_17 (by decide) (by decide)
        have hl_34 := Po.ks hC_fr_19 hSk_31 hpk_30
        refine V.eq (st' := [.ref ls_18]) rfl ?_
        refine v_astore E dX1_bisect_77 (zlt hL rfl) (lv' := [(6, .ref ls_18), (5, vi 1), (4, vi (lo9 + hi9)), (3, vi ((e + 1 : Nat) : Int)), (2, .ref y9), (0, .ref x), (1, vi ((k9 : Nat) : Int))]) rfl ?_
        refine v_aload E 0 rfl dX1_bisect_79 ?_
        refine v_aload_n E 4 rfl dX1_bisect_81 ?_
        refine v_getfN (host := "SturmRoots") E in_X5 hl_33 (ci := 4) rfl 1 (by decide) (by decide +kernel) rfl (v := vi lo9) rfl dX1_bisect_82 ?_
        refine v_i2l E ⟨by omega, by omega⟩ dX1_bisect_85 ?_
        refine v_aload_n E 4 rfl dX1_bisect_86 ?_
        refine v_getfN (host := "SturmRoots") E in_X5 hl_33 (ci := 4) rfl 0 (by decide) (by decide +kernel) rfl (v := vi (e : Int)) rfl dX1_bisect_87 ?_
        refine V.frame (fun hfz_fr_35 hfk_fr_35 => ?_)
        rw [hH0] at hfz_fr_35 hfk_fr_35
        rw [hA0] at hfk_fr_35
        have hC_fr_35 := hC.call hA93 hfz_fr_35 hfk_fr_35
        refine v_callS E (As := [.ref ls_18, vj lo9, vi (e : Int)]) (p_chg κ H_21 (n := lo9) (e := e) (Nt := Nt) (Kt := Kt) hC_fr_35 (show -4294967296 < lo9 ∧ lo9 < 4294967296 from ⟨by omega, by omega⟩) (by omega) (hQ9.2.2.2.2.2.2 _ _ (show -4294967296 < lo9 ∧ lo9 < 4294967296 from ⟨by omega, by omega⟩).1 (show -4294967296 < lo9 ∧ lo9 < 4294967296 from ⟨by omega, by omega⟩).2 (by omega)) hls_18) (lw_S q1530 q1531 q70 q1532) 3 (by decide +kernel) rfl (by decide) (by decide) (cb' := (((((60 + Cf + 2 * C1) - 1) - 50) - Cf) - C1)) (sb' := ((((((8 + (4 * K3 + N3 + 28) * 6) + Lf + 2 * L1 + 3000) - 6) - (8 + (4 * K3 + N3 + 28) * 6)) - Lf) - L1)) (by have := hQ9.2.2.2.2.1; omega) (by have := hQ9.2.2.2.2.2.1; omega) rfl (rest := []) (Nat.le_of_ble_eq_true rfl) (fun q h => h.elim) dX1_bisect_90 (fun v_36 H_37 hpost_38 hz_39 hk_40 => ?_)
        obtain rfl := hpost_38
        have hl_41 := CS.kf0 hC_fr_35 (kF.ext hz_39 hk_40) hl_32
        have hl_42 := (e4_kf hC.D (kF.ext hz_39 hk_40) hl_33)
        have hl_43 := Po.kf hC_fr_35 (kF.ext hz_39 hk_40) aD.no hl_34
        have hl_44 := SQ.kf hC_fr_35 (kF.ext hz_39 hk_40) aD.no hls_18
        have hfi_n_45 := fch_in (T kk0) lo9 e
        refine V.eq (st' := [vi (fch (T kk0) lo9 e)]) rfl ?_
        refine v_aload E 0 rfl dX1_bisect_93 ?_
        refine v_iload E 2 rfl dX1_bisect_95 ?_
        refine v_i2l E ⟨by omega, by omega⟩ dX1_bisect_97 ?_
        refine v_iload_n E 3 rfl dX1_bisect_98 ?_
        refine V.frame (fun hfz_fr_46 hfk_fr_46 => ?_)
        rw [hH0] at hfz_fr_46 hfk_fr_46
        rw [hA0] at hfk_fr_46
        have hC_fr_46 := hC.call hA93 hfz_fr_46 hfk_fr_46
        refine v_callS E (As := [.ref ls_18, vj (lo9 + hi9), vi ((e + 1 : Nat) : Int)]) (p_chg κ H_37 (n := (lo9 + hi9)) (e := (e + 1)) (Nt := Nt) (Kt := Kt) hC_fr_46 (show -4294967296 < (lo9 + hi9) ∧ (lo9 + hi9) < 4294967296 from ⟨by omega, by omega⟩) (by omega) (hQ9.2.2.2.2.2.2 _ _ (show -4294967296 < (lo9 + hi9) ∧ (lo9 + hi9) < 4294967296 from ⟨by omega, by omega⟩).1 (show -4294967296 < (lo9 + hi9) ∧ (lo9 + hi9) < 4294967296 from ⟨by omega, by omega⟩).2 (by omega)) hl_44) (lw_S q1530 q1531 q70 q1532) 3 (by decide +kernel) rfl (by decide) (by decide) (cb' := ((((((60 + Cf + 2 * C1) - 1) - 50) - Cf) - C1) - C1)) (sb' := (((((((8 + (4 * K3 + N3 + 28) * 6) + Lf + 2 * L1 + 3000) - 6) - (8 + (4 * K3 + N3 + 28) * 6)) - Lf) - L1) - L1)) (by have := hQ9.2.2.2.2.1; omega) (by have := hQ9.2.2.2.2.2.1; omega) rfl (rest := [vi (fch (T kk0) lo9 e)]) (Nat.le_of_ble_eq_true rfl) (fun q h => h.elim) dX1_bisect_99 (fun v_47 H_48 hpost_49 hz_50 hk_51 => ?_)
        obtain rfl := hpost_49
        have hl_52 := CS.kf0 hC_fr_46 (kF.ext hz_50 hk_51) hl_41
        have hl_53 := (e4_kf hC.D (kF.ext hz_50 hk_51) hl_42)
        have hl_54 := Po.kf hC_fr_46 (kF.ext hz_50 hk_51) aD.no hl_43
        have hl_55 := SQ.kf hC_fr_46 (kF.ext hz_50 hk_51) aD.no hl_44
        have hfi_n_56 := fch_in (T kk0) (lo9 + hi9) (e + 1)
        refine V.eq (st' := [vi (fch (T kk0) (lo9 + hi9) (e + 1)), vi (fch (T kk0) lo9 e)]) rfl ?_
        refine v_isub E dX1_bisect_102 ?_
        refine v_iload E 1 rfl dX1_bisect_103 ?_
        refine v_isub E dX1_bisect_105 ?_
        refine v_istore E dX1_bisect_106 (zlt hL rfl) (lv' := [(7, vi (((fch (T kk0) lo9 e) - (fch (T kk0) (lo9 + hi9) (e + 1))) - 1)), (6, .ref ls_18), (5, vi 1), (4, vi (lo9 + hi9)), (3, vi ((e + 1 : Nat) : Int)), (2, .ref y9), (0, .ref x), (1, vi ((k9 : Nat) : Int))]) rfl ?_
        refine V.frame (fun hfz_fr_57 hfk_fr_57 => ?_)
        rw [hH0] at hfz_fr_57 hfk_fr_57
        rw [hA0] at hfk_fr_57
        have hC_fr_57 := hC.call hA93 hfz_fr_57 hfk_fr_57
        obtain ⟨mds, gs, md, g, hCT, hIA⟩ := CS.split hC_fr_57 hl_52
        refine v_aload_n E 6 rfl dX1_bisect_108 ?_
        refine v_getf E in_X1 hCT.2.1 (ci := 0) rfl 2 (by decide) q274 rfl (v := .ref li) rfl dX1_bisect_109 ?_
        refine v_callV E (As := []) (b := li) (ci := 5) (C := RJ2) (T := TJ2) (N := 3) hIA.1.1 rfl (j_liter κ H_48 hC_fr_57 hIA.1) (lw_V q1652 q1653 q1654 q73 q1655) 0 (by decide +kernel) rfl (by decide) (by decide) (cb' := (((((((60 + Cf + 2 * C1) - 1) - 50) - Cf) - C1) - C1) - 1)) (sb' := ((((((((8 + (4 * K3 + N3 + 28) * 6) + Lf + 2 * L1 + 3000) - 6) - (8 + (4 * K3 + N3 + 28) * 6)) - Lf) - L1) - L1) - 5)) (by omega) (by omega) rfl (rest := []) (Nat.le_of_ble_eq_true rfl) (fun q h => h.elim) dX1_bisect_112 (fun v_58 H_59 hpost_60 hz_61 hk_62 => ?_)
        obtain ⟨it, rfl, hitH0, hitI⟩ := hpost_60
        have hl_63 := (e4_kf hC.D (kF.ext hz_61 hk_62) hl_53)
        have hl_64 := CT.kf0 hC_fr_57 (kF.ext hz_61 hk_62) hCT
        have hl_65 := IA.kf0 hC_fr_57 (kF.ext hz_61 hk_62) hIA
        have hitH : H0.size ≤ it := Nat.le_trans hfz_fr_57 hitH0
        refine V.eq (st' := [.ref it]) rfl ?_
        refine v_astore E dX1_bisect_115 (zlt hL rfl) (lv' := [(8, .ref it), (7, vi (((fch (T kk0) lo9 e) - (fch (T kk0) (lo9 + hi9) (e + 1))) - 1)), (6, .ref ls_18), (5, vi 1), (4, vi (lo9 + hi9)), (3, vi ((e + 1 : Nat) : Int)), (2, .ref y9), (0, .ref x), (1, vi ((k9 : Nat) : Int))]) rfl ?_
        refine v_iconst E dX1_bisect_117 ?_
        refine v_istore E dX1_bisect_118 (zlt hL rfl) (lv' := [(9, vi 0), (8, .ref it), (7, vi (((fch (T kk0) lo9 e) - (fch (T kk0) (lo9 + hi9) (e + 1))) - 1)), (6, .ref ls_18), (5, vi 1), (4, vi (lo9 + hi9)), (3, vi ((e + 1 : Nat) : Int)), (2, .ref y9), (0, .ref x), (1, vi ((k9 : Nat) : Int))]) rfl ?_
        have loop_120 : ∀ (m_120 : Nat) (H : Heap) (k its : Nat) (r : Int) (w9 : Ivl), k9 + 1 - k < m_120 → (k ≤ k9 + 1) → (0 < k → r = (k : Int) - 1) → (k = k9 + 1 → w9 = ((e : Int), lo9, hi9, rt9)) → CT κ (dS ls bs li bi) H x ls bs li bi mds gs a iso T → IA κ H li bi md n cap g iv → LI κ H it li (k : Int) r md → e4 κ H its w9 → V z H (((((((60 + Cf + 2 * C1) - 1) - 50) - Cf) - C1) - C1) - 1) ((((((((8 + (4 * K3 + N3 + 28) * 6) + Lf + 2 * L1 + 3000) - 6) - (8 + (4 * K3 + N3 + 28) * 6)) - Lf) - L1) - L1) - 5) 120 [(9, vi (k : Int)), (8, .ref it), (7, vi (((fch (T kk0) lo9 e) - (fch (T kk0) (lo9 + hi9) (e + 1))) - 1)), (6, .ref ls_18), (5, vi 1), (4, vi (lo9 + hi9)), (3, vi ((e + 1 : Nat) : Int)), (2, .ref its), (1, vi ((k9 : Nat) : Int)), (0, .ref x)] [] := by
          intro m_120
          induction m_120 with
          | zero => intro H k its r w9 hm; exact absurd hm (by omega)
          | succ m_120 ih_120 =>
            intro H k its r w9 hm_120 hk hr hw hT2 hI2 hL2 hE2
            refine v_iload E 0 rfl dX1_bisect_120 ?_
            refine v_iload_n E 8 rfl dX1_bisect_122 ?_
            refine v_icmp_gt E (tgt := 143) dX1_bisect_123 (by decide) ⟨by omega, by omega⟩ ⟨by omega, by omega⟩ (fun c_123 => ?_) (fun c_123 => ?_)
            · obtain rfl : k = k9 + 1 := by omega
              obtain rfl : r = ((k9 : Nat) : Int) := by have h9 := hr (by omega); omega
              have hE5 : e4 κ H its ((e : Int), lo9, hi9, rt9) := by rw [← hw rfl]; exact hE2
              refine v_aload E 1 rfl dX1_bisect_143 ?_
              refine V.frame (fun hfz_fr_66 hfk_fr_66 => ?_)
              rw [hH0] at hfz_fr_66 hfk_fr_66
              rw [hA0] at hfk_fr_66
              have hC_fr_66 := hC.call hA93 hfz_fr_66 hfk_fr_66
              refine V.frame (fun hfz_fr_67 hfk_fr_67 => ?_)
              rw [hH0] at hfz_fr_67 hfk_fr_67
              rw [hA0] at hfk_fr_67
              refine v_new E in_X5 tyX5 tyX5_ok q418 q1595 q102 (ci := 4) rfl (fs := [vi 0, vi 0, vi 0, vi 0]) (fun j hj => by rcases (show j = 0 ∨ j = 1 ∨ j = 2 ∨ j = 3 by omega) with rfl | rfl | rfl | rfl <;> rfl) (cb' := ((((((((60 + Cf + 2 * C1) - 1) - 50) - Cf) - C1) - C1) - 1) - 1)) (sb' := (((((((((8 + (4 * K3 + N3 + 28) * 6) + Lf + 2 * L1 + 3000) - 6) - (8 + (4 * K3 + N3 + 28) * 6)) - Lf) - L1) - L1) - 5) - 4)) (by omega) (by omega) dX1_bisect_145 (fun q_68 H_69 hq_72 ho_70 hg_71 => ?_)
              refine v_dup E rfl dX1_bisect_148 ?_
              refine v_iload_n E 6 rfl dX1_bisect_149 ?_
              refine v_iconst E dX1_bisect_150 ?_
              refine v_aload_n E 7 rfl dX1_bisect_151 ?_
              refine v_getfN (host := "SturmRoots") E in_X5 (hE5.grow hg_71) (ci := 4) rfl 1 (by decide) (by decide +kernel) rfl (v := vi lo9) rfl dX1_bisect_152 ?_
              refine v_imul E dX1_bisect_155 ?_
              refine v_iload E 5 rfl dX1_bisect_156 ?_
              refine v_iload E 2 rfl dX1_bisect_158 ?_
              refine V.frame (fun hfz_fr_74 hfk_fr_74 => ?_)
              rw [hH0] at hfz_fr_74 hfk_fr_74
              rw [hA0] at hfk_fr_74
              have hC_fr_74 := hC.call hA93 hfz_fr_74 hfk_fr_74
              refine v_callI E (As := [vi ((e + 1 : Nat) : Int), vi (2 * lo9), vi (lo9 + hi9), vi (((fch (T kk0) lo9 e) - (fch (T kk0) (lo9 + hi9) (e + 1))) - 1)]) (b := q_68) (i_init κ H_69 ho_70) q1598 q102 q1596 q1597 rfl 4 (by decide +kernel) rfl (by decide) (by decide) (cb' := (((((((((60 + Cf + 2 * C1) - 1) - 50) - Cf) - C1) - C1) - 1) - 1) - 0)) (sb' := ((((((((((8 + (4 * K3 + N3 + 28) * 6) + Lf + 2 * L1 + 3000) - 6) - (8 + (4 * K3 + N3 + 28) * 6)) - Lf) - L1) - L1) - 5) - 4) - 0)) (by omega) (by omega) rfl (rest := [.ref q_68, .ref it]) (Nat.le_of_ble_eq_true rfl) (fun q9 h => hNew q9 (by rw [show q9 = q_68 from h]; omega)) dX1_bisect_160 (fun v_75 H_76 hpost_77 hz_78 hk_79 => ?_)
              obtain ⟨rfl, hEq_73⟩ := hpost_77
              have hkN_80 : ∀ q9 : Nat, q9 < Array.size H → ¬ (fun _ => False : Nat → Prop) q9 → H_76[q9]? = H[q9]? := fun q9 h9 _ => (hk_79 q9 (by rw [hg_71.1]; omega) (fun h => by have h8 : q9 = q_68 := h; omega)).trans (hg_71.2 q9 h9)
              have hl_81 := CT.kf0 hC_fr_66 (kF.ext (by have := hg_71.1; omega) hkN_80) hT2
              have hl_82 := IA.kf0 hC_fr_66 (kF.ext (by have := hg_71.1; omega) hkN_80) hI2
              have hl_83 := LI.kf (kF.ext (by have := hg_71.1; omega) hkN_80) hL2 (fun h => h)
              have hl_84 := (e4_kf hC.D (kF.ext (by have := hg_71.1; omega) hkN_80) hE5)
              refine V.eq (st' := [.ref q_68, .ref it]) rfl ?_
              refine V.frame (fun hfz_fr_85 hfk_fr_85 => ?_)
              rw [hH0] at hfz_fr_85 hfk_fr_85
              rw [hA0] at hfk_fr_85
              have hC_fr_85 := hC.call hA93 hfz_fr_85 hfk_fr_85
              obtain ⟨y_86, hy_87, -⟩ := hl_82.2 k9 (by omega)
              have hcp_y_86 : 0 < cap := by have h9 := hl_82.1.2.2.1; omega
              refine v_callFH E (As := [.ref q_68]) (b := it) (ci := 8) (C := RJ27) (T := TJ27) (N := 5) hl_83.1 rfl (j_iset κ H_76 hC_fr_85 (r := k9) (by omega) hy_87 ⟨4, _, hEq_73, Or.inr (Or.inr (Or.inl rfl))⟩ hl_82.1 hl_83) (by decide +kernel) (lw_FW q1677 q1680 q1682 q103 q1684) 1 (by decide +kernel) rfl (by decide) (by decide) (cb' := ((((((((((60 + Cf + 2 * C1) - 1) - 50) - Cf) - C1) - C1) - 1) - 1) - 0) - 0)) (sb' := (((((((((((8 + (4 * K3 + N3 + 28) * 6) + Lf + 2 * L1 + 3000) - 6) - (8 + (4 * K3 + N3 + 28) * 6)) - Lf) - L1) - L1) - 5) - 4) - 0) - 0)) (by omega) (by omega) rfl (rest := []) (Nat.le_of_ble_eq_true rfl) (fun q h => by have h9 := pA.arr hfk_fr_85 hl_82.1.2.1 (hl_82.1.2.2.2.2.2.2.2.2.1 hcp_y_86); rw [← show q = _ from h] at h9; exact h9.elim (fun e => hAll q e) (fun e => hNew q e)) dX1_bisect_163 (fun v_88 H_89 hpost_90 hz_91 hk_92 => ?_)
              obtain ⟨rfl, hA_93, hLI_94⟩ := hpost_90
              have hF_95 : kF κ H_76 H_89 (fun q => q = bi) := kF.ivl hl_83 hl_82 (fun q h => Or.inr (Or.inr ⟨h, hcp_y_86⟩)) hz_91 hk_92
              have hT_96 := CT.kfA hC_fr_85 hF_95 (fun q h => Or.inr (Or.inl h)) dS_li dS_bi hl_81
              have hI_97 := IA.set (w := (((e + 1 : Nat) : Int), 2 * lo9, lo9 + hi9, ((fch (T kk0) lo9 e) - (fch (T kk0) (lo9 + hi9) (e + 1))) - 1)) hC_fr_85 hF_95 hA_93 hEq_73 hl_82
              have hE_98 := (e4_kf hC.D hF_95 hl_84)
              have hE_99 := (e4_kf hC.D hF_95 hEq_73)
              refine V.eq (st' := []) rfl ?_
              refine v_iload E 4 rfl dX1_bisect_168 ?_
              refine v_iconst E dX1_bisect_170 ?_
              refine v_icmp_ne E (tgt := 194) dX1_bisect_171 (by decide) ⟨by omega, by omega⟩ ⟨by omega, by omega⟩ (fun c_171 => absurd c_171 (by omega)) (fun c_171 => ?_)
              refine v_aload E 1 rfl dX1_bisect_174 ?_
              refine V.frame (fun hfz_fr_100 hfk_fr_100 => ?_)
              rw [hH0] at hfz_fr_100 hfk_fr_100
              rw [hA0] at hfk_fr_100
              have hC_fr_100 := hC.call hA93 hfz_fr_100 hfk_fr_100
              refine V.frame (fun hfz_fr_101 hfk_fr_101 => ?_)
              rw [hH0] at hfz_fr_101 hfk_fr_101
              rw [hA0] at hfk_fr_101
              refine v_new E in_X5 tyX5 tyX5_ok q418 q1595 q102 (ci := 4) rfl (fs := [vi 0, vi 0, vi 0, vi 0]) (fun j hj => by rcases (show j = 0 ∨ j = 1 ∨ j = 2 ∨ j = 3 by omega) with rfl | rfl | rfl | rfl <;> rfl) (cb' := (((((((((((60 + Cf + 2 * C1) - 1) - 50) - Cf) - C1) - C1) - 1) - 1) - 0) - 0) - 1)) (sb' := ((((((((((((8 + (4 * K3 + N3 + 28) * 6) + Lf + 2 * L1 + 3000) - 6) - (8 + (4 * K3 + N3 + 28) * 6)) - Lf) - L1) - L1) - 5) - 4) - 0) - 0) - 4)) (by omega) (by omega) dX1_bisect_176 (fun q_102 H_103 hq_106 ho_104 hg_105 => ?_)
              refine v_dup E rfl dX1_bisect_179 ?_
              refine v_iload_n E 6 rfl dX1_bisect_180 ?_
              refine v_iload E 5 rfl dX1_bisect_181 ?_
              refine v_iload E 5 rfl dX1_bisect_183 ?_
              refine v_iconst E dX1_bisect_185 ?_
              refine V.frame (fun hfz_fr_108 hfk_fr_108 => ?_)
              rw [hH0] at hfz_fr_108 hfk_fr_108
              rw [hA0] at hfk_fr_108
              have hC_fr_108 := hC.call hA93 hfz_fr_108 hfk_fr_108
              refine v_callI E (As := [vi ((e + 1 : Nat) : Int), vi (lo9 + hi9), vi (lo9 + hi9), vi 1]) (b := q_102) (i_init κ H_103 ho_104) q1598 q102 q1596 q1597 rfl 4 (by decide +kernel) rfl (by decide) (by decide) (cb' := ((((((((((((60 + Cf + 2 * C1) - 1) - 50) - Cf) - C1) - C1) - 1) - 1) - 0) - 0) - 1) - 0)) (sb' := (((((((((((((8 + (4 * K3 + N3 + 28) * 6) + Lf + 2 * L1 + 3000) - 6) - (8 + (4 * K3 + N3 + 28) * 6)) - Lf) - L1) - L1) - 5) - 4) - 0) - 0) - 4) - 0)) (by omega) (by omega) rfl (rest := [.ref q_102, .ref it]) (Nat.le_of_ble_eq_true rfl) (fun q9 h => hNew q9 (by rw [show q9 = q_102 from h]; omega)) dX1_bisect_186 (fun v_109 H_110 hpost_111 hz_112 hk_113 => ?_)
              obtain ⟨rfl, hEq_107⟩ := hpost_111
              have hkN_114 : ∀ q9 : Nat, q9 < Array.size H_89 → ¬ (fun _ => False : Nat → Prop) q9 → H_110[q9]? = H_89[q9]? := fun q9 h9 _ => (hk_113 q9 (by rw [hg_105.1]; omega) (fun h => by have h8 : q9 = q_102 := h; omega)).trans (hg_105.2 q9 h9)
              have hl_115 := CT.kf0 hC_fr_100 (kF.ext (by have := hg_105.1; omega) hkN_114) hT_96
              have hl_116 := IA.kf0 hC_fr_100 (kF.ext (by have := hg_105.1; omega) hkN_114) hI_97
              have hl_117 := LI.kf (kF.ext (by have := hg_105.1; omega) hkN_114) hLI_94 (fun h => h)
              have hl_118 := (e4_kf hC.D (kF.ext (by have := hg_105.1; omega) hkN_114) hE_98)
              have hl_119 := (e4_kf hC.D (kF.ext (by have := hg_105.1; omega) hkN_114) hE_99)
              refine V.eq (st' := [.ref q_102, .ref it]) rfl ?_
              refine V.frame (fun hfz_fr_120 hfk_fr_120 => ?_)
              rw [hH0] at hfz_fr_120 hfk_fr_120
              rw [hA0] at hfk_fr_120
              have hC_fr_120 := hC.call hA93 hfz_fr_120 hfk_fr_120
              have hag0 := alG_b (cap := cap) (by omega)
              have hLc0 : LI κ H_110 it li (((k9 + 1) : Nat) : Int) ((k9 : Nat) : Int) md := by have h9 := hl_117; rw [show ((k9 + 1 : Nat) : Int) = (((k9 + 1) : Nat) : Int) by omega] at h9; exact h9
              refine v_callFH E (As := [.ref q_102]) (b := it) (ci := 8) (C := RJ27) (T := TJ27) (N := 5) hl_117.1 rfl (j_iadd κ H_110 hC_fr_120 (c := (k9 + 1)) (by omega) (by omega) ⟨4, _, hEq_107, Or.inr (Or.inr (Or.inl rfl))⟩ hl_116.1 hLc0) (by decide +kernel) (lw_FW q1695 q1698 q1700 q103 q1702) 1 (by decide +kernel) rfl (by decide) (by decide) (cb' := (((((((((((((60 + Cf + 2 * C1) - 1) - 50) - Cf) - C1) - C1) - 1) - 1) - 0) - 0) - 1) - 0) - 1)) (sb' := ((((((((((((((8 + (4 * K3 + N3 + 28) * 6) + Lf + 2 * L1 + 3000) - 6) - (8 + (4 * K3 + N3 + 28) * 6)) - Lf) - L1) - L1) - 5) - 4) - 0) - 0) - 4) - 0) - alG cap)) (by omega) (by omega) rfl (rest := []) (Nat.le_of_ble_eq_true rfl) (fun q h => h.elim (fun h => hNew q (by rw [h]; exact hitH)) (fun h => h.elim (fun h => by have h9 := pA.any hfk_fr_120 hl_116.1.1 (Or.inr (Or.inr (Or.inl rfl))) hl_116.1.2.2.2.2.2.2.2.1; rw [← h] at h9; exact h9.elim (fun e => hAll q e) (fun e => hNew q e)) (fun h => by have h9 := pA.arr hfk_fr_120 hl_116.1.2.1 (hl_116.1.2.2.2.2.2.2.2.2.1 h.2); rw [← h.1] at h9; exact h9.elim (fun e => hAll q e) (fun e => hNew q e)))) dX1_bisect_189 (fun v_121 H_122 hpost_123 hz_124 hk_125 => ?_)
              obtain ⟨rfl, bi0, cap0, md0_, g0_, hA_126, hg_127, hbc0, hLI_128⟩ := hpost_123
              have hF_129 := kF.ivl hl_117 hl_116 (fun q h => h) hz_124 hk_125
              have hT_130 := CT.add hC_fr_120 hl_117 hl_116 (fun q h => h) hz_124 hk_125 (hbc0.elim (fun h => Or.inl h.1) (fun h => Or.inr h.1)) hl_115
              have hI_131 := IA.ins (w := (((e + 1 : Nat) : Int), lo9 + hi9, lo9 + hi9, 1)) hC_fr_120 hF_129 (by omega) hA_126 hg_127 hEq_107 hl_116
              have hcc0 : cap0 = cap ∨ cap0 = alG cap ∧ n = cap := hbc0.elim (fun h => Or.inl h.2) (fun h => Or.inr h.2)
              have hE_132 := (e4_kf hC.D hF_129 hl_118)
              have hE_133 := (e4_kf hC.D hF_129 hl_119)
              have hE_134 := (e4_kf hC.D hF_129 hEq_107)
              refine V.eq (st' := []) rfl ?_
              refine v_aload E 1 rfl dX1_bisect_194 ?_
              refine V.frame (fun hfz_fr_135 hfk_fr_135 => ?_)
              rw [hH0] at hfz_fr_135 hfk_fr_135
              rw [hA0] at hfk_fr_135
              have hC_fr_135 := hC.call hA93 hfz_fr_135 hfk_fr_135
              refine V.frame (fun hfz_fr_136 hfk_fr_136 => ?_)
              rw [hH0] at hfz_fr_136 hfk_fr_136
              rw [hA0] at hfk_fr_136
              refine v_new E in_X5 tyX5 tyX5_ok q418 q1595 q102 (ci := 4) rfl (fs := [vi 0, vi 0, vi 0, vi 0]) (fun j hj => by rcases (show j = 0 ∨ j = 1 ∨ j = 2 ∨ j = 3 by omega) with rfl | rfl | rfl | rfl <;> rfl) (cb' := ((((((((((((((60 + Cf + 2 * C1) - 1) - 50) - Cf) - C1) - C1) - 1) - 1) - 0) - 0) - 1) - 0) - 1) - 1)) (sb' := (((((((((((((((8 + (4 * K3 + N3 + 28) * 6) + Lf + 2 * L1 + 3000) - 6) - (8 + (4 * K3 + N3 + 28) * 6)) - Lf) - L1) - L1) - 5) - 4) - 0) - 0) - 4) - 0) - alG cap) - 4)) (by omega) (by omega) dX1_bisect_196 (fun q_137 H_138 hq_141 ho_139 hg_140 => ?_)
              refine v_dup E rfl dX1_bisect_199 ?_
              refine v_iload_n E 6 rfl dX1_bisect_200 ?_
              refine v_iload E 5 rfl dX1_bisect_201 ?_
              refine v_iconst E dX1_bisect_203 ?_
              refine v_aload_n E 7 rfl dX1_bisect_204 ?_
              refine v_getfN (host := "SturmRoots") E in_X5 (hE_132.grow hg_140) (ci := 4) rfl 2 (by decide) (by decide +kernel) rfl (v := vi hi9) rfl dX1_bisect_205 ?_
              refine v_imul E dX1_bisect_208 ?_
              refine v_aload_n E 7 rfl dX1_bisect_209 ?_
              refine v_getfN (host := "SturmRoots") E in_X5 (hE_132.grow hg_140) (ci := 4) rfl 3 (by decide) (by decide +kernel) rfl (v := vi rt9) rfl dX1_bisect_210 ?_
              refine v_iload E 2 rfl dX1_bisect_213 ?_
              refine v_isub E dX1_bisect_215 ?_
              refine v_iload E 4 rfl dX1_bisect_216 ?_
              refine v_isub E dX1_bisect_218 ?_
              refine V.frame (fun hfz_fr_143 hfk_fr_143 => ?_)
              rw [hH0] at hfz_fr_143 hfk_fr_143
              rw [hA0] at hfk_fr_143
              have hC_fr_143 := hC.call hA93 hfz_fr_143 hfk_fr_143
              refine v_callI E (As := [vi ((e + 1 : Nat) : Int), vi (lo9 + hi9), vi (2 * hi9), vi ((rt9 - (((fch (T kk0) lo9 e) - (fch (T kk0) (lo9 + hi9) (e + 1))) - 1)) - 1)]) (b := q_137) (i_init κ H_138 ho_139) q1598 q102 q1596 q1597 rfl 4 (by decide +kernel) rfl (by decide) (by decide) (cb' := (((((((((((((((60 + Cf + 2 * C1) - 1) - 50) - Cf) - C1) - C1) - 1) - 1) - 0) - 0) - 1) - 0) - 1) - 1) - 0)) (sb' := ((((((((((((((((8 + (4 * K3 + N3 + 28) * 6) + Lf + 2 * L1 + 3000) - 6) - (8 + (4 * K3 + N3 + 28) * 6)) - Lf) - L1) - L1) - 5) - 4) - 0) - 0) - 4) - 0) - alG cap) - 4) - 0)) (by omega) (by omega) rfl (rest := [.ref q_137, .ref it]) (Nat.le_of_ble_eq_true rfl) (fun q9 h => hNew q9 (by rw [show q9 = q_137 from h]; omega)) dX1_bisect_219 (fun v_144 H_145 hpost_146 hz_147 hk_148 => ?_)
              obtain ⟨rfl, hEq_142⟩ := hpost_146
              have hkN_149 : ∀ q9 : Nat, q9 < Array.size H_122 → ¬ (fun _ => False : Nat → Prop) q9 → H_145[q9]? = H_122[q9]? := fun q9 h9 _ => (hk_148 q9 (by rw [hg_140.1]; omega) (fun h => by have h8 : q9 = q_137 := h; omega)).trans (hg_140.2 q9 h9)
              have hl_150 := CT.kf0 hC_fr_135 (kF.ext (by have := hg_140.1; omega) hkN_149) hT_130
              have hl_151 := IA.kf0 hC_fr_135 (kF.ext (by have := hg_140.1; omega) hkN_149) hI_131
              have hl_152 := LI.kf (kF.ext (by have := hg_140.1; omega) hkN_149) hLI_128 (fun h => h)
              have hl_153 := (e4_kf hC.D (kF.ext (by have := hg_140.1; omega) hkN_149) hE_132)
              have hl_154 := (e4_kf hC.D (kF.ext (by have := hg_140.1; omega) hkN_149) hE_133)
              have hl_155 := (e4_kf hC.D (kF.ext (by have := hg_140.1; omega) hkN_149) hE_134)
              refine V.eq (st' := [.ref q_137, .ref it]) rfl ?_
              refine V.frame (fun hfz_fr_156 hfk_fr_156 => ?_)
              rw [hH0] at hfz_fr_156 hfk_fr_156
              rw [hA0] at hfk_fr_156
              have hC_fr_156 := hC.call hA93 hfz_fr_156 hfk_fr_156
              have hag1 := alG_b (cap := cap0) (by omega)
              have hLc1 : LI κ H_145 it li (((k9 + 1 + 1) : Nat) : Int) (-1) md0_ := by have h9 := hl_152; rw [show (((k9 + 1) : Nat) : Int) + 1 = (((k9 + 1 + 1) : Nat) : Int) by omega] at h9; exact h9
              refine v_callFH E (As := [.ref q_137]) (b := it) (ci := 8) (C := RJ27) (T := TJ27) (N := 5) hl_152.1 rfl (j_iadd κ H_145 hC_fr_156 (c := (k9 + 1 + 1)) (by omega) (by omega) ⟨4, _, hEq_142, Or.inr (Or.inr (Or.inl rfl))⟩ hl_151.1 hLc1) (by decide +kernel) (lw_FW q1695 q1698 q1700 q103 q1702) 1 (by decide +kernel) rfl (by decide) (by decide) (cb' := ((((((((((((((((60 + Cf + 2 * C1) - 1) - 50) - Cf) - C1) - C1) - 1) - 1) - 0) - 0) - 1) - 0) - 1) - 1) - 0) - 1)) (sb' := (((((((((((((((((8 + (4 * K3 + N3 + 28) * 6) + Lf + 2 * L1 + 3000) - 6) - (8 + (4 * K3 + N3 + 28) * 6)) - Lf) - L1) - L1) - 5) - 4) - 0) - 0) - 4) - 0) - alG cap) - 4) - 0) - alG cap0)) (by omega) (by omega) rfl (rest := []) (Nat.le_of_ble_eq_true rfl) (fun q h => h.elim (fun h => hNew q (by rw [h]; exact hitH)) (fun h => h.elim (fun h => by have h9 := pA.any hfk_fr_156 hl_151.1.1 (Or.inr (Or.inr (Or.inl rfl))) hl_151.1.2.2.2.2.2.2.2.1; rw [← h] at h9; exact h9.elim (fun e => hAll q e) (fun e => hNew q e)) (fun h => by have h9 := pA.arr hfk_fr_156 hl_151.1.2.1 (hl_151.1.2.2.2.2.2.2.2.2.1 h.2); rw [← h.1] at h9; exact h9.elim (fun e => hAll q e) (fun e => hNew q e)))) dX1_bisect_222 (fun v_157 H_158 hpost_159 hz_160 hk_161 => ?_)
              obtain ⟨rfl, bi1, cap1, md1_, g1_, hA_162, hg_163, hbc1, hLI_164⟩ := hpost_159
              have hF_165 := kF.ivl hl_152 hl_151 (fun q h => h) hz_160 hk_161
              have hT_166 := CT.add hC_fr_156 hl_152 hl_151 (fun q h => h) hz_160 hk_161 (hbc1.elim (fun h => Or.inl h.1) (fun h => Or.inr h.1)) hl_150
              have hI_167 := IA.ins (w := (((e + 1 : Nat) : Int), lo9 + hi9, 2 * hi9, (rt9 - (((fch (T kk0) lo9 e) - (fch (T kk0) (lo9 + hi9) (e + 1))) - 1)) - 1)) hC_fr_156 hF_165 (by omega) hA_162 hg_163 hEq_142 hl_151
              have hcc1 : cap1 = cap0 ∨ cap1 = alG cap0 ∧ (n + 1) = cap0 := hbc1.elim (fun h => Or.inl h.2) (fun h => Or.inr h.2)
              have hE_168 := (e4_kf hC.D hF_165 hl_153)
              have hE_169 := (e4_kf hC.D hF_165 hl_154)
              have hE_170 := (e4_kf hC.D hF_165 hl_155)
              have hE_171 := (e4_kf hC.D hF_165 hEq_142)
              refine V.eq (st' := []) rfl ?_
              refine v_aload_n E 9 rfl dX1_bisect_227 ?_
              refine v_getf E in_X1 hT_166.2.1 (ci := 0) rfl 2 (by decide) q274 rfl (v := .ref li) rfl dX1_bisect_228 ?_
              refine V.frame (fun hfz_fr_172 hfk_fr_172 => ?_)
              rw [hH0] at hfz_fr_172 hfk_fr_172
              rw [hA0] at hfk_fr_172
              have hC_fr_172 := hC.call hA93 hfz_fr_172 hfk_fr_172
              refine v_callV E (As := []) (b := li) (ci := 5) (C := RJ2) (T := TJ2) (N := 3) hI_167.1.1 rfl (j_size κ H_158 hI_167.1) (lw_V q286 q152 q153 q73 q154) 0 (by decide +kernel) rfl (by decide) (by decide) (cb' := (((((((((((((((((60 + Cf + 2 * C1) - 1) - 50) - Cf) - C1) - C1) - 1) - 1) - 0) - 0) - 1) - 0) - 1) - 1) - 0) - 1) - 0)) (sb' := ((((((((((((((((((8 + (4 * K3 + N3 + 28) * 6) + Lf + 2 * L1 + 3000) - 6) - (8 + (4 * K3 + N3 + 28) * 6)) - Lf) - L1) - L1) - 5) - 4) - 0) - 0) - 4) - 0) - alG cap) - 4) - 0) - alG cap0) - 0)) (by omega) (by omega) rfl (rest := []) (Nat.le_of_ble_eq_true rfl) (fun q h => h.elim) dX1_bisect_231 (fun v_173 H_174 hpost_175 hz_176 hk_177 => ?_)
              obtain rfl := hpost_175
              have hl_178 := CT.kf0 hC_fr_172 (kF.ext hz_176 hk_177) hT_166
              have hl_179 := IA.kf0 hC_fr_172 (kF.ext hz_176 hk_177) hI_167
              have hl_180 := LI.kf (kF.ext hz_176 hk_177) hLI_164 (fun h => h)
              have hl_181 := (e4_kf hC.D (kF.ext hz_176 hk_177) hE_168)
              have hl_182 := (e4_kf hC.D (kF.ext hz_176 hk_177) hE_169)
              have hl_183 := (e4_kf hC.D (kF.ext hz_176 hk_177) hE_170)
              have hl_184 := (e4_kf hC.D (kF.ext hz_176 hk_177) hE_171)
              refine V.eq (st' := [vi ((((n + 1) + 1) : Nat) : Int)]) rfl ?_
              refine V.rt E hE (fun z9 E hE => ?_)
              refine v_iret E hE dX1_bisect_234 ?_
              have hxn : xbN (T kk0) e lo9 hi9 = 2 := if_pos hroot
              have hop : xoBi S (T kk0) n iv (k9 : Int) = (((n + 2 : Nat) : Int), 0, S) := by unfold xoBi; rw [if_pos ⟨by omega, by omega⟩, Int.toNat_natCast, hiv9]; show (if lo9 = hi9 ∨ (e : Int) = 12 then _ else (((n + xbN (T kk0) (Int.toNat (e : Int)) lo9 hi9 : Nat) : Int), 0, S)) = _; rw [if_neg (by omega), Int.toNat_natCast, hxn]
              have hxv : xbV (T kk0) iv k9 e lo9 hi9 rt9 = (insI (insI (va_up iv k9 (((e + 1 : Nat) : Int), 2 * lo9, lo9 + hi9, ((fch (T kk0) lo9 e) - (fch (T kk0) (lo9 + hi9) (e + 1))) - 1)) (k9 + 1) (((e + 1 : Nat) : Int), lo9 + hi9, lo9 + hi9, 1)) (k9 + 1 + 1) (((e + 1 : Nat) : Int), lo9 + hi9, 2 * hi9, (rt9 - (((fch (T kk0) lo9 e) - (fch (T kk0) (lo9 + hi9) (e + 1))) - 1)) - 1)) := if_pos hroot
              refine ⟨by rw [hop], by rw [hop], cap1, by omega, ?_⟩
              rw [Int.toNat_natCast, hiv9]
              show CP κ _ x S isoP (n + xbN (T kk0) (Int.toNat (e : Int)) lo9 hi9) cap1 (xbV (T kk0) iv k9 (Int.toNat (e : Int)) lo9 hi9 rt9)
              rw [Int.toNat_natCast, hxn, hxv]
              exact CS.pub (CT.join hl_178 hl_179) hST hiso
            · refine v_aload E 1 rfl dX1_bisect_126 ?_
              refine V.frame (fun hfz_fr_185 hfk_fr_185 => ?_)
              rw [hH0] at hfz_fr_185 hfk_fr_185
              rw [hA0] at hfk_fr_185
              have hC_fr_185 := hC.call hA93 hfz_fr_185 hfk_fr_185
              obtain ⟨y_186, hy_187, hEn_188⟩ := hI2.2 k (by omega)
              refine v_callF E (As := []) (b := it) (ci := 8) (C := RJ27) (T := TJ27) (N := 5) hL2.1 rfl (j_next8 κ H hC_fr_185 (i := k) (y := y_186) (by omega) hy_187 hI2.1 hL2) (by decide +kernel) (lw_F q1671 q1675 q339 q92 q341) 0 (by decide +kernel) rfl (by decide) (by decide) (cb' := ((((((((60 + Cf + 2 * C1) - 1) - 50) - Cf) - C1) - C1) - 1) - 0)) (sb' := (((((((((8 + (4 * K3 + N3 + 28) * 6) + Lf + 2 * L1 + 3000) - 6) - (8 + (4 * K3 + N3 + 28) * 6)) - Lf) - L1) - L1) - 5) - 0)) (by omega) (by omega) rfl (rest := []) (Nat.le_of_ble_eq_true rfl) (fun q9 h => hNew q9 (by rw [show q9 = it from h]; exact hitH)) dX1_bisect_128 (fun v_189 H_190 hpost_191 hz_192 hk_193 => ?_)
              obtain ⟨rfl, hLI_194⟩ := hpost_191
              have hl_195 := CT.kfA hC_fr_185 (kF.li (A := fun q => q = it) hL2 (fun q h => h) hz_192 hk_193) (fun q h => Or.inr (Or.inr (LI.cl hL2 h))) dS_li dS_bi hT2
              have hl_196 := IA.kfI hC_fr_185 (kF.li (A := fun q => q = it) hL2 (fun q h => h) hz_192 hk_193) (fun q h => LI.cl hL2 h) hI2
              have hl_197 := (e4_kf hC.D (kF.li (A := fun q => q = it) hL2 (fun q h => h) hz_192 hk_193) hE2)
              have hl_198 := (e4_kf hC.D (kF.li (A := fun q => q = it) hL2 (fun q h => h) hz_192 hk_193) hEn_188)
              refine V.eq (st' := [.ref y_186]) rfl ?_
              refine v_castS E hl_198 (q := (RX5, TX5, 4)) rfl q418 dX1_bisect_133 ?_
              refine v_astore_n E dX1_bisect_136 (zlt hL rfl) (lv' := [(2, .ref y_186), (9, vi (k : Int)), (8, .ref it), (7, vi (((fch (T kk0) lo9 e) - (fch (T kk0) (lo9 + hi9) (e + 1))) - 1)), (6, .ref ls_18), (5, vi 1), (4, vi (lo9 + hi9)), (3, vi ((e + 1 : Nat) : Int)), (1, vi ((k9 : Nat) : Int)), (0, .ref x)]) rfl ?_
              refine v_iinc E 1 rfl dX1_bisect_137 (zlt hL rfl) (lv' := [(9, vi ((k : Int) + 1)), (2, .ref y_186), (8, .ref it), (7, vi (((fch (T kk0) lo9 e) - (fch (T kk0) (lo9 + hi9) (e + 1))) - 1)), (6, .ref ls_18), (5, vi 1), (4, vi (lo9 + hi9)), (3, vi ((e + 1 : Nat) : Int)), (1, vi ((k9 : Nat) : Int)), (0, .ref x)]) rfl ?_
              refine v_goto E (tgt := 120) dX1_bisect_140 (by decide) ?_
              refine V.sub [0, 2, 3, 4, 5, 6, 7, 1, 8, 9] (lv' := [(9, vi ((k : Int) + 1)), (8, .ref it), (7, vi (((fch (T kk0) lo9 e) - (fch (T kk0) (lo9 + hi9) (e + 1))) - 1)), (6, .ref ls_18), (5, vi 1), (4, vi (lo9 + hi9)), (3, vi ((e + 1 : Nat) : Int)), (2, .ref y_186), (1, vi ((k9 : Nat) : Int)), (0, .ref x)]) rfl ?_
              exact ih_120  H_190 (k + 1) y_186 (k : Int) (iv k) (by omega) (by omega) (fun _ => by omega) (fun h => by rw [show k = k9 by omega]; exact hiv9) hl_195 hl_196 hLI_194 hl_198
        refine V.sub [0, 1, 2, 3, 4, 5, 6, 7, 9, 8] (lv' := [(9, vi 0), (8, .ref it), (7, vi (((fch (T kk0) lo9 e) - (fch (T kk0) (lo9 + hi9) (e + 1))) - 1)), (6, .ref ls_18), (5, vi 1), (4, vi (lo9 + hi9)), (3, vi ((e + 1 : Nat) : Int)), (2, .ref y9), (1, vi ((k9 : Nat) : Int)), (0, .ref x)]) rfl ?_
        exact loop_120 ((k9 + 1) + 1) H_59 0 y9 (-1) ((e : Int), lo9, hi9, rt9) (by omega) (Nat.zero_le _) (fun h => absurd h (by decide)) (fun _ => rfl) hl_64 hl_65 hitI hl_63
      ·
        refine V.eq (st' := [vi 0]) (by rw [if_neg hroot]; rfl) ?_
        refine v_if_eq E (tgt := 67) dX1_bisect_60 (by decide) ⟨by omega, by omega⟩ (fun c_60 => ?_) (fun c_60 => absurd c_60 (by omega))
        refine v_iconst E dX1_bisect_67 ?_
        refine v_istore E dX1_bisect_68 (zlt hL rfl) (lv' := [(5, vi 0), (4, vi (lo9 + hi9)), (3, vi ((e + 1 : Nat) : Int)), (2, .ref y9), (0, .ref x), (1, vi ((k9 : Nat) : Int))]) rfl ?_
        refine v_aload_n E 4 rfl dX1_bisect_70 ?_
        refine v_getf E in_X1 hl_16.2.1 (ci := 0) rfl 1 (by decide) q273 rfl (v := (isoV iso)) rfl dX1_bisect_71 ?_
        refine V.eq (st' := [.ref kk0]) (by rw [hik]; rfl) ?_
        refine V.frame (fun hfz_fr_200 hfk_fr_200 => ?_)
        rw [hH0] at hfz_fr_200 hfk_fr_200
        rw [hA0] at hfk_fr_200
        have hC_fr_200 := hC.call hA93 hfz_fr_200 hfk_fr_200
        obtain ⟨-, -, pk_206, vs_207, vf_208, vg_209, hkn_210, hpk_211, -⟩ := id (hl_16.2.2.2.2.2 kk0 hik)
        refine v_callV E (As := []) (b := kk0) (ci := 1) (C := RX2) (T := TX2) (N := 4) hkn_210 rfl (k_fs κ H_12 (b := false) (N := N) (M := M) (M0 := M0) (N1 := N1) (M1 := M1) (N2 := N) (M2 := M) (M02 := M0) hC_fr_200 (fun q h => by have h2 := hsl0; exact ⟨by omega, by omega, by omega, by omega⟩) hQ9.1 hQ9.2.1 (hl_16.2.2.2.2.2 kk0 hik)) (lw_V q1646 q1647 q1648 q74 q1649) 0 (by decide +kernel) rfl (by decide) (by decide) (cb' := ((((60 + Cf + 2 * C1) - 1) - 50) - Cf)) (sb' := (((((8 + (4 * K3 + N3 + 28) * 6) + Lf + 2 * L1 + 3000) - 6) - (8 + (4 * K3 + N3 + 28) * 6)) - Lf)) (by rw [bC_f]; have := hQ9.2.2.1; omega) (by rw [bC_f]; have := hQ9.2.2.2.1; omega) rfl (rest := []) (Nat.le_of_ble_eq_true rfl) (fun q h => by obtain ⟨fs9, h8⟩ := (hl_16.2.2.2.2.2 kk0 hik).cl; have h9 := pA.any hfk_fr_200 h8 (Or.inr (Or.inl rfl)) (hl_16.2.2.2.2.2 kk0 hik).2.1; rw [← show q = _ from h] at h9; exact h9.elim (fun e => hAll q e) (fun e => hNew q e)) dX1_bisect_74 (fun v_201 H_202 hpost_203 hz_204 hk_205 => ?_)
        obtain ⟨ls_199, rfl, hls_199, hKls_199⟩ := hpost_203
        have hSk_212 := kS.of (hl_16.2.2.2.2.2 kk0 hik) hKls_199 hz_204 hk_205
        have hl_213 := CS.ks hC_fr_200 hSk_212 hKls_199 hl_16
        have hl_214 := kS.obj hC_fr_200 hSk_212 hl_17 (by decide) (by decide)
        have hl_215 := Po.ks hC_fr_200 hSk_212 hpk_211
        refine V.eq (st' := [.ref ls_199]) rfl ?_
        refine v_astore E dX1_bisect_77 (zlt hL rfl) (lv' := [(6, .ref ls_199), (5, vi 0), (4, vi (lo9 + hi9)), (3, vi ((e + 1 : Nat) : Int)), (2, .ref y9), (0, .ref x), (1, vi ((k9 : Nat) : Int))]) rfl ?_
        refine v_aload E 0 rfl dX1_bisect_79 ?_
        refine v_aload_n E 4 rfl dX1_bisect_81 ?_
        refine v_getfN (host := "SturmRoots") E in_X5 hl_214 (ci := 4) rfl 1 (by decide) (by decide +kernel) rfl (v := vi lo9) rfl dX1_bisect_82 ?_
        refine v_i2l E ⟨by omega, by omega⟩ dX1_bisect_85 ?_
        refine v_aload_n E 4 rfl dX1_bisect_86 ?_
        refine v_getfN (host := "SturmRoots") E in_X5 hl_214 (ci := 4) rfl 0 (by decide) (by decide +kernel) rfl (v := vi (e : Int)) rfl dX1_bisect_87 ?_
        refine V.frame (fun hfz_fr_216 hfk_fr_216 => ?_)
        rw [hH0] at hfz_fr_216 hfk_fr_216
        rw [hA0] at hfk_fr_216
        have hC_fr_216 := hC.call hA93 hfz_fr_216 hfk_fr_216
        refine v_callS E (As := [.ref ls_199, vj lo9, vi (e : Int)]) (p_chg κ H_202 (n := lo9) (e := e) (Nt := Nt) (Kt := Kt) hC_fr_216 (show -4294967296 < lo9 ∧ lo9 < 4294967296 from ⟨by omega, by omega⟩) (by omega) (hQ9.2.2.2.2.2.2 _ _ (show -4294967296 < lo9 ∧ lo9 < 4294967296 from ⟨by omega, by omega⟩).1 (show -4294967296 < lo9 ∧ lo9 < 4294967296 from ⟨by omega, by omega⟩).2 (by omega)) hls_199) (lw_S q1530 q1531 q70 q1532) 3 (by decide +kernel) rfl (by decide) (by decide) (cb' := (((((60 + Cf + 2 * C1) - 1) - 50) - Cf) - C1)) (sb' := ((((((8 + (4 * K3 + N3 + 28) * 6) + Lf + 2 * L1 + 3000) - 6) - (8 + (4 * K3 + N3 + 28) * 6)) - Lf) - L1)) (by have := hQ9.2.2.2.2.1; omega) (by have := hQ9.2.2.2.2.2.1; omega) rfl (rest := []) (Nat.le_of_ble_eq_true rfl) (fun q h => h.elim) dX1_bisect_90 (fun v_217 H_218 hpost_219 hz_220 hk_221 => ?_)
        obtain rfl := hpost_219
        have hl_222 := CS.kf0 hC_fr_216 (kF.ext hz_220 hk_221) hl_213
        have hl_223 := (e4_kf hC.D (kF.ext hz_220 hk_221) hl_214)
        have hl_224 := Po.kf hC_fr_216 (kF.ext hz_220 hk_221) aD.no hl_215
        have hl_225 := SQ.kf hC_fr_216 (kF.ext hz_220 hk_221) aD.no hls_199
        have hfi_n_226 := fch_in (T kk0) lo9 e
        refine V.eq (st' := [vi (fch (T kk0) lo9 e)]) rfl ?_
        refine v_aload E 0 rfl dX1_bisect_93 ?_
        refine v_iload E 2 rfl dX1_bisect_95 ?_
        refine v_i2l E ⟨by omega, by omega⟩ dX1_bisect_97 ?_
        refine v_iload_n E 3 rfl dX1_bisect_98 ?_
        refine V.frame (fun hfz_fr_227 hfk_fr_227 => ?_)
        rw [hH0] at hfz_fr_227 hfk_fr_227
        rw [hA0] at hfk_fr_227
        have hC_fr_227 := hC.call hA93 hfz_fr_227 hfk_fr_227
        refine v_callS E (As := [.ref ls_199, vj (lo9 + hi9), vi ((e + 1 : Nat) : Int)]) (p_chg κ H_218 (n := (lo9 + hi9)) (e := (e + 1)) (Nt := Nt) (Kt := Kt) hC_fr_227 (show -4294967296 < (lo9 + hi9) ∧ (lo9 + hi9) < 4294967296 from ⟨by omega, by omega⟩) (by omega) (hQ9.2.2.2.2.2.2 _ _ (show -4294967296 < (lo9 + hi9) ∧ (lo9 + hi9) < 4294967296 from ⟨by omega, by omega⟩).1 (show -4294967296 < (lo9 + hi9) ∧ (lo9 + hi9) < 4294967296 from ⟨by omega, by omega⟩).2 (by omega)) hl_225) (lw_S q1530 q1531 q70 q1532) 3 (by decide +kernel) rfl (by decide) (by decide) (cb' := ((((((60 + Cf + 2 * C1) - 1) - 50) - Cf) - C1) - C1)) (sb' := (((((((8 + (4 * K3 + N3 + 28) * 6) + Lf + 2 * L1 + 3000) - 6) - (8 + (4 * K3 + N3 + 28) * 6)) - Lf) - L1) - L1)) (by have := hQ9.2.2.2.2.1; omega) (by have := hQ9.2.2.2.2.2.1; omega) rfl (rest := [vi (fch (T kk0) lo9 e)]) (Nat.le_of_ble_eq_true rfl) (fun q h => h.elim) dX1_bisect_99 (fun v_228 H_229 hpost_230 hz_231 hk_232 => ?_)
        obtain rfl := hpost_230
        have hl_233 := CS.kf0 hC_fr_227 (kF.ext hz_231 hk_232) hl_222
        have hl_234 := (e4_kf hC.D (kF.ext hz_231 hk_232) hl_223)
        have hl_235 := Po.kf hC_fr_227 (kF.ext hz_231 hk_232) aD.no hl_224
        have hl_236 := SQ.kf hC_fr_227 (kF.ext hz_231 hk_232) aD.no hl_225
        have hfi_n_237 := fch_in (T kk0) (lo9 + hi9) (e + 1)
        refine V.eq (st' := [vi (fch (T kk0) (lo9 + hi9) (e + 1)), vi (fch (T kk0) lo9 e)]) rfl ?_
        refine v_isub E dX1_bisect_102 ?_
        refine v_iload E 1 rfl dX1_bisect_103 ?_
        refine v_isub E dX1_bisect_105 ?_
        refine v_istore E dX1_bisect_106 (zlt hL rfl) (lv' := [(7, vi (((fch (T kk0) lo9 e) - (fch (T kk0) (lo9 + hi9) (e + 1))) - 0)), (6, .ref ls_199), (5, vi 0), (4, vi (lo9 + hi9)), (3, vi ((e + 1 : Nat) : Int)), (2, .ref y9), (0, .ref x), (1, vi ((k9 : Nat) : Int))]) rfl ?_
        refine V.frame (fun hfz_fr_238 hfk_fr_238 => ?_)
        rw [hH0] at hfz_fr_238 hfk_fr_238
        rw [hA0] at hfk_fr_238
        have hC_fr_238 := hC.call hA93 hfz_fr_238 hfk_fr_238
        obtain ⟨mds, gs, md, g, hCT, hIA⟩ := CS.split hC_fr_238 hl_233
        refine v_aload_n E 6 rfl dX1_bisect_108 ?_
        refine v_getf E in_X1 hCT.2.1 (ci := 0) rfl 2 (by decide) q274 rfl (v := .ref li) rfl dX1_bisect_109 ?_
        refine v_callV E (As := []) (b := li) (ci := 5) (C := RJ2) (T := TJ2) (N := 3) hIA.1.1 rfl (j_liter κ H_229 hC_fr_238 hIA.1) (lw_V q1652 q1653 q1654 q73 q1655) 0 (by decide +kernel) rfl (by decide) (by decide) (cb' := (((((((60 + Cf + 2 * C1) - 1) - 50) - Cf) - C1) - C1) - 1)) (sb' := ((((((((8 + (4 * K3 + N3 + 28) * 6) + Lf + 2 * L1 + 3000) - 6) - (8 + (4 * K3 + N3 + 28) * 6)) - Lf) - L1) - L1) - 5)) (by omega) (by omega) rfl (rest := []) (Nat.le_of_ble_eq_true rfl) (fun q h => h.elim) dX1_bisect_112 (fun v_239 H_240 hpost_241 hz_242 hk_243 => ?_)
        obtain ⟨it, rfl, hitH0, hitI⟩ := hpost_241
        have hl_244 := (e4_kf hC.D (kF.ext hz_242 hk_243) hl_234)
        have hl_245 := CT.kf0 hC_fr_238 (kF.ext hz_242 hk_243) hCT
        have hl_246 := IA.kf0 hC_fr_238 (kF.ext hz_242 hk_243) hIA
        have hitH : H0.size ≤ it := Nat.le_trans hfz_fr_238 hitH0
        refine V.eq (st' := [.ref it]) rfl ?_
        refine v_astore E dX1_bisect_115 (zlt hL rfl) (lv' := [(8, .ref it), (7, vi (((fch (T kk0) lo9 e) - (fch (T kk0) (lo9 + hi9) (e + 1))) - 0)), (6, .ref ls_199), (5, vi 0), (4, vi (lo9 + hi9)), (3, vi ((e + 1 : Nat) : Int)), (2, .ref y9), (0, .ref x), (1, vi ((k9 : Nat) : Int))]) rfl ?_
        refine v_iconst E dX1_bisect_117 ?_
        refine v_istore E dX1_bisect_118 (zlt hL rfl) (lv' := [(9, vi 0), (8, .ref it), (7, vi (((fch (T kk0) lo9 e) - (fch (T kk0) (lo9 + hi9) (e + 1))) - 0)), (6, .ref ls_199), (5, vi 0), (4, vi (lo9 + hi9)), (3, vi ((e + 1 : Nat) : Int)), (2, .ref y9), (0, .ref x), (1, vi ((k9 : Nat) : Int))]) rfl ?_
        have loop_120 : ∀ (m_120 : Nat) (H : Heap) (k its : Nat) (r : Int) (w9 : Ivl), k9 + 1 - k < m_120 → (k ≤ k9 + 1) → (0 < k → r = (k : Int) - 1) → (k = k9 + 1 → w9 = ((e : Int), lo9, hi9, rt9)) → CT κ (dS ls bs li bi) H x ls bs li bi mds gs a iso T → IA κ H li bi md n cap g iv → LI κ H it li (k : Int) r md → e4 κ H its w9 → V z H (((((((60 + Cf + 2 * C1) - 1) - 50) - Cf) - C1) - C1) - 1) ((((((((8 + (4 * K3 + N3 + 28) * 6) + Lf + 2 * L1 + 3000) - 6) - (8 + (4 * K3 + N3 + 28) * 6)) - Lf) - L1) - L1) - 5) 120 [(9, vi (k : Int)), (8, .ref it), (7, vi (((fch (T kk0) lo9 e) - (fch (T kk0) (lo9 + hi9) (e + 1))) - 0)), (6, .ref ls_199), (5, vi 0), (4, vi (lo9 + hi9)), (3, vi ((e + 1 : Nat) : Int)), (2, .ref its), (1, vi ((k9 : Nat) : Int)), (0, .ref x)] [] := by
          intro m_120
          induction m_120 with
          | zero => intro H k its r w9 hm; exact absurd hm (by omega)
          | succ m_120 ih_120 =>
            intro H k its r w9 hm_120 hk hr hw hT2 hI2 hL2 hE2
            refine v_iload E 0 rfl dX1_bisect_120 ?_
            refine v_iload_n E 8 rfl dX1_bisect_122 ?_
            refine v_icmp_gt E (tgt := 143) dX1_bisect_123 (by decide) ⟨by omega, by omega⟩ ⟨by omega, by omega⟩ (fun c_123 => ?_) (fun c_123 => ?_)
            · obtain rfl : k = k9 + 1 := by omega
              obtain rfl : r = ((k9 : Nat) : Int) := by have h9 := hr (by omega); omega
              have hE5 : e4 κ H its ((e : Int), lo9, hi9, rt9) := by rw [← hw rfl]; exact hE2
              refine v_aload E 1 rfl dX1_bisect_143 ?_
              refine V.frame (fun hfz_fr_247 hfk_fr_247 => ?_)
              rw [hH0] at hfz_fr_247 hfk_fr_247
              rw [hA0] at hfk_fr_247
              have hC_fr_247 := hC.call hA93 hfz_fr_247 hfk_fr_247
              refine V.frame (fun hfz_fr_248 hfk_fr_248 => ?_)
              rw [hH0] at hfz_fr_248 hfk_fr_248
              rw [hA0] at hfk_fr_248
              refine v_new E in_X5 tyX5 tyX5_ok q418 q1595 q102 (ci := 4) rfl (fs := [vi 0, vi 0, vi 0, vi 0]) (fun j hj => by rcases (show j = 0 ∨ j = 1 ∨ j = 2 ∨ j = 3 by omega) with rfl | rfl | rfl | rfl <;> rfl) (cb' := ((((((((60 + Cf + 2 * C1) - 1) - 50) - Cf) - C1) - C1) - 1) - 1)) (sb' := (((((((((8 + (4 * K3 + N3 + 28) * 6) + Lf + 2 * L1 + 3000) - 6) - (8 + (4 * K3 + N3 + 28) * 6)) - Lf) - L1) - L1) - 5) - 4)) (by omega) (by omega) dX1_bisect_145 (fun q_249 H_250 hq_253 ho_251 hg_252 => ?_)
              refine v_dup E rfl dX1_bisect_148 ?_
              refine v_iload_n E 6 rfl dX1_bisect_149 ?_
              refine v_iconst E dX1_bisect_150 ?_
              refine v_aload_n E 7 rfl dX1_bisect_151 ?_
              refine v_getfN (host := "SturmRoots") E in_X5 (hE5.grow hg_252) (ci := 4) rfl 1 (by decide) (by decide +kernel) rfl (v := vi lo9) rfl dX1_bisect_152 ?_
              refine v_imul E dX1_bisect_155 ?_
              refine v_iload E 5 rfl dX1_bisect_156 ?_
              refine v_iload E 2 rfl dX1_bisect_158 ?_
              refine V.frame (fun hfz_fr_255 hfk_fr_255 => ?_)
              rw [hH0] at hfz_fr_255 hfk_fr_255
              rw [hA0] at hfk_fr_255
              have hC_fr_255 := hC.call hA93 hfz_fr_255 hfk_fr_255
              refine v_callI E (As := [vi ((e + 1 : Nat) : Int), vi (2 * lo9), vi (lo9 + hi9), vi (((fch (T kk0) lo9 e) - (fch (T kk0) (lo9 + hi9) (e + 1))) - 0)]) (b := q_249) (i_init κ H_250 ho_251) q1598 q102 q1596 q1597 rfl 4 (by decide +kernel) rfl (by decide) (by decide) (cb' := (((((((((60 + Cf + 2 * C1) - 1) - 50) - Cf) - C1) - C1) - 1) - 1) - 0)) (sb' := ((((((((((8 + (4 * K3 + N3 + 28) * 6) + Lf + 2 * L1 + 3000) - 6) - (8 + (4 * K3 + N3 + 28) * 6)) - Lf) - L1) - L1) - 5) - 4) - 0)) (by omega) (by omega) rfl (rest := [.ref q_249, .ref it]) (Nat.le_of_ble_eq_true rfl) (fun q9 h => hNew q9 (by rw [show q9 = q_249 from h]; omega)) dX1_bisect_160 (fun v_256 H_257 hpost_258 hz_259 hk_260 => ?_)
              obtain ⟨rfl, hEq_254⟩ := hpost_258
              have hkN_261 : ∀ q9 : Nat, q9 < Array.size H → ¬ (fun _ => False : Nat → Prop) q9 → H_257[q9]? = H[q9]? := fun q9 h9 _ => (hk_260 q9 (by rw [hg_252.1]; omega) (fun h => by have h8 : q9 = q_249 := h; omega)).trans (hg_252.2 q9 h9)
              have hl_262 := CT.kf0 hC_fr_247 (kF.ext (by have := hg_252.1; omega) hkN_261) hT2
              have hl_263 := IA.kf0 hC_fr_247 (kF.ext (by have := hg_252.1; omega) hkN_261) hI2
              have hl_264 := LI.kf (kF.ext (by have := hg_252.1; omega) hkN_261) hL2 (fun h => h)
              have hl_265 := (e4_kf hC.D (kF.ext (by have := hg_252.1; omega) hkN_261) hE5)
              refine V.eq (st' := [.ref q_249, .ref it]) rfl ?_
              refine V.frame (fun hfz_fr_266 hfk_fr_266 => ?_)
              rw [hH0] at hfz_fr_266 hfk_fr_266
              rw [hA0] at hfk_fr_266
              have hC_fr_266 := hC.call hA93 hfz_fr_266 hfk_fr_266
              obtain ⟨y_267, hy_268, -⟩ := hl_263.2 k9 (by omega)
              have hcp_y_267 : 0 < cap := by have h9 := hl_263.1.2.2.1; omega
              refine v_callFH E (As := [.ref q_249]) (b := it) (ci := 8) (C := RJ27) (T := TJ27) (N := 5) hl_264.1 rfl (j_iset κ H_257 hC_fr_266 (r := k9) (by omega) hy_268 ⟨4, _, hEq_254, Or.inr (Or.inr (Or.inl rfl))⟩ hl_263.1 hl_264) (by decide +kernel) (lw_FW q1677 q1680 q1682 q103 q1684) 1 (by decide +kernel) rfl (by decide) (by decide) (cb' := ((((((((((60 + Cf + 2 * C1) - 1) - 50) - Cf) - C1) - C1) - 1) - 1) - 0) - 0)) (sb' := (((((((((((8 + (4 * K3 + N3 + 28) * 6) + Lf + 2 * L1 + 3000) - 6) - (8 + (4 * K3 + N3 + 28) * 6)) - Lf) - L1) - L1) - 5) - 4) - 0) - 0)) (by omega) (by omega) rfl (rest := []) (Nat.le_of_ble_eq_true rfl) (fun q h => by have h9 := pA.arr hfk_fr_266 hl_263.1.2.1 (hl_263.1.2.2.2.2.2.2.2.2.1 hcp_y_267); rw [← show q = _ from h] at h9; exact h9.elim (fun e => hAll q e) (fun e => hNew q e)) dX1_bisect_163 (fun v_269 H_270 hpost_271 hz_272 hk_273 => ?_)
              obtain ⟨rfl, hA_274, hLI_275⟩ := hpost_271
              have hF_276 : kF κ H_257 H_270 (fun q => q = bi) := kF.ivl hl_264 hl_263 (fun q h => Or.inr (Or.inr ⟨h, hcp_y_267⟩)) hz_272 hk_273
              have hT_277 := CT.kfA hC_fr_266 hF_276 (fun q h => Or.inr (Or.inl h)) dS_li dS_bi hl_262
              have hI_278 := IA.set (w := (((e + 1 : Nat) : Int), 2 * lo9, lo9 + hi9, ((fch (T kk0) lo9 e) - (fch (T kk0) (lo9 + hi9) (e + 1))) - 0)) hC_fr_266 hF_276 hA_274 hEq_254 hl_263
              have hE_279 := (e4_kf hC.D hF_276 hl_265)
              have hE_280 := (e4_kf hC.D hF_276 hEq_254)
              refine V.eq (st' := []) rfl ?_
              refine v_iload E 4 rfl dX1_bisect_168 ?_
              refine v_iconst E dX1_bisect_170 ?_
              refine v_icmp_ne E (tgt := 194) dX1_bisect_171 (by decide) ⟨by omega, by omega⟩ ⟨by omega, by omega⟩ (fun c_171 => ?_) (fun c_171 => absurd c_171 (by omega))
              refine v_aload E 1 rfl dX1_bisect_194 ?_
              refine V.frame (fun hfz_fr_281 hfk_fr_281 => ?_)
              rw [hH0] at hfz_fr_281 hfk_fr_281
              rw [hA0] at hfk_fr_281
              have hC_fr_281 := hC.call hA93 hfz_fr_281 hfk_fr_281
              refine V.frame (fun hfz_fr_282 hfk_fr_282 => ?_)
              rw [hH0] at hfz_fr_282 hfk_fr_282
              rw [hA0] at hfk_fr_282
              refine v_new E in_X5 tyX5 tyX5_ok q418 q1595 q102 (ci := 4) rfl (fs := [vi 0, vi 0, vi 0, vi 0]) (fun j hj => by rcases (show j = 0 ∨ j = 1 ∨ j = 2 ∨ j = 3 by omega) with rfl | rfl | rfl | rfl <;> rfl) (cb' := (((((((((((60 + Cf + 2 * C1) - 1) - 50) - Cf) - C1) - C1) - 1) - 1) - 0) - 0) - 1)) (sb' := ((((((((((((8 + (4 * K3 + N3 + 28) * 6) + Lf + 2 * L1 + 3000) - 6) - (8 + (4 * K3 + N3 + 28) * 6)) - Lf) - L1) - L1) - 5) - 4) - 0) - 0) - 4)) (by omega) (by omega) dX1_bisect_196 (fun q_283 H_284 hq_287 ho_285 hg_286 => ?_)
              refine v_dup E rfl dX1_bisect_199 ?_
              refine v_iload_n E 6 rfl dX1_bisect_200 ?_
              refine v_iload E 5 rfl dX1_bisect_201 ?_
              refine v_iconst E dX1_bisect_203 ?_
              refine v_aload_n E 7 rfl dX1_bisect_204 ?_
              refine v_getfN (host := "SturmRoots") E in_X5 (hE_279.grow hg_286) (ci := 4) rfl 2 (by decide) (by decide +kernel) rfl (v := vi hi9) rfl dX1_bisect_205 ?_
              refine v_imul E dX1_bisect_208 ?_
              refine v_aload_n E 7 rfl dX1_bisect_209 ?_
              refine v_getfN (host := "SturmRoots") E in_X5 (hE_279.grow hg_286) (ci := 4) rfl 3 (by decide) (by decide +kernel) rfl (v := vi rt9) rfl dX1_bisect_210 ?_
              refine v_iload E 2 rfl dX1_bisect_213 ?_
              refine v_isub E dX1_bisect_215 ?_
              refine v_iload E 4 rfl dX1_bisect_216 ?_
              refine v_isub E dX1_bisect_218 ?_
              refine V.frame (fun hfz_fr_289 hfk_fr_289 => ?_)
              rw [hH0] at hfz_fr_289 hfk_fr_289
              rw [hA0] at hfk_fr_289
              have hC_fr_289 := hC.call hA93 hfz_fr_289 hfk_fr_289
              refine v_callI E (As := [vi ((e + 1 : Nat) : Int), vi (lo9 + hi9), vi (2 * hi9), vi ((rt9 - (((fch (T kk0) lo9 e) - (fch (T kk0) (lo9 + hi9) (e + 1))) - 0)) - 0)]) (b := q_283) (i_init κ H_284 ho_285) q1598 q102 q1596 q1597 rfl 4 (by decide +kernel) rfl (by decide) (by decide) (cb' := ((((((((((((60 + Cf + 2 * C1) - 1) - 50) - Cf) - C1) - C1) - 1) - 1) - 0) - 0) - 1) - 0)) (sb' := (((((((((((((8 + (4 * K3 + N3 + 28) * 6) + Lf + 2 * L1 + 3000) - 6) - (8 + (4 * K3 + N3 + 28) * 6)) - Lf) - L1) - L1) - 5) - 4) - 0) - 0) - 4) - 0)) (by omega) (by omega) rfl (rest := [.ref q_283, .ref it]) (Nat.le_of_ble_eq_true rfl) (fun q9 h => hNew q9 (by rw [show q9 = q_283 from h]; omega)) dX1_bisect_219 (fun v_290 H_291 hpost_292 hz_293 hk_294 => ?_)
              obtain ⟨rfl, hEq_288⟩ := hpost_292
              have hkN_295 : ∀ q9 : Nat, q9 < Array.size H_270 → ¬ (fun _ => False : Nat → Prop) q9 → H_291[q9]? = H_270[q9]? := fun q9 h9 _ => (hk_294 q9 (by rw [hg_286.1]; omega) (fun h => by have h8 : q9 = q_283 := h; omega)).trans (hg_286.2 q9 h9)
              have hl_296 := CT.kf0 hC_fr_281 (kF.ext (by have := hg_286.1; omega) hkN_295) hT_277
              have hl_297 := IA.kf0 hC_fr_281 (kF.ext (by have := hg_286.1; omega) hkN_295) hI_278
              have hl_298 := LI.kf (kF.ext (by have := hg_286.1; omega) hkN_295) hLI_275 (fun h => h)
              have hl_299 := (e4_kf hC.D (kF.ext (by have := hg_286.1; omega) hkN_295) hE_279)
              have hl_300 := (e4_kf hC.D (kF.ext (by have := hg_286.1; omega) hkN_295) hE_280)
              refine V.eq (st' := [.ref q_283, .ref it]) rfl ?_
              refine V.frame (fun hfz_fr_301 hfk_fr_301 => ?_)
              rw [hH0] at hfz_fr_301 hfk_fr_301
              rw [hA0] at hfk_fr_301
              have hC_fr_301 := hC.call hA93 hfz_fr_301 hfk_fr_301
              have hag0 := alG_b (cap := cap) (by omega)
              have hLc0 : LI κ H_291 it li (((k9 + 1) : Nat) : Int) ((k9 : Nat) : Int) md := by have h9 := hl_298; rw [show ((k9 + 1 : Nat) : Int) = (((k9 + 1) : Nat) : Int) by omega] at h9; exact h9
              refine v_callFH E (As := [.ref q_283]) (b := it) (ci := 8) (C := RJ27) (T := TJ27) (N := 5) hl_298.1 rfl (j_iadd κ H_291 hC_fr_301 (c := (k9 + 1)) (by omega) (by omega) ⟨4, _, hEq_288, Or.inr (Or.inr (Or.inl rfl))⟩ hl_297.1 hLc0) (by decide +kernel) (lw_FW q1695 q1698 q1700 q103 q1702) 1 (by decide +kernel) rfl (by decide) (by decide) (cb' := (((((((((((((60 + Cf + 2 * C1) - 1) - 50) - Cf) - C1) - C1) - 1) - 1) - 0) - 0) - 1) - 0) - 1)) (sb' := ((((((((((((((8 + (4 * K3 + N3 + 28) * 6) + Lf + 2 * L1 + 3000) - 6) - (8 + (4 * K3 + N3 + 28) * 6)) - Lf) - L1) - L1) - 5) - 4) - 0) - 0) - 4) - 0) - alG cap)) (by omega) (by omega) rfl (rest := []) (Nat.le_of_ble_eq_true rfl) (fun q h => h.elim (fun h => hNew q (by rw [h]; exact hitH)) (fun h => h.elim (fun h => by have h9 := pA.any hfk_fr_301 hl_297.1.1 (Or.inr (Or.inr (Or.inl rfl))) hl_297.1.2.2.2.2.2.2.2.1; rw [← h] at h9; exact h9.elim (fun e => hAll q e) (fun e => hNew q e)) (fun h => by have h9 := pA.arr hfk_fr_301 hl_297.1.2.1 (hl_297.1.2.2.2.2.2.2.2.2.1 h.2); rw [← h.1] at h9; exact h9.elim (fun e => hAll q e) (fun e => hNew q e)))) dX1_bisect_222 (fun v_302 H_303 hpost_304 hz_305 hk_306 => ?_)
              obtain ⟨rfl, bi0, cap0, md0_, g0_, hA_307, hg_308, hbc0, hLI_309⟩ := hpost_304
              have hF_310 := kF.ivl hl_298 hl_297 (fun q h => h) hz_305 hk_306
              have hT_311 := CT.add hC_fr_301 hl_298 hl_297 (fun q h => h) hz_305 hk_306 (hbc0.elim (fun h => Or.inl h.1) (fun h => Or.inr h.1)) hl_296
              have hI_312 := IA.ins (w := (((e + 1 : Nat) : Int), lo9 + hi9, 2 * hi9, (rt9 - (((fch (T kk0) lo9 e) - (fch (T kk0) (lo9 + hi9) (e + 1))) - 0)) - 0)) hC_fr_301 hF_310 (by omega) hA_307 hg_308 hEq_288 hl_297
              have hcc0 : cap0 = cap ∨ cap0 = alG cap ∧ n = cap := hbc0.elim (fun h => Or.inl h.2) (fun h => Or.inr h.2)
              have hE_313 := (e4_kf hC.D hF_310 hl_299)
              have hE_314 := (e4_kf hC.D hF_310 hl_300)
              have hE_315 := (e4_kf hC.D hF_310 hEq_288)
              refine V.eq (st' := []) rfl ?_
              refine v_aload_n E 9 rfl dX1_bisect_227 ?_
              refine v_getf E in_X1 hT_311.2.1 (ci := 0) rfl 2 (by decide) q274 rfl (v := .ref li) rfl dX1_bisect_228 ?_
              refine V.frame (fun hfz_fr_316 hfk_fr_316 => ?_)
              rw [hH0] at hfz_fr_316 hfk_fr_316
              rw [hA0] at hfk_fr_316
              have hC_fr_316 := hC.call hA93 hfz_fr_316 hfk_fr_316
              refine v_callV E (As := []) (b := li) (ci := 5) (C := RJ2) (T := TJ2) (N := 3) hI_312.1.1 rfl (j_size κ H_303 hI_312.1) (lw_V q286 q152 q153 q73 q154) 0 (by decide +kernel) rfl (by decide) (by decide) (cb' := ((((((((((((((60 + Cf + 2 * C1) - 1) - 50) - Cf) - C1) - C1) - 1) - 1) - 0) - 0) - 1) - 0) - 1) - 0)) (sb' := (((((((((((((((8 + (4 * K3 + N3 + 28) * 6) + Lf + 2 * L1 + 3000) - 6) - (8 + (4 * K3 + N3 + 28) * 6)) - Lf) - L1) - L1) - 5) - 4) - 0) - 0) - 4) - 0) - alG cap) - 0)) (by omega) (by omega) rfl (rest := []) (Nat.le_of_ble_eq_true rfl) (fun q h => h.elim) dX1_bisect_231 (fun v_317 H_318 hpost_319 hz_320 hk_321 => ?_)
              obtain rfl := hpost_319
              have hl_322 := CT.kf0 hC_fr_316 (kF.ext hz_320 hk_321) hT_311
              have hl_323 := IA.kf0 hC_fr_316 (kF.ext hz_320 hk_321) hI_312
              have hl_324 := LI.kf (kF.ext hz_320 hk_321) hLI_309 (fun h => h)
              have hl_325 := (e4_kf hC.D (kF.ext hz_320 hk_321) hE_313)
              have hl_326 := (e4_kf hC.D (kF.ext hz_320 hk_321) hE_314)
              have hl_327 := (e4_kf hC.D (kF.ext hz_320 hk_321) hE_315)
              refine V.eq (st' := [vi (((n + 1) : Nat) : Int)]) rfl ?_
              refine V.rt E hE (fun z9 E hE => ?_)
              refine v_iret E hE dX1_bisect_234 ?_
              have hxn : xbN (T kk0) e lo9 hi9 = 1 := if_neg hroot
              have hop : xoBi S (T kk0) n iv (k9 : Int) = (((n + 1 : Nat) : Int), 0, S) := by unfold xoBi; rw [if_pos ⟨by omega, by omega⟩, Int.toNat_natCast, hiv9]; show (if lo9 = hi9 ∨ (e : Int) = 12 then _ else (((n + xbN (T kk0) (Int.toNat (e : Int)) lo9 hi9 : Nat) : Int), 0, S)) = _; rw [if_neg (by omega), Int.toNat_natCast, hxn]
              have hxv : xbV (T kk0) iv k9 e lo9 hi9 rt9 = (insI (va_up iv k9 (((e + 1 : Nat) : Int), 2 * lo9, lo9 + hi9, ((fch (T kk0) lo9 e) - (fch (T kk0) (lo9 + hi9) (e + 1))) - 0)) (k9 + 1) (((e + 1 : Nat) : Int), lo9 + hi9, 2 * hi9, (rt9 - (((fch (T kk0) lo9 e) - (fch (T kk0) (lo9 + hi9) (e + 1))) - 0)) - 0)) := if_neg hroot
              refine ⟨by rw [hop], by rw [hop], cap0, by omega, ?_⟩
              rw [Int.toNat_natCast, hiv9]
              show CP κ _ x S isoP (n + xbN (T kk0) (Int.toNat (e : Int)) lo9 hi9) cap0 (xbV (T kk0) iv k9 (Int.toNat (e : Int)) lo9 hi9 rt9)
              rw [Int.toNat_natCast, hxn, hxv]
              exact CS.pub (CT.join hl_322 hl_323) hST hiso
            · refine v_aload E 1 rfl dX1_bisect_126 ?_
              refine V.frame (fun hfz_fr_328 hfk_fr_328 => ?_)
              rw [hH0] at hfz_fr_328 hfk_fr_328
              rw [hA0] at hfk_fr_328
              have hC_fr_328 := hC.call hA93 hfz_fr_328 hfk_fr_328
              obtain ⟨y_329, hy_330, hEn_331⟩ := hI2.2 k (by omega)
              refine v_callF E (As := []) (b := it) (ci := 8) (C := RJ27) (T := TJ27) (N := 5) hL2.1 rfl (j_next8 κ H hC_fr_328 (i := k) (y := y_329) (by omega) hy_330 hI2.1 hL2) (by decide +kernel) (lw_F q1671 q1675 q339 q92 q341) 0 (by decide +kernel) rfl (by decide) (by decide) (cb' := ((((((((60 + Cf + 2 * C1) - 1) - 50) - Cf) - C1) - C1) - 1) - 0)) (sb' := (((((((((8 + (4 * K3 + N3 + 28) * 6) + Lf + 2 * L1 + 3000) - 6) - (8 + (4 * K3 + N3 + 28) * 6)) - Lf) - L1) - L1) - 5) - 0)) (by omega) (by omega) rfl (rest := []) (Nat.le_of_ble_eq_true rfl) (fun q9 h => hNew q9 (by rw [show q9 = it from h]; exact hitH)) dX1_bisect_128 (fun v_332 H_333 hpost_334 hz_335 hk_336 => ?_)
              obtain ⟨rfl, hLI_337⟩ := hpost_334
              have hl_338 := CT.kfA hC_fr_328 (kF.li (A := fun q => q = it) hL2 (fun q h => h) hz_335 hk_336) (fun q h => Or.inr (Or.inr (LI.cl hL2 h))) dS_li dS_bi hT2
              have hl_339 := IA.kfI hC_fr_328 (kF.li (A := fun q => q = it) hL2 (fun q h => h) hz_335 hk_336) (fun q h => LI.cl hL2 h) hI2
              have hl_340 := (e4_kf hC.D (kF.li (A := fun q => q = it) hL2 (fun q h => h) hz_335 hk_336) hE2)
              have hl_341 := (e4_kf hC.D (kF.li (A := fun q => q = it) hL2 (fun q h => h) hz_335 hk_336) hEn_331)
              refine V.eq (st' := [.ref y_329]) rfl ?_
              refine v_castS E hl_341 (q := (RX5, TX5, 4)) rfl q418 dX1_bisect_133 ?_
              refine v_astore_n E dX1_bisect_136 (zlt hL rfl) (lv' := [(2, .ref y_329), (9, vi (k : Int)), (8, .ref it), (7, vi (((fch (T kk0) lo9 e) - (fch (T kk0) (lo9 + hi9) (e + 1))) - 0)), (6, .ref ls_199), (5, vi 0), (4, vi (lo9 + hi9)), (3, vi ((e + 1 : Nat) : Int)), (1, vi ((k9 : Nat) : Int)), (0, .ref x)]) rfl ?_
              refine v_iinc E 1 rfl dX1_bisect_137 (zlt hL rfl) (lv' := [(9, vi ((k : Int) + 1)), (2, .ref y_329), (8, .ref it), (7, vi (((fch (T kk0) lo9 e) - (fch (T kk0) (lo9 + hi9) (e + 1))) - 0)), (6, .ref ls_199), (5, vi 0), (4, vi (lo9 + hi9)), (3, vi ((e + 1 : Nat) : Int)), (1, vi ((k9 : Nat) : Int)), (0, .ref x)]) rfl ?_
              refine v_goto E (tgt := 120) dX1_bisect_140 (by decide) ?_
              refine V.sub [0, 2, 3, 4, 5, 6, 7, 1, 8, 9] (lv' := [(9, vi ((k : Int) + 1)), (8, .ref it), (7, vi (((fch (T kk0) lo9 e) - (fch (T kk0) (lo9 + hi9) (e + 1))) - 0)), (6, .ref ls_199), (5, vi 0), (4, vi (lo9 + hi9)), (3, vi ((e + 1 : Nat) : Int)), (2, .ref y_329), (1, vi ((k9 : Nat) : Int)), (0, .ref x)]) rfl ?_
              exact ih_120  H_333 (k + 1) y_329 (k : Int) (iv k) (by omega) (by omega) (fun _ => by omega) (fun h => by rw [show k = k9 by omega]; exact hiv9) hl_338 hl_339 hLI_337 hl_341
        refine V.sub [0, 1, 2, 3, 4, 5, 6, 7, 9, 8] (lv' := [(9, vi 0), (8, .ref it), (7, vi (((fch (T kk0) lo9 e) - (fch (T kk0) (lo9 + hi9) (e + 1))) - 0)), (6, .ref ls_199), (5, vi 0), (4, vi (lo9 + hi9)), (3, vi ((e + 1 : Nat) : Int)), (2, .ref y9), (1, vi ((k9 : Nat) : Int)), (0, .ref x)]) rfl ?_
        exact loop_120 ((k9 + 1) + 1) H_240 0 y9 (-1) ((e : Int), lo9, hi9, rt9) (by omega) (Nat.zero_le _) (fun h => absurd h (by decide)) (fun _ => rfl) hl_245 hl_246 hitI hl_244
    · refine V.frame (fun hfz_fr_342 hfk_fr_342 => ?_)
      rw [hH0] at hfz_fr_342 hfk_fr_342
      rw [hA0] at hfk_fr_342
      have hC_fr_342 := hC.call hA93 hfz_fr_342 hfk_fr_342
      refine V.frame (fun hfz_fr_343 hfk_fr_343 => ?_)
      rw [hH0] at hfz_fr_343 hfk_fr_343
      rw [hA0] at hfk_fr_343
      refine v_throw0 E X9 hE (cls := "java/lang/IllegalStateException") (names := ["java/lang/RuntimeException", "java/lang/Exception"]) (ik := 157) (ic := 159) (by decide +kernel) (by decide +kernel) q665 q95 (ex_2 E.kn E.2.2.2.2.1 q666) ex_2_ok dX1_bisect_26 dX1_bisect_29 dX1_bisect_30 dX1_bisect_33 (by decide) (Nat.le_of_ble_eq_true rfl) (by omega) (by omega) (fun H9 hz9 hk9 => ?_)
      exact ⟨Or.inr ⟨rfl, by unfold xoBi; rw [if_pos ⟨by omega, by omega⟩, Int.toNat_natCast, hiv9]; exact congrArg (fun t : zRc => t.2.1) (if_pos (show lo9 = hi9 ∨ (e : Int) = 12 by omega))⟩, CS.pub (CS.kf0 hC_fr_342 (kF.ext hz9 (fun q hq _ => hk9 q hq)) hl_7) hST hiso⟩
