/-! PLAIN LAW 54: the simple calls: the component answers as the model -/
def relS (Sc : Nat → Pl) (Sm : Nat → Nat → Int) : Prop := ∀ i, i < 5 → nf (Sc i) ∧ (Sc i).1 ≤ 7 ∧ eq7 (Sc i).2 (Sm i) ∧ ∀ k, k < 7 → -9999 ≤ Sm i k ∧ Sm i k ≤ 9999
/-- the same answer, the same refusal, slots that correspond -/
def agr (c : zRc) (m : zRp) : Prop := c.1 = m.1 ∧ c.2.1 = m.2.1 ∧ relS c.2.2 m.2.2
theorem relS.b {Sc : Nat → Pl} {Sm : Nat → Nat → Int} (h : relS Sc Sm) : bS Sm := fun i hi => (h i hi).2.2.2
theorem relS.ok {Sc : Nat → Pl} {Sm : Nat → Nat → Int} (h : relS Sc Sm) {i : Nat} (hi : i < 5) : nf (Sc i) ∧ okP (Sc i) := by
  obtain ⟨h1, h2, h3, h4⟩ := h i hi
  refine ⟨h1, (okP_7 h1).mpr ⟨h2, fun k hk => ?_⟩⟩
  rw [h3 k hk]
  have := h4 k hk
  omega
theorem relS.deg {Sc : Nat → Pl} {Sm : Nat → Nat → Int} (h : relS Sc Sm) {i : Nat} (hi : i < 5) : ((Sc i).1 : Int) - 1 = pdeg (Sm i) := by
  obtain ⟨h1, h2, h3, _⟩ := h i hi
  rw [← h3.deg, h1.deg h2]
theorem relS.up {Sc : Nat → Pl} {Sm : Nat → Nat → Int} (h : relS Sc Sm) {t : Nat} {P : Pl} {p : Nat → Int} (h1 : nf P) (h2 : P.1 ≤ 7) (h3 : eq7 P.2 p) (h4 : ∀ k, k < 7 → -9999 ≤ p k ∧ p k ≤ 9999) : relS (va_up Sc t P) (va_up Sm t p) := fun i hi => by
  by_cases e : i = t
  · subst e; rw [va_upj, va_upj]; exact ⟨h1, h2, h3, h4⟩
  · rw [va_upn _ _ e, va_upn _ _ e]; exact h i hi
theorem agr.no {Sc : Nat → Pl} {Sm : Nat → Nat → Int} (h : relS Sc Sm) (r : Int) : agr (0, r, Sc) (0, r, Sm) := ⟨rfl, rfl, h⟩
theorem st_ag {Sc : Nat → Pl} {Sm : Nat → Nat → Int} (h : relS Sc Sm) {P : Pl} {mk : Nat → Int} (hn : nf P) (h14 : P.1 ≤ 14) (hP : ∀ k, k < 14 → P.2 k = mk k) (t : Nat) (ref : Int) : agr (storeR P t ref Sc) (comesR mk t ref Sm) := by
  have hc : (P.1 ≤ 7 ∧ ∀ k, k < 7 → (P.2 k).natAbs ≤ 9999) ↔ okB mk 14 = true := by
    constructor
    · intro ⟨a, b⟩
      have : ∀ n, n ≤ 14 → okB mk n = true := by
        intro n
        induction n with
        | zero => intro _; rfl
        | succ n ih =>
          intro hn'
          refine okB_s.mpr ⟨ih (by omega), fun h7 => ?_, ?_⟩
          · rw [← hP n (by omega)]; exact hn.2 n (by omega)
          · rw [← hP n (by omega)]
            by_cases c : n < 7
            · have := b n c; omega
            · rw [hn.2 n (by omega)]; omega
      exact this 14 (Nat.le_refl 14)
    · intro hb
      have ho := okB_at 14 hb
      refine ⟨?_, fun k hk => ?_⟩
      · refine Classical.byContradiction fun w => ?_
        rcases hn.1 with e | e
        · omega
        · have := (ho (P.1 - 1) (by omega)).1 (by omega)
          rw [← hP _ (by omega)] at this
          exact e this
      · have := (ho k (by omega)).2
        rw [hP k (by omega)]
        omega
  unfold storeR comesR
  by_cases c : P.1 ≤ 7 ∧ ∀ k, k < 7 → (P.2 k).natAbs ≤ 9999
  · rw [if_pos c, if_pos (hc.mp c)]
    have e7 : eq7 P.2 mk := fun k hk => hP k (by omega)
    refine ⟨?_, rfl, h.up hn c.1 (fun k hk => ?_) (fun k hk => ?_)⟩
    · show (P.1 : Int) - 1 = pdeg mk
      rw [← e7.deg, hn.deg c.1]
    · unfold cut7; rw [if_pos hk]; exact e7 k hk
    · unfold cut7; rw [if_pos hk, ← e7 k hk]
      have := c.2 k hk
      omega
  · rw [if_neg c, if_neg (fun w => c (hc.mpr w))]
    exact agr.no h ref
/-- seven places -/
theorem st_ag7 {Sc : Nat → Pl} {Sm : Nat → Nat → Int} (h : relS Sc Sm) {P : Pl} {p : Nat → Int} (hn : nf P) (h7 : P.1 ≤ 7) (hP : eq7 P.2 p) (t : Nat) (ref : Int) : agr (storeR P t ref Sc) (comesR (cut7 p) t ref Sm) := st_ag h hn (by omega) (fun k hk => by
  unfold cut7
  by_cases c : k < 7
  · rw [if_pos c]; exact hP k c
  · rw [if_neg c]; exact hn.2 k (by omega)) t ref
theorem mk_at {n k : Nat} {c : Nat → Int} (h : k < n) : (mkP n c).2 k = c k := cut_lt h
theorem mk_ge {n k : Nat} {c : Nat → Int} (h : n ≤ k) : (mkP n c).2 k = 0 := cut_ge h
variable {Sc : Nat → Pl} {Sm : Nat → Nat → Int}
theorem ag_set (h : relS Sc Sm) (a p v : Int) : agr (xoSet Sc a p v) (opSet Sm a p v) := by
  unfold xoSet opSet
  by_cases c : (0 ≤ a ∧ a < 5) ∧ (0 ≤ p ∧ p ≤ 6)
  · rw [if_pos c, if_pos c]
    by_cases d : -99 ≤ v ∧ v ≤ 99
    · rw [if_pos d, if_pos d]
      obtain ⟨h1, h2, h3, h4⟩ := h a.toNat (by omega)
      have hn := nf_mk 7 (setc (Sc a.toNat) p.toNat v)
      have hl := mk_le 7 (setc (Sc a.toNat) p.toNat v)
      have e7 : eq7 (mkP 7 (setc (Sc a.toNat) p.toNat v)).2 (va_up (Sm a.toNat) p.toNat v) := fun k hk => by
        rw [mk_at hk]
        show (if k = p.toNat then v else (Sc a.toNat).2 k) = (if k = p.toNat then v else Sm a.toNat k)
        rw [h3 k hk]
      have b7 : ∀ k, k < 7 → -9999 ≤ va_up (Sm a.toNat) p.toNat v k ∧ va_up (Sm a.toNat) p.toNat v k ≤ 9999 := fun k hk => by
        show -9999 ≤ (if k = p.toNat then v else Sm a.toNat k) ∧ (if k = p.toNat then v else Sm a.toNat k) ≤ 9999
        split
        · omega
        · exact h4 k hk
      have hok : (mkP 7 (setc (Sc a.toNat) p.toNat v)).1 ≤ 7 ∧ ∀ k, k < 7 → ((mkP 7 (setc (Sc a.toNat) p.toNat v)).2 k).natAbs ≤ 9999 := ⟨hl, fun k hk => by rw [e7 k hk]; have := b7 k hk; omega⟩
      unfold storeR
      rw [if_pos hok]
      exact ⟨by show ((mkP 7 (setc (Sc a.toNat) p.toNat v)).1 : Int) - 1 = _; rw [← e7.deg, hn.deg hl], rfl, h.up hn hl e7 b7⟩
    · rw [if_neg d, if_neg d]; exact agr.no h 2
  · rw [if_neg c, if_neg c]; exact agr.no h 1
theorem ag_coef (h : relS Sc Sm) (a p : Int) : agr (xoCoef Sc a p) (opCoef Sm a p) := by
  unfold xoCoef opCoef
  by_cases c : (0 ≤ a ∧ a < 5) ∧ (0 ≤ p ∧ p ≤ 6)
  · rw [if_pos c, if_pos c]
    exact ⟨(h a.toNat (by omega)).2.2.1 _ (by omega), rfl, h⟩
  · rw [if_neg c, if_neg c]; exact agr.no h 1
theorem ag_deg (h : relS Sc Sm) (a : Int) : agr (xoDeg Sc a) (opDeg Sm a) := by
  unfold xoDeg opDeg
  by_cases c : 0 ≤ a ∧ a < 5
  · rw [if_pos c, if_pos c]
    exact ⟨h.deg (by omega), rfl, h⟩
  · rw [if_neg c, if_neg c]; exact agr.no h 1
theorem ag_copy (h : relS Sc Sm) (a t : Int) : agr (xoCopy Sc a t) (opCopy Sm a t) := by
  unfold xoCopy opCopy
  by_cases c : (0 ≤ a ∧ a < 5) ∧ (0 ≤ t ∧ t < 5)
  · rw [if_pos c, if_pos c]
    obtain ⟨h1, h2, h3, h4⟩ := h a.toNat (by omega)
    have := st_ag7 h h1 h2 h3 t.toNat 0
    have ok := (okP_7 h1).mp (h.ok (i := a.toNat) (by omega)).2
    unfold storeR at this
    rw [if_pos ok] at this
    exact this
  · rw [if_neg c, if_neg c]; exact agr.no h 1
theorem ag_add (h : relS Sc Sm) (a b t : Int) : agr (xoAdd Sc a b t) (opAdd Sm a b t) := by
  unfold xoAdd opAdd
  by_cases c : (0 ≤ a ∧ a < 5) ∧ (0 ≤ b ∧ b < 5) ∧ (0 ≤ t ∧ t < 5)
  · rw [if_pos c, if_pos c]
    exact st_ag7 h (nf_mk _ _) (mk_le _ _) (fun k hk => by
      rw [mk_at hk, (h a.toNat (by omega)).2.2.1 k hk, (h b.toNat (by omega)).2.2.1 k hk]) t.toNat 2
  · rw [if_neg c, if_neg c]; exact agr.no h 1
theorem ag_drv (h : relS Sc Sm) (a t : Int) : agr (xoDrv Sc a t) (opDrv Sm a t) := by
  unfold xoDrv opDrv
  by_cases c : (0 ≤ a ∧ a < 5) ∧ (0 ≤ t ∧ t < 5)
  · rw [if_pos c, if_pos c]
    obtain ⟨h1, h2, h3, h4⟩ := h a.toNat (by omega)
    obtain ⟨d1, d2⟩ := cDer_f h1 h2
    exact st_ag7 h (nf_mk _ _) (show (cDer (Sc a.toNat)).1 ≤ 7 by omega) (d1.trans (drv_congr h3)) t.toNat 2
  · rw [if_neg c, if_neg c]; exact agr.no h 1
theorem ag_refl (h : relS Sc Sm) (a t : Int) : agr (xoRefl Sc a t) (opRefl Sm a t) := by
  unfold xoRefl opRefl
  by_cases c : (0 ≤ a ∧ a < 5) ∧ (0 ≤ t ∧ t < 5)
  · rw [if_pos c, if_pos c]
    obtain ⟨h1, h2, h3, h4⟩ := h a.toNat (by omega)
    have hn := nf_mk (Sc a.toNat).1 (refc (Sc a.toNat))
    have hl := mk_le (Sc a.toNat).1 (refc (Sc a.toNat))
    have e7 : eq7 (mkP (Sc a.toNat).1 (refc (Sc a.toNat))).2 (fun k => if k % 2 = 0 then Sm a.toNat k else -Sm a.toNat k) := fun k hk => by
      show _ = (if k % 2 = 0 then Sm a.toNat k else -Sm a.toNat k)
      by_cases d : k < (Sc a.toNat).1
      · rw [mk_at d]
        show (if k % 2 = 0 then (Sc a.toNat).2 k else -(Sc a.toNat).2 k) = _
        rw [h3 k hk]
      · rw [mk_ge (by omega), ← h3 k hk, h1.2 k (by omega)]
        split <;> rfl
    have := st_ag7 h hn (by omega) e7 t.toNat 0
    have ok : (mkP (Sc a.toNat).1 (refc (Sc a.toNat))).1 ≤ 7 ∧ ∀ k, k < 7 → ((mkP (Sc a.toNat).1 (refc (Sc a.toNat))).2 k).natAbs ≤ 9999 := ⟨by omega, fun k hk => by
      rw [e7 k hk]
      show (if k % 2 = 0 then Sm a.toNat k else -Sm a.toNat k).natAbs ≤ 9999
      have := h4 k hk
      split <;> omega⟩
    unfold storeR at this ⊢
    rw [if_pos ok] at this ⊢
    exact this
  · rw [if_neg c, if_neg c]; exact agr.no h 1
/-- through the narrowing of great numbers -/
theorem gr_ag (h : relS Sc Sm) {P : Pl} {p : Nat → Int} (hn : nf P) (h7 : P.1 ≤ 7) (hP : eq7 P.2 p) (t : Nat) (ref : Int) : agr (storeR P t ref Sc) (greatR p t ref Sm) := by
  by_cases c : ∀ k, k < 7 → (p k).natAbs ≤ 9999
  · have e : eq7 (fun k => grF (p k)) p := fun k hk => by
      have := c k hk
      show (if 2147483648 ≤ (p k).natAbs then 10000 else p k) = p k
      rw [if_neg (by omega)]
    exact st_ag7 h hn h7 (hP.trans e.symm) t ref
  · obtain ⟨k, hk, hb⟩ : ∃ k, k < 7 ∧ ¬ (p k).natAbs ≤ 9999 := Classical.byContradiction fun w => c (fun k hk => Classical.byContradiction fun w2 => w ⟨k, hk, w2⟩)
    have n1 : ¬ (P.1 ≤ 7 ∧ ∀ k, k < 7 → (P.2 k).natAbs ≤ 9999) := fun w => hb (by rw [← hP k hk]; exact w.2 k hk)
    have n2 : ¬ okB (cut7 (fun k => grF (p k))) 14 = true := fun w => by
      have := (okB_at 14 w k (by omega)).2
      unfold cut7 at this
      rw [if_pos hk] at this
      have this2 : -9999 ≤ grF (p k) ∧ grF (p k) ≤ 9999 := this
      unfold grF at this2
      split at this2 <;> omega
    unfold storeR greatR comesR
    rw [if_neg n1, if_neg n2]
    exact agr.no h ref
theorem ag_gcd (h : relS Sc Sm) (a b t : Int) : agr (xoGcd Sc a b t) (opGcd Sm a b t) := by
  unfold xoGcd opGcd
  by_cases c : (0 ≤ a ∧ a < 5) ∧ (0 ≤ b ∧ b < 5) ∧ (0 ≤ t ∧ t < 5)
  · rw [if_pos c, if_pos c]
    obtain ⟨h1, h2, h3, h4⟩ := h a.toNat (by omega)
    obtain ⟨g1, g2, g3, g4⟩ := h b.toNat (by omega)
    obtain ⟨d1, d2, d3⟩ := cDiv_com h1 g1 h2 g2
    exact gr_ag h d2 d3 (d1.trans (comR_congr h3 g3)) t.toNat 2
  · rw [if_neg c, if_neg c]; exact agr.no h 1
theorem relS.gd (h : relS Sc Sm) {i : Nat} (hi : i < 5) (h0 : 0 < (Sc i).1) : gd (Sc i) := by
  obtain ⟨h1, h2, h3, h4⟩ := h i hi
  have hd := h1.deg h2
  refine ⟨h1, h2, h0, fs.of (by omega) (fun k hk => ?_)⟩
  rw [h3 k hk]
  have := h4 k hk
  omega
theorem relS.fs (h : relS Sc Sm) {i : Nat} (hi : i < 5) (h0 : 0 ≤ pdeg (Sm i)) : fs (Sm i) := fs.of h0 (fun k hk => by have := (h i hi).2.2.2 k hk; omega)
theorem ag_free (h : relS Sc Sm) (a t : Int) : agr (xoFree Sc a t) (opFree Sm a t) := by
  unfold xoFree opFree
  by_cases c : (0 ≤ a ∧ a < 5) ∧ (0 ≤ t ∧ t < 5)
  · rw [if_pos c, if_pos c]
    obtain ⟨h1, h2, h3, h4⟩ := h a.toNat (by omega)
    have hd := h.deg (i := a.toNat) (by omega)
    by_cases d : (Sc a.toNat).1 = 0
    · rw [if_pos d, if_pos (by omega)]; exact agr.no h 2
    · rw [if_neg d, if_neg (by omega)]
      obtain ⟨a1, a2, a3, a4⟩ := cFree_f h1 h2 (by omega)
      have hf := h.fs (i := a.toNat) (by omega) (by omega)
      exact gr_ag h a1 a2 (a4.trans (freeR_congr hf.hFree.1 h3)) t.toNat 3
  · rw [if_neg c, if_neg c]; exact agr.no h 1
/-- the sequence beside the row -/
theorem relS.row (h : relS Sc Sm) {i : Nat} (hi : i < 5) (h0 : 0 < (Sc i).1) : ∃ L, isRow (Sm i) L ∧ seqLen (Sc i) = L ∧ rowLen (Sm i) = L ∧ ∀ j, j < L → nf (sq (Sc i) j) ∧ (sq (Sc i) j).1 ≤ 7 ∧ eq7 (sq (Sc i) j).2 (rsq (Sm i) j) := by
  obtain ⟨h1, h2, h3, h4⟩ := h i hi
  obtain ⟨L, hr⟩ := (h.gd hi h0).row
  obtain ⟨eL, hs⟩ := seq_row h1 h2 h0 hr
  have hr2 := isRow_eq7 h3 hr
  exact ⟨L, hr2, eL, hr2.len, fun j hj => ⟨(hs j (by omega)).1, (hs j (by omega)).2.1, (hs j (by omega)).2.2.1.trans (rsq_eq7 h3 j)⟩⟩
theorem ag_len (h : relS Sc Sm) (a : Int) : agr (xoLen Sc a) (opLen Sm a) := by
  unfold xoLen opLen
  by_cases c : 0 ≤ a ∧ a < 5
  · rw [if_pos c, if_pos c]
    have hd := h.deg (i := a.toNat) (by omega)
    by_cases d : (Sc a.toNat).1 = 0
    · rw [if_pos d, if_pos (by omega)]; exact agr.no h 2
    · rw [if_neg d, if_neg (by omega)]
      obtain ⟨L, _, e1, e2, _⟩ := h.row (i := a.toNat) (by omega) (by omega)
      exact ⟨by show (seqLen _ : Int) = (rowLen _ : Int); rw [e1, e2], rfl, h⟩
  · rw [if_neg c, if_neg c]; exact agr.no h 1
theorem ag_sdeg (h : relS Sc Sm) (a i : Int) : agr (xoSdeg Sc a i) (opSdeg Sm a i) := by
  unfold xoSdeg opSdeg
  by_cases c : 0 ≤ a ∧ a < 5
  · rw [if_pos c, if_pos c]
    have hd := h.deg (i := a.toNat) (by omega)
    by_cases d : (Sc a.toNat).1 = 0
    · rw [if_pos d, if_pos (by omega)]; exact agr.no h 2
    · rw [if_neg d, if_neg (show ¬ pdeg (Sm a.toNat) < 0 by omega)]
      obtain ⟨L, _, e1, e2, e3⟩ := h.row (i := a.toNat) (by omega) (by omega)
      rw [e1, e2]
      by_cases f : 0 ≤ i ∧ i < (L : Int)
      · rw [if_pos f, if_pos (by omega)]
        obtain ⟨g1, g2, g3⟩ := e3 i.toNat (by omega)
        exact ⟨by show ((sq (Sc a.toNat) i.toNat).1 : Int) - 1 = pdeg (rsq (Sm a.toNat) i.toNat); rw [← g3.deg, g1.deg g2], rfl, h⟩
      · rw [if_neg f, if_neg (by omega)]; exact agr.no h 3
  · rw [if_neg c, if_neg c]; exact agr.no h 1
theorem ag_scf (h : relS Sc Sm) (a i p : Int) : agr (xoScf Sc a i p) (opScf Sm a i p) := by
  unfold xoScf opScf
  by_cases c : (0 ≤ a ∧ a < 5) ∧ (0 ≤ p ∧ p ≤ 6)
  · rw [if_pos c, if_pos c]
    have hd := h.deg (i := a.toNat) (by omega)
    by_cases d : (Sc a.toNat).1 = 0
    · rw [if_pos d, if_pos (by omega)]; exact agr.no h 2
    · rw [if_neg d, if_neg (show ¬ pdeg (Sm a.toNat) < 0 by omega)]
      obtain ⟨L, _, e1, e2, e3⟩ := h.row (i := a.toNat) (by omega) (by omega)
      rw [e1, e2]
      by_cases f : 0 ≤ i ∧ i < (L : Int)
      · rw [if_pos f, if_pos (by omega)]
        obtain ⟨g1, g2, g3⟩ := e3 i.toNat (by omega)
        exact ⟨g3 _ (by omega), rfl, h⟩
      · rw [if_neg f, if_neg (by omega)]; exact agr.no h 3
  · rw [if_neg c, if_neg c]; exact agr.no h 1
theorem pAt_eq7 {p q : Nat → Int} (h : eq7 p q) (n : Int) (e : Nat) : (pAt p n e).sign = (pAt q n e).sign := by rw [pAt_sign, pAt_sign, ev_congr h]
theorem cSg_m (h : relS Sc Sm) {i : Nat} (hi : i < 5) (n : Int) (e : Nat) : cSg (Sc i) n e = (pAt (Sm i) n e).sign := by
  obtain ⟨h1, h2, h3, _⟩ := h i hi
  rw [cSg_pAt h1 h2, pAt_eq7 h3]
theorem ag_sign (h : relS Sc Sm) (a n k : Int) : agr (xoSign Sc a n k) (opSign Sm a n k) := by
  unfold xoSign opSign
  by_cases c : 0 ≤ a ∧ a < 5
  · rw [if_pos c, if_pos c]
    by_cases d : (-1000000 ≤ n ∧ n ≤ 1000000) ∧ (0 ≤ k ∧ k ≤ 12)
    · rw [if_pos d, if_pos d]
      exact ⟨cSg_m h (by omega) n k.toNat, rfl, h⟩
    · rw [if_neg d, if_neg d]; exact agr.no h 2
  · rw [if_neg c, if_neg c]; exact agr.no h 1
theorem ag_csc (h : relS Sc Sm) (a : Int) : agr (xoCsc Sc a) (opCsc Sm a) := by
  unfold xoCsc opCsc
  by_cases c : 0 ≤ a ∧ a < 5
  · rw [if_pos c, if_pos c]
    obtain ⟨h1, h2, h3, _⟩ := h a.toNat (by omega)
    refine ⟨?_, rfl, h⟩
    show ((chG (fun i => ((Sc a.toNat).2 i).sign) (Sc a.toNat).1 : Nat) : Int) = (chC (Sm a.toNat) 7 : Int)
    rw [csc_eq h1 h2, (chs_congr 7 (fun i hi => by rw [h3 i hi])).2]
  · rw [if_neg c, if_neg c]; exact agr.no h 1
theorem ag_var (h : relS Sc Sm) (a n k : Int) : agr (xoVar Sc a n k) (opVar Sm a n k) := by
  unfold xoVar opVar
  by_cases c : 0 ≤ a ∧ a < 5
  · rw [if_pos c, if_pos c]
    have hd := h.deg (i := a.toNat) (by omega)
    by_cases d : (-1000000 ≤ n ∧ n ≤ 1000000) ∧ (0 ≤ k ∧ k ≤ 12)
    · rw [if_pos d, if_pos d]
      by_cases z : (Sc a.toNat).1 = 0
      · rw [if_pos z, if_pos (by omega)]; exact agr.no h 3
      · rw [if_neg z, if_neg (by omega)]
        obtain ⟨L, _, e1, e2, e3⟩ := h.row (i := a.toNat) (by omega) (by omega)
        refine ⟨?_, rfl, h⟩
        show ((chG (fun i => cSg (sq (Sc a.toNat) i) n k.toNat) (seqLen (Sc a.toNat)) : Nat) : Int) = _
        rw [e1, e2, chG_pAt (q := fun i => rsq (Sm a.toNat) i) n k.toNat L e3]
    · rw [if_neg d, if_neg d]; exact agr.no h 2
  · rw [if_neg c, if_neg c]; exact agr.no h 1
theorem bt_ref (h : relS Sc Sm) (a n k m l : Int) : xoBt Sc a n k m l = refF Sm a n k m l := by
  unfold xoBt refF
  by_cases c : 0 ≤ a ∧ a < 5
  · rw [if_pos c, if_pos c]
    have hd := h.deg (i := a.toNat) (by omega)
    by_cases d : ((-1000000 ≤ n ∧ n ≤ 1000000) ∧ (0 ≤ k ∧ k ≤ 12)) ∧ ((-1000000 ≤ m ∧ m ≤ 1000000) ∧ (0 ≤ l ∧ l ≤ 12)) ∧ n * 2 ^ l.toNat < m * 2 ^ k.toNat
    · rw [if_pos d, if_pos d]
      by_cases z : (Sc a.toNat).1 = 0
      · rw [if_pos z, if_pos (by omega)]
      · rw [if_neg z, if_neg (show ¬ pdeg (Sm a.toNat) < 0 by omega)]
        rw [cSg_m h (i := a.toNat) (by omega) n, cSg_m h (i := a.toNat) (by omega) m]
        by_cases w : pAt (Sm a.toNat) n k.toNat = 0 ∨ pAt (Sm a.toNat) m l.toNat = 0
        · rw [if_pos w, if_pos (w.elim (fun e => Or.inl (sign_z.mpr e)) (fun e => Or.inr (sign_z.mpr e)))]
        · rw [if_neg w, if_neg (fun v => w (v.elim (fun e => Or.inl (sign_z.mp e)) (fun e => Or.inr (sign_z.mp e))))]
    · rw [if_neg d, if_neg d]
  · rw [if_neg c, if_neg c]
theorem pAt_7z {p q : Nat → Int} (h : eq7 p q) {n : Int} {e : Nat} : pAt p n e = 0 ↔ pAt q n e = 0 := by rw [pAt_z, pAt_z, ev_congr h]
theorem ag_cnt (h : relS Sc Sm) (a n k m l : Int) : agr (xoCnt Sc a n k m l) (opCnt Sm a n k m l) := by
  unfold xoCnt opCnt
  rw [bt_ref h]
  by_cases c : 0 < refF Sm a n k m l
  · rw [if_pos c, if_pos c]; exact agr.no h _
  · rw [if_neg c, if_neg c]
    have h0 : refF Sm a n k m l = 0 := by have := refF_in Sm a n k m l; omega
    obtain ⟨r1, r2, r3, r4, r5, r6, r7⟩ := refF_0 h0
    have hi : a.toNat < 5 := by omega
    obtain ⟨h1, h2, h3, h4⟩ := h a.toNat hi
    have hd := h.deg hi
    have g := h.gd hi (by omega)
    have e := g.cntD r2.1 r3.1 r2.2 r3.2 r4 (fun w => r6 ((pAt_7z h3).mp w)) (fun w => r7 ((pAt_7z h3).mp w))
    refine ⟨?_, rfl, h⟩
    show _ - _ = (dstF (Sm a.toNat) n k m l : Int)
    rw [e]
    have ef := freeR_congr (h.fs hi r5).hFree.1 h3
    unfold dstF dsQ
    rw [ef.deg]
    have d7 := pdeg_in (freeR (Sm a.toNat))
    have := hoP_congr (p := freeR (Sc a.toNat).2) (q := freeR (Sm a.toNat)) (d := (pdeg (freeR (Sm a.toNat))).toNat) (a := n * 2 ^ (max k l - k).toNat) (w := m * 2 ^ (max k l - l).toNat - n * 2 ^ (max k l - k).toNat) (e := (max k l).toNat) (by omega) ef ((pdeg (freeR (Sm a.toNat))).toNat + 1)
    rw [cnB_congr 158 (fun k hk => this k (by omega))]
theorem ag_all (h : relS Sc Sm) (a n k m l : Int) : agr (xoAll Sc a n k m l) (opAll Sm a n k m l) := by
  unfold xoAll opAll
  rw [bt_ref h]
  by_cases c : 0 < refF Sm a n k m l
  · rw [if_pos c, if_pos c]; exact agr.no h _
  · rw [if_neg c, if_neg c]
    have h0 : refF Sm a n k m l = 0 := by have := refF_in Sm a n k m l; omega
    obtain ⟨r1, r2, r3, r4, r5, r6, r7⟩ := refF_0 h0
    have hi : a.toNat < 5 := by omega
    obtain ⟨h1, h2, h3, h4⟩ := h a.toNat hi
    have hd := h.deg hi
    have g := h.gd hi (by omega)
    refine ⟨?_, rfl, h⟩
    exact xa_ca r2.1 r3.1 r2.2 r3.2 r4 7 g (w := 1) (Or.inl rfl) (fun k hk => by show _ = 1 * _; rw [Int.one_mul, h3 k hk]) (fun w => r6 ((pAt_7z h3).mp w)) (fun w => r7 ((pAt_7z h3).mp w))
