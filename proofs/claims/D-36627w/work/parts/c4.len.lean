/-! PLAIN LAW 13: how long the sequences are; the common divisor -/
theorem drv_deg {p : Nat → Int} {g : Nat} (h : pdeg p = (g : Int)) : pdeg (drv p) = (g : Int) - 1 := by
  have h1 := degU_at p 7 g h
  by_cases e : g = 0
  · subst e
    have : pdeg (drv p) = -1 := degU_z (fun j hj => by
      unfold drv
      split
      · rw [degU_hi p 7 (j + 1) (by show pdeg p < _; omega) (by assumption), Int.mul_zero]
      · rfl)
    omega
  · have := pdeg_is (p := drv p) (g := g - 1) (by omega) (by
      unfold drv
      rw [if_pos (by omega), show g - 1 + 1 = g by omega]
      exact Int.mul_ne_zero (by omega) h1.1) (fun k a b => by
      unfold drv
      split
      · rw [degU_hi p 7 (k + 1) (by show pdeg p < _; omega) (by assumption), Int.mul_zero]
      · rfl)
    omega
/-- the row ends -/
theorem row_ex {p : Nat → Int} (h : 0 ≤ pdeg p) : ∃ L, isRow p L := by
  obtain ⟨g, hg⟩ := Int.eq_ofNat_of_zero_le h
  have d0 : pdeg (rsq p 0) = (g : Int) := by rw [rsq_0, prim_deg]; exact hg
  have d1 : pdeg (rsq p 1) = (g : Int) - 1 := by rw [rsq_1, prim_deg]; exact drv_deg hg
  have g7 := (degU_at p 7 g hg).2
  have key : ∀ i, (∀ j, j ≤ i → 0 ≤ pdeg (rsq p (j + 1))) → pdeg (rsq p (i + 1)) ≤ (g : Int) - 1 - (i : Int) := by
    intro i
    induction i with
    | zero => intro _; rw [d1]; omega
    | succ i ih =>
      intro hp
      have e1 := ih (fun j hj => hp j (by omega))
      have e2 := rsq_deg (hp i (by omega))
      show pdeg (rsq p (i + 2)) ≤ _
      omega
  have ex : ∃ i, pdeg (rsq p (i + 1)) < 0 := by
    refine Classical.byContradiction fun hno => ?_
    have hall : ∀ i, 0 ≤ pdeg (rsq p (i + 1)) := fun i => by
      refine Classical.byContradiction fun w => hno ⟨i, by omega⟩
    have k1 := key g (fun j _ => hall j)
    have k2 := hall g
    omega
  -- the first
  obtain ⟨i, hi, hm⟩ : ∃ i, pdeg (rsq p (i + 1)) < 0 ∧ ∀ j, j < i → 0 ≤ pdeg (rsq p (j + 1)) := by
    obtain ⟨i, hi⟩ := ex
    induction i using Nat.strongRecOn with
    | _ i ih =>
      by_cases c : ∃ j, j < i ∧ pdeg (rsq p (j + 1)) < 0
      · obtain ⟨j, hj, hj2⟩ := c
        exact ih j hj hj2
      · exact ⟨i, hi, fun j hj => Classical.byContradiction fun w => c ⟨j, hj, by omega⟩⟩
  refine ⟨i + 1, by omega, ?_, fun j hj => ?_, hi⟩
  · by_cases z : i = 0
    · omega
    · have k1 := key (i - 1) (fun j hj => hm j (by omega))
      have k2 := hm (i - 1) (by omega)
      rw [show i - 1 + 1 = i by omega] at k1 k2
      omega
  · by_cases z : j = 0
    · rw [z, d0]; omega
    · have := hm (j - 1) (by omega)
      rw [show j - 1 + 1 = j by omega] at this
      exact this
theorem sl_is {P : Pl} {L : Nat} (hz : (cRem (sq P (L - 2)) (sq P (L - 1))).1 = 0) : ∀ f i, i ≤ L → L < i + f → (∀ j, i ≤ j → j < L → (cRem (sq P (j - 2)) (sq P (j - 1))).1 ≠ 0) → sl P f i = L := by
  intro f
  induction f with
  | zero => intro i h1 h2 _; omega
  | succ f ih =>
    intro i h1 h2 h3
    by_cases e : i = L
    · rw [e]; exact sl_e hz
    · rw [sl_s (Nat.succ_pos f) (h3 i (Nat.le_refl i) (by omega))]
      exact ih (i + 1) (by omega) (by omega) (fun j hj hl => h3 j (by omega) hl)
/-- the component's sequence and the model's row: as long, and equal -/
theorem seq_row {P : Pl} (hP : nf P) (h7 : P.1 ≤ 7) (h0 : 0 < P.1) {L : Nat} (hr : isRow P.2 L) : seqLen P = L ∧ ∀ i, i ≤ L → nf (sq P i) ∧ (sq P i).1 ≤ 7 ∧ eq7 (sq P i).2 (rsq P.2 i) ∧ (i < L → 0 < (sq P i).1) := by
  have all : ∀ i, i ≤ L → nf (sq P i) ∧ (sq P i).1 ≤ 7 ∧ eq7 (sq P i).2 (rsq P.2 i) ∧ (i < L → 0 < (sq P i).1) := by
    intro i
    induction i using Nat.strongRecOn with
    | _ i ih =>
      intro hi
      obtain ⟨a1, a2, a3⟩ := sq_row hP h7 i (fun j _ hj => (ih j hj (by omega)).2.2.2 (by omega))
      refine ⟨a2, a3, a1, fun hl => ?_⟩
      have e1 := a2.deg a3
      have e2 := hr.2.2.1 i hl
      rw [← a1.deg] at e2
      omega
  refine ⟨?_, all⟩
  have hd := hP.deg h7
  obtain ⟨g, hg⟩ := Int.eq_ofNat_of_zero_le (show 0 ≤ pdeg P.2 by omega)
  have d1 : pdeg (rsq P.2 1) = (g : Int) - 1 := by rw [rsq_1, prim_deg]; exact drv_deg hg
  unfold seqLen
  by_cases c : P.1 ≤ 1
  · rw [if_pos c]
    have hL := hr.1
    refine Classical.byContradiction fun w => ?_
    have := hr.2.2.1 1 (by omega)
    omega
  · rw [if_neg c]
    have hL2 : 2 ≤ L := by
      refine Classical.byContradiction fun w => ?_
      have h1 := hr.1
      have e : L = 1 := by omega
      have := hr.2.2.2
      rw [e] at this
      omega
    have len : ∀ j, 2 ≤ j → (cRem (sq P (j - 2)) (sq P (j - 1))).1 = (sq P j).1 := fun j hj => (sq_lenL hP hj).symm
    refine sl_is ?_ 8 2 hL2 (by have := hr.2.1; omega) (fun j h1 h2 => ?_)
    · rw [len L hL2]
      obtain ⟨a1, a2, a3, _⟩ := all L (Nat.le_refl L)
      have e1 := a1.deg a2
      have e2 := hr.2.2.2
      rw [← a3.deg] at e2
      omega
    · rw [len j h1]
      have := (all j (by omega)).2.2.2 h2
      omega
/-- the divisors -/
theorem ppos_prp {a b : Nat → Int} (h : eq7 (pprim a) (pprim b)) : eq7 (ppos (pprim a)) (ppos (pprim b)) := ppos_congr h
theorem comF_n : ∀ (n : Nat) {a b : Nat → Int}, pdeg b < (n : Int) → ∀ m, n ≤ m → comF m a b = comF n a b := by
  intro n
  induction n with
  | zero => intro a b h m _; rw [comF_t (by omega), comF_t (by omega)]
  | succ n ih =>
    intro a b h m hm
    by_cases c : pdeg b < 0
    · rw [comF_t c, comF_t c]
    · obtain ⟨m, rfl⟩ : ∃ j, m = j + 1 := ⟨m - 1, by omega⟩
      rw [comF_s c, comF_s c]
      have := remF_deg 7 (a := a) (b := b) (by omega) (by have := pdeg_in a; omega)
      exact ih (by omega) m (by omega)
theorem comF_prp : ∀ (n : Nat) {a a' b b' : Nat → Int}, prp a a' → prp b b' → prp (comF n a b) (comF n a' b') := by
  intro n
  induction n with
  | zero => intro a a' b b' h _; exact h
  | succ n ih =>
    intro a a' b b' ha hb
    by_cases c : pdeg b < 0
    · rw [comF_t c, comF_t (by rw [← hb.deg]; exact c)]; exact ha
    · rw [comF_s c, comF_s (by rw [← hb.deg]; exact c)]; exact ih hb (remF_prp 7 ha hb)
/-- whichever comes first, after a turn they are the same -/
theorem comF_swap {a b : Nat → Int} (h : pdeg a < pdeg b) : prp (comF 9 a b) (comF 8 b a) := by
  rw [comF_s (by have := pdeg_in a; omega), remF_t (by omega)]
  exact eq7.rfl'
theorem dq_com {P Q : Pl} (hP : nf P) (hQ : nf Q) (hP7 : P.1 ≤ 7) (hQ7 : Q.1 ≤ 7) : ∀ (f k : Nat) (a b : Nat → Int), nf (dq P Q k) → nf (dq P Q (k + 1)) → (dq P Q k).1 ≤ 7 → (dq P Q (k + 1)).1 ≤ 7 → prp a (dq P Q k).2 → prp b (dq P Q (k + 1)).2 → (dq P Q (k + 1)).1 ≤ f → prp (comF f a b) (dq P Q (dvK P Q f k)).2 ∧ nf (dq P Q (dvK P Q f k)) ∧ (dq P Q (dvK P Q f k)).1 ≤ 7 := by
  intro f
  induction f with
  | zero =>
    intro k a b n1 n2 l1 l2 ha hb hf
    exact ⟨ha, n1, l1⟩
  | succ f ih =>
    intro k a b n1 n2 l1 l2 ha hb hf
    have e1 := n2.deg l2
    have e2 := hb.deg
    by_cases c : (dq P Q (k + 1)).1 = 0
    · rw [comF_t (by omega), show dvK P Q (f + 1) k = k from if_pos c]
      exact ⟨ha, n1, l1⟩
    · rw [comF_s (by omega), show dvK P Q (f + 1) k = dvK P Q f (k + 1) from if_neg c]
      obtain ⟨c1, c2, c3⟩ := cRem_f n1 n2 l1 (by omega) l2 (a := a) ha
      obtain ⟨p1, p2⟩ := cPrim_f (P := cRem (dq P Q k) (dq P Q (k + 1))) c2 (by omega)
      have e3 : prp (remF 7 a b) (cRem (dq P Q k) (dq P Q (k + 1))).2 := (remF_prp 7 (eq7.rfl' (p := pprim a)) hb).trans c1
      have hdeg := remF_deg 7 (a := a) (b := b) (by omega) (by have := pdeg_in a; omega)
      have e4 := e3.deg
      have e5 := c2.deg (by omega)
      exact ih (k + 1) b (remF 7 a b) n2 (cPrim_nf c2) l2 (by show (cPrim (cRem (dq P Q k) (dq P Q (k + 1)))).1 ≤ 7; omega) hb (e3.trans ((prp_prim _).symm.trans (prp_eq p1.symm))) (by show (cPrim (cRem (dq P Q k) (dq P Q (k + 1)))).1 ≤ f; omega)
theorem cPos_f {P : Pl} (h : nf P) (h7 : P.1 ≤ 7) : eq7 (cPos P).2 (ppos P.2) ∧ (cPos P).1 ≤ P.1 ∧ nf (cPos P) := by
  have hd := h.deg h7
  unfold cPos
  by_cases c : 0 < P.1 ∧ P.2 (P.1 - 1) < 0
  · rw [if_pos c]
    obtain ⟨n1, n2⟩ := cNeg_f h
    refine ⟨fun k _ => ?_, n2, nf_mk _ _⟩
    rw [n1]
    unfold ppos
    rw [if_pos ⟨by omega, by rw [show (pdeg P.2).toNat = P.1 - 1 by omega]; exact c.2⟩]
  · rw [if_neg c]
    refine ⟨fun k _ => ?_, Nat.le_refl _, h⟩
    unfold ppos
    rw [if_neg (fun w => c ⟨by have := w.1; omega, by have := w.2; rw [show (pdeg P.2).toNat = P.1 - 1 by omega] at this; exact this⟩)]
/-- the component's common divisor is the model's -/
theorem cDiv_com {P Q : Pl} (hP : nf P) (hQ : nf Q) (hP7 : P.1 ≤ 7) (hQ7 : Q.1 ≤ 7) : eq7 (cDiv P Q).2 (comR P.2 Q.2) ∧ nf (cDiv P Q) ∧ (cDiv P Q).1 ≤ 7 := by
  obtain ⟨h1, h2, h3⟩ := dq_com hP hQ hP7 hQ7 9 0 P.2 Q.2 hP hQ hP7 hQ7 (eq7.rfl' (p := pprim P.2)) (eq7.rfl' (p := pprim Q.2)) (by show Q.1 ≤ 9; omega)
  obtain ⟨p1, p2⟩ := cPrim_f h2 h3
  obtain ⟨q1, q2, q3⟩ := cPos_f (cPrim_nf h2) (by omega)
  refine ⟨?_, q3, by show (cPos (cPrim (dq P Q (dvK P Q 9 0)))).1 ≤ 7; omega⟩
  show eq7 (cPos (cPrim (dq P Q (dvK P Q 9 0)))).2 (comR P.2 Q.2)
  refine q1.trans ((ppos_congr p1).trans ?_)
  unfold comR
  have e1 : eq7 (pprim (dq P Q (dvK P Q 9 0)).2) (pprim (comF 9 P.2 Q.2)) := h1.symm
  by_cases c : pdeg P.2 < pdeg Q.2
  · rw [if_pos c]
    exact ppos_congr (e1.trans (comF_swap c))
  · rw [if_neg c]
    have : comF 9 P.2 Q.2 = comF 8 P.2 Q.2 := comF_n 8 (by have := pdeg_in Q.2; omega) 9 (by decide)
    rw [this] at e1
    exact ppos_congr e1
