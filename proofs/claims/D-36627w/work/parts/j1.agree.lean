/-! more of what agrees; a refusal leaves the slots; its number is small -/
section AGREE
variable {Sc : Nat → Pl} {Sm : Nat → Nat → Int}
theorem ag_dr (h : relS Sc Sm) (a : Int) : agr (xoDR Sc a) (opDR Sm a) := by
  unfold xoDR opDR
  by_cases c : 0 ≤ a ∧ a < 5
  · rw [if_pos c, if_pos c]
    have hd := h.deg (i := a.toNat) (by omega)
    by_cases d : (Sc a.toNat).1 = 0
    · rw [if_pos d, if_pos (by omega)]; exact agr.no h 2
    · rw [if_neg d, if_neg (by omega)]
      have h0 : 0 ≤ pdeg (Sm a.toNat) := by omega
      obtain ⟨_, e2, _⟩ := ag_iso h c (by omega)
      unfold xoIso at e2
      rw [if_pos c, if_neg d] at e2
      have b := rs_bnd h c h0
      obtain ⟨_, _, e3⟩ := (rs_mfs h c h0).hDst (n := -bnd (Sm a.toNat)) (k := 0) (m := bnd (Sm a.toNat)) (l := 0) (by omega) (by omega) (by decide) (by decide) (by show _ * 2 ^ 0 < _ * 2 ^ 0; omega)
      refine ⟨?_, rfl, h⟩
      show arF _ _ = ((dstF (Sm a.toNat) (-bnd (Sm a.toNat)) 0 (bnd (Sm a.toNat)) 0 : Nat) : Int)
      rw [e3]
      have z1 : (max (0 : Int) 0).toNat = 0 := by decide
      have z2 : (max (0 : Int) 0 - 0).toNat = 0 := by decide
      rw [z1, z2, Int.pow_zero, Int.mul_one, Int.mul_one]
      exact e2
  · rw [if_neg c, if_neg c]; exact agr.no h 1
theorem ag_tr (h : relS Sc Sm) (a : Int) : agr (xoTr Sc a) (opTrue Sm a) := by
  unfold xoTr opTrue
  by_cases c : 0 ≤ a ∧ a < 5
  · rw [if_pos c, if_pos c]; exact ⟨rfl, rfl, h⟩
  · rw [if_neg c, if_neg c]; exact ⟨rfl, rfl, h⟩
theorem ag_rts (h : relS Sc Sm) {c : Nat} {P0 : Option Pl} {K F : Nat → Int} {n : Nat} {iv : Nat → Ivl} {many : Int} {lv lo hi rt : Nat → Int} (hI : relI c P0 K F n iv many lv lo hi rt) (x : Int) : agr (xoRts Sc n iv x) (opRts Sm many rt x) := by
  obtain ⟨h1, h2, h3, h4, h5⟩ := hI
  subst h1
  unfold xoRts opRts
  by_cases d : 0 ≤ x ∧ x < (n : Int)
  · rw [if_pos d, if_pos d]
    exact ⟨by rw [(h3 x.toNat (by omega)).1], rfl, h⟩
  · rw [if_neg d, if_neg d]; exact agr.no h 1
theorem ag_iv (h : relS Sc Sm) {c : Nat} {P0 : Option Pl} {K F : Nat → Int} {n : Nat} {iv : Nat → Ivl} {many : Int} {lv lo hi rt : Nat → Int} (hI : relI c P0 K F n iv many lv lo hi rt) (x q : Int) : agr (xoIv Sc n iv x q) (opIv Sm many lv lo hi x q) := by
  obtain ⟨h1, h2, h3, h4, h5⟩ := hI
  subst h1
  unfold xoIv opIv
  by_cases d : 0 ≤ x ∧ x < (n : Int)
  · rw [if_pos d, if_pos d, (h3 x.toNat (by omega)).1]
    by_cases q1 : q = 100
    · rw [if_pos q1, if_pos (Or.inl q1), if_pos q1]; exact ⟨rfl, rfl, h⟩
    · rw [if_neg q1]
      by_cases q2 : q = 109
      · rw [if_pos q2, if_pos (Or.inr (Or.inl q2)), if_neg q1, if_pos q2]; exact ⟨rfl, rfl, h⟩
      · rw [if_neg q2]
        by_cases q3 : q = 110
        · rw [if_pos q3, if_pos (Or.inr (Or.inr q3)), if_neg q1, if_neg q2]; exact ⟨rfl, rfl, h⟩
        · rw [if_neg q3, if_neg (by omega)]; exact agr.no h 2
  · rw [if_neg d, if_neg d]; exact agr.no h 1
end AGREE
/-- an answer of the component: a refusal leaves the slots; its number is small -/
def okR (S : Nat → Pl) (c : zRc) : Prop := (c.2.1 ≠ 0 → c.2.2 = S) ∧ 0 ≤ c.2.1 ∧ c.2.1 ≤ 9
theorem okR.zero {S T : Nat → Pl} {r : Int} : okR S (r, 0, T) := ⟨fun h => absurd rfl h, Int.le_refl 0, by show (0 : Int) ≤ 9; decide⟩
theorem okR.no {S : Nat → Pl} {r k : Int} (h : 0 ≤ k ∧ k ≤ 9) : okR S (r, k, S) := ⟨fun _ => rfl, h.1, h.2⟩
theorem okR.store {S : Nat → Pl} {P : Pl} {t : Nat} {k : Int} (h : 0 ≤ k ∧ k ≤ 9) : okR S (storeR P t k S) := by
  unfold storeR
  split
  · exact okR.zero
  · exact okR.no h
theorem okR.ite {S : Nat → Pl} {p : Prop} [Decidable p] {a b : zRc} (ha : okR S a) (hb : okR S b) : okR S (if p then a else b) := by
  split
  · exact ha
  · exact hb
theorem okr_Set (S : Nat → Pl) (a p v : Int) : okR S (xoSet S a p v) := by
  unfold xoSet
  repeat' (first | exact okR.zero | exact okR.store (by decide) | exact okR.no (by decide) | refine okR.ite ?_ ?_)
theorem okr_Coef (S : Nat → Pl) (a p : Int) : okR S (xoCoef S a p) := by
  unfold xoCoef
  repeat' (first | exact okR.zero | exact okR.store (by decide) | exact okR.no (by decide) | refine okR.ite ?_ ?_)
theorem okr_Deg (S : Nat → Pl) (a : Int) : okR S (xoDeg S a) := by
  unfold xoDeg
  repeat' (first | exact okR.zero | exact okR.store (by decide) | exact okR.no (by decide) | refine okR.ite ?_ ?_)
theorem okr_Copy (S : Nat → Pl) (a t : Int) : okR S (xoCopy S a t) := by
  unfold xoCopy
  repeat' (first | exact okR.zero | exact okR.store (by decide) | exact okR.no (by decide) | refine okR.ite ?_ ?_)
theorem okr_Add (S : Nat → Pl) (a b t : Int) : okR S (xoAdd S a b t) := by
  unfold xoAdd
  repeat' (first | exact okR.zero | exact okR.store (by decide) | exact okR.no (by decide) | refine okR.ite ?_ ?_)
theorem okr_Mul (S : Nat → Pl) (a b t : Int) : okR S (xoMul S a b t) := by
  unfold xoMul
  repeat' (first | exact okR.zero | exact okR.store (by decide) | exact okR.no (by decide) | refine okR.ite ?_ ?_)
theorem okr_Drv (S : Nat → Pl) (a t : Int) : okR S (xoDrv S a t) := by
  unfold xoDrv
  repeat' (first | exact okR.zero | exact okR.store (by decide) | exact okR.no (by decide) | refine okR.ite ?_ ?_)
theorem okr_Refl (S : Nat → Pl) (a t : Int) : okR S (xoRefl S a t) := by
  unfold xoRefl
  repeat' (first | exact okR.zero | exact okR.store (by decide) | exact okR.no (by decide) | refine okR.ite ?_ ?_)
theorem okr_Scale (S : Nat → Pl) (a y t : Int) : okR S (xoScale S a y t) := by
  unfold xoScale
  repeat' (first | exact okR.zero | exact okR.store (by decide) | exact okR.no (by decide) | refine okR.ite ?_ ?_)
theorem okr_Shift (S : Nat → Pl) (a y t : Int) : okR S (xoShift S a y t) := by
  unfold xoShift
  repeat' (first | exact okR.zero | exact okR.store (by decide) | exact okR.no (by decide) | refine okR.ite ?_ ?_)
theorem okr_Gcd (S : Nat → Pl) (a b t : Int) : okR S (xoGcd S a b t) := by
  unfold xoGcd
  repeat' (first | exact okR.zero | exact okR.store (by decide) | exact okR.no (by decide) | refine okR.ite ?_ ?_)
theorem okr_Free (S : Nat → Pl) (a t : Int) : okR S (xoFree S a t) := by
  unfold xoFree
  repeat' (first | exact okR.zero | exact okR.store (by decide) | exact okR.no (by decide) | refine okR.ite ?_ ?_)
theorem okr_Len (S : Nat → Pl) (a : Int) : okR S (xoLen S a) := by
  unfold xoLen
  repeat' (first | exact okR.zero | exact okR.store (by decide) | exact okR.no (by decide) | refine okR.ite ?_ ?_)
theorem okr_Sdeg (S : Nat → Pl) (a i : Int) : okR S (xoSdeg S a i) := by
  unfold xoSdeg
  repeat' (first | exact okR.zero | exact okR.store (by decide) | exact okR.no (by decide) | refine okR.ite ?_ ?_)
theorem okr_Scf (S : Nat → Pl) (a i p : Int) : okR S (xoScf S a i p) := by
  unfold xoScf
  repeat' (first | exact okR.zero | exact okR.store (by decide) | exact okR.no (by decide) | refine okR.ite ?_ ?_)
theorem okr_Sign (S : Nat → Pl) (a n k : Int) : okR S (xoSign S a n k) := by
  unfold xoSign
  repeat' (first | exact okR.zero | exact okR.store (by decide) | exact okR.no (by decide) | refine okR.ite ?_ ?_)
theorem okr_Csc (S : Nat → Pl) (a : Int) : okR S (xoCsc S a) := by
  unfold xoCsc
  repeat' (first | exact okR.zero | exact okR.store (by decide) | exact okR.no (by decide) | refine okR.ite ?_ ?_)
theorem okr_Var (S : Nat → Pl) (a n k : Int) : okR S (xoVar S a n k) := by
  unfold xoVar
  repeat' (first | exact okR.zero | exact okR.store (by decide) | exact okR.no (by decide) | refine okR.ite ?_ ?_)
theorem okr_DR (S : Nat → Pl) (a : Int) : okR S (xoDR S a) := by
  unfold xoDR
  repeat' (first | exact okR.zero | exact okR.store (by decide) | exact okR.no (by decide) | refine okR.ite ?_ ?_)
theorem okr_Tr (S : Nat → Pl) (a : Int) : okR S (xoTr S a) := by
  unfold xoTr
  repeat' (first | exact okR.zero | exact okR.store (by decide) | exact okR.no (by decide) | refine okR.ite ?_ ?_)
theorem okr_Rts (S : Nat → Pl) (n : Nat) (iv : Nat → Ivl) (j : Int) : okR S (xoRts S n iv j) := by
  unfold xoRts
  repeat' (first | exact okR.zero | exact okR.no (by decide) | refine okR.ite ?_ ?_)
theorem okr_Iv (S : Nat → Pl) (n : Nat) (iv : Nat → Ivl) (j c : Int) : okR S (xoIv S n iv j c) := by
  unfold xoIv
  repeat' (first | exact okR.zero | exact okR.no (by decide) | refine okR.ite ?_ ?_)
theorem xoBt_in (S : Nat → Pl) (a n k m l : Int) : 0 ≤ xoBt S a n k m l ∧ xoBt S a n k m l ≤ 9 := by
  unfold xoBt
  repeat' split
  all_goals decide
theorem okr_Cnt (S : Nat → Pl) (a n k m l : Int) : okR S (xoCnt S a n k m l) := okR.ite (okR.no (xoBt_in S a n k m l)) okR.zero
theorem okr_All (S : Nat → Pl) (a n k m l : Int) : okR S (xoAll S a n k m l) := okR.ite (okR.no (xoBt_in S a n k m l)) okR.zero
