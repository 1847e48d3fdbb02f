/-! THE SLOTS, AND THE ROW OF REMAINDERS (plain) -/
def SL (κ : zK) (ad : Nat → Nat) (S : Nat → Nat → Int) (H : Heap) : Prop := ∀ i, i < 5 → hp κ H (ad (3010 + i)) (eI κ 7 (S i))
theorem SL.kept {κ : zK} {ad : Nat → Nat} {S : Nat → Nat → Int} {H H1 : Heap} (h : SL κ ad S H) (hI : Inj ad) {A : Nat → Prop} (hA : ∀ q, A q → AN ad q) (hk : ∀ q : Nat, q < H.size → ¬ A q → H1[q]? = H[q]?) : SL κ ad S H1 := fun i hi => (h i hi).far hI (by omega) hA hk
theorem SL.same {κ : zK} {ad : Nat → Nat} {S : Nat → Nat → Int} {H H1 : Heap} (h : SL κ ad S H) (hI : Inj ad) {i : Nat} (hs : zSame H H1 (ad i)) (hi : i < 3010 ∨ 3015 ≤ i) : SL κ ad S H1 := fun k hk => (h k hk).same hs (fun e => by have := hI _ _ e; omega)
theorem SL.grow {κ : zK} {ad : Nat → Nat} {S : Nat → Nat → Int} {H H1 : Heap} (h : SL κ ad S H) (hs : zGrow H H1) : SL κ ad S H1 := fun k hk => (h k hk).grow hs
theorem SL.put {κ : zK} {ad : Nat → Nat} {S : Nat → Nat → Int} {H H1 : Heap} (h : SL κ ad S H) (hI : Inj ad) {i : Nat} {r : Nat → Int} (hs : zSame H H1 (ad (3010 + i))) (hr : hp κ H1 (ad (3010 + i)) (eI κ 7 r)) : SL κ ad (va_up S i r) H1 := fun k hk => by
  by_cases e : k = i
  · subst e; rw [va_upj]; exact hr
  · rw [va_upn _ _ e]; exact (h k hk).same hs (fun e2 => e (by have := hI _ _ e2; omega))
/-- Sturm's row -/
def rsq (p : Nat → Int) : Nat → (Nat → Int)
  | 0 => pprim p
  | 1 => pprim (drv p)
  | i + 2 => fun k => -(remF 7 (rsq p i) (rsq p (i + 1)) k)
theorem rsq_0 (p : Nat → Int) : rsq p 0 = pprim p := by rw [rsq]
theorem rsq_1 (p : Nat → Int) : rsq p 1 = pprim (drv p) := by rw [rsq]
theorem rsq_s (p : Nat → Int) (i : Nat) : rsq p (i + 2) = fun k => -(remF 7 (rsq p i) (rsq p (i + 1)) k) := by rw [rsq]
def fitRow (p : Nat → Int) : Prop := pS p ∧ pS (drv p) ∧ ∀ i, 0 ≤ pdeg (rsq p (i + 1)) → fitR 7 (rsq p i) (rsq p (i + 1))
/-- the row has L members -/
def isRow (p : Nat → Int) (L : Nat) : Prop := 1 ≤ L ∧ L ≤ 7 ∧ (∀ i, i < L → 0 ≤ pdeg (rsq p i)) ∧ pdeg (rsq p L) < 0
theorem neg_congr7 {p q : Nat → Int} (h : eq7 p q) : eq7 (fun k => -p k) (fun k => -q k) := fun k hk => by show -p k = -q k; rw [h k hk]
theorem pS_neg {p : Nat → Int} (h : pS p) : pS (fun k => -p k) := fun k hk => by show sN (-p k).natAbs; rw [Int.natAbs_neg]; exact h k hk
theorem pdeg_prim_nn {p : Nat → Int} (h : pdeg p < 0) : pdeg (pprim p) < 0 := by
  have hz : ∀ k, k < 7 → p k = 0 := fun k hk => degU_hi p 7 k (by show pdeg p < _; omega) hk
  have := degU_z (p := pprim p) (n := 7) (fun k hk => pprim_z (hz k hk))
  show degU (pprim p) 7 < 0
  rw [this]; decide
def AR (ad : Nat → Nat) : Nat → Prop := fun q => AN ad q ∨ q = ad 3002
theorem rsq_deg {p : Nat → Int} {M : Nat} (h : 0 ≤ pdeg (rsq p (M + 1))) : pdeg (rsq p (M + 2)) < pdeg (rsq p (M + 1)) := by
  rw [rsq_s, pdeg_neg]
  exact remF_deg 7 h (by have := pdeg_in (rsq p M); omega)
theorem rsq1_deg (p : Nat → Int) : pdeg (rsq p 1) ≤ 5 := by
  rw [rsq_1]
  have h6 : pprim (drv p) 6 = 0 := pprim_z (by unfold drv; rw [if_neg (by decide)])
  have := degU_le (p := pprim (drv p)) (m := 6) 7 (fun j h1 h2 => by rw [show j = 6 by omega]; exact h6)
  show degU _ 7 ≤ 5
  omega
