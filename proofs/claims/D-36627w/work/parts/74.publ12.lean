/-! ISOLATING (plain) -/
/-- what is told, what is thrown, kept, keptFree, many, level, low, high, roots -/
def isoB (p : Nat → Int) : Int := bnd p
def okIso (p : Nat → Int) : Prop := okFree p ∧ 0 ≤ pdeg (freeR p) ∧ okPl (freeR p) 0 (-bnd p) (bnd p)
theorem okPl_congr {p q : Nat → Int} {e : Nat} {m n : Int} (h : eq7 p q) (hk : okPl p e m n) : okPl q e m n := fun hne => by
  have h1 := hk hne
  have hd := pdeg_in q
  rw [h.deg] at h1
  exact fitB_congr 158 (fun k hk => hoP_congr (by omega) h _ k (by omega)) h1
theorem plF_congr {p q : Nat → Int} {e : Nat} {m n : Int} (h : eq7 p q) : plF p e m n = plF q e m n := by
  have hd := pdeg_in q
  unfold plF
  rw [h.deg]
  by_cases c : m = n
  · rw [if_pos c, if_pos c]
  · rw [if_neg c, if_neg c, cnB_congr 158 (fun k hk => hoP_congr (by omega) h _ k (by omega))]
theorem bmost_congr {p q : Nat → Int} : ∀ n, (∀ k, k < n → p k = q k) → bmost p n = bmost q n := by
  intro n
  induction n with
  | zero => intro _; rfl
  | succ n ih =>
    intro h
    show max (bmost p n) ((p n).natAbs : Int) = max (bmost q n) ((q n).natAbs : Int)
    rw [ih (fun k hk => h k (by omega)), h n (by omega)]
theorem bnd_congr {p q : Nat → Int} (h : eq7 p q) : bnd p = bnd q := by
  have hd := pdeg_in q
  unfold bnd
  rw [h.deg, bmost_congr _ (fun k hk => h k (by omega)), h _ (deg_nat q)]
