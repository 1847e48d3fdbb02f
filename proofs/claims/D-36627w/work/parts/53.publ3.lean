/-! STURM'S ROW AND SIGNS: THE ANSWERS (plain) -/
def rl (p : Nat → Int) : Nat → Nat → Nat
  | 0, i => i
  | n + 1, i => if pdeg (rsq p i) < 0 then i else rl p n (i + 1)
def rowLen (p : Nat → Int) : Nat := rl p 7 1
theorem rl_is {p : Nat → Int} {L : Nat} (hL : pdeg (rsq p L) < 0) : ∀ n i, i ≤ L → L ≤ i + n → (∀ j, i ≤ j → j < L → 0 ≤ pdeg (rsq p j)) → rl p n i = L := by
  intro n
  induction n with
  | zero => intro i h1 h2 _; show i = L; omega
  | succ n ih =>
    intro i h1 h2 h3
    show (if pdeg (rsq p i) < 0 then i else rl p n (i + 1)) = L
    by_cases e : i = L
    · rw [if_pos (by rw [e]; exact hL), e]
    · have := h3 i (by omega) (by omega)
      rw [if_neg (by omega)]
      exact ih (i + 1) (by omega) (by omega) (fun j hj hl => h3 j (by omega) hl)
theorem isRow.len {p : Nat → Int} {L : Nat} (h : isRow p L) : rowLen p = L := rl_is h.2.2.2 7 1 h.1 (by have := h.2.1; omega) (fun j _ hj => h.2.2.1 j hj)
def okRow (p : Nat → Int) : Prop := fitRow p ∧ 0 ≤ pdeg (pprim p)
/-- the value at n / 2^e, times a power of two -/
def pAt (p : Nat → Int) (n : Int) (e : Nat) : Int := hv p n e (pdeg p + 1).toNat (pdeg p + 1).toNat
theorem hv_congr {p q : Nat → Int} {m : Int} {e N : Nat} (hN : N ≤ 7) (h : eq7 p q) : ∀ i, i ≤ N → hv p m e N i = hv q m e N i := by
  intro i
  induction i with
  | zero => intro _; rfl
  | succ i ih => intro hi; unfold hv; rw [ih (by omega), h (N - 1 - i) (by omega)]
theorem pAt_congr {p q : Nat → Int} {n : Int} {e : Nat} (h : eq7 p q) : pAt p n e = pAt q n e := by
  unfold pAt
  rw [h.deg]
  exact hv_congr (by have := pdeg_in q; omega) h _ (Nat.le_refl _)
def opLen (S : Nat → Nat → Int) (a : Int) : zRp := if 0 ≤ a ∧ a < 5 then (if pdeg (S a.toNat) < 0 then (0, 2, S) else ((rowLen (S a.toNat) : Int), 0, S)) else (0, 1, S)
def opSdeg (S : Nat → Nat → Int) (a i : Int) : zRp := if 0 ≤ a ∧ a < 5 then (if pdeg (S a.toNat) < 0 then (0, 2, S) else if 0 ≤ i ∧ i ≤ (rowLen (S a.toNat) : Int) - 1 then (pdeg (rsq (S a.toNat) i.toNat), 0, S) else (0, 3, S)) else (0, 1, S)
def isPt (n k : Int) : Prop := (-1000000 ≤ n ∧ n ≤ 1000000) ∧ (0 ≤ k ∧ k ≤ 12)
def opSign (S : Nat → Nat → Int) (a n k : Int) : zRp := if 0 ≤ a ∧ a < 5 then (if (-1000000 ≤ n ∧ n ≤ 1000000) ∧ (0 ≤ k ∧ k ≤ 12) then ((pAt (S a.toNat) n k.toNat).sign, 0, S) else (0, 2, S)) else (0, 1, S)
def opVar (S : Nat → Nat → Int) (a n k : Int) : zRp := if 0 ≤ a ∧ a < 5 then (if (-1000000 ≤ n ∧ n ≤ 1000000) ∧ (0 ≤ k ∧ k ≤ 12) then (if pdeg (S a.toNat) < 0 then (0, 3, S) else ((chC (fun i => pAt (rsq (S a.toNat) i) n k.toNat) (rowLen (S a.toNat)) : Int), 0, S)) else (0, 2, S)) else (0, 1, S)
def opCsc (S : Nat → Nat → Int) (a : Int) : zRp := if 0 ≤ a ∧ a < 5 then ((chC (S a.toNat) 7 : Int), 0, S) else (0, 1, S)
theorem rsq_pS {p : Nat → Int} (h : fitRow p) : ∀ {n : Nat}, (∀ j, j < n → 0 ≤ pdeg (rsq p j)) → ∀ i, i ≤ n → pS (rsq p i) := by
  intro n hd i
  induction i using Nat.strongRecOn with
  | _ i ih =>
    intro hi
    match i, ih, hi with
    | 0, _, _ => rw [rsq_0]; exact h.1.prim
    | 1, _, _ => rw [rsq_1]; exact h.2.1.prim
    | i + 2, ih, hi => rw [rsq_s]; exact pS_neg (remF_pS 7 (ih i (by omega) (by omega)) (h.2.2 i (hd (i + 1) (by omega))))
