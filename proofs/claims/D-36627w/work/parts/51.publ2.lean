/-! THE GREAT CALLS' ANSWERS (plain) -/
theorem va_upPm {A B : Nat → Nat → Int} (h : ∀ m, m < 176 → eq7 (A m) (B m)) {j : Nat} {r s : Nat → Int} (e : eq7 r s) : ∀ m, m < 176 → eq7 (va_up A j r m) (va_up B j s m) := fun m hm => by
  unfold va_up; split
  · exact e
  · exact h m hm
theorem sN_small {n : Nat} (h : n ≤ 4294967296) : sN n := by
  have h1 : (2 : Nat) ^ 32 < 2 ^ 1535 := Nat.pow_lt_pow_right (by decide) (by decide)
  have h2 : (2 : Nat) ^ 32 = 4294967296 := by decide
  show n < 2 ^ 1535
  rw [h2] at h1
  exact Nat.lt_of_le_of_lt h h1
theorem bS.pS {S : Nat → Nat → Int} (h : bS S) {i : Nat} (hi : i < 5) : pS (S i) := fun k hk => sN_small (by have := h i hi k hk; omega)
theorem bS.rI {S : Nat → Nat → Int} (h : bS S) {i : Nat} (hi : i < 5) : ∀ k, k < 7 → rI (S i k) := fun k hk => by have := h i hi k hk; exact ⟨by omega, by omega⟩
theorem bits_31 {x : Nat} {n : Nat} (hn : isBits (x : Int) n) (h : 31 < n) : 2147483648 ≤ x := by
  have h1 := hn.2 (by omega)
  have h2 : (2 : Nat) ^ 31 ≤ 2 ^ (n - 1) := Nat.pow_le_pow_right (by decide) (by omega)
  have h3 : ((2 ^ (n - 1) : Nat) : Int) = (2 : Int) ^ (n - 1) := Int.natCast_pow 2 (n - 1)
  have h4 : (2 : Nat) ^ 31 = 2147483648 := by decide
  rw [← h3] at h1
  omega
theorem bits_32 {x : Nat} {n : Nat} (hn : isBits (x : Int) n) (h : n ≤ 31) : x < 2147483648 := by
  have h1 := nat_lt' hn.1
  have h2 : (2 : Nat) ^ n ≤ 2 ^ 31 := Nat.pow_le_pow_right (by decide) h
  have h4 : (2 : Nat) ^ 31 = 2147483648 := by decide
  omega
theorem dg0_small {x : Nat} (h : x < 2147483648) : dg (x : Int) 0 = (x : Int) := by rw [dg_0]; omega
def greatR (p : Nat → Int) (to : Nat) (ref : Int) (S : Nat → Nat → Int) : zRp := comesR (cut7 (fun k => grF (p k))) to ref S
def opGcd (S : Nat → Nat → Int) (a b t : Int) : zRp := if (0 ≤ a ∧ a < 5) ∧ (0 ≤ b ∧ b < 5) ∧ (0 ≤ t ∧ t < 5) then greatR (comR (S a.toNat) (S b.toNat)) t.toNat 2 S else (0, 1, S)
def opFree (S : Nat → Nat → Int) (a t : Int) : zRp := if (0 ≤ a ∧ a < 5) ∧ (0 ≤ t ∧ t < 5) then (if pdeg (S a.toNat) < 0 then (0, 2, S) else greatR (freeR (S a.toNat)) t.toNat 3 S) else (0, 1, S)
theorem greatR_congr {p q : Nat → Int} {to : Nat} {ref : Int} {S : Nat → Nat → Int} (h : eq7 p q) : greatR p to ref S = greatR q to ref S := comesR_congr (fun k _ => by
  unfold cut7
  by_cases c : k < 7
  · rw [if_pos c, if_pos c]; show grF (p k) = grF (q k); rw [h k c]
  · rw [if_neg c, if_neg c])
/-- a square-free part may be asked for -/
def okFree (p : Nat → Int) : Prop := fitFree p ∧ 0 ≤ pdeg (freeD p) ∧ pdeg (freeD p) ≤ pdeg (pprim p)
theorem freeR_pS {p : Nat → Int} (h : fitFree p) : pS (freeR p) := (frF_pS _ h.2.2.2).prim.pos
theorem drv_congr2 {p q : Nat → Int} (h : eq7 p q) : eq7 (freeD p) (freeD q) := comR_congr h (drv_congr h)
theorem frF_congr {D D' : Nat → Int} {h : Nat} (hh : h < 7) (hD : eq7 D D') : ∀ n {T T' : Nat → Int}, n + h ≤ 7 → eq7 T T' → eq7 (frF D h n T) (frF D' h n T') := by
  intro n
  induction n with
  | zero => intro T T' _ _ k _; rfl
  | succ n ih =>
    intro T T' hn hT k hk
    show (if k = n then _ else _) = (if k = n then _ else _)
    rw [hT (n + h) (by omega), hD h hh]
    split
    · rfl
    · refine ih (by omega) (fun m hm => ?_) k hk
      unfold frT
      rw [hT (n + h) (by omega), hD h hh, hT m hm]
      by_cases c : n ≤ m ∧ m ≤ n + h
      · rw [if_pos c, if_pos c, hD (m - n) (by omega)]
      · rw [if_neg c, if_neg c]
theorem fitF_congr {D D' : Nat → Int} {h : Nat} (hh : h < 7) (hD : eq7 D D') : ∀ n {T T' : Nat → Int}, n + h ≤ 7 → eq7 T T' → fitF D h n T → fitF D' h n T' := by
  intro n
  induction n with
  | zero => intro T T' _ _ _; trivial
  | succ n ih =>
    intro T T' hn hT hf
    refine ⟨by rw [← hT (n + h) (by omega)]; exact hf.1, ih (by omega) (fun m hm => ?_) hf.2⟩
    unfold frT
    rw [hT (n + h) (by omega), hD h hh, hT m hm]
    by_cases c : n ≤ m ∧ m ≤ n + h
    · rw [if_pos c, if_pos c, hD (m - n) (by omega)]
    · rw [if_neg c, if_neg c]
theorem free_n {a b : Int} (ha : -1 ≤ a ∧ a < 7) (h0 : 0 ≤ b) (h : b ≤ a) : (a - b + 1).toNat + b.toNat ≤ 7 := by omega
theorem okD_congr {p q : Nat → Int} (h : eq7 p q) (hd : 0 ≤ pdeg (freeD p) ∧ pdeg (freeD p) ≤ pdeg (pprim p)) : 0 ≤ pdeg (freeD q) ∧ pdeg (freeD q) ≤ pdeg (pprim q) := by
  rw [← (drv_congr2 h).deg, ← h.prim.deg]; exact hd
theorem freeR_congr {p q : Nat → Int} (h : okFree q) (e : eq7 p q) : eq7 (freeR p) (freeR q) := by
  unfold freeR
  rw [(drv_congr2 e).deg, e.prim.deg]
  exact ppos_congr (eq7.prim (frF_congr (deg_nat _) (drv_congr2 e) _ (free_n (pdeg_in _) h.2.1 h.2.2) e.prim))
theorem fitFree_congr0 {p q : Nat → Int} (hd : 0 ≤ pdeg (freeD p) ∧ pdeg (freeD p) ≤ pdeg (pprim p)) (e : eq7 p q) (h : fitFree p) : fitFree q := by
  refine ⟨pS_congr e h.1, pS_congr (drv_congr e) h.2.1, fitG_congr e (drv_congr e) h.2.2.1, ?_⟩
  rw [← (drv_congr2 e).deg, ← e.prim.deg]
  exact fitF_congr (deg_nat _) (drv_congr2 e) _ (free_n (pdeg_in _) hd.1 hd.2) e.prim h.2.2.2
