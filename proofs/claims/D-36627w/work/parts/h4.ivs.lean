/-! PLAIN LAW 56: intervals -/
/-- an interval: level, ends, roots -/
def iok (F : Nat → Int) (l a b r : Int) : Prop := (0 ≤ l ∧ l ≤ 12) ∧ ((a.natAbs : Int) ≤ 16384 * 2 ^ l.toNat ∧ (b.natAbs : Int) ≤ 16384 * 2 ^ l.toNat) ∧ a ≤ b ∧ r = plF F l.toNat a b
theorem plF_nn (F : Nat → Int) (e : Nat) (m n : Int) : 0 ≤ plF F e m n := by
  unfold plF
  split
  · decide
  · exact Int.natCast_nonneg _
theorem plF_self (F : Nat → Int) (e : Nat) (m : Int) : plF F e m m = 1 := if_pos rfl
theorem plF_eq7 {p q : Nat → Int} (h : eq7 p q) (e : Nat) (m n : Int) : plF p e m n = plF q e m n := by
  unfold plF
  have d7 := pdeg_in q
  rw [h.deg]
  split
  · rfl
  · rw [cnB_congr 158 (fun k hk => hoP_congr (by omega) h ((pdeg q).toNat + 1) k (by omega))]
theorem p2n (l : Nat) : (1 : Int) ≤ 2 ^ l := Int.pow_pos (by decide)
theorem p2_12i {l : Int} (h : 0 ≤ l ∧ l ≤ 12) : (2 : Int) ^ l.toNat ≤ 4096 := by
  have : l.toNat = 0 ∨ l.toNat = 1 ∨ l.toNat = 2 ∨ l.toNat = 3 ∨ l.toNat = 4 ∨ l.toNat = 5 ∨ l.toNat = 6 ∨ l.toNat = 7 ∨ l.toNat = 8 ∨ l.toNat = 9 ∨ l.toNat = 10 ∨ l.toNat = 11 ∨ l.toNat = 12 := by omega
  rcases this with e | e | e | e | e | e | e | e | e | e | e | e | e <;> rw [e] <;> decide
theorem iok.in {F : Nat → Int} {l a b r : Int} (h : iok F l a b r) : (-67108864 ≤ a ∧ a ≤ 67108864) ∧ (-67108864 ≤ b ∧ b ≤ 67108864) := by
  have h1 := p2_12i h.1
  have h2 := h.2.1
  have h3 := p2n l.toNat
  generalize (2 : Int) ^ l.toNat = z at *
  omega
/-- an interval's roots are counted right -/
theorem iok.fit {F : Nat → Int} {p : Nat → Int} (hp : fs p) (hF : eq7 F (freeR p)) {e : Nat} {a b : Int} (he : e ≤ 12) (ha : (a.natAbs : Int) ≤ 16384 * 2 ^ e) (hb : (b.natAbs : Int) ≤ 16384 * 2 ^ e) (hab : a ≤ b) : okPl (freeR p) e a b := fun hne => by
  have h3 := p2n e
  have h4 : (2 : Int) ^ e ≤ 4096 := by
    have := p2_12i (l := (e : Int)) (by omega)
    rwa [Int.toNat_natCast] at this
  have h5 : (2 : Int) ^ 22 * 2 ^ e = 4194304 * 2 ^ e := by rw [show (2 : Int) ^ 22 = 4194304 by decide]
  have h6 : (2 : Nat) ^ 33 = 8589934592 := by decide
  refine hp.hPl (e := e) (m := a) (n := b) (by omega) ?_ ?_ ?_ (by omega) hne
  · rw [h5]
    generalize (2 : Int) ^ e = z at *
    omega
  · rw [h6]
    generalize (2 : Int) ^ e = z at *
    omega
  · rw [h6]
    generalize (2 : Int) ^ e = z at *
    omega
/-- the counts of the whole list -/
def wI (lo hi : Nat → Int) : Nat → Int := fun k => if lo k = hi k then 0 else 1
def relI (c : Nat) (P0 : Option Pl) (K F : Nat → Int) (n : Nat) (iv : Nat → Ivl) (many : Int) (lv lo hi rt : Nat → Int) : Prop :=
  many = (n : Int) ∧ (0 < n → ∃ Q, P0 = some Q ∧ gd Q ∧ (∀ k, (Q.2 k).natAbs ≤ 9999) ∧ eq7 K Q.2 ∧ eq7 F (freeR K)) ∧ (∀ k, k < n → iv k = (lv k, lo k, hi k, rt k) ∧ iok F (lv k) (lo k) (hi k) (rt k)) ∧ iS rt n ≤ 6 ∧ iS (wI lo hi) n ≤ (c : Int)
theorem iS_mono {f g : Nat → Int} : ∀ n, (∀ k, k < n → f k ≤ g k) → iS f n ≤ iS g n := by
  intro n
  induction n with
  | zero => intro _; exact Int.le_refl _
  | succ n ih => intro h; have := ih (fun k hk => h k (by omega)); have := h n (Nat.lt_succ_self n); show iS f n + f n ≤ iS g n + g n; omega
theorem iS_add (f g : Nat → Int) : ∀ n, iS (fun k => f k + g k) n = iS f n + iS g n := by
  intro n
  induction n with
  | zero => rfl
  | succ n ih => show iS _ n + (f n + g n) = iS f n + f n + (iS g n + g n); rw [ih]; omega
theorem iS_one : ∀ n, iS (fun _ => 1) n = (n : Int) := by
  intro n
  induction n with
  | zero => rfl
  | succ n ih => show iS _ n + 1 = _; rw [ih]; omega
/-- so few intervals -/
theorem relI.few {c : Nat} {P0 : Option Pl} {K F : Nat → Int} {n : Nat} {iv : Nat → Ivl} {many : Int} {lv lo hi rt : Nat → Int} (h : relI c P0 K F n iv many lv lo hi rt) : n ≤ c + 6 := by
  obtain ⟨_, _, h3, h4, h5⟩ := h
  have h6 : iS (fun _ => (1 : Int)) n ≤ iS (fun k => wI lo hi k + rt k) n := iS_mono n (fun k hk => by
    obtain ⟨_, _, _, _, e⟩ := h3 k hk
    have r0 := plF_nn F (lv k).toNat (lo k) (hi k)
    by_cases q : lo k = hi k
    · rw [show wI lo hi k = 0 from if_pos q, e, q, plF_self]; omega
    · rw [show wI lo hi k = 1 from if_neg q]; omega)
  rw [iS_one, iS_add] at h6
  omega
theorem bmost_eq {p q : Nat → Int} : ∀ n, (∀ k, k < n → p k = q k) → bmost p n = bmost q n := by
  intro n
  induction n with
  | zero => intro _; rfl
  | succ n ih => intro h; show max (bmost p n) _ = max (bmost q n) _; rw [ih (fun k hk => h k (by omega)), h n (Nat.lt_succ_self n)]
theorem bmost_ge {p : Nat → Int} : ∀ n k, k < n → ((p k).natAbs : Int) ≤ bmost p n := by
  intro n
  induction n with
  | zero => intro k h; exact absurd h (Nat.not_lt_zero k)
  | succ n ih =>
    intro k h
    show _ ≤ max (bmost p n) ((p n).natAbs : Int)
    by_cases e : k = n
    · rw [e]; omega
    · have := ih k (by omega); omega
theorem bnL_ok : ∀ (n : Nat) (m l b : Int), 1 ≤ l → 1 ≤ b → m ≤ (b * 2 ^ n - 1) * l → m ≤ (bnL n m l b - 1) * l ∧ b ≤ bnL n m l b ∧ bnL n m l b ≤ b * 2 ^ n := by
  intro n
  induction n with
  | zero =>
    intro m l b h1 h2 h3
    rw [Int.pow_zero, Int.mul_one] at h3
    exact ⟨h3, Int.le_refl _, by rw [Int.pow_zero, Int.mul_one]; exact Int.le_refl _⟩
  | succ n ih =>
    intro m l b h1 h2 h3
    have hp := p2n n
    have e : b * 2 ^ (n + 1) = b * 2 * 2 ^ n := by rw [Int.pow_succ]; grind
    have e2 : b * 1 ≤ b * 2 ^ (n + 1) := Int.mul_le_mul_of_nonneg_left (p2n (n + 1)) (by omega)
    show m ≤ ((if (b - 1) * l < m then bnL n m l (b * 2) else b) - 1) * l ∧ b ≤ (if (b - 1) * l < m then bnL n m l (b * 2) else b) ∧ (if (b - 1) * l < m then bnL n m l (b * 2) else b) ≤ b * 2 ^ (n + 1)
    by_cases c : (b - 1) * l < m
    · rw [if_pos c]
      rw [e] at h3
      obtain ⟨a1, a2, a3⟩ := ih m l (b * 2) h1 (by omega) h3
      exact ⟨a1, by omega, by rw [e]; exact a3⟩
    · rw [if_neg c]
      exact ⟨by omega, Int.le_refl _, by omega⟩
/-- the bound that the first interval has -/
theorem gd.bnd {P : Pl} (h : gd P) (hA : ∀ k, (P.2 k).natAbs ≤ 9999) : 1 ≤ cBnd P ∧ cBnd P ≤ 16384 ∧ ∀ k, k < P.1 - 1 → ((P.2 k).natAbs : Int) ≤ (cBnd P - 1) * ((P.2 (P.1 - 1)).natAbs : Int) := by
  have hl := (degU_at P.2 7 (P.1 - 1) h.deg).1
  have l1 : (1 : Int) ≤ ((P.2 (P.1 - 1)).natAbs : Int) := by omega
  have hm := bmost_ok (P := P) ⟨h.2.1, hA⟩ (P.1 - 1)
  have e14 : (1 : Int) * 2 ^ 14 = 16384 := by decide
  have := bnL_ok 14 (bmost P.2 (P.1 - 1)) ((P.2 (P.1 - 1)).natAbs : Int) 1 l1 (by decide) (by
    rw [e14]
    have := Int.mul_le_mul_of_nonneg_left l1 (show (0 : Int) ≤ 16384 - 1 by decide)
    omega)
  rw [e14] at this
  obtain ⟨a1, a2, a3⟩ := this
  exact ⟨a2, a3, fun k hk => Int.le_trans (bmost_ge (P.1 - 1) k hk) a1⟩
theorem bnd_c {P : Pl} {p : Nat → Int} (hP : gd P) (e : eq7 P.2 p) : bnd p = cBnd P := by
  have hd := hP.deg
  have h7 := hP.2.1
  have hp : (pdeg p).toNat = P.1 - 1 := by rw [← e.deg, hd]; omega
  unfold bnd cBnd
  rw [hp, bmost_eq (P.1 - 1) (fun k hk => (e k (by omega)).symm), e (P.1 - 1) (by have := hP.2.2.1; omega)]
theorem gd.iso {P : Pl} (h : gd P) (hA : ∀ k, (P.2 k).natAbs ≤ 9999) : arF (sq P) (seqLen P) = plF (freeR P.2) 0 (-cBnd P) (cBnd P) ∧ okPl (freeR P.2) 0 (-cBnd P) (cBnd P) ∧ plF (freeR P.2) 0 (-cBnd P) (cBnd P) ≤ 6 := by
  obtain ⟨b1, b2, b3⟩ := h.bnd hA
  obtain ⟨b, hb⟩ := Int.eq_ofNat_of_zero_le (show 0 ≤ cBnd P by omega)
  have hf : okPl (freeR P.2) 0 (-cBnd P) (cBnd P) := iok.fit (F := freeR P.2) h.2.2.2 eq7.rfl' (by decide) (by rw [Int.pow_zero]; omega) (by rw [Int.pow_zero]; omega) (by omega)
  refine ⟨?_, hf, ?_⟩
  · rw [hb] at hf b3 ⊢
    exact h.inf (by omega) b3 hf
  · have h1 := h.fcnt (show -cBnd P < cBnd P by omega) hf
    have h2 := h.fch_in (-cBnd P) 0
    have h3 := h.fch_in (cBnd P) 0
    have h4 := h.free.2.1
    split at h1 <;> omega
theorem ag_iso {Sc : Nat → Pl} {Sm : Nat → Nat → Int} (h : relS Sc Sm) {a : Int} (ha : 0 ≤ a ∧ a < 5) (h0 : 0 < (Sc a.toNat).1) : (xoIso Sc a).2.1 = 0 ∧ (xoIso Sc a).1 = plF (freeR (Sm a.toNat)) 0 (-bnd (Sm a.toNat)) (bnd (Sm a.toNat)) ∧ okIso (Sm a.toNat) := by
  have hi : a.toNat < 5 := by omega
  obtain ⟨h1, h2, h3, h4⟩ := h a.toNat hi
  have g := h.gd hi h0
  have ok := (h.ok hi).2
  obtain ⟨i1, i2, i3⟩ := g.iso ok.2
  have hf := h.fs hi (by have := h.deg hi; omega)
  have ef := freeR_congr hf.hFree.1 h3
  unfold xoIso
  rw [if_pos ha, if_neg (by omega)]
  refine ⟨rfl, ?_, hf.hFree.1, hf.hFree.2, ?_⟩
  · show arF (sq (Sc a.toNat)) (seqLen (Sc a.toNat)) = _
    rw [i1, bnd_c g h3, plF_eq7 ef]
  · rw [bnd_c g h3]
    exact okPl_congr ef i2
theorem relI.start {Sc : Nat → Pl} {Sm : Nat → Nat → Int} (h : relS Sc Sm) {a : Int} (ha : 0 ≤ a ∧ a < 5) (h0 : 0 < (Sc a.toNat).1) {K1 F1 lv lo hi rt : Nat → Int} (hK : eq7 K1 (Sm a.toNat)) (hF : eq7 F1 (freeR (Sm a.toNat))) (c : Nat) (hc : 1 ≤ c) : relI c (some (Sc a.toNat)) K1 F1 1 (fun _ => (0, -cBnd (Sc a.toNat), cBnd (Sc a.toNat), (xoIso Sc a).1)) 1 (va_up lv 0 0) (va_up lo 0 (-bnd (Sm a.toNat))) (va_up hi 0 (bnd (Sm a.toNat))) (va_up rt 0 (plF (freeR (Sm a.toNat)) 0 (-bnd (Sm a.toNat)) (bnd (Sm a.toNat)))) := by
  have hi' : a.toNat < 5 := by omega
  obtain ⟨h1, h2, h3, h4⟩ := h a.toNat hi'
  have g := h.gd hi' h0
  have ok := (h.ok hi').2
  obtain ⟨i1, i2, i3⟩ := g.iso ok.2
  obtain ⟨b1, b2, b3⟩ := g.bnd ok.2
  have hf := h.fs hi' (by have := h.deg hi'; omega)
  have hfK : eq7 (freeR K1) (freeR (Sm a.toNat)) := freeR_congr hf.hFree.1 hK
  obtain ⟨_, j2, _⟩ := ag_iso h ha h0
  have eb := bnd_c g h3
  have ef := freeR_congr hf.hFree.1 h3
  refine ⟨rfl, fun _ => ⟨Sc a.toNat, rfl, g, ok.2, hK.trans h3.symm, hF.trans hfK.symm⟩, fun k hk => ?_, ?_, ?_⟩
  · obtain rfl : k = 0 := by omega
    rw [va_upj, va_upj, va_upj, va_upj, j2, eb]
    refine ⟨rfl, ⟨by decide, by decide⟩, ⟨?_, ?_⟩, by omega, (plF_eq7 hF _ _ _).symm⟩
    · show ((-cBnd (Sc a.toNat)).natAbs : Int) ≤ 16384 * 2 ^ 0
      rw [Int.pow_zero]; omega
    · show ((cBnd (Sc a.toNat)).natAbs : Int) ≤ 16384 * 2 ^ 0
      rw [Int.pow_zero]; omega
  · show (0 : Int) + va_up rt 0 _ 0 ≤ 6
    rw [va_upj, eb, ← plF_eq7 ef]
    omega
  · show (0 : Int) + wI _ _ 0 ≤ (c : Int)
    unfold wI
    split <;> omega
