/-! PLAIN LAW 6: the model's polynomials as functions; its row of remainders is a chain -/
def ci (p : Nat → Int) : Nat → Rat := fun k => (p k : Rat)
def ev (p : Nat → Int) (x : Rat) : Rat := pe (ci p) 7 x
theorem ev_congr {p q : Nat → Int} (h : eq7 p q) (x : Rat) : ev p x = ev q x := pe_congr 7 (fun k hk => by show (p k : Rat) = (q k : Rat); rw [h k hk]) x
theorem ev_neg (p : Nat → Int) (x : Rat) : ev (fun k => -p k) x = -ev p x := by
  unfold ev
  rw [pe_congr (c := ci (fun k => -p k)) (d := fun k => (-1) * ci p k) 7 (fun k _ => by show ((-p k : Int) : Rat) = -1 * (p k : Rat); rw [Rat.intCast_neg]; grind), pe_mul]
  grind
theorem ev_0 {p : Nat → Int} (h : pdeg p < 0) (x : Rat) : ev p x = 0 := pe_z 7 (fun k hk => by
  show (p k : Rat) = 0
  rw [degU_hi p 7 k (by show pdeg p < _; omega) hk]; rfl) x
theorem pe_ext2 {c : Nat → Rat} {n : Nat} : ∀ m, n ≤ m → (∀ k, n ≤ k → k < m → c k = 0) → ∀ x, pe c m x = pe c n x := by
  intro m
  induction m with
  | zero => intro h _ x; rw [show n = 0 by omega]
  | succ m ih =>
    intro h hz x
    by_cases e : n = m + 1
    · rw [e]
    · rw [pe_s, ih (by omega) (fun k a b => hz k a (by omega)), hz m (by omega) (by omega)]; grind
theorem pg_dvd (p : Nat → Int) : ∀ n k, k < n → (pg p n : Int) ∣ p k := by
  intro n
  induction n with
  | zero => intro k h; omega
  | succ n ih =>
    intro k h
    by_cases e : k = n
    · subst e
      exact Int.ofNat_dvd_left.mpr (Nat.gcd_dvd_right _ _)
    · exact Int.dvd_trans (Int.natCast_dvd_natCast.mpr (Nat.gcd_dvd_left _ _)) (ih k (by omega))
/-- the content, at least 1 -/
def pc1 (p : Nat → Int) : Nat := if pcont p < 2 then 1 else pcont p
theorem pprim_mul (p : Nat → Int) {k : Nat} (hk : k < 7) : p k = (pc1 p : Int) * pprim p k := by
  unfold pc1 pprim
  by_cases c : pcont p < 2
  · rw [if_pos c, if_pos c]; omega
  · rw [if_neg c, if_neg c]
    exact (Int.mul_tdiv_cancel' (pg_dvd p 7 k hk)).symm
theorem pc1_pos (p : Nat → Int) : 0 < pc1 p := by
  unfold pc1
  split <;> omega
theorem ev_prim (p : Nat → Int) : ∃ γ : Rat, 0 < γ ∧ ∀ x, ev p x = γ * ev (pprim p) x := by
  refine ⟨(pc1 p : Rat), Rat.natCast_pos.mpr (pc1_pos p), fun x => ?_⟩
  unfold ev
  rw [← pe_mul]
  refine pe_congr 7 (fun k hk => ?_) x
  show (p k : Rat) = (pc1 p : Rat) * (pprim p k : Rat)
  rw [pprim_mul p hk, Rat.intCast_mul]
  rfl
theorem shc_int (u : Nat) (b : Nat → Int) (k : Nat) : shc u (ci b) k = ((if k < u then 0 else b (k - u) : Int) : Rat) := by
  unfold shc ci
  split <;> rfl
/-- one step of the remainder -/
theorem ev_rq {a b : Nat → Int} {g h : Nat} (hg : pdeg a = (g : Int)) (hh : pdeg b = (h : Int)) (hl : h ≤ g) : ∃ s : Rat, ∀ x, ev (rq a b) x = ((b h).natAbs : Rat) * ev a x - s * x ^ (g - h) * ev b x := by
  have hg7 := (degU_at a 7 g hg).2
  have hh7 := (degU_at b 7 h hh).2
  obtain ⟨s, hs⟩ : ∃ s : Int, s = if b h < 0 then -a g else a g := ⟨_, rfl⟩
  refine ⟨(s : Rat), fun x => ?_⟩
  have key : ∀ k, k < 7 → ci (rq a b) k = ((b h).natAbs : Rat) * ci a k + (-(s : Rat)) * shc (g - h) (ci b) k := fun k hk => by
    rw [shc_int]
    show ((rq a b k : Int) : Rat) = (((b h).natAbs : Nat) : Rat) * ((a k : Int) : Rat) + (-(s : Rat)) * _
    have e1 : rq a b k = ((b h).natAbs : Int) * a k - s * (if k < g - h then 0 else b (k - (g - h))) := by
      unfold rq
      rw [hg, hh, Int.toNat_natCast, Int.toNat_natCast, ← hs]
      by_cases c : k ≤ g
      · rw [if_pos c]
        by_cases d : g - h ≤ k
        · rw [if_pos d, if_neg (by omega), Int.mul_comm (a k), Int.mul_comm s]
        · rw [if_neg d, if_pos (by omega), Int.mul_comm (a k)]; omega
      · rw [if_neg c, degU_hi a 7 k (by show pdeg a < _; omega) hk, if_neg (by omega), degU_hi b 7 (k - (g - h)) (by show pdeg b < _; omega) (by omega)]
        omega
    rw [e1, Rat.intCast_sub, Rat.intCast_mul, Rat.intCast_mul]
    have e2 : (((b h).natAbs : Int) : Rat) = (((b h).natAbs : Nat) : Rat) := rfl
    rw [e2]
    grind
  unfold ev
  rw [pe_congr 7 key x, pe_add, pe_mul, pe_mul]
  have e3 : pe (shc (g - h) (ci b)) 7 x = x ^ (g - h) * pe (ci b) 7 x := by
    have e4 := pe_sh (g - h) (ci b) (7 - (g - h)) x
    rw [show g - h + (7 - (g - h)) = 7 by omega] at e4
    rw [e4, pe_ext2 (c := ci b) (n := 7 - (g - h)) 7 (by omega) (fun k h1 h2 => by
      show (b k : Rat) = 0
      rw [degU_hi b 7 k (by show pdeg b < _; omega) h2]; rfl) x]
  rw [e3]
  grind
theorem Pfn.pow (n : Nat) : Pfn (fun x => x ^ n) := by
  induction n with
  | zero => exact (Pfn.const 1).congr (fun x => Rat.pow_zero x)
  | succ n ih => exact (ih.mul ⟨fun k => if k = 1 then 1 else 0, 1, fun x => by
      show x = 0 + (if 0 = 1 then (1 : Rat) else 0) * x ^ 0 + (if 1 = 1 then (1 : Rat) else 0) * x ^ 1
      rw [if_neg (by decide), if_pos rfl, Rat.pow_succ, Rat.pow_zero]; grind⟩).congr (fun x => Rat.pow_succ x n)
theorem ev_Pfn (p : Nat → Int) : Pfn (ev p) := ⟨ci p, 6, fun _ => rfl⟩
/-- a remainder -/
theorem ev_rem : ∀ (n : Nat) (a b : Nat → Int), 0 ≤ pdeg b → ∃ (Q : Rat → Rat) (α β : Rat), Pfn Q ∧ 0 < α ∧ 0 < β ∧ ∀ x, α * ev a x = Q x * ev b x + β * ev (remF n a b) x := by
  intro n
  induction n with
  | zero => intro a b _; exact ⟨fun _ => 0, 1, 1, Pfn.const 0, by decide, by decide, fun x => by show 1 * ev a x = 0 * ev b x + 1 * ev a x; grind⟩
  | succ n ih =>
    intro a b hb
    by_cases c : pdeg b ≤ pdeg a
    · obtain ⟨g, hg⟩ := Int.eq_ofNat_of_zero_le (show 0 ≤ pdeg a by omega)
      obtain ⟨h, hh⟩ := Int.eq_ofNat_of_zero_le hb
      obtain ⟨s, h1⟩ := ev_rq (a := a) (b := b) hg hh (by omega)
      obtain ⟨γ, h2, h3⟩ := ev_prim (rq a b)
      obtain ⟨Q, α, β, h4, h5, h6, h7⟩ := ih (pprim (rq a b)) b hb
      have hl : (0 : Rat) < (((b h).natAbs : Nat) : Rat) := Rat.natCast_pos.mpr (by have := (degU_at b 7 h hh).1; omega)
      rw [remF_s c]
      refine ⟨fun x => α * s * x ^ (g - h) + γ * Q x, α * (((b h).natAbs : Nat) : Rat), γ * β, ((Pfn.pow (g - h)).smul (α * s)).add (h4.smul γ), Rat.mul_pos h5 hl, Rat.mul_pos h2 h6, fun x => ?_⟩
      have e1 := h1 x
      have e2 := h3 x
      have e3 := h7 x
      show α * (((b h).natAbs : Nat) : Rat) * ev a x = (α * s * x ^ (g - h) + γ * Q x) * ev b x + γ * β * ev (remF n (pprim (rq a b)) b) x
      have e4 : γ * (α * ev (pprim (rq a b)) x) = γ * (Q x * ev b x + β * ev (remF n (pprim (rq a b)) b) x) := by rw [e3]
      grind
    · rw [remF_t c]
      exact ⟨fun _ => 0, 1, 1, Pfn.const 0, by decide, by decide, fun x => by show 1 * ev a x = 0 * ev b x + 1 * ev a x; grind⟩
theorem row_euc {p : Nat → Int} {L : Nat} (hr : isRow p L) : eucS (fun i => ev (rsq p i)) (L - 1) := by
  intro i hi
  obtain ⟨Q, α, β, h1, h2, h3, h4⟩ := ev_rem 7 (rsq p i) (rsq p (i + 1)) (hr.2.2.1 (i + 1) (by omega))
  have e : ∀ x, ev (rsq p (i + 2)) x = -ev (remF 7 (rsq p i) (rsq p (i + 1))) x := fun x => by rw [rsq_s]; exact ev_neg _ x
  refine ⟨Q, α, β, h1, h2, h3, fun _ x => ?_, fun hl x => ?_⟩
  · have := h4 x
    have := e x
    grind
  · have h5 := h4 x
    have h6 := e x
    have h7 : ev (rsq p (i + 2)) x = 0 := ev_0 (by rw [show i + 2 = L by omega]; exact hr.2.2.2) x
    grind
theorem ev_anP (p : Nat → Int) {K : Rat} (hK : 0 ≤ K) : anP (ev p) (ev (drv p)) K := by
  refine anP_congr (fun _ => rfl) (fun x => ?_) (anP_pe (ci p) hK 6)
  unfold ev
  rw [pe_ext2 (c := ci (drv p)) (n := 6) 7 (by decide) (fun k h1 h2 => by
    show (drv p k : Rat) = 0
    unfold drv; rw [if_neg (by omega)]; rfl) x]
  refine pe_congr 6 (fun k hk => ?_) x
  show ((k : Rat) + 1) * (p (k + 1) : Rat) = ((drv p k : Int) : Rat)
  unfold drv
  rw [if_pos (by omega), Rat.intCast_mul, Rat.intCast_add]
  rfl
theorem ev_nz {p : Nat → Int} (h : 0 ≤ pdeg p) {x y : Rat} (hxy : x < y) : ∃ v, x < v ∧ v < y ∧ ev p v ≠ 0 := by
  obtain ⟨g, hg⟩ := Int.eq_ofNat_of_zero_le h
  have h1 := degU_at p 7 g hg
  exact pe_nz (c := ci p) h1.2 (fun e => h1.1 (Rat.intCast_eq_zero_iff.mp e)) hxy
/-- the chain that lies in the model's row -/
theorem row_h {p : Nat → Int} {L : Nat} (hr : isRow p L) (h0 : 0 ≤ pdeg p) : ∃ h, polC h (L - 1) ∧ (∀ i, i ≤ L - 1 → ∀ x, ev (rsq p i) x = ev (rsq p (L - 1)) x * h i x) ∧ ∀ K, 0 ≤ K → dirC h K := by
  obtain ⟨h, hC, hS⟩ := euc_h (row_euc hr)
  by_cases hL : L = 1
  · subst hL
    refine ⟨va_up h 1 (fun _ => 0), ⟨fun i hi => by rw [va_upn _ _ (by omega)]; exact hC.1 i hi, fun x => by rw [va_upn _ _ (by omega)]; exact hC.2.1 x, fun i hi => absurd hi (by omega)⟩, fun i hi x => by rw [va_upn _ _ (by omega)]; exact hS i hi x, fun K hK x y h1 h2 h3 => ⟨fun q => ?_, fun q => ?_⟩⟩
    · have := q x (by grind) h2
      rw [va_upj] at this
      exact absurd this (by decide)
    · have := q x (by grind) h2
      rw [va_upj] at this
      exact absurd this (by decide)
  · refine ⟨h, hC, hS, fun K hK => ?_⟩
    obtain ⟨γ0, g0, e0⟩ := ev_prim p
    obtain ⟨γ1, g1, e1⟩ := ev_prim (drv p)
    have hi : 0 < γ0⁻¹ := Rat.inv_pos.mpr g0
    have hm : γ0 * γ0⁻¹ = 1 := Rat.mul_inv_cancel _ (by grind)
    have hL2 := hr.1
    have s0 : ∀ x, ev (pprim p) x = ev (rsq p (L - 1)) x * h 0 x := fun x => by have := hS 0 (by omega) x; rw [rsq_0] at this; exact this
    have s1 : ∀ x, ev (pprim (drv p)) x = ev (rsq p (L - 1)) x * h 1 x := fun x => by have := hS 1 (by omega) x; rw [rsq_1] at this; exact this
    refine dir_C (g := fun x => γ0 * ev (rsq p (L - 1)) x) (ρ := γ1 * γ0⁻¹) (Rat.mul_pos g1 hi) (ev_anP p hK) (((ev_Pfn _).smul γ0).bd hK) ((hC.1 0 (by omega)).lip hK) (fun x => ?_) (fun x => ?_) (fun x y q => ev_nz h0 q)
    · rw [e0, s0]; show _ = γ0 * ev (rsq p (L - 1)) x * h 0 x; grind
    · rw [e1, s1]; show _ = γ1 * γ0⁻¹ * (γ0 * ev (rsq p (L - 1)) x * h 1 x)
      have : γ1 * γ0⁻¹ * (γ0 * ev (rsq p (L - 1)) x * h 1 x) = γ1 * (γ0 * γ0⁻¹) * (ev (rsq p (L - 1)) x * h 1 x) := by grind
      rw [this, hm]; grind
