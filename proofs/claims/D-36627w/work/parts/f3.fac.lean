/-! PLAIN LAW 39: factors have small coefficients -/
def fcr (G P : Nat → Int) : Prop := ∃ (S : Nat → Int) (n : Nat), ∀ x, ev P x = pe (ci S) n x * ev G x
theorem fcr.rfl' (P : Nat → Int) : fcr P P := ⟨fun _ => 1, 1, fun x => by
  show ev P x = (0 + ((1 : Int) : Rat) * x ^ 0) * ev P x
  rw [Rat.pow_zero, show ((1 : Int) : Rat) = 1 from rfl]; grind⟩
theorem fcr.trans {G H P : Nat → Int} (h1 : fcr G H) (h2 : fcr H P) : fcr G P := by
  obtain ⟨S, n, hS⟩ := h1
  obtain ⟨U, m, hU⟩ := h2
  obtain ⟨S', hS'⟩ : ∃ S' : Nat → Int, S' = fun k => if k < n then S k else 0 := ⟨_, rfl⟩
  have z : ∀ k, n ≤ k → S' k = 0 := fun k hk => by rw [hS']; exact if_neg (by omega)
  refine ⟨pr U S' m, m + n, fun x => ?_⟩
  rw [pr_ev U S' (b := n) z x m (m + n) (by omega), hU, hS]
  have : pe (ci S') n x = pe (ci S) n x := pe_congr n (fun k hk => by show (S' k : Rat) = (S k : Rat); rw [hS']; show ((if k < n then S k else 0 : Int) : Rat) = _; rw [if_pos hk]) x
  rw [this]; grind
theorem fcr.congr {G H P Q : Nat → Int} (h : fcr G P) (h1 : eq7 G H) (h2 : eq7 P Q) : fcr H Q := by
  obtain ⟨S, n, hS⟩ := h
  exact ⟨S, n, fun x => by rw [← ev_congr h1, ← ev_congr h2]; exact hS x⟩
theorem pe7 (c : Nat → Rat) (x : Rat) : pe c 7 x = c 0 + c 1 * x + c 2 * (x * x) + c 3 * (x * x * x) + c 4 * (x * x * x * x) + c 5 * (x * x * x * x * x) + c 6 * (x * x * x * x * x * x) := by
  simp only [pe, Rat.pow_succ, Rat.pow_zero]
  grind
/-- Taylor's coefficients at a -/
def tA (a : Int) (P : Nat → Int) : Nat → Int
  | 0 => P 0 + a * P 1 + a * a * P 2 + a * a * a * P 3 + a * a * a * a * P 4 + a * a * a * a * a * P 5 + a * a * a * a * a * a * P 6
  | 1 => P 1 + 2 * a * P 2 + 3 * a * a * P 3 + 4 * a * a * a * P 4 + 5 * a * a * a * a * P 5 + 6 * a * a * a * a * a * P 6
  | 2 => P 2 + 3 * a * P 3 + 6 * a * a * P 4 + 10 * a * a * a * P 5 + 15 * a * a * a * a * P 6
  | 3 => P 3 + 4 * a * P 4 + 10 * a * a * P 5 + 20 * a * a * a * P 6
  | 4 => P 4 + 5 * a * P 5 + 15 * a * a * P 6
  | 5 => P 5 + 6 * a * P 6
  | 6 => P 6
  | _ => 0
theorem tA_hi (a : Int) (P : Nat → Int) {k : Nat} (h : 7 ≤ k) : tA a P k = 0 := by
  unfold tA
  split <;> first | omega | rfl
theorem tA_0 (P : Nat → Int) {k : Nat} (h : k < 7) : tA 0 P k = P k := by
  have h2 : k = 0 ∨ k = 1 ∨ k = 2 ∨ k = 3 ∨ k = 4 ∨ k = 5 ∨ k = 6 := by omega
  rcases h2 with rfl | rfl | rfl | rfl | rfl | rfl | rfl <;> simp only [tA] <;> omega
theorem tA_ev (a : Int) (P : Nat → Int) (y : Rat) : ev P (y + (a : Rat)) = pe (ci (tA a P)) 7 y := by
  show pe (ci P) 7 _ = _
  rw [pe7, pe7]
  simp only [ci, tA, Rat.intCast_add, Rat.intCast_mul]
  rw [show ((2 : Int) : Rat) = 2 from rfl, show ((3 : Int) : Rat) = 3 from rfl, show ((4 : Int) : Rat) = 4 from rfl, show ((5 : Int) : Rat) = 5 from rfl, show ((6 : Int) : Rat) = 6 from rfl, show ((10 : Int) : Rat) = 10 from rfl, show ((15 : Int) : Rat) = 15 from rfl, show ((20 : Int) : Rat) = 20 from rfl]
  generalize (a : Rat) = b
  generalize (P 0 : Rat) = p0
  generalize (P 1 : Rat) = p1
  generalize (P 2 : Rat) = p2
  generalize (P 3 : Rat) = p3
  generalize (P 4 : Rat) = p4
  generalize (P 5 : Rat) = p5
  generalize (P 6 : Rat) = p6
  grind
theorem tA_le {P : Nat → Int} {A : Nat} (hA : ∀ k, k < 7 → (P k).natAbs ≤ A) (k : Nat) : (tA 1 P k).natAbs ≤ 35 * A ∧ (tA (-1) P k).natAbs ≤ 35 * A ∧ (tA 2 P k).natAbs ≤ 351 * A ∧ (tA (-2) P k).natAbs ≤ 351 * A := by
  have h0 := hA 0 (by decide)
  have h1 := hA 1 (by decide)
  have h2 := hA 2 (by decide)
  have h3 := hA 3 (by decide)
  have h4 := hA 4 (by decide)
  have h5 := hA 5 (by decide)
  have h6 := hA 6 (by decide)
  by_cases c : k < 7
  · have c7 : k = 0 ∨ k = 1 ∨ k = 2 ∨ k = 3 ∨ k = 4 ∨ k = 5 ∨ k = 6 := by omega
    rcases c7 with rfl | rfl | rfl | rfl | rfl | rfl | rfl <;> simp only [tA] <;> refine ⟨?_, ?_, ?_, ?_⟩ <;> omega
  · rw [tA_hi 1 P (by omega), tA_hi (-1) P (by omega), tA_hi 2 P (by omega), tA_hi (-2) P (by omega), Int.natAbs_zero]
    omega
theorem least7 {f : Nat → Int} {n : Nat} : (∀ k, k < n → f k = 0) ∨ ∃ k, k < n ∧ f k ≠ 0 ∧ ∀ i, i < k → f i = 0 := by
  induction n with
  | zero => exact Or.inl (fun k h => absurd h (Nat.not_lt_zero k))
  | succ n ih =>
    rcases ih with h | ⟨k, k1, k2, k3⟩
    · by_cases c : f n = 0
      · exact Or.inl (fun k hk => by
          by_cases e : k = n
          · rw [e]; exact c
          · exact h k (by omega))
      · exact Or.inr ⟨n, Nat.lt_succ_self n, c, h⟩
    · exact Or.inr ⟨k, by omega, k2, k3⟩
/-- coefficients of a product -/
theorem pr_of {P S G : Nat → Int} (zP : ∀ k, 7 ≤ k → P k = 0) (zG : ∀ k, 7 ≤ k → G k = 0) (h : ∀ x, ev P x = ev S x * ev G x) : ∀ k, k < 13 → P k = pr S G 7 k := by
  intro k hk
  have h1 : ∀ x, pe (ci P) 13 x = pe (ci (pr S G 7)) 13 x := fun x => by
    rw [pr_ev S G (b := 7) zG x 7 13 (by omega), pe_ext2 (c := ci P) (n := 7) 13 (by omega) (fun k k1 _ => by show (P k : Rat) = 0; rw [zP k k1]; rfl) x]
    exact h x
  exact Rat.intCast_inj.mp (pe_inj h1 k hk)
/-- a factor's value is a divisor of one of Taylor's coefficients -/
theorem fac_val {P S G : Nat → Int} (h : ∀ x, ev P x = ev S x * ev G x) (hP : ¬ ∀ x, ev P x = 0) (a : Int) : ∃ k, k < 7 ∧ (tA a G 0).natAbs ≤ (tA a P k).natAbs := by
  have h1 : ∀ x, ev (tA a P) x = ev (tA a S) x * ev (tA a G) x := fun x => by
    show pe (ci (tA a P)) 7 x = pe (ci (tA a S)) 7 x * pe (ci (tA a G)) 7 x
    rw [← tA_ev, ← tA_ev, ← tA_ev, h]
  have h2 := pr_of (fun k => tA_hi a P) (fun k => tA_hi a G) h1
  rcases least7 (f := tA a S) (n := 7) with z | ⟨k, k1, k2, k3⟩
  · exfalso
    refine hP (fun x => ?_)
    have h3 : ev P ((x + (-(a : Rat))) + (a : Rat)) = pe (ci (tA a P)) 7 (x + (-(a : Rat))) := tA_ev a P _
    rw [show (x + (-(a : Rat))) + (a : Rat) = x by grind] at h3
    rw [h3]
    have h4 := h1 (x + (-(a : Rat)))
    have h5 : ev (tA a S) (x + (-(a : Rat))) = 0 := pe_z 7 (fun k hk => by show (tA a S k : Rat) = 0; rw [z k hk]; rfl) _
    rw [h5] at h4
    show ev (tA a P) _ = 0
    rw [h4]; grind
  · refine ⟨k, k1, ?_⟩
    rw [h2 k (by omega), pr_single (i0 := k) (Nat.le_refl k) 7 k1 (fun i _ hi hne => by rw [k3 i (by omega), Int.zero_mul]), Nat.sub_self, Int.natAbs_mul]
    exact Nat.le_mul_of_pos_left _ (Int.natAbs_pos.mpr k2)
theorem lag2 {g0 g1 g2 g3 g4 g5 : Int} {A : Nat} (h0 : g0.natAbs ≤ A) (h5 : g5.natAbs ≤ A) (h1 : (g0 + g1 + g2 + g3 + g4 + g5).natAbs ≤ 35 * A) (h2 : (g0 - g1 + g2 - g3 + g4 - g5).natAbs ≤ 35 * A) (h3 : (g0 + 2 * g1 + 4 * g2 + 8 * g3 + 16 * g4 + 32 * g5).natAbs ≤ 351 * A) (h4 : (g0 - 2 * g1 + 4 * g2 - 8 * g3 + 16 * g4 - 32 * g5).natAbs ≤ 351 * A) : g1.natAbs ≤ 112 * A ∧ g2.natAbs ≤ 112 * A ∧ g3.natAbs ≤ 112 * A ∧ g4.natAbs ≤ 112 * A := by
  refine ⟨?_, ?_, ?_, ?_⟩ <;> omega
theorem fac_le {P G : Nat → Int} {A : Nat} (hP : 0 ≤ pdeg P) (hA : ∀ k, k < 7 → (P k).natAbs ≤ A) (h : fcr G P) : 0 ≤ pdeg G ∧ pdeg G ≤ pdeg P ∧ (∀ k, k < 7 → (G k).natAbs ≤ 112 * A) ∧ (pdeg G = pdeg P → ∀ k, k < 7 → (G k).natAbs ≤ A) := by
  obtain ⟨S0, n, hS0⟩ := h
  obtain ⟨g, hg⟩ := Int.eq_ofNat_of_zero_le hP
  have hPd := ev_hdeg hg
  have hG0 : 0 ≤ pdeg G := by
    refine Classical.byContradiction fun w => hPd.nz (fun x => ?_)
    rw [hS0, ev_0 (p := G) (by omega)]; grind
  obtain ⟨d, hd⟩ := Int.eq_ofNat_of_zero_le hG0
  have hGd := ev_hdeg hd
  have g6 : g < 7 := by have := pdeg_in P; omega
  rcases pe_top (ci S0) n with z | ⟨t, t1, t2, t3⟩
  · exact absurd (fun x => by rw [hS0, z]; grind) hPd.nz
  have hSd : hdeg (pe (ci S0) n) t := ⟨ci S0, t2, t3⟩
  have htd : t + d = g := ((hSd.mul hGd).congr hS0).uniq hPd
  obtain ⟨S, hS⟩ : ∃ S : Nat → Int, S = fun k => if k ≤ t then S0 k else 0 := ⟨_, rfl⟩
  have St : S t ≠ 0 := fun e => t2 (by
    rw [hS] at e
    have e2 : S0 t = 0 := by rw [← e]; show S0 t = if t ≤ t then S0 t else 0; rw [if_pos (Nat.le_refl t)]
    show (S0 t : Rat) = 0
    rw [e2]; rfl)
  have Sz : ∀ k, t < k → S k = 0 := fun k hk => by rw [hS]; exact if_neg (by omega)
  have evS : ∀ x, ev S x = pe (ci S0) n x := fun x => by
    rw [t3]
    show pe (ci S) 7 x = _
    rw [pe_ext2 (c := ci S) (n := t + 1) 7 (by omega) (fun k k1 _ => by show (S k : Rat) = 0; rw [Sz k (by omega)]; rfl) x]
    exact pe_congr (t + 1) (fun k hk => by show (S k : Rat) = (S0 k : Rat); rw [hS]; show ((if k ≤ t then S0 k else 0 : Int) : Rat) = _; rw [if_pos (by omega)]) x
  have hm : ∀ x, ev P x = ev S x * ev G x := fun x => by rw [hS0, evS]
  obtain ⟨P', hP'⟩ : ∃ P' : Nat → Int, P' = fun k => if k < 7 then P k else 0 := ⟨_, rfl⟩
  obtain ⟨G', hG'⟩ : ∃ G' : Nat → Int, G' = fun k => if k < 7 then G k else 0 := ⟨_, rfl⟩
  have eP : ∀ k, k < 7 → P' k = P k := fun k hk => by rw [hP']; exact if_pos hk
  have eG : ∀ k, k < 7 → G' k = G k := fun k hk => by rw [hG']; exact if_pos hk
  have zP : ∀ k, 7 ≤ k → P' k = 0 := fun k hk => by rw [hP']; exact if_neg (by omega)
  have zG : ∀ k, 7 ≤ k → G' k = 0 := fun k hk => by rw [hG']; exact if_neg (by omega)
  have Gz : ∀ k, d < k → G' k = 0 := fun k hk => by
    by_cases c : k < 7
    · rw [eG k c]; exact degU_hi G 7 k (by show pdeg G < _; omega) c
    · exact zG k (by omega)
  have co := pr_of (S := S) zP zG (fun x => by rw [ev_congr (p := P') (q := P) eP, ev_congr (p := G') (q := G) eG]; exact hm x)
  have top : (G d).natAbs ≤ A := by
    have h1 := co (t + d) (by omega)
    rw [pr_single (i0 := t) (by omega) 7 (by omega) (fun i _ hi hne => by
      by_cases c : t < i
      · rw [Sz i c, Int.zero_mul]
      · rw [Gz (t + d - i) (by omega), Int.mul_zero]), show t + d - t = d by omega, eG d (by omega), eP _ (by omega)] at h1
    have h2 := hA (t + d) (by omega)
    rw [h1, Int.natAbs_mul] at h2
    exact Nat.le_trans (Nat.le_mul_of_pos_left _ (Int.natAbs_pos.mpr St)) h2
  have same : pdeg G = pdeg P → ∀ k, k < 7 → (G k).natAbs ≤ A := fun e k hk => by
    have ht : t = 0 := by omega
    subst ht
    have h1 := co k (by omega)
    rw [pr_single (i0 := 0) (by omega) 7 (by omega) (fun i _ hi hne => by rw [Sz i (by omega), Int.zero_mul]), Nat.sub_zero, eG k hk, eP k hk] at h1
    have h2 := hA k hk
    rw [h1, Int.natAbs_mul] at h2
    exact Nat.le_trans (Nat.le_mul_of_pos_left _ (Int.natAbs_pos.mpr St)) h2
  refine ⟨hG0, by omega, fun k hk => ?_, same⟩
  by_cases c : d = 6
  · have := same (by omega) k hk
    omega
  · have h6 : G 6 = 0 := degU_hi G 7 6 (by show pdeg G < _; omega) (by decide)
    have b5 : (G 5).natAbs ≤ A := by
      by_cases c5 : d = 5
      · subst c5; exact top
      · rw [degU_hi G 7 5 (by show pdeg G < _; omega) (by decide), Int.natAbs_zero]; exact Nat.zero_le _
    obtain ⟨k0, q0, v0⟩ := fac_val hm hPd.nz 0
    obtain ⟨k1, q1, v1⟩ := fac_val hm hPd.nz 1
    obtain ⟨k2, q2, v2⟩ := fac_val hm hPd.nz (-1)
    obtain ⟨k3, q3, v3⟩ := fac_val hm hPd.nz 2
    obtain ⟨k4, q4, v4⟩ := fac_val hm hPd.nz (-2)
    have w0 := hA k0 q0
    rw [← tA_0 P q0] at w0
    rw [tA_0 G (show 0 < 7 by decide)] at v0
    have w1 := (tA_le hA k1).1
    have w2 := (tA_le hA k2).2.1
    have w3 := (tA_le hA k3).2.2.1
    have w4 := (tA_le hA k4).2.2.2
    simp only [tA, h6] at v1 v2 v3 v4
    obtain ⟨r1, r2, r3, r4⟩ := lag2 (g0 := G 0) (g1 := G 1) (g2 := G 2) (g3 := G 3) (g4 := G 4) (g5 := G 5) (A := A) (Nat.le_trans v0 w0) b5 (Nat.le_trans (by omega) (Nat.le_trans v1 w1)) (Nat.le_trans (by omega) (Nat.le_trans v2 w2)) (Nat.le_trans (by omega) (Nat.le_trans v3 w3)) (Nat.le_trans (by omega) (Nat.le_trans v4 w4))
    have c7 : k = 0 ∨ k = 1 ∨ k = 2 ∨ k = 3 ∨ k = 4 ∨ k = 5 ∨ k = 6 := by omega
    rcases c7 with rfl | rfl | rfl | rfl | rfl | rfl | rfl
    · have := Nat.le_trans v0 w0; omega
    · exact r1
    · exact r2
    · exact r3
    · exact r4
    · omega
    · rw [h6, Int.natAbs_zero]; exact Nat.zero_le _
