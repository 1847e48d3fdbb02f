/-! PLAIN LAW 41: divisors and free parts are factors; the model's square-free part fits -/
theorem ev_scl (w : Int) (p : Nat → Int) (x : Rat) : ev (scl w p) x = (w : Rat) * ev p x := by
  unfold ev
  rw [← pe_mul]
  exact pe_congr 7 (fun k _ => by show ((w * p k : Int) : Rat) = (w : Rat) * (p k : Rat); rw [Rat.intCast_mul]) x
theorem pm1.rat {w : Int} (hw : pm1 w) : (w : Rat) * (w : Rat) = 1 := by
  rw [← Rat.intCast_mul, hw.sq]; rfl
theorem fcr_prim (p : Nat → Int) : fcr (pprim p) p := ⟨fun _ => (pc1 p : Int), 1, fun x => by
  show pe (ci p) 7 x = (0 + (((pc1 p : Nat) : Int) : Rat) * x ^ 0) * pe (ci (pprim p)) 7 x
  rw [Rat.pow_zero, ← pe_mul]
  refine pe_congr 7 (fun k hk => ?_) x
  show (p k : Rat) = (0 + (((pc1 p : Nat) : Int) : Rat) * 1) * (pprim p k : Rat)
  have h := pprim_mul p hk
  have h2 : (p k : Rat) = (((pc1 p : Int) * pprim p k : Int) : Rat) := by rw [← h]
  rw [h2, Rat.intCast_mul]; grind⟩
/-- the divisor and the free part are factors -/
theorem fcr_free {p : Nat → Int} (h0 : 0 ≤ pdeg p) : fcr (freeR p) (pprim p) ∧ fcr (freeD p) (pprim p) := by
  obtain ⟨L, hr⟩ := row_ex h0
  obtain ⟨h, hC, hS, _⟩ := row_h hr h0
  obtain ⟨c, d, hc, eF, _⟩ := free_h hr h0 hC hS
  obtain ⟨w, hw, hD⟩ := freeD_row hr h0
  have hL := hr.1
  have hS0 := hS 0 (by omega)
  rw [rsq_0] at hS0
  have eD : ∀ x, ev (freeD p) x = (w : Rat) * ev (rsq p (L - 1)) x := fun x => by rw [ev_congr hD, ev_scl]
  have ww : (w : Rat) * (w : Rat) = 1 := hw.rat
  have cc : c * c = 1 := by rcases hc with rfl | rfl <;> grind
  obtain ⟨u, hu⟩ : ∃ u : Int, (u : Rat) = c := by
    rcases hc with rfl | rfl
    · exact ⟨1, rfl⟩
    · exact ⟨-1, rfl⟩
  have e1 : ∀ x, ev (pprim p) x = ((w : Rat) * ev (freeD p) x) * (c * ev (freeR p) x) := fun x => by
    rw [hS0, eD, eF]
    have : (w : Rat) * ((w : Rat) * ev (rsq p (L - 1)) x) * (c * (c * h 0 x)) = ((w : Rat) * (w : Rat)) * (c * c) * (ev (rsq p (L - 1)) x * h 0 x) := by grind
    rw [this, ww, cc]; grind
  refine ⟨⟨scl u (scl w (freeD p)), 7, fun x => ?_⟩, ⟨scl u (scl w (freeR p)), 7, fun x => ?_⟩⟩
  · show _ = ev (scl u (scl w (freeD p))) x * _
    rw [ev_scl, ev_scl, e1, hu]; grind
  · show _ = ev (scl u (scl w (freeR p))) x * _
    rw [ev_scl, ev_scl, e1, hu]; grind
/-- a factor of a polynomial of a slot -/
def fs (p : Nat → Int) : Prop := ∃ P0 : Nat → Int, (∀ k, k < 7 → (P0 k).natAbs ≤ 9999) ∧ 0 ≤ pdeg P0 ∧ fcr p P0
theorem fs.all {p : Nat → Int} (h : fs p) : 0 ≤ pdeg p ∧ (∀ k, k < 7 → (p k).natAbs ≤ 1119888) ∧ (pdeg p = 6 → ∀ k, k < 7 → (p k).natAbs ≤ 9999) := by
  obtain ⟨P0, hA, h0, hf⟩ := h
  obtain ⟨h1, h2, h3, h4⟩ := fac_le h0 hA hf
  refine ⟨h1, h3, fun e => h4 ?_⟩
  have := pdeg_in P0
  omega
theorem fs.hbq {p : Nat → Int} (h : fs p) : bq p := fun d hd k hk => by
  obtain ⟨_, h2, h3⟩ := h.all
  by_cases c : d = 6
  · subst c; exact h3 hd k hk
  · have e : pB d = 2 ^ 21 := by
      unfold pB
      split
      · omega
      · rfl
    rw [e]
    exact Nat.le_trans (h2 k hk) (Nat.le_of_ble_eq_true rfl)
theorem fs.of {p : Nat → Int} (h0 : 0 ≤ pdeg p) (hA : ∀ k, k < 7 → (p k).natAbs ≤ 9999) : fs p := ⟨p, hA, h0, fcr.rfl' p⟩
theorem fs.fac {p q : Nat → Int} (h : fs p) (hf : fcr q p) : fs q := by
  obtain ⟨P0, hA, h0, h1⟩ := h
  exact ⟨P0, hA, h0, hf.trans h1⟩
theorem fs.free {p : Nat → Int} (h : fs p) : fs (freeR p) := h.fac ((fcr_free h.all.1).1.trans (fcr_prim p))
theorem fs.dvs {p : Nat → Int} (h : fs p) : fs (freeD p) := h.fac ((fcr_free h.all.1).2.trans (fcr_prim p))
theorem fs.congr {p q : Nat → Int} (h : fs p) (e : eq7 p q) : fs q := by
  obtain ⟨P0, hA, h0, h1⟩ := h
  exact ⟨P0, hA, h0, h1.congr e eq7.rfl'⟩
/-- the division from the top fits -/
theorem fitF_ex {D : Nat → Int} {h A B : Nat} (hD : D h ≠ 0) (hz : ∀ k, h < k → k < 7 → D k = 0) (h7 : h < 7) (hA : (D h).natAbs ≤ A) (hAB : A * B < 2 ^ 1535) : ∀ (n : Nat) (T G : Nat → Int), n + h ≤ 7 → (∀ k, n ≤ k → G k = 0) → (∀ m, m < 7 → T m = pr D G 7 m) → (∀ k, (G k).natAbs ≤ B) → fitF D h n T := by
  intro n
  induction n with
  | zero => intro T G _ _ _ _; trivial
  | succ n ih =>
    intro T G hn hG hT hB
    have e1 : T (n + h) = D h * G n := by
      rw [hT (n + h) (by omega), pr_single (i0 := h) (by omega) 7 h7 (fun i hi hi2 hne => ?_), show n + h - h = n by omega]
      by_cases c : i < h
      · rw [hG (n + h - i) (by omega), Int.mul_zero]
      · rw [hz i (by omega) hi, Int.zero_mul]
    have e2 : (T (n + h)).tdiv (D h) = G n := by rw [e1]; exact Int.mul_tdiv_cancel_left _ hD
    refine ⟨?_, ih (frT D h n T) (va_up G n 0) (by omega) (fun j hj => by
      by_cases c : j = n
      · rw [c, va_upj]
      · rw [va_upn _ _ c]; exact hG j (by omega)) (fun m hm => by
      rw [pr_up, ← hT m hm]
      unfold frT
      rw [e2]
      by_cases c : n ≤ m ∧ m ≤ n + h
      · rw [if_pos c, if_pos (show n ≤ m ∧ m - n < 7 by omega)]
      · rw [if_neg c]
        by_cases d : n ≤ m ∧ m - n < 7
        · rw [if_pos d, hz (m - n) (by omega) (by omega), Int.zero_mul]; omega
        · rw [if_neg d]; omega) (fun k => by
      by_cases c : k = n
      · rw [c, va_upj, Int.natAbs_zero]; exact Nat.zero_le _
      · rw [va_upn _ _ c]; exact hB k)⟩
    show (T (n + h)).natAbs < 2 ^ 1535
    rw [e1, Int.natAbs_mul]
    exact Nat.lt_of_le_of_lt (Nat.mul_le_mul hA (hB n)) hAB
theorem scl_abs {w : Int} (hw : pm1 w) (p : Nat → Int) (k : Nat) : (scl w p k).natAbs = (p k).natAbs := by
  show (w * p k).natAbs = _
  rcases hw with rfl | rfl
  · rw [Int.one_mul]
  · rw [Int.neg_mul, Int.one_mul, Int.natAbs_neg]
/-- what the model's square-free part needs -/
theorem fs.hFree {p : Nat → Int} (hp : fs p) : okFree p ∧ 0 ≤ pdeg (freeR p) := by
  have h0 := hp.all.1
  obtain ⟨L, hr⟩ := row_ex h0
  obtain ⟨h, hC, hS, _⟩ := row_h hr h0
  obtain ⟨c, d, hc, eF, dF, dS, dD, _, G, w, hw, Gz, Gd, eG, prm⟩ := free_h hr h0 hC hS
  obtain ⟨v, hv, hD⟩ := freeD_row hr h0
  have hL := hr.1
  have hS0 := hr.2.2.1 (L - 1) (by omega)
  obtain ⟨s, hs⟩ := Int.eq_ofNat_of_zero_le hS0
  have p6 := pdeg_in (pprim p)
  have hd6 : d + s < 7 := by omega
  have two : ∀ x : Nat, x ≤ 1000 → 2 ^ x < 2 ^ 1535 := fun x hx => Nat.pow_lt_pow_right (by decide) (by omega)
  have bp := hp.all.2.1
  have bD := hp.dvs.all.2.1
  have bF := hp.free.all.2.1
  obtain ⟨g, hg⟩ := Int.eq_ofNat_of_zero_le h0
  refine ⟨⟨⟨fun k hk => ?_, fun k hk => ?_, fitG_drv hp.hbq h0, ?_⟩, by omega, by omega⟩, by omega⟩
  · exact Nat.lt_of_le_of_lt (Nat.le_trans (bp k hk) (show 1119888 ≤ 2 ^ 21 from Nat.le_of_ble_eq_true rfl)) (two _ (by omega))
  · exact Nat.lt_of_le_of_lt (drv_21 hp.hbq hg k) (two _ (by omega))
  · rw [show (pdeg (freeD p)).toNat = s by omega, show (pdeg (pprim p) - pdeg (freeD p) + 1).toNat = d + 1 by omega]
    have hDs := degU_at (freeD p) 7 s (by show pdeg _ = _; omega)
    refine fitF_ex (A := 1119888) (B := 1119888) hDs.1 (fun k k1 k2 => degU_hi (freeD p) 7 k (by show pdeg _ < _; omega) k2) hDs.2 (bD s hDs.2) ?_ (d + 1) (pprim p) (scl v G) (by omega) (fun k hk => by show v * G k = 0; rw [Gz k (by omega), Int.mul_zero]) (fun m hm => by rw [pr_scl hv hD m 7 (Nat.le_refl _)]; exact prm m hm) (fun k => ?_)
    · exact Nat.lt_trans (show 1119888 * 1119888 < 2 ^ 42 from Nat.lt_of_not_ge (by decide)) (two _ (by omega))
    · rw [scl_abs hv]
      by_cases c7 : k < 7
      · have := bF k c7
        rw [eG k c7, scl_abs hw] at this
        exact this
      · rw [Gz k (by omega), Int.natAbs_zero]; exact Nat.zero_le _
theorem fs.hRow {p : Nat → Int} (hp : fs p) : okRow p := by
  obtain ⟨L, hr⟩ := row_ex hp.all.1
  exact ⟨fitRow_of hr hp.hbq, by rw [prim_deg]; exact hp.all.1⟩
