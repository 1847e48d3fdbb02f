/-! PLAIN LAW 33: coefficients from values at -2 .. 2 -/
theorem lag {c0 c1 c2 c3 c4 c5 H : Rat} (h0 : rab c0 ≤ H) (h1 : rab (c0 + c1 + c2 + c3 + c4 + c5) ≤ 7 * H) (h2 : rab (c0 - c1 + c2 - c3 + c4 - c5) ≤ 7 * H) (h3 : rab (c0 + 2 * c1 + 4 * c2 + 8 * c3 + 16 * c4 + 32 * c5) ≤ 127 * H) (h4 : rab (c0 - 2 * c1 + 4 * c2 - 8 * c3 + 16 * c4 - 32 * c5) ≤ 127 * H) (h5 : rab c5 ≤ H) : rab c1 ≤ 37 * H ∧ rab c2 ≤ 37 * H ∧ rab c3 ≤ 37 * H ∧ rab c4 ≤ 37 * H := by
  obtain ⟨a1, a2⟩ := rab_b c0
  obtain ⟨a3, a4⟩ := rab_b (c0 + c1 + c2 + c3 + c4 + c5)
  obtain ⟨a5, a6⟩ := rab_b (c0 - c1 + c2 - c3 + c4 - c5)
  obtain ⟨a7, a8⟩ := rab_b (c0 + 2 * c1 + 4 * c2 + 8 * c3 + 16 * c4 + 32 * c5)
  obtain ⟨a9, a10⟩ := rab_b (c0 - 2 * c1 + 4 * c2 - 8 * c3 + 16 * c4 - 32 * c5)
  obtain ⟨a11, a12⟩ := rab_b c5
  have H0 := Rat.le_trans (rab_nn c0) h0
  generalize rab c0 = r0 at *
  generalize rab c5 = r5 at *
  generalize rab (c0 + c1 + c2 + c3 + c4 + c5) = r1 at *
  generalize rab (c0 - c1 + c2 - c3 + c4 - c5) = r2 at *
  generalize rab (c0 + 2 * c1 + 4 * c2 + 8 * c3 + 16 * c4 + 32 * c5) = r3 at *
  generalize rab (c0 - 2 * c1 + 4 * c2 - 8 * c3 + 16 * c4 - 32 * c5) = r4 at *
  refine ⟨rab_le (by grind) (by grind), rab_le (by grind) (by grind), rab_le (by grind) (by grind), rab_le (by grind) (by grind)⟩
