/-! WHAT THE CALLS ASK, told of slots that agree -/
section LAWFITS
variable {Sc : Nat → Pl} {Sm : Nat → Nat → Int}
theorem relS.bC (h : relS Sc Sm) : bC5 Sc := fun _ hi => h.ok hi
theorem relS.len (h : relS Sc Sm) {i : Nat} (hi : i < 5) (h0 : 0 ≤ pdeg (Sm i)) : 0 < (Sc i).1 := by have := h.deg hi; omega
theorem relS.h7 (h : relS Sc Sm) : ∀ i, i < 5 → (Sc i).1 ≤ 7 := fun i hi => (h i hi).2.1
theorem relS.hQ (h : relS Sc Sm) : ∀ i, i < 5 → 0 < (Sc i).1 → okQ (Sc i) nN mM 1 mM kK 1995 12366 183 1238 := fun _ hi h0 => (h.gd hi h0).hQ
theorem relS.hFr (h : relS Sc Sm) : ∀ i, i < 5 → 0 < (Sc i).1 → fitFr (Sc i) 2 1 ∧ frC (Sc i) ≤ 600 ∧ frL (Sc i) 2 1 ≤ 2000 := fun _ hi h0 => ⟨(h.gd hi h0).hFr, frC_le (h.gd hi h0)⟩
theorem relS.hV (h : relS Sc Sm) : ∀ (i : Nat) (n : Int) (e : Nat), i < 5 → -1000000 ≤ n → n ≤ 1000000 → e ≤ 12 → fitV (Sc i) n e 1 7 := fun i n e hi h1 h2 he => by
  by_cases c : 0 < (Sc i).1
  · exact (h.gd hi c).hV (by omega) (by omega) he
  · have hz : ∀ k, (Sc i).2 k = 0 := fun k => (h i hi).1.2 k (by omega)
    exact ⟨fun k => by rw [hz k]; decide, fun k hk => absurd hk (by omega), by decide, by decide⟩
theorem relS.hpos (h : relS Sc Sm) : ∀ i, i < 5 → 0 < (Sc i).1 → ∀ j, j < seqLen (Sc i) → 0 < (sq (Sc i) j).1 := fun i hi h0 j hj => by
  have g := h.gd hi h0
  obtain ⟨L, hr⟩ := g.row
  obtain ⟨e1, e2⟩ := seq_row g.1 g.2.1 g.2.2.1 hr
  rw [e1] at hj
  exact (e2 j (by omega)).2.2.2 hj
theorem okH.mono {P : Pl} {N : Nat → Nat → Nat} {M : Nat → Nat} {M0 N1 M1 : Nat} {Nt Kt : Nat → Nat} {Cf Lf C1 L1 Cf' Lf' : Nat} (h : okH P N M M0 N1 M1 Nt Kt Cf Lf C1 L1) (h1 : Cf ≤ Cf') (h2 : Lf ≤ Lf') : okH P N M M0 N1 M1 Nt Kt Cf' Lf' C1 L1 := by
  obtain ⟨a, b, c, d, e⟩ := h
  exact ⟨a, b, Nat.le_trans c h1, Nat.le_trans d h2, e⟩
theorem gd.hH2 {P : Pl} (g : gd P) : okH P nN mM 1 2 1 mM kK 3809 23503 183 1238 := g.hH.mono (gf_le _ (by have := g.2.1; omega)).1 (gf_le _ (by have := g.2.1; omega)).2
theorem relS.hH (h : relS Sc Sm) : ∀ i, i < 5 → 0 < (Sc i).1 → okH (Sc i) nN mM 1 2 1 mM kK 3809 23503 183 1238 := fun _ hi h0 => (h.gd hi h0).hH2
theorem relS.hG (h : relS Sc Sm) : ∀ i j, i < 5 → j < 5 → fitD (Sc i) (Sc j) nG mG ∧ dvC nG mG 9 (Sc i).1 (Sc j).1 ≤ 1946 ∧ dvL nG mG 9 (Sc i).1 (Sc j).1 ≤ 13156 := fun i j hi hj =>
  ⟨gcd_fit (h i hi).1 (h j hj).1 (h.ok hi).2 (h.ok hj).2, dv_le _ (by have := h.h7 i hi; omega) _ (by have := h.h7 j hj; omega)⟩
theorem relS.hDv (h : relS Sc Sm) : ∀ i, i < 5 → 0 < (Sc i).1 → okDv (Sc i) nN mM 1 mM kK 1995 12366 183 1238 := fun _ hi h0 => (h.gd hi h0).hDv
theorem relS.hTr (h : relS Sc Sm) : ∀ i, i < 5 → 0 < (Sc i).1 → xtT (Sc i) := fun _ hi h0 => (h.gd hi h0).tru (h.ok hi).2.2
theorem relS.nab (h : relS Sc Sm) {i : Nat} (hi : i < 5) : ∀ k, k < 7 → (Sm i k).natAbs ≤ 9999 := fun k hk => by have := h.b i hi k hk; omega
theorem rs_mG (h : relS Sc Sm) {a b : Int} : (0 ≤ a ∧ a < 5) → (0 ≤ b ∧ b < 5) → fitG (Sm a.toNat) (Sm b.toNat) := fun ha hb => fitG_sl (h.nab (by omega)) (h.nab (by omega))
theorem rs_mfs (h : relS Sc Sm) {a : Int} (ha : 0 ≤ a ∧ a < 5) (h0 : 0 ≤ pdeg (Sm a.toNat)) : fs (Sm a.toNat) := h.fs (by omega) h0
theorem rs_mF (h : relS Sc Sm) {a : Int} : (0 ≤ a ∧ a < 5) → 0 ≤ pdeg (Sm a.toNat) → okFree (Sm a.toNat) := fun ha h0 => (rs_mfs h ha h0).hFree.1
theorem rs_mR (h : relS Sc Sm) {a : Int} : (0 ≤ a ∧ a < 5) → 0 ≤ pdeg (Sm a.toNat) → okRow (Sm a.toNat) := fun ha h0 => (rs_mfs h ha h0).hRow
theorem rs_mP (h : relS Sc Sm) {a n k : Int} : (0 ≤ a ∧ a < 5) → ((-1000000 ≤ n ∧ n ≤ 1000000) ∧ (0 ≤ k ∧ k ≤ 12)) → rN (pAt (Sm a.toNat) n k.toNat) := fun ha hp =>
  pAt_rN (l := 14) (by decide) (fun k hk => Nat.le_trans (h.nab (i := a.toNat) (by omega) k hk) (by decide)) (by omega) (by omega)
theorem rs_mV (h : relS Sc Sm) {a n k : Int} : (0 ≤ a ∧ a < 5) → 0 ≤ pdeg (Sm a.toNat) → ((-1000000 ≤ n ∧ n ≤ 1000000) ∧ (0 ≤ k ∧ k ≤ 12)) → ∀ i, i < rowLen (Sm a.toNat) → rN (pAt (rsq (Sm a.toNat) i) n k.toNat) := fun ha h0 hp i hi => by
  have hl := h.len (i := a.toNat) (by omega) h0
  obtain ⟨L, hr, e1, e2, e3⟩ := h.row (i := a.toNat) (by omega) hl
  rw [e2] at hi
  obtain ⟨b1, b2, b3⟩ := e3 i hi
  have g := h.gd (i := a.toNat) (by omega) hl
  obtain ⟨L2, hr2⟩ := g.row
  have e4 := (seq_row g.1 g.2.1 g.2.2.1 hr2).1
  obtain ⟨c1, -, -⟩ := g.elt hr2 (show i < L2 by omega)
  have hb : ∀ k, k < 7 → (rsq (Sm a.toNat) i k).natAbs ≤ 2 ^ lB ((sq (Sc a.toNat) i).1 - 1) := fun k hk => by
    rw [← b3 k hk]
    exact Nat.le_trans (c1.2.2.2 k) (bB_l _)
  exact pAt_rN (Nat.le_trans (lB_le _) (by decide)) hb (by omega) (by omega)
theorem rs_mC (h : relS Sc Sm) {a n k m l : Int} : (0 ≤ a ∧ a < 5) → ((-1000000 ≤ n ∧ n ≤ 1000000) ∧ (0 ≤ k ∧ k ≤ 12)) → ((-1000000 ≤ m ∧ m ≤ 1000000) ∧ (0 ≤ l ∧ l ≤ 12)) → rN (pAt (Sm a.toNat) n k.toNat) ∧ rN (pAt (Sm a.toNat) m l.toNat) := fun ha h1 h2 => ⟨rs_mP h ha h1, rs_mP h ha h2⟩
theorem rs_mD (h : relS Sc Sm) {a n k m l : Int} : refF Sm a n k m l = 0 → okDst (Sm a.toNat) n k m l := fun e => by
  obtain ⟨r1, r2, r3, r4, r5, r6, r7⟩ := refF_0 e
  exact ((rs_mfs h r1 r5).hDst r2.1 r3.1 r2.2 r3.2 r4).1
theorem rs_mA (h : relS Sc Sm) {a n k m l : Int} : refF Sm a n k m l = 0 → okAll n k m l 7 (Sm a.toNat) := fun e => by
  obtain ⟨r1, r2, r3, r4, r5, r6, r7⟩ := refF_0 e
  exact fs.hAll 7 (rs_mfs h r1 r5) r2.1 r3.1 r2.2 r3.2 r4
theorem rs_bnd (h : relS Sc Sm) {a : Int} (ha : 0 ≤ a ∧ a < 5) (h0 : 0 ≤ pdeg (Sm a.toNat)) : 1 ≤ bnd (Sm a.toNat) ∧ bnd (Sm a.toNat) ≤ 16384 := by
  have hl := h.len (i := a.toNat) (by omega) h0
  have g := h.gd (i := a.toNat) (by omega) hl
  have e := bnd_c g (h a.toNat (by omega)).2.2.1
  have b := g.bnd (h.ok (by omega)).2.2
  rw [e]
  exact ⟨b.1, b.2.1⟩
theorem rs_mDR (h : relS Sc Sm) {a : Int} (ha : 0 ≤ a ∧ a < 5) (h0 : 0 ≤ pdeg (Sm a.toNat)) : okDst (Sm a.toNat) (-bnd (Sm a.toNat)) 0 (bnd (Sm a.toNat)) 0 := by
  have b := rs_bnd h ha h0
  exact ((rs_mfs h ha h0).hDst (by omega) (by omega) (by decide) (by decide) (by show _ * 2 ^ 0 < _ * 2 ^ 0; omega)).1
end LAWFITS
