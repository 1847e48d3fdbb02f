/-! PLAIN LAW 45: the component's differences of changes are the model's counts -/
theorem rsq_eq7 {p q : Nat → Int} (h : eq7 p q) : ∀ i, eq7 (rsq p i) (rsq q i) := by
  intro i
  induction i using Nat.strongRecOn with
  | _ i ih =>
    match i with
    | 0 => rw [rsq_0, rsq_0]; exact h.prim
    | 1 => rw [rsq_1, rsq_1]; exact (drv_congr h).prim
    | i + 2 =>
      rw [show rsq p (i + 2) = fun j => -(remF 7 (rsq p i) (rsq p (i + 1)) j) from by rw [rsq], show rsq q (i + 2) = fun j => -(remF 7 (rsq q i) (rsq q (i + 1)) j) from by rw [rsq]]
      exact neg_congr7 (remF_congr 7 (ih i (by omega)) (ih (i + 1) (by omega)))
theorem isRow_eq7 {p q : Nat → Int} (h : eq7 p q) {L : Nat} (hr : isRow p L) : isRow q L :=
  ⟨hr.1, hr.2.1, fun i hi => by rw [← (rsq_eq7 h i).deg]; exact hr.2.2.1 i hi, by rw [← (rsq_eq7 h L).deg]; exact hr.2.2.2⟩
theorem rsg_z {x : Rat} : rsg x = 0 ↔ x = 0 := by
  rcases rsg_3 x with ⟨a, b⟩ | ⟨a, b⟩ | ⟨a, b⟩
  · constructor
    · intro h; omega
    · intro h; grind
  · constructor
    · intro h; omega
    · intro h; grind
  · exact ⟨fun _ => a, fun _ => b⟩
theorem sign_z {x : Int} : x.sign = 0 ↔ x = 0 := ⟨Int.sign_eq_zero_iff_zero.mp, Int.sign_eq_zero_iff_zero.mpr⟩
theorem pAt_z (q : Nat → Int) (n : Int) (e : Nat) : pAt q n e = 0 ↔ ev q (pt n e) = 0 := by
  rw [← sign_z, pAt_sign, rsg_z]
/-- P, its free part and the chain's first function have the same zeros -/
theorem free_zero {p : Nat → Int} {L : Nat} (hr : isRow p L) (h0 : 0 ≤ pdeg p) {h : Nat → Rat → Rat} (hC : polC h (L - 1)) (hS : ∀ i, i ≤ L - 1 → ∀ x, ev (rsq p i) x = ev (rsq p (L - 1)) x * h i x) (x : Rat) : ev p x = 0 ↔ h 0 x = 0 := by
  have hL := hr.1
  have hS0 := hS 0 (by omega)
  rw [rsq_0] at hS0
  obtain ⟨s, hs⟩ := Int.eq_ofNat_of_zero_le (hr.2.2.1 (L - 1) (by omega))
  obtain ⟨γ0, g0, p0⟩ := ev_prim p
  refine ⟨fun hz => Classical.byContradiction fun hne => ?_, fun hz => by rw [p0, hS0, hz]; grind⟩
  have hz1 : ev (rsq p (L - 1)) x = 0 := by
    rw [p0, hS0] at hz
    rcases Rat.mul_eq_zero.mp hz with q | q
    · grind
    · rcases Rat.mul_eq_zero.mp q with q | q
      · exact q
      · exact absurd q hne
  by_cases c1 : L = 1
  · subst c1
    have d1 : pdeg (rsq p 1) < 0 := hr.2.2.2
    obtain ⟨g, hg⟩ := Int.eq_ofNat_of_zero_le h0
    have d2 := drv_deg hg
    rw [rsq_1, prim_deg] at d1
    have d3 : pdeg (rsq p 0) = 0 := by
      rw [rsq_0, prim_deg]; have := pdeg_in p; omega
    obtain ⟨ce, ce1, ce2⟩ := ev_hdeg (n := 0) d3
    have hz2 : ev (rsq p 0) x = 0 := hz1
    rw [ce2] at hz2
    have hz3 : 0 + ce 0 * x ^ 0 = 0 := hz2
    rw [Rat.pow_zero] at hz3
    exact ce1 (by grind)
  · obtain ⟨γ1, g1, p1⟩ := ev_prim (drv p)
    have hS1 := hS 1 (by omega)
    rw [rsq_1] at hS1
    exact zero_G (g := ev (rsq p (L - 1))) (h0 := h 0) (h1 := h 1) (P := ev p) (P' := ev (drv p)) (γ0 := γ0) (γ1 := γ1) (ev_Pfn _) (hC.1 0 (by omega)) (hC.1 1 (by omega)) g0 (fun x => by rw [p0, hS0]) (fun x => by rw [p1, hS1]) (fun K hK => ev_anP p hK) (ev_hdeg hs) hne hz1
/-- the row's changes at two points where its last member is not 0 -/
theorem row_cnt {p : Nat → Int} {L : Nat} (hr : isRow p L) (h0 : 0 ≤ pdeg p) {m n : Int} {e : Nat} (hmn : m < n) (hg : ev (rsq p (L - 1)) (pt m e) ≠ 0 ∧ ev (rsq p (L - 1)) (pt n e) ≠ 0) (hf : okPl (freeR p) e m n) (hF : 0 ≤ pdeg (freeR p)) : (chC (fun i => pAt (rsq p i) m e) L : Int) - (chC (fun i => pAt (rsq p i) n e) L : Int) = plF (freeR p) e m n + (if pAt p n e = 0 then 1 else 0) := by
  obtain ⟨h, hC, hS, hD⟩ := row_h hr h0
  obtain ⟨c, d, hc, eF, _⟩ := free_h hr h0 hC hS
  have hcn : c ≠ 0 := by rcases hc with rfl | rfl <;> decide
  rw [row_V hr.1 hS m e hg.1, row_V hr.1 hS n e hg.2, plF_NV hC hD hF hcn eF hmn hf]
  unfold NV
  have hz : pAt p n e = 0 ↔ h 0 (pt n e) = 0 := by rw [pAt_z]; exact free_zero hr h0 hC hS _
  by_cases q : pAt p n e = 0
  · rw [if_pos q, if_pos (hz.mp q)]; omega
  · rw [if_neg q, if_neg (fun w => q (hz.mpr w))]; omega
theorem last_nz {p : Nat → Int} {L : Nat} (hr : isRow p L) {x : Rat} (hx : ev p x ≠ 0) (h0 : 0 ≤ pdeg p) : ev (rsq p (L - 1)) x ≠ 0 := fun hz => by
  obtain ⟨h, hC, hS, _⟩ := row_h hr h0
  have hS0 := hS 0 (by omega)
  rw [rsq_0] at hS0
  obtain ⟨γ0, g0, p0⟩ := ev_prim p
  exact hx (by rw [p0, hS0, hz]; grind)
/-- its own sequence, where it is not 0 -/
theorem gd.cnt {P : Pl} (h : gd P) {m n : Int} {e : Nat} (hmn : m < n) (h1 : pAt P.2 m e ≠ 0) (h2 : pAt P.2 n e ≠ 0) (hf : okPl (freeR P.2) e m n) : ((chG (fun i => cSg (sq P i) m e) (seqLen P) : Nat) : Int) - ((chG (fun i => cSg (sq P i) n e) (seqLen P) : Nat) : Int) = plF (freeR P.2) e m n := by
  obtain ⟨L, hr⟩ := h.row
  obtain ⟨eL, hs⟩ := seq_row h.1 h.2.1 h.2.2.1 hr
  have h0 := h.2.2.2.all.1
  rw [eL, chG_pAt m e L (fun i hi => ⟨(hs i (by omega)).1, (hs i (by omega)).2.1, (hs i (by omega)).2.2.1⟩), chG_pAt n e L (fun i hi => ⟨(hs i (by omega)).1, (hs i (by omega)).2.1, (hs i (by omega)).2.2.1⟩)]
  rw [row_cnt hr h0 hmn ⟨last_nz hr (fun w => h1 ((pAt_z _ _ _).mpr w)) h0, last_nz hr (fun w => h2 ((pAt_z _ _ _).mpr w)) h0⟩ hf h.2.2.2.free.all.1, if_neg h2]
  omega
theorem const_nz {p : Nat → Int} (h : pdeg p = 0) (x : Rat) : ev p x ≠ 0 := fun hz => by
  obtain ⟨ce, ce1, ce2⟩ := ev_hdeg (n := 0) h
  rw [ce2] at hz
  have hz3 : 0 + ce 0 * x ^ 0 = 0 := hz
  rw [Rat.pow_zero] at hz3
  exact ce1 (by grind)
/-- the square-free sequence, anywhere -/
theorem gd.fcnt {P : Pl} (h : gd P) {m n : Int} {e : Nat} (hmn : m < n) (hf : okPl (freeR P.2) e m n) : fch P m e - fch P n e = plF (freeR P.2) e m n + (if pAt P.2 n e = 0 then 1 else 0) := by
  obtain ⟨L, hr⟩ := h.row
  obtain ⟨eL, hs⟩ := seq_row h.1 h.2.1 h.2.2.1 hr
  have h0 := h.2.2.2.all.1
  have hF := h.2.2.2.free.all.1
  unfold fch fsq fsL
  by_cases c : (cDvs P).1 = 1
  · rw [if_pos c, if_pos c]
    have hz : pdeg (rsq P.2 (L - 1)) = 0 := by
      have hL := hr.1
      obtain ⟨_, _, e3⟩ := h.elt hr (show L - 1 < L by omega)
      unfold cDvs at c
      rw [eL] at c
      rw [e3, c]; rfl
    rw [eL, chG_pAt m e L (fun i hi => ⟨(hs i (by omega)).1, (hs i (by omega)).2.1, (hs i (by omega)).2.2.1⟩), chG_pAt n e L (fun i hi => ⟨(hs i (by omega)).1, (hs i (by omega)).2.1, (hs i (by omega)).2.2.1⟩)]
    exact row_cnt hr h0 hmn ⟨const_nz hz _, const_nz hz _⟩ hf hF
  · rw [if_neg c, if_neg c]
    obtain ⟨a1, a2, a3, a4⟩ := cFree_f h.1 h.2.1 h.2.2.1
    obtain ⟨M, hM⟩ := row_ex hF
    obtain ⟨eM, hsM⟩ := seq_row a1 a2 a3 (isRow_eq7 a4.symm hM)
    rw [eM, chG_pAt m e M (q := fun i => rsq (freeR P.2) i) (fun i hi => ⟨(hsM i (by omega)).1, (hsM i (by omega)).2.1, (hsM i (by omega)).2.2.1.trans (rsq_eq7 a4 i)⟩), chG_pAt n e M (q := fun i => rsq (freeR P.2) i) (fun i hi => ⟨(hsM i (by omega)).1, (hsM i (by omega)).2.1, (hsM i (by omega)).2.2.1.trans (rsq_eq7 a4 i)⟩)]
    obtain ⟨H, HC, HS, HD⟩ := row_h hM hF
    obtain ⟨k, k0, ek⟩ := free_self h0 hM hF HS
    have hz := sqfree h0 hM
    rw [row_V hM.1 HS m e (const_nz hz _), row_V hM.1 HS n e (const_nz hz _), plF_NV HC HD hF k0 ek hmn hf]
    unfold NV
    obtain ⟨h', hC', hS', _⟩ := row_h hr h0
    obtain ⟨c', d', hc', eF', _⟩ := free_h hr h0 hC' hS'
    have hcn : c' ≠ 0 := by rcases hc' with rfl | rfl <;> decide
    have hzz : pAt P.2 n e = 0 ↔ H 0 (pt n e) = 0 := by
      rw [pAt_z, free_zero hr h0 hC' hS']
      have e1 : k * H 0 (pt n e) = c' * h' 0 (pt n e) := by rw [← ek, ← eF']
      constructor
      · intro w
        rw [w] at e1
        rcases Rat.mul_eq_zero.mp (show k * H 0 (pt n e) = 0 by rw [e1]; grind) with q | q
        · exact absurd q k0
        · exact q
      · intro w
        rw [w] at e1
        rcases Rat.mul_eq_zero.mp (show c' * h' 0 (pt n e) = 0 by rw [← e1]; grind) with q | q
        · exact absurd q hcn
        · exact q
    by_cases q : pAt P.2 n e = 0
    · rw [if_pos q, if_pos (hzz.mp q)]; omega
    · rw [if_neg q, if_neg (fun w => q (hzz.mpr w))]; omega
