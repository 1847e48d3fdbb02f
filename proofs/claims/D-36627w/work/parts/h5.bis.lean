/-! PLAIN LAW 57: halving an interval -/
theorem hv_le {p : Nat → Int} {A : Nat} {N : Nat} (hN : N ≤ 7) (hA : ∀ k, k < 7 → (p k).natAbs ≤ A) {m : Int} {e : Nat} (hm : -4294967296 ≤ m ∧ m ≤ 4294967296) (he : e ≤ 12) : ∀ i, i ≤ N → (hv p m e N i).natAbs ≤ A * 2 ^ (33 * i) := by
  intro i
  induction i with
  | zero => intro _; exact Nat.zero_le _
  | succ i ih =>
    intro hi
    have h0 := ih (by omega)
    show (hv p m e N i * m + p (N - 1 - i) * 2 ^ (e * i)).natAbs ≤ _
    have h1 := Int.natAbs_add_le (hv p m e N i * m) (p (N - 1 - i) * 2 ^ (e * i))
    have h2 : (hv p m e N i * m).natAbs ≤ A * 2 ^ (33 * i) * 2 ^ 32 := by
      rw [Int.natAbs_mul]
      exact Nat.mul_le_mul h0 (by omega)
    have h3 : (p (N - 1 - i) * 2 ^ (e * i)).natAbs ≤ A * 2 ^ (33 * i + 32) := by
      rw [Int.natAbs_mul, Int.natAbs_pow]
      refine Nat.mul_le_mul (hA _ (by omega)) (Nat.pow_le_pow_right (by decide) ?_)
      have : e * i ≤ 12 * i := Nat.mul_le_mul_right _ he
      omega
    have e2 : A * 2 ^ (33 * i) * 2 ^ 32 = A * 2 ^ (33 * i + 32) := by rw [Nat.mul_assoc, ← Nat.pow_add]
    have e3 : A * 2 ^ (33 * (i + 1)) = A * 2 ^ (33 * i + 32) + A * 2 ^ (33 * i + 32) := by
      rw [show 33 * (i + 1) = 33 * i + 32 + 1 by omega, Nat.pow_succ, ← Nat.mul_assoc]; omega
    rw [e2] at h2
    rw [e3]
    omega
theorem pAt_rN {p : Nat → Int} {l : Nat} (hl : l ≤ 1000) (hA : ∀ k, k < 7 → (p k).natAbs ≤ 2 ^ l) {m : Int} {e : Nat} (hm : -4294967296 ≤ m ∧ m ≤ 4294967296) (he : e ≤ 12) : rN (pAt p m e) := by
  have d7 := pdeg_in p
  have h := hv_le (N := (pdeg p + 1).toNat) (by omega) hA hm he (pdeg p + 1).toNat (Nat.le_refl _)
  refine rN_abs (Nat.lt_of_le_of_lt h ?_)
  rw [← Nat.pow_add]
  exact Nat.pow_lt_pow_right (by decide) (by omega)
theorem gd.fpt {P : Pl} (h : gd P) {n n' : Int} {e e' : Nat} (hp : pt n e = pt n' e') : fch P n e = fch P n' e' := by
  unfold fch
  have key : ∀ Q : Pl, gd Q → chG (fun i => cSg (sq Q i) n e) (seqLen Q) = chG (fun i => cSg (sq Q i) n' e') (seqLen Q) := fun Q hQ => hQ.pts hp
  unfold fsq fsL
  by_cases c : (cDvs P).1 = 1
  · rw [if_pos c, if_pos c, key P h]
  · rw [if_neg c, if_neg c, key (cFree P) h.free]
theorem pt_up (n : Int) (e : Nat) : pt (2 * n) (e + 1) = pt n e := by
  have := pt_fine n e 1
  rwa [show n * 2 ^ 1 = 2 * n by omega] at this
/-- the two halves and the middle make the whole -/
theorem gd.halves {P : Pl} (h : gd P) {e : Nat} {l r : Int} (hlr : l < r) (he : e + 1 ≤ 12) (hl : (l.natAbs : Int) ≤ 16384 * 2 ^ e) (hr : (r.natAbs : Int) ≤ 16384 * 2 ^ e) : (okPl (freeR P.2) (e + 1) (2 * l) (l + r) ∧ okPl (freeR P.2) (e + 1) (l + r) (2 * r)) ∧ fch P l e - fch P (l + r) (e + 1) = plF (freeR P.2) (e + 1) (2 * l) (l + r) + (if pAt P.2 (l + r) (e + 1) = 0 then 1 else 0) ∧ plF (freeR P.2) e l r = plF (freeR P.2) (e + 1) (2 * l) (l + r) + (if pAt P.2 (l + r) (e + 1) = 0 then 1 else 0) + plF (freeR P.2) (e + 1) (l + r) (2 * r) := by
  have e2 : (2 : Int) ^ (e + 1) = 2 * 2 ^ e := by rw [Int.pow_succ]; omega
  have f0 : okPl (freeR P.2) e l r := iok.fit (F := freeR P.2) h.2.2.2 eq7.rfl' (by omega) hl hr (by omega)
  have f1 : okPl (freeR P.2) (e + 1) (2 * l) (l + r) := iok.fit (F := freeR P.2) h.2.2.2 eq7.rfl' he (by rw [e2]; omega) (by rw [e2]; omega) (by omega)
  have f2 : okPl (freeR P.2) (e + 1) (l + r) (2 * r) := iok.fit (F := freeR P.2) h.2.2.2 eq7.rfl' he (by rw [e2]; omega) (by rw [e2]; omega) (by omega)
  have c0 := h.fcnt hlr f0
  have c1 := h.fcnt (show 2 * l < l + r by omega) f1
  have c2 := h.fcnt (show l + r < 2 * r by omega) f2
  rw [h.fpt (pt_up l e)] at c1
  rw [h.fpt (pt_up r e)] at c2
  have z : pAt P.2 (2 * r) (e + 1) = 0 ↔ pAt P.2 r e = 0 := pAt_pt (pt_up r e)
  refine ⟨⟨f1, f2⟩, c1, ?_⟩
  by_cases q : pAt P.2 r e = 0
  · rw [if_pos q] at c0
    rw [if_pos (z.mpr q)] at c2
    omega
  · rw [if_neg q] at c0
    rw [if_neg (fun w => q (z.mp w))] at c2
    omega
theorem iS_bsF {X : Nat → Int} {x M : Nat} {e0 e1 e2 : Int} (hx : x < M) : iS (bsF X x 1 e0 e1 e2) (M + 1) = iS X M - X x + e0 + e2 ∧ iS (bsF X x 2 e0 e1 e2) (M + 2) = iS X M - X x + e0 + e1 + e2 := by
  obtain ⟨r, rfl⟩ : ∃ r, M = x + 1 + r := ⟨M - (x + 1), by omega⟩
  have base : iS X (x + 1 + r) = iS X x + X x + iS (fun i => X (x + 1 + i)) r := by
    rw [iS_split X (x + 1) r]; rfl
  constructor
  · rw [show x + 1 + r + 1 = x + 2 + r by omega, iS_split (bsF X x 1 e0 e1 e2) (x + 2) r, iS_split (bsF X x 1 e0 e1 e2) x 2, base]
    have a1 : iS (bsF X x 1 e0 e1 e2) x = iS X x := iS_congr x (fun i hi => by unfold bsF; rw [if_neg (by omega), if_neg (by omega), if_pos hi])
    have a2 : iS (fun i => bsF X x 1 e0 e1 e2 (x + i)) 2 = e0 + e2 := by
      show 0 + bsF X x 1 e0 e1 e2 (x + 0) + bsF X x 1 e0 e1 e2 (x + 1) = _
      unfold bsF
      rw [if_pos (by omega), if_neg (by omega), if_pos rfl]; omega
    have a3 : iS (fun i => bsF X x 1 e0 e1 e2 (x + 2 + i)) r = iS (fun i => X (x + 1 + i)) r := iS_congr r (fun i _ => by
      show bsF X x 1 e0 e1 e2 (x + 2 + i) = _
      unfold bsF
      rw [if_neg (by omega), if_neg (by omega), if_neg (by omega), if_neg (by omega), show x + 2 + i - 1 = x + 1 + i by omega])
    rw [a1, a2, a3]; omega
  · rw [show x + 1 + r + 2 = x + 3 + r by omega, iS_split (bsF X x 2 e0 e1 e2) (x + 3) r, iS_split (bsF X x 2 e0 e1 e2) x 3, base]
    have a1 : iS (bsF X x 2 e0 e1 e2) x = iS X x := iS_congr x (fun i hi => by unfold bsF; rw [if_neg (by omega), if_neg (by omega), if_pos hi])
    have a2 : iS (fun i => bsF X x 2 e0 e1 e2 (x + i)) 3 = e0 + e1 + e2 := by
      show 0 + bsF X x 2 e0 e1 e2 (x + 0) + bsF X x 2 e0 e1 e2 (x + 1) + bsF X x 2 e0 e1 e2 (x + 2) = _
      have b0 : bsF X x 2 e0 e1 e2 (x + 0) = e0 := if_pos (by omega)
      have b1 : bsF X x 2 e0 e1 e2 (x + 1) = e1 := by unfold bsF; rw [if_neg (by omega), if_neg (by omega), if_neg (by omega), if_pos (by omega)]
      have b2 : bsF X x 2 e0 e1 e2 (x + 2) = e2 := by unfold bsF; rw [if_neg (by omega), if_pos rfl]
      rw [b0, b1, b2]; omega
    have a3 : iS (fun i => bsF X x 2 e0 e1 e2 (x + 3 + i)) r = iS (fun i => X (x + 1 + i)) r := iS_congr r (fun i _ => by
      show bsF X x 2 e0 e1 e2 (x + 3 + i) = _
      unfold bsF
      rw [if_neg (by omega), if_neg (by omega), if_neg (by omega), if_neg (by omega), show x + 3 + i - 2 = x + 1 + i by omega])
    rw [a1, a2, a3]; omega
/-- what is known of an interval's polynomial -/
theorem relI.at {c : Nat} {P0 : Option Pl} {K F : Nat → Int} {n : Nat} {iv : Nat → Ivl} {many : Int} {lv lo hi rt : Nat → Int} (h : relI c P0 K F n iv many lv lo hi rt) {Q : Pl} (hQ : P0 = some Q) {j : Nat} (hj : j < n) : gd Q ∧ (∀ k, (Q.2 k).natAbs ≤ 9999) ∧ eq7 K Q.2 ∧ eq7 F (freeR Q.2) ∧ fs K := by
  obtain ⟨_, h2, _⟩ := h
  obtain ⟨Q', e, g, hA, hK, hF⟩ := h2 (by omega)
  rw [hQ] at e
  cases e
  have fK := g.2.2.2.congr hK.symm
  exact ⟨g, hA, hK, hF.trans (freeR_congr g.2.2.2.hFree.1 hK), fK⟩
theorem relI.bis {c : Nat} {P0 : Option Pl} {K F F1 : Nat → Int} {n : Nat} {iv : Nat → Ivl} {many : Int} {lv lo hi rt : Nat → Int} (h : relI c P0 K F n iv many lv lo hi rt) {Q : Pl} (hQ : P0 = some Q) {j : Nat} (hj : j < n) (h12 : lv j ≠ 12) (hne : lo j ≠ hi j) {e : Nat} (he : lv j + 1 = (e : Int)) : (rN (pAt K (lo j + hi j) e) ∧ okPl F e (2 * lo j) (lo j + hi j) ∧ okPl F e (lo j + hi j) (2 * hi j)) ∧ (xbN Q (lv j).toNat (lo j) (hi j) = if pAt K (lo j + hi j) e = 0 then 2 else 1) ∧ ∀ (wn : Nat) (lv2 lo2 hi2 rt2 : Nat → Int), (wn = 2 ∧ pAt K (lo j + hi j) e = 0 ∨ wn = 1 ∧ pAt K (lo j + hi j) e ≠ 0) → eq7 F1 F → (∀ i, i < n + wn → lv2 i = bsF lv j wn e e e i ∧ lo2 i = bsF lo j wn (2 * lo j) (lo j + hi j) (lo j + hi j) i ∧ hi2 i = bsF hi j wn (lo j + hi j) (lo j + hi j) (2 * hi j) i ∧ rt2 i = bsF rt j wn (plF F e (2 * lo j) (lo j + hi j)) 1 (plF F e (lo j + hi j) (2 * hi j)) i) → relI (c + 1) P0 K F1 (n + wn) (xbV Q iv j (lv j).toNat (lo j) (hi j) (rt j)) ((n + wn : Nat) : Int) lv2 lo2 hi2 rt2 := by
  obtain ⟨g, hA, hK, hF, fK⟩ := h.at hQ hj
  have h0 := h
  obtain ⟨m1, m2, m3, m4, m5⟩ := h
  obtain ⟨ei, io⟩ := m3 j hj
  have ioo := io
  obtain ⟨i1, i2, i3, i4⟩ := io
  obtain ⟨e0, he0⟩ := Int.eq_ofNat_of_zero_le i1.1
  have ee : e = e0 + 1 := by omega
  subst ee
  have et : (lv j).toNat = e0 := by omega
  rw [et] at i2 i4 ⊢
  obtain ⟨⟨f1, f2⟩, c1, c2⟩ := g.halves (e := e0) (l := lo j) (r := hi j) (by omega) (by omega) i2.1 i2.2
  have zK : pAt K (lo j + hi j) (e0 + 1) = 0 ↔ pAt Q.2 (lo j + hi j) (e0 + 1) = 0 := pAt_7z hK
  have zc : cSg Q (lo j + hi j) (e0 + 1) = 0 ↔ pAt K (lo j + hi j) (e0 + 1) = 0 := by
    rw [cSg_pAt g.1 g.2.1, sign_z]; exact zK.symm
  have pF : ∀ (a : Nat) (b d : Int), plF F a b d = plF (freeR Q.2) a b d := fun a b d => plF_eq7 hF a b d
  have inn := ioo.in
  refine ⟨⟨pAt_rN (l := 21) (by decide) (fun k hk => ?_) ⟨by omega, by omega⟩ (by omega), okPl_congr hF.symm f1, okPl_congr hF.symm f2⟩, ?_, ?_⟩
  · rw [hK k hk]
    exact Nat.le_trans (hA k) (by decide)
  · unfold xbN
    by_cases q : pAt K (lo j + hi j) (e0 + 1) = 0
    · rw [if_pos (zc.mpr q), if_pos q]
    · rw [if_neg (fun w => q (zc.mp w)), if_neg q]
  · intro wn lv2 lo2 hi2 rt2 hwn hF1 hnew
    have e2 : (2 : Int) ^ (e0 + 1) = 2 * 2 ^ e0 := by rw [Int.pow_succ]; omega
    have tl : ((e0 + 1 : Nat) : Int).toNat = e0 + 1 := Int.toNat_natCast _
    -- the three intervals
    have okA : iok F1 ((e0 + 1 : Nat) : Int) (2 * lo j) (lo j + hi j) (plF F (e0 + 1) (2 * lo j) (lo j + hi j)) := ⟨⟨by omega, by omega⟩, ⟨by rw [tl, e2]; omega, by rw [tl, e2]; omega⟩, by omega, by rw [tl, plF_eq7 hF1]⟩
    have okM : iok F1 ((e0 + 1 : Nat) : Int) (lo j + hi j) (lo j + hi j) 1 := ⟨⟨by omega, by omega⟩, ⟨by rw [tl, e2]; omega, by rw [tl, e2]; omega⟩, by omega, by rw [plF_self]⟩
    have okB : iok F1 ((e0 + 1 : Nat) : Int) (lo j + hi j) (2 * hi j) (plF F (e0 + 1) (lo j + hi j) (2 * hi j)) := ⟨⟨by omega, by omega⟩, ⟨by rw [tl, e2]; omega, by rw [tl, e2]; omega⟩, by omega, by rw [tl, plF_eq7 hF1]⟩
    have okO : ∀ i, i < n → iv i = (lv i, lo i, hi i, rt i) ∧ iok F1 (lv i) (lo i) (hi i) (rt i) := fun i hi' => by
      obtain ⟨a1, a2, a3, a4, a5⟩ := m3 i hi'
      exact ⟨a1, a2, a3, a4, by rw [a5, plF_eq7 hF1]⟩
    have rtj : rt j = plF F (e0 + 1) (2 * lo j) (lo j + hi j) + (if pAt K (lo j + hi j) (e0 + 1) = 0 then 1 else 0) + plF F (e0 + 1) (lo j + hi j) (2 * hi j) := by
      rw [i4, pF, pF, pF, c2]
      by_cases q : pAt K (lo j + hi j) (e0 + 1) = 0
      · rw [if_pos q, if_pos (zK.mp q)]
      · rw [if_neg q, if_neg (fun w => q (zK.mpr w))]
    have lft : fch Q (lo j) e0 - fch Q (lo j + hi j) (e0 + 1) = plF F (e0 + 1) (2 * lo j) (lo j + hi j) + (if pAt K (lo j + hi j) (e0 + 1) = 0 then 1 else 0) := by
      rw [pF, c1]
      by_cases q : pAt K (lo j + hi j) (e0 + 1) = 0
      · rw [if_pos q, if_pos (zK.mp q)]
      · rw [if_neg q, if_neg (fun w => q (zK.mpr w))]
    have wA : wI lo hi j = 1 := if_neg hne
    rcases hwn with ⟨rfl, hz⟩ | ⟨rfl, hz⟩
    · rw [if_pos hz] at rtj lft
      have sr := (iS_bsF (X := rt) (e0 := plF F (e0 + 1) (2 * lo j) (lo j + hi j)) (e1 := 1) (e2 := plF F (e0 + 1) (lo j + hi j) (2 * hi j)) hj).2
      have sw := (iS_bsF (X := wI lo hi) (e0 := 1) (e1 := 0) (e2 := 1) hj).2
      refine ⟨rfl, fun _ => m2 (by omega) |>.elim (fun Q' hh => ⟨Q', hh.1, hh.2.1, hh.2.2.1, hh.2.2.2.1, hF1.trans hh.2.2.2.2⟩), fun i hi' => ?_, ?_, ?_⟩
      · obtain ⟨n1, n2, n3, n4⟩ := hnew i hi'
        rw [n1, n2, n3, n4]
        unfold xbV
        rw [if_pos (zc.mpr hz)]
        unfold insI bsF
        by_cases q1 : i = j
        · subst q1
          rw [if_pos (by omega), if_pos (by omega), va_upj, if_pos rfl, if_pos rfl, if_pos rfl, if_pos rfl]
          exact ⟨by rw [show fch Q (lo i) e0 - fch Q (lo i + hi i) (e0 + 1) - 1 = plF F (e0 + 1) (2 * lo i) (lo i + hi i) by omega], okA⟩
        · rw [if_neg q1, if_neg q1, if_neg q1, if_neg q1]
          by_cases q2 : i = j + 2
          · subst q2
            rw [if_neg (by omega), if_pos (by omega), if_pos rfl, if_pos rfl, if_pos rfl, if_pos rfl]
            refine ⟨?_, okB⟩
            rw [show rt j - (fch Q (lo j) e0 - fch Q (lo j + hi j) (e0 + 1) - 1) - 1 = plF F (e0 + 1) (lo j + hi j) (2 * hi j) by omega]
          · rw [if_neg q2, if_neg q2, if_neg q2, if_neg q2]
            try rw [if_neg q2]
            by_cases q3 : i < j
            · rw [if_pos (show i < j + 1 + 1 by omega), if_pos (show i < j + 1 by omega), va_upn _ _ q1, if_pos q3, if_pos q3, if_pos q3, if_pos q3]
              exact okO i (by omega)
            · rw [if_neg q3, if_neg q3, if_neg q3, if_neg q3]
              by_cases q4 : i < j + 2
              · obtain rfl : i = j + 1 := by omega
                rw [if_pos (show j + 1 < j + 1 + 1 by omega), if_neg (show ¬ j + 1 < j + 1 by omega), if_pos rfl, if_pos q4, if_pos q4, if_pos q4, if_pos q4]
                exact ⟨rfl, okM⟩
              · rw [if_neg (show ¬ i < j + 1 + 1 by omega)]
                try rw [if_neg (show ¬ i = j + 1 + 1 by omega)]
                rw [if_neg (show ¬ i - 1 < j + 1 by omega), if_neg (show ¬ i - 1 = j + 1 by omega), va_upn _ _ (show i - 1 - 1 ≠ j by omega), if_neg q4, if_neg q4, if_neg q4, if_neg q4, show i - 1 - 1 = i - 2 by omega]
                exact okO (i - 2) (by omega)
      · rw [iS_congr (n + 2) (fun i hi' => (hnew i hi').2.2.2), sr]; omega
      · have : iS (wI lo2 hi2) (n + 2) = iS (bsF (wI lo hi) j 2 1 0 1) (n + 2) := iS_congr (n + 2) (fun i hi' => by
          obtain ⟨_, n2, n3, _⟩ := hnew i hi'
          unfold wI
          rw [n2, n3]
          unfold bsF
          by_cases q1 : i = j
          · rw [if_pos q1, if_pos q1, if_pos q1, if_neg (by omega)]
          · rw [if_neg q1, if_neg q1, if_neg q1]
            by_cases q2 : i = j + 2
            · rw [if_pos q2, if_pos q2, if_pos q2, if_neg (by omega)]
            · rw [if_neg q2, if_neg q2, if_neg q2]
              by_cases q3 : i < j
              · rw [if_pos q3, if_pos q3, if_pos q3]
              · rw [if_neg q3, if_neg q3, if_neg q3]
                by_cases q4 : i < j + 2
                · rw [if_pos q4, if_pos q4, if_pos q4, if_pos rfl]
                · rw [if_neg q4, if_neg q4, if_neg q4])
        rw [this, sw]; omega
    · rw [if_neg hz] at rtj lft
      have sr := (iS_bsF (X := rt) (e0 := plF F (e0 + 1) (2 * lo j) (lo j + hi j)) (e1 := 1) (e2 := plF F (e0 + 1) (lo j + hi j) (2 * hi j)) hj).1
      have sw := (iS_bsF (X := wI lo hi) (e0 := 1) (e1 := 0) (e2 := 1) hj).1
      refine ⟨rfl, fun _ => m2 (by omega) |>.elim (fun Q' hh => ⟨Q', hh.1, hh.2.1, hh.2.2.1, hh.2.2.2.1, hF1.trans hh.2.2.2.2⟩), fun i hi' => ?_, ?_, ?_⟩
      · obtain ⟨n1, n2, n3, n4⟩ := hnew i hi'
        rw [n1, n2, n3, n4]
        unfold xbV
        rw [if_neg (fun w => hz (zc.mp w))]
        unfold insI bsF
        by_cases q1 : i = j
        · subst q1
          rw [if_pos (by omega), va_upj, if_pos rfl, if_pos rfl, if_pos rfl, if_pos rfl]
          exact ⟨by rw [show fch Q (lo i) e0 - fch Q (lo i + hi i) (e0 + 1) - 0 = plF F (e0 + 1) (2 * lo i) (lo i + hi i) by omega], okA⟩
        · rw [if_neg q1, if_neg q1, if_neg q1, if_neg q1]
          by_cases q2 : i = j + 1
          · subst q2
            rw [if_neg (by omega), if_pos rfl, if_pos rfl, if_pos rfl, if_pos rfl, if_pos rfl]
            refine ⟨?_, okB⟩
            rw [show rt j - (fch Q (lo j) e0 - fch Q (lo j + hi j) (e0 + 1) - 0) - 0 = plF F (e0 + 1) (lo j + hi j) (2 * hi j) by omega]
          · rw [if_neg q2, if_neg q2, if_neg q2, if_neg q2]
            try rw [if_neg q2]
            by_cases q3 : i < j
            · rw [if_pos (show i < j + 1 by omega), va_upn _ _ q1, if_pos q3, if_pos q3, if_pos q3, if_pos q3]
              exact okO i (by omega)
            · rw [if_neg q3, if_neg q3, if_neg q3, if_neg q3]
              have q4 : ¬ i < j + 1 := by omega
              rw [if_neg q4]
              try rw [if_neg q2]
              rw [va_upn _ _ (show i - 1 ≠ j by omega), if_neg q4, if_neg q4, if_neg q4, if_neg q4]
              exact okO (i - 1) (by omega)
      · rw [iS_congr (n + 1) (fun i hi' => (hnew i hi').2.2.2), sr]; omega
      · have : iS (wI lo2 hi2) (n + 1) = iS (bsF (wI lo hi) j 1 1 0 1) (n + 1) := iS_congr (n + 1) (fun i hi' => by
          obtain ⟨_, n2, n3, _⟩ := hnew i hi'
          unfold wI
          rw [n2, n3]
          unfold bsF
          by_cases q1 : i = j
          · rw [if_pos q1, if_pos q1, if_pos q1, if_neg (by omega)]
          · rw [if_neg q1, if_neg q1, if_neg q1]
            by_cases q2 : i = j + 1
            · rw [if_pos q2, if_pos q2, if_pos q2, if_neg (by omega)]
            · rw [if_neg q2, if_neg q2, if_neg q2]
              by_cases q3 : i < j
              · rw [if_pos q3, if_pos q3, if_pos q3]
              · rw [if_neg q3, if_neg q3, if_neg q3]
                have q4 : ¬ i < j + 1 := by omega
                rw [if_neg q4, if_neg q4, if_neg q4])
        rw [this, sw]; omega
