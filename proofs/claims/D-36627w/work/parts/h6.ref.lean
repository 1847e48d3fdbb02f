/-! PLAIN LAW 58: refining, multiplicities, empty intervals -/
theorem rf_ag {Q : Pl} {K F : Nat → Int} (g : gd Q) (hA : ∀ k, (Q.2 k).natAbs ≤ 9999) (hK : eq7 K Q.2) (hF : eq7 F (freeR Q.2)) : ∀ (t e : Nat) (l h : Int), l ≤ h → e + t ≤ 12 → (l.natAbs : Int) ≤ 16384 * 2 ^ e → (h.natAbs : Int) ≤ 16384 * 2 ^ e → plF F e l h = 1 → rfS K F t e l h 1 = ((xrS Q t e l h (fch Q l e)).1, (xrS Q t e l h (fch Q l e)).2.1, (xrS Q t e l h (fch Q l e)).2.2, 1) ∧ okRf K F t e l h ∧ iok F ((xrS Q t e l h (fch Q l e)).1 : Int) (xrS Q t e l h (fch Q l e)).2.1 (xrS Q t e l h (fch Q l e)).2.2 1 := by
  have pF : ∀ (a : Nat) (b d : Int), plF F a b d = plF (freeR Q.2) a b d := fun a b d => plF_eq7 hF a b d
  have okEnd : ∀ (t e : Nat) (l : Int), okRf K F t e l l := fun t e l => by
    cases t with
    | zero => trivial
    | succ t => exact fun w => absurd w (Int.lt_irrefl l)
  have base : ∀ (e : Nat) (l h : Int), l ≤ h → e ≤ 12 → (l.natAbs : Int) ≤ 16384 * 2 ^ e → (h.natAbs : Int) ≤ 16384 * 2 ^ e → plF F e l h = 1 → iok F (e : Int) l h 1 := fun e l h h1 h2 h3 h4 h5 => ⟨⟨by omega, by omega⟩, ⟨by rw [Int.toNat_natCast]; exact h3, by rw [Int.toNat_natCast]; exact h4⟩, h1, by rw [Int.toNat_natCast]; exact h5.symm⟩
  intro t
  induction t with
  | zero =>
    intro e l h h1 h2 h3 h4 h5
    exact ⟨rfl, trivial, base e l h h1 (by omega) h3 h4 h5⟩
  | succ t ih =>
    intro e l h h1 h2 h3 h4 h5
    by_cases c : l < h
    · have e2 : (2 : Int) ^ (e + 1) = 2 * 2 ^ e := by rw [Int.pow_succ]; omega
      obtain ⟨⟨f1, f2⟩, c1, c2⟩ := g.halves (e := e) c (by omega) h3 h4
      have zK : pAt K (l + h) (e + 1) = 0 ↔ pAt Q.2 (l + h) (e + 1) = 0 := pAt_7z hK
      have zc : cSg Q (l + h) (e + 1) = 0 ↔ pAt K (l + h) (e + 1) = 0 := by
        rw [cSg_pAt g.1 g.2.1, sign_z]; exact zK.symm
      rw [pF] at h5
      have nl := plF_nn (freeR Q.2) (e + 1) (2 * l) (l + h)
      have nr := plF_nn (freeR Q.2) (e + 1) (l + h) (2 * h)
      have rNz : rN (pAt K (l + h) (e + 1)) := pAt_rN (l := 21) (by decide) (fun k hk => by rw [hK k hk]; exact Nat.le_trans (hA k) (by decide)) (by
        have q1 := (base e l h h1 (by omega) h3 h4 (by rw [pF]; exact h5)).in
        omega) (by omega)
      have inn := (base e l h h1 (by omega) h3 h4 (by rw [pF]; exact h5)).in
      have okS : okRf K F t (e + 1) (rfF K F (e + 1) l h).1 (rfF K F (e + 1) l h).2 → okRf K F (t + 1) e l h := fun w => fun _ => ⟨by omega, by omega, rNz, okPl_congr hF.symm f1, okPl_congr hF.symm f2, by rw [pF]; exact ⟨by split at c2 <;> omega, by split at c2 <;> omega⟩, by rw [pF]; exact ⟨by split at c2 <;> omega, by split at c2 <;> omega⟩, w⟩
      have sx : xrS Q (t + 1) e l h (fch Q l e) = if cSg Q (l + h) (e + 1) = 0 then xrS Q t (e + 1) (l + h) (l + h) (fch Q l e) else (if fch Q (l + h) (e + 1) < fch Q l e then xrS Q t (e + 1) (2 * l) (l + h) (fch Q l e) else xrS Q t (e + 1) (l + h) (2 * h) (fch Q (l + h) (e + 1))) := by
        rw [xrS, if_pos c]
      have sm : rfS K F (t + 1) e l h 1 = rfS K F t (e + 1) (rfF K F (e + 1) l h).1 (rfF K F (e + 1) l h).2 (rfR K F (e + 1) l h) := by
        rw [rfS, if_pos c]
      by_cases z : pAt K (l + h) (e + 1) = 0
      · have r1 : rfF K F (e + 1) l h = (l + h, l + h) := if_pos z
        have r2 : rfR K F (e + 1) l h = 1 := if_pos z
        rw [r1] at sm okS
        rw [r2] at sm
        rw [sx, if_pos (zc.mpr z), xrS_e (Or.inr (Int.lt_irrefl _)), sm, rfS_end (Or.inr (Int.lt_irrefl _))]
        exact ⟨rfl, okS (okEnd t (e + 1) (l + h)), base (e + 1) (l + h) (l + h) (Int.le_refl _) (by omega) (by rw [e2]; omega) (by rw [e2]; omega) (plF_self F (e + 1) (l + h))⟩
      · have zq : ¬ pAt Q.2 (l + h) (e + 1) = 0 := fun w => z (zK.mpr w)
        rw [if_neg zq] at c1 c2
        rw [sx, if_neg (fun w => z (zc.mp w)), sm]
        by_cases d : plF F (e + 1) (2 * l) (l + h) = 0
        · have r1 : rfF K F (e + 1) l h = (l + h, 2 * h) := by unfold rfF; rw [if_neg z, if_pos d]
          have r2 : rfR K F (e + 1) l h = plF F (e + 1) (l + h) (2 * h) := by unfold rfR; rw [if_neg z, if_pos d]
          rw [pF] at d
          have r3 : plF F (e + 1) (l + h) (2 * h) = 1 := by rw [pF]; omega
          obtain ⟨k1, k2, k3⟩ := ih (e + 1) (l + h) (2 * h) (by omega) (by omega) (by rw [e2]; omega) (by rw [e2]; omega) r3
          rw [r1] at okS ⊢
          rw [r2, r3, if_neg (by omega)]
          exact ⟨k1, okS k2, k3⟩
        · have r1 : rfF K F (e + 1) l h = (2 * l, l + h) := by unfold rfF; rw [if_neg z, if_neg d]
          have r2 : rfR K F (e + 1) l h = plF F (e + 1) (2 * l) (l + h) := by unfold rfR; rw [if_neg z, if_neg d]
          rw [pF] at d
          have r3 : plF F (e + 1) (2 * l) (l + h) = 1 := by rw [pF]; omega
          obtain ⟨k1, k2, k3⟩ := ih (e + 1) (2 * l) (l + h) (by omega) (by omega) (by rw [e2]; omega) (by rw [e2]; omega) r3
          rw [r1] at okS ⊢
          rw [g.fpt (pt_up l e)] at k1 k3
          rw [r2, r3, if_pos (by omega)]
          exact ⟨k1, okS k2, k3⟩
    · rw [xrS_e (Or.inr c), rfS_end (Or.inr c)]
      exact ⟨rfl, fun w => absurd w c, base e l h h1 (by omega) h3 h4 h5⟩
theorem relI.ref {c : Nat} {P0 : Option Pl} {K F F1 : Nat → Int} {n : Nat} {iv : Nat → Ivl} {many : Int} {lv lo hi rt : Nat → Int} (h : relI c P0 K F n iv many lv lo hi rt) {Q : Pl} (hQ : P0 = some Q) {j : Nat} (hj : j < n) (h1 : rt j = 1) {t e : Nat} (ht : lv j + (t : Int) ≤ 12) (he : lv j = (e : Int)) : okRf K F t e (lo j) (hi j) ∧ rfS K F t e (lo j) (hi j) (rt j) = ((xrV Q (iv j) t).1.toNat, (xrV Q (iv j) t).2.1, (xrV Q (iv j) t).2.2.1, 1) ∧ (xrV Q (iv j) t).1 = (((xrS Q t e (lo j) (hi j) (fch Q (lo j) e)).1 : Nat) : Int) ∧ ∀ (lv2 lo2 hi2 rt2 : Nat → Int), eq7 F1 F → lv2 j = (xrV Q (iv j) t).1 → lo2 j = (xrV Q (iv j) t).2.1 → hi2 j = (xrV Q (iv j) t).2.2.1 → rt2 j = 1 → (∀ i, i ≠ j → lv2 i = lv i ∧ lo2 i = lo i ∧ hi2 i = hi i ∧ rt2 i = rt i) → relI c P0 K F1 n (va_up iv j (xrV Q (iv j) t)) many lv2 lo2 hi2 rt2 := by
  obtain ⟨g, hA, hK, hF, fK⟩ := h.at hQ hj
  obtain ⟨m1, m2, m3, m4, m5⟩ := h
  obtain ⟨ei, i1, i2, i3, i4⟩ := m3 j hj
  have et : (lv j).toNat = e := by omega
  rw [et] at i2 i4
  obtain ⟨r1, r2, r3⟩ := rf_ag g hA hK hF t e (lo j) (hi j) i3 (by omega) i2.1 i2.2 (by rw [← i4]; exact h1)
  have ex : xrV Q (iv j) t = (((xrS Q t e (lo j) (hi j) (fch Q (lo j) e)).1 : Int), (xrS Q t e (lo j) (hi j) (fch Q (lo j) e)).2.1, (xrS Q t e (lo j) (hi j) (fch Q (lo j) e)).2.2, 1) := by
    rw [ei]; unfold xrV
    rw [et]
  rw [ex]
  refine ⟨r2, by rw [h1]; exact r1, rfl, fun lv2 lo2 hi2 rt2 hF1 a1 a2 a3 a4 a5 => ⟨m1, fun hn => ?_, fun i hi' => ?_, ?_, ?_⟩⟩
  · obtain ⟨Q', b1, b2, b3, b4, b5⟩ := m2 hn
    exact ⟨Q', b1, b2, b3, b4, hF1.trans b5⟩
  · by_cases q : i = j
    · subst q
      rw [va_upj, a1, a2, a3, a4]
      obtain ⟨c1, c2, c3, c4⟩ := r3
      exact ⟨rfl, c1, c2, c3, by rw [c4, plF_eq7 hF1]⟩
    · obtain ⟨b1, b2, b3, b4⟩ := a5 i q
      obtain ⟨d1, d2, d3, d4, d5⟩ := m3 i hi'
      rw [va_upn _ _ q, b1, b2, b3, b4]
      exact ⟨d1, d2, d3, d4, by rw [d5, plF_eq7 hF1]⟩
  · rw [iS_congr n (g := rt) (fun i _ => by
      by_cases q : i = j
      · rw [q, a4, h1]
      · exact (a5 i q).2.2.2)]
    exact m4
  · refine Int.le_trans (iS_mono n (fun i _ => ?_)) m5
    by_cases q : i = j
    · subst q
      unfold wI
      by_cases w : lo i = hi i
      · -- a point stays
        rw [if_pos w]
        have : lo2 i = hi2 i := by
          rw [a2, a3, xrS_e (Or.inr (by omega))]; exact w
        rw [if_pos this]; exact Int.le_refl 0
      · rw [if_neg w]; split <;> omega
    · obtain ⟨_, b2, b3, _⟩ := a5 i q
      unfold wI
      rw [b2, b3]; exact Int.le_refl _
/-! multiplicities -/
theorem freeR_scl {p : Nat → Int} (h0 : 0 ≤ pdeg p) {w : Int} (hw : pm1 w) : eq7 (freeR (scl w p)) (freeR p) := by
  obtain ⟨L, hr⟩ := row_ex h0
  have hr' := isRow_scl hw hr
  have h0' : 0 ≤ pdeg (scl w p) := by rw [scl_deg hw.nz]; exact h0
  obtain ⟨h, hC, hS, _⟩ := row_h hr h0
  obtain ⟨h', hC', hS', _⟩ := row_h hr' h0'
  obtain ⟨_, d, _, _, dF, _, _, _, G, v, hv, Gz, Gd, eF, prm⟩ := free_h hr h0 hC hS
  obtain ⟨_, d', _, _, dF', _, _, _, G', v', hv', Gz', Gd', eF', prm'⟩ := free_h hr' h0' hC' hS'
  have hL := hr.1
  have d6 : d < 7 := by have := pdeg_in (freeR p); omega
  have d6' : d' < 7 := by have := pdeg_in (freeR (scl w p)); omega
  have evp : ∀ (S T U : Nat → Int) (d : Nat), (∀ k, d < k → U k = 0) → d < 7 → (∀ m, m < 7 → T m = pr S U 7 m) → (∃ (z : Nat → Rat → Rat), ∀ x, ev T x = ev S x * z 0 x) → True := fun _ _ _ _ _ _ _ _ => trivial
  -- as functions
  have fG : ∀ x, ev (freeR p) x = (v : Rat) * ev G x := fun x => by rw [ev_congr eF, ev_scl]
  have fG' : ∀ x, ev (freeR (scl w p)) x = (v' : Rat) * ev G' x := fun x => by rw [ev_congr eF', ev_scl]
  obtain ⟨c1, k1, hc1, e1, dd1, _, _, _, _⟩ := free_h hr h0 hC hS
  obtain ⟨c2, k2, hc2, e2, dd2, _, _, _, _⟩ := free_h hr' h0' hC' hS'
  have S0 := hS 0 (by omega)
  have S0' := hS' 0 (by omega)
  rw [rsq_0] at S0 S0'
  have eS : ∀ x, ev (rsq (scl w p) (L - 1)) x = (w : Rat) * ev (rsq p (L - 1)) x := fun x => by rw [ev_congr (rsq_scl hw p (L - 1)), ev_scl]
  have eP : ∀ x, ev (pprim (scl w p)) x = (w : Rat) * ev (pprim p) x := fun x => by
    have := prim_sc2 hw.nz p
    rw [hw.sgn] at this
    rw [ev_congr this, ev_scl]
  have wnz : (w : Rat) ≠ 0 := fun z => hw.nz (Rat.intCast_eq_zero_iff.mp z)
  have hh : ∀ x, h 0 x = h' 0 x := by
    have key : ∀ x, ev (rsq p (L - 1)) x * (h 0 x + (-1) * h' 0 x) = 0 := fun x => by
      have q1 := S0 x
      have q2 := S0' x
      rw [eP, eS, q1] at q2
      have q3 : (w : Rat) * (ev (rsq p (L - 1)) x * (h 0 x + (-1) * h' 0 x)) = 0 := by
        have : (w : Rat) * (ev (rsq p (L - 1)) x * (h 0 x + (-1) * h' 0 x)) = (w : Rat) * (ev (rsq p (L - 1)) x * h 0 x) + (-1) * ((w : Rat) * ev (rsq p (L - 1)) x * h' 0 x) := by grind
        rw [this, q2]; grind
      rcases Rat.mul_eq_zero.mp q3 with z | z
      · exact absurd z wnz
      · exact z
    rcases Pfn.nzd (ev_Pfn (rsq p (L - 1))) ((hC.1 0 (by omega)).add ((hC'.1 0 (by omega)).smul (-1))) key with z | z
    · obtain ⟨s, hs⟩ := Int.eq_ofNat_of_zero_le (hr.2.2.1 (L - 1) (by omega))
      exact absurd z (ev_hdeg hs).nz
    · intro x
      have := z x
      grind
  -- equal up to a sign; both heads positive
  have t1 : 0 < freeR p d := ppos_top _ dF
  have t2 : 0 < freeR (scl w p) d' := ppos_top _ dF'
  have hcc : ∃ u : Int, pm1 u ∧ ∀ x, ev (freeR (scl w p)) x = (u : Rat) * ev (freeR p) x := by
    have cc1 : c1 * c1 = 1 := by rcases hc1 with rfl | rfl <;> grind
    have e3 : ∀ x, ev (freeR (scl w p)) x = (c2 * c1) * ev (freeR p) x := fun x => by
      rw [e2, e1, hh]
      have : c2 * c1 * (c1 * h' 0 x) = c2 * (c1 * c1) * h' 0 x := by grind
      rw [this, cc1]; grind
    rcases hc1 with rfl | rfl <;> rcases hc2 with rfl | rfl
    · exact ⟨1, Or.inl rfl, fun x => by rw [e3]; rw [show ((1 : Int) : Rat) = 1 from rfl]; grind⟩
    · exact ⟨-1, Or.inr rfl, fun x => by rw [e3]; rw [show ((-1 : Int) : Rat) = -1 from rfl]; grind⟩
    · exact ⟨-1, Or.inr rfl, fun x => by rw [e3]; rw [show ((-1 : Int) : Rat) = -1 from rfl]; grind⟩
    · exact ⟨1, Or.inl rfl, fun x => by rw [e3]; rw [show ((1 : Int) : Rat) = 1 from rfl]; grind⟩
  obtain ⟨u, hu, eu⟩ := hcc
  have co : ∀ k, k < 7 → freeR (scl w p) k = u * freeR p k := fun k hk => by
    have := pe_inj (c := ci (freeR (scl w p))) (d := ci (scl u (freeR p))) (n := 7) (fun x => by
      show ev (freeR (scl w p)) x = ev (scl u (freeR p)) x
      rw [eu, ev_scl]) k hk
    exact Rat.intCast_inj.mp this
  have dd : d' = d := by
    have q1 : pdeg (freeR (scl w p)) = pdeg (freeR p) := by
      rw [show pdeg (freeR (scl w p)) = pdeg (scl u (freeR p)) from pdeg_congr co, scl_deg hu.nz]
    omega
  subst dd
  have u1 : u = 1 := by
    have := co d' d6'
    rcases hu with e | e
    · exact e
    · rw [e] at this; omega
  intro k hk
  rw [co k hk, u1, Int.one_mul]
theorem fs.few {p : Nat → Int} (hp : fs p) {e : Nat} {m n : Int} (hmn : m < n) (hf : okPl (freeR p) e m n) : plF (freeR p) e m n ≤ 6 := by
  have e7 : eq7 (mkP 7 p).2 p := fun k hk => mk_at hk
  have nn := nf_mk 7 p
  have ll := mk_le 7 p
  have dd := nn.deg ll
  rw [e7.deg] at dd
  have h0 := hp.all.1
  have g : gd (mkP 7 p) := ⟨nn, ll, by omega, hp.congr e7.symm⟩
  have ef := freeR_congr hp.hFree.1 e7
  have h1 := g.fcnt hmn (okPl_congr ef.symm hf)
  rw [plF_eq7 ef] at h1
  have h2 := g.fch_in m e
  have h3 := g.fch_in n e
  have h4 := g.free.2.1
  split at h1 <;> omega
theorem fs.hMu {d : Nat} (hd : d ≤ 12) {m n : Int} (hmn : m ≤ n) (hm : (m.natAbs : Int) ≤ 16384 * 2 ^ d) (hn : (n.natAbs : Int) ≤ 16384 * 2 ^ d) : ∀ (s : Nat) {p : Nat → Int}, fs p → pdeg p < (s : Int) → okMu d m n s p := by
  intro s
  induction s with
  | zero => intro p hp h; have := hp.all.1; omega
  | succ s ih =>
    intro p hp h
    have hD := hp.dvs
    have hmb : -4294967296 ≤ m ∧ m ≤ 4294967296 := by
      have h3 := p2n d
      have h4 : (2 : Int) ^ d ≤ 4096 := by
        have := p2_12i (l := (d : Int)) (by omega)
        rwa [Int.toNat_natCast] at this
      generalize (2 : Int) ^ d = z at *
      omega
    refine ⟨hp.hFree.1, fun h1 => ⟨fun _ => pAt_rN (l := 21) (by decide) (fun k hk => Nat.le_trans (hD.all.2.1 k hk) (by decide)) hmb hd, fun hlt => ?_, fun _ => ih hD ?_⟩⟩
    · have f := iok.fit (F := freeR (freeD p)) hD eq7.rfl' hd hm hn hmn
      have := hD.few hlt f
      have := plF_nn (freeR (freeD p)) d m n
      exact ⟨hD.hFree.1, hD.hFree.2, f, by omega, by omega⟩
    · obtain ⟨L, hr⟩ := row_ex hp.all.1
      obtain ⟨w, hw, hD'⟩ := freeD_row hr hp.all.1
      have e1 : pdeg (freeD p) = pdeg (rsq p (L - 1)) := by rw [pdeg_congr hD', scl_deg hw.nz]
      have hL := hr.1
      have d0 : pdeg (rsq p 0) = pdeg p := by rw [rsq_0, prim_deg]
      obtain ⟨g, hg⟩ := Int.eq_ofNat_of_zero_le hp.all.1
      by_cases L1 : L = 1
      · exfalso
        have hg1 := hr.2.2.2
        rw [L1, rsq_1, prim_deg, drv_deg hg] at hg1
        rw [L1, show 1 - 1 = 0 from rfl, d0] at e1
        omega
      · have h2 := row_dec2 hr (L - 1) 1 (by omega) (by omega)
        have h3 : pdeg (rsq p 1) < pdeg (rsq p 0) := row_dec hr 0 (by omega)
        omega
theorem mu_ag {d : Nat} (hd : d ≤ 12) {m n : Int} (hmn : m ≤ n) (hm : (m.natAbs : Int) ≤ 16384 * 2 ^ d) (hn : (n.natAbs : Int) ≤ 16384 * 2 ^ d) : ∀ (s : Nat) {P : Pl} {p : Nat → Int} {w : Int}, gd P → pm1 w → eq7 p (scl w P.2) → muF d m n (s + 1) p = xmF m n d s (cDvs P) := by
  have key : ∀ {P : Pl} {p : Nat → Int} {w : Int}, gd P → pm1 w → eq7 p (scl w P.2) → (pdeg (freeD p) < 1 ↔ ¬ 1 < (cDvs P).1) ∧ (((m = n ∧ pAt (freeD p) m d = 0) ∨ (m < n ∧ 0 < plF (freeR (freeD p)) d m n)) ↔ ¬ xhR (cDvs P) m n d = 0) ∧ ∃ v, pm1 v ∧ eq7 (freeD p) (scl v (cDvs P).2) := by
    intro P p w h hw he
    obtain ⟨v, hv, hD⟩ := dvs_scl h hw he
    have g := h.dvs.1
    have hdd : pdeg (freeD p) = (((cDvs P).1 - 1 : Nat) : Int) := by rw [hD.deg, scl_deg hv.nz]; exact g.deg
    have g0 := g.2.2.1
    refine ⟨by omega, ?_, v, hv, hD⟩
    have zz : ∀ x : Int, cSg (cDvs P) x d = 0 ↔ pAt (freeD p) x d = 0 := fun x => by
      rw [cSg_pAt g.1 g.2.1, sign_z, pAt_z, pAt_z, ev_congr hD, ev_scl]
      constructor
      · intro z; rw [z]; grind
      · intro z
        rcases Rat.mul_eq_zero.mp z with q | q
        · exact absurd (Rat.intCast_eq_zero_iff.mp q) hv.nz
        · exact q
    have hfs := fs.scl' hv hD g.2.2.2
    have ef : eq7 (freeR (freeD p)) (freeR (cDvs P).2) := (freeR_congr (g.2.2.2.scl' hv eq7.rfl').hFree.1 hD).trans (freeR_scl g.2.2.2.all.1 hv)
    unfold xhR
    by_cases c : m = n
    · subst c
      rw [if_pos rfl]
      by_cases q : cSg (cDvs P) m d = 0
      · rw [if_pos q]
        exact ⟨fun _ => by decide, fun _ => Or.inl ⟨rfl, (zz m).mp q⟩⟩
      · rw [if_neg q]
        exact ⟨fun w9 => w9.elim (fun a => absurd ((zz m).mpr a.2) q) (fun a => absurd a.1 (Int.lt_irrefl m)), fun a => absurd rfl a⟩
    · have hlt : m < n := by omega
      rw [if_neg c]
      have f := iok.fit (F := freeR (cDvs P).2) g.2.2.2 eq7.rfl' hd hm hn hmn
      have c1 := g.fcnt hlt f
      have zq : (cSg (cDvs P) n d = 0) ↔ pAt (cDvs P).2 n d = 0 := by rw [cSg_pAt g.1 g.2.1, sign_z]
      rw [plF_eq7 ef]
      by_cases q : cSg (cDvs P) n d = 0
      · rw [if_pos q]
        rw [if_pos (zq.mp q)] at c1
        by_cases r : (1 : Int) < fch (cDvs P) m d - fch (cDvs P) n d
        · rw [if_pos r]
          exact ⟨fun _ => by decide, fun _ => Or.inr ⟨hlt, by omega⟩⟩
        · rw [if_neg r]
          exact ⟨fun w9 => w9.elim (fun a => absurd a.1 c) (fun a => absurd a.2 (by omega)), fun a => absurd rfl a⟩
      · rw [if_neg q]
        rw [if_neg (fun w9 => q (zq.mpr w9))] at c1
        by_cases r : (0 : Int) < fch (cDvs P) m d - fch (cDvs P) n d
        · rw [if_pos r]
          exact ⟨fun _ => by decide, fun _ => Or.inr ⟨hlt, by omega⟩⟩
        · rw [if_neg r]
          exact ⟨fun w9 => w9.elim (fun a => absurd a.1 c) (fun a => absurd a.2 (by omega)), fun a => absurd rfl a⟩
  intro s
  induction s with
  | zero =>
    intro P p w h hw he
    show (if pdeg (freeD p) < 1 then (1 : Int) else if _ then 1 + 0 else 1) = 1
    split
    · rfl
    · split <;> rfl
  | succ s ih =>
    intro P p w h hw he
    obtain ⟨k1, k2, v, hv, hD⟩ := key h hw he
    rw [muF]
    show _ = if 1 < (cDvs P).1 then (if xhR (cDvs P) m n d = 0 then 1 else 1 + xmF m n d s (cDvs (cDvs P))) else 1
    by_cases c : 1 < (cDvs P).1
    · rw [if_neg (fun w9 => (k1.mp w9) c), if_pos c]
      by_cases q : xhR (cDvs P) m n d = 0
      · rw [if_neg (fun w9 => (k2.mp w9) q), if_pos q]
      · rw [if_pos (k2.mpr q), if_neg q, ih h.dvs.1 hv hD]
    · rw [if_pos (k1.mpr c), if_neg c]
theorem relI.mul {c : Nat} {P0 : Option Pl} {K F : Nat → Int} {n : Nat} {iv : Nat → Ivl} {many : Int} {lv lo hi rt : Nat → Int} (h : relI c P0 K F n iv many lv lo hi rt) {Q : Pl} (hQ : P0 = some Q) {j : Nat} (hj : j < n) {d : Nat} (hd : lv j = (d : Int)) : okMu d (lo j) (hi j) 8 K ∧ muF d (lo j) (hi j) 8 K = xmF (iv j).2.1 (iv j).2.2.1 (iv j).1.toNat 7 (cDvs Q) := by
  obtain ⟨g, hA, hK, hF, fK⟩ := h.at hQ hj
  obtain ⟨m1, m2, m3, m4, m5⟩ := h
  obtain ⟨ei, i1, i2, i3, i4⟩ := m3 j hj
  have et : (lv j).toNat = d := by omega
  rw [et] at i2
  have k7 := pdeg_in K
  refine ⟨fs.hMu (by omega) i3 i2.1 i2.2 8 fK (by omega), ?_⟩
  rw [ei]
  show _ = xmF (lo j) (hi j) (lv j).toNat 7 (cDvs Q)
  rw [et]
  exact mu_ag (by omega) i3 i2.1 i2.2 7 g (w := 1) (Or.inl rfl) (fun k hk => by show _ = 1 * _; rw [Int.one_mul]; exact hK k hk)
