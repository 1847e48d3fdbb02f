/-! PLAIN LAW 46: roots between two points, with and without multiplicity -/
theorem chG_congr {s t : Nat → Int} : ∀ n, (∀ i, i < n → s i = t i) → lsG s n = lsG t n ∧ chG s n = chG t n := by
  intro n
  induction n with
  | zero => intro _; exact ⟨rfl, rfl⟩
  | succ n ih =>
    intro h
    obtain ⟨h1, h2⟩ := ih (fun i hi => h i (by omega))
    have h3 := h n (Nat.lt_succ_self n)
    constructor
    · show (if s n = 0 then lsG s n else s n) = (if t n = 0 then lsG t n else t n)
      rw [h1, h3]
    · show chG s n + (if s n * lsG s n < 0 then 1 else 0) = chG t n + (if t n * lsG t n < 0 then 1 else 0)
      rw [h1, h2, h3]
theorem ds_pts {n k m l : Int} (hn : -1000000 ≤ n ∧ n ≤ 1000000) (hm : -1000000 ≤ m ∧ m ≤ 1000000) (hk : 0 ≤ k ∧ k ≤ 12) (hl : 0 ≤ l ∧ l ≤ 12) (hlt : n * 2 ^ l.toNat < m * 2 ^ k.toNat) : n * 2 ^ (max k l - k).toNat < m * 2 ^ (max k l - l).toNat ∧ m * 2 ^ (max k l - l).toNat - n * 2 ^ (max k l - k).toNat ≤ 2 ^ 22 * 2 ^ (max k l).toNat ∧ pt (n * 2 ^ (max k l - k).toNat) (max k l).toNat = pt n k.toNat ∧ pt (m * 2 ^ (max k l - l).toNat) (max k l).toNat = pt m l.toNat := by
  obtain ⟨k, rfl⟩ := Int.eq_ofNat_of_zero_le hk.1
  obtain ⟨l, rfl⟩ := Int.eq_ofNat_of_zero_le hl.1
  have e0 : (max (k : Int) (l : Int)).toNat = max k l := by omega
  have e1 : (max (k : Int) (l : Int) - (k : Int)).toNat = max k l - k := by omega
  have e2 : (max (k : Int) (l : Int) - (l : Int)).toNat = max k l - l := by omega
  rw [e0, e1, e2]
  rw [Int.toNat_natCast, Int.toNat_natCast] at hlt
  have f1 : pt (n * 2 ^ (max k l - k)) (max k l) = pt n k := by
    have := pt_fine n k (max k l - k)
    rwa [show k + (max k l - k) = max k l by omega] at this
  have f2 : pt (m * 2 ^ (max k l - l)) (max k l) = pt m l := by
    have := pt_fine m l (max k l - l)
    rwa [show l + (max k l - l) = max k l by omega] at this
  have hp : ∀ j : Nat, (0 : Int) < 2 ^ j := fun j => Int.pow_pos (by decide)
  have up : ∀ (x : Int) (j : Nat), -1000000 ≤ x ∧ x ≤ 1000000 → j ≤ max k l → x * 2 ^ j ≤ 1000000 * 2 ^ (max k l) ∧ -(1000000 * 2 ^ (max k l)) ≤ x * 2 ^ j := fun x j hx hj => by
    have h1 : (2 : Int) ^ j ≤ 2 ^ (max k l) := by
      obtain ⟨i, hi⟩ : ∃ i, max k l = j + i := ⟨max k l - j, by omega⟩
      rw [hi, Int.pow_add]
      have := Int.mul_le_mul_of_nonneg_left (show (1 : Int) ≤ 2 ^ i from hp i) (Int.le_of_lt (hp j))
      omega
    have h2 := Int.mul_le_mul_of_nonneg_right hx.2 (Int.le_of_lt (hp j))
    have h3 := Int.mul_le_mul_of_nonneg_right hx.1 (Int.le_of_lt (hp j))
    have h4 := Int.mul_le_mul_of_nonneg_left h1 (show (0 : Int) ≤ 1000000 by decide)
    have h5 : -1000000 * (2 : Int) ^ j = -(1000000 * 2 ^ j) := Int.neg_mul _ _
    omega
  refine ⟨?_, ?_, f1, f2⟩
  · have h1 : pt n k < pt m l := pt_lt hlt
    rw [← f1, ← f2] at h1
    refine Int.not_le.mp (fun w => ?_)
    have h2 : ((m * 2 ^ (max k l - l) : Int) : Rat) ≤ ((n * 2 ^ (max k l - k) : Int) : Rat) := Rat.intCast_le_intCast.mpr w
    have h3 := Rat.mul_le_mul_of_nonneg_right h2 (show (0 : Rat) ≤ ((2 : Rat) ^ (max k l))⁻¹ from Rat.le_of_lt (Rat.inv_pos.mpr (p2pos _)))
    unfold pt at h1
    exact absurd h1 (Rat.not_lt.mpr h3)
  · have h1 := (up m (max k l - l) hm (by omega)).1
    have h2 := (up n (max k l - k) hn (by omega)).2
    have h3 := hp (max k l)
    generalize (2 : Int) ^ (max k l) = z at *
    omega
theorem fs.hDst {p : Nat → Int} (hp : fs p) {n k m l : Int} (hn : -1000000 ≤ n ∧ n ≤ 1000000) (hm : -1000000 ≤ m ∧ m ≤ 1000000) (hk : 0 ≤ k ∧ k ≤ 12) (hl : 0 ≤ l ∧ l ≤ 12) (hlt : n * 2 ^ l.toNat < m * 2 ^ k.toNat) : okDst p n k m l ∧ okPl (freeR p) (max k l).toNat (n * 2 ^ (max k l - k).toNat) (m * 2 ^ (max k l - l).toNat) ∧ (dstF p n k m l : Int) = plF (freeR p) (max k l).toNat (n * 2 ^ (max k l - k).toNat) (m * 2 ^ (max k l - l).toNat) := by
  obtain ⟨h1, h2, _, _⟩ := ds_pts hn hm hk hl hlt
  obtain ⟨h3, h4⟩ := ds_in hn hm hk hl
  have h5 : okPl (freeR p) (max k l).toNat (n * 2 ^ (max k l - k).toNat) (m * 2 ^ (max k l - l).toNat) := hp.hPl h1 h2 (by omega) (by omega) (by omega)
  refine ⟨⟨hp.hFree.1, hp.hFree.2, h5 (by omega)⟩, h5, ?_⟩
  unfold plF
  rw [if_neg (by omega)]
  rfl
theorem fs.hAll : ∀ (s : Nat) {p : Nat → Int}, fs p → ∀ {n k m l : Int}, (-1000000 ≤ n ∧ n ≤ 1000000) → (-1000000 ≤ m ∧ m ≤ 1000000) → (0 ≤ k ∧ k ≤ 12) → (0 ≤ l ∧ l ≤ 12) → n * 2 ^ l.toNat < m * 2 ^ k.toNat → okAll n k m l s p := by
  intro s
  induction s with
  | zero => intro p _ n k m l _ _ _ _ _; trivial
  | succ s ih =>
    intro p hp n k m l hn hm hk hl hlt h0
    refine ⟨(hp.hDst hn hm hk hl hlt).1, ?_, ih hp.dvs hn hm hk hl hlt⟩
    obtain ⟨L, hr⟩ := row_ex hp.all.1
    obtain ⟨w, hw, hD⟩ := freeD_row hr hp.all.1
    have e1 : pdeg (freeD p) = pdeg (rsq p (L - 1)) := by rw [pdeg_congr hD, scl_deg hw.nz]
    have hL := hr.1
    have d0 : pdeg (rsq p 0) = pdeg p := by rw [rsq_0, prim_deg]
    obtain ⟨g, hg⟩ := Int.eq_ofNat_of_zero_le hp.all.1
    have L2 : 2 ≤ L := by
      refine Classical.byContradiction fun w => ?_
      have := hr.2.2.2
      rw [show L = 1 by omega, rsq_1, prim_deg, drv_deg hg] at this
      omega
    have h2 := row_dec2 hr (L - 1) 1 (by omega) (by omega)
    have h3 : pdeg (rsq p 1) < pdeg (rsq p 0) := row_dec hr 0 (by omega)
    omega
/-- a sequence of signs depends on the point alone -/
theorem gd.pts {P : Pl} (h : gd P) {n n' : Int} {e e' : Nat} (hp : pt n e = pt n' e') : chG (fun i => cSg (sq P i) n e) (seqLen P) = chG (fun i => cSg (sq P i) n' e') (seqLen P) := by
  obtain ⟨L, hr⟩ := h.row
  obtain ⟨eL, hs⟩ := seq_row h.1 h.2.1 h.2.2.1 hr
  refine (chG_congr _ (fun i hi => ?_)).2
  rw [eL] at hi
  obtain ⟨a1, a2, _⟩ := hs i (by omega)
  rw [cSg_pAt a1 a2, cSg_pAt a1 a2, pAt_sign, pAt_sign, hp]
theorem pAt_pt {q : Nat → Int} {n n' : Int} {e e' : Nat} (hp : pt n e = pt n' e') : pAt q n e = 0 ↔ pAt q n' e' = 0 := by rw [pAt_z, pAt_z, hp]
theorem gd.cntD {P : Pl} (h : gd P) {n k m l : Int} (hn : -1000000 ≤ n ∧ n ≤ 1000000) (hm : -1000000 ≤ m ∧ m ≤ 1000000) (hk : 0 ≤ k ∧ k ≤ 12) (hl : 0 ≤ l ∧ l ≤ 12) (hlt : n * 2 ^ l.toNat < m * 2 ^ k.toNat) (h1 : pAt P.2 n k.toNat ≠ 0) (h2 : pAt P.2 m l.toNat ≠ 0) : ((chG (fun i => cSg (sq P i) n k.toNat) (seqLen P) : Nat) : Int) - ((chG (fun i => cSg (sq P i) m l.toNat) (seqLen P) : Nat) : Int) = (dstF P.2 n k m l : Int) := by
  obtain ⟨p1, _, p3, p4⟩ := ds_pts hn hm hk hl hlt
  obtain ⟨_, q2, q3⟩ := h.2.2.2.hDst hn hm hk hl hlt
  rw [q3, ← h.cnt p1 (fun w => h1 ((pAt_pt p3).mp w)) (fun w => h2 ((pAt_pt p4).mp w)) q2, h.pts p3.symm, h.pts p4.symm]
/-- the divisors of a polynomial do not vanish where it does not -/
theorem dvs_nz {P : Pl} (h : gd P) {n : Int} {e : Nat} (h1 : pAt P.2 n e ≠ 0) : pAt (cDvs P).2 n e ≠ 0 := by
  obtain ⟨L, hr⟩ := h.row
  obtain ⟨eL, hs⟩ := seq_row h.1 h.2.1 h.2.2.1 hr
  have hL := hr.1
  intro w
  rw [pAt_z] at w
  refine last_nz hr (x := pt n e) (fun z => h1 ((pAt_z _ _ _).mpr z)) h.2.2.2.all.1 ?_
  rw [← ev_congr (hs (L - 1) (by omega)).2.2.1]
  unfold cDvs at w
  rw [eL] at w
  exact w
theorem dvs_eq {P : Pl} (h : gd P) : ∃ w, pm1 w ∧ eq7 (freeD P.2) (scl w (cDvs P).2) := by
  obtain ⟨L, hr⟩ := h.row
  obtain ⟨eL, hs⟩ := seq_row h.1 h.2.1 h.2.2.1 hr
  have hL := hr.1
  obtain ⟨w, hw, hD⟩ := freeD_row hr h.2.2.2.all.1
  refine ⟨w, hw, hD.trans (fun k hk => ?_)⟩
  show w * rsq P.2 (L - 1) k = w * (cDvs P).2 k
  unfold cDvs
  rw [eL, (hs (L - 1) (by omega)).2.2.1 k hk]
