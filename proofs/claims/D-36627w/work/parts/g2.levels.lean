/-! PLAIN LAW 47: the sum over the divisors -/
theorem drv_scl (w : Int) (p : Nat → Int) : eq7 (drv (scl w p)) (scl w (drv p)) := fun k _ => by
  show (if k + 1 < 7 then ((k : Int) + 1) * (w * p (k + 1)) else 0) = w * (if k + 1 < 7 then ((k : Int) + 1) * p (k + 1) else 0)
  split
  · grind
  · rw [Int.mul_zero]
theorem rsq_scl {w : Int} (hw : pm1 w) (p : Nat → Int) : ∀ i, eq7 (rsq (scl w p) i) (scl w (rsq p i)) := by
  have ps : ∀ q : Nat → Int, eq7 (pprim (scl w q)) (scl w (pprim q)) := fun q => by
    have := prim_sc2 hw.nz q
    rwa [hw.sgn] at this
  intro i
  induction i using Nat.strongRecOn with
  | _ i ih =>
    match i with
    | 0 => rw [rsq_0, rsq_0]; exact ps p
    | 1 => rw [rsq_1, rsq_1]; exact (drv_scl w p).prim.trans (ps (drv p))
    | i + 2 =>
      rw [show rsq (scl w p) (i + 2) = fun j => -(remF 7 (rsq (scl w p) i) (rsq (scl w p) (i + 1)) j) from by rw [rsq], show rsq p (i + 2) = fun j => -(remF 7 (rsq p i) (rsq p (i + 1)) j) from by rw [rsq]]
      have h1 := remF_congr 7 (ih i (by omega)) (ih (i + 1) (by omega))
      have h2 := remF_scl 7 hw.nz hw.nz (rsq p i) (rsq p (i + 1))
      rw [hw.sgn] at h2
      have h3 : eq7 (pprim (remF 7 (scl w (rsq p i)) (scl w (rsq p (i + 1))))) (remF 7 (scl w (rsq p i)) (scl w (rsq p (i + 1)))) := remF_isprim 7 ((ps (rsq p i)).trans (scl_congr (rsq_isprim p i)))
      have h4 : eq7 (remF 7 (rsq (scl w p) i) (rsq (scl w p) (i + 1))) (scl w (remF 7 (rsq p i) (rsq p (i + 1)))) := h1.trans (h3.symm.trans (h2.trans (scl_congr (remF_isprim 7 (rsq_isprim p i)))))
      intro k hk
      show -(remF 7 (rsq (scl w p) i) (rsq (scl w p) (i + 1)) k) = w * -(remF 7 (rsq p i) (rsq p (i + 1)) k)
      rw [h4 k hk]
      show -(w * _) = _
      rw [Int.mul_neg]
theorem isRow_scl {w : Int} (hw : pm1 w) {p : Nat → Int} {L : Nat} (hr : isRow p L) : isRow (scl w p) L :=
  ⟨hr.1, hr.2.1, fun i hi => by rw [(rsq_scl hw p i).deg, scl_deg hw.nz]; exact hr.2.2.1 i hi, by rw [(rsq_scl hw p L).deg, scl_deg hw.nz]; exact hr.2.2.2⟩
theorem rsg_neg (x : Rat) : rsg (-x) = -rsg x := by
  rcases rsg_3 x with ⟨a, b⟩ | ⟨a, b⟩ | ⟨a, b⟩
  · rw [b, rsg_n (by grind)]
  · rw [b, rsg_p (by grind)]; rfl
  · rw [b, rsg_0 (by grind)]; rfl
theorem pAt_scl {w : Int} (hw : pm1 w) (q : Nat → Int) (n : Int) (e : Nat) : (pAt (scl w q) n e).sign = w * (pAt q n e).sign := by
  rw [pAt_sign, pAt_sign, ev_scl]
  rcases hw with rfl | rfl
  · rw [show ((1 : Int) : Rat) = 1 from rfl, Rat.one_mul, Int.one_mul]
  · rw [show ((-1 : Int) : Rat) * ev q (pt n e) = -ev q (pt n e) by rw [show ((-1 : Int) : Rat) = -1 from rfl]; grind, rsg_neg]; omega
theorem V_scl {w : Int} (hw : pm1 w) {p q : Nat → Int} (h : eq7 p (scl w q)) (n : Int) (e L : Nat) : chC (fun i => pAt (rsq p i) n e) L = chC (fun i => pAt (rsq q i) n e) L := by
  have key : ∀ i, (pAt (rsq p i) n e).sign = w * (pAt (rsq q i) n e).sign := fun i => by
    rw [← pAt_scl hw]
    rw [pAt_sign, pAt_sign, ev_congr ((rsq_eq7 h i).trans (rsq_scl hw q i))]
  rcases hw with rfl | rfl
  · exact (chs_congr L (fun i _ => by rw [key i, Int.one_mul])).2
  · exact (chs_neg L (fun i _ => by rw [key i]; omega)).2
theorem fs.scl' {w : Int} (hw : pm1 w) {p q : Nat → Int} (h : eq7 p (scl w q)) (hq : fs q) : fs p := by
  refine (hq.fac (q := scl w q) ⟨fun _ => w, 1, fun x => ?_⟩).congr h.symm
  rw [ev_scl]
  show _ = (0 + (w : Rat) * x ^ 0) * ((w : Rat) * ev q x)
  rw [Rat.pow_zero]
  have : (0 + (w : Rat) * 1) * ((w : Rat) * ev q x) = (w : Rat) * (w : Rat) * ev q x := by grind
  rw [this, hw.rat]; grind
/-- the roots of a polynomial and of its opposite -/
theorem gd.cntS {P : Pl} (h : gd P) {p : Nat → Int} {w : Int} (hw : pm1 w) (he : eq7 p (scl w P.2)) {m n : Int} {e : Nat} (hmn : m < n) (h1 : pAt P.2 m e ≠ 0) (h2 : pAt P.2 n e ≠ 0) (hf : okPl (freeR p) e m n) : ((chG (fun i => cSg (sq P i) m e) (seqLen P) : Nat) : Int) - ((chG (fun i => cSg (sq P i) n e) (seqLen P) : Nat) : Int) = plF (freeR p) e m n := by
  obtain ⟨L, hr⟩ := h.row
  obtain ⟨eL, hs⟩ := seq_row h.1 h.2.1 h.2.2.1 hr
  have hp := fs.scl' hw he h.2.2.2
  have hrp : isRow p L := isRow_eq7 he.symm (isRow_scl hw hr)
  have z : ∀ (x : Int), pAt P.2 x e ≠ 0 → pAt p x e ≠ 0 := fun x hx w9 => hx (by
    rw [pAt_z] at w9 ⊢
    rw [ev_congr he, ev_scl] at w9
    rcases Rat.mul_eq_zero.mp w9 with q | q
    · exact absurd (Rat.intCast_eq_zero_iff.mp q) hw.nz
    · exact q)
  have n1 := z m h1
  have n2 := z n h2
  rw [eL, chG_pAt m e L (fun i hi => ⟨(hs i (by omega)).1, (hs i (by omega)).2.1, (hs i (by omega)).2.2.1⟩), chG_pAt n e L (fun i hi => ⟨(hs i (by omega)).1, (hs i (by omega)).2.1, (hs i (by omega)).2.2.1⟩)]
  rw [← V_scl hw he, ← V_scl hw he]
  rw [row_cnt hrp hp.all.1 hmn ⟨last_nz hrp (fun w => n1 ((pAt_z _ _ _).mpr w)) hp.all.1, last_nz hrp (fun w => n2 ((pAt_z _ _ _).mpr w)) hp.all.1⟩ hf hp.free.all.1, if_neg n2]
  omega
theorem dvs_scl {P : Pl} (h : gd P) {p : Nat → Int} {w : Int} (hw : pm1 w) (he : eq7 p (scl w P.2)) : ∃ v, pm1 v ∧ eq7 (freeD p) (scl v (cDvs P).2) := by
  obtain ⟨L, hr⟩ := h.row
  obtain ⟨eL, hs⟩ := seq_row h.1 h.2.1 h.2.2.1 hr
  have hL := hr.1
  have hp := fs.scl' hw he h.2.2.2
  have hrp : isRow p L := isRow_eq7 he.symm (isRow_scl hw hr)
  obtain ⟨u, hu, hD⟩ := freeD_row hrp hp.all.1
  refine ⟨u * w, ?_, fun k hk => ?_⟩
  · rcases hu with rfl | rfl <;> rcases hw with rfl | rfl <;> first | exact Or.inl rfl | exact Or.inr rfl
  · rw [hD k hk]
    show u * rsq p (L - 1) k = u * w * (cDvs P).2 k
    rw [rsq_eq7 he (L - 1) k hk, rsq_scl hw P.2 (L - 1) k hk]
    show u * (w * rsq P.2 (L - 1) k) = _
    unfold cDvs
    rw [eL, (hs (L - 1) (by omega)).2.2.1 k hk, Int.mul_assoc]
theorem xa_ca {n k m l : Int} (hn : -1000000 ≤ n ∧ n ≤ 1000000) (hm : -1000000 ≤ m ∧ m ≤ 1000000) (hk : 0 ≤ k ∧ k ≤ 12) (hl : 0 ≤ l ∧ l ≤ 12) (hlt : n * 2 ^ l.toNat < m * 2 ^ k.toNat) : ∀ (s : Nat) {P : Pl} {p : Nat → Int} {w : Int}, gd P → pm1 w → eq7 p (scl w P.2) → pAt P.2 n k.toNat ≠ 0 → pAt P.2 m l.toNat ≠ 0 → xaF n k.toNat m l.toNat s P = (caF n k m l s p : Int) := by
  intro s
  induction s with
  | zero => intro P p w _ _ _ _ _; rfl
  | succ s ih =>
    intro P p w h hw he h1 h2
    have hp := fs.scl' hw he h.2.2.2
    have dp : pdeg p = ((P.1 - 1 : Nat) : Int) := by rw [he.deg, scl_deg hw.nz]; exact h.deg
    show (if 1 < P.1 then _ else _) = (((if 0 < pdeg p then dstF p n k m l + caF n k m l s (freeD p) else 0) : Nat) : Int)
    by_cases c : 1 < P.1
    · rw [if_pos c, if_pos (by omega)]
      obtain ⟨v, hv, hD⟩ := dvs_scl h hw he
      rw [ih h.dvs.1 hv hD (dvs_nz h h1) (dvs_nz h h2)]
      obtain ⟨p1, _, p3, p4⟩ := ds_pts hn hm hk hl hlt
      obtain ⟨_, q2, q3⟩ := hp.hDst hn hm hk hl hlt
      rw [h.pts p3.symm, h.pts p4.symm, h.cntS hw he p1 (fun w => h1 ((pAt_pt p3).mp w)) (fun w => h2 ((pAt_pt p4).mp w)) q2, Int.natCast_add, q3]
    · rw [if_neg c, if_neg (by omega)]; rfl
