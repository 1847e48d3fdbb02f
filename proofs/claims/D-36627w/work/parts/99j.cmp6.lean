/-! POLYNOMIALS OF THE COMPONENT: lengths; Sturm sequences; the common divisor -/
theorem cNeg_le (P : Pl) : (cNeg P).1 ≤ P.1 := pl_le _ _
theorem cNeg_len {P : Pl} (h : nf P) : (cNeg P).1 = P.1 := pl_uniq (Nat.le_refl _) (h.1.imp id (fun h2 h3 => h2 (by have h4 : -P.2 (P.1 - 1) = 0 := h3; omega))) (fun j h1 h2 => absurd h1 (by omega))
theorem cg_dvd (c : Nat → Int) : ∀ {n k : Nat}, k < n → cg c n ∣ (c k).natAbs
  | 0, _, h => absurd h (Nat.not_lt_zero _)
  | n + 1, k, h => by
    by_cases e : k = n
    · rw [e]; exact Nat.gcd_dvd_right _ _
    · exact Nat.dvd_trans (Nat.gcd_dvd_left _ _) (cg_dvd c (show k < n by omega))
theorem tdiv_ne {x : Int} {g : Nat} (h : g ∣ x.natAbs) (hx : x ≠ 0) : x.tdiv (g : Int) ≠ 0 := by
  intro e
  have h1 : (x.tdiv (g : Int)).natAbs = x.natAbs / g := Int.natAbs_tdiv x g
  rw [e] at h1
  have h2 := Nat.div_mul_cancel h
  rw [← h1] at h2
  have h3 : (0 : Int).natAbs * g = 0 := by simp
  omega
theorem cPrim_len {P : Pl} (h : nf P) : (cPrim P).1 = P.1 := by
  unfold cPrim
  split
  · rfl
  · refine pl_uniq (Nat.le_refl _) ?_ (fun j h1 h2 => absurd h1 (by omega))
    rcases Nat.eq_zero_or_pos P.1 with e | e
    · exact Or.inl e
    · exact Or.inr (tdiv_ne (cg_dvd P.2 (by omega)) (h.1.resolve_left (by omega)))
theorem cPrim_nf {P : Pl} (h : nf P) : nf (cPrim P) := by
  unfold cPrim
  split
  · exact h
  · exact nf_mk _ _
theorem cDer_len {P : Pl} (h : nf P) : (cDer P).1 = P.1 - 1 := by
  refine pl_uniq (Nat.le_refl _) ?_ (fun j h1 h2 => absurd h1 (by omega))
  by_cases e : P.1 - 1 = 0
  · exact Or.inl e
  · refine Or.inr ?_
    have h1 := h.1.resolve_left (by omega)
    rw [show P.1 - 1 - 1 + 1 = P.1 - 1 by omega]
    exact Int.mul_ne_zero h1 (by omega)
theorem rmF_lt {B : Pl} (h0 : 0 < B.1) : ∀ {f : Nat} {R : Pl}, R.1 < f → (rmF f R B).1 < B.1
  | 0, _, h => absurd h (Nat.not_lt_zero _)
  | f + 1, R, h => by
    unfold rmF
    split
    · assumption
    · have h1 : (rmS R B).1 ≤ R.1 - 1 := pl_le _ _
      exact rmF_lt h0 (by omega)
theorem cRem_lt {P B : Pl} (h0 : 0 < B.1) : (cRem P B).1 < B.1 := rmF_lt h0 (Nat.lt_succ_self _)
theorem rmF_nf {B : Pl} : ∀ {f : Nat} {R : Pl}, nf R → nf (rmF f R B)
  | 0, _, h => h
  | f + 1, R, h => by
    unfold rmF
    split
    · exact h
    · exact rmF_nf (nf_mk _ _)
theorem rmF_fit {P B : Pl} {N : Nat} (h : fitS P B N) : ∀ {f j : Nat}, (∀ i, i < j → B.1 ≤ (rs P B i).1) → ∀ k, (((rmF f (rs P B j) B).2 k).natAbs : Int) < 2 ^ (32 * N)
  | 0, j, hj => h j hj
  | f + 1, j, hj => by
    unfold rmF
    split
    · exact h j hj
    · exact rmF_fit h (f := f) (j := j + 1) (ltj_s hj (by omega))
theorem cRem_fit {P B : Pl} {N : Nat} (h : fitS P B N) : ∀ k, (((cRem P B).2 k).natAbs : Int) < 2 ^ (32 * N) := rmF_fit h (j := 0) (fun i hi => absurd hi (Nat.not_lt_zero i))
theorem cut_abs {n k : Nat} {c : Nat → Int} {N : Nat} (h : ∀ k, ((c k).natAbs : Int) < 2 ^ (32 * N)) : ((cut n c k).natAbs : Int) < 2 ^ (32 * N) := by
  unfold cut
  split
  · exact h k
  · exact p2 _
theorem cNeg_fit {P : Pl} {N : Nat} (h : ∀ k, ((P.2 k).natAbs : Int) < 2 ^ (32 * N)) : ∀ k, (((cNeg P).2 k).natAbs : Int) < 2 ^ (32 * N) := fun k => cut_abs (fun k => by rw [Int.natAbs_neg]; exact h k)
/-- Sturm's sequence -/
def sq (P : Pl) : Nat → Pl
  | 0 => cPrim P
  | 1 => cPrim (cDer P)
  | k + 2 => cPrim (cNeg (cRem (sq P k) (sq P (k + 1))))
def sl (P : Pl) : Nat → Nat → Nat
  | 0, L => L
  | f + 1, L => if (cRem (sq P (L - 2)) (sq P (L - 1))).1 = 0 then L else sl P f (L + 1)
def seqLen (P : Pl) : Nat := if P.1 ≤ 1 then 1 else sl P 8 2
theorem sq_nf {P : Pl} (h : nf P) : ∀ k, nf (sq P k)
  | 0 => cPrim_nf h
  | 1 => cPrim_nf (nf_mk _ _)
  | k + 2 => cPrim_nf (nf_mk _ _)
theorem sq_len {P : Pl} (h : nf P) (k : Nat) : (sq P (k + 2)).1 = (cRem (sq P k) (sq P (k + 1))).1 := by
  show (cPrim (cNeg (cRem (sq P k) (sq P (k + 1))))).1 = _
  exact (cPrim_len (P := cNeg (cRem (sq P k) (sq P (k + 1)))) (nf_mk _ _)).trans (cNeg_len (rmF_nf (sq_nf h k)))
def sup (g : Nat → Nat) : Nat → Nat
  | 0 => 0
  | k + 1 => max (sup g k) (g k)
theorem sup_le {g : Nat → Nat} : ∀ {k i : Nat}, i < k → g i ≤ sup g k
  | 0, _, h => absurd h (Nat.not_lt_zero _)
  | k + 1, i, h => by
    unfold sup
    by_cases e : i = k
    · rw [e]; exact Nat.le_max_right _ _
    · exact Nat.le_trans (sup_le (show i < k by omega)) (Nat.le_max_left _ _)
/-- rooms of primitive -/
def prC (N n : Nat) : Nat := (20 + 9 * ((N + 1) / 2)) * n + 15 * n + 5
def prL (N n : Nat) : Nat := (13 * N + 145 + hyT N) * n + (6 * N + 30) * n + 22
theorem prC_le {N a b : Nat} (h : a ≤ b) : prC N a ≤ prC N b := by
  unfold prC
  have := Nat.mul_le_mul_left (20 + 9 * ((N + 1) / 2)) h
  omega
theorem prL_le {N a b : Nat} (h : a ≤ b) : prL N a ≤ prL N b := by
  unfold prL
  have h1 := Nat.mul_le_mul_left (13 * N + 145 + hyT N) h
  have h2 := Nat.mul_le_mul_left (6 * N + 30) h
  omega
/-- rooms of a sequence from two elements of n and m coefficients on -/
def stC (N : Nat → Nat → Nat) : Nat → Nat → Nat → Nat
  | 0, _, _ => 0
  | f + 1, n, m => if m = 0 then 0 else 1 + rmC m n + (m + 3) + prC (N n m) (m - 1) + sup (stC N f m) m
def stL (N : Nat → Nat → Nat) (M : Nat → Nat) : Nat → Nat → Nat → Nat
  | 0, _, _ => 0
  | f + 1, n, m => if m = 0 then 0 else 6 + rmL m (N n m + M m) n + (6 * m + 18) + prL (N n m) (m - 1) + sup (stL N M f m) m
def hdC (N : Nat → Nat → Nat) (f n m : Nat) : Nat := (m + 3) + prC (N n m) (m - 1) + sup (stC N f m) m
def hdL (N : Nat → Nat → Nat) (M : Nat → Nat) (f n m : Nat) : Nat := (6 * m + 18) + prL (N n m) (m - 1) + sup (stL N M f m) m
theorem stC_s {N : Nat → Nat → Nat} {f n m : Nat} (hm : 0 < m) : stC N (f + 1) n m = 1 + rmC m n + hdC N f n m := by
  have h : stC N (f + 1) n m = 1 + rmC m n + (m + 3) + prC (N n m) (m - 1) + sup (stC N f m) m := if_neg (by omega)
  rw [h]; unfold hdC; omega
theorem stL_s {N : Nat → Nat → Nat} {M : Nat → Nat} {f n m : Nat} (hm : 0 < m) : stL N M (f + 1) n m = 6 + rmL m (N n m + M m) n + hdL N M f n m := by
  have h : stL N M (f + 1) n m = 6 + rmL m (N n m + M m) n + (6 * m + 18) + prL (N n m) (m - 1) + sup (stL N M f m) m := if_neg (by omega)
  rw [h]; unfold hdL; omega
/-- all elements fit, and what is left at each step -/
def fitT (P : Pl) (N : Nat → Nat → Nat) (M : Nat → Nat) : Prop := ∀ k, (∀ i, i ≤ k → 0 < (sq P (i + 1)).1) → fitS (sq P k) (sq P (k + 1)) (N (sq P k).1 (sq P (k + 1)).1) ∧ ∀ j, (((sq P (k + 1)).2 j).natAbs : Int) < 2 ^ (32 * M (sq P (k + 1)).1)
def okT (N : Nat → Nat → Nat) (M : Nat → Nat) : Prop := ∀ n m, N n m + M m ≤ 46 ∧ M m ≤ 20 ∧ N n m ≤ 40
theorem hd_next {N : Nat → Nat → Nat} {f n m m' : Nat} (hf : 0 < f) (hm : 0 < m') (h : m' < m) : (m + 3) + prC (N n m) (m - 1) + (1 + rmC m' m + hdC N (f - 1) m m') ≤ hdC N f n m := by
  match f, hf with
  | f + 1, _ =>
    have h1 := sup_le (g := stC N (f + 1) m) h
    rw [stC_s hm] at h1
    show _ + (1 + rmC m' m + hdC N f m m') ≤ (m + 3) + prC (N n m) (m - 1) + sup (stC N (f + 1) m) m
    omega
theorem hdL_next {N : Nat → Nat → Nat} {M : Nat → Nat} {f n m m' : Nat} (hf : 0 < f) (hm : 0 < m') (h : m' < m) : (6 * m + 18) + prL (N n m) (m - 1) + (6 + rmL m' (N m m' + M m') m + hdL N M (f - 1) m m') ≤ hdL N M f n m := by
  match f, hf with
  | f + 1, _ =>
    have h1 := sup_le (g := stL N M (f + 1) m) h
    rw [stL_s hm] at h1
    show _ + (6 + rmL m' (N m m' + M m') m + hdL N M f m m') ≤ (6 * m + 18) + prL (N n m) (m - 1) + sup (stL N M (f + 1) m) m
    omega
theorem sl_e {P : Pl} {f L : Nat} (h : (cRem (sq P (L - 2)) (sq P (L - 1))).1 = 0) : sl P f L = L := by
  match f with
  | 0 => rfl
  | f + 1 => exact if_pos h
theorem sl_s {P : Pl} {f L : Nat} (hf : 0 < f) (h : (cRem (sq P (L - 2)) (sq P (L - 1))).1 ≠ 0) : sl P f L = sl P (f - 1) (L + 1) := by
  match f, hf with
  | f + 1, _ => exact if_neg h
theorem sqL {P : Pl} {L : Nat} (h : 2 ≤ L) : sq P L = cPrim (cNeg (cRem (sq P (L - 2)) (sq P (L - 1)))) := by
  match L, h with
  | L + 2, _ => rfl
theorem sq_lenL {P : Pl} (h : nf P) {L : Nat} (hL : 2 ≤ L) : (sq P L).1 = (cRem (sq P (L - 2)) (sq P (L - 1))).1 := by
  match L, hL with
  | L + 2, _ => exact sq_len h L
/-- rooms of sturm -/
def suC (N : Nat → Nat → Nat) (M0 n : Nat) : Nat := 3 + prC M0 n + (if n ≤ 1 then 0 else 3 * (n - 1) + 3 + prC M0 (n - 1) + stC N 9 n (n - 1))
def suL (N : Nat → Nat → Nat) (M : Nat → Nat) (M0 n : Nat) : Nat := 14 + prL M0 n + (if n ≤ 1 then 0 else (2 * M0 + 9) * (n - 1) + 14 + prL M0 (n - 1) + stL N M 9 n (n - 1))
/-- an add that does not grow the array -/
theorem j_addS (κ : zK) (H0 : Heap) {l b n : Nat} {md : Int} {g : Nat → Option Nat} (hC : CO κ H0) (h1 : 0 < n) (h10 : n < 10) {v : Nat} (hv : oA κ H0 v) (hA : AL κ H0 l b md n (capR n) g) : Mt κ yJ2_add cJ2_add 2 (some .boolean) 6 137 0 0 H0 [.ref l, .ref v] (fun q => q = l ∨ (q = b ∧ 0 < n)) (fun v9 H1 => v9 = some (vi 1) ∧ ∃ (md2 : Int) (g2 : Nat → Option Nat), AL κ H1 l b md2 (n + 1) (capR (n + 1)) g2 ∧ (∀ k, k < n → g2 k = g k) ∧ g2 n = some v) := by
  have a3 : capR (n + 1) = capR n := by
    have c1 : capR n = 10 := by unfold capR; rw [if_neg (by omega), if_pos (by omega)]
    have c2 : capR (n + 1) = 10 := by unfold capR; rw [if_neg (by omega), if_pos (by omega)]
    rw [c1, c2]
  have a4 : n < capR n := by unfold capR; rw [if_neg (by omega)]; split <;> omega
  rw [a3]
  exact (j_addN κ H0 hC a4 hv hA).mono (fun q h => h.imp id (fun h => ⟨h.1, by omega⟩)) (fun v9 H1 h _ _ => h)

theorem p_primW (κ : zK) (H0 : Heap) {p : Nat} {P : Pl} {D : Nat → Prop} {N : Nat} (hC : CO κ H0) (hDU : ∀ q, H0.size ≤ q → D q) (h7 : P.1 ≤ 7) (hN40 : N ≤ 40) (hN : ∀ k, ((P.2 k).natAbs : Int) < 2 ^ (32 * N)) (hP : Po κ D H0 p P) : Mt κ yX1_primitive cX1_primitive 6 (some (.object "SturmRoots$Poly")) 11 312 (prC N P.1) (prL N P.1) H0 [.ref p] (fun _ => False) (fun v H1 => ∃ q : Nat, v = some (.ref q) ∧ Po κ D H1 q (cPrim P)) := p_prim κ H0 hC hDU h7 hN40 hN hP

set_option maxHeartbeats 2000000 in
set_option maxRecDepth 100000 in
/-- Sturm's sequence -/
theorem p_sturm (κ : zK) (H0 : Heap) {p : Nat} {P : Pl} {D : Nat → Prop} {N : Nat → Nat → Nat} {M : Nat → Nat} {M0 : Nat} (hC : CO κ H0) (hDU : ∀ q, H0.size ≤ q → D q) (h7 : P.1 ≤ 7) (hT : okT N M) (hM40 : True ∧ True ∧ M0 ≤ 40) (hM0 : ∀ k, ((P.2 k).natAbs : Int) < 2 ^ (32 * M0)) (hM01 : ∀ k, (((cDer P).2 k).natAbs : Int) < 2 ^ (32 * M0)) (hfit : fitT P N M) (hP : Po κ D H0 p P)  : Mt κ yX1_sturm cX1_sturm 4 (some (.object "java/util/ArrayList")) 12 337 (suC N M0 P.1) (suL N M M0 P.1) H0 [.ref p] (fun _ => False) (fun v H1 => ∃ l : Nat, v = some (.ref l) ∧ SQ κ D H1 l (seqLen P) (sq P)) := by
  refine Mt.of (by decide) (Nat.le_of_ble_eq_true rfl) ?_
  intro z E hE hH0 hA0 hL hini
  have hAll : ∀ q, (fun _ => False) q → zA z.A z.H0 q := fun q h => Or.inl (by rw [hA0]; exact h)
  have hNew : ∀ q, H0.size ≤ q → zA z.A z.H0 q := fun q h => Or.inr (by rw [hH0]; exact h)
  have E : zOK z cX1_sturm RX1 κ 12 337 (some (.object "java/util/ArrayList")) := E
  refine V.eqL (lv' := [(0, .ref p)]) rfl ?_
  obtain ⟨hnf, h13, l, hop, b, cap, md, g, hA, hel, hDl, hDb⟩ := id hP
  have hD := hC.D
  have w1 : 3 + prC M0 P.1 ≤ suC N M0 P.1 := by unfold suC; exact Nat.le_add_right _ _
  have w2 : 14 + prL M0 P.1 ≤ suL N M M0 P.1 := by unfold suL; exact Nat.le_add_right _ _
  refine V.frame (fun hfz_fr_1 hfk_fr_1 => ?_)
  rw [hH0] at hfz_fr_1 hfk_fr_1
  rw [hA0] at hfk_fr_1
  have hC_fr_1 := hC.call (fun q h => h.elim) hfz_fr_1 hfk_fr_1
  have hF_fr_1 : kF κ H0 H0 (fun _ => False) := ⟨(fun _ h => h.elim), hfz_fr_1, hfk_fr_1⟩
  refine V.frame (fun hfz_fr_2 hfk_fr_2 => ?_)
  rw [hH0] at hfz_fr_2 hfk_fr_2
  rw [hA0] at hfk_fr_2
  refine v_new E in_J2 tyJ2 tyJ2_ok q113 q114 q73 (ci := 5) rfl (fs := [vi 0, .null, vi 0]) (fun j hj => by rcases (show j = 0 ∨ j = 1 ∨ j = 2 by omega) with rfl | rfl | rfl <;> rfl) (cb' := ((suC N M0 P.1) - 1)) (sb' := ((suL N M M0 P.1) - 3)) (by omega) (by omega) dX1_sturm_0 (fun l2 H_3 hq_6 ho_4 hg_5 => ?_)
  refine v_dup E rfl dX1_sturm_3 ?_
  refine V.frame (fun hfz_fr_7 hfk_fr_7 => ?_)
  rw [hH0] at hfz_fr_7 hfk_fr_7
  rw [hA0] at hfk_fr_7
  have hC_fr_7 := hC.call (fun q h => h.elim) hfz_fr_7 hfk_fr_7
  have hF_fr_7 : kF κ H0 H_3 (fun _ => False) := ⟨(fun _ h => h.elim), hfz_fr_7, hfk_fr_7⟩
  have h93_l2 : κ.2 93 ≤ l2 := Nat.le_trans hC.le (by omega)
  refine v_callI E (As := []) (b := l2) (j_init κ H_3 h93_l2 hC_fr_7 ho_4) q117 q73 q115 q116 rfl 0 (by decide +kernel) rfl (by decide) (by decide) (cb' := (((suC N M0 P.1) - 1) - 0)) (sb' := (((suL N M M0 P.1) - 3) - 0)) (by omega) (by omega) rfl (rest := [.ref l2]) (Nat.le_of_ble_eq_true rfl) (fun q h => hNew q (by rw [show q = l2 from h]; omega)) dX1_sturm_4 (fun v_8 H_9 hpost_10 hz_11 hk_12 => ?_)
  obtain ⟨rfl, hA_l2⟩ := hpost_10
  have hkN_13 : ∀ q9 : Nat, q9 < Array.size H0 → ¬ (fun _ => False : Nat → Prop) q9 → H_9[q9]? = H0[q9]? := fun q9 h9 _ => (hk_12 q9 (by rw [hg_5.1]; omega) (fun h => by have h8 : q9 = l2 := h; omega)).trans (hg_5.2 q9 h9)
  have hLB_l2 := LB.nil (S := H0.size) (E := (eP κ (fun q => D q ∧ q ≠ l2) (sq P))) hA_l2 (by omega)
  refine V.eq (st' := [.ref l2]) rfl ?_
  refine v_astore_n E dX1_sturm_7 (zlt hL rfl) (lv' := [(1, .ref l2), (0, .ref p)]) rfl ?_
  refine v_aload_n E 0 rfl dX1_sturm_8 ?_
  refine v_aload_n E 1 rfl dX1_sturm_9 ?_
  refine V.frame (fun hfz_fr_16 hfk_fr_16 => ?_)
  rw [hH0] at hfz_fr_16 hfk_fr_16
  rw [hA0] at hfk_fr_16
  have hC_fr_16 := hC.call (fun q h => h.elim) hfz_fr_16 hfk_fr_16
  have hF_fr_16 : kF κ H0 H_9 (fun _ => False) := ⟨(fun _ h => h.elim), hfz_fr_16, hfk_fr_16⟩
  refine v_callS E (As := [.ref p]) (p_primW κ H_9 (D := (fun q => D q ∧ q ≠ l2)) (N := M0) hC_fr_16 (fun q h => ⟨hDU q (Nat.le_trans hfz_fr_16 h), by have := (Exists.choose_spec (Exists.choose_spec hLB_l2)).1.1.lt; omega⟩) h7 (hM40).2.2 hM0 ((Po.mono hP (fun q h1 h2 => ⟨h2, by omega⟩)).kf hC hF_fr_16 aD.no)) (lw_S q1154 q1155 q70 q1156) 1 (by decide +kernel) rfl (by decide) (by decide) (cb' := ((((suC N M0 P.1) - 1) - 0) - (prC M0 P.1))) (sb' := ((((suL N M M0 P.1) - 3) - 0) - (prL M0 P.1))) (by omega) (by omega) rfl (rest := [.ref l2]) (Nat.le_of_ble_eq_true rfl) (fun q h => h.elim) dX1_sturm_10 (fun v_17 H_18 hpost_19 hz_20 hk_21 => ?_)
  obtain ⟨qp_14, rfl, hPp_15⟩ := hpost_19
  have hl_22 := LB.kf (eP_L κ _ _) hC_fr_16 (kF.ext hz_20 hk_21) aD.no aD.no hLB_l2
  refine V.eq (st' := [.ref qp_14, .ref l2]) rfl ?_
  refine V.frame (fun hfz_fr_23 hfk_fr_23 => ?_)
  rw [hH0] at hfz_fr_23 hfk_fr_23
  rw [hA0] at hfk_fr_23
  have hC_fr_23 := hC.call (fun q h => h.elim) hfz_fr_23 hfk_fr_23
  have hF_fr_23 : kF κ H0 H_18 (fun _ => False) := ⟨(fun _ h => h.elim), hfz_fr_23, hfk_fr_23⟩
  obtain ⟨md_25, g_26, hA_27, hel_28, hSl_29, hSb_30⟩ := id hl_22
  obtain ⟨md_36, g_37, hA_38, -⟩ := id hl_22
  refine v_callV E (As := [.ref qp_14]) (b := l2) (ci := 5) (C := RJ2) (T := TJ2) (N := 3) hA_38.1 rfl (j_addB κ H_18 hC_fr_23 (n := 0) (by decide) hPp_15.oA hA_27) (lw_V q208 q209 q210 q73 q211) 1 (by decide +kernel) rfl (by decide) (by decide) (cb' := (((((suC N M0 P.1) - 1) - 0) - (prC M0 P.1)) - 1)) (sb' := (((((suL N M M0 P.1) - 3) - 0) - (prL M0 P.1)) - 10)) (by show _ + 1 ≤ _; have := w1; omega) (by show _ + 10 ≤ _; have := w2; omega) rfl (rest := []) (Nat.le_of_ble_eq_true rfl) (fun q h => hNew q (h.elim (fun h => by rw [h]; exact hSl_29) (fun h => absurd h.2 (by decide)))) dX1_sturm_13 (fun v_31 H_32 hpost_33 hz_34 hk_35 => ?_)
  obtain ⟨rfl, b1, md3, g3, hA3, hg3, hgn3, hb3⟩ := hpost_33
  have hF0 := kF.lst hA_27 (fun q h => h.imp id (fun h => ⟨h.1, absurd h.2 (by decide)⟩)) hz_34 hk_35
  have hb1 : Array.size H_18 ≤ b1 := hb3.elim (fun h => absurd h.2 (by decide)) (fun h => h)
  have hp0 : Po κ (fun q => D q ∧ q ≠ l2 ∧ q ≠ b1) H_32 qp_14 (sq P 0) := (Po.mono hPp_15 (fun q h1 h2 => ⟨h2.1, h2.2, by omega⟩)).kf hC_fr_23 hF0 (aD.nn (fun q h hd => h.elim (fun e => hd.2.1 e) (fun e => hd.2.2 (absurd e.2 (by decide)))))
  have hLS : LB κ H0.size (eP κ (fun q => D q ∧ q ≠ l2 ∧ q ≠ b1) (sq P)) H_32 l2 b1 1 := LB.step (g := fun _ => none) (fun k9 hk9 => absurd hk9 (Nat.not_lt_zero _)) hp0 hA3 (fun k9 hk9 => absurd hk9 (Nat.not_lt_zero _)) hgn3 hSl_29 (Nat.le_trans hfz_fr_23 hb1)
  refine V.eq (st' := [vi 1]) rfl ?_
  refine v_pop E rfl dX1_sturm_16 ?_
  refine v_aload_n E 1 rfl dX1_sturm_17 ?_
  refine V.frame (fun hfz_fr_39 hfk_fr_39 => ?_)
  rw [hH0] at hfz_fr_39 hfk_fr_39
  rw [hA0] at hfk_fr_39
  have hC_fr_39 := hC.call (fun q h => h.elim) hfz_fr_39 hfk_fr_39
  have hF_fr_39 : kF κ H0 H_32 (fun _ => False) := ⟨(fun _ h => h.elim), hfz_fr_39, hfk_fr_39⟩
  have hb_45 := hF_fr_39.at hop (fun h => h)
  refine v_callV E (As := []) (b := p) (ci := 2) (C := RX3) (T := TX3) (N := 1) hb_45 rfl (p_deg κ H_32 hC_fr_39 (hP.kf hC hF_fr_39 aD.no)) (lw_V q617 q618 q619 q75 q620) 0 (by decide +kernel) rfl (by decide) (by decide) (cb' := ((((((suC N M0 P.1) - 1) - 0) - (prC M0 P.1)) - 1) - 0)) (sb' := ((((((suL N M M0 P.1) - 3) - 0) - (prL M0 P.1)) - 10) - 0)) (by omega) (by omega) rfl (rest := []) (Nat.le_of_ble_eq_true rfl) (fun q h => h.elim) dX1_sturm_18 (fun v_40 H_41 hpost_42 hz_43 hk_44 => ?_)
  obtain rfl := hpost_42
  have hl_46 := LB.kf (eP_L κ _ _) hC_fr_39 (kF.ext hz_43 hk_44) aD.no aD.no hLS
  refine V.eq (st' := [vi ((P.1 : Int) - 1)]) rfl ?_
  refine v_if_le E (tgt := 107) dX1_sturm_21 (by decide) ⟨by omega, by omega⟩ (fun c_21 => ?_) (fun c_21 => ?_)
  · refine v_aload_n E 0 rfl dX1_sturm_107 ?_
    refine v_aret E hE rfl (Or.inl ⟨_, rfl⟩) dX1_sturm_108 (Or.inr ⟨_, rfl⟩) ?_
    exact ⟨l2, rfl, by rw [show seqLen P = 1 from if_pos (by omega)]; exact LB.toSQ hl_46 hDU (fun q h => h.1)⟩
  · have hP1 : 2 ≤ P.1 := by omega
    have w1x : suC N M0 P.1 = 3 + prC M0 P.1 + (3 * (P.1 - 1) + 3 + prC M0 (P.1 - 1) + stC N 9 P.1 (P.1 - 1)) := by unfold suC; rw [if_neg (by omega)]
    have w2x : suL N M M0 P.1 = 14 + prL M0 P.1 + ((2 * M0 + 9) * (P.1 - 1) + 14 + prL M0 (P.1 - 1) + stL N M 9 P.1 (P.1 - 1)) := by unfold suL; rw [if_neg (by omega)]
    have w1y : stC N 9 P.1 (P.1 - 1) = _ := stC_s (N := N) (f := 8) (n := P.1) (m := P.1 - 1) (by omega)
    have w2y : stL N M 9 P.1 (P.1 - 1) = _ := stL_s (N := N) (M := M) (f := 8) (n := P.1) (m := P.1 - 1) (by omega)
    have l0 : (sq P 0).1 = P.1 := cPrim_len hnf
    have hdl := cDer_len hnf
    have l1 : (sq P 1).1 = P.1 - 1 := (cPrim_len (nf_mk _ _)).trans hdl
    have hposn : 0 < (sq P 1).1 := by omega
    have hlen7 : (sq P 0).1 ≤ 7 := by omega
    have hall0 : ∀ i, i ≤ 0 → 0 < (sq P (i + 1)).1 := fun i hi => by rw [show i = 0 by omega]; exact hposn
    have hfn := hfit 0 hall0
    have hpd := prC_le (N := M0) (Nat.le_of_eq hdl)
    have hpe := prL_le (N := M0) (Nat.le_of_eq hdl)
    have w3 : seqLen P = sl P 7 2 ∨ True := Or.inr trivial
    have ha1 := al_k 1 (by decide)
    have ha2 : al0 1 = 0 := rfl
    refine v_aload_n E 0 rfl dX1_sturm_24 ?_
    refine v_aload_n E 1 rfl dX1_sturm_25 ?_
    refine V.frame (fun hfz_fr_47 hfk_fr_47 => ?_)
    rw [hH0] at hfz_fr_47 hfk_fr_47
    rw [hA0] at hfk_fr_47
    have hC_fr_47 := hC.call (fun q h => h.elim) hfz_fr_47 hfk_fr_47
    have hF_fr_47 : kF κ H0 H_41 (fun _ => False) := ⟨(fun _ h => h.elim), hfz_fr_47, hfk_fr_47⟩
    refine v_callS E (As := [.ref p]) (p_der κ H_41 (D := (fun q => D q ∧ q ≠ l2 ∧ q ≠ b1)) (N := M0) hC_fr_47 (fun q h => ⟨hDU q (Nat.le_trans hfz_fr_47 h), by have := (Exists.choose_spec (Exists.choose_spec hl_46)).1.1.lt; omega, by have := (Exists.choose_spec (Exists.choose_spec hl_46)).1.2.1.lt; omega⟩) h7 hM40.2.2 hM0 ((Po.mono hP (fun q h1 h2 => ⟨h2, by omega, by omega⟩)).kf hC hF_fr_47 aD.no)) (lw_S q1106 q1107 q70 q1108) 1 (by decide +kernel) rfl (by decide) (by decide) (cb' := (((((((suC N M0 P.1) - 1) - 0) - (prC M0 P.1)) - 1) - 0) - (3 * (P.1 - 1) + 3))) (sb' := (((((((suL N M M0 P.1) - 3) - 0) - (prL M0 P.1)) - 10) - 0) - ((2 * M0 + 9) * (P.1 - 1) + 14))) (by omega) (by omega) rfl (rest := [.ref l2]) (Nat.le_of_ble_eq_true rfl) (fun q h => h.elim) dX1_sturm_26 (fun v_48 H_49 hpost_50 hz_51 hk_52 => ?_)
    obtain ⟨qd, rfl, hPd⟩ := hpost_50
    have hl_53 := LB.kf (eP_L κ _ _) hC_fr_47 (kF.ext hz_51 hk_52) aD.no aD.no hl_46
    refine V.eq (st' := [.ref qd, .ref l2]) rfl ?_
    refine V.frame (fun hfz_fr_56 hfk_fr_56 => ?_)
    rw [hH0] at hfz_fr_56 hfk_fr_56
    rw [hA0] at hfk_fr_56
    have hC_fr_56 := hC.call (fun q h => h.elim) hfz_fr_56 hfk_fr_56
    have hF_fr_56 : kF κ H0 H_49 (fun _ => False) := ⟨(fun _ h => h.elim), hfz_fr_56, hfk_fr_56⟩
    refine v_callS E (As := [.ref qd]) (p_primW κ H_49 (D := (fun q => D q ∧ q ≠ l2 ∧ q ≠ b1)) (N := M0) hC_fr_56 (fun q h => ⟨hDU q (Nat.le_trans hfz_fr_56 h), by have := (Exists.choose_spec (Exists.choose_spec hl_53)).1.1.lt; omega, by have := (Exists.choose_spec (Exists.choose_spec hl_53)).1.2.1.lt; omega⟩) (Nat.le_trans (pl_le _ _) (by omega)) (hM40).2.2 hM01 hPd) (lw_S q1154 q1155 q70 q1156) 1 (by decide +kernel) rfl (by decide) (by decide) (cb' := ((((((((suC N M0 P.1) - 1) - 0) - (prC M0 P.1)) - 1) - 0) - (3 * (P.1 - 1) + 3)) - (prC M0 (cDer P).1))) (sb' := ((((((((suL N M M0 P.1) - 3) - 0) - (prL M0 P.1)) - 10) - 0) - ((2 * M0 + 9) * (P.1 - 1) + 14)) - (prL M0 (cDer P).1))) (by omega) (by omega) rfl (rest := [.ref l2]) (Nat.le_of_ble_eq_true rfl) (fun q h => h.elim) dX1_sturm_29 (fun v_57 H_58 hpost_59 hz_60 hk_61 => ?_)
    obtain ⟨qp_54, rfl, hPp_55⟩ := hpost_59
    have hl_62 := LB.kf (eP_L κ _ _) hC_fr_56 (kF.ext hz_60 hk_61) aD.no aD.no hl_53
    have hl_63 := Po.kf hC_fr_56 (kF.ext hz_60 hk_61) aD.no hPd
    refine V.eq (st' := [.ref qp_54, .ref l2]) rfl ?_
    refine V.frame (fun hfz_fr_64 hfk_fr_64 => ?_)
    rw [hH0] at hfz_fr_64 hfk_fr_64
    rw [hA0] at hfk_fr_64
    have hC_fr_64 := hC.call (fun q h => h.elim) hfz_fr_64 hfk_fr_64
    have hF_fr_64 : kF κ H0 H_58 (fun _ => False) := ⟨(fun _ h => h.elim), hfz_fr_64, hfk_fr_64⟩
    obtain ⟨md_65, g_66, hA_67, hel_68, hSl_69, hSb_70⟩ := id hl_62
    have hal_71 := al_k 1 (show 1 < 10 by omega)
    obtain ⟨md_77, g_78, hA_79, -⟩ := id hl_62
    refine v_callV E (As := [.ref qp_54]) (b := l2) (ci := 5) (C := RJ2) (T := TJ2) (N := 3) hA_79.1 rfl (j_addS κ H_58 hC_fr_64 (show 0 < 1 by omega) (show 1 < 10 by omega) hPp_55.oA hA_67) (lw_V q208 q209 q210 q73 q211) 1 (by decide +kernel) rfl (by decide) (by decide) (cb' := (((((((((suC N M0 P.1) - 1) - 0) - (prC M0 P.1)) - 1) - 0) - (3 * (P.1 - 1) + 3)) - (prC M0 (cDer P).1)) - 0)) (sb' := (((((((((suL N M M0 P.1) - 3) - 0) - (prL M0 P.1)) - 10) - 0) - ((2 * M0 + 9) * (P.1 - 1) + 14)) - (prL M0 (cDer P).1)) - 0)) (by omega) (by omega) rfl (rest := []) (Nat.le_of_ble_eq_true rfl) (fun q h => hNew q (h.elim (fun h => by rw [h]; exact Nat.le_trans (Nat.le_refl _) hSl_69) (fun h => by rw [h.1]; exact Nat.le_trans (Nat.le_refl _) (hSb_70 h.2)))) dX1_sturm_32 (fun v_72 H_73 hpost_74 hz_75 hk_76 => ?_)
    obtain ⟨rfl, md_81, g_82, hA_83, hg_84, hgn_85⟩ := hpost_74
    have hF_87 := (kF.lst hA_67 (fun q h => h.imp id (fun h => ⟨h.1, capR_pos h.2⟩)) hz_75 hk_76)
    have hl_88 := Po.kf hC_fr_64 hF_87 (aD.nn (fun q h hd => h.elim (fun e => hd.2.1 e) (fun e => hd.2.2 e.1))) hl_63
    have hl_89 := Po.kf hC_fr_64 hF_87 (aD.nn (fun q h hd => h.elim (fun e => hd.2.1 e) (fun e => hd.2.2 e.1))) hPp_55
    have hv_91 := Po.kf hC_fr_64 hF_87 (aD.nn (fun q h hd => h.elim (fun e => hd.2.1 e) (fun e => hd.2.2 e.1))) hPp_55
    have hLB_90 : LB κ H0.size (eP κ (fun q => D q ∧ q ≠ l2 ∧ q ≠ b1) (sq P)) H_73 l2 b1 (1 + 1) := LB.step (fun k9 hk9 => (hel_68 k9 hk9).elim (fun y hy => ⟨y, hy.1, (eP_L κ _ _) _ _ _ _ _ hC_fr_64 hF_87 (aD.nn (fun q h hd => h.elim (fun e => hd.2.1 e) (fun e => hd.2.2 e.1))) hy.2⟩)) hv_91 hA_83 hg_84 hgn_85 hSl_69 (hSb_70 (by omega))
    refine V.eq (st' := [vi 1]) rfl ?_
    refine v_pop E rfl dX1_sturm_35 ?_
    refine v_aload_n E 0 rfl dX1_sturm_36 ?_
    refine v_iconst E dX1_sturm_37 ?_
    refine V.frame (fun hfz_fr_92 hfk_fr_92 => ?_)
    rw [hH0] at hfz_fr_92 hfk_fr_92
    rw [hA0] at hfk_fr_92
    have hC_fr_92 := hC.call (fun q h => h.elim) hfz_fr_92 hfk_fr_92
    have hF_fr_92 : kF κ H0 H_73 (fun _ => False) := ⟨(fun _ h => h.elim), hfz_fr_92, hfk_fr_92⟩
    obtain ⟨md_94, g_95, hA_96, hel_97, hSl_98, hSb_99⟩ := id hLB_90
    obtain ⟨y_100, hy_101, hE_102⟩ := hel_97 0 (by omega)
    obtain ⟨md_108, g_109, hA_110, -⟩ := id hLB_90
    refine v_callV E (As := [vi 0]) (b := l2) (ci := 5) (C := RJ2) (T := TJ2) (N := 3) hA_110.1 rfl (j_get κ H_73 (i := 0) (y := y_100) (by omega) hy_101 hA_96) (lw_V q610 q156 q157 q73 q158) 1 (by decide +kernel) rfl (by decide) (by decide) (cb' := ((((((((((suC N M0 P.1) - 1) - 0) - (prC M0 P.1)) - 1) - 0) - (3 * (P.1 - 1) + 3)) - (prC M0 (cDer P).1)) - 0) - 0)) (sb' := ((((((((((suL N M M0 P.1) - 3) - 0) - (prL M0 P.1)) - 10) - 0) - ((2 * M0 + 9) * (P.1 - 1) + 14)) - (prL M0 (cDer P).1)) - 0) - 0)) (by omega) (by omega) rfl (rest := []) (Nat.le_of_ble_eq_true rfl) (fun q h => h.elim) dX1_sturm_38 (fun v_103 H_104 hpost_105 hz_106 hk_107 => ?_)
    obtain rfl := hpost_105
    have hl_111 := Po.kf hC_fr_92 (kF.ext hz_106 hk_107) aD.no hl_88
    have hl_112 := Po.kf hC_fr_92 (kF.ext hz_106 hk_107) aD.no hl_89
    have hl_113 := LB.kf (eP_L κ _ _) hC_fr_92 (kF.ext hz_106 hk_107) aD.no aD.no hLB_90
    have hl_114 := Po.kf hC_fr_92 (kF.ext hz_106 hk_107) aD.no hE_102
    refine V.eq (st' := [.ref y_100]) rfl ?_
    obtain ⟨-, -, l_116, ho_115, -⟩ := id hl_114
    refine v_castS E ho_115 (q := (RX3, TX3, 1)) rfl q145 dX1_sturm_41 ?_
    refine v_aload_n E 0 rfl dX1_sturm_44 ?_
    refine v_iconst E dX1_sturm_45 ?_
    refine V.frame (fun hfz_fr_117 hfk_fr_117 => ?_)
    rw [hH0] at hfz_fr_117 hfk_fr_117
    rw [hA0] at hfk_fr_117
    have hC_fr_117 := hC.call (fun q h => h.elim) hfz_fr_117 hfk_fr_117
    have hF_fr_117 : kF κ H0 H_104 (fun _ => False) := ⟨(fun _ h => h.elim), hfz_fr_117, hfk_fr_117⟩
    obtain ⟨md_119, g_120, hA_121, hel_122, hSl_123, hSb_124⟩ := id hl_113
    obtain ⟨y_125, hy_126, hE_127⟩ := hel_122 1 (by omega)
    obtain ⟨md_133, g_134, hA_135, -⟩ := id hl_113
    refine v_callV E (As := [vi 1]) (b := l2) (ci := 5) (C := RJ2) (T := TJ2) (N := 3) hA_135.1 rfl (j_get κ H_104 (i := 1) (y := y_125) (by omega) hy_126 hA_121) (lw_V q610 q156 q157 q73 q158) 1 (by decide +kernel) rfl (by decide) (by decide) (cb' := (((((((((((suC N M0 P.1) - 1) - 0) - (prC M0 P.1)) - 1) - 0) - (3 * (P.1 - 1) + 3)) - (prC M0 (cDer P).1)) - 0) - 0) - 0)) (sb' := (((((((((((suL N M M0 P.1) - 3) - 0) - (prL M0 P.1)) - 10) - 0) - ((2 * M0 + 9) * (P.1 - 1) + 14)) - (prL M0 (cDer P).1)) - 0) - 0) - 0)) (by omega) (by omega) rfl (rest := [.ref y_100]) (Nat.le_of_ble_eq_true rfl) (fun q h => h.elim) dX1_sturm_46 (fun v_128 H_129 hpost_130 hz_131 hk_132 => ?_)
    obtain rfl := hpost_130
    have hl_136 := Po.kf hC_fr_117 (kF.ext hz_131 hk_132) aD.no hl_111
    have hl_137 := Po.kf hC_fr_117 (kF.ext hz_131 hk_132) aD.no hl_112
    have hl_138 := LB.kf (eP_L κ _ _) hC_fr_117 (kF.ext hz_131 hk_132) aD.no aD.no hl_113
    have hl_139 := Po.kf hC_fr_117 (kF.ext hz_131 hk_132) aD.no hl_114
    have hl_140 := Po.kf hC_fr_117 (kF.ext hz_131 hk_132) aD.no hE_127
    refine V.eq (st' := [.ref y_125, .ref y_100]) rfl ?_
    obtain ⟨-, -, l_142, ho_141, -⟩ := id hl_140
    refine v_castS E ho_141 (q := (RX3, TX3, 1)) rfl q145 dX1_sturm_49 ?_
    refine V.frame (fun hfz_fr_145 hfk_fr_145 => ?_)
    rw [hH0] at hfz_fr_145 hfk_fr_145
    rw [hA0] at hfk_fr_145
    have hC_fr_145 := hC.call (fun q h => h.elim) hfz_fr_145 hfk_fr_145
    have hF_fr_145 : kF κ H0 H_129 (fun _ => False) := ⟨(fun _ h => h.elim), hfz_fr_145, hfk_fr_145⟩
    refine v_callS E (As := [.ref y_100, .ref y_125]) (p_rem κ H_129 (D := (fun q => D q ∧ q ≠ l2 ∧ q ≠ b1)) (N := (N (sq P 0).1 (sq P 1).1)) (M := (M (sq P 1).1)) hC_fr_145 (fun q h => ⟨hDU q (Nat.le_trans hfz_fr_145 h), by have := (Exists.choose_spec (Exists.choose_spec hl_138)).1.1.lt; omega, by have := (Exists.choose_spec (Exists.choose_spec hl_138)).1.2.1.lt; omega⟩) hposn hlen7 (hT (sq P 0).1 (sq P 1).1).1 (hT (sq P 0).1 (sq P 1).1).2.1 hfn.2 hfn.1 hl_139 hl_140) (lw_S q1145 q1146 q70 q1147) 2 (by decide +kernel) rfl (by decide) (by decide) (cb' := ((((((((((((suC N M0 P.1) - 1) - 0) - (prC M0 P.1)) - 1) - 0) - (3 * (P.1 - 1) + 3)) - (prC M0 (cDer P).1)) - 0) - 0) - 0) - (1 + rmC (sq P 1).1 (sq P 0).1))) (sb' := ((((((((((((suL N M M0 P.1) - 3) - 0) - (prL M0 P.1)) - 10) - 0) - ((2 * M0 + 9) * (P.1 - 1) + 14)) - (prL M0 (cDer P).1)) - 0) - 0) - 0) - (6 + rmL (sq P 1).1 (N (sq P 0).1 (sq P 1).1 + M (sq P 1).1) (sq P 0).1))) (by rw [l0, l1]; omega) (by rw [l0, l1]; omega) rfl (rest := []) (Nat.le_of_ble_eq_true rfl) (fun q h => h.elim) dX1_sturm_52 (fun v_146 H_147 hpost_148 hz_149 hk_150 => ?_)
    obtain ⟨rq_143, rfl, hRq_144⟩ := hpost_148
    have hl_151 := Po.kf hC_fr_145 (kF.ext hz_149 hk_150) aD.no hl_136
    have hl_152 := Po.kf hC_fr_145 (kF.ext hz_149 hk_150) aD.no hl_137
    have hl_153 := LB.kf (eP_L κ _ _) hC_fr_145 (kF.ext hz_149 hk_150) aD.no aD.no hl_138
    have hl_154 := Po.kf hC_fr_145 (kF.ext hz_149 hk_150) aD.no hl_139
    have hl_155 := Po.kf hC_fr_145 (kF.ext hz_149 hk_150) aD.no hl_140
    refine V.eq (st' := [.ref rq_143]) rfl ?_
    refine v_astore_n E dX1_sturm_55 (zlt hL rfl) (lv' := [(2, .ref rq_143), (1, .ref l2), (0, .ref p)]) rfl ?_
    have loop_56 : ∀ (m_56 : Nat) (H : Heap) (L f rq cb sb : Nat), f < m_56 → (2 ≤ L) → ((sq P (L - 1)).1 ≤ f) → (seqLen P = sl P f L) → (0 < (sq P (L - 1)).1) → ((sq P (L - 1)).1 < (sq P (L - 2)).1) → (L + (sq P (L - 1)).1 ≤ 8) → (∀ i, i ≤ L - 2 → 0 < (sq P (i + 1)).1) → (hdC N f (sq P (L - 2)).1 (sq P (L - 1)).1 ≤ cb) → (hdL N M f (sq P (L - 2)).1 (sq P (L - 1)).1 ≤ sb) → LB κ H0.size (eP κ (fun q => D q ∧ q ≠ l2 ∧ q ≠ b1) (sq P)) H l2 b1 L → Po κ (fun q => D q ∧ q ≠ l2 ∧ q ≠ b1) H rq (cRem (sq P (L - 2)) (sq P (L - 1))) → V z H cb sb 56 [(2, .ref rq), (1, .ref l2)] [] := by
      intro m_56
      induction m_56 with
      | zero => intro H L f rq cb sb hm; exact absurd hm (by omega)
      | succ m_56 ih_56 =>
        intro H L f rq cb sb hm_56 hL2 hf hsl hpos hdec hL8 hall hcb hsb hLS hRq
        have hfk := hfit (L - 2) hall
        rw [show L - 2 + 1 = L - 1 by omega] at hfk
        have hltA := cRem_lt (P := sq P (L - 2)) hpos
        refine v_aload_n E 0 rfl dX1_sturm_56 ?_
        refine V.frame (fun hfz_fr_156 hfk_fr_156 => ?_)
        rw [hH0] at hfz_fr_156 hfk_fr_156
        rw [hA0] at hfk_fr_156
        have hC_fr_156 := hC.call (fun q h => h.elim) hfz_fr_156 hfk_fr_156
        have hF_fr_156 : kF κ H0 H (fun _ => False) := ⟨(fun _ h => h.elim), hfz_fr_156, hfk_fr_156⟩
        obtain ⟨-, -, l_163, ho_162, -⟩ := id hRq
        refine v_callV E (As := []) (b := rq) (ci := 2) (C := RX3) (T := TX3) (N := 1) ho_162 rfl (p_deg κ H hC_fr_156 hRq) (lw_V q617 q618 q619 q75 q620) 0 (by decide +kernel) rfl (by decide) (by decide) (cb' := (cb - 0)) (sb' := (sb - 0)) (by omega) (by omega) rfl (rest := []) (Nat.le_of_ble_eq_true rfl) (fun q h => h.elim) dX1_sturm_57 (fun v_157 H_158 hpost_159 hz_160 hk_161 => ?_)
        obtain rfl := hpost_159
        have hl_164 := LB.kf (eP_L κ _ _) hC_fr_156 (kF.ext hz_160 hk_161) aD.no aD.no hLS
        have hl_165 := Po.kf hC_fr_156 (kF.ext hz_160 hk_161) aD.no hRq
        refine V.eq (st' := [vi (((Prod.fst (cRem (sq P (L - 2)) (sq P (L - 1))) : Nat) : Int) - 1)]) rfl ?_
        refine v_if_lt E (tgt := 107) dX1_sturm_60 (by decide) ⟨by omega, by omega⟩ (fun c_60 => ?_) (fun c_60 => ?_)
        · refine v_aload_n E 1 rfl dX1_sturm_107 ?_
          refine v_aret E hE rfl (Or.inl ⟨_, rfl⟩) dX1_sturm_108 (Or.inr ⟨_, rfl⟩) ?_
          exact ⟨l2, rfl, by rw [hsl.trans (sl_e (by omega))]; exact LB.toSQ hl_164 hDU (fun q h => h.1)⟩
        · have hlen : (sq P L).1 = (cRem (sq P (L - 2)) (sq P (L - 1))).1 := sq_lenL hnf hL2
          have hlt9 := cRem_lt (P := sq P (L - 2)) hpos
          have e1 : L + 1 - 1 = L := by omega
          have e2 : L + 1 - 2 = L - 1 := by omega
          have hposn : 0 < (sq P (L + 1 - 1)).1 := by rw [e1]; omega
          have hdecn : (sq P (L + 1 - 1)).1 < (sq P (L + 1 - 2)).1 := by rw [e1, e2]; omega
          have halln : ∀ i, i ≤ L + 1 - 2 → 0 < (sq P (i + 1)).1 := fun i hi => by
            by_cases e : i ≤ L - 2
            · exact hall i e
            · rw [show i + 1 = L + 1 - 1 by omega]; exact hposn
          have hfn := hfit (L + 1 - 2) halln
          rw [show L + 1 - 2 + 1 = L + 1 - 1 by omega] at hfn
          have hsl2 : seqLen P = sl P (f - 1) (L + 1) := hsl.trans (sl_s (by omega) (by omega))
          have e2' : sq P (L + 1 - 2) = sq P (L - 1) := by rw [e2]
          have hlen7 : (sq P (L + 1 - 2)).1 ≤ 7 := by rw [e2]; omega
          have hn1 := hd_next (N := N) (f := f) (n := (sq P (L - 2)).1) (m := (sq P (L - 1)).1) (m' := (sq P (L + 1 - 1)).1) (by omega) hposn (by rw [← e2']; exact hdecn)
          have hn2 := hdL_next (N := N) (M := M) (f := f) (n := (sq P (L - 2)).1) (m := (sq P (L - 1)).1) (m' := (sq P (L + 1 - 1)).1) (by omega) hposn (by rw [← e2']; exact hdecn)
          have hcl := cNeg_le (cRem (sq P (L - 2)) (sq P (L - 1)))
          have hpc := prC_le (N := N (sq P (L - 2)).1 (sq P (L - 1)).1) (a := (cNeg (cRem (sq P (L - 2)) (sq P (L - 1)))).1) (b := (sq P (L - 1)).1 - 1) (by omega)
          have hpl := prL_le (N := N (sq P (L - 2)).1 (sq P (L - 1)).1) (a := (cNeg (cRem (sq P (L - 2)) (sq P (L - 1)))).1) (b := (sq P (L - 1)).1 - 1) (by omega)
          have hal0 : al0 L = 0 := if_neg (by omega)
          refine v_aload_n E 1 rfl dX1_sturm_63 ?_
          refine v_aload_n E 0 rfl dX1_sturm_64 ?_
          refine V.frame (fun hfz_fr_166 hfk_fr_166 => ?_)
          rw [hH0] at hfz_fr_166 hfk_fr_166
          rw [hA0] at hfk_fr_166
          have hC_fr_166 := hC.call (fun q h => h.elim) hfz_fr_166 hfk_fr_166
          have hF_fr_166 : kF κ H0 H_158 (fun _ => False) := ⟨(fun _ h => h.elim), hfz_fr_166, hfk_fr_166⟩
          refine v_callS E (As := [.ref rq]) (p_neg κ H_158 (D := (fun q => D q ∧ q ≠ l2 ∧ q ≠ b1)) hC_fr_166 (fun q h => ⟨hDU q (Nat.le_trans hfz_fr_166 h), by have := (Exists.choose_spec (Exists.choose_spec hl_164)).1.1.lt; omega, by have := (Exists.choose_spec (Exists.choose_spec hl_164)).1.2.1.lt; omega⟩) (by have := cRem_lt (P := sq P (L - 2)) hpos; omega) hl_165) (lw_S q1447 q1448 q70 q1449) 1 (by decide +kernel) rfl (by decide) (by decide) (cb' := ((cb - 0) - ((cRem (sq P (L - 2)) (sq P (L - 1))).1 + 4))) (sb' := ((sb - 0) - (6 * (cRem (sq P (L - 2)) (sq P (L - 1))).1 + 18))) (by omega) (by omega) rfl (rest := [.ref l2]) (Nat.le_of_ble_eq_true rfl) (fun q h => h.elim) dX1_sturm_65 (fun v_167 H_168 hpost_169 hz_170 hk_171 => ?_)
          obtain ⟨qn, rfl, hPn⟩ := hpost_169
          have hl_172 := LB.kf (eP_L κ _ _) hC_fr_166 (kF.ext hz_170 hk_171) aD.no aD.no hl_164
          have hl_173 := Po.kf hC_fr_166 (kF.ext hz_170 hk_171) aD.no hl_165
          refine V.eq (st' := [.ref qn, .ref l2]) rfl ?_
          refine V.frame (fun hfz_fr_176 hfk_fr_176 => ?_)
          rw [hH0] at hfz_fr_176 hfk_fr_176
          rw [hA0] at hfk_fr_176
          have hC_fr_176 := hC.call (fun q h => h.elim) hfz_fr_176 hfk_fr_176
          have hF_fr_176 : kF κ H0 H_168 (fun _ => False) := ⟨(fun _ h => h.elim), hfz_fr_176, hfk_fr_176⟩
          refine v_callS E (As := [.ref qn]) (p_primW κ H_168 (D := (fun q => D q ∧ q ≠ l2 ∧ q ≠ b1)) (N := (N (sq P (L - 2)).1 (sq P (L - 1)).1)) hC_fr_176 (fun q h => ⟨hDU q (Nat.le_trans hfz_fr_176 h), by have := (Exists.choose_spec (Exists.choose_spec hl_172)).1.1.lt; omega, by have := (Exists.choose_spec (Exists.choose_spec hl_172)).1.2.1.lt; omega⟩) (Nat.le_trans (pl_le _ _) (by have := cRem_lt (P := sq P (L - 2)) hpos; omega)) (hT _ _).2.2 (cNeg_fit (cRem_fit hfk.1)) hPn) (lw_S q1154 q1155 q70 q1156) 1 (by decide +kernel) rfl (by decide) (by decide) (cb' := (((cb - 0) - ((cRem (sq P (L - 2)) (sq P (L - 1))).1 + 4)) - (prC (N (sq P (L - 2)).1 (sq P (L - 1)).1) (cNeg (cRem (sq P (L - 2)) (sq P (L - 1)))).1))) (sb' := (((sb - 0) - (6 * (cRem (sq P (L - 2)) (sq P (L - 1))).1 + 18)) - (prL (N (sq P (L - 2)).1 (sq P (L - 1)).1) (cNeg (cRem (sq P (L - 2)) (sq P (L - 1)))).1))) (by omega) (by omega) rfl (rest := [.ref l2]) (Nat.le_of_ble_eq_true rfl) (fun q h => h.elim) dX1_sturm_68 (fun v_177 H_178 hpost_179 hz_180 hk_181 => ?_)
          obtain ⟨qp_174, rfl, hPp_175⟩ := hpost_179
          have hl_182 := LB.kf (eP_L κ _ _) hC_fr_176 (kF.ext hz_180 hk_181) aD.no aD.no hl_172
          have hl_183 := Po.kf hC_fr_176 (kF.ext hz_180 hk_181) aD.no hl_173
          have hl_184 := Po.kf hC_fr_176 (kF.ext hz_180 hk_181) aD.no hPn
          refine V.eq (st' := [.ref qp_174, .ref l2]) rfl ?_
          refine V.frame (fun hfz_fr_185 hfk_fr_185 => ?_)
          rw [hH0] at hfz_fr_185 hfk_fr_185
          rw [hA0] at hfk_fr_185
          have hC_fr_185 := hC.call (fun q h => h.elim) hfz_fr_185 hfk_fr_185
          have hF_fr_185 : kF κ H0 H_178 (fun _ => False) := ⟨(fun _ h => h.elim), hfz_fr_185, hfk_fr_185⟩
          obtain ⟨md_186, g_187, hA_188, hel_189, hSl_190, hSb_191⟩ := id hl_182
          have hal_192 := al_k L (show L < 10 by omega)
          obtain ⟨md_198, g_199, hA_200, -⟩ := id hl_182
          refine v_callV E (As := [.ref qp_174]) (b := l2) (ci := 5) (C := RJ2) (T := TJ2) (N := 3) hA_200.1 rfl (j_addS κ H_178 hC_fr_185 (show 0 < L by omega) (show L < 10 by omega) hPp_175.oA hA_188) (lw_V q208 q209 q210 q73 q211) 1 (by decide +kernel) rfl (by decide) (by decide) (cb' := ((((cb - 0) - ((cRem (sq P (L - 2)) (sq P (L - 1))).1 + 4)) - (prC (N (sq P (L - 2)).1 (sq P (L - 1)).1) (cNeg (cRem (sq P (L - 2)) (sq P (L - 1)))).1)) - 0)) (sb' := ((((sb - 0) - (6 * (cRem (sq P (L - 2)) (sq P (L - 1))).1 + 18)) - (prL (N (sq P (L - 2)).1 (sq P (L - 1)).1) (cNeg (cRem (sq P (L - 2)) (sq P (L - 1)))).1)) - 0)) (by omega) (by omega) rfl (rest := []) (Nat.le_of_ble_eq_true rfl) (fun q h => hNew q (h.elim (fun h => by rw [h]; exact Nat.le_trans (Nat.le_refl _) hSl_190) (fun h => by rw [h.1]; exact Nat.le_trans (Nat.le_refl _) (hSb_191 h.2)))) dX1_sturm_71 (fun v_193 H_194 hpost_195 hz_196 hk_197 => ?_)
          obtain ⟨rfl, md_202, g_203, hA_204, hg_205, hgn_206⟩ := hpost_195
          have hF_208 := (kF.lst hA_188 (fun q h => h.imp id (fun h => ⟨h.1, capR_pos h.2⟩)) hz_196 hk_197)
          have hl_209 := Po.kf hC_fr_185 hF_208 (aD.nn (fun q h hd => h.elim (fun e => hd.2.1 e) (fun e => hd.2.2 e.1))) hl_183
          have hl_210 := Po.kf hC_fr_185 hF_208 (aD.nn (fun q h hd => h.elim (fun e => hd.2.1 e) (fun e => hd.2.2 e.1))) hl_184
          have hl_211 := Po.kf hC_fr_185 hF_208 (aD.nn (fun q h hd => h.elim (fun e => hd.2.1 e) (fun e => hd.2.2 e.1))) hPp_175
          have hv_213 := Po.kf hC_fr_185 hF_208 (aD.nn (fun q h hd => h.elim (fun e => hd.2.1 e) (fun e => hd.2.2 e.1))) hPp_175
          have hLB_212 : LB κ H0.size (eP κ (fun q => D q ∧ q ≠ l2 ∧ q ≠ b1) (sq P)) H_194 l2 b1 (L + 1) := LB.step (fun k9 hk9 => (hel_189 k9 hk9).elim (fun y hy => ⟨y, hy.1, (eP_L κ _ _) _ _ _ _ _ hC_fr_185 hF_208 (aD.nn (fun q h hd => h.elim (fun e => hd.2.1 e) (fun e => hd.2.2 e.1))) hy.2⟩)) (by show Po κ _ _ _ (sq P L); rw [sqL hL2]; exact hv_213) hA_204 hg_205 hgn_206 hSl_190 (hSb_191 (by omega))
          refine V.eq (st' := [vi 1]) rfl ?_
          refine v_pop E rfl dX1_sturm_74 ?_
          refine v_aload_n E 1 rfl dX1_sturm_75 ?_
          obtain ⟨md_215, g_216, hA_217, hel_218, hSl_219, hSb_220⟩ := id hLB_212
          refine V.frame (fun hfz_fr_221 hfk_fr_221 => ?_)
          rw [hH0] at hfz_fr_221 hfk_fr_221
          rw [hA0] at hfk_fr_221
          have hC_fr_221 := hC.call (fun q h => h.elim) hfz_fr_221 hfk_fr_221
          have hF_fr_221 : kF κ H0 H_194 (fun _ => False) := ⟨(fun _ h => h.elim), hfz_fr_221, hfk_fr_221⟩
          obtain ⟨md_227, g_228, hA_229, -⟩ := id hLB_212
          refine v_callV E (As := []) (b := l2) (ci := 5) (C := RJ2) (T := TJ2) (N := 3) hA_229.1 rfl (j_size κ H_194 hA_217) (lw_V q286 q152 q153 q73 q154) 0 (by decide +kernel) rfl (by decide) (by decide) (cb' := (((((cb - 0) - ((cRem (sq P (L - 2)) (sq P (L - 1))).1 + 4)) - (prC (N (sq P (L - 2)).1 (sq P (L - 1)).1) (cNeg (cRem (sq P (L - 2)) (sq P (L - 1)))).1)) - 0) - 0)) (sb' := (((((sb - 0) - (6 * (cRem (sq P (L - 2)) (sq P (L - 1))).1 + 18)) - (prL (N (sq P (L - 2)).1 (sq P (L - 1)).1) (cNeg (cRem (sq P (L - 2)) (sq P (L - 1)))).1)) - 0) - 0)) (by omega) (by omega) rfl (rest := []) (Nat.le_of_ble_eq_true rfl) (fun q h => h.elim) dX1_sturm_76 (fun v_222 H_223 hpost_224 hz_225 hk_226 => ?_)
          obtain rfl := hpost_224
          have hl_230 := Po.kf hC_fr_221 (kF.ext hz_225 hk_226) aD.no hl_209
          have hl_231 := Po.kf hC_fr_221 (kF.ext hz_225 hk_226) aD.no hl_210
          have hl_232 := Po.kf hC_fr_221 (kF.ext hz_225 hk_226) aD.no hl_211
          have hl_233 := LB.kf (eP_L κ _ _) hC_fr_221 (kF.ext hz_225 hk_226) aD.no aD.no hLB_212
          refine V.eq (st' := [vi (((L + 1) : Nat) : Int)]) rfl ?_
          refine v_istore_n E dX1_sturm_79 (zlt hL rfl) (lv' := [(3, vi (((L + 1) : Nat) : Int)), (2, .ref rq), (1, .ref l2)]) rfl ?_
          refine v_aload_n E 2 rfl dX1_sturm_80 ?_
          refine v_iload_n E 0 rfl dX1_sturm_81 ?_
          refine v_iconst E dX1_sturm_82 ?_
          refine v_isub E dX1_sturm_83 ?_
          refine V.topi (x' := (((L + 1 - 2) : Nat) : Int)) (congrArg iZ (by omega)) ?_
          refine V.frame (fun hfz_fr_234 hfk_fr_234 => ?_)
          rw [hH0] at hfz_fr_234 hfk_fr_234
          rw [hA0] at hfk_fr_234
          have hC_fr_234 := hC.call (fun q h => h.elim) hfz_fr_234 hfk_fr_234
          have hF_fr_234 : kF κ H0 H_223 (fun _ => False) := ⟨(fun _ h => h.elim), hfz_fr_234, hfk_fr_234⟩
          obtain ⟨md_236, g_237, hA_238, hel_239, hSl_240, hSb_241⟩ := id hl_233
          obtain ⟨y_242, hy_243, hE_244⟩ := hel_239 (L + 1 - 2) (by omega)
          obtain ⟨md_250, g_251, hA_252, -⟩ := id hl_233
          refine v_callV E (As := [vi (((L + 1 - 2) : Nat) : Int)]) (b := l2) (ci := 5) (C := RJ2) (T := TJ2) (N := 3) hA_252.1 rfl (j_get κ H_223 (i := (L + 1 - 2)) (y := y_242) (by omega) hy_243 hA_238) (lw_V q610 q156 q157 q73 q158) 1 (by decide +kernel) rfl (by decide) (by decide) (cb' := ((((((cb - 0) - ((cRem (sq P (L - 2)) (sq P (L - 1))).1 + 4)) - (prC (N (sq P (L - 2)).1 (sq P (L - 1)).1) (cNeg (cRem (sq P (L - 2)) (sq P (L - 1)))).1)) - 0) - 0) - 0)) (sb' := ((((((sb - 0) - (6 * (cRem (sq P (L - 2)) (sq P (L - 1))).1 + 18)) - (prL (N (sq P (L - 2)).1 (sq P (L - 1)).1) (cNeg (cRem (sq P (L - 2)) (sq P (L - 1)))).1)) - 0) - 0) - 0)) (by omega) (by omega) rfl (rest := []) (Nat.le_of_ble_eq_true rfl) (fun q h => h.elim) dX1_sturm_84 (fun v_245 H_246 hpost_247 hz_248 hk_249 => ?_)
          obtain rfl := hpost_247
          have hl_253 := Po.kf hC_fr_234 (kF.ext hz_248 hk_249) aD.no hl_230
          have hl_254 := Po.kf hC_fr_234 (kF.ext hz_248 hk_249) aD.no hl_231
          have hl_255 := Po.kf hC_fr_234 (kF.ext hz_248 hk_249) aD.no hl_232
          have hl_256 := LB.kf (eP_L κ _ _) hC_fr_234 (kF.ext hz_248 hk_249) aD.no aD.no hl_233
          have hl_257 := Po.kf hC_fr_234 (kF.ext hz_248 hk_249) aD.no hE_244
          refine V.eq (st' := [.ref y_242]) rfl ?_
          obtain ⟨-, -, l_259, ho_258, -⟩ := id hl_257
          refine v_castS E ho_258 (q := (RX3, TX3, 1)) rfl q145 dX1_sturm_87 ?_
          refine v_aload_n E 2 rfl dX1_sturm_90 ?_
          refine v_iload_n E 0 rfl dX1_sturm_91 ?_
          refine v_iconst E dX1_sturm_92 ?_
          refine v_isub E dX1_sturm_93 ?_
          refine V.topi (x' := (((L + 1 - 1) : Nat) : Int)) (congrArg iZ (by omega)) ?_
          refine V.frame (fun hfz_fr_260 hfk_fr_260 => ?_)
          rw [hH0] at hfz_fr_260 hfk_fr_260
          rw [hA0] at hfk_fr_260
          have hC_fr_260 := hC.call (fun q h => h.elim) hfz_fr_260 hfk_fr_260
          have hF_fr_260 : kF κ H0 H_246 (fun _ => False) := ⟨(fun _ h => h.elim), hfz_fr_260, hfk_fr_260⟩
          obtain ⟨md_262, g_263, hA_264, hel_265, hSl_266, hSb_267⟩ := id hl_256
          obtain ⟨y_268, hy_269, hE_270⟩ := hel_265 (L + 1 - 1) (by omega)
          obtain ⟨md_276, g_277, hA_278, -⟩ := id hl_256
          refine v_callV E (As := [vi (((L + 1 - 1) : Nat) : Int)]) (b := l2) (ci := 5) (C := RJ2) (T := TJ2) (N := 3) hA_278.1 rfl (j_get κ H_246 (i := (L + 1 - 1)) (y := y_268) (by omega) hy_269 hA_264) (lw_V q610 q156 q157 q73 q158) 1 (by decide +kernel) rfl (by decide) (by decide) (cb' := (((((((cb - 0) - ((cRem (sq P (L - 2)) (sq P (L - 1))).1 + 4)) - (prC (N (sq P (L - 2)).1 (sq P (L - 1)).1) (cNeg (cRem (sq P (L - 2)) (sq P (L - 1)))).1)) - 0) - 0) - 0) - 0)) (sb' := (((((((sb - 0) - (6 * (cRem (sq P (L - 2)) (sq P (L - 1))).1 + 18)) - (prL (N (sq P (L - 2)).1 (sq P (L - 1)).1) (cNeg (cRem (sq P (L - 2)) (sq P (L - 1)))).1)) - 0) - 0) - 0) - 0)) (by omega) (by omega) rfl (rest := [.ref y_242]) (Nat.le_of_ble_eq_true rfl) (fun q h => h.elim) dX1_sturm_94 (fun v_271 H_272 hpost_273 hz_274 hk_275 => ?_)
          obtain rfl := hpost_273
          have hl_279 := Po.kf hC_fr_260 (kF.ext hz_274 hk_275) aD.no hl_253
          have hl_280 := Po.kf hC_fr_260 (kF.ext hz_274 hk_275) aD.no hl_254
          have hl_281 := Po.kf hC_fr_260 (kF.ext hz_274 hk_275) aD.no hl_255
          have hl_282 := LB.kf (eP_L κ _ _) hC_fr_260 (kF.ext hz_274 hk_275) aD.no aD.no hl_256
          have hl_283 := Po.kf hC_fr_260 (kF.ext hz_274 hk_275) aD.no hl_257
          have hl_284 := Po.kf hC_fr_260 (kF.ext hz_274 hk_275) aD.no hE_270
          refine V.eq (st' := [.ref y_268, .ref y_242]) rfl ?_
          obtain ⟨-, -, l_286, ho_285, -⟩ := id hl_284
          refine v_castS E ho_285 (q := (RX3, TX3, 1)) rfl q145 dX1_sturm_97 ?_
          refine V.frame (fun hfz_fr_289 hfk_fr_289 => ?_)
          rw [hH0] at hfz_fr_289 hfk_fr_289
          rw [hA0] at hfk_fr_289
          have hC_fr_289 := hC.call (fun q h => h.elim) hfz_fr_289 hfk_fr_289
          have hF_fr_289 : kF κ H0 H_272 (fun _ => False) := ⟨(fun _ h => h.elim), hfz_fr_289, hfk_fr_289⟩
          refine v_callS E (As := [.ref y_242, .ref y_268]) (p_rem κ H_272 (D := (fun q => D q ∧ q ≠ l2 ∧ q ≠ b1)) (N := (N (sq P (L + 1 - 2)).1 (sq P (L + 1 - 1)).1)) (M := (M (sq P (L + 1 - 1)).1)) hC_fr_289 (fun q h => ⟨hDU q (Nat.le_trans hfz_fr_289 h), by have := (Exists.choose_spec (Exists.choose_spec hl_282)).1.1.lt; omega, by have := (Exists.choose_spec (Exists.choose_spec hl_282)).1.2.1.lt; omega⟩) hposn hlen7 (hT (sq P (L + 1 - 2)).1 (sq P (L + 1 - 1)).1).1 (hT (sq P (L + 1 - 2)).1 (sq P (L + 1 - 1)).1).2.1 hfn.2 hfn.1 hl_283 hl_284) (lw_S q1145 q1146 q70 q1147) 2 (by decide +kernel) rfl (by decide) (by decide) (cb' := (hdC N (f - 1) (sq P (L + 1 - 2)).1 (sq P (L + 1 - 1)).1)) (sb' := (hdL N M (f - 1) (sq P (L + 1 - 2)).1 (sq P (L + 1 - 1)).1)) (by rw [e2']; omega) (by rw [e2']; omega) rfl (rest := []) (Nat.le_of_ble_eq_true rfl) (fun q h => h.elim) dX1_sturm_100 (fun v_290 H_291 hpost_292 hz_293 hk_294 => ?_)
          obtain ⟨rq_287, rfl, hRq_288⟩ := hpost_292
          have hl_295 := Po.kf hC_fr_289 (kF.ext hz_293 hk_294) aD.no hl_279
          have hl_296 := Po.kf hC_fr_289 (kF.ext hz_293 hk_294) aD.no hl_280
          have hl_297 := Po.kf hC_fr_289 (kF.ext hz_293 hk_294) aD.no hl_281
          have hl_298 := LB.kf (eP_L κ _ _) hC_fr_289 (kF.ext hz_293 hk_294) aD.no aD.no hl_282
          have hl_299 := Po.kf hC_fr_289 (kF.ext hz_293 hk_294) aD.no hl_283
          have hl_300 := Po.kf hC_fr_289 (kF.ext hz_293 hk_294) aD.no hl_284
          refine V.eq (st' := [.ref rq_287]) rfl ?_
          refine v_astore_n E dX1_sturm_103 (zlt hL rfl) (lv' := [(2, .ref rq_287), (3, vi (((L + 1) : Nat) : Int)), (1, .ref l2)]) rfl ?_
          refine v_goto E (tgt := 56) dX1_sturm_104 (by decide) ?_
          refine V.sub [0, 2] (lv' := [(2, .ref rq_287), (1, .ref l2)]) rfl ?_
          exact ih_56  H_291 (L + 1) (f - 1) _ (hdC N (f - 1) (sq P (L + 1 - 2)).1 (sq P (L + 1 - 1)).1) (hdL N M (f - 1) (sq P (L + 1 - 2)).1 (sq P (L + 1 - 1)).1) (by omega) (by omega) (by rw [e1]; omega) hsl2 hposn hdecn (by rw [e1]; omega) halln (Nat.le_refl _) (Nat.le_refl _) hl_298 hRq_288
    refine V.sub [0, 1] (lv' := [(2, .ref rq_143), (1, .ref l2)]) rfl ?_
    exact loop_56 (8 + 1) H_147 2 8 rq_143 ((((((((((((suC N M0 P.1) - 1) - 0) - (prC M0 P.1)) - 1) - 0) - (3 * (P.1 - 1) + 3)) - (prC M0 (cDer P).1)) - 0) - 0) - 0) - (1 + rmC (sq P 1).1 (sq P 0).1)) ((((((((((((suL N M M0 P.1) - 3) - 0) - (prL M0 P.1)) - 10) - 0) - ((2 * M0 + 9) * (P.1 - 1) + 14)) - (prL M0 (cDer P).1)) - 0) - 0) - 0) - (6 + rmL (sq P 1).1 (N (sq P 0).1 (sq P 1).1 + M (sq P 1).1) (sq P 0).1)) (by omega) (by decide) (by show (sq P 1).1 ≤ 8; omega) (if_neg (by omega)) hposn (by show (sq P 1).1 < (sq P 0).1; omega) (by show 2 + (sq P 1).1 ≤ 8; omega) hall0 (by show hdC N 8 (sq P 0).1 (sq P 1).1 ≤ _; rw [l0, l1]; omega) (by show hdL N M 8 (sq P 0).1 (sq P 1).1 ≤ _; rw [l0, l1]; omega) hl_153 hRq_144
