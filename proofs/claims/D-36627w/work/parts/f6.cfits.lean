/-! PLAIN LAW 42: the component's sequences fit -/
def nN (n m : Nat) : Nat := if n ≤ 7 then (lB (n - 1) + (lG (n - 1) + 1) * (n + 1 - m)) / 32 + 1 else 1
def mM : Nat → Nat
  | 2 => 6
  | 3 => 4
  | 4 => 3
  | 5 => 2
  | _ => 1
def kK : Nat → Nat
  | 2 => 9
  | 3 => 7
  | 4 => 6
  | 5 => 6
  | 6 => 6
  | 7 => 7
  | _ => 4
theorem nN_le (n m : Nat) : nN n m ≤ 40 ∧ (1 ≤ m → nN n m ≤ 32) := by
  unfold nN
  by_cases h : n ≤ 7
  · rw [if_pos h]
    have h2 : n = 0 ∨ n = 1 ∨ n = 2 ∨ n = 3 ∨ n = 4 ∨ n = 5 ∨ n = 6 ∨ n = 7 := by omega
    rcases h2 with rfl | rfl | rfl | rfl | rfl | rfl | rfl | rfl <;> simp only [lB, lG, Nat.zero_sub, Nat.reduceSub, Nat.reduceAdd] <;> omega
  · rw [if_neg h]; omega
theorem mM_le (m : Nat) : mM m ≤ 6 ∧ 1 ≤ mM m := by unfold mM; split <;> omega
theorem okT_n : okT nN mM := fun n m => by
  have h1 := nN_le n m
  have h2 := mM_le m
  have h3 : m = 0 → mM m = 1 := fun e => by subst e; rfl
  omega
theorem nN_lt {g m : Nat} (h : g ≤ 6) : bB g * (2 * gB g) ^ (g + 1 + 1 - m) < 2 ^ (32 * nN (g + 1) m) := by
  refine Nat.lt_of_le_of_lt (pw_l g (g + 1 + 1 - m)) (Nat.pow_lt_pow_right (by decide) ?_)
  unfold nN
  rw [if_pos (by omega), show g + 1 - 1 = g by omega]
  omega
theorem mM_lt {g : Nat} (h : g ≤ 6) : bB g < 2 ^ (32 * mM (g + 1)) := by
  refine Nat.lt_of_le_of_lt (bB_l g) (Nat.pow_lt_pow_right (by decide) ?_)
  have h2 : g = 0 ∨ g = 1 ∨ g = 2 ∨ g = 3 ∨ g = 4 ∨ g = 5 ∨ g = 6 := by omega
  rcases h2 with rfl | rfl | rfl | rfl | rfl | rfl | rfl <;> decide +kernel
/-- a polynomial of the component whose sizes are known -/
def gd (P : Pl) : Prop := nf P ∧ P.1 ≤ 7 ∧ 0 < P.1 ∧ fs P.2
theorem gd.deg {P : Pl} (h : gd P) : pdeg P.2 = ((P.1 - 1 : Nat) : Int) := by
  have := h.1.deg h.2.1
  have := h.2.2.1
  omega
theorem gd.b {P : Pl} (h : gd P) (k : Nat) : (P.2 k).natAbs ≤ 2 ^ 21 := by
  by_cases c : k < 7
  · exact Nat.le_trans (h.2.2.2.all.2.1 k c) (by decide +kernel)
  · rw [h.1.2 k (by have := h.2.1; omega), Int.natAbs_zero]; exact Nat.zero_le _
theorem gd.row {P : Pl} (h : gd P) : ∃ L, isRow P.2 L := row_ex (by rw [h.deg]; omega)
/-- an element -/
def el (P : Pl) : Prop := nf P ∧ P.1 ≤ 7 ∧ 0 < P.1 ∧ ∀ k, (P.2 k).natAbs ≤ bB (P.1 - 1)
theorem gd.elt {P : Pl} (h : gd P) {L i : Nat} (hr : isRow P.2 L) (hi : i < L) : el (sq P i) ∧ eq7 (sq P i).2 (rsq P.2 i) ∧ pdeg (rsq P.2 i) = (((sq P i).1 - 1 : Nat) : Int) := by
  obtain ⟨a1, a2, a3, a4⟩ := (seq_row h.1 h.2.1 h.2.2.1 hr).2 i (by omega)
  have e1 := a1.deg a2
  have e2 := a4 hi
  have e3 : pdeg (rsq P.2 i) = (((sq P i).1 - 1 : Nat) : Int) := by rw [← a3.deg]; omega
  refine ⟨⟨a1, a2, e2, fun k => ?_⟩, a3, e3⟩
  by_cases c : k < 7
  · rw [a3 k c]
    exact row_bB hr h.2.2.2.hbq hi e3 k c
  · rw [a1.2 k (by omega), Int.natAbs_zero]; exact Nat.zero_le _
theorem gd.sg {P : Pl} (h : gd P) {L i : Nat} (hr : isRow P.2 L) (hi : i + 1 < L) (k : Nat) : ((sq P (i + 1)).2 k).natAbs ≤ gB ((sq P i).1 - 1) := by
  obtain ⟨_, _, b3⟩ := h.elt hr (show i < L by omega)
  obtain ⟨c1, c2, _⟩ := h.elt hr hi
  by_cases c : k < 7
  · rw [c2 k c]
    exact row_g hr h.2.2.2.hbq hi b3 k c
  · rw [c1.1.2 k (by have := c1.2.1; omega), Int.natAbs_zero]; exact Nat.zero_le _
theorem gd.hT {P : Pl} (h : gd P) : fitT P nN mM := by
  obtain ⟨L, hr⟩ := h.row
  intro k hk
  have hkL : k + 1 < L := by
    refine Classical.byContradiction fun w => ?_
    have hL := hr.1
    have h1 := hk (L - 1) (by omega)
    rw [show L - 1 + 1 = L by omega] at h1
    obtain ⟨a1, a2, a3, _⟩ := (seq_row h.1 h.2.1 h.2.2.1 hr).2 L (Nat.le_refl L)
    have e1 := a1.deg a2
    have e2 := hr.2.2.2
    rw [← a3.deg] at e2
    omega
  obtain ⟨b1, b2, _⟩ := h.elt hr (show k < L by omega)
  obtain ⟨c1, c2, _⟩ := h.elt hr hkL
  have e1 : (sq P k).1 - 1 + 1 = (sq P k).1 := by have := b1.2.2.1; omega
  have e2 : (sq P (k + 1)).1 - 1 + 1 = (sq P (k + 1)).1 := by have := c1.2.2.1; omega
  refine ⟨fitS_of b1.2.2.2 (h.sg hr hkL) (gB_1 _) c1.2.2.1 ?_, fun j => pow_i ?_⟩
  · have := nN_lt (g := (sq P k).1 - 1) (m := (sq P (k + 1)).1) (by have := b1.2.1; omega)
    rw [e1] at this
    exact this
  · have := mM_lt (g := (sq P (k + 1)).1 - 1) (by have := c1.2.1; omega)
    rw [e2] at this
    exact Nat.lt_of_le_of_lt (c1.2.2.2 j) this
theorem gd.hN {P : Pl} (h : gd P) : fitN P nN mM 1 := by
  have h24 : 6 * 2 ^ 21 ≤ 2 ^ 24 := by decide
  have p1 : 2 ^ 24 < 2 ^ (32 * 1) := by decide
  refine ⟨h.2.1, okT_n, by decide, fun k => pow_i (Nat.lt_of_le_of_lt (Nat.le_trans (h.b k) (by decide)) p1), fun k => pow_i (Nat.lt_of_le_of_lt (Nat.le_trans ?_ h24) p1), h.hT⟩
  show (cut (P.1 - 1) (fun k => P.2 (k + 1) * ((k : Int) + 1)) k).natAbs ≤ _
  unfold cut
  split
  · rw [Int.natAbs_mul, Nat.mul_comm]
    have := h.2.1
    exact Nat.mul_le_mul (by omega) (h.b (k + 1))
  · rw [Int.natAbs_zero]; exact Nat.zero_le _
/-- values -/
theorem sv_le {P : Pl} {A : Nat} (hA : ∀ k, (P.2 k).natAbs ≤ A) {n : Int} {e : Nat} (hn : -4294967296 < n ∧ n < 4294967296) (he : e ≤ 12) : ∀ j, (sv P n e j).natAbs ≤ A * 2 ^ (33 * j) := by
  intro j
  induction j with
  | zero => rw [Nat.mul_zero, Nat.pow_zero, Nat.mul_one]; exact hA _
  | succ j ih =>
    show (sv P n e j * n + P.2 (P.1 - 2 - j) * 2 ^ (e * (j + 1))).natAbs ≤ _
    have h1 := Int.natAbs_add_le (sv P n e j * n) (P.2 (P.1 - 2 - j) * 2 ^ (e * (j + 1)))
    have h2 : (sv P n e j * n).natAbs ≤ A * 2 ^ (33 * j) * 2 ^ 32 := by
      rw [Int.natAbs_mul]
      exact Nat.mul_le_mul ih (by omega)
    have h3 : (P.2 (P.1 - 2 - j) * 2 ^ (e * (j + 1))).natAbs ≤ A * 2 ^ (33 * j + 32) := by
      rw [Int.natAbs_mul, Int.natAbs_pow]
      refine Nat.mul_le_mul (hA _) (Nat.pow_le_pow_right (by decide) ?_)
      have : e * (j + 1) ≤ 12 * (j + 1) := Nat.mul_le_mul_right _ he
      omega
    have e2 : A * 2 ^ (33 * j) * 2 ^ 32 = A * 2 ^ (33 * j + 32) := by rw [Nat.mul_assoc, ← Nat.pow_add]
    have e3 : A * 2 ^ (33 * (j + 1)) = A * 2 ^ (33 * j + 32) + A * 2 ^ (33 * j + 32) := by
      rw [show 33 * (j + 1) = 33 * j + 32 + 1 by omega, Nat.pow_succ, ← Nat.mul_assoc]; omega
    rw [e2] at h2
    rw [e3]
    omega
theorem el.hV {P : Pl} (h : el P) {n : Int} {e : Nat} (h1 : -4294967296 < n) (h2 : n < 4294967296) (he : e ≤ 12) : fitV P n e (mM P.1) (kK P.1) := by
  have e1 : P.1 - 1 + 1 = P.1 := by have := h.2.2.1; omega
  have g6 : P.1 - 1 ≤ 6 := by have := h.2.1; omega
  have c7 : P.1 = 1 ∨ P.1 = 2 ∨ P.1 = 3 ∨ P.1 = 4 ∨ P.1 = 5 ∨ P.1 = 6 ∨ P.1 = 7 := by have := h.2.1; have := h.2.2.1; omega
  have hM := mM_lt g6
  rw [e1] at hM
  have hK : lB (P.1 - 1) + 33 * (P.1 - 1) < 32 * kK P.1 ∧ mM P.1 + 3 ≤ kK P.1 ∧ kK P.1 ≤ 44 := by
    rcases c7 with c | c | c | c | c | c | c <;> rw [c] <;> decide +kernel
  refine ⟨fun i => pow_i (Nat.lt_of_le_of_lt (h.2.2.2 i) hM), fun j hj => pow_i ?_, hK.2.1, hK.2.2⟩
  refine Nat.lt_of_le_of_lt (sv_le h.2.2.2 ⟨h1, h2⟩ he j) (Nat.lt_of_le_of_lt (Nat.mul_le_mul (bB_l _) (Nat.pow_le_pow_right (by decide) (show 33 * j ≤ 33 * (P.1 - 1) by omega))) ?_)
  rw [← Nat.pow_add]
  exact Nat.pow_lt_pow_right (by decide) hK.1
/-- a polynomial itself at a point -/
theorem gd.hV {P : Pl} (h : gd P) {n : Int} {e : Nat} (h1 : -4294967296 < n) (h2 : n < 4294967296) (he : e ≤ 12) : fitV P n e 1 7 := by
  refine ⟨fun i => pow_i (Nat.lt_of_le_of_lt (h.b i) (by decide)), fun j hj => pow_i ?_, by decide, by decide⟩
  refine Nat.lt_of_le_of_lt (sv_le h.b ⟨h1, h2⟩ he j) (Nat.lt_of_le_of_lt (Nat.mul_le_mul_left _ (Nat.pow_le_pow_right (by decide) (show 33 * j ≤ 198 by have := h.2.1; omega))) ?_)
  rw [← Nat.pow_add]
  exact Nat.pow_lt_pow_right (by decide) (by decide)
/-- lengths fall: a sum over a sequence -/
theorem sum_fall {f : Nat → Nat} {s : Nat → Nat} {L : Nat} (h7 : s 0 ≤ 7) (hp : ∀ i, i < L → 0 < s i) (hd : ∀ i, i + 1 < L → s (i + 1) < s i) : sumN (fun i => f (s i)) L ≤ sumN (fun i => f (i + 1)) 7 := by
  have mono : ∀ a b, a ≤ b → sumN (fun i => f (i + 1)) a ≤ sumN (fun i => f (i + 1)) b := by
    intro a b h
    induction b with
    | zero => rw [show a = 0 by omega]; exact Nat.le_refl _
    | succ b ih =>
      by_cases c : a = b + 1
      · rw [c]; exact Nat.le_refl _
      · exact Nat.le_trans (ih (by omega)) (Nat.le_add_right _ _)
  have key : ∀ j, j < L → sumN (fun i => f (s i)) (j + 1) + sumN (fun i => f (i + 1)) (s j - 1) ≤ sumN (fun i => f (i + 1)) 7 := by
    intro j
    induction j with
    | zero =>
      intro h0
      have h1 := hp 0 h0
      have h2 : sumN (fun i => f (i + 1)) (s 0) = sumN (fun i => f (i + 1)) (s 0 - 1) + f (s 0) := by
        obtain ⟨t, ht⟩ : ∃ t, s 0 = t + 1 := ⟨s 0 - 1, by omega⟩
        rw [ht]; rfl
      have h3 := mono _ _ h7
      show 0 + f (s 0) + _ ≤ _
      omega
    | succ j ih =>
      intro hj
      have h1 := ih (by omega)
      have h2 := hp (j + 1) hj
      have h3 := hd j hj
      have h4 : sumN (fun i => f (i + 1)) (s (j + 1)) = sumN (fun i => f (i + 1)) (s (j + 1) - 1) + f (s (j + 1)) := by
        obtain ⟨t, ht⟩ : ∃ t, s (j + 1) = t + 1 := ⟨s (j + 1) - 1, by omega⟩
        rw [ht]; rfl
      have h5 := mono (s (j + 1)) (s j - 1) (by omega)
      show sumN (fun i => f (s i)) (j + 1) + f (s (j + 1)) + _ ≤ _
      omega
  by_cases c : L = 0
  · rw [c]; exact Nat.zero_le _
  · have := key (L - 1) (by omega)
    rw [show L - 1 + 1 = L by omega] at this
    omega
theorem suC_le (n : Nat) (h : n ≤ 7) : suC nN 1 n ≤ 1995 := by
  have h2 : n = 0 ∨ n = 1 ∨ n = 2 ∨ n = 3 ∨ n = 4 ∨ n = 5 ∨ n = 6 ∨ n = 7 := by omega
  rcases h2 with rfl | rfl | rfl | rfl | rfl | rfl | rfl | rfl <;> decide +kernel
theorem suL_le (n : Nat) (h : n ≤ 7) : suL nN mM 1 n ≤ 12366 := by
  have h2 : n = 0 ∨ n = 1 ∨ n = 2 ∨ n = 3 ∨ n = 4 ∨ n = 5 ∨ n = 6 ∨ n = 7 := by omega
  rcases h2 with rfl | rfl | rfl | rfl | rfl | rfl | rfl | rfl <;> decide +kernel
theorem gd.hQ {P : Pl} (h : gd P) : okQ P nN mM 1 mM kK 1995 12366 183 1238 := by
  obtain ⟨L, hr⟩ := h.row
  obtain ⟨eL, hs⟩ := seq_row h.1 h.2.1 h.2.2.1 hr
  have hL := hr.1
  have h7 : (sq P 0).1 ≤ 7 := (hs 0 (by omega)).2.1
  have hp : ∀ i, i < L → 0 < (sq P i).1 := fun i hi => (hs i (by omega)).2.2.2 hi
  have hd : ∀ i, i + 1 < L → (sq P (i + 1)).1 < (sq P i).1 := fun i hi => by
    obtain ⟨b1, _, b2⟩ := h.elt hr (show i < L by omega)
    obtain ⟨c1, _, c2⟩ := h.elt hr hi
    have h1 := row_dec hr i hi
    have := b1.2.2.1
    have := c1.2.2.1
    omega
  refine ⟨h.hN, suC_le _ h.2.1, suL_le _ h.2.1, ?_, ?_, fun n e h1 h2 he i hi => ?_⟩
  · rw [eL]
    have h1 := sum_fall (f := sgC) h7 hp hd
    have h2 : sumN (fun i => sgC (i + 1)) 7 ≤ 182 := by decide +kernel
    omega
  · rw [eL]
    have h1 := sum_fall (f := fun n => sgL (mM n) (kK n) n) h7 hp hd
    have h2 : sumN (fun i => sgL (mM (i + 1)) (kK (i + 1)) (i + 1)) 7 ≤ 1234 := by decide +kernel
    have h3 : sumN (fun i => sgL (mM (sq P i).1) (kK (sq P i).1) (sq P i).1) L = sumN (fun i => (fun n => sgL (mM n) (kK n) n) (sq P i).1) L := rfl
    omega
  · rw [eL] at hi
    obtain ⟨b1, _⟩ := h.elt hr hi
    exact ⟨b1.2.1, b1.hV h1 h2 he⟩
/-- the divisors -/
theorem gd.dvs {P : Pl} (h : gd P) : gd (cDvs P) ∧ (1 < P.1 → (cDvs P).1 < P.1) := by
  obtain ⟨L, hr⟩ := h.row
  obtain ⟨eL, hs⟩ := seq_row h.1 h.2.1 h.2.2.1 hr
  have hL := hr.1
  unfold cDvs
  rw [eL]
  obtain ⟨b1, b2, b3⟩ := h.elt hr (show L - 1 < L by omega)
  obtain ⟨w, hw, hD⟩ := freeD_row hr h.2.2.2.all.1
  have hsg : eq7 (scl w (freeD P.2)) (sq P (L - 1)).2 := fun k hk => by
    show w * freeD P.2 k = _
    rw [hD k hk, b2 k hk]
    show w * (w * rsq P.2 (L - 1) k) = _
    rw [← Int.mul_assoc, hw.sq, Int.one_mul]
  have hfs : fs (scl w (freeD P.2)) := h.2.2.2.dvs.fac ⟨fun _ => w, 1, fun x => by
    rw [ev_scl]
    show _ = (0 + (w : Rat) * x ^ 0) * ((w : Rat) * ev (freeD P.2) x)
    have ww : (w : Rat) * (w : Rat) = 1 := hw.rat
    rw [Rat.pow_zero]
    have : (0 + (w : Rat) * 1) * ((w : Rat) * ev (freeD P.2) x) = (w : Rat) * (w : Rat) * ev (freeD P.2) x := by grind
    rw [this, ww]; grind⟩
  refine ⟨⟨b1.1, b1.2.1, b1.2.2.1, hfs.congr hsg⟩, fun h1 => ?_⟩
  have hdP := h.deg
  have d0 : pdeg (rsq P.2 0) = ((P.1 - 1 : Nat) : Int) := by rw [rsq_0, prim_deg]; exact hdP
  have L2 : 2 ≤ L := by
    refine Classical.byContradiction fun w => ?_
    have := hr.2.2.2
    rw [show L = 1 by omega, rsq_1, prim_deg, drv_deg hdP] at this
    omega
  have h2 := row_dec2 hr (L - 1) 1 (by omega) (by omega)
  have h3 : pdeg (rsq P.2 1) < pdeg (rsq P.2 0) := row_dec hr 0 (by omega)
  have := b1.2.2.1
  omega
theorem gd.hI {P : Pl} (h : gd P) : ∀ j, gd (dvI P j) := by
  intro j
  induction j with
  | zero => exact h
  | succ j ih => exact ih.dvs.1
theorem gd.hDv {P : Pl} (h : gd P) : okDv P nN mM 1 mM kK 1995 12366 183 1238 := fun j hj => ⟨(h.hI j).hQ, (h.hI j).dvs.2 (hj j (Nat.le_refl j))⟩
theorem gd.free {P : Pl} (h : gd P) : gd (cFree P) := by
  obtain ⟨a1, a2, a3, a4⟩ := cFree_f h.1 h.2.1 h.2.2.1
  exact ⟨a1, a2, a3, h.2.2.2.free.congr a4.symm⟩
