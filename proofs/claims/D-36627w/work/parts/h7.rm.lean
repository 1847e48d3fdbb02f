/-! PLAIN LAW 59: empty intervals go; the checksum -/
/-- the kept ones -/
def kp {α : Type} (rt : Nat → Int) (X : Nat → α) : Nat → (Nat → α)
  | 0 => X
  | k + 1 => if 0 < rt k then va_up (kp rt X k) (rmN rt k) (X k) else kp rt X k
theorem rmN_s (rt : Nat → Int) (k : Nat) : rmN rt (k + 1) = rmN rt k + (if 0 < rt k then 1 else 0) := rfl
theorem rmA_kp (X rt : Nat → Int) : ∀ k, (∀ i, k ≤ i → rmA X rt k i = X i) ∧ ∀ i, i < rmN rt k → rmA X rt k i = kp rt X k i := by
  intro k
  induction k with
  | zero => exact ⟨fun i _ => rfl, fun i hi => absurd hi (Nat.not_lt_zero i)⟩
  | succ k ih =>
    obtain ⟨h1, h2⟩ := ih
    have hle := rmN_le rt k
    refine ⟨fun i hi => ?_, fun i hi => ?_⟩
    · show va_up (rmA X rt k) (rmN rt k) (rmA X rt k k) i = X i
      rw [va_upn _ _ (by omega)]; exact h1 i (by omega)
    · show va_up (rmA X rt k) (rmN rt k) (rmA X rt k k) i = (if 0 < rt k then va_up (kp rt X k) (rmN rt k) (X k) else kp rt X k) i
      rw [rmN_s] at hi
      by_cases c : 0 < rt k
      · rw [if_pos c] at hi
        rw [if_pos c]
        by_cases e : i = rmN rt k
        · rw [e, va_upj, va_upj]; exact h1 k (Nat.le_refl k)
        · rw [va_upn _ _ e, va_upn _ _ e]; exact h2 i (by omega)
      · rw [if_neg c] at hi
        rw [if_neg c, va_upn _ _ (by omega)]; exact h2 i (by omega)
theorem rv_kp {iv : Nat → Ivl} {rt : Nat → Int} : ∀ k, (∀ i, i < k → (iv i).2.2.2 = rt i ∧ 0 ≤ rt i) → rvN iv k = rmN rt k ∧ (∀ i, rmN rt k ≤ i → rvL iv k i = iv (i + (k - rmN rt k))) ∧ ∀ i, i < rmN rt k → rvL iv k i = kp rt iv k i := by
  intro k
  induction k with
  | zero => intro _; exact ⟨rfl, fun i _ => rfl, fun i hi => absurd hi (Nat.not_lt_zero i)⟩
  | succ k ih =>
    intro h
    obtain ⟨h1, h2, h3⟩ := ih (fun i hi => h i (by omega))
    obtain ⟨e1, e2⟩ := h k (Nat.lt_succ_self k)
    have hle := rmN_le rt k
    have en : rvN iv (k + 1) = if (iv k).2.2.2 = 0 then rvN iv k else rvN iv k + 1 := rfl
    have el : rvL iv (k + 1) = if (iv k).2.2.2 = 0 then fun j => if j < rvN iv k then rvL iv k j else rvL iv k (j + 1) else rvL iv k := rfl
    have ek : kp rt iv (k + 1) = if 0 < rt k then va_up (kp rt iv k) (rmN rt k) (iv k) else kp rt iv k := rfl
    rw [en, el, ek, rmN_s, e1]
    by_cases c : rt k = 0
    · rw [if_pos c, if_pos c, if_neg (by omega), if_neg (by omega), Nat.add_zero]
      refine ⟨h1, fun i hi => ?_, fun i hi => ?_⟩
      · show (if i < rvN iv k then rvL iv k i else rvL iv k (i + 1)) = _
        rw [if_neg (by omega), h2 (i + 1) (by omega), show i + 1 + (k - rmN rt k) = i + (k + 1 - rmN rt k) by omega]
      · show (if i < rvN iv k then rvL iv k i else rvL iv k (i + 1)) = _
        rw [if_pos (by omega)]; exact h3 i hi
    · rw [if_neg c, if_neg c, if_pos (by omega), if_pos (by omega)]
      refine ⟨by omega, fun i hi => ?_, fun i hi => ?_⟩
      · rw [h2 i (by omega), show i + (k - rmN rt k) = i + (k + 1 - (rmN rt k + 1)) by omega]
      · by_cases e : i = rmN rt k
        · rw [e, va_upj, h2 _ (Nat.le_refl _), show rmN rt k + (k - rmN rt k) = k by omega]
        · rw [va_upn _ _ e]; exact h3 i (by omega)
/-- every kept one was there -/
theorem kp_at {α : Type} {rt : Nat → Int} : ∀ k i, i < rmN rt k → ∃ j, j < k ∧ ∀ X : Nat → α, kp rt X k i = X j := by
  intro k
  induction k with
  | zero => intro i hi; exact absurd hi (Nat.not_lt_zero i)
  | succ k ih =>
    intro i hi
    rw [rmN_s] at hi
    by_cases c : 0 < rt k
    · rw [if_pos c] at hi
      by_cases e : i = rmN rt k
      · exact ⟨k, Nat.lt_succ_self k, fun X => by
          show (if 0 < rt k then va_up (kp rt X k) (rmN rt k) (X k) else kp rt X k) i = X k
          rw [if_pos c, e, va_upj]⟩
      · obtain ⟨j, j1, j2⟩ := ih i (by omega)
        exact ⟨j, by omega, fun X => by
          show (if 0 < rt k then va_up (kp rt X k) (rmN rt k) (X k) else kp rt X k) i = X j
          rw [if_pos c, va_upn _ _ e, j2 X]⟩
    · rw [if_neg c] at hi
      obtain ⟨j, j1, j2⟩ := ih i (by omega)
      exact ⟨j, by omega, fun X => by
        show (if 0 < rt k then va_up (kp rt X k) (rmN rt k) (X k) else kp rt X k) i = X j
        rw [if_neg c, j2 X]⟩
theorem kp_map {α β : Type} {rt : Nat → Int} (f : α → β) (X : Nat → α) : ∀ k i, kp rt (fun j => f (X j)) k i = f (kp rt X k i) := by
  intro k
  induction k with
  | zero => intro i; rfl
  | succ k ih =>
    intro i
    show (if 0 < rt k then va_up (kp rt (fun j => f (X j)) k) (rmN rt k) (f (X k)) else kp rt (fun j => f (X j)) k) i = f ((if 0 < rt k then va_up (kp rt X k) (rmN rt k) (X k) else kp rt X k) i)
    by_cases c : 0 < rt k
    · rw [if_pos c, if_pos c]
      show (if i = rmN rt k then f (X k) else kp rt (fun j => f (X j)) k i) = f (if i = rmN rt k then X k else kp rt X k i)
      rw [ih]
      split <;> rfl
    · rw [if_neg c, if_neg c]; exact ih i
theorem iS_kp {rt X : Nat → Int} : ∀ k, iS (kp rt X k) (rmN rt k) = iS (fun i => if 0 < rt i then X i else 0) k := by
  intro k
  induction k with
  | zero => rfl
  | succ k ih =>
    show iS (kp rt X (k + 1)) (rmN rt (k + 1)) = iS (fun i => if 0 < rt i then X i else 0) k + (if 0 < rt k then X k else 0)
    rw [← ih, rmN_s]
    have ek : kp rt X (k + 1) = if 0 < rt k then va_up (kp rt X k) (rmN rt k) (X k) else kp rt X k := rfl
    by_cases c : 0 < rt k
    · rw [ek, if_pos c, if_pos c, if_pos c]
      show iS (va_up (kp rt X k) (rmN rt k) (X k)) (rmN rt k) + va_up (kp rt X k) (rmN rt k) (X k) (rmN rt k) = _
      rw [va_upj, iS_congr (rmN rt k) (fun i hi => va_upn _ _ (by omega))]
    · rw [ek, if_neg c, if_neg c, if_neg c, Nat.add_zero]; omega
theorem relI.rm {c : Nat} {P0 : Option Pl} {K F : Nat → Int} {n : Nat} {iv : Nat → Ivl} {many : Int} {lv lo hi rt : Nat → Int} (h : relI c P0 K F n iv many lv lo hi rt) : rvN iv n = rmN rt n ∧ relI c P0 K F (rvN iv n) (rvL iv n) ((rmN rt n : Nat) : Int) (rmA lv rt n) (rmA lo rt n) (rmA hi rt n) (rmA rt rt n) := by
  obtain ⟨m1, m2, m3, m4, m5⟩ := h
  have hr : ∀ i, i < n → (iv i).2.2.2 = rt i ∧ 0 ≤ rt i := fun i hi => by
    obtain ⟨e, _, _, _, e2⟩ := m3 i hi
    refine ⟨by rw [e], ?_⟩
    rw [e2]; exact plF_nn _ _ _ _
  obtain ⟨r1, r2, r3⟩ := rv_kp n hr
  have hle := rmN_le rt n
  refine ⟨r1, ?_⟩
  rw [r1]
  have at_ : ∀ i, i < rmN rt n → ∃ j, j < n ∧ rvL iv n i = iv j ∧ rmA lv rt n i = lv j ∧ rmA lo rt n i = lo j ∧ rmA hi rt n i = hi j ∧ rmA rt rt n i = rt j := fun i hi' => by
    obtain ⟨j, j1, j2⟩ := kp_at (α := Int) (rt := rt) n i hi'
    refine ⟨j, j1, ?_, by rw [(rmA_kp lv rt n).2 i hi', j2], by rw [(rmA_kp lo rt n).2 i hi', j2], by rw [(rmA_kp hi rt n).2 i hi', j2], by rw [(rmA_kp rt rt n).2 i hi', j2]⟩
    -- the same place for tuples
    have t1 := kp_map (rt := rt) (fun j : Nat => (j : Int)) (fun j => j) n i
    have t2 : ((kp rt (fun j : Nat => j) n i : Nat) : Int) = (j : Int) := by rw [← t1]; exact j2 (fun j => (j : Int))
    have t3 : kp rt (fun j : Nat => j) n i = j := by omega
    rw [r3 i hi', show kp rt iv n i = iv (kp rt (fun j : Nat => j) n i) from kp_map (rt := rt) iv (fun j => j) n i, t3]
  refine ⟨rfl, fun hn => m2 (by omega), fun i hi' => ?_, ?_, ?_⟩
  · obtain ⟨j, j1, j2, j3, j4, j5, j6⟩ := at_ i hi'
    rw [j2, j3, j4, j5, j6]
    exact m3 j j1
  · rw [iS_congr (rmN rt n) (fun i hi' => (rmA_kp rt rt n).2 i hi'), iS_kp]
    refine Int.le_trans (Int.le_of_eq ?_) m4
    refine iS_congr n (fun i hi' => ?_)
    have := (hr i hi').2
    split
    · rfl
    · omega
  · have e : ∀ i, i < rmN rt n → wI (rmA lo rt n) (rmA hi rt n) i = kp rt (wI lo hi) n i := fun i hi' => by
      obtain ⟨j, j1, j2⟩ := kp_at (α := Int) (rt := rt) n i hi'
      unfold wI
      rw [(rmA_kp lo rt n).2 i hi', (rmA_kp hi rt n).2 i hi', j2 lo, j2 hi, j2 (fun k => if lo k = hi k then 0 else 1)]
    rw [iS_congr (rmN rt n) e, iS_kp]
    refine Int.le_trans (iS_mono n (fun i _ => ?_)) m5
    unfold wI
    split
    · exact Int.le_refl _
    · split <;> omega
theorem ckI_eq {r s : Nat → Int} : ∀ n x, (∀ k, k < n → r k = s k) → xkI r n x = ckI s n x := by
  intro n
  induction n with
  | zero => intro x _; rfl
  | succ n ih => intro x h; show 31 * xkI r n x + r n = 31 * ckI s n x + s n; rw [ih x (fun k hk => h k (by omega)), h n (Nat.lt_succ_self n)]
theorem ck_ag {Sc : Nat → Pl} {Sm : Nat → Nat → Int} (h : relS Sc Sm) {c : Nat} {P0 : Option Pl} {K F : Nat → Int} {n : Nat} {iv : Nat → Ivl} {many : Int} {lv lo hi rt : Nat → Int} (hI : relI c P0 K F n iv many lv lo hi rt) : xkV iv n (31 * xkR Sc 5 7 + (n : Int)) = ckV lv lo hi rt many.toNat (31 * ckR Sm 5 7 + many) := by
  obtain ⟨m1, m2, m3, m4, m5⟩ := hI
  have e1 : xkR Sc 5 7 = ckR Sm 5 7 := by
    have : ∀ i, i ≤ 5 → xkR Sc i 7 = ckR Sm i 7 := by
      intro i
      induction i with
      | zero => intro _; rfl
      | succ i ih =>
        intro hi'
        show xkI (Sc i).2 7 (xkR Sc i 7) = ckI (Sm i) 7 (ckR Sm i 7)
        rw [ih (by omega)]
        exact ckI_eq 7 _ (fun k hk => (h i (by omega)).2.2.1 k hk)
    exact this 5 (Nat.le_refl 5)
  have e2 : ∀ k, k ≤ n → ∀ x, xkV iv k x = ckV lv lo hi rt k x := by
    intro k
    induction k with
    | zero => intro _ x; rfl
    | succ k ih =>
      intro hk x
      show 31 * (31 * (31 * (31 * xkV iv k x + (iv k).1) + (iv k).2.1) + (iv k).2.2.1) + (iv k).2.2.2 = 31 * (31 * (31 * (31 * ckV lv lo hi rt k x + lv k) + lo k) + hi k) + rt k
      rw [ih (by omega) x, (m3 k (by omega)).1]
  rw [m1, Int.toNat_natCast, e1]
  exact e2 n (Nat.le_refl n) _
