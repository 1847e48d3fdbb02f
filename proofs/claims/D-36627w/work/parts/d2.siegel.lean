/-! PLAIN LAW 20: Siegel's lemma (pigeonhole) -/
theorem pigeon : ∀ (n m : Nat) (f : Nat → Nat), n < m → (∀ k, k < m → f k < n) → ∃ i j, i < j ∧ j < m ∧ f i = f j := by
  intro n
  induction n with
  | zero => intro m f h hf; exact absurd (hf 0 h) (Nat.not_lt_zero _)
  | succ n ih =>
    intro m f h hf
    by_cases c : ∃ k, k < m ∧ f k = n
    · obtain ⟨k0, k1, k2⟩ := c
      by_cases d : ∃ j, j < m ∧ j ≠ k0 ∧ f j = n
      · obtain ⟨j, j1, j2, j3⟩ := d
        by_cases e : j < k0
        · exact ⟨j, k0, e, k1, by rw [j3, k2]⟩
        · exact ⟨k0, j, by omega, j1, by rw [j3, k2]⟩
      · obtain ⟨i, j, h1, h2, h3⟩ := ih (m - 1) (fun j => f (if j < k0 then j else j + 1)) (by omega) (fun j hj => by
          have hl : (if j < k0 then j else j + 1) < m := by split <;> omega
          have hn : (if j < k0 then j else j + 1) ≠ k0 := by split <;> omega
          have h1 := hf _ hl
          have h2 : f (if j < k0 then j else j + 1) ≠ n := fun w => d ⟨_, hl, hn, w⟩
          show f (if j < k0 then j else j + 1) < n
          omega)
        refine ⟨_, _, ?_, ?_, h3⟩
        · split <;> split <;> omega
        · split <;> omega
    · exact ih m f (by omega) (fun k hk => by
        have h1 := hf k hk
        have h2 : f k ≠ n := fun w => c ⟨k, hk, w⟩
        omega)
def enc (b : Nat) (y : Nat → Nat) : Nat → Nat
  | 0 => 0
  | n + 1 => enc b y n + y n * b ^ n
theorem enc_lt {b : Nat} {y : Nat → Nat} : ∀ n, (∀ i, i < n → y i < b) → enc b y n < b ^ n := by
  intro n
  induction n with
  | zero => intro _; exact Nat.one_pos
  | succ n ih =>
    intro h
    have h1 := ih (fun i hi => h i (by omega))
    have h2 := Nat.mul_le_mul_right (b ^ n) (show y n + 1 ≤ b from h n (Nat.lt_succ_self n))
    show enc b y n + y n * b ^ n < b ^ (n + 1)
    rw [Nat.pow_succ, Nat.mul_comm (b ^ n) b]
    rw [Nat.add_mul, Nat.one_mul] at h2
    omega
theorem enc_inj {b : Nat} {y z : Nat → Nat} : ∀ n, (∀ i, i < n → y i < b) → (∀ i, i < n → z i < b) → enc b y n = enc b z n → ∀ i, i < n → y i = z i := by
  intro n
  induction n with
  | zero => intro _ _ _ i hi; exact absurd hi (Nat.not_lt_zero _)
  | succ n ih =>
    intro hy hz e i hi
    have a1 := enc_lt (b := b) n (fun i hi => hy i (by omega))
    have a2 := enc_lt (b := b) n (fun i hi => hz i (by omega))
    have e' : enc b y n + y n * b ^ n = enc b z n + z n * b ^ n := e
    have e1 : y n = z n := by
      rcases Nat.lt_trichotomy (y n) (z n) with q | q | q
      · have h2 := Nat.mul_le_mul_right (b ^ n) (show y n + 1 ≤ z n from q)
        rw [Nat.add_mul, Nat.one_mul] at h2
        omega
      · exact q
      · have h2 := Nat.mul_le_mul_right (b ^ n) (show z n + 1 ≤ y n from q)
        rw [Nat.add_mul, Nat.one_mul] at h2
        omega
    by_cases c : i = n
    · rw [c]; exact e1
    · exact ih (fun i hi => hy i (by omega)) (fun i hi => hz i (by omega)) (by rw [e1] at e'; omega) i (by omega)
theorem enc_dig {b : Nat} (k : Nat) : ∀ n, enc b (fun i => k / b ^ i % b) n = k % b ^ n := by
  intro n
  induction n with
  | zero => show 0 = k % 1; omega
  | succ n ih =>
    show enc b _ n + k / b ^ n % b * b ^ n = _
    rw [ih, Nat.pow_succ, Nat.mod_mul, Nat.mul_comm (b ^ n) (k / b ^ n % b)]
def iS (f : Nat → Int) : Nat → Int
  | 0 => 0
  | n + 1 => iS f n + f n
theorem iS_sub (f g : Nat → Int) : ∀ n, iS (fun i => f i - g i) n = iS f n - iS g n := by
  intro n
  induction n with
  | zero => rfl
  | succ n ih => show iS _ n + (f n - g n) = iS f n + f n - (iS g n + g n); rw [ih]; omega
theorem iS_congr {f g : Nat → Int} : ∀ n, (∀ i, i < n → f i = g i) → iS f n = iS g n := by
  intro n
  induction n with
  | zero => intro _; rfl
  | succ n ih => intro h; show iS f n + f n = iS g n + g n; rw [ih (fun i hi => h i (by omega)), h n (Nat.lt_succ_self n)]
theorem iS_bd {f : Nat → Int} {x : Nat → Nat} {B : Nat} : ∀ n, (∀ i, i < n → x i ≤ B) → -((B : Int) * iS (fun i => if f i < 0 then -f i else 0) n) ≤ iS (fun i => f i * (x i : Int)) n ∧ iS (fun i => f i * (x i : Int)) n ≤ (B : Int) * iS (fun i => if f i < 0 then 0 else f i) n := by
  intro n
  induction n with
  | zero => intro _; exact ⟨by show -((B : Int) * 0) ≤ 0; omega, by show 0 ≤ (B : Int) * 0; omega⟩
  | succ n ih =>
    intro h
    obtain ⟨a1, a2⟩ := ih (fun i hi => h i (by omega))
    have h1 : (x n : Int) ≤ (B : Int) := Int.ofNat_le.mpr (h n (Nat.lt_succ_self n))
    show -((B : Int) * (iS _ n + (if f n < 0 then -f n else 0))) ≤ iS _ n + f n * (x n : Int) ∧ iS _ n + f n * (x n : Int) ≤ (B : Int) * (iS _ n + (if f n < 0 then 0 else f n))
    rw [Int.mul_add, Int.mul_add]
    by_cases c : f n < 0
    · rw [if_pos c, if_pos c]
      have h2 := Int.mul_le_mul_of_nonneg_left h1 (show 0 ≤ -f n by omega)
      have h3 := Int.mul_nonneg (show 0 ≤ -f n by omega) (show 0 ≤ (x n : Int) by omega)
      have h4 : -f n * (x n : Int) = -(f n * (x n : Int)) := Int.neg_mul _ _
      have h5 : (B : Int) * -f n = -f n * (B : Int) := Int.mul_comm _ _
      rw [h4] at h2 h3
      rw [h5]
      constructor <;> omega
    · rw [if_neg c, if_neg c]
      have h2 := Int.mul_le_mul_of_nonneg_left h1 (show 0 ≤ f n by omega)
      have h3 := Int.mul_nonneg (show 0 ≤ f n by omega) (show 0 ≤ (x n : Int) by omega)
      have h5 : (B : Int) * f n = f n * (B : Int) := Int.mul_comm _ _
      rw [h5]
      constructor <;> omega
theorem iS_abs (f : Nat → Int) : ∀ n, iS (fun i => if f i < 0 then -f i else 0) n + iS (fun i => if f i < 0 then 0 else f i) n = iS (fun i => ((f i).natAbs : Int)) n := by
  intro n
  induction n with
  | zero => rfl
  | succ n ih =>
    show iS _ n + (if f n < 0 then -f n else 0) + (iS _ n + (if f n < 0 then 0 else f n)) = iS _ n + ((f n).natAbs : Int)
    rw [← ih]
    split <;> omega
theorem siegel {N : Nat} {lam : Nat} (hl : 1 ≤ lam) (m : Nat → Nat → Int) (hm : ∀ e, e < N → iS (fun u => ((m e u).natAbs : Int)) (N + 1) ≤ (lam : Int)) : ∃ x : Nat → Int, (∃ u, u < N + 1 ∧ x u ≠ 0) ∧ (∀ u, (x u).natAbs ≤ lam ^ N) ∧ ∀ e, e < N → iS (fun u => m e u * x u) (N + 1) = 0 := by
  obtain ⟨B, hB⟩ : ∃ B, B = lam ^ N := ⟨_, rfl⟩
  obtain ⟨X, hX⟩ : ∃ X : Nat → Nat → Nat, X = fun k u => k / (B + 1) ^ u % (B + 1) := ⟨_, rfl⟩
  have hX1 : ∀ k u, X k u ≤ B := fun k u => by
    rw [hX]; have := Nat.mod_lt (k / (B + 1) ^ u) (show 0 < B + 1 by omega); show k / (B + 1) ^ u % (B + 1) ≤ B; omega
  obtain ⟨ng, hng⟩ : ∃ ng : Nat → Int, ng = fun e => (B : Int) * iS (fun i => if m e i < 0 then -m e i else 0) (N + 1) := ⟨_, rfl⟩
  obtain ⟨Y, hY⟩ : ∃ Y : Nat → Nat → Nat, Y = fun k e => (iS (fun u => m e u * (X k u : Int)) (N + 1) + ng e).toNat := ⟨_, rfl⟩
  have hYb : ∀ k e, e < N → 0 ≤ iS (fun u => m e u * (X k u : Int)) (N + 1) + ng e ∧ iS (fun u => m e u * (X k u : Int)) (N + 1) + ng e ≤ ((lam * B : Nat) : Int) := fun k e he => by
    obtain ⟨a1, a2⟩ := iS_bd (f := m e) (x := X k) (B := B) (N + 1) (fun i _ => hX1 k i)
    have a3 := hm e he
    rw [← iS_abs] at a3
    have a4 := Int.mul_le_mul_of_nonneg_left a3 (show 0 ≤ (B : Int) by omega)
    rw [Int.mul_add] at a4
    have a5 : ((lam * B : Nat) : Int) = (B : Int) * (lam : Int) := by rw [Int.natCast_mul, Int.mul_comm]
    rw [a5, hng]
    show 0 ≤ _ + (B : Int) * _ ∧ _ + (B : Int) * _ ≤ _
    constructor <;> omega
  have hY1 : ∀ k e, e < N → Y k e < lam * B + 1 := fun k e he => by
    have := hYb k e he
    rw [hY]; show (_ : Int).toNat < _; omega
  have big : (lam * B + 1) ^ N < (B + 1) ^ (N + 1) := by
    have h1 : (lam * B + 1) ^ N ≤ (lam * (B + 1)) ^ N := Nat.pow_le_pow_left (by rw [Nat.mul_add]; omega) N
    rw [Nat.mul_pow, ← hB] at h1
    have h2 : B * (B + 1) ^ N < (B + 1) * (B + 1) ^ N := Nat.mul_lt_mul_of_pos_right (Nat.lt_succ_self B) (Nat.pow_pos (by omega))
    rw [Nat.pow_succ, Nat.mul_comm ((B + 1) ^ N)]
    omega
  obtain ⟨i, j, h1, h2, h3⟩ := pigeon _ _ (fun k => enc (lam * B + 1) (Y k) N) big (fun k _ => enc_lt N (fun e he => hY1 k e he))
  have h4 := enc_inj N (fun e he => hY1 i e he) (fun e he => hY1 j e he) h3
  refine ⟨fun u => (X i u : Int) - (X j u : Int), ?_, fun u => ?_, fun e he => ?_⟩
  · refine Classical.byContradiction fun w => ?_
    have hq : ∀ u, u < N + 1 → X i u = X j u := fun u hu => by
      refine Classical.byContradiction fun q => w ⟨u, hu, ?_⟩
      show (X i u : Int) - (X j u : Int) ≠ 0
      omega
    have e1 := enc_dig (b := B + 1) i (N + 1)
    have e2 := enc_dig (b := B + 1) j (N + 1)
    have e3 : ∀ n, n ≤ N + 1 → enc (B + 1) (X i) n = enc (B + 1) (X j) n := by
      intro n
      induction n with
      | zero => intro _; rfl
      | succ n ih => intro hn; show enc _ _ n + _ = enc _ _ n + _; rw [ih (by omega), hq n (by omega)]
    have e4 := e3 (N + 1) (Nat.le_refl _)
    rw [hX] at e4
    rw [Nat.mod_eq_of_lt (by omega)] at e1 e2
    have : i = j := by rw [← e1, ← e2]; exact e4
    omega
  · have a1 := hX1 i u
    have a2 := hX1 j u
    show ((X i u : Int) - (X j u : Int)).natAbs ≤ _
    rw [← hB]; omega
  · have a1 := hYb i e he
    have a2 := hYb j e he
    have a3 := h4 e he
    rw [hY] at a3
    have a3' : (iS (fun u => m e u * (X i u : Int)) (N + 1) + ng e).toNat = (iS (fun u => m e u * (X j u : Int)) (N + 1) + ng e).toNat := a3
    have a4 := iS_sub (fun u => m e u * (X i u : Int)) (fun u => m e u * (X j u : Int)) (N + 1)
    have a5 : iS (fun u => m e u * ((X i u : Int) - (X j u : Int))) (N + 1) = iS (fun u => m e u * (X i u : Int) - m e u * (X j u : Int)) (N + 1) := iS_congr _ (fun u _ => Int.mul_sub _ _ _)
    show iS (fun u => m e u * ((X i u : Int) - (X j u : Int))) (N + 1) = 0
    rw [a5, a4]
    omega
