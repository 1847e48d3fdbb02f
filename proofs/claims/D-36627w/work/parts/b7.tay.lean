/-! PLAIN LAW 7: moved by one, halved, reversed: what the model's coefficients stand for -/
def sfx (p : Nat → Int) (n : Nat) : Nat → Nat → Int
  | 0, _ => 0
  | m + 1, k => if k ≤ n then p k + sfx p n m (k + 1) else 0
theorem sfx_hi (p : Nat → Int) (n : Nat) : ∀ m k, n < k → sfx p n m k = 0 := by
  intro m
  cases m with
  | zero => intro k _; rfl
  | succ m => intro k h; exact if_neg (by omega)
theorem sfx_m (p : Nat → Int) (n : Nat) : ∀ m k, n < k + m → sfx p n (m + 1) k = sfx p n m k := by
  intro m
  induction m with
  | zero => intro k h; rw [sfx_hi p n 1 k (by omega), sfx_hi p n 0 k (by omega)]
  | succ m ih =>
    intro k h
    show (if k ≤ n then p k + sfx p n (m + 1) (k + 1) else 0) = if k ≤ n then p k + sfx p n m (k + 1) else 0
    rw [ih (k + 1) (by omega)]
/-- sums from k to n -/
def sx (p : Nat → Int) (n k : Nat) : Int := sfx p n (n + 2) k
theorem sx_s (p : Nat → Int) {n k : Nat} (h : k ≤ n) : sx p n k = p k + sx p n (k + 1) := by
  unfold sx
  rw [← sfx_m p n (n + 2) k (by omega)]
  exact if_pos h
theorem sx_hi (p : Nat → Int) {n k : Nat} (h : n < k) : sx p n k = 0 := sfx_hi p n _ k h
theorem inn_sx (p : Nat → Int) (n : Nat) : ∀ c, c ≤ n → ∀ k, k ≤ n → inn p n c k = if n - c ≤ k then sx p n k else p k := by
  intro c
  induction c with
  | zero =>
    intro _ k hk
    by_cases e : n ≤ k
    · have : k = n := by omega
      subst this
      rw [if_pos (by omega), sx_s p (Nat.le_refl k), sx_hi p (by omega)]
      show p k = p k + 0
      omega
    · rw [if_neg (by omega)]; rfl
  | succ c ih =>
    intro hc k hk
    show va_up (inn p n c) (n - 1 - c) (inn p n c (n - 1 - c) + inn p n c (n - 1 - c + 1)) k = _
    by_cases e : k = n - 1 - c
    · subst e
      rw [va_upj, ih (by omega) _ hk, ih (by omega) _ (by omega), if_neg (by omega), if_pos (by omega), if_pos (by omega), ← sx_s p hk]
    · rw [va_upn _ _ e, ih (by omega) k hk]
      by_cases d : n - c ≤ k
      · rw [if_pos d, if_pos (by omega)]
      · rw [if_neg d, if_neg (by omega)]
theorem mv_step (p : Nat → Int) (n i : Nat) (hi : i ≤ n) : ∀ k, k ≤ n → mvF p n (i + 1) k = if i ≤ k then sx (mvF p n i) n k else mvF p n i k := fun k hk => by
  show inn (mvF p n i) n (n - i) k = _
  rw [inn_sx _ n (n - i) (by omega) k hk, show n - (n - i) = i by omega]
/-- by differences -/
theorem pe_diff (s : Nat → Rat) (x : Rat) : ∀ M, pe (fun k => s k - s (k + 1)) M x = s 0 + (x - 1) * pe (fun k => s (k + 1)) M x - s M * x ^ M := by
  intro M
  induction M with
  | zero => show (0 : Rat) = s 0 + (x - 1) * 0 - s 0 * x ^ 0; rw [Rat.pow_zero]; grind
  | succ M ih => rw [pe_s, ih, pe_s, Rat.pow_succ]; grind
/-- the first place apart -/
theorem pe_0 (c : Nat → Rat) (n : Nat) (x : Rat) : pe c (n + 1) x = c 0 + x * pe (fun k => c (k + 1)) n x := by
  induction n with
  | zero => show 0 + c 0 * x ^ 0 = c 0 + x * 0; rw [Rat.pow_zero]; grind
  | succ n ih => rw [pe_s, ih, pe_s, Rat.pow_succ]; grind
/-- moved by one -/
theorem mv_ev (p : Nat → Int) (n : Nat) (x : Rat) : ∀ i, i ≤ n + 1 → pe (ci p) (n + 1) x = pe (ci (mvF p n i)) i (x - 1) + (x - 1) ^ i * pe (fun k => ci (mvF p n i) (i + k)) (n + 1 - i) x := by
  intro i
  induction i with
  | zero =>
    intro _
    show pe (ci p) (n + 1) x = 0 + (x - 1) ^ 0 * pe (fun k => ci p (0 + k)) (n + 1) x
    rw [Rat.pow_zero, pe_congr (c := fun k => ci p (0 + k)) (d := ci p) (n + 1) (fun k _ => by show ci p (0 + k) = _; rw [Nat.zero_add])]
    grind
  | succ i ih =>
    intro hi
    obtain ⟨q, hq⟩ : ∃ q, q = mvF p n i := ⟨_, rfl⟩
    have h1 := ih (by omega)
    rw [← hq] at h1
    -- suffix sums from i on
    have e1 : pe (fun k => ci q (i + k)) (n + 1 - i) x = (sx q n i : Rat) + (x - 1) * pe (fun k => (sx q n (i + 1 + k) : Rat)) (n - i) x := by
      have e2 := pe_diff (fun k => (sx q n (i + k) : Rat)) x (n + 1 - i)
      rw [pe_congr (c := fun k => ci q (i + k)) (d := fun k => (sx q n (i + k) : Rat) - (sx q n (i + (k + 1)) : Rat)) (n + 1 - i) (fun k hk => by
        show (q (i + k) : Rat) = (sx q n (i + k) : Rat) - (sx q n (i + (k + 1)) : Rat)
        rw [sx_s q (show i + k ≤ n by omega), show i + (k + 1) = i + k + 1 by omega, Rat.intCast_add]; grind), e2, show n + 1 - i = (n - i) + 1 by omega, pe_s]
      show (sx q n (i + 0) : Rat) + (x - 1) * (pe (fun k => (sx q n (i + (k + 1)) : Rat)) (n - i) x + (sx q n (i + (n - i + 1)) : Rat) * x ^ (n - i)) - (sx q n (i + (n - i + 1)) : Rat) * x ^ (n - i + 1) = _
      rw [sx_hi q (show n < i + (n - i + 1) by omega), show i + 0 = i from rfl, pe_congr (c := fun k => (sx q n (i + (k + 1)) : Rat)) (d := fun k => (sx q n (i + 1 + k) : Rat)) (n - i) (fun k _ => by show (sx q n (i + (k + 1)) : Rat) = _; rw [show i + (k + 1) = i + 1 + k by omega])]
      show _ + (x - 1) * (_ + (0 : Rat) * _) - (0 : Rat) * _ = _
      grind
    have e3 : pe (ci (mvF p n (i + 1))) (i + 1) (x - 1) = pe (ci q) i (x - 1) + (sx q n i : Rat) * (x - 1) ^ i := by
      rw [pe_s, pe_congr (c := ci (mvF p n (i + 1))) (d := ci q) i (fun k hk => by
        show (mvF p n (i + 1) k : Rat) = (q k : Rat)
        rw [mv_step p n i (by omega) k (by omega), if_neg (by omega), ← hq])]
      show _ + (mvF p n (i + 1) i : Rat) * _ = _
      rw [mv_step p n i (by omega) i (by omega), if_pos (Nat.le_refl i), ← hq]
    have e4 : pe (fun k => ci (mvF p n (i + 1)) (i + 1 + k)) (n + 1 - (i + 1)) x = pe (fun k => (sx q n (i + 1 + k) : Rat)) (n - i) x := by
      rw [show n + 1 - (i + 1) = n - i by omega]
      refine pe_congr _ (fun k hk => ?_) x
      show (mvF p n (i + 1) (i + 1 + k) : Rat) = _
      rw [mv_step p n i (by omega) (i + 1 + k) (by omega), if_pos (by omega), ← hq]
    rw [h1, e1, e3, e4, Rat.pow_succ]
    grind
theorem inn_hi (p : Nat → Int) (n : Nat) : ∀ c k, n ≤ k → c ≤ n → inn p n c k = p k := by
  intro c
  induction c with
  | zero => intro k _ _; rfl
  | succ c ih => intro k h1 h2; show va_up (inn p n c) (n - 1 - c) _ k = p k; rw [va_upn _ _ (by omega)]; exact ih k h1 (by omega)
theorem mv_top (p : Nat → Int) (n : Nat) : ∀ i, mvF p n i n = p n := by
  intro i
  induction i with
  | zero => rfl
  | succ i ih => show inn (mvF p n i) n (n - i) n = p n; rw [inn_hi _ n _ n (Nat.le_refl n) (Nat.sub_le n i)]; exact ih
theorem mv_tay (p : Nat → Int) (n : Nat) (x : Rat) : pe (ci p) (n + 1) x = pe (ci (mvF p n n)) (n + 1) (x - 1) := by
  have h := mv_ev p n x n (by omega)
  rw [h, show n + 1 - n = 1 by omega, pe_s (ci (mvF p n n)) n]
  show _ + (x - 1) ^ n * (0 + ci (mvF p n n) (n + 0) * x ^ 0) = _
  rw [Rat.pow_zero, Nat.add_zero]
  grind
/-- reversed -/
theorem pe_rev (c : Nat → Rat) (z : Rat) (hz : z ≠ 0) : ∀ d, pe (fun k => c (d - k)) (d + 1) z = z ^ d * pe c (d + 1) z⁻¹ := by
  intro d
  induction d with
  | zero => show 0 + c (0 - 0) * z ^ 0 = z ^ 0 * (0 + c 0 * z⁻¹ ^ 0); rw [Rat.pow_zero, Rat.pow_zero]; grind
  | succ d ih =>
    have hm : z * z⁻¹ = 1 := Rat.mul_inv_cancel _ hz
    have hp : ∀ m : Nat, z ^ m * z⁻¹ ^ m = 1 := by
      intro m
      induction m with
      | zero => rw [Rat.pow_zero, Rat.pow_zero]; grind
      | succ m ihm => rw [Rat.pow_succ, Rat.pow_succ]; grind
    have h2 := hp (d + 1)
    rw [pe_0, pe_s c (d + 1)]
    show c (d + 1 - 0) + z * pe (fun k => c (d + 1 - (k + 1))) (d + 1) z = _
    rw [pe_congr (c := fun k => c (d + 1 - (k + 1))) (d := fun k => c (d - k)) (d + 1) (fun k _ => by show c (d + 1 - (k + 1)) = c (d - k); rw [show d + 1 - (k + 1) = d - k by omega]), ih, Nat.sub_zero, Rat.pow_succ]
    rw [Rat.pow_succ] at h2
    grind
/-- the coefficients over (0, 1): at y they stand for the value at 1 / (y + 1) -/
theorem wi_ev (q : Nat → Int) (d : Nat) (y : Rat) (hy : 0 ≤ y) : pe (ci (wiF q d)) (d + 1) y = (y + 1) ^ d * pe (ci q) (d + 1) (y + 1)⁻¹ := by
  have h1 := mv_tay (fun i => q (d - i)) d (y + 1)
  have h2 := pe_rev (ci q) (y + 1) (by grind) d
  have h3 : pe (ci (fun i => q (d - i))) (d + 1) (y + 1) = pe (fun k => ci q (d - k)) (d + 1) (y + 1) := rfl
  rw [h3, h2] at h1
  rw [h1]
  unfold wiF
  rw [show y + 1 - 1 = y by grind]
theorem wi_top (q : Nat → Int) (d : Nat) : wiF q d d = q 0 := by
  unfold wiF
  rw [mv_top]
  show q (d - d) = q 0
  rw [Nat.sub_self]
/-- halved -/
theorem lf_ev (q : Nat → Int) (d : Nat) (t : Rat) : pe (ci (lfF q d)) (d + 1) t = 2 ^ d * pe (ci q) (d + 1) (t / 2) := by
  rw [← pe_mul]
  have key : ∀ m, m ≤ d + 1 → pe (ci (lfF q d)) m t = pe (fun k => 2 ^ d * ci q k) m (t / 2) := by
    intro m
    induction m with
    | zero => intro _; rfl
    | succ m ih =>
      intro hm
      rw [pe_s, pe_s, ih (by omega)]
      congr 1
      show ((q m * 2 ^ (d - m) : Int) : Rat) * t ^ m = 2 ^ d * (q m : Rat) * (t / 2) ^ m
      have h2 : ∀ k : Nat, ((2 ^ k : Int) : Rat) = (2 : Rat) ^ k := fun k => by
        induction k with
        | zero => rw [Int.pow_zero, Rat.pow_zero]; rfl
        | succ k ihk => rw [Int.pow_succ, Rat.pow_succ, Rat.intCast_mul, ihk]; rfl
      have h3 : ∀ k : Nat, (2 : Rat) ^ k * (t / 2) ^ k = t ^ k := fun k => by
        induction k with
        | zero => rw [Rat.pow_zero, Rat.pow_zero, Rat.pow_zero]; grind
        | succ k ihk => rw [Rat.pow_succ, Rat.pow_succ, Rat.pow_succ, ← ihk]; grind
      rw [Rat.intCast_mul, h2, ← h3 m, show (2 : Rat) ^ d = 2 ^ (d - m) * 2 ^ m by rw [← rpow_add, show d - m + m = d by omega]]
      grind
  exact key (d + 1) (Nat.le_refl _)
theorem rt_ev (q : Nat → Int) (d : Nat) (t : Rat) : pe (ci (rtF q d)) (d + 1) t = 2 ^ d * pe (ci q) (d + 1) ((t + 1) / 2) := by
  have h1 := mv_tay (lfF q d) d (t + 1)
  rw [lf_ev, show t + 1 - 1 = t by grind] at h1
  exact h1.symm
theorem pe_at0 (c : Nat → Rat) (n : Nat) : pe c (n + 1) 0 = c 0 := by rw [pe_0]; grind
