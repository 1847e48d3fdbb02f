/-! WHAT COMES OF A MADE ROW (plain) -/
def okC (mk : Nat → Int) (i : Nat) : Prop := (7 ≤ i → mk i = 0) ∧ -9999 ≤ mk i ∧ mk i ≤ 9999
def okB (mk : Nat → Int) : Nat → Bool
  | 0 => true
  | k + 1 => okB mk k && (decide (7 ≤ k → mk k = 0) && (decide (-9999 ≤ mk k) && decide (mk k ≤ 9999)))
theorem okB_s {mk : Nat → Int} {k : Nat} : okB mk (k + 1) = true ↔ okB mk k = true ∧ okC mk k := by
  show (okB mk k && (decide (7 ≤ k → mk k = 0) && (decide (-9999 ≤ mk k) && decide (mk k ≤ 9999)))) = true ↔ _
  unfold okC
  simp only [Bool.and_eq_true, decide_eq_true_eq]
theorem okB_at {mk : Nat → Int} : ∀ n, okB mk n = true → ∀ k, k < n → okC mk k := by
  intro n
  induction n with
  | zero => intro _ k h; omega
  | succ n ih =>
    intro h k hk
    have h2 := okB_s.mp h
    by_cases e : k = n
    · rw [e]; exact h2.2
    · exact ih h2.1 k (by omega)
theorem okB_congr {a b : Nat → Int} : ∀ n, (∀ k, k < n → a k = b k) → okB a n = okB b n := by
  intro n
  induction n with
  | zero => intro _; rfl
  | succ n ih =>
    intro h
    show (okB a n && (decide (7 ≤ n → a n = 0) && (decide (-9999 ≤ a n) && decide (a n ≤ 9999)))) = (okB b n && (decide (7 ≤ n → b n = 0) && (decide (-9999 ≤ b n) && decide (b n ≤ 9999))))
    rw [ih (fun k hk => h k (by omega)), h n (by omega)]
/-- seven ints of a made row -/
def cut7 (mk : Nat → Int) : Nat → Int := fun k => if k < 7 then mk k else 0
abbrev zRp : Type := Int × Int × (Nat → Nat → Int)
def comesR (mk : Nat → Int) (to : Nat) (ref : Int) (S : Nat → Nat → Int) : zRp := if okB mk 14 = true then (pdeg mk, 0, va_up S to (cut7 mk)) else (0, ref, S)
theorem comesR_congr {a b : Nat → Int} {to : Nat} {ref : Int} {S : Nat → Nat → Int} (h : ∀ k, k < 14 → a k = b k) : comesR a to ref S = comesR b to ref S := by
  have e : cut7 a = cut7 b := funext (fun k => by unfold cut7; split; exact h k (by omega); rfl)
  unfold comesR
  rw [okB_congr 14 h, e, pdeg_congr (fun k hk => h k (by omega))]
theorem MB.slc {κ : zK} {ad : Nat → Nat} {P : Nat → Nat → Int} {f g mk : Nat → Int} {S S' : Nat → Nat → Int} {K : Nat → Int} {thr len many : Int} {a1 a2 a3 a4 : Nat} {H : Heap} (h : MB κ ad P f g mk S K thr len many a1 a2 a3 a4 H) (e : ∀ i, i < 5 → ∀ k, k < 7 → S i k = S' i k) : MB κ ad P f g mk S' K thr len many a1 a2 a3 a4 H :=
  ⟨h.ms, h.ns, fun i hi => eI.congr (h.sl i hi) (fun k hk => by rw [e i hi k hk]), h.ho, h.ca, h.ke, h.ma⟩
/-- the slots' bound -/
def bS (S : Nat → Nat → Int) : Prop := ∀ i, i < 5 → ∀ k, k < 7 → -9999 ≤ S i k ∧ S i k ≤ 9999
theorem bS_up {S : Nat → Nat → Int} (h : bS S) {i : Nat} {r : Nat → Int} (hr : ∀ k, k < 7 → -9999 ≤ r k ∧ r k ≤ 9999) : bS (va_up S i r) := fun j hj k hk => by
  by_cases e : j = i
  · subst e; rw [va_upj]; exact hr k hk
  · rw [va_upn _ _ e]; exact h j hj k hk
theorem comesR_bS {mk : Nat → Int} {to : Nat} {ref : Int} {S : Nat → Nat → Int} (h : bS S) : bS (comesR mk to ref S).2.2 := by
  unfold comesR
  split
  · rename_i c
    exact bS_up h (fun k hk => by unfold cut7; rw [if_pos hk]; exact (okB_at 14 c k (by omega)).2)
  · exact h
/-- the simple calls' answers: what they tell, the refusal, the slots -/
def isS (x : Int) : Prop := 0 ≤ x ∧ x < 5
def opSet (S : Nat → Nat → Int) (a p v : Int) : zRp := if (0 ≤ a ∧ a < 5) ∧ (0 ≤ p ∧ p ≤ 6) then (if -99 ≤ v ∧ v ≤ 99 then (pdeg (va_up (S a.toNat) p.toNat v), 0, va_up S a.toNat (va_up (S a.toNat) p.toNat v)) else (0, 2, S)) else (0, 1, S)
def opCoef (S : Nat → Nat → Int) (a p : Int) : zRp := if (0 ≤ a ∧ a < 5) ∧ (0 ≤ p ∧ p ≤ 6) then (S a.toNat p.toNat, 0, S) else (0, 1, S)
def opDeg (S : Nat → Nat → Int) (a : Int) : zRp := if 0 ≤ a ∧ a < 5 then (pdeg (S a.toNat), 0, S) else (0, 1, S)
def opCopy (S : Nat → Nat → Int) (a t : Int) : zRp := if (0 ≤ a ∧ a < 5) ∧ (0 ≤ t ∧ t < 5) then comesR (cut7 (S a.toNat)) t.toNat 0 S else (0, 1, S)
def opAdd (S : Nat → Nat → Int) (a b t : Int) : zRp := if (0 ≤ a ∧ a < 5) ∧ (0 ≤ b ∧ b < 5) ∧ (0 ≤ t ∧ t < 5) then comesR (cut7 (fun k => S a.toNat k + S b.toNat k)) t.toNat 2 S else (0, 1, S)
def opDrv (S : Nat → Nat → Int) (a t : Int) : zRp := if (0 ≤ a ∧ a < 5) ∧ (0 ≤ t ∧ t < 5) then comesR (cut7 (drv (S a.toNat))) t.toNat 2 S else (0, 1, S)
def opRefl (S : Nat → Nat → Int) (a t : Int) : zRp := if (0 ≤ a ∧ a < 5) ∧ (0 ≤ t ∧ t < 5) then comesR (cut7 (fun k => if k % 2 = 0 then S a.toNat k else -S a.toNat k)) t.toNat 0 S else (0, 1, S)
theorem fill_s {F r : Nat → Int} {k : Nat} (hr : ∀ m, m < 14 → r m = if m < k then F m else 0) {x : Int} (hx : x = F k) : ∀ m, m < 14 → va_up r k x m = if m < k + 1 then F m else 0 := fun m hm => by
  show (if m = k then x else r m) = _
  by_cases e : m = k
  · subst e; rw [if_pos rfl, if_pos (by omega), hx]
  · rw [if_neg e, hr m hm]
    by_cases l : m < k
    · rw [if_pos l, if_pos (by omega)]
    · rw [if_neg l, if_neg (by omega)]
theorem fill_0 {F r : Nat → Int} (hr : ∀ k, k < 14 → r k = 0) : ∀ m, m < 14 → r m = if m < 0 then F m else 0 := fun m hm => by rw [hr m hm, if_neg (by omega)]
theorem rJ_small {x : Int} (h : -1000000000000000000 ≤ x ∧ x ≤ 1000000000000000000) : rJ x := ⟨by omega, by omega⟩
theorem drv_cut (p : Nat → Int) (m : Nat) : (if m < 6 then drv p m else 0) = cut7 (drv p) m := by
  unfold cut7
  by_cases h : m < 6
  · rw [if_pos h, if_pos (by omega)]
  · rw [if_neg h]
    by_cases e : m < 7
    · rw [if_pos e]; unfold drv; rw [if_neg (by omega)]
    · rw [if_neg e]
/-- products -/
def mu (p q : Nat → Int) : Nat → Nat → Int
  | 0 => fun _ => 0
  | i + 1 => fun m => mu p q i m + (if i ≤ m ∧ m < i + 7 then p i * q (m - i) else 0)
def muK (p q : Nat → Int) (i k : Nat) : Nat → Int := fun m => mu p q i m + (if i ≤ m ∧ m < i + k then p i * q (m - i) else 0)
theorem muK_0 {p q r : Nat → Int} {i : Nat} (h : ∀ m, m < 14 → r m = mu p q i m) : ∀ m, m < 14 → r m = muK p q i 0 m := fun m hm => by
  unfold muK; rw [if_neg (by omega), h m hm, Int.add_zero]
theorem muK_s {p q r : Nat → Int} {i k : Nat} (h : ∀ m, m < 14 → r m = muK p q i k m) {x : Int} (hx : x = muK p q i k (i + k) + p i * q k) : ∀ m, m < 14 → va_up r (i + k) x m = muK p q i (k + 1) m := fun m hm => by
  show (if m = i + k then x else r m) = _
  by_cases e : m = i + k
  · subst e
    rw [if_pos rfl, hx]
    unfold muK
    rw [if_neg (by omega), if_pos (by omega), Int.add_zero, Nat.add_sub_cancel_left]
  · rw [if_neg e, h m hm]
    unfold muK
    by_cases l : i ≤ m ∧ m < i + k
    · rw [if_pos l, if_pos (by omega)]
    · rw [if_neg l, if_neg (by omega)]
theorem mul_abs {x y : Int} (hx : -9999 ≤ x ∧ x ≤ 9999) (hy : -9999 ≤ y ∧ y ≤ 9999) : -99980001 ≤ x * y ∧ x * y ≤ 99980001 := by
  have h1 : (x * y).natAbs ≤ 9999 * 9999 := by rw [Int.natAbs_mul]; exact Nat.mul_le_mul (by omega) (by omega)
  omega
theorem mu_in {p q : Nat → Int} (hp1 : ∀ k, k < 7 → -9999 ≤ p k ∧ p k ≤ 9999) (hq : ∀ k, k < 7 → -9999 ≤ q k ∧ q k ≤ 9999) : ∀ (i m : Nat), i ≤ 7 → -(99980001 * (i : Int)) ≤ mu p q i m ∧ mu p q i m ≤ 99980001 * (i : Int) := by
  intro i
  induction i with
  | zero => intro m _; exact ⟨by show _ ≤ (0 : Int); omega, by show (0 : Int) ≤ _; omega⟩
  | succ i ih =>
    intro m hi
    have h1 := ih m (by omega)
    show _ ≤ mu p q i m + _ ∧ mu p q i m + _ ≤ _
    by_cases c : i ≤ m ∧ m < i + 7
    · rw [if_pos c]; have h2 := mul_abs (hp1 i (by omega)) (hq (m - i) (by omega)); omega
    · rw [if_neg c]; omega
def opMul (S : Nat → Nat → Int) (a b t : Int) : zRp := if (0 ≤ a ∧ a < 5) ∧ (0 ≤ b ∧ b < 5) ∧ (0 ≤ t ∧ t < 5) then comesR (mu (S a.toNat) (S b.toNat) 7) t.toNat 2 S else (0, 1, S)
/-- moved by y -/
def shN (o : Nat → Int) (y c : Int) : Nat → Int := fun m => if m < 7 then o m * y + (if 0 < m then o (m - 1) else c) else 0
def shF (p : Nat → Int) (y : Int) : Nat → Nat → Int
  | 0 => fun _ => 0
  | s + 1 => shN (shF p y s) y (p (6 - s))
def shK (o : Nat → Int) (y c : Int) (n : Nat) : Nat → Int := fun m => if m < n then o m else shN o y c m
theorem shK_s {o r : Nat → Int} {y c : Int} {n : Nat} (h : ∀ m, m < 14 → r m = shK o y c (n + 1) m) {x : Int} (hx : x = shN o y c n) : ∀ m, m < 14 → va_up r n x m = shK o y c n m := fun m hm => by
  show (if m = n then x else r m) = _
  by_cases e : m = n
  · subst e; rw [if_pos rfl, hx]; unfold shK; rw [if_neg (by omega)]
  · rw [if_neg e, h m hm]
    unfold shK
    by_cases l : m < n
    · rw [if_pos (by omega), if_pos l]
    · rw [if_neg (by omega), if_neg l]
theorem shF_hi (p : Nat → Int) (y : Int) : ∀ (s m : Nat), 7 ≤ m → shF p y s m = 0 := by
  intro s
  cases s with
  | zero => intro m _; rfl
  | succ s => intro m h; show (if m < 7 then _ else (0 : Int)) = 0; rw [if_neg (by omega)]
theorem shF_in {p : Nat → Int} {y : Int} (hp1 : ∀ k, k < 7 → -9999 ≤ p k ∧ p k ≤ 9999) (hy : -9 ≤ y ∧ y ≤ 9) : ∀ (s m : Nat), (shF p y s m).natAbs ≤ 9999 * 10 ^ s := by
  intro s
  induction s with
  | zero => intro m; exact Nat.zero_le _
  | succ s ih =>
    intro m
    have hB : 9999 ≤ 9999 * 10 ^ s := Nat.le_mul_of_pos_right _ (Nat.pow_pos (by decide))
    show (if m < 7 then shF p y s m * y + (if 0 < m then shF p y s (m - 1) else p (6 - s)) else (0 : Int)).natAbs ≤ _
    rw [Nat.pow_succ, ← Nat.mul_assoc]
    by_cases c : m < 7
    · rw [if_pos c]
      have h1 : (shF p y s m * y).natAbs ≤ 9999 * 10 ^ s * 9 := by rw [Int.natAbs_mul]; exact Nat.mul_le_mul (ih m) (by omega)
      have h2 : (if 0 < m then shF p y s (m - 1) else p (6 - s)).natAbs ≤ 9999 * 10 ^ s := by
        by_cases q : 0 < m
        · rw [if_pos q]; exact ih _
        · rw [if_neg q]; have := hp1 (6 - s) (by omega); omega
      have h3 := Int.natAbs_add_le (shF p y s m * y) (if 0 < m then shF p y s (m - 1) else p (6 - s))
      omega
    · rw [if_neg c]; exact Nat.zero_le _
def opShift (S : Nat → Nat → Int) (a y t : Int) : zRp := if (0 ≤ a ∧ a < 5) ∧ (0 ≤ t ∧ t < 5) then (if -9 ≤ y ∧ y ≤ 9 then comesR (shF (S a.toNat) y 7) t.toNat 3 S else (0, 2, S)) else (0, 1, S)
/-- scaled -/
def scF (p : Nat → Int) (y : Int) : Nat → Int := fun k => if k ≤ (pdeg p).toNat ∧ 0 ≤ pdeg p then p k * y ^ ((pdeg p).toNat - k) else 0
def opScale (S : Nat → Nat → Int) (a y t : Int) : zRp := if (0 ≤ a ∧ a < 5) ∧ (0 ≤ t ∧ t < 5) then (if 2 ≤ y ∧ y ≤ 9 then comesR (scF (S a.toNat) y) t.toNat 3 S else (0, 2, S)) else (0, 1, S)
theorem pow9_in {y : Int} (hy : 2 ≤ y ∧ y ≤ 9) {n : Nat} (hn : n ≤ 7) : 0 ≤ y ^ n ∧ y ^ n ≤ 4782969 := by
  obtain ⟨w, rfl⟩ := Int.eq_ofNat_of_zero_le (show 0 ≤ y by omega)
  have h1 : w ^ n ≤ 9 ^ n := Nat.pow_le_pow_left (by omega) n
  have h2 : 9 ^ n ≤ 9 ^ 7 := Nat.pow_le_pow_right (by decide) hn
  have h3 : ((w : Int)) ^ n = ((w ^ n : Nat) : Int) := (Int.natCast_pow w n).symm
  rw [h3]
  have h4 : (9 : Nat) ^ 7 = 4782969 := by decide
  omega
/-- a number that may be too great -/
def grF (x : Int) : Int := if 2147483648 ≤ x.natAbs then 10000 else x
