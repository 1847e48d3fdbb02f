/-! A POLYNOMIAL AT A POINT, MOVED BY ONE, AND ITS CHANGES OF SIGN (plain) -/
theorem va_upU {α : Type} (f : Nat → α) (i : Nat) (x y : α) : va_up (va_up f i x) i y = va_up f i y := by
  funext m; unfold va_up; split <;> rfl
theorem va_upj {α : Type} (f : Nat → α) (i : Nat) (x : α) : va_up f i x i = x := if_pos rfl
theorem va_upn {α : Type} (f : Nat → α) {i m : Nat} (x : α) (h : m ≠ i) : va_up f i x m = f m := if_neg h
theorem va_upS {α : Type} (f : Nat → α) (i : Nat) : va_up f i (f i) = f := by
  funext m; unfold va_up; split
  · rename_i h; rw [h]
  · rfl
/-- Horner's steps: the value at m / 2^e, times a power of two -/
def hv (p : Nat → Int) (m : Int) (e N : Nat) : Nat → Int
  | 0 => 0
  | i + 1 => hv p m e N i * m + p (N - 1 - i) * 2 ^ (e * i)
/-- c steps of one pass of moves, from the place n - 1 down -/
def inn (p : Nat → Int) (n : Nat) : Nat → Nat → Int
  | 0 => p
  | c + 1 => va_up (inn p n c) (n - 1 - c) (inn p n c (n - 1 - c) + inn p n c (n - 1 - c + 1))
/-- i passes -/
def mvF (p : Nat → Int) (n : Nat) : Nat → Nat → Int
  | 0 => p
  | i + 1 => inn (mvF p n i) n (n - i)
/-- the last sign and the changes of the first k places -/
def chL (p : Nat → Int) : Nat → Int
  | 0 => 0
  | k + 1 => if (p k).sign = 0 then chL p k else (p k).sign
def chC (p : Nat → Int) : Nat → Nat
  | 0 => 0
  | k + 1 => if (p k).sign ≠ 0 ∧ chL p k ≠ 0 ∧ (p k).sign ≠ chL p k then chC p k + 1 else chC p k
theorem chC_le (p : Nat → Int) : ∀ k, chC p k ≤ k := by
  intro k
  induction k with
  | zero => exact Nat.le_refl _
  | succ k ih => unfold chC; split <;> omega
/-- the first n + 1 places, backwards, over r -/
def rvK (p r : Nat → Int) (n k : Nat) : Nat → Int := fun i => if i < k then p (n - i) else r i
theorem rvK_0 (p r : Nat → Int) (n : Nat) : rvK p r n 0 = r := by funext i; unfold rvK; rw [if_neg (by omega)]
theorem rvK_s (p r : Nat → Int) (n k : Nat) : va_up (rvK p r n k) k (p (n - k)) = rvK p r n (k + 1) := by
  funext i
  show (if i = k then p (n - k) else if i < k then p (n - i) else r i) = if i < k + 1 then p (n - i) else r i
  by_cases e : i = k
  · subst e; rw [if_pos rfl, if_pos (by omega)]
  · rw [if_neg e]
    by_cases l : i < k
    · rw [if_pos l, if_pos (by omega)]
    · rw [if_neg l, if_neg (by omega)]
theorem inn_congr {p q : Nat → Int} {n m : Nat} (hn : n < m) (h : ∀ k, k < m → p k = q k) : ∀ c, c ≤ n → ∀ k, k < m → inn p n c k = inn q n c k := by
  intro c
  induction c with
  | zero => intro _; exact h
  | succ c ih =>
    intro hc k hk
    show (if k = n - 1 - c then _ else _) = (if k = n - 1 - c then _ else _)
    split
    · rw [ih (by omega) _ (by omega), ih (by omega) _ (by omega)]
    · exact ih (by omega) k hk
theorem mvF_congr {p q : Nat → Int} {n m : Nat} (hn : n < m) (h : ∀ k, k < m → p k = q k) : ∀ i k, k < m → mvF p n i k = mvF q n i k := by
  intro i
  induction i with
  | zero => exact h
  | succ i ih => exact inn_congr hn ih (n - i) (by omega)
theorem chL_congr {p q : Nat → Int} : ∀ n, (∀ k, k < n → p k = q k) → chL p n = chL q n := by
  intro n
  induction n with
  | zero => intro _; rfl
  | succ n ih => intro h; unfold chL; rw [h n (by omega), ih (fun k hk => h k (by omega))]
theorem chC_congr {p q : Nat → Int} : ∀ n, (∀ k, k < n → p k = q k) → chC p n = chC q n := by
  intro n
  induction n with
  | zero => intro _; rfl
  | succ n ih => intro h; unfold chC; rw [h n (by omega), ih (fun k hk => h k (by omega)), chL_congr n (fun k hk => h k (by omega))]
/-- all the numbers of the first n + 1 places fit, moved -/
def wiF (p : Nat → Int) (n : Nat) : Nat → Int := mvF (fun i => p (n - i)) n n
theorem MS.same {κ : zK} {ad : Nat → Nat} {H H1 : Heap} (h : MS κ ad H) (hI : Inj ad) {i : Nat} (hs : zSame H H1 (ad i)) (hi : i = 3002 ∨ 3004 ≤ i) : MS κ ad H1 := by
  have ne : ∀ k, k < 3002 ∨ k = 3003 → ad k ≠ ad i := fun k hk e => by have := hI _ _ e; omega
  exact ⟨fun j hj => (h.1 j hj).same hs (ne _ (by omega)), h.2.1.same hs (ne _ (by decide)), h.2.2.1.same hs (ne _ (by decide)), h.2.2.2.same hs (ne _ (by decide))⟩
theorem NS.same {κ : zK} {ad : Nat → Nat} {σ : Nat → Int} {H H1 : Heap} (h : NS κ ad σ H) (hI : Inj ad) {i : Nat} (hs : zSame H H1 (ad i)) (hi : 1238 ≤ i) : NS κ ad σ H1 := fun k hk => (h k hk).same hs (fun e => by have := hI _ _ e; omega)
theorem MS.grow {κ : zK} {ad : Nat → Nat} {H H1 : Heap} (h : MS κ ad H) (hs : zGrow H H1) : MS κ ad H1 := ⟨fun j hj => (h.1 j hj).grow hs, h.2.1.grow hs, h.2.2.1.grow hs, h.2.2.2.grow hs⟩
theorem NS.grow {κ : zK} {ad : Nat → Nat} {σ : Nat → Int} {H H1 : Heap} (h : NS κ ad σ H) (hs : zGrow H H1) : NS κ ad σ H1 := fun k hk => (h k hk).grow hs
/-- what between may change -/
def AB (ad : Nat → Nat) : Nat → Prop := fun q => AN ad q ∨ q = ad 3005
/-- the left half, k places done; the right half -/
def lfK (q r : Nat → Int) (d k : Nat) : Nat → Int := fun i => if i < k then q i * 2 ^ (d - i) else r i
def lfF (q : Nat → Int) (d : Nat) : Nat → Int := fun i => q i * 2 ^ (d - i)
def rtF (q : Nat → Int) (d : Nat) : Nat → Int := mvF (lfF q d) d d
theorem lfK_0 (q r : Nat → Int) (d : Nat) : lfK q r d 0 = r := by funext i; unfold lfK; rw [if_neg (by omega)]
theorem lfK_s (q r : Nat → Int) (d k : Nat) : va_up (lfK q r d k) k (q k * 2 ^ (d - k)) = lfK q r d (k + 1) := by
  funext i
  show (if i = k then q k * 2 ^ (d - k) else if i < k then q i * 2 ^ (d - i) else r i) = if i < k + 1 then q i * 2 ^ (d - i) else r i
  by_cases e : i = k
  · subst e; rw [if_pos rfl, if_pos (by omega)]
  · rw [if_neg e]
    by_cases l : i < k
    · rw [if_pos l, if_pos (by omega)]
    · rw [if_neg l, if_neg (by omega)]
/-- the count by halving, n halvings deep at most; what must fit -/
def cnB (d : Nat) : Nat → (Nat → Int) → Nat
  | 0, q => chC (wiF q d) (d + 1)
  | n + 1, q => if chC (wiF q d) (d + 1) < 2 then chC (wiF q d) (d + 1) else cnB d n (lfF q d) + (if rtF q d 0 = 0 then 1 else 0) + cnB d n (rtF q d)
def fitB (d : Nat) : Nat → (Nat → Int) → Prop
  | 0, q => (∀ k, k ≤ d → rN (wiF q d k)) ∧ chC (wiF q d) (d + 1) < 2
  | n + 1, q => (∀ k, k ≤ d → rN (wiF q d k)) ∧ (2 ≤ chC (wiF q d) (d + 1) → rN (rtF q d 0) ∧ fitB d n (lfF q d) ∧ fitB d n (rtF q d))
theorem wiF_congr {p q : Nat → Int} {d : Nat} (h : ∀ k, k ≤ d → p k = q k) : ∀ k, k ≤ d → wiF p d k = wiF q d k := fun k hk => mvF_congr (m := d + 1) (by omega) (fun i _ => h (d - i) (by omega)) d k (by omega)
theorem rtF_congr {p q : Nat → Int} {d : Nat} (h : ∀ k, k ≤ d → p k = q k) : ∀ k, k ≤ d → rtF p d k = rtF q d k := fun k hk => mvF_congr (m := d + 1) (by omega) (fun i hi => by show p i * _ = q i * _; rw [h i (by omega)]) d k (by omega)
theorem wiC_congr {p q : Nat → Int} {d : Nat} (h : ∀ k, k ≤ d → p k = q k) : chC (wiF p d) (d + 1) = chC (wiF q d) (d + 1) := chC_congr _ (fun k hk => wiF_congr h k (by omega))
theorem fitB_congr {d : Nat} : ∀ n {p q : Nat → Int}, (∀ k, k ≤ d → p k = q k) → fitB d n p → fitB d n q := by
  intro n
  induction n with
  | zero => intro p q h hf; exact ⟨fun k hk => by rw [← wiF_congr h k hk]; exact hf.1 k hk, by rw [← wiC_congr h]; exact hf.2⟩
  | succ n ih =>
    intro p q h hf
    refine ⟨fun k hk => by rw [← wiF_congr h k hk]; exact hf.1 k hk, fun h2 => ?_⟩
    rw [← wiC_congr h] at h2
    have h3 := hf.2 h2
    exact ⟨by rw [← rtF_congr h 0 (by omega)]; exact h3.1, ih (fun k hk => by show p k * _ = q k * _; rw [h k hk]) h3.2.1, ih (rtF_congr h) h3.2.2⟩
theorem cnB_congr {d : Nat} : ∀ n {p q : Nat → Int}, (∀ k, k ≤ d → p k = q k) → cnB d n p = cnB d n q := by
  intro n
  induction n with
  | zero => intro p q h; exact wiC_congr h
  | succ n ih =>
    intro p q h
    unfold cnB
    rw [wiC_congr h, rtF_congr h 0 (by omega), ih (rtF_congr h), ih (p := lfF p d) (q := lfF q d) (fun k hk => by show p k * _ = q k * _; rw [h k hk])]
theorem fitB_w {d n : Nat} {q : Nat → Int} (h : fitB d n q) : ∀ k, k ≤ d → rN (wiF q d k) := by
  cases n with
  | zero => exact h.1
  | succ n => exact h.1
theorem cnB_1 {d n : Nat} {q : Nat → Int} (h : chC (wiF q d) (d + 1) < 2) : cnB d n q = chC (wiF q d) (d + 1) := by
  cases n with
  | zero => rfl
  | succ n => unfold cnB; rw [if_pos h]
theorem NS.flat {κ : zK} {ad : Nat → Nat} {P : Nat → Nat → Int} {f r : Nat → Int} {j : Nat} {H : Heap} (h : NS κ ad (bk (va_up (pget (bk P f)) j r) (bk P f)) H) : NS κ ad (bk (va_up P j r) f) H :=
  h.ofBk (fun m _ => by
    by_cases e : m = j
    · subst e; rw [va_upj, va_upj]; exact eq7.rfl'
    · rw [va_upn _ _ e, va_upn _ _ e]; exact bk_get) (fun i hi => bk_lo _ _ hi)
theorem NS.flat0 {κ : zK} {ad : Nat → Nat} {P : Nat → Nat → Int} {f g : Nat → Int} {H : Heap} (h : NS κ ad (bk (pget (bk P f)) g) H) : NS κ ad (bk P g) H :=
  h.ofBk (fun m _ => bk_get) (fun i hi => rfl)
/-- Horner over polynomials: c places of a pass, from the place d down -/
def psT (q : Nat → Int) (d : Nat) (a w : Int) (c : Nat) : Nat → Int := fun k => if k ≤ d ∧ d < k + c then q k * a + (if k = 0 then 0 else q (k - 1) * w) else q k
def hoP (p : Nat → Int) (d : Nat) (a w : Int) (e : Nat) : Nat → Nat → Int
  | 0 => fun _ => 0
  | s + 1 => va_up (psT (hoP p d a w e s) d a w (d + 1)) 0 (psT (hoP p d a w e s) d a w (d + 1) 0 + p (d - s) * 2 ^ (e * s))
theorem psT_0 (q : Nat → Int) (d : Nat) (a w : Int) : psT q d a w 0 = q := by
  funext k; unfold psT; rw [if_neg (by omega)]
theorem psT_lo (q : Nat → Int) {d : Nat} (a w : Int) {c k : Nat} (h : k + c ≤ d) : psT q d a w c k = q k := by unfold psT; rw [if_neg (by omega)]
theorem psT_s (q : Nat → Int) {d : Nat} (a w : Int) {c k : Nat} (h : d = c + k) (x : Int) (hx : x = q k * a + (if k = 0 then 0 else q (k - 1) * w)) : va_up (psT q d a w c) k x = psT q d a w (c + 1) := by
  funext i
  show (if i = k then x else if i ≤ d ∧ d < i + c then q i * a + (if i = 0 then 0 else q (i - 1) * w) else q i) = if i ≤ d ∧ d < i + (c + 1) then q i * a + (if i = 0 then 0 else q (i - 1) * w) else q i
  by_cases e : i = k
  · subst e; rw [if_pos rfl, if_pos (by omega), hx]
  · rw [if_neg e]
    by_cases l : i ≤ d ∧ d < i + c
    · rw [if_pos l, if_pos (show i ≤ d ∧ d < i + (c + 1) by omega)]
    · rw [if_neg l, if_neg (show ¬ (i ≤ d ∧ d < i + (c + 1)) by omega)]
theorem psT_congr {q r : Nat → Int} {d : Nat} {a w : Int} {c : Nat} (h : eq7 q r) : eq7 (psT q d a w c) (psT r d a w c) := fun k hk => by
  unfold psT
  rw [h k hk]
  by_cases e : k = 0
  · rw [if_pos e, if_pos e]
  · rw [if_neg e, if_neg e, h (k - 1) (by omega)]
theorem hoP_s {p R : Nat → Int} {d : Nat} {a w : Int} {e s : Nat} (h : eq7 R (hoP p d a w e s)) : eq7 (va_up (psT R d a w (d + 1)) 0 (psT R d a w (d + 1) 0 + p (d - s) * 2 ^ (e * s))) (hoP p d a w e (s + 1)) := fun k hk => by
  show (if k = 0 then _ else _) = (if k = 0 then _ else _)
  rw [psT_congr h k hk, psT_congr h 0 (by decide)]
