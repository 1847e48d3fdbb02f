/-! THE MODEL's STATE: ad gives every array of it an address; numbers have the ids below 1238 (t u v w x y: 0..5; polynomial j: 6 + 7 j + k: one 0, other 1, third 2, common 3, free 4, round 5, here 6, keptFree 7, row i: 8 + i, halves d: 16 + d), their outer arrays 2000 + j -/
def Inj (ad : Nat → Nat) : Prop := ∀ i j, ad i = ad j → i = j
theorem Inj.ne {ad : Nat → Nat} (h : Inj ad) {i j : Nat} (hn : i ≠ j) : ad i ≠ ad j := fun q => hn (h i j q)
/-- what never changes -/
def MS (κ : zK) (ad : Nat → Nat) (H : Heap) : Prop :=
  (∀ j, j < 176 → hp κ H (ad (2000 + j)) (eR κ 3 7 (fun k => some (ad (6 + 7 * j + k))))) ∧ hp κ H (ad 3000) (eR κ 4 8 (fun i => some (ad (2008 + i)))) ∧ hp κ H (ad 3001) (eR κ 4 160 (fun d => some (ad (2016 + d)))) ∧ hp κ H (ad 3003) (eR κ 3 5 (fun i => some (ad (3010 + i))))
/-- the numbers -/
def NS (κ : zK) (ad : Nat → Nat) (σ : Nat → Int) (H : Heap) : Prop := ∀ i, i < 1238 → hp κ H (ad i) (eN κ (σ i))
/-- what the methods over polynomials may change -/
def AN (ad : Nat → Nat) : Nat → Prop := fun q => ∃ i, i < 1238 ∧ q = ad i
theorem AN.of {ad : Nat → Nat} {i : Nat} (h : i < 1238) : AN ad (ad i) := ⟨i, h, rfl⟩
theorem AN.not {ad : Nat → Nat} (hI : Inj ad) {i : Nat} (h : 1238 ≤ i) : ¬ AN ad (ad i) := fun ⟨j, hj, e⟩ => by
  have := hI _ _ e; omega
theorem MS.kept {κ : zK} {ad : Nat → Nat} {H H1 : Heap} (h : MS κ ad H) (hI : Inj ad) {A : Nat → Prop} (hA : ∀ q, A q → AN ad q) (hk : ∀ q : Nat, q < H.size → ¬ A q → H1[q]? = H[q]?) : MS κ ad H1 := by
  have key : ∀ i e, 1238 ≤ i → hp κ H (ad i) e → hp κ H1 (ad i) e := fun i e hi g => g.kept (hk _ g.lt (fun q => AN.not hI hi (hA _ q)))
  exact ⟨fun j hj => key _ _ (by omega) (h.1 j hj), key _ _ (by decide) h.2.1, key _ _ (by decide) h.2.2.1, key _ _ (by decide) h.2.2.2⟩
theorem NS.set {κ : zK} {ad : Nat → Nat} {σ : Nat → Int} {H H1 : Heap} (h : NS κ ad σ H) (hI : Inj ad) {i : Nat} {x : Int} (hx : hp κ H1 (ad i) (eN κ x)) (hk : ∀ q : Nat, q < H.size → ¬ q = ad i → H1[q]? = H[q]?) : NS κ ad (va_up σ i x) H1 := by
  intro j hj
  unfold va_up
  by_cases e : j = i
  · subst e; rw [if_pos rfl]; exact hx
  · rw [if_neg e]
    exact (h j hj).kept (hk _ (h j hj).lt (hI.ne e))
theorem NS.congr {κ : zK} {ad : Nat → Nat} {σ τ : Nat → Int} {H : Heap} (h : NS κ ad σ H) (e : ∀ i, i < 1238 → σ i = τ i) : NS κ ad τ H := fun i hi => by
  rw [← e i hi]; exact h i hi
theorem hp.far {κ : zK} {ad : Nat → Nat} {H H1 : Heap} {e : va_E} {i : Nat} (h : hp κ H (ad i) e) (hI : Inj ad) (hi : 1238 ≤ i) {A : Nat → Prop} (hA : ∀ q, A q → AN ad q) (hk : ∀ q : Nat, q < H.size → ¬ A q → H1[q]? = H[q]?) : hp κ H1 (ad i) e := h.kept (hk _ h.lt (fun q => AN.not hI hi (hA _ q)))
theorem NS.kept0 {κ : zK} {ad : Nat → Nat} {σ : Nat → Int} {H H1 : Heap} (h : NS κ ad σ H) (hk : ∀ q : Nat, q < H.size → ¬ False → H1[q]? = H[q]?) : NS κ ad σ H1 := fun i hi => (h i hi).kept (hk _ (h i hi).lt (fun f => f))
theorem NS.set2 {κ : zK} {ad : Nat → Nat} {σ : Nat → Int} {H H1 : Heap} (h : NS κ ad σ H) (hI : Inj ad) {i k : Nat} {x y : Int} (hn : i ≠ k) (hx : hp κ H1 (ad i) (eN κ x)) (hy : hp κ H1 (ad k) (eN κ y)) (hk : ∀ q : Nat, q < H.size → ¬ (q = ad i ∨ q = ad k) → H1[q]? = H[q]?) : NS κ ad (va_up (va_up σ i x) k y) H1 := by
  intro j hj
  show hp κ H1 (ad j) (eN κ (if j = k then y else if j = i then x else σ j))
  by_cases e : j = k
  · subst e; rw [if_pos rfl]; exact hy
  · rw [if_neg e]
    by_cases e2 : j = i
    · subst e2; rw [if_pos rfl]; exact hx
    · rw [if_neg e2]
      exact (h j hj).kept (hk _ (h j hj).lt (fun q => q.elim (hI.ne e2) (hI.ne e)))
theorem NS.set3 {κ : zK} {ad : Nat → Nat} {σ : Nat → Int} {H H1 : Heap} (h : NS κ ad σ H) (hI : Inj ad) {i k m : Nat} {x y w : Int} (hn : i ≠ k) (hx : hp κ H1 (ad i) (eN κ x)) (hy : hp κ H1 (ad k) (eN κ y)) (hw : hp κ H1 (ad m) (eN κ w)) (hk : ∀ q : Nat, q < H.size → ¬ (q = ad i ∨ q = ad k ∨ q = ad m) → H1[q]? = H[q]?) : NS κ ad (va_up (va_up (va_up σ i x) k y) m w) H1 := by
  intro j hj
  show hp κ H1 (ad j) (eN κ (if j = m then w else if j = k then y else if j = i then x else σ j))
  by_cases e0 : j = m
  · subst e0; rw [if_pos rfl]; exact hw
  · rw [if_neg e0]
    by_cases e : j = k
    · subst e; rw [if_pos rfl]; exact hy
    · rw [if_neg e]
      by_cases e2 : j = i
      · subst e2; rw [if_pos rfl]; exact hx
      · rw [if_neg e2]
        exact (h j hj).kept (hk _ (h j hj).lt (fun q => q.elim (hI.ne e2) (fun q => q.elim (hI.ne e) (hI.ne e0))))
/-- a polynomial's place in the numbers -/

def pget (σ : Nat → Int) (j : Nat) : Nat → Int := fun k => σ (6 + 7 * j + k)
def pset (σ : Nat → Int) (j : Nat) (f : Nat → Int) : Nat → Int := fun i => if 6 + 7 * j ≤ i ∧ i < 6 + 7 * j + 7 then f (i - (6 + 7 * j)) else σ i
theorem pset_get (σ : Nat → Int) (j : Nat) (f : Nat → Int) {k : Nat} (h : k < 7) : pset σ j f (6 + 7 * j + k) = f k := by
  unfold pset
  rw [if_pos (by omega), Nat.add_sub_cancel_left]
theorem pset_ne (σ : Nat → Int) (j : Nat) (f : Nat → Int) {i : Nat} (h : i < 6 + 7 * j ∨ 6 + 7 * j + 7 ≤ i) : pset σ j f i = σ i := by
  unfold pset
  rw [if_neg (by omega)]
theorem pget_set {σ : Nat → Int} {j : Nat} {f : Nat → Int} {k : Nat} (h : k < 7) : pget (pset σ j f) j k = f k := pset_get σ j f h
theorem pget_ne {σ : Nat → Int} {i j : Nat} {f : Nat → Int} {k : Nat} (h : k < 7) (hn : i ≠ j) : pget (pset σ j f) i k = pget σ i k := by
  unfold pget
  refine pset_ne σ j f ?_
  rcases Nat.lt_or_gt_of_ne hn with l | l <;> omega
/-- of σ's first k places of the polynomial j, f's -/
def psk (σ : Nat → Int) (j : Nat) (f : Nat → Int) (k : Nat) : Nat → Int := fun i => if 6 + 7 * j ≤ i ∧ i < 6 + 7 * j + k then f (i - (6 + 7 * j)) else σ i
theorem psk_0 (σ : Nat → Int) (j : Nat) (f : Nat → Int) : psk σ j f 0 = σ := by
  funext i; unfold psk; rw [if_neg (by omega)]
theorem psk_7 (σ : Nat → Int) (j : Nat) (f : Nat → Int) : psk σ j f 7 = pset σ j f := rfl
theorem psk_s (σ : Nat → Int) (j : Nat) (f : Nat → Int) (k : Nat) : va_up (psk σ j f k) (6 + 7 * j + k) (f k) = psk σ j f (k + 1) := by
  funext i
  show (if i = 6 + 7 * j + k then f k else if 6 + 7 * j ≤ i ∧ i < 6 + 7 * j + k then f (i - (6 + 7 * j)) else σ i) = if 6 + 7 * j ≤ i ∧ i < 6 + 7 * j + (k + 1) then f (i - (6 + 7 * j)) else σ i
  by_cases e : i = 6 + 7 * j + k
  · subst e; rw [if_pos rfl, if_pos (by omega), Nat.add_sub_cancel_left]
  · rw [if_neg e]
    by_cases l : 6 + 7 * j ≤ i ∧ i < 6 + 7 * j + k
    · rw [if_pos l, if_pos (by omega)]
    · rw [if_neg l, if_neg (by omega)]
theorem psk_ne (σ : Nat → Int) (j : Nat) (f : Nat → Int) (k : Nat) {i : Nat} (h : i < 6 + 7 * j ∨ 6 + 7 * j + k ≤ i) : psk σ j f k i = σ i := by
  unfold psk; rw [if_neg (by omega)]
/-- the degree: -1 of the zero polynomial -/
def degU (p : Nat → Int) : Nat → Int
  | 0 => -1
  | n + 1 => if p n = 0 then degU p n else (n : Int)
def pdeg (p : Nat → Int) : Int := degU p 7
theorem degU_in (p : Nat → Int) : ∀ n, -1 ≤ degU p n ∧ degU p n < n := by
  intro n
  induction n with
  | zero => exact ⟨Int.le_refl _, by show (-1 : Int) < 0; decide⟩
  | succ n ih =>
    unfold degU
    split <;> omega
theorem pdeg_in (p : Nat → Int) : -1 ≤ pdeg p ∧ pdeg p < 7 := degU_in p 7
theorem degU_hi (p : Nat → Int) : ∀ (n j : Nat), degU p n < j → j < n → p j = 0 := by
  intro n
  induction n with
  | zero => intro j _ h; omega
  | succ n ih =>
    intro j h1 h2
    unfold degU at h1
    split at h1
    · rename_i q
      by_cases e : j = n
      · rw [e]; exact q
      · exact ih j h1 (by omega)
    · omega
theorem degU_at (p : Nat → Int) : ∀ (n g : Nat), degU p n = (g : Int) → p g ≠ 0 ∧ g < n := by
  intro n
  induction n with
  | zero => intro g h; unfold degU at h; omega
  | succ n ih =>
    intro g h
    unfold degU at h
    split at h
    · have := ih g h; exact ⟨this.1, by omega⟩
    · rename_i q
      have : n = g := by omega
      subst this; exact ⟨q, by omega⟩
theorem degU_z {p : Nat → Int} {n : Nat} (h : ∀ j, j < n → p j = 0) : degU p n = -1 := by
  induction n with
  | zero => rfl
  | succ n ih => unfold degU; rw [if_pos (h n (by omega))]; exact ih (fun j hj => h j (by omega))
theorem degU_congr {p q : Nat → Int} : ∀ n, (∀ j, j < n → p j = q j) → degU p n = degU q n := by
  intro n
  induction n with
  | zero => intro _; rfl
  | succ n ih => intro h; unfold degU; rw [h n (by omega), ih (fun j hj => h j (by omega))]
theorem pdeg_congr {p q : Nat → Int} (h : ∀ j, j < 7 → p j = q j) : pdeg p = pdeg q := degU_congr 7 h
/-- all of a polynomial's numbers fit -/
def pN (p : Nat → Int) : Prop := ∀ k, k < 7 → rN (p k)
theorem sign_ne0 {x : Int} : x.sign = 0 ↔ x = 0 := Int.sign_eq_zero_iff_zero
theorem degU_s {p : Nat → Int} {n : Nat} (h : p n = 0) : degU p (n + 1) = degU p n := by rw [degU, if_pos h]
theorem degU_t {p : Nat → Int} {n : Nat} (h : p n ≠ 0) : degU p (n + 1) = (n : Int) := by rw [degU, if_neg h]
/-- the object's fields -/
abbrev MF (ad : Nat → Nat) (thr len many : Int) (a1 a2 a3 a4 : Nat) : List Value := [vi thr, .ref (ad 3003), .ref (ad 0), .ref (ad 1), .ref (ad 2), .ref (ad 3), .ref (ad 4), .ref (ad 5), .ref (ad 2000), .ref (ad 2001), .ref (ad 2002), .ref (ad 2003), .ref (ad 2004), .ref (ad 3001), .ref (ad 3005), .ref (ad 2005), .ref (ad 3006), .ref (ad 2006), .ref (ad 3000), vi len, .ref (ad 3004), .ref (ad 2007), .ref a1, .ref a2, .ref a3, .ref a4, vi many]
theorem rJ_I {x : Int} (h : rI x) : rJ x := ⟨by have := h.1; omega, by have := h.2; omega⟩
/-- the derivative -/
def drv (p : Nat → Int) : Nat → Int := fun k => if k + 1 < 7 then ((k : Int) + 1) * p (k + 1) else 0
