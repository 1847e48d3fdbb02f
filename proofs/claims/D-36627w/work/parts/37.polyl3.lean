/-! THE NUMBERS AS A WHOLE: polynomial j is P j, the temporaries f -/
def bk (P : Nat → Nat → Int) (f : Nat → Int) : Nat → Int := fun i => if i < 6 then f i else P ((i - 6) / 7) ((i - 6) % 7)
theorem bk_at (P : Nat → Nat → Int) (f : Nat → Int) (j k : Nat) (hk : k < 7) : bk P f (6 + 7 * j + k) = P j k := by
  unfold bk
  rw [if_neg (by omega), show (6 + 7 * j + k - 6) / 7 = j by omega, show (6 + 7 * j + k - 6) % 7 = k by omega]
theorem bk_get {P : Nat → Nat → Int} {f : Nat → Int} {j : Nat} : eq7 (pget (bk P f) j) (P j) := fun k hk => bk_at P f j k hk
theorem bk_lo (P : Nat → Nat → Int) (f : Nat → Int) {i : Nat} (h : i < 6) : bk P f i = f i := by unfold bk; rw [if_pos h]
theorem bk_pset (P : Nat → Nat → Int) (f r : Nat → Int) (j : Nat) : pset (bk P f) j r = bk (va_up P j r) f := by
  funext i
  unfold pset bk va_up
  by_cases c : 6 + 7 * j ≤ i ∧ i < 6 + 7 * j + 7
  · rw [if_pos c, if_neg (by omega), if_pos (by omega), show (i - 6) % 7 = i - (6 + 7 * j) by omega]
  · rw [if_neg c]
    by_cases l : i < 6
    · rw [if_pos l, if_pos l]
    · rw [if_neg l, if_neg l, if_neg (by omega)]
theorem bk_tmp (P : Nat → Nat → Int) (f g : Nat → Int) : tmp (bk P f) g = bk P g := by
  funext i; unfold tmp bk; split <;> rfl
theorem bk_up (P : Nat → Nat → Int) (f : Nat → Int) {i : Nat} (x : Int) (h : i < 6) : va_up (bk P f) i x = bk P (va_up f i x) := by
  funext m
  unfold va_up bk
  by_cases e : m = i
  · subst e; simp [h]
  · simp [e]
theorem bk_upP (P : Nat → Nat → Int) (f : Nat → Int) (j k : Nat) (x : Int) (hk : k < 7) : va_up (bk P f) (6 + 7 * j + k) x = bk (va_up P j (va_up (P j) k x)) f := by
  funext m
  show (if m = 6 + 7 * j + k then x else (if m < 6 then f m else P ((m - 6) / 7) ((m - 6) % 7))) = (if m < 6 then f m else (if (m - 6) / 7 = j then (fun u => if u = k then x else P j u) else P ((m - 6) / 7)) ((m - 6) % 7))
  by_cases e : m = 6 + 7 * j + k
  · subst e
    rw [if_pos rfl, if_neg (by omega), if_pos (by omega)]
    show x = if (6 + 7 * j + k - 6) % 7 = k then x else _
    rw [if_pos (by omega)]
  · rw [if_neg e]
    by_cases l : m < 6
    · rw [if_pos l, if_pos l]
    · rw [if_neg l, if_neg l]
      by_cases q : (m - 6) / 7 = j
      · rw [if_pos q, q]
        show P j ((m - 6) % 7) = if (m - 6) % 7 = k then x else P j ((m - 6) % 7)
        rw [if_neg (by omega)]
      · rw [if_neg q]
theorem NS.toBk {κ : zK} {ad : Nat → Nat} {σ : Nat → Int} {H : Heap} (h : NS κ ad σ H) : NS κ ad (bk (pget σ) σ) H := h.congr (fun i hi => by
  show σ i = (if i < 6 then σ i else σ (6 + 7 * ((i - 6) / 7) + (i - 6) % 7))
  split
  · rfl
  · congr 1; omega)
theorem NS.ofBk {κ : zK} {ad : Nat → Nat} {P Q : Nat → Nat → Int} {f g : Nat → Int} {H : Heap} (h : NS κ ad (bk P f) H) (hP : ∀ j, j < 176 → eq7 (P j) (Q j)) (hf : ∀ i, i < 6 → f i = g i) : NS κ ad (bk Q g) H := h.congr (fun i hi => by
  show (if i < 6 then f i else P ((i - 6) / 7) ((i - 6) % 7)) = (if i < 6 then g i else Q ((i - 6) / 7) ((i - 6) % 7))
  split
  · exact hf i (by assumption)
  · exact hP _ (by omega) _ (Nat.mod_lt _ (by decide)))
theorem va_upPc {P : Nat → Nat → Int} {j : Nat} {r s : Nat → Int} (h : eq7 r s) : ∀ m, m < 176 → eq7 (va_up P j r m) (va_up P j s m) := fun m _ => by
  unfold va_up; split
  · exact h
  · exact eq7.rfl'
/-- the square-free part: division by D, of degree h, from the top; n places are left -/
def frT (D : Nat → Int) (h n : Nat) (T : Nat → Int) : Nat → Int := fun m => if n ≤ m ∧ m ≤ n + h then T m - D (m - n) * (T (n + h)).tdiv (D h) else T m
def frF (D : Nat → Int) (h : Nat) : Nat → (Nat → Int) → (Nat → Int)
  | 0, _ => fun _ => 0
  | n + 1, T => va_up (frF D h n (frT D h n T)) n ((T (n + h)).tdiv (D h))
def fitF (D : Nat → Int) (h : Nat) : Nat → (Nat → Int) → Prop
  | 0, _ => True
  | n + 1, T => sN (T (n + h)).natAbs ∧ fitF D h n (frT D h n T)
/-- all of it -/
def freeD (p : Nat → Int) : Nat → Int := comR p (drv p)
def freeR (p : Nat → Int) : Nat → Int := ppos (pprim (frF (freeD p) (pdeg (freeD p)).toNat (pdeg (pprim p) - pdeg (freeD p) + 1).toNat (pprim p)))
def fitFree (p : Nat → Int) : Prop := pS p ∧ pS (drv p) ∧ fitG p (drv p) ∧ fitF (freeD p) (pdeg (freeD p)).toNat (pdeg (pprim p) - pdeg (freeD p) + 1).toNat (pprim p)
theorem comF_pS : ∀ n {a b : Nat → Int}, pS a → pS b → fitC n a b → pS (comF n a b) := by
  intro n
  induction n with
  | zero => intro a b h _ _; exact h
  | succ n ih =>
    intro a b ha hb hf
    unfold comF
    split
    · exact ha
    · rename_i q
      have h2 := hf (by omega)
      exact ih hb (remF_pS 7 ha h2.1) h2.2
theorem comR_pS {a b : Nat → Int} (ha : pS a) (hb : pS b) (hf : fitG a b) : pS (comR a b) := by
  unfold comR fitG at *
  split at hf <;> rename_i q
  · rw [if_pos q]; exact (comF_pS 8 hb ha hf).prim.pos
  · rw [if_neg q]; exact (comF_pS 8 ha hb hf).prim.pos
theorem frF_pS {D : Nat → Int} {h : Nat} : ∀ n {T : Nat → Int}, fitF D h n T → pS (frF D h n T) := by
  intro n
  induction n with
  | zero => intro T _ k _; exact sN_0
  | succ n ih =>
    intro T hf k hk
    unfold frF va_up
    split
    · rw [Int.natAbs_tdiv]; exact sN_le (Nat.div_le_self _ _) hf.1
    · exact ih hf.2 k hk
theorem frF_hi {D : Nat → Int} {h : Nat} : ∀ n {T : Nat → Int} {k : Nat}, n ≤ k → frF D h n T k = 0 := by
  intro n
  induction n with
  | zero => intro T k _; rfl
  | succ n ih =>
    intro T k hk
    unfold frF va_up
    rw [if_neg (by omega)]
    exact ih (by omega)
theorem comR_congr {a a' b b' : Nat → Int} (ha : eq7 a a') (hb : eq7 b b') : eq7 (comR a b) (comR a' b') := by
  unfold comR
  rw [ha.deg, hb.deg]
  refine ppos_congr (eq7.prim ?_)
  split
  · exact comF_congr 8 hb ha
  · exact comF_congr 8 ha hb
theorem fitG_congr {a a' b b' : Nat → Int} (ha : eq7 a a') (hb : eq7 b b') (h : fitG a b) : fitG a' b' := by
  unfold fitG at *
  rw [← ha.deg, ← hb.deg]
  split at h
  · rw [if_pos (by assumption)]; exact fitC_congr 8 hb ha h
  · rw [if_neg (by assumption)]; exact fitC_congr 8 ha hb h
theorem drv_congr {p q : Nat → Int} (h : eq7 p q) : eq7 (drv p) (drv q) := fun k hk => by
  unfold drv
  split
  · rw [h _ (by assumption)]
  · rfl
theorem degU_neg (p : Nat → Int) : ∀ n, degU (fun k => -p k) n = degU p n := by
  intro n
  induction n with
  | zero => rfl
  | succ n ih =>
    unfold degU
    rw [ih]
    by_cases h : p n = 0
    · rw [if_pos h, if_pos (by rw [h]; rfl)]
    · rw [if_neg h, if_neg (by omega)]
theorem pdeg_neg (p : Nat → Int) : pdeg (fun k => -p k) = pdeg p := degU_neg p 7
theorem ppos_deg (p : Nat → Int) : pdeg (ppos p) = pdeg p := by
  by_cases c : 0 ≤ pdeg p ∧ p (pdeg p).toNat < 0
  · rw [show ppos p = fun k => -p k from funext (fun k => by unfold ppos; rw [if_pos c])]; exact pdeg_neg p
  · rw [show ppos p = p from funext (fun k => by unfold ppos; rw [if_neg c])]
theorem ppos_lead {p : Nat → Int} {h : Nat} (hd : pdeg (ppos p) = (h : Int)) : 0 < ppos p h := by
  have hn := (degU_at _ _ _ hd).1
  rw [ppos_deg] at hd
  unfold ppos at hn ⊢
  rw [hd, Int.toNat_natCast] at hn ⊢
  split at hn <;> rename_i c
  · rw [if_pos c]; have := c.2; omega
  · rw [if_neg c]; omega
theorem NS.lo {κ : zK} {ad : Nat → Nat} {P : Nat → Nat → Int} {f : Nat → Int} {H : Heap} {i : Nat} {x : Int} (h : NS κ ad (va_up (bk P f) i x) H) (hi : i < 6) : NS κ ad (bk P (va_up f i x)) H := by rw [← bk_up P f x hi]; exact h
theorem NS.hi {κ : zK} {ad : Nat → Nat} {P : Nat → Nat → Int} {f : Nat → Int} {H : Heap} {j k : Nat} {x : Int} (h : NS κ ad (va_up (bk P f) (6 + 7 * j + k) x) H) (hk : k < 7) : NS κ ad (bk (va_up P j (va_up (P j) k x)) f) H := by rw [← bk_upP P f j k x hk]; exact h
theorem NS.ps {κ : zK} {ad : Nat → Nat} {P : Nat → Nat → Int} {f r s : Nat → Int} {H : Heap} {j : Nat} (h : NS κ ad (pset (bk P f) j r) H) (e : eq7 r s) : NS κ ad (bk (va_up P j s) f) H := by
  rw [bk_pset] at h
  exact h.ofBk (va_upPc e) (fun _ _ => rfl)
theorem NS.psT {κ : zK} {ad : Nat → Nat} {P : Nat → Nat → Int} {f g r s : Nat → Int} {H : Heap} {j : Nat} (h : NS κ ad (pset (tmp (bk P f) g) j r) H) (e : eq7 r s) : NS κ ad (bk (va_up P j s) g) H := by
  rw [bk_tmp] at h
  exact h.ps e
/-- polynomials 2 and 4 at work -/
def up24 (Q : Nat → Nat → Int) (T R : Nat → Int) : Nat → Nat → Int := fun j => if j = 2 then T else if j = 4 then R else Q j
theorem up24_s4 (Q : Nat → Nat → Int) (T R S : Nat → Int) : va_up (up24 Q T R) 4 S = up24 Q T S := by
  funext j
  show (if j = 4 then S else if j = 2 then T else if j = 4 then R else Q j) = (if j = 2 then T else if j = 4 then S else Q j)
  by_cases e : j = 4
  · subst e; rfl
  · simp [e]
theorem up24_s2 (Q : Nat → Nat → Int) (T R S : Nat → Int) : va_up (up24 Q T R) 2 S = up24 Q S R := by
  funext j
  show (if j = 2 then S else if j = 2 then T else if j = 4 then R else Q j) = (if j = 2 then S else if j = 4 then R else Q j)
  by_cases e : j = 2 <;> simp [e]
theorem up24_in (P : Nat → Nat → Int) (p d q r0 r1 D T : Nat → Int) : va_up (va_up (va_up (va_up (va_up (va_up (va_up P 0 p) 1 d) 2 q) 0 r0) 1 r1) 3 D) 2 T = up24 (va_up (va_up (va_up P 0 r0) 1 r1) 3 D) T (P 4) := by
  funext j
  unfold up24 va_up
  by_cases e0 : j = 0
  · subst e0; rfl
  by_cases e1 : j = 1
  · subst e1; rfl
  by_cases e2 : j = 2
  · subst e2; rfl
  by_cases e3 : j = 3
  · subst e3; rfl
  by_cases e4 : j = 4
  · subst e4; rfl
  simp [e0, e1, e2, e3, e4]
theorem up24_out (P : Nat → Nat → Int) (r0 r1 D T R : Nat → Int) : up24 (va_up (va_up (va_up P 0 r0) 1 r1) 3 D) T R = va_up (va_up (va_up (va_up (va_up P 0 r0) 1 r1) 2 T) 3 D) 4 R := by
  funext j
  unfold up24 va_up
  by_cases e0 : j = 0
  · subst e0; rfl
  by_cases e1 : j = 1
  · subst e1; rfl
  by_cases e2 : j = 2
  · subst e2; rfl
  by_cases e3 : j = 3
  · subst e3; rfl
  by_cases e4 : j = 4
  · subst e4; rfl
  simp [e0, e1, e2, e3, e4]
/-- k places of the subtraction done -/
def frK (D T : Nat → Int) (q : Int) (m k : Nat) : Nat → Int := fun i => if m ≤ i ∧ i < m + k then T i - D (i - m) * q else T i
theorem frK_0 (D T : Nat → Int) (q : Int) (m : Nat) : frK D T q m 0 = T := by
  funext i; unfold frK; rw [if_neg (by omega)]
theorem frK_at (D T : Nat → Int) (q : Int) (m k : Nat) : frK D T q m k (m + k) = T (m + k) := by unfold frK; rw [if_neg (by omega)]
theorem frK_s (D T : Nat → Int) (q : Int) (m k : Nat) : va_up (frK D T q m k) (m + k) (T (m + k) - D k * q) = frK D T q m (k + 1) := by
  funext i
  show (if i = m + k then T (m + k) - D k * q else if m ≤ i ∧ i < m + k then T i - D (i - m) * q else T i) = if m ≤ i ∧ i < m + (k + 1) then T i - D (i - m) * q else T i
  by_cases e : i = m + k
  · subst e; rw [if_pos rfl, if_pos (by omega), Nat.add_sub_cancel_left]
  · rw [if_neg e]
    by_cases c : m ≤ i ∧ i < m + k
    · rw [if_pos c, if_pos (by omega)]
    · rw [if_neg c, if_neg (by omega)]
theorem frK_h (D T : Nat → Int) (h m : Nat) : frK D T ((T (m + h)).tdiv (D h)) m (h + 1) = frT D h m T := by
  funext i
  unfold frK frT
  by_cases c : m ≤ i ∧ i ≤ m + h
  · rw [if_pos c, if_pos (by omega)]
  · rw [if_neg c, if_neg (by omega)]
theorem fr_step {D T R F : Nat → Int} {h m : Nat} (hr : ∀ k, k < 7 → F k = if k < m + 1 then frF D h (m + 1) T k else R k) : ∀ k, k < 7 → F k = if k < m then frF D h m (frT D h m T) k else va_up R m ((T (m + h)).tdiv (D h)) k := by
  intro k hk
  rw [hr k hk]
  show (if k < m + 1 then (if k = m then (T (m + h)).tdiv (D h) else frF D h m (frT D h m T) k) else R k) = if k < m then frF D h m (frT D h m T) k else if k = m then (T (m + h)).tdiv (D h) else R k
  by_cases e : k = m
  · subst e; rw [if_pos (by omega), if_pos rfl, if_neg (by omega), if_pos rfl]
  · by_cases l : k < m
    · rw [if_pos (by omega), if_neg e, if_pos l]
    · rw [if_neg (by omega), if_neg l, if_neg e]
