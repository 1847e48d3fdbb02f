/-! BISECTING, REFINING, MULTIPLICITY (plain) -/
section
variable {κ : zK} {ad : Nat → Nat} {a1 a2 a3 a4 cap : Nat} {lv lo hi rt : Nat → Int} {H H1 : Heap}
theorem LV.kept (h : LV κ ad a1 a2 a3 a4 cap lv lo hi rt H) (hk : ∀ q : Nat, q < H.size → ¬ AH ad q → H1[q]? = H[q]?) : LV κ ad a1 a2 a3 a4 cap lv lo hi rt H1 :=
  ⟨h.1, h.2.1, h.2.2.1.kept (hk _ h.2.2.1.lt (fun ⟨i, u, e⟩ => (h.1 i u).1 e)), h.2.2.2.1.kept (hk _ h.2.2.2.1.lt (fun ⟨i, u, e⟩ => (h.1 i u).2.1 e)), h.2.2.2.2.1.kept (hk _ h.2.2.2.2.1.lt (fun ⟨i, u, e⟩ => (h.1 i u).2.2.1 e)), h.2.2.2.2.2.kept (hk _ h.2.2.2.2.2.lt (fun ⟨i, u, e⟩ => (h.1 i u).2.2.2 e))⟩
theorem LV.keptN (h : LV κ ad a1 a2 a3 a4 cap lv lo hi rt H) (hk : ∀ q : Nat, q < H.size → ¬ AN ad q → H1[q]? = H[q]?) : LV κ ad a1 a2 a3 a4 cap lv lo hi rt H1 := h.kept (fun q h1 h2 => hk q h1 (fun g => h2 (AH.N q g)))
theorem LV.keptB (h : LV κ ad a1 a2 a3 a4 cap lv lo hi rt H) (hk : ∀ q : Nat, q < H.size → ¬ AB ad q → H1[q]? = H[q]?) : LV κ ad a1 a2 a3 a4 cap lv lo hi rt H1 := h.kept (fun q h1 h2 => hk q h1 (fun g => h2 (AH.B q g)))
theorem LV.nil (h : LV κ ad a1 a2 a3 a4 cap lv lo hi rt H) (hk : ∀ q : Nat, q < H.size → ¬ False → H1[q]? = H[q]?) : LV κ ad a1 a2 a3 a4 cap lv lo hi rt H1 := h.kept (fun q h1 _ => hk q h1 (fun g => g))
theorem LV.obj (h : LV κ ad a1 a2 a3 a4 cap lv lo hi rt H) {i : Nat} (u : uA i) (hs : zSame H H1 (ad i)) : LV κ ad a1 a2 a3 a4 cap lv lo hi rt H1 := h.kept (fun q _ h2 => hs.2 q (fun e => h2 ⟨i, u, e⟩))
end
theorem m_place2 (κ : zK) (H0 : Heap) {ad : Nat → Nat} {P : Nat → Nat → Int} {f g mk : Nat → Int} {S : Nat → Nat → Int} {K : Nat → Int} {thr len many : Int} {a1 a2 a3 a4 cap : Nat} {lv lo hi rt : Nat → Int} (hV : LV κ ad a1 a2 a3 a4 cap lv lo hi rt H0) (hmn : 0 ≤ many ∧ many ≤ (cap : Int)) (hcp : cap < 1000000) {x e : Nat} {m n : Int} (hx : x < cap) (he : e ≤ 1000) (hm : rI m) (hn : rI n) (hmb : -4294967296 < m ∧ m < 4294967296) (hnm : -4294967296 < n - m ∧ n - m < 4294967296) {F : Nat → Int} (h7 : eq7 (P 7) F) (hF : pS F) (hd0 : 0 ≤ pdeg F) (hfit : okPl F e m n) (hI : Inj ad) (hB : MB κ ad P f g mk S K thr len many a1 a2 a3 a4 H0) :
    Mt κ yX4_place cX4_place 5 (none) 4 104 0 0 H0 [.ref (ad 3002), vi (x : Int), vi (e : Int), vi m, vi n] (AI ad a1 a2 a3 a4) (fun v H1 => v = none ∧ ∃ (P1 : Nat → Nat → Int) (f1 g1 : Nat → Int), eq7 (P1 7) F ∧ MB κ ad P1 f1 g1 mk S K thr len many a1 a2 a3 a4 H1 ∧ LV κ ad a1 a2 a3 a4 cap (va_up lv x (e : Int)) (va_up lo x m) (va_up hi x n) (va_up rt x (plF F e m n)) H1) :=
  (m_place κ H0 hV.1 hmn hcp hV.2.1 hx he hm hn hmb hnm (pS_congr h7.symm hF) (by rw [h7.deg]; exact hd0) (okPl_congr h7.symm hfit) hI hB hV.2.2.1 hV.2.2.2.1 hV.2.2.2.2.1 hV.2.2.2.2.2).mono (fun q h => h) (fun v H1 h _ _ => by
    obtain ⟨h1, P1, f1, g1, e1, b, w1, w2, w3, w4⟩ := h
    rw [plF_congr h7] at w4
    exact ⟨h1, P1, f1, g1, e1.trans h7, b, hV.1, hV.2.1, w1, w2, w3, w4⟩)
/-- a list with place x made into w + 1 places -/
def bsF (X : Nat → Int) (x w : Nat) (e0 e1 e2 : Int) (j : Nat) : Int := if j = x then e0 else if j = x + w then e2 else if j < x then X j else if j < x + w then e1 else X (j - w)
theorem bsF_1 {X Y : Nat → Int} {M x : Nat} {e0 e1 e2 : Int} (hx : x < M) (h : ∀ j, j < M + 1 → (j < M ∨ x + 1 < j) → Y j = opK X 1 M x j) {j : Nat} (hj : j < M + 1) : va_up (va_up Y x e0) (x + 1) e2 j = bsF X x 1 e0 e1 e2 j := by
  show (if j = x + 1 then e2 else if j = x then e0 else Y j) = bsF X x 1 e0 e1 e2 j
  unfold bsF
  by_cases c1 : j = x
  · rw [if_neg (by omega), if_pos c1, if_pos c1]
  · by_cases c2 : j = x + 1
    · rw [if_pos c2, if_neg c1, if_pos c2]
    · rw [if_neg c2, if_neg c1, if_neg c1, if_neg c2, h j hj (by omega)]
      unfold opK
      by_cases c3 : j < x
      · rw [if_neg (by omega), if_pos c3]
      · rw [if_pos (by omega), if_neg c3, if_neg (by omega)]
theorem bsF_2 {X Y : Nat → Int} {M x : Nat} {e0 e1 e2 : Int} (hx : x < M) (h : ∀ j, j < M + 2 → (j < M ∨ x + 2 < j) → Y j = opK X 2 M x j) {j : Nat} (hj : j < M + 2) : va_up (va_up (va_up Y x e0) (x + 1) e1) (x + 2) e2 j = bsF X x 2 e0 e1 e2 j := by
  show (if j = x + 2 then e2 else if j = x + 1 then e1 else if j = x then e0 else Y j) = bsF X x 2 e0 e1 e2 j
  unfold bsF
  by_cases c1 : j = x
  · rw [if_neg (by omega), if_neg (by omega), if_pos c1, if_pos c1]
  · by_cases c2 : j = x + 2
    · rw [if_pos c2, if_neg c1, if_pos c2]
    · by_cases c4 : j = x + 1
      · rw [if_neg c2, if_pos c4, if_neg c1, if_neg c2, if_neg (by omega), if_pos (by omega)]
      · rw [if_neg c2, if_neg c4, if_neg c1, if_neg c1, if_neg c2, h j hj (by omega)]
        unfold opK
        by_cases c3 : j < x
        · rw [if_neg (by omega), if_pos c3]
        · rw [if_pos (by omega), if_neg c3, if_neg (by omega)]
theorem plF_eq {F : Nat → Int} {e : Nat} {m : Int} : plF F e m m = 1 := if_pos rfl
/-- the lists' ranges -/
def okL (M : Nat) (lv lo hi rt : Nat → Int) : Prop := ∀ j, j < M → (0 ≤ lv j ∧ lv j ≤ 12) ∧ (-134217728 ≤ lo j ∧ lo j ≤ 134217728) ∧ (-134217728 ≤ hi j ∧ hi j ≤ 134217728) ∧ rI (rt j)
/-- what is kept is fit to be worked with -/
def okK (K : Nat → Int) (P7 F : Nat → Int) : Prop := (∀ k, k < 7 → rI (K k)) ∧ pS K ∧ eq7 P7 F ∧ pS F ∧ 0 ≤ pdeg F
theorem plF_rI {F : Nat → Int} {e : Nat} {m n : Int} : rI (plF F e m n) ∨ True := Or.inr trivial
/-! refine: one step at level e, ends m n (of that level): the new low, high -/
def rfF (K F : Nat → Int) (e : Nat) (l h : Int) : Int × Int := if pAt K (l + h) e = 0 then (l + h, l + h) else if plF F e (2 * l) (l + h) = 0 then (l + h, 2 * h) else (2 * l, l + h)
def rfR (K F : Nat → Int) (e : Nat) (l h : Int) : Int := if pAt K (l + h) e = 0 then 1 else if plF F e (2 * l) (l + h) = 0 then plF F e (l + h) (2 * h) else plF F e (2 * l) (l + h)
/-- so many steps: level, low, high, roots -/
def rfS (K F : Nat → Int) : Nat → Nat → Int → Int → Int → Nat × Int × Int × Int
  | 0, e, l, h, r => (e, l, h, r)
  | s + 1, e, l, h, r => if l < h then rfS K F s (e + 1) (rfF K F (e + 1) l h).1 (rfF K F (e + 1) l h).2 (rfR K F (e + 1) l h) else (e, l, h, r)
def okRf (K F : Nat → Int) : Nat → Nat → Int → Int → Prop
  | 0, _, _, _ => True
  | s + 1, e, l, h => l < h → (-134217728 ≤ l ∧ l ≤ 134217728) ∧ (-134217728 ≤ h ∧ h ≤ 134217728) ∧ rN (pAt K (l + h) (e + 1)) ∧ okPl F (e + 1) (2 * l) (l + h) ∧ okPl F (e + 1) (l + h) (2 * h) ∧ rI (plF F (e + 1) (2 * l) (l + h)) ∧ rI (plF F (e + 1) (l + h) (2 * h)) ∧ okRf K F s (e + 1) (rfF K F (e + 1) l h).1 (rfF K F (e + 1) l h).2
theorem rfS_end {K F : Nat → Int} {s e : Nat} {l h r : Int} (hs : s = 0 ∨ ¬ l < h) : rfS K F s e l h r = (e, l, h, r) := by
  cases s with
  | zero => rfl
  | succ s => exact if_neg (hs.resolve_left (by omega))
/-! multiplicity -/
def muF (d : Nat) (m n : Int) : Nat → (Nat → Int) → Int
  | 0, _ => 0
  | s + 1, p => if pdeg (freeD p) < 1 then 1 else if (m = n ∧ pAt (freeD p) m d = 0) ∨ (m < n ∧ 0 < plF (freeR (freeD p)) d m n) then 1 + muF d m n s (freeD p) else 1
def okMu (d : Nat) (m n : Int) : Nat → (Nat → Int) → Prop
  | 0, _ => False
  | s + 1, p => okFree p ∧ (1 ≤ pdeg (freeD p) → (m = n → rN (pAt (freeD p) m d)) ∧ (m < n → okFree (freeD p) ∧ 0 ≤ pdeg (freeR (freeD p)) ∧ okPl (freeR (freeD p)) d m n ∧ rI (plF (freeR (freeD p)) d m n)) ∧ ((m = n ∧ pAt (freeD p) m d = 0) ∨ (m < n ∧ 0 < plF (freeR (freeD p)) d m n) → okMu d m n s (freeD p)))
