/-! OPENING A GAP, the whole (plain) -/
theorem zOK.le {z : zT} {cc : ByteArray} {own : String} {κ : zK} {fr lo fr' lo' : Nat} {ret : Option FieldType} (E : zOK z cc own κ fr lo ret) (h1 : fr' ≤ fr) (h2 : lo' ≤ lo) : zOK z cc own κ fr' lo' ret :=
  ⟨E.1, E.2.1, E.2.2.1, E.2.2.2.1, E.2.2.2.2.1, E.2.2.2.2.2.1, E.2.2.2.2.2.2.1, E.2.2.2.2.2.2.2.1, Nat.le_trans h1 E.2.2.2.2.2.2.2.2.1, Nat.le_trans h2 E.2.2.2.2.2.2.2.2.2.1, E.2.2.2.2.2.2.2.2.2.2⟩
theorem MB.lt {κ : zK} {ad : Nat → Nat} {P : Nat → Nat → Int} {f g mk : Nat → Int} {S : Nat → Nat → Int} {K : Nat → Int} {thr len many : Int} {a1 a2 a3 a4 : Nat} {H : Heap} (h : MB κ ad P f g mk S K thr len many a1 a2 a3 a4 H) {i : Nat} (u : uA i) : ad i < H.size := by
  rcases u with u | u | u | u
  · exact (h.ns i u).lt
  · have := (h.ms.1 (i - 2000) (by omega)).lt
    rw [show 2000 + (i - 2000) = i by omega] at this
    exact this
  · have hi : i = 3000 ∨ i = 3001 ∨ i = 3002 ∨ i = 3003 ∨ i = 3004 ∨ i = 3005 ∨ i = 3006 := by omega
    rcases hi with rfl | rfl | rfl | rfl | rfl | rfl | rfl
    · exact h.ms.2.1.lt
    · exact h.ms.2.2.1.lt
    · exact h.ho.lt
    · exact h.ms.2.2.2.lt
    · exact h.ke.lt
    · exact h.ca.lt
    · exact h.ma.lt
  · have := (h.sl (i - 3010) (by omega)).lt
    rw [show 3010 + (i - 3010) = i by omega] at this
    exact this
/-- the four arrays: none of the model's cells, apart from one another, what they hold -/
def LV (κ : zK) (ad : Nat → Nat) (a1 a2 a3 a4 cap : Nat) (lv lo hi rt : Nat → Int) (H : Heap) : Prop :=
  (∀ i, uA i → a1 ≠ ad i ∧ a2 ≠ ad i ∧ a3 ≠ ad i ∧ a4 ≠ ad i) ∧ (a1 ≠ a2 ∧ a1 ≠ a3 ∧ a1 ≠ a4 ∧ a2 ≠ a3 ∧ a2 ≠ a4 ∧ a3 ≠ a4) ∧ hp κ H a1 (eI κ cap lv) ∧ hp κ H a2 (eI κ cap lo) ∧ hp κ H a3 (eI κ cap hi) ∧ hp κ H a4 (eI κ cap rt)
/-- a grown array's contents -/
def gwF (cap : Nat) (f : Nat → Int) : Nat → Int := fun m => if m < cap then f m else 0
theorem opK_gw {cap : Nat} {f : Nat → Int} {w M x j : Nat} (hM : M ≤ cap) (hw : 1 ≤ w) (hx : x < M) (hj : j < M + w) (hn : j < M ∨ x + w < j) : opK (gwF cap f) w M x j = opK f w M x j := by
  unfold opK gwF
  by_cases c : x + w < j ∧ j < M + w
  · rw [if_pos c, if_pos c, if_pos (by omega)]
  · rw [if_neg c, if_neg c, if_pos (by omega)]
