/-! PLACING AN INTERVAL (plain) -/
theorem MB.off {κ : zK} {ad : Nat → Nat} {P : Nat → Nat → Int} {f g mk : Nat → Int} {S : Nat → Nat → Int} {K : Nat → Int} {thr len many : Int} {a1 a2 a3 a4 : Nat} {H H1 : Heap} (h : MB κ ad P f g mk S K thr len many a1 a2 a3 a4 H) {b : Nat} (hs : zSame H H1 b) (hn : ∀ i, uA i → b ≠ ad i) : MB κ ad P f g mk S K thr len many a1 a2 a3 a4 H1 := by
  have key : ∀ {i e}, uA i → hp κ H (ad i) e → hp κ H1 (ad i) e := fun u h => h.kept (hs.2 _ (fun e => hn _ u e.symm))
  exact ⟨⟨fun j hj => key (by unfold uA; omega) (h.ms.1 j hj), key (by decide) h.ms.2.1, key (by decide) h.ms.2.2.1, key (by decide) h.ms.2.2.2⟩, fun i hi => key (Or.inl hi) (h.ns i hi), fun i hi => key (by unfold uA; omega) (h.sl i hi), key (by decide) h.ho, key (by decide) h.ca, key (by decide) h.ke, key (by decide) h.ma⟩
/-- the model's cells and the four arrays -/
def AI (ad : Nat → Nat) (a1 a2 a3 a4 : Nat) : Nat → Prop := fun q => AH ad q ∨ q = a1 ∨ q = a2 ∨ q = a3 ∨ q = a4
def plF (F : Nat → Int) (e : Nat) (m n : Int) : Int := if m = n then 1 else (cnB (pdeg F).toNat 158 (hoP F (pdeg F).toNat m (n - m) e ((pdeg F).toNat + 1)) : Int)
def okPl (F : Nat → Int) (e : Nat) (m n : Int) : Prop := m ≠ n → fitB (pdeg F).toNat 158 (hoP F (pdeg F).toNat m (n - m) e ((pdeg F).toNat + 1))
