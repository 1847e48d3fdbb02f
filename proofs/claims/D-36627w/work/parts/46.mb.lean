/-! THE MODEL'S STATE AS ONE -/
def MB (κ : zK) (ad : Nat → Nat) (P : Nat → Nat → Int) (f g mk : Nat → Int) (S : Nat → Nat → Int) (K : Nat → Int) (thr len many : Int) (a1 a2 a3 a4 : Nat) (H : Heap) : Prop :=
  MS κ ad H ∧ NS κ ad (bk P f) H ∧ SL κ ad S H ∧ hp κ H (ad 3002) (.inr (3, MF ad thr len many a1 a2 a3 a4)) ∧ hp κ H (ad 3005) (eI κ 160 g) ∧ hp κ H (ad 3004) (eI κ 7 K) ∧ hp κ H (ad 3006) (eJ κ 14 mk)
section
variable {κ : zK} {ad : Nat → Nat} {P P' : Nat → Nat → Int} {f f' g g' mk mk' : Nat → Int} {S : Nat → Nat → Int} {K K' : Nat → Int} {thr len many thr' len' many' : Int} {a1 a2 a3 a4 b1 b2 b3 b4 : Nat} {H H1 : Heap}
theorem MB.ms (h : MB κ ad P f g mk S K thr len many a1 a2 a3 a4 H) : MS κ ad H := h.1
theorem MB.ns (h : MB κ ad P f g mk S K thr len many a1 a2 a3 a4 H) : NS κ ad (bk P f) H := h.2.1
theorem MB.sl (h : MB κ ad P f g mk S K thr len many a1 a2 a3 a4 H) : SL κ ad S H := h.2.2.1
theorem MB.ho (h : MB κ ad P f g mk S K thr len many a1 a2 a3 a4 H) : hp κ H (ad 3002) (.inr (3, MF ad thr len many a1 a2 a3 a4)) := h.2.2.2.1
theorem MB.ca (h : MB κ ad P f g mk S K thr len many a1 a2 a3 a4 H) : hp κ H (ad 3005) (eI κ 160 g) := h.2.2.2.2.1
theorem MB.ke (h : MB κ ad P f g mk S K thr len many a1 a2 a3 a4 H) : hp κ H (ad 3004) (eI κ 7 K) := h.2.2.2.2.2.1
theorem MB.ma (h : MB κ ad P f g mk S K thr len many a1 a2 a3 a4 H) : hp κ H (ad 3006) (eJ κ 14 mk) := h.2.2.2.2.2.2
theorem AB.not (hI : Inj ad) {i : Nat} (h : 1238 ≤ i) (h2 : i ≠ 3005) : ¬ AB ad (ad i) := fun q => q.elim (AN.not hI h) (fun e => h2 (hI _ _ e))
theorem AR.not (hI : Inj ad) {i : Nat} (h : 1238 ≤ i) (h2 : i ≠ 3002) : ¬ AR ad (ad i) := fun q => q.elim (AN.not hI h) (fun e => h2 (hI _ _ e))
theorem MS.keptN (h : MS κ ad H) {A : Nat → Prop} (hA : ∀ i, (2000 ≤ i ∧ i < 3002) ∨ i = 3003 → ¬ A (ad i)) (hk : ∀ q : Nat, q < H.size → ¬ A q → H1[q]? = H[q]?) : MS κ ad H1 := by
  have key : ∀ i e, (2000 ≤ i ∧ i < 3002) ∨ i = 3003 → hp κ H (ad i) e → hp κ H1 (ad i) e := fun i e hi g => g.kept (hk _ g.lt (hA i hi))
  exact ⟨fun j hj => key _ _ (by omega) (h.1 j hj), key _ _ (by decide) h.2.1, key _ _ (by decide) h.2.2.1, key _ _ (by decide) h.2.2.2⟩
theorem SL.keptN (h : SL κ ad S H) {A : Nat → Prop} (hA : ∀ i, 3010 ≤ i → i < 3015 → ¬ A (ad i)) (hk : ∀ q : Nat, q < H.size → ¬ A q → H1[q]? = H[q]?) : SL κ ad S H1 := fun i hi => (h i hi).kept (hk _ (h i hi).lt (hA _ (by omega) (by omega)))
theorem MB.num (h : MB κ ad P f g mk S K thr len many a1 a2 a3 a4 H) (hI : Inj ad) (hk : ∀ q : Nat, q < H.size → ¬ AN ad q → H1[q]? = H[q]?) (hN : NS κ ad (bk P' f') H1) : MB κ ad P' f' g mk S K thr len many a1 a2 a3 a4 H1 :=
  ⟨h.ms.kept hI (fun _ h => h) hk, hN, h.sl.kept hI (fun _ h => h) hk, h.ho.far hI (by decide) (fun _ h => h) hk, h.ca.far hI (by decide) (fun _ h => h) hk, h.ke.far hI (by decide) (fun _ h => h) hk, h.ma.far hI (by decide) (fun _ h => h) hk⟩
theorem MB.nil (h : MB κ ad P f g mk S K thr len many a1 a2 a3 a4 H) (hk : ∀ q : Nat, q < H.size → ¬ False → H1[q]? = H[q]?) : MB κ ad P f g mk S K thr len many a1 a2 a3 a4 H1 :=
  ⟨h.ms.keptN (A := fun _ => False) (fun _ _ h => h) hk, h.ns.kept0 hk, h.sl.keptN (A := fun _ => False) (fun _ _ _ h => h) hk, h.ho.kept (hk _ h.ho.lt (fun h => h)), h.ca.kept (hk _ h.ca.lt (fun h => h)), h.ke.kept (hk _ h.ke.lt (fun h => h)), h.ma.kept (hk _ h.ma.lt (fun h => h))⟩
theorem MB.btw (h : MB κ ad P f g mk S K thr len many a1 a2 a3 a4 H) (hI : Inj ad) (hk : ∀ q : Nat, q < H.size → ¬ AB ad q → H1[q]? = H[q]?) (hN : NS κ ad (bk P' f') H1) (hc : hp κ H1 (ad 3005) (eI κ 160 g')) : MB κ ad P' f' g' mk S K thr len many a1 a2 a3 a4 H1 :=
  ⟨h.ms.keptN (fun i hi => AB.not hI (by omega) (by omega)) hk, hN, h.sl.keptN (fun i h1 h2 => AB.not hI (by omega) (by omega)) hk, h.ho.kept (hk _ h.ho.lt (AB.not hI (by decide) (by decide))), hc, h.ke.kept (hk _ h.ke.lt (AB.not hI (by decide) (by decide))), h.ma.kept (hk _ h.ma.lt (AB.not hI (by decide) (by decide)))⟩
theorem MB.row (h : MB κ ad P f g mk S K thr len many a1 a2 a3 a4 H) (hI : Inj ad) (hk : ∀ q : Nat, q < H.size → ¬ AR ad q → H1[q]? = H[q]?) (hN : NS κ ad (bk P' f') H1) (ho : hp κ H1 (ad 3002) (.inr (3, MF ad thr' len' many' b1 b2 b3 b4))) : MB κ ad P' f' g mk S K thr' len' many' b1 b2 b3 b4 H1 :=
  ⟨h.ms.keptN (fun i hi => AR.not hI (by omega) (by omega)) hk, hN, h.sl.keptN (fun i h1 h2 => AR.not hI (by omega) (by omega)) hk, ho, h.ca.kept (hk _ h.ca.lt (AR.not hI (by decide) (by decide))), h.ke.kept (hk _ h.ke.lt (AR.not hI (by decide) (by decide))), h.ma.kept (hk _ h.ma.lt (AR.not hI (by decide) (by decide)))⟩
theorem MB.grow (h : MB κ ad P f g mk S K thr len many a1 a2 a3 a4 H) (hg : zGrow H H1) : MB κ ad P f g mk S K thr len many a1 a2 a3 a4 H1 :=
  ⟨h.ms.grow hg, h.ns.grow hg, h.sl.grow hg, h.ho.grow hg, h.ca.grow hg, h.ke.grow hg, h.ma.grow hg⟩
theorem MB.obj (h : MB κ ad P f g mk S K thr len many a1 a2 a3 a4 H) (hI : Inj ad) (hs : zSame H H1 (ad 3002)) (ho : hp κ H1 (ad 3002) (.inr (3, MF ad thr' len' many' b1 b2 b3 b4))) : MB κ ad P f g mk S K thr' len' many' b1 b2 b3 b4 H1 :=
  ⟨h.ms.same hI hs (by decide), h.ns.same hI hs (by decide), h.sl.same hI hs (by decide), ho, h.ca.same hs (hI.ne (by decide)), h.ke.same hs (hI.ne (by decide)), h.ma.same hs (hI.ne (by decide))⟩
theorem MB.made (h : MB κ ad P f g mk S K thr len many a1 a2 a3 a4 H) (hI : Inj ad) (hs : zSame H H1 (ad 3006)) (hm : hp κ H1 (ad 3006) (eJ κ 14 mk')) : MB κ ad P f g mk' S K thr len many a1 a2 a3 a4 H1 :=
  ⟨h.ms.same hI hs (by decide), h.ns.same hI hs (by decide), h.sl.same hI hs (by decide), h.ho.same hs (hI.ne (by decide)), h.ca.same hs (hI.ne (by decide)), h.ke.same hs (hI.ne (by decide)), hm⟩
theorem MB.kept (h : MB κ ad P f g mk S K thr len many a1 a2 a3 a4 H) (hI : Inj ad) (hs : zSame H H1 (ad 3004)) (hm : hp κ H1 (ad 3004) (eI κ 7 K')) : MB κ ad P f g mk S K' thr len many a1 a2 a3 a4 H1 :=
  ⟨h.ms.same hI hs (by decide), h.ns.same hI hs (by decide), h.sl.same hI hs (by decide), h.ho.same hs (hI.ne (by decide)), h.ca.same hs (hI.ne (by decide)), hm, h.ma.same hs (hI.ne (by decide))⟩
theorem MB.slot (h : MB κ ad P f g mk S K thr len many a1 a2 a3 a4 H) (hI : Inj ad) {i : Nat} {r : Nat → Int} (hi : i < 5) (hs : zSame H H1 (ad (3010 + i))) (hr : hp κ H1 (ad (3010 + i)) (eI κ 7 r)) : MB κ ad P f g mk (va_up S i r) K thr len many a1 a2 a3 a4 H1 :=
  ⟨h.ms.same hI hs (by omega), h.ns.same hI hs (by omega), h.sl.put hI hs hr, h.ho.same hs (hI.ne (by omega)), h.ca.same hs (hI.ne (by omega)), h.ke.same hs (hI.ne (by omega)), h.ma.same hs (hI.ne (by omega))⟩
/-- a cell that is none of the model's -/
theorem MB.apart (h : MB κ ad P f g mk S K thr len many a1 a2 a3 a4 H) {b : Nat} {e : va_E} (hb : hp κ H b e) (hs : ∀ q : Nat, q ≠ b → H1[q]? = H[q]?) (hn : ∀ i, b ≠ ad i) : MB κ ad P f g mk S K thr len many a1 a2 a3 a4 H1 :=
  have key : ∀ {i e}, hp κ H (ad i) e → hp κ H1 (ad i) e := fun h => h.kept (hs _ (fun e => hn _ e.symm))
  ⟨⟨fun j hj => key (h.ms.1 j hj), key h.ms.2.1, key h.ms.2.2.1, key h.ms.2.2.2⟩, fun i hi => key (h.ns i hi), fun i hi => key (h.sl i hi), key h.ho, key h.ca, key h.ke, key h.ma⟩
end
/-- the ids in use -/
abbrev uA (i : Nat) : Prop := i < 1238 ∨ (2000 ≤ i ∧ i < 2176) ∨ (3000 ≤ i ∧ i < 3007) ∨ (3010 ≤ i ∧ i < 3015)
/-- what the public calls may change -/
def AH (ad : Nat → Nat) : Nat → Prop := fun q => ∃ i, uA i ∧ q = ad i
theorem AH.of {ad : Nat → Nat} {i : Nat} (h : uA i) : AH ad (ad i) := ⟨i, h, rfl⟩
theorem AH.N {ad : Nat → Nat} : ∀ q, AN ad q → AH ad q := fun _ ⟨i, h, e⟩ => ⟨i, Or.inl h, e⟩
theorem AH.B {ad : Nat → Nat} : ∀ q, AB ad q → AH ad q := fun q h => h.elim (AH.N q) (fun e => ⟨3005, by decide, e⟩)
theorem AH.R {ad : Nat → Nat} : ∀ q, AR ad q → AH ad q := fun q h => h.elim (AH.N q) (fun e => ⟨3002, by decide, e⟩)
