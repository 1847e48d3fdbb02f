/-! PLAIN LAW 3b: leaves: intervals in which a function has no zero, or one -/
def leaf0p (f : Rat → Rat) (a b : Rat) : Prop := (∀ z, a < z → z < b → 0 < f z) ∧ 0 ≤ f a ∧ 0 ≤ f b
def leaf1p (f : Rat → Rat) (a b : Rat) : Prop := (∀ z w, a < z → z < w → w < b → 0 ≤ f z → 0 < f w) ∧ (∃ z, a < z ∧ z < b ∧ f z < 0) ∧ (∃ z, a < z ∧ z < b ∧ 0 < f z) ∧ f a ≤ 0 ∧ 0 ≤ f b
def u0 (f : Rat → Rat) (b x : Rat) : Int := if x = b ∧ f b = 0 then 1 else 0
def u1 (f : Rat → Rat) (a b x : Rat) : Int := if x = a then 0 else if x = b then (if f b = 0 then 2 else 1) else if 0 ≤ f x then 1 else 0
def dirP (f : Rat → Rat) (x y : Rat) : Prop := ∀ z w, x ≤ z → z < w → w ≤ y → 0 ≤ f z → 0 < f w
def dirN (f : Rat → Rat) (x y : Rat) : Prop := ∀ z w, x ≤ z → z < w → w ≤ y → f z ≤ 0 → f w < 0
/-- a function that counts zeros: what is asked of it over [x, y] -/
def cntU (f : Rat → Rat) (u : Rat → Int) (x y : Rat) : Prop := (hgd f x y → u x = u y) ∧ (dirP f x y → u y - u x = (if f x < 0 then 1 else 0) - (if f y < 0 then 1 else 0)) ∧ (dirN f x y → u y - u x = (if 0 < f x then 1 else 0) - (if 0 < f y then 1 else 0))
theorem mid_lt {a b : Rat} (h : a < b) : ∃ m, a < m ∧ m < b := ⟨(a + b) / 2, by grind, by grind⟩
theorem leaf0_u {f : Rat → Rat} {a b x y : Rat} (H : leaf0p f a b) (h1 : a ≤ x) (h2 : x < y) (h3 : y ≤ b) : cntU f (u0 f b) x y := by
  obtain ⟨H1, H2, H3⟩ := H
  have ux : u0 f b x = 0 := if_neg (fun e => by have := e.1; grind)
  have hx0 : 0 ≤ f x := by
    by_cases e : x = a
    · rw [e]; exact H2
    · exact Rat.le_of_lt (H1 x (by grind) (by grind))
  refine ⟨fun g => ?_, fun g => ?_, fun g => ?_⟩
  · rw [ux]
    unfold u0
    rw [if_neg]
    rintro ⟨e, e2⟩
    subst e
    rcases g with g | g
    · have := g y (by grind) (by grind); grind
    · have := g y (by grind) (by grind); grind
  · have hy := g x y (by grind) h2 (by grind) hx0
    have uy : u0 f b y = 0 := if_neg (fun e => by have e1 := e.1; have e2 := e.2; rw [e1] at hy; grind)
    rw [ux, uy, if_neg (by grind), if_neg (by grind)]
  · have hxp : 0 < f x := by
      refine Classical.byContradiction fun c => ?_
      have e : x = a := Classical.byContradiction fun e => c (H1 x (by grind) (by grind))
      obtain ⟨m, m1, m2⟩ := mid_lt h2
      have := g x m (by grind) m1 (by grind) (by grind)
      have := H1 m (by grind) (by grind)
      grind
    rw [ux, if_pos hxp]
    by_cases e : y = b
    · subst e
      by_cases e2 : f y = 0
      · rw [show u0 f y y = 1 from if_pos ⟨rfl, e2⟩, if_neg (by grind)]
      · rw [show u0 f y y = 0 from if_neg (fun q => e2 q.2), if_pos (by grind)]; rfl
    · have := H1 y (by grind) (by grind)
      rw [show u0 f b y = 0 from if_neg (fun q => e q.1), if_pos this]; rfl
theorem leaf1_u {f : Rat → Rat} {a b x y : Rat} (H : leaf1p f a b) (h1 : a ≤ x) (h2 : x < y) (h3 : y ≤ b) : cntU f (u1 f a b) x y := by
  obtain ⟨H1, ⟨n, n1, n2, n3⟩, ⟨p, p1, p2, p3⟩, H4, H5⟩ := H
  have hab : a < b := by grind
  have uA : u1 f a b a = 0 := if_pos rfl
  have uB : u1 f a b b = if f b = 0 then 2 else 1 := by
    unfold u1
    rw [if_neg (show ¬ b = a by grind), if_pos rfl]
  have uI : ∀ z, a < z → z < b → u1 f a b z = if 0 ≤ f z then 1 else 0 := fun z k1 k2 => by
    unfold u1
    rw [if_neg (show ¬ z = a by grind), if_neg (show ¬ z = b by grind)]
  -- right of a there are negative values
  have near_a : ∀ c, a < c → ∃ z, a < z ∧ z < c ∧ f z < 0 := fun c hc => by
    by_cases q : n < c
    · exact ⟨n, n1, q, n3⟩
    · obtain ⟨m, m1, m2⟩ := mid_lt hc
      refine ⟨m, m1, m2, Classical.byContradiction fun k => ?_⟩
      have := H1 m n m1 (by grind) n2 (by grind)
      grind
  -- left of b there are positive values
  have near_b : ∀ c, c < b → ∃ z, c < z ∧ z < b ∧ a < z ∧ 0 < f z := fun c hc => by
    by_cases q : c < p
    · exact ⟨p, q, p2, p1, p3⟩
    · by_cases q2 : a < c
      · obtain ⟨m, m1, m2⟩ := mid_lt hc
        exact ⟨m, m1, m2, by grind, H1 p m p1 (by grind) m2 (Rat.le_of_lt p3)⟩
      · exact absurd p1 (by grind)
  refine ⟨fun g => ?_, fun g => ?_, fun g => ?_⟩
  · by_cases ex : x = a
    · subst ex
      rw [uA]
      obtain ⟨z, z1, z2, z3⟩ := near_a y h2
      have gn : ∀ w, x ≤ w → w ≤ y → f w < 0 := by
        rcases g with g | g
        · have := g z (by grind) (by grind); grind
        · exact g
      by_cases ey : y = b
      · subst ey
        have := gn p (by grind) (by grind)
        grind
      · rw [uI y (by grind) (by grind), if_neg (by have := gn y (by grind) (by grind); grind)]
    · by_cases ey : y = b
      · subst ey
        obtain ⟨z, z1, z2, z3, z4⟩ := near_b x h2
        have gp : ∀ w, x ≤ w → w ≤ y → 0 < f w := by
          rcases g with g | g
          · exact g
          · have := g z (by grind) (by grind); grind
        have e1 := gp x (by grind) (by grind)
        have e2 := gp y (by grind) (by grind)
        rw [uI x (by grind) (by grind), uB, if_pos (by grind), if_neg (by grind)]
      · rw [uI x (by grind) (by grind), uI y (by grind) (by grind)]
        rcases g with g | g
        · rw [if_pos (by have := g x (by grind) (by grind); grind), if_pos (by have := g y (by grind) (by grind); grind)]
        · rw [if_neg (by have := g x (by grind) (by grind); grind), if_neg (by have := g y (by grind) (by grind); grind)]
  · by_cases ex : x = a
    · subst ex
      have hx : f x < 0 := by
        refine Classical.byContradiction fun c => ?_
        obtain ⟨z, z1, z2, z3⟩ := near_a y h2
        have := g x z (by grind) z1 (by grind) (by grind)
        grind
      rw [uA, if_pos hx]
      by_cases ey : y = b
      · subst ey
        have := g p y (by grind) (by grind) (by grind) (by grind)
        rw [uB, if_neg (by grind), if_neg (by grind)]
      · rw [uI y (by grind) (by grind)]
        by_cases q : 0 ≤ f y
        · rw [if_pos q, if_neg (by grind)]
        · rw [if_neg q, if_pos (by grind)]; rfl
    · by_cases q : f x < 0
      · rw [uI x (by grind) (by grind), if_neg (by grind), if_pos q]
        by_cases ey : y = b
        · subst ey
          obtain ⟨z, z1, z2, z3, z4⟩ := near_b x h2
          have := g z y (by grind) (by grind) (by grind) (by grind)
          rw [uB, if_neg (by grind), if_neg (by grind)]
        · rw [uI y (by grind) (by grind)]
          by_cases q : 0 ≤ f y
          · rw [if_pos q, if_neg (by grind)]
          · rw [if_neg q, if_pos (by grind)]; rfl
      · have e1 := g x y (by grind) h2 (by grind) (by grind)
        rw [uI x (by grind) (by grind), if_pos (by grind), if_neg q, if_neg (by grind)]
        by_cases ey : y = b
        · subst ey
          rw [uB, if_neg (by grind)]; rfl
        · rw [uI y (by grind) (by grind), if_pos (by grind)]; rfl
  · by_cases ex : x = a
    · subst ex
      have e1 := g x y (by grind) h2 (by grind) H4
      rw [uA, if_neg (by grind), if_neg (by grind)]
      by_cases ey : y = b
      · subst ey; grind
      · rw [uI y (by grind) (by grind), if_neg (by grind)]
    · by_cases q : 0 < f x
      · rw [uI x (by grind) (by grind), if_pos (by grind), if_pos q]
        by_cases ey : y = b
        · subst ey
          by_cases e2 : f y = 0
          · rw [uB, if_pos e2, if_neg (by grind)]; rfl
          · rw [uB, if_neg e2, if_pos (by grind)]
        · have e1 := H1 x y (by grind) h2 (by grind) (by grind)
          rw [uI y (by grind) (by grind), if_pos (by grind), if_pos e1]
      · have e1 := g x y (by grind) h2 (by grind) (by grind)
        by_cases ey : y = b
        · subst ey; grind
        · have e2 : f x < 0 := by
            refine Classical.byContradiction fun c => ?_
            have := H1 x y (by grind) h2 (by grind) (by grind)
            grind
          rw [uI x (by grind) (by grind), uI y (by grind) (by grind), if_neg (by grind), if_neg (by grind), if_neg q, if_neg (by grind)]
/-- the chain's first two functions tell where the first one grows -/
def dirC (h : Nat → Rat → Rat) (K : Rat) : Prop := ∀ x y, -K ≤ x → x ≤ y → y ≤ K → ((∀ z, x ≤ z → z ≤ y → 0 < h 1 z) → dirP (h 0) x y) ∧ ((∀ z, x ≤ z → z ≤ y → h 1 z < 0) → dirN (h 0) x y)
theorem leaf_V {h : Nat → Rat → Rat} {r : Nat} {K a b : Rat} {u : Rat → Int} (H : chn h r K) (hd : dirC h K) (ha : -K ≤ a) (hab : a ≤ b) (hb : b ≤ K) (hu : ∀ x y, a ≤ x → x < y → y ≤ b → cntU (h 0) u x y) : (Vch h r a : Int) + u a = (Vch h r b : Int) + u b := by
  obtain ⟨δ, hδ, hs⟩ := chn_short H
  refine an_const (W := fun x => (Vch h r x : Int) + u x) hab ⟨δ, hδ, fun x y k1 k2 k3 k4 => ?_⟩
  have k5 := hs x y (by grind) (by grind) (by grind) k4
  have k6 := V_short (by grind) k5
  have k7 := hu x y k1 k2 k3
  show (Vch h r x : Int) + u x = (Vch h r y : Int) + u y
  by_cases g : hgd (h 0) x y
  · rw [k6.1 g, k7.1 g]
  · rcases (k5 0 (Nat.zero_le r) g).2.1 with g1 | g1
    · have e1 := k6.2.1 g g1
      have e2 := k7.2.1 ((hd x y (by grind) (by grind) (by grind)).1 g1)
      omega
    · have e1 := k6.2.2 g g1
      have e2 := k7.2.2 ((hd x y (by grind) (by grind) (by grind)).2 g1)
      omega
/-- of the negated function -/
theorem cntU_neg {f g : Rat → Rat} {u : Rat → Int} {x y : Rat} (hxy : x ≤ y) (e : ∀ z, x ≤ z → z ≤ y → g z = -f z) (h : cntU g u x y) : cntU f u x y := by
  have ex := e x (by grind) hxy
  have ey := e y hxy (by grind)
  refine ⟨fun k => h.1 ?_, fun k => ?_, fun k => ?_⟩
  · rcases k with k | k
    · exact Or.inr (fun z k1 k2 => by rw [e z k1 k2]; have := k z k1 k2; grind)
    · exact Or.inl (fun z k1 k2 => by rw [e z k1 k2]; have := k z k1 k2; grind)
  · have h2 := h.2.2 (fun z w k1 k2 k3 k4 => by rw [e w (by grind) (by grind)]; rw [e z (by grind) (by grind)] at k4; have := k z w k1 k2 k3 (by grind); grind)
    rw [h2, ex, ey]
    congr 1
    · by_cases q : f x < 0
      · rw [if_pos q, if_pos (by grind)]
      · rw [if_neg q, if_neg (by grind)]
    · by_cases q : f y < 0
      · rw [if_pos q, if_pos (by grind)]
      · rw [if_neg q, if_neg (by grind)]
  · have h2 := h.2.1 (fun z w k1 k2 k3 k4 => by rw [e w (by grind) (by grind)]; rw [e z (by grind) (by grind)] at k4; have := k z w k1 k2 k3 (by grind); grind)
    rw [h2, ex, ey]
    congr 1
    · by_cases q : 0 < f x
      · rw [if_pos q, if_pos (by grind)]
      · rw [if_neg q, if_neg (by grind)]
    · by_cases q : 0 < f y
      · rw [if_pos q, if_pos (by grind)]
      · rw [if_neg q, if_neg (by grind)]
/-- roots in the open interval, by the changes of signs -/
def NV (h : Nat → Rat → Rat) (r : Nat) (a b : Rat) : Int := (Vch h r a : Int) - (Vch h r b : Int) - (if h 0 b = 0 then 1 else 0)
theorem NV_add (h : Nat → Rat → Rat) (r : Nat) (a m b : Rat) : NV h r a b = NV h r a m + (if h 0 m = 0 then 1 else 0) + NV h r m b := by
  unfold NV; omega
theorem leaf0_N {h : Nat → Rat → Rat} {r : Nat} {K a b : Rat} (H : chn h r K) (hd : dirC h K) (ha : -K ≤ a) (hab : a < b) (hb : b ≤ K) (hl : leaf0p (h 0) a b ∨ leaf0p (fun z => -h 0 z) a b) : NV h r a b = 0 := by
  have key : ∀ f : Rat → Rat, (∀ x y, a ≤ x → x < y → y ≤ b → cntU (h 0) (u0 f b) x y) → (f b = 0 ↔ h 0 b = 0) → NV h r a b = 0 := fun f hu hf => by
    have e := leaf_V H hd ha (Rat.le_of_lt hab) hb hu
    have ea : u0 f b a = 0 := if_neg (fun q => by have := q.1; grind)
    have eb : u0 f b b = if h 0 b = 0 then 1 else 0 := by
      unfold u0
      by_cases q : h 0 b = 0
      · rw [if_pos ⟨rfl, hf.mpr q⟩, if_pos q]
      · rw [if_neg (fun w => q (hf.mp w.2)), if_neg q]
    rw [ea, eb] at e
    unfold NV
    omega
  rcases hl with hl | hl
  · exact key (h 0) (fun x y k1 k2 k3 => leaf0_u hl k1 k2 k3) Iff.rfl
  · exact key (fun z => -h 0 z) (fun x y k1 k2 k3 => cntU_neg (g := fun z => -h 0 z) (Rat.le_of_lt k2) (fun _ _ _ => rfl) (leaf0_u hl k1 k2 k3)) ⟨fun q => by have q : -h 0 b = 0 := q; grind, fun q => by show -h 0 b = 0; grind⟩
theorem leaf1_N {h : Nat → Rat → Rat} {r : Nat} {K a b : Rat} (H : chn h r K) (hd : dirC h K) (ha : -K ≤ a) (hab : a < b) (hb : b ≤ K) (hl : leaf1p (h 0) a b ∨ leaf1p (fun z => -h 0 z) a b) : NV h r a b = 1 := by
  have key : ∀ f : Rat → Rat, (∀ x y, a ≤ x → x < y → y ≤ b → cntU (h 0) (u1 f a b) x y) → (f b = 0 ↔ h 0 b = 0) → NV h r a b = 1 := fun f hu hf => by
    have e := leaf_V H hd ha (Rat.le_of_lt hab) hb hu
    have ea : u1 f a b a = 0 := if_pos rfl
    have eb : u1 f a b b = if h 0 b = 0 then 2 else 1 := by
      unfold u1
      rw [if_neg (show ¬ b = a by grind), if_pos rfl]
      by_cases q : h 0 b = 0
      · rw [if_pos (hf.mpr q), if_pos q]
      · rw [if_neg (fun w => q (hf.mp w)), if_neg q]
    rw [ea, eb] at e
    unfold NV
    by_cases q : h 0 b = 0
    · rw [if_pos q] at e ⊢; omega
    · rw [if_neg q] at e ⊢; omega
  rcases hl with hl | hl
  · exact key (h 0) (fun x y k1 k2 k3 => leaf1_u hl k1 k2 k3) Iff.rfl
  · exact key (fun z => -h 0 z) (fun x y k1 k2 k3 => cntU_neg (g := fun z => -h 0 z) (Rat.le_of_lt k2) (fun _ _ _ => rfl) (leaf1_u hl k1 k2 k3)) ⟨fun q => by have q : -h 0 b = 0 := q; grind, fun q => by show -h 0 b = 0; grind⟩
