/-! THE JDK'S CELLS (plain): constants, big integers, lists -/
/-- the magnitude, highest int first -/
def bm (x : Int) (n : Nat) : Nat → Int := fun k => dg (x.natAbs : Int) (n - 1 - k)
/-- an array of ints that lies outside the model's region -/
def mD (κ : zK) (m : Nat) : Prop := m < κ.2 91 ∨ κ.2 92 ≤ m
/-- a BigInteger at a with its ints at m -/
def BJ (κ : zK) (H : Heap) (a m n : Nat) (cf x : Int) : Prop := (∃ c1 c2 c3 : Int, hp κ H a (.inr (6, [vi x.sign, .ref m, vi c1, vi c2, vi c3, vi cf]))) ∧ hp κ H m (eI κ n (bm x n)) ∧ isInts (x.natAbs : Int) n ∧
  (cf = 0 ∧ κ.2 93 ≤ a ∨ ∃ t : Nat, cf = 2 + (t : Int) ∧ t ≤ 48 ∧ (∀ j, j < t → dg (x.natAbs : Int) j = 0) ∧ (x ≠ 0 → dg (x.natAbs : Int) t ≠ 0)) ∧ mD κ m
def BI (κ : zK) (H : Heap) (a : Nat) (x : Int) : Prop := ∃ (m n : Nat) (cf : Int), BJ κ H a m n cf x
theorem BJ.kept {κ : zK} {H H1 : Heap} {a m n : Nat} {cf x : Int} (h : BJ κ H a m n cf x) (h1 : H1[a]? = H[a]?) (h2 : H1[m]? = H[m]?) : BJ κ H1 a m n cf x :=
  let ⟨⟨c1, c2, c3, g⟩, g2, g3⟩ := h; ⟨⟨c1, c2, c3, g.kept h1⟩, g2.kept h2, g3⟩
theorem BJ.lt {κ : zK} {H : Heap} {a m n : Nat} {cf x : Int} (h : BJ κ H a m n cf x) : a < H.size ∧ m < H.size := let ⟨⟨_, _, _, g⟩, g2, _⟩ := h; ⟨g.lt, g2.lt⟩
/-- a BigInteger lasts where no old cell changes -/
theorem BI.ext {κ : zK} {H H1 : Heap} {a : Nat} {x : Int} (h : BI κ H a x) (hk : ∀ q : Nat, q < H.size → H1[q]? = H[q]?) : BI κ H1 a x :=
  let ⟨m, n, cf, g⟩ := h; ⟨m, n, cf, g.kept (hk _ g.lt.1) (hk _ g.lt.2)⟩
/-- the classes differ -/
def zDist (κ : zK) : Prop := (∀ i j, i < 10 → j < 10 → κ.1.1 i = κ.1.1 j → i = j) ∧ (∀ i j, i < 6 → j < 6 → κ.2 i = κ.2 j → i = j) ∧ ∀ i j, i < 10 → j < 6 → κ.1.1 i ≠ κ.2 j
theorem hp.cls {κ : zK} {H : Heap} {a ci : Nat} {fs : List Value} (h : hp κ H a (.inr (ci, fs))) : ∃ cell : Cell, H[a]? = some cell ∧ cell.cls = κ.1.1 ci := by
  obtain ⟨r, g1, cell, q1, q2, q3, q4⟩ := h
  exact ⟨cell, q1, q2⟩
theorem hp.clsA {κ : zK} {H : Heap} {a : Nat} {c : ClassId} {x : vp_A} (h : hp κ H a (.inl (c, x))) : ∃ cell : Cell, H[a]? = some cell ∧ cell.cls = c := by
  obtain ⟨n, f | f | f | f | f⟩ := x <;> exact ⟨_, h, rfl⟩
/-- two cells of different kinds are two -/
theorem hp.kk {κ : zK} {H : Heap} {a b ci cj : Nat} {fs gs : List Value} (hD : zDist κ) (h : hp κ H a (.inr (ci, fs))) (h' : hp κ H b (.inr (cj, gs))) (hi : ci < 10) (hj : cj < 10) (hne : ci ≠ cj) : a ≠ b := by
  rintro rfl
  obtain ⟨c1, e1, g1⟩ := h.cls
  obtain ⟨c2, e2, g2⟩ := h'.cls
  have := Option.some.inj (e1.symm.trans e2)
  subst this
  exact hne (hD.1 _ _ hi hj (g1.symm.trans g2))
theorem hp.ka {κ : zK} {H : Heap} {a b ci t : Nat} {fs : List Value} {x : vp_A} (hD : zDist κ) (h : hp κ H a (.inr (ci, fs))) (h' : hp κ H b (.inl (κ.2 t, x))) (hi : ci < 10) (ht : t < 6) : a ≠ b := by
  rintro rfl
  obtain ⟨c1, e1, g1⟩ := h.cls
  obtain ⟨c2, e2, g2⟩ := h'.clsA
  have := Option.some.inj (e1.symm.trans e2)
  subst this
  exact hD.2.2 _ _ hi ht (g1.symm.trans g2)
theorem hp.aa {κ : zK} {H : Heap} {a b t u : Nat} {x y : vp_A} (hD : zDist κ) (h : hp κ H a (.inl (κ.2 t, x))) (h' : hp κ H b (.inl (κ.2 u, y))) (ht : t < 6) (hu : u < 6) (hne : t ≠ u) : a ≠ b := by
  rintro rfl
  obtain ⟨c1, e1, g1⟩ := h.clsA
  obtain ⟨c2, e2, g2⟩ := h'.clsA
  have := Option.some.inj (e1.symm.trans e2)
  subst this
  exact hne (hD.2.1 _ _ ht hu (g1.symm.trans g2))
/-- the constants' ids -/
abbrev cJ (j : Nat) : Prop := (94 ≤ j ∧ j ≤ 98) ∨ j = 100 ∨ j = 102 ∨ j = 104 ∨ j = 106 ∨ (200 ≤ j ∧ j < 400)
/-- the JDK's constants that the run reads: all below κ.2 93, the start's size -/
def CO (κ : zK) (H : Heap) : Prop := zDist κ ∧ κ.2 93 ≤ H.size ∧ (∀ j, cJ j → κ.2 j < κ.2 93) ∧ zs κ H 0 (.ref (κ.2 97)) ∧ zs κ H 1 (.ref (κ.2 96)) ∧ zs κ H 2 (.ref (κ.2 95)) ∧ zs κ H 3 (.ref (κ.2 98)) ∧
  hp κ H (κ.2 98) (eR κ 2 0 (fun _ => none)) ∧ hp κ H (κ.2 96) (eR κ 5 17 (fun k => if k = 0 then none else some (κ.2 (200 + k)))) ∧ hp κ H (κ.2 95) (eR κ 5 17 (fun k => if k = 0 then none else some (κ.2 (250 + k)))) ∧
  BJ κ H (κ.2 97) (κ.2 94) 0 2 0 ∧ (∀ k : Nat, 1 ≤ k → k ≤ 16 → BJ κ H (κ.2 (200 + k)) (κ.2 (300 + k)) 1 2 (k : Int) ∧ BJ κ H (κ.2 (250 + k)) (κ.2 (350 + k)) 1 2 (-(k : Int))) ∧ κ.2 92 ≤ H.size
theorem zs.kept {κ : zK} {H H1 : Heap} {k : Nat} {v : Value} (h : zs κ H k v) (hq : H1[κ.2 (100 + 2 * k)]? = H[κ.2 (100 + 2 * k)]?) : zs κ H1 k v := let ⟨c, h1, h2⟩ := h; ⟨c, by rw [hq]; exact h1, h2⟩
theorem CO.kept {κ : zK} {H H1 : Heap} (h : CO κ H) (hk : ∀ q : Nat, q < κ.2 93 → H1[q]? = H[q]?) (hz : H.size ≤ H1.size) : CO κ H1 := by
  obtain ⟨hd, h0, hj, h1, h2, h3, h4, h5, h6, h7, h8, h9, h10⟩ := h
  have key : ∀ j, cJ j → H1[κ.2 j]? = H[κ.2 j]? := fun j c => hk _ (hj j c)
  exact ⟨hd, Nat.le_trans h0 hz, hj, h1.kept (key _ (by decide)), h2.kept (key _ (by decide)), h3.kept (key _ (by decide)), h4.kept (key _ (by decide)), h5.kept (key _ (by decide)), h6.kept (key _ (by decide)), h7.kept (key _ (by decide)), h8.kept (key _ (by decide)) (key _ (by decide)), fun k hk1 hk2 => ⟨(h9 k hk1 hk2).1.kept (key _ (by unfold cJ; omega)) (key _ (by unfold cJ; omega)), (h9 k hk1 hk2).2.kept (key _ (by unfold cJ; omega)) (key _ (by unfold cJ; omega))⟩, Nat.le_trans h10 hz⟩
theorem CO.grow {κ : zK} {H H1 : Heap} (h : CO κ H) (hg : zGrow H H1) : CO κ H1 := h.kept (fun q hq => hg.2 q (Nat.lt_of_lt_of_le hq h.2.1)) (by rw [hg.1]; exact Nat.le_succ _)
theorem CO.same {κ : zK} {H H1 : Heap} {a : Nat} (h : CO κ H) (hs : zSame H H1 a) (ha : κ.2 93 ≤ a) : CO κ H1 := h.kept (fun q hq => hs.2 q (Nat.ne_of_lt (Nat.lt_of_lt_of_le hq ha))) (by rw [hs.1]; exact Nat.le_refl _)
theorem CO.call {κ : zK} {H H1 : Heap} {A : Nat → Prop} (h : CO κ H) (hA : ∀ q, A q → κ.2 93 ≤ q) (hz : H.size ≤ H1.size) (hk : ∀ q : Nat, q < H.size → ¬ A q → H1[q]? = H[q]?) : CO κ H1 :=
  h.kept (fun q hq => hk q (Nat.lt_of_lt_of_le hq h.2.1) (fun g => absurd (hA q g) (Nat.not_le.mpr hq))) hz
/-- an ArrayList at l: its array at b, modCount md, n elements, cap places, what they hold -/
def AL (κ : zK) (H : Heap) (l b : Nat) (md : Int) (n cap : Nat) (g : Nat → Option Nat) : Prop :=
  hp κ H l (.inr (5, [vi md, .ref b, vi (n : Int)])) ∧ hp κ H b (eR κ 2 cap g) ∧ n ≤ cap ∧ (cap = 0 → b = κ.2 98) ∧ cap ≤ 1000 ∧ rI md ∧ (∀ k, k < n → ∃ y, g k = some y ∧ oA κ H y) ∧ κ.2 93 ≤ l ∧ (0 < cap → κ.2 93 ≤ b) ∧ l ≠ b
/-- how much an array grows -/
def alG (cap : Nat) : Nat := if cap = 0 then 10 else cap + max 1 (cap / 2)
theorem oA.same {κ : zK} {H H1 : Heap} {v a : Nat} (h : oA κ H v) (hs : zSame H H1 a) (hn : v ≠ a) : oA κ H1 v := h.kept (hs.2 _ hn)
theorem md_norm (x : Int) : ∃ y, vi x = vi y ∧ rI y := ⟨(iZ x).toInt, congrArg Value.int (iZ_of _), rI_of _⟩
theorem CO.D {κ : zK} {H : Heap} (h : CO κ H) : zDist κ := h.1
theorem CO.s3 {κ : zK} {H : Heap} (h : CO κ H) : zs κ H 3 (.ref (κ.2 98)) := h.2.2.2.2.2.2.1
theorem CO.s0 {κ : zK} {H : Heap} (h : CO κ H) : zs κ H 0 (.ref (κ.2 97)) := h.2.2.2.1
theorem CO.s1 {κ : zK} {H : Heap} (h : CO κ H) : zs κ H 1 (.ref (κ.2 96)) := h.2.2.2.2.1
theorem CO.s2 {κ : zK} {H : Heap} (h : CO κ H) : zs κ H 2 (.ref (κ.2 95)) := h.2.2.2.2.2.1
theorem CO.e98 {κ : zK} {H : Heap} (h : CO κ H) : hp κ H (κ.2 98) (eR κ 2 0 (fun _ => none)) := h.2.2.2.2.2.2.2.1
theorem CO.lt {κ : zK} {H : Heap} (h : CO κ H) {j : Nat} (c : cJ j) : κ.2 j < κ.2 93 := h.2.2.1 j c
theorem CO.m {κ : zK} {H : Heap} (h : CO κ H) : κ.2 92 ≤ H.size := h.2.2.2.2.2.2.2.2.2.2.2.2
theorem CO.le {κ : zK} {H : Heap} (h : CO κ H) : κ.2 93 ≤ H.size := h.2.1
/-- an element is none of a list's cells -/
theorem oA.neL {κ : zK} {H : Heap} {v l : Nat} {fs : List Value} (hD : zDist κ) (h : oA κ H v) (hl : hp κ H l (.inr (5, fs))) : v ≠ l := by
  obtain ⟨ci, gs, h1, h2⟩ := h
  rcases h2 with rfl | rfl | rfl | rfl <;> exact hp.kk hD h1 hl (by decide) (by decide) (by decide)
theorem oA.neA {κ : zK} {H : Heap} {v b t : Nat} {x : vp_A} (hD : zDist κ) (h : oA κ H v) (hb : hp κ H b (.inl (κ.2 t, x))) (ht : t < 6) : v ≠ b := by
  obtain ⟨ci, gs, h1, h2⟩ := h
  rcases h2 with rfl | rfl | rfl | rfl <;> exact hp.ka hD h1 hb (by decide) ht
theorem oA.neO {κ : zK} {H : Heap} {v l cj : Nat} {fs : List Value} (hD : zDist κ) (h : oA κ H v) (hl : hp κ H l (.inr (cj, fs))) (hj : cj = 7 ∨ cj = 8) : v ≠ l := by
  obtain ⟨ci, gs, h1, h2⟩ := h
  rcases h2 with rfl | rfl | rfl | rfl <;> exact hp.kk hD h1 hl (by decide) (by omega) (by omega)
theorem alG_in (cap : Nat) (h : cap ≤ 600) : cap < alG cap ∧ alG cap ≤ 1000 := by
  unfold alG
  split <;> omega
