/-! THE COMPONENT'S CELLS (plain): what lasts over a call, lists being built, polynomials -/
/-- how many coefficients, of the first k -/
def pl : Nat → (Nat → Int) → Nat
  | 0, _ => 0
  | k + 1, c => if c k = 0 then pl k c else k + 1
theorem pl_le (c : Nat → Int) : ∀ k, pl k c ≤ k
  | 0 => Nat.le_refl 0
  | k + 1 => by
    unfold pl
    split
    · exact Nat.le_trans (pl_le c k) (Nat.le_succ k)
    · exact Nat.le_refl _
theorem pl_nz (c : Nat → Int) : ∀ k, pl k c = 0 ∨ c (pl k c - 1) ≠ 0
  | 0 => Or.inl rfl
  | k + 1 => by
    unfold pl
    split
    · exact pl_nz c k
    · rename_i h
      exact Or.inr h
theorem pl_z (c : Nat → Int) : ∀ k j, pl k c ≤ j → j < k → c j = 0
  | 0, j, _, h => absurd h (Nat.not_lt_zero j)
  | k + 1, j, h1, h2 => by
    unfold pl at h1
    split at h1
    · rename_i h
      by_cases e : j = k
      · rw [e]; exact h
      · exact pl_z c k j h1 (by omega)
    · omega
theorem pl_uniq {c : Nat → Int} {k n : Nat} (hn : n ≤ k) (h1 : n = 0 ∨ c (n - 1) ≠ 0) (h2 : ∀ j, n ≤ j → j < k → c j = 0) : pl k c = n := by
  induction k with
  | zero => unfold pl; omega
  | succ k ih =>
    unfold pl
    by_cases e : n = k + 1
    · rw [if_neg (by rcases h1 with h | h; (· omega); (· rw [show k = n - 1 by omega]; exact h))]
      exact e.symm
    · rw [if_pos (h2 k (by omega) (by omega))]
      exact ih (by omega) (fun j a b => h2 j a (by omega))
theorem pl_congr {c d : Nat → Int} : ∀ {k : Nat}, (∀ j, j < k → c j = d j) → pl k c = pl k d
  | 0, _ => rfl
  | k + 1, h => by
    unfold pl
    rw [h k (by omega), pl_congr (fun j hj => h j (by omega))]
/-- a polynomial: how many coefficients, and which -/
abbrev Pl : Type := Nat × (Nat → Int)
def cut (k : Nat) (c : Nat → Int) : Nat → Int := fun j => if j < k then c j else 0
def mkP (k : Nat) (c : Nat → Int) : Pl := (pl k c, cut k c)
def nf (P : Pl) : Prop := (P.1 = 0 ∨ P.2 (P.1 - 1) ≠ 0) ∧ ∀ k, P.1 ≤ k → P.2 k = 0
theorem cut_lt {k j : Nat} {c : Nat → Int} (h : j < k) : cut k c j = c j := if_pos h
theorem cut_ge {k j : Nat} {c : Nat → Int} (h : k ≤ j) : cut k c j = 0 := if_neg (by omega)
theorem nf_mk (k : Nat) (c : Nat → Int) : nf (mkP k c) := by
  refine ⟨?_, fun j hj => ?_⟩
  · rcases pl_nz c k with h | h
    · exact Or.inl h
    · by_cases e : pl k c = 0
      · exact Or.inl e
      · have := pl_le c k
        refine Or.inr ?_
        show cut k c (pl k c - 1) ≠ 0
        rw [cut_lt (by omega)]; exact h
  · show cut k c j = 0
    by_cases e : j < k
    · rw [cut_lt e]; exact pl_z c k j hj e
    · exact cut_ge (by omega)
/-- what a call may change, by kinds: the component, lists and their arrays, iterators, mutable big integers -/
def kC (κ : zK) (H : Heap) (q : Nat) : Prop := (∃ (ci : Nat) (fs : List Value), hp κ H q (.inr (ci, fs)) ∧ (ci = 0 ∨ ci = 5 ∨ ci = 7 ∨ ci = 8 ∨ ci = 9)) ∨ ∃ (n : Nat) (f : Nat → Option Nat), hp κ H q (eR κ 2 n f)
def kA (κ : zK) (H : Heap) (A : Nat → Prop) : Prop := ∀ q, A q → κ.2 93 ≤ q ∧ (q < H.size → kC κ H q)
/-- from H to H1 only cells of A changed -/
def kF (κ : zK) (H H1 : Heap) (A : Nat → Prop) : Prop := kA κ H A ∧ H.size ≤ H1.size ∧ ∀ q : Nat, q < H.size → ¬ A q → H1[q]? = H[q]?
theorem kF.ext {κ : zK} {H H1 : Heap} (hz : H.size ≤ H1.size) (hk : ∀ q : Nat, q < H.size → ¬ (fun _ => False : Nat → Prop) q → H1[q]? = H[q]?) : kF κ H H1 (fun _ => False) := ⟨fun _ h => h.elim, hz, hk⟩
theorem kF.grow {κ : zK} {H H1 : Heap} (h : zGrow H H1) : kF κ H H1 (fun _ => False) := ⟨fun _ h => h.elim, by rw [h.1]; exact Nat.le_succ _, fun q hq _ => h.2 q hq⟩
theorem kF.lst {κ : zK} {H H1 : Heap} {l b n cap : Nat} {g : Nat → Option Nat} {A : Nat → Prop} {mdi : Int} (hA : AL κ H l b mdi n cap g) (hAq : ∀ q, A q → q = l ∨ (q = b ∧ 0 < cap)) (hz : H.size ≤ H1.size) (hk : ∀ q : Nat, q < H.size → ¬ A q → H1[q]? = H[q]?) : kF κ H H1 A :=
  ⟨fun q h => (hAq q h).elim (fun e => e ▸ ⟨hA.2.2.2.2.2.2.2.1, fun _ => Or.inl ⟨5, _, hA.1, Or.inr (Or.inl rfl)⟩⟩) (fun e => e.1 ▸ ⟨hA.2.2.2.2.2.2.2.2.1 e.2, fun _ => Or.inr ⟨_, _, hA.2.1⟩⟩), hz, hk⟩
theorem kF.itr {κ : zK} {H H1 : Heap} {it l : Nat} {c r md : Int} {A : Nat → Prop} (hI : IT κ H it l c r md) (hAq : ∀ q, A q → q = it) (hz : H.size ≤ H1.size) (hk : ∀ q : Nat, q < H.size → ¬ A q → H1[q]? = H[q]?) : kF κ H H1 A :=
  ⟨fun q h => (hAq q h) ▸ ⟨hI.2, fun _ => Or.inl ⟨7, _, hI.1, Or.inr (Or.inr (Or.inl rfl))⟩⟩, hz, hk⟩
theorem kF.one {κ : zK} {H H1 : Heap} {a ci : Nat} {fs : List Value} {A : Nat → Prop} (h : hp κ H a (.inr (ci, fs))) (hci : ci = 0 ∨ ci = 5 ∨ ci = 7 ∨ ci = 8 ∨ ci = 9) (h93 : κ.2 93 ≤ a) (hAq : ∀ q, A q → q = a) (hz : H.size ≤ H1.size) (hk : ∀ q : Nat, q < H.size → ¬ A q → H1[q]? = H[q]?) : kF κ H H1 A :=
  ⟨fun q h9 => (hAq q h9) ▸ ⟨h93, fun _ => Or.inl ⟨ci, _, h, hci⟩⟩, hz, hk⟩
theorem CO.kf {κ : zK} {H H1 : Heap} {A : Nat → Prop} (hF : kF κ H H1 A) (h : CO κ H) : CO κ H1 := h.call (fun q hq => (hF.1 q hq).1) hF.2.1 hF.2.2
theorem kF.at {κ : zK} {H H1 : Heap} {A : Nat → Prop} {a : Nat} {e : va_E} (hF : kF κ H H1 A) (h : hp κ H a e) (hn : ¬ A a) : hp κ H1 a e := h.kept (hF.2.2 a h.lt hn)
/-- an object of another class is not touched -/
theorem kF.obj {κ : zK} {H H1 : Heap} {A : Nat → Prop} {a ci : Nat} {fs : List Value} (hD : zDist κ) (hF : kF κ H H1 A) (h : hp κ H a (.inr (ci, fs))) (hci : ci = 1 ∨ ci = 2 ∨ ci = 3 ∨ ci = 4 ∨ ci = 6) : ¬ A a := by
  intro hA
  rcases (hF.1 a hA).2 h.lt with ⟨cj, gs, h2, h3⟩ | ⟨n, f, h2⟩
  · exact hp.kk hD h h2 (by omega) (by omega) (by omega) rfl
  · exact hp.ka hD h h2 (by omega) (by decide) rfl
theorem kF.ints {κ : zK} {H H1 : Heap} {A : Nat → Prop} {a t : Nat} {x : vp_A} (hD : zDist κ) (hF : kF κ H H1 A) (h : hp κ H a (.inl (κ.2 t, x))) (ht : t < 6) (ht2 : t ≠ 2) : ¬ A a := by
  intro hA
  rcases (hF.1 a hA).2 h.lt with ⟨cj, gs, h2, h3⟩ | ⟨n, f, h2⟩
  · exact hp.ka hD h2 h (by omega) ht rfl
  · exact hp.aa hD h h2 ht (by decide) ht2 rfl
theorem oA.kf {κ : zK} {H H1 : Heap} {A : Nat → Prop} {v : Nat} (hD : zDist κ) (hF : kF κ H H1 A) (h : oA κ H v) : oA κ H1 v := by
  obtain ⟨ci, fs, h1, h2⟩ := h
  exact ⟨ci, fs, hF.at h1 (hF.obj hD h1 (by omega)), h2⟩
theorem BI.kf {κ : zK} {H H1 : Heap} {A : Nat → Prop} {a : Nat} {x : Int} (hD : zDist κ) (hF : kF κ H H1 A) (h : BI κ H a x) : BI κ H1 a x := by
  obtain ⟨m, n, cf, h1⟩ := h
  have h2 := h1.1
  obtain ⟨c1, c2, c3, g⟩ := h2
  exact ⟨m, n, cf, h1.kept (hF.2.2 a g.lt (hF.obj hD g (by decide))) (hF.2.2 m h1.2.1.lt (hF.ints hD h1.2.1 (by decide) (by decide)))⟩
theorem BI.oA {κ : zK} {H : Heap} {a : Nat} {x : Int} (h : BI κ H a x) : oA κ H a := by
  obtain ⟨m, n, cf, ⟨c1, c2, c3, g⟩, _⟩ := h
  exact ⟨6, _, g, Or.inr (Or.inr (Or.inr rfl))⟩
theorem AL.kf {κ : zK} {H H1 : Heap} {A : Nat → Prop} {l b n cap : Nat} {md : Int} {g : Nat → Option Nat} (hC : CO κ H) (hF : kF κ H H1 A) (h : AL κ H l b md n cap g) (hl : ¬ A l) (hb : 0 < cap → ¬ A b) : AL κ H1 l b md n cap g := by
  obtain ⟨h1, h2, h3, h4, h5, h6, h7, h8, h9, h10⟩ := h
  have hb2 : ¬ A b := by
    rcases Nat.eq_zero_or_pos cap with e | e
    · intro hA
      have h11 := (hF.1 b hA).1
      rw [h4 e] at h11
      exact absurd h11 (Nat.not_le.mpr (hC.lt (show cJ 98 by decide)))
    · exact hb e
  exact ⟨hF.at h1 hl, hF.at h2 hb2, h3, h4, h5, h6, fun k hk => (h7 k hk).elim (fun y hy => ⟨y, hy.1, hy.2.kf hC.D hF⟩), h8, h9, h10⟩
theorem IT.kf {κ : zK} {H H1 : Heap} {A : Nat → Prop} {it l : Nat} {c r md : Int} (hF : kF κ H H1 A) (h : IT κ H it l c r md) (hn : ¬ A it) : IT κ H1 it l c r md := ⟨hF.at h.1 hn, h.2⟩
/-- where A meets D there is neither a list nor a list's array -/
def aD (κ : zK) (H : Heap) (A D : Nat → Prop) : Prop := ∀ q, A q → D q → q < H.size → ∃ (ci : Nat) (fs : List Value), hp κ H q (.inr (ci, fs)) ∧ (ci = 0 ∨ ci = 7 ∨ ci = 8 ∨ ci = 9)
theorem aD.no {κ : zK} {H : Heap} {D : Nat → Prop} : aD κ H (fun _ => False) D := fun _ h => h.elim
theorem aD.it {κ : zK} {H : Heap} {A D : Nat → Prop} {it l : Nat} {c r md : Int} (hI : IT κ H it l c r md) (hA : ∀ q, A q → q = it) : aD κ H A D := fun q h _ _ => by rw [hA q h]; exact ⟨7, _, hI.1, by decide⟩
theorem aD.nn {κ : zK} {H : Heap} {A D : Nat → Prop} (h : ∀ q, A q → ¬ D q) : aD κ H A D := fun q h1 h2 => absurd h2 (h q h1)
theorem aD.l {κ : zK} {H : Heap} {A D : Nat → Prop} {l : Nat} {fs : List Value} (hD : zDist κ) (ha : aD κ H A D) (h : hp κ H l (.inr (5, fs))) (hd : D l) : ¬ A l := by
  intro hA
  obtain ⟨ci, gs, h1, h2⟩ := ha l hA hd h.lt
  exact hp.kk hD h h1 (by decide) (by omega) (by omega) rfl
theorem aD.b {κ : zK} {H : Heap} {A D : Nat → Prop} {b t : Nat} {x : vp_A} (hD : zDist κ) (ha : aD κ H A D) (h : hp κ H b (.inl (κ.2 t, x))) (ht : t < 6) (hd : D b) : ¬ A b := by
  intro hA
  obtain ⟨ci, gs, h1, h2⟩ := ha b hA hd h.lt
  exact hp.ka hD h1 h (by omega) ht rfl
theorem nIT {κ : zK} {H : Heap} {it l b n cap l2 : Nat} {c r md : Int} {mdi : Int} {g : Nat → Option Nat} (hD : zDist κ) (hI : IT κ H it l2 c r md) (hA : AL κ H l b mdi n cap g) {p : Prop} : ¬ (it = l ∨ (it = b ∧ p)) := by
  rintro (h | h)
  · exact hp.kk hD hI.1 hA.1 (by decide) (by decide) (by decide) h
  · exact hp.ka hD hI.1 hA.2.1 (by decide) (by decide) h.1
/-- room of a list that is being built: its array's places; what an add makes -/
def capR (n : Nat) : Nat := if n = 0 then 0 else if n ≤ 10 then 10 else 15
def alM (n : Nat) : Nat := if n = 0 ∨ n = 10 then 1 else 0
def alS (n : Nat) : Nat := if n = 0 then 10 else if n = 10 then 15 else 0
theorem capR_pos {n : Nat} (h : 0 < n) : 0 < capR n := by unfold capR; split <;> (try split) <;> omega
theorem capR_0 {n : Nat} (h : 0 < capR n) : 0 < n := by unfold capR at h; split at h <;> omega
/-- a list that is being built; E tells an element; all its cells from S on -/
def LB (κ : zK) (S : Nat) (E : Heap → Nat → Nat → Prop) (H : Heap) (l b n : Nat) : Prop := ∃ (md : Int) (g : Nat → Option Nat), AL κ H l b md n (capR n) g ∧ (∀ k, k < n → ∃ y, g k = some y ∧ E H k y) ∧ S ≤ l ∧ (0 < n → S ≤ b)
/-- elements that last -/
def eL (κ : zK) (D : Nat → Prop) (E : Heap → Nat → Nat → Prop) : Prop := ∀ (H H1 : Heap) (A : Nat → Prop) (k y : Nat), CO κ H → kF κ H H1 A → aD κ H A D → E H k y → E H1 k y
abbrev eB (κ : zK) (c : Nat → Int) : Heap → Nat → Nat → Prop := fun H k y => BI κ H y (c k)
theorem eB_L (κ : zK) (c : Nat → Int) : eL κ (fun _ => False) (eB κ c) := fun _ _ _ _ _ hC hF _ h => h.kf hC.D hF
theorem aD.f {κ : zK} {H : Heap} {A : Nat → Prop} : aD κ H A (fun _ => False) := fun _ _ h => h.elim
theorem LB.kf {κ : zK} {S : Nat} {D : Nat → Prop} {E : Heap → Nat → Nat → Prop} {H H1 : Heap} {A : Nat → Prop} {l b n : Nat} (hE : eL κ D E) (hC : CO κ H) (hF : kF κ H H1 A) (ha : aD κ H A D) (ha2 : aD κ H A (fun q => q = l ∨ (q = b ∧ 0 < n))) (h : LB κ S E H l b n) : LB κ S E H1 l b n := by
  obtain ⟨md, g, h1, h2, h3, h4⟩ := h
  refine ⟨md, g, h1.kf hC hF (ha2.l hC.D h1.1 (Or.inl rfl)) (fun hc => ha2.b hC.D h1.2.1 (by decide) (Or.inr ⟨rfl, capR_0 hc⟩)), fun k hk => ?_, h3, h4⟩
  obtain ⟨y, e1, e2⟩ := h2 k hk
  exact ⟨y, e1, hE _ _ _ _ _ hC hF ha e2⟩
/-- a list of big integers, as it stays: its list and array in D -/
def RL (κ : zK) (D : Nat → Prop) (H : Heap) (l n : Nat) (c : Nat → Int) : Prop := ∃ (b cap : Nat) (md : Int) (g : Nat → Option Nat), AL κ H l b md n cap g ∧ (∀ k, k < n → ∃ y, g k = some y ∧ BI κ H y (c k)) ∧ D l ∧ (0 < cap → D b)
theorem RL.kf {κ : zK} {D : Nat → Prop} {H H1 : Heap} {A : Nat → Prop} {l n : Nat} {c : Nat → Int} (hC : CO κ H) (hF : kF κ H H1 A) (ha : aD κ H A D) (h : RL κ D H l n c) : RL κ D H1 l n c := by
  obtain ⟨b, cap, md, g, h1, h2, h3, h4⟩ := h
  refine ⟨b, cap, md, g, h1.kf hC hF (ha.l hC.D h1.1 h3) (fun hc => ha.b hC.D h1.2.1 (by decide) (h4 hc)), fun k hk => ?_, h3, h4⟩
  obtain ⟨y, e1, e2⟩ := h2 k hk
  exact ⟨y, e1, e2.kf hC.D hF⟩
theorem RL.mono {κ : zK} {D D' : Nat → Prop} {H : Heap} {l n : Nat} {c : Nat → Int} (h : RL κ D H l n c) (hD : ∀ q, q < H.size → D q → D' q) : RL κ D' H l n c := by
  obtain ⟨b, cap, md, g, h1, h2, h3, h4⟩ := h
  exact ⟨b, cap, md, g, h1, h2, hD _ h1.1.lt h3, fun hc => hD _ h1.2.1.lt (h4 hc)⟩
/-- a polynomial's object -/
def Po (κ : zK) (D : Nat → Prop) (H : Heap) (p : Nat) (P : Pl) : Prop := nf P ∧ P.1 ≤ 13 ∧ ∃ l, hp κ H p (.inr (2, [.ref l])) ∧ RL κ D H l P.1 P.2
theorem Po.kf {κ : zK} {D : Nat → Prop} {H H1 : Heap} {A : Nat → Prop} {p : Nat} {P : Pl} (hC : CO κ H) (hF : kF κ H H1 A) (ha : aD κ H A D) (h : Po κ D H p P) : Po κ D H1 p P := by
  obtain ⟨h1, h2, l, h3, h4⟩ := h
  exact ⟨h1, h2, l, hF.at h3 (hF.obj hC.D h3 (by decide)), h4.kf hC hF ha⟩
theorem Po.mono {κ : zK} {D D' : Nat → Prop} {H : Heap} {p : Nat} {P : Pl} (h : Po κ D H p P) (hD : ∀ q, q < H.size → D q → D' q) : Po κ D' H p P := by
  obtain ⟨h1, h2, l, h3, h4⟩ := h
  exact ⟨h1, h2, l, h3, h4.mono hD⟩
theorem Po.oA {κ : zK} {D : Nat → Prop} {H : Heap} {p : Nat} {P : Pl} (h : Po κ D H p P) : oA κ H p := by
  obtain ⟨_, _, l, h3, _⟩ := h
  exact ⟨2, _, h3, Or.inr (Or.inl rfl)⟩
abbrev eP (κ : zK) (D : Nat → Prop) (s : Nat → Pl) : Heap → Nat → Nat → Prop := fun H k y => Po κ D H y (s k)
theorem eP_L (κ : zK) (D : Nat → Prop) (s : Nat → Pl) : eL κ D (eP κ D s) := fun _ _ _ _ _ hC hF ha h => h.kf hC hF ha
/-- a list of polynomials, as it stays -/
def SQ (κ : zK) (D : Nat → Prop) (H : Heap) (l n : Nat) (s : Nat → Pl) : Prop := ∃ (b cap : Nat) (md : Int) (g : Nat → Option Nat), AL κ H l b md n cap g ∧ (∀ k, k < n → ∃ y, g k = some y ∧ Po κ D H y (s k)) ∧ D l ∧ (0 < cap → D b)
theorem SQ.kf {κ : zK} {D : Nat → Prop} {H H1 : Heap} {A : Nat → Prop} {l n : Nat} {s : Nat → Pl} (hC : CO κ H) (hF : kF κ H H1 A) (ha : aD κ H A D) (h : SQ κ D H l n s) : SQ κ D H1 l n s := by
  obtain ⟨b, cap, md, g, h1, h2, h3, h4⟩ := h
  refine ⟨b, cap, md, g, h1.kf hC hF (ha.l hC.D h1.1 h3) (fun hc => ha.b hC.D h1.2.1 (by decide) (h4 hc)), fun k hk => ?_, h3, h4⟩
  obtain ⟨y, e1, e2⟩ := h2 k hk
  exact ⟨y, e1, e2.kf hC hF ha⟩
theorem SQ.mono {κ : zK} {D D' : Nat → Prop} {H : Heap} {l n : Nat} {s : Nat → Pl} (h : SQ κ D H l n s) (hD : ∀ q, q < H.size → D q → D' q) : SQ κ D' H l n s := by
  obtain ⟨b, cap, md, g, h1, h2, h3, h4⟩ := h
  exact ⟨b, cap, md, g, h1, fun k hk => (h2 k hk).elim (fun y hy => ⟨y, hy.1, hy.2.mono hD⟩), hD _ h1.1.lt h3, fun hc => hD _ h1.2.1.lt (h4 hc)⟩
theorem LB.toRL {κ : zK} {S : Nat} {D : Nat → Prop} {H : Heap} {l b n : Nat} {c : Nat → Int} (h : LB κ S (eB κ c) H l b n) (hS : ∀ q, S ≤ q → D q) : RL κ D H l n c := by
  obtain ⟨md, g, h1, h2, h3, h4⟩ := h
  exact ⟨b, capR n, md, g, h1, h2, hS _ h3, fun hc => hS _ (h4 (capR_0 hc))⟩
theorem LB.toSQ {κ : zK} {S : Nat} {D D' : Nat → Prop} {H : Heap} {l b n : Nat} {s : Nat → Pl} (h : LB κ S (eP κ D' s) H l b n) (hS : ∀ q, S ≤ q → D q) (hD : ∀ q, D' q → D q) : SQ κ D H l n s := by
  obtain ⟨md, g, h1, h2, h3, h4⟩ := h
  exact ⟨b, capR n, md, g, h1, fun k hk => (h2 k hk).elim (fun y hy => ⟨y, hy.1, hy.2.mono (fun q _ => hD q)⟩), hS _ h3, fun hc => hS _ (h4 (capR_0 hc))⟩
theorem LB.nil {κ : zK} {S : Nat} {E : Heap → Nat → Nat → Prop} {H : Heap} {l : Nat} (h : AL κ H l (κ.2 98) 0 0 0 (fun _ => none)) (hS : S ≤ l) : LB κ S E H l (κ.2 98) 0 := ⟨0, _, h, fun k hk => absurd hk (Nat.not_lt_zero k), hS, fun h => absurd h (by decide)⟩
/-- one element more -/
theorem LB.step {κ : zK} {S : Nat} {E : Heap → Nat → Nat → Prop} {H1 : Heap} {l b2 n v : Nat} {md2 : Int} {g g2 : Nat → Option Nat} (hel : ∀ k, k < n → ∃ y, g k = some y ∧ E H1 k y) (hv : E H1 n v) (hA2 : AL κ H1 l b2 md2 (n + 1) (capR (n + 1)) g2) (hg : ∀ k, k < n → g2 k = g k) (hgn : g2 n = some v) (hl : S ≤ l) (hb : S ≤ b2) : LB κ S E H1 l b2 (n + 1) := by
  refine ⟨md2, g2, hA2, fun k hk => ?_, hl, fun _ => hb⟩
  by_cases e : k = n
  · subst e
    exact ⟨v, hgn, hv⟩
  · obtain ⟨y, h1, h2⟩ := hel k (by omega)
    exact ⟨y, (hg k (by omega)).trans h1, h2⟩
