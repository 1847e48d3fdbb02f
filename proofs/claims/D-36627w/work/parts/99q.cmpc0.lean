/-! THE COMPONENT'S STATE (plain) -/
/-- an interval: level, lesser, greater, roots -/
abbrev Ivl : Type := Int × Int × Int × Int
def isoV : Option Nat → Value
  | none => .null
  | some k => .ref k
abbrev e4 (κ : zK) (H : Heap) (y : Nat) (v : Ivl) : Prop := hp κ H y (.inr (4, [vi v.1, vi v.2.1, vi v.2.2.1, vi v.2.2.2]))
/-- all cells but those of the component's own two lists -/
def dS (ls bs li bi : Nat) : Nat → Prop := fun q => q ≠ ls ∧ q ≠ bs ∧ q ≠ li ∧ q ≠ bi
/-- slot k holds the Known a k; T tells the polynomial by the Known's cell -/
def CS (κ : zK) (D : Nat → Prop) (H : Heap) (x ls bs li bi : Nat) (a : Nat → Nat) (iso : Option Nat) (T : Nat → Pl) (n cap : Nat) (iv : Nat → Ivl) : Prop :=
  (κ.2 93 ≤ x ∧ ls ≠ li ∧ bs ≠ bi) ∧ hp κ H x (.inr (0, [.ref ls, isoV iso, .ref li])) ∧
  (∃ (md : Int) (g : Nat → Option Nat), AL κ H ls bs md 5 10 g ∧ ∀ k, k < 5 → g k = some (a k)) ∧
  (∃ (md : Int) (g : Nat → Option Nat), AL κ H li bi md n cap g ∧ ∀ k, k < n → ∃ y, g k = some y ∧ e4 κ H y (iv k)) ∧
  (∀ k, k < 5 → Kn κ D H (a k) (T (a k)) false) ∧ ∀ k, iso = some k → Kn κ D H k (T k) false
theorem CS.kf {κ : zK} {D : Nat → Prop} {H H1 : Heap} {x ls bs li bi : Nat} {a : Nat → Nat} {iso : Option Nat} {T : Nat → Pl} {n cap : Nat} {iv : Nat → Ivl} {A : Nat → Prop} (hC : CO κ H) (hF : kF κ H H1 A) (ha : aD κ H A D) (hn : ∀ q, A q → q ≠ x ∧ q ≠ ls ∧ q ≠ bs ∧ q ≠ li ∧ (0 < cap → q ≠ bi)) (h : CS κ D H x ls bs li bi a iso T n cap iv) : CS κ D H1 x ls bs li bi a iso T n cap iv := by
  obtain ⟨h0, h1, ⟨md, g, h2, h3⟩, ⟨mdi, gi, h4, h5⟩, h6, h7⟩ := h
  refine ⟨h0, hF.at h1 (fun h => (hn x h).1 rfl), ⟨md, g, h2.kf hC hF (fun h => (hn _ h).2.1 rfl) (fun _ h => (hn _ h).2.2.1 rfl), h3⟩, ⟨mdi, gi, h4.kf hC hF (fun h => (hn _ h).2.2.2.1 rfl) (fun hc h => (hn _ h).2.2.2.2 hc rfl), fun k hk => ?_⟩, fun k hk => (h6 k hk).kf hC hF ha, fun k hk => (h7 k hk).kf hC hF ha⟩
  obtain ⟨y, e1, e2⟩ := h5 k hk
  exact ⟨y, e1, hF.at e2 (hF.obj hC.D e2 (by decide))⟩
theorem CS.kf0 {κ : zK} {D : Nat → Prop} {H H1 : Heap} {x ls bs li bi : Nat} {a : Nat → Nat} {iso : Option Nat} {T : Nat → Pl} {n cap : Nat} {iv : Nat → Ivl} (hC : CO κ H) (hF : kF κ H H1 (fun _ => False)) (h : CS κ D H x ls bs li bi a iso T n cap iv) : CS κ D H1 x ls bs li bi a iso T n cap iv := h.kf hC hF aD.no (fun _ h => h.elim)
theorem CS.mono {κ : zK} {D D' : Nat → Prop} {H : Heap} {x ls bs li bi : Nat} {a : Nat → Nat} {iso : Option Nat} {T : Nat → Pl} {n cap : Nat} {iv : Nat → Ivl} (h : CS κ D H x ls bs li bi a iso T n cap iv) (hD : ∀ q, q < H.size → D q → D' q) : CS κ D' H x ls bs li bi a iso T n cap iv := by
  obtain ⟨h0, h1, h2, h3, h6, h7⟩ := h
  exact ⟨h0, h1, h2, h3, fun k hk => (h6 k hk).mono hD, fun k hk => (h7 k hk).mono hD⟩
theorem CS.ks {κ : zK} {D : Nat → Prop} {H H1 : Heap} {x ls bs li bi j : Nat} {a : Nat → Nat} {iso : Option Nat} {T : Nat → Pl} {n cap : Nat} {iv : Nat → Ivl} (hC : CO κ H) (hS : kS κ H H1 j) {b : Bool} (hK : Kn κ D H1 j (T j) b) (h : CS κ D H x ls bs li bi a iso T n cap iv) : CS κ D H1 x ls bs li bi a iso T n cap iv := by
  obtain ⟨h0, h1, ⟨md, g, h2, h3⟩, ⟨mdi, gi, h4, h5⟩, h6, h7⟩ := h
  have key : ∀ k, Kn κ D H k (T k) false → Kn κ D H1 k (T k) false := fun k hk => by
    by_cases e : k = j
    · rw [e]; exact hK.less
    · exact hk.ks hC hS e
  refine ⟨h0, kS.obj hC hS h1 (by decide) (by decide), ⟨md, g, h2.ks hC hS, h3⟩, ⟨mdi, gi, h4.ks hC hS, fun k hk => ?_⟩, fun k hk => key _ (h6 k hk), fun k hk => key _ (h7 k hk)⟩
  obtain ⟨y, e1, e2⟩ := h5 k hk
  exact ⟨y, e1, kS.obj hC hS e2 (by decide) (by decide)⟩
/-- only caches of the big integer a changed -/
def kU (κ : zK) (H H1 : Heap) (a : Nat) : Prop := (κ.2 93 ≤ a ∨ ∀ q : Nat, q < H.size → H1[q]? = H[q]?) ∧ H.size ≤ H1.size ∧ (∀ q : Nat, q < H.size → q ≠ a → H1[q]? = H[q]?) ∧ (∃ fs, hp κ H a (.inr (6, fs))) ∧ (∃ fs, hp κ H1 a (.inr (6, fs))) ∧ ∀ q x, BI κ H q x → BI κ H1 q x
theorem CO.ku {κ : zK} {H H1 : Heap} {a : Nat} (h : CO κ H) (hU : kU κ H H1 a) : CO κ H1 := by
  rcases hU.1 with e | e
  · exact h.call (A := fun q => q = a) (fun q e2 => by rw [e2]; exact e) hU.2.1 (fun q h1 h2 => hU.2.2.1 q h1 h2)
  · exact h.kept (fun q hq => e q (Nat.lt_of_lt_of_le hq h.2.1)) hU.2.1
theorem kU.obj {κ : zK} {H H1 : Heap} {u a ci : Nat} {fs : List Value} (hC : CO κ H) (hU : kU κ H H1 u) (h : hp κ H a (.inr (ci, fs))) (hi : ci < 10) (h1 : ci ≠ 6) : hp κ H1 a (.inr (ci, fs)) := by
  obtain ⟨gs, hg⟩ := hU.2.2.2.1
  exact h.kept (hU.2.2.1 a h.lt (hp.kk hC.D h hg hi (by decide) h1))
theorem kU.arr {κ : zK} {H H1 : Heap} {u a t : Nat} {x : vp_A} (hC : CO κ H) (hU : kU κ H H1 u) (h : hp κ H a (.inl (κ.2 t, x))) (ht : t < 6) : H1[a]? = H[a]? := by
  obtain ⟨gs, hg⟩ := hU.2.2.2.1
  exact hU.2.2.1 a h.lt (Ne.symm (hp.ka hC.D hg h (by decide) ht))
theorem oA.ku {κ : zK} {H H1 : Heap} {u v : Nat} (hC : CO κ H) (hU : kU κ H H1 u) (h : oA κ H v) : oA κ H1 v := by
  obtain ⟨ci, fs, h1, h2⟩ := h
  by_cases e : v = u
  · subst e
    obtain ⟨gs, hg⟩ := hU.2.2.2.2.1
    exact ⟨6, gs, hg, Or.inr (Or.inr (Or.inr rfl))⟩
  · exact ⟨ci, fs, h1.kept (hU.2.2.1 v h1.lt e), h2⟩
theorem AL.ku {κ : zK} {H H1 : Heap} {u l b n cap : Nat} {md : Int} {g : Nat → Option Nat} (hC : CO κ H) (hU : kU κ H H1 u) (h : AL κ H l b md n cap g) : AL κ H1 l b md n cap g := by
  obtain ⟨h1, h2, h3, h4, h5, h6, h7, h8⟩ := h
  exact ⟨kU.obj hC hU h1 (by decide) (by decide), h2.kept (kU.arr hC hU h2 (by decide)), h3, h4, h5, h6, fun k hk => (h7 k hk).elim (fun y hy => ⟨y, hy.1, hy.2.ku hC hU⟩), h8⟩
theorem RL.ku {κ : zK} {D : Nat → Prop} {H H1 : Heap} {u l n : Nat} {c : Nat → Int} (hC : CO κ H) (hU : kU κ H H1 u) (h : RL κ D H l n c) : RL κ D H1 l n c := by
  obtain ⟨b, cap, md, g, h1, h2, h3⟩ := h
  exact ⟨b, cap, md, g, h1.ku hC hU, fun k hk => (h2 k hk).elim (fun y hy => ⟨y, hy.1, hU.2.2.2.2.2 _ _ hy.2⟩), h3⟩
theorem Po.ku {κ : zK} {D : Nat → Prop} {H H1 : Heap} {u p : Nat} {P : Pl} (hC : CO κ H) (hU : kU κ H H1 u) (h : Po κ D H p P) : Po κ D H1 p P := by
  obtain ⟨h1, h2, l, h3, h4⟩ := h
  exact ⟨h1, h2, l, kU.obj hC hU h3 (by decide) (by decide), h4.ku hC hU⟩
theorem SQ.ku {κ : zK} {D : Nat → Prop} {H H1 : Heap} {u l n : Nat} {s : Nat → Pl} (hC : CO κ H) (hU : kU κ H H1 u) (h : SQ κ D H l n s) : SQ κ D H1 l n s := by
  obtain ⟨b, cap, md, g, h1, h2, h3⟩ := h
  exact ⟨b, cap, md, g, h1.ku hC hU, fun k hk => (h2 k hk).elim (fun y hy => ⟨y, hy.1, hy.2.ku hC hU⟩), h3⟩
theorem Kn.ku {κ : zK} {D : Nat → Prop} {H H1 : Heap} {u k : Nat} {P : Pl} {b : Bool} (hC : CO κ H) (hU : kU κ H H1 u) (h : Kn κ D H k P b) : Kn κ D H1 k P b := by
  obtain ⟨h1, h2, p, vs, vf, vg, h3, h4, h5, h6, h7, h8⟩ := h
  exact ⟨h1, h2, p, vs, vf, vg, kU.obj hC hU h3 (by decide) (by decide), h4.ku hC hU, h5.imp id (fun ⟨l, e, h⟩ => ⟨l, e, h.ku hC hU⟩), h6.imp id (fun ⟨l, e, h⟩ => ⟨l, e, h.ku hC hU⟩), h7.imp id (fun ⟨l, e, h⟩ => ⟨l, e, h.ku hC hU⟩), h8⟩
theorem CS.ku {κ : zK} {D : Nat → Prop} {H H1 : Heap} {x ls bs li bi u : Nat} {a : Nat → Nat} {iso : Option Nat} {T : Nat → Pl} {n cap : Nat} {iv : Nat → Ivl} (hC : CO κ H) (hU : kU κ H H1 u) (h : CS κ D H x ls bs li bi a iso T n cap iv) : CS κ D H1 x ls bs li bi a iso T n cap iv := by
  obtain ⟨h0, h1, ⟨md, g, h2, h3⟩, ⟨mdi, gi, h4, h5⟩, h6, h7⟩ := h
  refine ⟨h0, kU.obj hC hU h1 (by decide) (by decide), ⟨md, g, h2.ku hC hU, h3⟩, ⟨mdi, gi, h4.ku hC hU, fun k hk => ?_⟩, fun k hk => (h6 k hk).ku hC hU, fun k hk => (h7 k hk).ku hC hU⟩
  obtain ⟨y, e1, e2⟩ := h5 k hk
  exact ⟨y, e1, kU.obj hC hU e2 (by decide) (by decide)⟩
/-- the cells of the state lie in the heap -/
theorem Kn.lt {κ : zK} {D : Nat → Prop} {H : Heap} {k : Nat} {P : Pl} {b : Bool} (h : Kn κ D H k P b) : k < H.size := let ⟨_, h1⟩ := h.cl; h1.lt
theorem CS.al {κ : zK} {D : Nat → Prop} {H : Heap} {x ls bs li bi : Nat} {a : Nat → Nat} {iso : Option Nat} {T : Nat → Pl} {n cap : Nat} {iv : Nat → Ivl} (h : CS κ D H x ls bs li bi a iso T n cap iv) {k : Nat} (hk : k < 5) : a k < H.size := (h.2.2.2.2.1 k hk).lt
theorem CS.sl {κ : zK} {D : Nat → Prop} {H : Heap} {x ls bs li bi : Nat} {a : Nat → Nat} {iso : Option Nat} {T : Nat → Pl} {n cap : Nat} {iv : Nat → Ivl} (h : CS κ D H x ls bs li bi a iso T n cap iv) : x < H.size ∧ ls < H.size ∧ bs < H.size ∧ li < H.size ∧ bi < H.size := by
  obtain ⟨h0, h1, ⟨md, g, h2, h3⟩, ⟨mdi, gi, h4, h5⟩, h6, h7⟩ := h
  exact ⟨h1.lt, h2.1.lt, h2.2.1.lt, h4.1.lt, h4.2.1.lt⟩
/-- one slot holds another Known now: the array bs was written -/
theorem CS.put {κ : zK} {D : Nat → Prop} {H H1 : Heap} {x ls bs li bi i k : Nat} {a : Nat → Nat} {iso : Option Nat} {T T' : Nat → Pl} {n cap : Nat} {iv : Nat → Ivl} {md : Int} {g : Nat → Option Nat} (hC : CO κ H) (hF : kF κ H H1 (fun q => q = bs)) (hD : ¬ D bs) (hK : Kn κ D H k (T' k) false) (hT : ∀ j, j < 5 → T' (a j) = T (a j)) (hT2 : ∀ j, iso = some j → T' j = T j) (hA : AL κ H1 ls bs md 5 10 (va_up g i (some k))) (hg : ∀ k, k < 5 → g k = some (a k)) (h : CS κ D H x ls bs li bi a iso T n cap iv) : CS κ D H1 x ls bs li bi (va_up a i k) iso T' n cap iv := by
  obtain ⟨h0, h1, ⟨md0, g0, h2, h3⟩, ⟨mdi, gi, h4, h5⟩, h6, h7⟩ := h
  have ha : aD κ H (fun q => q = bs) D := aD.nn (fun q h hd => hD (h ▸ hd))
  have hx : x ≠ bs := hp.ka hC.D h1 h2.2.1 (by decide) (by decide)
  have hli : li ≠ bs := hp.ka hC.D h4.1 h2.2.1 (by decide) (by decide)
  refine ⟨h0, hF.at h1 hx, ⟨md, _, hA, fun j hj => ?_⟩, ⟨mdi, gi, h4.kf hC hF hli (fun _ e => h0.2.2 e.symm), fun j hj => ?_⟩, fun j hj => ?_, fun j hj => ?_⟩
  · by_cases e : j = i
    · subst e; rw [va_up_self, va_up_self]
    · rw [va_up_ne _ _ e, va_up_ne _ _ e]; exact hg j hj
  · obtain ⟨y, e1, e2⟩ := h5 j hj
    have hn : ¬ (fun q => q = bs : Nat → Prop) y := kF.obj (a := y) (ci := 4) hC.D hF e2 (by decide)
    exact ⟨y, e1, hF.at e2 hn⟩
  · by_cases e : j = i
    · subst e; rw [va_up_self]; exact hK.kf hC hF ha
    · rw [va_up_ne _ _ e, hT j hj]; exact (h6 j hj).kf hC hF ha
  · rw [hT2 j hj]; exact (h7 j hj).kf hC hF ha
/-- what a public call of the component may change -/
def kQ (κ : zK) (H : Heap) (q : Nat) : Prop := (∃ (ci : Nat) (fs : List Value), hp κ H q (.inr (ci, fs)) ∧ (ci = 0 ∨ ci = 1 ∨ ci = 5 ∨ ci = 6)) ∨ ∃ (n : Nat) (f : Nat → Option Nat), hp κ H q (eR κ 2 n f)
def pA (κ : zK) (H : Heap) : Nat → Prop := fun q => κ.2 93 ≤ q ∧ kQ κ H q
