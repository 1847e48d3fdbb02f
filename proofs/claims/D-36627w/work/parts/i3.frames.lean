/-! FRAMES between the component, the model and the law's own array -/
section FRAMES
variable {κ : zK} {H H1 : Heap}
/-- the component's cells, by kinds -/
def cK (κ : zK) (H : Heap) (q : Nat) : Prop := (∃ (ci : Nat) (fs : List Value), hp κ H q (.inr (ci, fs)) ∧ ci < 10 ∧ ci ≠ 3) ∨ (∃ (n : Nat) (f : Nat → Option Nat), hp κ H q (eR κ 2 n f)) ∨ ((∃ (n : Nat) (f : Nat → Int), hp κ H q (eI κ n f)) ∧ mD κ q)
/-- the model's cells and the law's array, by kinds -/
def mK (κ : zK) (H : Heap) (q : Nat) : Prop := (∃ fs : List Value, hp κ H q (.inr (3, fs))) ∨ (∃ (n : Nat) (f : Nat → Int), hp κ H q (eJ κ n f)) ∨ (∃ (n : Nat) (f : Nat → Option Nat), hp κ H q (eR κ 3 n f)) ∨ (∃ (n : Nat) (f : Nat → Option Nat), hp κ H q (eR κ 4 n f)) ∨ ((∃ (n : Nat) (f : Nat → Int), hp κ H q (eI κ n f)) ∧ κ.2 91 ≤ q ∧ q < κ.2 92)
theorem cm_no (hD : zDist κ) {q : Nat} (h1 : cK κ H q) (h2 : mK κ H q) : False := by
  rcases h1 with ⟨ci, fs, g, h10, h3⟩ | ⟨n, f, g⟩ | ⟨⟨n, f, g⟩, hm⟩
  · rcases h2 with ⟨fs2, k⟩ | ⟨n2, f2, k⟩ | ⟨n2, f2, k⟩ | ⟨n2, f2, k⟩ | ⟨⟨n2, f2, k⟩, _⟩
    · exact hp.kk hD g k h10 (by decide) h3 rfl
    · exact hp.ka (t := 1) hD g k h10 (by decide) rfl
    · exact hp.ka (t := 3) hD g k h10 (by decide) rfl
    · exact hp.ka (t := 4) hD g k h10 (by decide) rfl
    · exact hp.ka (t := 0) hD g k h10 (by decide) rfl
  · rcases h2 with ⟨fs2, k⟩ | ⟨n2, f2, k⟩ | ⟨n2, f2, k⟩ | ⟨n2, f2, k⟩ | ⟨⟨n2, f2, k⟩, _⟩
    · exact hp.ka (t := 2) hD k g (by decide) (by decide) rfl
    · exact hp.aa (t := 2) (u := 1) hD g k (by decide) (by decide) (by decide) rfl
    · exact hp.aa (t := 2) (u := 3) hD g k (by decide) (by decide) (by decide) rfl
    · exact hp.aa (t := 2) (u := 4) hD g k (by decide) (by decide) (by decide) rfl
    · exact hp.aa (t := 2) (u := 0) hD g k (by decide) (by decide) (by decide) rfl
  · rcases h2 with ⟨fs2, k⟩ | ⟨n2, f2, k⟩ | ⟨n2, f2, k⟩ | ⟨n2, f2, k⟩ | ⟨_, r1, r2⟩
    · exact hp.ka (t := 0) hD k g (by decide) (by decide) rfl
    · exact hp.aa (t := 0) (u := 1) hD g k (by decide) (by decide) (by decide) rfl
    · exact hp.aa (t := 0) (u := 3) hD g k (by decide) (by decide) (by decide) rfl
    · exact hp.aa (t := 0) (u := 4) hD g k (by decide) (by decide) (by decide) rfl
    · rcases hm with w | w
      · exact absurd w (Nat.not_lt.mpr r1)
      · exact absurd r2 (Nat.not_lt.mpr w)
/-- nothing of the component's changed -/
def kW (κ : zK) (H H1 : Heap) : Prop := H.size ≤ H1.size ∧ ∀ q : Nat, cK κ H q → H1[q]? = H[q]?
theorem kW.of {A : Nat → Prop} (hC : CO κ H) (hz : H.size ≤ H1.size) (hk : ∀ q : Nat, q < H.size → ¬ A q → H1[q]? = H[q]?) (hA : ∀ q, A q → q < H.size → mK κ H q) : kW κ H H1 := ⟨hz, fun q hq => by
  have hl : q < H.size := by
    rcases hq with ⟨ci, fs, g, _⟩ | ⟨n, f, g⟩ | ⟨⟨n, f, g⟩, _⟩
    · exact g.lt
    · exact g.lt
    · exact g.lt
  exact hk q hl (fun a => cm_no hC.D hq (hA q a hl))⟩
theorem kW.obj (hW : kW κ H H1) {q ci : Nat} {fs : List Value} (h : hp κ H q (.inr (ci, fs))) (h10 : ci < 10) (h3 : ci ≠ 3) : hp κ H1 q (.inr (ci, fs)) := h.kept (hW.2 q (Or.inl ⟨ci, fs, h, h10, h3⟩))
theorem kW.arr (hW : kW κ H H1) {q n : Nat} {f : Nat → Option Nat} (h : hp κ H q (eR κ 2 n f)) : hp κ H1 q (eR κ 2 n f) := h.kept (hW.2 q (Or.inr (Or.inl ⟨n, f, h⟩)))
theorem BI.kw {a : Nat} {x : Int} (hW : kW κ H H1) (h : BI κ H a x) : BI κ H1 a x := by
  obtain ⟨m, n, cf, h1⟩ := h
  have h2 := h1
  obtain ⟨⟨c1, c2, c3, g⟩, g2, _, _, g5⟩ := h2
  exact ⟨m, n, cf, h1.kept (hW.2 a (Or.inl ⟨6, _, g, by decide, by decide⟩)) (hW.2 m (Or.inr (Or.inr ⟨⟨n, _, g2⟩, g5⟩)))⟩
theorem oA.kw {v : Nat} (hW : kW κ H H1) (h : oA κ H v) : oA κ H1 v := by
  obtain ⟨ci, fs, g, hc⟩ := h
  exact ⟨ci, fs, hW.obj g (by omega) (by omega), hc⟩
theorem AL.kw {l b n cap : Nat} {md : Int} {g : Nat → Option Nat} (hW : kW κ H H1) (h : AL κ H l b md n cap g) : AL κ H1 l b md n cap g := by
  obtain ⟨h1, h2, h3, h4, h5, h6, h7, h8⟩ := h
  exact ⟨hW.obj h1 (by decide) (by decide), hW.arr h2, h3, h4, h5, h6, fun k hk => (h7 k hk).elim (fun y hy => ⟨y, hy.1, hy.2.kw hW⟩), h8⟩
theorem RL.kw {D : Nat → Prop} {l n : Nat} {c : Nat → Int} (hW : kW κ H H1) (h : RL κ D H l n c) : RL κ D H1 l n c := by
  obtain ⟨b, cap, md, g, h1, h2, h3⟩ := h
  exact ⟨b, cap, md, g, h1.kw hW, fun k hk => (h2 k hk).elim (fun y hy => ⟨y, hy.1, hy.2.kw hW⟩), h3⟩
theorem Po.kw {D : Nat → Prop} {p : Nat} {P : Pl} (hW : kW κ H H1) (h : Po κ D H p P) : Po κ D H1 p P := by
  obtain ⟨h1, h2, l, h3, h4⟩ := h
  exact ⟨h1, h2, l, hW.obj h3 (by decide) (by decide), h4.kw hW⟩
theorem SQ.kw {D : Nat → Prop} {l n : Nat} {s : Nat → Pl} (hW : kW κ H H1) (h : SQ κ D H l n s) : SQ κ D H1 l n s := by
  obtain ⟨b, cap, md, g, h1, h2, h3⟩ := h
  exact ⟨b, cap, md, g, h1.kw hW, fun k hk => (h2 k hk).elim (fun y hy => ⟨y, hy.1, hy.2.kw hW⟩), h3⟩
theorem Kn.kw {D : Nat → Prop} {k : Nat} {P : Pl} {b : Bool} (hW : kW κ H H1) (h : Kn κ D H k P b) : Kn κ D H1 k P b := by
  obtain ⟨h1, h2, p, vs, vf, vg, h3, h4, h5, h6, h7, h8⟩ := h
  exact ⟨h1, h2, p, vs, vf, vg, hW.obj h3 (by decide) (by decide), h4.kw hW, h5.imp id (fun ⟨l, e, h⟩ => ⟨l, e, h.kw hW⟩), h6.imp id (fun ⟨l, e, h⟩ => ⟨l, e, h.kw hW⟩), h7.imp id (fun ⟨l, e, h⟩ => ⟨l, e, h.kw hW⟩), h8⟩
theorem CS.kw {D : Nat → Prop} {x ls bs li bi : Nat} {a : Nat → Nat} {iso : Option Nat} {T : Nat → Pl} {n cap : Nat} {iv : Nat → Ivl} (hW : kW κ H H1) (h : CS κ D H x ls bs li bi a iso T n cap iv) : CS κ D H1 x ls bs li bi a iso T n cap iv := by
  obtain ⟨h0, h1, ⟨md, g, h2, h3⟩, ⟨md2, g2, h4, h5⟩, h6, h7⟩ := h
  exact ⟨h0, hW.obj h1 (by decide) (by decide), ⟨md, g, h2.kw hW, h3⟩, ⟨md2, g2, h4.kw hW, fun k hk => (h5 k hk).elim (fun y hy => ⟨y, hy.1, hW.obj hy.2 (by decide) (by decide)⟩)⟩, fun k hk => (h6 k hk).kw hW, fun k hk => (h7 k hk).kw hW⟩
theorem CP.kw {x : Nat} {S : Nat → Pl} {isoP : Option Pl} {n cap : Nat} {iv : Nat → Ivl} (hW : kW κ H H1) (h : CP κ H x S isoP n cap iv) : CP κ H1 x S isoP n cap iv := by
  obtain ⟨ls, bs, li, bi, a, iso, T, h1, h2⟩ := h
  exact ⟨ls, bs, li, bi, a, iso, T, h1.kw hW, h2⟩
/-- the model's cells are none of those that the component may change -/
theorem mK.pA (hD : zDist κ) {q : Nat} (h : mK κ H q) : ¬ pA κ H q := fun ⟨_, hq⟩ => by
  rcases hq with ⟨ci, fs, g, hc⟩ | ⟨n, f, g⟩
  · exact cm_no hD (Or.inl ⟨ci, fs, g, by omega, by omega⟩) h
  · exact cm_no hD (Or.inr (Or.inl ⟨n, f, g⟩)) h
/-- where the model lies -/
def regM (κ : zK) (ad : Nat → Nat) (a1 a2 a3 a4 : Nat) : Prop := κ.2 93 ≤ κ.2 91 ∧ (∀ i, uA i → κ.2 91 ≤ ad i ∧ ad i < κ.2 92) ∧ ∀ q, q = a1 ∨ q = a2 ∨ q = a3 ∨ q = a4 → κ.2 91 ≤ q ∧ q < κ.2 92
variable {ad : Nat → Nat} {P : Nat → Nat → Int} {f g mk : Nat → Int} {S : Nat → Nat → Int} {K : Nat → Int} {thr len many : Int} {a1 a2 a3 a4 cap : Nat} {lv lo hi rt : Nat → Int}
theorem MB.mk_ (h : MB κ ad P f g mk S K thr len many a1 a2 a3 a4 H) (hr : regM κ ad a1 a2 a3 a4) : ∀ i, uA i → mK κ H (ad i) := fun i hi => by
  have rg := hr.2.1 i hi
  have nI : ∀ {n : Nat} {f : Nat → Int}, hp κ H (ad i) (eI κ n f) → mK κ H (ad i) := fun w => Or.inr (Or.inr (Or.inr (Or.inr ⟨⟨_, _, w⟩, rg⟩)))
  by_cases c1 : i < 1238
  · exact nI (h.ns i c1)
  · by_cases c2 : 2000 ≤ i ∧ i < 2176
    · obtain ⟨j, rfl⟩ : ∃ j, i = 2000 + j := ⟨i - 2000, by omega⟩
      exact Or.inr (Or.inr (Or.inl ⟨_, _, h.ms.1 j (by omega)⟩))
    · by_cases c3 : i = 3000
      · subst c3; exact Or.inr (Or.inr (Or.inr (Or.inl ⟨_, _, h.ms.2.1⟩)))
      · by_cases c4 : i = 3001
        · subst c4; exact Or.inr (Or.inr (Or.inr (Or.inl ⟨_, _, h.ms.2.2.1⟩)))
        · by_cases c5 : i = 3003
          · subst c5; exact Or.inr (Or.inr (Or.inl ⟨_, _, h.ms.2.2.2⟩))
          · by_cases c6 : i = 3002
            · subst c6; exact Or.inl ⟨_, h.ho⟩
            · by_cases c7 : i = 3004
              · subst c7; exact nI h.ke
              · by_cases c8 : i = 3005
                · subst c8; exact nI h.ca
                · by_cases c9 : i = 3006
                  · subst c9; exact Or.inr (Or.inl ⟨_, _, h.ma⟩)
                  · by_cases c10 : 3010 ≤ i ∧ i < 3015
                    · obtain ⟨j, rfl⟩ : ∃ j, i = 3010 + j := ⟨i - 3010, by omega⟩
                      exact nI (h.sl j (by omega))
                    · exfalso
                      unfold uA at hi
                      omega
theorem LV.mk_ (h : LV κ ad a1 a2 a3 a4 cap lv lo hi rt H) (hr : regM κ ad a1 a2 a3 a4) : ∀ q, q = a1 ∨ q = a2 ∨ q = a3 ∨ q = a4 → mK κ H q := fun q hq => by
  have rg := hr.2.2 q hq
  obtain ⟨_, _, h1, h2, h3, h4⟩ := h
  refine Or.inr (Or.inr (Or.inr (Or.inr ⟨?_, rg⟩)))
  rcases hq with rfl | rfl | rfl | rfl
  · exact ⟨_, _, h1⟩
  · exact ⟨_, _, h2⟩
  · exact ⟨_, _, h3⟩
  · exact ⟨_, _, h4⟩
theorem MB.kp (h : MB κ ad P f g mk S K thr len many a1 a2 a3 a4 H) (hk : ∀ i, uA i → H1[ad i]? = H[ad i]?) : MB κ ad P f g mk S K thr len many a1 a2 a3 a4 H1 := by
  have key : ∀ {i e}, uA i → hp κ H (ad i) e → hp κ H1 (ad i) e := fun u h => h.kept (hk _ u)
  exact ⟨⟨fun j hj => key (by unfold uA; omega) (h.ms.1 j hj), key (by decide) h.ms.2.1, key (by decide) h.ms.2.2.1, key (by decide) h.ms.2.2.2⟩, fun i hi => key (Or.inl hi) (h.ns i hi), fun i hi => key (by unfold uA; omega) (h.sl i hi), key (by decide) h.ho, key (by decide) h.ca, key (by decide) h.ke, key (by decide) h.ma⟩
theorem LV.kp (h : LV κ ad a1 a2 a3 a4 cap lv lo hi rt H) (hk : ∀ q, q = a1 ∨ q = a2 ∨ q = a3 ∨ q = a4 → H1[q]? = H[q]?) : LV κ ad a1 a2 a3 a4 cap lv lo hi rt H1 := by
  obtain ⟨h1, h2, h3, h4, h5, h6⟩ := h
  exact ⟨h1, h2, h3.kept (hk _ (Or.inl rfl)), h4.kept (hk _ (Or.inr (Or.inl rfl))), h5.kept (hk _ (Or.inr (Or.inr (Or.inl rfl)))), h6.kept (hk _ (Or.inr (Or.inr (Or.inr rfl))))⟩
end FRAMES
