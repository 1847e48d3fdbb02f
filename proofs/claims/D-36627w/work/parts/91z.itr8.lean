/-! FIELDS OF A CLASS WITH TWO FIELDS OF ONE NAME (ListItr): puts -/
section I8
variable {z : zT} {cc : ByteArray} {own : String} {κ : zK} {fr lo : Nat} {ret : Option FieldType} {H : Heap} {cb sb pc : Nat} {lv lv' : List (Nat × Value)} {st rest : List Value} {a n : Nat} {i : Int}
theorem zap {D : va_G} {cl : List vw_C} {tys : List (ClassId × FieldType)} {s : State} {args : Array Value} {C : String} {T : u_T} {N ci : Nat} {Ts : List Cond} (hts : ∀ w ∈ Ts, w.before args s = true) (hin : ∀ w ∈ u_ws C T N, w ∈ Ts) (ty : Nat → FieldType) (hty : ∀ k, k < N → parseFieldDescriptor (T k).2.2.1 = some (ty k)) (hK : va_K D cl tys s) (hc : cl[ci]? = some (C, T, N)) {x y : Nat} (hx : x < N) (hy : y < N) (hne : (T x).2.1 ≠ (T y).2.1) : (D.2 ci) x ≠ (D.2 ci) y := by
  obtain ⟨hS, -⟩ := hK.1 ci _ hc
  obtain ⟨_, _, _, fa, hia, ea⟩ := hS x hx
  obtain ⟨_, _, _, fb, hib, eb⟩ := hS y hy
  rw [← ea, ← eb]
  refine u_apart (u_lays hts hin hx) (u_lays hts hin hy) hia hib ?_
  rw [(State.fieldFound?_type hia (hty x hx)).1, (State.fieldFound?_type hib (hty y hy)).1]
  exact hne
theorem t_set2 {cell : Cell} {N : Nat} {iS : Nat → Nat} {V : Nat → Value} (h : ∀ k, k < N → cell.slots[iS k]? = some (V k)) {k : Nat} (hk : k < N) (v : Value) (hap : ∀ j, j < N → j ≠ k → iS k ≠ iS j ∨ V j = v) :
    ∀ j, j < N → (cell.setSlot (iS k) v).slots[iS j]? = some (updV V k v j) := by
  intro j hj
  by_cases hjk : j = k
  · subst hjk
    rw [Cell.slots_setSlot_self _ (k2_hasslot (h j hj))]
    simp [updV]
  · by_cases e : iS k = iS j
    · rw [e, Cell.slots_setSlot_self _ (k2_hasslot (h j hj)), ← (hap j hj hjk).resolve_left (fun g => g e)]
      simp [updV, hjk]
    · rw [slot_ne _ _ e, h j hj]
      simp [updV, hjk]
/-- a put where the other fields have other names, or hold the same -/
theorem v_putfG (E : zOK z cc own κ fr lo ret) {ref C : String} {T : u_T} {N ci index : Nat} (hin : ∀ w ∈ u_ws C T N, w ∈ lw_all) (ty0 : Nat → FieldType) (hty : ∀ k, k < N → parseFieldDescriptor (T k).2.2.1 = some (ty0 k)) {fs : List Value} (h : hp κ H a (.inr (ci, fs))) (hc : zC[ci]? = some (C, T, N)) (k : Nat) (hk : k < N) {v : Value} (hnm : ∀ j, j < N → j ≠ k → (T k).2.1 ≠ (T j).2.1 ∨ vp_V fs j = v) (hlink : Cond.fieldLink own index ref (T k).2.1 (T k).2.2.1 ∈ lw_all) (hsame : ref = (T k).1 ∨ Cond.sameField ref (T k).1 (T k).2.1 (T k).2.2.1 ∈ lw_all) (hfin : (T k).2.2.2 = false) (hn : narrow (ty0 k) v = v) (hfit : fits (ty0 k) v = true) (hl : k < fs.length) (hA : zA z.A z.H0 a) (d : decode cc pc = .ok (.putfield index, 3))
    (K : ∀ H1 : Heap, hp κ H1 a (.inr (ci, fs.set k v)) → zSame H H1 a → V z H1 cb sb (pc + 3) lv st) : V z H cb sb pc lv (v :: .ref a :: st) := by
  intro locs ls cells slots h1 h2 h3 h4
  have hK := E.2.2.2.2.2.2.2.1.1
  have hts := E.2.2.2.2.1
  obtain ⟨r, g1, cell, q1, q2, q3, q4⟩ := h
  have hr : r = (C, T, N) := Option.some.inj (g1.symm.trans hc)
  subst hr
  have hap : ∀ j, j < N → j ≠ k → κ.1.2 ci k ≠ κ.1.2 ci j ∨ vp_V fs j = v := fun j hj hjk => (hnm j hj hjk).imp (fun g => zap hts hin ty0 hty hK hc hk hj g) id
  obtain ⟨hS, hfc, kC, hkC, hkind⟩ := hK.1 ci _ hc
  obtain ⟨cf, kf, fi, f, hi, hsl⟩ := hS k hk
  have hlay := hts _ (hin _ (u_in_lay hk))
  unfold u_lay at hlay
  rw [if_neg (by rw [hfin]; decide)] at hlay
  have hst := (u_facts hfc hkC (u_lays hts hin hk) hi).1
  have h6 := u_store hfc hkC hkind hlay hi (hty k hk) hn hfit
  refine W.putK E.1 E.2.1 (f := f) ⟨E.2.2.2.1, hts _ hlink, ⟨_, _, _, hsame.elim (fun g => by rw [g]; exact hi) (fun g => u_same (hts _ g) _ hi)⟩, hst⟩ (by rw [q2]; exact h6) q1 q3 (by rw [hsl]; exact k2_hasslot (q4 k hk)) rfl rfl d fun H' e1 e2 e3 => ?_
  rw [hsl] at e1 ⊢
  exact K H' ⟨_, hc, t_OB.to (V := updV (vp_V fs) k v) ⟨_, e1, q2, q3, t_set2 q4 hk v hap⟩ (fun j _ => vp_updV_set hl v j)⟩ ⟨e2, e3⟩ _ ls cells slots h1 h2 (h3.put2 ⟨e2, e3⟩ hA) h4
theorem v_putfFG (E : zOK z cc own κ fr lo ret) (hini : z.meth.name = "<init>") {ref C : String} {T : u_T} {N ci index : Nat} (hin : ∀ w ∈ u_ws C T N, w ∈ lw_all) (ty0 : Nat → FieldType) (hty : ∀ k, k < N → parseFieldDescriptor (T k).2.2.1 = some (ty0 k)) {fs : List Value} (h : hp κ H a (.inr (ci, fs))) (hc : zC[ci]? = some (C, T, N)) (k : Nat) (hk : k < N) {v : Value} (hnm : ∀ j, j < N → j ≠ k → (T k).2.1 ≠ (T j).2.1 ∨ vp_V fs j = v) (hlink : Cond.fieldLink own index ref (T k).2.1 (T k).2.2.1 ∈ lw_all) (hsame : ref = (T k).1) (hfin : (T k).2.2.2 = true) (hdecl : (T k).1 = own) (hn : narrow (ty0 k) v = v) (hfit : fits (ty0 k) v = true) (hl : k < fs.length) (hA : zA z.A z.H0 a) (d : decode cc pc = .ok (.putfield index, 3))
    (K : ∀ H1 : Heap, hp κ H1 a (.inr (ci, fs.set k v)) → zSame H H1 a → V z H1 cb sb (pc + 3) lv st) : V z H cb sb pc lv (v :: .ref a :: st) := by
  intro locs ls cells slots h1 h2 h3 h4
  have hK := E.2.2.2.2.2.2.2.1.1
  have hts := E.2.2.2.2.1
  have hown := E.2.2.2.1
  obtain ⟨r, g1, cell, q1, q2, q3, q4⟩ := h
  have hr : r = (C, T, N) := Option.some.inj (g1.symm.trans hc)
  subst hr
  have hap : ∀ j, j < N → j ≠ k → κ.1.2 ci k ≠ κ.1.2 ci j ∨ vp_V fs j = v := fun j hj hjk => (hnm j hj hjk).imp (fun g => zap hts hin ty0 hty hK hc hk hj g) id
  obtain ⟨hS, hfc, kC, hkC, hkind⟩ := hK.1 ci _ hc
  obtain ⟨cf, kf, fi, f, hi, hsl⟩ := hS k hk
  have hlay := hts _ (hin _ (u_in_lay hk))
  unfold u_lay at hlay
  rw [if_pos hfin] at hlay
  have hst := (u_facts hfc hkC (u_lays hts hin hk) hi).1
  have hcf : z.m.cls = cf := by
    obtain ⟨_, _, c', _, _, _, -, -, hf', -, -, -, hown2, -⟩ := Cond.laysFinal_spec hlay
    have e1 : c' = cf := by have := hi.symm.trans hf'; simp at this; exact this.1.symm
    rw [hdecl] at hown2
    rw [← e1]; exact Option.some.inj (hown.symm.trans hown2)
  have h6 := u_fits hfc hkC hkind (Or.inr hlay) hi (hty k hk) hn hfit
  refine W.putFinK E.1 E.2.1 hown (hts _ hlink) (by rw [hsame]; exact hi) hst hcf hini (by rw [q2]; exact h6) q1 q3 (by rw [hsl]; exact k2_hasslot (q4 k hk)) rfl rfl d fun H' e1 e2 e3 => ?_
  rw [hsl] at e1 ⊢
  exact K H' ⟨_, hc, t_OB.to (V := updV (vp_V fs) k v) ⟨_, e1, q2, q3, t_set2 q4 hk v hap⟩ (fun j _ => vp_updV_set hl v j)⟩ ⟨e2, e3⟩ _ ls cells slots h1 h2 (h3.put2 ⟨e2, e3⟩ hA) h4
/-- the first put of ListItr's own this$0: the other one of that name is told as it then is -/
theorem v_putf84 (E : zOK z cc own κ fr lo ret) (hini : z.meth.name = "<init>") {index : Nat} {f0 f1 f2 f3 f4 v : Value} (h : hp κ H a (.inr (8, [f0, f1, f2, f3, f4]))) (hlink : Cond.fieldLink own index RJ27 "this$0" "Ljava/util/ArrayList;" ∈ lw_all) (hdecl : RJ27 = own) (hn : narrow (tyJ27 4) v = v) (hfit : fits (tyJ27 4) v = true) (hA : zA z.A z.H0 a) (d : decode cc pc = .ok (.putfield index, 3))
    (K : ∀ (H1 : Heap) (x : Value), hp κ H1 a (.inr (8, [f0, f1, f2, x, v])) → zSame H H1 a → V z H1 cb sb (pc + 3) lv st) : V z H cb sb pc lv (v :: .ref a :: st) := by
  by_cases hs : κ.1.2 8 4 = κ.1.2 8 3
  · intro locs ls cells slots h1 h2 h3 h4
    have hK := E.2.2.2.2.2.2.2.1.1
    have hts := E.2.2.2.2.1
    have hown := E.2.2.2.1
    have hc : zC[8]? = some (RJ27, TJ27, 5) := rfl
    obtain ⟨r, g1, cell, q1, q2, q3, q4⟩ := h
    have hr : r = (RJ27, TJ27, 5) := Option.some.inj (g1.symm.trans hc)
    subst hr
    have q4 : ∀ k, k < 5 → cell.slots[κ.1.2 8 k]? = some (vp_V [f0, f1, f2, v, f4] k) ∨ k = 3 := fun k hk => by
      by_cases e : k = 3
      · exact Or.inr e
      · refine Or.inl ((q4 k hk).trans ?_)
        have hk' : k = 0 ∨ k = 1 ∨ k = 2 ∨ k = 4 := by omega
        rcases hk' with rfl | rfl | rfl | rfl <;> rfl
    have h4s : cell.slots[κ.1.2 8 4]? = some f4 := (q4 4 (by decide)).resolve_right (by decide)
    obtain ⟨hS, hfc, kC, hkC, hkind⟩ := hK.1 8 _ hc
    obtain ⟨cf, kf, fi, f, hi, hsl⟩ := hS 4 (by decide)
    have hlay := hts _ (in_J27 _ (u_in_lay (k := 4) (by decide)))
    unfold u_lay at hlay
    rw [if_pos (show (TJ27 4).2.2.2 = true from rfl)] at hlay
    have hst := (u_facts hfc hkC (u_lays hts in_J27 (k := 4) (by decide)) hi).1
    have hcf : z.m.cls = cf := by
      obtain ⟨_, _, c', _, _, _, -, -, hf', -, -, -, hown2, -⟩ := Cond.laysFinal_spec hlay
      have e1 : c' = cf := by have := hi.symm.trans hf'; simp at this; exact this.1.symm
      have hown2 : z.s.vm.findClass RJ27 = some c' := hown2
      rw [hdecl] at hown2
      rw [← e1]; exact Option.some.inj (hown.symm.trans hown2)
    have h6 := u_fits hfc hkC hkind (Or.inr hlay) hi (tyJ27_ok 4 (by decide)) hn hfit
    refine W.putFinK E.1 E.2.1 hown (hts _ hlink) hi hst hcf hini (by rw [q2]; exact h6) q1 q3 (by rw [hsl]; exact k2_hasslot h4s) rfl rfl d fun H' e1 e2 e3 => ?_
    rw [hsl] at e1 ⊢
    refine K H' v ⟨_, hc, _, e1, q2, q3, fun j hj => ?_⟩ ⟨e2, e3⟩ _ ls cells slots h1 h2 (h3.put2 ⟨e2, e3⟩ hA) h4
    have hj' : j = 0 ∨ j = 1 ∨ j = 2 ∨ j = 3 ∨ j = 4 := by have : j < 5 := hj; omega
    have nm : ∀ k, k < 3 → (TJ27 4).2.1 ≠ (TJ27 k).2.1 := by decide
    rcases hj' with rfl | rfl | rfl | rfl | rfl
    · rw [slot_ne _ _ (zap hts in_J27 tyJ27 tyJ27_ok hK hc (by decide) (by decide) (nm 0 (by decide)))]; exact (q4 0 (by decide)).resolve_right (by decide)
    · rw [slot_ne _ _ (zap hts in_J27 tyJ27 tyJ27_ok hK hc (by decide) (by decide) (nm 1 (by decide)))]; exact (q4 1 (by decide)).resolve_right (by decide)
    · rw [slot_ne _ _ (zap hts in_J27 tyJ27 tyJ27_ok hK hc (by decide) (by decide) (nm 2 (by decide)))]; exact (q4 2 (by decide)).resolve_right (by decide)
    · show (cell.setSlot (κ.1.2 8 4) v).slots[κ.1.2 8 3]? = _
      rw [← hs, Cell.slots_setSlot_self _ (k2_hasslot h4s)]; rfl
    · rw [Cell.slots_setSlot_self _ (k2_hasslot h4s)]; rfl
  · intro locs ls cells slots h1 h2 h3 h4
    have hK := E.2.2.2.2.2.2.2.1.1
    have hts := E.2.2.2.2.1
    have hown := E.2.2.2.1
    have hc : zC[8]? = some (RJ27, TJ27, 5) := rfl
    obtain ⟨r, g1, cell, q1, q2, q3, q4⟩ := h
    have hr : r = (RJ27, TJ27, 5) := Option.some.inj (g1.symm.trans hc)
    subst hr
    obtain ⟨hS, hfc, kC, hkC, hkind⟩ := hK.1 8 _ hc
    obtain ⟨cf, kf, fi, f, hi, hsl⟩ := hS 4 (by decide)
    have hlay := hts _ (in_J27 _ (u_in_lay (k := 4) (by decide)))
    unfold u_lay at hlay
    rw [if_pos (show (TJ27 4).2.2.2 = true from rfl)] at hlay
    have hst := (u_facts hfc hkC (u_lays hts in_J27 (k := 4) (by decide)) hi).1
    have hcf : z.m.cls = cf := by
      obtain ⟨_, _, c', _, _, _, -, -, hf', -, -, -, hown2, -⟩ := Cond.laysFinal_spec hlay
      have e1 : c' = cf := by have := hi.symm.trans hf'; simp at this; exact this.1.symm
      have hown2 : z.s.vm.findClass RJ27 = some c' := hown2
      rw [hdecl] at hown2
      rw [← e1]; exact Option.some.inj (hown.symm.trans hown2)
    have h6 := u_fits hfc hkC hkind (Or.inr hlay) hi (tyJ27_ok 4 (by decide)) hn hfit
    refine W.putFinK E.1 E.2.1 hown (hts _ hlink) hi hst hcf hini (by rw [q2]; exact h6) q1 q3 (by rw [hsl]; exact k2_hasslot (q4 4 (by decide))) rfl rfl d fun H' e1 e2 e3 => ?_
    rw [hsl] at e1 ⊢
    refine K H' f3 ⟨_, hc, t_OB.to (V := updV (vp_V [f0, f1, f2, f3, f4]) 4 v) ⟨_, e1, q2, q3, t_set2 q4 (by decide) v (fun j hj hjk => Or.inl ?_)⟩ (fun j hj => (vp_updV_set (show 4 < 5 from by decide) v j).trans rfl)⟩ ⟨e2, e3⟩ _ ls cells slots h1 h2 (h3.put2 ⟨e2, e3⟩ hA) h4
    have nm : ∀ k, k < 3 → (TJ27 4).2.1 ≠ (TJ27 k).2.1 := by decide
    by_cases e : j = 3
    · rw [e]; exact hs
    · have hj5 : j < 5 := hj
      exact zap hts in_J27 tyJ27 tyJ27_ok hK hc (by decide) hj (nm j (by omega))
end I8
theorem nm8a : ∀ k, k < 3 → ∀ j, j < 5 → j ≠ k → (TJ27 k).2.1 ≠ (TJ27 j).2.1 := by decide +kernel
theorem nm8b : ∀ j, j < 5 → j ≠ 3 → (TJ27 3).2.1 ≠ (TJ27 j).2.1 ∨ j = 4 := by decide +kernel
