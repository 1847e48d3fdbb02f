/-! HEAP ROWS over V (our own): a cell is told by one fact hp; what a row writes comes back as a fact of the new heap -/
def hp (κ : zK) (H : Heap) (a : Nat) (e : va_E) : Prop := va_at κ.1 zC (a, e) H
/-- only the cell a changed; one cell more -/
def zSame (H H1 : Heap) (a : Nat) : Prop := H1.size = H.size ∧ ∀ q : Nat, q ≠ a → H1[q]? = H[q]?
def zGrow (H H1 : Heap) : Prop := H1.size = H.size + 1 ∧ ∀ q : Nat, q < H.size → H1[q]? = H[q]?
abbrev eI (κ : zK) (n : Nat) (f : Nat → Int) : va_E := .inl (κ.2 0, n, .inl (fun k => iZ (f k)))
abbrev eJ (κ : zK) (n : Nat) (f : Nat → Int) : va_E := .inl (κ.2 1, n, .inr (.inl (fun k => jZ (f k))))
abbrev eR (κ : zK) (t n : Nat) (f : Nat → Option Nat) : va_E := .inl (κ.2 t, n, .inr (.inr (.inr (.inr f))))
theorem hp.kept {κ : zK} {H H1 : Heap} {a : Nat} {e : va_E} (h : hp κ H a e) (hq : H1[a]? = H[a]?) : hp κ H1 a e := va_at.kept h hq
theorem hp.lt {κ : zK} {H : Heap} {a : Nat} {e : va_E} (h : hp κ H a e) : a < H.size := va_at.lt h
theorem hp.P {κ : zK} {H : Heap} {a : Nat} {e : va_E} (h : hp κ H a e) : va_P κ.1 zC [(a, e)] H := by
  intro k q hk
  match k, hk with
  | 0, hk => cases hk; exact h
  | k + 1, hk => simp at hk
theorem hp.same {κ : zK} {H H1 : Heap} {a b : Nat} {e : va_E} (h : hp κ H a e) (hs : zSame H H1 b) (hn : a ≠ b) : hp κ H1 a e := h.kept (hs.2 a hn)
theorem hp.grow {κ : zK} {H H1 : Heap} {a : Nat} {e : va_E} (h : hp κ H a e) (hs : zGrow H H1) : hp κ H1 a e := h.kept (hs.2 a h.lt)
theorem hp.inj {κ : zK} {H : Heap} {a : Nat} {e e' : va_E} {n n' : Nat} {f g : Nat → Int} (h : hp κ H a (eI κ n f)) (h' : hp κ H a (eI κ n' g)) : n = n' := by
  have h1 : some (vp_cell (κ.2 0) (n, .inl (fun k => iZ (f k)))) = some (vp_cell (κ.2 0) (n', .inl (fun k => iZ (g k)))) := Eq.trans (Eq.symm h) h'
  have h2 := congrArg (fun c : Cell => c.slots.size) (Option.some.inj h1)
  simpa [vp_cell_i, arrV_size] using h2
theorem eI.congr {κ : zK} {n : Nat} {f g : Nat → Int} {H : Heap} {a : Nat} (h : hp κ H a (eI κ n f)) (hf : ∀ k, k < n → iZ (f k) = iZ (g k)) : hp κ H a (eI κ n g) := by
  have h1 : H[a]? = some (arrV (κ.2 0) n (fun k => .int (iZ (f k)))) := h
  show H[a]? = some (arrV (κ.2 0) n (fun k => .int (iZ (g k))))
  rw [h1]
  have e : (Array.ofFn (n := n) fun j => Value.int (iZ (f j.val))) = (Array.ofFn (n := n) fun j => Value.int (iZ (g j.val))) := by
    congr 1
    funext j
    rw [hf j.val j.isLt]
  unfold arrV
  rw [e]
theorem eJ.congr {κ : zK} {n : Nat} {f g : Nat → Int} {H : Heap} {a : Nat} (h : hp κ H a (eJ κ n f)) (hf : ∀ k, k < n → jZ (f k) = jZ (g k)) : hp κ H a (eJ κ n g) := by
  have h1 : H[a]? = some (arrV (κ.2 1) n (fun k => .long (jZ (f k)))) := h
  show H[a]? = some (arrV (κ.2 1) n (fun k => .long (jZ (g k))))
  rw [h1]
  have e : (Array.ofFn (n := n) fun j => Value.long (jZ (f j.val))) = (Array.ofFn (n := n) fun j => Value.long (jZ (g j.val))) := by
    congr 1
    funext j
    rw [hf j.val j.isLt]
  unfold arrV
  rw [e]
section HROWS
variable {z : zT} {cc : ByteArray} {own : String} {κ : zK} {fr lo : Nat} {ret : Option FieldType} {H : Heap} {cb sb pc : Nat} {lv lv' : List (Nat × Value)} {st rest : List Value} {a n : Nat} {i : Int}
theorem V.topi {x x' : Int} (h : iZ x = iZ x') (K : V z H cb sb pc lv (vi x' :: st)) : V z H cb sb pc lv (vi x :: st) := V.eq (congrArg (fun q => Value.int q :: st) h) K
theorem V.topl {x x' : Int} (h : jZ x = jZ x') (K : V z H cb sb pc lv (vj x' :: st)) : V z H cb sb pc lv (vj x :: st) := V.eq (congrArg (fun q => Value.long q :: st) h) K
theorem V.top2i {x x' y y' : Int} (h1 : iZ x = iZ x') (h2 : iZ y = iZ y') (K : V z H cb sb pc lv (vi x' :: vi y' :: st)) : V z H cb sb pc lv (vi x :: vi y :: st) := V.eq (by show Value.int (iZ x) :: Value.int (iZ y) :: st = _; rw [h1, h2]) K
theorem V.top2l {x x' y y' : Int} (h1 : jZ x = jZ x') (h2 : jZ y = jZ y') (K : V z H cb sb pc lv (vj x' :: vj y' :: st)) : V z H cb sb pc lv (vj x :: vj y :: st) := V.eq (by show Value.long (jZ x) :: Value.long (jZ y) :: st = _; rw [h1, h2]) K
/-- the walk's frame, as far as it is -/
theorem V.frame (K : z.H0.size ≤ H.size → (∀ q : Nat, q < z.H0.size → ¬ z.A q → H[q]? = z.H0[q]?) → V z H cb sb pc lv st) : V z H cb sb pc lv st := fun locs ls cells slots h1 h2 h3 h4 =>
  K h3.1 (fun q h5 h6 => h3.2.1 q h5 (fun h7 => h7.elim h6 (fun h8 => absurd h8 (by omega)))) locs ls cells slots h1 h2 h3 h4
theorem v_iald (E : zOK z cc own κ fr lo ret) (d : decode cc pc = .ok (.iaload, 1)) {f : Nat → Int} (h : hp κ H a (eI κ n f)) (j : Nat) (hj : i = (j : Int)) (hn : j < n) (hr : j < 2147483648) (K : V z H cb sb (pc + 1) lv (vi (f j) :: st)) : V z H cb sb pc lv (vi i :: .ref a :: st) := by
  subst hj
  intro locs ls cells slots h1 h2 h3 h4
  refine va_iald E.1 E.2.1 E.2.2.2.2.2.2.2.1.1 h.P 0 0 rfl rfl (iZ_in hn hr) d ?_
  rw [iZ_clamp hr]
  exact K locs ls cells slots h1 h2 h3 h4
theorem v_lald (E : zOK z cc own κ fr lo ret) (d : decode cc pc = .ok (.laload, 1)) {f : Nat → Int} (h : hp κ H a (eJ κ n f)) (j : Nat) (hj : i = (j : Int)) (hn : j < n) (hr : j < 2147483648) (K : V z H cb sb (pc + 1) lv (vj (f j) :: st)) : V z H cb sb pc lv (vi i :: .ref a :: st) := by
  subst hj
  intro locs ls cells slots h1 h2 h3 h4
  refine va_lald E.1 E.2.1 E.2.2.2.2.2.2.2.1.1 h.P 0 1 rfl rfl (iZ_in hn hr) d ?_
  rw [iZ_clamp hr]
  exact K locs ls cells slots h1 h2 h3 h4
/-- a place of an array of references (t: 2 Object[], 3 int[][], 4 int[][][]) -/
theorem v_aald (E : zOK z cc own κ fr lo ret) (d : decode cc pc = .ok (.aaload, 1)) {t : Nat} {ty : FieldType} {f : Nat → Option Nat} (h : hp κ H a (eR κ t n f)) (ht : (zY κ.2)[t]? = some (κ.2 t, ty)) (hty : ty.isReference = true) (j : Nat) (hj : i = (j : Int)) (hn : j < n) (hr : j < 2147483648) (K : V z H cb sb (pc + 1) lv (va_rf (f j) :: st)) : V z H cb sb pc lv (vi i :: .ref a :: st) := by
  subst hj
  intro locs ls cells slots h1 h2 h3 h4
  refine W.aald (v := va_rf (f j)) (ty := ty) E.1 E.2.1 (h.P 0 _ rfl) ((E.2.2.2.2.2.2.2.1.1.2 t _ ht).1 n (fun j => va_rf (f j))) hty (fun q => by cases q) (by show ¬ (_ ∨ (arrV _ _ _).slots.size ≤ _); rw [arrV_size]; exact iZ_in hn hr) (by show (arrV _ _ _).slots[_]? = _; rw [iZ_clamp hr, arrV_read _ _ hn]) rfl rfl d (K locs ls cells slots h1 h2 h3 h4)
theorem v_aaldS (E : zOK z cc own κ fr lo ret) (d : decode cc pc = .ok (.aaload, 1)) {t : Nat} {ty : FieldType} {f : Nat → Option Nat} (h : hp κ H a (eR κ t n f)) (ht : (zY κ.2)[t]? = some (κ.2 t, ty)) (hty : ty.isReference = true) (j : Nat) (hj : i = (j : Int)) (hn : j < n) (hr : j < 2147483648) {b : Nat} (hb : f j = some b) (K : V z H cb sb (pc + 1) lv (.ref b :: st)) : V z H cb sb pc lv (vi i :: .ref a :: st) :=
  v_aald E d h ht hty j hj hn hr (by rw [hb]; exact K)
theorem v_alen (E : zOK z cc own κ fr lo ret) (d : decode cc pc = .ok (.arraylength, 1)) {t : Nat} {ty : FieldType} {x : (Nat → Int32) ⊕ (Nat → Int64) ⊕ (Nat → UInt32) ⊕ (Nat → UInt64) ⊕ (Nat → Option Nat)} (h : hp κ H a (.inl (κ.2 t, n, x))) (ht : (zY κ.2)[t]? = some (κ.2 t, ty)) (K : V z H cb sb (pc + 1) lv (vi (n : Int) :: st)) : V z H cb sb pc lv (.ref a :: st) := fun locs ls cells slots h1 h2 h3 h4 =>
  va_alen E.1 E.2.1 E.2.2.2.2.2.2.2.1.1 h.P 0 t rfl ht (iZ_nI n).symm d (K locs ls cells slots h1 h2 h3 h4)
theorem va_S.put2 {A : Nat → Prop} {H0 H H1 : Heap} {locs : List Loc} {a k : Nat} (h : va_S A H0 H locs) (hs : zSame H H1 a) (ha : A a) : va_S A H0 H1 (locs ++ [⟨a, k⟩]) := va_S.put h hs.1 hs.2 ha
theorem va_S.grow2 {A : Nat → Prop} {H0 H H1 : Heap} {locs : List Loc} (h : va_S A H0 H locs) (hs : zGrow H H1) : va_S A H0 H1 locs :=
  ⟨Nat.le_trans h.1 (by rw [hs.1]; omega), fun x h1 h2 => (hs.2 x (Nat.lt_of_lt_of_le h1 h.1)).trans (h.2.1 x h1 h2), h.2.2⟩
theorem v_iast (E : zOK z cc own κ fr lo ret) (d : decode cc pc = .ok (.iastore, 1)) {f : Nat → Int} {x : Int} (h : hp κ H a (eI κ n f)) (j : Nat) (hj : i = (j : Int)) (hn : j < n) (hr : j < 2147483648) (hA : zA z.A z.H0 a)
    (K : ∀ H1 : Heap, hp κ H1 a (eI κ n (va_up f j x)) → zSame H H1 a → V z H1 cb sb (pc + 1) lv st) : V z H cb sb pc lv (vi x :: vi i :: .ref a :: st) := by
  subst hj
  intro locs ls cells slots h1 h2 h3 h4
  refine W.iast E.1 E.2.1 (h.P 0 _ rfl) ((E.2.2.2.2.2.2.2.1.1.2 0 _ rfl).1 n (fun j => .int (iZ (f j)))) (fun q => by cases q) (by show ¬ (_ ∨ (arrV _ _ _).slots.size ≤ _); rw [arrV_size]; exact iZ_in hn hr) rfl rfl d fun H1 e zs oq => ?_
  refine K H1 ?_ ⟨zs, oq⟩ _ ls cells slots h1 h2 (h3.put2 ⟨zs, oq⟩ hA) h4
  show H1[a]? = some (vp_cell _ _)
  rw [e]
  rw [vp_cell_i, vp_cell_i, arrV_store, iZ_clamp hr]
  congr 2
  funext q
  by_cases hq : q = j
  · subst hq
    simp [updV, va_up]
  · simp [updV, va_up, hq]
theorem v_last (E : zOK z cc own κ fr lo ret) (d : decode cc pc = .ok (.lastore, 1)) {f : Nat → Int} {x : Int} (h : hp κ H a (eJ κ n f)) (j : Nat) (hj : i = (j : Int)) (hn : j < n) (hr : j < 2147483648) (hA : zA z.A z.H0 a)
    (K : ∀ H1 : Heap, hp κ H1 a (eJ κ n (va_up f j x)) → zSame H H1 a → V z H1 cb sb (pc + 1) lv st) : V z H cb sb pc lv (vj x :: vi i :: .ref a :: st) := by
  subst hj
  intro locs ls cells slots h1 h2 h3 h4
  refine W.last E.1 E.2.1 (h.P 0 _ rfl) ((E.2.2.2.2.2.2.2.1.1.2 1 _ rfl).1 n (fun j => .long (jZ (f j)))) (fun q => by cases q) (by show ¬ (_ ∨ (arrV _ _ _).slots.size ≤ _); rw [arrV_size]; exact iZ_in hn hr) rfl rfl d fun H1 e zs oq => ?_
  refine K H1 ?_ ⟨zs, oq⟩ _ ls cells slots h1 h2 (h3.put2 ⟨zs, oq⟩ hA) h4
  show H1[a]? = some (vp_cell _ _)
  rw [e]
  rw [vp_cell_l, vp_cell_l, arrV_store, iZ_clamp hr]
  congr 2
  funext q
  by_cases hq : q = j
  · subst hq
    simp [updV, va_up]
  · simp [updV, va_up, hq]
/-- a field is read -/
theorem v_getf (E : zOK z cc own κ fr lo ret) {ref C : String} {T : u_T} {N ci index : Nat} (hin : ∀ w ∈ u_ws C T N, w ∈ lw_all) {fs : List Value} (h : hp κ H a (.inr (ci, fs))) (hc : zC[ci]? = some (C, T, N)) (k : Nat) (hk : k < N) (hlink : Cond.fieldLink own index ref (T k).2.1 (T k).2.2.1 ∈ lw_all) (hsame : ref = (T k).1) {v : Value} (hv : fs[k]? = some v) (d : decode cc pc = .ok (.getfield index, 3))
    (K : V z H cb sb (pc + 3) lv (v :: st)) : V z H cb sb pc lv (.ref a :: st) := fun locs ls cells slots h1 h2 h3 h4 =>
  va_get E.1 E.2.1 E.2.2.2.2.1 hin E.2.2.2.1 E.2.2.2.2.2.2.2.1.1 h.P 0 rfl hc k hk (E.2.2.2.2.1 _ hlink) (fun x h9 => by rw [hsame]; exact h9) hv d (K locs ls cells slots h1 h2 h3 h4)
/-- a nest mate's -/
theorem v_getfN (E : zOK z cc own κ fr lo ret) {ref C host : String} {T : u_T} {N ci index : Nat} (hin : ∀ w ∈ u_ws C T N, w ∈ lw_all) {fs : List Value} (h : hp κ H a (.inr (ci, fs))) (hc : zC[ci]? = some (C, T, N)) (k : Nat) (hk : k < N) (hlink : (own, index, ref, (T k).2.1, (T k).2.2.1, host) ∈ zNF) (hsame : ref = (T k).1) {v : Value} (hv : fs[k]? = some v) (d : decode cc pc = .ok (.getfield index, 3))
    (K : V z H cb sb (pc + 3) lv (v :: st)) : V z H cb sb pc lv (.ref a :: st) := fun locs ls cells slots h1 h2 h3 h4 =>
  va_getN E.1 E.2.1 E.2.2.2.2.1 hin E.2.2.2.1 E.2.2.2.2.2.2.2.1.1 h.P 0 rfl hc k hk (va_Nw.use rfl (E.2.2.2.2.2.2.2.1.2.1 _ hlink)) (fun x h9 => by rw [hsame]; exact h9) hv d (K locs ls cells slots h1 h2 h3 h4)
theorem hp.D {κ : zK} {H : Heap} {a : Nat} {e : va_E} : va_D (fun q => q = a) [(a, e)] := by
  refine ⟨fun i j p q hi hj _ => ?_, fun k q hk => ?_⟩
  · have h1 : i < 1 := (List.getElem?_eq_some_iff.mp hi).1
    have h2 : j < 1 := (List.getElem?_eq_some_iff.mp hj).1
    omega
  · match k, hk with
    | 0, hk => cases hk; rfl
    | k + 1, hk => simp at hk
theorem v_putf (E : zOK z cc own κ fr lo ret) {ref C : String} {T : u_T} {N ci index : Nat} (hin : ∀ w ∈ u_ws C T N, w ∈ lw_all) (ty0 : Nat → FieldType) (hty : ∀ k, k < N → parseFieldDescriptor (T k).2.2.1 = some (ty0 k)) (hnm : ∀ a, a < N → ∀ b, b < N → a ≠ b → (T a).2.1 ≠ (T b).2.1) {fs : List Value} (h : hp κ H a (.inr (ci, fs))) (hc : zC[ci]? = some (C, T, N)) (k : Nat) (hk : k < N) (hlink : Cond.fieldLink own index ref (T k).2.1 (T k).2.2.1 ∈ lw_all) (hsame : ref = (T k).1) (hfin : (T k).2.2.2 = false) {v : Value} (hn : narrow (ty0 k) v = v) (hfit : fits (ty0 k) v = true) (hl : k < fs.length) (hA : zA z.A z.H0 a) (d : decode cc pc = .ok (.putfield index, 3))
    (K : ∀ H1 : Heap, hp κ H1 a (.inr (ci, fs.set k v)) → zSame H H1 a → V z H1 cb sb (pc + 3) lv st) : V z H cb sb pc lv (v :: .ref a :: st) := by
  intro locs ls cells slots h1 h2 h3 h4
  have hK := E.2.2.2.2.2.2.2.1.1
  have hts := E.2.2.2.2.1
  have hap := va_apart (own := own) hts hin ty0 hty hnm hK hc
  obtain ⟨r, g1, cell, q1, q2, q3, q4⟩ := h
  have hr : r = (C, T, N) := Option.some.inj (g1.symm.trans hc)
  subst hr
  obtain ⟨hS, hfc, kC, hkC, hkind⟩ := hK.1 ci _ hc
  obtain ⟨cf, kf, fi, f, hi, hsl⟩ := hS k hk
  have hlay := hts _ (hin _ (u_in_lay hk))
  unfold u_lay at hlay
  rw [if_neg (by rw [hfin]; decide)] at hlay
  have hst := (u_facts hfc hkC (u_lays hts hin hk) hi).1
  have h6 := u_store hfc hkC hkind hlay hi (hty k hk) hn hfit
  refine W.putK E.1 E.2.1 (f := f) ⟨E.2.2.2.1, hts _ hlink, ⟨_, _, _, by rw [hsame]; exact hi⟩, hst⟩ (by rw [q2]; exact h6) q1 q3 (by rw [hsl]; exact k2_hasslot (q4 k hk)) rfl rfl d fun H' e1 e2 e3 => ?_
  rw [hsl] at e1 ⊢
  exact K H' ⟨_, hc, t_OB.to (V := updV (vp_V fs) k v) ⟨_, e1, q2, q3, t_set q4 hap hk v⟩ (fun j _ => vp_updV_set hl v j)⟩ ⟨e2, e3⟩ _ ls cells slots h1 h2 (h3.put2 ⟨e2, e3⟩ hA) h4
/-- a final field, in a constructor -/
theorem v_putfF (E : zOK z cc own κ fr lo ret) (hini : z.meth.name = "<init>") {ref C : String} {T : u_T} {N ci index : Nat} (hin : ∀ w ∈ u_ws C T N, w ∈ lw_all) (ty0 : Nat → FieldType) (hty : ∀ k, k < N → parseFieldDescriptor (T k).2.2.1 = some (ty0 k)) (hnm : ∀ a, a < N → ∀ b, b < N → a ≠ b → (T a).2.1 ≠ (T b).2.1) {fs : List Value} (h : hp κ H a (.inr (ci, fs))) (hc : zC[ci]? = some (C, T, N)) (k : Nat) (hk : k < N) (hlink : Cond.fieldLink own index ref (T k).2.1 (T k).2.2.1 ∈ lw_all) (hsame : ref = (T k).1) (hfin : (T k).2.2.2 = true) (hdecl : (T k).1 = own) {v : Value} (hn : narrow (ty0 k) v = v) (hfit : fits (ty0 k) v = true) (hl : k < fs.length) (hA : zA z.A z.H0 a) (d : decode cc pc = .ok (.putfield index, 3))
    (K : ∀ H1 : Heap, hp κ H1 a (.inr (ci, fs.set k v)) → zSame H H1 a → V z H1 cb sb (pc + 3) lv st) : V z H cb sb pc lv (v :: .ref a :: st) := by
  intro locs ls cells slots h1 h2 h3 h4
  have hK := E.2.2.2.2.2.2.2.1.1
  have hts := E.2.2.2.2.1
  have hown := E.2.2.2.1
  have hap := va_apart (own := own) hts hin ty0 hty hnm hK hc
  obtain ⟨r, g1, cell, q1, q2, q3, q4⟩ := h
  have hr : r = (C, T, N) := Option.some.inj (g1.symm.trans hc)
  subst hr
  obtain ⟨hS, hfc, kC, hkC, hkind⟩ := hK.1 ci _ hc
  obtain ⟨cf, kf, fi, f, hi, hsl⟩ := hS k hk
  have hlay := hts _ (hin _ (u_in_lay hk))
  unfold u_lay at hlay
  rw [if_pos hfin] at hlay
  have hst := (u_facts hfc hkC (u_lays hts hin hk) hi).1
  have hcf : z.m.cls = cf := by
    obtain ⟨_, _, c', _, _, _, -, -, hf', -, -, -, hown2, -⟩ := Cond.laysFinal_spec hlay
    have e1 : c' = cf := by have := hi.symm.trans hf'; simp at this; exact this.1.symm
    rw [hdecl] at hown2
    rw [← e1]; exact Option.some.inj (hown.symm.trans hown2)
  have h6 := u_fits hfc hkC hkind (Or.inr hlay) hi (hty k hk) hn hfit
  refine W.putFinK E.1 E.2.1 hown (hts _ hlink) (by rw [hsame]; exact hi) hst hcf hini (by rw [q2]; exact h6) q1 q3 (by rw [hsl]; exact k2_hasslot (q4 k hk)) rfl rfl d fun H' e1 e2 e3 => ?_
  rw [hsl] at e1 ⊢
  exact K H' ⟨_, hc, t_OB.to (V := updV (vp_V fs) k v) ⟨_, e1, q2, q3, t_set q4 hap hk v⟩ (fun j _ => vp_updV_set hl v j)⟩ ⟨e2, e3⟩ _ ls cells slots h1 h2 (h3.put2 ⟨e2, e3⟩ hA) h4
/-- new -/
theorem v_new (E : zOK z cc own κ fr lo ret) {C : String} {T : u_T} {N ci index : Nat} (hin : ∀ w ∈ u_ws C T N, w ∈ lw_all) (ty : Nat → FieldType) (hty : ∀ k, k < N → parseFieldDescriptor (T k).2.2.1 = some (ty k)) (hcl : Cond.classLink own index C ∈ lw_all) (hinst : Cond.instantiable C N ∈ lw_all) (hini : Cond.initialized C ∈ lw_all) (hc : zC[ci]? = some (C, T, N)) {fs : List Value} (hfs : ∀ j, j < N → defaultValue (ty j) = vp_V fs j) {cb' sb' : Nat} (h1b : cb' + 1 ≤ cb) (h2b : sb' + N ≤ sb) (d : decode cc pc = .ok (.new index, 3))
    (K : ∀ (q : Nat) (H1 : Heap), q = H.size → hp κ H1 q (.inr (ci, fs)) → zGrow H H1 → V z H1 cb' sb' (pc + 3) lv (.ref q :: st)) : V z H cb sb pc lv st := by
  intro locs ls cells slots h1 h2 h3 h4
  have hK := E.2.2.2.2.2.2.2.1.1
  have hts := E.2.2.2.2.1
  have hKn := hK.1 ci _ hc
  refine W.newcK E.1 E.2.1 E.2.2.2.1 (hts _ hcl) (hts _ hinst) (hts _ hini) rfl d (by rw [E.2.2.2.2.2.2.2.2.2.2.1]; omega) (by rw [E.2.2.2.2.2.2.2.2.2.2.2.1]; omega) hKn.2.1 rfl fun H1 kC hkC e1 z1 o1 => ?_
  exact K H.size H1 rfl ⟨_, hc, (u_born ty hts hin hKn hkC e1 hty).to hfs⟩ ⟨z1, o1⟩ locs ls (cells + 1) (slots + N) (by omega) (by omega) (h3.grow2 ⟨z1, o1⟩) h4
theorem v_newI (E : zOK z cc own κ fr lo ret) (harr : Cond.arrayClass .int ∈ lw_all) (hn : n ≤ 100000000) (hi : i = (n : Int)) {cb' sb' : Nat} (h1b : cb' + 1 ≤ cb) (h2b : sb' + n ≤ sb) (d : decode cc pc = .ok (.newarray .int, 2))
    (K : ∀ (q : Nat) (H1 : Heap), q = H.size → hp κ H1 q (eI κ n (fun _ => 0)) → zGrow H H1 → V z H1 cb' sb' (pc + 2) lv (.ref q :: st)) : V z H cb sb pc lv (vi i :: st) := by
  subst hi
  intro locs ls cells slots h1 h2 h3 h4
  have hK := E.2.2.2.2.2.2.2.1.1
  have hr : n < 2147483648 := by omega
  have hin := iZ_in (j := n) (n := n + 1) (by omega) hr
  refine va_newaK (atype := .int) E.1 E.2.1 (E.2.2.2.2.1 _ harr) rfl d rfl (fun q => hin (Or.inl q)) (iZ_clamp hr) (by show n * 4 ≤ 536870912; omega) (by rw [E.2.2.2.2.2.2.2.2.2.2.1]; omega) (by rw [E.2.2.2.2.2.2.2.2.2.2.2.1]; omega) rfl fun H1 cA e1 z1 o1 hAr hNm => ?_
  have hcA : cA = κ.2 0 := Option.some.inj (Eq.trans (Eq.symm hNm) (hK.2 0 _ rfl).2)
  subst hcA
  exact K H.size H1 rfl e1 ⟨z1, o1⟩ locs ls (cells + 1) (slots + n) (by omega) (by omega) (h3.grow2 ⟨z1, o1⟩) h4
theorem v_newJ (E : zOK z cc own κ fr lo ret) (harr : Cond.arrayClass .long ∈ lw_all) (hn : n ≤ 10000000) (hi : i = (n : Int)) {cb' sb' : Nat} (h1b : cb' + 1 ≤ cb) (h2b : sb' + n ≤ sb) (d : decode cc pc = .ok (.newarray .long, 2))
    (K : ∀ (q : Nat) (H1 : Heap), q = H.size → hp κ H1 q (eJ κ n (fun _ => 0)) → zGrow H H1 → V z H1 cb' sb' (pc + 2) lv (.ref q :: st)) : V z H cb sb pc lv (vi i :: st) := by
  subst hi
  intro locs ls cells slots h1 h2 h3 h4
  have hK := E.2.2.2.2.2.2.2.1.1
  have hr : n < 2147483648 := by omega
  have hin := iZ_in (j := n) (n := n + 1) (by omega) hr
  refine va_newaK (atype := .long) E.1 E.2.1 (E.2.2.2.2.1 _ harr) rfl d rfl (fun q => hin (Or.inl q)) (iZ_clamp hr) (by show n * 8 ≤ 536870912; omega) (by rw [E.2.2.2.2.2.2.2.2.2.2.1]; omega) (by rw [E.2.2.2.2.2.2.2.2.2.2.2.1]; omega) rfl fun H1 cA e1 z1 o1 hAr hNm => ?_
  have hcA : cA = κ.2 1 := Option.some.inj (Eq.trans (Eq.symm hNm) (hK.2 1 _ rfl).2)
  subst hcA
  exact K H.size H1 rfl e1 ⟨z1, o1⟩ locs ls (cells + 1) (slots + n) (by omega) (by omega) (h3.grow2 ⟨z1, o1⟩) h4
/-- Object.<init> -/
theorem v_objInit (E : zOK z cc own κ fr lo ret) {idx : Nat} (hlink : Cond.methodLink own idx Lib.objectInit ∈ lw_all) (hinst : Cond.instanceMethod Lib.objectInit ∈ lw_all) (hcode : Cond.code Lib.objectInit ⟨#[0xb1]⟩ 1 none ∈ lw_all) (d : decode cc pc = .ok (.invokespecial idx, 3)) (hfr : 1 ≤ fr) (hlo : (st.map fun v => v.category).sum + 12 ≤ lo)
    (K : V z H cb sb (pc + 3) lv st) : V z H cb sb pc lv (.ref a :: st) := by
  intro locs ls cells slots h1 h2 h3 h4
  refine W.objInit E.1 E.2.1 E.2.2.2.1 (E.2.2.2.2.1 _ hlink) (E.2.2.2.2.1 _ hinst) (E.2.2.2.2.1 _ hcode) rfl (by rw [E.2.2.1]; exact h4.1) rfl d (Nat.le_trans hfr E.2.2.2.2.2.2.2.2.1) (Nat.le_trans (by show 2 * 0 + _ + 12 ≤ lo; omega) E.2.2.2.2.2.2.2.2.2.1) ?_
  exact K locs ls cells slots h1 h2 h3 h4
theorem v_ldc (E : zOK z cc own κ fr lo ret) {index : Nat} {x : Int32} (hc : Cond.constant own index x ∈ lw_all) (d : decode cc pc = .ok (.ldc index, 2)) (K : V z H cb sb (pc + 2) lv (.int x :: st)) : V z H cb sb pc lv st := fun locs ls cells slots h1 h2 h3 h4 => lv_ldc E.1 E.2.1 E.2.2.2.1 (E.2.2.2.2.1 _ hc) d (K locs ls cells slots h1 h2 h3 h4)
theorem v_ldcw (E : zOK z cc own κ fr lo ret) {index : Nat} {x : Int32} (hc : Cond.constant own index x ∈ lw_all) (d : decode cc pc = .ok (.ldc_w index, 3)) (K : V z H cb sb (pc + 3) lv (.int x :: st)) : V z H cb sb pc lv st := fun locs ls cells slots h1 h2 h3 h4 => lv_ldcw E.1 E.2.1 E.2.2.2.1 (E.2.2.2.2.1 _ hc) d (K locs ls cells slots h1 h2 h3 h4)
theorem v_ldc2 (E : zOK z cc own κ fr lo ret) {index : Nat} {x : Int64} (hc : Cond.constantLong own index x ∈ lw_all) (d : decode cc pc = .ok (.ldc2_w index, 3)) (K : V z H cb sb (pc + 3) lv (.long x :: st)) : V z H cb sb pc lv st := fun locs ls cells slots h1 h2 h3 h4 => lv_ldc2 E.1 E.2.1 E.2.2.2.1 (E.2.2.2.2.1 _ hc) d (K locs ls cells slots h1 h2 h3 h4)
theorem zOK.F (E : zOK z cc own κ fr lo ret) {locs : List Loc} {t : State} (h3 : va_S (zA z.A z.H0) z.H0 H locs) (ht : t.heap = H) : va_F (zA z.A z.H0) z.s t := by
  have e := E.2.2.2.2.2.2.2.2.2.2.2.2
  exact ⟨by rw [ht, ← e]; exact h3.1, fun q h1 h2 => by rw [ht, ← e]; rw [← e] at h1; exact h3.2.1 q h1 h2⟩
/-! the ends -/
variable {post : Option Value → Heap → Prop}
theorem v_iret (E : zOK z cc own κ fr lo (some .int)) (hE : zEnd z post) (d : decode cc pc = .ok (.ireturn, 1)) {x : Int32} (hp : post (some (.int x)) H) : V z H cb sb pc lv [.int x] := by
  intro locs ls cells slots h1 h2 h3 h4
  rw [hE]
  refine W.widen (k := z.mc) (n := z.ms) (by omega) (by omega) ?_
  exact W.iret (v := x) E.1 E.2.1 E.2.2.2.2.2.2.1 (fun t ht hW => ⟨⟨_, rfl, by rw [ht]; exact hp⟩, zOK.F E h3 ht⟩) h3.2.2 d (hlocks := E.2.2.2.2.2.1)
theorem v_zret (E : zOK z cc own κ fr lo (some .boolean)) (hE : zEnd z post) (d : decode cc pc = .ok (.ireturn, 1)) {x : Int32} (hn : narrow .boolean (.int x) = .int x) (hp : post (some (.int x)) H) : V z H cb sb pc lv [.int x] := by
  intro locs ls cells slots h1 h2 h3 h4
  rw [hE]
  refine W.widen (k := z.mc) (n := z.ms) (by omega) (by omega) ?_
  exact W.zret (v := x) E.1 E.2.1 E.2.2.2.2.2.2.1 hn (fun t ht hW => ⟨⟨_, rfl, by rw [ht]; exact hp⟩, zOK.F E h3 ht⟩) h3.2.2 d (hlocks := E.2.2.2.2.2.1)
theorem v_lret (E : zOK z cc own κ fr lo (some .long)) (hE : zEnd z post) (d : decode cc pc = .ok (.lreturn, 1)) {x : Int64} (hp : post (some (.long x)) H) : V z H cb sb pc lv [.long x] := by
  intro locs ls cells slots h1 h2 h3 h4
  rw [hE]
  refine W.widen (k := z.mc) (n := z.ms) (by omega) (by omega) ?_
  exact W.lret (v := x) E.1 E.2.1 E.2.2.2.2.2.2.1 (fun t ht hW => ⟨⟨_, rfl, by rw [ht]; exact hp⟩, zOK.F E h3 ht⟩) h3.2.2 d (hlocks := E.2.2.2.2.2.1)
theorem v_vret (E : zOK z cc own κ fr lo none) (hE : zEnd z post) (d : decode cc pc = .ok (.return_, 1)) (hp : post none H) : V z H cb sb pc lv [] := by
  intro locs ls cells slots h1 h2 h3 h4
  rw [hE]
  refine W.widen (k := z.mc) (n := z.ms) (by omega) (by omega) ?_
  exact W.vret E.1 E.2.1 E.2.2.2.2.2.2.1 (fun t ht hW => ⟨⟨_, rfl, by rw [ht]; exact hp⟩, zOK.F E h3 ht⟩) h3.2.2 d (hlocks := E.2.2.2.2.2.1)
theorem v_aret (E : zOK z cc own κ fr lo ret) (hE : zEnd z post) {rt : FieldType} (hrt : ret = some rt) (hr2 : (∃ n, rt = .object n) ∨ ∃ t, rt = .array t) (d : decode cc pc = .ok (.areturn, 1)) {v : Value} (hv : v = .null ∨ ∃ a, v = .ref a) (hp : post (some v) H) : V z H cb sb pc lv [v] := by
  subst hrt
  intro locs ls cells slots h1 h2 h3 h4
  rw [hE]
  refine W.widen (k := z.mc) (n := z.ms) (by omega) (by omega) ?_
  exact W.aret (v := v) E.1 E.2.1 E.2.2.2.2.2.2.1 hr2 hv (fun t ht hW => ⟨⟨_, rfl, by rw [ht]; exact hp⟩, zOK.F E h3 ht⟩) h3.2.2 d (hlocks := E.2.2.2.2.2.1)
end HROWS
