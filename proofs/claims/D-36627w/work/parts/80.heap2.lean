/-! HEAP ROWS 2 over V (our own): nulls, switches, statics, references in arrays, array copies, casts, class objects -/
theorem zOK.kn {z : zT} {cc : ByteArray} {own : String} {κ : zK} {fr lo : Nat} {ret : Option FieldType} (E : zOK z cc own κ fr lo ret) : zKn κ z.s := E.2.2.2.2.2.2.2.1
theorem zKn.cast {κ : zK} {s : State} (hK : zKn κ s) : ∀ q ∈ zNC, va_Nw (.castable q.1 q.2) s := hK.2.2.2.1
theorem zKn.ao {κ : zK} {s : State} (hK : zKn κ s) : va_AO "java/lang/Object" s := hK.2.2.2.2.2.2.1
theorem zKn.nc {κ : zK} {s : State} (hK : zKn κ s) : ∀ q ∈ zNX, va_Nc q.1 q.2 s := hK.2.2.2.2.2.2.2.1
theorem zKn.mi {κ : zK} {s : State} (hK : zKn κ s) : va_Mi "[Ljava/lang/Object;" (κ.2 99) s := hK.2.2.2.2.2.2.2.2.1
theorem zKn.sl {κ : zK} {s : State} (hK : zKn κ s) : zSL κ s := hK.2.2.2.2.2.2.2.2.2
/-- a cell that may stand in an array of objects: a Known, a Poly, an Interval, a BigInteger -/
def oA (κ : zK) (H : Heap) (v : Nat) : Prop := ∃ (ci : Nat) (fs : List Value), hp κ H v (.inr (ci, fs)) ∧ (ci = 1 ∨ ci = 2 ∨ ci = 4 ∨ ci = 6)
theorem oA.kept {κ : zK} {H H1 : Heap} {v : Nat} (h : oA κ H v) (hq : H1[v]? = H[v]?) : oA κ H1 v := let ⟨ci, fs, h1, h2⟩ := h; ⟨ci, fs, h1.kept hq, h2⟩
theorem oA.lt {κ : zK} {H : Heap} {v : Nat} (h : oA κ H v) : v < H.size := let ⟨_, _, h1, _⟩ := h; h1.lt
theorem oA.any {κ : zK} {H : Heap} {v : Nat} {s : State} (hK : zKn κ s) (h : oA κ H v) : va_Any "java/lang/Object" s H v := by
  obtain ⟨ci, fs, h1, h2⟩ := h
  have key : ∀ (r : vw_C), zC[ci]? = some r → (r.1, "java/lang/Object") ∈ zNC → va_Any "java/lang/Object" s H v := fun r hc hm =>
    va_rAny hK.1 h1.P (q0 := 0) rfl hc (fun comp c0 g1 g2 => by
      obtain ⟨c, t, f1, f2, f3⟩ := Cond.castable_spec (va_Nw.use (A := (#[] : Array Value)) rfl (hK.cast _ hm))
      cases f1.symm.trans g2
      cases f2.symm.trans g1
      exact f3)
  rcases h2 with rfl | rfl | rfl | rfl
  · exact key _ rfl (by decide +kernel)
  · exact key _ rfl (by decide +kernel)
  · exact key _ rfl (by decide +kernel)
  · exact key _ rfl (by decide +kernel)
section H2ROWS
variable {z : zT} {cc : ByteArray} {own : String} {κ : zK} {fr lo : Nat} {ret : Option FieldType} {H : Heap} {cb sb pc : Nat} {lv lv' : List (Nat × Value)} {st rest : List Value} {a n : Nat} {i : Int}
theorem v_ifnull (E : zOK z cc own κ fr lo ret) {x : Nat} {off : Int} (d : decode cc pc = .ok (.ifnull off, 3)) (K : V z H cb sb (pc + 3) lv st) : V z H cb sb pc lv (.ref x :: st) := fun locs ls cells slots h1 h2 h3 h4 => lv_ifnull E.1 E.2.1 d (K locs ls cells slots h1 h2 h3 h4)
theorem v_ifnullN (E : zOK z cc own κ fr lo ret) {off : Int} {tgt : Nat} (d : decode cc pc = .ok (.ifnull off, 3)) (ht : (pc : Int) + off = (tgt : Int)) (K : V z H cb sb tgt lv st) : V z H cb sb pc lv (.null :: st) := fun locs ls cells slots h1 h2 h3 h4 => lv_ifnullN E.1 E.2.1 d ht (K locs ls cells slots h1 h2 h3 h4)
theorem v_ifnonnull (E : zOK z cc own κ fr lo ret) {x : Nat} {off : Int} {tgt : Nat} (d : decode cc pc = .ok (.ifnonnull off, 3)) (ht : (pc : Int) + off = (tgt : Int)) (K : V z H cb sb tgt lv st) : V z H cb sb pc lv (.ref x :: st) := fun locs ls cells slots h1 h2 h3 h4 => lv_ifnonnull E.1 E.2.1 d ht (K locs ls cells slots h1 h2 h3 h4)
theorem v_ifnonnullN (E : zOK z cc own κ fr lo ret) {off : Int} (d : decode cc pc = .ok (.ifnonnull off, 3)) (K : V z H cb sb (pc + 3) lv st) : V z H cb sb pc lv (.null :: st) := fun locs ls cells slots h1 h2 h3 h4 => lv_ifnonnullN E.1 E.2.1 d (K locs ls cells slots h1 h2 h3 h4)
theorem v_lookup (E : zOK z cc own κ fr lo ret) {dflt : Int} {ps : Array (Int × Int)} {len : Nat} {x : Int} {off : Int} {tgt : Nat} (hx : rI x) (d : decode cc pc = .ok (.lookupswitch dflt ps, len)) (hp : (ps.toList.zip (ps.toList.drop 1)).all (fun (a, next) => a.1 < next.1) = true) (ho : Op.lookupswitch.offset ps.toList dflt x = off) (ht : (pc : Int) + off = (tgt : Int)) (K : V z H cb sb tgt lv st) : V z H cb sb pc lv (vi x :: st) := fun locs ls cells slots h1 h2 h3 h4 => lv_lookup E.1 E.2.1 d hp (by rw [iZ_toInt hx]; exact ho) ht (K locs ls cells slots h1 h2 h3 h4)
/-- a static field -/
theorem v_gets (E : zOK z cc own κ fr lo ret) {index : Nat} (k : Nat) {C nm ds : String} (hq : zSF[k]? = some (C, nm, ds)) (hlink : Cond.fieldLink own index C nm ds ∈ lw_all) {v : Value} (h : zs κ H k v) (d : decode cc pc = .ok (.getstatic index, 3)) (K : V z H cb sb (pc + 3) lv (v :: st)) : V z H cb sb pc lv st := by
  intro locs ls cells slots h1 h2 h3 h4
  obtain ⟨cf, kf, fi, f, g1, g2, g3, g4, g5⟩ := E.kn.sl k _ hq
  obtain ⟨cell, c1, c2, c3⟩ := h
  exact W.gets E.1 E.2.1 E.2.2.2.1 (E.2.2.2.2.1 _ hlink) g1 g2 g3 g4 c1 (fun e => by rw [e] at c2; cases c2) (by rw [g5]; exact c3) rfl d (K locs ls cells slots h1 h2 h3 h4)
/-- a reference put into an array of objects -/
theorem v_aast (E : zOK z cc own κ fr lo ret) (d : decode cc pc = .ok (.aastore, 1)) {f : Nat → Option Nat} (h : hp κ H a (eR κ 2 n f)) {v : Nat} (hv : oA κ H v) (j : Nat) (hj : i = (j : Int)) (hn : j < n) (hr : j < 2147483648) (hA : zA z.A z.H0 a)
    (K : ∀ H1 : Heap, hp κ H1 a (eR κ 2 n (va_up f j (some v))) → zSame H H1 a → V z H1 cb sb (pc + 1) lv st) : V z H cb sb pc lv (.ref v :: vi i :: .ref a :: st) := by
  subst hj
  intro locs ls cells slots h1 h2 h3 h4
  obtain ⟨cellV, g1, g3, ⟨kC, hkC⟩, hasg⟩ := hv.any E.kn
  obtain ⟨kA, comp, k1, k2, k3, -⟩ := (E.kn.1.2 2 _ rfl).2
  obtain ⟨kE, hkE, -⟩ := Vm.findClass_spec k3
  refine W.aast E.1 E.2.1 (h.P 0 _ rfl) (fun q h => by cases h) (fun h => by cases h) k1 k2 rfl hkE ⟨fun q => iZ_in hn hr (Or.inl q), by show _ < (arrV _ _ _).slots.size; rw [arrV_size, iZ_clamp hr]; exact hn⟩ g1 (fun q h => by rw [h] at g3; cases g3) hkC (hasg _ k3) rfl rfl d fun H1 e zz oq => ?_
  refine K H1 ?_ ⟨zz, oq⟩ _ ls cells slots h1 h2 (h3.put2 ⟨zz, oq⟩ hA) h4
  show H1[a]? = some (vp_cell _ _)
  rw [e]
  rw [vp_cell_q, vp_cell_q, arrV_store, iZ_clamp hr]
  congr 2
  funext q
  by_cases hq : q = j
  · subst hq
    simp [updV, va_up, va_rf]
  · simp [updV, va_up, hq]
theorem v_aastN (E : zOK z cc own κ fr lo ret) (d : decode cc pc = .ok (.aastore, 1)) {f : Nat → Option Nat} (h : hp κ H a (eR κ 2 n f)) (j : Nat) (hj : i = (j : Int)) (hn : j < n) (hr : j < 2147483648) (hA : zA z.A z.H0 a)
    (K : ∀ H1 : Heap, hp κ H1 a (eR κ 2 n (va_up f j none)) → zSame H H1 a → V z H1 cb sb (pc + 1) lv st) : V z H cb sb pc lv (.null :: vi i :: .ref a :: st) := by
  subst hj
  intro locs ls cells slots h1 h2 h3 h4
  refine va_WaastN (C := "java/lang/Object") E.1 E.2.1 (h.P 0 _ rfl) ((E.kn.1.2 2 _ rfl).1 n (fun j => va_rf (f j))) (fun h => by cases h) (by show ¬ (_ ∨ (arrV _ _ _).slots.size ≤ _); rw [arrV_size]; exact iZ_in hn hr) rfl rfl d fun H1 e zz oq => ?_
  refine K H1 ?_ ⟨zz, oq⟩ _ ls cells slots h1 h2 (h3.put2 ⟨zz, oq⟩ hA) h4
  show H1[a]? = some (vp_cell _ _)
  rw [e]
  rw [vp_cell_q, vp_cell_q, arrV_store, iZ_clamp hr]
  congr 2
  funext q
  by_cases hq : q = j
  · subst hq
    simp [updV, va_up, va_rf]
  · simp [updV, va_up, hq]
/-- new Object[n] -/
theorem v_newQ (E : zOK z cc own κ fr lo ret) {index : Nat} (hcl : Cond.classLink own index "java/lang/Object" ∈ lw_all) (hn : n ≤ 100000000) (hi : i = (n : Int)) {cb' sb' : Nat} (h1b : cb' + 1 ≤ cb) (h2b : sb' + n ≤ sb) (d : decode cc pc = .ok (.anewarray index, 3))
    (K : ∀ (q : Nat) (H1 : Heap), q = H.size → hp κ H1 q (eR κ 2 n (fun _ => none)) → zGrow H H1 → V z H1 cb' sb' (pc + 3) lv (.ref q :: st)) : V z H cb sb pc lv (vi i :: st) := by
  subst hi
  intro locs ls cells slots h1 h2 h3 h4
  have hr : n < 2147483648 := by omega
  have hin := iZ_in (j := n) (n := n + 1) (by omega) hr
  refine W.anew E.1 E.2.1 E.2.2.2.1 (E.2.2.2.2.1 _ hcl) (va_AO.use E.kn.ao) rfl d rfl (fun q => hin (Or.inl q)) (by rw [iZ_clamp hr]; omega) (by rw [E.2.2.2.2.2.2.2.2.2.2.1]; omega) (by rw [iZ_clamp hr, E.2.2.2.2.2.2.2.2.2.2.2.1]; omega) fun cA kA comp f1 f2 f3 f4 => ?_
  have hcA : cA = κ.2 2 := by
    obtain ⟨kB, comB, k1, k2, k3, k4⟩ := (E.kn.1.2 2 _ rfl).2
    exact Option.some.inj (f1.symm.trans k4)
  subst hcA
  generalize hH1 : H.push ({ cls := κ.2 2, slots := Array.replicate (iZ (n : Int)).toNatClampNeg .null, vm := .none } : Cell) = H1
  have z1 : H1.size = H.size + 1 := by rw [← hH1, Array.size_push]
  have e1 : H1[H.size]? = some (arrV (κ.2 2) n (fun _ => .null)) := by rw [← hH1, Array.getElem?_push_size, ← arrV_new, iZ_clamp hr]
  have o1 : ∀ q : Nat, q < H.size → H1[q]? = H[q]? := fun q hq => by rw [← hH1, Array.getElem?_push, if_neg (Nat.ne_of_lt hq)]
  have K1 := K H.size H1 rfl (by show H1[H.size]? = some (vp_cell _ _); rw [vp_cell_q]; exact e1) ⟨z1, o1⟩ locs ls (cells + 1) (slots + n) (by omega) (by omega) (h3.grow2 ⟨z1, o1⟩) h4
  rw [iZ_clamp hr]
  exact K1
/-- System.arraycopy, whatever the arrays hold -/
theorem v_copyG (E : zOK z cc own κ fr lo ret) {α : Type} (mk : α → Value) {index a0 n0 n1 t : Nat} {ty : FieldType} {f g : Nat → α} (h0 : H[a0]? = some (arrV (κ.2 t) n0 (fun j => mk (f j)))) (h1c : H[a]? = some (arrV (κ.2 t) n1 (fun j => mk (g j)))) (ht : (zY κ.2)[t]? = some (κ.2 t, ty))
    (hlink : Cond.methodLink own index arraycopyName ∈ lw_all) (hnat : Cond.native arraycopyName ∈ lw_all) (hstat : Cond.static arraycopyName ∈ lw_all) (hini : Cond.initialized "java/lang/System" ∈ lw_all) {sp dp w : Nat} (hs : sp + w ≤ n0) (hd : dp + w ≤ n1) (hb0 : n0 < 2147483648) (hb1 : n1 < 2147483648)
    (hval : ∀ (T : State) (vm' : Vm), T.heap = H → z.s.vm.Alike vm' → ∀ (comp : ClassId) (kA : Class), z.s.vm.classes[κ.2 t]? = some kA → kA.kind = .array comp ty → ∀ k, k < w → fits ty (mk (f (sp + k))) = true ∧ (T.setVm vm').takes comp (mk (f (sp + k))))
    (hA : zA z.A z.H0 a) (hfr : 1 ≤ fr) (hlo : (st.map fun v => v.category).sum + (nativeFrameWords "java/lang/System" "arraycopy" 5 + 11) ≤ lo) {x1 x2 x3 : Int} (e1 : x1 = (sp : Int)) (e2 : x2 = (dp : Int)) (e3 : x3 = (w : Int)) (d : decode cc pc = .ok (.invokestatic index, 3))
    (K : ∀ H1 : Heap, H1[a]? = some (arrV (κ.2 t) n1 (fun j => mk (va_cpy f g sp dp w j))) → zSame H H1 a → V z H1 cb sb (pc + 3) lv st) : V z H cb sb pc lv (vi x3 :: vi x2 :: .ref a :: vi x1 :: .ref a0 :: st) := by
  subst e1 e2 e3
  intro locs ls cells slots h1 h2 h3 h4
  have cs : (iZ (sp : Int)).toNatClampNeg = sp := iZ_clamp (by omega)
  have cd : (iZ (dp : Int)).toNatClampNeg = dp := iZ_clamp (by omega)
  have cw : (iZ (w : Int)).toNatClampNeg = w := iZ_clamp (by omega)
  have nn : ∀ k : Nat, k < 2147483648 → ¬ iZ (k : Int) < 0 := fun k hk => by rw [iZ_0, iZ_lt (by omega) r0]; omega
  have ti : ∀ k : Nat, k < 2147483648 → (iZ (k : Int)).toInt = (k : Int) := fun k hk => iZ_toInt (by omega)
  intro T hT X
  obtain ⟨-, k0, hk0, cm0, hkk0⟩ := (E.kn.1.2 t _ ht).1 n0 (fun j => mk (f j))
  obtain ⟨vm', X', step⟩ := X.arraycopy E.1 E.2.2.2.1 (E.2.2.2.2.1 _ hlink) (E.2.2.2.2.1 _ hnat) (E.2.2.2.2.1 _ hstat) (E.2.2.2.2.1 _ hini) (src := a0) (dst := a) (cs := arrV (κ.2 t) n0 (fun j => mk (f j))) (cd := arrV (κ.2 t) n1 (fun j => mk (g j))) (srcPos := iZ (sp : Int)) (destPos := iZ (dp : Int)) (n := iZ (w : Int)) (by rw [hT]; exact h0) (by rw [hT]; exact h1c)
    (fun _ h => by cases h) (fun _ h => by cases h) (fun h => by cases h) (fun h => by cases h) hk0 hk0 hkk0 hkk0 (by simp) (nn sp (by omega)) (nn dp (by omega)) (nn w (by omega))
    (by rw [ti sp (by omega), ti w (by omega), arrV_size]; omega)
    (by rw [ti dp (by omega), ti w (by omega), arrV_size]; omega)
    (fun vm₁ hal k hk => by
      rw [cw] at hk
      have e : (arrV (κ.2 t) n0 (fun j => mk (f j))).slots.getD ((iZ (sp : Int)).toNatClampNeg + k) .null = mk (f (sp + k)) := by
        rw [Array.getD_eq_getD_getElem?, cs, arrV_read _ _ (by omega)]
        rfl
      rw [e]
      exact hval T vm₁ hT hal _ _ hk0 hkk0 k hk)
    (g := F0 z.m pc ls (vi (w : Int) :: vi (dp : Int) :: .ref a :: vi (sp : Int) :: .ref a0 :: st)) rfl (h4.1.trans E.2.2.1.symm) (rest := st) rfl (by rw [E.2.1]; exact d) (Nat.le_trans hfr E.2.2.2.2.2.2.2.2.1) (by have := E.2.2.2.2.2.2.2.2.2.1; show 2 * 0 + _ + _ ≤ _; omega)
  have ec : copied (arrV (κ.2 t) n0 (fun j => mk (f j))) (arrV (κ.2 t) n1 (fun j => mk (g j))) (iZ (sp : Int)) (iZ (dp : Int)) (iZ (w : Int)) = arrV (κ.2 t) n1 (fun j => mk (va_cpy f g sp dp w j)) := by
    have := va_copied mk (κ.2 t) (κ.2 t) (n0 := n0) (n1 := n1) (sp := (iZ (sp : Int)).toNatClampNeg) (dp := (iZ (dp : Int)).toNatClampNeg) (n := (iZ (w : Int)).toNatClampNeg) f g (by rw [cs, cw]; exact hs)
    rw [cs, cd, cw] at this
    show (arrV (κ.2 t) n1 (fun j => mk (g j))).storeRun (iZ (dp : Int)).toNatClampNeg ((arrV (κ.2 t) n0 (fun j => mk (f j))).stretch (iZ (sp : Int)).toNatClampNeg (iZ (w : Int)).toNatClampNeg) = _
    rw [cs, cd, cw]
    exact this
  rw [ec] at X' step
  have hl : a < H.size := (Array.getElem?_eq_some_iff.mp h1c).1
  have hheap : ((T.setVm vm').setCell a (arrV (κ.2 t) n1 (fun j => mk (va_cpy f g sp dp w j)))).heap = H.setIfInBounds a (arrV (κ.2 t) n1 (fun j => mk (va_cpy f g sp dp w j))) := by rw [← hT]; rfl
  have oq : ∀ q : Nat, q ≠ a → (H.setIfInBounds a (arrV (κ.2 t) n1 (fun j => mk (va_cpy f g sp dp w j))))[q]? = H[q]? := fun q hq => by simp [Array.getElem?_setIfInBounds, Ne.symm hq]
  have hsame : zSame H (H.setIfInBounds a (arrV (κ.2 t) n1 (fun j => mk (va_cpy f g sp dp w j)))) a := ⟨by simp, oq⟩
  obtain ⟨t9, a1, b1⟩ := K _ (by simp [Array.getElem?_setIfInBounds, hl]) hsame _ ls cells slots h1 h2 (⟨by rw [hsame.1]; exact h3.1, fun q g1 g2 => by
      rw [oq q (fun e => g2 (by rw [e]; exact hA))]
      exact h3.2.1 q g1 g2, fun q hq => by
      rcases List.mem_append.mp hq with h | h
      · exact h3.2.2 q h
      · obtain ⟨y, -, hy⟩ := List.mem_map.mp h
        rw [← hy]
        exact hA⟩ : va_S (zA z.A z.H0) z.H0 _ (locs ++ _)) h4 _ hheap X'
  exact ⟨t9, step t9 a1, b1⟩
theorem v_copyI (E : zOK z cc own κ fr lo ret) {index a0 n0 n1 : Nat} {f g : Nat → Int} (h0 : hp κ H a0 (eI κ n0 f)) (h1c : hp κ H a (eI κ n1 g))
    (hlink : Cond.methodLink own index arraycopyName ∈ lw_all) (hnat : Cond.native arraycopyName ∈ lw_all) (hstat : Cond.static arraycopyName ∈ lw_all) (hini : Cond.initialized "java/lang/System" ∈ lw_all) {sp dp w : Nat} (hs : sp + w ≤ n0) (hd : dp + w ≤ n1) (hb0 : n0 < 2147483648) (hb1 : n1 < 2147483648)
    (hA : zA z.A z.H0 a) (hfr : 1 ≤ fr) (hlo : (st.map fun v => v.category).sum + (nativeFrameWords "java/lang/System" "arraycopy" 5 + 11) ≤ lo) {x1 x2 x3 : Int} (e1 : x1 = (sp : Int)) (e2 : x2 = (dp : Int)) (e3 : x3 = (w : Int)) (d : decode cc pc = .ok (.invokestatic index, 3))
    (K : ∀ H1 : Heap, hp κ H1 a (eI κ n1 (va_cpy f g sp dp w)) → zSame H H1 a → V z H1 cb sb (pc + 3) lv st) : V z H cb sb pc lv (vi x3 :: vi x2 :: .ref a :: vi x1 :: .ref a0 :: st) :=
  v_copyG E (fun q : Int => Value.int (iZ q)) (t := 0) (f := f) (g := g) h0 h1c rfl hlink hnat hstat hini hs hd hb0 hb1 (fun _ _ _ _ _ _ _ _ k _ => ⟨by rfl, trivial⟩) hA hfr hlo e1 e2 e3 d (fun H1 h hs => K H1 h hs)
theorem v_copyQ (E : zOK z cc own κ fr lo ret) {index a0 n0 n1 : Nat} {f g : Nat → Option Nat} (h0 : hp κ H a0 (eR κ 2 n0 f)) (h1c : hp κ H a (eR κ 2 n1 g))
    (hlink : Cond.methodLink own index arraycopyName ∈ lw_all) (hnat : Cond.native arraycopyName ∈ lw_all) (hstat : Cond.static arraycopyName ∈ lw_all) (hini : Cond.initialized "java/lang/System" ∈ lw_all) {sp dp w : Nat} (hs : sp + w ≤ n0) (hd : dp + w ≤ n1) (hb0 : n0 < 2147483648) (hb1 : n1 < 2147483648)
    (hel : ∀ k, k < w → ∀ y, f (sp + k) = some y → oA κ H y) (hA : zA z.A z.H0 a) (hfr : 1 ≤ fr) (hlo : (st.map fun v => v.category).sum + (nativeFrameWords "java/lang/System" "arraycopy" 5 + 11) ≤ lo) {x1 x2 x3 : Int} (e1 : x1 = (sp : Int)) (e2 : x2 = (dp : Int)) (e3 : x3 = (w : Int)) (d : decode cc pc = .ok (.invokestatic index, 3))
    (K : ∀ H1 : Heap, hp κ H1 a (eR κ 2 n1 (va_cpy f g sp dp w)) → zSame H H1 a → V z H1 cb sb (pc + 3) lv st) : V z H cb sb pc lv (vi x3 :: vi x2 :: .ref a :: vi x1 :: .ref a0 :: st) :=
  v_copyG E va_rf (t := 2) (f := f) (g := g) h0 h1c rfl hlink hnat hstat hini hs hd hb0 hb1 (fun T vm' hT hal comp kA hk hkind k hk2 => by
    cases hy : f (sp + k) with
    | none => exact ⟨rfl, trivial⟩
    | some y =>
      obtain ⟨cellV, g1, g2, ⟨kC, hkC⟩, g3⟩ := (hel k hk2 y hy).any E.kn
      obtain ⟨kA2, comp2, r1, r2, r3, -⟩ := (E.kn.1.2 2 _ rfl).2
      cases hk.symm.trans r1
      cases hkind.symm.trans r2
      obtain ⟨kE, hkE, -⟩ := Vm.findClass_spec r3
      obtain ⟨kC', hkC', -⟩ := hal.2.2 _ _ hkC
      obtain ⟨kE', hkE', -⟩ := hal.2.2 _ _ hkE
      refine ⟨rfl, cellV, (show T.heap[y]? = some cellV by rw [hT]; exact g1), (fun q h => by rw [h] at g2; cases g2), ⟨kC', hkC'⟩, ?_, ?_⟩
      · exact ⟨kE', hkE'⟩
      · show vm'.assignable _ _ = true
        rw [hal.assignable]
        exact g3 _ r3) hA hfr hlo e1 e2 e3 d (fun H1 h hs => K H1 (by show H1[a]? = some (vp_cell _ _); rw [vp_cell_q]; exact h) hs)
/-- a cast to the class that the object has -/
theorem v_castS (E : zOK z cc own κ fr lo ret) {index ci : Nat} {q : vw_C} {fs : List Value} (h : hp κ H a (.inr (ci, fs))) (hc : zC[ci]? = some q) (hlink : Cond.classLink own index q.1 ∈ lw_all) (d : decode cc pc = .ok (.checkcast index, 3)) (K : V z H cb sb (pc + 3) lv (.ref a :: st)) : V z H cb sb pc lv (.ref a :: st) := fun locs ls cells slots h1 h2 h3 h4 =>
  va_castS E.1 E.2.1 E.2.2.2.1 (E.2.2.2.2.1 _ hlink) (E.kn.1.1 ci q hc).2 (h.recv E.kn hc) d (K locs ls cells slots h1 h2 h3 h4)
theorem v_instS (E : zOK z cc own κ fr lo ret) {index ci : Nat} {q : vw_C} {fs : List Value} (h : hp κ H a (.inr (ci, fs))) (hc : zC[ci]? = some q) (hlink : Cond.classLink own index q.1 ∈ lw_all) (d : decode cc pc = .ok (.instanceof index, 3)) (K : V z H cb sb (pc + 3) lv (vi 1 :: st)) : V z H cb sb pc lv (.ref a :: st) := fun locs ls cells slots h1 h2 h3 h4 =>
  va_instS E.1 E.2.1 E.2.2.2.1 (E.2.2.2.2.1 _ hlink) (E.kn.1.1 ci q hc).2 (h.recv E.kn hc) d (K locs ls cells slots h1 h2 h3 h4)
/-- a cast of an int array -/
theorem v_castI (E : zOK z cc own κ fr lo ret) {index : Nat} {f : Nat → Int} (h : hp κ H a (eI κ n f)) (hlink : Cond.classLink own index "[I" ∈ lw_all) (d : decode cc pc = .ok (.checkcast index, 3)) (K : V z H cb sb (pc + 3) lv (.ref a :: st)) : V z H cb sb pc lv (.ref a :: st) := fun locs ls cells slots h1 h2 h3 h4 =>
  va_castA E.1 E.2.1 E.2.2.2.1 (E.2.2.2.2.1 _ hlink) h.P 0 rfl (va_nm_int (E.kn.1.2 0 _ rfl).2) d (K locs ls cells slots h1 h2 h3 h4)
/-- an int array's clone -/
theorem v_cloneI (E : zOK z cc own κ fr lo ret) {index : Nat} {f : Nat → Int} (h : hp κ H a (eI κ n f)) (hlink : Cond.methodLink own index ⟨"[I", "clone", "()Ljava/lang/Object;"⟩ ∈ lw_all) (hsame : Cond.sameMethod "[I" "java/lang/Object" "clone" "()Ljava/lang/Object;" ∈ lw_all)
    (hnat : Cond.native ⟨"java/lang/Object", "clone", "()Ljava/lang/Object;"⟩ ∈ lw_all) (hinst : Cond.instanceMethod ⟨"java/lang/Object", "clone", "()Ljava/lang/Object;"⟩ ∈ lw_all) (hsel : Cond.selects "[I" ⟨"[I", "clone", "()Ljava/lang/Object;"⟩ ⟨"java/lang/Object", "clone", "()Ljava/lang/Object;"⟩ ∈ lw_all)
    (hfr : 1 ≤ fr) (hlo : (st.map fun v => v.category).sum + 14 ≤ lo) {cb' sb' : Nat} (h1b : cb' + 1 ≤ cb) (h2b : sb' + n ≤ sb) (d : decode cc pc = .ok (.invokevirtual index, 3))
    (K : ∀ (q : Nat) (H1 : Heap), q = H.size → hp κ H1 q (eI κ n f) → zGrow H H1 → V z H1 cb' sb' (pc + 3) lv (.ref q :: st)) : V z H cb sb pc lv (.ref a :: st) := by
  intro locs ls cells slots h1 h2 h3 h4
  have hnm : z.s.vm.findClass "[I" = some (κ.2 0) := va_nm_int (E.kn.1.2 0 _ rfl).2
  obtain ⟨c0, t0', f1, f2, f3⟩ := Cond.castable_spec (va_Nw.use (A := z.args) rfl (E.kn.cast ("[I", "java/lang/Cloneable") (by decide +kernel)))
  cases hnm.symm.trans f1
  have hcell : H[a]? = some (arrV (κ.2 0) n (fun j => .int (iZ (f j)))) := h
  intro T hT X
  obtain ⟨-, kA, hkA, comp, hkind⟩ := State.isArrayOf_alike X.warmed.alike ((E.kn.1.2 0 _ rfl).1 0 (fun _ => .null))
  obtain ⟨-, kS, hkS, compS, hkindS⟩ := (E.kn.1.2 0 _ rfl).1 0 (fun _ => .null)
  obtain ⟨vm', X', st9⟩ := X.cloneArray E.1 E.2.2.2.1 (E.2.2.2.2.1 _ hlink) (E.2.2.2.2.1 _ hsame) (E.2.2.2.2.1 _ hnat) (E.2.2.2.2.1 _ hinst) (E.2.2.2.2.1 _ hsel) (a := a) (cell := arrV (κ.2 0) n (fun j => .int (iZ (f j)))) (by rw [hT]; exact hcell) (fun k h => by cases h) (fun h => by cases h) hnm f2 f3
    (fun j v hv => by
      have hk' : T.vm.classes[κ.2 0]? = some kA := hkA
      have hfit : fits .int v = true := by
        by_cases hj : j < n
        · rw [arrV_read _ _ hj] at hv
          cases hv
          rfl
        · have := (Array.getElem?_eq_some_iff.mp hv).1
          rw [arrV_size] at this
          exact absurd this hj
      show T.fitsSlot (κ.2 0) _ j v = true
      simpa [State.fitsSlot, State.slotType?, hk', hkind] using hfit)
    (g := F0 z.m pc ls (.ref a :: st)) rfl (h4.1.trans E.2.2.1.symm) rfl (by rw [E.2.1]; exact d) (Nat.le_trans hfr E.2.2.2.2.2.2.2.2.1) (by have := E.2.2.2.2.2.2.2.2.2.1; show 2 * 0 + _ + 14 ≤ _; omega) (by rw [E.2.2.2.2.2.2.2.2.2.2.1]; omega) (by rw [arrV_size, E.2.2.2.2.2.2.2.2.2.2.2.1]; omega) (hloader := Vm.clonesLoader_of_array hkS hkindS)
  have hE : ({ cls := (arrV (κ.2 0) n (fun j => Value.int (iZ (f j)))).cls, slots := (arrV (κ.2 0) n (fun j => Value.int (iZ (f j)))).slots } : Cell) = arrV (κ.2 0) n (fun j => .int (iZ (f j))) := rfl
  rw [hE, arrV_size] at X'
  have z1 : (H.push (arrV (κ.2 0) n (fun j => .int (iZ (f j))))).size = H.size + 1 := by rw [Array.size_push]
  have e1 : (H.push (arrV (κ.2 0) n (fun j => .int (iZ (f j)))))[H.size]? = some (arrV (κ.2 0) n (fun j => .int (iZ (f j)))) := by rw [Array.getElem?_push_size]
  have o1 : ∀ q : Nat, q < H.size → (H.push (arrV (κ.2 0) n (fun j => .int (iZ (f j)))))[q]? = H[q]? := fun q hq => by rw [Array.getElem?_push, if_neg (Nat.ne_of_lt hq)]
  obtain ⟨t9, b1, b2⟩ := K H.size _ rfl e1 ⟨z1, o1⟩ locs ls (cells + 1) (slots + n) (by omega) (by omega) (h3.grow2 ⟨z1, o1⟩) h4 ((T.setVm vm').pushCell (arrV (κ.2 0) n (fun j => .int (iZ (f j))))) (by rw [← hT]; rfl) X'
  refine ⟨t9, st9 t9 ?_, b2⟩
  rw [hE, hT]
  exact b1
/-- getClass() of an array of objects; the class constant of it -/
theorem v_getC (E : zOK z cc own κ fr lo ret) {index : Nat} {f : Nat → Option Nat} (h : hp κ H a (eR κ 2 n f)) (hlink : Cond.methodLink own index ⟨"java/lang/Object", "getClass", "()Ljava/lang/Class;"⟩ ∈ lw_all) (hsel : Cond.selects "[Ljava/lang/Object;" ⟨"java/lang/Object", "getClass", "()Ljava/lang/Class;"⟩ ⟨"java/lang/Object", "getClass", "()Ljava/lang/Class;"⟩ ∈ lw_all)
    (hinst : Cond.instanceMethod ⟨"java/lang/Object", "getClass", "()Ljava/lang/Class;"⟩ ∈ lw_all) (hnat : Cond.native ⟨"java/lang/Object", "getClass", "()Ljava/lang/Class;"⟩ ∈ lw_all) (hfr : 1 ≤ fr) (hlo : (st.map fun v => v.category).sum + 14 ≤ lo) (d : decode cc pc = .ok (.invokevirtual index, 3))
    (K : V z H cb sb (pc + 3) lv (.ref (κ.2 99) :: st)) : V z H cb sb pc lv (.ref a :: st) := fun locs ls cells slots h1 h2 h3 h4 =>
  va_getC E.1 E.2.1 (E.2.2.1.trans h4.1.symm) E.2.2.2.1 (E.2.2.2.2.1 _ hlink) (va_Nw.use rfl (E.kn.2.2.2.2.1 ⟨"java/lang/Object", "getClass", "()Ljava/lang/Class;"⟩ (by decide +kernel))) (E.2.2.2.2.1 _ hsel) (E.2.2.2.2.1 _ hinst) (E.2.2.2.2.1 _ hnat) E.kn.mi
    ⟨_, h, by rfl, va_nmO (E.kn.1.2 2 _ rfl).2 rfl⟩ (Nat.le_trans hfr E.2.2.2.2.2.2.2.2.1) (Nat.le_trans hlo E.2.2.2.2.2.2.2.2.2.1) d (K locs ls cells slots h1 h2 h3 h4)
theorem v_ldcM (E : zOK z cc own κ fr lo ret) {index : Nat} (hlink : Cond.classLink own index "[Ljava/lang/Object;" ∈ lw_all) (d : decode cc pc = .ok (.ldc index, 2)) (K : V z H cb sb (pc + 2) lv (.ref (κ.2 99) :: st)) : V z H cb sb pc lv st := fun locs ls cells slots h1 h2 h3 h4 =>
  va_ldcM E.1 E.2.1 E.2.2.2.1 (E.2.2.2.2.1 _ hlink) E.kn.mi d (K locs ls cells slots h1 h2 h3 h4)
/-- a field that a class above declares -/
theorem v_getfS (E : zOK z cc own κ fr lo ret) {ref C : String} {T : u_T} {N ci index : Nat} (hin : ∀ w ∈ u_ws C T N, w ∈ lw_all) {fs : List Value} (h : hp κ H a (.inr (ci, fs))) (hc : zC[ci]? = some (C, T, N)) (k : Nat) (hk : k < N) (hlink : Cond.fieldLink own index ref (T k).2.1 (T k).2.2.1 ∈ lw_all) (hsame : Cond.sameField ref (T k).1 (T k).2.1 (T k).2.2.1 ∈ lw_all) {v : Value} (hv : fs[k]? = some v) (d : decode cc pc = .ok (.getfield index, 3))
    (K : V z H cb sb (pc + 3) lv (v :: st)) : V z H cb sb pc lv (.ref a :: st) := fun locs ls cells slots h1 h2 h3 h4 =>
  va_get E.1 E.2.1 E.2.2.2.2.1 hin E.2.2.2.1 E.2.2.2.2.2.2.2.1.1 h.P 0 rfl hc k hk (E.2.2.2.2.1 _ hlink) (fun x h9 => u_same (E.2.2.2.2.1 _ hsame) x h9) hv d (K locs ls cells slots h1 h2 h3 h4)
theorem v_putfS (E : zOK z cc own κ fr lo ret) {ref C : String} {T : u_T} {N ci index : Nat} (hin : ∀ w ∈ u_ws C T N, w ∈ lw_all) (ty0 : Nat → FieldType) (hty : ∀ k, k < N → parseFieldDescriptor (T k).2.2.1 = some (ty0 k)) (hnm : ∀ a, a < N → ∀ b, b < N → a ≠ b → (T a).2.1 ≠ (T b).2.1) {fs : List Value} (h : hp κ H a (.inr (ci, fs))) (hc : zC[ci]? = some (C, T, N)) (k : Nat) (hk : k < N) (hlink : Cond.fieldLink own index ref (T k).2.1 (T k).2.2.1 ∈ lw_all) (hsame : Cond.sameField ref (T k).1 (T k).2.1 (T k).2.2.1 ∈ lw_all) (hfin : (T k).2.2.2 = false) {v : Value} (hn : narrow (ty0 k) v = v) (hfit : fits (ty0 k) v = true) (hl : k < fs.length) (hA : zA z.A z.H0 a) (d : decode cc pc = .ok (.putfield index, 3))
    (K : ∀ H1 : Heap, hp κ H1 a (.inr (ci, fs.set k v)) → zSame H H1 a → V z H1 cb sb (pc + 3) lv st) : V z H cb sb pc lv (v :: .ref a :: st) := by
  intro locs ls cells slots h1 h2 h3 h4
  have hK := E.2.2.2.2.2.2.2.1.1
  have hts := E.2.2.2.2.1
  have hap := va_apart (own := own) hts hin ty0 hty hnm hK hc
  obtain ⟨r, g1, cell, q1, q2, q3, q4⟩ := h
  have hr : r = (C, T, N) := Option.some.inj (g1.symm.trans hc)
  subst hr
  obtain ⟨hS, hfc, kC, hkC, hkind⟩ := hK.1 ci _ hc
  obtain ⟨cf, kf, fi, f, hi, hsl⟩ := hS k hk
  have hlay := hts _ (hin _ (u_in_lay hk))
  unfold u_lay at hlay
  rw [if_neg (by rw [hfin]; decide)] at hlay
  have hst := (u_facts hfc hkC (u_lays hts hin hk) hi).1
  have h6 := u_store hfc hkC hkind hlay hi (hty k hk) hn hfit
  refine W.putK E.1 E.2.1 (f := f) ⟨E.2.2.2.1, hts _ hlink, ⟨_, _, _, u_same (hts _ hsame) _ hi⟩, hst⟩ (by rw [q2]; exact h6) q1 q3 (by rw [hsl]; exact k2_hasslot (q4 k hk)) rfl rfl d fun H' e1 e2 e3 => ?_
  rw [hsl] at e1 ⊢
  exact K H' ⟨_, hc, t_OB.to (V := updV (vp_V fs) k v) ⟨_, e1, q2, q3, t_set q4 hap hk v⟩ (fun j _ => vp_updV_set hl v j)⟩ ⟨e2, e3⟩ _ ls cells slots h1 h2 (h3.put2 ⟨e2, e3⟩ hA) h4
end H2ROWS
