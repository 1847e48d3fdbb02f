/-- n cells more -/
def zGroN (H H1 : Heap) (n : Nat) : Prop := H1.size = H.size + n ∧ ∀ q : Nat, q < H.size → H1[q]? = H[q]?
theorem va_S.groN {A : Nat → Prop} {H0 H H1 : Heap} {locs : List Loc} {n : Nat} (h : va_S A H0 H locs) (hs : zGroN H H1 n) : va_S A H0 H1 locs :=
  ⟨Nat.le_trans h.1 (by rw [hs.1]; omega), fun x h1 h2 => (hs.2 x (Nat.lt_of_lt_of_le h1 h.1)).trans (h.2.1 x h1 h2), h.2.2⟩
theorem outerC_rest (c : ClassId) (N h0 : Nat) : ∀ i, (Jvm.Free.Multi.outerC c N h0 i).monitor = {} ∧ (Jvm.Free.Multi.outerC c N h0 i).hash = none
  | 0 => ⟨rfl, rfl⟩
  | i + 1 => ⟨(outerC_rest c N h0 i).1, (outerC_rest c N h0 i).2⟩
theorem outerC_arr (c : ClassId) (N h0 : Nat) : Jvm.Free.Multi.outerC c N h0 N = arrV c N (fun j => va_rf (some (h0 + 1 + j))) := by
  obtain ⟨a, b, d⟩ := Jvm.Free.Multi.outerC_facts c N h0 N
  have hs := Jvm.Free.Multi.outerC_slot c N h0 N
  obtain ⟨m1, m2⟩ := outerC_rest c N h0 N
  generalize Jvm.Free.Multi.outerC c N h0 N = C at *
  obtain ⟨cl, sl, vm⟩ := C
  simp only at a b d hs m1 m2
  subst a; subst b; subst m1; subst m2
  unfold arrV
  congr 1
  apply Array.ext_getElem?
  intro j
  by_cases hj : j < N
  · rw [hs j hj, if_pos hj, Array.getElem?_ofFn, dif_pos hj]
    rfl
  · rw [Array.getElem?_eq_none (by omega), Array.getElem?_ofFn, dif_neg hj]
theorem outD_rest (c : ClassId) (N h0 w : Nat) : ∀ i, (outD c N h0 w i).monitor = {} ∧ (outD c N h0 w i).hash = none
  | 0 => ⟨rfl, rfl⟩
  | i + 1 => ⟨(outD_rest c N h0 w i).1, (outD_rest c N h0 w i).2⟩
theorem outD_arr (c : ClassId) (N h0 w : Nat) : outD c N h0 w N = arrV c N (fun j => va_rf (some (h0 + 1 + j * w))) := by
  obtain ⟨a, b, d⟩ := outD_facts c N h0 w N
  have hs := outD_slot c N h0 w N
  obtain ⟨m1, m2⟩ := outD_rest c N h0 w N
  generalize outD c N h0 w N = C at *
  obtain ⟨cl, sl, vm⟩ := C
  simp only at a b d hs m1 m2
  subst a; subst b; subst m1; subst m2
  unfold arrV
  congr 1
  apply Array.ext_getElem?
  intro j
  by_cases hj : j < N
  · rw [hs j hj, if_pos hj, Array.getElem?_ofFn, dif_pos hj]
    rfl
  · rw [Array.getElem?_eq_none (by omega), Array.getElem?_ofFn, dif_neg hj]
theorem innerC_arr (c : ClassId) (K : Nat) : Jvm.Free.Multi.innerC c K (defaultValue .int) = arrV c K (fun _ => .int (iZ 0)) := arrV_new c K _
/-- the words of arrays of arrays (they don't ride in lw_all) -/
def va_AA (t : FieldType) (U : State) : Prop := (Cond.arrayOver (.array t)).before #[] U = true
theorem va_AA.use {t : FieldType} {A : Array Value} {U : State} (h : va_AA t U) : (Cond.arrayOver (.array t)).before A U = true := h
theorem va_AA.moved {t : FieldType} {u U : State} (hvm : u.vm.Alike U.vm) (h : va_AA t u) : va_AA t U := by
  obtain ⟨comp, c, k, h1, h2, h3, h4, h5⟩ := arrayOverA_spec h
  obtain ⟨k', hk', he⟩ := hvm.2.2 _ _ h3
  have hi : (U.vm.classes.findIdx? fun (x : Class) => match x.kind with | .array component _ => component == comp | _ => false) = some c := by
    rw [hvm.findIdx?_eq _ (fun _ => rfl)]
    exact h2
  have hkind : k'.kind = .array comp (.array t) := by rw [he]; exact h4
  have f1 : U.vm.findClass (FieldType.array t).toString = some comp := by rw [hvm.findClass]; exact h1
  have f2 : U.vm.findClass ("[" ++ (FieldType.array t).toString) = some c := by rw [hvm.findClass]; exact h5
  unfold va_AA Cond.before Cond.holds
  simp only [Cond.value]
  rw [f1, Option.bind_some]
  refine (congrArg (fun o : Option Nat => (o.bind (fun c => (U.vm.classes[c]?).map fun (k : Class) => match k.kind with | .array _ ty => decide (ty = FieldType.array t) && decide (U.vm.findClass ("[" ++ (FieldType.array t).toString) = some c) | _ => false) == some true)) hi).trans ?_
  simp [hk', hkind, f2]
def zMO (U : State) : Prop := va_AA .int U ∧ va_AA (.array .int) U
theorem zMO.moved {u U : State} (hW : u.WarmedH U.vm) (h : zMO u) : zMO U := ⟨va_AA.moved hW.alike h.1, va_AA.moved hW.alike h.2⟩
section
variable {z : zT} {cc : ByteArray} {own : String} {κ : zK} {fr lo : Nat} {ret : Option FieldType} {H : Heap} {cb sb pc : Nat} {lv : List (Nat × Value)} {st : List Value}
theorem clamp_neg {n : Nat} (h : n ≤ 100000) : ¬ iZ (n : Int) < 0 := fun q => (iZ_in (j := n) (n := n + 1) (by omega) (by omega)) (Or.inl q)
theorem v_multi2 (E : zOK z cc own κ fr lo ret) (X9 : zMO z.s) {index n k : Nat} (hcl : Cond.classLink own index "[[I" ∈ lw_all) (har : Cond.arrayClass .int ∈ lw_all) (hn : n ≤ 100000) (hk : k ≤ 100000) {cb' sb' : Nat} (h1b : cb' + (1 + n) ≤ cb) (h2b : sb' + (n + n * k) ≤ sb) (d : decode cc pc = .ok (.multianewarray index 2, 4))
    (K : ∀ (q : Nat) (H1 : Heap), q = H.size → zGroN H H1 (1 + n) → hp κ H1 q (eR κ 3 n (fun j => some (q + 1 + j))) → (∀ j, j < n → hp κ H1 (q + 1 + j) (eI κ k (fun _ => 0))) → V z H1 cb' sb' (pc + 4) lv (.ref q :: st)) : V z H cb sb pc lv (vi (k : Int) :: vi (n : Int) :: st) := by
  intro locs ls cells slots h1 h2 h3 h4 T hT X
  have w1 : cells + 1 + n + cb' ≤ z.mc := by omega
  have w2 : slots + n + n * k + sb' ≤ z.ms := by omega
  have hts := E.2.2.2.2.1
  have hK := E.2.2.2.2.2.2.2.1.1
  have cn : (iZ (n : Int)).toNatClampNeg = n := iZ_clamp (by omega)
  have ck : (iZ (k : Int)).toNatClampNeg = k := iZ_clamp (by omega)
  have er := E.2.2.2.2.2.2.2.2.2.2.1
  have es := E.2.2.2.2.2.2.2.2.2.2.2.1
  have e2 : "[" ++ (FieldType.array .int).toString = "[[I" := by decide
  obtain ⟨vm₁, cA, comp, hW, hfA, hfC, hO, hI, X1, step⟩ := X.multianewarray2F E.1 (own := own) (index := index) (ty := .int) E.2.2.2.1 (by rw [e2]; exact hts _ hcl) (va_AA.use X9.1) (hts _ har) (g := F0 z.m pc ls (vi (k : Int) :: vi (n : Int) :: st)) rfl (by rw [E.2.1]; exact d) (n := iZ n) (k := iZ k) (rest := st) rfl (clamp_neg hn) (clamp_neg hk) (by rw [cn]; omega) (by rw [ck]; show k * 4 ≤ _; omega) (by rw [ck]; omega) rfl rfl (by rw [cn, er]; omega) (by rw [cn, ck, es]; omega)
  rw [cn, ck] at X1 step
  obtain ⟨f1, f2, f3, f4⟩ := Jvm.Free.Multi.fill_facts (T.setVm vm₁) cA comp n k (defaultValue .int) n
  have fo := fun (a : Nat) (ha : a < T.heap.size) => Jvm.Free.Multi.fill_old (T.setVm vm₁) cA comp n k (defaultValue .int) (a := a) ha n
  have fi := fun (j : Nat) (hj : j < n) => Jvm.Free.Multi.fill_inner (T.setVm vm₁) cA comp n k (defaultValue .int) n j hj
  have hcA : cA = κ.2 3 := Option.some.inj (Eq.trans (Eq.symm hfA) (hK.2 3 _ rfl).2)
  have hcC : comp = κ.2 0 := Option.some.inj (Eq.trans (Eq.symm hfC) (hK.2 0 _ rfl).2)
  subst hcA; subst hcC
  have eT : (T.setVm vm₁).heap = T.heap := rfl
  rw [eT] at f1 f2 fo fi
  rw [outerC_arr] at f2
  simp only [innerC_arr] at fi
  subst hT
  have hz : zGroN T.heap (Jvm.Free.Multi.fill (T.setVm vm₁) (κ.2 3) (κ.2 0) n k (defaultValue .int) n).heap (1 + n) := ⟨by rw [f1]; omega, fun q hq => fo q hq⟩
  obtain ⟨t, a1, b1⟩ := K T.heap.size _ rfl hz f2 fi locs ls (cells + 1 + n) (slots + n + n * k) w1 w2 (h3.groN hz) h4 _ rfl X1
  exact ⟨t, step t a1, b1⟩
theorem v_multi3 (E : zOK z cc own κ fr lo ret) (X9 : zMO z.s) {index n m k : Nat} (hcl : Cond.classLink own index "[[[I" ∈ lw_all) (har : Cond.arrayClass .int ∈ lw_all) (hn : n ≤ 100000) (hm : m ≤ 100000) (hk : k ≤ 100000) {cb' sb' : Nat} (h1b : cb' + (1 + n * (1 + m)) ≤ cb) (h2b : sb' + (n + n * (m + m * k)) ≤ sb) (d : decode cc pc = .ok (.multianewarray index 3, 4))
    (K : ∀ (q : Nat) (H1 : Heap), q = H.size → zGroN H H1 (1 + n * (1 + m)) → hp κ H1 q (eR κ 4 n (fun j => some (q + 1 + j * (1 + m)))) → (∀ j, j < n → hp κ H1 (q + 1 + j * (1 + m)) (eR κ 3 m (fun r => some (q + 1 + j * (1 + m) + 1 + r)))) → (∀ j, j < n → ∀ r, r < m → hp κ H1 (q + 1 + j * (1 + m) + 1 + r) (eI κ k (fun _ => 0))) → V z H1 cb' sb' (pc + 4) lv (.ref q :: st)) : V z H cb sb pc lv (vi (k : Int) :: vi (m : Int) :: vi (n : Int) :: st) := by
  intro locs ls cells slots h1 h2 h3 h4 T hT X
  have w1 : cells + 1 + n * (1 + m) + cb' ≤ z.mc := by omega
  have w2 : slots + n + n * (m + m * k) + sb' ≤ z.ms := by omega
  have hts := E.2.2.2.2.1
  have hK := E.2.2.2.2.2.2.2.1.1
  have cn : (iZ (n : Int)).toNatClampNeg = n := iZ_clamp (by omega)
  have cm : (iZ (m : Int)).toNatClampNeg = m := iZ_clamp (by omega)
  have ck : (iZ (k : Int)).toNatClampNeg = k := iZ_clamp (by omega)
  have er := E.2.2.2.2.2.2.2.2.2.2.1
  have es := E.2.2.2.2.2.2.2.2.2.2.2.1
  have e2 : "[" ++ (FieldType.array (.array .int)).toString = "[[[I" := by decide
  obtain ⟨vm₁, c3, c2, c1, g3, g2, g1, X1, step⟩ := multi3 X E.1 (own := own) (index := index) (ty := .int) E.2.2.2.1 (by rw [e2]; exact hts _ hcl) (va_AA.use X9.2) (va_AA.use X9.1) (hts _ har) (g := F0 z.m pc ls (vi (k : Int) :: vi (m : Int) :: vi (n : Int) :: st)) rfl (by rw [E.2.1]; exact d) (n := iZ n) (m' := iZ m) (k := iZ k) (rest := st) rfl (clamp_neg hn) (clamp_neg hm) (clamp_neg hk) (by rw [cn]; omega) (by rw [cm]; omega) (by rw [ck]; show k * 4 ≤ _; omega) (by rw [ck]; omega) rfl rfl (by rw [cn, cm, er]; omega) (by rw [cn, cm, ck, es]; omega)
  rw [cn, cm, ck] at X1 step
  obtain ⟨f1, f2, f3, f4⟩ := fil3_facts (T.setVm vm₁) c3 c2 c1 n m k (defaultValue .int) n
  have fo := fun (a : Nat) (ha : a < T.heap.size) => fil3_old (T.setVm vm₁) c3 c2 c1 n m k (defaultValue .int) (a := a) ha n
  have fi := fun (j : Nat) (hj : j < n) => fil3_in (T.setVm vm₁) c3 c2 c1 n m k (defaultValue .int) n j hj
  have hc3 : c3 = κ.2 4 := Option.some.inj (Eq.trans (Eq.symm g3) (hK.2 4 _ rfl).2)
  have hc2 : c2 = κ.2 3 := Option.some.inj (Eq.trans (Eq.symm g2) (hK.2 3 _ rfl).2)
  have hc1 : c1 = κ.2 0 := Option.some.inj (Eq.trans (Eq.symm g1) (hK.2 0 _ rfl).2)
  subst hc3; subst hc2; subst hc1
  have eT : (T.setVm vm₁).heap = T.heap := rfl
  rw [eT] at f1 f2 fo fi
  rw [outD_arr] at f2
  simp only [innerC_arr, outerC_arr] at fi
  subst hT
  have hz : zGroN T.heap (fil3 (T.setVm vm₁) (κ.2 4) (κ.2 3) (κ.2 0) n m k (defaultValue .int) n).heap (1 + n * (1 + m)) := ⟨by rw [f1]; omega, fun q hq => fo q hq⟩
  obtain ⟨t, a1, b1⟩ := K T.heap.size _ rfl hz f2 (fun j hj => (fi j hj).1) (fun j hj => (fi j hj).2) locs ls (cells + 1 + n * (1 + m)) (slots + n + n * (m + m * k)) w1 w2 (h3.groN hz) h4 _ rfl X1
  exact ⟨t, step t a1, b1⟩
end
/-- a contract of a method that makes arrays of arrays -/
def MtO (κ : zK) (y : MethodName) (cc : ByteArray) (maxL : Nat) (ret : Option FieldType) (fr lo mc ms : Nat) (H0 : Heap) (av : List Value) (A : Nat → Prop) (post : Option Value → Heap → Prop) : Prop :=
  ∀ l : Launch, Met l y (ws_ y cc maxL ret) { frames := fr, cells := mc, slots := ms, locals := lo } (va_Pc av (fun U => U.heap = H0 ∧ zKn κ U ∧ zMO U)) (fun _ st o t => (∃ v, o = .returned v ∧ post v t.heap) ∧ va_F (zA A H0) st t) mc ms (zA A H0)
theorem MtO.of {κ : zK} {y : MethodName} {cc : ByteArray} {maxL : Nat} {ret : Option FieldType} {fr lo mc ms : Nat} {H0 : Heap} {av : List Value} {A : Nat → Prop} {post : Option Value → Heap → Prop}
    (hy : plainName y.cls = true) (hsl : (lg_sl av).length ≤ maxL)
    (body : ∀ z : zT, zOK z cc y.cls κ fr lo ret → zMO z.s → zEnd z post → z.H0 = H0 → z.A = A → z.nL = maxL → (y.name = "<init>" → z.meth.name = "<init>") → V z H0 mc ms 0 (lv_args 0 av) []) : MtO κ y cc maxL ret fr lo mc ms H0 av A post := by
  intro l
  refine Met.ofW (cc := cc) (maxL := maxL) (ret := ret) hy rfl ?_
  intro p e s m args below meth c s₁ B hml hv
  obtain ⟨rfl, hH, hK, hO⟩ := hv
  have hts := atoms_spec (ws := ws_ y cc maxL ret) B.pre
  have hts : ∀ w ∈ lw_all, w.before _ s = true := fun w h => hts w (List.mem_cons_of_mem _ h)
  have hl := lv_entry av (n := maxL) hsl
  rw [lg_entry_eq]
  generalize (lg_sl av ++ List.replicate (maxL - (lg_sl av).length) Slot.unset).toArray = ls at hl ⊢
  subst hH
  exact body ((p, l, e, { frames := fr, cells := mc, slots := ms, locals := lo }, s, m, av.toArray, below, meth, c), (s.heap, A, mc, ms, maxL, MQ below (fun _ st o t => (∃ v, o = .returned v ∧ post v t.heap) ∧ va_F (zA A s.heap) st t) av.toArray s mc ms (zA A s.heap)))
    ⟨B.exec, B.bytes, hml, findClass_of_methodNamed B.named, hts, B.notSynchronized, B.returns, hK, Nat.le_refl _, Nat.le_refl _, rfl, rfl, rfl⟩ hO rfl rfl rfl rfl (fun hi => by rw [← hi]; exact (name_of_methodNamed B.named B.method).1) [] ls 0 0 (by show 0 + mc ≤ mc; omega) (by show 0 + ms ≤ ms; omega) va_S.rf hl
theorem zMO.blind {κ : zK} {H : Heap} {av : List Value} : FrameBlind (va_Pc av (fun U => U.heap = H ∧ zKn κ U ∧ zMO U)) := fun a U g mk q => ⟨q.1, q.2.1, zKn.moved (U := U.calling g mk a) (State.WarmedH.refl U) q.2.2.1, zMO.moved (U := U.calling g mk a) (State.WarmedH.refl U) q.2.2.2⟩
section
variable {z : zT} {cc : ByteArray} {own : String} {κ : zK} {fr lo : Nat} {ret : Option FieldType} {H : Heap} {cb sb pc : Nat} {lv : List (Nat × Value)} {st rest : List Value}
variable {y : MethodName} {cc2 : ByteArray} {maxL2 : Nat} {ret2 : Option FieldType} {fr2 lo2 mc2 ms2 : Nat} {A2 : Nat → Prop} {post2 : Option Value → Heap → Prop} {index : Nat}
theorem v_callIO (E : zOK z cc own κ fr lo ret) (X : zMO z.s) {As : List Value} {b : Nat} (hM : MtO κ y cc2 maxL2 none fr2 lo2 mc2 ms2 H (.ref b :: As) A2 post2) (hw : Cond.code y cc2 maxL2 none ∈ lw_all) (hini : Cond.initialized y.cls ∈ lw_all) (hl : Cond.methodLink own index y ∈ lw_all) (hi : Cond.instanceMethod y ∈ lw_all) (hy1 : y.name = "<init>") (n : Nat)
    (hd : y.cls ≠ "java/lang/invoke/MethodHandle" ∧ y.cls ≠ "java/lang/invoke/VarHandle" ∧ (parseMethodDescriptor y.desc).map (fun d => d.parameters.length) = some n) (hn : As.length = n) (hfr : fr2 + 1 ≤ fr) (hlo : 8 + (maxL2 + 11) + lo2 ≤ lo)
    {cb' sb' : Nat} (h1b : cb' + mc2 ≤ cb) (h2b : sb' + ms2 ≤ sb) (hst : st = As.reverse ++ .ref b :: rest) (hrm : (rest.map fun v => v.category).sum ≤ 8) (hA : ∀ q, A2 q → zA z.A z.H0 q) (d : decode cc pc = .ok (.invokespecial index, 3))
    (K : ∀ (v : Option Value) (H1 : Heap), post2 v H1 → H.size ≤ H1.size → (∀ q : Nat, q < H.size → ¬ A2 q → H1[q]? = H[q]?) → V z H1 cb' sb' (pc + 3) lv (v.toList ++ rest)) : V z H cb sb pc lv st := by
  subst hst
  intro locs ls cells slots h1 h2 h3 h4
  refine zBehind h1b h2b hA (a := (.ref b :: As).toArray) ?_ h1 h2 h3 h4 K
  exact va_runI (As := As) (rest := rest) ⟨E.1, E.2.1, E.2.2.1, E.2.2.2.1, E.2.2.2.2.1⟩ (hM _) (cwI n E.2.2.2.2.1 (lw_meth hw) rfl rfl rfl (E.2.2.2.2.1 _ hini) (E.2.2.2.2.1 _ hl) (E.2.2.2.2.1 _ hi) hy1 hd ⟨Nat.le_trans hfr E.2.2.2.2.2.2.2.2.1, Nat.le_trans hlo E.2.2.2.2.2.2.2.2.2.1⟩) ⟨zMO.blind, fun U hU hW => ⟨rfl, hU, zKn.moved hW E.2.2.2.2.2.2.2.1, zMO.moved hW X⟩⟩ rfl hn h4.1 rfl (lv_room hrm) d
    ⟨by rw [E.2.2.2.2.2.2.2.2.2.2.1]; omega, by rw [E.2.2.2.2.2.2.2.2.2.2.2.1]; omega⟩
end
