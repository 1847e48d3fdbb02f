/-! CALLS 2 over V (our own): interfaces, inherited methods, methods with handlers, methods that throw -/
theorem lw_F {own : String} {idx : Nat} {C : String} {x y : MethodName} {b : ByteArray} {L : Nat} {r : Option FieldType} (h1 : Cond.methodLink own idx x ∈ lw_all) (h2 : Cond.selects C x y ∈ lw_all) (h3 : Cond.instanceMethod y ∈ lw_all) (h4 : Cond.initialized y.cls ∈ lw_all) (h5 : Cond.code y b L r ∈ lw_all) : GoodIn lw_all (va_wsF own idx C x y (ws_ y b L r)) := by
  refine lw_app ?_ (lw_meth h5)
  intro w hw
  simp only [List.mem_cons, List.not_mem_nil, or_false] at hw
  rcases hw with e | e | e | e
  · rw [e]; exact h1
  · rw [e]; exact h2
  · rw [e]; exact h3
  · rw [e]; exact h4
theorem lw_FW {own : String} {idx : Nat} {C : String} {x y : MethodName} {b : ByteArray} {L : Nat} {r : Option FieldType} {hh : List (Nat × Nat × Nat × Nat)} (h1 : Cond.methodLink own idx x ∈ lw_all) (h2 : Cond.selects C x y ∈ lw_all) (h3 : Cond.instanceMethod y ∈ lw_all) (h4 : Cond.initialized y.cls ∈ lw_all) (h5 : Cond.codeWith y b L r hh ∈ lw_all) : GoodIn lw_all (va_wsF own idx C x y (wsW_ y b L r hh)) := by
  refine lw_app ?_ (lw_methW h5)
  intro w hw
  simp only [List.mem_cons, List.not_mem_nil, or_false] at hw
  rcases hw with e | e | e | e
  · rw [e]; exact h1
  · rw [e]; exact h2
  · rw [e]; exact h3
  · rw [e]; exact h4
theorem lw_U {own : String} {idx : Nat} {C owner : String} {x y : MethodName} {b : ByteArray} {L : Nat} {r : Option FieldType} (h1 : Cond.methodLink own idx x ∈ lw_all) (h2 : Cond.sameMethod x.cls owner x.name x.desc ∈ lw_all) (h3 : Cond.selects C x y ∈ lw_all) (h4 : Cond.instanceMethod y ∈ lw_all) (h5 : Cond.initialized y.cls ∈ lw_all) (h6 : Cond.code y b L r ∈ lw_all) : GoodIn lw_all (va_wsU own idx C owner x y (ws_ y b L r)) := by
  refine lw_app ?_ (lw_meth h6)
  intro w hw
  simp only [List.mem_cons, List.not_mem_nil, or_false] at hw
  rcases hw with e | e | e | e | e
  · rw [e]; exact h1
  · rw [e]; exact h2
  · rw [e]; exact h3
  · rw [e]; exact h4
  · rw [e]; exact h5
/-- a method with handlers that returns -/
def MtH (κ : zK) (y : MethodName) (cc : ByteArray) (maxL : Nat) (ret : Option FieldType) (hh : List (Nat × Nat × Nat × Nat)) (fr lo mc ms : Nat) (H0 : Heap) (av : List Value) (A : Nat → Prop) (post : Option Value → Heap → Prop) : Prop :=
  ∀ l : Launch, Met l y (wsW_ y cc maxL ret hh) { frames := fr, cells := mc, slots := ms, locals := lo } (va_Pc av (fun U => U.heap = H0 ∧ zKn κ U)) (fun _ st o t => (∃ v, o = .returned v ∧ post v t.heap) ∧ va_F (zA A H0) st t) mc ms (zA A H0)
theorem Met_ofWH {l : Launch} {y : MethodName} {ws ws' : List Cond} {rm : Room} {Pc : Array Value → State → Prop} {Qc : Array Value → State → Outcome → State → Prop} {mc ms : Nat} {free : Addr → Prop} {cc : ByteArray} {maxL : Nat} {ret : Option FieldType} {hh : List (Nat × Nat × Nat × Nat)}
    (hy : plainName y.cls = true) (hw : ws = Cond.codeWith y cc maxL ret hh :: ws')
    (body : ∀ p e s m args below meth c s₁, BodyLoose p l y (headSpec ws rm) cc maxL ret e s m args below meth c s₁ → c.maxLocals = maxL → Pc args s →
      W p l e (headSpec ws rm).room s m args below meth c s.heap [] 0 0 (MQ below Qc args s mc ms free) (entryFrame m args maxL)) : Met l y ws rm Pc Qc mc ms free := by
  refine MetFree.of_bodyS (code := cc) (maxLocals := maxL) (ret := ret) hy ?_ ?_
  · intro args s m h hn
    obtain ⟨m9, meth, c, hn9, h1, h2, h3, h4, -, h5, h6, -⟩ := Cond.codeWith_spec (atoms_spec (ws := ws) h _ (by rw [hw]; exact List.mem_cons_self))
    cases hn.symm.trans hn9
    exact ⟨meth, c, h1, h2, h3, h4, h5, h6⟩
  · intro p e s m args below meth c s₁ B hml hP _
    have hh0 : s₁.heap = s.heap := by rw [B.state]; rfl
    obtain ⟨t, a1, o, b1, b2, b3⟩ := body p e s m args below meth c s₁ B hml hP s₁ hh0 (Stand.of_body B)
    exact ⟨t, o, a1, b1, b2, ⟨b3.1, b3.2⟩⟩
theorem MtH.of {κ : zK} {y : MethodName} {cc : ByteArray} {maxL : Nat} {ret : Option FieldType} {hh : List (Nat × Nat × Nat × Nat)} {fr lo mc ms : Nat} {H0 : Heap} {av : List Value} {A : Nat → Prop} {post : Option Value → Heap → Prop}
    (hy : plainName y.cls = true) (hsl : (lg_sl av).length ≤ maxL)
    (body : ∀ z : zT, zOK z cc y.cls κ fr lo ret → zEnd z post → z.H0 = H0 → z.A = A → z.nL = maxL → (y.name = "<init>" → z.meth.name = "<init>") → V z H0 mc ms 0 (lv_args 0 av) []) : MtH κ y cc maxL ret hh fr lo mc ms H0 av A post := by
  intro l
  refine Met_ofWH (cc := cc) (maxL := maxL) (ret := ret) (hh := hh) hy rfl ?_
  intro p e s m args below meth c s₁ B hml hv
  obtain ⟨rfl, hH, hK⟩ := hv
  have hts := atoms_spec (ws := wsW_ y cc maxL ret hh) B.pre
  have hts : ∀ w ∈ lw_all, w.before _ s = true := fun w h => hts w (List.mem_cons_of_mem _ h)
  have hl := lv_entry av (n := maxL) hsl
  rw [lg_entry_eq]
  generalize (lg_sl av ++ List.replicate (maxL - (lg_sl av).length) Slot.unset).toArray = ls at hl ⊢
  subst hH
  exact body ((p, l, e, { frames := fr, cells := mc, slots := ms, locals := lo }, s, m, av.toArray, below, meth, c), (s.heap, A, mc, ms, maxL, MQ below (fun _ st o t => (∃ v, o = .returned v ∧ post v t.heap) ∧ va_F (zA A s.heap) st t) av.toArray s mc ms (zA A s.heap)))
    ⟨B.exec, B.bytes, hml, findClass_of_methodNamed B.named, hts, B.notSynchronized, B.returns, hK, Nat.le_refl _, Nat.le_refl _, rfl, rfl, rfl⟩ rfl rfl rfl rfl (fun hi => by rw [← hi]; exact (name_of_methodNamed B.named B.method).1) [] ls 0 0 (by show 0 + mc ≤ mc; omega) (by show 0 + ms ≤ ms; omega) va_S.rf hl
/-! throwing -/
/-- the two statics of Throwable that a new exception reads -/
def zTh (A : Nat → Prop) (U : State) (H : Heap) : Prop := vx_Zq Bundle.tN "UNASSIGNED_STACK" Bundle.steD A U H ∧ vx_Zq Bundle.tN "SUPPRESSED_SENTINEL" Bundle.listD A U H
/-- a method that returns or throws -/
def MtX (κ : zK) (y : MethodName) (cc : ByteArray) (maxL : Nat) (ret : Option FieldType) (fr lo mc ms : Nat) (H0 : Heap) (av : List Value) (A : Nat → Prop) (post : Option Value → Heap → Prop) (postX : String → Heap → Prop) : Prop :=
  ∀ l : Launch, l.stackTraces = false → vx_Met l y (ws_ y cc maxL ret) { frames := fr, cells := mc, slots := ms, locals := lo } (va_Pc av (fun U => U.heap = H0 ∧ zKn κ U ∧ zTh (zA A H0) U H0)) (fun _ st o t => (∃ v, o = .returned v ∧ post v t.heap) ∧ va_F (zA A H0) st t) (fun C st t => postX C t.heap ∧ va_F (zA A H0) st t) mc ms (zA A H0)
def zX (z : zT) : Prop := z.1.2.1.stackTraces = false ∧ (∀ x ∈ z.c.exceptionTable.toList, False) ∧ zTh (zA z.A z.H0) z.s z.s.heap
def zEndX (z : zT) (post : Option Value → Heap → Prop) (postX : String → Heap → Prop) : Prop :=
  z.Q = vx_MQ z.below (fun _ st o t => (∃ v, o = .returned v ∧ post v t.heap) ∧ va_F (zA z.A z.H0) st t) (fun C st t => postX C t.heap ∧ va_F (zA z.A z.H0) st t) z.args z.s z.mc z.ms (zA z.A z.H0)
theorem zTh.calling {A : Nat → Prop} {U : State} {g : JFrame} {mk : MethodId} {a : Array Value} {H : Heap} (h : zTh A U H) : zTh A (U.calling g mk a) H :=
  have hal : U.vm.Alike (U.calling g mk a).vm := (State.WarmedH.refl U).alike
  ⟨vx_Zq.moved hal h.1, vx_Zq.moved hal h.2⟩
theorem zKn.blindX {κ : zK} {H : Heap} {av : List Value} {A : Nat → Prop} : FrameBlind (va_Pc av (fun U => U.heap = H ∧ zKn κ U ∧ zTh A U H)) := fun a U g mk q => ⟨q.1, q.2.1, zKn.moved (U := U.calling g mk a) (State.WarmedH.refl U) q.2.2.1, q.2.2.2.calling⟩
theorem MtX.of {κ : zK} {y : MethodName} {cc : ByteArray} {maxL : Nat} {ret : Option FieldType} {fr lo mc ms : Nat} {H0 : Heap} {av : List Value} {A : Nat → Prop} {post : Option Value → Heap → Prop} {postX : String → Heap → Prop}
    (hy : plainName y.cls = true) (hsl : (lg_sl av).length ≤ maxL)
    (body : ∀ z : zT, zOK z cc y.cls κ fr lo ret → zX z → zEndX z post postX → z.H0 = H0 → z.A = A → z.nL = maxL → (y.name = "<init>" → z.meth.name = "<init>") → V z H0 mc ms 0 (lv_args 0 av) []) : MtX κ y cc maxL ret fr lo mc ms H0 av A post postX := by
  intro l hst
  refine vx_ofW (cc := cc) (maxL := maxL) (ret := ret) hy rfl ?_
  intro p e s m args below meth c s₁ B hml ht hv
  obtain ⟨rfl, hH, hK, hT⟩ := hv
  have hts := atoms_spec (ws := ws_ y cc maxL ret) B.pre
  have hts : ∀ w ∈ lw_all, w.before _ s = true := fun w h => hts w (List.mem_cons_of_mem _ h)
  have hl := lv_entry av (n := maxL) hsl
  rw [lg_entry_eq]
  generalize (lg_sl av ++ List.replicate (maxL - (lg_sl av).length) Slot.unset).toArray = ls at hl ⊢
  subst hH
  exact body ((p, l, e, { frames := fr, cells := mc, slots := ms, locals := lo }, s, m, av.toArray, below, meth, c), (s.heap, A, mc, ms, maxL, vx_MQ below (fun _ st o t => (∃ v, o = .returned v ∧ post v t.heap) ∧ va_F (zA A s.heap) st t) (fun C st t => postX C t.heap ∧ va_F (zA A s.heap) st t) av.toArray s mc ms (zA A s.heap)))
    ⟨B.exec, B.bytes, hml, findClass_of_methodNamed B.named, hts, B.notSynchronized, B.returns, hK, Nat.le_refl _, Nat.le_refl _, rfl, rfl, rfl⟩ ⟨hst, ht, hT⟩ rfl rfl rfl rfl (fun hi => by rw [← hi]; exact (name_of_methodNamed B.named B.method).1) [] ls 0 0 (by show 0 + mc ≤ mc; omega) (by show 0 + ms ≤ ms; omega) va_S.rf hl
/-- a method with handlers that calls what may throw, and returns -/
def MtW (κ : zK) (y : MethodName) (cc : ByteArray) (maxL : Nat) (ret : Option FieldType) (hh : List (Nat × Nat × Nat × Nat)) (fr lo mc ms : Nat) (H0 : Heap) (av : List Value) (A : Nat → Prop) (post : Option Value → Heap → Prop) : Prop :=
  ∀ l : Launch, l.stackTraces = false → Met l y (wsW_ y cc maxL ret hh) { frames := fr, cells := mc, slots := ms, locals := lo } (va_Pc av (fun U => U.heap = H0 ∧ zKn κ U ∧ zTh (zA A H0) U H0)) (fun _ st o t => (∃ v, o = .returned v ∧ post v t.heap) ∧ va_F (zA A H0) st t) mc ms (zA A H0)
def zW (z : zT) (hh : List (Nat × Nat × Nat × Nat)) : Prop := z.1.2.1.stackTraces = false ∧ z.c.exceptionTable.toList = tableOf hh ∧ zTh (zA z.A z.H0) z.s z.s.heap
theorem MtW.of {κ : zK} {y : MethodName} {cc : ByteArray} {maxL : Nat} {ret : Option FieldType} {hh : List (Nat × Nat × Nat × Nat)} {fr lo mc ms : Nat} {H0 : Heap} {av : List Value} {A : Nat → Prop} {post : Option Value → Heap → Prop}
    (hy : plainName y.cls = true) (hsl : (lg_sl av).length ≤ maxL)
    (body : ∀ z : zT, zOK z cc y.cls κ fr lo ret → zW z hh → zEnd z post → z.H0 = H0 → z.A = A → z.nL = maxL → (y.name = "<init>" → z.meth.name = "<init>") → V z H0 mc ms 0 (lv_args 0 av) []) : MtW κ y cc maxL ret hh fr lo mc ms H0 av A post := by
  intro l hst
  refine Met_ofWH (cc := cc) (maxL := maxL) (ret := ret) (hh := hh) hy rfl ?_
  intro p e s m args below meth c s₁ B hml hv
  obtain ⟨rfl, hH, hK, hT⟩ := hv
  have hts := atoms_spec (ws := wsW_ y cc maxL ret hh) B.pre
  have ht := vx_table (x := y) B (hts _ List.mem_cons_self)
  have hts : ∀ w ∈ lw_all, w.before _ s = true := fun w h => hts w (List.mem_cons_of_mem _ h)
  have hl := lv_entry av (n := maxL) hsl
  rw [lg_entry_eq]
  generalize (lg_sl av ++ List.replicate (maxL - (lg_sl av).length) Slot.unset).toArray = ls at hl ⊢
  subst hH
  exact body ((p, l, e, { frames := fr, cells := mc, slots := ms, locals := lo }, s, m, av.toArray, below, meth, c), (s.heap, A, mc, ms, maxL, MQ below (fun _ st o t => (∃ v, o = .returned v ∧ post v t.heap) ∧ va_F (zA A s.heap) st t) av.toArray s mc ms (zA A s.heap)))
    ⟨B.exec, B.bytes, hml, findClass_of_methodNamed B.named, hts, B.notSynchronized, B.returns, hK, Nat.le_refl _, Nat.le_refl _, rfl, rfl, rfl⟩ ⟨hst, ht, hT⟩ rfl rfl rfl rfl (fun hi => by rw [← hi]; exact (name_of_methodNamed B.named B.method).1) [] ls 0 0 (by show 0 + mc ≤ mc; omega) (by show 0 + ms ≤ ms; omega) va_S.rf hl
section XROWS
variable {z : zT} {cc : ByteArray} {own : String} {κ : zK} {fr lo : Nat} {ret : Option FieldType} {H : Heap} {cb sb pc : Nat} {lv : List (Nat × Value)} {st rest : List Value}
variable {y : MethodName} {cc2 : ByteArray} {maxL2 : Nat} {ret2 : Option FieldType} {fr2 lo2 mc2 ms2 : Nat} {A2 : Nat → Prop} {post2 : Option Value → Heap → Prop} {postX2 : String → Heap → Prop} {index : Nat} {post : Option Value → Heap → Prop} {postX : String → Heap → Prop}
theorem v_callF (E : zOK z cc own κ fr lo ret) {As : List Value} {b ci : Nat} {fs : List Value} {C : String} {T : u_T} {N count : Nat} {x : MethodName} (hb : hp κ H b (.inr (ci, fs))) (hc : zC[ci]? = some (C, T, N)) (hM : Mt κ y cc2 maxL2 ret2 fr2 lo2 mc2 ms2 H (.ref b :: As) A2 post2) (hF : (C, x, y) ∈ zNI) (hw : GoodIn lw_all (va_wsF own index C x y (ws_ y cc2 maxL2 ret2))) (n : Nat)
    (hd : x.cls ≠ "java/lang/invoke/MethodHandle" ∧ x.cls ≠ "java/lang/invoke/VarHandle" ∧ (parseMethodDescriptor x.desc).map (fun d => d.parameters.length) = some n) (hn : As.length = n) (hfr : fr2 + 1 ≤ fr) (hlo : 8 + (maxL2 + 11) + lo2 ≤ lo)
    {cb' sb' : Nat} (h1b : cb' + mc2 ≤ cb) (h2b : sb' + ms2 ≤ sb) (hst : st = As.reverse ++ .ref b :: rest) (hrm : (rest.map fun v => v.category).sum ≤ 8) (hA : ∀ q, A2 q → zA z.A z.H0 q) (d : decode cc pc = .ok (.invokeinterface index count, 5))
    (K : ∀ (v : Option Value) (H1 : Heap), post2 v H1 → H.size ≤ H1.size → (∀ q : Nat, q < H.size → ¬ A2 q → H1[q]? = H[q]?) → V z H1 cb' sb' (pc + 5) lv (v.toList ++ rest)) : V z H cb sb pc lv st := by
  subst hst
  intro locs ls cells slots h1 h2 h3 h4
  refine zBehind h1b h2b hA (a := (.ref b :: As).toArray) ?_ h1 h2 h3 h4 K
  exact va_runF (As := As) (rest := rest) (E.kn.1.1 ci _ hc).2 ⟨E.1, E.2.1, E.2.2.1, E.2.2.2.1, E.2.2.2.2.1⟩ (hM _) (va_cwF n E.2.2.2.2.1 hw rfl rfl rfl (E.kn.2.2.2.2.2.1 _ hF) hd ⟨Nat.le_trans hfr E.2.2.2.2.2.2.2.2.1, Nat.le_trans hlo E.2.2.2.2.2.2.2.2.2.1⟩) ⟨zKn.blind, hb.recv E.2.2.2.2.2.2.2.1 hc, fun U hU hW => ⟨rfl, hU, zKn.moved hW E.2.2.2.2.2.2.2.1⟩⟩ rfl hn h4.1 rfl (lv_room hrm) d
    ⟨by rw [E.2.2.2.2.2.2.2.2.2.2.1]; omega, by rw [E.2.2.2.2.2.2.2.2.2.2.2.1]; omega⟩
theorem v_callFH (E : zOK z cc own κ fr lo ret) {hh : List (Nat × Nat × Nat × Nat)} {As : List Value} {b ci : Nat} {fs : List Value} {C : String} {T : u_T} {N count : Nat} {x : MethodName} (hb : hp κ H b (.inr (ci, fs))) (hc : zC[ci]? = some (C, T, N)) (hM : MtH κ y cc2 maxL2 ret2 hh fr2 lo2 mc2 ms2 H (.ref b :: As) A2 post2) (hF : (C, x, y) ∈ zNI) (hw : GoodIn lw_all (va_wsF own index C x y (wsW_ y cc2 maxL2 ret2 hh))) (n : Nat)
    (hd : x.cls ≠ "java/lang/invoke/MethodHandle" ∧ x.cls ≠ "java/lang/invoke/VarHandle" ∧ (parseMethodDescriptor x.desc).map (fun d => d.parameters.length) = some n) (hn : As.length = n) (hfr : fr2 + 1 ≤ fr) (hlo : 8 + (maxL2 + 11) + lo2 ≤ lo)
    {cb' sb' : Nat} (h1b : cb' + mc2 ≤ cb) (h2b : sb' + ms2 ≤ sb) (hst : st = As.reverse ++ .ref b :: rest) (hrm : (rest.map fun v => v.category).sum ≤ 8) (hA : ∀ q, A2 q → zA z.A z.H0 q) (d : decode cc pc = .ok (.invokeinterface index count, 5))
    (K : ∀ (v : Option Value) (H1 : Heap), post2 v H1 → H.size ≤ H1.size → (∀ q : Nat, q < H.size → ¬ A2 q → H1[q]? = H[q]?) → V z H1 cb' sb' (pc + 5) lv (v.toList ++ rest)) : V z H cb sb pc lv st := by
  subst hst
  intro locs ls cells slots h1 h2 h3 h4
  refine zBehind h1b h2b hA (a := (.ref b :: As).toArray) ?_ h1 h2 h3 h4 K
  exact va_runFW (As := As) (rest := rest) (E.kn.1.1 ci _ hc).2 ⟨E.1, E.2.1, E.2.2.1, E.2.2.2.1, E.2.2.2.2.1⟩ (hM _) (va_cwFW n E.2.2.2.2.1 hw rfl rfl rfl (E.kn.2.2.2.2.2.1 _ hF) hd ⟨Nat.le_trans hfr E.2.2.2.2.2.2.2.2.1, Nat.le_trans hlo E.2.2.2.2.2.2.2.2.2.1⟩) ⟨zKn.blind, hb.recv E.2.2.2.2.2.2.2.1 hc, fun U hU hW => ⟨rfl, hU, zKn.moved hW E.2.2.2.2.2.2.2.1⟩⟩ rfl hn h4.1 rfl (lv_room hrm) d
    ⟨by rw [E.2.2.2.2.2.2.2.2.2.2.1]; omega, by rw [E.2.2.2.2.2.2.2.2.2.2.2.1]; omega⟩
/-- a method of a class above -/
theorem v_callU (E : zOK z cc own κ fr lo ret) {As : List Value} {b ci : Nat} {fs : List Value} {C owner : String} {T : u_T} {N : Nat} {x : MethodName} (hb : hp κ H b (.inr (ci, fs))) (hc : zC[ci]? = some (C, T, N)) (hM : Mt κ y cc2 maxL2 ret2 fr2 lo2 mc2 ms2 H (.ref b :: As) A2 post2) (hw : GoodIn lw_all (va_wsU own index C owner x y (ws_ y cc2 maxL2 ret2))) (hyx : y = ⟨owner, x.name, x.desc⟩) (n : Nat)
    (hd : owner ≠ "java/lang/invoke/MethodHandle" ∧ owner ≠ "java/lang/invoke/VarHandle" ∧ (parseMethodDescriptor x.desc).map (fun d => d.parameters.length) = some n) (hn : As.length = n) (hfr : fr2 + 1 ≤ fr) (hlo : 8 + (maxL2 + 11) + lo2 ≤ lo)
    {cb' sb' : Nat} (h1b : cb' + mc2 ≤ cb) (h2b : sb' + ms2 ≤ sb) (hst : st = As.reverse ++ .ref b :: rest) (hrm : (rest.map fun v => v.category).sum ≤ 8) (hA : ∀ q, A2 q → zA z.A z.H0 q) (d : decode cc pc = .ok (.invokevirtual index, 3))
    (K : ∀ (v : Option Value) (H1 : Heap), post2 v H1 → H.size ≤ H1.size → (∀ q : Nat, q < H.size → ¬ A2 q → H1[q]? = H[q]?) → V z H1 cb' sb' (pc + 3) lv (v.toList ++ rest)) : V z H cb sb pc lv st := by
  subst hst
  intro locs ls cells slots h1 h2 h3 h4
  refine zBehind h1b h2b hA (a := (.ref b :: As).toArray) ?_ h1 h2 h3 h4 K
  exact va_runU (As := As) (rest := rest) ⟨E.1, E.2.1, E.2.2.1, E.2.2.2.1, E.2.2.2.2.1⟩ (hM _) (va_cwU n E.2.2.2.2.1 hw rfl rfl rfl hyx hd ⟨Nat.le_trans hfr E.2.2.2.2.2.2.2.2.1, Nat.le_trans hlo E.2.2.2.2.2.2.2.2.2.1⟩) ⟨zKn.blind, hb.recv E.2.2.2.2.2.2.2.1 hc, fun U hU hW => ⟨rfl, hU, zKn.moved hW E.2.2.2.2.2.2.2.1⟩⟩ rfl hn h4.1 rfl (lv_room hrm) d
    ⟨by rw [E.2.2.2.2.2.2.2.2.2.2.1]; omega, by rw [E.2.2.2.2.2.2.2.2.2.2.2.1]; omega⟩
/-- a returning end of a method that may throw -/
theorem V.rt (E : zOK z cc own κ fr lo ret) (hE : zEndX z post postX) (K : ∀ z' : zT, zOK z' cc own κ fr lo ret → zEnd z' post → V z' H cb sb pc lv st) : V z H cb sb pc lv st := by
  intro locs ls cells slots h1 h2 h3 h4
  rw [hE]
  refine vx_ret ?_
  exact K (z.1, (z.2.1, z.2.2.1, z.2.2.2.1, z.2.2.2.2.1, z.2.2.2.2.2.1, MQ z.below (fun _ st o t => (∃ v, o = .returned v ∧ post v t.heap) ∧ va_F (zA z.A z.H0) st t) z.args z.s z.mc z.ms (zA z.A z.H0))) E rfl locs ls cells slots h1 h2 h3 h4
theorem zOK.eH (E : zOK z cc own κ fr lo ret) : z.H0 = z.s.heap := E.2.2.2.2.2.2.2.2.2.2.2.2
theorem zTh.use {U : State} {locs : List Loc} (E : zOK z cc own κ fr lo ret) (h : zTh (zA z.A z.H0) z.s z.s.heap) (h3 : va_S (zA z.A z.H0) z.H0 H locs) (hA : ∀ q, A2 q → zA z.A z.H0 q) (hW : z.s.WarmedH U.vm) : zTh (zA A2 H) U H := by
  have e := E.eH
  have hk : ∀ a : Nat, a < z.s.heap.size → ¬ zA z.A z.H0 a → H[a]? = z.s.heap[a]? := by rw [← e]; exact h3.2.1
  have hn : ∀ q, zA A2 H q → zA z.A z.H0 q := fun q g => g.elim (hA q) (fun g2 => Or.inr (Nat.le_trans h3.1 g2))
  exact ⟨vx_Zq.moved hW.alike ((vx_Zq.kept h.1 hk).narrow hn), vx_Zq.moved hW.alike ((vx_Zq.kept h.2 hk).narrow hn)⟩
/-- 'throw new C()' -/
theorem v_throw0 (E : zOK z cc own κ fr lo ret) (X : zX z) (hE : zEndX z post postX) {cls : String} {names : List String} {ik ic : Nat} (hcls : Bundle.fit cls = true) (hnames : ∀ n ∈ names, Bundle.fit n = true) (hk : Cond.classLink own ik cls ∈ lw_all) (hini : Cond.initialized cls ∈ lw_all)
    (hat : ∀ w ∈ vx_at0 own ic cls names, w.before z.args z.s = true) (hgood : ∀ w ∈ Cond.classLink own ik cls :: Cond.initialized cls :: vx_at0 own ic cls names, vx_ot w = true)
    (d0 : decode cc pc = .ok (.new ik, 3)) (d3 : decode cc (pc + 3) = .ok (.dup, 1)) (d4 : decode cc (pc + 4) = .ok (.invokespecial ic, 3)) (d7 : decode cc (pc + 7) = .ok (.athrow, 1))
    (hfr : names.length + 4 ≤ fr) (hlo : (st.map fun v => v.category).sum + (13 * (names.length + 1) + 42) ≤ lo) (h1b : 1 ≤ cb) (h2b : 6 ≤ sb)
    (hp : ∀ H1 : Heap, H.size ≤ H1.size → (∀ q : Nat, q < H.size → H1[q]? = H[q]?) → postX cls H1) : V z H cb sb pc lv st := by
  intro locs ls cells slots h1 h2 h3 h4
  have e := E.eH
  have hS : va_S (zA z.A z.H0) z.s.heap H locs := by rw [← e]; exact h3
  have hfr9 := E.2.2.2.2.2.2.2.2.1
  have hlo9 := E.2.2.2.2.2.2.2.2.2.1
  have hc9 : z.R.cells = z.mc := E.2.2.2.2.2.2.2.2.2.2.1
  have hs9 : z.R.slots = z.ms := E.2.2.2.2.2.2.2.2.2.2.2.1
  rw [hE]
  exact vx_throw0 (A := zA z.A z.H0) E.1 E.2.1 X.1 E.2.2.2.1 hcls hnames (E.2.2.2.2.1 _ hk) (E.2.2.2.2.1 _ hini) hat hgood X.2.2.1 X.2.2.2 hS (h4.1.trans E.2.2.1.symm) d0 d3 d4 d7 (fun x hx => (X.2.1 x hx).elim) (by show _ < z.R.frames; omega) (by show _ ≤ z.R.locals; omega) (by show _ ≤ z.R.cells; omega) (by show _ ≤ z.R.slots; omega) E.2.2.2.2.2.1
    (fun t _ g1 g2 => ⟨hp _ g1 g2, by rw [← e]; exact Nat.le_trans h3.1 g1, fun q g3 g4 => by rw [← e] at g3 ⊢; rw [g2 q (Nat.lt_of_lt_of_le g3 h3.1)]; exact h3.2.1 q g3 g4⟩) h3.2.2 (by omega) (by omega)
/-- behind a call that may throw: on, or out -/
theorem zBehindX (E : zOK z cc own κ fr lo ret) (X : zX z) (hE : zEndX z post postX) {locs : List Loc} {ls : Array Slot} {cells slots cb' sb' : Nat} {a : Array Value} {st0 : List Value} (h1b : cb' + mc2 ≤ cb) (h2b : sb' + ms2 ≤ sb) (hA : ∀ q, A2 q → zA z.A z.H0 q)
    (hr : vx_Run z.1.1 z.1.2.1 z.1.2.2.1 z.R z.s z.m z.args z.below z.meth z.c H locs cells slots mc2 ms2 (F0 z.m pc ls st0) rest (fun st o t => (∃ v', o = .returned v' ∧ post2 v' t.heap) ∧ va_F (zA A2 H) st t) (fun C st t => postX2 C t.heap ∧ va_F (zA A2 H) st t) (zA A2 H))
    (h1 : cells + cb ≤ z.mc) (h2 : slots + sb ≤ z.ms) (h3 : va_S (zA z.A z.H0) z.H0 H locs) (h4 : lv_has ls z.nL lv)
    (KX : ∀ (C : String) (H1 : Heap), postX2 C H1 → H.size ≤ H1.size → (∀ q : Nat, q < H.size → ¬ A2 q → H1[q]? = H[q]?) → postX C H1)
    (K : ∀ (v : Option Value) (H1 : Heap), post2 v H1 → H.size ≤ H1.size → (∀ q : Nat, q < H.size → ¬ A2 q → H1[q]? = H[q]?) → V z H1 cb' sb' (pc + 3) lv (v.toList ++ rest)) :
    W z.1.1 z.1.2.1 z.1.2.2.1 z.R z.s z.m z.args z.below z.meth z.c H locs cells slots z.Q (F0 z.m pc ls st0) := by
  have e := E.eH
  have hsub : ∀ q, q < H.size → zA A2 H q → zA z.A z.H0 q := fun q g1 g => g.elim (hA q) (fun g2 => absurd g1 (by omega))
  have hfree : ∀ q, zA A2 H q → zA z.A z.H0 q := fun q g => g.elim (hA q) (fun g2 => Or.inr (Nat.le_trans h3.1 g2))
  intro T hT XX
  rcases hr T hT XX with ⟨v, st₀, t, T', L, h0, X', hL, e1, e2, ⟨⟨v', hv, hp⟩, hF⟩, st9⟩ | ⟨q, st₀, t, T', L, C, ce, h0, X', hL, e1, e2, ⟨hpx, hF⟩, hce, hcv, hcl, st9⟩
  · cases hv
    obtain ⟨k1, k2, k3⟩ := vx_keep h0 e1 h3 hsub hfree hL hF
    obtain ⟨t2, a1, b1⟩ := K v T'.heap (by rw [e1]; exact hp) k1 (fun q g1 g2 => k2 q g1 (fun g3 => g3.elim g2 (fun g4 => absurd g1 (by omega)))) (locs ++ L) ls (cells + mc2) (slots + ms2) (by omega) (by omega) k3 h4 T' rfl X'
    exact ⟨t2, st9 t2 a1, b1⟩
  · obtain ⟨k1, k2, k3⟩ := vx_keep h0 e1 h3 hsub hfree hL hF
    have ko := vx_out (R := z.R) (p := z.1.1) (l := z.1.2.1) (e := z.1.2.2.1) (m := z.m) (below := z.below) (meth := z.meth) (c := z.c) (s := z.s) (args := z.args) (H := T'.heap) (locs := locs ++ L) (cells := cells + mc2) (slots := slots + ms2) (ls := ls) (rest := rest) (free := zA z.A z.H0) (Qc := fun _ st o t => (∃ v, o = .returned v ∧ post v t.heap) ∧ va_F (zA z.A z.H0) st t) (XC := fun C st t => postX C t.heap ∧ va_F (zA z.A z.H0) st t) (pc := pc) (E := C) (ce := ce) (q := q) (mc := z.mc) (ms := z.ms)
      (fun x hx => (X.2.1 x hx).elim) E.2.2.2.2.2.1 (by rw [e1]; exact hce) hcv hcl
      (fun t9 g9 _ => ⟨by rw [g9]; exact KX C T'.heap (by rw [e1]; exact hpx) k1 (fun q g1 g2 => k2 q g1 (fun g3 => g3.elim g2 (fun g4 => absurd g1 (by omega)))), by rw [← e, g9]; exact k3.1, fun q g3 g4 => by rw [← e] at g3 ⊢; rw [g9]; exact k3.2.1 q g3 g4⟩) k3.2.2 (by omega) (by omega)
    obtain ⟨t2, a1, b1⟩ := ko T' rfl X'
    exact ⟨t2, st9.trans a1, by rw [hE]; exact b1⟩
theorem v_callSX (E : zOK z cc own κ fr lo ret) (X : zX z) (hE : zEndX z post postX) {As : List Value} (hM : MtX κ y cc2 maxL2 ret2 fr2 lo2 mc2 ms2 H As A2 post2 postX2) (hw : GoodIn lw_all (va_wsS own index y (ws_ y cc2 maxL2 ret2))) (n : Nat)
    (hd : y.cls ≠ "java/lang/invoke/MethodHandle" ∧ y.cls ≠ "java/lang/invoke/VarHandle" ∧ (parseMethodDescriptor y.desc).map (fun d => d.parameters.length) = some n) (hn : As.length = n) (hfr : fr2 + 1 ≤ fr) (hlo : 8 + (maxL2 + 11) + lo2 ≤ lo)
    {cb' sb' : Nat} (h1b : cb' + mc2 ≤ cb) (h2b : sb' + ms2 ≤ sb) (hst : st = As.reverse ++ rest) (hrm : (rest.map fun v => v.category).sum ≤ 8) (hA : ∀ q, A2 q → zA z.A z.H0 q) (d : decode cc pc = .ok (.invokestatic index, 3))
    (KX : ∀ (C : String) (H1 : Heap), postX2 C H1 → H.size ≤ H1.size → (∀ q : Nat, q < H.size → ¬ A2 q → H1[q]? = H[q]?) → postX C H1)
    (K : ∀ (v : Option Value) (H1 : Heap), post2 v H1 → H.size ≤ H1.size → (∀ q : Nat, q < H.size → ¬ A2 q → H1[q]? = H[q]?) → V z H1 cb' sb' (pc + 3) lv (v.toList ++ rest)) : V z H cb sb pc lv st := by
  subst hst
  intro locs ls cells slots h1 h2 h3 h4
  refine zBehindX E X hE h1b h2b hA (a := As.toArray) ?_ h1 h2 h3 h4 KX K
  exact vx_runS (As := As) (rest := rest) ⟨E.1, E.2.1, E.2.2.1, E.2.2.2.1, E.2.2.2.2.1⟩ (hM _ X.1) (va_cwS n E.2.2.2.2.1 hw rfl rfl rfl hd ⟨Nat.le_trans hfr E.2.2.2.2.2.2.2.2.1, Nat.le_trans hlo E.2.2.2.2.2.2.2.2.2.1⟩) ⟨zKn.blindX, fun U hU hW => ⟨rfl, hU, zKn.moved hW E.kn, X.2.2.use E h3 hA hW⟩⟩ rfl hn h4.1 rfl (lv_room hrm) d
    ⟨by rw [E.2.2.2.2.2.2.2.2.2.2.1]; omega, by rw [E.2.2.2.2.2.2.2.2.2.2.2.1]; omega⟩
theorem v_callVX (E : zOK z cc own κ fr lo ret) (X : zX z) (hE : zEndX z post postX) {As : List Value} {b ci : Nat} {fs : List Value} {C : String} {T : u_T} {N : Nat} (hb : hp κ H b (.inr (ci, fs))) (hc : zC[ci]? = some (C, T, N)) (hM : MtX κ y cc2 maxL2 ret2 fr2 lo2 mc2 ms2 H (.ref b :: As) A2 post2 postX2) (hw : GoodIn lw_all (wsV own index C y (ws_ y cc2 maxL2 ret2))) (n : Nat)
    (hd : y.cls = C ∧ y.cls ≠ "java/lang/invoke/MethodHandle" ∧ y.cls ≠ "java/lang/invoke/VarHandle" ∧ (parseMethodDescriptor y.desc).map (fun d => d.parameters.length) = some n) (hn : As.length = n) (hfr : fr2 + 1 ≤ fr) (hlo : 8 + (maxL2 + 11) + lo2 ≤ lo)
    {cb' sb' : Nat} (h1b : cb' + mc2 ≤ cb) (h2b : sb' + ms2 ≤ sb) (hst : st = As.reverse ++ .ref b :: rest) (hrm : (rest.map fun v => v.category).sum ≤ 8) (hA : ∀ q, A2 q → zA z.A z.H0 q) (d : decode cc pc = .ok (.invokevirtual index, 3))
    (KX : ∀ (C : String) (H1 : Heap), postX2 C H1 → H.size ≤ H1.size → (∀ q : Nat, q < H.size → ¬ A2 q → H1[q]? = H[q]?) → postX C H1)
    (K : ∀ (v : Option Value) (H1 : Heap), post2 v H1 → H.size ≤ H1.size → (∀ q : Nat, q < H.size → ¬ A2 q → H1[q]? = H[q]?) → V z H1 cb' sb' (pc + 3) lv (v.toList ++ rest)) : V z H cb sb pc lv st := by
  subst hst
  intro locs ls cells slots h1 h2 h3 h4
  refine zBehindX E X hE h1b h2b hA (a := (.ref b :: As).toArray) ?_ h1 h2 h3 h4 KX K
  exact vx_runV (As := As) (rest := rest) ⟨E.1, E.2.1, E.2.2.1, E.2.2.2.1, E.2.2.2.2.1⟩ (hM _ X.1) (cwV n E.2.2.2.2.1 hw rfl rfl rfl hd ⟨Nat.le_trans hfr E.2.2.2.2.2.2.2.2.1, Nat.le_trans hlo E.2.2.2.2.2.2.2.2.2.1⟩) ⟨zKn.blindX, hb.recv E.kn hc, fun U hU hW => ⟨rfl, hU, zKn.moved hW E.kn, X.2.2.use E h3 hA hW⟩⟩ rfl hn h4.1 rfl (lv_room hrm) d
    ⟨by rw [E.2.2.2.2.2.2.2.2.2.2.1]; omega, by rw [E.2.2.2.2.2.2.2.2.2.2.2.1]; omega⟩
end XROWS
