/-! CALLS over V (our own): the callee's contract Mt at the heap as it stands -/
theorem zKn.blind {κ : zK} {H : Heap} {av : List Value} : FrameBlind (va_Pc av (fun U => U.heap = H ∧ zKn κ U)) := fun a U g mk q => ⟨q.1, q.2.1, zKn.moved (U := U.calling g mk a) (State.WarmedH.refl U) q.2.2⟩
section CROWS
variable {z : zT} {cc : ByteArray} {own : String} {κ : zK} {fr lo : Nat} {ret : Option FieldType} {H : Heap} {cb sb pc : Nat} {lv : List (Nat × Value)} {st rest : List Value}
variable {y : MethodName} {cc2 : ByteArray} {maxL2 : Nat} {ret2 : Option FieldType} {fr2 lo2 mc2 ms2 : Nat} {A2 : Nat → Prop} {post2 : Option Value → Heap → Prop} {index : Nat}
/-- behind a call, whatever kind it is -/
theorem zBehind {locs : List Loc} {ls : Array Slot} {cells slots cb' sb' pc' : Nat} {a : Array Value} {g : JFrame} (h1b : cb' + mc2 ≤ cb) (h2b : sb' + ms2 ≤ sb) (hA : ∀ q, A2 q → zA z.A z.H0 q)
    (hr : ∀ T : State, T.heap = H → Stand z.1.1 z.1.2.1 z.1.2.2.1 z.R z.s z.m z.args z.below z.meth z.c T locs cells slots → ∃ (v : Option Value) (st₀ t T' : State) (L : List Loc), st₀.heap = H ∧ Stand z.1.1 z.1.2.1 z.1.2.2.1 z.R z.s z.m z.args z.below z.meth z.c T' (locs ++ L) (cells + mc2) (slots + ms2) ∧ (∀ q ∈ L, zA A2 H q.base) ∧ T'.heap = t.heap ∧ T'.vm = t.vm ∧ ((∃ v', Outcome.returned v = .returned v' ∧ post2 v' t.heap) ∧ va_F (zA A2 H) st₀ t) ∧
      Goes z.1.1 z.1.2.2.1 z.below T g T' (F0 z.m pc' ls (v.toList ++ rest)))
    (h1 : cells + cb ≤ z.mc) (h2 : slots + sb ≤ z.ms) (h3 : va_S (zA z.A z.H0) z.H0 H locs) (h4 : lv_has ls z.nL lv)
    (K : ∀ (v : Option Value) (H1 : Heap), post2 v H1 → H.size ≤ H1.size → (∀ q : Nat, q < H.size → ¬ A2 q → H1[q]? = H[q]?) → V z H1 cb' sb' pc' lv (v.toList ++ rest)) :
    W z.1.1 z.1.2.1 z.1.2.2.1 z.R z.s z.m z.args z.below z.meth z.c H locs cells slots z.Q g := by
  intro T hT X
  obtain ⟨v, st₀, t, T', L, h0, X', hL, e1, e2, ⟨⟨v', hv, hp⟩, hz, hk⟩, st⟩ := hr T hT X
  cases hv
  rw [h0] at hz hk
  obtain ⟨t2, a1, b1⟩ := K v t.heap hp hz (fun q g1 g2 => hk q g1 (fun g3 => g3.elim g2 (fun g4 => absurd g1 (by omega)))) (locs ++ L) ls (cells + mc2) (slots + ms2) (by omega) (by omega)
    ⟨Nat.le_trans h3.1 hz, fun q g1 g2 => (hk q (Nat.lt_of_lt_of_le g1 h3.1) (fun g3 => g3.elim (fun a => g2 (hA q a)) (fun g4 => absurd (Nat.lt_of_lt_of_le g1 h3.1) (by omega)))).trans (h3.2.1 q g1 g2), fun q hq => by
      rcases List.mem_append.mp hq with h | h
      · exact h3.2.2 q h
      · exact (hL q h).elim (hA _) (fun g4 => Or.inr (Nat.le_trans h3.1 g4))⟩ h4 T' e1 X'
  exact ⟨t2, st t2 a1, b1⟩
theorem v_callS (E : zOK z cc own κ fr lo ret) {As : List Value} (hM : Mt κ y cc2 maxL2 ret2 fr2 lo2 mc2 ms2 H As A2 post2) (hw : GoodIn lw_all (va_wsS own index y (ws_ y cc2 maxL2 ret2))) (n : Nat)
    (hd : y.cls ≠ "java/lang/invoke/MethodHandle" ∧ y.cls ≠ "java/lang/invoke/VarHandle" ∧ (parseMethodDescriptor y.desc).map (fun d => d.parameters.length) = some n) (hn : As.length = n) (hfr : fr2 + 1 ≤ fr) (hlo : 8 + (maxL2 + 11) + lo2 ≤ lo)
    {cb' sb' : Nat} (h1b : cb' + mc2 ≤ cb) (h2b : sb' + ms2 ≤ sb) (hst : st = As.reverse ++ rest) (hrm : (rest.map fun v => v.category).sum ≤ 8) (hA : ∀ q, A2 q → zA z.A z.H0 q) (d : decode cc pc = .ok (.invokestatic index, 3))
    (K : ∀ (v : Option Value) (H1 : Heap), post2 v H1 → H.size ≤ H1.size → (∀ q : Nat, q < H.size → ¬ A2 q → H1[q]? = H[q]?) → V z H1 cb' sb' (pc + 3) lv (v.toList ++ rest)) : V z H cb sb pc lv st := by
  subst hst
  intro locs ls cells slots h1 h2 h3 h4
  refine zBehind h1b h2b hA (a := As.toArray) ?_ h1 h2 h3 h4 K
  exact va_runS (As := As) (rest := rest) ⟨E.1, E.2.1, E.2.2.1, E.2.2.2.1, E.2.2.2.2.1⟩ (hM _) (va_cwS n E.2.2.2.2.1 hw rfl rfl rfl hd ⟨Nat.le_trans hfr E.2.2.2.2.2.2.2.2.1, Nat.le_trans hlo E.2.2.2.2.2.2.2.2.2.1⟩) ⟨zKn.blind, fun U hU hW => ⟨rfl, hU, zKn.moved hW E.2.2.2.2.2.2.2.1⟩⟩ rfl hn h4.1 rfl (lv_room hrm) d
    ⟨by rw [E.2.2.2.2.2.2.2.2.2.2.1]; omega, by rw [E.2.2.2.2.2.2.2.2.2.2.2.1]; omega⟩
theorem hp.recv {H : Heap} {b ci : Nat} {q : vw_C} {fs : List Value} {s : State} (hK : zKn κ s) (h : hp κ H b (.inr (ci, fs))) (hc : zC[ci]? = some q) : ∃ cell : Cell, H[b]? = some cell ∧ cell.vm.isStatics = false ∧ s.vm.findClass q.1 = some cell.cls := va_recv hK.1 h.P hc (q0 := 0) rfl
theorem v_callV (E : zOK z cc own κ fr lo ret) {As : List Value} {b ci : Nat} {fs : List Value} {C : String} {T : u_T} {N : Nat} (hb : hp κ H b (.inr (ci, fs))) (hc : zC[ci]? = some (C, T, N)) (hM : Mt κ y cc2 maxL2 ret2 fr2 lo2 mc2 ms2 H (.ref b :: As) A2 post2) (hw : GoodIn lw_all (wsV own index C y (ws_ y cc2 maxL2 ret2))) (n : Nat)
    (hd : y.cls = C ∧ y.cls ≠ "java/lang/invoke/MethodHandle" ∧ y.cls ≠ "java/lang/invoke/VarHandle" ∧ (parseMethodDescriptor y.desc).map (fun d => d.parameters.length) = some n) (hn : As.length = n) (hfr : fr2 + 1 ≤ fr) (hlo : 8 + (maxL2 + 11) + lo2 ≤ lo)
    {cb' sb' : Nat} (h1b : cb' + mc2 ≤ cb) (h2b : sb' + ms2 ≤ sb) (hst : st = As.reverse ++ .ref b :: rest) (hrm : (rest.map fun v => v.category).sum ≤ 8) (hA : ∀ q, A2 q → zA z.A z.H0 q) (d : decode cc pc = .ok (.invokevirtual index, 3))
    (K : ∀ (v : Option Value) (H1 : Heap), post2 v H1 → H.size ≤ H1.size → (∀ q : Nat, q < H.size → ¬ A2 q → H1[q]? = H[q]?) → V z H1 cb' sb' (pc + 3) lv (v.toList ++ rest)) : V z H cb sb pc lv st := by
  subst hst
  intro locs ls cells slots h1 h2 h3 h4
  refine zBehind h1b h2b hA (a := (.ref b :: As).toArray) ?_ h1 h2 h3 h4 K
  exact va_runV (As := As) (rest := rest) ⟨E.1, E.2.1, E.2.2.1, E.2.2.2.1, E.2.2.2.2.1⟩ (hM _) (cwV n E.2.2.2.2.1 hw rfl rfl rfl hd ⟨Nat.le_trans hfr E.2.2.2.2.2.2.2.2.1, Nat.le_trans hlo E.2.2.2.2.2.2.2.2.2.1⟩) ⟨zKn.blind, hb.recv E.2.2.2.2.2.2.2.1 hc, fun U hU hW => ⟨rfl, hU, zKn.moved hW E.2.2.2.2.2.2.2.1⟩⟩ rfl hn h4.1 rfl (lv_room hrm) d
    ⟨by rw [E.2.2.2.2.2.2.2.2.2.2.1]; omega, by rw [E.2.2.2.2.2.2.2.2.2.2.2.1]; omega⟩
/-- a constructor -/
theorem v_callI (E : zOK z cc own κ fr lo ret) {As : List Value} {b : Nat} (hM : Mt κ y cc2 maxL2 none fr2 lo2 mc2 ms2 H (.ref b :: As) A2 post2) (hw : Cond.code y cc2 maxL2 none ∈ lw_all) (hini : Cond.initialized y.cls ∈ lw_all) (hl : Cond.methodLink own index y ∈ lw_all) (hi : Cond.instanceMethod y ∈ lw_all) (hy1 : y.name = "<init>") (n : Nat)
    (hd : y.cls ≠ "java/lang/invoke/MethodHandle" ∧ y.cls ≠ "java/lang/invoke/VarHandle" ∧ (parseMethodDescriptor y.desc).map (fun d => d.parameters.length) = some n) (hn : As.length = n) (hfr : fr2 + 1 ≤ fr) (hlo : 8 + (maxL2 + 11) + lo2 ≤ lo)
    {cb' sb' : Nat} (h1b : cb' + mc2 ≤ cb) (h2b : sb' + ms2 ≤ sb) (hst : st = As.reverse ++ .ref b :: rest) (hrm : (rest.map fun v => v.category).sum ≤ 8) (hA : ∀ q, A2 q → zA z.A z.H0 q) (d : decode cc pc = .ok (.invokespecial index, 3))
    (K : ∀ (v : Option Value) (H1 : Heap), post2 v H1 → H.size ≤ H1.size → (∀ q : Nat, q < H.size → ¬ A2 q → H1[q]? = H[q]?) → V z H1 cb' sb' (pc + 3) lv (v.toList ++ rest)) : V z H cb sb pc lv st := by
  subst hst
  intro locs ls cells slots h1 h2 h3 h4
  refine zBehind h1b h2b hA (a := (.ref b :: As).toArray) ?_ h1 h2 h3 h4 K
  exact va_runI (As := As) (rest := rest) ⟨E.1, E.2.1, E.2.2.1, E.2.2.2.1, E.2.2.2.2.1⟩ (hM _) (cwI n E.2.2.2.2.1 (lw_meth hw) rfl rfl rfl (E.2.2.2.2.1 _ hini) (E.2.2.2.2.1 _ hl) (E.2.2.2.2.1 _ hi) hy1 hd ⟨Nat.le_trans hfr E.2.2.2.2.2.2.2.2.1, Nat.le_trans hlo E.2.2.2.2.2.2.2.2.2.1⟩) ⟨zKn.blind, fun U hU hW => ⟨rfl, hU, zKn.moved hW E.2.2.2.2.2.2.2.1⟩⟩ rfl hn h4.1 rfl (lv_room hrm) d
    ⟨by rw [E.2.2.2.2.2.2.2.2.2.2.1]; omega, by rw [E.2.2.2.2.2.2.2.2.2.2.2.1]; omega⟩
end CROWS
/-- a contract says less, and of more cells -/
theorem Mt.mono {κ : zK} {y : MethodName} {cc : ByteArray} {maxL : Nat} {ret : Option FieldType} {fr lo mc ms : Nat} {H0 : Heap} {av : List Value} {A A' : Nat → Prop} {post post' : Option Value → Heap → Prop}
    (h : Mt κ y cc maxL ret fr lo mc ms H0 av A post) (hA : ∀ q, A q → A' q) (hp : ∀ (v : Option Value) (H1 : Heap), post v H1 → H0.size ≤ H1.size → (∀ q : Nat, q < H0.size → ¬ A q → H1[q]? = H0[q]?) → post' v H1) : Mt κ y cc maxL ret fr lo mc ms H0 av A' post' := by
  intro l p e h1 h2 h3 s m args below hf happ hP hK
  have hH : s.heap = H0 := hP.2.1
  obtain ⟨n, o, a1, a2, a3, ⟨⟨v, ho, hpost⟩, hF⟩, L, hL1, hL2⟩ := h l p e h1 h2 h3 s m args below hf happ hP hK
  have hz := hF.1
  have hk := hF.2
  rw [hH] at hz hk
  refine ⟨n, o, a1, a2, a3, ⟨⟨v, ho, hp v _ hpost hz (fun q g1 g2 => hk q g1 (fun g3 => g3.elim g2 (fun g4 => absurd g1 (by omega))))⟩, ?_⟩, L, hL1, fun q hq => (hL2 q hq).imp (hA _) id⟩
  exact ⟨hF.1, fun q g1 g2 => hF.2 q g1 (fun g3 => g2 (g3.imp (hA _) id))⟩
section MROWS
variable {z : zT} {cc : ByteArray} {own : String} {κ : zK} {fr lo : Nat} {ret : Option FieldType} {H : Heap} {cb sb pc : Nat} {lv : List (Nat × Value)} {st : List Value} {index : Nat}
theorem v_mmax (E : zOK z cc own κ fr lo ret) {a b : Int} (ha : rI a) (hb : rI b) (hlink : Cond.methodLink own index Lib.Math.max.name ∈ lw_all) (hstat : Cond.static Lib.Math.max.name ∈ lw_all) (hini : Cond.initialized "java/lang/Math" ∈ lw_all) (hcode : Cond.code Lib.Math.max.name Lib.Math.max.code 2 (some .int) ∈ lw_all) (hfr : 1 ≤ fr) (hlo : (st.map fun v => v.category).sum + 13 ≤ lo) (d : decode cc pc = .ok (.invokestatic index, 3))
    (K : V z H cb sb (pc + 3) lv (vi (max a b) :: st)) : V z H cb sb pc lv (vi b :: vi a :: st) := by
  intro locs ls cells slots h1 h2 h3 h4
  refine va_mmax E.1 E.2.1 (E.2.2.1.trans h4.1.symm) E.2.2.2.1 (E.2.2.2.2.1 _ hlink) (E.2.2.2.2.1 _ hstat) (E.2.2.2.2.1 _ hini) (E.2.2.2.2.1 _ hcode) (Nat.le_trans hfr E.2.2.2.2.2.2.2.2.1) (Nat.le_trans hlo E.2.2.2.2.2.2.2.2.2.1) (by rw [E.2.2.2.2.2.2.2.2.2.2.1]; omega) (by rw [E.2.2.2.2.2.2.2.2.2.2.2.1]; omega) d ?_
  have e : (if iZ a < iZ b then iZ b else iZ a) = iZ (max a b) := by
    by_cases h : a < b
    · rw [if_pos ((iZ_lt ha hb).mpr h)]; congr 1; omega
    · rw [if_neg (fun q => h ((iZ_lt ha hb).mp q))]; congr 1; omega
  rw [e]
  exact K locs ls cells slots h1 h2 h3 h4
theorem v_mmin (E : zOK z cc own κ fr lo ret) {a b : Int} (ha : rI a) (hb : rI b) (hlink : Cond.methodLink own index Lib.Math.min.name ∈ lw_all) (hstat : Cond.static Lib.Math.min.name ∈ lw_all) (hini : Cond.initialized "java/lang/Math" ∈ lw_all) (hcode : Cond.code Lib.Math.min.name Lib.Math.min.code 2 (some .int) ∈ lw_all) (hfr : 1 ≤ fr) (hlo : (st.map fun v => v.category).sum + 13 ≤ lo) (d : decode cc pc = .ok (.invokestatic index, 3))
    (K : V z H cb sb (pc + 3) lv (vi (min a b) :: st)) : V z H cb sb pc lv (vi b :: vi a :: st) := by
  intro locs ls cells slots h1 h2 h3 h4
  refine va_mmin E.1 E.2.1 (E.2.2.1.trans h4.1.symm) E.2.2.2.1 (E.2.2.2.2.1 _ hlink) (E.2.2.2.2.1 _ hstat) (E.2.2.2.2.1 _ hini) (E.2.2.2.2.1 _ hcode) (Nat.le_trans hfr E.2.2.2.2.2.2.2.2.1) (Nat.le_trans hlo E.2.2.2.2.2.2.2.2.2.1) (by rw [E.2.2.2.2.2.2.2.2.2.2.1]; omega) (by rw [E.2.2.2.2.2.2.2.2.2.2.2.1]; omega) d ?_
  have e : (if iZ b < iZ a then iZ b else iZ a) = iZ (min a b) := by
    by_cases h : b < a
    · rw [if_pos ((iZ_lt hb ha).mpr h)]; congr 1; omega
    · rw [if_neg (fun q => h ((iZ_lt hb ha).mp q))]; congr 1; omega
  rw [e]
  exact K locs ls cells slots h1 h2 h3 h4
theorem v_mabs (E : zOK z cc own κ fr lo ret) {a : Int} (ha : rI a) (hlink : Cond.methodLink own index Lib.Math.abs.name ∈ lw_all) (hstat : Cond.static Lib.Math.abs.name ∈ lw_all) (hini : Cond.initialized "java/lang/Math" ∈ lw_all) (hcode : Cond.code Lib.Math.abs.name Lib.Math.abs.code 1 (some .int) ∈ lw_all) (hfr : 1 ≤ fr) (hlo : (st.map fun v => v.category).sum + 13 ≤ lo) (d : decode cc pc = .ok (.invokestatic index, 3))
    (K : V z H cb sb (pc + 3) lv (vi (a.natAbs : Int) :: st)) : V z H cb sb pc lv (vi a :: st) := by
  intro locs ls cells slots h1 h2 h3 h4
  refine va_mabs E.1 E.2.1 (E.2.2.1.trans h4.1.symm) E.2.2.2.1 (E.2.2.2.2.1 _ hlink) (E.2.2.2.2.1 _ hstat) (E.2.2.2.2.1 _ hini) (E.2.2.2.2.1 _ hcode) (Nat.le_trans hfr E.2.2.2.2.2.2.2.2.1) (Nat.le_trans hlo E.2.2.2.2.2.2.2.2.2.1) (by rw [E.2.2.2.2.2.2.2.2.2.2.1]; omega) (by rw [E.2.2.2.2.2.2.2.2.2.2.2.1]; omega) d ?_
  have e : (if 0 ≤ iZ a then iZ a else 0 - iZ a) = iZ (a.natAbs : Int) := by
    rw [iZ_0]
    by_cases h : 0 ≤ a
    · rw [if_pos ((iZ_le r0 ha).mpr h)]; congr 1; omega
    · rw [if_neg (fun q => h ((iZ_le r0 ha).mp q)), iZ_sub]; congr 1; omega
  rw [e]
  exact K locs ls cells slots h1 h2 h3 h4
end MROWS
