/-! CALLS over V: what may throw, called where it is caught; and the catching methods called -/
section WROWS
variable {z : zT} {cc : ByteArray} {own : String} {κ : zK} {fr lo : Nat} {ret : Option FieldType} {H : Heap} {cb sb pc : Nat} {lv : List (Nat × Value)} {st rest : List Value}
variable {y : MethodName} {cc2 : ByteArray} {maxL2 : Nat} {ret2 : Option FieldType} {fr2 lo2 mc2 ms2 : Nat} {A2 : Nat → Prop} {post2 : Option Value → Heap → Prop} {postX2 : String → Heap → Prop} {index : Nat} {hh : List (Nat × Nat × Nat × Nat)}
/-- caught by the row x of the table: from there with the exception alone on the stack -/
def zCatch (z : zT) (hh : List (Nat × Nat × Nat × Nat)) (own C : String) (pc : Nat) (k : Nat → Prop) : Prop := ∃ (pre suf : List ExceptionTableEntry) (x : ExceptionTableEntry) (name : String), tableOf hh = pre ++ x :: suf ∧ (∀ y ∈ pre, y.catchType ≠ 0 ∧ ∃ nm, Cond.classLink own y.catchType nm ∈ lw_all ∧ (C, nm) ∈ zNX) ∧ covers x pc = true ∧ x.catchType ≠ 0 ∧ Cond.classLink own x.catchType name ∈ lw_all ∧ (C, name) ∈ zNC ∧ k x.handlerPc
theorem zBehindK (E : zOK z cc own κ fr lo ret) (X : zW z hh) {locs : List Loc} {ls : Array Slot} {cells slots cb' sb' : Nat} {st0 : List Value} (h1b : cb' + mc2 ≤ cb) (h2b : sb' + ms2 ≤ sb) (hA : ∀ q, A2 q → zA z.A z.H0 q)
    (hr : vx_Run z.1.1 z.1.2.1 z.1.2.2.1 z.R z.s z.m z.args z.below z.meth z.c H locs cells slots mc2 ms2 (F0 z.m pc ls st0) rest (fun st o t => (∃ v', o = .returned v' ∧ post2 v' t.heap) ∧ va_F (zA A2 H) st t) (fun C st t => postX2 C t.heap ∧ va_F (zA A2 H) st t) (zA A2 H))
    (h1 : cells + cb ≤ z.mc) (h2 : slots + sb ≤ z.ms) (h3 : va_S (zA z.A z.H0) z.H0 H locs) (h4 : lv_has ls z.nL lv)
    (KX : ∀ (C : String) (H1 : Heap), postX2 C H1 → H.size ≤ H1.size → (∀ q : Nat, q < H.size → ¬ A2 q → H1[q]? = H[q]?) → zCatch z hh own C pc (fun hp => ∀ q : Nat, V z H1 cb' sb' hp lv [.ref q]))
    (K : ∀ (v : Option Value) (H1 : Heap), post2 v H1 → H.size ≤ H1.size → (∀ q : Nat, q < H.size → ¬ A2 q → H1[q]? = H[q]?) → V z H1 cb' sb' (pc + 3) lv (v.toList ++ rest)) :
    W z.1.1 z.1.2.1 z.1.2.2.1 z.R z.s z.m z.args z.below z.meth z.c H locs cells slots z.Q (F0 z.m pc ls st0) := by
  have e := E.eH
  have hsub : ∀ q, q < H.size → zA A2 H q → zA z.A z.H0 q := fun q g1 g => g.elim (hA q) (fun g2 => absurd g1 (by omega))
  have hfree : ∀ q, zA A2 H q → zA z.A z.H0 q := fun q g => g.elim (hA q) (fun g2 => Or.inr (Nat.le_trans h3.1 g2))
  intro T hT XX
  rcases hr T hT XX with ⟨v, st₀, t, T', L, h0, X', hL, e1, e2, ⟨⟨v', hv, hp⟩, hF⟩, st9⟩ | ⟨q, st₀, t, T', L, C, ce, h0, X', hL, e1, e2, ⟨hpx, hF⟩, hce, hcv, hcl, st9⟩
  · cases hv
    obtain ⟨k1, k2, k3⟩ := vx_keep h0 e1 h3 hsub hfree hL hF
    obtain ⟨t2, a1, b1⟩ := K v T'.heap (by rw [e1]; exact hp) k1 (fun q g1 g2 => k2 q g1 (fun g3 => g3.elim g2 (fun g4 => absurd g1 (by omega)))) (locs ++ L) ls (cells + mc2) (slots + ms2) (by omega) (by omega) k3 h4 T' rfl X'
    exact ⟨t2, st9 t2 a1, b1⟩
  · obtain ⟨k1, k2, k3⟩ := vx_keep h0 e1 h3 hsub hfree hL hF
    obtain ⟨pre, suf, x, name, c1, c2, c3, c4, c5, c6, c7⟩ := KX C T'.heap (by rw [e1]; exact hpx) k1 (fun q g1 g2 => k2 q g1 (fun g3 => g3.elim g2 (fun g4 => absurd g1 (by omega))))
    have hw : ∀ w ∈ lw_all, w.before z.args z.s = true := E.2.2.2.2.1
    have ko := vx_catch (p := z.1.1) (l := z.1.2.1) (e := z.1.2.2.1) (R := z.R) (s := z.s) (m := z.m) (args := z.args) (below := z.below) (meth := z.meth) (c := z.c) (H := T'.heap) (locs := locs ++ L) (cells := cells + mc2) (slots := slots + ms2) (Q := z.Q) (ls := ls) (rest := rest) (pc := pc) (own := own) (name := name) (E := C) (ce := ce) (q := q)
      E.2.2.2.1 pre x suf (X.2.1.trans c1) (fun y hy => Or.inr ⟨(c2 y hy).1, (c2 y hy).2.choose, hw _ (c2 y hy).2.choose_spec.1, E.kn.nc _ (c2 y hy).2.choose_spec.2⟩) c3 c4 (hw _ c5) (va_Nw.use rfl (E.kn.2.2.2.1 (C, name) c6)) (by rw [e1]; exact hce) hcv hcl
      (c7 q (locs ++ L) ls (cells + mc2) (slots + ms2) (by omega) (by omega) k3 h4)
    obtain ⟨t2, a1, b1⟩ := ko T' rfl X'
    exact ⟨t2, st9.trans a1, b1⟩
theorem v_callVK (E : zOK z cc own κ fr lo ret) (X : zW z hh) {As : List Value} {b ci : Nat} {fs : List Value} {C : String} {T : u_T} {N : Nat} (hb : hp κ H b (.inr (ci, fs))) (hc : zC[ci]? = some (C, T, N)) (hM : MtX κ y cc2 maxL2 ret2 fr2 lo2 mc2 ms2 H (.ref b :: As) A2 post2 postX2) (hw : GoodIn lw_all (wsV own index C y (ws_ y cc2 maxL2 ret2))) (n : Nat)
    (hd : y.cls = C ∧ y.cls ≠ "java/lang/invoke/MethodHandle" ∧ y.cls ≠ "java/lang/invoke/VarHandle" ∧ (parseMethodDescriptor y.desc).map (fun d => d.parameters.length) = some n) (hn : As.length = n) (hfr : fr2 + 1 ≤ fr) (hlo : 8 + (maxL2 + 11) + lo2 ≤ lo)
    {cb' sb' : Nat} (h1b : cb' + mc2 ≤ cb) (h2b : sb' + ms2 ≤ sb) (hst : st = As.reverse ++ .ref b :: rest) (hrm : (rest.map fun v => v.category).sum ≤ 8) (hA : ∀ q, A2 q → zA z.A z.H0 q) (d : decode cc pc = .ok (.invokevirtual index, 3))
    (KX : ∀ (C : String) (H1 : Heap), postX2 C H1 → H.size ≤ H1.size → (∀ q : Nat, q < H.size → ¬ A2 q → H1[q]? = H[q]?) → zCatch z hh own C pc (fun hp => ∀ q : Nat, V z H1 cb' sb' hp lv [.ref q]))
    (K : ∀ (v : Option Value) (H1 : Heap), post2 v H1 → H.size ≤ H1.size → (∀ q : Nat, q < H.size → ¬ A2 q → H1[q]? = H[q]?) → V z H1 cb' sb' (pc + 3) lv (v.toList ++ rest)) : V z H cb sb pc lv st := by
  subst hst
  intro locs ls cells slots h1 h2 h3 h4
  refine zBehindK E X h1b h2b hA ?_ h1 h2 h3 h4 KX K
  exact vx_runV (As := As) (rest := rest) ⟨E.1, E.2.1, E.2.2.1, E.2.2.2.1, E.2.2.2.2.1⟩ (hM _ X.1) (cwV n E.2.2.2.2.1 hw rfl rfl rfl hd ⟨Nat.le_trans hfr E.2.2.2.2.2.2.2.2.1, Nat.le_trans hlo E.2.2.2.2.2.2.2.2.2.1⟩) ⟨zKn.blindX, hb.recv E.kn hc, fun U hU hW => ⟨rfl, hU, zKn.moved hW E.kn, X.2.2.use E h3 hA hW⟩⟩ rfl hn h4.1 rfl (lv_room hrm) d
    ⟨by rw [E.2.2.2.2.2.2.2.2.2.2.1]; omega, by rw [E.2.2.2.2.2.2.2.2.2.2.2.1]; omega⟩
/-- where a catching method may be called -/
def zLw (z : zT) : Prop := z.1.2.1.stackTraces = false ∧ zTh (zA z.A z.H0) z.s z.s.heap
theorem v_callSK (E : zOK z cc own κ fr lo ret) (X : zLw z) {As : List Value} (hM : MtW κ y cc2 maxL2 ret2 hh fr2 lo2 mc2 ms2 H As A2 post2) (hw : GoodIn lw_all (va_wsS own index y (wsW_ y cc2 maxL2 ret2 hh))) (n : Nat)
    (hd : y.cls ≠ "java/lang/invoke/MethodHandle" ∧ y.cls ≠ "java/lang/invoke/VarHandle" ∧ (parseMethodDescriptor y.desc).map (fun d => d.parameters.length) = some n) (hn : As.length = n) (hfr : fr2 + 1 ≤ fr) (hlo : 8 + (maxL2 + 11) + lo2 ≤ lo)
    {cb' sb' : Nat} (h1b : cb' + mc2 ≤ cb) (h2b : sb' + ms2 ≤ sb) (hst : st = As.reverse ++ rest) (hrm : (rest.map fun v => v.category).sum ≤ 8) (hA : ∀ q, A2 q → zA z.A z.H0 q) (d : decode cc pc = .ok (.invokestatic index, 3))
    (K : ∀ (v : Option Value) (H1 : Heap), post2 v H1 → H.size ≤ H1.size → (∀ q : Nat, q < H.size → ¬ A2 q → H1[q]? = H[q]?) → V z H1 cb' sb' (pc + 3) lv (v.toList ++ rest)) : V z H cb sb pc lv st := by
  subst hst
  intro locs ls cells slots h1 h2 h3 h4
  refine zBehind h1b h2b hA (a := As.toArray) ?_ h1 h2 h3 h4 K
  exact vx_runSW (As := As) (rest := rest) ⟨E.1, E.2.1, E.2.2.1, E.2.2.2.1, E.2.2.2.2.1⟩ (hM _ X.1) (vx_cwSW n E.2.2.2.2.1 hw rfl rfl rfl hd ⟨Nat.le_trans hfr E.2.2.2.2.2.2.2.2.1, Nat.le_trans hlo E.2.2.2.2.2.2.2.2.2.1⟩) ⟨zKn.blindX, fun U hU hW => ⟨rfl, hU, zKn.moved hW E.kn, X.2.use E h3 hA hW⟩⟩ rfl hn h4.1 rfl (lv_room hrm) d
    ⟨by rw [E.2.2.2.2.2.2.2.2.2.2.1]; omega, by rw [E.2.2.2.2.2.2.2.2.2.2.2.1]; omega⟩
end WROWS
