/-! CALLS 3 over V (our own): a nest mate's static method -/
theorem zKn.nm {κ : zK} {s : State} (hK : zKn κ s) : ∀ q ∈ zNM, va_Nw (.methodLinkNest q.1 q.2.1 q.2.2.1 q.2.2.2) s := hK.2.2.1
theorem v_callSN {z : zT} {cc : ByteArray} {own : String} {κ : zK} {fr lo : Nat} {ret : Option FieldType} {H : Heap} {cb sb pc : Nat} {lv : List (Nat × Value)} {st rest : List Value} {y : MethodName} {cc2 : ByteArray} {maxL2 : Nat} {ret2 : Option FieldType} {fr2 lo2 mc2 ms2 : Nat} {A2 : Nat → Prop} {post2 : Option Value → Heap → Prop} {index : Nat} {host : String}
    (E : zOK z cc own κ fr lo ret) {As : List Value} (hM : Mt κ y cc2 maxL2 ret2 fr2 lo2 mc2 ms2 H As A2 post2) (hw : GoodIn lw_all (ws_ y cc2 maxL2 ret2)) (hq : (own, index, y, host) ∈ zNM) (hini : Cond.initialized y.cls ∈ lw_all) (hstat : Cond.static y ∈ lw_all) (n : Nat)
    (hd : y.cls ≠ "java/lang/invoke/MethodHandle" ∧ y.cls ≠ "java/lang/invoke/VarHandle" ∧ (parseMethodDescriptor y.desc).map (fun d => d.parameters.length) = some n) (hn : As.length = n) (hfr : fr2 + 1 ≤ fr) (hlo : 8 + (maxL2 + 11) + lo2 ≤ lo)
    {cb' sb' : Nat} (h1b : cb' + mc2 ≤ cb) (h2b : sb' + ms2 ≤ sb) (hst : st = As.reverse ++ rest) (hrm : (rest.map fun v => v.category).sum ≤ 8) (hA : ∀ q, A2 q → zA z.A z.H0 q) (d : decode cc pc = .ok (.invokestatic index, 3))
    (K : ∀ (v : Option Value) (H1 : Heap), post2 v H1 → H.size ≤ H1.size → (∀ q : Nat, q < H.size → ¬ A2 q → H1[q]? = H[q]?) → V z H1 cb' sb' (pc + 3) lv (v.toList ++ rest)) : V z H cb sb pc lv st := by
  subst hst
  intro locs ls cells slots h1 h2 h3 h4
  refine zBehind h1b h2b hA (a := As.toArray) ?_ h1 h2 h3 h4 K
  exact va_runSN (As := As) (rest := rest) ⟨E.1, E.2.1, E.2.2.1, E.2.2.2.1, E.2.2.2.2.1⟩ (hM _) ⟨va_cnB n E.2.2.2.2.1 hw rfl rfl rfl (E.kn.nm _ hq) (E.2.2.2.2.1 _ hini) hd ⟨Nat.le_trans hfr E.2.2.2.2.2.2.2.2.1, Nat.le_trans hlo E.2.2.2.2.2.2.2.2.2.1⟩, E.2.2.2.2.1 _ hstat, trivial⟩ ⟨zKn.blind, fun U hU hW => ⟨rfl, hU, zKn.moved hW E.2.2.2.2.2.2.2.1⟩⟩ rfl hn h4.1 rfl (lv_room hrm) d
    ⟨by rw [E.2.2.2.2.2.2.2.2.2.2.1]; omega, by rw [E.2.2.2.2.2.2.2.2.2.2.2.1]; omega⟩
