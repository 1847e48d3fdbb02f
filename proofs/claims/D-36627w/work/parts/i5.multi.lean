/-! MULTIANEWARRAY of two and three dimensions as rows over V (our own; after the library's two dimensions) -/
section MULTI
def outD (c : ClassId) (N h0 w : Nat) : Nat → Cell
  | 0 => { cls := c, slots := Array.replicate N .null, vm := .none }
  | i + 1 => (outD c N h0 w i).setSlot i (.ref (h0 + 1 + i * w))
def fil3 (s : State) (c c2 c1 : ClassId) (N M K : Nat) (dv : Value) : Nat → State
  | 0 => s.pushCell (outD c N s.heap.size (1 + M) 0)
  | i + 1 => (Jvm.Free.Multi.fill (fil3 s c c2 c1 N M K dv i) c2 c1 M K dv M).setCell s.heap.size (outD c N s.heap.size (1 + M) (i + 1))
theorem outD_facts (c : ClassId) (N h0 w : Nat) : ∀ i, (outD c N h0 w i).cls = c ∧ (outD c N h0 w i).vm = .none ∧ (outD c N h0 w i).slots.size = N
  | 0 => ⟨rfl, rfl, by simp [outD]⟩
  | i + 1 => by
    obtain ⟨a, b, d⟩ := outD_facts c N h0 w i
    exact ⟨by simp [outD, Cell.setSlot, a], by simp [outD, Cell.setSlot, b], by simp [outD, Cell.setSlot, d]⟩
theorem outD_slot (c : ClassId) (N h0 w : Nat) : ∀ i j, j < N → (outD c N h0 w i).slots[j]? = some (if j < i then .ref (h0 + 1 + j * w) else .null)
  | 0, j, h => by simp [outD, h]
  | i + 1, j, h => by
    have ih := outD_slot c N h0 w i j h
    have hs := (outD_facts c N h0 w i).2.2
    show ((outD c N h0 w i).setSlot i (.ref (h0 + 1 + i * w))).slots[j]? = _
    simp only [Cell.setSlot, Array.getElem?_setIfInBounds]
    by_cases e : i = j
    · subst e; simp [hs, h]
    · rw [if_neg e, ih]
      by_cases hj : j < i
      · rw [if_pos hj, if_pos (by omega)]
      · rw [if_neg hj, if_neg (by omega)]
theorem fil3_facts (s : State) (c c2 c1 : ClassId) (N M K : Nat) (dv : Value) : ∀ i, (fil3 s c c2 c1 N M K dv i).heap.size = s.heap.size + 1 + i * (1 + M) ∧ (fil3 s c c2 c1 N M K dv i).heap[s.heap.size]? = some (outD c N s.heap.size (1 + M) i) ∧
    (fil3 s c c2 c1 N M K dv i).vm = s.vm ∧ (fil3 s c c2 c1 N M K dv i).slotsUsed = s.slotsUsed + N + i * (M + M * K)
  | 0 => ⟨by simp [fil3], by simp [fil3], rfl, by simp [fil3, outD]⟩
  | i + 1 => by
    obtain ⟨a, b, d, u⟩ := fil3_facts s c c2 c1 N M K dv i
    obtain ⟨fa, fb, fd, fu⟩ := Jvm.Free.Multi.fill_facts (fil3 s c c2 c1 N M K dv i) c2 c1 M K dv M
    have hlt : s.heap.size < (fil3 s c c2 c1 N M K dv i).heap.size := by omega
    have hb' : (Jvm.Free.Multi.fill (fil3 s c c2 c1 N M K dv i) c2 c1 M K dv M).heap[s.heap.size]? = some (outD c N s.heap.size (1 + M) i) := by rw [Jvm.Free.Multi.fill_old _ c2 c1 M K dv hlt]; exact b
    refine ⟨?_, State.heap_setCell_self hb', by show (Jvm.Free.Multi.fill (fil3 s c c2 c1 N M K dv i) c2 c1 M K dv M).vm = _; rw [fd, d], ?_⟩
    · show ((Jvm.Free.Multi.fill (fil3 s c c2 c1 N M K dv i) c2 c1 M K dv M).setCell s.heap.size _).heap.size = _
      simp only [State.setCell, Array.size_setIfInBounds, fa, a, Nat.succ_mul]
      omega
    · show (Jvm.Free.Multi.fill (fil3 s c c2 c1 N M K dv i) c2 c1 M K dv M).slotsUsed = _
      rw [fu, u, Nat.succ_mul]
      omega
theorem fil3_setTop (s : State) (f : JFrame) (c c2 c1 : ClassId) (N M K : Nat) (dv : Value) : ∀ i, fil3 (s.setTop f) c c2 c1 N M K dv i = (fil3 s c c2 c1 N M K dv i).setTop f
  | 0 => rfl
  | i + 1 => by simp only [fil3, fil3_setTop s f c c2 c1 N M K dv i, Jvm.Free.Multi.fill_setTop, State.heap_setTop, State.setCell_setTop]
theorem fil3_old (s : State) (c c2 c1 : ClassId) (N M K : Nat) (dv : Value) {a : Addr} (ha : a < s.heap.size) : ∀ i, (fil3 s c c2 c1 N M K dv i).heap[a]? = s.heap[a]?
  | 0 => State.heap_pushCell_of_lt _ _ ha
  | i + 1 => by
    have f1 := (fil3_facts s c c2 c1 N M K dv i).1
    have hlt : a < (fil3 s c c2 c1 N M K dv i).heap.size := Nat.lt_of_lt_of_le ha (by rw [f1]; omega)
    show ((Jvm.Free.Multi.fill (fil3 s c c2 c1 N M K dv i) c2 c1 M K dv M).setCell s.heap.size _).heap[a]? = _
    rw [State.heap_setCell_other (Nat.ne_of_gt ha), Jvm.Free.Multi.fill_old _ c2 c1 M K dv hlt]
    exact fil3_old s c c2 c1 N M K dv ha i
theorem fil3_in (s : State) (c c2 c1 : ClassId) (N M K : Nat) (dv : Value) : ∀ i j, j < i → (fil3 s c c2 c1 N M K dv i).heap[s.heap.size + 1 + j * (1 + M)]? = some (Jvm.Free.Multi.outerC c2 M (s.heap.size + 1 + j * (1 + M)) M) ∧
    ∀ r, r < M → (fil3 s c c2 c1 N M K dv i).heap[s.heap.size + 1 + j * (1 + M) + 1 + r]? = some (Jvm.Free.Multi.innerC c1 K dv)
  | 0, _, h => absurd h (Nat.not_lt_zero _)
  | i + 1, j, h => by
    obtain ⟨f1, -, -, -⟩ := fil3_facts s c c2 c1 N M K dv i
    obtain ⟨g1, g2, -, -⟩ := Jvm.Free.Multi.fill_facts (fil3 s c c2 c1 N M K dv i) c2 c1 M K dv M
    have key : ∀ x : Nat, s.heap.size < x → (fil3 s c c2 c1 N M K dv (i + 1)).heap[x]? = (Jvm.Free.Multi.fill (fil3 s c c2 c1 N M K dv i) c2 c1 M K dv M).heap[x]? := fun x hx => State.heap_setCell_other (Nat.ne_of_lt hx)
    rcases Nat.lt_or_ge j i with hj | hj
    · obtain ⟨i1, i2⟩ := fil3_in s c c2 c1 N M K dv i j hj
      have hm : (j + 1) * (1 + M) ≤ i * (1 + M) := Nat.mul_le_mul_right _ hj
      rw [Nat.succ_mul] at hm
      refine ⟨?_, fun r hr => ?_⟩
      · rw [key _ (by omega), Jvm.Free.Multi.fill_old _ c2 c1 M K dv (show s.heap.size + 1 + j * (1 + M) < (fil3 s c c2 c1 N M K dv i).heap.size by rw [f1]; omega)]
        exact i1
      · rw [key _ (by omega), Jvm.Free.Multi.fill_old _ c2 c1 M K dv (show s.heap.size + 1 + j * (1 + M) + 1 + r < (fil3 s c c2 c1 N M K dv i).heap.size by rw [f1]; omega)]
        exact i2 r hr
    · have e : j = i := by omega
      subst e
      rw [← f1]
      refine ⟨?_, fun r hr => ?_⟩
      · rw [key _ (by rw [f1]; omega)]
        exact g2
      · rw [key _ (by rw [f1]; omega)]
        exact Jvm.Free.Multi.fill_inner _ c2 c1 M K dv M r hr
section
variable {E : CtlPost} {e : Env} {d : Bool} {acts : List Action} {s : State}
theorem wp_make3 {c c2 c1 cc : ClassId} {k3 k2 k1 : Class} {t3 t2 type : FieldType} {n m k : Int32} (hk3 : s.vm.classes[c]? = some k3) (hkind3 : k3.kind = .array c2 t3) (href3 : t3.isReference = true)
    (hk2 : s.vm.classes[c2]? = some k2) (hkind2 : k2.kind = .array c1 t2) (href2 : t2.isReference = true) (hk1 : s.vm.classes[c1]? = some k1) (hkind1 : k1.kind = .array cc type) (hn : ¬ n < 0) (hm : ¬ m < 0) (hk : ¬ k < 0)
    (hl0 : ¬ n.toNatClampNeg > e.platform.arrayLengthLimit) (hh0 : ¬ n.toNatClampNeg * componentBytes t3 > e.platform.maxHeapBytes)
    (hl1 : ¬ m.toNatClampNeg > e.platform.arrayLengthLimit) (hh1 : ¬ m.toNatClampNeg * componentBytes t2 > e.platform.maxHeapBytes)
    (hl2 : ¬ k.toNatClampNeg > e.platform.arrayLengthLimit) (hh2 : ¬ k.toNatClampNeg * componentBytes type > e.platform.maxHeapBytes)
    (hdf : fits type (defaultValue type) = true) (hdd : (defaultValue type).isDefault = true)
    (hc : s.heap.size + 1 + n.toNatClampNeg * (1 + m.toNatClampNeg) ≤ e.platform.maxCells) (hs : s.slotsUsed + n.toNatClampNeg + n.toNatClampNeg * (m.toNatClampNeg + m.toNatClampNeg * k.toNatClampNeg) ≤ e.platform.maxSlots)
    {Q : Addr → Pre} (hq : ∀ d' acts', Q s.heap.size d' acts' (fil3 s c c2 c1 n.toNatClampNeg m.toNatClampNeg k.toNatClampNeg (defaultValue type) n.toNatClampNeg)) :
    wp (multianewarray.make c [n, m, k]) Q E e d acts s := by
  have hfind : ([m, k].find? (· < 0)) = none := by simp [hm, hk]
  rw [multianewarray.make]
  simp only [wp_bind', W.ite, hn, if_false, wp_pure', W.theClass, hk3, hkind3, Option.some.injEq, exists_eq_left']
  refine Jvm.Free.Multi.wp_newArray hk3 hkind3 hl0 hh0 (Jvm.Free.Multi.refFits href3 _ (Or.inl rfl)) rfl (by omega) (by omega) ?_
  simp only [hfind]
  rw [ite_self, wp_bind', Std.Legacy.Range.forIn_eq_forIn_range']
  have hsz : ([:n.toNatClampNeg] : Std.Legacy.Range).size = n.toNatClampNeg := by simp [Std.Legacy.Range.size]
  rw [hsz]
  show wp (forIn (List.range' 0 n.toNatClampNeg 1) PUnit.unit _) _ E e d acts _
  refine wp_forIn_inv (fun rest s' => ∃ i, i ≤ n.toNatClampNeg ∧ rest = List.range' i (n.toNatClampNeg - i) ∧ s' = fil3 s c c2 c1 n.toNatClampNeg m.toNatClampNeg k.toNatClampNeg (defaultValue type) i) _ _ ⟨0, Nat.zero_le _, rfl, rfl⟩ ?_ ?_
  · rintro x rest s' d' acts' Q' ⟨i, hi, hl, rfl⟩ hnext
    have hlt : i < n.toNatClampNeg := by
      rcases Nat.lt_or_ge i n.toNatClampNeg with h | h
      · exact h
      · rw [show n.toNatClampNeg - i = 0 from by omega] at hl; simp at hl
    obtain ⟨rfl, hrest⟩ : x = i ∧ rest = List.range' (i + 1) (n.toNatClampNeg - (i + 1)) := by
      rw [show n.toNatClampNeg - i = (n.toNatClampNeg - (i + 1)) + 1 from by omega, List.range'_succ] at hl
      exact ⟨(List.cons.inj hl).1, (List.cons.inj hl).2⟩
    obtain ⟨f1, f2, f3, f4⟩ := fil3_facts s c c2 c1 n.toNatClampNeg m.toNatClampNeg k.toNatClampNeg (defaultValue type) x
    obtain ⟨o1, o2, o3⟩ := outD_facts c n.toNatClampNeg s.heap.size (1 + m.toNatClampNeg) x
    have hmul : x * (1 + m.toNatClampNeg) + (1 + m.toNatClampNeg) ≤ n.toNatClampNeg * (1 + m.toNatClampNeg) := by
      have := Nat.mul_le_mul_right (1 + m.toNatClampNeg) (show x + 1 ≤ n.toNatClampNeg from hlt)
      rw [Nat.succ_mul] at this; exact this
    have hmul2 : x * (m.toNatClampNeg + m.toNatClampNeg * k.toNatClampNeg) + (m.toNatClampNeg + m.toNatClampNeg * k.toNatClampNeg) ≤ n.toNatClampNeg * (m.toNatClampNeg + m.toNatClampNeg * k.toNatClampNeg) := by
      have := Nat.mul_le_mul_right (m.toNatClampNeg + m.toNatClampNeg * k.toNatClampNeg) (show x + 1 ≤ n.toNatClampNeg from hlt)
      rw [Nat.succ_mul] at this; exact this
    simp only [wp_bind']
    refine Jvm.Free.Multi.wp_make2 (k := k2) (kc := k1) (by rw [f3]; exact hk2) hkind2 href2 (by rw [f3]; exact hk1) hkind1 hm hk hl1 hh1 hl2 hh2 hdf hdd (by rw [f1]; omega) (by rw [f4]; omega) (fun d2 acts2 => ?_)
    obtain ⟨g1, g2, g3, g4⟩ := Jvm.Free.Multi.fill_facts (fil3 s c c2 c1 n.toNatClampNeg m.toNatClampNeg k.toNatClampNeg (defaultValue type) x) c2 c1 m.toNatClampNeg k.toNatClampNeg (defaultValue type) m.toNatClampNeg
    have hlt0 : s.heap.size < (fil3 s c c2 c1 n.toNatClampNeg m.toNatClampNeg k.toNatClampNeg (defaultValue type) x).heap.size := by rw [f1]; omega
    simp only [wp_bind', W.writeLoc, wp_pure']
    refine ⟨outD c n.toNatClampNeg s.heap.size (1 + m.toNatClampNeg) x, by rw [Jvm.Free.Multi.fill_old _ c2 c1 _ _ _ hlt0]; exact f2, by rw [o2]; simp, by rw [o3]; exact hlt, ?_, hnext _ _ _ ⟨x + 1, hlt, hrest, ?_⟩⟩
    · rw [o1, o2]
      simp [State.fitsSlot, State.slotType?, g3, f3, hk3, hkind3, Jvm.Free.Multi.refFits href3 _ (Or.inr ⟨_, rfl⟩)]
    · rw [f1]; rfl
  · rintro s' d' acts' ⟨i, hi, hl, rfl⟩
    have hiN : i = n.toNatClampNeg := by
      rcases Nat.lt_or_ge i n.toNatClampNeg with h | h
      · rw [show n.toNatClampNeg - i = (n.toNatClampNeg - (i + 1)) + 1 from by omega, List.range'_succ] at hl; cases hl
      · omega
    subst hiN
    simp only [wp_pure']
    exact hq _ _
end
section
variable {p : Program} {l : Launch} {e : Env} {R : Room} {s : State} {m : MethodId} {args : Array Value} {below : List Frame} {meth : Method} {c : Code} {T : State} {locs : List Loc} {cells slots : Nat}
theorem std_fill3 (X : Stand p l e R s m args below meth c T locs cells slots) (c3 c2 c1 : ClassId) (N M K : Nat) (dv : Value) :
    ∀ i, Stand p l e R s m args below meth c (fil3 T c3 c2 c1 N M K dv i) locs (cells + 1 + i * (1 + M)) (slots + N + i * (M + M * K))
  | 0 => by
    have h := X.pushed (outD c3 N T.heap.size (1 + M) 0)
    rw [(outD_facts c3 N T.heap.size (1 + M) 0).2.2] at h
    simpa [fil3] using h
  | i + 1 => by
    have Xi := std_fill3 X c3 c2 c1 N M K dv i
    have X2 := Xi.filled c2 c1 M K dv M
    have X3 := X2.dropFresh (fun x hx => by obtain ⟨j, -, rfl⟩ := List.mem_map.mp hx; exact Xi.heapGrown)
    obtain ⟨f1, f2, -, -⟩ := fil3_facts T c3 c2 c1 N M K dv i
    have hlt0 : T.heap.size < (fil3 T c3 c2 c1 N M K dv i).heap.size := by rw [f1]; omega
    have hcell : (Jvm.Free.Multi.fill (fil3 T c3 c2 c1 N M K dv i) c2 c1 M K dv M).heap[T.heap.size]? = some (outD c3 N T.heap.size (1 + M) i) := by rw [Jvm.Free.Multi.fill_old _ c2 c1 _ _ _ hlt0]; exact f2
    have X4 := (X3.stored hcell i (.ref (T.heap.size + 1 + i * (1 + M)))).dropFresh (fun x hx => by rw [List.mem_singleton] at hx; subst hx; exact X.heapGrown)
    have e3 : slots + N + (i + 1) * (M + M * K) = slots + N + i * (M + M * K) + M + M * K := by rw [Nat.succ_mul]; omega
    have e4 : cells + 1 + (i + 1) * (1 + M) = cells + 1 + i * (1 + M) + 1 + M := by rw [Nat.succ_mul]; omega
    rw [e3, e4]
    exact X4
set_option maxHeartbeats 1000000 in
theorem multi3 (X : Stand p l e R s m args below meth c T locs cells slots) (hexec : p.tables.exec = Jvm.exec) {own : String} {index : Nat} {ty : FieldType}
    (hown : s.vm.findClass own = some m.cls) (hclink : (Cond.classLink own index ("[" ++ (FieldType.array (.array ty)).toString)).before args s = true)
    (hover3 : (Cond.arrayOver (.array (.array ty))).before args s = true) (hover : (Cond.arrayOver (.array ty)).before args s = true) (harr : (Cond.arrayClass ty).before args s = true)
    {g : JFrame} (hg : g.method = m) (hdg : decode c.code g.pc = .ok (.multianewarray index 3, 4)) {n m' k : Int32} {rest : List Value} (hstack : g.stack = .int k :: .int m' :: .int n :: rest)
    (hn : ¬ n < 0) (hm : ¬ m' < 0) (hk : ¬ k < 0) (hb0 : n.toNatClampNeg * 4 ≤ 536870912) (hb1 : m'.toNatClampNeg * 4 ≤ 536870912) (hb2 : k.toNatClampNeg * componentBytes ty ≤ 536870912) (hb3 : k.toNatClampNeg ≤ 536870912)
    (hdf : fits ty (defaultValue ty) = true) (hdd : (defaultValue ty).isDefault = true)
    (hcells : cells + (1 + n.toNatClampNeg * (1 + m'.toNatClampNeg)) ≤ R.cells) (hslots : slots + (n.toNatClampNeg + n.toNatClampNeg * (m'.toNatClampNeg + m'.toNatClampNeg * k.toNatClampNeg)) ≤ R.slots) :
    ∃ (vm₁ : Vm) (c3 c2 c1 : ClassId), s.vm.findClass ("[" ++ (FieldType.array (.array ty)).toString) = some c3 ∧ s.vm.findClass (FieldType.array (.array ty)).toString = some c2 ∧ s.vm.findClass (FieldType.array ty).toString = some c1 ∧
      Stand p l e R s m args below meth c (fil3 (T.setVm vm₁) c3 c2 c1 n.toNatClampNeg m'.toNatClampNeg k.toNatClampNeg (defaultValue ty) n.toNatClampNeg) locs (cells + 1 + n.toNatClampNeg * (1 + m'.toNatClampNeg)) (slots + n.toNatClampNeg + n.toNatClampNeg * (m'.toNatClampNeg + m'.toNatClampNeg * k.toNatClampNeg)) ∧
      ∀ target, Steps p.tables e below ((fil3 (T.setVm vm₁) c3 c2 c1 n.toNatClampNeg m'.toNatClampNeg k.toNatClampNeg (defaultValue ty) n.toNatClampNeg).setTop { g with pc := g.pc + 4, stack := .ref T.heap.size :: rest }) target →
        Steps p.tables e below (T.setTop g) target := by
  subst hg
  have hpl : e.platform.magicAccessors = ({} : Platform).magicAccessors := by rw [X.admits.platform]
  obtain ⟨c2, c3, k3, hcomp3, hk3, hkind3, hname3⟩ := Cond.arrayOver_specA hover3
  obtain ⟨c1, c2', k2, hcomp2, hk2, hkind2, hname2⟩ := Cond.arrayOver_specA hover
  obtain ⟨c1', k1, cc, hcomp1, hk1, hkind1⟩ := Cond.arrayClass_spec harr
  have e2 : c2' = c2 := Option.some.inj (hname2.symm.trans hcomp3)
  subst e2
  have e1 : c1' = c1 := Option.some.inj (hcomp1.symm.trans hcomp2)
  subst e1
  obtain ⟨c0, hfc0, hcl⟩ := Cond.classLink_spec hown hclink e.platform hpl
  cases hname3.symm.trans hfc0
  obtain ⟨hg₁, hwarm₁, hready₁⟩ := State.classEntry (e := e) X.warmed hcl
  generalize T.vm.noted g.method.cls index (.cls c3) = vm₁ at hg₁ hwarm₁ hready₁
  have hal : s.vm.Alike vm₁ := hwarm₁.alike
  obtain ⟨k3₁, hk3₁, he3⟩ := hal.2.2 _ _ hk3
  obtain ⟨k2₁, hk2₁, he2⟩ := hal.2.2 _ _ hk2
  obtain ⟨k1₁, hk1₁, he1⟩ := hal.2.2 _ _ hk1
  have hkind3₁ : k3₁.kind = .array c2' (.array (.array ty)) := by rw [he3]; exact hkind3
  have hkind2₁ : k2₁.kind = .array c1' (.array ty) := by rw [he2]; exact hkind2
  have hkind1₁ : k1₁.kind = .array cc ty := by rw [he1]; exact hkind1
  have X₁ := X.noted hwarm₁
  obtain ⟨hr1, hr2⟩ := X.roomAbove hcells hslots
  have XF := std_fill3 X₁ c3 c2' c1' n.toNatClampNeg m'.toNatClampNeg k.toNatClampNeg (defaultValue ty) n.toNatClampNeg
  refine ⟨vm₁, c3, c2', c1', hname3, hcomp3, hcomp2, XF, fun target hrest => ?_⟩
  have hl0 : ¬ n.toNatClampNeg > e.platform.arrayLengthLimit := by rw [Launch.admits_arrayLengthLimit X.admits]; omega
  have hh0 : ¬ n.toNatClampNeg * componentBytes (.array (.array ty)) > e.platform.maxHeapBytes := by
    rw [Launch.admits_maxHeapBytes X.admits]; show ¬ n.toNatClampNeg * 4 > 536870912; omega
  have hl1 : ¬ m'.toNatClampNeg > e.platform.arrayLengthLimit := by rw [Launch.admits_arrayLengthLimit X.admits]; omega
  have hh1 : ¬ m'.toNatClampNeg * componentBytes (.array ty) > e.platform.maxHeapBytes := by
    rw [Launch.admits_maxHeapBytes X.admits]; show ¬ m'.toNatClampNeg * 4 > 536870912; omega
  have hl2 : ¬ k.toNatClampNeg > e.platform.arrayLengthLimit := by rw [Launch.admits_arrayLengthLimit X.admits]; omega
  have hh2 : ¬ k.toNatClampNeg * componentBytes ty > e.platform.maxHeapBytes := by rw [Launch.admits_maxHeapBytes X.admits]; omega
  jvm_step X.here [hexec, hdg]
  simp only [multianewarray.sem, wp_bind', W.resolveClassAt_links (State.method?_setTop g X.here.top) hg₁]
  rw [W.popN, if_neg (by decide)]
  refine ⟨g, State.topJava?_setTop' (s := T.setVm vm₁) g X.here.top, [.int n, .int m', .int k], rest, rfl, hstack, ?_⟩
  simp only [List.mapM_cons, List.mapM_nil, wp_bind', wp_pure']
  refine wp_make3 (k3 := k3₁) (k2 := k2₁) (k1 := k1₁) (t3 := .array (.array ty)) (t2 := .array ty) (type := ty) hk3₁ hkind3₁ rfl hk2₁ hkind2₁ rfl hk1₁ hkind1₁ hn hm hk hl0 hh0 hl1 hh1 hl2 hh2 hdf hdd (by show T.heap.size + 1 + _ ≤ _; omega) (by show T.slotsUsed + _ + _ ≤ _; omega) (fun d' acts' => ?_)
  have eS : ((T.setTop g).setVm vm₁).setTop { g with stack := rest } = (T.setVm vm₁).setTop { g with stack := rest } := by
    show ((T.setVm vm₁).setTop g).setTop _ = _
    rw [State.setTop_setTop]
  rw [eS, fil3_setTop]
  simp only [wp_bind', W.mark, W.pushRef, State.topJava?_setTop' _ XF.here.top, Option.some.injEq, exists_eq_left', State.setTop_setTop, State.heap_setTop]
  intro acts
  simp [jvm, XF.here.top]
  exact hrest
end
end MULTI
