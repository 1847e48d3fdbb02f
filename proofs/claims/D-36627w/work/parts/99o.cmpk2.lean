/-! THE COMPONENT: Known -/
def cDvs (P : Pl) : Pl := sq P (seqLen P - 1)
def cFree (P : Pl) : Pl := cPos (cQuo (sq P 0) (cDvs P))
def fsL (P : Pl) : Nat := if (cDvs P).1 = 1 then seqLen P else seqLen (cFree P)
def fsq (P : Pl) : Nat → Pl := if (cDvs P).1 = 1 then sq P else sq (cFree P)
/-- only the Known k changed, of the old cells -/
def kS (κ : zK) (H H1 : Heap) (k : Nat) : Prop := κ.2 93 ≤ k ∧ H.size ≤ H1.size ∧ (∀ q : Nat, q < H.size → q ≠ k → H1[q]? = H[q]?) ∧ (∃ fs, hp κ H k (.inr (1, fs))) ∧ ∃ fs, hp κ H1 k (.inr (1, fs))
theorem CO.ks {κ : zK} {H H1 : Heap} {k : Nat} (h : CO κ H) (hS : kS κ H H1 k) : CO κ H1 := h.call (A := fun q => q = k) (fun q e => by rw [e]; exact hS.1) hS.2.1 (fun q h1 h2 => hS.2.2.1 q h1 h2)
theorem kS.obj {κ : zK} {H H1 : Heap} {k a ci : Nat} {fs : List Value} (hC : CO κ H) (hS : kS κ H H1 k) (h : hp κ H a (.inr (ci, fs))) (hi : ci < 10) (h1 : ci ≠ 1) : hp κ H1 a (.inr (ci, fs)) := by
  obtain ⟨gs, hg⟩ := hS.2.2.2.1
  exact h.kept (hS.2.2.1 a h.lt (hp.kk hC.D h hg hi (by decide) h1))
theorem kS.arr {κ : zK} {H H1 : Heap} {k a t : Nat} {x : vp_A} (hC : CO κ H) (hS : kS κ H H1 k) (h : hp κ H a (.inl (κ.2 t, x))) (ht : t < 6) : H1[a]? = H[a]? := by
  obtain ⟨gs, hg⟩ := hS.2.2.2.1
  exact hS.2.2.1 a h.lt (Ne.symm (hp.ka hC.D hg h (by decide) ht))
theorem oA.ks {κ : zK} {H H1 : Heap} {k v : Nat} (hC : CO κ H) (hS : kS κ H H1 k) (h : oA κ H v) : oA κ H1 v := by
  obtain ⟨ci, fs, h1, h2⟩ := h
  by_cases e : v = k
  · subst e
    obtain ⟨gs, hg⟩ := hS.2.2.2.2
    exact ⟨1, gs, hg, Or.inl rfl⟩
  · exact ⟨ci, fs, h1.kept (hS.2.2.1 v h1.lt e), h2⟩
theorem BI.ks {κ : zK} {H H1 : Heap} {k a : Nat} {x : Int} (hC : CO κ H) (hS : kS κ H H1 k) (h : BI κ H a x) : BI κ H1 a x := by
  obtain ⟨m, n, cf, h1⟩ := h
  obtain ⟨c1, c2, c3, g⟩ := h1.1
  obtain ⟨gs, hg⟩ := hS.2.2.2.1
  exact ⟨m, n, cf, h1.kept (hS.2.2.1 a g.lt (hp.kk hC.D g hg (by decide) (by decide) (by decide))) (kS.arr hC hS h1.2.1 (by decide))⟩
theorem AL.ks {κ : zK} {H H1 : Heap} {k l b n cap : Nat} {md : Int} {g : Nat → Option Nat} (hC : CO κ H) (hS : kS κ H H1 k) (h : AL κ H l b md n cap g) : AL κ H1 l b md n cap g := by
  obtain ⟨h1, h2, h3, h4, h5, h6, h7, h8⟩ := h
  exact ⟨kS.obj hC hS h1 (by decide) (by decide), h2.kept (kS.arr hC hS h2 (by decide)), h3, h4, h5, h6, fun k hk => (h7 k hk).elim (fun y hy => ⟨y, hy.1, hy.2.ks hC hS⟩), h8⟩
theorem RL.ks {κ : zK} {D : Nat → Prop} {H H1 : Heap} {k l n : Nat} {c : Nat → Int} (hC : CO κ H) (hS : kS κ H H1 k) (h : RL κ D H l n c) : RL κ D H1 l n c := by
  obtain ⟨b, cap, md, g, h1, h2, h3⟩ := h
  exact ⟨b, cap, md, g, h1.ks hC hS, fun k hk => (h2 k hk).elim (fun y hy => ⟨y, hy.1, hy.2.ks hC hS⟩), h3⟩
theorem Po.ks {κ : zK} {D : Nat → Prop} {H H1 : Heap} {k p : Nat} {P : Pl} (hC : CO κ H) (hS : kS κ H H1 k) (h : Po κ D H p P) : Po κ D H1 p P := by
  obtain ⟨h1, h2, l, h3, h4⟩ := h
  exact ⟨h1, h2, l, kS.obj hC hS h3 (by decide) (by decide), h4.ks hC hS⟩
theorem SQ.ks {κ : zK} {D : Nat → Prop} {H H1 : Heap} {k l n : Nat} {s : Nat → Pl} (hC : CO κ H) (hS : kS κ H H1 k) (h : SQ κ D H l n s) : SQ κ D H1 l n s := by
  obtain ⟨b, cap, md, g, h1, h2, h3⟩ := h
  exact ⟨b, cap, md, g, h1.ks hC hS, fun k hk => (h2 k hk).elim (fun y hy => ⟨y, hy.1, hy.2.ks hC hS⟩), h3⟩
/-- the three fields that are filled when they are asked for -/
def KQ (κ : zK) (D : Nat → Prop) (P : Pl) (H : Heap) (v : Value) : Prop := v = .null ∨ ∃ l, v = .ref l ∧ SQ κ D H l (seqLen P) (sq P)
def KF (κ : zK) (D : Nat → Prop) (P : Pl) (H : Heap) (v : Value) : Prop := v = .null ∨ ∃ r, v = .ref r ∧ Po κ D H r (cFree P)
def KG (κ : zK) (D : Nat → Prop) (P : Pl) (H : Heap) (v : Value) : Prop := v = .null ∨ ∃ l, v = .ref l ∧ SQ κ D H l (fsL P) (fsq P)
theorem KQ.kf {κ : zK} {D : Nat → Prop} {P : Pl} {H H1 : Heap} {A : Nat → Prop} {v : Value} (hC : CO κ H) (hF : kF κ H H1 A) (ha : aD κ H A D) (h : KQ κ D P H v) : KQ κ D P H1 v := h.imp id (fun ⟨l, e, h⟩ => ⟨l, e, h.kf hC hF ha⟩)
theorem KF.kf {κ : zK} {D : Nat → Prop} {P : Pl} {H H1 : Heap} {A : Nat → Prop} {v : Value} (hC : CO κ H) (hF : kF κ H H1 A) (ha : aD κ H A D) (h : KF κ D P H v) : KF κ D P H1 v := h.imp id (fun ⟨l, e, h⟩ => ⟨l, e, h.kf hC hF ha⟩)
theorem KG.kf {κ : zK} {D : Nat → Prop} {P : Pl} {H H1 : Heap} {A : Nat → Prop} {v : Value} (hC : CO κ H) (hF : kF κ H H1 A) (ha : aD κ H A D) (h : KG κ D P H v) : KG κ D P H1 v := h.imp id (fun ⟨l, e, h⟩ => ⟨l, e, h.kf hC hF ha⟩)
theorem KQ.ks {κ : zK} {D : Nat → Prop} {P : Pl} {H H1 : Heap} {k : Nat} {v : Value} (hC : CO κ H) (hS : kS κ H H1 k) (h : KQ κ D P H v) : KQ κ D P H1 v := h.imp id (fun ⟨l, e, h⟩ => ⟨l, e, h.ks hC hS⟩)
theorem KF.ks {κ : zK} {D : Nat → Prop} {P : Pl} {H H1 : Heap} {k : Nat} {v : Value} (hC : CO κ H) (hS : kS κ H H1 k) (h : KF κ D P H v) : KF κ D P H1 v := h.imp id (fun ⟨l, e, h⟩ => ⟨l, e, h.ks hC hS⟩)
theorem KG.ks {κ : zK} {D : Nat → Prop} {P : Pl} {H H1 : Heap} {k : Nat} {v : Value} (hC : CO κ H) (hS : kS κ H H1 k) (h : KG κ D P H v) : KG κ D P H1 v := h.imp id (fun ⟨l, e, h⟩ => ⟨l, e, h.ks hC hS⟩)
theorem KQ.mono {κ : zK} {D D' : Nat → Prop} {P : Pl} {H : Heap} {v : Value} (h : KQ κ D P H v) (hD : ∀ q, q < H.size → D q → D' q) : KQ κ D' P H v := h.imp id (fun ⟨l, e, h⟩ => ⟨l, e, h.mono hD⟩)
theorem KF.mono {κ : zK} {D D' : Nat → Prop} {P : Pl} {H : Heap} {v : Value} (h : KF κ D P H v) (hD : ∀ q, q < H.size → D q → D' q) : KF κ D' P H v := h.imp id (fun ⟨l, e, h⟩ => ⟨l, e, h.mono hD⟩)
theorem KG.mono {κ : zK} {D D' : Nat → Prop} {P : Pl} {H : Heap} {v : Value} (h : KG κ D P H v) (hD : ∀ q, q < H.size → D q → D' q) : KG κ D' P H v := h.imp id (fun ⟨l, e, h⟩ => ⟨l, e, h.mono hD⟩)
/-- what is known of a polynomial; b: its sequence has been asked -/
def Kn (κ : zK) (D : Nat → Prop) (H : Heap) (k : Nat) (P : Pl) (b : Bool) : Prop := nf P ∧ κ.2 93 ≤ k ∧ ∃ (p : Nat) (vs vf vg : Value), hp κ H k (.inr (1, [.ref p, vs, vf, vg])) ∧ Po κ D H p P ∧ KQ κ D P H vs ∧ KF κ D P H vf ∧ KG κ D P H vg ∧ (b = true → vs ≠ .null)
theorem Kn.kf {κ : zK} {D : Nat → Prop} {H H1 : Heap} {A : Nat → Prop} {k : Nat} {P : Pl} {b : Bool} (hC : CO κ H) (hF : kF κ H H1 A) (ha : aD κ H A D) (h : Kn κ D H k P b) : Kn κ D H1 k P b := by
  obtain ⟨h1, h2, p, vs, vf, vg, h3, h4, h5, h6, h7, h8⟩ := h
  exact ⟨h1, h2, p, vs, vf, vg, hF.at h3 (hF.obj hC.D h3 (by decide)), h4.kf hC hF ha, h5.kf hC hF ha, h6.kf hC hF ha, h7.kf hC hF ha, h8⟩
/-- another Known -/
theorem Kn.ks {κ : zK} {D : Nat → Prop} {H H1 : Heap} {j k : Nat} {P : Pl} {b : Bool} (hC : CO κ H) (hS : kS κ H H1 j) (hn : k ≠ j) (h : Kn κ D H k P b) : Kn κ D H1 k P b := by
  obtain ⟨h1, h2, p, vs, vf, vg, h3, h4, h5, h6, h7, h8⟩ := h
  exact ⟨h1, h2, p, vs, vf, vg, h3.kept (hS.2.2.1 k h3.lt hn), h4.ks hC hS, h5.ks hC hS, h6.ks hC hS, h7.ks hC hS, h8⟩
theorem Kn.mono {κ : zK} {D D' : Nat → Prop} {H : Heap} {k : Nat} {P : Pl} {b : Bool} (h : Kn κ D H k P b) (hD : ∀ q, q < H.size → D q → D' q) : Kn κ D' H k P b := by
  obtain ⟨h1, h2, p, vs, vf, vg, h3, h4, h5, h6, h7, h8⟩ := h
  exact ⟨h1, h2, p, vs, vf, vg, h3, h4.mono hD, h5.mono hD, h6.mono hD, h7.mono hD, h8⟩
theorem Kn.less {κ : zK} {D : Nat → Prop} {H : Heap} {k : Nat} {P : Pl} {b : Bool} (h : Kn κ D H k P b) : Kn κ D H k P false := by
  obtain ⟨h1, h2, p, vs, vf, vg, h3, h4, h5, h6, h7, h8⟩ := h
  exact ⟨h1, h2, p, vs, vf, vg, h3, h4, h5, h6, h7, fun h => by cases h⟩
theorem Kn.oA {κ : zK} {D : Nat → Prop} {H : Heap} {k : Nat} {P : Pl} {b : Bool} (h : Kn κ D H k P b) : oA κ H k := by
  obtain ⟨h1, h2, p, vs, vf, vg, h3, _⟩ := h
  exact ⟨1, _, h3, Or.inl rfl⟩
theorem Kn.cl {κ : zK} {D : Nat → Prop} {H : Heap} {k : Nat} {P : Pl} {b : Bool} (h : Kn κ D H k P b) : ∃ fs, hp κ H k (.inr (1, fs)) := by
  obtain ⟨h1, h2, p, vs, vf, vg, h3, _⟩ := h
  exact ⟨_, h3⟩
theorem Kn.new {κ : zK} {D : Nat → Prop} {H : Heap} {k p : Nat} {P : Pl} (h93 : κ.2 93 ≤ k) (h : hp κ H k (.inr (1, [.ref p, .null, .null, .null]))) (hP : Po κ D H p P) : Kn κ D H k P false := ⟨hP.1, h93, p, .null, .null, .null, h, hP, Or.inl rfl, Or.inl rfl, Or.inl rfl, fun h => by cases h⟩
theorem kS.of {κ : zK} {D : Nat → Prop} {H H1 : Heap} {k : Nat} {P : Pl} {b b' : Bool} (h : Kn κ D H k P b) (h1 : Kn κ D H1 k P b') (hz : H.size ≤ H1.size) (hk : ∀ q : Nat, q < H.size → ¬ q = k → H1[q]? = H[q]?) : kS κ H H1 k := ⟨h.2.1, hz, hk, h.cl, h1.cl⟩
def bC (b : Bool) (x : Nat) : Nat := if b then 0 else x
set_option maxHeartbeats 400000 in
set_option maxRecDepth 100000 in
/-- Known(poly) -/
theorem k_init (κ : zK) (H0 : Heap) {k p : Nat} (ho : hp κ H0 k (.inr (1, [.null, .null, .null, .null])))  : Mt κ yX2_init cX2_init 2 (none) 1 12 0 0 H0 [.ref k, .ref p] (fun q => q = k) (fun v H1 => v = none ∧ hp κ H1 k (.inr (1, [.ref p, .null, .null, .null]))) := by
  refine Mt.of (by decide) (Nat.le_of_ble_eq_true rfl) ?_
  intro z E hE hH0 hA0 hL hini
  have hini := hini rfl
  have hAll : ∀ q, (fun q => q = k) q → zA z.A z.H0 q := fun q h => Or.inl (by rw [hA0]; exact h)
  have hNew : ∀ q, H0.size ≤ q → zA z.A z.H0 q := fun q h => Or.inr (by rw [hH0]; exact h)
  have E : zOK z cX2_init RX2 κ 1 12 (none) := E
  refine V.eqL (lv' := [(0, .ref k), (1, .ref p)]) rfl ?_
  refine v_aload_n E 0 rfl dX2_init_0 ?_
  refine v_objInit E q193 q111 q112 dX2_init_1 (by decide) (Nat.le_of_ble_eq_true rfl) ?_
  refine v_aload_n E 0 rfl dX2_init_4 ?_
  refine v_aload_n E 1 rfl dX2_init_5 ?_
  refine v_putfF E hini in_X2 tyX2 tyX2_ok nmX2 ho (ci := 1) rfl 0 (Nat.le_of_ble_eq_true rfl) q194 rfl rfl rfl rfl rfl (Nat.le_of_ble_eq_true rfl) (hAll _ rfl) dX2_init_6 (fun H_3 ho_1 hs_2 => ?_)
  have ho_1 : hp κ H_3 k (.inr (1, [.ref p, .null, .null, .null])) := ho_1
  refine v_vret E hE dX2_init_9 ?_
  exact ⟨rfl, ho_1⟩
