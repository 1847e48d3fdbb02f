/-! THE MODEL's REGION is chosen when the model is made: only κ.2 91 and κ.2 92 change -/
def zR (κ : zK) (a b : Nat) : zK := (κ.1, fun j => if j = 91 then a else if j = 92 then b else κ.2 j)
section REGION
variable {κ : zK} {H : Heap} {a b : Nat}
theorem zR_at (j : Nat) (h1 : j ≠ 91) (h2 : j ≠ 92) : (zR κ a b).2 j = κ.2 j := by show (if j = 91 then a else if j = 92 then b else κ.2 j) = _; rw [if_neg h1, if_neg h2]
theorem BJ.kx {x m n : Nat} {cf v : Int} (hs : H.size ≤ a) (h : BJ κ H x m n cf v) : BJ (zR κ a b) H x m n cf v := by
  have hl := h.lt.2
  obtain ⟨h1, h2, h3, h4, h5⟩ := h
  exact ⟨h1, h2, h3, h4, Or.inl (show m < a by omega)⟩
theorem BI.kx {x : Nat} {v : Int} (hs : H.size ≤ a) (h : BI κ H x v) : BI (zR κ a b) H x v := by
  obtain ⟨m, n, cf, h⟩ := h
  exact ⟨m, n, cf, h.kx hs⟩
theorem AL.kx {l bb n cap : Nat} {md : Int} {g : Nat → Option Nat} (h : AL κ H l bb md n cap g) : AL (zR κ a b) H l bb md n cap g := h
theorem RL.kx {D : Nat → Prop} {l n : Nat} {c : Nat → Int} (hs : H.size ≤ a) (h : RL κ D H l n c) : RL (zR κ a b) D H l n c := by
  obtain ⟨bb, cap, md, g, h1, h2, h3⟩ := h
  exact ⟨bb, cap, md, g, h1.kx, fun k hk => (h2 k hk).elim (fun y hy => ⟨y, hy.1, hy.2.kx hs⟩), h3⟩
theorem Po.kx {D : Nat → Prop} {p : Nat} {P : Pl} (hs : H.size ≤ a) (h : Po κ D H p P) : Po (zR κ a b) D H p P := by
  obtain ⟨h1, h2, l, h3, h4⟩ := h
  exact ⟨h1, h2, l, h3, h4.kx hs⟩
theorem SQ.kx {D : Nat → Prop} {l n : Nat} {s : Nat → Pl} (hs : H.size ≤ a) (h : SQ κ D H l n s) : SQ (zR κ a b) D H l n s := by
  obtain ⟨bb, cap, md, g, h1, h2, h3⟩ := h
  exact ⟨bb, cap, md, g, h1.kx, fun k hk => (h2 k hk).elim (fun y hy => ⟨y, hy.1, hy.2.kx hs⟩), h3⟩
theorem Kn.kx {D : Nat → Prop} {k : Nat} {P : Pl} {bo : Bool} (hs : H.size ≤ a) (h : Kn κ D H k P bo) : Kn (zR κ a b) D H k P bo := by
  obtain ⟨h1, h2, p, vs, vf, vg, h3, h4, h5, h6, h7, h8⟩ := h
  exact ⟨h1, h2, p, vs, vf, vg, h3, h4.kx hs, h5.imp id (fun ⟨l, e, h⟩ => ⟨l, e, h.kx hs⟩), h6.imp id (fun ⟨l, e, h⟩ => ⟨l, e, h.kx hs⟩), h7.imp id (fun ⟨l, e, h⟩ => ⟨l, e, h.kx hs⟩), h8⟩
theorem CS.kx {D : Nat → Prop} {x ls bs li bi : Nat} {al : Nat → Nat} {iso : Option Nat} {T : Nat → Pl} {n cap : Nat} {iv : Nat → Ivl} (hs : H.size ≤ a) (h : CS κ D H x ls bs li bi al iso T n cap iv) : CS (zR κ a b) D H x ls bs li bi al iso T n cap iv := by
  obtain ⟨h0, h1, ⟨md, g, h2, h3⟩, ⟨md2, g2, h4, h5⟩, h6, h7⟩ := h
  exact ⟨h0, h1, ⟨md, g, h2.kx, h3⟩, ⟨md2, g2, h4.kx, h5⟩, fun k hk => (h6 k hk).kx hs, fun k hk => (h7 k hk).kx hs⟩
theorem CP.kx {x : Nat} {S : Nat → Pl} {isoP : Option Pl} {n cap : Nat} {iv : Nat → Ivl} (hs : H.size ≤ a) (h : CP κ H x S isoP n cap iv) : CP (zR κ a b) H x S isoP n cap iv := by
  obtain ⟨ls, bs, li, bi, al, iso, T, h1, h2⟩ := h
  exact ⟨ls, bs, li, bi, al, iso, T, h1.kx hs, h2⟩
theorem zDist.kx (h : zDist κ) : zDist (zR κ a b) := by
  have e : ∀ i, i < 6 → (zR κ a b).2 i = κ.2 i := fun i hi => zR_at i (by omega) (by omega)
  obtain ⟨h1, h2, h3⟩ := h
  exact ⟨h1, fun i j hi hj q => h2 i j hi hj (by rw [e i hi, e j hj] at q; exact q), fun i j hi hj => by rw [e j hj]; exact h3 i j hi hj⟩
theorem zSL.kx {U : State} (h : zSL κ U) : zSL (zR κ a b) U := fun k q hk => by
  have k4 : k < 4 := by
    have := (List.getElem?_eq_some_iff.mp hk).1
    exact this
  rw [zR_at (100 + 2 * k) (by omega) (by omega), zR_at (101 + 2 * k) (by omega) (by omega)]
  exact h k q hk
theorem zKn.kx {U : State} (h : zKn κ U) : zKn (zR κ a b) U := by
  obtain ⟨h1, n1, n2, n3, n4, n5, n6, n7, n8, n9⟩ := h
  exact ⟨h1, n1, n2, n3, n4, n5, n6, n7, n8, n9.kx⟩
theorem zOK.kx {z : zT} {cc : ByteArray} {own : String} {fr lo : Nat} {ret : Option FieldType} (h : zOK z cc own κ fr lo ret) : zOK z cc own (zR κ a b) fr lo ret := by
  obtain ⟨h1, h2, h3, h4, h5, h6, h7, h8, h9⟩ := h
  exact ⟨h1, h2, h3, h4, h5, h6, h7, h8.kx, h9⟩
theorem zs.kx {k : Nat} {v : Value} (h : zs κ H k v) (hk : k < 40) : zs (zR κ a b) H k v := by
  have hk4 : k = 0 ∨ k ≠ 0 := by omega
  unfold zs at *
  rw [zR_at (100 + 2 * k) (by omega) (by omega), zR_at (101 + 2 * k) (by omega) (by omega)]
  exact h
theorem CO.kx (ha : κ.2 93 ≤ a) (hb : b ≤ H.size) (h : CO κ H) : CO (zR κ a b) H := by
  obtain ⟨hd, h0, hj, h1, h2, h3, h4, h5, h6, h7, h8, h9, h10⟩ := h
  have ha := nle ha
  have key : ∀ j, cJ j → (zR κ a b).2 j = κ.2 j := fun j c => zR_at j (fun e => by subst e; revert c; decide) (fun e => by subst e; revert c; decide)
  have bj : ∀ {x m n : Nat} {cf v : Int}, m < κ.2 93 → BJ κ H x m n cf v → BJ (zR κ a b) H x m n cf v := fun hm h => by
    obtain ⟨g1, g2, g3, g4, g5⟩ := h
    exact ⟨g1, g2, g3, g4, Or.inl (Nat.lt_of_lt_of_le hm ha)⟩
  refine ⟨hd.kx, h0, fun j c => by rw [key j c]; exact hj j c, h1.kx (by decide), h2.kx (by decide), h3.kx (by decide), h4.kx (by decide), h5, ?_, ?_, bj (hj 94 (by decide)) h8, fun k hk1 hk2 => ?_, hb⟩
  · exact eR_congr h6 (fun k hk => by
      by_cases c : k = 0
      · rw [if_pos c, if_pos c]
      · rw [if_neg c, if_neg c, zR_at (200 + k) (by omega) (by omega)])
  · exact eR_congr h7 (fun k hk => by
      by_cases c : k = 0
      · rw [if_pos c, if_pos c]
      · rw [if_neg c, if_neg c, zR_at (250 + k) (by omega) (by omega)])
  · rw [zR_at (200 + k) (by omega) (by omega), zR_at (250 + k) (by omega) (by omega), zR_at (300 + k) (by omega) (by omega), zR_at (350 + k) (by omega) (by omega)]
    exact ⟨bj (hj _ (by unfold cJ; omega)) (h9 k hk1 hk2).1, bj (hj _ (by unfold cJ; omega)) (h9 k hk1 hk2).2⟩
end REGION
