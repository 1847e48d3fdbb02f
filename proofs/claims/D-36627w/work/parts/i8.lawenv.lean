/-! THE LAW's STATE between two calls, and what a call leaves of it -/
/-- an int as it comes back -/
def rp (z : Int) : Int := (iZ z).toInt
theorem vi_rp (z : Int) : vi z = vi (rp z) := by show Value.int (iZ z) = Value.int (iZ (iZ z).toInt); rw [← iZ_of]
theorem rp_r (z : Int) : rI (rp z) := rI_of _
theorem rp_id {z : Int} (h : rI z) : rp z = z := iZ_toInt h
def rpJ (z : Int) : Int := (jZ z).toInt
theorem vj_rp (z : Int) : vj z = vj (rpJ z) := by show Value.long (jZ z) = Value.long (jZ (jZ z).toInt); rw [← jZ_of]
theorem rpJ_r (z : Int) : rJ (rpJ z) := rJ_of _
theorem nle {a b : Nat} (h : a ≤ b) : a ≤ b := h
section LAWENV
variable {κ : zK} {ad : Nat → Nat} {a1 a2 a3 a4 x oa a0 N c : Nat} {fS : Nat → Int} {H H1 H2 : Heap}
def lwE (κ : zK) (ad : Nat → Nat) (a1 a2 a3 a4 oa a0 : Nat) : Prop := Inj ad ∧ regM κ ad a1 a2 a3 a4 ∧ oa ≥ κ.2 92 ∧ a0 < κ.2 93
def lwI (κ : zK) (ad : Nat → Nat) (a1 a2 a3 a4 x oa a0 N : Nat) (fS : Nat → Int) (c : Nat) (H : Heap) : Prop :=
  CO κ H ∧ hp κ H a0 (eI κ N fS) ∧ (∃ g : Nat → Int, hp κ H oa (eJ κ 1 g)) ∧
  ∃ (Sc : Nat → Pl) (isoP : Option Pl) (n cap : Nat) (iv : Nat → Ivl) (Sm : Nat → Nat → Int) (K F : Nat → Int) (many thr : Int) (lv lo hi rt : Nat → Int) (P : Nat → Nat → Int) (f g mk : Nat → Int) (len : Int),
    CP κ H x Sc isoP n cap iv ∧ MB κ ad P f g mk Sm K thr len many a1 a2 a3 a4 H ∧ LV κ ad a1 a2 a3 a4 64 lv lo hi rt H ∧ relS Sc Sm ∧ relI c isoP K F n iv many lv lo hi rt ∧ eq7 (P 7) F ∧ cap ≤ 200
theorem CP.hx {Sc : Nat → Pl} {isoP : Option Pl} {n cap : Nat} {iv : Nat → Ivl} (h : CP κ H x Sc isoP n cap iv) : ∃ fs, hp κ H x (.inr (0, fs)) := by
  obtain ⟨ls, bs, li, bi, a, iso, T, h1, h2⟩ := h
  exact ⟨_, h1.2.1⟩
theorem kW.outw (hD : zDist κ) {g : Nat → Int} {o : Nat} (hs : zSame H H1 o) (ho : hp κ H o (eJ κ 1 g)) : kW κ H H1 := ⟨Nat.le_of_eq hs.1.symm, fun q hq => hs.2 q (fun e => by subst e; exact cm_no hD hq (Or.inr (Or.inl ⟨1, g, ho⟩)))⟩
theorem hk_CP (hD : zDist κ) {Sc : Nat → Pl} {isoP : Option Pl} {n cap : Nat} {iv : Nat → Ivl} {g : Nat → Int} : ∀ H1 H2, CP κ H1 x Sc isoP n cap iv → zSame H1 H2 oa → hp κ H1 oa (eJ κ 1 g) → CP κ H2 x Sc isoP n cap iv := fun _ _ h hs ho => h.kw (kW.outw hD hs ho)
variable {P : Nat → Nat → Int} {f g mk : Nat → Int} {S : Nat → Nat → Int} {K : Nat → Int} {thr len many : Int} {cap9 : Nat} {lv lo hi rt : Nat → Int}
theorem lwE.ne (hE : lwE κ ad a1 a2 a3 a4 oa a0) {i : Nat} (hi : uA i) : ad i ≠ oa ∧ ad i ≠ a0 ∧ ad i ≥ κ.2 93 := by
  obtain ⟨_, ⟨h1, h2, _⟩, h4, h5⟩ := hE
  have g1 := nle (h2 i hi).1
  have g2 := (h2 i hi).2
  have g3 := nle h1
  exact ⟨by omega, by omega, by omega⟩
theorem lwE.nq (hE : lwE κ ad a1 a2 a3 a4 oa a0) {q : Nat} (hq : AI ad a1 a2 a3 a4 q) : q ≠ oa ∧ q ≠ a0 ∧ q ≥ κ.2 93 := by
  rcases hq with ⟨i, hi, rfl⟩ | hq
  · exact hE.ne hi
  · obtain ⟨_, ⟨h1, _, h3⟩, h4, h5⟩ := hE
    have g1 := nle (h3 q hq).1
    have g2 := (h3 q hq).2
    have g3 := nle h1
    exact ⟨by omega, by omega, by omega⟩
/-- behind a call of the component -/
theorem lw_c (hE : lwE κ ad a1 a2 a3 a4 oa a0) (hC : CO κ H) (hA : hp κ H a0 (eI κ N fS)) (hB : MB κ ad P f g mk S K thr len many a1 a2 a3 a4 H) (hV : LV κ ad a1 a2 a3 a4 cap9 lv lo hi rt H) (hz : H.size ≤ H1.size) (hk : ∀ q : Nat, q < H.size → ¬ (pA κ H q ∨ q = oa) → H1[q]? = H[q]?) :
    CO κ H1 ∧ hp κ H1 a0 (eI κ N fS) ∧ MB κ ad P f g mk S K thr len many a1 a2 a3 a4 H1 ∧ LV κ ad a1 a2 a3 a4 cap9 lv lo hi rt H1 := by
  obtain ⟨hI, hR, ho, h0⟩ := id hE
  have h93 := nle hC.2.1
  have hr1 := nle hR.1
  have hr2 := nle (hR.2.1 0 (by decide)).1
  have hr3 := (hR.2.1 0 (by decide)).2
  have lo93 : ∀ q : Nat, q < κ.2 93 → H1[q]? = H[q]? := fun q hq => hk q (by omega) (fun h => h.elim (fun e => by have := nle e.1; omega) (fun e => by omega))
  have mdl : ∀ q, AI ad a1 a2 a3 a4 q → H1[q]? = H[q]? := fun q hq => by
    have hm : mK κ H q := hq.elim (fun ⟨i, hi, e⟩ => by rw [e]; exact hB.mk_ hR i hi) (fun h => hV.mk_ hR q h)
    have hl : q < H.size := by
      rcases hm with ⟨_, m⟩ | ⟨_, _, m⟩ | ⟨_, _, m⟩ | ⟨_, _, m⟩ | ⟨⟨_, _, m⟩, _⟩ <;> exact m.lt
    exact hk q hl (fun h => h.elim (hm.pA hC.D) (hE.nq hq).1)
  exact ⟨hC.kept lo93 hz, hA.kept (lo93 a0 h0), hB.kp (fun i hi => mdl _ (Or.inl ⟨i, hi, rfl⟩)), hV.kp (fun q hq => mdl q (Or.inr hq))⟩
/-- behind a call of the model -/
theorem lw_m (hE : lwE κ ad a1 a2 a3 a4 oa a0) {A : Nat → Prop} (hAI : ∀ q, A q → AI ad a1 a2 a3 a4 q) {Sc : Nat → Pl} {isoP : Option Pl} {n cap : Nat} {iv : Nat → Ivl} {go : Nat → Int} (hC : CO κ H) (hP : CP κ H x Sc isoP n cap iv) (hA : hp κ H a0 (eI κ N fS)) (ho : hp κ H oa (eJ κ 1 go)) (hB : MB κ ad P f g mk S K thr len many a1 a2 a3 a4 H) (hV : LV κ ad a1 a2 a3 a4 cap9 lv lo hi rt H) (hz : H.size ≤ H1.size) (hk : ∀ q : Nat, q < H.size → ¬ A q → H1[q]? = H[q]?) :
    CO κ H1 ∧ CP κ H1 x Sc isoP n cap iv ∧ hp κ H1 a0 (eI κ N fS) ∧ hp κ H1 oa (eJ κ 1 go) := by
  obtain ⟨hI, hR, hou, h0⟩ := id hE
  have h93 := nle hC.2.1
  have hm : ∀ q, A q → mK κ H q := fun q hq => (hAI q hq).elim (fun ⟨i, hi, e⟩ => by rw [e]; exact hB.mk_ hR i hi) (fun h => hV.mk_ hR q h)
  exact ⟨hC.kept (fun q hq => hk q (by omega) (fun h => by have := (hE.nq (hAI q h)).2.2; omega)) hz, hP.kw (kW.of hC hz hk (fun q hq _ => hm q hq)), hA.kept (hk a0 hA.lt (fun h => (hE.nq (hAI _ h)).2.1 rfl)), ho.kept (hk oa ho.lt (fun h => (hE.nq (hAI _ h)).1 rfl))⟩
/-- where the model's call leaves the lists -/
theorem lw_v (hE : lwE κ ad a1 a2 a3 a4 oa a0) (hV : LV κ ad a1 a2 a3 a4 cap9 lv lo hi rt H) (hk : ∀ q : Nat, q < H.size → ¬ AH ad q → H1[q]? = H[q]?) : LV κ ad a1 a2 a3 a4 cap9 lv lo hi rt H1 := hV.kp (fun q hq => by
  obtain ⟨h1, h2, g1, g2, g3, g4⟩ := hV
  have nA : ¬ AH ad q := fun ⟨i, hi, e⟩ => by
    have := h1 i hi
    rcases hq with rfl | rfl | rfl | rfl
    · exact this.1 e
    · exact this.2.1 e
    · exact this.2.2.1 e
    · exact this.2.2.2 e
  have hl : q < H.size := by
    rcases hq with rfl | rfl | rfl | rfl
    · exact g1.lt
    · exact g2.lt
    · exact g3.lt
    · exact g4.lt
  exact hk q hl nA)
/-- what the wrapper tells, in one -/
theorem s_post {r1 r2 : Int} {go : Nat → Int} {PO PX PR : Heap → Prop} (h : (r2 = 0 ∧ PO H1 ∧ ∃ g : Nat → Int, hp κ H1 oa (eJ κ 1 g) ∧ g 0 = r1) ∨ (r2 ≠ 0 ∧ PX H1 ∧ hp κ H1 oa (eJ κ 1 go))) (hO : PO H1 → PR H1) (hX : r2 ≠ 0 → PX H1 → PR H1) : PR H1 ∧ ∃ g : Nat → Int, hp κ H1 oa (eJ κ 1 g) ∧ (r2 = 0 → g 0 = r1) := by
  rcases h with ⟨_, h2, g, h3, h4⟩ | ⟨h1, h2, h3⟩
  · exact ⟨hO h2, g, h3, fun _ => h4⟩
  · exact ⟨hX h1 h2, go, h3, fun e => absurd e h1⟩
end LAWENV
/-! the law's rows -/
section LAWROWS
variable {z : zT} {κ : zK} {fr lo : Nat} {ret : Option FieldType} {H : Heap} {cb sb : Nat} {lv : List (Nat × Value)} {st : List Value}
theorem lcmp_self (a : Int64) : lg_cmp a a = iZ 0 := by
  obtain ⟨q, rfl⟩ : ∃ q, a = jZ q := ⟨a.toInt, jZ_of a⟩
  have e : jZ q = jZ (rpJ q) := by show jZ q = jZ (jZ q).toInt; rw [← jZ_of]
  rw [e, lcmpZ (rpJ_r q) (rpJ_r q), if_neg (Int.lt_irrefl _), if_pos rfl]
/-- script[i + k] -/
theorem l_arg (E : zOK z cL_law RX0 κ fr lo ret) {pc j N k a0 : Nat} {f : Nat → Int} (hk : 1 ≤ k ∧ k ≤ 5) (i0 i4 : Nat) (g0 : lv[i0]? = some (0, .ref a0)) (g4 : lv[i4]? = some (4, vi (j : Int))) (hA : hp κ H a0 (eI κ N f)) (hj : j + 6 ≤ N) (hN : N ≤ 252)
    (d0 : decode cL_law pc = .ok (.aload_n 0, 1)) (d1 : decode cL_law (pc + 1) = .ok (.iload 4, 2)) (d2 : decode cL_law (pc + 3) = .ok (.iconst (k : Int), 1)) (d3 : decode cL_law (pc + 4) = .ok (.iadd, 1)) (d4 : decode cL_law (pc + 5) = .ok (.iaload, 1))
    (K : V z H cb sb (pc + 6) lv (vi (f (j + k)) :: st)) : V z H cb sb pc lv st := by
  refine v_aload_n E i0 g0 d0 ?_
  refine v_iload E i4 g4 d1 ?_
  refine v_iconst E d2 ?_
  refine v_iadd E d3 ?_
  exact v_iald E d4 hA (j + k) (by omega) (by omega) (by omega) K
end LAWROWS
