/-! THE COMPONENT AS IT IS SEEN FROM OUTSIDE (plain) -/
theorem kU.of {κ : zK} {H0 H1 : Heap} {a : Nat} {x : Int} (hC : CO κ H0) (h0 : BI κ H0 a x) (h1 : BI κ H1 a x) (hz : H0.size ≤ H1.size) (hk : ∀ q : Nat, q < H0.size → ¬ (q = a ∧ κ.2 93 ≤ a) → H1[q]? = H0[q]?) : kU κ H0 H1 a := by
  have hk2 : ∀ q : Nat, q < H0.size → ¬ q = a → H1[q]? = H0[q]? := fun q hq hn => hk q hq (fun h => hn h.1)
  refine ⟨?_, hz, hk2, ?_, ?_, fun q y hb => BI.upd hC.D h0 h1 hk2 hb⟩
  · by_cases e : κ.2 93 ≤ a
    · exact Or.inl e
    · exact Or.inr (fun q hq => hk q hq (fun h => e h.2))
  · obtain ⟨m, n, cf, ⟨c1, c2, c3, g⟩, _⟩ := h0; exact ⟨_, g⟩
  · obtain ⟨m, n, cf, ⟨c1, c2, c3, g⟩, _⟩ := h1; exact ⟨_, g⟩
/-- an object of these classes may be changed by a public call, be it old or new -/
theorem pA.any {κ : zK} {H0 H : Heap} (hk : ∀ q : Nat, q < H0.size → ¬ pA κ H0 q → H[q]? = H0[q]?) {a ci : Nat} {fs : List Value} (h : hp κ H a (.inr (ci, fs))) (hci : ci = 0 ∨ ci = 1 ∨ ci = 5 ∨ ci = 6) (h93 : κ.2 93 ≤ a) : pA κ H0 a ∨ H0.size ≤ a := by
  by_cases c : a < H0.size
  · by_cases d : pA κ H0 a
    · exact Or.inl d
    · exact Or.inl ⟨h93, Or.inl ⟨ci, fs, h.kept (hk a c d).symm, hci⟩⟩
  · exact Or.inr (by omega)
theorem pA.arr {κ : zK} {H0 H : Heap} (hk : ∀ q : Nat, q < H0.size → ¬ pA κ H0 q → H[q]? = H0[q]?) {a n : Nat} {f : Nat → Option Nat} (h : hp κ H a (eR κ 2 n f)) (h93 : κ.2 93 ≤ a) : pA κ H0 a ∨ H0.size ≤ a := by
  by_cases c : a < H0.size
  · by_cases d : pA κ H0 a
    · exact Or.inl d
    · exact Or.inl ⟨h93, Or.inr ⟨n, f, h.kept (hk a c d).symm⟩⟩
  · exact Or.inr (by omega)
theorem pA.bi {κ : zK} {H0 H : Heap} (hk : ∀ q : Nat, q < H0.size → ¬ pA κ H0 q → H[q]? = H0[q]?) {a : Nat} {x : Int} (h : BI κ H a x) (h93 : κ.2 93 ≤ a) : pA κ H0 a ∨ H0.size ≤ a := by
  obtain ⟨m, n, cf, ⟨c1, c2, c3, g⟩, _⟩ := h
  exact pA.any hk g (by decide) h93
/-- the component: five polynomials, what was isolated, n intervals -/
def CP (κ : zK) (H : Heap) (x : Nat) (S : Nat → Pl) (isoP : Option Pl) (n cap : Nat) (iv : Nat → Ivl) : Prop := ∃ (ls bs li bi : Nat) (a : Nat → Nat) (iso : Option Nat) (T : Nat → Pl), CS κ (dS ls bs li bi) H x ls bs li bi a iso T n cap iv ∧ (∀ k, k < 5 → S k = T (a k)) ∧ isoP = iso.map T
theorem dS_bs {ls bs li bi : Nat} : ¬ dS ls bs li bi bs := fun h => h.2.1 rfl
theorem CS.pub {κ : zK} {H : Heap} {x ls bs li bi : Nat} {a : Nat → Nat} {iso : Option Nat} {T : Nat → Pl} {n cap : Nat} {iv : Nat → Ivl} {S : Nat → Pl} {isoP : Option Pl} (h : CS κ (dS ls bs li bi) H x ls bs li bi a iso T n cap iv) (hST : ∀ k, k < 5 → S k = T (a k)) (hiso : isoP = iso.map T) : CP κ H x S isoP n cap iv := ⟨ls, bs, li, bi, a, iso, T, h, hST, hiso⟩
theorem CS.pubT {κ : zK} {H0 H : Heap} {x ls bs li bi i k : Nat} {a : Nat → Nat} {iso : Option Nat} {T : Nat → Pl} {n cap : Nat} {iv : Nat → Ivl} {S : Nat → Pl} {isoP : Option Pl} {P : Pl} {D : Nat → Prop} (h0 : CS κ D H0 x ls bs li bi a iso T n cap iv) (hk : H0.size ≤ k) (h : CS κ (dS ls bs li bi) H x ls bs li bi (va_up a i k) iso (va_up T k P) n cap iv) (hST : ∀ k, k < 5 → S k = T (a k)) (hiso : isoP = iso.map T) : CP κ H x (va_up S i P) isoP n cap iv := by
  refine ⟨ls, bs, li, bi, _, iso, _, h, fun j hj => ?_, ?_⟩
  · by_cases e : j = i
    · subst e; rw [va_up_self, va_up_self, va_up_self]
    · rw [va_up_ne _ _ e, va_up_ne _ _ e, va_up_ne _ _ (show a j ≠ k by have := h0.al hj; omega)]; exact hST j hj
  · rw [hiso]
    cases hi : iso with
    | none => rfl
    | some q =>
      have := (h0.2.2.2.2.2 q hi).lt
      show some (T q) = some (va_up T k P q)
      rw [va_up_ne _ _ (show q ≠ k by omega)]
/-- answer, refusal, slots -/
abbrev zRc : Type := Int × Int × (Nat → Pl)
def storeR (P : Pl) (t : Nat) (ref : Int) (S : Nat → Pl) : zRc := if P.1 ≤ 7 ∧ ∀ k, k < 7 → (P.2 k).natAbs ≤ 9999 then ((P.1 : Int) - 1, 0, va_up S t P) else (0, ref, S)
theorem okP_7 {P : Pl} (h : nf P) : okP P ↔ P.1 ≤ 7 ∧ ∀ k, k < 7 → (P.2 k).natAbs ≤ 9999 := by
  refine ⟨fun e => ⟨e.1, fun k _ => e.2 k⟩, fun e => ⟨e.1, fun k => ?_⟩⟩
  by_cases c : k < 7
  · exact e.2 k c
  · rw [h.2 k (by have := e.1; omega)]; decide
theorem storeR_y {P : Pl} {t : Nat} {ref : Int} {S : Nat → Pl} (h : okP P) : storeR P t ref S = ((P.1 : Int) - 1, 0, va_up S t P) := if_pos ⟨h.1, fun k _ => h.2 k⟩
theorem storeR_n {P : Pl} {t : Nat} {ref : Int} {S : Nat → Pl} (hn : nf P) (h : ¬ okP P) : storeR P t ref S = (0, ref, S) := if_neg (fun e => h ((okP_7 hn).mpr e))
def setc (P : Pl) (p : Nat) (v : Int) : Nat → Int := fun k => if k = p then v else P.2 k
def xoSet (S : Nat → Pl) (a p v : Int) : zRc := if (0 ≤ a ∧ a < 5) ∧ (0 ≤ p ∧ p ≤ 6) then (if -99 ≤ v ∧ v ≤ 99 then storeR (mkP 7 (setc (S a.toNat) p.toNat v)) a.toNat 4 S else (0, 2, S)) else (0, 1, S)
def xoCoef (S : Nat → Pl) (a p : Int) : zRc := if (0 ≤ a ∧ a < 5) ∧ (0 ≤ p ∧ p ≤ 6) then ((S a.toNat).2 p.toNat, 0, S) else (0, 1, S)
def xoDeg (S : Nat → Pl) (a : Int) : zRc := if 0 ≤ a ∧ a < 5 then (((S a.toNat).1 : Int) - 1, 0, S) else (0, 1, S)
def xoCopy (S : Nat → Pl) (a t : Int) : zRc := if (0 ≤ a ∧ a < 5) ∧ (0 ≤ t ∧ t < 5) then (((S a.toNat).1 : Int) - 1, 0, va_up S t.toNat (S a.toNat)) else (0, 1, S)
def xoAdd (S : Nat → Pl) (a b t : Int) : zRc := if (0 ≤ a ∧ a < 5) ∧ (0 ≤ b ∧ b < 5) ∧ (0 ≤ t ∧ t < 5) then storeR (mkP 7 (fun k => (S a.toNat).2 k + (S b.toNat).2 k)) t.toNat 2 S else (0, 1, S)
def xoDrv (S : Nat → Pl) (a t : Int) : zRc := if (0 ≤ a ∧ a < 5) ∧ (0 ≤ t ∧ t < 5) then storeR (cDer (S a.toNat)) t.toNat 2 S else (0, 1, S)
/-- all slots fit -/
def bC5 (S : Nat → Pl) : Prop := ∀ i, i < 5 → nf (S i) ∧ okP (S i)
