/-! the end of a turn: thrown, the comparisons -/
section TAIL
variable {κ : zK} {ad : Nat → Nat} {a1 a2 a3 a4 x oa a0 N c : Nat} {fS : Nat → Int} {H H1 H2 : Heap}
/-- what lasts when no old cell changed -/
theorem lwI.kept (hE : lwE κ ad a1 a2 a3 a4 oa a0) (h : lwI κ ad a1 a2 a3 a4 x oa a0 N fS c H) (hz : H.size ≤ H1.size) (hk : ∀ q : Nat, q < H.size → H1[q]? = H[q]?) : lwI κ ad a1 a2 a3 a4 x oa a0 N fS c H1 := by
  obtain ⟨hC, hA, ⟨g0, ho⟩, Sc, isoP, n, cap, iv, Sm, K, F, many, thr, lv, lo, hi, rt, P, f, g, mk, len, hP, hB, hV, hr⟩ := h
  obtain ⟨b1, b2, b3, b4⟩ := lw_c hE hC hA hB hV hz (fun q hq _ => hk q hq)
  have hW : kW κ H H1 := kW.of hC hz (A := fun _ => False) (fun q hq _ => hk q hq) (fun q h => h.elim)
  exact ⟨b1, b2, ⟨g0, ho.kept (hk oa ho.lt)⟩, Sc, isoP, n, cap, iv, Sm, K, F, many, thr, lv, lo, hi, rt, P, f, g, mk, len, hP.kw hW, b3, b4, hr⟩
abbrev lwL (x o oa a0 j : Nat) : List (Nat × Value) := [(4, vi (j : Int)), (3, .ref oa), (2, .ref o), (1, .ref x), (0, .ref a0)]
variable {z : zT} {fr lo9 : Nat} {cb sb : Nat}
variable {P : Nat → Nat → Int} {f g mk : Nat → Int} {S : Nat → Nat → Int} {K : Nat → Int} {thr len many : Int}
theorem l_thr (E : zOK z cL_law RX0 κ fr lo9 (some .boolean)) (hfr : 1 ≤ fr) (hlo : 50 ≤ lo9) {pc : Nat} {lv : List (Nat × Value)} (i2 : Nat) (g2 : lv[i2]? = some (2, .ref (ad 3002))) (d1 : decode cL_law pc = .ok (.aload_n 2, 1)) (d2 : decode cL_law (pc + 1) = .ok (.invokevirtual 120, 3))
    (hI : Inj ad) (hB : MB κ ad P f g mk S K thr len many a1 a2 a3 a4 H)
    (K9 : ∀ H1 : Heap, H.size ≤ H1.size → (∀ q : Nat, q < H.size → H1[q]? = H[q]?) → V z H1 cb sb (pc + 4) lv [vi thr]) : V z H cb sb pc lv [] := by
  refine v_aload_n E i2 g2 d1 ?_
  exact v_callV E (As := []) (b := ad 3002) (ci := 3) (C := RX4) (T := TX4) (N := 27) hB.ho rfl (m_thrown κ H hI hB) (lw_V q1843 q1844 q1845 q82 q1846) 0 (by decide +kernel) rfl (by omega) (by omega) (cb' := cb) (sb' := sb) (by omega) (by omega) rfl (rest := []) (Nat.le_of_ble_eq_true rfl) (fun q h => h.elim) d2 (fun v H1 hp hz hk => by
    subst hp
    exact K9 H1 hz (fun q hq => hk q hq (fun h => h)))
theorem l_tail (E : zOK z cL_law RX0 κ fr lo9 (some .boolean)) (hfr : 1 ≤ fr) (hlo : 50 ≤ lo9) {pc j : Nat} {r2 rb off : Int} {go : Nat → Int} (d1 : decode cL_law pc = .ok (.aload_n 2, 1)) (d2 : decode cL_law (pc + 1) = .ok (.invokevirtual 120, 3))
    (d3 : decode cL_law (pc + 4) = .ok (.iload 5, 2)) (d4 : decode cL_law (pc + 6) = .ok (.if_icmp .eq 5, 3)) (d5 : decode cL_law (pc + 11) = .ok (.iload 5, 2)) (d6 : decode cL_law (pc + 13) = .ok (.ifCond .ne 15, 3)) (d7 : decode cL_law (pc + 16) = .ok (.aload_n 3, 1)) (d8 : decode cL_law (pc + 17) = .ok (.iconst 0, 1)) (d9 : decode cL_law (pc + 18) = .ok (.laload, 1)) (d10 : decode cL_law (pc + 19) = .ok (.iload 6, 2)) (d11 : decode cL_law (pc + 21) = .ok (.i2l, 1)) (d12 : decode cL_law (pc + 22) = .ok (.lcmp, 1)) (d13 : decode cL_law (pc + 23) = .ok (.ifCond .eq 5, 3)) (d14 : decode cL_law (pc + 28) = .ok (.goto off, 3)) (ht : ((pc + 28 : Nat) : Int) + off = ((2204 : Nat) : Int))
    (hI : Inj ad) (hB : MB κ ad P f g mk S K thr len many a1 a2 a3 a4 H) (ho : hp κ H oa (eJ κ 1 go)) (e2 : r2 = thr) (h9 : 0 ≤ r2 ∧ r2 ≤ 9) (hr : rI rb) (hg : r2 = 0 → go 0 = rb)
    (K9 : ∀ H1 : Heap, H.size ≤ H1.size → (∀ q : Nat, q < H.size → H1[q]? = H[q]?) → V z H1 cb sb 2204 (lwL x (ad 3002) oa a0 j) []) : V z H cb sb pc ((6, vi rb) :: (5, vi r2) :: lwL x (ad 3002) oa a0 j) [] := by
  refine l_thr E hfr hlo 4 rfl d1 d2 hI hB (fun H1 hz hk => ?_)
  subst e2
  refine v_iload E 1 rfl d3 ?_
  have r9 : rI r2 := ⟨by omega, by omega⟩
  refine v_icmp_eq E (tgt := pc + 11) d4 (by omega) r9 r9 (fun _ => ?_) (fun h => absurd rfl h)
  refine v_iload E 1 rfl d5 ?_
  have fin : V z H1 cb sb (pc + 28) ((6, vi rb) :: (5, vi r2) :: lwL x (ad 3002) oa a0 j) [] := by
    refine V.sub [2, 3, 4, 5, 6] rfl ?_
    exact v_goto E d14 ht (K9 H1 hz hk)
  refine v_if_ne E (tgt := pc + 28) d6 (by omega) r9 (fun _ => fin) (fun h0 => ?_)
  have ho1 := ho.kept (hk oa ho.lt)
  refine v_aload_n E 3 rfl d7 ?_
  refine v_iconst E d8 ?_
  refine v_lald E d9 ho1 0 rfl (by decide) (by decide) ?_
  refine v_iload E 0 rfl d10 ?_
  refine v_i2l E hr d11 ?_
  rw [hg h0]
  have rj : rJ rb := ⟨by have := hr.1; omega, by have := hr.2; omega⟩
  refine v_lcmp E d12 rj rj ?_
  rw [if_neg (Int.lt_irrefl _), if_pos rfl]
  exact v_if_eq E (tgt := pc + 28) d13 (by omega) r0 (fun _ => fin) (fun h => absurd rfl h)
end TAIL
