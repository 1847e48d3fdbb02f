/-! what the calls over intervals ask -/
section LISTS
variable {c : Nat} {P0 : Option Pl} {K F : Nat → Int} {n : Nat} {iv : Nat → Ivl} {many : Int} {lv lo hi rt : Nat → Int}
theorem relI.rt6 (h : relI c P0 K F n iv many lv lo hi rt) {k : Nat} (hk : k < n) : 0 ≤ rt k ∧ rt k ≤ 6 := by
  obtain ⟨h1, h2, h3, h4, h5⟩ := h
  have q := iS_nn (f := rt) n (fun i hi => by rw [(h3 i hi).2.2.2.2]; exact plF_nn _ _ _ _)
  have := q.2 k hk
  exact ⟨by rw [(h3 k hk).2.2.2.2]; exact plF_nn _ _ _ _, by omega⟩
theorem relI.okL (h : relI c P0 K F n iv many lv lo hi rt) : okL n lv lo hi rt := fun j hj => by
  have q := (h.2.2.1 j hj).2
  have q1 := q.in
  have q2 := q.1
  have q3 := h.rt6 hj
  exact ⟨q2, ⟨by omega, by omega⟩, ⟨by omega, by omega⟩, ⟨by omega, by omega⟩⟩
theorem relI.okI (h : relI c P0 K F n iv many lv lo hi rt) : okI n iv := fun j hj => by
  have q := (h.2.2.1 j hj).2
  have q1 := q.in
  have q2 := q.1
  have q3 := h.rt6 hj
  rw [(h.2.2.1 j hj).1]
  exact ⟨q2, ⟨by show -134217728 ≤ lo j; omega, by show lo j ≤ 134217728; omega⟩, ⟨by show -134217728 ≤ hi j; omega, by show hi j ≤ 134217728; omega⟩, ⟨by show -100 ≤ rt j; omega, by show rt j ≤ 100; omega⟩⟩
theorem relI.okJ (h : relI c P0 K F n iv many lv lo hi rt) : okJ n iv := fun j hj => by
  have q := (h.2.2.1 j hj).2.2.1
  rw [(h.2.2.1 j hj).1]
  refine ⟨Int.ofNat_le.mp ?_, Int.ofNat_le.mp ?_⟩
  · have := q.1
    rw [Int.natCast_mul, Int.natCast_pow]
    exact this
  · have := q.2
    rw [Int.natCast_mul, Int.natCast_pow]
    exact this
theorem relI.okK (h : relI c P0 K F n iv many lv lo hi rt) {P7 : Nat → Int} (h7 : eq7 P7 F) : 0 < n → okK K P7 F := fun h0 => by
  obtain ⟨Q, hQ, g, hA, hK, hF⟩ := h.2.1 h0
  obtain ⟨_, _, _, hF2, fK⟩ := h.at hQ h0
  have f := fK.hFree
  have nK : ∀ k, k < 7 → (K k).natAbs ≤ 9999 := fun k hk => by rw [hK k hk]; exact hA k
  refine ⟨fun k hk => ⟨by have := nK k hk; omega, by have := nK k hk; omega⟩, fun k hk => Nat.lt_of_le_of_lt (nK k hk) (by decide +kernel), h7, pS_congr hF.symm (freeR_pS f.1.1), ?_⟩
  rw [pdeg_congr hF]
  exact f.2
end LISTS
