/-! PLAIN LAW 2: sequences of signs of which some entries change, their neighbours being fixed and opposite -/
theorem ch_s (p : Nat → Int) (k : Nat) : chC p (k + 1) = if (p k).sign ≠ 0 ∧ chL p k ≠ 0 ∧ (p k).sign ≠ chL p k then chC p k + 1 else chC p k := rfl
theorem cl_s (p : Nat → Int) (k : Nat) : chL p (k + 1) = if (p k).sign = 0 then chL p k else (p k).sign := rfl
/-- the entry i has one sign, not 0, in both -/
def sgd (s t : Nat → Int) (i : Nat) : Prop := (s i).sign = (t i).sign ∧ (s i).sign ≠ 0
theorem st_step {s : Nat → Int} {m : Nat} {a : Int} (h1 : chL s (m + 1) = a) (ha : a ≠ 0) (hm : (s (m + 1)).sign ≠ 0) : chL s (m + 1 + 1) = (s (m + 1)).sign ∧ chC s (m + 1 + 1) = chC s (m + 1) + (if (s (m + 1)).sign = a then 0 else 1) := by
  rw [ch_s, cl_s, h1, if_neg hm]
  refine ⟨rfl, ?_⟩
  by_cases e : (s (m + 1)).sign = a
  · rw [if_pos e, if_neg (fun h => h.2.2 e)]
    rfl
  · rw [if_neg e, if_pos ⟨hm, ha, e⟩]
theorem st_two {s : Nat → Int} {m : Nat} {a : Int} (h1 : chL s (m + 1) = a) (ha : a ≠ 0) (ha3 : a = 1 ∨ a = -1) (hm : (s (m + 2)).sign = -a) : chL s (m + 3) = -a ∧ chC s (m + 3) = chC s (m + 1) + 1 := by
  have hb := rsign3 (s (m + 1))
  rw [ch_s, cl_s, hm, ch_s, cl_s, h1]
  refine ⟨if_neg (by omega), ?_⟩
  by_cases e : (s (m + 1)).sign = 0
  · rw [if_pos e, if_neg (show ¬ ((s (m + 1)).sign ≠ 0 ∧ a ≠ 0 ∧ (s (m + 1)).sign ≠ a) from fun h => h.1 e), if_pos ⟨by omega, ha, by omega⟩]
  · rw [if_neg e]
    by_cases e2 : (s (m + 1)).sign = a
    · rw [if_neg (show ¬ ((s (m + 1)).sign ≠ 0 ∧ a ≠ 0 ∧ (s (m + 1)).sign ≠ a) from fun h => h.2.2 e2), if_pos ⟨by omega, e, by omega⟩]
    · rw [if_pos (show (s (m + 1)).sign ≠ 0 ∧ a ≠ 0 ∧ (s (m + 1)).sign ≠ a from ⟨e, ha, e2⟩), if_neg (show ¬ (-a ≠ 0 ∧ (s (m + 1)).sign ≠ 0 ∧ -a ≠ (s (m + 1)).sign) from fun h => h.2.2 (by omega))]
theorem st_base {s : Nat → Int} (h1 : (s 1).sign ≠ 0) : chL s 2 = (s 1).sign ∧ chC s 2 = (if (s 0).sign * (s 1).sign = -1 then 1 else 0) := by
  have ha := rsign3 (s 0)
  have hb := rsign3 (s 1)
  rw [ch_s, cl_s, ch_s, cl_s]
  refine ⟨if_neg h1, ?_⟩
  have z : chL s 0 = 0 := rfl
  have z2 : chC s 0 = 0 := rfl
  rw [z, z2]
  rcases ha with ha | ha | ha <;> rcases hb with hb | hb | hb <;> rw [ha, hb] <;> decide
/-- Sturm's comparison of two sequences -/
theorem st_seq {s t : Nat → Int} {r : Nat} {Δ : Int} (hb : ∀ i, 0 < i → i < r → ¬ sgd s t i → sgd s t (i - 1) ∧ sgd s t (i + 1) ∧ (s (i + 1)).sign = -(s (i - 1)).sign) (h0 : sgd s t 0 → Δ = 0) (h1 : ¬ sgd s t 0 → Δ = (if (s 0).sign * (s 1).sign = -1 then 1 else 0) - (if (t 0).sign * (t 1).sign = -1 then 1 else 0)) : ∀ m, m ≤ r → sgd s t m → chL s (m + 1) = (s m).sign ∧ chL t (m + 1) = (s m).sign ∧ (chC s (m + 1) : Int) - (chC t (m + 1) : Int) = Δ := by
  intro m
  induction m using Nat.strongRecOn with
  | _ m ih =>
    intro hm hg
    have hn := rsign3 (s m)
    match m, ih, hm, hg, hn with
    | 0, _, _, hg, _ =>
      have a1 : chL s 1 = (s 0).sign := by rw [cl_s]; exact if_neg hg.2
      have a2 : chL t 1 = (t 0).sign := by rw [cl_s]; exact if_neg (hg.1 ▸ hg.2)
      have b1 : chC s 1 = 0 := by rw [ch_s]; exact if_neg (fun h => h.2.1 rfl)
      have b2 : chC t 1 = 0 := by rw [ch_s]; exact if_neg (fun h => h.2.1 rfl)
      exact ⟨a1, a2.trans hg.1.symm, by rw [b1, b2, h0 hg]; rfl⟩
    | m + 1, ih, hm, hg, hn =>
      by_cases g : sgd s t m
      · obtain ⟨e1, e2, e3⟩ := ih m (by omega) (by omega) g
        have f1 := st_step e1 g.2 hg.2
        have f2 := st_step (s := t) e2 g.2 (hg.1 ▸ hg.2)
        rw [← hg.1] at f2
        refine ⟨f1.1, f2.1, ?_⟩
        rw [f1.2, f2.2]
        split <;> omega
      · match m, ih, hm, hg, hn, g with
        | 0, _, _, hg, _, g =>
          have f1 := st_base hg.2
          have f2 := st_base (s := t) (hg.1 ▸ hg.2)
          refine ⟨f1.1, f2.1.trans hg.1.symm, ?_⟩
          show (chC s 2 : Int) - (chC t 2 : Int) = Δ
          rw [f1.2, f2.2, h1 g]
          split <;> split <;> rfl
        | m + 1, ih, hm, hg, hn, g =>
          obtain ⟨k1, k2, k3⟩ := hb (m + 1) (by omega) (by omega) g
          have k1 : sgd s t m := k1
          have k3 : (s (m + 2)).sign = -(s m).sign := k3
          obtain ⟨e1, e2, e3⟩ := ih m (by omega) (by omega) k1
          have ha3 : (s m).sign = 1 ∨ (s m).sign = -1 := by have := rsign3 (s m); have := k1.2; omega
          have f1 := st_two e1 k1.2 ha3 k3
          have f2 := st_two (s := t) e2 k1.2 ha3 (hg.1.symm.trans k3)
          refine ⟨f1.1.trans k3.symm, f2.1.trans k3.symm, ?_⟩
          show (chC s (m + 3) : Int) - (chC t (m + 3) : Int) = Δ
          rw [f1.2, f2.2]
          omega
