/-! PLAIN LAW 51: Sturm's differences give alternating signs -/
theorem vi1 {s y : Int} (h : s = 1 ∨ s = -1) (hy : y = 1 ∨ y = -1 ∨ y = 0) (n1 : y ≠ -s) (n0 : y ≠ 0) : y = - -s := by omega
theorem vi2 {s y : Int} (h : s = 1 ∨ s = -1) (e : y = s) : ¬ y = -s := by omega
theorem vi3 {s y : Int} (h : s = 1 ∨ s = -1) (e : y = s) : y ≠ 0 := by omega
theorem vi4 {s y x : Int} (h : s = 1 ∨ s = -1) (hx : x = 1 ∨ x = -1 ∨ x = 0) (n1 : x ≠ -s) (n0 : x ≠ 0) (e : y = s) : x = y := by omega
theorem V_alt {h : Nat → Rat → Rat} {r : Nat} {K a b c : Rat} (H : chn h r K) (hd : dirC h K) (ha : -K ≤ a) (hab : a ≤ b) (hb : b ≤ K) (hc : c < a) (fa : h 0 a ≠ 0) (fb : h 0 b ≠ 0) : ∃ m : Nat, (Vch h r a : Int) - (Vch h r b : Int) = (m : Int) ∧ alt (h 0) m c ∧ rsg (h 0 b) = (if m % 2 = 0 then rsg (h 0 a) else -rsg (h 0 a)) := by
  have fa' : rsg (h 0 a) ≠ 0 := fun w => fa (rsg_z.mp w)
  have key : ∃ (m : Nat) (t : Nat → Rat), (∀ i, i < m → t i < t (i + 1)) ∧ t 0 = a ∧ t m ≤ b ∧ (∀ i, i < m → rsg (h 0 (t (i + 1))) = -rsg (h 0 (t i))) ∧ ((rsg (h 0 b) ≠ 0 ∧ (Vch h r a : Int) - (Vch h r b : Int) = (m : Int) ∧ rsg (h 0 (t m)) = rsg (h 0 b)) ∨ (rsg (h 0 b) = 0 ∧ (Vch h r a : Int) - (Vch h r b : Int) = (m : Int) + 1 ∧ rsg (h 0 (t m)) = -rsg (h 1 b))) := by
    refine an_ind (P := fun x => ∃ (m : Nat) (t : Nat → Rat), (∀ i, i < m → t i < t (i + 1)) ∧ t 0 = a ∧ t m ≤ x ∧ (∀ i, i < m → rsg (h 0 (t (i + 1))) = -rsg (h 0 (t i))) ∧ ((rsg (h 0 x) ≠ 0 ∧ (Vch h r a : Int) - (Vch h r x : Int) = (m : Int) ∧ rsg (h 0 (t m)) = rsg (h 0 x)) ∨ (rsg (h 0 x) = 0 ∧ (Vch h r a : Int) - (Vch h r x : Int) = (m : Int) + 1 ∧ rsg (h 0 (t m)) = -rsg (h 1 x)))) hab ⟨0, fun _ => a, fun i hi => absurd hi (Nat.not_lt_zero i), rfl, Rat.le_refl, fun i hi => absurd hi (Nat.not_lt_zero i), Or.inl ⟨fa', by omega, rfl⟩⟩ ?_
    obtain ⟨δ, hδ, hs⟩ := chn_short H
    refine ⟨δ, hδ, fun x y k1 k2 k3 k4 hP => ?_⟩
    have S := hs x y (by grind) (Rat.le_of_lt k2) (by grind) k4
    obtain ⟨v1, v2, v3⟩ := V_short (Rat.le_of_lt k2) S
    obtain ⟨m, t, t1, t2, t3, t4, t5⟩ := hP
    by_cases g : hgd (h 0) x y
    · have e1 := v1 g
      have e2 : rsg (h 0 x) = rsg (h 0 y) ∧ rsg (h 0 y) ≠ 0 := by
        rcases g with g | g
        · rw [rsg_p (g x Rat.le_refl (Rat.le_of_lt k2)), rsg_p (g y (Rat.le_of_lt k2) Rat.le_refl)]; exact ⟨rfl, by decide⟩
        · rw [rsg_n (g x Rat.le_refl (Rat.le_of_lt k2)), rsg_n (g y (Rat.le_of_lt k2) Rat.le_refl)]; exact ⟨rfl, by decide⟩
      rcases t5 with ⟨a1, a2, a3⟩ | ⟨a1, _, _⟩
      · exact ⟨m, t, t1, t2, by grind, t4, Or.inl ⟨e2.2, by rw [← e1]; exact a2, by rw [← e2.1]; exact a3⟩⟩
      · exact absurd a1 (by rw [e2.1]; exact e2.2)
    · obtain ⟨_, g1, _⟩ := S 0 (Nat.zero_le r) g
      have hdr := hd x y (by grind) (Rat.le_of_lt k2) (by grind)
      -- one direction
      have dir : ∃ σ : Int, (σ = 1 ∨ σ = -1) ∧ rsg (h 1 x) = σ ∧ rsg (h 1 y) = σ ∧ (rsg (h 0 x) ≠ -σ → rsg (h 0 y) = σ) ∧ (Vch h r x : Int) - (Vch h r y : Int) = (if rsg (h 0 x) = -σ then 1 else 0) - (if rsg (h 0 y) = -σ then 1 else 0) := by
        have neg1 : ∀ z : Rat, (rsg z = -1 ↔ z < 0) := fun z => by
          rcases rsg_3 z with ⟨p, q⟩ | ⟨p, q⟩ | ⟨p, q⟩ <;> constructor <;> intro w <;> first | omega | grind
        have pos1 : ∀ z : Rat, (rsg z = -(-1) ↔ 0 < z) := fun z => by
          rcases rsg_3 z with ⟨p, q⟩ | ⟨p, q⟩ | ⟨p, q⟩ <;> constructor <;> intro w <;> first | omega | grind
        rcases g1 with g1 | g1
        · refine ⟨1, Or.inl rfl, rsg_p (g1 x Rat.le_refl (Rat.le_of_lt k2)), rsg_p (g1 y (Rat.le_of_lt k2) Rat.le_refl), fun w => ?_, ?_⟩
          · have hx : ¬ h 0 x < 0 := fun q => w ((neg1 _).mpr q)
            exact rsg_p (hdr.1 g1 x y Rat.le_refl k2 Rat.le_refl (by grind))
          · rw [v2 g g1]
            have e1 : (if h 0 x < 0 then (1 : Int) else 0) = if rsg (h 0 x) = -1 then 1 else 0 := by
              by_cases q : h 0 x < 0
              · rw [if_pos q, if_pos ((neg1 _).mpr q)]
              · rw [if_neg q, if_neg (fun w => q ((neg1 _).mp w))]
            have e2 : (if h 0 y < 0 then (1 : Int) else 0) = if rsg (h 0 y) = -1 then 1 else 0 := by
              by_cases q : h 0 y < 0
              · rw [if_pos q, if_pos ((neg1 _).mpr q)]
              · rw [if_neg q, if_neg (fun w => q ((neg1 _).mp w))]
            rw [e1, e2]
        · refine ⟨-1, Or.inr rfl, rsg_n (g1 x Rat.le_refl (Rat.le_of_lt k2)), rsg_n (g1 y (Rat.le_of_lt k2) Rat.le_refl), fun w => ?_, ?_⟩
          · have hx : ¬ 0 < h 0 x := fun q => w ((pos1 _).mpr q)
            exact rsg_n (hdr.2 g1 x y Rat.le_refl k2 Rat.le_refl (by grind))
          · rw [v3 g g1]
            have e1 : (if 0 < h 0 x then (1 : Int) else 0) = if rsg (h 0 x) = -(-1) then 1 else 0 := by
              by_cases q : 0 < h 0 x
              · rw [if_pos q, if_pos ((pos1 _).mpr q)]
              · rw [if_neg q, if_neg (fun w => q ((pos1 _).mp w))]
            have e2 : (if 0 < h 0 y then (1 : Int) else 0) = if rsg (h 0 y) = -(-1) then 1 else 0 := by
              by_cases q : 0 < h 0 y
              · rw [if_pos q, if_pos ((pos1 _).mpr q)]
              · rw [if_neg q, if_neg (fun w => q ((pos1 _).mp w))]
            rw [e1, e2]
      obtain ⟨σ, s1, s2, s3, s4, s5⟩ := dir
      -- the list with y added
      have ext : rsg (h 0 y) = -rsg (h 0 (t m)) → (rsg (h 0 y) ≠ 0) → (Vch h r a : Int) - (Vch h r y : Int) = ((m + 1 : Nat) : Int) → ∃ (m : Nat) (t : Nat → Rat), (∀ i, i < m → t i < t (i + 1)) ∧ t 0 = a ∧ t m ≤ y ∧ (∀ i, i < m → rsg (h 0 (t (i + 1))) = -rsg (h 0 (t i))) ∧ ((rsg (h 0 y) ≠ 0 ∧ (Vch h r a : Int) - (Vch h r y : Int) = (m : Int) ∧ rsg (h 0 (t m)) = rsg (h 0 y)) ∨ (rsg (h 0 y) = 0 ∧ (Vch h r a : Int) - (Vch h r y : Int) = (m : Int) + 1 ∧ rsg (h 0 (t m)) = -rsg (h 1 y))) := fun w1 w2 w3 => by
        refine ⟨m + 1, fun i => if i ≤ m then t i else y, fun i hi => ?_, ?_, ?_, fun i hi => ?_, Or.inl ⟨w2, w3, ?_⟩⟩
        · show (if i ≤ m then t i else y) < (if i + 1 ≤ m then t (i + 1) else y)
          rw [if_pos (by omega)]
          by_cases e : i + 1 ≤ m
          · rw [if_pos e]; exact t1 i (by omega)
          · rw [if_neg e, show i = m by omega]; grind
        · show (if 0 ≤ m then t 0 else y) = a
          rw [if_pos (Nat.zero_le m)]; exact t2
        · show (if m + 1 ≤ m then t (m + 1) else y) ≤ y
          rw [if_neg (by omega)]; exact Rat.le_refl
        · show rsg (h 0 (if i + 1 ≤ m then t (i + 1) else y)) = -rsg (h 0 (if i ≤ m then t i else y))
          rw [if_pos (show i ≤ m by omega)]
          by_cases e : i + 1 ≤ m
          · rw [if_pos e]; exact t4 i (by omega)
          · rw [if_neg e, show i = m by omega]; exact w1
        · show rsg (h 0 (if m + 1 ≤ m then t (m + 1) else y)) = _
          rw [if_neg (by omega)]
      rcases t5 with ⟨a1, a2, a3⟩ | ⟨a1, a2, a3⟩
      · by_cases q : rsg (h 0 x) = -σ
        · rw [if_pos q] at s5
          by_cases q2 : rsg (h 0 y) = -σ
          · rw [if_pos q2] at s5
            exact ⟨m, t, t1, t2, by grind, t4, Or.inl ⟨by rw [q2]; omega, by omega, by rw [a3, q, q2]⟩⟩
          · rw [if_neg q2] at s5
            by_cases q3 : rsg (h 0 y) = 0
            · exact ⟨m, t, t1, t2, by grind, t4, Or.inr ⟨q3, by omega, by rw [a3, q, s3]⟩⟩
            · have r3 : rsg (h 0 y) = 1 ∨ rsg (h 0 y) = -1 ∨ rsg (h 0 y) = 0 := by
                rcases rsg_3 (h 0 y) with ⟨_, e⟩ | ⟨_, e⟩ | ⟨_, e⟩
                · exact Or.inl e
                · exact Or.inr (Or.inl e)
                · exact Or.inr (Or.inr e)
              exact ext (by rw [a3, q]; exact vi1 s1 r3 q2 q3) q3 (by omega)
        · have y1 := s4 q
          rw [if_neg q, if_neg (vi2 s1 y1)] at s5
          have r3 : rsg (h 0 x) = 1 ∨ rsg (h 0 x) = -1 ∨ rsg (h 0 x) = 0 := by
            rcases rsg_3 (h 0 x) with ⟨_, e⟩ | ⟨_, e⟩ | ⟨_, e⟩
            · exact Or.inl e
            · exact Or.inr (Or.inl e)
            · exact Or.inr (Or.inr e)
          exact ⟨m, t, t1, t2, by grind, t4, Or.inl ⟨vi3 s1 y1, by omega, by rw [a3]; exact vi4 s1 r3 q a1 y1⟩⟩
      · have y1 := s4 (by rw [a1]; omega)
        rw [if_neg (by omega), if_neg (by omega)] at s5
        exact ext (by rw [a3, s2]; omega) (by omega) (by omega)
  obtain ⟨m, t, t1, t2, t3, t4, t5⟩ := key
  have par : ∀ i, i ≤ m → rsg (h 0 (t i)) = if i % 2 = 0 then rsg (h 0 a) else -rsg (h 0 a) := by
    intro i
    induction i with
    | zero => intro _; rw [if_pos rfl, t2]
    | succ i ih =>
      intro hi
      rw [t4 i (by omega), ih (by omega)]
      by_cases e : i % 2 = 0
      · rw [if_pos e, if_neg (by omega)]
      · rw [if_neg e, if_pos (by omega)]; omega
  rcases t5 with ⟨a1, a2, a3⟩ | ⟨a1, _, _⟩
  · exact ⟨m, a2, ⟨t, t1, by rw [t2]; exact hc, by rw [t2]; exact fa', t4⟩, by rw [← a3]; exact par m (Nat.le_refl m)⟩
  · exact absurd (rsg_z.mp a1) fb
/-- the parity of the changes of sign -/
theorem fN_par {s : Nat → Int} : ∀ n, (fN s n = 0 ↔ chL s n = 0) ∧ (fN s n ≠ 0 → chL s n = if chC s n % 2 = 0 then fN s n else -fN s n) ∧ (fN s n = 1 ∨ fN s n = -1 ∨ fN s n = 0) := by
  intro n
  induction n with
  | zero => exact ⟨Iff.rfl, fun h => absurd rfl h, Or.inr (Or.inr rfl)⟩
  | succ n ih =>
    obtain ⟨h1, h2, h3⟩ := ih
    have s3 := rsign3 (s n)
    rw [fN_s, cl_s, ch_s]
    by_cases c : fN s n = 0
    · have c2 := h1.mp c
      rw [if_pos c, c2]
      rw [if_neg (show ¬ ((s n).sign ≠ 0 ∧ (0 : Int) ≠ 0 ∧ (s n).sign ≠ 0) from fun w => w.2.1 rfl)]
      have ch0 : chC s n = 0 := by
        have z := fN_z n c
        have : ∀ k, k ≤ n → chC s k = 0 := by
          intro k
          induction k with
          | zero => intro _; rfl
          | succ k ih => intro hk; rw [ch_s, if_neg (fun w => w.1 (by rw [z k (by omega)]; rfl)), ih (by omega)]
        exact this n (Nat.le_refl n)
      rw [ch0]
      by_cases d : (s n).sign = 0
      · rw [d, if_pos rfl]; exact ⟨Iff.rfl, fun h => absurd rfl h, Or.inr (Or.inr rfl)⟩
      · rw [if_neg d]; exact ⟨⟨fun w => absurd w d, fun w => absurd w d⟩, fun _ => by rw [if_pos rfl], by omega⟩
    · have c2 : chL s n ≠ 0 := fun w => c (h1.mpr w)
      have h4 := h2 c
      rw [if_neg c]
      by_cases d : (s n).sign = 0
      · rw [d, if_pos rfl, if_neg (show ¬ ((0 : Int) ≠ 0 ∧ chL s n ≠ 0 ∧ (0 : Int) ≠ chL s n) from fun w => w.1 rfl)]
        exact ⟨h1, h2, h3⟩
      · rw [if_neg d]
        refine ⟨⟨fun w => absurd w c, fun w => absurd w d⟩, fun _ => ?_, h3⟩
        by_cases e : (s n).sign = chL s n
        · rw [if_neg (show ¬ ((s n).sign ≠ 0 ∧ chL s n ≠ 0 ∧ (s n).sign ≠ chL s n) from fun w => w.2.2 e), e]
          exact h4
        · rw [if_pos (show (s n).sign ≠ 0 ∧ chL s n ≠ 0 ∧ (s n).sign ≠ chL s n from ⟨d, c2, e⟩)]
          by_cases f : chC s n % 2 = 0
          · rw [if_pos f] at h4
            rw [if_neg (by omega)]; omega
          · rw [if_neg f] at h4
            rw [if_pos (by omega)]; omega
