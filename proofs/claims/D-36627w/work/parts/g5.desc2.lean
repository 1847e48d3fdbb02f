/-! PLAIN LAW 50: Descartes' rule: signs that alternate to the right of 0 -/
theorem an_ind {P : Rat → Prop} {a b : Rat} (hab : a ≤ b) (h0 : P a) (h : ∃ δ, 0 < δ ∧ ∀ x y, a ≤ x → x < y → y ≤ b → y - x < δ → P x → P y) : P b := by
  obtain ⟨δ, hδ, h⟩ := h
  obtain ⟨n, hn, hb⟩ := an_arch (b - a) δ hδ
  have hp : (0 : Rat) < (n : Rat) := Rat.natCast_pos.mpr hn
  have hm : (n : Rat) * (n : Rat)⁻¹ = 1 := Rat.mul_inv_cancel _ (by grind)
  have hi : (0 : Rat) < (n : Rat)⁻¹ := Rat.inv_pos.mpr hp
  have key : ∀ j, j ≤ n → P (anX a b n j) := by
    intro j
    induction j with
    | zero => intro _; rw [anX_0]; exact h0
    | succ j ih =>
      intro hj
      have ih' := ih (by omega)
      have e1 := anX_in hab hn (show j ≤ n by omega)
      have e2 := anX_in hab hn hj
      have e3 := anX_s a b n j
      rw [Rat.div_def] at e3
      rcases (show a < b ∨ a = b by grind) with q | q
      · have e4 : (b - a) * (n : Rat)⁻¹ < δ := by
          have := Rat.mul_lt_mul_of_pos_right hb hi
          have e5 : (n : Rat) * δ * (n : Rat)⁻¹ = δ := by grind
          grind
        have e5 := Rat.mul_pos (show 0 < b - a by grind) hi
        exact h _ _ e1.1 (by grind) e2.2 (by grind) ih'
      · have e4 : anX a b n (j + 1) = anX a b n j := by rw [e3, ← q]; grind
        rw [e4]; exact ih'
  have := key n (Nat.le_refl n)
  rw [anX_n a b hn] at this
  exact this
/-- m changes of sign at points to the right of a -/
def alt (f : Rat → Rat) (m : Nat) (a : Rat) : Prop := ∃ t : Nat → Rat, (∀ i, i < m → t i < t (i + 1)) ∧ a < t 0 ∧ rsg (f (t 0)) ≠ 0 ∧ ∀ i, i < m → rsg (f (t (i + 1))) = -rsg (f (t i))
theorem rolle {f g : Rat → Rat} (hD : ∀ K, 0 ≤ K → anP f g K) {x y : Rat} (hxy : x ≤ y) (h0 : rsg (f x) ≠ 0) (h : rsg (f y) = -rsg (f x)) : ∃ z, x ≤ z ∧ z ≤ y ∧ rsg (g z) = rsg (f y) := by
  obtain ⟨K, hK⟩ : ∃ K, K = rab x + rab y := ⟨_, rfl⟩
  have k1 := rab_b x
  have k2 := rab_b y
  have k3 := rab_nn x
  have k4 := rab_nn y
  obtain ⟨B, L, M, b1, b2, b3, _, _, b6⟩ := hD K (by grind)
  refine Classical.byContradiction fun w => ?_
  rcases rsg_3 (f x) with ⟨hx, ex⟩ | ⟨hx, ex⟩ | ⟨hx, ex⟩
  · -- f falls
    have hy : f y < 0 := by
      rcases rsg_3 (f y) with ⟨q, e⟩ | ⟨q, e⟩ | ⟨q, e⟩
      · omega
      · exact q
      · omega
    have := an_mono b3 b6 (x := x) (y := y) (by grind) hxy (by grind) (fun z z1 z2 => by
      refine Classical.byContradiction fun w2 => w ⟨z, z1, z2, ?_⟩
      rw [rsg_n (show g z < 0 by grind), rsg_n hy])
    grind
  · have hy : 0 < f y := by
      rcases rsg_3 (f y) with ⟨q, e⟩ | ⟨q, e⟩ | ⟨q, e⟩
      · exact q
      · omega
      · omega
    have := an_mono b3 (anD_neg b6) (x := x) (y := y) (by grind) hxy (by grind) (fun z z1 z2 => by
      refine Classical.byContradiction fun w2 => w ⟨z, z1, z2, ?_⟩
      rw [rsg_p (show 0 < g z by grind), rsg_p hy])
    grind
  · exact h0 ex
/-- the first sign that is not 0 -/
def fN (s : Nat → Int) : Nat → Int
  | 0 => 0
  | n + 1 => if fN s n = 0 then (s n).sign else fN s n
theorem fN_s (s : Nat → Int) (n : Nat) : fN s (n + 1) = if fN s n = 0 then (s n).sign else fN s n := rfl
theorem fN_congr {s t : Nat → Int} : ∀ n, (∀ i, i < n → (s i).sign = (t i).sign) → fN s n = fN t n := by
  intro n
  induction n with
  | zero => intro _; rfl
  | succ n ih => intro h; rw [fN_s, fN_s, ih (fun i hi => h i (by omega)), h n (Nat.lt_succ_self n)]
theorem fN_z {s : Nat → Int} : ∀ n, fN s n = 0 → ∀ i, i < n → s i = 0 := by
  intro n
  induction n with
  | zero => intro _ i hi; exact absurd hi (Nat.not_lt_zero i)
  | succ n ih =>
    intro h i hi
    rw [fN_s] at h
    by_cases c : fN s n = 0
    · rw [if_pos c] at h
      by_cases e : i = n
      · rw [e]; exact sign_z.mp h
      · exact ih c i (by omega)
    · rw [if_neg c] at h; exact absurd h c
theorem fN_cons (p : Nat → Int) : ∀ n, fN p (n + 1) = if p 0 = 0 then fN (fun k => p (k + 1)) n else (p 0).sign := by
  intro n
  induction n with
  | zero =>
    rw [fN_s]
    show (if (0 : Int) = 0 then (p 0).sign else 0) = if p 0 = 0 then 0 else (p 0).sign
    rw [if_pos rfl]
    by_cases c : p 0 = 0
    · rw [if_pos c, c]; rfl
    · rw [if_neg c]
  | succ n ih =>
    rw [fN_s, ih, fN_s]
    by_cases c : p 0 = 0
    · rw [if_pos c, if_pos c]
    · rw [if_neg c, if_neg c, if_neg (fun w => c (sign_z.mp w))]
theorem ch_cons (p : Nat → Int) : ∀ n, (p 0 = 0 → chL p (n + 1) = chL (fun k => p (k + 1)) n ∧ chC p (n + 1) = chC (fun k => p (k + 1)) n) ∧ (p 0 ≠ 0 → chL p (n + 1) = (if chL (fun k => p (k + 1)) n = 0 then (p 0).sign else chL (fun k => p (k + 1)) n) ∧ chC p (n + 1) = chC (fun k => p (k + 1)) n + (if fN (fun k => p (k + 1)) n ≠ 0 ∧ fN (fun k => p (k + 1)) n ≠ (p 0).sign then 1 else 0) ∧ (fN (fun k => p (k + 1)) n = 0 ↔ chL (fun k => p (k + 1)) n = 0)) := by
  intro n
  induction n with
  | zero =>
    refine ⟨fun h => ⟨?_, ?_⟩, fun h => ⟨?_, ?_, ?_⟩⟩
    · rw [cl_s, h]; rfl
    · rw [ch_s, if_neg (fun w => w.2.1 rfl)]; rfl
    · rw [cl_s]
      show (if (p 0).sign = 0 then 0 else (p 0).sign) = if (0 : Int) = 0 then (p 0).sign else 0
      rw [if_pos rfl, if_neg (fun w => h (sign_z.mp w))]
    · have e0 : ¬ (fN (fun k => p (k + 1)) 0 ≠ 0 ∧ fN (fun k => p (k + 1)) 0 ≠ (p 0).sign) := fun w => w.1 rfl
      rw [ch_s, if_neg (fun w => w.2.1 rfl), if_neg e0]; rfl
    · exact Iff.rfl
  | succ n ih =>
    obtain ⟨h1, h2⟩ := ih
    refine ⟨fun h => ?_, fun h => ?_⟩
    · obtain ⟨a1, a2⟩ := h1 h
      rw [cl_s, ch_s, a1, a2, cl_s, ch_s]
      exact ⟨rfl, rfl⟩
    · obtain ⟨a1, a2, a3⟩ := h2 h
      have hs : (p 0).sign ≠ 0 := fun w => h (sign_z.mp w)
      rw [cl_s, ch_s, a1, a2, cl_s, ch_s, fN_s]
      generalize hq : (fun k => p (k + 1)) = q at *
      have eq : p (n + 1) = q n := by rw [← hq]
      rw [eq]
      have s3 := rsign3 (q n)
      by_cases c : chL q n = 0
      · have c2 := a3.mpr c
        rw [if_pos c, if_pos c2, c2, c]
        have z1 : ¬ ((q n).sign ≠ 0 ∧ (0 : Int) ≠ 0 ∧ (q n).sign ≠ 0) := fun w => w.2.1 rfl
        rw [if_neg z1, if_neg (show ¬ ((0 : Int) ≠ 0 ∧ (0 : Int) ≠ (p 0).sign) from fun w => w.1 rfl)]
        by_cases d : (q n).sign = 0
        · rw [d]
          refine ⟨by rw [if_pos rfl, if_pos rfl, if_pos rfl], ?_, by rw [if_pos rfl]⟩
          rw [if_neg (fun w => w.1 rfl), if_neg (fun w => w.1 rfl)]
        · rw [if_neg d, if_neg d, if_neg d]
          refine ⟨rfl, ?_, ⟨fun w => absurd w d, fun w => absurd w d⟩⟩
          by_cases e : (q n).sign = (p 0).sign
          · rw [if_neg (fun w => w.2.2 e), if_neg (fun w => w.2 e)]
          · rw [if_pos ⟨d, hs, e⟩, if_pos ⟨d, e⟩]
      · have c2 : fN q n ≠ 0 := fun w => c (a3.mp w)
        rw [if_neg c, if_neg c2]
        by_cases d : (q n).sign = 0
        · have zz : ¬ ((0 : Int) ≠ 0 ∧ chL q n ≠ 0 ∧ (0 : Int) ≠ chL q n) := fun w => w.1 rfl
          rw [d, if_pos rfl, if_neg c, if_neg zz, if_neg zz]
          exact ⟨rfl, rfl, ⟨fun w => absurd w c2, fun w => absurd w c⟩⟩
        · rw [if_neg d, if_neg d]
          refine ⟨rfl, ?_, ⟨fun w => absurd w c2, fun w => absurd w d⟩⟩
          by_cases e : (q n).sign = chL q n
          · have zz : ¬ ((q n).sign ≠ 0 ∧ chL q n ≠ 0 ∧ (q n).sign ≠ chL q n) := fun w => w.2.2 e
            rw [if_neg zz, if_neg zz]
          · have zz : (q n).sign ≠ 0 ∧ chL q n ≠ 0 ∧ (q n).sign ≠ chL q n := ⟨d, c, e⟩
            rw [if_pos zz, if_pos zz]; omega
/-- just to the right of 0 -/
theorem near0 : ∀ (n : Nat) (p : Nat → Int), fN p n ≠ 0 → ∃ η : Rat, 0 < η ∧ ∀ x, 0 < x → x < η → rsg (pe (ci p) n x) = fN p n := by
  intro n
  induction n with
  | zero => intro p h; exact absurd rfl h
  | succ n ih =>
    intro p h
    have ec : (fun k => ci p (k + 1)) = ci (fun k => p (k + 1)) := rfl
    rw [fN_cons] at h ⊢
    by_cases c : p 0 = 0
    · rw [if_pos c] at h ⊢
      obtain ⟨η, h1, h2⟩ := ih _ h
      refine ⟨η, h1, fun x x1 x2 => ?_⟩
      rw [pe_0, ec, ← h2 x x1 x2]
      have e0 : ci p 0 = 0 := by show (p 0 : Rat) = 0; rw [c]; rfl
      rw [e0, show 0 + x * pe (ci fun k => p (k + 1)) n x = x * pe (ci fun k => p (k + 1)) n x by grind, rsg_mul x1]
    · rw [if_neg c] at h ⊢
      obtain ⟨B, B0, hB⟩ := (dl.pfn (⟨ci (fun k => p (k + 1)), fun _ => rfl⟩ : dl (pe (ci (fun k => p (k + 1))) n) n)).bd (show (0 : Rat) ≤ 1 by decide)
      have hi : 0 < (B + 1)⁻¹ := Rat.inv_pos.mpr (by grind)
      have him : (B + 1) * (B + 1)⁻¹ = 1 := Rat.mul_inv_cancel _ (by grind)
      have hle : (B + 1)⁻¹ ≤ 1 := by
        have := Rat.mul_le_mul_of_nonneg_right (show (1 : Rat) ≤ B + 1 by grind) (Rat.le_of_lt hi)
        rw [him] at this
        grind
      refine ⟨(B + 1)⁻¹, hi, fun x x1 x2 => ?_⟩
      rw [pe_0, ec]
      obtain ⟨q1, q2⟩ := hB x (by grind) (by grind)
      have r1 := rab_le q1 q2
      have r2 : rab (x * pe (ci fun k => p (k + 1)) n x) < rab (ci p 0) := by
        rw [rab_mul, show rab x = x from if_pos (Rat.le_of_lt x1)]
        have s1 : x * rab (pe (ci fun k => p (k + 1)) n x) ≤ x * B := Rat.mul_le_mul_of_nonneg_left r1 (Rat.le_of_lt x1)
        have s2 : (B + 1) * x < (B + 1) * (B + 1)⁻¹ := Rat.mul_lt_mul_of_pos_left x2 (by grind)
        rw [him] at s2
        have s3 : 1 ≤ rab (ci p 0) := rab_int c
        grind
      rw [show ci p 0 + x * pe (ci fun k => p (k + 1)) n x = x * pe (ci fun k => p (k + 1)) n x + ci p 0 by grind, rsg_big r2]
      exact rsg_int (p 0)
theorem desc_alt : ∀ (n : Nat) (p : Nat → Int) (m : Nat), alt (pe (ci p) n) m 0 → m ≤ chC p n := by
  intro n
  induction n with
  | zero =>
    intro p m ⟨t, _, _, h0, _⟩
    exact absurd (rsg_0 (x := pe (ci p) 0 (t 0)) rfl) h0
  | succ n ih =>
    intro p m ⟨t, ht, t0, h0, ha⟩
    have tm : ∀ i, i ≤ m → t 0 ≤ t i := by
      intro i
      induction i with
      | zero => intro _; exact Rat.le_refl
      | succ i ih2 => intro hi; have := ih2 (by omega); have := ht i (by omega); grind
    have ec : (fun k => ci p (k + 1)) = ci (fun k => p (k + 1)) := rfl
    have nz : ∀ i, i ≤ m → rsg (pe (ci p) (n + 1) (t i)) ≠ 0 := by
      intro i
      induction i with
      | zero => intro _; exact h0
      | succ i ih2 => intro hi; have := ih2 (by omega); have := ha i (by omega); omega
    by_cases c : p 0 = 0
    · rw [((ch_cons p n).1 c).2]
      have e : ∀ x, 0 < x → rsg (pe (ci p) (n + 1) x) = rsg (pe (ci (fun k => p (k + 1))) n x) := fun x x1 => by
        have e0 : ci p 0 = 0 := by show (p 0 : Rat) = 0; rw [c]; rfl
        rw [pe_0, ec, e0, show 0 + x * pe (ci fun k => p (k + 1)) n x = x * pe (ci fun k => p (k + 1)) n x by grind, rsg_mul x1]
      refine ih _ m ⟨t, ht, t0, by rw [← e (t 0) t0]; exact h0, fun i hi => ?_⟩
      have p1 := tm i (by omega)
      have p2 := tm (i + 1) (by omega)
      rw [← e _ (by grind), ← e _ (by grind)]
      exact ha i hi
    · obtain ⟨r, hr⟩ : ∃ r, r = dvI7 p := ⟨_, rfl⟩
      have sr : ∀ i, (r i).sign = (p (i + 1)).sign := fun i => by
        rw [hr]
        show (((i : Int) + 1) * p (i + 1)).sign = _
        rw [Int.sign_mul, Int.sign_eq_one_of_pos (by omega), Int.one_mul]
      have c1 : chC r n = chC (fun k => p (k + 1)) n := (chs_congr n (fun i _ => sr i)).2
      have f1 : fN r n = fN (fun k => p (k + 1)) n := fN_congr n (fun i _ => sr i)
      have hD : ∀ K, 0 ≤ K → anP (pe (ci p) (n + 1)) (pe (ci r) n) K := fun K hK => by
        rw [hr, dvI7_dc]; exact anP_pe (ci p) hK n
      rw [((ch_cons p n).2 c).2.1, ← c1, ← f1]
      have zs : ∀ i, i < m → ∃ z, t i ≤ z ∧ z ≤ t (i + 1) ∧ rsg (pe (ci r) n z) = rsg (pe (ci p) (n + 1) (t (i + 1))) := fun i hi => rolle hD (Rat.le_of_lt (ht i hi)) (nz i (by omega)) (ha i hi)
      obtain ⟨z, hz⟩ : ∃ z : Nat → Rat, ∀ i, i < m → t i ≤ z i ∧ z i ≤ t (i + 1) ∧ rsg (pe (ci r) n (z i)) = rsg (pe (ci p) (n + 1) (t (i + 1))) := ⟨fun i => if h : i < m then Classical.choose (zs i h) else 0, fun i hi => by
        simp only [dif_pos hi]
        exact Classical.choose_spec (zs i hi)⟩
      have zlt : ∀ i, i + 1 < m → z i < z (i + 1) := fun i hi => by
        obtain ⟨a1, a2, a3⟩ := hz i (by omega)
        obtain ⟨b1, b2, b3⟩ := hz (i + 1) hi
        have := ha (i + 1) hi
        have := nz (i + 1) (by omega)
        have hne : z i ≠ z (i + 1) := fun e => by rw [e] at a3; omega
        grind
      have zal : ∀ i, i + 1 < m → rsg (pe (ci r) n (z (i + 1))) = -rsg (pe (ci r) n (z i)) := fun i hi => by
        rw [(hz i (by omega)).2.2, (hz (i + 1) hi).2.2]
        exact ha (i + 1) hi
      by_cases c0 : fN r n = 0
      · -- a constant
        have rz := fN_z n c0
        have fc : ∀ x, pe (ci p) (n + 1) x = ci p 0 := fun x => by
          rw [pe_0, ec, pe_z n (fun k hk => by
            have h1 := rz k hk
            have h2 := sr k
            rw [h1] at h2
            show (p (k + 1) : Rat) = 0
            rw [sign_z.mp h2.symm]; rfl)]
          grind
        have hm : m = 0 := by
          refine Classical.byContradiction fun w => ?_
          have h1 := ha 0 (by omega)
          rw [fc, fc] at h1
          rw [fc] at h0
          omega
        omega
      · by_cases cs : fN r n = (p 0).sign
        · rw [if_neg (fun w => w.2 cs)]
          obtain ⟨η, η0, hη⟩ := near0 n r c0
          have s3 := rsign3 (p 0)
          have ps : (p 0).sign ≠ 0 := fun w => c (sign_z.mp w)
          -- a point before the first
          have hw : ∃ w, 0 < w ∧ w ≤ t 0 ∧ rsg (pe (ci r) n w) = rsg (pe (ci p) (n + 1) (t 0)) := by
            have r3 := rsg_3 (pe (ci p) (n + 1) (t 0))
            by_cases d : rsg (pe (ci p) (n + 1) (t 0)) = (p 0).sign
            · by_cases e : η ≤ t 0
              · refine ⟨η * (1 / 2), by grind, by grind, ?_⟩
                rw [hη _ (by grind) (by grind), cs, d]
              · refine ⟨t 0 * (1 / 2), by grind, by grind, ?_⟩
                rw [hη _ (by grind) (by grind), cs, d]
            · have e0 : rsg (pe (ci p) (n + 1) 0) = (p 0).sign := by
                rw [pe_0]
                have : ci p 0 + 0 * pe (fun k => ci p (k + 1)) n 0 = (p 0 : Rat) := by show (p 0 : Rat) + 0 * _ = _; grind
                rw [this, rsg_int]
              obtain ⟨w, w1, w2, w3⟩ := rolle hD (Rat.le_of_lt t0) (by rw [e0]; exact ps) (by rw [e0]; omega)
              refine ⟨w, ?_, w2, w3⟩
              have hw0 : w ≠ 0 := fun e => by
                rw [e] at w3
                cases n with
                | zero => exact c0 rfl
                | succ n =>
                  rw [pe_0] at w3
                  have e5 : ci r 0 + 0 * pe (fun k => ci r (k + 1)) n 0 = (r 0 : Rat) := by show (r 0 : Rat) + 0 * _ = _; grind
                  rw [e5, rsg_int] at w3
                  rw [fN_cons] at cs
                  by_cases z0 : r 0 = 0
                  · rw [z0] at w3
                    exact h0 w3.symm
                  · rw [if_neg z0] at cs
                    omega
              grind
          obtain ⟨w, w1, w2, w3⟩ := hw
          refine ih r m ⟨fun i => if i = 0 then w else z (i - 1), fun i hi => ?_, w1, by show rsg (pe (ci r) n w) ≠ 0; rw [w3]; exact h0, fun i hi => ?_⟩
          · show (if i = 0 then w else z (i - 1)) < (if i + 1 = 0 then w else z (i + 1 - 1))
            rw [if_neg (show ¬ i + 1 = 0 by omega), Nat.add_sub_cancel]
            by_cases e : i = 0
            · subst e
              rw [if_pos rfl]
              obtain ⟨a1, a2, a3⟩ := hz 0 hi
              have h2 := ha 0 hi
              have hne : w ≠ z 0 := fun e => by rw [← e] at a3; rw [Nat.zero_add] at *; omega
              grind
            · rw [if_neg e]
              have := zlt (i - 1) (by omega)
              rwa [show i - 1 + 1 = i by omega] at this
          · show rsg (pe (ci r) n (if i + 1 = 0 then w else z (i + 1 - 1))) = -rsg (pe (ci r) n (if i = 0 then w else z (i - 1)))
            rw [if_neg (show ¬ i + 1 = 0 by omega), Nat.add_sub_cancel]
            by_cases e : i = 0
            · subst e
              rw [if_pos rfl, w3, (hz 0 hi).2.2]
              exact ha 0 hi
            · rw [if_neg e]
              have := zal (i - 1) (by omega)
              rwa [show i - 1 + 1 = i by omega] at this
        · rw [if_pos ⟨c0, cs⟩]
          cases m with
          | zero => omega
          | succ m =>
            have := ih r m ⟨z, fun i hi => zlt i (by omega), by have := (hz 0 (by omega)).1; grind, by rw [(hz 0 (by omega)).2.2]; exact nz 1 (by omega), fun i hi => zal i (by omega)⟩
            omega
