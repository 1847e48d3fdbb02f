/-! PLAIN LAW 35: a small combination of low degree -/
theorem iS_ab {m x : Nat → Int} {X : Nat} : ∀ n, (∀ i, i < n → (x i).natAbs ≤ X) → (((iS (fun u => m u * x u) n)).natAbs : Int) ≤ (X : Int) * iS (fun u => ((m u).natAbs : Int)) n := by
  intro n
  induction n with
  | zero => intro _; show (((0 : Int)).natAbs : Int) ≤ (X : Int) * 0; rw [Int.natAbs_zero]; omega
  | succ n ih =>
    intro h
    have h1 := ih (fun i hi => h i (by omega))
    have h2 := h n (Nat.lt_succ_self n)
    show ((iS (fun u => m u * x u) n + m n * x n).natAbs : Int) ≤ (X : Int) * (iS (fun u => ((m u).natAbs : Int)) n + ((m n).natAbs : Int))
    have h3 : ((m n * x n).natAbs : Int) ≤ (X : Int) * ((m n).natAbs : Int) := by
      rw [Int.natAbs_mul, Nat.mul_comm, ← Int.natCast_mul]
      exact Int.ofNat_le.mpr (Nat.mul_le_mul_right _ h2)
    have h4 := Int.natAbs_add_le (iS (fun u => m u * x u) n) (m n * x n)
    rw [Int.mul_add]
    omega
theorem small_ex {a b : Nat → Int} {m n e A B : Nat} (ha : ∀ k, m < k → a k = 0) (hb : ∀ k, n < k → b k = 0) (hA : ∀ k, (a k).natAbs ≤ A) (hB : ∀ k, (b k).natAbs ≤ B) (em : e ≤ m) (en : e ≤ n) (hA1 : 1 ≤ A) : ∃ U V T : Nat → Int, ((∃ u, u < n - e + 1 ∧ U u ≠ 0) ∨ ∃ u, u < m - e + 1 ∧ V u ≠ 0) ∧ (∀ k, (T k).natAbs ≤ ((n - e + 1) * A + (m - e + 1) * B) ^ (m + n - 2 * e + 2)) ∧ ∀ s, pe (ci T) e s = pe (ci U) (n - e + 1) s * pe (ci a) (m + 1) s + pe (ci V) (m - e + 1) s * pe (ci b) (n + 1) s := by
  obtain ⟨lam, hlam⟩ : ∃ lam, lam = (n - e + 1) * A + (m - e + 1) * B := ⟨_, rfl⟩
  obtain ⟨N, hN⟩ : ∃ N, N = m + n - 2 * e + 1 := ⟨_, rfl⟩
  have hl1 : 1 ≤ lam := by
    rw [hlam]
    have : 1 ≤ (n - e + 1) * A := Nat.mul_pos (by omega) hA1
    omega
  obtain ⟨w, hw⟩ : ∃ w : Nat → Nat → Int, w = fun k u => if u < n - e + 1 then (if u ≤ k then a (k - u) else 0) else (if u - (n - e + 1) ≤ k then b (k - (u - (n - e + 1))) else 0) := ⟨_, rfl⟩
  have w1 : ∀ k u, u < n - e + 1 → w k u = (if u ≤ k then a (k - u) else 0) := fun k u h => by rw [hw]; exact if_pos h
  have w2 : ∀ k i, w k (n - e + 1 + i) = (if i ≤ k then b (k - i) else 0) := fun k i => by
    rw [hw]
    show (if n - e + 1 + i < n - e + 1 then _ else _) = _
    rw [if_neg (by omega), show n - e + 1 + i - (n - e + 1) = i by omega]
  have hN1 : N + 1 = (n - e + 1) + (m - e + 1) := by omega
  have wS : ∀ k, iS (fun u => ((w k u).natAbs : Int)) (N + 1) ≤ (lam : Int) := fun k => by
    rw [hN1, iS_split]
    have s1 := iS_le (f := fun u => ((w k u).natAbs : Int)) (c := (A : Int)) (n - e + 1) (fun i hi => by
      show ((w k i).natAbs : Int) ≤ (A : Int)
      rw [w1 k i hi]
      split
      · have := hA (k - i); omega
      · show (((0 : Int)).natAbs : Int) ≤ _; rw [Int.natAbs_zero]; omega)
    have s2 := iS_le (f := fun i => ((w k (n - e + 1 + i)).natAbs : Int)) (c := (B : Int)) (m - e + 1) (fun i hi => by
      show ((w k (n - e + 1 + i)).natAbs : Int) ≤ _
      rw [w2 k i]
      split
      · have := hB (k - i); omega
      · show (((0 : Int)).natAbs : Int) ≤ _; rw [Int.natAbs_zero]; omega)
    have s3 : ((lam : Nat) : Int) = ((n - e + 1 : Nat) : Int) * (A : Int) + ((m - e + 1 : Nat) : Int) * (B : Int) := by
      rw [hlam, Int.natCast_add, Int.natCast_mul, Int.natCast_mul]
    rw [s3]
    omega
  obtain ⟨x, ⟨u0, u1, u2⟩, xb, xe⟩ := siegel (N := N) hl1 (fun k u => w (e + k) u) (fun k _ => wS (e + k))
  obtain ⟨V, hV⟩ : ∃ V : Nat → Int, V = fun i => x (n - e + 1 + i) := ⟨_, rfl⟩
  have tot : ∀ k, prR (ci x) (ci a) (n - e + 1) k + prR (ci V) (ci b) (m - e + 1) k = ((iS (fun u => w k u * x u) (N + 1) : Int) : Rat) := fun k => by
    rw [hN1, iS_split, prR_int, prR_int, ← Rat.intCast_add]
    have e2 : iS (fun u => w k u * x u) (n - e + 1) = iS (fun u => (if u ≤ k then a (k - u) else 0) * x u) (n - e + 1) := iS_congr _ (fun i hi => by
      show w k i * x i = _
      rw [w1 _ i hi])
    have e3 : iS (fun i => w k (n - e + 1 + i) * x (n - e + 1 + i)) (m - e + 1) = iS (fun u => (if u ≤ k then b (k - u) else 0) * V u) (m - e + 1) := iS_congr _ (fun i hi => by
      show w k (n - e + 1 + i) * x (n - e + 1 + i) = _
      rw [w2 _ i, hV])
    rw [e2, e3]
  refine ⟨x, V, fun k => iS (fun u => w k u * x u) (N + 1), ?_, fun k => ?_, fun s => ?_⟩
  · by_cases c : u0 < n - e + 1
    · exact Or.inl ⟨u0, c, u2⟩
    · refine Or.inr ⟨u0 - (n - e + 1), by omega, ?_⟩
      rw [hV]
      show x (n - e + 1 + (u0 - (n - e + 1))) ≠ 0
      rw [show n - e + 1 + (u0 - (n - e + 1)) = u0 by omega]; exact u2
  · have h1 := iS_ab (m := w k) (x := x) (X := lam ^ N) (N + 1) (fun i _ => xb i)
    have h2 := wS k
    have h3 : ((lam ^ N : Nat) : Int) * iS (fun u => ((w k u).natAbs : Int)) (N + 1) ≤ ((lam ^ N : Nat) : Int) * (lam : Int) := Int.mul_le_mul_of_nonneg_left h2 (by omega)
    rw [← hlam, show m + n - 2 * e + 2 = N + 1 by omega, Nat.pow_succ]
    rw [← Int.natCast_mul] at h3
    show (iS (fun u => w k u * x u) (N + 1)).natAbs ≤ _
    omega
  · rw [← prR_ev (ci x) (ci a) (b := m + 1) (fun k hk => by show (a k : Rat) = 0; rw [ha k (by omega)]; rfl) s (n - e + 1) (m + n - e + 1) (by omega),
      ← prR_ev (ci V) (ci b) (b := n + 1) (fun k hk => by show (b k : Rat) = 0; rw [hb k (by omega)]; rfl) s (m - e + 1) (m + n - e + 1) (by omega), ← pe_add]
    rw [pe_ext2 (n := e) (m + n - e + 1) (by omega) (fun k k1 k2 => by
      show prR (ci x) (ci a) (n - e + 1) k + prR (ci V) (ci b) (m - e + 1) k = 0
      rw [tot]
      have := xe (k - e) (by omega)
      have h9 : iS (fun u => w k u * x u) (N + 1) = 0 := by
        rw [← this]
        show _ = iS (fun u => w (e + (k - e)) u * x u) (N + 1)
        rw [show e + (k - e) = k by omega]
      rw [h9]; rfl) s]
    exact pe_congr e (fun k _ => (tot k).symm) s
/-- a multiple of a primitive one -/
theorem pg_mul {R : Nat → Int} {d x : Nat} : ∀ n, (∀ k, k < n → d ∣ x * (R k).natAbs) → d ∣ x * pg R n := by
  intro n
  induction n with
  | zero => intro _; exact Nat.dvd_zero d
  | succ n ih =>
    intro h
    show d ∣ x * Nat.gcd (pg R n) (R n).natAbs
    rw [← Nat.gcd_mul_left]
    exact Nat.dvd_gcd (ih (fun k hk => h k (by omega))) (h n (Nat.lt_succ_self n))
theorem prim_least {R T : Nat → Int} (hc : pcont R = 1) {κ : Rat} (h : ∀ k, k < 7 → (T k : Rat) = κ * (R k : Rat)) {j : Nat} (hj : j < 7) (hT : T j ≠ 0) : ∀ k, k < 7 → (R k).natAbs ≤ (T k).natAbs := by
  have cr : ∀ k, k < 7 → T k * R j = T j * R k := fun k hk => by
    have h1 := h k hk
    have h2 := h j hj
    have h3 : ((T k * R j : Int) : Rat) = ((T j * R k : Int) : Rat) := by rw [Rat.intCast_mul, Rat.intCast_mul, h1, h2]; grind
    exact Rat.intCast_inj.mp h3
  have Rj : R j ≠ 0 := fun z => by
    have h2 := h j hj
    rw [z, show ((0 : Int) : Rat) = 0 from rfl] at h2
    exact hT (Rat.intCast_eq_zero_iff.mp (by rw [h2]; grind))
  have d1 : (R j).natAbs ∣ (T j).natAbs * pg R 7 := pg_mul 7 (fun k hk => by
    have := cr k hk
    rw [← Int.natAbs_mul, ← this, Int.natAbs_mul]
    exact Nat.dvd_mul_left _ _)
  have d2 : pg R 7 = 1 := hc
  rw [d2, Nat.mul_one] at d1
  obtain ⟨t, ht⟩ := d1
  have ht0 : 1 ≤ t := by
    rcases Nat.eq_zero_or_pos t with z | z
    · rw [z, Nat.mul_zero] at ht; exact absurd (Int.natAbs_eq_zero.mp ht) hT
    · exact z
  intro k hk
  have h1 := congrArg Int.natAbs (cr k hk)
  rw [Int.natAbs_mul, Int.natAbs_mul, ht] at h1
  have hp : 0 < (R j).natAbs := Int.natAbs_pos.mpr Rj
  have h2 : (R j).natAbs * (T k).natAbs = (R j).natAbs * (t * (R k).natAbs) := by rw [← Nat.mul_assoc, ← h1, Nat.mul_comm]
  have h3 := Nat.eq_of_mul_eq_mul_left hp h2
  rw [h3]
  exact Nat.le_mul_of_pos_left _ ht0
/-- an element of Euclid's chain is small -/
theorem el_le {a b : Nat → Int} {m n e A B : Nat} (ha : ∀ k, m < k → a k = 0) (hb : ∀ k, n < k → b k = 0) (hA : ∀ k, (a k).natAbs ≤ A) (hB : ∀ k, (b k).natAbs ≤ B) {i : Nat} {r : Nat → Rat → Rat} {D : Nat → Nat} (hr : ∀ k, k ≤ i → hdeg (r k) (D k)) (hD : ∀ k, k ≤ i → D i ≤ D k) (e0 : ∀ x, r 0 x = pe (ci a) (m + 1) x) (e1 : ∀ x, r 1 x = pe (ci b) (n + 1) x) (d0 : D 0 = m) (de : D i = e) (en : e ≤ n) (hq : ∀ k, k < i → ∃ (Q : Rat → Rat) (c s : Rat), Pfn Q ∧ c ≠ 0 ∧ s ≠ 0 ∧ ∀ x, c * r k x = Q x * r (k + 1) x + s * r (k + 2) x) {R : Nat → Int} (hR : ∀ x, r (i + 1) x = ev R x) (hR0 : 0 ≤ pdeg R) (hRe : pdeg R < (e : Int)) (hc : pcont R = 1) (e7 : e ≤ 7) : ∀ k, k < 7 → (R k).natAbs ≤ ((n - e + 1) * A + (m - e + 1) * B) ^ (m + n - 2 * e + 2) := by
  have em : e ≤ m := by rw [← de, ← d0]; exact hD 0 (by omega)
  have hA1 : 1 ≤ A := by
    refine Classical.byContradiction fun h => (hr 0 (by omega)).nz (fun x => ?_)
    rw [e0]
    exact pe_z _ (fun k _ => by show (a k : Rat) = 0; rw [show a k = 0 by have := hA k; omega]; rfl) x
  obtain ⟨U, V, T, hUV, hT, hs⟩ := small_ex ha hb hA hB em en hA1
  obtain ⟨g, hg⟩ := Int.eq_ofNat_of_zero_le hR0
  have hge : g < e := by omega
  have R1 : hdeg (r (i + 1)) g := (ev_hdeg hg).congr hR
  have dR : dl (r (i + 1)) (D i) := R1.dl.mono (by omega)
  have PU : dl (pe (ci U) (n - e + 1)) (n - e + 1) := ⟨ci U, fun _ => rfl⟩
  have PV : dl (pe (ci V) (m - e + 1)) (m - e + 1) := ⟨ci V, fun _ => rfl⟩
  obtain ⟨⟨κ, hκ⟩, hz⟩ := desc i r D hr hD dR hq (pe (ci U) (n - e + 1)) (pe (ci V) (m - e + 1)) (pe (ci T) e) PU.pfn PV.pfn (fun x => by rw [hs, e0, e1]) ⟨ci T, fun _ => by rw [de]⟩ (by rw [d0, de]; exact PV)
  have T7 : ∀ x, pe (cutc e (ci T)) 7 x = pe (fun k => κ * ci R k) 7 x := fun x => by
    rw [pe_cut e (ci T) e7, hκ, hR, pe_mul]; rfl
  have Tk := pe_inj T7
  have Tn : ¬ ∀ x, pe (ci T) e x = 0 := fun z => by
    obtain ⟨z1, z2⟩ := hz z R1.nz
    rcases hUV with ⟨u, u1, u2⟩ | ⟨u, u1, u2⟩
    · have := pe_inj (c := ci U) (d := fun _ => 0) (n := n - e + 1) (fun s => by rw [z1, pe_z _ (fun _ _ => rfl)]) u u1
      exact u2 (Rat.intCast_eq_zero_iff.mp this)
    · have := pe_inj (c := ci V) (d := fun _ => 0) (n := m - e + 1) (fun s => by rw [z2, pe_z _ (fun _ _ => rfl)]) u u1
      exact u2 (Rat.intCast_eq_zero_iff.mp this)
  have Tj : ∃ j, j < 7 ∧ (if j < e then T j else 0) ≠ 0 := Classical.byContradiction fun h => Tn (fun x => pe_z e (fun k hk => by
    show (T k : Rat) = 0
    have : T k = 0 := Classical.byContradiction fun h2 => h ⟨k, by omega, by rw [if_pos hk]; exact h2⟩
    rw [this]; rfl) x)
  obtain ⟨j, j1, j2⟩ := Tj
  intro k hk
  have h1 := prim_least (T := fun k => if k < e then T k else 0) hc (κ := κ) (fun k hk => by
    have := Tk k hk
    show ((if k < e then T k else 0 : Int) : Rat) = κ * ci R k
    rw [← this]
    show _ = if k < e then (T k : Rat) else 0
    by_cases c : k < e
    · rw [if_pos c, if_pos c]
    · rw [if_neg c, if_neg c]; rfl) j1 j2 k hk
  refine Nat.le_trans h1 ?_
  show (if k < e then T k else 0).natAbs ≤ _
  split
  · exact hT k
  · rw [Int.natAbs_zero]; exact Nat.zero_le _
