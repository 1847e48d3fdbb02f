/-! PLAIN LAW 23: U F + V F' = R with small U, V and R not 0 -/
theorem iS_split (f : Nat → Int) (a : Nat) : ∀ b, iS f (a + b) = iS f a + iS (fun i => f (a + i)) b := by
  intro b
  induction b with
  | zero => show iS f a = iS f a + 0; omega
  | succ b ih =>
    show iS f (a + b) + f (a + b) = iS f a + (iS (fun i => f (a + i)) b + f (a + b))
    rw [ih]; omega
theorem iS_le {f : Nat → Int} {c : Int} : ∀ n : Nat, (∀ i, i < n → f i ≤ c) → iS f n ≤ (n : Int) * c := by
  intro n
  induction n with
  | zero => intro _; show (0 : Int) ≤ ((0 : Nat) : Int) * c; rw [show ((0 : Nat) : Int) = 0 from rfl]; omega
  | succ n ih =>
    intro h
    have h1 := ih (fun i hi => h i (by omega))
    have h2 := h n (Nat.lt_succ_self n)
    show iS f n + f n ≤ ((n + 1 : Nat) : Int) * c
    have h3 : ((n + 1 : Nat) : Int) * c = (n : Int) * c + c := by rw [Int.natCast_add, Int.add_mul]; omega
    omega
theorem prR_int (U F : Nat → Int) (m : Nat) : ∀ n, prR (ci U) (ci F) n m = ((iS (fun u => (if u ≤ m then F (m - u) else 0) * U u) n : Int) : Rat) := by
  intro n
  induction n with
  | zero => rfl
  | succ n ih =>
    show prR (ci U) (ci F) n m + (if n ≤ m then ci U n * ci F (m - n) else 0) = ((iS _ n + (if n ≤ m then F (m - n) else 0) * U n : Int) : Rat)
    rw [ih, Rat.intCast_add]
    by_cases c : n ≤ m
    · rw [if_pos c, if_pos c, Rat.intCast_mul]
      show _ + (U n : Rat) * (F (m - n) : Rat) = _
      grind
    · rw [if_neg c, if_neg c, Int.zero_mul]; rfl
def dvI7 (F : Nat → Int) : Nat → Int := fun k => ((k : Int) + 1) * F (k + 1)
theorem dvI7_dc (F : Nat → Int) : ci (dvI7 F) = dc (ci F) := by
  funext k
  show ((((k : Int) + 1) * F (k + 1) : Int) : Rat) = ((k : Rat) + 1) * (F (k + 1) : Rat)
  rw [Rat.intCast_mul, Rat.intCast_add]; rfl
theorem bez_ex {F : Nat → Int} {d b : Nat} (hd : 1 ≤ d) (hz : ∀ k, d < k → F k = 0) (hF : F d ≠ 0) (hb : ∀ k, (F k).natAbs ≤ b) {A B : Rat → Rat} (hA : Pfn A) (hB : Pfn B) (bz : ∀ x, A x * pe (ci F) (d + 1) x + B x * pe (dc (ci F)) d x = 1) : ∃ (U V : Nat → Int) (R : Int), R ≠ 0 ∧ (∀ i, (U i).natAbs ≤ (((d - 1) + d * d) * b) ^ (2 * d - 2)) ∧ (∀ i, (V i).natAbs ≤ (((d - 1) + d * d) * b) ^ (2 * d - 2)) ∧ ∀ s, pe (ci U) (d - 1) s * pe (ci F) (d + 1) s + pe (ci V) d s * pe (dc (ci F)) d s = (R : Rat) := by
  obtain ⟨N, hN⟩ : ∃ N, N = 2 * d - 2 := ⟨_, rfl⟩
  obtain ⟨lam, hlam⟩ : ∃ lam, lam = ((d - 1) + d * d) * b := ⟨_, rfl⟩
  have hb1 : 1 ≤ b := by have := hb d; omega
  have hl1 : 1 ≤ lam := by
    rw [hlam]
    have : 1 ≤ d * d := Nat.mul_pos hd hd
    exact Nat.mul_pos (by omega) hb1
  obtain ⟨m, hm⟩ : ∃ m : Nat → Nat → Int, m = fun e u => if u < d - 1 then (if u ≤ e + 1 then F (e + 1 - u) else 0) else (if u - (d - 1) ≤ e + 1 then dvI7 F (e + 1 - (u - (d - 1))) else 0) := ⟨_, rfl⟩
  have hdI : ∀ k, (dvI7 F k).natAbs ≤ d * b := fun k => by
    by_cases c : d < k + 1
    · show ((((k : Int) + 1) * F (k + 1) : Int)).natAbs ≤ _
      rw [hz (k + 1) c, Int.mul_zero]; exact Nat.zero_le _
    · show ((((k : Int) + 1) * F (k + 1) : Int)).natAbs ≤ _
      rw [Int.natAbs_mul]
      exact Nat.mul_le_mul (by omega) (hb (k + 1))
  have m1 : ∀ e u, u < d - 1 → m e u = (if u ≤ e + 1 then F (e + 1 - u) else 0) := fun e u h => by rw [hm]; exact if_pos h
  have m2 : ∀ e i, m e (d - 1 + i) = (if i ≤ e + 1 then dvI7 F (e + 1 - i) else 0) := fun e i => by
    rw [hm]
    show (if d - 1 + i < d - 1 then _ else _) = _
    rw [if_neg (by omega), show d - 1 + i - (d - 1) = i by omega]
  have hN1 : N + 1 = (d - 1) + d := by omega
  obtain ⟨x, ⟨u0, u1, u2⟩, xb, xe⟩ := siegel (N := N) hl1 m (fun e _ => by
    rw [hN1, iS_split]
    have s1 := iS_le (f := fun u => ((m e u).natAbs : Int)) (c := (b : Int)) (d - 1) (fun i hi => by
      show ((m e i).natAbs : Int) ≤ (b : Int)
      rw [m1 e i hi]
      split
      · have := hb (e + 1 - i); omega
      · show (((0 : Int)).natAbs : Int) ≤ _; rw [Int.natAbs_zero]; omega)
    have s2 := iS_le (f := fun i => ((m e (d - 1 + i)).natAbs : Int)) (c := ((d * b : Nat) : Int)) d (fun i hi => by
      show ((m e (d - 1 + i)).natAbs : Int) ≤ _
      rw [m2 e i]
      split
      · have := hdI (e + 1 - i); omega
      · show (((0 : Int)).natAbs : Int) ≤ _; rw [Int.natAbs_zero]; omega)
    have s3 : ((lam : Nat) : Int) = ((d - 1 : Nat) : Int) * (b : Int) + (d : Int) * ((d * b : Nat) : Int) := by
      rw [hlam, Nat.add_mul, Int.natCast_add, Int.natCast_mul, Nat.mul_assoc, Int.natCast_mul d]
    rw [s3]
    omega)
  obtain ⟨V, hV⟩ : ∃ V : Nat → Int, V = fun i => x (d - 1 + i) := ⟨_, rfl⟩
  have co : ∀ k, 1 ≤ k → k < 2 * d - 1 → prR (ci x) (ci F) (d - 1) k + prR (ci V) (dc (ci F)) d k = 0 := fun k k1 k2 => by
    have e1 := xe (k - 1) (by omega)
    rw [hN1, iS_split] at e1
    rw [← dvI7_dc, prR_int, prR_int, ← Rat.intCast_add]
    have e2 : iS (fun u => m (k - 1) u * x u) (d - 1) = iS (fun u => (if u ≤ k then F (k - u) else 0) * x u) (d - 1) := iS_congr _ (fun i hi => by
      show m (k - 1) i * x i = _
      rw [m1 _ i hi, show k - 1 + 1 = k by omega])
    have e3 : iS (fun i => m (k - 1) (d - 1 + i) * x (d - 1 + i)) d = iS (fun u => (if u ≤ k then dvI7 F (k - u) else 0) * V u) d := iS_congr _ (fun i hi => by
      show m (k - 1) (d - 1 + i) * x (d - 1 + i) = _
      rw [m2 _ i, show k - 1 + 1 = k by omega, hV])
    rw [e2, e3] at e1
    rw [e1]; rfl
  obtain ⟨R, hR⟩ : ∃ R : Int, prR (ci x) (ci F) (d - 1) 0 + prR (ci V) (dc (ci F)) d 0 = (R : Rat) := ⟨_, by
    rw [← dvI7_dc, prR_int, prR_int, ← Rat.intCast_add]⟩
  have id : ∀ s, pe (ci x) (d - 1) s * pe (ci F) (d + 1) s + pe (ci V) d s * pe (dc (ci F)) d s = (R : Rat) := fun s => by
    rw [← prR_ev (ci x) (ci F) (b := d + 1) (fun k hk => by show (F k : Rat) = 0; rw [hz k (by omega)]; rfl) s (d - 1) (2 * d - 1) (by omega),
      ← prR_ev (ci V) (dc (ci F)) (b := d) (fun k hk => by show ((k : Rat) + 1) * (F (k + 1) : Rat) = 0; rw [hz (k + 1) (by omega), show ((0 : Int) : Rat) = 0 from rfl]; grind) s d (2 * d - 1) (by omega), ← pe_add]
    rw [pe_ext2 (n := 1) (2 * d - 1) (by omega) (fun k k1 k2 => co k k1 k2) s]
    show 0 + (prR (ci x) (ci F) (d - 1) 0 + prR (ci V) (dc (ci F)) d 0) * s ^ 0 = _
    rw [hR, Rat.pow_zero]; grind
  refine ⟨x, V, R, fun w => ?_, fun i => by rw [← hlam, ← hN]; exact xb i, fun i => by rw [← hlam, ← hN, hV]; exact xb _, id⟩
  -- R = 0: V is a multiple of F, so it is 0
  have hx0 : ∀ u, u < N + 1 → x u = 0 := by
    have fF : hdeg (pe (ci F) (d + 1)) d := ⟨ci F, fun e => hF (Rat.intCast_eq_zero_iff.mp e), fun _ => rfl⟩
    have PF : Pfn (pe (ci F) (d + 1)) := ⟨ci F, d, fun _ => rfl⟩
    have PU : Pfn (pe (ci x) (d - 1)) := by
      by_cases c : d = 1
      · subst c; exact (Pfn.const 0).congr (fun _ => rfl)
      · exact ⟨ci x, d - 2, fun _ => by rw [show d - 2 + 1 = d - 1 by omega]⟩
    have PV : Pfn (pe (ci V) d) := ⟨ci V, d - 1, fun _ => by rw [show d - 1 + 1 = d by omega]⟩
    have hQ : ∀ s, pe (ci V) d s = pe (ci F) (d + 1) s * (A s * pe (ci V) d s + (-1) * (B s * pe (ci x) (d - 1) s)) := fun s => by
      have h1 := id s
      have h2 := bz s
      rw [w, show ((0 : Int) : Rat) = 0 from rfl] at h1
      have h3 : pe (ci V) d s = pe (ci V) d s * (A s * pe (ci F) (d + 1) s + B s * pe (dc (ci F)) d s) := by rw [h2]; grind
      have h4 : pe (ci V) d s * (A s * pe (ci F) (d + 1) s + B s * pe (dc (ci F)) d s) = A s * pe (ci V) d s * pe (ci F) (d + 1) s + B s * (pe (ci V) d s * pe (dc (ci F)) d s) := by grind
      rw [h4, show pe (ci V) d s * pe (dc (ci F)) d s = -(pe (ci x) (d - 1) s * pe (ci F) (d + 1) s) by grind] at h3
      rw [h3]
      grind
    have V0 : ∀ s, pe (ci V) d s = 0 := by
      rcases ((hA.mul PV).add ((hB.mul PU).smul (-1))).deg with z | ⟨n, hn⟩
      · intro s; rw [hQ s, z s]; grind
      · exfalso
        have k1 := (fF.mul hn).congr hQ
        rcases pe_top (ci V) d with z | ⟨t, t1, t2, t3⟩
        · exact k1.nz z
        · have := k1.uniq (⟨ci V, t2, t3⟩ : hdeg (pe (ci V) d) t)
          omega
    have U0 : ∀ s, pe (ci x) (d - 1) s = 0 := by
      rcases Pfn.nzd PU PF (fun s => by
        have h1 := id s
        rw [w, V0, show ((0 : Int) : Rat) = 0 from rfl] at h1
        grind) with z | z
      · exact z
      · exact absurd z fF.nz
    intro u hu
    by_cases c : u < d - 1
    · have := pe_inj (c := ci x) (d := fun _ => 0) (n := d - 1) (fun s => by rw [U0, pe_z (d - 1) (fun _ _ => rfl)]) u c
      exact Rat.intCast_eq_zero_iff.mp this
    · have := pe_inj (c := ci V) (d := fun _ => 0) (n := d) (fun s => by rw [V0, pe_z d (fun _ _ => rfl)]) (u - (d - 1)) (by omega)
      have h2 : V (u - (d - 1)) = 0 := Rat.intCast_eq_zero_iff.mp this
      rw [hV] at h2
      have h3 : x (d - 1 + (u - (d - 1))) = 0 := h2
      rwa [show d - 1 + (u - (d - 1)) = u by omega] at h3
  exact u2 (hx0 u0 u1)
