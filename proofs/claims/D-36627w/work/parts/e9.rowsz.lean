/-! PLAIN LAW 36: the sizes of a row -/
def bB : Nat → Nat
  | 0 => 2 ^ 21
  | 1 => 2 ^ 179
  | 2 => 2 ^ 127
  | 3 => 2 ^ 89
  | 4 => 2 ^ 51
  | 5 => 2 ^ 21
  | _ => 9999
/-- what follows an element of degree e -/
def gB : Nat → Nat
  | 2 => 2 ^ 179
  | 3 => 2 ^ 127
  | 4 => 2 ^ 89
  | 5 => 2 ^ 51
  | 6 => 2 ^ 16
  | _ => 1
/-- a polynomial itself -/
def pB : Nat → Nat
  | 6 => 9999
  | _ => 2 ^ 21
def bq (p : Nat → Int) : Prop := ∀ d : Nat, pdeg p = (d : Int) → ∀ k, k < 7 → (p k).natAbs ≤ pB d
theorem gB_num0 : ∀ d, d < 7 → ∀ e, e < d → 2 ≤ e → ((d - 1 - e + 1) * pB d + (d - e + 1) * (d * pB d)) ^ (d + (d - 1) - 2 * e + 2) ≤ gB e := by decide +kernel
theorem gB_num : ∀ d e : Nat, 2 ≤ e → e < d → d ≤ 6 → ((d - 1 - e + 1) * pB d + (d - e + 1) * (d * pB d)) ^ (d + (d - 1) - 2 * e + 2) ≤ gB e := fun d e h1 h2 h3 => gB_num0 d (by omega) e h2 h1
theorem gB_drv0 : ∀ d, d < 7 → 2 ≤ d → d * pB d ≤ gB d := by decide +kernel
theorem gB_drv : ∀ d : Nat, 2 ≤ d → d ≤ 6 → d * pB d ≤ gB d := fun d h1 h2 => gB_drv0 d (by omega) h1
theorem gB_bB0 : ∀ e, e < 7 → ∀ g, g < e → 1 ≤ g → gB e ≤ bB g := by decide +kernel
theorem gB_bB : ∀ g e : Nat, 1 ≤ g → g < e → e ≤ 6 → gB e ≤ bB g := fun g e h1 h2 h3 => gB_bB0 e (by omega) g h2 h1
theorem pB_bB0 : ∀ d, d < 7 → pB d ≤ bB d := by decide +kernel
theorem pB_bB (d : Nat) (h6 : d ≤ 6) : pB d ≤ bB d := pB_bB0 d (by omega)
theorem gB_1 (e : Nat) : 1 ≤ gB e := by
  unfold gB
  split <;> decide +kernel
theorem bB_1 (e : Nat) : 1 ≤ bB e := by
  unfold bB
  split <;> decide +kernel
theorem row_dec {p : Nat → Int} {L : Nat} (hr : isRow p L) : ∀ k, k + 1 < L → pdeg (rsq p (k + 1)) < pdeg (rsq p k) := by
  intro k hk
  cases k with
  | zero =>
    obtain ⟨g, hg⟩ := Int.eq_ofNat_of_zero_le (hr.2.2.1 0 (by omega))
    rw [rsq_0, prim_deg] at hg
    rw [rsq_0, rsq_1, prim_deg, prim_deg, drv_deg hg]; omega
  | succ k =>
    have h1 := hr.2.2.1 (k + 1) (by omega)
    have h2 := pdeg_in (rsq p k)
    have h3 := remF_deg 7 (a := rsq p k) h1 (by omega)
    rw [show k + 1 + 1 = k + 2 from rfl, show rsq p (k + 2) = fun j => -(remF 7 (rsq p k) (rsq p (k + 1)) j) from by rw [rsq], pdeg_neg]
    exact h3
theorem row_dec2 {p : Nat → Int} {L : Nat} (hr : isRow p L) : ∀ i j, j ≤ i → i < L → pdeg (rsq p i) ≤ pdeg (rsq p j) := by
  intro i
  induction i with
  | zero => intro j h _; rw [show j = 0 by omega]; exact Int.le_refl _
  | succ i ih =>
    intro j h1 h2
    by_cases e : j = i + 1
    · rw [e]; exact Int.le_refl _
    · have := ih j (by omega) (by omega)
      have := row_dec hr i h2
      omega
theorem ev_pe {p : Nat → Int} {d n : Nat} (hd : pdeg p = (d : Int)) (hn : d < n) (x : Rat) : ev p x = pe (ci (fun k => if k < 7 then p k else 0)) n x := by
  have h7 : d < 7 := by have := pdeg_in p; omega
  have z : ∀ k, d + 1 ≤ k → ci (fun k => if k < 7 then p k else 0) k = 0 := fun k hk => by
    show ((if k < 7 then p k else 0 : Int) : Rat) = 0
    by_cases c : k < 7
    · rw [if_pos c, degU_hi p 7 k (by show pdeg p < _; omega) c]; rfl
    · rw [if_neg c]; rfl
  rw [pe_ext2 (n := d + 1) n (by omega) (fun k k1 _ => z k k1) x, ← pe_ext2 (n := d + 1) 7 (by omega) (fun k k1 _ => z k k1) x]
  exact pe_congr 7 (fun k hk => by show (p k : Rat) = ((if k < 7 then p k else 0 : Int) : Rat); rw [if_pos hk]) x
theorem row_hd {p : Nat → Int} {L : Nat} (hr : isRow p L) {k : Nat} (hk : k < L) : hdeg (ev (rsq p k)) (pdeg (rsq p k)).toNat := by
  have h := hr.2.2.1 k hk
  exact ev_hdeg (by omega)
theorem drv_le {p : Nat → Int} {d A : Nat} (hd : pdeg p = (d : Int)) (hA : ∀ k, k < 7 → (p k).natAbs ≤ A) : ∀ k, (drv p k).natAbs ≤ d * A := fun k => by
  unfold drv
  by_cases c : k + 1 < 7
  · rw [if_pos c, Int.natAbs_mul]
    by_cases c2 : d < k + 1
    · rw [degU_hi p 7 (k + 1) (by show pdeg p < _; omega) c]; exact Nat.zero_le _
    · exact Nat.mul_le_mul (by omega) (hA (k + 1) c)
  · rw [if_neg c, Int.natAbs_zero]; exact Nat.zero_le _
theorem row_el {p : Nat → Int} {L : Nat} (hr : isRow p L) {d A : Nat} (hd : pdeg p = (d : Int)) (hA : ∀ k, k < 7 → (p k).natAbs ≤ A) {i e : Nat} (hi : 1 ≤ i) (hiL : i + 1 < L) (he : pdeg (rsq p i) = (e : Int)) : ∀ k, k < 7 → (rsq p (i + 1) k).natAbs ≤ ((d - 1 - e + 1) * A + (d - e + 1) * (d * A)) ^ (d + (d - 1) - 2 * e + 2) := by
  have d0 : pdeg (rsq p 0) = (d : Int) := by rw [rsq_0, prim_deg]; exact hd
  have d1 : pdeg (rsq p 1) = (d : Int) - 1 := by rw [rsq_1, prim_deg]; exact drv_deg hd
  have hd1 : 1 ≤ d := by have := hr.2.2.1 1 (by omega); omega
  have d1' : pdeg (rsq p 1) = ((d - 1 : Nat) : Int) := by omega
  have hei := row_dec2 hr i 1 hi (by omega)
  have hdec := row_dec hr i hiL
  have h7 : e < 7 := by have := pdeg_in (rsq p i); omega
  have cutz : ∀ (q : Nat → Int) (g : Nat), pdeg q = (g : Int) → ∀ k, g < k → (fun k => if k < 7 then q k else 0) k = 0 := fun q g hg k hk => by
    show (if k < 7 then q k else 0) = 0
    by_cases c : k < 7
    · rw [if_pos c]; exact degU_hi q 7 k (by show pdeg q < _; omega) c
    · rw [if_neg c]
  have cutl : ∀ (q : Nat → Int) (B : Nat), (∀ k, k < 7 → (q k).natAbs ≤ B) → ∀ k, ((fun k => if k < 7 then q k else 0) k).natAbs ≤ B := fun q B hB k => by
    show (if k < 7 then q k else 0).natAbs ≤ B
    by_cases c : k < 7
    · rw [if_pos c]; exact hB k c
    · rw [if_neg c, Int.natAbs_zero]; exact Nat.zero_le _
  refine el_le (m := d) (n := d - 1) (e := e) (A := A) (B := d * A) (cutz (rsq p 0) d d0) (cutz (rsq p 1) (d - 1) d1') (cutl (rsq p 0) A (fun k hk => ?_)) (cutl (rsq p 1) (d * A) (fun k hk => ?_)) (i := i) (r := fun k => ev (rsq p k)) (D := fun k => (pdeg (rsq p k)).toNat) (fun k hk => row_hd hr (by omega)) (fun k hk => ?_) (fun x => ev_pe d0 (Nat.lt_succ_self d) x) (fun x => ev_pe d1' (Nat.lt_succ_self _) x) ?_ ?_ (by omega) (fun k hk => ?_) (fun x => rfl) (hr.2.2.1 (i + 1) hiL) (by omega) (prim_cont (rsq_isprim p (i + 1)) (hr.2.2.1 (i + 1) hiL)) (by omega)
  · rw [rsq_0]; exact Nat.le_trans (pprim_le p k) (hA k hk)
  · rw [rsq_1]; exact Nat.le_trans (pprim_le _ k) (drv_le hd hA k)
  · have := row_dec2 hr i k hk (by omega)
    show (pdeg (rsq p i)).toNat ≤ (pdeg (rsq p k)).toNat
    omega
  · show (pdeg (rsq p 0)).toNat = d
    omega
  · show (pdeg (rsq p i)).toNat = e
    omega
  · obtain ⟨Q, α, β, h1, h2, h3, h4, _⟩ := row_euc hr k (by omega)
    refine ⟨Q, α, -β, h1, by grind, by grind, fun x => ?_⟩
    have := h4 (by omega) x
    show α * ev (rsq p k) x = Q x * ev (rsq p (k + 1)) x + -β * ev (rsq p (k + 2)) x
    rw [this]; grind
theorem prim_c {R : Nat → Int} (hc : pcont R = 1) (h0 : pdeg R = 0) : ∀ k, k < 7 → (R k).natAbs ≤ 1 := by
  intro k hk
  by_cases c : k = 0
  · subst c
    have d1 : (R 0).natAbs ∣ 1 * pg R 7 := pg_mul 7 (fun j hj => by
      by_cases e : j = 0
      · subst e; rw [Nat.one_mul]; exact Nat.dvd_refl _
      · rw [degU_hi R 7 j (by show pdeg R < _; omega) hj]; exact Nat.dvd_zero _)
    have d2 : pg R 7 = 1 := hc
    rw [d2] at d1
    exact Nat.le_of_dvd (by decide) d1
  · rw [degU_hi R 7 k (by show pdeg R < _; omega) hk]; exact Nat.zero_le _
theorem row_c {p : Nat → Int} {L : Nat} (hr : isRow p L) {i : Nat} (hi : i < L) (h : pdeg (rsq p i) = 0) : ∀ k, k < 7 → (rsq p i k).natAbs ≤ 1 := prim_c (prim_cont (rsq_isprim p i) (by omega)) h
/-- what follows an element of degree e -/
theorem row_g {p : Nat → Int} {L : Nat} (hr : isRow p L) (hb : bq p) {i e : Nat} (hi : i + 1 < L) (he : pdeg (rsq p i) = (e : Int)) : ∀ k, k < 7 → (rsq p (i + 1) k).natAbs ≤ gB e := by
  obtain ⟨d, hd⟩ := Int.eq_ofNat_of_zero_le (show 0 ≤ pdeg p by have := hr.2.2.1 0 (by omega); rwa [rsq_0, prim_deg] at this)
  have d0 : pdeg (rsq p 0) = (d : Int) := by rw [rsq_0, prim_deg]; exact hd
  have d6 : d < 7 := by have := pdeg_in p; omega
  have hA := hb d hd
  have hdec := row_dec hr i hi
  have hnn := hr.2.2.1 (i + 1) hi
  intro k hk
  by_cases z : pdeg (rsq p (i + 1)) = 0
  · exact Nat.le_trans (row_c hr hi z k hk) (gB_1 e)
  · by_cases c : i = 0
    · subst c
      have ed : e = d := by omega
      subst ed
      rw [rsq_1]
      exact Nat.le_trans (pprim_le _ k) (Nat.le_trans (drv_le hd hA k) (gB_drv e (by omega) (by omega)))
    · have hed : e < d := by
        have h1 := row_dec2 hr i 1 (by omega) (by omega)
        have h2 : pdeg (rsq p 1) < pdeg (rsq p 0) := row_dec hr 0 (by omega)
        omega
      exact Nat.le_trans (row_el hr hd hA (by omega) hi he k hk) (gB_num d e (by omega) hed (by omega))
theorem row_bB {p : Nat → Int} {L : Nat} (hr : isRow p L) (hb : bq p) {i : Nat} (hi : i < L) {d : Nat} (hd : pdeg (rsq p i) = (d : Int)) : ∀ k, k < 7 → (rsq p i k).natAbs ≤ bB d := by
  intro k hk
  by_cases z : d = 0
  · subst z
    exact Nat.le_trans (row_c hr hi hd k hk) (bB_1 0)
  · have d6 := pdeg_in (rsq p i)
    cases i with
    | zero =>
      rw [rsq_0]
      rw [rsq_0, prim_deg] at hd
      exact Nat.le_trans (pprim_le p k) (Nat.le_trans (hb d hd k hk) (pB_bB d (by rw [rsq_0, prim_deg] at d6; omega)))
    | succ i =>
      obtain ⟨e, he⟩ := Int.eq_ofNat_of_zero_le (hr.2.2.1 i (by omega))
      have h1 := row_dec hr i hi
      have h2 := pdeg_in (rsq p i)
      exact Nat.le_trans (row_g hr hb hi he k hk) (gB_bB d e (by omega) (by omega) (by omega))
