/-! PLAIN LAW 10: values at points n / 2^e, and over intervals between them -/
def pt (n : Int) (e : Nat) : Rat := (n : Rat) * ((2 : Rat) ^ e)⁻¹
theorem p2pos (e : Nat) : (0 : Rat) < (2 : Rat) ^ e := rpow_pos (by decide) e
theorem p2inv (e : Nat) : (2 : Rat) ^ e * ((2 : Rat) ^ e)⁻¹ = 1 := Rat.mul_inv_cancel _ (by have := p2pos e; grind)
theorem pt_mul (n : Int) (e : Nat) : pt n e * (2 : Rat) ^ e = (n : Rat) := by
  have := p2inv e
  unfold pt; grind
theorem p2cast (k : Nat) : ((2 ^ k : Int) : Rat) = (2 : Rat) ^ k := by
  induction k with
  | zero => rw [Int.pow_zero, Rat.pow_zero]; rfl
  | succ k ih => rw [Int.pow_succ, Rat.pow_succ, Rat.intCast_mul, ih]; rfl
theorem pt_lt {n m : Int} {k l : Nat} (h : n * 2 ^ l < m * 2 ^ k) : pt n k < pt m l := by
  have h1 : ((n * 2 ^ l : Int) : Rat) < ((m * 2 ^ k : Int) : Rat) := Rat.intCast_lt_intCast.mpr h
  rw [Rat.intCast_mul, Rat.intCast_mul, p2cast, p2cast, ← pt_mul n k, ← pt_mul m l] at h1
  refine Classical.byContradiction fun g => ?_
  have h2 := Rat.mul_nonneg (Rat.le_of_lt (Rat.mul_pos (p2pos k) (p2pos l))) (show 0 ≤ pt n k - pt m l by grind)
  grind
/-- the same point on a finer scale -/
theorem pt_fine (n : Int) (k j : Nat) : pt (n * 2 ^ j) (k + j) = pt n k := by
  have h1 := pt_mul (n * 2 ^ j) (k + j)
  rw [Rat.intCast_mul, p2cast, rpow_add, ← pt_mul n k] at h1
  have h2 := p2pos k
  have h3 := p2pos j
  have h4 : (pt (n * 2 ^ j) (k + j) - pt n k) * ((2 : Rat) ^ k * 2 ^ j) = 0 := by grind
  rcases Rat.mul_eq_zero.mp h4 with w | w
  · grind
  · have := Rat.mul_pos h2 h3; grind
theorem hv_ev (q : Nat → Int) (n : Int) (e N : Nat) : ∀ i, i ≤ N → ((hv q n e N i : Int) : Rat) * 2 ^ e = 2 ^ (e * i) * pe (fun k => ci q (N - i + k)) i (pt n e) := by
  intro i
  induction i with
  | zero => intro _; show ((0 : Int) : Rat) * 2 ^ e = 2 ^ (e * 0) * 0; rw [show ((0 : Int) : Rat) = 0 from rfl]; grind
  | succ i ih =>
    intro hi
    have h1 := ih (by omega)
    show ((hv q n e N i * n + q (N - 1 - i) * 2 ^ (e * i) : Int) : Rat) * 2 ^ e = _
    rw [Rat.intCast_add, Rat.intCast_mul, Rat.intCast_mul, p2cast, pe_0, show e * (i + 1) = e * i + e from Nat.mul_succ e i, rpow_add, pe_congr (c := fun k => ci q (N - (i + 1) + (k + 1))) (d := fun k => ci q (N - i + k)) i (fun k _ => by show ci q (N - (i + 1) + (k + 1)) = ci q (N - i + k); rw [show N - (i + 1) + (k + 1) = N - i + k by omega])]
    show _ = 2 ^ (e * i) * 2 ^ e * (((q (N - (i + 1) + 0) : Int) : Rat) + pt n e * _)
    rw [show N - (i + 1) + 0 = N - 1 - i by omega]
    have h2 := pt_mul n e
    grind
theorem ev_deg (q : Nat → Int) {N : Nat} (h : pdeg q + 1 = (N : Int)) (x : Rat) : ev q x = pe (ci q) N x := by
  have := pdeg_in q
  refine pe_ext2 7 (by omega) (fun k h1 h2 => ?_) x
  show ((q k : Int) : Rat) = 0
  rw [degU_hi q 7 k (by show pdeg q < _; omega) h2]; rfl
theorem pAt_ev (q : Nat → Int) (n : Int) (e : Nat) : ∃ γ : Rat, 0 < γ ∧ ((pAt q n e : Int) : Rat) = γ * ev q (pt n e) := by
  have hd := pdeg_in q
  obtain ⟨N, hN⟩ := Int.eq_ofNat_of_zero_le (show 0 ≤ pdeg q + 1 by omega)
  have h1 := hv_ev q n e N N (Nat.le_refl N)
  unfold pAt
  rw [hN, Int.toNat_natCast, ev_deg q hN]
  rw [Nat.sub_self, pe_congr (c := fun k => ci q (0 + k)) (d := ci q) N (fun k _ => by show ci q (0 + k) = ci q k; rw [Nat.zero_add])] at h1
  have h2 := p2inv e
  have h3 : 0 < ((2 : Rat) ^ e)⁻¹ := Rat.inv_pos.mpr (p2pos e)
  exact ⟨2 ^ (e * N) * ((2 : Rat) ^ e)⁻¹, Rat.mul_pos (p2pos _) h3, by grind⟩
theorem sign_cast (z : Int) : z.sign = rsg (z : Rat) := by
  rcases sg_cases z with ⟨h, e⟩ | ⟨h, e⟩ | ⟨h, e⟩
  · rw [e, rsg_0 (by rw [h]; rfl)]
  · rw [e, rsg_p (Rat.intCast_pos.mpr h)]
  · rw [e, rsg_n (Rat.intCast_neg_iff.mpr h)]
theorem rsg_mul {γ x : Rat} (h : 0 < γ) : rsg (γ * x) = rsg x := by
  rcases rsg_3 x with ⟨q, e⟩ | ⟨q, e⟩ | ⟨q, e⟩
  · rw [e, rsg_p (Rat.mul_pos h q)]
  · rw [e, rsg_n (by have := Rat.mul_pos h (show 0 < -x by grind); grind)]
  · rw [e, rsg_0 (by rw [q]; grind)]
theorem pAt_sign (q : Nat → Int) (n : Int) (e : Nat) : (pAt q n e).sign = rsg (ev q (pt n e)) := by
  obtain ⟨γ, h1, h2⟩ := pAt_ev q n e
  rw [sign_cast, h2, rsg_mul h1]
theorem pAt_0 (q : Nat → Int) (n : Int) (e : Nat) : pAt q n e = 0 ↔ ev q (pt n e) = 0 := by
  obtain ⟨γ, h1, h2⟩ := pAt_ev q n e
  constructor
  · intro h
    rw [h] at h2
    have h3 : γ * ev q (pt n e) = 0 := h2.symm
    rcases Rat.mul_eq_zero.mp h3 with w | w
    · grind
    · exact w
  · intro h
    rw [h] at h2
    exact Rat.intCast_eq_zero_iff.mp (by grind)
/-- the count of changes sees the signs alone -/
theorem chs_congr {s t : Nat → Int} : ∀ n, (∀ i, i < n → (s i).sign = (t i).sign) → chL s n = chL t n ∧ chC s n = chC t n := by
  intro n
  induction n with
  | zero => intro _; exact ⟨rfl, rfl⟩
  | succ n ih =>
    intro h
    obtain ⟨h1, h2⟩ := ih (fun i hi => h i (by omega))
    rw [cl_s, cl_s, ch_s, ch_s, h n (by omega), h1, h2]
    exact ⟨rfl, rfl⟩
theorem chs_neg {s t : Nat → Int} : ∀ n, (∀ i, i < n → (s i).sign = -(t i).sign) → chL s n = -chL t n ∧ chC s n = chC t n := by
  intro n
  induction n with
  | zero => intro _; exact ⟨rfl, rfl⟩
  | succ n ih =>
    intro h
    obtain ⟨h1, h2⟩ := ih (fun i hi => h i (by omega))
    rw [cl_s, cl_s, ch_s, ch_s, h n (by omega), h1, h2]
    refine ⟨?_, ?_⟩
    · by_cases e : (t n).sign = 0
      · rw [if_pos e, if_pos (by omega)]
      · rw [if_neg e, if_neg (by omega)]
    · by_cases e : (t n).sign ≠ 0 ∧ chL t n ≠ 0 ∧ (t n).sign ≠ chL t n
      · rw [if_pos e, if_pos ⟨by omega, by omega, by omega⟩]
      · rw [if_neg e, if_neg (fun w => e ⟨by omega, by omega, by omega⟩)]
/-- the model's changes in its row are the chain's, where the common factor is not 0 -/
theorem row_V {p : Nat → Int} {L : Nat} {h : Nat → Rat → Rat} (hL : 1 ≤ L) (hS : ∀ i, i ≤ L - 1 → ∀ x, ev (rsq p i) x = ev (rsq p (L - 1)) x * h i x) (n : Int) (e : Nat) (hg : ev (rsq p (L - 1)) (pt n e) ≠ 0) : chC (fun i => pAt (rsq p i) n e) L = Vch h (L - 1) (pt n e) := by
  unfold Vch
  rw [show L - 1 + 1 = L by omega]
  rcases (show 0 < ev (rsq p (L - 1)) (pt n e) ∨ ev (rsq p (L - 1)) (pt n e) < 0 by grind) with q | q
  · refine (chs_congr L (fun i hi => ?_)).2
    show (pAt (rsq p i) n e).sign = (rsg (h i (pt n e))).sign
    rw [pAt_sign, rsg_sg, hS i (by omega), rsg_mul q]
  · refine (chs_neg L (fun i hi => ?_)).2
    show (pAt (rsq p i) n e).sign = -(rsg (h i (pt n e))).sign
    rw [pAt_sign, rsg_sg, hS i (by omega)]
    have e1 : ev (rsq p (L - 1)) (pt n e) * h i (pt n e) = (-ev (rsq p (L - 1)) (pt n e)) * (-h i (pt n e)) := by grind
    rw [e1, rsg_mul (by grind)]
    rcases rsg_3 (h i (pt n e)) with ⟨w, z⟩ | ⟨w, z⟩ | ⟨w, z⟩
    · rw [z, rsg_n (by grind)]
    · rw [z, rsg_p (by grind)]; rfl
    · rw [z, rsg_0 (by grind)]; rfl
/-- Horner over polynomials -/
theorem hoP_z (p : Nat → Int) (d : Nat) (a w : Int) (e : Nat) : ∀ s k, s ≤ k → hoP p d a w e s k = 0 := by
  intro s
  induction s with
  | zero => intro k _; rfl
  | succ s ih =>
    intro k hk
    show va_up (psT (hoP p d a w e s) d a w (d + 1)) 0 _ k = 0
    rw [va_upn _ _ (by omega)]
    unfold psT
    rw [ih k (by omega), ih (k - 1) (by omega), if_neg (show ¬ k = 0 by omega)]
    split <;> omega
theorem hoP_ev (p : Nat → Int) (d : Nat) (a w : Int) (e : Nat) (t : Rat) : ∀ s, s ≤ d + 1 → pe (ci (hoP p d a w e s)) (d + 1) t * 2 ^ e = 2 ^ (e * s) * pe (fun k => ci p (d + 1 - s + k)) s (((a : Rat) + (w : Rat) * t) * ((2 : Rat) ^ e)⁻¹) := by
  intro s
  obtain ⟨X, hX⟩ : ∃ X, X = ((a : Rat) + (w : Rat) * t) * ((2 : Rat) ^ e)⁻¹ := ⟨_, rfl⟩
  have hX2 : X * 2 ^ e = (a : Rat) + (w : Rat) * t := by have := p2inv e; rw [hX]; grind
  rw [← hX]
  induction s with
  | zero => intro _; rw [pe_z (c := ci (hoP p d a w e 0)) (d + 1) (fun k _ => rfl)]; show (0 : Rat) * 2 ^ e = 2 ^ (e * 0) * 0; grind
  | succ s ih =>
    intro hs
    have h1 := ih (by omega)
    obtain ⟨q, hq⟩ : ∃ q, q = hoP p d a w e s := ⟨_, rfl⟩
    rw [← hq] at h1
    -- one more step
    have e1 : pe (ci (hoP p d a w e (s + 1))) (d + 1) t = ((a : Rat) + (w : Rat) * t) * pe (ci q) (d + 1) t + ((p (d - s) * 2 ^ (e * s) : Int) : Rat) := by
      have c0 : ∀ k, k ≤ d → hoP p d a w e (s + 1) k = (a * q k + w * (if k = 0 then 0 else q (k - 1))) + (if k = 0 then p (d - s) * 2 ^ (e * s) else 0) := fun k hk => by
        show va_up (psT (hoP p d a w e s) d a w (d + 1)) 0 (psT (hoP p d a w e s) d a w (d + 1) 0 + p (d - s) * 2 ^ (e * s)) k = _
        rw [← hq]
        have c1 : psT q d a w (d + 1) k = a * q k + w * (if k = 0 then 0 else q (k - 1)) := by
          unfold psT
          rw [if_pos ⟨hk, by omega⟩, Int.mul_comm a]
          by_cases z : k = 0
          · rw [if_pos z, if_pos z, Int.mul_zero]
          · rw [if_neg z, if_neg z, Int.mul_comm w]
        by_cases z : k = 0
        · subst z
          rw [va_upj, c1, if_pos rfl, if_pos rfl]
        · rw [va_upn _ _ z, c1, if_neg z, if_neg z, Int.add_zero]
      have c2 : pe (ci (hoP p d a w e (s + 1))) (d + 1) t = pe (fun k => ((a : Rat) * ci q k + (w : Rat) * shc 1 (ci q) k) + (if k = 0 then ((p (d - s) * 2 ^ (e * s) : Int) : Rat) else 0)) (d + 1) t := by
        refine pe_congr (d + 1) (fun k hk => ?_) t
        show ((hoP p d a w e (s + 1) k : Int) : Rat) = _
        rw [c0 k (by omega), Rat.intCast_add, Rat.intCast_add, Rat.intCast_mul, Rat.intCast_mul, shc_int]
        by_cases z : k = 0
        · subst z; rfl
        · rw [if_neg z, if_neg z, if_neg z, if_neg (show ¬ k < 1 by omega)]; rfl
      rw [c2, pe_add, pe_add, pe_mul, pe_mul]
      have c3 : pe (shc 1 (ci q)) (d + 1) t = t * pe (ci q) (d + 1) t := by
        have := pe_sh 1 (ci q) d t
        rw [show 1 + d = d + 1 by omega] at this
        rw [this, pe_s (ci q) d]
        have z : ci q d = 0 := by show ((q d : Int) : Rat) = 0; rw [hq, hoP_z p d a w e s d (by omega)]; rfl
        rw [z, Rat.pow_succ, Rat.pow_zero]; grind
      have c4 : pe (fun k => if k = 0 then ((p (d - s) * 2 ^ (e * s) : Int) : Rat) else 0) (d + 1) t = ((p (d - s) * 2 ^ (e * s) : Int) : Rat) := by
        rw [pe_0, if_pos rfl, pe_z (c := fun k => if k + 1 = 0 then ((p (d - s) * 2 ^ (e * s) : Int) : Rat) else 0) d (fun k _ => if_neg (by omega))]; grind
      rw [c3, c4]; grind
    rw [e1, pe_0 (fun k => ci p (d + 1 - (s + 1) + k)) s, show e * (s + 1) = e * s + e from Nat.mul_succ e s, rpow_add, pe_congr (c := fun k => ci p (d + 1 - (s + 1) + (k + 1))) (d := fun k => ci p (d + 1 - s + k)) s (fun k _ => by show ci p (d + 1 - (s + 1) + (k + 1)) = ci p (d + 1 - s + k); rw [show d + 1 - (s + 1) + (k + 1) = d + 1 - s + k by omega])]
    show _ = 2 ^ (e * s) * 2 ^ e * (((p (d + 1 - (s + 1) + 0) : Int) : Rat) + X * _)
    rw [show d + 1 - (s + 1) + 0 = d - s by omega, Rat.intCast_mul, p2cast]
    grind
/-- the model's count between two points -/
theorem plF_NV {h : Nat → Rat → Rat} {r : Nat} {F : Nat → Int} {c : Rat} (hC : polC h r) (hd : ∀ K, 0 ≤ K → dirC h K) (hF : 0 ≤ pdeg F) (hc : c ≠ 0) (hr : ∀ x, ev F x = c * h 0 x) {e : Nat} {m n : Int} (hmn : m < n) (hf : okPl F e m n) : plF F e m n = NV h r (pt m e) (pt n e) := by
  obtain ⟨d, hdg⟩ := Int.eq_ofNat_of_zero_le hF
  have hd7 := degU_at F 7 d hdg
  have hf2 := hf (by omega)
  unfold plF
  rw [if_neg (by omega)]
  rw [hdg, Int.toNat_natCast] at hf2 ⊢
  obtain ⟨K, hK0, hK1, hK2⟩ : ∃ K : Rat, 0 ≤ K ∧ -K ≤ pt m e ∧ pt n e ≤ K := by
    have a1 : ∀ x : Rat, ∃ y, 0 ≤ y ∧ -y ≤ x ∧ x ≤ y := fun x => by
      by_cases q : 0 ≤ x
      · exact ⟨x, q, by grind, by grind⟩
      · exact ⟨-x, by grind, by grind, by grind⟩
    obtain ⟨y, y1, y2, y3⟩ := a1 (pt m e)
    obtain ⟨z, z1, z2, z3⟩ := a1 (pt n e)
    exact ⟨y + z, by grind, by grind, by grind⟩
  have hlt : pt m e < pt n e := pt_lt (Int.mul_lt_mul_of_pos_right hmn (p2 e))
  have hnz : ∀ x y, x < y → ∃ v, x < v ∧ v < y ∧ h 0 v ≠ 0 := fun x y q => by
    obtain ⟨v, v1, v2, v3⟩ := ev_nz hF q
    exact ⟨v, v1, v2, fun w => v3 (by rw [hr, w]; grind)⟩
  refine (desc_cnt (hC.chn hK0) (hd K hK0) hnz 158 _ (pt m e) (pt n e) (2 ^ (e * d) * c) hK1 hlt hK2 (fun t => ?_) (fun w => ?_) hf2).symm
  · have h1 := hoP_ev F d m (n - m) e t (d + 1) (Nat.le_refl _)
    rw [Nat.sub_self, pe_congr (c := fun k => ci F (0 + k)) (d := ci F) (d + 1) (fun k _ => by show ci F (0 + k) = ci F k; rw [Nat.zero_add]), ← ev_deg F (show pdeg F + 1 = ((d + 1 : Nat) : Int) by omega), hr, show e * (d + 1) = e * d + e from Nat.mul_succ e d, rpow_add] at h1
    have h2 : ((m : Rat) + ((n - m : Int) : Rat) * t) * ((2 : Rat) ^ e)⁻¹ = pt m e + (pt n e - pt m e) * t := by
      unfold pt
      rw [Rat.intCast_sub]; grind
    rw [h2] at h1
    have h3 := p2inv e
    have h4 : pe (ci (hoP F d m (n - m) e (d + 1))) (d + 1) t = pe (ci (hoP F d m (n - m) e (d + 1))) (d + 1) t * 2 ^ e * ((2 : Rat) ^ e)⁻¹ := by grind
    rw [h4, h1]
    grind
  · rcases Rat.mul_eq_zero.mp w with w | w
    · have := p2pos (e * d); grind
    · exact hc w
