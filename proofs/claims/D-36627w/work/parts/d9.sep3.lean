/-! PLAIN LAW 27: the same for all ends -/
def ngc (c : Nat → Rat) : Nat → Rat := fun k => if k % 2 = 0 then c k else -c k
def ngP (F : Nat → Int) : Nat → Int := fun k => if k % 2 = 0 then F k else -F k
theorem ngP_ci (F : Nat → Int) : ci (ngP F) = ngc (ci F) := by
  funext k
  show ((if k % 2 = 0 then F k else -F k : Int) : Rat) = if k % 2 = 0 then (F k : Rat) else -(F k : Rat)
  split
  · rfl
  · exact Rat.intCast_neg _
theorem npow (x : Rat) : ∀ k : Nat, (-x) ^ k = if k % 2 = 0 then x ^ k else -x ^ k := by
  intro k
  induction k with
  | zero => rw [if_pos rfl, Rat.pow_zero, Rat.pow_zero]
  | succ k ih =>
    rw [Rat.pow_succ, Rat.pow_succ, ih]
    by_cases c : k % 2 = 0
    · rw [if_pos c, if_neg (by omega)]; grind
    · rw [if_neg c, if_pos (by omega)]; grind
theorem pe_ng (c : Nat → Rat) (x : Rat) : ∀ n, pe (ngc c) n x = pe c n (-x) := by
  intro n
  induction n with
  | zero => rfl
  | succ n ih =>
    rw [pe_s, pe_s, ih, npow]
    show _ + (if n % 2 = 0 then c n else -c n) * x ^ n = _
    split <;> grind
theorem dc_ng (c : Nat → Rat) (x : Rat) (n : Nat) : pe (dc (ngc c)) n x = -pe (dc c) n (-x) := by
  rw [← pe_ng, show -pe (ngc (dc c)) n x = (-1) * pe (ngc (dc c)) n x by grind, ← pe_mul]
  refine pe_congr n (fun k _ => ?_) x
  show ((k : Rat) + 1) * (if (k + 1) % 2 = 0 then c (k + 1) else -c (k + 1)) = (-1) * (if k % 2 = 0 then ((k : Rat) + 1) * c (k + 1) else -(((k : Rat) + 1) * c (k + 1)))
  by_cases q : k % 2 = 0
  · rw [if_pos q, if_neg (by omega)]; grind
  · rw [if_neg q, if_pos (by omega)]; grind
theorem Pfn.flip {f : Rat → Rat} (h : Pfn f) : Pfn (fun x => f (-x)) := by
  obtain ⟨c, n, e⟩ := h
  exact ⟨ngc c, n, fun x => by rw [pe_ng]; exact e (-x)⟩
theorem sep_all {F : Nat → Int} {d b : Nat} (hd : 2 ≤ d) (d6 : d ≤ 6) (hz : ∀ k, d < k → F k = 0) (hF : F d ≠ 0) (hb : ∀ k, (F k).natAbs ≤ b) {A B : Rat → Rat} (hA : Pfn A) (hB : Pfn B) (bz : ∀ x, A x * pe (ci F) (d + 1) x + B x * pe (dc (ci F)) d x = 1) {c w κ0 : Rat} (hw : 0 < w) (w1 : w ≤ 1) (hκ : κ0 ≠ 0) {W : Nat → Int} (hW : ∀ y, 0 < y → pe (ci W) (d + 1) y = (y + 1) ^ d * (κ0 * pe (ci F) (d + 1) (c + w * (y + 1)⁻¹))) (hv : ¬ oneF W d) : 1 ≤ 131072 * (3 ^ 6 * (sepQ d b : Rat)) * (3 ^ 7 * (b : Rat)) * (w * w) := by
  by_cases c1 : rab c ≤ 2
  · exact sep hd d6 (by omega) (Nat.le_refl d) hz hF hb hA hB bz c1 hw w1 hκ hW hv
  · by_cases c2 : 0 ≤ c
    · have hr : rab c = c := if_pos c2
      rw [hr] at c1
      exact sep_hi hd d6 hz hF hb hA hB bz (by grind) hw w1 hκ hW hv
    · have hr : rab c = -c := if_neg c2
      rw [hr] at c1
      refine sep_hi (F := ngP F) (A := fun x => A (-x)) (B := fun x => (-1) * B (-x)) (c := -(c + w)) (κ0 := κ0) (W := fun k => W (d - k)) hd d6 (fun k hk => ?_) ?_ (fun k => ?_) hA.flip (hB.flip.smul (-1)) (fun x => ?_) (by grind) hw w1 hκ (fun y hy => ?_) (fun h => hv ?_)
      · show (if k % 2 = 0 then F k else -F k) = 0
        rw [hz k hk]; split <;> rfl
      · show (if d % 2 = 0 then F d else -F d) ≠ 0
        split <;> omega
      · show (if k % 2 = 0 then F k else -F k).natAbs ≤ b
        have := hb k
        split <;> omega
      · have h := bz (-x)
        rw [ngP_ci, pe_ng, dc_ng]
        show A (-x) * pe (ci F) (d + 1) (-x) + (-1) * B (-x) * -pe (dc (ci F)) d (-x) = 1
        rw [← h]; grind
      · have yi := Rat.mul_inv_cancel y (by grind)
        have y1 := Rat.mul_inv_cancel (y + 1) (by grind)
        have yp : 0 < y⁻¹ := Rat.inv_pos.mpr hy
        have e1 : pe (ci (fun k => W (d - k))) (d + 1) y = pe (fun k => ci W (d - k)) (d + 1) y := rfl
        rw [e1, pe_rev (ci W) y (by grind) d, hW _ yp, ngP_ci, pe_ng]
        have e2 : (y⁻¹ + 1)⁻¹ = y * (y + 1)⁻¹ := inv_of (by
          rw [show (y⁻¹ + 1) * (y * (y + 1)⁻¹) = (y * y⁻¹ + y) * (y + 1)⁻¹ by grind, yi]
          rw [show (1 + y) * (y + 1)⁻¹ = (y + 1) * (y + 1)⁻¹ by grind]; exact y1)
        have e3 : c + w * (y⁻¹ + 1)⁻¹ = -(-(c + w) + w * (y + 1)⁻¹) := by
          rw [e2]
          have : y * (y + 1)⁻¹ = 1 - (y + 1)⁻¹ := by
            rw [show y * (y + 1)⁻¹ = (y + 1) * (y + 1)⁻¹ - (y + 1)⁻¹ by grind, y1]
          rw [this]; grind
        have e4 : y ^ d * (y⁻¹ + 1) ^ d = (y + 1) ^ d := by
          rw [← mpow, show y * (y⁻¹ + 1) = y * y⁻¹ + y by grind, yi, show (1 : Rat) + y = y + 1 by grind]
        rw [e3, ← e4]; grind
      · exact h.rev (fun j hj => ⟨1, by decide, by
          show (W j : Rat) = 1 * (W (d - (d - j)) : Rat)
          rw [show d - (d - j) = j by omega]; grind⟩)
