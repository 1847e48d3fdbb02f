/-! bitCount -/
def k1 (M d : Nat) : Nat := d - ((d / 2) &&& M)
def k2 (M a : Nat) : Nat := (a &&& M) + ((a / 4) &&& M)
def k3 (M a : Nat) : Nat := (a + a / 16) &&& M
theorem and_256 {X x M m : Nat} (hx : x < 256) (hm : m < 256) : (X * 256 + x) &&& (M * 256 + m) = (X &&& M) * 256 + (x &&& m) := by
  have h1 : ((X * 256 + x) &&& (M * 256 + m)) / 2 ^ 8 = (X &&& M) := by
    rw [Nat.and_div_two_pow]
    congr 1 <;> omega
  have h2 : ((X * 256 + x) &&& (M * 256 + m)) % 2 ^ 8 = (x &&& m) := by
    rw [Nat.and_mod_two_pow]
    congr 1 <;> omega
  omega
theorem k1_s {X x M : Nat} (hx : x < 256) : k1 (M * 256 + 85) (X * 256 + x) = k1 M X * 256 + k1 85 x := by
  unfold k1
  have d1 : ∀ x, x < 256 → ∀ c, c < 2 → (c * 128 + x / 2) &&& 85 = (x / 2) &&& 85 := by decide +kernel
  rw [show (X * 256 + x) / 2 = (X / 2) * 256 + ((X % 2) * 128 + x / 2) by omega, and_256 (by omega) (by decide), d1 x hx _ (by omega)]
  have h1 : X / 2 &&& M ≤ X / 2 := Nat.and_le_left
  have h2 : x / 2 &&& 85 ≤ x / 2 := Nat.and_le_left
  omega
theorem k2_s {Y y M : Nat} (hy : y < 256) : k2 (M * 256 + 51) (Y * 256 + y) = k2 M Y * 256 + k2 51 y := by
  unfold k2
  have d1 : ∀ x, x < 256 → ∀ c, c < 4 → (c * 64 + x / 4) &&& 51 = (x / 4) &&& 51 := by decide +kernel
  rw [show (Y * 256 + y) / 4 = (Y / 4) * 256 + ((Y % 4) * 64 + y / 4) by omega, and_256 hy (by decide), and_256 (by omega) (by decide), d1 y hy _ (by omega)]
  omega
theorem k3_s {Y y M : Nat} (hy : y ≤ 68) (hY : Y % 16 ≤ 4) : k3 (M * 256 + 15) (Y * 256 + y) = k3 M Y * 256 + k3 15 y := by
  unfold k3
  have d1 : ∀ x, x < 69 → ∀ c, c < 5 → (x + (c * 16 + x / 16)) &&& 15 = (x + x / 16) &&& 15 := by decide +kernel
  rw [show Y * 256 + y + (Y * 256 + y) / 16 = (Y + Y / 16) * 256 + (y + ((Y % 16) * 16 + y / 16)) by omega, and_256 (by omega) (by decide), d1 y (by omega) _ (by omega)]
def g2 (x : Nat) : Nat := k2 51 (k1 85 x)
def g3 (x : Nat) : Nat := k3 15 (g2 x)
theorem g_all : ∀ x, x < 256 → k1 85 x < 256 ∧ g2 x ≤ 68 ∧ g2 x % 16 ≤ 4 ∧ g3 x ≤ 8 ∧ (g3 x = 0 → x = 0) ∧ (g3 x = 1 → ∃ t, t < 8 ∧ x = 2 ^ t) := by decide +kernel
def bc3 (d : Nat) : Nat := k3 252645135 (k2 858993459 (k1 1431655765 d))
theorem bc3_eq {x0 x1 x2 x3 : Nat} (h0 : x0 < 256) (h1 : x1 < 256) (h2 : x2 < 256) (h3 : x3 < 256) : bc3 (((x3 * 256 + x2) * 256 + x1) * 256 + x0) = ((g3 x3 * 256 + g3 x2) * 256 + g3 x1) * 256 + g3 x0 := by
  unfold bc3
  have a0 := g_all x0 h0
  have a1 := g_all x1 h1
  have a2 := g_all x2 h2
  have a3 := g_all x3 h3
  rw [show 1431655765 = ((85 * 256 + 85) * 256 + 85) * 256 + 85 by decide, show 858993459 = ((51 * 256 + 51) * 256 + 51) * 256 + 51 by decide, show 252645135 = ((15 * 256 + 15) * 256 + 15) * 256 + 15 by decide]
  rw [k1_s h0, k1_s h1, k1_s h2, k2_s a0.1, k2_s a1.1, k2_s a2.1]
  show k3 _ (((g2 x3 * 256 + g2 x2) * 256 + g2 x1) * 256 + g2 x0) = _
  rw [k3_s a0.2.1 (by omega), k3_s a1.2.1 (by omega), k3_s a2.2.1 (by omega)]
  rfl
def bc4 (a : Nat) : Nat := a + a / 256
def bc5 (a : Nat) : Nat := a + a / 65536
def bcN (d : Nat) : Nat := bc5 (bc4 (bc3 d)) &&& 63
theorem powk {d x t m k : Nat} (h : x = 2 ^ t) (hm : m = 2 ^ k) (e : d = x * m) : d = 2 ^ (t + k) := by subst h hm; rw [e, Nat.pow_add]
set_option maxRecDepth 100000 in
theorem bsum {a b c e : Nat} (ha : a ≤ 8) (hb : b ≤ 8) (hc : c ≤ 8) (he : e ≤ 8) : (((e * 256 + c) * 256 + b) * 256 + a + (((e * 256 + c) * 256 + b) * 256 + a) / 256 + (((e * 256 + c) * 256 + b) * 256 + a + (((e * 256 + c) * 256 + b) * 256 + a) / 256) / 65536) % 64 = a + b + c + e := by
  have h1 : (((e * 256 + c) * 256 + b) * 256 + a) / 256 = (e * 256 + c) * 256 + b := by omega
  rw [h1]
  have h2 : (((e * 256 + c) * 256 + b) * 256 + a + ((e * 256 + c) * 256 + b)) / 65536 = e * 256 + (c + e) := by omega
  rw [h2]
  omega
set_option maxRecDepth 100000 in
theorem bc_pow {d : Nat} (hd : d < 4294967296) (h : bcN d = 1) : ∃ t, t < 32 ∧ d = 2 ^ t := by
  have e : d = (((d / 16777216) * 256 + d / 65536 % 256) * 256 + d / 256 % 256) * 256 + d % 256 := by omega
  have a0 := g_all (d % 256) (by omega)
  have a1 := g_all (d / 256 % 256) (by omega)
  have a2 := g_all (d / 65536 % 256) (by omega)
  have a3 := g_all (d / 16777216) (by omega)
  unfold bcN at h
  rw [e, bc3_eq (by omega) (by omega) (by omega) (by omega), show 63 = 2 ^ 6 - 1 by decide, Nat.and_two_pow_sub_one_eq_mod] at h
  unfold bc5 bc4 at h
  have hs : g3 (d % 256) + g3 (d / 256 % 256) + g3 (d / 65536 % 256) + g3 (d / 16777216) = 1 := by
    rw [← bsum a0.2.2.2.1 a1.2.2.2.1 a2.2.2.2.1 a3.2.2.2.1]
    exact h
  rcases (show g3 (d % 256) = 1 ∨ g3 (d / 256 % 256) = 1 ∨ g3 (d / 65536 % 256) = 1 ∨ g3 (d / 16777216) = 1 by omega) with c | c | c | c
  · obtain ⟨t, ht, e1⟩ := a0.2.2.2.2.2 c
    have z1 := a1.2.2.2.2.1 (by omega)
    have z2 := a2.2.2.2.2.1 (by omega)
    have z3 := a3.2.2.2.2.1 (by omega)
    exact ⟨t, by omega, by rw [← e1]; omega⟩
  · obtain ⟨t, ht, e1⟩ := a1.2.2.2.2.2 c
    have z1 := a0.2.2.2.2.1 (by omega)
    have z2 := a2.2.2.2.2.1 (by omega)
    have z3 := a3.2.2.2.2.1 (by omega)
    exact ⟨t + 8, by omega, powk (m := 256) (k := 8) e1 (by decide) (by omega)⟩
  · obtain ⟨t, ht, e1⟩ := a2.2.2.2.2.2 c
    have z1 := a1.2.2.2.2.1 (by omega)
    have z2 := a0.2.2.2.2.1 (by omega)
    have z3 := a3.2.2.2.2.1 (by omega)
    exact ⟨t + 16, by omega, powk (m := 65536) (k := 16) e1 (by decide) (by omega)⟩
  · obtain ⟨t, ht, e1⟩ := a3.2.2.2.2.2 c
    have z1 := a1.2.2.2.2.1 (by omega)
    have z2 := a2.2.2.2.2.1 (by omega)
    have z3 := a0.2.2.2.2.1 (by omega)
    exact ⟨t + 24, by omega, powk (m := 16777216) (k := 24) e1 (by decide) (by omega)⟩
set_option maxHeartbeats 400000 in
set_option maxRecDepth 100000 in
/-- bitCount -/
theorem g_bitc (κ : zK) (H0 : Heap) {d : Nat} (hd : d < 4294967296)  : Mt κ yJ24_bitCount cJ24_bitCount 1 (some .int) 0 0 0 0 H0 [vi (d : Int)] (fun _ => False) (fun v H1 => v = some (vi ((bcN d : Nat) : Int))) := by
  refine Mt.of (by decide) (Nat.le_of_ble_eq_true rfl) ?_
  intro z E hE hH0 hA0 hL hini
  have hAll : ∀ q, (fun _ => False) q → zA z.A z.H0 q := fun q h => Or.inl (by rw [hA0]; exact h)
  have hNew : ∀ q, H0.size ≤ q → zA z.A z.H0 q := fun q h => Or.inr (by rw [hH0]; exact h)
  have E : zOK z cJ24_bitCount RJ24 κ 0 0 (some .int) := E
  refine V.eqL (lv' := [(0, vi (d : Int))]) rfl ?_
  refine v_iload_n E 0 rfl dJ24_bitCount_0 ?_
  refine v_iload_n E 0 rfl dJ24_bitCount_1 ?_
  refine v_iconst E dJ24_bitCount_2 ?_
  refine v_iushr E 1 (by decide) dJ24_bitCount_3 ?_
  refine V.topi (x' := ((d / 2 : Nat) : Int)) (congrArg iZ (by omega)) ?_
  refine v_ldcw E q1065 dJ24_bitCount_4 ?_
  refine V.eq (st' := vi 1431655765 :: _) rfl ?_
  refine v_iand E (c := (((d / 2) &&& 1431655765 : Nat) : Int)) (iZ_andN (a := d / 2) (b := 1431655765) (by omega) (by decide) rfl) dJ24_bitCount_7 ?_
  refine v_isub E dJ24_bitCount_8 ?_
  refine V.topi (x' := ((k1 1431655765 d : Nat) : Int)) (congrArg iZ (by have := Nat.and_le_left (n := d / 2) (m := 1431655765); unfold k1; omega)) ?_
  refine v_istore_n E dJ24_bitCount_9 (zlt hL rfl) (lv' := [(0, vi ((k1 1431655765 d : Nat) : Int))]) rfl ?_
  refine v_iload_n E 0 rfl dJ24_bitCount_10 ?_
  refine v_ldcw E q1066 dJ24_bitCount_11 ?_
  refine V.eq (st' := vi 858993459 :: _) rfl ?_
  refine v_iand E (c := (((k1 1431655765 d) &&& 858993459 : Nat) : Int)) (iZ_andN (a := k1 1431655765 d) (b := 858993459) (Nat.lt_of_le_of_lt (Nat.sub_le _ _) hd) (by decide) rfl) dJ24_bitCount_14 ?_
  refine v_iload_n E 0 rfl dJ24_bitCount_15 ?_
  refine v_iconst E dJ24_bitCount_16 ?_
  refine v_iushr E 2 (by decide) dJ24_bitCount_17 ?_
  refine V.topi (x' := (((k1 1431655765 d) / 4 : Nat) : Int)) (congrArg iZ (by have : k1 1431655765 d ≤ d := Nat.sub_le _ _; omega)) ?_
  refine v_ldcw E q1066 dJ24_bitCount_18 ?_
  refine V.eq (st' := vi 858993459 :: _) rfl ?_
  refine v_iand E (c := ((((k1 1431655765 d) / 4) &&& 858993459 : Nat) : Int)) (iZ_andN (a := (k1 1431655765 d) / 4) (b := 858993459) (by have : k1 1431655765 d ≤ d := Nat.sub_le _ _; omega) (by decide) rfl) dJ24_bitCount_21 ?_
  refine v_iadd E dJ24_bitCount_22 ?_
  refine V.topi (x' := ((k2 858993459 (k1 1431655765 d) : Nat) : Int)) (congrArg iZ (by unfold k2; omega)) ?_
  refine v_istore_n E dJ24_bitCount_23 (zlt hL rfl) (lv' := [(0, vi ((k2 858993459 (k1 1431655765 d) : Nat) : Int))]) rfl ?_
  refine v_iload_n E 0 rfl dJ24_bitCount_24 ?_
  refine v_iload_n E 0 rfl dJ24_bitCount_25 ?_
  refine v_iconst E dJ24_bitCount_26 ?_
  refine v_iushr E 4 (by decide) dJ24_bitCount_27 ?_
  refine v_iadd E dJ24_bitCount_28 ?_
  have l2 : k2 858993459 (k1 1431655765 d) ≤ 1717986918 := by
    have q1 : (k1 1431655765 d) &&& 858993459 ≤ 858993459 := Nat.and_le_right
    have q2 : ((k1 1431655765 d) / 4) &&& 858993459 ≤ 858993459 := Nat.and_le_right
    unfold k2; omega
  refine V.topi (x' := (((k2 858993459 (k1 1431655765 d)) + (k2 858993459 (k1 1431655765 d)) / 16 : Nat) : Int)) (congrArg iZ (by omega)) ?_
  refine v_ldcw E q1067 dJ24_bitCount_29 ?_
  refine V.eq (st' := vi 252645135 :: _) rfl ?_
  refine v_iand E (c := ((((k2 858993459 (k1 1431655765 d)) + (k2 858993459 (k1 1431655765 d)) / 16) &&& 252645135 : Nat) : Int)) (iZ_andN (a := (k2 858993459 (k1 1431655765 d)) + (k2 858993459 (k1 1431655765 d)) / 16) (b := 252645135) (by omega) (by decide) rfl) dJ24_bitCount_32 ?_
  refine V.topi (x' := ((bc3 d : Nat) : Int)) (congrArg iZ rfl) ?_
  refine v_istore_n E dJ24_bitCount_33 (zlt hL rfl) (lv' := [(0, vi ((bc3 d : Nat) : Int))]) rfl ?_
  have l3 : bc3 d ≤ 252645135 := Nat.and_le_right
  refine v_iload_n E 0 rfl dJ24_bitCount_34 ?_
  refine v_iload_n E 0 rfl dJ24_bitCount_35 ?_
  refine v_bipush E ⟨by decide, by decide⟩ dJ24_bitCount_36 ?_
  refine v_iushr E 8 (by decide) dJ24_bitCount_38 ?_
  refine v_iadd E dJ24_bitCount_39 ?_
  refine V.topi (x' := ((bc4 (bc3 d) : Nat) : Int)) (congrArg iZ (by unfold bc4; omega)) ?_
  refine v_istore_n E dJ24_bitCount_40 (zlt hL rfl) (lv' := [(0, vi ((bc4 (bc3 d) : Nat) : Int))]) rfl ?_
  have l4 : bc4 (bc3 d) = bc3 d + bc3 d / 256 := rfl
  refine v_iload_n E 0 rfl dJ24_bitCount_41 ?_
  refine v_iload_n E 0 rfl dJ24_bitCount_42 ?_
  refine v_bipush E ⟨by decide, by decide⟩ dJ24_bitCount_43 ?_
  refine v_iushr E 16 (by decide) dJ24_bitCount_45 ?_
  refine v_iadd E dJ24_bitCount_46 ?_
  refine V.topi (x' := ((bc5 (bc4 (bc3 d)) : Nat) : Int)) (congrArg iZ (by unfold bc5; omega)) ?_
  refine v_istore_n E dJ24_bitCount_47 (zlt hL rfl) (lv' := [(0, vi ((bc5 (bc4 (bc3 d)) : Nat) : Int))]) rfl ?_
  have l5 : bc5 (bc4 (bc3 d)) = bc4 (bc3 d) + bc4 (bc3 d) / 65536 := rfl
  refine v_iload_n E 0 rfl dJ24_bitCount_48 ?_
  refine v_bipush E ⟨by decide, by decide⟩ dJ24_bitCount_49 ?_
  refine v_iand E (c := (((bc5 (bc4 (bc3 d))) &&& 63 : Nat) : Int)) (iZ_andN (a := bc5 (bc4 (bc3 d))) (b := 63) (by omega) (by decide) rfl) dJ24_bitCount_51 ?_
  refine v_iret E hE dJ24_bitCount_52 ?_
  rfl
