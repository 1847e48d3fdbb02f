/-! THE MODEL's CONSTRUCTOR (printed by tools/m_i7.py) -/
theorem eR_congr {κ : zK} {H : Heap} {a t n : Nat} {f g : Nat → Option Nat} (h : hp κ H a (eR κ t n f)) (hf : ∀ k, k < n → f k = g k) : hp κ H a (eR κ t n g) := by
  have h1 : H[a]? = some (arrV (κ.2 t) n (fun k => va_rf (f k))) := h
  show H[a]? = some (arrV (κ.2 t) n (fun k => va_rf (g k)))
  rw [h1]
  have e : (Array.ofFn (n := n) fun j => va_rf (f j.val)) = (Array.ofFn (n := n) fun j => va_rf (g j.val)) := by
    congr 1
    funext j
    rw [hf j.val j.isLt]
  unfold arrV
  rw [e]
/-- where the polynomial j's array of numbers lies, from the first cell of the constructor's on -/
def pbM (j : Nat) : Nat := if j < 5 then 12 + 8 * j else if j = 5 then 1334 else if j = 6 then 1343 else if j = 7 then 1417 else if j < 16 then 1352 + 8 * (j - 8) else 53 + 8 * (j - 16)
def offM (i : Nat) : Nat :=
  if i < 6 then 6 + i else if i < 1238 then pbM ((i - 6) / 7) + 1 + (i - 6) % 7 else if 2000 ≤ i ∧ i < 2176 then pbM (i - 2000) else if i = 3000 then 1351 else if i = 3001 then 52 else if i = 3003 then 0 else if i = 3004 then 1416 else if i = 3005 then 1333 else if i = 3006 then 1342 else if 3010 ≤ i ∧ i < 3015 then i - 3009 else 100000 + i
def invP (x b j : Nat) : Nat := if (x - b) % 8 = 0 then 2000 + (j + (x - b) / 8) else 6 + 7 * (j + (x - b) / 8) + ((x - b) % 8 - 1)
def invM (x : Nat) : Nat :=
  if x = 0 then 3003 else if x < 6 then 3009 + x else if x < 12 then x - 6 else if x < 52 then invP x 12 0 else if x = 52 then 3001 else if x < 1333 then invP x 53 16 else if x = 1333 then 3005 else if x < 1342 then invP x 1334 5 else if x = 1342 then 3006 else if x < 1351 then invP x 1343 6 else if x = 1351 then 3000 else if x < 1416 then invP x 1352 8 else if x = 1416 then 3004 else if x < 1425 then invP x 1417 7 else x - 100000
theorem invM_d : ∀ a, a < 62 → ∀ b, b < 50 → 50 * a + b ≠ 3002 → invM (offM (50 * a + b)) = 50 * a + b := by decide +kernel
theorem invM_lo (i : Nat) (h : i < 3100) (hn : i ≠ 3002) : invM (offM i) = i := by
  have := invM_d (i / 50) (by omega) (i % 50) (by omega)
  rw [show 50 * (i / 50) + i % 50 = i by omega] at this
  exact this hn
theorem invM_off (i : Nat) (h : i ≠ 3002) : invM (offM i) = i := by
  by_cases c : i < 3100
  · exact invM_lo i c h
  · have e : offM i = 100000 + i := by unfold offM; simp only [show ¬ i < 6 by omega, show ¬ i < 1238 by omega, show ¬ (2000 ≤ i ∧ i < 2176) by omega, show ¬ i = 3000 by omega, show ¬ i = 3001 by omega, show ¬ i = 3003 by omega, show ¬ i = 3004 by omega, show ¬ i = 3005 by omega, show ¬ i = 3006 by omega, show ¬ (3010 ≤ i ∧ i < 3015) by omega, if_false]
    rw [e]
    unfold invM
    simp only [show ¬ 100000 + i = 0 by omega, show ¬ 100000 + i < 6 by omega, show ¬ 100000 + i < 12 by omega, show ¬ 100000 + i < 52 by omega, show ¬ 100000 + i = 52 by omega, show ¬ 100000 + i < 1333 by omega, show ¬ 100000 + i = 1333 by omega, show ¬ 100000 + i < 1342 by omega, show ¬ 100000 + i = 1342 by omega, show ¬ 100000 + i < 1351 by omega, show ¬ 100000 + i = 1351 by omega, show ¬ 100000 + i < 1416 by omega, show ¬ 100000 + i = 1416 by omega, show ¬ 100000 + i < 1425 by omega, if_false]
    omega
theorem offM_d : ∀ a, a < 62 → ∀ b, b < 50 → uA (50 * a + b) → 50 * a + b ≠ 3002 → offM (50 * a + b) < 1425 := by decide +kernel
theorem offM_lt (i : Nat) (h : i < 3100) (hu : uA i) (hn : i ≠ 3002) : offM i < 1425 := by
  have := offM_d (i / 50) (by omega) (i % 50) (by omega)
  rw [show 50 * (i / 50) + i % 50 = i by omega] at this
  exact this hu hn
theorem offM_p : ∀ j, j < 176 → offM (2000 + j) = pbM j ∧ ∀ k, k < 7 → offM (6 + 7 * j + k) = pbM j + 1 + k := by decide +kernel
/-- the model's cells: B the first of the constructor's, o the object -/
def adM (B o i : Nat) : Nat := if i = 3002 then o else B + offM i
theorem adM_o (B o : Nat) : adM B o 3002 = o := if_pos rfl
theorem adM_at {B o i : Nat} (h : i ≠ 3002) : adM B o i = B + offM i := if_neg h
theorem adM_inj {B o : Nat} (h : o < B) : Inj (adM B o) := by
  intro i j e
  by_cases ci : i = 3002
  · by_cases cj : j = 3002
    · omega
    · rw [ci, adM_o, adM_at cj] at e; omega
  · by_cases cj : j = 3002
    · rw [cj, adM_o, adM_at ci] at e; omega
    · rw [adM_at ci, adM_at cj] at e
      have e2 : offM i = offM j := by omega
      rw [← invM_off i ci, ← invM_off j cj, e2]
theorem adM_reg {B o i : Nat} (h : uA i) (ho : o + 1 = B) : o ≤ adM B o i ∧ adM B o i < B + 1425 := by
  by_cases c : i = 3002
  · rw [c, adM_o]; omega
  · rw [adM_at c]
    have := offM_lt i (by omega) h c
    omega

/-- what the constructor has made -/
theorem init_post {κ : zK} {G : Heap} {B o : Nat} (hlt : o < B) (ho : hp κ G o (.inr (3, [vi 0, .ref (B + 0), .ref (B + 6), .ref (B + 7), .ref (B + 8), .ref (B + 9), .ref (B + 10), .ref (B + 11), .ref (B + 12), .ref (B + 20), .ref (B + 28), .ref (B + 36), .ref (B + 44), .ref (B + 52), .ref (B + 1333), .ref (B + 1334), .ref (B + 1342), .ref (B + 1343), .ref (B + 1351), vi 0, .ref (B + 1416), .ref (B + 1417), .ref (B + 1425), .ref (B + 1426), .ref (B + 1427), .ref (B + 1428), vi 0]))) (fn1 : hp κ G (B + 0) (eR κ 3 5 (fun j => some (B + 0 + 1 + j)))) (fi1 : ∀ j, j < 5 → hp κ G (B + 0 + 1 + j) (eI κ 7 (fun _ => 0))) (fn2 : hp κ G (B + 6) (eI κ 48 (fun _ => 0))) (fn3 : hp κ G (B + 7) (eI κ 48 (fun _ => 0))) (fn4 : hp κ G (B + 8) (eI κ 48 (fun _ => 0))) (fn5 : hp κ G (B + 9) (eI κ 48 (fun _ => 0))) (fn6 : hp κ G (B + 10) (eI κ 48 (fun _ => 0))) (fn7 : hp κ G (B + 11) (eI κ 48 (fun _ => 0))) (fn8 : hp κ G (B + 12) (eR κ 3 7 (fun j => some (B + 12 + 1 + j)))) (fi8 : ∀ j, j < 7 → hp κ G (B + 12 + 1 + j) (eI κ 48 (fun _ => 0))) (fn9 : hp κ G (B + 20) (eR κ 3 7 (fun j => some (B + 20 + 1 + j)))) (fi9 : ∀ j, j < 7 → hp κ G (B + 20 + 1 + j) (eI κ 48 (fun _ => 0))) (fn10 : hp κ G (B + 28) (eR κ 3 7 (fun j => some (B + 28 + 1 + j)))) (fi10 : ∀ j, j < 7 → hp κ G (B + 28 + 1 + j) (eI κ 48 (fun _ => 0))) (fn11 : hp κ G (B + 36) (eR κ 3 7 (fun j => some (B + 36 + 1 + j)))) (fi11 : ∀ j, j < 7 → hp κ G (B + 36 + 1 + j) (eI κ 48 (fun _ => 0))) (fn12 : hp κ G (B + 44) (eR κ 3 7 (fun j => some (B + 44 + 1 + j)))) (fi12 : ∀ j, j < 7 → hp κ G (B + 44 + 1 + j) (eI κ 48 (fun _ => 0))) (fn13 : hp κ G (B + 52) (eR κ 4 160 (fun j => some (B + 52 + 1 + j * (1 + 7))))) (fi13 : ∀ j, j < 160 → hp κ G (B + 52 + 1 + j * (1 + 7)) (eR κ 3 7 (fun r => some (B + 52 + 1 + j * (1 + 7) + 1 + r)))) (fj13 : ∀ j, j < 160 → ∀ r, r < 7 → hp κ G (B + 52 + 1 + j * (1 + 7) + 1 + r) (eI κ 48 (fun _ => 0))) (fn14 : hp κ G (B + 1333) (eI κ 160 (fun _ => 0))) (fn15 : hp κ G (B + 1334) (eR κ 3 7 (fun j => some (B + 1334 + 1 + j)))) (fi15 : ∀ j, j < 7 → hp κ G (B + 1334 + 1 + j) (eI κ 48 (fun _ => 0))) (fn16 : hp κ G (B + 1342) (eJ κ 14 (fun _ => 0))) (fn17 : hp κ G (B + 1343) (eR κ 3 7 (fun j => some (B + 1343 + 1 + j)))) (fi17 : ∀ j, j < 7 → hp κ G (B + 1343 + 1 + j) (eI κ 48 (fun _ => 0))) (fn18 : hp κ G (B + 1351) (eR κ 4 8 (fun j => some (B + 1351 + 1 + j * (1 + 7))))) (fi18 : ∀ j, j < 8 → hp κ G (B + 1351 + 1 + j * (1 + 7)) (eR κ 3 7 (fun r => some (B + 1351 + 1 + j * (1 + 7) + 1 + r)))) (fj18 : ∀ j, j < 8 → ∀ r, r < 7 → hp κ G (B + 1351 + 1 + j * (1 + 7) + 1 + r) (eI κ 48 (fun _ => 0))) (fn19 : hp κ G (B + 1416) (eI κ 7 (fun _ => 0))) (fn20 : hp κ G (B + 1417) (eR κ 3 7 (fun j => some (B + 1417 + 1 + j)))) (fi20 : ∀ j, j < 7 → hp κ G (B + 1417 + 1 + j) (eI κ 48 (fun _ => 0))) (fn21 : hp κ G (B + 1425) (eI κ 64 (fun _ => 0))) (fn22 : hp κ G (B + 1426) (eI κ 64 (fun _ => 0))) (fn23 : hp κ G (B + 1427) (eI κ 64 (fun _ => 0))) (fn24 : hp κ G (B + 1428) (eI κ 64 (fun _ => 0))) : MB κ (adM B o) (fun _ _ => 0) (fun _ => 0) (fun _ => 0) (fun _ => 0) (fun _ _ => 0) (fun _ => 0) 0 0 0 (B + 1425) (B + 1426) (B + 1427) (B + 1428) G ∧ LV κ (adM B o) (B + 1425) (B + 1426) (B + 1427) (B + 1428) 64 (fun _ => 0) (fun _ => 0) (fun _ => 0) (fun _ => 0) G := by
  have PF : ∀ j, j < 176 → hp κ G (B + pbM j) (eR κ 3 7 (fun k => some (B + pbM j + 1 + k))) ∧ ∀ k, k < 7 → hp κ G (B + pbM j + 1 + k) (eI κ 48 (fun _ => 0)) := by
    intro j hj
    by_cases c0 : j = 0
    · subst c0; exact ⟨fn8, fi8⟩
    by_cases c1 : j = 1
    · subst c1; exact ⟨fn9, fi9⟩
    by_cases c2 : j = 2
    · subst c2; exact ⟨fn10, fi10⟩
    by_cases c3 : j = 3
    · subst c3; exact ⟨fn11, fi11⟩
    by_cases c4 : j = 4
    · subst c4; exact ⟨fn12, fi12⟩
    by_cases c5 : j = 5
    · subst c5; exact ⟨fn15, fi15⟩
    by_cases c6 : j = 6
    · subst c6; exact ⟨fn17, fi17⟩
    by_cases c7 : j = 7
    · subst c7; exact ⟨fn20, fi20⟩
    by_cases c8 : j < 16
    · have e : pbM j = 1352 + (j - 8) * 8 := by unfold pbM; rw [if_neg (show ¬ j < 5 by omega), if_neg (show ¬ j = 5 by omega), if_neg (show ¬ j = 6 by omega), if_neg (show ¬ j = 7 by omega), if_pos c8]; omega
      rw [e, show B + (1352 + (j - 8) * 8) = B + 1351 + 1 + (j - 8) * (1 + 7) by omega]
      exact ⟨fi18 (j - 8) (by omega), fj18 (j - 8) (by omega)⟩
    · have e : pbM j = 53 + (j - 16) * 8 := by unfold pbM; rw [if_neg (show ¬ j < 5 by omega), if_neg (show ¬ j = 5 by omega), if_neg (show ¬ j = 6 by omega), if_neg (show ¬ j = 7 by omega), if_neg c8]; omega
      rw [e, show B + (53 + (j - 16) * 8) = B + 52 + 1 + (j - 16) * (1 + 7) by omega]
      exact ⟨fi13 (j - 16) (by omega), fj13 (j - 16) (by omega)⟩
  have eP : ∀ j, j < 176 → adM B o (2000 + j) = B + pbM j := fun j hj => by rw [adM_at (by omega), (offM_p j hj).1]
  have eN : ∀ j k, j < 176 → k < 7 → adM B o (6 + 7 * j + k) = B + pbM j + 1 + k := fun j k hj hk => by rw [adM_at (by omega), (offM_p j hj).2 k hk]; omega
  have d0 : ∀ k, dg 0 k = 0 := fun k => by unfold dg; simp
  have nu : ∀ a, hp κ G a (eI κ 48 (fun _ => 0)) → hp κ G a (eI κ 48 (dg 0)) := fun a h => eI.congr h (fun k _ => by rw [d0 k])
  have tm : ∀ i, i < 6 → hp κ G (B + (6 + i)) (eI κ 48 (fun _ => 0)) := by
    intro i hi
    by_cases c0 : i = 0
    · subst c0; exact fn2
    by_cases c1 : i = 1
    · subst c1; exact fn3
    by_cases c2 : i = 2
    · subst c2; exact fn4
    by_cases c3 : i = 3
    · subst c3; exact fn5
    by_cases c4 : i = 4
    · subst c4; exact fn6
    have c5 : i = 5 := by omega
    subst c5; exact fn7
  refine ⟨⟨⟨fun j hj => ?_, ?_, ?_, ?_⟩, fun i hi => ?_, fun i hi => ?_, ?_, ?_, ?_, ?_⟩, fun i hi => ?_, by omega, ?_, ?_, ?_, ?_⟩
  · rw [eP j hj]; exact eR_congr (PF j hj).1 (fun k hk => by rw [eN j k hj hk])
  · rw [adM_at (by decide)]; exact eR_congr fn18 (fun i hi => by rw [show 2008 + i = 2000 + (8 + i) by omega, eP _ (by omega)]; congr 1; unfold pbM; rw [if_neg (show ¬ 8 + i < 5 by omega), if_neg (show ¬ 8 + i = 5 by omega), if_neg (show ¬ 8 + i = 6 by omega), if_neg (show ¬ 8 + i = 7 by omega), if_pos (show 8 + i < 16 by omega)]; omega)
  · rw [adM_at (by decide)]; exact eR_congr fn13 (fun i hi => by rw [show 2016 + i = 2000 + (16 + i) by omega, eP _ (by omega)]; congr 1; unfold pbM; rw [if_neg (show ¬ 16 + i < 5 by omega), if_neg (show ¬ 16 + i = 5 by omega), if_neg (show ¬ 16 + i = 6 by omega), if_neg (show ¬ 16 + i = 7 by omega), if_neg (show ¬ 16 + i < 16 by omega)]; omega)
  have eS : ∀ i, i < 5 → adM B o (3010 + i) = B + 1 + i := fun i hi => by
    rw [adM_at (by omega)]
    have : offM (3010 + i) = 1 + i := (by decide +kernel : ∀ i, i < 5 → offM (3010 + i) = 1 + i) i hi
    omega
  · rw [adM_at (by decide)]; exact eR_congr fn1 (fun i hi => by rw [eS i hi])
  · by_cases c : i < 6
    · have e : adM B o i = B + (6 + i) := by rw [adM_at (by omega)]; unfold offM; rw [if_pos c]
      rw [e]; unfold bk; rw [if_pos c]; exact nu _ (tm i c)
    · have e := eN ((i - 6) / 7) ((i - 6) % 7) (by omega) (by omega)
      rw [show 6 + 7 * ((i - 6) / 7) + (i - 6) % 7 = i by omega] at e
      rw [e]; unfold bk; rw [if_neg c]; exact nu _ ((PF ((i - 6) / 7) (by omega)).2 ((i - 6) % 7) (by omega))
  · have eS : adM B o (3010 + i) = B + 1 + i := by
      rw [adM_at (by omega)]
      have : offM (3010 + i) = 1 + i := (by decide +kernel : ∀ i, i < 5 → offM (3010 + i) = 1 + i) i hi
      omega
    rw [eS]; exact fi1 i hi
  · rw [adM_o]; exact ho
  · rw [adM_at (by decide)]; exact fn14
  · rw [adM_at (by decide)]; exact fn19
  · rw [adM_at (by decide)]; exact fn16
  · by_cases c : i = 3002
    · rw [c, adM_o]; omega
    · rw [adM_at c]; have := offM_lt i (by omega) hi c; omega
  · exact fn21
  · exact fn22
  · exact fn23
  · exact fn24
set_option maxHeartbeats 2000000 in
theorem m_init (κ : zK) (H0 : Heap) {o : Nat} (ho : hp κ H0 o (.inr (3, [vi 0, .null, .null, .null, .null, .null, .null, .null, .null, .null, .null, .null, .null, .null, .null, .null, .null, .null, .null, vi 0, .null, .null, .null, .null, .null, .null, vi 0]))) : MtO κ yX4_init cX4_init 1 none 1 40 1429 61301 H0 [.ref o] (fun q => q = o) (fun v H1 => v = none ∧ H1.size = H0.size + 1429 ∧ MB κ (adM H0.size o) (fun _ _ => 0) (fun _ => 0) (fun _ => 0) (fun _ => 0) (fun _ _ => 0) (fun _ => 0) 0 0 0 (H0.size + 1425) (H0.size + 1426) (H0.size + 1427) (H0.size + 1428) H1 ∧ LV κ (adM H0.size o) (H0.size + 1425) (H0.size + 1426) (H0.size + 1427) (H0.size + 1428) 64 (fun _ => 0) (fun _ => 0) (fun _ => 0) (fun _ => 0) H1) := by
  refine MtO.of (by decide) (Nat.le_of_ble_eq_true rfl) ?_
  intro z E X9 hE hH0 hA0 hL hini
  have hini := hini rfl
  have hA : zA z.A z.H0 o := Or.inl (by rw [hA0])
  have hlt : o < H0.size := ho.lt
  have hne1 : ∀ a, H0.size + a ≠ o := fun a => by omega
  have hne3 : ∀ a b c, H0.size + a + b + c ≠ o := fun a b c => by omega
  have hne5 : ∀ a b c d e, H0.size + a + b + c + d + e ≠ o := fun a b c d e => by omega
  have E : zOK z cX4_init RX4 κ 1 40 none := E
  refine V.eqL (lv' := [(0, .ref o)]) rfl ?_
  refine v_aload_n E 0 rfl dX4_init_0 ?_
  refine v_objInit E q1755 q111 q112 dX4_init_1 (by decide) (Nat.le_of_ble_eq_true rfl) ?_
  refine v_aload_n E 0 rfl dX4_init_4 ?_
  refine v_iconst E dX4_init_5 ?_
  refine V.eq (st' := vi ((5 : Nat) : Int) :: [.ref o]) rfl ?_
  refine v_bipush E ⟨by decide, by decide⟩ dX4_init_6 ?_
  refine V.eq (st' := vi ((7 : Nat) : Int) :: vi ((5 : Nat) : Int) :: [.ref o]) rfl ?_
  refine v_multi2 E X9 (n := 5) (k := 7) q1756 q511 (by decide) (by decide) (cb' := 1423) (sb' := 61261) (Nat.le_of_ble_eq_true rfl) (Nat.le_of_ble_eq_true rfl) dX4_init_8 (fun q1 G1 e1 hg1 hn1 hi1 => ?_)
  subst e1
  have ho1 := ho.kept (hg1.2 o hlt)
  have szG1 : G1.size = H0.size + 6 := by rw [hg1.1]
  refine V.eq (st' := [.ref (H0.size + 0), .ref o]) (by rw [show H0.size = H0.size + 0 from rfl]) ?_
  refine v_putfF E hini in_X4 tyX4 tyX4_ok nmX4 ho1 (ci := 3) rfl 1 (Nat.le_of_ble_eq_true rfl) q1761 rfl rfl rfl rfl rfl (Nat.le_of_ble_eq_true rfl) hA dX4_init_12 (fun G1b ho1b hs1 => ?_)
  have hob1 : hp κ G1b o (.inr (3, [vi 0, .ref (H0.size + 0), .null, .null, .null, .null, .null, .null, .null, .null, .null, .null, .null, .null, .null, .null, .null, .null, .null, vi 0, .null, .null, .null, .null, .null, .null, vi 0])) := ho1b
  have szG1b : G1b.size = H0.size + 6 := by rw [hs1.1]; exact szG1
  refine v_aload_n E 0 rfl dX4_init_15 ?_
  refine v_bipush E ⟨by decide, by decide⟩ dX4_init_16 ?_
  refine V.eq (st' := vi ((48 : Nat) : Int) :: [.ref o]) rfl ?_
  refine v_newI E (n := 48) q511 (by decide) rfl (cb' := 1422) (sb' := 61213) (Nat.le_of_ble_eq_true rfl) (Nat.le_of_ble_eq_true rfl) dX4_init_18 (fun q2 G2 e2 hn2 hg2 => ?_)
  subst e2
  have hg2 : zGroN G1b G2 1 := hg2
  have ho2 := hob1.kept (hg2.2 o (Nat.lt_of_lt_of_le hlt (by rw [szG1b]; exact Nat.le_add_right _ _)))
  have szG2 : G2.size = H0.size + 7 := by rw [hg2.1, szG1b, Nat.add_assoc]
  refine V.eq (st' := [.ref (H0.size + 6), .ref o]) (by rw [show G1b.size = H0.size + 6 from szG1b]) ?_
  refine v_putfF E hini in_X4 tyX4 tyX4_ok nmX4 ho2 (ci := 3) rfl 2 (Nat.le_of_ble_eq_true rfl) q1762 rfl rfl rfl rfl rfl (Nat.le_of_ble_eq_true rfl) hA dX4_init_20 (fun G2b ho2b hs2 => ?_)
  have hob2 : hp κ G2b o (.inr (3, [vi 0, .ref (H0.size + 0), .ref (H0.size + 6), .null, .null, .null, .null, .null, .null, .null, .null, .null, .null, .null, .null, .null, .null, .null, .null, vi 0, .null, .null, .null, .null, .null, .null, vi 0])) := ho2b
  have szG2b : G2b.size = H0.size + 7 := by rw [hs2.1]; exact szG2
  refine v_aload_n E 0 rfl dX4_init_23 ?_
  refine v_bipush E ⟨by decide, by decide⟩ dX4_init_24 ?_
  refine V.eq (st' := vi ((48 : Nat) : Int) :: [.ref o]) rfl ?_
  refine v_newI E (n := 48) q511 (by decide) rfl (cb' := 1421) (sb' := 61165) (Nat.le_of_ble_eq_true rfl) (Nat.le_of_ble_eq_true rfl) dX4_init_26 (fun q3 G3 e3 hn3 hg3 => ?_)
  subst e3
  have hg3 : zGroN G2b G3 1 := hg3
  have ho3 := hob2.kept (hg3.2 o (Nat.lt_of_lt_of_le hlt (by rw [szG2b]; exact Nat.le_add_right _ _)))
  have szG3 : G3.size = H0.size + 8 := by rw [hg3.1, szG2b, Nat.add_assoc]
  refine V.eq (st' := [.ref (H0.size + 7), .ref o]) (by rw [show G2b.size = H0.size + 7 from szG2b]) ?_
  refine v_putfF E hini in_X4 tyX4 tyX4_ok nmX4 ho3 (ci := 3) rfl 3 (Nat.le_of_ble_eq_true rfl) q1763 rfl rfl rfl rfl rfl (Nat.le_of_ble_eq_true rfl) hA dX4_init_28 (fun G3b ho3b hs3 => ?_)
  have hob3 : hp κ G3b o (.inr (3, [vi 0, .ref (H0.size + 0), .ref (H0.size + 6), .ref (H0.size + 7), .null, .null, .null, .null, .null, .null, .null, .null, .null, .null, .null, .null, .null, .null, .null, vi 0, .null, .null, .null, .null, .null, .null, vi 0])) := ho3b
  have szG3b : G3b.size = H0.size + 8 := by rw [hs3.1]; exact szG3
  refine v_aload_n E 0 rfl dX4_init_31 ?_
  refine v_bipush E ⟨by decide, by decide⟩ dX4_init_32 ?_
  refine V.eq (st' := vi ((48 : Nat) : Int) :: [.ref o]) rfl ?_
  refine v_newI E (n := 48) q511 (by decide) rfl (cb' := 1420) (sb' := 61117) (Nat.le_of_ble_eq_true rfl) (Nat.le_of_ble_eq_true rfl) dX4_init_34 (fun q4 G4 e4 hn4 hg4 => ?_)
  subst e4
  have hg4 : zGroN G3b G4 1 := hg4
  have ho4 := hob3.kept (hg4.2 o (Nat.lt_of_lt_of_le hlt (by rw [szG3b]; exact Nat.le_add_right _ _)))
  have szG4 : G4.size = H0.size + 9 := by rw [hg4.1, szG3b, Nat.add_assoc]
  refine V.eq (st' := [.ref (H0.size + 8), .ref o]) (by rw [show G3b.size = H0.size + 8 from szG3b]) ?_
  refine v_putfF E hini in_X4 tyX4 tyX4_ok nmX4 ho4 (ci := 3) rfl 4 (Nat.le_of_ble_eq_true rfl) q1764 rfl rfl rfl rfl rfl (Nat.le_of_ble_eq_true rfl) hA dX4_init_36 (fun G4b ho4b hs4 => ?_)
  have hob4 : hp κ G4b o (.inr (3, [vi 0, .ref (H0.size + 0), .ref (H0.size + 6), .ref (H0.size + 7), .ref (H0.size + 8), .null, .null, .null, .null, .null, .null, .null, .null, .null, .null, .null, .null, .null, .null, vi 0, .null, .null, .null, .null, .null, .null, vi 0])) := ho4b
  have szG4b : G4b.size = H0.size + 9 := by rw [hs4.1]; exact szG4
  refine v_aload_n E 0 rfl dX4_init_39 ?_
  refine v_bipush E ⟨by decide, by decide⟩ dX4_init_40 ?_
  refine V.eq (st' := vi ((48 : Nat) : Int) :: [.ref o]) rfl ?_
  refine v_newI E (n := 48) q511 (by decide) rfl (cb' := 1419) (sb' := 61069) (Nat.le_of_ble_eq_true rfl) (Nat.le_of_ble_eq_true rfl) dX4_init_42 (fun q5 G5 e5 hn5 hg5 => ?_)
  subst e5
  have hg5 : zGroN G4b G5 1 := hg5
  have ho5 := hob4.kept (hg5.2 o (Nat.lt_of_lt_of_le hlt (by rw [szG4b]; exact Nat.le_add_right _ _)))
  have szG5 : G5.size = H0.size + 10 := by rw [hg5.1, szG4b, Nat.add_assoc]
  refine V.eq (st' := [.ref (H0.size + 9), .ref o]) (by rw [show G4b.size = H0.size + 9 from szG4b]) ?_
  refine v_putfF E hini in_X4 tyX4 tyX4_ok nmX4 ho5 (ci := 3) rfl 5 (Nat.le_of_ble_eq_true rfl) q1765 rfl rfl rfl rfl rfl (Nat.le_of_ble_eq_true rfl) hA dX4_init_44 (fun G5b ho5b hs5 => ?_)
  have hob5 : hp κ G5b o (.inr (3, [vi 0, .ref (H0.size + 0), .ref (H0.size + 6), .ref (H0.size + 7), .ref (H0.size + 8), .ref (H0.size + 9), .null, .null, .null, .null, .null, .null, .null, .null, .null, .null, .null, .null, .null, vi 0, .null, .null, .null, .null, .null, .null, vi 0])) := ho5b
  have szG5b : G5b.size = H0.size + 10 := by rw [hs5.1]; exact szG5
  refine v_aload_n E 0 rfl dX4_init_47 ?_
  refine v_bipush E ⟨by decide, by decide⟩ dX4_init_48 ?_
  refine V.eq (st' := vi ((48 : Nat) : Int) :: [.ref o]) rfl ?_
  refine v_newI E (n := 48) q511 (by decide) rfl (cb' := 1418) (sb' := 61021) (Nat.le_of_ble_eq_true rfl) (Nat.le_of_ble_eq_true rfl) dX4_init_50 (fun q6 G6 e6 hn6 hg6 => ?_)
  subst e6
  have hg6 : zGroN G5b G6 1 := hg6
  have ho6 := hob5.kept (hg6.2 o (Nat.lt_of_lt_of_le hlt (by rw [szG5b]; exact Nat.le_add_right _ _)))
  have szG6 : G6.size = H0.size + 11 := by rw [hg6.1, szG5b, Nat.add_assoc]
  refine V.eq (st' := [.ref (H0.size + 10), .ref o]) (by rw [show G5b.size = H0.size + 10 from szG5b]) ?_
  refine v_putfF E hini in_X4 tyX4 tyX4_ok nmX4 ho6 (ci := 3) rfl 6 (Nat.le_of_ble_eq_true rfl) q1766 rfl rfl rfl rfl rfl (Nat.le_of_ble_eq_true rfl) hA dX4_init_52 (fun G6b ho6b hs6 => ?_)
  have hob6 : hp κ G6b o (.inr (3, [vi 0, .ref (H0.size + 0), .ref (H0.size + 6), .ref (H0.size + 7), .ref (H0.size + 8), .ref (H0.size + 9), .ref (H0.size + 10), .null, .null, .null, .null, .null, .null, .null, .null, .null, .null, .null, .null, vi 0, .null, .null, .null, .null, .null, .null, vi 0])) := ho6b
  have szG6b : G6b.size = H0.size + 11 := by rw [hs6.1]; exact szG6
  refine v_aload_n E 0 rfl dX4_init_55 ?_
  refine v_bipush E ⟨by decide, by decide⟩ dX4_init_56 ?_
  refine V.eq (st' := vi ((48 : Nat) : Int) :: [.ref o]) rfl ?_
  refine v_newI E (n := 48) q511 (by decide) rfl (cb' := 1417) (sb' := 60973) (Nat.le_of_ble_eq_true rfl) (Nat.le_of_ble_eq_true rfl) dX4_init_58 (fun q7 G7 e7 hn7 hg7 => ?_)
  subst e7
  have hg7 : zGroN G6b G7 1 := hg7
  have ho7 := hob6.kept (hg7.2 o (Nat.lt_of_lt_of_le hlt (by rw [szG6b]; exact Nat.le_add_right _ _)))
  have szG7 : G7.size = H0.size + 12 := by rw [hg7.1, szG6b, Nat.add_assoc]
  refine V.eq (st' := [.ref (H0.size + 11), .ref o]) (by rw [show G6b.size = H0.size + 11 from szG6b]) ?_
  refine v_putfF E hini in_X4 tyX4 tyX4_ok nmX4 ho7 (ci := 3) rfl 7 (Nat.le_of_ble_eq_true rfl) q1767 rfl rfl rfl rfl rfl (Nat.le_of_ble_eq_true rfl) hA dX4_init_60 (fun G7b ho7b hs7 => ?_)
  have hob7 : hp κ G7b o (.inr (3, [vi 0, .ref (H0.size + 0), .ref (H0.size + 6), .ref (H0.size + 7), .ref (H0.size + 8), .ref (H0.size + 9), .ref (H0.size + 10), .ref (H0.size + 11), .null, .null, .null, .null, .null, .null, .null, .null, .null, .null, .null, vi 0, .null, .null, .null, .null, .null, .null, vi 0])) := ho7b
  have szG7b : G7b.size = H0.size + 12 := by rw [hs7.1]; exact szG7
  refine v_aload_n E 0 rfl dX4_init_63 ?_
  refine v_bipush E ⟨by decide, by decide⟩ dX4_init_64 ?_
  refine V.eq (st' := vi ((7 : Nat) : Int) :: [.ref o]) rfl ?_
  refine v_bipush E ⟨by decide, by decide⟩ dX4_init_66 ?_
  refine V.eq (st' := vi ((48 : Nat) : Int) :: vi ((7 : Nat) : Int) :: [.ref o]) rfl ?_
  refine v_multi2 E X9 (n := 7) (k := 48) q1756 q511 (by decide) (by decide) (cb' := 1409) (sb' := 60630) (Nat.le_of_ble_eq_true rfl) (Nat.le_of_ble_eq_true rfl) dX4_init_68 (fun q8 G8 e8 hg8 hn8 hi8 => ?_)
  subst e8
  have ho8 := hob7.kept (hg8.2 o (Nat.lt_of_lt_of_le hlt (by rw [szG7b]; exact Nat.le_add_right _ _)))
  have szG8 : G8.size = H0.size + 20 := by rw [hg8.1, szG7b, Nat.add_assoc]
  refine V.eq (st' := [.ref (H0.size + 12), .ref o]) (by rw [show G7b.size = H0.size + 12 from szG7b]) ?_
  refine v_putfF E hini in_X4 tyX4 tyX4_ok nmX4 ho8 (ci := 3) rfl 8 (Nat.le_of_ble_eq_true rfl) q1768 rfl rfl rfl rfl rfl (Nat.le_of_ble_eq_true rfl) hA dX4_init_72 (fun G8b ho8b hs8 => ?_)
  have hob8 : hp κ G8b o (.inr (3, [vi 0, .ref (H0.size + 0), .ref (H0.size + 6), .ref (H0.size + 7), .ref (H0.size + 8), .ref (H0.size + 9), .ref (H0.size + 10), .ref (H0.size + 11), .ref (H0.size + 12), .null, .null, .null, .null, .null, .null, .null, .null, .null, .null, vi 0, .null, .null, .null, .null, .null, .null, vi 0])) := ho8b
  have szG8b : G8b.size = H0.size + 20 := by rw [hs8.1]; exact szG8
  refine v_aload_n E 0 rfl dX4_init_75 ?_
  refine v_bipush E ⟨by decide, by decide⟩ dX4_init_76 ?_
  refine V.eq (st' := vi ((7 : Nat) : Int) :: [.ref o]) rfl ?_
  refine v_bipush E ⟨by decide, by decide⟩ dX4_init_78 ?_
  refine V.eq (st' := vi ((48 : Nat) : Int) :: vi ((7 : Nat) : Int) :: [.ref o]) rfl ?_
  refine v_multi2 E X9 (n := 7) (k := 48) q1756 q511 (by decide) (by decide) (cb' := 1401) (sb' := 60287) (Nat.le_of_ble_eq_true rfl) (Nat.le_of_ble_eq_true rfl) dX4_init_80 (fun q9 G9 e9 hg9 hn9 hi9 => ?_)
  subst e9
  have ho9 := hob8.kept (hg9.2 o (Nat.lt_of_lt_of_le hlt (by rw [szG8b]; exact Nat.le_add_right _ _)))
  have szG9 : G9.size = H0.size + 28 := by rw [hg9.1, szG8b, Nat.add_assoc]
  refine V.eq (st' := [.ref (H0.size + 20), .ref o]) (by rw [show G8b.size = H0.size + 20 from szG8b]) ?_
  refine v_putfF E hini in_X4 tyX4 tyX4_ok nmX4 ho9 (ci := 3) rfl 9 (Nat.le_of_ble_eq_true rfl) q1769 rfl rfl rfl rfl rfl (Nat.le_of_ble_eq_true rfl) hA dX4_init_84 (fun G9b ho9b hs9 => ?_)
  have hob9 : hp κ G9b o (.inr (3, [vi 0, .ref (H0.size + 0), .ref (H0.size + 6), .ref (H0.size + 7), .ref (H0.size + 8), .ref (H0.size + 9), .ref (H0.size + 10), .ref (H0.size + 11), .ref (H0.size + 12), .ref (H0.size + 20), .null, .null, .null, .null, .null, .null, .null, .null, .null, vi 0, .null, .null, .null, .null, .null, .null, vi 0])) := ho9b
  have szG9b : G9b.size = H0.size + 28 := by rw [hs9.1]; exact szG9
  refine v_aload_n E 0 rfl dX4_init_87 ?_
  refine v_bipush E ⟨by decide, by decide⟩ dX4_init_88 ?_
  refine V.eq (st' := vi ((7 : Nat) : Int) :: [.ref o]) rfl ?_
  refine v_bipush E ⟨by decide, by decide⟩ dX4_init_90 ?_
  refine V.eq (st' := vi ((48 : Nat) : Int) :: vi ((7 : Nat) : Int) :: [.ref o]) rfl ?_
  refine v_multi2 E X9 (n := 7) (k := 48) q1756 q511 (by decide) (by decide) (cb' := 1393) (sb' := 59944) (Nat.le_of_ble_eq_true rfl) (Nat.le_of_ble_eq_true rfl) dX4_init_92 (fun q10 G10 e10 hg10 hn10 hi10 => ?_)
  subst e10
  have ho10 := hob9.kept (hg10.2 o (Nat.lt_of_lt_of_le hlt (by rw [szG9b]; exact Nat.le_add_right _ _)))
  have szG10 : G10.size = H0.size + 36 := by rw [hg10.1, szG9b, Nat.add_assoc]
  refine V.eq (st' := [.ref (H0.size + 28), .ref o]) (by rw [show G9b.size = H0.size + 28 from szG9b]) ?_
  refine v_putfF E hini in_X4 tyX4 tyX4_ok nmX4 ho10 (ci := 3) rfl 10 (Nat.le_of_ble_eq_true rfl) q1770 rfl rfl rfl rfl rfl (Nat.le_of_ble_eq_true rfl) hA dX4_init_96 (fun G10b ho10b hs10 => ?_)
  have hob10 : hp κ G10b o (.inr (3, [vi 0, .ref (H0.size + 0), .ref (H0.size + 6), .ref (H0.size + 7), .ref (H0.size + 8), .ref (H0.size + 9), .ref (H0.size + 10), .ref (H0.size + 11), .ref (H0.size + 12), .ref (H0.size + 20), .ref (H0.size + 28), .null, .null, .null, .null, .null, .null, .null, .null, vi 0, .null, .null, .null, .null, .null, .null, vi 0])) := ho10b
  have szG10b : G10b.size = H0.size + 36 := by rw [hs10.1]; exact szG10
  refine v_aload_n E 0 rfl dX4_init_99 ?_
  refine v_bipush E ⟨by decide, by decide⟩ dX4_init_100 ?_
  refine V.eq (st' := vi ((7 : Nat) : Int) :: [.ref o]) rfl ?_
  refine v_bipush E ⟨by decide, by decide⟩ dX4_init_102 ?_
  refine V.eq (st' := vi ((48 : Nat) : Int) :: vi ((7 : Nat) : Int) :: [.ref o]) rfl ?_
  refine v_multi2 E X9 (n := 7) (k := 48) q1756 q511 (by decide) (by decide) (cb' := 1385) (sb' := 59601) (Nat.le_of_ble_eq_true rfl) (Nat.le_of_ble_eq_true rfl) dX4_init_104 (fun q11 G11 e11 hg11 hn11 hi11 => ?_)
  subst e11
  have ho11 := hob10.kept (hg11.2 o (Nat.lt_of_lt_of_le hlt (by rw [szG10b]; exact Nat.le_add_right _ _)))
  have szG11 : G11.size = H0.size + 44 := by rw [hg11.1, szG10b, Nat.add_assoc]
  refine V.eq (st' := [.ref (H0.size + 36), .ref o]) (by rw [show G10b.size = H0.size + 36 from szG10b]) ?_
  refine v_putfF E hini in_X4 tyX4 tyX4_ok nmX4 ho11 (ci := 3) rfl 11 (Nat.le_of_ble_eq_true rfl) q1771 rfl rfl rfl rfl rfl (Nat.le_of_ble_eq_true rfl) hA dX4_init_108 (fun G11b ho11b hs11 => ?_)
  have hob11 : hp κ G11b o (.inr (3, [vi 0, .ref (H0.size + 0), .ref (H0.size + 6), .ref (H0.size + 7), .ref (H0.size + 8), .ref (H0.size + 9), .ref (H0.size + 10), .ref (H0.size + 11), .ref (H0.size + 12), .ref (H0.size + 20), .ref (H0.size + 28), .ref (H0.size + 36), .null, .null, .null, .null, .null, .null, .null, vi 0, .null, .null, .null, .null, .null, .null, vi 0])) := ho11b
  have szG11b : G11b.size = H0.size + 44 := by rw [hs11.1]; exact szG11
  refine v_aload_n E 0 rfl dX4_init_111 ?_
  refine v_bipush E ⟨by decide, by decide⟩ dX4_init_112 ?_
  refine V.eq (st' := vi ((7 : Nat) : Int) :: [.ref o]) rfl ?_
  refine v_bipush E ⟨by decide, by decide⟩ dX4_init_114 ?_
  refine V.eq (st' := vi ((48 : Nat) : Int) :: vi ((7 : Nat) : Int) :: [.ref o]) rfl ?_
  refine v_multi2 E X9 (n := 7) (k := 48) q1756 q511 (by decide) (by decide) (cb' := 1377) (sb' := 59258) (Nat.le_of_ble_eq_true rfl) (Nat.le_of_ble_eq_true rfl) dX4_init_116 (fun q12 G12 e12 hg12 hn12 hi12 => ?_)
  subst e12
  have ho12 := hob11.kept (hg12.2 o (Nat.lt_of_lt_of_le hlt (by rw [szG11b]; exact Nat.le_add_right _ _)))
  have szG12 : G12.size = H0.size + 52 := by rw [hg12.1, szG11b, Nat.add_assoc]
  refine V.eq (st' := [.ref (H0.size + 44), .ref o]) (by rw [show G11b.size = H0.size + 44 from szG11b]) ?_
  refine v_putfF E hini in_X4 tyX4 tyX4_ok nmX4 ho12 (ci := 3) rfl 12 (Nat.le_of_ble_eq_true rfl) q1772 rfl rfl rfl rfl rfl (Nat.le_of_ble_eq_true rfl) hA dX4_init_120 (fun G12b ho12b hs12 => ?_)
  have hob12 : hp κ G12b o (.inr (3, [vi 0, .ref (H0.size + 0), .ref (H0.size + 6), .ref (H0.size + 7), .ref (H0.size + 8), .ref (H0.size + 9), .ref (H0.size + 10), .ref (H0.size + 11), .ref (H0.size + 12), .ref (H0.size + 20), .ref (H0.size + 28), .ref (H0.size + 36), .ref (H0.size + 44), .null, .null, .null, .null, .null, .null, vi 0, .null, .null, .null, .null, .null, .null, vi 0])) := ho12b
  have szG12b : G12b.size = H0.size + 52 := by rw [hs12.1]; exact szG12
  refine v_aload_n E 0 rfl dX4_init_123 ?_
  refine v_sipush E ⟨by decide, by decide⟩ dX4_init_124 ?_
  refine V.eq (st' := vi ((160 : Nat) : Int) :: [.ref o]) rfl ?_
  refine v_bipush E ⟨by decide, by decide⟩ dX4_init_127 ?_
  refine V.eq (st' := vi ((7 : Nat) : Int) :: vi ((160 : Nat) : Int) :: [.ref o]) rfl ?_
  refine v_bipush E ⟨by decide, by decide⟩ dX4_init_129 ?_
  refine V.eq (st' := vi ((48 : Nat) : Int) :: vi ((7 : Nat) : Int) :: vi ((160 : Nat) : Int) :: [.ref o]) rfl ?_
  refine v_multi3 E X9 (n := 160) (m := 7) (k := 48) q1758 q511 (by decide) (by decide) (by decide) (cb' := 96) (sb' := 4218) (Nat.le_of_ble_eq_true rfl) (Nat.le_of_ble_eq_true rfl) dX4_init_131 (fun q13 G13 e13 hg13 hn13 hi13 hj13 => ?_)
  subst e13
  have ho13 := hob12.kept (hg13.2 o (Nat.lt_of_lt_of_le hlt (by rw [szG12b]; exact Nat.le_add_right _ _)))
  have szG13 : G13.size = H0.size + 1333 := by rw [hg13.1, szG12b, Nat.add_assoc]
  refine V.eq (st' := [.ref (H0.size + 52), .ref o]) (by rw [show G12b.size = H0.size + 52 from szG12b]) ?_
  refine v_putfF E hini in_X4 tyX4 tyX4_ok nmX4 ho13 (ci := 3) rfl 13 (Nat.le_of_ble_eq_true rfl) q1773 rfl rfl rfl rfl rfl (Nat.le_of_ble_eq_true rfl) hA dX4_init_135 (fun G13b ho13b hs13 => ?_)
  have hob13 : hp κ G13b o (.inr (3, [vi 0, .ref (H0.size + 0), .ref (H0.size + 6), .ref (H0.size + 7), .ref (H0.size + 8), .ref (H0.size + 9), .ref (H0.size + 10), .ref (H0.size + 11), .ref (H0.size + 12), .ref (H0.size + 20), .ref (H0.size + 28), .ref (H0.size + 36), .ref (H0.size + 44), .ref (H0.size + 52), .null, .null, .null, .null, .null, vi 0, .null, .null, .null, .null, .null, .null, vi 0])) := ho13b
  have szG13b : G13b.size = H0.size + 1333 := by rw [hs13.1]; exact szG13
  refine v_aload_n E 0 rfl dX4_init_138 ?_
  refine v_sipush E ⟨by decide, by decide⟩ dX4_init_139 ?_
  refine V.eq (st' := vi ((160 : Nat) : Int) :: [.ref o]) rfl ?_
  refine v_newI E (n := 160) q511 (by decide) rfl (cb' := 95) (sb' := 4058) (Nat.le_of_ble_eq_true rfl) (Nat.le_of_ble_eq_true rfl) dX4_init_142 (fun q14 G14 e14 hn14 hg14 => ?_)
  subst e14
  have hg14 : zGroN G13b G14 1 := hg14
  have ho14 := hob13.kept (hg14.2 o (Nat.lt_of_lt_of_le hlt (by rw [szG13b]; exact Nat.le_add_right _ _)))
  have szG14 : G14.size = H0.size + 1334 := by rw [hg14.1, szG13b, Nat.add_assoc]
  refine V.eq (st' := [.ref (H0.size + 1333), .ref o]) (by rw [show G13b.size = H0.size + 1333 from szG13b]) ?_
  refine v_putfF E hini in_X4 tyX4 tyX4_ok nmX4 ho14 (ci := 3) rfl 14 (Nat.le_of_ble_eq_true rfl) q1774 rfl rfl rfl rfl rfl (Nat.le_of_ble_eq_true rfl) hA dX4_init_144 (fun G14b ho14b hs14 => ?_)
  have hob14 : hp κ G14b o (.inr (3, [vi 0, .ref (H0.size + 0), .ref (H0.size + 6), .ref (H0.size + 7), .ref (H0.size + 8), .ref (H0.size + 9), .ref (H0.size + 10), .ref (H0.size + 11), .ref (H0.size + 12), .ref (H0.size + 20), .ref (H0.size + 28), .ref (H0.size + 36), .ref (H0.size + 44), .ref (H0.size + 52), .ref (H0.size + 1333), .null, .null, .null, .null, vi 0, .null, .null, .null, .null, .null, .null, vi 0])) := ho14b
  have szG14b : G14b.size = H0.size + 1334 := by rw [hs14.1]; exact szG14
  refine v_aload_n E 0 rfl dX4_init_147 ?_
  refine v_bipush E ⟨by decide, by decide⟩ dX4_init_148 ?_
  refine V.eq (st' := vi ((7 : Nat) : Int) :: [.ref o]) rfl ?_
  refine v_bipush E ⟨by decide, by decide⟩ dX4_init_150 ?_
  refine V.eq (st' := vi ((48 : Nat) : Int) :: vi ((7 : Nat) : Int) :: [.ref o]) rfl ?_
  refine v_multi2 E X9 (n := 7) (k := 48) q1756 q511 (by decide) (by decide) (cb' := 87) (sb' := 3715) (Nat.le_of_ble_eq_true rfl) (Nat.le_of_ble_eq_true rfl) dX4_init_152 (fun q15 G15 e15 hg15 hn15 hi15 => ?_)
  subst e15
  have ho15 := hob14.kept (hg15.2 o (Nat.lt_of_lt_of_le hlt (by rw [szG14b]; exact Nat.le_add_right _ _)))
  have szG15 : G15.size = H0.size + 1342 := by rw [hg15.1, szG14b, Nat.add_assoc]
  refine V.eq (st' := [.ref (H0.size + 1334), .ref o]) (by rw [show G14b.size = H0.size + 1334 from szG14b]) ?_
  refine v_putfF E hini in_X4 tyX4 tyX4_ok nmX4 ho15 (ci := 3) rfl 15 (Nat.le_of_ble_eq_true rfl) q1775 rfl rfl rfl rfl rfl (Nat.le_of_ble_eq_true rfl) hA dX4_init_156 (fun G15b ho15b hs15 => ?_)
  have hob15 : hp κ G15b o (.inr (3, [vi 0, .ref (H0.size + 0), .ref (H0.size + 6), .ref (H0.size + 7), .ref (H0.size + 8), .ref (H0.size + 9), .ref (H0.size + 10), .ref (H0.size + 11), .ref (H0.size + 12), .ref (H0.size + 20), .ref (H0.size + 28), .ref (H0.size + 36), .ref (H0.size + 44), .ref (H0.size + 52), .ref (H0.size + 1333), .ref (H0.size + 1334), .null, .null, .null, vi 0, .null, .null, .null, .null, .null, .null, vi 0])) := ho15b
  have szG15b : G15b.size = H0.size + 1342 := by rw [hs15.1]; exact szG15
  refine v_aload_n E 0 rfl dX4_init_159 ?_
  refine v_bipush E ⟨by decide, by decide⟩ dX4_init_160 ?_
  refine V.eq (st' := vi ((14 : Nat) : Int) :: [.ref o]) rfl ?_
  refine v_newJ E (n := 14) q1842 (by decide) rfl (cb' := 86) (sb' := 3701) (Nat.le_of_ble_eq_true rfl) (Nat.le_of_ble_eq_true rfl) dX4_init_162 (fun q16 G16 e16 hn16 hg16 => ?_)
  subst e16
  have hg16 : zGroN G15b G16 1 := hg16
  have ho16 := hob15.kept (hg16.2 o (Nat.lt_of_lt_of_le hlt (by rw [szG15b]; exact Nat.le_add_right _ _)))
  have szG16 : G16.size = H0.size + 1343 := by rw [hg16.1, szG15b, Nat.add_assoc]
  refine V.eq (st' := [.ref (H0.size + 1342), .ref o]) (by rw [show G15b.size = H0.size + 1342 from szG15b]) ?_
  refine v_putfF E hini in_X4 tyX4 tyX4_ok nmX4 ho16 (ci := 3) rfl 16 (Nat.le_of_ble_eq_true rfl) q1776 rfl rfl rfl rfl rfl (Nat.le_of_ble_eq_true rfl) hA dX4_init_164 (fun G16b ho16b hs16 => ?_)
  have hob16 : hp κ G16b o (.inr (3, [vi 0, .ref (H0.size + 0), .ref (H0.size + 6), .ref (H0.size + 7), .ref (H0.size + 8), .ref (H0.size + 9), .ref (H0.size + 10), .ref (H0.size + 11), .ref (H0.size + 12), .ref (H0.size + 20), .ref (H0.size + 28), .ref (H0.size + 36), .ref (H0.size + 44), .ref (H0.size + 52), .ref (H0.size + 1333), .ref (H0.size + 1334), .ref (H0.size + 1342), .null, .null, vi 0, .null, .null, .null, .null, .null, .null, vi 0])) := ho16b
  have szG16b : G16b.size = H0.size + 1343 := by rw [hs16.1]; exact szG16
  refine v_aload_n E 0 rfl dX4_init_167 ?_
  refine v_bipush E ⟨by decide, by decide⟩ dX4_init_168 ?_
  refine V.eq (st' := vi ((7 : Nat) : Int) :: [.ref o]) rfl ?_
  refine v_bipush E ⟨by decide, by decide⟩ dX4_init_170 ?_
  refine V.eq (st' := vi ((48 : Nat) : Int) :: vi ((7 : Nat) : Int) :: [.ref o]) rfl ?_
  refine v_multi2 E X9 (n := 7) (k := 48) q1756 q511 (by decide) (by decide) (cb' := 78) (sb' := 3358) (Nat.le_of_ble_eq_true rfl) (Nat.le_of_ble_eq_true rfl) dX4_init_172 (fun q17 G17 e17 hg17 hn17 hi17 => ?_)
  subst e17
  have ho17 := hob16.kept (hg17.2 o (Nat.lt_of_lt_of_le hlt (by rw [szG16b]; exact Nat.le_add_right _ _)))
  have szG17 : G17.size = H0.size + 1351 := by rw [hg17.1, szG16b, Nat.add_assoc]
  refine V.eq (st' := [.ref (H0.size + 1343), .ref o]) (by rw [show G16b.size = H0.size + 1343 from szG16b]) ?_
  refine v_putfF E hini in_X4 tyX4 tyX4_ok nmX4 ho17 (ci := 3) rfl 17 (Nat.le_of_ble_eq_true rfl) q1777 rfl rfl rfl rfl rfl (Nat.le_of_ble_eq_true rfl) hA dX4_init_176 (fun G17b ho17b hs17 => ?_)
  have hob17 : hp κ G17b o (.inr (3, [vi 0, .ref (H0.size + 0), .ref (H0.size + 6), .ref (H0.size + 7), .ref (H0.size + 8), .ref (H0.size + 9), .ref (H0.size + 10), .ref (H0.size + 11), .ref (H0.size + 12), .ref (H0.size + 20), .ref (H0.size + 28), .ref (H0.size + 36), .ref (H0.size + 44), .ref (H0.size + 52), .ref (H0.size + 1333), .ref (H0.size + 1334), .ref (H0.size + 1342), .ref (H0.size + 1343), .null, vi 0, .null, .null, .null, .null, .null, .null, vi 0])) := ho17b
  have szG17b : G17b.size = H0.size + 1351 := by rw [hs17.1]; exact szG17
  refine v_aload_n E 0 rfl dX4_init_179 ?_
  refine v_bipush E ⟨by decide, by decide⟩ dX4_init_180 ?_
  refine V.eq (st' := vi ((8 : Nat) : Int) :: [.ref o]) rfl ?_
  refine v_bipush E ⟨by decide, by decide⟩ dX4_init_182 ?_
  refine V.eq (st' := vi ((7 : Nat) : Int) :: vi ((8 : Nat) : Int) :: [.ref o]) rfl ?_
  refine v_bipush E ⟨by decide, by decide⟩ dX4_init_184 ?_
  refine V.eq (st' := vi ((48 : Nat) : Int) :: vi ((7 : Nat) : Int) :: vi ((8 : Nat) : Int) :: [.ref o]) rfl ?_
  refine v_multi3 E X9 (n := 8) (m := 7) (k := 48) q1758 q511 (by decide) (by decide) (by decide) (cb' := 13) (sb' := 606) (Nat.le_of_ble_eq_true rfl) (Nat.le_of_ble_eq_true rfl) dX4_init_186 (fun q18 G18 e18 hg18 hn18 hi18 hj18 => ?_)
  subst e18
  have ho18 := hob17.kept (hg18.2 o (Nat.lt_of_lt_of_le hlt (by rw [szG17b]; exact Nat.le_add_right _ _)))
  have szG18 : G18.size = H0.size + 1416 := by rw [hg18.1, szG17b, Nat.add_assoc]
  refine V.eq (st' := [.ref (H0.size + 1351), .ref o]) (by rw [show G17b.size = H0.size + 1351 from szG17b]) ?_
  refine v_putfF E hini in_X4 tyX4 tyX4_ok nmX4 ho18 (ci := 3) rfl 18 (Nat.le_of_ble_eq_true rfl) q1778 rfl rfl rfl rfl rfl (Nat.le_of_ble_eq_true rfl) hA dX4_init_190 (fun G18b ho18b hs18 => ?_)
  have hob18 : hp κ G18b o (.inr (3, [vi 0, .ref (H0.size + 0), .ref (H0.size + 6), .ref (H0.size + 7), .ref (H0.size + 8), .ref (H0.size + 9), .ref (H0.size + 10), .ref (H0.size + 11), .ref (H0.size + 12), .ref (H0.size + 20), .ref (H0.size + 28), .ref (H0.size + 36), .ref (H0.size + 44), .ref (H0.size + 52), .ref (H0.size + 1333), .ref (H0.size + 1334), .ref (H0.size + 1342), .ref (H0.size + 1343), .ref (H0.size + 1351), vi 0, .null, .null, .null, .null, .null, .null, vi 0])) := ho18b
  have szG18b : G18b.size = H0.size + 1416 := by rw [hs18.1]; exact szG18
  refine v_aload_n E 0 rfl dX4_init_193 ?_
  refine v_bipush E ⟨by decide, by decide⟩ dX4_init_194 ?_
  refine V.eq (st' := vi ((7 : Nat) : Int) :: [.ref o]) rfl ?_
  refine v_newI E (n := 7) q511 (by decide) rfl (cb' := 12) (sb' := 599) (Nat.le_of_ble_eq_true rfl) (Nat.le_of_ble_eq_true rfl) dX4_init_196 (fun q19 G19 e19 hn19 hg19 => ?_)
  subst e19
  have hg19 : zGroN G18b G19 1 := hg19
  have ho19 := hob18.kept (hg19.2 o (Nat.lt_of_lt_of_le hlt (by rw [szG18b]; exact Nat.le_add_right _ _)))
  have szG19 : G19.size = H0.size + 1417 := by rw [hg19.1, szG18b, Nat.add_assoc]
  refine V.eq (st' := [.ref (H0.size + 1416), .ref o]) (by rw [show G18b.size = H0.size + 1416 from szG18b]) ?_
  refine v_putfF E hini in_X4 tyX4 tyX4_ok nmX4 ho19 (ci := 3) rfl 20 (Nat.le_of_ble_eq_true rfl) q1780 rfl rfl rfl rfl rfl (Nat.le_of_ble_eq_true rfl) hA dX4_init_198 (fun G19b ho19b hs19 => ?_)
  have hob19 : hp κ G19b o (.inr (3, [vi 0, .ref (H0.size + 0), .ref (H0.size + 6), .ref (H0.size + 7), .ref (H0.size + 8), .ref (H0.size + 9), .ref (H0.size + 10), .ref (H0.size + 11), .ref (H0.size + 12), .ref (H0.size + 20), .ref (H0.size + 28), .ref (H0.size + 36), .ref (H0.size + 44), .ref (H0.size + 52), .ref (H0.size + 1333), .ref (H0.size + 1334), .ref (H0.size + 1342), .ref (H0.size + 1343), .ref (H0.size + 1351), vi 0, .ref (H0.size + 1416), .null, .null, .null, .null, .null, vi 0])) := ho19b
  have szG19b : G19b.size = H0.size + 1417 := by rw [hs19.1]; exact szG19
  refine v_aload_n E 0 rfl dX4_init_201 ?_
  refine v_bipush E ⟨by decide, by decide⟩ dX4_init_202 ?_
  refine V.eq (st' := vi ((7 : Nat) : Int) :: [.ref o]) rfl ?_
  refine v_bipush E ⟨by decide, by decide⟩ dX4_init_204 ?_
  refine V.eq (st' := vi ((48 : Nat) : Int) :: vi ((7 : Nat) : Int) :: [.ref o]) rfl ?_
  refine v_multi2 E X9 (n := 7) (k := 48) q1756 q511 (by decide) (by decide) (cb' := 4) (sb' := 256) (Nat.le_of_ble_eq_true rfl) (Nat.le_of_ble_eq_true rfl) dX4_init_206 (fun q20 G20 e20 hg20 hn20 hi20 => ?_)
  subst e20
  have ho20 := hob19.kept (hg20.2 o (Nat.lt_of_lt_of_le hlt (by rw [szG19b]; exact Nat.le_add_right _ _)))
  have szG20 : G20.size = H0.size + 1425 := by rw [hg20.1, szG19b, Nat.add_assoc]
  refine V.eq (st' := [.ref (H0.size + 1417), .ref o]) (by rw [show G19b.size = H0.size + 1417 from szG19b]) ?_
  refine v_putfF E hini in_X4 tyX4 tyX4_ok nmX4 ho20 (ci := 3) rfl 21 (Nat.le_of_ble_eq_true rfl) q1781 rfl rfl rfl rfl rfl (Nat.le_of_ble_eq_true rfl) hA dX4_init_210 (fun G20b ho20b hs20 => ?_)
  have hob20 : hp κ G20b o (.inr (3, [vi 0, .ref (H0.size + 0), .ref (H0.size + 6), .ref (H0.size + 7), .ref (H0.size + 8), .ref (H0.size + 9), .ref (H0.size + 10), .ref (H0.size + 11), .ref (H0.size + 12), .ref (H0.size + 20), .ref (H0.size + 28), .ref (H0.size + 36), .ref (H0.size + 44), .ref (H0.size + 52), .ref (H0.size + 1333), .ref (H0.size + 1334), .ref (H0.size + 1342), .ref (H0.size + 1343), .ref (H0.size + 1351), vi 0, .ref (H0.size + 1416), .ref (H0.size + 1417), .null, .null, .null, .null, vi 0])) := ho20b
  have szG20b : G20b.size = H0.size + 1425 := by rw [hs20.1]; exact szG20
  refine v_aload_n E 0 rfl dX4_init_213 ?_
  refine v_bipush E ⟨by decide, by decide⟩ dX4_init_214 ?_
  refine V.eq (st' := vi ((64 : Nat) : Int) :: [.ref o]) rfl ?_
  refine v_newI E (n := 64) q511 (by decide) rfl (cb' := 3) (sb' := 192) (Nat.le_of_ble_eq_true rfl) (Nat.le_of_ble_eq_true rfl) dX4_init_216 (fun q21 G21 e21 hn21 hg21 => ?_)
  subst e21
  have hg21 : zGroN G20b G21 1 := hg21
  have ho21 := hob20.kept (hg21.2 o (Nat.lt_of_lt_of_le hlt (by rw [szG20b]; exact Nat.le_add_right _ _)))
  have szG21 : G21.size = H0.size + 1426 := by rw [hg21.1, szG20b, Nat.add_assoc]
  refine V.eq (st' := [.ref (H0.size + 1425), .ref o]) (by rw [show G20b.size = H0.size + 1425 from szG20b]) ?_
  refine v_putf E in_X4 tyX4 tyX4_ok nmX4 ho21 (ci := 3) rfl 22 (Nat.le_of_ble_eq_true rfl) q1782 rfl rfl rfl rfl (Nat.le_of_ble_eq_true rfl) hA dX4_init_218 (fun G21b ho21b hs21 => ?_)
  have hob21 : hp κ G21b o (.inr (3, [vi 0, .ref (H0.size + 0), .ref (H0.size + 6), .ref (H0.size + 7), .ref (H0.size + 8), .ref (H0.size + 9), .ref (H0.size + 10), .ref (H0.size + 11), .ref (H0.size + 12), .ref (H0.size + 20), .ref (H0.size + 28), .ref (H0.size + 36), .ref (H0.size + 44), .ref (H0.size + 52), .ref (H0.size + 1333), .ref (H0.size + 1334), .ref (H0.size + 1342), .ref (H0.size + 1343), .ref (H0.size + 1351), vi 0, .ref (H0.size + 1416), .ref (H0.size + 1417), .ref (H0.size + 1425), .null, .null, .null, vi 0])) := ho21b
  have szG21b : G21b.size = H0.size + 1426 := by rw [hs21.1]; exact szG21
  refine v_aload_n E 0 rfl dX4_init_221 ?_
  refine v_bipush E ⟨by decide, by decide⟩ dX4_init_222 ?_
  refine V.eq (st' := vi ((64 : Nat) : Int) :: [.ref o]) rfl ?_
  refine v_newI E (n := 64) q511 (by decide) rfl (cb' := 2) (sb' := 128) (Nat.le_of_ble_eq_true rfl) (Nat.le_of_ble_eq_true rfl) dX4_init_224 (fun q22 G22 e22 hn22 hg22 => ?_)
  subst e22
  have hg22 : zGroN G21b G22 1 := hg22
  have ho22 := hob21.kept (hg22.2 o (Nat.lt_of_lt_of_le hlt (by rw [szG21b]; exact Nat.le_add_right _ _)))
  have szG22 : G22.size = H0.size + 1427 := by rw [hg22.1, szG21b, Nat.add_assoc]
  refine V.eq (st' := [.ref (H0.size + 1426), .ref o]) (by rw [show G21b.size = H0.size + 1426 from szG21b]) ?_
  refine v_putf E in_X4 tyX4 tyX4_ok nmX4 ho22 (ci := 3) rfl 23 (Nat.le_of_ble_eq_true rfl) q1783 rfl rfl rfl rfl (Nat.le_of_ble_eq_true rfl) hA dX4_init_226 (fun G22b ho22b hs22 => ?_)
  have hob22 : hp κ G22b o (.inr (3, [vi 0, .ref (H0.size + 0), .ref (H0.size + 6), .ref (H0.size + 7), .ref (H0.size + 8), .ref (H0.size + 9), .ref (H0.size + 10), .ref (H0.size + 11), .ref (H0.size + 12), .ref (H0.size + 20), .ref (H0.size + 28), .ref (H0.size + 36), .ref (H0.size + 44), .ref (H0.size + 52), .ref (H0.size + 1333), .ref (H0.size + 1334), .ref (H0.size + 1342), .ref (H0.size + 1343), .ref (H0.size + 1351), vi 0, .ref (H0.size + 1416), .ref (H0.size + 1417), .ref (H0.size + 1425), .ref (H0.size + 1426), .null, .null, vi 0])) := ho22b
  have szG22b : G22b.size = H0.size + 1427 := by rw [hs22.1]; exact szG22
  refine v_aload_n E 0 rfl dX4_init_229 ?_
  refine v_bipush E ⟨by decide, by decide⟩ dX4_init_230 ?_
  refine V.eq (st' := vi ((64 : Nat) : Int) :: [.ref o]) rfl ?_
  refine v_newI E (n := 64) q511 (by decide) rfl (cb' := 1) (sb' := 64) (Nat.le_of_ble_eq_true rfl) (Nat.le_of_ble_eq_true rfl) dX4_init_232 (fun q23 G23 e23 hn23 hg23 => ?_)
  subst e23
  have hg23 : zGroN G22b G23 1 := hg23
  have ho23 := hob22.kept (hg23.2 o (Nat.lt_of_lt_of_le hlt (by rw [szG22b]; exact Nat.le_add_right _ _)))
  have szG23 : G23.size = H0.size + 1428 := by rw [hg23.1, szG22b, Nat.add_assoc]
  refine V.eq (st' := [.ref (H0.size + 1427), .ref o]) (by rw [show G22b.size = H0.size + 1427 from szG22b]) ?_
  refine v_putf E in_X4 tyX4 tyX4_ok nmX4 ho23 (ci := 3) rfl 24 (Nat.le_of_ble_eq_true rfl) q1784 rfl rfl rfl rfl (Nat.le_of_ble_eq_true rfl) hA dX4_init_234 (fun G23b ho23b hs23 => ?_)
  have hob23 : hp κ G23b o (.inr (3, [vi 0, .ref (H0.size + 0), .ref (H0.size + 6), .ref (H0.size + 7), .ref (H0.size + 8), .ref (H0.size + 9), .ref (H0.size + 10), .ref (H0.size + 11), .ref (H0.size + 12), .ref (H0.size + 20), .ref (H0.size + 28), .ref (H0.size + 36), .ref (H0.size + 44), .ref (H0.size + 52), .ref (H0.size + 1333), .ref (H0.size + 1334), .ref (H0.size + 1342), .ref (H0.size + 1343), .ref (H0.size + 1351), vi 0, .ref (H0.size + 1416), .ref (H0.size + 1417), .ref (H0.size + 1425), .ref (H0.size + 1426), .ref (H0.size + 1427), .null, vi 0])) := ho23b
  have szG23b : G23b.size = H0.size + 1428 := by rw [hs23.1]; exact szG23
  refine v_aload_n E 0 rfl dX4_init_237 ?_
  refine v_bipush E ⟨by decide, by decide⟩ dX4_init_238 ?_
  refine V.eq (st' := vi ((64 : Nat) : Int) :: [.ref o]) rfl ?_
  refine v_newI E (n := 64) q511 (by decide) rfl (cb' := 0) (sb' := 0) (Nat.le_of_ble_eq_true rfl) (Nat.le_of_ble_eq_true rfl) dX4_init_240 (fun q24 G24 e24 hn24 hg24 => ?_)
  subst e24
  have hg24 : zGroN G23b G24 1 := hg24
  have ho24 := hob23.kept (hg24.2 o (Nat.lt_of_lt_of_le hlt (by rw [szG23b]; exact Nat.le_add_right _ _)))
  have szG24 : G24.size = H0.size + 1429 := by rw [hg24.1, szG23b, Nat.add_assoc]
  refine V.eq (st' := [.ref (H0.size + 1428), .ref o]) (by rw [show G23b.size = H0.size + 1428 from szG23b]) ?_
  refine v_putf E in_X4 tyX4 tyX4_ok nmX4 ho24 (ci := 3) rfl 25 (Nat.le_of_ble_eq_true rfl) q1785 rfl rfl rfl rfl (Nat.le_of_ble_eq_true rfl) hA dX4_init_242 (fun G24b ho24b hs24 => ?_)
  have hob24 : hp κ G24b o (.inr (3, [vi 0, .ref (H0.size + 0), .ref (H0.size + 6), .ref (H0.size + 7), .ref (H0.size + 8), .ref (H0.size + 9), .ref (H0.size + 10), .ref (H0.size + 11), .ref (H0.size + 12), .ref (H0.size + 20), .ref (H0.size + 28), .ref (H0.size + 36), .ref (H0.size + 44), .ref (H0.size + 52), .ref (H0.size + 1333), .ref (H0.size + 1334), .ref (H0.size + 1342), .ref (H0.size + 1343), .ref (H0.size + 1351), vi 0, .ref (H0.size + 1416), .ref (H0.size + 1417), .ref (H0.size + 1425), .ref (H0.size + 1426), .ref (H0.size + 1427), .ref (H0.size + 1428), vi 0])) := ho24b
  have szG24b : G24b.size = H0.size + 1429 := by rw [hs24.1]; exact szG24
  have kpG24b : ∀ q : Nat, q < G24b.size → q ≠ o → G24b[q]? = G24b[q]? := fun _ _ _ => rfl
  have kpG24 : ∀ q : Nat, q < G24.size → q ≠ o → G24b[q]? = G24[q]? := fun q h hn => (kpG24b q (by rw [hs24.1]; exact h) hn).trans (hs24.2 q hn)
  have kpG23b : ∀ q : Nat, q < G23b.size → q ≠ o → G24b[q]? = G23b[q]? := fun q h hn => (kpG24 q (Nat.lt_of_lt_of_le h (by rw [hg24.1]; exact Nat.le_add_right _ _)) hn).trans (hg24.2 q h)
  have kpG23 : ∀ q : Nat, q < G23.size → q ≠ o → G24b[q]? = G23[q]? := fun q h hn => (kpG23b q (by rw [hs23.1]; exact h) hn).trans (hs23.2 q hn)
  have kpG22b : ∀ q : Nat, q < G22b.size → q ≠ o → G24b[q]? = G22b[q]? := fun q h hn => (kpG23 q (Nat.lt_of_lt_of_le h (by rw [hg23.1]; exact Nat.le_add_right _ _)) hn).trans (hg23.2 q h)
  have kpG22 : ∀ q : Nat, q < G22.size → q ≠ o → G24b[q]? = G22[q]? := fun q h hn => (kpG22b q (by rw [hs22.1]; exact h) hn).trans (hs22.2 q hn)
  have kpG21b : ∀ q : Nat, q < G21b.size → q ≠ o → G24b[q]? = G21b[q]? := fun q h hn => (kpG22 q (Nat.lt_of_lt_of_le h (by rw [hg22.1]; exact Nat.le_add_right _ _)) hn).trans (hg22.2 q h)
  have kpG21 : ∀ q : Nat, q < G21.size → q ≠ o → G24b[q]? = G21[q]? := fun q h hn => (kpG21b q (by rw [hs21.1]; exact h) hn).trans (hs21.2 q hn)
  have kpG20b : ∀ q : Nat, q < G20b.size → q ≠ o → G24b[q]? = G20b[q]? := fun q h hn => (kpG21 q (Nat.lt_of_lt_of_le h (by rw [hg21.1]; exact Nat.le_add_right _ _)) hn).trans (hg21.2 q h)
  have kpG20 : ∀ q : Nat, q < G20.size → q ≠ o → G24b[q]? = G20[q]? := fun q h hn => (kpG20b q (by rw [hs20.1]; exact h) hn).trans (hs20.2 q hn)
  have kpG19b : ∀ q : Nat, q < G19b.size → q ≠ o → G24b[q]? = G19b[q]? := fun q h hn => (kpG20 q (Nat.lt_of_lt_of_le h (by rw [hg20.1]; exact Nat.le_add_right _ _)) hn).trans (hg20.2 q h)
  have kpG19 : ∀ q : Nat, q < G19.size → q ≠ o → G24b[q]? = G19[q]? := fun q h hn => (kpG19b q (by rw [hs19.1]; exact h) hn).trans (hs19.2 q hn)
  have kpG18b : ∀ q : Nat, q < G18b.size → q ≠ o → G24b[q]? = G18b[q]? := fun q h hn => (kpG19 q (Nat.lt_of_lt_of_le h (by rw [hg19.1]; exact Nat.le_add_right _ _)) hn).trans (hg19.2 q h)
  have kpG18 : ∀ q : Nat, q < G18.size → q ≠ o → G24b[q]? = G18[q]? := fun q h hn => (kpG18b q (by rw [hs18.1]; exact h) hn).trans (hs18.2 q hn)
  have kpG17b : ∀ q : Nat, q < G17b.size → q ≠ o → G24b[q]? = G17b[q]? := fun q h hn => (kpG18 q (Nat.lt_of_lt_of_le h (by rw [hg18.1]; exact Nat.le_add_right _ _)) hn).trans (hg18.2 q h)
  have kpG17 : ∀ q : Nat, q < G17.size → q ≠ o → G24b[q]? = G17[q]? := fun q h hn => (kpG17b q (by rw [hs17.1]; exact h) hn).trans (hs17.2 q hn)
  have kpG16b : ∀ q : Nat, q < G16b.size → q ≠ o → G24b[q]? = G16b[q]? := fun q h hn => (kpG17 q (Nat.lt_of_lt_of_le h (by rw [hg17.1]; exact Nat.le_add_right _ _)) hn).trans (hg17.2 q h)
  have kpG16 : ∀ q : Nat, q < G16.size → q ≠ o → G24b[q]? = G16[q]? := fun q h hn => (kpG16b q (by rw [hs16.1]; exact h) hn).trans (hs16.2 q hn)
  have kpG15b : ∀ q : Nat, q < G15b.size → q ≠ o → G24b[q]? = G15b[q]? := fun q h hn => (kpG16 q (Nat.lt_of_lt_of_le h (by rw [hg16.1]; exact Nat.le_add_right _ _)) hn).trans (hg16.2 q h)
  have kpG15 : ∀ q : Nat, q < G15.size → q ≠ o → G24b[q]? = G15[q]? := fun q h hn => (kpG15b q (by rw [hs15.1]; exact h) hn).trans (hs15.2 q hn)
  have kpG14b : ∀ q : Nat, q < G14b.size → q ≠ o → G24b[q]? = G14b[q]? := fun q h hn => (kpG15 q (Nat.lt_of_lt_of_le h (by rw [hg15.1]; exact Nat.le_add_right _ _)) hn).trans (hg15.2 q h)
  have kpG14 : ∀ q : Nat, q < G14.size → q ≠ o → G24b[q]? = G14[q]? := fun q h hn => (kpG14b q (by rw [hs14.1]; exact h) hn).trans (hs14.2 q hn)
  have kpG13b : ∀ q : Nat, q < G13b.size → q ≠ o → G24b[q]? = G13b[q]? := fun q h hn => (kpG14 q (Nat.lt_of_lt_of_le h (by rw [hg14.1]; exact Nat.le_add_right _ _)) hn).trans (hg14.2 q h)
  have kpG13 : ∀ q : Nat, q < G13.size → q ≠ o → G24b[q]? = G13[q]? := fun q h hn => (kpG13b q (by rw [hs13.1]; exact h) hn).trans (hs13.2 q hn)
  have kpG12b : ∀ q : Nat, q < G12b.size → q ≠ o → G24b[q]? = G12b[q]? := fun q h hn => (kpG13 q (Nat.lt_of_lt_of_le h (by rw [hg13.1]; exact Nat.le_add_right _ _)) hn).trans (hg13.2 q h)
  have kpG12 : ∀ q : Nat, q < G12.size → q ≠ o → G24b[q]? = G12[q]? := fun q h hn => (kpG12b q (by rw [hs12.1]; exact h) hn).trans (hs12.2 q hn)
  have kpG11b : ∀ q : Nat, q < G11b.size → q ≠ o → G24b[q]? = G11b[q]? := fun q h hn => (kpG12 q (Nat.lt_of_lt_of_le h (by rw [hg12.1]; exact Nat.le_add_right _ _)) hn).trans (hg12.2 q h)
  have kpG11 : ∀ q : Nat, q < G11.size → q ≠ o → G24b[q]? = G11[q]? := fun q h hn => (kpG11b q (by rw [hs11.1]; exact h) hn).trans (hs11.2 q hn)
  have kpG10b : ∀ q : Nat, q < G10b.size → q ≠ o → G24b[q]? = G10b[q]? := fun q h hn => (kpG11 q (Nat.lt_of_lt_of_le h (by rw [hg11.1]; exact Nat.le_add_right _ _)) hn).trans (hg11.2 q h)
  have kpG10 : ∀ q : Nat, q < G10.size → q ≠ o → G24b[q]? = G10[q]? := fun q h hn => (kpG10b q (by rw [hs10.1]; exact h) hn).trans (hs10.2 q hn)
  have kpG9b : ∀ q : Nat, q < G9b.size → q ≠ o → G24b[q]? = G9b[q]? := fun q h hn => (kpG10 q (Nat.lt_of_lt_of_le h (by rw [hg10.1]; exact Nat.le_add_right _ _)) hn).trans (hg10.2 q h)
  have kpG9 : ∀ q : Nat, q < G9.size → q ≠ o → G24b[q]? = G9[q]? := fun q h hn => (kpG9b q (by rw [hs9.1]; exact h) hn).trans (hs9.2 q hn)
  have kpG8b : ∀ q : Nat, q < G8b.size → q ≠ o → G24b[q]? = G8b[q]? := fun q h hn => (kpG9 q (Nat.lt_of_lt_of_le h (by rw [hg9.1]; exact Nat.le_add_right _ _)) hn).trans (hg9.2 q h)
  have kpG8 : ∀ q : Nat, q < G8.size → q ≠ o → G24b[q]? = G8[q]? := fun q h hn => (kpG8b q (by rw [hs8.1]; exact h) hn).trans (hs8.2 q hn)
  have kpG7b : ∀ q : Nat, q < G7b.size → q ≠ o → G24b[q]? = G7b[q]? := fun q h hn => (kpG8 q (Nat.lt_of_lt_of_le h (by rw [hg8.1]; exact Nat.le_add_right _ _)) hn).trans (hg8.2 q h)
  have kpG7 : ∀ q : Nat, q < G7.size → q ≠ o → G24b[q]? = G7[q]? := fun q h hn => (kpG7b q (by rw [hs7.1]; exact h) hn).trans (hs7.2 q hn)
  have kpG6b : ∀ q : Nat, q < G6b.size → q ≠ o → G24b[q]? = G6b[q]? := fun q h hn => (kpG7 q (Nat.lt_of_lt_of_le h (by rw [hg7.1]; exact Nat.le_add_right _ _)) hn).trans (hg7.2 q h)
  have kpG6 : ∀ q : Nat, q < G6.size → q ≠ o → G24b[q]? = G6[q]? := fun q h hn => (kpG6b q (by rw [hs6.1]; exact h) hn).trans (hs6.2 q hn)
  have kpG5b : ∀ q : Nat, q < G5b.size → q ≠ o → G24b[q]? = G5b[q]? := fun q h hn => (kpG6 q (Nat.lt_of_lt_of_le h (by rw [hg6.1]; exact Nat.le_add_right _ _)) hn).trans (hg6.2 q h)
  have kpG5 : ∀ q : Nat, q < G5.size → q ≠ o → G24b[q]? = G5[q]? := fun q h hn => (kpG5b q (by rw [hs5.1]; exact h) hn).trans (hs5.2 q hn)
  have kpG4b : ∀ q : Nat, q < G4b.size → q ≠ o → G24b[q]? = G4b[q]? := fun q h hn => (kpG5 q (Nat.lt_of_lt_of_le h (by rw [hg5.1]; exact Nat.le_add_right _ _)) hn).trans (hg5.2 q h)
  have kpG4 : ∀ q : Nat, q < G4.size → q ≠ o → G24b[q]? = G4[q]? := fun q h hn => (kpG4b q (by rw [hs4.1]; exact h) hn).trans (hs4.2 q hn)
  have kpG3b : ∀ q : Nat, q < G3b.size → q ≠ o → G24b[q]? = G3b[q]? := fun q h hn => (kpG4 q (Nat.lt_of_lt_of_le h (by rw [hg4.1]; exact Nat.le_add_right _ _)) hn).trans (hg4.2 q h)
  have kpG3 : ∀ q : Nat, q < G3.size → q ≠ o → G24b[q]? = G3[q]? := fun q h hn => (kpG3b q (by rw [hs3.1]; exact h) hn).trans (hs3.2 q hn)
  have kpG2b : ∀ q : Nat, q < G2b.size → q ≠ o → G24b[q]? = G2b[q]? := fun q h hn => (kpG3 q (Nat.lt_of_lt_of_le h (by rw [hg3.1]; exact Nat.le_add_right _ _)) hn).trans (hg3.2 q h)
  have kpG2 : ∀ q : Nat, q < G2.size → q ≠ o → G24b[q]? = G2[q]? := fun q h hn => (kpG2b q (by rw [hs2.1]; exact h) hn).trans (hs2.2 q hn)
  have kpG1b : ∀ q : Nat, q < G1b.size → q ≠ o → G24b[q]? = G1b[q]? := fun q h hn => (kpG2 q (Nat.lt_of_lt_of_le h (by rw [hg2.1]; exact Nat.le_add_right _ _)) hn).trans (hg2.2 q h)
  have kpG1 : ∀ q : Nat, q < G1.size → q ≠ o → G24b[q]? = G1[q]? := fun q h hn => (kpG1b q (by rw [hs1.1]; exact h) hn).trans (hs1.2 q hn)
  have kpH0 : ∀ q : Nat, q < H0.size → q ≠ o → G24b[q]? = H0[q]? := fun q h hn => (kpG1 q (Nat.lt_of_lt_of_le h (by rw [hg1.1]; exact Nat.le_add_right _ _)) hn).trans (hg1.2 q h)
  have hn1 : hp κ G1 (H0.size + 0) (eR κ 3 5 (fun j => some (H0.size + 0 + 1 + j))) := hn1
  have hi1 : ∀ j, j < 5 → hp κ G1 (H0.size + 0 + 1 + j) (eI κ 7 (fun _ => 0)) := hi1
  have fn1 := hn1.kept (kpG1 _ hn1.lt (hne1 _))
  have fi1 := fun j hj => (hi1 j hj).kept (kpG1 _ (hi1 j hj).lt (hne3 _ _ _))
  rw [szG1b] at hn2
  have fn2 := hn2.kept (kpG2 _ hn2.lt (hne1 _))
  rw [szG2b] at hn3
  have fn3 := hn3.kept (kpG3 _ hn3.lt (hne1 _))
  rw [szG3b] at hn4
  have fn4 := hn4.kept (kpG4 _ hn4.lt (hne1 _))
  rw [szG4b] at hn5
  have fn5 := hn5.kept (kpG5 _ hn5.lt (hne1 _))
  rw [szG5b] at hn6
  have fn6 := hn6.kept (kpG6 _ hn6.lt (hne1 _))
  rw [szG6b] at hn7
  have fn7 := hn7.kept (kpG7 _ hn7.lt (hne1 _))
  rw [szG7b] at hn8 hi8
  have fn8 := hn8.kept (kpG8 _ hn8.lt (hne1 _))
  have fi8 := fun j hj => (hi8 j hj).kept (kpG8 _ (hi8 j hj).lt (hne3 _ _ _))
  rw [szG8b] at hn9 hi9
  have fn9 := hn9.kept (kpG9 _ hn9.lt (hne1 _))
  have fi9 := fun j hj => (hi9 j hj).kept (kpG9 _ (hi9 j hj).lt (hne3 _ _ _))
  rw [szG9b] at hn10 hi10
  have fn10 := hn10.kept (kpG10 _ hn10.lt (hne1 _))
  have fi10 := fun j hj => (hi10 j hj).kept (kpG10 _ (hi10 j hj).lt (hne3 _ _ _))
  rw [szG10b] at hn11 hi11
  have fn11 := hn11.kept (kpG11 _ hn11.lt (hne1 _))
  have fi11 := fun j hj => (hi11 j hj).kept (kpG11 _ (hi11 j hj).lt (hne3 _ _ _))
  rw [szG11b] at hn12 hi12
  have fn12 := hn12.kept (kpG12 _ hn12.lt (hne1 _))
  have fi12 := fun j hj => (hi12 j hj).kept (kpG12 _ (hi12 j hj).lt (hne3 _ _ _))
  rw [szG12b] at hn13 hi13 hj13
  have fn13 := hn13.kept (kpG13 _ hn13.lt (hne1 _))
  have fi13 := fun j hj => (hi13 j hj).kept (kpG13 _ (hi13 j hj).lt (hne3 _ _ _))
  have fj13 := fun j hj r hr => (hj13 j hj r hr).kept (kpG13 _ (hj13 j hj r hr).lt (hne5 _ _ _ _ _))
  rw [szG13b] at hn14
  have fn14 := hn14.kept (kpG14 _ hn14.lt (hne1 _))
  rw [szG14b] at hn15 hi15
  have fn15 := hn15.kept (kpG15 _ hn15.lt (hne1 _))
  have fi15 := fun j hj => (hi15 j hj).kept (kpG15 _ (hi15 j hj).lt (hne3 _ _ _))
  rw [szG15b] at hn16
  have fn16 := hn16.kept (kpG16 _ hn16.lt (hne1 _))
  rw [szG16b] at hn17 hi17
  have fn17 := hn17.kept (kpG17 _ hn17.lt (hne1 _))
  have fi17 := fun j hj => (hi17 j hj).kept (kpG17 _ (hi17 j hj).lt (hne3 _ _ _))
  rw [szG17b] at hn18 hi18 hj18
  have fn18 := hn18.kept (kpG18 _ hn18.lt (hne1 _))
  have fi18 := fun j hj => (hi18 j hj).kept (kpG18 _ (hi18 j hj).lt (hne3 _ _ _))
  have fj18 := fun j hj r hr => (hj18 j hj r hr).kept (kpG18 _ (hj18 j hj r hr).lt (hne5 _ _ _ _ _))
  rw [szG18b] at hn19
  have fn19 := hn19.kept (kpG19 _ hn19.lt (hne1 _))
  rw [szG19b] at hn20 hi20
  have fn20 := hn20.kept (kpG20 _ hn20.lt (hne1 _))
  have fi20 := fun j hj => (hi20 j hj).kept (kpG20 _ (hi20 j hj).lt (hne3 _ _ _))
  rw [szG20b] at hn21
  have fn21 := hn21.kept (kpG21 _ hn21.lt (hne1 _))
  rw [szG21b] at hn22
  have fn22 := hn22.kept (kpG22 _ hn22.lt (hne1 _))
  rw [szG22b] at hn23
  have fn23 := hn23.kept (kpG23 _ hn23.lt (hne1 _))
  rw [szG23b] at hn24
  have fn24 := hn24.kept (kpG24 _ hn24.lt (hne1 _))
  exact v_vret E hE dX4_init_245 ⟨rfl, szG24b, init_post hlt hob24 fn1 fi1 fn2 fn3 fn4 fn5 fn6 fn7 fn8 fi8 fn9 fi9 fn10 fi10 fn11 fi11 fn12 fi12 fn13 fi13 fj13 fn14 fn15 fi15 fn16 fn17 fi17 fn18 fi18 fj18 fn19 fn20 fi20 fn21 fn22 fn23 fn24⟩
