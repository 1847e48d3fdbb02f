/-! BIG INTEGERS: arrays of ints, sums and differences -/
/-- small enough for 48 ints; out of omega's sight -/
def sB (X : Int) : Prop := X < 2 ^ 1536
/-- an array of n ints, highest first -/
def bM (X : Int) (n : Nat) : Nat → Int := fun k => dg X (n - 1 - k)
theorem hi_s {f : Nat → Int} {Z : Int} {n k j0 : Nat} (hj : j0 = n - (k + 1)) (hk : k < n) (h : ∀ j, j < n → n - k ≤ j → f j = bM Z n j) : ∀ j, j < n → n - (k + 1) ≤ j → va_up f j0 (dg Z k) j = bM Z n j := by
  intro j h1 h2
  subst hj
  by_cases e : j = n - (k + 1)
  · subst e
    rw [va_up_self]
    unfold bM
    rw [show n - 1 - (n - (k + 1)) = k by omega]
  · rw [va_up_ne _ _ e]
    exact h j h1 (by omega)
theorem bM_at {X : Int} {n k j0 : Nat} (hj : j0 = n - (k + 1)) (hk : k < n) : bM X n j0 = dg X k := by
  unfold bM
  rw [show n - 1 - j0 = k by omega]
theorem bM_in (X : Int) (n k : Nat) : 0 ≤ bM X n k ∧ bM X n k < 4294967296 := dg_in _ _
theorem cy_hi {X Y : Int} {n : Nat} (hX : 0 ≤ X ∧ X < 2 ^ (32 * n)) (hY : 0 ≤ Y ∧ Y < 2 ^ (32 * n)) : cy X Y n = (X + Y) / 2 ^ (32 * n) := by
  unfold cy
  rw [Int.emod_eq_of_lt hX.1 hX.2, Int.emod_eq_of_lt hY.1 hY.2]
theorem lt_pw {X : Int} {n m : Nat} (h : X < 2 ^ (32 * n)) (hm : n ≤ m) : X < 2 ^ (32 * m) := Int.lt_of_lt_of_le h (pw_mono (by omega))
theorem add_fin0 {X Y : Int} {n m : Nat} (hX : 0 ≤ X) (hY : 0 ≤ Y) (hn : isInts X n) (hm : isInts Y m) (hmn : m ≤ n) (h : cy X Y n = 0) : isInts (X + Y) n := by
  rw [cy_hi ⟨hX, hn.2.1⟩ ⟨hY, lt_pw hm.2.1 hmn⟩] at h
  have h9 := p2 (32 * n)
  have h8 := Int.mul_ediv_add_emod (X + Y) (2 ^ (32 * n))
  have h7 := Int.emod_lt_of_pos (X + Y) h9
  rw [h, Int.mul_zero, Int.zero_add] at h8
  exact ⟨hn.1, by omega, fun h0 => by have := hn.2.2 h0; omega⟩
theorem add_fin1 {X Y : Int} {n m : Nat} (hX : 0 ≤ X) (hY : 0 ≤ Y) (hn : isInts X n) (hm : isInts Y m) (hmn : m ≤ n) (hs : X + Y < 2 ^ 1536) (h : cy X Y n = 1) : isInts (X + Y) (n + 1) ∧ dg (X + Y) n = 1 := by
  have h1 := h
  rw [cy_hi ⟨hX, hn.2.1⟩ ⟨hY, lt_pw hm.2.1 hmn⟩] at h
  have h9 := p2 (32 * n)
  have h8 := Int.mul_ediv_add_emod (X + Y) (2 ^ (32 * n))
  have h6 := Int.emod_nonneg (X + Y) (Int.ne_of_gt h9)
  rw [h, Int.mul_one] at h8
  have h5 : (2 : Int) ^ (32 * n) ≤ X + Y := by omega
  have h4 : X + Y < 2 ^ (32 * (n + 1)) := by
    have := hn.2.1
    have := lt_pw hm.2.1 hmn
    rw [p32]
    omega
  refine ⟨⟨?_, h4, fun _ => h5⟩, ?_⟩
  · have := pw_lt (show (2 : Int) ^ (32 * n) < 2 ^ (32 * 48) by omega)
    omega
  · rw [dg_top_ne (by omega) h4]; exact h
theorem cy_top {X Y : Int} {m k : Nat} (hY : 0 ≤ Y ∧ Y < 2 ^ (32 * m)) (hk : m ≤ k) : cy X Y (k + 1) = (cy X Y k + dg X k) / 4294967296 ∧ dg (X + Y) k = (cy X Y k + dg X k) % 4294967296 := by
  rw [cy_s, dg_add, dg_hi hY.1 hY.2 hk, Int.add_zero]
  exact ⟨rfl, rfl⟩
theorem bw_top {X Y : Int} {m k : Nat} (hY : 0 ≤ Y ∧ Y < 2 ^ (32 * m)) (hk : m ≤ k) : bw X Y (k + 1) = (bw X Y k + dg X k) / 4294967296 ∧ dg (X - Y) k = (bw X Y k + dg X k) % 4294967296 := by
  rw [bw_s, dg_sub, dg_hi hY.1 hY.2 hk, Int.sub_zero]
  exact ⟨rfl, rfl⟩
theorem bg_fin {f : Nat → Int} {Z : Int} {n : Nat} (hf : ∀ j, j < n → n - n ≤ j → f j = bM Z n j) (h1 : dg Z n = 1) : ∀ k, k < n + 1 → iZ (va_up (va_cpy f (fun _ => 0) 0 1 n) 0 1 k) = iZ (bM Z (n + 1) k) := by
  intro k hk
  by_cases e : k = 0
  · subst e
    rw [va_up_self]
    unfold bM
    rw [show n + 1 - 1 - 0 = n by omega, h1]
  · rw [va_up_ne _ _ e, pk_cpy_in (by omega) (by omega), hf _ (by omega) (by omega)]
    unfold bM
    rw [show n - 1 - (0 + (k - 1)) = n + 1 - 1 - k by omega]
theorem strip_fin {Z : Int} {n k : Nat} (h0 : 0 ≤ Z) (h : Z < 2 ^ (32 * n)) (hZ : Z < 2 ^ 1536) (hk : k ≤ n) (hz : ∀ j, j < k → bM Z n j = 0) (hd : k < n → bM Z n k ≠ 0) : isInts Z (n - k) := by
  have h1 : Z < 2 ^ (32 * (n - k)) := by
    clear hd
    induction k with
    | zero => exact h
    | succ k ih =>
      have h2 := ih (by omega) (fun j hj => hz j (by omega))
      have h3 := hz k (by omega)
      unfold bM at h3
      exact dg_top h0 (by rw [show n - (k + 1) + 1 = n - k by omega]; exact h2) (by rw [show n - (k + 1) = n - 1 - k by omega]; exact h3)
  have h4 : 0 < n - k → 2 ^ (32 * (n - k - 1)) ≤ Z := by
    intro hp
    have := hd (by omega)
    unfold bM at this
    rw [show n - k - 1 = n - 1 - k by omega]
    exact top_ge h0 this
  refine ⟨?_, h1, h4⟩
  rcases Nat.eq_zero_or_pos (n - k) with e | e
  · omega
  · have := pw_lt (Int.lt_of_le_of_lt (h4 e) (show Z < 2 ^ (32 * 48) from hZ))
    omega
set_option maxHeartbeats 400000 in
set_option maxRecDepth 100000 in
theorem g_ckL (κ : zK) (H0 : Heap) {i j : Nat} (h : i ≤ j) (hj : j ≤ 1000) : Mt κ yJ7_checkLength cJ7_checkLength 2 (none) 0 0 0 0 H0 [vi (i : Int), vi (j : Int)] (fun _ => False) (fun v H1 => v = none) := by
  refine Mt.of (by decide) (Nat.le_of_ble_eq_true rfl) ?_
  intro z E hE hH0 hA0 hL hini
  have hAll : ∀ q, (fun _ => False) q → zA z.A z.H0 q := fun q h => Or.inl (by rw [hA0]; exact h)
  have hNew : ∀ q, H0.size ≤ q → zA z.A z.H0 q := fun q h => Or.inr (by rw [hH0]; exact h)
  have E : zOK z cJ7_checkLength RJ7 κ 0 0 (none) := E
  refine V.eqL (lv' := [(0, vi (i : Int)), (1, vi (j : Int))]) rfl ?_
  refine v_iload_n E 1 rfl dJ7_checkLength_0 ?_
  refine v_iload_n E 0 rfl dJ7_checkLength_1 ?_
  refine v_icmp_ge E (tgt := 37) dJ7_checkLength_2 (by decide) ⟨by omega, by omega⟩ ⟨by omega, by omega⟩ (fun c_2 => ?_) (fun c_2 => absurd c_2 (by omega))
  refine v_vret E hE dJ7_checkLength_37 ?_
  rfl

set_option maxHeartbeats 400000 in
set_option maxRecDepth 100000 in
/-- copyOfRangeInt -/
theorem g_cprI (κ : zK) (H0 : Heap) {a n i w : Nat} {f : Nat → Int} (hw : i + w ≤ n) (hn : n ≤ 1000) (ha : hp κ H0 a (eI κ n f)) : Mt κ yJ7_copyOfRangeInt cJ7_copyOfRangeInt 5 (some (.array .int)) 1 27 1 w H0 [.ref a, vi (i : Int), vi ((i + w : Nat) : Int)] (fun _ => False) (fun v H1 => ∃ q : Nat, v = some (.ref q) ∧ H0.size ≤ q ∧ hp κ H1 q (eI κ w (fun k => f (i + k)))) := by
  refine Mt.of (by decide) (Nat.le_of_ble_eq_true rfl) ?_
  intro z E hE hH0 hA0 hL hini
  have hAll : ∀ q, (fun _ => False) q → zA z.A z.H0 q := fun q h => Or.inl (by rw [hA0]; exact h)
  have hNew : ∀ q, H0.size ≤ q → zA z.A z.H0 q := fun q h => Or.inr (by rw [hH0]; exact h)
  have E : zOK z cJ7_copyOfRangeInt RJ7 κ 1 27 (some (.array .int)) := E
  refine V.eqL (lv' := [(0, .ref a), (1, vi (i : Int)), (2, vi ((i + w : Nat) : Int))]) rfl ?_
  refine v_iload_n E 1 rfl dJ7_copyOfRangeInt_0 ?_
  refine v_iload_n E 2 rfl dJ7_copyOfRangeInt_1 ?_
  refine v_callS E (As := [vi (i : Int), vi ((i + w : Nat) : Int)]) (g_ckL κ H0 (i := i) (j := i + w) (by omega) (by omega)) (lw_S q724 q725 q81 q726) 2 (by decide +kernel) rfl (by decide) (by decide) (cb' := (1 - 0)) (sb' := (w - 0)) (by omega) (by omega) rfl (rest := []) (Nat.le_of_ble_eq_true rfl) (fun q h => h.elim) dJ7_copyOfRangeInt_2 (fun v_1 H_2 hpost_3 hz_4 hk_5 => ?_)
  clear hz_4
  obtain rfl := hpost_3
  have ha_6 := ha.kept (hk_5 _ ha.lt (fun h => h))
  refine V.eq (st' := []) rfl ?_
  refine v_iload_n E 2 rfl dJ7_copyOfRangeInt_5 ?_
  refine v_iload_n E 1 rfl dJ7_copyOfRangeInt_6 ?_
  refine v_isub E dJ7_copyOfRangeInt_7 ?_
  refine v_istore_n E dJ7_copyOfRangeInt_8 (zlt hL rfl) (lv' := [(3, vi (((i + w : Nat) : Int) - (i : Int))), (0, .ref a), (1, vi (i : Int)), (2, vi ((i + w : Nat) : Int))]) rfl ?_
  refine v_iload_n E 0 rfl dJ7_copyOfRangeInt_9 ?_
  refine V.frame (fun hfz_fr_7 hfk_fr_7 => ?_)
  rw [hH0] at hfz_fr_7 hfk_fr_7
  rw [hA0] at hfk_fr_7
  refine v_newI E (n := w) q511 (by omega) (by omega) (cb' := ((1 - 0) - 1)) (sb' := ((w - 0) - w)) (by omega) (by omega) dJ7_copyOfRangeInt_10 (fun q_8 H_9 hq_12 hn_10 hg_11 => ?_)
  have hne_a_q_8 : a ≠ q_8 := by have := ha_6.lt; omega
  have ha_14 := ha_6.grow hg_11
  refine v_astore E dJ7_copyOfRangeInt_12 (zlt hL rfl) (lv' := [(4, .ref q_8), (3, vi (((i + w : Nat) : Int) - (i : Int))), (0, .ref a), (1, vi (i : Int)), (2, vi ((i + w : Nat) : Int))]) rfl ?_
  refine v_aload_n E 2 rfl dJ7_copyOfRangeInt_14 ?_
  refine v_iload_n E 3 rfl dJ7_copyOfRangeInt_15 ?_
  refine v_aload E 0 rfl dJ7_copyOfRangeInt_16 ?_
  refine v_iconst E dJ7_copyOfRangeInt_18 ?_
  refine v_aload_n E 2 rfl dJ7_copyOfRangeInt_19 ?_
  refine v_alen E dJ7_copyOfRangeInt_20 (t := 0) (ty := .int) ha_14 rfl ?_
  refine v_iload_n E 3 rfl dJ7_copyOfRangeInt_21 ?_
  refine v_isub E dJ7_copyOfRangeInt_22 ?_
  refine v_iload_n E 1 rfl dJ7_copyOfRangeInt_23 ?_
  refine v_mmin E ⟨by omega, by omega⟩ ⟨by omega, by omega⟩ q266 q267 q80 q268 (by decide) (Nat.le_of_ble_eq_true rfl) dJ7_copyOfRangeInt_24 ?_
  refine v_copyI E (n0 := n) (n1 := w) ha_14 hn_10 q269 q184 q183 q78 (sp := i) (dp := 0) (w := w) (by omega) (by omega) (by omega) (by omega) (hNew _ (by omega)) (by decide) (Nat.le_of_ble_eq_true rfl) (by omega) (by omega) (by omega) dJ7_copyOfRangeInt_27 (fun H_17 hv_15 hs_16 => ?_)
  have ha_18 := ha_14.same hs_16 hne_a_q_8
  refine v_aload E 0 rfl dJ7_copyOfRangeInt_30 ?_
  refine v_aret E hE rfl (Or.inr ⟨_, rfl⟩) dJ7_copyOfRangeInt_32 (Or.inr ⟨_, rfl⟩) ?_
  exact ⟨_, rfl, by omega, eI.congr hv_15 (fun k hk => congrArg iZ ((pk_cpy_in (Nat.zero_le _) (by omega)).trans (by rw [Nat.sub_zero])))⟩

set_option maxHeartbeats 400000 in
set_option maxRecDepth 100000 in
/-- copyOfRange -/
theorem g_cpr (κ : zK) (H0 : Heap) {a n i w : Nat} {f : Nat → Int} (hw : i + w ≤ n) (hn : n ≤ 1000) (ha : hp κ H0 a (eI κ n f)) : Mt κ yJ7_copyOfRange cJ7_copyOfRange 3 (some (.array .int)) 2 51 1 w H0 [.ref a, vi (i : Int), vi ((i + w : Nat) : Int)] (fun _ => False) (fun v H1 => ∃ q : Nat, v = some (.ref q) ∧ H0.size ≤ q ∧ hp κ H1 q (eI κ w (fun k => f (i + k)))) := by
  refine Mt.of (by decide) (Nat.le_of_ble_eq_true rfl) ?_
  intro z E hE hH0 hA0 hL hini
  have hAll : ∀ q, (fun _ => False) q → zA z.A z.H0 q := fun q h => Or.inl (by rw [hA0]; exact h)
  have hNew : ∀ q, H0.size ≤ q → zA z.A z.H0 q := fun q h => Or.inr (by rw [hH0]; exact h)
  have E : zOK z cJ7_copyOfRange RJ7 κ 2 51 (some (.array .int)) := E
  refine V.eqL (lv' := [(0, .ref a), (1, vi (i : Int)), (2, vi ((i + w : Nat) : Int))]) rfl ?_
  refine v_iload_n E 1 rfl dJ7_copyOfRange_0 ?_
  refine v_if_ne E (tgt := 10) dJ7_copyOfRange_1 (by decide) ⟨by omega, by omega⟩ (fun c_1 => ?_) (fun c_1 => ?_)
  · refine v_aload_n E 0 rfl dJ7_copyOfRange_10 ?_
    refine v_iload_n E 1 rfl dJ7_copyOfRange_11 ?_
    refine v_iload_n E 2 rfl dJ7_copyOfRange_12 ?_
    refine v_callS E (As := [.ref a, vi (i : Int), vi ((i + w : Nat) : Int)]) (g_cprI κ H0 hw hn ha) (lw_S q721 q722 q81 q723) 3 (by decide +kernel) rfl (by decide) (by decide) (cb' := 0) (sb' := 0) (by omega) (by omega) rfl (rest := []) (Nat.le_of_ble_eq_true rfl) (fun q h => h.elim) dJ7_copyOfRange_13 (fun v_1 H_2 hpost_3 hz_4 hk_5 => ?_)
    clear hz_4
    obtain ⟨q, rfl, hq, hqn⟩ := hpost_3
    refine V.eq (st' := [.ref q]) rfl ?_
    refine v_aret E hE rfl (Or.inr ⟨_, rfl⟩) dJ7_copyOfRange_16 (Or.inr ⟨_, rfl⟩) ?_
    exact ⟨q, rfl, hq, hqn⟩
  · refine v_iload_n E 2 rfl dJ7_copyOfRange_4 ?_
    refine v_aload_n E 0 rfl dJ7_copyOfRange_5 ?_
    refine v_alen E dJ7_copyOfRange_6 (t := 0) (ty := .int) ha rfl ?_
    refine v_icmp_eq E (tgt := 17) dJ7_copyOfRange_7 (by decide) ⟨by omega, by omega⟩ ⟨by omega, by omega⟩ (fun c_7 => ?_) (fun c_7 => ?_)
    · refine V.less (cb' := 1) (sb' := n) (Nat.le_refl _) (by omega) ?_
      refine V.frame (fun hfz_fr_6 hfk_fr_6 => ?_)
      rw [hH0] at hfz_fr_6 hfk_fr_6
      rw [hA0] at hfk_fr_6
      refine v_aload_n E 0 rfl dJ7_copyOfRange_17 ?_
      refine v_cloneI E ha q946 q947 q784 q785 q948 (by decide) (Nat.le_of_ble_eq_true rfl) (cb' := 0) (sb' := 0) (by omega) (by omega) dJ7_copyOfRange_18 (fun q_7 H_8 hq_11 hn_9 hg_10 => ?_)
      have hne_a_q_7 : a ≠ q_7 := by have := ha.lt; omega
      have ha_13 := ha.grow hg_10
      refine v_castI E hn_9 q950 dJ7_copyOfRange_21 ?_
      refine v_aret E hE rfl (Or.inr ⟨_, rfl⟩) dJ7_copyOfRange_24 (Or.inr ⟨_, rfl⟩) ?_
      obtain rfl : i = 0 := by omega
      obtain rfl : w = n := by omega
      exact ⟨_, rfl, by omega, eI.congr hn_9 (fun k hk => by rw [Nat.zero_add])⟩
    · refine v_aload_n E 0 rfl dJ7_copyOfRange_10 ?_
      refine v_iload_n E 1 rfl dJ7_copyOfRange_11 ?_
      refine v_iload_n E 2 rfl dJ7_copyOfRange_12 ?_
      refine v_callS E (As := [.ref a, vi (i : Int), vi ((i + w : Nat) : Int)]) (g_cprI κ H0 hw hn ha) (lw_S q721 q722 q81 q723) 3 (by decide +kernel) rfl (by decide) (by decide) (cb' := 0) (sb' := 0) (by omega) (by omega) rfl (rest := []) (Nat.le_of_ble_eq_true rfl) (fun q h => h.elim) dJ7_copyOfRange_13 (fun v_14 H_15 hpost_16 hz_17 hk_18 => ?_)
      clear hz_17
      obtain ⟨q, rfl, hq, hqn⟩ := hpost_16
      refine V.eq (st' := [.ref q]) rfl ?_
      refine v_aret E hE rfl (Or.inr ⟨_, rfl⟩) dJ7_copyOfRange_16 (Or.inr ⟨_, rfl⟩) ?_
      exact ⟨q, rfl, hq, hqn⟩

set_option maxHeartbeats 400000 in
set_option maxRecDepth 100000 in
/-- leading zeros off -/
theorem g_strip (κ : zK) (H0 : Heap) {a n : Nat} {Z : Int} (h0 : 0 ≤ Z) (h : Z < 2 ^ (32 * n)) (hZ : Z < 2 ^ 1536) (hn : n ≤ 200) (ha : hp κ H0 a (eI κ n (bM Z n))) : Mt κ yJ16_trustedStripLeadingZeroInts cJ16_trustedStripLeadingZeroInts 3 (some (.array .int)) 3 73 1 n H0 [.ref a] (fun _ => False) (fun v H1 => ∃ (q r : Nat), v = some (.ref q) ∧ hp κ H1 q (eI κ r (bM Z r)) ∧ isInts Z r ∧ (q = a ∨ H0.size ≤ q)) := by
  refine Mt.of (by decide) (Nat.le_of_ble_eq_true rfl) ?_
  intro z E hE hH0 hA0 hL hini
  have hAll : ∀ q, (fun _ => False) q → zA z.A z.H0 q := fun q h => Or.inl (by rw [hA0]; exact h)
  have hNew : ∀ q, H0.size ≤ q → zA z.A z.H0 q := fun q h => Or.inr (by rw [hH0]; exact h)
  have E : zOK z cJ16_trustedStripLeadingZeroInts RJ16 κ 3 73 (some (.array .int)) := E
  refine V.eqL (lv' := [(0, .ref a)]) rfl ?_
  refine v_aload_n E 0 rfl dJ16_trustedStripLeadingZeroInts_0 ?_
  refine v_alen E dJ16_trustedStripLeadingZeroInts_1 (t := 0) (ty := .int) ha rfl ?_
  refine v_istore_n E dJ16_trustedStripLeadingZeroInts_2 (zlt hL rfl) (lv' := [(1, vi (n : Int)), (0, .ref a)]) rfl ?_
  refine v_iconst E dJ16_trustedStripLeadingZeroInts_3 ?_
  refine v_istore_n E dJ16_trustedStripLeadingZeroInts_4 (zlt hL rfl) (lv' := [(2, vi 0), (1, vi (n : Int)), (0, .ref a)]) rfl ?_
  have loop_5 : ∀ (m_5 : Nat) (H : Heap) (k : Nat), n - k < m_5 → (k ≤ n) → (∀ j, j < k → bM Z n j = 0) → hp κ H a (eI κ n (bM Z n)) → V z H 1 n 5 [(2, vi (k : Int)), (1, vi (n : Int)), (0, .ref a)] [] := by
    intro m_5
    induction m_5 with
    | zero => intro H k hm; exact absurd hm (by omega)
    | succ m_5 ih_5 =>
      intro H k hm_5 hk hz ha
      have hd := bM_in Z n k
      refine v_iload_n E 0 rfl dJ16_trustedStripLeadingZeroInts_5 ?_
      refine v_iload_n E 1 rfl dJ16_trustedStripLeadingZeroInts_6 ?_
      refine v_icmp_ge E (tgt := 22) dJ16_trustedStripLeadingZeroInts_7 (by decide) ⟨by omega, by omega⟩ ⟨by omega, by omega⟩ (fun c_7 => ?_) (fun c_7 => ?_)
      · have hfin : isInts Z (n - k) := strip_fin h0 h hZ hk hz (by intro h9; omega)
        refine v_iload_n E 0 rfl dJ16_trustedStripLeadingZeroInts_22 ?_
        refine v_if_ne E (tgt := 30) dJ16_trustedStripLeadingZeroInts_23 (by decide) ⟨by omega, by omega⟩ (fun c_23 => ?_) (fun c_23 => ?_)
        · refine v_aload_n E 2 rfl dJ16_trustedStripLeadingZeroInts_30 ?_
          refine v_iload_n E 0 rfl dJ16_trustedStripLeadingZeroInts_31 ?_
          refine v_iload_n E 1 rfl dJ16_trustedStripLeadingZeroInts_32 ?_
          refine V.topi (x' := ((k + (n - k) : Nat) : Int)) (congrArg iZ (by omega)) ?_
          refine V.frame (fun hfz_fr_1 hfk_fr_1 => ?_)
          rw [hH0] at hfz_fr_1 hfk_fr_1
          rw [hA0] at hfk_fr_1
          have hfzS := hfz_fr_1
          refine v_callS E (As := [.ref a, vi (k : Int), vi ((k + (n - k) : Nat) : Int)]) (g_cpr κ H (i := k) (w := n - k) (n := n) (by omega) (by omega) ha) (lw_S q718 q719 q81 q720) 3 (by decide +kernel) rfl (by decide) (by decide) (cb' := 0) (sb' := 0) (by omega) (by omega) rfl (rest := []) (Nat.le_of_ble_eq_true rfl) (fun q h => h.elim) dJ16_trustedStripLeadingZeroInts_33 (fun v_2 H_3 hpost_4 hz_5 hk_6 => ?_)
          clear hz_5
          obtain ⟨q, rfl, hq, hqn⟩ := hpost_4
          refine V.eq (st' := [.ref q]) rfl ?_
          refine v_aret E hE rfl (Or.inr ⟨_, rfl⟩) dJ16_trustedStripLeadingZeroInts_36 (Or.inr ⟨_, rfl⟩) ?_
          exact ⟨q, _, rfl, eI.congr hqn (fun j hj => by unfold bM; rw [show n - 1 - (k + j) = n - k - 1 - j by omega]), hfin, Or.inr (Nat.le_trans hfzS hq)⟩
        · refine v_aload_n E 2 rfl dJ16_trustedStripLeadingZeroInts_26 ?_
          refine v_goto E (tgt := 36) dJ16_trustedStripLeadingZeroInts_27 (by decide) ?_
          refine v_aret E hE rfl (Or.inr ⟨_, rfl⟩) dJ16_trustedStripLeadingZeroInts_36 (Or.inr ⟨_, rfl⟩) ?_
          obtain rfl : k = 0 := by omega
          exact ⟨a, n, rfl, ha, hfin, Or.inl rfl⟩
      · refine v_aload_n E 2 rfl dJ16_trustedStripLeadingZeroInts_10 ?_
        refine v_iload_n E 0 rfl dJ16_trustedStripLeadingZeroInts_11 ?_
        refine v_iald E dJ16_trustedStripLeadingZeroInts_12 ha k rfl (by omega) (by omega) ?_
        refine V.topi (x' := ((bM Z n k) + 2147483648) % 4294967296 - 2147483648) (iZ_sg _) ?_
        refine v_if_ne E (tgt := 22) dJ16_trustedStripLeadingZeroInts_13 (by decide) ⟨by omega, by omega⟩ (fun c_13 => ?_) (fun c_13 => ?_)
        · have hfin : isInts Z (n - k) := strip_fin h0 h hZ hk hz (by intro h9; omega)
          refine v_iload_n E 0 rfl dJ16_trustedStripLeadingZeroInts_22 ?_
          refine v_if_ne E (tgt := 30) dJ16_trustedStripLeadingZeroInts_23 (by decide) ⟨by omega, by omega⟩ (fun c_23 => ?_) (fun c_23 => ?_)
          · refine v_aload_n E 2 rfl dJ16_trustedStripLeadingZeroInts_30 ?_
            refine v_iload_n E 0 rfl dJ16_trustedStripLeadingZeroInts_31 ?_
            refine v_iload_n E 1 rfl dJ16_trustedStripLeadingZeroInts_32 ?_
            refine V.topi (x' := ((k + (n - k) : Nat) : Int)) (congrArg iZ (by omega)) ?_
            refine V.frame (fun hfz_fr_7 hfk_fr_7 => ?_)
            rw [hH0] at hfz_fr_7 hfk_fr_7
            rw [hA0] at hfk_fr_7
            have hfzS := hfz_fr_7
            refine v_callS E (As := [.ref a, vi (k : Int), vi ((k + (n - k) : Nat) : Int)]) (g_cpr κ H (i := k) (w := n - k) (n := n) (by omega) (by omega) ha) (lw_S q718 q719 q81 q720) 3 (by decide +kernel) rfl (by decide) (by decide) (cb' := 0) (sb' := 0) (by omega) (by omega) rfl (rest := []) (Nat.le_of_ble_eq_true rfl) (fun q h => h.elim) dJ16_trustedStripLeadingZeroInts_33 (fun v_8 H_9 hpost_10 hz_11 hk_12 => ?_)
            clear hz_11
            obtain ⟨q, rfl, hq, hqn⟩ := hpost_10
            refine V.eq (st' := [.ref q]) rfl ?_
            refine v_aret E hE rfl (Or.inr ⟨_, rfl⟩) dJ16_trustedStripLeadingZeroInts_36 (Or.inr ⟨_, rfl⟩) ?_
            exact ⟨q, _, rfl, eI.congr hqn (fun j hj => by unfold bM; rw [show n - 1 - (k + j) = n - k - 1 - j by omega]), hfin, Or.inr (Nat.le_trans hfzS hq)⟩
          · refine v_aload_n E 2 rfl dJ16_trustedStripLeadingZeroInts_26 ?_
            refine v_goto E (tgt := 36) dJ16_trustedStripLeadingZeroInts_27 (by decide) ?_
            refine v_aret E hE rfl (Or.inr ⟨_, rfl⟩) dJ16_trustedStripLeadingZeroInts_36 (Or.inr ⟨_, rfl⟩) ?_
            obtain rfl : k = 0 := by omega
            exact ⟨a, n, rfl, ha, hfin, Or.inl rfl⟩
        · refine v_iinc E 0 rfl dJ16_trustedStripLeadingZeroInts_16 (zlt hL rfl) (lv' := [(2, vi ((k : Int) + 1)), (1, vi (n : Int)), (0, .ref a)]) rfl ?_
          refine v_goto E (tgt := 5) dJ16_trustedStripLeadingZeroInts_19 (by decide) ?_
          exact ih_5  H (k + 1) (by omega) (by omega) (lt_s hz (by omega)) ha
  exact loop_5 (n + 1) H0 0 (by omega) (by omega) (fun j hj => absurd hj (by omega)) ha
