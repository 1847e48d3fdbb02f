/-! BETWEEN, ALL THE HALVING -/
theorem b_rec {κ : zK} {z : zT} (E : zOK z cX4_between RX4 κ 3 70 (some .int)) (hL : z.nL = 15) {ad : Nat → Nat} {thr len many : Int} {a1 a2 a3 a4 d : Nat} (hAll : ∀ q, AB ad q → zA z.A z.H0 q) (hd : d < 7) (hI : Inj ad) :
    ∀ (n j : Nat) {P : Nat → Nat → Int} {f g : Nat → Int} {N : Int} {H : Heap}, j + n ≤ 158 → fitB d n (P (16 + j)) → g j = 0 → MS κ ad H → NS κ ad (bk P f) H → hp κ H (ad 3002) (.inr (3, MF ad thr len many a1 a2 a3 a4)) → hp κ H (ad 3005) (eI κ 160 g) →
      (∀ (H1 : Heap) (P1 : Nat → Nat → Int) (f1 g1 : Nat → Int), (∀ m, m ≤ 16 + j → m ≠ 5 → eq7 (P1 m) (P m)) → (∀ i, i < j → g1 i = g i) → MS κ ad H1 → NS κ ad (bk P1 f1) H1 → hp κ H1 (ad 3002) (.inr (3, MF ad thr len many a1 a2 a3 a4)) → hp κ H1 (ad 3005) (eI κ 160 g1) → V z H1 0 0 173 [(10, vi ((j : Int) + (-1))), (9, vi (N + (cnB d n (P (16 + j)) : Int))), (7, vi (d : Int)), (0, .ref (ad 3002))] []) →
      V z H 0 0 173 [(10, vi (j : Int)), (9, vi N), (7, vi (d : Int)), (0, .ref (ad 3002))] [] := by
  intro n
  induction n with
  | zero =>
    intro j P f g N H hj hf hg hM hN ho hc K
    refine b_first E hL hAll (by omega) hd hI hM hN ho hc hg (fitB_w hf) (fun _ H1 r5 f1 v hv h1 h2 h3 h4 => ?_) (fun h2 => absurd hf.2 (by omega))
    rw [hv]
    exact K H1 _ f1 _ (fun m hm h5 => by rw [va_upn _ _ h5]; exact eq7.rfl') (fun i hi => va_upn _ _ (by omega)) h1 h2 h3 h4
  | succ n ih =>
    intro j P f g N H hj hf hg hM hN ho hc K
    refine b_first E hL hAll (by omega) hd hI hM hN ho hc hg (fitB_w hf) (fun hlt H1 r5 f1 v hv h1 h2 h3 h4 => ?_) (fun h2 H1 r5 S f1 hS hM1 hN1 ho1 hc1 => ?_)
    · rw [hv, ← cnB_1 (n := n + 1) hlt]
      exact K H1 _ f1 _ (fun m hm h5 => by rw [va_upn _ _ h5]; exact eq7.rfl') (fun i hi => va_upn _ _ (by omega)) h1 h2 h3 h4
    · have hf2 := hf.2 h2
      have hcn : cnB d (n + 1) (P (16 + j)) = cnB d n (lfF (P (16 + j)) d) + (if rtF (P (16 + j)) d 0 = 0 then 1 else 0) + cnB d n (rtF (P (16 + j)) d) := by
        rw [cnB, if_neg (by omega)]
      have hS0 : ∀ k, k ≤ d → va_up (va_up P 5 r5) (16 + (j + 1)) S (16 + (j + 1)) k = lfF (P (16 + j)) d k := fun k hk => by rw [va_upj]; exact hS k hk
      refine V.eqL (by rw [show (j : Int) + 1 = ((j + 1 : Nat) : Int) by omega]) (ih (j + 1) (by omega) (fitB_congr n (fun k hk => (hS0 k hk).symm) hf2.2.1) (va_upj _ _ _) hM1 hN1 ho1 hc1 (fun H2 P2 f2 g2 hP2 hg2 hM2 hN2 ho2 hc2 => ?_))
      have hgj : g2 j = 1 := by rw [hg2 j (by omega), va_upn _ _ (by omega), va_upj]
      have hT : ∀ k, k ≤ d → P2 (16 + (j + 1)) k = lfF (P (16 + j)) d k := fun k hk => by rw [hP2 _ (by omega) (by omega) k (by omega)]; exact hS0 k hk
      have hR : ∀ k, k ≤ d → mvF (P2 (16 + (j + 1))) d d k = rtF (P (16 + j)) d k := fun k hk => mvF_congr (m := d + 1) (by omega) (fun k hk => hT k (by omega)) d k (by omega)
      refine V.eqL (by rw [show ((j + 1 : Nat) : Int) + (-1) = (j : Int) by omega]) (b_second E hL hAll (by omega) hd hI hM2 hN2 ho2 hc2 hgj (by rw [hR 0 (by omega)]; exact hf2.1) (fun H3 f3 w hw hM3 hN3 ho3 hc3 => ?_))
      have hR0 : ∀ k, k ≤ d → va_up P2 (16 + (j + 1)) (mvF (P2 (16 + (j + 1))) d d) (16 + (j + 1)) k = rtF (P (16 + j)) d k := fun k hk => by rw [va_upj]; exact hR k hk
      refine V.eqL (by rw [show (j : Int) + 1 = ((j + 1 : Nat) : Int) by omega]) (ih (j + 1) (by omega) (fitB_congr n (fun k hk => (hR0 k hk).symm) hf2.2.2) (va_upj _ _ _) hM3 hN3 ho3 hc3 (fun H4 P4 f4 g4 hP4 hg4 hM4 hN4 ho4 hc4 => ?_))
      have hgj4 : g4 j = 2 := by rw [hg4 j (by omega), va_upn _ _ (by omega), va_upj]
      refine V.eqL (by rw [show ((j + 1 : Nat) : Int) + (-1) = (j : Int) by omega]) (b_third E hL hAll (by omega) hd hI hM4 hN4 ho4 hc4 hgj4 (fun H5 f5 hM5 hN5 ho5 hc5 => ?_))
      refine V.eqL ?_ (K H5 P4 f5 _ (fun m hm h5 => ?_) (fun i hi => ?_) hM5 hN5 ho5 hc5)
      · rw [cnB_congr n hS0, cnB_congr n hR0, hw, hR 0 (by omega), hcn]
        by_cases q : rtF (P (16 + j)) d 0 = 0
        · rw [if_pos q, if_pos q, show N + (cnB d n (lfF (P (16 + j)) d) : Int) + 1 + (cnB d n (rtF (P (16 + j)) d) : Int) = N + ((cnB d n (lfF (P (16 + j)) d) + 1 + cnB d n (rtF (P (16 + j)) d) : Nat) : Int) by omega]
        · rw [if_neg q, if_neg q, show N + (cnB d n (lfF (P (16 + j)) d) : Int) + 0 + (cnB d n (rtF (P (16 + j)) d) : Int) = N + ((cnB d n (lfF (P (16 + j)) d) + 0 + cnB d n (rtF (P (16 + j)) d) : Nat) : Int) by omega]
      · refine (hP4 m (by omega) h5).trans ?_
        rw [va_upn _ _ (by omega)]
        refine (hP2 m (by omega) h5).trans ?_
        rw [va_upn _ _ (by omega), va_upn _ _ h5]
        exact eq7.rfl'
      · rw [va_upn _ _ (by omega), hg4 i (by omega), va_upn _ _ (by omega), va_upn _ _ (by omega), hg2 i (by omega), va_upn _ _ (by omega), va_upn _ _ (by omega)]
