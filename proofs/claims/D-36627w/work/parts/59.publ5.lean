/-! DISTINCT ROOTS BETWEEN TWO POINTS (plain) -/
theorem hoP_congr {p q : Nat → Int} {d : Nat} {a w : Int} {e : Nat} (hd : d < 7) (h : eq7 p q) : ∀ s, eq7 (hoP p d a w e s) (hoP q d a w e s) := by
  intro s
  induction s with
  | zero => exact eq7.rfl'
  | succ s ih =>
    intro k hk
    show (if k = 0 then _ else _) = (if k = 0 then _ else _)
    rw [psT_congr ih k hk, psT_congr ih 0 (by decide), h (d - s) (by omega)]
def dsQ (p : Nat → Int) (n k m l : Int) : Nat → Int := hoP (freeR p) (pdeg (freeR p)).toNat (n * 2 ^ (max k l - k).toNat) (m * 2 ^ (max k l - l).toNat - n * 2 ^ (max k l - k).toNat) (max k l).toNat ((pdeg (freeR p)).toNat + 1)
def dstF (p : Nat → Int) (n k m l : Int) : Nat := cnB (pdeg (freeR p)).toNat 158 (dsQ p n k m l)
def okDst (p : Nat → Int) (n k m l : Int) : Prop := okFree p ∧ 0 ≤ pdeg (freeR p) ∧ fitB (pdeg (freeR p)).toNat 158 (dsQ p n k m l)
theorem ds_in {n k m l : Int} (hn : -1000000 ≤ n ∧ n ≤ 1000000) (hm : -1000000 ≤ m ∧ m ≤ 1000000) (hk : 0 ≤ k ∧ k ≤ 12) (hl : 0 ≤ l ∧ l ≤ 12) : (-4294967296 < n * 2 ^ (max k l - k).toNat ∧ n * 2 ^ (max k l - k).toNat < 4294967296) ∧ (-4294967296 < m * 2 ^ (max k l - l).toNat - n * 2 ^ (max k l - k).toNat ∧ m * 2 ^ (max k l - l).toNat - n * 2 ^ (max k l - k).toNat < 4294967296) := by
  have h1 := pt_in (e := (max k l - k).toNat) hn (by omega)
  have h2 := pt_in (e := (max k l - l).toNat) hm (by omega)
  refine ⟨by omega, ?_⟩
  rcases Int.le_total k l with q | q
  · have e : (max k l - l).toNat = 0 := by omega
    rw [e, Int.pow_zero, Int.mul_one]; omega
  · have e : (max k l - k).toNat = 0 := by omega
    rw [e, Int.pow_zero, Int.mul_one] at h1 ⊢; omega
def opCnt (S : Nat → Nat → Int) (a n k m l : Int) : zRp := if 0 < refF S a n k m l then (0, refF S a n k m l, S) else ((dstF (S a.toNat) n k m l : Int), 0, S)
theorem refF_in (S : Nat → Nat → Int) (a n k m l : Int) : 0 ≤ refF S a n k m l ∧ refF S a n k m l ≤ 4 := by
  unfold refF
  repeat' split
  all_goals exact ⟨by decide, by decide⟩
theorem refF_0 {S : Nat → Nat → Int} {a n k m l : Int} (h : refF S a n k m l = 0) : (0 ≤ a ∧ a < 5) ∧ ((-1000000 ≤ n ∧ n ≤ 1000000) ∧ (0 ≤ k ∧ k ≤ 12)) ∧ ((-1000000 ≤ m ∧ m ≤ 1000000) ∧ (0 ≤ l ∧ l ≤ 12)) ∧ n * 2 ^ l.toNat < m * 2 ^ k.toNat ∧ 0 ≤ pdeg (S a.toNat) ∧ pAt (S a.toNat) n k.toNat ≠ 0 ∧ pAt (S a.toNat) m l.toNat ≠ 0 := by
  unfold refF at h
  by_cases c1 : 0 ≤ a ∧ a < 5
  · rw [if_pos c1] at h
    by_cases c2 : ((-1000000 ≤ n ∧ n ≤ 1000000) ∧ (0 ≤ k ∧ k ≤ 12)) ∧ ((-1000000 ≤ m ∧ m ≤ 1000000) ∧ (0 ≤ l ∧ l ≤ 12)) ∧ n * 2 ^ l.toNat < m * 2 ^ k.toNat
    · rw [if_pos c2] at h
      by_cases c3 : pdeg (S a.toNat) < 0
      · rw [if_pos c3] at h; omega
      · rw [if_neg c3] at h
        by_cases c4 : pAt (S a.toNat) n k.toNat = 0 ∨ pAt (S a.toNat) m l.toNat = 0
        · rw [if_pos c4] at h; omega
        · exact ⟨c1, c2.1, c2.2.1, c2.2.2, by omega, fun e => c4 (Or.inl e), fun e => c4 (Or.inr e)⟩
    · rw [if_neg c2] at h; omega
  · rw [if_neg c1] at h; omega
