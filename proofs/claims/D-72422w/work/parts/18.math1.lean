/-! 18: rows as numbers; their terms -/
def pNear (v : Int) : Int := if 1000000000 < v ∨ v < -1000000000 then 2000000002 else v
theorem pNear_r (v : Int) : -1000000000 ≤ pNear v ∧ (pNear v ≤ 1000000000 ∨ pNear v = 2000000002) := by unfold pNear; split <;> omega
def pNx (c d a b : Int) : Int := if a = 2000000002 ∨ b = 2000000002 then 2000000002 else pNear (c * b + d * a)
/-- the terms n and n + 1 of a row that is told -/
def pTld (c d e f : Int) : Nat → Int × Int
  | 0 => (e, f)
  | n + 1 => ((pTld c d e f n).2, pNx c d (pTld c d e f n).1 (pTld c d e f n).2)
def pBoth (k a b : Int) : Int := if a = 2000000002 ∨ b = 2000000002 then 2000000002 else pNear (if k = 1 then a + b else a * b)
def pStep (a b : Int) : Int := if a = 2000000002 ∨ b = 2000000002 then 2000000002 else pNear (b - a)
def pTm (K P : Int → Int) : Nat → Int → Int → Int
  | 0, _, _ => 0
  | d + 1, i, n => if 200 < n then 2000000002
    else if K i = 0 then (pTld (P (4 * i)) (P (4 * i + 1)) (P (4 * i + 2)) (P (4 * i + 3)) n.toNat).1
    else if K i = 3 then pTm K P d (P (4 * i)) (P (4 * i + 1) * n + P (4 * i + 2))
    else if K i = 4 then pStep (pTm K P d (P (4 * i)) n) (pTm K P d (P (4 * i)) (n + 1))
    else pBoth (K i) (pTm K P d (P (4 * i)) n) (pTm K P d (P (4 * i + 1)) n)
/-- a row as it may be -/
def rOk (K P : Int → Int) (i : Int) : Prop :=
  (K i = 0 ∧ (-9 ≤ P (4 * i) ∧ P (4 * i) ≤ 9) ∧ (-9 ≤ P (4 * i + 1) ∧ P (4 * i + 1) ≤ 9) ∧ (-999 ≤ P (4 * i + 2) ∧ P (4 * i + 2) ≤ 999) ∧ (-999 ≤ P (4 * i + 3) ∧ P (4 * i + 3) ≤ 999))
  ∨ ((K i = 1 ∨ K i = 2) ∧ (0 ≤ P (4 * i) ∧ P (4 * i) < i) ∧ (0 ≤ P (4 * i + 1) ∧ P (4 * i + 1) < i) ∧ P (4 * i + 2) = 2000000001 ∧ P (4 * i + 3) = 2000000001)
  ∨ (K i = 3 ∧ (0 ≤ P (4 * i) ∧ P (4 * i) < i) ∧ (1 ≤ P (4 * i + 1) ∧ P (4 * i + 1) ≤ 5) ∧ (0 ≤ P (4 * i + 2) ∧ P (4 * i + 2) ≤ 9) ∧ P (4 * i + 3) = 2000000001)
  ∨ (K i = 4 ∧ (0 ≤ P (4 * i) ∧ P (4 * i) < i) ∧ P (4 * i + 1) = 2000000001 ∧ P (4 * i + 2) = 2000000001 ∧ P (4 * i + 3) = 2000000001)
def rsOk (K P : Int → Int) (n : Int) : Prop := ∀ i, 0 ≤ i → i < n → rOk K P i
theorem rOk_k {K P : Int → Int} {i : Int} (h : rOk K P i) : 0 ≤ K i ∧ K i ≤ 4 := by unfold rOk at h; omega
theorem rOk_r {K P : Int → Int} {i j : Int} (h : rOk K P i) (hi : 0 ≤ i ∧ i < 8) (hj : 0 ≤ j ∧ j < 4) : r32 (P (4 * i + j)) := by
  have : j = 0 ∨ j = 1 ∨ j = 2 ∨ j = 3 := by omega
  unfold rOk at h
  rcases this with rfl | rfl | rfl | rfl
  · rw [Int.add_zero]; omega
  · omega
  · omega
  · omega
theorem rOk_part {K P : Int → Int} {i : Int} (h : rOk K P i) (hk : K i ≠ 0) : 0 ≤ P (4 * i) ∧ P (4 * i) < i := by unfold rOk at h; omega
theorem rOk_part2 {K P : Int → Int} {i : Int} (h : rOk K P i) (hk : K i = 1 ∨ K i = 2) : 0 ≤ P (4 * i + 1) ∧ P (4 * i + 1) < i := by unfold rOk at h; omega
theorem rOk_each {K P : Int → Int} {i : Int} (h : rOk K P i) (hk : K i = 3) : (1 ≤ P (4 * i + 1) ∧ P (4 * i + 1) ≤ 5) ∧ (0 ≤ P (4 * i + 2) ∧ P (4 * i + 2) ≤ 9) := by unfold rOk at h; omega
theorem rOk_told {K P : Int → Int} {i : Int} (h : rOk K P i) (hk : K i = 0) : (-9 ≤ P (4 * i) ∧ P (4 * i) ≤ 9) ∧ (-9 ≤ P (4 * i + 1) ∧ P (4 * i + 1) ≤ 9) ∧ (-999 ≤ P (4 * i + 2) ∧ P (4 * i + 2) ≤ 999) ∧ (-999 ≤ P (4 * i + 3) ∧ P (4 * i + 3) ≤ 999) := by unfold rOk at h; omega
theorem pTm_fuel {K P : Int → Int} {N : Int} (h : rsOk K P N) : ∀ (d e : Nat) (i n : Int), 0 ≤ i → i < N → i < d → i < e → pTm K P d i n = pTm K P e i n := by
  intro d
  induction d with
  | zero => intro e i n h0 _ h1; omega
  | succ d ih =>
    intro e i n h0 hN h1 h2
    cases e with
    | zero => omega
    | succ e =>
      have hr := h i h0 hN
      unfold pTm
      by_cases e0 : K i = 0
      · simp only [e0, if_true]
      · have hp := rOk_part hr e0
        rw [if_neg e0, if_neg e0]
        rw [ih e _ _ hp.1 (by omega) (by omega) (by omega)]
        rw [ih e _ n hp.1 (by omega) (by omega) (by omega)]
        rw [ih e _ (n + 1) hp.1 (by omega) (by omega) (by omega)]
        by_cases e3 : K i = 3
        · rw [if_pos e3, if_pos e3]
        · by_cases e4 : K i = 4
          · rw [if_neg e3, if_neg e3, if_pos e4, if_pos e4]
          · have hk := rOk_k hr
            have hp2 := rOk_part2 hr (by omega)
            rw [if_neg e3, if_neg e3, if_neg e4, if_neg e4, ih e _ n hp2.1 (by omega) (by omega) (by omega)]
/-- the term n of the row i; far: 2000000002 -/
def pTerm (K P : Int → Int) (i n : Int) : Int := pTm K P (i.toNat + 1) i n
theorem pTerm_d {K P : Int → Int} {N : Int} (h : rsOk K P N) {i n : Int} (h0 : 0 ≤ i) (hN : i < N) {d : Nat} (hd : i < d) : pTm K P d i n = pTerm K P i n := pTm_fuel h _ _ _ _ h0 hN hd (by omega)
theorem pTerm_far {K P : Int → Int} {i n : Int} (hn : 200 < n) : pTerm K P i n = 2000000002 := by unfold pTerm pTm; rw [if_pos hn]
theorem pTerm_told {K P : Int → Int} {i n : Int} (hn : n ≤ 200) (hk : K i = 0) : pTerm K P i n = (pTld (P (4 * i)) (P (4 * i + 1)) (P (4 * i + 2)) (P (4 * i + 3)) n.toNat).1 := by
  unfold pTerm pTm; rw [if_neg (by omega), if_pos hk]
theorem pTerm_each {K P : Int → Int} {N : Int} (h : rsOk K P N) {i n : Int} (h0 : 0 ≤ i) (hN : i < N) (hn : n ≤ 200) (hk : K i = 3) : pTerm K P i n = pTerm K P (P (4 * i)) (P (4 * i + 1) * n + P (4 * i + 2)) := by
  have hp := rOk_part (h i h0 hN) (by omega)
  rw [← pTerm_d h hp.1 (by omega) (d := i.toNat) (by omega)]
  conv => lhs; unfold pTerm pTm
  rw [if_neg (by omega), if_neg (by omega), if_pos hk]
theorem pTerm_step {K P : Int → Int} {N : Int} (h : rsOk K P N) {i n : Int} (h0 : 0 ≤ i) (hN : i < N) (hn : n ≤ 200) (hk : K i = 4) : pTerm K P i n = pStep (pTerm K P (P (4 * i)) n) (pTerm K P (P (4 * i)) (n + 1)) := by
  have hp := rOk_part (h i h0 hN) (by omega)
  rw [← pTerm_d h hp.1 (by omega) (d := i.toNat) (by omega), ← pTerm_d h hp.1 (by omega) (d := i.toNat) (by omega)]
  conv => lhs; unfold pTerm pTm
  rw [if_neg (by omega), if_neg (by omega), if_neg (by omega), if_pos hk]
theorem pTerm_both {K P : Int → Int} {N : Int} (h : rsOk K P N) {i n : Int} (h0 : 0 ≤ i) (hN : i < N) (hn : n ≤ 200) (hk : K i = 1 ∨ K i = 2) : pTerm K P i n = pBoth (K i) (pTerm K P (P (4 * i)) n) (pTerm K P (P (4 * i + 1)) n) := by
  have hp := rOk_part (h i h0 hN) (by omega)
  have hp2 := rOk_part2 (h i h0 hN) hk
  rw [← pTerm_d h hp.1 (by omega) (d := i.toNat) (by omega), ← pTerm_d h hp2.1 (by omega) (d := i.toNat) (by omega)]
  conv => lhs; unfold pTerm pTm
  rw [if_neg (by omega), if_neg (by omega), if_neg (by omega), if_neg (by omega)]
def tR (v : Int) : Prop := -1000000000 ≤ v ∧ (v ≤ 1000000000 ∨ v = 2000000002)
theorem pNx_r (c d a b : Int) : tR (pNx c d a b) := by unfold pNx; split; (unfold tR; omega); exact pNear_r _
theorem pTld_r {c d e f : Int} (he : -999 ≤ e ∧ e ≤ 999) (hf : -999 ≤ f ∧ f ≤ 999) : ∀ n, tR (pTld c d e f n).1 ∧ tR (pTld c d e f n).2 := by
  intro n
  induction n with
  | zero => unfold pTld tR; dsimp only; omega
  | succ n ih => exact ⟨ih.2, pNx_r _ _ _ _⟩
theorem pTm_r {K P : Int → Int} {N : Int} (h : rsOk K P N) : ∀ (d : Nat) (i n : Int), 0 ≤ i → i < N → tR (pTm K P d i n) := by
  intro d
  induction d with
  | zero => intro i n _ _; unfold pTm tR; omega
  | succ d ih =>
    intro i n h0 hN
    have hr := h i h0 hN
    unfold pTm
    split
    · unfold tR; omega
    · split
      · have ht := rOk_told hr (by assumption)
        exact (pTld_r ht.2.2.1 ht.2.2.2 _).1
      · have hp := rOk_part hr (by assumption)
        split
        · exact ih _ _ hp.1 (by omega)
        · split
          · unfold pStep; split; (unfold tR; omega); exact pNear_r _
          · unfold pBoth; split; (unfold tR; omega); exact pNear_r _
theorem pTerm_r {K P : Int → Int} {N : Int} (h : rsOk K P N) {i n : Int} (h0 : 0 ≤ i) (hN : i < N) : tR (pTerm K P i n) := pTm_r h _ _ _ h0 hN
