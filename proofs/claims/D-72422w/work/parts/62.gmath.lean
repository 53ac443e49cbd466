/-! 62: plain: what is guessed: the least numbers by division are the first ones that are tried -/
theorem pGsN_iff (G : Int → Int) (g u v : Int) : ∀ j : Nat, pGsN G g u v j = true ↔ ∀ k, g ≤ k → k < g + j → G k = pBy G g u v k := by
  intro j
  induction j with
  | zero => exact ⟨fun _ k h1 h2 => by omega, fun _ => rfl⟩
  | succ j ih =>
    unfold pGsN
    rw [Bool.and_eq_true, decide_eq_true_eq, ih]
    constructor
    · rintro ⟨h1, h2⟩ k k1 k2
      rcases (show k < g + j ∨ k = g + j by omega) with e | e
      · exact h1 k k1 e
      · rw [e]; exact h2
    · exact fun h => ⟨fun k k1 k2 => h k k1 (by omega), h _ (by omega) (by omega)⟩
theorem pGs_iff {G : Int → Int} {n g u v : Int} : pGs G n g u v = true ↔ ∀ k, g ≤ k → k < n → G k = pBy G g u v k := by
  unfold pGs
  rw [pGsN_iff]
  exact ⟨fun h k k1 k2 => h k k1 (by omega), fun h k k1 k2 => h k k1 (by omega)⟩
def pLo (a b : Int) : Int := if a = 0 then (if b = 0 then -9 else 2000000001) else if b.tmod a = 0 ∧ (-9 ≤ b.tdiv a ∧ b.tdiv a ≤ 9) then b.tdiv a else 2000000001
theorem pLo_uniq {a b x : Int} (ha : a ≠ 0) (h : b = x * a) (hx : -9 ≤ x ∧ x ≤ 9) : pLo a b = x := by
  have e1 : b.tdiv a = x := by rw [h]; exact Int.mul_tdiv_cancel x ha
  have e2 : b.tmod a = 0 := by rw [h]; exact Int.mul_tmod_left x a
  unfold pLo; rw [if_neg ha, e1, e2, if_pos ⟨rfl, hx⟩]
theorem pLo_r (a b : Int) : (-9 ≤ pLo a b ∧ pLo a b ≤ 9) ∨ pLo a b = 2000000001 := by
  unfold pLo; split
  · split <;> omega
  · split
    · rename_i h; exact Or.inl h.2
    · exact Or.inr rfl
section Lo
variable {A B : Int → Int} {d n k1 x : Int}
theorem lo_a (hd : d ≤ k1) (hz : k1 < n → A k1 ≠ 0) (hx : x = if k1 < n then pLo (A k1) (B k1) else pLo 0 0) (hn : x ≠ 2000000001) (hC : ∀ k, d ≤ k → k < n → B k = x * A k) : ∀ y, -9 ≤ y → y < x → ¬ ∀ k, d ≤ k → k < n → B k = y * A k := by
  intro y y0 y1 h
  by_cases c : k1 < n
  · rw [if_pos c] at hx
    have := pLo_uniq (hz c) (h k1 hd c) (by have := pLo_r (A k1) (B k1); omega)
    omega
  · rw [if_neg c] at hx
    have : pLo 0 0 = -9 := rfl
    omega
theorem lo_b (hd : d ≤ k1) (hz : k1 < n → A k1 ≠ 0) (h0 : ∀ k, d ≤ k → k < k1 → k < n → A k = 0) (hx : x = if k1 < n then pLo (A k1) (B k1) else pLo 0 0) (hC : ¬ (x ≠ 2000000001 ∧ ∀ k, d ≤ k → k < n → B k = x * A k)) : ∀ y, -9 ≤ y → y ≤ 9 → ¬ ∀ k, d ≤ k → k < n → B k = y * A k := by
  intro y y0 y1 h
  apply hC
  by_cases c : k1 < n
  · rw [if_pos c] at hx
    have := pLo_uniq (hz c) (h k1 hd c) ⟨y0, y1⟩
    rw [this] at hx
    rw [hx]
    exact ⟨by omega, h⟩
  · rw [if_neg c] at hx
    have e : pLo 0 0 = -9 := rfl
    refine ⟨by omega, fun k k0 k2 => ?_⟩
    have a0 := h0 k k0 (by omega) k2
    have := h k k0 k2
    rw [a0, Int.mul_zero] at this ⊢
    exact this
end Lo
theorem pBy1 (G : Int → Int) (u v k : Int) : pBy G 1 u v k = u * G (k - 1) := by unfold pBy; rw [if_neg (by decide), if_pos rfl]
theorem pBy2 (G : Int → Int) (u v k : Int) : pBy G 2 u v k = u * G (k - 1) + v * G (k - 2) := by unfold pBy; rw [if_neg (by decide), if_neg (by decide)]
theorem pFnd_hit {G : Int → Int} {n k' : Int} (ht : pGs G n (pGk k').1 (pGk k').2.1 (pGk k').2.2 = true) : ∀ (j : Nat) (k : Int), k ≤ k' → k' < k + j → (∀ i, k ≤ i → i < k' → pGs G n (pGk i).1 (pGk i).2.1 (pGk i).2.2 = false) → pFnd G n j k = pGk k' := by
  intro j
  induction j with
  | zero => intro k h1 h2; omega
  | succ j ih =>
    intro k h1 h2 h3
    unfold pFnd
    rcases (show k = k' ∨ k < k' by omega) with e | e
    · rw [e, if_pos ht]
    · rw [h3 k (Int.le_refl _) e, if_neg (by decide)]
      exact ih (k + 1) (by omega) (by omega) (fun i i0 i1 => h3 i (by omega) i1)
theorem pFnd_no {G : Int → Int} {n : Int} : ∀ (j : Nat) (k : Int), (∀ i, k ≤ i → i < k + j → pGs G n (pGk i).1 (pGk i).2.1 (pGk i).2.2 = false) → pFnd G n j k = (2000000001, 0, 0) := by
  intro j
  induction j with
  | zero => intro k _; rfl
  | succ j ih =>
    intro k h
    unfold pFnd
    rw [h k (Int.le_refl _) (by omega), if_neg (by decide)]
    exact ih (k + 1) (fun i i0 i1 => h i (by omega) (by omega))
theorem pGk1 {k : Int} (h : k < 19) : pGk k = (1, k - 9, 0) := by unfold pGk; rw [if_pos h]
theorem pGk2 {k : Int} (h : 19 ≤ k) : pGk k = (2, (k - 19) / 19 - 9, (k - 19) % 19 - 9) := by unfold pGk; rw [if_neg (by omega)]
/-- degree 1 -/
theorem guess_1 {G : Int → Int} {n k0 u : Int} (hg : pGs G n 0 0 0 = false) (hk : 0 ≤ k0) (hz : k0 < n - 1 → G k0 ≠ 0) (hu : u = if k0 < n - 1 then pLo (G k0) (G (k0 + 1)) else pLo 0 0) (hn : u ≠ 2000000001) (h1 : pGs G n 1 u 0 = true) : pGuess G n = (1, u, 0) := by
  have hr : -9 ≤ u ∧ u ≤ 9 := by
    rcases pLo_r (G k0) (G (k0 + 1)) with q | q
    · split at hu
      · omega
      · have : pLo 0 0 = -9 := rfl
        omega
    · split at hu
      · omega
      · have : pLo 0 0 = -9 := rfl
        omega
  have hC : ∀ y, (pGs G n 1 y 0 = true ↔ ∀ k, 1 ≤ k → k < n → G k = y * G (k - 1)) := fun y => by
    rw [pGs_iff]
    exact ⟨fun h k k0 k1 => by rw [h k k0 k1, pBy1], fun h k k0 k1 => by rw [h k k0 k1, pBy1]⟩
  have hall := lo_a (A := fun k => G (k - 1)) (B := G) (d := 1) (n := n) (k1 := k0 + 1) (x := u) (by omega) (fun c => by
    show G (k0 + 1 - 1) ≠ 0
    rw [show k0 + 1 - 1 = k0 by omega]; exact hz (by omega)) (by
    rw [hu]
    show _ = if k0 + 1 < n then pLo (G (k0 + 1 - 1)) (G (k0 + 1)) else pLo 0 0
    rw [show k0 + 1 - 1 = k0 by omega]
    by_cases c : k0 < n - 1
    · rw [if_pos c, if_pos (by omega)]
    · rw [if_neg c, if_neg (by omega)]) hn ((hC u).mp h1)
  unfold pGuess
  rw [hg, if_neg (by decide), pFnd_hit (k' := u + 9) (by rw [pGk1 (by omega)]; show pGs G n 1 (u + 9 - 9) 0 = true; rw [show u + 9 - 9 = u by omega]; exact h1) 380 0 (by omega) (by omega) (fun i i0 i1 => ?_), pGk1 (by omega), show u + 9 - 9 = u by omega]
  rw [pGk1 (by omega), ← Bool.not_eq_true]
  exact fun w => hall (i - 9) (by omega) (by omega) ((hC _).mp w)
theorem guess_n1 {G : Int → Int} {n k0 u : Int} (hk : 0 ≤ k0) (hz : k0 < n - 1 → G k0 ≠ 0) (h0 : ∀ j, 0 ≤ j → j < k0 → j < n - 1 → G j = 0) (hu : u = if k0 < n - 1 then pLo (G k0) (G (k0 + 1)) else pLo 0 0) (hn : ¬ (u ≠ 2000000001 ∧ pGs G n 1 u 0 = true)) : ∀ y, -9 ≤ y → y ≤ 9 → pGs G n 1 y 0 = false := by
  have hC : ∀ y, (pGs G n 1 y 0 = true ↔ ∀ k, 1 ≤ k → k < n → G k = y * G (k - 1)) := fun y => by
    rw [pGs_iff]
    exact ⟨fun h k k0 k1 => by rw [h k k0 k1, pBy1], fun h k k0 k1 => by rw [h k k0 k1, pBy1]⟩
  intro y y0 y1
  have hall := lo_b (A := fun k => G (k - 1)) (B := G) (d := 1) (n := n) (k1 := k0 + 1) (x := u) (by omega) (fun c => by
    show G (k0 + 1 - 1) ≠ 0
    rw [show k0 + 1 - 1 = k0 by omega]; exact hz (by omega)) (fun k k1 k2 k3 => h0 (k - 1) (by omega) (by omega) (by omega)) (by
    rw [hu]
    show _ = if k0 + 1 < n then pLo (G (k0 + 1 - 1)) (G (k0 + 1)) else pLo 0 0
    rw [show k0 + 1 - 1 = k0 by omega]
    by_cases c : k0 < n - 1
    · rw [if_pos c, if_pos (by omega)]
    · rw [if_neg c, if_neg (by omega)]) (fun w => hn ⟨w.1, (hC u).mpr w.2⟩) y y0 y1
  rw [← Bool.not_eq_true]
  exact fun w => hall ((hC y).mp w)
theorem gs2 {G : Int → Int} {n u y : Int} : pGs G n 2 u y = true ↔ ∀ k, 2 ≤ k → k < n → G k - u * G (k - 1) = y * G (k - 2) := by
  rw [pGs_iff]
  exact ⟨fun h k k0 k1 => by rw [h k k0 k1, pBy2]; omega, fun h k k0 k1 => by have := h k k0 k1; rw [pBy2]; omega⟩
def pV2 (G : Int → Int) (n k0 u : Int) : Int := if k0 < n - 2 then pLo (G k0) (G (k0 + 2) - u * G (k0 + 1)) else pLo 0 0
theorem pV2_r (G : Int → Int) (n k0 u : Int) : (-9 ≤ pV2 G n k0 u ∧ pV2 G n k0 u ≤ 9) ∨ pV2 G n k0 u = 2000000001 := by
  unfold pV2; split
  · exact pLo_r _ _
  · left; exact ⟨by decide, by decide⟩
theorem v2_a {G : Int → Int} {n k0 u : Int} (hk : 0 ≤ k0) (hz : k0 < n - 2 → G k0 ≠ 0) (hn : pV2 G n k0 u ≠ 2000000001) (h1 : pGs G n 2 u (pV2 G n k0 u) = true) : ∀ y, -9 ≤ y → y < pV2 G n k0 u → pGs G n 2 u y = false := by
  intro y y0 y1
  have hall := lo_a (A := fun k => G (k - 2)) (B := fun k => G k - u * G (k - 1)) (d := 2) (n := n) (k1 := k0 + 2) (x := pV2 G n k0 u) (by omega) (fun c => by
    show G (k0 + 2 - 2) ≠ 0
    rw [show k0 + 2 - 2 = k0 by omega]; exact hz (by omega)) (by
    show pV2 G n k0 u = if k0 + 2 < n then pLo (G (k0 + 2 - 2)) (G (k0 + 2) - u * G (k0 + 2 - 1)) else pLo 0 0
    rw [show k0 + 2 - 2 = k0 by omega, show k0 + 2 - 1 = k0 + 1 by omega]
    unfold pV2
    by_cases c : k0 < n - 2
    · rw [if_pos c, if_pos (by omega)]
    · rw [if_neg c, if_neg (by omega)]) hn (gs2.mp h1) y y0 y1
  rw [← Bool.not_eq_true]
  exact fun w => hall (gs2.mp w)
theorem v2_b {G : Int → Int} {n k0 u : Int} (hk : 0 ≤ k0) (hz : k0 < n - 2 → G k0 ≠ 0) (h0 : ∀ j, 0 ≤ j → j < k0 → j < n - 2 → G j = 0) (hn : ¬ (pV2 G n k0 u ≠ 2000000001 ∧ pGs G n 2 u (pV2 G n k0 u) = true)) : ∀ y, -9 ≤ y → y ≤ 9 → pGs G n 2 u y = false := by
  intro y y0 y1
  have hall := lo_b (A := fun k => G (k - 2)) (B := fun k => G k - u * G (k - 1)) (d := 2) (n := n) (k1 := k0 + 2) (x := pV2 G n k0 u) (by omega) (fun c => by
    show G (k0 + 2 - 2) ≠ 0
    rw [show k0 + 2 - 2 = k0 by omega]; exact hz (by omega)) (fun k k1 k2 k3 => h0 (k - 2) (by omega) (by omega) (by omega)) (by
    show pV2 G n k0 u = if k0 + 2 < n then pLo (G (k0 + 2 - 2)) (G (k0 + 2) - u * G (k0 + 2 - 1)) else pLo 0 0
    rw [show k0 + 2 - 2 = k0 by omega, show k0 + 2 - 1 = k0 + 1 by omega]
    unfold pV2
    by_cases c : k0 < n - 2
    · rw [if_pos c, if_pos (by omega)]
    · rw [if_neg c, if_neg (by omega)]) (fun w => hn ⟨w.1, gs2.mpr w.2⟩) y y0 y1
  rw [← Bool.not_eq_true]
  exact fun w => hall (gs2.mp w)
/-- degree 2 -/
theorem guess_2 {G : Int → Int} {n k0 u : Int} (hg : pGs G n 0 0 0 = false) (h19 : ∀ y, -9 ≤ y → y ≤ 9 → pGs G n 1 y 0 = false) (hk : 0 ≤ k0) (hz : k0 < n - 2 → G k0 ≠ 0) (hu : -9 ≤ u ∧ u ≤ 9) (hb : ∀ u' y, -9 ≤ u' → u' < u → -9 ≤ y → y ≤ 9 → pGs G n 2 u' y = false) (hn : pV2 G n k0 u ≠ 2000000001) (h1 : pGs G n 2 u (pV2 G n k0 u) = true) : pGuess G n = (2, u, pV2 G n k0 u) := by
  have hv := pV2_r G n k0 u
  have ha := v2_a hk hz hn h1
  have eK : pGk (19 + 19 * (u + 9) + (pV2 G n k0 u + 9)) = (2, u, pV2 G n k0 u) := by
    rw [pGk2 (by omega)]
    rw [show (19 + 19 * (u + 9) + (pV2 G n k0 u + 9) - 19) / 19 - 9 = u by omega, show (19 + 19 * (u + 9) + (pV2 G n k0 u + 9) - 19) % 19 - 9 = pV2 G n k0 u by omega]
  unfold pGuess
  rw [hg, if_neg (by decide), pFnd_hit (k' := 19 + 19 * (u + 9) + (pV2 G n k0 u + 9)) (by rw [eK]; exact h1) 380 0 (by omega) (by omega) (fun i i0 i1 => ?_), eK]
  by_cases c : i < 19
  · rw [pGk1 c]; exact h19 (i - 9) (by omega) (by omega)
  · rw [pGk2 (by omega)]
    show pGs G n 2 ((i - 19) / 19 - 9) ((i - 19) % 19 - 9) = false
    rcases (show (i - 19) / 19 - 9 < u ∨ ((i - 19) / 19 - 9 = u ∧ (i - 19) % 19 - 9 < pV2 G n k0 u) by omega) with q | q
    · exact hb _ _ (by omega) q (by omega) (by omega)
    · rw [q.1]; exact ha _ (by omega) q.2
theorem guess_no {G : Int → Int} {n : Int} (hg : pGs G n 0 0 0 = false) (h19 : ∀ y, -9 ≤ y → y ≤ 9 → pGs G n 1 y 0 = false) (hb : ∀ u' y, -9 ≤ u' → u' ≤ 9 → -9 ≤ y → y ≤ 9 → pGs G n 2 u' y = false) : pGuess G n = (2000000001, 0, 0) := by
  unfold pGuess
  rw [hg, if_neg (by decide), pFnd_no 380 0 (fun i i0 i1 => ?_)]
  by_cases c : i < 19
  · rw [pGk1 c]; exact h19 (i - 9) (by omega) (by omega)
  · rw [pGk2 (by omega)]
    exact hb ((i - 19) / 19 - 9) ((i - 19) % 19 - 9) (by omega) (by omega) (by omega) (by omega)
theorem guess_0 {G : Int → Int} {n : Int} (hg : pGs G n 0 0 0 = true) : pGuess G n = (0, 0, 0) := by unfold pGuess; rw [if_pos hg]
