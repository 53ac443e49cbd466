/-! 32: the reference: texts become rows -/
set_option maxRecDepth 100000
/-- a row of which s signs are read -/
def rPart (K P : Int → Int) (i s : Int) : Prop :=
  (K i = 0 ∧ ∀ j, 0 ≤ j → j < s → -9 ≤ P (4 * i + j) ∧ P (4 * i + j) ≤ 9)
  ∨ ((K i = 1 ∨ K i = 2) ∧ (∀ j, 0 ≤ j → j < s → 0 ≤ P (4 * i + j) ∧ P (4 * i + j) < i) ∧ P (4 * i + 2) = 2000000001 ∧ P (4 * i + 3) = 2000000001)
  ∨ (K i = 3 ∧ (0 < s → 0 ≤ P (4 * i) ∧ P (4 * i) < i) ∧ (1 < s → 1 ≤ P (4 * i + 1) ∧ P (4 * i + 1) ≤ 5) ∧ (2 < s → 0 ≤ P (4 * i + 2) ∧ P (4 * i + 2) ≤ 9) ∧ P (4 * i + 3) = 2000000001)
  ∨ (K i = 4 ∧ (0 < s → 0 ≤ P (4 * i) ∧ P (4 * i) < i) ∧ P (4 * i + 1) = 2000000001 ∧ P (4 * i + 2) = 2000000001 ∧ P (4 * i + 3) = 2000000001)
theorem rPart.ok {K P : Int → Int} {i s : Int} (h : rPart K P i s) (hs : s = pSigns (K i)) : rOk K P i := by
  rcases h with ⟨a, b⟩ | ⟨a, b, e1, e2⟩ | ⟨a, b1, b2, b3, e⟩ | ⟨a, b, e1, e2, e3⟩
  · have hs4 : s = 4 := by rw [hs]; unfold pSigns; rw [if_pos a]
    left
    have q0 := b 0 (by omega) (by omega)
    have q1 := b 1 (by omega) (by omega)
    have q2 := b 2 (by omega) (by omega)
    have q3 := b 3 (by omega) (by omega)
    rw [Int.add_zero] at q0
    exact ⟨a, q0, q1, ⟨by omega, by omega⟩, ⟨by omega, by omega⟩⟩
  · have hs2 : s = 2 := by rw [hs]; unfold pSigns; rw [if_neg (by omega), if_neg (by omega), if_neg (by omega)]
    right; left
    have q0 := b 0 (by omega) (by omega)
    have q1 := b 1 (by omega) (by omega)
    rw [Int.add_zero] at q0
    exact ⟨a, q0, q1, e1, e2⟩
  · have hs3 : s = 3 := by rw [hs]; unfold pSigns; rw [if_neg (by omega), if_pos a]
    right; right; left
    exact ⟨a, b1 (by omega), b2 (by omega), b3 (by omega), e⟩
  · have hs1 : s = 1 := by rw [hs]; unfold pSigns; rw [if_neg (by omega), if_neg (by omega), if_pos a]
    right; right; right
    exact ⟨a, b (by omega), e1, e2, e3⟩
def pVal (f : Nat → Int) (t : Nat → Int → Int) : Prop := (∀ j, 0 ≤ j → j < f 8 → (j < f 8 - 1 ∨ f 12 = 1) → rOk (t 10) (t 11) j) ∧ (f 12 ≠ 1 → rPart (t 10) (t 11) (f 8 - 1) (f 9))
theorem pValue_d {c : Int} (h : 48 ≤ c ∧ c ≤ 57) : pValue c = c - 48 := if_pos h
theorem pTakes_val {f : Nat → Int} {t : Nat → Int → Int} {c : Int} (hi : pIn f t) (hv : pVal f t) (h : (pTakes f t c).1 = true) : pVal (pTakes f t c).2.1 (pTakes f t c).2.2 := by
  obtain ⟨h1, h2, h3, h4, h5, h6, h7, h8⟩ := hi
  obtain ⟨v1, v2⟩ := hv
  unfold pTakes at h ⊢
  by_cases e1 : f 12 = 1
  · rw [if_pos e1] at h ⊢
    have h : pTakesK f c = true := h
    simp only [h, if_true]
    have hk := pKindBy_r c
    simp only [pTakesK, decide_eq_true_eq] at h
    have q5 := h5 e1
    refine ⟨fun j j0 j1 j2 => ?_, fun _ => ?_⟩
    · replace j1 : j < f 8 + 1 := j1
      replace j2 : j < f 8 + 1 - 1 ∨ (0 : Int) = 1 := j2
      refine rOk_congr (v1 j j0 (by omega) (Or.inr e1)) ?_ ?_ ?_ ?_ ?_
      · show upA (t 10) (f 8) (pKindBy c) j = _; exact upA_n _ _ (by omega)
      · show (if 4 * f 8 ≤ 4 * j ∧ _ then _ else _) = _; rw [if_neg (by omega)]
      · show (if 4 * f 8 ≤ 4 * j + 1 ∧ _ then _ else _) = _; rw [if_neg (by omega)]
      · show (if 4 * f 8 ≤ 4 * j + 2 ∧ _ then _ else _) = _; rw [if_neg (by omega)]
      · show (if 4 * f 8 ≤ 4 * j + 3 ∧ _ then _ else _) = _; rw [if_neg (by omega)]
    · have hn : ∀ j, 0 ≤ j → j < 4 → pNew f t c 11 (4 * f 8 + j) = 2000000001 := fun j j0 j1 => by
        show (if 4 * f 8 ≤ 4 * f 8 + j ∧ _ then _ else _) = _; rw [if_pos (by omega)]
      have hkk : pNew f t c 10 (f 8) = pKindBy c := by show upA (t 10) (f 8) (pKindBy c) (f 8) = _; exact upA_s _ _ _
      show rPart (pNew f t c 10) (pNew f t c 11) (f 8 + 1 - 1) 0
      rw [show f 8 + 1 - 1 = f 8 by omega]
      have n1 := hn 1 (by omega) (by omega)
      have n2 := hn 2 (by omega) (by omega)
      have n3 := hn 3 (by omega) (by omega)
      unfold rPart
      rw [hkk]
      rcases (show pKindBy c = 0 ∨ (pKindBy c = 1 ∨ pKindBy c = 2) ∨ pKindBy c = 3 ∨ pKindBy c = 4 by omega) with q | q | q | q
      · left; exact ⟨q, fun j a b => by omega⟩
      · right; left; exact ⟨q, fun j a b => by omega, n2, n3⟩
      · right; right; left; exact ⟨q, fun a => by omega, fun a => by omega, fun a => by omega, n3⟩
      · right; right; right; exact ⟨q, fun a => by omega, n1, n2, n3⟩
  · rw [if_neg e1] at h ⊢
    have q6 := h6 e1
    have hpart := v2 e1
    by_cases e2 : pDone f t = true
    · rw [if_pos e2] at h ⊢
      simp only [decide_eq_true_eq] at h
      simp only [if_pos h]
      have hd : 0 < f 8 ∧ f 9 = pSigns (t 10 (f 8 - 1)) := of_decide_eq_true e2
      refine ⟨fun j j0 j1 j2 => ?_, fun q => absurd rfl q⟩
      replace j1 : j < f 8 := j1
      rcases (show j < f 8 - 1 ∨ j = f 8 - 1 by omega) with q | q
      · exact v1 j j0 j1 (Or.inl q)
      · rw [q]; exact hpart.ok hd.2
    · rw [if_neg e2] at h ⊢
      by_cases e3 : pFits f t c = true
      · rw [if_pos e3] at h ⊢
        have q7 := h7 q6
        have q8 := h8 q6
        have q10 : ¬ (0 < f 8 ∧ f 9 = pSigns (t 10 (f 8 - 1))) := fun q => e2 (decide_eq_true q)
        have hlt : f 9 < pSigns (t 10 (f 8 - 1)) := by omega
        have hsg := pSigns_r (t 10 (f 8 - 1))
        obtain ⟨i, hi⟩ : ∃ i, i = f 8 - 1 := ⟨_, rfl⟩
        rw [show 4 * f 8 - 4 + f 9 = 4 * i + f 9 by omega]
        have keep : ∀ q, q ≠ 4 * i + f 9 → upA (t 11) (4 * i + f 9) (pValue c) q = t 11 q := fun q hq => upA_n _ _ hq
        refine ⟨fun j j0 j1 j2 => ?_, fun _ => ?_⟩
        · replace j1 : j < f 8 := j1
          replace j2 : j < f 8 - 1 ∨ f 12 = 1 := j2
          exact rOk_congr (v1 j j0 j1 j2) rfl (keep _ (by omega)) (keep _ (by omega)) (keep _ (by omega)) (keep _ (by omega))
        · show rPart (t 10) (upA (t 11) (4 * i + f 9) (pValue c)) (f 8 - 1) (f 9 + 1)
          unfold pFits at e3
          rw [← hi] at hpart e3 hlt q7 ⊢
          rcases hpart with ⟨a, b⟩ | ⟨a, b, n2, n3⟩ | ⟨a, b1, b2, b3, n3⟩ | ⟨a, b, n1, n2, n3⟩
          · left
            refine ⟨a, fun j j0 j1 => ?_⟩
            by_cases e : j = f 9
            · rw [e, upA_s]
              rw [if_pos a] at e3
              simp only [ne_eq, decide_not, Bool.not_eq_true', decide_eq_false_iff_not] at e3
              unfold pValue at e3 ⊢
              split at e3 <;> (try split at e3) <;> omega
            · rw [keep _ (by omega)]; exact b j j0 (by omega)
          · right; left
            have hs2 : pSigns (t 10 i) = 2 := by unfold pSigns; rw [if_neg (by omega), if_neg (by omega), if_neg (by omega)]
            refine ⟨a, fun j j0 j1 => ?_, by rw [keep _ (by omega)]; exact n2, by rw [keep _ (by omega)]; exact n3⟩
            by_cases e : j = f 9
            · rw [e, upA_s]
              rw [if_neg (by omega), if_neg (by omega), if_neg (by omega)] at e3
              simp only [decide_eq_true_eq] at e3
              rw [pValue_d (by omega)]; omega
            · rw [keep _ (by omega)]; exact b j j0 (by omega)
          · right; right; left
            have hs3 : pSigns (t 10 i) = 3 := by unfold pSigns; rw [if_neg (by omega), if_pos a]
            rcases (show f 9 = 0 ∨ f 9 = 1 ∨ f 9 = 2 by omega) with e | e | e
            · rw [e] at keep ⊢
              rw [if_neg (by omega), if_neg (by omega), if_neg (by omega)] at e3
              simp only [decide_eq_true_eq] at e3
              refine ⟨a, fun _ => ?_, fun _ => by omega, fun _ => by omega, by rw [← e, upA_n _ _ (by omega)]; exact n3⟩
              rw [Int.add_zero, upA_s, pValue_d (by omega)]; omega
            · rw [e]
              rw [if_neg (by omega), if_pos ⟨a, e⟩] at e3
              simp only [decide_eq_true_eq] at e3
              refine ⟨a, fun _ => ?_, fun _ => ?_, fun _ => by omega, by rw [upA_n _ _ (by omega)]; exact n3⟩
              · rw [upA_n _ _ (by omega)]; exact b1 (by omega)
              · rw [upA_s, pValue_d (by omega)]; omega
            · rw [e]
              rw [if_neg (by omega), if_neg (by omega), if_pos ⟨a, e⟩] at e3
              simp only [decide_eq_true_eq] at e3
              refine ⟨a, fun _ => ?_, fun _ => ?_, fun _ => ?_, by rw [upA_n _ _ (by omega)]; exact n3⟩
              · rw [upA_n _ _ (by omega)]; exact b1 (by omega)
              · rw [upA_n _ _ (by omega)]; exact b2 (by omega)
              · rw [upA_s, pValue_d (by omega)]; omega
          · right; right; right
            have hs1 : pSigns (t 10 i) = 1 := by unfold pSigns; rw [if_neg (by omega), if_neg (by omega), if_pos a]
            have e : f 9 = 0 := by omega
            rw [if_neg (by omega), if_neg (by omega), if_neg (by omega)] at e3
            simp only [decide_eq_true_eq] at e3
            rw [e]
            refine ⟨a, fun _ => ?_, by rw [upA_n _ _ (by omega)]; exact n1, by rw [upA_n _ _ (by omega)]; exact n2, by rw [upA_n _ _ (by omega)]; exact n3⟩
            rw [Int.add_zero, upA_s, pValue_d (by omega)]; omega
      · rw [if_neg e3] at h
        cases h
theorem pRead_ok (pg : Int → Int) (len : Int) : ∀ (n : Nat) (k : Int) (f : Nat → Int) (t : Nat → Int → Int), pIn f t → pVal f t → len ≤ (pRead pg len n k f t).1 → pIn (pRead pg len n k f t).2.1 (pRead pg len n k f t).2.2 ∧ pVal (pRead pg len n k f t).2.1 (pRead pg len n k f t).2.2 := by
  intro n
  induction n with
  | zero => intro k f t h1 h2 _; exact ⟨h1, h2⟩
  | succ n ih =>
    intro k f t h1 h2 h3
    unfold pRead at h3 ⊢
    by_cases c : k < len
    · rw [if_pos c] at h3 ⊢
      by_cases e : (pTakes f t (pg k)).1 = true
      · rw [if_pos e] at h3 ⊢
        exact ih _ _ _ (pTakes_in h1 e) (pTakes_val h1 h2 e) h3
      · rw [if_neg e] at h3
        replace h3 : len ≤ k := h3
        omega
    · rw [if_neg c]; exact ⟨h1, h2⟩
theorem pRead_f (pg : Int → Int) (len : Int) {q : Nat} (q1 : q ≠ 8) (q2 : q ≠ 9) (q3 : q ≠ 12) : ∀ (n : Nat) (k : Int) (f : Nat → Int) (t : Nat → Int → Int), (pRead pg len n k f t).2.1 q = f q := by
  intro n
  induction n with
  | zero => intro k f t; rfl
  | succ n ih =>
    intro k f t
    unfold pRead
    split
    · split
      · rw [ih, pTakes_6 _ _ _ _ q1 q2 q3]
      · exact pTakes_6 _ _ _ _ q1 q2 q3
    · rfl
theorem pRead_t (pg : Int → Int) (len : Int) {q : Nat} (q1 : q ≠ 10) (q2 : q ≠ 11) : ∀ (n : Nat) (k : Int) (f : Nat → Int) (t : Nat → Int → Int), (pRead pg len n k f t).2.2 q = t q := by
  intro n
  induction n with
  | zero => intro k f t; rfl
  | succ n ih =>
    intro k f t
    unfold pRead
    split
    · split
      · rw [ih, pTakes_t _ _ _ _ q1 q2]
      · exact pTakes_t _ _ _ _ q1 q2
    · rfl
theorem pRead_r (pg : Int → Int) (len : Int) : ∀ (n : Nat) (k : Int) (f : Nat → Int) (t : Nat → Int → Int), k ≤ (pRead pg len n k f t).1 ∧ (pRead pg len n k f t).1 ≤ k + n := by
  intro n
  induction n with
  | zero => intro k f t; unfold pRead; dsimp only; omega
  | succ n ih =>
    intro k f t
    unfold pRead
    split
    · split
      · have := ih (k + 1) (pTakes f t (pg k)).2.1 (pTakes f t (pg k)).2.2; omega
      · dsimp only; omega
    · dsimp only; omega
theorem pStart_in (f : Nat → Int) (t : Nat → Int → Int) : pIn (pStart f) t ∧ pVal (pStart f) t := by
  refine ⟨?_, fun j j0 j1 => ?_, fun q => absurd rfl q⟩
  · refine ⟨?_, ?_, ?_, ?_, ?_, ?_, ?_, ?_⟩ <;> simp [pStart, upN]
  · replace j1 : j < 0 := j1
    omega
/-- the whole text read: how far, and what was laid -/
def pAll (f : Nat → Int) (t : Nat → Int → Int) : Int × (Nat → Int) × (Nat → Int → Int) := pRead (t 7) (f 6) 47 0 (pStart f) t
def bRows (f : Nat → Int) (t : Nat → Int → Int) : Bool := decide (f 6 ≤ (pAll f t).1 ∧ (pAll f t).2.1 12 ≠ 1 ∧ pDone (pAll f t).2.1 (pAll f t).2.2 = true)
def nRows (f : Nat → Int) (t : Nat → Int → Int) : Int := (pAll f t).2.1 8
def kRows (f : Nat → Int) (t : Nat → Int → Int) : Int → Int := pCp ((pAll f t).2.2 10) (t 1) (nRows f t)
def qRows (f : Nat → Int) (t : Nat → Int → Int) : Int → Int := pCp ((pAll f t).2.2 11) (t 2) (4 * nRows f t)
theorem bRows_ok {f : Nat → Int} {t : Nat → Int → Int} (h : f 6 ≤ (pAll f t).1) : pIn (pAll f t).2.1 (pAll f t).2.2 ∧ pVal (pAll f t).2.1 (pAll f t).2.2 := pRead_ok _ _ _ _ _ _ (pStart_in f t).1 (pStart_in f t).2 h
theorem rows_ok {f : Nat → Int} {t : Nat → Int → Int} (h : bRows f t = true) : (0 < nRows f t ∧ nRows f t ≤ 8) ∧ rsOk (kRows f t) (qRows f t) (nRows f t) := by
  have hb : f 6 ≤ (pAll f t).1 ∧ (pAll f t).2.1 12 ≠ 1 ∧ pDone (pAll f t).2.1 (pAll f t).2.2 = true := of_decide_eq_true h
  obtain ⟨hi, hv⟩ := bRows_ok hb.1
  have hd : 0 < (pAll f t).2.1 8 ∧ (pAll f t).2.1 9 = pSigns ((pAll f t).2.2 10 ((pAll f t).2.1 8 - 1)) := of_decide_eq_true hb.2.2
  refine ⟨⟨hd.1, hi.2.1⟩, fun j j0 j1 => ?_⟩
  have j1' : j < (pAll f t).2.1 8 := j1
  have hr : rOk ((pAll f t).2.2 10) ((pAll f t).2.2 11) j := by
    rcases (show j < (pAll f t).2.1 8 - 1 ∨ j = (pAll f t).2.1 8 - 1 by omega) with q | q
    · exact hv.1 j j0 j1' (Or.inl q)
    · rw [q]; exact (hv.2 hb.2.1).ok hd.2
  have cpk : ∀ q, 0 ≤ q → q < nRows f t → kRows f t q = (pAll f t).2.2 10 q := fun q a b => if_pos ⟨a, b⟩
  have cpq : ∀ q, 0 ≤ q → q < 4 * nRows f t → qRows f t q = (pAll f t).2.2 11 q := fun q a b => if_pos ⟨a, b⟩
  exact rOk_congr hr (cpk j j0 j1) (cpq _ (by omega) (by omega)) (cpq _ (by omega) (by omega)) (cpq _ (by omega) (by omega)) (cpq _ (by omega) (by omega))
section M13
variable (l : Launch) (X : Cx) (σ : Ms) (f : Nat → Int) (t : Nat → Int → Int)
/-- what is seen behind rows(), if it could be read -/
def mRows (f : Nat → Int) (t : Nat → Int → Int) (f' : Nat → Int) (t' : Nat → Int → Int) : Prop := f' 0 = nRows f t ∧ t' 1 = kRows f t ∧ t' 2 = qRows f t ∧ f' 3 = f 3 + 1 ∧ f' 6 = 0 ∧ (∀ k, k ∈ [4, 26, 27, 28] → f' k = f k) ∧ ∀ k, k ∈ [5, 7, 29, 30, 31] → t' k = t k
theorem MI.txt {c : Int} {f : Nat → Int} {t : Nat → Int → Int} (h : MI c f t) : MI c (pAll f t).2.1 (pAll f t).2.2 ∧ mSame f t (pAll f t).2.1 (pAll f t).2.2 := by
  have ef : ∀ q, q ≠ 8 → q ≠ 9 → q ≠ 12 → (pAll f t).2.1 q = f q := fun q q1 q2 q3 => by
    unfold pAll; rw [pRead_f _ _ q1 q2 q3]; unfold pStart; rw [upN_n _ _ q3, upN_n _ _ q2, upN_n _ _ q1]
  have et : ∀ q, q ≠ 10 → q ≠ 11 → (pAll f t).2.2 q = t q := fun q q1 q2 => pRead_t _ _ q1 q2 _ _ _ _
  generalize (pAll f t).2.1 = f' at *
  generalize (pAll f t).2.2 = t' at *
  have f0 := ef 0 (by decide) (by decide) (by decide)
  have f3 := ef 3 (by decide) (by decide) (by decide)
  have f4 := ef 4 (by decide) (by decide) (by decide)
  have f6 := ef 6 (by decide) (by decide) (by decide)
  have f13 := ef 13 (by decide) (by decide) (by decide)
  have f14 := ef 14 (by decide) (by decide) (by decide)
  have f26 := ef 26 (by decide) (by decide) (by decide)
  have f27 := ef 27 (by decide) (by decide) (by decide)
  have f28 := ef 28 (by decide) (by decide) (by decide)
  refine ⟨?_, fun k hk => ?_, fun k hk => ?_, fun j _ => by rw [et 2 (by decide) (by decide)]⟩
  · unfold MI KI tLaid rsLaid rRow at *
    rw [f0, f3, f4, f6, f13, f14, f26, f27, f28, et 1 (by decide) (by decide), et 2 (by decide) (by decide), et 5 (by decide) (by decide), et 7 (by decide) (by decide), et 15 (by decide) (by decide), et 16 (by decide) (by decide), et 17 (by decide) (by decide), et 18 (by decide) (by decide), et 29 (by decide) (by decide), et 30 (by decide) (by decide), et 31 (by decide) (by decide)]
    exact h
  · simp only [List.mem_cons, List.not_mem_nil, or_false] at hk
    exact ef k (by omega) (by omega) (by omega)
  · simp only [List.mem_cons, List.not_mem_nil, or_false] at hk
    exact et k (by omega) (by omega)
theorem MI.pg {c : Int} {f : Nat → Int} {t : Nat → Int → Int} (h : MI c f t) : (0 ≤ f 6 ∧ f 6 ≤ 47) ∧ ∀ k, 0 ≤ k → k < f 6 → r32 (t 7 k) := ⟨h.2.2.2.2.2.1, fun k k0 k1 => by have := h.2.2.2.2.2.2.1 k k0 k1; omega⟩
theorem m_faultQ (hm : mOk σ) (c : Int) (h : MI c f t) : Ct l X yX2_fault cX2_fault 1 (some .int) (rD 5) [.ref σ.1] (mH X σ f t) (pQ X σ c f t (.int (zI (pAll f t).1))) :=
  (m_fault l X σ f t hm h.pg.1 h.pg.2).mono (fun r hp q => ⟨q.1, _, _, q.2, h.txt⟩)
theorem m_rows (hm : mOk σ) (c : Int) (hc : c < 1000) (h : MI c f t) : Ct l X yX2_rows cX2_rows 2 (some .int) (rD 5) [.ref σ.1] (mH X σ f t) (fun r hp => r = some (.int (zI (if bRows f t then nRows f t else 2000000103))) ∧ ∃ f' t', hp = mH X σ f' t' ∧ MI (c + 1) f' t' ∧ (if bRows f t then mRows f t f' t' else mSame f t f' t')) := by
  have hup : ∀ f' t', MI c f' t' → MI (c + 1) f' t' := fun f' t' q => by
    obtain ⟨g1, g2, g3, g4, g5, g6, g7, g8, g9, g10⟩ := q
    refine ⟨g1, g2, by omega, g4, g5, g6, g7, g8, g9, ?_⟩
    rcases g10 with q | q
    · exact Or.inl q
    · exact Or.inr ⟨by omega, q.2⟩
  have hno : bRows f t = false → (fun (r : Option Value) hp => r = some (.int (zI (if bRows f t then nRows f t else 2000000103))) ∧ ∃ f' t', hp = mH X σ f' t' ∧ MI (c + 1) f' t' ∧ (if bRows f t then mRows f t f' t' else mSame f t f' t')) (some (.int (zI 2000000103))) (mH X σ (pAll f t).2.1 (pAll f t).2.2) := by
    intro hb
    rw [hb]
    exact ⟨rfl, _, _, rfl, hup _ _ h.txt.1, h.txt.2⟩
  have hS := h.txt.2
  have hR := pRead_r (t 7) (f 6) 47 0 (pStart f) t
  have hR : 0 ≤ (pAll f t).1 ∧ (pAll f t).1 ≤ 0 + (47 : Nat) := hR
  have hf6 := h.pg.1
  have hr3 := h.2.2.1
  have e6 : (pAll f t).2.1 6 = f 6 := hS.1 6 (by decide)
  have e3 : (pAll f t).2.1 3 = f 3 := hS.1 3 (by decide)
  have e1 : (pAll f t).2.2 1 = t 1 := hS.2.1 1 (by decide)
  have e2 : (pAll f t).2.2 2 = t 2 := pRead_t _ _ (by decide) (by decide) _ _ _ _
  refine Ct.of (by decide) (Nat.le_of_ble_eq_true rfl) (fun Γ M => ?_)
  refine j_lv (lv' := [(0, .ref σ.1)]) rfl ?_
  have loop2 : bRows f t = true → ∀ (w : Nat) (k : Int) (g : Int → Int), w = (4 * nRows f t - k).toNat → 0 ≤ k ∧ k ≤ 4 * nRows f t → g = pCp ((pAll f t).2.2 11) (t 2) k → J Γ (mH X σ (upN (pAll f t).2.1 0 (nRows f t)) (upN (upN (pAll f t).2.2 1 (kRows f t)) 2 g)) 0 0 66 [(0, .ref σ.1), (1, .int (zI k))] [] := by
    intro hb w
    have hok := rows_ok hb
    induction w using Nat.strongRecOn with
    | _ w ih =>
      intro k g hw hk hg
      refine j_iload_n M dX2_rows_66 1 rfl ?_
      refine j_iconst M dX2_rows_67 ?_
      refine j_aload_n M dX2_rows_68 0 rfl ?_
      refine m_get M 8 (by decide) q1250 rfl dX2_rows_69 ?_
      refine j_imul M dX2_rows_72 ?_
      refine j_icmp_ge M 94 dX2_rows_73 (by decide) (by show r32 k ∧ r32 (4 * nRows f t); omega) (fun c_73 => ?_) (fun c_73 => ?_)
      · replace c_73 : 4 * nRows f t ≤ k := c_73
        refine j_aload_n M dX2_rows_94 0 rfl ?_
        refine j_dup M dX2_rows_95 rfl ?_
        refine m_get M 3 (by decide) q1245 rfl dX2_rows_96 ?_
        refine j_iconst M dX2_rows_99 ?_
        refine j_iadd M dX2_rows_100 ?_
        refine m_put M 3 (by decide) q1245 dX2_rows_101 ?_
        refine j_aload_n M dX2_rows_104 0 rfl ?_
        refine j_iconst M dX2_rows_105 ?_
        refine m_put M 6 (by decide) q1248 dX2_rows_106 ?_
        refine j_aload_n M dX2_rows_109 0 rfl ?_
        refine j_rN (k_V M (m_changes l X σ _ _) (m_rc M) (lw_V q1394 q1396 qs42 q102 q1397) ndX2_changes dX2_rows_110 ⟨by decide, by decide, by decide, by decide⟩ rfl (Nat.le_of_ble_eq_true rfl)) ?_
        refine j_aload_n M dX2_rows_113 0 rfl ?_
        refine m_get M 0 (by decide) q1242 rfl dX2_rows_114 ?_
        refine j_iret M dX2_rows_117 ⟨Nat.le_refl _, Nat.le_refl _⟩ ?_
        rw [hb]
        refine ⟨rfl, _, _, rfl, ?_, ?_⟩
        · have hM := hup _ _ h.txt.1
          obtain ⟨g1, g2, g3, g4, g5, g6, g7, g8, g9, g10⟩ := hM
          have eg : g = qRows f t := by rw [hg, show k = 4 * nRows f t by omega]; rfl
          refine ⟨⟨by show 0 ≤ nRows f t; omega, hok.1.2⟩, by rw [eg]; exact hok.2, ?_, g4, g5, by show 0 ≤ (0 : Int) ∧ (0 : Int) ≤ 47; omega, fun q q0 q1 => by replace q1 : q < 0 := q1; omega, fun q => absurd (show (0 : Int) = 1 from q) (by decide), Or.inl rfl, g10⟩
          show 0 ≤ (pAll f t).2.1 3 + 1 ∧ (pAll f t).2.1 3 + 1 ≤ c + 1 ∧ c + 1 ≤ 1000
          omega
        · have eg : g = qRows f t := by rw [hg, show k = 4 * nRows f t by omega]; rfl
          refine ⟨rfl, rfl, eg, by show (pAll f t).2.1 3 + 1 = _; omega, rfl, fun q hq => ?_, fun q hq => ?_⟩
          · have hq' := hS.1 q (by simp only [List.mem_cons, List.not_mem_nil, or_false] at hq ⊢; omega)
            simp only [List.mem_cons, List.not_mem_nil, or_false] at hq
            rcases hq with rfl | rfl | rfl | rfl <;> exact hq'
          · have hq' := hS.2.1 q (by simp only [List.mem_cons, List.not_mem_nil, or_false] at hq ⊢; omega)
            simp only [List.mem_cons, List.not_mem_nil, or_false] at hq
            rcases hq with rfl | rfl | rfl | rfl | rfl <;> exact hq'
      · replace c_73 : k < 4 * nRows f t := c_73
        refine j_aload_n M dX2_rows_76 0 rfl ?_
        refine m_get M 2 (by decide) q1244 rfl dX2_rows_77 ?_
        refine j_iload_n M dX2_rows_80 1 rfl ?_
        refine j_aload_n M dX2_rows_81 0 rfl ?_
        refine m_get M 11 (by decide) q1253 rfl dX2_rows_82 ?_
        refine j_iload_n M dX2_rows_85 1 rfl ?_
        refine m_ald M hm (n := 32) 11 (by decide) rfl dX2_rows_86 (by omega) ?_
        try simp only [upN, reduceIte, Nat.reduceEqDiff]
        refine m_ast M hm (n := 36) 2 (by decide) (fun _ => rfl) dX2_rows_87 (by omega) ?_
        refine j_iinc M dX2_rows_88 1 rfl (by decide) ?_
        refine j_goto M 66 dX2_rows_91 (by decide) ?_
        simp only [upN_s, upN_uu]
        refine ih _ (by omega) (k + 1) _ rfl (by omega) ?_
        rw [hg]; funext j; simp only [upA, pCp]
        by_cases e : j = k
        · rw [if_pos e, if_pos (by omega), e]
        · rw [if_neg e]; by_cases e2 : 0 ≤ j ∧ j < k
          · rw [if_pos e2, if_pos (by omega)]
          · rw [if_neg e2, if_neg (by omega)]
  have loop1 : bRows f t = true → ∀ (w : Nat) (k : Int) (g : Int → Int), w = (nRows f t - k).toNat → 0 ≤ k ∧ k ≤ nRows f t → g = pCp ((pAll f t).2.2 10) (t 1) k → J Γ (mH X σ (upN (pAll f t).2.1 0 (nRows f t)) (upN (pAll f t).2.2 1 g)) 0 0 38 [(0, .ref σ.1), (1, .int (zI k))] [] := by
    intro hb w
    have hok := rows_ok hb
    induction w using Nat.strongRecOn with
    | _ w ih =>
      intro k g hw hk hg
      refine j_iload_n M dX2_rows_38 1 rfl ?_
      refine j_aload_n M dX2_rows_39 0 rfl ?_
      refine m_get M 8 (by decide) q1250 rfl dX2_rows_40 ?_
      refine j_icmp_ge M 64 dX2_rows_43 (by decide) (by show r32 k ∧ r32 (nRows f t); omega) (fun c_43 => ?_) (fun c_43 => ?_)
      · replace c_43 : nRows f t ≤ k := c_43
        refine j_iconst M dX2_rows_64 ?_
        refine j_istore_n M dX2_rows_65 (by decide) ?_
        have eg : g = kRows f t := by rw [hg, show k = nRows f t by omega]; rfl
        refine j_hp (hp' := mH X σ (upN (pAll f t).2.1 0 (nRows f t)) (upN (upN (pAll f t).2.2 1 (kRows f t)) 2 (t 2))) ?_ (loop2 hb _ 0 (t 2) rfl (by omega) ?_)
        · rw [eg, ← e2]; congr 1; exact (upN_id (upN (pAll f t).2.2 1 (kRows f t)) 2).symm
        · funext j; unfold pCp; rw [if_neg (by omega)]
      · replace c_43 : k < nRows f t := c_43
        refine j_aload_n M dX2_rows_46 0 rfl ?_
        refine m_get M 1 (by decide) q1243 rfl dX2_rows_47 ?_
        refine j_iload_n M dX2_rows_50 1 rfl ?_
        refine j_aload_n M dX2_rows_51 0 rfl ?_
        refine m_get M 10 (by decide) q1252 rfl dX2_rows_52 ?_
        refine j_iload_n M dX2_rows_55 1 rfl ?_
        refine m_ald M hm (n := 8) 10 (by decide) rfl dX2_rows_56 (by omega) ?_
        try simp only [upN, reduceIte, Nat.reduceEqDiff]
        refine m_ast M hm (n := 9) 1 (by decide) (fun _ => rfl) dX2_rows_57 (by omega) ?_
        refine j_iinc M dX2_rows_58 1 rfl (by decide) ?_
        refine j_goto M 38 dX2_rows_61 (by decide) ?_
        simp only [upN_s, upN_uu]
        refine ih _ (by omega) (k + 1) _ rfl (by omega) ?_
        rw [hg]; funext j; simp only [upA, pCp]
        by_cases e : j = k
        · rw [if_pos e, if_pos (by omega), e]
        · rw [if_neg e]; by_cases e2 : 0 ≤ j ∧ j < k
          · rw [if_pos e2, if_pos (by omega)]
          · rw [if_neg e2, if_neg (by omega)]
  refine j_aload_n M dX2_rows_0 0 rfl ?_
  refine j_rV (k_V M (m_read l X σ f t hm h.pg.1 h.pg.2) (m_rc M) (lw_V q1360 q1362 qs37 q102 q1363) ndX2_read dX2_rows_1 ⟨by decide, by decide, by decide, by decide⟩ rfl (Nat.le_of_ble_eq_true rfl)) ?_
  show J Γ (mH X σ (pAll f t).2.1 (pAll f t).2.2) _ _ _ _ [.int (zI (pAll f t).1)]
  refine j_aload_n M dX2_rows_4 0 rfl ?_
  refine m_get M 6 (by decide) q1248 rfl dX2_rows_5 ?_
  refine j_icmp_lt M 25 dX2_rows_8 (by decide) (by rw [e6]; omega) (fun c_8 => ?_) (fun c_8 => ?_)
  · rw [e6] at c_8
    refine j_ldc M (2000000103) q1393 (by decide) dX2_rows_25 ?_
    refine j_iret M dX2_rows_27 ⟨Nat.le_refl _, Nat.le_refl _⟩ ?_
    exact hno (decide_eq_false (by omega))
  · rw [e6] at c_8
    obtain ⟨hin, hval⟩ := bRows_ok (f := f) (t := t) (by omega)
    refine j_aload_n M dX2_rows_11 0 rfl ?_
    refine m_get M 12 (by decide) q1254 rfl dX2_rows_12 ?_
    refine j_ifneB M 25 dX2_rows_15 (by decide) (fun c_15 => ?_) (fun c_15 => ?_)
    · simp only [decide_eq_true_eq] at c_15
      refine j_ldc M (2000000103) q1393 (by decide) dX2_rows_25 ?_
      refine j_iret M dX2_rows_27 ⟨Nat.le_refl _, Nat.le_refl _⟩ ?_
      exact hno (decide_eq_false (fun q => q.2.1 c_15))
    · simp only [decide_eq_false_iff_not] at c_15
      refine j_aload_n M dX2_rows_18 0 rfl ?_
      refine j_rV (k_V M (m_isDone l X σ _ _ hm ⟨hin.1, hin.2.1⟩ (by have := hin.2.2.1; have := hin.2.2.2.1; omega) (fun q => by have := hin.2.2.2.2.2.2.1 q; omega)) (m_rc M) (lw_V q1375 q1377 qs40 q102 q1378) ndX2_isDone dX2_rows_19 ⟨by decide, by decide, by decide, by decide⟩ rfl (Nat.le_of_ble_eq_true rfl)) ?_
      refine j_ifneB M 28 dX2_rows_22 (by decide) (fun c_22 => ?_) (fun c_22 => ?_)
      · refine j_aload_n M dX2_rows_28 0 rfl ?_
        refine j_aload_n M dX2_rows_29 0 rfl ?_
        refine m_get M 8 (by decide) q1250 rfl dX2_rows_30 ?_
        refine m_put M 0 (by decide) q1242 dX2_rows_33 ?_
        refine j_iconst M dX2_rows_36 ?_
        refine j_istore_n M dX2_rows_37 (by decide) ?_
        refine j_hp (hp' := mH X σ (upN (pAll f t).2.1 0 (nRows f t)) (upN (pAll f t).2.2 1 (t 1))) ?_ (loop1 (decide_eq_true ⟨by omega, c_15, c_22⟩) _ 0 (t 1) rfl ?_ ?_)
        · rw [← e1, upN_id]; rfl
        · have := (rows_ok (f := f) (t := t) (decide_eq_true ⟨by omega, c_15, c_22⟩)).1; omega
        · funext j; unfold pCp; rw [if_neg (by omega)]
      · refine j_ldc M (2000000103) q1393 (by decide) dX2_rows_25 ?_
        refine j_iret M dX2_rows_27 ⟨Nat.le_refl _, Nat.le_refl _⟩ ?_
        exact hno (decide_eq_false (fun q => by rw [c_22] at q; exact absurd q.2.2 (by decide)))
end M13
