/-! 24: the reference: what it keeps; what is asked of rows -/
set_option maxRecDepth 100000
def KI (c : Int) (f : Nat → Int) (t : Nat → Int → Int) : Prop := f 26 = 2000000001 ∨ ((0 ≤ f 26 ∧ f 26 ≤ c) ∧ (0 ≤ f 27 ∧ f 27 ≤ 8) ∧ rsOk (t 29) (t 30) (f 27) ∧ (0 ≤ f 28 ∧ f 28 ≤ 8) ∧ ∀ k, 0 ≤ k → k < 8 → -99 ≤ t 31 k ∧ t 31 k ≤ 99)
/-- what the reference keeps between calls; c: how many texts were read at most -/
def MI (c : Int) (f : Nat → Int) (t : Nat → Int → Int) : Prop := (0 ≤ f 0 ∧ f 0 ≤ 8) ∧ rsOk (t 1) (t 2) (f 0) ∧ (0 ≤ f 3 ∧ f 3 ≤ c ∧ c ≤ 1000) ∧ (0 ≤ f 4 ∧ f 4 ≤ 8) ∧ (∀ k, 0 ≤ k → k < 8 → -99 ≤ t 5 k ∧ t 5 k ≤ 99) ∧ (0 ≤ f 6 ∧ f 6 ≤ 47) ∧ (∀ k, 0 ≤ k → k < f 6 → 32 ≤ t 7 k ∧ t 7 k ≤ 126)
  ∧ (f 13 = 1 → tLaid t (201 * f 0)) ∧ (f 14 = 0 ∨ (2 ≤ f 14 ∧ f 14 ≤ 10 ∧ rsLaid (f 14) t (f 0))) ∧ KI c f t
theorem MI.n {c : Int} {f : Nat → Int} {t : Nat → Int → Int} (h : MI c f t) : 0 ≤ f 0 ∧ f 0 ≤ 8 := h.1
theorem MI.ok {c : Int} {f : Nat → Int} {t : Nat → Int → Int} (h : MI c f t) : rsOk (t 1) (t 2) (f 0) := h.2.1
theorem MI.tl {c : Int} {f : Nat → Int} {t : Nat → Int → Int} (h : MI c f t) : f 13 = 1 → tLaid t (201 * f 0) := h.2.2.2.2.2.2.2.1
theorem MI.rl {c : Int} {f : Nat → Int} {t : Nat → Int → Int} (h : MI c f t) : f 14 = 0 ∨ (2 ≤ f 14 ∧ f 14 ≤ 10 ∧ rsLaid (f 14) t (f 0)) := h.2.2.2.2.2.2.2.2.1
/-- what is seen from outside is the same -/
def mSame (f : Nat → Int) (t : Nat → Int → Int) (f' : Nat → Int) (t' : Nat → Int → Int) : Prop := (∀ k, k ∈ [0, 3, 4, 6, 26, 27, 28, 32] → f' k = f k) ∧ (∀ k, k ∈ [1, 5, 7, 29, 30, 31] → t' k = t k) ∧ ∀ j, j < 32 → t' 2 j = t 2 j
theorem mSame.rfl {f : Nat → Int} {t : Nat → Int → Int} : mSame f t f t := ⟨fun _ _ => Eq.refl _, fun _ _ => Eq.refl _, fun _ _ => Eq.refl _⟩
theorem mSame.tr {f f1 f2 : Nat → Int} {t t1 t2 : Nat → Int → Int} (a : mSame f t f1 t1) (b : mSame f1 t1 f2 t2) : mSame f t f2 t2 := ⟨fun k h => (b.1 k h).trans (a.1 k h), fun k h => (b.2.1 k h).trans (a.2.1 k h), fun k h => (b.2.2 k h).trans (a.2.2 k h)⟩
theorem MI.terms {c : Int} {f : Nat → Int} {t : Nat → Int → Int} {g : Int → Int} (h : MI c f t) (hg : tLaid (upN t 15 g) (201 * f 0)) : MI c (upN f 13 1) (upN t 15 g) ∧ mSame f t (upN f 13 1) (upN t 15 g) := by
  obtain ⟨h1, h2, h3, h4, h5, h6, h7, h8, h9, h10⟩ := h
  refine ⟨⟨h1, h2, h3, h4, h5, h6, h7, fun _ => hg, h9, h10⟩, ?_, ?_, fun _ _ => Eq.refl _⟩
  · intro k hk
    simp only [List.mem_cons, List.not_mem_nil, or_false] at hk
    exact upN_n _ _ (by omega)
  · intro k hk
    simp only [List.mem_cons, List.not_mem_nil, or_false] at hk
    exact upN_n _ _ (by omega)
theorem MI.rests {c m : Int} {f : Nat → Int} {t t' : Nat → Int → Int} (h : MI c f t) (hm : 2 ≤ m ∧ m ≤ 10) (hk : rKeep t t') (hL : rsLaid m t' (f 0)) : MI c (upN f 14 m) t' ∧ mSame f t (upN f 14 m) t' := by
  obtain ⟨h1, h2, h3, h4, h5, h6, h7, h8, h9, h10⟩ := h
  have e : ∀ k, k ≠ 16 → k ≠ 17 → k ≠ 18 → k ≠ 19 → t' k = t k := hk
  have e1 := e 1 (by decide) (by decide) (by decide) (by decide)
  have e2 := e 2 (by decide) (by decide) (by decide) (by decide)
  have e5 := e 5 (by decide) (by decide) (by decide) (by decide)
  have e7 := e 7 (by decide) (by decide) (by decide) (by decide)
  have e15 := e 15 (by decide) (by decide) (by decide) (by decide)
  have e29 := e 29 (by decide) (by decide) (by decide) (by decide)
  have e30 := e 30 (by decide) (by decide) (by decide) (by decide)
  have e31 := e 31 (by decide) (by decide) (by decide) (by decide)
  refine ⟨⟨h1, by rw [e1, e2]; exact h2, h3, h4, by rw [e5]; exact h5, h6, by rw [e7]; exact h7, ?_, Or.inr ⟨hm.1, hm.2, hL⟩, ?_⟩, ?_, ?_, fun _ _ => by rw [e2]⟩
  · intro q
    have := h8 q
    unfold tLaid at *
    rw [e1, e2, e15]
    exact this
  · unfold KI at *
    rw [e29, e30, e31]
    exact h10
  · intro k hk
    simp only [List.mem_cons, List.not_mem_nil, or_false] at hk
    exact upN_n _ _ (by omega)
  · intro k hk
    simp only [List.mem_cons, List.not_mem_nil, or_false] at hk
    exact e k (by omega) (by omega) (by omega) (by omega)
/-- an answer, and nothing else seen -/
def pQ (X : Cx) (σ : Ms) (c : Int) (f : Nat → Int) (t : Nat → Int → Int) (v : Value) : Option Value → Hp → Prop := fun r hp => r = some v ∧ ∃ f' t', hp = mH X σ f' t' ∧ MI c f' t' ∧ mSame f t f' t'
theorem pQ.of {X : Cx} {σ : Ms} {c : Int} {f : Nat → Int} {t : Nat → Int → Int} {v : Value} (h : MI c f t) : pQ X σ c f t v (some v) (mH X σ f t) := ⟨Eq.refl _, f, t, Eq.refl _, h, mSame.rfl⟩
section M5
variable (l : Launch) (X : Cx) (σ : Ms) (f : Nat → Int) (t : Nat → Int → Int)
theorem m_isRow (i : Int) (hi : r32 i) (h0 : 0 ≤ f 0 ∧ f 0 ≤ 8) : CM l X σ yX2_isRow cX2_isRow 2 (some .boolean) 1 [.int (zI i)] f t (some (.int (zB (decide (0 ≤ i ∧ i ≤ f 0 - 1))))) f t := by
  refine Ct.of (by decide) (Nat.le_of_ble_eq_true rfl) (fun Γ M => ?_)
  refine j_lv (lv' := [(0, .ref σ.1), (1, .int (zI i))]) rfl ?_
  refine j_iload_n M dX2_isRow_0 1 rfl ?_
  refine j_iconst M dX2_isRow_1 ?_
  refine j_aload_n M dX2_isRow_2 0 rfl ?_
  refine m_get M 0 (by decide) q1242 rfl dX2_isRow_3 ?_
  refine j_iconst M dX2_isRow_6 ?_
  refine j_isub M dX2_isRow_7 ?_
  refine j_rV (k_S M (m_within l X _ _ _ _ (by omega)) (lw_S q1347 q1348 q102 q1349) ndX2_within dX2_isRow_8 ⟨by decide, by decide, by decide, by decide⟩ rfl (Nat.le_of_ble_eq_true rfl)) ?_
  refine j_zret M dX2_isRow_11 ⟨Nat.le_refl _, Nat.le_refl _⟩ ?_
  exact ⟨rfl, rfl⟩
def vRow (n : Int) (K P : Int → Int) (i w : Int) : Int := if 0 ≤ i ∧ i ≤ n - 1 then (if 0 ≤ w ∧ w ≤ 4 then (if w = 0 then K i else P (4 * i + w - 1)) else 2000000102) else 2000000101
theorem m_row (hm : mOk σ) (c i w : Int) (hi : r32 i) (hw : r32 w) (h : MI c f t) : Ct l X yX2_row cX2_row 3 (some .int) (rD 2) [.ref σ.1, .int (zI i), .int (zI w)] (mH X σ f t) (pQ X σ c f t (.int (zI (vRow (f 0) (t 1) (t 2) i w)))) := by
  have h0 := h.n
  refine Ct.of (by decide) (Nat.le_of_ble_eq_true rfl) (fun Γ M => ?_)
  refine j_lv (lv' := [(0, .ref σ.1), (1, .int (zI i)), (2, .int (zI w))]) rfl ?_
  refine j_aload_n M dX2_row_0 0 rfl ?_
  refine j_iload_n M dX2_row_1 1 rfl ?_
  refine j_rV (k_V M (m_isRow l X σ f t i hi h0) (m_rc M) (lw_V q1402 q1404 qs43 q102 q1405) ndX2_isRow dX2_row_2 ⟨by decide, by decide, by decide, by decide⟩ rfl (Nat.le_of_ble_eq_true rfl)) ?_
  refine j_ifneB M 11 dX2_row_5 (by decide) (fun c_5 => ?_) (fun c_5 => ?_)
  · simp only [decide_eq_true_eq] at c_5
    refine j_iload_n M dX2_row_11 2 rfl ?_
    refine j_iconst M dX2_row_12 ?_
    refine j_iconst M dX2_row_13 ?_
    refine j_rV (k_S M (m_within l X _ _ _ _ (by omega)) (lw_S q1347 q1348 q102 q1349) ndX2_within dX2_row_14 ⟨by decide, by decide, by decide, by decide⟩ rfl (Nat.le_of_ble_eq_true rfl)) ?_
    refine j_ifneB M 23 dX2_row_17 (by decide) (fun c_17 => ?_) (fun c_17 => ?_)
    · simp only [decide_eq_true_eq] at c_17
      refine j_iload_n M dX2_row_23 2 rfl ?_
      refine j_if_ne M 36 dX2_row_24 (by decide) (by omega) (fun c_24 => ?_) (fun c_24 => ?_)
      · refine j_aload_n M dX2_row_36 0 rfl ?_
        refine m_get M 2 (by decide) q1244 rfl dX2_row_37 ?_
        refine j_iconst M dX2_row_40 ?_
        refine j_iload_n M dX2_row_41 1 rfl ?_
        refine j_imul M dX2_row_42 ?_
        refine j_iload_n M dX2_row_43 2 rfl ?_
        refine j_iadd M dX2_row_44 ?_
        refine j_iconst M dX2_row_45 ?_
        refine j_isub M dX2_row_46 ?_
        refine m_ald M hm (n := 36) 2 (by decide) rfl dX2_row_47 (by omega) ?_
        refine j_iret M dX2_row_48 ⟨Nat.le_refl _, Nat.le_refl _⟩ ?_
        unfold vRow; rw [if_pos c_5, if_pos c_17, if_neg c_24]; exact pQ.of h
      · refine j_aload_n M dX2_row_27 0 rfl ?_
        refine m_get M 1 (by decide) q1243 rfl dX2_row_28 ?_
        refine j_iload_n M dX2_row_31 1 rfl ?_
        refine m_ald M hm (n := 9) 1 (by decide) rfl dX2_row_32 (by omega) ?_
        refine j_goto M 48 dX2_row_33 (by decide) ?_
        refine j_iret M dX2_row_48 ⟨Nat.le_refl _, Nat.le_refl _⟩ ?_
        unfold vRow; rw [if_pos c_5, if_pos c_17, if_pos c_24]; exact pQ.of h
    · simp only [decide_eq_false_iff_not] at c_17
      refine j_ldc M (2000000102) q1350 (by decide) dX2_row_20 ?_
      refine j_iret M dX2_row_22 ⟨Nat.le_refl _, Nat.le_refl _⟩ ?_
      unfold vRow; rw [if_pos c_5, if_neg c_17]; exact pQ.of h
  · simp only [decide_eq_false_iff_not] at c_5
    refine j_ldc M (2000000101) q1406 (by decide) dX2_row_8 ?_
    refine j_iret M dX2_row_10 ⟨Nat.le_refl _, Nat.le_refl _⟩ ?_
    unfold vRow; rw [if_neg c_5]; exact pQ.of h
def vSuch (k a : Int) : Bool := if a = 5 then decide (k = 1 ∨ k = 2) else if a = 6 then decide (k = 3 ∨ k = 4) else decide (k = a)
theorem m_isSuch (hp : Hp) (k a : Int) (hk : r32 k) (ha : r32 a) : CS l X yX2_isSuch cX2_isSuch 2 (some .boolean) 0 [.int (zI k), .int (zI a)] hp (some (.int (zB (vSuch k a)))) := by
  refine Ct.of (by decide) (Nat.le_of_ble_eq_true rfl) (fun Γ M => ?_)
  refine j_lv (lv' := [(0, .int (zI k)), (1, .int (zI a))]) rfl ?_
  refine j_iload_n M dX2_isSuch_0 1 rfl ?_
  refine j_iconst M dX2_isSuch_1 ?_
  refine j_icmp_ne M 23 dX2_isSuch_2 (by decide) (by omega) (fun c_2 => ?_) (fun c_2 => ?_)
  · refine j_iload_n M dX2_isSuch_23 1 rfl ?_
    refine j_bipush M dX2_isSuch_24 (by decide) ?_
    refine j_icmp_ne M 47 dX2_isSuch_26 (by decide) (by omega) (fun c_26 => ?_) (fun c_26 => ?_)
    · refine j_iload_n M dX2_isSuch_47 0 rfl ?_
      refine j_iload_n M dX2_isSuch_48 1 rfl ?_
      refine j_icmp_ne M 56 dX2_isSuch_49 (by decide) (by omega) (fun c_49 => ?_) (fun c_49 => ?_)
      · refine j_iconst M dX2_isSuch_56 ?_
        refine j_bool false rfl ?_
        refine j_zret M dX2_isSuch_57 ⟨Nat.le_refl _, Nat.le_refl _⟩ ?_
        exact ⟨by unfold vSuch; simp [*], rfl⟩
      · refine j_iconst M dX2_isSuch_52 ?_
        refine j_goto M 57 dX2_isSuch_53 (by decide) ?_
        refine j_bool true rfl ?_
        refine j_zret M dX2_isSuch_57 ⟨Nat.le_refl _, Nat.le_refl _⟩ ?_
        exact ⟨by unfold vSuch; simp [*], rfl⟩
    · refine j_iload_n M dX2_isSuch_29 0 rfl ?_
      refine j_iconst M dX2_isSuch_30 ?_
      refine j_icmp_eq M 39 dX2_isSuch_31 (by decide) (by omega) (fun c_31 => ?_) (fun c_31 => ?_)
      · refine j_iconst M dX2_isSuch_39 ?_
        refine j_goto M 57 dX2_isSuch_40 (by decide) ?_
        refine j_bool true rfl ?_
        refine j_zret M dX2_isSuch_57 ⟨Nat.le_refl _, Nat.le_refl _⟩ ?_
        exact ⟨by unfold vSuch; simp [*], rfl⟩
      · refine j_iload_n M dX2_isSuch_34 0 rfl ?_
        refine j_iconst M dX2_isSuch_35 ?_
        refine j_icmp_ne M 43 dX2_isSuch_36 (by decide) (by omega) (fun c_36 => ?_) (fun c_36 => ?_)
        · refine j_iconst M dX2_isSuch_43 ?_
          refine j_goto M 57 dX2_isSuch_44 (by decide) ?_
          refine j_bool false rfl ?_
          refine j_zret M dX2_isSuch_57 ⟨Nat.le_refl _, Nat.le_refl _⟩ ?_
          exact ⟨by unfold vSuch; simp [*], rfl⟩
        · refine j_iconst M dX2_isSuch_39 ?_
          refine j_goto M 57 dX2_isSuch_40 (by decide) ?_
          refine j_bool true rfl ?_
          refine j_zret M dX2_isSuch_57 ⟨Nat.le_refl _, Nat.le_refl _⟩ ?_
          exact ⟨by unfold vSuch; simp [*], rfl⟩
  · refine j_iload_n M dX2_isSuch_5 0 rfl ?_
    refine j_iconst M dX2_isSuch_6 ?_
    refine j_icmp_eq M 15 dX2_isSuch_7 (by decide) (by omega) (fun c_7 => ?_) (fun c_7 => ?_)
    · refine j_iconst M dX2_isSuch_15 ?_
      refine j_goto M 57 dX2_isSuch_16 (by decide) ?_
      refine j_bool true rfl ?_
      refine j_zret M dX2_isSuch_57 ⟨Nat.le_refl _, Nat.le_refl _⟩ ?_
      exact ⟨by unfold vSuch; simp [*], rfl⟩
    · refine j_iload_n M dX2_isSuch_10 0 rfl ?_
      refine j_iconst M dX2_isSuch_11 ?_
      refine j_icmp_ne M 19 dX2_isSuch_12 (by decide) (by omega) (fun c_12 => ?_) (fun c_12 => ?_)
      · refine j_iconst M dX2_isSuch_19 ?_
        refine j_goto M 57 dX2_isSuch_20 (by decide) ?_
        refine j_bool false rfl ?_
        refine j_zret M dX2_isSuch_57 ⟨Nat.le_refl _, Nat.le_refl _⟩ ?_
        exact ⟨by unfold vSuch; simp [*], rfl⟩
      · refine j_iconst M dX2_isSuch_15 ?_
        refine j_goto M 57 dX2_isSuch_16 (by decide) ?_
        refine j_bool true rfl ?_
        refine j_zret M dX2_isSuch_57 ⟨Nat.le_refl _, Nat.le_refl _⟩ ?_
        exact ⟨by unfold vSuch; simp [*], rfl⟩
def vAs (n : Int) (K : Int → Int) (i a : Int) : Int := if 0 ≤ i ∧ i ≤ n - 1 then (if 0 ≤ a ∧ a ≤ 6 then (if vSuch (K i) a then K i else 2000000001) else 2000000102) else 2000000101
theorem m_as (hm : mOk σ) (c i a : Int) (hi : r32 i) (ha : r32 a) (h : MI c f t) : Ct l X yX2_as cX2_as 3 (some .int) (rD 2) [.ref σ.1, .int (zI i), .int (zI a)] (mH X σ f t) (pQ X σ c f t (.int (zI (vAs (f 0) (t 1) i a)))) := by
  have h0 := h.n
  refine Ct.of (by decide) (Nat.le_of_ble_eq_true rfl) (fun Γ M => ?_)
  refine j_lv (lv' := [(0, .ref σ.1), (1, .int (zI i)), (2, .int (zI a))]) rfl ?_
  refine j_aload_n M dX2_as_0 0 rfl ?_
  refine j_iload_n M dX2_as_1 1 rfl ?_
  refine j_rV (k_V M (m_isRow l X σ f t i hi h0) (m_rc M) (lw_V q1402 q1404 qs43 q102 q1405) ndX2_isRow dX2_as_2 ⟨by decide, by decide, by decide, by decide⟩ rfl (Nat.le_of_ble_eq_true rfl)) ?_
  refine j_ifneB M 11 dX2_as_5 (by decide) (fun c_5 => ?_) (fun c_5 => ?_)
  · simp only [decide_eq_true_eq] at c_5
    have hk := rOk_k (h.ok i c_5.1 (by omega))
    refine j_iload_n M dX2_as_11 2 rfl ?_
    refine j_iconst M dX2_as_12 ?_
    refine j_bipush M dX2_as_13 (by decide) ?_
    refine j_rV (k_S M (m_within l X _ _ _ _ (by omega)) (lw_S q1347 q1348 q102 q1349) ndX2_within dX2_as_15 ⟨by decide, by decide, by decide, by decide⟩ rfl (Nat.le_of_ble_eq_true rfl)) ?_
    refine j_ifneB M 26 dX2_as_18 (by decide) (fun c_18 => ?_) (fun c_18 => ?_)
    · simp only [decide_eq_true_eq] at c_18
      refine j_aload_n M dX2_as_26 0 rfl ?_
      refine m_get M 1 (by decide) q1243 rfl dX2_as_27 ?_
      refine j_iload_n M dX2_as_30 1 rfl ?_
      refine m_ald M hm (n := 9) 1 (by decide) rfl dX2_as_31 (by omega) ?_
      refine j_iload_n M dX2_as_32 2 rfl ?_
      refine j_rV (k_S M (m_isSuch l X _ _ _ (by omega) ha) (lw_S q1411 q1412 q102 q1413) ndX2_isSuch dX2_as_33 ⟨by decide, by decide, by decide, by decide⟩ rfl (Nat.le_of_ble_eq_true rfl)) ?_
      refine j_ifeqB M 48 dX2_as_36 (by decide) (fun c_36 => ?_) (fun c_36 => ?_)
      · refine j_ldc M (2000000001) q1241 (by decide) dX2_as_48 ?_
        refine j_iret M dX2_as_50 ⟨Nat.le_refl _, Nat.le_refl _⟩ ?_
        unfold vAs; rw [if_pos c_5, if_pos c_18, c_36]; exact pQ.of h
      · refine j_aload_n M dX2_as_39 0 rfl ?_
        refine m_get M 1 (by decide) q1243 rfl dX2_as_40 ?_
        refine j_iload_n M dX2_as_43 1 rfl ?_
        refine m_ald M hm (n := 9) 1 (by decide) rfl dX2_as_44 (by omega) ?_
        refine j_goto M 50 dX2_as_45 (by decide) ?_
        refine j_iret M dX2_as_50 ⟨Nat.le_refl _, Nat.le_refl _⟩ ?_
        unfold vAs; rw [if_pos c_5, if_pos c_18, c_36]; exact pQ.of h
    · simp only [decide_eq_false_iff_not] at c_18
      refine j_ldc M (2000000102) q1350 (by decide) dX2_as_21 ?_
      refine j_goto M 50 dX2_as_23 (by decide) ?_
      refine j_iret M dX2_as_50 ⟨Nat.le_refl _, Nat.le_refl _⟩ ?_
      unfold vAs; rw [if_pos c_5, if_neg c_18]; exact pQ.of h
  · simp only [decide_eq_false_iff_not] at c_5
    refine j_ldc M (2000000101) q1406 (by decide) dX2_as_8 ?_
    refine j_iret M dX2_as_10 ⟨Nat.le_refl _, Nat.le_refl _⟩ ?_
    unfold vAs; rw [if_neg c_5]; exact pQ.of h
def vTerm (n : Int) (K P : Int → Int) (i k : Int) : Int := if 0 ≤ i ∧ i ≤ n - 1 then (if 0 ≤ k ∧ k ≤ 200 then pTerm K P i k else 2000000102) else 2000000101
theorem m_term (hm : mOk σ) (c i k : Int) (hi : r32 i) (hk : r32 k) (h : MI c f t) : Ct l X yX2_term cX2_term 3 (some .int) (rD 5) [.ref σ.1, .int (zI i), .int (zI k)] (mH X σ f t) (pQ X σ c f t (.int (zI (vTerm (f 0) (t 1) (t 2) i k)))) := by
  have h0 := h.n
  refine Ct.of (by decide) (Nat.le_of_ble_eq_true rfl) (fun Γ M => ?_)
  refine j_lv (lv' := [(0, .ref σ.1), (1, .int (zI i)), (2, .int (zI k))]) rfl ?_
  refine j_aload_n M dX2_term_0 0 rfl ?_
  refine j_iload_n M dX2_term_1 1 rfl ?_
  refine j_rV (k_V M (m_isRow l X σ f t i hi h0) (m_rc M) (lw_V q1402 q1404 qs43 q102 q1405) ndX2_isRow dX2_term_2 ⟨by decide, by decide, by decide, by decide⟩ rfl (Nat.le_of_ble_eq_true rfl)) ?_
  refine j_ifneB M 11 dX2_term_5 (by decide) (fun c_5 => ?_) (fun c_5 => ?_)
  · simp only [decide_eq_true_eq] at c_5
    refine j_iload_n M dX2_term_11 2 rfl ?_
    refine j_iconst M dX2_term_12 ?_
    refine j_sipush M dX2_term_13 (by decide) ?_
    refine j_rV (k_S M (m_within l X _ _ _ _ (by omega)) (lw_S q1347 q1348 q102 q1349) ndX2_within dX2_term_16 ⟨by decide, by decide, by decide, by decide⟩ rfl (Nat.le_of_ble_eq_true rfl)) ?_
    refine j_ifeqB M 31 dX2_term_19 (by decide) (fun c_19 => ?_) (fun c_19 => ?_)
    · simp only [decide_eq_false_iff_not] at c_19
      refine j_ldc M (2000000102) q1350 (by decide) dX2_term_31 ?_
      refine j_iret M dX2_term_33 ⟨Nat.le_refl _, Nat.le_refl _⟩ ?_
      unfold vTerm; rw [if_pos c_5, if_neg c_19]; exact pQ.of h
    · simp only [decide_eq_true_eq] at c_19
      refine j_aload_n M dX2_term_22 0 rfl ?_
      refine j_iload_n M dX2_term_23 1 rfl ?_
      refine j_iload_n M dX2_term_24 2 rfl ?_
      refine j_run (k_V M (m_termOf l X σ f t hm i k (by omega) c_19 h0 h.ok h.tl) (m_rc M) (lw_V q1418 q1420 qs44 q102 q1421) ndX2_termOf dX2_term_25 ⟨by decide, by decide, by decide, by decide⟩ rfl (Nat.le_of_ble_eq_true rfl)) (fun r_25 hp_25 hq_25 => ?_)
      obtain ⟨rfl, g, rfl, hg⟩ := hq_25
      refine j_goto M 33 dX2_term_28 (by decide) ?_
      refine j_iret M dX2_term_33 ⟨Nat.le_refl _, Nat.le_refl _⟩ ?_
      unfold vTerm; rw [if_pos c_5, if_pos c_19]
      exact ⟨rfl, _, _, rfl, h.terms hg⟩
  · simp only [decide_eq_false_iff_not] at c_5
    refine j_ldc M (2000000101) q1406 (by decide) dX2_term_8 ?_
    refine j_iret M dX2_term_10 ⟨Nat.le_refl _, Nat.le_refl _⟩ ?_
    unfold vTerm; rw [if_neg c_5]; exact pQ.of h
theorem MI.r14 {c : Int} {f : Nat → Int} {t : Nat → Int → Int} (h : MI c f t) : r32 (f 14) := by have := h.rl; omega
theorem MI.l14 {c m : Int} {f : Nat → Int} {t : Nat → Int → Int} (h : MI c f t) (hm : 2 ≤ m) : f 14 = m → rsLaid m t (f 0) := fun e => by
  rcases h.rl with q | q
  · omega
  · rw [← e]; exact q.2.2
theorem m_byNow (hm : mOk σ) (c i k m : Int) (hi : 0 ≤ i ∧ i < f 0) (hk : 0 ≤ k ∧ r32 k) (hm2 : 2 ≤ m ∧ m ≤ 10) (h : MI c f t) : Ct l X yX2_byNow cX2_byNow 4 (some .int) (rD 4) [.ref σ.1, .int (zI i), .int (zI k), .int (zI m)] (mH X σ f t) (pQ X σ c f t (.int (zI (pRest m (t 1) (t 2) i k)))) := by
  have h0 := h.n
  refine Ct.of (by decide) (Nat.le_of_ble_eq_true rfl) (fun Γ M => ?_)
  refine j_lv (lv' := [(0, .ref σ.1), (1, .int (zI i)), (2, .int (zI k)), (3, .int (zI m))]) rfl ?_
  refine j_aload_n M dX2_byNow_0 0 rfl ?_
  refine j_iload_n M dX2_byNow_1 3 rfl ?_
  refine j_run (k_V M (m_layRests l X σ f t hm m h0 hm2 h.r14 h.ok (h.l14 hm2.1)) (m_rc M) (lw_V q1460 q1462 qs52 q102 q1463) ndX2_layRests dX2_byNow_2 ⟨by decide, by decide, by decide, by decide⟩ rfl (Nat.le_of_ble_eq_true rfl)) (fun r_2 hp_2 hq_2 => ?_)
  obtain ⟨rfl, t', rfl, hk1, hL⟩ := hq_2
  have hi2 := hL i hi.1 hi.2
  rw [hk1 1 (by decide) (by decide) (by decide) (by decide), hk1 2 (by decide) (by decide) (by decide) (by decide)] at hi2
  refine j_aload_n M dX2_byNow_5 0 rfl ?_
  refine j_iload_n M dX2_byNow_6 1 rfl ?_
  refine j_iload_n M dX2_byNow_7 2 rfl ?_
  refine j_i2l M dX2_byNow_8 (by omega) ?_
  refine j_rV (k_V M (m_restAt l X σ (upN f 14 m) t' hm m i k _ (by omega) (by omega) hi2) (m_rc M) (lw_V q1486 q1488 qs57 q102 q1489) ndX2_restAt dX2_byNow_9 ⟨by decide, by decide, by decide, by decide⟩ rfl (Nat.le_of_ble_eq_true rfl)) ?_
  refine j_iret M dX2_byNow_12 ⟨Nat.le_refl _, Nat.le_refl _⟩ ?_
  exact ⟨rfl, _, _, rfl, h.rests hm2 hk1 hL⟩
def vBy (n : Int) (K P : Int → Int) (i k m : Int) : Int := if 0 ≤ i ∧ i ≤ n - 1 then (if 0 ≤ k ∧ (2 ≤ m ∧ m ≤ 10) then pRest m K P i k else 2000000102) else 2000000101
theorem m_by (hm : mOk σ) (c i k m : Int) (hi : r32 i) (hk : r32 k) (hmr : r32 m) (h : MI c f t) : Ct l X yX2_by cX2_by 4 (some .int) (rD 5) [.ref σ.1, .int (zI i), .int (zI k), .int (zI m)] (mH X σ f t) (pQ X σ c f t (.int (zI (vBy (f 0) (t 1) (t 2) i k m)))) := by
  have h0 := h.n
  refine Ct.of (by decide) (Nat.le_of_ble_eq_true rfl) (fun Γ M => ?_)
  refine j_lv (lv' := [(0, .ref σ.1), (1, .int (zI i)), (2, .int (zI k)), (3, .int (zI m))]) rfl ?_
  refine j_aload_n M dX2_by_0 0 rfl ?_
  refine j_iload_n M dX2_by_1 1 rfl ?_
  refine j_rV (k_V M (m_isRow l X σ f t i hi h0) (m_rc M) (lw_V q1402 q1404 qs43 q102 q1405) ndX2_isRow dX2_by_2 ⟨by decide, by decide, by decide, by decide⟩ rfl (Nat.le_of_ble_eq_true rfl)) ?_
  refine j_ifneB M 11 dX2_by_5 (by decide) (fun c_5 => ?_) (fun c_5 => ?_)
  · simp only [decide_eq_true_eq] at c_5
    refine j_iload_n M dX2_by_11 2 rfl ?_
    refine j_if_lt M 35 dX2_by_12 (by decide) (by omega) (fun c_12 => ?_) (fun c_12 => ?_)
    · refine j_ldc M (2000000102) q1350 (by decide) dX2_by_35 ?_
      refine j_iret M dX2_by_37 ⟨Nat.le_refl _, Nat.le_refl _⟩ ?_
      unfold vBy; rw [if_pos c_5, if_neg (by omega)]; exact pQ.of h
    · refine j_iload_n M dX2_by_15 3 rfl ?_
      refine j_iconst M dX2_by_16 ?_
      refine j_bipush M dX2_by_17 (by decide) ?_
      refine j_rV (k_S M (m_within l X _ _ _ _ (by omega)) (lw_S q1347 q1348 q102 q1349) ndX2_within dX2_by_19 ⟨by decide, by decide, by decide, by decide⟩ rfl (Nat.le_of_ble_eq_true rfl)) ?_
      refine j_ifeqB M 35 dX2_by_22 (by decide) (fun c_22 => ?_) (fun c_22 => ?_)
      · simp only [decide_eq_false_iff_not] at c_22
        refine j_ldc M (2000000102) q1350 (by decide) dX2_by_35 ?_
        refine j_iret M dX2_by_37 ⟨Nat.le_refl _, Nat.le_refl _⟩ ?_
        unfold vBy; rw [if_pos c_5, if_neg (by omega)]; exact pQ.of h
      · simp only [decide_eq_true_eq] at c_22
        refine j_aload_n M dX2_by_25 0 rfl ?_
        refine j_iload_n M dX2_by_26 1 rfl ?_
        refine j_iload_n M dX2_by_27 2 rfl ?_
        refine j_iload_n M dX2_by_28 3 rfl ?_
        refine j_run (k_V M (m_byNow l X σ f t hm c i k m (by omega) (by omega) c_22 h) (m_rc M) (lw_V q1456 q1458 qs51 q102 q1459) ndX2_byNow dX2_by_29 ⟨by decide, by decide, by decide, by decide⟩ rfl (Nat.le_of_ble_eq_true rfl)) (fun r_29 hp_29 hq_29 => ?_)
        obtain ⟨rfl, hq⟩ := hq_29
        refine j_goto M 37 dX2_by_32 (by decide) ?_
        refine j_iret M dX2_by_37 ⟨Nat.le_refl _, Nat.le_refl _⟩ ?_
        unfold vBy; rw [if_pos c_5, if_pos ⟨by omega, c_22⟩]; exact ⟨rfl, hq⟩
  · simp only [decide_eq_false_iff_not] at c_5
    refine j_ldc M (2000000101) q1406 (by decide) dX2_by_8 ?_
    refine j_iret M dX2_by_10 ⟨Nat.le_refl _, Nat.le_refl _⟩ ?_
    unfold vBy; rw [if_neg c_5]; exact pQ.of h
noncomputable def pLapW (s : Int → Int) (w : Int) : Int := if w = 0 then pLap s else if w = 1 then pHead s else pZeros s
theorem m_lapNow (hm : mOk σ) (c i m w : Int) (hi : 0 ≤ i ∧ i < f 0) (hm2 : 2 ≤ m ∧ m ≤ 10) (hw : r32 w) (h : MI c f t) : Ct l X yX2_lapNow cX2_lapNow 4 (some .int) (rD 5) [.ref σ.1, .int (zI i), .int (zI m), .int (zI w)] (mH X σ f t) (pQ X σ c f t (.int (zI (pLapW (pRest m (t 1) (t 2) i) w)))) := by
  have h0 := h.n
  refine Ct.of (by decide) (Nat.le_of_ble_eq_true rfl) (fun Γ M => ?_)
  refine j_lv (lv' := [(0, .ref σ.1), (1, .int (zI i)), (2, .int (zI m)), (3, .int (zI w))]) rfl ?_
  refine j_aload_n M dX2_lapNow_0 0 rfl ?_
  refine j_iload_n M dX2_lapNow_1 2 rfl ?_
  refine j_run (k_V M (m_layRests l X σ f t hm m h0 hm2 h.r14 h.ok (h.l14 hm2.1)) (m_rc M) (lw_V q1460 q1462 qs52 q102 q1463) ndX2_layRests dX2_lapNow_2 ⟨by decide, by decide, by decide, by decide⟩ rfl (Nat.le_of_ble_eq_true rfl)) (fun r_2 hp_2 hq_2 => ?_)
  obtain ⟨rfl, t', rfl, hk1, hL⟩ := hq_2
  have hi2 := hL i hi.1 hi.2
  rw [hk1 1 (by decide) (by decide) (by decide) (by decide), hk1 2 (by decide) (by decide) (by decide) (by decide)] at hi2
  refine j_iload_n M dX2_lapNow_5 3 rfl ?_
  refine j_if_ne M 17 dX2_lapNow_6 (by decide) (by omega) (fun c_6 => ?_) (fun c_6 => ?_)
  · refine j_iload_n M dX2_lapNow_17 3 rfl ?_
    refine j_iconst M dX2_lapNow_18 ?_
    refine j_icmp_ne M 30 dX2_lapNow_19 (by decide) (by omega) (fun c_19 => ?_) (fun c_19 => ?_)
    · refine j_aload_n M dX2_lapNow_30 0 rfl ?_
      refine j_iload_n M dX2_lapNow_31 1 rfl ?_
      refine j_rV (k_V M (m_zerosOf l X σ (upN f 14 m) t' hm m i _ (by omega) hi2) (m_rc M) (lw_V q1510 q1512 qs62 q102 q1513) ndX2_zerosOf dX2_lapNow_32 ⟨by decide, by decide, by decide, by decide⟩ rfl (Nat.le_of_ble_eq_true rfl)) ?_
      refine j_iret M dX2_lapNow_35 ⟨Nat.le_refl _, Nat.le_refl _⟩ ?_
      refine ⟨?_, _, _, rfl, h.rests hm2 hk1 hL⟩
      unfold pLapW; simp [*]
    · refine j_aload_n M dX2_lapNow_22 0 rfl ?_
      refine j_iload_n M dX2_lapNow_23 1 rfl ?_
      refine j_rV (k_V M (m_headOf l X σ (upN f 14 m) t' hm m i _ (by omega) hi2) (m_rc M) (lw_V q1506 q1508 qs61 q102 q1509) ndX2_headOf dX2_lapNow_24 ⟨by decide, by decide, by decide, by decide⟩ rfl (Nat.le_of_ble_eq_true rfl)) ?_
      refine j_goto M 35 dX2_lapNow_27 (by decide) ?_
      refine j_iret M dX2_lapNow_35 ⟨Nat.le_refl _, Nat.le_refl _⟩ ?_
      refine ⟨?_, _, _, rfl, h.rests hm2 hk1 hL⟩
      unfold pLapW; simp [*]
  · refine j_aload_n M dX2_lapNow_9 0 rfl ?_
    refine j_iload_n M dX2_lapNow_10 1 rfl ?_
    refine j_rV (k_V M (m_lapOf l X σ (upN f 14 m) t' hm m i _ (by omega) hi2) (m_rc M) (lw_V q1498 q1500 qs59 q102 q1501) ndX2_lapOf dX2_lapNow_11 ⟨by decide, by decide, by decide, by decide⟩ rfl (Nat.le_of_ble_eq_true rfl)) ?_
    refine j_goto M 35 dX2_lapNow_14 (by decide) ?_
    refine j_iret M dX2_lapNow_35 ⟨Nat.le_refl _, Nat.le_refl _⟩ ?_
    refine ⟨?_, _, _, rfl, h.rests hm2 hk1 hL⟩
    unfold pLapW; simp [*]
noncomputable def vLap (n : Int) (K P : Int → Int) (i m w : Int) : Int := if 0 ≤ i ∧ i ≤ n - 1 then (if (2 ≤ m ∧ m ≤ 10) ∧ (0 ≤ w ∧ w ≤ 2) then pLapW (pRest m K P i) w else 2000000102) else 2000000101
theorem m_lap (hm : mOk σ) (c i m w : Int) (hi : r32 i) (hmr : r32 m) (hw : r32 w) (h : MI c f t) : Ct l X yX2_lap cX2_lap 4 (some .int) (rD 6) [.ref σ.1, .int (zI i), .int (zI m), .int (zI w)] (mH X σ f t) (pQ X σ c f t (.int (zI (vLap (f 0) (t 1) (t 2) i m w)))) := by
  have h0 := h.n
  refine Ct.of (by decide) (Nat.le_of_ble_eq_true rfl) (fun Γ M => ?_)
  refine j_lv (lv' := [(0, .ref σ.1), (1, .int (zI i)), (2, .int (zI m)), (3, .int (zI w))]) rfl ?_
  refine j_aload_n M dX2_lap_0 0 rfl ?_
  refine j_iload_n M dX2_lap_1 1 rfl ?_
  refine j_rV (k_V M (m_isRow l X σ f t i hi h0) (m_rc M) (lw_V q1402 q1404 qs43 q102 q1405) ndX2_isRow dX2_lap_2 ⟨by decide, by decide, by decide, by decide⟩ rfl (Nat.le_of_ble_eq_true rfl)) ?_
  refine j_ifneB M 11 dX2_lap_5 (by decide) (fun c_5 => ?_) (fun c_5 => ?_)
  · simp only [decide_eq_true_eq] at c_5
    refine j_iload_n M dX2_lap_11 2 rfl ?_
    refine j_iconst M dX2_lap_12 ?_
    refine j_bipush M dX2_lap_13 (by decide) ?_
    refine j_rV (k_S M (m_within l X _ _ _ _ (by omega)) (lw_S q1347 q1348 q102 q1349) ndX2_within dX2_lap_15 ⟨by decide, by decide, by decide, by decide⟩ rfl (Nat.le_of_ble_eq_true rfl)) ?_
    refine j_ifeqB M 40 dX2_lap_18 (by decide) (fun c_18 => ?_) (fun c_18 => ?_)
    · simp only [decide_eq_false_iff_not] at c_18
      refine j_ldc M (2000000102) q1350 (by decide) dX2_lap_40 ?_
      refine j_iret M dX2_lap_42 ⟨Nat.le_refl _, Nat.le_refl _⟩ ?_
      unfold vLap; rw [if_pos c_5, if_neg (by omega)]; exact pQ.of h
    · simp only [decide_eq_true_eq] at c_18
      refine j_iload_n M dX2_lap_21 3 rfl ?_
      refine j_iconst M dX2_lap_22 ?_
      refine j_iconst M dX2_lap_23 ?_
      refine j_rV (k_S M (m_within l X _ _ _ _ (by omega)) (lw_S q1347 q1348 q102 q1349) ndX2_within dX2_lap_24 ⟨by decide, by decide, by decide, by decide⟩ rfl (Nat.le_of_ble_eq_true rfl)) ?_
      refine j_ifeqB M 40 dX2_lap_27 (by decide) (fun c_27 => ?_) (fun c_27 => ?_)
      · simp only [decide_eq_false_iff_not] at c_27
        refine j_ldc M (2000000102) q1350 (by decide) dX2_lap_40 ?_
        refine j_iret M dX2_lap_42 ⟨Nat.le_refl _, Nat.le_refl _⟩ ?_
        unfold vLap; rw [if_pos c_5, if_neg (by omega)]; exact pQ.of h
      · simp only [decide_eq_true_eq] at c_27
        refine j_aload_n M dX2_lap_30 0 rfl ?_
        refine j_iload_n M dX2_lap_31 1 rfl ?_
        refine j_iload_n M dX2_lap_32 2 rfl ?_
        refine j_iload_n M dX2_lap_33 3 rfl ?_
        refine j_run (k_V M (m_lapNow l X σ f t hm c i m w (by omega) c_18 hw h) (m_rc M) (lw_V q1494 q1496 qs58 q102 q1497) ndX2_lapNow dX2_lap_34 ⟨by decide, by decide, by decide, by decide⟩ rfl (Nat.le_of_ble_eq_true rfl)) (fun r_34 hp_34 hq_34 => ?_)
        obtain ⟨rfl, hq⟩ := hq_34
        refine j_goto M 42 dX2_lap_37 (by decide) ?_
        refine j_iret M dX2_lap_42 ⟨Nat.le_refl _, Nat.le_refl _⟩ ?_
        unfold vLap; rw [if_pos c_5, if_pos ⟨c_18, c_27⟩]; exact ⟨rfl, hq⟩
  · simp only [decide_eq_false_iff_not] at c_5
    refine j_ldc M (2000000101) q1406 (by decide) dX2_lap_8 ?_
    refine j_iret M dX2_lap_10 ⟨Nat.le_refl _, Nat.le_refl _⟩ ?_
    unfold vLap; rw [if_neg c_5]; exact pQ.of h
end M5
