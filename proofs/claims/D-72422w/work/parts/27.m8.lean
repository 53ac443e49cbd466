/-! 27: the reference: rows come, go, change -/
set_option maxRecDepth 100000
def pSet4 (P : Int → Int) (i a b c d : Int) : Int → Int := upA (upA (upA (upA P (4 * i) a) (4 * i + 1) b) (4 * i + 2) c) (4 * i + 3) d
def pLay (t : Nat → Int → Int) (i k a b c d : Int) : Nat → Int → Int := upN (upN t 1 (upA (t 1) i k)) 2 (pSet4 (t 2) i a b c d)
def pChg (f : Nat → Int) : Nat → Int := upN (upN f 13 0) 14 0
theorem pSet4_0 (P : Int → Int) (i a b c d : Int) : pSet4 P i a b c d (4 * i) = a := by unfold pSet4; rw [upA_n _ _ (by omega), upA_n _ _ (by omega), upA_n _ _ (by omega), upA_s]
theorem pSet4_1 (P : Int → Int) (i a b c d : Int) : pSet4 P i a b c d (4 * i + 1) = b := by unfold pSet4; rw [upA_n _ _ (by omega), upA_n _ _ (by omega), upA_s]
theorem pSet4_2 (P : Int → Int) (i a b c d : Int) : pSet4 P i a b c d (4 * i + 2) = c := by unfold pSet4; rw [upA_n _ _ (by omega), upA_s]
theorem pSet4_3 (P : Int → Int) (i a b c d : Int) : pSet4 P i a b c d (4 * i + 3) = d := by unfold pSet4; rw [upA_s]
theorem pSet4_n (P : Int → Int) (i a b c d j : Int) (h : j < 4 * i ∨ 4 * i + 4 ≤ j) : pSet4 P i a b c d j = P j := by unfold pSet4; rw [upA_n _ _ (by omega), upA_n _ _ (by omega), upA_n _ _ (by omega), upA_n _ _ (by omega)]
theorem rOk_congr {K P K' P' : Int → Int} {i : Int} (h : rOk K P i) (hk : K' i = K i) (h0 : P' (4 * i) = P (4 * i)) (h1 : P' (4 * i + 1) = P (4 * i + 1)) (h2 : P' (4 * i + 2) = P (4 * i + 2)) (h3 : P' (4 * i + 3) = P (4 * i + 3)) : rOk K' P' i := by
  unfold rOk at *; rw [hk, h0, h1, h2, h3]; exact h
/-- rows are others: n', K', P'; all else is the same -/
def mIs (f : Nat → Int) (t : Nat → Int → Int) (f' : Nat → Int) (t' : Nat → Int → Int) (n' : Int) (K' P' : Int → Int) : Prop := f' 0 = n' ∧ t' 1 = K' ∧ (∀ j, j < 32 → t' 2 j = P' j) ∧ (∀ k, k ∈ [3, 4, 6, 26, 27, 28] → f' k = f k) ∧ ∀ k, k ∈ [5, 7, 29, 30, 31] → t' k = t k
theorem mSame.is {f f' : Nat → Int} {t t' : Nat → Int → Int} (h : mSame f t f' t') : mIs f t f' t' (f 0) (t 1) (t 2) := by
  refine ⟨h.f0, h.t1, h.2.2, fun k hk => h.1 k ?_, fun k hk => h.2.1 k ?_⟩
  · simp only [List.mem_cons, List.not_mem_nil, or_false] at hk ⊢; omega
  · simp only [List.mem_cons, List.not_mem_nil, or_false] at hk ⊢; omega
theorem mIs.after {f f1 f2 : Nat → Int} {t t1 t2 : Nat → Int → Int} {n : Int} {K P : Int → Int} (a : mSame f t f1 t1) (b : mIs f1 t1 f2 t2 n K P) : mIs f t f2 t2 n K P := by
  refine ⟨b.1, b.2.1, b.2.2.1, fun k hk => (b.2.2.2.1 k hk).trans (a.1 k ?_), fun k hk => (b.2.2.2.2 k hk).trans (a.2.1 k ?_)⟩
  · simp only [List.mem_cons, List.not_mem_nil, or_false] at hk ⊢; omega
  · simp only [List.mem_cons, List.not_mem_nil, or_false] at hk ⊢; omega
theorem lay_MI {c i k a b e d n' : Int} {f f' : Nat → Int} {t : Nat → Int → Int} (h : MI c f t) (hn : 0 ≤ n' ∧ n' ≤ 8) (hi : 0 ≤ i ∧ i < 8) (hnn : ∀ j, 0 ≤ j → j < n' → j ≠ i → j < f 0) (hr : rOk (upA (t 1) i k) (pSet4 (t 2) i a b e d) i) (h0 : f' 0 = n') (h13 : f' 13 = 0) (h14 : f' 14 = 0) (hf : ∀ k, k ∈ [3, 4, 6, 26, 27, 28] → f' k = f k) : MI c f' (pLay t i k a b e d) ∧ mIs f t f' (pLay t i k a b e d) n' (upA (t 1) i k) (pSet4 (t 2) i a b e d) := by
  obtain ⟨g1, g2, g3, g4, g5, g6, g7, g8, g9, g10⟩ := h
  have e3 := hf 3 (by decide)
  have e4 := hf 4 (by decide)
  have e6 := hf 6 (by decide)
  have e26 := hf 26 (by decide)
  have e27 := hf 27 (by decide)
  have e28 := hf 28 (by decide)
  refine ⟨⟨by rw [h0]; exact hn, ?_, by rw [e3]; exact g3, by rw [e4]; exact g4, g5, by rw [e6]; exact g6, by rw [e6]; exact g7, fun q => by omega, Or.inl h14, ?_⟩, h0, rfl, fun _ _ => rfl, hf, ?_⟩
  · rw [h0]
    intro j j0 j1
    by_cases e : j = i
    · rw [e]; exact hr
    · exact rOk_congr (g2 j j0 (hnn j j0 j1 e)) (upA_n _ _ e) (pSet4_n _ _ _ _ _ _ _ (by omega)) (pSet4_n _ _ _ _ _ _ _ (by omega)) (pSet4_n _ _ _ _ _ _ _ (by omega)) (pSet4_n _ _ _ _ _ _ _ (by omega))
  · unfold KI at *
    rw [e26, e27, e28]
    exact g10
  · intro j hj
    simp only [List.mem_cons, List.not_mem_nil, or_false] at hj
    unfold pLay
    rw [upN_n _ _ (by omega), upN_n _ _ (by omega)]
def pWr (X : Cx) (σ : Ms) (c : Int) (f : Nat → Int) (t : Nat → Int → Int) (v : Value) (n' : Int) (K' P' : Int → Int) : Option Value → Hp → Prop := fun r hp => r = some v ∧ ∃ f' t', hp = mH X σ f' t' ∧ MI c f' t' ∧ mIs f t f' t' n' K' P'
theorem pWr.of {X : Cx} {σ : Ms} {c : Int} {f : Nat → Int} {t : Nat → Int → Int} {v : Value} (h : MI c f t) : pWr X σ c f t v (f 0) (t 1) (t 2) (some v) (mH X σ f t) := ⟨rfl, f, t, rfl, h, mSame.rfl.is⟩
section M8
variable (l : Launch) (X : Cx) (σ : Ms) (f : Nat → Int) (t : Nat → Int → Int)
theorem m_lay (hm : mOk σ) (i k a b c d : Int) (hi : 0 ≤ i ∧ i < 8) : CM l X σ yX2_lay cX2_lay 7 none 1 [.int (zI i), .int (zI k), .int (zI a), .int (zI b), .int (zI c), .int (zI d)] f t none (pChg f) (pLay t i k a b c d) := by
  refine Ct.of (by decide) (Nat.le_of_ble_eq_true rfl) (fun Γ M => ?_)
  refine j_lv (lv' := [(0, .ref σ.1), (1, .int (zI i)), (2, .int (zI k)), (3, .int (zI a)), (4, .int (zI b)), (5, .int (zI c)), (6, .int (zI d))]) rfl ?_
  refine j_aload_n M dX2_lay_0 0 rfl ?_
  refine m_get M 1 (by decide) q1243 rfl dX2_lay_1 ?_
  refine j_iload_n M dX2_lay_4 1 rfl ?_
  refine j_iload_n M dX2_lay_5 2 rfl ?_
  refine m_ast M hm (n := 9) 1 (by decide) (fun _ => rfl) dX2_lay_6 (by omega) ?_
  refine j_aload_n M dX2_lay_7 0 rfl ?_
  refine m_get M 2 (by decide) q1244 rfl dX2_lay_8 ?_
  refine j_iconst M dX2_lay_11 ?_
  refine j_iload_n M dX2_lay_12 1 rfl ?_
  refine j_imul M dX2_lay_13 ?_
  refine j_iload_n M dX2_lay_14 3 rfl ?_
  refine m_ast M hm (n := 36) 2 (by decide) (fun _ => rfl) dX2_lay_15 (by omega) ?_
  refine j_aload_n M dX2_lay_16 0 rfl ?_
  refine m_get M 2 (by decide) q1244 rfl dX2_lay_17 ?_
  refine j_iconst M dX2_lay_20 ?_
  refine j_iload_n M dX2_lay_21 1 rfl ?_
  refine j_imul M dX2_lay_22 ?_
  refine j_iconst M dX2_lay_23 ?_
  refine j_iadd M dX2_lay_24 ?_
  refine j_iload M dX2_lay_25 4 rfl ?_
  refine m_ast M hm (n := 36) 2 (by decide) (fun _ => rfl) dX2_lay_27 (by omega) ?_
  refine j_aload_n M dX2_lay_28 0 rfl ?_
  refine m_get M 2 (by decide) q1244 rfl dX2_lay_29 ?_
  refine j_iconst M dX2_lay_32 ?_
  refine j_iload_n M dX2_lay_33 1 rfl ?_
  refine j_imul M dX2_lay_34 ?_
  refine j_iconst M dX2_lay_35 ?_
  refine j_iadd M dX2_lay_36 ?_
  refine j_iload M dX2_lay_37 5 rfl ?_
  refine m_ast M hm (n := 36) 2 (by decide) (fun _ => rfl) dX2_lay_39 (by omega) ?_
  refine j_aload_n M dX2_lay_40 0 rfl ?_
  refine m_get M 2 (by decide) q1244 rfl dX2_lay_41 ?_
  refine j_iconst M dX2_lay_44 ?_
  refine j_iload_n M dX2_lay_45 1 rfl ?_
  refine j_imul M dX2_lay_46 ?_
  refine j_iconst M dX2_lay_47 ?_
  refine j_iadd M dX2_lay_48 ?_
  refine j_iload M dX2_lay_49 6 rfl ?_
  refine m_ast M hm (n := 36) 2 (by decide) (fun _ => rfl) dX2_lay_51 (by omega) ?_
  refine j_aload_n M dX2_lay_52 0 rfl ?_
  refine j_rN (k_V M (m_changes l X σ _ _) (m_rc M) (lw_V q1394 q1396 qs42 q102 q1397) ndX2_changes dX2_lay_53 ⟨by decide, by decide, by decide, by decide⟩ rfl (Nat.le_of_ble_eq_true rfl)) ?_
  refine j_vret M dX2_lay_56 ⟨Nat.le_refl _, Nat.le_refl _⟩ ?_
  refine ⟨rfl, ?_⟩
  simp only [upN_s, upN_uu]
  rfl
/-- a row comes -/
theorem m_comes (hm : mOk σ) (k a b c d : Int) (h0 : 0 ≤ f 0 ∧ f 0 ≤ 8) : CM l X σ yX2_comes cX2_comes 6 (some .int) 2 [.int (zI k), .int (zI a), .int (zI b), .int (zI c), .int (zI d)] f t (some (.int (zI (if f 0 = 8 then 2000000104 else f 0)))) (if f 0 = 8 then f else upN (pChg f) 0 (f 0 + 1)) (if f 0 = 8 then t else pLay t (f 0) k a b c d) := by
  refine Ct.of (by decide) (Nat.le_of_ble_eq_true rfl) (fun Γ M => ?_)
  refine j_lv (lv' := [(0, .ref σ.1), (1, .int (zI k)), (2, .int (zI a)), (3, .int (zI b)), (4, .int (zI c)), (5, .int (zI d))]) rfl ?_
  refine j_aload_n M dX2_comes_0 0 rfl ?_
  refine m_get M 0 (by decide) q1242 rfl dX2_comes_1 ?_
  refine j_bipush M dX2_comes_4 (by decide) ?_
  refine j_icmp_ne M 12 dX2_comes_6 (by decide) (by omega) (fun c_6 => ?_) (fun c_6 => ?_)
  · refine j_aload_n M dX2_comes_12 0 rfl ?_
    refine j_aload_n M dX2_comes_13 0 rfl ?_
    refine m_get M 0 (by decide) q1242 rfl dX2_comes_14 ?_
    refine j_iload_n M dX2_comes_17 1 rfl ?_
    refine j_iload_n M dX2_comes_18 2 rfl ?_
    refine j_iload_n M dX2_comes_19 3 rfl ?_
    refine j_iload M dX2_comes_20 4 rfl ?_
    refine j_iload M dX2_comes_22 5 rfl ?_
    refine j_rN (k_V M (m_lay l X σ f t hm (f 0) k a b c d (by omega)) (m_rc M) (lw_V q1645 q1647 qs81 q102 q1648) ndX2_lay dX2_comes_24 ⟨by decide, by decide, by decide, by decide⟩ rfl (Nat.le_of_ble_eq_true rfl)) ?_
    refine j_aload_n M dX2_comes_27 0 rfl ?_
    refine j_dup M dX2_comes_28 rfl ?_
    refine m_get M 0 (by decide) q1242 rfl dX2_comes_29 ?_
    refine j_iconst M dX2_comes_32 ?_
    refine j_iadd M dX2_comes_33 ?_
    refine m_put M 0 (by decide) q1242 dX2_comes_34 ?_
    refine j_aload_n M dX2_comes_37 0 rfl ?_
    refine m_get M 0 (by decide) q1242 rfl dX2_comes_38 ?_
    refine j_iconst M dX2_comes_41 ?_
    refine j_isub M dX2_comes_42 ?_
    refine j_iret M dX2_comes_43 ⟨Nat.le_refl _, Nat.le_refl _⟩ ?_
    rw [if_neg c_6, if_neg c_6, if_neg c_6]
    refine ⟨?_, rfl⟩
    show some (Value.int (zI (f 0 + 1 - 1))) = _
    rw [show f 0 + 1 - 1 = f 0 by omega]
  · refine j_ldc M (2000000104) q1351 (by decide) dX2_comes_9 ?_
    refine j_iret M dX2_comes_11 ⟨Nat.le_refl _, Nat.le_refl _⟩ ?_
    rw [if_pos c_6, if_pos c_6, if_pos c_6]; exact ⟨rfl, rfl⟩
def vComes (n : Int) : Int := if n = 8 then 2000000104 else n
def nComes (n : Int) : Int := if n = 8 then n else n + 1
def kComes (n : Int) (K : Int → Int) (k : Int) : Int → Int := if n = 8 then K else upA K n k
def qComes (n : Int) (P : Int → Int) (a b c d : Int) : Int → Int := if n = 8 then P else pSet4 P n a b c d
theorem m_comesW (hm : mOk σ) (cc k a b c d : Int) (h : MI cc f t) (hr : f 0 < 8 → rOk (upA (t 1) (f 0) k) (pSet4 (t 2) (f 0) a b c d) (f 0)) : Ct l X yX2_comes cX2_comes 6 (some .int) (rD 2) [.ref σ.1, .int (zI k), .int (zI a), .int (zI b), .int (zI c), .int (zI d)] (mH X σ f t) (pWr X σ cc f t (.int (zI (vComes (f 0)))) (nComes (f 0)) (kComes (f 0) (t 1) k) (qComes (f 0) (t 2) a b c d)) := by
  have h1 := m_comes l X σ f t hm k a b c d h.n
  refine h1.mono ?_
  rintro r hp ⟨rfl, rfl⟩
  unfold vComes nComes kComes qComes
  have h0 := h.n
  by_cases e : f 0 = 8
  · simp only [if_pos e]
    exact ⟨rfl, _, _, rfl, h, mSame.rfl.is⟩
  · simp only [if_neg e]
    refine ⟨rfl, _, _, rfl, ?_⟩
    exact lay_MI h (by omega) (by omega) (fun j j0 j1 j2 => by omega) (hr (by omega)) (upN_s _ _ _) rfl rfl (fun j hj => by
      simp only [List.mem_cons, List.not_mem_nil, or_false] at hj
      unfold pChg
      rw [upN_n _ _ (by omega), upN_n _ _ (by omega), upN_n _ _ (by omega)])
theorem m_isFew (hp : Hp) (v : Int) (h : r32 v) : CS l X yX2_isFew cX2_isFew 1 (some .boolean) 1 [.int (zI v)] hp (some (.int (zB (decide (-9 ≤ v ∧ v ≤ 9))))) := by
  refine Ct.of (by decide) (Nat.le_of_ble_eq_true rfl) (fun Γ M => ?_)
  refine j_lv (lv' := [(0, .int (zI v))]) rfl ?_
  refine j_iload_n M dX2_isFew_0 0 rfl ?_
  refine j_bipush M dX2_isFew_1 (by decide) ?_
  refine j_bipush M dX2_isFew_3 (by decide) ?_
  refine j_rV (k_S M (m_within l X _ _ _ _ (by omega)) (lw_S q1347 q1348 q102 q1349) ndX2_within dX2_isFew_5 ⟨by decide, by decide, by decide, by decide⟩ rfl (Nat.le_of_ble_eq_true rfl)) ?_
  refine j_zret M dX2_isFew_8 ⟨Nat.le_refl _, Nat.le_refl _⟩ ?_
  exact ⟨rfl, rfl⟩
theorem m_isMany (hp : Hp) (v : Int) (h : r32 v) : CS l X yX2_isMany cX2_isMany 1 (some .boolean) 1 [.int (zI v)] hp (some (.int (zB (decide (-999 ≤ v ∧ v ≤ 999))))) := by
  refine Ct.of (by decide) (Nat.le_of_ble_eq_true rfl) (fun Γ M => ?_)
  refine j_lv (lv' := [(0, .int (zI v))]) rfl ?_
  refine j_iload_n M dX2_isMany_0 0 rfl ?_
  refine j_sipush M dX2_isMany_1 (by decide) ?_
  refine j_sipush M dX2_isMany_4 (by decide) ?_
  refine j_rV (k_S M (m_within l X _ _ _ _ (by omega)) (lw_S q1347 q1348 q102 q1349) ndX2_within dX2_isMany_7 ⟨by decide, by decide, by decide, by decide⟩ rfl (Nat.le_of_ble_eq_true rfl)) ?_
  refine j_zret M dX2_isMany_10 ⟨Nat.le_refl _, Nat.le_refl _⟩ ?_
  exact ⟨rfl, rfl⟩
theorem rOk_new0 (K P : Int → Int) (i a b e d : Int) (ha : -9 ≤ a ∧ a ≤ 9) (hb : -9 ≤ b ∧ b ≤ 9) (he : -999 ≤ e ∧ e ≤ 999) (hd : -999 ≤ d ∧ d ≤ 999) : rOk (upA K i 0) (pSet4 P i a b e d) i := by
  left; rw [upA_s, pSet4_0, pSet4_1, pSet4_2, pSet4_3]; exact ⟨rfl, ha, hb, he, hd⟩
theorem rOk_new12 (K P : Int → Int) (i k a b : Int) (hk : k = 1 ∨ k = 2) (ha : 0 ≤ a ∧ a < i) (hb : 0 ≤ b ∧ b < i) : rOk (upA K i k) (pSet4 P i a b 2000000001 2000000001) i := by
  right; left; rw [upA_s, pSet4_0, pSet4_1, pSet4_2, pSet4_3]; exact ⟨hk, ha, hb, rfl, rfl⟩
theorem rOk_new3 (K P : Int → Int) (i a b e : Int) (ha : 0 ≤ a ∧ a < i) (hb : 1 ≤ b ∧ b ≤ 5) (he : 0 ≤ e ∧ e ≤ 9) : rOk (upA K i 3) (pSet4 P i a b e 2000000001) i := by
  right; right; left; rw [upA_s, pSet4_0, pSet4_1, pSet4_2, pSet4_3]; exact ⟨rfl, ha, hb, he, rfl⟩
theorem rOk_new4 (K P : Int → Int) (i a : Int) (ha : 0 ≤ a ∧ a < i) : rOk (upA K i 4) (pSet4 P i a 2000000001 2000000001 2000000001) i := by
  right; right; right; rw [upA_s, pSet4_0, pSet4_1, pSet4_2, pSet4_3]; exact ⟨rfl, ha, rfl, rfl, rfl⟩
/-- a row comes, if it may -/
def vMay (b : Bool) (n e : Int) : Int := if b then vComes n else e
def nMay (b : Bool) (n : Int) : Int := if b then nComes n else n
def kMay (b : Bool) (n : Int) (K : Int → Int) (k : Int) : Int → Int := if b then kComes n K k else K
def qMay (b : Bool) (n : Int) (P : Int → Int) (a e c d : Int) : Int → Int := if b then qComes n P a e c d else P
abbrev pMay (X : Cx) (σ : Ms) (c : Int) (f : Nat → Int) (t : Nat → Int → Int) (b : Bool) (e k a1 a2 a3 a4 : Int) : Option Value → Hp → Prop := pWr X σ c f t (.int (zI (vMay b (f 0) e))) (nMay b (f 0)) (kMay b (f 0) (t 1) k) (qMay b (f 0) (t 2) a1 a2 a3 a4)
theorem pMay.no {X : Cx} {σ : Ms} {c : Int} {f : Nat → Int} {t : Nat → Int → Int} {e k a1 a2 a3 a4 : Int} {b : Bool} (hb : b = false) (h : MI c f t) : pMay X σ c f t b e k a1 a2 a3 a4 (some (.int (zI e))) (mH X σ f t) := by
  subst hb; exact pWr.of h
def bTold (a b e d : Int) : Bool := decide (((-9 ≤ a ∧ a ≤ 9) ∧ (-9 ≤ b ∧ b ≤ 9)) ∧ ((-999 ≤ e ∧ e ≤ 999) ∧ (-999 ≤ d ∧ d ≤ 999)))
theorem m_told (hm : mOk σ) (c a b e d : Int) (ha : r32 a) (hb : r32 b) (he : r32 e) (hd : r32 d) (h : MI c f t) : Ct l X yX2_told cX2_told 5 (some .int) (rD 3) [.ref σ.1, .int (zI a), .int (zI b), .int (zI e), .int (zI d)] (mH X σ f t) (pMay X σ c f t (bTold a b e d) 2000000102 0 a b e d) := by
  refine Ct.of (by decide) (Nat.le_of_ble_eq_true rfl) (fun Γ M => ?_)
  refine j_lv (lv' := [(0, .ref σ.1), (1, .int (zI a)), (2, .int (zI b)), (3, .int (zI e)), (4, .int (zI d))]) rfl ?_
  refine j_iload_n M dX2_told_0 1 rfl ?_
  refine j_rV (k_S M (m_isFew l X _ _ ha) (lw_S q1635 q1636 q102 q1637) ndX2_isFew dX2_told_1 ⟨by decide, by decide, by decide, by decide⟩ rfl (Nat.le_of_ble_eq_true rfl)) ?_
  refine j_ifeqB M 42 dX2_told_4 (by decide) (fun c_4 => ?_) (fun c_4 => ?_)
  · refine j_ldc M (2000000102) q1350 (by decide) dX2_told_42 ?_
    refine j_iret M dX2_told_44 ⟨Nat.le_refl _, Nat.le_refl _⟩ ?_
    simp only [decide_eq_false_iff_not] at c_4; exact pMay.no (decide_eq_false (by omega)) h
  · refine j_iload_n M dX2_told_7 2 rfl ?_
    refine j_rV (k_S M (m_isFew l X _ _ hb) (lw_S q1635 q1636 q102 q1637) ndX2_isFew dX2_told_8 ⟨by decide, by decide, by decide, by decide⟩ rfl (Nat.le_of_ble_eq_true rfl)) ?_
    refine j_ifeqB M 42 dX2_told_11 (by decide) (fun c_11 => ?_) (fun c_11 => ?_)
    · refine j_ldc M (2000000102) q1350 (by decide) dX2_told_42 ?_
      refine j_iret M dX2_told_44 ⟨Nat.le_refl _, Nat.le_refl _⟩ ?_
      simp only [decide_eq_false_iff_not] at c_11; exact pMay.no (decide_eq_false (by omega)) h
    · refine j_iload_n M dX2_told_14 3 rfl ?_
      refine j_rV (k_S M (m_isMany l X _ _ he) (lw_S q1638 q1639 q102 q1640) ndX2_isMany dX2_told_15 ⟨by decide, by decide, by decide, by decide⟩ rfl (Nat.le_of_ble_eq_true rfl)) ?_
      refine j_ifeqB M 42 dX2_told_18 (by decide) (fun c_18 => ?_) (fun c_18 => ?_)
      · refine j_ldc M (2000000102) q1350 (by decide) dX2_told_42 ?_
        refine j_iret M dX2_told_44 ⟨Nat.le_refl _, Nat.le_refl _⟩ ?_
        simp only [decide_eq_false_iff_not] at c_18; exact pMay.no (decide_eq_false (by omega)) h
      · refine j_iload M dX2_told_21 4 rfl ?_
        refine j_rV (k_S M (m_isMany l X _ _ hd) (lw_S q1638 q1639 q102 q1640) ndX2_isMany dX2_told_23 ⟨by decide, by decide, by decide, by decide⟩ rfl (Nat.le_of_ble_eq_true rfl)) ?_
        refine j_ifeqB M 42 dX2_told_26 (by decide) (fun c_26 => ?_) (fun c_26 => ?_)
        · refine j_ldc M (2000000102) q1350 (by decide) dX2_told_42 ?_
          refine j_iret M dX2_told_44 ⟨Nat.le_refl _, Nat.le_refl _⟩ ?_
          simp only [decide_eq_false_iff_not] at c_26; exact pMay.no (decide_eq_false (by omega)) h
        · simp only [decide_eq_true_eq] at c_4 c_11 c_18 c_26
          refine j_aload_n M dX2_told_29 0 rfl ?_
          refine j_iconst M dX2_told_30 ?_
          refine j_iload_n M dX2_told_31 1 rfl ?_
          refine j_iload_n M dX2_told_32 2 rfl ?_
          refine j_iload_n M dX2_told_33 3 rfl ?_
          refine j_iload M dX2_told_34 4 rfl ?_
          refine j_run (k_V M (m_comesW l X σ f t hm c 0 a b e d h (fun _ => rOk_new0 _ _ _ _ _ _ _ c_4 c_11 c_18 c_26)) (m_rc M) (lw_V q1641 q1643 qs80 q102 q1644) ndX2_comes dX2_told_36 ⟨by decide, by decide, by decide, by decide⟩ rfl (Nat.le_of_ble_eq_true rfl)) (fun r_36 hp_36 hq_36 => ?_)
          rw [show bTold a b e d = true from decide_eq_true ⟨⟨c_4, c_11⟩, c_18, c_26⟩] at M
          obtain ⟨rfl, hq⟩ := hq_36
          refine j_goto M 44 dX2_told_39 (by decide) ?_
          refine j_iret M dX2_told_44 ⟨Nat.le_refl _, Nat.le_refl _⟩ ?_
          exact ⟨rfl, hq⟩
def bTwo (n i j : Int) : Bool := decide ((0 ≤ i ∧ i ≤ n - 1) ∧ (0 ≤ j ∧ j ≤ n - 1))
theorem m_sum (hm : mOk σ) (c i j : Int) (hi : r32 i) (hj : r32 j) (h : MI c f t) : Ct l X yX2_sum cX2_sum 3 (some .int) (rD 3) [.ref σ.1, .int (zI i), .int (zI j)] (mH X σ f t) (pMay X σ c f t (bTwo (f 0) i j) 2000000101 1 i j 2000000001 2000000001) := by
  refine Ct.of (by decide) (Nat.le_of_ble_eq_true rfl) (fun Γ M => ?_)
  refine j_lv (lv' := [(0, .ref σ.1), (1, .int (zI i)), (2, .int (zI j))]) rfl ?_
  refine j_aload_n M dX2_sum_0 0 rfl ?_
  refine j_iload_n M dX2_sum_1 1 rfl ?_
  refine j_rV (k_V M (m_isRow l X σ f t i hi h.n) (m_rc M) (lw_V q1402 q1404 qs43 q102 q1405) ndX2_isRow dX2_sum_2 ⟨by decide, by decide, by decide, by decide⟩ rfl (Nat.le_of_ble_eq_true rfl)) ?_
  refine j_ifeqB M 30 dX2_sum_5 (by decide) (fun c_5 => ?_) (fun c_5 => ?_)
  · refine j_ldc M (2000000101) q1406 (by decide) dX2_sum_30 ?_
    refine j_iret M dX2_sum_32 ⟨Nat.le_refl _, Nat.le_refl _⟩ ?_
    simp only [decide_eq_false_iff_not] at c_5; exact pMay.no (decide_eq_false (by omega)) h
  · refine j_aload_n M dX2_sum_8 0 rfl ?_
    refine j_iload_n M dX2_sum_9 2 rfl ?_
    refine j_rV (k_V M (m_isRow l X σ f t j hj h.n) (m_rc M) (lw_V q1402 q1404 qs43 q102 q1405) ndX2_isRow dX2_sum_10 ⟨by decide, by decide, by decide, by decide⟩ rfl (Nat.le_of_ble_eq_true rfl)) ?_
    refine j_ifeqB M 30 dX2_sum_13 (by decide) (fun c_13 => ?_) (fun c_13 => ?_)
    · refine j_ldc M (2000000101) q1406 (by decide) dX2_sum_30 ?_
      refine j_iret M dX2_sum_32 ⟨Nat.le_refl _, Nat.le_refl _⟩ ?_
      simp only [decide_eq_false_iff_not] at c_13; exact pMay.no (decide_eq_false (by omega)) h
    · simp only [decide_eq_true_eq] at c_5 c_13
      refine j_aload_n M dX2_sum_16 0 rfl ?_
      refine j_iconst M dX2_sum_17 ?_
      refine j_iload_n M dX2_sum_18 1 rfl ?_
      refine j_iload_n M dX2_sum_19 2 rfl ?_
      refine j_ldc M (2000000001) q1241 (by decide) dX2_sum_20 ?_
      refine j_ldc M (2000000001) q1241 (by decide) dX2_sum_22 ?_
      refine j_run (k_V M (m_comesW l X σ f t hm c 1 i j 2000000001 2000000001 h (fun _ => rOk_new12 _ _ _ _ _ _ (Or.inl rfl) (by omega) (by omega))) (m_rc M) (lw_V q1641 q1643 qs80 q102 q1644) ndX2_comes dX2_sum_24 ⟨by decide, by decide, by decide, by decide⟩ rfl (Nat.le_of_ble_eq_true rfl)) (fun r_24 hp_24 hq_24 => ?_)
      rw [show bTwo (f 0) i j = true from decide_eq_true ⟨c_5, c_13⟩] at M
      obtain ⟨rfl, hq⟩ := hq_24
      refine j_goto M 32 dX2_sum_27 (by decide) ?_
      refine j_iret M dX2_sum_32 ⟨Nat.le_refl _, Nat.le_refl _⟩ ?_
      exact ⟨rfl, hq⟩
theorem m_product (hm : mOk σ) (c i j : Int) (hi : r32 i) (hj : r32 j) (h : MI c f t) : Ct l X yX2_product cX2_product 3 (some .int) (rD 3) [.ref σ.1, .int (zI i), .int (zI j)] (mH X σ f t) (pMay X σ c f t (bTwo (f 0) i j) 2000000101 2 i j 2000000001 2000000001) := by
  refine Ct.of (by decide) (Nat.le_of_ble_eq_true rfl) (fun Γ M => ?_)
  refine j_lv (lv' := [(0, .ref σ.1), (1, .int (zI i)), (2, .int (zI j))]) rfl ?_
  refine j_aload_n M dX2_product_0 0 rfl ?_
  refine j_iload_n M dX2_product_1 1 rfl ?_
  refine j_rV (k_V M (m_isRow l X σ f t i hi h.n) (m_rc M) (lw_V q1402 q1404 qs43 q102 q1405) ndX2_isRow dX2_product_2 ⟨by decide, by decide, by decide, by decide⟩ rfl (Nat.le_of_ble_eq_true rfl)) ?_
  refine j_ifeqB M 30 dX2_product_5 (by decide) (fun c_5 => ?_) (fun c_5 => ?_)
  · refine j_ldc M (2000000101) q1406 (by decide) dX2_product_30 ?_
    refine j_iret M dX2_product_32 ⟨Nat.le_refl _, Nat.le_refl _⟩ ?_
    simp only [decide_eq_false_iff_not] at c_5; exact pMay.no (decide_eq_false (by omega)) h
  · refine j_aload_n M dX2_product_8 0 rfl ?_
    refine j_iload_n M dX2_product_9 2 rfl ?_
    refine j_rV (k_V M (m_isRow l X σ f t j hj h.n) (m_rc M) (lw_V q1402 q1404 qs43 q102 q1405) ndX2_isRow dX2_product_10 ⟨by decide, by decide, by decide, by decide⟩ rfl (Nat.le_of_ble_eq_true rfl)) ?_
    refine j_ifeqB M 30 dX2_product_13 (by decide) (fun c_13 => ?_) (fun c_13 => ?_)
    · refine j_ldc M (2000000101) q1406 (by decide) dX2_product_30 ?_
      refine j_iret M dX2_product_32 ⟨Nat.le_refl _, Nat.le_refl _⟩ ?_
      simp only [decide_eq_false_iff_not] at c_13; exact pMay.no (decide_eq_false (by omega)) h
    · simp only [decide_eq_true_eq] at c_5 c_13
      refine j_aload_n M dX2_product_16 0 rfl ?_
      refine j_iconst M dX2_product_17 ?_
      refine j_iload_n M dX2_product_18 1 rfl ?_
      refine j_iload_n M dX2_product_19 2 rfl ?_
      refine j_ldc M (2000000001) q1241 (by decide) dX2_product_20 ?_
      refine j_ldc M (2000000001) q1241 (by decide) dX2_product_22 ?_
      refine j_run (k_V M (m_comesW l X σ f t hm c 2 i j 2000000001 2000000001 h (fun _ => rOk_new12 _ _ _ _ _ _ (Or.inr rfl) (by omega) (by omega))) (m_rc M) (lw_V q1641 q1643 qs80 q102 q1644) ndX2_comes dX2_product_24 ⟨by decide, by decide, by decide, by decide⟩ rfl (Nat.le_of_ble_eq_true rfl)) (fun r_24 hp_24 hq_24 => ?_)
      rw [show bTwo (f 0) i j = true from decide_eq_true ⟨c_5, c_13⟩] at M
      obtain ⟨rfl, hq⟩ := hq_24
      refine j_goto M 32 dX2_product_27 (by decide) ?_
      refine j_iret M dX2_product_32 ⟨Nat.le_refl _, Nat.le_refl _⟩ ?_
      exact ⟨rfl, hq⟩
def bEach (a s : Int) : Bool := decide ((1 ≤ a ∧ a ≤ 5) ∧ (0 ≤ s ∧ s ≤ 9))
def vEach (n i a s : Int) : Int := if 0 ≤ i ∧ i ≤ n - 1 then 2000000102 else 2000000101
theorem m_each (hm : mOk σ) (c i a s : Int) (hi : r32 i) (ha : r32 a) (hs : r32 s) (h : MI c f t) : Ct l X yX2_each cX2_each 4 (some .int) (rD 3) [.ref σ.1, .int (zI i), .int (zI a), .int (zI s)] (mH X σ f t) (pMay X σ c f t (decide ((0 ≤ i ∧ i ≤ f 0 - 1) ∧ bEach a s = true)) (vEach (f 0) i a s) 3 i a s 2000000001) := by
  refine Ct.of (by decide) (Nat.le_of_ble_eq_true rfl) (fun Γ M => ?_)
  refine j_lv (lv' := [(0, .ref σ.1), (1, .int (zI i)), (2, .int (zI a)), (3, .int (zI s))]) rfl ?_
  refine j_aload_n M dX2_each_0 0 rfl ?_
  refine j_iload_n M dX2_each_1 1 rfl ?_
  refine j_rV (k_V M (m_isRow l X σ f t i hi h.n) (m_rc M) (lw_V q1402 q1404 qs43 q102 q1405) ndX2_isRow dX2_each_2 ⟨by decide, by decide, by decide, by decide⟩ rfl (Nat.le_of_ble_eq_true rfl)) ?_
  refine j_ifneB M 11 dX2_each_5 (by decide) (fun c_5 => ?_) (fun c_5 => ?_)
  · simp only [decide_eq_true_eq] at c_5
    refine j_iload_n M dX2_each_11 2 rfl ?_
    refine j_iconst M dX2_each_12 ?_
    refine j_iconst M dX2_each_13 ?_
    refine j_rV (k_S M (m_within l X _ _ _ _ (by omega)) (lw_S q1347 q1348 q102 q1349) ndX2_within dX2_each_14 ⟨by decide, by decide, by decide, by decide⟩ rfl (Nat.le_of_ble_eq_true rfl)) ?_
    refine j_ifeqB M 43 dX2_each_17 (by decide) (fun c_17 => ?_) (fun c_17 => ?_)
    · refine j_ldc M (2000000102) q1350 (by decide) dX2_each_43 ?_
      refine j_iret M dX2_each_45 ⟨Nat.le_refl _, Nat.le_refl _⟩ ?_
      simp only [decide_eq_false_iff_not] at c_17; unfold vEach; rw [if_pos c_5]; exact pMay.no (decide_eq_false (fun q => by simp only [bEach, decide_eq_true_eq] at q; omega)) h
    · refine j_iload_n M dX2_each_20 3 rfl ?_
      refine j_iconst M dX2_each_21 ?_
      refine j_bipush M dX2_each_22 (by decide) ?_
      refine j_rV (k_S M (m_within l X _ _ _ _ (by omega)) (lw_S q1347 q1348 q102 q1349) ndX2_within dX2_each_24 ⟨by decide, by decide, by decide, by decide⟩ rfl (Nat.le_of_ble_eq_true rfl)) ?_
      refine j_ifeqB M 43 dX2_each_27 (by decide) (fun c_27 => ?_) (fun c_27 => ?_)
      · refine j_ldc M (2000000102) q1350 (by decide) dX2_each_43 ?_
        refine j_iret M dX2_each_45 ⟨Nat.le_refl _, Nat.le_refl _⟩ ?_
        simp only [decide_eq_false_iff_not] at c_27; unfold vEach; rw [if_pos c_5]; exact pMay.no (decide_eq_false (fun q => by simp only [bEach, decide_eq_true_eq] at q; omega)) h
      · simp only [decide_eq_true_eq] at c_17 c_27
        refine j_aload_n M dX2_each_30 0 rfl ?_
        refine j_iconst M dX2_each_31 ?_
        refine j_iload_n M dX2_each_32 1 rfl ?_
        refine j_iload_n M dX2_each_33 2 rfl ?_
        refine j_iload_n M dX2_each_34 3 rfl ?_
        refine j_ldc M (2000000001) q1241 (by decide) dX2_each_35 ?_
        refine j_run (k_V M (m_comesW l X σ f t hm c 3 i a s 2000000001 h (fun _ => rOk_new3 _ _ _ _ _ _ (by omega) (by omega) (by omega))) (m_rc M) (lw_V q1641 q1643 qs80 q102 q1644) ndX2_comes dX2_each_37 ⟨by decide, by decide, by decide, by decide⟩ rfl (Nat.le_of_ble_eq_true rfl)) (fun r_37 hp_37 hq_37 => ?_)
        rw [show decide ((0 ≤ i ∧ i ≤ f 0 - 1) ∧ bEach a s = true) = true from decide_eq_true ⟨c_5, decide_eq_true ⟨c_17, c_27⟩⟩] at M
        obtain ⟨rfl, hq⟩ := hq_37
        refine j_goto M 45 dX2_each_40 (by decide) ?_
        refine j_iret M dX2_each_45 ⟨Nat.le_refl _, Nat.le_refl _⟩ ?_
        exact ⟨rfl, hq⟩
  · simp only [decide_eq_false_iff_not] at c_5
    refine j_ldc M (2000000101) q1406 (by decide) dX2_each_8 ?_
    refine j_iret M dX2_each_10 ⟨Nat.le_refl _, Nat.le_refl _⟩ ?_
    unfold vEach; rw [if_neg c_5]; exact pMay.no (decide_eq_false (by omega)) h
theorem m_step (hm : mOk σ) (c i : Int) (hi : r32 i) (h : MI c f t) : Ct l X yX2_step cX2_step 2 (some .int) (rD 3) [.ref σ.1, .int (zI i)] (mH X σ f t) (pMay X σ c f t (decide (0 ≤ i ∧ i ≤ f 0 - 1)) 2000000101 4 i 2000000001 2000000001 2000000001) := by
  refine Ct.of (by decide) (Nat.le_of_ble_eq_true rfl) (fun Γ M => ?_)
  refine j_lv (lv' := [(0, .ref σ.1), (1, .int (zI i))]) rfl ?_
  refine j_aload_n M dX2_step_0 0 rfl ?_
  refine j_iload_n M dX2_step_1 1 rfl ?_
  refine j_rV (k_V M (m_isRow l X σ f t i hi h.n) (m_rc M) (lw_V q1402 q1404 qs43 q102 q1405) ndX2_isRow dX2_step_2 ⟨by decide, by decide, by decide, by decide⟩ rfl (Nat.le_of_ble_eq_true rfl)) ?_
  refine j_ifeqB M 23 dX2_step_5 (by decide) (fun c_5 => ?_) (fun c_5 => ?_)
  · simp only [decide_eq_false_iff_not] at c_5
    refine j_ldc M (2000000101) q1406 (by decide) dX2_step_23 ?_
    refine j_iret M dX2_step_25 ⟨Nat.le_refl _, Nat.le_refl _⟩ ?_
    exact pMay.no (decide_eq_false (by omega)) h
  · simp only [decide_eq_true_eq] at c_5
    refine j_aload_n M dX2_step_8 0 rfl ?_
    refine j_iconst M dX2_step_9 ?_
    refine j_iload_n M dX2_step_10 1 rfl ?_
    refine j_ldc M (2000000001) q1241 (by decide) dX2_step_11 ?_
    refine j_ldc M (2000000001) q1241 (by decide) dX2_step_13 ?_
    refine j_ldc M (2000000001) q1241 (by decide) dX2_step_15 ?_
    refine j_run (k_V M (m_comesW l X σ f t hm c 4 i 2000000001 2000000001 2000000001 h (fun _ => rOk_new4 _ _ _ _ (by omega))) (m_rc M) (lw_V q1641 q1643 qs80 q102 q1644) ndX2_comes dX2_step_17 ⟨by decide, by decide, by decide, by decide⟩ rfl (Nat.le_of_ble_eq_true rfl)) (fun r_17 hp_17 hq_17 => ?_)
    rw [show decide (0 ≤ i ∧ i ≤ f 0 - 1) = true from decide_eq_true c_5] at M
    obtain ⟨rfl, hq⟩ := hq_17
    refine j_goto M 25 dX2_step_20 (by decide) ?_
    refine j_iret M dX2_step_25 ⟨Nat.le_refl _, Nat.le_refl _⟩ ?_
    exact ⟨rfl, hq⟩
/-- put: may it, what is answered, the parts behind it -/
def bPut (n : Int) (K : Int → Int) (i w v : Int) : Bool := decide ((0 ≤ i ∧ i ≤ n - 1) ∧ (0 ≤ w ∧ w ≤ 3) ∧ K i = 0 ∧ (if w < 2 then -9 ≤ v ∧ v ≤ 9 else -999 ≤ v ∧ v ≤ 999))
def vPut (n : Int) (K P : Int → Int) (i w v : Int) : Int := if 0 ≤ i ∧ i ≤ n - 1 then (if 0 ≤ w ∧ w ≤ 3 then (if K i = 0 then (if (if w < 2 then -9 ≤ v ∧ v ≤ 9 else -999 ≤ v ∧ v ≤ 999) then P (4 * i + w) else 2000000102) else 2000000103) else 2000000102) else 2000000101
def qPut (n : Int) (K P : Int → Int) (i w v : Int) : Int → Int := if bPut n K i w v then upA P (4 * i + w) v else P
theorem put_MI {c i w v : Int} {f : Nat → Int} {t : Nat → Int → Int} (h : MI c f t) (hi : 0 ≤ i ∧ i < f 0) (hw : 0 ≤ w ∧ w ≤ 3) (hk : t 1 i = 0) (hv : if w < 2 then -9 ≤ v ∧ v ≤ 9 else -999 ≤ v ∧ v ≤ 999) : MI c (pChg f) (upN t 2 (upA (t 2) (4 * i + w) v)) ∧ mIs f t (pChg f) (upN t 2 (upA (t 2) (4 * i + w) v)) (f 0) (t 1) (upA (t 2) (4 * i + w) v) := by
  obtain ⟨g1, g2, g3, g4, g5, g6, g7, g8, g9, g10⟩ := h
  refine ⟨⟨g1, ?_, g3, g4, g5, g6, g7, fun q => by simp [pChg, upN] at q, Or.inl rfl, g10⟩, rfl, rfl, fun _ _ => rfl, ?_, ?_⟩
  · intro j j0 j1
    by_cases e : j = i
    · have ht := rOk_told (g2 i hi.1 hi.2) hk
      rw [e]
      left
      refine ⟨hk, ?_⟩
      show (-9 ≤ upA (t 2) (4 * i + w) v (4 * i) ∧ upA (t 2) (4 * i + w) v (4 * i) ≤ 9) ∧ (-9 ≤ upA (t 2) (4 * i + w) v (4 * i + 1) ∧ upA (t 2) (4 * i + w) v (4 * i + 1) ≤ 9) ∧ (-999 ≤ upA (t 2) (4 * i + w) v (4 * i + 2) ∧ upA (t 2) (4 * i + w) v (4 * i + 2) ≤ 999) ∧ (-999 ≤ upA (t 2) (4 * i + w) v (4 * i + 3) ∧ upA (t 2) (4 * i + w) v (4 * i + 3) ≤ 999)
      unfold upA
      rcases (show w = 0 ∨ w = 1 ∨ w = 2 ∨ w = 3 by omega) with rfl | rfl | rfl | rfl
      · rw [if_pos (by omega)] at hv
        rw [if_pos (by omega), if_neg (by omega), if_neg (by omega), if_neg (by omega)]; omega
      · rw [if_pos (by omega)] at hv
        rw [if_neg (by omega), if_pos (by omega), if_neg (by omega), if_neg (by omega)]; omega
      · rw [if_neg (by omega)] at hv
        rw [if_neg (by omega), if_neg (by omega), if_pos (by omega), if_neg (by omega)]; omega
      · rw [if_neg (by omega)] at hv
        rw [if_neg (by omega), if_neg (by omega), if_neg (by omega), if_pos (by omega)]; omega
    · exact rOk_congr (g2 j j0 j1) rfl (upA_n _ _ (by omega)) (upA_n _ _ (by omega)) (upA_n _ _ (by omega)) (upA_n _ _ (by omega))
  · intro j hj
    simp only [List.mem_cons, List.not_mem_nil, or_false] at hj
    unfold pChg
    rw [upN_n _ _ (by omega), upN_n _ _ (by omega)]
  · intro j hj
    simp only [List.mem_cons, List.not_mem_nil, or_false] at hj
    rw [upN_n _ _ (by omega)]
theorem m_putM (hm : mOk σ) (c i w v : Int) (hi : r32 i) (hw : r32 w) (hv : r32 v) (h : MI c f t) : Ct l X yX2_put cX2_put 5 (some .int) (rD 3) [.ref σ.1, .int (zI i), .int (zI w), .int (zI v)] (mH X σ f t) (pWr X σ c f t (.int (zI (vPut (f 0) (t 1) (t 2) i w v))) (f 0) (t 1) (qPut (f 0) (t 1) (t 2) i w v)) := by
  have h0 := h.n
  have hno : bPut (f 0) (t 1) i w v = false → ∀ e, vPut (f 0) (t 1) (t 2) i w v = e → pWr X σ c f t (.int (zI (vPut (f 0) (t 1) (t 2) i w v))) (f 0) (t 1) (qPut (f 0) (t 1) (t 2) i w v) (some (.int (zI e))) (mH X σ f t) := by
    intro hb e he
    unfold qPut
    rw [hb, he]
    exact pWr.of h
  have hyes : (0 ≤ i ∧ i ≤ f 0 - 1) → (0 ≤ w ∧ w ≤ 3) → t 1 i = 0 → (if w < 2 then -9 ≤ v ∧ v ≤ 9 else -999 ≤ v ∧ v ≤ 999) → pWr X σ c f t (.int (zI (vPut (f 0) (t 1) (t 2) i w v))) (f 0) (t 1) (qPut (f 0) (t 1) (t 2) i w v) (some (.int (zI (t 2 (4 * i + w))))) (mH X σ (pChg f) (upN t 2 (upA (t 2) (4 * i + w) v))) := by
    intro a1 a2 a3 a4
    have hb : bPut (f 0) (t 1) i w v = true := decide_eq_true ⟨a1, a2, a3, a4⟩
    unfold qPut vPut
    rw [hb, if_pos a1, if_pos a2, if_pos a3, if_pos a4]
    exact ⟨rfl, _, _, rfl, put_MI h (by omega) a2 a3 a4⟩
  refine Ct.of (by decide) (Nat.le_of_ble_eq_true rfl) (fun Γ M => ?_)
  refine j_lv (lv' := [(0, .ref σ.1), (1, .int (zI i)), (2, .int (zI w)), (3, .int (zI v))]) rfl ?_
  refine j_aload_n M dX2_put_0 0 rfl ?_
  refine j_iload_n M dX2_put_1 1 rfl ?_
  refine j_rV (k_V M (m_isRow l X σ f t i hi h0) (m_rc M) (lw_V q1402 q1404 qs43 q102 q1405) ndX2_isRow dX2_put_2 ⟨by decide, by decide, by decide, by decide⟩ rfl (Nat.le_of_ble_eq_true rfl)) ?_
  refine j_ifneB M 11 dX2_put_5 (by decide) (fun c_5 => ?_) (fun c_5 => ?_)
  · simp only [decide_eq_true_eq] at c_5
    have hk := rOk_k (h.ok i c_5.1 (by omega))
    refine j_iload_n M dX2_put_11 2 rfl ?_
    refine j_iconst M dX2_put_12 ?_
    refine j_iconst M dX2_put_13 ?_
    refine j_rV (k_S M (m_within l X _ _ _ _ (by omega)) (lw_S q1347 q1348 q102 q1349) ndX2_within dX2_put_14 ⟨by decide, by decide, by decide, by decide⟩ rfl (Nat.le_of_ble_eq_true rfl)) ?_
    refine j_ifneB M 23 dX2_put_17 (by decide) (fun c_17 => ?_) (fun c_17 => ?_)
    · simp only [decide_eq_true_eq] at c_17
      refine j_aload_n M dX2_put_23 0 rfl ?_
      refine j_iload_n M dX2_put_24 1 rfl ?_
      refine j_rV (k_V M (m_isTold l X σ f t hm i (by omega) (by omega)) (m_rc M) (lw_V q1557 q1559 qs71 q102 q1560) ndX2_isTold dX2_put_25 ⟨by decide, by decide, by decide, by decide⟩ rfl (Nat.le_of_ble_eq_true rfl)) ?_
      refine j_ifneB M 34 dX2_put_28 (by decide) (fun c_28 => ?_) (fun c_28 => ?_)
      · simp only [pTold, decide_eq_true_eq] at c_28
        refine j_iload_n M dX2_put_34 2 rfl ?_
        refine j_iconst M dX2_put_35 ?_
        refine j_icmp_ge M 49 dX2_put_36 (by decide) (by omega) (fun c_36 => ?_) (fun c_36 => ?_)
        · refine j_iload_n M dX2_put_49 3 rfl ?_
          refine j_rV (k_S M (m_isMany l X _ _ hv) (lw_S q1638 q1639 q102 q1640) ndX2_isMany dX2_put_50 ⟨by decide, by decide, by decide, by decide⟩ rfl (Nat.le_of_ble_eq_true rfl)) ?_
          refine j_ifneB M 59 dX2_put_53 (by decide) (fun c_53 => ?_) (fun c_53 => ?_)
          · simp only [decide_eq_true_eq] at c_53
            refine j_aload_n M dX2_put_59 0 rfl ?_
            refine m_get M 2 (by decide) q1244 rfl dX2_put_60 ?_
            refine j_iconst M dX2_put_63 ?_
            refine j_iload_n M dX2_put_64 1 rfl ?_
            refine j_imul M dX2_put_65 ?_
            refine j_iload_n M dX2_put_66 2 rfl ?_
            refine j_iadd M dX2_put_67 ?_
            refine m_ald M hm (n := 36) 2 (by decide) rfl dX2_put_68 (by omega) ?_
            refine j_istore M dX2_put_69 (by decide) ?_
            refine j_aload_n M dX2_put_71 0 rfl ?_
            refine m_get M 2 (by decide) q1244 rfl dX2_put_72 ?_
            refine j_iconst M dX2_put_75 ?_
            refine j_iload_n M dX2_put_76 1 rfl ?_
            refine j_imul M dX2_put_77 ?_
            refine j_iload_n M dX2_put_78 2 rfl ?_
            refine j_iadd M dX2_put_79 ?_
            refine j_iload_n M dX2_put_80 3 rfl ?_
            refine m_ast M hm (n := 36) 2 (by decide) (fun _ => rfl) dX2_put_81 (by omega) ?_
            refine j_aload_n M dX2_put_82 0 rfl ?_
            refine j_rN (k_V M (m_changes l X σ _ _) (m_rc M) (lw_V q1394 q1396 qs42 q102 q1397) ndX2_changes dX2_put_83 ⟨by decide, by decide, by decide, by decide⟩ rfl (Nat.le_of_ble_eq_true rfl)) ?_
            refine j_iload M dX2_put_86 4 rfl ?_
            refine j_iret M dX2_put_88 ⟨Nat.le_refl _, Nat.le_refl _⟩ ?_
            exact hyes c_5 c_17 c_28 (by rw [if_neg (by omega)]; exact c_53)
          · simp only [decide_eq_false_iff_not] at c_53
            refine j_ldc M (2000000102) q1350 (by decide) dX2_put_56 ?_
            refine j_iret M dX2_put_58 ⟨Nat.le_refl _, Nat.le_refl _⟩ ?_
            exact hno (decide_eq_false (fun q => by have := q.2.2.2; rw [if_neg (by omega)] at this; exact c_53 this)) _ (by unfold vPut; rw [if_pos c_5, if_pos c_17, if_pos c_28, if_neg (by rw [if_neg (by omega)]; exact c_53)])
        · refine j_iload_n M dX2_put_39 3 rfl ?_
          refine j_rV (k_S M (m_isFew l X _ _ hv) (lw_S q1635 q1636 q102 q1637) ndX2_isFew dX2_put_40 ⟨by decide, by decide, by decide, by decide⟩ rfl (Nat.le_of_ble_eq_true rfl)) ?_
          refine j_ifneB M 59 dX2_put_43 (by decide) (fun c_43 => ?_) (fun c_43 => ?_)
          · simp only [decide_eq_true_eq] at c_43
            refine j_aload_n M dX2_put_59 0 rfl ?_
            refine m_get M 2 (by decide) q1244 rfl dX2_put_60 ?_
            refine j_iconst M dX2_put_63 ?_
            refine j_iload_n M dX2_put_64 1 rfl ?_
            refine j_imul M dX2_put_65 ?_
            refine j_iload_n M dX2_put_66 2 rfl ?_
            refine j_iadd M dX2_put_67 ?_
            refine m_ald M hm (n := 36) 2 (by decide) rfl dX2_put_68 (by omega) ?_
            refine j_istore M dX2_put_69 (by decide) ?_
            refine j_aload_n M dX2_put_71 0 rfl ?_
            refine m_get M 2 (by decide) q1244 rfl dX2_put_72 ?_
            refine j_iconst M dX2_put_75 ?_
            refine j_iload_n M dX2_put_76 1 rfl ?_
            refine j_imul M dX2_put_77 ?_
            refine j_iload_n M dX2_put_78 2 rfl ?_
            refine j_iadd M dX2_put_79 ?_
            refine j_iload_n M dX2_put_80 3 rfl ?_
            refine m_ast M hm (n := 36) 2 (by decide) (fun _ => rfl) dX2_put_81 (by omega) ?_
            refine j_aload_n M dX2_put_82 0 rfl ?_
            refine j_rN (k_V M (m_changes l X σ _ _) (m_rc M) (lw_V q1394 q1396 qs42 q102 q1397) ndX2_changes dX2_put_83 ⟨by decide, by decide, by decide, by decide⟩ rfl (Nat.le_of_ble_eq_true rfl)) ?_
            refine j_iload M dX2_put_86 4 rfl ?_
            refine j_iret M dX2_put_88 ⟨Nat.le_refl _, Nat.le_refl _⟩ ?_
            exact hyes c_5 c_17 c_28 (by rw [if_pos (by omega)]; exact c_43)
          · simp only [decide_eq_false_iff_not] at c_43
            refine j_goto M 56 dX2_put_46 (by decide) ?_
            refine j_ldc M (2000000102) q1350 (by decide) dX2_put_56 ?_
            refine j_iret M dX2_put_58 ⟨Nat.le_refl _, Nat.le_refl _⟩ ?_
            exact hno (decide_eq_false (fun q => by have := q.2.2.2; rw [if_pos (by omega)] at this; exact c_43 this)) _ (by unfold vPut; rw [if_pos c_5, if_pos c_17, if_pos c_28, if_neg (by rw [if_pos (by omega)]; exact c_43)])
      · simp only [pTold, decide_eq_false_iff_not] at c_28
        refine j_ldc M (2000000103) q1393 (by decide) dX2_put_31 ?_
        refine j_iret M dX2_put_33 ⟨Nat.le_refl _, Nat.le_refl _⟩ ?_
        exact hno (decide_eq_false (fun q => c_28 q.2.2.1)) _ (by unfold vPut; rw [if_pos c_5, if_pos c_17, if_neg c_28])
    · simp only [decide_eq_false_iff_not] at c_17
      refine j_ldc M (2000000102) q1350 (by decide) dX2_put_20 ?_
      refine j_iret M dX2_put_22 ⟨Nat.le_refl _, Nat.le_refl _⟩ ?_
      exact hno (decide_eq_false (fun q => c_17 q.2.1)) _ (by unfold vPut; rw [if_pos c_5, if_neg c_17])
  · simp only [decide_eq_false_iff_not] at c_5
    refine j_ldc M (2000000101) q1406 (by decide) dX2_put_8 ?_
    refine j_iret M dX2_put_10 ⟨Nat.le_refl _, Nat.le_refl _⟩ ?_
    exact hno (decide_eq_false (fun q => c_5 q.1)) _ (if_neg c_5)
theorem m_drop (c : Int) (h : MI c f t) : Ct l X yX2_drop cX2_drop 1 (some .int) (rD 0) [.ref σ.1] (mH X σ f t) (pWr X σ c f t (.int (zI (if f 0 = 0 then 2000000103 else f 0 - 1))) (if f 0 = 0 then 0 else f 0 - 1) (t 1) (t 2)) := by
  have h0 := h.n
  refine Ct.of (by decide) (Nat.le_of_ble_eq_true rfl) (fun Γ M => ?_)
  refine j_lv (lv' := [(0, .ref σ.1)]) rfl ?_
  refine j_aload_n M dX2_drop_0 0 rfl ?_
  refine m_get M 0 (by decide) q1242 rfl dX2_drop_1 ?_
  refine j_if_ne M 10 dX2_drop_4 (by decide) (by omega) (fun c_4 => ?_) (fun c_4 => ?_)
  · refine j_aload_n M dX2_drop_10 0 rfl ?_
    refine j_dup M dX2_drop_11 rfl ?_
    refine m_get M 0 (by decide) q1242 rfl dX2_drop_12 ?_
    refine j_iconst M dX2_drop_15 ?_
    refine j_isub M dX2_drop_16 ?_
    refine m_put M 0 (by decide) q1242 dX2_drop_17 ?_
    refine j_aload_n M dX2_drop_20 0 rfl ?_
    refine m_get M 0 (by decide) q1242 rfl dX2_drop_21 ?_
    refine j_iret M dX2_drop_24 ⟨Nat.le_refl _, Nat.le_refl _⟩ ?_
    rw [if_neg c_4, if_neg c_4]
    obtain ⟨g1, g2, g3, g4, g5, g6, g7, g8, g9, g10⟩ := h
    refine ⟨rfl, _, _, rfl, ⟨⟨?_, ?_⟩, ?_, g3, g4, g5, g6, g7, ?_, ?_, g10⟩, rfl, rfl, fun _ _ => rfl, ?_, fun _ _ => rfl⟩
    · show 0 ≤ f 0 - 1; omega
    · show f 0 - 1 ≤ 8; omega
    · intro j j0 j1; replace j1 : j < f 0 - 1 := j1; exact g2 j j0 (by omega)
    · intro q j j0 j1; replace j1 : j < 201 * (f 0 - 1) := j1; exact g8 q j j0 (by omega)
    · rcases g9 with q | ⟨q1, q2, q3⟩
      · exact Or.inl q
      · exact Or.inr ⟨q1, q2, fun j j0 j1 => q3 j j0 (by replace j1 : j < f 0 - 1 := j1; omega)⟩
    · intro j hj
      simp only [List.mem_cons, List.not_mem_nil, or_false] at hj
      exact upN_n _ _ (by omega)
  · refine j_ldc M (2000000103) q1393 (by decide) dX2_drop_7 ?_
    refine j_iret M dX2_drop_9 ⟨Nat.le_refl _, Nat.le_refl _⟩ ?_
    rw [if_pos c_4, if_pos c_4, ← c_4]; exact pWr.of h
end M8
