/-! 25: the reference: noughts, ends, meets -/
set_option maxRecDepth 100000
def pBits (s : Int → Int) : Nat → Int32
  | 0 => zI 0
  | n + 1 => pBits s n ||| (if s n = 0 then zI 1 <<< (zI n &&& 31) else zI 0)
noncomputable def pEnds (z : Int → Int) : Nat → Int → Int
  | 0, _ => 2000000001
  | j + 1, m => if z m = 0 then m else pEnds z j (m + 1)
def pOpB (r : Int → Int) : Nat → Int
  | 0 => 1
  | j + 1 => if pOpB r j = 1 ∧ r (j + 2) = 0 then 1 else 0
theorem pOpB_r (r : Int → Int) (n : Nat) : pOpB r n = 0 ∨ pOpB r n = 1 := by
  cases n with
  | zero => right; rfl
  | succ n => unfold pOpB; split; (right; rfl); (left; rfl)
def pOpC (o : Int → Int) : Nat → Int × Int
  | 0 => (0, 2000000001)
  | k + 1 => ((pOpC o k).1 + o k, if o k = 1 then (k : Int) else (pOpC o k).2)
theorem pOpC_r (o : Int → Int) (ho : ∀ k, o k = 0 ∨ o k = 1) : ∀ k : Nat, (0 ≤ (pOpC o k).1 ∧ (pOpC o k).1 ≤ k) ∧ (0 ≤ (pOpC o k).2 ∧ (pOpC o k).2 ≤ 2000000001 + k) := by
  intro k
  induction k with
  | zero => simp [pOpC]
  | succ k ih => have := ho k; simp only [pOpC]; split <;> omega
def isMeet (s1 s2 : Int → Int) (r : Int) : Prop := (0 ≤ r ∧ s1 r = s2 r ∧ ∀ k, 0 ≤ k → k < r → s1 k ≠ s2 k) ∨ (r = 2000000001 ∧ ∀ k, 0 ≤ k → s1 k ≠ s2 k)
noncomputable def pMeet (s1 s2 : Int → Int) : Int := Classical.epsilon (isMeet s1 s2)
theorem isMeet.eq {s1 s2 : Int → Int} {r : Int} (h : isMeet s1 s2 r) : pMeet s1 s2 = r := by
  have h2 : isMeet s1 s2 (pMeet s1 s2) := Classical.epsilon_spec (p := isMeet s1 s2) ⟨r, h⟩
  rcases h with ⟨a1, a2, a3⟩ | ⟨a1, a2⟩ <;> rcases h2 with ⟨b1, b2, b3⟩ | ⟨b1, b2⟩
  · rcases Int.lt_trichotomy r (pMeet s1 s2) with q | q | q
    · exact absurd a2 (b3 r a1 q)
    · exact q.symm
    · exact absurd b2 (a3 _ b1 q)
  · exact absurd a2 (b2 r a1)
  · exact absurd b2 (a2 _ b1)
  · rw [a1, b1]
/-- to look as far as both laps together is enough -/
theorem meet_far {s1 s2 : Int → Int} {h L : Int} (h1 : Per s1 h L) (h2 : Per s2 h L) (hn : ∀ k, 0 ≤ k → k < h + L → s1 k ≠ s2 k) : ∀ k, 0 ≤ k → s1 k ≠ s2 k := by
  intro k hk
  have hL := h1.2.1
  have hh := h1.1
  rw [h1.at hk, h2.at hk]
  by_cases c : k < h
  · rw [if_pos c]; exact hn k hk (by omega)
  · rw [if_neg c]
    have m1 := Int.emod_nonneg (k - h) (show L ≠ 0 by omega)
    have m2 := Int.emod_lt_of_pos (k - h) hL
    exact hn _ (by omega) (by omega)
section M6
variable (l : Launch) (X : Cx) (σ : Ms) (f : Nat → Int) (t : Nat → Int → Int)
theorem mSame.t1 {f f' : Nat → Int} {t t' : Nat → Int → Int} (h : mSame f t f' t') : t' 1 = t 1 := h.2.1 1 (by decide)
theorem mSame.f0 {f f' : Nat → Int} {t t' : Nat → Int → Int} (h : mSame f t f' t') : f' 0 = f 0 := h.1 0 (by decide)
theorem m_noughtsOf (hm : mOk σ) (c i : Int) (hi : 0 ≤ i ∧ i < f 0) (h : MI c f t) : Ct l X yX2_noughtsOf cX2_noughtsOf 4 (some .int) (rD 5) [.ref σ.1, .int (zI i)] (mH X σ f t) (pQ X σ c f t (.int (pBits (pTerm (t 1) (t 2) i) 24))) := by
  have h0 := h.n
  refine Ct.of (by decide) (Nat.le_of_ble_eq_true rfl) (fun Γ M => ?_)
  refine j_lv (lv' := [(0, .ref σ.1), (1, .int (zI i))]) rfl ?_
  have loop : ∀ (w k : Nat) (f1 : Nat → Int) (t1 : Nat → Int → Int), w = 24 - k → k ≤ 24 → MI c f1 t1 → mSame f t f1 t1 → t1 2 = t 2 → J Γ (mH X σ f1 t1) 0 0 4 [(0, .ref σ.1), (1, .int (zI i)), (2, .int (pBits (pTerm (t 1) (t 2) i) k)), (3, .int (zI k))] [] := by
    intro w
    induction w using Nat.strongRecOn with
    | _ w ih =>
      intro k f1 t1 hw hk h1 hs h2
      have e0 := hs.f0
      have e1 := hs.t1
      have hr := tR_r (pTerm_r h.ok hi.1 hi.2 (n := k))
      refine j_iload_n M dX2_noughtsOf_4 3 rfl ?_
      refine j_bipush M dX2_noughtsOf_5 (by decide) ?_
      refine j_icmp_ge M 35 dX2_noughtsOf_7 (by decide) (by omega) (fun c_7 => ?_) (fun c_7 => ?_)
      · refine j_iload_n M dX2_noughtsOf_35 2 rfl ?_
        refine j_iret M dX2_noughtsOf_36 ⟨Nat.le_refl _, Nat.le_refl _⟩ ?_
        refine ⟨?_, f1, t1, rfl, h1, hs⟩
        rw [show k = 24 by omega]
      · refine j_iload_n M dX2_noughtsOf_10 2 rfl ?_
        refine j_aload_n M dX2_noughtsOf_11 0 rfl ?_
        refine j_iload_n M dX2_noughtsOf_12 1 rfl ?_
        refine j_iload_n M dX2_noughtsOf_13 3 rfl ?_
        refine j_run (k_V M (m_termOf l X σ f1 t1 hm i k (by omega) (by omega) h1.n h1.ok h1.tl) (m_rc M) (lw_V q1418 q1420 qs44 q102 q1421) ndX2_termOf dX2_noughtsOf_14 ⟨by decide, by decide, by decide, by decide⟩ rfl (Nat.le_of_ble_eq_true rfl)) (fun r_14 hp_14 hq_14 => ?_)
        obtain ⟨rfl, g, rfl, hg⟩ := hq_14
        have hT := h1.terms hg
        rw [e1, h2]
        refine j_if_ne M 26 dX2_noughtsOf_17 (by decide) (by omega) (fun c_17 => ?_) (fun c_17 => ?_)
        · refine j_iconst M dX2_noughtsOf_26 ?_
          refine j_ior M dX2_noughtsOf_27 ?_
          refine j_istore_n M dX2_noughtsOf_28 (by decide) ?_
          refine j_iinc M dX2_noughtsOf_29 3 rfl (by decide) ?_
          refine j_goto M 4 dX2_noughtsOf_32 (by decide) ?_
          have kk := ih _ (by omega) (k + 1) _ _ rfl (by omega) hT.1 (hs.tr hT.2) h2
          unfold pBits at kk
          rw [if_neg c_17] at kk
          exact kk
        · refine j_iconst M dX2_noughtsOf_20 ?_
          refine j_iload_n M dX2_noughtsOf_21 3 rfl ?_
          refine j_ishl M dX2_noughtsOf_22 ?_
          refine j_goto M 27 dX2_noughtsOf_23 (by decide) ?_
          refine j_ior M dX2_noughtsOf_27 ?_
          refine j_istore_n M dX2_noughtsOf_28 (by decide) ?_
          refine j_iinc M dX2_noughtsOf_29 3 rfl (by decide) ?_
          refine j_goto M 4 dX2_noughtsOf_32 (by decide) ?_
          have kk := ih _ (by omega) (k + 1) _ _ rfl (by omega) hT.1 (hs.tr hT.2) h2
          unfold pBits at kk
          rw [if_pos c_17] at kk
          exact kk
  refine j_iconst M dX2_noughtsOf_0 ?_
  refine j_istore_n M dX2_noughtsOf_1 (by decide) ?_
  refine j_iconst M dX2_noughtsOf_2 ?_
  refine j_istore_n M dX2_noughtsOf_3 (by decide) ?_
  exact loop _ 0 f t rfl (by omega) h mSame.rfl rfl
def vNoughts (n : Int) (K P : Int → Int) (i : Int) : Int32 := if 0 ≤ i ∧ i ≤ n - 1 then pBits (pTerm K P i) 24 else zI 2000000101
theorem m_noughts (hm : mOk σ) (c i : Int) (hi : r32 i) (h : MI c f t) : Ct l X yX2_noughts cX2_noughts 2 (some .int) (rD 6) [.ref σ.1, .int (zI i)] (mH X σ f t) (pQ X σ c f t (.int (vNoughts (f 0) (t 1) (t 2) i))) := by
  have h0 := h.n
  refine Ct.of (by decide) (Nat.le_of_ble_eq_true rfl) (fun Γ M => ?_)
  refine j_lv (lv' := [(0, .ref σ.1), (1, .int (zI i))]) rfl ?_
  refine j_aload_n M dX2_noughts_0 0 rfl ?_
  refine j_iload_n M dX2_noughts_1 1 rfl ?_
  refine j_rV (k_V M (m_isRow l X σ f t i hi h0) (m_rc M) (lw_V q1402 q1404 qs43 q102 q1405) ndX2_isRow dX2_noughts_2 ⟨by decide, by decide, by decide, by decide⟩ rfl (Nat.le_of_ble_eq_true rfl)) ?_
  refine j_ifeqB M 16 dX2_noughts_5 (by decide) (fun c_5 => ?_) (fun c_5 => ?_)
  · simp only [decide_eq_false_iff_not] at c_5
    refine j_ldc M (2000000101) q1406 (by decide) dX2_noughts_16 ?_
    refine j_iret M dX2_noughts_18 ⟨Nat.le_refl _, Nat.le_refl _⟩ ?_
    unfold vNoughts; rw [if_neg c_5]; exact pQ.of h
  · simp only [decide_eq_true_eq] at c_5
    refine j_aload_n M dX2_noughts_8 0 rfl ?_
    refine j_iload_n M dX2_noughts_9 1 rfl ?_
    refine j_run (k_V M (m_noughtsOf l X σ f t hm c i (by omega) h) (m_rc M) (lw_V q1603 q1605 qs76 q102 q1606) ndX2_noughtsOf dX2_noughts_10 ⟨by decide, by decide, by decide, by decide⟩ rfl (Nat.le_of_ble_eq_true rfl)) (fun r_10 hp_10 hq_10 => ?_)
    obtain ⟨rfl, hq⟩ := hq_10
    refine j_goto M 18 dX2_noughts_13 (by decide) ?_
    refine j_iret M dX2_noughts_18 ⟨Nat.le_refl _, Nat.le_refl _⟩ ?_
    unfold vNoughts; rw [if_pos c_5]; exact ⟨rfl, hq⟩
theorem rKeep.t1 {t t' : Nat → Int → Int} (h : rKeep t t') : t' 1 = t 1 := h 1 (by decide) (by decide) (by decide) (by decide)
theorem rKeep.t2 {t t' : Nat → Int → Int} (h : rKeep t t') : t' 2 = t 2 := h 2 (by decide) (by decide) (by decide) (by decide)
noncomputable def vEnds (n : Int) (K P : Int → Int) (i : Int) : Int := if 0 ≤ i ∧ i ≤ n - 1 then pEnds (fun m => pZeros (pRest m K P i)) 9 2 else 2000000101
theorem pZeros_r {s : Int → Int} {h L : Int} (hp : Per s h L) (hL : L ≤ 336) : 0 ≤ pZeros s ∧ pZeros s ≤ 336 := by
  have := pCnt_r s (pHead s) (pLap s).toNat
  have h2 := hp.least
  have h3 := h2.1.1
  unfold pZeros
  omega
theorem m_ends (hm : mOk σ) (c i : Int) (hi : r32 i) (h : MI c f t) : Ct l X yX2_ends cX2_ends 3 (some .int) (rD 5) [.ref σ.1, .int (zI i)] (mH X σ f t) (pQ X σ c f t (.int (zI (vEnds (f 0) (t 1) (t 2) i)))) := by
  have h0 := h.n
  refine Ct.of (by decide) (Nat.le_of_ble_eq_true rfl) (fun Γ M => ?_)
  refine j_lv (lv' := [(0, .ref σ.1), (1, .int (zI i))]) rfl ?_
  have loop : 0 ≤ i ∧ i ≤ f 0 - 1 → ∀ (w : Nat) (m : Int) (f1 : Nat → Int) (t1 : Nat → Int → Int), w = (11 - m).toNat → 2 ≤ m ∧ m ≤ 11 → MI c f1 t1 → mSame f t f1 t1 → t1 2 = t 2 → pEnds (fun m => pZeros (pRest m (t 1) (t 2) i)) w m = pEnds (fun m => pZeros (pRest m (t 1) (t 2) i)) 9 2 → J Γ (mH X σ f1 t1) 0 0 13 [(0, .ref σ.1), (1, .int (zI i)), (2, .int (zI m))] [] := by
    intro hir w
    induction w using Nat.strongRecOn with
    | _ w ih =>
      intro m f1 t1 hw hk h1 hs h2 hE
      have e0 := hs.f0
      have e1 := hs.t1
      refine j_iload_n M dX2_ends_13 2 rfl ?_
      refine j_bipush M dX2_ends_14 (by decide) ?_
      refine j_icmp_gt M 40 dX2_ends_16 (by decide) (by omega) (fun c_16 => ?_) (fun c_16 => ?_)
      · refine j_ldc M (2000000001) q1241 (by decide) dX2_ends_40 ?_
        refine j_iret M dX2_ends_42 ⟨Nat.le_refl _, Nat.le_refl _⟩ ?_
        refine ⟨?_, f1, t1, rfl, h1, hs⟩
        unfold vEnds; rw [if_pos hir, ← hE, show w = 0 by omega]; rfl
      · refine j_aload_n M dX2_ends_19 0 rfl ?_
        refine j_iload_n M dX2_ends_20 2 rfl ?_
        refine j_run (k_V M (m_layRests l X σ f1 t1 hm m h1.n (by omega) h1.r14 h1.ok (h1.l14 (by omega))) (m_rc M) (lw_V q1460 q1462 qs52 q102 q1463) ndX2_layRests dX2_ends_21 ⟨by decide, by decide, by decide, by decide⟩ rfl (Nat.le_of_ble_eq_true rfl)) (fun r_21 hp_21 hq_21 => ?_)
        obtain ⟨rfl, t2, rfl, hk2, hL⟩ := hq_21
        have hM := h1.rests (by omega : 2 ≤ m ∧ m ≤ 10) hk2 hL
        have hi2 := hL i hir.1 (by omega)
        rw [hk2.t1, hk2.t2, e1, h2] at hi2
        have hzr := pZeros_r hi2.2.2.1 hi2.bd.2.2
        obtain ⟨w1, hw1⟩ : ∃ w1, w = w1 + 1 := ⟨w - 1, by omega⟩
        refine j_aload_n M dX2_ends_24 0 rfl ?_
        refine j_iload_n M dX2_ends_25 1 rfl ?_
        refine j_rV (k_V M (m_zerosOf l X σ (upN f1 14 m) t2 hm m i _ (by omega) hi2) (m_rc M) (lw_V q1510 q1512 qs62 q102 q1513) ndX2_zerosOf dX2_ends_26 ⟨by decide, by decide, by decide, by decide⟩ rfl (Nat.le_of_ble_eq_true rfl)) ?_
        refine j_if_ne M 34 dX2_ends_29 (by decide) (by omega) (fun c_29 => ?_) (fun c_29 => ?_)
        · refine j_iinc M dX2_ends_34 2 rfl (by decide) ?_
          refine j_goto M 13 dX2_ends_37 (by decide) ?_
          refine ih w1 (by omega) (m + 1) _ _ (by omega) (by omega) hM.1 (hs.tr hM.2) (by rw [hk2.t2, h2]) ?_
          rw [← hE, hw1, pEnds, if_neg c_29]
        · refine j_iload_n M dX2_ends_32 2 rfl ?_
          refine j_iret M dX2_ends_33 ⟨Nat.le_refl _, Nat.le_refl _⟩ ?_
          refine ⟨?_, _, _, rfl, hM.1, hs.tr hM.2⟩
          unfold vEnds; rw [if_pos hir, ← hE, hw1, pEnds, if_pos c_29]
  refine j_aload_n M dX2_ends_0 0 rfl ?_
  refine j_iload_n M dX2_ends_1 1 rfl ?_
  refine j_rV (k_V M (m_isRow l X σ f t i hi h0) (m_rc M) (lw_V q1402 q1404 qs43 q102 q1405) ndX2_isRow dX2_ends_2 ⟨by decide, by decide, by decide, by decide⟩ rfl (Nat.le_of_ble_eq_true rfl)) ?_
  refine j_ifneB M 11 dX2_ends_5 (by decide) (fun c_5 => ?_) (fun c_5 => ?_)
  · simp only [decide_eq_true_eq] at c_5
    refine j_iconst M dX2_ends_11 ?_
    refine j_istore_n M dX2_ends_12 (by decide) ?_
    exact loop c_5 9 2 f t rfl (by omega) h mSame.rfl rfl rfl
  · simp only [decide_eq_false_iff_not] at c_5
    refine j_ldc M (2000000101) q1406 (by decide) dX2_ends_8 ?_
    refine j_iret M dX2_ends_10 ⟨Nat.le_refl _, Nat.le_refl _⟩ ?_
    unfold vEnds; rw [if_neg c_5]; exact pQ.of h
/-- whether place k has rest 0 by all m -/
def pOp (K P : Int → Int) (i k : Int) : Int := pOpB (fun m => pRest m K P i k) 9
theorem MI.opn {c : Int} {f : Nat → Int} {t : Nat → Int → Int} {g : Int → Int} (h : MI c f t) : MI c f (upN t 22 g) ∧ mSame f t f (upN t 22 g) := by
  refine ⟨h, fun _ _ => Eq.refl _, ?_, fun _ _ => Eq.refl _⟩
  intro k hk
  simp only [List.mem_cons, List.not_mem_nil, or_false] at hk
  exact upN_n _ _ (by omega)
theorem m_layOpen (hm : mOk σ) (c i : Int) (hi : 0 ≤ i ∧ i < f 0) (h : MI c f t) : Ct l X yX2_layOpen cX2_layOpen 4 none (rD 4) [.ref σ.1, .int (zI i)] (mH X σ f t) (fun r hp => r = none ∧ ∃ f' t', hp = mH X σ f' t' ∧ MI c f' t' ∧ mSame f t f' t' ∧ ∀ k, 0 ≤ k → k < 1000 → t' 22 k = pOp (t 1) (t 2) i k) := by
  have h0 := h.n
  refine Ct.of (by decide) (Nat.le_of_ble_eq_true rfl) (fun Γ M => ?_)
  refine j_lv (lv' := [(0, .ref σ.1), (1, .int (zI i))]) rfl ?_
  have loop3 : ∀ (j : Nat) (m : Int), m = j + 2 → j < 9 → ∀ (w : Nat) (k : Int) (f1 : Nat → Int) (t1 : Nat → Int → Int), w = (1000 - k).toNat → 0 ≤ k ∧ k ≤ 1000 → MI c f1 t1 → mSame f t f1 t1 → t1 2 = t 2 → rRow m t1 i (pRest m (t 1) (t 2) i) → (∀ q, 0 ≤ q → q < k → t1 22 q = pOpB (fun m => pRest m (t 1) (t 2) i q) (j + 1)) → (∀ q, k ≤ q → q < 1000 → t1 22 q = pOpB (fun m => pRest m (t 1) (t 2) i q) j) →
      (∀ (f2 : Nat → Int) (t2 : Nat → Int → Int) (ls : List (Nat × Value)), MI c f2 t2 → mSame f t f2 t2 → t2 2 = t 2 → (∀ q, 0 ≤ q → q < 1000 → t2 22 q = pOpB (fun m => pRest m (t 1) (t 2) i q) (j + 1)) → J Γ (mH X σ f2 t2) 0 0 24 ([(0, .ref σ.1), (1, .int (zI i)), (2, .int (zI (m + 1)))] ++ ls) []) →
      J Γ (mH X σ f1 t1) 0 0 37 [(0, .ref σ.1), (1, .int (zI i)), (2, .int (zI m)), (3, .int (zI k))] [] := by
    intro j m hmj hj9 w
    induction w using Nat.strongRecOn with
    | _ w ih =>
      intro k f1 t1 hw hk h1 hs h2 hR ha hb hend
      have hrr := pRest_r (show 0 < m by omega) (t 1) (t 2) i k
      have ho := pOpB_r (fun m => pRest m (t 1) (t 2) i k) j
      refine j_iload_n M dX2_layOpen_37 3 rfl ?_
      refine j_sipush M dX2_layOpen_38 (by decide) ?_
      refine j_icmp_ge M 80 dX2_layOpen_41 (by decide) (by omega) (fun c_41 => ?_) (fun c_41 => ?_)
      · refine j_iinc M dX2_layOpen_80 2 rfl (by decide) ?_
        refine j_goto M 24 dX2_layOpen_83 (by decide) ?_
        refine hend f1 t1 [(3, .int (zI k))] h1 hs h2 (fun q q0 q1 => ha q q0 (by omega))
      · refine j_aload_n M dX2_layOpen_44 0 rfl ?_
        refine m_get M 22 (by decide) q1264 rfl dX2_layOpen_45 ?_
        refine j_iload_n M dX2_layOpen_48 3 rfl ?_
        refine j_aload_n M dX2_layOpen_49 0 rfl ?_
        refine m_get M 22 (by decide) q1264 rfl dX2_layOpen_50 ?_
        refine j_iload_n M dX2_layOpen_53 3 rfl ?_
        refine m_zld M hm (n := 1000) 22 (by decide) rfl dX2_layOpen_54 (by omega) ?_
        refine j_if_eq M 72 dX2_layOpen_55 (by decide) (by rw [hb k (by omega) (by omega)]; omega) (fun c_55 => ?_) (fun c_55 => ?_)
        · rw [hb k (by omega) (by omega)] at c_55
          refine j_iconst M dX2_layOpen_72 ?_
          refine m_zst M hm (n := 1000) 22 (by decide) (fun _ => rfl) dX2_layOpen_73 (by omega) (by omega) ?_
          refine j_iinc M dX2_layOpen_74 3 rfl (by decide) ?_
          refine j_goto M 37 dX2_layOpen_77 (by decide) ?_
          refine ih _ (by omega) (k + 1) f1 _ rfl (by omega) h1.opn.1 (hs.tr h1.opn.2) h2 (hR.keep rfl rfl (fun _ _ _ => rfl)) (fun q q0 q1 => ?_) (fun q q0 q1 => ?_) hend
          · show upA (t1 22) k 0 q = _
            by_cases e : q = k
            · rw [e, upA_s, pOpB, if_neg (by omega)]
            · rw [upA_n _ _ e]; exact ha q q0 (by omega)
          · show upA (t1 22) k 0 q = _
            rw [upA_n _ _ (by omega)]; exact hb q (by omega) q1
        · rw [hb k (by omega) (by omega)] at c_55
          refine j_aload_n M dX2_layOpen_58 0 rfl ?_
          refine j_iload_n M dX2_layOpen_59 1 rfl ?_
          refine j_iload_n M dX2_layOpen_60 3 rfl ?_
          refine j_i2l M dX2_layOpen_61 (by omega) ?_
          refine j_rV (k_V M (m_restAt l X σ f1 t1 hm m i k _ (by omega) (by omega) hR) (m_rc M) (lw_V q1486 q1488 qs57 q102 q1489) ndX2_restAt dX2_layOpen_62 ⟨by decide, by decide, by decide, by decide⟩ rfl (Nat.le_of_ble_eq_true rfl)) ?_
          refine j_if_ne M 72 dX2_layOpen_65 (by decide) (by omega) (fun c_65 => ?_) (fun c_65 => ?_)
          · refine j_iconst M dX2_layOpen_72 ?_
            refine m_zst M hm (n := 1000) 22 (by decide) (fun _ => rfl) dX2_layOpen_73 (by omega) (by omega) ?_
            refine j_iinc M dX2_layOpen_74 3 rfl (by decide) ?_
            refine j_goto M 37 dX2_layOpen_77 (by decide) ?_
            refine ih _ (by omega) (k + 1) f1 _ rfl (by omega) h1.opn.1 (hs.tr h1.opn.2) h2 (hR.keep rfl rfl (fun _ _ _ => rfl)) (fun q q0 q1 => ?_) (fun q q0 q1 => ?_) hend
            · show upA (t1 22) k 0 q = _
              by_cases e : q = k
              · rw [e, upA_s, pOpB, ← hmj, if_neg (by omega)]
              · rw [upA_n _ _ e]; exact ha q q0 (by omega)
            · show upA (t1 22) k 0 q = _
              rw [upA_n _ _ (by omega)]; exact hb q (by omega) q1
          · refine j_iconst M dX2_layOpen_68 ?_
            refine j_goto M 73 dX2_layOpen_69 (by decide) ?_
            refine m_zst M hm (n := 1000) 22 (by decide) (fun _ => rfl) dX2_layOpen_73 (by omega) (by omega) ?_
            refine j_iinc M dX2_layOpen_74 3 rfl (by decide) ?_
            refine j_goto M 37 dX2_layOpen_77 (by decide) ?_
            refine ih _ (by omega) (k + 1) f1 _ rfl (by omega) h1.opn.1 (hs.tr h1.opn.2) h2 (hR.keep rfl rfl (fun _ _ _ => rfl)) (fun q q0 q1 => ?_) (fun q q0 q1 => ?_) hend
            · show upA (t1 22) k 1 q = _
              by_cases e : q = k
              · rw [e, upA_s, pOpB, ← hmj, if_pos ⟨by omega, c_65⟩]
              · rw [upA_n _ _ e]; exact ha q q0 (by omega)
            · show upA (t1 22) k 1 q = _
              rw [upA_n _ _ (by omega)]; exact hb q (by omega) q1
  have loop2 : ∀ (w j : Nat), w = 9 - j → j ≤ 9 → ∀ (f1 : Nat → Int) (t1 : Nat → Int → Int) (ls : List (Nat × Value)), MI c f1 t1 → mSame f t f1 t1 → t1 2 = t 2 → (∀ q, 0 ≤ q → q < 1000 → t1 22 q = pOpB (fun m => pRest m (t 1) (t 2) i q) j) →
      J Γ (mH X σ f1 t1) 0 0 24 ([(0, .ref σ.1), (1, .int (zI i)), (2, .int (zI ((j : Int) + 2)))] ++ ls) [] := by
    intro w
    induction w using Nat.strongRecOn with
    | _ w ih =>
      intro j hw hj f1 t1 ls h1 hs h2 hb
      refine j_loc (lv' := [(0, .ref σ.1), (1, .int (zI i)), (2, .int (zI ((j : Int) + 2)))]) [0, 1, 2] rfl ?_
      have e0 := hs.f0
      have e1 := hs.t1
      refine j_iload_n M dX2_layOpen_24 2 rfl ?_
      refine j_bipush M dX2_layOpen_25 (by decide) ?_
      refine j_icmp_gt M 86 dX2_layOpen_27 (by decide) (by omega) (fun c_27 => ?_) (fun c_27 => ?_)
      · refine j_vret M dX2_layOpen_86 ⟨Nat.le_refl _, Nat.le_refl _⟩ ?_
        exact ⟨rfl, f1, t1, rfl, h1, hs, fun q q0 q1 => by rw [hb q q0 q1, show j = 9 by omega]; rfl⟩
      · refine j_aload_n M dX2_layOpen_30 0 rfl ?_
        refine j_iload_n M dX2_layOpen_31 2 rfl ?_
        refine j_run (k_V M (m_layRests l X σ f1 t1 hm ((j : Int) + 2) h1.n (by omega) h1.r14 h1.ok (h1.l14 (by omega))) (m_rc M) (lw_V q1460 q1462 qs52 q102 q1463) ndX2_layRests dX2_layOpen_32 ⟨by decide, by decide, by decide, by decide⟩ rfl (Nat.le_of_ble_eq_true rfl)) (fun r_32 hp_32 hq_32 => ?_)
        obtain ⟨rfl, t2, rfl, hk2, hL⟩ := hq_32
        have hM := h1.rests (by omega : 2 ≤ (j : Int) + 2 ∧ (j : Int) + 2 ≤ 10) hk2 hL
        have hi2 := hL i hi.1 (by omega)
        rw [hk2.t1, hk2.t2, e1, h2] at hi2
        refine j_iconst M dX2_layOpen_35 ?_
        refine j_istore_n M dX2_layOpen_36 (by decide) ?_
        refine loop3 j _ rfl (by omega) _ 0 _ t2 rfl (by omega) hM.1 (hs.tr hM.2) (by rw [hk2.t2, h2]) hi2 (fun q q0 q1 => by omega) (fun q q0 q1 => by rw [hk2 22 (by decide) (by decide) (by decide) (by decide)]; exact hb q q0 q1) (fun f2 t2 ls a1 a2 a3 a4 => ?_)
        have kk := ih (9 - (j + 1)) (by omega) (j + 1) rfl (by omega) f2 t2 ls a1 a2 a3 a4
        rw [show ((j + 1 : Nat) : Int) + 2 = (j : Int) + 2 + 1 by omega] at kk
        exact kk
  have loop1 : ∀ (w : Nat) (k : Int) (g : Int → Int), w = (1000 - k).toNat → 0 ≤ k ∧ k ≤ 1000 → (∀ q, 0 ≤ q → q < k → g q = 1) → J Γ (mH X σ f (upN t 22 g)) 0 0 2 [(0, .ref σ.1), (1, .int (zI i)), (2, .int (zI k))] [] := by
    intro w
    induction w using Nat.strongRecOn with
    | _ w ih =>
      intro k g hw hk hg
      refine j_iload_n M dX2_layOpen_2 2 rfl ?_
      refine j_sipush M dX2_layOpen_3 (by decide) ?_
      refine j_icmp_ge M 22 dX2_layOpen_6 (by decide) (by omega) (fun c_6 => ?_) (fun c_6 => ?_)
      · refine j_iconst M dX2_layOpen_22 ?_
        refine j_istore_n M dX2_layOpen_23 (by decide) ?_
        exact loop2 9 0 rfl (by omega) f _ [] h.opn.1 h.opn.2 rfl (fun q q0 q1 => hg q q0 (by omega))
      · refine j_aload_n M dX2_layOpen_9 0 rfl ?_
        refine m_get M 22 (by decide) q1264 rfl dX2_layOpen_10 ?_
        refine j_iload_n M dX2_layOpen_13 2 rfl ?_
        refine j_iconst M dX2_layOpen_14 ?_
        refine m_zst M hm (n := 1000) 22 (by decide) (fun _ => rfl) dX2_layOpen_15 (by omega) (by omega) ?_
        refine j_iinc M dX2_layOpen_16 2 rfl (by decide) ?_
        refine j_goto M 2 dX2_layOpen_19 (by decide) ?_
        simp only [upN_s, upN_uu]
        refine ih _ (by omega) (k + 1) _ rfl (by omega) (fun q q0 q1 => ?_)
        by_cases e : q = k
        · rw [e, upA_s]
        · rw [upA_n _ _ e]; exact hg q q0 (by omega)
  refine j_iconst M dX2_layOpen_0 ?_
  refine j_istore_n M dX2_layOpen_1 (by decide) ?_
  refine j_hp (hp' := mH X σ f (upN t 22 (t 22))) (by rw [upN_id]) (loop1 _ 0 _ rfl (by omega) (fun q q0 q1 => by omega))
theorem pOp_r (K P : Int → Int) (i k : Int) : pOp K P i k = 0 ∨ pOp K P i k = 1 := pOpB_r _ _
theorem m_openNow (hm : mOk σ) (c i a : Int) (hi : 0 ≤ i ∧ i < f 0) (ha : r32 a) (h : MI c f t) : Ct l X yX2_openNow cX2_openNow 6 (some .int) (rD 5) [.ref σ.1, .int (zI i), .int (zI a)] (mH X σ f t) (pQ X σ c f t (.int (zI (if a = 0 then (pOpC (pOp (t 1) (t 2) i) 1000).1 else (pOpC (pOp (t 1) (t 2) i) 1000).2)))) := by
  have h0 := h.n
  refine Ct.of (by decide) (Nat.le_of_ble_eq_true rfl) (fun Γ M => ?_)
  refine j_lv (lv' := [(0, .ref σ.1), (1, .int (zI i)), (2, .int (zI a))]) rfl ?_
  have loop : ∀ (w k : Nat) (f1 : Nat → Int) (t1 : Nat → Int → Int), w = 1000 - k → k ≤ 1000 → MI c f1 t1 → mSame f t f1 t1 → (∀ q, 0 ≤ q → q < 1000 → t1 22 q = pOp (t 1) (t 2) i q) →
      J Γ (mH X σ f1 t1) 0 0 14 [(0, .ref σ.1), (1, .int (zI i)), (2, .int (zI a)), (3, .int (zI (pOpC (pOp (t 1) (t 2) i) k).1)), (4, .int (zI (pOpC (pOp (t 1) (t 2) i) k).2)), (5, .int (zI k))] [] := by
    intro w
    induction w using Nat.strongRecOn with
    | _ w ih =>
      intro k f1 t1 hw hk h1 hs ho
      have hp := pOp_r (t 1) (t 2) i k
      have kk : k < 1000 → _ := fun q => ih (1000 - (k + 1)) (by omega) (k + 1) f1 t1 rfl (by omega) h1 hs ho
      refine j_iload M dX2_openNow_14 5 rfl ?_
      refine j_sipush M dX2_openNow_16 (by decide) ?_
      refine j_icmp_ge M 65 dX2_openNow_19 (by decide) (by omega) (fun c_19 => ?_) (fun c_19 => ?_)
      · refine j_iload_n M dX2_openNow_65 2 rfl ?_
        refine j_if_ne M 73 dX2_openNow_66 (by decide) (by omega) (fun c_66 => ?_) (fun c_66 => ?_)
        · refine j_iload M dX2_openNow_73 4 rfl ?_
          refine j_iret M dX2_openNow_75 ⟨Nat.le_refl _, Nat.le_refl _⟩ ?_
          refine ⟨?_, f1, t1, rfl, h1, hs⟩
          rw [if_neg c_66, show k = 1000 by omega]
        · refine j_iload_n M dX2_openNow_69 3 rfl ?_
          refine j_goto M 75 dX2_openNow_70 (by decide) ?_
          refine j_iret M dX2_openNow_75 ⟨Nat.le_refl _, Nat.le_refl _⟩ ?_
          refine ⟨?_, f1, t1, rfl, h1, hs⟩
          rw [if_pos c_66, show k = 1000 by omega]
      · refine j_iload_n M dX2_openNow_22 3 rfl ?_
        refine j_aload_n M dX2_openNow_23 0 rfl ?_
        refine m_get M 22 (by decide) q1264 rfl dX2_openNow_24 ?_
        refine j_iload M dX2_openNow_27 5 rfl ?_
        refine m_zld M hm (n := 1000) 22 (by decide) rfl dX2_openNow_29 (by omega) ?_
        refine j_if_eq M 37 dX2_openNow_30 (by decide) (by rw [ho k (by omega) (by omega)]; omega) (fun c_30 => ?_) (fun c_30 => ?_)
        · refine j_iconst M dX2_openNow_37 ?_
          refine j_iadd M dX2_openNow_38 ?_
          refine j_istore_n M dX2_openNow_39 (by decide) ?_
          refine j_aload_n M dX2_openNow_40 0 rfl ?_
          refine m_get M 22 (by decide) q1264 rfl dX2_openNow_41 ?_
          refine j_iload M dX2_openNow_44 5 rfl ?_
          refine m_zld M hm (n := 1000) 22 (by decide) rfl dX2_openNow_46 (by omega) ?_
          refine j_if_eq M 55 dX2_openNow_47 (by decide) (by rw [ho k (by omega) (by omega)]; omega) (fun c_47 => ?_) (fun c_47 => ?_)
          · refine j_iload M dX2_openNow_55 4 rfl ?_
            refine j_istore M dX2_openNow_57 (by decide) ?_
            refine j_iinc M dX2_openNow_59 5 rfl (by decide) ?_
            refine j_goto M 14 dX2_openNow_62 (by decide) ?_
            rw [ho k (by omega) (by omega)] at c_30 c_47
            have kk := kk (by omega)
            simp only [pOpC] at kk
            first | (exfalso; omega) | (rw [if_neg (by omega), c_30] at kk; exact kk) | (rw [if_pos (by omega), show pOp (t 1) (t 2) i (k : Int) = 1 by omega] at kk; exact kk)
          · refine j_iload M dX2_openNow_50 5 rfl ?_
            refine j_goto M 57 dX2_openNow_52 (by decide) ?_
            refine j_istore M dX2_openNow_57 (by decide) ?_
            refine j_iinc M dX2_openNow_59 5 rfl (by decide) ?_
            refine j_goto M 14 dX2_openNow_62 (by decide) ?_
            rw [ho k (by omega) (by omega)] at c_30 c_47
            have kk := kk (by omega)
            simp only [pOpC] at kk
            first | (exfalso; omega) | (rw [if_neg (by omega), c_30] at kk; exact kk) | (rw [if_pos (by omega), show pOp (t 1) (t 2) i (k : Int) = 1 by omega] at kk; exact kk)
        · refine j_iconst M dX2_openNow_33 ?_
          refine j_goto M 38 dX2_openNow_34 (by decide) ?_
          refine j_iadd M dX2_openNow_38 ?_
          refine j_istore_n M dX2_openNow_39 (by decide) ?_
          refine j_aload_n M dX2_openNow_40 0 rfl ?_
          refine m_get M 22 (by decide) q1264 rfl dX2_openNow_41 ?_
          refine j_iload M dX2_openNow_44 5 rfl ?_
          refine m_zld M hm (n := 1000) 22 (by decide) rfl dX2_openNow_46 (by omega) ?_
          refine j_if_eq M 55 dX2_openNow_47 (by decide) (by rw [ho k (by omega) (by omega)]; omega) (fun c_47 => ?_) (fun c_47 => ?_)
          · refine j_iload M dX2_openNow_55 4 rfl ?_
            refine j_istore M dX2_openNow_57 (by decide) ?_
            refine j_iinc M dX2_openNow_59 5 rfl (by decide) ?_
            refine j_goto M 14 dX2_openNow_62 (by decide) ?_
            rw [ho k (by omega) (by omega)] at c_30 c_47
            have kk := kk (by omega)
            simp only [pOpC] at kk
            first | (exfalso; omega) | (rw [if_neg (by omega), c_30] at kk; exact kk) | (rw [if_pos (by omega), show pOp (t 1) (t 2) i (k : Int) = 1 by omega] at kk; exact kk)
          · refine j_iload M dX2_openNow_50 5 rfl ?_
            refine j_goto M 57 dX2_openNow_52 (by decide) ?_
            refine j_istore M dX2_openNow_57 (by decide) ?_
            refine j_iinc M dX2_openNow_59 5 rfl (by decide) ?_
            refine j_goto M 14 dX2_openNow_62 (by decide) ?_
            rw [ho k (by omega) (by omega)] at c_30 c_47
            have kk := kk (by omega)
            simp only [pOpC] at kk
            first | (exfalso; omega) | (rw [if_neg (by omega), c_30] at kk; exact kk) | (rw [if_pos (by omega), show pOp (t 1) (t 2) i (k : Int) = 1 by omega] at kk; exact kk)
  refine j_aload_n M dX2_openNow_0 0 rfl ?_
  refine j_iload_n M dX2_openNow_1 1 rfl ?_
  refine j_run (k_V M (m_layOpen l X σ f t hm c i hi h) (m_rc M) (lw_V q1619 q1621 qs78 q102 q1622) ndX2_layOpen dX2_openNow_2 ⟨by decide, by decide, by decide, by decide⟩ rfl (Nat.le_of_ble_eq_true rfl)) (fun r_2 hp_2 hq_2 => ?_)
  obtain ⟨rfl, f1, t1, rfl, h1, hs, ho⟩ := hq_2
  refine j_iconst M dX2_openNow_5 ?_
  refine j_istore_n M dX2_openNow_6 (by decide) ?_
  refine j_ldc M (2000000001) q1241 (by decide) dX2_openNow_7 ?_
  refine j_istore M dX2_openNow_9 (by decide) ?_
  refine j_iconst M dX2_openNow_11 ?_
  refine j_istore M dX2_openNow_12 (by decide) ?_
  exact loop 1000 0 f1 t1 rfl (by omega) h1 hs ho
def vOpen (n : Int) (K P : Int → Int) (i a : Int) : Int := if 0 ≤ i ∧ i ≤ n - 1 then (if 0 ≤ a ∧ a ≤ 1 then (if a = 0 then (pOpC (pOp K P i) 1000).1 else (pOpC (pOp K P i) 1000).2) else 2000000102) else 2000000101
theorem m_open (hm : mOk σ) (c i a : Int) (hi : r32 i) (ha : r32 a) (h : MI c f t) : Ct l X yX2_open cX2_open 3 (some .int) (rD 6) [.ref σ.1, .int (zI i), .int (zI a)] (mH X σ f t) (pQ X σ c f t (.int (zI (vOpen (f 0) (t 1) (t 2) i a)))) := by
  have h0 := h.n
  refine Ct.of (by decide) (Nat.le_of_ble_eq_true rfl) (fun Γ M => ?_)
  refine j_lv (lv' := [(0, .ref σ.1), (1, .int (zI i)), (2, .int (zI a))]) rfl ?_
  refine j_aload_n M dX2_open_0 0 rfl ?_
  refine j_iload_n M dX2_open_1 1 rfl ?_
  refine j_rV (k_V M (m_isRow l X σ f t i hi h0) (m_rc M) (lw_V q1402 q1404 qs43 q102 q1405) ndX2_isRow dX2_open_2 ⟨by decide, by decide, by decide, by decide⟩ rfl (Nat.le_of_ble_eq_true rfl)) ?_
  refine j_ifneB M 11 dX2_open_5 (by decide) (fun c_5 => ?_) (fun c_5 => ?_)
  · simp only [decide_eq_true_eq] at c_5
    refine j_iload_n M dX2_open_11 2 rfl ?_
    refine j_iconst M dX2_open_12 ?_
    refine j_iconst M dX2_open_13 ?_
    refine j_rV (k_S M (m_within l X _ _ _ _ (by omega)) (lw_S q1347 q1348 q102 q1349) ndX2_within dX2_open_14 ⟨by decide, by decide, by decide, by decide⟩ rfl (Nat.le_of_ble_eq_true rfl)) ?_
    refine j_ifeqB M 29 dX2_open_17 (by decide) (fun c_17 => ?_) (fun c_17 => ?_)
    · simp only [decide_eq_false_iff_not] at c_17
      refine j_ldc M (2000000102) q1350 (by decide) dX2_open_29 ?_
      refine j_iret M dX2_open_31 ⟨Nat.le_refl _, Nat.le_refl _⟩ ?_
      unfold vOpen; rw [if_pos c_5, if_neg c_17]; exact pQ.of h
    · simp only [decide_eq_true_eq] at c_17
      refine j_aload_n M dX2_open_20 0 rfl ?_
      refine j_iload_n M dX2_open_21 1 rfl ?_
      refine j_iload_n M dX2_open_22 2 rfl ?_
      refine j_run (k_V M (m_openNow l X σ f t hm c i a (by omega) ha h) (m_rc M) (lw_V q1615 q1617 qs77 q102 q1618) ndX2_openNow dX2_open_23 ⟨by decide, by decide, by decide, by decide⟩ rfl (Nat.le_of_ble_eq_true rfl)) (fun r_23 hp_23 hq_23 => ?_)
      obtain ⟨rfl, hq⟩ := hq_23
      refine j_goto M 31 dX2_open_26 (by decide) ?_
      refine j_iret M dX2_open_31 ⟨Nat.le_refl _, Nat.le_refl _⟩ ?_
      unfold vOpen; rw [if_pos c_5, if_pos c_17]; exact ⟨rfl, hq⟩
  · simp only [decide_eq_false_iff_not] at c_5
    refine j_ldc M (2000000101) q1406 (by decide) dX2_open_8 ?_
    refine j_iret M dX2_open_10 ⟨Nat.le_refl _, Nat.le_refl _⟩ ?_
    unfold vOpen; rw [if_neg c_5]; exact pQ.of h
theorem m_meetsNow (hm : mOk σ) (c i j m : Int) (hi : 0 ≤ i ∧ i < f 0) (hj : 0 ≤ j ∧ j < f 0) (hm2 : 2 ≤ m ∧ m ≤ 10) (h : MI c f t) : Ct l X yX2_meetsNow cX2_meetsNow 6 (some .int) (rD 4) [.ref σ.1, .int (zI i), .int (zI j), .int (zI m)] (mH X σ f t) (pQ X σ c f t (.int (zI (pMeet (pRest m (t 1) (t 2) i) (pRest m (t 1) (t 2) j))))) := by
  have h0 := h.n
  refine Ct.of (by decide) (Nat.le_of_ble_eq_true rfl) (fun Γ M => ?_)
  refine j_lv (lv' := [(0, .ref σ.1), (1, .int (zI i)), (2, .int (zI j)), (3, .int (zI m))]) rfl ?_
  have loop : ∀ (f1 : Nat → Int) (t1 : Nat → Int → Int), MI c f1 t1 → mSame f t f1 t1 → rRow m t1 i (pRest m (t 1) (t 2) i) → rRow m t1 j (pRest m (t 1) (t 2) j) → ∀ (w : Nat) (k : Int), w = (t1 16 i + t1 16 j + t1 17 i * t1 17 j - k).toNat → 0 ≤ k ∧ k ≤ t1 16 i + t1 16 j + t1 17 i * t1 17 j → (∀ q, 0 ≤ q → q < k → pRest m (t 1) (t 2) i q ≠ pRest m (t 1) (t 2) j q) →
      J Γ (mH X σ f1 t1) 0 0 37 [(0, .ref σ.1), (1, .int (zI i)), (2, .int (zI j)), (3, .int (zI m)), (4, .int (zI (t1 16 i + t1 16 j + t1 17 i * t1 17 j))), (5, .int (zI k))] [] := by
    intro f1 t1 h1 hs hRi hRj w
    have b1 := hRi.bd
    have b2 := hRj.bd
    have b3 := mul_bd 336 336 (a := t1 17 i) (b := t1 17 j) (by omega) (by omega)
    have hpos : 0 < t1 17 i * t1 17 j := Int.mul_pos b1.2.1 b2.2.1
    induction w using Nat.strongRecOn with
    | _ w ih =>
      intro k hw hk hq
      have r1 := hRi.2.2.2.2 k
      have r2 := hRj.2.2.2.2 k
      refine j_iload M dX2_meetsNow_37 5 rfl ?_
      refine j_iload M dX2_meetsNow_39 4 rfl ?_
      refine j_icmp_ge M 72 dX2_meetsNow_41 (by decide) (by omega) (fun c_41 => ?_) (fun c_41 => ?_)
      · refine j_ldc M (2000000001) q1241 (by decide) dX2_meetsNow_72 ?_
        refine j_iret M dX2_meetsNow_74 ⟨Nat.le_refl _, Nat.le_refl _⟩ ?_
        refine ⟨?_, f1, t1, rfl, h1, hs⟩
        have p1 := (hRi.2.2.1.late (show t1 16 i ≤ t1 16 i + t1 16 j by omega)).dvd (Int.dvd_mul_right (t1 17 i) (t1 17 j)) hpos
        have p2 := (hRj.2.2.1.late (show t1 16 j ≤ t1 16 i + t1 16 j by omega)).dvd (Int.dvd_mul_left (t1 17 i) (t1 17 j)) hpos
        rw [isMeet.eq (Or.inr ⟨rfl, meet_far p1 p2 (fun q q0 q1 => hq q q0 (by omega))⟩)]
      · refine j_aload_n M dX2_meetsNow_44 0 rfl ?_
        refine j_iload_n M dX2_meetsNow_45 1 rfl ?_
        refine j_iload M dX2_meetsNow_46 5 rfl ?_
        refine j_i2l M dX2_meetsNow_48 (by omega) ?_
        refine j_rV (k_V M (m_restAt l X σ f1 t1 hm m i k _ (by omega) (by omega) hRi) (m_rc M) (lw_V q1486 q1488 qs57 q102 q1489) ndX2_restAt dX2_meetsNow_49 ⟨by decide, by decide, by decide, by decide⟩ rfl (Nat.le_of_ble_eq_true rfl)) ?_
        refine j_aload_n M dX2_meetsNow_52 0 rfl ?_
        refine j_iload_n M dX2_meetsNow_53 2 rfl ?_
        refine j_iload M dX2_meetsNow_54 5 rfl ?_
        refine j_i2l M dX2_meetsNow_56 (by omega) ?_
        refine j_rV (k_V M (m_restAt l X σ f1 t1 hm m j k _ (by omega) (by omega) hRj) (m_rc M) (lw_V q1486 q1488 qs57 q102 q1489) ndX2_restAt dX2_meetsNow_57 ⟨by decide, by decide, by decide, by decide⟩ rfl (Nat.le_of_ble_eq_true rfl)) ?_
        refine j_icmp_ne M 66 dX2_meetsNow_60 (by decide) (by omega) (fun c_60 => ?_) (fun c_60 => ?_)
        · refine j_iinc M dX2_meetsNow_66 5 rfl (by decide) ?_
          refine j_goto M 37 dX2_meetsNow_69 (by decide) ?_
          refine ih _ (by omega) (k + 1) rfl (by omega) (fun q q0 q1 => ?_)
          by_cases e : q = k
          · rw [e]; exact c_60
          · exact hq q q0 (by omega)
        · refine j_iload M dX2_meetsNow_63 5 rfl ?_
          refine j_iret M dX2_meetsNow_65 ⟨Nat.le_refl _, Nat.le_refl _⟩ ?_
          refine ⟨?_, f1, t1, rfl, h1, hs⟩
          rw [isMeet.eq (Or.inl ⟨hk.1, c_60, hq⟩)]
  refine j_aload_n M dX2_meetsNow_0 0 rfl ?_
  refine j_iload_n M dX2_meetsNow_1 3 rfl ?_
  refine j_run (k_V M (m_layRests l X σ f t hm m h0 hm2 h.r14 h.ok (h.l14 hm2.1)) (m_rc M) (lw_V q1460 q1462 qs52 q102 q1463) ndX2_layRests dX2_meetsNow_2 ⟨by decide, by decide, by decide, by decide⟩ rfl (Nat.le_of_ble_eq_true rfl)) (fun r_2 hp_2 hq_2 => ?_)
  obtain ⟨rfl, t', rfl, hk1, hL⟩ := hq_2
  have hM := h.rests hm2 hk1 hL
  have hi2 := hL i hi.1 hi.2
  have hj2 := hL j hj.1 hj.2
  rw [hk1.t1, hk1.t2] at hi2 hj2
  have b1 := hi2.bd
  have b2 := hj2.bd
  have hpos : 0 < t' 17 i * t' 17 j := Int.mul_pos b1.2.1 b2.2.1
  refine j_aload_n M dX2_meetsNow_5 0 rfl ?_
  refine m_get M 16 (by decide) q1258 rfl dX2_meetsNow_6 ?_
  refine j_iload_n M dX2_meetsNow_9 1 rfl ?_
  refine m_ald M hm (n := 9) 16 (by decide) rfl dX2_meetsNow_10 (by omega) ?_
  refine j_aload_n M dX2_meetsNow_11 0 rfl ?_
  refine m_get M 16 (by decide) q1258 rfl dX2_meetsNow_12 ?_
  refine j_iload_n M dX2_meetsNow_15 2 rfl ?_
  refine m_ald M hm (n := 9) 16 (by decide) rfl dX2_meetsNow_16 (by omega) ?_
  refine j_iadd M dX2_meetsNow_17 ?_
  refine j_aload_n M dX2_meetsNow_18 0 rfl ?_
  refine m_get M 17 (by decide) q1259 rfl dX2_meetsNow_19 ?_
  refine j_iload_n M dX2_meetsNow_22 1 rfl ?_
  refine m_ald M hm (n := 9) 17 (by decide) rfl dX2_meetsNow_23 (by omega) ?_
  refine j_aload_n M dX2_meetsNow_24 0 rfl ?_
  refine m_get M 17 (by decide) q1259 rfl dX2_meetsNow_25 ?_
  refine j_iload_n M dX2_meetsNow_28 2 rfl ?_
  refine m_ald M hm (n := 9) 17 (by decide) rfl dX2_meetsNow_29 (by omega) ?_
  refine j_imul M dX2_meetsNow_30 ?_
  refine j_iadd M dX2_meetsNow_31 ?_
  refine j_istore M dX2_meetsNow_32 (by decide) ?_
  refine j_iconst M dX2_meetsNow_34 ?_
  refine j_istore M dX2_meetsNow_35 (by decide) ?_
  exact loop _ t' hM.1 hM.2 hi2 hj2 _ 0 rfl (by omega) (fun q q0 q1 => by omega)
noncomputable def vMeets (n : Int) (K P : Int → Int) (i j m : Int) : Int := if (0 ≤ i ∧ i ≤ n - 1) ∧ (0 ≤ j ∧ j ≤ n - 1) then (if 2 ≤ m ∧ m ≤ 10 then pMeet (pRest m K P i) (pRest m K P j) else 2000000102) else 2000000101
theorem m_meets (hm : mOk σ) (c i j m : Int) (hi : r32 i) (hj : r32 j) (hmr : r32 m) (h : MI c f t) : Ct l X yX2_meets cX2_meets 4 (some .int) (rD 5) [.ref σ.1, .int (zI i), .int (zI j), .int (zI m)] (mH X σ f t) (pQ X σ c f t (.int (zI (vMeets (f 0) (t 1) (t 2) i j m)))) := by
  have h0 := h.n
  refine Ct.of (by decide) (Nat.le_of_ble_eq_true rfl) (fun Γ M => ?_)
  refine j_lv (lv' := [(0, .ref σ.1), (1, .int (zI i)), (2, .int (zI j)), (3, .int (zI m))]) rfl ?_
  refine j_aload_n M dX2_meets_0 0 rfl ?_
  refine j_iload_n M dX2_meets_1 1 rfl ?_
  refine j_rV (k_V M (m_isRow l X σ f t i hi h0) (m_rc M) (lw_V q1402 q1404 qs43 q102 q1405) ndX2_isRow dX2_meets_2 ⟨by decide, by decide, by decide, by decide⟩ rfl (Nat.le_of_ble_eq_true rfl)) ?_
  refine j_ifeqB M 16 dX2_meets_5 (by decide) (fun c_5 => ?_) (fun c_5 => ?_)
  · simp only [decide_eq_false_iff_not] at c_5
    refine j_ldc M (2000000101) q1406 (by decide) dX2_meets_16 ?_
    refine j_iret M dX2_meets_18 ⟨Nat.le_refl _, Nat.le_refl _⟩ ?_
    unfold vMeets; rw [if_neg (by omega)]; exact pQ.of h
  · simp only [decide_eq_true_eq] at c_5
    refine j_aload_n M dX2_meets_8 0 rfl ?_
    refine j_iload_n M dX2_meets_9 2 rfl ?_
    refine j_rV (k_V M (m_isRow l X σ f t j hj h0) (m_rc M) (lw_V q1402 q1404 qs43 q102 q1405) ndX2_isRow dX2_meets_10 ⟨by decide, by decide, by decide, by decide⟩ rfl (Nat.le_of_ble_eq_true rfl)) ?_
    refine j_ifneB M 19 dX2_meets_13 (by decide) (fun c_13 => ?_) (fun c_13 => ?_)
    · simp only [decide_eq_true_eq] at c_13
      refine j_iload_n M dX2_meets_19 3 rfl ?_
      refine j_iconst M dX2_meets_20 ?_
      refine j_bipush M dX2_meets_21 (by decide) ?_
      refine j_rV (k_S M (m_within l X _ _ _ _ (by omega)) (lw_S q1347 q1348 q102 q1349) ndX2_within dX2_meets_23 ⟨by decide, by decide, by decide, by decide⟩ rfl (Nat.le_of_ble_eq_true rfl)) ?_
      refine j_ifeqB M 39 dX2_meets_26 (by decide) (fun c_26 => ?_) (fun c_26 => ?_)
      · simp only [decide_eq_false_iff_not] at c_26
        refine j_ldc M (2000000102) q1350 (by decide) dX2_meets_39 ?_
        refine j_iret M dX2_meets_41 ⟨Nat.le_refl _, Nat.le_refl _⟩ ?_
        unfold vMeets; rw [if_pos ⟨c_5, c_13⟩, if_neg c_26]; exact pQ.of h
      · simp only [decide_eq_true_eq] at c_26
        refine j_aload_n M dX2_meets_29 0 rfl ?_
        refine j_iload_n M dX2_meets_30 1 rfl ?_
        refine j_iload_n M dX2_meets_31 2 rfl ?_
        refine j_iload_n M dX2_meets_32 3 rfl ?_
        refine j_run (k_V M (m_meetsNow l X σ f t hm c i j m (by omega) (by omega) c_26 h) (m_rc M) (lw_V q1627 q1629 qs79 q102 q1630) ndX2_meetsNow dX2_meets_33 ⟨by decide, by decide, by decide, by decide⟩ rfl (Nat.le_of_ble_eq_true rfl)) (fun r_33 hp_33 hq_33 => ?_)
        obtain ⟨rfl, hq⟩ := hq_33
        refine j_goto M 41 dX2_meets_36 (by decide) ?_
        refine j_iret M dX2_meets_41 ⟨Nat.le_refl _, Nat.le_refl _⟩ ?_
        unfold vMeets; rw [if_pos ⟨c_5, c_13⟩, if_pos c_26]; exact ⟨rfl, hq⟩
    · simp only [decide_eq_false_iff_not] at c_13
      refine j_ldc M (2000000101) q1406 (by decide) dX2_meets_16 ?_
      refine j_iret M dX2_meets_18 ⟨Nat.le_refl _, Nat.le_refl _⟩ ?_
      unfold vMeets; rw [if_neg (by omega)]; exact pQ.of h
end M6
