/-! 30: the reference: drawn -/
set_option maxRecDepth 100000
theorem rsOk_P {K P P' : Int → Int} {N : Int} (h : rsOk K P N) (hN : N ≤ 8) (e : ∀ j, j < 32 → P' j = P j) : rsOk K P' N := fun i i0 i1 =>
  rOk_congr (h i i0 i1) rfl (e _ (by omega)) (e _ (by omega)) (e _ (by omega)) (e _ (by omega))
theorem pTm_P {K P P' : Int → Int} {N : Int} (h : rsOk K P N) (hN : N ≤ 8) (e : ∀ j, j < 32 → P' j = P j) : ∀ (d : Nat) (i n : Int), 0 ≤ i → i < N → pTm K P' d i n = pTm K P d i n := by
  intro d
  induction d with
  | zero => intro i n _ _; rfl
  | succ d ih =>
    intro i n i0 i1
    have hr := h i i0 i1
    unfold pTm
    rw [e (4 * i) (by omega), e (4 * i + 1) (by omega), e (4 * i + 2) (by omega), e (4 * i + 3) (by omega)]
    by_cases e0 : K i = 0
    · simp only [if_pos e0]
    · have hp := rOk_part hr e0
      rw [if_neg e0, if_neg e0, ih _ _ hp.1 (by omega), ih _ n hp.1 (by omega), ih _ (n + 1) hp.1 (by omega)]
      by_cases e3 : K i = 3
      · rw [if_pos e3, if_pos e3]
      · by_cases e4 : K i = 4
        · rw [if_neg e3, if_neg e3, if_pos e4, if_pos e4]
        · have hk := rOk_k hr
          have hp2 := rOk_part2 hr (by omega)
          rw [if_neg e3, if_neg e3, if_neg e4, if_neg e4, ih _ n hp2.1 (by omega)]
theorem pTerm_P {K P P' : Int → Int} {N : Int} (h : rsOk K P N) (hN : N ≤ 8) (e : ∀ j, j < 32 → P' j = P j) {i n : Int} (i0 : 0 ≤ i) (i1 : i < N) : pTerm K P' i n = pTerm K P i n := pTm_P h hN e _ _ _ i0 i1
theorem pRs_P {m : Int} {K P P' : Int → Int} {N : Int} (h : rsOk K P N) (hN : N ≤ 8) (e : ∀ j, j < 32 → P' j = P j) : ∀ (d : Nat) (i n : Int), 0 ≤ i → i < N → pRs m K P' d i n = pRs m K P d i n := by
  intro d
  induction d with
  | zero => intro i n _ _; rfl
  | succ d ih =>
    intro i n i0 i1
    have hr := h i i0 i1
    unfold pRs
    rw [e (4 * i) (by omega), e (4 * i + 1) (by omega), e (4 * i + 2) (by omega), e (4 * i + 3) (by omega)]
    by_cases e0 : K i = 0
    · simp only [if_pos e0]
    · have hp := rOk_part hr e0
      rw [if_neg e0, if_neg e0, ih _ (P (4 * i + 1) * n + P (4 * i + 2)) hp.1 (by omega), ih _ n hp.1 (by omega), ih _ (n + 1) hp.1 (by omega)]
      by_cases e12 : K i = 1 ∨ K i = 2
      · have hp2 := rOk_part2 hr e12
        rw [ih _ n hp2.1 (by omega)]
      · have a1 : ¬ K i = 1 := fun q => e12 (Or.inl q)
        have a2 : ¬ K i = 2 := fun q => e12 (Or.inr q)
        rw [if_neg a1, if_neg a1, if_neg a2, if_neg a2]
theorem pRest_P {m : Int} {K P P' : Int → Int} {N : Int} (h : rsOk K P N) (hN : N ≤ 8) (e : ∀ j, j < 32 → P' j = P j) {i : Int} (i0 : 0 ≤ i) (i1 : i < N) : pRest m K P' i = pRest m K P i := funext fun n => pRs_P h hN e _ _ _ i0 i1
/-- what is looked at alone lies behind the rows -/
def rBeh (t t' : Nat → Int → Int) : Prop := (∀ k, k ≠ 2 → k ≠ 16 → k ≠ 17 → k ≠ 18 → k ≠ 19 → t' k = t k) ∧ (∀ j, j < 32 → t' 2 j = t 2 j) ∧ (∀ j, j < 8 → t' 16 j = t 16 j ∧ t' 17 j = t 17 j) ∧ ∀ j, j < 4096 → t' 18 j = t 18 j
theorem rBeh.rfl {t : Nat → Int → Int} : rBeh t t := ⟨fun _ _ _ _ _ _ => Eq.refl _, fun _ _ => Eq.refl _, fun _ _ => ⟨Eq.refl _, Eq.refl _⟩, fun _ _ => Eq.refl _⟩
theorem rBeh.tr {t t1 t2 : Nat → Int → Int} (a : rBeh t t1) (b : rBeh t1 t2) : rBeh t t2 := ⟨fun k k1 k2 k3 k4 k5 => (b.1 k k1 k2 k3 k4 k5).trans (a.1 k k1 k2 k3 k4 k5), fun j h => (b.2.1 j h).trans (a.2.1 j h), fun j h => ⟨(b.2.2.1 j h).1.trans (a.2.2.1 j h).1, (b.2.2.1 j h).2.trans (a.2.2.1 j h).2⟩, fun j h => (b.2.2.2 j h).trans (a.2.2.2 j h)⟩
theorem rPut.beh {m : Int} {t t' : Nat → Int → Int} {s : Int → Int} (h : rPut m t t' 8 s) : rBeh t t' := ⟨fun k _ k2 k3 k4 k5 => h.1 k k2 k3 k4 k5, fun j _ => by rw [h.1 2 (by decide) (by decide) (by decide) (by decide)], fun j hj => h.2.2.1 j (by omega), fun j hj => h.2.2.2 j (by omega)⟩
theorem MI.beh {c s : Int} {f : Nat → Int} {t t' : Nat → Int → Int} (h : MI c f t) (b : rBeh t t') : MI c (upN f 25 s) t' ∧ mSame f t (upN f 25 s) t' := by
  have e : ∀ k, k ≠ 2 → k ≠ 16 → k ≠ 17 → k ≠ 18 → k ≠ 19 → t' k = t k := b.1
  have e1 := e 1 (by decide) (by decide) (by decide) (by decide) (by decide)
  have e5 := e 5 (by decide) (by decide) (by decide) (by decide) (by decide)
  have e7 := e 7 (by decide) (by decide) (by decide) (by decide) (by decide)
  have e15 := e 15 (by decide) (by decide) (by decide) (by decide) (by decide)
  have e29 := e 29 (by decide) (by decide) (by decide) (by decide) (by decide)
  have e30 := e 30 (by decide) (by decide) (by decide) (by decide) (by decide)
  have e31 := e 31 (by decide) (by decide) (by decide) (by decide) (by decide)
  obtain ⟨h1, h2, h3, h4, h5, h6, h7, h8, h9, h10⟩ := h
  refine ⟨⟨h1, by rw [e1]; exact rsOk_P h2 h1.2 b.2.1, h3, h4, by rw [e5]; exact h5, h6, by rw [e7]; exact h7, ?_, ?_, ?_⟩, ?_, ?_, b.2.1⟩
  · intro q j j0 j1
    replace j1 : j < 201 * f 0 := j1
    rw [e1, e15, pTerm_P h2 h1.2 b.2.1 (by omega) (by omega)]
    exact h8 q j j0 j1
  · rcases h9 with q | ⟨q1, q2, q3⟩
    · exact Or.inl q
    · refine Or.inr ⟨q1, q2, fun j j0 j1 => ?_⟩
      replace j1 : j < f 0 := j1
      rw [e1, pRest_P h2 h1.2 b.2.1 j0 j1]
      exact (q3 j j0 j1).keep (b.2.2.1 j (by omega)).1 (b.2.2.1 j (by omega)).2 (fun k k0 k1 => b.2.2.2 _ (by omega))
  · unfold KI at *
    rw [e29, e30, e31]
    exact h10
  · intro k hk
    simp only [List.mem_cons, List.not_mem_nil, or_false] at hk
    exact upN_n _ _ (by omega)
  · intro k hk
    simp only [List.mem_cons, List.not_mem_nil, or_false] at hk
    exact e k (by omega) (by omega) (by omega) (by omega) (by omega)
def pSd (s : Int) : Int := (1103515245 * s + 12345) % 2147483648
def pDv (s : Int) : Int := s / 65536 % 7 - 3
def pSn (s : Int) : Nat → Int
  | 0 => s
  | k + 1 => pSd (pSn s k)
noncomputable def pDl (s : Int) : Nat → Int
  | 0 => 0
  | k + 1 => pDl s k + pLap (fun n => (pTr 5 (pDv (pSn s (4 * k + 1))) (pDv (pSn s (4 * k + 2))) (pDv (pSn s (4 * k + 3))) (pDv (pSn s (4 * k + 4))) n.toNat).1)
def pDm (s : Int) : Nat → Int
  | 0 => 0
  | k + 1 => pDm s k + (if 0 < pDeg (pDv (pSn s (4 * k + 1))) (pDv (pSn s (4 * k + 2))) then 1 else 0)
theorem pSn_r {s : Int} (hs : 0 ≤ s ∧ s < 2147483648) : ∀ k, 0 ≤ pSn s k ∧ pSn s k < 2147483648 := by
  intro k
  cases k with
  | zero => exact hs
  | succ k => unfold pSn pSd; omega
theorem pDv_r {s : Int} : -3 ≤ pDv s ∧ pDv s ≤ 3 := by unfold pDv; omega
noncomputable def pDrw (n s w : Int) : Int := if w = 0 then pDl s n.toNat else if w = 1 then pDm s n.toNat else pSn s (4 * n.toNat)
theorem pDg_r (c d : Int) : ∀ (j : Nat) (n a b : Int), 0 ≤ n → n + j ≤ 20 → 0 ≤ pDg c d j n a b ∧ pDg c d j n a b ≤ 20 := by
  intro j
  induction j with
  | zero => intro n a b _ _; unfold pDg; omega
  | succ j ih => intro n a b h1 h2; unfold pDg; split; omega; exact ih _ _ _ (by omega) (by omega)
theorem pDeg_r (c d : Int) : 0 ≤ pDeg c d ∧ pDeg c d ≤ 20 := by unfold pDeg; split; omega; exact pDg_r c d 12 1 0 1 (by omega) (by omega)
section M11
variable (l : Launch) (X : Cx) (σ : Ms) (f : Nat → Int) (t : Nat → Int → Int)
theorem m_drawOf (hs : 0 ≤ f 25 ∧ f 25 < 2147483648) : CM l X σ yX2_drawOf cX2_drawOf 2 (some .int) 0 [.int (zI 7)] f t (some (.int (zI (pSd (f 25) / 65536 % 7)))) (upN f 25 (pSd (f 25))) t := by
  have h1 : 0 ≤ pSd (f 25) ∧ pSd (f 25) < 2147483648 := by unfold pSd; omega
  refine Ct.of (by decide) (Nat.le_of_ble_eq_true rfl) (fun Γ M => ?_)
  refine j_lv (lv' := [(0, .ref σ.1), (1, .int (zI 7))]) rfl ?_
  refine j_aload_n M dX2_drawOf_0 0 rfl ?_
  refine j_ldc2 M (1103515245) q1737 (by decide) dX2_drawOf_1 ?_
  refine j_aload_n M dX2_drawOf_4 0 rfl ?_
  refine m_get M 25 (by decide) q1267 rfl dX2_drawOf_5 ?_
  refine j_lmul M dX2_drawOf_8 ?_
  refine j_ldc2 M (12345) q1738 (by decide) dX2_drawOf_9 ?_
  refine j_ladd M dX2_drawOf_12 ?_
  refine j_ldc2 M (2147483648) q1739 (by decide) dX2_drawOf_13 ?_
  refine j_lremE M dX2_drawOf_16 (by omega) (by omega) ?_
  refine m_putL M 25 (by decide) q1267 dX2_drawOf_17 ?_
  refine j_aload_n M dX2_drawOf_20 0 rfl ?_
  refine m_get M 25 (by decide) q1267 rfl dX2_drawOf_21 ?_
  refine j_ldc2 M (65536) q1740 (by decide) dX2_drawOf_24 ?_
  try simp only [upN, reduceIte, Nat.reduceEqDiff]
  show J Γ (mH X σ (upN f 25 (pSd (f 25))) t) 0 0 27 _ (.long (zL 65536) :: .long (zL (pSd (f 25))) :: _)
  refine j_ldivE M dX2_drawOf_27 (by omega) (by omega) ?_
  refine j_iload_n M dX2_drawOf_28 1 rfl ?_
  refine j_i2l M dX2_drawOf_29 (by omega) ?_
  refine j_lremE M dX2_drawOf_30 (by omega) (by omega) ?_
  refine j_l2i M dX2_drawOf_31 ?_
  refine j_iret M dX2_drawOf_32 ⟨Nat.le_refl _, Nat.le_refl _⟩ ?_
  exact ⟨rfl, rfl⟩
theorem m_drawnNow (hm : mOk σ) (c n s w : Int) (hn : 1 ≤ n ∧ n ≤ 30) (hs : 0 ≤ s ∧ s < 2147483648) (hw : r32 w) (h : MI c f t) : Ct l X yX2_drawnNow cX2_drawnNow 8 (some .int) (rD 3) [.ref σ.1, .int (zI n), .int (zI s), .int (zI w)] (mH X σ f t) (pQ X σ c f t (.int (zI (pDrw n s w)))) := by
  have hsn := pSn_r hs
  refine Ct.of (by decide) (Nat.le_of_ble_eq_true rfl) (fun Γ M => ?_)
  refine j_lv (lv' := [(0, .ref σ.1), (1, .int (zI n)), (2, .int (zI s)), (3, .int (zI w))]) rfl ?_
  have loop1 : ∀ (v k : Nat) (t1 : Nat → Int → Int) (ls : List (Nat × Value)), v = 30 - k → (k : Int) ≤ n → rBeh t t1 → (0 ≤ pDl s k ∧ pDl s k ≤ 336 * k) → (0 ≤ pDm s k ∧ pDm s k ≤ k) → J Γ (mH X σ (upN f 25 (pSn s (4 * k))) t1) 0 0 15 ([(0, .ref σ.1), (1, .int (zI n)), (2, .int (zI s)), (3, .int (zI w)), (4, .int (zI (pDl s k))), (5, .int (zI (pDm s k))), (6, .int (zI k))] ++ ls) [] := by
    intro v
    induction v using Nat.strongRecOn with
    | _ v ih =>
      intro k t1 ls hv hk hb hl hmm
      refine j_loc (lv' := [(0, .ref σ.1), (1, .int (zI n)), (2, .int (zI s)), (3, .int (zI w)), (4, .int (zI (pDl s k))), (5, .int (zI (pDm s k))), (6, .int (zI k))]) [0, 1, 2, 3, 4, 5, 6] rfl ?_
      have loop2 : k < 30 → (k : Int) < n → ∀ (q j : Nat) (t2 : Nat → Int → Int), q = 4 - j → j ≤ 4 → rBeh t t2 → (∀ i : Nat, i < j → t2 2 (32 + i) = pDv (pSn s (4 * k + i + 1))) → J Γ (mH X σ (upN f 25 (pSn s (4 * k + j))) t2) 0 0 24 [(0, .ref σ.1), (1, .int (zI n)), (2, .int (zI s)), (3, .int (zI w)), (4, .int (zI (pDl s k))), (5, .int (zI (pDm s k))), (6, .int (zI k)), (7, .int (zI j))] [] := by
        intro hk30 hkn q
        induction q using Nat.strongRecOn with
        | _ q ih2 =>
          intro j t2 hq hj hb2 hp
          have hsj := hsn (4 * k + j)
          refine j_iload M dX2_drawnNow_24 7 rfl ?_
          refine j_iconst M dX2_drawnNow_26 ?_
          refine j_icmp_ge M 54 dX2_drawnNow_27 (by decide) (by omega) (fun c_27 => ?_) (fun c_27 => ?_)
          · have hj4 : j = 4 := by omega
            subst hj4
            have p0 := hp 0 (by omega)
            have p1 := hp 1 (by omega)
            have p2 := hp 2 (by omega)
            have p3 := hp 3 (by omega)
            simp only [Int.natCast_zero, Int.natCast_one, Int.add_zero, Nat.add_zero] at p0 p1 p2 p3
            have p0 : t2 2 32 = pDv (pSn s (4 * k + 1)) := p0
            have p1 : t2 2 33 = pDv (pSn s (4 * k + 2)) := p1
            have p2 : t2 2 34 = pDv (pSn s (4 * k + 3)) := p2
            have p3 : t2 2 35 = pDv (pSn s (4 * k + 4)) := p3
            have r0 := pDv_r (s := pSn s (4 * k + 1))
            have r1 := pDv_r (s := pSn s (4 * k + 2))
            have r2 := pDv_r (s := pSn s (4 * k + 3))
            have r3 := pDv_r (s := pSn s (4 * k + 4))
            refine j_aload_n M dX2_drawnNow_54 0 rfl ?_
            refine j_bipush M dX2_drawnNow_55 (by decide) ?_
            refine j_iconst M dX2_drawnNow_57 ?_
            refine j_run (k_V M (m_layTold l X σ _ t2 hm 5 8 (by omega) (by omega) (by show -9 ≤ t2 2 32 ∧ t2 2 32 ≤ 9; omega) (by show -9 ≤ t2 2 33 ∧ t2 2 33 ≤ 9; omega) (by show r32 (t2 2 34); omega) (by show r32 (t2 2 35); omega)) (m_rc M) (lw_V q1468 q1470 qs54 q102 q1471) ndX2_layTold dX2_drawnNow_58 ⟨by decide, by decide, by decide, by decide⟩ rfl (Nat.le_of_ble_eq_true rfl)) (fun r_58 hp_58 hq_58 => ?_)
            obtain ⟨rfl, t3, rfl, h3⟩ := hq_58
            have h3 : rPut 5 t2 t3 8 (fun n => (pTr 5 (t2 2 32) (t2 2 33) (t2 2 34) (t2 2 35) n.toNat).1) := h3
            rw [p0, p1, p2, p3] at h3
            have e32 : t3 2 = t2 2 := h3.1.t2
            have hL := h3.2.1
            have hLb := hL.bd
            have hle := hL.2.2.1.least
            have hl1 := hle.1.1
            refine j_iload M dX2_drawnNow_61 4 rfl ?_
            refine j_aload_n M dX2_drawnNow_63 0 rfl ?_
            refine j_bipush M dX2_drawnNow_64 (by decide) ?_
            refine j_rV (k_V M (m_lapOf l X σ _ t3 hm 5 8 _ (by omega) hL) (m_rc M) (lw_V q1498 q1500 qs59 q102 q1501) ndX2_lapOf dX2_drawnNow_66 ⟨by decide, by decide, by decide, by decide⟩ rfl (Nat.le_of_ble_eq_true rfl)) ?_
            refine j_iadd M dX2_drawnNow_69 ?_
            refine j_istore M dX2_drawnNow_70 (by decide) ?_
            refine j_iload M dX2_drawnNow_72 5 rfl ?_
            refine j_aload_n M dX2_drawnNow_74 0 rfl ?_
            refine m_get M 2 (by decide) q1244 rfl dX2_drawnNow_75 ?_
            refine j_bipush M dX2_drawnNow_78 (by decide) ?_
            refine m_ald M hm (n := 36) 2 (by decide) rfl dX2_drawnNow_80 (by omega) ?_
            refine j_aload_n M dX2_drawnNow_81 0 rfl ?_
            refine m_get M 2 (by decide) q1244 rfl dX2_drawnNow_82 ?_
            refine j_bipush M dX2_drawnNow_85 (by decide) ?_
            refine m_ald M hm (n := 36) 2 (by decide) rfl dX2_drawnNow_87 (by omega) ?_
            rw [show t3 2 32 = pDv (pSn s (4 * k + 1)) by rw [e32, p0], show t3 2 33 = pDv (pSn s (4 * k + 2)) by rw [e32, p1]]
            refine j_rV (k_S M (m_degenerate l X _ _ _ (by omega) (by omega)) (lw_S q1596 q1597 q102 q1598) ndX2_degenerate dX2_drawnNow_88 ⟨by decide, by decide, by decide, by decide⟩ rfl (Nat.le_of_ble_eq_true rfl)) ?_
            refine j_if_le M 98 dX2_drawnNow_91 (by decide) (by have := pDeg_r (pDv (pSn s (4 * k + 1))) (pDv (pSn s (4 * k + 2))); omega) (fun c_91 => ?_) (fun c_91 => ?_)
            · refine j_iconst M dX2_drawnNow_98 ?_
              refine j_iadd M dX2_drawnNow_99 ?_
              refine j_istore M dX2_drawnNow_100 (by decide) ?_
              refine j_iinc M dX2_drawnNow_102 6 rfl (by decide) ?_
              refine j_goto M 15 dX2_drawnNow_105 (by decide) ?_
              have kk := ih (30 - (k + 1)) (by omega) (k + 1) t3 [(7, .int (zI 4))] rfl (by omega) (hb2.tr h3.beh) (by unfold pDl; omega) (by unfold pDm; rw [if_neg (by omega)]; omega)
              have e1 : pDm s (k + 1) = pDm s k + 0 := by show _ + _ = _; rw [if_neg (by omega)]
              rw [e1] at kk
              exact kk
            · refine j_iconst M dX2_drawnNow_94 ?_
              refine j_goto M 99 dX2_drawnNow_95 (by decide) ?_
              refine j_iadd M dX2_drawnNow_99 ?_
              refine j_istore M dX2_drawnNow_100 (by decide) ?_
              refine j_iinc M dX2_drawnNow_102 6 rfl (by decide) ?_
              refine j_goto M 15 dX2_drawnNow_105 (by decide) ?_
              have kk := ih (30 - (k + 1)) (by omega) (k + 1) t3 [(7, .int (zI 4))] rfl (by omega) (hb2.tr h3.beh) (by unfold pDl; omega) (by unfold pDm; rw [if_pos (by omega)]; omega)
              have e1 : pDm s (k + 1) = pDm s k + 1 := by show _ + _ = _; rw [if_pos (by omega)]
              rw [e1] at kk
              exact kk
          · refine j_aload_n M dX2_drawnNow_30 0 rfl ?_
            refine m_get M 2 (by decide) q1244 rfl dX2_drawnNow_31 ?_
            refine j_bipush M dX2_drawnNow_34 (by decide) ?_
            refine j_iload M dX2_drawnNow_36 7 rfl ?_
            refine j_iadd M dX2_drawnNow_38 ?_
            refine j_aload_n M dX2_drawnNow_39 0 rfl ?_
            refine j_bipush M dX2_drawnNow_40 (by decide) ?_
            refine j_rV (k_V M (m_drawOf l X σ (upN f 25 (pSn s (4 * k + j))) t2 hsj) (m_rc M) (lw_V q1733 q1735 qs91 q102 q1736) ndX2_drawOf dX2_drawnNow_42 ⟨by decide, by decide, by decide, by decide⟩ rfl (Nat.le_of_ble_eq_true rfl)) ?_
            refine j_iconst M dX2_drawnNow_45 ?_
            refine j_isub M dX2_drawnNow_46 ?_
            refine m_ast M hm (n := 36) 2 (by decide) (fun _ => rfl) dX2_drawnNow_47 (by omega) ?_
            refine j_iinc M dX2_drawnNow_48 7 rfl (by decide) ?_
            refine j_goto M 24 dX2_drawnNow_51 (by decide) ?_
            have kk := ih2 (4 - (j + 1)) (by omega) (j + 1) (upN t2 2 (upA (t2 2) (32 + j) (pSd (pSn s (4 * k + j)) / 65536 % 7 - 3))) rfl (by omega) ?_ ?_
            · refine j_hp ?_ kk
              congr 1
              simp only [upN_uu, upN_s]
              rfl
            · refine ⟨fun a a1 _ _ _ _ => ?_, fun a ha => ?_, hb2.2.2.1, hb2.2.2.2⟩
              · rw [upN_n _ _ a1]; exact hb2.1 a a1 (by assumption) (by assumption) (by assumption) (by assumption)
              · show upA (t2 2) _ _ a = _; rw [upA_n _ _ (by omega)]; exact hb2.2.1 a ha
            · intro i hi
              show upA (t2 2) _ _ (32 + (i : Int)) = _
              rcases (show i < j ∨ i = j by omega) with e | e
              · rw [upA_n _ _ (by omega)]; exact hp i e
              · rw [e, upA_s]; rfl
      refine j_iload M dX2_drawnNow_15 6 rfl ?_
      refine j_iload_n M dX2_drawnNow_17 1 rfl ?_
      refine j_icmp_ge M 108 dX2_drawnNow_18 (by decide) (by omega) (fun c_18 => ?_) (fun c_18 => ?_)
      · refine j_iload_n M dX2_drawnNow_108 3 rfl ?_
        refine j_if_ne M 117 dX2_drawnNow_109 (by decide) (by omega) (fun c_109 => ?_) (fun c_109 => ?_)
        · refine j_iload_n M dX2_drawnNow_117 3 rfl ?_
          refine j_iconst M dX2_drawnNow_118 ?_
          refine j_icmp_ne M 127 dX2_drawnNow_119 (by decide) (by omega) (fun c_119 => ?_) (fun c_119 => ?_)
          · refine j_aload_n M dX2_drawnNow_127 0 rfl ?_
            refine m_get M 25 (by decide) q1267 rfl dX2_drawnNow_128 ?_
            refine j_l2i M dX2_drawnNow_131 ?_
            refine j_iret M dX2_drawnNow_132 ⟨Nat.le_refl _, Nat.le_refl _⟩ ?_
            refine ⟨?_, _, _, rfl, h.beh hb⟩
            unfold pDrw; rw [if_neg c_109, if_neg c_119, show n.toNat = k by omega]; rfl
          · refine j_iload M dX2_drawnNow_122 5 rfl ?_
            refine j_goto M 132 dX2_drawnNow_124 (by decide) ?_
            refine j_iret M dX2_drawnNow_132 ⟨Nat.le_refl _, Nat.le_refl _⟩ ?_
            refine ⟨?_, _, _, rfl, h.beh hb⟩
            unfold pDrw; rw [if_neg c_109, if_pos c_119, show n.toNat = k by omega]
        · refine j_iload M dX2_drawnNow_112 4 rfl ?_
          refine j_goto M 132 dX2_drawnNow_114 (by decide) ?_
          refine j_iret M dX2_drawnNow_132 ⟨Nat.le_refl _, Nat.le_refl _⟩ ?_
          refine ⟨?_, _, _, rfl, h.beh hb⟩
          unfold pDrw; rw [if_pos c_109, show n.toNat = k by omega]
      · refine j_iconst M dX2_drawnNow_21 ?_
        refine j_istore M dX2_drawnNow_22 (by decide) ?_
        exact loop2 (by omega) (by omega) 4 0 t1 rfl (by omega) hb (fun i hi => by omega)
  refine j_aload_n M dX2_drawnNow_0 0 rfl ?_
  refine j_iload_n M dX2_drawnNow_1 2 rfl ?_
  refine j_i2l M dX2_drawnNow_2 (by omega) ?_
  refine m_putL M 25 (by decide) q1267 dX2_drawnNow_3 ?_
  refine j_iconst M dX2_drawnNow_6 ?_
  refine j_istore M dX2_drawnNow_7 (by decide) ?_
  refine j_iconst M dX2_drawnNow_9 ?_
  refine j_istore M dX2_drawnNow_10 (by decide) ?_
  refine j_iconst M dX2_drawnNow_12 ?_
  refine j_istore M dX2_drawnNow_13 (by decide) ?_
  exact loop1 30 0 t [] rfl (by omega) rBeh.rfl (by unfold pDl; omega) (by unfold pDm; omega)
noncomputable def vDrawn (n s w : Int) : Int := if (1 ≤ n ∧ n ≤ 30) ∧ 0 ≤ s ∧ (0 ≤ w ∧ w ≤ 2) then pDrw n s w else 2000000102
theorem m_drawn (hm : mOk σ) (c n s w : Int) (hn : r32 n) (hs : r32 s) (hw : r32 w) (h : MI c f t) : Ct l X yX2_drawn cX2_drawn 4 (some .int) (rD 4) [.ref σ.1, .int (zI n), .int (zI s), .int (zI w)] (mH X σ f t) (pQ X σ c f t (.int (zI (vDrawn n s w)))) := by
  refine Ct.of (by decide) (Nat.le_of_ble_eq_true rfl) (fun Γ M => ?_)
  refine j_lv (lv' := [(0, .ref σ.1), (1, .int (zI n)), (2, .int (zI s)), (3, .int (zI w))]) rfl ?_
  refine j_iload_n M dX2_drawn_0 1 rfl ?_
  refine j_iconst M dX2_drawn_1 ?_
  refine j_bipush M dX2_drawn_2 (by decide) ?_
  refine j_rV (k_S M (m_within l X _ _ _ _ (by omega)) (lw_S q1347 q1348 q102 q1349) ndX2_within dX2_drawn_4 ⟨by decide, by decide, by decide, by decide⟩ rfl (Nat.le_of_ble_eq_true rfl)) ?_
  refine j_ifeqB M 33 dX2_drawn_7 (by decide) (fun c_7 => ?_) (fun c_7 => ?_)
  · simp only [decide_eq_false_iff_not] at c_7
    refine j_ldc M (2000000102) q1350 (by decide) dX2_drawn_33 ?_
    refine j_iret M dX2_drawn_35 ⟨Nat.le_refl _, Nat.le_refl _⟩ ?_
    unfold vDrawn; rw [if_neg (by omega)]; exact pQ.of h
  · simp only [decide_eq_true_eq] at c_7
    refine j_iload_n M dX2_drawn_10 2 rfl ?_
    refine j_if_lt M 33 dX2_drawn_11 (by decide) (by omega) (fun c_11 => ?_) (fun c_11 => ?_)
    · refine j_ldc M (2000000102) q1350 (by decide) dX2_drawn_33 ?_
      refine j_iret M dX2_drawn_35 ⟨Nat.le_refl _, Nat.le_refl _⟩ ?_
      unfold vDrawn; rw [if_neg (by omega)]; exact pQ.of h
    · refine j_iload_n M dX2_drawn_14 3 rfl ?_
      refine j_iconst M dX2_drawn_15 ?_
      refine j_iconst M dX2_drawn_16 ?_
      refine j_rV (k_S M (m_within l X _ _ _ _ (by omega)) (lw_S q1347 q1348 q102 q1349) ndX2_within dX2_drawn_17 ⟨by decide, by decide, by decide, by decide⟩ rfl (Nat.le_of_ble_eq_true rfl)) ?_
      refine j_ifeqB M 33 dX2_drawn_20 (by decide) (fun c_20 => ?_) (fun c_20 => ?_)
      · simp only [decide_eq_false_iff_not] at c_20
        refine j_ldc M (2000000102) q1350 (by decide) dX2_drawn_33 ?_
        refine j_iret M dX2_drawn_35 ⟨Nat.le_refl _, Nat.le_refl _⟩ ?_
        unfold vDrawn; rw [if_neg (by omega)]; exact pQ.of h
      · simp only [decide_eq_true_eq] at c_20
        refine j_aload_n M dX2_drawn_23 0 rfl ?_
        refine j_iload_n M dX2_drawn_24 1 rfl ?_
        refine j_iload_n M dX2_drawn_25 2 rfl ?_
        refine j_iload_n M dX2_drawn_26 3 rfl ?_
        refine j_run (k_V M (m_drawnNow l X σ f t hm c n s w c_7 (by omega) hw h) (m_rc M) (lw_V q1729 q1731 qs90 q102 q1732) ndX2_drawnNow dX2_drawn_27 ⟨by decide, by decide, by decide, by decide⟩ rfl (Nat.le_of_ble_eq_true rfl)) (fun r_27 hp_27 hq_27 => ?_)
        obtain ⟨rfl, hq⟩ := hq_27
        refine j_goto M 35 dX2_drawn_30 (by decide) ?_
        refine j_iret M dX2_drawn_35 ⟨Nat.le_refl _, Nat.le_refl _⟩ ?_
        unfold vDrawn; rw [if_pos ⟨c_7, by omega, c_20⟩]; exact ⟨rfl, hq⟩
end M11
