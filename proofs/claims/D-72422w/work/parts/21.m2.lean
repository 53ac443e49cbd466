/-! 21: the reference: terms -/
set_option maxRecDepth 100000
theorem mul_bd {a b : Int} (A B : Int) (ha : -A ≤ a ∧ a ≤ A) (hb : -B ≤ b ∧ b ≤ B) : -(A * B) ≤ a * b ∧ a * b ≤ A * B := by
  have h1 : (a * b).natAbs ≤ A.toNat * B.toNat := by rw [Int.natAbs_mul]; exact Nat.mul_le_mul (by omega) (by omega)
  have h2 : ((A.toNat * B.toNat : Nat) : Int) = A * B := by rw [Int.natCast_mul, Int.toNat_of_nonneg (by omega), Int.toNat_of_nonneg (by omega)]
  omega
theorem pTerm_rec {K P : Int → Int} {i n : Int} (hn : 2 ≤ n ∧ n ≤ 200) (hk : K i = 0) : pTerm K P i n = pNx (P (4 * i)) (P (4 * i + 1)) (pTerm K P i (n - 2)) (pTerm K P i (n - 1)) := by
  rw [pTerm_told (by omega) hk, pTerm_told (by omega) hk, pTerm_told (by omega) hk]
  obtain ⟨m, rfl⟩ : ∃ m : Nat, n = m + 2 := ⟨(n - 2).toNat, by omega⟩
  rw [show ((m : Int) + 2).toNat = m + 2 by omega, show ((m : Int) + 2 - 1).toNat = m + 1 by omega, show ((m : Int) + 2 - 2).toNat = m by omega]
  rfl
theorem m_near (l : Launch) (X : Cx) (hp : Hp) (v : Int) (h : r64 v) : CS l X yX2_near cX2_near 2 (some .int) 0 [.long (zL v)] hp (some (.int (zI (pNear v)))) := by
  refine Ct.of (by decide) (Nat.le_of_ble_eq_true rfl) (fun Γ M => ?_)
  refine j_lv (lv' := [(0, .long (zL v))]) rfl ?_
  refine j_lload_n M dX2_near_0 0 rfl ?_
  refine j_ldc2 M (1000000000) q1442 (by decide) dX2_near_1 ?_
  refine j_lcmp_gt M 16 dX2_near_4 dX2_near_5 (by decide) (by omega) (fun c_4 => ?_) (fun c_4 => ?_)
  · refine j_ldc M (2000000002) q1438 (by decide) dX2_near_16 ?_
    refine j_goto M 23 dX2_near_18 (by decide) ?_
    refine j_iret M dX2_near_23 ⟨Nat.le_refl _, Nat.le_refl _⟩ ?_
    exact ⟨by unfold pNear; first | rw [if_pos (by omega)] | rw [if_neg (by omega)], rfl⟩
  · refine j_lload_n M dX2_near_8 0 rfl ?_
    refine j_ldc2 M (-1000000000) q1443 (by decide) dX2_near_9 ?_
    refine j_lcmp_ge M 21 dX2_near_12 dX2_near_13 (by decide) (by omega) (fun c_12 => ?_) (fun c_12 => ?_)
    · refine j_lload_n M dX2_near_21 0 rfl ?_
      refine j_l2i M dX2_near_22 ?_
      refine j_iret M dX2_near_23 ⟨Nat.le_refl _, Nat.le_refl _⟩ ?_
      exact ⟨by unfold pNear; first | rw [if_pos (by omega)] | rw [if_neg (by omega)], rfl⟩
    · refine j_ldc M (2000000002) q1438 (by decide) dX2_near_16 ?_
      refine j_goto M 23 dX2_near_18 (by decide) ?_
      refine j_iret M dX2_near_23 ⟨Nat.le_refl _, Nat.le_refl _⟩ ?_
      exact ⟨by unfold pNear; first | rw [if_pos (by omega)] | rw [if_neg (by omega)], rfl⟩
section M2
variable (l : Launch) (X : Cx) (σ : Ms) (f : Nat → Int) (t : Nat → Int → Int)
theorem m_termAt (hm : mOk σ) (i n : Int) (hi : 0 ≤ i ∧ i < 8) (hn : 0 ≤ n ∧ n < 2147483648) : CM l X σ yX2_termAt cX2_termAt 3 (some .int) 0 [.int (zI i), .int (zI n)] f t (some (.int (zI (if 200 < n then 2000000002 else t 15 (201 * i + n))))) f t := by
  refine Ct.of (by decide) (Nat.le_of_ble_eq_true rfl) (fun Γ M => ?_)
  refine j_lv (lv' := [(0, .ref σ.1), (1, .int (zI i)), (2, .int (zI n))]) rfl ?_
  refine j_iload_n M dX2_termAt_0 2 rfl ?_
  refine j_sipush M dX2_termAt_1 (by decide) ?_
  refine j_icmp_le M 12 dX2_termAt_4 (by decide) (by omega) (fun c_4 => ?_) (fun c_4 => ?_)
  · refine j_aload_n M dX2_termAt_12 0 rfl ?_
    refine m_get M 15 (by decide) q1257 rfl dX2_termAt_13 ?_
    refine j_sipush M dX2_termAt_16 (by decide) ?_
    refine j_iload_n M dX2_termAt_19 1 rfl ?_
    refine j_imul M dX2_termAt_20 ?_
    refine j_iload_n M dX2_termAt_21 2 rfl ?_
    refine j_iadd M dX2_termAt_22 ?_
    refine m_ald M hm (n := 1608) 15 (by decide) rfl dX2_termAt_23 (by omega) ?_
    refine j_iret M dX2_termAt_24 ⟨Nat.le_refl _, Nat.le_refl _⟩ ?_
    exact ⟨by first | rw [if_pos (by omega)] | rw [if_neg (by omega)], rfl⟩
  · refine j_ldc M (2000000002) q1438 (by decide) dX2_termAt_7 ?_
    refine j_goto M 24 dX2_termAt_9 (by decide) ?_
    refine j_iret M dX2_termAt_24 ⟨Nat.le_refl _, Nat.le_refl _⟩ ?_
    exact ⟨by first | rw [if_pos (by omega)] | rw [if_neg (by omega)], rfl⟩
/-- the terms are laid up to place b -/
def tLaid (t : Nat → Int → Int) (b : Int) : Prop := ∀ j, 0 ≤ j → j < b → t 15 j = pTerm (t 1) (t 2) (j / 201) (j % 201)
theorem tLaid_at {t : Nat → Int → Int} {b i n : Int} (h : tLaid t b) (hi : 0 ≤ i) (hn : 0 ≤ n) (hb : n ≤ 200 → 201 * i + n < b) : (if 200 < n then 2000000002 else t 15 (201 * i + n)) = pTerm (t 1) (t 2) i n := by
  by_cases h2 : 200 < n
  · rw [if_pos h2, pTerm_far h2]
  · rw [if_neg h2, h _ (by omega) (hb (by omega))]
    rw [show (201 * i + n) / 201 = i by omega, show (201 * i + n) % 201 = n by omega]
theorem m_termAtL (hm : mOk σ) (i n b : Int) (hi : 0 ≤ i ∧ i < 8) (hn : 0 ≤ n ∧ n < 2147483648) (hL : tLaid t b) (hb : n ≤ 200 → 201 * i + n < b) : CM l X σ yX2_termAt cX2_termAt 3 (some .int) 0 [.int (zI i), .int (zI n)] f t (some (.int (zI (pTerm (t 1) (t 2) i n)))) f t := by
  rw [← tLaid_at hL hi.1 hn.1 hb]
  exact m_termAt l X σ f t hm i n hi hn
theorem tR_r {v : Int} (h : tR v) : r32 v := by unfold tR at h; omega
theorem tR_f {v : Int} (h : tR v) (h2 : v ≠ 2000000002) : -1000000000 ≤ v ∧ v ≤ 1000000000 := by unfold tR at h; omega
theorem m_toldTerm (hm : mOk σ) (N i n : Int) (hN : N ≤ 8) (hi : 0 ≤ i ∧ i < N) (hn : 0 ≤ n ∧ n ≤ 200) (hr : rsOk (t 1) (t 2) N) (hk : t 1 i = 0) (hL : tLaid t (201 * i + n)) : CM l X σ yX2_toldTerm cX2_toldTerm 5 (some .int) 1 [.int (zI i), .int (zI n)] f t (some (.int (zI (pTerm (t 1) (t 2) i n)))) f t := by
  have ht := rOk_told (hr i hi.1 hi.2) hk
  refine Ct.of (by decide) (Nat.le_of_ble_eq_true rfl) (fun Γ M => ?_)
  refine j_lv (lv' := [(0, .ref σ.1), (1, .int (zI i)), (2, .int (zI n))]) rfl ?_
  refine j_iload_n M dX2_toldTerm_0 2 rfl ?_
  refine j_iconst M dX2_toldTerm_1 ?_
  refine j_icmp_ge M 18 dX2_toldTerm_2 (by decide) (by omega) (fun c_2 => ?_) (fun c_2 => ?_)
  · refine j_aload_n M dX2_toldTerm_18 0 rfl ?_
    refine j_iload_n M dX2_toldTerm_19 1 rfl ?_
    refine j_iload_n M dX2_toldTerm_20 2 rfl ?_
    refine j_iconst M dX2_toldTerm_21 ?_
    refine j_isub M dX2_toldTerm_22 ?_
    refine j_rV (k_V M (m_termAtL l X σ f t hm i (n - 1) _ (by omega) (by omega) hL (by omega)) (m_rc M) (lw_V q1434 q1436 qs48 q102 q1437) ndX2_termAt dX2_toldTerm_23 ⟨by decide, by decide, by decide, by decide⟩ rfl (Nat.le_of_ble_eq_true rfl)) ?_
    refine j_istore_n M dX2_toldTerm_26 (by decide) ?_
    refine j_aload_n M dX2_toldTerm_27 0 rfl ?_
    refine j_iload_n M dX2_toldTerm_28 1 rfl ?_
    refine j_iload_n M dX2_toldTerm_29 2 rfl ?_
    refine j_iconst M dX2_toldTerm_30 ?_
    refine j_isub M dX2_toldTerm_31 ?_
    refine j_rV (k_V M (m_termAtL l X σ f t hm i (n - 2) _ (by omega) (by omega) hL (by omega)) (m_rc M) (lw_V q1434 q1436 qs48 q102 q1437) ndX2_termAt dX2_toldTerm_32 ⟨by decide, by decide, by decide, by decide⟩ rfl (Nat.le_of_ble_eq_true rfl)) ?_
    refine j_istore M dX2_toldTerm_35 (by decide) ?_
    have r1 := pTerm_r hr hi.1 hi.2 (n := n - 1)
    have r2 := pTerm_r hr hi.1 hi.2 (n := n - 2)
    have q1 := tR_r r1
    have q2 := tR_r r2
    refine j_iload_n M dX2_toldTerm_37 3 rfl ?_
    refine j_ldc M (2000000002) q1438 (by decide) dX2_toldTerm_38 ?_
    refine j_icmp_eq M 50 dX2_toldTerm_40 (by decide) (by omega) (fun c_40 => ?_) (fun c_40 => ?_)
    · refine j_ldc M (2000000002) q1438 (by decide) dX2_toldTerm_50 ?_
      refine j_goto M 86 dX2_toldTerm_52 (by decide) ?_
      refine j_iret M dX2_toldTerm_86 ⟨Nat.le_refl _, Nat.le_refl _⟩ ?_
      refine ⟨?_, rfl⟩
      rw [pTerm_rec (n := n) (by omega) hk, pNx]
      first | rw [if_pos (Or.inl (by assumption))] | rw [if_pos (Or.inr (by assumption))] | rw [if_neg (by omega)]
    · refine j_iload M dX2_toldTerm_43 4 rfl ?_
      refine j_ldc M (2000000002) q1438 (by decide) dX2_toldTerm_45 ?_
      refine j_icmp_ne M 55 dX2_toldTerm_47 (by decide) (by omega) (fun c_47 => ?_) (fun c_47 => ?_)
      · refine j_aload_n M dX2_toldTerm_55 0 rfl ?_
        refine m_get M 2 (by decide) q1244 rfl dX2_toldTerm_56 ?_
        refine j_iconst M dX2_toldTerm_59 ?_
        refine j_iload_n M dX2_toldTerm_60 1 rfl ?_
        refine j_imul M dX2_toldTerm_61 ?_
        refine m_ald M hm (n := 36) 2 (by decide) rfl dX2_toldTerm_62 (by omega) ?_
        refine j_i2l M dX2_toldTerm_63 (by omega) ?_
        refine j_iload_n M dX2_toldTerm_64 3 rfl ?_
        refine j_i2l M dX2_toldTerm_65 (by omega) ?_
        refine j_lmul M dX2_toldTerm_66 ?_
        refine j_aload_n M dX2_toldTerm_67 0 rfl ?_
        refine m_get M 2 (by decide) q1244 rfl dX2_toldTerm_68 ?_
        refine j_iconst M dX2_toldTerm_71 ?_
        refine j_iload_n M dX2_toldTerm_72 1 rfl ?_
        refine j_imul M dX2_toldTerm_73 ?_
        refine j_iconst M dX2_toldTerm_74 ?_
        refine j_iadd M dX2_toldTerm_75 ?_
        refine m_ald M hm (n := 36) 2 (by decide) rfl dX2_toldTerm_76 (by omega) ?_
        refine j_i2l M dX2_toldTerm_77 (by omega) ?_
        refine j_iload M dX2_toldTerm_78 4 rfl ?_
        refine j_i2l M dX2_toldTerm_80 (by omega) ?_
        refine j_lmul M dX2_toldTerm_81 ?_
        refine j_ladd M dX2_toldTerm_82 ?_
        have b1 := tR_f r1 c_40
        have b2 := tR_f r2 c_47
        have b3 := mul_bd 9 1000000000 ⟨ht.1.1, ht.1.2⟩ b1
        have b4 := mul_bd 9 1000000000 ⟨ht.2.1.1, ht.2.1.2⟩ b2
        have hb : r64 (t 2 (4 * i) * pTerm (t 1) (t 2) i (n - 1) + t 2 (4 * i + 1) * pTerm (t 1) (t 2) i (n - 2)) := ⟨by omega, by omega⟩
        refine j_rV (k_S M (m_near l X _ _ hb) (lw_S q1439 q1440 q102 q1441) ndX2_near dX2_toldTerm_83 ⟨by decide, by decide, by decide, by decide⟩ rfl (Nat.le_of_ble_eq_true rfl)) ?_
        refine j_iret M dX2_toldTerm_86 ⟨Nat.le_refl _, Nat.le_refl _⟩ ?_
        refine ⟨?_, rfl⟩
        rw [pTerm_rec (n := n) (by omega) hk, pNx]
        first | rw [if_pos (Or.inl (by assumption))] | rw [if_pos (Or.inr (by assumption))] | rw [if_neg (by omega)]
      · refine j_ldc M (2000000002) q1438 (by decide) dX2_toldTerm_50 ?_
        refine j_goto M 86 dX2_toldTerm_52 (by decide) ?_
        refine j_iret M dX2_toldTerm_86 ⟨Nat.le_refl _, Nat.le_refl _⟩ ?_
        refine ⟨?_, rfl⟩
        rw [pTerm_rec (n := n) (by omega) hk, pNx]
        first | rw [if_pos (Or.inl (by assumption))] | rw [if_pos (Or.inr (by assumption))] | rw [if_neg (by omega)]
  · refine j_aload_n M dX2_toldTerm_5 0 rfl ?_
    refine m_get M 2 (by decide) q1244 rfl dX2_toldTerm_6 ?_
    refine j_iconst M dX2_toldTerm_9 ?_
    refine j_iload_n M dX2_toldTerm_10 1 rfl ?_
    refine j_imul M dX2_toldTerm_11 ?_
    refine j_iconst M dX2_toldTerm_12 ?_
    refine j_iadd M dX2_toldTerm_13 ?_
    refine j_iload_n M dX2_toldTerm_14 2 rfl ?_
    refine j_iadd M dX2_toldTerm_15 ?_
    refine m_ald M hm (n := 36) 2 (by decide) rfl dX2_toldTerm_16 (by omega) ?_
    refine j_iret M dX2_toldTerm_17 ⟨Nat.le_refl _, Nat.le_refl _⟩ ?_
    refine ⟨?_, rfl⟩
    rw [pTerm_told (by omega) hk]
    rcases (show n = 0 ∨ n = 1 by omega) with rfl | rfl
    · rw [Int.add_zero]; rfl
    · rw [show 4 * i + 2 + 1 = 4 * i + 3 by omega]; rfl
theorem m_bothTerm (hm : mOk σ) (N i n : Int) (hN : N ≤ 8) (hi : 0 ≤ i ∧ i < N) (hn : 0 ≤ n ∧ n ≤ 200) (hr : rsOk (t 1) (t 2) N) (hk : t 1 i = 1 ∨ t 1 i = 2) (hL : tLaid t (201 * i + n)) : CM l X σ yX2_bothTerm cX2_bothTerm 5 (some .int) 1 [.int (zI i), .int (zI n)] f t (some (.int (zI (pTerm (t 1) (t 2) i n)))) f t := by
  have hp := rOk_part (hr i hi.1 hi.2) (by omega)
  have hp2 := rOk_part2 (hr i hi.1 hi.2) hk
  have r1 := pTerm_r hr hp.1 (by omega : t 2 (4 * i) < N) (n := n)
  have r2 := pTerm_r hr hp2.1 (by omega : t 2 (4 * i + 1) < N) (n := n)
  have q1 := tR_r r1
  have q2 := tR_r r2
  refine Ct.of (by decide) (Nat.le_of_ble_eq_true rfl) (fun Γ M => ?_)
  refine j_lv (lv' := [(0, .ref σ.1), (1, .int (zI i)), (2, .int (zI n))]) rfl ?_
  refine j_aload_n M dX2_bothTerm_0 0 rfl ?_
  refine j_aload_n M dX2_bothTerm_1 0 rfl ?_
  refine m_get M 2 (by decide) q1244 rfl dX2_bothTerm_2 ?_
  refine j_iconst M dX2_bothTerm_5 ?_
  refine j_iload_n M dX2_bothTerm_6 1 rfl ?_
  refine j_imul M dX2_bothTerm_7 ?_
  refine m_ald M hm (n := 36) 2 (by decide) rfl dX2_bothTerm_8 (by omega) ?_
  refine j_iload_n M dX2_bothTerm_9 2 rfl ?_
  refine j_rV (k_V M (m_termAtL l X σ f t hm _ n _ (by omega) (by omega) hL (by omega)) (m_rc M) (lw_V q1434 q1436 qs48 q102 q1437) ndX2_termAt dX2_bothTerm_10 ⟨by decide, by decide, by decide, by decide⟩ rfl (Nat.le_of_ble_eq_true rfl)) ?_
  refine j_istore_n M dX2_bothTerm_13 (by decide) ?_
  refine j_aload_n M dX2_bothTerm_14 0 rfl ?_
  refine j_aload_n M dX2_bothTerm_15 0 rfl ?_
  refine m_get M 2 (by decide) q1244 rfl dX2_bothTerm_16 ?_
  refine j_iconst M dX2_bothTerm_19 ?_
  refine j_iload_n M dX2_bothTerm_20 1 rfl ?_
  refine j_imul M dX2_bothTerm_21 ?_
  refine j_iconst M dX2_bothTerm_22 ?_
  refine j_iadd M dX2_bothTerm_23 ?_
  refine m_ald M hm (n := 36) 2 (by decide) rfl dX2_bothTerm_24 (by omega) ?_
  refine j_iload_n M dX2_bothTerm_25 2 rfl ?_
  refine j_rV (k_V M (m_termAtL l X σ f t hm _ n _ (by omega) (by omega) hL (by omega)) (m_rc M) (lw_V q1434 q1436 qs48 q102 q1437) ndX2_termAt dX2_bothTerm_26 ⟨by decide, by decide, by decide, by decide⟩ rfl (Nat.le_of_ble_eq_true rfl)) ?_
  refine j_istore M dX2_bothTerm_29 (by decide) ?_
  refine j_iload_n M dX2_bothTerm_31 3 rfl ?_
  refine j_ldc M (2000000002) q1438 (by decide) dX2_bothTerm_32 ?_
  refine j_icmp_eq M 44 dX2_bothTerm_34 (by decide) (by omega) (fun c_34 => ?_) (fun c_34 => ?_)
  · refine j_ldc M (2000000002) q1438 (by decide) dX2_bothTerm_44 ?_
    refine j_iret M dX2_bothTerm_46 ⟨Nat.le_refl _, Nat.le_refl _⟩ ?_
    refine ⟨?_, rfl⟩
    rw [pTerm_both hr hi.1 hi.2 (by omega) hk, pBoth]
    first | rw [if_pos (Or.inl (by assumption))] | rw [if_pos (Or.inr (by assumption))]
  · refine j_iload M dX2_bothTerm_37 4 rfl ?_
    refine j_ldc M (2000000002) q1438 (by decide) dX2_bothTerm_39 ?_
    refine j_icmp_ne M 47 dX2_bothTerm_41 (by decide) (by omega) (fun c_41 => ?_) (fun c_41 => ?_)
    · have b1 := tR_f r1 c_34
      have b2 := tR_f r2 c_41
      have b3 := mul_bd 1000000000 1000000000 b1 b2
      refine j_aload_n M dX2_bothTerm_47 0 rfl ?_
      refine m_get M 1 (by decide) q1243 rfl dX2_bothTerm_48 ?_
      refine j_iload_n M dX2_bothTerm_51 1 rfl ?_
      refine m_ald M hm (n := 9) 1 (by decide) rfl dX2_bothTerm_52 (by omega) ?_
      refine j_iconst M dX2_bothTerm_53 ?_
      refine j_icmp_ne M 66 dX2_bothTerm_54 (by decide) (by omega) (fun c_54 => ?_) (fun c_54 => ?_)
      · refine j_iload_n M dX2_bothTerm_66 3 rfl ?_
        refine j_i2l M dX2_bothTerm_67 (by omega) ?_
        refine j_iload M dX2_bothTerm_68 4 rfl ?_
        refine j_i2l M dX2_bothTerm_70 (by omega) ?_
        refine j_lmul M dX2_bothTerm_71 ?_
        refine j_rV (k_S M (m_near l X _ _ ⟨by omega, by omega⟩) (lw_S q1439 q1440 q102 q1441) ndX2_near dX2_bothTerm_72 ⟨by decide, by decide, by decide, by decide⟩ rfl (Nat.le_of_ble_eq_true rfl)) ?_
        refine j_iret M dX2_bothTerm_75 ⟨Nat.le_refl _, Nat.le_refl _⟩ ?_
        refine ⟨?_, rfl⟩
        rw [pTerm_both hr hi.1 hi.2 (by omega) hk, pBoth, if_neg (by omega), if_neg (by omega)]
      · refine j_iload_n M dX2_bothTerm_57 3 rfl ?_
        refine j_i2l M dX2_bothTerm_58 (by omega) ?_
        refine j_iload M dX2_bothTerm_59 4 rfl ?_
        refine j_i2l M dX2_bothTerm_61 (by omega) ?_
        refine j_ladd M dX2_bothTerm_62 ?_
        refine j_goto M 72 dX2_bothTerm_63 (by decide) ?_
        refine j_rV (k_S M (m_near l X _ _ ⟨by omega, by omega⟩) (lw_S q1439 q1440 q102 q1441) ndX2_near dX2_bothTerm_72 ⟨by decide, by decide, by decide, by decide⟩ rfl (Nat.le_of_ble_eq_true rfl)) ?_
        refine j_iret M dX2_bothTerm_75 ⟨Nat.le_refl _, Nat.le_refl _⟩ ?_
        refine ⟨?_, rfl⟩
        rw [pTerm_both hr hi.1 hi.2 (by omega) hk, pBoth, if_neg (by omega), if_pos (by omega)]
    · refine j_ldc M (2000000002) q1438 (by decide) dX2_bothTerm_44 ?_
      refine j_iret M dX2_bothTerm_46 ⟨Nat.le_refl _, Nat.le_refl _⟩ ?_
      refine ⟨?_, rfl⟩
      rw [pTerm_both hr hi.1 hi.2 (by omega) hk, pBoth]
      first | rw [if_pos (Or.inl (by assumption))] | rw [if_pos (Or.inr (by assumption))]
theorem m_stepTerm (hm : mOk σ) (N i n : Int) (hN : N ≤ 8) (hi : 0 ≤ i ∧ i < N) (hn : 0 ≤ n ∧ n ≤ 200) (hr : rsOk (t 1) (t 2) N) (hk : t 1 i = 4) (hL : tLaid t (201 * i + n)) : CM l X σ yX2_stepTerm cX2_stepTerm 5 (some .int) 1 [.int (zI i), .int (zI n)] f t (some (.int (zI (pTerm (t 1) (t 2) i n)))) f t := by
  have hp := rOk_part (hr i hi.1 hi.2) (by omega)
  have r1 := pTerm_r hr hp.1 (by omega : t 2 (4 * i) < N) (n := n)
  have r2 := pTerm_r hr hp.1 (by omega : t 2 (4 * i) < N) (n := n + 1)
  have q1 := tR_r r1
  have q2 := tR_r r2
  refine Ct.of (by decide) (Nat.le_of_ble_eq_true rfl) (fun Γ M => ?_)
  refine j_lv (lv' := [(0, .ref σ.1), (1, .int (zI i)), (2, .int (zI n))]) rfl ?_
  refine j_aload_n M dX2_stepTerm_0 0 rfl ?_
  refine j_aload_n M dX2_stepTerm_1 0 rfl ?_
  refine m_get M 2 (by decide) q1244 rfl dX2_stepTerm_2 ?_
  refine j_iconst M dX2_stepTerm_5 ?_
  refine j_iload_n M dX2_stepTerm_6 1 rfl ?_
  refine j_imul M dX2_stepTerm_7 ?_
  refine m_ald M hm (n := 36) 2 (by decide) rfl dX2_stepTerm_8 (by omega) ?_
  refine j_iload_n M dX2_stepTerm_9 2 rfl ?_
  refine j_rV (k_V M (m_termAtL l X σ f t hm _ n _ (by omega) (by omega) hL (by omega)) (m_rc M) (lw_V q1434 q1436 qs48 q102 q1437) ndX2_termAt dX2_stepTerm_10 ⟨by decide, by decide, by decide, by decide⟩ rfl (Nat.le_of_ble_eq_true rfl)) ?_
  refine j_istore_n M dX2_stepTerm_13 (by decide) ?_
  refine j_aload_n M dX2_stepTerm_14 0 rfl ?_
  refine j_aload_n M dX2_stepTerm_15 0 rfl ?_
  refine m_get M 2 (by decide) q1244 rfl dX2_stepTerm_16 ?_
  refine j_iconst M dX2_stepTerm_19 ?_
  refine j_iload_n M dX2_stepTerm_20 1 rfl ?_
  refine j_imul M dX2_stepTerm_21 ?_
  refine m_ald M hm (n := 36) 2 (by decide) rfl dX2_stepTerm_22 (by omega) ?_
  refine j_iload_n M dX2_stepTerm_23 2 rfl ?_
  refine j_iconst M dX2_stepTerm_24 ?_
  refine j_iadd M dX2_stepTerm_25 ?_
  refine j_rV (k_V M (m_termAtL l X σ f t hm _ (n + 1) _ (by omega) (by omega) hL (by omega)) (m_rc M) (lw_V q1434 q1436 qs48 q102 q1437) ndX2_termAt dX2_stepTerm_26 ⟨by decide, by decide, by decide, by decide⟩ rfl (Nat.le_of_ble_eq_true rfl)) ?_
  refine j_istore M dX2_stepTerm_29 (by decide) ?_
  refine j_iload_n M dX2_stepTerm_31 3 rfl ?_
  refine j_ldc M (2000000002) q1438 (by decide) dX2_stepTerm_32 ?_
  refine j_icmp_eq M 44 dX2_stepTerm_34 (by decide) (by omega) (fun c_34 => ?_) (fun c_34 => ?_)
  · refine j_ldc M (2000000002) q1438 (by decide) dX2_stepTerm_44 ?_
    refine j_goto M 58 dX2_stepTerm_46 (by decide) ?_
    refine j_iret M dX2_stepTerm_58 ⟨Nat.le_refl _, Nat.le_refl _⟩ ?_
    refine ⟨?_, rfl⟩
    rw [pTerm_step hr hi.1 hi.2 (by omega) hk, pStep]
    first | rw [if_pos (Or.inl (by assumption))] | rw [if_pos (Or.inr (by assumption))] | rw [if_neg (by omega)]
  · refine j_iload M dX2_stepTerm_37 4 rfl ?_
    refine j_ldc M (2000000002) q1438 (by decide) dX2_stepTerm_39 ?_
    refine j_icmp_ne M 49 dX2_stepTerm_41 (by decide) (by omega) (fun c_41 => ?_) (fun c_41 => ?_)
    · have b1 := tR_f r1 c_34
      have b2 := tR_f r2 c_41
      refine j_iload M dX2_stepTerm_49 4 rfl ?_
      refine j_i2l M dX2_stepTerm_51 (by omega) ?_
      refine j_iload_n M dX2_stepTerm_52 3 rfl ?_
      refine j_i2l M dX2_stepTerm_53 (by omega) ?_
      refine j_lsub M dX2_stepTerm_54 ?_
      refine j_rV (k_S M (m_near l X _ _ ⟨by omega, by omega⟩) (lw_S q1439 q1440 q102 q1441) ndX2_near dX2_stepTerm_55 ⟨by decide, by decide, by decide, by decide⟩ rfl (Nat.le_of_ble_eq_true rfl)) ?_
      refine j_iret M dX2_stepTerm_58 ⟨Nat.le_refl _, Nat.le_refl _⟩ ?_
      refine ⟨?_, rfl⟩
      rw [pTerm_step hr hi.1 hi.2 (by omega) hk, pStep]
      first | rw [if_pos (Or.inl (by assumption))] | rw [if_pos (Or.inr (by assumption))] | rw [if_neg (by omega)]
    · refine j_ldc M (2000000002) q1438 (by decide) dX2_stepTerm_44 ?_
      refine j_goto M 58 dX2_stepTerm_46 (by decide) ?_
      refine j_iret M dX2_stepTerm_58 ⟨Nat.le_refl _, Nat.le_refl _⟩ ?_
      refine ⟨?_, rfl⟩
      rw [pTerm_step hr hi.1 hi.2 (by omega) hk, pStep]
      first | rw [if_pos (Or.inl (by assumption))] | rw [if_pos (Or.inr (by assumption))] | rw [if_neg (by omega)]
theorem m_madeTerm (hm : mOk σ) (N i n : Int) (hN : N ≤ 8) (hi : 0 ≤ i ∧ i < N) (hn : 0 ≤ n ∧ n ≤ 200) (hr : rsOk (t 1) (t 2) N) (hL : tLaid t (201 * i + n)) : CM l X σ yX2_madeTerm cX2_madeTerm 3 (some .int) 2 [.int (zI i), .int (zI n)] f t (some (.int (zI (pTerm (t 1) (t 2) i n)))) f t := by
  have hk := rOk_k (hr i hi.1 hi.2)
  refine Ct.of (by decide) (Nat.le_of_ble_eq_true rfl) (fun Γ M => ?_)
  refine j_lv (lv' := [(0, .ref σ.1), (1, .int (zI i)), (2, .int (zI n))]) rfl ?_
  refine j_aload_n M dX2_madeTerm_0 0 rfl ?_
  refine m_get M 1 (by decide) q1243 rfl dX2_madeTerm_1 ?_
  refine j_iload_n M dX2_madeTerm_4 1 rfl ?_
  refine m_ald M hm (n := 9) 1 (by decide) rfl dX2_madeTerm_5 (by omega) ?_
  refine j_swn M (a := t 1 i) (by omega) (fun h_6 => ?_)
  by_cases e_6_0 : t 1 i = 0
  · rw [e_6_0]
    refine j_tabIn M 40 dX2_madeTerm_6 (by decide) (by decide) (by decide) rfl (by decide) ?_
    refine j_aload_n M dX2_madeTerm_40 0 rfl ?_
    refine j_iload_n M dX2_madeTerm_41 1 rfl ?_
    refine j_iload_n M dX2_madeTerm_42 2 rfl ?_
    refine j_rV (k_V M (m_toldTerm l X σ f t hm N i n hN hi hn hr e_6_0 hL) (m_rc M) (lw_V q1430 q1432 qs47 q102 q1433) ndX2_toldTerm dX2_madeTerm_43 ⟨by decide, by decide, by decide, by decide⟩ rfl (Nat.le_of_ble_eq_true rfl)) ?_
    refine j_iret M dX2_madeTerm_46 ⟨Nat.le_refl _, Nat.le_refl _⟩ ?_
    exact ⟨rfl, rfl⟩
  by_cases e_6_1 : t 1 i = 1
  · rw [e_6_1]
    refine j_tabIn M 90 dX2_madeTerm_6 (by decide) (by decide) (by decide) rfl (by decide) ?_
    refine j_aload_n M dX2_madeTerm_90 0 rfl ?_
    refine j_iload_n M dX2_madeTerm_91 1 rfl ?_
    refine j_iload_n M dX2_madeTerm_92 2 rfl ?_
    refine j_rV (k_V M (m_bothTerm l X σ f t hm N i n hN hi hn hr (by omega) hL) (m_rc M) (lw_V q1448 q1450 qs50 q102 q1451) ndX2_bothTerm dX2_madeTerm_93 ⟨by decide, by decide, by decide, by decide⟩ rfl (Nat.le_of_ble_eq_true rfl)) ?_
    refine j_iret M dX2_madeTerm_96 ⟨Nat.le_refl _, Nat.le_refl _⟩ ?_
    exact ⟨rfl, rfl⟩
  by_cases e_6_2 : t 1 i = 2
  · rw [e_6_2]
    refine j_tabIn M 90 dX2_madeTerm_6 (by decide) (by decide) (by decide) rfl (by decide) ?_
    refine j_aload_n M dX2_madeTerm_90 0 rfl ?_
    refine j_iload_n M dX2_madeTerm_91 1 rfl ?_
    refine j_iload_n M dX2_madeTerm_92 2 rfl ?_
    refine j_rV (k_V M (m_bothTerm l X σ f t hm N i n hN hi hn hr (by omega) hL) (m_rc M) (lw_V q1448 q1450 qs50 q102 q1451) ndX2_bothTerm dX2_madeTerm_93 ⟨by decide, by decide, by decide, by decide⟩ rfl (Nat.le_of_ble_eq_true rfl)) ?_
    refine j_iret M dX2_madeTerm_96 ⟨Nat.le_refl _, Nat.le_refl _⟩ ?_
    exact ⟨rfl, rfl⟩
  by_cases e_6_3 : t 1 i = 3
  · rw [e_6_3]
    refine j_tabIn M 47 dX2_madeTerm_6 (by decide) (by decide) (by decide) rfl (by decide) ?_
    have hp := rOk_part (hr i hi.1 hi.2) (by omega)
    have he := rOk_each (hr i hi.1 hi.2) e_6_3
    have hb := mul_bd 5 200 (a := t 2 (4 * i + 1)) (b := n) (by omega) (by omega)
    have hb0 : 0 ≤ t 2 (4 * i + 1) * n := Int.mul_nonneg (by omega) hn.1
    refine j_aload_n M dX2_madeTerm_47 0 rfl ?_
    refine j_aload_n M dX2_madeTerm_48 0 rfl ?_
    refine m_get M 2 (by decide) q1244 rfl dX2_madeTerm_49 ?_
    refine j_iconst M dX2_madeTerm_52 ?_
    refine j_iload_n M dX2_madeTerm_53 1 rfl ?_
    refine j_imul M dX2_madeTerm_54 ?_
    refine m_ald M hm (n := 36) 2 (by decide) rfl dX2_madeTerm_55 (by omega) ?_
    refine j_aload_n M dX2_madeTerm_56 0 rfl ?_
    refine m_get M 2 (by decide) q1244 rfl dX2_madeTerm_57 ?_
    refine j_iconst M dX2_madeTerm_60 ?_
    refine j_iload_n M dX2_madeTerm_61 1 rfl ?_
    refine j_imul M dX2_madeTerm_62 ?_
    refine j_iconst M dX2_madeTerm_63 ?_
    refine j_iadd M dX2_madeTerm_64 ?_
    refine m_ald M hm (n := 36) 2 (by decide) rfl dX2_madeTerm_65 (by omega) ?_
    refine j_iload_n M dX2_madeTerm_66 2 rfl ?_
    refine j_imul M dX2_madeTerm_67 ?_
    refine j_aload_n M dX2_madeTerm_68 0 rfl ?_
    refine m_get M 2 (by decide) q1244 rfl dX2_madeTerm_69 ?_
    refine j_iconst M dX2_madeTerm_72 ?_
    refine j_iload_n M dX2_madeTerm_73 1 rfl ?_
    refine j_imul M dX2_madeTerm_74 ?_
    refine j_iconst M dX2_madeTerm_75 ?_
    refine j_iadd M dX2_madeTerm_76 ?_
    refine m_ald M hm (n := 36) 2 (by decide) rfl dX2_madeTerm_77 (by omega) ?_
    refine j_iadd M dX2_madeTerm_78 ?_
    refine j_rV (k_V M (m_termAtL l X σ f t hm _ _ _ (by omega) (by omega) hL (by omega)) (m_rc M) (lw_V q1434 q1436 qs48 q102 q1437) ndX2_termAt dX2_madeTerm_79 ⟨by decide, by decide, by decide, by decide⟩ rfl (Nat.le_of_ble_eq_true rfl)) ?_
    refine j_iret M dX2_madeTerm_82 ⟨Nat.le_refl _, Nat.le_refl _⟩ ?_
    refine ⟨?_, rfl⟩
    rw [pTerm_each hr hi.1 hi.2 (by omega) e_6_3]
  by_cases e_6_4 : t 1 i = 4
  · rw [e_6_4]
    refine j_tabIn M 83 dX2_madeTerm_6 (by decide) (by decide) (by decide) rfl (by decide) ?_
    refine j_aload_n M dX2_madeTerm_83 0 rfl ?_
    refine j_iload_n M dX2_madeTerm_84 1 rfl ?_
    refine j_iload_n M dX2_madeTerm_85 2 rfl ?_
    refine j_rV (k_V M (m_stepTerm l X σ f t hm N i n hN hi hn hr e_6_4 hL) (m_rc M) (lw_V q1444 q1446 qs49 q102 q1447) ndX2_stepTerm dX2_madeTerm_86 ⟨by decide, by decide, by decide, by decide⟩ rfl (Nat.le_of_ble_eq_true rfl)) ?_
    refine j_iret M dX2_madeTerm_89 ⟨Nat.le_refl _, Nat.le_refl _⟩ ?_
    exact ⟨rfl, rfl⟩
  refine j_tabOut M 90 dX2_madeTerm_6 h_6 (by omega) (by decide) ?_
  refine j_aload_n M dX2_madeTerm_90 0 rfl ?_
  refine j_iload_n M dX2_madeTerm_91 1 rfl ?_
  refine j_iload_n M dX2_madeTerm_92 2 rfl ?_
  refine j_rV (k_V M (m_bothTerm l X σ f t hm N i n hN hi hn hr (by omega) hL) (m_rc M) (lw_V q1448 q1450 qs50 q102 q1451) ndX2_bothTerm dX2_madeTerm_93 ⟨by decide, by decide, by decide, by decide⟩ rfl (Nat.le_of_ble_eq_true rfl)) ?_
  refine j_iret M dX2_madeTerm_96 ⟨Nat.le_refl _, Nat.le_refl _⟩ ?_
  exact ⟨rfl, rfl⟩
theorem m_layTerms (hm : mOk σ) (h0 : 0 ≤ f 0 ∧ f 0 ≤ 8) (hr : rsOk (t 1) (t 2) (f 0)) (hL : f 13 = 1 → tLaid t (201 * f 0)) : Ct l X yX2_layTerms cX2_layTerms 2 none (rD 3) [.ref σ.1] (mH X σ f t) (fun r hp => r = none ∧ ∃ g : Int → Int, hp = mH X σ (upN f 13 1) (upN t 15 g) ∧ tLaid (upN t 15 g) (201 * f 0)) := by
  refine Ct.of (by decide) (Nat.le_of_ble_eq_true rfl) (fun Γ M => ?_)
  refine j_lv (lv' := [(0, .ref σ.1)]) rfl ?_
  have loop : ∀ (n : Nat) (k : Int) (g : Int → Int), n = (201 * f 0 - k).toNat → 0 ≤ k ∧ k ≤ 201 * f 0 → (f 13 = 1 → g = t 15) → (f 13 ≠ 1 → tLaid (upN t 15 g) k) →
      J Γ (mH X σ f (upN t 15 g)) 0 0 2 [(0, .ref σ.1), (1, .int (zI k))] [] := by
    intro n
    induction n using Nat.strongRecOn with
    | _ n ih =>
      intro k g hn hk h1 h2
      refine j_iload_n M dX2_layTerms_2 1 rfl ?_
      refine j_aload_n M dX2_layTerms_3 0 rfl ?_
      refine m_get M 0 (by decide) q1242 rfl dX2_layTerms_4 ?_
      refine j_sipush M dX2_layTerms_7 (by decide) ?_
      refine j_imul M dX2_layTerms_10 ?_
      refine j_icmp_ge M 47 dX2_layTerms_11 (by decide) (by omega) (fun c_11 => ?_) (fun c_11 => ?_)
      · refine j_aload_n M dX2_layTerms_47 0 rfl ?_
        refine j_iconst M dX2_layTerms_48 ?_
        refine m_putZ M 13 (by decide) q1255 true rfl dX2_layTerms_49 ?_
        refine j_vret M dX2_layTerms_52 ⟨Nat.le_refl _, Nat.le_refl _⟩ ?_
        refine ⟨rfl, g, rfl, ?_⟩
        by_cases e : f 13 = 1
        · have hL := hL e; rw [h1 e, upN_id]; exact hL
        · have h2 := h2 e; rw [show 201 * f 0 = k by omega]; exact h2
      · refine j_aload_n M dX2_layTerms_14 0 rfl ?_
        refine m_get M 13 (by decide) q1255 rfl dX2_layTerms_15 ?_
        refine j_ifneB M 47 dX2_layTerms_18 (by decide) (fun c_18 => ?_) (fun c_18 => ?_)
        · refine j_aload_n M dX2_layTerms_47 0 rfl ?_
          refine j_iconst M dX2_layTerms_48 ?_
          refine m_putZ M 13 (by decide) q1255 true rfl dX2_layTerms_49 ?_
          refine j_vret M dX2_layTerms_52 ⟨Nat.le_refl _, Nat.le_refl _⟩ ?_
          simp only [decide_eq_true_eq] at c_18
          refine ⟨rfl, g, rfl, ?_⟩
          have hL := hL c_18; rw [h1 c_18, upN_id]; exact hL
        · simp only [decide_eq_false_iff_not] at c_18
          refine j_aload_n M dX2_layTerms_21 0 rfl ?_
          refine m_get M 15 (by decide) q1257 rfl dX2_layTerms_22 ?_
          refine j_iload_n M dX2_layTerms_25 1 rfl ?_
          refine j_aload_n M dX2_layTerms_26 0 rfl ?_
          refine j_iload_n M dX2_layTerms_27 1 rfl ?_
          refine j_sipush M dX2_layTerms_28 (by decide) ?_
          refine j_idivE M dX2_layTerms_31 (by omega) (by omega) ?_
          refine j_iload_n M dX2_layTerms_32 1 rfl ?_
          refine j_sipush M dX2_layTerms_33 (by decide) ?_
          refine j_iremE M dX2_layTerms_36 (by omega) (by omega) ?_
          refine j_rV (k_V M (m_madeTerm l X σ f (upN t 15 g) hm (f 0) (k / 201) (k % 201) (by omega) (by omega) (by omega) hr (by rw [show 201 * (k / 201) + k % 201 = k by omega]; exact h2 c_18)) (m_rc M) (lw_V q1426 q1428 qs46 q102 q1429) ndX2_madeTerm dX2_layTerms_37 ⟨by decide, by decide, by decide, by decide⟩ rfl (Nat.le_of_ble_eq_true rfl)) ?_
          refine m_ast M hm (n := 1608) 15 (by decide) (fun _ => rfl) dX2_layTerms_40 (by omega) ?_
          refine j_iinc M dX2_layTerms_41 1 rfl (by decide) ?_
          refine j_goto M 2 dX2_layTerms_44 (by decide) ?_
          simp only [upN_s, upN_uu]
          refine ih _ (by omega) (k + 1) _ rfl (by omega) (fun e => absurd e c_18) (fun _ j j0 j1 => ?_)
          show upA g k _ j = _
          by_cases e : j = k
          · rw [e, upA_s]; rfl
          · rw [upA_n _ _ e]; exact h2 c_18 j j0 (by omega)
  refine j_iconst M dX2_layTerms_0 ?_
  refine j_istore_n M dX2_layTerms_1 (by decide) ?_
  refine j_hp (hp' := mH X σ f (upN t 15 (t 15))) (by rw [upN_id]) (loop _ 0 (t 15) rfl (by omega) (fun _ => rfl) (fun _ j h1 h2 => by omega))
theorem m_termOf (hm : mOk σ) (i n : Int) (hi : 0 ≤ i ∧ i < f 0) (hn : 0 ≤ n ∧ n ≤ 200) (h0 : 0 ≤ f 0 ∧ f 0 ≤ 8) (hr : rsOk (t 1) (t 2) (f 0)) (hL : f 13 = 1 → tLaid t (201 * f 0)) : Ct l X yX2_termOf cX2_termOf 3 (some .int) (rD 4) [.ref σ.1, .int (zI i), .int (zI n)] (mH X σ f t) (fun r hp => r = some (.int (zI (pTerm (t 1) (t 2) i n))) ∧ ∃ g : Int → Int, hp = mH X σ (upN f 13 1) (upN t 15 g) ∧ tLaid (upN t 15 g) (201 * f 0)) := by
  refine Ct.of (by decide) (Nat.le_of_ble_eq_true rfl) (fun Γ M => ?_)
  refine j_lv (lv' := [(0, .ref σ.1), (1, .int (zI i)), (2, .int (zI n))]) rfl ?_
  refine j_aload_n M dX2_termOf_0 0 rfl ?_
  refine j_run (k_V M (m_layTerms l X σ f t hm h0 hr hL) (m_rc M) (lw_V q1422 q1424 qs45 q102 q1425) ndX2_layTerms dX2_termOf_1 ⟨by decide, by decide, by decide, by decide⟩ rfl (Nat.le_of_ble_eq_true rfl)) (fun r_1 hp_1 hq_1 => ?_)
  obtain ⟨rfl, g, rfl, hg⟩ := hq_1
  refine j_aload_n M dX2_termOf_4 0 rfl ?_
  refine j_iload_n M dX2_termOf_5 1 rfl ?_
  refine j_iload_n M dX2_termOf_6 2 rfl ?_
  refine j_rV (k_V M (m_termAtL l X σ (upN f 13 1) (upN t 15 g) hm i n _ (by omega) (by omega) hg (by omega)) (m_rc M) (lw_V q1434 q1436 qs48 q102 q1437) ndX2_termAt dX2_termOf_7 ⟨by decide, by decide, by decide, by decide⟩ rfl (Nat.le_of_ble_eq_true rfl)) ?_
  refine j_iret M dX2_termOf_10 ⟨Nat.le_refl _, Nat.le_refl _⟩ ?_
  exact ⟨rfl, g, rfl, hg⟩
end M2
