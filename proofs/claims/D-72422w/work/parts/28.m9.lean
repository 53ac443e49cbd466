/-! 28: the reference: ease, give, forget -/
set_option maxRecDepth 100000
def pPwr (P : Int → Int) (r : Int) : Bool := decide (P (4 * r + 1) = 0 ∧ P (4 * r + 3) = P (4 * r) * P (4 * r + 2))
def pIn2 (P : Int → Int) (i : Int) : Int := if pPwr P (P (4 * i)) then P (4 * i) else if pPwr P (P (4 * i + 1)) then P (4 * i + 1) else 2000000001
def pCan (K P : Int → Int) (i : Int) : Bool := if pParts K P i then (if K i = 1 then decide (P (4 * P (4 * i)) = P (4 * P (4 * i + 1)) ∧ P (4 * P (4 * i) + 1) = P (4 * P (4 * i + 1) + 1)) else if K i = 2 then decide (pIn2 P i ≠ 2000000001) else true) else false
def pEaC (K P : Int → Int) (i : Int) : Int := if K i = 2 then P (4 * P (4 * i)) * P (4 * P (4 * i + 1)) else if K i = 3 then pTwoR K P i 1 else P (4 * P (4 * i))
def pEaD (K P : Int → Int) (i : Int) : Int := if K i = 2 then P (4 * pIn2 P i) * P (4 * pIn2 P i) * P (4 * (P (4 * i) + P (4 * i + 1) - pIn2 P i) + 1) else if K i = 3 then pTwoR K P i 2 else P (4 * P (4 * i) + 1)
def bEase (n : Int) (K P : Int → Int) (i : Int) : Bool := decide ((0 ≤ i ∧ i ≤ n - 1) ∧ pCan K P i = true ∧ bTold (pEaC K P i) (pEaD K P i) (pTerm K P i 0) (pTerm K P i 1) = true)
def vEase (n : Int) (K P : Int → Int) (i : Int) : Int := if 0 ≤ i ∧ i ≤ n - 1 then (if bEase n K P i then K i else 2000000103) else 2000000101
def kEase (n : Int) (K P : Int → Int) (i : Int) : Int → Int := if bEase n K P i then upA K i 0 else K
def qEase (n : Int) (K P : Int → Int) (i : Int) : Int → Int := if bEase n K P i then pSet4 P i (pEaC K P i) (pEaD K P i) (pTerm K P i 0) (pTerm K P i 1) else P
theorem pPow_r {c d : Int} (hc : -9 ≤ c ∧ c ≤ 9) (hd : -9 ≤ d ∧ d ≤ 9) : ∀ n : Nat, (-(9 * 18 ^ n) ≤ (pPow c d n).1 ∧ (pPow c d n).1 ≤ 9 * 18 ^ n) ∧ (-(9 * 18 ^ n) ≤ (pPow c d n).2 ∧ (pPow c d n).2 ≤ 9 * 18 ^ n) := by
  intro n
  induction n with
  | zero => unfold pPow; dsimp only; rw [Int.pow_zero]; omega
  | succ n ih =>
    have b1 := mul_bd 9 (9 * 18 ^ n) hc ih.2
    have b2 := mul_bd 9 (9 * 18 ^ n) hd ih.1
    have e : (18 : Int) ^ (n + 1) = 18 ^ n * 18 := Int.pow_succ 18 n
    have hp : (0 : Int) < 18 ^ n := Int.pow_pos (by decide)
    unfold pPow; dsimp only
    rw [e]
    omega
theorem pPw_r {v : Int} (hv : -9 ≤ v ∧ v ≤ 9) : ∀ n : Nat, -(9 ^ n) ≤ pPw v n ∧ pPw v n ≤ 9 ^ n := by
  intro n
  induction n with
  | zero => unfold pPw; rw [Int.pow_zero]; omega
  | succ n ih =>
    have b1 := mul_bd (9 ^ n) 9 ih hv
    have e : (9 : Int) ^ (n + 1) = 9 ^ n * 9 := Int.pow_succ 9 n
    unfold pPw
    rw [e]
    exact b1
theorem pTwoR_r {K P : Int → Int} {i w : Int} (ho : (-9 ≤ P (4 * pOf K P i) ∧ P (4 * pOf K P i) ≤ 9) ∧ (-9 ≤ P (4 * pOf K P i + 1) ∧ P (4 * pOf K P i + 1) ≤ 9)) (he : 1 ≤ pEn K P i ∧ pEn K P i ≤ 5) : r32 (pTwoR K P i w) := by
  have h1 := pPow_r ho.1 ho.2 (pEn K P i).toNat
  have h2 := pPw_r (v := -P (4 * pOf K P i + 1)) (by omega) (pEn K P i).toNat
  have h3 : ∀ k : Fin 6, (0 : Int) < 18 ^ (k : Nat) ∧ (18 : Int) ^ (k : Nat) ≤ 1889568 ∧ (0 : Int) < 9 ^ (k : Nat) ∧ (9 : Int) ^ (k : Nat) ≤ 59049 := by decide
  have h4 := h3 ⟨(pEn K P i).toNat, by omega⟩
  dsimp only at h4
  unfold pTwoR
  split
  · decide
  · split <;> omega
section M9
variable (l : Launch) (X : Cx) (σ : Ms) (f : Nat → Int) (t : Nat → Int → Int)
theorem m_isPower (hm : mOk σ) (i : Int) (hi : 0 ≤ i ∧ i < 8) (hk : rOk (t 1) (t 2) i) (h0 : t 1 i = 0) : CM l X σ yX2_isPower cX2_isPower 2 (some .boolean) 0 [.int (zI i)] f t (some (.int (zB (pPwr (t 2) i)))) f t := by
  have ht := rOk_told hk h0
  have hb := mul_bd 9 999 ht.1 ht.2.2.1
  refine Ct.of (by decide) (Nat.le_of_ble_eq_true rfl) (fun Γ M => ?_)
  refine j_lv (lv' := [(0, .ref σ.1), (1, .int (zI i))]) rfl ?_
  refine j_aload_n M dX2_isPower_0 0 rfl ?_
  refine m_get M 2 (by decide) q1244 rfl dX2_isPower_1 ?_
  refine j_iconst M dX2_isPower_4 ?_
  refine j_iload_n M dX2_isPower_5 1 rfl ?_
  refine j_imul M dX2_isPower_6 ?_
  refine j_iconst M dX2_isPower_7 ?_
  refine j_iadd M dX2_isPower_8 ?_
  refine m_ald M hm (n := 36) 2 (by decide) rfl dX2_isPower_9 (by omega) ?_
  refine j_if_ne M 49 dX2_isPower_10 (by decide) (by omega) (fun c_10 => ?_) (fun c_10 => ?_)
  · refine j_iconst M dX2_isPower_49 ?_
    refine j_bool false rfl ?_
    refine j_zret M dX2_isPower_50 ⟨Nat.le_refl _, Nat.le_refl _⟩ ?_
    first | exact pzT ⟨by omega, by omega⟩ | exact pzF (by omega)
  · refine j_aload_n M dX2_isPower_13 0 rfl ?_
    refine m_get M 2 (by decide) q1244 rfl dX2_isPower_14 ?_
    refine j_iconst M dX2_isPower_17 ?_
    refine j_iload_n M dX2_isPower_18 1 rfl ?_
    refine j_imul M dX2_isPower_19 ?_
    refine j_iconst M dX2_isPower_20 ?_
    refine j_iadd M dX2_isPower_21 ?_
    refine m_ald M hm (n := 36) 2 (by decide) rfl dX2_isPower_22 (by omega) ?_
    refine j_aload_n M dX2_isPower_23 0 rfl ?_
    refine m_get M 2 (by decide) q1244 rfl dX2_isPower_24 ?_
    refine j_iconst M dX2_isPower_27 ?_
    refine j_iload_n M dX2_isPower_28 1 rfl ?_
    refine j_imul M dX2_isPower_29 ?_
    refine m_ald M hm (n := 36) 2 (by decide) rfl dX2_isPower_30 (by omega) ?_
    refine j_aload_n M dX2_isPower_31 0 rfl ?_
    refine m_get M 2 (by decide) q1244 rfl dX2_isPower_32 ?_
    refine j_iconst M dX2_isPower_35 ?_
    refine j_iload_n M dX2_isPower_36 1 rfl ?_
    refine j_imul M dX2_isPower_37 ?_
    refine j_iconst M dX2_isPower_38 ?_
    refine j_iadd M dX2_isPower_39 ?_
    refine m_ald M hm (n := 36) 2 (by decide) rfl dX2_isPower_40 (by omega) ?_
    refine j_imul M dX2_isPower_41 ?_
    refine j_icmp_ne M 49 dX2_isPower_42 (by decide) (by omega) (fun c_42 => ?_) (fun c_42 => ?_)
    · refine j_iconst M dX2_isPower_49 ?_
      refine j_bool false rfl ?_
      refine j_zret M dX2_isPower_50 ⟨Nat.le_refl _, Nat.le_refl _⟩ ?_
      first | exact pzT ⟨by omega, by omega⟩ | exact pzF (by omega)
    · refine j_iconst M dX2_isPower_45 ?_
      refine j_goto M 50 dX2_isPower_46 (by decide) ?_
      refine j_bool true rfl ?_
      refine j_zret M dX2_isPower_50 ⟨Nat.le_refl _, Nat.le_refl _⟩ ?_
      first | exact pzT ⟨by omega, by omega⟩ | exact pzF (by omega)
theorem pParts_2 {K P : Int → Int} {i : Int} (h : pParts K P i = true) : K i ≠ 0 ∧ K (P (4 * i)) = 0 ∧ ((K i = 1 ∨ K i = 2) → K (P (4 * i + 1)) = 0) := of_decide_eq_true h
theorem pIn2_r {K P : Int → Int} {N i : Int} (hr : rsOk K P N) (hi : 0 ≤ i ∧ i < N) (hk : K i = 1 ∨ K i = 2) : (pIn2 P i = P (4 * i) ∨ pIn2 P i = P (4 * i + 1) ∨ pIn2 P i = 2000000001) := by
  unfold pIn2; split
  · exact Or.inl rfl
  · split
    · exact Or.inr (Or.inl rfl)
    · exact Or.inr (Or.inr rfl)
theorem m_powersIn (hm : mOk σ) (N i : Int) (hN : N ≤ 8) (hi : 0 ≤ i ∧ i < N) (hr : rsOk (t 1) (t 2) N) (hk : t 1 i = 2) (hp : pParts (t 1) (t 2) i = true) : CM l X σ yX2_powersIn cX2_powersIn 4 (some .int) 1 [.int (zI i)] f t (some (.int (zI (pIn2 (t 2) i)))) f t := by
  have h1 := rOk_part (hr i hi.1 hi.2) (by omega)
  have h2 := rOk_part2 (hr i hi.1 hi.2) (Or.inr hk)
  have h3 := pParts_2 hp
  refine Ct.of (by decide) (Nat.le_of_ble_eq_true rfl) (fun Γ M => ?_)
  refine j_lv (lv' := [(0, .ref σ.1), (1, .int (zI i))]) rfl ?_
  refine j_aload_n M dX2_powersIn_0 0 rfl ?_
  refine m_get M 2 (by decide) q1244 rfl dX2_powersIn_1 ?_
  refine j_iconst M dX2_powersIn_4 ?_
  refine j_iload_n M dX2_powersIn_5 1 rfl ?_
  refine j_imul M dX2_powersIn_6 ?_
  refine m_ald M hm (n := 36) 2 (by decide) rfl dX2_powersIn_7 (by omega) ?_
  refine j_istore_n M dX2_powersIn_8 (by decide) ?_
  refine j_aload_n M dX2_powersIn_9 0 rfl ?_
  refine m_get M 2 (by decide) q1244 rfl dX2_powersIn_10 ?_
  refine j_iconst M dX2_powersIn_13 ?_
  refine j_iload_n M dX2_powersIn_14 1 rfl ?_
  refine j_imul M dX2_powersIn_15 ?_
  refine j_iconst M dX2_powersIn_16 ?_
  refine j_iadd M dX2_powersIn_17 ?_
  refine m_ald M hm (n := 36) 2 (by decide) rfl dX2_powersIn_18 (by omega) ?_
  refine j_istore_n M dX2_powersIn_19 (by decide) ?_
  refine j_aload_n M dX2_powersIn_20 0 rfl ?_
  refine j_iload_n M dX2_powersIn_21 2 rfl ?_
  refine j_rV (k_V M (m_isPower l X σ f t hm _ (by omega) (hr _ h1.1 (by omega)) h3.2.1) (m_rc M) (lw_V q1685 q1687 qs84 q102 q1688) ndX2_isPower dX2_powersIn_22 ⟨by decide, by decide, by decide, by decide⟩ rfl (Nat.le_of_ble_eq_true rfl)) ?_
  refine j_ifeqB M 32 dX2_powersIn_25 (by decide) (fun c_25 => ?_) (fun c_25 => ?_)
  · refine j_aload_n M dX2_powersIn_32 0 rfl ?_
    refine j_iload_n M dX2_powersIn_33 3 rfl ?_
    refine j_rV (k_V M (m_isPower l X σ f t hm _ (by omega) (hr _ h2.1 (by omega)) (h3.2.2 (Or.inr hk))) (m_rc M) (lw_V q1685 q1687 qs84 q102 q1688) ndX2_isPower dX2_powersIn_34 ⟨by decide, by decide, by decide, by decide⟩ rfl (Nat.le_of_ble_eq_true rfl)) ?_
    refine j_ifeqB M 44 dX2_powersIn_37 (by decide) (fun c_37 => ?_) (fun c_37 => ?_)
    · refine j_ldc M (2000000001) q1241 (by decide) dX2_powersIn_44 ?_
      refine j_iret M dX2_powersIn_46 ⟨Nat.le_refl _, Nat.le_refl _⟩ ?_
      refine ⟨?_, rfl⟩
      unfold pIn2; simp [*]
    · refine j_iload_n M dX2_powersIn_40 3 rfl ?_
      refine j_goto M 46 dX2_powersIn_41 (by decide) ?_
      refine j_iret M dX2_powersIn_46 ⟨Nat.le_refl _, Nat.le_refl _⟩ ?_
      refine ⟨?_, rfl⟩
      unfold pIn2; simp [*]
  · refine j_iload_n M dX2_powersIn_28 2 rfl ?_
    refine j_goto M 46 dX2_powersIn_29 (by decide) ?_
    refine j_iret M dX2_powersIn_46 ⟨Nat.le_refl _, Nat.le_refl _⟩ ?_
    refine ⟨?_, rfl⟩
    unfold pIn2; simp [*]
theorem m_canBe (hm : mOk σ) (N i : Int) (hN : N ≤ 8) (hi : 0 ≤ i ∧ i < N) (hr : rsOk (t 1) (t 2) N) : CM l X σ yX2_canBe cX2_canBe 4 (some .boolean) 2 [.int (zI i)] f t (some (.int (zB (pCan (t 1) (t 2) i)))) f t := by
  have hk := rOk_k (hr i hi.1 hi.2)
  refine Ct.of (by decide) (Nat.le_of_ble_eq_true rfl) (fun Γ M => ?_)
  refine j_lv (lv' := [(0, .ref σ.1), (1, .int (zI i))]) rfl ?_
  refine j_aload_n M dX2_canBe_0 0 rfl ?_
  refine j_iload_n M dX2_canBe_1 1 rfl ?_
  refine j_rV (k_V M (m_arePartsTold l X σ f t hm N i hN hi hr) (m_rc M) (lw_V q1561 q1563 qs72 q102 q1564) ndX2_arePartsTold dX2_canBe_2 ⟨by decide, by decide, by decide, by decide⟩ rfl (Nat.le_of_ble_eq_true rfl)) ?_
  refine j_ifneB M 10 dX2_canBe_5 (by decide) (fun c_5 => ?_) (fun c_5 => ?_)
  · have h3 := pParts_2 c_5
    have h1 := rOk_part (hr i hi.1 hi.2) h3.1
    have t1 := rOk_told (hr _ h1.1 (by omega)) h3.2.1
    refine j_aload_n M dX2_canBe_10 0 rfl ?_
    refine m_get M 2 (by decide) q1244 rfl dX2_canBe_11 ?_
    refine j_iconst M dX2_canBe_14 ?_
    refine j_iload_n M dX2_canBe_15 1 rfl ?_
    refine j_imul M dX2_canBe_16 ?_
    refine m_ald M hm (n := 36) 2 (by decide) rfl dX2_canBe_17 (by omega) ?_
    refine j_istore_n M dX2_canBe_18 (by decide) ?_
    refine j_aload_n M dX2_canBe_19 0 rfl ?_
    refine m_get M 2 (by decide) q1244 rfl dX2_canBe_20 ?_
    refine j_iconst M dX2_canBe_23 ?_
    refine j_iload_n M dX2_canBe_24 1 rfl ?_
    refine j_imul M dX2_canBe_25 ?_
    refine j_iconst M dX2_canBe_26 ?_
    refine j_iadd M dX2_canBe_27 ?_
    refine m_ald M hm (n := 36) 2 (by decide) rfl dX2_canBe_28 (by omega) ?_
    refine j_istore_n M dX2_canBe_29 (by decide) ?_
    refine j_aload_n M dX2_canBe_30 0 rfl ?_
    refine m_get M 1 (by decide) q1243 rfl dX2_canBe_31 ?_
    refine j_iload_n M dX2_canBe_34 1 rfl ?_
    refine m_ald M hm (n := 9) 1 (by decide) rfl dX2_canBe_35 (by omega) ?_
    refine j_swn M (a := t 1 i) (by omega) (fun h_36 => ?_)
    by_cases e_36_1 : t 1 i = 1
    · rw [e_36_1]
      refine j_look M (off := 28) 64 dX2_canBe_36 (by decide) (by decide) (by decide) (by decide) ?_
      have h2 := rOk_part2 (hr i hi.1 hi.2) (by omega)
      have t2 := rOk_told (hr _ h2.1 (by omega)) (h3.2.2 (by omega))
      refine j_aload_n M dX2_canBe_64 0 rfl ?_
      refine m_get M 2 (by decide) q1244 rfl dX2_canBe_65 ?_
      refine j_iconst M dX2_canBe_68 ?_
      refine j_iload_n M dX2_canBe_69 2 rfl ?_
      refine j_imul M dX2_canBe_70 ?_
      refine m_ald M hm (n := 36) 2 (by decide) rfl dX2_canBe_71 (by omega) ?_
      refine j_aload_n M dX2_canBe_72 0 rfl ?_
      refine m_get M 2 (by decide) q1244 rfl dX2_canBe_73 ?_
      refine j_iconst M dX2_canBe_76 ?_
      refine j_iload_n M dX2_canBe_77 3 rfl ?_
      refine j_imul M dX2_canBe_78 ?_
      refine m_ald M hm (n := 36) 2 (by decide) rfl dX2_canBe_79 (by omega) ?_
      refine j_icmp_ne M 110 dX2_canBe_80 (by decide) (by omega) (fun c_80 => ?_) (fun c_80 => ?_)
      · refine j_iconst M dX2_canBe_110 ?_
        refine j_bool false rfl ?_
        refine j_zret M dX2_canBe_111 ⟨Nat.le_refl _, Nat.le_refl _⟩ ?_
        unfold pCan
        rw [if_pos c_5, if_pos e_36_1]
        first | exact pzT ⟨by omega, by omega⟩ | exact pzF (by omega)
      · refine j_aload_n M dX2_canBe_83 0 rfl ?_
        refine m_get M 2 (by decide) q1244 rfl dX2_canBe_84 ?_
        refine j_iconst M dX2_canBe_87 ?_
        refine j_iload_n M dX2_canBe_88 2 rfl ?_
        refine j_imul M dX2_canBe_89 ?_
        refine j_iconst M dX2_canBe_90 ?_
        refine j_iadd M dX2_canBe_91 ?_
        refine m_ald M hm (n := 36) 2 (by decide) rfl dX2_canBe_92 (by omega) ?_
        refine j_aload_n M dX2_canBe_93 0 rfl ?_
        refine m_get M 2 (by decide) q1244 rfl dX2_canBe_94 ?_
        refine j_iconst M dX2_canBe_97 ?_
        refine j_iload_n M dX2_canBe_98 3 rfl ?_
        refine j_imul M dX2_canBe_99 ?_
        refine j_iconst M dX2_canBe_100 ?_
        refine j_iadd M dX2_canBe_101 ?_
        refine m_ald M hm (n := 36) 2 (by decide) rfl dX2_canBe_102 (by omega) ?_
        refine j_icmp_ne M 110 dX2_canBe_103 (by decide) (by omega) (fun c_103 => ?_) (fun c_103 => ?_)
        · refine j_iconst M dX2_canBe_110 ?_
          refine j_bool false rfl ?_
          refine j_zret M dX2_canBe_111 ⟨Nat.le_refl _, Nat.le_refl _⟩ ?_
          unfold pCan
          rw [if_pos c_5, if_pos e_36_1]
          first | exact pzT ⟨by omega, by omega⟩ | exact pzF (by omega)
        · refine j_iconst M dX2_canBe_106 ?_
          refine j_goto M 111 dX2_canBe_107 (by decide) ?_
          refine j_bool true rfl ?_
          refine j_zret M dX2_canBe_111 ⟨Nat.le_refl _, Nat.le_refl _⟩ ?_
          unfold pCan
          rw [if_pos c_5, if_pos e_36_1]
          first | exact pzT ⟨by omega, by omega⟩ | exact pzF (by omega)
    by_cases e_36_2 : t 1 i = 2
    · rw [e_36_2]
      refine j_look M (off := 76) 112 dX2_canBe_36 (by decide) (by decide) (by decide) (by decide) ?_
      have h2 := rOk_part2 (hr i hi.1 hi.2) (by omega)
      have hin := pIn2_r hr hi (by omega)
      refine j_aload_n M dX2_canBe_112 0 rfl ?_
      refine j_iload_n M dX2_canBe_113 1 rfl ?_
      refine j_rV (k_V M (m_powersIn l X σ f t hm N i hN hi hr e_36_2 c_5) (m_rc M) (lw_V q1681 q1683 qs83 q102 q1684) ndX2_powersIn dX2_canBe_114 ⟨by decide, by decide, by decide, by decide⟩ rfl (Nat.le_of_ble_eq_true rfl)) ?_
      refine j_ldc M (2000000001) q1241 (by decide) dX2_canBe_117 ?_
      refine j_icmp_eq M 126 dX2_canBe_119 (by decide) (by omega) (fun c_119 => ?_) (fun c_119 => ?_)
      · refine j_iconst M dX2_canBe_126 ?_
        refine j_bool false rfl ?_
        refine j_zret M dX2_canBe_127 ⟨Nat.le_refl _, Nat.le_refl _⟩ ?_
        unfold pCan
        rw [if_pos c_5, if_neg (by omega), if_pos e_36_2]
        first | exact pzT (by assumption) | exact pzF (by omega)
      · refine j_iconst M dX2_canBe_122 ?_
        refine j_goto M 127 dX2_canBe_123 (by decide) ?_
        refine j_bool true rfl ?_
        refine j_zret M dX2_canBe_127 ⟨Nat.le_refl _, Nat.le_refl _⟩ ?_
        unfold pCan
        rw [if_pos c_5, if_neg (by omega), if_pos e_36_2]
        first | exact pzT (by assumption) | exact pzF (by omega)
    refine j_lookD M (off := 92) 128 dX2_canBe_36 h_36 (by decide) (by simp only [Op.lookupswitch.offset]; rw [if_neg (by omega), if_neg (by omega)]) (by decide) ?_
    refine j_iconst M dX2_canBe_128 ?_
    refine j_bool true rfl ?_
    refine j_zret M dX2_canBe_129 ⟨Nat.le_refl _, Nat.le_refl _⟩ ?_
    refine ⟨?_, rfl⟩
    unfold pCan; rw [if_pos c_5, if_neg (by omega), if_neg (by omega)]
  · refine j_iconst M dX2_canBe_8 ?_
    refine j_bool false rfl ?_
    refine j_zret M dX2_canBe_9 ⟨Nat.le_refl _, Nat.le_refl _⟩ ?_
    refine ⟨?_, rfl⟩
    unfold pCan; rw [c_5]; rfl
theorem of_told {K P : Int → Int} {N i : Int} (hr : rsOk K P N) (hi : 0 ≤ i ∧ i < N) (hp : pParts K P i = true) : ((-9 ≤ P (4 * pOf K P i) ∧ P (4 * pOf K P i) ≤ 9) ∧ (-9 ≤ P (4 * pOf K P i + 1) ∧ P (4 * pOf K P i + 1) ≤ 9)) ∧ (1 ≤ pEn K P i ∧ pEn K P i ≤ 5) := by
  have h3 := pParts_2 hp
  have h1 := rOk_part (hr i hi.1 hi.2) h3.1
  have t1 := rOk_told (hr _ h1.1 (by omega)) h3.2.1
  refine ⟨?_, ?_⟩
  · rw [show pOf K P i = P (4 * i) from if_neg h3.1]; exact ⟨t1.1, t1.2.1⟩
  · unfold pEn; split
    · have := rOk_each (hr i hi.1 hi.2) (by assumption); omega
    · omega
theorem m_easedC (hm : mOk σ) (N i : Int) (hN : N ≤ 8) (hi : 0 ≤ i ∧ i < N) (hr : rsOk (t 1) (t 2) N) (hp : pParts (t 1) (t 2) i = true) : CM l X σ yX2_easedC cX2_easedC 3 (some .int) 2 [.int (zI i)] f t (some (.int (zI (pEaC (t 1) (t 2) i)))) f t := by
  have hk := rOk_k (hr i hi.1 hi.2)
  have h3 := pParts_2 hp
  have h1 := rOk_part (hr i hi.1 hi.2) h3.1
  refine Ct.of (by decide) (Nat.le_of_ble_eq_true rfl) (fun Γ M => ?_)
  refine j_lv (lv' := [(0, .ref σ.1), (1, .int (zI i))]) rfl ?_
  refine j_aload_n M dX2_easedC_0 0 rfl ?_
  refine m_get M 2 (by decide) q1244 rfl dX2_easedC_1 ?_
  refine j_iconst M dX2_easedC_4 ?_
  refine j_iload_n M dX2_easedC_5 1 rfl ?_
  refine j_imul M dX2_easedC_6 ?_
  refine m_ald M hm (n := 36) 2 (by decide) rfl dX2_easedC_7 (by omega) ?_
  refine j_istore_n M dX2_easedC_8 (by decide) ?_
  refine j_aload_n M dX2_easedC_9 0 rfl ?_
  refine m_get M 1 (by decide) q1243 rfl dX2_easedC_10 ?_
  refine j_iload_n M dX2_easedC_13 1 rfl ?_
  refine m_ald M hm (n := 9) 1 (by decide) rfl dX2_easedC_14 (by omega) ?_
  refine j_swn M (a := t 1 i) (by omega) (fun h_15 => ?_)
  by_cases e_15_2 : t 1 i = 2
  · rw [e_15_2]
    refine j_look M (off := 25) 40 dX2_easedC_15 (by decide) (by decide) (by decide) (by decide) ?_
    have h2 := rOk_part2 (hr i hi.1 hi.2) (by omega)
    refine j_aload_n M dX2_easedC_40 0 rfl ?_
    refine m_get M 2 (by decide) q1244 rfl dX2_easedC_41 ?_
    refine j_iconst M dX2_easedC_44 ?_
    refine j_iload_n M dX2_easedC_45 2 rfl ?_
    refine j_imul M dX2_easedC_46 ?_
    refine m_ald M hm (n := 36) 2 (by decide) rfl dX2_easedC_47 (by omega) ?_
    refine j_aload_n M dX2_easedC_48 0 rfl ?_
    refine m_get M 2 (by decide) q1244 rfl dX2_easedC_49 ?_
    refine j_iconst M dX2_easedC_52 ?_
    refine j_aload_n M dX2_easedC_53 0 rfl ?_
    refine m_get M 2 (by decide) q1244 rfl dX2_easedC_54 ?_
    refine j_iconst M dX2_easedC_57 ?_
    refine j_iload_n M dX2_easedC_58 1 rfl ?_
    refine j_imul M dX2_easedC_59 ?_
    refine j_iconst M dX2_easedC_60 ?_
    refine j_iadd M dX2_easedC_61 ?_
    refine m_ald M hm (n := 36) 2 (by decide) rfl dX2_easedC_62 (by omega) ?_
    refine j_imul M dX2_easedC_63 ?_
    refine m_ald M hm (n := 36) 2 (by decide) rfl dX2_easedC_64 (by omega) ?_
    refine j_imul M dX2_easedC_65 ?_
    refine j_iret M dX2_easedC_66 ⟨Nat.le_refl _, Nat.le_refl _⟩ ?_
    exact ⟨by unfold pEaC; rw [if_pos e_15_2], rfl⟩
  by_cases e_15_3 : t 1 i = 3
  · rw [e_15_3]
    refine j_look M (off := 52) 67 dX2_easedC_15 (by decide) (by decide) (by decide) (by decide) ?_
    refine j_aload_n M dX2_easedC_67 0 rfl ?_
    refine j_iload_n M dX2_easedC_68 1 rfl ?_
    refine j_iconst M dX2_easedC_69 ?_
    refine j_rV (k_V M (m_twoRule l X σ f t hm N i 1 hN hi (by decide) hr) (m_rc M) (lw_V q1573 q1575 qs75 q102 q1576) ndX2_twoRule dX2_easedC_70 ⟨by decide, by decide, by decide, by decide⟩ rfl (Nat.le_of_ble_eq_true rfl)) ?_
    refine j_iret M dX2_easedC_73 ⟨Nat.le_refl _, Nat.le_refl _⟩ ?_
    exact ⟨by unfold pEaC; rw [if_neg (by omega), if_pos e_15_3], rfl⟩
  refine j_lookD M (off := 59) 74 dX2_easedC_15 h_15 (by decide) (by simp only [Op.lookupswitch.offset]; rw [if_neg (by omega), if_neg (by omega)]) (by decide) ?_
  refine j_aload_n M dX2_easedC_74 0 rfl ?_
  refine m_get M 2 (by decide) q1244 rfl dX2_easedC_75 ?_
  refine j_iconst M dX2_easedC_78 ?_
  refine j_iload_n M dX2_easedC_79 2 rfl ?_
  refine j_imul M dX2_easedC_80 ?_
  refine m_ald M hm (n := 36) 2 (by decide) rfl dX2_easedC_81 (by omega) ?_
  refine j_iret M dX2_easedC_82 ⟨Nat.le_refl _, Nat.le_refl _⟩ ?_
  exact ⟨by unfold pEaC; rw [if_neg (by omega), if_neg (by omega)], rfl⟩
theorem m_easedD (hm : mOk σ) (N i : Int) (hN : N ≤ 8) (hi : 0 ≤ i ∧ i < N) (hr : rsOk (t 1) (t 2) N) (hp : pParts (t 1) (t 2) i = true) (hc : pCan (t 1) (t 2) i = true) : CM l X σ yX2_easedD cX2_easedD 5 (some .int) 2 [.int (zI i)] f t (some (.int (zI (pEaD (t 1) (t 2) i)))) f t := by
  have hk := rOk_k (hr i hi.1 hi.2)
  have h3 := pParts_2 hp
  have h1 := rOk_part (hr i hi.1 hi.2) h3.1
  refine Ct.of (by decide) (Nat.le_of_ble_eq_true rfl) (fun Γ M => ?_)
  refine j_lv (lv' := [(0, .ref σ.1), (1, .int (zI i))]) rfl ?_
  refine j_aload_n M dX2_easedD_0 0 rfl ?_
  refine m_get M 2 (by decide) q1244 rfl dX2_easedD_1 ?_
  refine j_iconst M dX2_easedD_4 ?_
  refine j_iload_n M dX2_easedD_5 1 rfl ?_
  refine j_imul M dX2_easedD_6 ?_
  refine m_ald M hm (n := 36) 2 (by decide) rfl dX2_easedD_7 (by omega) ?_
  refine j_istore_n M dX2_easedD_8 (by decide) ?_
  refine j_aload_n M dX2_easedD_9 0 rfl ?_
  refine m_get M 1 (by decide) q1243 rfl dX2_easedD_10 ?_
  refine j_iload_n M dX2_easedD_13 1 rfl ?_
  refine m_ald M hm (n := 9) 1 (by decide) rfl dX2_easedD_14 (by omega) ?_
  refine j_swn M (a := t 1 i) (by omega) (fun h_15 => ?_)
  by_cases e_15_2 : t 1 i = 2
  · rw [e_15_2]
    refine j_look M (off := 25) 40 dX2_easedD_15 (by decide) (by decide) (by decide) (by decide) ?_
    have h2 := rOk_part2 (hr i hi.1 hi.2) (by omega)
    have hin := pIn2_r hr hi (by omega)
    have hin2 : pIn2 (t 2) i ≠ 2000000001 := by
      unfold pCan at hc; rw [if_pos hp, if_neg (by omega), if_pos e_15_2] at hc; simpa using hc
    refine j_aload_n M dX2_easedD_40 0 rfl ?_
    refine j_iload_n M dX2_easedD_41 1 rfl ?_
    refine j_rV (k_V M (m_powersIn l X σ f t hm N i hN hi hr e_15_2 hp) (m_rc M) (lw_V q1681 q1683 qs83 q102 q1684) ndX2_powersIn dX2_easedD_42 ⟨by decide, by decide, by decide, by decide⟩ rfl (Nat.le_of_ble_eq_true rfl)) ?_
    refine j_istore_n M dX2_easedD_45 (by decide) ?_
    refine j_iload_n M dX2_easedD_46 2 rfl ?_
    refine j_aload_n M dX2_easedD_47 0 rfl ?_
    refine m_get M 2 (by decide) q1244 rfl dX2_easedD_48 ?_
    refine j_iconst M dX2_easedD_51 ?_
    refine j_iload_n M dX2_easedD_52 1 rfl ?_
    refine j_imul M dX2_easedD_53 ?_
    refine j_iconst M dX2_easedD_54 ?_
    refine j_iadd M dX2_easedD_55 ?_
    refine m_ald M hm (n := 36) 2 (by decide) rfl dX2_easedD_56 (by omega) ?_
    refine j_iadd M dX2_easedD_57 ?_
    refine j_iload_n M dX2_easedD_58 3 rfl ?_
    refine j_isub M dX2_easedD_59 ?_
    refine j_istore M dX2_easedD_60 (by decide) ?_
    refine j_aload_n M dX2_easedD_62 0 rfl ?_
    refine m_get M 2 (by decide) q1244 rfl dX2_easedD_63 ?_
    refine j_iconst M dX2_easedD_66 ?_
    refine j_iload_n M dX2_easedD_67 3 rfl ?_
    refine j_imul M dX2_easedD_68 ?_
    refine m_ald M hm (n := 36) 2 (by decide) rfl dX2_easedD_69 (by omega) ?_
    refine j_aload_n M dX2_easedD_70 0 rfl ?_
    refine m_get M 2 (by decide) q1244 rfl dX2_easedD_71 ?_
    refine j_iconst M dX2_easedD_74 ?_
    refine j_iload_n M dX2_easedD_75 3 rfl ?_
    refine j_imul M dX2_easedD_76 ?_
    refine m_ald M hm (n := 36) 2 (by decide) rfl dX2_easedD_77 (by omega) ?_
    refine j_imul M dX2_easedD_78 ?_
    refine j_aload_n M dX2_easedD_79 0 rfl ?_
    refine m_get M 2 (by decide) q1244 rfl dX2_easedD_80 ?_
    refine j_iconst M dX2_easedD_83 ?_
    refine j_iload M dX2_easedD_84 4 rfl ?_
    refine j_imul M dX2_easedD_86 ?_
    refine j_iconst M dX2_easedD_87 ?_
    refine j_iadd M dX2_easedD_88 ?_
    refine m_ald M hm (n := 36) 2 (by decide) rfl dX2_easedD_89 (by omega) ?_
    refine j_imul M dX2_easedD_90 ?_
    refine j_iret M dX2_easedD_91 ⟨Nat.le_refl _, Nat.le_refl _⟩ ?_
    exact ⟨by unfold pEaD; rw [if_pos e_15_2], rfl⟩
  by_cases e_15_3 : t 1 i = 3
  · rw [e_15_3]
    refine j_look M (off := 77) 92 dX2_easedD_15 (by decide) (by decide) (by decide) (by decide) ?_
    refine j_aload_n M dX2_easedD_92 0 rfl ?_
    refine j_iload_n M dX2_easedD_93 1 rfl ?_
    refine j_iconst M dX2_easedD_94 ?_
    refine j_rV (k_V M (m_twoRule l X σ f t hm N i 2 hN hi (by decide) hr) (m_rc M) (lw_V q1573 q1575 qs75 q102 q1576) ndX2_twoRule dX2_easedD_95 ⟨by decide, by decide, by decide, by decide⟩ rfl (Nat.le_of_ble_eq_true rfl)) ?_
    refine j_iret M dX2_easedD_98 ⟨Nat.le_refl _, Nat.le_refl _⟩ ?_
    exact ⟨by unfold pEaD; rw [if_neg (by omega), if_pos e_15_3], rfl⟩
  refine j_lookD M (off := 84) 99 dX2_easedD_15 h_15 (by decide) (by simp only [Op.lookupswitch.offset]; rw [if_neg (by omega), if_neg (by omega)]) (by decide) ?_
  refine j_aload_n M dX2_easedD_99 0 rfl ?_
  refine m_get M 2 (by decide) q1244 rfl dX2_easedD_100 ?_
  refine j_iconst M dX2_easedD_103 ?_
  refine j_iload_n M dX2_easedD_104 2 rfl ?_
  refine j_imul M dX2_easedD_105 ?_
  refine j_iconst M dX2_easedD_106 ?_
  refine j_iadd M dX2_easedD_107 ?_
  refine m_ald M hm (n := 36) 2 (by decide) rfl dX2_easedD_108 (by omega) ?_
  refine j_iret M dX2_easedD_109 ⟨Nat.le_refl _, Nat.le_refl _⟩ ?_
  exact ⟨by unfold pEaD; rw [if_neg (by omega), if_neg (by omega)], rfl⟩
theorem pEaC_r {K P : Int → Int} {N i : Int} (hr : rsOk K P N) (hi : 0 ≤ i ∧ i < N) (hp : pParts K P i = true) : r32 (pEaC K P i) := by
  have h3 := pParts_2 hp
  have h1 := rOk_part (hr i hi.1 hi.2) h3.1
  have t1 := rOk_told (hr _ h1.1 (by omega)) h3.2.1
  have ho := of_told hr hi hp
  unfold pEaC; split
  · have h2 := rOk_part2 (hr i hi.1 hi.2) (by omega)
    have t2 := rOk_told (hr _ h2.1 (by omega)) (h3.2.2 (by omega))
    have := mul_bd 9 9 t1.1 t2.1; omega
  · split
    · exact pTwoR_r ho.1 ho.2
    · omega
theorem pEaD_r {K P : Int → Int} {N i : Int} (hr : rsOk K P N) (hi : 0 ≤ i ∧ i < N) (hp : pParts K P i = true) (hc : pCan K P i = true) : r32 (pEaD K P i) := by
  have h3 := pParts_2 hp
  have h1 := rOk_part (hr i hi.1 hi.2) h3.1
  have t1 := rOk_told (hr _ h1.1 (by omega)) h3.2.1
  have ho := of_told hr hi hp
  unfold pEaD; split
  · rename_i e2
    have h2 := rOk_part2 (hr i hi.1 hi.2) (by omega)
    have t2 := rOk_told (hr _ h2.1 (by omega)) (h3.2.2 (by omega))
    have hin := pIn2_r hr hi (by omega)
    have hin2 : pIn2 P i ≠ 2000000001 := by
      unfold pCan at hc; rw [if_pos hp, if_neg (by omega), if_pos e2] at hc; simpa using hc
    rcases hin with q | q | q
    · rw [q, show P (4 * i) + P (4 * i + 1) - P (4 * i) = P (4 * i + 1) by omega]
      have b1 := mul_bd 9 9 t1.1 t1.1
      have b2 := mul_bd (9 * 9) 9 b1 t2.2.1
      omega
    · rw [q, show P (4 * i) + P (4 * i + 1) - P (4 * i + 1) = P (4 * i) by omega]
      have b1 := mul_bd 9 9 t2.1 t2.1
      have b2 := mul_bd (9 * 9) 9 b1 t1.2.1
      omega
    · exact absurd q hin2
  · split
    · exact pTwoR_r ho.1 ho.2
    · omega
theorem pCan_p {K P : Int → Int} {i : Int} (h : pCan K P i = true) : pParts K P i = true := by
  unfold pCan at h; split at h
  · assumption
  · cases h
theorem m_ease (hm : mOk σ) (c i : Int) (hi : r32 i) (h : MI c f t) : Ct l X yX2_ease cX2_ease 7 (some .int) (rD 5) [.ref σ.1, .int (zI i)] (mH X σ f t) (pWr X σ c f t (.int (zI (vEase (f 0) (t 1) (t 2) i))) (f 0) (kEase (f 0) (t 1) (t 2) i) (qEase (f 0) (t 1) (t 2) i)) := by
  have h0 := h.n
  have hno : bEase (f 0) (t 1) (t 2) i = false → (0 ≤ i ∧ i ≤ f 0 - 1) → ∀ f' t', MI c f' t' → mSame f t f' t' → pWr X σ c f t (.int (zI (vEase (f 0) (t 1) (t 2) i))) (f 0) (kEase (f 0) (t 1) (t 2) i) (qEase (f 0) (t 1) (t 2) i) (some (.int (zI 2000000103))) (mH X σ f' t') := by
    intro hb hi2 f' t' hM hS
    unfold vEase kEase qEase
    rw [hb, if_pos hi2]
    exact ⟨rfl, f', t', rfl, hM, hS.is⟩
  refine Ct.of (by decide) (Nat.le_of_ble_eq_true rfl) (fun Γ M => ?_)
  refine j_lv (lv' := [(0, .ref σ.1), (1, .int (zI i))]) rfl ?_
  refine j_aload_n M dX2_ease_0 0 rfl ?_
  refine j_iload_n M dX2_ease_1 1 rfl ?_
  refine j_rV (k_V M (m_isRow l X σ f t i hi h0) (m_rc M) (lw_V q1402 q1404 qs43 q102 q1405) ndX2_isRow dX2_ease_2 ⟨by decide, by decide, by decide, by decide⟩ rfl (Nat.le_of_ble_eq_true rfl)) ?_
  refine j_ifneB M 11 dX2_ease_5 (by decide) (fun c_5 => ?_) (fun c_5 => ?_)
  · simp only [decide_eq_true_eq] at c_5
    have hk := rOk_k (h.ok i c_5.1 (by omega))
    refine j_aload_n M dX2_ease_11 0 rfl ?_
    refine j_iload_n M dX2_ease_12 1 rfl ?_
    refine j_rV (k_V M (m_canBe l X σ f t hm (f 0) i h0.2 (by omega) h.ok) (m_rc M) (lw_V q1677 q1679 qs82 q102 q1680) ndX2_canBe dX2_ease_13 ⟨by decide, by decide, by decide, by decide⟩ rfl (Nat.le_of_ble_eq_true rfl)) ?_
    refine j_ifneB M 22 dX2_ease_16 (by decide) (fun c_16 => ?_) (fun c_16 => ?_)
    · have hp := pCan_p c_16
      have rC := pEaC_r h.ok (by omega : 0 ≤ i ∧ i < f 0) hp
      have rD := pEaD_r h.ok (by omega : 0 ≤ i ∧ i < f 0) hp c_16
      have rE := tR_r (pTerm_r h.ok c_5.1 (by omega : i < f 0) (n := 0))
      have rF := tR_r (pTerm_r h.ok c_5.1 (by omega : i < f 0) (n := 1))
      refine j_aload_n M dX2_ease_22 0 rfl ?_
      refine j_iload_n M dX2_ease_23 1 rfl ?_
      refine j_rV (k_V M (m_easedC l X σ f t hm (f 0) i h0.2 (by omega) h.ok hp) (m_rc M) (lw_V q1689 q1691 qs85 q102 q1692) ndX2_easedC dX2_ease_24 ⟨by decide, by decide, by decide, by decide⟩ rfl (Nat.le_of_ble_eq_true rfl)) ?_
      refine j_istore_n M dX2_ease_27 (by decide) ?_
      refine j_aload_n M dX2_ease_28 0 rfl ?_
      refine j_iload_n M dX2_ease_29 1 rfl ?_
      refine j_rV (k_V M (m_easedD l X σ f t hm (f 0) i h0.2 (by omega) h.ok hp c_16) (m_rc M) (lw_V q1693 q1695 qs86 q102 q1696) ndX2_easedD dX2_ease_30 ⟨by decide, by decide, by decide, by decide⟩ rfl (Nat.le_of_ble_eq_true rfl)) ?_
      refine j_istore_n M dX2_ease_33 (by decide) ?_
      refine j_aload_n M dX2_ease_34 0 rfl ?_
      refine j_iload_n M dX2_ease_35 1 rfl ?_
      refine j_iconst M dX2_ease_36 ?_
      refine j_run (k_V M (m_termOf l X σ f t hm i 0 (by omega) (by omega) h0 h.ok h.tl) (m_rc M) (lw_V q1418 q1420 qs44 q102 q1421) ndX2_termOf dX2_ease_37 ⟨by decide, by decide, by decide, by decide⟩ rfl (Nat.le_of_ble_eq_true rfl)) (fun r_37 hp_37 hq_37 => ?_)
      obtain ⟨rfl, g, rfl, hg⟩ := hq_37
      have hT := h.terms hg
      refine j_istore M dX2_ease_40 (by decide) ?_
      refine j_aload_n M dX2_ease_42 0 rfl ?_
      refine j_iload_n M dX2_ease_43 1 rfl ?_
      refine j_iconst M dX2_ease_44 ?_
      refine j_run (k_V M (m_termOf l X σ _ _ hm i 1 (by show 0 ≤ i ∧ i < f 0; omega) (by omega) hT.1.n hT.1.ok hT.1.tl) (m_rc M) (lw_V q1418 q1420 qs44 q102 q1421) ndX2_termOf dX2_ease_45 ⟨by decide, by decide, by decide, by decide⟩ rfl (Nat.le_of_ble_eq_true rfl)) (fun r_45 hp_45 hq_45 => ?_)
      obtain ⟨rfl, g2, rfl, hg2⟩ := hq_45
      have hT2 := hT.1.terms hg2
      have hSS := hT.2.tr hT2.2
      refine j_istore M dX2_ease_48 (by decide) ?_
      refine j_iload_n M dX2_ease_50 2 rfl ?_
      refine j_rV (k_S M (m_isFew l X _ _ rC) (lw_S q1635 q1636 q102 q1637) ndX2_isFew dX2_ease_51 ⟨by decide, by decide, by decide, by decide⟩ rfl (Nat.le_of_ble_eq_true rfl)) ?_
      refine j_ifeqB M 80 dX2_ease_54 (by decide) (fun c_54 => ?_) (fun c_54 => ?_)
      · refine j_ldc M (2000000103) q1393 (by decide) dX2_ease_80 ?_
        refine j_iret M dX2_ease_82 ⟨Nat.le_refl _, Nat.le_refl _⟩ ?_
        refine hno (decide_eq_false (fun q => ?_)) c_5 _ _ hT2.1 hSS
        have := q.2.2; simp only [bTold, decide_eq_true_eq] at this
        simp only [decide_eq_true_eq, decide_eq_false_iff_not] at *
        first | exact c_54 this.1.1 | exact c_61 this.1.2 | exact c_69 this.2.1 | exact c_77 this.2.2
      · refine j_iload_n M dX2_ease_57 3 rfl ?_
        refine j_rV (k_S M (m_isFew l X _ _ rD) (lw_S q1635 q1636 q102 q1637) ndX2_isFew dX2_ease_58 ⟨by decide, by decide, by decide, by decide⟩ rfl (Nat.le_of_ble_eq_true rfl)) ?_
        refine j_ifeqB M 80 dX2_ease_61 (by decide) (fun c_61 => ?_) (fun c_61 => ?_)
        · refine j_ldc M (2000000103) q1393 (by decide) dX2_ease_80 ?_
          refine j_iret M dX2_ease_82 ⟨Nat.le_refl _, Nat.le_refl _⟩ ?_
          refine hno (decide_eq_false (fun q => ?_)) c_5 _ _ hT2.1 hSS
          have := q.2.2; simp only [bTold, decide_eq_true_eq] at this
          simp only [decide_eq_true_eq, decide_eq_false_iff_not] at *
          first | exact c_54 this.1.1 | exact c_61 this.1.2 | exact c_69 this.2.1 | exact c_77 this.2.2
        · refine j_iload M dX2_ease_64 4 rfl ?_
          refine j_rV (k_S M (m_isMany l X _ _ rE) (lw_S q1638 q1639 q102 q1640) ndX2_isMany dX2_ease_66 ⟨by decide, by decide, by decide, by decide⟩ rfl (Nat.le_of_ble_eq_true rfl)) ?_
          refine j_ifeqB M 80 dX2_ease_69 (by decide) (fun c_69 => ?_) (fun c_69 => ?_)
          · refine j_ldc M (2000000103) q1393 (by decide) dX2_ease_80 ?_
            refine j_iret M dX2_ease_82 ⟨Nat.le_refl _, Nat.le_refl _⟩ ?_
            refine hno (decide_eq_false (fun q => ?_)) c_5 _ _ hT2.1 hSS
            have := q.2.2; simp only [bTold, decide_eq_true_eq] at this
            simp only [decide_eq_true_eq, decide_eq_false_iff_not] at *
            first | exact c_54 this.1.1 | exact c_61 this.1.2 | exact c_69 this.2.1 | exact c_77 this.2.2
          · refine j_iload M dX2_ease_72 5 rfl ?_
            refine j_rV (k_S M (m_isMany l X _ _ rF) (lw_S q1638 q1639 q102 q1640) ndX2_isMany dX2_ease_74 ⟨by decide, by decide, by decide, by decide⟩ rfl (Nat.le_of_ble_eq_true rfl)) ?_
            refine j_ifneB M 83 dX2_ease_77 (by decide) (fun c_77 => ?_) (fun c_77 => ?_)
            · simp only [decide_eq_true_eq] at c_54 c_61 c_69 c_77
              refine j_aload_n M dX2_ease_83 0 rfl ?_
              refine m_get M 1 (by decide) q1243 rfl dX2_ease_84 ?_
              refine j_iload_n M dX2_ease_87 1 rfl ?_
              refine m_ald M hm (n := 9) 1 (by decide) rfl dX2_ease_88 (by omega) ?_
              refine j_istore M dX2_ease_89 (by decide) ?_
              refine j_aload_n M dX2_ease_91 0 rfl ?_
              refine j_iload_n M dX2_ease_92 1 rfl ?_
              refine j_iconst M dX2_ease_93 ?_
              refine j_iload_n M dX2_ease_94 2 rfl ?_
              refine j_iload_n M dX2_ease_95 3 rfl ?_
              refine j_iload M dX2_ease_96 4 rfl ?_
              refine j_iload M dX2_ease_98 5 rfl ?_
              refine j_rN (k_V M (m_lay l X σ _ _ hm i 0 _ _ _ _ (by omega)) (m_rc M) (lw_V q1645 q1647 qs81 q102 q1648) ndX2_lay dX2_ease_100 ⟨by decide, by decide, by decide, by decide⟩ rfl (Nat.le_of_ble_eq_true rfl)) ?_
              refine j_iload M dX2_ease_103 6 rfl ?_
              refine j_iret M dX2_ease_105 ⟨Nat.le_refl _, Nat.le_refl _⟩ ?_
              have hb : bEase (f 0) (t 1) (t 2) i = true := decide_eq_true ⟨c_5, c_16, decide_eq_true ⟨⟨c_54, c_61⟩, c_69, c_77⟩⟩
              unfold vEase kEase qEase
              rw [hb, if_pos c_5]
              refine ⟨rfl, _, _, rfl, ?_⟩
              have hl := lay_MI (n' := f 0) (f' := pChg (upN (upN f 13 1) 13 1)) (k := 0) hT2.1 h0 (by omega : 0 ≤ i ∧ i < 8) (fun j _ j1 _ => j1) (rOk_new0 (t 1) (t 2) i (pEaC (t 1) (t 2) i) (pEaD (t 1) (t 2) i) (pTerm (t 1) (t 2) i 0) (pTerm (t 1) (t 2) i 1) c_54 c_61 c_69 c_77) rfl rfl rfl (fun j hj => by
                simp only [List.mem_cons, List.not_mem_nil, or_false] at hj
                unfold pChg
                rw [upN_n _ _ (by omega), upN_n _ _ (by omega)])
              exact ⟨hl.1, mIs.after hSS hl.2⟩
            · refine j_ldc M (2000000103) q1393 (by decide) dX2_ease_80 ?_
              refine j_iret M dX2_ease_82 ⟨Nat.le_refl _, Nat.le_refl _⟩ ?_
              refine hno (decide_eq_false (fun q => ?_)) c_5 _ _ hT2.1 hSS
              have := q.2.2; simp only [bTold, decide_eq_true_eq] at this
              simp only [decide_eq_true_eq, decide_eq_false_iff_not] at *
              first | exact c_54 this.1.1 | exact c_61 this.1.2 | exact c_69 this.2.1 | exact c_77 this.2.2
    · refine j_ldc M (2000000103) q1393 (by decide) dX2_ease_19 ?_
      refine j_iret M dX2_ease_21 ⟨Nat.le_refl _, Nat.le_refl _⟩ ?_
      exact hno (decide_eq_false (fun q => by rw [c_16] at q; exact absurd q.2.1 (by decide))) c_5 f t h mSame.rfl
  · simp only [decide_eq_false_iff_not] at c_5
    refine j_ldc M (2000000101) q1406 (by decide) dX2_ease_8 ?_
    refine j_iret M dX2_ease_10 ⟨Nat.le_refl _, Nat.le_refl _⟩ ?_
    have hb : bEase (f 0) (t 1) (t 2) i = false := decide_eq_false (fun q => c_5 q.1)
    unfold vEase kEase qEase; rw [hb, if_neg c_5]; exact pWr.of h
def vGive (g v : Int) : Int := if -99 ≤ v ∧ v ≤ 99 then (if g = 8 then 2000000104 else g + 1) else 2000000102
theorem m_give (hm : mOk σ) (c v : Int) (hv : r32 v) (h : MI c f t) : CM l X σ yX2_give cX2_give 2 (some .int) 1 [.int (zI v)] f t (some (.int (zI (vGive (f 4) v)))) (if (-99 ≤ v ∧ v ≤ 99) ∧ f 4 ≠ 8 then upN f 4 (f 4 + 1) else f) (if (-99 ≤ v ∧ v ≤ 99) ∧ f 4 ≠ 8 then upN t 5 (upA (t 5) (f 4) v) else t) := by
  have h4 := h.2.2.2.1
  refine Ct.of (by decide) (Nat.le_of_ble_eq_true rfl) (fun Γ M => ?_)
  refine j_lv (lv' := [(0, .ref σ.1), (1, .int (zI v))]) rfl ?_
  refine j_iload_n M dX2_give_0 1 rfl ?_
  refine j_bipush M dX2_give_1 (by decide) ?_
  refine j_bipush M dX2_give_3 (by decide) ?_
  refine j_rV (k_S M (m_within l X _ _ _ _ (by omega)) (lw_S q1347 q1348 q102 q1349) ndX2_within dX2_give_5 ⟨by decide, by decide, by decide, by decide⟩ rfl (Nat.le_of_ble_eq_true rfl)) ?_
  refine j_ifneB M 14 dX2_give_8 (by decide) (fun c_8 => ?_) (fun c_8 => ?_)
  · simp only [decide_eq_true_eq] at c_8
    refine j_aload_n M dX2_give_14 0 rfl ?_
    refine m_get M 4 (by decide) q1246 rfl dX2_give_15 ?_
    refine j_bipush M dX2_give_18 (by decide) ?_
    refine j_icmp_ne M 26 dX2_give_20 (by decide) (by omega) (fun c_20 => ?_) (fun c_20 => ?_)
    · refine j_aload_n M dX2_give_26 0 rfl ?_
      refine m_get M 5 (by decide) q1247 rfl dX2_give_27 ?_
      refine j_aload_n M dX2_give_30 0 rfl ?_
      refine m_get M 4 (by decide) q1246 rfl dX2_give_31 ?_
      refine j_iload_n M dX2_give_34 1 rfl ?_
      refine m_ast M hm (n := 8) 5 (by decide) (fun _ => rfl) dX2_give_35 (by omega) ?_
      refine j_aload_n M dX2_give_36 0 rfl ?_
      refine j_dup M dX2_give_37 rfl ?_
      refine m_get M 4 (by decide) q1246 rfl dX2_give_38 ?_
      refine j_iconst M dX2_give_41 ?_
      refine j_iadd M dX2_give_42 ?_
      refine m_put M 4 (by decide) q1246 dX2_give_43 ?_
      refine j_aload_n M dX2_give_46 0 rfl ?_
      refine m_get M 4 (by decide) q1246 rfl dX2_give_47 ?_
      refine j_iret M dX2_give_50 ⟨Nat.le_refl _, Nat.le_refl _⟩ ?_
      unfold vGive; rw [if_pos c_8, if_neg c_20, if_pos (by omega), if_pos (by omega)]; exact ⟨rfl, rfl⟩
    · refine j_ldc M (2000000104) q1351 (by decide) dX2_give_23 ?_
      refine j_iret M dX2_give_25 ⟨Nat.le_refl _, Nat.le_refl _⟩ ?_
      unfold vGive; rw [if_pos c_8, if_pos c_20, if_neg (by omega), if_neg (by omega)]; exact ⟨rfl, rfl⟩
  · simp only [decide_eq_false_iff_not] at c_8
    refine j_ldc M (2000000102) q1350 (by decide) dX2_give_11 ?_
    refine j_iret M dX2_give_13 ⟨Nat.le_refl _, Nat.le_refl _⟩ ?_
    unfold vGive; rw [if_neg c_8, if_neg (by omega), if_neg (by omega)]; exact ⟨rfl, rfl⟩
theorem m_forget : CM l X σ yX2_forget cX2_forget 2 (some .int) 0 [] f t (some (.int (zI (f 4)))) (upN f 4 0) t := by
  refine Ct.of (by decide) (Nat.le_of_ble_eq_true rfl) (fun Γ M => ?_)
  refine j_lv (lv' := [(0, .ref σ.1)]) rfl ?_
  refine j_aload_n M dX2_forget_0 0 rfl ?_
  refine m_get M 4 (by decide) q1246 rfl dX2_forget_1 ?_
  refine j_istore_n M dX2_forget_4 (by decide) ?_
  refine j_aload_n M dX2_forget_5 0 rfl ?_
  refine j_iconst M dX2_forget_6 ?_
  refine m_put M 4 (by decide) q1246 dX2_forget_7 ?_
  refine j_iload_n M dX2_forget_10 1 rfl ?_
  refine j_iret M dX2_forget_11 ⟨Nat.le_refl _, Nat.le_refl _⟩ ?_
  exact ⟨rfl, rfl⟩
end M9
