/-! 59: the component: ease -/
set_option maxRecDepth 100000
section C21a
variable (l : Launch) (X : Cx) (hp : Hp) (p q : Nat) (c d e f c' d' e' f' : Int)
theorem c_withTerms (x : Nat) (hq : hp q = some (eX5 c d 0 0)) (hc : r32 c) (hd : r32 d) (he : r64 e) (hf : r64 f) : Ct l X yX0_withTerms cX0_withTerms 6 (some (.object "AheadRows$Told")) (rD 1) [.ref x, .ref q, .long (zL e), .long (zL f)] hp (fun r hp' => (bTold c d e f = true → r = some (.ref q) ∧ hp' = hup hp q (eX5 c d e f)) ∧ (bTold c d e f = false → r = some .null ∧ hp' = hp)) := by
  refine Ct.of (by decide) (Nat.le_of_ble_eq_true rfl) (fun Γ M => ?_)
  refine j_lv (lv' := [(0, .ref x), (1, .ref q), (2, .long (zL e)), (4, .long (zL f))]) rfl ?_
  refine j_aload_n M dX0_withTerms_0 1 rfl ?_
  refine j_get M hq rfl 0 (by decide) in_X5 q328 rfl dX0_withTerms_1 ?_
  refine j_i2l M dX0_withTerms_4 (by omega) ?_
  refine j_rV (k_S M (c_isSmall l X hp c (by omega)) (lw_S q1014 q1015 q97 q1016) ndX0_isSmall dX0_withTerms_5 ⟨by decide, by decide, by decide, by decide⟩ rfl (Nat.le_of_ble_eq_true rfl)) ?_
  refine j_ifeqB M 37 dX0_withTerms_8 (by decide) (fun c_8 => ?_) (fun c_8 => ?_)
  · rw [decide_eq_false_iff_not] at c_8
    refine j_aconst_null M dX0_withTerms_37 ?_
    refine j_aretN M dX0_withTerms_38 (Or.inl ⟨_, rfl⟩) ⟨Nat.le_refl _, Nat.le_refl _⟩ ?_
    refine ⟨fun w => ?_, fun _ => ⟨rfl, rfl⟩⟩
    unfold bTold at w; rw [decide_eq_true_eq] at w; omega
  · rw [decide_eq_true_eq] at c_8
    refine j_aload_n M dX0_withTerms_11 1 rfl ?_
    refine j_get M hq rfl 1 (by decide) in_X5 q333 rfl dX0_withTerms_12 ?_
    refine j_i2l M dX0_withTerms_15 (by omega) ?_
    refine j_rV (k_S M (c_isSmall l X hp d (by omega)) (lw_S q1014 q1015 q97 q1016) ndX0_isSmall dX0_withTerms_16 ⟨by decide, by decide, by decide, by decide⟩ rfl (Nat.le_of_ble_eq_true rfl)) ?_
    refine j_ifeqB M 37 dX0_withTerms_19 (by decide) (fun c_19 => ?_) (fun c_19 => ?_)
    · rw [decide_eq_false_iff_not] at c_19
      refine j_aconst_null M dX0_withTerms_37 ?_
      refine j_aretN M dX0_withTerms_38 (Or.inl ⟨_, rfl⟩) ⟨Nat.le_refl _, Nat.le_refl _⟩ ?_
      refine ⟨fun w => ?_, fun _ => ⟨rfl, rfl⟩⟩
      unfold bTold at w; rw [decide_eq_true_eq] at w; omega
    · rw [decide_eq_true_eq] at c_19
      refine j_lload_n M dX0_withTerms_22 2 rfl ?_
      refine j_rV (k_S M (c_isWide l X hp e (by omega)) (lw_S q1019 q1020 q97 q1021) ndX0_isWide dX0_withTerms_23 ⟨by decide, by decide, by decide, by decide⟩ rfl (Nat.le_of_ble_eq_true rfl)) ?_
      refine j_ifeqB M 37 dX0_withTerms_26 (by decide) (fun c_26 => ?_) (fun c_26 => ?_)
      · rw [decide_eq_false_iff_not] at c_26
        refine j_aconst_null M dX0_withTerms_37 ?_
        refine j_aretN M dX0_withTerms_38 (Or.inl ⟨_, rfl⟩) ⟨Nat.le_refl _, Nat.le_refl _⟩ ?_
        refine ⟨fun w => ?_, fun _ => ⟨rfl, rfl⟩⟩
        unfold bTold at w; rw [decide_eq_true_eq] at w; omega
      · rw [decide_eq_true_eq] at c_26
        refine j_lload M dX0_withTerms_29 3 rfl ?_
        refine j_rV (k_S M (c_isWide l X hp f (by omega)) (lw_S q1019 q1020 q97 q1021) ndX0_isWide dX0_withTerms_31 ⟨by decide, by decide, by decide, by decide⟩ rfl (Nat.le_of_ble_eq_true rfl)) ?_
        refine j_ifneB M 39 dX0_withTerms_34 (by decide) (fun c_34 => ?_) (fun c_34 => ?_)
        · rw [decide_eq_true_eq] at c_34
          refine j_aload_n M dX0_withTerms_39 1 rfl ?_
          refine j_lload_n M dX0_withTerms_40 2 rfl ?_
          refine j_l2i M dX0_withTerms_41 ?_
          refine j_put M hq rfl 2 (by decide) in_X5 tyX5 tyX5_ok nmX5 q336 rfl rfl rfl (Nat.le_of_ble_eq_true rfl) dX0_withTerms_42 ?_
          refine j_aload_n M dX0_withTerms_45 1 rfl ?_
          refine j_lload M dX0_withTerms_46 3 rfl ?_
          refine j_l2i M dX0_withTerms_48 ?_
          refine j_put M (hup_s _ _ _) rfl 3 (by decide) in_X5 tyX5 tyX5_ok nmX5 q338 rfl rfl rfl (Nat.le_of_ble_eq_true rfl) dX0_withTerms_49 ?_
          refine j_aload_n M dX0_withTerms_52 1 rfl ?_
          refine j_aret M dX0_withTerms_53 (Or.inl ⟨_, rfl⟩) ⟨Nat.le_refl _, Nat.le_refl _⟩ ?_
          refine ⟨fun _ => ⟨rfl, ?_⟩, fun w => ?_⟩
          · rw [hup_hup]; rfl
          · unfold bTold at w; rw [decide_eq_false_iff_not] at w; omega
        · rw [decide_eq_false_iff_not] at c_34
          refine j_aconst_null M dX0_withTerms_37 ?_
          refine j_aretN M dX0_withTerms_38 (Or.inl ⟨_, rfl⟩) ⟨Nat.le_refl _, Nat.le_refl _⟩ ?_
          refine ⟨fun w => ?_, fun _ => ⟨rfl, rfl⟩⟩
          unfold bTold at w; rw [decide_eq_true_eq] at w; omega
theorem c_easyX13 (h1 : hp p = some (eX5 c d e f)) (h2 : hp q = some (eX5 c' d' e' f')) (hc : r32 c ∧ r32 d ∧ r32 c' ∧ r32 d') : CtU l X yX13_isEasy cX13_isEasy 3 (some .boolean) (rD 0) [.ref (cxS X 0), .ref p, .ref q] hp (pD (some (.int (zB (decide (c = c' ∧ d = d'))))) hp) := by
  refine CtU.of (by decide +kernel) (Nat.le_of_ble_eq_true rfl) (fun Γ M => ?_)
  refine j_lv (lv' := [(0, .ref (cxS X 0)), (1, .ref p), (2, .ref q)]) rfl ?_
  refine j_aload_n M dX13_isEasy_0 1 rfl ?_
  refine j_get M h1 rfl 0 (by decide) in_X5 q326 rfl dX13_isEasy_1 ?_
  refine j_aload_n M dX13_isEasy_4 2 rfl ?_
  refine j_get M h2 rfl 0 (by decide) in_X5 q326 rfl dX13_isEasy_5 ?_
  refine j_icmp_ne M 26 dX13_isEasy_8 (by decide) (by omega) (fun c_8 => ?_) (fun c_8 => ?_)
  · refine j_iconst M dX13_isEasy_26 ?_
    refine j_bool false rfl ?_
    refine j_zret M dX13_isEasy_27 ⟨Nat.le_refl _, Nat.le_refl _⟩ ?_
    exact pzF (by omega)
  · refine j_aload_n M dX13_isEasy_11 1 rfl ?_
    refine j_get M h1 rfl 1 (by decide) in_X5 q331 rfl dX13_isEasy_12 ?_
    refine j_aload_n M dX13_isEasy_15 2 rfl ?_
    refine j_get M h2 rfl 1 (by decide) in_X5 q331 rfl dX13_isEasy_16 ?_
    refine j_icmp_ne M 26 dX13_isEasy_19 (by decide) (by omega) (fun c_19 => ?_) (fun c_19 => ?_)
    · refine j_iconst M dX13_isEasy_26 ?_
      refine j_bool false rfl ?_
      refine j_zret M dX13_isEasy_27 ⟨Nat.le_refl _, Nat.le_refl _⟩ ?_
      exact pzF (by omega)
    · refine j_iconst M dX13_isEasy_22 ?_
      refine j_goto M 27 dX13_isEasy_23 (by decide) ?_
      refine j_bool true rfl ?_
      refine j_zret M dX13_isEasy_27 ⟨Nat.le_refl _, Nat.le_refl _⟩ ?_
      exact pzT (by omega)
def pFr (X : Cx) (hp : Hp) (e : va_E) : Option Value → Hp → Prop := fun r hp' => ∃ q, r = some (.ref q) ∧ hp q = none ∧ hp' = hup hp q e
theorem c_eaX13 (h1 : hp p = some (eX5 c d e f)) : CtU l X yX13_eased cX13_eased 3 (some (.object "AheadRows$Told")) (rC 3 1 4) [.ref (cxS X 0), .ref p, .ref q] hp (pFr X hp (eX5 c d 0 0)) := by
  refine CtU.of (by decide +kernel) (Nat.le_of_ble_eq_true rfl) (fun Γ M => ?_)
  refine j_lv (lv' := [(0, .ref (cxS X 0)), (1, .ref p), (2, .ref q)]) rfl ?_
  refine j_new M (ci := 5) rfl in_X5 tyX5 tyX5_ok q1118 q317 q105 [.int (zI 0), .int (zI 0), .int (zI 0), .int (zI 0)] df_X5 (by decide) dX13_eased_0 (fun q_0 hq_0 hB_0 => ?_)
  have hd : hup hp q_0 (.inr (5, [.int (zI 0), .int (zI 0), .int (zI 0), .int (zI 0)])) q_0 = some (.inr (5, [.int (zI 0), .int (zI 0), .int (zI 0), .int (zI 0)])) := hup_s _ _ _
  have hn1 : p ≠ q_0 := fun e => by rw [e, hq_0] at h1; cases h1
  refine j_dup M dX13_eased_3 rfl ?_
  refine j_aload_n M dX13_eased_4 1 rfl ?_
  refine j_get M (by rw [hup_n _ _ hn1]; exact h1) rfl 0 (by decide) in_X5 q326 rfl dX13_eased_5 ?_
  refine j_aload_n M dX13_eased_8 1 rfl ?_
  refine j_get M (by rw [hup_n _ _ hn1]; exact h1) rfl 1 (by decide) in_X5 q331 rfl dX13_eased_9 ?_
  refine j_iconst M dX13_eased_12 ?_
  refine j_iconst M dX13_eased_13 ?_
  refine j_rN (k_I M (c_toldInit l X _ q_0 c d 0 0 hd) (lw_meth q320) q105 q1119 q319 rfl ndX5_init dX13_eased_14 ⟨by decide, by decide, by decide, by decide⟩ rfl (Nat.le_of_ble_eq_true rfl)) ?_
  refine j_aret M dX13_eased_17 (Or.inl ⟨_, rfl⟩) ⟨Nat.le_refl _, Nat.le_refl _⟩ ?_
  exact ⟨q_0, rfl, hq_0, hup_hup _ _ _ _⟩
theorem c_easyX14 (h1 : hp p = some (eX5 c d e f)) (h2 : hp q = some (eX5 c' d' e' f')) (a1 : -9 ≤ c ∧ c ≤ 9) (a2 : -9 ≤ d ∧ d ≤ 9) (a3 : -999 ≤ e ∧ e ≤ 999) (a4 : -999 ≤ f ∧ f ≤ 999) (b1 : -9 ≤ c' ∧ c' ≤ 9) (b2 : -9 ≤ d' ∧ d' ≤ 9) (b3 : -999 ≤ e' ∧ e' ≤ 999) (b4 : -999 ≤ f' ∧ f' ≤ 999) : CtU l X yX14_isEasy cX14_isEasy 3 (some .boolean) (rD 1) [.ref (cxS X 1), .ref p, .ref q] hp (pD (some (.int (zB (decide ((d = 0 ∧ f = c * e) ∨ (d' = 0 ∧ f' = c' * e')))))) hp) := by
  refine CtU.of (by decide +kernel) (Nat.le_of_ble_eq_true rfl) (fun Γ M => ?_)
  refine j_lv (lv' := [(0, .ref (cxS X 1)), (1, .ref p), (2, .ref q)]) rfl ?_
  refine j_aload_n M dX14_isEasy_0 1 rfl ?_
  refine j_rV (k_V M (c_isPower l X hp p _ _ _ _ h1 a1 a2 a3 a4) (rc_of M h1 rfl) (lw_V q1108 q1109 q1110 q105 q1111) ndX5_isPower dX14_isEasy_1 ⟨by decide, by decide, by decide, by decide⟩ rfl (Nat.le_of_ble_eq_true rfl)) ?_
  refine j_ifneB M 14 dX14_isEasy_4 (by decide) (fun c_4 => ?_) (fun c_4 => ?_)
  · rw [decide_eq_true_eq] at c_4
    refine j_iconst M dX14_isEasy_14 ?_
    refine j_goto M 19 dX14_isEasy_15 (by decide) ?_
    refine j_bool true rfl ?_
    refine j_zret M dX14_isEasy_19 ⟨Nat.le_refl _, Nat.le_refl _⟩ ?_
    exact pzT (Or.inl c_4)
  · rw [decide_eq_false_iff_not] at c_4
    refine j_aload_n M dX14_isEasy_7 2 rfl ?_
    refine j_rV (k_V M (c_isPower l X hp q _ _ _ _ h2 b1 b2 b3 b4) (rc_of M h2 rfl) (lw_V q1108 q1109 q1110 q105 q1111) ndX5_isPower dX14_isEasy_8 ⟨by decide, by decide, by decide, by decide⟩ rfl (Nat.le_of_ble_eq_true rfl)) ?_
    refine j_ifeqB M 18 dX14_isEasy_11 (by decide) (fun c_11 => ?_) (fun c_11 => ?_)
    · rw [decide_eq_false_iff_not] at c_11
      refine j_iconst M dX14_isEasy_18 ?_
      refine j_bool false rfl ?_
      refine j_zret M dX14_isEasy_19 ⟨Nat.le_refl _, Nat.le_refl _⟩ ?_
      exact pzF (fun w => by rcases w with w | w; exact c_4 w; exact c_11 w)
    · rw [decide_eq_true_eq] at c_11
      refine j_iconst M dX14_isEasy_14 ?_
      refine j_goto M 19 dX14_isEasy_15 (by decide) ?_
      refine j_bool true rfl ?_
      refine j_zret M dX14_isEasy_19 ⟨Nat.le_refl _, Nat.le_refl _⟩ ?_
      exact pzT (Or.inr c_11)
theorem c_eaX14a (h1 : hp p = some (eX5 c d e f)) (h2 : hp q = some (eX5 c' d' e' f')) (a1 : -9 ≤ c ∧ c ≤ 9) (a2 : -9 ≤ d ∧ d ≤ 9) (a3 : -999 ≤ e ∧ e ≤ 999) (a4 : -999 ≤ f ∧ f ≤ 999) (hy : d = 0 ∧ f = c * e) : CtU l X yX14_eased cX14_eased 5 (some (.object "AheadRows$Told")) (rC 3 1 4) [.ref (cxS X 1), .ref p, .ref q] hp (pFr X hp (eX5 (c * c') (c * c * d') 0 0)) := by
  refine CtU.of (by decide +kernel) (Nat.le_of_ble_eq_true rfl) (fun Γ M => ?_)
  refine j_lv (lv' := [(0, .ref (cxS X 1)), (1, .ref p), (2, .ref q)]) rfl ?_
  refine j_aload_n M dX14_eased_0 1 rfl ?_
  refine j_rV (k_V M (c_isPower l X hp p _ _ _ _ h1 a1 a2 a3 a4) (rc_of M h1 rfl) (lw_V q1108 q1109 q1110 q105 q1111) ndX5_isPower dX14_eased_1 ⟨by decide, by decide, by decide, by decide⟩ rfl (Nat.le_of_ble_eq_true rfl)) ?_
  refine j_ifeqB M 11 dX14_eased_4 (by decide) (fun c_4 => ?_) (fun c_4 => ?_)
  · exact absurd hy (by rw [decide_eq_false_iff_not] at c_4; exact c_4)
  · refine j_aload_n M dX14_eased_7 1 rfl ?_
    refine j_goto M 12 dX14_eased_8 (by decide) ?_
    refine j_astore_n M dX14_eased_12 (by decide) ?_
    refine j_aload_n M dX14_eased_13 1 rfl ?_
    refine j_rV (k_V M (c_isPower l X hp p _ _ _ _ h1 a1 a2 a3 a4) (rc_of M h1 rfl) (lw_V q1108 q1109 q1110 q105 q1111) ndX5_isPower dX14_eased_14 ⟨by decide, by decide, by decide, by decide⟩ rfl (Nat.le_of_ble_eq_true rfl)) ?_
    refine j_ifeqB M 24 dX14_eased_17 (by decide) (fun c_17 => ?_) (fun c_17 => ?_)
    · exact absurd hy (by rw [decide_eq_false_iff_not] at c_17; exact c_17)
    · refine j_aload_n M dX14_eased_20 2 rfl ?_
      refine j_goto M 25 dX14_eased_21 (by decide) ?_
      refine j_astore M dX14_eased_25 (by decide) ?_
      refine j_new M (ci := 5) rfl in_X5 tyX5 tyX5_ok q1123 q317 q105 [.int (zI 0), .int (zI 0), .int (zI 0), .int (zI 0)] df_X5 (by decide) dX14_eased_27 (fun q_27 hq_27 hB_27 => ?_)
      have hd : hup hp q_27 (.inr (5, [.int (zI 0), .int (zI 0), .int (zI 0), .int (zI 0)])) q_27 = some (.inr (5, [.int (zI 0), .int (zI 0), .int (zI 0), .int (zI 0)])) := hup_s _ _ _
      have hn1 : p ≠ q_27 := fun e => by rw [e, hq_27] at h1; cases h1
      have hn2 : q ≠ q_27 := fun e => by rw [e, hq_27] at h2; cases h2
      refine j_dup M dX14_eased_30 rfl ?_
      refine j_aload_n M dX14_eased_31 3 rfl ?_
      refine j_get M (by rw [hup_n _ _ hn1]; exact h1) rfl 0 (by decide) in_X5 q327 rfl dX14_eased_32 ?_
      refine j_aload M dX14_eased_35 4 rfl ?_
      refine j_get M (by rw [hup_n _ _ hn2]; exact h2) rfl 0 (by decide) in_X5 q327 rfl dX14_eased_37 ?_
      refine j_imul M dX14_eased_40 ?_
      refine j_aload_n M dX14_eased_41 3 rfl ?_
      refine j_get M (by rw [hup_n _ _ hn1]; exact h1) rfl 0 (by decide) in_X5 q327 rfl dX14_eased_42 ?_
      refine j_aload_n M dX14_eased_45 3 rfl ?_
      refine j_get M (by rw [hup_n _ _ hn1]; exact h1) rfl 0 (by decide) in_X5 q327 rfl dX14_eased_46 ?_
      refine j_imul M dX14_eased_49 ?_
      refine j_aload M dX14_eased_50 4 rfl ?_
      refine j_get M (by rw [hup_n _ _ hn2]; exact h2) rfl 1 (by decide) in_X5 q332 rfl dX14_eased_52 ?_
      refine j_imul M dX14_eased_55 ?_
      refine j_iconst M dX14_eased_56 ?_
      refine j_iconst M dX14_eased_57 ?_
      refine j_rN (k_I M (c_toldInit l X _ q_27 _ _ 0 0 hd) (lw_meth q320) q105 q1124 q319 rfl ndX5_init dX14_eased_58 ⟨by decide, by decide, by decide, by decide⟩ rfl (Nat.le_of_ble_eq_true rfl)) ?_
      refine j_aret M dX14_eased_61 (Or.inl ⟨_, rfl⟩) ⟨Nat.le_refl _, Nat.le_refl _⟩ ?_
      exact ⟨q_27, rfl, hq_27, hup_hup _ _ _ _⟩
theorem c_eaX14b (h1 : hp p = some (eX5 c d e f)) (h2 : hp q = some (eX5 c' d' e' f')) (a1 : -9 ≤ c ∧ c ≤ 9) (a2 : -9 ≤ d ∧ d ≤ 9) (a3 : -999 ≤ e ∧ e ≤ 999) (a4 : -999 ≤ f ∧ f ≤ 999) (hy : ¬ (d = 0 ∧ f = c * e)) : CtU l X yX14_eased cX14_eased 5 (some (.object "AheadRows$Told")) (rC 3 1 4) [.ref (cxS X 1), .ref p, .ref q] hp (pFr X hp (eX5 (c' * c) (c' * c' * d) 0 0)) := by
  refine CtU.of (by decide +kernel) (Nat.le_of_ble_eq_true rfl) (fun Γ M => ?_)
  refine j_lv (lv' := [(0, .ref (cxS X 1)), (1, .ref p), (2, .ref q)]) rfl ?_
  refine j_aload_n M dX14_eased_0 1 rfl ?_
  refine j_rV (k_V M (c_isPower l X hp p _ _ _ _ h1 a1 a2 a3 a4) (rc_of M h1 rfl) (lw_V q1108 q1109 q1110 q105 q1111) ndX5_isPower dX14_eased_1 ⟨by decide, by decide, by decide, by decide⟩ rfl (Nat.le_of_ble_eq_true rfl)) ?_
  refine j_ifeqB M 11 dX14_eased_4 (by decide) (fun c_4 => ?_) (fun c_4 => ?_)
  · refine j_aload_n M dX14_eased_11 2 rfl ?_
    refine j_astore_n M dX14_eased_12 (by decide) ?_
    refine j_aload_n M dX14_eased_13 1 rfl ?_
    refine j_rV (k_V M (c_isPower l X hp p _ _ _ _ h1 a1 a2 a3 a4) (rc_of M h1 rfl) (lw_V q1108 q1109 q1110 q105 q1111) ndX5_isPower dX14_eased_14 ⟨by decide, by decide, by decide, by decide⟩ rfl (Nat.le_of_ble_eq_true rfl)) ?_
    refine j_ifeqB M 24 dX14_eased_17 (by decide) (fun c_17 => ?_) (fun c_17 => ?_)
    · refine j_aload_n M dX14_eased_24 1 rfl ?_
      refine j_astore M dX14_eased_25 (by decide) ?_
      refine j_new M (ci := 5) rfl in_X5 tyX5 tyX5_ok q1123 q317 q105 [.int (zI 0), .int (zI 0), .int (zI 0), .int (zI 0)] df_X5 (by decide) dX14_eased_27 (fun q_27 hq_27 hB_27 => ?_)
      have hd : hup hp q_27 (.inr (5, [.int (zI 0), .int (zI 0), .int (zI 0), .int (zI 0)])) q_27 = some (.inr (5, [.int (zI 0), .int (zI 0), .int (zI 0), .int (zI 0)])) := hup_s _ _ _
      have hn1 : p ≠ q_27 := fun e => by rw [e, hq_27] at h1; cases h1
      have hn2 : q ≠ q_27 := fun e => by rw [e, hq_27] at h2; cases h2
      refine j_dup M dX14_eased_30 rfl ?_
      refine j_aload_n M dX14_eased_31 3 rfl ?_
      refine j_get M (by rw [hup_n _ _ hn2]; exact h2) rfl 0 (by decide) in_X5 q327 rfl dX14_eased_32 ?_
      refine j_aload M dX14_eased_35 4 rfl ?_
      refine j_get M (by rw [hup_n _ _ hn1]; exact h1) rfl 0 (by decide) in_X5 q327 rfl dX14_eased_37 ?_
      refine j_imul M dX14_eased_40 ?_
      refine j_aload_n M dX14_eased_41 3 rfl ?_
      refine j_get M (by rw [hup_n _ _ hn2]; exact h2) rfl 0 (by decide) in_X5 q327 rfl dX14_eased_42 ?_
      refine j_aload_n M dX14_eased_45 3 rfl ?_
      refine j_get M (by rw [hup_n _ _ hn2]; exact h2) rfl 0 (by decide) in_X5 q327 rfl dX14_eased_46 ?_
      refine j_imul M dX14_eased_49 ?_
      refine j_aload M dX14_eased_50 4 rfl ?_
      refine j_get M (by rw [hup_n _ _ hn1]; exact h1) rfl 1 (by decide) in_X5 q332 rfl dX14_eased_52 ?_
      refine j_imul M dX14_eased_55 ?_
      refine j_iconst M dX14_eased_56 ?_
      refine j_iconst M dX14_eased_57 ?_
      refine j_rN (k_I M (c_toldInit l X _ q_27 _ _ 0 0 hd) (lw_meth q320) q105 q1124 q319 rfl ndX5_init dX14_eased_58 ⟨by decide, by decide, by decide, by decide⟩ rfl (Nat.le_of_ble_eq_true rfl)) ?_
      refine j_aret M dX14_eased_61 (Or.inl ⟨_, rfl⟩) ⟨Nat.le_refl _, Nat.le_refl _⟩ ?_
      exact ⟨q_27, rfl, hq_27, hup_hup _ _ _ _⟩
    · exact absurd (by rw [decide_eq_true_eq] at c_17; exact c_17) hy
  · exact absurd (by rw [decide_eq_true_eq] at c_4; exact c_4) hy
end C21a
/-- whether row i can be told by itself -/
def bEa (K P : Int → Int) (i : Int) : Prop := pCan K P i = true ∧ bTold (pEaC K P i) (pEaD K P i) (pTerm K P i 0) (pTerm K P i 1) = true
def EaP (X : Cx) (hp : Hp) (K P : Int → Int) (i : Int) : Option Value → Hp → Prop := fun r hp' => (∀ z e, hp z = some e → hp' z = some e) ∧ (bEa K P i → ∃ q, r = some (.ref q) ∧ hp q = none ∧ hp' q = some (eX5 (pEaC K P i) (pEaD K P i) (pTerm K P i 0) (pTerm K P i 1))) ∧ (¬ bEa K P i → r = some .null)
theorem EaP.no {X : Cx} {hp : Hp} {K P : Int → Int} {i : Int} (h : ¬ bEa K P i) : EaP X hp K P i (some .null) hp := ⟨fun _ _ e => e, fun w => absurd w h, fun _ => rfl⟩
theorem pCan_no {K P : Int → Int} {i : Int} (h : pParts K P i = false) : ¬ bEa K P i := fun w => by
  have := w.1; unfold pCan at this; rw [h] at this; cases this
section C21
variable (l : Launch) (X : Cx) (Pr : Hp) (c : Int) (s : Co) (hp : Hp)
theorem c_eaX5 (i : Int) (hi : 0 ≤ i ∧ i < s.N) (hk : s.K i = 0) : Ct l X yX5_eased cX5_eased 2 (some (.object "AheadRows$Told")) (rC 14 2 9) [.ref (s.r i.toNat), .ref s.x] hp (EaP X hp s.K s.P i) := by
  refine ((c_easedX5 l X hp (s.r i.toNat) s.x).lift (rm' := rC 14 2 9) (by decide) (by decide) (by decide) (by decide)).mono (fun r hp' hq => ?_)
  obtain ⟨rfl, rfl⟩ := hq
  exact EaP.no (pCan_no (by unfold pParts; rw [decide_eq_false_iff_not]; exact fun w => w.1 hk))
theorem c_isPlain (T : Nat) (i : Int) (fs : List Value) (hi : 0 ≤ i ∧ i < s.N) (hk : s.K i = 1 ∨ s.K i = 2) (h : CI X Pr c s hp) : CS l X yX6_isPlain cX6_isPlain 2 (some .boolean) 4 [.ref (s.r i.toNat), .ref s.x] hp (some (.int (zB (pParts s.K s.P i)))) := by
  have hx := h.cw.hx
  have ho := h.cw.ok i hi.1 hi.2
  have p1 := rOk_part ho (by omega)
  have p2 := rOk_part2 ho (by omega)
  have r1 := h.row (i := s.P (4 * i)) (by omega)
  have r2 := h.row (i := s.P (4 * i + 1)) (by omega)
  have k1 := rOk_k (h.cw.ok (s.P (4 * i)) p1.1 (by omega))
  have k2 := rOk_k (h.cw.ok (s.P (4 * i + 1)) p2.1 (by omega))
  have ha := h.row hi
  rcases hk with hk | hk
  ·
    rw [rowE1 hk] at ha
    refine Ct.of (by decide) (Nat.le_of_ble_eq_true rfl) (fun Γ M => ?_)
    refine j_lv (lv' := [(0, .ref (s.r i.toNat)), (1, .ref s.x)]) rfl ?_
    refine j_aload_n M dX6_isPlain_0 1 rfl ?_
    refine j_aload_n M dX6_isPlain_1 0 rfl ?_
    refine j_get M ha rfl 0 (by decide) in_X7 q373 rfl dX6_isPlain_2 ?_
    refine j_rV (k_VN M (c_rowOfC l X Pr c s hp _ (by omega) h) (rc_of M hx rfl) q721 q97 q561 qs13 (lw_meth q562) ndX0_rowOf dX6_isPlain_5 ⟨by decide, by decide, by decide, by decide⟩ rfl (Nat.le_of_ble_eq_true rfl)) ?_
    refine dv_inst M q932 k1 r1 dX6_isPlain_8 ?_
    refine j_ifeqB M 32 dX6_isPlain_11 (by decide) (fun c_11 => ?_) (fun c_11 => ?_)
    · rw [decide_eq_false_iff_not] at c_11
      refine j_iconst M dX6_isPlain_32 ?_
      refine j_bool false rfl ?_
      refine j_zret M dX6_isPlain_33 ⟨Nat.le_refl _, Nat.le_refl _⟩ ?_
      exact pzF (by omega)
    · rw [decide_eq_true_eq] at c_11
      refine j_aload_n M dX6_isPlain_14 1 rfl ?_
      refine j_aload_n M dX6_isPlain_15 0 rfl ?_
      refine j_get M ha rfl 1 (by decide) in_X7 q378 rfl dX6_isPlain_16 ?_
      refine j_rV (k_VN M (c_rowOfC l X Pr c s hp _ (by omega) h) (rc_of M hx rfl) q721 q97 q561 qs13 (lw_meth q562) ndX0_rowOf dX6_isPlain_19 ⟨by decide, by decide, by decide, by decide⟩ rfl (Nat.le_of_ble_eq_true rfl)) ?_
      refine dv_inst M q932 k2 r2 dX6_isPlain_22 ?_
      refine j_ifeqB M 32 dX6_isPlain_25 (by decide) (fun c_25 => ?_) (fun c_25 => ?_)
      · rw [decide_eq_false_iff_not] at c_25
        refine j_iconst M dX6_isPlain_32 ?_
        refine j_bool false rfl ?_
        refine j_zret M dX6_isPlain_33 ⟨Nat.le_refl _, Nat.le_refl _⟩ ?_
        exact pzF (by omega)
      · rw [decide_eq_true_eq] at c_25
        refine j_iconst M dX6_isPlain_28 ?_
        refine j_goto M 33 dX6_isPlain_29 (by decide) ?_
        refine j_bool true rfl ?_
        refine j_zret M dX6_isPlain_33 ⟨Nat.le_refl _, Nat.le_refl _⟩ ?_
        exact pzT (by omega)
  ·
    rw [rowE2 hk] at ha
    refine Ct.of (by decide) (Nat.le_of_ble_eq_true rfl) (fun Γ M => ?_)
    refine j_lv (lv' := [(0, .ref (s.r i.toNat)), (1, .ref s.x)]) rfl ?_
    refine j_aload_n M dX6_isPlain_0 1 rfl ?_
    refine j_aload_n M dX6_isPlain_1 0 rfl ?_
    refine j_get M ha rfl 0 (by decide) in_X8 q373 rfl dX6_isPlain_2 ?_
    refine j_rV (k_VN M (c_rowOfC l X Pr c s hp _ (by omega) h) (rc_of M hx rfl) q721 q97 q561 qs13 (lw_meth q562) ndX0_rowOf dX6_isPlain_5 ⟨by decide, by decide, by decide, by decide⟩ rfl (Nat.le_of_ble_eq_true rfl)) ?_
    refine dv_inst M q932 k1 r1 dX6_isPlain_8 ?_
    refine j_ifeqB M 32 dX6_isPlain_11 (by decide) (fun c_11 => ?_) (fun c_11 => ?_)
    · rw [decide_eq_false_iff_not] at c_11
      refine j_iconst M dX6_isPlain_32 ?_
      refine j_bool false rfl ?_
      refine j_zret M dX6_isPlain_33 ⟨Nat.le_refl _, Nat.le_refl _⟩ ?_
      exact pzF (by omega)
    · rw [decide_eq_true_eq] at c_11
      refine j_aload_n M dX6_isPlain_14 1 rfl ?_
      refine j_aload_n M dX6_isPlain_15 0 rfl ?_
      refine j_get M ha rfl 1 (by decide) in_X8 q378 rfl dX6_isPlain_16 ?_
      refine j_rV (k_VN M (c_rowOfC l X Pr c s hp _ (by omega) h) (rc_of M hx rfl) q721 q97 q561 qs13 (lw_meth q562) ndX0_rowOf dX6_isPlain_19 ⟨by decide, by decide, by decide, by decide⟩ rfl (Nat.le_of_ble_eq_true rfl)) ?_
      refine dv_inst M q932 k2 r2 dX6_isPlain_22 ?_
      refine j_ifeqB M 32 dX6_isPlain_25 (by decide) (fun c_25 => ?_) (fun c_25 => ?_)
      · rw [decide_eq_false_iff_not] at c_25
        refine j_iconst M dX6_isPlain_32 ?_
        refine j_bool false rfl ?_
        refine j_zret M dX6_isPlain_33 ⟨Nat.le_refl _, Nat.le_refl _⟩ ?_
        exact pzF (by omega)
      · rw [decide_eq_true_eq] at c_25
        refine j_iconst M dX6_isPlain_28 ?_
        refine j_goto M 33 dX6_isPlain_29 (by decide) ?_
        refine j_bool true rfl ?_
        refine j_zret M dX6_isPlain_33 ⟨Nat.le_refl _, Nat.le_refl _⟩ ?_
        exact pzT (by omega)
theorem c_eaX7 (i : Int) (hi : 0 ≤ i ∧ i < s.N) (hk : s.K i = 1) (h : CI X Pr c s hp) : Ct l X yX6_eased cX6_eased 4 (some (.object "AheadRows$Told")) (rC 14 2 9) [.ref (s.r i.toNat), .ref s.x] hp (EaP X hp s.K s.P i) := by
  have h8 := h.n
  have hx := h.cw.hx
  have ho := h.cw.ok i hi.1 hi.2
  have p1 := rOk_part ho (by omega)
  have p2 := rOk_part2 ho (by omega)
  have r1 := h.row (i := s.P (4 * i)) (by omega)
  have r2 := h.row (i := s.P (4 * i + 1)) (by omega)
  have k1 := rOk_k (h.cw.ok (s.P (4 * i)) p1.1 (by omega))
  have k2 := rOk_k (h.cw.ok (s.P (4 * i + 1)) p2.1 (by omega))
  have ha := h.row hi
  rw [rowE1 hk] at ha
  have hT0 := tR_r (pTerm_r h.cw.ok (n := 0) hi.1 hi.2)
  have hT1 := tR_r (pTerm_r h.cw.ok (n := 1) hi.1 hi.2)
  have eC : pEaC s.K s.P i = s.P (4 * s.P (4 * i)) := by unfold pEaC; rw [if_neg (by omega), if_neg (by omega)]
  have eD : pEaD s.K s.P i = s.P (4 * s.P (4 * i) + 1) := by unfold pEaD; rw [if_neg (by omega), if_neg (by omega)]
  have eN : pParts s.K s.P i = true → (pCan s.K s.P i = true ↔ (s.P (4 * s.P (4 * i)) = s.P (4 * s.P (4 * i + 1)) ∧ s.P (4 * s.P (4 * i) + 1) = s.P (4 * s.P (4 * i + 1) + 1))) := fun q => by unfold pCan; rw [if_pos q, if_pos hk, decide_eq_true_eq]
  by_cases hb : bTold (s.P (4 * s.P (4 * i))) (s.P (4 * s.P (4 * i) + 1)) (pTerm s.K s.P i 0) (pTerm s.K s.P i 1) = true
  ·
    refine Ct.of (by decide) (Nat.le_of_ble_eq_true rfl) (fun Γ M => ?_)
    refine j_lv (lv' := [(0, .ref (s.r i.toNat)), (1, .ref s.x)]) rfl ?_
    refine j_aload_n M dX6_eased_0 0 rfl ?_
    refine j_aload_n M dX6_eased_1 1 rfl ?_
    refine j_rV (k_U M (C := "AheadRows$Sum") (xc := ⟨"AheadRows$Both", "isPlain", "(LAheadRows;)Z"⟩) (c_isPlain l X Pr c s hp 0 i [] hi (by omega) h) (rc_of M ha rfl) (lw_U q1093 q1095 q1097 q1094 q106 q1098) rfl ⟨by decide, by decide, ndX6_isPlain.2.2⟩ dX6_eased_2 ⟨by decide, by decide, by decide, by decide⟩ rfl (Nat.le_of_ble_eq_true rfl)) ?_
    refine j_ifneB M 10 dX6_eased_5 (by decide) (fun c_5 => ?_) (fun c_5 => ?_)
    · have hq := pParts_i.mp c_5
      have e1 : s.K (s.P (4 * i)) = 0 := hq.2.1
      have e2 : s.K (s.P (4 * i + 1)) = 0 := hq.2.2 (by omega)
      have ha1 := r1
      rw [rowE0 e1] at ha1
      have ha2 := r2
      rw [rowE0 e2] at ha2
      have t1 := rOk_told (h.cw.ok (s.P (4 * i)) p1.1 (by omega)) e1
      have t2 := rOk_told (h.cw.ok (s.P (4 * i + 1)) p2.1 (by omega)) e2
      refine j_aload_n M dX6_eased_10 1 rfl ?_
      refine j_aload_n M dX6_eased_11 0 rfl ?_
      refine j_get M ha rfl 0 (by decide) in_X7 q373 rfl dX6_eased_12 ?_
      refine j_rV (k_VN M (c_rowOfC l X Pr c s hp _ (by omega) h) (rc_of M hx rfl) q721 q97 q561 qs13 (lw_meth q562) ndX0_rowOf dX6_eased_15 ⟨by decide, by decide, by decide, by decide⟩ rfl (Nat.le_of_ble_eq_true rfl)) ?_
      refine dv_castT M q932 e1 r1 dX6_eased_18 ?_
      refine j_astore_n M dX6_eased_21 (by decide) ?_
      refine j_aload_n M dX6_eased_22 1 rfl ?_
      refine j_aload_n M dX6_eased_23 0 rfl ?_
      refine j_get M ha rfl 1 (by decide) in_X7 q378 rfl dX6_eased_24 ?_
      refine j_rV (k_VN M (c_rowOfC l X Pr c s hp _ (by omega) h) (rc_of M hx rfl) q721 q97 q561 qs13 (lw_meth q562) ndX0_rowOf dX6_eased_27 ⟨by decide, by decide, by decide, by decide⟩ rfl (Nat.le_of_ble_eq_true rfl)) ?_
      refine dv_castT M q932 e2 r2 dX6_eased_30 ?_
      refine j_astore_n M dX6_eased_33 (by decide) ?_
      refine j_aload_n M dX6_eased_34 0 rfl ?_
      refine j_rV (k_A M (C := "AheadRows$Sum") (xc := ⟨"AheadRows$Both", "mix", "()LAheadRows$Mix;"⟩) (c_mixX7 l X hp (s.r i.toNat)) (rc_of M ha rfl) (lw_U q741 q743 q749 q750 q107 q751) q742 ⟨by decide, by decide, ndX7_mix.2.2⟩ dX6_eased_35 ⟨by decide, by decide, by decide, by decide⟩ rfl (Nat.le_of_ble_eq_true rfl)) ?_
      refine j_aload_n M dX6_eased_38 2 rfl ?_
      refine j_aload_n M dX6_eased_39 3 rfl ?_
      refine j_rV (k_AU M (C := "AheadRows$Mix$1") (xc := ⟨"AheadRows$Mix", "isEasy", "(LAheadRows$Told;LAheadRows$Told;)Z"⟩) (c_easyX13 l X hp _ _ _ _ _ _ _ _ _ _ ha1 ha2 (by omega)) (rc_mix0 M) q1099 q1101 q1102 q1103 (lw_meth q1104) q1100 ⟨by decide, by decide, ndX13_isEasy.2.2⟩ dX6_eased_40 ⟨by decide, by decide, by decide, by decide⟩ rfl (Nat.le_of_ble_eq_true rfl)) ?_
      refine j_ifeqB M 74 dX6_eased_43 (by decide) (fun c_43 => ?_) (fun c_43 => ?_)
      · rw [decide_eq_false_iff_not] at c_43
        refine j_aconst_null M dX6_eased_74 ?_
        refine j_aretN M dX6_eased_75 (Or.inl ⟨_, rfl⟩) ⟨by decide, by decide⟩ ?_
        exact EaP.no (fun w => c_43 ((eN c_5).mp w.1))
      · rw [decide_eq_true_eq] at c_43
        refine j_aload_n M dX6_eased_46 1 rfl ?_
        refine j_aload_n M dX6_eased_47 0 rfl ?_
        refine j_rV (k_A M (C := "AheadRows$Sum") (xc := ⟨"AheadRows$Both", "mix", "()LAheadRows$Mix;"⟩) (c_mixX7 l X hp (s.r i.toNat)) (rc_of M ha rfl) (lw_U q741 q743 q749 q750 q107 q751) q742 ⟨by decide, by decide, ndX7_mix.2.2⟩ dX6_eased_48 ⟨by decide, by decide, by decide, by decide⟩ rfl (Nat.le_of_ble_eq_true rfl)) ?_
        refine j_aload_n M dX6_eased_51 2 rfl ?_
        refine j_aload_n M dX6_eased_52 3 rfl ?_
        refine j_run (k_AU M (C := "AheadRows$Mix$1") (xc := ⟨"AheadRows$Mix", "eased", "(LAheadRows$Told;LAheadRows$Told;)LAheadRows$Told;"⟩) (c_eaX13 l X hp _ _ _ _ _ _ ha1) (rc_mix0 M) q1112 q1114 q1115 q1116 (lw_meth q1117) q1113 ⟨by decide, by decide, ndX13_eased.2.2⟩ dX6_eased_53 ⟨by decide, by decide, by decide, by decide⟩ rfl (Nat.le_of_ble_eq_true rfl)) (fun r_53 hp_53 hq_53 => ?_)
        obtain ⟨q5, rfl, hq5, rfl⟩ := hq_53
        have h2 := h.fresh (e := (eX5 (s.P (4 * s.P (4 * i))) (s.P (4 * s.P (4 * i) + 1)) 0 0)) hq5
        have ha5 := h2.row hi
        rw [rowE1 hk] at ha5
        refine j_aload_n M dX6_eased_56 0 rfl ?_
        refine j_aload_n M dX6_eased_57 1 rfl ?_
        refine j_iconst M dX6_eased_58 ?_
        refine j_rV (k_U M (C := "AheadRows$Sum") (xc := ⟨"AheadRows$Both", "exact", "(LAheadRows;I)J"⟩) ((c_exC l X Pr c s _ i 0 hi (by omega) h2).2.1 hk) (rc_of M ha5 rfl) (lw_U q1125 q1788 q1790 q719 q106 q720) rfl ⟨by decide, by decide, ndX6_exact.2.2⟩ dX6_eased_59 ⟨by decide, by decide, by decide, by decide⟩ rfl (Nat.le_of_ble_eq_true rfl)) ?_
        refine j_aload_n M dX6_eased_62 0 rfl ?_
        refine j_aload_n M dX6_eased_63 1 rfl ?_
        refine j_iconst M dX6_eased_64 ?_
        refine j_rV (k_U M (C := "AheadRows$Sum") (xc := ⟨"AheadRows$Both", "exact", "(LAheadRows;I)J"⟩) ((c_exC l X Pr c s _ i 1 hi (by omega) h2).2.1 hk) (rc_of M ha5 rfl) (lw_U q1125 q1788 q1790 q719 q106 q720) rfl ⟨by decide, by decide, ndX6_exact.2.2⟩ dX6_eased_65 ⟨by decide, by decide, by decide, by decide⟩ rfl (Nat.le_of_ble_eq_true rfl)) ?_
        refine j_run (k_VN M (c_withTerms l X _ q5 _ _ _ _ s.x (hup_s _ _ _) (by omega) (by omega) (by omega) (by omega)) (rc_of M h2.cw.hx rfl) q1126 q97 q1088 qs26 (lw_meth q1089) ndX0_withTerms dX6_eased_68 ⟨by decide, by decide, by decide, by decide⟩ rfl (Nat.le_of_ble_eq_true rfl)) (fun r_68 hp_68 hq_68 => ?_)
        obtain ⟨rfl, rfl⟩ := hq_68.1 hb
        rw [hup_hup]
        refine j_goto M 75 dX6_eased_71 (by decide) ?_
        refine j_aret M dX6_eased_75 (Or.inl ⟨_, rfl⟩) ⟨by decide, by decide⟩ ?_
        refine ⟨hup_ext hq5, fun _ => ⟨q5, rfl, hq5, ?_⟩, fun w => absurd ⟨(eN c_5).mpr c_43, by rw [eC, eD]; exact hb⟩ w⟩
        rw [hup_s, eC, eD]
    · have hpp := c_5
      refine j_aconst_null M dX6_eased_8 ?_
      refine j_aretN M dX6_eased_9 (Or.inl ⟨_, rfl⟩) ⟨by decide, by decide⟩ ?_
      exact EaP.no (pCan_no c_5)
  ·
    refine Ct.of (by decide) (Nat.le_of_ble_eq_true rfl) (fun Γ M => ?_)
    refine j_lv (lv' := [(0, .ref (s.r i.toNat)), (1, .ref s.x)]) rfl ?_
    refine j_aload_n M dX6_eased_0 0 rfl ?_
    refine j_aload_n M dX6_eased_1 1 rfl ?_
    refine j_rV (k_U M (C := "AheadRows$Sum") (xc := ⟨"AheadRows$Both", "isPlain", "(LAheadRows;)Z"⟩) (c_isPlain l X Pr c s hp 0 i [] hi (by omega) h) (rc_of M ha rfl) (lw_U q1093 q1095 q1097 q1094 q106 q1098) rfl ⟨by decide, by decide, ndX6_isPlain.2.2⟩ dX6_eased_2 ⟨by decide, by decide, by decide, by decide⟩ rfl (Nat.le_of_ble_eq_true rfl)) ?_
    refine j_ifneB M 10 dX6_eased_5 (by decide) (fun c_5 => ?_) (fun c_5 => ?_)
    · have hq := pParts_i.mp c_5
      have e1 : s.K (s.P (4 * i)) = 0 := hq.2.1
      have e2 : s.K (s.P (4 * i + 1)) = 0 := hq.2.2 (by omega)
      have ha1 := r1
      rw [rowE0 e1] at ha1
      have ha2 := r2
      rw [rowE0 e2] at ha2
      have t1 := rOk_told (h.cw.ok (s.P (4 * i)) p1.1 (by omega)) e1
      have t2 := rOk_told (h.cw.ok (s.P (4 * i + 1)) p2.1 (by omega)) e2
      refine j_aload_n M dX6_eased_10 1 rfl ?_
      refine j_aload_n M dX6_eased_11 0 rfl ?_
      refine j_get M ha rfl 0 (by decide) in_X7 q373 rfl dX6_eased_12 ?_
      refine j_rV (k_VN M (c_rowOfC l X Pr c s hp _ (by omega) h) (rc_of M hx rfl) q721 q97 q561 qs13 (lw_meth q562) ndX0_rowOf dX6_eased_15 ⟨by decide, by decide, by decide, by decide⟩ rfl (Nat.le_of_ble_eq_true rfl)) ?_
      refine dv_castT M q932 e1 r1 dX6_eased_18 ?_
      refine j_astore_n M dX6_eased_21 (by decide) ?_
      refine j_aload_n M dX6_eased_22 1 rfl ?_
      refine j_aload_n M dX6_eased_23 0 rfl ?_
      refine j_get M ha rfl 1 (by decide) in_X7 q378 rfl dX6_eased_24 ?_
      refine j_rV (k_VN M (c_rowOfC l X Pr c s hp _ (by omega) h) (rc_of M hx rfl) q721 q97 q561 qs13 (lw_meth q562) ndX0_rowOf dX6_eased_27 ⟨by decide, by decide, by decide, by decide⟩ rfl (Nat.le_of_ble_eq_true rfl)) ?_
      refine dv_castT M q932 e2 r2 dX6_eased_30 ?_
      refine j_astore_n M dX6_eased_33 (by decide) ?_
      refine j_aload_n M dX6_eased_34 0 rfl ?_
      refine j_rV (k_A M (C := "AheadRows$Sum") (xc := ⟨"AheadRows$Both", "mix", "()LAheadRows$Mix;"⟩) (c_mixX7 l X hp (s.r i.toNat)) (rc_of M ha rfl) (lw_U q741 q743 q749 q750 q107 q751) q742 ⟨by decide, by decide, ndX7_mix.2.2⟩ dX6_eased_35 ⟨by decide, by decide, by decide, by decide⟩ rfl (Nat.le_of_ble_eq_true rfl)) ?_
      refine j_aload_n M dX6_eased_38 2 rfl ?_
      refine j_aload_n M dX6_eased_39 3 rfl ?_
      refine j_rV (k_AU M (C := "AheadRows$Mix$1") (xc := ⟨"AheadRows$Mix", "isEasy", "(LAheadRows$Told;LAheadRows$Told;)Z"⟩) (c_easyX13 l X hp _ _ _ _ _ _ _ _ _ _ ha1 ha2 (by omega)) (rc_mix0 M) q1099 q1101 q1102 q1103 (lw_meth q1104) q1100 ⟨by decide, by decide, ndX13_isEasy.2.2⟩ dX6_eased_40 ⟨by decide, by decide, by decide, by decide⟩ rfl (Nat.le_of_ble_eq_true rfl)) ?_
      refine j_ifeqB M 74 dX6_eased_43 (by decide) (fun c_43 => ?_) (fun c_43 => ?_)
      · rw [decide_eq_false_iff_not] at c_43
        refine j_aconst_null M dX6_eased_74 ?_
        refine j_aretN M dX6_eased_75 (Or.inl ⟨_, rfl⟩) ⟨by decide, by decide⟩ ?_
        exact EaP.no (fun w => c_43 ((eN c_5).mp w.1))
      · rw [decide_eq_true_eq] at c_43
        refine j_aload_n M dX6_eased_46 1 rfl ?_
        refine j_aload_n M dX6_eased_47 0 rfl ?_
        refine j_rV (k_A M (C := "AheadRows$Sum") (xc := ⟨"AheadRows$Both", "mix", "()LAheadRows$Mix;"⟩) (c_mixX7 l X hp (s.r i.toNat)) (rc_of M ha rfl) (lw_U q741 q743 q749 q750 q107 q751) q742 ⟨by decide, by decide, ndX7_mix.2.2⟩ dX6_eased_48 ⟨by decide, by decide, by decide, by decide⟩ rfl (Nat.le_of_ble_eq_true rfl)) ?_
        refine j_aload_n M dX6_eased_51 2 rfl ?_
        refine j_aload_n M dX6_eased_52 3 rfl ?_
        refine j_run (k_AU M (C := "AheadRows$Mix$1") (xc := ⟨"AheadRows$Mix", "eased", "(LAheadRows$Told;LAheadRows$Told;)LAheadRows$Told;"⟩) (c_eaX13 l X hp _ _ _ _ _ _ ha1) (rc_mix0 M) q1112 q1114 q1115 q1116 (lw_meth q1117) q1113 ⟨by decide, by decide, ndX13_eased.2.2⟩ dX6_eased_53 ⟨by decide, by decide, by decide, by decide⟩ rfl (Nat.le_of_ble_eq_true rfl)) (fun r_53 hp_53 hq_53 => ?_)
        obtain ⟨q5, rfl, hq5, rfl⟩ := hq_53
        have h2 := h.fresh (e := (eX5 (s.P (4 * s.P (4 * i))) (s.P (4 * s.P (4 * i) + 1)) 0 0)) hq5
        have ha5 := h2.row hi
        rw [rowE1 hk] at ha5
        refine j_aload_n M dX6_eased_56 0 rfl ?_
        refine j_aload_n M dX6_eased_57 1 rfl ?_
        refine j_iconst M dX6_eased_58 ?_
        refine j_rV (k_U M (C := "AheadRows$Sum") (xc := ⟨"AheadRows$Both", "exact", "(LAheadRows;I)J"⟩) ((c_exC l X Pr c s _ i 0 hi (by omega) h2).2.1 hk) (rc_of M ha5 rfl) (lw_U q1125 q1788 q1790 q719 q106 q720) rfl ⟨by decide, by decide, ndX6_exact.2.2⟩ dX6_eased_59 ⟨by decide, by decide, by decide, by decide⟩ rfl (Nat.le_of_ble_eq_true rfl)) ?_
        refine j_aload_n M dX6_eased_62 0 rfl ?_
        refine j_aload_n M dX6_eased_63 1 rfl ?_
        refine j_iconst M dX6_eased_64 ?_
        refine j_rV (k_U M (C := "AheadRows$Sum") (xc := ⟨"AheadRows$Both", "exact", "(LAheadRows;I)J"⟩) ((c_exC l X Pr c s _ i 1 hi (by omega) h2).2.1 hk) (rc_of M ha5 rfl) (lw_U q1125 q1788 q1790 q719 q106 q720) rfl ⟨by decide, by decide, ndX6_exact.2.2⟩ dX6_eased_65 ⟨by decide, by decide, by decide, by decide⟩ rfl (Nat.le_of_ble_eq_true rfl)) ?_
        refine j_run (k_VN M (c_withTerms l X _ q5 _ _ _ _ s.x (hup_s _ _ _) (by omega) (by omega) (by omega) (by omega)) (rc_of M h2.cw.hx rfl) q1126 q97 q1088 qs26 (lw_meth q1089) ndX0_withTerms dX6_eased_68 ⟨by decide, by decide, by decide, by decide⟩ rfl (Nat.le_of_ble_eq_true rfl)) (fun r_68 hp_68 hq_68 => ?_)
        obtain ⟨rfl, rfl⟩ := hq_68.2 (by rw [Bool.not_eq_true] at hb; exact hb)
        refine j_goto M 75 dX6_eased_71 (by decide) ?_
        refine j_aretN M dX6_eased_75 (Or.inl ⟨_, rfl⟩) ⟨by decide, by decide⟩ ?_
        exact ⟨hup_ext hq5, fun w => absurd (by have w2 := w.2; rw [eC, eD] at w2; exact w2) hb, fun _ => rfl⟩
    · have hpp := c_5
      refine j_aconst_null M dX6_eased_8 ?_
      refine j_aretN M dX6_eased_9 (Or.inl ⟨_, rfl⟩) ⟨by decide, by decide⟩ ?_
      exact EaP.no (pCan_no c_5)
theorem c_eaX8 (i : Int) (hi : 0 ≤ i ∧ i < s.N) (hk : s.K i = 2) (h : CI X Pr c s hp) : Ct l X yX6_eased cX6_eased 4 (some (.object "AheadRows$Told")) (rC 14 2 9) [.ref (s.r i.toNat), .ref s.x] hp (EaP X hp s.K s.P i) := by
  have h8 := h.n
  have hx := h.cw.hx
  have ho := h.cw.ok i hi.1 hi.2
  have p1 := rOk_part ho (by omega)
  have p2 := rOk_part2 ho (by omega)
  have r1 := h.row (i := s.P (4 * i)) (by omega)
  have r2 := h.row (i := s.P (4 * i + 1)) (by omega)
  have k1 := rOk_k (h.cw.ok (s.P (4 * i)) p1.1 (by omega))
  have k2 := rOk_k (h.cw.ok (s.P (4 * i + 1)) p2.1 (by omega))
  have ha := h.row hi
  rw [rowE2 hk] at ha
  have hT0 := tR_r (pTerm_r h.cw.ok (n := 0) hi.1 hi.2)
  have hT1 := tR_r (pTerm_r h.cw.ok (n := 1) hi.1 hi.2)
  have eC : pEaC s.K s.P i = s.P (4 * s.P (4 * i)) * s.P (4 * s.P (4 * i + 1)) := by unfold pEaC; rw [if_pos hk]
  have eN : pParts s.K s.P i = true → (pCan s.K s.P i = true ↔ ((s.P (4 * s.P (4 * i) + 1) = 0 ∧ s.P (4 * s.P (4 * i) + 3) = s.P (4 * s.P (4 * i)) * s.P (4 * s.P (4 * i) + 2)) ∨ (s.P (4 * s.P (4 * i + 1) + 1) = 0 ∧ s.P (4 * s.P (4 * i + 1) + 3) = s.P (4 * s.P (4 * i + 1)) * s.P (4 * s.P (4 * i + 1) + 2)))) := fun q => by
    unfold pCan; rw [if_pos q, if_neg (by omega), if_pos hk, decide_eq_true_eq]
    unfold pIn2 pPwr
    by_cases z1 : s.P (4 * s.P (4 * i) + 1) = 0 ∧ s.P (4 * s.P (4 * i) + 3) = s.P (4 * s.P (4 * i)) * s.P (4 * s.P (4 * i) + 2)
    · rw [if_pos (by rw [decide_eq_true_eq]; exact z1)]
      exact ⟨fun _ => Or.inl z1, fun _ => by omega⟩
    · rw [if_neg (by rw [decide_eq_true_eq]; exact z1)]
      by_cases z2 : s.P (4 * s.P (4 * i + 1) + 1) = 0 ∧ s.P (4 * s.P (4 * i + 1) + 3) = s.P (4 * s.P (4 * i + 1)) * s.P (4 * s.P (4 * i + 1) + 2)
      · rw [if_pos (by rw [decide_eq_true_eq]; exact z2)]
        exact ⟨fun _ => Or.inr z2, fun _ => by omega⟩
      · rw [if_neg (by rw [decide_eq_true_eq]; exact z2)]
        exact ⟨fun w => absurd rfl w, fun w => by rcases w with w | w; exact absurd w z1; exact absurd w z2⟩
  have eD1 : (s.P (4 * s.P (4 * i) + 1) = 0 ∧ s.P (4 * s.P (4 * i) + 3) = s.P (4 * s.P (4 * i)) * s.P (4 * s.P (4 * i) + 2)) → pEaD s.K s.P i = s.P (4 * s.P (4 * i)) * s.P (4 * s.P (4 * i)) * s.P (4 * s.P (4 * i + 1) + 1) := fun z1 => by
    have e2 : pIn2 s.P i = s.P (4 * i) := by unfold pIn2 pPwr; rw [if_pos (by rw [decide_eq_true_eq]; exact z1)]
    unfold pEaD; rw [if_pos hk, e2, show s.P (4 * i) + s.P (4 * i + 1) - s.P (4 * i) = s.P (4 * i + 1) by omega]
  have eD2 : ¬ (s.P (4 * s.P (4 * i) + 1) = 0 ∧ s.P (4 * s.P (4 * i) + 3) = s.P (4 * s.P (4 * i)) * s.P (4 * s.P (4 * i) + 2)) → (s.P (4 * s.P (4 * i + 1) + 1) = 0 ∧ s.P (4 * s.P (4 * i + 1) + 3) = s.P (4 * s.P (4 * i + 1)) * s.P (4 * s.P (4 * i + 1) + 2)) → pEaD s.K s.P i = s.P (4 * s.P (4 * i + 1)) * s.P (4 * s.P (4 * i + 1)) * s.P (4 * s.P (4 * i) + 1) := fun z1 z2 => by
    have e2 : pIn2 s.P i = s.P (4 * i + 1) := by unfold pIn2 pPwr; rw [if_neg (by rw [decide_eq_true_eq]; exact z1), if_pos (by rw [decide_eq_true_eq]; exact z2)]
    unfold pEaD; rw [if_pos hk, e2, show s.P (4 * i) + s.P (4 * i + 1) - s.P (4 * i + 1) = s.P (4 * i) by omega]
  by_cases hz : s.P (4 * s.P (4 * i) + 1) = 0 ∧ s.P (4 * s.P (4 * i) + 3) = s.P (4 * s.P (4 * i)) * s.P (4 * s.P (4 * i) + 2)
  ·
    by_cases hb : bTold (s.P (4 * s.P (4 * i)) * s.P (4 * s.P (4 * i + 1))) (s.P (4 * s.P (4 * i)) * s.P (4 * s.P (4 * i)) * s.P (4 * s.P (4 * i + 1) + 1)) (pTerm s.K s.P i 0) (pTerm s.K s.P i 1) = true
    ·
      refine Ct.of (by decide) (Nat.le_of_ble_eq_true rfl) (fun Γ M => ?_)
      refine j_lv (lv' := [(0, .ref (s.r i.toNat)), (1, .ref s.x)]) rfl ?_
      refine j_aload_n M dX6_eased_0 0 rfl ?_
      refine j_aload_n M dX6_eased_1 1 rfl ?_
      refine j_rV (k_U M (C := "AheadRows$Product") (xc := ⟨"AheadRows$Both", "isPlain", "(LAheadRows;)Z"⟩) (c_isPlain l X Pr c s hp 0 i [] hi (by omega) h) (rc_of M ha rfl) (lw_U q1093 q1095 q1096 q1094 q106 q1098) rfl ⟨by decide, by decide, ndX6_isPlain.2.2⟩ dX6_eased_2 ⟨by decide, by decide, by decide, by decide⟩ rfl (Nat.le_of_ble_eq_true rfl)) ?_
      refine j_ifneB M 10 dX6_eased_5 (by decide) (fun c_5 => ?_) (fun c_5 => ?_)
      · have hq := pParts_i.mp c_5
        have e1 : s.K (s.P (4 * i)) = 0 := hq.2.1
        have e2 : s.K (s.P (4 * i + 1)) = 0 := hq.2.2 (by omega)
        have ha1 := r1
        rw [rowE0 e1] at ha1
        have ha2 := r2
        rw [rowE0 e2] at ha2
        have t1 := rOk_told (h.cw.ok (s.P (4 * i)) p1.1 (by omega)) e1
        have t2 := rOk_told (h.cw.ok (s.P (4 * i + 1)) p2.1 (by omega)) e2
        have m1 := mul_bd 9 9 (a := s.P (4 * s.P (4 * i))) (b := s.P (4 * s.P (4 * i + 1))) t1.1 t2.1
        have m2 := mul_bd 9 9 (a := s.P (4 * s.P (4 * i))) (b := s.P (4 * s.P (4 * i))) t1.1 t1.1
        have m3 := mul_bd 81 9 (a := s.P (4 * s.P (4 * i)) * s.P (4 * s.P (4 * i))) (b := s.P (4 * s.P (4 * i + 1) + 1)) (by omega) t2.2.1
        have m4 := mul_bd 9 9 (a := s.P (4 * s.P (4 * i + 1))) (b := s.P (4 * s.P (4 * i))) t2.1 t1.1
        have m5 := mul_bd 9 9 (a := s.P (4 * s.P (4 * i + 1))) (b := s.P (4 * s.P (4 * i + 1))) t2.1 t2.1
        have m6 := mul_bd 81 9 (a := s.P (4 * s.P (4 * i + 1)) * s.P (4 * s.P (4 * i + 1))) (b := s.P (4 * s.P (4 * i) + 1)) (by omega) t1.2.1
        refine j_aload_n M dX6_eased_10 1 rfl ?_
        refine j_aload_n M dX6_eased_11 0 rfl ?_
        refine j_get M ha rfl 0 (by decide) in_X8 q373 rfl dX6_eased_12 ?_
        refine j_rV (k_VN M (c_rowOfC l X Pr c s hp _ (by omega) h) (rc_of M hx rfl) q721 q97 q561 qs13 (lw_meth q562) ndX0_rowOf dX6_eased_15 ⟨by decide, by decide, by decide, by decide⟩ rfl (Nat.le_of_ble_eq_true rfl)) ?_
        refine dv_castT M q932 e1 r1 dX6_eased_18 ?_
        refine j_astore_n M dX6_eased_21 (by decide) ?_
        refine j_aload_n M dX6_eased_22 1 rfl ?_
        refine j_aload_n M dX6_eased_23 0 rfl ?_
        refine j_get M ha rfl 1 (by decide) in_X8 q378 rfl dX6_eased_24 ?_
        refine j_rV (k_VN M (c_rowOfC l X Pr c s hp _ (by omega) h) (rc_of M hx rfl) q721 q97 q561 qs13 (lw_meth q562) ndX0_rowOf dX6_eased_27 ⟨by decide, by decide, by decide, by decide⟩ rfl (Nat.le_of_ble_eq_true rfl)) ?_
        refine dv_castT M q932 e2 r2 dX6_eased_30 ?_
        refine j_astore_n M dX6_eased_33 (by decide) ?_
        refine j_aload_n M dX6_eased_34 0 rfl ?_
        refine j_rV (k_A M (C := "AheadRows$Product") (xc := ⟨"AheadRows$Both", "mix", "()LAheadRows$Mix;"⟩) (c_mixX8 l X hp (s.r i.toNat)) (rc_of M ha rfl) (lw_U q741 q743 q744 q745 q108 q746) q742 ⟨by decide, by decide, ndX8_mix.2.2⟩ dX6_eased_35 ⟨by decide, by decide, by decide, by decide⟩ rfl (Nat.le_of_ble_eq_true rfl)) ?_
        refine j_aload_n M dX6_eased_38 2 rfl ?_
        refine j_aload_n M dX6_eased_39 3 rfl ?_
        refine j_rV (k_AU M (C := "AheadRows$Mix$2") (xc := ⟨"AheadRows$Mix", "isEasy", "(LAheadRows$Told;LAheadRows$Told;)Z"⟩) (c_easyX14 l X hp _ _ _ _ _ _ _ _ _ _ ha1 ha2 t1.1 t1.2.1 t1.2.2.1 t1.2.2.2 t2.1 t2.2.1 t2.2.2.1 t2.2.2.2) (rc_mix1 M) q1099 q1101 q1105 q1106 (lw_meth q1107) q1100 ⟨by decide, by decide, ndX14_isEasy.2.2⟩ dX6_eased_40 ⟨by decide, by decide, by decide, by decide⟩ rfl (Nat.le_of_ble_eq_true rfl)) ?_
        refine j_ifeqB M 74 dX6_eased_43 (by decide) (fun c_43 => ?_) (fun c_43 => ?_)
        · rw [decide_eq_false_iff_not] at c_43
          refine j_aconst_null M dX6_eased_74 ?_
          refine j_aretN M dX6_eased_75 (Or.inl ⟨_, rfl⟩) ⟨by decide, by decide⟩ ?_
          exact EaP.no (fun w => c_43 ((eN c_5).mp w.1))
        · rw [decide_eq_true_eq] at c_43
          refine j_aload_n M dX6_eased_46 1 rfl ?_
          refine j_aload_n M dX6_eased_47 0 rfl ?_
          refine j_rV (k_A M (C := "AheadRows$Product") (xc := ⟨"AheadRows$Both", "mix", "()LAheadRows$Mix;"⟩) (c_mixX8 l X hp (s.r i.toNat)) (rc_of M ha rfl) (lw_U q741 q743 q744 q745 q108 q746) q742 ⟨by decide, by decide, ndX8_mix.2.2⟩ dX6_eased_48 ⟨by decide, by decide, by decide, by decide⟩ rfl (Nat.le_of_ble_eq_true rfl)) ?_
          refine j_aload_n M dX6_eased_51 2 rfl ?_
          refine j_aload_n M dX6_eased_52 3 rfl ?_
          refine j_run (k_AU M (C := "AheadRows$Mix$2") (xc := ⟨"AheadRows$Mix", "eased", "(LAheadRows$Told;LAheadRows$Told;)LAheadRows$Told;"⟩) (c_eaX14a l X hp _ _ _ _ _ _ _ _ _ _ ha1 ha2 t1.1 t1.2.1 t1.2.2.1 t1.2.2.2 hz) (rc_mix1 M) q1112 q1114 q1120 q1121 (lw_meth q1122) q1113 ⟨by decide, by decide, ndX14_eased.2.2⟩ dX6_eased_53 ⟨by decide, by decide, by decide, by decide⟩ rfl (Nat.le_of_ble_eq_true rfl)) (fun r_53 hp_53 hq_53 => ?_)
          obtain ⟨q5, rfl, hq5, rfl⟩ := hq_53
          have h2 := h.fresh (e := (eX5 (s.P (4 * s.P (4 * i)) * s.P (4 * s.P (4 * i + 1))) (s.P (4 * s.P (4 * i)) * s.P (4 * s.P (4 * i)) * s.P (4 * s.P (4 * i + 1) + 1)) 0 0)) hq5
          have ha5 := h2.row hi
          rw [rowE2 hk] at ha5
          refine j_aload_n M dX6_eased_56 0 rfl ?_
          refine j_aload_n M dX6_eased_57 1 rfl ?_
          refine j_iconst M dX6_eased_58 ?_
          refine j_rV (k_U M (C := "AheadRows$Product") (xc := ⟨"AheadRows$Both", "exact", "(LAheadRows;I)J"⟩) ((c_exC l X Pr c s _ i 0 hi (by omega) h2).2.2.1 hk) (rc_of M ha5 rfl) (lw_U q1125 q1788 q1789 q719 q106 q720) rfl ⟨by decide, by decide, ndX6_exact.2.2⟩ dX6_eased_59 ⟨by decide, by decide, by decide, by decide⟩ rfl (Nat.le_of_ble_eq_true rfl)) ?_
          refine j_aload_n M dX6_eased_62 0 rfl ?_
          refine j_aload_n M dX6_eased_63 1 rfl ?_
          refine j_iconst M dX6_eased_64 ?_
          refine j_rV (k_U M (C := "AheadRows$Product") (xc := ⟨"AheadRows$Both", "exact", "(LAheadRows;I)J"⟩) ((c_exC l X Pr c s _ i 1 hi (by omega) h2).2.2.1 hk) (rc_of M ha5 rfl) (lw_U q1125 q1788 q1789 q719 q106 q720) rfl ⟨by decide, by decide, ndX6_exact.2.2⟩ dX6_eased_65 ⟨by decide, by decide, by decide, by decide⟩ rfl (Nat.le_of_ble_eq_true rfl)) ?_
          refine j_run (k_VN M (c_withTerms l X _ q5 _ _ _ _ s.x (hup_s _ _ _) (by omega) (by omega) (by omega) (by omega)) (rc_of M h2.cw.hx rfl) q1126 q97 q1088 qs26 (lw_meth q1089) ndX0_withTerms dX6_eased_68 ⟨by decide, by decide, by decide, by decide⟩ rfl (Nat.le_of_ble_eq_true rfl)) (fun r_68 hp_68 hq_68 => ?_)
          obtain ⟨rfl, rfl⟩ := hq_68.1 hb
          rw [hup_hup]
          refine j_goto M 75 dX6_eased_71 (by decide) ?_
          refine j_aret M dX6_eased_75 (Or.inl ⟨_, rfl⟩) ⟨by decide, by decide⟩ ?_
          refine ⟨hup_ext hq5, fun _ => ⟨q5, rfl, hq5, ?_⟩, fun w => absurd ⟨(eN c_5).mpr c_43, by rw [eC, eD1 hz]; exact hb⟩ w⟩
          rw [hup_s, eC, eD1 hz]
      · have hpp := c_5
        refine j_aconst_null M dX6_eased_8 ?_
        refine j_aretN M dX6_eased_9 (Or.inl ⟨_, rfl⟩) ⟨by decide, by decide⟩ ?_
        exact EaP.no (pCan_no c_5)
    ·
      refine Ct.of (by decide) (Nat.le_of_ble_eq_true rfl) (fun Γ M => ?_)
      refine j_lv (lv' := [(0, .ref (s.r i.toNat)), (1, .ref s.x)]) rfl ?_
      refine j_aload_n M dX6_eased_0 0 rfl ?_
      refine j_aload_n M dX6_eased_1 1 rfl ?_
      refine j_rV (k_U M (C := "AheadRows$Product") (xc := ⟨"AheadRows$Both", "isPlain", "(LAheadRows;)Z"⟩) (c_isPlain l X Pr c s hp 0 i [] hi (by omega) h) (rc_of M ha rfl) (lw_U q1093 q1095 q1096 q1094 q106 q1098) rfl ⟨by decide, by decide, ndX6_isPlain.2.2⟩ dX6_eased_2 ⟨by decide, by decide, by decide, by decide⟩ rfl (Nat.le_of_ble_eq_true rfl)) ?_
      refine j_ifneB M 10 dX6_eased_5 (by decide) (fun c_5 => ?_) (fun c_5 => ?_)
      · have hq := pParts_i.mp c_5
        have e1 : s.K (s.P (4 * i)) = 0 := hq.2.1
        have e2 : s.K (s.P (4 * i + 1)) = 0 := hq.2.2 (by omega)
        have ha1 := r1
        rw [rowE0 e1] at ha1
        have ha2 := r2
        rw [rowE0 e2] at ha2
        have t1 := rOk_told (h.cw.ok (s.P (4 * i)) p1.1 (by omega)) e1
        have t2 := rOk_told (h.cw.ok (s.P (4 * i + 1)) p2.1 (by omega)) e2
        have m1 := mul_bd 9 9 (a := s.P (4 * s.P (4 * i))) (b := s.P (4 * s.P (4 * i + 1))) t1.1 t2.1
        have m2 := mul_bd 9 9 (a := s.P (4 * s.P (4 * i))) (b := s.P (4 * s.P (4 * i))) t1.1 t1.1
        have m3 := mul_bd 81 9 (a := s.P (4 * s.P (4 * i)) * s.P (4 * s.P (4 * i))) (b := s.P (4 * s.P (4 * i + 1) + 1)) (by omega) t2.2.1
        have m4 := mul_bd 9 9 (a := s.P (4 * s.P (4 * i + 1))) (b := s.P (4 * s.P (4 * i))) t2.1 t1.1
        have m5 := mul_bd 9 9 (a := s.P (4 * s.P (4 * i + 1))) (b := s.P (4 * s.P (4 * i + 1))) t2.1 t2.1
        have m6 := mul_bd 81 9 (a := s.P (4 * s.P (4 * i + 1)) * s.P (4 * s.P (4 * i + 1))) (b := s.P (4 * s.P (4 * i) + 1)) (by omega) t1.2.1
        refine j_aload_n M dX6_eased_10 1 rfl ?_
        refine j_aload_n M dX6_eased_11 0 rfl ?_
        refine j_get M ha rfl 0 (by decide) in_X8 q373 rfl dX6_eased_12 ?_
        refine j_rV (k_VN M (c_rowOfC l X Pr c s hp _ (by omega) h) (rc_of M hx rfl) q721 q97 q561 qs13 (lw_meth q562) ndX0_rowOf dX6_eased_15 ⟨by decide, by decide, by decide, by decide⟩ rfl (Nat.le_of_ble_eq_true rfl)) ?_
        refine dv_castT M q932 e1 r1 dX6_eased_18 ?_
        refine j_astore_n M dX6_eased_21 (by decide) ?_
        refine j_aload_n M dX6_eased_22 1 rfl ?_
        refine j_aload_n M dX6_eased_23 0 rfl ?_
        refine j_get M ha rfl 1 (by decide) in_X8 q378 rfl dX6_eased_24 ?_
        refine j_rV (k_VN M (c_rowOfC l X Pr c s hp _ (by omega) h) (rc_of M hx rfl) q721 q97 q561 qs13 (lw_meth q562) ndX0_rowOf dX6_eased_27 ⟨by decide, by decide, by decide, by decide⟩ rfl (Nat.le_of_ble_eq_true rfl)) ?_
        refine dv_castT M q932 e2 r2 dX6_eased_30 ?_
        refine j_astore_n M dX6_eased_33 (by decide) ?_
        refine j_aload_n M dX6_eased_34 0 rfl ?_
        refine j_rV (k_A M (C := "AheadRows$Product") (xc := ⟨"AheadRows$Both", "mix", "()LAheadRows$Mix;"⟩) (c_mixX8 l X hp (s.r i.toNat)) (rc_of M ha rfl) (lw_U q741 q743 q744 q745 q108 q746) q742 ⟨by decide, by decide, ndX8_mix.2.2⟩ dX6_eased_35 ⟨by decide, by decide, by decide, by decide⟩ rfl (Nat.le_of_ble_eq_true rfl)) ?_
        refine j_aload_n M dX6_eased_38 2 rfl ?_
        refine j_aload_n M dX6_eased_39 3 rfl ?_
        refine j_rV (k_AU M (C := "AheadRows$Mix$2") (xc := ⟨"AheadRows$Mix", "isEasy", "(LAheadRows$Told;LAheadRows$Told;)Z"⟩) (c_easyX14 l X hp _ _ _ _ _ _ _ _ _ _ ha1 ha2 t1.1 t1.2.1 t1.2.2.1 t1.2.2.2 t2.1 t2.2.1 t2.2.2.1 t2.2.2.2) (rc_mix1 M) q1099 q1101 q1105 q1106 (lw_meth q1107) q1100 ⟨by decide, by decide, ndX14_isEasy.2.2⟩ dX6_eased_40 ⟨by decide, by decide, by decide, by decide⟩ rfl (Nat.le_of_ble_eq_true rfl)) ?_
        refine j_ifeqB M 74 dX6_eased_43 (by decide) (fun c_43 => ?_) (fun c_43 => ?_)
        · rw [decide_eq_false_iff_not] at c_43
          refine j_aconst_null M dX6_eased_74 ?_
          refine j_aretN M dX6_eased_75 (Or.inl ⟨_, rfl⟩) ⟨by decide, by decide⟩ ?_
          exact EaP.no (fun w => c_43 ((eN c_5).mp w.1))
        · rw [decide_eq_true_eq] at c_43
          refine j_aload_n M dX6_eased_46 1 rfl ?_
          refine j_aload_n M dX6_eased_47 0 rfl ?_
          refine j_rV (k_A M (C := "AheadRows$Product") (xc := ⟨"AheadRows$Both", "mix", "()LAheadRows$Mix;"⟩) (c_mixX8 l X hp (s.r i.toNat)) (rc_of M ha rfl) (lw_U q741 q743 q744 q745 q108 q746) q742 ⟨by decide, by decide, ndX8_mix.2.2⟩ dX6_eased_48 ⟨by decide, by decide, by decide, by decide⟩ rfl (Nat.le_of_ble_eq_true rfl)) ?_
          refine j_aload_n M dX6_eased_51 2 rfl ?_
          refine j_aload_n M dX6_eased_52 3 rfl ?_
          refine j_run (k_AU M (C := "AheadRows$Mix$2") (xc := ⟨"AheadRows$Mix", "eased", "(LAheadRows$Told;LAheadRows$Told;)LAheadRows$Told;"⟩) (c_eaX14a l X hp _ _ _ _ _ _ _ _ _ _ ha1 ha2 t1.1 t1.2.1 t1.2.2.1 t1.2.2.2 hz) (rc_mix1 M) q1112 q1114 q1120 q1121 (lw_meth q1122) q1113 ⟨by decide, by decide, ndX14_eased.2.2⟩ dX6_eased_53 ⟨by decide, by decide, by decide, by decide⟩ rfl (Nat.le_of_ble_eq_true rfl)) (fun r_53 hp_53 hq_53 => ?_)
          obtain ⟨q5, rfl, hq5, rfl⟩ := hq_53
          have h2 := h.fresh (e := (eX5 (s.P (4 * s.P (4 * i)) * s.P (4 * s.P (4 * i + 1))) (s.P (4 * s.P (4 * i)) * s.P (4 * s.P (4 * i)) * s.P (4 * s.P (4 * i + 1) + 1)) 0 0)) hq5
          have ha5 := h2.row hi
          rw [rowE2 hk] at ha5
          refine j_aload_n M dX6_eased_56 0 rfl ?_
          refine j_aload_n M dX6_eased_57 1 rfl ?_
          refine j_iconst M dX6_eased_58 ?_
          refine j_rV (k_U M (C := "AheadRows$Product") (xc := ⟨"AheadRows$Both", "exact", "(LAheadRows;I)J"⟩) ((c_exC l X Pr c s _ i 0 hi (by omega) h2).2.2.1 hk) (rc_of M ha5 rfl) (lw_U q1125 q1788 q1789 q719 q106 q720) rfl ⟨by decide, by decide, ndX6_exact.2.2⟩ dX6_eased_59 ⟨by decide, by decide, by decide, by decide⟩ rfl (Nat.le_of_ble_eq_true rfl)) ?_
          refine j_aload_n M dX6_eased_62 0 rfl ?_
          refine j_aload_n M dX6_eased_63 1 rfl ?_
          refine j_iconst M dX6_eased_64 ?_
          refine j_rV (k_U M (C := "AheadRows$Product") (xc := ⟨"AheadRows$Both", "exact", "(LAheadRows;I)J"⟩) ((c_exC l X Pr c s _ i 1 hi (by omega) h2).2.2.1 hk) (rc_of M ha5 rfl) (lw_U q1125 q1788 q1789 q719 q106 q720) rfl ⟨by decide, by decide, ndX6_exact.2.2⟩ dX6_eased_65 ⟨by decide, by decide, by decide, by decide⟩ rfl (Nat.le_of_ble_eq_true rfl)) ?_
          refine j_run (k_VN M (c_withTerms l X _ q5 _ _ _ _ s.x (hup_s _ _ _) (by omega) (by omega) (by omega) (by omega)) (rc_of M h2.cw.hx rfl) q1126 q97 q1088 qs26 (lw_meth q1089) ndX0_withTerms dX6_eased_68 ⟨by decide, by decide, by decide, by decide⟩ rfl (Nat.le_of_ble_eq_true rfl)) (fun r_68 hp_68 hq_68 => ?_)
          obtain ⟨rfl, rfl⟩ := hq_68.2 (by rw [Bool.not_eq_true] at hb; exact hb)
          refine j_goto M 75 dX6_eased_71 (by decide) ?_
          refine j_aretN M dX6_eased_75 (Or.inl ⟨_, rfl⟩) ⟨by decide, by decide⟩ ?_
          exact ⟨hup_ext hq5, fun w => absurd (by have w2 := w.2; rw [eC, eD1 hz] at w2; exact w2) hb, fun _ => rfl⟩
      · have hpp := c_5
        refine j_aconst_null M dX6_eased_8 ?_
        refine j_aretN M dX6_eased_9 (Or.inl ⟨_, rfl⟩) ⟨by decide, by decide⟩ ?_
        exact EaP.no (pCan_no c_5)
  ·
    by_cases hb : bTold (s.P (4 * s.P (4 * i + 1)) * s.P (4 * s.P (4 * i))) (s.P (4 * s.P (4 * i + 1)) * s.P (4 * s.P (4 * i + 1)) * s.P (4 * s.P (4 * i) + 1)) (pTerm s.K s.P i 0) (pTerm s.K s.P i 1) = true
    ·
      refine Ct.of (by decide) (Nat.le_of_ble_eq_true rfl) (fun Γ M => ?_)
      refine j_lv (lv' := [(0, .ref (s.r i.toNat)), (1, .ref s.x)]) rfl ?_
      refine j_aload_n M dX6_eased_0 0 rfl ?_
      refine j_aload_n M dX6_eased_1 1 rfl ?_
      refine j_rV (k_U M (C := "AheadRows$Product") (xc := ⟨"AheadRows$Both", "isPlain", "(LAheadRows;)Z"⟩) (c_isPlain l X Pr c s hp 0 i [] hi (by omega) h) (rc_of M ha rfl) (lw_U q1093 q1095 q1096 q1094 q106 q1098) rfl ⟨by decide, by decide, ndX6_isPlain.2.2⟩ dX6_eased_2 ⟨by decide, by decide, by decide, by decide⟩ rfl (Nat.le_of_ble_eq_true rfl)) ?_
      refine j_ifneB M 10 dX6_eased_5 (by decide) (fun c_5 => ?_) (fun c_5 => ?_)
      · have hq := pParts_i.mp c_5
        have e1 : s.K (s.P (4 * i)) = 0 := hq.2.1
        have e2 : s.K (s.P (4 * i + 1)) = 0 := hq.2.2 (by omega)
        have ha1 := r1
        rw [rowE0 e1] at ha1
        have ha2 := r2
        rw [rowE0 e2] at ha2
        have t1 := rOk_told (h.cw.ok (s.P (4 * i)) p1.1 (by omega)) e1
        have t2 := rOk_told (h.cw.ok (s.P (4 * i + 1)) p2.1 (by omega)) e2
        have m1 := mul_bd 9 9 (a := s.P (4 * s.P (4 * i))) (b := s.P (4 * s.P (4 * i + 1))) t1.1 t2.1
        have m2 := mul_bd 9 9 (a := s.P (4 * s.P (4 * i))) (b := s.P (4 * s.P (4 * i))) t1.1 t1.1
        have m3 := mul_bd 81 9 (a := s.P (4 * s.P (4 * i)) * s.P (4 * s.P (4 * i))) (b := s.P (4 * s.P (4 * i + 1) + 1)) (by omega) t2.2.1
        have m4 := mul_bd 9 9 (a := s.P (4 * s.P (4 * i + 1))) (b := s.P (4 * s.P (4 * i))) t2.1 t1.1
        have m5 := mul_bd 9 9 (a := s.P (4 * s.P (4 * i + 1))) (b := s.P (4 * s.P (4 * i + 1))) t2.1 t2.1
        have m6 := mul_bd 81 9 (a := s.P (4 * s.P (4 * i + 1)) * s.P (4 * s.P (4 * i + 1))) (b := s.P (4 * s.P (4 * i) + 1)) (by omega) t1.2.1
        refine j_aload_n M dX6_eased_10 1 rfl ?_
        refine j_aload_n M dX6_eased_11 0 rfl ?_
        refine j_get M ha rfl 0 (by decide) in_X8 q373 rfl dX6_eased_12 ?_
        refine j_rV (k_VN M (c_rowOfC l X Pr c s hp _ (by omega) h) (rc_of M hx rfl) q721 q97 q561 qs13 (lw_meth q562) ndX0_rowOf dX6_eased_15 ⟨by decide, by decide, by decide, by decide⟩ rfl (Nat.le_of_ble_eq_true rfl)) ?_
        refine dv_castT M q932 e1 r1 dX6_eased_18 ?_
        refine j_astore_n M dX6_eased_21 (by decide) ?_
        refine j_aload_n M dX6_eased_22 1 rfl ?_
        refine j_aload_n M dX6_eased_23 0 rfl ?_
        refine j_get M ha rfl 1 (by decide) in_X8 q378 rfl dX6_eased_24 ?_
        refine j_rV (k_VN M (c_rowOfC l X Pr c s hp _ (by omega) h) (rc_of M hx rfl) q721 q97 q561 qs13 (lw_meth q562) ndX0_rowOf dX6_eased_27 ⟨by decide, by decide, by decide, by decide⟩ rfl (Nat.le_of_ble_eq_true rfl)) ?_
        refine dv_castT M q932 e2 r2 dX6_eased_30 ?_
        refine j_astore_n M dX6_eased_33 (by decide) ?_
        refine j_aload_n M dX6_eased_34 0 rfl ?_
        refine j_rV (k_A M (C := "AheadRows$Product") (xc := ⟨"AheadRows$Both", "mix", "()LAheadRows$Mix;"⟩) (c_mixX8 l X hp (s.r i.toNat)) (rc_of M ha rfl) (lw_U q741 q743 q744 q745 q108 q746) q742 ⟨by decide, by decide, ndX8_mix.2.2⟩ dX6_eased_35 ⟨by decide, by decide, by decide, by decide⟩ rfl (Nat.le_of_ble_eq_true rfl)) ?_
        refine j_aload_n M dX6_eased_38 2 rfl ?_
        refine j_aload_n M dX6_eased_39 3 rfl ?_
        refine j_rV (k_AU M (C := "AheadRows$Mix$2") (xc := ⟨"AheadRows$Mix", "isEasy", "(LAheadRows$Told;LAheadRows$Told;)Z"⟩) (c_easyX14 l X hp _ _ _ _ _ _ _ _ _ _ ha1 ha2 t1.1 t1.2.1 t1.2.2.1 t1.2.2.2 t2.1 t2.2.1 t2.2.2.1 t2.2.2.2) (rc_mix1 M) q1099 q1101 q1105 q1106 (lw_meth q1107) q1100 ⟨by decide, by decide, ndX14_isEasy.2.2⟩ dX6_eased_40 ⟨by decide, by decide, by decide, by decide⟩ rfl (Nat.le_of_ble_eq_true rfl)) ?_
        refine j_ifeqB M 74 dX6_eased_43 (by decide) (fun c_43 => ?_) (fun c_43 => ?_)
        · rw [decide_eq_false_iff_not] at c_43
          refine j_aconst_null M dX6_eased_74 ?_
          refine j_aretN M dX6_eased_75 (Or.inl ⟨_, rfl⟩) ⟨by decide, by decide⟩ ?_
          exact EaP.no (fun w => c_43 ((eN c_5).mp w.1))
        · rw [decide_eq_true_eq] at c_43
          refine j_aload_n M dX6_eased_46 1 rfl ?_
          refine j_aload_n M dX6_eased_47 0 rfl ?_
          refine j_rV (k_A M (C := "AheadRows$Product") (xc := ⟨"AheadRows$Both", "mix", "()LAheadRows$Mix;"⟩) (c_mixX8 l X hp (s.r i.toNat)) (rc_of M ha rfl) (lw_U q741 q743 q744 q745 q108 q746) q742 ⟨by decide, by decide, ndX8_mix.2.2⟩ dX6_eased_48 ⟨by decide, by decide, by decide, by decide⟩ rfl (Nat.le_of_ble_eq_true rfl)) ?_
          refine j_aload_n M dX6_eased_51 2 rfl ?_
          refine j_aload_n M dX6_eased_52 3 rfl ?_
          refine j_run (k_AU M (C := "AheadRows$Mix$2") (xc := ⟨"AheadRows$Mix", "eased", "(LAheadRows$Told;LAheadRows$Told;)LAheadRows$Told;"⟩) (c_eaX14b l X hp _ _ _ _ _ _ _ _ _ _ ha1 ha2 t1.1 t1.2.1 t1.2.2.1 t1.2.2.2 hz) (rc_mix1 M) q1112 q1114 q1120 q1121 (lw_meth q1122) q1113 ⟨by decide, by decide, ndX14_eased.2.2⟩ dX6_eased_53 ⟨by decide, by decide, by decide, by decide⟩ rfl (Nat.le_of_ble_eq_true rfl)) (fun r_53 hp_53 hq_53 => ?_)
          obtain ⟨q5, rfl, hq5, rfl⟩ := hq_53
          have h2 := h.fresh (e := (eX5 (s.P (4 * s.P (4 * i + 1)) * s.P (4 * s.P (4 * i))) (s.P (4 * s.P (4 * i + 1)) * s.P (4 * s.P (4 * i + 1)) * s.P (4 * s.P (4 * i) + 1)) 0 0)) hq5
          have ha5 := h2.row hi
          rw [rowE2 hk] at ha5
          refine j_aload_n M dX6_eased_56 0 rfl ?_
          refine j_aload_n M dX6_eased_57 1 rfl ?_
          refine j_iconst M dX6_eased_58 ?_
          refine j_rV (k_U M (C := "AheadRows$Product") (xc := ⟨"AheadRows$Both", "exact", "(LAheadRows;I)J"⟩) ((c_exC l X Pr c s _ i 0 hi (by omega) h2).2.2.1 hk) (rc_of M ha5 rfl) (lw_U q1125 q1788 q1789 q719 q106 q720) rfl ⟨by decide, by decide, ndX6_exact.2.2⟩ dX6_eased_59 ⟨by decide, by decide, by decide, by decide⟩ rfl (Nat.le_of_ble_eq_true rfl)) ?_
          refine j_aload_n M dX6_eased_62 0 rfl ?_
          refine j_aload_n M dX6_eased_63 1 rfl ?_
          refine j_iconst M dX6_eased_64 ?_
          refine j_rV (k_U M (C := "AheadRows$Product") (xc := ⟨"AheadRows$Both", "exact", "(LAheadRows;I)J"⟩) ((c_exC l X Pr c s _ i 1 hi (by omega) h2).2.2.1 hk) (rc_of M ha5 rfl) (lw_U q1125 q1788 q1789 q719 q106 q720) rfl ⟨by decide, by decide, ndX6_exact.2.2⟩ dX6_eased_65 ⟨by decide, by decide, by decide, by decide⟩ rfl (Nat.le_of_ble_eq_true rfl)) ?_
          refine j_run (k_VN M (c_withTerms l X _ q5 _ _ _ _ s.x (hup_s _ _ _) (by omega) (by omega) (by omega) (by omega)) (rc_of M h2.cw.hx rfl) q1126 q97 q1088 qs26 (lw_meth q1089) ndX0_withTerms dX6_eased_68 ⟨by decide, by decide, by decide, by decide⟩ rfl (Nat.le_of_ble_eq_true rfl)) (fun r_68 hp_68 hq_68 => ?_)
          obtain ⟨rfl, rfl⟩ := hq_68.1 hb
          rw [hup_hup]
          refine j_goto M 75 dX6_eased_71 (by decide) ?_
          refine j_aret M dX6_eased_75 (Or.inl ⟨_, rfl⟩) ⟨by decide, by decide⟩ ?_
          refine ⟨hup_ext hq5, fun _ => ⟨q5, rfl, hq5, ?_⟩, fun w => absurd ⟨(eN c_5).mpr c_43, by rw [eC, eD2 hz (c_43.resolve_left hz), Int.mul_comm (s.P (4 * s.P (4 * i)))]; exact hb⟩ w⟩
          rw [hup_s, eC, eD2 hz (c_43.resolve_left hz), Int.mul_comm (s.P (4 * s.P (4 * i)))]
      · have hpp := c_5
        refine j_aconst_null M dX6_eased_8 ?_
        refine j_aretN M dX6_eased_9 (Or.inl ⟨_, rfl⟩) ⟨by decide, by decide⟩ ?_
        exact EaP.no (pCan_no c_5)
    ·
      refine Ct.of (by decide) (Nat.le_of_ble_eq_true rfl) (fun Γ M => ?_)
      refine j_lv (lv' := [(0, .ref (s.r i.toNat)), (1, .ref s.x)]) rfl ?_
      refine j_aload_n M dX6_eased_0 0 rfl ?_
      refine j_aload_n M dX6_eased_1 1 rfl ?_
      refine j_rV (k_U M (C := "AheadRows$Product") (xc := ⟨"AheadRows$Both", "isPlain", "(LAheadRows;)Z"⟩) (c_isPlain l X Pr c s hp 0 i [] hi (by omega) h) (rc_of M ha rfl) (lw_U q1093 q1095 q1096 q1094 q106 q1098) rfl ⟨by decide, by decide, ndX6_isPlain.2.2⟩ dX6_eased_2 ⟨by decide, by decide, by decide, by decide⟩ rfl (Nat.le_of_ble_eq_true rfl)) ?_
      refine j_ifneB M 10 dX6_eased_5 (by decide) (fun c_5 => ?_) (fun c_5 => ?_)
      · have hq := pParts_i.mp c_5
        have e1 : s.K (s.P (4 * i)) = 0 := hq.2.1
        have e2 : s.K (s.P (4 * i + 1)) = 0 := hq.2.2 (by omega)
        have ha1 := r1
        rw [rowE0 e1] at ha1
        have ha2 := r2
        rw [rowE0 e2] at ha2
        have t1 := rOk_told (h.cw.ok (s.P (4 * i)) p1.1 (by omega)) e1
        have t2 := rOk_told (h.cw.ok (s.P (4 * i + 1)) p2.1 (by omega)) e2
        have m1 := mul_bd 9 9 (a := s.P (4 * s.P (4 * i))) (b := s.P (4 * s.P (4 * i + 1))) t1.1 t2.1
        have m2 := mul_bd 9 9 (a := s.P (4 * s.P (4 * i))) (b := s.P (4 * s.P (4 * i))) t1.1 t1.1
        have m3 := mul_bd 81 9 (a := s.P (4 * s.P (4 * i)) * s.P (4 * s.P (4 * i))) (b := s.P (4 * s.P (4 * i + 1) + 1)) (by omega) t2.2.1
        have m4 := mul_bd 9 9 (a := s.P (4 * s.P (4 * i + 1))) (b := s.P (4 * s.P (4 * i))) t2.1 t1.1
        have m5 := mul_bd 9 9 (a := s.P (4 * s.P (4 * i + 1))) (b := s.P (4 * s.P (4 * i + 1))) t2.1 t2.1
        have m6 := mul_bd 81 9 (a := s.P (4 * s.P (4 * i + 1)) * s.P (4 * s.P (4 * i + 1))) (b := s.P (4 * s.P (4 * i) + 1)) (by omega) t1.2.1
        refine j_aload_n M dX6_eased_10 1 rfl ?_
        refine j_aload_n M dX6_eased_11 0 rfl ?_
        refine j_get M ha rfl 0 (by decide) in_X8 q373 rfl dX6_eased_12 ?_
        refine j_rV (k_VN M (c_rowOfC l X Pr c s hp _ (by omega) h) (rc_of M hx rfl) q721 q97 q561 qs13 (lw_meth q562) ndX0_rowOf dX6_eased_15 ⟨by decide, by decide, by decide, by decide⟩ rfl (Nat.le_of_ble_eq_true rfl)) ?_
        refine dv_castT M q932 e1 r1 dX6_eased_18 ?_
        refine j_astore_n M dX6_eased_21 (by decide) ?_
        refine j_aload_n M dX6_eased_22 1 rfl ?_
        refine j_aload_n M dX6_eased_23 0 rfl ?_
        refine j_get M ha rfl 1 (by decide) in_X8 q378 rfl dX6_eased_24 ?_
        refine j_rV (k_VN M (c_rowOfC l X Pr c s hp _ (by omega) h) (rc_of M hx rfl) q721 q97 q561 qs13 (lw_meth q562) ndX0_rowOf dX6_eased_27 ⟨by decide, by decide, by decide, by decide⟩ rfl (Nat.le_of_ble_eq_true rfl)) ?_
        refine dv_castT M q932 e2 r2 dX6_eased_30 ?_
        refine j_astore_n M dX6_eased_33 (by decide) ?_
        refine j_aload_n M dX6_eased_34 0 rfl ?_
        refine j_rV (k_A M (C := "AheadRows$Product") (xc := ⟨"AheadRows$Both", "mix", "()LAheadRows$Mix;"⟩) (c_mixX8 l X hp (s.r i.toNat)) (rc_of M ha rfl) (lw_U q741 q743 q744 q745 q108 q746) q742 ⟨by decide, by decide, ndX8_mix.2.2⟩ dX6_eased_35 ⟨by decide, by decide, by decide, by decide⟩ rfl (Nat.le_of_ble_eq_true rfl)) ?_
        refine j_aload_n M dX6_eased_38 2 rfl ?_
        refine j_aload_n M dX6_eased_39 3 rfl ?_
        refine j_rV (k_AU M (C := "AheadRows$Mix$2") (xc := ⟨"AheadRows$Mix", "isEasy", "(LAheadRows$Told;LAheadRows$Told;)Z"⟩) (c_easyX14 l X hp _ _ _ _ _ _ _ _ _ _ ha1 ha2 t1.1 t1.2.1 t1.2.2.1 t1.2.2.2 t2.1 t2.2.1 t2.2.2.1 t2.2.2.2) (rc_mix1 M) q1099 q1101 q1105 q1106 (lw_meth q1107) q1100 ⟨by decide, by decide, ndX14_isEasy.2.2⟩ dX6_eased_40 ⟨by decide, by decide, by decide, by decide⟩ rfl (Nat.le_of_ble_eq_true rfl)) ?_
        refine j_ifeqB M 74 dX6_eased_43 (by decide) (fun c_43 => ?_) (fun c_43 => ?_)
        · rw [decide_eq_false_iff_not] at c_43
          refine j_aconst_null M dX6_eased_74 ?_
          refine j_aretN M dX6_eased_75 (Or.inl ⟨_, rfl⟩) ⟨by decide, by decide⟩ ?_
          exact EaP.no (fun w => c_43 ((eN c_5).mp w.1))
        · rw [decide_eq_true_eq] at c_43
          refine j_aload_n M dX6_eased_46 1 rfl ?_
          refine j_aload_n M dX6_eased_47 0 rfl ?_
          refine j_rV (k_A M (C := "AheadRows$Product") (xc := ⟨"AheadRows$Both", "mix", "()LAheadRows$Mix;"⟩) (c_mixX8 l X hp (s.r i.toNat)) (rc_of M ha rfl) (lw_U q741 q743 q744 q745 q108 q746) q742 ⟨by decide, by decide, ndX8_mix.2.2⟩ dX6_eased_48 ⟨by decide, by decide, by decide, by decide⟩ rfl (Nat.le_of_ble_eq_true rfl)) ?_
          refine j_aload_n M dX6_eased_51 2 rfl ?_
          refine j_aload_n M dX6_eased_52 3 rfl ?_
          refine j_run (k_AU M (C := "AheadRows$Mix$2") (xc := ⟨"AheadRows$Mix", "eased", "(LAheadRows$Told;LAheadRows$Told;)LAheadRows$Told;"⟩) (c_eaX14b l X hp _ _ _ _ _ _ _ _ _ _ ha1 ha2 t1.1 t1.2.1 t1.2.2.1 t1.2.2.2 hz) (rc_mix1 M) q1112 q1114 q1120 q1121 (lw_meth q1122) q1113 ⟨by decide, by decide, ndX14_eased.2.2⟩ dX6_eased_53 ⟨by decide, by decide, by decide, by decide⟩ rfl (Nat.le_of_ble_eq_true rfl)) (fun r_53 hp_53 hq_53 => ?_)
          obtain ⟨q5, rfl, hq5, rfl⟩ := hq_53
          have h2 := h.fresh (e := (eX5 (s.P (4 * s.P (4 * i + 1)) * s.P (4 * s.P (4 * i))) (s.P (4 * s.P (4 * i + 1)) * s.P (4 * s.P (4 * i + 1)) * s.P (4 * s.P (4 * i) + 1)) 0 0)) hq5
          have ha5 := h2.row hi
          rw [rowE2 hk] at ha5
          refine j_aload_n M dX6_eased_56 0 rfl ?_
          refine j_aload_n M dX6_eased_57 1 rfl ?_
          refine j_iconst M dX6_eased_58 ?_
          refine j_rV (k_U M (C := "AheadRows$Product") (xc := ⟨"AheadRows$Both", "exact", "(LAheadRows;I)J"⟩) ((c_exC l X Pr c s _ i 0 hi (by omega) h2).2.2.1 hk) (rc_of M ha5 rfl) (lw_U q1125 q1788 q1789 q719 q106 q720) rfl ⟨by decide, by decide, ndX6_exact.2.2⟩ dX6_eased_59 ⟨by decide, by decide, by decide, by decide⟩ rfl (Nat.le_of_ble_eq_true rfl)) ?_
          refine j_aload_n M dX6_eased_62 0 rfl ?_
          refine j_aload_n M dX6_eased_63 1 rfl ?_
          refine j_iconst M dX6_eased_64 ?_
          refine j_rV (k_U M (C := "AheadRows$Product") (xc := ⟨"AheadRows$Both", "exact", "(LAheadRows;I)J"⟩) ((c_exC l X Pr c s _ i 1 hi (by omega) h2).2.2.1 hk) (rc_of M ha5 rfl) (lw_U q1125 q1788 q1789 q719 q106 q720) rfl ⟨by decide, by decide, ndX6_exact.2.2⟩ dX6_eased_65 ⟨by decide, by decide, by decide, by decide⟩ rfl (Nat.le_of_ble_eq_true rfl)) ?_
          refine j_run (k_VN M (c_withTerms l X _ q5 _ _ _ _ s.x (hup_s _ _ _) (by omega) (by omega) (by omega) (by omega)) (rc_of M h2.cw.hx rfl) q1126 q97 q1088 qs26 (lw_meth q1089) ndX0_withTerms dX6_eased_68 ⟨by decide, by decide, by decide, by decide⟩ rfl (Nat.le_of_ble_eq_true rfl)) (fun r_68 hp_68 hq_68 => ?_)
          obtain ⟨rfl, rfl⟩ := hq_68.2 (by rw [Bool.not_eq_true] at hb; exact hb)
          refine j_goto M 75 dX6_eased_71 (by decide) ?_
          refine j_aretN M dX6_eased_75 (Or.inl ⟨_, rfl⟩) ⟨by decide, by decide⟩ ?_
          exact ⟨hup_ext hq5, fun w => absurd (by have w2 := w.2; rw [eC, eD2 hz (c_43.resolve_left hz), Int.mul_comm (s.P (4 * s.P (4 * i)))] at w2; exact w2) hb, fun _ => rfl⟩
      · have hpp := c_5
        refine j_aconst_null M dX6_eased_8 ?_
        refine j_aretN M dX6_eased_9 (Or.inl ⟨_, rfl⟩) ⟨by decide, by decide⟩ ?_
        exact EaP.no (pCan_no c_5)
end C21
