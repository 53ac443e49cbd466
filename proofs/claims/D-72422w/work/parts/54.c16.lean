/-! 54: the component: rules -/
set_option maxRecDepth 100000
section C16a
variable (l : Launch) (X : Cx) (hp : Hp) (p q : Nat) (c d e f c' d' e' f' : Int)
theorem c_ruleByX13 (h1 : hp p = some (eX5 c d e f)) (h2 : hp q = some (eX5 c' d' e' f')) : CtU l X yX13_ruleBy cX13_ruleBy 3 (some (.array .int)) (rC 0 1 5) [.ref (cxS X 0), .ref p, .ref q] hp (pRA X hp 4 (c + c') (d + d' - c * c') (-c * d' - d * c') (-d * d')) := by
  refine CtU.of (by decide +kernel) (Nat.le_of_ble_eq_true rfl) (fun Γ M => ?_)
  refine j_lv (lv' := [(0, .ref (cxS X 0)), (1, .ref p), (2, .ref q)]) rfl ?_
  refine j_iconst M dX13_ruleBy_0 ?_
  refine j_newI M q194 (by decide) (by decide) dX13_ruleBy_1 (fun q_1 hq_1 hB_1 => ?_)
  have hn1 : p ≠ q_1 := fun e => by rw [e, hq_1] at h1; cases h1
  have hn2 : q ≠ q_1 := fun e => by rw [e, hq_1] at h2; cases h2
  refine j_dup M dX13_ruleBy_3 rfl ?_
  refine j_iconst M dX13_ruleBy_4 ?_
  refine j_iconst M dX13_ruleBy_5 ?_
  refine j_iast M (hup_s _ _ _) (by omega) dX13_ruleBy_6 ?_
  refine j_dup M dX13_ruleBy_7 rfl ?_
  refine j_iconst M dX13_ruleBy_8 ?_
  refine j_aload_n M dX13_ruleBy_9 1 rfl ?_
  refine j_get M (by simp only [hup_n _ _ hn1]; exact h1) rfl 0 (by decide) in_X5 q326 rfl dX13_ruleBy_10 ?_
  refine j_aload_n M dX13_ruleBy_13 2 rfl ?_
  refine j_get M (by simp only [hup_n _ _ hn2]; exact h2) rfl 0 (by decide) in_X5 q326 rfl dX13_ruleBy_14 ?_
  refine j_iadd M dX13_ruleBy_17 ?_
  refine j_iast M (hup_s _ _ _) (by omega) dX13_ruleBy_18 ?_
  refine j_dup M dX13_ruleBy_19 rfl ?_
  refine j_iconst M dX13_ruleBy_20 ?_
  refine j_aload_n M dX13_ruleBy_21 1 rfl ?_
  refine j_get M (by simp only [hup_n _ _ hn1]; exact h1) rfl 1 (by decide) in_X5 q331 rfl dX13_ruleBy_22 ?_
  refine j_aload_n M dX13_ruleBy_25 2 rfl ?_
  refine j_get M (by simp only [hup_n _ _ hn2]; exact h2) rfl 1 (by decide) in_X5 q331 rfl dX13_ruleBy_26 ?_
  refine j_iadd M dX13_ruleBy_29 ?_
  refine j_aload_n M dX13_ruleBy_30 1 rfl ?_
  refine j_get M (by simp only [hup_n _ _ hn1]; exact h1) rfl 0 (by decide) in_X5 q326 rfl dX13_ruleBy_31 ?_
  refine j_aload_n M dX13_ruleBy_34 2 rfl ?_
  refine j_get M (by simp only [hup_n _ _ hn2]; exact h2) rfl 0 (by decide) in_X5 q326 rfl dX13_ruleBy_35 ?_
  refine j_imul M dX13_ruleBy_38 ?_
  refine j_isub M dX13_ruleBy_39 ?_
  refine j_iast M (hup_s _ _ _) (by omega) dX13_ruleBy_40 ?_
  refine j_dup M dX13_ruleBy_41 rfl ?_
  refine j_iconst M dX13_ruleBy_42 ?_
  refine j_aload_n M dX13_ruleBy_43 1 rfl ?_
  refine j_get M (by simp only [hup_n _ _ hn1]; exact h1) rfl 0 (by decide) in_X5 q326 rfl dX13_ruleBy_44 ?_
  refine j_ineg M dX13_ruleBy_47 ?_
  refine j_aload_n M dX13_ruleBy_48 2 rfl ?_
  refine j_get M (by simp only [hup_n _ _ hn2]; exact h2) rfl 1 (by decide) in_X5 q331 rfl dX13_ruleBy_49 ?_
  refine j_imul M dX13_ruleBy_52 ?_
  refine j_aload_n M dX13_ruleBy_53 1 rfl ?_
  refine j_get M (by simp only [hup_n _ _ hn1]; exact h1) rfl 1 (by decide) in_X5 q331 rfl dX13_ruleBy_54 ?_
  refine j_aload_n M dX13_ruleBy_57 2 rfl ?_
  refine j_get M (by simp only [hup_n _ _ hn2]; exact h2) rfl 0 (by decide) in_X5 q326 rfl dX13_ruleBy_58 ?_
  refine j_imul M dX13_ruleBy_61 ?_
  refine j_isub M dX13_ruleBy_62 ?_
  refine j_iast M (hup_s _ _ _) (by omega) dX13_ruleBy_63 ?_
  refine j_dup M dX13_ruleBy_64 rfl ?_
  refine j_iconst M dX13_ruleBy_65 ?_
  refine j_aload_n M dX13_ruleBy_66 1 rfl ?_
  refine j_get M (by simp only [hup_n _ _ hn1]; exact h1) rfl 1 (by decide) in_X5 q331 rfl dX13_ruleBy_67 ?_
  refine j_ineg M dX13_ruleBy_70 ?_
  refine j_aload_n M dX13_ruleBy_71 2 rfl ?_
  refine j_get M (by simp only [hup_n _ _ hn2]; exact h2) rfl 1 (by decide) in_X5 q331 rfl dX13_ruleBy_72 ?_
  refine j_imul M dX13_ruleBy_75 ?_
  refine j_iast M (hup_s _ _ _) (by omega) dX13_ruleBy_76 ?_
  refine j_aret M dX13_ruleBy_77 (Or.inr ⟨_, rfl⟩) ⟨Nat.le_refl _, Nat.le_refl _⟩ ?_
  exact pRA.mk hq_1 hB_1 (by rw [hup_hup, hup_hup, hup_hup, hup_hup, hup_hup]; rfl)
theorem c_ruleByX14 (h1 : hp p = some (eX5 c d e f)) (h2 : hp q = some (eX5 c' d' e' f')) : CtU l X yX14_ruleBy cX14_ruleBy 3 (some (.array .int)) (rC 0 1 5) [.ref (cxS X 1), .ref p, .ref q] hp (pRA X hp 4 (c * c') (c * c * d' + c' * c' * d + 2 * d * d') (c * c' * d * d') (-d * d * d' * d')) := by
  refine CtU.of (by decide +kernel) (Nat.le_of_ble_eq_true rfl) (fun Γ M => ?_)
  refine j_lv (lv' := [(0, .ref (cxS X 1)), (1, .ref p), (2, .ref q)]) rfl ?_
  refine j_iconst M dX14_ruleBy_0 ?_
  refine j_newI M q194 (by decide) (by decide) dX14_ruleBy_1 (fun q_1 hq_1 hB_1 => ?_)
  have hn1 : p ≠ q_1 := fun e => by rw [e, hq_1] at h1; cases h1
  have hn2 : q ≠ q_1 := fun e => by rw [e, hq_1] at h2; cases h2
  refine j_dup M dX14_ruleBy_3 rfl ?_
  refine j_iconst M dX14_ruleBy_4 ?_
  refine j_iconst M dX14_ruleBy_5 ?_
  refine j_iast M (hup_s _ _ _) (by omega) dX14_ruleBy_6 ?_
  refine j_dup M dX14_ruleBy_7 rfl ?_
  refine j_iconst M dX14_ruleBy_8 ?_
  refine j_aload_n M dX14_ruleBy_9 1 rfl ?_
  refine j_get M (by simp only [hup_n _ _ hn1]; exact h1) rfl 0 (by decide) in_X5 q327 rfl dX14_ruleBy_10 ?_
  refine j_aload_n M dX14_ruleBy_13 2 rfl ?_
  refine j_get M (by simp only [hup_n _ _ hn2]; exact h2) rfl 0 (by decide) in_X5 q327 rfl dX14_ruleBy_14 ?_
  refine j_imul M dX14_ruleBy_17 ?_
  refine j_iast M (hup_s _ _ _) (by omega) dX14_ruleBy_18 ?_
  refine j_dup M dX14_ruleBy_19 rfl ?_
  refine j_iconst M dX14_ruleBy_20 ?_
  refine j_aload_n M dX14_ruleBy_21 1 rfl ?_
  refine j_get M (by simp only [hup_n _ _ hn1]; exact h1) rfl 0 (by decide) in_X5 q327 rfl dX14_ruleBy_22 ?_
  refine j_aload_n M dX14_ruleBy_25 1 rfl ?_
  refine j_get M (by simp only [hup_n _ _ hn1]; exact h1) rfl 0 (by decide) in_X5 q327 rfl dX14_ruleBy_26 ?_
  refine j_imul M dX14_ruleBy_29 ?_
  refine j_aload_n M dX14_ruleBy_30 2 rfl ?_
  refine j_get M (by simp only [hup_n _ _ hn2]; exact h2) rfl 1 (by decide) in_X5 q332 rfl dX14_ruleBy_31 ?_
  refine j_imul M dX14_ruleBy_34 ?_
  refine j_aload_n M dX14_ruleBy_35 2 rfl ?_
  refine j_get M (by simp only [hup_n _ _ hn2]; exact h2) rfl 0 (by decide) in_X5 q327 rfl dX14_ruleBy_36 ?_
  refine j_aload_n M dX14_ruleBy_39 2 rfl ?_
  refine j_get M (by simp only [hup_n _ _ hn2]; exact h2) rfl 0 (by decide) in_X5 q327 rfl dX14_ruleBy_40 ?_
  refine j_imul M dX14_ruleBy_43 ?_
  refine j_aload_n M dX14_ruleBy_44 1 rfl ?_
  refine j_get M (by simp only [hup_n _ _ hn1]; exact h1) rfl 1 (by decide) in_X5 q332 rfl dX14_ruleBy_45 ?_
  refine j_imul M dX14_ruleBy_48 ?_
  refine j_iadd M dX14_ruleBy_49 ?_
  refine j_iconst M dX14_ruleBy_50 ?_
  refine j_aload_n M dX14_ruleBy_51 1 rfl ?_
  refine j_get M (by simp only [hup_n _ _ hn1]; exact h1) rfl 1 (by decide) in_X5 q332 rfl dX14_ruleBy_52 ?_
  refine j_imul M dX14_ruleBy_55 ?_
  refine j_aload_n M dX14_ruleBy_56 2 rfl ?_
  refine j_get M (by simp only [hup_n _ _ hn2]; exact h2) rfl 1 (by decide) in_X5 q332 rfl dX14_ruleBy_57 ?_
  refine j_imul M dX14_ruleBy_60 ?_
  refine j_iadd M dX14_ruleBy_61 ?_
  refine j_iast M (hup_s _ _ _) (by omega) dX14_ruleBy_62 ?_
  refine j_dup M dX14_ruleBy_63 rfl ?_
  refine j_iconst M dX14_ruleBy_64 ?_
  refine j_aload_n M dX14_ruleBy_65 1 rfl ?_
  refine j_get M (by simp only [hup_n _ _ hn1]; exact h1) rfl 0 (by decide) in_X5 q327 rfl dX14_ruleBy_66 ?_
  refine j_aload_n M dX14_ruleBy_69 2 rfl ?_
  refine j_get M (by simp only [hup_n _ _ hn2]; exact h2) rfl 0 (by decide) in_X5 q327 rfl dX14_ruleBy_70 ?_
  refine j_imul M dX14_ruleBy_73 ?_
  refine j_aload_n M dX14_ruleBy_74 1 rfl ?_
  refine j_get M (by simp only [hup_n _ _ hn1]; exact h1) rfl 1 (by decide) in_X5 q332 rfl dX14_ruleBy_75 ?_
  refine j_imul M dX14_ruleBy_78 ?_
  refine j_aload_n M dX14_ruleBy_79 2 rfl ?_
  refine j_get M (by simp only [hup_n _ _ hn2]; exact h2) rfl 1 (by decide) in_X5 q332 rfl dX14_ruleBy_80 ?_
  refine j_imul M dX14_ruleBy_83 ?_
  refine j_iast M (hup_s _ _ _) (by omega) dX14_ruleBy_84 ?_
  refine j_dup M dX14_ruleBy_85 rfl ?_
  refine j_iconst M dX14_ruleBy_86 ?_
  refine j_aload_n M dX14_ruleBy_87 1 rfl ?_
  refine j_get M (by simp only [hup_n _ _ hn1]; exact h1) rfl 1 (by decide) in_X5 q332 rfl dX14_ruleBy_88 ?_
  refine j_ineg M dX14_ruleBy_91 ?_
  refine j_aload_n M dX14_ruleBy_92 1 rfl ?_
  refine j_get M (by simp only [hup_n _ _ hn1]; exact h1) rfl 1 (by decide) in_X5 q332 rfl dX14_ruleBy_93 ?_
  refine j_imul M dX14_ruleBy_96 ?_
  refine j_aload_n M dX14_ruleBy_97 2 rfl ?_
  refine j_get M (by simp only [hup_n _ _ hn2]; exact h2) rfl 1 (by decide) in_X5 q332 rfl dX14_ruleBy_98 ?_
  refine j_imul M dX14_ruleBy_101 ?_
  refine j_aload_n M dX14_ruleBy_102 2 rfl ?_
  refine j_get M (by simp only [hup_n _ _ hn2]; exact h2) rfl 1 (by decide) in_X5 q332 rfl dX14_ruleBy_103 ?_
  refine j_imul M dX14_ruleBy_106 ?_
  refine j_iast M (hup_s _ _ _) (by omega) dX14_ruleBy_107 ?_
  refine j_aret M dX14_ruleBy_108 (Or.inr ⟨_, rfl⟩) ⟨Nat.le_refl _, Nat.le_refl _⟩ ?_
  exact pRA.mk hq_1 hB_1 (by rw [hup_hup, hup_hup, hup_hup, hup_hup, hup_hup]; rfl)
end C16a
/-- a rule, if there is one -/
def RuP (X : Cx) (hp : Hp) (K P : Int → Int) (i : Int) : Option Value → Hp → Prop := fun r hp' => ((K i = 0 ∨ pParts K P i = true) → ∃ q g, r = some (.ref q) ∧ hp q = none ∧ hp' = hup hp q (eI X 5 g) ∧ ∀ w, 0 ≤ w → w ≤ 4 → g w = pRuleN K P i w) ∧ (¬ (K i = 0 ∨ pParts K P i = true) → r = some .null ∧ hp' = hp)
theorem w5 {w : Int} (h0 : 0 ≤ w) (h1 : w ≤ 4) : w = 0 ∨ w = 1 ∨ w = 2 ∨ w = 3 ∨ w = 4 := by omega
theorem pParts_i {K P : Int → Int} {i : Int} : pParts K P i = true ↔ (K i ≠ 0 ∧ K (P (4 * i)) = 0 ∧ ((K i = 1 ∨ K i = 2) → K (P (4 * i + 1)) = 0)) := by unfold pParts; rw [decide_eq_true_eq]
section C16
variable (l : Launch) (X : Cx) (Pr : Hp) (c : Int) (s : Co) (hp : Hp)
theorem c_ruX5 (i : Int) (hi : 0 ≤ i ∧ i < s.N) (hk : s.K i = 0) (h : CI X Pr c s hp) : Ct l X yX5_ruleBy cX5_ruleBy 2 (some (.array .int)) (rC 5 1 5) [.ref (s.r i.toNat), .ref s.x] hp (RuP X hp s.K s.P i) := by
  have ha := h.row hi
  rw [rowE0 hk] at ha
  refine ((c_ruleByX5 l X hp (s.r i.toNat) _ _ _ _ s.x ha).lift (rm' := rC 5 1 5) (by decide) (by decide) (by decide) (by decide)).mono (fun r hp' hq => ?_)
  obtain ⟨q, g, rfl, hq, hB, rfl, g0, g1, g2, g3, g4⟩ := hq
  refine ⟨fun _ => ⟨q, g, rfl, hq, rfl, fun w w0 w1 => ?_⟩, fun hn => absurd (Or.inl hk) hn⟩
  rcases w5 w0 w1 with z | z | z | z | z <;> subst z
  · simp [pRuleN, hk, g0]
  · simp [pRuleN, pTwoR, pOf, pEn, hk, g1, pPow]
  · simp [pRuleN, pTwoR, pOf, pEn, hk, g2, pPw]
  · simp [pRuleN, pTwoR, hk, g3]
  · simp [pRuleN, pTwoR, hk, g4]
theorem c_ruX7 (i : Int) (hi : 0 ≤ i ∧ i < s.N) (hk : s.K i = 1) (h : CI X Pr c s hp) : Ct l X yX6_ruleBy cX6_ruleBy 5 (some (.array .int)) (rC 5 1 5) [.ref (s.r i.toNat), .ref s.x] hp (RuP X hp s.K s.P i) := by
  have hx := h.cw.hx
  have ha := h.row hi
  rw [rowE1 hk] at ha
  have ho := h.cw.ok i hi.1 hi.2
  have p1 := rOk_part ho (by omega)
  have p2 := rOk_part2 ho (by omega)
  have r1 := h.row (i := s.P (4 * i)) (by omega)
  have r2 := h.row (i := s.P (4 * i + 1)) (by omega)
  have k1 := rOk_k (h.cw.ok (s.P (4 * i)) p1.1 (by omega))
  have k2 := rOk_k (h.cw.ok (s.P (4 * i + 1)) p2.1 (by omega))
  refine Ct.of (by decide) (Nat.le_of_ble_eq_true rfl) (fun Γ M => ?_)
  refine j_lv (lv' := [(0, .ref (s.r i.toNat)), (1, .ref s.x)]) rfl ?_
  refine j_aload_n M dX6_ruleBy_0 1 rfl ?_
  refine j_aload_n M dX6_ruleBy_1 0 rfl ?_
  refine j_get M ha rfl 0 (by decide) in_X7 q373 rfl dX6_ruleBy_2 ?_
  refine j_rV (k_VN M (c_rowOfC l X Pr c s hp _ (by omega) h) (rc_of M hx rfl) q721 q97 q561 qs13 (lw_meth q562) ndX0_rowOf dX6_ruleBy_5 ⟨by decide, by decide, by decide, by decide⟩ rfl (Nat.le_of_ble_eq_true rfl)) ?_
  refine j_astore M dX6_ruleBy_8 (by decide) ?_
  refine j_aload M dX6_ruleBy_10 2 rfl ?_
  refine dv_inst M q932 k1 r1 dX6_ruleBy_12 ?_
  refine j_ifeqB M 60 dX6_ruleBy_15 (by decide) (fun c_15 => ?_) (fun c_15 => ?_)
  · rw [decide_eq_false_iff_not] at c_15
    refine j_aconst_null M dX6_ruleBy_60 ?_
    refine j_aretN M dX6_ruleBy_61 (Or.inr ⟨_, rfl⟩) ⟨by decide, by decide⟩ ?_
    exact ⟨fun w => absurd w (by rw [pParts_i]; omega), fun _ => ⟨rfl, rfl⟩⟩
  · rw [decide_eq_true_eq] at c_15
    have ha1 := r1
    rw [rowE0 c_15] at ha1
    refine j_aload M dX6_ruleBy_18 2 rfl ?_
    refine dv_castT M q932 c_15 r1 dX6_ruleBy_20 ?_
    refine j_astore_n M dX6_ruleBy_23 (by decide) ?_
    refine j_aload_n M dX6_ruleBy_24 1 rfl ?_
    refine j_aload_n M dX6_ruleBy_25 0 rfl ?_
    refine j_get M ha rfl 1 (by decide) in_X7 q378 rfl dX6_ruleBy_26 ?_
    refine j_rV (k_VN M (c_rowOfC l X Pr c s hp _ (by omega) h) (rc_of M hx rfl) q721 q97 q561 qs13 (lw_meth q562) ndX0_rowOf dX6_ruleBy_29 ⟨by decide, by decide, by decide, by decide⟩ rfl (Nat.le_of_ble_eq_true rfl)) ?_
    refine j_astore M dX6_ruleBy_32 (by decide) ?_
    refine j_aload M dX6_ruleBy_34 2 rfl ?_
    refine dv_inst M q932 k2 r2 dX6_ruleBy_36 ?_
    refine j_ifeqB M 60 dX6_ruleBy_39 (by decide) (fun c_39 => ?_) (fun c_39 => ?_)
    · rw [decide_eq_false_iff_not] at c_39
      refine j_aconst_null M dX6_ruleBy_60 ?_
      refine j_aretN M dX6_ruleBy_61 (Or.inr ⟨_, rfl⟩) ⟨by decide, by decide⟩ ?_
      exact ⟨fun w => absurd w (by rw [pParts_i]; omega), fun _ => ⟨rfl, rfl⟩⟩
    · rw [decide_eq_true_eq] at c_39
      have ha2 := r2
      rw [rowE0 c_39] at ha2
      refine j_aload M dX6_ruleBy_42 2 rfl ?_
      refine dv_castT M q932 c_39 r2 dX6_ruleBy_44 ?_
      refine j_astore_n M dX6_ruleBy_47 (by decide) ?_
      refine j_aload_n M dX6_ruleBy_48 0 rfl ?_
      refine j_rV (k_A M (C := "AheadRows$Sum") (xc := ⟨"AheadRows$Both", "mix", "()LAheadRows$Mix;"⟩) (c_mixX7 l X hp (s.r i.toNat)) (rc_of M ha rfl) (lw_U q741 q743 q749 q750 q107 q751) q742 ⟨by decide, by decide, ndX7_mix.2.2⟩ dX6_ruleBy_49 ⟨by decide, by decide, by decide, by decide⟩ rfl (Nat.le_of_ble_eq_true rfl)) ?_
      refine j_aload_n M dX6_ruleBy_52 3 rfl ?_
      refine j_aload_n M dX6_ruleBy_53 4 rfl ?_
      refine j_run (k_AU M (C := "AheadRows$Mix$1") (xc := ⟨"AheadRows$Mix", "ruleBy", "(LAheadRows$Told;LAheadRows$Told;)[I"⟩) (c_ruleByX13 l X hp _ _ _ _ _ _ _ _ _ _ ha1 ha2) (rc_mix0 M) q933 q935 q936 q937 (lw_meth q938) q934 ⟨by decide, by decide, ndX13_ruleBy.2.2⟩ dX6_ruleBy_54 ⟨by decide, by decide, by decide, by decide⟩ rfl (Nat.le_of_ble_eq_true rfl)) (fun r_54 hp_54 hq_54 => ?_)
      obtain ⟨q, g, rfl, hq, hB, rfl, g0, g1, g2, g3, g4⟩ := hq_54
      refine j_goto M 61 dX6_ruleBy_57 (by decide) ?_
      refine j_aret M dX6_ruleBy_61 (Or.inr ⟨_, rfl⟩) ⟨by decide, by decide⟩ ?_
      refine ⟨fun _ => ⟨q, g, rfl, hq, rfl, fun w w0 w1 => ?_⟩, fun hn => absurd (Or.inr (by rw [pParts_i]; omega)) hn⟩
      rcases w5 w0 w1 with z | z | z | z | z <;> subst z
      · simp [pRuleN, hk, g0]
      · simp [pRuleN, pBothR, hk, g1]
      · simp [pRuleN, pBothR, hk, g2]
      · simp [pRuleN, pBothR, hk, g3, Int.mul_comm]
      · simp [pRuleN, pBothR, hk, g4]
theorem c_ruX8 (i : Int) (hi : 0 ≤ i ∧ i < s.N) (hk : s.K i = 2) (h : CI X Pr c s hp) : Ct l X yX6_ruleBy cX6_ruleBy 5 (some (.array .int)) (rC 5 1 5) [.ref (s.r i.toNat), .ref s.x] hp (RuP X hp s.K s.P i) := by
  have hx := h.cw.hx
  have ha := h.row hi
  rw [rowE2 hk] at ha
  have ho := h.cw.ok i hi.1 hi.2
  have p1 := rOk_part ho (by omega)
  have p2 := rOk_part2 ho (by omega)
  have r1 := h.row (i := s.P (4 * i)) (by omega)
  have r2 := h.row (i := s.P (4 * i + 1)) (by omega)
  have k1 := rOk_k (h.cw.ok (s.P (4 * i)) p1.1 (by omega))
  have k2 := rOk_k (h.cw.ok (s.P (4 * i + 1)) p2.1 (by omega))
  refine Ct.of (by decide) (Nat.le_of_ble_eq_true rfl) (fun Γ M => ?_)
  refine j_lv (lv' := [(0, .ref (s.r i.toNat)), (1, .ref s.x)]) rfl ?_
  refine j_aload_n M dX6_ruleBy_0 1 rfl ?_
  refine j_aload_n M dX6_ruleBy_1 0 rfl ?_
  refine j_get M ha rfl 0 (by decide) in_X8 q373 rfl dX6_ruleBy_2 ?_
  refine j_rV (k_VN M (c_rowOfC l X Pr c s hp _ (by omega) h) (rc_of M hx rfl) q721 q97 q561 qs13 (lw_meth q562) ndX0_rowOf dX6_ruleBy_5 ⟨by decide, by decide, by decide, by decide⟩ rfl (Nat.le_of_ble_eq_true rfl)) ?_
  refine j_astore M dX6_ruleBy_8 (by decide) ?_
  refine j_aload M dX6_ruleBy_10 2 rfl ?_
  refine dv_inst M q932 k1 r1 dX6_ruleBy_12 ?_
  refine j_ifeqB M 60 dX6_ruleBy_15 (by decide) (fun c_15 => ?_) (fun c_15 => ?_)
  · rw [decide_eq_false_iff_not] at c_15
    refine j_aconst_null M dX6_ruleBy_60 ?_
    refine j_aretN M dX6_ruleBy_61 (Or.inr ⟨_, rfl⟩) ⟨by decide, by decide⟩ ?_
    exact ⟨fun w => absurd w (by rw [pParts_i]; omega), fun _ => ⟨rfl, rfl⟩⟩
  · rw [decide_eq_true_eq] at c_15
    have ha1 := r1
    rw [rowE0 c_15] at ha1
    refine j_aload M dX6_ruleBy_18 2 rfl ?_
    refine dv_castT M q932 c_15 r1 dX6_ruleBy_20 ?_
    refine j_astore_n M dX6_ruleBy_23 (by decide) ?_
    refine j_aload_n M dX6_ruleBy_24 1 rfl ?_
    refine j_aload_n M dX6_ruleBy_25 0 rfl ?_
    refine j_get M ha rfl 1 (by decide) in_X8 q378 rfl dX6_ruleBy_26 ?_
    refine j_rV (k_VN M (c_rowOfC l X Pr c s hp _ (by omega) h) (rc_of M hx rfl) q721 q97 q561 qs13 (lw_meth q562) ndX0_rowOf dX6_ruleBy_29 ⟨by decide, by decide, by decide, by decide⟩ rfl (Nat.le_of_ble_eq_true rfl)) ?_
    refine j_astore M dX6_ruleBy_32 (by decide) ?_
    refine j_aload M dX6_ruleBy_34 2 rfl ?_
    refine dv_inst M q932 k2 r2 dX6_ruleBy_36 ?_
    refine j_ifeqB M 60 dX6_ruleBy_39 (by decide) (fun c_39 => ?_) (fun c_39 => ?_)
    · rw [decide_eq_false_iff_not] at c_39
      refine j_aconst_null M dX6_ruleBy_60 ?_
      refine j_aretN M dX6_ruleBy_61 (Or.inr ⟨_, rfl⟩) ⟨by decide, by decide⟩ ?_
      exact ⟨fun w => absurd w (by rw [pParts_i]; omega), fun _ => ⟨rfl, rfl⟩⟩
    · rw [decide_eq_true_eq] at c_39
      have ha2 := r2
      rw [rowE0 c_39] at ha2
      refine j_aload M dX6_ruleBy_42 2 rfl ?_
      refine dv_castT M q932 c_39 r2 dX6_ruleBy_44 ?_
      refine j_astore_n M dX6_ruleBy_47 (by decide) ?_
      refine j_aload_n M dX6_ruleBy_48 0 rfl ?_
      refine j_rV (k_A M (C := "AheadRows$Product") (xc := ⟨"AheadRows$Both", "mix", "()LAheadRows$Mix;"⟩) (c_mixX8 l X hp (s.r i.toNat)) (rc_of M ha rfl) (lw_U q741 q743 q744 q745 q108 q746) q742 ⟨by decide, by decide, ndX8_mix.2.2⟩ dX6_ruleBy_49 ⟨by decide, by decide, by decide, by decide⟩ rfl (Nat.le_of_ble_eq_true rfl)) ?_
      refine j_aload_n M dX6_ruleBy_52 3 rfl ?_
      refine j_aload_n M dX6_ruleBy_53 4 rfl ?_
      refine j_run (k_AU M (C := "AheadRows$Mix$2") (xc := ⟨"AheadRows$Mix", "ruleBy", "(LAheadRows$Told;LAheadRows$Told;)[I"⟩) (c_ruleByX14 l X hp _ _ _ _ _ _ _ _ _ _ ha1 ha2) (rc_mix1 M) q933 q935 q939 q940 (lw_meth q941) q934 ⟨by decide, by decide, ndX14_ruleBy.2.2⟩ dX6_ruleBy_54 ⟨by decide, by decide, by decide, by decide⟩ rfl (Nat.le_of_ble_eq_true rfl)) (fun r_54 hp_54 hq_54 => ?_)
      obtain ⟨q, g, rfl, hq, hB, rfl, g0, g1, g2, g3, g4⟩ := hq_54
      refine j_goto M 61 dX6_ruleBy_57 (by decide) ?_
      refine j_aret M dX6_ruleBy_61 (Or.inr ⟨_, rfl⟩) ⟨by decide, by decide⟩ ?_
      refine ⟨fun _ => ⟨q, g, rfl, hq, rfl, fun w w0 w1 => ?_⟩, fun hn => absurd (Or.inr (by rw [pParts_i]; omega)) hn⟩
      rcases w5 w0 w1 with z | z | z | z | z <;> subst z
      · simp [pRuleN, hk, g0]
      · simp [pRuleN, pBothR, hk, g1]
      · simp [pRuleN, pBothR, hk, g2]
      · simp [pRuleN, pBothR, hk, g3, Int.mul_comm]
      · simp [pRuleN, pBothR, hk, g4]
theorem c_ruX10 (i : Int) (hi : 0 ≤ i ∧ i < s.N) (hk : s.K i = 3) (h : CI X Pr c s hp) : Ct l X yX10_ruleBy cX10_ruleBy 4 (some (.array .int)) (rC 5 1 5) [.ref (s.r i.toNat), .ref s.x] hp (RuP X hp s.K s.P i) := by
  have hx := h.cw.hx
  have ha := h.row hi
  rw [rowE3 hk] at ha
  have ho := h.cw.ok i hi.1 hi.2
  have p1 := rOk_part ho (by omega)
  have pe := rOk_each ho hk
  have r1 := h.row (i := s.P (4 * i)) (by omega)
  have k1 := rOk_k (h.cw.ok (s.P (4 * i)) p1.1 (by omega))
  refine Ct.of (by decide) (Nat.le_of_ble_eq_true rfl) (fun Γ M => ?_)
  refine j_lv (lv' := [(0, .ref (s.r i.toNat)), (1, .ref s.x)]) rfl ?_
  refine j_aload_n M dX10_ruleBy_0 1 rfl ?_
  refine j_aload_n M dX10_ruleBy_1 0 rfl ?_
  refine j_getI M ha rfl 0 (by decide) in_X10 q409 q410 rfl dX10_ruleBy_2 ?_
  refine j_rV (k_VN M (c_rowOfC l X Pr c s hp _ (by omega) h) (rc_of M hx rfl) q717 q97 q561 qs13 (lw_meth q562) ndX0_rowOf dX10_ruleBy_5 ⟨by decide, by decide, by decide, by decide⟩ rfl (Nat.le_of_ble_eq_true rfl)) ?_
  refine j_astore_n M dX10_ruleBy_8 (by decide) ?_
  refine j_aload_n M dX10_ruleBy_9 2 rfl ?_
  refine dv_inst M q924 k1 r1 dX10_ruleBy_10 ?_
  refine j_ifeqB M 32 dX10_ruleBy_13 (by decide) (fun c_13 => ?_) (fun c_13 => ?_)
  · rw [decide_eq_false_iff_not] at c_13
    refine j_aconst_null M dX10_ruleBy_32 ?_
    refine j_aretN M dX10_ruleBy_33 (Or.inr ⟨_, rfl⟩) ⟨by decide, by decide⟩ ?_
    exact ⟨fun w => absurd w (by rw [pParts_i]; omega), fun _ => ⟨rfl, rfl⟩⟩
  · rw [decide_eq_true_eq] at c_13
    have ha1 := r1
    rw [rowE0 c_13] at ha1
    refine j_aload_n M dX10_ruleBy_16 2 rfl ?_
    refine dv_castT M q924 c_13 r1 dX10_ruleBy_17 ?_
    refine j_astore_n M dX10_ruleBy_20 (by decide) ?_
    refine j_aload_n M dX10_ruleBy_21 3 rfl ?_
    refine j_aload_n M dX10_ruleBy_22 0 rfl ?_
    refine j_get M ha rfl 1 (by decide) in_X10 q406 rfl dX10_ruleBy_23 ?_
    refine j_run (k_V M (c_power l X hp _ _ _ _ _ _ (by omega) ha1) (rc_of M ha1 rfl) (lw_V q925 q926 q927 q105 q928) ndX5_power dX10_ruleBy_26 ⟨by decide, by decide, by decide, by decide⟩ rfl (Nat.le_of_ble_eq_true rfl)) (fun r_26 hp_26 hq_26 => ?_)
    obtain ⟨q, g, rfl, hq, hB, rfl, g0, g1, g2, g3, g4⟩ := hq_26
    refine j_goto M 33 dX10_ruleBy_29 (by decide) ?_
    refine j_aret M dX10_ruleBy_33 (Or.inr ⟨_, rfl⟩) ⟨by decide, by decide⟩ ?_
    refine ⟨fun _ => ⟨q, g, rfl, hq, rfl, fun w w0 w1 => ?_⟩, fun hn => absurd (Or.inr (by rw [pParts_i]; omega)) hn⟩
    rcases w5 w0 w1 with z | z | z | z | z <;> subst z
    · simp [pRuleN, hk, g0]
    · simp [pRuleN, pTwoR, pOf, pEn, hk, g1, pPow]
    · simp [pRuleN, pTwoR, pOf, pEn, hk, g2, pPw]
    · simp [pRuleN, pTwoR, hk, g3]
    · simp [pRuleN, pTwoR, hk, g4]
theorem c_ruX11 (i : Int) (hi : 0 ≤ i ∧ i < s.N) (hk : s.K i = 4) (h : CI X Pr c s hp) : Ct l X yX11_ruleBy cX11_ruleBy 4 (some (.array .int)) (rC 5 1 5) [.ref (s.r i.toNat), .ref s.x] hp (RuP X hp s.K s.P i) := by
  have hx := h.cw.hx
  have ha := h.row hi
  rw [rowE4 hk] at ha
  have ho := h.cw.ok i hi.1 hi.2
  have p1 := rOk_part ho (by omega)
  have r1 := h.row (i := s.P (4 * i)) (by omega)
  have k1 := rOk_k (h.cw.ok (s.P (4 * i)) p1.1 (by omega))
  refine Ct.of (by decide) (Nat.le_of_ble_eq_true rfl) (fun Γ M => ?_)
  refine j_lv (lv' := [(0, .ref (s.r i.toNat)), (1, .ref s.x)]) rfl ?_
  refine j_aload_n M dX11_ruleBy_0 1 rfl ?_
  refine j_aload_n M dX11_ruleBy_1 0 rfl ?_
  refine j_getI M ha rfl 0 (by decide) in_X11 q411 q412 rfl dX11_ruleBy_2 ?_
  refine j_rV (k_VN M (c_rowOfC l X Pr c s hp _ (by omega) h) (rc_of M hx rfl) q725 q97 q561 qs13 (lw_meth q562) ndX0_rowOf dX11_ruleBy_5 ⟨by decide, by decide, by decide, by decide⟩ rfl (Nat.le_of_ble_eq_true rfl)) ?_
  refine j_astore_n M dX11_ruleBy_8 (by decide) ?_
  refine j_aload_n M dX11_ruleBy_9 2 rfl ?_
  refine dv_inst M q945 k1 r1 dX11_ruleBy_10 ?_
  refine j_ifeqB M 29 dX11_ruleBy_13 (by decide) (fun c_13 => ?_) (fun c_13 => ?_)
  · rw [decide_eq_false_iff_not] at c_13
    refine j_aconst_null M dX11_ruleBy_29 ?_
    refine j_aretN M dX11_ruleBy_30 (Or.inr ⟨_, rfl⟩) ⟨by decide, by decide⟩ ?_
    exact ⟨fun w => absurd w (by rw [pParts_i]; omega), fun _ => ⟨rfl, rfl⟩⟩
  · rw [decide_eq_true_eq] at c_13
    have ha1 := r1
    rw [rowE0 c_13] at ha1
    refine j_aload_n M dX11_ruleBy_16 2 rfl ?_
    refine dv_castT M q945 c_13 r1 dX11_ruleBy_17 ?_
    refine j_astore_n M dX11_ruleBy_20 (by decide) ?_
    refine j_aload_n M dX11_ruleBy_21 3 rfl ?_
    refine j_aload_n M dX11_ruleBy_22 1 rfl ?_
    refine j_run (k_V M (c_ruleByX5 l X hp _ _ _ _ _ s.x ha1) (rc_of M ha1 rfl) (lw_V q946 q947 q948 q105 q949) ndX5_ruleBy dX11_ruleBy_23 ⟨by decide, by decide, by decide, by decide⟩ rfl (Nat.le_of_ble_eq_true rfl)) (fun r_23 hp_23 hq_23 => ?_)
    obtain ⟨q, g, rfl, hq, hB, rfl, g0, g1, g2, g3, g4⟩ := hq_23
    refine j_goto M 30 dX11_ruleBy_26 (by decide) ?_
    refine j_aret M dX11_ruleBy_30 (Or.inr ⟨_, rfl⟩) ⟨by decide, by decide⟩ ?_
    refine ⟨fun _ => ⟨q, g, rfl, hq, rfl, fun w w0 w1 => ?_⟩, fun hn => absurd (Or.inr (by rw [pParts_i]; omega)) hn⟩
    rcases w5 w0 w1 with z | z | z | z | z <;> subst z
    · simp [pRuleN, hk, g0]
    · simp [pRuleN, pTwoR, pOf, pEn, hk, g1, pPow]
    · simp [pRuleN, pTwoR, pOf, pEn, hk, g2, pPw]
    · simp [pRuleN, pTwoR, hk, g3]
    · simp [pRuleN, pTwoR, hk, g4]
theorem c_ru (i : Int) (hi : 0 ≤ i ∧ i < s.N) (h : CI X Pr c s hp) : Dv_ruleBy l X hp (s.r i.toNat) s.K i (rC 5 1 5) [.ref s.x] (RuP X hp s.K s.P i) := ⟨fun e => c_ruX5 l X Pr c s hp i hi e h, fun e => c_ruX7 l X Pr c s hp i hi e h, fun e => c_ruX8 l X Pr c s hp i hi e h, fun e => c_ruX10 l X Pr c s hp i hi e h, fun e => c_ruX11 l X Pr c s hp i hi e h⟩
theorem c_rule (i w : Int) (hi : r32 i) (hw : r32 w) (h : CI X Pr c s hp) : Ct l X yX0_rule cX0_rule 4 (some .int) (rC 6 1 5) [.ref s.x, .int (zI i), .int (zI w)] hp (pA X Pr c s (.int (zI (vRule s.N s.K s.P i w)))) := by
  have h8 := h.n
  have hx := h.cw.hx
  by_cases hc : (s.K i = 0 ∨ pParts s.K s.P i = true)
  ·
    refine Ct.of (by decide) (Nat.le_of_ble_eq_true rfl) (fun Γ M => ?_)
    refine j_lv (lv' := [(0, .ref s.x), (1, .int (zI i)), (2, .int (zI w))]) rfl ?_
    refine j_aload_n M dX0_rule_0 0 rfl ?_
    refine j_iload_n M dX0_rule_1 1 rfl ?_
    refine j_rV (k_V M (c_isRow l X Pr c s hp i hi h) (rc_of M hx rfl) (lw_V q554 q556 qs12 q97 q557) ndX0_isRow dX0_rule_2 ⟨by decide, by decide, by decide, by decide⟩ rfl (Nat.le_of_ble_eq_true rfl)) ?_
    refine j_ifneB M 11 dX0_rule_5 (by decide) (fun c_5 => ?_) (fun c_5 => ?_)
    · rw [decide_eq_true_eq] at c_5
      refine j_iload_n M dX0_rule_11 2 rfl ?_
      refine j_iconst M dX0_rule_12 ?_
      refine j_iconst M dX0_rule_13 ?_
      refine j_rV (k_S M (c_in l X hp _ _ _ (by omega)) (lw_S q250 q251 q97 q252) ndX0_in dX0_rule_14 ⟨by decide, by decide, by decide, by decide⟩ rfl (Nat.le_of_ble_eq_true rfl)) ?_
      refine j_ifneB M 23 dX0_rule_17 (by decide) (fun c_17 => ?_) (fun c_17 => ?_)
      · rw [decide_eq_true_eq] at c_17
        refine j_aload_n M dX0_rule_23 0 rfl ?_
        refine j_iload_n M dX0_rule_24 1 rfl ?_
        refine j_rV (k_V M (c_rowOfC l X Pr c s hp i (by omega) h) (rc_of M hx rfl) (lw_V q559 q561 qs13 q97 q562) ndX0_rowOf dX0_rule_25 ⟨by decide, by decide, by decide, by decide⟩ rfl (Nat.le_of_ble_eq_true rfl)) ?_
        refine j_aload_n M dX0_rule_28 0 rfl ?_
        refine j_run (dv_ruleBy M q918 (rOk_k (h.cw.ok i (by omega) (by omega))) (h.row (i := i) (by omega)) (c_ru l X Pr c s hp i (by omega) h) rfl dX0_rule_29 ⟨by decide, by decide, by decide, by decide⟩ rfl (Nat.le_of_ble_eq_true rfl)) (fun r_29 hp_29 hq_29 => ?_)
        obtain ⟨q, g, rfl, hq, rfl, hg⟩ := hq_29.1 hc
        refine j_astore_n M dX0_rule_32 (by decide) ?_
        refine j_aload_n M dX0_rule_33 3 rfl ?_
        refine j_ifnonnullR M 42 dX0_rule_34 (by decide) ?_
        refine j_aload_n M dX0_rule_42 3 rfl ?_
        refine j_iload_n M dX0_rule_43 2 rfl ?_
        refine j_iald M (hup_s _ _ _) (by unfold inb; omega) dX0_rule_44 ?_
        refine j_iret M dX0_rule_45 ⟨by decide, by decide⟩ ?_
        refine ⟨?_, h.fresh hq⟩
        rw [hg w (by omega) (by omega)]
        unfold vRule; rw [if_pos c_5, if_pos c_17, if_pos (by unfold pTold; rw [decide_eq_true_eq]; exact hc)]
      · rw [decide_eq_false_iff_not] at c_17
        refine j_ldc M (2000000102) q253 (by decide) dX0_rule_20 ?_
        refine j_iret M dX0_rule_22 ⟨by decide, by decide⟩ ?_
        exact ⟨by unfold vRule; rw [if_pos c_5, if_neg c_17], h⟩
    · rw [decide_eq_false_iff_not] at c_5
      refine j_ldc M (2000000101) q558 (by decide) dX0_rule_8 ?_
      refine j_iret M dX0_rule_10 ⟨by decide, by decide⟩ ?_
      exact ⟨by unfold vRule; rw [if_neg c_5], h⟩
  ·
    refine Ct.of (by decide) (Nat.le_of_ble_eq_true rfl) (fun Γ M => ?_)
    refine j_lv (lv' := [(0, .ref s.x), (1, .int (zI i)), (2, .int (zI w))]) rfl ?_
    refine j_aload_n M dX0_rule_0 0 rfl ?_
    refine j_iload_n M dX0_rule_1 1 rfl ?_
    refine j_rV (k_V M (c_isRow l X Pr c s hp i hi h) (rc_of M hx rfl) (lw_V q554 q556 qs12 q97 q557) ndX0_isRow dX0_rule_2 ⟨by decide, by decide, by decide, by decide⟩ rfl (Nat.le_of_ble_eq_true rfl)) ?_
    refine j_ifneB M 11 dX0_rule_5 (by decide) (fun c_5 => ?_) (fun c_5 => ?_)
    · rw [decide_eq_true_eq] at c_5
      refine j_iload_n M dX0_rule_11 2 rfl ?_
      refine j_iconst M dX0_rule_12 ?_
      refine j_iconst M dX0_rule_13 ?_
      refine j_rV (k_S M (c_in l X hp _ _ _ (by omega)) (lw_S q250 q251 q97 q252) ndX0_in dX0_rule_14 ⟨by decide, by decide, by decide, by decide⟩ rfl (Nat.le_of_ble_eq_true rfl)) ?_
      refine j_ifneB M 23 dX0_rule_17 (by decide) (fun c_17 => ?_) (fun c_17 => ?_)
      · rw [decide_eq_true_eq] at c_17
        refine j_aload_n M dX0_rule_23 0 rfl ?_
        refine j_iload_n M dX0_rule_24 1 rfl ?_
        refine j_rV (k_V M (c_rowOfC l X Pr c s hp i (by omega) h) (rc_of M hx rfl) (lw_V q559 q561 qs13 q97 q562) ndX0_rowOf dX0_rule_25 ⟨by decide, by decide, by decide, by decide⟩ rfl (Nat.le_of_ble_eq_true rfl)) ?_
        refine j_aload_n M dX0_rule_28 0 rfl ?_
        refine j_run (dv_ruleBy M q918 (rOk_k (h.cw.ok i (by omega) (by omega))) (h.row (i := i) (by omega)) (c_ru l X Pr c s hp i (by omega) h) rfl dX0_rule_29 ⟨by decide, by decide, by decide, by decide⟩ rfl (Nat.le_of_ble_eq_true rfl)) (fun r_29 hp_29 hq_29 => ?_)
        obtain ⟨rfl, rfl⟩ := hq_29.2 hc
        refine j_astore_nN M dX0_rule_32 (by decide) ?_
        refine j_aload_nN M dX0_rule_33 3 rfl ?_
        refine j_ifnonnullN M dX0_rule_34 ?_
        refine j_ldc M (2000000103) q493 (by decide) dX0_rule_37 ?_
        refine j_goto M 45 dX0_rule_39 (by decide) ?_
        refine j_iret M dX0_rule_45 ⟨by decide, by decide⟩ ?_
        refine ⟨?_, h⟩
        unfold vRule; rw [if_pos c_5, if_pos c_17, if_neg (by unfold pTold; rw [decide_eq_true_eq]; exact hc)]
      · rw [decide_eq_false_iff_not] at c_17
        refine j_ldc M (2000000102) q253 (by decide) dX0_rule_20 ?_
        refine j_iret M dX0_rule_22 ⟨by decide, by decide⟩ ?_
        exact ⟨by unfold vRule; rw [if_pos c_5, if_neg c_17], h⟩
    · rw [decide_eq_false_iff_not] at c_5
      refine j_ldc M (2000000101) q558 (by decide) dX0_rule_8 ?_
      refine j_iret M dX0_rule_10 ⟨by decide, by decide⟩ ?_
      exact ⟨by unfold vRule; rw [if_neg c_5], h⟩
end C16
