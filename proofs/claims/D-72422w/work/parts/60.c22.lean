/-! 60: the component: ease, counts -/
set_option maxRecDepth 100000
theorem ne_of {hp : Hp} {a b : Nat} {e : va_E} (h : hp a = some e) (hb : hp b = none) : a ≠ b := fun w => by rw [w, hb] at h; cases h
theorem two_r {c d n : Int} (hc : -9 ≤ c ∧ c ≤ 9) (hd : -9 ≤ d ∧ d ≤ 9) (hn : 1 ≤ n ∧ n ≤ 5) : r32 (pPow c d n.toNat).1 ∧ r32 (-pPw (-d) n.toNat) := by
  have a := (pPow_r hc hd n.toNat).1
  have b := pPw_r (v := -d) (by omega) n.toNat
  have e : n.toNat = 1 ∨ n.toNat = 2 ∨ n.toNat = 3 ∨ n.toNat = 4 ∨ n.toNat = 5 := by omega
  rcases e with e | e | e | e | e <;> rw [e] at a b ⊢ <;> omega
section C22
variable (l : Launch) (X : Cx) (Pr : Hp) (c : Int) (s : Co) (hp : Hp)
theorem c_eaX11 (i : Int) (hi : 0 ≤ i ∧ i < s.N) (hk : s.K i = 4) (h : CI X Pr c s hp) : Ct l X yX11_eased cX11_eased 4 (some (.object "AheadRows$Told")) (rC 14 2 9) [.ref (s.r i.toNat), .ref s.x] hp (EaP X hp s.K s.P i) := by
  have h8 := h.n
  have hx := h.cw.hx
  have ho := h.cw.ok i hi.1 hi.2
  have p1 := rOk_part ho (by omega)
  have r1 := h.row (i := s.P (4 * i)) (by omega)
  have k1 := rOk_k (h.cw.ok (s.P (4 * i)) p1.1 (by omega))
  have ha := h.row hi
  rw [rowE4 hk] at ha
  have hT0 := tR_r (pTerm_r h.cw.ok (n := 0) hi.1 hi.2)
  have hT1 := tR_r (pTerm_r h.cw.ok (n := 1) hi.1 hi.2)
  have eC : pEaC s.K s.P i = s.P (4 * s.P (4 * i)) := by unfold pEaC; rw [if_neg (by omega), if_neg (by omega)]
  have eD : pEaD s.K s.P i = s.P (4 * s.P (4 * i) + 1) := by unfold pEaD; rw [if_neg (by omega), if_neg (by omega)]
  have eN : pParts s.K s.P i = true → pCan s.K s.P i = true := fun q => by unfold pCan; rw [if_pos q, if_neg (by omega), if_neg (by omega)]
  by_cases hb : bTold (s.P (4 * s.P (4 * i))) (s.P (4 * s.P (4 * i) + 1)) (pTerm s.K s.P i 0) (pTerm s.K s.P i 1) = true
  ·
    refine Ct.of (by decide) (Nat.le_of_ble_eq_true rfl) (fun Γ M => ?_)
    refine j_lv (lv' := [(0, .ref (s.r i.toNat)), (1, .ref s.x)]) rfl ?_
    refine j_aload_n M dX11_eased_0 1 rfl ?_
    refine j_aload_n M dX11_eased_1 0 rfl ?_
    refine j_getI M ha rfl 0 (by decide) in_X11 q411 q412 rfl dX11_eased_2 ?_
    refine j_rV (k_VN M (c_rowOfC l X Pr c s hp _ (by omega) h) (rc_of M hx rfl) q725 q97 q561 qs13 (lw_meth q562) ndX0_rowOf dX11_eased_5 ⟨by decide, by decide, by decide, by decide⟩ rfl (Nat.le_of_ble_eq_true rfl)) ?_
    refine j_astore_n M dX11_eased_8 (by decide) ?_
    refine j_aload_n M dX11_eased_9 2 rfl ?_
    refine dv_inst M q945 k1 r1 dX11_eased_10 ?_
    refine j_ifeqB M 57 dX11_eased_13 (by decide) (fun c_13 => ?_) (fun c_13 => ?_)
    · rw [decide_eq_false_iff_not] at c_13
      have hpp : pParts s.K s.P i = false := by rw [← Bool.not_eq_true, pParts_i]; exact fun w => c_13 w.2.1
      refine j_aconst_null M dX11_eased_57 ?_
      refine j_aretN M dX11_eased_58 (Or.inl ⟨_, rfl⟩) ⟨by decide, by decide⟩ ?_
      exact EaP.no (pCan_no hpp)
    · rw [decide_eq_true_eq] at c_13
      have hpp : pParts s.K s.P i = true := by rw [pParts_i]; omega
      have ha1 := r1
      rw [rowE0 c_13] at ha1
      have t1 := rOk_told (h.cw.ok (s.P (4 * i)) p1.1 (by omega)) c_13
      refine j_aload_n M dX11_eased_16 2 rfl ?_
      refine dv_castT M q945 c_13 r1 dX11_eased_17 ?_
      refine j_astore_n M dX11_eased_20 (by decide) ?_
      refine j_aload_n M dX11_eased_21 1 rfl ?_
      refine j_new M (ci := 5) rfl in_X5 tyX5 tyX5_ok q945 q317 q105 [.int (zI 0), .int (zI 0), .int (zI 0), .int (zI 0)] df_X5 (by decide) dX11_eased_22 (fun q_22 hq_22 hB_22 => ?_)
      have hd : hup hp q_22 (.inr (5, [.int (zI 0), .int (zI 0), .int (zI 0), .int (zI 0)])) q_22 = some (.inr (5, [.int (zI 0), .int (zI 0), .int (zI 0), .int (zI 0)])) := hup_s _ _ _
      have hn1 := ne_of (hp := hp) ha1 hq_22
      refine j_dup M dX11_eased_25 rfl ?_
      refine j_aload_n M dX11_eased_26 3 rfl ?_
      refine j_get M (by rw [hup_n _ _ hn1]; exact ha1) rfl 0 (by decide) in_X5 q329 rfl dX11_eased_27 ?_
      refine j_aload_n M dX11_eased_30 3 rfl ?_
      refine j_get M (by rw [hup_n _ _ hn1]; exact ha1) rfl 1 (by decide) in_X5 q334 rfl dX11_eased_31 ?_
      refine j_iconst M dX11_eased_34 ?_
      refine j_iconst M dX11_eased_35 ?_
      refine j_rN (k_I M (c_toldInit l X _ q_22 _ _ 0 0 hd) (lw_meth q320) q105 q1130 q319 rfl ndX5_init dX11_eased_36 ⟨by decide, by decide, by decide, by decide⟩ rfl (Nat.le_of_ble_eq_true rfl)) ?_
      refine j_hp (hup_hup _ _ _ _) ?_
      have h2 := h.fresh (e := (eX5 (s.P (4 * s.P (4 * i))) (s.P (4 * s.P (4 * i) + 1)) 0 0)) hq_22
      have ha5 := h2.row hi
      rw [rowE4 hk] at ha5
      refine j_aload_n M dX11_eased_39 0 rfl ?_
      refine j_aload_n M dX11_eased_40 1 rfl ?_
      refine j_iconst M dX11_eased_41 ?_
      refine j_rV (k_V M ((c_exC l X Pr c s _ i 0 hi (by omega) h2).2.2.2.2 hk) (rc_of M ha5 rfl) (lw_V q1131 q723 q1791 q111 q724) ndX11_exact dX11_eased_42 ⟨by decide, by decide, by decide, by decide⟩ rfl (Nat.le_of_ble_eq_true rfl)) ?_
      refine j_aload_n M dX11_eased_45 0 rfl ?_
      refine j_aload_n M dX11_eased_46 1 rfl ?_
      refine j_iconst M dX11_eased_47 ?_
      refine j_rV (k_V M ((c_exC l X Pr c s _ i 1 hi (by omega) h2).2.2.2.2 hk) (rc_of M ha5 rfl) (lw_V q1131 q723 q1791 q111 q724) ndX11_exact dX11_eased_48 ⟨by decide, by decide, by decide, by decide⟩ rfl (Nat.le_of_ble_eq_true rfl)) ?_
      refine j_run (k_VN M (c_withTerms l X _ q_22 _ _ _ _ s.x (hup_s _ _ _) (by omega) (by omega) (by omega) (by omega)) (rc_of M h2.cw.hx rfl) q1132 q97 q1088 qs26 (lw_meth q1089) ndX0_withTerms dX11_eased_51 ⟨by decide, by decide, by decide, by decide⟩ rfl (Nat.le_of_ble_eq_true rfl)) (fun r_51 hp_51 hq_51 => ?_)
      obtain ⟨rfl, rfl⟩ := hq_51.1 hb
      rw [hup_hup]
      refine j_goto M 58 dX11_eased_54 (by decide) ?_
      refine j_aret M dX11_eased_58 (Or.inl ⟨_, rfl⟩) ⟨by decide, by decide⟩ ?_
      refine ⟨hup_ext hq_22, fun _ => ⟨q_22, rfl, hq_22, ?_⟩, fun w => absurd ⟨eN hpp, by rw [eC, eD]; exact hb⟩ w⟩
      rw [hup_s, eC, eD]
  ·
    refine Ct.of (by decide) (Nat.le_of_ble_eq_true rfl) (fun Γ M => ?_)
    refine j_lv (lv' := [(0, .ref (s.r i.toNat)), (1, .ref s.x)]) rfl ?_
    refine j_aload_n M dX11_eased_0 1 rfl ?_
    refine j_aload_n M dX11_eased_1 0 rfl ?_
    refine j_getI M ha rfl 0 (by decide) in_X11 q411 q412 rfl dX11_eased_2 ?_
    refine j_rV (k_VN M (c_rowOfC l X Pr c s hp _ (by omega) h) (rc_of M hx rfl) q725 q97 q561 qs13 (lw_meth q562) ndX0_rowOf dX11_eased_5 ⟨by decide, by decide, by decide, by decide⟩ rfl (Nat.le_of_ble_eq_true rfl)) ?_
    refine j_astore_n M dX11_eased_8 (by decide) ?_
    refine j_aload_n M dX11_eased_9 2 rfl ?_
    refine dv_inst M q945 k1 r1 dX11_eased_10 ?_
    refine j_ifeqB M 57 dX11_eased_13 (by decide) (fun c_13 => ?_) (fun c_13 => ?_)
    · rw [decide_eq_false_iff_not] at c_13
      have hpp : pParts s.K s.P i = false := by rw [← Bool.not_eq_true, pParts_i]; exact fun w => c_13 w.2.1
      refine j_aconst_null M dX11_eased_57 ?_
      refine j_aretN M dX11_eased_58 (Or.inl ⟨_, rfl⟩) ⟨by decide, by decide⟩ ?_
      exact EaP.no (pCan_no hpp)
    · rw [decide_eq_true_eq] at c_13
      have hpp : pParts s.K s.P i = true := by rw [pParts_i]; omega
      have ha1 := r1
      rw [rowE0 c_13] at ha1
      have t1 := rOk_told (h.cw.ok (s.P (4 * i)) p1.1 (by omega)) c_13
      refine j_aload_n M dX11_eased_16 2 rfl ?_
      refine dv_castT M q945 c_13 r1 dX11_eased_17 ?_
      refine j_astore_n M dX11_eased_20 (by decide) ?_
      refine j_aload_n M dX11_eased_21 1 rfl ?_
      refine j_new M (ci := 5) rfl in_X5 tyX5 tyX5_ok q945 q317 q105 [.int (zI 0), .int (zI 0), .int (zI 0), .int (zI 0)] df_X5 (by decide) dX11_eased_22 (fun q_22 hq_22 hB_22 => ?_)
      have hd : hup hp q_22 (.inr (5, [.int (zI 0), .int (zI 0), .int (zI 0), .int (zI 0)])) q_22 = some (.inr (5, [.int (zI 0), .int (zI 0), .int (zI 0), .int (zI 0)])) := hup_s _ _ _
      have hn1 := ne_of (hp := hp) ha1 hq_22
      refine j_dup M dX11_eased_25 rfl ?_
      refine j_aload_n M dX11_eased_26 3 rfl ?_
      refine j_get M (by rw [hup_n _ _ hn1]; exact ha1) rfl 0 (by decide) in_X5 q329 rfl dX11_eased_27 ?_
      refine j_aload_n M dX11_eased_30 3 rfl ?_
      refine j_get M (by rw [hup_n _ _ hn1]; exact ha1) rfl 1 (by decide) in_X5 q334 rfl dX11_eased_31 ?_
      refine j_iconst M dX11_eased_34 ?_
      refine j_iconst M dX11_eased_35 ?_
      refine j_rN (k_I M (c_toldInit l X _ q_22 _ _ 0 0 hd) (lw_meth q320) q105 q1130 q319 rfl ndX5_init dX11_eased_36 ⟨by decide, by decide, by decide, by decide⟩ rfl (Nat.le_of_ble_eq_true rfl)) ?_
      refine j_hp (hup_hup _ _ _ _) ?_
      have h2 := h.fresh (e := (eX5 (s.P (4 * s.P (4 * i))) (s.P (4 * s.P (4 * i) + 1)) 0 0)) hq_22
      have ha5 := h2.row hi
      rw [rowE4 hk] at ha5
      refine j_aload_n M dX11_eased_39 0 rfl ?_
      refine j_aload_n M dX11_eased_40 1 rfl ?_
      refine j_iconst M dX11_eased_41 ?_
      refine j_rV (k_V M ((c_exC l X Pr c s _ i 0 hi (by omega) h2).2.2.2.2 hk) (rc_of M ha5 rfl) (lw_V q1131 q723 q1791 q111 q724) ndX11_exact dX11_eased_42 ⟨by decide, by decide, by decide, by decide⟩ rfl (Nat.le_of_ble_eq_true rfl)) ?_
      refine j_aload_n M dX11_eased_45 0 rfl ?_
      refine j_aload_n M dX11_eased_46 1 rfl ?_
      refine j_iconst M dX11_eased_47 ?_
      refine j_rV (k_V M ((c_exC l X Pr c s _ i 1 hi (by omega) h2).2.2.2.2 hk) (rc_of M ha5 rfl) (lw_V q1131 q723 q1791 q111 q724) ndX11_exact dX11_eased_48 ⟨by decide, by decide, by decide, by decide⟩ rfl (Nat.le_of_ble_eq_true rfl)) ?_
      refine j_run (k_VN M (c_withTerms l X _ q_22 _ _ _ _ s.x (hup_s _ _ _) (by omega) (by omega) (by omega) (by omega)) (rc_of M h2.cw.hx rfl) q1132 q97 q1088 qs26 (lw_meth q1089) ndX0_withTerms dX11_eased_51 ⟨by decide, by decide, by decide, by decide⟩ rfl (Nat.le_of_ble_eq_true rfl)) (fun r_51 hp_51 hq_51 => ?_)
      obtain ⟨rfl, rfl⟩ := hq_51.2 (by rw [Bool.not_eq_true] at hb; exact hb)
      refine j_goto M 58 dX11_eased_54 (by decide) ?_
      refine j_aretN M dX11_eased_58 (Or.inl ⟨_, rfl⟩) ⟨by decide, by decide⟩ ?_
      exact ⟨hup_ext hq_22, fun w => absurd (by have w2 := w.2; rw [eC, eD] at w2; exact w2) hb, fun _ => rfl⟩
theorem c_eaX10 (i : Int) (hi : 0 ≤ i ∧ i < s.N) (hk : s.K i = 3) (h : CI X Pr c s hp) : Ct l X yX10_eased cX10_eased 3 (some (.object "AheadRows$Told")) (rC 14 2 9) [.ref (s.r i.toNat), .ref s.x] hp (EaP X hp s.K s.P i) := by
  have h8 := h.n
  have hx := h.cw.hx
  have ho := h.cw.ok i hi.1 hi.2
  have p1 := rOk_part ho (by omega)
  have r1 := h.row (i := s.P (4 * i)) (by omega)
  have k1 := rOk_k (h.cw.ok (s.P (4 * i)) p1.1 (by omega))
  have ha := h.row hi
  rw [rowE3 hk] at ha
  have hT0 := tR_r (pTerm_r h.cw.ok (n := 0) hi.1 hi.2)
  have hT1 := tR_r (pTerm_r h.cw.ok (n := 1) hi.1 hi.2)
  have eC : pEaC s.K s.P i = pTwoR s.K s.P i 1 := by unfold pEaC; rw [if_neg (by omega), if_pos hk]
  have eD : pEaD s.K s.P i = pTwoR s.K s.P i 2 := by unfold pEaD; rw [if_neg (by omega), if_pos hk]
  have eR : ∀ w, 1 ≤ w → pRuleN s.K s.P i w = pTwoR s.K s.P i w := fun w hw => by unfold pRuleN; rw [if_neg (by omega), if_neg (by omega)]
  have eN : pParts s.K s.P i = true → pCan s.K s.P i = true := fun q => by unfold pCan; rw [if_pos q, if_neg (by omega), if_neg (by omega)]
  have pe := rOk_each ho hk
  by_cases hpp : pParts s.K s.P i = true
  · have hr1 : r32 (pTwoR s.K s.P i 1) ∧ r32 (pTwoR s.K s.P i 2) := by
      have e1 := (pParts_i.mp hpp).2.1
      have t1 := rOk_told (h.cw.ok (s.P (4 * i)) p1.1 (by omega)) e1
      have ek := (show s.P (4 * i + 1) = 1 ∨ s.P (4 * i + 1) = 2 ∨ s.P (4 * i + 1) = 3 ∨ s.P (4 * i + 1) = 4 ∨ s.P (4 * i + 1) = 5 by omega)
      have eO : pOf s.K s.P i = s.P (4 * i) := by unfold pOf; rw [if_neg (by omega)]
      have eE : pEn s.K s.P i = s.P (4 * i + 1) := by unfold pEn; rw [if_pos hk]
      unfold pTwoR
      rw [if_neg (by decide), if_pos rfl, if_neg (by decide), if_neg (by decide), eO, eE]
      exact two_r t1.1 t1.2.1 (by omega)
    by_cases hb : bTold (pTwoR s.K s.P i 1) (pTwoR s.K s.P i 2) (pTerm s.K s.P i 0) (pTerm s.K s.P i 1) = true
    ·
      refine Ct.of (by decide) (Nat.le_of_ble_eq_true rfl) (fun Γ M => ?_)
      refine j_lv (lv' := [(0, .ref (s.r i.toNat)), (1, .ref s.x)]) rfl ?_
      refine j_aload_n M dX10_eased_0 0 rfl ?_
      refine j_aload_n M dX10_eased_1 1 rfl ?_
      refine j_run (k_V M (c_ruX10 l X Pr c s hp i hi hk h) (rc_of M ha rfl) (lw_V q1082 q922 q1786 q110 q923) ndX10_ruleBy dX10_eased_2 ⟨by decide, by decide, by decide, by decide⟩ rfl (Nat.le_of_ble_eq_true rfl)) (fun r_2 hp_2 hq_2 => ?_)
      obtain ⟨q2, g, rfl, hq2, rfl, hg⟩ := hq_2.1 (Or.inr hpp)
      have g1 : g 1 = pTwoR s.K s.P i 1 := by rw [hg 1 (by decide) (by decide), eR 1 (by decide)]
      have g2 : g 2 = pTwoR s.K s.P i 2 := by rw [hg 2 (by decide) (by decide), eR 2 (by decide)]
      have h1 := h.fresh (e := eI X 5 g) hq2
      have hg0 : hup hp q2 (eI X 5 g) q2 = some (eI X 5 g) := hup_s _ _ _
      refine j_astore_n M dX10_eased_5 (by decide) ?_
      refine j_aload_n M dX10_eased_6 2 rfl ?_
      refine j_ifnullR M dX10_eased_7 ?_
      refine j_aload_n M dX10_eased_10 2 rfl ?_
      refine j_iconst M dX10_eased_11 ?_
      refine j_iald M hg0 (by unfold inb; decide) dX10_eased_12 ?_
      rw [g1]
      refine j_i2l M dX10_eased_13 (by omega) ?_
      refine j_rV (k_SN M (c_isSmall l X _ _ (by omega)) q1083 q1015 q97 (lw_meth q1016) ndX0_isSmall dX10_eased_14 ⟨by decide, by decide, by decide, by decide⟩ rfl (Nat.le_of_ble_eq_true rfl)) ?_
      refine j_ifeqB M 30 dX10_eased_17 (by decide) (fun c_17 => ?_) (fun c_17 => ?_)
      · rw [decide_eq_false_iff_not] at c_17
        refine j_aconst_null M dX10_eased_30 ?_
        refine j_aretN M dX10_eased_31 (Or.inl ⟨_, rfl⟩) ⟨by decide, by decide⟩ ?_
        refine ⟨hup_ext hq2, fun w => ?_, fun _ => rfl⟩
        have w2 := w.2
        rw [eC, eD] at w2
        unfold bTold at w2; rw [decide_eq_true_eq] at w2; omega
      · rw [decide_eq_true_eq] at c_17
        refine j_aload_n M dX10_eased_20 2 rfl ?_
        refine j_iconst M dX10_eased_21 ?_
        refine j_iald M hg0 (by unfold inb; decide) dX10_eased_22 ?_
        rw [g2]
        refine j_i2l M dX10_eased_23 (by omega) ?_
        refine j_rV (k_SN M (c_isSmall l X _ _ (by omega)) q1083 q1015 q97 (lw_meth q1016) ndX0_isSmall dX10_eased_24 ⟨by decide, by decide, by decide, by decide⟩ rfl (Nat.le_of_ble_eq_true rfl)) ?_
        refine j_ifneB M 32 dX10_eased_27 (by decide) (fun c_27 => ?_) (fun c_27 => ?_)
        · rw [decide_eq_true_eq] at c_27
          refine j_aload_n M dX10_eased_32 1 rfl ?_
          refine j_new M (ci := 5) rfl in_X5 tyX5 tyX5_ok q924 q317 q105 [.int (zI 0), .int (zI 0), .int (zI 0), .int (zI 0)] df_X5 (by decide) dX10_eased_33 (fun q_33 hq_33 hB_33 => ?_)
          have hd : hup (hup hp q2 (eI X 5 g)) q_33 (.inr (5, [.int (zI 0), .int (zI 0), .int (zI 0), .int (zI 0)])) q_33 = some (.inr (5, [.int (zI 0), .int (zI 0), .int (zI 0), .int (zI 0)])) := hup_s _ _ _
          have hn1 := ne_of (hp := hup hp q2 (eI X 5 g)) hg0 hq_33
          refine j_dup M dX10_eased_36 rfl ?_
          refine j_aload_n M dX10_eased_37 2 rfl ?_
          refine j_iconst M dX10_eased_38 ?_
          refine j_iald M (by rw [hup_n _ _ hn1]; exact hg0) (by unfold inb; decide) dX10_eased_39 ?_
          rw [g1]
          refine j_aload_n M dX10_eased_40 2 rfl ?_
          refine j_iconst M dX10_eased_41 ?_
          refine j_iald M (by rw [hup_n _ _ hn1]; exact hg0) (by unfold inb; decide) dX10_eased_42 ?_
          rw [g2]
          refine j_iconst M dX10_eased_43 ?_
          refine j_iconst M dX10_eased_44 ?_
          refine j_rN (k_I M (c_toldInit l X _ q_33 _ _ 0 0 hd) (lw_meth q320) q105 q1084 q319 rfl ndX5_init dX10_eased_45 ⟨by decide, by decide, by decide, by decide⟩ rfl (Nat.le_of_ble_eq_true rfl)) ?_
          refine j_hp (hup_hup _ _ _ _) ?_
          have h2 := h1.fresh (e := (eX5 (pTwoR s.K s.P i 1) (pTwoR s.K s.P i 2) 0 0)) hq_33
          have ha5 := h2.row hi
          rw [rowE3 hk] at ha5
          have hfr : hp q_33 = none := by
            have := hq_33
            by_cases w : q_33 = q2
            · rw [w]; exact hq2
            · rw [hup_n _ _ w] at this; exact this
          refine j_aload_n M dX10_eased_48 0 rfl ?_
          refine j_aload_n M dX10_eased_49 1 rfl ?_
          refine j_iconst M dX10_eased_50 ?_
          refine j_rV (k_V M ((c_exC l X Pr c s _ i 0 hi (by omega) h2).2.2.2.1 hk) (rc_of M ha5 rfl) (lw_V q1085 q714 q1787 q110 q715) ndX10_exact dX10_eased_51 ⟨by decide, by decide, by decide, by decide⟩ rfl (Nat.le_of_ble_eq_true rfl)) ?_
          refine j_aload_n M dX10_eased_54 0 rfl ?_
          refine j_aload_n M dX10_eased_55 1 rfl ?_
          refine j_iconst M dX10_eased_56 ?_
          refine j_rV (k_V M ((c_exC l X Pr c s _ i 1 hi (by omega) h2).2.2.2.1 hk) (rc_of M ha5 rfl) (lw_V q1085 q714 q1787 q110 q715) ndX10_exact dX10_eased_57 ⟨by decide, by decide, by decide, by decide⟩ rfl (Nat.le_of_ble_eq_true rfl)) ?_
          refine j_run (k_VN M (c_withTerms l X _ q_33 _ _ _ _ s.x (hup_s _ _ _) (by omega) (by omega) (by omega) (by omega)) (rc_of M h2.cw.hx rfl) q1086 q97 q1088 qs26 (lw_meth q1089) ndX0_withTerms dX10_eased_60 ⟨by decide, by decide, by decide, by decide⟩ rfl (Nat.le_of_ble_eq_true rfl)) (fun r_60 hp_60 hq_60 => ?_)
          obtain ⟨rfl, rfl⟩ := hq_60.1 hb
          rw [hup_hup]
          refine j_aret M dX10_eased_63 (Or.inl ⟨_, rfl⟩) ⟨by decide, by decide⟩ ?_
          refine ⟨fun z e he => hup_ext hq_33 z e (hup_ext hq2 z e he), fun _ => ⟨q_33, rfl, hfr, ?_⟩, fun w => absurd ⟨eN hpp, by rw [eC, eD]; exact hb⟩ w⟩
          rw [hup_s, eC, eD]
        · rw [decide_eq_false_iff_not] at c_27
          refine j_aconst_null M dX10_eased_30 ?_
          refine j_aretN M dX10_eased_31 (Or.inl ⟨_, rfl⟩) ⟨by decide, by decide⟩ ?_
          refine ⟨hup_ext hq2, fun w => ?_, fun _ => rfl⟩
          have w2 := w.2
          rw [eC, eD] at w2
          unfold bTold at w2; rw [decide_eq_true_eq] at w2; omega
    ·
      refine Ct.of (by decide) (Nat.le_of_ble_eq_true rfl) (fun Γ M => ?_)
      refine j_lv (lv' := [(0, .ref (s.r i.toNat)), (1, .ref s.x)]) rfl ?_
      refine j_aload_n M dX10_eased_0 0 rfl ?_
      refine j_aload_n M dX10_eased_1 1 rfl ?_
      refine j_run (k_V M (c_ruX10 l X Pr c s hp i hi hk h) (rc_of M ha rfl) (lw_V q1082 q922 q1786 q110 q923) ndX10_ruleBy dX10_eased_2 ⟨by decide, by decide, by decide, by decide⟩ rfl (Nat.le_of_ble_eq_true rfl)) (fun r_2 hp_2 hq_2 => ?_)
      obtain ⟨q2, g, rfl, hq2, rfl, hg⟩ := hq_2.1 (Or.inr hpp)
      have g1 : g 1 = pTwoR s.K s.P i 1 := by rw [hg 1 (by decide) (by decide), eR 1 (by decide)]
      have g2 : g 2 = pTwoR s.K s.P i 2 := by rw [hg 2 (by decide) (by decide), eR 2 (by decide)]
      have h1 := h.fresh (e := eI X 5 g) hq2
      have hg0 : hup hp q2 (eI X 5 g) q2 = some (eI X 5 g) := hup_s _ _ _
      refine j_astore_n M dX10_eased_5 (by decide) ?_
      refine j_aload_n M dX10_eased_6 2 rfl ?_
      refine j_ifnullR M dX10_eased_7 ?_
      refine j_aload_n M dX10_eased_10 2 rfl ?_
      refine j_iconst M dX10_eased_11 ?_
      refine j_iald M hg0 (by unfold inb; decide) dX10_eased_12 ?_
      rw [g1]
      refine j_i2l M dX10_eased_13 (by omega) ?_
      refine j_rV (k_SN M (c_isSmall l X _ _ (by omega)) q1083 q1015 q97 (lw_meth q1016) ndX0_isSmall dX10_eased_14 ⟨by decide, by decide, by decide, by decide⟩ rfl (Nat.le_of_ble_eq_true rfl)) ?_
      refine j_ifeqB M 30 dX10_eased_17 (by decide) (fun c_17 => ?_) (fun c_17 => ?_)
      · rw [decide_eq_false_iff_not] at c_17
        refine j_aconst_null M dX10_eased_30 ?_
        refine j_aretN M dX10_eased_31 (Or.inl ⟨_, rfl⟩) ⟨by decide, by decide⟩ ?_
        refine ⟨hup_ext hq2, fun w => ?_, fun _ => rfl⟩
        have w2 := w.2
        rw [eC, eD] at w2
        unfold bTold at w2; rw [decide_eq_true_eq] at w2; omega
      · rw [decide_eq_true_eq] at c_17
        refine j_aload_n M dX10_eased_20 2 rfl ?_
        refine j_iconst M dX10_eased_21 ?_
        refine j_iald M hg0 (by unfold inb; decide) dX10_eased_22 ?_
        rw [g2]
        refine j_i2l M dX10_eased_23 (by omega) ?_
        refine j_rV (k_SN M (c_isSmall l X _ _ (by omega)) q1083 q1015 q97 (lw_meth q1016) ndX0_isSmall dX10_eased_24 ⟨by decide, by decide, by decide, by decide⟩ rfl (Nat.le_of_ble_eq_true rfl)) ?_
        refine j_ifneB M 32 dX10_eased_27 (by decide) (fun c_27 => ?_) (fun c_27 => ?_)
        · rw [decide_eq_true_eq] at c_27
          refine j_aload_n M dX10_eased_32 1 rfl ?_
          refine j_new M (ci := 5) rfl in_X5 tyX5 tyX5_ok q924 q317 q105 [.int (zI 0), .int (zI 0), .int (zI 0), .int (zI 0)] df_X5 (by decide) dX10_eased_33 (fun q_33 hq_33 hB_33 => ?_)
          have hd : hup (hup hp q2 (eI X 5 g)) q_33 (.inr (5, [.int (zI 0), .int (zI 0), .int (zI 0), .int (zI 0)])) q_33 = some (.inr (5, [.int (zI 0), .int (zI 0), .int (zI 0), .int (zI 0)])) := hup_s _ _ _
          have hn1 := ne_of (hp := hup hp q2 (eI X 5 g)) hg0 hq_33
          refine j_dup M dX10_eased_36 rfl ?_
          refine j_aload_n M dX10_eased_37 2 rfl ?_
          refine j_iconst M dX10_eased_38 ?_
          refine j_iald M (by rw [hup_n _ _ hn1]; exact hg0) (by unfold inb; decide) dX10_eased_39 ?_
          rw [g1]
          refine j_aload_n M dX10_eased_40 2 rfl ?_
          refine j_iconst M dX10_eased_41 ?_
          refine j_iald M (by rw [hup_n _ _ hn1]; exact hg0) (by unfold inb; decide) dX10_eased_42 ?_
          rw [g2]
          refine j_iconst M dX10_eased_43 ?_
          refine j_iconst M dX10_eased_44 ?_
          refine j_rN (k_I M (c_toldInit l X _ q_33 _ _ 0 0 hd) (lw_meth q320) q105 q1084 q319 rfl ndX5_init dX10_eased_45 ⟨by decide, by decide, by decide, by decide⟩ rfl (Nat.le_of_ble_eq_true rfl)) ?_
          refine j_hp (hup_hup _ _ _ _) ?_
          have h2 := h1.fresh (e := (eX5 (pTwoR s.K s.P i 1) (pTwoR s.K s.P i 2) 0 0)) hq_33
          have ha5 := h2.row hi
          rw [rowE3 hk] at ha5
          have hfr : hp q_33 = none := by
            have := hq_33
            by_cases w : q_33 = q2
            · rw [w]; exact hq2
            · rw [hup_n _ _ w] at this; exact this
          refine j_aload_n M dX10_eased_48 0 rfl ?_
          refine j_aload_n M dX10_eased_49 1 rfl ?_
          refine j_iconst M dX10_eased_50 ?_
          refine j_rV (k_V M ((c_exC l X Pr c s _ i 0 hi (by omega) h2).2.2.2.1 hk) (rc_of M ha5 rfl) (lw_V q1085 q714 q1787 q110 q715) ndX10_exact dX10_eased_51 ⟨by decide, by decide, by decide, by decide⟩ rfl (Nat.le_of_ble_eq_true rfl)) ?_
          refine j_aload_n M dX10_eased_54 0 rfl ?_
          refine j_aload_n M dX10_eased_55 1 rfl ?_
          refine j_iconst M dX10_eased_56 ?_
          refine j_rV (k_V M ((c_exC l X Pr c s _ i 1 hi (by omega) h2).2.2.2.1 hk) (rc_of M ha5 rfl) (lw_V q1085 q714 q1787 q110 q715) ndX10_exact dX10_eased_57 ⟨by decide, by decide, by decide, by decide⟩ rfl (Nat.le_of_ble_eq_true rfl)) ?_
          refine j_run (k_VN M (c_withTerms l X _ q_33 _ _ _ _ s.x (hup_s _ _ _) (by omega) (by omega) (by omega) (by omega)) (rc_of M h2.cw.hx rfl) q1086 q97 q1088 qs26 (lw_meth q1089) ndX0_withTerms dX10_eased_60 ⟨by decide, by decide, by decide, by decide⟩ rfl (Nat.le_of_ble_eq_true rfl)) (fun r_60 hp_60 hq_60 => ?_)
          obtain ⟨rfl, rfl⟩ := hq_60.2 (by rw [Bool.not_eq_true] at hb; exact hb)
          refine j_aretN M dX10_eased_63 (Or.inl ⟨_, rfl⟩) ⟨by decide, by decide⟩ ?_
          exact ⟨fun z e he => hup_ext hq_33 z e (hup_ext hq2 z e he), fun w => absurd (by have w2 := w.2; rw [eC, eD] at w2; exact w2) hb, fun _ => rfl⟩
        · rw [decide_eq_false_iff_not] at c_27
          refine j_aconst_null M dX10_eased_30 ?_
          refine j_aretN M dX10_eased_31 (Or.inl ⟨_, rfl⟩) ⟨by decide, by decide⟩ ?_
          refine ⟨hup_ext hq2, fun w => ?_, fun _ => rfl⟩
          have w2 := w.2
          rw [eC, eD] at w2
          unfold bTold at w2; rw [decide_eq_true_eq] at w2; omega
  ·
    refine Ct.of (by decide) (Nat.le_of_ble_eq_true rfl) (fun Γ M => ?_)
    refine j_lv (lv' := [(0, .ref (s.r i.toNat)), (1, .ref s.x)]) rfl ?_
    refine j_aload_n M dX10_eased_0 0 rfl ?_
    refine j_aload_n M dX10_eased_1 1 rfl ?_
    refine j_run (k_V M (c_ruX10 l X Pr c s hp i hi hk h) (rc_of M ha rfl) (lw_V q1082 q922 q1786 q110 q923) ndX10_ruleBy dX10_eased_2 ⟨by decide, by decide, by decide, by decide⟩ rfl (Nat.le_of_ble_eq_true rfl)) (fun r_2 hp_2 hq_2 => ?_)
    obtain ⟨rfl, rfl⟩ := hq_2.2 (by rintro (w | w); omega; exact hpp w)
    refine j_astore_nN M dX10_eased_5 (by decide) ?_
    refine j_aload_nN M dX10_eased_6 2 rfl ?_
    refine j_ifnullN M 30 dX10_eased_7 (by decide) ?_
    refine j_aconst_null M dX10_eased_30 ?_
    refine j_aretN M dX10_eased_31 (Or.inl ⟨_, rfl⟩) ⟨by decide, by decide⟩ ?_
    exact EaP.no (pCan_no (by rw [Bool.not_eq_true] at hpp; exact hpp))
theorem c_ea (i : Int) (hi : 0 ≤ i ∧ i < s.N) (h : CI X Pr c s hp) : Dv_eased l X hp (s.r i.toNat) s.K i (rC 14 2 9) [.ref s.x] (EaP X hp s.K s.P i) := ⟨fun e => c_eaX5 l X s hp i hi e, fun e => c_eaX7 l X Pr c s hp i hi e h, fun e => c_eaX8 l X Pr c s hp i hi e h, fun e => c_eaX10 l X Pr c s hp i hi e h, fun e => c_eaX11 l X Pr c s hp i hi e h⟩
theorem c_ki (i : Int) : Dv_kind l X hp (s.r i.toNat) s.K i (rD 0) [] (pD (some (.int (zI (s.K i)))) hp) := ⟨fun e => by rw [e]; exact c_kindX5 l X hp _, fun e => by rw [e]; exact c_kindX7 l X hp _, fun e => by rw [e]; exact c_kindX8 l X hp _, fun e => by rw [e]; exact c_kindX10 l X hp _, fun e => by rw [e]; exact c_kindX11 l X hp _⟩
theorem c_ease (i : Int) (hi : r32 i) (hc : c < 1000) (h : CI X Pr c s hp) : Ct l X yX0_ease cX0_ease 4 (some .int) (rC 15 2 9) [.ref s.x, .int (zI i)] hp (pWc X Pr (c + 1) s (.int (zI (vEase s.N s.K s.P i))) s.N (kEase s.N s.K s.P i) (qEase s.N s.K s.P i)) := by
  have h8 := h.n
  have hx := h.cw.hx
  have hno : ∀ hp1, CI X Pr c s hp1 → bEase s.N s.K s.P i = false → ∃ s', CI X Pr (c + 1) s' hp1 ∧ cIs s s' s.N (kEase s.N s.K s.P i) (qEase s.N s.K s.P i) := fun hp1 h1 hb => ⟨s, h1.up (by omega), by unfold qEase kEase; rw [hb]; exact cIs.rfl⟩
  by_cases hb : bEa s.K s.P i
  ·
    refine Ct.of (by decide) (Nat.le_of_ble_eq_true rfl) (fun Γ M => ?_)
    refine j_lv (lv' := [(0, .ref s.x), (1, .int (zI i))]) rfl ?_
    refine j_aload_n M dX0_ease_0 0 rfl ?_
    refine j_iload_n M dX0_ease_1 1 rfl ?_
    refine j_rV (k_V M (c_isRow l X Pr c s hp i hi h) (rc_of M hx rfl) (lw_V q554 q556 qs12 q97 q557) ndX0_isRow dX0_ease_2 ⟨by decide, by decide, by decide, by decide⟩ rfl (Nat.le_of_ble_eq_true rfl)) ?_
    refine j_ifneB M 11 dX0_ease_5 (by decide) (fun c_5 => ?_) (fun c_5 => ?_)
    · rw [decide_eq_true_eq] at c_5
      refine j_aload_n M dX0_ease_11 0 rfl ?_
      refine j_iload_n M dX0_ease_12 1 rfl ?_
      refine j_rV (k_V M (c_rowOfC l X Pr c s hp i (by omega) h) (rc_of M hx rfl) (lw_V q559 q561 qs13 q97 q562) ndX0_rowOf dX0_ease_13 ⟨by decide, by decide, by decide, by decide⟩ rfl (Nat.le_of_ble_eq_true rfl)) ?_
      refine j_aload_n M dX0_ease_16 0 rfl ?_
      refine j_run (dv_eased M q1076 (rOk_k (h.cw.ok i (by omega) (by omega))) (h.row (i := i) (by omega)) (c_ea l X Pr c s hp i (by omega) h) rfl dX0_ease_17 ⟨by decide, by decide, by decide, by decide⟩ rfl (Nat.le_of_ble_eq_true rfl)) (fun r_17 hp_17 hq_17 => ?_)
      obtain ⟨hext, hr, -⟩ := hq_17
      obtain ⟨q, rfl, hq0, hq1⟩ := hr hb
      have hbb : bEase s.N s.K s.P i = true := by unfold bEase; rw [decide_eq_true_eq]; exact ⟨c_5, hb⟩
      have h1 := h.ext hext
      have hrw := h1.row (i := i) (by omega)
      have hR := h1.cw.hR
      obtain ⟨mc, L1, L2⟩ := id hR.1
      have ht := hb.2
      unfold bTold at ht
      rw [decide_eq_true_eq] at ht
      have hk1 := rOk_k (h.cw.ok i (by omega) (by omega))
      refine j_bas M (fun hbas => ?_)
      refine j_astore_n M dX0_ease_20 (by decide) ?_
      refine j_aload_n M dX0_ease_21 2 rfl ?_
      refine j_ifnonnullR M 28 dX0_ease_22 (by decide) ?_
      refine j_aload_n M dX0_ease_28 0 rfl ?_
      refine j_iload_n M dX0_ease_29 1 rfl ?_
      refine j_rV (k_V M (c_rowOfC l X Pr c s _ i (by omega) h1) (rc_of M h1.cw.hx rfl) (lw_V q559 q561 qs13 q97 q562) ndX0_rowOf dX0_ease_30 ⟨by decide, by decide, by decide, by decide⟩ rfl (Nat.le_of_ble_eq_true rfl)) ?_
      refine j_rV (dv_kind M q1137 hk1 hrw (c_ki l X s _ i) rfl dX0_ease_33 ⟨by decide, by decide, by decide, by decide⟩ rfl (Nat.le_of_ble_eq_true rfl)) ?_
      refine j_istore_n M dX0_ease_36 (by decide) ?_
      refine j_aload_n M dX0_ease_37 0 rfl ?_
      refine j_get M h1.cw.hx rfl 0 (by decide) in_X0 q197 rfl dX0_ease_38 ?_
      refine j_iload_n M dX0_ease_41 1 rfl ?_
      refine j_aload_n M dX0_ease_42 2 rfl ?_
      refine j_run (k_V M (c_setL l X _ _ _ q 5 "" (fun _ => ("", "", "", false)) 0 _ s.N i s.r hR.1 (by omega) hq1) (rc_of M L1 rfl) (lw_V q1138 q1139 q1140 q100 q1141) ndJ2_set dX0_ease_43 ⟨by decide, by decide, by decide, by decide⟩ rfl (Nat.le_of_ble_eq_true rfl)) (fun r_43 hp_43 hq_43 => ?_)
      obtain ⟨rfl, A1, A3⟩ := hq_43
      obtain ⟨gr, hgr⟩ := hR.1.real (show 1 ≤ s.N by omega)
      have hBL := ButL.of hgr A3
      have nxL := ne_cc h1.cw.hx L1 (by decide)
      have hx1 : hp_43 s.x = some (eA s.ad s.v) := hBL _ _ h1.cw.hx nxL (Or.inr (fun g w => by cases w))
      obtain ⟨mc2, M1, M2⟩ := id A1
      refine j_pop M dX0_ease_46 rfl ?_
      refine j_aload_n M dX0_ease_47 0 rfl ?_
      refine j_rN (k_V M (c_changed l X _ s.x s.ad s.v hx1) (rc_of M hx1 rfl) (lw_V q546 q548 qs11 q97 q549) ndX0_changed dX0_ease_48 ⟨by decide, by decide, by decide, by decide⟩ rfl (Nat.le_of_ble_eq_true rfl)) ?_
      refine j_iload_n M dX0_ease_51 3 rfl ?_
      refine j_iret M dX0_ease_52 ⟨by decide, by decide⟩ ?_
      refine ⟨by unfold vEase; rw [if_pos c_5, hbb]; rfl, ?_⟩
      unfold kEase qEase
      rw [hbb]
      have hfr := fr_r h hq0
      refine h1.rows hc hbas (ButL.x hBL) (hup_s _ _ _) (el' := s.el) (r' := upN s.r i.toNat q) ⟨⟨mc2, by rw [hup_n _ _ (Ne.symm nxL)]; exact M1, ?_⟩, fun j hj => ?_⟩ h8.2 ?_ h.apt.2.2.1 ?_ ?_
      · rcases M2 with w | ⟨n0, n1, g, w1, w2⟩
        · exact Or.inl w
        · exact Or.inr ⟨n0, n1, g, by rw [hup_n _ _ (Ne.symm (ne_oa hx1 w1))]; exact w1, w2⟩
      · by_cases ej : j = i.toNat
        · rw [ej, upN_s, Int.toNat_of_nonneg c_5.1]
          have e0 : rowE (if true = true then upA s.K i 0 else s.K) (if true = true then pSet4 s.P i (pEaC s.K s.P i) (pEaD s.K s.P i) (pTerm s.K s.P i 0) (pTerm s.K s.P i 1) else s.P) i = eX5 (pEaC s.K s.P i) (pEaD s.K s.P i) (pTerm s.K s.P i 0) (pTerm s.K s.P i 1) := by
            rw [if_pos rfl, if_pos rfl, rowE0 (upA_s _ _ _), pSet4_0, pSet4_1, pSet4_2, pSet4_3]
          rw [e0]
          exact (ButL.x hBL) _ _ hq1 (ne_cc hq1 L1 (by decide)) (Or.inr (fun g w => by cases w)) (ne_cc hq1 h1.cw.hx (by decide))
        · rw [upN_n _ _ ej, if_pos rfl, if_pos rfl, rowE_congr (K := s.K) (P := s.P) (upA_n _ _ (by omega)) (fun z z0 z1 => pSet4_n _ _ _ _ _ _ _ (by omega))]
          exact (ButL.x hBL).row L1 h1.cw.hx (hR.2 j hj)
      · intro j j0 j1
        rw [if_pos rfl, if_pos rfl]
        by_cases ej : j = i
        · rw [ej]
          left
          rw [upA_s, pSet4_0, pSet4_1, pSet4_2, pSet4_3]
          omega
        · exact rOk_congr (h.cw.ok j j0 j1) (upA_n _ _ ej) (pSet4_n _ _ _ _ _ _ _ (by omega)) (pSet4_n _ _ _ _ _ _ _ (by omega)) (pSet4_n _ _ _ _ _ _ _ (by omega)) (pSet4_n _ _ _ _ _ _ _ (by omega))
      · intro a b ha hb hab
        by_cases ei : a = i.toNat
        · by_cases ej : b = i.toNat
          · omega
          · rw [ei, upN_s, upN_n _ _ ej] at hab; exact absurd hab.symm (hfr.1 b hb)
        · by_cases ej : b = i.toNat
          · rw [ej, upN_s, upN_n _ _ ei] at hab; exact absurd hab (hfr.1 a ha)
          · rw [upN_n _ _ ei, upN_n _ _ ej] at hab; exact h.apt.2.2.2.1 a b ha hb hab
      · intro a b ha hb
        by_cases ei : a = i.toNat
        · rw [ei, upN_s]; exact Ne.symm (hfr.2 b hb)
        · rw [upN_n _ _ ei]; exact h.apt.2.2.2.2 a b ha hb
    · rw [decide_eq_false_iff_not] at c_5
      refine j_ldc M (2000000101) q558 (by decide) dX0_ease_8 ?_
      refine j_iret M dX0_ease_10 ⟨by decide, by decide⟩ ?_
      exact ⟨by unfold vEase; rw [if_neg c_5], hno hp h (by unfold bEase; rw [decide_eq_false_iff_not]; exact fun q => c_5 q.1)⟩
  ·
    refine Ct.of (by decide) (Nat.le_of_ble_eq_true rfl) (fun Γ M => ?_)
    refine j_lv (lv' := [(0, .ref s.x), (1, .int (zI i))]) rfl ?_
    refine j_aload_n M dX0_ease_0 0 rfl ?_
    refine j_iload_n M dX0_ease_1 1 rfl ?_
    refine j_rV (k_V M (c_isRow l X Pr c s hp i hi h) (rc_of M hx rfl) (lw_V q554 q556 qs12 q97 q557) ndX0_isRow dX0_ease_2 ⟨by decide, by decide, by decide, by decide⟩ rfl (Nat.le_of_ble_eq_true rfl)) ?_
    refine j_ifneB M 11 dX0_ease_5 (by decide) (fun c_5 => ?_) (fun c_5 => ?_)
    · rw [decide_eq_true_eq] at c_5
      refine j_aload_n M dX0_ease_11 0 rfl ?_
      refine j_iload_n M dX0_ease_12 1 rfl ?_
      refine j_rV (k_V M (c_rowOfC l X Pr c s hp i (by omega) h) (rc_of M hx rfl) (lw_V q559 q561 qs13 q97 q562) ndX0_rowOf dX0_ease_13 ⟨by decide, by decide, by decide, by decide⟩ rfl (Nat.le_of_ble_eq_true rfl)) ?_
      refine j_aload_n M dX0_ease_16 0 rfl ?_
      refine j_run (dv_eased M q1076 (rOk_k (h.cw.ok i (by omega) (by omega))) (h.row (i := i) (by omega)) (c_ea l X Pr c s hp i (by omega) h) rfl dX0_ease_17 ⟨by decide, by decide, by decide, by decide⟩ rfl (Nat.le_of_ble_eq_true rfl)) (fun r_17 hp_17 hq_17 => ?_)
      obtain ⟨hext, -, hr⟩ := hq_17
      obtain rfl := hr hb
      have hbb : bEase s.N s.K s.P i = false := by unfold bEase; rw [decide_eq_false_iff_not]; exact fun q => hb q.2
      refine j_astore_nN M dX0_ease_20 (by decide) ?_
      refine j_aload_nN M dX0_ease_21 2 rfl ?_
      refine j_ifnonnullN M dX0_ease_22 ?_
      refine j_ldc M (2000000103) q493 (by decide) dX0_ease_25 ?_
      refine j_iret M dX0_ease_27 ⟨by decide, by decide⟩ ?_
      exact ⟨by unfold vEase; rw [if_pos c_5, hbb]; rfl, hno _ (h.ext hext) hbb⟩
    · rw [decide_eq_false_iff_not] at c_5
      refine j_ldc M (2000000101) q558 (by decide) dX0_ease_8 ?_
      refine j_iret M dX0_ease_10 ⟨by decide, by decide⟩ ?_
      exact ⟨by unfold vEase; rw [if_neg c_5], hno hp h (by unfold bEase; rw [decide_eq_false_iff_not]; exact fun q => c_5 q.1)⟩
end C22
