/-! 58: the component: put, drop, letters, what is given: the walks -/
set_option maxRecDepth 100000
section C20
variable (l : Launch) (X : Cx) (Pr : Hp) (c : Int) (s : Co) (hp : Hp)
theorem c_letter (k : Int) (hk : r32 k) (h : CI X Pr c s hp) : Ct l X yX0_letter cX0_letter 2 (some .int) (rD 1) [.ref s.x, .int (zI k)] hp (pA X Pr c (if 32 ≤ k ∧ k ≤ 126 ∧ s.v 6 ≠ 47 then s.nm (upN s.v 6 (s.v 6 + 1)) s.G (upA s.B (s.v 6) k) else s) (.int (zI (if 32 ≤ k ∧ k ≤ 126 then (if s.v 6 = 47 then 2000000104 else s.v 6 + 1) else 2000000102)))) := by
  have hx := h.cw.hx
  obtain ⟨n1, n2, n3, n4, n5⟩ := h.nb
  obtain ⟨a1, a2, a3, a4⟩ := h.arr
  have nx := ne_oa hx a1
  refine Ct.of (by decide) (Nat.le_of_ble_eq_true rfl) (fun Γ M => ?_)
  refine j_lv (lv' := [(0, .ref s.x), (1, .int (zI k))]) rfl ?_
  refine j_iload_n M dX0_letter_0 1 rfl ?_
  refine j_bipush M dX0_letter_1 (by decide) ?_
  refine j_bipush M dX0_letter_3 (by decide) ?_
  refine j_rV (k_S M (c_in l X hp _ _ _ (by omega)) (lw_S q250 q251 q97 q252) ndX0_in dX0_letter_5 ⟨by decide, by decide, by decide, by decide⟩ rfl (Nat.le_of_ble_eq_true rfl)) ?_
  refine j_ifneB M 14 dX0_letter_8 (by decide) (fun c_8 => ?_) (fun c_8 => ?_)
  · rw [decide_eq_true_eq] at c_8
    refine j_aload_n M dX0_letter_14 0 rfl ?_
    refine j_get M hx rfl 6 (by decide) in_X0 q206 rfl dX0_letter_15 ?_
    refine j_bipush M dX0_letter_18 (by decide) ?_
    refine j_icmp_ne M 26 dX0_letter_20 (by decide) (by omega) (fun c_20 => ?_) (fun c_20 => ?_)
    · refine j_aload_n M dX0_letter_26 0 rfl ?_
      refine j_get M hx rfl 5 (by decide) in_X0 q204 rfl dX0_letter_27 ?_
      refine j_aload_n M dX0_letter_30 0 rfl ?_
      refine j_get M hx rfl 6 (by decide) in_X0 q206 rfl dX0_letter_31 ?_
      refine j_iload_n M dX0_letter_34 1 rfl ?_
      refine j_i2b M dX0_letter_35 (by omega) ?_
      refine j_bast M a1 (by unfold inb; omega) (by omega) dX0_letter_36 ?_
      have hx1 : hup hp (s.ad 4) (eB X 47 (upA s.B (s.v 6) k)) s.x = some (eA s.ad s.v) := by rw [hup_n _ _ nx]; exact hx
      refine j_aload_n M dX0_letter_37 0 rfl ?_
      refine j_dup M dX0_letter_38 rfl ?_
      refine j_get M hx1 rfl 6 (by decide) in_X0 q206 rfl dX0_letter_39 ?_
      refine j_iconst M dX0_letter_42 ?_
      refine j_iadd M dX0_letter_43 ?_
      refine j_put M hx1 rfl 6 (by decide) in_X0 tyX0 tyX0_ok nmX0 q206 rfl rfl rfl (Nat.le_of_ble_eq_true rfl) dX0_letter_44 ?_
      refine j_aload_n M dX0_letter_47 0 rfl ?_
      refine j_get M (hup_s _ _ _) rfl 6 (by decide) in_X0 q206 rfl dX0_letter_48 ?_
      refine j_iret M dX0_letter_51 ⟨Nat.le_refl _, Nat.le_refl _⟩ ?_
      refine ⟨by rw [if_pos c_8, if_neg (by omega)], ?_⟩
      rw [if_pos (by omega)]
      refine h.nums (v' := upN s.v 6 (s.v 6 + 1)) (fun z e he z1 z2 z3 => by rw [hup_n _ _ z3, hup_n _ _ z1]; exact he) (hup_s _ _ _) ?_ ?_ rfl ?_
      · rw [hup_n _ _ (Ne.symm nx), hup_s]
      · rw [hup_n _ _ (Ne.symm (ne_oa hx a2)), hup_n _ _ (ne_tg a2 a1 (by show ((0 : Nat), (8 : Nat)) ≠ (0, 47); decide))]; exact a2
      · refine ⟨n1, n2, ?_, fun j j0 j1 => ?_, n5⟩
        · show 0 ≤ s.v 6 + 1 ∧ s.v 6 + 1 ≤ 47
          omega
        · replace j1 : j < s.v 6 + 1 := j1
          show 32 ≤ upA s.B (s.v 6) k j ∧ upA s.B (s.v 6) k j ≤ 126
          by_cases e : j = s.v 6
          · rw [e, upA_s]; omega
          · rw [upA_n _ _ e]; exact n4 j j0 (by omega)
    · refine j_ldc M (2000000104) q254 (by decide) dX0_letter_23 ?_
      refine j_iret M dX0_letter_25 ⟨Nat.le_refl _, Nat.le_refl _⟩ ?_
      refine ⟨by rw [if_pos c_8, if_pos (by omega)], by rw [if_neg (by omega)]; exact h⟩
  · rw [decide_eq_false_iff_not] at c_8
    refine j_ldc M (2000000102) q253 (by decide) dX0_letter_11 ?_
    refine j_iret M dX0_letter_13 ⟨Nat.le_refl _, Nat.le_refl _⟩ ?_
    refine ⟨by rw [if_neg c_8], by rw [if_neg (by omega)]; exact h⟩
theorem c_blank (h : CI X Pr c s hp) : Ct l X yX0_blank cX0_blank 2 (some .int) (rD 0) [.ref s.x] hp (pA X Pr c (s.nm (upN s.v 6 0) s.G s.B) (.int (zI (s.v 6)))) := by
  have hx := h.cw.hx
  obtain ⟨n1, n2, n3, n4, n5⟩ := h.nb
  obtain ⟨a1, a2, a3, a4⟩ := h.arr
  refine Ct.of (by decide) (Nat.le_of_ble_eq_true rfl) (fun Γ M => ?_)
  refine j_lv (lv' := [(0, .ref s.x)]) rfl ?_
  refine j_aload_n M dX0_blank_0 0 rfl ?_
  refine j_get M hx rfl 6 (by decide) in_X0 q206 rfl dX0_blank_1 ?_
  refine j_istore_n M dX0_blank_4 (by decide) ?_
  refine j_aload_n M dX0_blank_5 0 rfl ?_
  refine j_iconst M dX0_blank_6 ?_
  refine j_put M hx rfl 6 (by decide) in_X0 tyX0 tyX0_ok nmX0 q206 rfl rfl rfl (Nat.le_of_ble_eq_true rfl) dX0_blank_7 ?_
  refine j_iload_n M dX0_blank_10 1 rfl ?_
  refine j_iret M dX0_blank_11 ⟨Nat.le_refl _, Nat.le_refl _⟩ ?_
  refine ⟨rfl, ?_⟩
  refine h.nums (v' := upN s.v 6 0) (fun z e he z1 z2 z3 => by rw [hup_n _ _ z3]; exact he) (hup_s _ _ _) (by rw [hup_n _ _ (Ne.symm (ne_oa hx a1))]; exact a1) (by rw [hup_n _ _ (Ne.symm (ne_oa hx a2))]; exact a2) rfl ⟨n1, n2, ?_, fun j j0 j1 => ?_, n5⟩
  · show (0 : Int) ≤ 0 ∧ (0 : Int) ≤ 47
    omega
  · replace j1 : j < 0 := j1
    omega
theorem c_give (k : Int) (hk : r32 k) (h : CI X Pr c s hp) : Ct l X yX0_give cX0_give 2 (some .int) (rD 1) [.ref s.x, .int (zI k)] hp (pA X Pr c (if (-99 ≤ k ∧ k ≤ 99) ∧ s.v 7 ≠ 8 then s.nm (upN s.v 7 (s.v 7 + 1)) (upA s.G (s.v 7) k) s.B else s) (.int (zI (vGive (s.v 7) k)))) := by
  have hx := h.cw.hx
  obtain ⟨n1, n2, n3, n4, n5, n6, n7⟩ := h.nb
  obtain ⟨a1, a2, a3, a4⟩ := h.arr
  have nx := ne_oa hx a2
  refine Ct.of (by decide) (Nat.le_of_ble_eq_true rfl) (fun Γ M => ?_)
  refine j_lv (lv' := [(0, .ref s.x), (1, .int (zI k))]) rfl ?_
  refine j_iload_n M dX0_give_0 1 rfl ?_
  refine j_bipush M dX0_give_1 (by decide) ?_
  refine j_bipush M dX0_give_3 (by decide) ?_
  refine j_rV (k_S M (c_in l X hp _ _ _ (by omega)) (lw_S q250 q251 q97 q252) ndX0_in dX0_give_5 ⟨by decide, by decide, by decide, by decide⟩ rfl (Nat.le_of_ble_eq_true rfl)) ?_
  refine j_ifneB M 14 dX0_give_8 (by decide) (fun c_8 => ?_) (fun c_8 => ?_)
  · rw [decide_eq_true_eq] at c_8
    refine j_aload_n M dX0_give_14 0 rfl ?_
    refine j_get M hx rfl 7 (by decide) in_X0 q207 rfl dX0_give_15 ?_
    refine j_bipush M dX0_give_18 (by decide) ?_
    refine j_icmp_ne M 26 dX0_give_20 (by decide) (by omega) (fun c_20 => ?_) (fun c_20 => ?_)
    · refine j_aload_n M dX0_give_26 0 rfl ?_
      refine j_get M hx rfl 8 (by decide) in_X0 q208 rfl dX0_give_27 ?_
      refine j_aload_n M dX0_give_30 0 rfl ?_
      refine j_get M hx rfl 7 (by decide) in_X0 q207 rfl dX0_give_31 ?_
      refine j_iload_n M dX0_give_34 1 rfl ?_
      refine j_iast M a2 (by unfold inb; omega) dX0_give_35 ?_
      have hx1 : hup hp (s.ad 5) (eI X 8 (upA s.G (s.v 7) k)) s.x = some (eA s.ad s.v) := by rw [hup_n _ _ nx]; exact hx
      refine j_aload_n M dX0_give_36 0 rfl ?_
      refine j_dup M dX0_give_37 rfl ?_
      refine j_get M hx1 rfl 7 (by decide) in_X0 q207 rfl dX0_give_38 ?_
      refine j_iconst M dX0_give_41 ?_
      refine j_iadd M dX0_give_42 ?_
      refine j_put M hx1 rfl 7 (by decide) in_X0 tyX0 tyX0_ok nmX0 q207 rfl rfl rfl (Nat.le_of_ble_eq_true rfl) dX0_give_43 ?_
      refine j_aload_n M dX0_give_46 0 rfl ?_
      refine j_get M (hup_s _ _ _) rfl 7 (by decide) in_X0 q207 rfl dX0_give_47 ?_
      refine j_iret M dX0_give_50 ⟨Nat.le_refl _, Nat.le_refl _⟩ ?_
      refine ⟨by unfold vGive; rw [if_pos c_8, if_neg (by omega)], ?_⟩
      rw [if_pos (by omega)]
      refine h.nums (v' := upN s.v 7 (s.v 7 + 1)) (fun z e he z1 z2 z3 => by rw [hup_n _ _ z3, hup_n _ _ z2]; exact he) (hup_s _ _ _) ?_ ?_ rfl ?_
      · rw [hup_n _ _ (Ne.symm (ne_oa hx a1)), hup_n _ _ (ne_tg a1 a2 (by show ((0 : Nat), (47 : Nat)) ≠ (0, 8); decide))]; exact a1
      · rw [hup_n _ _ (Ne.symm nx), hup_s]
      · refine ⟨n1, n2, n3, n4, ?_, fun j j0 j1 => ?_, n7⟩
        · show 0 ≤ s.v 7 + 1 ∧ s.v 7 + 1 ≤ 8
          omega
        · show -99 ≤ upA s.G (s.v 7) k j ∧ upA s.G (s.v 7) k j ≤ 99
          by_cases e : j = s.v 7
          · rw [e, upA_s]; omega
          · rw [upA_n _ _ e]; exact n6 j j0 (by omega)
    · refine j_ldc M (2000000104) q254 (by decide) dX0_give_23 ?_
      refine j_iret M dX0_give_25 ⟨Nat.le_refl _, Nat.le_refl _⟩ ?_
      refine ⟨by unfold vGive; rw [if_pos c_8, if_pos (by omega)], by rw [if_neg (by omega)]; exact h⟩
  · rw [decide_eq_false_iff_not] at c_8
    refine j_ldc M (2000000102) q253 (by decide) dX0_give_11 ?_
    refine j_iret M dX0_give_13 ⟨Nat.le_refl _, Nat.le_refl _⟩ ?_
    refine ⟨by unfold vGive; rw [if_neg c_8], by rw [if_neg (by omega)]; exact h⟩
theorem c_forget (h : CI X Pr c s hp) : Ct l X yX0_forget cX0_forget 2 (some .int) (rD 0) [.ref s.x] hp (pA X Pr c (s.nm (upN s.v 7 0) s.G s.B) (.int (zI (s.v 7)))) := by
  have hx := h.cw.hx
  obtain ⟨n1, n2, n3, n4, n5, n6, n7⟩ := h.nb
  obtain ⟨a1, a2, a3, a4⟩ := h.arr
  refine Ct.of (by decide) (Nat.le_of_ble_eq_true rfl) (fun Γ M => ?_)
  refine j_lv (lv' := [(0, .ref s.x)]) rfl ?_
  refine j_aload_n M dX0_forget_0 0 rfl ?_
  refine j_get M hx rfl 7 (by decide) in_X0 q207 rfl dX0_forget_1 ?_
  refine j_istore_n M dX0_forget_4 (by decide) ?_
  refine j_aload_n M dX0_forget_5 0 rfl ?_
  refine j_iconst M dX0_forget_6 ?_
  refine j_put M hx rfl 7 (by decide) in_X0 tyX0 tyX0_ok nmX0 q207 rfl rfl rfl (Nat.le_of_ble_eq_true rfl) dX0_forget_7 ?_
  refine j_iload_n M dX0_forget_10 1 rfl ?_
  refine j_iret M dX0_forget_11 ⟨Nat.le_refl _, Nat.le_refl _⟩ ?_
  refine ⟨rfl, ?_⟩
  refine h.nums (v' := upN s.v 7 0) (fun z e he z1 z2 z3 => by rw [hup_n _ _ z3]; exact he) (hup_s _ _ _) (by rw [hup_n _ _ (Ne.symm (ne_oa hx a1))]; exact a1) (by rw [hup_n _ _ (Ne.symm (ne_oa hx a2))]; exact a2) rfl ⟨n1, n2, n3, n4, ?_, n6, n7⟩
  show (0 : Int) ≤ 0 ∧ (0 : Int) ≤ 8
  omega
theorem c_putM (i w v : Int) (hi : r32 i) (hw : r32 w) (hv : r32 v) (hc : c < 1000) (h : CI X Pr c s hp) : Ct l X yX0_put cX0_put 6 (some .int) (rD 4) [.ref s.x, .int (zI i), .int (zI w), .int (zI v)] hp (pWc X Pr (c + 1) s (.int (zI (vPut s.N s.K s.P i w v))) s.N s.K (qPut s.N s.K s.P i w v)) := by
  have h8 := h.n
  have hx := h.cw.hx
  have hno : bPut s.N s.K i w v = false → ∃ s', CI X Pr (c + 1) s' hp ∧ cIs s s' s.N s.K (qPut s.N s.K s.P i w v) := fun hb => ⟨s, h.up (by omega), by unfold qPut; rw [hb]; exact cIs.rfl⟩
  refine Ct.of (by decide) (Nat.le_of_ble_eq_true rfl) (fun Γ M => ?_)
  refine j_lv (lv' := [(0, .ref s.x), (1, .int (zI i)), (2, .int (zI w)), (3, .int (zI v))]) rfl ?_
  refine j_aload_n M dX0_put_0 0 rfl ?_
  refine j_iload_n M dX0_put_1 1 rfl ?_
  refine j_rV (k_V M (c_isRow l X Pr c s hp i hi h) (rc_of M hx rfl) (lw_V q554 q556 qs12 q97 q557) ndX0_isRow dX0_put_2 (rmD (by omega) (by decide) rfl rfl) rfl (Nat.le_of_ble_eq_true rfl)) ?_
  refine j_ifneB M 11 dX0_put_5 (by decide) (fun c_5 => ?_) (fun c_5 => ?_)
  · rw [decide_eq_true_eq] at c_5
    refine j_iload_n M dX0_put_11 2 rfl ?_
    refine j_iconst M dX0_put_12 ?_
    refine j_iconst M dX0_put_13 ?_
    refine j_rV (k_S M (c_in l X hp _ _ _ (by omega)) (lw_S q250 q251 q97 q252) ndX0_in dX0_put_14 (rmD (by omega) (by decide) rfl rfl) rfl (Nat.le_of_ble_eq_true rfl)) ?_
    refine j_ifneB M 23 dX0_put_17 (by decide) (fun c_17 => ?_) (fun c_17 => ?_)
    · rw [decide_eq_true_eq] at c_17
      refine j_aload_n M dX0_put_23 0 rfl ?_
      refine j_iload_n M dX0_put_24 1 rfl ?_
      refine j_rV (k_V M (c_rowOfC l X Pr c s hp i (by omega) h) (rc_of M hx rfl) (lw_V q559 q561 qs13 q97 q562) ndX0_rowOf dX0_put_25 (rmD (by omega) (by decide) rfl rfl) rfl (Nat.le_of_ble_eq_true rfl)) ?_
      have hrw := h.row (i := i) (by omega)
      have hk := rOk_k (h.cw.ok i (by omega) (by omega))
      refine j_astore M dX0_put_28 (by decide) ?_
      refine j_aload M dX0_put_30 4 rfl ?_
      refine dv_inst M q686 hk hrw dX0_put_32 ?_
      refine j_ifeqB M 48 dX0_put_35 (by decide) (fun c_35 => ?_) (fun c_35 => ?_)
      · rw [decide_eq_false_iff_not] at c_35
        refine j_ldc M (2000000103) q493 (by decide) dX0_put_48 ?_
        refine j_iret M dX0_put_50 ⟨Nat.le_refl _, Nat.le_refl _⟩ ?_
        exact ⟨by unfold vPut; rw [if_pos c_5, if_pos c_17, if_neg c_35], hno (by unfold bPut; rw [decide_eq_false_iff_not]; exact fun q => c_35 q.2.2.1)⟩
      · rw [decide_eq_true_eq] at c_35
        have ht := rOk_told (h.cw.ok i (by omega) (by omega)) c_35
        have ha := hrw
        rw [rowE0 c_35] at ha
        refine j_aload M dX0_put_38 4 rfl ?_
        refine dv_castT M q686 c_35 hrw dX0_put_40 ?_
        refine j_astore M dX0_put_43 (by decide) ?_
        refine j_goto M 51 dX0_put_45 (by decide) ?_
        refine j_iload_n M dX0_put_51 2 rfl ?_
        refine j_iconst M dX0_put_52 ?_
        refine j_icmp_ge M 67 dX0_put_53 (by decide) (by omega) (fun c_53 => ?_) (fun c_53 => ?_)
        · refine j_iload_n M dX0_put_67 3 rfl ?_
          refine j_i2l M dX0_put_68 (by omega) ?_
          refine j_rV (k_S M (c_isWide l X hp v (by omega)) (lw_S q1019 q1020 q97 q1021) ndX0_isWide dX0_put_69 (rmD (by omega) (by decide) rfl rfl) rfl (Nat.le_of_ble_eq_true rfl)) ?_
          refine j_ifneB M 78 dX0_put_72 (by decide) (fun c_72 => ?_) (fun c_72 => ?_)
          · rw [decide_eq_true_eq] at c_72
            have hb : if w < 2 then -9 ≤ v ∧ v ≤ 9 else -999 ≤ v ∧ v ≤ 999 := by rw [if_neg (by omega)]; exact c_72
            refine j_aload M dX0_put_78 5 rfl ?_
            refine j_iload_n M dX0_put_80 2 rfl ?_
            refine j_iconst M dX0_put_81 ?_
            refine j_iadd M dX0_put_82 ?_
            refine j_rV (k_V M (c_numberX5 l X hp _ _ _ _ _ (w + 1) (by omega) ha) (rc_of M ha rfl) (lw_V q1053 q588 q1785 q105 q589) ndX5_number dX0_put_83 (rmD (by omega) (by decide) rfl rfl) rfl (Nat.le_of_ble_eq_true rfl)) ?_
            refine j_istore M dX0_put_86 (by decide) ?_
            refine j_aload M dX0_put_88 5 rfl ?_
            refine j_iload_n M dX0_put_90 2 rfl ?_
            refine j_iload_n M dX0_put_91 3 rfl ?_
            refine j_rN (k_V M (c_layX5 l X hp _ _ _ _ _ w v ha (by omega)) (rc_of M ha rfl) (lw_V q1054 q1055 q1056 q105 q1057) ndX5_lay dX0_put_92 (rmD (by omega) (by decide) rfl rfl) rfl (Nat.le_of_ble_eq_true rfl)) ?_
            have hx1 : hup hp (s.r i.toNat) (eX5 (if w = 0 then v else s.P (4 * i)) (if w = 1 then v else s.P (4 * i + 1)) (if w = 2 then v else s.P (4 * i + 2)) (if w = 3 then v else s.P (4 * i + 3))) s.x = some (eA s.ad s.v) := by rw [hup_n _ _ (ne_cc hx ha (by decide))]; exact hx
            refine j_aload_n M dX0_put_95 0 rfl ?_
            refine j_rN (k_V M (c_changed l X _ s.x s.ad s.v hx1) (rc_of M hx1 rfl) (lw_V q546 q548 qs11 q97 q549) ndX0_changed dX0_put_96 (rmD (by omega) (by decide) rfl rfl) rfl (Nat.le_of_ble_eq_true rfl)) ?_
            refine j_iload M dX0_put_99 4 rfl ?_
            refine j_iret M dX0_put_101 ⟨Nat.le_refl _, Nat.le_refl _⟩ ?_
            refine ⟨?_, ?_⟩
            · unfold vPut; rw [if_pos c_5, if_pos c_17, if_pos c_35, if_pos hb]
              rcases (show w = 0 ∨ w = 1 ∨ w = 2 ∨ w = 3 by omega) with q | q | q | q <;> subst q <;> simp
            · have hbb : bPut s.N s.K i w v = true := by unfold bPut; rw [decide_eq_true_eq]; exact ⟨c_5, c_17, c_35, hb⟩
              unfold qPut; rw [hbb]
              exact h.putd hc (by omega) c_17 c_35 hb
          · rw [decide_eq_false_iff_not] at c_72
            have hb : ¬ (if w < 2 then -9 ≤ v ∧ v ≤ 9 else -999 ≤ v ∧ v ≤ 999) := by rw [if_neg (by omega)]; exact c_72
            refine j_ldc M (2000000102) q253 (by decide) dX0_put_75 ?_
            refine j_iret M dX0_put_77 ⟨Nat.le_refl _, Nat.le_refl _⟩ ?_
            exact ⟨by unfold vPut; rw [if_pos c_5, if_pos c_17, if_pos c_35, if_neg hb], hno (by unfold bPut; rw [decide_eq_false_iff_not]; exact fun q => hb q.2.2.2)⟩
        · refine j_iload_n M dX0_put_56 3 rfl ?_
          refine j_i2l M dX0_put_57 (by omega) ?_
          refine j_rV (k_S M (c_isSmall l X hp v (by omega)) (lw_S q1014 q1015 q97 q1016) ndX0_isSmall dX0_put_58 (rmD (by omega) (by decide) rfl rfl) rfl (Nat.le_of_ble_eq_true rfl)) ?_
          refine j_ifneB M 78 dX0_put_61 (by decide) (fun c_61 => ?_) (fun c_61 => ?_)
          · rw [decide_eq_true_eq] at c_61
            have hb : if w < 2 then -9 ≤ v ∧ v ≤ 9 else -999 ≤ v ∧ v ≤ 999 := by rw [if_pos (by omega)]; exact c_61
            refine j_aload M dX0_put_78 5 rfl ?_
            refine j_iload_n M dX0_put_80 2 rfl ?_
            refine j_iconst M dX0_put_81 ?_
            refine j_iadd M dX0_put_82 ?_
            refine j_rV (k_V M (c_numberX5 l X hp _ _ _ _ _ (w + 1) (by omega) ha) (rc_of M ha rfl) (lw_V q1053 q588 q1785 q105 q589) ndX5_number dX0_put_83 (rmD (by omega) (by decide) rfl rfl) rfl (Nat.le_of_ble_eq_true rfl)) ?_
            refine j_istore M dX0_put_86 (by decide) ?_
            refine j_aload M dX0_put_88 5 rfl ?_
            refine j_iload_n M dX0_put_90 2 rfl ?_
            refine j_iload_n M dX0_put_91 3 rfl ?_
            refine j_rN (k_V M (c_layX5 l X hp _ _ _ _ _ w v ha (by omega)) (rc_of M ha rfl) (lw_V q1054 q1055 q1056 q105 q1057) ndX5_lay dX0_put_92 (rmD (by omega) (by decide) rfl rfl) rfl (Nat.le_of_ble_eq_true rfl)) ?_
            have hx1 : hup hp (s.r i.toNat) (eX5 (if w = 0 then v else s.P (4 * i)) (if w = 1 then v else s.P (4 * i + 1)) (if w = 2 then v else s.P (4 * i + 2)) (if w = 3 then v else s.P (4 * i + 3))) s.x = some (eA s.ad s.v) := by rw [hup_n _ _ (ne_cc hx ha (by decide))]; exact hx
            refine j_aload_n M dX0_put_95 0 rfl ?_
            refine j_rN (k_V M (c_changed l X _ s.x s.ad s.v hx1) (rc_of M hx1 rfl) (lw_V q546 q548 qs11 q97 q549) ndX0_changed dX0_put_96 (rmD (by omega) (by decide) rfl rfl) rfl (Nat.le_of_ble_eq_true rfl)) ?_
            refine j_iload M dX0_put_99 4 rfl ?_
            refine j_iret M dX0_put_101 ⟨Nat.le_refl _, Nat.le_refl _⟩ ?_
            refine ⟨?_, ?_⟩
            · unfold vPut; rw [if_pos c_5, if_pos c_17, if_pos c_35, if_pos hb]
              rcases (show w = 0 ∨ w = 1 ∨ w = 2 ∨ w = 3 by omega) with q | q | q | q <;> subst q <;> simp
            · have hbb : bPut s.N s.K i w v = true := by unfold bPut; rw [decide_eq_true_eq]; exact ⟨c_5, c_17, c_35, hb⟩
              unfold qPut; rw [hbb]
              exact h.putd hc (by omega) c_17 c_35 hb
          · rw [decide_eq_false_iff_not] at c_61
            have hb : ¬ (if w < 2 then -9 ≤ v ∧ v ≤ 9 else -999 ≤ v ∧ v ≤ 999) := by rw [if_pos (by omega)]; exact c_61
            refine j_goto M 75 dX0_put_64 (by decide) ?_
            refine j_ldc M (2000000102) q253 (by decide) dX0_put_75 ?_
            refine j_iret M dX0_put_77 ⟨Nat.le_refl _, Nat.le_refl _⟩ ?_
            exact ⟨by unfold vPut; rw [if_pos c_5, if_pos c_17, if_pos c_35, if_neg hb], hno (by unfold bPut; rw [decide_eq_false_iff_not]; exact fun q => hb q.2.2.2)⟩
    · rw [decide_eq_false_iff_not] at c_17
      refine j_ldc M (2000000102) q253 (by decide) dX0_put_20 ?_
      refine j_iret M dX0_put_22 ⟨Nat.le_refl _, Nat.le_refl _⟩ ?_
      exact ⟨by unfold vPut; rw [if_pos c_5, if_neg c_17], hno (by unfold bPut; rw [decide_eq_false_iff_not]; exact fun q => c_17 q.2.1)⟩
  · rw [decide_eq_false_iff_not] at c_5
    refine j_ldc M (2000000101) q558 (by decide) dX0_put_8 ?_
    refine j_iret M dX0_put_10 ⟨Nat.le_refl _, Nat.le_refl _⟩ ?_
    exact ⟨by unfold vPut; rw [if_neg c_5], hno (by unfold bPut; rw [decide_eq_false_iff_not]; exact fun q => c_5 q.1)⟩
theorem c_drop (hc : c < 1000) (h : CI X Pr c s hp) : Ct l X yX0_drop cX0_drop 1 (some .int) (rD 3) [.ref s.x] hp (pWc X Pr (c + 1) s (.int (zI (if s.N = 0 then 2000000103 else s.N - 1))) (if s.N = 0 then 0 else s.N - 1) s.K s.P) := by
  have h8 := h.n
  have hx := h.cw.hx
  have hR := h.cw.hR
  obtain ⟨mc, L1, L2⟩ := id hR.1
  refine Ct.of (by decide) (Nat.le_of_ble_eq_true rfl) (fun Γ M => ?_)
  refine j_lv (lv' := [(0, .ref s.x)]) rfl ?_
  refine j_bas M (fun hbas => ?_)
  refine j_aload_n M dX0_drop_0 0 rfl ?_
  refine j_get M hx rfl 0 (by decide) in_X0 q197 rfl dX0_drop_1 ?_
  refine j_rV (k_V M (c_isEmpty l X hp _ _ _ _ L1 (by omega)) (rc_of M L1 rfl) (lw_V q1062 q349 q350 q100 q351) ndJ2_isEmpty dX0_drop_4 (rmD (by omega) (by decide) rfl rfl) rfl (Nat.le_of_ble_eq_true rfl)) ?_
  refine j_ifeqB M 13 dX0_drop_7 (by decide) (fun c_7 => ?_) (fun c_7 => ?_)
  · rw [decide_eq_false_iff_not] at c_7
    refine j_aload_n M dX0_drop_13 0 rfl ?_
    refine j_get M hx rfl 0 (by decide) in_X0 q197 rfl dX0_drop_14 ?_
    refine j_aload_n M dX0_drop_17 0 rfl ?_
    refine j_get M hx rfl 0 (by decide) in_X0 q197 rfl dX0_drop_18 ?_
    refine j_rV (k_V M (c_size l X hp _ _ _ _ L1) (rc_of M L1 rfl) (lw_V q501 q361 q362 q100 q363) ndJ2_size dX0_drop_21 (rmD (by omega) (by decide) rfl rfl) rfl (Nat.le_of_ble_eq_true rfl)) ?_
    refine j_iconst M dX0_drop_24 ?_
    refine j_isub M dX0_drop_25 ?_
    refine j_run (k_V M (c_remove l X hp _ _ s.N s.r hR.1 (by omega)) (rc_of M L1 rfl) (lw_V q1063 q1064 q1065 q100 q1066) ndJ2_remove dX0_drop_26 (rmD (by omega) (by decide) rfl rfl) rfl (Nat.le_of_ble_eq_true rfl)) (fun r_26 hp_26 hq_26 => ?_)
    obtain ⟨rfl, A1, A3⟩ := hq_26
    obtain ⟨gr, hgr⟩ := hR.1.real (show 1 ≤ s.N by omega)
    have hBL := ButL.of hgr A3
    have nxL := ne_cc hx L1 (by decide)
    have hx1 : hp_26 s.x = some (eA s.ad s.v) := hBL _ _ hx nxL (Or.inr (fun g w => by cases w))
    obtain ⟨mc2, M1, M2⟩ := id A1
    refine j_pop M dX0_drop_29 rfl ?_
    refine j_aload_n M dX0_drop_30 0 rfl ?_
    refine j_rN (k_V M (c_changed l X _ s.x s.ad s.v hx1) (rc_of M hx1 rfl) (lw_V q546 q548 qs11 q97 q549) ndX0_changed dX0_drop_31 (rmD (by omega) (by decide) rfl rfl) rfl (Nat.le_of_ble_eq_true rfl)) ?_
    refine j_aload_n M dX0_drop_34 0 rfl ?_
    refine j_get M (hup_s _ _ _) rfl 0 (by decide) in_X0 q197 rfl dX0_drop_35 ?_
    refine j_rV (k_V M (c_size l X _ _ _ mc2 (s.N - 1) (show hup hp_26 s.x (eA s.ad (upN s.v 3 (s.v 3 + 1))) (s.ad 1) = some (eL mc2 s.el (s.N - 1)) by rw [hup_n _ _ (Ne.symm nxL)]; exact M1)) (rc_of M (show hup hp_26 s.x (eA s.ad (upN s.v 3 (s.v 3 + 1))) (s.ad 1) = some (eL mc2 s.el (s.N - 1)) by rw [hup_n _ _ (Ne.symm nxL)]; exact M1) rfl) (lw_V q501 q361 q362 q100 q363) ndJ2_size dX0_drop_38 (rmD (by omega) (by decide) rfl rfl) rfl (Nat.le_of_ble_eq_true rfl)) ?_
    refine j_iret M dX0_drop_41 ⟨Nat.le_refl _, Nat.le_refl _⟩ ?_
    refine ⟨by rw [if_neg c_7], ?_⟩
    rw [if_neg c_7]
    refine h.rows hc hbas (ButL.x hBL) (hup_s _ _ _) (el' := s.el) (r' := s.r) ⟨⟨mc2, by rw [hup_n _ _ (Ne.symm nxL)]; exact M1, ?_⟩, fun j hj => ?_⟩ (by omega) (fun j j0 j1 => h.cw.ok j j0 (by omega)) h.apt.2.2.1 (fun i j hi hj => h.apt.2.2.2.1 i j (by omega) (by omega)) (fun i j hi hj => h.apt.2.2.2.2 i j (by omega) hj)
    · rcases M2 with w | ⟨n0, n1, g, w1, w2⟩
      · exact Or.inl w
      · exact Or.inr ⟨n0, n1, g, by rw [hup_n _ _ (Ne.symm (ne_oa hx1 w1))]; exact w1, w2⟩
    · exact (ButL.x hBL).row L1 hx (hR.2 j (by omega))
  · rw [decide_eq_true_eq] at c_7
    refine j_ldc M (2000000103) q493 (by decide) dX0_drop_10 ?_
    refine j_iret M dX0_drop_12 ⟨Nat.le_refl _, Nat.le_refl _⟩ ?_
    refine ⟨by rw [if_pos c_7], s, h.up (by omega), by rw [if_pos c_7, ← c_7]; exact cIs.rfl⟩
end C20
