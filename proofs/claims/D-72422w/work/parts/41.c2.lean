/-! 41: the component: rows: constructors, kinds, numbers, copies -/
set_option maxRecDepth 100000
abbrev eX5 (c d e f : Int) : va_E := .inr (5, [.int (zI c), .int (zI d), .int (zI e), .int (zI f)])
abbrev eX7 (a b : Int) : va_E := .inr (7, [.int (zI a), .int (zI b)])
abbrev eX8 (a b : Int) : va_E := .inr (8, [.int (zI a), .int (zI b)])
abbrev eX10 (p n s : Int) : va_E := .inr (9, [.int (zI p), .int (zI n), .int (zI s)])
abbrev eX11 (p : Int) : va_E := .inr (10, [.int (zI p)])
section C2
variable (l : Launch) (X : Cx) (hp : Hp) (a : Nat)
theorem c_rowInit : CS l X yX4_init cX4_init 1 none 1 [.ref a] hp none := by
  refine Ct.of (by decide) (Nat.le_of_ble_eq_true rfl) (fun Γ M => ?_)
  refine j_lv (lv' := [(0, .ref a)]) rfl ?_
  refine j_aload_n M dX4_init_0 0 rfl ?_
  refine j_objInit M q324 q133 q134 (by decide) dX4_init_1 ?_
  refine j_vret M dX4_init_4 ⟨Nat.le_refl _, Nat.le_refl _⟩ ?_
  exact ⟨rfl, rfl⟩
theorem c_toldInit (c d e f : Int) (ha : hp a = some (.inr (5, [.int (zI 0), .int (zI 0), .int (zI 0), .int (zI 0)]))) : Ct l X yX5_init cX5_init 5 none (rD 2) [.ref a, .int (zI c), .int (zI d), .int (zI e), .int (zI f)] hp (pD none (hup hp a (eX5 c d e f))) := by
  refine Ct.of (by decide) (Nat.le_of_ble_eq_true rfl) (fun Γ M => ?_)
  refine j_lv (lv' := [(0, .ref a), (1, .int (zI c)), (2, .int (zI d)), (3, .int (zI e)), (4, .int (zI f))]) rfl ?_
  refine j_aload_n M dX5_init_0 0 rfl ?_
  refine j_rN (k_IN M (c_rowInit l X hp a) q321 (lw_meth q323) q104 q322 rfl ndX4_init dX5_init_1 ⟨by decide, by decide, by decide, by decide⟩ rfl (Nat.le_of_ble_eq_true rfl)) ?_
  refine j_aload_n M dX5_init_4 0 rfl ?_
  refine j_iload_n M dX5_init_5 1 rfl ?_
  refine j_put M ha rfl 0 (by decide) in_X5 tyX5 tyX5_ok nmX5 q325 rfl rfl rfl (Nat.le_of_ble_eq_true rfl) dX5_init_6 ?_
  refine j_aload_n M dX5_init_9 0 rfl ?_
  refine j_iload_n M dX5_init_10 2 rfl ?_
  refine j_put M (hup_s _ _ _) rfl 1 (by decide) in_X5 tyX5 tyX5_ok nmX5 q330 rfl rfl rfl (Nat.le_of_ble_eq_true rfl) dX5_init_11 ?_
  refine j_aload_n M dX5_init_14 0 rfl ?_
  refine j_iload_n M dX5_init_15 3 rfl ?_
  refine j_put M (hup_s _ _ _) rfl 2 (by decide) in_X5 tyX5 tyX5_ok nmX5 q335 rfl rfl rfl (Nat.le_of_ble_eq_true rfl) dX5_init_16 ?_
  refine j_aload_n M dX5_init_19 0 rfl ?_
  refine j_iload M dX5_init_20 4 rfl ?_
  refine j_put M (hup_s _ _ _) rfl 3 (by decide) in_X5 tyX5 tyX5_ok nmX5 q337 rfl rfl rfl (Nat.le_of_ble_eq_true rfl) dX5_init_22 ?_
  refine j_vret M dX5_init_25 ⟨Nat.le_refl _, Nat.le_refl _⟩ ?_
  exact ⟨rfl, by rw [hup_hup]; rw [hup_hup]; rw [hup_hup]; rfl⟩
theorem c_bothInitX7 (c d : Int) (ha : hp a = some (.inr (7, [.int (zI 0), .int (zI 0)]))) : Ct l X yX6_init cX6_init 3 none (rD 2) [.ref a, .int (zI c), .int (zI d)] hp (pD none (hup hp a (eX7 c d))) := by
  refine Ct.of (by decide) (Nat.le_of_ble_eq_true rfl) (fun Γ M => ?_)
  refine j_lv (lv' := [(0, .ref a), (1, .int (zI c)), (2, .int (zI d))]) rfl ?_
  refine j_aload_n M dX6_init_0 0 rfl ?_
  refine j_rN (k_IN M (c_rowInit l X hp a) q372 (lw_meth q323) q104 q322 rfl ndX4_init dX6_init_1 ⟨by decide, by decide, by decide, by decide⟩ rfl (Nat.le_of_ble_eq_true rfl)) ?_
  refine j_aload_n M dX6_init_4 0 rfl ?_
  refine j_iload_n M dX6_init_5 1 rfl ?_
  refine j_putF M ha rfl 0 (by decide) in_X7 tyX7 tyX7_ok nmX7 q373 rfl rfl rfl rfl rfl (Nat.le_of_ble_eq_true rfl) dX6_init_6 ?_
  refine j_aload_n M dX6_init_9 0 rfl ?_
  refine j_iload_n M dX6_init_10 2 rfl ?_
  refine j_putF M (hup_s _ _ _) rfl 1 (by decide) in_X7 tyX7 tyX7_ok nmX7 q378 rfl rfl rfl rfl rfl (Nat.le_of_ble_eq_true rfl) dX6_init_11 ?_
  refine j_vret M dX6_init_14 ⟨Nat.le_refl _, Nat.le_refl _⟩ ?_
  exact ⟨rfl, by rw [hup_hup]; rfl⟩
theorem c_initX7 (c d : Int) (ha : hp a = some (.inr (7, [.int (zI 0), .int (zI 0)]))) : Ct l X yX7_init cX7_init 3 none (rD 3) [.ref a, .int (zI c), .int (zI d)] hp (pD none (hup hp a (eX7 c d))) := by
  refine Ct.of (by decide) (Nat.le_of_ble_eq_true rfl) (fun Γ M => ?_)
  refine j_lv (lv' := [(0, .ref a), (1, .int (zI c)), (2, .int (zI d))]) rfl ?_
  refine j_aload_n M dX7_init_0 0 rfl ?_
  refine j_iload_n M dX7_init_1 1 rfl ?_
  refine j_iload_n M dX7_init_2 2 rfl ?_
  refine j_rN (k_I M (c_bothInitX7 l X hp a c d ha) (lw_meth q371) q106 q369 q370 rfl ndX6_init dX7_init_3 ⟨by decide, by decide, by decide, by decide⟩ rfl (Nat.le_of_ble_eq_true rfl)) ?_
  refine j_vret M dX7_init_6 ⟨Nat.le_refl _, Nat.le_refl _⟩ ?_
  exact ⟨rfl, rfl⟩
theorem c_bothInitX8 (c d : Int) (ha : hp a = some (.inr (8, [.int (zI 0), .int (zI 0)]))) : Ct l X yX6_init cX6_init 3 none (rD 2) [.ref a, .int (zI c), .int (zI d)] hp (pD none (hup hp a (eX8 c d))) := by
  refine Ct.of (by decide) (Nat.le_of_ble_eq_true rfl) (fun Γ M => ?_)
  refine j_lv (lv' := [(0, .ref a), (1, .int (zI c)), (2, .int (zI d))]) rfl ?_
  refine j_aload_n M dX6_init_0 0 rfl ?_
  refine j_rN (k_IN M (c_rowInit l X hp a) q372 (lw_meth q323) q104 q322 rfl ndX4_init dX6_init_1 ⟨by decide, by decide, by decide, by decide⟩ rfl (Nat.le_of_ble_eq_true rfl)) ?_
  refine j_aload_n M dX6_init_4 0 rfl ?_
  refine j_iload_n M dX6_init_5 1 rfl ?_
  refine j_putF M ha rfl 0 (by decide) in_X8 tyX8 tyX8_ok nmX8 q373 rfl rfl rfl rfl rfl (Nat.le_of_ble_eq_true rfl) dX6_init_6 ?_
  refine j_aload_n M dX6_init_9 0 rfl ?_
  refine j_iload_n M dX6_init_10 2 rfl ?_
  refine j_putF M (hup_s _ _ _) rfl 1 (by decide) in_X8 tyX8 tyX8_ok nmX8 q378 rfl rfl rfl rfl rfl (Nat.le_of_ble_eq_true rfl) dX6_init_11 ?_
  refine j_vret M dX6_init_14 ⟨Nat.le_refl _, Nat.le_refl _⟩ ?_
  exact ⟨rfl, by rw [hup_hup]; rfl⟩
theorem c_initX8 (c d : Int) (ha : hp a = some (.inr (8, [.int (zI 0), .int (zI 0)]))) : Ct l X yX8_init cX8_init 3 none (rD 3) [.ref a, .int (zI c), .int (zI d)] hp (pD none (hup hp a (eX8 c d))) := by
  refine Ct.of (by decide) (Nat.le_of_ble_eq_true rfl) (fun Γ M => ?_)
  refine j_lv (lv' := [(0, .ref a), (1, .int (zI c)), (2, .int (zI d))]) rfl ?_
  refine j_aload_n M dX8_init_0 0 rfl ?_
  refine j_iload_n M dX8_init_1 1 rfl ?_
  refine j_iload_n M dX8_init_2 2 rfl ?_
  refine j_rN (k_I M (c_bothInitX8 l X hp a c d ha) (lw_meth q371) q106 q393 q370 rfl ndX6_init dX8_init_3 ⟨by decide, by decide, by decide, by decide⟩ rfl (Nat.le_of_ble_eq_true rfl)) ?_
  refine j_vret M dX8_init_6 ⟨Nat.le_refl _, Nat.le_refl _⟩ ?_
  exact ⟨rfl, rfl⟩
theorem c_overInitX10 (c : Int) (ha : hp a = some (.inr (9, [.int (zI 0), .int (zI 0), .int (zI 0)]))) : Ct l X yX9_init cX9_init 2 none (rD 2) [.ref a, .int (zI c)] hp (pD none (hup hp a (.inr (9, [.int (zI c), .int (zI 0), .int (zI 0)])))) := by
  refine Ct.of (by decide) (Nat.le_of_ble_eq_true rfl) (fun Γ M => ?_)
  refine j_lv (lv' := [(0, .ref a), (1, .int (zI c))]) rfl ?_
  refine j_aload_n M dX9_init_0 0 rfl ?_
  refine j_rN (k_IN M (c_rowInit l X hp a) q405 (lw_meth q323) q104 q322 rfl ndX4_init dX9_init_1 ⟨by decide, by decide, by decide, by decide⟩ rfl (Nat.le_of_ble_eq_true rfl)) ?_
  refine j_aload_n M dX9_init_4 0 rfl ?_
  refine j_iload_n M dX9_init_5 1 rfl ?_
  refine j_putF M ha rfl 0 (by decide) in_X10 tyX10 tyX10_ok nmX10 q408 rfl rfl rfl rfl rfl (Nat.le_of_ble_eq_true rfl) dX9_init_6 ?_
  refine j_vret M dX9_init_9 ⟨Nat.le_refl _, Nat.le_refl _⟩ ?_
  exact ⟨rfl, by rfl⟩
theorem c_overInitX11 (c : Int) (ha : hp a = some (.inr (10, [.int (zI 0)]))) : Ct l X yX9_init cX9_init 2 none (rD 2) [.ref a, .int (zI c)] hp (pD none (hup hp a (.inr (10, [.int (zI c)])))) := by
  refine Ct.of (by decide) (Nat.le_of_ble_eq_true rfl) (fun Γ M => ?_)
  refine j_lv (lv' := [(0, .ref a), (1, .int (zI c))]) rfl ?_
  refine j_aload_n M dX9_init_0 0 rfl ?_
  refine j_rN (k_IN M (c_rowInit l X hp a) q405 (lw_meth q323) q104 q322 rfl ndX4_init dX9_init_1 ⟨by decide, by decide, by decide, by decide⟩ rfl (Nat.le_of_ble_eq_true rfl)) ?_
  refine j_aload_n M dX9_init_4 0 rfl ?_
  refine j_iload_n M dX9_init_5 1 rfl ?_
  refine j_putF M ha rfl 0 (by decide) in_X11 tyX11 tyX11_ok nmX11 q408 rfl rfl rfl rfl rfl (Nat.le_of_ble_eq_true rfl) dX9_init_6 ?_
  refine j_vret M dX9_init_9 ⟨Nat.le_refl _, Nat.le_refl _⟩ ?_
  exact ⟨rfl, by rfl⟩
theorem c_initX11 (c : Int) (ha : hp a = some (.inr (10, [.int (zI 0)]))) : Ct l X yX11_init cX11_init 2 none (rD 3) [.ref a, .int (zI c)] hp (pD none (hup hp a (eX11 c))) := by
  refine Ct.of (by decide) (Nat.le_of_ble_eq_true rfl) (fun Γ M => ?_)
  refine j_lv (lv' := [(0, .ref a), (1, .int (zI c))]) rfl ?_
  refine j_aload_n M dX11_init_0 0 rfl ?_
  refine j_iload_n M dX11_init_1 1 rfl ?_
  refine j_rN (k_I M (c_overInitX11 l X hp a c ha) (lw_meth q404) q109 q425 q403 rfl ndX9_init dX11_init_2 ⟨by decide, by decide, by decide, by decide⟩ rfl (Nat.le_of_ble_eq_true rfl)) ?_
  refine j_vret M dX11_init_5 ⟨Nat.le_refl _, Nat.le_refl _⟩ ?_
  exact ⟨rfl, rfl⟩
theorem c_initX10 (c d e : Int) (ha : hp a = some (.inr (9, [.int (zI 0), .int (zI 0), .int (zI 0)]))) : Ct l X yX10_init cX10_init 4 none (rD 3) [.ref a, .int (zI c), .int (zI d), .int (zI e)] hp (pD none (hup hp a (eX10 c d e))) := by
  refine Ct.of (by decide) (Nat.le_of_ble_eq_true rfl) (fun Γ M => ?_)
  refine j_lv (lv' := [(0, .ref a), (1, .int (zI c)), (2, .int (zI d)), (3, .int (zI e))]) rfl ?_
  refine j_aload_n M dX10_init_0 0 rfl ?_
  refine j_iload_n M dX10_init_1 1 rfl ?_
  refine j_rN (k_I M (c_overInitX10 l X hp a c ha) (lw_meth q404) q109 q402 q403 rfl ndX9_init dX10_init_2 ⟨by decide, by decide, by decide, by decide⟩ rfl (Nat.le_of_ble_eq_true rfl)) ?_
  refine j_aload_n M dX10_init_5 0 rfl ?_
  refine j_iload_n M dX10_init_6 2 rfl ?_
  refine j_putF M (hup_s _ _ _) rfl 1 (by decide) in_X10 tyX10 tyX10_ok nmX10 q406 rfl rfl rfl rfl rfl (Nat.le_of_ble_eq_true rfl) dX10_init_7 ?_
  refine j_aload_n M dX10_init_10 0 rfl ?_
  refine j_iload_n M dX10_init_11 3 rfl ?_
  refine j_putF M (hup_s _ _ _) rfl 2 (by decide) in_X10 tyX10 tyX10_ok nmX10 q407 rfl rfl rfl rfl rfl (Nat.le_of_ble_eq_true rfl) dX10_init_12 ?_
  refine j_vret M dX10_init_15 ⟨Nat.le_refl _, Nat.le_refl _⟩ ?_
  exact ⟨rfl, by rw [hup_hup]; rw [hup_hup]; rfl⟩
theorem c_kindX5 : CS l X yX5_kind cX5_kind 1 (some .int) 0 [.ref a] hp (some (.int (zI 0))) := by
  refine Ct.of (by decide) (Nat.le_of_ble_eq_true rfl) (fun Γ M => ?_)
  refine j_lv (lv' := [(0, .ref a)]) rfl ?_
  refine j_iconst M dX5_kind_0 ?_
  refine j_iret M dX5_kind_1 ⟨Nat.le_refl _, Nat.le_refl _⟩ ?_
  exact ⟨rfl, rfl⟩
theorem c_kindX7 : CS l X yX7_kind cX7_kind 1 (some .int) 0 [.ref a] hp (some (.int (zI 1))) := by
  refine Ct.of (by decide) (Nat.le_of_ble_eq_true rfl) (fun Γ M => ?_)
  refine j_lv (lv' := [(0, .ref a)]) rfl ?_
  refine j_iconst M dX7_kind_0 ?_
  refine j_iret M dX7_kind_1 ⟨Nat.le_refl _, Nat.le_refl _⟩ ?_
  exact ⟨rfl, rfl⟩
theorem c_kindX8 : CS l X yX8_kind cX8_kind 1 (some .int) 0 [.ref a] hp (some (.int (zI 2))) := by
  refine Ct.of (by decide) (Nat.le_of_ble_eq_true rfl) (fun Γ M => ?_)
  refine j_lv (lv' := [(0, .ref a)]) rfl ?_
  refine j_iconst M dX8_kind_0 ?_
  refine j_iret M dX8_kind_1 ⟨Nat.le_refl _, Nat.le_refl _⟩ ?_
  exact ⟨rfl, rfl⟩
theorem c_kindX10 : CS l X yX10_kind cX10_kind 1 (some .int) 0 [.ref a] hp (some (.int (zI 3))) := by
  refine Ct.of (by decide) (Nat.le_of_ble_eq_true rfl) (fun Γ M => ?_)
  refine j_lv (lv' := [(0, .ref a)]) rfl ?_
  refine j_iconst M dX10_kind_0 ?_
  refine j_iret M dX10_kind_1 ⟨Nat.le_refl _, Nat.le_refl _⟩ ?_
  exact ⟨rfl, rfl⟩
theorem c_kindX11 : CS l X yX11_kind cX11_kind 1 (some .int) 0 [.ref a] hp (some (.int (zI 4))) := by
  refine Ct.of (by decide) (Nat.le_of_ble_eq_true rfl) (fun Γ M => ?_)
  refine j_lv (lv' := [(0, .ref a)]) rfl ?_
  refine j_iconst M dX11_kind_0 ?_
  refine j_iret M dX11_kind_1 ⟨Nat.le_refl _, Nat.le_refl _⟩ ?_
  exact ⟨rfl, rfl⟩
theorem c_numberRX5 (c d e f : Int) (w : Int) (hw : r32 w) (ha : hp a = some (eX5 c d e f)) : CS l X yX4_number cX4_number 2 (some .int) 1 [.ref a, .int (zI w)] hp (some (.int (zI (if w = 0 then 0 else 2000000001)))) := by
  refine Ct.of (by decide) (Nat.le_of_ble_eq_true rfl) (fun Γ M => ?_)
  refine j_lv (lv' := [(0, .ref a), (1, .int (zI w))]) rfl ?_
  refine j_iload_n M dX4_number_0 1 rfl ?_
  refine j_if_ne M 11 dX4_number_1 (by decide) (by omega) (fun c_1 => ?_) (fun c_1 => ?_)
  · refine j_ldc M (2000000001) q610 (by decide) dX4_number_11 ?_
    refine j_iret M dX4_number_13 ⟨Nat.le_refl _, Nat.le_refl _⟩ ?_
    exact ⟨by rw [if_neg c_1], rfl⟩
  · refine j_aload_n M dX4_number_4 0 rfl ?_
    refine j_rV (k_A M (C := "AheadRows$Told") (xc := ⟨"AheadRows$Row", "kind", "()I"⟩) (c_kindX5 l X hp a) (rc_of M ha rfl) (lw_U q592 q594 q607 q608 q105 q609) q593 ⟨by decide, by decide, ndX5_kind.2.2⟩ dX4_number_5 ⟨by decide, by decide, by decide, by decide⟩ rfl (Nat.le_of_ble_eq_true rfl)) ?_
    refine j_goto M 13 dX4_number_8 (by decide) ?_
    refine j_iret M dX4_number_13 ⟨Nat.le_refl _, Nat.le_refl _⟩ ?_
    exact ⟨by rw [if_pos c_1], rfl⟩
theorem c_numberRX7 (c d : Int) (w : Int) (hw : r32 w) (ha : hp a = some (eX7 c d)) : CS l X yX4_number cX4_number 2 (some .int) 1 [.ref a, .int (zI w)] hp (some (.int (zI (if w = 0 then 1 else 2000000001)))) := by
  refine Ct.of (by decide) (Nat.le_of_ble_eq_true rfl) (fun Γ M => ?_)
  refine j_lv (lv' := [(0, .ref a), (1, .int (zI w))]) rfl ?_
  refine j_iload_n M dX4_number_0 1 rfl ?_
  refine j_if_ne M 11 dX4_number_1 (by decide) (by omega) (fun c_1 => ?_) (fun c_1 => ?_)
  · refine j_ldc M (2000000001) q610 (by decide) dX4_number_11 ?_
    refine j_iret M dX4_number_13 ⟨Nat.le_refl _, Nat.le_refl _⟩ ?_
    exact ⟨by rw [if_neg c_1], rfl⟩
  · refine j_aload_n M dX4_number_4 0 rfl ?_
    refine j_rV (k_A M (C := "AheadRows$Sum") (xc := ⟨"AheadRows$Row", "kind", "()I"⟩) (c_kindX7 l X hp a) (rc_of M ha rfl) (lw_U q592 q594 q604 q605 q107 q606) q593 ⟨by decide, by decide, ndX7_kind.2.2⟩ dX4_number_5 ⟨by decide, by decide, by decide, by decide⟩ rfl (Nat.le_of_ble_eq_true rfl)) ?_
    refine j_goto M 13 dX4_number_8 (by decide) ?_
    refine j_iret M dX4_number_13 ⟨Nat.le_refl _, Nat.le_refl _⟩ ?_
    exact ⟨by rw [if_pos c_1], rfl⟩
theorem c_numberRX8 (c d : Int) (w : Int) (hw : r32 w) (ha : hp a = some (eX8 c d)) : CS l X yX4_number cX4_number 2 (some .int) 1 [.ref a, .int (zI w)] hp (some (.int (zI (if w = 0 then 2 else 2000000001)))) := by
  refine Ct.of (by decide) (Nat.le_of_ble_eq_true rfl) (fun Γ M => ?_)
  refine j_lv (lv' := [(0, .ref a), (1, .int (zI w))]) rfl ?_
  refine j_iload_n M dX4_number_0 1 rfl ?_
  refine j_if_ne M 11 dX4_number_1 (by decide) (by omega) (fun c_1 => ?_) (fun c_1 => ?_)
  · refine j_ldc M (2000000001) q610 (by decide) dX4_number_11 ?_
    refine j_iret M dX4_number_13 ⟨Nat.le_refl _, Nat.le_refl _⟩ ?_
    exact ⟨by rw [if_neg c_1], rfl⟩
  · refine j_aload_n M dX4_number_4 0 rfl ?_
    refine j_rV (k_A M (C := "AheadRows$Product") (xc := ⟨"AheadRows$Row", "kind", "()I"⟩) (c_kindX8 l X hp a) (rc_of M ha rfl) (lw_U q592 q594 q598 q599 q108 q600) q593 ⟨by decide, by decide, ndX8_kind.2.2⟩ dX4_number_5 ⟨by decide, by decide, by decide, by decide⟩ rfl (Nat.le_of_ble_eq_true rfl)) ?_
    refine j_goto M 13 dX4_number_8 (by decide) ?_
    refine j_iret M dX4_number_13 ⟨Nat.le_refl _, Nat.le_refl _⟩ ?_
    exact ⟨by rw [if_pos c_1], rfl⟩
theorem c_numberRX10 (c d e : Int) (w : Int) (hw : r32 w) (ha : hp a = some (eX10 c d e)) : CS l X yX4_number cX4_number 2 (some .int) 1 [.ref a, .int (zI w)] hp (some (.int (zI (if w = 0 then 3 else 2000000001)))) := by
  refine Ct.of (by decide) (Nat.le_of_ble_eq_true rfl) (fun Γ M => ?_)
  refine j_lv (lv' := [(0, .ref a), (1, .int (zI w))]) rfl ?_
  refine j_iload_n M dX4_number_0 1 rfl ?_
  refine j_if_ne M 11 dX4_number_1 (by decide) (by omega) (fun c_1 => ?_) (fun c_1 => ?_)
  · refine j_ldc M (2000000001) q610 (by decide) dX4_number_11 ?_
    refine j_iret M dX4_number_13 ⟨Nat.le_refl _, Nat.le_refl _⟩ ?_
    exact ⟨by rw [if_neg c_1], rfl⟩
  · refine j_aload_n M dX4_number_4 0 rfl ?_
    refine j_rV (k_A M (C := "AheadRows$Each") (xc := ⟨"AheadRows$Row", "kind", "()I"⟩) (c_kindX10 l X hp a) (rc_of M ha rfl) (lw_U q592 q594 q595 q596 q110 q597) q593 ⟨by decide, by decide, ndX10_kind.2.2⟩ dX4_number_5 ⟨by decide, by decide, by decide, by decide⟩ rfl (Nat.le_of_ble_eq_true rfl)) ?_
    refine j_goto M 13 dX4_number_8 (by decide) ?_
    refine j_iret M dX4_number_13 ⟨Nat.le_refl _, Nat.le_refl _⟩ ?_
    exact ⟨by rw [if_pos c_1], rfl⟩
theorem c_numberRX11 (c : Int) (w : Int) (hw : r32 w) (ha : hp a = some (eX11 c)) : CS l X yX4_number cX4_number 2 (some .int) 1 [.ref a, .int (zI w)] hp (some (.int (zI (if w = 0 then 4 else 2000000001)))) := by
  refine Ct.of (by decide) (Nat.le_of_ble_eq_true rfl) (fun Γ M => ?_)
  refine j_lv (lv' := [(0, .ref a), (1, .int (zI w))]) rfl ?_
  refine j_iload_n M dX4_number_0 1 rfl ?_
  refine j_if_ne M 11 dX4_number_1 (by decide) (by omega) (fun c_1 => ?_) (fun c_1 => ?_)
  · refine j_ldc M (2000000001) q610 (by decide) dX4_number_11 ?_
    refine j_iret M dX4_number_13 ⟨Nat.le_refl _, Nat.le_refl _⟩ ?_
    exact ⟨by rw [if_neg c_1], rfl⟩
  · refine j_aload_n M dX4_number_4 0 rfl ?_
    refine j_rV (k_A M (C := "AheadRows$Step") (xc := ⟨"AheadRows$Row", "kind", "()I"⟩) (c_kindX11 l X hp a) (rc_of M ha rfl) (lw_U q592 q594 q601 q602 q111 q603) q593 ⟨by decide, by decide, ndX11_kind.2.2⟩ dX4_number_5 ⟨by decide, by decide, by decide, by decide⟩ rfl (Nat.le_of_ble_eq_true rfl)) ?_
    refine j_goto M 13 dX4_number_8 (by decide) ?_
    refine j_iret M dX4_number_13 ⟨Nat.le_refl _, Nat.le_refl _⟩ ?_
    exact ⟨by rw [if_pos c_1], rfl⟩
theorem c_numberX5 (c d e f w : Int) (hw : r32 w) (ha : hp a = some (eX5 c d e f)) : CS l X yX5_number cX5_number 2 (some .int) 2 [.ref a, .int (zI w)] hp (some (.int (zI (if w = 1 then c else if w = 2 then d else if w = 3 then e else if w = 4 then f else if w = 0 then 0 else 2000000001)))) := by
  refine Ct.of (by decide) (Nat.le_of_ble_eq_true rfl) (fun Γ M => ?_)
  refine j_lv (lv' := [(0, .ref a), (1, .int (zI w))]) rfl ?_
  refine j_iload_n M dX5_number_0 1 rfl ?_
  refine j_swn M (a := w) (by omega) (fun h_1 => ?_)
  by_cases e_1_1 : w = 1
  · rw [e_1_1]
    refine j_tabIn M 32 dX5_number_1 (by decide) (by decide) (by decide) rfl (by decide) ?_
    refine j_aload_n M dX5_number_32 0 rfl ?_
    refine j_get M ha rfl 0 (by decide) in_X5 q325 rfl dX5_number_33 ?_
    refine j_iret M dX5_number_36 ⟨Nat.le_refl _, Nat.le_refl _⟩ ?_
    subst_vars; exact ⟨rfl, rfl⟩
  by_cases e_1_2 : w = 2
  · rw [e_1_2]
    refine j_tabIn M 37 dX5_number_1 (by decide) (by decide) (by decide) rfl (by decide) ?_
    refine j_aload_n M dX5_number_37 0 rfl ?_
    refine j_get M ha rfl 1 (by decide) in_X5 q330 rfl dX5_number_38 ?_
    refine j_iret M dX5_number_41 ⟨Nat.le_refl _, Nat.le_refl _⟩ ?_
    subst_vars; exact ⟨rfl, rfl⟩
  by_cases e_1_3 : w = 3
  · rw [e_1_3]
    refine j_tabIn M 42 dX5_number_1 (by decide) (by decide) (by decide) rfl (by decide) ?_
    refine j_aload_n M dX5_number_42 0 rfl ?_
    refine j_get M ha rfl 2 (by decide) in_X5 q335 rfl dX5_number_43 ?_
    refine j_iret M dX5_number_46 ⟨Nat.le_refl _, Nat.le_refl _⟩ ?_
    subst_vars; exact ⟨rfl, rfl⟩
  by_cases e_1_4 : w = 4
  · rw [e_1_4]
    refine j_tabIn M 47 dX5_number_1 (by decide) (by decide) (by decide) rfl (by decide) ?_
    refine j_aload_n M dX5_number_47 0 rfl ?_
    refine j_get M ha rfl 3 (by decide) in_X5 q337 rfl dX5_number_48 ?_
    refine j_iret M dX5_number_51 ⟨Nat.le_refl _, Nat.le_refl _⟩ ?_
    subst_vars; exact ⟨rfl, rfl⟩
  refine j_tabOut M 52 dX5_number_1 h_1 (by omega) (by decide) ?_
  refine j_aload_n M dX5_number_52 0 rfl ?_
  refine j_iload_n M dX5_number_53 1 rfl ?_
  refine j_rV (k_SU M (c_numberRX5 l X hp a c d e f w hw ha) (rc_of M ha rfl) (ci := 5) rfl (lw_SU q590 q565 q347 q564 q104 q591) ⟨by decide, ndX4_number.2.2⟩ dX5_number_54 ⟨by decide, by decide, by decide, by decide⟩ rfl (Nat.le_of_ble_eq_true rfl)) ?_
  refine j_iret M dX5_number_57 ⟨Nat.le_refl _, Nat.le_refl _⟩ ?_
  exact ⟨by simp [*], rfl⟩
theorem c_numberX7 (c d w : Int) (hw : r32 w) (ha : hp a = some (eX7 c d)) : CS l X yX7_number cX7_number 2 (some .int) 2 [.ref a, .int (zI w)] hp (some (.int (zI (if w = 1 then c else if w = 2 then d else if w = 0 then 1 else 2000000001)))) := by
  refine Ct.of (by decide) (Nat.le_of_ble_eq_true rfl) (fun Γ M => ?_)
  refine j_lv (lv' := [(0, .ref a), (1, .int (zI w))]) rfl ?_
  refine j_iload_n M dX7_number_0 1 rfl ?_
  refine j_iconst M dX7_number_1 ?_
  refine j_icmp_ne M 12 dX7_number_2 (by decide) (by omega) (fun c_2 => ?_) (fun c_2 => ?_)
  · refine j_iload_n M dX7_number_12 1 rfl ?_
    refine j_iconst M dX7_number_13 ?_
    refine j_icmp_ne M 24 dX7_number_14 (by decide) (by omega) (fun c_14 => ?_) (fun c_14 => ?_)
    · refine j_aload_n M dX7_number_24 0 rfl ?_
      refine j_iload_n M dX7_number_25 1 rfl ?_
      refine j_rV (k_SV M (xc := ⟨"AheadRows$Both", "number", "(I)I"⟩) (c_numberRX7 l X hp a c d w hw ha) (rc_of M ha rfl) (ci := 7) rfl rfl q586 q577 q387 q578 q564 q104 (lw_meth q591) ⟨by decide, ndX4_number.2.2⟩ dX7_number_26 ⟨by decide, by decide, by decide, by decide⟩ rfl (Nat.le_of_ble_eq_true rfl)) ?_
      refine j_iret M dX7_number_29 ⟨Nat.le_refl _, Nat.le_refl _⟩ ?_
      exact ⟨by simp [*], rfl⟩
    · refine j_aload_n M dX7_number_17 0 rfl ?_
      refine j_getI M ha rfl 1 (by decide) in_X7 q381 q382 rfl dX7_number_18 ?_
      refine j_goto M 29 dX7_number_21 (by decide) ?_
      refine j_iret M dX7_number_29 ⟨Nat.le_refl _, Nat.le_refl _⟩ ?_
      exact ⟨by simp [*], rfl⟩
  · refine j_aload_n M dX7_number_5 0 rfl ?_
    refine j_getI M ha rfl 0 (by decide) in_X7 q376 q377 rfl dX7_number_6 ?_
    refine j_goto M 29 dX7_number_9 (by decide) ?_
    refine j_iret M dX7_number_29 ⟨Nat.le_refl _, Nat.le_refl _⟩ ?_
    exact ⟨by simp [*], rfl⟩
theorem c_numberX8 (c d w : Int) (hw : r32 w) (ha : hp a = some (eX8 c d)) : CS l X yX8_number cX8_number 2 (some .int) 2 [.ref a, .int (zI w)] hp (some (.int (zI (if w = 1 then c else if w = 2 then d else if w = 0 then 2 else 2000000001)))) := by
  refine Ct.of (by decide) (Nat.le_of_ble_eq_true rfl) (fun Γ M => ?_)
  refine j_lv (lv' := [(0, .ref a), (1, .int (zI w))]) rfl ?_
  refine j_iload_n M dX8_number_0 1 rfl ?_
  refine j_iconst M dX8_number_1 ?_
  refine j_icmp_ne M 12 dX8_number_2 (by decide) (by omega) (fun c_2 => ?_) (fun c_2 => ?_)
  · refine j_iload_n M dX8_number_12 1 rfl ?_
    refine j_iconst M dX8_number_13 ?_
    refine j_icmp_ne M 24 dX8_number_14 (by decide) (by omega) (fun c_14 => ?_) (fun c_14 => ?_)
    · refine j_aload_n M dX8_number_24 0 rfl ?_
      refine j_iload_n M dX8_number_25 1 rfl ?_
      refine j_rV (k_SV M (xc := ⟨"AheadRows$Both", "number", "(I)I"⟩) (c_numberRX8 l X hp a c d w hw ha) (rc_of M ha rfl) (ci := 8) rfl rfl q576 q577 q396 q578 q564 q104 (lw_meth q591) ⟨by decide, ndX4_number.2.2⟩ dX8_number_26 ⟨by decide, by decide, by decide, by decide⟩ rfl (Nat.le_of_ble_eq_true rfl)) ?_
      refine j_iret M dX8_number_29 ⟨Nat.le_refl _, Nat.le_refl _⟩ ?_
      exact ⟨by simp [*], rfl⟩
    · refine j_aload_n M dX8_number_17 0 rfl ?_
      refine j_getI M ha rfl 1 (by decide) in_X8 q379 q380 rfl dX8_number_18 ?_
      refine j_goto M 29 dX8_number_21 (by decide) ?_
      refine j_iret M dX8_number_29 ⟨Nat.le_refl _, Nat.le_refl _⟩ ?_
      exact ⟨by simp [*], rfl⟩
  · refine j_aload_n M dX8_number_5 0 rfl ?_
    refine j_getI M ha rfl 0 (by decide) in_X8 q374 q375 rfl dX8_number_6 ?_
    refine j_goto M 29 dX8_number_9 (by decide) ?_
    refine j_iret M dX8_number_29 ⟨Nat.le_refl _, Nat.le_refl _⟩ ?_
    exact ⟨by simp [*], rfl⟩
theorem c_numberX10 (c d e w : Int) (hw : r32 w) (ha : hp a = some (eX10 c d e)) : CS l X yX10_number cX10_number 2 (some .int) 2 [.ref a, .int (zI w)] hp (some (.int (zI (if w = 1 then c else if w = 2 then d else if w = 3 then e else if w = 0 then 3 else 2000000001)))) := by
  refine Ct.of (by decide) (Nat.le_of_ble_eq_true rfl) (fun Γ M => ?_)
  refine j_lv (lv' := [(0, .ref a), (1, .int (zI w))]) rfl ?_
  refine j_iload_n M dX10_number_0 1 rfl ?_
  refine j_iconst M dX10_number_1 ?_
  refine j_icmp_ne M 12 dX10_number_2 (by decide) (by omega) (fun c_2 => ?_) (fun c_2 => ?_)
  · refine j_iload_n M dX10_number_12 1 rfl ?_
    refine j_iconst M dX10_number_13 ?_
    refine j_icmp_ne M 24 dX10_number_14 (by decide) (by omega) (fun c_14 => ?_) (fun c_14 => ?_)
    · refine j_iload_n M dX10_number_24 1 rfl ?_
      refine j_iconst M dX10_number_25 ?_
      refine j_icmp_ne M 36 dX10_number_26 (by decide) (by omega) (fun c_26 => ?_) (fun c_26 => ?_)
      · refine j_aload_n M dX10_number_36 0 rfl ?_
        refine j_iload_n M dX10_number_37 1 rfl ?_
        refine j_rV (k_SV M (xc := ⟨"AheadRows$Over", "number", "(I)I"⟩) (c_numberRX10 l X hp a c d e w hw ha) (rc_of M ha rfl) (ci := 9) rfl rfl q569 q570 q419 q572 q564 q104 (lw_meth q591) ⟨by decide, ndX4_number.2.2⟩ dX10_number_38 ⟨by decide, by decide, by decide, by decide⟩ rfl (Nat.le_of_ble_eq_true rfl)) ?_
        refine j_iret M dX10_number_41 ⟨Nat.le_refl _, Nat.le_refl _⟩ ?_
        exact ⟨by simp [*], rfl⟩
      · refine j_aload_n M dX10_number_29 0 rfl ?_
        refine j_get M ha rfl 2 (by decide) in_X10 q407 rfl dX10_number_30 ?_
        refine j_goto M 41 dX10_number_33 (by decide) ?_
        refine j_iret M dX10_number_41 ⟨Nat.le_refl _, Nat.le_refl _⟩ ?_
        exact ⟨by simp [*], rfl⟩
    · refine j_aload_n M dX10_number_17 0 rfl ?_
      refine j_get M ha rfl 1 (by decide) in_X10 q406 rfl dX10_number_18 ?_
      refine j_goto M 41 dX10_number_21 (by decide) ?_
      refine j_iret M dX10_number_41 ⟨Nat.le_refl _, Nat.le_refl _⟩ ?_
      exact ⟨by simp [*], rfl⟩
  · refine j_aload_n M dX10_number_5 0 rfl ?_
    refine j_getI M ha rfl 0 (by decide) in_X10 q409 q410 rfl dX10_number_6 ?_
    refine j_goto M 41 dX10_number_9 (by decide) ?_
    refine j_iret M dX10_number_41 ⟨Nat.le_refl _, Nat.le_refl _⟩ ?_
    exact ⟨by simp [*], rfl⟩
theorem c_numberX11 (c w : Int) (hw : r32 w) (ha : hp a = some (eX11 c)) : CS l X yX11_number cX11_number 2 (some .int) 2 [.ref a, .int (zI w)] hp (some (.int (zI (if w = 1 then c else if w = 0 then 4 else 2000000001)))) := by
  refine Ct.of (by decide) (Nat.le_of_ble_eq_true rfl) (fun Γ M => ?_)
  refine j_lv (lv' := [(0, .ref a), (1, .int (zI w))]) rfl ?_
  refine j_iload_n M dX11_number_0 1 rfl ?_
  refine j_iconst M dX11_number_1 ?_
  refine j_icmp_ne M 12 dX11_number_2 (by decide) (by omega) (fun c_2 => ?_) (fun c_2 => ?_)
  · refine j_aload_n M dX11_number_12 0 rfl ?_
    refine j_iload_n M dX11_number_13 1 rfl ?_
    refine j_rV (k_SV M (xc := ⟨"AheadRows$Over", "number", "(I)I"⟩) (c_numberRX11 l X hp a c w hw ha) (rc_of M ha rfl) (ci := 10) rfl rfl q582 q570 q427 q572 q564 q104 (lw_meth q591) ⟨by decide, ndX4_number.2.2⟩ dX11_number_14 ⟨by decide, by decide, by decide, by decide⟩ rfl (Nat.le_of_ble_eq_true rfl)) ?_
    refine j_iret M dX11_number_17 ⟨Nat.le_refl _, Nat.le_refl _⟩ ?_
    exact ⟨by simp [*], rfl⟩
  · refine j_aload_n M dX11_number_5 0 rfl ?_
    refine j_getI M ha rfl 0 (by decide) in_X11 q411 q412 rfl dX11_number_6 ?_
    refine j_goto M 17 dX11_number_9 (by decide) ?_
    refine j_iret M dX11_number_17 ⟨Nat.le_refl _, Nat.le_refl _⟩ ?_
    exact ⟨by simp [*], rfl⟩
theorem c_copyX5 (c d e f : Int) (ha : hp a = some (eX5 c d e f)) : Ct l X yX5_copy cX5_copy 1 (some (.object "AheadRows$Row")) (rC 4 1 4) [.ref a] hp (fun r hp' => ∃ q, r = some (.ref q) ∧ hp q = none ∧ cxB X ≤ q ∧ hp' = hup hp q (eX5 c d e f)) := by
  refine Ct.of (by decide) (Nat.le_of_ble_eq_true rfl) (fun Γ M => ?_)
  refine j_lv (lv' := [(0, .ref a)]) rfl ?_
  refine j_new M (ci := 5) rfl in_X5 tyX5 tyX5_ok q543 q317 q105 [.int (zI 0), .int (zI 0), .int (zI 0), .int (zI 0)] df_X5 (by decide) dX5_copy_0 (fun q_0 hq_0 hB_0 => ?_)
  have hne : a ≠ q_0 := fun e => by rw [e, hq_0] at ha; cases ha
  have hb : hup hp q_0 (.inr (5, [.int (zI 0), .int (zI 0), .int (zI 0), .int (zI 0)])) a = some (eX5 c d e f) := by rw [hup_n _ _ hne]; exact ha
  refine j_dup M dX5_copy_3 rfl ?_
  refine j_aload_n M dX5_copy_4 0 rfl ?_
  refine j_get M hb rfl 0 (by decide) in_X5 q325 rfl dX5_copy_5 ?_
  refine j_aload_n M dX5_copy_8 0 rfl ?_
  refine j_get M hb rfl 1 (by decide) in_X5 q330 rfl dX5_copy_9 ?_
  refine j_aload_n M dX5_copy_12 0 rfl ?_
  refine j_get M hb rfl 2 (by decide) in_X5 q335 rfl dX5_copy_13 ?_
  refine j_aload_n M dX5_copy_16 0 rfl ?_
  refine j_get M hb rfl 3 (by decide) in_X5 q337 rfl dX5_copy_17 ?_
  refine j_rN (k_I M (c_toldInit l X _ q_0 c d e f (hup_s _ _ _)) (lw_meth q320) q105 q544 q319 rfl ndX5_init dX5_copy_20 ⟨by decide, by decide, by decide, by decide⟩ rfl (Nat.le_of_ble_eq_true rfl)) ?_
  refine j_aret M dX5_copy_23 (Or.inl ⟨_, rfl⟩) ⟨Nat.le_refl _, Nat.le_refl _⟩ ?_
  exact ⟨q_0, rfl, hq_0, hB_0, by rw [hup_hup]⟩
theorem c_copyX7 (c d : Int) (ha : hp a = some (eX7 c d)) : Ct l X yX7_copy cX7_copy 1 (some (.object "AheadRows$Row")) (rC 4 1 2) [.ref a] hp (fun r hp' => ∃ q, r = some (.ref q) ∧ hp q = none ∧ cxB X ≤ q ∧ hp' = hup hp q (eX7 c d)) := by
  refine Ct.of (by decide) (Nat.le_of_ble_eq_true rfl) (fun Γ M => ?_)
  refine j_lv (lv' := [(0, .ref a)]) rfl ?_
  refine j_new M (ci := 7) rfl in_X7 tyX7 tyX7_ok q538 q365 q107 [.int (zI 0), .int (zI 0)] df_X7 (by decide) dX7_copy_0 (fun q_0 hq_0 hB_0 => ?_)
  have hne : a ≠ q_0 := fun e => by rw [e, hq_0] at ha; cases ha
  have hb : hup hp q_0 (.inr (7, [.int (zI 0), .int (zI 0)])) a = some (eX7 c d) := by rw [hup_n _ _ hne]; exact ha
  refine j_dup M dX7_copy_3 rfl ?_
  refine j_aload_n M dX7_copy_4 0 rfl ?_
  refine j_getI M hb rfl 0 (by decide) in_X7 q376 q377 rfl dX7_copy_5 ?_
  refine j_aload_n M dX7_copy_8 0 rfl ?_
  refine j_getI M hb rfl 1 (by decide) in_X7 q381 q382 rfl dX7_copy_9 ?_
  refine j_rN (k_I M (c_initX7 l X _ q_0 c d (hup_s _ _ _)) (lw_meth q368) q107 q539 q367 rfl ndX7_init dX7_copy_12 ⟨by decide, by decide, by decide, by decide⟩ rfl (Nat.le_of_ble_eq_true rfl)) ?_
  refine j_aret M dX7_copy_15 (Or.inl ⟨_, rfl⟩) ⟨Nat.le_refl _, Nat.le_refl _⟩ ?_
  exact ⟨q_0, rfl, hq_0, hB_0, by rw [hup_hup]⟩
theorem c_copyX8 (c d : Int) (ha : hp a = some (eX8 c d)) : Ct l X yX8_copy cX8_copy 1 (some (.object "AheadRows$Row")) (rC 4 1 2) [.ref a] hp (fun r hp' => ∃ q, r = some (.ref q) ∧ hp q = none ∧ cxB X ≤ q ∧ hp' = hup hp q (eX8 c d)) := by
  refine Ct.of (by decide) (Nat.le_of_ble_eq_true rfl) (fun Γ M => ?_)
  refine j_lv (lv' := [(0, .ref a)]) rfl ?_
  refine j_new M (ci := 8) rfl in_X8 tyX8 tyX8_ok q528 q389 q108 [.int (zI 0), .int (zI 0)] df_X8 (by decide) dX8_copy_0 (fun q_0 hq_0 hB_0 => ?_)
  have hne : a ≠ q_0 := fun e => by rw [e, hq_0] at ha; cases ha
  have hb : hup hp q_0 (.inr (8, [.int (zI 0), .int (zI 0)])) a = some (eX8 c d) := by rw [hup_n _ _ hne]; exact ha
  refine j_dup M dX8_copy_3 rfl ?_
  refine j_aload_n M dX8_copy_4 0 rfl ?_
  refine j_getI M hb rfl 0 (by decide) in_X8 q374 q375 rfl dX8_copy_5 ?_
  refine j_aload_n M dX8_copy_8 0 rfl ?_
  refine j_getI M hb rfl 1 (by decide) in_X8 q379 q380 rfl dX8_copy_9 ?_
  refine j_rN (k_I M (c_initX8 l X _ q_0 c d (hup_s _ _ _)) (lw_meth q392) q108 q529 q391 rfl ndX8_init dX8_copy_12 ⟨by decide, by decide, by decide, by decide⟩ rfl (Nat.le_of_ble_eq_true rfl)) ?_
  refine j_aret M dX8_copy_15 (Or.inl ⟨_, rfl⟩) ⟨Nat.le_refl _, Nat.le_refl _⟩ ?_
  exact ⟨q_0, rfl, hq_0, hB_0, by rw [hup_hup]⟩
theorem c_copyX10 (c d e : Int) (ha : hp a = some (eX10 c d e)) : Ct l X yX10_copy cX10_copy 1 (some (.object "AheadRows$Row")) (rC 4 1 3) [.ref a] hp (fun r hp' => ∃ q, r = some (.ref q) ∧ hp q = none ∧ cxB X ≤ q ∧ hp' = hup hp q (eX10 c d e)) := by
  refine Ct.of (by decide) (Nat.le_of_ble_eq_true rfl) (fun Γ M => ?_)
  refine j_lv (lv' := [(0, .ref a)]) rfl ?_
  refine j_new M (ci := 9) rfl in_X10 tyX10 tyX10_ok q523 q398 q110 [.int (zI 0), .int (zI 0), .int (zI 0)] df_X10 (by decide) dX10_copy_0 (fun q_0 hq_0 hB_0 => ?_)
  have hne : a ≠ q_0 := fun e => by rw [e, hq_0] at ha; cases ha
  have hb : hup hp q_0 (.inr (9, [.int (zI 0), .int (zI 0), .int (zI 0)])) a = some (eX10 c d e) := by rw [hup_n _ _ hne]; exact ha
  refine j_dup M dX10_copy_3 rfl ?_
  refine j_aload_n M dX10_copy_4 0 rfl ?_
  refine j_getI M hb rfl 0 (by decide) in_X10 q409 q410 rfl dX10_copy_5 ?_
  refine j_aload_n M dX10_copy_8 0 rfl ?_
  refine j_get M hb rfl 1 (by decide) in_X10 q406 rfl dX10_copy_9 ?_
  refine j_aload_n M dX10_copy_12 0 rfl ?_
  refine j_get M hb rfl 2 (by decide) in_X10 q407 rfl dX10_copy_13 ?_
  refine j_rN (k_I M (c_initX10 l X _ q_0 c d e (hup_s _ _ _)) (lw_meth q401) q110 q524 q400 rfl ndX10_init dX10_copy_16 ⟨by decide, by decide, by decide, by decide⟩ rfl (Nat.le_of_ble_eq_true rfl)) ?_
  refine j_aret M dX10_copy_19 (Or.inl ⟨_, rfl⟩) ⟨Nat.le_refl _, Nat.le_refl _⟩ ?_
  exact ⟨q_0, rfl, hq_0, hB_0, by rw [hup_hup]⟩
theorem c_copyX11 (c : Int) (ha : hp a = some (eX11 c)) : Ct l X yX11_copy cX11_copy 1 (some (.object "AheadRows$Row")) (rC 4 1 1) [.ref a] hp (fun r hp' => ∃ q, r = some (.ref q) ∧ hp q = none ∧ cxB X ≤ q ∧ hp' = hup hp q (eX11 c)) := by
  refine Ct.of (by decide) (Nat.le_of_ble_eq_true rfl) (fun Γ M => ?_)
  refine j_lv (lv' := [(0, .ref a)]) rfl ?_
  refine j_new M (ci := 10) rfl in_X11 tyX11 tyX11_ok q533 q421 q111 [.int (zI 0)] df_X11 (by decide) dX11_copy_0 (fun q_0 hq_0 hB_0 => ?_)
  have hne : a ≠ q_0 := fun e => by rw [e, hq_0] at ha; cases ha
  have hb : hup hp q_0 (.inr (10, [.int (zI 0)])) a = some (eX11 c) := by rw [hup_n _ _ hne]; exact ha
  refine j_dup M dX11_copy_3 rfl ?_
  refine j_aload_n M dX11_copy_4 0 rfl ?_
  refine j_getI M hb rfl 0 (by decide) in_X11 q411 q412 rfl dX11_copy_5 ?_
  refine j_rN (k_I M (c_initX11 l X _ q_0 c (hup_s _ _ _)) (lw_meth q424) q111 q534 q423 rfl ndX11_init dX11_copy_8 ⟨by decide, by decide, by decide, by decide⟩ rfl (Nat.le_of_ble_eq_true rfl)) ?_
  refine j_aret M dX11_copy_11 (Or.inl ⟨_, rfl⟩) ⟨Nat.le_refl _, Nat.le_refl _⟩ ?_
  exact ⟨q_0, rfl, hq_0, hB_0, by rw [hup_hup]⟩
end C2
