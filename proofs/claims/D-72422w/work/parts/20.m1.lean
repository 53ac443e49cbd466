/-! 20: the reference: texts -/
set_option maxRecDepth 100000
theorem pzT {P : Prop} [Decidable P] {hp : Hp} (h : P) : pD (some (.int (zB (decide P)))) hp (some (.int (zB true))) hp := ⟨by rw [decide_eq_true h], rfl⟩
theorem pzF {P : Prop} [Decidable P] {hp : Hp} (h : ¬ P) : pD (some (.int (zB (decide P)))) hp (some (.int (zB false))) hp := ⟨by rw [decide_eq_false h], rfl⟩
theorem m_within (l : Launch) (X : Cx) (hp : Hp) (v a b : Int) (h : r32 v ∧ r32 a ∧ r32 b) : CS l X yX2_within cX2_within 3 (some .boolean) 0 [.int (zI v), .int (zI a), .int (zI b)] hp (some (.int (zB (decide (a ≤ v ∧ v ≤ b))))) := by
  refine Ct.of (by decide) (Nat.le_of_ble_eq_true rfl) (fun Γ M => ?_)
  refine j_lv (lv' := [(0, .int (zI v)), (1, .int (zI a)), (2, .int (zI b))]) rfl ?_
  refine j_iload_n M dX2_within_0 0 rfl ?_
  refine j_iload_n M dX2_within_1 1 rfl ?_
  refine j_icmp_lt M 14 dX2_within_2 (by decide) (by omega) (fun c_2 => ?_) (fun c_2 => ?_)
  · refine j_iconst M dX2_within_14 ?_
    refine j_bool false rfl ?_
    refine j_zret M dX2_within_15 ⟨Nat.le_refl _, Nat.le_refl _⟩ ?_
    first | exact pzT (by omega) | exact pzF (by omega)
  · refine j_iload_n M dX2_within_5 0 rfl ?_
    refine j_iload_n M dX2_within_6 2 rfl ?_
    refine j_icmp_gt M 14 dX2_within_7 (by decide) (by omega) (fun c_7 => ?_) (fun c_7 => ?_)
    · refine j_iconst M dX2_within_14 ?_
      refine j_bool false rfl ?_
      refine j_zret M dX2_within_15 ⟨Nat.le_refl _, Nat.le_refl _⟩ ?_
      first | exact pzT (by omega) | exact pzF (by omega)
    · refine j_iconst M dX2_within_10 ?_
      refine j_goto M 15 dX2_within_11 (by decide) ?_
      refine j_bool true rfl ?_
      refine j_zret M dX2_within_15 ⟨Nat.le_refl _, Nat.le_refl _⟩ ?_
      first | exact pzT (by omega) | exact pzF (by omega)
def pKindBy (c : Int) : Int := if c = 42 then 2 else if c = 43 then 1 else if c = 100 then 4 else if c = 101 then 3 else if c = 116 then 0 else 2000000001
theorem m_kindBy (l : Launch) (X : Cx) (hp : Hp) (c : Int) (h : r32 c) : CS l X yX2_kindBy cX2_kindBy 1 (some .int) 0 [.int (zI c)] hp (some (.int (zI (pKindBy c)))) := by
  refine Ct.of (by decide) (Nat.le_of_ble_eq_true rfl) (fun Γ M => ?_)
  refine j_lv (lv' := [(0, .int (zI c))]) rfl ?_
  refine j_iload_n M dX2_kindBy_0 0 rfl ?_
  refine j_swn M (a := c) (by omega) (fun h_1 => ?_)
  by_cases e_1_42 : c = 42
  · rw [e_1_42]
    refine j_look M (off := 55) 56 dX2_kindBy_1 (by decide) (by decide) (by decide) (by decide) ?_
    refine j_iconst M dX2_kindBy_56 ?_
    refine j_iret M dX2_kindBy_57 ⟨Nat.le_refl _, Nat.le_refl _⟩ ?_
    subst_vars; exact ⟨rfl, rfl⟩
  by_cases e_1_43 : c = 43
  · rw [e_1_43]
    refine j_look M (off := 53) 54 dX2_kindBy_1 (by decide) (by decide) (by decide) (by decide) ?_
    refine j_iconst M dX2_kindBy_54 ?_
    refine j_iret M dX2_kindBy_55 ⟨Nat.le_refl _, Nat.le_refl _⟩ ?_
    subst_vars; exact ⟨rfl, rfl⟩
  by_cases e_1_100 : c = 100
  · rw [e_1_100]
    refine j_look M (off := 59) 60 dX2_kindBy_1 (by decide) (by decide) (by decide) (by decide) ?_
    refine j_iconst M dX2_kindBy_60 ?_
    refine j_iret M dX2_kindBy_61 ⟨Nat.le_refl _, Nat.le_refl _⟩ ?_
    subst_vars; exact ⟨rfl, rfl⟩
  by_cases e_1_101 : c = 101
  · rw [e_1_101]
    refine j_look M (off := 57) 58 dX2_kindBy_1 (by decide) (by decide) (by decide) (by decide) ?_
    refine j_iconst M dX2_kindBy_58 ?_
    refine j_iret M dX2_kindBy_59 ⟨Nat.le_refl _, Nat.le_refl _⟩ ?_
    subst_vars; exact ⟨rfl, rfl⟩
  by_cases e_1_116 : c = 116
  · rw [e_1_116]
    refine j_look M (off := 51) 52 dX2_kindBy_1 (by decide) (by decide) (by decide) (by decide) ?_
    refine j_iconst M dX2_kindBy_52 ?_
    refine j_iret M dX2_kindBy_53 ⟨Nat.le_refl _, Nat.le_refl _⟩ ?_
    subst_vars; exact ⟨rfl, rfl⟩
  refine j_lookD M (off := 61) 62 dX2_kindBy_1 h_1 (by decide) (by simp only [Op.lookupswitch.offset]; rw [if_neg (by omega), if_neg (by omega), if_neg (by omega), if_neg (by omega), if_neg (by omega)]) (by decide) ?_
  refine j_ldc M (2000000001) q1241 (by decide) dX2_kindBy_62 ?_
  refine j_iret M dX2_kindBy_64 ⟨Nat.le_refl _, Nat.le_refl _⟩ ?_
  exact ⟨by simp [pKindBy, *], rfl⟩
def pSigns (k : Int) : Int := if k = 0 then 4 else if k = 3 then 3 else if k = 4 then 1 else 2
theorem m_signsOf (l : Launch) (X : Cx) (hp : Hp) (c : Int) (h : r32 c) : CS l X yX2_signsOf cX2_signsOf 1 (some .int) 0 [.int (zI c)] hp (some (.int (zI (pSigns c)))) := by
  refine Ct.of (by decide) (Nat.le_of_ble_eq_true rfl) (fun Γ M => ?_)
  refine j_lv (lv' := [(0, .int (zI c))]) rfl ?_
  refine j_iload_n M dX2_signsOf_0 0 rfl ?_
  refine j_swn M (a := c) (by omega) (fun h_1 => ?_)
  by_cases e_1_0 : c = 0
  · rw [e_1_0]
    refine j_tabIn M 36 dX2_signsOf_1 (by decide) (by decide) (by decide) rfl (by decide) ?_
    refine j_iconst M dX2_signsOf_36 ?_
    refine j_iret M dX2_signsOf_37 ⟨Nat.le_refl _, Nat.le_refl _⟩ ?_
    subst_vars; exact ⟨rfl, rfl⟩
  by_cases e_1_1 : c = 1
  · rw [e_1_1]
    refine j_tabIn M 42 dX2_signsOf_1 (by decide) (by decide) (by decide) rfl (by decide) ?_
    refine j_iconst M dX2_signsOf_42 ?_
    refine j_iret M dX2_signsOf_43 ⟨Nat.le_refl _, Nat.le_refl _⟩ ?_
    first | (subst_vars; exact ⟨rfl, rfl⟩) | exact ⟨by simp [pSigns, *], rfl⟩
  by_cases e_1_2 : c = 2
  · rw [e_1_2]
    refine j_tabIn M 42 dX2_signsOf_1 (by decide) (by decide) (by decide) rfl (by decide) ?_
    refine j_iconst M dX2_signsOf_42 ?_
    refine j_iret M dX2_signsOf_43 ⟨Nat.le_refl _, Nat.le_refl _⟩ ?_
    first | (subst_vars; exact ⟨rfl, rfl⟩) | exact ⟨by simp [pSigns, *], rfl⟩
  by_cases e_1_3 : c = 3
  · rw [e_1_3]
    refine j_tabIn M 38 dX2_signsOf_1 (by decide) (by decide) (by decide) rfl (by decide) ?_
    refine j_iconst M dX2_signsOf_38 ?_
    refine j_iret M dX2_signsOf_39 ⟨Nat.le_refl _, Nat.le_refl _⟩ ?_
    subst_vars; exact ⟨rfl, rfl⟩
  by_cases e_1_4 : c = 4
  · rw [e_1_4]
    refine j_tabIn M 40 dX2_signsOf_1 (by decide) (by decide) (by decide) rfl (by decide) ?_
    refine j_iconst M dX2_signsOf_40 ?_
    refine j_iret M dX2_signsOf_41 ⟨Nat.le_refl _, Nat.le_refl _⟩ ?_
    subst_vars; exact ⟨rfl, rfl⟩
  refine j_tabOut M 42 dX2_signsOf_1 h_1 (by omega) (by decide) ?_
  refine j_iconst M dX2_signsOf_42 ?_
  refine j_iret M dX2_signsOf_43 ⟨Nat.le_refl _, Nat.le_refl _⟩ ?_
  first | (subst_vars; exact ⟨rfl, rfl⟩) | exact ⟨by simp [pSigns, *], rfl⟩
def pValue (c : Int) : Int := if 48 ≤ c ∧ c ≤ 57 then c - 48 else if 97 ≤ c ∧ c ≤ 105 then 96 - c else 2000000001
theorem m_valueOf (l : Launch) (X : Cx) (hp : Hp) (c : Int) (h : r32 c) : CS l X yX2_valueOf cX2_valueOf 1 (some .int) 1 [.int (zI c)] hp (some (.int (zI (pValue c)))) := by
  refine Ct.of (by decide) (Nat.le_of_ble_eq_true rfl) (fun Γ M => ?_)
  refine j_lv (lv' := [(0, .int (zI c))]) rfl ?_
  refine j_iload_n M dX2_valueOf_0 0 rfl ?_
  refine j_bipush M dX2_valueOf_1 (by decide) ?_
  refine j_bipush M dX2_valueOf_3 (by decide) ?_
  refine j_rV (k_S M (m_within l X _ _ _ _ ⟨h, by decide, by decide⟩) (lw_S q1347 q1348 q102 q1349) ndX2_within dX2_valueOf_5 ⟨by decide, by decide, by decide, by decide⟩ rfl (Nat.le_of_ble_eq_true rfl)) ?_
  refine j_ifeqB M 18 dX2_valueOf_8 (by decide) (fun c_8 => ?_) (fun c_8 => ?_)
  · refine j_iload_n M dX2_valueOf_18 0 rfl ?_
    refine j_bipush M dX2_valueOf_19 (by decide) ?_
    refine j_bipush M dX2_valueOf_21 (by decide) ?_
    refine j_rV (k_S M (m_within l X _ _ _ _ ⟨h, by decide, by decide⟩) (lw_S q1347 q1348 q102 q1349) ndX2_within dX2_valueOf_23 ⟨by decide, by decide, by decide, by decide⟩ rfl (Nat.le_of_ble_eq_true rfl)) ?_
    refine j_ifeqB M 36 dX2_valueOf_26 (by decide) (fun c_26 => ?_) (fun c_26 => ?_)
    · refine j_ldc M (2000000001) q1241 (by decide) dX2_valueOf_36 ?_
      refine j_iret M dX2_valueOf_38 ⟨Nat.le_refl _, Nat.le_refl _⟩ ?_
      have c_8 := c_8; simp only [decide_eq_true_eq, decide_eq_false_iff_not] at *; exact ⟨by simp [pValue, *], rfl⟩
    · refine j_bipush M dX2_valueOf_29 (by decide) ?_
      refine j_iload_n M dX2_valueOf_31 0 rfl ?_
      refine j_isub M dX2_valueOf_32 ?_
      refine j_goto M 38 dX2_valueOf_33 (by decide) ?_
      refine j_iret M dX2_valueOf_38 ⟨Nat.le_refl _, Nat.le_refl _⟩ ?_
      have c_8 := c_8; simp only [decide_eq_true_eq, decide_eq_false_iff_not] at *; exact ⟨by simp [pValue, *], rfl⟩
  · refine j_iload_n M dX2_valueOf_11 0 rfl ?_
    refine j_bipush M dX2_valueOf_12 (by decide) ?_
    refine j_isub M dX2_valueOf_14 ?_
    refine j_goto M 38 dX2_valueOf_15 (by decide) ?_
    refine j_iret M dX2_valueOf_38 ⟨Nat.le_refl _, Nat.le_refl _⟩ ?_
    have c_8 := c_8; simp only [decide_eq_true_eq, decide_eq_false_iff_not] at *; exact ⟨by simp [pValue, *], rfl⟩
section M1
variable (l : Launch) (X : Cx) (σ : Ms) (f : Nat → Int) (t : Nat → Int → Int)
theorem m_letter (hm : mOk σ) (c : Int) (h : r32 c) (h6 : 0 ≤ f 6 ∧ f 6 ≤ 47) : CM l X σ yX2_letter cX2_letter 2 (some .int) 1 [.int (zI c)] f t
    (some (.int (zI (if 32 ≤ c ∧ c ≤ 126 then (if f 6 = 47 then 2000000104 else f 6 + 1) else 2000000102))))
    (if 32 ≤ c ∧ c ≤ 126 ∧ f 6 ≠ 47 then upN f 6 (f 6 + 1) else f) (if 32 ≤ c ∧ c ≤ 126 ∧ f 6 ≠ 47 then upN t 7 (upA (t 7) (f 6) c) else t) := by
  refine Ct.of (by decide) (Nat.le_of_ble_eq_true rfl) (fun Γ M => ?_)
  refine j_lv (lv' := [(0, .ref σ.1), (1, .int (zI c))]) rfl ?_
  refine j_iload_n M dX2_letter_0 1 rfl ?_
  refine j_bipush M dX2_letter_1 (by decide) ?_
  refine j_bipush M dX2_letter_3 (by decide) ?_
  refine j_rV (k_S M (m_within l X _ _ _ _ ⟨h, by decide, by decide⟩) (lw_S q1347 q1348 q102 q1349) ndX2_within dX2_letter_5 ⟨by decide, by decide, by decide, by decide⟩ rfl (Nat.le_of_ble_eq_true rfl)) ?_
  refine j_ifneB M 14 dX2_letter_8 (by decide) (fun c_8 => ?_) (fun c_8 => ?_)
  · simp only [decide_eq_true_eq] at c_8
    refine j_aload_n M dX2_letter_14 0 rfl ?_
    refine m_get M 6 (by decide) q1248 rfl dX2_letter_15 ?_
    refine j_bipush M dX2_letter_18 (by decide) ?_
    refine j_icmp_ne M 26 dX2_letter_20 (by decide) (by omega) (fun c_20 => ?_) (fun c_20 => ?_)
    · refine j_aload_n M dX2_letter_26 0 rfl ?_
      refine m_get M 7 (by decide) q1249 rfl dX2_letter_27 ?_
      refine j_aload_n M dX2_letter_30 0 rfl ?_
      refine m_get M 6 (by decide) q1248 rfl dX2_letter_31 ?_
      refine j_iload_n M dX2_letter_34 1 rfl ?_
      refine j_i2b M dX2_letter_35 (by omega) ?_
      refine m_bst M hm (n := 47) 7 (by decide) (fun _ => rfl) dX2_letter_36 (by omega) (by omega) ?_
      refine j_aload_n M dX2_letter_37 0 rfl ?_
      refine j_dup M dX2_letter_38 rfl ?_
      refine m_get M 6 (by decide) q1248 rfl dX2_letter_39 ?_
      refine j_iconst M dX2_letter_42 ?_
      refine j_iadd M dX2_letter_43 ?_
      refine m_put M 6 (by decide) q1248 dX2_letter_44 ?_
      refine j_aload_n M dX2_letter_47 0 rfl ?_
      refine m_get M 6 (by decide) q1248 rfl dX2_letter_48 ?_
      refine j_iret M dX2_letter_51 ⟨Nat.le_refl _, Nat.le_refl _⟩ ?_
      exact ⟨by rw [if_pos c_8, if_neg c_20]; rfl, by rw [if_pos (by omega), if_pos (by omega)]⟩
    · refine j_ldc M (2000000104) q1351 (by decide) dX2_letter_23 ?_
      refine j_iret M dX2_letter_25 ⟨Nat.le_refl _, Nat.le_refl _⟩ ?_
      exact ⟨by rw [if_pos c_8, if_pos c_20], by rw [if_neg (by omega), if_neg (by omega)]⟩
  · simp only [decide_eq_false_iff_not] at c_8
    refine j_ldc M (2000000102) q1350 (by decide) dX2_letter_11 ?_
    refine j_iret M dX2_letter_13 ⟨Nat.le_refl _, Nat.le_refl _⟩ ?_
    exact ⟨by rw [if_neg c_8], by rw [if_neg (by omega), if_neg (by omega)]⟩
theorem m_blank : CM l X σ yX2_blank cX2_blank 2 (some .int) 0 [] f t (some (.int (zI (f 6)))) (upN f 6 0) t := by
  refine Ct.of (by decide) (Nat.le_of_ble_eq_true rfl) (fun Γ M => ?_)
  refine j_lv (lv' := [(0, .ref σ.1)]) rfl ?_
  refine j_aload_n M dX2_blank_0 0 rfl ?_
  refine m_get M 6 (by decide) q1248 rfl dX2_blank_1 ?_
  refine j_istore_n M dX2_blank_4 (by decide) ?_
  refine j_aload_n M dX2_blank_5 0 rfl ?_
  refine j_iconst M dX2_blank_6 ?_
  refine m_put M 6 (by decide) q1248 dX2_blank_7 ?_
  refine j_iload_n M dX2_blank_10 1 rfl ?_
  refine j_iret M dX2_blank_11 ⟨Nat.le_refl _, Nat.le_refl _⟩ ?_
  exact ⟨rfl, rfl⟩
theorem m_changes : CM l X σ yX2_changes cX2_changes 1 none 0 [] f t none (upN (upN f 13 0) 14 0) t := by
  refine Ct.of (by decide) (Nat.le_of_ble_eq_true rfl) (fun Γ M => ?_)
  refine j_lv (lv' := [(0, .ref σ.1)]) rfl ?_
  refine j_aload_n M dX2_changes_0 0 rfl ?_
  refine j_iconst M dX2_changes_1 ?_
  refine m_putZ M 13 (by decide) q1255 false rfl dX2_changes_2 ?_
  refine j_aload_n M dX2_changes_5 0 rfl ?_
  refine j_iconst M dX2_changes_6 ?_
  refine m_put M 14 (by decide) q1256 dX2_changes_7 ?_
  refine j_vret M dX2_changes_10 ⟨Nat.le_refl _, Nat.le_refl _⟩ ?_
  exact ⟨rfl, rfl⟩
def pFits (f : Nat → Int) (t : Nat → Int → Int) (c : Int) : Bool := if t 10 (f 8 - 1) = 0 then decide (pValue c ≠ 2000000001) else if t 10 (f 8 - 1) = 3 ∧ f 9 = 1 then decide (49 ≤ c ∧ c ≤ 53) else if t 10 (f 8 - 1) = 3 ∧ f 9 = 2 then decide (48 ≤ c ∧ c ≤ 57) else decide (48 ≤ c ∧ c ≤ 48 + f 8 - 2)
theorem pValue_r {c : Int} (h : r32 c) : r32 (pValue c) := by unfold pValue; split <;> (try split) <;> omega
theorem m_fitsSign (hm : mOk σ) (c : Int) (h : r32 c) (h8 : 1 ≤ f 8 ∧ f 8 ≤ 8) (h9 : r32 (f 9)) (hk : r32 (t 10 (f 8 - 1))) : CM l X σ yX2_fitsSign cX2_fitsSign 3 (some .boolean) 2 [.int (zI c)] f t (some (.int (zB (pFits f t c)))) f t := by
  refine Ct.of (by decide) (Nat.le_of_ble_eq_true rfl) (fun Γ M => ?_)
  refine j_lv (lv' := [(0, .ref σ.1), (1, .int (zI c))]) rfl ?_
  refine j_aload_n M dX2_fitsSign_0 0 rfl ?_
  refine m_get M 10 (by decide) q1252 rfl dX2_fitsSign_1 ?_
  refine j_aload_n M dX2_fitsSign_4 0 rfl ?_
  refine m_get M 8 (by decide) q1250 rfl dX2_fitsSign_5 ?_
  refine j_iconst M dX2_fitsSign_8 ?_
  refine j_isub M dX2_fitsSign_9 ?_
  refine m_ald M hm (n := 8) 10 (by decide) rfl dX2_fitsSign_10 (by omega) ?_
  refine j_istore_n M dX2_fitsSign_11 (by decide) ?_
  refine j_iload_n M dX2_fitsSign_12 2 rfl ?_
  refine j_if_ne M 31 dX2_fitsSign_13 (by decide) (by omega) (fun c_13 => ?_) (fun c_13 => ?_)
  · refine j_iload_n M dX2_fitsSign_31 2 rfl ?_
    refine j_iconst M dX2_fitsSign_32 ?_
    refine j_icmp_ne M 53 dX2_fitsSign_33 (by decide) (by omega) (fun c_33 => ?_) (fun c_33 => ?_)
    · refine j_iload_n M dX2_fitsSign_53 2 rfl ?_
      refine j_iconst M dX2_fitsSign_54 ?_
      refine j_icmp_ne M 75 dX2_fitsSign_55 (by decide) (by omega) (fun c_55 => ?_) (fun c_55 => ?_)
      · refine j_iload_n M dX2_fitsSign_75 1 rfl ?_
        refine j_bipush M dX2_fitsSign_76 (by decide) ?_
        refine j_bipush M dX2_fitsSign_78 (by decide) ?_
        refine j_aload_n M dX2_fitsSign_80 0 rfl ?_
        refine m_get M 8 (by decide) q1250 rfl dX2_fitsSign_81 ?_
        refine j_iadd M dX2_fitsSign_84 ?_
        refine j_iconst M dX2_fitsSign_85 ?_
        refine j_isub M dX2_fitsSign_86 ?_
        refine j_rV (k_S M (m_within l X _ _ _ _ (by omega)) (lw_S q1347 q1348 q102 q1349) ndX2_within dX2_fitsSign_87 ⟨by decide, by decide, by decide, by decide⟩ rfl (Nat.le_of_ble_eq_true rfl)) ?_
        refine j_zret M dX2_fitsSign_90 ⟨Nat.le_refl _, Nat.le_refl _⟩ ?_
        exact ⟨by unfold pFits; rw [if_neg c_13, if_neg (by omega), if_neg (by omega)], rfl⟩
      · refine j_aload_n M dX2_fitsSign_58 0 rfl ?_
        refine m_get M 9 (by decide) q1251 rfl dX2_fitsSign_59 ?_
        refine j_iconst M dX2_fitsSign_62 ?_
        refine j_icmp_ne M 75 dX2_fitsSign_63 (by decide) (by omega) (fun c_63 => ?_) (fun c_63 => ?_)
        · refine j_iload_n M dX2_fitsSign_75 1 rfl ?_
          refine j_bipush M dX2_fitsSign_76 (by decide) ?_
          refine j_bipush M dX2_fitsSign_78 (by decide) ?_
          refine j_aload_n M dX2_fitsSign_80 0 rfl ?_
          refine m_get M 8 (by decide) q1250 rfl dX2_fitsSign_81 ?_
          refine j_iadd M dX2_fitsSign_84 ?_
          refine j_iconst M dX2_fitsSign_85 ?_
          refine j_isub M dX2_fitsSign_86 ?_
          refine j_rV (k_S M (m_within l X _ _ _ _ (by omega)) (lw_S q1347 q1348 q102 q1349) ndX2_within dX2_fitsSign_87 ⟨by decide, by decide, by decide, by decide⟩ rfl (Nat.le_of_ble_eq_true rfl)) ?_
          refine j_zret M dX2_fitsSign_90 ⟨Nat.le_refl _, Nat.le_refl _⟩ ?_
          exact ⟨by unfold pFits; rw [if_neg c_13, if_neg (by omega), if_neg (by omega)], rfl⟩
        · refine j_iload_n M dX2_fitsSign_66 1 rfl ?_
          refine j_bipush M dX2_fitsSign_67 (by decide) ?_
          refine j_bipush M dX2_fitsSign_69 (by decide) ?_
          refine j_rV (k_S M (m_within l X _ _ _ _ (by omega)) (lw_S q1347 q1348 q102 q1349) ndX2_within dX2_fitsSign_71 ⟨by decide, by decide, by decide, by decide⟩ rfl (Nat.le_of_ble_eq_true rfl)) ?_
          refine j_zret M dX2_fitsSign_74 ⟨Nat.le_refl _, Nat.le_refl _⟩ ?_
          exact ⟨by unfold pFits; rw [if_neg c_13, if_neg (by omega), if_pos ⟨c_55, c_63⟩], rfl⟩
    · refine j_aload_n M dX2_fitsSign_36 0 rfl ?_
      refine m_get M 9 (by decide) q1251 rfl dX2_fitsSign_37 ?_
      refine j_iconst M dX2_fitsSign_40 ?_
      refine j_icmp_ne M 53 dX2_fitsSign_41 (by decide) (by omega) (fun c_41 => ?_) (fun c_41 => ?_)
      · refine j_iload_n M dX2_fitsSign_53 2 rfl ?_
        refine j_iconst M dX2_fitsSign_54 ?_
        refine j_icmp_ne M 75 dX2_fitsSign_55 (by decide) (by omega) (fun c_55 => ?_) (fun c_55 => ?_)
        · refine j_iload_n M dX2_fitsSign_75 1 rfl ?_
          refine j_bipush M dX2_fitsSign_76 (by decide) ?_
          refine j_bipush M dX2_fitsSign_78 (by decide) ?_
          refine j_aload_n M dX2_fitsSign_80 0 rfl ?_
          refine m_get M 8 (by decide) q1250 rfl dX2_fitsSign_81 ?_
          refine j_iadd M dX2_fitsSign_84 ?_
          refine j_iconst M dX2_fitsSign_85 ?_
          refine j_isub M dX2_fitsSign_86 ?_
          refine j_rV (k_S M (m_within l X _ _ _ _ (by omega)) (lw_S q1347 q1348 q102 q1349) ndX2_within dX2_fitsSign_87 ⟨by decide, by decide, by decide, by decide⟩ rfl (Nat.le_of_ble_eq_true rfl)) ?_
          refine j_zret M dX2_fitsSign_90 ⟨Nat.le_refl _, Nat.le_refl _⟩ ?_
          exact ⟨by unfold pFits; rw [if_neg c_13, if_neg (by omega), if_neg (by omega)], rfl⟩
        · refine j_aload_n M dX2_fitsSign_58 0 rfl ?_
          refine m_get M 9 (by decide) q1251 rfl dX2_fitsSign_59 ?_
          refine j_iconst M dX2_fitsSign_62 ?_
          refine j_icmp_ne M 75 dX2_fitsSign_63 (by decide) (by omega) (fun c_63 => ?_) (fun c_63 => ?_)
          · refine j_iload_n M dX2_fitsSign_75 1 rfl ?_
            refine j_bipush M dX2_fitsSign_76 (by decide) ?_
            refine j_bipush M dX2_fitsSign_78 (by decide) ?_
            refine j_aload_n M dX2_fitsSign_80 0 rfl ?_
            refine m_get M 8 (by decide) q1250 rfl dX2_fitsSign_81 ?_
            refine j_iadd M dX2_fitsSign_84 ?_
            refine j_iconst M dX2_fitsSign_85 ?_
            refine j_isub M dX2_fitsSign_86 ?_
            refine j_rV (k_S M (m_within l X _ _ _ _ (by omega)) (lw_S q1347 q1348 q102 q1349) ndX2_within dX2_fitsSign_87 ⟨by decide, by decide, by decide, by decide⟩ rfl (Nat.le_of_ble_eq_true rfl)) ?_
            refine j_zret M dX2_fitsSign_90 ⟨Nat.le_refl _, Nat.le_refl _⟩ ?_
            exact ⟨by unfold pFits; rw [if_neg c_13, if_neg (by omega), if_neg (by omega)], rfl⟩
          · refine j_iload_n M dX2_fitsSign_66 1 rfl ?_
            refine j_bipush M dX2_fitsSign_67 (by decide) ?_
            refine j_bipush M dX2_fitsSign_69 (by decide) ?_
            refine j_rV (k_S M (m_within l X _ _ _ _ (by omega)) (lw_S q1347 q1348 q102 q1349) ndX2_within dX2_fitsSign_71 ⟨by decide, by decide, by decide, by decide⟩ rfl (Nat.le_of_ble_eq_true rfl)) ?_
            refine j_zret M dX2_fitsSign_74 ⟨Nat.le_refl _, Nat.le_refl _⟩ ?_
            exact ⟨by unfold pFits; rw [if_neg c_13, if_neg (by omega), if_pos ⟨c_55, c_63⟩], rfl⟩
      · refine j_iload_n M dX2_fitsSign_44 1 rfl ?_
        refine j_bipush M dX2_fitsSign_45 (by decide) ?_
        refine j_bipush M dX2_fitsSign_47 (by decide) ?_
        refine j_rV (k_S M (m_within l X _ _ _ _ (by omega)) (lw_S q1347 q1348 q102 q1349) ndX2_within dX2_fitsSign_49 ⟨by decide, by decide, by decide, by decide⟩ rfl (Nat.le_of_ble_eq_true rfl)) ?_
        refine j_zret M dX2_fitsSign_52 ⟨Nat.le_refl _, Nat.le_refl _⟩ ?_
        exact ⟨by unfold pFits; rw [if_neg c_13, if_pos ⟨c_33, c_41⟩], rfl⟩
  · refine j_iload_n M dX2_fitsSign_16 1 rfl ?_
    refine j_rV (k_S M (m_valueOf l X _ _ h) (lw_S q1386 q1387 q102 q1388) ndX2_valueOf dX2_fitsSign_17 ⟨by decide, by decide, by decide, by decide⟩ rfl (Nat.le_of_ble_eq_true rfl)) ?_
    refine j_ldc M (2000000001) q1241 (by decide) dX2_fitsSign_20 ?_
    refine j_icmp_eq M 29 dX2_fitsSign_22 (by decide) (by have := pValue_r h; omega) (fun c_22 => ?_) (fun c_22 => ?_)
    · refine j_iconst M dX2_fitsSign_29 ?_
      refine j_bool false rfl ?_
      refine j_zret M dX2_fitsSign_30 ⟨Nat.le_refl _, Nat.le_refl _⟩ ?_
      exact ⟨by unfold pFits; simp [*], rfl⟩
    · refine j_iconst M dX2_fitsSign_25 ?_
      refine j_goto M 30 dX2_fitsSign_26 (by decide) ?_
      refine j_bool true rfl ?_
      refine j_zret M dX2_fitsSign_30 ⟨Nat.le_refl _, Nat.le_refl _⟩ ?_
      exact ⟨by unfold pFits; simp [*], rfl⟩
def pDone (f : Nat → Int) (t : Nat → Int → Int) : Bool := decide (0 < f 8 ∧ f 9 = pSigns (t 10 (f 8 - 1)))
theorem pSigns_r (k : Int) : 1 ≤ pSigns k ∧ pSigns k ≤ 4 := by unfold pSigns; split <;> (try split) <;> (try split) <;> omega
theorem m_isDone (hm : mOk σ) (h8 : 0 ≤ f 8 ∧ f 8 ≤ 8) (h9 : r32 (f 9)) (hk : 0 < f 8 → r32 (t 10 (f 8 - 1))) : CM l X σ yX2_isDone cX2_isDone 1 (some .boolean) 1 [] f t (some (.int (zB (pDone f t)))) f t := by
  refine Ct.of (by decide) (Nat.le_of_ble_eq_true rfl) (fun Γ M => ?_)
  refine j_lv (lv' := [(0, .ref σ.1)]) rfl ?_
  refine j_aload_n M dX2_isDone_0 0 rfl ?_
  refine m_get M 8 (by decide) q1250 rfl dX2_isDone_1 ?_
  refine j_if_le M 32 dX2_isDone_4 (by decide) (by omega) (fun c_4 => ?_) (fun c_4 => ?_)
  · refine j_iconst M dX2_isDone_32 ?_
    refine j_bool false rfl ?_
    refine j_zret M dX2_isDone_33 ⟨Nat.le_refl _, Nat.le_refl _⟩ ?_
    first | exact pzT (by omega) | exact pzF (by omega)
  · refine j_aload_n M dX2_isDone_7 0 rfl ?_
    refine m_get M 9 (by decide) q1251 rfl dX2_isDone_8 ?_
    refine j_aload_n M dX2_isDone_11 0 rfl ?_
    refine m_get M 10 (by decide) q1252 rfl dX2_isDone_12 ?_
    refine j_aload_n M dX2_isDone_15 0 rfl ?_
    refine m_get M 8 (by decide) q1250 rfl dX2_isDone_16 ?_
    refine j_iconst M dX2_isDone_19 ?_
    refine j_isub M dX2_isDone_20 ?_
    refine m_ald M hm (n := 8) 10 (by decide) rfl dX2_isDone_21 (by omega) ?_
    refine j_rV (k_S M (m_signsOf l X _ _ (hk (by omega))) (lw_S q1379 q1380 q102 q1381) ndX2_signsOf dX2_isDone_22 ⟨by decide, by decide, by decide, by decide⟩ rfl (Nat.le_of_ble_eq_true rfl)) ?_
    have hs := pSigns_r (t 10 (f 8 - 1))
    refine j_icmp_ne M 32 dX2_isDone_25 (by decide) (by omega) (fun c_25 => ?_) (fun c_25 => ?_)
    · refine j_iconst M dX2_isDone_32 ?_
      refine j_bool false rfl ?_
      refine j_zret M dX2_isDone_33 ⟨Nat.le_refl _, Nat.le_refl _⟩ ?_
      first | exact pzT (by omega) | exact pzF (by omega)
    · refine j_iconst M dX2_isDone_28 ?_
      refine j_goto M 33 dX2_isDone_29 (by decide) ?_
      refine j_bool true rfl ?_
      refine j_zret M dX2_isDone_33 ⟨Nat.le_refl _, Nat.le_refl _⟩ ?_
      first | exact pzT (by omega) | exact pzF (by omega)
def pNew (f : Nat → Int) (t : Nat → Int → Int) (c : Int) : Nat → Int → Int := upN (upN t 10 (upA (t 10) (f 8) (pKindBy c))) 11 (fun j => if 4 * f 8 ≤ j ∧ j < 4 * f 8 + 4 then 2000000001 else t 11 j)
def pTakesK (f : Nat → Int) (c : Int) : Bool := decide (pKindBy c ≠ 2000000001 ∧ (pKindBy c = 0 ∨ f 8 ≠ 0))
theorem pKindBy_r (c : Int) : 0 ≤ pKindBy c ∧ (pKindBy c ≤ 4 ∨ pKindBy c = 2000000001) := by unfold pKindBy; split <;> (try split) <;> (try split) <;> (try split) <;> (try split) <;> omega
theorem m_takesKind (hm : mOk σ) (c : Int) (h : r32 c) (h8 : 0 ≤ f 8 ∧ f 8 < 8) : CM l X σ yX2_takesKind cX2_takesKind 4 (some .boolean) 1 [.int (zI c)] f t (some (.int (zB (pTakesK f c)))) (if pTakesK f c then upN (upN (upN f 8 (f 8 + 1)) 9 0) 12 0 else f) (if pTakesK f c then pNew f t c else t) := by
  refine Ct.of (by decide) (Nat.le_of_ble_eq_true rfl) (fun Γ M => ?_)
  refine j_lv (lv' := [(0, .ref σ.1), (1, .int (zI c))]) rfl ?_
  have hk := pKindBy_r c
  have loop : ∀ (n : Nat) (k : Int) (g : Int → Int), n = (4 - k).toNat → 0 ≤ k ∧ k ≤ 4 → (g = fun j => if 4 * f 8 ≤ j ∧ j < 4 * f 8 + k then 2000000001 else t 11 j) → pTakesK f c = true →
      J Γ (mH X σ f (upN (upN t 10 (upA (t 10) (f 8) (pKindBy c))) 11 g)) 0 0 36 [(0, .ref σ.1), (1, .int (zI c)), (2, .int (zI (pKindBy c))), (3, .int (zI k))] [] := by
    intro n
    induction n using Nat.strongRecOn with
    | _ n ih =>
      intro k g hn hk hg hT
      refine j_iload_n M dX2_takesKind_36 3 rfl ?_
      refine j_iconst M dX2_takesKind_37 ?_
      refine j_icmp_ge M 62 dX2_takesKind_38 (by decide) (by omega) (fun c_38 => ?_) (fun c_38 => ?_)
      · refine j_aload_n M dX2_takesKind_62 0 rfl ?_
        refine j_dup M dX2_takesKind_63 rfl ?_
        refine m_get M 8 (by decide) q1250 rfl dX2_takesKind_64 ?_
        refine j_iconst M dX2_takesKind_67 ?_
        refine j_iadd M dX2_takesKind_68 ?_
        refine m_put M 8 (by decide) q1250 dX2_takesKind_69 ?_
        refine j_aload_n M dX2_takesKind_72 0 rfl ?_
        refine j_iconst M dX2_takesKind_73 ?_
        refine m_put M 9 (by decide) q1251 dX2_takesKind_74 ?_
        refine j_aload_n M dX2_takesKind_77 0 rfl ?_
        refine j_iconst M dX2_takesKind_78 ?_
        refine m_putZ M 12 (by decide) q1254 false rfl dX2_takesKind_79 ?_
        refine j_iconst M dX2_takesKind_82 ?_
        refine j_bool true rfl ?_
        refine j_zret M dX2_takesKind_83 ⟨Nat.le_refl _, Nat.le_refl _⟩ ?_
        rw [hT]
        refine ⟨rfl, ?_⟩
        have e : g = fun j => if 4 * f 8 ≤ j ∧ j < 4 * f 8 + 4 then 2000000001 else t 11 j := by rw [hg]; funext j; simp only [show k = 4 by omega]
        rw [e]; rfl
      · refine j_aload_n M dX2_takesKind_41 0 rfl ?_
        refine m_get M 11 (by decide) q1253 rfl dX2_takesKind_42 ?_
        refine j_iconst M dX2_takesKind_45 ?_
        refine j_aload_n M dX2_takesKind_46 0 rfl ?_
        refine m_get M 8 (by decide) q1250 rfl dX2_takesKind_47 ?_
        refine j_imul M dX2_takesKind_50 ?_
        refine j_iload_n M dX2_takesKind_51 3 rfl ?_
        refine j_iadd M dX2_takesKind_52 ?_
        refine j_ldc M (2000000001) q1241 (by decide) dX2_takesKind_53 ?_
        refine m_ast M hm (n := 32) 11 (by decide) (fun _ => rfl) dX2_takesKind_55 (by omega) ?_
        refine j_iinc M dX2_takesKind_56 3 rfl (by decide) ?_
        refine j_goto M 36 dX2_takesKind_59 (by decide) ?_
        simp only [upN_s, upN_uu]
        refine ih _ (by omega) (k + 1) _ rfl (by omega) ?_ hT
        rw [hg]; funext j; simp only [upA]
        split <;> split <;> (try split) <;> (try rfl) <;> omega
  refine j_iload_n M dX2_takesKind_0 1 rfl ?_
  refine j_rV (k_S M (m_kindBy l X _ _ h) (lw_S q1372 q1373 q102 q1374) ndX2_kindBy dX2_takesKind_1 ⟨by decide, by decide, by decide, by decide⟩ rfl (Nat.le_of_ble_eq_true rfl)) ?_
  refine j_istore_n M dX2_takesKind_4 (by decide) ?_
  refine j_iload_n M dX2_takesKind_5 2 rfl ?_
  refine j_ldc M (2000000001) q1241 (by decide) dX2_takesKind_6 ?_
  refine j_icmp_eq M 22 dX2_takesKind_8 (by decide) (by omega) (fun c_8 => ?_) (fun c_8 => ?_)
  · refine j_iconst M dX2_takesKind_22 ?_
    refine j_bool false rfl ?_
    refine j_zret M dX2_takesKind_23 ⟨Nat.le_refl _, Nat.le_refl _⟩ ?_
    rw [show pTakesK f c = false from decide_eq_false (by omega)]
    exact ⟨rfl, rfl⟩
  · refine j_iload_n M dX2_takesKind_11 2 rfl ?_
    refine j_if_eq M 24 dX2_takesKind_12 (by decide) (by omega) (fun c_12 => ?_) (fun c_12 => ?_)
    · refine j_aload_n M dX2_takesKind_24 0 rfl ?_
      refine m_get M 10 (by decide) q1252 rfl dX2_takesKind_25 ?_
      refine j_aload_n M dX2_takesKind_28 0 rfl ?_
      refine m_get M 8 (by decide) q1250 rfl dX2_takesKind_29 ?_
      refine j_iload_n M dX2_takesKind_32 2 rfl ?_
      refine m_ast M hm (n := 8) 10 (by decide) (fun _ => rfl) dX2_takesKind_33 (by omega) ?_
      refine j_iconst M dX2_takesKind_34 ?_
      refine j_istore_n M dX2_takesKind_35 (by decide) ?_
      refine j_hp (hp' := mH X σ f (upN (upN t 10 (upA (t 10) (f 8) (pKindBy c))) 11 (t 11))) ?_ (loop _ 0 (t 11) rfl (by omega) ?_ (decide_eq_true (by omega)))
      · congr 1; funext j; by_cases e : j = 11
        · subst e; rfl
        · rw [upN_n _ _ e]
      · funext j; rw [if_neg (by omega)]
    · refine j_aload_n M dX2_takesKind_15 0 rfl ?_
      refine m_get M 8 (by decide) q1250 rfl dX2_takesKind_16 ?_
      refine j_if_ne M 24 dX2_takesKind_19 (by decide) (by omega) (fun c_19 => ?_) (fun c_19 => ?_)
      · refine j_aload_n M dX2_takesKind_24 0 rfl ?_
        refine m_get M 10 (by decide) q1252 rfl dX2_takesKind_25 ?_
        refine j_aload_n M dX2_takesKind_28 0 rfl ?_
        refine m_get M 8 (by decide) q1250 rfl dX2_takesKind_29 ?_
        refine j_iload_n M dX2_takesKind_32 2 rfl ?_
        refine m_ast M hm (n := 8) 10 (by decide) (fun _ => rfl) dX2_takesKind_33 (by omega) ?_
        refine j_iconst M dX2_takesKind_34 ?_
        refine j_istore_n M dX2_takesKind_35 (by decide) ?_
        refine j_hp (hp' := mH X σ f (upN (upN t 10 (upA (t 10) (f 8) (pKindBy c))) 11 (t 11))) ?_ (loop _ 0 (t 11) rfl (by omega) ?_ (decide_eq_true (by omega)))
        · congr 1; funext j; by_cases e : j = 11
          · subst e; rfl
          · rw [upN_n _ _ e]
        · funext j; rw [if_neg (by omega)]
      · refine j_iconst M dX2_takesKind_22 ?_
        refine j_bool false rfl ?_
        refine j_zret M dX2_takesKind_23 ⟨Nat.le_refl _, Nat.le_refl _⟩ ?_
        rw [show pTakesK f c = false from decide_eq_false (by omega)]
        exact ⟨rfl, rfl⟩
def pTakes (f : Nat → Int) (t : Nat → Int → Int) (c : Int) : Bool × (Nat → Int) × (Nat → Int → Int) :=
  if f 12 = 1 then (pTakesK f c, if pTakesK f c then upN (upN (upN f 8 (f 8 + 1)) 9 0) 12 0 else f, if pTakesK f c then pNew f t c else t)
  else if pDone f t then (decide (c = 59 ∧ f 8 < 8), upN f 12 (if c = 59 ∧ f 8 < 8 then 1 else 0), t)
  else if pFits f t c then (true, upN f 9 (f 9 + 1), upN t 11 (upA (t 11) (4 * f 8 - 4 + f 9) (pValue c)))
  else (false, f, t)
/-- what the text's automaton keeps -/
def pIn (f : Nat → Int) (t : Nat → Int → Int) : Prop := 0 ≤ f 8 ∧ f 8 ≤ 8 ∧ 0 ≤ f 9 ∧ f 9 ≤ 4 ∧ (f 12 = 1 → f 8 < 8) ∧ (f 12 ≠ 1 → 0 < f 8) ∧ (0 < f 8 → 0 ≤ t 10 (f 8 - 1) ∧ t 10 (f 8 - 1) ≤ 4) ∧ (0 < f 8 → f 9 ≤ pSigns (t 10 (f 8 - 1)))
theorem m_takes (hm : mOk σ) (c : Int) (h : r32 c) (hi : pIn f t) : CM l X σ yX2_takes cX2_takes 2 (some .boolean) 3 [.int (zI c)] f t (some (.int (zB (pTakes f t c).1))) (pTakes f t c).2.1 (pTakes f t c).2.2 := by
  obtain ⟨h1, h2, h3, h4, h5, h6, h7, h8⟩ := hi
  refine Ct.of (by decide) (Nat.le_of_ble_eq_true rfl) (fun Γ M => ?_)
  refine j_lv (lv' := [(0, .ref σ.1), (1, .int (zI c))]) rfl ?_
  refine j_aload_n M dX2_takes_0 0 rfl ?_
  refine m_get M 12 (by decide) q1254 rfl dX2_takes_1 ?_
  refine j_ifeqB M 13 dX2_takes_4 (by decide) (fun c_4 => ?_) (fun c_4 => ?_)
  · simp only [decide_eq_false_iff_not] at c_4
    refine j_aload_n M dX2_takes_13 0 rfl ?_
    refine j_rV (k_V M (m_isDone l X σ f t hm (by omega) (by omega) (fun q => by have := h7 q; omega)) (m_rc M) (lw_V q1375 q1377 qs40 q102 q1378) ndX2_isDone dX2_takes_14 ⟨by decide, by decide, by decide, by decide⟩ rfl (Nat.le_of_ble_eq_true rfl)) ?_
    refine j_ifeqB M 49 dX2_takes_17 (by decide) (fun c_17 => ?_) (fun c_17 => ?_)
    · refine j_aload_n M dX2_takes_49 0 rfl ?_
      refine j_iload_n M dX2_takes_50 1 rfl ?_
      refine j_rV (k_V M (m_fitsSign l X σ f t hm c h (by omega) (by omega) (by have := h7 (by omega); omega)) (m_rc M) (lw_V q1382 q1384 qs41 q102 q1385) ndX2_fitsSign dX2_takes_51 ⟨by decide, by decide, by decide, by decide⟩ rfl (Nat.le_of_ble_eq_true rfl)) ?_
      refine j_ifneB M 59 dX2_takes_54 (by decide) (fun c_54 => ?_) (fun c_54 => ?_)
      · have hs : f 9 < 4 := by have q1 := h7 (by omega); have q2 := h8 (by omega); have q3 := pSigns_r (t 10 (f 8 - 1)); simp only [pDone, decide_eq_false_iff_not] at c_17; omega
        refine j_aload_n M dX2_takes_59 0 rfl ?_
        refine m_get M 11 (by decide) q1253 rfl dX2_takes_60 ?_
        refine j_iconst M dX2_takes_63 ?_
        refine j_aload_n M dX2_takes_64 0 rfl ?_
        refine m_get M 8 (by decide) q1250 rfl dX2_takes_65 ?_
        refine j_imul M dX2_takes_68 ?_
        refine j_iconst M dX2_takes_69 ?_
        refine j_isub M dX2_takes_70 ?_
        refine j_aload_n M dX2_takes_71 0 rfl ?_
        refine m_get M 9 (by decide) q1251 rfl dX2_takes_72 ?_
        refine j_iadd M dX2_takes_75 ?_
        refine j_iload_n M dX2_takes_76 1 rfl ?_
        refine j_rV (k_S M (m_valueOf l X _ _ h) (lw_S q1386 q1387 q102 q1388) ndX2_valueOf dX2_takes_77 ⟨by decide, by decide, by decide, by decide⟩ rfl (Nat.le_of_ble_eq_true rfl)) ?_
        refine m_ast M hm (n := 32) 11 (by decide) (fun _ => rfl) dX2_takes_80 (by omega) ?_
        refine j_aload_n M dX2_takes_81 0 rfl ?_
        refine j_dup M dX2_takes_82 rfl ?_
        refine m_get M 9 (by decide) q1251 rfl dX2_takes_83 ?_
        refine j_iconst M dX2_takes_86 ?_
        refine j_iadd M dX2_takes_87 ?_
        refine m_put M 9 (by decide) q1251 dX2_takes_88 ?_
        refine j_iconst M dX2_takes_91 ?_
        refine j_bool true rfl ?_
        refine j_zret M dX2_takes_92 ⟨Nat.le_refl _, Nat.le_refl _⟩ ?_
        unfold pTakes; rw [if_neg c_4, c_17, c_54]; exact ⟨rfl, rfl⟩
      · refine j_iconst M dX2_takes_57 ?_
        refine j_bool false rfl ?_
        refine j_zret M dX2_takes_58 ⟨Nat.le_refl _, Nat.le_refl _⟩ ?_
        unfold pTakes; rw [if_neg c_4, c_17, c_54]; exact ⟨rfl, rfl⟩
    · refine j_aload_n M dX2_takes_20 0 rfl ?_
      refine j_iload_n M dX2_takes_21 1 rfl ?_
      refine j_bipush M dX2_takes_22 (by decide) ?_
      refine j_icmp_ne M 40 dX2_takes_24 (by decide) (by omega) (fun c_24 => ?_) (fun c_24 => ?_)
      · refine j_iconst M dX2_takes_40 ?_
        refine m_putZ M 12 (by decide) q1254 false rfl dX2_takes_41 ?_
        refine j_aload_n M dX2_takes_44 0 rfl ?_
        refine m_get M 12 (by decide) q1254 rfl dX2_takes_45 ?_
        refine j_zret M dX2_takes_48 ⟨Nat.le_refl _, Nat.le_refl _⟩ ?_
        unfold pTakes; rw [if_neg c_4, c_17, if_pos rfl, decide_eq_false (by omega), if_neg (by omega)]; exact ⟨rfl, rfl⟩
      · refine j_aload_n M dX2_takes_27 0 rfl ?_
        refine m_get M 8 (by decide) q1250 rfl dX2_takes_28 ?_
        refine j_bipush M dX2_takes_31 (by decide) ?_
        refine j_icmp_ge M 40 dX2_takes_33 (by decide) (by omega) (fun c_33 => ?_) (fun c_33 => ?_)
        · refine j_iconst M dX2_takes_40 ?_
          refine m_putZ M 12 (by decide) q1254 false rfl dX2_takes_41 ?_
          refine j_aload_n M dX2_takes_44 0 rfl ?_
          refine m_get M 12 (by decide) q1254 rfl dX2_takes_45 ?_
          refine j_zret M dX2_takes_48 ⟨Nat.le_refl _, Nat.le_refl _⟩ ?_
          unfold pTakes; rw [if_neg c_4, c_17, if_pos rfl, decide_eq_false (by omega), if_neg (by omega)]; exact ⟨rfl, rfl⟩
        · refine j_iconst M dX2_takes_36 ?_
          refine j_goto M 41 dX2_takes_37 (by decide) ?_
          refine m_putZ M 12 (by decide) q1254 true rfl dX2_takes_41 ?_
          refine j_aload_n M dX2_takes_44 0 rfl ?_
          refine m_get M 12 (by decide) q1254 rfl dX2_takes_45 ?_
          refine j_zret M dX2_takes_48 ⟨Nat.le_refl _, Nat.le_refl _⟩ ?_
          unfold pTakes; rw [if_neg c_4, c_17, if_pos rfl, decide_eq_true (by omega), if_pos (by omega)]; exact ⟨rfl, rfl⟩
  · simp only [decide_eq_true_eq] at c_4
    refine j_aload_n M dX2_takes_7 0 rfl ?_
    refine j_iload_n M dX2_takes_8 1 rfl ?_
    refine j_rV (k_V M (m_takesKind l X σ f t hm c h (by omega)) (m_rc M) (lw_V q1368 q1370 qs39 q102 q1371) ndX2_takesKind dX2_takes_9 ⟨by decide, by decide, by decide, by decide⟩ rfl (Nat.le_of_ble_eq_true rfl)) ?_
    refine j_zret M dX2_takes_12 ⟨Nat.le_refl _, Nat.le_refl _⟩ ?_
    unfold pTakes; rw [if_pos c_4]; exact ⟨rfl, rfl⟩
theorem pTakes_in {f : Nat → Int} {t : Nat → Int → Int} {c : Int} (hi : pIn f t) (h : (pTakes f t c).1 = true) : pIn (pTakes f t c).2.1 (pTakes f t c).2.2 := by
  obtain ⟨h1, h2, h3, h4, h5, h6, h7, h8⟩ := hi
  unfold pTakes at h ⊢
  by_cases e1 : f 12 = 1
  · rw [if_pos e1] at h ⊢
    have h : pTakesK f c = true := h
    simp only [h, if_true]
    have hk := pKindBy_r c
    simp only [pTakesK, decide_eq_true_eq] at h
    have q5 := h5 e1
    refine ⟨by simp [upN]; omega, by simp [upN]; omega, by simp [upN], by simp [upN], by simp [upN], by simp [upN]; omega, ?_, ?_⟩
    · intro _; simp [upN, pNew, upA]; omega
    · intro _; have := pSigns_r (pNew f t c 10 (upN (upN (upN f 8 (f 8 + 1)) 9 0) 12 0 8 - 1)); simp only [upN] at *; simp at *; omega
  · rw [if_neg e1] at h ⊢
    by_cases e2 : pDone f t = true
    · rw [if_pos e2] at h ⊢
      simp only [decide_eq_true_eq] at h
      simp only [if_pos h]
      exact ⟨h1, h2, h3, h4, fun _ => h.2, fun q => absurd rfl q, h7, h8⟩
    · rw [if_neg e2] at h ⊢
      by_cases e3 : pFits f t c = true
      · rw [if_pos e3] at h ⊢
        have q7 := h7 (h6 e1); have q8 := h8 (h6 e1); have q9 := pSigns_r (t 10 (f 8 - 1))
        have q6 := h6 e1
        have q10 : ¬ (0 < f 8 ∧ f 9 = pSigns (t 10 (f 8 - 1))) := fun q => e2 (decide_eq_true q)
        refine ⟨h1, h2, by simp [upN]; omega, by simp [upN]; omega, h5, h6, h7, ?_⟩
        intro _; show f 9 + 1 ≤ pSigns (t 10 (f 8 - 1)); omega
      · rw [if_neg e3] at h
        cases h
/-- the reading of a text from place k on: how far, and what was laid -/
def pRead (pg : Int → Int) (len : Int) : Nat → Int → (Nat → Int) → (Nat → Int → Int) → Int × (Nat → Int) × (Nat → Int → Int)
  | 0, k, f, t => (k, f, t)
  | n + 1, k, f, t => if k < len then (if (pTakes f t (pg k)).1 then pRead pg len n (k + 1) (pTakes f t (pg k)).2.1 (pTakes f t (pg k)).2.2 else (k, (pTakes f t (pg k)).2.1, (pTakes f t (pg k)).2.2)) else (k, f, t)
theorem pTakes_6 (f : Nat → Int) (t : Nat → Int → Int) (c : Int) (k : Nat) (h1 : k ≠ 8) (h2 : k ≠ 9) (h3 : k ≠ 12) : (pTakes f t c).2.1 k = f k := by
  unfold pTakes; split
  · dsimp only; split <;> simp [upN, h1, h2, h3]
  · split
    · simp [upN, h3]
    · split <;> simp [upN, h2]
theorem pTakes_t (f : Nat → Int) (t : Nat → Int → Int) (c : Int) (k : Nat) (h1 : k ≠ 10) (h2 : k ≠ 11) : (pTakes f t c).2.2 k = t k := by
  unfold pTakes; split
  · dsimp only; split
    · simp [pNew, upN, h1, h2]
    · rfl
  · split
    · rfl
    · split <;> simp [upN, h2]
def pStart (f : Nat → Int) : Nat → Int := upN (upN (upN f 8 0) 9 0) 12 1
theorem m_read (hm : mOk σ) (h6 : 0 ≤ f 6 ∧ f 6 ≤ 47) (hb : ∀ k, 0 ≤ k → k < f 6 → r32 (t 7 k)) : CM l X σ yX2_read cX2_read 2 (some .int) 4 [] f t (some (.int (zI (pRead (t 7) (f 6) 47 0 (pStart f) t).1))) (pRead (t 7) (f 6) 47 0 (pStart f) t).2.1 (pRead (t 7) (f 6) 47 0 (pStart f) t).2.2 := by
  refine Ct.of (by decide) (Nat.le_of_ble_eq_true rfl) (fun Γ M => ?_)
  refine j_lv (lv' := [(0, .ref σ.1)]) rfl ?_
  have loop : ∀ (n : Nat) (k : Int) (f1 : Nat → Int) (t1 : Nat → Int → Int), 0 ≤ k → k + n = 47 → pIn f1 t1 → f1 6 = f 6 → t1 7 = t 7 → pRead (t 7) (f 6) n k f1 t1 = pRead (t 7) (f 6) 47 0 (pStart f) t →
      J Γ (mH X σ f1 t1) 0 0 17 [(0, .ref σ.1), (1, .int (zI k))] [] := by
    intro n
    induction n with
    | zero =>
      intro k f1 t1 h1 h2 hi e6 e7 hr
      refine j_iload_n M dX2_read_17 1 rfl ?_
      refine j_aload_n M dX2_read_18 0 rfl ?_
      refine m_get M 6 (by decide) q1248 rfl dX2_read_19 ?_
      refine j_icmp_ge M 44 dX2_read_22 (by decide) (by rw [e6]; omega) (fun c_22 => ?_) (fun c_22 => ?_)
      · refine j_iload_n M dX2_read_44 1 rfl ?_
        refine j_iret M dX2_read_45 ⟨Nat.le_refl _, Nat.le_refl _⟩ ?_
        rw [← hr]; exact ⟨rfl, rfl⟩
      · exact absurd c_22 (by omega)
    | succ n ih =>
      intro k f1 t1 h1 h2 hi e6 e7 hr
      refine j_iload_n M dX2_read_17 1 rfl ?_
      refine j_aload_n M dX2_read_18 0 rfl ?_
      refine m_get M 6 (by decide) q1248 rfl dX2_read_19 ?_
      refine j_icmp_ge M 44 dX2_read_22 (by decide) (by rw [e6]; omega) (fun c_22 => ?_) (fun c_22 => ?_)
      · refine j_iload_n M dX2_read_44 1 rfl ?_
        refine j_iret M dX2_read_45 ⟨Nat.le_refl _, Nat.le_refl _⟩ ?_
        rw [← hr, pRead, if_neg (by omega)]; exact ⟨rfl, rfl⟩
      · refine j_aload_n M dX2_read_25 0 rfl ?_
        refine j_aload_n M dX2_read_26 0 rfl ?_
        refine m_get M 7 (by decide) q1249 rfl dX2_read_27 ?_
        refine j_iload_n M dX2_read_30 1 rfl ?_
        refine m_bld M hm (n := 47) 7 (by decide) rfl dX2_read_31 (by omega) ?_
        refine j_rV (k_V M (m_takes l X σ f1 t1 hm (t1 7 k) (by rw [e7]; exact hb k h1 (by omega)) hi) (m_rc M) (lw_V q1364 q1366 qs38 q102 q1367) ndX2_takes dX2_read_32 ⟨by decide, by decide, by decide, by decide⟩ rfl (Nat.le_of_ble_eq_true rfl)) ?_
        refine j_ifeqB M 44 dX2_read_35 (by decide) (fun c_35 => ?_) (fun c_35 => ?_)
        · refine j_iload_n M dX2_read_44 1 rfl ?_
          refine j_iret M dX2_read_45 ⟨Nat.le_refl _, Nat.le_refl _⟩ ?_
          rw [← hr, pRead, if_pos (by omega), ← e7, c_35]; exact ⟨rfl, rfl⟩
        · refine j_iinc M dX2_read_38 1 rfl (by decide) ?_
          refine j_goto M 17 dX2_read_41 (by decide) ?_
          refine ih (k + 1) _ _ (by omega) (by omega) (pTakes_in hi c_35) ?_ ?_ ?_
          · rw [pTakes_6 _ _ _ _ (by decide) (by decide) (by decide)]; exact e6
          · rw [pTakes_t _ _ _ _ (by decide) (by decide)]; exact e7
          · rw [← hr, pRead, if_pos (by omega), ← e7, c_35]; rfl
  refine j_aload_n M dX2_read_0 0 rfl ?_
  refine j_iconst M dX2_read_1 ?_
  refine m_put M 8 (by decide) q1250 dX2_read_2 ?_
  refine j_aload_n M dX2_read_5 0 rfl ?_
  refine j_iconst M dX2_read_6 ?_
  refine m_put M 9 (by decide) q1251 dX2_read_7 ?_
  refine j_aload_n M dX2_read_10 0 rfl ?_
  refine j_iconst M dX2_read_11 ?_
  refine m_putZ M 12 (by decide) q1254 true rfl dX2_read_12 ?_
  refine j_iconst M dX2_read_15 ?_
  refine j_istore_n M dX2_read_16 (by decide) ?_
  exact loop 47 0 (pStart f) t (by omega) (by omega) (by refine ⟨?_, ?_, ?_, ?_, ?_, ?_, ?_, ?_⟩ <;> simp [pStart, upN]) rfl rfl rfl
theorem m_fault (hm : mOk σ) (h6 : 0 ≤ f 6 ∧ f 6 ≤ 47) (hb : ∀ k, 0 ≤ k → k < f 6 → r32 (t 7 k)) : CM l X σ yX2_fault cX2_fault 1 (some .int) 5 [] f t (some (.int (zI (pRead (t 7) (f 6) 47 0 (pStart f) t).1))) (pRead (t 7) (f 6) 47 0 (pStart f) t).2.1 (pRead (t 7) (f 6) 47 0 (pStart f) t).2.2 := by
  refine Ct.of (by decide) (Nat.le_of_ble_eq_true rfl) (fun Γ M => ?_)
  refine j_lv (lv' := [(0, .ref σ.1)]) rfl ?_
  refine j_aload_n M dX2_fault_0 0 rfl ?_
  refine j_rV (k_V M (m_read l X σ f t hm h6 hb) (m_rc M) (lw_V q1360 q1362 qs37 q102 q1363) ndX2_read dX2_fault_1 ⟨by decide, by decide, by decide, by decide⟩ rfl (Nat.le_of_ble_eq_true rfl)) ?_
  refine j_iret M dX2_fault_4 ⟨Nat.le_refl _, Nat.le_refl _⟩ ?_
  exact ⟨rfl, rfl⟩
end M1
