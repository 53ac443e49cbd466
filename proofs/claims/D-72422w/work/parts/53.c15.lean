/-! 53: the component: roots, rules -/
set_option maxRecDepth 100000
section C15
variable (l : Launch) (X : Cx) (Pr : Hp) (c : Int) (s : Co) (hp : Hp)
theorem c_root (a : Nat) (cc d e f : Int) (b : Bool) (ha : hp a = some (eX5 cc d e f)) (hc : -9 ≤ cc ∧ cc ≤ 9) (hd : -9 ≤ d ∧ d ≤ 9) : CS l X yX0_root cX0_root 3 (some .int) 1 [.ref a, .int (zB b)] hp (some (.int (zI (if pRoot (cc * cc + 4 * d) = 2000000001 then 2000000001 else if b then (cc + pRoot (cc * cc + 4 * d)).tdiv 2 else (cc - pRoot (cc * cc + 4 * d)).tdiv 2)))) := by
  have hcc := mul_bd 9 9 hc hc
  have hr := pRoot_r (cc * cc + 4 * d) (by omega)
  have hng : cc * cc + 4 * d < 0 → pRoot (cc * cc + 4 * d) = 2000000001 := fun q => by
    have e0 : pRt (cc * cc + 4 * d) 20 0 = 0 := by rw [pRt, if_neg (by omega)]
    unfold pRoot; rw [e0, if_neg (by omega)]
  refine Ct.of (by decide) (Nat.le_of_ble_eq_true rfl) (fun Γ M => ?_)
  refine j_lv (lv' := [(0, .ref a), (1, .int (zB b))]) rfl ?_
  refine j_aload_n M dX0_root_0 0 rfl ?_
  refine j_rV (k_V M (c_under l X hp a _ _ _ _ ha) (rc_of M ha rfl) (lw_V q959 q960 q961 q105 q962) ndX5_under dX0_root_1 ⟨by decide, by decide, by decide, by decide⟩ rfl (Nat.le_of_ble_eq_true rfl)) ?_
  refine j_if_ge M 12 dX0_root_4 (by decide) (by omega) (fun c_4 => ?_) (fun c_4 => ?_)
  · refine j_aload_n M dX0_root_12 0 rfl ?_
    refine j_rV (k_V M (c_under l X hp a _ _ _ _ ha) (rc_of M ha rfl) (lw_V q959 q960 q961 q105 q962) ndX5_under dX0_root_13 ⟨by decide, by decide, by decide, by decide⟩ rfl (Nat.le_of_ble_eq_true rfl)) ?_
    refine j_rV (k_S M (c_rootOf l X hp _ (by omega)) (lw_S q966 q967 q97 q968) ndX0_rootOf dX0_root_16 ⟨by decide, by decide, by decide, by decide⟩ rfl (Nat.le_of_ble_eq_true rfl)) ?_
    refine j_istore_n M dX0_root_19 (by decide) ?_
    refine j_iload_n M dX0_root_20 2 rfl ?_
    refine j_ldc M (2000000001) q196 (by decide) dX0_root_21 ?_
    refine j_icmp_ne M 29 dX0_root_23 (by decide) (by omega) (fun c_23 => ?_) (fun c_23 => ?_)
    · refine j_iload_n M dX0_root_29 1 rfl ?_
      refine j_ifeqB M 42 dX0_root_30 (by decide) (fun c_30 => ?_) (fun c_30 => ?_)
      · refine j_aload_n M dX0_root_42 0 rfl ?_
        refine j_get M ha rfl 0 (by decide) in_X5 q328 rfl dX0_root_43 ?_
        refine j_iload_n M dX0_root_46 2 rfl ?_
        refine j_isub M dX0_root_47 ?_
        refine j_iconst M dX0_root_48 ?_
        refine j_idiv M dX0_root_49 (by omega) (by omega) ?_
        refine j_iret M dX0_root_50 ⟨Nat.le_refl _, Nat.le_refl _⟩ ?_
        exact ⟨by rw [if_neg (by omega), c_30]; rfl, rfl⟩
      · refine j_aload_n M dX0_root_33 0 rfl ?_
        refine j_get M ha rfl 0 (by decide) in_X5 q328 rfl dX0_root_34 ?_
        refine j_iload_n M dX0_root_37 2 rfl ?_
        refine j_iadd M dX0_root_38 ?_
        refine j_goto M 48 dX0_root_39 (by decide) ?_
        refine j_iconst M dX0_root_48 ?_
        refine j_idiv M dX0_root_49 (by omega) (by omega) ?_
        refine j_iret M dX0_root_50 ⟨Nat.le_refl _, Nat.le_refl _⟩ ?_
        exact ⟨by rw [if_neg (by omega), c_30]; rfl, rfl⟩
    · refine j_ldc M (2000000001) q196 (by decide) dX0_root_26 ?_
      refine j_iret M dX0_root_28 ⟨Nat.le_refl _, Nat.le_refl _⟩ ?_
      exact ⟨by rw [if_pos (by omega)], rfl⟩
  · refine j_ldc M (2000000001) q196 (by decide) dX0_root_7 ?_
    refine j_goto M 19 dX0_root_9 (by decide) ?_
    refine j_istore_n M dX0_root_19 (by decide) ?_
    refine j_iload_n M dX0_root_20 2 rfl ?_
    refine j_ldc M (2000000001) q196 (by decide) dX0_root_21 ?_
    refine j_icmp_ne M 29 dX0_root_23 (by decide) (by omega) (fun c_23 => ?_) (fun c_23 => ?_)
    · refine j_iload_n M dX0_root_29 1 rfl ?_
      refine j_ifeqB M 42 dX0_root_30 (by decide) (fun c_30 => ?_) (fun c_30 => ?_)
      · refine j_aload_n M dX0_root_42 0 rfl ?_
        refine j_get M ha rfl 0 (by decide) in_X5 q328 rfl dX0_root_43 ?_
        refine j_iload_n M dX0_root_46 2 rfl ?_
        refine j_isub M dX0_root_47 ?_
        refine j_iconst M dX0_root_48 ?_
        refine j_idiv M dX0_root_49 (by omega) (by omega) ?_
        refine j_iret M dX0_root_50 ⟨Nat.le_refl _, Nat.le_refl _⟩ ?_
        exact absurd rfl c_23
      · refine j_aload_n M dX0_root_33 0 rfl ?_
        refine j_get M ha rfl 0 (by decide) in_X5 q328 rfl dX0_root_34 ?_
        refine j_iload_n M dX0_root_37 2 rfl ?_
        refine j_iadd M dX0_root_38 ?_
        refine j_goto M 48 dX0_root_39 (by decide) ?_
        refine j_iconst M dX0_root_48 ?_
        refine j_idiv M dX0_root_49 (by omega) (by omega) ?_
        refine j_iret M dX0_root_50 ⟨Nat.le_refl _, Nat.le_refl _⟩ ?_
        exact absurd rfl c_23
    · refine j_ldc M (2000000001) q196 (by decide) dX0_root_26 ?_
      refine j_iret M dX0_root_28 ⟨Nat.le_refl _, Nat.le_refl _⟩ ?_
      exact ⟨by rw [if_pos (hng (by omega))], rfl⟩
theorem c_rootsTold (a : Nat) (cc d e f w : Int) (ha : hp a = some (eX5 cc d e f)) (hc : -9 ≤ cc ∧ cc ≤ 9) (hd : -9 ≤ d ∧ d ≤ 9) (hw : 0 ≤ w ∧ w ≤ 4) : CS l X yX0_rootsTold cX0_rootsTold 3 (some .int) 2 [.ref a, .int (zI w)] hp (some (.int (zI (pRoots cc d w)))) := by
  have hcc := mul_bd 9 9 hc hc
  refine Ct.of (by decide) (Nat.le_of_ble_eq_true rfl) (fun Γ M => ?_)
  refine j_lv (lv' := [(0, .ref a), (1, .int (zI w))]) rfl ?_
  refine j_aload_n M dX0_rootsTold_0 0 rfl ?_
  refine j_rV (k_V M (c_under l X hp a _ _ _ _ ha) (rc_of M ha rfl) (lw_V q959 q960 q961 q105 q962) ndX5_under dX0_rootsTold_1 ⟨by decide, by decide, by decide, by decide⟩ rfl (Nat.le_of_ble_eq_true rfl)) ?_
  refine j_istore_n M dX0_rootsTold_4 (by decide) ?_
  refine j_iload_n M dX0_rootsTold_5 1 rfl ?_
  refine j_swn M (a := w) (by omega) (fun h_6 => ?_)
  by_cases e_6_0 : w = 0
  · rw [e_6_0]
    refine j_tabIn M 36 dX0_rootsTold_6 (by decide) (by decide) (by decide) rfl (by decide) ?_
    refine j_iload_n M dX0_rootsTold_36 2 rfl ?_
    refine j_if_le M 44 dX0_rootsTold_37 (by decide) (by omega) (fun c_37 => ?_) (fun c_37 => ?_)
    · refine j_iload_n M dX0_rootsTold_44 2 rfl ?_
      refine j_if_ne M 52 dX0_rootsTold_45 (by decide) (by omega) (fun c_45 => ?_) (fun c_45 => ?_)
      · refine j_iconst M dX0_rootsTold_52 ?_
        refine j_iret M dX0_rootsTold_53 ⟨Nat.le_refl _, Nat.le_refl _⟩ ?_
        exact ⟨by unfold pRoots; rw [if_pos (by omega), if_neg (by omega), if_neg (by omega)], rfl⟩
      · refine j_iconst M dX0_rootsTold_48 ?_
        refine j_goto M 53 dX0_rootsTold_49 (by decide) ?_
        refine j_iret M dX0_rootsTold_53 ⟨Nat.le_refl _, Nat.le_refl _⟩ ?_
        exact ⟨by unfold pRoots; rw [if_pos (by omega), if_neg (by omega), if_pos (by omega)], rfl⟩
    · refine j_iconst M dX0_rootsTold_40 ?_
      refine j_goto M 53 dX0_rootsTold_41 (by decide) ?_
      refine j_iret M dX0_rootsTold_53 ⟨Nat.le_refl _, Nat.le_refl _⟩ ?_
      exact ⟨by unfold pRoots; rw [if_pos (by omega), if_pos (by omega)], rfl⟩
  by_cases e_6_1 : w = 1
  · rw [e_6_1]
    refine j_tabIn M 54 dX0_rootsTold_6 (by decide) (by decide) (by decide) rfl (by decide) ?_
    refine j_aload_n M dX0_rootsTold_54 0 rfl ?_
    refine j_iconst M dX0_rootsTold_55 ?_
    refine j_rV (k_S M (c_root l X hp a _ _ _ _ true ha hc hd) (lw_S q963 q964 q97 q965) ndX0_root dX0_rootsTold_56 ⟨by decide, by decide, by decide, by decide⟩ rfl (Nat.le_of_ble_eq_true rfl)) ?_
    refine j_iret M dX0_rootsTold_59 ⟨Nat.le_refl _, Nat.le_refl _⟩ ?_
    exact ⟨by rw [e_6_1]; rfl, rfl⟩
  by_cases e_6_2 : w = 2
  · rw [e_6_2]
    refine j_tabIn M 60 dX0_rootsTold_6 (by decide) (by decide) (by decide) rfl (by decide) ?_
    refine j_aload_n M dX0_rootsTold_60 0 rfl ?_
    refine j_iconst M dX0_rootsTold_61 ?_
    refine j_rV (k_S M (c_root l X hp a _ _ _ _ false ha hc hd) (lw_S q963 q964 q97 q965) ndX0_root dX0_rootsTold_62 ⟨by decide, by decide, by decide, by decide⟩ rfl (Nat.le_of_ble_eq_true rfl)) ?_
    refine j_iret M dX0_rootsTold_65 ⟨Nat.le_refl _, Nat.le_refl _⟩ ?_
    exact ⟨by rw [e_6_2]; rfl, rfl⟩
  by_cases e_6_3 : w = 3
  · rw [e_6_3]
    refine j_tabIn M 66 dX0_rootsTold_6 (by decide) (by decide) (by decide) rfl (by decide) ?_
    refine j_aload_n M dX0_rootsTold_66 0 rfl ?_
    refine j_rV (k_V M (c_degenerate l X hp a _ _ _ _ ha hc hd) (rc_of M ha rfl) (lw_V q969 q970 q971 q105 q972) ndX5_degenerate dX0_rootsTold_67 ⟨by decide, by decide, by decide, by decide⟩ rfl (Nat.le_of_ble_eq_true rfl)) ?_
    refine j_iret M dX0_rootsTold_70 ⟨Nat.le_refl _, Nat.le_refl _⟩ ?_
    exact ⟨by rw [e_6_3]; rfl, rfl⟩
  refine j_tabOut M 71 dX0_rootsTold_6 h_6 (by omega) (by decide) ?_
  refine j_iload_n M dX0_rootsTold_71 2 rfl ?_
  refine j_if_le M 85 dX0_rootsTold_72 (by decide) (by omega) (fun c_72 => ?_) (fun c_72 => ?_)
  · refine j_iconst M dX0_rootsTold_85 ?_
    refine j_iret M dX0_rootsTold_86 ⟨Nat.le_refl _, Nat.le_refl _⟩ ?_
    refine ⟨?_, rfl⟩
    rw [show w = 4 by omega]
    show _ = some (Value.int (zI (if cc * cc + 4 * d ≤ 0 ∨ cc = 0 then 0 else if 0 < cc then 1 else -1)))
    rw [if_pos (by omega)]
  · refine j_aload_n M dX0_rootsTold_75 0 rfl ?_
    refine j_get M ha rfl 0 (by decide) in_X5 q328 rfl dX0_rootsTold_76 ?_
    refine j_rV (k_S M (c_signum l X hp _ hc) (lw_S q974 q975 q126 q976) ndJ13_signum dX0_rootsTold_79 ⟨by decide, by decide, by decide, by decide⟩ rfl (Nat.le_of_ble_eq_true rfl)) ?_
    refine j_goto M 86 dX0_rootsTold_82 (by decide) ?_
    refine j_iret M dX0_rootsTold_86 ⟨Nat.le_refl _, Nat.le_refl _⟩ ?_
    refine ⟨?_, rfl⟩
    rw [show w = 4 by omega]
    show _ = some (Value.int (zI (if cc * cc + 4 * d ≤ 0 ∨ cc = 0 then 0 else if 0 < cc then 1 else -1)))
    by_cases e0 : cc = 0
    · rw [if_neg (show ¬ cc < 0 by omega), if_pos e0, if_pos (Or.inr e0)]
    · by_cases e1 : cc < 0
      · rw [if_pos e1, if_neg (by omega), if_neg (by omega)]
      · rw [if_neg e1, if_neg e0, if_neg (by omega), if_pos (by omega)]
theorem c_roots (i w : Int) (hi : r32 i) (hw : r32 w) (h : CI X Pr c s hp) : Ct l X yX0_roots cX0_roots 5 (some .int) (rD 4) [.ref s.x, .int (zI i), .int (zI w)] hp (pA X Pr c s (.int (zI (vRoots s.N s.K s.P i w)))) := by
  have h8 := h.n
  have hx := h.cw.hx
  refine Ct.of (by decide) (Nat.le_of_ble_eq_true rfl) (fun Γ M => ?_)
  refine j_lv (lv' := [(0, .ref s.x), (1, .int (zI i)), (2, .int (zI w))]) rfl ?_
  refine j_aload_n M dX0_roots_0 0 rfl ?_
  refine j_iload_n M dX0_roots_1 1 rfl ?_
  refine j_rV (k_V M (c_isRow l X Pr c s hp i hi h) (rc_of M hx rfl) (lw_V q554 q556 qs12 q97 q557) ndX0_isRow dX0_roots_2 (rmD (by omega) (by decide) rfl rfl) rfl (Nat.le_of_ble_eq_true rfl)) ?_
  refine j_ifneB M 11 dX0_roots_5 (by decide) (fun c_5 => ?_) (fun c_5 => ?_)
  · rw [decide_eq_true_eq] at c_5
    refine j_iload_n M dX0_roots_11 2 rfl ?_
    refine j_iconst M dX0_roots_12 ?_
    refine j_iconst M dX0_roots_13 ?_
    refine j_rV (k_S M (c_in l X hp _ _ _ (by omega)) (lw_S q250 q251 q97 q252) ndX0_in dX0_roots_14 (rmD (by omega) (by decide) rfl rfl) rfl (Nat.le_of_ble_eq_true rfl)) ?_
    refine j_ifneB M 23 dX0_roots_17 (by decide) (fun c_17 => ?_) (fun c_17 => ?_)
    · rw [decide_eq_true_eq] at c_17
      refine j_aload_n M dX0_roots_23 0 rfl ?_
      refine j_iload_n M dX0_roots_24 1 rfl ?_
      refine j_rV (k_V M (c_rowOfC l X Pr c s hp i (by omega) h) (rc_of M hx rfl) (lw_V q559 q561 qs13 q97 q562) ndX0_rowOf dX0_roots_25 (rmD (by omega) (by decide) rfl rfl) rfl (Nat.le_of_ble_eq_true rfl)) ?_
      have hrw := h.row (i := i) (by omega)
      have hk := rOk_k (h.cw.ok i (by omega) (by omega))
      refine j_astore M dX0_roots_28 (by decide) ?_
      refine j_aload M dX0_roots_30 3 rfl ?_
      refine dv_inst M q686 hk hrw dX0_roots_32 ?_
      refine j_ifeqB M 52 dX0_roots_35 (by decide) (fun c_35 => ?_) (fun c_35 => ?_)
      · rw [decide_eq_false_iff_not] at c_35
        refine j_ldc M (2000000103) q493 (by decide) dX0_roots_52 ?_
        refine j_iret M dX0_roots_54 ⟨Nat.le_refl _, Nat.le_refl _⟩ ?_
        exact ⟨by unfold vRoots pTold; rw [if_pos c_5, if_pos c_17, if_neg (by rw [decide_eq_true_eq]; exact c_35)], h⟩
      · rw [decide_eq_true_eq] at c_35
        have ht := rOk_told (h.cw.ok i (by omega) (by omega)) c_35
        have ha := hrw
        rw [rowE0 c_35] at ha
        refine j_aload M dX0_roots_38 3 rfl ?_
        refine dv_castT M q686 c_35 hrw dX0_roots_40 ?_
        refine j_astore_n M dX0_roots_43 (by decide) ?_
        refine j_aload_n M dX0_roots_44 4 rfl ?_
        refine j_iload_n M dX0_roots_45 2 rfl ?_
        refine j_rV (k_S M (c_rootsTold l X hp _ _ _ _ _ w ha ht.1 ht.2.1 c_17) (lw_S q956 q957 q97 q958) ndX0_rootsTold dX0_roots_46 (rmD (by omega) (by decide) rfl rfl) rfl (Nat.le_of_ble_eq_true rfl)) ?_
        refine j_goto M 54 dX0_roots_49 (by decide) ?_
        refine j_iret M dX0_roots_54 ⟨Nat.le_refl _, Nat.le_refl _⟩ ?_
        exact ⟨by unfold vRoots pTold; rw [if_pos c_5, if_pos c_17, if_pos (by rw [decide_eq_true_eq]; exact c_35)], h⟩
    · rw [decide_eq_false_iff_not] at c_17
      refine j_ldc M (2000000102) q253 (by decide) dX0_roots_20 ?_
      refine j_iret M dX0_roots_22 ⟨Nat.le_refl _, Nat.le_refl _⟩ ?_
      exact ⟨by unfold vRoots; rw [if_pos c_5, if_neg c_17], h⟩
  · rw [decide_eq_false_iff_not] at c_5
    refine j_ldc M (2000000101) q558 (by decide) dX0_roots_8 ?_
    refine j_iret M dX0_roots_10 ⟨Nat.le_refl _, Nat.le_refl _⟩ ?_
    exact ⟨by unfold vRoots; rw [if_neg c_5], h⟩
end C15
