/-! 61: the component: counts -/
set_option maxRecDepth 100000
theorem pTm1_s (K P : Int → Int) (b : Bool) (k : Nat) : pTm1 K P b (k + 1) = pTm1 K P b k + (if pTold K k = true ∧ (b = true → 0 < pDeg (P (4 * k)) (P (4 * k + 1))) then 1 else 0) := rfl
section C23
variable (l : Launch) (X : Cx) (Pr : Hp) (c : Int) (s : Co) (hp : Hp)
theorem c_toldRows (bb : Bool) (h : CI X Pr c s hp) : CS l X yX0_toldRows cX0_toldRows 6 (some .int) 4 [.ref s.x, .int (zB bb)] hp (some (.int (zI (pTm1 s.K s.P bb s.N.toNat)))) := by
  have h8 := h.n
  have hx := h.cw.hx
  obtain ⟨mc, L1, L2⟩ := id h.cw.hR.1
  refine Ct.of (by decide) (Nat.le_of_ble_eq_true rfl) (fun Γ M => ?_)
  refine j_lv (lv' := [(0, .ref s.x), (1, .int (zB bb))]) rfl ?_
  have loop : ∀ (u k : Nat) (ls : List (Nat × Value)), u = s.N.toNat - k → (k : Int) ≤ s.N → J Γ hp 0 0 4 ([(0, .ref s.x), (1, .int (zB bb)), (2, .int (zI (pTm1 s.K s.P bb k))), (3, .int (zI k))] ++ ls) [] := by
    intro u
    induction u using Nat.strongRecOn with
    | _ u ih =>
      intro k ls hu hk
      refine j_loc (lv' := [(0, .ref s.x), (1, .int (zB bb)), (2, .int (zI (pTm1 s.K s.P bb k))), (3, .int (zI k))]) [0, 1, 2, 3] rfl ?_
      have hn : ∀ {v : Int}, pTm1 s.K s.P bb k + v = pTm1 s.K s.P bb (k + 1) → ∀ ls, (k : Int) < s.N → J Γ hp 0 0 4 ([(0, .ref s.x), (1, .int (zB bb)), (2, .int (zI (pTm1 s.K s.P bb k + v))), (3, .int (zI ((k : Int) + 1)))] ++ ls) [] := fun {v} e ls hk2 => by
        rw [e]; exact ih (s.N.toNat - (k + 1)) (by omega) (k + 1) ls rfl (by omega)
      refine j_iload_n M dX0_toldRows_4 3 rfl ?_
      refine j_aload_n M dX0_toldRows_5 0 rfl ?_
      refine j_get M hx rfl 0 (by decide) in_X0 q197 rfl dX0_toldRows_6 ?_
      refine j_rV (k_V M (c_size l X hp _ _ _ _ L1) (rc_of M L1 rfl) (lw_V q501 q361 q362 q100 q363) ndJ2_size dX0_toldRows_9 ⟨by decide, by decide, by decide, by decide⟩ rfl (Nat.le_of_ble_eq_true rfl)) ?_
      refine j_icmp_ge M 63 dX0_toldRows_12 (by decide) (by omega) (fun c_12 => ?_) (fun c_12 => ?_)
      · refine j_iload_n M dX0_toldRows_63 2 rfl ?_
        refine j_iret M dX0_toldRows_64 ⟨Nat.le_refl _, Nat.le_refl _⟩ ?_
        exact ⟨by rw [show k = s.N.toNat by omega], rfl⟩
      · refine j_iload_n M dX0_toldRows_15 2 rfl ?_
        refine j_aload_n M dX0_toldRows_16 0 rfl ?_
        refine j_iload_n M dX0_toldRows_17 3 rfl ?_
        refine j_rV (k_V M (c_rowOfC l X Pr c s hp k (by omega) h) (rc_of M hx rfl) (lw_V q559 q561 qs13 q97 q562) ndX0_rowOf dX0_toldRows_18 ⟨by decide, by decide, by decide, by decide⟩ rfl (Nat.le_of_ble_eq_true rfl)) ?_
        have hrw := h.row (i := (k : Int)) (by omega)
        have hk1 := rOk_k (h.cw.ok (k : Int) (by omega) (by omega))
        refine j_astore M dX0_toldRows_21 (by decide) ?_
        refine j_aload M dX0_toldRows_23 4 rfl ?_
        refine dv_inst M q686 hk1 hrw dX0_toldRows_25 ?_
        refine j_ifeqB M 54 dX0_toldRows_28 (by decide) (fun c_28 => ?_) (fun c_28 => ?_)
        · rw [decide_eq_false_iff_not] at c_28
          refine j_iconst M dX0_toldRows_54 ?_
          refine j_iadd M dX0_toldRows_55 ?_
          refine j_istore_n M dX0_toldRows_56 (by decide) ?_
          refine j_iinc M dX0_toldRows_57 3 rfl (by decide) ?_
          refine j_goto M 4 dX0_toldRows_60 (by decide) ?_
          refine hn (v := 0) (by rw [pTm1_s]; unfold pTold; rw [if_neg (fun w => c_28 (of_decide_eq_true w.1))]) [(5, .ref (s.r k))] (by omega)
        · rw [decide_eq_true_eq] at c_28
          have ha := hrw
          rw [rowE0 c_28] at ha
          have ht := rOk_told (h.cw.ok (k : Int) (by omega) (by omega)) c_28
          refine j_aload M dX0_toldRows_31 4 rfl ?_
          refine dv_castT M q686 c_28 hrw dX0_toldRows_33 ?_
          refine j_astore M dX0_toldRows_36 (by decide) ?_
          refine j_iload_n M dX0_toldRows_38 1 rfl ?_
          refine j_ifeqB M 50 dX0_toldRows_39 (by decide) (fun c_39 => ?_) (fun c_39 => ?_)
          · refine j_iconst M dX0_toldRows_50 ?_
            refine j_goto M 55 dX0_toldRows_51 (by decide) ?_
            refine j_iadd M dX0_toldRows_55 ?_
            refine j_istore_n M dX0_toldRows_56 (by decide) ?_
            refine j_iinc M dX0_toldRows_57 3 rfl (by decide) ?_
            refine j_goto M 4 dX0_toldRows_60 (by decide) ?_
            refine hn (v := 1) (by rw [pTm1_s]; unfold pTold; rw [if_pos ⟨decide_eq_true c_28, fun w => by rw [c_39] at w; cases w⟩]) [(5, .ref (s.r k)), (4, .ref (s.r k))] (by omega)
          · refine j_aload M dX0_toldRows_42 5 rfl ?_
            refine j_rV (k_V M (c_degenerate l X hp _ _ _ _ _ ha ht.1 ht.2.1) (rc_of M ha rfl) (lw_V q969 q970 q971 q105 q972) ndX5_degenerate dX0_toldRows_44 ⟨by decide, by decide, by decide, by decide⟩ rfl (Nat.le_of_ble_eq_true rfl)) ?_
            refine j_if_le M 54 dX0_toldRows_47 (by decide) (by have := pDeg_r (s.P (4 * k)) (s.P (4 * k + 1)); omega) (fun c_47 => ?_) (fun c_47 => ?_)
            · refine j_iconst M dX0_toldRows_54 ?_
              refine j_iadd M dX0_toldRows_55 ?_
              refine j_istore_n M dX0_toldRows_56 (by decide) ?_
              refine j_iinc M dX0_toldRows_57 3 rfl (by decide) ?_
              refine j_goto M 4 dX0_toldRows_60 (by decide) ?_
              refine hn (v := 0) (by rw [pTm1_s]; unfold pTold; rw [if_neg (fun w => by have := w.2 c_39; omega)]) [(5, .ref (s.r k)), (4, .ref (s.r k))] (by omega)
            · refine j_iconst M dX0_toldRows_50 ?_
              refine j_goto M 55 dX0_toldRows_51 (by decide) ?_
              refine j_iadd M dX0_toldRows_55 ?_
              refine j_istore_n M dX0_toldRows_56 (by decide) ?_
              refine j_iinc M dX0_toldRows_57 3 rfl (by decide) ?_
              refine j_goto M 4 dX0_toldRows_60 (by decide) ?_
              refine hn (v := 1) (by rw [pTm1_s]; unfold pTold; rw [if_pos ⟨decide_eq_true c_28, fun _ => by omega⟩]) [(5, .ref (s.r k)), (4, .ref (s.r k))] (by omega)
  refine j_iconst M dX0_toldRows_0 ?_
  refine j_istore_n M dX0_toldRows_1 (by decide) ?_
  refine j_iconst M dX0_toldRows_2 ?_
  refine j_istore_n M dX0_toldRows_3 (by decide) ?_
  exact loop _ 0 [] rfl (by omega)
theorem c_countOf (w : Int) (hw : r32 w) (h : CI X Pr c s hp) : CS l X yX0_countOf cX0_countOf 2 (some .int) 5 [.ref s.x, .int (zI w)] hp (some (.int (zI (vCount s.N s.K s.P (s.v 7) (s.v 6) (s.v 4) w)))) := by
  have hx := h.cw.hx
  obtain ⟨mc, L1, L2⟩ := id h.cw.hR.1
  refine Ct.of (by decide) (Nat.le_of_ble_eq_true rfl) (fun Γ M => ?_)
  refine j_lv (lv' := [(0, .ref s.x), (1, .int (zI w))]) rfl ?_
  refine j_iload_n M dX0_countOf_0 1 rfl ?_
  refine j_swn M (a := w) (by omega) (fun h_1 => ?_)
  by_cases e_1_0 : w = 0
  · rw [e_1_0]
    refine j_tabIn M 40 dX0_countOf_1 (by decide) (by decide) (by decide) rfl (by decide) ?_
    refine j_aload_n M dX0_countOf_40 0 rfl ?_
    refine j_get M hx rfl 0 (by decide) in_X0 q197 rfl dX0_countOf_41 ?_
    refine j_rV (k_V M (c_size l X hp _ _ _ _ L1) (rc_of M L1 rfl) (lw_V q501 q361 q362 q100 q363) ndJ2_size dX0_countOf_44 ⟨by decide, by decide, by decide, by decide⟩ rfl (Nat.le_of_ble_eq_true rfl)) ?_
    refine j_iret M dX0_countOf_47 ⟨Nat.le_refl _, Nat.le_refl _⟩ ?_
    exact ⟨by rw [e_1_0]; rfl, rfl⟩
  by_cases e_1_1 : w = 1
  · rw [e_1_1]
    refine j_tabIn M 48 dX0_countOf_1 (by decide) (by decide) (by decide) rfl (by decide) ?_
    refine j_aload_n M dX0_countOf_48 0 rfl ?_
    refine j_iconst M dX0_countOf_49 ?_
    refine j_rV (k_V M (c_toldRows l X Pr c s hp false h) (rc_of M hx rfl) (lw_V q1216 q1218 qs35 q97 q1219) ndX0_toldRows dX0_countOf_50 ⟨by decide, by decide, by decide, by decide⟩ rfl (Nat.le_of_ble_eq_true rfl)) ?_
    refine j_iret M dX0_countOf_53 ⟨Nat.le_refl _, Nat.le_refl _⟩ ?_
    exact ⟨by rw [e_1_1]; rfl, rfl⟩
  by_cases e_1_2 : w = 2
  · rw [e_1_2]
    refine j_tabIn M 54 dX0_countOf_1 (by decide) (by decide) (by decide) rfl (by decide) ?_
    refine j_aload_n M dX0_countOf_54 0 rfl ?_
    refine j_iconst M dX0_countOf_55 ?_
    refine j_rV (k_V M (c_toldRows l X Pr c s hp true h) (rc_of M hx rfl) (lw_V q1216 q1218 qs35 q97 q1219) ndX0_toldRows dX0_countOf_56 ⟨by decide, by decide, by decide, by decide⟩ rfl (Nat.le_of_ble_eq_true rfl)) ?_
    refine j_iret M dX0_countOf_59 ⟨Nat.le_refl _, Nat.le_refl _⟩ ?_
    exact ⟨by rw [e_1_2]; rfl, rfl⟩
  by_cases e_1_3 : w = 3
  · rw [e_1_3]
    refine j_tabIn M 60 dX0_countOf_1 (by decide) (by decide) (by decide) rfl (by decide) ?_
    refine j_aload_n M dX0_countOf_60 0 rfl ?_
    refine j_get M hx rfl 7 (by decide) in_X0 q207 rfl dX0_countOf_61 ?_
    refine j_iret M dX0_countOf_64 ⟨Nat.le_refl _, Nat.le_refl _⟩ ?_
    exact ⟨by rw [e_1_3]; rfl, rfl⟩
  by_cases e_1_4 : w = 4
  · rw [e_1_4]
    refine j_tabIn M 65 dX0_countOf_1 (by decide) (by decide) (by decide) rfl (by decide) ?_
    refine j_aload_n M dX0_countOf_65 0 rfl ?_
    refine j_get M hx rfl 6 (by decide) in_X0 q206 rfl dX0_countOf_66 ?_
    refine j_iret M dX0_countOf_69 ⟨Nat.le_refl _, Nat.le_refl _⟩ ?_
    exact ⟨by rw [e_1_4]; rfl, rfl⟩
  by_cases e_1_5 : w = 5
  · rw [e_1_5]
    refine j_tabIn M 70 dX0_countOf_1 (by decide) (by decide) (by decide) rfl (by decide) ?_
    refine j_aload_n M dX0_countOf_70 0 rfl ?_
    refine j_get M hx rfl 4 (by decide) in_X0 q202 rfl dX0_countOf_71 ?_
    refine j_iret M dX0_countOf_74 ⟨Nat.le_refl _, Nat.le_refl _⟩ ?_
    exact ⟨by rw [e_1_5]; rfl, rfl⟩
  refine j_tabOut M 75 dX0_countOf_1 h_1 (by omega) (by decide) ?_
  refine j_ldc M (2000000102) q253 (by decide) dX0_countOf_75 ?_
  refine j_iret M dX0_countOf_77 ⟨Nat.le_refl _, Nat.le_refl _⟩ ?_
  exact ⟨by unfold vCount; rw [if_neg e_1_0, if_neg e_1_1, if_neg e_1_2, if_neg e_1_3, if_neg e_1_4, if_neg e_1_5], rfl⟩
theorem c_count (w : Int) (hw : r32 w) (h : CI X Pr c s hp) : Ct l X yX0_count cX0_count 2 (some .int) (rD 6) [.ref s.x, .int (zI w)] hp (pA X Pr c s (.int (zI (vCount s.N s.K s.P (s.v 7) (s.v 6) (s.v 4) w)))) := by
  have hx := h.cw.hx
  refine Ct.of (by decide) (Nat.le_of_ble_eq_true rfl) (fun Γ M => ?_)
  refine j_lv (lv' := [(0, .ref s.x), (1, .int (zI w))]) rfl ?_
  refine j_aload_n M dX0_count_0 0 rfl ?_
  refine j_iload_n M dX0_count_1 1 rfl ?_
  refine j_rV (k_V M (c_countOf l X Pr c s hp w hw h) (rc_of M hx rfl) (lw_V q1212 q1214 qs34 q97 q1215) ndX0_countOf dX0_count_2 ⟨by decide, by decide, by decide, by decide⟩ rfl (Nat.le_of_ble_eq_true rfl)) ?_
  refine j_iret M dX0_count_5 ⟨Nat.le_refl _, Nat.le_refl _⟩ ?_
  exact ⟨rfl, h⟩
end C23
