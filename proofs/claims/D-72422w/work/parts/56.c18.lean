/-! 56: the component: rows by kind, put, drop -/
set_option maxRecDepth 100000
section C18
variable (l : Launch) (X : Cx) (Pr : Hp) (c : Int) (s : Co) (hp : Hp)
def pMc (X : Cx) (Pr : Hp) (c : Int) (s : Co) (b : Bool) (e k a1 a2 a3 a4 : Int) : Option Value → Hp → Prop := pWc X Pr c s (.int (zI (vMay b s.N e))) (nMay b s.N) (kMay b s.N s.K k) (qMay b s.N s.P a1 a2 a3 a4)
theorem pMc.no {X : Cx} {Pr : Hp} {c : Int} {s : Co} {hp : Hp} {e k a1 a2 a3 a4 : Int} {b : Bool} (hb : b = false) (h : CI X Pr c s hp) : pMc X Pr c s b e k a1 a2 a3 a4 (some (.int (zI e))) hp := by
  subst hb
  exact ⟨rfl, s, h, cIs.rfl⟩
theorem pMc.yes {X : Cx} {Pr : Hp} {c : Int} {s : Co} {hp : Hp} {e k a1 a2 a3 a4 : Int} {b : Bool} {r : Option Value} (hb : b = true) (h : pWc X Pr c s (.int (zI (vComes s.N))) (nComes s.N) (kComes s.N s.K k) (qComes s.N s.P a1 a2 a3 a4) r hp) : pMc X Pr c s b e k a1 a2 a3 a4 r hp := by
  subst hb
  exact h
theorem fr_r {X : Cx} {Pr : Hp} {c : Int} {s : Co} {hp : Hp} {q : Nat} (h : CI X Pr c s hp) (hq : hp q = none) : (∀ i : Nat, (i : Int) < s.N → s.r i ≠ q) ∧ ∀ i : Nat, (i : Int) < s.kN → s.kr i ≠ q := ⟨fun i hi w => (by have := h.cw.hR.2 i hi; rw [w, hq] at this; cases this), fun i hi w => (by have := h.kp.1.2 i hi; rw [w, hq] at this; cases this)⟩
theorem c_told (a b e d : Int) (ha : r32 a) (hb : r32 b) (he : r32 e) (hd : r32 d) (hc : c < 1000) (h : CI X Pr c s hp) : Ct l X yX0_told cX0_told 5 (some .int) (rC 6 2 14) [.ref s.x, .int (zI a), .int (zI b), .int (zI e), .int (zI d)] hp (pMc X Pr (c + 1) s (bTold a b e d) 2000000102 0 a b e d) := by
  have h8 := h.n
  have hx := h.cw.hx
  refine Ct.of (by decide) (Nat.le_of_ble_eq_true rfl) (fun Γ M => ?_)
  refine j_lv (lv' := [(0, .ref s.x), (1, .int (zI a)), (2, .int (zI b)), (3, .int (zI e)), (4, .int (zI d))]) rfl ?_
  refine j_iload_n M dX0_told_0 1 rfl ?_
  refine j_i2l M dX0_told_1 (by omega) ?_
  refine j_rV (k_S M (c_isSmall l X hp a (by omega)) (lw_S q1014 q1015 q97 q1016) ndX0_isSmall dX0_told_2 ⟨by decide, by decide, by decide, by decide⟩ rfl (Nat.le_of_ble_eq_true rfl)) ?_
  refine j_ifeqB M 52 dX0_told_5 (by decide) (fun c_5 => ?_) (fun c_5 => ?_)
  · rw [decide_eq_false_iff_not] at c_5
    refine j_ldc M (2000000102) q253 (by decide) dX0_told_52 ?_
    refine j_iret M dX0_told_54 ⟨by decide, by decide⟩ ?_
    exact pMc.no (by unfold bTold; rw [decide_eq_false_iff_not]; omega) (h.up (by omega))
  · rw [decide_eq_true_eq] at c_5
    refine j_iload_n M dX0_told_8 2 rfl ?_
    refine j_i2l M dX0_told_9 (by omega) ?_
    refine j_rV (k_S M (c_isSmall l X hp b (by omega)) (lw_S q1014 q1015 q97 q1016) ndX0_isSmall dX0_told_10 ⟨by decide, by decide, by decide, by decide⟩ rfl (Nat.le_of_ble_eq_true rfl)) ?_
    refine j_ifeqB M 52 dX0_told_13 (by decide) (fun c_13 => ?_) (fun c_13 => ?_)
    · rw [decide_eq_false_iff_not] at c_13
      refine j_ldc M (2000000102) q253 (by decide) dX0_told_52 ?_
      refine j_iret M dX0_told_54 ⟨by decide, by decide⟩ ?_
      exact pMc.no (by unfold bTold; rw [decide_eq_false_iff_not]; omega) (h.up (by omega))
    · rw [decide_eq_true_eq] at c_13
      refine j_iload_n M dX0_told_16 3 rfl ?_
      refine j_i2l M dX0_told_17 (by omega) ?_
      refine j_rV (k_S M (c_isWide l X hp e (by omega)) (lw_S q1019 q1020 q97 q1021) ndX0_isWide dX0_told_18 ⟨by decide, by decide, by decide, by decide⟩ rfl (Nat.le_of_ble_eq_true rfl)) ?_
      refine j_ifeqB M 52 dX0_told_21 (by decide) (fun c_21 => ?_) (fun c_21 => ?_)
      · rw [decide_eq_false_iff_not] at c_21
        refine j_ldc M (2000000102) q253 (by decide) dX0_told_52 ?_
        refine j_iret M dX0_told_54 ⟨by decide, by decide⟩ ?_
        exact pMc.no (by unfold bTold; rw [decide_eq_false_iff_not]; omega) (h.up (by omega))
      · rw [decide_eq_true_eq] at c_21
        refine j_iload M dX0_told_24 4 rfl ?_
        refine j_i2l M dX0_told_26 (by omega) ?_
        refine j_rV (k_S M (c_isWide l X hp d (by omega)) (lw_S q1019 q1020 q97 q1021) ndX0_isWide dX0_told_27 ⟨by decide, by decide, by decide, by decide⟩ rfl (Nat.le_of_ble_eq_true rfl)) ?_
        refine j_ifeqB M 52 dX0_told_30 (by decide) (fun c_30 => ?_) (fun c_30 => ?_)
        · rw [decide_eq_false_iff_not] at c_30
          refine j_ldc M (2000000102) q253 (by decide) dX0_told_52 ?_
          refine j_iret M dX0_told_54 ⟨by decide, by decide⟩ ?_
          exact pMc.no (by unfold bTold; rw [decide_eq_false_iff_not]; omega) (h.up (by omega))
        · rw [decide_eq_true_eq] at c_30
          refine j_aload_n M dX0_told_33 0 rfl ?_
          refine j_new M (ci := 5) rfl in_X5 tyX5 tyX5_ok q686 q317 q105 [.int (zI 0), .int (zI 0), .int (zI 0), .int (zI 0)] df_X5 (by decide) dX0_told_34 (fun q_34 hq_34 hB_34 => ?_)
          have hd : hup hp q_34 (.inr (5, [.int (zI 0), .int (zI 0), .int (zI 0), .int (zI 0)])) q_34 = some (.inr (5, [.int (zI 0), .int (zI 0), .int (zI 0), .int (zI 0)])) := hup_s _ _ _
          refine j_dup M dX0_told_37 rfl ?_
          refine j_iload_n M dX0_told_38 1 rfl ?_
          refine j_iload_n M dX0_told_39 2 rfl ?_
          refine j_iload_n M dX0_told_40 3 rfl ?_
          refine j_iload M dX0_told_41 4 rfl ?_
          refine j_rN (k_I M (c_toldInit l X _ q_34 a b e d hd) (lw_meth q320) q105 q1024 q319 rfl ndX5_init dX0_told_43 ⟨by decide, by decide, by decide, by decide⟩ rfl (Nat.le_of_ble_eq_true rfl)) ?_
          refine j_hp (hup_hup _ _ _ _) ?_
          have h2 := h.fresh (e := (eX5 a b e d)) hq_34
          have hfr := fr_r h hq_34
          refine j_run (k_V M (c_comes l X Pr c s _ q_34 0 a b e d hc h2 (by rw [hup_s, rowE0 (upA_s _ _ _), pSet4_0, pSet4_1, pSet4_2, pSet4_3]) (fun _ => by unfold rOk; rw [upA_s, pSet4_0, pSet4_1, pSet4_2, pSet4_3]; omega) hfr.1 hfr.2) (rc_of M h2.cw.hx rfl) (lw_V q1025 q1027 qs24 q97 q1028) ndX0_comes dX0_told_46 ⟨by decide, by decide, by decide, by decide⟩ rfl (Nat.le_of_ble_eq_true rfl)) (fun r_46 hp_46 hq_46 => ?_)
          have hfin : pMc X Pr (c + 1) s (bTold a b e d) 2000000102 0 a b e d r_46 hp_46 := pMc.yes (by unfold bTold; rw [decide_eq_true_eq]; omega) hq_46
          obtain ⟨rfl, hrest⟩ := hq_46
          refine j_goto M 54 dX0_told_49 (by decide) ?_
          refine j_iret M dX0_told_54 ⟨by decide, by decide⟩ ?_
          exact hfin
theorem c_sum (i j : Int) (hi : r32 i) (hj : r32 j) (hc : c < 1000) (h : CI X Pr c s hp) : Ct l X yX0_sum cX0_sum 3 (some .int) (rC 6 2 14) [.ref s.x, .int (zI i), .int (zI j)] hp (pMc X Pr (c + 1) s (bTwo s.N i j) 2000000101 1 i j 2000000001 2000000001) := by
  have h8 := h.n
  have hx := h.cw.hx
  refine Ct.of (by decide) (Nat.le_of_ble_eq_true rfl) (fun Γ M => ?_)
  refine j_lv (lv' := [(0, .ref s.x), (1, .int (zI i)), (2, .int (zI j))]) rfl ?_
  refine j_aload_n M dX0_sum_0 0 rfl ?_
  refine j_iload_n M dX0_sum_1 1 rfl ?_
  refine j_rV (k_V M (c_isRow l X Pr c s hp i hi h) (rc_of M hx rfl) (lw_V q554 q556 qs12 q97 q557) ndX0_isRow dX0_sum_2 ⟨by decide, by decide, by decide, by decide⟩ rfl (Nat.le_of_ble_eq_true rfl)) ?_
  refine j_ifeqB M 32 dX0_sum_5 (by decide) (fun c_5 => ?_) (fun c_5 => ?_)
  · rw [decide_eq_false_iff_not] at c_5
    refine j_ldc M (2000000101) q558 (by decide) dX0_sum_32 ?_
    refine j_iret M dX0_sum_34 ⟨by decide, by decide⟩ ?_
    exact pMc.no (by unfold bTwo; rw [decide_eq_false_iff_not]; omega) (h.up (by omega))
  · rw [decide_eq_true_eq] at c_5
    refine j_aload_n M dX0_sum_8 0 rfl ?_
    refine j_iload_n M dX0_sum_9 2 rfl ?_
    refine j_rV (k_V M (c_isRow l X Pr c s hp j hj h) (rc_of M hx rfl) (lw_V q554 q556 qs12 q97 q557) ndX0_isRow dX0_sum_10 ⟨by decide, by decide, by decide, by decide⟩ rfl (Nat.le_of_ble_eq_true rfl)) ?_
    refine j_ifeqB M 32 dX0_sum_13 (by decide) (fun c_13 => ?_) (fun c_13 => ?_)
    · rw [decide_eq_false_iff_not] at c_13
      refine j_ldc M (2000000101) q558 (by decide) dX0_sum_32 ?_
      refine j_iret M dX0_sum_34 ⟨by decide, by decide⟩ ?_
      exact pMc.no (by unfold bTwo; rw [decide_eq_false_iff_not]; omega) (h.up (by omega))
    · rw [decide_eq_true_eq] at c_13
      refine j_aload_n M dX0_sum_16 0 rfl ?_
      refine j_new M (ci := 7) rfl in_X7 tyX7 tyX7_ok q688 q365 q107 [.int (zI 0), .int (zI 0)] df_X7 (by decide) dX0_sum_17 (fun q_17 hq_17 hB_17 => ?_)
      have hd : hup hp q_17 (.inr (7, [.int (zI 0), .int (zI 0)])) q_17 = some (.inr (7, [.int (zI 0), .int (zI 0)])) := hup_s _ _ _
      refine j_dup M dX0_sum_20 rfl ?_
      refine j_iload_n M dX0_sum_21 1 rfl ?_
      refine j_iload_n M dX0_sum_22 2 rfl ?_
      refine j_rN (k_I M (c_initX7 l X _ q_17 i j hd) (lw_meth q368) q107 q1033 q367 rfl ndX7_init dX0_sum_23 ⟨by decide, by decide, by decide, by decide⟩ rfl (Nat.le_of_ble_eq_true rfl)) ?_
      refine j_hp (hup_hup _ _ _ _) ?_
      have h2 := h.fresh (e := (eX7 i j)) hq_17
      have hfr := fr_r h hq_17
      refine j_run (k_V M (c_comes l X Pr c s _ q_17 1 i j 2000000001 2000000001 hc h2 (by rw [hup_s, rowE1 (upA_s _ _ _), pSet4_0, pSet4_1]) (fun _ => by unfold rOk; rw [upA_s, pSet4_0, pSet4_1, pSet4_2, pSet4_3]; omega) hfr.1 hfr.2) (rc_of M h2.cw.hx rfl) (lw_V q1025 q1027 qs24 q97 q1028) ndX0_comes dX0_sum_26 ⟨by decide, by decide, by decide, by decide⟩ rfl (Nat.le_of_ble_eq_true rfl)) (fun r_26 hp_26 hq_26 => ?_)
      have hfin : pMc X Pr (c + 1) s (bTwo s.N i j) 2000000101 1 i j 2000000001 2000000001 r_26 hp_26 := pMc.yes (by unfold bTwo; rw [decide_eq_true_eq]; omega) hq_26
      obtain ⟨rfl, hrest⟩ := hq_26
      refine j_goto M 34 dX0_sum_29 (by decide) ?_
      refine j_iret M dX0_sum_34 ⟨by decide, by decide⟩ ?_
      exact hfin
theorem c_product (i j : Int) (hi : r32 i) (hj : r32 j) (hc : c < 1000) (h : CI X Pr c s hp) : Ct l X yX0_product cX0_product 3 (some .int) (rC 6 2 14) [.ref s.x, .int (zI i), .int (zI j)] hp (pMc X Pr (c + 1) s (bTwo s.N i j) 2000000101 2 i j 2000000001 2000000001) := by
  have h8 := h.n
  have hx := h.cw.hx
  refine Ct.of (by decide) (Nat.le_of_ble_eq_true rfl) (fun Γ M => ?_)
  refine j_lv (lv' := [(0, .ref s.x), (1, .int (zI i)), (2, .int (zI j))]) rfl ?_
  refine j_aload_n M dX0_product_0 0 rfl ?_
  refine j_iload_n M dX0_product_1 1 rfl ?_
  refine j_rV (k_V M (c_isRow l X Pr c s hp i hi h) (rc_of M hx rfl) (lw_V q554 q556 qs12 q97 q557) ndX0_isRow dX0_product_2 ⟨by decide, by decide, by decide, by decide⟩ rfl (Nat.le_of_ble_eq_true rfl)) ?_
  refine j_ifeqB M 32 dX0_product_5 (by decide) (fun c_5 => ?_) (fun c_5 => ?_)
  · rw [decide_eq_false_iff_not] at c_5
    refine j_ldc M (2000000101) q558 (by decide) dX0_product_32 ?_
    refine j_iret M dX0_product_34 ⟨by decide, by decide⟩ ?_
    exact pMc.no (by unfold bTwo; rw [decide_eq_false_iff_not]; omega) (h.up (by omega))
  · rw [decide_eq_true_eq] at c_5
    refine j_aload_n M dX0_product_8 0 rfl ?_
    refine j_iload_n M dX0_product_9 2 rfl ?_
    refine j_rV (k_V M (c_isRow l X Pr c s hp j hj h) (rc_of M hx rfl) (lw_V q554 q556 qs12 q97 q557) ndX0_isRow dX0_product_10 ⟨by decide, by decide, by decide, by decide⟩ rfl (Nat.le_of_ble_eq_true rfl)) ?_
    refine j_ifeqB M 32 dX0_product_13 (by decide) (fun c_13 => ?_) (fun c_13 => ?_)
    · rw [decide_eq_false_iff_not] at c_13
      refine j_ldc M (2000000101) q558 (by decide) dX0_product_32 ?_
      refine j_iret M dX0_product_34 ⟨by decide, by decide⟩ ?_
      exact pMc.no (by unfold bTwo; rw [decide_eq_false_iff_not]; omega) (h.up (by omega))
    · rw [decide_eq_true_eq] at c_13
      refine j_aload_n M dX0_product_16 0 rfl ?_
      refine j_new M (ci := 8) rfl in_X8 tyX8 tyX8_ok q690 q389 q108 [.int (zI 0), .int (zI 0)] df_X8 (by decide) dX0_product_17 (fun q_17 hq_17 hB_17 => ?_)
      have hd : hup hp q_17 (.inr (8, [.int (zI 0), .int (zI 0)])) q_17 = some (.inr (8, [.int (zI 0), .int (zI 0)])) := hup_s _ _ _
      refine j_dup M dX0_product_20 rfl ?_
      refine j_iload_n M dX0_product_21 1 rfl ?_
      refine j_iload_n M dX0_product_22 2 rfl ?_
      refine j_rN (k_I M (c_initX8 l X _ q_17 i j hd) (lw_meth q392) q108 q1038 q391 rfl ndX8_init dX0_product_23 ⟨by decide, by decide, by decide, by decide⟩ rfl (Nat.le_of_ble_eq_true rfl)) ?_
      refine j_hp (hup_hup _ _ _ _) ?_
      have h2 := h.fresh (e := (eX8 i j)) hq_17
      have hfr := fr_r h hq_17
      refine j_run (k_V M (c_comes l X Pr c s _ q_17 2 i j 2000000001 2000000001 hc h2 (by rw [hup_s, rowE2 (upA_s _ _ _), pSet4_0, pSet4_1]) (fun _ => by unfold rOk; rw [upA_s, pSet4_0, pSet4_1, pSet4_2, pSet4_3]; omega) hfr.1 hfr.2) (rc_of M h2.cw.hx rfl) (lw_V q1025 q1027 qs24 q97 q1028) ndX0_comes dX0_product_26 ⟨by decide, by decide, by decide, by decide⟩ rfl (Nat.le_of_ble_eq_true rfl)) (fun r_26 hp_26 hq_26 => ?_)
      have hfin : pMc X Pr (c + 1) s (bTwo s.N i j) 2000000101 2 i j 2000000001 2000000001 r_26 hp_26 := pMc.yes (by unfold bTwo; rw [decide_eq_true_eq]; omega) hq_26
      obtain ⟨rfl, hrest⟩ := hq_26
      refine j_goto M 34 dX0_product_29 (by decide) ?_
      refine j_iret M dX0_product_34 ⟨by decide, by decide⟩ ?_
      exact hfin
theorem c_each (i a z : Int) (hi : r32 i) (ha : r32 a) (hz : r32 z) (hc : c < 1000) (h : CI X Pr c s hp) : Ct l X yX0_each cX0_each 4 (some .int) (rC 6 2 14) [.ref s.x, .int (zI i), .int (zI a), .int (zI z)] hp (pMc X Pr (c + 1) s (decide ((0 ≤ i ∧ i ≤ s.N - 1) ∧ bEach a z = true)) (vEach s.N i a z) 3 i a z 2000000001) := by
  have h8 := h.n
  have hx := h.cw.hx
  refine Ct.of (by decide) (Nat.le_of_ble_eq_true rfl) (fun Γ M => ?_)
  refine j_lv (lv' := [(0, .ref s.x), (1, .int (zI i)), (2, .int (zI a)), (3, .int (zI z))]) rfl ?_
  refine j_aload_n M dX0_each_0 0 rfl ?_
  refine j_iload_n M dX0_each_1 1 rfl ?_
  refine j_rV (k_V M (c_isRow l X Pr c s hp i hi h) (rc_of M hx rfl) (lw_V q554 q556 qs12 q97 q557) ndX0_isRow dX0_each_2 ⟨by decide, by decide, by decide, by decide⟩ rfl (Nat.le_of_ble_eq_true rfl)) ?_
  refine j_ifneB M 11 dX0_each_5 (by decide) (fun c_5 => ?_) (fun c_5 => ?_)
  · rw [decide_eq_true_eq] at c_5
    refine j_iload_n M dX0_each_11 2 rfl ?_
    refine j_iconst M dX0_each_12 ?_
    refine j_iconst M dX0_each_13 ?_
    refine j_rV (k_S M (c_in l X hp _ _ _ (by omega)) (lw_S q250 q251 q97 q252) ndX0_in dX0_each_14 ⟨by decide, by decide, by decide, by decide⟩ rfl (Nat.le_of_ble_eq_true rfl)) ?_
    refine j_ifeqB M 47 dX0_each_17 (by decide) (fun c_17 => ?_) (fun c_17 => ?_)
    · rw [decide_eq_false_iff_not] at c_17
      refine j_ldc M (2000000102) q253 (by decide) dX0_each_47 ?_
      refine j_iret M dX0_each_49 ⟨by decide, by decide⟩ ?_
      refine (show pMc X Pr (c + 1) s (decide ((0 ≤ i ∧ i ≤ s.N - 1) ∧ bEach a z = true)) 2000000102 3 i a z 2000000001 _ hp → _ from fun w => by unfold vEach; rw [if_pos c_5]; exact w) (pMc.no (by unfold bEach; rw [decide_eq_false_iff_not, decide_eq_true_eq]; omega) (h.up (by omega)))
    · rw [decide_eq_true_eq] at c_17
      refine j_iload_n M dX0_each_20 3 rfl ?_
      refine j_iconst M dX0_each_21 ?_
      refine j_bipush M dX0_each_22 (by decide) ?_
      refine j_rV (k_S M (c_in l X hp _ _ _ (by omega)) (lw_S q250 q251 q97 q252) ndX0_in dX0_each_24 ⟨by decide, by decide, by decide, by decide⟩ rfl (Nat.le_of_ble_eq_true rfl)) ?_
      refine j_ifeqB M 47 dX0_each_27 (by decide) (fun c_27 => ?_) (fun c_27 => ?_)
      · rw [decide_eq_false_iff_not] at c_27
        refine j_ldc M (2000000102) q253 (by decide) dX0_each_47 ?_
        refine j_iret M dX0_each_49 ⟨by decide, by decide⟩ ?_
        refine (show pMc X Pr (c + 1) s (decide ((0 ≤ i ∧ i ≤ s.N - 1) ∧ bEach a z = true)) 2000000102 3 i a z 2000000001 _ hp → _ from fun w => by unfold vEach; rw [if_pos c_5]; exact w) (pMc.no (by unfold bEach; rw [decide_eq_false_iff_not, decide_eq_true_eq]; omega) (h.up (by omega)))
      · rw [decide_eq_true_eq] at c_27
        refine j_aload_n M dX0_each_30 0 rfl ?_
        refine j_new M (ci := 9) rfl in_X10 tyX10 tyX10_ok q692 q398 q110 [.int (zI 0), .int (zI 0), .int (zI 0)] df_X10 (by decide) dX0_each_31 (fun q_31 hq_31 hB_31 => ?_)
        have hd : hup hp q_31 (.inr (9, [.int (zI 0), .int (zI 0), .int (zI 0)])) q_31 = some (.inr (9, [.int (zI 0), .int (zI 0), .int (zI 0)])) := hup_s _ _ _
        refine j_dup M dX0_each_34 rfl ?_
        refine j_iload_n M dX0_each_35 1 rfl ?_
        refine j_iload_n M dX0_each_36 2 rfl ?_
        refine j_iload_n M dX0_each_37 3 rfl ?_
        refine j_rN (k_I M (c_initX10 l X _ q_31 i a z hd) (lw_meth q401) q110 q1043 q400 rfl ndX10_init dX0_each_38 ⟨by decide, by decide, by decide, by decide⟩ rfl (Nat.le_of_ble_eq_true rfl)) ?_
        refine j_hp (hup_hup _ _ _ _) ?_
        have h2 := h.fresh (e := (eX10 i a z)) hq_31
        have hfr := fr_r h hq_31
        refine j_run (k_V M (c_comes l X Pr c s _ q_31 3 i a z 2000000001 hc h2 (by rw [hup_s, rowE3 (upA_s _ _ _), pSet4_0, pSet4_1, pSet4_2]) (fun _ => by unfold rOk; rw [upA_s, pSet4_0, pSet4_1, pSet4_2, pSet4_3]; omega) hfr.1 hfr.2) (rc_of M h2.cw.hx rfl) (lw_V q1025 q1027 qs24 q97 q1028) ndX0_comes dX0_each_41 ⟨by decide, by decide, by decide, by decide⟩ rfl (Nat.le_of_ble_eq_true rfl)) (fun r_41 hp_41 hq_41 => ?_)
        have hfin : pMc X Pr (c + 1) s (decide ((0 ≤ i ∧ i ≤ s.N - 1) ∧ bEach a z = true)) (vEach s.N i a z) 3 i a z 2000000001 r_41 hp_41 := pMc.yes (by unfold bEach; rw [decide_eq_true_eq, decide_eq_true_eq]; omega) hq_41
        obtain ⟨rfl, hrest⟩ := hq_41
        refine j_goto M 49 dX0_each_44 (by decide) ?_
        refine j_iret M dX0_each_49 ⟨by decide, by decide⟩ ?_
        exact hfin
  · rw [decide_eq_false_iff_not] at c_5
    refine j_ldc M (2000000101) q558 (by decide) dX0_each_8 ?_
    refine j_iret M dX0_each_10 ⟨by decide, by decide⟩ ?_
    refine (show pMc X Pr (c + 1) s (decide ((0 ≤ i ∧ i ≤ s.N - 1) ∧ bEach a z = true)) 2000000101 3 i a z 2000000001 _ hp → _ from fun w => by unfold vEach; rw [if_neg c_5]; exact w) (pMc.no (by rw [decide_eq_false_iff_not]; exact fun w => c_5 w.1) (h.up (by omega)))
theorem c_step (i : Int) (hi : r32 i) (hc : c < 1000) (h : CI X Pr c s hp) : Ct l X yX0_step cX0_step 2 (some .int) (rC 6 2 14) [.ref s.x, .int (zI i)] hp (pMc X Pr (c + 1) s (decide (0 ≤ i ∧ i ≤ s.N - 1)) 2000000101 4 i 2000000001 2000000001 2000000001) := by
  have h8 := h.n
  have hx := h.cw.hx
  refine Ct.of (by decide) (Nat.le_of_ble_eq_true rfl) (fun Γ M => ?_)
  refine j_lv (lv' := [(0, .ref s.x), (1, .int (zI i))]) rfl ?_
  refine j_aload_n M dX0_step_0 0 rfl ?_
  refine j_iload_n M dX0_step_1 1 rfl ?_
  refine j_rV (k_V M (c_isRow l X Pr c s hp i hi h) (rc_of M hx rfl) (lw_V q554 q556 qs12 q97 q557) ndX0_isRow dX0_step_2 ⟨by decide, by decide, by decide, by decide⟩ rfl (Nat.le_of_ble_eq_true rfl)) ?_
  refine j_ifeqB M 23 dX0_step_5 (by decide) (fun c_5 => ?_) (fun c_5 => ?_)
  · rw [decide_eq_false_iff_not] at c_5
    refine j_ldc M (2000000101) q558 (by decide) dX0_step_23 ?_
    refine j_iret M dX0_step_25 ⟨by decide, by decide⟩ ?_
    exact pMc.no (by rw [decide_eq_false_iff_not]; exact c_5) (h.up (by omega))
  · rw [decide_eq_true_eq] at c_5
    refine j_aload_n M dX0_step_8 0 rfl ?_
    refine j_new M (ci := 10) rfl in_X11 tyX11 tyX11_ok q694 q421 q111 [.int (zI 0)] df_X11 (by decide) dX0_step_9 (fun q_9 hq_9 hB_9 => ?_)
    have hd : hup hp q_9 (.inr (10, [.int (zI 0)])) q_9 = some (.inr (10, [.int (zI 0)])) := hup_s _ _ _
    refine j_dup M dX0_step_12 rfl ?_
    refine j_iload_n M dX0_step_13 1 rfl ?_
    refine j_rN (k_I M (c_initX11 l X _ q_9 i hd) (lw_meth q424) q111 q1048 q423 rfl ndX11_init dX0_step_14 ⟨by decide, by decide, by decide, by decide⟩ rfl (Nat.le_of_ble_eq_true rfl)) ?_
    refine j_hp (hup_hup _ _ _ _) ?_
    have h2 := h.fresh (e := (eX11 i)) hq_9
    have hfr := fr_r h hq_9
    refine j_run (k_V M (c_comes l X Pr c s _ q_9 4 i 2000000001 2000000001 2000000001 hc h2 (by rw [hup_s, rowE4 (upA_s _ _ _), pSet4_0]) (fun _ => by unfold rOk; rw [upA_s, pSet4_0, pSet4_1, pSet4_2, pSet4_3]; omega) hfr.1 hfr.2) (rc_of M h2.cw.hx rfl) (lw_V q1025 q1027 qs24 q97 q1028) ndX0_comes dX0_step_17 ⟨by decide, by decide, by decide, by decide⟩ rfl (Nat.le_of_ble_eq_true rfl)) (fun r_17 hp_17 hq_17 => ?_)
    have hfin : pMc X Pr (c + 1) s (decide (0 ≤ i ∧ i ≤ s.N - 1)) 2000000101 4 i 2000000001 2000000001 2000000001 r_17 hp_17 := pMc.yes (by rw [decide_eq_true_eq]; exact c_5) hq_17
    obtain ⟨rfl, hrest⟩ := hq_17
    refine j_goto M 25 dX0_step_20 (by decide) ?_
    refine j_iret M dX0_step_25 ⟨by decide, by decide⟩ ?_
    exact hfin
end C18
