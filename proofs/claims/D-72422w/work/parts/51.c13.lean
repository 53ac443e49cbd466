/-! 51: the component: what wheels and terms tell -/
set_option maxRecDepth 100000
section C13
variable (l : Launch) (X : Cx) (Pr : Hp) (c : Int) (s : Co) (hp : Hp)
theorem WNow.told {X : Cx} {hp : Hp} {s : Co} {m i : Int} (h : WNow X hp s (kx m i)) (hi : 0 ≤ i ∧ i < 8) (hm : 0 ≤ m) : ∃ g, hp (s.wa (kx m i)) = some (eWh (s.sa (kx m i)) (pHead (pRest m s.K s.P i)) (pLap (pRest m s.K s.P i)) (s.v 3)) ∧ hp (s.sa (kx m i)) = some (eI X 400 g) ∧ wOk g (pHead (pRest m s.K s.P i)) (pLap (pRest m s.K s.P i)) (pRest m s.K s.P i) := by
  obtain ⟨g, b1, b2, b3⟩ := h
  rw [s.rs_kx hi hm] at b1 b3
  exact ⟨g, b1, b2, b3⟩
theorem c_by (i n m : Int) (hi : r32 i) (hn : r32 n) (hm : r32 m) (h : CI X Pr c s hp) : Ct l X yX0_by cX0_by 4 (some .int) (rD 19) [.ref s.x, .int (zI i), .int (zI n), .int (zI m)] hp (pA X Pr c s (.int (zI (vBy s.N s.K s.P i n m)))) := by
  have h8 := h.n
  have hx := h.cw.hx
  refine Ct.of (by decide) (Nat.le_of_ble_eq_true rfl) (fun Γ M => ?_)
  refine j_lv (lv' := [(0, .ref s.x), (1, .int (zI i)), (2, .int (zI n)), (3, .int (zI m))]) rfl ?_
  refine j_aload_n M dX0_by_0 0 rfl ?_
  refine j_iload_n M dX0_by_1 1 rfl ?_
  refine j_rV (k_V M (c_isRow l X Pr c s hp i hi h) (rc_of M hx rfl) (lw_V q554 q556 qs12 q97 q557) ndX0_isRow dX0_by_2 (rmD (by omega) (by decide) rfl rfl) rfl (Nat.le_of_ble_eq_true rfl)) ?_
  refine j_ifneB M 11 dX0_by_5 (by decide) (fun c_5 => ?_) (fun c_5 => ?_)
  · rw [decide_eq_true_eq] at c_5
    refine j_iload_n M dX0_by_11 2 rfl ?_
    refine j_if_lt M 36 dX0_by_12 (by decide) (by omega) (fun c_12 => ?_) (fun c_12 => ?_)
    · refine j_ldc M (2000000102) q253 (by decide) dX0_by_36 ?_
      refine j_iret M dX0_by_38 ⟨Nat.le_refl _, Nat.le_refl _⟩ ?_
      exact ⟨by unfold vBy; rw [if_pos c_5, if_neg (by omega)], h⟩
    · refine j_iload_n M dX0_by_15 3 rfl ?_
      refine j_rV (k_S M (c_isBy l X hp m hm) (lw_S q773 q774 q97 q775) ndX0_isBy dX0_by_16 (rmD (by omega) (by decide) rfl rfl) rfl (Nat.le_of_ble_eq_true rfl)) ?_
      refine j_ifeqB M 36 dX0_by_19 (by decide) (fun c_19 => ?_) (fun c_19 => ?_)
      · rw [decide_eq_false_iff_not] at c_19
        refine j_ldc M (2000000102) q253 (by decide) dX0_by_36 ?_
        refine j_iret M dX0_by_38 ⟨Nat.le_refl _, Nat.le_refl _⟩ ?_
        exact ⟨by unfold vBy; rw [if_pos c_5, if_neg (fun q => c_19 q.2)], h⟩
      · rw [decide_eq_true_eq] at c_19
        refine j_aload_n M dX0_by_22 0 rfl ?_
        refine j_iload_n M dX0_by_23 1 rfl ?_
        refine j_iload_n M dX0_by_24 3 rfl ?_
        refine j_run (k_V M (c_whC l X Pr c s hp i m (by omega) c_19 h) (rc_of M hx rfl) (lw_V q776 q778 qs15 q97 q779) ndX0_wheel dX0_by_25 (rmD (by omega) (by decide) rfl rfl) rfl (Nat.le_of_ble_eq_true rfl)) (fun r_25 hp_25 hq_25 => ?_)
        obtain ⟨rfl, h1, hn1, hF⟩ := hq_25
        obtain ⟨g, b1, b2, b3⟩ := hn1.told (by omega) (by omega)
        refine j_iload_n M dX0_by_28 2 rfl ?_
        refine j_i2l M dX0_by_29 (by omega) ?_
        refine j_rV (k_V M (c_at l X _ _ _ _ _ _ n g _ b1 b2 (by omega) b3) (rc_of M b1 rfl) (lw_V q839 q806 q807 q101 q808) ndX1_at dX0_by_30 (rmD (by omega) (by decide) rfl rfl) rfl (Nat.le_of_ble_eq_true rfl)) ?_
        refine j_goto M 38 dX0_by_33 (by decide) ?_
        refine j_iret M dX0_by_38 ⟨Nat.le_refl _, Nat.le_refl _⟩ ?_
        exact ⟨by unfold vBy; rw [if_pos c_5, if_pos ⟨by omega, c_19⟩], h1⟩
  · rw [decide_eq_false_iff_not] at c_5
    refine j_ldc M (2000000101) q558 (by decide) dX0_by_8 ?_
    refine j_iret M dX0_by_10 ⟨Nat.le_refl _, Nat.le_refl _⟩ ?_
    exact ⟨by unfold vBy; rw [if_neg c_5], h⟩
theorem c_wheelTold (w sp : Nat) (g sq : Int → Int) (sm a : Int) (ha : r32 a) (hw : hp w = some (eWh sp (pHead sq) (pLap sq) sm)) (hs : hp sp = some (eI X 400 g)) (h : wOk g (pHead sq) (pLap sq) sq) : CS l X yX0_wheelTold cX0_wheelTold 2 (some .int) 1 [.ref w, .int (zI a)] hp (some (.int (zI (pLapW sq a)))) := by
  refine Ct.of (by decide) (Nat.le_of_ble_eq_true rfl) (fun Γ M => ?_)
  refine j_lv (lv' := [(0, .ref w), (1, .int (zI a))]) rfl ?_
  refine j_iload_n M dX0_wheelTold_0 1 rfl ?_
  refine j_if_ne M 11 dX0_wheelTold_1 (by decide) (by omega) (fun c_1 => ?_) (fun c_1 => ?_)
  · refine j_iload_n M dX0_wheelTold_11 1 rfl ?_
    refine j_iconst M dX0_wheelTold_12 ?_
    refine j_icmp_ne M 23 dX0_wheelTold_13 (by decide) (by omega) (fun c_13 => ?_) (fun c_13 => ?_)
    · refine j_aload_n M dX0_wheelTold_23 0 rfl ?_
      refine j_rV (k_V M (c_zeros l X hp _ _ _ _ _ g sq hw hs h) (rc_of M hw rfl) (lw_V q847 q848 q849 q101 q850) ndX1_zeros dX0_wheelTold_24 ⟨by decide, by decide, by decide, by decide⟩ rfl (Nat.le_of_ble_eq_true rfl)) ?_
      refine j_iret M dX0_wheelTold_27 ⟨Nat.le_refl _, Nat.le_refl _⟩ ?_
      exact ⟨by unfold pLapW; rw [if_neg (by omega), if_neg (by omega)]; rfl, rfl⟩
    · refine j_aload_n M dX0_wheelTold_16 0 rfl ?_
      refine j_get M hw rfl 1 (by decide) in_X1 q176 rfl dX0_wheelTold_17 ?_
      refine j_goto M 27 dX0_wheelTold_20 (by decide) ?_
      refine j_iret M dX0_wheelTold_27 ⟨Nat.le_refl _, Nat.le_refl _⟩ ?_
      exact ⟨by unfold pLapW; rw [if_neg (by omega), if_pos (by omega)], rfl⟩
  · refine j_aload_n M dX0_wheelTold_4 0 rfl ?_
    refine j_get M hw rfl 2 (by decide) in_X1 q183 rfl dX0_wheelTold_5 ?_
    refine j_goto M 27 dX0_wheelTold_8 (by decide) ?_
    refine j_iret M dX0_wheelTold_27 ⟨Nat.le_refl _, Nat.le_refl _⟩ ?_
    exact ⟨by unfold pLapW; rw [if_pos (by omega)], rfl⟩
theorem c_lap (i m a : Int) (hi : r32 i) (hm : r32 m) (ha : r32 a) (h : CI X Pr c s hp) : Ct l X yX0_lap cX0_lap 4 (some .int) (rD 19) [.ref s.x, .int (zI i), .int (zI m), .int (zI a)] hp (pA X Pr c s (.int (zI (vLap s.N s.K s.P i m a)))) := by
  have h8 := h.n
  have hx := h.cw.hx
  refine Ct.of (by decide) (Nat.le_of_ble_eq_true rfl) (fun Γ M => ?_)
  refine j_lv (lv' := [(0, .ref s.x), (1, .int (zI i)), (2, .int (zI m)), (3, .int (zI a))]) rfl ?_
  refine j_aload_n M dX0_lap_0 0 rfl ?_
  refine j_iload_n M dX0_lap_1 1 rfl ?_
  refine j_rV (k_V M (c_isRow l X Pr c s hp i hi h) (rc_of M hx rfl) (lw_V q554 q556 qs12 q97 q557) ndX0_isRow dX0_lap_2 (rmD (by omega) (by decide) rfl rfl) rfl (Nat.le_of_ble_eq_true rfl)) ?_
  refine j_ifneB M 11 dX0_lap_5 (by decide) (fun c_5 => ?_) (fun c_5 => ?_)
  · rw [decide_eq_true_eq] at c_5
    refine j_iload_n M dX0_lap_11 2 rfl ?_
    refine j_rV (k_S M (c_isBy l X hp m hm) (lw_S q773 q774 q97 q775) ndX0_isBy dX0_lap_12 (rmD (by omega) (by decide) rfl rfl) rfl (Nat.le_of_ble_eq_true rfl)) ?_
    refine j_ifeqB M 40 dX0_lap_15 (by decide) (fun c_15 => ?_) (fun c_15 => ?_)
    · rw [decide_eq_false_iff_not] at c_15
      refine j_ldc M (2000000102) q253 (by decide) dX0_lap_40 ?_
      refine j_iret M dX0_lap_42 ⟨Nat.le_refl _, Nat.le_refl _⟩ ?_
      exact ⟨by unfold vLap; rw [if_pos c_5, if_neg (fun q => c_15 q.1)], h⟩
    · rw [decide_eq_true_eq] at c_15
      refine j_iload_n M dX0_lap_18 3 rfl ?_
      refine j_iconst M dX0_lap_19 ?_
      refine j_iconst M dX0_lap_20 ?_
      refine j_rV (k_S M (c_in l X hp _ _ _ (by omega)) (lw_S q250 q251 q97 q252) ndX0_in dX0_lap_21 (rmD (by omega) (by decide) rfl rfl) rfl (Nat.le_of_ble_eq_true rfl)) ?_
      refine j_ifeqB M 40 dX0_lap_24 (by decide) (fun c_24 => ?_) (fun c_24 => ?_)
      · rw [decide_eq_false_iff_not] at c_24
        refine j_ldc M (2000000102) q253 (by decide) dX0_lap_40 ?_
        refine j_iret M dX0_lap_42 ⟨Nat.le_refl _, Nat.le_refl _⟩ ?_
        exact ⟨by unfold vLap; rw [if_pos c_5, if_neg (fun q => c_24 q.2)], h⟩
      · rw [decide_eq_true_eq] at c_24
        refine j_aload_n M dX0_lap_27 0 rfl ?_
        refine j_iload_n M dX0_lap_28 1 rfl ?_
        refine j_iload_n M dX0_lap_29 2 rfl ?_
        refine j_run (k_V M (c_whC l X Pr c s hp i m (by omega) c_15 h) (rc_of M hx rfl) (lw_V q776 q778 qs15 q97 q779) ndX0_wheel dX0_lap_30 (rmD (by omega) (by decide) rfl rfl) rfl (Nat.le_of_ble_eq_true rfl)) (fun r_30 hp_30 hq_30 => ?_)
        obtain ⟨rfl, h1, hn1, hF⟩ := hq_30
        obtain ⟨g, b1, b2, b3⟩ := hn1.told (by omega) (by omega)
        refine j_iload_n M dX0_lap_33 3 rfl ?_
        refine j_rV (k_S M (c_wheelTold l X _ _ _ g _ _ a ha b1 b2 b3) (lw_S q844 q845 q97 q846) ndX0_wheelTold dX0_lap_34 (rmD (by omega) (by decide) rfl rfl) rfl (Nat.le_of_ble_eq_true rfl)) ?_
        refine j_goto M 42 dX0_lap_37 (by decide) ?_
        refine j_iret M dX0_lap_42 ⟨Nat.le_refl _, Nat.le_refl _⟩ ?_
        exact ⟨by unfold vLap; rw [if_pos c_5, if_pos ⟨c_15, c_24⟩], h1⟩
  · rw [decide_eq_false_iff_not] at c_5
    refine j_ldc M (2000000101) q558 (by decide) dX0_lap_8 ?_
    refine j_iret M dX0_lap_10 ⟨Nat.le_refl _, Nat.le_refl _⟩ ?_
    exact ⟨by unfold vLap; rw [if_neg c_5], h⟩
theorem c_noughtsOf (i : Int) (hi : 0 ≤ i ∧ i < s.N) (h : CI X Pr c s hp) : CS l X yX0_noughtsOf cX0_noughtsOf 4 (some .int) 13 [.ref s.x, .int (zI i)] hp (some (.int (pBits (pTerm s.K s.P i) 24))) := by
  have h8 := h.n
  have hx := h.cw.hx
  have hk1 := rOk_k (h.cw.ok i hi.1 hi.2)
  have hr := h.row hi
  refine Ct.of (by decide) (Nat.le_of_ble_eq_true rfl) (fun Γ M => ?_)
  refine j_lv (lv' := [(0, .ref s.x), (1, .int (zI i))]) rfl ?_
  have loop : ∀ (w k : Nat), w = 24 - k → k ≤ 24 → J Γ hp 0 0 4 [(0, .ref s.x), (1, .int (zI i)), (2, .int (pBits (pTerm s.K s.P i) k)), (3, .int (zI k))] [] := by
    intro w
    induction w using Nat.strongRecOn with
    | _ w ih =>
      intro k hw hk
      have hT := tR_r (pTerm_r h.cw.ok (n := k) hi.1 hi.2)
      refine j_iload_n M dX0_noughtsOf_4 3 rfl ?_
      refine j_bipush M dX0_noughtsOf_5 (by decide) ?_
      refine j_icmp_ge M 41 dX0_noughtsOf_7 (by decide) (by omega) (fun c_7 => ?_) (fun c_7 => ?_)
      · refine j_iload_n M dX0_noughtsOf_41 2 rfl ?_
        refine j_iret M dX0_noughtsOf_42 ⟨Nat.le_refl _, Nat.le_refl _⟩ ?_
        exact ⟨by rw [show k = 24 by omega], rfl⟩
      · refine j_iload_n M dX0_noughtsOf_10 2 rfl ?_
        refine j_aload_n M dX0_noughtsOf_11 0 rfl ?_
        refine j_iload_n M dX0_noughtsOf_12 1 rfl ?_
        refine j_rV (k_V M (c_rowOfC l X Pr c s hp i hi h) (rc_of M hx rfl) (lw_V q559 q561 qs13 q97 q562) ndX0_rowOf dX0_noughtsOf_13 (rmD (by omega) (by decide) rfl rfl) rfl (Nat.le_of_ble_eq_true rfl)) ?_
        refine j_aload_n M dX0_noughtsOf_16 0 rfl ?_
        refine j_iload_n M dX0_noughtsOf_17 3 rfl ?_
        refine j_rV (dv_exact M q710 hk1 hr (c_exC l X Pr c s hp i k hi (by omega) h) rfl dX0_noughtsOf_18 (rmD (by omega) (by decide) rfl rfl) rfl (Nat.le_of_ble_eq_true rfl)) ?_
        refine j_lconst M (z := 0) (by decide) dX0_noughtsOf_21 ?_
        refine j_lcmp_ne M 32 dX0_noughtsOf_22 dX0_noughtsOf_23 (by decide) (by omega) (fun c_22 => ?_) (fun c_22 => ?_)
        · refine j_iconst M dX0_noughtsOf_32 ?_
          refine j_ior M dX0_noughtsOf_33 ?_
          refine j_istore_n M dX0_noughtsOf_34 (by decide) ?_
          refine j_iinc M dX0_noughtsOf_35 3 rfl (by decide) ?_
          refine j_goto M 4 dX0_noughtsOf_38 (by decide) ?_
          have := ih (24 - (k + 1)) (by omega) (k + 1) rfl (by omega); unfold pBits at this; rw [if_neg (by omega)] at this; exact this
        · refine j_iconst M dX0_noughtsOf_26 ?_
          refine j_iload_n M dX0_noughtsOf_27 3 rfl ?_
          refine j_ishl M dX0_noughtsOf_28 ?_
          refine j_goto M 33 dX0_noughtsOf_29 (by decide) ?_
          refine j_ior M dX0_noughtsOf_33 ?_
          refine j_istore_n M dX0_noughtsOf_34 (by decide) ?_
          refine j_iinc M dX0_noughtsOf_35 3 rfl (by decide) ?_
          refine j_goto M 4 dX0_noughtsOf_38 (by decide) ?_
          have := ih (24 - (k + 1)) (by omega) (k + 1) rfl (by omega); unfold pBits at this; rw [if_pos (by omega)] at this; exact this
  refine j_iconst M dX0_noughtsOf_0 ?_
  refine j_istore_n M dX0_noughtsOf_1 (by decide) ?_
  refine j_iconst M dX0_noughtsOf_2 ?_
  refine j_istore_n M dX0_noughtsOf_3 (by decide) ?_
  exact loop 24 0 rfl (by omega)
theorem c_noughts (i : Int) (hi : r32 i) (h : CI X Pr c s hp) : Ct l X yX0_noughts cX0_noughts 2 (some .int) (rD 14) [.ref s.x, .int (zI i)] hp (pA X Pr c s (.int (vNoughts s.N s.K s.P i))) := by
  have h8 := h.n
  have hx := h.cw.hx
  refine Ct.of (by decide) (Nat.le_of_ble_eq_true rfl) (fun Γ M => ?_)
  refine j_lv (lv' := [(0, .ref s.x), (1, .int (zI i))]) rfl ?_
  refine j_aload_n M dX0_noughts_0 0 rfl ?_
  refine j_iload_n M dX0_noughts_1 1 rfl ?_
  refine j_rV (k_V M (c_isRow l X Pr c s hp i hi h) (rc_of M hx rfl) (lw_V q554 q556 qs12 q97 q557) ndX0_isRow dX0_noughts_2 (rmD (by omega) (by decide) rfl rfl) rfl (Nat.le_of_ble_eq_true rfl)) ?_
  refine j_ifeqB M 16 dX0_noughts_5 (by decide) (fun c_5 => ?_) (fun c_5 => ?_)
  · rw [decide_eq_false_iff_not] at c_5
    refine j_ldc M (2000000101) q558 (by decide) dX0_noughts_16 ?_
    refine j_iret M dX0_noughts_18 ⟨Nat.le_refl _, Nat.le_refl _⟩ ?_
    exact ⟨by unfold vNoughts; rw [if_neg c_5], h⟩
  · rw [decide_eq_true_eq] at c_5
    refine j_aload_n M dX0_noughts_8 0 rfl ?_
    refine j_iload_n M dX0_noughts_9 1 rfl ?_
    refine j_rV (k_V M (c_noughtsOf l X Pr c s hp i (by omega) h) (rc_of M hx rfl) (lw_V q981 q983 qs21 q97 q984) ndX0_noughtsOf dX0_noughts_10 (rmD (by omega) (by decide) rfl rfl) rfl (Nat.le_of_ble_eq_true rfl)) ?_
    refine j_goto M 18 dX0_noughts_13 (by decide) ?_
    refine j_iret M dX0_noughts_18 ⟨Nat.le_refl _, Nat.le_refl _⟩ ?_
    exact ⟨by unfold vNoughts; rw [if_pos c_5], h⟩
theorem c_ends (i : Int) (hi : r32 i) (h : CI X Pr c s hp) : Ct l X yX0_ends cX0_ends 3 (some .int) (rD 19) [.ref s.x, .int (zI i)] hp (pA X Pr c s (.int (zI (vEnds s.N s.K s.P i)))) := by
  have h8 := h.n
  have hx := h.cw.hx
  refine Ct.of (by decide) (Nat.le_of_ble_eq_true rfl) (fun Γ M => ?_)
  refine j_lv (lv' := [(0, .ref s.x), (1, .int (zI i))]) rfl ?_
  have loop : (0 ≤ i ∧ i ≤ s.N - 1) → ∀ (j : Nat) (m : Int) (hp1 : Hp), m + j = 11 → 2 ≤ m → CI X Pr c s hp1 → pEnds (fun m => pZeros (pRest m s.K s.P i)) j m = pEnds (fun m => pZeros (pRest m s.K s.P i)) 9 2 → J Γ hp1 0 0 13 [(0, .ref s.x), (1, .int (zI i)), (2, .int (zI m))] [] := by
    intro hi2 j
    induction j with
    | zero =>
      intro m hp1 hj hm h1 he
      have hx1 := h1.cw.hx
      refine j_iload_n M dX0_ends_13 2 rfl ?_
      refine j_bipush M dX0_ends_14 (by decide) ?_
      refine j_icmp_gt M 37 dX0_ends_16 (by decide) (by omega) (fun c_16 => ?_) (fun c_16 => ?_)
      · refine j_iload_n M dX0_ends_37 2 rfl ?_
        refine j_bipush M dX0_ends_38 (by decide) ?_
        refine j_icmp_le M 48 dX0_ends_40 (by decide) (by omega) (fun c_40 => ?_) (fun c_40 => ?_)
        · omega
        · refine j_ldc M (2000000001) q196 (by decide) dX0_ends_43 ?_
          refine j_goto M 49 dX0_ends_45 (by decide) ?_
          refine j_iret M dX0_ends_49 ⟨Nat.le_refl _, Nat.le_refl _⟩ ?_
          exact ⟨by unfold vEnds; rw [if_pos hi2, ← he]; rfl, h1⟩
      · omega
    | succ j ih =>
      intro m hp1 hj hm h1 he
      have hx1 := h1.cw.hx
      refine j_iload_n M dX0_ends_13 2 rfl ?_
      refine j_bipush M dX0_ends_14 (by decide) ?_
      refine j_icmp_gt M 37 dX0_ends_16 (by decide) (by omega) (fun c_16 => ?_) (fun c_16 => ?_)
      · omega
      · refine j_aload_n M dX0_ends_19 0 rfl ?_
        refine j_iload_n M dX0_ends_20 1 rfl ?_
        refine j_iload_n M dX0_ends_21 2 rfl ?_
        refine j_run (k_V M (c_whC l X Pr c s hp1 i m (by omega) (by omega) h1) (rc_of M hx1 rfl) (lw_V q776 q778 qs15 q97 q779) ndX0_wheel dX0_ends_22 (rmD (by omega) (by decide) rfl rfl) rfl (Nat.le_of_ble_eq_true rfl)) (fun r_22 hp_22 hq_22 => ?_)
        obtain ⟨rfl, h2, hn1, hF⟩ := hq_22
        obtain ⟨g, b1, b2, b3⟩ := hn1.told (by omega) (by omega)
        have hz : pZeros (pRest m s.K s.P i) = pCnt (pRest m s.K s.P i) (pHead (pRest m s.K s.P i)) (pLap (pRest m s.K s.P i)).toNat := rfl
        have hzr := pCnt_r (pRest m s.K s.P i) (pHead (pRest m s.K s.P i)) (pLap (pRest m s.K s.P i)).toNat
        have hl := rest_hl h1.cw.ok (show 2 ≤ m ∧ m ≤ 10 by omega) (i := i) (by omega)
        refine j_rV (k_V M (c_zeros l X _ _ _ _ _ _ g _ b1 b2 b3) (rc_of M b1 rfl) (lw_V q847 q848 q849 q101 q850) ndX1_zeros dX0_ends_25 (rmD (by omega) (by decide) rfl rfl) rfl (Nat.le_of_ble_eq_true rfl)) ?_
        refine j_if_le M 37 dX0_ends_28 (by decide) (by omega) (fun c_28 => ?_) (fun c_28 => ?_)
        · refine j_iload_n M dX0_ends_37 2 rfl ?_
          refine j_bipush M dX0_ends_38 (by decide) ?_
          refine j_icmp_le M 48 dX0_ends_40 (by decide) (by omega) (fun c_40 => ?_) (fun c_40 => ?_)
          · refine j_iload_n M dX0_ends_48 2 rfl ?_
            refine j_iret M dX0_ends_49 ⟨Nat.le_refl _, Nat.le_refl _⟩ ?_
            refine ⟨?_, h2⟩
            unfold vEnds
            rw [if_pos hi2, ← he]
            unfold pEnds
            rw [if_pos (by omega)]
          · omega
        · refine j_iinc M dX0_ends_31 2 rfl (by decide) ?_
          refine j_goto M 13 dX0_ends_34 (by decide) ?_
          refine ih (m + 1) hp_22 (by omega) (by omega) h2 ?_
          rw [← he]
          show _ = pEnds (fun m => pZeros (pRest m s.K s.P i)) (j + 1) m
          rw [pEnds, if_neg (by omega)]
  refine j_aload_n M dX0_ends_0 0 rfl ?_
  refine j_iload_n M dX0_ends_1 1 rfl ?_
  refine j_rV (k_V M (c_isRow l X Pr c s hp i hi h) (rc_of M hx rfl) (lw_V q554 q556 qs12 q97 q557) ndX0_isRow dX0_ends_2 (rmD (by omega) (by decide) rfl rfl) rfl (Nat.le_of_ble_eq_true rfl)) ?_
  refine j_ifneB M 11 dX0_ends_5 (by decide) (fun c_5 => ?_) (fun c_5 => ?_)
  · rw [decide_eq_true_eq] at c_5
    refine j_iconst M dX0_ends_11 ?_
    refine j_istore_n M dX0_ends_12 (by decide) ?_
    exact loop c_5 9 2 hp rfl (by omega) h rfl
  · rw [decide_eq_false_iff_not] at c_5
    refine j_ldc M (2000000101) q558 (by decide) dX0_ends_8 ?_
    refine j_iret M dX0_ends_10 ⟨Nat.le_refl _, Nat.le_refl _⟩ ?_
    exact ⟨by unfold vEnds; rw [if_neg c_5], h⟩
end C13
