/-! 52: the component: what is open, where two meet, roots -/
set_option maxRecDepth 100000
section C14a
variable {Γ : Gm} {l : Launch} {X : Cx} {y : MethodName} {cc : ByteArray} {nL : Nat} {ret : Option FieldType} {rm : Room} {post : Option Value → Hp → Prop} {hp : Hp} {ce sl pc : Nat} {lv : List (Nat × Value)} {st0 rest st : List Value}
variable {index : Nat} {a : Nat} {K P : Int → Int} {i : Int}
theorem dv_inst (M : Mok Γ l X y cc nL ret rm post) (q : Cond.classLink y.cls index "AheadRows$Told" ∈ lw_all) (hk : 0 ≤ K i ∧ K i ≤ 4) (ha : hp a = some (rowE K P i)) (d : decode cc pc = .ok (.instanceof index, 3)) (k : J Γ hp ce sl (pc + 3) lv (.int (zB (decide (K i = 0))) :: st)) : J Γ hp ce sl pc lv (.ref a :: st) := by
  rcases k5 hk with e | e | e | e | e
  · rw [rowE0 e] at ha
    rw [show decide (K i = 0) = true from decide_eq_true e] at k
    exact j_instS M (ci := 5) rfl q (rc_of M ha rfl) d k
  · rw [rowE1 e] at ha
    rw [show decide (K i = 0) = false from decide_eq_false (by omega)] at k
    exact j_instNo M (C := "AheadRows$Sum") q (by decide +kernel) (rc_of M ha rfl) d k
  · rw [rowE2 e] at ha
    rw [show decide (K i = 0) = false from decide_eq_false (by omega)] at k
    exact j_instNo M (C := "AheadRows$Product") q (by decide +kernel) (rc_of M ha rfl) d k
  · rw [rowE3 e] at ha
    rw [show decide (K i = 0) = false from decide_eq_false (by omega)] at k
    exact j_instNo M (C := "AheadRows$Each") q (by decide +kernel) (rc_of M ha rfl) d k
  · rw [rowE4 e] at ha
    rw [show decide (K i = 0) = false from decide_eq_false (by omega)] at k
    exact j_instNo M (C := "AheadRows$Step") q (by decide +kernel) (rc_of M ha rfl) d k
theorem dv_castT (M : Mok Γ l X y cc nL ret rm post) (q : Cond.classLink y.cls index "AheadRows$Told" ∈ lw_all) (e : K i = 0) (ha : hp a = some (rowE K P i)) (d : decode cc pc = .ok (.checkcast index, 3)) (k : J Γ hp ce sl (pc + 3) lv (.ref a :: st)) : J Γ hp ce sl pc lv (.ref a :: st) := by
  rw [rowE0 e] at ha
  exact j_castS M (ci := 5) rfl q (rc_of M ha rfl) d k
end C14a
theorem pOpB_iff (r : Int → Int) : ∀ n : Nat, pOpB r n = 1 ↔ ∀ m : Int, 2 ≤ m → m < n + 2 → r m = 0 := by
  intro n
  induction n with
  | zero => exact ⟨fun _ m h1 h2 => by omega, fun _ => rfl⟩
  | succ n ih =>
    unfold pOpB
    by_cases c : pOpB r n = 1 ∧ r (n + 2) = 0
    · rw [if_pos c]
      refine ⟨fun _ m h1 h2 => ?_, fun _ => rfl⟩
      rcases (show m < n + 2 ∨ m = n + 2 by omega) with q | q
      · exact ih.mp c.1 m h1 q
      · rw [q]; exact c.2
    · rw [if_neg c]
      exact ⟨fun q => absurd q (by decide), fun q => absurd ⟨ih.mpr (fun m h1 h2 => q m h1 (by omega)), q _ (by omega) (by omega)⟩ c⟩
section C14
variable (l : Launch) (X : Cx) (Pr : Hp) (c : Int) (s : Co) (hp : Hp)
theorem c_isOpen (i n : Int) (hi : 0 ≤ i ∧ i < s.N) (hn : 0 ≤ n ∧ n ≤ 1000) (h : CI X Pr c s hp) : Ct l X yX0_isOpen cX0_isOpen 5 (some .boolean) (rD 19) [.ref s.x, .int (zI i), .int (zI n)] hp (pA X Pr c s (.int (zB (decide (pOp s.K s.P i n = 1))))) := by
  have h8 := h.n
  have hend : ∀ b : Bool, (b = true ↔ ∀ m : Int, 2 ≤ m → m ≤ 10 → pRest m s.K s.P i n = 0) → b = decide (pOp s.K s.P i n = 1) := fun b hb => by
    have h2 := pOpB_iff (fun m => pRest m s.K s.P i n) 9
    rw [Bool.eq_iff_iff, decide_eq_true_eq, hb]
    exact ⟨fun q => h2.mpr (fun m a b => q m a (by omega)), fun q m a b => h2.mp q m a (by omega)⟩
  refine Ct.of (by decide) (Nat.le_of_ble_eq_true rfl) (fun Γ M => ?_)
  refine j_lv (lv' := [(0, .ref s.x), (1, .int (zI i)), (2, .int (zI n))]) rfl ?_
  have loop : ∀ (j : Nat) (m : Int) (hp1 : Hp) (b : Bool), m = j + 1 → j ≤ 9 → CI X Pr c s hp1 → (b = true ↔ ∀ m' : Int, m < m' → m' ≤ 10 → pRest m' s.K s.P i n = 0) → J Γ hp1 0 0 6 [(0, .ref s.x), (1, .int (zI i)), (2, .int (zI n)), (3, .int (zB b)), (4, .int (zI m))] [] := by
    intro j
    induction j with
    | zero =>
      intro m hp1 b hj hj9 h1 hb
      refine j_iload M dX0_isOpen_6 4 rfl ?_
      refine j_iconst M dX0_isOpen_8 ?_
      refine j_icmp_lt M 43 dX0_isOpen_9 (by decide) (by omega) (fun c_9 => ?_) (fun c_9 => ?_)
      · refine j_iload_n M dX0_isOpen_43 3 rfl ?_
        refine j_zret M dX0_isOpen_44 ⟨Nat.le_refl _, Nat.le_refl _⟩ ?_
        exact ⟨by rw [← hend b ⟨fun q m' a a2 => hb.mp q m' (by omega) a2, fun q => hb.mpr (fun m' a a2 => q m' (by omega) a2)⟩], h1⟩
      · omega
    | succ j ih =>
      intro m hp1 b hj hj9 h1 hb
      have hx1 := h1.cw.hx
      have hrr := pRest_r (show 0 < m by omega) s.K s.P i n
      refine j_iload M dX0_isOpen_6 4 rfl ?_
      refine j_iconst M dX0_isOpen_8 ?_
      refine j_icmp_lt M 43 dX0_isOpen_9 (by decide) (by omega) (fun c_9 => ?_) (fun c_9 => ?_)
      · omega
      · refine j_iload_n M dX0_isOpen_12 3 rfl ?_
        refine j_ifeqB M 43 dX0_isOpen_13 (by decide) (fun c_13 => ?_) (fun c_13 => ?_)
        · refine j_iload_n M dX0_isOpen_43 3 rfl ?_
          refine j_zret M dX0_isOpen_44 ⟨Nat.le_refl _, Nat.le_refl _⟩ ?_
          refine ⟨by rw [← hend b ⟨fun q => (by rw [q] at c_13; cases c_13), fun q => hb.mpr (fun m' a a2 => q m' (by omega) a2)⟩], h1⟩
        · refine j_aload_n M dX0_isOpen_16 0 rfl ?_
          refine j_iload_n M dX0_isOpen_17 1 rfl ?_
          refine j_iload M dX0_isOpen_18 4 rfl ?_
          refine j_run (k_V M (c_whC l X Pr c s hp1 i m (by omega) (by omega) h1) (rc_of M hx1 rfl) (lw_V q776 q778 qs15 q97 q779) ndX0_wheel dX0_isOpen_20 (rmD (by omega) (by decide) rfl rfl) rfl (Nat.le_of_ble_eq_true rfl)) (fun r_20 hp_20 hq_20 => ?_)
          obtain ⟨rfl, h2, hn1, hF⟩ := hq_20
          obtain ⟨g, b1, b2, b3⟩ := hn1.told (by omega) (by omega)
          refine j_iload_n M dX0_isOpen_23 2 rfl ?_
          refine j_i2l M dX0_isOpen_24 (by omega) ?_
          refine j_rV (k_V M (c_at l X _ _ _ _ _ _ n g _ b1 b2 (by omega) b3) (rc_of M b1 rfl) (lw_V q839 q806 q807 q101 q808) ndX1_at dX0_isOpen_25 (rmD (by omega) (by decide) rfl rfl) rfl (Nat.le_of_ble_eq_true rfl)) ?_
          refine j_if_ne M 35 dX0_isOpen_28 (by decide) (by omega) (fun c_28 => ?_) (fun c_28 => ?_)
          · refine j_iconst M dX0_isOpen_35 ?_
            refine j_istore_n M dX0_isOpen_36 (by decide) ?_
            refine j_iinc M dX0_isOpen_37 4 rfl (by decide) ?_
            refine j_goto M 6 dX0_isOpen_40 (by decide) ?_
            exact ih (m - 1) hp_20 false (by omega) (by omega) h2 ⟨fun q => (by cases q), fun q => absurd (q m (by omega) (by omega)) (by omega)⟩
          · refine j_iconst M dX0_isOpen_31 ?_
            refine j_goto M 36 dX0_isOpen_32 (by decide) ?_
            refine j_istore_n M dX0_isOpen_36 (by decide) ?_
            refine j_iinc M dX0_isOpen_37 4 rfl (by decide) ?_
            refine j_goto M 6 dX0_isOpen_40 (by decide) ?_
            refine ih (m - 1) hp_20 true (by omega) (by omega) h2 ⟨fun _ m' a a2 => ?_, fun _ => rfl⟩
            rcases (show m' = m ∨ m < m' by omega) with q | q
            · rw [q]; omega
            · exact hb.mp c_13 m' q a2
  refine j_iconst M dX0_isOpen_0 ?_
  refine j_istore_n M dX0_isOpen_1 (by decide) ?_
  refine j_bipush M dX0_isOpen_2 (by decide) ?_
  refine j_istore M dX0_isOpen_4 (by decide) ?_
  exact loop 9 10 hp true (by omega) (by omega) h ⟨fun _ m' a a2 => by omega, fun _ => rfl⟩
theorem c_openTold (i a : Int) (hi : 0 ≤ i ∧ i < s.N) (ha : r32 a) (h : CI X Pr c s hp) : Ct l X yX0_openTold cX0_openTold 7 (some .int) (rD 20) [.ref s.x, .int (zI i), .int (zI a)] hp (pA X Pr c s (.int (zI (if a = 0 then (pOpC (pOp s.K s.P i) 1000).1 else (pOpC (pOp s.K s.P i) 1000).2)))) := by
  have h8 := h.n
  have ho : ∀ k, pOp s.K s.P i k = 0 ∨ pOp s.K s.P i k = 1 := fun k => pOpB_r _ 9
  refine Ct.of (by decide) (Nat.le_of_ble_eq_true rfl) (fun Γ M => ?_)
  refine j_lv (lv' := [(0, .ref s.x), (1, .int (zI i)), (2, .int (zI a))]) rfl ?_
  have loop : ∀ (u k : Nat) (hp1 : Hp) (ls : List (Nat × Value)), u = 1000 - k → k ≤ 1000 → CI X Pr c s hp1 → J Γ hp1 0 0 9 ([(0, .ref s.x), (1, .int (zI i)), (2, .int (zI a)), (3, .int (zI (pOpC (pOp s.K s.P i) k).1)), (4, .int (zI (pOpC (pOp s.K s.P i) k).2)), (5, .int (zI k))] ++ ls) [] := by
    intro u
    induction u using Nat.strongRecOn with
    | _ u ih =>
      intro k hp1 ls hu hk h1
      refine j_loc (lv' := [(0, .ref s.x), (1, .int (zI i)), (2, .int (zI a)), (3, .int (zI (pOpC (pOp s.K s.P i) k).1)), (4, .int (zI (pOpC (pOp s.K s.P i) k).2)), (5, .int (zI k))]) [0, 1, 2, 3, 4, 5] rfl ?_
      have hx1 := h1.cw.hx
      have hok := ho k
      refine j_iload M dX0_openTold_9 5 rfl ?_
      refine j_sipush M dX0_openTold_11 (by decide) ?_
      refine j_icmp_gt M 59 dX0_openTold_14 (by decide) (by omega) (fun c_14 => ?_) (fun c_14 => ?_)
      · refine j_iload_n M dX0_openTold_59 2 rfl ?_
        refine j_if_ne M 67 dX0_openTold_60 (by decide) (by omega) (fun c_60 => ?_) (fun c_60 => ?_)
        · refine j_iload M dX0_openTold_67 4 rfl ?_
          refine j_iret M dX0_openTold_69 ⟨Nat.le_refl _, Nat.le_refl _⟩ ?_
          exact ⟨by rw [if_neg (by omega), show k = 1000 by omega], h1⟩
        · refine j_iload_n M dX0_openTold_63 3 rfl ?_
          refine j_goto M 69 dX0_openTold_64 (by decide) ?_
          refine j_iret M dX0_openTold_69 ⟨Nat.le_refl _, Nat.le_refl _⟩ ?_
          exact ⟨by rw [if_pos (by omega), show k = 1000 by omega], h1⟩
      · refine j_aload_n M dX0_openTold_17 0 rfl ?_
        refine j_iload_n M dX0_openTold_18 1 rfl ?_
        refine j_iload M dX0_openTold_19 5 rfl ?_
        refine j_run (k_V M (c_isOpen l X Pr c s hp1 i k hi (by omega) h1) (rc_of M hx1 rfl) (lw_V q997 q999 qs23 q97 q1000) ndX0_isOpen dX0_openTold_21 (rmD (by omega) (by decide) rfl rfl) rfl (Nat.le_of_ble_eq_true rfl)) (fun r_21 hp_21 hq_21 => ?_)
        obtain ⟨rfl, h2⟩ := hq_21
        refine j_istore M dX0_openTold_24 (by decide) ?_
        refine j_iload_n M dX0_openTold_26 3 rfl ?_
        refine j_iload M dX0_openTold_27 6 rfl ?_
        refine j_ifeqB M 36 dX0_openTold_29 (by decide) (fun c_29 => ?_) (fun c_29 => ?_)
        · rw [decide_eq_false_iff_not] at c_29
          refine j_iconst M dX0_openTold_36 ?_
          refine j_iadd M dX0_openTold_37 ?_
          refine j_istore_n M dX0_openTold_38 (by decide) ?_
          refine j_iload M dX0_openTold_39 6 rfl ?_
          refine j_ifeqB M 49 dX0_openTold_41 (by decide) (fun c_41 => ?_) (fun c_41 => ?_)
          · refine j_iload M dX0_openTold_49 4 rfl ?_
            refine j_istore M dX0_openTold_51 (by decide) ?_
            refine j_iinc M dX0_openTold_53 5 rfl (by decide) ?_
            refine j_goto M 9 dX0_openTold_56 (by decide) ?_
            have := ih (1000 - (k + 1)) (by omega) (k + 1) hp_21 [(6, .int (zB (decide (pOp s.K s.P i k = 1))))] rfl (by omega) h2
            simp only [pOpC] at this
            rw [if_neg c_29, show pOp s.K s.P i k = 0 by omega] at this
            rw [show decide (pOp s.K s.P i k = 1) = decide ((0 : Int) = 1) by rw [show pOp s.K s.P i k = 0 by omega]]
            exact this
          · refine j_iload M dX0_openTold_44 5 rfl ?_
            refine j_goto M 51 dX0_openTold_46 (by decide) ?_
            refine j_istore M dX0_openTold_51 (by decide) ?_
            refine j_iinc M dX0_openTold_53 5 rfl (by decide) ?_
            refine j_goto M 9 dX0_openTold_56 (by decide) ?_
            rw [decide_eq_true_eq] at c_41; exact absurd c_41 c_29
        · rw [decide_eq_true_eq] at c_29
          refine j_iconst M dX0_openTold_32 ?_
          refine j_goto M 37 dX0_openTold_33 (by decide) ?_
          refine j_iadd M dX0_openTold_37 ?_
          refine j_istore_n M dX0_openTold_38 (by decide) ?_
          refine j_iload M dX0_openTold_39 6 rfl ?_
          refine j_ifeqB M 49 dX0_openTold_41 (by decide) (fun c_41 => ?_) (fun c_41 => ?_)
          · refine j_iload M dX0_openTold_49 4 rfl ?_
            refine j_istore M dX0_openTold_51 (by decide) ?_
            refine j_iinc M dX0_openTold_53 5 rfl (by decide) ?_
            refine j_goto M 9 dX0_openTold_56 (by decide) ?_
            rw [decide_eq_false_iff_not] at c_41; exact absurd c_29 c_41
          · refine j_iload M dX0_openTold_44 5 rfl ?_
            refine j_goto M 51 dX0_openTold_46 (by decide) ?_
            refine j_istore M dX0_openTold_51 (by decide) ?_
            refine j_iinc M dX0_openTold_53 5 rfl (by decide) ?_
            refine j_goto M 9 dX0_openTold_56 (by decide) ?_
            have := ih (1000 - (k + 1)) (by omega) (k + 1) hp_21 [(6, .int (zB (decide (pOp s.K s.P i k = 1))))] rfl (by omega) h2
            simp only [pOpC] at this
            rw [if_pos c_29, c_29] at this
            rw [c_29]
            exact this
  refine j_iconst M dX0_openTold_0 ?_
  refine j_istore_n M dX0_openTold_1 (by decide) ?_
  refine j_ldc M (2000000001) q196 (by decide) dX0_openTold_2 ?_
  refine j_istore M dX0_openTold_4 (by decide) ?_
  refine j_iconst M dX0_openTold_6 ?_
  refine j_istore M dX0_openTold_7 (by decide) ?_
  exact loop 1000 0 hp [] rfl (by omega) h
theorem c_open (i a : Int) (hi : r32 i) (ha : r32 a) (h : CI X Pr c s hp) : Ct l X yX0_open cX0_open 3 (some .int) (rD 21) [.ref s.x, .int (zI i), .int (zI a)] hp (pA X Pr c s (.int (zI (vOpen s.N s.K s.P i a)))) := by
  have h8 := h.n
  have hx := h.cw.hx
  refine Ct.of (by decide) (Nat.le_of_ble_eq_true rfl) (fun Γ M => ?_)
  refine j_lv (lv' := [(0, .ref s.x), (1, .int (zI i)), (2, .int (zI a))]) rfl ?_
  refine j_aload_n M dX0_open_0 0 rfl ?_
  refine j_iload_n M dX0_open_1 1 rfl ?_
  refine j_rV (k_V M (c_isRow l X Pr c s hp i hi h) (rc_of M hx rfl) (lw_V q554 q556 qs12 q97 q557) ndX0_isRow dX0_open_2 (rmD (by omega) (by decide) rfl rfl) rfl (Nat.le_of_ble_eq_true rfl)) ?_
  refine j_ifneB M 11 dX0_open_5 (by decide) (fun c_5 => ?_) (fun c_5 => ?_)
  · rw [decide_eq_true_eq] at c_5
    refine j_iload_n M dX0_open_11 2 rfl ?_
    refine j_iconst M dX0_open_12 ?_
    refine j_iconst M dX0_open_13 ?_
    refine j_rV (k_S M (c_in l X hp _ _ _ (by omega)) (lw_S q250 q251 q97 q252) ndX0_in dX0_open_14 (rmD (by omega) (by decide) rfl rfl) rfl (Nat.le_of_ble_eq_true rfl)) ?_
    refine j_ifeqB M 29 dX0_open_17 (by decide) (fun c_17 => ?_) (fun c_17 => ?_)
    · rw [decide_eq_false_iff_not] at c_17
      refine j_ldc M (2000000102) q253 (by decide) dX0_open_29 ?_
      refine j_iret M dX0_open_31 ⟨Nat.le_refl _, Nat.le_refl _⟩ ?_
      exact ⟨by unfold vOpen; rw [if_pos c_5, if_neg c_17], h⟩
    · rw [decide_eq_true_eq] at c_17
      refine j_aload_n M dX0_open_20 0 rfl ?_
      refine j_iload_n M dX0_open_21 1 rfl ?_
      refine j_iload_n M dX0_open_22 2 rfl ?_
      refine j_run (k_V M (c_openTold l X Pr c s hp i a (by omega) ha h) (rc_of M hx rfl) (lw_V q993 q995 qs22 q97 q996) ndX0_openTold dX0_open_23 (rmD (by omega) (by decide) rfl rfl) rfl (Nat.le_of_ble_eq_true rfl)) (fun r_23 hp_23 hq_23 => ?_)
      obtain ⟨rfl, h2⟩ := hq_23
      refine j_goto M 31 dX0_open_26 (by decide) ?_
      refine j_iret M dX0_open_31 ⟨Nat.le_refl _, Nat.le_refl _⟩ ?_
      exact ⟨by unfold vOpen; rw [if_pos c_5, if_pos c_17], h2⟩
  · rw [decide_eq_false_iff_not] at c_5
    refine j_ldc M (2000000101) q558 (by decide) dX0_open_8 ?_
    refine j_iret M dX0_open_10 ⟨Nat.le_refl _, Nat.le_refl _⟩ ?_
    exact ⟨by unfold vOpen; rw [if_neg c_5], h⟩
theorem c_meetsTold (w w2 sp sp2 : Nat) (g g2 q1 q2 : Int → Int) (sm sm2 : Int) (hw : hp w = some (eWh sp (pHead q1) (pLap q1) sm)) (hs : hp sp = some (eI X 400 g)) (h : wOk g (pHead q1) (pLap q1) q1) (hw2 : hp w2 = some (eWh sp2 (pHead q2) (pLap q2) sm2)) (hs2 : hp sp2 = some (eI X 400 g2)) (h2 : wOk g2 (pHead q2) (pLap q2) q2) (hb : pLcm (pLap q1) (pLap q2) ≤ 336) : CS l X yX0_meetsTold cX0_meetsTold 4 (some .int) 1 [.ref w, .ref w2] hp (some (.int (zI (pMeet q1 q2)))) := by
  have a1 := h.1
  have a2 := h2.1
  have b1 := h.2.1
  have b2 := h2.2.1
  have u1 := a1.1
  have u2 := a1.2.1
  have v1 := a2.1
  have v2 := a2.2.1
  have hL := pLcm_pos u2 v2
  have gp0 := pGcd_pos (a := pLap q1) (b := pLap q2) u2
  have gpl := Int.le_of_dvd u2 (pGcd_l (a := pLap q1) (b := pLap q2) (by omega))
  have p1 := (a1.dvd (pLcm_l u2 v2) hL).late (h' := max (pHead q1) (pHead q2)) (by omega)
  have p2 := (a2.dvd (pLcm_r u2 v2) hL).late (h' := max (pHead q1) (pHead q2)) (by omega)
  refine Ct.of (by decide) (Nat.le_of_ble_eq_true rfl) (fun Γ M => ?_)
  refine j_lv (lv' := [(0, .ref w), (1, .ref w2)]) rfl ?_
  have loop : ∀ (u : Nat) (n : Int), n + u = max (pHead q1) (pHead q2) + pLcm (pLap q1) (pLap q2) → 0 ≤ n → (∀ k, 0 ≤ k → k < n → q1 k ≠ q2 k) → J Γ hp 0 0 36 [(0, .ref w), (1, .ref w2), (2, .int (zI (max (pHead q1) (pHead q2) + pLcm (pLap q1) (pLap q2)))), (3, .int (zI n))] [] := by
    intro u
    induction u with
    | zero =>
      intro n hn n0 hk
      refine j_iload_n M dX0_meetsTold_36 3 rfl ?_
      refine j_iload_n M dX0_meetsTold_37 2 rfl ?_
      refine j_icmp_ge M 64 dX0_meetsTold_38 (by decide) (by omega) (fun c_38 => ?_) (fun c_38 => ?_)
      · refine j_ldc M (2000000001) q196 (by decide) dX0_meetsTold_64 ?_
        refine j_iret M dX0_meetsTold_66 ⟨Nat.le_refl _, Nat.le_refl _⟩ ?_
        exact ⟨by rw [isMeet.eq (Or.inr ⟨rfl, meet_far p1 p2 (fun k k0 k1 => hk k k0 (by omega))⟩)], rfl⟩
      · omega
    | succ u ih =>
      intro n hn n0 hk
      have z1 := h.2.2.2 n
      have z2 := h2.2.2.2 n
      refine j_iload_n M dX0_meetsTold_36 3 rfl ?_
      refine j_iload_n M dX0_meetsTold_37 2 rfl ?_
      refine j_icmp_ge M 64 dX0_meetsTold_38 (by decide) (by omega) (fun c_38 => ?_) (fun c_38 => ?_)
      · omega
      · refine j_aload_n M dX0_meetsTold_41 0 rfl ?_
        refine j_iload_n M dX0_meetsTold_42 3 rfl ?_
        refine j_i2l M dX0_meetsTold_43 (by omega) ?_
        refine j_rV (k_V M (c_at l X _ _ _ _ _ _ n g _ hw hs (by omega) h) (rc_of M hw rfl) (lw_V q839 q806 q807 q101 q808) ndX1_at dX0_meetsTold_44 ⟨by decide, by decide, by decide, by decide⟩ rfl (Nat.le_of_ble_eq_true rfl)) ?_
        refine j_aload_n M dX0_meetsTold_47 1 rfl ?_
        refine j_iload_n M dX0_meetsTold_48 3 rfl ?_
        refine j_i2l M dX0_meetsTold_49 (by omega) ?_
        refine j_rV (k_V M (c_at l X _ _ _ _ _ _ n g2 _ hw2 hs2 (by omega) h2) (rc_of M hw2 rfl) (lw_V q839 q806 q807 q101 q808) ndX1_at dX0_meetsTold_50 ⟨by decide, by decide, by decide, by decide⟩ rfl (Nat.le_of_ble_eq_true rfl)) ?_
        refine j_icmp_ne M 58 dX0_meetsTold_53 (by decide) (by omega) (fun c_53 => ?_) (fun c_53 => ?_)
        · refine j_iinc M dX0_meetsTold_58 3 rfl (by decide) ?_
          refine j_goto M 36 dX0_meetsTold_61 (by decide) ?_
          refine ih (n + 1) (by omega) (by omega) (fun k k0 k1 => ?_)
          rcases (show k < n ∨ k = n by omega) with q | q
          · exact hk k k0 q
          · rw [q]; exact c_53
        · refine j_iload_n M dX0_meetsTold_56 3 rfl ?_
          refine j_iret M dX0_meetsTold_57 ⟨Nat.le_refl _, Nat.le_refl _⟩ ?_
          exact ⟨by rw [isMeet.eq (Or.inl ⟨n0, by omega, hk⟩)], rfl⟩
  refine j_aload_n M dX0_meetsTold_0 0 rfl ?_
  refine j_get M hw rfl 1 (by decide) in_X1 q176 rfl dX0_meetsTold_1 ?_
  refine j_aload_n M dX0_meetsTold_4 1 rfl ?_
  refine j_get M hw2 rfl 1 (by decide) in_X1 q176 rfl dX0_meetsTold_5 ?_
  refine j_rV (k_S M (c_max l X _ _ _ (by omega)) (lw_S q1008 q448 q113 q449) ndJ4_max dX0_meetsTold_8 ⟨by decide, by decide, by decide, by decide⟩ rfl (Nat.le_of_ble_eq_true rfl)) ?_
  rw [max_if]
  refine j_aload_n M dX0_meetsTold_11 0 rfl ?_
  refine j_get M hw rfl 2 (by decide) in_X1 q183 rfl dX0_meetsTold_12 ?_
  refine j_aload_n M dX0_meetsTold_15 0 rfl ?_
  refine j_get M hw rfl 2 (by decide) in_X1 q183 rfl dX0_meetsTold_16 ?_
  refine j_aload_n M dX0_meetsTold_19 1 rfl ?_
  refine j_get M hw2 rfl 2 (by decide) in_X1 q183 rfl dX0_meetsTold_20 ?_
  refine j_rV (k_S M (c_gcd l X _ _ _ (by omega) (by omega)) (lw_S q1009 q794 q97 q795) ndX0_gcd dX0_meetsTold_23 ⟨by decide, by decide, by decide, by decide⟩ rfl (Nat.le_of_ble_eq_true rfl)) ?_
  refine j_idivE M dX0_meetsTold_26 (by omega) (by omega) ?_
  refine j_aload_n M dX0_meetsTold_27 1 rfl ?_
  refine j_get M hw2 rfl 2 (by decide) in_X1 q183 rfl dX0_meetsTold_28 ?_
  refine j_imul M dX0_meetsTold_31 ?_
  refine j_iadd M dX0_meetsTold_32 ?_
  refine j_istore_n M dX0_meetsTold_33 (by decide) ?_
  refine j_iconst M dX0_meetsTold_34 ?_
  refine j_istore_n M dX0_meetsTold_35 (by decide) ?_
  exact loop (max (pHead q1) (pHead q2) + pLcm (pLap q1) (pLap q2)).toNat 0 (by omega) (by omega) (fun k k0 k1 => by omega)
theorem c_meets (i j m : Int) (hi : r32 i) (hj : r32 j) (hm : r32 m) (h : CI X Pr c s hp) : Ct l X yX0_meets cX0_meets 4 (some .int) (rD 19) [.ref s.x, .int (zI i), .int (zI j), .int (zI m)] hp (pA X Pr c s (.int (zI (vMeets s.N s.K s.P i j m)))) := by
  have h8 := h.n
  have hx := h.cw.hx
  have hE := pE_r m
  refine Ct.of (by decide) (Nat.le_of_ble_eq_true rfl) (fun Γ M => ?_)
  refine j_lv (lv' := [(0, .ref s.x), (1, .int (zI i)), (2, .int (zI j)), (3, .int (zI m))]) rfl ?_
  refine j_aload_n M dX0_meets_0 0 rfl ?_
  refine j_iload_n M dX0_meets_1 1 rfl ?_
  refine j_rV (k_V M (c_isRow l X Pr c s hp i hi h) (rc_of M hx rfl) (lw_V q554 q556 qs12 q97 q557) ndX0_isRow dX0_meets_2 (rmD (by omega) (by decide) rfl rfl) rfl (Nat.le_of_ble_eq_true rfl)) ?_
  refine j_ifeqB M 16 dX0_meets_5 (by decide) (fun c_5 => ?_) (fun c_5 => ?_)
  · rw [decide_eq_false_iff_not] at c_5
    refine j_ldc M (2000000101) q558 (by decide) dX0_meets_16 ?_
    refine j_iret M dX0_meets_18 ⟨Nat.le_refl _, Nat.le_refl _⟩ ?_
    exact ⟨by unfold vMeets; rw [if_neg (fun q => c_5 q.1)], h⟩
  · rw [decide_eq_true_eq] at c_5
    refine j_aload_n M dX0_meets_8 0 rfl ?_
    refine j_iload_n M dX0_meets_9 2 rfl ?_
    refine j_rV (k_V M (c_isRow l X Pr c s hp j hj h) (rc_of M hx rfl) (lw_V q554 q556 qs12 q97 q557) ndX0_isRow dX0_meets_10 (rmD (by omega) (by decide) rfl rfl) rfl (Nat.le_of_ble_eq_true rfl)) ?_
    refine j_ifneB M 19 dX0_meets_13 (by decide) (fun c_13 => ?_) (fun c_13 => ?_)
    · rw [decide_eq_true_eq] at c_13
      refine j_iload_n M dX0_meets_19 3 rfl ?_
      refine j_rV (k_S M (c_isBy l X hp m hm) (lw_S q773 q774 q97 q775) ndX0_isBy dX0_meets_20 (rmD (by omega) (by decide) rfl rfl) rfl (Nat.le_of_ble_eq_true rfl)) ?_
      refine j_ifeqB M 44 dX0_meets_23 (by decide) (fun c_23 => ?_) (fun c_23 => ?_)
      · rw [decide_eq_false_iff_not] at c_23
        refine j_ldc M (2000000102) q253 (by decide) dX0_meets_44 ?_
        refine j_iret M dX0_meets_46 ⟨Nat.le_refl _, Nat.le_refl _⟩ ?_
        exact ⟨by unfold vMeets; rw [if_pos ⟨c_5, c_13⟩, if_neg c_23], h⟩
      · rw [decide_eq_true_eq] at c_23
        refine j_aload_n M dX0_meets_26 0 rfl ?_
        refine j_iload_n M dX0_meets_27 1 rfl ?_
        refine j_iload_n M dX0_meets_28 3 rfl ?_
        refine j_run (k_V M (c_whC l X Pr c s hp i m (by omega) c_23 h) (rc_of M hx rfl) (lw_V q776 q778 qs15 q97 q779) ndX0_wheel dX0_meets_29 (rmD (by omega) (by decide) rfl rfl) rfl (Nat.le_of_ble_eq_true rfl)) (fun r_29 hp_29 hq_29 => ?_)
        obtain ⟨rfl, h1, hn1, hF1⟩ := hq_29
        refine j_aload_n M dX0_meets_32 0 rfl ?_
        refine j_iload_n M dX0_meets_33 2 rfl ?_
        refine j_iload_n M dX0_meets_34 3 rfl ?_
        refine j_run (k_V M (c_whC l X Pr c s hp_29 j m (by omega) c_23 h1) (rc_of M h1.cw.hx rfl) (lw_V q776 q778 qs15 q97 q779) ndX0_wheel dX0_meets_35 (rmD (by omega) (by decide) rfl rfl) rfl (Nat.le_of_ble_eq_true rfl)) (fun r_35 hp_35 hq_35 => ?_)
        obtain ⟨rfl, h2, hn2, hF2⟩ := hq_35
        obtain ⟨g, b1, b2, b3⟩ := (WNow.keep h1.cw (by unfold kx; omega) hn1 hF2).told (by omega) (by omega)
        obtain ⟨g', d1, d2, d3⟩ := hn2.told (by omega) (by omega)
        have hl := rest_hl h.cw.ok c_23 (i := i) (by omega)
        have hl2 := rest_hl h.cw.ok c_23 (i := j) (by omega)
        have hL := dvd_le (pLcm_dvd hl.2.1.1 hl2.2.1.1 hl.2.2.1 hl2.2.2.1 hE.1) hE.1
        refine j_rV (k_S M (c_meetsTold l X _ _ _ _ _ g g' _ _ _ _ b1 b2 b3 d1 d2 d3 (by omega)) (lw_S q1005 q1006 q97 q1007) ndX0_meetsTold dX0_meets_38 (rmD (by omega) (by decide) rfl rfl) rfl (Nat.le_of_ble_eq_true rfl)) ?_
        refine j_goto M 46 dX0_meets_41 (by decide) ?_
        refine j_iret M dX0_meets_46 ⟨Nat.le_refl _, Nat.le_refl _⟩ ?_
        exact ⟨by unfold vMeets; rw [if_pos ⟨c_5, c_13⟩, if_pos c_23], h2⟩
    · rw [decide_eq_false_iff_not] at c_13
      refine j_ldc M (2000000101) q558 (by decide) dX0_meets_16 ?_
      refine j_iret M dX0_meets_18 ⟨Nat.le_refl _, Nat.le_refl _⟩ ?_
      exact ⟨by unfold vMeets; rw [if_neg (fun q => c_13 q.2)], h⟩
theorem c_rootOf (v : Int) (hv : r32 v ∧ v ≤ 200) : CS l X yX0_rootOf cX0_rootOf 2 (some .int) 0 [.int (zI v)] hp (some (.int (zI (pRoot v)))) := by
  refine Ct.of (by decide) (Nat.le_of_ble_eq_true rfl) (fun Γ M => ?_)
  refine j_lv (lv' := [(0, .int (zI v))]) rfl ?_
  have loop : ∀ (j : Nat) (x : Int), 0 ≤ x → x + j = 20 → pRt v j x = pRt v 20 0 → J Γ hp 0 0 2 [(0, .int (zI v)), (1, .int (zI x))] [] := by
    intro j
    induction j with
    | zero =>
      intro x h1 h2 h3
      have b := mul_bd 20 20 (a := x) (b := x) (by omega) (by omega)
      have e : x = 20 := by omega
      subst e
      have e2 : pRt v 20 0 = 20 := h3.symm
      refine j_iload_n M dX0_rootOf_2 1 rfl ?_
      refine j_iload_n M dX0_rootOf_3 1 rfl ?_
      refine j_imul M dX0_rootOf_4 ?_
      refine j_iload_n M dX0_rootOf_5 0 rfl ?_
      refine j_icmp_ge M 15 dX0_rootOf_6 (by decide) (by omega) (fun c_6 => ?_) (fun c_6 => ?_)
      · refine j_iload_n M dX0_rootOf_15 1 rfl ?_
        refine j_iload_n M dX0_rootOf_16 1 rfl ?_
        refine j_imul M dX0_rootOf_17 ?_
        refine j_iload_n M dX0_rootOf_18 0 rfl ?_
        refine j_icmp_ne M 26 dX0_rootOf_19 (by decide) (by omega) (fun c_19 => ?_) (fun c_19 => ?_)
        · refine j_ldc M (2000000001) q196 (by decide) dX0_rootOf_26 ?_
          refine j_iret M dX0_rootOf_28 ⟨Nat.le_refl _, Nat.le_refl _⟩ ?_
          exact ⟨by unfold pRoot; rw [e2, if_neg (by omega)], rfl⟩
        · refine j_iload_n M dX0_rootOf_22 1 rfl ?_
          refine j_goto M 28 dX0_rootOf_23 (by decide) ?_
          refine j_iret M dX0_rootOf_28 ⟨Nat.le_refl _, Nat.le_refl _⟩ ?_
          exact ⟨by unfold pRoot; rw [e2, if_pos (by omega)], rfl⟩
      · omega
    | succ j ih =>
      intro x h1 h2 h3
      have b := mul_bd 20 20 (a := x) (b := x) (by omega) (by omega)
      refine j_iload_n M dX0_rootOf_2 1 rfl ?_
      refine j_iload_n M dX0_rootOf_3 1 rfl ?_
      refine j_imul M dX0_rootOf_4 ?_
      refine j_iload_n M dX0_rootOf_5 0 rfl ?_
      refine j_icmp_ge M 15 dX0_rootOf_6 (by decide) (by omega) (fun c_6 => ?_) (fun c_6 => ?_)
      · have e2 : pRt v 20 0 = x := by rw [← h3, pRt, if_neg (by omega)]
        refine j_iload_n M dX0_rootOf_15 1 rfl ?_
        refine j_iload_n M dX0_rootOf_16 1 rfl ?_
        refine j_imul M dX0_rootOf_17 ?_
        refine j_iload_n M dX0_rootOf_18 0 rfl ?_
        refine j_icmp_ne M 26 dX0_rootOf_19 (by decide) (by omega) (fun c_19 => ?_) (fun c_19 => ?_)
        · refine j_ldc M (2000000001) q196 (by decide) dX0_rootOf_26 ?_
          refine j_iret M dX0_rootOf_28 ⟨Nat.le_refl _, Nat.le_refl _⟩ ?_
          exact ⟨by unfold pRoot; rw [e2, if_neg (by omega)], rfl⟩
        · refine j_iload_n M dX0_rootOf_22 1 rfl ?_
          refine j_goto M 28 dX0_rootOf_23 (by decide) ?_
          refine j_iret M dX0_rootOf_28 ⟨Nat.le_refl _, Nat.le_refl _⟩ ?_
          exact ⟨by unfold pRoot; rw [e2, if_pos (by omega)], rfl⟩
      · refine j_iinc M dX0_rootOf_9 1 rfl (by decide) ?_
        refine j_goto M 2 dX0_rootOf_12 (by decide) ?_
        refine ih (x + 1) (by omega) (by omega) ?_
        rw [← h3]; show _ = pRt v (j + 1) x; rw [pRt, if_pos (by omega)]
  refine j_iconst M dX0_rootOf_0 ?_
  refine j_istore_n M dX0_rootOf_1 (by decide) ?_
  exact loop 20 0 (by omega) (by omega) rfl
end C14
