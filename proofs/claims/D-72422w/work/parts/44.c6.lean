/-! 44: lists of rows -/
set_option maxRecDepth 100000
abbrev eL (mc : Int) (el : Nat) (n : Int) : va_E := .inr (4, [.int (zI mc), .ref el, .int (zI n)])
/-- the list at L: n rows, their addresses by r; its array: el -/
def LsA (X : Cx) (hp : Hp) (L el : Nat) (n : Int) (r : Nat → Nat) : Prop := ∃ mc : Int, hp L = some (eL mc el n) ∧ ((el = cxS X 2 ∧ n = 0) ∨ (0 ≤ n ∧ n ≤ 10 ∧ ∃ g, hp el = some (eO X 10 g) ∧ ∀ k : Nat, (k : Int) < n → g k = some (r k)))
theorem LsA.n {X : Cx} {hp : Hp} {L el : Nat} {n : Int} {r : Nat → Nat} (h : LsA X hp L el n r) : 0 ≤ n ∧ n ≤ 10 := by
  obtain ⟨mc, h1, h2⟩ := h
  rcases h2 with ⟨_, h3⟩ | ⟨h3, h4, _⟩ <;> omega
section C6
variable (l : Launch) (X : Cx) (hp : Hp)
theorem c_colInit (a : Nat) : CS l X yJ0_init cJ0_init 1 none 1 [.ref a] hp none := by
  refine Ct.of (by decide) (Nat.le_of_ble_eq_true rfl) (fun Γ M => ?_)
  refine j_lv (lv' := [(0, .ref a)]) rfl ?_
  refine j_aload_n M dJ0_init_0 0 rfl ?_
  refine j_objInit M q146 q133 q134 (by decide) dJ0_init_1 ?_
  refine j_vret M dJ0_init_4 ⟨Nat.le_refl _, Nat.le_refl _⟩ ?_
  exact ⟨rfl, rfl⟩
theorem c_absInit (a el : Nat) (v : Value) (ha : hp a = some (.inr (4, [.int (zI 0), v, .int (zI 0)]))) : Ct l X yJ1_init cJ1_init 1 none (rD 2) [.ref a] hp (pD none hp) := by
  refine Ct.of (by decide) (Nat.le_of_ble_eq_true rfl) (fun Γ M => ?_)
  refine j_lv (lv' := [(0, .ref a)]) rfl ?_
  refine j_aload_n M dJ1_init_0 0 rfl ?_
  refine j_rN (k_I M (c_colInit l X hp a) (lw_meth q145) q98 q143 q144 rfl ndJ0_init dJ1_init_1 ⟨by decide, by decide, by decide, by decide⟩ rfl (Nat.le_of_ble_eq_true rfl)) ?_
  refine j_aload_n M dJ1_init_4 0 rfl ?_
  refine j_iconst M dJ1_init_5 ?_
  refine j_put M ha rfl 0 (by decide) in_J2 tyJ2 tyJ2_ok nmJ2 q151 rfl rfl rfl (Nat.le_of_ble_eq_true rfl) dJ1_init_6 ?_
  refine j_vret M dJ1_init_9 ⟨Nat.le_refl _, Nat.le_refl _⟩ ?_
  exact ⟨rfl, hup_id ha⟩
theorem c_listInit (a : Nat) (ha : hp a = some (.inr (4, [.int (zI 0), .null, .int (zI 0)]))) : Ct l X yJ2_init cJ2_init 1 none (rD 3) [.ref a] hp (pD none (hup hp a (eL 0 (cxS X 2) 0))) := by
  refine Ct.of (by decide) (Nat.le_of_ble_eq_true rfl) (fun Γ M => ?_)
  refine j_lv (lv' := [(0, .ref a)]) rfl ?_
  refine j_aload_n M dJ2_init_0 0 rfl ?_
  refine j_rN (k_I M (c_absInit l X hp a a _ ha) (lw_meth q142) q99 q140 q141 rfl ndJ1_init dJ2_init_1 ⟨by decide, by decide, by decide, by decide⟩ rfl (Nat.le_of_ble_eq_true rfl)) ?_
  refine j_aload_n M dJ2_init_4 0 rfl ?_
  refine j_gets2 M q147 dJ2_init_5 ?_
  refine j_put M ha rfl 1 (by decide) in_J2 tyJ2 tyJ2_ok nmJ2 q149 rfl rfl rfl (Nat.le_of_ble_eq_true rfl) dJ2_init_8 ?_
  refine j_vret M dJ2_init_11 ⟨Nat.le_refl _, Nat.le_refl _⟩ ?_
  exact ⟨rfl, rfl⟩
theorem c_size (L el : Nat) (mc n : Int) (h : hp L = some (eL mc el n)) : CS l X yJ2_size cJ2_size 1 (some .int) 0 [.ref L] hp (some (.int (zI n))) := by
  refine Ct.of (by decide) (Nat.le_of_ble_eq_true rfl) (fun Γ M => ?_)
  refine j_lv (lv' := [(0, .ref L)]) rfl ?_
  refine j_aload_n M dJ2_size_0 0 rfl ?_
  refine j_get M h rfl 2 (by decide) in_J2 q150 rfl dJ2_size_1 ?_
  refine j_iret M dJ2_size_4 ⟨Nat.le_refl _, Nat.le_refl _⟩ ?_
  exact ⟨rfl, rfl⟩
theorem c_isEmpty (L el : Nat) (mc n : Int) (h : hp L = some (eL mc el n)) (hn : r32 n) : CS l X yJ2_isEmpty cJ2_isEmpty 1 (some .boolean) 0 [.ref L] hp (some (.int (zB (decide (n = 0))))) := by
  refine Ct.of (by decide) (Nat.le_of_ble_eq_true rfl) (fun Γ M => ?_)
  refine j_lv (lv' := [(0, .ref L)]) rfl ?_
  refine j_aload_n M dJ2_isEmpty_0 0 rfl ?_
  refine j_get M h rfl 2 (by decide) in_J2 q150 rfl dJ2_isEmpty_1 ?_
  refine j_if_ne M 11 dJ2_isEmpty_4 (by decide) (by omega) (fun c_4 => ?_) (fun c_4 => ?_)
  · refine j_iconst M dJ2_isEmpty_11 ?_
    refine j_bool false rfl ?_
    refine j_zret M dJ2_isEmpty_12 ⟨Nat.le_refl _, Nat.le_refl _⟩ ?_
    first | exact pzT (by omega) | exact pzF (by omega)
  · refine j_iconst M dJ2_isEmpty_7 ?_
    refine j_goto M 12 dJ2_isEmpty_8 (by decide) ?_
    refine j_bool true rfl ?_
    refine j_zret M dJ2_isEmpty_12 ⟨Nat.le_refl _, Nat.le_refl _⟩ ?_
    first | exact pzT (by omega) | exact pzF (by omega)
theorem c_checkP (i n : Int) (hi : 0 ≤ i ∧ i < n) (hn : r32 n) : CS l X yJ7_checkIndex cJ7_checkIndex 3 (some .int) 0 [.int (zI i), .int (zI n), .null] hp (some (.int (zI i))) := by
  refine Ct.of (by decide) (Nat.le_of_ble_eq_true rfl) (fun Γ M => ?_)
  refine j_lv (lv' := [(0, .int (zI i)), (1, .int (zI n)), (2, .null)]) rfl ?_
  refine j_iload_n M dJ7_checkIndex_0 0 rfl ?_
  refine j_if_lt M 9 dJ7_checkIndex_1 (by decide) (by omega) (fun c_1 => ?_) (fun c_1 => ?_)
  · omega
  · refine j_iload_n M dJ7_checkIndex_4 0 rfl ?_
    refine j_iload_n M dJ7_checkIndex_5 1 rfl ?_
    refine j_icmp_lt M 16 dJ7_checkIndex_6 (by decide) (by omega) (fun c_6 => ?_) (fun c_6 => ?_)
    · refine j_iload_n M dJ7_checkIndex_16 0 rfl ?_
      refine j_iret M dJ7_checkIndex_17 ⟨Nat.le_refl _, Nat.le_refl _⟩ ?_
      exact ⟨rfl, rfl⟩
    · omega
theorem c_checkO (i n : Int) (hi : 0 ≤ i ∧ i < n) (hn : r32 n) : CS l X yJ6_checkIndex cJ6_checkIndex 2 (some .int) 1 [.int (zI i), .int (zI n)] hp (some (.int (zI i))) := by
  refine Ct.of (by decide) (Nat.le_of_ble_eq_true rfl) (fun Γ M => ?_)
  refine j_lv (lv' := [(0, .int (zI i)), (1, .int (zI n))]) rfl ?_
  refine j_iload_n M dJ6_checkIndex_0 0 rfl ?_
  refine j_iload_n M dJ6_checkIndex_1 1 rfl ?_
  refine j_aconst_null M dJ6_checkIndex_2 ?_
  refine j_rV (k_S M (c_checkP l X hp i n hi hn) (lw_S q509 q510 q117 q511) ndJ7_checkIndex dJ6_checkIndex_3 ⟨by decide, by decide, by decide, by decide⟩ rfl (Nat.le_of_ble_eq_true rfl)) ?_
  refine j_iret M dJ6_checkIndex_6 ⟨Nat.le_refl _, Nat.le_refl _⟩ ?_
  exact ⟨rfl, rfl⟩
theorem c_elementData (L el : Nat) (mc n i : Int) (g : Nat → Option Nat) (v : Nat) (h : hp L = some (eL mc el n)) (he : hp el = some (eO X 10 g)) (hi : 0 ≤ i ∧ i < 10) (hv : g i.toNat = some v) : CS l X yJ2_elementData cJ2_elementData 2 (some (.object "java/lang/Object")) 0 [.ref L, .int (zI i)] hp (some (.ref v)) := by
  refine Ct.of (by decide) (Nat.le_of_ble_eq_true rfl) (fun Γ M => ?_)
  refine j_lv (lv' := [(0, .ref L), (1, .int (zI i))]) rfl ?_
  refine j_aload_n M dJ2_elementData_0 0 rfl ?_
  refine j_get M h rfl 1 (by decide) in_J2 q149 rfl dJ2_elementData_1 ?_
  refine j_iload_n M dJ2_elementData_4 1 rfl ?_
  refine j_aaldO M he (by omega) (hv) dJ2_elementData_5 ?_
  refine j_aret M dJ2_elementData_6 (Or.inl ⟨_, rfl⟩) ⟨Nat.le_refl _, Nat.le_refl _⟩ ?_
  exact ⟨rfl, rfl⟩
theorem c_getL (L el : Nat) (n i : Int) (r : Nat → Nat) (h : LsA X hp L el n r) (hi : 0 ≤ i ∧ i < n) : CS l X yJ2_get cJ2_get 2 (some (.object "java/lang/Object")) 2 [.ref L, .int (zI i)] hp (some (.ref (r i.toNat))) := by
  have hn := h.n
  obtain ⟨mc, h1, h2⟩ := h
  rcases h2 with ⟨_, h3⟩ | ⟨h3, h4, g, h5, h6⟩
  · omega
  refine Ct.of (by decide) (Nat.le_of_ble_eq_true rfl) (fun Γ M => ?_)
  refine j_lv (lv' := [(0, .ref L), (1, .int (zI i))]) rfl ?_
  refine j_iload_n M dJ2_get_0 1 rfl ?_
  refine j_aload_n M dJ2_get_1 0 rfl ?_
  refine j_get M h1 rfl 2 (by decide) in_J2 q150 rfl dJ2_get_2 ?_
  refine j_rV (k_S M (c_checkO l X hp i n hi (by omega)) (lw_S q506 q507 q116 q508) ndJ6_checkIndex dJ2_get_5 ⟨by decide, by decide, by decide, by decide⟩ rfl (Nat.le_of_ble_eq_true rfl)) ?_
  refine j_pop M dJ2_get_8 rfl ?_
  refine j_aload_n M dJ2_get_9 0 rfl ?_
  refine j_iload_n M dJ2_get_10 1 rfl ?_
  refine j_rV (k_V M (c_elementData l X hp L el mc n i g _ h1 h5 (by omega) (h6 i.toNat (by omega))) (rc_of M h1 rfl) (lw_V q512 q513 q514 q100 q515) ndJ2_elementData dJ2_get_11 ⟨by decide, by decide, by decide, by decide⟩ rfl (Nat.le_of_ble_eq_true rfl)) ?_
  refine j_aret M dJ2_get_14 (Or.inl ⟨_, rfl⟩) ⟨Nat.le_refl _, Nat.le_refl _⟩ ?_
  exact ⟨rfl, rfl⟩
/-- all but two cells stay -/
def But2 (hp hp' : Hp) (a b : Nat) : Prop := ∀ z, z ≠ a → z ≠ b → hp' z = hp z
theorem c_setL (L el q ci : Nat) (C : String) (T : u_T) (N : Nat) (fs : List Value) (n i : Int) (r : Nat → Nat) (h : LsA X hp L el n r) (hi : 0 ≤ i ∧ i < n) (hq : hp q = some (.inr (5, fs))) : Ct l X yJ2_set cJ2_set 4 (some (.object "java/lang/Object")) (rD 2) [.ref L, .int (zI i), .ref q] hp (fun v hp' => v = some (.ref (r i.toNat)) ∧ LsA X hp' L el n (upN r i.toNat q) ∧ But2 hp hp' L el) := by
  have hn := h.n
  obtain ⟨mc, h1, h2⟩ := h
  rcases h2 with ⟨_, h3⟩ | ⟨h3, h4, g, h5, h6⟩
  · omega
  have hne : L ≠ el := ne_oa h1 h5
  refine Ct.of (by decide) (Nat.le_of_ble_eq_true rfl) (fun Γ M => ?_)
  refine j_lv (lv' := [(0, .ref L), (1, .int (zI i)), (2, .ref q)]) rfl ?_
  refine j_iload_n M dJ2_set_0 1 rfl ?_
  refine j_aload_n M dJ2_set_1 0 rfl ?_
  refine j_get M h1 rfl 2 (by decide) in_J2 q150 rfl dJ2_set_2 ?_
  refine j_rV (k_S M (c_checkO l X hp i n hi (by omega)) (lw_S q506 q507 q116 q508) ndJ6_checkIndex dJ2_set_5 ⟨by decide, by decide, by decide, by decide⟩ rfl (Nat.le_of_ble_eq_true rfl)) ?_
  refine j_pop M dJ2_set_8 rfl ?_
  refine j_aload_n M dJ2_set_9 0 rfl ?_
  refine j_iload_n M dJ2_set_10 1 rfl ?_
  refine j_rV (k_V M (c_elementData l X hp L el mc n i g _ h1 h5 (by omega) (h6 i.toNat (by omega))) (rc_of M h1 rfl) (lw_V q512 q513 q514 q100 q515) ndJ2_elementData dJ2_set_11 ⟨by decide, by decide, by decide, by decide⟩ rfl (Nat.le_of_ble_eq_true rfl)) ?_
  refine j_astore_n M dJ2_set_14 (by decide) ?_
  refine j_aload_n M dJ2_set_15 0 rfl ?_
  refine j_get M h1 rfl 1 (by decide) in_J2 q149 rfl dJ2_set_16 ?_
  refine j_iload_n M dJ2_set_19 1 rfl ?_
  refine j_aload_n M dJ2_set_20 2 rfl ?_
  refine j_aastO M h5 hq rfl q1808 (by omega) dJ2_set_21 ?_
  refine j_aload_n M dJ2_set_22 3 rfl ?_
  refine j_aret M dJ2_set_23 (Or.inl ⟨_, rfl⟩) ⟨Nat.le_refl _, Nat.le_refl _⟩ ?_
  refine ⟨rfl, ⟨mc, by rw [hup_n _ _ hne]; exact h1, Or.inr ⟨h3, h4, _, hup_s _ _ _, fun k hk => ?_⟩⟩, fun z z1 z2 => hup_n _ _ z2⟩
  by_cases e : k = i.toNat
  · rw [e, va_up_self, upN_s]
  · rw [va_up_ne _ _ e, upN_n _ _ e]; exact h6 k hk
theorem c_grow2 (L : Nat) (mc : Int) (h : hp L = some (eL mc (cxS X 2) 0)) : Ct l X yJ2_grow_2 cJ2_grow_2 4 (some (.array (.object "java/lang/Object"))) (rC 1 1 10) [.ref L, .int (zI 1)] hp (fun v hp' => ∃ q, v = some (.ref q) ∧ hp q = none ∧ cxB X ≤ q ∧ hp' = hup (hup hp q (eO X 10 (fun _ => none))) L (eL mc q 0)) := by
  refine Ct.of (by decide) (Nat.le_of_ble_eq_true rfl) (fun Γ M => ?_)
  refine j_lv (lv' := [(0, .ref L), (1, .int (zI 1))]) rfl ?_
  refine j_aload_n M dJ2_grow_2_0 0 rfl ?_
  refine j_get M h rfl 1 (by decide) in_J2 q149 rfl dJ2_grow_2_1 ?_
  refine j_alenS M dJ2_grow_2_4 ?_
  refine j_istore_n M dJ2_grow_2_5 (by decide) ?_
  refine j_iload_n M dJ2_grow_2_6 2 rfl ?_
  refine j_if_gt M 20 dJ2_grow_2_7 (by decide) (by omega) (fun c_7 => ?_) (fun c_7 => ?_)
  · omega
  · refine j_aload_n M dJ2_grow_2_10 0 rfl ?_
    refine j_get M h rfl 1 (by decide) in_J2 q149 rfl dJ2_grow_2_11 ?_
    refine j_gets2 M q147 dJ2_grow_2_14 ?_
    refine j_acmp_same M 45 dJ2_grow_2_17 (by decide) ?_
    refine j_aload_n M dJ2_grow_2_45 0 rfl ?_
    refine j_bipush M dJ2_grow_2_46 (by decide) ?_
    refine j_iload_n M dJ2_grow_2_48 1 rfl ?_
    refine j_rV (k_S M (c_max l X hp 10 1 (by decide)) (lw_S q487 q448 q113 q449) ndJ4_max dJ2_grow_2_49 ⟨by decide, by decide, by decide, by decide⟩ rfl (Nat.le_of_ble_eq_true rfl)) ?_
    refine j_anewO M q488 (by decide) (by decide) dJ2_grow_2_52 (fun q_52 hq_52 hB_52 => ?_)
    have hL : L ≠ q_52 := fun e => by rw [e, hq_52] at h; cases h
    have h2 : hup hp q_52 (eO X 10 (fun _ => none)) L = some (eL mc (cxS X 2) 0) := by rw [hup_n _ _ hL]; exact h
    refine j_dup_x1 M dJ2_grow_2_55 rfl rfl ?_
    refine j_put M h2 rfl 1 (by decide) in_J2 tyJ2 tyJ2_ok nmJ2 q149 rfl rfl rfl (Nat.le_of_ble_eq_true rfl) dJ2_grow_2_56 ?_
    refine j_aret M dJ2_grow_2_59 (Or.inr ⟨_, rfl⟩) ⟨Nat.le_refl _, Nat.le_refl _⟩ ?_
    exact ⟨q_52, rfl, hq_52, hB_52, rfl⟩
theorem c_grow (L : Nat) (mc : Int) (h : hp L = some (eL mc (cxS X 2) 0)) : Ct l X yJ2_grow cJ2_grow 1 (some (.array (.object "java/lang/Object"))) (rC 2 1 10) [.ref L] hp (fun v hp' => ∃ q, v = some (.ref q) ∧ hp q = none ∧ cxB X ≤ q ∧ hp' = hup (hup hp q (eO X 10 (fun _ => none))) L (eL mc q 0)) := by
  refine Ct.of (by decide) (Nat.le_of_ble_eq_true rfl) (fun Γ M => ?_)
  refine j_lv (lv' := [(0, .ref L)]) rfl ?_
  refine j_aload_n M dJ2_grow_0 0 rfl ?_
  refine j_aload_n M dJ2_grow_1 0 rfl ?_
  refine j_get M h rfl 2 (by decide) in_J2 q150 rfl dJ2_grow_2 ?_
  refine j_iconst M dJ2_grow_5 ?_
  refine j_iadd M dJ2_grow_6 ?_
  refine j_run (k_V M (c_grow2 l X hp L mc h) (rc_of M h rfl) (lw_V q440 q442 qs10 q100 q443) ndJ2_grow_2 dJ2_grow_7 ⟨by decide, by decide, by decide, by decide⟩ rfl (Nat.le_of_ble_eq_true rfl)) (fun r_7 hp_7 hq_7 => ?_)
  obtain ⟨q, rfl, e1, e2, e3⟩ := hq_7
  subst e3
  refine j_aret M dJ2_grow_10 (Or.inr ⟨_, rfl⟩) ⟨Nat.le_refl _, Nat.le_refl _⟩ ?_
  exact ⟨q, rfl, e1, e2, rfl⟩
/-- all else is kept -/
def ButL (X : Cx) (hp hp' : Hp) (L el : Nat) : Prop := ∀ z e, hp z = some e → z ≠ L → (z ≠ el ∨ ∀ g, e ≠ eO X 10 g) → hp' z = some e
theorem ButL.of {X : Cx} {hp hp' : Hp} {L el : Nat} {g : Nat → Option Nat} (h : hp el = some (eO X 10 g)) (b : But2 hp hp' L el) : ButL X hp hp' L el := fun z e he z1 z2 => by
  rw [b z z1 (fun w => ?_)]; exact he
  rcases z2 with c | c
  · exact c w
  · rw [w, h] at he; injection he with he; exact c g he.symm
theorem LsA.real {X : Cx} {hp : Hp} {L el : Nat} {n : Int} {r : Nat → Nat} (h : LsA X hp L el n r) (h1 : 1 ≤ n) : ∃ g, hp el = some (eO X 10 g) := by
  obtain ⟨mc, a, b | ⟨_, _, g, c, _⟩⟩ := h
  · omega
  · exact ⟨g, c⟩
/-- a row more -/
def pAdd (X : Cx) (hp : Hp) (L el : Nat) (n : Int) (r : Nat → Nat) (q : Nat) (hp' : Hp) : Prop := ∃ el', LsA X hp' L el' (n + 1) (upN r n.toNat q) ∧ ((el' = el ∧ ∃ g, hp el = some (eO X 10 g)) ∨ hp el' = none) ∧ But2 hp hp' L el'
theorem pAdd.but {X : Cx} {hp hp' : Hp} {L el q : Nat} {n : Int} {r : Nat → Nat} (h : pAdd X hp L el n r q hp') : ButL X hp hp' L el := by
  obtain ⟨el', h1, h2, h3⟩ := h
  rcases h2 with ⟨rfl, g, hg⟩ | hn
  · exact ButL.of hg h3
  · intro z e he z1 z2
    rw [h3 z z1 (fun w => by rw [w, hn] at he; cases he)]; exact he
theorem c_add2 (L el q ci : Nat) (C : String) (T : u_T) (N : Nat) (fs : List Value) (mc n : Int) (r : Nat → Nat) (h1 : hp L = some (eL mc el n)) (h : LsA X hp L el n r) (hn8 : n < 10) (hq : hp q = some (.inr (ci, fs))) (hqL : q ≠ L) (hc : clz[ci]? = some (C, T, N)) (hcq : Cond.castable C "java/lang/Object" ∈ lw_tbl) : Ct l X yJ2_add_2 cJ2_add_2 4 none (rC 3 1 10) [.ref L, .ref q, .ref el, .int (zI n)] hp (fun v hp' => v = none ∧ pAdd X hp L el n r q hp') := by
  have hn := h.n
  obtain ⟨mc', h1', h2⟩ := h
  rcases h2 with ⟨e0, h3⟩ | ⟨h3, h4, g, h5, h6⟩
  · subst e0; subst h3
    refine Ct.of (by decide) (Nat.le_of_ble_eq_true rfl) (fun Γ M => ?_)
    refine j_lv (lv' := [(0, .ref L), (1, .ref q), (2, .ref (cxS X 2)), (3, .int (zI 0))]) rfl ?_
    refine j_iload_n M dJ2_add_2_0 3 rfl ?_
    refine j_aload_n M dJ2_add_2_1 2 rfl ?_
    refine j_alenS M dJ2_add_2_2 ?_
    refine j_icmp_ne M 11 dJ2_add_2_3 (by decide) (by omega) (fun c_3 => ?_) (fun c_3 => ?_)
    · omega
    · refine j_aload_n M dJ2_add_2_6 0 rfl ?_
      refine j_run (k_V M (c_grow l X hp L mc h1) (rc_of M h1 rfl) (lw_V q436 q438 qs9 q100 q439) ndJ2_grow dJ2_add_2_7 ⟨by decide, by decide, by decide, by decide⟩ rfl (Nat.le_of_ble_eq_true rfl)) (fun r_7 hp_7 hq_7 => ?_)
      obtain ⟨e, rfl, e1, e2, e3⟩ := hq_7
      subst e3
      have n1 : L ≠ e := fun w => by rw [w, e1] at h1; cases h1
      have n2 : q ≠ e := fun w => by rw [w, e1] at hq; cases hq
      have k1 : hup (hup hp e (eO X 10 (fun _ => none))) L (eL mc e 0) e = some (eO X 10 (fun _ => none)) := by rw [hup_n _ _ (Ne.symm n1), hup_s]
      have k2 : hup (hup hp e (eO X 10 (fun _ => none))) L (eL mc e 0) q = some (.inr (ci, fs)) := by rw [hup_n _ _ hqL, hup_n _ _ n2]; exact hq
      refine j_astore_n M dJ2_add_2_10 (by decide) ?_
      refine j_aload_n M dJ2_add_2_11 2 rfl ?_
      refine j_iload_n M dJ2_add_2_12 3 rfl ?_
      refine j_aload_n M dJ2_add_2_13 1 rfl ?_
      refine j_aastO M k1 k2 hc hcq (by omega) dJ2_add_2_14 ?_
      refine j_aload_n M dJ2_add_2_15 0 rfl ?_
      refine j_iload_n M dJ2_add_2_16 3 rfl ?_
      refine j_iconst M dJ2_add_2_17 ?_
      refine j_iadd M dJ2_add_2_18 ?_
      refine j_put M (by rw [hup_n _ _ n1, hup_s]) rfl 2 (by decide) in_J2 tyJ2 tyJ2_ok nmJ2 q150 rfl rfl rfl (Nat.le_of_ble_eq_true rfl) dJ2_add_2_19 ?_
      refine j_vret M dJ2_add_2_22 ⟨Nat.le_refl _, Nat.le_refl _⟩ ?_
      refine ⟨rfl, e, ⟨mc, ?_, Or.inr ⟨by omega, by omega, _, by rw [hup_n _ _ (Ne.symm n1), hup_s], fun k hk => ?_⟩⟩, Or.inr e1, fun z z1 z2 => ?_⟩
      · rw [hup_s]; rfl
      · rw [show k = 0 by omega]; rfl
      · rw [hup_n _ _ z1, hup_n _ _ z2, hup_n _ _ z1, hup_n _ _ z2]
  · have n1 : L ≠ el := ne_oa h1 h5
    refine Ct.of (by decide) (Nat.le_of_ble_eq_true rfl) (fun Γ M => ?_)
    refine j_lv (lv' := [(0, .ref L), (1, .ref q), (2, .ref el), (3, .int (zI n))]) rfl ?_
    refine j_iload_n M dJ2_add_2_0 3 rfl ?_
    refine j_aload_n M dJ2_add_2_1 2 rfl ?_
    refine j_alen M (t0 := 3) h5 rfl dJ2_add_2_2 ?_
    refine j_icmp_ne M 11 dJ2_add_2_3 (by decide) (by omega) (fun c_3 => ?_) (fun c_3 => ?_)
    · refine j_aload_n M dJ2_add_2_11 2 rfl ?_
      refine j_iload_n M dJ2_add_2_12 3 rfl ?_
      refine j_aload_n M dJ2_add_2_13 1 rfl ?_
      refine j_aastO M h5 hq hc hcq (by omega) dJ2_add_2_14 ?_
      refine j_aload_n M dJ2_add_2_15 0 rfl ?_
      refine j_iload_n M dJ2_add_2_16 3 rfl ?_
      refine j_iconst M dJ2_add_2_17 ?_
      refine j_iadd M dJ2_add_2_18 ?_
      refine j_put M (by rw [hup_n _ _ n1]; exact h1) rfl 2 (by decide) in_J2 tyJ2 tyJ2_ok nmJ2 q150 rfl rfl rfl (Nat.le_of_ble_eq_true rfl) dJ2_add_2_19 ?_
      refine j_vret M dJ2_add_2_22 ⟨by decide, by decide⟩ ?_
      refine ⟨rfl, el, ⟨mc, ?_, Or.inr ⟨by omega, by omega, _, by rw [hup_n _ _ (Ne.symm n1), hup_s], fun k hk => ?_⟩⟩, Or.inl ⟨rfl, g, h5⟩, fun z z1 z2 => ?_⟩
      · rw [hup_s]; rfl
      · by_cases e : k = n.toNat
        · rw [e, va_up_self, upN_s]
        · rw [va_up_ne _ _ e, upN_n _ _ e]; exact h6 k (by omega)
      · rw [hup_n _ _ z1, hup_n _ _ z2]
    · exfalso; omega
theorem c_add (L el q ci : Nat) (C : String) (T : u_T) (N : Nat) (fs : List Value) (n : Int) (r : Nat → Nat) (h : LsA X hp L el n r) (hn8 : n < 10) (hq : hp q = some (.inr (ci, fs))) (hqL : q ≠ L) (hc : clz[ci]? = some (C, T, N)) (hcq : Cond.castable C "java/lang/Object" ∈ lw_tbl) : Ct l X yJ2_add cJ2_add 2 (some .boolean) (rC 4 1 10) [.ref L, .ref q] hp (fun v hp' => v = some (.int (zB true)) ∧ pAdd X hp L el n r q hp') := by
  have hn := h.n
  have h' := h
  obtain ⟨mc, h1, h2⟩ := h
  have nel : (el = cxS X 2 ∧ n = 0) ∨ (0 ≤ n ∧ n ≤ 10 ∧ ∃ g, hup hp L (eL (mc + 1) el n) el = some (eO X 10 g) ∧ ∀ k : Nat, (k : Int) < n → g k = some (r k)) := by
    rcases h2 with q | ⟨a1, a2, g, h5, h6⟩
    · exact Or.inl q
    · exact Or.inr ⟨a1, a2, g, by rw [hup_n _ _ (Ne.symm (ne_oa h1 h5))]; exact h5, h6⟩
  refine Ct.of (by decide) (Nat.le_of_ble_eq_true rfl) (fun Γ M => ?_)
  refine j_lv (lv' := [(0, .ref L), (1, .ref q)]) rfl ?_
  refine j_aload_n M dJ2_add_0 0 rfl ?_
  refine j_dup M dJ2_add_1 rfl ?_
  refine j_getI M h1 rfl 0 (by decide) in_J2 q152 q153 rfl dJ2_add_2 ?_
  refine j_iconst M dJ2_add_5 ?_
  refine j_iadd M dJ2_add_6 ?_
  refine j_putI M h1 rfl 0 (by decide) in_J2 tyJ2 tyJ2_ok nmJ2 q152 q153 rfl rfl rfl (Nat.le_of_ble_eq_true rfl) dJ2_add_7 ?_
  refine j_aload_n M dJ2_add_10 0 rfl ?_
  refine j_aload_n M dJ2_add_11 1 rfl ?_
  refine j_aload_n M dJ2_add_12 0 rfl ?_
  refine j_get M (hup_s _ _ _) rfl 1 (by decide) in_J2 q149 rfl dJ2_add_13 ?_
  refine j_aload_n M dJ2_add_16 0 rfl ?_
  refine j_get M (hup_s _ _ _) rfl 2 (by decide) in_J2 q150 rfl dJ2_add_17 ?_
  refine j_run (k_V M (c_add2 l X (hup hp L (eL (mc + 1) el n)) L el q ci C T N fs (mc + 1) n r (hup_s _ _ _) ⟨mc + 1, hup_s _ _ _, nel⟩ hn8 (by rw [hup_n _ _ hqL]; exact hq) hqL hc hcq) (rc_of M (hup_s _ _ _) rfl) (lw_V q432 q434 qs8 q100 q435) ndJ2_add_2 dJ2_add_20 ⟨by decide, by decide, by decide, by decide⟩ rfl (Nat.le_of_ble_eq_true rfl)) (fun r_20 hp_20 hq_20 => ?_)
  obtain ⟨rfl, el', a1, a2, a3⟩ := hq_20
  refine j_iconst M dJ2_add_23 ?_
  refine j_bool true rfl ?_
  refine j_zret M dJ2_add_24 ⟨Nat.le_refl _, Nat.le_refl _⟩ ?_
  refine ⟨rfl, el', a1, ?_, fun z z1 z2 => ?_⟩
  · rcases a2 with ⟨q, g, hg⟩ | q
    · refine Or.inl ⟨q, g, ?_⟩
      by_cases w : el = L
      · rw [w, hup_s] at hg; cases hg
      · rw [hup_n _ _ w] at hg; exact hg
    · right
      by_cases w : el' = L
      · rw [w, hup_s] at q; cases q
      · rw [hup_n _ _ w] at q; exact q
  · rw [a3 z z1 z2, hup_n _ _ z1]
theorem c_clear (L el : Nat) (n : Int) (r : Nat → Nat) (h : LsA X hp L el n r) : Ct l X yJ2_clear cJ2_clear 4 none (rD 0) [.ref L] hp (fun v hp' => v = none ∧ LsA X hp' L el 0 r ∧ ButL X hp hp' L el) := by
  have hn := h.n
  obtain ⟨mc, h1, h2⟩ := h
  rcases h2 with ⟨e0, h3⟩ | ⟨h3, h4, g, h5, h6⟩
  · subst h3
    refine Ct.of (by decide) (Nat.le_of_ble_eq_true rfl) (fun Γ M => ?_)
    refine j_lv (lv' := [(0, .ref L)]) rfl ?_
    refine j_aload_n M dJ2_clear_0 0 rfl ?_
    refine j_dup M dJ2_clear_1 rfl ?_
    refine j_getI M h1 rfl 0 (by decide) in_J2 q152 q153 rfl dJ2_clear_2 ?_
    refine j_iconst M dJ2_clear_5 ?_
    refine j_iadd M dJ2_clear_6 ?_
    refine j_putI M h1 rfl 0 (by decide) in_J2 tyJ2 tyJ2_ok nmJ2 q152 q153 rfl rfl rfl (Nat.le_of_ble_eq_true rfl) dJ2_clear_7 ?_
    refine j_aload_n M dJ2_clear_10 0 rfl ?_
    refine j_get M (hup_s _ _ _) rfl 1 (by decide) in_J2 q149 rfl dJ2_clear_11 ?_
    refine j_astore_n M dJ2_clear_14 (by decide) ?_
    refine j_aload_n M dJ2_clear_15 0 rfl ?_
    refine j_get M (hup_s _ _ _) rfl 2 (by decide) in_J2 q150 rfl dJ2_clear_16 ?_
    refine j_istore_n M dJ2_clear_19 (by decide) ?_
    refine j_aload_n M dJ2_clear_20 0 rfl ?_
    refine j_iconst M dJ2_clear_21 ?_
    refine j_dup_x1 M dJ2_clear_22 rfl rfl ?_
    refine j_put M (hup_s _ _ _) rfl 2 (by decide) in_J2 tyJ2 tyJ2_ok nmJ2 q150 rfl rfl rfl (Nat.le_of_ble_eq_true rfl) dJ2_clear_23 ?_
    refine j_istore_n M dJ2_clear_26 (by decide) ?_
    refine j_iload_n M dJ2_clear_27 3 rfl ?_
    refine j_iload_n M dJ2_clear_28 2 rfl ?_
    refine j_icmp_ge M 42 dJ2_clear_29 (by decide) (by omega) (fun c_29 => ?_) (fun c_29 => ?_)
    · refine j_vret M dJ2_clear_42 ⟨Nat.le_refl _, Nat.le_refl _⟩ ?_
      refine ⟨rfl, ⟨mc + 1, ?_, Or.inl ⟨e0, rfl⟩⟩, fun z e he z1 z2 => ?_⟩
      · rw [hup_s]; rfl
      · rw [hup_n _ _ z1, hup_n _ _ z1]; exact he
    · omega
  · have n1 : L ≠ el := ne_oa h1 h5
    refine Ct.of (by decide) (Nat.le_of_ble_eq_true rfl) (fun Γ M => ?_)
    refine j_lv (lv' := [(0, .ref L)]) rfl ?_
    have loop : ∀ (j : Nat) (k : Int) (g : Nat → Option Nat), 0 ≤ k → k + j = n → J Γ (hup (hup hp L (eL (mc + 1) el 0)) el (eO X 10 g)) 0 0 27 [(0, .ref L), (1, .ref el), (2, .int (zI n)), (3, .int (zI k))] [] := by
      intro j
      induction j with
      | zero =>
        intro k g k0 k1
        have h9 : hup (hup hp L (eL (mc + 1) el 0)) el (eO X 10 g) el = some (eO X 10 g) := hup_s _ _ _
        refine j_iload_n M dJ2_clear_27 3 rfl ?_
        refine j_iload_n M dJ2_clear_28 2 rfl ?_
        refine j_icmp_ge M 42 dJ2_clear_29 (by decide) (by omega) (fun c_29 => ?_) (fun c_29 => ?_)
        · refine j_vret M dJ2_clear_42 ⟨Nat.le_refl _, Nat.le_refl _⟩ ?_
          refine ⟨rfl, ⟨mc + 1, ?_, Or.inr ⟨by omega, by omega, g, hup_s _ _ _, fun k hk => by omega⟩⟩, ButL.of h5 (fun z z1 z2 => ?_)⟩
          · rw [hup_n _ _ n1, hup_s]
          · rw [hup_n _ _ z2, hup_n _ _ z1]
        · omega
      | succ j ih =>
        intro k g k0 k1
        have h9 : hup (hup hp L (eL (mc + 1) el 0)) el (eO X 10 g) el = some (eO X 10 g) := hup_s _ _ _
        refine j_iload_n M dJ2_clear_27 3 rfl ?_
        refine j_iload_n M dJ2_clear_28 2 rfl ?_
        refine j_icmp_ge M 42 dJ2_clear_29 (by decide) (by omega) (fun c_29 => ?_) (fun c_29 => ?_)
        · omega
        · refine j_aload_n M dJ2_clear_32 1 rfl ?_
          refine j_iload_n M dJ2_clear_33 3 rfl ?_
          refine j_aconst_null M dJ2_clear_34 ?_
          refine j_aastON M h9 (by omega) dJ2_clear_35 ?_
          refine j_hp (hup_hup _ _ _ _) ?_
          refine j_iinc M dJ2_clear_36 3 rfl (by decide) ?_
          refine j_goto M 27 dJ2_clear_39 (by decide) ?_
          exact ih (k + 1) _ (by omega) (by omega)
    refine j_aload_n M dJ2_clear_0 0 rfl ?_
    refine j_dup M dJ2_clear_1 rfl ?_
    refine j_getI M h1 rfl 0 (by decide) in_J2 q152 q153 rfl dJ2_clear_2 ?_
    refine j_iconst M dJ2_clear_5 ?_
    refine j_iadd M dJ2_clear_6 ?_
    refine j_putI M h1 rfl 0 (by decide) in_J2 tyJ2 tyJ2_ok nmJ2 q152 q153 rfl rfl rfl (Nat.le_of_ble_eq_true rfl) dJ2_clear_7 ?_
    refine j_aload_n M dJ2_clear_10 0 rfl ?_
    refine j_get M (hup_s _ _ _) rfl 1 (by decide) in_J2 q149 rfl dJ2_clear_11 ?_
    refine j_astore_n M dJ2_clear_14 (by decide) ?_
    refine j_aload_n M dJ2_clear_15 0 rfl ?_
    refine j_get M (hup_s _ _ _) rfl 2 (by decide) in_J2 q150 rfl dJ2_clear_16 ?_
    refine j_istore_n M dJ2_clear_19 (by decide) ?_
    refine j_aload_n M dJ2_clear_20 0 rfl ?_
    refine j_iconst M dJ2_clear_21 ?_
    refine j_dup_x1 M dJ2_clear_22 rfl rfl ?_
    refine j_put M (hup_s _ _ _) rfl 2 (by decide) in_J2 tyJ2 tyJ2_ok nmJ2 q150 rfl rfl rfl (Nat.le_of_ble_eq_true rfl) dJ2_clear_23 ?_
    refine j_istore_n M dJ2_clear_26 (by decide) ?_
    refine j_hp (hp' := hup (hup hp L (eL (mc + 1) el 0)) el (eO X 10 g)) ?_ (loop n.toNat 0 g (by omega) (by omega))
    rw [hup_hup, hup_id (a := el) (e := eO X 10 g) (by rw [hup_n _ _ (Ne.symm n1)]; exact h5)]; rfl
theorem c_fastRemove (L el : Nat) (mc n : Int) (g : Nat → Option Nat) (h1 : hp L = some (eL mc el n)) (h5 : hp el = some (eO X 10 g)) (hn : 1 ≤ n ∧ n ≤ 10) : Ct l X yJ2_fastRemove cJ2_fastRemove 4 none (rD 0) [.ref L, .ref el, .int (zI (n - 1))] hp (pD none (hup (hup hp L (eL (mc + 1) el (n - 1))) el (eO X 10 (va_up g (n - 1).toNat none)))) := by
  have n1 : L ≠ el := ne_oa h1 h5
  refine Ct.of (by decide) (Nat.le_of_ble_eq_true rfl) (fun Γ M => ?_)
  refine j_lv (lv' := [(0, .ref L), (1, .ref el), (2, .int (zI (n - 1)))]) rfl ?_
  refine j_aload_n M dJ2_fastRemove_0 0 rfl ?_
  refine j_dup M dJ2_fastRemove_1 rfl ?_
  refine j_getI M h1 rfl 0 (by decide) in_J2 q152 q153 rfl dJ2_fastRemove_2 ?_
  refine j_iconst M dJ2_fastRemove_5 ?_
  refine j_iadd M dJ2_fastRemove_6 ?_
  refine j_putI M h1 rfl 0 (by decide) in_J2 tyJ2 tyJ2_ok nmJ2 q152 q153 rfl rfl rfl (Nat.le_of_ble_eq_true rfl) dJ2_fastRemove_7 ?_
  refine j_aload_n M dJ2_fastRemove_10 0 rfl ?_
  refine j_get M (hup_s _ _ _) rfl 2 (by decide) in_J2 q150 rfl dJ2_fastRemove_11 ?_
  refine j_iconst M dJ2_fastRemove_14 ?_
  refine j_isub M dJ2_fastRemove_15 ?_
  refine j_dup M dJ2_fastRemove_16 rfl ?_
  refine j_istore_n M dJ2_fastRemove_17 (by decide) ?_
  refine j_iload_n M dJ2_fastRemove_18 2 rfl ?_
  refine j_icmp_le M 34 dJ2_fastRemove_19 (by decide) (by omega) (fun c_19 => ?_) (fun c_19 => ?_)
  · refine j_aload_n M dJ2_fastRemove_34 1 rfl ?_
    refine j_aload_n M dJ2_fastRemove_35 0 rfl ?_
    refine j_iload_n M dJ2_fastRemove_36 3 rfl ?_
    refine j_dup_x1 M dJ2_fastRemove_37 rfl rfl ?_
    refine j_put M (hup_s _ _ _) rfl 2 (by decide) in_J2 tyJ2 tyJ2_ok nmJ2 q150 rfl rfl rfl (Nat.le_of_ble_eq_true rfl) dJ2_fastRemove_38 ?_
    refine j_aconst_null M dJ2_fastRemove_41 ?_
    refine j_aastON M (by rw [hup_n _ _ (Ne.symm n1), hup_n _ _ (Ne.symm n1)]; exact h5) (by omega) dJ2_fastRemove_42 ?_
    refine j_vret M dJ2_fastRemove_43 ⟨Nat.le_refl _, Nat.le_refl _⟩ ?_
    exact ⟨rfl, by rw [hup_hup]; rfl⟩
  · omega
theorem c_remove (L el : Nat) (n : Int) (r : Nat → Nat) (h : LsA X hp L el n r) (hn1 : 1 ≤ n) : Ct l X yJ2_remove cJ2_remove 4 (some (.object "java/lang/Object")) (rD 2) [.ref L, .int (zI (n - 1))] hp (fun v hp' => v = some (.ref (r (n - 1).toNat)) ∧ LsA X hp' L el (n - 1) r ∧ But2 hp hp' L el) := by
  have hn := h.n
  obtain ⟨mc, h1, h2⟩ := h
  rcases h2 with ⟨e0, h3⟩ | ⟨h3, h4, g, h5, h6⟩
  · omega
  have n1 : L ≠ el := ne_oa h1 h5
  refine Ct.of (by decide) (Nat.le_of_ble_eq_true rfl) (fun Γ M => ?_)
  refine j_lv (lv' := [(0, .ref L), (1, .int (zI (n - 1)))]) rfl ?_
  refine j_iload_n M dJ2_remove_0 1 rfl ?_
  refine j_aload_n M dJ2_remove_1 0 rfl ?_
  refine j_get M h1 rfl 2 (by decide) in_J2 q150 rfl dJ2_remove_2 ?_
  refine j_rV (k_S M (c_checkO l X hp (n - 1) n (by omega) (by omega)) (lw_S q506 q507 q116 q508) ndJ6_checkIndex dJ2_remove_5 ⟨by decide, by decide, by decide, by decide⟩ rfl (Nat.le_of_ble_eq_true rfl)) ?_
  refine j_pop M dJ2_remove_8 rfl ?_
  refine j_aload_n M dJ2_remove_9 0 rfl ?_
  refine j_get M h1 rfl 1 (by decide) in_J2 q149 rfl dJ2_remove_10 ?_
  refine j_astore_n M dJ2_remove_13 (by decide) ?_
  refine j_aload_n M dJ2_remove_14 2 rfl ?_
  refine j_iload_n M dJ2_remove_15 1 rfl ?_
  refine j_aaldO M h5 (by omega) (h6 (n - 1).toNat (by omega)) dJ2_remove_16 ?_
  refine j_astore_n M dJ2_remove_17 (by decide) ?_
  refine j_aload_n M dJ2_remove_18 0 rfl ?_
  refine j_aload_n M dJ2_remove_19 2 rfl ?_
  refine j_iload_n M dJ2_remove_20 1 rfl ?_
  refine j_rN (k_V M (c_fastRemove l X hp L el mc n g h1 h5 (by omega)) (rc_of M h1 rfl) (lw_V q1067 q1069 qs25 q100 q1070) ndJ2_fastRemove dJ2_remove_21 ⟨by decide, by decide, by decide, by decide⟩ rfl (Nat.le_of_ble_eq_true rfl)) ?_
  refine j_aload_n M dJ2_remove_24 3 rfl ?_
  refine j_aret M dJ2_remove_25 (Or.inl ⟨_, rfl⟩) ⟨Nat.le_refl _, Nat.le_refl _⟩ ?_
  refine ⟨rfl, ⟨mc + 1, by rw [hup_n _ _ n1, hup_s], Or.inr ⟨by omega, by omega, _, hup_s _ _ _, fun k hk => ?_⟩⟩, fun z z1 z2 => by rw [hup_n _ _ z2, hup_n _ _ z1]⟩
  rw [va_up_ne _ _ (by omega)]; exact h6 k (by omega)
end C6
