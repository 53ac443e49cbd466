/-! 43: the component: the wheel of a row that is told -/
set_option maxRecDepth 100000
theorem LH.first {m c d e f : Int} {N a : Nat} (hm : 0 < m) (h : First (pTr m c d e f) N a) : LH (fun n : Int => (pTr m c d e f n.toNat).1) ((N : Int) - a) a := by
  have hS : ∀ n, pTr m c d e f (n + 1) = (fun q : Int × Int => (q.2, (c * q.2 + d * q.1) % m)) (pTr m c d e f n) := fun n => rfl
  have hb := h.back (φ := fun q : Int × Int => (q.2, (c * q.2 + d * q.1) % m)) hS
  have hr := h.red (φ := fun q : Int × Int => (q.2, (c * q.2 + d * q.1) % m)) hS
  obtain ⟨h1, h2, h3⟩ := h
  have pair : ∀ {q k : Int}, 0 ≤ q → (∀ n, k ≤ n → (pTr m c d e f (n + q).toNat).1 = (pTr m c d e f n.toNat).1) → ∀ n : Nat, k ≤ n → pTr m c d e f (n + q.toNat) = pTr m c d e f n := by
    intro q k q0 hq n hn
    have e1 := hq n hn
    have e2 := hq (n + 1) (by omega)
    rw [show ((n : Int) + q).toNat = n + q.toNat by omega, show ((n : Int)).toNat = n by omega] at e1
    rw [show ((n : Int) + 1 + q).toNat = n + q.toNat + 1 by omega, show ((n : Int) + 1).toNat = n + 1 by omega, hS, hS] at e2
    exact Prod.ext e1 e2
  refine ⟨by omega, by omega, fun n hn => ?_, fun q hq => ?_, fun k k0 hk => ?_⟩
  · have := hb (n.toNat - a)
    show (pTr m c d e f (n + ((N : Int) - a)).toNat).1 = (pTr m c d e f n.toNat).1
    rw [show (n + ((N : Int) - a)).toNat = N + (n.toNat - a) by omega, this, show a + (n.toNat - a) = n.toNat by omega]
  · obtain ⟨q1, h0, h00, hq2⟩ := hq
    have e1 := pair (by omega) hq2 (a + h0.toNat * (N - a)) (by
      have : h0.toNat * 1 ≤ h0.toNat * (N - a) := Nat.mul_le_mul_left _ (by omega)
      omega)
    have e2 := hr (a + h0.toNat * (N - a)) (by omega)
    have e3 := hr (a + h0.toNat * (N - a) + q.toNat) (by omega)
    rw [show a + h0.toNat * (N - a) - a = h0.toNat * (N - a) by omega, Nat.mul_mod_left] at e2
    rw [show a + h0.toNat * (N - a) + q.toNat - a = q.toNat + h0.toNat * (N - a) by omega, Nat.add_mul_mod_self_right] at e3
    have lt := Nat.mod_lt q.toNat (show 0 < N - a by omega)
    have e4 := h3 _ _ (by omega) (by omega) (e3.symm.trans (e1.trans e2))
    have e5 := Nat.le_of_dvd (show 0 < q.toNat by omega) (Nat.dvd_of_mod_eq_zero (show q.toNat % (N - a) = 0 by omega))
    omega
  · rcases Int.lt_or_le k a with cc | cc
    · have e1 := pair (q := (N : Int) - a) (by omega) hk k.toNat (by omega)
      have := h3 _ _ (by omega) (by omega) e1
      omega
    · exact cc
/-- a wheel is turned: it tells s -/
def wTurn (X : Cx) (hp : Hp) (se sp w : Nat) (sm : Int) (s : Int → Int) (hp' : Hp) : Prop := ∃ g1 g2 : Int → Int, hp' = hup (hup (hup hp se (eI X 100 g1)) sp (eI X 400 g2)) w (eWh sp (pHead s) (pLap s) sm) ∧ wOk g2 (pHead s) (pLap s) s
theorem hup_comm (hp : Hp) {a b : Nat} (e1 e2 : va_E) (h : a ≠ b) : hup (hup hp a e1) b e2 = hup (hup hp b e2) a e1 := by
  funext q; unfold hup
  by_cases h1 : q = a <;> by_cases h2 : q = b <;> simp_all
theorem ne_ln {hp : Hp} {X : Cx} {a b m n : Nat} {g1 g2 : Int → Int} (h1 : hp a = some (eI X m g1)) (h2 : hp b = some (eI X n g2)) (h : m ≠ n) : a ≠ b := fun e => by
  rw [e, h2] at h1
  exact h (congrArg (fun z : Option va_E => match z with | some (.inl y) => y.2.1 | _ => 0) h1).symm
section C4
variable (l : Launch) (X : Cx) (hp : Hp) (a : Nat) (c d e f : Int)
theorem c_turnX5 (x w se sp : Nat) (m hd0 lp0 sm : Int) (fs : List Value) (g0 g1 : Int → Int) (hm2 : 2 ≤ m ∧ m ≤ 10) (ha : hp a = some (eX5 c d e f)) (hc : -9 ≤ c ∧ c ≤ 9) (hd : -9 ≤ d ∧ d ≤ 9) (he : r32 e) (hf : r32 f) (hx : hp x = some (.inr (0, fs))) (hfs : fs[2]? = some (.ref se)) (hse : hp se = some (eI X 100 g0)) (hw : hp w = some (eWh sp hd0 lp0 sm)) (hsp : hp sp = some (eI X 400 g1)) :
    Ct l X yX5_turn cX5_turn 9 none (rD 1) [.ref a, .ref x, .int (zI m), .ref w] hp (fun r hp' => r = none ∧ wTurn X hp se sp w sm (fun n => (pTr m c d e f n.toNat).1) hp') := by
  have hS : ∀ n, pTr m c d e f (n + 1) = (fun q : Int × Int => (q.2, (c * q.2 + d * q.1) % m)) (pTr m c d e f n) := fun n => rfl
  have hE := pE_r m
  have hper := pTr_per hm2 c d e f
  have hrg := pTr_r (show 0 < m by omega) c d e f
  have n1 : se ≠ sp := ne_ln hse hsp (by decide)
  have n2 : a ≠ se := ne_oa ha hse
  have n3 : a ≠ sp := ne_oa ha hsp
  have n4 : w ≠ se := ne_oa hw hse
  have n5 : w ≠ sp := ne_oa hw hsp
  have HSE : ∀ {q1 q2 : Int → Int}, hup (hup hp se (eI X 100 q1)) sp (eI X 400 q2) se = some (eI X 100 q1) := by intro q1 q2; rw [hup_n _ _ n1, hup_s]
  have HSP : ∀ {q1 q2 : Int → Int}, hup (hup hp se (eI X 100 q1)) sp (eI X 400 q2) sp = some (eI X 400 q2) := by intro q1 q2; rw [hup_s]
  have HW : ∀ {q1 q2 : Int → Int}, hup (hup hp se (eI X 100 q1)) sp (eI X 400 q2) w = some (eWh sp hd0 lp0 sm) := by intro q1 q2; rw [hup_n _ _ n5, hup_n _ _ n4]; exact hw
  have HA : ∀ {q1 q2 : Int → Int}, hup (hup hp se (eI X 100 q1)) sp (eI X 400 q2) a = some (eX5 c d e f) := by intro q1 q2; rw [hup_n _ _ n3, hup_n _ _ n2]; exact ha
  have HU : ∀ {q1 q2 q3 : Int → Int}, hup (hup (hup hp se (eI X 100 q1)) sp (eI X 400 q2)) se (eI X 100 q3) = hup (hup hp se (eI X 100 q3)) sp (eI X 400 q2) := by intro q1 q2 q3; rw [hup_comm _ _ _ (Ne.symm n1), hup_hup]
  have H0 : hup (hup hp se (eI X 100 g0)) sp (eI X 400 g1) = hp := by rw [hup_id hse, hup_id hsp]
  refine Ct.of (by decide) (Nat.le_of_ble_eq_true rfl) (fun Γ M => ?_)
  refine j_lv (lv' := [(0, .ref a), (1, .ref x), (2, .int (zI m)), (3, .ref w)]) rfl ?_
  have loop2 : ∀ (u n : Nat) (q1 q2 : Int → Int) (ls : List (Nat × Value)), u = 400 - n → (n : Int) ≤ 6 + pE m → (∀ j k, j < n → k < n → pTr m c d e f j = pTr m c d e f k → j = k) →
      (∀ x y, 0 ≤ x → x < m → 0 ≤ y → y < m → (q1 (m * x + y) = 2000000001 ∧ ∀ j, j < n → pTr m c d e f j ≠ (x, y)) ∨ ∃ j : Nat, j < n ∧ pTr m c d e f j = (x, y) ∧ q1 (m * x + y) = j) →
      (∀ j : Nat, j < n → q2 j = (pTr m c d e f j).1) →
      J Γ (hup (hup hp se (eI X 100 q1)) sp (eI X 400 q2)) 0 0 52 ([(0, .ref a), (1, .ref x), (2, .int (zI m)), (3, .ref w), (4, .ref se), (5, .int (zI (pTr m c d e f n).1)), (6, .int (zI (pTr m c d e f n).2)), (7, .int (zI n))] ++ ls) [] := by
    intro u
    induction u using Nat.strongRecOn with
    | _ u ih =>
      intro n q1 q2 ls hu hn hdis hmet h18
      refine j_loc (lv' := [(0, .ref a), (1, .ref x), (2, .int (zI m)), (3, .ref w), (4, .ref se), (5, .int (zI (pTr m c d e f n).1)), (6, .int (zI (pTr m c d e f n).2)), (7, .int (zI n))]) [0, 1, 2, 3, 4, 5, 6, 7] rfl ?_
      have hr := hrg n
      have hx0 : 0 ≤ m * (pTr m c d e f n).1 := Int.mul_nonneg (by omega) (by omega)
      have hx1 : m * (pTr m c d e f n).1 ≤ m * (m - 1) := Int.mul_le_mul_of_nonneg_left (by omega) (by omega)
      have hx2 : m * (m - 1) ≤ 10 * (m - 1) := Int.mul_le_mul_of_nonneg_right (by omega) (by omega)
      have hmt := hmet _ _ hr.1.1 hr.1.2 hr.2.1 hr.2.2
      refine j_aload M dX5_turn_52 4 rfl ?_
      refine j_iload_n M dX5_turn_54 2 rfl ?_
      refine j_iload M dX5_turn_55 5 rfl ?_
      refine j_imul M dX5_turn_57 ?_
      refine j_iload M dX5_turn_58 6 rfl ?_
      refine j_iadd M dX5_turn_60 ?_
      refine j_iald M HSE (by omega) dX5_turn_61 ?_
      refine j_ldc M (2000000001) q837 (by decide) dX5_turn_62 ?_
      refine j_icmp_ne M 123 dX5_turn_64 (by decide) (by rcases hmt with q | ⟨j, j1, j2, j3⟩ <;> omega) (fun c_64 => ?_) (fun c_64 => ?_)
      · obtain ⟨a', a1, a2, a3⟩ : ∃ j : Nat, j < n ∧ pTr m c d e f j = ((pTr m c d e f n).1, (pTr m c d e f n).2) ∧ q1 (m * (pTr m c d e f n).1 + (pTr m c d e f n).2) = j := by rcases hmt with q | q; exact absurd q.1 c_64; exact q
        have hF : First (pTr m c d e f) n a' := ⟨a1, a2.symm, hdis⟩
        have hB := hF.bound (φ := fun q : Int × Int => (q.2, (c * q.2 + d * q.1) % m)) hS (T := 6) (E := (pE m).toNat) (by omega) hper
        have hLH := LH.first (show 0 < m by omega) hF
        obtain ⟨l1, l2⟩ := hLH.eq
        refine j_aload_n M dX5_turn_123 3 rfl ?_
        refine j_aload M dX5_turn_124 4 rfl ?_
        refine j_iload_n M dX5_turn_126 2 rfl ?_
        refine j_iload M dX5_turn_127 5 rfl ?_
        refine j_imul M dX5_turn_129 ?_
        refine j_iload M dX5_turn_130 6 rfl ?_
        refine j_iadd M dX5_turn_132 ?_
        refine j_iald M HSE (by omega) dX5_turn_133 ?_
        refine j_put M HW rfl 1 (by decide) in_X1 tyX1 tyX1_ok nmX1 q175 rfl rfl rfl (Nat.le_of_ble_eq_true rfl) dX5_turn_134 ?_
        refine j_aload_n M dX5_turn_137 3 rfl ?_
        refine j_iload M dX5_turn_138 7 rfl ?_
        refine j_aload_n M dX5_turn_140 3 rfl ?_
        refine j_get M (hup_s _ _ _) rfl 1 (by decide) in_X1 q175 rfl dX5_turn_141 ?_
        refine j_isub M dX5_turn_144 ?_
        refine j_put M (hup_s _ _ _) rfl 2 (by decide) in_X1 tyX1 tyX1_ok nmX1 q182 rfl rfl rfl (Nat.le_of_ble_eq_true rfl) dX5_turn_145 ?_
        refine j_vret M dX5_turn_148 ⟨Nat.le_refl _, Nat.le_refl _⟩ ?_
        refine ⟨rfl, q1, q2, ?_, ?_⟩
        · rw [hup_hup, l1, l2, a3]; rfl
        · rw [l1, l2]
          refine ⟨⟨by omega, by omega, hLH.2.2.1⟩, by omega, fun k k0 k1 => ?_, fun k => ?_⟩
          · have := h18 k.toNat (by omega)
            rw [Int.toNat_of_nonneg k0] at this
            exact this
          · have := hrg k.toNat; show 0 ≤ (pTr m c d e f k.toNat).1 ∧ (pTr m c d e f k.toNat).1 < 10; omega
      · have hfresh : ∀ j, j < n → pTr m c d e f j ≠ pTr m c d e f n := by rcases hmt with q | ⟨j, j1, j2, j3⟩; exact q.2; omega
        have hn2 : (n : Int) < 6 + pE m := by
          rcases (show (n : Int) < 6 + pE m ∨ n = 6 + (pE m).toNat by omega) with q | q
          · exact q
          · exact absurd (by rw [q]; exact hper.symm) (hfresh 6 (by omega))
        have b1 := mul_bd 9 10 (a := c) (b := (pTr m c d e f n).2) hc (by omega)
        have b2 := mul_bd 9 10 (a := d) (b := (pTr m c d e f n).1) hd (by omega)
        refine j_aload M dX5_turn_67 4 rfl ?_
        refine j_iload_n M dX5_turn_69 2 rfl ?_
        refine j_iload M dX5_turn_70 5 rfl ?_
        refine j_imul M dX5_turn_72 ?_
        refine j_iload M dX5_turn_73 6 rfl ?_
        refine j_iadd M dX5_turn_75 ?_
        refine j_iload M dX5_turn_76 7 rfl ?_
        refine j_iast M HSE (by omega) dX5_turn_78 ?_
        refine j_hp HU ?_
        refine j_aload_n M dX5_turn_79 3 rfl ?_
        refine j_get M HW rfl 0 (by decide) in_X1 q171 rfl dX5_turn_80 ?_
        refine j_iload M dX5_turn_83 7 rfl ?_
        refine j_iload M dX5_turn_85 5 rfl ?_
        refine j_iast M HSP (by omega) dX5_turn_87 ?_
        refine j_hp (hup_hup _ _ _ _) ?_
        refine j_aload_n M dX5_turn_88 0 rfl ?_
        refine j_get M HA rfl 0 (by decide) in_X5 q325 rfl dX5_turn_89 ?_
        refine j_iload M dX5_turn_92 6 rfl ?_
        refine j_imul M dX5_turn_94 ?_
        refine j_aload_n M dX5_turn_95 0 rfl ?_
        refine j_get M HA rfl 1 (by decide) in_X5 q330 rfl dX5_turn_96 ?_
        refine j_iload M dX5_turn_99 5 rfl ?_
        refine j_imul M dX5_turn_101 ?_
        refine j_iadd M dX5_turn_102 ?_
        refine j_iload_n M dX5_turn_103 2 rfl ?_
        refine j_rV (k_S M (c_floorMod l X _ _ _ (by omega) (by omega)) (lw_S q838 q814 q113 q815) ndJ4_floorMod dX5_turn_104 ⟨by decide, by decide, by decide, by decide⟩ rfl (Nat.le_of_ble_eq_true rfl)) ?_
        refine j_istore M dX5_turn_107 (by decide) ?_
        refine j_iload M dX5_turn_109 6 rfl ?_
        refine j_istore M dX5_turn_111 (by decide) ?_
        refine j_iload M dX5_turn_113 8 rfl ?_
        refine j_istore M dX5_turn_115 (by decide) ?_
        refine j_iinc M dX5_turn_117 7 rfl (by decide) ?_
        refine j_goto M 52 dX5_turn_120 (by decide) ?_
        refine ih (400 - (n + 1)) (by omega) (n + 1) _ _ [(8, .int (zI ((c * (pTr m c d e f n).2 + d * (pTr m c d e f n).1) % m)))] rfl (by omega) ?_ ?_ ?_
        · intro j k j1 k1 ejk
          rcases (show j < n ∨ j = n by omega) with q | q
          · rcases (show k < n ∨ k = n by omega) with w2 | w2
            · exact hdis j k q w2 ejk
            · rw [w2] at ejk; exact absurd ejk (hfresh j q)
          · rcases (show k < n ∨ k = n by omega) with w2 | w2
            · rw [q] at ejk; exact absurd ejk.symm (hfresh k w2)
            · omega
        · intro x y x0 x1 y0 y1
          by_cases exy : pTr m c d e f n = (x, y)
          · right
            refine ⟨n, by omega, exy, ?_⟩
            rw [exy]; exact upA_s _ _ _
          · have hne : m * x + y ≠ m * (pTr m c d e f n).1 + (pTr m c d e f n).2 := fun q => exy (by
              have q1 : x = (pTr m c d e f n).1 := mx_inj (by omega) ⟨y0, y1⟩ hr.2 q
              exact Prod.ext q1.symm (by rw [q1] at q; show (pTr m c d e f n).2 = y; omega))
            rw [upA_n _ _ hne]
            rcases hmet x y x0 x1 y0 y1 with q | ⟨j, j1, j2, j3⟩
            · left
              refine ⟨q.1, fun j hj => ?_⟩
              rcases (show j < n ∨ j = n by omega) with w2 | w2
              · exact q.2 j w2
              · rw [w2]; exact exy
            · right; exact ⟨j, by omega, j2, j3⟩
        · intro j hj
          rcases (show j < n ∨ j = n by omega) with w2 | w2
          · rw [upA_n _ _ (by omega)]; exact h18 j w2
          · rw [w2, upA_s]
  have loop1 : ∀ (u : Nat) (k : Int) (q1 : Int → Int), u = (100 - k).toNat → 0 ≤ k ∧ k ≤ 100 → (∀ j, 0 ≤ j → j < k → q1 j = 2000000001) → J Γ (hup (hup hp se (eI X 100 q1)) sp (eI X 400 g1)) 0 0 9 [(0, .ref a), (1, .ref x), (2, .int (zI m)), (3, .ref w), (4, .ref se), (5, .int (zI k))] [] := by
    intro u
    induction u using Nat.strongRecOn with
    | _ u ih =>
      intro k q1 hu hk hg
      refine j_iload M dX5_turn_9 5 rfl ?_
      refine j_bipush M dX5_turn_11 (by decide) ?_
      refine j_icmp_ge M 29 dX5_turn_13 (by decide) (by omega) (fun c_13 => ?_) (fun c_13 => ?_)
      · refine j_aload_n M dX5_turn_29 0 rfl ?_
        refine j_get M HA rfl 2 (by decide) in_X5 q335 rfl dX5_turn_30 ?_
        refine j_iload_n M dX5_turn_33 2 rfl ?_
        refine j_rV (k_S M (c_floorMod l X _ _ _ he (by omega)) (lw_S q838 q814 q113 q815) ndJ4_floorMod dX5_turn_34 ⟨by decide, by decide, by decide, by decide⟩ rfl (Nat.le_of_ble_eq_true rfl)) ?_
        refine j_istore M dX5_turn_37 (by decide) ?_
        refine j_aload_n M dX5_turn_39 0 rfl ?_
        refine j_get M HA rfl 3 (by decide) in_X5 q337 rfl dX5_turn_40 ?_
        refine j_iload_n M dX5_turn_43 2 rfl ?_
        refine j_rV (k_S M (c_floorMod l X _ _ _ hf (by omega)) (lw_S q838 q814 q113 q815) ndJ4_floorMod dX5_turn_44 ⟨by decide, by decide, by decide, by decide⟩ rfl (Nat.le_of_ble_eq_true rfl)) ?_
        refine j_istore M dX5_turn_47 (by decide) ?_
        refine j_iconst M dX5_turn_49 ?_
        refine j_istore M dX5_turn_50 (by decide) ?_
        refine loop2 400 0 _ _ [] rfl (by omega) (fun j k j1 => by omega) ?_ (fun j j1 => by omega)
        intro x y x0 x1 y0 y1
        left
        refine ⟨?_, fun j j1 => by omega⟩
        have z1 : m * x ≤ m * (m - 1) := Int.mul_le_mul_of_nonneg_left (by omega) (by omega)
        have z0 : 0 ≤ m * x := Int.mul_nonneg (by omega) x0
        have z2 : m * (m - 1) ≤ 10 * (m - 1) := Int.mul_le_mul_of_nonneg_right (by omega) (by omega)
        exact hg _ (by omega) (by omega)
      · refine j_aload M dX5_turn_16 4 rfl ?_
        refine j_iload M dX5_turn_18 5 rfl ?_
        refine j_ldc M (2000000001) q837 (by decide) dX5_turn_20 ?_
        refine j_iast M HSE (by omega) dX5_turn_22 ?_
        refine j_hp HU ?_
        refine j_iinc M dX5_turn_23 5 rfl (by decide) ?_
        refine j_goto M 9 dX5_turn_26 (by decide) ?_
        refine ih _ (by omega) (k + 1) _ rfl (by omega) (fun j j0 j1 => ?_)
        by_cases ej : j = k
        · rw [ej, upA_s]
        · rw [upA_n _ _ ej]; exact hg j j0 (by omega)
  refine j_aload_n M dX5_turn_0 1 rfl ?_
  refine j_getN M hx rfl 2 (by decide) in_X0 q200 hfs dX5_turn_1 ?_
  refine j_astore M dX5_turn_4 (by decide) ?_
  refine j_iconst M dX5_turn_6 ?_
  refine j_istore M dX5_turn_7 (by decide) ?_
  exact j_hp H0.symm (loop1 _ 0 _ rfl (by omega) (fun j j0 j1 => by omega))
end C4
