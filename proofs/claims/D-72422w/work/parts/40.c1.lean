/-! 40: the component: small things; wheels -/
set_option maxRecDepth 100000
theorem c_in (l : Launch) (X : Cx) (hp : Hp) (v a b : Int) (h : r32 v ∧ r32 a ∧ r32 b) : CS l X yX0_in cX0_in 3 (some .boolean) 0 [.int (zI v), .int (zI a), .int (zI b)] hp (some (.int (zB (decide (a ≤ v ∧ v ≤ b))))) := by
  refine Ct.of (by decide) (Nat.le_of_ble_eq_true rfl) (fun Γ M => ?_)
  refine j_lv (lv' := [(0, .int (zI v)), (1, .int (zI a)), (2, .int (zI b))]) rfl ?_
  refine j_iload_n M dX0_in_0 0 rfl ?_
  refine j_iload_n M dX0_in_1 1 rfl ?_
  refine j_icmp_lt M 14 dX0_in_2 (by decide) (by omega) (fun c_2 => ?_) (fun c_2 => ?_)
  · refine j_iconst M dX0_in_14 ?_
    refine j_bool false rfl ?_
    refine j_zret M dX0_in_15 ⟨Nat.le_refl _, Nat.le_refl _⟩ ?_
    first | exact pzT (by omega) | exact pzF (by omega)
  · refine j_iload_n M dX0_in_5 0 rfl ?_
    refine j_iload_n M dX0_in_6 2 rfl ?_
    refine j_icmp_gt M 14 dX0_in_7 (by decide) (by omega) (fun c_7 => ?_) (fun c_7 => ?_)
    · refine j_iconst M dX0_in_14 ?_
      refine j_bool false rfl ?_
      refine j_zret M dX0_in_15 ⟨Nat.le_refl _, Nat.le_refl _⟩ ?_
      first | exact pzT (by omega) | exact pzF (by omega)
    · refine j_iconst M dX0_in_10 ?_
      refine j_goto M 15 dX0_in_11 (by decide) ?_
      refine j_bool true rfl ?_
      refine j_zret M dX0_in_15 ⟨Nat.le_refl _, Nat.le_refl _⟩ ?_
      first | exact pzT (by omega) | exact pzF (by omega)
theorem c_isSmall (l : Launch) (X : Cx) (hp : Hp) (v : Int) (h : r64 v) : CS l X yX0_isSmall cX0_isSmall 2 (some .boolean) 0 [.long (zL v)] hp (some (.int (zB (decide (-9 ≤ v ∧ v ≤ 9))))) := by
  refine Ct.of (by decide) (Nat.le_of_ble_eq_true rfl) (fun Γ M => ?_)
  refine j_lv (lv' := [(0, .long (zL v))]) rfl ?_
  refine j_lload_n M dX0_isSmall_0 0 rfl ?_
  refine j_ldc2 M (-9) q1017 (by decide) dX0_isSmall_1 ?_
  refine j_lcmp_lt M 20 dX0_isSmall_4 dX0_isSmall_5 (by decide) (by omega) (fun c_4 => ?_) (fun c_4 => ?_)
  · refine j_iconst M dX0_isSmall_20 ?_
    refine j_bool false rfl ?_
    refine j_zret M dX0_isSmall_21 ⟨Nat.le_refl _, Nat.le_refl _⟩ ?_
    first | exact pzT (by omega) | exact pzF (by omega)
  · refine j_lload_n M dX0_isSmall_8 0 rfl ?_
    refine j_ldc2 M (9) q1018 (by decide) dX0_isSmall_9 ?_
    refine j_lcmp_gt M 20 dX0_isSmall_12 dX0_isSmall_13 (by decide) (by omega) (fun c_12 => ?_) (fun c_12 => ?_)
    · refine j_iconst M dX0_isSmall_20 ?_
      refine j_bool false rfl ?_
      refine j_zret M dX0_isSmall_21 ⟨Nat.le_refl _, Nat.le_refl _⟩ ?_
      first | exact pzT (by omega) | exact pzF (by omega)
    · refine j_iconst M dX0_isSmall_16 ?_
      refine j_goto M 21 dX0_isSmall_17 (by decide) ?_
      refine j_bool true rfl ?_
      refine j_zret M dX0_isSmall_21 ⟨Nat.le_refl _, Nat.le_refl _⟩ ?_
      first | exact pzT (by omega) | exact pzF (by omega)
theorem c_isWide (l : Launch) (X : Cx) (hp : Hp) (v : Int) (h : r64 v) : CS l X yX0_isWide cX0_isWide 2 (some .boolean) 0 [.long (zL v)] hp (some (.int (zB (decide (-999 ≤ v ∧ v ≤ 999))))) := by
  refine Ct.of (by decide) (Nat.le_of_ble_eq_true rfl) (fun Γ M => ?_)
  refine j_lv (lv' := [(0, .long (zL v))]) rfl ?_
  refine j_lload_n M dX0_isWide_0 0 rfl ?_
  refine j_ldc2 M (-999) q1022 (by decide) dX0_isWide_1 ?_
  refine j_lcmp_lt M 20 dX0_isWide_4 dX0_isWide_5 (by decide) (by omega) (fun c_4 => ?_) (fun c_4 => ?_)
  · refine j_iconst M dX0_isWide_20 ?_
    refine j_bool false rfl ?_
    refine j_zret M dX0_isWide_21 ⟨Nat.le_refl _, Nat.le_refl _⟩ ?_
    first | exact pzT (by omega) | exact pzF (by omega)
  · refine j_lload_n M dX0_isWide_8 0 rfl ?_
    refine j_ldc2 M (999) q1023 (by decide) dX0_isWide_9 ?_
    refine j_lcmp_gt M 20 dX0_isWide_12 dX0_isWide_13 (by decide) (by omega) (fun c_12 => ?_) (fun c_12 => ?_)
    · refine j_iconst M dX0_isWide_20 ?_
      refine j_bool false rfl ?_
      refine j_zret M dX0_isWide_21 ⟨Nat.le_refl _, Nat.le_refl _⟩ ?_
      first | exact pzT (by omega) | exact pzF (by omega)
    · refine j_iconst M dX0_isWide_16 ?_
      refine j_goto M 21 dX0_isWide_17 (by decide) ?_
      refine j_bool true rfl ?_
      refine j_zret M dX0_isWide_21 ⟨Nat.le_refl _, Nat.le_refl _⟩ ?_
      first | exact pzT (by omega) | exact pzF (by omega)
theorem c_isBy (l : Launch) (X : Cx) (hp : Hp) (v : Int) (h : r32 v) : CS l X yX0_isBy cX0_isBy 1 (some .boolean) 1 [.int (zI v)] hp (some (.int (zB (decide (2 ≤ v ∧ v ≤ 10))))) := by
  refine Ct.of (by decide) (Nat.le_of_ble_eq_true rfl) (fun Γ M => ?_)
  refine j_lv (lv' := [(0, .int (zI v))]) rfl ?_
  refine j_iload_n M dX0_isBy_0 0 rfl ?_
  refine j_iconst M dX0_isBy_1 ?_
  refine j_bipush M dX0_isBy_2 (by decide) ?_
  refine j_rV (k_S M (c_in l X _ _ _ _ ⟨h, by decide, by decide⟩) (lw_S q250 q251 q97 q252) ndX0_in dX0_isBy_4 ⟨by decide, by decide, by decide, by decide⟩ rfl (Nat.le_of_ble_eq_true rfl)) ?_
  refine j_zret M dX0_isBy_7 ⟨Nat.le_refl _, Nat.le_refl _⟩ ?_
  exact ⟨rfl, rfl⟩
theorem c_gcd (l : Launch) (X : Cx) (hp : Hp) (a b : Int) (ha : 0 ≤ a ∧ a < 2147483648) (hb : 0 ≤ b ∧ b < 2147483648) : CS l X yX0_gcd cX0_gcd 5 (some .int) 0 [.int (zI a), .int (zI b)] hp (some (.int (zI (pGcd a b)))) := by
  refine Ct.of (by decide) (Nat.le_of_ble_eq_true rfl) (fun Γ M => ?_)
  refine j_lv (lv' := [(0, .int (zI a)), (1, .int (zI b))]) rfl ?_
  have loop : ∀ (n : Nat) (x y : Int), n = y.toNat → (0 ≤ x ∧ x < 2147483648) → (0 ≤ y ∧ y < 2147483648) → pGcd x y = pGcd a b → ∀ ls : List (Nat × Value),
      J Γ hp 0 0 4 ([(0, .int (zI a)), (1, .int (zI b)), (2, .int (zI x)), (3, .int (zI y))] ++ ls) [] := by
    intro n
    induction n using Nat.strongRecOn with
    | _ n ih =>
      intro x y hn hx hy hg ls
      refine j_loc (lv' := [(0, .int (zI a)), (1, .int (zI b)), (2, .int (zI x)), (3, .int (zI y))]) [0, 1, 2, 3] rfl ?_
      refine j_iload_n M dX0_gcd_4 3 rfl ?_
      refine j_if_eq M 21 dX0_gcd_5 (by decide) (by omega) (fun c_5 => ?_) (fun c_5 => ?_)
      · refine j_iload_n M dX0_gcd_21 2 rfl ?_
        refine j_iret M dX0_gcd_22 ⟨Nat.le_refl _, Nat.le_refl _⟩ ?_
        refine ⟨?_, rfl⟩
        rw [← hg, c_5, show pGcd x 0 = x by unfold pGcd; simp; omega]
      · refine j_iload_n M dX0_gcd_8 2 rfl ?_
        refine j_iload_n M dX0_gcd_9 3 rfl ?_
        refine j_iremE M dX0_gcd_10 (by omega) (by omega) ?_
        have m1 := Int.emod_nonneg x (show y ≠ 0 by omega)
        have m2 := Int.emod_lt_of_pos x (show 0 < y by omega)
        refine j_istore M dX0_gcd_11 (by decide) ?_
        refine j_iload_n M dX0_gcd_13 3 rfl ?_
        refine j_istore_n M dX0_gcd_14 (by decide) ?_
        refine j_iload M dX0_gcd_15 4 rfl ?_
        refine j_istore_n M dX0_gcd_17 (by decide) ?_
        refine j_goto M 4 dX0_gcd_18 (by decide) ?_
        refine ih (x % y).toNat (by omega) y (x % y) rfl (by omega) (by omega) ?_ [(4, .int (zI (x % y)))]
        rw [← hg]; unfold pGcd
        rw [Int.toNat_emod (by omega) (by omega)]
        conv => rhs; rw [Nat.gcd_comm, Nat.gcd_rec, Nat.gcd_comm]
  refine j_iload_n M dX0_gcd_0 0 rfl ?_
  refine j_istore_n M dX0_gcd_1 (by decide) ?_
  refine j_iload_n M dX0_gcd_2 1 rfl ?_
  refine j_istore_n M dX0_gcd_3 (by decide) ?_
  exact loop _ a b rfl ha hb rfl []
theorem c_near (l : Launch) (X : Cx) (hp : Hp) (v : Int) (h : r64 v) : CS l X yX4_near cX4_near 2 (some .long) 0 [.long (zL v)] hp (some (.long (zL (pNear v)))) := by
  refine Ct.of (by decide) (Nat.le_of_ble_eq_true rfl) (fun Γ M => ?_)
  refine j_lv (lv' := [(0, .long (zL v))]) rfl ?_
  refine j_lload_n M dX4_near_0 0 rfl ?_
  refine j_ldc2 M (1000000000) q734 (by decide) dX4_near_1 ?_
  refine j_lcmp_gt M 16 dX4_near_4 dX4_near_5 (by decide) (by omega) (fun c_4 => ?_) (fun c_4 => ?_)
  · refine j_ldc2 M (2000000002) q736 (by decide) dX4_near_16 ?_
    refine j_goto M 23 dX4_near_19 (by decide) ?_
    refine j_lret M dX4_near_23 ⟨Nat.le_refl _, Nat.le_refl _⟩ ?_
    exact ⟨by unfold pNear; first | rw [if_pos (by omega)] | rw [if_neg (by omega)], rfl⟩
  · refine j_lload_n M dX4_near_8 0 rfl ?_
    refine j_ldc2 M (-1000000000) q735 (by decide) dX4_near_9 ?_
    refine j_lcmp_ge M 22 dX4_near_12 dX4_near_13 (by decide) (by omega) (fun c_12 => ?_) (fun c_12 => ?_)
    · refine j_lload_n M dX4_near_22 0 rfl ?_
      refine j_lret M dX4_near_23 ⟨Nat.le_refl _, Nat.le_refl _⟩ ?_
      exact ⟨by unfold pNear; first | rw [if_pos (by omega)] | rw [if_neg (by omega)], rfl⟩
    · refine j_ldc2 M (2000000002) q736 (by decide) dX4_near_16 ?_
      refine j_goto M 23 dX4_near_19 (by decide) ?_
      refine j_lret M dX4_near_23 ⟨Nat.le_refl _, Nat.le_refl _⟩ ?_
      exact ⟨by unfold pNear; first | rw [if_pos (by omega)] | rw [if_neg (by omega)], rfl⟩
theorem ne_oa {hp : Hp} {a b : Nat} {x : Nat × List Value} {y : ClassId × vp_A} (h1 : hp a = some (.inr x)) (h2 : hp b = some (.inl y)) : a ≠ b := fun e => by rw [e, h2] at h1; cases h1
theorem hup_hup (hp : Hp) (a : Nat) (e e' : va_E) : hup (hup hp a e) a e' = hup hp a e' := by
  funext q; unfold hup; by_cases h : q = a <;> simp [h]
theorem hup_id {hp : Hp} {a : Nat} {e : va_E} (h : hp a = some e) : hup hp a e = hp := by
  funext q; unfold hup; by_cases h2 : q = a
  · rw [if_pos h2, h2, h]
  · rw [if_neg h2]
/-- a wheel's fields -/
abbrev wf (sp : Nat) (hd lp sm : Int) : List Value := [.ref sp, .int (zI hd), .int (zI lp), .int (zI sm)]
abbrev eWh (sp : Nat) (hd lp sm : Int) : va_E := .inr (1, wf sp hd lp sm)
/-- the wheel tells s -/
def wOk (g : Int → Int) (hd lp : Int) (s : Int → Int) : Prop := Per s hd lp ∧ hd + lp ≤ 400 ∧ (∀ k, 0 ≤ k → k < hd + lp → g k = s k) ∧ ∀ k, 0 ≤ s k ∧ s k < 10
theorem Per.divs {s : Int → Int} {H L : Int} (hp : Per s H L) : pLap s ∣ L := by
  obtain ⟨⟨h1, h2, h3, h4, h5⟩, h6, h7⟩ := hp.least
  have hL := hp.2.1
  have hH := hp.1
  have m1 := Int.emod_nonneg L (show pLap s ≠ 0 by omega)
  have m2 := Int.emod_lt_of_pos L (show 0 < pLap s by omega)
  have m3 := Int.mul_ediv_add_emod L (pLap s)
  by_cases c : L % pLap s = 0
  · exact Int.dvd_of_emod_eq_zero c
  · have q0 : 0 ≤ L / pLap s := Int.ediv_nonneg (by omega) (by omega)
    have pp : Per s (pHead s) (pLap s) := ⟨h2, by omega, h3⟩
    have := h4 (L % pLap s) ⟨by omega, H, hH, fun n hn => by
      have e1 := pp.mul (L / pLap s).toNat (n + L % pLap s) (by omega)
      rw [Int.toNat_of_nonneg q0, Int.mul_comm, Int.add_assoc, Int.add_comm (L % pLap s), m3] at e1
      rw [← e1]; exact hp.2.2 n hn⟩
    omega
theorem wOk.less {g : Int → Int} {hd lp : Int} {s : Int → Int} (h : wOk g hd lp s) : wOk g (pHead s) (pLap s) s := by
  obtain ⟨h1, h2, h3, h4⟩ := h
  obtain ⟨⟨q1, q2, q3, q4, q5⟩, q6, q7⟩ := h1.least
  exact ⟨⟨q2, by omega, q3⟩, by omega, fun k k0 k1 => h3 k k0 (by omega), h4⟩
theorem c_at (l : Launch) (X : Cx) (hp : Hp) (w sp : Nat) (hd lp sm n : Int) (g s : Int → Int) (hw : hp w = some (eWh sp hd lp sm)) (hs : hp sp = some (eI X 400 g)) (hn : 0 ≤ n ∧ n < 4611686018427387904) (h : wOk g hd lp s) : CS l X yX1_at cX1_at 3 (some .int) 0 [.ref w, .long (zL n)] hp (some (.int (zI (s n)))) := by
  obtain ⟨h1, h2, h3, h4⟩ := h
  have h11 := h1.1
  have h12 := h1.2.1
  have hat := h1.at hn.1
  refine Ct.of (by decide) (Nat.le_of_ble_eq_true rfl) (fun Γ M => ?_)
  refine j_lv (lv' := [(0, .ref w), (1, .long (zL n))]) rfl ?_
  refine j_aload_n M dX1_at_0 0 rfl ?_
  refine j_get M hw rfl 0 (by decide) in_X1 q168 rfl dX1_at_1 ?_
  refine j_lload_n M dX1_at_4 1 rfl ?_
  refine j_aload_n M dX1_at_5 0 rfl ?_
  refine j_get M hw rfl 1 (by decide) in_X1 q172 rfl dX1_at_6 ?_
  refine j_i2l M dX1_at_9 (by omega) ?_
  refine j_lcmp_ge M 19 dX1_at_10 dX1_at_11 (by decide) (by omega) (fun c_10 => ?_) (fun c_10 => ?_)
  · refine j_aload_n M dX1_at_19 0 rfl ?_
    refine j_get M hw rfl 1 (by decide) in_X1 q172 rfl dX1_at_20 ?_
    refine j_lload_n M dX1_at_23 1 rfl ?_
    refine j_aload_n M dX1_at_24 0 rfl ?_
    refine j_get M hw rfl 1 (by decide) in_X1 q172 rfl dX1_at_25 ?_
    refine j_i2l M dX1_at_28 (by omega) ?_
    refine j_lsub M dX1_at_29 ?_
    refine j_aload_n M dX1_at_30 0 rfl ?_
    refine j_get M hw rfl 2 (by decide) in_X1 q177 rfl dX1_at_31 ?_
    refine j_i2l M dX1_at_34 (by omega) ?_
    have m1 := Int.emod_nonneg (n - hd) (show lp ≠ 0 by omega)
    have m2 := Int.emod_lt_of_pos (n - hd) h12
    refine j_lremE M dX1_at_35 (by omega) (by omega) ?_
    refine j_l2i M dX1_at_36 ?_
    refine j_iadd M dX1_at_37 ?_
    refine j_iald M hs (by omega) dX1_at_38 ?_
    refine j_iret M dX1_at_39 ⟨Nat.le_refl _, Nat.le_refl _⟩ ?_
    refine ⟨?_, rfl⟩
    rw [hat, if_neg (by omega), h3 _ (by omega) (by omega)]
  · refine j_lload_n M dX1_at_14 1 rfl ?_
    refine j_l2i M dX1_at_15 ?_
    refine j_goto M 38 dX1_at_16 (by decide) ?_
    refine j_iald M hs (by omega) dX1_at_38 ?_
    refine j_iret M dX1_at_39 ⟨Nat.le_refl _, Nat.le_refl _⟩ ?_
    refine ⟨?_, rfl⟩
    rw [h3 _ (by omega) (by omega)]
theorem c_zeros (l : Launch) (X : Cx) (hp : Hp) (w sp : Nat) (hd lp sm : Int) (g s : Int → Int) (hw : hp w = some (eWh sp hd lp sm)) (hs : hp sp = some (eI X 400 g)) (h : wOk g hd lp s) : CS l X yX1_zeros cX1_zeros 3 (some .int) 0 [.ref w] hp (some (.int (zI (pCnt s hd lp.toNat)))) := by
  obtain ⟨h1, h2, h3, h4⟩ := h
  have h11 := h1.1
  have h12 := h1.2.1
  refine Ct.of (by decide) (Nat.le_of_ble_eq_true rfl) (fun Γ M => ?_)
  refine j_lv (lv' := [(0, .ref w)]) rfl ?_
  have loop : ∀ (j : Nat) (k : Int), 0 ≤ k → k + j = lp → J Γ hp 0 0 4 [(0, .ref w), (1, .int (zI (pCnt s hd k.toNat))), (2, .int (zI k))] [] := by
    intro j
    induction j with
    | zero =>
      intro k k0 k1
      refine j_iload_n M dX1_zeros_4 2 rfl ?_
      refine j_aload_n M dX1_zeros_5 0 rfl ?_
      refine j_get M hw rfl 2 (by decide) in_X1 q177 rfl dX1_zeros_6 ?_
      refine j_icmp_ge M 40 dX1_zeros_9 (by decide) (by omega) (fun c_9 => ?_) (fun c_9 => ?_)
      · refine j_iload_n M dX1_zeros_40 1 rfl ?_
        refine j_iret M dX1_zeros_41 ⟨Nat.le_refl _, Nat.le_refl _⟩ ?_
        exact ⟨by rw [show k = lp by omega], rfl⟩
      · omega
    | succ j ih =>
      intro k k0 k1
      have cr := pCnt_r s hd k.toNat
      have nx : pCnt s hd (k + 1).toNat = pCnt s hd k.toNat + (if s (hd + k) = 0 then 1 else 0) := by
        rw [show (k + 1).toNat = k.toNat + 1 by omega, pCnt, Int.toNat_of_nonneg k0]
      have gk := h3 (hd + k) (by omega) (by omega)
      have sk := h4 (hd + k)
      refine j_iload_n M dX1_zeros_4 2 rfl ?_
      refine j_aload_n M dX1_zeros_5 0 rfl ?_
      refine j_get M hw rfl 2 (by decide) in_X1 q177 rfl dX1_zeros_6 ?_
      refine j_icmp_ge M 40 dX1_zeros_9 (by decide) (by omega) (fun c_9 => ?_) (fun c_9 => ?_)
      · omega
      · refine j_iload_n M dX1_zeros_12 1 rfl ?_
        refine j_aload_n M dX1_zeros_13 0 rfl ?_
        refine j_get M hw rfl 0 (by decide) in_X1 q168 rfl dX1_zeros_14 ?_
        refine j_aload_n M dX1_zeros_17 0 rfl ?_
        refine j_get M hw rfl 1 (by decide) in_X1 q172 rfl dX1_zeros_18 ?_
        refine j_iload_n M dX1_zeros_21 2 rfl ?_
        refine j_iadd M dX1_zeros_22 ?_
        refine j_iald M hs (by omega) dX1_zeros_23 ?_
        refine j_if_ne M 31 dX1_zeros_24 (by decide) (by omega) (fun c_24 => ?_) (fun c_24 => ?_)
        · refine j_iconst M dX1_zeros_31 ?_
          refine j_iadd M dX1_zeros_32 ?_
          refine j_istore_n M dX1_zeros_33 (by decide) ?_
          refine j_iinc M dX1_zeros_34 2 rfl (by decide) ?_
          refine j_goto M 4 dX1_zeros_37 (by decide) ?_
          rw [gk] at c_24
          rw [if_neg c_24] at nx
          have := ih (k + 1) (by omega) (by omega); rw [nx] at this; exact this
        · refine j_iconst M dX1_zeros_27 ?_
          refine j_goto M 32 dX1_zeros_28 (by decide) ?_
          refine j_iadd M dX1_zeros_32 ?_
          refine j_istore_n M dX1_zeros_33 (by decide) ?_
          refine j_iinc M dX1_zeros_34 2 rfl (by decide) ?_
          refine j_goto M 4 dX1_zeros_37 (by decide) ?_
          rw [gk] at c_24
          rw [if_pos (by omega)] at nx
          have := ih (k + 1) (by omega) (by omega); rw [nx] at this; exact this
  refine j_iconst M dX1_zeros_0 ?_
  refine j_istore_n M dX1_zeros_1 (by decide) ?_
  refine j_iconst M dX1_zeros_2 ?_
  refine j_istore_n M dX1_zeros_3 (by decide) ?_
  exact loop lp.toNat 0 (by omega) (by omega)
theorem c_isLap (l : Launch) (X : Cx) (hp : Hp) (w sp : Nat) (hd lp sm p : Int) (g s : Int → Int) (b : Bool) (hw : hp w = some (eWh sp hd lp sm)) (hs : hp sp = some (eI X 400 g)) (h : wOk g hd lp s) (hpp : 1 ≤ p ∧ p ≤ 400) (hb : b = true ↔ lp % p = 0 ∧ ∀ n, hd ≤ n → s (n + p) = s n) : CS l X yX1_isLap cX1_isLap 4 (some .boolean) 0 [.ref w, .int (zI p)] hp (some (.int (zB b))) := by
  obtain ⟨h1, h2, h3, h4⟩ := h
  have h11 := h1.1
  have h12 := h1.2.1
  rw [← h1.look (by omega) ⟨h11, Int.le_refl _⟩] at hb
  have m3 := Int.emod_nonneg lp (show p ≠ 0 by omega)
  have m4 := Int.emod_lt_of_pos lp (show 0 < p by omega)
  refine Ct.of (by decide) (Nat.le_of_ble_eq_true rfl) (fun Γ M => ?_)
  refine j_lv (lv' := [(0, .ref w), (1, .int (zI p))]) rfl ?_
  have loop : ∀ (j : Nat) (k : Int) (c : Bool), 0 ≤ k → k + j = lp → (c = true ↔ lp % p = 0 ∧ ∀ i, hd ≤ i → i < hd + k → s i = s (i + p)) → J Γ hp 0 0 17 [(0, .ref w), (1, .int (zI p)), (2, .int (zB c)), (3, .int (zI k))] [] := by
    intro j
    induction j with
    | zero =>
      intro k c k0 k1 hc
      have e : c = b := by
        have e2 : k = lp := by omega
        subst e2
        rw [← hb] at hc
        cases c <;> cases b <;> simp_all
      subst e
      refine j_iload_n M dX1_isLap_17 3 rfl ?_
      refine j_aload_n M dX1_isLap_18 0 rfl ?_
      refine j_get M hw rfl 2 (by decide) in_X1 q177 rfl dX1_isLap_19 ?_
      refine j_icmp_ge M 73 dX1_isLap_22 (by decide) (by omega) (fun c_22 => ?_) (fun c_22 => ?_)
      · refine j_iload_n M dX1_isLap_73 2 rfl ?_
        refine j_zret M dX1_isLap_74 ⟨Nat.le_refl _, Nat.le_refl _⟩ ?_
        exact ⟨rfl, rfl⟩
      · omega
    | succ j ih =>
      intro k c k0 k1 hc
      have m1 := Int.emod_nonneg (k + p) (show lp ≠ 0 by omega)
      have m2 := Int.emod_lt_of_pos (k + p) h12
      have g1 := h3 (hd + k) (by omega) (by omega)
      have g2 := h3 (hd + (k + p) % lp) (by omega) (by omega)
      have g3 : s (hd + k + p) = s (hd + (k + p) % lp) := by
        rw [h1.at (n := hd + k + p) (by omega), if_neg (by omega), show hd + k + p - hd = k + p by omega]
      have s1 := h4 (hd + k)
      have s2 := h4 (hd + k + p)
      refine j_iload_n M dX1_isLap_17 3 rfl ?_
      refine j_aload_n M dX1_isLap_18 0 rfl ?_
      refine j_get M hw rfl 2 (by decide) in_X1 q177 rfl dX1_isLap_19 ?_
      refine j_icmp_ge M 73 dX1_isLap_22 (by decide) (by omega) (fun c_22 => ?_) (fun c_22 => ?_)
      · omega
      · refine j_iload_n M dX1_isLap_25 2 rfl ?_
        refine j_ifeqB M 73 dX1_isLap_26 (by decide) (fun c_26 => ?_) (fun c_26 => ?_)
        · refine j_iload_n M dX1_isLap_73 2 rfl ?_
          refine j_zret M dX1_isLap_74 ⟨Nat.le_refl _, Nat.le_refl _⟩ ?_
          have : b = false := by
            cases hbb : b
            · rfl
            · have h5 := hb.mp hbb
              have h6 := hc.mpr ⟨h5.1, fun i i0 i1 => h5.2 i i0 (by omega)⟩
              rw [h6] at c_26; cases c_26
          rw [this, c_26]; exact ⟨rfl, rfl⟩
        · refine j_aload_n M dX1_isLap_29 0 rfl ?_
          refine j_get M hw rfl 0 (by decide) in_X1 q168 rfl dX1_isLap_30 ?_
          refine j_aload_n M dX1_isLap_33 0 rfl ?_
          refine j_get M hw rfl 1 (by decide) in_X1 q172 rfl dX1_isLap_34 ?_
          refine j_iload_n M dX1_isLap_37 3 rfl ?_
          refine j_iadd M dX1_isLap_38 ?_
          refine j_iald M hs (by omega) dX1_isLap_39 ?_
          refine j_aload_n M dX1_isLap_40 0 rfl ?_
          refine j_get M hw rfl 0 (by decide) in_X1 q168 rfl dX1_isLap_41 ?_
          refine j_aload_n M dX1_isLap_44 0 rfl ?_
          refine j_get M hw rfl 1 (by decide) in_X1 q172 rfl dX1_isLap_45 ?_
          refine j_iload_n M dX1_isLap_48 3 rfl ?_
          refine j_iload_n M dX1_isLap_49 1 rfl ?_
          refine j_iadd M dX1_isLap_50 ?_
          refine j_aload_n M dX1_isLap_51 0 rfl ?_
          refine j_get M hw rfl 2 (by decide) in_X1 q177 rfl dX1_isLap_52 ?_
          refine j_iremE M dX1_isLap_55 (by omega) (by omega) ?_
          refine j_iadd M dX1_isLap_56 ?_
          refine j_iald M hs (by omega) dX1_isLap_57 ?_
          refine j_icmp_ne M 65 dX1_isLap_58 (by decide) (by rw [g1, g2]; omega) (fun c_58 => ?_) (fun c_58 => ?_)
          · rw [g1, g2] at c_58
            refine j_iconst M dX1_isLap_65 ?_
            refine j_istore_n M dX1_isLap_66 (by decide) ?_
            refine j_iinc M dX1_isLap_67 3 rfl (by decide) ?_
            refine j_goto M 17 dX1_isLap_70 (by decide) ?_
            refine ih (k + 1) false (by omega) (by omega) ⟨fun q => (by cases q), fun q => absurd (q.2 (hd + k) (by omega) (by omega)) (by rw [g3]; exact c_58)⟩
          · rw [g1, g2] at c_58
            refine j_iconst M dX1_isLap_61 ?_
            refine j_goto M 66 dX1_isLap_62 (by decide) ?_
            refine j_istore_n M dX1_isLap_66 (by decide) ?_
            refine j_iinc M dX1_isLap_67 3 rfl (by decide) ?_
            refine j_goto M 17 dX1_isLap_70 (by decide) ?_
            refine ih (k + 1) true (by omega) (by omega) ⟨fun _ => ?_, fun _ => rfl⟩
            have h5 := hc.mp c_26
            refine ⟨h5.1, fun i i0 i1 => ?_⟩
            by_cases e : i = hd + k
            · rw [e, g3]; exact c_58
            · exact h5.2 i i0 (by omega)
  refine j_aload_n M dX1_isLap_0 0 rfl ?_
  refine j_get M hw rfl 2 (by decide) in_X1 q177 rfl dX1_isLap_1 ?_
  refine j_iload_n M dX1_isLap_4 1 rfl ?_
  refine j_iremE M dX1_isLap_5 (by omega) (by omega) ?_
  refine j_if_ne M 13 dX1_isLap_6 (by decide) (by omega) (fun c_6 => ?_) (fun c_6 => ?_)
  · refine j_iconst M dX1_isLap_13 ?_
    refine j_istore_n M dX1_isLap_14 (by decide) ?_
    refine j_iconst M dX1_isLap_15 ?_
    refine j_istore_n M dX1_isLap_16 (by decide) ?_
    exact loop lp.toNat 0 false (by omega) (by omega) ⟨fun q => (by cases q), fun q => absurd q.1 c_6⟩
  · refine j_iconst M dX1_isLap_9 ?_
    refine j_goto M 14 dX1_isLap_10 (by decide) ?_
    refine j_istore_n M dX1_isLap_14 (by decide) ?_
    refine j_iconst M dX1_isLap_15 ?_
    refine j_istore_n M dX1_isLap_16 (by decide) ?_
    exact loop lp.toNat 0 true (by omega) (by omega) ⟨fun _ => ⟨c_6, fun i i0 i1 => by omega⟩, fun _ => rfl⟩
theorem c_lessen (l : Launch) (X : Cx) (hp : Hp) (w sp : Nat) (hd lp sm : Int) (g s : Int → Int) (hw : hp w = some (eWh sp hd lp sm)) (hs : hp sp = some (eI X 400 g)) (h : wOk g hd lp s) : Ct l X yX1_lessen cX1_lessen 2 none (rD 1) [.ref w] hp (pD none (hup hp w (eWh sp (pHead s) (pLap s) sm))) := by
  have h0 := h
  obtain ⟨h1, h2, h3, h4⟩ := h
  have h11 := h1.1
  have h12 := h1.2.1
  obtain ⟨⟨q1, q2, q3, q4, q5⟩, q6, q7⟩ := h1.least
  have hdv := Int.emod_eq_zero_of_dvd h1.divs
  have hne : w ≠ sp := ne_oa hw hs
  refine Ct.of (by decide) (Nat.le_of_ble_eq_true rfl) (fun Γ M => ?_)
  refine j_lv (lv' := [(0, .ref w)]) rfl ?_
  have loop2 : ∀ (j : Nat) (a : Int) (v : Value), a = pHead s + j → a ≤ hd → J Γ (hup hp w (eWh sp a (pLap s) sm)) 0 0 21 [(0, .ref w), (1, v)] [] := by
    intro j
    induction j with
    | zero =>
      intro a v ha had
      have hw1 : hup hp w (eWh sp a (pLap s) sm) w = some (eWh sp a (pLap s) sm) := hup_s _ _ _
      have hs1 : hup hp w (eWh sp a (pLap s) sm) sp = some (eI X 400 g) := by rw [hup_n _ _ (Ne.symm hne)]; exact hs
      refine j_aload_n M dX1_lessen_21 0 rfl ?_
      refine j_get M hw1 rfl 1 (by decide) in_X1 q172 rfl dX1_lessen_22 ?_
      refine j_if_le M 71 dX1_lessen_25 (by decide) (by omega) (fun c_25 => ?_) (fun c_25 => ?_)
      · refine j_vret M dX1_lessen_71 ⟨Nat.le_refl _, Nat.le_refl _⟩ ?_
        exact ⟨rfl, by rw [show a = pHead s by omega]⟩
      · refine j_aload_n M dX1_lessen_28 0 rfl ?_
        refine j_get M hw1 rfl 0 (by decide) in_X1 q168 rfl dX1_lessen_29 ?_
        refine j_aload_n M dX1_lessen_32 0 rfl ?_
        refine j_get M hw1 rfl 1 (by decide) in_X1 q172 rfl dX1_lessen_33 ?_
        refine j_iconst M dX1_lessen_36 ?_
        refine j_isub M dX1_lessen_37 ?_
        refine j_iald M hs1 (by omega) dX1_lessen_38 ?_
        refine j_aload_n M dX1_lessen_39 0 rfl ?_
        refine j_get M hw1 rfl 0 (by decide) in_X1 q168 rfl dX1_lessen_40 ?_
        refine j_aload_n M dX1_lessen_43 0 rfl ?_
        refine j_get M hw1 rfl 1 (by decide) in_X1 q172 rfl dX1_lessen_44 ?_
        refine j_iconst M dX1_lessen_47 ?_
        refine j_isub M dX1_lessen_48 ?_
        refine j_aload_n M dX1_lessen_49 0 rfl ?_
        refine j_get M hw1 rfl 2 (by decide) in_X1 q177 rfl dX1_lessen_50 ?_
        refine j_iadd M dX1_lessen_53 ?_
        refine j_iald M hs1 (by omega) dX1_lessen_54 ?_
        refine j_icmp_ne M 71 dX1_lessen_55 (by decide) (by rw [h3 _ (by omega) (by omega), h3 _ (by omega) (by omega)]; have := h4 (a - 1); have := h4 (a - 1 + pLap s); omega) (fun c_55 => ?_) (fun c_55 => ?_)
        · refine j_vret M dX1_lessen_71 ⟨Nat.le_refl _, Nat.le_refl _⟩ ?_
          exact ⟨rfl, by rw [show a = pHead s by omega]⟩
        · rw [h3 _ (by omega) (by omega), h3 _ (by omega) (by omega)] at c_55
          have := q5 (a - 1) (by omega) (fun n hn => by
            by_cases e : n = a - 1
            · rw [e]; omega
            · exact q3 n (by omega))
          omega
    | succ j ih =>
      intro a v ha had
      have hw1 : hup hp w (eWh sp a (pLap s) sm) w = some (eWh sp a (pLap s) sm) := hup_s _ _ _
      have hs1 : hup hp w (eWh sp a (pLap s) sm) sp = some (eI X 400 g) := by rw [hup_n _ _ (Ne.symm hne)]; exact hs
      have e1 := q3 (a - 1) (by omega)
      refine j_aload_n M dX1_lessen_21 0 rfl ?_
      refine j_get M hw1 rfl 1 (by decide) in_X1 q172 rfl dX1_lessen_22 ?_
      refine j_if_le M 71 dX1_lessen_25 (by decide) (by omega) (fun c_25 => ?_) (fun c_25 => ?_)
      · omega
      · refine j_aload_n M dX1_lessen_28 0 rfl ?_
        refine j_get M hw1 rfl 0 (by decide) in_X1 q168 rfl dX1_lessen_29 ?_
        refine j_aload_n M dX1_lessen_32 0 rfl ?_
        refine j_get M hw1 rfl 1 (by decide) in_X1 q172 rfl dX1_lessen_33 ?_
        refine j_iconst M dX1_lessen_36 ?_
        refine j_isub M dX1_lessen_37 ?_
        refine j_iald M hs1 (by omega) dX1_lessen_38 ?_
        refine j_aload_n M dX1_lessen_39 0 rfl ?_
        refine j_get M hw1 rfl 0 (by decide) in_X1 q168 rfl dX1_lessen_40 ?_
        refine j_aload_n M dX1_lessen_43 0 rfl ?_
        refine j_get M hw1 rfl 1 (by decide) in_X1 q172 rfl dX1_lessen_44 ?_
        refine j_iconst M dX1_lessen_47 ?_
        refine j_isub M dX1_lessen_48 ?_
        refine j_aload_n M dX1_lessen_49 0 rfl ?_
        refine j_get M hw1 rfl 2 (by decide) in_X1 q177 rfl dX1_lessen_50 ?_
        refine j_iadd M dX1_lessen_53 ?_
        refine j_iald M hs1 (by omega) dX1_lessen_54 ?_
        refine j_icmp_ne M 71 dX1_lessen_55 (by decide) (by rw [h3 _ (by omega) (by omega), h3 _ (by omega) (by omega)]; have := h4 (a - 1); have := h4 (a - 1 + pLap s); omega) (fun c_55 => ?_) (fun c_55 => ?_)
        · rw [h3 _ (by omega) (by omega), h3 _ (by omega) (by omega)] at c_55
          omega
        · refine j_aload_n M dX1_lessen_58 0 rfl ?_
          refine j_dup M dX1_lessen_59 rfl ?_
          refine j_get M hw1 rfl 1 (by decide) in_X1 q172 rfl dX1_lessen_60 ?_
          refine j_iconst M dX1_lessen_63 ?_
          refine j_isub M dX1_lessen_64 ?_
          refine j_put M hw1 rfl 1 (by decide) in_X1 tyX1 tyX1_ok nmX1 q172 rfl rfl rfl (Nat.le_of_ble_eq_true rfl) dX1_lessen_65 ?_
          refine j_goto M 21 dX1_lessen_68 (by decide) ?_
          rw [hup_hup]; exact ih (a - 1) v (by omega) (by omega)
  have loop1 : ∀ (j : Nat) (p : Int), 1 ≤ p → p + j = pLap s → J Γ hp 0 0 2 [(0, .ref w), (1, .int (zI p))] [] := by
    intro j
    induction j with
    | zero =>
      intro p p0 p1
      have pe : p = pLap s := by omega
      refine j_aload_n M dX1_lessen_2 0 rfl ?_
      refine j_iload_n M dX1_lessen_3 1 rfl ?_
      refine j_rV (k_V M (c_isLap l X hp w sp hd lp sm p g s true hw hs h0 (by omega) ⟨fun _ => ⟨by rw [pe]; exact hdv, fun n hn => by rw [pe]; exact q3 n (by omega)⟩, fun _ => rfl⟩) (rc_of M hw rfl) (lw_V q820 q822 qs16 q101 q823) ndX1_isLap dX1_lessen_4 ⟨by decide, by decide, by decide, by decide⟩ rfl (Nat.le_of_ble_eq_true rfl)) ?_
      refine j_ifneB M 16 dX1_lessen_7 (by decide) (fun c_7 => ?_) (fun c_7 => ?_)
      · refine j_aload_n M dX1_lessen_16 0 rfl ?_
        refine j_iload_n M dX1_lessen_17 1 rfl ?_
        refine j_put M hw rfl 2 (by decide) in_X1 tyX1 tyX1_ok nmX1 q177 rfl rfl rfl (Nat.le_of_ble_eq_true rfl) dX1_lessen_18 ?_
        rw [pe]; exact loop2 (hd - pHead s).toNat hd _ (by omega) (Int.le_refl _)
      · cases c_7
    | succ j ih =>
      intro p p0 p1
      refine j_aload_n M dX1_lessen_2 0 rfl ?_
      refine j_iload_n M dX1_lessen_3 1 rfl ?_
      refine j_rV (k_V M (c_isLap l X hp w sp hd lp sm p g s false hw hs h0 (by omega) ⟨fun q => (by cases q), fun q => absurd (q4 p ⟨p0, hd, h11, q.2⟩) (by omega)⟩) (rc_of M hw rfl) (lw_V q820 q822 qs16 q101 q823) ndX1_isLap dX1_lessen_4 ⟨by decide, by decide, by decide, by decide⟩ rfl (Nat.le_of_ble_eq_true rfl)) ?_
      refine j_ifneB M 16 dX1_lessen_7 (by decide) (fun c_7 => ?_) (fun c_7 => ?_)
      · cases c_7
      · refine j_iinc M dX1_lessen_10 1 rfl (by decide) ?_
        refine j_goto M 2 dX1_lessen_13 (by decide) ?_
        exact ih (p + 1) (by omega) (by omega)
  refine j_iconst M dX1_lessen_0 ?_
  refine j_istore_n M dX1_lessen_1 (by decide) ?_
  exact loop1 (pLap s - 1).toNat 1 (by omega) (by omega)
theorem c_wheelInit (l : Launch) (X : Cx) (hp : Hp) (w : Nat) (hw : hp w = some (.inr (1, [.null, .int (zI 0), .int (zI 0), .int (zI 0)]))) : Ct l X yX1_init cX1_init 1 none (rC 1 1 400) [.ref w] hp (fun r hp' => r = none ∧ ∃ sp, hp sp = none ∧ hp' = hup (hup hp sp (eI X 400 (fun _ => 0))) w (eWh sp 0 0 0)) := by
  refine Ct.of (by decide) (Nat.le_of_ble_eq_true rfl) (fun Γ M => ?_)
  refine j_lv (lv' := [(0, .ref w)]) rfl ?_
  refine j_aload_n M dX1_init_0 0 rfl ?_
  refine j_objInit M q167 q133 q134 (by decide) dX1_init_1 ?_
  refine j_aload_n M dX1_init_4 0 rfl ?_
  refine j_sipush M dX1_init_5 (by decide) ?_
  refine j_newI M q194 (by decide) (by decide) dX1_init_8 (fun q_8 hq_8 hB_8 => ?_)
  have hw1 : hup hp q_8 (eI X 400 (fun _ => 0)) w = some (.inr (1, [.null, .int (zI 0), .int (zI 0), .int (zI 0)])) := by rw [hup_n _ _ (fun e => by rw [e, hq_8] at hw; cases hw)]; exact hw
  refine j_putF M hw1 rfl 0 (by decide) in_X1 tyX1 tyX1_ok nmX1 q168 rfl rfl rfl rfl rfl (Nat.le_of_ble_eq_true rfl) dX1_init_10 ?_
  refine j_vret M dX1_init_13 ⟨Nat.le_refl _, Nat.le_refl _⟩ ?_
  exact ⟨rfl, q_8, hq_8, rfl⟩
