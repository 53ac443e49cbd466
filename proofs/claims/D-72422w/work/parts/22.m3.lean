/-! 22: the reference: rests -/
set_option maxRecDepth 100000
theorem tmod_e {a b : Int} (h : 0 ≤ a) : a.tmod b = a % b := Int.tmod_eq_emod_of_nonneg h
theorem mod_eq {v m : Int} (hm : 0 < m) : (v.tmod m + m).tmod m = v % m := by
  have h1 := Int.tmod_lt_of_pos v hm
  have h2 := Int.lt_tmod_of_pos v hm
  rw [tmod_e (by omega), Int.add_emod_right]
  have h3 := Int.mul_tdiv_add_tmod v m
  conv => rhs; rw [← h3]
  rw [Int.mul_add_emod_self_left]
theorem m_mod (l : Launch) (X : Cx) (hp : Hp) (v m : Int) (hv : r32 v) (hm : 1 ≤ m ∧ m ≤ 10) : CS l X yX2_mod cX2_mod 2 (some .int) 0 [.int (zI v), .int (zI m)] hp (some (.int (zI (v % m)))) := by
  have h1 := Int.tmod_lt_of_pos v (show 0 < m by omega)
  have h2 := Int.lt_tmod_of_pos v (show 0 < m by omega)
  refine Ct.of (by decide) (Nat.le_of_ble_eq_true rfl) (fun Γ M => ?_)
  refine j_lv (lv' := [(0, .int (zI v)), (1, .int (zI m))]) rfl ?_
  refine j_iload_n M dX2_mod_0 0 rfl ?_
  refine j_iload_n M dX2_mod_1 1 rfl ?_
  refine j_irem M dX2_mod_2 (by omega) (⟨hv, by omega⟩) ?_
  refine j_iload_n M dX2_mod_3 1 rfl ?_
  refine j_iadd M dX2_mod_4 ?_
  refine j_iload_n M dX2_mod_5 1 rfl ?_
  refine j_irem M dX2_mod_6 (by omega) (by omega) ?_
  refine j_iret M dX2_mod_7 ⟨Nat.le_refl _, Nat.le_refl _⟩ ?_
  exact ⟨by rw [mod_eq (by omega)], rfl⟩
theorem m_common (l : Launch) (X : Cx) (hp : Hp) (a b : Int) (ha : 0 ≤ a ∧ a < 2147483648) (hb : 0 ≤ b ∧ b < 2147483648) : CS l X yX2_common cX2_common 5 (some .int) 0 [.int (zI a), .int (zI b)] hp (some (.int (zI (pGcd a b)))) := by
  refine Ct.of (by decide) (Nat.le_of_ble_eq_true rfl) (fun Γ M => ?_)
  refine j_lv (lv' := [(0, .int (zI a)), (1, .int (zI b))]) rfl ?_
  have loop : ∀ (n : Nat) (x y : Int), n = y.toNat → (0 ≤ x ∧ x < 2147483648) → (0 ≤ y ∧ y < 2147483648) → pGcd x y = pGcd a b → ∀ ls : List (Nat × Value),
      J Γ hp 0 0 4 ([(0, .int (zI a)), (1, .int (zI b)), (2, .int (zI x)), (3, .int (zI y))] ++ ls) [] := by
    intro n
    induction n using Nat.strongRecOn with
    | _ n ih =>
      intro x y hn hx hy hg ls
      refine j_loc (lv' := [(0, .int (zI a)), (1, .int (zI b)), (2, .int (zI x)), (3, .int (zI y))]) [0, 1, 2, 3] rfl ?_
      refine j_iload_n M dX2_common_4 3 rfl ?_
      refine j_if_eq M 21 dX2_common_5 (by decide) (by omega) (fun c_5 => ?_) (fun c_5 => ?_)
      · refine j_iload_n M dX2_common_21 2 rfl ?_
        refine j_iret M dX2_common_22 ⟨Nat.le_refl _, Nat.le_refl _⟩ ?_
        refine ⟨?_, rfl⟩
        rw [← hg, c_5, show pGcd x 0 = x by unfold pGcd; simp; omega]
      · refine j_iload_n M dX2_common_8 2 rfl ?_
        refine j_iload_n M dX2_common_9 3 rfl ?_
        refine j_iremE M dX2_common_10 (by omega) (by omega) ?_
        have m1 := Int.emod_nonneg x (show y ≠ 0 by omega)
        have m2 := Int.emod_lt_of_pos x (show 0 < y by omega)
        refine j_istore M dX2_common_11 (by decide) ?_
        refine j_iload_n M dX2_common_13 3 rfl ?_
        refine j_istore_n M dX2_common_14 (by decide) ?_
        refine j_iload M dX2_common_15 4 rfl ?_
        refine j_istore_n M dX2_common_17 (by decide) ?_
        refine j_goto M 4 dX2_common_18 (by decide) ?_
        refine ih (x % y).toNat (by omega) y (x % y) rfl (by omega) (by omega) ?_ [(4, .int (zI (x % y)))]
        rw [← hg]; unfold pGcd
        rw [Int.toNat_emod (by omega) (by omega)]
        conv => rhs; rw [Nat.gcd_comm, Nat.gcd_rec, Nat.gcd_comm]
  refine j_iload_n M dX2_common_0 0 rfl ?_
  refine j_istore_n M dX2_common_1 (by decide) ?_
  refine j_iload_n M dX2_common_2 1 rfl ?_
  refine j_istore_n M dX2_common_3 (by decide) ?_
  exact loop _ a b rfl ha hb rfl []
theorem mx_inj {m x y x' y' : Int} (hm : 0 < m) (hy : 0 ≤ y ∧ y < m) (hy' : 0 ≤ y' ∧ y' < m) (h : m * x + y = m * x' + y') : x = x' := by
  rcases Int.lt_trichotomy x x' with q | q | q
  · have := Int.mul_le_mul_of_nonneg_left (show x + 1 ≤ x' by omega) (show 0 ≤ m by omega)
    rw [Int.mul_add] at this; omega
  · exact q
  · have := Int.mul_le_mul_of_nonneg_left (show x' + 1 ≤ x by omega) (show 0 ≤ m by omega)
    rw [Int.mul_add] at this; omega
/-- the rests of row i are laid: they are those of s -/
def rRow (m : Int) (t : Nat → Int → Int) (i : Int) (s : Int → Int) : Prop := (0 ≤ t 16 i ∧ t 16 i ≤ 6) ∧ t 17 i ∣ pE m ∧ Per s (t 16 i) (t 17 i) ∧ (∀ k, 0 ≤ k → k < t 16 i + t 17 i → t 18 (512 * i + k) = s k) ∧ ∀ k, 0 ≤ s k ∧ s k < 10
theorem rRow.bd {m : Int} {t : Nat → Int → Int} {i : Int} {s : Int → Int} (h : rRow m t i s) : (0 ≤ t 16 i ∧ t 16 i ≤ 6) ∧ (0 < t 17 i ∧ t 17 i ≤ 336) := by
  have h1 := pE_r m
  have h2 := dvd_le h.2.1 h1.1
  exact ⟨h.1, h.2.2.1.2.1, by omega⟩
section M3
variable (l : Launch) (X : Cx) (σ : Ms) (f : Nat → Int) (t : Nat → Int → Int)
theorem m_restAt (hm : mOk σ) (m i n : Int) (s : Int → Int) (hi : 0 ≤ i ∧ i < 9) (hn : 0 ≤ n ∧ n < 4611686018427387904) (hL : rRow m t i s) : CM l X σ yX2_restAt cX2_restAt 6 (some .int) 0 [.int (zI i), .long (zL n)] f t (some (.int (zI (s n)))) f t := by
  have hb := hL.bd
  have hat := hL.2.2.1.at hn.1
  refine Ct.of (by decide) (Nat.le_of_ble_eq_true rfl) (fun Γ M => ?_)
  refine j_lv (lv' := [(0, .ref σ.1), (1, .int (zI i)), (2, .long (zL n))]) rfl ?_
  refine j_lload_n M dX2_restAt_0 2 rfl ?_
  refine j_aload_n M dX2_restAt_1 0 rfl ?_
  refine m_get M 16 (by decide) q1258 rfl dX2_restAt_2 ?_
  refine j_iload_n M dX2_restAt_5 1 rfl ?_
  refine m_ald M hm (n := 9) 16 (by decide) rfl dX2_restAt_6 (by omega) ?_
  refine j_i2l M dX2_restAt_7 (by omega) ?_
  refine j_lcmp_ge M 16 dX2_restAt_8 dX2_restAt_9 (by decide) (by omega) (fun c_8 => ?_) (fun c_8 => ?_)
  · refine j_aload_n M dX2_restAt_16 0 rfl ?_
    refine m_get M 16 (by decide) q1258 rfl dX2_restAt_17 ?_
    refine j_iload_n M dX2_restAt_20 1 rfl ?_
    refine m_ald M hm (n := 9) 16 (by decide) rfl dX2_restAt_21 (by omega) ?_
    refine j_i2l M dX2_restAt_22 (by omega) ?_
    refine j_lload_n M dX2_restAt_23 2 rfl ?_
    refine j_aload_n M dX2_restAt_24 0 rfl ?_
    refine m_get M 16 (by decide) q1258 rfl dX2_restAt_25 ?_
    refine j_iload_n M dX2_restAt_28 1 rfl ?_
    refine m_ald M hm (n := 9) 16 (by decide) rfl dX2_restAt_29 (by omega) ?_
    refine j_i2l M dX2_restAt_30 (by omega) ?_
    refine j_lsub M dX2_restAt_31 ?_
    refine j_aload_n M dX2_restAt_32 0 rfl ?_
    refine m_get M 17 (by decide) q1259 rfl dX2_restAt_33 ?_
    refine j_iload_n M dX2_restAt_36 1 rfl ?_
    refine m_ald M hm (n := 9) 17 (by decide) rfl dX2_restAt_37 (by omega) ?_
    refine j_i2l M dX2_restAt_38 (by omega) ?_
    refine j_lremE M dX2_restAt_39 (by omega) (by omega) ?_
    refine j_ladd M dX2_restAt_40 ?_
    have m1 := Int.emod_nonneg (n - t 16 i) (show t 17 i ≠ 0 by omega)
    have m2 := Int.emod_lt_of_pos (n - t 16 i) hb.2.1
    refine j_lstore M dX2_restAt_41 (by decide) ?_
    refine j_aload_n M dX2_restAt_43 0 rfl ?_
    refine m_get M 18 (by decide) q1260 rfl dX2_restAt_44 ?_
    refine j_sipush M dX2_restAt_47 (by decide) ?_
    refine j_iload_n M dX2_restAt_50 1 rfl ?_
    refine j_imul M dX2_restAt_51 ?_
    refine j_lload M dX2_restAt_52 3 rfl ?_
    refine j_l2i M dX2_restAt_54 ?_
    refine j_iadd M dX2_restAt_55 ?_
    refine m_bld M hm (n := 4608) 18 (by decide) rfl dX2_restAt_56 (by omega) ?_
    refine j_iret M dX2_restAt_57 ⟨Nat.le_refl _, Nat.le_refl _⟩ ?_
    refine ⟨?_, rfl⟩
    rw [hat, if_neg (by omega)]
    have m1 := Int.emod_nonneg (n - t 16 i) (show t 17 i ≠ 0 by omega)
    have m2 := Int.emod_lt_of_pos (n - t 16 i) hb.2.1
    rw [hL.2.2.2.1 _ (by omega) (by omega)]
  · refine j_lload_n M dX2_restAt_12 2 rfl ?_
    refine j_goto M 41 dX2_restAt_13 (by decide) ?_
    have m1 := Int.emod_nonneg (n - t 16 i) (show t 17 i ≠ 0 by omega)
    have m2 := Int.emod_lt_of_pos (n - t 16 i) hb.2.1
    refine j_lstore M dX2_restAt_41 (by decide) ?_
    refine j_aload_n M dX2_restAt_43 0 rfl ?_
    refine m_get M 18 (by decide) q1260 rfl dX2_restAt_44 ?_
    refine j_sipush M dX2_restAt_47 (by decide) ?_
    refine j_iload_n M dX2_restAt_50 1 rfl ?_
    refine j_imul M dX2_restAt_51 ?_
    refine j_lload M dX2_restAt_52 3 rfl ?_
    refine j_l2i M dX2_restAt_54 ?_
    refine j_iadd M dX2_restAt_55 ?_
    refine m_bld M hm (n := 4608) 18 (by decide) rfl dX2_restAt_56 (by omega) ?_
    refine j_iret M dX2_restAt_57 ⟨Nat.le_refl _, Nat.le_refl _⟩ ?_
    refine ⟨?_, rfl⟩
    rw [hL.2.2.2.1 _ (by omega) (by omega)]
theorem m_comesAgain (hm : mOk σ) (m i a q : Int) (s : Int → Int) (b : Bool) (hi : 0 ≤ i ∧ i < 9) (hL : rRow m t i s) (ha : 0 ≤ a ∧ a ≤ t 16 i) (hq : 0 ≤ q ∧ q ≤ 1000) (hb : b = true ↔ ∀ n, a ≤ n → s (n + q) = s n) : CM l X σ yX2_comesAgain cX2_comesAgain 6 (some .boolean) 1 [.int (zI i), .int (zI a), .int (zI q)] f t (some (.int (zB b))) f t := by
  have hbd := hL.bd
  rw [← hL.2.2.1.look hq.1 ha] at hb
  have hs := hL.2.2.2.2
  refine Ct.of (by decide) (Nat.le_of_ble_eq_true rfl) (fun Γ M => ?_)
  refine j_lv (lv' := [(0, .ref σ.1), (1, .int (zI i)), (2, .int (zI a)), (3, .int (zI q))]) rfl ?_
  have loop : ∀ (n : Nat) (k is : Int), n = (t 16 i + t 17 i - k).toNat → a ≤ k ∧ k ≤ t 16 i + t 17 i → (is = 0 ∨ is = 1) → (is = 1 ↔ ∀ j, a ≤ j → j < k → s j = s (j + q)) →
      J Γ (mH X σ f t) 0 0 6 [(0, .ref σ.1), (1, .int (zI i)), (2, .int (zI a)), (3, .int (zI q)), (4, .int (zI is)), (5, .int (zI k))] [] := by
    intro n
    induction n using Nat.strongRecOn with
    | _ n ih =>
      intro k is hn hk h01 his
      refine j_iload M dX2_comesAgain_6 5 rfl ?_
      refine j_aload_n M dX2_comesAgain_8 0 rfl ?_
      refine m_get M 16 (by decide) q1258 rfl dX2_comesAgain_9 ?_
      refine j_iload_n M dX2_comesAgain_12 1 rfl ?_
      refine m_ald M hm (n := 9) 16 (by decide) rfl dX2_comesAgain_13 (by omega) ?_
      refine j_aload_n M dX2_comesAgain_14 0 rfl ?_
      refine m_get M 17 (by decide) q1259 rfl dX2_comesAgain_15 ?_
      refine j_iload_n M dX2_comesAgain_18 1 rfl ?_
      refine m_ald M hm (n := 9) 17 (by decide) rfl dX2_comesAgain_19 (by omega) ?_
      refine j_iadd M dX2_comesAgain_20 ?_
      refine j_icmp_ge M 63 dX2_comesAgain_21 (by decide) (by omega) (fun c_21 => ?_) (fun c_21 => ?_)
      · refine j_iload M dX2_comesAgain_63 4 rfl ?_
        have hk2 : k = t 16 i + t 17 i := by omega
        rw [hk2, ← hb] at his
        have hz : is = if b = true then 1 else 0 := by rcases h01 with e | e <;> cases b <;> simp_all
        refine j_bool _ (hz) ?_
        refine j_zret M dX2_comesAgain_65 ⟨Nat.le_refl _, Nat.le_refl _⟩ ?_
        exact ⟨rfl, rfl⟩
      · refine j_iload M dX2_comesAgain_24 4 rfl ?_
        refine j_if_eq M 54 dX2_comesAgain_26 (by decide) (by omega) (fun c_26 => ?_) (fun c_26 => ?_)
        · refine j_iconst M dX2_comesAgain_54 ?_
          refine j_istore M dX2_comesAgain_55 (by decide) ?_
          refine j_iinc M dX2_comesAgain_57 5 rfl (by decide) ?_
          refine j_goto M 6 dX2_comesAgain_60 (by decide) ?_
          refine ih _ (by omega) (k + 1) 0 rfl (by omega) (by omega) ⟨fun q => by omega, fun w => ?_⟩
          have := his.mpr (fun j j1 j2 => w j j1 (by omega)); omega
        · refine j_aload_n M dX2_comesAgain_29 0 rfl ?_
          refine j_iload_n M dX2_comesAgain_30 1 rfl ?_
          refine j_iload M dX2_comesAgain_31 5 rfl ?_
          refine j_i2l M dX2_comesAgain_33 (by omega) ?_
          refine j_rV (k_V M (m_restAt l X σ f t hm m i k s hi (by omega) hL) (m_rc M) (lw_V q1486 q1488 qs57 q102 q1489) ndX2_restAt dX2_comesAgain_34 ⟨by decide, by decide, by decide, by decide⟩ rfl (Nat.le_of_ble_eq_true rfl)) ?_
          refine j_aload_n M dX2_comesAgain_37 0 rfl ?_
          refine j_iload_n M dX2_comesAgain_38 1 rfl ?_
          refine j_iload M dX2_comesAgain_39 5 rfl ?_
          refine j_iload_n M dX2_comesAgain_41 3 rfl ?_
          refine j_iadd M dX2_comesAgain_42 ?_
          refine j_i2l M dX2_comesAgain_43 (by omega) ?_
          refine j_rV (k_V M (m_restAt l X σ f t hm m i (k + q) s hi (by omega) hL) (m_rc M) (lw_V q1486 q1488 qs57 q102 q1489) ndX2_restAt dX2_comesAgain_44 ⟨by decide, by decide, by decide, by decide⟩ rfl (Nat.le_of_ble_eq_true rfl)) ?_
          refine j_icmp_ne M 54 dX2_comesAgain_47 (by decide) (by have q1 := hs k; have q2 := hs (k + q); omega) (fun c_47 => ?_) (fun c_47 => ?_)
          · refine j_iconst M dX2_comesAgain_54 ?_
            refine j_istore M dX2_comesAgain_55 (by decide) ?_
            refine j_iinc M dX2_comesAgain_57 5 rfl (by decide) ?_
            refine j_goto M 6 dX2_comesAgain_60 (by decide) ?_
            refine ih _ (by omega) (k + 1) 0 rfl (by omega) (by omega) ⟨fun q => by omega, fun w => absurd (w k (by omega) (by omega)) c_47⟩
          · refine j_iconst M dX2_comesAgain_50 ?_
            refine j_goto M 55 dX2_comesAgain_51 (by decide) ?_
            refine j_istore M dX2_comesAgain_55 (by decide) ?_
            refine j_iinc M dX2_comesAgain_57 5 rfl (by decide) ?_
            refine j_goto M 6 dX2_comesAgain_60 (by decide) ?_
            refine ih _ (by omega) (k + 1) 1 rfl (by omega) (by omega) ⟨fun _ j j1 j2 => ?_, fun _ => rfl⟩
            rcases (show j < k ∨ j = k by omega) with e | e
            · exact his.mp (by omega) j j1 e
            · rw [e]; exact c_47
  refine j_iconst M dX2_comesAgain_0 ?_
  refine j_istore M dX2_comesAgain_1 (by decide) ?_
  refine j_iload_n M dX2_comesAgain_3 2 rfl ?_
  refine j_istore M dX2_comesAgain_4 (by decide) ?_
  exact loop _ a 1 rfl (by omega) (by omega) ⟨fun _ j j1 j2 => by omega, fun _ => rfl⟩
theorem m_lapOf (hm : mOk σ) (m i : Int) (s : Int → Int) (hi : 0 ≤ i ∧ i < 9) (hL : rRow m t i s) : CM l X σ yX2_lapOf cX2_lapOf 3 (some .int) 2 [.int (zI i)] f t (some (.int (zI (pLap s)))) f t := by
  have hbd := hL.bd
  have hP := hL.2.2.1
  obtain ⟨hLH, hp1, hh1⟩ := hP.least
  have hp0 := hLH.1
  refine Ct.of (by decide) (Nat.le_of_ble_eq_true rfl) (fun Γ M => ?_)
  refine j_lv (lv' := [(0, .ref σ.1), (1, .int (zI i))]) rfl ?_
  have loop : ∀ (n : Nat) (q : Int), n = (pLap s - q).toNat → 1 ≤ q ∧ q ≤ pLap s → J Γ (mH X σ f t) 0 0 2 [(0, .ref σ.1), (1, .int (zI i)), (2, .int (zI q))] [] := by
    intro n
    induction n using Nat.strongRecOn with
    | _ n ih =>
      intro q hn hq
      have hb : decide (q = pLap s) = true ↔ ∀ n, t 16 i ≤ n → s (n + q) = s n := by
        rw [decide_eq_true_eq]
        constructor
        · intro e n hn2; rw [e]; exact hP.lap ⟨hp0, _, hLH.2.1, hLH.2.2.1⟩ n hn2
        · intro h; have := hLH.2.2.2.1 q ⟨hq.1, t 16 i, by omega, h⟩; omega
      refine j_aload_n M dX2_lapOf_2 0 rfl ?_
      refine j_iload_n M dX2_lapOf_3 1 rfl ?_
      refine j_aload_n M dX2_lapOf_4 0 rfl ?_
      refine m_get M 16 (by decide) q1258 rfl dX2_lapOf_5 ?_
      refine j_iload_n M dX2_lapOf_8 1 rfl ?_
      refine m_ald M hm (n := 9) 16 (by decide) rfl dX2_lapOf_9 (by omega) ?_
      refine j_iload_n M dX2_lapOf_10 2 rfl ?_
      refine j_rV (k_V M (m_comesAgain l X σ f t hm m i (t 16 i) q s _ hi hL (by omega) (by omega) hb) (m_rc M) (lw_V q1502 q1504 qs60 q102 q1505) ndX2_comesAgain dX2_lapOf_11 ⟨by decide, by decide, by decide, by decide⟩ rfl (Nat.le_of_ble_eq_true rfl)) ?_
      refine j_ifneB M 23 dX2_lapOf_14 (by decide) (fun c_14 => ?_) (fun c_14 => ?_)
      · refine j_iload_n M dX2_lapOf_23 2 rfl ?_
        refine j_iret M dX2_lapOf_24 ⟨Nat.le_refl _, Nat.le_refl _⟩ ?_
        simp only [decide_eq_true_eq] at c_14
        rw [c_14]; exact ⟨rfl, rfl⟩
      · simp only [decide_eq_false_iff_not] at c_14
        refine j_iinc M dX2_lapOf_17 2 rfl (by decide) ?_
        refine j_goto M 2 dX2_lapOf_20 (by decide) ?_
        exact ih _ (by omega) (q + 1) rfl (by omega)
  refine j_iconst M dX2_lapOf_0 ?_
  refine j_istore_n M dX2_lapOf_1 (by decide) ?_
  exact loop _ 1 rfl (by omega)
theorem m_headOf (hm : mOk σ) (m i : Int) (s : Int → Int) (hi : 0 ≤ i ∧ i < 9) (hL : rRow m t i s) : CM l X σ yX2_headOf cX2_headOf 4 (some .int) 3 [.int (zI i)] f t (some (.int (zI (pHead s)))) f t := by
  have hbd := hL.bd
  have hP := hL.2.2.1
  obtain ⟨hLH, hp1, hh1⟩ := hP.least
  have hp0 := hLH.1
  have hh0 := hLH.2.1
  refine Ct.of (by decide) (Nat.le_of_ble_eq_true rfl) (fun Γ M => ?_)
  refine j_lv (lv' := [(0, .ref σ.1), (1, .int (zI i))]) rfl ?_
  have loop : ∀ (n : Nat) (q : Int), n = (pHead s - q).toNat → 0 ≤ q ∧ q ≤ pHead s → J Γ (mH X σ f t) 0 0 8 [(0, .ref σ.1), (1, .int (zI i)), (2, .int (zI (pLap s))), (3, .int (zI q))] [] := by
    intro n
    induction n using Nat.strongRecOn with
    | _ n ih =>
      intro q hn hq
      have hb : decide (q = pHead s) = true ↔ ∀ n, q ≤ n → s (n + pLap s) = s n := by
        rw [decide_eq_true_eq]
        constructor
        · intro e n hn2; exact hLH.2.2.1 n (by omega)
        · intro h; have := hLH.2.2.2.2 q hq.1 h; omega
      refine j_aload_n M dX2_headOf_8 0 rfl ?_
      refine j_iload_n M dX2_headOf_9 1 rfl ?_
      refine j_iload_n M dX2_headOf_10 3 rfl ?_
      refine j_iload_n M dX2_headOf_11 2 rfl ?_
      refine j_rV (k_V M (m_comesAgain l X σ f t hm m i q (pLap s) s _ hi hL (by omega) (by omega) hb) (m_rc M) (lw_V q1502 q1504 qs60 q102 q1505) ndX2_comesAgain dX2_headOf_12 ⟨by decide, by decide, by decide, by decide⟩ rfl (Nat.le_of_ble_eq_true rfl)) ?_
      refine j_ifneB M 24 dX2_headOf_15 (by decide) (fun c_15 => ?_) (fun c_15 => ?_)
      · refine j_iload_n M dX2_headOf_24 3 rfl ?_
        refine j_iret M dX2_headOf_25 ⟨Nat.le_refl _, Nat.le_refl _⟩ ?_
        simp only [decide_eq_true_eq] at c_15
        rw [c_15]; exact ⟨rfl, rfl⟩
      · simp only [decide_eq_false_iff_not] at c_15
        refine j_iinc M dX2_headOf_18 3 rfl (by decide) ?_
        refine j_goto M 8 dX2_headOf_21 (by decide) ?_
        exact ih _ (by omega) (q + 1) rfl (by omega)
  refine j_aload_n M dX2_headOf_0 0 rfl ?_
  refine j_iload_n M dX2_headOf_1 1 rfl ?_
  refine j_rV (k_V M (m_lapOf l X σ f t hm m i s hi hL) (m_rc M) (lw_V q1498 q1500 qs59 q102 q1501) ndX2_lapOf dX2_headOf_2 ⟨by decide, by decide, by decide, by decide⟩ rfl (Nat.le_of_ble_eq_true rfl)) ?_
  refine j_istore_n M dX2_headOf_5 (by decide) ?_
  refine j_iconst M dX2_headOf_6 ?_
  refine j_istore_n M dX2_headOf_7 (by decide) ?_
  exact loop _ 0 rfl (by omega)
theorem m_zerosOf (hm : mOk σ) (m i : Int) (s : Int → Int) (hi : 0 ≤ i ∧ i < 9) (hL : rRow m t i s) : CM l X σ yX2_zerosOf cX2_zerosOf 6 (some .int) 4 [.int (zI i)] f t (some (.int (zI (pZeros s)))) f t := by
  have hbd := hL.bd
  have hP := hL.2.2.1
  obtain ⟨hLH, hp1, hh1⟩ := hP.least
  have hp0 := hLH.1
  have hh0 := hLH.2.1
  have hs := hL.2.2.2.2
  refine Ct.of (by decide) (Nat.le_of_ble_eq_true rfl) (fun Γ M => ?_)
  refine j_lv (lv' := [(0, .ref σ.1), (1, .int (zI i))]) rfl ?_
  have loop : ∀ (n j : Nat), n = (pLap s).toNat - j → (j : Int) ≤ pLap s → J Γ (mH X σ f t) 0 0 18 [(0, .ref σ.1), (1, .int (zI i)), (2, .int (zI (pHead s))), (3, .int (zI (pLap s))), (4, .int (zI (pCnt s (pHead s) j))), (5, .int (zI (pHead s + j)))] [] := by
    intro n
    induction n using Nat.strongRecOn with
    | _ n ih =>
      intro j hn hj
      have hc := pCnt_r s (pHead s) j
      refine j_iload M dX2_zerosOf_18 5 rfl ?_
      refine j_iload_n M dX2_zerosOf_20 2 rfl ?_
      refine j_iload_n M dX2_zerosOf_21 3 rfl ?_
      refine j_iadd M dX2_zerosOf_22 ?_
      refine j_icmp_ge M 53 dX2_zerosOf_23 (by decide) (by omega) (fun c_23 => ?_) (fun c_23 => ?_)
      · refine j_iload M dX2_zerosOf_53 4 rfl ?_
        refine j_iret M dX2_zerosOf_55 ⟨Nat.le_refl _, Nat.le_refl _⟩ ?_
        refine ⟨?_, rfl⟩
        rw [show j = (pLap s).toNat by omega]; rfl
      · refine j_iload M dX2_zerosOf_26 4 rfl ?_
        refine j_aload_n M dX2_zerosOf_28 0 rfl ?_
        refine j_iload_n M dX2_zerosOf_29 1 rfl ?_
        refine j_iload M dX2_zerosOf_30 5 rfl ?_
        refine j_i2l M dX2_zerosOf_32 (by omega) ?_
        refine j_rV (k_V M (m_restAt l X σ f t hm m i (pHead s + j) s hi (by omega) hL) (m_rc M) (lw_V q1486 q1488 qs57 q102 q1489) ndX2_restAt dX2_zerosOf_33 ⟨by decide, by decide, by decide, by decide⟩ rfl (Nat.le_of_ble_eq_true rfl)) ?_
        refine j_if_ne M 43 dX2_zerosOf_36 (by decide) (by have := hs (pHead s + j); omega) (fun c_36 => ?_) (fun c_36 => ?_)
        · refine j_iconst M dX2_zerosOf_43 ?_
          refine j_iadd M dX2_zerosOf_44 ?_
          refine j_istore M dX2_zerosOf_45 (by decide) ?_
          refine j_iinc M dX2_zerosOf_47 5 rfl (by decide) ?_
          refine j_goto M 18 dX2_zerosOf_50 (by decide) ?_
          have e : pCnt s (pHead s) (j + 1) = pCnt s (pHead s) j + 0 := by show _ + _ = _; rw [if_neg c_36]
          have k := ih _ (by omega) (j + 1) rfl (by omega)
          rw [e, show pHead s + ((j + 1 : Nat) : Int) = pHead s + j + 1 by omega] at k
          exact k
        · refine j_iconst M dX2_zerosOf_39 ?_
          refine j_goto M 44 dX2_zerosOf_40 (by decide) ?_
          refine j_iadd M dX2_zerosOf_44 ?_
          refine j_istore M dX2_zerosOf_45 (by decide) ?_
          refine j_iinc M dX2_zerosOf_47 5 rfl (by decide) ?_
          refine j_goto M 18 dX2_zerosOf_50 (by decide) ?_
          have e : pCnt s (pHead s) (j + 1) = pCnt s (pHead s) j + 1 := by show _ + _ = _; rw [if_pos c_36]
          have k := ih _ (by omega) (j + 1) rfl (by omega)
          rw [e, show pHead s + ((j + 1 : Nat) : Int) = pHead s + j + 1 by omega] at k
          exact k
  refine j_aload_n M dX2_zerosOf_0 0 rfl ?_
  refine j_iload_n M dX2_zerosOf_1 1 rfl ?_
  refine j_rV (k_V M (m_headOf l X σ f t hm m i s hi hL) (m_rc M) (lw_V q1506 q1508 qs61 q102 q1509) ndX2_headOf dX2_zerosOf_2 ⟨by decide, by decide, by decide, by decide⟩ rfl (Nat.le_of_ble_eq_true rfl)) ?_
  refine j_istore_n M dX2_zerosOf_5 (by decide) ?_
  refine j_aload_n M dX2_zerosOf_6 0 rfl ?_
  refine j_iload_n M dX2_zerosOf_7 1 rfl ?_
  refine j_rV (k_V M (m_lapOf l X σ f t hm m i s hi hL) (m_rc M) (lw_V q1498 q1500 qs59 q102 q1501) ndX2_lapOf dX2_zerosOf_8 ⟨by decide, by decide, by decide, by decide⟩ rfl (Nat.le_of_ble_eq_true rfl)) ?_
  refine j_istore_n M dX2_zerosOf_11 (by decide) ?_
  refine j_iconst M dX2_zerosOf_12 ?_
  refine j_istore M dX2_zerosOf_13 (by decide) ?_
  refine j_iload_n M dX2_zerosOf_15 2 rfl ?_
  refine j_istore M dX2_zerosOf_16 (by decide) ?_
  have k := loop _ 0 rfl (by omega)
  rw [show pHead s + ((0 : Nat) : Int) = pHead s by omega] at k
  exact k
/-- arrays 16 to 19 alone are others -/
def rKeep (t t' : Nat → Int → Int) : Prop := ∀ k, k ≠ 16 → k ≠ 17 → k ≠ 18 → k ≠ 19 → t' k = t k
/-- row i was laid, no other row is touched -/
def rPut (m : Int) (t t' : Nat → Int → Int) (i : Int) (s : Int → Int) : Prop := rKeep t t' ∧ rRow m t' i s ∧ (∀ j, j ≠ i → t' 16 j = t 16 j ∧ t' 17 j = t 17 j) ∧ ∀ k, (k < 512 * i ∨ 512 * i + 512 ≤ k) → t' 18 k = t 18 k
theorem m_layTold (hm : mOk σ) (m i : Int) (hi : 0 ≤ i ∧ i < 9) (hm2 : 2 ≤ m ∧ m ≤ 10) (hc : -9 ≤ t 2 (4 * i) ∧ t 2 (4 * i) ≤ 9) (hd : -9 ≤ t 2 (4 * i + 1) ∧ t 2 (4 * i + 1) ≤ 9) (he : r32 (t 2 (4 * i + 2))) (hf : r32 (t 2 (4 * i + 3))) :
    Ct l X yX2_layTold cX2_layTold 7 none (rD 1) [.ref σ.1, .int (zI i), .int (zI m)] (mH X σ f t) (fun r hp => r = none ∧ ∃ t', hp = mH X σ f t' ∧ rPut m t t' i (fun n => (pTr m (t 2 (4 * i)) (t 2 (4 * i + 1)) (t 2 (4 * i + 2)) (t 2 (4 * i + 3)) n.toNat).1)) := by
  generalize hce : t 2 (4 * i) = c at *
  generalize hde : t 2 (4 * i + 1) = d at *
  generalize hee : t 2 (4 * i + 2) = e at *
  generalize hfe : t 2 (4 * i + 3) = fe at *
  have hS : ∀ n, pTr m c d e fe (n + 1) = (fun q : Int × Int => (q.2, (c * q.2 + d * q.1) % m)) (pTr m c d e fe n) := fun n => rfl
  have hE := pE_r m
  have hper := pTr_per hm2 c d e fe
  have hrg := pTr_r (show 0 < m by omega) c d e fe
  refine Ct.of (by decide) (Nat.le_of_ble_eq_true rfl) (fun Γ M => ?_)
  refine j_lv (lv' := [(0, .ref σ.1), (1, .int (zI i)), (2, .int (zI m))]) rfl ?_
  have loop2 : ∀ (w n : Nat) (t1 : Nat → Int → Int) (ls : List (Nat × Value)), w = 400 - n → (n : Int) ≤ 6 + pE m → rKeep t t1 → (∀ j k, j < n → k < n → pTr m c d e fe j = pTr m c d e fe k → j = k) →
      (∀ x y, 0 ≤ x → x < m → 0 ≤ y → y < m → (t1 19 (m * x + y) = 2000000001 ∧ ∀ j, j < n → pTr m c d e fe j ≠ (x, y)) ∨ ∃ j : Nat, j < n ∧ pTr m c d e fe j = (x, y) ∧ t1 19 (m * x + y) = j) →
      t1 16 = t 16 → t1 17 = t 17 → (∀ j : Nat, j < n → t1 18 (512 * i + j) = (pTr m c d e fe j).1) → (∀ k, (k < 512 * i ∨ 512 * i + 512 ≤ k) → t1 18 k = t 18 k) →
      J Γ (mH X σ f t1) 0 0 57 ([(0, .ref σ.1), (1, .int (zI i)), (2, .int (zI m)), (3, .int (zI (pTr m c d e fe n).1)), (4, .int (zI (pTr m c d e fe n).2)), (5, .int (zI n))] ++ ls) [] := by
    intro w
    induction w using Nat.strongRecOn with
    | _ w ih =>
      intro n t1 ls hw hn hk hdis hmet h16 h17 h18 h18o
      refine j_loc (lv' := [(0, .ref σ.1), (1, .int (zI i)), (2, .int (zI m)), (3, .int (zI (pTr m c d e fe n).1)), (4, .int (zI (pTr m c d e fe n).2)), (5, .int (zI n))]) [0, 1, 2, 3, 4, 5] rfl ?_
      have hr := hrg n
      have hx := mul_bd 10 10 (a := m) (b := (pTr m c d e fe n).1) (by omega) (by omega)
      have hx0 : 0 ≤ m * (pTr m c d e fe n).1 := Int.mul_nonneg (by omega) (by omega)
      have hx1 : m * (pTr m c d e fe n).1 ≤ m * (m - 1) := Int.mul_le_mul_of_nonneg_left (by omega) (by omega)
      have hx2 : m * (m - 1) ≤ 10 * (m - 1) := Int.mul_le_mul_of_nonneg_right (by omega) (by omega)
      have hmt := hmet _ _ hr.1.1 hr.1.2 hr.2.1 hr.2.2
      have e2 : t1 2 = t 2 := hk 2 (by decide) (by decide) (by decide) (by decide)
      refine j_aload_n M dX2_layTold_57 0 rfl ?_
      refine m_get M 19 (by decide) q1261 rfl dX2_layTold_58 ?_
      refine j_iload_n M dX2_layTold_61 2 rfl ?_
      refine j_iload_n M dX2_layTold_62 3 rfl ?_
      refine j_imul M dX2_layTold_63 ?_
      refine j_iload M dX2_layTold_64 4 rfl ?_
      refine j_iadd M dX2_layTold_66 ?_
      refine m_ald M hm (n := 100) 19 (by decide) rfl dX2_layTold_67 (by omega) ?_
      refine j_ldc M (2000000001) q1241 (by decide) dX2_layTold_68 ?_
      refine j_icmp_ne M 144 dX2_layTold_70 (by decide) (by rcases hmt with q | ⟨j, j1, j2, j3⟩ <;> omega) (fun c_70 => ?_) (fun c_70 => ?_)
      · obtain ⟨a, a1, a2, a3⟩ : ∃ j : Nat, j < n ∧ pTr m c d e fe j = ((pTr m c d e fe n).1, (pTr m c d e fe n).2) ∧ t1 19 (m * (pTr m c d e fe n).1 + (pTr m c d e fe n).2) = j := by rcases hmt with q | q; exact absurd q.1 c_70; exact q
        have hF : First (pTr m c d e fe) n a := ⟨a1, a2.symm, hdis⟩
        have hB := hF.bound (φ := fun q : Int × Int => (q.2, (c * q.2 + d * q.1) % m)) hS (T := 6) (E := (pE m).toNat) (by omega) hper
        refine j_aload_n M dX2_layTold_144 0 rfl ?_
        refine m_get M 16 (by decide) q1258 rfl dX2_layTold_145 ?_
        refine j_iload_n M dX2_layTold_148 1 rfl ?_
        refine j_aload_n M dX2_layTold_149 0 rfl ?_
        refine m_get M 19 (by decide) q1261 rfl dX2_layTold_150 ?_
        refine j_iload_n M dX2_layTold_153 2 rfl ?_
        refine j_iload_n M dX2_layTold_154 3 rfl ?_
        refine j_imul M dX2_layTold_155 ?_
        refine j_iload M dX2_layTold_156 4 rfl ?_
        refine j_iadd M dX2_layTold_158 ?_
        refine m_ald M hm (n := 100) 19 (by decide) rfl dX2_layTold_159 (by omega) ?_
        refine m_ast M hm (n := 9) 16 (by decide) (fun _ => rfl) dX2_layTold_160 (by omega) ?_
        refine j_aload_n M dX2_layTold_161 0 rfl ?_
        refine m_get M 17 (by decide) q1259 rfl dX2_layTold_162 ?_
        refine j_iload_n M dX2_layTold_165 1 rfl ?_
        refine j_iload M dX2_layTold_166 5 rfl ?_
        refine j_aload_n M dX2_layTold_168 0 rfl ?_
        refine m_get M 16 (by decide) q1258 rfl dX2_layTold_169 ?_
        refine j_iload_n M dX2_layTold_172 1 rfl ?_
        refine m_ald M hm (n := 9) 16 (by decide) rfl dX2_layTold_173 (by omega) ?_
        refine j_isub M dX2_layTold_174 ?_
        refine m_ast M hm (n := 9) 17 (by decide) (fun _ => rfl) dX2_layTold_175 (by omega) ?_
        refine j_vret M dX2_layTold_176 ⟨Nat.le_refl _, Nat.le_refl _⟩ ?_
        try simp only [upN, reduceIte, Nat.reduceEqDiff]
        rw [a3, upA_s]
        refine ⟨trivial, _, rfl, ?_⟩
        have hper2 : Per (fun n : Int => (pTr m c d e fe n.toNat).1) (a : Int) ((n : Int) - a) := by
          refine ⟨by omega, by omega, fun k hk2 => ?_⟩
          have := hF.back (φ := fun q : Int × Int => (q.2, (c * q.2 + d * q.1) % m)) hS (k.toNat - a)
          show (pTr m c d e fe (k + (n - a)).toNat).1 = (pTr m c d e fe k.toNat).1
          rw [show (k + ((n : Int) - a)).toNat = n + (k.toNat - a) by omega, this, show a + (k.toNat - a) = k.toNat by omega]
        refine ⟨fun k k1 k2 k3 k4 => ?_, ⟨?_, ?_, ?_, ?_, ?_⟩, ?_, ?_⟩
        · rw [upN_n _ _ k2, upN_n _ _ k1]; exact hk k k1 k2 k3 k4
        · show 0 ≤ upA (t1 16) i a i ∧ upA (t1 16) i a i ≤ 6; rw [upA_s]; omega
        · show upA (t1 17) i (n - a) i ∣ pE m; rw [upA_s, nat_dvd (by omega) (by omega), show ((n : Int) - a).toNat = n - a by omega]; exact hB.2
        · show Per _ (upA (t1 16) i a i) (upA (t1 17) i (n - a) i); rw [upA_s, upA_s]; exact hper2
        · intro k k0 k1
          replace k1 : k < upA (t1 16) i a i + upA (t1 17) i (n - a) i := k1
          rw [upA_s, upA_s] at k1
          have := h18 k.toNat (by omega)
          rw [Int.toNat_of_nonneg k0] at this
          exact this
        · intro k; have := hrg k.toNat; show 0 ≤ (pTr m c d e fe k.toNat).1 ∧ (pTr m c d e fe k.toNat).1 < 10; omega
        · intro j hj
          show upA (t1 16) i a j = _ ∧ upA (t1 17) i (n - a) j = _
          rw [upA_n _ _ hj, upA_n _ _ hj, h16, h17]; exact ⟨rfl, rfl⟩
        · exact h18o
      · have hfresh : ∀ j, j < n → pTr m c d e fe j ≠ pTr m c d e fe n := by rcases hmt with q | ⟨j, j1, j2, j3⟩; exact q.2; omega
        have hn2 : (n : Int) < 6 + pE m := by
          rcases (show (n : Int) < 6 + pE m ∨ n = 6 + (pE m).toNat by omega) with q | q
          · exact q
          · exact absurd (by rw [q]; exact hper.symm) (hfresh 6 (by omega))
        have b1 := mul_bd 9 10 (a := c) (b := (pTr m c d e fe n).2) hc (by omega)
        have b2 := mul_bd 9 10 (a := d) (b := (pTr m c d e fe n).1) hd (by omega)
        refine j_aload_n M dX2_layTold_73 0 rfl ?_
        refine m_get M 19 (by decide) q1261 rfl dX2_layTold_74 ?_
        refine j_iload_n M dX2_layTold_77 2 rfl ?_
        refine j_iload_n M dX2_layTold_78 3 rfl ?_
        refine j_imul M dX2_layTold_79 ?_
        refine j_iload M dX2_layTold_80 4 rfl ?_
        refine j_iadd M dX2_layTold_82 ?_
        refine j_iload M dX2_layTold_83 5 rfl ?_
        refine m_ast M hm (n := 100) 19 (by decide) (fun _ => rfl) dX2_layTold_85 (by omega) ?_
        refine j_aload_n M dX2_layTold_86 0 rfl ?_
        refine m_get M 18 (by decide) q1260 rfl dX2_layTold_87 ?_
        refine j_sipush M dX2_layTold_90 (by decide) ?_
        refine j_iload_n M dX2_layTold_93 1 rfl ?_
        refine j_imul M dX2_layTold_94 ?_
        refine j_iload M dX2_layTold_95 5 rfl ?_
        refine j_iadd M dX2_layTold_97 ?_
        refine j_iload_n M dX2_layTold_98 3 rfl ?_
        refine j_i2b M dX2_layTold_99 (by omega) ?_
        refine m_bst M hm (n := 4608) 18 (by decide) (fun _ => rfl) dX2_layTold_100 (by omega) (by omega) ?_
        refine j_aload_n M dX2_layTold_101 0 rfl ?_
        refine m_get M 2 (by decide) q1244 rfl dX2_layTold_102 ?_
        refine j_iconst M dX2_layTold_105 ?_
        refine j_iload_n M dX2_layTold_106 1 rfl ?_
        refine j_imul M dX2_layTold_107 ?_
        refine m_ald M hm (n := 36) 2 (by decide) rfl dX2_layTold_108 (by omega) ?_
        refine j_iload M dX2_layTold_109 4 rfl ?_
        refine j_imul M dX2_layTold_111 ?_
        refine j_aload_n M dX2_layTold_112 0 rfl ?_
        refine m_get M 2 (by decide) q1244 rfl dX2_layTold_113 ?_
        refine j_iconst M dX2_layTold_116 ?_
        refine j_iload_n M dX2_layTold_117 1 rfl ?_
        refine j_imul M dX2_layTold_118 ?_
        refine j_iconst M dX2_layTold_119 ?_
        refine j_iadd M dX2_layTold_120 ?_
        refine m_ald M hm (n := 36) 2 (by decide) rfl dX2_layTold_121 (by omega) ?_
        refine j_iload_n M dX2_layTold_122 3 rfl ?_
        refine j_imul M dX2_layTold_123 ?_
        refine j_iadd M dX2_layTold_124 ?_
        refine j_iload_n M dX2_layTold_125 2 rfl ?_
        try simp only [upN, reduceIte, Nat.reduceEqDiff]
        rw [e2, hce, hde]
        refine j_rV (k_S M (m_mod l X _ _ _ (by omega) (by omega)) (lw_S q1472 q1473 q102 q1474) ndX2_mod dX2_layTold_126 ⟨by decide, by decide, by decide, by decide⟩ rfl (Nat.le_of_ble_eq_true rfl)) ?_
        refine j_istore M dX2_layTold_129 (by decide) ?_
        refine j_iload M dX2_layTold_131 4 rfl ?_
        refine j_istore_n M dX2_layTold_133 (by decide) ?_
        refine j_iload M dX2_layTold_134 6 rfl ?_
        refine j_istore M dX2_layTold_136 (by decide) ?_
        refine j_iinc M dX2_layTold_138 5 rfl (by decide) ?_
        refine j_goto M 57 dX2_layTold_141 (by decide) ?_
        refine ih (400 - (n + 1)) (by omega) (n + 1) _ [(6, .int (zI ((c * (pTr m c d e fe n).2 + d * (pTr m c d e fe n).1) % m)))] rfl (by omega) ?_ ?_ ?_ h16 h17 ?_ ?_
        · intro k k1 k2 k3 k4; rw [upN_n _ _ k3, upN_n _ _ k4]; exact hk k k1 k2 k3 k4
        · intro j k j1 k1 ejk
          rcases (show j < n ∨ j = n by omega) with q | q
          · rcases (show k < n ∨ k = n by omega) with w2 | w2
            · exact hdis j k q w2 ejk
            · rw [w2] at ejk; exact absurd ejk (hfresh j q)
          · rcases (show k < n ∨ k = n by omega) with w2 | w2
            · rw [q] at ejk; exact absurd ejk.symm (hfresh k w2)
            · omega
        · intro x y x0 x1 y0 y1
          show (upA (t1 19) (m * (pTr m c d e fe n).1 + (pTr m c d e fe n).2) n (m * x + y) = _ ∧ _) ∨ ∃ j : Nat, j < n + 1 ∧ _ ∧ upA (t1 19) (m * (pTr m c d e fe n).1 + (pTr m c d e fe n).2) n (m * x + y) = _
          by_cases exy : pTr m c d e fe n = (x, y)
          · right
            refine ⟨n, by omega, exy, ?_⟩
            rw [exy]; exact upA_s _ _ _
          · have hne : m * x + y ≠ m * (pTr m c d e fe n).1 + (pTr m c d e fe n).2 := fun q => exy (by
              have q1 : x = (pTr m c d e fe n).1 := mx_inj (by omega) ⟨y0, y1⟩ hr.2 q
              exact Prod.ext q1.symm (by rw [q1] at q; show (pTr m c d e fe n).2 = y; omega))
            rw [upA_n _ _ hne]
            rcases hmet x y x0 x1 y0 y1 with q | ⟨j, j1, j2, j3⟩
            · left
              refine ⟨q.1, fun j hj => ?_⟩
              rcases (show j < n ∨ j = n by omega) with w2 | w2
              · exact q.2 j w2
              · rw [w2]; exact exy
            · right; exact ⟨j, by omega, j2, j3⟩
        · intro j hj
          show upA (t1 18) (512 * i + n) (pTr m c d e fe n).1 (512 * i + j) = _
          rcases (show j < n ∨ j = n by omega) with w2 | w2
          · rw [upA_n _ _ (by omega)]; exact h18 j w2
          · rw [w2, upA_s]
        · intro k hk2
          show upA (t1 18) (512 * i + n) (pTr m c d e fe n).1 k = _
          rw [upA_n _ _ (by omega)]; exact h18o k hk2
  have loop1 : ∀ (w : Nat) (k : Int) (g : Int → Int), w = (m * m - k).toNat → 0 ≤ k ∧ k ≤ m * m → (∀ j, 0 ≤ j → j < k → g j = 2000000001) → J Γ (mH X σ f (upN t 19 g)) 0 0 2 [(0, .ref σ.1), (1, .int (zI i)), (2, .int (zI m)), (3, .int (zI k))] [] := by
    intro w
    induction w using Nat.strongRecOn with
    | _ w ih =>
      intro k g hw hk hg
      have hmm := mul_bd 10 10 (a := m) (b := m) (by omega) (by omega)
      refine j_iload_n M dX2_layTold_2 3 rfl ?_
      refine j_iload_n M dX2_layTold_3 2 rfl ?_
      refine j_iload_n M dX2_layTold_4 2 rfl ?_
      refine j_imul M dX2_layTold_5 ?_
      refine j_icmp_ge M 23 dX2_layTold_6 (by decide) (by omega) (fun c_6 => ?_) (fun c_6 => ?_)
      · refine j_aload_n M dX2_layTold_23 0 rfl ?_
        refine m_get M 2 (by decide) q1244 rfl dX2_layTold_24 ?_
        refine j_iconst M dX2_layTold_27 ?_
        refine j_iload_n M dX2_layTold_28 1 rfl ?_
        refine j_imul M dX2_layTold_29 ?_
        refine j_iconst M dX2_layTold_30 ?_
        refine j_iadd M dX2_layTold_31 ?_
        refine m_ald M hm (n := 36) 2 (by decide) rfl dX2_layTold_32 (by omega) ?_
        refine j_iload_n M dX2_layTold_33 2 rfl ?_
        try simp only [upN, reduceIte, Nat.reduceEqDiff]
        rw [hee]
        refine j_rV (k_S M (m_mod l X _ _ _ he (by omega)) (lw_S q1472 q1473 q102 q1474) ndX2_mod dX2_layTold_34 ⟨by decide, by decide, by decide, by decide⟩ rfl (Nat.le_of_ble_eq_true rfl)) ?_
        refine j_istore_n M dX2_layTold_37 (by decide) ?_
        refine j_aload_n M dX2_layTold_38 0 rfl ?_
        refine m_get M 2 (by decide) q1244 rfl dX2_layTold_39 ?_
        refine j_iconst M dX2_layTold_42 ?_
        refine j_iload_n M dX2_layTold_43 1 rfl ?_
        refine j_imul M dX2_layTold_44 ?_
        refine j_iconst M dX2_layTold_45 ?_
        refine j_iadd M dX2_layTold_46 ?_
        refine m_ald M hm (n := 36) 2 (by decide) rfl dX2_layTold_47 (by omega) ?_
        refine j_iload_n M dX2_layTold_48 2 rfl ?_
        try simp only [upN, reduceIte, Nat.reduceEqDiff]
        rw [hfe]
        refine j_rV (k_S M (m_mod l X _ _ _ hf (by omega)) (lw_S q1472 q1473 q102 q1474) ndX2_mod dX2_layTold_49 ⟨by decide, by decide, by decide, by decide⟩ rfl (Nat.le_of_ble_eq_true rfl)) ?_
        refine j_istore M dX2_layTold_52 (by decide) ?_
        refine j_iconst M dX2_layTold_54 ?_
        refine j_istore M dX2_layTold_55 (by decide) ?_
        refine loop2 400 0 _ [] rfl (by omega) (fun k k1 k2 k3 k4 => upN_n _ _ k4) (fun j k j1 => by omega) ?_ rfl rfl (fun j j1 => by omega) (fun _ _ => rfl)
        intro x y x0 x1 y0 y1
        left
        refine ⟨?_, fun j j1 => by omega⟩
        have z1 : m * x ≤ m * (m - 1) := Int.mul_le_mul_of_nonneg_left (by omega) (by omega)
        have z0 : 0 ≤ m * x := Int.mul_nonneg (by omega) x0
        rw [Int.mul_sub] at z1
        exact hg _ (by omega) (by omega)
      · refine j_aload_n M dX2_layTold_9 0 rfl ?_
        refine m_get M 19 (by decide) q1261 rfl dX2_layTold_10 ?_
        refine j_iload_n M dX2_layTold_13 3 rfl ?_
        refine j_ldc M (2000000001) q1241 (by decide) dX2_layTold_14 ?_
        refine m_ast M hm (n := 100) 19 (by decide) (fun _ => rfl) dX2_layTold_16 (by omega) ?_
        refine j_iinc M dX2_layTold_17 3 rfl (by decide) ?_
        refine j_goto M 2 dX2_layTold_20 (by decide) ?_
        simp only [upN_s, upN_uu]
        refine ih _ (by omega) (k + 1) _ rfl (by omega) (fun j j0 j1 => ?_)
        by_cases ej : j = k
        · rw [ej, upA_s]
        · rw [upA_n _ _ ej]; exact hg j j0 (by omega)
  refine j_iconst M dX2_layTold_0 ?_
  refine j_istore_n M dX2_layTold_1 (by decide) ?_
  refine j_hp (hp' := mH X σ f (upN t 19 (t 19))) (by rw [upN_id]) (loop1 _ 0 _ rfl ⟨by omega, Int.mul_nonneg (by omega) (by omega)⟩ (fun j j0 j1 => by omega))
end M3
