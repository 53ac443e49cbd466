/-! 46: the component: terms -/
set_option maxRecDepth 100000
theorem rm_le {d e m : Nat} (h : d + 1 ≤ e) (hm : m ≤ 40) : (rD d).frames + 1 ≤ (rD e).frames ∧ 8 + (m + 11) + (rD d).locals ≤ (rD e).locals := ⟨h, by show 8 + (m + 11) + 64 * d ≤ 64 * e; omega⟩
section C8
variable (l : Launch) (X : Cx) (hp : Hp)
theorem c_ofX13 (a b : Int) : CS l X yX13_of cX13_of 5 (some .long) 0 [.ref (cxS X 0), .long (zL a), .long (zL b)] hp (some (.long (zL (a + b)))) := by
  refine Ct.of (by decide) (Nat.le_of_ble_eq_true rfl) (fun Γ M => ?_)
  refine j_lv (lv' := [(0, .ref (cxS X 0)), (1, .long (zL a)), (3, .long (zL b))]) rfl ?_
  refine j_lload_n M dX13_of_0 1 rfl ?_
  refine j_lload_n M dX13_of_1 2 rfl ?_
  refine j_ladd M dX13_of_2 ?_
  refine j_lret M dX13_of_3 ⟨Nat.le_refl _, Nat.le_refl _⟩ ?_
  exact ⟨rfl, rfl⟩
theorem c_ofX14 (a b : Int) : CS l X yX14_of cX14_of 5 (some .long) 0 [.ref (cxS X 1), .long (zL a), .long (zL b)] hp (some (.long (zL (a * b)))) := by
  refine Ct.of (by decide) (Nat.le_of_ble_eq_true rfl) (fun Γ M => ?_)
  refine j_lv (lv' := [(0, .ref (cxS X 1)), (1, .long (zL a)), (3, .long (zL b))]) rfl ?_
  refine j_lload_n M dX14_of_0 1 rfl ?_
  refine j_lload_n M dX14_of_1 2 rfl ?_
  refine j_lmul M dX14_of_2 ?_
  refine j_lret M dX14_of_3 ⟨Nat.le_refl _, Nat.le_refl _⟩ ?_
  exact ⟨rfl, rfl⟩
theorem c_mixX7 (a : Nat) : CS l X yX7_mix cX7_mix 1 (some (.object "AheadRows$Mix")) 0 [.ref a] hp (some (.ref (cxS X 0))) := by
  refine Ct.of (by decide) (Nat.le_of_ble_eq_true rfl) (fun Γ M => ?_)
  refine j_lv (lv' := [(0, .ref a)]) rfl ?_
  refine j_gets0 M q752 dX7_mix_0 ?_
  refine j_aret M dX7_mix_3 (Or.inl ⟨_, rfl⟩) ⟨Nat.le_refl _, Nat.le_refl _⟩ ?_
  exact ⟨rfl, rfl⟩
theorem c_mixX8 (a : Nat) : CS l X yX8_mix cX8_mix 1 (some (.object "AheadRows$Mix")) 0 [.ref a] hp (some (.ref (cxS X 1))) := by
  refine Ct.of (by decide) (Nat.le_of_ble_eq_true rfl) (fun Γ M => ?_)
  refine j_lv (lv' := [(0, .ref a)]) rfl ?_
  refine j_gets1 M q747 dX8_mix_0 ?_
  refine j_aret M dX8_mix_3 (Or.inl ⟨_, rfl⟩) ⟨Nat.le_refl _, Nat.le_refl _⟩ ?_
  exact ⟨rfl, rfl⟩
variable (x : Nat) (ad : Nat → Nat) (v : Nat → Int) (el : Nat) (N : Int) (r : Nat → Nat) (K P : Int → Int)
/-- the terms of row i -/
def ExOk (l : Launch) (X : Cx) (hp : Hp) (x : Nat) (r : Nat → Nat) (K P : Int → Int) (i : Int) : Prop := ∀ n, 0 ≤ n → n + i ≤ 300 → Dv_exact l X hp (r i.toNat) K i (rD (4 + i.toNat)) [.ref x, .int (zI n)] (pD (some (.long (zL (pTerm K P i n)))) hp)
theorem c_exactX10 (hN : N ≤ 8) (hr : rsOk K P N) (hx : hp x = some (eA ad v)) (hR : RowsAt X hp (ad 1) el N r K P) (i n : Int) (hi : 0 ≤ i ∧ i < N) (hn : 0 ≤ n ∧ n + i ≤ 300) (hk : K i = 3) (ih : ∀ j, 0 ≤ j → j < i → ExOk l X hp x r K P j) : Ct l X yX10_exact cX10_exact 3 (some .long) (rD (4 + i.toNat)) [.ref (r i.toNat), .ref x, .int (zI n)] hp (pD (some (.long (zL (pTerm K P i n)))) hp) := by
  have ho := hr i hi.1 hi.2
  have p1 := rOk_part ho (by omega)
  have p2 := rOk_each ho hk
  have ha := hR.2 i.toNat (by omega)
  rw [Int.toNat_of_nonneg hi.1, rowE3 hk] at ha
  have h1 := hR.2 (P (4 * i)).toNat (by omega)
  rw [Int.toNat_of_nonneg p1.1] at h1
  have k1 := rOk_k (hr (P (4 * i)) p1.1 (by omega))
  have b1 := mul_bd 5 300 (a := P (4 * i + 1)) (b := n) (by omega) (by omega)
  have b2 : 0 ≤ P (4 * i + 1) * n := Int.mul_nonneg (by omega) (by omega)
  refine Ct.of (by decide) (Nat.le_of_ble_eq_true rfl) (fun Γ M => ?_)
  refine j_lv (lv' := [(0, .ref (r i.toNat)), (1, .ref x), (2, .int (zI n))]) rfl ?_
  refine j_iload_n M dX10_exact_0 2 rfl ?_
  refine j_sipush M dX10_exact_1 (by decide) ?_
  refine j_icmp_gt M 24 dX10_exact_4 (by decide) (by omega) (fun c_4 => ?_) (fun c_4 => ?_)
  · refine j_ldc2 M (2000000002) q716 (by decide) dX10_exact_24 ?_
    refine j_goto M 53 dX10_exact_27 (by decide) ?_
    refine j_lret M dX10_exact_53 ⟨Nat.le_refl _, Nat.le_refl _⟩ ?_
    exact ⟨by rw [pTerm_far (by omega)], rfl⟩
  · refine j_aload_n M dX10_exact_7 0 rfl ?_
    refine j_get M ha rfl 1 (by decide) in_X10 q406 rfl dX10_exact_8 ?_
    refine j_iload_n M dX10_exact_11 2 rfl ?_
    refine j_imul M dX10_exact_12 ?_
    refine j_aload_n M dX10_exact_13 0 rfl ?_
    refine j_get M ha rfl 2 (by decide) in_X10 q407 rfl dX10_exact_14 ?_
    refine j_iadd M dX10_exact_17 ?_
    refine j_sipush M dX10_exact_18 (by decide) ?_
    refine j_icmp_le M 30 dX10_exact_21 (by decide) (by omega) (fun c_21 => ?_) (fun c_21 => ?_)
    · refine j_aload_n M dX10_exact_30 1 rfl ?_
      refine j_aload_n M dX10_exact_31 0 rfl ?_
      refine j_getI M ha rfl 0 (by decide) in_X10 q409 q410 rfl dX10_exact_32 ?_
      refine j_rV (k_VN M (c_rowOf l X hp x ad v el N (P (4 * i)) r K P hx hR (by omega) k1) (rc_of M hx rfl) q717 q97 q561 qs13 (lw_meth q562) ndX0_rowOf dX10_exact_35 ⟨(rm_le (d := 3) (e := 4 + i.toNat) (by omega) (by decide)).1, (rm_le (d := 3) (e := 4 + i.toNat) (by omega) (by decide)).2, by decide, by decide⟩ rfl (Nat.le_of_ble_eq_true rfl)) ?_
      refine j_aload_n M dX10_exact_38 1 rfl ?_
      refine j_aload_n M dX10_exact_39 0 rfl ?_
      refine j_get M ha rfl 1 (by decide) in_X10 q406 rfl dX10_exact_40 ?_
      refine j_iload_n M dX10_exact_43 2 rfl ?_
      refine j_imul M dX10_exact_44 ?_
      refine j_aload_n M dX10_exact_45 0 rfl ?_
      refine j_get M ha rfl 2 (by decide) in_X10 q407 rfl dX10_exact_46 ?_
      refine j_iadd M dX10_exact_49 ?_
      refine j_rV (dv_exact M q718 k1 h1 (ih (P (4 * i)) p1.1 p1.2 (P (4 * i + 1) * n + P (4 * i + 2)) (by omega) (by omega)) rfl dX10_exact_50 ⟨(rm_le (d := 4 + (P (4 * i)).toNat) (e := 4 + i.toNat) (by omega) (by decide)).1, (rm_le (d := 4 + (P (4 * i)).toNat) (e := 4 + i.toNat) (by omega) (by decide)).2, by decide, by decide⟩ rfl (Nat.le_of_ble_eq_true rfl)) ?_
      refine j_lret M dX10_exact_53 ⟨Nat.le_refl _, Nat.le_refl _⟩ ?_
      exact ⟨by rw [pTerm_each hr hi.1 hi.2 (by omega) hk], rfl⟩
    · refine j_ldc2 M (2000000002) q716 (by decide) dX10_exact_24 ?_
      refine j_goto M 53 dX10_exact_27 (by decide) ?_
      refine j_lret M dX10_exact_53 ⟨Nat.le_refl _, Nat.le_refl _⟩ ?_
      exact ⟨by rw [pTerm_each hr hi.1 hi.2 (by omega) hk, pTerm_far (by omega)], rfl⟩
end C8
