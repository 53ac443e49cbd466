/-! 46: the component: terms -/
set_option maxRecDepth 100000
theorem rmD {d e m ce sl : Nat} (h : d + 1 ≤ e) (hm : m ≤ 40) (h1 : ce = 0) (h2 : sl = 0) : rmP (rD d) (rD e) m ce sl := ⟨h, by show 8 + (m + 11) + 64 * d ≤ 64 * e; omega, by rw [h1]; exact Nat.le_refl _, by rw [h2]; exact Nat.le_refl _⟩
/-- more room does no harm -/
theorem Ct.room {l : Launch} {X : Cx} {y : MethodName} {cc : ByteArray} {nL : Nat} {ret : Option FieldType} {d d' : Nat} {avs : List Value} {hp : Hp} {post : Option Value → Hp → Prop} (h : Ct l X y cc nL ret (rD d) avs hp post) (hd : d ≤ d') : Ct l X y cc nL ret (rD d') avs hp post := by
  intro p e ha hc hk s m args below hf happ hP hK
  refine h p e ha hc hk s m args below hf ?_ hP hK
  obtain ⟨h1, h2, h3, h4, h5, h6, h7, h8⟩ := (Spec.appliesLoose_iff hf).mp happ
  refine (Spec.appliesLoose_iff hf).mpr ⟨h1, h2, h3, h4, h5, h6, ?_, h8⟩
  have e1 : (headSpec (ws_ y cc nL ret) (rD d)).room = rD d := rfl
  have e2 : (headSpec (ws_ y cc nL ret) (rD d')).room = rD d' := rfl
  rw [e2] at h7
  rw [e1]
  simp only [State.hasRoom, Bool.and_eq_true, decide_eq_true_eq] at h7 ⊢
  obtain ⟨⟨⟨⟨a1, b1, b2, b3, b4, b5⟩, a3⟩, a4⟩, a5⟩ := h7
  exact ⟨⟨⟨⟨by omega, by omega, by omega, by omega, by omega, b5⟩, a3⟩, a4⟩, a5⟩
section C8
variable (l : Launch) (X : Cx) (hp : Hp)
theorem c_ofX13 (a b : Int) : CtU l X yX13_of cX13_of 5 (some .long) (rD 0) [.ref (cxS X 0), .long (zL a), .long (zL b)] hp (pD (some (.long (zL (a + b)))) hp) := by
  refine CtU.of (by decide +kernel) (Nat.le_of_ble_eq_true rfl) (fun Γ M => ?_)
  refine j_lv (lv' := [(0, .ref (cxS X 0)), (1, .long (zL a)), (3, .long (zL b))]) rfl ?_
  refine j_lload_n M dX13_of_0 1 rfl ?_
  refine j_lload_n M dX13_of_1 2 rfl ?_
  refine j_ladd M dX13_of_2 ?_
  refine j_lret M dX13_of_3 ⟨Nat.le_refl _, Nat.le_refl _⟩ ?_
  exact ⟨rfl, rfl⟩
theorem c_ofX14 (a b : Int) : CtU l X yX14_of cX14_of 5 (some .long) (rD 0) [.ref (cxS X 1), .long (zL a), .long (zL b)] hp (pD (some (.long (zL (a * b)))) hp) := by
  refine CtU.of (by decide +kernel) (Nat.le_of_ble_eq_true rfl) (fun Γ M => ?_)
  refine j_lv (lv' := [(0, .ref (cxS X 1)), (1, .long (zL a)), (3, .long (zL b))]) rfl ?_
  refine j_lload_n M dX14_of_0 1 rfl ?_
  refine j_lload_n M dX14_of_1 2 rfl ?_
  refine j_lmul M dX14_of_2 ?_
  refine j_lret M dX14_of_3 ⟨Nat.le_refl _, Nat.le_refl _⟩ ?_
  exact ⟨rfl, rfl⟩
theorem c_mixX7 (a : Nat) : CS l X yX7_mix cX7_mix 1 (some (.object "AheadRows$Mix")) 0 [.ref a] hp (some (.ref (cxS X 0))) := by
  refine Ct.of (by decide) (Nat.le_of_ble_eq_true rfl) (fun Γ M => ?_)
  refine j_lv (lv' := [(0, .ref a)]) rfl ?_
  refine j_gets0 M q752 dX7_mix_0 ?_
  refine j_aret M dX7_mix_3 (Or.inl ⟨_, rfl⟩) ⟨Nat.le_refl _, Nat.le_refl _⟩ ?_
  exact ⟨rfl, rfl⟩
theorem c_mixX8 (a : Nat) : CS l X yX8_mix cX8_mix 1 (some (.object "AheadRows$Mix")) 0 [.ref a] hp (some (.ref (cxS X 1))) := by
  refine Ct.of (by decide) (Nat.le_of_ble_eq_true rfl) (fun Γ M => ?_)
  refine j_lv (lv' := [(0, .ref a)]) rfl ?_
  refine j_gets1 M q747 dX8_mix_0 ?_
  refine j_aret M dX8_mix_3 (Or.inl ⟨_, rfl⟩) ⟨Nat.le_refl _, Nat.le_refl _⟩ ?_
  exact ⟨rfl, rfl⟩
variable (x : Nat) (ad : Nat → Nat) (v : Nat → Int) (el : Nat) (N : Int) (r : Nat → Nat) (K P : Int → Int)
/-- the terms of row i -/
def ExOk (l : Launch) (X : Cx) (hp : Hp) (x : Nat) (r : Nat → Nat) (K P : Int → Int) (i : Int) : Prop := ∀ n, 0 ≤ n → n + i ≤ 300 → Dv_exact l X hp (r i.toNat) K i (rD (4 + i.toNat)) [.ref x, .int (zI n)] (pD (some (.long (zL (pTerm K P i n)))) hp)
theorem c_exactX7 (hN : N ≤ 8) (hr : rsOk K P N) (hx : hp x = some (eA ad v)) (hR : RowsAt X hp (ad 1) el N r K P) (i n : Int) (hi : 0 ≤ i ∧ i < N) (hn : 0 ≤ n ∧ n + i ≤ 300) (hk : K i = 1) (ih : ∀ j, 0 ≤ j → j < i → ExOk l X hp x r K P j) : Ct l X yX6_exact cX6_exact 7 (some .long) (rD (4 + i.toNat)) [.ref (r i.toNat), .ref x, .int (zI n)] hp (pD (some (.long (zL (pTerm K P i n)))) hp) := by
  have ho := hr i hi.1 hi.2
  have p1 := rOk_part ho (by omega)
  have p2 := rOk_part2 ho (by omega)
  have ha := hR.2 i.toNat (by omega)
  rw [Int.toNat_of_nonneg hi.1, rowE1 hk] at ha
  have h1 := hR.2 (P (4 * i)).toNat (by omega)
  rw [Int.toNat_of_nonneg p1.1] at h1
  have h2 := hR.2 (P (4 * i + 1)).toNat (by omega)
  rw [Int.toNat_of_nonneg p2.1] at h2
  have k1 := rOk_k (hr (P (4 * i)) p1.1 (by omega))
  have k2 := rOk_k (hr (P (4 * i + 1)) p2.1 (by omega))
  have t1 := pTerm_r hr (i := P (4 * i)) (n := n) p1.1 (by omega)
  have t2 := pTerm_r hr (i := P (4 * i + 1)) (n := n) p2.1 (by omega)
  have i1 := ih (P (4 * i)) p1.1 p1.2 n (by omega) (by omega)
  have i2 := ih (P (4 * i + 1)) p2.1 p2.2 n (by omega) (by omega)
  have hres : pTerm K P i n = pBoth 1 (pTerm K P (P (4 * i)) n) (pTerm K P (P (4 * i + 1)) n) := by
    by_cases c : n ≤ 200
    · rw [pTerm_both hr hi.1 hi.2 c (by omega), hk]
    · rw [pTerm_far (by omega), pTerm_far (by omega)]; rfl
  rw [hres]
  generalize pTerm K P (P (4 * i)) n = u1 at *
  generalize pTerm K P (P (4 * i + 1)) n = u2 at *
  have z1 := tR_r t1
  have z2 := tR_r t2
  refine Ct.of (by decide) (Nat.le_of_ble_eq_true rfl) (fun Γ M => ?_)
  refine j_lv (lv' := [(0, .ref (r i.toNat)), (1, .ref x), (2, .int (zI n))]) rfl ?_
  refine j_aload_n M dX6_exact_0 1 rfl ?_
  refine j_aload_n M dX6_exact_1 0 rfl ?_
  refine j_get M ha rfl 0 (by decide) in_X7 q373 rfl dX6_exact_2 ?_
  refine j_rV (k_VN M (c_rowOf l X hp x ad v el N (P (4 * i)) r K P hx hR (by omega) k1) (rc_of M hx rfl) q721 q97 q561 qs13 (lw_meth q562) ndX0_rowOf dX6_exact_5 (rmD (by omega) (by decide) rfl rfl) rfl (Nat.le_of_ble_eq_true rfl)) ?_
  refine j_aload_n M dX6_exact_8 1 rfl ?_
  refine j_iload_n M dX6_exact_9 2 rfl ?_
  refine j_rV (dv_exact M q722 k1 h1 (i1) rfl dX6_exact_10 (rmD (by omega) (by decide) rfl rfl) rfl (Nat.le_of_ble_eq_true rfl)) ?_
  refine j_lstore_n M dX6_exact_13 (by decide) ?_
  refine j_aload_n M dX6_exact_14 1 rfl ?_
  refine j_aload_n M dX6_exact_15 0 rfl ?_
  refine j_get M ha rfl 1 (by decide) in_X7 q378 rfl dX6_exact_16 ?_
  refine j_rV (k_VN M (c_rowOf l X hp x ad v el N (P (4 * i + 1)) r K P hx hR (by omega) k2) (rc_of M hx rfl) q721 q97 q561 qs13 (lw_meth q562) ndX0_rowOf dX6_exact_19 (rmD (by omega) (by decide) rfl rfl) rfl (Nat.le_of_ble_eq_true rfl)) ?_
  refine j_aload_n M dX6_exact_22 1 rfl ?_
  refine j_iload_n M dX6_exact_23 2 rfl ?_
  refine j_rV (dv_exact M q722 k2 h2 (i2) rfl dX6_exact_24 (rmD (by omega) (by decide) rfl rfl) rfl (Nat.le_of_ble_eq_true rfl)) ?_
  refine j_lstore M dX6_exact_27 (by decide) ?_
  refine j_lload_n M dX6_exact_29 3 rfl ?_
  refine j_ldc2 M (2000000002) q740 (by decide) dX6_exact_30 ?_
  refine j_lcmp_eq M 46 dX6_exact_33 dX6_exact_34 (by decide) (by omega) (fun c_33 => ?_) (fun c_33 => ?_)
  · refine j_ldc2 M (2000000002) q740 (by decide) dX6_exact_46 ?_
    refine j_goto M 65 dX6_exact_49 (by decide) ?_
    refine j_lret M dX6_exact_65 ⟨Nat.le_refl _, Nat.le_refl _⟩ ?_
    exact ⟨by unfold pBoth; rw [if_pos (by omega)], rfl⟩
  · refine j_lload M dX6_exact_37 4 rfl ?_
    refine j_ldc2 M (2000000002) q740 (by decide) dX6_exact_39 ?_
    refine j_lcmp_ne M 52 dX6_exact_42 dX6_exact_43 (by decide) (by omega) (fun c_42 => ?_) (fun c_42 => ?_)
    · have y1 := tR_f t1 c_33
      have y2 := tR_f t2 c_42
      have b1 := mul_bd 1000000000 1000000000 y1 y2
      refine j_aload_n M dX6_exact_52 0 rfl ?_
      refine j_rV (k_A M (C := "AheadRows$Sum") (xc := ⟨"AheadRows$Both", "mix", "()LAheadRows$Mix;"⟩) (c_mixX7 l X hp (r i.toNat)) (rc_of M ha rfl) (lw_U q741 q743 q749 q750 q107 q751) q742 ⟨by decide, by decide, ndX7_mix.2.2⟩ dX6_exact_53 (rmD (by omega) (by decide) rfl rfl) rfl (Nat.le_of_ble_eq_true rfl)) ?_
      refine j_lload_n M dX6_exact_56 3 rfl ?_
      refine j_lload M dX6_exact_57 4 rfl ?_
      refine j_rV (k_AU M (C := "AheadRows$Mix$1") (xc := ⟨"AheadRows$Mix", "of", "(JJ)J"⟩) (c_ofX13 l X hp u1 u2) (rc_mix0 M) q754 q756 q757 q758 (lw_meth q759) q755 ⟨by decide, by decide, ndX13_of.2.2⟩ dX6_exact_59 (rmD (by omega) (by decide) rfl rfl) rfl (Nat.le_of_ble_eq_true rfl)) ?_
      refine j_rV (k_SI M (xc := ⟨"AheadRows$Both", "near", "(J)J"⟩) (c_near l X hp _ (by omega)) rfl q763 q764 q732 q104 (lw_meth q733) ndX4_near dX6_exact_62 (rmD (by omega) (by decide) rfl rfl) rfl (Nat.le_of_ble_eq_true rfl)) ?_
      refine j_lret M dX6_exact_65 ⟨Nat.le_refl _, Nat.le_refl _⟩ ?_
      exact ⟨by unfold pBoth; rw [if_neg (by omega)]; rfl, rfl⟩
    · refine j_ldc2 M (2000000002) q740 (by decide) dX6_exact_46 ?_
      refine j_goto M 65 dX6_exact_49 (by decide) ?_
      refine j_lret M dX6_exact_65 ⟨Nat.le_refl _, Nat.le_refl _⟩ ?_
      exact ⟨by unfold pBoth; rw [if_pos (by omega)], rfl⟩
theorem c_exactX8 (hN : N ≤ 8) (hr : rsOk K P N) (hx : hp x = some (eA ad v)) (hR : RowsAt X hp (ad 1) el N r K P) (i n : Int) (hi : 0 ≤ i ∧ i < N) (hn : 0 ≤ n ∧ n + i ≤ 300) (hk : K i = 2) (ih : ∀ j, 0 ≤ j → j < i → ExOk l X hp x r K P j) : Ct l X yX6_exact cX6_exact 7 (some .long) (rD (4 + i.toNat)) [.ref (r i.toNat), .ref x, .int (zI n)] hp (pD (some (.long (zL (pTerm K P i n)))) hp) := by
  have ho := hr i hi.1 hi.2
  have p1 := rOk_part ho (by omega)
  have p2 := rOk_part2 ho (by omega)
  have ha := hR.2 i.toNat (by omega)
  rw [Int.toNat_of_nonneg hi.1, rowE2 hk] at ha
  have h1 := hR.2 (P (4 * i)).toNat (by omega)
  rw [Int.toNat_of_nonneg p1.1] at h1
  have h2 := hR.2 (P (4 * i + 1)).toNat (by omega)
  rw [Int.toNat_of_nonneg p2.1] at h2
  have k1 := rOk_k (hr (P (4 * i)) p1.1 (by omega))
  have k2 := rOk_k (hr (P (4 * i + 1)) p2.1 (by omega))
  have t1 := pTerm_r hr (i := P (4 * i)) (n := n) p1.1 (by omega)
  have t2 := pTerm_r hr (i := P (4 * i + 1)) (n := n) p2.1 (by omega)
  have i1 := ih (P (4 * i)) p1.1 p1.2 n (by omega) (by omega)
  have i2 := ih (P (4 * i + 1)) p2.1 p2.2 n (by omega) (by omega)
  have hres : pTerm K P i n = pBoth 2 (pTerm K P (P (4 * i)) n) (pTerm K P (P (4 * i + 1)) n) := by
    by_cases c : n ≤ 200
    · rw [pTerm_both hr hi.1 hi.2 c (by omega), hk]
    · rw [pTerm_far (by omega), pTerm_far (by omega)]; rfl
  rw [hres]
  generalize pTerm K P (P (4 * i)) n = u1 at *
  generalize pTerm K P (P (4 * i + 1)) n = u2 at *
  have z1 := tR_r t1
  have z2 := tR_r t2
  refine Ct.of (by decide) (Nat.le_of_ble_eq_true rfl) (fun Γ M => ?_)
  refine j_lv (lv' := [(0, .ref (r i.toNat)), (1, .ref x), (2, .int (zI n))]) rfl ?_
  refine j_aload_n M dX6_exact_0 1 rfl ?_
  refine j_aload_n M dX6_exact_1 0 rfl ?_
  refine j_get M ha rfl 0 (by decide) in_X8 q373 rfl dX6_exact_2 ?_
  refine j_rV (k_VN M (c_rowOf l X hp x ad v el N (P (4 * i)) r K P hx hR (by omega) k1) (rc_of M hx rfl) q721 q97 q561 qs13 (lw_meth q562) ndX0_rowOf dX6_exact_5 (rmD (by omega) (by decide) rfl rfl) rfl (Nat.le_of_ble_eq_true rfl)) ?_
  refine j_aload_n M dX6_exact_8 1 rfl ?_
  refine j_iload_n M dX6_exact_9 2 rfl ?_
  refine j_rV (dv_exact M q722 k1 h1 (i1) rfl dX6_exact_10 (rmD (by omega) (by decide) rfl rfl) rfl (Nat.le_of_ble_eq_true rfl)) ?_
  refine j_lstore_n M dX6_exact_13 (by decide) ?_
  refine j_aload_n M dX6_exact_14 1 rfl ?_
  refine j_aload_n M dX6_exact_15 0 rfl ?_
  refine j_get M ha rfl 1 (by decide) in_X8 q378 rfl dX6_exact_16 ?_
  refine j_rV (k_VN M (c_rowOf l X hp x ad v el N (P (4 * i + 1)) r K P hx hR (by omega) k2) (rc_of M hx rfl) q721 q97 q561 qs13 (lw_meth q562) ndX0_rowOf dX6_exact_19 (rmD (by omega) (by decide) rfl rfl) rfl (Nat.le_of_ble_eq_true rfl)) ?_
  refine j_aload_n M dX6_exact_22 1 rfl ?_
  refine j_iload_n M dX6_exact_23 2 rfl ?_
  refine j_rV (dv_exact M q722 k2 h2 (i2) rfl dX6_exact_24 (rmD (by omega) (by decide) rfl rfl) rfl (Nat.le_of_ble_eq_true rfl)) ?_
  refine j_lstore M dX6_exact_27 (by decide) ?_
  refine j_lload_n M dX6_exact_29 3 rfl ?_
  refine j_ldc2 M (2000000002) q740 (by decide) dX6_exact_30 ?_
  refine j_lcmp_eq M 46 dX6_exact_33 dX6_exact_34 (by decide) (by omega) (fun c_33 => ?_) (fun c_33 => ?_)
  · refine j_ldc2 M (2000000002) q740 (by decide) dX6_exact_46 ?_
    refine j_goto M 65 dX6_exact_49 (by decide) ?_
    refine j_lret M dX6_exact_65 ⟨Nat.le_refl _, Nat.le_refl _⟩ ?_
    exact ⟨by unfold pBoth; rw [if_pos (by omega)], rfl⟩
  · refine j_lload M dX6_exact_37 4 rfl ?_
    refine j_ldc2 M (2000000002) q740 (by decide) dX6_exact_39 ?_
    refine j_lcmp_ne M 52 dX6_exact_42 dX6_exact_43 (by decide) (by omega) (fun c_42 => ?_) (fun c_42 => ?_)
    · have y1 := tR_f t1 c_33
      have y2 := tR_f t2 c_42
      have b1 := mul_bd 1000000000 1000000000 y1 y2
      refine j_aload_n M dX6_exact_52 0 rfl ?_
      refine j_rV (k_A M (C := "AheadRows$Product") (xc := ⟨"AheadRows$Both", "mix", "()LAheadRows$Mix;"⟩) (c_mixX8 l X hp (r i.toNat)) (rc_of M ha rfl) (lw_U q741 q743 q744 q745 q108 q746) q742 ⟨by decide, by decide, ndX8_mix.2.2⟩ dX6_exact_53 (rmD (by omega) (by decide) rfl rfl) rfl (Nat.le_of_ble_eq_true rfl)) ?_
      refine j_lload_n M dX6_exact_56 3 rfl ?_
      refine j_lload M dX6_exact_57 4 rfl ?_
      refine j_rV (k_AU M (C := "AheadRows$Mix$2") (xc := ⟨"AheadRows$Mix", "of", "(JJ)J"⟩) (c_ofX14 l X hp u1 u2) (rc_mix1 M) q754 q756 q760 q761 (lw_meth q762) q755 ⟨by decide, by decide, ndX14_of.2.2⟩ dX6_exact_59 (rmD (by omega) (by decide) rfl rfl) rfl (Nat.le_of_ble_eq_true rfl)) ?_
      refine j_rV (k_SI M (xc := ⟨"AheadRows$Both", "near", "(J)J"⟩) (c_near l X hp _ (by omega)) rfl q763 q764 q732 q104 (lw_meth q733) ndX4_near dX6_exact_62 (rmD (by omega) (by decide) rfl rfl) rfl (Nat.le_of_ble_eq_true rfl)) ?_
      refine j_lret M dX6_exact_65 ⟨Nat.le_refl _, Nat.le_refl _⟩ ?_
      exact ⟨by unfold pBoth; rw [if_neg (by omega)]; rfl, rfl⟩
    · refine j_ldc2 M (2000000002) q740 (by decide) dX6_exact_46 ?_
      refine j_goto M 65 dX6_exact_49 (by decide) ?_
      refine j_lret M dX6_exact_65 ⟨Nat.le_refl _, Nat.le_refl _⟩ ?_
      exact ⟨by unfold pBoth; rw [if_pos (by omega)], rfl⟩
theorem c_exactX11 (hN : N ≤ 8) (hr : rsOk K P N) (hx : hp x = some (eA ad v)) (hR : RowsAt X hp (ad 1) el N r K P) (i n : Int) (hi : 0 ≤ i ∧ i < N) (hn : 0 ≤ n ∧ n + i ≤ 300) (hk : K i = 4) (ih : ∀ j, 0 ≤ j → j < i → ExOk l X hp x r K P j) : Ct l X yX11_exact cX11_exact 7 (some .long) (rD (4 + i.toNat)) [.ref (r i.toNat), .ref x, .int (zI n)] hp (pD (some (.long (zL (pTerm K P i n)))) hp) := by
  have ho := hr i hi.1 hi.2
  have p1 := rOk_part ho (by omega)
  have ha := hR.2 i.toNat (by omega)
  rw [Int.toNat_of_nonneg hi.1, rowE4 hk] at ha
  have h1 := hR.2 (P (4 * i)).toNat (by omega)
  rw [Int.toNat_of_nonneg p1.1] at h1
  have k1 := rOk_k (hr (P (4 * i)) p1.1 (by omega))
  have t1 := pTerm_r hr (i := P (4 * i)) (n := n) p1.1 (by omega)
  have t2 := pTerm_r hr (i := P (4 * i)) (n := n + 1) p1.1 (by omega)
  have i1 := ih (P (4 * i)) p1.1 p1.2 n (by omega) (by omega)
  have i2 := ih (P (4 * i)) p1.1 p1.2 (n + 1) (by omega) (by omega)
  have hres : pTerm K P i n = pStep (pTerm K P (P (4 * i)) n) (pTerm K P (P (4 * i)) (n + 1)) := by
    by_cases c : n ≤ 200
    · rw [pTerm_step hr hi.1 hi.2 c (by omega)]
    · rw [pTerm_far (by omega), pTerm_far (by omega)]; rfl
  rw [hres]
  generalize pTerm K P (P (4 * i)) n = u1 at *
  generalize pTerm K P (P (4 * i)) (n + 1) = u2 at *
  have z1 := tR_r t1
  have z2 := tR_r t2
  refine Ct.of (by decide) (Nat.le_of_ble_eq_true rfl) (fun Γ M => ?_)
  refine j_lv (lv' := [(0, .ref (r i.toNat)), (1, .ref x), (2, .int (zI n))]) rfl ?_
  refine j_aload_n M dX11_exact_0 1 rfl ?_
  refine j_aload_n M dX11_exact_1 0 rfl ?_
  refine j_getI M ha rfl 0 (by decide) in_X11 q411 q412 rfl dX11_exact_2 ?_
  refine j_rV (k_VN M (c_rowOf l X hp x ad v el N (P (4 * i)) r K P hx hR (by omega) k1) (rc_of M hx rfl) q725 q97 q561 qs13 (lw_meth q562) ndX0_rowOf dX11_exact_5 (rmD (by omega) (by decide) rfl rfl) rfl (Nat.le_of_ble_eq_true rfl)) ?_
  refine j_aload_n M dX11_exact_8 1 rfl ?_
  refine j_iload_n M dX11_exact_9 2 rfl ?_
  refine j_rV (dv_exact M q726 k1 h1 (i1) rfl dX11_exact_10 (rmD (by omega) (by decide) rfl rfl) rfl (Nat.le_of_ble_eq_true rfl)) ?_
  refine j_lstore_n M dX11_exact_13 (by decide) ?_
  refine j_aload_n M dX11_exact_14 1 rfl ?_
  refine j_aload_n M dX11_exact_15 0 rfl ?_
  refine j_getI M ha rfl 0 (by decide) in_X11 q411 q412 rfl dX11_exact_16 ?_
  refine j_rV (k_VN M (c_rowOf l X hp x ad v el N (P (4 * i)) r K P hx hR (by omega) k1) (rc_of M hx rfl) q725 q97 q561 qs13 (lw_meth q562) ndX0_rowOf dX11_exact_19 (rmD (by omega) (by decide) rfl rfl) rfl (Nat.le_of_ble_eq_true rfl)) ?_
  refine j_aload_n M dX11_exact_22 1 rfl ?_
  refine j_iload_n M dX11_exact_23 2 rfl ?_
  refine j_iconst M dX11_exact_24 ?_
  refine j_iadd M dX11_exact_25 ?_
  refine j_rV (dv_exact M q726 k1 h1 (i2) rfl dX11_exact_26 (rmD (by omega) (by decide) rfl rfl) rfl (Nat.le_of_ble_eq_true rfl)) ?_
  refine j_lstore M dX11_exact_29 (by decide) ?_
  refine j_lload_n M dX11_exact_31 3 rfl ?_
  refine j_ldc2 M (2000000002) q737 (by decide) dX11_exact_32 ?_
  refine j_lcmp_eq M 48 dX11_exact_35 dX11_exact_36 (by decide) (by omega) (fun c_35 => ?_) (fun c_35 => ?_)
  · refine j_ldc2 M (2000000002) q737 (by decide) dX11_exact_48 ?_
    refine j_goto M 61 dX11_exact_51 (by decide) ?_
    refine j_lret M dX11_exact_61 ⟨Nat.le_refl _, Nat.le_refl _⟩ ?_
    exact ⟨by unfold pStep; rw [if_pos (by omega)], rfl⟩
  · refine j_lload M dX11_exact_39 4 rfl ?_
    refine j_ldc2 M (2000000002) q737 (by decide) dX11_exact_41 ?_
    refine j_lcmp_ne M 54 dX11_exact_44 dX11_exact_45 (by decide) (by omega) (fun c_44 => ?_) (fun c_44 => ?_)
    · have y1 := tR_f t1 c_35
      have y2 := tR_f t2 c_44
      refine j_lload M dX11_exact_54 4 rfl ?_
      refine j_lload_n M dX11_exact_56 3 rfl ?_
      refine j_lsub M dX11_exact_57 ?_
      refine j_rV (k_SI M (xc := ⟨"AheadRows$Step", "near", "(J)J"⟩) (c_near l X hp _ (by omega)) rfl q738 q739 q732 q104 (lw_meth q733) ndX4_near dX11_exact_58 (rmD (by omega) (by decide) rfl rfl) rfl (Nat.le_of_ble_eq_true rfl)) ?_
      refine j_lret M dX11_exact_61 ⟨Nat.le_refl _, Nat.le_refl _⟩ ?_
      exact ⟨by unfold pStep; rw [if_neg (by omega)], rfl⟩
    · refine j_ldc2 M (2000000002) q737 (by decide) dX11_exact_48 ?_
      refine j_goto M 61 dX11_exact_51 (by decide) ?_
      refine j_lret M dX11_exact_61 ⟨Nat.le_refl _, Nat.le_refl _⟩ ?_
      exact ⟨by unfold pStep; rw [if_pos (by omega)], rfl⟩
theorem c_exactX10 (hN : N ≤ 8) (hr : rsOk K P N) (hx : hp x = some (eA ad v)) (hR : RowsAt X hp (ad 1) el N r K P) (i n : Int) (hi : 0 ≤ i ∧ i < N) (hn : 0 ≤ n ∧ n + i ≤ 300) (hk : K i = 3) (ih : ∀ j, 0 ≤ j → j < i → ExOk l X hp x r K P j) : Ct l X yX10_exact cX10_exact 3 (some .long) (rD (4 + i.toNat)) [.ref (r i.toNat), .ref x, .int (zI n)] hp (pD (some (.long (zL (pTerm K P i n)))) hp) := by
  have ho := hr i hi.1 hi.2
  have p1 := rOk_part ho (by omega)
  have p2 := rOk_each ho hk
  have ha := hR.2 i.toNat (by omega)
  rw [Int.toNat_of_nonneg hi.1, rowE3 hk] at ha
  have h1 := hR.2 (P (4 * i)).toNat (by omega)
  rw [Int.toNat_of_nonneg p1.1] at h1
  have k1 := rOk_k (hr (P (4 * i)) p1.1 (by omega))
  have b1 := mul_bd 5 300 (a := P (4 * i + 1)) (b := n) (by omega) (by omega)
  have b2 : 0 ≤ P (4 * i + 1) * n := Int.mul_nonneg (by omega) (by omega)
  refine Ct.of (by decide) (Nat.le_of_ble_eq_true rfl) (fun Γ M => ?_)
  refine j_lv (lv' := [(0, .ref (r i.toNat)), (1, .ref x), (2, .int (zI n))]) rfl ?_
  refine j_iload_n M dX10_exact_0 2 rfl ?_
  refine j_sipush M dX10_exact_1 (by decide) ?_
  refine j_icmp_gt M 24 dX10_exact_4 (by decide) (by omega) (fun c_4 => ?_) (fun c_4 => ?_)
  · refine j_ldc2 M (2000000002) q716 (by decide) dX10_exact_24 ?_
    refine j_goto M 53 dX10_exact_27 (by decide) ?_
    refine j_lret M dX10_exact_53 ⟨Nat.le_refl _, Nat.le_refl _⟩ ?_
    exact ⟨by rw [pTerm_far (by omega)], rfl⟩
  · refine j_aload_n M dX10_exact_7 0 rfl ?_
    refine j_get M ha rfl 1 (by decide) in_X10 q406 rfl dX10_exact_8 ?_
    refine j_iload_n M dX10_exact_11 2 rfl ?_
    refine j_imul M dX10_exact_12 ?_
    refine j_aload_n M dX10_exact_13 0 rfl ?_
    refine j_get M ha rfl 2 (by decide) in_X10 q407 rfl dX10_exact_14 ?_
    refine j_iadd M dX10_exact_17 ?_
    refine j_sipush M dX10_exact_18 (by decide) ?_
    refine j_icmp_le M 30 dX10_exact_21 (by decide) (by omega) (fun c_21 => ?_) (fun c_21 => ?_)
    · refine j_aload_n M dX10_exact_30 1 rfl ?_
      refine j_aload_n M dX10_exact_31 0 rfl ?_
      refine j_getI M ha rfl 0 (by decide) in_X10 q409 q410 rfl dX10_exact_32 ?_
      refine j_rV (k_VN M (c_rowOf l X hp x ad v el N (P (4 * i)) r K P hx hR (by omega) k1) (rc_of M hx rfl) q717 q97 q561 qs13 (lw_meth q562) ndX0_rowOf dX10_exact_35 (rmD (by omega) (by decide) rfl rfl) rfl (Nat.le_of_ble_eq_true rfl)) ?_
      refine j_aload_n M dX10_exact_38 1 rfl ?_
      refine j_aload_n M dX10_exact_39 0 rfl ?_
      refine j_get M ha rfl 1 (by decide) in_X10 q406 rfl dX10_exact_40 ?_
      refine j_iload_n M dX10_exact_43 2 rfl ?_
      refine j_imul M dX10_exact_44 ?_
      refine j_aload_n M dX10_exact_45 0 rfl ?_
      refine j_get M ha rfl 2 (by decide) in_X10 q407 rfl dX10_exact_46 ?_
      refine j_iadd M dX10_exact_49 ?_
      refine j_rV (dv_exact M q718 k1 h1 (ih (P (4 * i)) p1.1 p1.2 (P (4 * i + 1) * n + P (4 * i + 2)) (by omega) (by omega)) rfl dX10_exact_50 (rmD (by omega) (by decide) rfl rfl) rfl (Nat.le_of_ble_eq_true rfl)) ?_
      refine j_lret M dX10_exact_53 ⟨Nat.le_refl _, Nat.le_refl _⟩ ?_
      exact ⟨by rw [pTerm_each hr hi.1 hi.2 (by omega) hk], rfl⟩
    · refine j_ldc2 M (2000000002) q716 (by decide) dX10_exact_24 ?_
      refine j_goto M 53 dX10_exact_27 (by decide) ?_
      refine j_lret M dX10_exact_53 ⟨Nat.le_refl _, Nat.le_refl _⟩ ?_
      exact ⟨by rw [pTerm_each hr hi.1 hi.2 (by omega) hk, pTerm_far (by omega)], rfl⟩
theorem c_exact (hN : N ≤ 8) (hr : rsOk K P N) (hx : hp x = some (eA ad v)) (hR : RowsAt X hp (ad 1) el N r K P) : ∀ (m : Nat) (i : Int), i.toNat = m → 0 ≤ i → i < N → ExOk l X hp x r K P i := by
  intro m
  induction m using Nat.strongRecOn with
  | _ m ih =>
    intro i hm h0 h1 n n0 n1
    have ih2 : ∀ j, 0 ≤ j → j < i → ExOk l X hp x r K P j := fun j j0 j1 => ih j.toNat (by omega) j rfl j0 (by omega)
    refine ⟨fun hk => ?_, fun hk => c_exactX7 l X hp x ad v el N r K P hN hr hx hR i n ⟨h0, h1⟩ ⟨n0, n1⟩ hk ih2, fun hk => c_exactX8 l X hp x ad v el N r K P hN hr hx hR i n ⟨h0, h1⟩ ⟨n0, n1⟩ hk ih2, fun hk => c_exactX10 l X hp x ad v el N r K P hN hr hx hR i n ⟨h0, h1⟩ ⟨n0, n1⟩ hk ih2, fun hk => c_exactX11 l X hp x ad v el N r K P hN hr hx hR i n ⟨h0, h1⟩ ⟨n0, n1⟩ hk ih2⟩
    have ha := hR.2 i.toNat (by omega)
    rw [Int.toNat_of_nonneg h0, rowE0 hk] at ha
    have ht := rOk_told (hr i h0 h1) hk
    have h2 := c_exactX5 l X hp (r i.toNat) _ _ _ _ x n ⟨n0, by omega⟩ ha ht.1 ht.2.1 ht.2.2.1 ht.2.2.2
    have e : (if 200 < n then 2000000002 else (pTld (P (4 * i)) (P (4 * i + 1)) (P (4 * i + 2)) (P (4 * i + 3)) n.toNat).1) = pTerm K P i n := by
      by_cases c : 200 < n
      · rw [if_pos c, pTerm_far c]
      · rw [if_neg c, pTerm_told (by omega) hk]
    rw [e] at h2
    exact h2.room (by omega)
end C8
