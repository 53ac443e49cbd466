/-! 42: the component: rows that are told; what the JDK has of numbers -/
set_option maxRecDepth 100000
theorem Ct.ofF {l : Launch} {X : Cx} {y : MethodName} {cc : ByteArray} {nL : Nat} {ret : Option FieldType} {rm : Room} {avs : List Value} {hp : Hp} {post : Option Value → Hp → Prop} (hy : plainFor y = true) (hn : (lg_sl avs).length ≤ nL)
    (body : ∀ Γ : Gm, Mok Γ l X y cc nL ret rm post → J Γ hp 0 0 0 (lv_args 0 avs) []) : Ct l X y cc nL ret rm avs hp post := by
  unfold Ct Met
  refine MetFree.of_bodySF (code := cc) (maxLocals := nL) (ret := ret) hy ?_ ?_
  · intro args s m h hn2
    obtain ⟨meth, c, h1, h2, h3, h4, h5, h6, -, -⟩ := Cond.code_spec hn2 (atoms_spec (ws := ws_ y cc nL ret) h _ List.mem_cons_self)
    exact ⟨meth, c, h1, h2, h3, h4, h5, h6⟩
  · intro p e s m args below meth c s₁ B hml hv _
    have hh0 : s₁.heap = s.heap := by rw [B.state]; rfl
    obtain ⟨rfl, hG, hR⟩ := hv
    have hts := atoms_spec (ws := ws_ y cc nL ret) B.pre
    have hts : ∀ w ∈ lw_all, w.before _ s = true := fun w h => hts w (List.mem_cons_of_mem _ h)
    have k := body (p, l, e, rm, s, m, avs.toArray, below, meth, c, X, nL, post) ⟨rfl, rfl, rfl, rfl, rfl, B.exec, B.bytes, hml, findClass_of_methodNamed B.named, hts, B.returns, B.notSynchronized, hG, (name_of_methodNamed B.named B.method).1⟩
    rw [lg_entry_eq]
    obtain ⟨t, a1, o, b1, b2, b3⟩ := k s.heap [] _ hR va_S.rf (lv_entry avs hn) s₁ hh0 (Stand.of_body B)
    exact ⟨t, o, a1, b1, b2, ⟨b3.1, b3.2⟩⟩
theorem msb_lt (x : Int32) : x.toBitVec.msb = decide (x.toInt < 0) := by
  rw [BitVec.msb_eq_toInt]; rfl
theorem zI_xor {v m : Int} (hv : r32 v) (hm : 0 < m ∧ m < 2147483648) : ∃ z : Int, r32 z ∧ zI v ^^^ zI m = zI z ∧ (z < 0 ↔ v < 0) := by
  refine ⟨(zI v ^^^ zI m).toInt, r32_of _, (zI_of _).symm, ?_⟩
  have h1 := msb_lt (zI v ^^^ zI m)
  rw [Int32.toBitVec_xor, BitVec.msb_xor, msb_lt, msb_lt, zI_toInt hv, zI_toInt ⟨by omega, hm.2⟩, decide_eq_false (show ¬ m < 0 by omega), Bool.xor_false] at h1
  have h2 : decide (v < 0) = decide ((zI v ^^^ zI m).toInt < 0) := h1
  constructor
  · intro h; rw [decide_eq_true h] at h2; exact of_decide_eq_true h2
  · intro h; rw [decide_eq_true h] at h2; exact of_decide_eq_true h2.symm
theorem c_floorMod (l : Launch) (X : Cx) (hp : Hp) (v m : Int) (hv : r32 v) (hm : 1 ≤ m ∧ m ≤ 10) : CS l X yJ4_floorMod cJ4_floorMod 3 (some .int) 0 [.int (zI v), .int (zI m)] hp (some (.int (zI (v % m)))) := by
  have h1 := Int.tmod_lt_of_pos v (show 0 < m by omega)
  have h2 := Int.lt_tmod_of_pos v (show 0 < m by omega)
  have h3 := Int.mul_tdiv_add_tmod v m
  have h4 := Int.emod_nonneg v (show m ≠ 0 by omega)
  have h5 := Int.emod_lt_of_pos v (show 0 < m by omega)
  obtain ⟨z, z1, z2, z3⟩ := zI_xor hv (show 0 < m ∧ m < 2147483648 by omega)
  refine Ct.ofF (by decide +kernel) (Nat.le_of_ble_eq_true rfl) (fun Γ M => ?_)
  refine j_lv (lv' := [(0, .int (zI v)), (1, .int (zI m))]) rfl ?_
  refine j_iload_n M dJ4_floorMod_0 0 rfl ?_
  refine j_iload_n M dJ4_floorMod_1 1 rfl ?_
  refine j_irem M dJ4_floorMod_2 (by omega) (⟨hv, by omega⟩) ?_
  refine j_istore_n M dJ4_floorMod_3 (by decide) ?_
  refine j_iload_n M dJ4_floorMod_4 0 rfl ?_
  refine j_iload_n M dJ4_floorMod_5 1 rfl ?_
  refine j_ixor M dJ4_floorMod_6 ?_
  refine j_st (st' := [.int (zI z)]) (by rw [z2]) ?_
  refine j_if_ge M 18 dJ4_floorMod_7 (by decide) (by omega) (fun c_7 => ?_) (fun c_7 => ?_)
  · refine j_iload_n M dJ4_floorMod_18 2 rfl ?_
    refine j_iret M dJ4_floorMod_19 ⟨Nat.le_refl _, Nat.le_refl _⟩ ?_
    refine ⟨?_, rfl⟩
    rw [tmod_e (show 0 ≤ v by omega)]
  · refine j_iload_n M dJ4_floorMod_10 2 rfl ?_
    refine j_if_eq M 18 dJ4_floorMod_11 (by decide) (by omega) (fun c_11 => ?_) (fun c_11 => ?_)
    · refine j_iload_n M dJ4_floorMod_18 2 rfl ?_
      refine j_iret M dJ4_floorMod_19 ⟨Nat.le_refl _, Nat.le_refl _⟩ ?_
      refine ⟨?_, rfl⟩
      rw [← mod_eq (show 0 < m by omega), c_11, Int.zero_add, tmod_e (by omega), Int.emod_self]
    · refine j_iload_n M dJ4_floorMod_14 2 rfl ?_
      refine j_iload_n M dJ4_floorMod_15 1 rfl ?_
      refine j_iadd M dJ4_floorMod_16 ?_
      refine j_iret M dJ4_floorMod_17 ⟨Nat.le_refl _, Nat.le_refl _⟩ ?_
      refine ⟨?_, rfl⟩
      have q1 : v < 0 := z3.mp c_7
      have q2 : v.tmod m ≤ 0 := by rw [show v = -(-v) by omega, Int.neg_tmod, tmod_e (show 0 ≤ -v by omega)]; have := Int.emod_nonneg (-v) (show m ≠ 0 by omega); omega
      rw [← mod_eq (show 0 < m by omega), tmod_e (show 0 ≤ v.tmod m + m by omega), Int.emod_eq_of_lt (by omega) (by omega)]
theorem c_max (l : Launch) (X : Cx) (hp : Hp) (v m : Int) (hv : r32 v ∧ r32 m) : CS l X yJ4_max cJ4_max 2 (some .int) 0 [.int (zI v), .int (zI m)] hp (some (.int (zI (if v < m then m else v)))) := by
  refine Ct.ofF (by decide +kernel) (Nat.le_of_ble_eq_true rfl) (fun Γ M => ?_)
  refine j_lv (lv' := [(0, .int (zI v)), (1, .int (zI m))]) rfl ?_
  refine j_iload_n M dJ4_max_0 0 rfl ?_
  refine j_iload_n M dJ4_max_1 1 rfl ?_
  refine j_icmp_lt M 9 dJ4_max_2 (by decide) (by omega) (fun c_2 => ?_) (fun c_2 => ?_)
  · refine j_iload_n M dJ4_max_9 1 rfl ?_
    refine j_iret M dJ4_max_10 ⟨Nat.le_refl _, Nat.le_refl _⟩ ?_
    exact ⟨by rw [if_pos c_2], rfl⟩
  · refine j_iload_n M dJ4_max_5 0 rfl ?_
    refine j_goto M 10 dJ4_max_6 (by decide) ?_
    refine j_iret M dJ4_max_10 ⟨Nat.le_refl _, Nat.le_refl _⟩ ?_
    exact ⟨by rw [if_neg (by omega)], rfl⟩
theorem sig_c {c : Int} (hc : -9 ≤ c ∧ c ≤ 9) : (zI c >>> (zI 31 &&& 31) ||| ((-zI c).toUInt32 >>> ((zI 31).toUInt32 &&& Int32.toUInt32 31)).toInt32) = zI (if c < 0 then -1 else if c = 0 then 0 else 1) := by
  have : c = -9 ∨ c = -8 ∨ c = -7 ∨ c = -6 ∨ c = -5 ∨ c = -4 ∨ c = -3 ∨ c = -2 ∨ c = -1 ∨ c = 0 ∨ c = 1 ∨ c = 2 ∨ c = 3 ∨ c = 4 ∨ c = 5 ∨ c = 6 ∨ c = 7 ∨ c = 8 ∨ c = 9 := by omega
  rcases this with rfl | rfl | rfl | rfl | rfl | rfl | rfl | rfl | rfl | rfl | rfl | rfl | rfl | rfl | rfl | rfl | rfl | rfl | rfl <;> decide
theorem c_signum (l : Launch) (X : Cx) (hp : Hp) (c : Int) (hc : -9 ≤ c ∧ c ≤ 9) : CS l X yJ13_signum cJ13_signum 1 (some .int) 0 [.int (zI c)] hp (some (.int (zI (if c < 0 then -1 else if c = 0 then 0 else 1)))) := by
  refine Ct.ofF (by decide +kernel) (Nat.le_of_ble_eq_true rfl) (fun Γ M => ?_)
  refine j_lv (lv' := [(0, .int (zI c))]) rfl ?_
  refine j_iload_n M dJ13_signum_0 0 rfl ?_
  refine j_bipush M dJ13_signum_1 (by decide) ?_
  refine j_ishr M dJ13_signum_3 ?_
  refine j_iload_n M dJ13_signum_4 0 rfl ?_
  refine j_ineg M dJ13_signum_5 ?_
  refine j_bipush M dJ13_signum_6 (by decide) ?_
  refine j_iushr M dJ13_signum_8 ?_
  refine j_ior M dJ13_signum_9 ?_
  refine j_iret M dJ13_signum_10 ⟨Nat.le_refl _, Nat.le_refl _⟩ ?_
  exact ⟨by rw [← sig_c hc, zI_neg], rfl⟩
section C3
variable (l : Launch) (X : Cx) (hp : Hp) (a : Nat) (c d e f : Int)
theorem c_under (ha : hp a = some (eX5 c d e f)) : CS l X yX5_under cX5_under 1 (some .int) 0 [.ref a] hp (some (.int (zI (c * c + 4 * d)))) := by
  refine Ct.of (by decide) (Nat.le_of_ble_eq_true rfl) (fun Γ M => ?_)
  refine j_lv (lv' := [(0, .ref a)]) rfl ?_
  refine j_aload_n M dX5_under_0 0 rfl ?_
  refine j_get M ha rfl 0 (by decide) in_X5 q325 rfl dX5_under_1 ?_
  refine j_aload_n M dX5_under_4 0 rfl ?_
  refine j_get M ha rfl 0 (by decide) in_X5 q325 rfl dX5_under_5 ?_
  refine j_imul M dX5_under_8 ?_
  refine j_iconst M dX5_under_9 ?_
  refine j_aload_n M dX5_under_10 0 rfl ?_
  refine j_get M ha rfl 1 (by decide) in_X5 q330 rfl dX5_under_11 ?_
  refine j_imul M dX5_under_14 ?_
  refine j_iadd M dX5_under_15 ?_
  refine j_iret M dX5_under_16 ⟨Nat.le_refl _, Nat.le_refl _⟩ ?_
  exact ⟨rfl, rfl⟩
theorem c_isPower (ha : hp a = some (eX5 c d e f)) (hc : -9 ≤ c ∧ c ≤ 9) (hd : -9 ≤ d ∧ d ≤ 9) (he : -999 ≤ e ∧ e ≤ 999) (hf : -999 ≤ f ∧ f ≤ 999) : CS l X yX5_isPower cX5_isPower 1 (some .boolean) 0 [.ref a] hp (some (.int (zB (decide (d = 0 ∧ f = c * e))))) := by
  have b1 := mul_bd 9 999 hc he
  refine Ct.of (by decide) (Nat.le_of_ble_eq_true rfl) (fun Γ M => ?_)
  refine j_lv (lv' := [(0, .ref a)]) rfl ?_
  refine j_aload_n M dX5_isPower_0 0 rfl ?_
  refine j_get M ha rfl 1 (by decide) in_X5 q330 rfl dX5_isPower_1 ?_
  refine j_if_ne M 27 dX5_isPower_4 (by decide) (by omega) (fun c_4 => ?_) (fun c_4 => ?_)
  · refine j_iconst M dX5_isPower_27 ?_
    refine j_bool false rfl ?_
    refine j_zret M dX5_isPower_28 ⟨Nat.le_refl _, Nat.le_refl _⟩ ?_
    first | exact pzT (by omega) | exact pzF (by omega)
  · refine j_aload_n M dX5_isPower_7 0 rfl ?_
    refine j_get M ha rfl 3 (by decide) in_X5 q337 rfl dX5_isPower_8 ?_
    refine j_aload_n M dX5_isPower_11 0 rfl ?_
    refine j_get M ha rfl 0 (by decide) in_X5 q325 rfl dX5_isPower_12 ?_
    refine j_aload_n M dX5_isPower_15 0 rfl ?_
    refine j_get M ha rfl 2 (by decide) in_X5 q335 rfl dX5_isPower_16 ?_
    refine j_imul M dX5_isPower_19 ?_
    refine j_icmp_ne M 27 dX5_isPower_20 (by decide) (by omega) (fun c_20 => ?_) (fun c_20 => ?_)
    · refine j_iconst M dX5_isPower_27 ?_
      refine j_bool false rfl ?_
      refine j_zret M dX5_isPower_28 ⟨Nat.le_refl _, Nat.le_refl _⟩ ?_
      first | exact pzT (by omega) | exact pzF (by omega)
    · refine j_iconst M dX5_isPower_23 ?_
      refine j_goto M 28 dX5_isPower_24 (by decide) ?_
      refine j_bool true rfl ?_
      refine j_zret M dX5_isPower_28 ⟨Nat.le_refl _, Nat.le_refl _⟩ ?_
      first | exact pzT (by omega) | exact pzF (by omega)
theorem c_layX5 (w v : Int) (ha : hp a = some (eX5 c d e f)) (hw : r32 w) : Ct l X yX5_lay cX5_lay 3 none (rD 0) [.ref a, .int (zI w), .int (zI v)] hp (pD none (hup hp a (eX5 (if w = 0 then v else c) (if w = 1 then v else d) (if w = 2 then v else e) (if w = 3 then v else f)))) := by
  refine Ct.of (by decide) (Nat.le_of_ble_eq_true rfl) (fun Γ M => ?_)
  refine j_lv (lv' := [(0, .ref a), (1, .int (zI w)), (2, .int (zI v))]) rfl ?_
  refine j_aload_n M dX5_lay_0 0 rfl ?_
  refine j_iload_n M dX5_lay_1 1 rfl ?_
  refine j_if_ne M 9 dX5_lay_2 (by decide) (by omega) (fun c_2 => ?_) (fun c_2 => ?_)
  · refine j_aload_n M dX5_lay_9 0 rfl ?_
    refine j_get M ha rfl 0 (by decide) in_X5 q325 rfl dX5_lay_10 ?_
    refine j_put M ha rfl 0 (by decide) in_X5 tyX5 tyX5_ok nmX5 q325 rfl rfl rfl (Nat.le_of_ble_eq_true rfl) dX5_lay_13 ?_
    refine j_aload_n M dX5_lay_16 0 rfl ?_
    refine j_iload_n M dX5_lay_17 1 rfl ?_
    refine j_iconst M dX5_lay_18 ?_
    refine j_icmp_ne M 26 dX5_lay_19 (by decide) (by omega) (fun c_19 => ?_) (fun c_19 => ?_)
    · refine j_aload_n M dX5_lay_26 0 rfl ?_
      refine j_get M (hup_s _ _ _) rfl 1 (by decide) in_X5 q330 rfl dX5_lay_27 ?_
      refine j_put M (hup_s _ _ _) rfl 1 (by decide) in_X5 tyX5 tyX5_ok nmX5 q330 rfl rfl rfl (Nat.le_of_ble_eq_true rfl) dX5_lay_30 ?_
      refine j_aload_n M dX5_lay_33 0 rfl ?_
      refine j_iload_n M dX5_lay_34 1 rfl ?_
      refine j_iconst M dX5_lay_35 ?_
      refine j_icmp_ne M 43 dX5_lay_36 (by decide) (by omega) (fun c_36 => ?_) (fun c_36 => ?_)
      · refine j_aload_n M dX5_lay_43 0 rfl ?_
        refine j_get M (hup_s _ _ _) rfl 2 (by decide) in_X5 q335 rfl dX5_lay_44 ?_
        refine j_put M (hup_s _ _ _) rfl 2 (by decide) in_X5 tyX5 tyX5_ok nmX5 q335 rfl rfl rfl (Nat.le_of_ble_eq_true rfl) dX5_lay_47 ?_
        refine j_aload_n M dX5_lay_50 0 rfl ?_
        refine j_iload_n M dX5_lay_51 1 rfl ?_
        refine j_iconst M dX5_lay_52 ?_
        refine j_icmp_ne M 60 dX5_lay_53 (by decide) (by omega) (fun c_53 => ?_) (fun c_53 => ?_)
        · refine j_aload_n M dX5_lay_60 0 rfl ?_
          refine j_get M (hup_s _ _ _) rfl 3 (by decide) in_X5 q337 rfl dX5_lay_61 ?_
          refine j_put M (hup_s _ _ _) rfl 3 (by decide) in_X5 tyX5 tyX5_ok nmX5 q337 rfl rfl rfl (Nat.le_of_ble_eq_true rfl) dX5_lay_64 ?_
          refine j_vret M dX5_lay_67 ⟨Nat.le_refl _, Nat.le_refl _⟩ ?_
          first | (exfalso; omega) | exact ⟨rfl, by rw [hup_hup, hup_hup, hup_hup]; simp [*]⟩
        · refine j_iload_n M dX5_lay_56 2 rfl ?_
          refine j_goto M 64 dX5_lay_57 (by decide) ?_
          refine j_put M (hup_s _ _ _) rfl 3 (by decide) in_X5 tyX5 tyX5_ok nmX5 q337 rfl rfl rfl (Nat.le_of_ble_eq_true rfl) dX5_lay_64 ?_
          refine j_vret M dX5_lay_67 ⟨Nat.le_refl _, Nat.le_refl _⟩ ?_
          first | (exfalso; omega) | exact ⟨rfl, by rw [hup_hup, hup_hup, hup_hup]; simp [*]⟩
      · refine j_iload_n M dX5_lay_39 2 rfl ?_
        refine j_goto M 47 dX5_lay_40 (by decide) ?_
        refine j_put M (hup_s _ _ _) rfl 2 (by decide) in_X5 tyX5 tyX5_ok nmX5 q335 rfl rfl rfl (Nat.le_of_ble_eq_true rfl) dX5_lay_47 ?_
        refine j_aload_n M dX5_lay_50 0 rfl ?_
        refine j_iload_n M dX5_lay_51 1 rfl ?_
        refine j_iconst M dX5_lay_52 ?_
        refine j_icmp_ne M 60 dX5_lay_53 (by decide) (by omega) (fun c_53 => ?_) (fun c_53 => ?_)
        · refine j_aload_n M dX5_lay_60 0 rfl ?_
          refine j_get M (hup_s _ _ _) rfl 3 (by decide) in_X5 q337 rfl dX5_lay_61 ?_
          refine j_put M (hup_s _ _ _) rfl 3 (by decide) in_X5 tyX5 tyX5_ok nmX5 q337 rfl rfl rfl (Nat.le_of_ble_eq_true rfl) dX5_lay_64 ?_
          refine j_vret M dX5_lay_67 ⟨Nat.le_refl _, Nat.le_refl _⟩ ?_
          first | (exfalso; omega) | exact ⟨rfl, by rw [hup_hup, hup_hup, hup_hup]; simp [*]⟩
        · refine j_iload_n M dX5_lay_56 2 rfl ?_
          refine j_goto M 64 dX5_lay_57 (by decide) ?_
          refine j_put M (hup_s _ _ _) rfl 3 (by decide) in_X5 tyX5 tyX5_ok nmX5 q337 rfl rfl rfl (Nat.le_of_ble_eq_true rfl) dX5_lay_64 ?_
          refine j_vret M dX5_lay_67 ⟨Nat.le_refl _, Nat.le_refl _⟩ ?_
          first | (exfalso; omega) | exact ⟨rfl, by rw [hup_hup, hup_hup, hup_hup]; simp [*]⟩
    · refine j_iload_n M dX5_lay_22 2 rfl ?_
      refine j_goto M 30 dX5_lay_23 (by decide) ?_
      refine j_put M (hup_s _ _ _) rfl 1 (by decide) in_X5 tyX5 tyX5_ok nmX5 q330 rfl rfl rfl (Nat.le_of_ble_eq_true rfl) dX5_lay_30 ?_
      refine j_aload_n M dX5_lay_33 0 rfl ?_
      refine j_iload_n M dX5_lay_34 1 rfl ?_
      refine j_iconst M dX5_lay_35 ?_
      refine j_icmp_ne M 43 dX5_lay_36 (by decide) (by omega) (fun c_36 => ?_) (fun c_36 => ?_)
      · refine j_aload_n M dX5_lay_43 0 rfl ?_
        refine j_get M (hup_s _ _ _) rfl 2 (by decide) in_X5 q335 rfl dX5_lay_44 ?_
        refine j_put M (hup_s _ _ _) rfl 2 (by decide) in_X5 tyX5 tyX5_ok nmX5 q335 rfl rfl rfl (Nat.le_of_ble_eq_true rfl) dX5_lay_47 ?_
        refine j_aload_n M dX5_lay_50 0 rfl ?_
        refine j_iload_n M dX5_lay_51 1 rfl ?_
        refine j_iconst M dX5_lay_52 ?_
        refine j_icmp_ne M 60 dX5_lay_53 (by decide) (by omega) (fun c_53 => ?_) (fun c_53 => ?_)
        · refine j_aload_n M dX5_lay_60 0 rfl ?_
          refine j_get M (hup_s _ _ _) rfl 3 (by decide) in_X5 q337 rfl dX5_lay_61 ?_
          refine j_put M (hup_s _ _ _) rfl 3 (by decide) in_X5 tyX5 tyX5_ok nmX5 q337 rfl rfl rfl (Nat.le_of_ble_eq_true rfl) dX5_lay_64 ?_
          refine j_vret M dX5_lay_67 ⟨Nat.le_refl _, Nat.le_refl _⟩ ?_
          first | (exfalso; omega) | exact ⟨rfl, by rw [hup_hup, hup_hup, hup_hup]; simp [*]⟩
        · refine j_iload_n M dX5_lay_56 2 rfl ?_
          refine j_goto M 64 dX5_lay_57 (by decide) ?_
          refine j_put M (hup_s _ _ _) rfl 3 (by decide) in_X5 tyX5 tyX5_ok nmX5 q337 rfl rfl rfl (Nat.le_of_ble_eq_true rfl) dX5_lay_64 ?_
          refine j_vret M dX5_lay_67 ⟨Nat.le_refl _, Nat.le_refl _⟩ ?_
          first | (exfalso; omega) | exact ⟨rfl, by rw [hup_hup, hup_hup, hup_hup]; simp [*]⟩
      · refine j_iload_n M dX5_lay_39 2 rfl ?_
        refine j_goto M 47 dX5_lay_40 (by decide) ?_
        refine j_put M (hup_s _ _ _) rfl 2 (by decide) in_X5 tyX5 tyX5_ok nmX5 q335 rfl rfl rfl (Nat.le_of_ble_eq_true rfl) dX5_lay_47 ?_
        refine j_aload_n M dX5_lay_50 0 rfl ?_
        refine j_iload_n M dX5_lay_51 1 rfl ?_
        refine j_iconst M dX5_lay_52 ?_
        refine j_icmp_ne M 60 dX5_lay_53 (by decide) (by omega) (fun c_53 => ?_) (fun c_53 => ?_)
        · refine j_aload_n M dX5_lay_60 0 rfl ?_
          refine j_get M (hup_s _ _ _) rfl 3 (by decide) in_X5 q337 rfl dX5_lay_61 ?_
          refine j_put M (hup_s _ _ _) rfl 3 (by decide) in_X5 tyX5 tyX5_ok nmX5 q337 rfl rfl rfl (Nat.le_of_ble_eq_true rfl) dX5_lay_64 ?_
          refine j_vret M dX5_lay_67 ⟨Nat.le_refl _, Nat.le_refl _⟩ ?_
          first | (exfalso; omega) | exact ⟨rfl, by rw [hup_hup, hup_hup, hup_hup]; simp [*]⟩
        · refine j_iload_n M dX5_lay_56 2 rfl ?_
          refine j_goto M 64 dX5_lay_57 (by decide) ?_
          refine j_put M (hup_s _ _ _) rfl 3 (by decide) in_X5 tyX5 tyX5_ok nmX5 q337 rfl rfl rfl (Nat.le_of_ble_eq_true rfl) dX5_lay_64 ?_
          refine j_vret M dX5_lay_67 ⟨Nat.le_refl _, Nat.le_refl _⟩ ?_
          first | (exfalso; omega) | exact ⟨rfl, by rw [hup_hup, hup_hup, hup_hup]; simp [*]⟩
  · refine j_iload_n M dX5_lay_5 2 rfl ?_
    refine j_goto M 13 dX5_lay_6 (by decide) ?_
    refine j_put M ha rfl 0 (by decide) in_X5 tyX5 tyX5_ok nmX5 q325 rfl rfl rfl (Nat.le_of_ble_eq_true rfl) dX5_lay_13 ?_
    refine j_aload_n M dX5_lay_16 0 rfl ?_
    refine j_iload_n M dX5_lay_17 1 rfl ?_
    refine j_iconst M dX5_lay_18 ?_
    refine j_icmp_ne M 26 dX5_lay_19 (by decide) (by omega) (fun c_19 => ?_) (fun c_19 => ?_)
    · refine j_aload_n M dX5_lay_26 0 rfl ?_
      refine j_get M (hup_s _ _ _) rfl 1 (by decide) in_X5 q330 rfl dX5_lay_27 ?_
      refine j_put M (hup_s _ _ _) rfl 1 (by decide) in_X5 tyX5 tyX5_ok nmX5 q330 rfl rfl rfl (Nat.le_of_ble_eq_true rfl) dX5_lay_30 ?_
      refine j_aload_n M dX5_lay_33 0 rfl ?_
      refine j_iload_n M dX5_lay_34 1 rfl ?_
      refine j_iconst M dX5_lay_35 ?_
      refine j_icmp_ne M 43 dX5_lay_36 (by decide) (by omega) (fun c_36 => ?_) (fun c_36 => ?_)
      · refine j_aload_n M dX5_lay_43 0 rfl ?_
        refine j_get M (hup_s _ _ _) rfl 2 (by decide) in_X5 q335 rfl dX5_lay_44 ?_
        refine j_put M (hup_s _ _ _) rfl 2 (by decide) in_X5 tyX5 tyX5_ok nmX5 q335 rfl rfl rfl (Nat.le_of_ble_eq_true rfl) dX5_lay_47 ?_
        refine j_aload_n M dX5_lay_50 0 rfl ?_
        refine j_iload_n M dX5_lay_51 1 rfl ?_
        refine j_iconst M dX5_lay_52 ?_
        refine j_icmp_ne M 60 dX5_lay_53 (by decide) (by omega) (fun c_53 => ?_) (fun c_53 => ?_)
        · refine j_aload_n M dX5_lay_60 0 rfl ?_
          refine j_get M (hup_s _ _ _) rfl 3 (by decide) in_X5 q337 rfl dX5_lay_61 ?_
          refine j_put M (hup_s _ _ _) rfl 3 (by decide) in_X5 tyX5 tyX5_ok nmX5 q337 rfl rfl rfl (Nat.le_of_ble_eq_true rfl) dX5_lay_64 ?_
          refine j_vret M dX5_lay_67 ⟨Nat.le_refl _, Nat.le_refl _⟩ ?_
          first | (exfalso; omega) | exact ⟨rfl, by rw [hup_hup, hup_hup, hup_hup]; simp [*]⟩
        · refine j_iload_n M dX5_lay_56 2 rfl ?_
          refine j_goto M 64 dX5_lay_57 (by decide) ?_
          refine j_put M (hup_s _ _ _) rfl 3 (by decide) in_X5 tyX5 tyX5_ok nmX5 q337 rfl rfl rfl (Nat.le_of_ble_eq_true rfl) dX5_lay_64 ?_
          refine j_vret M dX5_lay_67 ⟨Nat.le_refl _, Nat.le_refl _⟩ ?_
          first | (exfalso; omega) | exact ⟨rfl, by rw [hup_hup, hup_hup, hup_hup]; simp [*]⟩
      · refine j_iload_n M dX5_lay_39 2 rfl ?_
        refine j_goto M 47 dX5_lay_40 (by decide) ?_
        refine j_put M (hup_s _ _ _) rfl 2 (by decide) in_X5 tyX5 tyX5_ok nmX5 q335 rfl rfl rfl (Nat.le_of_ble_eq_true rfl) dX5_lay_47 ?_
        refine j_aload_n M dX5_lay_50 0 rfl ?_
        refine j_iload_n M dX5_lay_51 1 rfl ?_
        refine j_iconst M dX5_lay_52 ?_
        refine j_icmp_ne M 60 dX5_lay_53 (by decide) (by omega) (fun c_53 => ?_) (fun c_53 => ?_)
        · refine j_aload_n M dX5_lay_60 0 rfl ?_
          refine j_get M (hup_s _ _ _) rfl 3 (by decide) in_X5 q337 rfl dX5_lay_61 ?_
          refine j_put M (hup_s _ _ _) rfl 3 (by decide) in_X5 tyX5 tyX5_ok nmX5 q337 rfl rfl rfl (Nat.le_of_ble_eq_true rfl) dX5_lay_64 ?_
          refine j_vret M dX5_lay_67 ⟨Nat.le_refl _, Nat.le_refl _⟩ ?_
          first | (exfalso; omega) | exact ⟨rfl, by rw [hup_hup, hup_hup, hup_hup]; simp [*]⟩
        · refine j_iload_n M dX5_lay_56 2 rfl ?_
          refine j_goto M 64 dX5_lay_57 (by decide) ?_
          refine j_put M (hup_s _ _ _) rfl 3 (by decide) in_X5 tyX5 tyX5_ok nmX5 q337 rfl rfl rfl (Nat.le_of_ble_eq_true rfl) dX5_lay_64 ?_
          refine j_vret M dX5_lay_67 ⟨Nat.le_refl _, Nat.le_refl _⟩ ?_
          first | (exfalso; omega) | exact ⟨rfl, by rw [hup_hup, hup_hup, hup_hup]; simp [*]⟩
    · refine j_iload_n M dX5_lay_22 2 rfl ?_
      refine j_goto M 30 dX5_lay_23 (by decide) ?_
      refine j_put M (hup_s _ _ _) rfl 1 (by decide) in_X5 tyX5 tyX5_ok nmX5 q330 rfl rfl rfl (Nat.le_of_ble_eq_true rfl) dX5_lay_30 ?_
      refine j_aload_n M dX5_lay_33 0 rfl ?_
      refine j_iload_n M dX5_lay_34 1 rfl ?_
      refine j_iconst M dX5_lay_35 ?_
      refine j_icmp_ne M 43 dX5_lay_36 (by decide) (by omega) (fun c_36 => ?_) (fun c_36 => ?_)
      · refine j_aload_n M dX5_lay_43 0 rfl ?_
        refine j_get M (hup_s _ _ _) rfl 2 (by decide) in_X5 q335 rfl dX5_lay_44 ?_
        refine j_put M (hup_s _ _ _) rfl 2 (by decide) in_X5 tyX5 tyX5_ok nmX5 q335 rfl rfl rfl (Nat.le_of_ble_eq_true rfl) dX5_lay_47 ?_
        refine j_aload_n M dX5_lay_50 0 rfl ?_
        refine j_iload_n M dX5_lay_51 1 rfl ?_
        refine j_iconst M dX5_lay_52 ?_
        refine j_icmp_ne M 60 dX5_lay_53 (by decide) (by omega) (fun c_53 => ?_) (fun c_53 => ?_)
        · refine j_aload_n M dX5_lay_60 0 rfl ?_
          refine j_get M (hup_s _ _ _) rfl 3 (by decide) in_X5 q337 rfl dX5_lay_61 ?_
          refine j_put M (hup_s _ _ _) rfl 3 (by decide) in_X5 tyX5 tyX5_ok nmX5 q337 rfl rfl rfl (Nat.le_of_ble_eq_true rfl) dX5_lay_64 ?_
          refine j_vret M dX5_lay_67 ⟨Nat.le_refl _, Nat.le_refl _⟩ ?_
          first | (exfalso; omega) | exact ⟨rfl, by rw [hup_hup, hup_hup, hup_hup]; simp [*]⟩
        · refine j_iload_n M dX5_lay_56 2 rfl ?_
          refine j_goto M 64 dX5_lay_57 (by decide) ?_
          refine j_put M (hup_s _ _ _) rfl 3 (by decide) in_X5 tyX5 tyX5_ok nmX5 q337 rfl rfl rfl (Nat.le_of_ble_eq_true rfl) dX5_lay_64 ?_
          refine j_vret M dX5_lay_67 ⟨Nat.le_refl _, Nat.le_refl _⟩ ?_
          first | (exfalso; omega) | exact ⟨rfl, by rw [hup_hup, hup_hup, hup_hup]; simp [*]⟩
      · refine j_iload_n M dX5_lay_39 2 rfl ?_
        refine j_goto M 47 dX5_lay_40 (by decide) ?_
        refine j_put M (hup_s _ _ _) rfl 2 (by decide) in_X5 tyX5 tyX5_ok nmX5 q335 rfl rfl rfl (Nat.le_of_ble_eq_true rfl) dX5_lay_47 ?_
        refine j_aload_n M dX5_lay_50 0 rfl ?_
        refine j_iload_n M dX5_lay_51 1 rfl ?_
        refine j_iconst M dX5_lay_52 ?_
        refine j_icmp_ne M 60 dX5_lay_53 (by decide) (by omega) (fun c_53 => ?_) (fun c_53 => ?_)
        · refine j_aload_n M dX5_lay_60 0 rfl ?_
          refine j_get M (hup_s _ _ _) rfl 3 (by decide) in_X5 q337 rfl dX5_lay_61 ?_
          refine j_put M (hup_s _ _ _) rfl 3 (by decide) in_X5 tyX5 tyX5_ok nmX5 q337 rfl rfl rfl (Nat.le_of_ble_eq_true rfl) dX5_lay_64 ?_
          refine j_vret M dX5_lay_67 ⟨Nat.le_refl _, Nat.le_refl _⟩ ?_
          first | (exfalso; omega) | exact ⟨rfl, by rw [hup_hup, hup_hup, hup_hup]; simp [*]⟩
        · refine j_iload_n M dX5_lay_56 2 rfl ?_
          refine j_goto M 64 dX5_lay_57 (by decide) ?_
          refine j_put M (hup_s _ _ _) rfl 3 (by decide) in_X5 tyX5 tyX5_ok nmX5 q337 rfl rfl rfl (Nat.le_of_ble_eq_true rfl) dX5_lay_64 ?_
          refine j_vret M dX5_lay_67 ⟨Nat.le_refl _, Nat.le_refl _⟩ ?_
          first | (exfalso; omega) | exact ⟨rfl, by rw [hup_hup, hup_hup, hup_hup]; simp [*]⟩
theorem c_degenerate0 (ha : hp a = some (eX5 c d e f)) (hc : -9 ≤ c ∧ c ≤ 9) (hd : -9 ≤ d ∧ d ≤ 9) : CS l X yX5_degenerate cX5_degenerate 1 (some .int) 1 [.ref a] hp (some (.int (zI (if d = 0 ∨ c * c + 4 * d = 0 then 0 else if c = 0 then 2 else if c * c = -d then 3 else if c * c = -2 * d then 4 else if c * c = -3 * d then 6 else 0)))) := by
  have b1 := mul_bd 9 9 hc hc
  refine Ct.of (by decide) (Nat.le_of_ble_eq_true rfl) (fun Γ M => ?_)
  refine j_lv (lv' := [(0, .ref a)]) rfl ?_
  refine j_aload_n M dX5_degenerate_0 0 rfl ?_
  refine j_get M ha rfl 1 (by decide) in_X5 q330 rfl dX5_degenerate_1 ?_
  refine j_if_eq M 14 dX5_degenerate_4 (by decide) (by omega) (fun c_4 => ?_) (fun c_4 => ?_)
  · refine j_iconst M dX5_degenerate_14 ?_
    refine j_iret M dX5_degenerate_15 ⟨Nat.le_refl _, Nat.le_refl _⟩ ?_
    exact ⟨by rw [if_pos (by omega)], rfl⟩
  · refine j_aload_n M dX5_degenerate_7 0 rfl ?_
    refine j_rV (k_V M (c_under l X hp a c d e f ha) (rc_of M ha rfl) (lw_V q973 q960 q961 q105 q962) ndX5_under dX5_degenerate_8 ⟨by decide, by decide, by decide, by decide⟩ rfl (Nat.le_of_ble_eq_true rfl)) ?_
    refine j_if_ne M 16 dX5_degenerate_11 (by decide) (by omega) (fun c_11 => ?_) (fun c_11 => ?_)
    · refine j_aload_n M dX5_degenerate_16 0 rfl ?_
      refine j_get M ha rfl 0 (by decide) in_X5 q325 rfl dX5_degenerate_17 ?_
      refine j_if_ne M 27 dX5_degenerate_20 (by decide) (by omega) (fun c_20 => ?_) (fun c_20 => ?_)
      · refine j_aload_n M dX5_degenerate_27 0 rfl ?_
        refine j_get M ha rfl 0 (by decide) in_X5 q325 rfl dX5_degenerate_28 ?_
        refine j_aload_n M dX5_degenerate_31 0 rfl ?_
        refine j_get M ha rfl 0 (by decide) in_X5 q325 rfl dX5_degenerate_32 ?_
        refine j_imul M dX5_degenerate_35 ?_
        refine j_aload_n M dX5_degenerate_36 0 rfl ?_
        refine j_get M ha rfl 1 (by decide) in_X5 q330 rfl dX5_degenerate_37 ?_
        refine j_ineg M dX5_degenerate_40 ?_
        refine j_icmp_ne M 48 dX5_degenerate_41 (by decide) (by omega) (fun c_41 => ?_) (fun c_41 => ?_)
        · refine j_aload_n M dX5_degenerate_48 0 rfl ?_
          refine j_get M ha rfl 0 (by decide) in_X5 q325 rfl dX5_degenerate_49 ?_
          refine j_aload_n M dX5_degenerate_52 0 rfl ?_
          refine j_get M ha rfl 0 (by decide) in_X5 q325 rfl dX5_degenerate_53 ?_
          refine j_imul M dX5_degenerate_56 ?_
          refine j_bipush M dX5_degenerate_57 (by decide) ?_
          refine j_aload_n M dX5_degenerate_59 0 rfl ?_
          refine j_get M ha rfl 1 (by decide) in_X5 q330 rfl dX5_degenerate_60 ?_
          refine j_imul M dX5_degenerate_63 ?_
          refine j_icmp_ne M 71 dX5_degenerate_64 (by decide) (by omega) (fun c_64 => ?_) (fun c_64 => ?_)
          · refine j_aload_n M dX5_degenerate_71 0 rfl ?_
            refine j_get M ha rfl 0 (by decide) in_X5 q325 rfl dX5_degenerate_72 ?_
            refine j_aload_n M dX5_degenerate_75 0 rfl ?_
            refine j_get M ha rfl 0 (by decide) in_X5 q325 rfl dX5_degenerate_76 ?_
            refine j_imul M dX5_degenerate_79 ?_
            refine j_bipush M dX5_degenerate_80 (by decide) ?_
            refine j_aload_n M dX5_degenerate_82 0 rfl ?_
            refine j_get M ha rfl 1 (by decide) in_X5 q330 rfl dX5_degenerate_83 ?_
            refine j_imul M dX5_degenerate_86 ?_
            refine j_icmp_ne M 95 dX5_degenerate_87 (by decide) (by omega) (fun c_87 => ?_) (fun c_87 => ?_)
            · refine j_iconst M dX5_degenerate_95 ?_
              refine j_iret M dX5_degenerate_96 ⟨Nat.le_refl _, Nat.le_refl _⟩ ?_
              refine ⟨?_, rfl⟩
              congr 3
              repeat' split
              all_goals omega
            · refine j_bipush M dX5_degenerate_90 (by decide) ?_
              refine j_goto M 96 dX5_degenerate_92 (by decide) ?_
              refine j_iret M dX5_degenerate_96 ⟨Nat.le_refl _, Nat.le_refl _⟩ ?_
              refine ⟨?_, rfl⟩
              congr 3
              repeat' split
              all_goals omega
          · refine j_iconst M dX5_degenerate_67 ?_
            refine j_goto M 96 dX5_degenerate_68 (by decide) ?_
            refine j_iret M dX5_degenerate_96 ⟨Nat.le_refl _, Nat.le_refl _⟩ ?_
            refine ⟨?_, rfl⟩
            congr 3
            repeat' split
            all_goals omega
        · refine j_iconst M dX5_degenerate_44 ?_
          refine j_goto M 96 dX5_degenerate_45 (by decide) ?_
          refine j_iret M dX5_degenerate_96 ⟨Nat.le_refl _, Nat.le_refl _⟩ ?_
          refine ⟨?_, rfl⟩
          congr 3
          repeat' split
          all_goals omega
      · refine j_iconst M dX5_degenerate_23 ?_
        refine j_goto M 96 dX5_degenerate_24 (by decide) ?_
        refine j_iret M dX5_degenerate_96 ⟨Nat.le_refl _, Nat.le_refl _⟩ ?_
        refine ⟨?_, rfl⟩
        congr 3
        repeat' split
        all_goals omega
    · refine j_iconst M dX5_degenerate_14 ?_
      refine j_iret M dX5_degenerate_15 ⟨Nat.le_refl _, Nat.le_refl _⟩ ?_
      exact ⟨by rw [if_pos (by omega)], rfl⟩
theorem pDeg_c {c d : Int} (hc : -9 ≤ c ∧ c ≤ 9) (hd : -9 ≤ d ∧ d ≤ 9) : (if d = 0 ∨ c * c + 4 * d = 0 then 0 else if c = 0 then 2 else if c * c = -d then 3 else if c * c = -2 * d then 4 else if c * c = -3 * d then 6 else 0) = pDeg c d := by
  have h : ∀ i : Fin 19, ∀ j : Fin 19, (if ((j : Nat) : Int) - 9 = 0 ∨ (((i : Nat) : Int) - 9) * (((i : Nat) : Int) - 9) + 4 * (((j : Nat) : Int) - 9) = 0 then 0 else if ((i : Nat) : Int) - 9 = 0 then 2 else if (((i : Nat) : Int) - 9) * (((i : Nat) : Int) - 9) = -(((j : Nat) : Int) - 9) then 3 else if (((i : Nat) : Int) - 9) * (((i : Nat) : Int) - 9) = -2 * (((j : Nat) : Int) - 9) then 4 else if (((i : Nat) : Int) - 9) * (((i : Nat) : Int) - 9) = -3 * (((j : Nat) : Int) - 9) then 6 else 0) = pDeg (((i : Nat) : Int) - 9) (((j : Nat) : Int) - 9) := by decide +kernel
  have := h ⟨(c + 9).toNat, by omega⟩ ⟨(d + 9).toNat, by omega⟩
  simp only [show (((c + 9).toNat : Nat) : Int) - 9 = c by omega, show (((d + 9).toNat : Nat) : Int) - 9 = d by omega] at this
  exact this
theorem c_degenerate (ha : hp a = some (eX5 c d e f)) (hc : -9 ≤ c ∧ c ≤ 9) (hd : -9 ≤ d ∧ d ≤ 9) : CS l X yX5_degenerate cX5_degenerate 1 (some .int) 1 [.ref a] hp (some (.int (zI (pDeg c d)))) := by
  rw [← pDeg_c hc hd]; exact c_degenerate0 l X hp a c d e f ha hc hd
theorem c_easedX5 (x : Nat) : CS l X yX5_eased cX5_eased 2 (some (.object "AheadRows$Told")) 0 [.ref a, .ref x] hp (some .null) := by
  refine Ct.of (by decide) (Nat.le_of_ble_eq_true rfl) (fun Γ M => ?_)
  refine j_lv (lv' := [(0, .ref a), (1, .ref x)]) rfl ?_
  refine j_aconst_null M dX5_eased_0 ?_
  refine j_aretN M dX5_eased_1 (Or.inl ⟨_, rfl⟩) ⟨Nat.le_refl _, Nat.le_refl _⟩ ?_
  exact ⟨rfl, rfl⟩
/-- a rule, in an array of its own -/
def pRA (X : Cx) (hp : Hp) (a0 a1 a2 a3 a4 : Int) : Option Value → Hp → Prop := fun r hp' => ∃ (q : Nat) (g : Int → Int), r = some (.ref q) ∧ hp q = none ∧ cxB X ≤ q ∧ hp' = hup hp q (eI X 5 g) ∧ g 0 = a0 ∧ g 1 = a1 ∧ g 2 = a2 ∧ g 3 = a3 ∧ g 4 = a4
theorem pRA.mk {X : Cx} {hp hp' : Hp} {q : Nat} {a0 a1 a2 a3 a4 : Int} (hq : hp q = none) (hB : cxB X ≤ q) (e : hp' = hup hp q (eI X 5 (upA (upA (upA (upA (upA (fun _ => 0) 0 a0) 1 a1) 2 a2) 3 a3) 4 a4))) : pRA X hp a0 a1 a2 a3 a4 (some (.ref q)) hp' := by
  refine ⟨q, _, rfl, hq, hB, e, ?_⟩
  simp [upA]
theorem c_ruleByX5 (x : Nat) (ha : hp a = some (eX5 c d e f)) : Ct l X yX5_ruleBy cX5_ruleBy 2 (some (.array .int)) (rC 0 1 5) [.ref a, .ref x] hp (pRA X hp 2 c d 0 0) := by
  refine Ct.of (by decide) (Nat.le_of_ble_eq_true rfl) (fun Γ M => ?_)
  refine j_lv (lv' := [(0, .ref a), (1, .ref x)]) rfl ?_
  refine j_iconst M dX5_ruleBy_0 ?_
  refine j_newI M q194 (by decide) (by decide) dX5_ruleBy_1 (fun q_1 hq_1 hB_1 => ?_)
  have hne : a ≠ q_1 := fun e => by rw [e, hq_1] at ha; cases ha
  refine j_dup M dX5_ruleBy_3 rfl ?_
  refine j_iconst M dX5_ruleBy_4 ?_
  refine j_iconst M dX5_ruleBy_5 ?_
  refine j_iast M (hup_s _ _ _) (by omega) dX5_ruleBy_6 ?_
  refine j_dup M dX5_ruleBy_7 rfl ?_
  refine j_iconst M dX5_ruleBy_8 ?_
  refine j_aload_n M dX5_ruleBy_9 0 rfl ?_
  refine j_get M (by rw [hup_n _ _ hne, hup_n _ _ hne]; exact ha) rfl 0 (by decide) in_X5 q325 rfl dX5_ruleBy_10 ?_
  refine j_iast M (hup_s _ _ _) (by omega) dX5_ruleBy_13 ?_
  refine j_dup M dX5_ruleBy_14 rfl ?_
  refine j_iconst M dX5_ruleBy_15 ?_
  refine j_aload_n M dX5_ruleBy_16 0 rfl ?_
  refine j_get M (by rw [hup_n _ _ hne, hup_n _ _ hne, hup_n _ _ hne]; exact ha) rfl 1 (by decide) in_X5 q330 rfl dX5_ruleBy_17 ?_
  refine j_iast M (hup_s _ _ _) (by omega) dX5_ruleBy_20 ?_
  refine j_dup M dX5_ruleBy_21 rfl ?_
  refine j_iconst M dX5_ruleBy_22 ?_
  refine j_iconst M dX5_ruleBy_23 ?_
  refine j_iast M (hup_s _ _ _) (by omega) dX5_ruleBy_24 ?_
  refine j_dup M dX5_ruleBy_25 rfl ?_
  refine j_iconst M dX5_ruleBy_26 ?_
  refine j_iconst M dX5_ruleBy_27 ?_
  refine j_iast M (hup_s _ _ _) (by omega) dX5_ruleBy_28 ?_
  refine j_aret M dX5_ruleBy_29 (Or.inr ⟨_, rfl⟩) ⟨Nat.le_refl _, Nat.le_refl _⟩ ?_
  exact pRA.mk hq_1 hB_1 (by rw [hup_hup, hup_hup, hup_hup, hup_hup, hup_hup]; rfl)
theorem c_power (n : Int) (hn : 1 ≤ n ∧ n ≤ 5) (ha : hp a = some (eX5 c d e f)) : Ct l X yX5_power cX5_power 7 (some (.array .int)) (rC 0 1 5) [.ref a, .int (zI n)] hp (pRA X hp 2 (pPow c d n.toNat).1 (-pPw (-d) n.toNat) 0 0) := by
  refine Ct.of (by decide) (Nat.le_of_ble_eq_true rfl) (fun Γ M => ?_)
  refine j_lv (lv' := [(0, .ref a), (1, .int (zI n))]) rfl ?_
  have loop : ∀ (j : Nat) (k : Nat) (ls : List (Nat × Value)), 1 ≤ k → (k : Int) + j = n → J Γ hp 0 0 17 ([(0, .ref a), (1, .int (zI n)), (2, .int (zI (pPow c d (k - 1)).1)), (3, .int (zI (pPow c d (k - 1)).2)), (4, .int (zI (pPw (-d) k))), (5, .int (zI k))] ++ ls) [] := by
    intro j
    induction j with
    | zero =>
      intro k ls k0 k1
      refine j_loc (lv' := [(0, .ref a), (1, .int (zI n)), (2, .int (zI (pPow c d (k - 1)).1)), (3, .int (zI (pPow c d (k - 1)).2)), (4, .int (zI (pPw (-d) k))), (5, .int (zI k))]) [0, 1, 2, 3, 4, 5] rfl ?_
      obtain ⟨k', rfl⟩ : ∃ k', k = k' + 1 := ⟨k - 1, by omega⟩
      refine j_iload M dX5_power_17 5 rfl ?_
      refine j_iload_n M dX5_power_19 1 rfl ?_
      refine j_icmp_ge M 59 dX5_power_20 (by decide) (by omega) (fun c_20 => ?_) (fun c_20 => ?_)
      · refine j_iconst M dX5_power_59 ?_
        refine j_newI M q194 (by decide) (by decide) dX5_power_60 (fun q_60 hq_60 hB_60 => ?_)
        have hne : a ≠ q_60 := fun e => by rw [e, hq_60] at ha; cases ha
        refine j_dup M dX5_power_62 rfl ?_
        refine j_iconst M dX5_power_63 ?_
        refine j_iconst M dX5_power_64 ?_
        refine j_iast M (hup_s _ _ _) (by omega) dX5_power_65 ?_
        refine j_dup M dX5_power_66 rfl ?_
        refine j_iconst M dX5_power_67 ?_
        refine j_iload_n M dX5_power_68 3 rfl ?_
        refine j_iast M (hup_s _ _ _) (by omega) dX5_power_69 ?_
        refine j_dup M dX5_power_70 rfl ?_
        refine j_iconst M dX5_power_71 ?_
        refine j_iload M dX5_power_72 4 rfl ?_
        refine j_ineg M dX5_power_74 ?_
        refine j_iast M (hup_s _ _ _) (by omega) dX5_power_75 ?_
        refine j_dup M dX5_power_76 rfl ?_
        refine j_iconst M dX5_power_77 ?_
        refine j_iconst M dX5_power_78 ?_
        refine j_iast M (hup_s _ _ _) (by omega) dX5_power_79 ?_
        refine j_dup M dX5_power_80 rfl ?_
        refine j_iconst M dX5_power_81 ?_
        refine j_iconst M dX5_power_82 ?_
        refine j_iast M (hup_s _ _ _) (by omega) dX5_power_83 ?_
        refine j_aret M dX5_power_84 (Or.inr ⟨_, rfl⟩) ⟨Nat.le_refl _, Nat.le_refl _⟩ ?_
        rw [show n.toNat = k' + 1 by omega]
        exact pRA.mk hq_60 hB_60 (by rw [hup_hup, hup_hup, hup_hup, hup_hup, hup_hup]; rfl)
      · omega
    | succ j ih =>
      intro k ls k0 k1
      refine j_loc (lv' := [(0, .ref a), (1, .int (zI n)), (2, .int (zI (pPow c d (k - 1)).1)), (3, .int (zI (pPow c d (k - 1)).2)), (4, .int (zI (pPw (-d) k))), (5, .int (zI k))]) [0, 1, 2, 3, 4, 5] rfl ?_
      have h1 := ih (k + 1) [(6, .int (zI (c * (pPow c d (k - 1)).2 + d * (pPow c d (k - 1)).1)))] (by omega) (by omega)
      obtain ⟨k', rfl⟩ : ∃ k', k = k' + 1 := ⟨k - 1, by omega⟩
      refine j_iload M dX5_power_17 5 rfl ?_
      refine j_iload_n M dX5_power_19 1 rfl ?_
      refine j_icmp_ge M 59 dX5_power_20 (by decide) (by omega) (fun c_20 => ?_) (fun c_20 => ?_)
      · omega
      · refine j_aload_n M dX5_power_23 0 rfl ?_
        refine j_get M ha rfl 0 (by decide) in_X5 q325 rfl dX5_power_24 ?_
        refine j_iload_n M dX5_power_27 3 rfl ?_
        refine j_imul M dX5_power_28 ?_
        refine j_aload_n M dX5_power_29 0 rfl ?_
        refine j_get M ha rfl 1 (by decide) in_X5 q330 rfl dX5_power_30 ?_
        refine j_iload_n M dX5_power_33 2 rfl ?_
        refine j_imul M dX5_power_34 ?_
        refine j_iadd M dX5_power_35 ?_
        refine j_istore M dX5_power_36 (by decide) ?_
        refine j_iload_n M dX5_power_38 3 rfl ?_
        refine j_istore_n M dX5_power_39 (by decide) ?_
        refine j_iload M dX5_power_40 6 rfl ?_
        refine j_istore_n M dX5_power_42 (by decide) ?_
        refine j_iload M dX5_power_43 4 rfl ?_
        refine j_aload_n M dX5_power_45 0 rfl ?_
        refine j_get M ha rfl 1 (by decide) in_X5 q330 rfl dX5_power_46 ?_
        refine j_ineg M dX5_power_49 ?_
        refine j_imul M dX5_power_50 ?_
        refine j_istore M dX5_power_51 (by decide) ?_
        refine j_iinc M dX5_power_53 5 rfl (by decide) ?_
        refine j_goto M 17 dX5_power_56 (by decide) ?_
        exact h1
  refine j_iconst M dX5_power_0 ?_
  refine j_istore_n M dX5_power_1 (by decide) ?_
  refine j_aload_n M dX5_power_2 0 rfl ?_
  refine j_get M ha rfl 0 (by decide) in_X5 q325 rfl dX5_power_3 ?_
  refine j_istore_n M dX5_power_6 (by decide) ?_
  refine j_aload_n M dX5_power_7 0 rfl ?_
  refine j_get M ha rfl 1 (by decide) in_X5 q330 rfl dX5_power_8 ?_
  refine j_ineg M dX5_power_11 ?_
  refine j_istore M dX5_power_12 (by decide) ?_
  refine j_iconst M dX5_power_14 ?_
  refine j_istore M dX5_power_15 (by decide) ?_
  have h1 := loop (n - 1).toNat 1 [] (by omega) (by omega)
  rw [show pPw (-d) 1 = -d by simp [pPw]] at h1
  exact h1
theorem pTld_far {c d e f : Int} {j : Nat} (h : (pTld c d e f j).2 = 2000000002) : ∀ i, (pTld c d e f (j + 1 + i)).1 = 2000000002 ∧ (pTld c d e f (j + 1 + i)).2 = 2000000002 := by
  intro i
  induction i with
  | zero => exact ⟨h, by show pNx _ _ _ _ = _; unfold pNx; rw [if_pos (Or.inr h)]⟩
  | succ i ih => exact ⟨ih.2, if_pos (Or.inr ih.2)⟩
theorem c_exactX5 (x : Nat) (n : Int) (hn : 0 ≤ n ∧ n < 2147483648) (ha : hp a = some (eX5 c d e f)) (hc : -9 ≤ c ∧ c ≤ 9) (hd : -9 ≤ d ∧ d ≤ 9) (he : -999 ≤ e ∧ e ≤ 999) (hf : -999 ≤ f ∧ f ≤ 999) : CS l X yX5_exact cX5_exact 10 (some .long) 1 [.ref a, .ref x, .int (zI n)] hp (some (.long (zL (if 200 < n then 2000000002 else (pTld c d e f n.toNat).1)))) := by
  have hr := pTld_r (c := c) (d := d) he hf
  refine Ct.of (by decide) (Nat.le_of_ble_eq_true rfl) (fun Γ M => ?_)
  refine j_lv (lv' := [(0, .ref a), (1, .ref x), (2, .int (zI n))]) rfl ?_
  have loop : ∀ (j : Nat) (k : Nat) (ls : List (Nat × Value)), n ≤ 200 → 2 ≤ k → (k : Int) + j = n + 1 → (pTld c d e f (k - 2)).1 ≠ 2000000002 → (pTld c d e f (k - 2)).2 ≠ 2000000002 → J Γ hp 0 0 39 ([(0, .ref a), (1, .ref x), (2, .int (zI n)), (3, .long (zL (pTld c d e f (k - 2)).1)), (5, .long (zL (pTld c d e f (k - 2)).2)), (7, .int (zI k))] ++ ls) [] := by
    intro j
    induction j with
    | zero =>
      intro k ls n2 k0 k1 f1 f2
      refine j_loc (lv' := [(0, .ref a), (1, .ref x), (2, .int (zI n)), (3, .long (zL (pTld c d e f (k - 2)).1)), (5, .long (zL (pTld c d e f (k - 2)).2)), (7, .int (zI k))]) [0, 1, 2, 3, 4, 5] rfl ?_
      refine j_iload M dX5_exact_39 5 rfl ?_
      refine j_iload_n M dX5_exact_41 2 rfl ?_
      refine j_icmp_gt M 92 dX5_exact_42 (by decide) (by omega) (fun c_42 => ?_) (fun c_42 => ?_)
      · refine j_lload M dX5_exact_92 4 rfl ?_
        refine j_lret M dX5_exact_94 ⟨Nat.le_refl _, Nat.le_refl _⟩ ?_
        refine ⟨?_, rfl⟩
        rw [if_neg (by omega), show n.toNat = (k - 2) + 1 by omega]
        rfl
      · omega
    | succ j ih =>
      intro k ls n2 k0 k1 f1 f2
      refine j_loc (lv' := [(0, .ref a), (1, .ref x), (2, .int (zI n)), (3, .long (zL (pTld c d e f (k - 2)).1)), (5, .long (zL (pTld c d e f (k - 2)).2)), (7, .int (zI k))]) [0, 1, 2, 3, 4, 5] rfl ?_
      have h1 := ih (k + 1) [(8, .long (zL (pTld c d e f (k - 1)).2))] n2 (by omega) (by omega)
      obtain ⟨k', rfl⟩ : ∃ k', k = k' + 2 := ⟨k - 2, by omega⟩
      have r0 := tR_f (hr k').1 f1
      have r1 := tR_f (hr k').2 f2
      have b1 := mul_bd 9 1000000000 hc r1
      have b2 := mul_bd 9 1000000000 hd r0
      have nx : pNear (c * (pTld c d e f k').2 + d * (pTld c d e f k').1) = (pTld c d e f (k' + 1)).2 := by
        show _ = pNx _ _ _ _
        unfold pNx
        rw [if_neg (fun q => by rcases q with q | q; exact f1 q; exact f2 q)]
      have r2 := (hr (k' + 1)).2
      unfold tR at r2
      refine j_iload M dX5_exact_39 5 rfl ?_
      refine j_iload_n M dX5_exact_41 2 rfl ?_
      refine j_icmp_gt M 92 dX5_exact_42 (by decide) (by omega) (fun c_42 => ?_) (fun c_42 => ?_)
      · omega
      · refine j_aload_n M dX5_exact_45 0 rfl ?_
        refine j_get M ha rfl 0 (by decide) in_X5 q325 rfl dX5_exact_46 ?_
        refine j_i2l M dX5_exact_49 (by omega) ?_
        refine j_lload M dX5_exact_50 4 rfl ?_
        refine j_lmul M dX5_exact_52 ?_
        refine j_aload_n M dX5_exact_53 0 rfl ?_
        refine j_get M ha rfl 1 (by decide) in_X5 q330 rfl dX5_exact_54 ?_
        refine j_i2l M dX5_exact_57 (by omega) ?_
        refine j_lload_n M dX5_exact_58 3 rfl ?_
        refine j_lmul M dX5_exact_59 ?_
        refine j_ladd M dX5_exact_60 ?_
        refine j_rV (k_SI M (xc := ⟨"AheadRows$Told", "near", "(J)J"⟩) (c_near l X hp _ (by show r64 (c * (pTld c d e f k').2 + d * (pTld c d e f k').1); omega)) rfl q730 q731 q732 q104 (lw_meth q733) ndX4_near dX5_exact_61 ⟨by decide, by decide, by decide, by decide⟩ rfl (Nat.le_of_ble_eq_true rfl)) ?_
        refine j_topL _ nx ?_
        refine j_lstore M dX5_exact_64 (by decide) ?_
        refine j_lload M dX5_exact_66 6 rfl ?_
        refine j_ldc2 M (2000000002) q729 (by decide) dX5_exact_68 ?_
        refine j_lcmp_ne M 79 dX5_exact_71 dX5_exact_72 (by decide) (by omega) (fun c_71 => ?_) (fun c_71 => ?_)
        · refine j_lload M dX5_exact_79 4 rfl ?_
          refine j_lstore_n M dX5_exact_81 (by decide) ?_
          refine j_lload M dX5_exact_82 6 rfl ?_
          refine j_lstore M dX5_exact_84 (by decide) ?_
          refine j_iinc M dX5_exact_86 5 rfl (by decide) ?_
          refine j_goto M 39 dX5_exact_89 (by decide) ?_
          exact h1 f2 c_71
        · refine j_ldc2 M (2000000002) q729 (by decide) dX5_exact_75 ?_
          refine j_lret M dX5_exact_78 ⟨Nat.le_refl _, Nat.le_refl _⟩ ?_
          refine ⟨?_, rfl⟩
          rw [if_neg (by omega), show n.toNat = k' + 1 + 1 + (n.toNat - (k' + 2)) by omega, (pTld_far c_71 _).1]
  have loop0 : n = 0 → J Γ hp 0 0 39 [(0, .ref a), (1, .ref x), (2, .int (zI n)), (3, .long (zL e)), (5, .long (zL e)), (7, .int (zI 2))] [] := by
    intro n0
    refine j_iload M dX5_exact_39 5 rfl ?_
    refine j_iload_n M dX5_exact_41 2 rfl ?_
    refine j_icmp_gt M 92 dX5_exact_42 (by decide) (by omega) (fun c_42 => ?_) (fun c_42 => ?_)
    · refine j_lload M dX5_exact_92 4 rfl ?_
      refine j_lret M dX5_exact_94 ⟨Nat.le_refl _, Nat.le_refl _⟩ ?_
      exact ⟨by rw [if_neg (by omega), n0]; rfl, rfl⟩
    · omega
  refine j_iload_n M dX5_exact_0 2 rfl ?_
  refine j_sipush M dX5_exact_1 (by decide) ?_
  refine j_icmp_le M 11 dX5_exact_4 (by decide) (by omega) (fun c_4 => ?_) (fun c_4 => ?_)
  · refine j_aload_n M dX5_exact_11 0 rfl ?_
    refine j_get M ha rfl 2 (by decide) in_X5 q335 rfl dX5_exact_12 ?_
    refine j_i2l M dX5_exact_15 (by omega) ?_
    refine j_lstore_n M dX5_exact_16 (by decide) ?_
    refine j_iload_n M dX5_exact_17 2 rfl ?_
    refine j_if_ne M 29 dX5_exact_18 (by decide) (by omega) (fun c_18 => ?_) (fun c_18 => ?_)
    · refine j_aload_n M dX5_exact_29 0 rfl ?_
      refine j_get M ha rfl 3 (by decide) in_X5 q337 rfl dX5_exact_30 ?_
      refine j_i2l M dX5_exact_33 (by omega) ?_
      refine j_lstore M dX5_exact_34 (by decide) ?_
      refine j_iconst M dX5_exact_36 ?_
      refine j_istore M dX5_exact_37 (by decide) ?_
      have h1 := loop (n - 1).toNat 2 [] (by omega) (by omega) (by omega) (by show e ≠ _; omega) (by show f ≠ _; omega)
      exact h1
    · refine j_aload_n M dX5_exact_21 0 rfl ?_
      refine j_get M ha rfl 2 (by decide) in_X5 q335 rfl dX5_exact_22 ?_
      refine j_i2l M dX5_exact_25 (by omega) ?_
      refine j_goto M 34 dX5_exact_26 (by decide) ?_
      refine j_lstore M dX5_exact_34 (by decide) ?_
      refine j_iconst M dX5_exact_36 ?_
      refine j_istore M dX5_exact_37 (by decide) ?_
      exact loop0 c_18
  · refine j_ldc2 M (2000000002) q729 (by decide) dX5_exact_7 ?_
    refine j_lret M dX5_exact_10 ⟨Nat.le_refl _, Nat.le_refl _⟩ ?_
    exact ⟨by rw [if_pos (by omega)], rfl⟩
end C3
