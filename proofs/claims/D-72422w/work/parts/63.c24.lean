/-! 63: the component: what is guessed -/
set_option maxRecDepth 100000
theorem tdiv_bd (a b : Int) (hb : -2000 ≤ b ∧ b ≤ 2000) : -2000 ≤ b.tdiv a ∧ b.tdiv a ≤ 2000 := by
  have h1 : (b.tdiv a).natAbs ≤ b.natAbs := by rw [Int.natAbs_tdiv]; exact Nat.div_le_self _ _
  omega
theorem tmod_bd (a b : Int) (hb : -2000 ≤ b ∧ b ≤ 2000) : -2000 ≤ b.tmod a ∧ b.tmod a ≤ 2000 := by
  have h1 : (b.tmod a).natAbs ≤ b.natAbs := by rw [Int.natAbs_tmod]; exact Nat.mod_le _ _
  omega
section C24
variable (l : Launch) (X : Cx) (Pr : Hp) (c : Int) (s : Co) (hp : Hp)
theorem c_g (k : Int) (hk : 0 ≤ k ∧ k < 100) (h : CI X Pr c s hp) : CS l X yX0_g cX0_g 2 (some .int) 0 [.ref s.x, .int (zI k)] hp (some (.int (zI (if k < s.v 7 then s.G k else 0)))) := by
  have hx := h.cw.hx
  obtain ⟨n1, n2, n3, n4, n5, n6, n7⟩ := h.nb
  obtain ⟨a1, a2, a3, a4⟩ := h.arr
  refine Ct.of (by decide) (Nat.le_of_ble_eq_true rfl) (fun Γ M => ?_)
  refine j_lv (lv' := [(0, .ref s.x), (1, .int (zI k))]) rfl ?_
  refine j_iload_n M dX0_g_0 1 rfl ?_
  refine j_aload_n M dX0_g_1 0 rfl ?_
  refine j_get M hx rfl 7 (by decide) in_X0 q207 rfl dX0_g_2 ?_
  refine j_icmp_ge M 17 dX0_g_5 (by decide) (by omega) (fun c_5 => ?_) (fun c_5 => ?_)
  · refine j_iconst M dX0_g_17 ?_
    refine j_iret M dX0_g_18 ⟨Nat.le_refl _, Nat.le_refl _⟩ ?_
    exact ⟨by rw [if_neg (by omega)], rfl⟩
  · refine j_aload_n M dX0_g_8 0 rfl ?_
    refine j_get M hx rfl 8 (by decide) in_X0 q208 rfl dX0_g_9 ?_
    refine j_iload_n M dX0_g_12 1 rfl ?_
    refine j_iald M a2 (by unfold inb; omega) dX0_g_13 ?_
    refine j_goto M 18 dX0_g_14 (by decide) ?_
    refine j_iret M dX0_g_18 ⟨Nat.le_refl _, Nat.le_refl _⟩ ?_
    exact ⟨by rw [if_pos (by omega)], rfl⟩
theorem c_goesBy (g u v : Int) (hg : g = 0 ∨ g = 1 ∨ g = 2) (hu : -9 ≤ u ∧ u ≤ 9) (hv : -9 ≤ v ∧ v ≤ 9) (h : CI X Pr c s hp) : CS l X yX0_goesBy cX0_goesBy 6 (some .boolean) 1 [.ref s.x, .int (zI g), .int (zI u), .int (zI v)] hp (some (.int (zB (pGs s.G (s.v 7) g u v)))) := by
  have hx := h.cw.hx
  obtain ⟨n1, n2, n3, n4, n5, n6, n7⟩ := h.nb
  refine Ct.of (by decide) (Nat.le_of_ble_eq_true rfl) (fun Γ M => ?_)
  refine j_lv (lv' := [(0, .ref s.x), (1, .int (zI g)), (2, .int (zI u)), (3, .int (zI v))]) rfl ?_
  have hend : ∀ (b : Bool) (k : Int), (b = true ↔ ∀ j, g ≤ j → j < k → s.G j = pBy s.G g u v j) → (k ≥ s.v 7 ∧ k ≤ max g (s.v 7) ∨ (b = false ∧ k ≤ max g (s.v 7))) → b = pGs s.G (s.v 7) g u v := fun b k hb hc => by
    rw [Bool.eq_iff_iff, pGs_iff, hb]
    constructor
    · intro q j j0 j1
      rcases hc with hc | hc
      · exact q j j0 (by omega)
      · rw [hb.mpr q] at hc; cases hc.1
    · intro q j j0 j1; exact q j j0 (by omega)
  have loop : ∀ (w : Nat) (k : Int) (b : Bool), w = (s.v 7 - k).toNat → g ≤ k → k ≤ max g (s.v 7) → (b = true ↔ ∀ j, g ≤ j → j < k → s.G j = pBy s.G g u v j) → J Γ hp 0 0 6 [(0, .ref s.x), (1, .int (zI g)), (2, .int (zI u)), (3, .int (zI v)), (4, .int (zB b)), (5, .int (zI k))] [] := by
    intro w
    induction w using Nat.strongRecOn with
    | _ w ih =>
      intro k b hw hk hk2 hb
      have g0 := n6 k
      have g1 := n6 (k - 1)
      have g2 := n6 (k - 2)
      have stepB : (k < s.v 7) → b = true → ∀ z : Int, z = pBy s.G g u v k → (s.G k = z → J Γ hp 0 0 6 [(0, .ref s.x), (1, .int (zI g)), (2, .int (zI u)), (3, .int (zI v)), (4, .int (zI 1)), (5, .int (zI (k + 1)))] []) ∧ (s.G k ≠ z → J Γ hp 0 0 6 [(0, .ref s.x), (1, .int (zI g)), (2, .int (zI u)), (3, .int (zI v)), (4, .int (zI 0)), (5, .int (zI (k + 1)))] []) := fun hlt hbt z hz => by
        refine ⟨fun q => ih _ (by omega) (k + 1) true rfl (by omega) (by omega) ⟨fun _ j j0 j1 => ?_, fun _ => rfl⟩, fun q => ih _ (by omega) (k + 1) false rfl (by omega) (by omega) ⟨fun w => (by cases w), fun w => absurd (w k hk (by omega)) (by rw [← hz]; exact q)⟩⟩
        rcases (show j < k ∨ j = k by omega) with e | e
        · exact hb.mp hbt j j0 e
        · rw [e, q, hz]
      refine j_iload M dX0_goesBy_6 5 rfl ?_
      refine j_aload_n M dX0_goesBy_8 0 rfl ?_
      refine j_get M hx rfl 7 (by decide) in_X0 q207 rfl dX0_goesBy_9 ?_
      refine j_icmp_ge M 80 dX0_goesBy_12 (by decide) (by omega) (fun c_12 => ?_) (fun c_12 => ?_)
      · refine j_iload M dX0_goesBy_80 4 rfl ?_
        refine j_zret M dX0_goesBy_82 ⟨Nat.le_refl _, Nat.le_refl _⟩ ?_
        exact ⟨by rw [← hend b k hb (Or.inl ⟨by omega, hk2⟩)], rfl⟩
      · refine j_iload M dX0_goesBy_15 4 rfl ?_
        refine j_ifeqB M 80 dX0_goesBy_17 (by decide) (fun c_17 => ?_) (fun c_17 => ?_)
        · refine j_iload M dX0_goesBy_80 4 rfl ?_
          refine j_zret M dX0_goesBy_82 ⟨Nat.le_refl _, Nat.le_refl _⟩ ?_
          exact ⟨by rw [← hend b k hb (Or.inr ⟨c_17, hk2⟩)], rfl⟩
        · refine j_aload_n M dX0_goesBy_20 0 rfl ?_
          refine j_iload M dX0_goesBy_21 5 rfl ?_
          refine j_rV (k_V M (c_g l X Pr c s hp k (by omega) h) (rc_of M hx rfl) (lw_V q1162 q1164 qs29 q97 q1165) ndX0_g dX0_goesBy_23 ⟨by decide, by decide, by decide, by decide⟩ rfl (Nat.le_of_ble_eq_true rfl)) ?_
          rw [if_pos c_12]
          refine j_iload_n M dX0_goesBy_26 1 rfl ?_
          refine j_if_le M 43 dX0_goesBy_27 (by decide) (by omega) (fun c_27 => ?_) (fun c_27 => ?_)
          · refine j_iconst M dX0_goesBy_43 ?_
            refine j_iload_n M dX0_goesBy_44 1 rfl ?_
            refine j_iconst M dX0_goesBy_45 ?_
            refine j_icmp_le M 62 dX0_goesBy_46 (by decide) (by omega) (fun c_46 => ?_) (fun c_46 => ?_)
            · refine j_iconst M dX0_goesBy_62 ?_
              refine j_iadd M dX0_goesBy_63 ?_
              refine j_icmp_ne M 71 dX0_goesBy_64 (by decide) (by omega) (fun c_64 => ?_) (fun c_64 => ?_)
              · refine j_iconst M dX0_goesBy_71 ?_
                refine j_istore M dX0_goesBy_72 (by decide) ?_
                refine j_iinc M dX0_goesBy_74 5 rfl (by decide) ?_
                refine j_goto M 6 dX0_goesBy_77 (by decide) ?_
                first | (exfalso; omega) | exact (stepB c_12 c_17 _ (by unfold pBy; rw [if_neg (by omega), if_neg (by omega)])).2 c_64 | exact (stepB c_12 c_17 _ (by unfold pBy; rw [if_neg (by omega), if_neg (by omega)])).1 c_64 | exact (stepB c_12 c_17 _ (by unfold pBy; rw [if_neg (by omega), if_pos (by omega), Int.add_zero])).2 c_64 | exact (stepB c_12 c_17 _ (by unfold pBy; rw [if_neg (by omega), if_pos (by omega), Int.add_zero])).1 c_64 | exact (stepB c_12 c_17 _ (by unfold pBy; rw [if_pos (by omega), Int.add_zero])).2 c_64 | exact (stepB c_12 c_17 _ (by unfold pBy; rw [if_pos (by omega), Int.add_zero])).1 c_64
              · refine j_iconst M dX0_goesBy_67 ?_
                refine j_goto M 72 dX0_goesBy_68 (by decide) ?_
                refine j_istore M dX0_goesBy_72 (by decide) ?_
                refine j_iinc M dX0_goesBy_74 5 rfl (by decide) ?_
                refine j_goto M 6 dX0_goesBy_77 (by decide) ?_
                first | (exfalso; omega) | exact (stepB c_12 c_17 _ (by unfold pBy; rw [if_neg (by omega), if_neg (by omega)])).2 c_64 | exact (stepB c_12 c_17 _ (by unfold pBy; rw [if_neg (by omega), if_neg (by omega)])).1 c_64 | exact (stepB c_12 c_17 _ (by unfold pBy; rw [if_neg (by omega), if_pos (by omega), Int.add_zero])).2 c_64 | exact (stepB c_12 c_17 _ (by unfold pBy; rw [if_neg (by omega), if_pos (by omega), Int.add_zero])).1 c_64 | exact (stepB c_12 c_17 _ (by unfold pBy; rw [if_pos (by omega), Int.add_zero])).2 c_64 | exact (stepB c_12 c_17 _ (by unfold pBy; rw [if_pos (by omega), Int.add_zero])).1 c_64
            · refine j_iload_n M dX0_goesBy_49 3 rfl ?_
              refine j_aload_n M dX0_goesBy_50 0 rfl ?_
              refine j_iload M dX0_goesBy_51 5 rfl ?_
              refine j_iconst M dX0_goesBy_53 ?_
              refine j_isub M dX0_goesBy_54 ?_
              refine j_rV (k_V M (c_g l X Pr c s hp (k - 2) (by omega) h) (rc_of M hx rfl) (lw_V q1162 q1164 qs29 q97 q1165) ndX0_g dX0_goesBy_55 ⟨by decide, by decide, by decide, by decide⟩ rfl (Nat.le_of_ble_eq_true rfl)) ?_
              rw [if_pos (by omega)]
              have m2 := mul_bd 9 99 (a := v) (b := s.G (k - 2)) hv (by omega)
              refine j_imul M dX0_goesBy_58 ?_
              refine j_goto M 63 dX0_goesBy_59 (by decide) ?_
              refine j_iadd M dX0_goesBy_63 ?_
              refine j_icmp_ne M 71 dX0_goesBy_64 (by decide) (by omega) (fun c_64 => ?_) (fun c_64 => ?_)
              · refine j_iconst M dX0_goesBy_71 ?_
                refine j_istore M dX0_goesBy_72 (by decide) ?_
                refine j_iinc M dX0_goesBy_74 5 rfl (by decide) ?_
                refine j_goto M 6 dX0_goesBy_77 (by decide) ?_
                first | (exfalso; omega) | exact (stepB c_12 c_17 _ (by unfold pBy; rw [if_neg (by omega), if_neg (by omega)])).2 c_64 | exact (stepB c_12 c_17 _ (by unfold pBy; rw [if_neg (by omega), if_neg (by omega)])).1 c_64 | exact (stepB c_12 c_17 _ (by unfold pBy; rw [if_neg (by omega), if_pos (by omega), Int.add_zero])).2 c_64 | exact (stepB c_12 c_17 _ (by unfold pBy; rw [if_neg (by omega), if_pos (by omega), Int.add_zero])).1 c_64 | exact (stepB c_12 c_17 _ (by unfold pBy; rw [if_pos (by omega), Int.add_zero])).2 c_64 | exact (stepB c_12 c_17 _ (by unfold pBy; rw [if_pos (by omega), Int.add_zero])).1 c_64
              · refine j_iconst M dX0_goesBy_67 ?_
                refine j_goto M 72 dX0_goesBy_68 (by decide) ?_
                refine j_istore M dX0_goesBy_72 (by decide) ?_
                refine j_iinc M dX0_goesBy_74 5 rfl (by decide) ?_
                refine j_goto M 6 dX0_goesBy_77 (by decide) ?_
                first | (exfalso; omega) | exact (stepB c_12 c_17 _ (by unfold pBy; rw [if_neg (by omega), if_neg (by omega)])).2 c_64 | exact (stepB c_12 c_17 _ (by unfold pBy; rw [if_neg (by omega), if_neg (by omega)])).1 c_64 | exact (stepB c_12 c_17 _ (by unfold pBy; rw [if_neg (by omega), if_pos (by omega), Int.add_zero])).2 c_64 | exact (stepB c_12 c_17 _ (by unfold pBy; rw [if_neg (by omega), if_pos (by omega), Int.add_zero])).1 c_64 | exact (stepB c_12 c_17 _ (by unfold pBy; rw [if_pos (by omega), Int.add_zero])).2 c_64 | exact (stepB c_12 c_17 _ (by unfold pBy; rw [if_pos (by omega), Int.add_zero])).1 c_64
          · refine j_iload_n M dX0_goesBy_30 2 rfl ?_
            refine j_aload_n M dX0_goesBy_31 0 rfl ?_
            refine j_iload M dX0_goesBy_32 5 rfl ?_
            refine j_iconst M dX0_goesBy_34 ?_
            refine j_isub M dX0_goesBy_35 ?_
            refine j_rV (k_V M (c_g l X Pr c s hp (k - 1) (by omega) h) (rc_of M hx rfl) (lw_V q1162 q1164 qs29 q97 q1165) ndX0_g dX0_goesBy_36 ⟨by decide, by decide, by decide, by decide⟩ rfl (Nat.le_of_ble_eq_true rfl)) ?_
            rw [if_pos (by omega)]
            have m1 := mul_bd 9 99 (a := u) (b := s.G (k - 1)) hu (by omega)
            refine j_imul M dX0_goesBy_39 ?_
            refine j_goto M 44 dX0_goesBy_40 (by decide) ?_
            refine j_iload_n M dX0_goesBy_44 1 rfl ?_
            refine j_iconst M dX0_goesBy_45 ?_
            refine j_icmp_le M 62 dX0_goesBy_46 (by decide) (by omega) (fun c_46 => ?_) (fun c_46 => ?_)
            · refine j_iconst M dX0_goesBy_62 ?_
              refine j_iadd M dX0_goesBy_63 ?_
              refine j_icmp_ne M 71 dX0_goesBy_64 (by decide) (by omega) (fun c_64 => ?_) (fun c_64 => ?_)
              · refine j_iconst M dX0_goesBy_71 ?_
                refine j_istore M dX0_goesBy_72 (by decide) ?_
                refine j_iinc M dX0_goesBy_74 5 rfl (by decide) ?_
                refine j_goto M 6 dX0_goesBy_77 (by decide) ?_
                first | (exfalso; omega) | exact (stepB c_12 c_17 _ (by unfold pBy; rw [if_neg (by omega), if_neg (by omega)])).2 c_64 | exact (stepB c_12 c_17 _ (by unfold pBy; rw [if_neg (by omega), if_neg (by omega)])).1 c_64 | exact (stepB c_12 c_17 _ (by unfold pBy; rw [if_neg (by omega), if_pos (by omega), Int.add_zero])).2 c_64 | exact (stepB c_12 c_17 _ (by unfold pBy; rw [if_neg (by omega), if_pos (by omega), Int.add_zero])).1 c_64 | exact (stepB c_12 c_17 _ (by unfold pBy; rw [if_pos (by omega), Int.add_zero])).2 c_64 | exact (stepB c_12 c_17 _ (by unfold pBy; rw [if_pos (by omega), Int.add_zero])).1 c_64
              · refine j_iconst M dX0_goesBy_67 ?_
                refine j_goto M 72 dX0_goesBy_68 (by decide) ?_
                refine j_istore M dX0_goesBy_72 (by decide) ?_
                refine j_iinc M dX0_goesBy_74 5 rfl (by decide) ?_
                refine j_goto M 6 dX0_goesBy_77 (by decide) ?_
                first | (exfalso; omega) | exact (stepB c_12 c_17 _ (by unfold pBy; rw [if_neg (by omega), if_neg (by omega)])).2 c_64 | exact (stepB c_12 c_17 _ (by unfold pBy; rw [if_neg (by omega), if_neg (by omega)])).1 c_64 | exact (stepB c_12 c_17 _ (by unfold pBy; rw [if_neg (by omega), if_pos (by omega), Int.add_zero])).2 c_64 | exact (stepB c_12 c_17 _ (by unfold pBy; rw [if_neg (by omega), if_pos (by omega), Int.add_zero])).1 c_64 | exact (stepB c_12 c_17 _ (by unfold pBy; rw [if_pos (by omega), Int.add_zero])).2 c_64 | exact (stepB c_12 c_17 _ (by unfold pBy; rw [if_pos (by omega), Int.add_zero])).1 c_64
            · refine j_iload_n M dX0_goesBy_49 3 rfl ?_
              refine j_aload_n M dX0_goesBy_50 0 rfl ?_
              refine j_iload M dX0_goesBy_51 5 rfl ?_
              refine j_iconst M dX0_goesBy_53 ?_
              refine j_isub M dX0_goesBy_54 ?_
              refine j_rV (k_V M (c_g l X Pr c s hp (k - 2) (by omega) h) (rc_of M hx rfl) (lw_V q1162 q1164 qs29 q97 q1165) ndX0_g dX0_goesBy_55 ⟨by decide, by decide, by decide, by decide⟩ rfl (Nat.le_of_ble_eq_true rfl)) ?_
              rw [if_pos (by omega)]
              have m2 := mul_bd 9 99 (a := v) (b := s.G (k - 2)) hv (by omega)
              refine j_imul M dX0_goesBy_58 ?_
              refine j_goto M 63 dX0_goesBy_59 (by decide) ?_
              refine j_iadd M dX0_goesBy_63 ?_
              refine j_icmp_ne M 71 dX0_goesBy_64 (by decide) (by omega) (fun c_64 => ?_) (fun c_64 => ?_)
              · refine j_iconst M dX0_goesBy_71 ?_
                refine j_istore M dX0_goesBy_72 (by decide) ?_
                refine j_iinc M dX0_goesBy_74 5 rfl (by decide) ?_
                refine j_goto M 6 dX0_goesBy_77 (by decide) ?_
                first | (exfalso; omega) | exact (stepB c_12 c_17 _ (by unfold pBy; rw [if_neg (by omega), if_neg (by omega)])).2 c_64 | exact (stepB c_12 c_17 _ (by unfold pBy; rw [if_neg (by omega), if_neg (by omega)])).1 c_64 | exact (stepB c_12 c_17 _ (by unfold pBy; rw [if_neg (by omega), if_pos (by omega), Int.add_zero])).2 c_64 | exact (stepB c_12 c_17 _ (by unfold pBy; rw [if_neg (by omega), if_pos (by omega), Int.add_zero])).1 c_64 | exact (stepB c_12 c_17 _ (by unfold pBy; rw [if_pos (by omega), Int.add_zero])).2 c_64 | exact (stepB c_12 c_17 _ (by unfold pBy; rw [if_pos (by omega), Int.add_zero])).1 c_64
              · refine j_iconst M dX0_goesBy_67 ?_
                refine j_goto M 72 dX0_goesBy_68 (by decide) ?_
                refine j_istore M dX0_goesBy_72 (by decide) ?_
                refine j_iinc M dX0_goesBy_74 5 rfl (by decide) ?_
                refine j_goto M 6 dX0_goesBy_77 (by decide) ?_
                first | (exfalso; omega) | exact (stepB c_12 c_17 _ (by unfold pBy; rw [if_neg (by omega), if_neg (by omega)])).2 c_64 | exact (stepB c_12 c_17 _ (by unfold pBy; rw [if_neg (by omega), if_neg (by omega)])).1 c_64 | exact (stepB c_12 c_17 _ (by unfold pBy; rw [if_neg (by omega), if_pos (by omega), Int.add_zero])).2 c_64 | exact (stepB c_12 c_17 _ (by unfold pBy; rw [if_neg (by omega), if_pos (by omega), Int.add_zero])).1 c_64 | exact (stepB c_12 c_17 _ (by unfold pBy; rw [if_pos (by omega), Int.add_zero])).2 c_64 | exact (stepB c_12 c_17 _ (by unfold pBy; rw [if_pos (by omega), Int.add_zero])).1 c_64
  refine j_iconst M dX0_goesBy_0 ?_
  refine j_istore M dX0_goesBy_1 (by decide) ?_
  refine j_iload_n M dX0_goesBy_3 1 rfl ?_
  refine j_istore M dX0_goesBy_4 (by decide) ?_
  exact loop _ g true rfl (by omega) (by omega) ⟨fun _ j j0 j1 => by omega, fun _ => rfl⟩
theorem c_leastOf (a b : Int) (ha : -2000 ≤ a ∧ a ≤ 2000) (hb : -2000 ≤ b ∧ b ≤ 2000) : CS l X yX0_leastOf cX0_leastOf 2 (some .int) 1 [.int (zI a), .int (zI b)] hp (some (.int (zI (pLo a b)))) := by
  have hd := tdiv_bd a b hb
  refine Ct.of (by decide) (Nat.le_of_ble_eq_true rfl) (fun Γ M => ?_)
  refine j_lv (lv' := [(0, .int (zI a)), (1, .int (zI b))]) rfl ?_
  refine j_iload_n M dX0_leastOf_0 0 rfl ?_
  refine j_if_ne M 16 dX0_leastOf_1 (by decide) (by omega) (fun c_1 => ?_) (fun c_1 => ?_)
  · refine j_iload_n M dX0_leastOf_16 1 rfl ?_
    refine j_iload_n M dX0_leastOf_17 0 rfl ?_
    refine j_irem M dX0_leastOf_18 (by omega) (by omega) ?_
    refine j_if_ne M 38 dX0_leastOf_19 (by decide) (by have := tmod_bd a b hb; omega) (fun c_19 => ?_) (fun c_19 => ?_)
    · refine j_ldc M (2000000001) q196 (by decide) dX0_leastOf_38 ?_
      refine j_iret M dX0_leastOf_40 ⟨Nat.le_refl _, Nat.le_refl _⟩ ?_
      exact ⟨by unfold pLo; rw [if_neg (by omega), if_neg (fun w => c_19 w.1)], rfl⟩
    · refine j_iload_n M dX0_leastOf_22 1 rfl ?_
      refine j_iload_n M dX0_leastOf_23 0 rfl ?_
      refine j_idiv M dX0_leastOf_24 (by omega) (by omega) ?_
      refine j_i2l M dX0_leastOf_25 (by omega) ?_
      refine j_rV (k_S M (c_isSmall l X hp _ (by omega)) (lw_S q1014 q1015 q97 q1016) ndX0_isSmall dX0_leastOf_26 ⟨by decide, by decide, by decide, by decide⟩ rfl (Nat.le_of_ble_eq_true rfl)) ?_
      refine j_ifeqB M 38 dX0_leastOf_29 (by decide) (fun c_29 => ?_) (fun c_29 => ?_)
      · rw [decide_eq_false_iff_not] at c_29
        refine j_ldc M (2000000001) q196 (by decide) dX0_leastOf_38 ?_
        refine j_iret M dX0_leastOf_40 ⟨Nat.le_refl _, Nat.le_refl _⟩ ?_
        exact ⟨by unfold pLo; rw [if_neg (by omega), if_neg (fun w => c_29 w.2)], rfl⟩
      · rw [decide_eq_true_eq] at c_29
        refine j_iload_n M dX0_leastOf_32 1 rfl ?_
        refine j_iload_n M dX0_leastOf_33 0 rfl ?_
        refine j_idiv M dX0_leastOf_34 (by omega) (by omega) ?_
        refine j_goto M 40 dX0_leastOf_35 (by decide) ?_
        refine j_iret M dX0_leastOf_40 ⟨Nat.le_refl _, Nat.le_refl _⟩ ?_
        exact ⟨by unfold pLo; rw [if_neg (by omega), if_pos ⟨c_19, c_29⟩], rfl⟩
  · refine j_iload_n M dX0_leastOf_4 1 rfl ?_
    refine j_if_ne M 13 dX0_leastOf_5 (by decide) (by omega) (fun c_5 => ?_) (fun c_5 => ?_)
    · refine j_ldc M (2000000001) q196 (by decide) dX0_leastOf_13 ?_
      refine j_iret M dX0_leastOf_15 ⟨Nat.le_refl _, Nat.le_refl _⟩ ?_
      exact ⟨by unfold pLo; rw [if_pos (by omega), if_neg (by omega)], rfl⟩
    · refine j_bipush M dX0_leastOf_8 (by decide) ?_
      refine j_goto M 15 dX0_leastOf_10 (by decide) ?_
      refine j_iret M dX0_leastOf_15 ⟨Nat.le_refl _, Nat.le_refl _⟩ ?_
      exact ⟨by unfold pLo; rw [if_pos (by omega), if_pos (by omega)], rfl⟩
end C24
