/-! 64: the component: what is guessed: rows -/
set_option maxRecDepth 100000
/-- a row that is told anew, or none -/
def GuP (X : Cx) (hp : Hp) (G : Int → Int) (n : Int) : Option Value → Hp → Prop := fun r hp' => ((pGuess G n).1 ≠ 2000000001 → ∃ q, r = some (.ref q) ∧ hp q = none ∧ hp' = hup hp q (eX5 (pGuess G n).2.1 (pGuess G n).2.2 (pF1 G n) (pF2 G n))) ∧ ((pGuess G n).1 = 2000000001 → r = some .null ∧ hp' = hp)
theorem GuP.yes {X : Cx} {hp : Hp} {G : Int → Int} {n g u v e f : Int} {q : Nat} (h : pGuess G n = (g, u, v)) (hg : g ≠ 2000000001) (hq : hp q = none) (he : e = pF1 G n) (hf : f = pF2 G n) : GuP X hp G n (some (.ref q)) (hup hp q (eX5 u v e f)) := by
  refine ⟨fun _ => ⟨q, rfl, hq, ?_⟩, fun w => absurd (by rw [h] at w; exact w) hg⟩
  rw [he, hf, h]
section C25
variable (l : Launch) (X : Cx) (Pr : Hp) (c : Int) (s : Co) (hp : Hp)
theorem c_guessedByTwo (hg : pGs s.G (s.v 7) 0 0 0 = false) (h19 : ∀ y, -9 ≤ y → y ≤ 9 → pGs s.G (s.v 7) 1 y 0 = false) (h : CI X Pr c s hp) : Ct l X yX0_guessedByTwo cX0_guessedByTwo 4 (some (.object "AheadRows$Told")) (rC 3 1 4) [.ref s.x] hp (GuP X hp s.G (s.v 7)) := by
  have hx := h.cw.hx
  obtain ⟨n1, n2, n3, n4, n5, n6, n7⟩ := h.nb
  have hn2 : 2 ≤ s.v 7 := by
    rcases (show 2 ≤ s.v 7 ∨ s.v 7 ≤ 1 by omega) with q | q
    · exact q
    · have := h19 0 (by decide) (by decide)
      rw [← Bool.not_eq_true] at this
      exact absurd (pGs_iff.mpr (fun k k0 k1 => by omega)) this
  refine Ct.of (by decide) (Nat.le_of_ble_eq_true rfl) (fun Γ M => ?_)
  refine j_lv (lv' := [(0, .ref s.x)]) rfl ?_
  have loop2 : ∀ (k0 : Int), 0 ≤ k0 → (k0 ≤ s.v 7 - 2) → (k0 < s.v 7 - 2 → s.G k0 ≠ 0) → (∀ j, 0 ≤ j → j < k0 → j < s.v 7 - 2 → s.G j = 0) → ∀ (w : Nat) (u : Int) (ls : List (Nat × Value)), u + w = 10 → -9 ≤ u → (∀ u' y, -9 ≤ u' → u' < u → -9 ≤ y → y ≤ 9 → pGs s.G (s.v 7) 2 u' y = false) → J Γ hp 0 0 29 ([(0, .ref s.x), (1, .int (zI k0)), (2, .int (zI u))] ++ ls) [] := by
    intro k0 hk0 hk1 hz h0 w
    induction w with
    | zero =>
      intro u ls hw hu hb
      refine j_loc (lv' := [(0, .ref s.x), (1, .int (zI k0)), (2, .int (zI u))]) [0, 1, 2] rfl ?_
      refine j_iload_n M dX0_guessedByTwo_29 2 rfl ?_
      refine j_bipush M dX0_guessedByTwo_30 (by decide) ?_
      refine j_icmp_gt M 121 dX0_guessedByTwo_32 (by decide) (by omega) (fun c_32 => ?_) (fun c_32 => ?_)
      · refine j_aconst_null M dX0_guessedByTwo_121 ?_
        refine j_aretN M dX0_guessedByTwo_122 (Or.inl ⟨_, rfl⟩) ⟨by decide, by decide⟩ ?_
        have e := guess_no hg h19 (fun u' y a b => hb u' y a (by omega))
        exact ⟨fun q => absurd (by rw [e]) q, fun _ => ⟨rfl, rfl⟩⟩
      · omega
    | succ w ih =>
      intro u ls hw hu hb
      refine j_loc (lv' := [(0, .ref s.x), (1, .int (zI k0)), (2, .int (zI u))]) [0, 1, 2] rfl ?_
      have hv := pV2_r s.G (s.v 7) k0 u
      have g0 := n6 k0
      have g1 := n6 (k0 + 1)
      have g2 := n6 (k0 + 2)
      have nxt : ∀ ls, ¬ (pV2 s.G (s.v 7) k0 u ≠ 2000000001 ∧ pGs s.G (s.v 7) 2 u (pV2 s.G (s.v 7) k0 u) = true) → J Γ hp 0 0 29 ([(0, .ref s.x), (1, .int (zI k0)), (2, .int (zI (u + 1)))] ++ ls) [] := fun ls hn => by
        refine ih (u + 1) ls (by omega) (by omega) (fun u' y a b a2 b2 => ?_)
        rcases (show u' < u ∨ u' = u by omega) with q | q
        · exact hb u' y a q a2 b2
        · rw [q]; exact v2_b hk0 hz h0 hn y a2 b2
      have fin78 : ∀ {v : Int}, v = pV2 s.G (s.v 7) k0 u → J Γ hp 0 0 78 [(0, .ref s.x), (1, .int (zI k0)), (2, .int (zI u))] [.int (zI v)] := fun {v} ev => by
        subst ev
        refine j_istore_n M dX0_guessedByTwo_78 (by decide) ?_
        refine j_iload_n M dX0_guessedByTwo_79 3 rfl ?_
        refine j_ldc M (2000000001) q196 (by decide) dX0_guessedByTwo_80 ?_
        refine j_icmp_eq M 115 dX0_guessedByTwo_82 (by decide) (by omega) (fun c_82 => ?_) (fun c_82 => ?_)
        · refine j_iinc M dX0_guessedByTwo_115 2 rfl (by decide) ?_
          refine j_goto M 29 dX0_guessedByTwo_118 (by decide) ?_
          exact nxt [(3, .int (zI (pV2 s.G (s.v 7) k0 u)))] (fun q => q.1 c_82)
        · refine j_aload_n M dX0_guessedByTwo_85 0 rfl ?_
          refine j_iconst M dX0_guessedByTwo_86 ?_
          refine j_iload_n M dX0_guessedByTwo_87 2 rfl ?_
          refine j_iload_n M dX0_guessedByTwo_88 3 rfl ?_
          refine j_rV (k_V M (c_goesBy l X Pr c s hp 2 u (pV2 s.G (s.v 7) k0 u) (by omega) (by omega) (by omega) h) (rc_of M hx rfl) (lw_V q1158 q1160 qs28 q97 q1161) ndX0_goesBy dX0_guessedByTwo_89 ⟨by decide, by decide, by decide, by decide⟩ rfl (Nat.le_of_ble_eq_true rfl)) ?_
          refine j_ifeqB M 115 dX0_guessedByTwo_92 (by decide) (fun c_92 => ?_) (fun c_92 => ?_)
          · refine j_iinc M dX0_guessedByTwo_115 2 rfl (by decide) ?_
            refine j_goto M 29 dX0_guessedByTwo_118 (by decide) ?_
            exact nxt [(3, .int (zI (pV2 s.G (s.v 7) k0 u)))] (fun q => by rw [c_92] at q; cases q.2)
          · refine j_new M (ci := 5) rfl in_X5 tyX5 tyX5_ok q686 q317 q105 [.int (zI 0), .int (zI 0), .int (zI 0), .int (zI 0)] df_X5 (by decide) dX0_guessedByTwo_95 (fun q_95 hq_95 hB_95 => ?_)
            have hd : hup hp q_95 (.inr (5, [.int (zI 0), .int (zI 0), .int (zI 0), .int (zI 0)])) q_95 = some (.inr (5, [.int (zI 0), .int (zI 0), .int (zI 0), .int (zI 0)])) := hup_s _ _ _
            have h2 := h.fresh (e := (.inr (5, [.int (zI 0), .int (zI 0), .int (zI 0), .int (zI 0)]))) hq_95
            refine j_dup M dX0_guessedByTwo_98 rfl ?_
            refine j_iload_n M dX0_guessedByTwo_99 2 rfl ?_
            refine j_iload_n M dX0_guessedByTwo_100 3 rfl ?_
            refine j_aload_n M dX0_guessedByTwo_101 0 rfl ?_
            refine j_iconst M dX0_guessedByTwo_102 ?_
            refine j_rV (k_V M (c_g l X Pr c s _ 0 (by omega) h2) (rc_of M h2.cw.hx rfl) (lw_V q1162 q1164 qs29 q97 q1165) ndX0_g dX0_guessedByTwo_103 ⟨by decide, by decide, by decide, by decide⟩ rfl (Nat.le_of_ble_eq_true rfl)) ?_
            rw [if_pos (by omega)]
            refine j_aload_n M dX0_guessedByTwo_106 0 rfl ?_
            refine j_iconst M dX0_guessedByTwo_107 ?_
            refine j_rV (k_V M (c_g l X Pr c s _ 1 (by omega) h2) (rc_of M h2.cw.hx rfl) (lw_V q1162 q1164 qs29 q97 q1165) ndX0_g dX0_guessedByTwo_108 ⟨by decide, by decide, by decide, by decide⟩ rfl (Nat.le_of_ble_eq_true rfl)) ?_
            rw [if_pos (by omega)]
            refine j_rN (k_I M (c_toldInit l X _ q_95 _ _ _ _ hd) (lw_meth q320) q105 q1024 q319 rfl ndX5_init dX0_guessedByTwo_111 ⟨by decide, by decide, by decide, by decide⟩ rfl (Nat.le_of_ble_eq_true rfl)) ?_
            refine j_hp (hup_hup _ _ _ _) ?_
            refine j_aret M dX0_guessedByTwo_114 (Or.inl ⟨_, rfl⟩) ⟨by decide, by decide⟩ ?_
            have e := guess_2 hg h19 hk0 hz (by omega) hb c_82 c_92
            refine GuP.yes e (by decide) hq_95 ?_ ?_
            · unfold pF1; rw [e, if_neg (show ¬ (2 : Int) = 0 by decide)]
            · unfold pF2; rw [e, if_pos rfl]
      refine j_iload_n M dX0_guessedByTwo_29 2 rfl ?_
      refine j_bipush M dX0_guessedByTwo_30 (by decide) ?_
      refine j_icmp_gt M 121 dX0_guessedByTwo_32 (by decide) (by omega) (fun c_32 => ?_) (fun c_32 => ?_)
      · omega
      · refine j_iload_n M dX0_guessedByTwo_35 1 rfl ?_
        refine j_aload_n M dX0_guessedByTwo_36 0 rfl ?_
        refine j_get M hx rfl 7 (by decide) in_X0 q207 rfl dX0_guessedByTwo_37 ?_
        refine j_iconst M dX0_guessedByTwo_40 ?_
        refine j_isub M dX0_guessedByTwo_41 ?_
        refine j_icmp_ge M 73 dX0_guessedByTwo_42 (by decide) (by omega) (fun c_42 => ?_) (fun c_42 => ?_)
        · refine j_iconst M dX0_guessedByTwo_73 ?_
          refine j_iconst M dX0_guessedByTwo_74 ?_
          refine j_rV (k_S M (c_leastOf l X hp _ _ (by omega) (by omega)) (lw_S q1166 q1167 q97 q1168) ndX0_leastOf dX0_guessedByTwo_75 ⟨by decide, by decide, by decide, by decide⟩ rfl (Nat.le_of_ble_eq_true rfl)) ?_
          exact fin78 (by unfold pV2; rw [if_neg (by omega)])
        · refine j_aload_n M dX0_guessedByTwo_45 0 rfl ?_
          refine j_iload_n M dX0_guessedByTwo_46 1 rfl ?_
          refine j_rV (k_V M (c_g l X Pr c s hp k0 (by omega) h) (rc_of M hx rfl) (lw_V q1162 q1164 qs29 q97 q1165) ndX0_g dX0_guessedByTwo_47 ⟨by decide, by decide, by decide, by decide⟩ rfl (Nat.le_of_ble_eq_true rfl)) ?_
          rw [if_pos (by omega)]
          refine j_aload_n M dX0_guessedByTwo_50 0 rfl ?_
          refine j_iload_n M dX0_guessedByTwo_51 1 rfl ?_
          refine j_iconst M dX0_guessedByTwo_52 ?_
          refine j_iadd M dX0_guessedByTwo_53 ?_
          refine j_rV (k_V M (c_g l X Pr c s hp (k0 + 2) (by omega) h) (rc_of M hx rfl) (lw_V q1162 q1164 qs29 q97 q1165) ndX0_g dX0_guessedByTwo_54 ⟨by decide, by decide, by decide, by decide⟩ rfl (Nat.le_of_ble_eq_true rfl)) ?_
          rw [if_pos (by omega)]
          refine j_iload_n M dX0_guessedByTwo_57 2 rfl ?_
          refine j_aload_n M dX0_guessedByTwo_58 0 rfl ?_
          refine j_iload_n M dX0_guessedByTwo_59 1 rfl ?_
          refine j_iconst M dX0_guessedByTwo_60 ?_
          refine j_iadd M dX0_guessedByTwo_61 ?_
          refine j_rV (k_V M (c_g l X Pr c s hp (k0 + 1) (by omega) h) (rc_of M hx rfl) (lw_V q1162 q1164 qs29 q97 q1165) ndX0_g dX0_guessedByTwo_62 ⟨by decide, by decide, by decide, by decide⟩ rfl (Nat.le_of_ble_eq_true rfl)) ?_
          rw [if_pos (by omega)]
          have m1 := mul_bd 9 99 (a := u) (b := s.G (k0 + 1)) (by omega) (by omega)
          refine j_imul M dX0_guessedByTwo_65 ?_
          refine j_isub M dX0_guessedByTwo_66 ?_
          refine j_rV (k_S M (c_leastOf l X hp _ _ (by omega) (by omega)) (lw_S q1166 q1167 q97 q1168) ndX0_leastOf dX0_guessedByTwo_67 ⟨by decide, by decide, by decide, by decide⟩ rfl (Nat.le_of_ble_eq_true rfl)) ?_
          refine j_goto M 78 dX0_guessedByTwo_70 (by decide) ?_
          exact fin78 (by unfold pV2; rw [if_pos (by omega)])
  have loop1 : ∀ (w : Nat) (k : Int), k + w = s.v 7 - 2 → 0 ≤ k → (∀ j, 0 ≤ j → j < k → j < s.v 7 - 2 → s.G j = 0) → J Γ hp 0 0 2 [(0, .ref s.x), (1, .int (zI k))] [] := by
    intro w
    induction w with
    | zero =>
      intro k hw hk h0
      refine j_iload_n M dX0_guessedByTwo_2 1 rfl ?_
      refine j_aload_n M dX0_guessedByTwo_3 0 rfl ?_
      refine j_get M hx rfl 7 (by decide) in_X0 q207 rfl dX0_guessedByTwo_4 ?_
      refine j_iconst M dX0_guessedByTwo_7 ?_
      refine j_isub M dX0_guessedByTwo_8 ?_
      refine j_icmp_ge M 26 dX0_guessedByTwo_9 (by decide) (by omega) (fun c_9 => ?_) (fun c_9 => ?_)
      · refine j_bipush M dX0_guessedByTwo_26 (by decide) ?_
        refine j_istore_n M dX0_guessedByTwo_28 (by decide) ?_
        exact loop2 k hk (by omega) (fun q => by omega) h0 19 (-9) [] (by omega) (by omega) (fun u' y a b => by omega)
      · omega
    | succ w ih =>
      intro k hw hk h0
      have g0 := n6 k hk (by omega)
      refine j_iload_n M dX0_guessedByTwo_2 1 rfl ?_
      refine j_aload_n M dX0_guessedByTwo_3 0 rfl ?_
      refine j_get M hx rfl 7 (by decide) in_X0 q207 rfl dX0_guessedByTwo_4 ?_
      refine j_iconst M dX0_guessedByTwo_7 ?_
      refine j_isub M dX0_guessedByTwo_8 ?_
      refine j_icmp_ge M 26 dX0_guessedByTwo_9 (by decide) (by omega) (fun c_9 => ?_) (fun c_9 => ?_)
      · omega
      · refine j_aload_n M dX0_guessedByTwo_12 0 rfl ?_
        refine j_iload_n M dX0_guessedByTwo_13 1 rfl ?_
        refine j_rV (k_V M (c_g l X Pr c s hp k (by omega) h) (rc_of M hx rfl) (lw_V q1162 q1164 qs29 q97 q1165) ndX0_g dX0_guessedByTwo_14 ⟨by decide, by decide, by decide, by decide⟩ rfl (Nat.le_of_ble_eq_true rfl)) ?_
        rw [if_pos (by omega)]
        refine j_if_ne M 26 dX0_guessedByTwo_17 (by decide) (by omega) (fun c_17 => ?_) (fun c_17 => ?_)
        · refine j_bipush M dX0_guessedByTwo_26 (by decide) ?_
          refine j_istore_n M dX0_guessedByTwo_28 (by decide) ?_
          exact loop2 k hk (by omega) (fun _ => c_17) h0 19 (-9) [] (by omega) (by omega) (fun u' y a b => by omega)
        · refine j_iinc M dX0_guessedByTwo_20 1 rfl (by decide) ?_
          refine j_goto M 2 dX0_guessedByTwo_23 (by decide) ?_
          refine ih (k + 1) (by omega) (by omega) (fun j j0 j1 j2 => ?_)
          rcases (show j < k ∨ j = k by omega) with q | q
          · exact h0 j j0 q j2
          · rw [q]; exact c_17
  refine j_iconst M dX0_guessedByTwo_0 ?_
  refine j_istore_n M dX0_guessedByTwo_1 (by decide) ?_
  exact loop1 (s.v 7 - 2).toNat 0 (by omega) (by omega) (fun j j0 j1 => by omega)
end C25
