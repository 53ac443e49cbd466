/-! 29: the reference: guesses -/
set_option maxRecDepth 100000
def pBy (G : Int → Int) (g u v k : Int) : Int := if g = 0 then 0 else if g = 1 then u * G (k - 1) else u * G (k - 1) + v * G (k - 2)
/-- the first j places from g on go by u and v -/
def pGsN (G : Int → Int) (g u v : Int) : Nat → Bool
  | 0 => true
  | j + 1 => pGsN G g u v j && decide (G (g + j) = pBy G g u v (g + j))
def pGs (G : Int → Int) (n g u v : Int) : Bool := pGsN G g u v (n - g).toNat
def pGk (k : Int) : Int × Int × Int := if k < 19 then (1, k - 9, 0) else (2, (k - 19) / 19 - 9, (k - 19) % 19 - 9)
def pFnd (G : Int → Int) (n : Int) : Nat → Int → Int × Int × Int
  | 0, _ => (2000000001, 0, 0)
  | j + 1, k => if pGs G n (pGk k).1 (pGk k).2.1 (pGk k).2.2 then pGk k else pFnd G n j (k + 1)
def pGuess (G : Int → Int) (n : Int) : Int × Int × Int := if pGs G n 0 0 0 then (0, 0, 0) else pFnd G n 380 0
theorem pGk_r {k : Int} (h : 0 ≤ k ∧ k < 380) : (pGk k).1 ≠ 2000000001 ∧ ((pGk k).1 = 1 ∨ (pGk k).1 = 2) ∧ (-9 ≤ (pGk k).2.1 ∧ (pGk k).2.1 ≤ 9) ∧ (-9 ≤ (pGk k).2.2 ∧ (pGk k).2.2 ≤ 9) := by
  unfold pGk; split <;> dsimp only <;> omega
theorem pFnd_r (G : Int → Int) (n : Int) : ∀ (j : Nat) (k : Int), 0 ≤ k → k + j = 380 → (pFnd G n j k).1 = 2000000001 ∨ (((pFnd G n j k).1 = 1 ∨ (pFnd G n j k).1 = 2) ∧ (-9 ≤ (pFnd G n j k).2.1 ∧ (pFnd G n j k).2.1 ≤ 9) ∧ (-9 ≤ (pFnd G n j k).2.2 ∧ (pFnd G n j k).2.2 ≤ 9)) := by
  intro j
  induction j with
  | zero => intro k _ _; left; rfl
  | succ j ih =>
    intro k h1 h2
    unfold pFnd
    split
    · exact Or.inr (pGk_r (by omega)).2
    · exact ih (k + 1) (by omega) (by omega)
theorem pGuess_r (G : Int → Int) (n : Int) : (pGuess G n).1 = 2000000001 ∨ (((pGuess G n).1 = 0 ∨ (pGuess G n).1 = 1 ∨ (pGuess G n).1 = 2) ∧ (-9 ≤ (pGuess G n).2.1 ∧ (pGuess G n).2.1 ≤ 9) ∧ (-9 ≤ (pGuess G n).2.2 ∧ (pGuess G n).2.2 ≤ 9)) := by
  unfold pGuess; split
  · right; dsimp only; omega
  · have := pFnd_r G n 380 0 (by omega) (by omega); omega
section M10
variable (l : Launch) (X : Cx) (σ : Ms) (f : Nat → Int) (t : Nat → Int → Int)
theorem m_isGuess (hm : mOk σ) (g u v : Int) (hg : g = 0 ∨ g = 1 ∨ g = 2) (hu : -9 ≤ u ∧ u ≤ 9) (hv : -9 ≤ v ∧ v ≤ 9) (h4 : 0 ≤ f 4 ∧ f 4 ≤ 8) (hG : ∀ k, 0 ≤ k → k < 8 → -99 ≤ t 5 k ∧ t 5 k ≤ 99) : CM l X σ yX2_isGuess cX2_isGuess 7 (some .boolean) 0 [.int (zI g), .int (zI u), .int (zI v)] f t (some (.int (zB (pGs (t 5) (f 4) g u v)))) f t := by
  refine Ct.of (by decide) (Nat.le_of_ble_eq_true rfl) (fun Γ M => ?_)
  refine j_lv (lv' := [(0, .ref σ.1), (1, .int (zI g)), (2, .int (zI u)), (3, .int (zI v))]) rfl ?_
  have loop : ∀ (w j : Nat) (ls : List (Nat × Value)), w = (f 4 - g).toNat - j → j ≤ (f 4 - g).toNat → J Γ (mH X σ f t) 0 0 6 ([(0, .ref σ.1), (1, .int (zI g)), (2, .int (zI u)), (3, .int (zI v)), (4, .int (zI (if pGsN (t 5) g u v j then 1 else 0))), (5, .int (zI (g + j)))] ++ ls) [] := by
    intro w
    induction w using Nat.strongRecOn with
    | _ w ih =>
      intro j ls hw hj
      refine j_loc (lv' := [(0, .ref σ.1), (1, .int (zI g)), (2, .int (zI u)), (3, .int (zI v)), (4, .int (zI (if pGsN (t 5) g u v j then 1 else 0))), (5, .int (zI (g + j)))]) [0, 1, 2, 3, 4, 5] rfl ?_
      have k65 : g + j < f 4 → (-2000 ≤ pBy (t 5) g u v (g + j) ∧ pBy (t 5) g u v (g + j) ≤ 2000) → J Γ (mH X σ f t) 0 0 65 [(0, .ref σ.1), (1, .int (zI g)), (2, .int (zI u)), (3, .int (zI v)), (4, .int (zI (if pGsN (t 5) g u v j then 1 else 0))), (5, .int (zI (g + j)))] [.int (zI (pBy (t 5) g u v (g + j)))] := by
        intro hlt hb
        have hGk := hG (g + j) (by omega) (by omega)
        have kk := ih ((f 4 - g).toNat - (j + 1)) (by omega) (j + 1) [(6, .int (zI (pBy (t 5) g u v (g + j))))] rfl (by omega)
        rw [show g + ((j + 1 : Nat) : Int) = g + j + 1 by omega] at kk
        refine j_istore M dX2_isGuess_65 (by decide) ?_
        refine j_iload M dX2_isGuess_67 4 rfl ?_
        refine j_if_eq M 88 dX2_isGuess_69 (by decide) (by split <;> decide) (fun c_69 => ?_) (fun c_69 => ?_)
        · refine j_iconst M dX2_isGuess_88 ?_
          refine j_istore M dX2_isGuess_89 (by decide) ?_
          refine j_iinc M dX2_isGuess_91 5 rfl (by decide) ?_
          refine j_goto M 6 dX2_isGuess_94 (by decide) ?_
          have e : pGsN (t 5) g u v j = false := by cases hx : pGsN (t 5) g u v j; rfl; rw [hx] at c_69; simp at c_69
          rw [show pGsN (t 5) g u v (j + 1) = false by unfold pGsN; rw [e]; rfl] at kk
          exact kk
        · refine j_aload_n M dX2_isGuess_72 0 rfl ?_
          refine m_get M 5 (by decide) q1247 rfl dX2_isGuess_73 ?_
          refine j_iload M dX2_isGuess_76 5 rfl ?_
          refine m_ald M hm (n := 8) 5 (by decide) rfl dX2_isGuess_78 (by omega) ?_
          refine j_iload M dX2_isGuess_79 6 rfl ?_
          refine j_icmp_ne M 88 dX2_isGuess_81 (by decide) (by omega) (fun c_81 => ?_) (fun c_81 => ?_)
          · refine j_iconst M dX2_isGuess_88 ?_
            refine j_istore M dX2_isGuess_89 (by decide) ?_
            refine j_iinc M dX2_isGuess_91 5 rfl (by decide) ?_
            refine j_goto M 6 dX2_isGuess_94 (by decide) ?_
            rw [show pGsN (t 5) g u v (j + 1) = false by unfold pGsN; rw [decide_eq_false c_81, Bool.and_false]] at kk
            exact kk
          · refine j_iconst M dX2_isGuess_84 ?_
            refine j_goto M 89 dX2_isGuess_85 (by decide) ?_
            refine j_istore M dX2_isGuess_89 (by decide) ?_
            refine j_iinc M dX2_isGuess_91 5 rfl (by decide) ?_
            refine j_goto M 6 dX2_isGuess_94 (by decide) ?_
            have e : pGsN (t 5) g u v j = true := by cases hx : pGsN (t 5) g u v j; rw [hx] at c_69; simp at c_69; rfl
            rw [show pGsN (t 5) g u v (j + 1) = true by unfold pGsN; rw [e, decide_eq_true c_81]; rfl] at kk
            exact kk
      refine j_iload M dX2_isGuess_6 5 rfl ?_
      refine j_aload_n M dX2_isGuess_8 0 rfl ?_
      refine m_get M 4 (by decide) q1246 rfl dX2_isGuess_9 ?_
      refine j_icmp_ge M 97 dX2_isGuess_12 (by decide) (by omega) (fun c_12 => ?_) (fun c_12 => ?_)
      · refine j_iload M dX2_isGuess_97 4 rfl ?_
        refine j_bool _ (by rfl) ?_
        refine j_zret M dX2_isGuess_99 ⟨Nat.le_refl _, Nat.le_refl _⟩ ?_
        rw [show j = (f 4 - g).toNat by omega]; exact ⟨rfl, rfl⟩
      · refine j_iload_n M dX2_isGuess_15 1 rfl ?_
        refine j_if_ne M 23 dX2_isGuess_16 (by decide) (by omega) (fun c_16 => ?_) (fun c_16 => ?_)
        · refine j_iload_n M dX2_isGuess_23 1 rfl ?_
          refine j_iconst M dX2_isGuess_24 ?_
          refine j_icmp_ne M 42 dX2_isGuess_25 (by decide) (by omega) (fun c_25 => ?_) (fun c_25 => ?_)
          · have q1 := hG (g + j - 1) (by omega) (by omega)
            have q2 := hG (g + j - 2) (by omega) (by omega)
            have b1 := mul_bd 9 99 hu q1
            have b2 := mul_bd 9 99 hv q2
            refine j_iload_n M dX2_isGuess_42 2 rfl ?_
            refine j_aload_n M dX2_isGuess_43 0 rfl ?_
            refine m_get M 5 (by decide) q1247 rfl dX2_isGuess_44 ?_
            refine j_iload M dX2_isGuess_47 5 rfl ?_
            refine j_iconst M dX2_isGuess_49 ?_
            refine j_isub M dX2_isGuess_50 ?_
            refine m_ald M hm (n := 8) 5 (by decide) rfl dX2_isGuess_51 (by omega) ?_
            refine j_imul M dX2_isGuess_52 ?_
            refine j_iload_n M dX2_isGuess_53 3 rfl ?_
            refine j_aload_n M dX2_isGuess_54 0 rfl ?_
            refine m_get M 5 (by decide) q1247 rfl dX2_isGuess_55 ?_
            refine j_iload M dX2_isGuess_58 5 rfl ?_
            refine j_iconst M dX2_isGuess_60 ?_
            refine j_isub M dX2_isGuess_61 ?_
            refine m_ald M hm (n := 8) 5 (by decide) rfl dX2_isGuess_62 (by omega) ?_
            refine j_imul M dX2_isGuess_63 ?_
            refine j_iadd M dX2_isGuess_64 ?_
            have kk := k65 (by omega) (by unfold pBy; rw [if_neg c_16, if_neg c_25]; omega)
            unfold pBy at kk; rw [if_neg c_16, if_neg c_25] at kk; exact kk
          · have q1 := hG (g + j - 1) (by omega) (by omega)
            have b1 := mul_bd 9 99 hu q1
            refine j_iload_n M dX2_isGuess_28 2 rfl ?_
            refine j_aload_n M dX2_isGuess_29 0 rfl ?_
            refine m_get M 5 (by decide) q1247 rfl dX2_isGuess_30 ?_
            refine j_iload M dX2_isGuess_33 5 rfl ?_
            refine j_iconst M dX2_isGuess_35 ?_
            refine j_isub M dX2_isGuess_36 ?_
            refine m_ald M hm (n := 8) 5 (by decide) rfl dX2_isGuess_37 (by omega) ?_
            refine j_imul M dX2_isGuess_38 ?_
            refine j_goto M 65 dX2_isGuess_39 (by decide) ?_
            have kk := k65 (by omega) (by unfold pBy; rw [if_neg c_16, if_pos c_25]; omega)
            unfold pBy at kk; rw [if_neg c_16, if_pos c_25] at kk; exact kk
        · refine j_iconst M dX2_isGuess_19 ?_
          refine j_goto M 65 dX2_isGuess_20 (by decide) ?_
          have kk := k65 (by omega) (by unfold pBy; rw [if_pos c_16]; omega)
          unfold pBy at kk; rw [if_pos c_16] at kk; exact kk
  refine j_iconst M dX2_isGuess_0 ?_
  refine j_istore M dX2_isGuess_1 (by decide) ?_
  refine j_iload_n M dX2_isGuess_3 1 rfl ?_
  refine j_istore M dX2_isGuess_4 (by decide) ?_
  have kk := loop _ 0 [] rfl (by omega)
  rw [show g + ((0 : Nat) : Int) = g by omega] at kk
  exact kk
theorem m_guessNow (hm : mOk σ) (h4 : 0 ≤ f 4 ∧ f 4 ≤ 8) (hG : ∀ k, 0 ≤ k → k < 8 → -99 ≤ t 5 k ∧ t 5 k ≤ 99) : Ct l X yX2_guessNow cX2_guessNow 3 (some .int) (rD 1) [.ref σ.1] (mH X σ f t) (fun r hp => r = some (.int (zI (pGuess (t 5) (f 4)).1)) ∧ ∃ u v, hp = mH X σ (upN (upN f 23 u) 24 v) t ∧ ((pGuess (t 5) (f 4)).1 ≠ 2000000001 → u = (pGuess (t 5) (f 4)).2.1 ∧ v = (pGuess (t 5) (f 4)).2.2)) := by
  refine Ct.of (by decide) (Nat.le_of_ble_eq_true rfl) (fun Γ M => ?_)
  refine j_lv (lv' := [(0, .ref σ.1)]) rfl ?_
  have loop : pGs (t 5) (f 4) 0 0 0 = false → ∀ (j : Nat) (k u v : Int) (ls : List (Nat × Value)), 0 ≤ k → k + j = 380 → pFnd (t 5) (f 4) j k = pGuess (t 5) (f 4) → J Γ (mH X σ (upN (upN f 23 u) 24 v) t) 0 0 24 ([(0, .ref σ.1), (1, .int (zI k))] ++ ls) [] := by
    intro h0 j
    induction j with
    | zero =>
      intro k u v ls hk hj hr
      refine j_loc (lv' := [(0, .ref σ.1), (1, .int (zI k))]) [0, 1] rfl ?_
      refine j_iload_n M dX2_guessNow_24 1 rfl ?_
      refine j_sipush M dX2_guessNow_25 (by decide) ?_
      refine j_icmp_ge M 113 dX2_guessNow_28 (by decide) (by omega) (fun c_28 => ?_) (fun c_28 => ?_)
      · refine j_ldc M (2000000001) q1241 (by decide) dX2_guessNow_113 ?_
        refine j_iret M dX2_guessNow_115 ⟨Nat.le_refl _, Nat.le_refl _⟩ ?_
        rw [← hr]; exact ⟨rfl, u, v, rfl, fun q => absurd rfl q⟩
      · omega
    | succ j ih =>
      intro k u v ls hk hj hr
      refine j_loc (lv' := [(0, .ref σ.1), (1, .int (zI k))]) [0, 1] rfl ?_
      have k89 : J Γ (mH X σ (upN (upN f 23 (pGk k).2.1) 24 (pGk k).2.2) t) 0 0 89 [(0, .ref σ.1), (1, .int (zI k)), (2, .int (zI (pGk k).1))] [] := by
        have hg := pGk_r (k := k) (by omega)
        refine j_aload_n M dX2_guessNow_89 0 rfl ?_
        refine j_iload_n M dX2_guessNow_90 2 rfl ?_
        refine j_aload_n M dX2_guessNow_91 0 rfl ?_
        refine m_get M 23 (by decide) q1265 rfl dX2_guessNow_92 ?_
        refine j_aload_n M dX2_guessNow_95 0 rfl ?_
        refine m_get M 24 (by decide) q1266 rfl dX2_guessNow_96 ?_
        refine j_rV (k_V M (m_isGuess l X σ _ _ hm (pGk k).1 (pGk k).2.1 (pGk k).2.2 (by omega) hg.2.2.1 hg.2.2.2 h4 hG) (m_rc M) (lw_V q1717 q1719 qs89 q102 q1720) ndX2_isGuess dX2_guessNow_99 ⟨by decide, by decide, by decide, by decide⟩ rfl (Nat.le_of_ble_eq_true rfl)) ?_
        refine j_ifeqB M 107 dX2_guessNow_102 (by decide) (fun c_102 => ?_) (fun c_102 => ?_)
        · refine j_iinc M dX2_guessNow_107 1 rfl (by decide) ?_
          refine j_goto M 24 dX2_guessNow_110 (by decide) ?_
          refine ih (k + 1) _ _ [(2, .int (zI (pGk k).1))] (by omega) (by omega) ?_
          rw [← hr, pFnd, if_neg (by rw [show pGs (t 5) (f 4) (pGk k).1 (pGk k).2.1 (pGk k).2.2 = false from c_102]; decide)]
        · refine j_iload_n M dX2_guessNow_105 2 rfl ?_
          refine j_iret M dX2_guessNow_106 ⟨Nat.le_refl _, Nat.le_refl _⟩ ?_
          have e : pGuess (t 5) (f 4) = pGk k := by rw [← hr, pFnd, if_pos (show pGs (t 5) (f 4) (pGk k).1 (pGk k).2.1 (pGk k).2.2 = true from c_102)]
          rw [e]; exact ⟨rfl, _, _, rfl, fun _ => ⟨rfl, rfl⟩⟩
      refine j_iload_n M dX2_guessNow_24 1 rfl ?_
      refine j_sipush M dX2_guessNow_25 (by decide) ?_
      refine j_icmp_ge M 113 dX2_guessNow_28 (by decide) (by omega) (fun c_28 => ?_) (fun c_28 => ?_)
      · omega
      · refine j_iload_n M dX2_guessNow_31 1 rfl ?_
        refine j_bipush M dX2_guessNow_32 (by decide) ?_
        refine j_icmp_ge M 41 dX2_guessNow_34 (by decide) (by omega) (fun c_34 => ?_) (fun c_34 => ?_)
        · refine j_iconst M dX2_guessNow_41 ?_
          refine j_istore_n M dX2_guessNow_42 (by decide) ?_
          refine j_aload_n M dX2_guessNow_43 0 rfl ?_
          refine j_iload_n M dX2_guessNow_44 2 rfl ?_
          refine j_iconst M dX2_guessNow_45 ?_
          refine j_icmp_ne M 53 dX2_guessNow_46 (by decide) (by omega) (fun c_46 => ?_) (fun c_46 => ?_)
          · refine j_iload_n M dX2_guessNow_53 1 rfl ?_
            refine j_bipush M dX2_guessNow_54 (by decide) ?_
            refine j_isub M dX2_guessNow_56 ?_
            refine j_bipush M dX2_guessNow_57 (by decide) ?_
            refine j_idivE M dX2_guessNow_59 (by omega) (by omega) ?_
            refine j_bipush M dX2_guessNow_60 (by decide) ?_
            refine j_isub M dX2_guessNow_62 ?_
            refine m_put M 23 (by decide) q1265 dX2_guessNow_63 ?_
            refine j_aload_n M dX2_guessNow_66 0 rfl ?_
            refine j_iload_n M dX2_guessNow_67 2 rfl ?_
            refine j_iconst M dX2_guessNow_68 ?_
            refine j_icmp_ne M 76 dX2_guessNow_69 (by decide) (by omega) (fun c_69 => ?_) (fun c_69 => ?_)
            · refine j_iload_n M dX2_guessNow_76 1 rfl ?_
              refine j_bipush M dX2_guessNow_77 (by decide) ?_
              refine j_isub M dX2_guessNow_79 ?_
              refine j_bipush M dX2_guessNow_80 (by decide) ?_
              refine j_iremE M dX2_guessNow_82 (by omega) (by omega) ?_
              refine j_bipush M dX2_guessNow_83 (by decide) ?_
              refine j_isub M dX2_guessNow_85 ?_
              refine m_put M 24 (by decide) q1266 dX2_guessNow_86 ?_
              first
              | (exfalso; omega)
              | (have kk := k89
                 simp only [pGk] at kk
                 first | rw [if_neg (by omega)] at kk | rw [if_pos (by omega)] at kk
                 refine j_hp ?_ kk
                 congr 1
                 funext q; unfold upN; split <;> (try split) <;> (try split) <;> (try split) <;> rfl)
            · refine j_iconst M dX2_guessNow_72 ?_
              refine j_goto M 86 dX2_guessNow_73 (by decide) ?_
              refine m_put M 24 (by decide) q1266 dX2_guessNow_86 ?_
              first
              | (exfalso; omega)
              | (have kk := k89
                 simp only [pGk] at kk
                 first | rw [if_neg (by omega)] at kk | rw [if_pos (by omega)] at kk
                 refine j_hp ?_ kk
                 congr 1
                 funext q; unfold upN; split <;> (try split) <;> (try split) <;> (try split) <;> rfl)
          · refine j_iload_n M dX2_guessNow_49 1 rfl ?_
            refine j_goto M 60 dX2_guessNow_50 (by decide) ?_
            refine j_bipush M dX2_guessNow_60 (by decide) ?_
            refine j_isub M dX2_guessNow_62 ?_
            refine m_put M 23 (by decide) q1265 dX2_guessNow_63 ?_
            refine j_aload_n M dX2_guessNow_66 0 rfl ?_
            refine j_iload_n M dX2_guessNow_67 2 rfl ?_
            refine j_iconst M dX2_guessNow_68 ?_
            refine j_icmp_ne M 76 dX2_guessNow_69 (by decide) (by omega) (fun c_69 => ?_) (fun c_69 => ?_)
            · refine j_iload_n M dX2_guessNow_76 1 rfl ?_
              refine j_bipush M dX2_guessNow_77 (by decide) ?_
              refine j_isub M dX2_guessNow_79 ?_
              refine j_bipush M dX2_guessNow_80 (by decide) ?_
              refine j_iremE M dX2_guessNow_82 (by omega) (by omega) ?_
              refine j_bipush M dX2_guessNow_83 (by decide) ?_
              refine j_isub M dX2_guessNow_85 ?_
              refine m_put M 24 (by decide) q1266 dX2_guessNow_86 ?_
              first
              | (exfalso; omega)
              | (have kk := k89
                 simp only [pGk] at kk
                 first | rw [if_neg (by omega)] at kk | rw [if_pos (by omega)] at kk
                 refine j_hp ?_ kk
                 congr 1
                 funext q; unfold upN; split <;> (try split) <;> (try split) <;> (try split) <;> rfl)
            · refine j_iconst M dX2_guessNow_72 ?_
              refine j_goto M 86 dX2_guessNow_73 (by decide) ?_
              refine m_put M 24 (by decide) q1266 dX2_guessNow_86 ?_
              first
              | (exfalso; omega)
              | (have kk := k89
                 simp only [pGk] at kk
                 first | rw [if_neg (by omega)] at kk | rw [if_pos (by omega)] at kk
                 refine j_hp ?_ kk
                 congr 1
                 funext q; unfold upN; split <;> (try split) <;> (try split) <;> (try split) <;> rfl)
        · refine j_iconst M dX2_guessNow_37 ?_
          refine j_goto M 42 dX2_guessNow_38 (by decide) ?_
          refine j_istore_n M dX2_guessNow_42 (by decide) ?_
          refine j_aload_n M dX2_guessNow_43 0 rfl ?_
          refine j_iload_n M dX2_guessNow_44 2 rfl ?_
          refine j_iconst M dX2_guessNow_45 ?_
          refine j_icmp_ne M 53 dX2_guessNow_46 (by decide) (by omega) (fun c_46 => ?_) (fun c_46 => ?_)
          · refine j_iload_n M dX2_guessNow_53 1 rfl ?_
            refine j_bipush M dX2_guessNow_54 (by decide) ?_
            refine j_isub M dX2_guessNow_56 ?_
            refine j_bipush M dX2_guessNow_57 (by decide) ?_
            refine j_idivE M dX2_guessNow_59 (by omega) (by omega) ?_
            refine j_bipush M dX2_guessNow_60 (by decide) ?_
            refine j_isub M dX2_guessNow_62 ?_
            refine m_put M 23 (by decide) q1265 dX2_guessNow_63 ?_
            refine j_aload_n M dX2_guessNow_66 0 rfl ?_
            refine j_iload_n M dX2_guessNow_67 2 rfl ?_
            refine j_iconst M dX2_guessNow_68 ?_
            refine j_icmp_ne M 76 dX2_guessNow_69 (by decide) (by omega) (fun c_69 => ?_) (fun c_69 => ?_)
            · refine j_iload_n M dX2_guessNow_76 1 rfl ?_
              refine j_bipush M dX2_guessNow_77 (by decide) ?_
              refine j_isub M dX2_guessNow_79 ?_
              refine j_bipush M dX2_guessNow_80 (by decide) ?_
              refine j_iremE M dX2_guessNow_82 (by omega) (by omega) ?_
              refine j_bipush M dX2_guessNow_83 (by decide) ?_
              refine j_isub M dX2_guessNow_85 ?_
              refine m_put M 24 (by decide) q1266 dX2_guessNow_86 ?_
              first
              | (exfalso; omega)
              | (have kk := k89
                 simp only [pGk] at kk
                 first | rw [if_neg (by omega)] at kk | rw [if_pos (by omega)] at kk
                 refine j_hp ?_ kk
                 congr 1
                 funext q; unfold upN; split <;> (try split) <;> (try split) <;> (try split) <;> rfl)
            · refine j_iconst M dX2_guessNow_72 ?_
              refine j_goto M 86 dX2_guessNow_73 (by decide) ?_
              refine m_put M 24 (by decide) q1266 dX2_guessNow_86 ?_
              first
              | (exfalso; omega)
              | (have kk := k89
                 simp only [pGk] at kk
                 first | rw [if_neg (by omega)] at kk | rw [if_pos (by omega)] at kk
                 refine j_hp ?_ kk
                 congr 1
                 funext q; unfold upN; split <;> (try split) <;> (try split) <;> (try split) <;> rfl)
          · refine j_iload_n M dX2_guessNow_49 1 rfl ?_
            refine j_goto M 60 dX2_guessNow_50 (by decide) ?_
            refine j_bipush M dX2_guessNow_60 (by decide) ?_
            refine j_isub M dX2_guessNow_62 ?_
            refine m_put M 23 (by decide) q1265 dX2_guessNow_63 ?_
            refine j_aload_n M dX2_guessNow_66 0 rfl ?_
            refine j_iload_n M dX2_guessNow_67 2 rfl ?_
            refine j_iconst M dX2_guessNow_68 ?_
            refine j_icmp_ne M 76 dX2_guessNow_69 (by decide) (by omega) (fun c_69 => ?_) (fun c_69 => ?_)
            · refine j_iload_n M dX2_guessNow_76 1 rfl ?_
              refine j_bipush M dX2_guessNow_77 (by decide) ?_
              refine j_isub M dX2_guessNow_79 ?_
              refine j_bipush M dX2_guessNow_80 (by decide) ?_
              refine j_iremE M dX2_guessNow_82 (by omega) (by omega) ?_
              refine j_bipush M dX2_guessNow_83 (by decide) ?_
              refine j_isub M dX2_guessNow_85 ?_
              refine m_put M 24 (by decide) q1266 dX2_guessNow_86 ?_
              first
              | (exfalso; omega)
              | (have kk := k89
                 simp only [pGk] at kk
                 first | rw [if_neg (by omega)] at kk | rw [if_pos (by omega)] at kk
                 refine j_hp ?_ kk
                 congr 1
                 funext q; unfold upN; split <;> (try split) <;> (try split) <;> (try split) <;> rfl)
            · refine j_iconst M dX2_guessNow_72 ?_
              refine j_goto M 86 dX2_guessNow_73 (by decide) ?_
              refine m_put M 24 (by decide) q1266 dX2_guessNow_86 ?_
              first
              | (exfalso; omega)
              | (have kk := k89
                 simp only [pGk] at kk
                 first | rw [if_neg (by omega)] at kk | rw [if_pos (by omega)] at kk
                 refine j_hp ?_ kk
                 congr 1
                 funext q; unfold upN; split <;> (try split) <;> (try split) <;> (try split) <;> rfl)
  refine j_aload_n M dX2_guessNow_0 0 rfl ?_
  refine j_iconst M dX2_guessNow_1 ?_
  refine m_put M 23 (by decide) q1265 dX2_guessNow_2 ?_
  refine j_aload_n M dX2_guessNow_5 0 rfl ?_
  refine j_iconst M dX2_guessNow_6 ?_
  refine m_put M 24 (by decide) q1266 dX2_guessNow_7 ?_
  refine j_aload_n M dX2_guessNow_10 0 rfl ?_
  refine j_iconst M dX2_guessNow_11 ?_
  refine j_iconst M dX2_guessNow_12 ?_
  refine j_iconst M dX2_guessNow_13 ?_
  refine j_rV (k_V M (m_isGuess l X σ _ _ hm 0 0 0 (by omega) (by omega) (by omega) h4 hG) (m_rc M) (lw_V q1717 q1719 qs89 q102 q1720) ndX2_isGuess dX2_guessNow_14 ⟨by decide, by decide, by decide, by decide⟩ rfl (Nat.le_of_ble_eq_true rfl)) ?_
  refine j_ifeqB M 22 dX2_guessNow_17 (by decide) (fun c_17 => ?_) (fun c_17 => ?_)
  · refine j_iconst M dX2_guessNow_22 ?_
    refine j_istore_n M dX2_guessNow_23 (by decide) ?_
    exact loop c_17 380 0 0 0 [] (by omega) (by omega) (if_neg (by rw [show pGs (t 5) (f 4) 0 0 0 = false from c_17]; decide)).symm
  · refine j_iconst M dX2_guessNow_20 ?_
    refine j_iret M dX2_guessNow_21 ⟨Nat.le_refl _, Nat.le_refl _⟩ ?_
    rw [show pGuess (t 5) (f 4) = (0, 0, 0) from if_pos c_17]; exact ⟨rfl, 0, 0, rfl, fun _ => ⟨rfl, rfl⟩⟩
def pGuessW (G : Int → Int) (n w : Int) : Int := if (pGuess G n).1 = 2000000001 ∨ w = 0 then (pGuess G n).1 else if w = 1 then (pGuess G n).2.1 else (pGuess G n).2.2
theorem MI.gs {c u v : Int} {f : Nat → Int} {t : Nat → Int → Int} (h : MI c f t) : MI c (upN (upN f 23 u) 24 v) t ∧ mSame f t (upN (upN f 23 u) 24 v) t := by
  refine ⟨h, ?_, fun _ _ => Eq.refl _, fun _ _ => Eq.refl _⟩
  intro k hk
  simp only [List.mem_cons, List.not_mem_nil, or_false] at hk
  rw [upN_n _ _ (by omega), upN_n _ _ (by omega)]
theorem MI.g4 {c : Int} {f : Nat → Int} {t : Nat → Int → Int} (h : MI c f t) : 0 ≤ f 4 ∧ f 4 ≤ 8 := h.2.2.2.1
theorem MI.g5 {c : Int} {f : Nat → Int} {t : Nat → Int → Int} (h : MI c f t) : ∀ k, 0 ≤ k → k < 8 → -99 ≤ t 5 k ∧ t 5 k ≤ 99 := h.2.2.2.2.1
theorem m_guessTold (hm : mOk σ) (c w : Int) (hw : r32 w) (h : MI c f t) : Ct l X yX2_guessTold cX2_guessTold 3 (some .int) (rD 2) [.ref σ.1, .int (zI w)] (mH X σ f t) (pQ X σ c f t (.int (zI (pGuessW (t 5) (f 4) w)))) := by
  have hr := pGuess_r (t 5) (f 4)
  refine Ct.of (by decide) (Nat.le_of_ble_eq_true rfl) (fun Γ M => ?_)
  refine j_lv (lv' := [(0, .ref σ.1), (1, .int (zI w))]) rfl ?_
  refine j_aload_n M dX2_guessTold_0 0 rfl ?_
  refine j_run (k_V M (m_guessNow l X σ f t hm h.g4 h.g5) (m_rc M) (lw_V q1713 q1715 qs88 q102 q1716) ndX2_guessNow dX2_guessTold_1 ⟨by decide, by decide, by decide, by decide⟩ rfl (Nat.le_of_ble_eq_true rfl)) (fun r_1 hp_1 hq_1 => ?_)
  obtain ⟨rfl, u, v, rfl, huv⟩ := hq_1
  refine j_istore_n M dX2_guessTold_4 (by decide) ?_
  refine j_iload_n M dX2_guessTold_5 2 rfl ?_
  refine j_ldc M (2000000001) q1241 (by decide) dX2_guessTold_6 ?_
  refine j_icmp_eq M 15 dX2_guessTold_8 (by decide) (by omega) (fun c_8 => ?_) (fun c_8 => ?_)
  · refine j_iload_n M dX2_guessTold_15 2 rfl ?_
    refine j_goto M 35 dX2_guessTold_16 (by decide) ?_
    refine j_iret M dX2_guessTold_35 ⟨Nat.le_refl _, Nat.le_refl _⟩ ?_
    refine ⟨?_, _, _, rfl, h.gs⟩
    unfold pGuessW; rw [if_pos (Or.inl c_8)]
  · refine j_iload_n M dX2_guessTold_11 1 rfl ?_
    refine j_if_ne M 19 dX2_guessTold_12 (by decide) (by omega) (fun c_12 => ?_) (fun c_12 => ?_)
    · refine j_iload_n M dX2_guessTold_19 1 rfl ?_
      refine j_iconst M dX2_guessTold_20 ?_
      refine j_icmp_ne M 31 dX2_guessTold_21 (by decide) (by omega) (fun c_21 => ?_) (fun c_21 => ?_)
      · refine j_aload_n M dX2_guessTold_31 0 rfl ?_
        refine m_get M 24 (by decide) q1266 rfl dX2_guessTold_32 ?_
        refine j_iret M dX2_guessTold_35 ⟨Nat.le_refl _, Nat.le_refl _⟩ ?_
        refine ⟨?_, _, _, rfl, h.gs⟩
        unfold pGuessW; rw [if_neg (by omega), if_neg c_21, ← (huv c_8).2]; rfl
      · refine j_aload_n M dX2_guessTold_24 0 rfl ?_
        refine m_get M 23 (by decide) q1265 rfl dX2_guessTold_25 ?_
        refine j_goto M 35 dX2_guessTold_28 (by decide) ?_
        refine j_iret M dX2_guessTold_35 ⟨Nat.le_refl _, Nat.le_refl _⟩ ?_
        refine ⟨?_, _, _, rfl, h.gs⟩
        unfold pGuessW; rw [if_neg (by omega), if_pos c_21, ← (huv c_8).1]; rfl
    · refine j_iload_n M dX2_guessTold_15 2 rfl ?_
      refine j_goto M 35 dX2_guessTold_16 (by decide) ?_
      refine j_iret M dX2_guessTold_35 ⟨Nat.le_refl _, Nat.le_refl _⟩ ?_
      refine ⟨?_, _, _, rfl, h.gs⟩
      unfold pGuessW; rw [if_pos (Or.inr c_12)]
def vGuess (G : Int → Int) (n w : Int) : Int := if 0 ≤ w ∧ w ≤ 2 then pGuessW G n w else 2000000102
theorem m_guess (hm : mOk σ) (c w : Int) (hw : r32 w) (h : MI c f t) : Ct l X yX2_guess cX2_guess 2 (some .int) (rD 3) [.ref σ.1, .int (zI w)] (mH X σ f t) (pQ X σ c f t (.int (zI (vGuess (t 5) (f 4) w)))) := by
  refine Ct.of (by decide) (Nat.le_of_ble_eq_true rfl) (fun Γ M => ?_)
  refine j_lv (lv' := [(0, .ref σ.1), (1, .int (zI w))]) rfl ?_
  refine j_iload_n M dX2_guess_0 1 rfl ?_
  refine j_iconst M dX2_guess_1 ?_
  refine j_iconst M dX2_guess_2 ?_
  refine j_rV (k_S M (m_within l X _ _ _ _ (by omega)) (lw_S q1347 q1348 q102 q1349) ndX2_within dX2_guess_3 ⟨by decide, by decide, by decide, by decide⟩ rfl (Nat.le_of_ble_eq_true rfl)) ?_
  refine j_ifeqB M 17 dX2_guess_6 (by decide) (fun c_6 => ?_) (fun c_6 => ?_)
  · simp only [decide_eq_false_iff_not] at c_6
    refine j_ldc M (2000000102) q1350 (by decide) dX2_guess_17 ?_
    refine j_iret M dX2_guess_19 ⟨Nat.le_refl _, Nat.le_refl _⟩ ?_
    unfold vGuess; rw [if_neg c_6]; exact pQ.of h
  · simp only [decide_eq_true_eq] at c_6
    refine j_aload_n M dX2_guess_9 0 rfl ?_
    refine j_iload_n M dX2_guess_10 1 rfl ?_
    refine j_run (k_V M (m_guessTold l X σ f t hm c w hw h) (m_rc M) (lw_V q1709 q1711 qs87 q102 q1712) ndX2_guessTold dX2_guess_11 ⟨by decide, by decide, by decide, by decide⟩ rfl (Nat.le_of_ble_eq_true rfl)) (fun r_11 hp_11 hq_11 => ?_)
    obtain ⟨rfl, hq⟩ := hq_11
    refine j_goto M 19 dX2_guess_14 (by decide) ?_
    refine j_iret M dX2_guess_19 ⟨Nat.le_refl _, Nat.le_refl _⟩ ?_
    unfold vGuess; rw [if_pos c_6]; exact ⟨rfl, hq⟩
theorem pMay.no2 {X : Cx} {σ : Ms} {c : Int} {f f' : Nat → Int} {t t' : Nat → Int → Int} {e k a1 a2 a3 a4 : Int} {b : Bool} (hb : b = false) (h : MI c f' t' ∧ mSame f t f' t') : pMay X σ c f t b e k a1 a2 a3 a4 (some (.int (zI e))) (mH X σ f' t') := by
  subst hb; exact ⟨rfl, f', t', rfl, h.1, h.2.is⟩
def pF1 (G : Int → Int) (n : Int) : Int := if (pGuess G n).1 = 0 then 0 else G 0
def pF2 (G : Int → Int) (n : Int) : Int := if (pGuess G n).1 = 2 then G 1 else (pGuess G n).2.1 * pF1 G n
theorem m_found (hm : mOk σ) (c : Int) (h : MI c f t) : Ct l X yX2_found cX2_found 3 (some .int) (rD 3) [.ref σ.1] (mH X σ f t) (pMay X σ c f t (decide ((pGuess (t 5) (f 4)).1 ≠ 2000000001)) 2000000103 0 (pGuess (t 5) (f 4)).2.1 (pGuess (t 5) (f 4)).2.2 (pF1 (t 5) (f 4)) (pF2 (t 5) (f 4))) := by
  have hr := pGuess_r (t 5) (f 4)
  have q0 := h.g5 0 (by omega) (by omega)
  have q1 := h.g5 1 (by omega) (by omega)
  refine Ct.of (by decide) (Nat.le_of_ble_eq_true rfl) (fun Γ M => ?_)
  refine j_lv (lv' := [(0, .ref σ.1)]) rfl ?_
  have k60 : ∀ u v : Int, (pGuess (t 5) (f 4)).1 ≠ 2000000001 → u = (pGuess (t 5) (f 4)).2.1 → v = (pGuess (t 5) (f 4)).2.2 → J Γ (mH X σ (upN (upN f 23 u) 24 v) t) 0 0 60 [(0, .ref σ.1), (1, .int (zI (pGuess (t 5) (f 4)).1)), (2, .int (zI (pF1 (t 5) (f 4))))] [.int (zI (pF2 (t 5) (f 4))), .int (zI (pF1 (t 5) (f 4))), .int (zI v), .int (zI u), .int (zI 0), .ref σ.1] := by
    intro u v hne hu hv
    have b0 : -99 ≤ pF1 (t 5) (f 4) ∧ pF1 (t 5) (f 4) ≤ 99 := by unfold pF1; split <;> omega
    have b1 := mul_bd 9 99 (a := (pGuess (t 5) (f 4)).2.1) (by omega) b0
    have b2 : -999 ≤ pF2 (t 5) (f 4) ∧ pF2 (t 5) (f 4) ≤ 999 := by unfold pF2; split <;> omega
    rw [decide_eq_true hne] at M
    refine j_run (k_V M (m_comesW l X σ _ _ hm c 0 _ _ _ _ h.gs.1 (fun _ => rOk_new0 _ _ _ _ _ _ _ (by omega) (by omega) (by omega) b2)) (m_rc M) (lw_V q1641 q1643 qs80 q102 q1644) ndX2_comes dX2_found_60 ⟨by decide, by decide, by decide, by decide⟩ rfl (Nat.le_of_ble_eq_true rfl)) (fun r_60 hp_60 hq_60 => ?_)
    obtain ⟨rfl, f1, t1, rfl, h1, hs⟩ := hq_60
    refine j_iret M dX2_found_63 ⟨Nat.le_refl _, Nat.le_refl _⟩ ?_
    refine ⟨rfl, f1, t1, rfl, h1, ?_⟩
    rw [hu, hv] at hs
    exact mIs.after h.gs.2 hs
  refine j_aload_n M dX2_found_0 0 rfl ?_
  refine j_run (k_V M (m_guessNow l X σ f t hm h.g4 h.g5) (m_rc M) (lw_V q1713 q1715 qs88 q102 q1716) ndX2_guessNow dX2_found_1 ⟨by decide, by decide, by decide, by decide⟩ rfl (Nat.le_of_ble_eq_true rfl)) (fun r_1 hp_1 hq_1 => ?_)
  obtain ⟨rfl, u, v, rfl, huv⟩ := hq_1
  refine j_istore_n M dX2_found_4 (by decide) ?_
  refine j_iload_n M dX2_found_5 1 rfl ?_
  refine j_ldc M (2000000001) q1241 (by decide) dX2_found_6 ?_
  refine j_icmp_ne M 14 dX2_found_8 (by decide) (by omega) (fun c_8 => ?_) (fun c_8 => ?_)
  · refine j_iload_n M dX2_found_14 1 rfl ?_
    refine j_if_ne M 22 dX2_found_15 (by decide) (by omega) (fun c_15 => ?_) (fun c_15 => ?_)
    · refine j_aload_n M dX2_found_22 0 rfl ?_
      refine m_get M 5 (by decide) q1247 rfl dX2_found_23 ?_
      refine j_iconst M dX2_found_26 ?_
      refine m_ald M hm (n := 8) 5 (by decide) rfl dX2_found_27 (by omega) ?_
      refine j_istore_n M dX2_found_28 (by decide) ?_
      refine j_aload_n M dX2_found_29 0 rfl ?_
      refine j_iconst M dX2_found_30 ?_
      refine j_aload_n M dX2_found_31 0 rfl ?_
      refine m_get M 23 (by decide) q1265 rfl dX2_found_32 ?_
      refine j_aload_n M dX2_found_35 0 rfl ?_
      refine m_get M 24 (by decide) q1266 rfl dX2_found_36 ?_
      refine j_iload_n M dX2_found_39 2 rfl ?_
      refine j_iload_n M dX2_found_40 1 rfl ?_
      refine j_iconst M dX2_found_41 ?_
      refine j_icmp_ne M 54 dX2_found_42 (by decide) (by omega) (fun c_42 => ?_) (fun c_42 => ?_)
      · refine j_aload_n M dX2_found_54 0 rfl ?_
        refine m_get M 23 (by decide) q1265 rfl dX2_found_55 ?_
        refine j_iload_n M dX2_found_58 2 rfl ?_
        refine j_imul M dX2_found_59 ?_
        have kk := k60 u v c_8 (huv c_8).1 (huv c_8).2
        have e1 : pF1 (t 5) (f 4) = t 5 0 := if_neg c_15
        have e2 : pF2 (t 5) (f 4) = u * t 5 0 := by unfold pF2; rw [if_neg c_42, e1, ← (huv c_8).1]
        rw [e1, e2] at kk; exact kk
      · refine j_aload_n M dX2_found_45 0 rfl ?_
        refine m_get M 5 (by decide) q1247 rfl dX2_found_46 ?_
        refine j_iconst M dX2_found_49 ?_
        refine m_ald M hm (n := 8) 5 (by decide) rfl dX2_found_50 (by omega) ?_
        refine j_goto M 60 dX2_found_51 (by decide) ?_
        have kk := k60 u v c_8 (huv c_8).1 (huv c_8).2
        have e1 : pF1 (t 5) (f 4) = t 5 0 := if_neg c_15
        have e2 : pF2 (t 5) (f 4) = t 5 1 := if_pos c_42
        rw [e1, e2] at kk; exact kk
    · refine j_iconst M dX2_found_18 ?_
      refine j_goto M 28 dX2_found_19 (by decide) ?_
      refine j_istore_n M dX2_found_28 (by decide) ?_
      refine j_aload_n M dX2_found_29 0 rfl ?_
      refine j_iconst M dX2_found_30 ?_
      refine j_aload_n M dX2_found_31 0 rfl ?_
      refine m_get M 23 (by decide) q1265 rfl dX2_found_32 ?_
      refine j_aload_n M dX2_found_35 0 rfl ?_
      refine m_get M 24 (by decide) q1266 rfl dX2_found_36 ?_
      refine j_iload_n M dX2_found_39 2 rfl ?_
      refine j_iload_n M dX2_found_40 1 rfl ?_
      refine j_iconst M dX2_found_41 ?_
      refine j_icmp_ne M 54 dX2_found_42 (by decide) (by omega) (fun c_42 => ?_) (fun c_42 => ?_)
      · refine j_aload_n M dX2_found_54 0 rfl ?_
        refine m_get M 23 (by decide) q1265 rfl dX2_found_55 ?_
        refine j_iload_n M dX2_found_58 2 rfl ?_
        refine j_imul M dX2_found_59 ?_
        have kk := k60 u v c_8 (huv c_8).1 (huv c_8).2
        have e1 : pF1 (t 5) (f 4) = 0 := if_pos c_15
        have e2 : pF2 (t 5) (f 4) = u * 0 := by unfold pF2; rw [if_neg c_42, e1, ← (huv c_8).1]
        rw [e1, e2] at kk; exact kk
      · refine j_aload_n M dX2_found_45 0 rfl ?_
        refine m_get M 5 (by decide) q1247 rfl dX2_found_46 ?_
        refine j_iconst M dX2_found_49 ?_
        refine m_ald M hm (n := 8) 5 (by decide) rfl dX2_found_50 (by omega) ?_
        refine j_goto M 60 dX2_found_51 (by decide) ?_
        omega
  · refine j_ldc M (2000000103) q1393 (by decide) dX2_found_11 ?_
    refine j_iret M dX2_found_13 ⟨Nat.le_refl _, Nat.le_refl _⟩ ?_
    exact pMay.no2 (decide_eq_false (fun q => q c_8)) h.gs
end M10
