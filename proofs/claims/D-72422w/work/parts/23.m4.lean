/-! 23: the reference: rests of made rows -/
set_option maxRecDepth 100000
def rsLaid (m : Int) (t : Nat → Int → Int) (N : Int) : Prop := ∀ j, 0 ≤ j → j < N → rRow m t j (pRest m (t 1) (t 2) j)
section M4
variable (l : Launch) (X : Cx) (σ : Ms) (f : Nat → Int) (t : Nat → Int → Int)
theorem m_madeRest (hm : mOk σ) (m N i n : Int) (hN : N ≤ 8) (hi : 0 ≤ i ∧ i < N) (hn : 0 ≤ n ∧ n ≤ 1000) (hm2 : 2 ≤ m ∧ m ≤ 10) (hr : rsOk (t 1) (t 2) N) (hk : t 1 i ≠ 0) (hL : rsLaid m t i) : CM l X σ yX2_madeRest cX2_madeRest 5 (some .int) 1 [.int (zI i), .int (zI n), .int (zI m)] f t (some (.int (zI (pRest m (t 1) (t 2) i n)))) f t := by
  have hK := rOk_k (hr i hi.1 hi.2)
  have hp := rOk_part (hr i hi.1 hi.2) hk
  have hrr := fun j k => pRest_r (show 0 < m by omega) (t 1) (t 2) j k
  refine Ct.of (by decide) (Nat.le_of_ble_eq_true rfl) (fun Γ M => ?_)
  refine j_lv (lv' := [(0, .ref σ.1), (1, .int (zI i)), (2, .int (zI n)), (3, .int (zI m))]) rfl ?_
  refine j_aload_n M dX2_madeRest_0 0 rfl ?_
  refine m_get M 2 (by decide) q1244 rfl dX2_madeRest_1 ?_
  refine j_iconst M dX2_madeRest_4 ?_
  refine j_iload_n M dX2_madeRest_5 1 rfl ?_
  refine j_imul M dX2_madeRest_6 ?_
  refine m_ald M hm (n := 36) 2 (by decide) rfl dX2_madeRest_7 (by omega) ?_
  refine j_istore M dX2_madeRest_8 (by decide) ?_
  refine j_aload_n M dX2_madeRest_10 0 rfl ?_
  refine m_get M 1 (by decide) q1243 rfl dX2_madeRest_11 ?_
  refine j_iload_n M dX2_madeRest_14 1 rfl ?_
  refine m_ald M hm (n := 9) 1 (by decide) rfl dX2_madeRest_15 (by omega) ?_
  refine j_swn M (a := t 1 i) (by omega) (fun h_16 => ?_)
  by_cases e_16_1 : t 1 i = 1
  · rw [e_16_1]
    refine j_tabIn M 44 dX2_madeRest_16 (by decide) (by decide) (by decide) rfl (by decide) ?_
    have hp2 := rOk_part2 (hr i hi.1 hi.2) (by omega)
    refine j_aload_n M dX2_madeRest_44 0 rfl ?_
    refine j_iload M dX2_madeRest_45 4 rfl ?_
    refine j_iload_n M dX2_madeRest_47 2 rfl ?_
    refine j_i2l M dX2_madeRest_48 (by omega) ?_
    refine j_rV (k_V M (m_restAt l X σ f t hm m _ n _ (by omega) (by omega) (hL _ hp.1 hp.2)) (m_rc M) (lw_V q1486 q1488 qs57 q102 q1489) ndX2_restAt dX2_madeRest_49 ⟨by decide, by decide, by decide, by decide⟩ rfl (Nat.le_of_ble_eq_true rfl)) ?_
    refine j_aload_n M dX2_madeRest_52 0 rfl ?_
    refine j_aload_n M dX2_madeRest_53 0 rfl ?_
    refine m_get M 2 (by decide) q1244 rfl dX2_madeRest_54 ?_
    refine j_iconst M dX2_madeRest_57 ?_
    refine j_iload_n M dX2_madeRest_58 1 rfl ?_
    refine j_imul M dX2_madeRest_59 ?_
    refine j_iconst M dX2_madeRest_60 ?_
    refine j_iadd M dX2_madeRest_61 ?_
    refine m_ald M hm (n := 36) 2 (by decide) rfl dX2_madeRest_62 (by omega) ?_
    refine j_iload_n M dX2_madeRest_63 2 rfl ?_
    refine j_i2l M dX2_madeRest_64 (by omega) ?_
    refine j_rV (k_V M (m_restAt l X σ f t hm m _ n _ (by omega) (by omega) (hL _ hp2.1 hp2.2)) (m_rc M) (lw_V q1486 q1488 qs57 q102 q1489) ndX2_restAt dX2_madeRest_65 ⟨by decide, by decide, by decide, by decide⟩ rfl (Nat.le_of_ble_eq_true rfl)) ?_
    refine j_iadd M dX2_madeRest_68 ?_
    refine j_iload_n M dX2_madeRest_69 3 rfl ?_
    have z1 := hrr (t 2 (4 * i)) n
    have z2 := hrr (t 2 (4 * i + 1)) n
    refine j_iremE M dX2_madeRest_70 (by omega) (by omega) ?_
    refine j_iret M dX2_madeRest_71 ⟨Nat.le_refl _, Nat.le_refl _⟩ ?_
    exact ⟨by rw [pRest_sum hr hi.1 hi.2 e_16_1], rfl⟩
  by_cases e_16_2 : t 1 i = 2
  · rw [e_16_2]
    refine j_tabIn M 72 dX2_madeRest_16 (by decide) (by decide) (by decide) rfl (by decide) ?_
    have hp2 := rOk_part2 (hr i hi.1 hi.2) (by omega)
    refine j_aload_n M dX2_madeRest_72 0 rfl ?_
    refine j_iload M dX2_madeRest_73 4 rfl ?_
    refine j_iload_n M dX2_madeRest_75 2 rfl ?_
    refine j_i2l M dX2_madeRest_76 (by omega) ?_
    refine j_rV (k_V M (m_restAt l X σ f t hm m _ n _ (by omega) (by omega) (hL _ hp.1 hp.2)) (m_rc M) (lw_V q1486 q1488 qs57 q102 q1489) ndX2_restAt dX2_madeRest_77 ⟨by decide, by decide, by decide, by decide⟩ rfl (Nat.le_of_ble_eq_true rfl)) ?_
    refine j_aload_n M dX2_madeRest_80 0 rfl ?_
    refine j_aload_n M dX2_madeRest_81 0 rfl ?_
    refine m_get M 2 (by decide) q1244 rfl dX2_madeRest_82 ?_
    refine j_iconst M dX2_madeRest_85 ?_
    refine j_iload_n M dX2_madeRest_86 1 rfl ?_
    refine j_imul M dX2_madeRest_87 ?_
    refine j_iconst M dX2_madeRest_88 ?_
    refine j_iadd M dX2_madeRest_89 ?_
    refine m_ald M hm (n := 36) 2 (by decide) rfl dX2_madeRest_90 (by omega) ?_
    refine j_iload_n M dX2_madeRest_91 2 rfl ?_
    refine j_i2l M dX2_madeRest_92 (by omega) ?_
    refine j_rV (k_V M (m_restAt l X σ f t hm m _ n _ (by omega) (by omega) (hL _ hp2.1 hp2.2)) (m_rc M) (lw_V q1486 q1488 qs57 q102 q1489) ndX2_restAt dX2_madeRest_93 ⟨by decide, by decide, by decide, by decide⟩ rfl (Nat.le_of_ble_eq_true rfl)) ?_
    refine j_imul M dX2_madeRest_96 ?_
    refine j_iload_n M dX2_madeRest_97 3 rfl ?_
    have z1 := hrr (t 2 (4 * i)) n
    have z2 := hrr (t 2 (4 * i + 1)) n
    have z3 := mul_bd 10 10 (a := pRest m (t 1) (t 2) (t 2 (4 * i)) n) (b := pRest m (t 1) (t 2) (t 2 (4 * i + 1)) n) (by omega) (by omega)
    have z4 : 0 ≤ pRest m (t 1) (t 2) (t 2 (4 * i)) n * pRest m (t 1) (t 2) (t 2 (4 * i + 1)) n := Int.mul_nonneg z1.1 z2.1
    refine j_iremE M dX2_madeRest_98 (by omega) (by omega) ?_
    refine j_iret M dX2_madeRest_99 ⟨Nat.le_refl _, Nat.le_refl _⟩ ?_
    exact ⟨by rw [pRest_product hr hi.1 hi.2 e_16_2], rfl⟩
  by_cases e_16_3 : t 1 i = 3
  · rw [e_16_3]
    refine j_tabIn M 100 dX2_madeRest_16 (by decide) (by decide) (by decide) rfl (by decide) ?_
    have he := rOk_each (hr i hi.1 hi.2) e_16_3
    have hb := mul_bd 5 1000 (a := t 2 (4 * i + 1)) (b := n) (by omega) (by omega)
    have hb0 : 0 ≤ t 2 (4 * i + 1) * n := Int.mul_nonneg (by omega) hn.1
    refine j_aload_n M dX2_madeRest_100 0 rfl ?_
    refine j_iload M dX2_madeRest_101 4 rfl ?_
    refine j_aload_n M dX2_madeRest_103 0 rfl ?_
    refine m_get M 2 (by decide) q1244 rfl dX2_madeRest_104 ?_
    refine j_iconst M dX2_madeRest_107 ?_
    refine j_iload_n M dX2_madeRest_108 1 rfl ?_
    refine j_imul M dX2_madeRest_109 ?_
    refine j_iconst M dX2_madeRest_110 ?_
    refine j_iadd M dX2_madeRest_111 ?_
    refine m_ald M hm (n := 36) 2 (by decide) rfl dX2_madeRest_112 (by omega) ?_
    refine j_iload_n M dX2_madeRest_113 2 rfl ?_
    refine j_imul M dX2_madeRest_114 ?_
    refine j_aload_n M dX2_madeRest_115 0 rfl ?_
    refine m_get M 2 (by decide) q1244 rfl dX2_madeRest_116 ?_
    refine j_iconst M dX2_madeRest_119 ?_
    refine j_iload_n M dX2_madeRest_120 1 rfl ?_
    refine j_imul M dX2_madeRest_121 ?_
    refine j_iconst M dX2_madeRest_122 ?_
    refine j_iadd M dX2_madeRest_123 ?_
    refine m_ald M hm (n := 36) 2 (by decide) rfl dX2_madeRest_124 (by omega) ?_
    refine j_iadd M dX2_madeRest_125 ?_
    refine j_i2l M dX2_madeRest_126 (by omega) ?_
    refine j_rV (k_V M (m_restAt l X σ f t hm m _ _ _ (by omega) (by omega) (hL _ hp.1 hp.2)) (m_rc M) (lw_V q1486 q1488 qs57 q102 q1489) ndX2_restAt dX2_madeRest_127 ⟨by decide, by decide, by decide, by decide⟩ rfl (Nat.le_of_ble_eq_true rfl)) ?_
    refine j_iret M dX2_madeRest_130 ⟨Nat.le_refl _, Nat.le_refl _⟩ ?_
    exact ⟨by rw [pRest_each hr hi.1 hi.2 e_16_3], rfl⟩
  refine j_tabOut M 131 dX2_madeRest_16 h_16 (by omega) (by decide) ?_
  refine j_aload_n M dX2_madeRest_131 0 rfl ?_
  refine j_iload M dX2_madeRest_132 4 rfl ?_
  refine j_iload_n M dX2_madeRest_134 2 rfl ?_
  refine j_iconst M dX2_madeRest_135 ?_
  refine j_iadd M dX2_madeRest_136 ?_
  refine j_i2l M dX2_madeRest_137 (by omega) ?_
  refine j_rV (k_V M (m_restAt l X σ f t hm m _ (n + 1) _ (by omega) (by omega) (hL _ hp.1 hp.2)) (m_rc M) (lw_V q1486 q1488 qs57 q102 q1489) ndX2_restAt dX2_madeRest_138 ⟨by decide, by decide, by decide, by decide⟩ rfl (Nat.le_of_ble_eq_true rfl)) ?_
  refine j_aload_n M dX2_madeRest_141 0 rfl ?_
  refine j_iload M dX2_madeRest_142 4 rfl ?_
  refine j_iload_n M dX2_madeRest_144 2 rfl ?_
  refine j_i2l M dX2_madeRest_145 (by omega) ?_
  refine j_rV (k_V M (m_restAt l X σ f t hm m _ n _ (by omega) (by omega) (hL _ hp.1 hp.2)) (m_rc M) (lw_V q1486 q1488 qs57 q102 q1489) ndX2_restAt dX2_madeRest_146 ⟨by decide, by decide, by decide, by decide⟩ rfl (Nat.le_of_ble_eq_true rfl)) ?_
  refine j_isub M dX2_madeRest_149 ?_
  refine j_iload_n M dX2_madeRest_150 3 rfl ?_
  have z1 := hrr (t 2 (4 * i)) n
  have z2 := hrr (t 2 (4 * i)) (n + 1)
  refine j_rV (k_S M (m_mod l X _ _ _ (by omega) (by omega)) (lw_S q1472 q1473 q102 q1474) ndX2_mod dX2_madeRest_151 ⟨by decide, by decide, by decide, by decide⟩ rfl (Nat.le_of_ble_eq_true rfl)) ?_
  refine j_iret M dX2_madeRest_154 ⟨Nat.le_refl _, Nat.le_refl _⟩ ?_
  exact ⟨by rw [pRest_step hr hi.1 hi.2 (by omega)], rfl⟩
theorem m_layTurn (hm : mOk σ) (m N i : Int) (hN : N ≤ 8) (hi : 0 ≤ i ∧ i < N) (hm2 : 2 ≤ m ∧ m ≤ 10) (hr : rsOk (t 1) (t 2) N) (hk : t 1 i ≠ 0) (hL : rsLaid m t i) : Ct l X yX2_layTurn cX2_layTurn 5 none (rD 1) [.ref σ.1, .int (zI i)] (mH X σ f t)
    (fun r hp => r = none ∧ ∃ ld tn, hp = mH X σ f (upN (upN t 16 (upA (t 16) i ld)) 17 (upA (t 17) i tn)) ∧ (0 ≤ ld ∧ ld ≤ 6) ∧ tn ∣ pE m ∧ Per (pRest m (t 1) (t 2) i) ld tn) := by
  have hK := rOk_k (hr i hi.1 hi.2)
  have hp := rOk_part (hr i hi.1 hi.2) hk
  have hE := pE_r m
  obtain ⟨of, hof⟩ : ∃ of, t 2 (4 * i) = of := ⟨_, rfl⟩
  rw [hof] at hp
  have hLo := hL of hp.1 hp.2
  have hbo := hLo.bd
  have hne : of ≠ i := by omega
  refine Ct.of (by decide) (Nat.le_of_ble_eq_true rfl) (fun Γ M => ?_)
  refine j_lv (lv' := [(0, .ref σ.1), (1, .int (zI i))]) rfl ?_
  have k44 : ∀ q, (0 ≤ q ∧ q < i) → ((t 1 i = 1 ∨ t 1 i = 2) ∧ q = t 2 (4 * i + 1) ∨ (t 1 i = 3 ∨ t 1 i = 4) ∧ q = of) → J Γ (mH X σ f t) 0 0 44 [(0, .ref σ.1), (1, .int (zI i)), (2, .int (zI of)), (3, .int (zI q))] [] := by
    intro q hq hqq
    have hLq := hL q hq.1 hq.2
    have hbq := hLq.bd
    have hlcm := pLcm_dvd hbo.2.1 hbq.2.1 hLo.2.1 hLq.2.1 hE.1
    have hlp := pLcm_pos hbo.2.1 hbq.2.1
    have hgp := pGcd_pos (b := t 17 q) hbo.2.1
    have hgl := dvd_le (pGcd_l (a := t 17 of) (b := t 17 q) (by omega)) hbo.2.1
    have k79 : ∀ v, (v = t 16 of ∨ v = t 16 q) → t 16 of ≤ v → t 16 q ≤ v → J Γ (mH X σ f t) 0 0 79 [(0, .ref σ.1), (1, .int (zI i)), (2, .int (zI of)), (3, .int (zI q))] [.int (zI v), .int (zI i), .ref (σ.2.1 16)] := by
      intro v hv hv1 hv2
      refine m_ast M hm (n := 9) 16 (by decide) (fun _ => rfl) dX2_layTurn_79 (by omega) ?_
      refine j_aload_n M dX2_layTurn_80 0 rfl ?_
      refine m_get M 17 (by decide) q1259 rfl dX2_layTurn_81 ?_
      refine j_iload_n M dX2_layTurn_84 1 rfl ?_
      refine j_aload_n M dX2_layTurn_85 0 rfl ?_
      refine m_get M 17 (by decide) q1259 rfl dX2_layTurn_86 ?_
      refine j_iload_n M dX2_layTurn_89 2 rfl ?_
      refine m_ald M hm (n := 9) 17 (by decide) rfl dX2_layTurn_90 (by omega) ?_
      refine j_aload_n M dX2_layTurn_91 0 rfl ?_
      refine m_get M 17 (by decide) q1259 rfl dX2_layTurn_92 ?_
      refine j_iload_n M dX2_layTurn_95 2 rfl ?_
      refine m_ald M hm (n := 9) 17 (by decide) rfl dX2_layTurn_96 (by omega) ?_
      refine j_aload_n M dX2_layTurn_97 0 rfl ?_
      refine m_get M 17 (by decide) q1259 rfl dX2_layTurn_98 ?_
      refine j_iload_n M dX2_layTurn_101 3 rfl ?_
      refine m_ald M hm (n := 9) 17 (by decide) rfl dX2_layTurn_102 (by omega) ?_
      try simp only [upN, reduceIte, Nat.reduceEqDiff]
      refine j_rV (k_S M (m_common l X _ _ _ (by omega) (by omega)) (lw_S q1479 q1480 q102 q1481) ndX2_common dX2_layTurn_103 ⟨by decide, by decide, by decide, by decide⟩ rfl (Nat.le_of_ble_eq_true rfl)) ?_
      refine j_idivE M dX2_layTurn_106 (by omega) (by omega) ?_
      refine j_aload_n M dX2_layTurn_107 0 rfl ?_
      refine m_get M 17 (by decide) q1259 rfl dX2_layTurn_108 ?_
      refine j_iload_n M dX2_layTurn_111 3 rfl ?_
      refine m_ald M hm (n := 9) 17 (by decide) rfl dX2_layTurn_112 (by omega) ?_
      refine j_imul M dX2_layTurn_113 ?_
      refine m_ast M hm (n := 9) 17 (by decide) (fun _ => rfl) dX2_layTurn_114 (by omega) ?_
      refine j_aload_n M dX2_layTurn_115 0 rfl ?_
      refine m_get M 1 (by decide) q1243 rfl dX2_layTurn_116 ?_
      refine j_iload_n M dX2_layTurn_119 1 rfl ?_
      refine m_ald M hm (n := 9) 1 (by decide) rfl dX2_layTurn_120 (by omega) ?_
      refine j_iconst M dX2_layTurn_121 ?_
      try simp only [upN, reduceIte, Nat.reduceEqDiff]
      refine j_icmp_ne M 217 dX2_layTurn_122 (by decide) (by omega) (fun c_122 => ?_) (fun c_122 => ?_)
      · refine j_vret M dX2_layTurn_217 ⟨Nat.le_refl _, Nat.le_refl _⟩ ?_
        try simp only [upN, reduceIte, Nat.reduceEqDiff]
        refine ⟨trivial, v, pLcm (t 17 of) (t 17 q), rfl, by omega, hlcm, ?_⟩
        have p1 := (hLo.2.2.1.late hv1).dvd (pLcm_l hbo.2.1 hbq.2.1) hlp
        have p2 := (hLq.2.2.1.late hv2).dvd (pLcm_r hbo.2.1 hbq.2.1) hlp
        rcases (show t 1 i = 1 ∨ t 1 i = 2 ∨ t 1 i = 4 by omega) with e | e | e
        · have eq : q = t 2 (4 * i + 1) := by omega
          exact (Per.two (fun a b => (a + b) % m) p1 p2).congr (fun n _ => by rw [pRest_sum hr hi.1 hi.2 e, hof, ← eq])
        · have eq : q = t 2 (4 * i + 1) := by omega
          exact (Per.two (fun a b => (a * b) % m) p1 p2).congr (fun n _ => by rw [pRest_product hr hi.1 hi.2 e, hof, ← eq])
        · exact (Per.next (fun a b => (a - b) % m) p1).congr (fun n _ => by rw [pRest_step hr hi.1 hi.2 e, hof])
      · have he := rOk_each (hr i hi.1 hi.2) c_122
        have eq : q = of := by omega
        have h3 := each_dvd (L := t 17 of) (p := t 2 (4 * i + 1)) hbo.2.1 (by omega)
        have hgp3 := pGcd_pos (b := t 2 (4 * i + 1)) hbo.2.1
        have hgl3 := dvd_le (pGcd_l (a := t 17 of) (b := t 2 (4 * i + 1)) (by omega)) hbo.2.1
        refine j_aload_n M dX2_layTurn_125 0 rfl ?_
        refine m_get M 16 (by decide) q1258 rfl dX2_layTurn_126 ?_
        refine j_iload_n M dX2_layTurn_129 2 rfl ?_
        refine m_ald M hm (n := 9) 16 (by decide) rfl dX2_layTurn_130 (by omega) ?_
        refine j_aload_n M dX2_layTurn_131 0 rfl ?_
        refine m_get M 2 (by decide) q1244 rfl dX2_layTurn_132 ?_
        refine j_iconst M dX2_layTurn_135 ?_
        refine j_iload_n M dX2_layTurn_136 1 rfl ?_
        refine j_imul M dX2_layTurn_137 ?_
        refine j_iconst M dX2_layTurn_138 ?_
        refine j_iadd M dX2_layTurn_139 ?_
        refine m_ald M hm (n := 36) 2 (by decide) rfl dX2_layTurn_140 (by omega) ?_
        refine j_isub M dX2_layTurn_141 ?_
        try simp only [upN, reduceIte, Nat.reduceEqDiff]
        rw [upA_n _ _ hne]
        refine j_istore M dX2_layTurn_142 (by decide) ?_
        refine j_aload_n M dX2_layTurn_144 0 rfl ?_
        refine m_get M 16 (by decide) q1258 rfl dX2_layTurn_145 ?_
        refine j_iload_n M dX2_layTurn_148 1 rfl ?_
        refine j_iload M dX2_layTurn_149 4 rfl ?_
        refine j_if_gt M 158 dX2_layTurn_151 (by decide) (by omega) (fun c_151 => ?_) (fun c_151 => ?_)
        · refine j_iload M dX2_layTurn_158 4 rfl ?_
          refine j_aload_n M dX2_layTurn_160 0 rfl ?_
          refine m_get M 2 (by decide) q1244 rfl dX2_layTurn_161 ?_
          refine j_iconst M dX2_layTurn_164 ?_
          refine j_iload_n M dX2_layTurn_165 1 rfl ?_
          refine j_imul M dX2_layTurn_166 ?_
          refine j_iconst M dX2_layTurn_167 ?_
          refine j_iadd M dX2_layTurn_168 ?_
          refine m_ald M hm (n := 36) 2 (by decide) rfl dX2_layTurn_169 (by omega) ?_
          refine j_iadd M dX2_layTurn_170 ?_
          refine j_iconst M dX2_layTurn_171 ?_
          refine j_isub M dX2_layTurn_172 ?_
          refine j_aload_n M dX2_layTurn_173 0 rfl ?_
          refine m_get M 2 (by decide) q1244 rfl dX2_layTurn_174 ?_
          refine j_iconst M dX2_layTurn_177 ?_
          refine j_iload_n M dX2_layTurn_178 1 rfl ?_
          refine j_imul M dX2_layTurn_179 ?_
          refine j_iconst M dX2_layTurn_180 ?_
          refine j_iadd M dX2_layTurn_181 ?_
          refine m_ald M hm (n := 36) 2 (by decide) rfl dX2_layTurn_182 (by omega) ?_
          try simp only [upN, reduceIte, Nat.reduceEqDiff]
          refine j_idivE M dX2_layTurn_183 (by omega) (by omega) ?_
          refine m_ast M hm (n := 9) 16 (by decide) (fun _ => rfl) dX2_layTurn_184 (by omega) ?_
          refine j_aload_n M dX2_layTurn_185 0 rfl ?_
          refine m_get M 17 (by decide) q1259 rfl dX2_layTurn_186 ?_
          refine j_iload_n M dX2_layTurn_189 1 rfl ?_
          refine j_aload_n M dX2_layTurn_190 0 rfl ?_
          refine m_get M 17 (by decide) q1259 rfl dX2_layTurn_191 ?_
          refine j_iload_n M dX2_layTurn_194 2 rfl ?_
          refine m_ald M hm (n := 9) 17 (by decide) rfl dX2_layTurn_195 (by omega) ?_
          refine j_aload_n M dX2_layTurn_196 0 rfl ?_
          refine m_get M 17 (by decide) q1259 rfl dX2_layTurn_197 ?_
          refine j_iload_n M dX2_layTurn_200 2 rfl ?_
          refine m_ald M hm (n := 9) 17 (by decide) rfl dX2_layTurn_201 (by omega) ?_
          refine j_aload_n M dX2_layTurn_202 0 rfl ?_
          refine m_get M 2 (by decide) q1244 rfl dX2_layTurn_203 ?_
          refine j_iconst M dX2_layTurn_206 ?_
          refine j_iload_n M dX2_layTurn_207 1 rfl ?_
          refine j_imul M dX2_layTurn_208 ?_
          refine j_iconst M dX2_layTurn_209 ?_
          refine j_iadd M dX2_layTurn_210 ?_
          refine m_ald M hm (n := 36) 2 (by decide) rfl dX2_layTurn_211 (by omega) ?_
          try simp only [upN, reduceIte, Nat.reduceEqDiff]
          rw [upA_n _ _ hne]
          refine j_rV (k_S M (m_common l X _ _ _ (by omega) (by omega)) (lw_S q1479 q1480 q102 q1481) ndX2_common dX2_layTurn_212 ⟨by decide, by decide, by decide, by decide⟩ rfl (Nat.le_of_ble_eq_true rfl)) ?_
          refine j_idivE M dX2_layTurn_215 (by omega) (by omega) ?_
          refine m_ast M hm (n := 9) 17 (by decide) (fun _ => rfl) dX2_layTurn_216 (by omega) ?_
          refine j_vret M dX2_layTurn_217 ⟨Nat.le_refl _, Nat.le_refl _⟩ ?_
          try simp only [upN, reduceIte, Nat.reduceEqDiff]
          rw [upN_4 _ (by decide), upA_uu, upA_uu]
          have d0 : 0 ≤ (t 16 of - t 2 (4 * i + 2) + t 2 (4 * i + 1) - 1) / t 2 (4 * i + 1) := Int.ediv_nonneg (by omega) (by omega)
          have d1 := Int.mul_ediv_add_emod (t 16 of - t 2 (4 * i + 2) + t 2 (4 * i + 1) - 1) (t 2 (4 * i + 1))
          have d2 := Int.emod_lt_of_pos (t 16 of - t 2 (4 * i + 2) + t 2 (4 * i + 1) - 1) (show 0 < t 2 (4 * i + 1) by omega)
          have d3 := Int.emod_nonneg (t 16 of - t 2 (4 * i + 2) + t 2 (4 * i + 1) - 1) (show t 2 (4 * i + 1) ≠ 0 by omega)
          have d4 : (t 16 of - t 2 (4 * i + 2) + t 2 (4 * i + 1) - 1) / t 2 (4 * i + 1) ≤ 6 := by
            refine Int.le_trans (Int.ediv_le_ediv (show 0 < t 2 (4 * i + 1) by omega) (show t 16 of - t 2 (4 * i + 2) + t 2 (4 * i + 1) - 1 ≤ 6 * t 2 (4 * i + 1) by omega)) ?_
            rw [Int.mul_ediv_cancel _ (by omega)]; exact Int.le_refl _
          refine ⟨trivial, _, _, rfl, ⟨d0, d4⟩, Int.dvd_trans h3.2.1 hLo.2.1, ?_⟩
          exact (Per.each (q := t 2 (4 * i + 2)) hLo.2.2.1 d0 h3.1 (by omega) (by omega) h3.2.2).congr (fun n _ => by rw [pRest_each hr hi.1 hi.2 c_122, hof])
        · refine j_iconst M dX2_layTurn_154 ?_
          refine j_goto M 184 dX2_layTurn_155 (by decide) ?_
          refine m_ast M hm (n := 9) 16 (by decide) (fun _ => rfl) dX2_layTurn_184 (by omega) ?_
          refine j_aload_n M dX2_layTurn_185 0 rfl ?_
          refine m_get M 17 (by decide) q1259 rfl dX2_layTurn_186 ?_
          refine j_iload_n M dX2_layTurn_189 1 rfl ?_
          refine j_aload_n M dX2_layTurn_190 0 rfl ?_
          refine m_get M 17 (by decide) q1259 rfl dX2_layTurn_191 ?_
          refine j_iload_n M dX2_layTurn_194 2 rfl ?_
          refine m_ald M hm (n := 9) 17 (by decide) rfl dX2_layTurn_195 (by omega) ?_
          refine j_aload_n M dX2_layTurn_196 0 rfl ?_
          refine m_get M 17 (by decide) q1259 rfl dX2_layTurn_197 ?_
          refine j_iload_n M dX2_layTurn_200 2 rfl ?_
          refine m_ald M hm (n := 9) 17 (by decide) rfl dX2_layTurn_201 (by omega) ?_
          refine j_aload_n M dX2_layTurn_202 0 rfl ?_
          refine m_get M 2 (by decide) q1244 rfl dX2_layTurn_203 ?_
          refine j_iconst M dX2_layTurn_206 ?_
          refine j_iload_n M dX2_layTurn_207 1 rfl ?_
          refine j_imul M dX2_layTurn_208 ?_
          refine j_iconst M dX2_layTurn_209 ?_
          refine j_iadd M dX2_layTurn_210 ?_
          refine m_ald M hm (n := 36) 2 (by decide) rfl dX2_layTurn_211 (by omega) ?_
          try simp only [upN, reduceIte, Nat.reduceEqDiff]
          rw [upA_n _ _ hne]
          refine j_rV (k_S M (m_common l X _ _ _ (by omega) (by omega)) (lw_S q1479 q1480 q102 q1481) ndX2_common dX2_layTurn_212 ⟨by decide, by decide, by decide, by decide⟩ rfl (Nat.le_of_ble_eq_true rfl)) ?_
          refine j_idivE M dX2_layTurn_215 (by omega) (by omega) ?_
          refine m_ast M hm (n := 9) 17 (by decide) (fun _ => rfl) dX2_layTurn_216 (by omega) ?_
          refine j_vret M dX2_layTurn_217 ⟨Nat.le_refl _, Nat.le_refl _⟩ ?_
          try simp only [upN, reduceIte, Nat.reduceEqDiff]
          rw [upN_4 _ (by decide), upA_uu, upA_uu]
          refine ⟨trivial, _, _, rfl, by omega, Int.dvd_trans h3.2.1 hLo.2.1, ?_⟩
          exact (Per.each (q := t 2 (4 * i + 2)) hLo.2.2.1 (Int.le_refl 0) h3.1 (by omega) (by omega) h3.2.2).congr (fun n _ => by rw [pRest_each hr hi.1 hi.2 c_122, hof])
    refine j_aload_n M dX2_layTurn_44 0 rfl ?_
    refine m_get M 16 (by decide) q1258 rfl dX2_layTurn_45 ?_
    refine j_iload_n M dX2_layTurn_48 1 rfl ?_
    refine j_aload_n M dX2_layTurn_49 0 rfl ?_
    refine m_get M 16 (by decide) q1258 rfl dX2_layTurn_50 ?_
    refine j_iload_n M dX2_layTurn_53 2 rfl ?_
    refine m_ald M hm (n := 9) 16 (by decide) rfl dX2_layTurn_54 (by omega) ?_
    refine j_aload_n M dX2_layTurn_55 0 rfl ?_
    refine m_get M 16 (by decide) q1258 rfl dX2_layTurn_56 ?_
    refine j_iload_n M dX2_layTurn_59 3 rfl ?_
    refine m_ald M hm (n := 9) 16 (by decide) rfl dX2_layTurn_60 (by omega) ?_
    refine j_icmp_le M 73 dX2_layTurn_61 (by decide) (by omega) (fun c_61 => ?_) (fun c_61 => ?_)
    · refine j_aload_n M dX2_layTurn_73 0 rfl ?_
      refine m_get M 16 (by decide) q1258 rfl dX2_layTurn_74 ?_
      refine j_iload_n M dX2_layTurn_77 3 rfl ?_
      refine m_ald M hm (n := 9) 16 (by decide) rfl dX2_layTurn_78 (by omega) ?_
      exact k79 _ (Or.inr rfl) (by omega) (by omega)
    · refine j_aload_n M dX2_layTurn_64 0 rfl ?_
      refine m_get M 16 (by decide) q1258 rfl dX2_layTurn_65 ?_
      refine j_iload_n M dX2_layTurn_68 2 rfl ?_
      refine m_ald M hm (n := 9) 16 (by decide) rfl dX2_layTurn_69 (by omega) ?_
      refine j_goto M 79 dX2_layTurn_70 (by decide) ?_
      exact k79 _ (Or.inl rfl) (by omega) (by omega)
  refine j_aload_n M dX2_layTurn_0 0 rfl ?_
  refine m_get M 2 (by decide) q1244 rfl dX2_layTurn_1 ?_
  refine j_iconst M dX2_layTurn_4 ?_
  refine j_iload_n M dX2_layTurn_5 1 rfl ?_
  refine j_imul M dX2_layTurn_6 ?_
  refine m_ald M hm (n := 36) 2 (by decide) rfl dX2_layTurn_7 (by omega) ?_
  rw [hof]
  refine j_istore_n M dX2_layTurn_8 (by decide) ?_
  refine j_aload_n M dX2_layTurn_9 0 rfl ?_
  refine m_get M 1 (by decide) q1243 rfl dX2_layTurn_10 ?_
  refine j_iload_n M dX2_layTurn_13 1 rfl ?_
  refine m_ald M hm (n := 9) 1 (by decide) rfl dX2_layTurn_14 (by omega) ?_
  refine j_iconst M dX2_layTurn_15 ?_
  refine j_icmp_eq M 29 dX2_layTurn_16 (by decide) (by omega) (fun c_16 => ?_) (fun c_16 => ?_)
  · refine j_aload_n M dX2_layTurn_29 0 rfl ?_
    refine m_get M 2 (by decide) q1244 rfl dX2_layTurn_30 ?_
    refine j_iconst M dX2_layTurn_33 ?_
    refine j_iload_n M dX2_layTurn_34 1 rfl ?_
    refine j_imul M dX2_layTurn_35 ?_
    refine j_iconst M dX2_layTurn_36 ?_
    refine j_iadd M dX2_layTurn_37 ?_
    refine m_ald M hm (n := 36) 2 (by decide) rfl dX2_layTurn_38 (by omega) ?_
    refine j_goto M 43 dX2_layTurn_39 (by decide) ?_
    refine j_istore_n M dX2_layTurn_43 (by decide) ?_
    exact k44 _ (rOk_part2 (hr i hi.1 hi.2) (by omega)) (by omega)
  · refine j_aload_n M dX2_layTurn_19 0 rfl ?_
    refine m_get M 1 (by decide) q1243 rfl dX2_layTurn_20 ?_
    refine j_iload_n M dX2_layTurn_23 1 rfl ?_
    refine m_ald M hm (n := 9) 1 (by decide) rfl dX2_layTurn_24 (by omega) ?_
    refine j_iconst M dX2_layTurn_25 ?_
    refine j_icmp_ne M 42 dX2_layTurn_26 (by decide) (by omega) (fun c_26 => ?_) (fun c_26 => ?_)
    · refine j_iload_n M dX2_layTurn_42 2 rfl ?_
      refine j_istore_n M dX2_layTurn_43 (by decide) ?_
      exact k44 _ (by omega) (by omega)
    · refine j_aload_n M dX2_layTurn_29 0 rfl ?_
      refine m_get M 2 (by decide) q1244 rfl dX2_layTurn_30 ?_
      refine j_iconst M dX2_layTurn_33 ?_
      refine j_iload_n M dX2_layTurn_34 1 rfl ?_
      refine j_imul M dX2_layTurn_35 ?_
      refine j_iconst M dX2_layTurn_36 ?_
      refine j_iadd M dX2_layTurn_37 ?_
      refine m_ald M hm (n := 36) 2 (by decide) rfl dX2_layTurn_38 (by omega) ?_
      refine j_goto M 43 dX2_layTurn_39 (by decide) ?_
      refine j_istore_n M dX2_layTurn_43 (by decide) ?_
      exact k44 _ (rOk_part2 (hr i hi.1 hi.2) (by omega)) (by omega)
theorem rKeep.tr {t t1 t2 : Nat → Int → Int} (a : rKeep t t1) (b : rKeep t1 t2) : rKeep t t2 := fun k k1 k2 k3 k4 => (b k k1 k2 k3 k4).trans (a k k1 k2 k3 k4)
theorem rRow.keep {m : Int} {t t1 : Nat → Int → Int} {i : Int} {s : Int → Int} (h : rRow m t i s) (e1 : t1 16 i = t 16 i) (e2 : t1 17 i = t 17 i) (e3 : ∀ k, 0 ≤ k → k < 512 → t1 18 (512 * i + k) = t 18 (512 * i + k)) : rRow m t1 i s := by
  have hb := h.bd
  unfold rRow at *
  rw [e1, e2]
  exact ⟨h.1, h.2.1, h.2.2.1, fun k k0 k1 => by rw [e3 k k0 (by omega)]; exact h.2.2.2.1 k k0 k1, h.2.2.2.2⟩
theorem rPut.laid {m : Int} {t t1 : Nat → Int → Int} {i j : Int} {s s2 : Int → Int} (h : rPut m t t1 i s) (hj : j ≠ i) (h2 : rRow m t j s2) : rRow m t1 j s2 :=
  h2.keep (h.2.2.1 j hj).1 (h.2.2.1 j hj).2 (fun k k0 k1 => h.2.2.2 _ (by omega))
theorem m_layRest (hm : mOk σ) (m N i : Int) (hN : N ≤ 8) (hi : 0 ≤ i ∧ i < N) (hm2 : 2 ≤ m ∧ m ≤ 10) (hr : rsOk (t 1) (t 2) N) (hL : rsLaid m t i) : Ct l X yX2_layRest cX2_layRest 4 none (rD 2) [.ref σ.1, .int (zI i), .int (zI m)] (mH X σ f t)
    (fun r hp => r = none ∧ ∃ t', hp = mH X σ f t' ∧ rPut m t t' i (pRest m (t 1) (t 2) i)) := by
  have hK := rOk_k (hr i hi.1 hi.2)
  have hE := pE_r m
  have hrr := fun j k => pRest_r (show 0 < m by omega) (t 1) (t 2) j k
  refine Ct.of (by decide) (Nat.le_of_ble_eq_true rfl) (fun Γ M => ?_)
  refine j_lv (lv' := [(0, .ref σ.1), (1, .int (zI i)), (2, .int (zI m))]) rfl ?_
  have loop : ∀ (w : Nat) (k ld tn : Int) (g : Int → Int), t 1 i ≠ 0 → w = (ld + tn - k).toNat → 0 ≤ k ∧ k ≤ ld + tn → (0 ≤ ld ∧ ld ≤ 6) → tn ∣ pE m → Per (pRest m (t 1) (t 2) i) ld tn → (∀ j, 0 ≤ j → j < k → g (512 * i + j) = pRest m (t 1) (t 2) i j) → (∀ j, (j < 512 * i ∨ 512 * i + 512 ≤ j) → g j = t 18 j) →
      J Γ (mH X σ f (upN (upN (upN t 16 (upA (t 16) i ld)) 17 (upA (t 17) i tn)) 18 g)) 0 0 23 [(0, .ref σ.1), (1, .int (zI i)), (2, .int (zI m)), (3, .int (zI k))] [] := by
    intro w
    induction w using Nat.strongRecOn with
    | _ w ih =>
      intro k ld tn g hk0 hw hk h1 h2 h3 hg hg2
      have hle := dvd_le h2 hE.1
      have htn := h3.2.1
      have hz := hrr i k
      refine j_iload_n M dX2_layRest_23 3 rfl ?_
      refine j_aload_n M dX2_layRest_24 0 rfl ?_
      refine m_get M 16 (by decide) q1258 rfl dX2_layRest_25 ?_
      refine j_iload_n M dX2_layRest_28 1 rfl ?_
      refine m_ald M hm (n := 9) 16 (by decide) rfl dX2_layRest_29 (by omega) ?_
      refine j_aload_n M dX2_layRest_30 0 rfl ?_
      refine m_get M 17 (by decide) q1259 rfl dX2_layRest_31 ?_
      refine j_iload_n M dX2_layRest_34 1 rfl ?_
      refine m_ald M hm (n := 9) 17 (by decide) rfl dX2_layRest_35 (by omega) ?_
      refine j_iadd M dX2_layRest_36 ?_
      try simp only [upN, reduceIte, Nat.reduceEqDiff]
      rw [upA_s, upA_s]
      refine j_icmp_ge M 66 dX2_layRest_37 (by decide) (by omega) (fun c_37 => ?_) (fun c_37 => ?_)
      · refine j_vret M dX2_layRest_66 ⟨Nat.le_refl _, Nat.le_refl _⟩ ?_
        refine ⟨rfl, _, rfl, ?_⟩
        refine ⟨fun q q1 q2 q3 q4 => ?_, ⟨?_, ?_, ?_, ?_, ?_⟩, ?_, ?_⟩
        · rw [upN_n _ _ q3, upN_n _ _ q2, upN_n _ _ q1]
        · show 0 ≤ upA (t 16) i ld i ∧ upA (t 16) i ld i ≤ 6; rw [upA_s]; exact h1
        · show upA (t 17) i tn i ∣ pE m; rw [upA_s]; exact h2
        · show Per _ (upA (t 16) i ld i) (upA (t 17) i tn i); rw [upA_s, upA_s]; exact h3
        · intro j j0 j1
          replace j1 : j < upA (t 16) i ld i + upA (t 17) i tn i := j1
          rw [upA_s, upA_s] at j1
          exact hg j j0 (by omega)
        · intro j; have := hrr i j; omega
        · intro j hj
          show upA (t 16) i ld j = _ ∧ upA (t 17) i tn j = _
          rw [upA_n _ _ hj, upA_n _ _ hj]; exact ⟨rfl, rfl⟩
        · exact hg2
      · refine j_aload_n M dX2_layRest_40 0 rfl ?_
        refine m_get M 18 (by decide) q1260 rfl dX2_layRest_41 ?_
        refine j_sipush M dX2_layRest_44 (by decide) ?_
        refine j_iload_n M dX2_layRest_47 1 rfl ?_
        refine j_imul M dX2_layRest_48 ?_
        refine j_iload_n M dX2_layRest_49 3 rfl ?_
        refine j_iadd M dX2_layRest_50 ?_
        refine j_aload_n M dX2_layRest_51 0 rfl ?_
        refine j_iload_n M dX2_layRest_52 1 rfl ?_
        refine j_iload_n M dX2_layRest_53 3 rfl ?_
        refine j_iload_n M dX2_layRest_54 2 rfl ?_
        refine j_rV (k_V M (m_madeRest l X σ f (upN (upN (upN t 16 (upA (t 16) i ld)) 17 (upA (t 17) i tn)) 18 g) hm m N i k hN hi (by omega) hm2 hr hk0 (fun j j0 j1 => (hL j j0 j1).keep (by show upA (t 16) i ld j = _; rw [upA_n _ _ (by omega)]) (by show upA (t 17) i tn j = _; rw [upA_n _ _ (by omega)]) (fun q q0 q1 => hg2 _ (by omega)))) (m_rc M) (lw_V q1482 q1484 qs56 q102 q1485) ndX2_madeRest dX2_layRest_55 ⟨by decide, by decide, by decide, by decide⟩ rfl (Nat.le_of_ble_eq_true rfl)) ?_
        try simp only [upN, reduceIte, Nat.reduceEqDiff]
        refine j_i2b M dX2_layRest_58 (by omega) ?_
        refine m_bst M hm (n := 4608) 18 (by decide) (fun _ => rfl) dX2_layRest_59 (by omega) (by omega) ?_
        refine j_iinc M dX2_layRest_60 3 rfl (by decide) ?_
        refine j_goto M 23 dX2_layRest_63 (by decide) ?_
        simp only [upN_s, upN_uu]
        refine ih _ (by omega) (k + 1) ld tn _ hk0 rfl (by omega) h1 h2 h3 (fun j j0 j1 => ?_) (fun j hj => ?_)
        · by_cases e : j = k
          · rw [e, upA_s]
          · rw [upA_n _ _ (by omega)]; exact hg j j0 (by omega)
        · rw [upA_n _ _ (by omega)]; exact hg2 j hj
  refine j_aload_n M dX2_layRest_0 0 rfl ?_
  refine m_get M 1 (by decide) q1243 rfl dX2_layRest_1 ?_
  refine j_iload_n M dX2_layRest_4 1 rfl ?_
  refine m_ald M hm (n := 9) 1 (by decide) rfl dX2_layRest_5 (by omega) ?_
  refine j_if_ne M 16 dX2_layRest_6 (by decide) (by omega) (fun c_6 => ?_) (fun c_6 => ?_)
  · refine j_aload_n M dX2_layRest_16 0 rfl ?_
    refine j_iload_n M dX2_layRest_17 1 rfl ?_
    refine j_run (k_V M (m_layTurn l X σ f t hm m N i hN hi hm2 hr c_6 hL) (m_rc M) (lw_V q1475 q1477 qs55 q102 q1478) ndX2_layTurn dX2_layRest_18 ⟨by decide, by decide, by decide, by decide⟩ rfl (Nat.le_of_ble_eq_true rfl)) (fun r_18 hp_18 hq_18 => ?_)
    obtain ⟨rfl, ld, tn, rfl, h1, h2, h3⟩ := hq_18
    refine j_iconst M dX2_layRest_21 ?_
    refine j_istore_n M dX2_layRest_22 (by decide) ?_
    have htn := h3.2.1
    refine j_hp (hp' := mH X σ f (upN (upN (upN t 16 (upA (t 16) i ld)) 17 (upA (t 17) i tn)) 18 (t 18))) ?_ (loop _ 0 ld tn (t 18) c_6 rfl (by omega) h1 h2 h3 (fun j j0 j1 => by omega) (fun _ _ => rfl))
    congr 1
    exact (upN_id (upN (upN t 16 (upA (t 16) i ld)) 17 (upA (t 17) i tn)) 18).symm
  · have ht := rOk_told (hr i hi.1 hi.2) c_6
    refine j_aload_n M dX2_layRest_9 0 rfl ?_
    refine j_iload_n M dX2_layRest_10 1 rfl ?_
    refine j_iload_n M dX2_layRest_11 2 rfl ?_
    refine j_run (k_V M (m_layTold l X σ f t hm m i (by omega) hm2 ht.1 ht.2.1 (by omega) (by omega)) (m_rc M) (lw_V q1468 q1470 qs54 q102 q1471) ndX2_layTold dX2_layRest_12 ⟨by decide, by decide, by decide, by decide⟩ rfl (Nat.le_of_ble_eq_true rfl)) (fun r_12 hp_12 hq_12 => ?_)
    obtain ⟨rfl, t', rfl, hq⟩ := hq_12
    refine j_vret M dX2_layRest_15 ⟨Nat.le_refl _, Nat.le_refl _⟩ ?_
    refine ⟨rfl, t', rfl, ?_⟩
    rw [show pRest m (t 1) (t 2) i = fun n => (pTr m (t 2 (4 * i)) (t 2 (4 * i + 1)) (t 2 (4 * i + 2)) (t 2 (4 * i + 3)) n.toNat).1 from funext fun n => pRest_told c_6]
    exact hq
theorem m_layRests (hm : mOk σ) (m : Int) (h0 : 0 ≤ f 0 ∧ f 0 ≤ 8) (hm2 : 2 ≤ m ∧ m ≤ 10) (h14 : r32 (f 14)) (hr : rsOk (t 1) (t 2) (f 0)) (hL : f 14 = m → rsLaid m t (f 0)) : Ct l X yX2_layRests cX2_layRests 3 none (rD 3) [.ref σ.1, .int (zI m)] (mH X σ f t)
    (fun r hp => r = none ∧ ∃ t', hp = mH X σ (upN f 14 m) t' ∧ rKeep t t' ∧ rsLaid m t' (f 0)) := by
  refine Ct.of (by decide) (Nat.le_of_ble_eq_true rfl) (fun Γ M => ?_)
  refine j_lv (lv' := [(0, .ref σ.1), (1, .int (zI m))]) rfl ?_
  have loop : ∀ (w : Nat) (k : Int) (t1 : Nat → Int → Int), w = (f 0 - k).toNat → 0 ≤ k ∧ k ≤ f 0 → rKeep t t1 → rsLaid m t1 k →
      J Γ (mH X σ (upN f 14 m) t1) 0 0 16 [(0, .ref σ.1), (1, .int (zI m)), (2, .int (zI k))] [] := by
    intro w
    induction w using Nat.strongRecOn with
    | _ w ih =>
      intro k t1 hw hk hkeep hl1
      have e1 : t1 1 = t 1 := hkeep 1 (by decide) (by decide) (by decide) (by decide)
      have e2 : t1 2 = t 2 := hkeep 2 (by decide) (by decide) (by decide) (by decide)
      refine j_iload_n M dX2_layRests_16 2 rfl ?_
      refine j_aload_n M dX2_layRests_17 0 rfl ?_
      refine m_get M 0 (by decide) q1242 rfl dX2_layRests_18 ?_
      try simp only [upN, reduceIte, Nat.reduceEqDiff]
      refine j_icmp_ge M 36 dX2_layRests_21 (by decide) (by omega) (fun c_21 => ?_) (fun c_21 => ?_)
      · refine j_vret M dX2_layRests_36 ⟨Nat.le_refl _, Nat.le_refl _⟩ ?_
        exact ⟨rfl, t1, rfl, hkeep, by rw [show f 0 = k by omega]; exact hl1⟩
      · refine j_aload_n M dX2_layRests_24 0 rfl ?_
        refine j_iload_n M dX2_layRests_25 2 rfl ?_
        refine j_iload_n M dX2_layRests_26 1 rfl ?_
        refine j_run (k_V M (m_layRest l X σ (upN f 14 m) t1 hm m (f 0) k h0.2 (by omega) hm2 (by rw [e1, e2]; exact hr) hl1) (m_rc M) (lw_V q1464 q1466 qs53 q102 q1467) ndX2_layRest dX2_layRests_27 ⟨by decide, by decide, by decide, by decide⟩ rfl (Nat.le_of_ble_eq_true rfl)) (fun r_27 hp_27 hq_27 => ?_)
        obtain ⟨rfl, t2, rfl, hq⟩ := hq_27
        refine j_iinc M dX2_layRests_30 2 rfl (by decide) ?_
        refine j_goto M 16 dX2_layRests_33 (by decide) ?_
        refine ih _ (by omega) (k + 1) t2 rfl (by omega) (hkeep.tr hq.1) (fun j j0 j1 => ?_)
        have e3 : t2 1 = t1 1 := hq.1 1 (by decide) (by decide) (by decide) (by decide)
        have e4 : t2 2 = t1 2 := hq.1 2 (by decide) (by decide) (by decide) (by decide)
        rw [e3, e4]
        by_cases e : j = k
        · rw [e]; exact hq.2.1
        · exact hq.laid e (hl1 j j0 (by omega))
  refine j_aload_n M dX2_layRests_0 0 rfl ?_
  refine m_get M 14 (by decide) q1256 rfl dX2_layRests_1 ?_
  refine j_iload_n M dX2_layRests_4 1 rfl ?_
  refine j_icmp_ne M 9 dX2_layRests_5 (by decide) (by omega) (fun c_5 => ?_) (fun c_5 => ?_)
  · refine j_aload_n M dX2_layRests_9 0 rfl ?_
    refine j_iload_n M dX2_layRests_10 1 rfl ?_
    refine m_put M 14 (by decide) q1256 dX2_layRests_11 ?_
    refine j_iconst M dX2_layRests_14 ?_
    refine j_istore_n M dX2_layRests_15 (by decide) ?_
    exact loop _ 0 t rfl (by omega) (fun _ _ _ _ _ => rfl) (fun j j0 j1 => by omega)
  · refine j_vret M dX2_layRests_8 ⟨Nat.le_refl _, Nat.le_refl _⟩ ?_
    exact ⟨rfl, t, by rw [← c_5, upN_id], fun _ _ _ _ _ => rfl, hL c_5⟩
end M4
