/-! 33: the reference: digest -/
set_option maxRecDepth 100000
def pMixN (g : Int → Int) : Nat → Int → Int
  | 0, h => h
  | n + 1, h => 31 * pMixN g n h + g n
theorem pMixN_congr {g g' : Int → Int} (n : Nat) (h : Int) (e : ∀ k : Nat, k < n → g k = g' k) : pMixN g n h = pMixN g' n h := by
  induction n with
  | zero => rfl
  | succ n ih => unfold pMixN; rw [ih (fun k hk => e k (by omega)), e n (by omega)]
noncomputable def pMixRow (K P : Int → Int) (h i : Int) : Int := 31 * pMixN (pLapW (pRest 5 K P i)) 3 (31 * pMixN (pTerm K P i) 8 (pMixN (fun k => P (4 * i + k)) 4 (31 * h + K i)) + pRest 7 K P i 1000000) + (pBits (pTerm K P i) 24).toInt
noncomputable def pMixRows (K P : Int → Int) : Nat → Int
  | 0 => 1493
  | k + 1 => pMixRow K P (pMixRows K P k) k
noncomputable def vDigest (n : Int) (K P : Int → Int) (gn : Int) (G : Int → Int) (pl : Int) (B : Int → Int) (rd : Int) : Int := pMixN (vCount n K P gn pl rd) 6 (pMixN B pl.toNat (pMixN (pGuessW G gn) 3 (pMixN G gn.toNat (pMixRows K P n.toNat))))
theorem MI.h32 {c v : Int} {f : Nat → Int} {t : Nat → Int → Int} (h : MI c f t) : MI c (upN f 32 v) t := h
/-- seen from outside the same, but the sum h -/
def mSam (f : Nat → Int) (t : Nat → Int → Int) (f' : Nat → Int) (t' : Nat → Int → Int) : Prop := mSame (upN f 32 (f' 32)) t f' t'
theorem mSam.rfl {f : Nat → Int} {t : Nat → Int → Int} : mSam f t f t := by unfold mSam; rw [upN_id]; exact mSame.rfl
theorem mSam.put {f f' : Nat → Int} {t t' : Nat → Int → Int} (h : mSam f t f' t') (v : Int) : mSam f t (upN f' 32 v) t' := by
  refine ⟨fun k hk => ?_, h.2.1, h.2.2⟩
  by_cases e : k = 32
  · subst e; simp only [upN_s]
  · have := h.1 k hk
    rw [upN_n _ _ e, upN_n _ _ e]
    rw [upN_n _ _ e] at this
    exact this
theorem mSam.tr {f f1 f2 : Nat → Int} {t t1 t2 : Nat → Int → Int} (a : mSam f t f1 t1) (b : mSame f1 t1 f2 t2) : mSam f t f2 t2 := by
  have e : f2 32 = f1 32 := b.1 32 (by decide)
  unfold mSam
  rw [e]
  exact mSame.tr a b
theorem mSam.tr2 {f f1 f2 : Nat → Int} {t t1 t2 : Nat → Int → Int} (a : mSam f t f1 t1) (b : mSam f1 t1 f2 t2) : mSam f t f2 t2 := by
  have h := a.put (f2 32)
  unfold mSam at h b ⊢
  rw [upN_s] at h
  exact mSame.tr h b
theorem mSam.f {f f' : Nat → Int} {t t' : Nat → Int → Int} (h : mSam f t f' t') (k : Nat) (hk : k ∈ [0, 3, 4, 6, 26, 27, 28]) : f' k = f k := by
  have := h.1 k (by simp only [List.mem_cons, List.not_mem_nil, or_false] at hk ⊢; omega)
  rw [upN_n _ _ (by simp only [List.mem_cons, List.not_mem_nil, or_false] at hk; omega)] at this
  exact this
section M14
variable (l : Launch) (X : Cx) (σ : Ms) (f : Nat → Int) (t : Nat → Int → Int)
theorem m_mix (v : Int) : CM l X σ yX2_mix cX2_mix 3 none 0 [.long (zL v)] f t none (upN f 32 (31 * f 32 + v)) t := by
  refine Ct.of (by decide) (Nat.le_of_ble_eq_true rfl) (fun Γ M => ?_)
  refine j_lv (lv' := [(0, .ref σ.1), (1, .long (zL v))]) rfl ?_
  refine j_aload_n M dX2_mix_0 0 rfl ?_
  refine j_ldc2 M (31) q1777 (by decide) dX2_mix_1 ?_
  refine j_aload_n M dX2_mix_4 0 rfl ?_
  refine m_get M 32 (by decide) q1274 rfl dX2_mix_5 ?_
  refine j_lmul M dX2_mix_8 ?_
  refine j_lload_n M dX2_mix_9 1 rfl ?_
  refine j_ladd M dX2_mix_10 ?_
  refine m_putL M 32 (by decide) q1274 dX2_mix_11 ?_
  refine j_vret M dX2_mix_14 ⟨Nat.le_refl _, Nat.le_refl _⟩ ?_
  exact ⟨rfl, rfl⟩
theorem pLapW_r {s : Int → Int} {h L w : Int} (hp : Per s h L) (hL : L ≤ 336) (hh : h ≤ 1000) : r32 (pLapW s w) := by
  have h1 := pZeros_r hp hL
  have h2 := hp.least
  have h3 := h2.1.1
  have h4 := h2.1.2.1
  unfold pLapW; split
  · omega
  · split <;> omega
/-- each row's rests come again, within bounds -/
theorem rest_per {K P : Int → Int} {N m : Int} (h : rsOk K P N) (hm : 2 ≤ m ∧ m ≤ 10) : ∀ (d : Nat) (i : Int), 0 ≤ i → i < N → i < d → ∃ hd L, (hd ≤ 6) ∧ L ∣ pE m ∧ Per (pRest m K P i) hd L := by
  have hE := pE_r m
  intro d
  induction d with
  | zero => intro i i0 _ i1; omega
  | succ d ih =>
    intro i i0 iN i1
    have hr := h i i0 iN
    have hk := rOk_k hr
    by_cases e0 : K i = 0
    · have hS : ∀ n, pTr m (P (4 * i)) (P (4 * i + 1)) (P (4 * i + 2)) (P (4 * i + 3)) (n + 1) = (fun q : Int × Int => (q.2, (P (4 * i) * q.2 + P (4 * i + 1) * q.1) % m)) (pTr m (P (4 * i)) (P (4 * i + 1)) (P (4 * i + 2)) (P (4 * i + 3)) n) := fun n => rfl
      have hp := pTr_per hm (P (4 * i)) (P (4 * i + 1)) (P (4 * i + 2)) (P (4 * i + 3))
      refine ⟨6, pE m, by omega, Int.dvd_refl _, by omega, hE.1, fun n hn => ?_⟩
      have back : ∀ q : Nat, pTr m (P (4 * i)) (P (4 * i + 1)) (P (4 * i + 2)) (P (4 * i + 3)) (6 + (pE m).toNat + q) = pTr m (P (4 * i)) (P (4 * i + 1)) (P (4 * i + 2)) (P (4 * i + 3)) (6 + q) := by
        intro q
        induction q with
        | zero => exact hp
        | succ q ihq => rw [← Nat.add_assoc, ← Nat.add_assoc, hS, hS, ihq]
      rw [pRest_told e0, pRest_told e0]
      have := back (n.toNat - 6)
      rw [show 6 + (pE m).toNat + (n.toNat - 6) = (n + pE m).toNat by omega, show 6 + (n.toNat - 6) = n.toNat by omega] at this
      rw [this]
    · have hp := rOk_part hr e0
      obtain ⟨h1, L1, a1, a2, a3⟩ := ih (P (4 * i)) hp.1 (by omega) (by omega)
      by_cases e12 : K i = 1 ∨ K i = 2
      · have hp2 := rOk_part2 hr e12
        obtain ⟨h2, L2, b1, b2, b3⟩ := ih (P (4 * i + 1)) hp2.1 (by omega) (by omega)
        have p1 := (a3.dvd a2 hE.1).late (h' := 6) a1
        have p2 := (b3.dvd b2 hE.1).late (h' := 6) b1
        rcases e12 with e | e
        · exact ⟨6, pE m, by omega, Int.dvd_refl _, (Per.two (fun a b => (a + b) % m) p1 p2).congr (fun n _ => by rw [pRest_sum h i0 iN e])⟩
        · exact ⟨6, pE m, by omega, Int.dvd_refl _, (Per.two (fun a b => (a * b) % m) p1 p2).congr (fun n _ => by rw [pRest_product h i0 iN e])⟩
      · rcases (show K i = 3 ∨ K i = 4 by omega) with e | e
        · have he := rOk_each hr e
          have hb : 6 ≤ P (4 * i + 1) * 6 + P (4 * i + 2) := by omega
          exact ⟨6, pE m, by omega, Int.dvd_refl _, (Per.each (q := P (4 * i + 2)) ((a3.dvd a2 hE.1).late (h' := 6) a1) (by omega) hE.1 (by omega) hb (Int.dvd_mul_left _ _)).congr (fun n _ => by rw [pRest_each h i0 iN e])⟩
        · exact ⟨6, pE m, by omega, Int.dvd_refl _, (Per.next (fun a b => (a - b) % m) ((a3.dvd a2 hE.1).late (h' := 6) a1)).congr (fun n _ => by rw [pRest_step h i0 iN e])⟩
theorem pLapW_r' {c i m : Int} {f : Nat → Int} {t : Nat → Int → Int} (h : MI c f t) (hi : 0 ≤ i ∧ i < f 0) (hm : 2 ≤ m ∧ m ≤ 10) (w : Int) : r32 (pLapW (pRest m (t 1) (t 2) i) w) := by
  have hE := pE_r m
  obtain ⟨a, L, b1, b2, b3⟩ := rest_per h.ok hm (i.toNat + 1) i hi.1 hi.2 (by omega)
  exact pLapW_r b3 (by have := dvd_le b2 hE.1; omega) (by omega)
theorem m_mixRow (hm : mOk σ) (c i : Int) (hi : 0 ≤ i ∧ i < f 0) (h : MI c f t) : Ct l X yX2_mixRow cX2_mixRow 3 none (rD 6) [.ref σ.1, .int (zI i)] (mH X σ f t) (fun r hp => r = none ∧ ∃ f' t', hp = mH X σ f' t' ∧ MI c f' t' ∧ mSam f t f' t' ∧ f' 32 = pMixRow (t 1) (t 2) (f 32) i) := by
  have h0 := h.n
  have hk := rOk_k (h.ok i hi.1 hi.2)
  have hT : ∀ f1 t1, mSam f t f1 t1 → ∀ n, pTerm (t1 1) (t1 2) i n = pTerm (t 1) (t 2) i n := fun f1 t1 hs n => by rw [hs.t1]; exact pTerm_P h.ok h0.2 hs.2.2 hi.1 hi.2
  have hRs : ∀ f1 t1, mSam f t f1 t1 → ∀ m, pRest m (t1 1) (t1 2) i = pRest m (t 1) (t 2) i := fun f1 t1 hs m => by rw [hs.t1]; exact pRest_P h.ok h0.2 hs.2.2 hi.1 hi.2
  refine Ct.of (by decide) (Nat.le_of_ble_eq_true rfl) (fun Γ M => ?_)
  refine j_lv (lv' := [(0, .ref σ.1), (1, .int (zI i))]) rfl ?_
  have loop3 : ∀ (w k : Nat) (f1 : Nat → Int) (t1 : Nat → Int → Int), w = 3 - k → k ≤ 3 → MI c f1 t1 → mSam f t f1 t1 → f1 32 = pMixN (pLapW (pRest 5 (t 1) (t 2) i)) k (31 * pMixN (pTerm (t 1) (t 2) i) 8 (pMixN (fun k => t 2 (4 * i + k)) 4 (31 * f 32 + t 1 i)) + pRest 7 (t 1) (t 2) i 1000000) → J Γ (mH X σ f1 t1) 0 0 81 [(0, .ref σ.1), (1, .int (zI i)), (2, .int (zI k))] [] := by
    intro w
    induction w using Nat.strongRecOn with
    | _ w ih =>
      intro k f1 t1 hw hk3 h1 hs e32
      have e0 := hs.f 0 (by decide)
      refine j_iload_n M dX2_mixRow_81 2 rfl ?_
      refine j_iconst M dX2_mixRow_82 ?_
      refine j_icmp_ge M 104 dX2_mixRow_83 (by decide) (by omega) (fun c_83 => ?_) (fun c_83 => ?_)
      · refine j_aload_n M dX2_mixRow_104 0 rfl ?_
        refine j_aload_n M dX2_mixRow_105 0 rfl ?_
        refine j_iload_n M dX2_mixRow_106 1 rfl ?_
        refine j_run (k_V M (m_noughtsOf l X σ f1 t1 hm c i (by omega) h1) (m_rc M) (lw_V q1603 q1605 qs76 q102 q1606) ndX2_noughtsOf dX2_mixRow_107 ⟨by decide, by decide, by decide, by decide⟩ rfl (Nat.le_of_ble_eq_true rfl)) (fun r_107 hp_107 hq_107 => ?_)
        obtain ⟨rfl, f2, t2, rfl, h2, hs2⟩ := hq_107
        rw [show pTerm (t1 1) (t1 2) i = pTerm (t 1) (t 2) i from funext (hT f1 t1 hs), ← zI_of (pBits (pTerm (t 1) (t 2) i) 24)]
        refine j_i2l M dX2_mixRow_110 (r32_of _) ?_
        refine j_rN (k_V M (m_mix l X σ f2 t2 _) (m_rc M) (lw_V q1773 q1775 qs95 q102 q1776) ndX2_mix dX2_mixRow_111 ⟨by decide, by decide, by decide, by decide⟩ rfl (Nat.le_of_ble_eq_true rfl)) ?_
        refine j_vret M dX2_mixRow_114 ⟨Nat.le_refl _, Nat.le_refl _⟩ ?_
        refine ⟨rfl, _, t2, rfl, h2.h32, (hs.tr hs2).put _, ?_⟩
        rw [upN_s, hs2.1 32 (by decide), e32, show k = 3 by omega]; rfl
      · refine j_aload_n M dX2_mixRow_86 0 rfl ?_
        refine j_aload_n M dX2_mixRow_87 0 rfl ?_
        refine j_iload_n M dX2_mixRow_88 1 rfl ?_
        refine j_iconst M dX2_mixRow_89 ?_
        refine j_iload_n M dX2_mixRow_90 2 rfl ?_
        refine j_run (k_V M (m_lapNow l X σ f1 t1 hm c i 5 k (by omega) (by omega) (by omega) h1) (m_rc M) (lw_V q1494 q1496 qs58 q102 q1497) ndX2_lapNow dX2_mixRow_91 ⟨by decide, by decide, by decide, by decide⟩ rfl (Nat.le_of_ble_eq_true rfl)) (fun r_91 hp_91 hq_91 => ?_)
        obtain ⟨rfl, f2, t2, rfl, h2, hs2⟩ := hq_91
        rw [hRs f1 t1 hs]
        refine j_i2l M dX2_mixRow_94 (pLapW_r' h hi (by decide) _) ?_
        refine j_rN (k_V M (m_mix l X σ f2 t2 _) (m_rc M) (lw_V q1773 q1775 qs95 q102 q1776) ndX2_mix dX2_mixRow_95 ⟨by decide, by decide, by decide, by decide⟩ rfl (Nat.le_of_ble_eq_true rfl)) ?_
        refine j_iinc M dX2_mixRow_98 2 rfl (by decide) ?_
        refine j_goto M 81 dX2_mixRow_101 (by decide) ?_
        refine ih (3 - (k + 1)) (by omega) (k + 1) _ t2 rfl (by omega) h2.h32 ((hs.tr hs2).put _) ?_
        rw [upN_s, hs2.1 32 (by decide), e32]; rfl
  have loop2 : ∀ (w k : Nat) (f1 : Nat → Int) (t1 : Nat → Int → Int), w = 8 - k → k ≤ 8 → MI c f1 t1 → mSam f t f1 t1 → f1 32 = pMixN (pTerm (t 1) (t 2) i) k (pMixN (fun k => t 2 (4 * i + k)) 4 (31 * f 32 + t 1 i)) → J Γ (mH X σ f1 t1) 0 0 41 [(0, .ref σ.1), (1, .int (zI i)), (2, .int (zI k))] [] := by
    intro w
    induction w using Nat.strongRecOn with
    | _ w ih =>
      intro k f1 t1 hw hk3 h1 hs e32
      have e0 := hs.f 0 (by decide)
      refine j_iload_n M dX2_mixRow_41 2 rfl ?_
      refine j_bipush M dX2_mixRow_42 (by decide) ?_
      refine j_icmp_ge M 64 dX2_mixRow_44 (by decide) (by omega) (fun c_44 => ?_) (fun c_44 => ?_)
      · refine j_aload_n M dX2_mixRow_64 0 rfl ?_
        refine j_aload_n M dX2_mixRow_65 0 rfl ?_
        refine j_iload_n M dX2_mixRow_66 1 rfl ?_
        refine j_ldcw M (1000000) q1778 (by decide) dX2_mixRow_67 ?_
        refine j_bipush M dX2_mixRow_70 (by decide) ?_
        refine j_run (k_V M (m_byNow l X σ f1 t1 hm c i 1000000 7 (by omega) (by omega) (by omega) h1) (m_rc M) (lw_V q1456 q1458 qs51 q102 q1459) ndX2_byNow dX2_mixRow_72 ⟨by decide, by decide, by decide, by decide⟩ rfl (Nat.le_of_ble_eq_true rfl)) (fun r_72 hp_72 hq_72 => ?_)
        obtain ⟨rfl, f2, t2, rfl, h2, hs2⟩ := hq_72
        rw [hRs f1 t1 hs]
        refine j_i2l M dX2_mixRow_75 (by have := pRest_r (show (0 : Int) < 7 by decide) (t 1) (t 2) i 1000000; omega) ?_
        refine j_rN (k_V M (m_mix l X σ f2 t2 _) (m_rc M) (lw_V q1773 q1775 qs95 q102 q1776) ndX2_mix dX2_mixRow_76 ⟨by decide, by decide, by decide, by decide⟩ rfl (Nat.le_of_ble_eq_true rfl)) ?_
        refine j_iconst M dX2_mixRow_79 ?_
        refine j_istore_n M dX2_mixRow_80 (by decide) ?_
        refine loop3 3 0 _ t2 rfl (by omega) h2.h32 ((hs.tr hs2).put _) ?_
        rw [upN_s, hs2.1 32 (by decide), e32, show k = 8 by omega]; rfl
      · refine j_aload_n M dX2_mixRow_47 0 rfl ?_
        refine j_aload_n M dX2_mixRow_48 0 rfl ?_
        refine j_iload_n M dX2_mixRow_49 1 rfl ?_
        refine j_iload_n M dX2_mixRow_50 2 rfl ?_
        refine j_run (k_V M (m_termOf l X σ f1 t1 hm i k (by omega) (by omega) h1.n h1.ok h1.tl) (m_rc M) (lw_V q1418 q1420 qs44 q102 q1421) ndX2_termOf dX2_mixRow_51 ⟨by decide, by decide, by decide, by decide⟩ rfl (Nat.le_of_ble_eq_true rfl)) (fun r_51 hp_51 hq_51 => ?_)
        obtain ⟨rfl, g, rfl, hg⟩ := hq_51
        have hM := h1.terms hg
        rw [hT f1 t1 hs]
        refine j_i2l M dX2_mixRow_54 (tR_r (pTerm_r h.ok hi.1 hi.2)) ?_
        refine j_rN (k_V M (m_mix l X σ _ _ _) (m_rc M) (lw_V q1773 q1775 qs95 q102 q1776) ndX2_mix dX2_mixRow_55 ⟨by decide, by decide, by decide, by decide⟩ rfl (Nat.le_of_ble_eq_true rfl)) ?_
        refine j_iinc M dX2_mixRow_58 2 rfl (by decide) ?_
        refine j_goto M 41 dX2_mixRow_61 (by decide) ?_
        refine ih (8 - (k + 1)) (by omega) (k + 1) _ _ rfl (by omega) hM.1.h32 ((hs.tr hM.2).put _) ?_
        rw [upN_s, hM.2.1 32 (by decide), e32]; rfl
  have loop1 : ∀ (w k : Nat) (f1 : Nat → Int), w = 4 - k → k ≤ 4 → MI c f1 t → mSam f t f1 t → f1 32 = pMixN (fun k => t 2 (4 * i + k)) k (31 * f 32 + t 1 i) → J Γ (mH X σ f1 t) 0 0 13 [(0, .ref σ.1), (1, .int (zI i)), (2, .int (zI k))] [] := by
    intro w
    induction w using Nat.strongRecOn with
    | _ w ih =>
      intro k f1 hw hk3 h1 hs e32
      refine j_iload_n M dX2_mixRow_13 2 rfl ?_
      refine j_iconst M dX2_mixRow_14 ?_
      refine j_icmp_ge M 39 dX2_mixRow_15 (by decide) (by omega) (fun c_15 => ?_) (fun c_15 => ?_)
      · refine j_iconst M dX2_mixRow_39 ?_
        refine j_istore_n M dX2_mixRow_40 (by decide) ?_
        exact loop2 8 0 f1 t rfl (by omega) h1 hs (by rw [e32, show k = 4 by omega]; rfl)
      · refine j_aload_n M dX2_mixRow_18 0 rfl ?_
        refine j_aload_n M dX2_mixRow_19 0 rfl ?_
        refine m_get M 2 (by decide) q1244 rfl dX2_mixRow_20 ?_
        refine j_iconst M dX2_mixRow_23 ?_
        refine j_iload_n M dX2_mixRow_24 1 rfl ?_
        refine j_imul M dX2_mixRow_25 ?_
        refine j_iload_n M dX2_mixRow_26 2 rfl ?_
        refine j_iadd M dX2_mixRow_27 ?_
        refine m_ald M hm (n := 36) 2 (by decide) rfl dX2_mixRow_28 (by omega) ?_
        refine j_i2l M dX2_mixRow_29 (by exact rOk_r (h.ok i hi.1 hi.2) (by omega) (by omega)) ?_
        refine j_rN (k_V M (m_mix l X σ _ _ _) (m_rc M) (lw_V q1773 q1775 qs95 q102 q1776) ndX2_mix dX2_mixRow_30 ⟨by decide, by decide, by decide, by decide⟩ rfl (Nat.le_of_ble_eq_true rfl)) ?_
        refine j_iinc M dX2_mixRow_33 2 rfl (by decide) ?_
        refine j_goto M 13 dX2_mixRow_36 (by decide) ?_
        refine ih (4 - (k + 1)) (by omega) (k + 1) _ rfl (by omega) h1.h32 (hs.put _) ?_
        rw [upN_s, e32]; rfl
  refine j_aload_n M dX2_mixRow_0 0 rfl ?_
  refine j_aload_n M dX2_mixRow_1 0 rfl ?_
  refine m_get M 1 (by decide) q1243 rfl dX2_mixRow_2 ?_
  refine j_iload_n M dX2_mixRow_5 1 rfl ?_
  refine m_ald M hm (n := 9) 1 (by decide) rfl dX2_mixRow_6 (by omega) ?_
  refine j_i2l M dX2_mixRow_7 (by omega) ?_
  refine j_rN (k_V M (m_mix l X σ _ _ _) (m_rc M) (lw_V q1773 q1775 qs95 q102 q1776) ndX2_mix dX2_mixRow_8 ⟨by decide, by decide, by decide, by decide⟩ rfl (Nat.le_of_ble_eq_true rfl)) ?_
  refine j_iconst M dX2_mixRow_11 ?_
  refine j_istore_n M dX2_mixRow_12 (by decide) ?_
  exact loop1 4 0 _ rfl (by omega) h.h32 (mSam.rfl.put _) (by rw [upN_s]; rfl)
theorem vCount_r {c w : Int} {f : Nat → Int} {t : Nat → Int → Int} (h : MI c f t) : r32 (vCount (f 0) (t 1) (t 2) (f 4) (f 6) (f 3) w) := by
  have h0 := h.n
  have h1 := h.g4
  have h2 := h.pg.1
  have h3 := h.2.2.1
  have a := pTm1_r (t 1) (t 2) false (f 0).toNat
  have b := pTm1_r (t 1) (t 2) true (f 0).toNat
  unfold vCount; repeat' split
  all_goals omega
theorem pGuessW_r (G : Int → Int) (n w : Int) : r32 (pGuessW G n w) := by
  have := pGuess_r G n
  unfold pGuessW; repeat' split
  all_goals omega
theorem pTm1_P {K P P' : Int → Int} {N : Int} (hN : N ≤ 8) (e : ∀ j, j < 32 → P' j = P j) (b : Bool) : ∀ k : Nat, (k : Int) ≤ N → pTm1 K P' b k = pTm1 K P b k := by
  intro k
  induction k with
  | zero => intro _; rfl
  | succ k ih => intro hk; unfold pTm1; rw [ih (by omega), e (4 * k) (by omega), e (4 * k + 1) (by omega)]
theorem vCount_P {K P P' : Int → Int} {N g pl rd w : Int} (h0 : 0 ≤ N) (hN : N ≤ 8) (e : ∀ j, j < 32 → P' j = P j) : vCount N K P' g pl rd w = vCount N K P g pl rd w := by
  unfold vCount; rw [pTm1_P hN e false _ (by omega), pTm1_P hN e true _ (by omega)]
/-- the answer v; seen from outside the same -/
def pL (X : Cx) (σ : Ms) (c : Int) (f : Nat → Int) (t : Nat → Int → Int) (v : Value) : Option Value → Hp → Prop := fun r hp => r = some v ∧ ∃ f' t', hp = mH X σ f' t' ∧ MI c f' t' ∧ mSam f t f' t'
theorem m_digest (hm : mOk σ) (c : Int) (h : MI c f t) : Ct l X yX2_digest cX2_digest 2 (some .long) (rD 7) [.ref σ.1] (mH X σ f t) (pL X σ c f t (.long (zL (vDigest (f 0) (t 1) (t 2) (f 4) (t 5) (f 6) (t 7) (f 3))))) := by
  have h0 := h.n
  have hg4 := h.g4
  have hpg := h.pg
  refine Ct.of (by decide) (Nat.le_of_ble_eq_true rfl) (fun Γ M => ?_)
  refine j_lv (lv' := [(0, .ref σ.1)]) rfl ?_
  have loop5 : ∀ (w k : Nat) (f1 : Nat → Int) (t1 : Nat → Int → Int), w = 6 - k → k ≤ 6 → MI c f1 t1 → mSam f t f1 t1 → f1 32 = pMixN (vCount (f 0) (t 1) (t 2) (f 4) (f 6) (f 3)) k (pMixN (t 7) (f 6).toNat (pMixN (pGuessW (t 5) (f 4)) 3 (pMixN (t 5) (f 4).toNat (pMixRows (t 1) (t 2) (f 0).toNat)))) → J Γ (mH X σ f1 t1) 0 0 107 [(0, .ref σ.1), (1, .int (zI k))] [] := by
    intro w
    induction w using Nat.strongRecOn with
    | _ w ih =>
      intro k f1 t1 hw hk h1 hs e32
      have ec : vCount (f1 0) (t1 1) (t1 2) (f1 4) (f1 6) (f1 3) k = vCount (f 0) (t 1) (t 2) (f 4) (f 6) (f 3) k := by
        rw [hs.f 0 (by decide), hs.f 4 (by decide), hs.f 6 (by decide), hs.f 3 (by decide), hs.t1]
        exact vCount_P h0.1 h0.2 hs.2.2
      refine j_iload_n M dX2_digest_107 1 rfl ?_
      refine j_bipush M dX2_digest_108 (by decide) ?_
      refine j_icmp_ge M 129 dX2_digest_110 (by decide) (by omega) (fun c_110 => ?_) (fun c_110 => ?_)
      · refine j_aload_n M dX2_digest_129 0 rfl ?_
        refine m_get M 32 (by decide) q1274 rfl dX2_digest_130 ?_
        refine j_lret M dX2_digest_133 ⟨Nat.le_refl _, Nat.le_refl _⟩ ?_
        refine ⟨?_, f1, t1, rfl, h1, hs⟩
        rw [e32, show k = 6 by omega]; rfl
      · refine j_aload_n M dX2_digest_113 0 rfl ?_
        refine j_aload_n M dX2_digest_114 0 rfl ?_
        refine j_iload_n M dX2_digest_115 1 rfl ?_
        refine j_rV (k_V M (m_howMany l X σ f1 t1 hm c k (by omega) h1) (m_rc M) (lw_V q1756 q1758 qs92 q102 q1759) ndX2_howMany dX2_digest_116 ⟨by decide, by decide, by decide, by decide⟩ rfl (Nat.le_of_ble_eq_true rfl)) ?_
        rw [ec]
        refine j_i2l M dX2_digest_119 (vCount_r h) ?_
        refine j_rN (k_V M (m_mix l X σ _ _ _) (m_rc M) (lw_V q1773 q1775 qs95 q102 q1776) ndX2_mix dX2_digest_120 ⟨by decide, by decide, by decide, by decide⟩ rfl (Nat.le_of_ble_eq_true rfl)) ?_
        refine j_iinc M dX2_digest_123 1 rfl (by decide) ?_
        refine j_goto M 107 dX2_digest_126 (by decide) ?_
        refine ih (6 - (k + 1)) (by omega) (k + 1) _ _ rfl (by omega) h1.h32 (hs.put _) ?_
        rw [upN_s, e32]; rfl
  have loop4 : ∀ (w k : Nat) (f1 : Nat → Int) (t1 : Nat → Int → Int), w = (f 6).toNat - k → (k : Int) ≤ f 6 → MI c f1 t1 → mSam f t f1 t1 → f1 32 = pMixN (t 7) k (pMixN (pGuessW (t 5) (f 4)) 3 (pMixN (t 5) (f 4).toNat (pMixRows (t 1) (t 2) (f 0).toNat))) → J Γ (mH X σ f1 t1) 0 0 80 [(0, .ref σ.1), (1, .int (zI k))] [] := by
    intro w
    induction w using Nat.strongRecOn with
    | _ w ih =>
      intro k f1 t1 hw hk h1 hs e32
      have e6 := hs.f 6 (by decide)
      have e7 : t1 7 = t 7 := hs.2.1 7 (by decide)
      refine j_iload_n M dX2_digest_80 1 rfl ?_
      refine j_aload_n M dX2_digest_81 0 rfl ?_
      refine m_get M 6 (by decide) q1248 rfl dX2_digest_82 ?_
      refine j_icmp_ge M 105 dX2_digest_85 (by decide) (by rw [e6]; omega) (fun c_85 => ?_) (fun c_85 => ?_)
      · rw [e6] at c_85
        refine j_iconst M dX2_digest_105 ?_
        refine j_istore_n M dX2_digest_106 (by decide) ?_
        exact loop5 6 0 f1 t1 rfl (by omega) h1 hs (by rw [e32, show k = (f 6).toNat by omega]; rfl)
      · rw [e6] at c_85
        refine j_aload_n M dX2_digest_88 0 rfl ?_
        refine j_aload_n M dX2_digest_89 0 rfl ?_
        refine m_get M 7 (by decide) q1249 rfl dX2_digest_90 ?_
        refine j_iload_n M dX2_digest_93 1 rfl ?_
        refine m_bld M hm (n := 47) 7 (by decide) rfl dX2_digest_94 (by omega) ?_
        rw [e7]
        refine j_i2l M dX2_digest_95 (hpg.2 k (by omega) (by omega)) ?_
        refine j_rN (k_V M (m_mix l X σ _ _ _) (m_rc M) (lw_V q1773 q1775 qs95 q102 q1776) ndX2_mix dX2_digest_96 ⟨by decide, by decide, by decide, by decide⟩ rfl (Nat.le_of_ble_eq_true rfl)) ?_
        refine j_iinc M dX2_digest_99 1 rfl (by decide) ?_
        refine j_goto M 80 dX2_digest_102 (by decide) ?_
        refine ih ((f 6).toNat - (k + 1)) (by omega) (k + 1) _ _ rfl (by omega) h1.h32 (hs.put _) ?_
        rw [upN_s, e32]; rfl
  have loop3 : ∀ (w k : Nat) (f1 : Nat → Int) (t1 : Nat → Int → Int), w = 3 - k → k ≤ 3 → MI c f1 t1 → mSam f t f1 t1 → f1 32 = pMixN (pGuessW (t 5) (f 4)) k (pMixN (t 5) (f 4).toNat (pMixRows (t 1) (t 2) (f 0).toNat)) → J Γ (mH X σ f1 t1) 0 0 57 [(0, .ref σ.1), (1, .int (zI k))] [] := by
    intro w
    induction w using Nat.strongRecOn with
    | _ w ih =>
      intro k f1 t1 hw hk h1 hs e32
      have e4 := hs.f 4 (by decide)
      have e5 : t1 5 = t 5 := hs.2.1 5 (by decide)
      refine j_iload_n M dX2_digest_57 1 rfl ?_
      refine j_iconst M dX2_digest_58 ?_
      refine j_icmp_ge M 78 dX2_digest_59 (by decide) (by omega) (fun c_59 => ?_) (fun c_59 => ?_)
      · refine j_iconst M dX2_digest_78 ?_
        refine j_istore_n M dX2_digest_79 (by decide) ?_
        exact loop4 _ 0 f1 t1 rfl (by omega) h1 hs (by rw [e32, show k = 3 by omega]; rfl)
      · refine j_aload_n M dX2_digest_62 0 rfl ?_
        refine j_aload_n M dX2_digest_63 0 rfl ?_
        refine j_iload_n M dX2_digest_64 1 rfl ?_
        refine j_run (k_V M (m_guessTold l X σ f1 t1 hm c k (by omega) h1) (m_rc M) (lw_V q1709 q1711 qs87 q102 q1712) ndX2_guessTold dX2_digest_65 ⟨by decide, by decide, by decide, by decide⟩ rfl (Nat.le_of_ble_eq_true rfl)) (fun r_65 hp_65 hq_65 => ?_)
        obtain ⟨rfl, f2, t2, rfl, h2, hs2⟩ := hq_65
        rw [e4, e5]
        refine j_i2l M dX2_digest_68 (pGuessW_r _ _ _) ?_
        refine j_rN (k_V M (m_mix l X σ _ _ _) (m_rc M) (lw_V q1773 q1775 qs95 q102 q1776) ndX2_mix dX2_digest_69 ⟨by decide, by decide, by decide, by decide⟩ rfl (Nat.le_of_ble_eq_true rfl)) ?_
        refine j_iinc M dX2_digest_72 1 rfl (by decide) ?_
        refine j_goto M 57 dX2_digest_75 (by decide) ?_
        refine ih (3 - (k + 1)) (by omega) (k + 1) _ _ rfl (by omega) h2.h32 ((hs.tr hs2).put _) ?_
        rw [upN_s, hs2.1 32 (by decide), e32]; rfl
  have loop2 : ∀ (w k : Nat) (f1 : Nat → Int) (t1 : Nat → Int → Int), w = (f 4).toNat - k → (k : Int) ≤ f 4 → MI c f1 t1 → mSam f t f1 t1 → f1 32 = pMixN (t 5) k (pMixRows (t 1) (t 2) (f 0).toNat) → J Γ (mH X σ f1 t1) 0 0 30 [(0, .ref σ.1), (1, .int (zI k))] [] := by
    intro w
    induction w using Nat.strongRecOn with
    | _ w ih =>
      intro k f1 t1 hw hk h1 hs e32
      have e4 := hs.f 4 (by decide)
      have e5 : t1 5 = t 5 := hs.2.1 5 (by decide)
      refine j_iload_n M dX2_digest_30 1 rfl ?_
      refine j_aload_n M dX2_digest_31 0 rfl ?_
      refine m_get M 4 (by decide) q1246 rfl dX2_digest_32 ?_
      refine j_icmp_ge M 55 dX2_digest_35 (by decide) (by rw [e4]; omega) (fun c_35 => ?_) (fun c_35 => ?_)
      · rw [e4] at c_35
        refine j_iconst M dX2_digest_55 ?_
        refine j_istore_n M dX2_digest_56 (by decide) ?_
        exact loop3 3 0 f1 t1 rfl (by omega) h1 hs (by rw [e32, show k = (f 4).toNat by omega]; rfl)
      · rw [e4] at c_35
        refine j_aload_n M dX2_digest_38 0 rfl ?_
        refine j_aload_n M dX2_digest_39 0 rfl ?_
        refine m_get M 5 (by decide) q1247 rfl dX2_digest_40 ?_
        refine j_iload_n M dX2_digest_43 1 rfl ?_
        refine m_ald M hm (n := 8) 5 (by decide) rfl dX2_digest_44 (by omega) ?_
        rw [e5]
        refine j_i2l M dX2_digest_45 (by have := h.g5 k (by omega) (by omega); omega) ?_
        refine j_rN (k_V M (m_mix l X σ _ _ _) (m_rc M) (lw_V q1773 q1775 qs95 q102 q1776) ndX2_mix dX2_digest_46 ⟨by decide, by decide, by decide, by decide⟩ rfl (Nat.le_of_ble_eq_true rfl)) ?_
        refine j_iinc M dX2_digest_49 1 rfl (by decide) ?_
        refine j_goto M 30 dX2_digest_52 (by decide) ?_
        refine ih ((f 4).toNat - (k + 1)) (by omega) (k + 1) _ _ rfl (by omega) h1.h32 (hs.put _) ?_
        rw [upN_s, e32]; rfl
  have loop1 : ∀ (w k : Nat) (f1 : Nat → Int) (t1 : Nat → Int → Int), w = (f 0).toNat - k → (k : Int) ≤ f 0 → MI c f1 t1 → mSam f t f1 t1 → f1 32 = pMixRows (t 1) (t 2) k → J Γ (mH X σ f1 t1) 0 0 9 [(0, .ref σ.1), (1, .int (zI k))] [] := by
    intro w
    induction w using Nat.strongRecOn with
    | _ w ih =>
      intro k f1 t1 hw hk h1 hs e32
      have e0 := hs.f 0 (by decide)
      refine j_iload_n M dX2_digest_9 1 rfl ?_
      refine j_aload_n M dX2_digest_10 0 rfl ?_
      refine m_get M 0 (by decide) q1242 rfl dX2_digest_11 ?_
      refine j_icmp_ge M 28 dX2_digest_14 (by decide) (by rw [e0]; omega) (fun c_14 => ?_) (fun c_14 => ?_)
      · rw [e0] at c_14
        refine j_iconst M dX2_digest_28 ?_
        refine j_istore_n M dX2_digest_29 (by decide) ?_
        exact loop2 _ 0 f1 t1 rfl (by omega) h1 hs (by rw [e32, show k = (f 0).toNat by omega]; rfl)
      · rw [e0] at c_14
        refine j_aload_n M dX2_digest_17 0 rfl ?_
        refine j_iload_n M dX2_digest_18 1 rfl ?_
        refine j_run (k_V M (m_mixRow l X σ f1 t1 hm c k (by omega) h1) (m_rc M) (lw_V q1769 q1771 qs94 q102 q1772) ndX2_mixRow dX2_digest_19 ⟨by decide, by decide, by decide, by decide⟩ rfl (Nat.le_of_ble_eq_true rfl)) (fun r_19 hp_19 hq_19 => ?_)
        obtain ⟨rfl, f2, t2, rfl, h2, hs2, e2⟩ := hq_19
        refine j_iinc M dX2_digest_22 1 rfl (by decide) ?_
        refine j_goto M 9 dX2_digest_25 (by decide) ?_
        refine ih ((f 0).toNat - (k + 1)) (by omega) (k + 1) _ _ rfl (by omega) h2 (mSam.tr2 hs hs2) ?_
        have eT : pTerm (t1 1) (t1 2) k = pTerm (t 1) (t 2) k := funext fun n => by rw [hs.t1]; exact pTerm_P h.ok h0.2 hs.2.2 (by omega) (by omega)
        have eR : ∀ m, pRest m (t1 1) (t1 2) k = pRest m (t 1) (t 2) k := fun m => by rw [hs.t1]; exact pRest_P h.ok h0.2 hs.2.2 (by omega) (by omega)
        rw [e2, e32]
        show pMixRow (t1 1) (t1 2) (pMixRows (t 1) (t 2) k) k = pMixRow (t 1) (t 2) (pMixRows (t 1) (t 2) k) k
        unfold pMixRow
        rw [eT, eR, eR, hs.t1]
        rw [pMixN_congr (g := fun q => t1 2 (4 * (k : Int) + q)) (g' := fun q => t 2 (4 * (k : Int) + q)) 4 _ (fun q hq => hs.2.2 _ (by omega))]
  refine j_aload_n M dX2_digest_0 0 rfl ?_
  refine j_ldc2 M (1493) q1768 (by decide) dX2_digest_1 ?_
  refine m_putL M 32 (by decide) q1274 dX2_digest_4 ?_
  refine j_iconst M dX2_digest_7 ?_
  refine j_istore_n M dX2_digest_8 (by decide) ?_
  exact loop1 _ 0 _ t rfl (by omega) h.h32 (mSam.rfl.put _) (by rw [upN_s]; rfl)
end M14
