/-! 31: the reference: images, counts, texts become rows -/
set_option maxRecDepth 100000
def pCp (g h : Int → Int) (n : Int) : Int → Int := fun j => if 0 ≤ j ∧ j < n then g j else h j
def pTm1 (K P : Int → Int) (b : Bool) : Nat → Int
  | 0 => 0
  | k + 1 => pTm1 K P b k + (if pTold K k = true ∧ (b = true → 0 < pDeg (P (4 * k)) (P (4 * k + 1))) then 1 else 0)
theorem pTm1_r (K P : Int → Int) (b : Bool) : ∀ k, 0 ≤ pTm1 K P b k ∧ pTm1 K P b k ≤ k := by
  intro k
  induction k with
  | zero => simp [pTm1]
  | succ k ih => unfold pTm1; split <;> omega
def vCount (n : Int) (K P : Int → Int) (g pl rd w : Int) : Int := if w = 0 then n else if w = 1 then pTm1 K P false n.toNat else if w = 2 then pTm1 K P true n.toNat else if w = 3 then g else if w = 4 then pl else if w = 5 then rd else 2000000102
section M12
variable (l : Launch) (X : Cx) (σ : Ms) (f : Nat → Int) (t : Nat → Int → Int)
theorem m_copy (hm : mOk σ) (k1 k2 n_k1 n_k2 : Nat) (n : Int) (hk_k1 : k1 ∈ mA) (hk_k2 : k2 ∈ mA) (he_k1 : ∀ g, mArr X k1 g = eI X n_k1 g) (he_k2 : ∀ g, mArr X k2 g = eI X n_k2 g) (hne : k1 ≠ k2) (hn : 0 ≤ n ∧ n ≤ 36 ∧ n ≤ n_k1 ∧ n ≤ n_k2) : Ct l X yX2_copy cX2_copy 4 none (rD 0) [.ref (σ.2.1 k1), .ref (σ.2.1 k2), .int (zI n)] (mH X σ f t) (pD none (mH X σ f (upN t k2 (pCp (t k1) (t k2) n)))) := by
  refine Ct.of (by decide) (Nat.le_of_ble_eq_true rfl) (fun Γ M => ?_)
  refine j_lv (lv' := [(0, .ref (σ.2.1 k1)), (1, .ref (σ.2.1 k2)), (2, .int (zI n))]) rfl ?_
  have loop : ∀ (w : Nat) (k : Int) (g : Int → Int), w = (n - k).toNat → 0 ≤ k ∧ k ≤ n → g = pCp (t k1) (t k2) k → J Γ (mH X σ f (upN t k2 g)) 0 0 2 [(0, .ref (σ.2.1 k1)), (1, .ref (σ.2.1 k2)), (2, .int (zI n)), (3, .int (zI k))] [] := by
    intro w
    induction w using Nat.strongRecOn with
    | _ w ih =>
      intro k g hw hk hg
      refine j_iload_n M dX2_copy_2 3 rfl ?_
      refine j_iload_n M dX2_copy_3 2 rfl ?_
      refine j_icmp_ge M 19 dX2_copy_4 (by decide) (by omega) (fun c_4 => ?_) (fun c_4 => ?_)
      · refine j_vret M dX2_copy_19 ⟨Nat.le_refl _, Nat.le_refl _⟩ ?_
        rw [hg, show k = n by omega]; exact ⟨rfl, rfl⟩
      · refine j_aload_n M dX2_copy_7 1 rfl ?_
        refine j_iload_n M dX2_copy_8 3 rfl ?_
        refine j_aload_n M dX2_copy_9 0 rfl ?_
        refine j_iload_n M dX2_copy_10 3 rfl ?_
        refine m_ald M hm (n := n_k1) k1 hk_k1 (he_k1 _) dX2_copy_11 (by omega) ?_
        rw [upN_n _ _ hne]
        refine m_ast M hm (n := n_k2) k2 hk_k2 he_k2 dX2_copy_12 (by omega) ?_
        refine j_iinc M dX2_copy_13 3 rfl (by decide) ?_
        refine j_goto M 2 dX2_copy_16 (by decide) ?_
        simp only [upN_s, upN_uu]
        refine ih _ (by omega) (k + 1) _ rfl (by omega) ?_
        rw [hg]; funext j; simp only [upA, pCp]
        by_cases e : j = k
        · rw [if_pos e, if_pos (by omega), e]
        · rw [if_neg e]; by_cases e2 : 0 ≤ j ∧ j < k
          · rw [if_pos e2, if_pos (by omega)]
          · rw [if_neg e2, if_neg (by omega)]
  refine j_iconst M dX2_copy_0 ?_
  refine j_istore_n M dX2_copy_1 (by decide) ?_
  refine j_hp (hp' := mH X σ f (upN t k2 (t k2))) (by rw [upN_id]) (loop _ 0 _ rfl (by omega) ?_)
  funext j; unfold pCp; rw [if_neg (by omega)]
/-- an image is kept -/
def fImg (f : Nat → Int) : Nat → Int := upN (upN (upN f 26 (f 3)) 27 (f 0)) 28 (f 4)
def tImg (t : Nat → Int → Int) : Nat → Int → Int := upN (upN (upN t 29 (pCp (t 1) (t 29) 8)) 30 (pCp (t 2) (t 30) 32)) 31 (pCp (t 5) (t 31) 8)
theorem m_image (hm : mOk σ) (c : Int) (h : MI c f t) : CM l X σ yX2_image cX2_image 1 (some .int) 1 [] f t (some (.int (zI (if f 0 = 0 then 2000000103 else f 0)))) (if f 0 = 0 then f else fImg f) (if f 0 = 0 then t else tImg t) := by
  have h0 := h.n
  refine Ct.of (by decide) (Nat.le_of_ble_eq_true rfl) (fun Γ M => ?_)
  refine j_lv (lv' := [(0, .ref σ.1)]) rfl ?_
  refine j_aload_n M dX2_image_0 0 rfl ?_
  refine m_get M 0 (by decide) q1242 rfl dX2_image_1 ?_
  refine j_if_ne M 10 dX2_image_4 (by decide) (by omega) (fun c_4 => ?_) (fun c_4 => ?_)
  · refine j_aload_n M dX2_image_10 0 rfl ?_
    refine j_aload_n M dX2_image_11 0 rfl ?_
    refine m_get M 3 (by decide) q1245 rfl dX2_image_12 ?_
    refine m_put M 26 (by decide) q1268 dX2_image_15 ?_
    refine j_aload_n M dX2_image_18 0 rfl ?_
    refine j_aload_n M dX2_image_19 0 rfl ?_
    refine m_get M 0 (by decide) q1242 rfl dX2_image_20 ?_
    refine m_put M 27 (by decide) q1269 dX2_image_23 ?_
    refine j_aload_n M dX2_image_26 0 rfl ?_
    refine j_aload_n M dX2_image_27 0 rfl ?_
    refine m_get M 4 (by decide) q1246 rfl dX2_image_28 ?_
    refine m_put M 28 (by decide) q1270 dX2_image_31 ?_
    refine j_aload_n M dX2_image_34 0 rfl ?_
    refine m_get M 1 (by decide) q1243 rfl dX2_image_35 ?_
    refine j_aload_n M dX2_image_38 0 rfl ?_
    refine m_get M 29 (by decide) q1271 rfl dX2_image_39 ?_
    refine j_bipush M dX2_image_42 (by decide) ?_
    refine j_rN (k_S M (m_copy l X σ _ _ hm 1 29 9 9 8 (by decide) (by decide) (fun _ => rfl) (fun _ => rfl) (by decide) (by omega)) (lw_S q1745 q1746 q102 q1747) ndX2_copy dX2_image_44 ⟨by decide, by decide, by decide, by decide⟩ rfl (Nat.le_of_ble_eq_true rfl)) ?_
    refine j_aload_n M dX2_image_47 0 rfl ?_
    refine m_get M 2 (by decide) q1244 rfl dX2_image_48 ?_
    refine j_aload_n M dX2_image_51 0 rfl ?_
    refine m_get M 30 (by decide) q1272 rfl dX2_image_52 ?_
    refine j_bipush M dX2_image_55 (by decide) ?_
    refine j_rN (k_S M (m_copy l X σ _ _ hm 2 30 36 36 32 (by decide) (by decide) (fun _ => rfl) (fun _ => rfl) (by decide) (by omega)) (lw_S q1745 q1746 q102 q1747) ndX2_copy dX2_image_57 ⟨by decide, by decide, by decide, by decide⟩ rfl (Nat.le_of_ble_eq_true rfl)) ?_
    refine j_aload_n M dX2_image_60 0 rfl ?_
    refine m_get M 5 (by decide) q1247 rfl dX2_image_61 ?_
    refine j_aload_n M dX2_image_64 0 rfl ?_
    refine m_get M 31 (by decide) q1273 rfl dX2_image_65 ?_
    refine j_bipush M dX2_image_68 (by decide) ?_
    refine j_rN (k_S M (m_copy l X σ _ _ hm 5 31 8 8 8 (by decide) (by decide) (fun _ => rfl) (fun _ => rfl) (by decide) (by omega)) (lw_S q1745 q1746 q102 q1747) ndX2_copy dX2_image_70 ⟨by decide, by decide, by decide, by decide⟩ rfl (Nat.le_of_ble_eq_true rfl)) ?_
    refine j_aload_n M dX2_image_73 0 rfl ?_
    refine m_get M 0 (by decide) q1242 rfl dX2_image_74 ?_
    refine j_iret M dX2_image_77 ⟨Nat.le_refl _, Nat.le_refl _⟩ ?_
    rw [if_neg c_4, if_neg c_4, if_neg c_4]; exact ⟨rfl, rfl⟩
  · refine j_ldc M (2000000103) q1393 (by decide) dX2_image_7 ?_
    refine j_iret M dX2_image_9 ⟨Nat.le_refl _, Nat.le_refl _⟩ ?_
    rw [if_pos c_4, if_pos c_4, if_pos c_4]; exact ⟨rfl, rfl⟩
/-- the image comes back -/
def fRes (f : Nat → Int) : Nat → Int := pChg (upN (upN f 0 (f 27)) 4 (f 28))
def tRes (t : Nat → Int → Int) : Nat → Int → Int := upN (upN (upN t 1 (pCp (t 29) (t 1) 8)) 2 (pCp (t 30) (t 2) 32)) 5 (pCp (t 31) (t 5) 8)
theorem m_restore (hm : mOk σ) (c : Int) (h : MI c f t) : CM l X σ yX2_restore cX2_restore 1 (some .int) 1 [] f t (some (.int (zI (if f 26 = f 3 then f 27 else 2000000103)))) (if f 26 = f 3 then fRes f else f) (if f 26 = f 3 then tRes t else t) := by
  have h3 := h.2.2.1
  have hK := h.2.2.2.2.2.2.2.2.2
  unfold KI at hK
  refine Ct.of (by decide) (Nat.le_of_ble_eq_true rfl) (fun Γ M => ?_)
  refine j_lv (lv' := [(0, .ref σ.1)]) rfl ?_
  refine j_aload_n M dX2_restore_0 0 rfl ?_
  refine m_get M 26 (by decide) q1268 rfl dX2_restore_1 ?_
  refine j_aload_n M dX2_restore_4 0 rfl ?_
  refine m_get M 3 (by decide) q1245 rfl dX2_restore_5 ?_
  refine j_icmp_eq M 14 dX2_restore_8 (by decide) (by omega) (fun c_8 => ?_) (fun c_8 => ?_)
  · refine j_aload_n M dX2_restore_14 0 rfl ?_
    refine j_aload_n M dX2_restore_15 0 rfl ?_
    refine m_get M 27 (by decide) q1269 rfl dX2_restore_16 ?_
    refine m_put M 0 (by decide) q1242 dX2_restore_19 ?_
    refine j_aload_n M dX2_restore_22 0 rfl ?_
    refine j_aload_n M dX2_restore_23 0 rfl ?_
    refine m_get M 28 (by decide) q1270 rfl dX2_restore_24 ?_
    refine m_put M 4 (by decide) q1246 dX2_restore_27 ?_
    refine j_aload_n M dX2_restore_30 0 rfl ?_
    refine m_get M 29 (by decide) q1271 rfl dX2_restore_31 ?_
    refine j_aload_n M dX2_restore_34 0 rfl ?_
    refine m_get M 1 (by decide) q1243 rfl dX2_restore_35 ?_
    refine j_bipush M dX2_restore_38 (by decide) ?_
    refine j_rN (k_S M (m_copy l X σ _ _ hm 29 1 9 9 8 (by decide) (by decide) (fun _ => rfl) (fun _ => rfl) (by decide) (by omega)) (lw_S q1745 q1746 q102 q1747) ndX2_copy dX2_restore_40 ⟨by decide, by decide, by decide, by decide⟩ rfl (Nat.le_of_ble_eq_true rfl)) ?_
    refine j_aload_n M dX2_restore_43 0 rfl ?_
    refine m_get M 30 (by decide) q1272 rfl dX2_restore_44 ?_
    refine j_aload_n M dX2_restore_47 0 rfl ?_
    refine m_get M 2 (by decide) q1244 rfl dX2_restore_48 ?_
    refine j_bipush M dX2_restore_51 (by decide) ?_
    refine j_rN (k_S M (m_copy l X σ _ _ hm 30 2 36 36 32 (by decide) (by decide) (fun _ => rfl) (fun _ => rfl) (by decide) (by omega)) (lw_S q1745 q1746 q102 q1747) ndX2_copy dX2_restore_53 ⟨by decide, by decide, by decide, by decide⟩ rfl (Nat.le_of_ble_eq_true rfl)) ?_
    refine j_aload_n M dX2_restore_56 0 rfl ?_
    refine m_get M 31 (by decide) q1273 rfl dX2_restore_57 ?_
    refine j_aload_n M dX2_restore_60 0 rfl ?_
    refine m_get M 5 (by decide) q1247 rfl dX2_restore_61 ?_
    refine j_bipush M dX2_restore_64 (by decide) ?_
    refine j_rN (k_S M (m_copy l X σ _ _ hm 31 5 8 8 8 (by decide) (by decide) (fun _ => rfl) (fun _ => rfl) (by decide) (by omega)) (lw_S q1745 q1746 q102 q1747) ndX2_copy dX2_restore_66 ⟨by decide, by decide, by decide, by decide⟩ rfl (Nat.le_of_ble_eq_true rfl)) ?_
    refine j_aload_n M dX2_restore_69 0 rfl ?_
    refine j_rN (k_V M (m_changes l X σ _ _) (m_rc M) (lw_V q1394 q1396 qs42 q102 q1397) ndX2_changes dX2_restore_70 ⟨by decide, by decide, by decide, by decide⟩ rfl (Nat.le_of_ble_eq_true rfl)) ?_
    refine j_aload_n M dX2_restore_73 0 rfl ?_
    refine m_get M 0 (by decide) q1242 rfl dX2_restore_74 ?_
    refine j_iret M dX2_restore_77 ⟨Nat.le_refl _, Nat.le_refl _⟩ ?_
    rw [if_pos c_8, if_pos c_8, if_pos c_8]; exact ⟨rfl, rfl⟩
  · refine j_ldc M (2000000103) q1393 (by decide) dX2_restore_11 ?_
    refine j_iret M dX2_restore_13 ⟨Nat.le_refl _, Nat.le_refl _⟩ ?_
    rw [if_neg c_8, if_neg c_8, if_neg c_8]; exact ⟨rfl, rfl⟩
theorem m_toldMany (hm : mOk σ) (b : Int) (bb : Bool) (hb : b = if bb then 1 else 0) (h0 : 0 ≤ f 0 ∧ f 0 ≤ 8) (hr : rsOk (t 1) (t 2) (f 0)) : CM l X σ yX2_toldMany cX2_toldMany 4 (some .int) 2 [.int (zI b)] f t (some (.int (zI (pTm1 (t 1) (t 2) bb (f 0).toNat)))) f t := by
  refine Ct.of (by decide) (Nat.le_of_ble_eq_true rfl) (fun Γ M => ?_)
  refine j_lv (lv' := [(0, .ref σ.1), (1, .int (zI b))]) rfl ?_
  have hbr : b = 0 ∨ b = 1 := by cases bb <;> simp at hb <;> omega
  have loop : ∀ (w k : Nat), w = (f 0).toNat - k → (k : Int) ≤ f 0 → J Γ (mH X σ f t) 0 0 4 [(0, .ref σ.1), (1, .int (zI b)), (2, .int (zI (pTm1 (t 1) (t 2) bb k))), (3, .int (zI k))] [] := by
    intro w
    induction w using Nat.strongRecOn with
    | _ w ih =>
      intro k hw hk
      have kk : (k : Int) < f 0 → _ := fun q => ih ((f 0).toNat - (k + 1)) (by omega) (k + 1) rfl (by omega)
      have hkk : (k : Int) < f 0 → 0 ≤ t 1 k ∧ t 1 k ≤ 4 := fun q => rOk_k (hr k (by omega) q)
      refine j_iload_n M dX2_toldMany_4 3 rfl ?_
      refine j_aload_n M dX2_toldMany_5 0 rfl ?_
      refine m_get M 0 (by decide) q1242 rfl dX2_toldMany_6 ?_
      refine j_icmp_ge M 62 dX2_toldMany_9 (by decide) (by omega) (fun c_9 => ?_) (fun c_9 => ?_)
      · refine j_iload_n M dX2_toldMany_62 2 rfl ?_
        refine j_iret M dX2_toldMany_63 ⟨Nat.le_refl _, Nat.le_refl _⟩ ?_
        rw [show (f 0).toNat = k by omega]; exact ⟨rfl, rfl⟩
      · refine j_iload_n M dX2_toldMany_12 2 rfl ?_
        refine j_aload_n M dX2_toldMany_13 0 rfl ?_
        refine j_iload_n M dX2_toldMany_14 3 rfl ?_
        refine j_rV (k_V M (m_isTold l X σ f t hm k (by omega) (by have := hkk (by omega); omega)) (m_rc M) (lw_V q1557 q1559 qs71 q102 q1560) ndX2_isTold dX2_toldMany_15 ⟨by decide, by decide, by decide, by decide⟩ rfl (Nat.le_of_ble_eq_true rfl)) ?_
        refine j_ifeqB M 53 dX2_toldMany_18 (by decide) (fun c_18 => ?_) (fun c_18 => ?_)
        · refine j_iconst M dX2_toldMany_53 ?_
          refine j_iadd M dX2_toldMany_54 ?_
          refine j_istore_n M dX2_toldMany_55 (by decide) ?_
          refine j_iinc M dX2_toldMany_56 3 rfl (by decide) ?_
          refine j_goto M 4 dX2_toldMany_59 (by decide) ?_
          have kk := kk (by omega)
          rw [show pTm1 (t 1) (t 2) bb (k + 1) = pTm1 (t 1) (t 2) bb k + 0 by show _ + _ = _; rw [if_neg (by rw [c_18]; simp)]] at kk
          exact kk
        · refine j_iload_n M dX2_toldMany_21 1 rfl ?_
          refine j_if_eq M 49 dX2_toldMany_22 (by decide) (by omega) (fun c_22 => ?_) (fun c_22 => ?_)
          · refine j_iconst M dX2_toldMany_49 ?_
            refine j_goto M 54 dX2_toldMany_50 (by decide) ?_
            refine j_iadd M dX2_toldMany_54 ?_
            refine j_istore_n M dX2_toldMany_55 (by decide) ?_
            refine j_iinc M dX2_toldMany_56 3 rfl (by decide) ?_
            refine j_goto M 4 dX2_toldMany_59 (by decide) ?_
            have kk := kk (by omega)
            have hbf : bb = false := by cases bb; rfl; simp at hb; omega
            rw [show pTm1 (t 1) (t 2) bb (k + 1) = pTm1 (t 1) (t 2) bb k + 1 by show _ + _ = _; rw [if_pos ⟨c_18, by rw [hbf]; simp⟩]] at kk
            exact kk
          · have ht := rOk_told (hr k (by omega) (by omega)) (by simpa [pTold] using c_18)
            refine j_aload_n M dX2_toldMany_25 0 rfl ?_
            refine m_get M 2 (by decide) q1244 rfl dX2_toldMany_26 ?_
            refine j_iconst M dX2_toldMany_29 ?_
            refine j_iload_n M dX2_toldMany_30 3 rfl ?_
            refine j_imul M dX2_toldMany_31 ?_
            refine m_ald M hm (n := 36) 2 (by decide) rfl dX2_toldMany_32 (by omega) ?_
            refine j_aload_n M dX2_toldMany_33 0 rfl ?_
            refine m_get M 2 (by decide) q1244 rfl dX2_toldMany_34 ?_
            refine j_iconst M dX2_toldMany_37 ?_
            refine j_iload_n M dX2_toldMany_38 3 rfl ?_
            refine j_imul M dX2_toldMany_39 ?_
            refine j_iconst M dX2_toldMany_40 ?_
            refine j_iadd M dX2_toldMany_41 ?_
            refine m_ald M hm (n := 36) 2 (by decide) rfl dX2_toldMany_42 (by omega) ?_
            refine j_rV (k_S M (m_degenerate l X _ _ _ ht.1 ht.2.1) (lw_S q1596 q1597 q102 q1598) ndX2_degenerate dX2_toldMany_43 ⟨by decide, by decide, by decide, by decide⟩ rfl (Nat.le_of_ble_eq_true rfl)) ?_
            refine j_if_le M 53 dX2_toldMany_46 (by decide) (by have := pDeg_r (t 2 (4 * k)) (t 2 (4 * k + 1)); omega) (fun c_46 => ?_) (fun c_46 => ?_)
            · refine j_iconst M dX2_toldMany_53 ?_
              refine j_iadd M dX2_toldMany_54 ?_
              refine j_istore_n M dX2_toldMany_55 (by decide) ?_
              refine j_iinc M dX2_toldMany_56 3 rfl (by decide) ?_
              refine j_goto M 4 dX2_toldMany_59 (by decide) ?_
              have kk := kk (by omega)
              have hbf : bb = true := by cases bb; simp at hb; omega; rfl
              rw [show pTm1 (t 1) (t 2) bb (k + 1) = pTm1 (t 1) (t 2) bb k + 0 by show _ + _ = _; rw [if_neg (fun q => by have := q.2 hbf; omega)]] at kk
              exact kk
            · refine j_iconst M dX2_toldMany_49 ?_
              refine j_goto M 54 dX2_toldMany_50 (by decide) ?_
              refine j_iadd M dX2_toldMany_54 ?_
              refine j_istore_n M dX2_toldMany_55 (by decide) ?_
              refine j_iinc M dX2_toldMany_56 3 rfl (by decide) ?_
              refine j_goto M 4 dX2_toldMany_59 (by decide) ?_
              have kk := kk (by omega)
              rw [show pTm1 (t 1) (t 2) bb (k + 1) = pTm1 (t 1) (t 2) bb k + 1 by show _ + _ = _; rw [if_pos ⟨c_18, fun _ => c_46⟩]] at kk
              exact kk
  refine j_iconst M dX2_toldMany_0 ?_
  refine j_istore_n M dX2_toldMany_1 (by decide) ?_
  refine j_iconst M dX2_toldMany_2 ?_
  refine j_istore_n M dX2_toldMany_3 (by decide) ?_
  exact loop _ 0 rfl (by omega)
theorem m_howMany (hm : mOk σ) (c w : Int) (hw : r32 w) (h : MI c f t) : CM l X σ yX2_howMany cX2_howMany 2 (some .int) 3 [.int (zI w)] f t (some (.int (zI (vCount (f 0) (t 1) (t 2) (f 4) (f 6) (f 3) w)))) f t := by
  refine Ct.of (by decide) (Nat.le_of_ble_eq_true rfl) (fun Γ M => ?_)
  refine j_lv (lv' := [(0, .ref σ.1), (1, .int (zI w))]) rfl ?_
  refine j_iload_n M dX2_howMany_0 1 rfl ?_
  refine j_swn M (a := w) (by omega) (fun h_1 => ?_)
  by_cases e_1_0 : w = 0
  · rw [e_1_0]
    refine j_tabIn M 40 dX2_howMany_1 (by decide) (by decide) (by decide) rfl (by decide) ?_
    refine j_aload_n M dX2_howMany_40 0 rfl ?_
    refine m_get M 0 (by decide) q1242 rfl dX2_howMany_41 ?_
    refine j_iret M dX2_howMany_44 ⟨Nat.le_refl _, Nat.le_refl _⟩ ?_
    subst_vars; exact ⟨rfl, rfl⟩
  by_cases e_1_1 : w = 1
  · rw [e_1_1]
    refine j_tabIn M 45 dX2_howMany_1 (by decide) (by decide) (by decide) rfl (by decide) ?_
    refine j_aload_n M dX2_howMany_45 0 rfl ?_
    refine j_iconst M dX2_howMany_46 ?_
    refine j_rV (k_V M (m_toldMany l X σ f t hm 0 false rfl h.n h.ok) (m_rc M) (lw_V q1760 q1762 qs93 q102 q1763) ndX2_toldMany dX2_howMany_47 ⟨by decide, by decide, by decide, by decide⟩ rfl (Nat.le_of_ble_eq_true rfl)) ?_
    refine j_iret M dX2_howMany_50 ⟨Nat.le_refl _, Nat.le_refl _⟩ ?_
    subst_vars; exact ⟨rfl, rfl⟩
  by_cases e_1_2 : w = 2
  · rw [e_1_2]
    refine j_tabIn M 51 dX2_howMany_1 (by decide) (by decide) (by decide) rfl (by decide) ?_
    refine j_aload_n M dX2_howMany_51 0 rfl ?_
    refine j_iconst M dX2_howMany_52 ?_
    refine j_rV (k_V M (m_toldMany l X σ f t hm 1 true rfl h.n h.ok) (m_rc M) (lw_V q1760 q1762 qs93 q102 q1763) ndX2_toldMany dX2_howMany_53 ⟨by decide, by decide, by decide, by decide⟩ rfl (Nat.le_of_ble_eq_true rfl)) ?_
    refine j_iret M dX2_howMany_56 ⟨Nat.le_refl _, Nat.le_refl _⟩ ?_
    subst_vars; exact ⟨rfl, rfl⟩
  by_cases e_1_3 : w = 3
  · rw [e_1_3]
    refine j_tabIn M 57 dX2_howMany_1 (by decide) (by decide) (by decide) rfl (by decide) ?_
    refine j_aload_n M dX2_howMany_57 0 rfl ?_
    refine m_get M 4 (by decide) q1246 rfl dX2_howMany_58 ?_
    refine j_iret M dX2_howMany_61 ⟨Nat.le_refl _, Nat.le_refl _⟩ ?_
    subst_vars; exact ⟨rfl, rfl⟩
  by_cases e_1_4 : w = 4
  · rw [e_1_4]
    refine j_tabIn M 62 dX2_howMany_1 (by decide) (by decide) (by decide) rfl (by decide) ?_
    refine j_aload_n M dX2_howMany_62 0 rfl ?_
    refine m_get M 6 (by decide) q1248 rfl dX2_howMany_63 ?_
    refine j_iret M dX2_howMany_66 ⟨Nat.le_refl _, Nat.le_refl _⟩ ?_
    subst_vars; exact ⟨rfl, rfl⟩
  by_cases e_1_5 : w = 5
  · rw [e_1_5]
    refine j_tabIn M 67 dX2_howMany_1 (by decide) (by decide) (by decide) rfl (by decide) ?_
    refine j_aload_n M dX2_howMany_67 0 rfl ?_
    refine m_get M 3 (by decide) q1245 rfl dX2_howMany_68 ?_
    refine j_iret M dX2_howMany_71 ⟨Nat.le_refl _, Nat.le_refl _⟩ ?_
    subst_vars; exact ⟨rfl, rfl⟩
  refine j_tabOut M 72 dX2_howMany_1 h_1 (by omega) (by decide) ?_
  refine j_ldc M (2000000102) q1350 (by decide) dX2_howMany_72 ?_
  refine j_iret M dX2_howMany_74 ⟨Nat.le_refl _, Nat.le_refl _⟩ ?_
  exact ⟨by unfold vCount; simp [*], rfl⟩
theorem m_count (hm : mOk σ) (c w : Int) (hw : r32 w) (h : MI c f t) : CM l X σ yX2_count cX2_count 2 (some .int) 4 [.int (zI w)] f t (some (.int (zI (vCount (f 0) (t 1) (t 2) (f 4) (f 6) (f 3) w)))) f t := by
  refine Ct.of (by decide) (Nat.le_of_ble_eq_true rfl) (fun Γ M => ?_)
  refine j_lv (lv' := [(0, .ref σ.1), (1, .int (zI w))]) rfl ?_
  refine j_aload_n M dX2_count_0 0 rfl ?_
  refine j_iload_n M dX2_count_1 1 rfl ?_
  refine j_rV (k_V M (m_howMany l X σ f t hm c w hw h) (m_rc M) (lw_V q1756 q1758 qs92 q102 q1759) ndX2_howMany dX2_count_2 ⟨by decide, by decide, by decide, by decide⟩ rfl (Nat.le_of_ble_eq_true rfl)) ?_
  refine j_iret M dX2_count_5 ⟨Nat.le_refl _, Nat.le_refl _⟩ ?_
  exact ⟨rfl, rfl⟩
end M12
