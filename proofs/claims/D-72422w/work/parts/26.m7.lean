/-! 26: the reference: rules, roots -/
set_option maxRecDepth 100000
def pPow (c d : Int) : Nat → Int × Int
  | 0 => (2, c)
  | n + 1 => ((pPow c d n).2, c * (pPow c d n).2 + d * (pPow c d n).1)
def pPw (v : Int) : Nat → Int
  | 0 => 1
  | n + 1 => pPw v n * v
def pTold (K : Int → Int) (i : Int) : Bool := decide (K i = 0)
def pParts (K P : Int → Int) (i : Int) : Bool := decide (K i ≠ 0 ∧ K (P (4 * i)) = 0 ∧ ((K i = 1 ∨ K i = 2) → K (P (4 * i + 1)) = 0))
def pBothR (k c d e f w : Int) : Int := if w = 1 then (if k = 1 then c + e else c * e) else if w = 2 then (if k = 1 then d + f - c * e else c * c * f + e * e * d + 2 * d * f) else if w = 3 then (if k = 1 then -c * f - e * d else c * e * d * f) else (if k = 1 then -d * f else -d * d * f * f)
def pOf (K P : Int → Int) (i : Int) : Int := if K i = 0 then i else P (4 * i)
def pEn (K P : Int → Int) (i : Int) : Int := if K i = 3 then P (4 * i + 1) else 1
def pTwoR (K P : Int → Int) (i w : Int) : Int := if 2 < w then 0 else if w = 1 then (pPow (P (4 * pOf K P i)) (P (4 * pOf K P i + 1)) (pEn K P i).toNat).1 else -pPw (-P (4 * pOf K P i + 1)) (pEn K P i).toNat
def pRuleN (K P : Int → Int) (i w : Int) : Int := if w = 0 then (if K i = 1 ∨ K i = 2 then 4 else 2) else if K i = 1 ∨ K i = 2 then pBothR (K i) (P (4 * P (4 * i))) (P (4 * P (4 * i) + 1)) (P (4 * P (4 * i + 1))) (P (4 * P (4 * i + 1) + 1)) w else pTwoR K P i w
def vRule (n : Int) (K P : Int → Int) (i w : Int) : Int := if 0 ≤ i ∧ i ≤ n - 1 then (if 0 ≤ w ∧ w ≤ 4 then (if pTold K i ∨ pParts K P i then pRuleN K P i w else 2000000103) else 2000000102) else 2000000101
section M7a
variable (l : Launch) (X : Cx) (hp : Hp)
theorem m_powers (c d n : Int) (hn : 0 ≤ n ∧ n ≤ 5) : CS l X yX2_powers cX2_powers 7 (some .int) 0 [.int (zI c), .int (zI d), .int (zI n)] hp (some (.int (zI (pPow c d n.toNat).1))) := by
  refine Ct.of (by decide) (Nat.le_of_ble_eq_true rfl) (fun Γ M => ?_)
  refine j_lv (lv' := [(0, .int (zI c)), (1, .int (zI d)), (2, .int (zI n))]) rfl ?_
  have loop : ∀ (w k : Nat) (ls : List (Nat × Value)), w = n.toNat - k → (k : Int) ≤ n → J Γ hp 0 0 8 ([(0, .int (zI c)), (1, .int (zI d)), (2, .int (zI n)), (3, .int (zI (pPow c d k).1)), (4, .int (zI (pPow c d k).2)), (5, .int (zI k))] ++ ls) [] := by
    intro w
    induction w using Nat.strongRecOn with
    | _ w ih =>
      intro k ls hw hk
      refine j_loc (lv' := [(0, .int (zI c)), (1, .int (zI d)), (2, .int (zI n)), (3, .int (zI (pPow c d k).1)), (4, .int (zI (pPow c d k).2)), (5, .int (zI k))]) [0, 1, 2, 3, 4, 5] rfl ?_
      refine j_iload M dX2_powers_8 5 rfl ?_
      refine j_iload_n M dX2_powers_10 2 rfl ?_
      refine j_icmp_ge M 37 dX2_powers_11 (by decide) (by omega) (fun c_11 => ?_) (fun c_11 => ?_)
      · refine j_iload_n M dX2_powers_37 3 rfl ?_
        refine j_iret M dX2_powers_38 ⟨Nat.le_refl _, Nat.le_refl _⟩ ?_
        rw [show n.toNat = k by omega]; exact ⟨rfl, rfl⟩
      · refine j_iload_n M dX2_powers_14 0 rfl ?_
        refine j_iload M dX2_powers_15 4 rfl ?_
        refine j_imul M dX2_powers_17 ?_
        refine j_iload_n M dX2_powers_18 1 rfl ?_
        refine j_iload_n M dX2_powers_19 3 rfl ?_
        refine j_imul M dX2_powers_20 ?_
        refine j_iadd M dX2_powers_21 ?_
        refine j_istore M dX2_powers_22 (by decide) ?_
        refine j_iload M dX2_powers_24 4 rfl ?_
        refine j_istore_n M dX2_powers_26 (by decide) ?_
        refine j_iload M dX2_powers_27 6 rfl ?_
        refine j_istore M dX2_powers_29 (by decide) ?_
        refine j_iinc M dX2_powers_31 5 rfl (by decide) ?_
        refine j_goto M 8 dX2_powers_34 (by decide) ?_
        exact ih (n.toNat - (k + 1)) (by omega) (k + 1) [(6, .int (zI (c * (pPow c d k).2 + d * (pPow c d k).1)))] rfl (by omega)
  refine j_iconst M dX2_powers_0 ?_
  refine j_istore_n M dX2_powers_1 (by decide) ?_
  refine j_iload_n M dX2_powers_2 0 rfl ?_
  refine j_istore M dX2_powers_3 (by decide) ?_
  refine j_iconst M dX2_powers_5 ?_
  refine j_istore M dX2_powers_6 (by decide) ?_
  exact loop _ 0 [] rfl (by omega)
theorem m_power (v n : Int) (hn : 0 ≤ n ∧ n ≤ 5) : CS l X yX2_power cX2_power 4 (some .int) 0 [.int (zI v), .int (zI n)] hp (some (.int (zI (pPw v n.toNat)))) := by
  refine Ct.of (by decide) (Nat.le_of_ble_eq_true rfl) (fun Γ M => ?_)
  refine j_lv (lv' := [(0, .int (zI v)), (1, .int (zI n))]) rfl ?_
  have loop : ∀ (w k : Nat), w = n.toNat - k → (k : Int) ≤ n → J Γ hp 0 0 4 [(0, .int (zI v)), (1, .int (zI n)), (2, .int (zI (pPw v k))), (3, .int (zI k))] [] := by
    intro w
    induction w using Nat.strongRecOn with
    | _ w ih =>
      intro k hw hk
      refine j_iload_n M dX2_power_4 3 rfl ?_
      refine j_iload_n M dX2_power_5 1 rfl ?_
      refine j_icmp_ge M 19 dX2_power_6 (by decide) (by omega) (fun c_6 => ?_) (fun c_6 => ?_)
      · refine j_iload_n M dX2_power_19 2 rfl ?_
        refine j_iret M dX2_power_20 ⟨Nat.le_refl _, Nat.le_refl _⟩ ?_
        rw [show n.toNat = k by omega]; exact ⟨rfl, rfl⟩
      · refine j_iload_n M dX2_power_9 2 rfl ?_
        refine j_iload_n M dX2_power_10 0 rfl ?_
        refine j_imul M dX2_power_11 ?_
        refine j_istore_n M dX2_power_12 (by decide) ?_
        refine j_iinc M dX2_power_13 3 rfl (by decide) ?_
        refine j_goto M 4 dX2_power_16 (by decide) ?_
        exact ih (n.toNat - (k + 1)) (by omega) (k + 1) rfl (by omega)
  refine j_iconst M dX2_power_0 ?_
  refine j_istore_n M dX2_power_1 (by decide) ?_
  refine j_iconst M dX2_power_2 ?_
  refine j_istore_n M dX2_power_3 (by decide) ?_
  exact loop _ 0 rfl (by omega)
theorem m_spread (c d : Int) : CS l X yX2_spread cX2_spread 2 (some .int) 0 [.int (zI c), .int (zI d)] hp (some (.int (zI (c * c + 4 * d)))) := by
  refine Ct.of (by decide) (Nat.le_of_ble_eq_true rfl) (fun Γ M => ?_)
  refine j_lv (lv' := [(0, .int (zI c)), (1, .int (zI d))]) rfl ?_
  refine j_iload_n M dX2_spread_0 0 rfl ?_
  refine j_iload_n M dX2_spread_1 0 rfl ?_
  refine j_imul M dX2_spread_2 ?_
  refine j_iconst M dX2_spread_3 ?_
  refine j_iload_n M dX2_spread_4 1 rfl ?_
  refine j_imul M dX2_spread_5 ?_
  refine j_iadd M dX2_spread_6 ?_
  refine j_iret M dX2_spread_7 ⟨Nat.le_refl _, Nat.le_refl _⟩ ?_
  exact ⟨rfl, rfl⟩
end M7a
def pRt (v : Int) : Nat → Int → Int
  | 0, x => x
  | j + 1, x => if x * x < v then pRt v j (x + 1) else x
def pRoot (v : Int) : Int := if pRt v 20 0 * pRt v 20 0 = v then pRt v 20 0 else 2000000001
theorem pRt_r (v : Int) (hv : v ≤ 200) : ∀ (j : Nat) (x : Int), 0 ≤ x → x + j = 20 → x ≤ pRt v j x ∧ pRt v j x ≤ 20 := by
  intro j
  induction j with
  | zero => intro x h1 h2; unfold pRt; omega
  | succ j ih =>
    intro x h1 h2
    unfold pRt
    split
    · have := ih (x + 1) (by omega) (by omega); omega
    · omega
theorem m_wholeRoot (l : Launch) (X : Cx) (hp : Hp) (v : Int) (hv : r32 v ∧ v ≤ 200) : CS l X yX2_wholeRoot cX2_wholeRoot 2 (some .int) 0 [.int (zI v)] hp (some (.int (zI (pRoot v)))) := by
  refine Ct.of (by decide) (Nat.le_of_ble_eq_true rfl) (fun Γ M => ?_)
  refine j_lv (lv' := [(0, .int (zI v))]) rfl ?_
  have loop : ∀ (j : Nat) (x : Int), 0 ≤ x → x + j = 20 → pRt v j x = pRt v 20 0 → J Γ hp 0 0 2 [(0, .int (zI v)), (1, .int (zI x))] [] := by
    intro j
    induction j with
    | zero =>
      intro x h1 h2 hr
      have hx : x = 20 := by omega
      have hr : x = pRt v 20 0 := hr
      refine j_iload_n M dX2_wholeRoot_2 1 rfl ?_
      refine j_iload_n M dX2_wholeRoot_3 1 rfl ?_
      refine j_imul M dX2_wholeRoot_4 ?_
      refine j_iload_n M dX2_wholeRoot_5 0 rfl ?_
      refine j_icmp_ge M 15 dX2_wholeRoot_6 (by decide) (by subst hx; omega) (fun c_6 => ?_) (fun c_6 => ?_)
      · refine j_iload_n M dX2_wholeRoot_15 1 rfl ?_
        refine j_iload_n M dX2_wholeRoot_16 1 rfl ?_
        refine j_imul M dX2_wholeRoot_17 ?_
        refine j_iload_n M dX2_wholeRoot_18 0 rfl ?_
        refine j_icmp_ne M 26 dX2_wholeRoot_19 (by decide) (by subst hx; omega) (fun c_19 => ?_) (fun c_19 => ?_)
        · refine j_ldc M (2000000001) q1241 (by decide) dX2_wholeRoot_26 ?_
          refine j_iret M dX2_wholeRoot_28 ⟨Nat.le_refl _, Nat.le_refl _⟩ ?_
          refine ⟨?_, rfl⟩
          unfold pRoot; rw [← hr]
          first | rw [if_pos (by assumption)] | rw [if_neg (by assumption)]
        · refine j_iload_n M dX2_wholeRoot_22 1 rfl ?_
          refine j_goto M 28 dX2_wholeRoot_23 (by decide) ?_
          refine j_iret M dX2_wholeRoot_28 ⟨Nat.le_refl _, Nat.le_refl _⟩ ?_
          refine ⟨?_, rfl⟩
          unfold pRoot; rw [← hr]
          first | rw [if_pos (by assumption)] | rw [if_neg (by assumption)]
      · subst hx; omega
    | succ j ih =>
      intro x h1 h2 hr
      have hb := mul_bd 20 20 (a := x) (b := x) (by omega) (by omega)
      refine j_iload_n M dX2_wholeRoot_2 1 rfl ?_
      refine j_iload_n M dX2_wholeRoot_3 1 rfl ?_
      refine j_imul M dX2_wholeRoot_4 ?_
      refine j_iload_n M dX2_wholeRoot_5 0 rfl ?_
      refine j_icmp_ge M 15 dX2_wholeRoot_6 (by decide) (by omega) (fun c_6 => ?_) (fun c_6 => ?_)
      · have hr2 : pRt v 20 0 = x := by rw [← hr, pRt, if_neg (by omega)]
        refine j_iload_n M dX2_wholeRoot_15 1 rfl ?_
        refine j_iload_n M dX2_wholeRoot_16 1 rfl ?_
        refine j_imul M dX2_wholeRoot_17 ?_
        refine j_iload_n M dX2_wholeRoot_18 0 rfl ?_
        refine j_icmp_ne M 26 dX2_wholeRoot_19 (by decide) (by omega) (fun c_19 => ?_) (fun c_19 => ?_)
        · refine j_ldc M (2000000001) q1241 (by decide) dX2_wholeRoot_26 ?_
          refine j_iret M dX2_wholeRoot_28 ⟨Nat.le_refl _, Nat.le_refl _⟩ ?_
          refine ⟨?_, rfl⟩
          unfold pRoot; rw [hr2]
          first | rw [if_pos (by assumption)] | rw [if_neg (by assumption)]
        · refine j_iload_n M dX2_wholeRoot_22 1 rfl ?_
          refine j_goto M 28 dX2_wholeRoot_23 (by decide) ?_
          refine j_iret M dX2_wholeRoot_28 ⟨Nat.le_refl _, Nat.le_refl _⟩ ?_
          refine ⟨?_, rfl⟩
          unfold pRoot; rw [hr2]
          first | rw [if_pos (by assumption)] | rw [if_neg (by assumption)]
      · refine j_iinc M dX2_wholeRoot_9 1 rfl (by decide) ?_
        refine j_goto M 2 dX2_wholeRoot_12 (by decide) ?_
        exact ih (x + 1) (by omega) (by omega) (by rw [← hr, pRt, if_pos (by omega)])
  refine j_iconst M dX2_wholeRoot_0 ?_
  refine j_istore_n M dX2_wholeRoot_1 (by decide) ?_
  exact loop 20 0 (by omega) (by omega) rfl
def pDg (c d : Int) : Nat → Int → Int → Int → Int
  | 0, _, _, _ => 0
  | j + 1, n, a, b => if 1 < n ∧ b = 0 then n else pDg c d j (n + 1) b (c * b + d * a)
def pDeg (c d : Int) : Int := if d = 0 ∨ c * c + 4 * d = 0 then 0 else pDg c d 12 1 0 1
theorem p18 (k : Nat) (hk : k ≤ 12) : (0 : Int) < 18 ^ k ∧ (18 : Int) ^ k ≤ 1156831381426176 := by
  have h : ∀ k : Fin 13, (0 : Int) < 18 ^ (k : Nat) ∧ (18 : Int) ^ (k : Nat) ≤ 1156831381426176 := by decide
  exact h ⟨k, by omega⟩
theorem m_degenerate (l : Launch) (X : Cx) (hp : Hp) (c d : Int) (hc : -9 ≤ c ∧ c ≤ 9) (hd : -9 ≤ d ∧ d ≤ 9) : CS l X yX2_degenerate cX2_degenerate 9 (some .int) 1 [.int (zI c), .int (zI d)] hp (some (.int (zI (pDeg c d)))) := by
  have hcc := mul_bd 9 9 hc hc
  refine Ct.of (by decide) (Nat.le_of_ble_eq_true rfl) (fun Γ M => ?_)
  refine j_lv (lv' := [(0, .int (zI c)), (1, .int (zI d))]) rfl ?_
  have loop : (d ≠ 0 ∧ c * c + 4 * d ≠ 0) → ∀ (j k : Nat) (a b : Int) (ls : List (Nat × Value)), k + j = 12 → (-(18 ^ k) ≤ a ∧ a ≤ 18 ^ k) → (-(18 ^ k) ≤ b ∧ b ≤ 18 ^ k) → pDg c d j (k + 1) a b = pDg c d 12 1 0 1 → J Γ hp 0 0 22 ([(0, .int (zI c)), (1, .int (zI d)), (2, .long (zL a)), (4, .long (zL b)), (6, .int (zI ((k : Int) + 1)))] ++ ls) [] := by
    intro hne j
    induction j with
    | zero =>
      intro k a b ls hk ha hb hr
      refine j_loc (lv' := [(0, .int (zI c)), (1, .int (zI d)), (2, .long (zL a)), (4, .long (zL b)), (6, .int (zI ((k : Int) + 1)))]) [0, 1, 2, 3, 4] rfl ?_
      refine j_iload M dX2_degenerate_22 4 rfl ?_
      refine j_bipush M dX2_degenerate_24 (by decide) ?_
      refine j_icmp_gt M 70 dX2_degenerate_26 (by decide) (by omega) (fun c_26 => ?_) (fun c_26 => ?_)
      · refine j_iconst M dX2_degenerate_70 ?_
        refine j_iret M dX2_degenerate_71 ⟨Nat.le_refl _, Nat.le_refl _⟩ ?_
        refine ⟨?_, rfl⟩
        unfold pDeg; rw [if_neg (by omega), ← hr]; rfl
      · omega
    | succ j ih =>
      intro k a b ls hk ha hb hr
      refine j_loc (lv' := [(0, .int (zI c)), (1, .int (zI d)), (2, .long (zL a)), (4, .long (zL b)), (6, .int (zI ((k : Int) + 1)))]) [0, 1, 2, 3, 4] rfl ?_
      have hp18 := p18 k (by omega)
      have hp19 := p18 (k + 1) (by omega)
      have b1 := mul_bd 9 (18 ^ k) hc hb
      have b2 := mul_bd 9 (18 ^ k) hd ha
      have e18 : (18 : Int) ^ (k + 1) = 18 ^ k * 18 := Int.pow_succ 18 k
      refine j_iload M dX2_degenerate_22 4 rfl ?_
      refine j_bipush M dX2_degenerate_24 (by decide) ?_
      refine j_icmp_gt M 70 dX2_degenerate_26 (by decide) (by omega) (fun c_26 => ?_) (fun c_26 => ?_)
      · omega
      · refine j_iload M dX2_degenerate_29 4 rfl ?_
        refine j_iconst M dX2_degenerate_31 ?_
        refine j_icmp_le M 45 dX2_degenerate_32 (by decide) (by omega) (fun c_32 => ?_) (fun c_32 => ?_)
        · refine j_iload_n M dX2_degenerate_45 0 rfl ?_
          refine j_i2l M dX2_degenerate_46 (by omega) ?_
          refine j_lload M dX2_degenerate_47 3 rfl ?_
          refine j_lmul M dX2_degenerate_49 ?_
          refine j_iload_n M dX2_degenerate_50 1 rfl ?_
          refine j_i2l M dX2_degenerate_51 (by omega) ?_
          refine j_lload_n M dX2_degenerate_52 2 rfl ?_
          refine j_lmul M dX2_degenerate_53 ?_
          refine j_ladd M dX2_degenerate_54 ?_
          refine j_lstore M dX2_degenerate_55 (by decide) ?_
          refine j_lload M dX2_degenerate_57 3 rfl ?_
          refine j_lstore_n M dX2_degenerate_59 (by decide) ?_
          refine j_lload M dX2_degenerate_60 5 rfl ?_
          refine j_lstore M dX2_degenerate_62 (by decide) ?_
          refine j_iinc M dX2_degenerate_64 4 rfl (by decide) ?_
          refine j_goto M 22 dX2_degenerate_67 (by decide) ?_
          have kk := ih (k + 1) b (c * b + d * a) [(7, .long (zL (c * b + d * a)))] (by omega) (by omega) (by omega) (by rw [← hr, pDg, if_neg (by omega)]; rfl)
          exact kk
        · refine j_lload M dX2_degenerate_35 3 rfl ?_
          refine j_lconst M (z := 0) (by decide) dX2_degenerate_37 ?_
          refine j_lcmp_ne M 45 dX2_degenerate_38 dX2_degenerate_39 (by decide) (by omega) (fun c_38 => ?_) (fun c_38 => ?_)
          · refine j_iload_n M dX2_degenerate_45 0 rfl ?_
            refine j_i2l M dX2_degenerate_46 (by omega) ?_
            refine j_lload M dX2_degenerate_47 3 rfl ?_
            refine j_lmul M dX2_degenerate_49 ?_
            refine j_iload_n M dX2_degenerate_50 1 rfl ?_
            refine j_i2l M dX2_degenerate_51 (by omega) ?_
            refine j_lload_n M dX2_degenerate_52 2 rfl ?_
            refine j_lmul M dX2_degenerate_53 ?_
            refine j_ladd M dX2_degenerate_54 ?_
            refine j_lstore M dX2_degenerate_55 (by decide) ?_
            refine j_lload M dX2_degenerate_57 3 rfl ?_
            refine j_lstore_n M dX2_degenerate_59 (by decide) ?_
            refine j_lload M dX2_degenerate_60 5 rfl ?_
            refine j_lstore M dX2_degenerate_62 (by decide) ?_
            refine j_iinc M dX2_degenerate_64 4 rfl (by decide) ?_
            refine j_goto M 22 dX2_degenerate_67 (by decide) ?_
            have kk := ih (k + 1) b (c * b + d * a) [(7, .long (zL (c * b + d * a)))] (by omega) (by omega) (by omega) (by rw [← hr, pDg, if_neg (by omega)]; rfl)
            exact kk
          · refine j_iload M dX2_degenerate_42 4 rfl ?_
            refine j_iret M dX2_degenerate_44 ⟨Nat.le_refl _, Nat.le_refl _⟩ ?_
            refine ⟨?_, rfl⟩
            unfold pDeg; rw [if_neg (by omega), ← hr, pDg, if_pos (by omega)]
  refine j_iload_n M dX2_degenerate_0 1 rfl ?_
  refine j_if_eq M 12 dX2_degenerate_1 (by decide) (by omega) (fun c_1 => ?_) (fun c_1 => ?_)
  · refine j_iconst M dX2_degenerate_12 ?_
    refine j_iret M dX2_degenerate_13 ⟨Nat.le_refl _, Nat.le_refl _⟩ ?_
    refine ⟨?_, rfl⟩
    unfold pDeg; rw [if_pos (by omega)]
  · refine j_iload_n M dX2_degenerate_4 0 rfl ?_
    refine j_iload_n M dX2_degenerate_5 1 rfl ?_
    refine j_rV (k_S M (m_spread l X _ _ _) (lw_S q1590 q1591 q102 q1592) ndX2_spread dX2_degenerate_6 ⟨by decide, by decide, by decide, by decide⟩ rfl (Nat.le_of_ble_eq_true rfl)) ?_
    refine j_if_ne M 14 dX2_degenerate_9 (by decide) (by omega) (fun c_9 => ?_) (fun c_9 => ?_)
    · refine j_lconst M (z := 0) (by decide) dX2_degenerate_14 ?_
      refine j_lstore_n M dX2_degenerate_15 (by decide) ?_
      refine j_lconst M (z := 1) (by decide) dX2_degenerate_16 ?_
      refine j_lstore M dX2_degenerate_17 (by decide) ?_
      refine j_iconst M dX2_degenerate_19 ?_
      refine j_istore M dX2_degenerate_20 (by decide) ?_
      exact loop ⟨by omega, by omega⟩ 12 0 0 1 [] rfl (by decide) (by decide) rfl
    · refine j_iconst M dX2_degenerate_12 ?_
      refine j_iret M dX2_degenerate_13 ⟨Nat.le_refl _, Nat.le_refl _⟩ ?_
      refine ⟨?_, rfl⟩
      unfold pDeg; rw [if_pos (by omega)]
def pRoots (c d w : Int) : Int := if w = 0 then (if 0 < c * c + 4 * d then 2 else if c * c + 4 * d = 0 then 1 else 0) else if w = 1 then (if pRoot (c * c + 4 * d) = 2000000001 then 2000000001 else (c + pRoot (c * c + 4 * d)).tdiv 2) else if w = 2 then (if pRoot (c * c + 4 * d) = 2000000001 then 2000000001 else (c - pRoot (c * c + 4 * d)).tdiv 2) else if w = 3 then pDeg c d else (if c * c + 4 * d ≤ 0 ∨ c = 0 then 0 else if 0 < c then 1 else -1)
theorem pRoot_r (v : Int) (hv : v ≤ 200) : 0 ≤ pRoot v ∧ pRoot v ≤ 2000000001 := by
  have := pRt_r v hv 20 0 (by omega) (by omega)
  unfold pRoot; split <;> omega
theorem m_rootsNow (l : Launch) (X : Cx) (hp : Hp) (c d w : Int) (hc : -9 ≤ c ∧ c ≤ 9) (hd : -9 ≤ d ∧ d ≤ 9) (hw : r32 w) : CS l X yX2_rootsNow cX2_rootsNow 5 (some .int) 2 [.int (zI c), .int (zI d), .int (zI w)] hp (some (.int (zI (pRoots c d w)))) := by
  have hcc := mul_bd 9 9 hc hc
  have hr := pRoot_r (c * c + 4 * d) (by omega)
  refine Ct.of (by decide) (Nat.le_of_ble_eq_true rfl) (fun Γ M => ?_)
  refine j_lv (lv' := [(0, .int (zI c)), (1, .int (zI d)), (2, .int (zI w))]) rfl ?_
  refine j_iload_n M dX2_rootsNow_0 0 rfl ?_
  refine j_iload_n M dX2_rootsNow_1 1 rfl ?_
  refine j_rV (k_S M (m_spread l X _ _ _) (lw_S q1590 q1591 q102 q1592) ndX2_spread dX2_rootsNow_2 ⟨by decide, by decide, by decide, by decide⟩ rfl (Nat.le_of_ble_eq_true rfl)) ?_
  refine j_istore_n M dX2_rootsNow_5 (by decide) ?_
  refine j_iload_n M dX2_rootsNow_6 3 rfl ?_
  refine j_rV (k_S M (m_wholeRoot l X _ _ (by omega)) (lw_S q1593 q1594 q102 q1595) ndX2_wholeRoot dX2_rootsNow_7 ⟨by decide, by decide, by decide, by decide⟩ rfl (Nat.le_of_ble_eq_true rfl)) ?_
  refine j_istore M dX2_rootsNow_10 (by decide) ?_
  refine j_iload_n M dX2_rootsNow_12 2 rfl ?_
  refine j_swn M (a := w) (by omega) (fun h_13 => ?_)
  by_cases e_13_0 : w = 0
  · rw [e_13_0]
    refine j_tabIn M 44 dX2_rootsNow_13 (by decide) (by decide) (by decide) rfl (by decide) ?_
    refine j_iload_n M dX2_rootsNow_44 3 rfl ?_
    refine j_if_le M 52 dX2_rootsNow_45 (by decide) (by omega) (fun c_45 => ?_) (fun c_45 => ?_)
    · refine j_iload_n M dX2_rootsNow_52 3 rfl ?_
      refine j_if_ne M 60 dX2_rootsNow_53 (by decide) (by omega) (fun c_53 => ?_) (fun c_53 => ?_)
      · refine j_iconst M dX2_rootsNow_60 ?_
        refine j_iret M dX2_rootsNow_61 ⟨Nat.le_refl _, Nat.le_refl _⟩ ?_
        refine ⟨?_, rfl⟩
        subst_vars; unfold pRoots; rw [if_pos rfl]
        first | rw [if_pos (by omega)] | rw [if_neg (by omega), if_pos (by omega)] | rw [if_neg (by omega), if_neg (by omega)]
      · refine j_iconst M dX2_rootsNow_56 ?_
        refine j_goto M 61 dX2_rootsNow_57 (by decide) ?_
        refine j_iret M dX2_rootsNow_61 ⟨Nat.le_refl _, Nat.le_refl _⟩ ?_
        refine ⟨?_, rfl⟩
        subst_vars; unfold pRoots; rw [if_pos rfl]
        first | rw [if_pos (by omega)] | rw [if_neg (by omega), if_pos (by omega)] | rw [if_neg (by omega), if_neg (by omega)]
    · refine j_iconst M dX2_rootsNow_48 ?_
      refine j_goto M 61 dX2_rootsNow_49 (by decide) ?_
      refine j_iret M dX2_rootsNow_61 ⟨Nat.le_refl _, Nat.le_refl _⟩ ?_
      refine ⟨?_, rfl⟩
      subst_vars; unfold pRoots; rw [if_pos rfl]
      first | rw [if_pos (by omega)] | rw [if_neg (by omega), if_pos (by omega)] | rw [if_neg (by omega), if_neg (by omega)]
  by_cases e_13_1 : w = 1
  · rw [e_13_1]
    refine j_tabIn M 62 dX2_rootsNow_13 (by decide) (by decide) (by decide) rfl (by decide) ?_
    refine j_iload M dX2_rootsNow_62 4 rfl ?_
    refine j_ldc M (2000000001) q1241 (by decide) dX2_rootsNow_64 ?_
    refine j_icmp_ne M 74 dX2_rootsNow_66 (by decide) (by omega) (fun c_66 => ?_) (fun c_66 => ?_)
    · refine j_iload_n M dX2_rootsNow_74 0 rfl ?_
      refine j_iload M dX2_rootsNow_75 4 rfl ?_
      refine j_iadd M dX2_rootsNow_77 ?_
      refine j_iconst M dX2_rootsNow_78 ?_
      refine j_idiv M dX2_rootsNow_79 (by omega) (by omega) ?_
      refine j_iret M dX2_rootsNow_80 ⟨Nat.le_refl _, Nat.le_refl _⟩ ?_
      refine ⟨?_, rfl⟩
      subst_vars; unfold pRoots; simp [*]
    · refine j_ldc M (2000000001) q1241 (by decide) dX2_rootsNow_69 ?_
      refine j_goto M 80 dX2_rootsNow_71 (by decide) ?_
      refine j_iret M dX2_rootsNow_80 ⟨Nat.le_refl _, Nat.le_refl _⟩ ?_
      refine ⟨?_, rfl⟩
      subst_vars; unfold pRoots; simp [*]
  by_cases e_13_2 : w = 2
  · rw [e_13_2]
    refine j_tabIn M 81 dX2_rootsNow_13 (by decide) (by decide) (by decide) rfl (by decide) ?_
    refine j_iload M dX2_rootsNow_81 4 rfl ?_
    refine j_ldc M (2000000001) q1241 (by decide) dX2_rootsNow_83 ?_
    refine j_icmp_ne M 93 dX2_rootsNow_85 (by decide) (by omega) (fun c_85 => ?_) (fun c_85 => ?_)
    · refine j_iload_n M dX2_rootsNow_93 0 rfl ?_
      refine j_iload M dX2_rootsNow_94 4 rfl ?_
      refine j_isub M dX2_rootsNow_96 ?_
      refine j_iconst M dX2_rootsNow_97 ?_
      refine j_idiv M dX2_rootsNow_98 (by omega) (by omega) ?_
      refine j_iret M dX2_rootsNow_99 ⟨Nat.le_refl _, Nat.le_refl _⟩ ?_
      refine ⟨?_, rfl⟩
      subst_vars; unfold pRoots; simp [*]
    · refine j_ldc M (2000000001) q1241 (by decide) dX2_rootsNow_88 ?_
      refine j_goto M 99 dX2_rootsNow_90 (by decide) ?_
      refine j_iret M dX2_rootsNow_99 ⟨Nat.le_refl _, Nat.le_refl _⟩ ?_
      refine ⟨?_, rfl⟩
      subst_vars; unfold pRoots; simp [*]
  by_cases e_13_3 : w = 3
  · rw [e_13_3]
    refine j_tabIn M 100 dX2_rootsNow_13 (by decide) (by decide) (by decide) rfl (by decide) ?_
    refine j_iload_n M dX2_rootsNow_100 0 rfl ?_
    refine j_iload_n M dX2_rootsNow_101 1 rfl ?_
    refine j_rV (k_S M (m_degenerate l X _ c d hc hd) (lw_S q1596 q1597 q102 q1598) ndX2_degenerate dX2_rootsNow_102 ⟨by decide, by decide, by decide, by decide⟩ rfl (Nat.le_of_ble_eq_true rfl)) ?_
    refine j_iret M dX2_rootsNow_105 ⟨Nat.le_refl _, Nat.le_refl _⟩ ?_
    refine ⟨?_, rfl⟩
    subst_vars; rfl
  refine j_tabOut M 106 dX2_rootsNow_13 h_13 (by omega) (by decide) ?_
  refine j_iload_n M dX2_rootsNow_106 3 rfl ?_
  refine j_if_le M 114 dX2_rootsNow_107 (by decide) (by omega) (fun c_107 => ?_) (fun c_107 => ?_)
  · refine j_iconst M dX2_rootsNow_114 ?_
    refine j_goto M 127 dX2_rootsNow_115 (by decide) ?_
    refine j_iret M dX2_rootsNow_127 ⟨Nat.le_refl _, Nat.le_refl _⟩ ?_
    refine ⟨?_, rfl⟩
    unfold pRoots; rw [if_neg (by omega), if_neg (by omega), if_neg (by omega), if_neg (by omega)]
    first | rw [if_pos (by omega)] | rw [if_neg (by omega), if_pos (by omega)] | rw [if_neg (by omega), if_neg (by omega)]
  · refine j_iload_n M dX2_rootsNow_110 0 rfl ?_
    refine j_if_ne M 118 dX2_rootsNow_111 (by decide) (by omega) (fun c_111 => ?_) (fun c_111 => ?_)
    · refine j_iload_n M dX2_rootsNow_118 0 rfl ?_
      refine j_if_le M 126 dX2_rootsNow_119 (by decide) (by omega) (fun c_119 => ?_) (fun c_119 => ?_)
      · refine j_iconst M dX2_rootsNow_126 ?_
        refine j_iret M dX2_rootsNow_127 ⟨Nat.le_refl _, Nat.le_refl _⟩ ?_
        refine ⟨?_, rfl⟩
        unfold pRoots; rw [if_neg (by omega), if_neg (by omega), if_neg (by omega), if_neg (by omega)]
        first | rw [if_pos (by omega)] | rw [if_neg (by omega), if_pos (by omega)] | rw [if_neg (by omega), if_neg (by omega)]
      · refine j_iconst M dX2_rootsNow_122 ?_
        refine j_goto M 127 dX2_rootsNow_123 (by decide) ?_
        refine j_iret M dX2_rootsNow_127 ⟨Nat.le_refl _, Nat.le_refl _⟩ ?_
        refine ⟨?_, rfl⟩
        unfold pRoots; rw [if_neg (by omega), if_neg (by omega), if_neg (by omega), if_neg (by omega)]
        first | rw [if_pos (by omega)] | rw [if_neg (by omega), if_pos (by omega)] | rw [if_neg (by omega), if_neg (by omega)]
    · refine j_iconst M dX2_rootsNow_114 ?_
      refine j_goto M 127 dX2_rootsNow_115 (by decide) ?_
      refine j_iret M dX2_rootsNow_127 ⟨Nat.le_refl _, Nat.le_refl _⟩ ?_
      refine ⟨?_, rfl⟩
      unfold pRoots; rw [if_neg (by omega), if_neg (by omega), if_neg (by omega), if_neg (by omega)]
      first | rw [if_pos (by omega)] | rw [if_neg (by omega), if_pos (by omega)] | rw [if_neg (by omega), if_neg (by omega)]
section M7
variable (l : Launch) (X : Cx) (σ : Ms) (f : Nat → Int) (t : Nat → Int → Int)
theorem m_isTold (hm : mOk σ) (i : Int) (hi : 0 ≤ i ∧ i < 9) (hk : r32 (t 1 i)) : CM l X σ yX2_isTold cX2_isTold 2 (some .boolean) 0 [.int (zI i)] f t (some (.int (zB (pTold (t 1) i)))) f t := by
  refine Ct.of (by decide) (Nat.le_of_ble_eq_true rfl) (fun Γ M => ?_)
  refine j_lv (lv' := [(0, .ref σ.1), (1, .int (zI i))]) rfl ?_
  refine j_aload_n M dX2_isTold_0 0 rfl ?_
  refine m_get M 1 (by decide) q1243 rfl dX2_isTold_1 ?_
  refine j_iload_n M dX2_isTold_4 1 rfl ?_
  refine m_ald M hm (n := 9) 1 (by decide) rfl dX2_isTold_5 (by omega) ?_
  refine j_if_ne M 13 dX2_isTold_6 (by decide) (by omega) (fun c_6 => ?_) (fun c_6 => ?_)
  · refine j_iconst M dX2_isTold_13 ?_
    refine j_bool false rfl ?_
    refine j_zret M dX2_isTold_14 ⟨Nat.le_refl _, Nat.le_refl _⟩ ?_
    first | exact pzT (by omega) | exact pzF (by omega)
  · refine j_iconst M dX2_isTold_9 ?_
    refine j_goto M 14 dX2_isTold_10 (by decide) ?_
    refine j_bool true rfl ?_
    refine j_zret M dX2_isTold_14 ⟨Nat.le_refl _, Nat.le_refl _⟩ ?_
    first | exact pzT (by omega) | exact pzF (by omega)
theorem m_arePartsTold (hm : mOk σ) (N i : Int) (hN : N ≤ 8) (hi : 0 ≤ i ∧ i < N) (hr : rsOk (t 1) (t 2) N) : CM l X σ yX2_arePartsTold cX2_arePartsTold 3 (some .boolean) 1 [.int (zI i)] f t (some (.int (zB (pParts (t 1) (t 2) i)))) f t := by
  have hk := rOk_k (hr i hi.1 hi.2)
  refine Ct.of (by decide) (Nat.le_of_ble_eq_true rfl) (fun Γ M => ?_)
  refine j_lv (lv' := [(0, .ref σ.1), (1, .int (zI i))]) rfl ?_
  refine j_aload_n M dX2_arePartsTold_0 0 rfl ?_
  refine m_get M 1 (by decide) q1243 rfl dX2_arePartsTold_1 ?_
  refine j_iload_n M dX2_arePartsTold_4 1 rfl ?_
  refine m_ald M hm (n := 9) 1 (by decide) rfl dX2_arePartsTold_5 (by omega) ?_
  refine j_iconst M dX2_arePartsTold_6 ?_
  refine j_icmp_eq M 20 dX2_arePartsTold_7 (by decide) (by omega) (fun c_7 => ?_) (fun c_7 => ?_)
  · refine j_iconst M dX2_arePartsTold_20 ?_
    refine j_goto M 25 dX2_arePartsTold_21 (by decide) ?_
    refine j_istore_n M dX2_arePartsTold_25 (by decide) ?_
    refine j_aload_n M dX2_arePartsTold_26 0 rfl ?_
    refine m_get M 1 (by decide) q1243 rfl dX2_arePartsTold_27 ?_
    refine j_iload_n M dX2_arePartsTold_30 1 rfl ?_
    refine m_ald M hm (n := 9) 1 (by decide) rfl dX2_arePartsTold_31 (by omega) ?_
    refine j_if_eq M 75 dX2_arePartsTold_32 (by decide) (by omega) (fun c_32 => ?_) (fun c_32 => ?_)
    · refine j_iconst M dX2_arePartsTold_75 ?_
      refine j_bool false rfl ?_
      refine j_zret M dX2_arePartsTold_76 ⟨Nat.le_refl _, Nat.le_refl _⟩ ?_
      try simp only [pTold, decide_eq_true_eq, decide_eq_false_iff_not] at *
      first | exact pzT ⟨by omega, by omega, fun _ => by omega⟩ | exact pzF (by omega) | exact pzF (fun q => by have := q.2.2 (by omega); omega)
    · have hp := rOk_part (hr i hi.1 hi.2) c_32
      have hk2 := rOk_k (hr _ hp.1 (by omega))
      refine j_aload_n M dX2_arePartsTold_35 0 rfl ?_
      refine j_aload_n M dX2_arePartsTold_36 0 rfl ?_
      refine m_get M 2 (by decide) q1244 rfl dX2_arePartsTold_37 ?_
      refine j_iconst M dX2_arePartsTold_40 ?_
      refine j_iload_n M dX2_arePartsTold_41 1 rfl ?_
      refine j_imul M dX2_arePartsTold_42 ?_
      refine m_ald M hm (n := 36) 2 (by decide) rfl dX2_arePartsTold_43 (by omega) ?_
      refine j_rV (k_V M (m_isTold l X σ f t hm _ (by omega) (by omega)) (m_rc M) (lw_V q1557 q1559 qs71 q102 q1560) ndX2_isTold dX2_arePartsTold_44 ⟨by decide, by decide, by decide, by decide⟩ rfl (Nat.le_of_ble_eq_true rfl)) ?_
      refine j_ifeqB M 75 dX2_arePartsTold_47 (by decide) (fun c_47 => ?_) (fun c_47 => ?_)
      · refine j_iconst M dX2_arePartsTold_75 ?_
        refine j_bool false rfl ?_
        refine j_zret M dX2_arePartsTold_76 ⟨Nat.le_refl _, Nat.le_refl _⟩ ?_
        try simp only [pTold, decide_eq_true_eq, decide_eq_false_iff_not] at *
        first | exact pzT ⟨by omega, by omega, fun _ => by omega⟩ | exact pzF (by omega) | exact pzF (fun q => by have := q.2.2 (by omega); omega)
      · refine j_iload_n M dX2_arePartsTold_50 2 rfl ?_
        refine j_if_eq M 71 dX2_arePartsTold_51 (by decide) (by omega) (fun c_51 => ?_) (fun c_51 => ?_)
        · omega
        · have hp2 := rOk_part2 (hr i hi.1 hi.2) (by omega)
          have hk3 := rOk_k (hr _ hp2.1 (by omega))
          refine j_aload_n M dX2_arePartsTold_54 0 rfl ?_
          refine j_aload_n M dX2_arePartsTold_55 0 rfl ?_
          refine m_get M 2 (by decide) q1244 rfl dX2_arePartsTold_56 ?_
          refine j_iconst M dX2_arePartsTold_59 ?_
          refine j_iload_n M dX2_arePartsTold_60 1 rfl ?_
          refine j_imul M dX2_arePartsTold_61 ?_
          refine j_iconst M dX2_arePartsTold_62 ?_
          refine j_iadd M dX2_arePartsTold_63 ?_
          refine m_ald M hm (n := 36) 2 (by decide) rfl dX2_arePartsTold_64 (by omega) ?_
          refine j_rV (k_V M (m_isTold l X σ f t hm _ (by omega) (by omega)) (m_rc M) (lw_V q1557 q1559 qs71 q102 q1560) ndX2_isTold dX2_arePartsTold_65 ⟨by decide, by decide, by decide, by decide⟩ rfl (Nat.le_of_ble_eq_true rfl)) ?_
          refine j_ifeqB M 75 dX2_arePartsTold_68 (by decide) (fun c_68 => ?_) (fun c_68 => ?_)
          · refine j_iconst M dX2_arePartsTold_75 ?_
            refine j_bool false rfl ?_
            refine j_zret M dX2_arePartsTold_76 ⟨Nat.le_refl _, Nat.le_refl _⟩ ?_
            try simp only [pTold, decide_eq_true_eq, decide_eq_false_iff_not] at *
            first | exact pzT ⟨by omega, by omega, fun _ => by omega⟩ | exact pzF (by omega) | exact pzF (fun q => by have := q.2.2 (by omega); omega)
          · refine j_iconst M dX2_arePartsTold_71 ?_
            refine j_goto M 76 dX2_arePartsTold_72 (by decide) ?_
            refine j_bool true rfl ?_
            refine j_zret M dX2_arePartsTold_76 ⟨Nat.le_refl _, Nat.le_refl _⟩ ?_
            try simp only [pTold, decide_eq_true_eq, decide_eq_false_iff_not] at *
            first | exact pzT ⟨by omega, by omega, fun _ => by omega⟩ | exact pzF (by omega) | exact pzF (fun q => by have := q.2.2 (by omega); omega)
  · refine j_aload_n M dX2_arePartsTold_10 0 rfl ?_
    refine m_get M 1 (by decide) q1243 rfl dX2_arePartsTold_11 ?_
    refine j_iload_n M dX2_arePartsTold_14 1 rfl ?_
    refine m_ald M hm (n := 9) 1 (by decide) rfl dX2_arePartsTold_15 (by omega) ?_
    refine j_iconst M dX2_arePartsTold_16 ?_
    refine j_icmp_ne M 24 dX2_arePartsTold_17 (by decide) (by omega) (fun c_17 => ?_) (fun c_17 => ?_)
    · refine j_iconst M dX2_arePartsTold_24 ?_
      refine j_istore_n M dX2_arePartsTold_25 (by decide) ?_
      refine j_aload_n M dX2_arePartsTold_26 0 rfl ?_
      refine m_get M 1 (by decide) q1243 rfl dX2_arePartsTold_27 ?_
      refine j_iload_n M dX2_arePartsTold_30 1 rfl ?_
      refine m_ald M hm (n := 9) 1 (by decide) rfl dX2_arePartsTold_31 (by omega) ?_
      refine j_if_eq M 75 dX2_arePartsTold_32 (by decide) (by omega) (fun c_32 => ?_) (fun c_32 => ?_)
      · refine j_iconst M dX2_arePartsTold_75 ?_
        refine j_bool false rfl ?_
        refine j_zret M dX2_arePartsTold_76 ⟨Nat.le_refl _, Nat.le_refl _⟩ ?_
        try simp only [pTold, decide_eq_true_eq, decide_eq_false_iff_not] at *
        first | exact pzT ⟨by omega, by omega, fun _ => by omega⟩ | exact pzF (by omega) | exact pzF (fun q => by have := q.2.2 (by omega); omega)
      · have hp := rOk_part (hr i hi.1 hi.2) c_32
        have hk2 := rOk_k (hr _ hp.1 (by omega))
        refine j_aload_n M dX2_arePartsTold_35 0 rfl ?_
        refine j_aload_n M dX2_arePartsTold_36 0 rfl ?_
        refine m_get M 2 (by decide) q1244 rfl dX2_arePartsTold_37 ?_
        refine j_iconst M dX2_arePartsTold_40 ?_
        refine j_iload_n M dX2_arePartsTold_41 1 rfl ?_
        refine j_imul M dX2_arePartsTold_42 ?_
        refine m_ald M hm (n := 36) 2 (by decide) rfl dX2_arePartsTold_43 (by omega) ?_
        refine j_rV (k_V M (m_isTold l X σ f t hm _ (by omega) (by omega)) (m_rc M) (lw_V q1557 q1559 qs71 q102 q1560) ndX2_isTold dX2_arePartsTold_44 ⟨by decide, by decide, by decide, by decide⟩ rfl (Nat.le_of_ble_eq_true rfl)) ?_
        refine j_ifeqB M 75 dX2_arePartsTold_47 (by decide) (fun c_47 => ?_) (fun c_47 => ?_)
        · refine j_iconst M dX2_arePartsTold_75 ?_
          refine j_bool false rfl ?_
          refine j_zret M dX2_arePartsTold_76 ⟨Nat.le_refl _, Nat.le_refl _⟩ ?_
          try simp only [pTold, decide_eq_true_eq, decide_eq_false_iff_not] at *
          first | exact pzT ⟨by omega, by omega, fun _ => by omega⟩ | exact pzF (by omega) | exact pzF (fun q => by have := q.2.2 (by omega); omega)
        · refine j_iload_n M dX2_arePartsTold_50 2 rfl ?_
          refine j_if_eq M 71 dX2_arePartsTold_51 (by decide) (by omega) (fun c_51 => ?_) (fun c_51 => ?_)
          · refine j_iconst M dX2_arePartsTold_71 ?_
            refine j_goto M 76 dX2_arePartsTold_72 (by decide) ?_
            refine j_bool true rfl ?_
            refine j_zret M dX2_arePartsTold_76 ⟨Nat.le_refl _, Nat.le_refl _⟩ ?_
            try simp only [pTold, decide_eq_true_eq, decide_eq_false_iff_not] at *
            first | exact pzT ⟨by omega, by omega, fun _ => by omega⟩ | exact pzF (by omega) | exact pzF (fun q => by have := q.2.2 (by omega); omega)
          · omega
    · refine j_iconst M dX2_arePartsTold_20 ?_
      refine j_goto M 25 dX2_arePartsTold_21 (by decide) ?_
      refine j_istore_n M dX2_arePartsTold_25 (by decide) ?_
      refine j_aload_n M dX2_arePartsTold_26 0 rfl ?_
      refine m_get M 1 (by decide) q1243 rfl dX2_arePartsTold_27 ?_
      refine j_iload_n M dX2_arePartsTold_30 1 rfl ?_
      refine m_ald M hm (n := 9) 1 (by decide) rfl dX2_arePartsTold_31 (by omega) ?_
      refine j_if_eq M 75 dX2_arePartsTold_32 (by decide) (by omega) (fun c_32 => ?_) (fun c_32 => ?_)
      · refine j_iconst M dX2_arePartsTold_75 ?_
        refine j_bool false rfl ?_
        refine j_zret M dX2_arePartsTold_76 ⟨Nat.le_refl _, Nat.le_refl _⟩ ?_
        try simp only [pTold, decide_eq_true_eq, decide_eq_false_iff_not] at *
        first | exact pzT ⟨by omega, by omega, fun _ => by omega⟩ | exact pzF (by omega) | exact pzF (fun q => by have := q.2.2 (by omega); omega)
      · have hp := rOk_part (hr i hi.1 hi.2) c_32
        have hk2 := rOk_k (hr _ hp.1 (by omega))
        refine j_aload_n M dX2_arePartsTold_35 0 rfl ?_
        refine j_aload_n M dX2_arePartsTold_36 0 rfl ?_
        refine m_get M 2 (by decide) q1244 rfl dX2_arePartsTold_37 ?_
        refine j_iconst M dX2_arePartsTold_40 ?_
        refine j_iload_n M dX2_arePartsTold_41 1 rfl ?_
        refine j_imul M dX2_arePartsTold_42 ?_
        refine m_ald M hm (n := 36) 2 (by decide) rfl dX2_arePartsTold_43 (by omega) ?_
        refine j_rV (k_V M (m_isTold l X σ f t hm _ (by omega) (by omega)) (m_rc M) (lw_V q1557 q1559 qs71 q102 q1560) ndX2_isTold dX2_arePartsTold_44 ⟨by decide, by decide, by decide, by decide⟩ rfl (Nat.le_of_ble_eq_true rfl)) ?_
        refine j_ifeqB M 75 dX2_arePartsTold_47 (by decide) (fun c_47 => ?_) (fun c_47 => ?_)
        · refine j_iconst M dX2_arePartsTold_75 ?_
          refine j_bool false rfl ?_
          refine j_zret M dX2_arePartsTold_76 ⟨Nat.le_refl _, Nat.le_refl _⟩ ?_
          try simp only [pTold, decide_eq_true_eq, decide_eq_false_iff_not] at *
          first | exact pzT ⟨by omega, by omega, fun _ => by omega⟩ | exact pzF (by omega) | exact pzF (fun q => by have := q.2.2 (by omega); omega)
        · refine j_iload_n M dX2_arePartsTold_50 2 rfl ?_
          refine j_if_eq M 71 dX2_arePartsTold_51 (by decide) (by omega) (fun c_51 => ?_) (fun c_51 => ?_)
          · omega
          · have hp2 := rOk_part2 (hr i hi.1 hi.2) (by omega)
            have hk3 := rOk_k (hr _ hp2.1 (by omega))
            refine j_aload_n M dX2_arePartsTold_54 0 rfl ?_
            refine j_aload_n M dX2_arePartsTold_55 0 rfl ?_
            refine m_get M 2 (by decide) q1244 rfl dX2_arePartsTold_56 ?_
            refine j_iconst M dX2_arePartsTold_59 ?_
            refine j_iload_n M dX2_arePartsTold_60 1 rfl ?_
            refine j_imul M dX2_arePartsTold_61 ?_
            refine j_iconst M dX2_arePartsTold_62 ?_
            refine j_iadd M dX2_arePartsTold_63 ?_
            refine m_ald M hm (n := 36) 2 (by decide) rfl dX2_arePartsTold_64 (by omega) ?_
            refine j_rV (k_V M (m_isTold l X σ f t hm _ (by omega) (by omega)) (m_rc M) (lw_V q1557 q1559 qs71 q102 q1560) ndX2_isTold dX2_arePartsTold_65 ⟨by decide, by decide, by decide, by decide⟩ rfl (Nat.le_of_ble_eq_true rfl)) ?_
            refine j_ifeqB M 75 dX2_arePartsTold_68 (by decide) (fun c_68 => ?_) (fun c_68 => ?_)
            · refine j_iconst M dX2_arePartsTold_75 ?_
              refine j_bool false rfl ?_
              refine j_zret M dX2_arePartsTold_76 ⟨Nat.le_refl _, Nat.le_refl _⟩ ?_
              try simp only [pTold, decide_eq_true_eq, decide_eq_false_iff_not] at *
              first | exact pzT ⟨by omega, by omega, fun _ => by omega⟩ | exact pzF (by omega) | exact pzF (fun q => by have := q.2.2 (by omega); omega)
            · refine j_iconst M dX2_arePartsTold_71 ?_
              refine j_goto M 76 dX2_arePartsTold_72 (by decide) ?_
              refine j_bool true rfl ?_
              refine j_zret M dX2_arePartsTold_76 ⟨Nat.le_refl _, Nat.le_refl _⟩ ?_
              try simp only [pTold, decide_eq_true_eq, decide_eq_false_iff_not] at *
              first | exact pzT ⟨by omega, by omega, fun _ => by omega⟩ | exact pzF (by omega) | exact pzF (fun q => by have := q.2.2 (by omega); omega)
theorem m_bothRule (hm : mOk σ) (N i w : Int) (hN : N ≤ 8) (hi : 0 ≤ i ∧ i < N) (hw : r32 w) (hr : rsOk (t 1) (t 2) N) (hk : t 1 i = 1 ∨ t 1 i = 2) : CM l X σ yX2_bothRule cX2_bothRule 10 (some .int) 0 [.int (zI i), .int (zI w)] f t (some (.int (zI (pBothR (t 1 i) (t 2 (4 * t 2 (4 * i))) (t 2 (4 * t 2 (4 * i) + 1)) (t 2 (4 * t 2 (4 * i + 1))) (t 2 (4 * t 2 (4 * i + 1) + 1)) w)))) f t := by
  have hp := rOk_part (hr i hi.1 hi.2) (by omega)
  have hp2 := rOk_part2 (hr i hi.1 hi.2) hk
  refine Ct.of (by decide) (Nat.le_of_ble_eq_true rfl) (fun Γ M => ?_)
  refine j_lv (lv' := [(0, .ref σ.1), (1, .int (zI i)), (2, .int (zI w))]) rfl ?_
  refine j_aload_n M dX2_bothRule_0 0 rfl ?_
  refine m_get M 2 (by decide) q1244 rfl dX2_bothRule_1 ?_
  refine j_iconst M dX2_bothRule_4 ?_
  refine j_iload_n M dX2_bothRule_5 1 rfl ?_
  refine j_imul M dX2_bothRule_6 ?_
  refine m_ald M hm (n := 36) 2 (by decide) rfl dX2_bothRule_7 (by omega) ?_
  refine j_istore_n M dX2_bothRule_8 (by decide) ?_
  refine j_aload_n M dX2_bothRule_9 0 rfl ?_
  refine m_get M 2 (by decide) q1244 rfl dX2_bothRule_10 ?_
  refine j_iconst M dX2_bothRule_13 ?_
  refine j_iload_n M dX2_bothRule_14 1 rfl ?_
  refine j_imul M dX2_bothRule_15 ?_
  refine j_iconst M dX2_bothRule_16 ?_
  refine j_iadd M dX2_bothRule_17 ?_
  refine m_ald M hm (n := 36) 2 (by decide) rfl dX2_bothRule_18 (by omega) ?_
  refine j_istore M dX2_bothRule_19 (by decide) ?_
  refine j_aload_n M dX2_bothRule_21 0 rfl ?_
  refine m_get M 2 (by decide) q1244 rfl dX2_bothRule_22 ?_
  refine j_iconst M dX2_bothRule_25 ?_
  refine j_iload_n M dX2_bothRule_26 3 rfl ?_
  refine j_imul M dX2_bothRule_27 ?_
  refine m_ald M hm (n := 36) 2 (by decide) rfl dX2_bothRule_28 (by omega) ?_
  refine j_istore M dX2_bothRule_29 (by decide) ?_
  refine j_aload_n M dX2_bothRule_31 0 rfl ?_
  refine m_get M 2 (by decide) q1244 rfl dX2_bothRule_32 ?_
  refine j_iconst M dX2_bothRule_35 ?_
  refine j_iload_n M dX2_bothRule_36 3 rfl ?_
  refine j_imul M dX2_bothRule_37 ?_
  refine j_iconst M dX2_bothRule_38 ?_
  refine j_iadd M dX2_bothRule_39 ?_
  refine m_ald M hm (n := 36) 2 (by decide) rfl dX2_bothRule_40 (by omega) ?_
  refine j_istore M dX2_bothRule_41 (by decide) ?_
  refine j_aload_n M dX2_bothRule_43 0 rfl ?_
  refine m_get M 2 (by decide) q1244 rfl dX2_bothRule_44 ?_
  refine j_iconst M dX2_bothRule_47 ?_
  refine j_iload M dX2_bothRule_48 4 rfl ?_
  refine j_imul M dX2_bothRule_50 ?_
  refine m_ald M hm (n := 36) 2 (by decide) rfl dX2_bothRule_51 (by omega) ?_
  refine j_istore M dX2_bothRule_52 (by decide) ?_
  refine j_aload_n M dX2_bothRule_54 0 rfl ?_
  refine m_get M 2 (by decide) q1244 rfl dX2_bothRule_55 ?_
  refine j_iconst M dX2_bothRule_58 ?_
  refine j_iload M dX2_bothRule_59 4 rfl ?_
  refine j_imul M dX2_bothRule_61 ?_
  refine j_iconst M dX2_bothRule_62 ?_
  refine j_iadd M dX2_bothRule_63 ?_
  refine m_ald M hm (n := 36) 2 (by decide) rfl dX2_bothRule_64 (by omega) ?_
  refine j_istore M dX2_bothRule_65 (by decide) ?_
  refine j_aload_n M dX2_bothRule_67 0 rfl ?_
  refine m_get M 1 (by decide) q1243 rfl dX2_bothRule_68 ?_
  refine j_iload_n M dX2_bothRule_71 1 rfl ?_
  refine m_ald M hm (n := 9) 1 (by decide) rfl dX2_bothRule_72 (by omega) ?_
  refine j_iconst M dX2_bothRule_73 ?_
  refine j_icmp_ne M 81 dX2_bothRule_74 (by decide) (by omega) (fun c_74 => ?_) (fun c_74 => ?_)
  · refine j_iconst M dX2_bothRule_81 ?_
    refine j_istore M dX2_bothRule_82 (by decide) ?_
    refine j_iload_n M dX2_bothRule_84 2 rfl ?_
    refine j_swn M (a := w) (by omega) (fun h_85 => ?_)
    by_cases e_85_1 : w = 1
    · rw [e_85_1]
      refine j_tabIn M 112 dX2_bothRule_85 (by decide) (by decide) (by decide) rfl (by decide) ?_
      refine j_iload M dX2_bothRule_112 9 rfl ?_
      refine j_if_eq M 125 dX2_bothRule_114 (by decide) (by omega) (fun c_114 => ?_) (fun c_114 => ?_)
      · refine j_iload M dX2_bothRule_125 5 rfl ?_
        refine j_iload M dX2_bothRule_127 7 rfl ?_
        refine j_imul M dX2_bothRule_129 ?_
        refine j_iret M dX2_bothRule_130 ⟨Nat.le_refl _, Nat.le_refl _⟩ ?_
        refine ⟨?_, rfl⟩
        first | (exfalso; omega) | (unfold pBothR; simp [*])
      · omega
    by_cases e_85_2 : w = 2
    · rw [e_85_2]
      refine j_tabIn M 131 dX2_bothRule_85 (by decide) (by decide) (by decide) rfl (by decide) ?_
      refine j_iload M dX2_bothRule_131 9 rfl ?_
      refine j_if_eq M 150 dX2_bothRule_133 (by decide) (by omega) (fun c_133 => ?_) (fun c_133 => ?_)
      · refine j_iload M dX2_bothRule_150 5 rfl ?_
        refine j_iload M dX2_bothRule_152 5 rfl ?_
        refine j_imul M dX2_bothRule_154 ?_
        refine j_iload M dX2_bothRule_155 8 rfl ?_
        refine j_imul M dX2_bothRule_157 ?_
        refine j_iload M dX2_bothRule_158 7 rfl ?_
        refine j_iload M dX2_bothRule_160 7 rfl ?_
        refine j_imul M dX2_bothRule_162 ?_
        refine j_iload M dX2_bothRule_163 6 rfl ?_
        refine j_imul M dX2_bothRule_165 ?_
        refine j_iadd M dX2_bothRule_166 ?_
        refine j_iconst M dX2_bothRule_167 ?_
        refine j_iload M dX2_bothRule_168 6 rfl ?_
        refine j_imul M dX2_bothRule_170 ?_
        refine j_iload M dX2_bothRule_171 8 rfl ?_
        refine j_imul M dX2_bothRule_173 ?_
        refine j_iadd M dX2_bothRule_174 ?_
        refine j_iret M dX2_bothRule_175 ⟨Nat.le_refl _, Nat.le_refl _⟩ ?_
        refine ⟨?_, rfl⟩
        first | (exfalso; omega) | (unfold pBothR; simp [*])
      · omega
    by_cases e_85_3 : w = 3
    · rw [e_85_3]
      refine j_tabIn M 176 dX2_bothRule_85 (by decide) (by decide) (by decide) rfl (by decide) ?_
      refine j_iload M dX2_bothRule_176 9 rfl ?_
      refine j_if_eq M 196 dX2_bothRule_178 (by decide) (by omega) (fun c_178 => ?_) (fun c_178 => ?_)
      · refine j_iload M dX2_bothRule_196 5 rfl ?_
        refine j_iload M dX2_bothRule_198 7 rfl ?_
        refine j_imul M dX2_bothRule_200 ?_
        refine j_iload M dX2_bothRule_201 6 rfl ?_
        refine j_imul M dX2_bothRule_203 ?_
        refine j_iload M dX2_bothRule_204 8 rfl ?_
        refine j_imul M dX2_bothRule_206 ?_
        refine j_iret M dX2_bothRule_207 ⟨Nat.le_refl _, Nat.le_refl _⟩ ?_
        refine ⟨?_, rfl⟩
        first | (exfalso; omega) | (unfold pBothR; simp [*])
      · omega
    refine j_tabOut M 208 dX2_bothRule_85 h_85 (by omega) (by decide) ?_
    refine j_iload M dX2_bothRule_208 9 rfl ?_
    refine j_if_eq M 222 dX2_bothRule_210 (by decide) (by omega) (fun c_210 => ?_) (fun c_210 => ?_)
    · refine j_iload M dX2_bothRule_222 6 rfl ?_
      refine j_ineg M dX2_bothRule_224 ?_
      refine j_iload M dX2_bothRule_225 6 rfl ?_
      refine j_imul M dX2_bothRule_227 ?_
      refine j_iload M dX2_bothRule_228 8 rfl ?_
      refine j_imul M dX2_bothRule_230 ?_
      refine j_iload M dX2_bothRule_231 8 rfl ?_
      refine j_imul M dX2_bothRule_233 ?_
      refine j_iret M dX2_bothRule_234 ⟨Nat.le_refl _, Nat.le_refl _⟩ ?_
      refine ⟨?_, rfl⟩
      first | (exfalso; omega) | (unfold pBothR; simp [*])
    · omega
  · refine j_iconst M dX2_bothRule_77 ?_
    refine j_goto M 82 dX2_bothRule_78 (by decide) ?_
    refine j_istore M dX2_bothRule_82 (by decide) ?_
    refine j_iload_n M dX2_bothRule_84 2 rfl ?_
    refine j_swn M (a := w) (by omega) (fun h_85 => ?_)
    by_cases e_85_1 : w = 1
    · rw [e_85_1]
      refine j_tabIn M 112 dX2_bothRule_85 (by decide) (by decide) (by decide) rfl (by decide) ?_
      refine j_iload M dX2_bothRule_112 9 rfl ?_
      refine j_if_eq M 125 dX2_bothRule_114 (by decide) (by omega) (fun c_114 => ?_) (fun c_114 => ?_)
      · omega
      · refine j_iload M dX2_bothRule_117 5 rfl ?_
        refine j_iload M dX2_bothRule_119 7 rfl ?_
        refine j_iadd M dX2_bothRule_121 ?_
        refine j_goto M 130 dX2_bothRule_122 (by decide) ?_
        refine j_iret M dX2_bothRule_130 ⟨Nat.le_refl _, Nat.le_refl _⟩ ?_
        refine ⟨?_, rfl⟩
        first | (exfalso; omega) | (unfold pBothR; simp [*])
    by_cases e_85_2 : w = 2
    · rw [e_85_2]
      refine j_tabIn M 131 dX2_bothRule_85 (by decide) (by decide) (by decide) rfl (by decide) ?_
      refine j_iload M dX2_bothRule_131 9 rfl ?_
      refine j_if_eq M 150 dX2_bothRule_133 (by decide) (by omega) (fun c_133 => ?_) (fun c_133 => ?_)
      · omega
      · refine j_iload M dX2_bothRule_136 6 rfl ?_
        refine j_iload M dX2_bothRule_138 8 rfl ?_
        refine j_iadd M dX2_bothRule_140 ?_
        refine j_iload M dX2_bothRule_141 5 rfl ?_
        refine j_iload M dX2_bothRule_143 7 rfl ?_
        refine j_imul M dX2_bothRule_145 ?_
        refine j_isub M dX2_bothRule_146 ?_
        refine j_goto M 175 dX2_bothRule_147 (by decide) ?_
        refine j_iret M dX2_bothRule_175 ⟨Nat.le_refl _, Nat.le_refl _⟩ ?_
        refine ⟨?_, rfl⟩
        first | (exfalso; omega) | (unfold pBothR; simp [*])
    by_cases e_85_3 : w = 3
    · rw [e_85_3]
      refine j_tabIn M 176 dX2_bothRule_85 (by decide) (by decide) (by decide) rfl (by decide) ?_
      refine j_iload M dX2_bothRule_176 9 rfl ?_
      refine j_if_eq M 196 dX2_bothRule_178 (by decide) (by omega) (fun c_178 => ?_) (fun c_178 => ?_)
      · omega
      · refine j_iload M dX2_bothRule_181 5 rfl ?_
        refine j_ineg M dX2_bothRule_183 ?_
        refine j_iload M dX2_bothRule_184 8 rfl ?_
        refine j_imul M dX2_bothRule_186 ?_
        refine j_iload M dX2_bothRule_187 7 rfl ?_
        refine j_iload M dX2_bothRule_189 6 rfl ?_
        refine j_imul M dX2_bothRule_191 ?_
        refine j_isub M dX2_bothRule_192 ?_
        refine j_goto M 207 dX2_bothRule_193 (by decide) ?_
        refine j_iret M dX2_bothRule_207 ⟨Nat.le_refl _, Nat.le_refl _⟩ ?_
        refine ⟨?_, rfl⟩
        first | (exfalso; omega) | (unfold pBothR; simp [*])
    refine j_tabOut M 208 dX2_bothRule_85 h_85 (by omega) (by decide) ?_
    refine j_iload M dX2_bothRule_208 9 rfl ?_
    refine j_if_eq M 222 dX2_bothRule_210 (by decide) (by omega) (fun c_210 => ?_) (fun c_210 => ?_)
    · omega
    · refine j_iload M dX2_bothRule_213 6 rfl ?_
      refine j_ineg M dX2_bothRule_215 ?_
      refine j_iload M dX2_bothRule_216 8 rfl ?_
      refine j_imul M dX2_bothRule_218 ?_
      refine j_goto M 234 dX2_bothRule_219 (by decide) ?_
      refine j_iret M dX2_bothRule_234 ⟨Nat.le_refl _, Nat.le_refl _⟩ ?_
      refine ⟨?_, rfl⟩
      first | (exfalso; omega) | (unfold pBothR; simp [*])
theorem m_twoRule (hm : mOk σ) (N i w : Int) (hN : N ≤ 8) (hi : 0 ≤ i ∧ i < N) (hw : r32 w) (hr : rsOk (t 1) (t 2) N) : CM l X σ yX2_twoRule cX2_twoRule 7 (some .int) 1 [.int (zI i), .int (zI w)] f t (some (.int (zI (pTwoR (t 1) (t 2) i w)))) f t := by
  have hk := rOk_k (hr i hi.1 hi.2)
  have hof : 0 ≤ pOf (t 1) (t 2) i ∧ pOf (t 1) (t 2) i ≤ i := by
    unfold pOf; split
    · omega
    · have := rOk_part (hr i hi.1 hi.2) (by assumption); omega
  have hen : 1 ≤ pEn (t 1) (t 2) i ∧ pEn (t 1) (t 2) i ≤ 5 := by
    unfold pEn; split
    · have := rOk_each (hr i hi.1 hi.2) (by assumption); omega
    · omega
  refine Ct.of (by decide) (Nat.le_of_ble_eq_true rfl) (fun Γ M => ?_)
  refine j_lv (lv' := [(0, .ref σ.1), (1, .int (zI i)), (2, .int (zI w))]) rfl ?_
  have k77 : w ≤ 2 → J Γ (mH X σ f t) 0 0 77 [(0, .ref σ.1), (1, .int (zI i)), (2, .int (zI w)), (3, .int (zI (pOf (t 1) (t 2) i))), (4, .int (zI (t 2 (4 * pOf (t 1) (t 2) i)))), (5, .int (zI (t 2 (4 * pOf (t 1) (t 2) i + 1)))), (6, .int (zI (pEn (t 1) (t 2) i)))] [] := by
    intro hw2
    refine j_iload_n M dX2_twoRule_77 2 rfl ?_
    refine j_iconst M dX2_twoRule_78 ?_
    refine j_icmp_ne M 94 dX2_twoRule_79 (by decide) (by omega) (fun c_79 => ?_) (fun c_79 => ?_)
    · refine j_iload M dX2_twoRule_94 5 rfl ?_
      refine j_ineg M dX2_twoRule_96 ?_
      refine j_iload M dX2_twoRule_97 6 rfl ?_
      refine j_rV (k_S M (m_power l X _ _ _ (by omega)) (lw_S q1580 q1581 q102 q1582) ndX2_power dX2_twoRule_99 ⟨by decide, by decide, by decide, by decide⟩ rfl (Nat.le_of_ble_eq_true rfl)) ?_
      refine j_ineg M dX2_twoRule_102 ?_
      refine j_iret M dX2_twoRule_103 ⟨Nat.le_refl _, Nat.le_refl _⟩ ?_
      refine ⟨?_, rfl⟩
      unfold pTwoR; rw [if_neg (by omega)]; first | rw [if_pos (by omega)] | rw [if_neg (by omega)]
    · refine j_iload M dX2_twoRule_82 4 rfl ?_
      refine j_iload M dX2_twoRule_84 5 rfl ?_
      refine j_iload M dX2_twoRule_86 6 rfl ?_
      refine j_rV (k_S M (m_powers l X _ _ _ _ (by omega)) (lw_S q1577 q1578 q102 q1579) ndX2_powers dX2_twoRule_88 ⟨by decide, by decide, by decide, by decide⟩ rfl (Nat.le_of_ble_eq_true rfl)) ?_
      refine j_goto M 103 dX2_twoRule_91 (by decide) ?_
      refine j_iret M dX2_twoRule_103 ⟨Nat.le_refl _, Nat.le_refl _⟩ ?_
      refine ⟨?_, rfl⟩
      unfold pTwoR; rw [if_neg (by omega)]; first | rw [if_pos (by omega)] | rw [if_neg (by omega)]
  have k28 : w ≤ 2 → J Γ (mH X σ f t) 0 0 28 [(0, .ref σ.1), (1, .int (zI i)), (2, .int (zI w))] [.int (zI (pOf (t 1) (t 2) i))] := by
    intro hw2
    refine j_istore_n M dX2_twoRule_28 (by decide) ?_
    refine j_aload_n M dX2_twoRule_29 0 rfl ?_
    refine m_get M 2 (by decide) q1244 rfl dX2_twoRule_30 ?_
    refine j_iconst M dX2_twoRule_33 ?_
    refine j_iload_n M dX2_twoRule_34 3 rfl ?_
    refine j_imul M dX2_twoRule_35 ?_
    refine m_ald M hm (n := 36) 2 (by decide) rfl dX2_twoRule_36 (by omega) ?_
    refine j_istore M dX2_twoRule_37 (by decide) ?_
    refine j_aload_n M dX2_twoRule_39 0 rfl ?_
    refine m_get M 2 (by decide) q1244 rfl dX2_twoRule_40 ?_
    refine j_iconst M dX2_twoRule_43 ?_
    refine j_iload_n M dX2_twoRule_44 3 rfl ?_
    refine j_imul M dX2_twoRule_45 ?_
    refine j_iconst M dX2_twoRule_46 ?_
    refine j_iadd M dX2_twoRule_47 ?_
    refine m_ald M hm (n := 36) 2 (by decide) rfl dX2_twoRule_48 (by omega) ?_
    refine j_istore M dX2_twoRule_49 (by decide) ?_
    refine j_aload_n M dX2_twoRule_51 0 rfl ?_
    refine m_get M 1 (by decide) q1243 rfl dX2_twoRule_52 ?_
    refine j_iload_n M dX2_twoRule_55 1 rfl ?_
    refine m_ald M hm (n := 9) 1 (by decide) rfl dX2_twoRule_56 (by omega) ?_
    refine j_iconst M dX2_twoRule_57 ?_
    refine j_icmp_ne M 74 dX2_twoRule_58 (by decide) (by omega) (fun c_58 => ?_) (fun c_58 => ?_)
    · refine j_iconst M dX2_twoRule_74 ?_
      refine j_istore M dX2_twoRule_75 (by decide) ?_
      have kk := k77 hw2
      rw [show pEn (t 1) (t 2) i = 1 from if_neg c_58] at kk
      exact kk
    · refine j_aload_n M dX2_twoRule_61 0 rfl ?_
      refine m_get M 2 (by decide) q1244 rfl dX2_twoRule_62 ?_
      refine j_iconst M dX2_twoRule_65 ?_
      refine j_iload_n M dX2_twoRule_66 1 rfl ?_
      refine j_imul M dX2_twoRule_67 ?_
      refine j_iconst M dX2_twoRule_68 ?_
      refine j_iadd M dX2_twoRule_69 ?_
      refine m_ald M hm (n := 36) 2 (by decide) rfl dX2_twoRule_70 (by omega) ?_
      refine j_goto M 75 dX2_twoRule_71 (by decide) ?_
      refine j_istore M dX2_twoRule_75 (by decide) ?_
      have kk := k77 hw2
      rw [show pEn (t 1) (t 2) i = t 2 (4 * i + 1) from if_pos c_58] at kk
      exact kk
  refine j_iload_n M dX2_twoRule_0 2 rfl ?_
  refine j_iconst M dX2_twoRule_1 ?_
  refine j_icmp_le M 7 dX2_twoRule_2 (by decide) (by omega) (fun c_2 => ?_) (fun c_2 => ?_)
  · refine j_aload_n M dX2_twoRule_7 0 rfl ?_
    refine m_get M 1 (by decide) q1243 rfl dX2_twoRule_8 ?_
    refine j_iload_n M dX2_twoRule_11 1 rfl ?_
    refine m_ald M hm (n := 9) 1 (by decide) rfl dX2_twoRule_12 (by omega) ?_
    refine j_if_ne M 20 dX2_twoRule_13 (by decide) (by omega) (fun c_13 => ?_) (fun c_13 => ?_)
    · refine j_aload_n M dX2_twoRule_20 0 rfl ?_
      refine m_get M 2 (by decide) q1244 rfl dX2_twoRule_21 ?_
      refine j_iconst M dX2_twoRule_24 ?_
      refine j_iload_n M dX2_twoRule_25 1 rfl ?_
      refine j_imul M dX2_twoRule_26 ?_
      refine m_ald M hm (n := 36) 2 (by decide) rfl dX2_twoRule_27 (by omega) ?_
      have kk := k28 (by omega)
      rw [show pOf (t 1) (t 2) i = t 2 (4 * i) from if_neg c_13] at kk
      exact kk
    · refine j_iload_n M dX2_twoRule_16 1 rfl ?_
      refine j_goto M 28 dX2_twoRule_17 (by decide) ?_
      have kk := k28 (by omega)
      rw [show pOf (t 1) (t 2) i = i from if_pos c_13] at kk
      exact kk
  · refine j_iconst M dX2_twoRule_5 ?_
    refine j_iret M dX2_twoRule_6 ⟨Nat.le_refl _, Nat.le_refl _⟩ ?_
    refine ⟨?_, rfl⟩
    unfold pTwoR; rw [if_pos (by omega)]
theorem m_ruleNow (hm : mOk σ) (N i w : Int) (hN : N ≤ 8) (hi : 0 ≤ i ∧ i < N) (hw : r32 w) (hr : rsOk (t 1) (t 2) N) : CM l X σ yX2_ruleNow cX2_ruleNow 4 (some .int) 2 [.int (zI i), .int (zI w)] f t (some (.int (zI (pRuleN (t 1) (t 2) i w)))) f t := by
  have hk := rOk_k (hr i hi.1 hi.2)
  refine Ct.of (by decide) (Nat.le_of_ble_eq_true rfl) (fun Γ M => ?_)
  refine j_lv (lv' := [(0, .ref σ.1), (1, .int (zI i)), (2, .int (zI w))]) rfl ?_
  refine j_aload_n M dX2_ruleNow_0 0 rfl ?_
  refine m_get M 1 (by decide) q1243 rfl dX2_ruleNow_1 ?_
  refine j_iload_n M dX2_ruleNow_4 1 rfl ?_
  refine m_ald M hm (n := 9) 1 (by decide) rfl dX2_ruleNow_5 (by omega) ?_
  refine j_iconst M dX2_ruleNow_6 ?_
  refine j_icmp_eq M 20 dX2_ruleNow_7 (by decide) (by omega) (fun c_7 => ?_) (fun c_7 => ?_)
  · refine j_iconst M dX2_ruleNow_20 ?_
    refine j_goto M 25 dX2_ruleNow_21 (by decide) ?_
    refine j_istore_n M dX2_ruleNow_25 (by decide) ?_
    refine j_iload_n M dX2_ruleNow_26 2 rfl ?_
    refine j_if_ne M 40 dX2_ruleNow_27 (by decide) (by omega) (fun c_27 => ?_) (fun c_27 => ?_)
    · refine j_iload_n M dX2_ruleNow_40 3 rfl ?_
      refine j_if_eq M 53 dX2_ruleNow_41 (by decide) (by omega) (fun c_41 => ?_) (fun c_41 => ?_)
      · omega
      · refine j_aload_n M dX2_ruleNow_44 0 rfl ?_
        refine j_iload_n M dX2_ruleNow_45 1 rfl ?_
        refine j_iload_n M dX2_ruleNow_46 2 rfl ?_
        refine j_rV (k_V M (m_bothRule l X σ f t hm N i w hN hi hw hr (by omega)) (m_rc M) (lw_V q1569 q1571 qs74 q102 q1572) ndX2_bothRule dX2_ruleNow_47 ⟨by decide, by decide, by decide, by decide⟩ rfl (Nat.le_of_ble_eq_true rfl)) ?_
        refine j_goto M 59 dX2_ruleNow_50 (by decide) ?_
        refine j_iret M dX2_ruleNow_59 ⟨Nat.le_refl _, Nat.le_refl _⟩ ?_
        refine ⟨?_, rfl⟩
        unfold pRuleN; rw [if_neg (by omega)]; first | rw [if_pos (by omega)] | rw [if_neg (by omega)]
    · refine j_iload_n M dX2_ruleNow_30 3 rfl ?_
      refine j_if_eq M 38 dX2_ruleNow_31 (by decide) (by omega) (fun c_31 => ?_) (fun c_31 => ?_)
      · omega
      · refine j_iconst M dX2_ruleNow_34 ?_
        refine j_goto M 39 dX2_ruleNow_35 (by decide) ?_
        refine j_iret M dX2_ruleNow_39 ⟨Nat.le_refl _, Nat.le_refl _⟩ ?_
        refine ⟨?_, rfl⟩
        first | (exfalso; omega) | (unfold pRuleN; rw [if_pos (by omega)]; first | rw [if_pos (by omega)] | rw [if_neg (by omega)])
  · refine j_aload_n M dX2_ruleNow_10 0 rfl ?_
    refine m_get M 1 (by decide) q1243 rfl dX2_ruleNow_11 ?_
    refine j_iload_n M dX2_ruleNow_14 1 rfl ?_
    refine m_ald M hm (n := 9) 1 (by decide) rfl dX2_ruleNow_15 (by omega) ?_
    refine j_iconst M dX2_ruleNow_16 ?_
    refine j_icmp_ne M 24 dX2_ruleNow_17 (by decide) (by omega) (fun c_17 => ?_) (fun c_17 => ?_)
    · refine j_iconst M dX2_ruleNow_24 ?_
      refine j_istore_n M dX2_ruleNow_25 (by decide) ?_
      refine j_iload_n M dX2_ruleNow_26 2 rfl ?_
      refine j_if_ne M 40 dX2_ruleNow_27 (by decide) (by omega) (fun c_27 => ?_) (fun c_27 => ?_)
      · refine j_iload_n M dX2_ruleNow_40 3 rfl ?_
        refine j_if_eq M 53 dX2_ruleNow_41 (by decide) (by omega) (fun c_41 => ?_) (fun c_41 => ?_)
        · refine j_aload_n M dX2_ruleNow_53 0 rfl ?_
          refine j_iload_n M dX2_ruleNow_54 1 rfl ?_
          refine j_iload_n M dX2_ruleNow_55 2 rfl ?_
          refine j_rV (k_V M (m_twoRule l X σ f t hm N i w hN hi hw hr) (m_rc M) (lw_V q1573 q1575 qs75 q102 q1576) ndX2_twoRule dX2_ruleNow_56 ⟨by decide, by decide, by decide, by decide⟩ rfl (Nat.le_of_ble_eq_true rfl)) ?_
          refine j_iret M dX2_ruleNow_59 ⟨Nat.le_refl _, Nat.le_refl _⟩ ?_
          refine ⟨?_, rfl⟩
          unfold pRuleN; rw [if_neg (by omega)]; first | rw [if_pos (by omega)] | rw [if_neg (by omega)]
        · omega
      · refine j_iload_n M dX2_ruleNow_30 3 rfl ?_
        refine j_if_eq M 38 dX2_ruleNow_31 (by decide) (by omega) (fun c_31 => ?_) (fun c_31 => ?_)
        · refine j_iconst M dX2_ruleNow_38 ?_
          refine j_iret M dX2_ruleNow_39 ⟨Nat.le_refl _, Nat.le_refl _⟩ ?_
          refine ⟨?_, rfl⟩
          first | (exfalso; omega) | (unfold pRuleN; rw [if_pos (by omega)]; first | rw [if_pos (by omega)] | rw [if_neg (by omega)])
        · omega
    · refine j_iconst M dX2_ruleNow_20 ?_
      refine j_goto M 25 dX2_ruleNow_21 (by decide) ?_
      refine j_istore_n M dX2_ruleNow_25 (by decide) ?_
      refine j_iload_n M dX2_ruleNow_26 2 rfl ?_
      refine j_if_ne M 40 dX2_ruleNow_27 (by decide) (by omega) (fun c_27 => ?_) (fun c_27 => ?_)
      · refine j_iload_n M dX2_ruleNow_40 3 rfl ?_
        refine j_if_eq M 53 dX2_ruleNow_41 (by decide) (by omega) (fun c_41 => ?_) (fun c_41 => ?_)
        · omega
        · refine j_aload_n M dX2_ruleNow_44 0 rfl ?_
          refine j_iload_n M dX2_ruleNow_45 1 rfl ?_
          refine j_iload_n M dX2_ruleNow_46 2 rfl ?_
          refine j_rV (k_V M (m_bothRule l X σ f t hm N i w hN hi hw hr (by omega)) (m_rc M) (lw_V q1569 q1571 qs74 q102 q1572) ndX2_bothRule dX2_ruleNow_47 ⟨by decide, by decide, by decide, by decide⟩ rfl (Nat.le_of_ble_eq_true rfl)) ?_
          refine j_goto M 59 dX2_ruleNow_50 (by decide) ?_
          refine j_iret M dX2_ruleNow_59 ⟨Nat.le_refl _, Nat.le_refl _⟩ ?_
          refine ⟨?_, rfl⟩
          unfold pRuleN; rw [if_neg (by omega)]; first | rw [if_pos (by omega)] | rw [if_neg (by omega)]
      · refine j_iload_n M dX2_ruleNow_30 3 rfl ?_
        refine j_if_eq M 38 dX2_ruleNow_31 (by decide) (by omega) (fun c_31 => ?_) (fun c_31 => ?_)
        · omega
        · refine j_iconst M dX2_ruleNow_34 ?_
          refine j_goto M 39 dX2_ruleNow_35 (by decide) ?_
          refine j_iret M dX2_ruleNow_39 ⟨Nat.le_refl _, Nat.le_refl _⟩ ?_
          refine ⟨?_, rfl⟩
          first | (exfalso; omega) | (unfold pRuleN; rw [if_pos (by omega)]; first | rw [if_pos (by omega)] | rw [if_neg (by omega)])
theorem m_rule (hm : mOk σ) (c i w : Int) (hi : r32 i) (hw : r32 w) (h : MI c f t) : Ct l X yX2_rule cX2_rule 3 (some .int) (rD 3) [.ref σ.1, .int (zI i), .int (zI w)] (mH X σ f t) (pQ X σ c f t (.int (zI (vRule (f 0) (t 1) (t 2) i w)))) := by
  have h0 := h.n
  refine Ct.of (by decide) (Nat.le_of_ble_eq_true rfl) (fun Γ M => ?_)
  refine j_lv (lv' := [(0, .ref σ.1), (1, .int (zI i)), (2, .int (zI w))]) rfl ?_
  refine j_aload_n M dX2_rule_0 0 rfl ?_
  refine j_iload_n M dX2_rule_1 1 rfl ?_
  refine j_rV (k_V M (m_isRow l X σ f t i hi h0) (m_rc M) (lw_V q1402 q1404 qs43 q102 q1405) ndX2_isRow dX2_rule_2 ⟨by decide, by decide, by decide, by decide⟩ rfl (Nat.le_of_ble_eq_true rfl)) ?_
  refine j_ifneB M 11 dX2_rule_5 (by decide) (fun c_5 => ?_) (fun c_5 => ?_)
  · simp only [decide_eq_true_eq] at c_5
    have hk := rOk_k (h.ok i c_5.1 (by omega))
    refine j_iload_n M dX2_rule_11 2 rfl ?_
    refine j_iconst M dX2_rule_12 ?_
    refine j_iconst M dX2_rule_13 ?_
    refine j_rV (k_S M (m_within l X _ _ _ _ (by omega)) (lw_S q1347 q1348 q102 q1349) ndX2_within dX2_rule_14 ⟨by decide, by decide, by decide, by decide⟩ rfl (Nat.le_of_ble_eq_true rfl)) ?_
    refine j_ifneB M 23 dX2_rule_17 (by decide) (fun c_17 => ?_) (fun c_17 => ?_)
    · simp only [decide_eq_true_eq] at c_17
      refine j_aload_n M dX2_rule_23 0 rfl ?_
      refine j_iload_n M dX2_rule_24 1 rfl ?_
      refine j_rV (k_V M (m_isTold l X σ f t hm i (by omega) (by omega)) (m_rc M) (lw_V q1557 q1559 qs71 q102 q1560) ndX2_isTold dX2_rule_25 ⟨by decide, by decide, by decide, by decide⟩ rfl (Nat.le_of_ble_eq_true rfl)) ?_
      refine j_ifneB M 39 dX2_rule_28 (by decide) (fun c_28 => ?_) (fun c_28 => ?_)
      · refine j_aload_n M dX2_rule_39 0 rfl ?_
        refine j_iload_n M dX2_rule_40 1 rfl ?_
        refine j_iload_n M dX2_rule_41 2 rfl ?_
        refine j_rV (k_V M (m_ruleNow l X σ f t hm (f 0) i w h0.2 (by omega) hw h.ok) (m_rc M) (lw_V q1565 q1567 qs73 q102 q1568) ndX2_ruleNow dX2_rule_42 ⟨by decide, by decide, by decide, by decide⟩ rfl (Nat.le_of_ble_eq_true rfl)) ?_
        refine j_goto M 50 dX2_rule_45 (by decide) ?_
        refine j_iret M dX2_rule_50 ⟨Nat.le_refl _, Nat.le_refl _⟩ ?_
        unfold vRule; rw [if_pos c_5, if_pos c_17, if_pos (Or.inl c_28)]; exact pQ.of h
      · refine j_aload_n M dX2_rule_31 0 rfl ?_
        refine j_iload_n M dX2_rule_32 1 rfl ?_
        refine j_rV (k_V M (m_arePartsTold l X σ f t hm (f 0) i h0.2 (by omega) h.ok) (m_rc M) (lw_V q1561 q1563 qs72 q102 q1564) ndX2_arePartsTold dX2_rule_33 ⟨by decide, by decide, by decide, by decide⟩ rfl (Nat.le_of_ble_eq_true rfl)) ?_
        refine j_ifeqB M 48 dX2_rule_36 (by decide) (fun c_36 => ?_) (fun c_36 => ?_)
        · refine j_ldc M (2000000103) q1393 (by decide) dX2_rule_48 ?_
          refine j_iret M dX2_rule_50 ⟨Nat.le_refl _, Nat.le_refl _⟩ ?_
          unfold vRule; rw [if_pos c_5, if_pos c_17, if_neg (by rw [c_28, c_36]; simp)]; exact pQ.of h
        · refine j_aload_n M dX2_rule_39 0 rfl ?_
          refine j_iload_n M dX2_rule_40 1 rfl ?_
          refine j_iload_n M dX2_rule_41 2 rfl ?_
          refine j_rV (k_V M (m_ruleNow l X σ f t hm (f 0) i w h0.2 (by omega) hw h.ok) (m_rc M) (lw_V q1565 q1567 qs73 q102 q1568) ndX2_ruleNow dX2_rule_42 ⟨by decide, by decide, by decide, by decide⟩ rfl (Nat.le_of_ble_eq_true rfl)) ?_
          refine j_goto M 50 dX2_rule_45 (by decide) ?_
          refine j_iret M dX2_rule_50 ⟨Nat.le_refl _, Nat.le_refl _⟩ ?_
          unfold vRule; rw [if_pos c_5, if_pos c_17, if_pos (Or.inr c_36)]; exact pQ.of h
    · simp only [decide_eq_false_iff_not] at c_17
      refine j_ldc M (2000000102) q1350 (by decide) dX2_rule_20 ?_
      refine j_iret M dX2_rule_22 ⟨Nat.le_refl _, Nat.le_refl _⟩ ?_
      unfold vRule; rw [if_pos c_5, if_neg c_17]; exact pQ.of h
  · simp only [decide_eq_false_iff_not] at c_5
    refine j_ldc M (2000000101) q1406 (by decide) dX2_rule_8 ?_
    refine j_iret M dX2_rule_10 ⟨Nat.le_refl _, Nat.le_refl _⟩ ?_
    unfold vRule; rw [if_neg c_5]; exact pQ.of h
def vRoots (n : Int) (K P : Int → Int) (i w : Int) : Int := if 0 ≤ i ∧ i ≤ n - 1 then (if 0 ≤ w ∧ w ≤ 4 then (if pTold K i then pRoots (P (4 * i)) (P (4 * i + 1)) w else 2000000103) else 2000000102) else 2000000101
theorem m_roots (hm : mOk σ) (c i w : Int) (hi : r32 i) (hw : r32 w) (h : MI c f t) : Ct l X yX2_roots cX2_roots 3 (some .int) (rD 3) [.ref σ.1, .int (zI i), .int (zI w)] (mH X σ f t) (pQ X σ c f t (.int (zI (vRoots (f 0) (t 1) (t 2) i w)))) := by
  have h0 := h.n
  refine Ct.of (by decide) (Nat.le_of_ble_eq_true rfl) (fun Γ M => ?_)
  refine j_lv (lv' := [(0, .ref σ.1), (1, .int (zI i)), (2, .int (zI w))]) rfl ?_
  refine j_aload_n M dX2_roots_0 0 rfl ?_
  refine j_iload_n M dX2_roots_1 1 rfl ?_
  refine j_rV (k_V M (m_isRow l X σ f t i hi h0) (m_rc M) (lw_V q1402 q1404 qs43 q102 q1405) ndX2_isRow dX2_roots_2 ⟨by decide, by decide, by decide, by decide⟩ rfl (Nat.le_of_ble_eq_true rfl)) ?_
  refine j_ifneB M 11 dX2_roots_5 (by decide) (fun c_5 => ?_) (fun c_5 => ?_)
  · simp only [decide_eq_true_eq] at c_5
    have hk := rOk_k (h.ok i c_5.1 (by omega))
    refine j_iload_n M dX2_roots_11 2 rfl ?_
    refine j_iconst M dX2_roots_12 ?_
    refine j_iconst M dX2_roots_13 ?_
    refine j_rV (k_S M (m_within l X _ _ _ _ (by omega)) (lw_S q1347 q1348 q102 q1349) ndX2_within dX2_roots_14 ⟨by decide, by decide, by decide, by decide⟩ rfl (Nat.le_of_ble_eq_true rfl)) ?_
    refine j_ifneB M 23 dX2_roots_17 (by decide) (fun c_17 => ?_) (fun c_17 => ?_)
    · simp only [decide_eq_true_eq] at c_17
      refine j_aload_n M dX2_roots_23 0 rfl ?_
      refine j_iload_n M dX2_roots_24 1 rfl ?_
      refine j_rV (k_V M (m_isTold l X σ f t hm i (by omega) (by omega)) (m_rc M) (lw_V q1557 q1559 qs71 q102 q1560) ndX2_isTold dX2_roots_25 ⟨by decide, by decide, by decide, by decide⟩ rfl (Nat.le_of_ble_eq_true rfl)) ?_
      refine j_ifeqB M 56 dX2_roots_28 (by decide) (fun c_28 => ?_) (fun c_28 => ?_)
      · refine j_ldc M (2000000103) q1393 (by decide) dX2_roots_56 ?_
        refine j_iret M dX2_roots_58 ⟨Nat.le_refl _, Nat.le_refl _⟩ ?_
        unfold vRoots; rw [if_pos c_5, if_pos c_17, c_28]; exact pQ.of h
      · have ht := rOk_told (h.ok i c_5.1 (by omega)) (by simpa [pTold] using c_28)
        refine j_aload_n M dX2_roots_31 0 rfl ?_
        refine m_get M 2 (by decide) q1244 rfl dX2_roots_32 ?_
        refine j_iconst M dX2_roots_35 ?_
        refine j_iload_n M dX2_roots_36 1 rfl ?_
        refine j_imul M dX2_roots_37 ?_
        refine m_ald M hm (n := 36) 2 (by decide) rfl dX2_roots_38 (by omega) ?_
        refine j_aload_n M dX2_roots_39 0 rfl ?_
        refine m_get M 2 (by decide) q1244 rfl dX2_roots_40 ?_
        refine j_iconst M dX2_roots_43 ?_
        refine j_iload_n M dX2_roots_44 1 rfl ?_
        refine j_imul M dX2_roots_45 ?_
        refine j_iconst M dX2_roots_46 ?_
        refine j_iadd M dX2_roots_47 ?_
        refine m_ald M hm (n := 36) 2 (by decide) rfl dX2_roots_48 (by omega) ?_
        refine j_iload_n M dX2_roots_49 2 rfl ?_
        refine j_rV (k_S M (m_rootsNow l X _ _ _ _ ht.1 ht.2.1 hw) (lw_S q1587 q1588 q102 q1589) ndX2_rootsNow dX2_roots_50 ⟨by decide, by decide, by decide, by decide⟩ rfl (Nat.le_of_ble_eq_true rfl)) ?_
        refine j_goto M 58 dX2_roots_53 (by decide) ?_
        refine j_iret M dX2_roots_58 ⟨Nat.le_refl _, Nat.le_refl _⟩ ?_
        unfold vRoots; rw [if_pos c_5, if_pos c_17, c_28]; exact pQ.of h
    · simp only [decide_eq_false_iff_not] at c_17
      refine j_ldc M (2000000102) q1350 (by decide) dX2_roots_20 ?_
      refine j_iret M dX2_roots_22 ⟨Nat.le_refl _, Nat.le_refl _⟩ ?_
      unfold vRoots; rw [if_pos c_5, if_neg c_17]; exact pQ.of h
  · simp only [decide_eq_false_iff_not] at c_5
    refine j_ldc M (2000000101) q1406 (by decide) dX2_roots_8 ?_
    refine j_iret M dX2_roots_10 ⟨Nat.le_refl _, Nat.le_refl _⟩ ?_
    unfold vRoots; rw [if_neg c_5]; exact pQ.of h
end M7
