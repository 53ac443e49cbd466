/-! 48: the component: the wheels of all rows -/
set_option maxRecDepth 100000
section C10
variable (l : Launch) (X : Cx) (hp : Hp)
theorem c_spokeX10 (a w sp : Nat) (pt n0 s0 k m hd lp sm : Int) (g s : Int → Int) (ha : hp a = some (eX10 pt n0 s0)) (hw : hp w = some (eWh sp hd lp sm)) (hs : hp sp = some (eI X 400 g)) (h : wOk g hd lp s) (hk : 0 ≤ k ∧ k ≤ 1000) (h1 : 0 ≤ n0 ∧ n0 ≤ 5) (h2 : 0 ≤ s0 ∧ s0 ≤ 9) : CS l X yX10_spoke cX10_spoke 4 (some .int) 1 [.ref a, .ref w, .int (zI k), .int (zI m)] hp (some (.int (zI (s (n0 * k + s0))))) := by
  have b1 := mul_bd 5 1000 (a := n0) (b := k) (by omega) (by omega)
  have b2 : 0 ≤ n0 * k := Int.mul_nonneg (by omega) (by omega)
  refine Ct.of (by decide) (Nat.le_of_ble_eq_true rfl) (fun Γ M => ?_)
  refine j_lv (lv' := [(0, .ref a), (1, .ref w), (2, .int (zI k)), (3, .int (zI m))]) rfl ?_
  refine j_aload_n M dX10_spoke_0 1 rfl ?_
  refine j_aload_n M dX10_spoke_1 0 rfl ?_
  refine j_get M ha rfl 1 (by decide) in_X10 q406 rfl dX10_spoke_2 ?_
  refine j_i2l M dX10_spoke_5 (by omega) ?_
  refine j_iload_n M dX10_spoke_6 2 rfl ?_
  refine j_i2l M dX10_spoke_7 (by omega) ?_
  refine j_lmul M dX10_spoke_8 ?_
  refine j_aload_n M dX10_spoke_9 0 rfl ?_
  refine j_get M ha rfl 2 (by decide) in_X10 q407 rfl dX10_spoke_10 ?_
  refine j_i2l M dX10_spoke_13 (by omega) ?_
  refine j_ladd M dX10_spoke_14 ?_
  refine j_rV (k_V M (c_at l X hp w sp hd lp sm _ g s hw hs (by omega) h) (rc_of M hw rfl) (lw_V q805 q806 q807 q101 q808) ndX1_at dX10_spoke_15 ⟨by decide, by decide, by decide, by decide⟩ rfl (Nat.le_of_ble_eq_true rfl)) ?_
  refine j_iret M dX10_spoke_18 ⟨Nat.le_refl _, Nat.le_refl _⟩ ?_
  exact ⟨rfl, rfl⟩
theorem c_lapOfX10 (a w sp : Nat) (pt n0 s0 hd lp sm : Int) (ha : hp a = some (eX10 pt n0 s0)) (hw : hp w = some (eWh sp hd lp sm)) (hl : 0 < lp ∧ lp ≤ 400) (h1 : 1 ≤ n0 ∧ n0 ≤ 5) : CS l X yX10_lapOf cX10_lapOf 2 (some .int) 1 [.ref a, .ref w] hp (some (.int (zI (lp / pGcd lp n0)))) := by
  have gp := pGcd_pos (a := lp) (b := n0) hl.1
  have gl := Int.le_of_dvd hl.1 (pGcd_l (a := lp) (b := n0) (by omega))
  refine Ct.of (by decide) (Nat.le_of_ble_eq_true rfl) (fun Γ M => ?_)
  refine j_lv (lv' := [(0, .ref a), (1, .ref w)]) rfl ?_
  refine j_aload_n M dX10_lapOf_0 1 rfl ?_
  refine j_get M hw rfl 2 (by decide) in_X1 q180 rfl dX10_lapOf_1 ?_
  refine j_aload_n M dX10_lapOf_4 1 rfl ?_
  refine j_get M hw rfl 2 (by decide) in_X1 q180 rfl dX10_lapOf_5 ?_
  refine j_aload_n M dX10_lapOf_8 0 rfl ?_
  refine j_get M ha rfl 1 (by decide) in_X10 q406 rfl dX10_lapOf_9 ?_
  refine j_rV (k_SN M (c_gcd l X hp lp n0 (by omega) (by omega)) q793 q794 q97 (lw_meth q795) ndX0_gcd dX10_lapOf_12 ⟨by decide, by decide, by decide, by decide⟩ rfl (Nat.le_of_ble_eq_true rfl)) ?_
  refine j_idivE M dX10_lapOf_15 (by omega) (by omega) ?_
  refine j_iret M dX10_lapOf_16 ⟨Nat.le_refl _, Nat.le_refl _⟩ ?_
  exact ⟨rfl, rfl⟩
theorem c_spokeX11 (a w sp : Nat) (pt k m hd lp sm : Int) (g s : Int → Int) (ha : hp a = some (eX11 pt)) (hw : hp w = some (eWh sp hd lp sm)) (hs : hp sp = some (eI X 400 g)) (h : wOk g hd lp s) (hk : 0 ≤ k ∧ k ≤ 1000) (hm : 0 < m ∧ m ≤ 10) : CS l X yX11_spoke cX11_spoke 4 (some .int) 1 [.ref a, .ref w, .int (zI k), .int (zI m)] hp (some (.int (zI ((s (k + 1) - s k) % m)))) := by
  have b1 := h.2.2.2 k
  have b2 := h.2.2.2 (k + 1)
  refine Ct.of (by decide) (Nat.le_of_ble_eq_true rfl) (fun Γ M => ?_)
  refine j_lv (lv' := [(0, .ref a), (1, .ref w), (2, .int (zI k)), (3, .int (zI m))]) rfl ?_
  refine j_aload_n M dX11_spoke_0 1 rfl ?_
  refine j_iload_n M dX11_spoke_1 2 rfl ?_
  refine j_iconst M dX11_spoke_2 ?_
  refine j_iadd M dX11_spoke_3 ?_
  refine j_i2l M dX11_spoke_4 (by omega) ?_
  refine j_rV (k_V M (c_at l X hp w sp hd lp sm _ g s hw hs (by omega) h) (rc_of M hw rfl) (lw_V q812 q806 q807 q101 q808) ndX1_at dX11_spoke_5 ⟨by decide, by decide, by decide, by decide⟩ rfl (Nat.le_of_ble_eq_true rfl)) ?_
  refine j_aload_n M dX11_spoke_8 1 rfl ?_
  refine j_iload_n M dX11_spoke_9 2 rfl ?_
  refine j_i2l M dX11_spoke_10 (by omega) ?_
  refine j_rV (k_V M (c_at l X hp w sp hd lp sm _ g s hw hs (by omega) h) (rc_of M hw rfl) (lw_V q812 q806 q807 q101 q808) ndX1_at dX11_spoke_11 ⟨by decide, by decide, by decide, by decide⟩ rfl (Nat.le_of_ble_eq_true rfl)) ?_
  refine j_isub M dX11_spoke_14 ?_
  refine j_iload_n M dX11_spoke_15 3 rfl ?_
  refine j_rV (k_S M (c_floorMod l X _ _ _ (by omega) (by omega)) (lw_S q813 q814 q113 q815) ndJ4_floorMod dX11_spoke_16 ⟨by decide, by decide, by decide, by decide⟩ rfl (Nat.le_of_ble_eq_true rfl)) ?_
  refine j_iret M dX11_spoke_19 ⟨Nat.le_refl _, Nat.le_refl _⟩ ?_
  exact ⟨rfl, rfl⟩
theorem c_lapOfX11 (a w sp : Nat) (hd lp sm : Int) (hw : hp w = some (eWh sp hd lp sm)) : CS l X yX11_lapOf cX11_lapOf 2 (some .int) 1 [.ref a, .ref w] hp (some (.int (zI lp))) := by
  refine Ct.of (by decide) (Nat.le_of_ble_eq_true rfl) (fun Γ M => ?_)
  refine j_lv (lv' := [(0, .ref a), (1, .ref w)]) rfl ?_
  refine j_aload_n M dX11_lapOf_0 1 rfl ?_
  refine j_get M hw rfl 2 (by decide) in_X1 q181 rfl dX11_lapOf_1 ?_
  refine j_iret M dX11_lapOf_4 ⟨Nat.le_refl _, Nat.le_refl _⟩ ?_
  exact ⟨rfl, rfl⟩
end C10
/-- the heap with the wheel k -/
def hhW (X : Cx) (hp : Hp) (s : Co) (k : Nat) (g : Int → Int) (hd lp : Int) : Hp := hup (hup hp (s.sa k) (eI X 400 g)) (s.wa k) (eWh (s.sa k) hd lp (s.v 3))
section HH
variable {X : Cx} {hp : Hp} {s : Co} {V : Nat → Prop} {k : Nat} {g : Int → Int} {hd lp : Int}
theorem hh_w {hd' lp' : Int} : hup (hhW X hp s k g hd lp) (s.wa k) (eWh (s.sa k) hd' lp' (s.v 3)) = hhW X hp s k g hd' lp' := hup_hup _ _ _ _
theorem hh_s {g' : Int → Int} (hn : s.wa k ≠ s.sa k) : hup (hhW X hp s k g hd lp) (s.sa k) (eI X 400 g') = hhW X hp s k g' hd lp := by
  unfold hhW; rw [hup_comm _ _ _ hn, hup_hup]
theorem hh_gw : hhW X hp s k g hd lp (s.wa k) = some (eWh (s.sa k) hd lp (s.v 3)) := hup_s _ _ _
theorem hh_gs (hn : s.wa k ≠ s.sa k) : hhW X hp s k g hd lp (s.sa k) = some (eI X 400 g) := by
  unfold hhW; rw [hup_n _ _ (Ne.symm hn), hup_s]
theorem hh_id (hw : hp (s.wa k) = some (eWh (s.sa k) hd lp (s.v 3))) (hs : hp (s.sa k) = some (eI X 400 g)) : hp = hhW X hp s k g hd lp := by
  unfold hhW; rw [hup_id hs, hup_id hw]
theorem hh_n {q : Nat} (h1 : q ≠ s.wa k) (h2 : q ≠ s.sa k) : hhW X hp s k g hd lp q = hp q := by
  unfold hhW; rw [hup_n _ _ h1, hup_n _ _ h2]
theorem hh_o (h : CW X hp s V) (hk : k < 89) {q : Nat} {e : va_E} (hq : hp q = some e) (hn : NW e) : hhW X hp s k g hd lp q = some e := by
  obtain ⟨_, _, _, _, a1, a2⟩ := h.cells hk
  rw [hh_n (hn.wh hq a1) (hn.a4 hq a2), hq]
theorem hh_k (h : CW X hp s V) (hk : k < 89) {i : Nat} (hi : i < 89) (hne : i ≠ k) : hhW X hp s k g hd lp (s.wa i) = hp (s.wa i) ∧ hhW X hp s k g hd lp (s.sa i) = hp (s.sa i) := by
  have n1 := h.ww hi hk
  have n2 := h.ww hk hi
  exact ⟨hh_n (n1.2.2.2.1 hne) n1.1, hh_n (Ne.symm n2.1) (n1.2.2.2.2 hne)⟩
end HH
def WP (X : Cx) (hp : Hp) (s : Co) (V : Nat → Prop) (k : Nat) : Option Value → Hp → Prop := fun r hp' => r = some (.ref (s.wa k)) ∧ WFr hp hp' s (k % 8 + 1) ∧ CW X hp' s V ∧ WNow X hp' s k
/-- the wheels of row i -/
def WlOk (l : Launch) (X : Cx) (s : Co) (i : Int) : Prop := ∀ (m : Int) (hp : Hp) (V : Nat → Prop), 2 ≤ m ∧ m ≤ 10 → CW X hp s V → (∀ k : Nat, ((k % 8 : Nat) : Int) ≤ i → V k) → Ct l X yX0_wheel cX0_wheel 4 (some (.object "AheadRows$Wheel")) (rD (4 + 2 * i.toNat)) [.ref s.x, .int (zI i), .int (zI m)] hp (WP X hp s V (kx m i))
def TP (X : Cx) (hp : Hp) (s : Co) (V : Nat → Prop) (k : Nat) : Option Value → Hp → Prop := fun r hp' => r = none ∧ ∃ hp1 g, CW X hp1 s V ∧ WFr hp hp1 s (k % 8) ∧ hp' = hhW X hp1 s k g (pHead (s.rs k)) (pLap (s.rs k)) ∧ wOk g (pHead (s.rs k)) (pLap (s.rs k)) (s.rs k)
theorem max_if {a b : Int} : (if a < b then b else a) = max a b := by split <;> omega
section C10b
variable (l : Launch) (X : Cx) (hp : Hp) (s : Co) (V : Nat → Prop) (i m hd0 lp0 : Int)
theorem c_wTold (hi : 0 ≤ i ∧ i < s.N) (hm : 2 ≤ m ∧ m ≤ 10) (h : CW X hp s V) (hV : ∀ k : Nat, ((k % 8 : Nat) : Int) < i → V k) (ih : ∀ j, 0 ≤ j → j < i → WlOk l X s j) (hw : hp (s.wa (kx m i)) = some (eWh (s.sa (kx m i)) hd0 lp0 (s.v 3))) (hk : s.K i = 0) : Ct l X yX5_turn cX5_turn 9 none (rD (3 + 2 * i.toNat)) [.ref (s.r i.toNat), .ref s.x, .int (zI m), .ref (s.wa (kx m i))] hp (TP X hp s V (kx m i)) := by
  have h8 := h.hN
  have ha := h.hR.2 i.toNat (by omega)
  rw [Int.toNat_of_nonneg hi.1, rowE0 hk] at ha
  have ht := rOk_told (h.ok i hi.1 hi.2) hk
  have hkk : kx m i < 89 := by unfold kx; omega
  obtain ⟨g3, hse⟩ := h.se
  obtain ⟨_, _, _, g4, _, hsp⟩ := h.cells hkk
  have n1 := h.ww hkk hkk
  have h2 := c_turnX5 l X hp (s.r i.toNat) _ _ _ _ s.x (s.wa (kx m i)) (s.ad 3) (s.sa (kx m i)) m hd0 lp0 (s.v 3) _ g3 g4 hm ha ht.1 ht.2.1 (by omega) (by omega) h.hx rfl hse hw hsp
  refine (h2.room (show 1 ≤ 3 + 2 * i.toNat by omega)).mono (fun r hp' hq => ?_)
  obtain ⟨rfl, q1, q2, rfl, hok⟩ := hq
  have er : s.rs (kx m i) = (fun n => (pTr m (s.P (4 * i)) (s.P (4 * i + 1)) (s.P (4 * i + 2)) (s.P (4 * i + 3)) n.toNat).1) := by
    rw [s.rs_kx (by omega) (by omega)]
    funext n; exact pRest_told hk
  rw [← er] at hok ⊢
  refine ⟨rfl, hup hp (s.ad 3) (eI X 100 q1), q2, ?_, fun q c1 c2 => by rw [hup_n _ _ c1], rfl, hok⟩
  refine h.upd hkk (fun q c1 c2 c3 => by rw [hup_n _ _ c1]) ⟨q1, hup_s _ _ _⟩ ?_ (fun i _ v => v)
  obtain ⟨hd, lp, sm, g, d1, d2, d3, d4⟩ := h.wh _ hkk
  exact ⟨hd, lp, sm, g, by rw [hup_n _ _ n1.2.1]; exact d1, by rw [hup_n _ _ n1.2.2.1]; exact d2, d3, d4⟩
theorem c_wX10 (hi : 0 ≤ i ∧ i < s.N) (hm : 2 ≤ m ∧ m ≤ 10) (h : CW X hp s V) (hV : ∀ k : Nat, ((k % 8 : Nat) : Int) < i → V k) (ih : ∀ j, 0 ≤ j → j < i → WlOk l X s j) (hw : hp (s.wa (kx m i)) = some (eWh (s.sa (kx m i)) hd0 lp0 (s.v 3))) (hk : s.K i = 3) : Ct l X yX9_turn cX9_turn 6 none (rD (3 + 2 * i.toNat)) [.ref (s.r i.toNat), .ref s.x, .int (zI m), .ref (s.wa (kx m i))] hp (TP X hp s V (kx m i)) := by
  have h8 := h.hN
  have hst := h.st
  have hx := h.hx
  have ho := h.ok i hi.1 hi.2
  have p1 := rOk_part ho (by omega)
  have ha := h.hR.2 i.toNat (by omega)
  rw [Int.toNat_of_nonneg hi.1, rowE3 hk] at ha
  have hkk : kx m i < 89 := by unfold kx; omega
  have hkp : kx m (s.P (4 * i)) < 89 := by unfold kx; omega
  have hne : kx m (s.P (4 * i)) ≠ kx m i := by unfold kx; omega
  have hk8 : kx m i % 8 = i.toNat := by unfold kx; omega
  have hp8 : kx m (s.P (4 * i)) % 8 = (s.P (4 * i)).toNat := by unfold kx; omega
  have n1 := (h.ww hkk hkk).1
  have er : s.rs (kx m i) = pRest m s.K s.P i := s.rs_kx (by omega) (by omega)
  have ep : s.rs (kx m (s.P (4 * i))) = pRest m s.K s.P (s.P (4 * i)) := s.rs_kx (by omega) (by omega)
  have hl := rest_hl (i := s.P (4 * i)) h.ok hm (by omega)
  have pe := rOk_each ho hk
  have ed := each_dvd hl.2.1.1 (show 0 < s.P (4 * i + 1) by omega)
  have hL : 0 < (pLap (pRest m s.K s.P (s.P (4 * i))) / pGcd (pLap (pRest m s.K s.P (s.P (4 * i)))) (s.P (4 * i + 1))) ∧ (pLap (pRest m s.K s.P (s.P (4 * i))) / pGcd (pLap (pRest m s.K s.P (s.P (4 * i)))) (s.P (4 * i + 1))) ≤ 336 := ⟨ed.1, by have := Int.le_of_dvd hl.2.1.1 ed.2.1; omega⟩
  have hmu : 1 * pHead (pRest m s.K s.P (s.P (4 * i))) ≤ s.P (4 * i + 1) * pHead (pRest m s.K s.P (s.P (4 * i))) := Int.mul_le_mul_of_nonneg_right (by omega) (by omega)
  have hper : Per (s.rs (kx m i)) (pHead (pRest m s.K s.P (s.P (4 * i)))) (pLap (pRest m s.K s.P (s.P (4 * i))) / pGcd (pLap (pRest m s.K s.P (s.P (4 * i)))) (s.P (4 * i + 1))) := by
    rw [er]
    exact (Per.each (q := s.P (4 * i + 2)) hl.2.2.2 hl.1.1 hL.1 (by omega) (by omega) ed.2.2).congr (fun n _ => by rw [pRest_each h.ok hi.1 hi.2 hk])
  have hsp : ∀ j, s.rs (kx m i) j = pRest m s.K s.P (s.P (4 * i)) (s.P (4 * i + 1) * j + s.P (4 * i + 2)) := fun j => by rw [er, pRest_each h.ok hi.1 hi.2 hk]
  have hrg : ∀ j, 0 ≤ s.rs (kx m i) j ∧ s.rs (kx m i) j < 10 := fun j => by rw [er]; have := pRest_r (show 0 < m by omega) s.K s.P i j; omega
  generalize ekp : kx m (s.P (4 * i)) = kp at *
  generalize ek : kx m i = k at *
  have HA : ∀ (hp1 : Hp) (g : Int → Int) {hd lp : Int}, CW X hp1 s V → hp1 (s.r i.toNat) = some (eX10 (s.P (4 * i)) (s.P (4 * i + 1)) (s.P (4 * i + 2))) → hhW X hp1 s k g hd lp (s.r i.toNat) = some (eX10 (s.P (4 * i)) (s.P (4 * i + 1)) (s.P (4 * i + 2))) := fun hp1 g _ _ a1 a2 => hh_o a1 hkk a2 (fun e => by cases e)
  have HP : ∀ (hp1 : Hp) (g : Int → Int) {hd lp : Int} {gp : Int → Int}, CW X hp1 s V → (hp1 (s.wa kp) = some (eWh (s.sa kp) (pHead (pRest m s.K s.P (s.P (4 * i)))) (pLap (pRest m s.K s.P (s.P (4 * i)))) (s.v 3)) ∧ hp1 (s.sa kp) = some (eI X 400 gp)) → hhW X hp1 s k g hd lp (s.wa kp) = some (eWh (s.sa kp) (pHead (pRest m s.K s.P (s.P (4 * i)))) (pLap (pRest m s.K s.P (s.P (4 * i)))) (s.v 3)) ∧ hhW X hp1 s k g hd lp (s.sa kp) = some (eI X 400 gp) := fun hp1 g _ _ _ a1 a2 => ⟨(hh_k a1 hkk hkp hne).1.trans a2.1, (hh_k a1 hkk hkp hne).2.trans a2.2⟩
  refine Ct.of (by decide) (Nat.le_of_ble_eq_true rfl) (fun Γ M => ?_)
  refine j_lv (lv' := [(0, .ref (s.r i.toNat)), (1, .ref s.x), (2, .int (zI m)), (3, .ref (s.wa k))]) rfl ?_
  have loop : ∀ (hp1 : Hp) (gp : Int → Int), CW X hp1 s V → hp1 (s.r i.toNat) = some (eX10 (s.P (4 * i)) (s.P (4 * i + 1)) (s.P (4 * i + 2))) → (hp1 (s.wa kp) = some (eWh (s.sa kp) (pHead (pRest m s.K s.P (s.P (4 * i)))) (pLap (pRest m s.K s.P (s.P (4 * i)))) (s.v 3)) ∧ hp1 (s.sa kp) = some (eI X 400 gp)) → WFr hp hp1 s (k % 8) → wOk gp (pHead (pRest m s.K s.P (s.P (4 * i)))) (pLap (pRest m s.K s.P (s.P (4 * i)))) (pRest m s.K s.P (s.P (4 * i))) → ∀ (u n : Nat) (g : Int → Int), u = 400 - n → (n : Int) ≤ pHead (pRest m s.K s.P (s.P (4 * i))) + (pLap (pRest m s.K s.P (s.P (4 * i))) / pGcd (pLap (pRest m s.K s.P (s.P (4 * i)))) (s.P (4 * i + 1))) → (∀ j, 0 ≤ j → j < (n : Int) → g j = s.rs k j) → J Γ (hhW X hp1 s k g (pHead (pRest m s.K s.P (s.P (4 * i)))) (pLap (pRest m s.K s.P (s.P (4 * i))) / pGcd (pLap (pRest m s.K s.P (s.P (4 * i)))) (s.P (4 * i + 1)))) 0 0 33 [(0, .ref (s.r i.toNat)), (1, .ref s.x), (2, .int (zI m)), (3, .ref (s.wa k)), (4, .ref (s.wa kp)), (5, .int (zI n))] [] := by
    intro hp1 gp a1 a2 a3 a4 a5 u
    induction u using Nat.strongRecOn with
    | _ u ihu =>
      intro n g hu hn hg
      have HW : hhW X hp1 s k g (pHead (pRest m s.K s.P (s.P (4 * i)))) (pLap (pRest m s.K s.P (s.P (4 * i))) / pGcd (pLap (pRest m s.K s.P (s.P (4 * i)))) (s.P (4 * i + 1))) (s.wa k) = some (eWh (s.sa k) (pHead (pRest m s.K s.P (s.P (4 * i)))) (pLap (pRest m s.K s.P (s.P (4 * i))) / pGcd (pLap (pRest m s.K s.P (s.P (4 * i)))) (s.P (4 * i + 1))) (s.v 3)) := hh_gw
      have HSP : hhW X hp1 s k g (pHead (pRest m s.K s.P (s.P (4 * i)))) (pLap (pRest m s.K s.P (s.P (4 * i))) / pGcd (pLap (pRest m s.K s.P (s.P (4 * i)))) (s.P (4 * i + 1))) (s.sa k) = some (eI X 400 g) := hh_gs n1
      have HAA := HA hp1 g (hd := pHead (pRest m s.K s.P (s.P (4 * i)))) (lp := (pLap (pRest m s.K s.P (s.P (4 * i))) / pGcd (pLap (pRest m s.K s.P (s.P (4 * i)))) (s.P (4 * i + 1)))) a1 a2
      refine j_iload M dX9_turn_33 5 rfl ?_
      refine j_aload_n M dX9_turn_35 3 rfl ?_
      refine j_get M HW rfl 1 (by decide) in_X1 q173 rfl dX9_turn_36 ?_
      refine j_aload_n M dX9_turn_39 3 rfl ?_
      refine j_get M HW rfl 2 (by decide) in_X1 q178 rfl dX9_turn_40 ?_
      refine j_iadd M dX9_turn_43 ?_
      refine j_icmp_ge M 69 dX9_turn_44 (by decide) (by omega) (fun c_44 => ?_) (fun c_44 => ?_)
      · have hok : wOk g (pHead (pRest m s.K s.P (s.P (4 * i)))) (pLap (pRest m s.K s.P (s.P (4 * i))) / pGcd (pLap (pRest m s.K s.P (s.P (4 * i)))) (s.P (4 * i + 1))) (s.rs k) := ⟨hper, by omega, fun j j0 j1 => hg j j0 (by omega), hrg⟩
        refine j_aload_n M dX9_turn_69 3 rfl ?_
        refine j_rN (k_V M (c_lessen l X _ _ _ _ _ _ g (s.rs k) HW HSP hok) (rc_of M HW rfl) (lw_V q816 q817 q818 q101 q819) ndX1_lessen dX9_turn_70 (rmD (by omega) (by decide) rfl rfl) rfl (Nat.le_of_ble_eq_true rfl)) ?_
        refine j_vret M dX9_turn_73 ⟨Nat.le_refl _, Nat.le_refl _⟩ ?_
        exact ⟨rfl, hp1, g, a1, a4, hh_w, hok.less⟩
      · refine j_aload_n M dX9_turn_47 3 rfl ?_
        refine j_get M HW rfl 0 (by decide) in_X1 q169 rfl dX9_turn_48 ?_
        refine j_iload M dX9_turn_51 5 rfl ?_
        refine j_aload_n M dX9_turn_53 0 rfl ?_
        refine j_aload M dX9_turn_54 4 rfl ?_
        refine j_iload M dX9_turn_56 5 rfl ?_
        refine j_iload_n M dX9_turn_58 2 rfl ?_
        refine j_rV (k_A M (C := "AheadRows$Each") (xc := ⟨"AheadRows$Over", "spoke", "(LAheadRows$Wheel;II)I"⟩) (c_spokeX10 l X _ (s.r i.toNat) _ (s.sa kp) _ _ _ _ _ _ _ _ gp _ (HA hp1 g a1 a2) (HP hp1 g a1 a3).1 (HP hp1 g a1 a3).2 a5 (by omega) (by omega) (by omega)) (rc_of M HAA rfl) (lw_U q799 q801 q802 q803 q110 q804) q800 ⟨by decide, by decide, ndX10_spoke.2.2⟩ dX9_turn_59 (rmD (by omega) (by decide) rfl rfl) rfl (Nat.le_of_ble_eq_true rfl)) ?_
        rw [← hsp]
        refine j_iast M HSP (by omega) dX9_turn_62 ?_
        refine j_hp (hh_s n1) ?_
        refine j_iinc M dX9_turn_63 5 rfl (by decide) ?_
        refine j_goto M 33 dX9_turn_66 (by decide) ?_
        refine ihu _ (by omega) (n + 1) _ rfl (by omega) (fun j j0 j1 => ?_)
        by_cases e : j = n
        · rw [e, upA_s]
        · rw [upA_n _ _ e]; exact hg j j0 (by omega)
  refine j_aload_n M dX9_turn_0 1 rfl ?_
  refine j_aload_n M dX9_turn_1 0 rfl ?_
  refine j_get M ha rfl 0 (by decide) in_X10 q408 rfl dX9_turn_2 ?_
  refine j_iload_n M dX9_turn_5 2 rfl ?_
  refine j_run (k_VN M (ih (s.P (4 * i)) p1.1 p1.2 m hp V hm h (fun q hq => hV q (by omega))) (rc_of M hx rfl) q786 q97 q778 qs15 (lw_meth q779) ndX0_wheel dX9_turn_6 (rmD (by omega) (by decide) rfl rfl) rfl (Nat.le_of_ble_eq_true rfl)) (fun r_6 hp_6 hq_6 => ?_)
  rw [ekp] at hq_6
  obtain ⟨rfl, hF6, hC6, g6, b1, b2, b3⟩ := hq_6
  rw [ep] at b1 b3
  have hF7 : WFr hp hp_6 s (k % 8) := hF6.up (by omega)
  have ha6 := hF6.other h ha (fun e => by cases e)
  have hk6 := hF6.wheel h hkk (fun _ c => absurd c (by omega))
  obtain ⟨_, _, _, g5, _, c5⟩ := hC6.cells hkk
  have hw6 := hk6.1.trans hw
  replace b1 : hp_6 (s.wa kp) = some (eWh (s.sa kp) (pHead (pRest m s.K s.P (s.P (4 * i)))) (pLap (pRest m s.K s.P (s.P (4 * i)))) (s.v 3)) ∧ hp_6 (s.sa kp) = some (eI X 400 g6) := ⟨b1, b2⟩
  refine j_hp (hh_id hw6 c5) ?_
  refine j_astore M dX9_turn_9 (by decide) ?_
  refine j_aload_n M dX9_turn_11 3 rfl ?_
  refine j_aload M dX9_turn_12 4 rfl ?_
  refine j_get M (HP hp_6 g5 hC6 b1).1 rfl 1 (by decide) in_X1 q173 rfl dX9_turn_14 ?_
  refine j_put M hh_gw rfl 1 (by decide) in_X1 tyX1 tyX1_ok nmX1 q173 rfl rfl rfl (Nat.le_of_ble_eq_true rfl) dX9_turn_17 ?_
  refine j_hp hh_w ?_
  refine j_aload_n M dX9_turn_20 3 rfl ?_
  refine j_aload_n M dX9_turn_21 0 rfl ?_
  refine j_aload M dX9_turn_22 4 rfl ?_
  refine j_rV (k_A M (C := "AheadRows$Each") (xc := ⟨"AheadRows$Over", "lapOf", "(LAheadRows$Wheel;)I"⟩) (c_lapOfX10 l X _ (s.r i.toNat) _ _ _ _ _ _ _ _ (HA hp_6 g5 hC6 ha6) (HP hp_6 g5 hC6 b1).1 (by omega) (by omega)) (rc_of M (HA hp_6 g5 hC6 ha6) rfl) (lw_U q787 q789 q790 q791 q110 q792) q788 ⟨by decide, by decide, ndX10_lapOf.2.2⟩ dX9_turn_24 (rmD (by omega) (by decide) rfl rfl) rfl (Nat.le_of_ble_eq_true rfl)) ?_
  refine j_put M hh_gw rfl 2 (by decide) in_X1 tyX1 tyX1_ok nmX1 q178 rfl rfl rfl (Nat.le_of_ble_eq_true rfl) dX9_turn_27 ?_
  refine j_hp hh_w ?_
  refine j_iconst M dX9_turn_30 ?_
  refine j_istore M dX9_turn_31 (by decide) ?_
  exact loop hp_6 g6 hC6 ha6 b1 hF7 b3 400 0 g5 rfl (by omega) (fun j j0 j1 => by omega)
theorem c_wX11 (hi : 0 ≤ i ∧ i < s.N) (hm : 2 ≤ m ∧ m ≤ 10) (h : CW X hp s V) (hV : ∀ k : Nat, ((k % 8 : Nat) : Int) < i → V k) (ih : ∀ j, 0 ≤ j → j < i → WlOk l X s j) (hw : hp (s.wa (kx m i)) = some (eWh (s.sa (kx m i)) hd0 lp0 (s.v 3))) (hk : s.K i = 4) : Ct l X yX9_turn cX9_turn 6 none (rD (3 + 2 * i.toNat)) [.ref (s.r i.toNat), .ref s.x, .int (zI m), .ref (s.wa (kx m i))] hp (TP X hp s V (kx m i)) := by
  have h8 := h.hN
  have hst := h.st
  have hx := h.hx
  have ho := h.ok i hi.1 hi.2
  have p1 := rOk_part ho (by omega)
  have ha := h.hR.2 i.toNat (by omega)
  rw [Int.toNat_of_nonneg hi.1, rowE4 hk] at ha
  have hkk : kx m i < 89 := by unfold kx; omega
  have hkp : kx m (s.P (4 * i)) < 89 := by unfold kx; omega
  have hne : kx m (s.P (4 * i)) ≠ kx m i := by unfold kx; omega
  have hk8 : kx m i % 8 = i.toNat := by unfold kx; omega
  have hp8 : kx m (s.P (4 * i)) % 8 = (s.P (4 * i)).toNat := by unfold kx; omega
  have n1 := (h.ww hkk hkk).1
  have er : s.rs (kx m i) = pRest m s.K s.P i := s.rs_kx (by omega) (by omega)
  have ep : s.rs (kx m (s.P (4 * i))) = pRest m s.K s.P (s.P (4 * i)) := s.rs_kx (by omega) (by omega)
  have hl := rest_hl (i := s.P (4 * i)) h.ok hm (by omega)
  have hL := hl.2.1
  have hper : Per (s.rs (kx m i)) (pHead (pRest m s.K s.P (s.P (4 * i)))) (pLap (pRest m s.K s.P (s.P (4 * i)))) := by
    rw [er]
    exact (Per.next (fun a b => (a - b) % m) hl.2.2.2).congr (fun n _ => by rw [pRest_step h.ok hi.1 hi.2 hk])
  have hsp : ∀ j, s.rs (kx m i) j = (pRest m s.K s.P (s.P (4 * i)) (j + 1) - pRest m s.K s.P (s.P (4 * i)) j) % m := fun j => by rw [er, pRest_step h.ok hi.1 hi.2 hk]
  have hrg : ∀ j, 0 ≤ s.rs (kx m i) j ∧ s.rs (kx m i) j < 10 := fun j => by rw [er]; have := pRest_r (show 0 < m by omega) s.K s.P i j; omega
  generalize ekp : kx m (s.P (4 * i)) = kp at *
  generalize ek : kx m i = k at *
  have HA : ∀ (hp1 : Hp) (g : Int → Int) {hd lp : Int}, CW X hp1 s V → hp1 (s.r i.toNat) = some (eX11 (s.P (4 * i))) → hhW X hp1 s k g hd lp (s.r i.toNat) = some (eX11 (s.P (4 * i))) := fun hp1 g _ _ a1 a2 => hh_o a1 hkk a2 (fun e => by cases e)
  have HP : ∀ (hp1 : Hp) (g : Int → Int) {hd lp : Int} {gp : Int → Int}, CW X hp1 s V → (hp1 (s.wa kp) = some (eWh (s.sa kp) (pHead (pRest m s.K s.P (s.P (4 * i)))) (pLap (pRest m s.K s.P (s.P (4 * i)))) (s.v 3)) ∧ hp1 (s.sa kp) = some (eI X 400 gp)) → hhW X hp1 s k g hd lp (s.wa kp) = some (eWh (s.sa kp) (pHead (pRest m s.K s.P (s.P (4 * i)))) (pLap (pRest m s.K s.P (s.P (4 * i)))) (s.v 3)) ∧ hhW X hp1 s k g hd lp (s.sa kp) = some (eI X 400 gp) := fun hp1 g _ _ _ a1 a2 => ⟨(hh_k a1 hkk hkp hne).1.trans a2.1, (hh_k a1 hkk hkp hne).2.trans a2.2⟩
  refine Ct.of (by decide) (Nat.le_of_ble_eq_true rfl) (fun Γ M => ?_)
  refine j_lv (lv' := [(0, .ref (s.r i.toNat)), (1, .ref s.x), (2, .int (zI m)), (3, .ref (s.wa k))]) rfl ?_
  have loop : ∀ (hp1 : Hp) (gp : Int → Int), CW X hp1 s V → hp1 (s.r i.toNat) = some (eX11 (s.P (4 * i))) → (hp1 (s.wa kp) = some (eWh (s.sa kp) (pHead (pRest m s.K s.P (s.P (4 * i)))) (pLap (pRest m s.K s.P (s.P (4 * i)))) (s.v 3)) ∧ hp1 (s.sa kp) = some (eI X 400 gp)) → WFr hp hp1 s (k % 8) → wOk gp (pHead (pRest m s.K s.P (s.P (4 * i)))) (pLap (pRest m s.K s.P (s.P (4 * i)))) (pRest m s.K s.P (s.P (4 * i))) → ∀ (u n : Nat) (g : Int → Int), u = 400 - n → (n : Int) ≤ pHead (pRest m s.K s.P (s.P (4 * i))) + (pLap (pRest m s.K s.P (s.P (4 * i)))) → (∀ j, 0 ≤ j → j < (n : Int) → g j = s.rs k j) → J Γ (hhW X hp1 s k g (pHead (pRest m s.K s.P (s.P (4 * i)))) (pLap (pRest m s.K s.P (s.P (4 * i))))) 0 0 33 [(0, .ref (s.r i.toNat)), (1, .ref s.x), (2, .int (zI m)), (3, .ref (s.wa k)), (4, .ref (s.wa kp)), (5, .int (zI n))] [] := by
    intro hp1 gp a1 a2 a3 a4 a5 u
    induction u using Nat.strongRecOn with
    | _ u ihu =>
      intro n g hu hn hg
      have HW : hhW X hp1 s k g (pHead (pRest m s.K s.P (s.P (4 * i)))) (pLap (pRest m s.K s.P (s.P (4 * i)))) (s.wa k) = some (eWh (s.sa k) (pHead (pRest m s.K s.P (s.P (4 * i)))) (pLap (pRest m s.K s.P (s.P (4 * i)))) (s.v 3)) := hh_gw
      have HSP : hhW X hp1 s k g (pHead (pRest m s.K s.P (s.P (4 * i)))) (pLap (pRest m s.K s.P (s.P (4 * i)))) (s.sa k) = some (eI X 400 g) := hh_gs n1
      have HAA := HA hp1 g (hd := pHead (pRest m s.K s.P (s.P (4 * i)))) (lp := (pLap (pRest m s.K s.P (s.P (4 * i))))) a1 a2
      refine j_iload M dX9_turn_33 5 rfl ?_
      refine j_aload_n M dX9_turn_35 3 rfl ?_
      refine j_get M HW rfl 1 (by decide) in_X1 q173 rfl dX9_turn_36 ?_
      refine j_aload_n M dX9_turn_39 3 rfl ?_
      refine j_get M HW rfl 2 (by decide) in_X1 q178 rfl dX9_turn_40 ?_
      refine j_iadd M dX9_turn_43 ?_
      refine j_icmp_ge M 69 dX9_turn_44 (by decide) (by omega) (fun c_44 => ?_) (fun c_44 => ?_)
      · have hok : wOk g (pHead (pRest m s.K s.P (s.P (4 * i)))) (pLap (pRest m s.K s.P (s.P (4 * i)))) (s.rs k) := ⟨hper, by omega, fun j j0 j1 => hg j j0 (by omega), hrg⟩
        refine j_aload_n M dX9_turn_69 3 rfl ?_
        refine j_rN (k_V M (c_lessen l X _ _ _ _ _ _ g (s.rs k) HW HSP hok) (rc_of M HW rfl) (lw_V q816 q817 q818 q101 q819) ndX1_lessen dX9_turn_70 (rmD (by omega) (by decide) rfl rfl) rfl (Nat.le_of_ble_eq_true rfl)) ?_
        refine j_vret M dX9_turn_73 ⟨Nat.le_refl _, Nat.le_refl _⟩ ?_
        exact ⟨rfl, hp1, g, a1, a4, hh_w, hok.less⟩
      · refine j_aload_n M dX9_turn_47 3 rfl ?_
        refine j_get M HW rfl 0 (by decide) in_X1 q169 rfl dX9_turn_48 ?_
        refine j_iload M dX9_turn_51 5 rfl ?_
        refine j_aload_n M dX9_turn_53 0 rfl ?_
        refine j_aload M dX9_turn_54 4 rfl ?_
        refine j_iload M dX9_turn_56 5 rfl ?_
        refine j_iload_n M dX9_turn_58 2 rfl ?_
        refine j_rV (k_A M (C := "AheadRows$Step") (xc := ⟨"AheadRows$Over", "spoke", "(LAheadRows$Wheel;II)I"⟩) (c_spokeX11 l X _ (s.r i.toNat) _ (s.sa kp) _ _ _ _ _ _ gp _ (HA hp1 g a1 a2) (HP hp1 g a1 a3).1 (HP hp1 g a1 a3).2 a5 (by omega) (by omega)) (rc_of M HAA rfl) (lw_U q799 q801 q809 q810 q111 q811) q800 ⟨by decide, by decide, ndX11_spoke.2.2⟩ dX9_turn_59 (rmD (by omega) (by decide) rfl rfl) rfl (Nat.le_of_ble_eq_true rfl)) ?_
        rw [← hsp]
        refine j_iast M HSP (by omega) dX9_turn_62 ?_
        refine j_hp (hh_s n1) ?_
        refine j_iinc M dX9_turn_63 5 rfl (by decide) ?_
        refine j_goto M 33 dX9_turn_66 (by decide) ?_
        refine ihu _ (by omega) (n + 1) _ rfl (by omega) (fun j j0 j1 => ?_)
        by_cases e : j = n
        · rw [e, upA_s]
        · rw [upA_n _ _ e]; exact hg j j0 (by omega)
  refine j_aload_n M dX9_turn_0 1 rfl ?_
  refine j_aload_n M dX9_turn_1 0 rfl ?_
  refine j_get M ha rfl 0 (by decide) in_X11 q408 rfl dX9_turn_2 ?_
  refine j_iload_n M dX9_turn_5 2 rfl ?_
  refine j_run (k_VN M (ih (s.P (4 * i)) p1.1 p1.2 m hp V hm h (fun q hq => hV q (by omega))) (rc_of M hx rfl) q786 q97 q778 qs15 (lw_meth q779) ndX0_wheel dX9_turn_6 (rmD (by omega) (by decide) rfl rfl) rfl (Nat.le_of_ble_eq_true rfl)) (fun r_6 hp_6 hq_6 => ?_)
  rw [ekp] at hq_6
  obtain ⟨rfl, hF6, hC6, g6, b1, b2, b3⟩ := hq_6
  rw [ep] at b1 b3
  have hF7 : WFr hp hp_6 s (k % 8) := hF6.up (by omega)
  have ha6 := hF6.other h ha (fun e => by cases e)
  have hk6 := hF6.wheel h hkk (fun _ c => absurd c (by omega))
  obtain ⟨_, _, _, g5, _, c5⟩ := hC6.cells hkk
  have hw6 := hk6.1.trans hw
  replace b1 : hp_6 (s.wa kp) = some (eWh (s.sa kp) (pHead (pRest m s.K s.P (s.P (4 * i)))) (pLap (pRest m s.K s.P (s.P (4 * i)))) (s.v 3)) ∧ hp_6 (s.sa kp) = some (eI X 400 g6) := ⟨b1, b2⟩
  refine j_hp (hh_id hw6 c5) ?_
  refine j_astore M dX9_turn_9 (by decide) ?_
  refine j_aload_n M dX9_turn_11 3 rfl ?_
  refine j_aload M dX9_turn_12 4 rfl ?_
  refine j_get M (HP hp_6 g5 hC6 b1).1 rfl 1 (by decide) in_X1 q173 rfl dX9_turn_14 ?_
  refine j_put M hh_gw rfl 1 (by decide) in_X1 tyX1 tyX1_ok nmX1 q173 rfl rfl rfl (Nat.le_of_ble_eq_true rfl) dX9_turn_17 ?_
  refine j_hp hh_w ?_
  refine j_aload_n M dX9_turn_20 3 rfl ?_
  refine j_aload_n M dX9_turn_21 0 rfl ?_
  refine j_aload M dX9_turn_22 4 rfl ?_
  refine j_rV (k_A M (C := "AheadRows$Step") (xc := ⟨"AheadRows$Over", "lapOf", "(LAheadRows$Wheel;)I"⟩) (c_lapOfX11 l X _ (s.r i.toNat) _ _ _ _ _ (HP hp_6 g5 hC6 b1).1) (rc_of M (HA hp_6 g5 hC6 ha6) rfl) (lw_U q787 q789 q796 q797 q111 q798) q788 ⟨by decide, by decide, ndX11_lapOf.2.2⟩ dX9_turn_24 (rmD (by omega) (by decide) rfl rfl) rfl (Nat.le_of_ble_eq_true rfl)) ?_
  refine j_put M hh_gw rfl 2 (by decide) in_X1 tyX1 tyX1_ok nmX1 q178 rfl rfl rfl (Nat.le_of_ble_eq_true rfl) dX9_turn_27 ?_
  refine j_hp hh_w ?_
  refine j_iconst M dX9_turn_30 ?_
  refine j_istore M dX9_turn_31 (by decide) ?_
  exact loop hp_6 g6 hC6 ha6 b1 hF7 b3 400 0 g5 rfl (by omega) (fun j j0 j1 => by omega)
theorem c_wX7 (hi : 0 ≤ i ∧ i < s.N) (hm : 2 ≤ m ∧ m ≤ 10) (h : CW X hp s V) (hV : ∀ k : Nat, ((k % 8 : Nat) : Int) < i → V k) (ih : ∀ j, 0 ≤ j → j < i → WlOk l X s j) (hw : hp (s.wa (kx m i)) = some (eWh (s.sa (kx m i)) hd0 lp0 (s.v 3))) (hk : s.K i = 1) : Ct l X yX6_turn cX6_turn 7 none (rD (3 + 2 * i.toNat)) [.ref (s.r i.toNat), .ref s.x, .int (zI m), .ref (s.wa (kx m i))] hp (TP X hp s V (kx m i)) := by
  have h8 := h.hN
  have hst := h.st
  have hx := h.hx
  have ho := h.ok i hi.1 hi.2
  have p1 := rOk_part ho (by omega)
  have p2 := rOk_part2 ho (by omega)
  have ha := h.hR.2 i.toNat (by omega)
  rw [Int.toNat_of_nonneg hi.1, rowE1 hk] at ha
  have hkk : kx m i < 89 := by unfold kx; omega
  have hkp : kx m (s.P (4 * i)) < 89 := by unfold kx; omega
  have hkq : kx m (s.P (4 * i + 1)) < 89 := by unfold kx; omega
  have hne : kx m (s.P (4 * i)) ≠ kx m i := by unfold kx; omega
  have hne2 : kx m (s.P (4 * i + 1)) ≠ kx m i := by unfold kx; omega
  have hk8 : kx m i % 8 = i.toNat := by unfold kx; omega
  have hp8 : kx m (s.P (4 * i)) % 8 = (s.P (4 * i)).toNat := by unfold kx; omega
  have hq8 : kx m (s.P (4 * i + 1)) % 8 = (s.P (4 * i + 1)).toNat := by unfold kx; omega
  have n1 := (h.ww hkk hkk).1
  have er : s.rs (kx m i) = pRest m s.K s.P i := s.rs_kx (by omega) (by omega)
  have ep : s.rs (kx m (s.P (4 * i))) = pRest m s.K s.P (s.P (4 * i)) := s.rs_kx (by omega) (by omega)
  have eq : s.rs (kx m (s.P (4 * i + 1))) = pRest m s.K s.P (s.P (4 * i + 1)) := s.rs_kx (by omega) (by omega)
  have hl := rest_hl (i := s.P (4 * i)) h.ok hm (by omega)
  have hl2 := rest_hl (i := s.P (4 * i + 1)) h.ok hm (by omega)
  have hE := pE_r m
  have hL : 0 < (pLcm (pLap (pRest m s.K s.P (s.P (4 * i)))) (pLap (pRest m s.K s.P (s.P (4 * i + 1))))) ∧ (pLcm (pLap (pRest m s.K s.P (s.P (4 * i)))) (pLap (pRest m s.K s.P (s.P (4 * i + 1))))) ≤ 336 := ⟨pLcm_pos hl.2.1.1 hl2.2.1.1, by have := dvd_le (pLcm_dvd hl.2.1.1 hl2.2.1.1 hl.2.2.1 hl2.2.2.1 hE.1) hE.1; omega⟩
  have gp0 := pGcd_pos (a := pLap (pRest m s.K s.P (s.P (4 * i)))) (b := pLap (pRest m s.K s.P (s.P (4 * i + 1)))) hl.2.1.1
  have gpl := Int.le_of_dvd hl.2.1.1 (pGcd_l (a := pLap (pRest m s.K s.P (s.P (4 * i)))) (b := pLap (pRest m s.K s.P (s.P (4 * i + 1)))) (by omega))
  have hper : Per (s.rs (kx m i)) (max (pHead (pRest m s.K s.P (s.P (4 * i)))) (pHead (pRest m s.K s.P (s.P (4 * i + 1))))) (pLcm (pLap (pRest m s.K s.P (s.P (4 * i)))) (pLap (pRest m s.K s.P (s.P (4 * i + 1))))) := by
    rw [er]
    exact (Per.two (fun a b => (a + b) % m) ((hl.2.2.2.dvd (pLcm_l hl.2.1.1 hl2.2.1.1) hL.1).late (by omega)) ((hl2.2.2.2.dvd (pLcm_r hl.2.1.1 hl2.2.1.1) hL.1).late (by omega))).congr (fun n _ => by rw [pRest_sum h.ok hi.1 hi.2 hk])
  have hsp : ∀ j, s.rs (kx m i) j = ((pRest m s.K s.P (s.P (4 * i))) j + (pRest m s.K s.P (s.P (4 * i + 1))) j) % m := fun j => by rw [er, pRest_sum h.ok hi.1 hi.2 hk]
  have hr1 : ∀ j, 0 ≤ (pRest m s.K s.P (s.P (4 * i))) j ∧ (pRest m s.K s.P (s.P (4 * i))) j < 10 := fun j => by have := pRest_r (show 0 < m by omega) s.K s.P (s.P (4 * i)) j; omega
  have hr2 : ∀ j, 0 ≤ (pRest m s.K s.P (s.P (4 * i + 1))) j ∧ (pRest m s.K s.P (s.P (4 * i + 1))) j < 10 := fun j => by have := pRest_r (show 0 < m by omega) s.K s.P (s.P (4 * i + 1)) j; omega
  have hrg : ∀ j, 0 ≤ s.rs (kx m i) j ∧ s.rs (kx m i) j < 10 := fun j => by rw [er]; have := pRest_r (show 0 < m by omega) s.K s.P i j; omega
  generalize ekp : kx m (s.P (4 * i)) = kp at *
  generalize ekq : kx m (s.P (4 * i + 1)) = kq at *
  generalize ek : kx m i = k at *
  have HA : ∀ (hp1 : Hp) (g : Int → Int) {hd lp : Int}, CW X hp1 s V → hp1 (s.r i.toNat) = some (eX7 (s.P (4 * i)) (s.P (4 * i + 1))) → hhW X hp1 s k g hd lp (s.r i.toNat) = some (eX7 (s.P (4 * i)) (s.P (4 * i + 1))) := fun hp1 g _ _ a1 a2 => hh_o a1 hkk a2 (fun e => by cases e)
  have HP : ∀ (hp1 : Hp) (g : Int → Int) {hd lp : Int} {gp : Int → Int}, CW X hp1 s V → (hp1 (s.wa kp) = some (eWh (s.sa kp) (pHead (pRest m s.K s.P (s.P (4 * i)))) (pLap (pRest m s.K s.P (s.P (4 * i)))) (s.v 3)) ∧ hp1 (s.sa kp) = some (eI X 400 gp)) → hhW X hp1 s k g hd lp (s.wa kp) = some (eWh (s.sa kp) (pHead (pRest m s.K s.P (s.P (4 * i)))) (pLap (pRest m s.K s.P (s.P (4 * i)))) (s.v 3)) ∧ hhW X hp1 s k g hd lp (s.sa kp) = some (eI X 400 gp) := fun hp1 g _ _ _ a1 a2 => ⟨(hh_k a1 hkk hkp hne).1.trans a2.1, (hh_k a1 hkk hkp hne).2.trans a2.2⟩
  have HQ : ∀ (hp1 : Hp) (g : Int → Int) {hd lp : Int} {gq : Int → Int}, CW X hp1 s V → (hp1 (s.wa kq) = some (eWh (s.sa kq) (pHead (pRest m s.K s.P (s.P (4 * i + 1)))) (pLap (pRest m s.K s.P (s.P (4 * i + 1)))) (s.v 3)) ∧ hp1 (s.sa kq) = some (eI X 400 gq)) → hhW X hp1 s k g hd lp (s.wa kq) = some (eWh (s.sa kq) (pHead (pRest m s.K s.P (s.P (4 * i + 1)))) (pLap (pRest m s.K s.P (s.P (4 * i + 1)))) (s.v 3)) ∧ hhW X hp1 s k g hd lp (s.sa kq) = some (eI X 400 gq) := fun hp1 g _ _ _ a1 a2 => ⟨(hh_k a1 hkk hkq hne2).1.trans a2.1, (hh_k a1 hkk hkq hne2).2.trans a2.2⟩
  refine Ct.of (by decide) (Nat.le_of_ble_eq_true rfl) (fun Γ M => ?_)
  refine j_lv (lv' := [(0, .ref (s.r i.toNat)), (1, .ref s.x), (2, .int (zI m)), (3, .ref (s.wa k))]) rfl ?_
  have loop : ∀ (hp1 : Hp) (gp gq : Int → Int), CW X hp1 s V → hp1 (s.r i.toNat) = some (eX7 (s.P (4 * i)) (s.P (4 * i + 1))) → (hp1 (s.wa kp) = some (eWh (s.sa kp) (pHead (pRest m s.K s.P (s.P (4 * i)))) (pLap (pRest m s.K s.P (s.P (4 * i)))) (s.v 3)) ∧ hp1 (s.sa kp) = some (eI X 400 gp)) → (hp1 (s.wa kq) = some (eWh (s.sa kq) (pHead (pRest m s.K s.P (s.P (4 * i + 1)))) (pLap (pRest m s.K s.P (s.P (4 * i + 1)))) (s.v 3)) ∧ hp1 (s.sa kq) = some (eI X 400 gq)) → WFr hp hp1 s (k % 8) → wOk gp (pHead (pRest m s.K s.P (s.P (4 * i)))) (pLap (pRest m s.K s.P (s.P (4 * i)))) (pRest m s.K s.P (s.P (4 * i))) → wOk gq (pHead (pRest m s.K s.P (s.P (4 * i + 1)))) (pLap (pRest m s.K s.P (s.P (4 * i + 1)))) (pRest m s.K s.P (s.P (4 * i + 1))) → ∀ (u n : Nat) (g : Int → Int), u = 400 - n → (n : Int) ≤ (max (pHead (pRest m s.K s.P (s.P (4 * i)))) (pHead (pRest m s.K s.P (s.P (4 * i + 1))))) + (pLcm (pLap (pRest m s.K s.P (s.P (4 * i)))) (pLap (pRest m s.K s.P (s.P (4 * i + 1))))) → (∀ j, 0 ≤ j → j < (n : Int) → g j = s.rs k j) → J Γ (hhW X hp1 s k g (max (pHead (pRest m s.K s.P (s.P (4 * i)))) (pHead (pRest m s.K s.P (s.P (4 * i + 1))))) (pLcm (pLap (pRest m s.K s.P (s.P (4 * i)))) (pLap (pRest m s.K s.P (s.P (4 * i + 1)))))) 0 0 71 [(0, .ref (s.r i.toNat)), (1, .ref s.x), (2, .int (zI m)), (3, .ref (s.wa k)), (4, .ref (s.wa kp)), (5, .ref (s.wa kq)), (6, .int (zI n))] [] := by
    intro hp1 gp gq a1 a2 a3 a6 a4 a5 a7 u
    induction u using Nat.strongRecOn with
    | _ u ihu =>
      intro n g hu hn hg
      have HW : hhW X hp1 s k g (max (pHead (pRest m s.K s.P (s.P (4 * i)))) (pHead (pRest m s.K s.P (s.P (4 * i + 1))))) (pLcm (pLap (pRest m s.K s.P (s.P (4 * i)))) (pLap (pRest m s.K s.P (s.P (4 * i + 1))))) (s.wa k) = some (eWh (s.sa k) (max (pHead (pRest m s.K s.P (s.P (4 * i)))) (pHead (pRest m s.K s.P (s.P (4 * i + 1))))) (pLcm (pLap (pRest m s.K s.P (s.P (4 * i)))) (pLap (pRest m s.K s.P (s.P (4 * i + 1))))) (s.v 3)) := hh_gw
      have HSP : hhW X hp1 s k g (max (pHead (pRest m s.K s.P (s.P (4 * i)))) (pHead (pRest m s.K s.P (s.P (4 * i + 1))))) (pLcm (pLap (pRest m s.K s.P (s.P (4 * i)))) (pLap (pRest m s.K s.P (s.P (4 * i + 1))))) (s.sa k) = some (eI X 400 g) := hh_gs n1
      have HAA := HA hp1 g (hd := (max (pHead (pRest m s.K s.P (s.P (4 * i)))) (pHead (pRest m s.K s.P (s.P (4 * i + 1)))))) (lp := (pLcm (pLap (pRest m s.K s.P (s.P (4 * i)))) (pLap (pRest m s.K s.P (s.P (4 * i + 1)))))) a1 a2
      have HPP := (HP hp1 g (hd := (max (pHead (pRest m s.K s.P (s.P (4 * i)))) (pHead (pRest m s.K s.P (s.P (4 * i + 1)))))) (lp := (pLcm (pLap (pRest m s.K s.P (s.P (4 * i)))) (pLap (pRest m s.K s.P (s.P (4 * i + 1)))))) a1 a3).1
      have HQQ := (HQ hp1 g (hd := (max (pHead (pRest m s.K s.P (s.P (4 * i)))) (pHead (pRest m s.K s.P (s.P (4 * i + 1)))))) (lp := (pLcm (pLap (pRest m s.K s.P (s.P (4 * i)))) (pLap (pRest m s.K s.P (s.P (4 * i + 1)))))) a1 a6).1
      have y1 := hr1 n
      have y2 := hr2 n
      have y3 := mul_bd 9 9 (a := (pRest m s.K s.P (s.P (4 * i))) n) (b := (pRest m s.K s.P (s.P (4 * i + 1))) n) (by omega) (by omega)
      have y4 : 0 ≤ (pRest m s.K s.P (s.P (4 * i))) n * (pRest m s.K s.P (s.P (4 * i + 1))) n := Int.mul_nonneg (by omega) (by omega)
      refine j_iload M dX6_turn_71 6 rfl ?_
      refine j_aload_n M dX6_turn_73 3 rfl ?_
      refine j_get M HW rfl 1 (by decide) in_X1 q174 rfl dX6_turn_74 ?_
      refine j_aload_n M dX6_turn_77 3 rfl ?_
      refine j_get M HW rfl 2 (by decide) in_X1 q179 rfl dX6_turn_78 ?_
      refine j_iadd M dX6_turn_81 ?_
      refine j_icmp_ge M 127 dX6_turn_82 (by decide) (by omega) (fun c_82 => ?_) (fun c_82 => ?_)
      · have hok : wOk g (max (pHead (pRest m s.K s.P (s.P (4 * i)))) (pHead (pRest m s.K s.P (s.P (4 * i + 1))))) (pLcm (pLap (pRest m s.K s.P (s.P (4 * i)))) (pLap (pRest m s.K s.P (s.P (4 * i + 1))))) (s.rs k) := ⟨hper, by omega, fun j j0 j1 => hg j j0 (by omega), hrg⟩
        refine j_aload_n M dX6_turn_127 3 rfl ?_
        refine j_rN (k_V M (c_lessen l X _ _ _ _ _ _ g (s.rs k) HW HSP hok) (rc_of M HW rfl) (lw_V q831 q817 q818 q101 q819) ndX1_lessen dX6_turn_128 (rmD (by omega) (by decide) rfl rfl) rfl (Nat.le_of_ble_eq_true rfl)) ?_
        refine j_vret M dX6_turn_131 ⟨Nat.le_refl _, Nat.le_refl _⟩ ?_
        exact ⟨rfl, hp1, g, a1, a4, hh_w, hok.less⟩
      · refine j_aload_n M dX6_turn_85 3 rfl ?_
        refine j_get M HW rfl 0 (by decide) in_X1 q170 rfl dX6_turn_86 ?_
        refine j_iload M dX6_turn_89 6 rfl ?_
        refine j_aload_n M dX6_turn_91 0 rfl ?_
        refine j_rV (k_A M (C := "AheadRows$Sum") (xc := ⟨"AheadRows$Both", "mix", "()LAheadRows$Mix;"⟩) (c_mixX7 l X _ (s.r i.toNat)) (rc_of M HAA rfl) (lw_U q741 q743 q749 q750 q107 q751) q742 ⟨by decide, by decide, ndX7_mix.2.2⟩ dX6_turn_92 (rmD (by omega) (by decide) rfl rfl) rfl (Nat.le_of_ble_eq_true rfl)) ?_
        refine j_aload M dX6_turn_95 4 rfl ?_
        refine j_iload M dX6_turn_97 6 rfl ?_
        refine j_i2l M dX6_turn_99 (by omega) ?_
        refine j_rV (k_V M (c_at l X _ _ _ _ _ _ _ gp _ HPP (HP hp1 g a1 a3).2 (by omega) a5) (rc_of M HPP rfl) (lw_V q830 q806 q807 q101 q808) ndX1_at dX6_turn_100 (rmD (by omega) (by decide) rfl rfl) rfl (Nat.le_of_ble_eq_true rfl)) ?_
        refine j_i2l M dX6_turn_103 (by omega) ?_
        refine j_aload M dX6_turn_104 5 rfl ?_
        refine j_iload M dX6_turn_106 6 rfl ?_
        refine j_i2l M dX6_turn_108 (by omega) ?_
        refine j_rV (k_V M (c_at l X _ _ _ _ _ _ _ gq _ HQQ (HQ hp1 g a1 a6).2 (by omega) a7) (rc_of M HQQ rfl) (lw_V q830 q806 q807 q101 q808) ndX1_at dX6_turn_109 (rmD (by omega) (by decide) rfl rfl) rfl (Nat.le_of_ble_eq_true rfl)) ?_
        refine j_i2l M dX6_turn_112 (by omega) ?_
        refine j_rV (k_AU M (C := "AheadRows$Mix$1") (xc := ⟨"AheadRows$Mix", "of", "(JJ)J"⟩) (c_ofX13 l X _ _ _) (rc_mix0 M) q754 q756 q757 q758 (lw_meth q759) q755 ⟨by decide, by decide, ndX13_of.2.2⟩ dX6_turn_113 (rmD (by omega) (by decide) rfl rfl) rfl (Nat.le_of_ble_eq_true rfl)) ?_
        refine j_iload_n M dX6_turn_116 2 rfl ?_
        refine j_i2l M dX6_turn_117 (by omega) ?_
        refine j_lremE M dX6_turn_118 (by omega) (by omega) ?_
        refine j_l2i M dX6_turn_119 ?_
        refine j_iast M HSP (by omega) dX6_turn_120 ?_
        refine j_hp (hh_s n1) ?_
        refine j_iinc M dX6_turn_121 6 rfl (by decide) ?_
        refine j_goto M 71 dX6_turn_124 (by decide) ?_
        refine ihu _ (by omega) (n + 1) _ rfl (by omega) (fun j j0 j1 => ?_)
        by_cases e : j = n
        · rw [e, upA_s]; exact (hsp n).symm
        · rw [upA_n _ _ e]; exact hg j j0 (by omega)
  refine j_aload_n M dX6_turn_0 1 rfl ?_
  refine j_aload_n M dX6_turn_1 0 rfl ?_
  refine j_get M ha rfl 0 (by decide) in_X7 q373 rfl dX6_turn_2 ?_
  refine j_iload_n M dX6_turn_5 2 rfl ?_
  refine j_run (k_VN M (ih (s.P (4 * i)) p1.1 p1.2 m hp V hm h (fun q hq => hV q (by omega))) (rc_of M hx rfl) q827 q97 q778 qs15 (lw_meth q779) ndX0_wheel dX6_turn_6 (rmD (by omega) (by decide) rfl rfl) rfl (Nat.le_of_ble_eq_true rfl)) (fun r_6 hp_6 hq_6 => ?_)
  rw [ekp] at hq_6
  obtain ⟨rfl, hF6, hC6, hN6⟩ := hq_6
  have ha6 := hF6.other h ha (fun e => by cases e)
  have hk6 := hF6.wheel h hkk (fun _ c => absurd c (by omega))
  refine j_astore M dX6_turn_9 (by decide) ?_
  refine j_aload_n M dX6_turn_11 1 rfl ?_
  refine j_aload_n M dX6_turn_12 0 rfl ?_
  refine j_get M ha6 rfl 1 (by decide) in_X7 q378 rfl dX6_turn_13 ?_
  refine j_iload_n M dX6_turn_16 2 rfl ?_
  refine j_run (k_VN M (ih (s.P (4 * i + 1)) p2.1 p2.2 m hp_6 V hm hC6 (fun q hq => hV q (by omega))) (rc_of M hC6.hx rfl) q827 q97 q778 qs15 (lw_meth q779) ndX0_wheel dX6_turn_17 (rmD (by omega) (by decide) rfl rfl) rfl (Nat.le_of_ble_eq_true rfl)) (fun r_17 hp_17 hq_17 => ?_)
  rw [ekq] at hq_17
  obtain ⟨rfl, hF17, hC17, g17, d1, d2, d3⟩ := hq_17
  rw [eq] at d1 d3
  have hF7 : WFr hp hp_17 s (k % 8) := WFr.tr h (hF6.up (by omega)) (hF17.up (by omega))
  have ha17 := hF17.other hC6 ha6 (fun e => by cases e)
  have hk17 := hF17.wheel hC6 hkk (fun _ c => absurd c (by omega))
  obtain ⟨g6, b1, b2, b3⟩ := WNow.keep hC6 hkp hN6 hF17
  rw [ep] at b1 b3
  obtain ⟨_, _, _, g5, _, c5⟩ := hC17.cells hkk
  have hw17 := (hk17.1.trans hk6.1).trans hw
  replace b1 : hp_17 (s.wa kp) = some (eWh (s.sa kp) (pHead (pRest m s.K s.P (s.P (4 * i)))) (pLap (pRest m s.K s.P (s.P (4 * i)))) (s.v 3)) ∧ hp_17 (s.sa kp) = some (eI X 400 g6) := ⟨b1, b2⟩
  replace d1 : hp_17 (s.wa kq) = some (eWh (s.sa kq) (pHead (pRest m s.K s.P (s.P (4 * i + 1)))) (pLap (pRest m s.K s.P (s.P (4 * i + 1)))) (s.v 3)) ∧ hp_17 (s.sa kq) = some (eI X 400 g17) := ⟨d1, d2⟩
  refine j_hp (hh_id hw17 c5) ?_
  refine j_astore M dX6_turn_20 (by decide) ?_
  refine j_aload_n M dX6_turn_22 3 rfl ?_
  refine j_aload M dX6_turn_23 4 rfl ?_
  refine j_get M (HP hp_17 g5 hC17 b1).1 rfl 1 (by decide) in_X1 q174 rfl dX6_turn_25 ?_
  refine j_aload M dX6_turn_28 5 rfl ?_
  refine j_get M (HQ hp_17 g5 hC17 d1).1 rfl 1 (by decide) in_X1 q174 rfl dX6_turn_30 ?_
  refine j_rV (k_S M (c_max l X _ _ _ (by omega)) (lw_S q828 q448 q113 q449) ndJ4_max dX6_turn_33 (rmD (by omega) (by decide) rfl rfl) rfl (Nat.le_of_ble_eq_true rfl)) ?_
  rw [max_if]
  refine j_put M hh_gw rfl 1 (by decide) in_X1 tyX1 tyX1_ok nmX1 q174 rfl rfl rfl (Nat.le_of_ble_eq_true rfl) dX6_turn_36 ?_
  refine j_hp hh_w ?_
  refine j_aload_n M dX6_turn_39 3 rfl ?_
  refine j_aload M dX6_turn_40 4 rfl ?_
  refine j_get M (HP hp_17 g5 hC17 b1).1 rfl 2 (by decide) in_X1 q179 rfl dX6_turn_42 ?_
  refine j_aload M dX6_turn_45 4 rfl ?_
  refine j_get M (HP hp_17 g5 hC17 b1).1 rfl 2 (by decide) in_X1 q179 rfl dX6_turn_47 ?_
  refine j_aload M dX6_turn_50 5 rfl ?_
  refine j_get M (HQ hp_17 g5 hC17 d1).1 rfl 2 (by decide) in_X1 q179 rfl dX6_turn_52 ?_
  refine j_rV (k_SN M (c_gcd l X _ _ _ (by omega) (by omega)) q829 q794 q97 (lw_meth q795) ndX0_gcd dX6_turn_55 (rmD (by omega) (by decide) rfl rfl) rfl (Nat.le_of_ble_eq_true rfl)) ?_
  refine j_idivE M dX6_turn_58 (by omega) (by omega) ?_
  refine j_aload M dX6_turn_59 5 rfl ?_
  refine j_get M (HQ hp_17 g5 hC17 d1).1 rfl 2 (by decide) in_X1 q179 rfl dX6_turn_61 ?_
  refine j_imul M dX6_turn_64 ?_
  refine j_put M hh_gw rfl 2 (by decide) in_X1 tyX1 tyX1_ok nmX1 q179 rfl rfl rfl (Nat.le_of_ble_eq_true rfl) dX6_turn_65 ?_
  refine j_hp hh_w ?_
  refine j_iconst M dX6_turn_68 ?_
  refine j_istore M dX6_turn_69 (by decide) ?_
  exact loop hp_17 g6 g17 hC17 ha17 b1 d1 hF7 b3 d3 400 0 g5 rfl (by omega) (fun j j0 j1 => by omega)
theorem c_wX8 (hi : 0 ≤ i ∧ i < s.N) (hm : 2 ≤ m ∧ m ≤ 10) (h : CW X hp s V) (hV : ∀ k : Nat, ((k % 8 : Nat) : Int) < i → V k) (ih : ∀ j, 0 ≤ j → j < i → WlOk l X s j) (hw : hp (s.wa (kx m i)) = some (eWh (s.sa (kx m i)) hd0 lp0 (s.v 3))) (hk : s.K i = 2) : Ct l X yX6_turn cX6_turn 7 none (rD (3 + 2 * i.toNat)) [.ref (s.r i.toNat), .ref s.x, .int (zI m), .ref (s.wa (kx m i))] hp (TP X hp s V (kx m i)) := by
  have h8 := h.hN
  have hst := h.st
  have hx := h.hx
  have ho := h.ok i hi.1 hi.2
  have p1 := rOk_part ho (by omega)
  have p2 := rOk_part2 ho (by omega)
  have ha := h.hR.2 i.toNat (by omega)
  rw [Int.toNat_of_nonneg hi.1, rowE2 hk] at ha
  have hkk : kx m i < 89 := by unfold kx; omega
  have hkp : kx m (s.P (4 * i)) < 89 := by unfold kx; omega
  have hkq : kx m (s.P (4 * i + 1)) < 89 := by unfold kx; omega
  have hne : kx m (s.P (4 * i)) ≠ kx m i := by unfold kx; omega
  have hne2 : kx m (s.P (4 * i + 1)) ≠ kx m i := by unfold kx; omega
  have hk8 : kx m i % 8 = i.toNat := by unfold kx; omega
  have hp8 : kx m (s.P (4 * i)) % 8 = (s.P (4 * i)).toNat := by unfold kx; omega
  have hq8 : kx m (s.P (4 * i + 1)) % 8 = (s.P (4 * i + 1)).toNat := by unfold kx; omega
  have n1 := (h.ww hkk hkk).1
  have er : s.rs (kx m i) = pRest m s.K s.P i := s.rs_kx (by omega) (by omega)
  have ep : s.rs (kx m (s.P (4 * i))) = pRest m s.K s.P (s.P (4 * i)) := s.rs_kx (by omega) (by omega)
  have eq : s.rs (kx m (s.P (4 * i + 1))) = pRest m s.K s.P (s.P (4 * i + 1)) := s.rs_kx (by omega) (by omega)
  have hl := rest_hl (i := s.P (4 * i)) h.ok hm (by omega)
  have hl2 := rest_hl (i := s.P (4 * i + 1)) h.ok hm (by omega)
  have hE := pE_r m
  have hL : 0 < (pLcm (pLap (pRest m s.K s.P (s.P (4 * i)))) (pLap (pRest m s.K s.P (s.P (4 * i + 1))))) ∧ (pLcm (pLap (pRest m s.K s.P (s.P (4 * i)))) (pLap (pRest m s.K s.P (s.P (4 * i + 1))))) ≤ 336 := ⟨pLcm_pos hl.2.1.1 hl2.2.1.1, by have := dvd_le (pLcm_dvd hl.2.1.1 hl2.2.1.1 hl.2.2.1 hl2.2.2.1 hE.1) hE.1; omega⟩
  have gp0 := pGcd_pos (a := pLap (pRest m s.K s.P (s.P (4 * i)))) (b := pLap (pRest m s.K s.P (s.P (4 * i + 1)))) hl.2.1.1
  have gpl := Int.le_of_dvd hl.2.1.1 (pGcd_l (a := pLap (pRest m s.K s.P (s.P (4 * i)))) (b := pLap (pRest m s.K s.P (s.P (4 * i + 1)))) (by omega))
  have hper : Per (s.rs (kx m i)) (max (pHead (pRest m s.K s.P (s.P (4 * i)))) (pHead (pRest m s.K s.P (s.P (4 * i + 1))))) (pLcm (pLap (pRest m s.K s.P (s.P (4 * i)))) (pLap (pRest m s.K s.P (s.P (4 * i + 1))))) := by
    rw [er]
    exact (Per.two (fun a b => (a * b) % m) ((hl.2.2.2.dvd (pLcm_l hl.2.1.1 hl2.2.1.1) hL.1).late (by omega)) ((hl2.2.2.2.dvd (pLcm_r hl.2.1.1 hl2.2.1.1) hL.1).late (by omega))).congr (fun n _ => by rw [pRest_product h.ok hi.1 hi.2 hk])
  have hsp : ∀ j, s.rs (kx m i) j = ((pRest m s.K s.P (s.P (4 * i))) j * (pRest m s.K s.P (s.P (4 * i + 1))) j) % m := fun j => by rw [er, pRest_product h.ok hi.1 hi.2 hk]
  have hr1 : ∀ j, 0 ≤ (pRest m s.K s.P (s.P (4 * i))) j ∧ (pRest m s.K s.P (s.P (4 * i))) j < 10 := fun j => by have := pRest_r (show 0 < m by omega) s.K s.P (s.P (4 * i)) j; omega
  have hr2 : ∀ j, 0 ≤ (pRest m s.K s.P (s.P (4 * i + 1))) j ∧ (pRest m s.K s.P (s.P (4 * i + 1))) j < 10 := fun j => by have := pRest_r (show 0 < m by omega) s.K s.P (s.P (4 * i + 1)) j; omega
  have hrg : ∀ j, 0 ≤ s.rs (kx m i) j ∧ s.rs (kx m i) j < 10 := fun j => by rw [er]; have := pRest_r (show 0 < m by omega) s.K s.P i j; omega
  generalize ekp : kx m (s.P (4 * i)) = kp at *
  generalize ekq : kx m (s.P (4 * i + 1)) = kq at *
  generalize ek : kx m i = k at *
  have HA : ∀ (hp1 : Hp) (g : Int → Int) {hd lp : Int}, CW X hp1 s V → hp1 (s.r i.toNat) = some (eX8 (s.P (4 * i)) (s.P (4 * i + 1))) → hhW X hp1 s k g hd lp (s.r i.toNat) = some (eX8 (s.P (4 * i)) (s.P (4 * i + 1))) := fun hp1 g _ _ a1 a2 => hh_o a1 hkk a2 (fun e => by cases e)
  have HP : ∀ (hp1 : Hp) (g : Int → Int) {hd lp : Int} {gp : Int → Int}, CW X hp1 s V → (hp1 (s.wa kp) = some (eWh (s.sa kp) (pHead (pRest m s.K s.P (s.P (4 * i)))) (pLap (pRest m s.K s.P (s.P (4 * i)))) (s.v 3)) ∧ hp1 (s.sa kp) = some (eI X 400 gp)) → hhW X hp1 s k g hd lp (s.wa kp) = some (eWh (s.sa kp) (pHead (pRest m s.K s.P (s.P (4 * i)))) (pLap (pRest m s.K s.P (s.P (4 * i)))) (s.v 3)) ∧ hhW X hp1 s k g hd lp (s.sa kp) = some (eI X 400 gp) := fun hp1 g _ _ _ a1 a2 => ⟨(hh_k a1 hkk hkp hne).1.trans a2.1, (hh_k a1 hkk hkp hne).2.trans a2.2⟩
  have HQ : ∀ (hp1 : Hp) (g : Int → Int) {hd lp : Int} {gq : Int → Int}, CW X hp1 s V → (hp1 (s.wa kq) = some (eWh (s.sa kq) (pHead (pRest m s.K s.P (s.P (4 * i + 1)))) (pLap (pRest m s.K s.P (s.P (4 * i + 1)))) (s.v 3)) ∧ hp1 (s.sa kq) = some (eI X 400 gq)) → hhW X hp1 s k g hd lp (s.wa kq) = some (eWh (s.sa kq) (pHead (pRest m s.K s.P (s.P (4 * i + 1)))) (pLap (pRest m s.K s.P (s.P (4 * i + 1)))) (s.v 3)) ∧ hhW X hp1 s k g hd lp (s.sa kq) = some (eI X 400 gq) := fun hp1 g _ _ _ a1 a2 => ⟨(hh_k a1 hkk hkq hne2).1.trans a2.1, (hh_k a1 hkk hkq hne2).2.trans a2.2⟩
  refine Ct.of (by decide) (Nat.le_of_ble_eq_true rfl) (fun Γ M => ?_)
  refine j_lv (lv' := [(0, .ref (s.r i.toNat)), (1, .ref s.x), (2, .int (zI m)), (3, .ref (s.wa k))]) rfl ?_
  have loop : ∀ (hp1 : Hp) (gp gq : Int → Int), CW X hp1 s V → hp1 (s.r i.toNat) = some (eX8 (s.P (4 * i)) (s.P (4 * i + 1))) → (hp1 (s.wa kp) = some (eWh (s.sa kp) (pHead (pRest m s.K s.P (s.P (4 * i)))) (pLap (pRest m s.K s.P (s.P (4 * i)))) (s.v 3)) ∧ hp1 (s.sa kp) = some (eI X 400 gp)) → (hp1 (s.wa kq) = some (eWh (s.sa kq) (pHead (pRest m s.K s.P (s.P (4 * i + 1)))) (pLap (pRest m s.K s.P (s.P (4 * i + 1)))) (s.v 3)) ∧ hp1 (s.sa kq) = some (eI X 400 gq)) → WFr hp hp1 s (k % 8) → wOk gp (pHead (pRest m s.K s.P (s.P (4 * i)))) (pLap (pRest m s.K s.P (s.P (4 * i)))) (pRest m s.K s.P (s.P (4 * i))) → wOk gq (pHead (pRest m s.K s.P (s.P (4 * i + 1)))) (pLap (pRest m s.K s.P (s.P (4 * i + 1)))) (pRest m s.K s.P (s.P (4 * i + 1))) → ∀ (u n : Nat) (g : Int → Int), u = 400 - n → (n : Int) ≤ (max (pHead (pRest m s.K s.P (s.P (4 * i)))) (pHead (pRest m s.K s.P (s.P (4 * i + 1))))) + (pLcm (pLap (pRest m s.K s.P (s.P (4 * i)))) (pLap (pRest m s.K s.P (s.P (4 * i + 1))))) → (∀ j, 0 ≤ j → j < (n : Int) → g j = s.rs k j) → J Γ (hhW X hp1 s k g (max (pHead (pRest m s.K s.P (s.P (4 * i)))) (pHead (pRest m s.K s.P (s.P (4 * i + 1))))) (pLcm (pLap (pRest m s.K s.P (s.P (4 * i)))) (pLap (pRest m s.K s.P (s.P (4 * i + 1)))))) 0 0 71 [(0, .ref (s.r i.toNat)), (1, .ref s.x), (2, .int (zI m)), (3, .ref (s.wa k)), (4, .ref (s.wa kp)), (5, .ref (s.wa kq)), (6, .int (zI n))] [] := by
    intro hp1 gp gq a1 a2 a3 a6 a4 a5 a7 u
    induction u using Nat.strongRecOn with
    | _ u ihu =>
      intro n g hu hn hg
      have HW : hhW X hp1 s k g (max (pHead (pRest m s.K s.P (s.P (4 * i)))) (pHead (pRest m s.K s.P (s.P (4 * i + 1))))) (pLcm (pLap (pRest m s.K s.P (s.P (4 * i)))) (pLap (pRest m s.K s.P (s.P (4 * i + 1))))) (s.wa k) = some (eWh (s.sa k) (max (pHead (pRest m s.K s.P (s.P (4 * i)))) (pHead (pRest m s.K s.P (s.P (4 * i + 1))))) (pLcm (pLap (pRest m s.K s.P (s.P (4 * i)))) (pLap (pRest m s.K s.P (s.P (4 * i + 1))))) (s.v 3)) := hh_gw
      have HSP : hhW X hp1 s k g (max (pHead (pRest m s.K s.P (s.P (4 * i)))) (pHead (pRest m s.K s.P (s.P (4 * i + 1))))) (pLcm (pLap (pRest m s.K s.P (s.P (4 * i)))) (pLap (pRest m s.K s.P (s.P (4 * i + 1))))) (s.sa k) = some (eI X 400 g) := hh_gs n1
      have HAA := HA hp1 g (hd := (max (pHead (pRest m s.K s.P (s.P (4 * i)))) (pHead (pRest m s.K s.P (s.P (4 * i + 1)))))) (lp := (pLcm (pLap (pRest m s.K s.P (s.P (4 * i)))) (pLap (pRest m s.K s.P (s.P (4 * i + 1)))))) a1 a2
      have HPP := (HP hp1 g (hd := (max (pHead (pRest m s.K s.P (s.P (4 * i)))) (pHead (pRest m s.K s.P (s.P (4 * i + 1)))))) (lp := (pLcm (pLap (pRest m s.K s.P (s.P (4 * i)))) (pLap (pRest m s.K s.P (s.P (4 * i + 1)))))) a1 a3).1
      have HQQ := (HQ hp1 g (hd := (max (pHead (pRest m s.K s.P (s.P (4 * i)))) (pHead (pRest m s.K s.P (s.P (4 * i + 1)))))) (lp := (pLcm (pLap (pRest m s.K s.P (s.P (4 * i)))) (pLap (pRest m s.K s.P (s.P (4 * i + 1)))))) a1 a6).1
      have y1 := hr1 n
      have y2 := hr2 n
      have y3 := mul_bd 9 9 (a := (pRest m s.K s.P (s.P (4 * i))) n) (b := (pRest m s.K s.P (s.P (4 * i + 1))) n) (by omega) (by omega)
      have y4 : 0 ≤ (pRest m s.K s.P (s.P (4 * i))) n * (pRest m s.K s.P (s.P (4 * i + 1))) n := Int.mul_nonneg (by omega) (by omega)
      refine j_iload M dX6_turn_71 6 rfl ?_
      refine j_aload_n M dX6_turn_73 3 rfl ?_
      refine j_get M HW rfl 1 (by decide) in_X1 q174 rfl dX6_turn_74 ?_
      refine j_aload_n M dX6_turn_77 3 rfl ?_
      refine j_get M HW rfl 2 (by decide) in_X1 q179 rfl dX6_turn_78 ?_
      refine j_iadd M dX6_turn_81 ?_
      refine j_icmp_ge M 127 dX6_turn_82 (by decide) (by omega) (fun c_82 => ?_) (fun c_82 => ?_)
      · have hok : wOk g (max (pHead (pRest m s.K s.P (s.P (4 * i)))) (pHead (pRest m s.K s.P (s.P (4 * i + 1))))) (pLcm (pLap (pRest m s.K s.P (s.P (4 * i)))) (pLap (pRest m s.K s.P (s.P (4 * i + 1))))) (s.rs k) := ⟨hper, by omega, fun j j0 j1 => hg j j0 (by omega), hrg⟩
        refine j_aload_n M dX6_turn_127 3 rfl ?_
        refine j_rN (k_V M (c_lessen l X _ _ _ _ _ _ g (s.rs k) HW HSP hok) (rc_of M HW rfl) (lw_V q831 q817 q818 q101 q819) ndX1_lessen dX6_turn_128 (rmD (by omega) (by decide) rfl rfl) rfl (Nat.le_of_ble_eq_true rfl)) ?_
        refine j_vret M dX6_turn_131 ⟨Nat.le_refl _, Nat.le_refl _⟩ ?_
        exact ⟨rfl, hp1, g, a1, a4, hh_w, hok.less⟩
      · refine j_aload_n M dX6_turn_85 3 rfl ?_
        refine j_get M HW rfl 0 (by decide) in_X1 q170 rfl dX6_turn_86 ?_
        refine j_iload M dX6_turn_89 6 rfl ?_
        refine j_aload_n M dX6_turn_91 0 rfl ?_
        refine j_rV (k_A M (C := "AheadRows$Product") (xc := ⟨"AheadRows$Both", "mix", "()LAheadRows$Mix;"⟩) (c_mixX8 l X _ (s.r i.toNat)) (rc_of M HAA rfl) (lw_U q741 q743 q744 q745 q108 q746) q742 ⟨by decide, by decide, ndX8_mix.2.2⟩ dX6_turn_92 (rmD (by omega) (by decide) rfl rfl) rfl (Nat.le_of_ble_eq_true rfl)) ?_
        refine j_aload M dX6_turn_95 4 rfl ?_
        refine j_iload M dX6_turn_97 6 rfl ?_
        refine j_i2l M dX6_turn_99 (by omega) ?_
        refine j_rV (k_V M (c_at l X _ _ _ _ _ _ _ gp _ HPP (HP hp1 g a1 a3).2 (by omega) a5) (rc_of M HPP rfl) (lw_V q830 q806 q807 q101 q808) ndX1_at dX6_turn_100 (rmD (by omega) (by decide) rfl rfl) rfl (Nat.le_of_ble_eq_true rfl)) ?_
        refine j_i2l M dX6_turn_103 (by omega) ?_
        refine j_aload M dX6_turn_104 5 rfl ?_
        refine j_iload M dX6_turn_106 6 rfl ?_
        refine j_i2l M dX6_turn_108 (by omega) ?_
        refine j_rV (k_V M (c_at l X _ _ _ _ _ _ _ gq _ HQQ (HQ hp1 g a1 a6).2 (by omega) a7) (rc_of M HQQ rfl) (lw_V q830 q806 q807 q101 q808) ndX1_at dX6_turn_109 (rmD (by omega) (by decide) rfl rfl) rfl (Nat.le_of_ble_eq_true rfl)) ?_
        refine j_i2l M dX6_turn_112 (by omega) ?_
        refine j_rV (k_AU M (C := "AheadRows$Mix$2") (xc := ⟨"AheadRows$Mix", "of", "(JJ)J"⟩) (c_ofX14 l X _ _ _) (rc_mix1 M) q754 q756 q760 q761 (lw_meth q762) q755 ⟨by decide, by decide, ndX14_of.2.2⟩ dX6_turn_113 (rmD (by omega) (by decide) rfl rfl) rfl (Nat.le_of_ble_eq_true rfl)) ?_
        refine j_iload_n M dX6_turn_116 2 rfl ?_
        refine j_i2l M dX6_turn_117 (by omega) ?_
        refine j_lremE M dX6_turn_118 (by omega) (by omega) ?_
        refine j_l2i M dX6_turn_119 ?_
        refine j_iast M HSP (by omega) dX6_turn_120 ?_
        refine j_hp (hh_s n1) ?_
        refine j_iinc M dX6_turn_121 6 rfl (by decide) ?_
        refine j_goto M 71 dX6_turn_124 (by decide) ?_
        refine ihu _ (by omega) (n + 1) _ rfl (by omega) (fun j j0 j1 => ?_)
        by_cases e : j = n
        · rw [e, upA_s]; exact (hsp n).symm
        · rw [upA_n _ _ e]; exact hg j j0 (by omega)
  refine j_aload_n M dX6_turn_0 1 rfl ?_
  refine j_aload_n M dX6_turn_1 0 rfl ?_
  refine j_get M ha rfl 0 (by decide) in_X8 q373 rfl dX6_turn_2 ?_
  refine j_iload_n M dX6_turn_5 2 rfl ?_
  refine j_run (k_VN M (ih (s.P (4 * i)) p1.1 p1.2 m hp V hm h (fun q hq => hV q (by omega))) (rc_of M hx rfl) q827 q97 q778 qs15 (lw_meth q779) ndX0_wheel dX6_turn_6 (rmD (by omega) (by decide) rfl rfl) rfl (Nat.le_of_ble_eq_true rfl)) (fun r_6 hp_6 hq_6 => ?_)
  rw [ekp] at hq_6
  obtain ⟨rfl, hF6, hC6, hN6⟩ := hq_6
  have ha6 := hF6.other h ha (fun e => by cases e)
  have hk6 := hF6.wheel h hkk (fun _ c => absurd c (by omega))
  refine j_astore M dX6_turn_9 (by decide) ?_
  refine j_aload_n M dX6_turn_11 1 rfl ?_
  refine j_aload_n M dX6_turn_12 0 rfl ?_
  refine j_get M ha6 rfl 1 (by decide) in_X8 q378 rfl dX6_turn_13 ?_
  refine j_iload_n M dX6_turn_16 2 rfl ?_
  refine j_run (k_VN M (ih (s.P (4 * i + 1)) p2.1 p2.2 m hp_6 V hm hC6 (fun q hq => hV q (by omega))) (rc_of M hC6.hx rfl) q827 q97 q778 qs15 (lw_meth q779) ndX0_wheel dX6_turn_17 (rmD (by omega) (by decide) rfl rfl) rfl (Nat.le_of_ble_eq_true rfl)) (fun r_17 hp_17 hq_17 => ?_)
  rw [ekq] at hq_17
  obtain ⟨rfl, hF17, hC17, g17, d1, d2, d3⟩ := hq_17
  rw [eq] at d1 d3
  have hF7 : WFr hp hp_17 s (k % 8) := WFr.tr h (hF6.up (by omega)) (hF17.up (by omega))
  have ha17 := hF17.other hC6 ha6 (fun e => by cases e)
  have hk17 := hF17.wheel hC6 hkk (fun _ c => absurd c (by omega))
  obtain ⟨g6, b1, b2, b3⟩ := WNow.keep hC6 hkp hN6 hF17
  rw [ep] at b1 b3
  obtain ⟨_, _, _, g5, _, c5⟩ := hC17.cells hkk
  have hw17 := (hk17.1.trans hk6.1).trans hw
  replace b1 : hp_17 (s.wa kp) = some (eWh (s.sa kp) (pHead (pRest m s.K s.P (s.P (4 * i)))) (pLap (pRest m s.K s.P (s.P (4 * i)))) (s.v 3)) ∧ hp_17 (s.sa kp) = some (eI X 400 g6) := ⟨b1, b2⟩
  replace d1 : hp_17 (s.wa kq) = some (eWh (s.sa kq) (pHead (pRest m s.K s.P (s.P (4 * i + 1)))) (pLap (pRest m s.K s.P (s.P (4 * i + 1)))) (s.v 3)) ∧ hp_17 (s.sa kq) = some (eI X 400 g17) := ⟨d1, d2⟩
  refine j_hp (hh_id hw17 c5) ?_
  refine j_astore M dX6_turn_20 (by decide) ?_
  refine j_aload_n M dX6_turn_22 3 rfl ?_
  refine j_aload M dX6_turn_23 4 rfl ?_
  refine j_get M (HP hp_17 g5 hC17 b1).1 rfl 1 (by decide) in_X1 q174 rfl dX6_turn_25 ?_
  refine j_aload M dX6_turn_28 5 rfl ?_
  refine j_get M (HQ hp_17 g5 hC17 d1).1 rfl 1 (by decide) in_X1 q174 rfl dX6_turn_30 ?_
  refine j_rV (k_S M (c_max l X _ _ _ (by omega)) (lw_S q828 q448 q113 q449) ndJ4_max dX6_turn_33 (rmD (by omega) (by decide) rfl rfl) rfl (Nat.le_of_ble_eq_true rfl)) ?_
  rw [max_if]
  refine j_put M hh_gw rfl 1 (by decide) in_X1 tyX1 tyX1_ok nmX1 q174 rfl rfl rfl (Nat.le_of_ble_eq_true rfl) dX6_turn_36 ?_
  refine j_hp hh_w ?_
  refine j_aload_n M dX6_turn_39 3 rfl ?_
  refine j_aload M dX6_turn_40 4 rfl ?_
  refine j_get M (HP hp_17 g5 hC17 b1).1 rfl 2 (by decide) in_X1 q179 rfl dX6_turn_42 ?_
  refine j_aload M dX6_turn_45 4 rfl ?_
  refine j_get M (HP hp_17 g5 hC17 b1).1 rfl 2 (by decide) in_X1 q179 rfl dX6_turn_47 ?_
  refine j_aload M dX6_turn_50 5 rfl ?_
  refine j_get M (HQ hp_17 g5 hC17 d1).1 rfl 2 (by decide) in_X1 q179 rfl dX6_turn_52 ?_
  refine j_rV (k_SN M (c_gcd l X _ _ _ (by omega) (by omega)) q829 q794 q97 (lw_meth q795) ndX0_gcd dX6_turn_55 (rmD (by omega) (by decide) rfl rfl) rfl (Nat.le_of_ble_eq_true rfl)) ?_
  refine j_idivE M dX6_turn_58 (by omega) (by omega) ?_
  refine j_aload M dX6_turn_59 5 rfl ?_
  refine j_get M (HQ hp_17 g5 hC17 d1).1 rfl 2 (by decide) in_X1 q179 rfl dX6_turn_61 ?_
  refine j_imul M dX6_turn_64 ?_
  refine j_put M hh_gw rfl 2 (by decide) in_X1 tyX1 tyX1_ok nmX1 q179 rfl rfl rfl (Nat.le_of_ble_eq_true rfl) dX6_turn_65 ?_
  refine j_hp hh_w ?_
  refine j_iconst M dX6_turn_68 ?_
  refine j_istore M dX6_turn_69 (by decide) ?_
  exact loop hp_17 g6 g17 hC17 ha17 b1 d1 hF7 b3 d3 400 0 g5 rfl (by omega) (fun j j0 j1 => by omega)
end C10b
