/-! 49: the component: the wheel of a row by a number -/
set_option maxRecDepth 100000
theorem CW.stampd {X : Cx} {hp : Hp} {s : Co} {V : Nat → Prop} {k : Nat} {hd lp sm : Int} (h : CW X hp s V) (hk : k < 89) (hw : hp (s.wa k) = some (eWh (s.sa k) hd lp sm)) : CW X (hup hp (s.wa k) (eWh (s.sa k) hd lp (s.v 3))) s (fun i => V i ∧ i ≠ k) := by
  have n1 := h.ww hk hk
  obtain ⟨_, _, _, g, d1, d2, d3, d4⟩ := h.wh _ hk
  obtain ⟨g3, c3⟩ := h.se
  have st := h.st
  exact h.upd hk (fun q c1 c2 c3 => by rw [hup_n _ _ c2]) ⟨g3, by rw [hup_n _ _ (Ne.symm n1.2.1)]; exact c3⟩ ⟨hd, lp, s.v 3, g, hup_s _ _ _, by rw [hup_n _ _ (Ne.symm n1.1)]; exact d2, by omega, fun v => absurd rfl v.2⟩ (fun i _ v => v.1)
theorem CW.turned {X : Cx} {hp : Hp} {s : Co} {V : Nat → Prop} {k : Nat} {g : Int → Int} (h : CW X hp s (fun i => V i ∧ i ≠ k)) (hk : k < 89) (hok : wOk g (pHead (s.rs k)) (pLap (s.rs k)) (s.rs k)) : CW X (hhW X hp s k g (pHead (s.rs k)) (pLap (s.rs k))) s V := by
  have n1 := h.ww hk hk
  obtain ⟨g3, c3⟩ := h.se
  have st := h.st
  exact h.upd hk (fun q c1 c2 c3 => hh_n c2 c3) ⟨g3, by rw [hh_n (Ne.symm n1.2.1) (Ne.symm n1.2.2.1)]; exact c3⟩ ⟨_, _, _, g, hh_gw, hh_gs n1.1, by omega, fun _ _ _ _ _ => ⟨rfl, rfl, hok⟩⟩ (fun i c v => ⟨v, c⟩)
section C11
variable (l : Launch) (X : Cx) (s : Co)
theorem c_wheelAt (i : Int) (hi : 0 ≤ i ∧ i < s.N) (ih : ∀ j, 0 ≤ j → j < i → WlOk l X s j) : WlOk l X s i := by
  intro m hp V hm h hV
  have h8 := h.hN
  have hst := h.st
  have hx := h.hx
  have hk1 := rOk_k (h.ok i hi.1 hi.2)
  have ha := h.hR.2 i.toNat (by omega)
  rw [Int.toNat_of_nonneg hi.1] at ha
  have hk88 : kx m i < 88 := by unfold kx; omega
  have hkk : kx m i < 89 := by omega
  have hk8 : kx m i % 8 = i.toNat := by unfold kx; omega
  have hk2 : 2 ≤ kx m i / 8 := by unfold kx; omega
  have ek : (8 * m + i).toNat = kx m i := rfl
  obtain ⟨gw, w1, w2⟩ := h.ws
  have w3 := w2 _ hk88
  have n1 := h.ww hkk hkk
  obtain ⟨hd, lp, sm, g, d1, d2, d3, d4⟩ := h.wh _ hkk
  refine Ct.of (by decide) (Nat.le_of_ble_eq_true rfl) (fun Γ M => ?_)
  refine j_lv (lv' := [(0, .ref s.x), (1, .int (zI i)), (2, .int (zI m))]) rfl ?_
  refine j_aload_n M dX0_wheel_0 0 rfl ?_
  refine j_get M hx rfl 1 (by decide) in_X0 q198 rfl dX0_wheel_1 ?_
  refine j_bipush M dX0_wheel_4 (by decide) ?_
  refine j_iload_n M dX0_wheel_6 2 rfl ?_
  refine j_imul M dX0_wheel_7 ?_
  refine j_iload_n M dX0_wheel_8 1 rfl ?_
  refine j_iadd M dX0_wheel_9 ?_
  refine j_aaldW M w1 (by unfold inb; omega) (by exact w3) dX0_wheel_10 ?_
  refine j_astore_n M dX0_wheel_11 (by decide) ?_
  refine j_aload_n M dX0_wheel_12 3 rfl ?_
  refine j_get M d1 rfl 3 (by decide) in_X1 q184 rfl dX0_wheel_13 ?_
  refine j_aload_n M dX0_wheel_16 0 rfl ?_
  refine j_get M hx rfl 3 (by decide) in_X0 q201 rfl dX0_wheel_17 ?_
  refine j_icmp_eq M 42 dX0_wheel_20 (by decide) (by omega) (fun c_20 => ?_) (fun c_20 => ?_)
  · refine j_aload_n M dX0_wheel_42 3 rfl ?_
    refine j_aret M dX0_wheel_43 (Or.inl ⟨_, rfl⟩) ⟨Nat.le_refl _, Nat.le_refl _⟩ ?_
    obtain ⟨e1, e2, e3⟩ := d4 (hV _ (by omega)) hk88 hk2 (by omega) c_20
    refine ⟨rfl, WFr.rf, h, g, ?_, d2, ?_⟩
    · rw [← e1, ← e2, ← c_20]; exact d1
    · rw [← e1, ← e2]; exact e3
  · refine j_aload_n M dX0_wheel_23 3 rfl ?_
    refine j_aload_n M dX0_wheel_24 0 rfl ?_
    refine j_get M hx rfl 3 (by decide) in_X0 q201 rfl dX0_wheel_25 ?_
    refine j_put M d1 rfl 3 (by decide) in_X1 tyX1 tyX1_ok nmX1 q184 rfl rfl rfl (Nat.le_of_ble_eq_true rfl) dX0_wheel_28 ?_
    have hS := h.stampd hkk d1
    have ha1 : hup hp (s.wa (kx m i)) (eWh (s.sa (kx m i)) hd lp (s.v 3)) (s.r i.toNat) = some (rowE s.K s.P i) := by rw [hup_n _ _ ((NW.row _ _ _).wh ha d1)]; exact ha
    have hw1 : hup hp (s.wa (kx m i)) (eWh (s.sa (kx m i)) hd lp (s.v 3)) (s.wa (kx m i)) = some (eWh (s.sa (kx m i)) hd lp (s.v 3)) := hup_s _ _ _
    have hV1 : ∀ k : Nat, ((k % 8 : Nat) : Int) < i → V k ∧ k ≠ kx m i := fun k hk => ⟨hV k (by omega), fun e => by rw [e] at hk; omega⟩
    have hdv : Dv_turn l X (hup hp (s.wa (kx m i)) (eWh (s.sa (kx m i)) hd lp (s.v 3))) (s.r i.toNat) s.K i (rD (3 + 2 * i.toNat)) [.ref s.x, .int (zI m), .ref (s.wa (kx m i))] (TP X (hup hp (s.wa (kx m i)) (eWh (s.sa (kx m i)) hd lp (s.v 3))) s (fun k => V k ∧ k ≠ kx m i) (kx m i)) := ⟨fun e => c_wTold l X _ s _ i m hd lp hi hm hS hV1 ih hw1 e, fun e => c_wX7 l X _ s _ i m hd lp hi hm hS hV1 ih hw1 e, fun e => c_wX8 l X _ s _ i m hd lp hi hm hS hV1 ih hw1 e, fun e => c_wX10 l X _ s _ i m hd lp hi hm hS hV1 ih hw1 e, fun e => c_wX11 l X _ s _ i m hd lp hi hm hS hV1 ih hw1 e⟩
    refine j_aload_n M dX0_wheel_31 0 rfl ?_
    refine j_iload_n M dX0_wheel_32 1 rfl ?_
    refine j_rV (k_V M (c_rowOf l X _ s.x s.ad s.v s.el s.N i s.r s.K s.P hS.hx hS.hR hi hk1) (rc_of M hS.hx rfl) (lw_V q559 q561 qs13 q97 q562) ndX0_rowOf dX0_wheel_33 (rmD (by omega) (by decide) rfl rfl) rfl (Nat.le_of_ble_eq_true rfl)) ?_
    refine j_aload_n M dX0_wheel_36 0 rfl ?_
    refine j_iload_n M dX0_wheel_37 2 rfl ?_
    refine j_aload_n M dX0_wheel_38 3 rfl ?_
    refine j_run (dv_turn M q780 hk1 ha1 (hdv) rfl dX0_wheel_39 (rmD (by omega) (by decide) rfl rfl) rfl (Nat.le_of_ble_eq_true rfl)) (fun r_39 hp_39 hq_39 => ?_)
    obtain ⟨rfl, hp1, g2, hC, hF, rfl, hok⟩ := hq_39
    refine j_aload_n M dX0_wheel_42 3 rfl ?_
    refine j_aret M dX0_wheel_43 (Or.inl ⟨_, rfl⟩) ⟨Nat.le_refl _, Nat.le_refl _⟩ ?_
    refine ⟨rfl, fun q q1 q2 => ?_, hC.turned hkk hok, g2, hh_gw, hh_gs n1.1, hok⟩
    have q3 := q2 _ hk88 (by omega) ⟨hd, lp, sm, d1, d3.1, by omega⟩
    rw [hh_n q3.1 q3.2, hF q q1 (fun k k1 k2 k3 => ?_), hup_n _ _ q3.1]
    refine q2 k k1 (by omega) ?_
    obtain ⟨a1, a2, a3, a4, a5, a6⟩ := k3
    rw [hup_n _ _ ((h.ww (show k < 89 by omega) hkk).2.2.2.1 (fun e => by rw [e] at k2; omega))] at a4
    exact ⟨a1, a2, a3, a4, a5, a6⟩
theorem c_wheel : ∀ (u : Nat) (i : Int), i.toNat = u → 0 ≤ i → i < s.N → WlOk l X s i := by
  intro u
  induction u using Nat.strongRecOn with
  | _ u ih => exact fun i hu h0 h1 => c_wheelAt l X s i ⟨h0, h1⟩ (fun j j0 j1 => ih j.toNat (by omega) j rfl j0 (by omega))
/-- the wheel of row i by m -/
theorem c_wh (hp : Hp) (V : Nat → Prop) (i m : Int) (hi : 0 ≤ i ∧ i < s.N) (hm : 2 ≤ m ∧ m ≤ 10) (h : CW X hp s V) (hV : ∀ k, V k) : Ct l X yX0_wheel cX0_wheel 4 (some (.object "AheadRows$Wheel")) (rD (4 + 2 * i.toNat)) [.ref s.x, .int (zI i), .int (zI m)] hp (WP X hp s V (kx m i)) := c_wheel l X s _ i rfl hi.1 hi.2 m hp V hm h (fun k _ => hV k)
end C11
