/-! 55: the component: rows come -/
set_option maxRecDepth 100000
/-- cells that lists and rows never are -/
def Sf (e : va_E) : Prop := match e with | .inl (_, _, .inl _) => True | .inl (_, n, _) => n ≠ 10 | .inr (c, _) => c = 1 ∨ c = 2
/-- all is kept but the list, its array, the object -/
def ButX (X : Cx) (hp hp' : Hp) (L el x : Nat) : Prop := ∀ z e, hp z = some e → z ≠ L → (z ≠ el ∨ ∀ g, e ≠ eO X 10 g) → z ≠ x → hp' z = some e
/-- rows are others: n', K', P'; all else is the same -/
def cIs (s s' : Co) (n' : Int) (K' P' : Int → Int) : Prop := s'.x = s.x ∧ s'.N = n' ∧ s'.K = K' ∧ s'.P = P' ∧ s'.v 4 = s.v 4 ∧ s'.v 6 = s.v 6 ∧ s'.v 7 = s.v 7 ∧ s'.v 12 = s.v 12 ∧ s'.v 13 = s.v 13 ∧ s'.kN = s.kN ∧ s'.kK = s.kK ∧ s'.kP = s.kP ∧ s'.G = s.G ∧ s'.kG = s.kG ∧ s'.B = s.B
theorem cIs.rfl {s : Co} : cIs s s s.N s.K s.P := ⟨Eq.refl _, Eq.refl _, Eq.refl _, Eq.refl _, Eq.refl _, Eq.refl _, Eq.refl _, Eq.refl _, Eq.refl _, Eq.refl _, Eq.refl _, Eq.refl _, Eq.refl _, Eq.refl _, Eq.refl _⟩
def pWc (X : Cx) (Pr : Hp) (c : Int) (s : Co) (v : Value) (n' : Int) (K' P' : Int → Int) : Option Value → Hp → Prop := fun r hp => r = some v ∧ ∃ s', CI X Pr c s' hp ∧ cIs s s' n' K' P'
abbrev Co.rw (s : Co) (v : Nat → Int) (el : Nat) (N : Int) (r : Nat → Nat) (K P : Int → Int) : Co := (s.x, s.ad, v, el, N, r, K, P, s.wa, s.sa, s.ke, s.kN, s.kr, s.kK, s.kP, s.G, s.kG, s.B)
theorem rowE_c (K P : Int → Int) (i : Int) : ∃ ci fs, rowE K P i = .inr (ci, fs) ∧ ci ≠ 0 ∧ ci ≠ 4 ∧ ci ≠ 1 ∧ ci ≠ 2 := by
  unfold rowE; split; exact ⟨_, _, rfl, by decide⟩; split; exact ⟨_, _, rfl, by decide⟩; split; exact ⟨_, _, rfl, by decide⟩; split; exact ⟨_, _, rfl, by decide⟩; exact ⟨_, _, rfl, by decide⟩
theorem ne_cc {hp : Hp} {a b c d : Nat} {f g : List Value} (h1 : hp a = some (.inr (c, f))) (h2 : hp b = some (.inr (d, g))) (h : c ≠ d) : a ≠ b := fun e => by
  rw [e, h2] at h1
  injection h1 with h3
  injection h3 with h4
  injection h4 with h5
  exact h h5.symm
section N17
variable {X : Cx} {Pr : Hp} {c c' : Int} {s s' : Co} {hp hp' : Hp}
theorem CI.up (h : CI X Pr c s hp) (hc : c ≤ c' ∧ c' ≤ 1000) : CI X Pr c' s hp := by
  obtain ⟨h1, h2, h3, h4, h5, a1, a2, a3⟩ := h
  exact ⟨h1, h2, h3, h4, h5, by omega, by omega, a3⟩
theorem CI.next (h : CI X Pr c s hp) (e1 : s'.x = s.x) (e2 : s'.ad = s.ad) (e3 : s'.wa = s.wa) (e4 : s'.sa = s.sa) (hk : ∀ z e, hp z = some e → Sf e → hp' z = some e) (hse : ∃ g, hp' (s.ad 3) = some (eI X 100 g)) (hx : hp' s.x = some (eA s.ad s'.v)) (hR : RowsAt X hp' (s.ad 1) s'.el s'.N s'.r s'.K s'.P) (hN : s'.N ≤ 8) (ok : rsOk s'.K s'.P s'.N) (hst : s.v 3 < s'.v 3) (hK : CKp X hp' s') (hA : CAr X hp' s') (hap : CApt X s') (nb : NbOk c' s') : CI X Pr c' s' hp' := by
  have st := h.cw.st
  refine ⟨⟨by rw [e1, e2]; exact hx, by rw [e2]; exact hR, hN, ok, ?_, by rw [e2]; exact hse, fun k hk2 => ?_, by unfold WAp; rw [e3, e4]; exact h.cw.ap, by have := nb.1; omega⟩, hK, hA, hap, ?_, nb⟩
  · obtain ⟨gw, w1, w2⟩ := h.cw.ws
    exact ⟨gw, by rw [e2]; exact hk _ _ w1 (show (88 : Nat) ≠ 10 by decide), by rw [e3]; exact w2⟩
  · obtain ⟨hd, lp, sm, g, d1, d2, d3, d4⟩ := h.cw.wh k hk2
    exact ⟨hd, lp, sm, g, by rw [e3, e4]; exact hk _ _ d1 (Or.inl rfl), by rw [e4]; exact hk _ _ d2 trivial, by omega, fun _ _ _ _ q => by omega⟩
  · obtain ⟨a1, a2, a3⟩ := h.prt
    refine ⟨a1, fun q e he => hk _ _ (a2 q e he) ?_, by rw [e2, e4]; exact a3⟩
    rcases a1 q e he with ⟨fs, w⟩ | ⟨y, n, g, w⟩ <;> rw [w]
    · exact Or.inr rfl
    · trivial
theorem ButX.sf {L el x n : Nat} {mc m : Int} {fs : List Value} (hB : ButX X hp hp' L el x) (hL : hp L = some (eL mc n m)) (hx : hp x = some (.inr (0, fs))) : ∀ z e, hp z = some e → Sf e → hp' z = some e := by
  intro z e he hs
  refine hB z e he (fun w => ?_) (Or.inr (fun g w => ?_)) (fun w => ?_)
  · rw [w, hL] at he; injection he with he; rw [← he] at hs; rcases hs with q | q <;> cases q
  · rw [w] at hs; exact absurd rfl (show (10 : Nat) ≠ 10 from hs)
  · rw [w, hx] at he; injection he with he; rw [← he] at hs; rcases hs with q | q <;> cases q
theorem ButX.row {L el x n z : Nat} {mc m i : Int} {fs : List Value} {K P : Int → Int} (hB : ButX X hp hp' L el x) (hL : hp L = some (eL mc n m)) (hx : hp x = some (.inr (0, fs))) (hz : hp z = some (rowE K P i)) : hp' z = some (rowE K P i) := by
  obtain ⟨ci, gs, e, n0, n4, _, _⟩ := rowE_c K P i
  refine hB z _ hz ?_ (Or.inr (fun g w => by rw [e] at w; cases w)) ?_
  · rw [e] at hz; exact ne_cc hz hL n4
  · rw [e] at hz; exact ne_cc hz hx n0
theorem ButX.rows {L el x n L' el' : Nat} {mc m n' : Int} {fs : List Value} {r : Nat → Nat} {K P : Int → Int} (hB : ButX X hp hp' L el x) (hL : hp L = some (eL mc n m)) (hx : hp x = some (.inr (0, fs))) (hb : ∀ a e, hp a = some e → a ≠ cxS X 2) (hne : L' ≠ L) (hel : el = el' → el = cxS X 2) (hR : RowsAt X hp L' el' n' r K P) : RowsAt X hp' L' el' n' r K P := by
  obtain ⟨⟨mc', b1, b2⟩, b3⟩ := hR
  refine ⟨⟨mc', hB _ _ b1 hne (Or.inr (fun g w => by cases w)) (ne_cc b1 hx (by decide)), ?_⟩, fun k hk => hB.row hL hx (b3 k hk)⟩
  rcases b2 with b2 | ⟨n0, n1, g, b4, b5⟩
  · exact Or.inl b2
  · exact Or.inr ⟨n0, n1, g, hB _ _ b4 (Ne.symm (ne_oa hL b4)) (Or.inl (fun w => hb _ _ b4 (by rw [w]; exact hel w.symm))) (Ne.symm (ne_oa hx b4)), b5⟩
theorem CAr.keep (h : CAr X hp s) (hk : ∀ z e, hp z = some e → Sf e → hp' z = some e) (e2 : s'.ad = s.ad) (e3 : s'.wa = s.wa) (eG : s'.G = s.G) (ek : s'.kG = s.kG) (eB : s'.B = s.B) : CAr X hp' s' := by
  obtain ⟨a1, a2, a3, a4⟩ := h
  unfold CAr
  rw [e2, e3, eG, ek, eB]
  exact ⟨hk _ _ a1 trivial, hk _ _ a2 trivial, hk _ _ a3 trivial, a4⟩
/-- the rows are others -/
theorem CI.rows (h : CI X Pr c s hp) (hc : c < 1000) (hb : ∀ a e, hp a = some e → a ≠ cxS X 2) (hB : ButX X hp hp' (s.ad 1) s.el s.x) (hx : hp' s.x = some (eA s.ad (upN s.v 3 (s.v 3 + 1)))) {el' : Nat} {N' : Int} {r' : Nat → Nat} {K' P' : Int → Int} (hR : RowsAt X hp' (s.ad 1) el' N' r' K' P') (hN : N' ≤ 8) (ok : rsOk K' P' N') (hel : el' = s.ke → el' = cxS X 2) (hi : ∀ i j : Nat, (i : Int) < N' → (j : Int) < N' → r' i = r' j → i = j) (hk : ∀ i j : Nat, (i : Int) < N' → (j : Int) < s.kN → r' i ≠ s.kr j) : ∃ s', CI X Pr (c + 1) s' hp' ∧ cIs s s' N' K' P' := by
  obtain ⟨mc, b1, b2⟩ := h.cw.hR.1
  have sf := hB.sf b1 h.cw.hx
  obtain ⟨d1, d2, d3, d4, d5⟩ := h.apt
  obtain ⟨g3, w3⟩ := h.cw.se
  have n0 := h.nb
  have st := h.cw.st
  refine ⟨s.rw (upN s.v 3 (s.v 3 + 1)) el' N' r' K' P', h.next rfl rfl rfl rfl sf ⟨g3, sf _ _ w3 trivial⟩ hx hR hN ok ?_ ⟨?_, h.kp.2⟩ (h.arr.keep sf rfl rfl rfl rfl rfl) ⟨d1, d2, hel, hi, hk⟩ ?_, Eq.refl _, Eq.refl _, Eq.refl _, Eq.refl _, Eq.refl _, Eq.refl _, Eq.refl _, Eq.refl _, Eq.refl _, Eq.refl _, Eq.refl _, Eq.refl _, Eq.refl _, Eq.refl _, Eq.refl _⟩
  · show s.v 3 < upN s.v 3 (s.v 3 + 1) 3
    rw [upN_s]; omega
  · exact hB.rows b1 h.cw.hx hb (Ne.symm d1) d3 h.kp.1
  · obtain ⟨n1, n2, n3⟩ := n0
    refine ⟨?_, ?_, n3⟩
    · show upN s.v 3 (s.v 3 + 1) 3 ≤ c + 1 + 1 ∧ c + 1 ≤ 1000
      rw [upN_s]; omega
    · show 0 ≤ s.v 4 ∧ s.v 4 ≤ c + 1
      omega
theorem ButL.x {L el x : Nat} {e : va_E} (h : ButL X hp hp' L el) : ButX X hp (hup hp' x e) L el x := fun z e' he z1 z2 z3 => by
  rw [hup_n _ _ z3]; exact h z e' he z1 z2
end N17
section C17
variable (l : Launch) (X : Cx) (Pr : Hp) (c : Int) (s : Co) (hp : Hp)
theorem c_changed (x : Nat) (ad : Nat → Nat) (v : Nat → Int) (hx : hp x = some (eA ad v)) : Ct l X yX0_changed cX0_changed 1 none (rD 0) [.ref x] hp (pD none (hup hp x (eA ad (upN v 3 (v 3 + 1))))) := by
  refine Ct.of (by decide) (Nat.le_of_ble_eq_true rfl) (fun Γ M => ?_)
  refine j_lv (lv' := [(0, .ref x)]) rfl ?_
  refine j_aload_n M dX0_changed_0 0 rfl ?_
  refine j_dup M dX0_changed_1 rfl ?_
  refine j_get M hx rfl 3 (by decide) in_X0 q201 rfl dX0_changed_2 ?_
  refine j_iconst M dX0_changed_5 ?_
  refine j_iadd M dX0_changed_6 ?_
  refine j_put M hx rfl 3 (by decide) in_X0 tyX0 tyX0_ok nmX0 q201 rfl rfl rfl (Nat.le_of_ble_eq_true rfl) dX0_changed_7 ?_
  refine j_vret M dX0_changed_10 ⟨Nat.le_refl _, Nat.le_refl _⟩ ?_
  exact ⟨rfl, rfl⟩
theorem c_addR (L el q : Nat) (n i : Int) (r : Nat → Nat) (K P : Int → Int) (h : LsA X hp L el n r) (hn8 : n < 10) (hk : 0 ≤ K i ∧ K i ≤ 4) (hq : hp q = some (rowE K P i)) : Ct l X yJ2_add cJ2_add 2 (some .boolean) (rC 4 1 10) [.ref L, .ref q] hp (fun v hp' => v = some (.int (zB true)) ∧ pAdd X hp L el n r q hp') := by
  obtain ⟨mc, h1, _⟩ := id h
  have hne : q ≠ L := by
    obtain ⟨ci, gs, e, _, n4, _, _⟩ := rowE_c K P i
    rw [e] at hq; exact ne_cc hq h1 n4
  rcases k5 hk with e | e | e | e | e
  · rw [rowE0 e] at hq; exact c_add l X hp L el q 5 _ _ _ _ n r h hn8 hq hne rfl q1808
  · rw [rowE1 e] at hq; exact c_add l X hp L el q 7 _ _ _ _ n r h hn8 hq hne rfl q1809
  · rw [rowE2 e] at hq; exact c_add l X hp L el q 8 _ _ _ _ n r h hn8 hq hne rfl q1810
  · rw [rowE3 e] at hq; exact c_add l X hp L el q 9 _ _ _ _ n r h hn8 hq hne rfl q1811
  · rw [rowE4 e] at hq; exact c_add l X hp L el q 10 _ _ _ _ n r h hn8 hq hne rfl q1812
theorem rowE_congr {K P K' P' : Int → Int} {i : Int} (hk : K' i = K i) (h : ∀ j, 0 ≤ j → j < 4 → P' (4 * i + j) = P (4 * i + j)) : rowE K' P' i = rowE K P i := by
  have h0 := h 0 (by decide) (by decide)
  rw [Int.add_zero] at h0
  unfold rowE
  rw [hk, h0, h 1 (by decide) (by decide), h 2 (by decide) (by decide), h 3 (by decide) (by decide)]
theorem c_comes (q : Nat) (k a b d e : Int) (hc : c < 1000) (h : CI X Pr c s hp) (hq : hp q = some (rowE (upA s.K s.N k) (pSet4 s.P s.N a b d e) s.N)) (hr : s.N < 8 → rOk (upA s.K s.N k) (pSet4 s.P s.N a b d e) s.N) (h1 : ∀ i : Nat, (i : Int) < s.N → s.r i ≠ q) (h2 : ∀ i : Nat, (i : Int) < s.kN → s.kr i ≠ q) : Ct l X yX0_comes cX0_comes 2 (some .int) (rC 5 1 10) [.ref s.x, .ref q] hp (pWc X Pr (c + 1) s (.int (zI (vComes s.N))) (nComes s.N) (kComes s.N s.K k) (qComes s.N s.P a b d e)) := by
  have h8 := h.n
  have hx := h.cw.hx
  have hR := h.cw.hR
  obtain ⟨mc, L1, L2⟩ := id hR.1
  refine Ct.of (by decide) (Nat.le_of_ble_eq_true rfl) (fun Γ M => ?_)
  refine j_lv (lv' := [(0, .ref s.x), (1, .ref q)]) rfl ?_
  refine j_bas M (fun hbas => ?_)
  refine j_aload_n M dX0_comes_0 0 rfl ?_
  refine j_get M hx rfl 0 (by decide) in_X0 q197 rfl dX0_comes_1 ?_
  refine j_rV (k_V M (c_size l X hp _ _ _ _ L1) (rc_of M L1 rfl) (lw_V q501 q361 q362 q100 q363) ndJ2_size dX0_comes_4 ⟨by decide, by decide, by decide, by decide⟩ rfl (Nat.le_of_ble_eq_true rfl)) ?_
  refine j_bipush M dX0_comes_7 (by decide) ?_
  refine j_icmp_ne M 15 dX0_comes_9 (by decide) (by omega) (fun c_9 => ?_) (fun c_9 => ?_)
  · refine j_aload_n M dX0_comes_15 0 rfl ?_
    refine j_get M hx rfl 0 (by decide) in_X0 q197 rfl dX0_comes_16 ?_
    refine j_aload_n M dX0_comes_19 1 rfl ?_
    refine j_run (k_V M (c_addR l X hp _ _ q s.N s.N s.r _ _ hR.1 (by omega) (rOk_k (hr (by omega))) hq) (rc_of M L1 rfl) (lw_V q545 q429 q430 q100 q431) ndJ2_add dX0_comes_20 ⟨by decide, by decide, by decide, by decide⟩ rfl (Nat.le_of_ble_eq_true rfl)) (fun r_20 hp_20 hq_20 => ?_)
    obtain ⟨rfl, hA⟩ := hq_20
    have hBL := hA.but
    obtain ⟨el', A1, A2, A3⟩ := hA
    have nxL := ne_cc hx L1 (by decide)
    have hx1 : hp_20 s.x = some (eA s.ad s.v) := hBL _ _ hx nxL (Or.inr (fun g w => by cases w))
    obtain ⟨mc2, M1, M2⟩ := id A1
    refine j_bas M (fun hbas2 => ?_)
    refine j_pop M dX0_comes_23 rfl ?_
    refine j_aload_n M dX0_comes_24 0 rfl ?_
    refine j_rN (k_V M (c_changed l X _ s.x s.ad s.v hx1) (rc_of M hx1 rfl) (lw_V q546 q548 qs11 q97 q549) ndX0_changed dX0_comes_25 ⟨by decide, by decide, by decide, by decide⟩ rfl (Nat.le_of_ble_eq_true rfl)) ?_
    refine j_aload_n M dX0_comes_28 0 rfl ?_
    refine j_get M (hup_s _ _ _) rfl 0 (by decide) in_X0 q197 rfl dX0_comes_29 ?_
    refine j_rV (k_V M (c_size l X _ _ _ mc2 (s.N + 1) (show hup hp_20 s.x (eA s.ad (upN s.v 3 (s.v 3 + 1))) (s.ad 1) = some (eL mc2 el' (s.N + 1)) by rw [hup_n _ _ (Ne.symm nxL)]; exact M1)) (rc_of M (show hup hp_20 s.x (eA s.ad (upN s.v 3 (s.v 3 + 1))) (s.ad 1) = some (eL mc2 el' (s.N + 1)) by rw [hup_n _ _ (Ne.symm nxL)]; exact M1) rfl) (lw_V q501 q361 q362 q100 q363) ndJ2_size dX0_comes_32 ⟨by decide, by decide, by decide, by decide⟩ rfl (Nat.le_of_ble_eq_true rfl)) ?_
    refine j_iconst M dX0_comes_35 ?_
    refine j_isub M dX0_comes_36 ?_
    refine j_iret M dX0_comes_37 ⟨by decide, by decide⟩ ?_
    refine ⟨by unfold vComes; rw [if_neg (by omega), show s.N + 1 - 1 = s.N by omega], ?_⟩
    unfold nComes kComes qComes
    rw [if_neg (by omega), if_neg (by omega), if_neg (by omega)]
    have hk8 : ∀ j : Int, j < s.N → rowE (upA s.K s.N k) (pSet4 s.P s.N a b d e) j = rowE s.K s.P j := fun j hj => rowE_congr (upA_n _ _ (by omega)) (fun z z0 z1 => pSet4_n _ _ _ _ _ _ _ (by omega))
    refine h.rows hc hbas (ButL.x hBL) (hup_s _ _ _) (el' := el') (r' := upN s.r s.N.toNat q) ⟨⟨mc2, by rw [hup_n _ _ (Ne.symm nxL)]; exact M1, ?_⟩, fun j hj => ?_⟩ (by omega) ?_ ?_ ?_ ?_
    · rcases M2 with w | ⟨n0, n1, g, w1, w2⟩
      · exact Or.inl w
      · exact Or.inr ⟨n0, n1, g, by rw [hup_n _ _ (Ne.symm (ne_oa hx1 w1))]; exact w1, w2⟩
    · have hz : hup hp_20 s.x (eA s.ad (upN s.v 3 (s.v 3 + 1))) (upN s.r s.N.toNat q j) = hp (upN s.r s.N.toNat q j) ∧ hp (upN s.r s.N.toNat q j) = some (rowE (upA s.K s.N k) (pSet4 s.P s.N a b d e) j) := by
        by_cases ej : j = s.N.toNat
        · rw [ej, upN_s, Int.toNat_of_nonneg h8.1]
          exact ⟨(ButL.x hBL).row L1 hx hq |>.trans hq.symm, hq⟩
        · rw [upN_n _ _ ej]
          have hz := hR.2 j (by omega)
          rw [hk8 j (by omega)]
          exact ⟨(ButL.x hBL).row L1 hx hz |>.trans hz.symm, hz⟩
      exact hz.1.trans hz.2
    · intro j j0 j1
      by_cases ej : j = s.N
      · rw [ej]; exact hr (by omega)
      · exact rOk_congr (h.cw.ok j j0 (by omega)) (upA_n _ _ ej) (pSet4_n _ _ _ _ _ _ _ (by omega)) (pSet4_n _ _ _ _ _ _ _ (by omega)) (pSet4_n _ _ _ _ _ _ _ (by omega)) (pSet4_n _ _ _ _ _ _ _ (by omega))
    · intro w
      rcases A2 with ⟨w1, g, w2⟩ | w1
      · rw [w1]; exact h.apt.2.2.1 (by rw [← w1]; exact w)
      · obtain ⟨mk, k1, k2⟩ := id h.kp.1.1
        rcases k2 with k2 | ⟨_, _, g, k3, _⟩
        · rw [w]; exact k2.1
        · rw [w, k3] at w1; cases w1
    · intro i j hi hj hij
      by_cases ei : i = s.N.toNat
      · by_cases ej : j = s.N.toNat
        · omega
        · rw [ei, upN_s, upN_n _ _ ej] at hij; exact absurd hij.symm (h1 j (by omega))
      · by_cases ej : j = s.N.toNat
        · rw [ej, upN_s, upN_n _ _ ei] at hij; exact absurd hij (h1 i (by omega))
        · rw [upN_n _ _ ei, upN_n _ _ ej] at hij; exact h.apt.2.2.2.1 i j (by omega) (by omega) hij
    · intro i j hi hj
      by_cases ei : i = s.N.toNat
      · rw [ei, upN_s]; exact Ne.symm (h2 j hj)
      · rw [upN_n _ _ ei]; exact h.apt.2.2.2.2 i j (by omega) hj
  · refine j_ldc M (2000000104) q254 (by decide) dX0_comes_12 ?_
    refine j_iret M dX0_comes_14 ⟨by decide, by decide⟩ ?_
    refine ⟨?_, s, h.up (by omega), ?_⟩
    · unfold vComes; rw [if_pos (by omega)]
    · unfold nComes kComes qComes; rw [if_pos (by omega), if_pos (by omega), if_pos (by omega)]; exact cIs.rfl
end C17
