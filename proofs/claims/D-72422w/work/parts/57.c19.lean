/-! 57: the component: put, drop, letters, what is given -/
set_option maxRecDepth 100000
def tg (e : va_E) : Nat × Nat := match e with | .inl (_, n, _) => (0, n) | .inr (c, _) => (1, c)
theorem ne_tg {hp : Hp} {a b : Nat} {e1 e2 : va_E} (h1 : hp a = some e1) (h2 : hp b = some e2) (h : tg e1 ≠ tg e2) : a ≠ b := fun w => by
  rw [w, h2] at h1; injection h1 with h3; exact h (by rw [h3])
theorem tg_row (K P : Int → Int) (i : Int) : tg (rowE K P i) ≠ (1, 0) ∧ tg (rowE K P i) ≠ (1, 4) ∧ ∀ n, tg (rowE K P i) ≠ (0, n) := by
  obtain ⟨ci, fs, e, n0, n4, _, _⟩ := rowE_c K P i
  rw [e]
  exact ⟨fun w => n0 (congrArg Prod.snd w), fun w => n4 (congrArg Prod.snd w), fun n w => by cases congrArg Prod.fst w⟩
section N19
variable {X : Cx} {Pr : Hp} {c c' : Int} {s s' : Co} {hp hp' : Hp}
theorem RowsAt.sub {L el : Nat} {n : Int} {r : Nat → Nat} {K P : Int → Int} (h : RowsAt X hp L el n r K P) (h1 : ∀ e, hp L = some e → hp' L = some e) (h2 : ∀ g, hp el = some (eO X 10 g) → hp' el = some (eO X 10 g)) (h3 : ∀ k : Nat, (k : Int) < n → hp' (r k) = hp (r k)) : RowsAt X hp' L el n r K P := by
  obtain ⟨⟨mc, b1, b2⟩, b3⟩ := h
  refine ⟨⟨mc, h1 _ b1, ?_⟩, fun k hk => (h3 k hk).trans (b3 k hk)⟩
  rcases b2 with b2 | ⟨n0, n1, g, b4, b5⟩
  · exact Or.inl b2
  · exact Or.inr ⟨n0, n1, g, h2 g b4, b5⟩
/-- a number of a row that is told -/
theorem CI.putd (h : CI X Pr c s hp) (hc : c < 1000) {i w v : Int} (hi : 0 ≤ i ∧ i < s.N) (hw : 0 ≤ w ∧ w ≤ 3) (hk : s.K i = 0) (hv : if w < 2 then -9 ≤ v ∧ v ≤ 9 else -999 ≤ v ∧ v ≤ 999) : ∃ s', CI X Pr (c + 1) s' (hup (hup hp (s.r i.toNat) (eX5 (if w = 0 then v else s.P (4 * i)) (if w = 1 then v else s.P (4 * i + 1)) (if w = 2 then v else s.P (4 * i + 2)) (if w = 3 then v else s.P (4 * i + 3)))) s.x (eA s.ad (upN s.v 3 (s.v 3 + 1)))) ∧ cIs s s' s.N s.K (upA s.P (4 * i + w) v) := by
  have hr0 := h.row hi
  have hr := hr0
  rw [rowE0 hk] at hr
  obtain ⟨mc, b1, b2⟩ := id h.cw.hR.1
  obtain ⟨mk, k1, k2⟩ := id h.kp.1.1
  obtain ⟨d1, d2, d3, d4, d5⟩ := h.apt
  have hx := h.cw.hx
  obtain ⟨n1, n2, n3⟩ := h.nb
  have st := h.cw.st
  have h8 := h.n
  have nxr := ne_tg hx hr (by show ((1 : Nat), (0 : Nat)) ≠ (1, 5); decide)
  generalize eC : eX5 (if w = 0 then v else s.P (4 * i)) (if w = 1 then v else s.P (4 * i + 1)) (if w = 2 then v else s.P (4 * i + 2)) (if w = 3 then v else s.P (4 * i + 3)) = C
  have ot : ∀ {z e}, hp z = some e → tg e ≠ (1, 5) → tg e ≠ (1, 0) → hup (hup hp (s.r i.toNat) C) s.x (eA s.ad (upN s.v 3 (s.v 3 + 1))) z = some e := fun {z e} he t1 t2 => by
    rw [hup_n _ _ (ne_tg he hx t2), hup_n _ _ (ne_tg he hr t1)]; exact he
  have sf : ∀ z e, hp z = some e → Sf e → hup (hup hp (s.r i.toNat) C) s.x (eA s.ad (upN s.v 3 (s.v 3 + 1))) z = some e := fun z e he hs => by
    refine ot he (fun w => ?_) (fun w => ?_)
    · rcases e with ⟨y, n, g⟩ | ⟨ci, fs⟩
      · cases congrArg Prod.fst w
      · have := congrArg Prod.snd w; rcases hs with q | q <;> (rw [q] at this; cases this)
    · rcases e with ⟨y, n, g⟩ | ⟨ci, fs⟩
      · cases congrArg Prod.fst w
      · have := congrArg Prod.snd w; rcases hs with q | q <;> (rw [q] at this; cases this)
  have rk : ∀ {a : Nat} {K P : Int → Int} {j : Int}, hp a = some (rowE K P j) → a ≠ s.r i.toNat → hup (hup hp (s.r i.toNat) C) s.x (eA s.ad (upN s.v 3 (s.v 3 + 1))) a = hp a := fun {a K P j} ha hne => by
    rw [hup_n _ _ (ne_tg ha hx (tg_row K P j).1), hup_n _ _ hne]
  obtain ⟨g3, w3⟩ := h.cw.se
  refine ⟨s.rw (upN s.v 3 (s.v 3 + 1)) s.el s.N s.r s.K (upA s.P (4 * i + w) v), h.next rfl rfl rfl rfl sf ⟨g3, sf _ _ w3 trivial⟩ (hup_s _ _ _) ?_ h8.2 ?_ ?_ ⟨?_, h.kp.2⟩ (h.arr.keep sf rfl rfl rfl rfl rfl) h.apt ?_, Eq.refl _, Eq.refl _, Eq.refl _, Eq.refl _, Eq.refl _, Eq.refl _, Eq.refl _, Eq.refl _, Eq.refl _, Eq.refl _, Eq.refl _, Eq.refl _, Eq.refl _, Eq.refl _, Eq.refl _⟩
  · refine ⟨⟨mc, ot b1 (by show ((1 : Nat), (4 : Nat)) ≠ (1, 5); decide) (by show ((1 : Nat), (4 : Nat)) ≠ (1, 0); decide), ?_⟩, fun k hk2 => ?_⟩
    · rcases b2 with b2 | ⟨n0, n1, g, b4, b5⟩
      · exact Or.inl b2
      · exact Or.inr ⟨n0, n1, g, ot b4 (by show ((0 : Nat), (10 : Nat)) ≠ (1, 5); decide) (by show ((0 : Nat), (10 : Nat)) ≠ (1, 0); decide), b5⟩
    · by_cases e : k = i.toNat
      · rw [e, hup_n _ _ (Ne.symm nxr), hup_s, Int.toNat_of_nonneg hi.1]
        show some C = some (rowE s.K (upA s.P (4 * i + w) v) i)
        have hz : ∀ j, upA s.P (4 * i + w) v (4 * i + j) = if w = j then v else s.P (4 * i + j) := fun j => by
          by_cases q : w = j
          · rw [if_pos q, q, upA_s]
          · rw [if_neg q, upA_n _ _ (by omega)]
        have h0 := hz 0
        rw [Int.add_zero] at h0
        rw [rowE0 hk, ← eC, h0, hz, hz, hz]
      · have hz := h.cw.hR.2 k hk2
        rw [rk hz (fun w => e (d4 _ _ hk2 (by omega) w))]
        rw [hz]
        show some (rowE s.K s.P k) = some (rowE s.K (upA s.P (4 * i + w) v) k)
        rw [rowE_congr (K' := s.K) (P' := upA s.P (4 * i + w) v) rfl (fun j j0 j1 => upA_n _ _ (by omega))]
  · intro j j0 j1
    show rOk s.K (upA s.P (4 * i + w) v) j
    by_cases e : j = i
    · subst e
      have ht := rOk_told (h.cw.ok j hi.1 hi.2) hk
      left
      refine ⟨hk, ?_⟩
      rcases (show w = 0 ∨ w = 1 ∨ w = 2 ∨ w = 3 by omega) with q | q | q | q <;> subst q <;> simp [upA] at hv ⊢ <;> omega
    · exact rOk_congr (h.cw.ok j j0 j1) rfl (upA_n _ _ (by omega)) (upA_n _ _ (by omega)) (upA_n _ _ (by omega)) (upA_n _ _ (by omega))
  · show s.v 3 < upN s.v 3 (s.v 3 + 1) 3
    rw [upN_s]; omega
  · refine h.kp.1.sub (fun e he => ?_) (fun g hg => ot hg (by show ((0 : Nat), (10 : Nat)) ≠ (1, 5); decide) (by show ((0 : Nat), (10 : Nat)) ≠ (1, 0); decide)) (fun k hk2 => rk (h.kp.1.2 k hk2) (fun w => d5 i.toNat k (by omega) hk2 w.symm))
    rw [k1] at he; injection he with he; subst he
    exact ot k1 (by show ((1 : Nat), (4 : Nat)) ≠ (1, 5); decide) (by show ((1 : Nat), (4 : Nat)) ≠ (1, 0); decide)
  · refine ⟨?_, ?_, n3⟩
    · show upN s.v 3 (s.v 3 + 1) 3 ≤ c + 1 + 1 ∧ c + 1 ≤ 1000
      rw [upN_s]; omega
    · show 0 ≤ s.v 4 ∧ s.v 4 ≤ c + 1
      omega
abbrev Co.nm (s : Co) (v : Nat → Int) (G B : Int → Int) : Co := (s.x, s.ad, v, s.el, s.N, s.r, s.K, s.P, s.wa, s.sa, s.ke, s.kN, s.kr, s.kK, s.kP, G, s.kG, B)
/-- numbers, letters, what is given -/
theorem CI.nums (h : CI X Pr c s hp) {v' : Nat → Int} {G' B' : Int → Int} (hk : ∀ z e, hp z = some e → z ≠ s.ad 4 → z ≠ s.ad 5 → z ≠ s.x → hp' z = some e) (hx' : hp' s.x = some (eA s.ad v')) (h4 : hp' (s.ad 4) = some (eB X 47 B')) (h5 : hp' (s.ad 5) = some (eI X 8 G')) (hv : v' 3 = s.v 3) (nb : NbOk c' (s.nm v' G' B')) : CI X Pr c' (s.nm v' G' B') hp' := by
  obtain ⟨a1, a2, a3, a4⟩ := h.arr
  obtain ⟨d1, d2, d3, d4, d5⟩ := h.apt
  obtain ⟨p1, p2, p3, p4, p5, p6, p7⟩ := h.prt
  have hx := h.cw.hx
  have st := h.cw.st
  have ot : ∀ {z e}, hp z = some e → tg e ≠ (0, 47) → tg e ≠ (0, 8) → tg e ≠ (1, 0) → hp' z = some e := fun {z e} he t1 t2 t3 => hk z e he (ne_tg he a1 t1) (ne_tg he a2 t2) (ne_tg he hx t3)
  have orow : ∀ {z : Nat} {K P : Int → Int} {j : Int}, hp z = some (rowE K P j) → hp' z = some (rowE K P j) := fun {z K P j} he => ot he ((tg_row K P j).2.2 47) ((tg_row K P j).2.2 8) (tg_row K P j).1
  have olist : ∀ {z el : Nat} {mc n : Int}, hp z = some (eL mc el n) → hp' z = some (eL mc el n) := fun {z el mc n} he => ot he (by show ((1 : Nat), (4 : Nat)) ≠ (0, 47); decide) (by show ((1 : Nat), (4 : Nat)) ≠ (0, 8); decide) (by show ((1 : Nat), (4 : Nat)) ≠ (1, 0); decide)
  have oarr : ∀ {z : Nat} {g : Nat → Option Nat}, hp z = some (eO X 10 g) → hp' z = some (eO X 10 g) := fun {z g} he => ot he (by show ((0 : Nat), (10 : Nat)) ≠ (0, 47); decide) (by show ((0 : Nat), (10 : Nat)) ≠ (0, 8); decide) (by show ((0 : Nat), (10 : Nat)) ≠ (1, 0); decide)
  have oR : ∀ {L el : Nat} {n : Int} {r : Nat → Nat} {K P : Int → Int}, RowsAt X hp L el n r K P → RowsAt X hp' L el n r K P := fun {L el n r K P} hR => by
    obtain ⟨⟨mc, b1, b2⟩, b3⟩ := hR
    refine ⟨⟨mc, olist b1, ?_⟩, fun k hk2 => orow (b3 k hk2)⟩
    rcases b2 with b2 | ⟨n0, n1, g, b4, b5⟩
    · exact Or.inl b2
    · exact Or.inr ⟨n0, n1, g, oarr b4, b5⟩
  refine ⟨⟨hx', oR h.cw.hR, h.cw.hN, h.cw.ok, ?_, ?_, fun k hk2 => ?_, h.cw.ap, by show 1 ≤ v' 3 ∧ v' 3 < 2147483648; rw [hv]; exact st⟩, ⟨oR h.kp.1, h.kp.2⟩, ⟨h4, h5, ?_, a4⟩, h.apt, ⟨p1, fun q e he => ?_, p3, p4, p5, p6, p7⟩, nb⟩
  · obtain ⟨gw, w1, w2⟩ := h.cw.ws
    exact ⟨gw, ot w1 (by show ((0 : Nat), (88 : Nat)) ≠ (0, 47); decide) (by show ((0 : Nat), (88 : Nat)) ≠ (0, 8); decide) (by show ((0 : Nat), (88 : Nat)) ≠ (1, 0); decide), w2⟩
  · obtain ⟨g, w1⟩ := h.cw.se
    exact ⟨g, ot w1 (by show ((0 : Nat), (100 : Nat)) ≠ (0, 47); decide) (by show ((0 : Nat), (100 : Nat)) ≠ (0, 8); decide) (by show ((0 : Nat), (100 : Nat)) ≠ (1, 0); decide)⟩
  · obtain ⟨hd, lp, sm, g, e1, e2, e3, e4⟩ := h.cw.wh k hk2
    refine ⟨hd, lp, sm, g, ot e1 (by show ((1 : Nat), (1 : Nat)) ≠ (0, 47); decide) (by show ((1 : Nat), (1 : Nat)) ≠ (0, 8); decide) (by show ((1 : Nat), (1 : Nat)) ≠ (1, 0); decide), ot e2 (by show ((0 : Nat), (400 : Nat)) ≠ (0, 47); decide) (by show ((0 : Nat), (400 : Nat)) ≠ (0, 8); decide) (by show ((0 : Nat), (400 : Nat)) ≠ (1, 0); decide), ?_, ?_⟩
    · show 0 ≤ sm ∧ sm ≤ v' 3
      rw [hv]; exact e3
    · show True → k < 88 → 2 ≤ k / 8 → ((k % 8 : Nat) : Int) < s.N → sm = v' 3 → _
      rw [hv]; exact e4
  · exact hk _ _ a3 (ne_tg a3 a1 (by show ((0 : Nat), (8 : Nat)) ≠ (0, 47); decide)) (Ne.symm d2) (ne_tg a3 hx (by show ((0 : Nat), (8 : Nat)) ≠ (1, 0); decide))
  · refine hk q e (p2 q e he) (fun w => ?_) (fun w => ?_) (ne_tg (p2 q e he) hx ?_)
    · rw [w, p4] at he; cases he
    · rw [w, p5] at he; cases he
    · rcases p1 q e he with ⟨fs, w⟩ | ⟨y, n, g, w⟩ <;> rw [w]
      · show ((1 : Nat), (2 : Nat)) ≠ (1, 0); decide
      · exact fun w => by cases congrArg Prod.fst w
end N19
