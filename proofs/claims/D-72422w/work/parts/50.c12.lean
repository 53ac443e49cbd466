/-! 50: the component: all that it keeps -/
set_option maxRecDepth 100000
/-- more room does no harm -/
theorem Ct.lift {l : Launch} {X : Cx} {y : MethodName} {cc : ByteArray} {nL : Nat} {ret : Option FieldType} {rm rm' : Room} {avs : List Value} {hp : Hp} {post : Option Value → Hp → Prop} (h : Ct l X y cc nL ret rm avs hp post) (g1 : rm.frames ≤ rm'.frames) (g2 : rm.cells ≤ rm'.cells) (g3 : rm.slots ≤ rm'.slots) (g4 : rm.locals ≤ rm'.locals) : Ct l X y cc nL ret rm' avs hp post := by
  intro p e ha hc hk s m args below hf happ hP hK
  have happ2 : (headSpec (ws_ y cc nL ret) rm).appliesLoose y e.platform s = true := by
    obtain ⟨h1, h2, h3, h4, h5, h6, h7, h8⟩ := (Spec.appliesLoose_iff hf).mp happ
    refine (Spec.appliesLoose_iff hf).mpr ⟨h1, h2, h3, h4, h5, h6, ?_, h8⟩
    have e1 : (headSpec (ws_ y cc nL ret) rm).room = rm := rfl
    have e2 : (headSpec (ws_ y cc nL ret) rm').room = rm' := rfl
    rw [e2] at h7
    rw [e1]
    simp only [State.hasRoom, Bool.and_eq_true, decide_eq_true_eq] at h7 ⊢
    obtain ⟨⟨⟨⟨a1, b1, b2, b3, b4, b5⟩, a3⟩, a4⟩, a5⟩ := h7
    exact ⟨⟨⟨⟨by omega, by omega, by omega, by omega, by omega, b5⟩, by omega⟩, by omega⟩, a5⟩
  obtain ⟨n, o, i1, i2, i3, i4, L, i5, i6⟩ := h p e ha hc hk s m args below hf happ2 hP hK
  exact ⟨n, o, i1, i2, i3, i4, L, ⟨i5.1, i5.2.1, i5.2.2.mono g2 g3⟩, i6⟩
section Base
variable {Γ : Gm} {l : Launch} {X : Cx} {y : MethodName} {cc : ByteArray} {nL : Nat} {ret : Option FieldType} {rm : Room} {post : Option Value → Hp → Prop} {hp : Hp} {ce sl ce' sl' pc : Nat} {lv : List (Nat × Value)} {st : List Value}
theorem j_ce (h1 : ce ≤ ce') (h2 : sl ≤ sl') (k : J Γ hp ce' sl' pc lv st) : J Γ hp ce sl pc lv st := by
  obtain ⟨p, l', e, R, s, m, args, below, meth, c, X', nL', post'⟩ := Γ
  intro H locs ls hR hS hl T hT Z
  exact k H locs ls hR hS hl T hT ⟨Z.admits, Z.cas, Z.clock, Z.frames, Z.room, Z.hears, Z.method, Z.code, Z.here, Z.tail, Z.warmed, Z.limits, Z.bytes, Z.same.mono h1 h2⟩
/-- what is on the heap isn't the empty array of lists -/
theorem j_bas (M : Mok Γ l X y cc nL ret rm post) (k : (∀ a e, hp a = some e → a ≠ cxS X 2) → J Γ hp ce sl pc lv st) : J Γ hp ce sl pc lv st := by
  obtain ⟨p, l', e, R, s, m, args, below, meth, c, X', nL', post'⟩ := Γ
  obtain ⟨rfl, rfl, rfl, rfl, rfl, hx, hb, hml, hown, hts, hr, hlk, hG, hnm⟩ := M
  intro H locs ls hR hS hl
  obtain ⟨cell, h1, h2, h3, h4, h5, h6, h7⟩ := hG.2.2.2.2.2.2.2.1
  exact k (fun a e he w => h7 (by rw [← w]; exact (hR.2 a e he).1)) H locs ls hR hS hl
end Base
/-- what is kept safe: objects of class 2, arrays of numbers -/
def PrOk (Pr : Hp) : Prop := ∀ q e, Pr q = some e → (∃ fs, e = .inr (2, fs)) ∨ ∃ y n g, e = .inl (y, n, .inl g)
/-- numbers -/
def NbOk (c : Int) (s : Co) : Prop := (s.v 3 ≤ c + 1 ∧ c ≤ 1000) ∧ (0 ≤ s.v 4 ∧ s.v 4 ≤ c) ∧ (0 ≤ s.v 6 ∧ s.v 6 ≤ 47) ∧ (∀ k, 0 ≤ k → k < s.v 6 → 32 ≤ s.B k ∧ s.B k ≤ 126) ∧ (0 ≤ s.v 7 ∧ s.v 7 ≤ 8) ∧ (∀ k, 0 ≤ k → k < 8 → -99 ≤ s.G k ∧ s.G k ≤ 99) ∧ (0 ≤ s.v 13 ∧ s.v 13 ≤ 8) ∧ (∀ k, 0 ≤ k → k < 8 → -99 ≤ s.kG k ∧ s.kG k ≤ 99) ∧ r32 (s.v 12)
def CApt (X : Cx) (s : Co) : Prop := s.ad 1 ≠ s.ad 7 ∧ s.ad 5 ≠ s.ad 8 ∧ (s.el = s.ke → s.el = cxS X 2) ∧ (∀ i j : Nat, (i : Int) < s.N → (j : Int) < s.N → s.r i = s.r j → i = j) ∧ ∀ i j : Nat, (i : Int) < s.N → (j : Int) < s.kN → s.r i ≠ s.kr j
def CPr (Pr : Hp) (s : Co) (hp : Hp) : Prop := PrOk Pr ∧ (∀ q e, Pr q = some e → hp q = some e) ∧ Pr (s.ad 3) = none ∧ Pr (s.ad 4) = none ∧ Pr (s.ad 5) = none ∧ Pr (s.ad 8) = none ∧ ∀ k, k < 89 → Pr (s.sa k) = none
def CKp (X : Cx) (hp : Hp) (s : Co) : Prop := RowsAt X hp (s.ad 7) s.ke s.kN s.kr s.kK s.kP ∧ s.kN ≤ 8 ∧ rsOk s.kK s.kP s.kN
def CAr (X : Cx) (hp : Hp) (s : Co) : Prop := hp (s.ad 4) = some (eB X 47 s.B) ∧ hp (s.ad 5) = some (eI X 8 s.G) ∧ hp (s.ad 8) = some (eI X 8 s.kG) ∧ s.ad 6 = s.wa 88
/-- the component between calls -/
def CI (X : Cx) (Pr : Hp) (c : Int) (s : Co) (hp : Hp) : Prop := CW X hp s (fun _ => True) ∧ CKp X hp s ∧ CAr X hp s ∧ CApt X s ∧ CPr Pr s hp ∧ NbOk c s
section CIs
variable {X : Cx} {Pr : Hp} {c : Int} {s : Co} {hp hp' : Hp} {j : Nat}
theorem CI.cw (h : CI X Pr c s hp) : CW X hp s (fun _ => True) := h.1
theorem CI.kp (h : CI X Pr c s hp) : CKp X hp s := h.2.1
theorem CI.arr (h : CI X Pr c s hp) : CAr X hp s := h.2.2.1
theorem CI.apt (h : CI X Pr c s hp) : CApt X s := h.2.2.2.1
theorem CI.prt (h : CI X Pr c s hp) : CPr Pr s hp := h.2.2.2.2.1
theorem CI.nb (h : CI X Pr c s hp) : NbOk c s := h.2.2.2.2.2
theorem CI.n (h : CI X Pr c s hp) : 0 ≤ s.N ∧ s.N ≤ 8 := ⟨h.cw.hR.1.n.1, h.cw.hN⟩
theorem PrOk.wh (h : PrOk Pr) {q w sp : Nat} {e : va_E} {hd lp sm : Int} (hs : ∀ q e, Pr q = some e → hp q = some e) (he : Pr q = some e) (hw : hp w = some (eWh sp hd lp sm)) : q ≠ w := fun z => by
  rw [z] at he
  have h2 := hs _ _ he
  rw [hw] at h2
  rcases h _ _ he with ⟨fs, h3⟩ | ⟨y, n, g, h3⟩
  · rw [h3] at h2; injection h2 with h2; injection h2 with h2; injection h2 with h2; cases h2
  · rw [h3] at h2; cases h2
/-- other lists' and rows' cells are kept -/
theorem RowsAt.keep {L el : Nat} {n : Int} {r : Nat → Nat} {K P : Int → Int} (h : RowsAt X hp L el n r K P) (ot : ∀ {q : Nat} {e : va_E}, hp q = some e → NW e → hp' q = some e) : RowsAt X hp' L el n r K P := by
  obtain ⟨⟨mc, b1, b2⟩, b3⟩ := h
  refine ⟨⟨mc, ot b1 (fun e => by cases e), ?_⟩, fun k hk => ot (b3 k hk) (NW.row _ _ _)⟩
  rcases b2 with b2 | ⟨n0, n1, g, b4, b5⟩
  · exact Or.inl b2
  · exact Or.inr ⟨n0, n1, g, ot b4 trivial, b5⟩
theorem CI.wheels (h : CI X Pr c s hp) (hF : WFr hp hp' s j) (hC : CW X hp' s (fun _ => True)) : CI X Pr c s hp' := by
  have ot : ∀ {q : Nat} {e : va_E}, hp q = some e → NW e → hp' q = some e := fun hq hn => hF.other h.cw hq hn
  obtain ⟨a1, a2, a3, a4, a5, a6, a7⟩ := h.prt
  obtain ⟨b1, b2, b3, b4⟩ := h.arr
  refine ⟨hC, ⟨h.kp.1.keep ot, h.kp.2⟩, ⟨ot b1 ⟨by decide, by decide⟩, ot b2 ⟨by decide, by decide⟩, ot b3 ⟨by decide, by decide⟩, b4⟩, h.apt, ⟨a1, fun q e he => ?_, a3, a4, a5, a6, a7⟩, h.nb⟩
  have he2 := a2 q e he
  rw [hF q (fun z => by rw [z, a3] at he; cases he) (fun k k1 k2 k3 => ?_)]
  · exact he2
  · obtain ⟨_, _, _, _, c1, c2⟩ := h.cw.cells (show k < 89 by omega)
    exact ⟨a1.wh a2 he c1, fun z => by rw [z, a7 k (by omega)] at he; cases he⟩
/-- more cells do no harm -/
theorem CW.ext {V : Nat → Prop} (h : CW X hp s V) (hx : ∀ z e, hp z = some e → hp' z = some e) : CW X hp' s V := by
  refine ⟨hx _ _ h.hx, h.hR.keep (fun hq _ => hx _ _ hq), h.hN, h.ok, ?_, ?_, fun k hk => ?_, h.ap, h.st⟩
  · obtain ⟨gw, w1, w2⟩ := h.ws
    exact ⟨gw, hx _ _ w1, w2⟩
  · obtain ⟨g, w1⟩ := h.se
    exact ⟨g, hx _ _ w1⟩
  · obtain ⟨hd, lp, sm, g, d1, d2, d3⟩ := h.wh k hk
    exact ⟨hd, lp, sm, g, hx _ _ d1, hx _ _ d2, d3⟩
theorem CI.ext (h : CI X Pr c s hp) (hx : ∀ z e, hp z = some e → hp' z = some e) : CI X Pr c s hp' := by
  obtain ⟨a1, a2, a3⟩ := h.prt
  obtain ⟨b1, b2, b3, b4⟩ := h.arr
  exact ⟨h.cw.ext hx, ⟨h.kp.1.keep (fun hq _ => hx _ _ hq), h.kp.2⟩, ⟨hx _ _ b1, hx _ _ b2, hx _ _ b3, b4⟩, h.apt, ⟨a1, fun q e he => hx _ _ (a2 q e he), a3⟩, h.nb⟩
theorem hup_ext {q : Nat} {e : va_E} (hq : hp q = none) : ∀ z e', hp z = some e' → hup hp q e z = some e' := fun z e' he => by
  rw [hup_n _ _ (fun w => by rw [w, hq] at he; cases he)]; exact he
theorem CI.fresh (h : CI X Pr c s hp) {q : Nat} {e : va_E} (hq : hp q = none) : CI X Pr c s (hup hp q e) := h.ext (hup_ext hq)
end CIs
/-- the answer v, all is kept -/
def pA (X : Cx) (Pr : Hp) (c : Int) (s : Co) (v : Value) : Option Value → Hp → Prop := fun r hp => r = some v ∧ CI X Pr c s hp
section C12
variable (l : Launch) (X : Cx) (Pr : Hp) (c : Int) (s : Co) (hp : Hp)
theorem c_whC (i m : Int) (hi : 0 ≤ i ∧ i < s.N) (hm : 2 ≤ m ∧ m ≤ 10) (h : CI X Pr c s hp) : Ct l X yX0_wheel cX0_wheel 4 (some (.object "AheadRows$Wheel")) (rD 18) [.ref s.x, .int (zI i), .int (zI m)] hp (fun r hp' => r = some (.ref (s.wa (kx m i))) ∧ CI X Pr c s hp' ∧ WNow X hp' s (kx m i) ∧ WFr hp hp' s 8) := by
  have h8 := h.n
  refine ((c_wh l X s hp _ i m hi hm h.cw (fun _ => trivial)).room (show 4 + 2 * i.toNat ≤ 18 by omega)).mono (fun r hp' hq => ?_)
  obtain ⟨a1, a2, a3, a4⟩ := hq
  exact ⟨a1, h.wheels a2 a3, a4, a2.up (by omega)⟩
theorem c_isRow (i : Int) (hi : r32 i) (h : CI X Pr c s hp) : CS l X yX0_isRow cX0_isRow 2 (some .boolean) 1 [.ref s.x, .int (zI i)] hp (some (.int (zB (decide (0 ≤ i ∧ i ≤ s.N - 1))))) := by
  have h8 := h.n
  have hx := h.cw.hx
  obtain ⟨mc, h1, _⟩ := h.cw.hR.1
  refine Ct.of (by decide) (Nat.le_of_ble_eq_true rfl) (fun Γ M => ?_)
  refine j_lv (lv' := [(0, .ref s.x), (1, .int (zI i))]) rfl ?_
  refine j_iload_n M dX0_isRow_0 1 rfl ?_
  refine j_iconst M dX0_isRow_1 ?_
  refine j_aload_n M dX0_isRow_2 0 rfl ?_
  refine j_get M hx rfl 0 (by decide) in_X0 q197 rfl dX0_isRow_3 ?_
  refine j_rV (k_V M (c_size l X hp _ _ _ _ h1) (rc_of M h1 rfl) (lw_V q501 q361 q362 q100 q363) ndJ2_size dX0_isRow_6 ⟨by decide, by decide, by decide, by decide⟩ rfl (Nat.le_of_ble_eq_true rfl)) ?_
  refine j_iconst M dX0_isRow_9 ?_
  refine j_isub M dX0_isRow_10 ?_
  refine j_rV (k_S M (c_in l X hp _ _ _ (by omega)) (lw_S q250 q251 q97 q252) ndX0_in dX0_isRow_11 ⟨by decide, by decide, by decide, by decide⟩ rfl (Nat.le_of_ble_eq_true rfl)) ?_
  refine j_zret M dX0_isRow_14 ⟨Nat.le_refl _, Nat.le_refl _⟩ ?_
  exact ⟨rfl, rfl⟩
theorem c_rowOfC (i : Int) (hi : 0 ≤ i ∧ i < s.N) (h : CI X Pr c s hp) : CS l X yX0_rowOf cX0_rowOf 2 (some (.object "AheadRows$Row")) 3 [.ref s.x, .int (zI i)] hp (some (.ref (s.r i.toNat))) := c_rowOf l X hp s.x s.ad s.v s.el s.N i s.r s.K s.P h.cw.hx h.cw.hR hi (rOk_k (h.cw.ok i hi.1 hi.2))
theorem c_exC (i n : Int) (hi : 0 ≤ i ∧ i < s.N) (hn : 0 ≤ n ∧ n ≤ 290) (h : CI X Pr c s hp) : Dv_exact l X hp (s.r i.toNat) s.K i (rD 12) [.ref s.x, .int (zI n)] (pD (some (.long (zL (pTerm s.K s.P i n)))) hp) := by
  have h8 := h.n
  obtain ⟨a1, a2, a3, a4, a5⟩ := c_exact l X hp s.x s.ad s.v s.el s.N s.r s.K s.P h8.2 h.cw.ok h.cw.hx h.cw.hR _ i rfl hi.1 hi.2 n hn.1 (by omega)
  have hr : 4 + i.toNat ≤ 12 := by omega
  exact ⟨fun e => (a1 e).room hr, fun e => (a2 e).room hr, fun e => (a3 e).room hr, fun e => (a4 e).room hr, fun e => (a5 e).room hr⟩
theorem CI.row {X : Cx} {Pr : Hp} {c : Int} {s : Co} {hp : Hp} (h : CI X Pr c s hp) {i : Int} (hi : 0 ≤ i ∧ i < s.N) : hp (s.r i.toNat) = some (rowE s.K s.P i) := by
  have := h.cw.hR.2 i.toNat (by omega)
  rw [Int.toNat_of_nonneg hi.1] at this
  exact this
theorem c_nuC (i w : Int) (hi : 0 ≤ i ∧ i < s.N) (hw : 0 ≤ w ∧ w ≤ 4) (h : CI X Pr c s hp) : Dv_number l X hp (s.r i.toNat) s.K i (rD 2) [.int (zI w)] (pD (some (.int (zI (if w = 0 then s.K i else s.P (4 * i + w - 1))))) hp) := by
  have ho := h.cw.ok i hi.1 hi.2
  have ha := h.row hi
  have hP : ∀ k, 4 * i + (k + 1) - 1 = 4 * i + k := fun k => by omega
  refine ⟨fun e => ?_, fun e => ?_, fun e => ?_, fun e => ?_, fun e => ?_⟩
  · rw [rowE0 e] at ha
    have := c_numberX5 l X hp (s.r i.toNat) _ _ _ _ w (by omega) ha
    rcases (show w = 0 ∨ w = 0 + 1 ∨ w = 1 + 1 ∨ w = 2 + 1 ∨ w = 3 + 1 by omega) with q | q | q | q | q <;> subst q
    · rw [if_pos rfl, e]; exact this
    all_goals rw [hP, if_neg (by decide)]; simpa using this
  · rw [rowE1 e] at ha
    have := c_numberX7 l X hp (s.r i.toNat) _ _ w (by omega) ha
    unfold rOk at ho
    rcases (show w = 0 ∨ w = 0 + 1 ∨ w = 1 + 1 ∨ w = 2 + 1 ∨ w = 3 + 1 by omega) with q | q | q | q | q <;> subst q
    · rw [if_pos rfl, e]; exact this
    · rw [hP, if_neg (by decide)]; simpa using this
    · rw [hP, if_neg (by decide)]; simpa using this
    · rw [hP, if_neg (by decide), show s.P (4 * i + 2) = 2000000001 by omega]; exact this
    · rw [hP, if_neg (by decide), show s.P (4 * i + 3) = 2000000001 by omega]; exact this
  · rw [rowE2 e] at ha
    have := c_numberX8 l X hp (s.r i.toNat) _ _ w (by omega) ha
    unfold rOk at ho
    rcases (show w = 0 ∨ w = 0 + 1 ∨ w = 1 + 1 ∨ w = 2 + 1 ∨ w = 3 + 1 by omega) with q | q | q | q | q <;> subst q
    · rw [if_pos rfl, e]; exact this
    · rw [hP, if_neg (by decide)]; simpa using this
    · rw [hP, if_neg (by decide)]; simpa using this
    · rw [hP, if_neg (by decide), show s.P (4 * i + 2) = 2000000001 by omega]; exact this
    · rw [hP, if_neg (by decide), show s.P (4 * i + 3) = 2000000001 by omega]; exact this
  · rw [rowE3 e] at ha
    have := c_numberX10 l X hp (s.r i.toNat) _ _ _ w (by omega) ha
    unfold rOk at ho
    rcases (show w = 0 ∨ w = 0 + 1 ∨ w = 1 + 1 ∨ w = 2 + 1 ∨ w = 3 + 1 by omega) with q | q | q | q | q <;> subst q
    · rw [if_pos rfl, e]; exact this
    · rw [hP, if_neg (by decide)]; simpa using this
    · rw [hP, if_neg (by decide)]; simpa using this
    · rw [hP, if_neg (by decide)]; simpa using this
    · rw [hP, if_neg (by decide), show s.P (4 * i + 3) = 2000000001 by omega]; exact this
  · rw [rowE4 e] at ha
    have := c_numberX11 l X hp (s.r i.toNat) _ w (by omega) ha
    unfold rOk at ho
    rcases (show w = 0 ∨ w = 0 + 1 ∨ w = 1 + 1 ∨ w = 2 + 1 ∨ w = 3 + 1 by omega) with q | q | q | q | q <;> subst q
    · rw [if_pos rfl, e]; exact this
    · rw [hP, if_neg (by decide)]; simpa using this
    · rw [hP, if_neg (by decide), show s.P (4 * i + 1) = 2000000001 by omega]; exact this
    · rw [hP, if_neg (by decide), show s.P (4 * i + 2) = 2000000001 by omega]; exact this
    · rw [hP, if_neg (by decide), show s.P (4 * i + 3) = 2000000001 by omega]; exact this
theorem c_row (i w : Int) (hi : r32 i) (hw : r32 w) (h : CI X Pr c s hp) : Ct l X yX0_row cX0_row 3 (some .int) (rD 4) [.ref s.x, .int (zI i), .int (zI w)] hp (pA X Pr c s (.int (zI (vRow s.N s.K s.P i w)))) := by
  have h8 := h.n
  have hx := h.cw.hx
  refine Ct.of (by decide) (Nat.le_of_ble_eq_true rfl) (fun Γ M => ?_)
  refine j_lv (lv' := [(0, .ref s.x), (1, .int (zI i)), (2, .int (zI w))]) rfl ?_
  refine j_aload_n M dX0_row_0 0 rfl ?_
  refine j_iload_n M dX0_row_1 1 rfl ?_
  refine j_rV (k_V M (c_isRow l X Pr c s hp i hi h) (rc_of M hx rfl) (lw_V q554 q556 qs12 q97 q557) ndX0_isRow dX0_row_2 (rmD (by omega) (by decide) rfl rfl) rfl (Nat.le_of_ble_eq_true rfl)) ?_
  refine j_ifneB M 11 dX0_row_5 (by decide) (fun c_5 => ?_) (fun c_5 => ?_)
  · rw [decide_eq_true_eq] at c_5
    refine j_iload_n M dX0_row_11 2 rfl ?_
    refine j_iconst M dX0_row_12 ?_
    refine j_iconst M dX0_row_13 ?_
    refine j_rV (k_S M (c_in l X hp _ _ _ (by omega)) (lw_S q250 q251 q97 q252) ndX0_in dX0_row_14 (rmD (by omega) (by decide) rfl rfl) rfl (Nat.le_of_ble_eq_true rfl)) ?_
    refine j_ifeqB M 32 dX0_row_17 (by decide) (fun c_17 => ?_) (fun c_17 => ?_)
    · rw [decide_eq_false_iff_not] at c_17
      refine j_ldc M (2000000102) q253 (by decide) dX0_row_32 ?_
      refine j_iret M dX0_row_34 ⟨Nat.le_refl _, Nat.le_refl _⟩ ?_
      exact ⟨by unfold vRow; rw [if_pos c_5, if_neg c_17], h⟩
    · rw [decide_eq_true_eq] at c_17
      refine j_aload_n M dX0_row_20 0 rfl ?_
      refine j_iload_n M dX0_row_21 1 rfl ?_
      refine j_rV (k_V M (c_rowOfC l X Pr c s hp i (by omega) h) (rc_of M hx rfl) (lw_V q559 q561 qs13 q97 q562) ndX0_rowOf dX0_row_22 (rmD (by omega) (by decide) rfl rfl) rfl (Nat.le_of_ble_eq_true rfl)) ?_
      refine j_iload_n M dX0_row_25 2 rfl ?_
      refine j_rV (dv_number M q563 (rOk_k (h.cw.ok i (by omega) (by omega))) (h.row (i := i) (by omega)) (c_nuC l X Pr c s hp i w (by omega) c_17 h) rfl dX0_row_26 (rmD (by omega) (by decide) rfl rfl) rfl (Nat.le_of_ble_eq_true rfl)) ?_
      refine j_goto M 34 dX0_row_29 (by decide) ?_
      refine j_iret M dX0_row_34 ⟨Nat.le_refl _, Nat.le_refl _⟩ ?_
      exact ⟨by unfold vRow; rw [if_pos c_5, if_pos c_17], h⟩
  · rw [decide_eq_false_iff_not] at c_5
    refine j_ldc M (2000000101) q558 (by decide) dX0_row_8 ?_
    refine j_iret M dX0_row_10 ⟨Nat.le_refl _, Nat.le_refl _⟩ ?_
    exact ⟨by unfold vRow; rw [if_neg c_5], h⟩
theorem c_term (i n : Int) (hi : r32 i) (hn : r32 n) (h : CI X Pr c s hp) : Ct l X yX0_term cX0_term 3 (some .int) (rD 13) [.ref s.x, .int (zI i), .int (zI n)] hp (pA X Pr c s (.int (zI (vTerm s.N s.K s.P i n)))) := by
  have h8 := h.n
  have hx := h.cw.hx
  refine Ct.of (by decide) (Nat.le_of_ble_eq_true rfl) (fun Γ M => ?_)
  refine j_lv (lv' := [(0, .ref s.x), (1, .int (zI i)), (2, .int (zI n))]) rfl ?_
  refine j_aload_n M dX0_term_0 0 rfl ?_
  refine j_iload_n M dX0_term_1 1 rfl ?_
  refine j_rV (k_V M (c_isRow l X Pr c s hp i hi h) (rc_of M hx rfl) (lw_V q554 q556 qs12 q97 q557) ndX0_isRow dX0_term_2 (rmD (by omega) (by decide) rfl rfl) rfl (Nat.le_of_ble_eq_true rfl)) ?_
  refine j_ifneB M 11 dX0_term_5 (by decide) (fun c_5 => ?_) (fun c_5 => ?_)
  · rw [decide_eq_true_eq] at c_5
    refine j_iload_n M dX0_term_11 2 rfl ?_
    refine j_iconst M dX0_term_12 ?_
    refine j_sipush M dX0_term_13 (by decide) ?_
    refine j_rV (k_S M (c_in l X hp _ _ _ (by omega)) (lw_S q250 q251 q97 q252) ndX0_in dX0_term_16 (rmD (by omega) (by decide) rfl rfl) rfl (Nat.le_of_ble_eq_true rfl)) ?_
    refine j_ifeqB M 36 dX0_term_19 (by decide) (fun c_19 => ?_) (fun c_19 => ?_)
    · rw [decide_eq_false_iff_not] at c_19
      refine j_ldc M (2000000102) q253 (by decide) dX0_term_36 ?_
      refine j_iret M dX0_term_38 ⟨Nat.le_refl _, Nat.le_refl _⟩ ?_
      exact ⟨by unfold vTerm; rw [if_pos c_5, if_neg c_19], h⟩
    · rw [decide_eq_true_eq] at c_19
      refine j_aload_n M dX0_term_22 0 rfl ?_
      refine j_iload_n M dX0_term_23 1 rfl ?_
      refine j_rV (k_V M (c_rowOfC l X Pr c s hp i (by omega) h) (rc_of M hx rfl) (lw_V q559 q561 qs13 q97 q562) ndX0_rowOf dX0_term_24 (rmD (by omega) (by decide) rfl rfl) rfl (Nat.le_of_ble_eq_true rfl)) ?_
      refine j_aload_n M dX0_term_27 0 rfl ?_
      refine j_iload_n M dX0_term_28 2 rfl ?_
      refine j_rV (dv_exact M q710 (rOk_k (h.cw.ok i (by omega) (by omega))) (h.row (i := i) (by omega)) (c_exC l X Pr c s hp i n (by omega) (by omega) h) rfl dX0_term_29 (rmD (by omega) (by decide) rfl rfl) rfl (Nat.le_of_ble_eq_true rfl)) ?_
      refine j_l2i M dX0_term_32 ?_
      refine j_goto M 38 dX0_term_33 (by decide) ?_
      refine j_iret M dX0_term_38 ⟨Nat.le_refl _, Nat.le_refl _⟩ ?_
      exact ⟨by unfold vTerm; rw [if_pos c_5, if_pos c_19], h⟩
  · rw [decide_eq_false_iff_not] at c_5
    refine j_ldc M (2000000101) q558 (by decide) dX0_term_8 ?_
    refine j_iret M dX0_term_10 ⟨Nat.le_refl _, Nat.le_refl _⟩ ?_
    exact ⟨by unfold vTerm; rw [if_neg c_5], h⟩
end C12
