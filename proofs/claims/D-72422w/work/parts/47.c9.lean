/-! 47: the component: wheels: the world, what is kept -/
set_option maxRecDepth 100000
/-- the component: addresses, numbers, rows, what is kept -/
abbrev Co : Type := Nat × (Nat → Nat) × (Nat → Int) × Nat × Int × (Nat → Nat) × (Int → Int) × (Int → Int) × (Nat → Nat) × (Nat → Nat) × Nat × Int × (Nat → Nat) × (Int → Int) × (Int → Int) × (Int → Int) × (Int → Int) × (Int → Int)
abbrev Co.x (s : Co) : Nat := s.1
abbrev Co.ad (s : Co) : Nat → Nat := s.2.1
abbrev Co.v (s : Co) : Nat → Int := s.2.2.1
abbrev Co.el (s : Co) : Nat := s.2.2.2.1
abbrev Co.N (s : Co) : Int := s.2.2.2.2.1
abbrev Co.r (s : Co) : Nat → Nat := s.2.2.2.2.2.1
abbrev Co.K (s : Co) : Int → Int := s.2.2.2.2.2.2.1
abbrev Co.P (s : Co) : Int → Int := s.2.2.2.2.2.2.2.1
abbrev Co.wa (s : Co) : Nat → Nat := s.2.2.2.2.2.2.2.2.1
abbrev Co.sa (s : Co) : Nat → Nat := s.2.2.2.2.2.2.2.2.2.1
abbrev Co.ke (s : Co) : Nat := s.2.2.2.2.2.2.2.2.2.2.1
abbrev Co.kN (s : Co) : Int := s.2.2.2.2.2.2.2.2.2.2.2.1
abbrev Co.kr (s : Co) : Nat → Nat := s.2.2.2.2.2.2.2.2.2.2.2.2.1
abbrev Co.kK (s : Co) : Int → Int := s.2.2.2.2.2.2.2.2.2.2.2.2.2.1
abbrev Co.kP (s : Co) : Int → Int := s.2.2.2.2.2.2.2.2.2.2.2.2.2.2.1
abbrev Co.G (s : Co) : Int → Int := s.2.2.2.2.2.2.2.2.2.2.2.2.2.2.2.1
abbrev Co.kG (s : Co) : Int → Int := s.2.2.2.2.2.2.2.2.2.2.2.2.2.2.2.2.1
abbrev Co.B (s : Co) : Int → Int := s.2.2.2.2.2.2.2.2.2.2.2.2.2.2.2.2.2
/-- what wheel k tells -/
def Co.rs (s : Co) (k : Nat) : Int → Int := pRest ((k / 8 : Nat) : Int) s.K s.P ((k % 8 : Nat) : Int)
abbrev kx (m i : Int) : Nat := (8 * m + i).toNat
theorem Co.rs_kx (s : Co) {m i : Int} (hi : 0 ≤ i ∧ i < 8) (hm : 0 ≤ m) : s.rs (kx m i) = pRest m s.K s.P i := by
  unfold Co.rs kx
  rw [show (((8 * m + i).toNat / 8 : Nat) : Int) = m by omega, show (((8 * m + i).toNat % 8 : Nat) : Int) = i by omega]
/-- the wheel k: its cells, its stamp; if it is of now, and one of V, it tells the rests -/
def Wh1 (X : Cx) (hp : Hp) (s : Co) (V : Nat → Prop) (k : Nat) : Prop := ∃ (hd lp sm : Int) (g : Int → Int), hp (s.wa k) = some (eWh (s.sa k) hd lp sm) ∧ hp (s.sa k) = some (eI X 400 g) ∧ (0 ≤ sm ∧ sm ≤ s.v 3) ∧
  (V k → k < 88 → 2 ≤ k / 8 → ((k % 8 : Nat) : Int) < s.N → sm = s.v 3 → hd = pHead (s.rs k) ∧ lp = pLap (s.rs k) ∧ wOk g hd lp (s.rs k))
/-- it isn't of now -/
def Stale (hp : Hp) (s : Co) (k : Nat) : Prop := ∃ hd lp sm : Int, hp (s.wa k) = some (eWh (s.sa k) hd lp sm) ∧ 0 ≤ sm ∧ sm < s.v 3
/-- what may change: wheels of rows below j that aren't of now, and what is seen -/
def WFr (hp hp' : Hp) (s : Co) (j : Nat) : Prop := ∀ q, q ≠ s.ad 3 → (∀ k, k < 88 → k % 8 < j → Stale hp s k → q ≠ s.wa k ∧ q ≠ s.sa k) → hp' q = hp q
/-- the addresses are apart -/
def WAp (s : Co) : Prop := (∀ i j, i < 89 → j < 89 → s.wa i = s.wa j → i = j) ∧ ∀ i j, i < 89 → j < 89 → s.sa i = s.sa j → i = j
/-- the component's world, as rows and wheels need it -/
def CW (X : Cx) (hp : Hp) (s : Co) (V : Nat → Prop) : Prop := (hp s.x = some (eA s.ad s.v)) ∧ (RowsAt X hp (s.ad 1) s.el s.N s.r s.K s.P) ∧ (s.N ≤ 8) ∧ (rsOk s.K s.P s.N) ∧ (∃ gw, hp (s.ad 2) = some (eW X 88 gw) ∧ ∀ k, k < 88 → gw k = some (s.wa k)) ∧ (∃ g, hp (s.ad 3) = some (eI X 100 g)) ∧ (∀ k, k < 89 → Wh1 X hp s V k) ∧ (WAp s) ∧ (1 ≤ s.v 3 ∧ s.v 3 < 2147483648)
theorem CW.hx {X : Cx} {hp : Hp} {s : Co} {V : Nat → Prop} (h : CW X hp s V) : hp s.x = some (eA s.ad s.v) := h.1
theorem CW.hR {X : Cx} {hp : Hp} {s : Co} {V : Nat → Prop} (h : CW X hp s V) : RowsAt X hp (s.ad 1) s.el s.N s.r s.K s.P := h.2.1
theorem CW.hN {X : Cx} {hp : Hp} {s : Co} {V : Nat → Prop} (h : CW X hp s V) : s.N ≤ 8 := h.2.2.1
theorem CW.ok {X : Cx} {hp : Hp} {s : Co} {V : Nat → Prop} (h : CW X hp s V) : rsOk s.K s.P s.N := h.2.2.2.1
theorem CW.ws {X : Cx} {hp : Hp} {s : Co} {V : Nat → Prop} (h : CW X hp s V) : ∃ gw, hp (s.ad 2) = some (eW X 88 gw) ∧ ∀ k, k < 88 → gw k = some (s.wa k) := h.2.2.2.2.1
theorem CW.se {X : Cx} {hp : Hp} {s : Co} {V : Nat → Prop} (h : CW X hp s V) : ∃ g, hp (s.ad 3) = some (eI X 100 g) := h.2.2.2.2.2.1
theorem CW.wh {X : Cx} {hp : Hp} {s : Co} {V : Nat → Prop} (h : CW X hp s V) : ∀ k, k < 89 → Wh1 X hp s V k := h.2.2.2.2.2.2.1
theorem CW.ap {X : Cx} {hp : Hp} {s : Co} {V : Nat → Prop} (h : CW X hp s V) : WAp s := h.2.2.2.2.2.2.2.1
theorem CW.st {X : Cx} {hp : Hp} {s : Co} {V : Nat → Prop} (h : CW X hp s V) : 1 ≤ s.v 3 ∧ s.v 3 < 2147483648 := h.2.2.2.2.2.2.2.2
/-- the wheel k is of now -/
def WNow (X : Cx) (hp : Hp) (s : Co) (k : Nat) : Prop := ∃ g, hp (s.wa k) = some (eWh (s.sa k) (pHead (s.rs k)) (pLap (s.rs k)) (s.v 3)) ∧ hp (s.sa k) = some (eI X 400 g) ∧ wOk g (pHead (s.rs k)) (pLap (s.rs k)) (s.rs k)
theorem eWh_inj {sp sp' : Nat} {hd lp sm hd' lp' sm' : Int} (h : some (eWh sp hd lp sm) = some (eWh sp' hd' lp' sm')) : sp = sp' ∧ zI hd = zI hd' ∧ zI lp = zI lp' ∧ zI sm = zI sm' := by
  simp only [Option.some.injEq, Sum.inr.injEq, Prod.mk.injEq, List.cons.injEq, Value.ref.injEq, Value.int.injEq, and_true, true_and] at h
  exact h
/-- no wheel, no spokes, not what is seen -/
def NW (e : va_E) : Prop := match e with | .inl (_, n, .inl _) => n ≠ 400 ∧ n ≠ 100 | .inl _ => True | .inr (c, _) => c ≠ 1
theorem NW.wh {hp : Hp} {q w sp : Nat} {e : va_E} {hd lp sm : Int} (h : NW e) (h1 : hp q = some e) (h2 : hp w = some (eWh sp hd lp sm)) : q ≠ w := fun c => by
  rw [c, h2] at h1
  injection h1 with h3
  rw [← h3] at h
  exact h rfl
theorem NW.a4 {X : Cx} {hp : Hp} {q w : Nat} {e : va_E} {g : Int → Int} (h : NW e) (h1 : hp q = some e) (h2 : hp w = some (eI X 400 g)) : q ≠ w := fun c => by
  rw [c, h2] at h1
  injection h1 with h3
  rw [← h3] at h
  exact h.1 rfl
theorem NW.a1 {X : Cx} {hp : Hp} {q w : Nat} {e : va_E} {g : Int → Int} (h : NW e) (h1 : hp q = some e) (h2 : hp w = some (eI X 100 g)) : q ≠ w := fun c => by
  rw [c, h2] at h1
  injection h1 with h3
  rw [← h3] at h
  exact h.2 rfl
theorem NW.row (K P : Int → Int) (i : Int) : NW (rowE K P i) := by
  unfold rowE
  split
  · exact fun h => by cases h
  · split
    · exact fun h => by cases h
    · split
      · exact fun h => by cases h
      · split
        · exact fun h => by cases h
        · exact fun h => by cases h
section Keep
variable {X : Cx} {hp hp1 hp2 hp' : Hp} {s : Co} {V V' : Nat → Prop} {i j k : Nat}
theorem CW.cells (h : CW X hp s V) (hk : k < 89) : ∃ (hd lp sm : Int) (g : Int → Int), hp (s.wa k) = some (eWh (s.sa k) hd lp sm) ∧ hp (s.sa k) = some (eI X 400 g) := by
  obtain ⟨hd, lp, sm, g, h1, h2, _⟩ := h.wh k hk
  exact ⟨hd, lp, sm, g, h1, h2⟩
theorem CW.ww (h : CW X hp s V) (hi : i < 89) (hk : k < 89) : s.wa i ≠ s.sa k ∧ s.wa i ≠ s.ad 3 ∧ s.sa i ≠ s.ad 3 ∧ (i ≠ k → s.wa i ≠ s.wa k) ∧ (i ≠ k → s.sa i ≠ s.sa k) := by
  obtain ⟨_, _, _, _, a1, a2⟩ := h.cells hi
  obtain ⟨_, _, _, _, b1, b2⟩ := h.cells hk
  obtain ⟨g, c1⟩ := h.se
  exact ⟨ne_oa a1 b2, ne_oa a1 c1, ne_ln a2 c1 (by decide), fun e e2 => e (h.ap.1 i k hi hk e2), fun e e2 => e (h.ap.2 i k hi hk e2)⟩
theorem WFr.rf : WFr hp hp s j := fun _ _ _ => rfl
theorem WFr.up (h : WFr hp hp' s i) (hij : i ≤ j) : WFr hp hp' s j := fun q h1 h2 => h q h1 (fun k k1 k2 k3 => h2 k k1 (by omega) k3)
/-- a wheel that isn't stale, or is of a row that isn't below, is kept -/
theorem WFr.wheel (h : CW X hp s V) (hF : WFr hp hp' s j) (hk : k < 89) (hs : k < 88 → k % 8 < j → ¬ Stale hp s k) : hp' (s.wa k) = hp (s.wa k) ∧ hp' (s.sa k) = hp (s.sa k) := by
  refine ⟨hF _ (h.ww hk hk).2.1 fun i i1 i2 i3 => ?_, hF _ (h.ww hk hk).2.2.1 fun i i1 i2 i3 => ?_⟩
  · have hne : k ≠ i := fun e => by subst e; exact hs i1 i2 i3
    exact ⟨(h.ww hk (show i < 89 by omega)).2.2.2.1 hne, (h.ww hk (show i < 89 by omega)).1⟩
  · have hne : k ≠ i := fun e => by subst e; exact hs i1 i2 i3
    exact ⟨Ne.symm (h.ww (show i < 89 by omega) hk).1, (h.ww hk (show i < 89 by omega)).2.2.2.2 hne⟩
theorem WNow.fresh (h : CW X hp s V) (hn : WNow X hp s k) : ¬ Stale hp s k := by
  rintro ⟨hd, lp, sm, c1, c2, c3⟩
  obtain ⟨g, d1, d2, d3⟩ := hn
  have e4 := (eWh_inj (c1.symm.trans d1)).2.2.2
  have := h.st
  rw [zI_eq ⟨by omega, by omega⟩ ⟨by omega, by omega⟩] at e4
  omega
theorem WNow.keep (h : CW X hp s V) (hk : k < 89) (hn : WNow X hp s k) (hF : WFr hp hp' s j) : WNow X hp' s k := by
  obtain ⟨e1, e2⟩ := hF.wheel h hk (fun _ _ => hn.fresh h)
  obtain ⟨g, d1, d2, d3⟩ := hn
  exact ⟨g, by rw [e1]; exact d1, by rw [e2]; exact d2, d3⟩
theorem WFr.tr (h : CW X hp s V) (h1 : WFr hp hp1 s j) (h2 : WFr hp1 hp2 s j) : WFr hp hp2 s j := by
  intro q q1 q2
  rw [h2 q q1 (fun k k1 k2 k3 => ?_), h1 q q1 q2]
  refine q2 k k1 k2 (Classical.byContradiction fun c => c ?_)
  obtain ⟨hd, lp, sm, c1, c2, c3⟩ := k3
  rw [(h1.wheel h (show k < 89 by omega) (fun _ _ => c)).1] at c1
  exact ⟨hd, lp, sm, c1, c2, c3⟩
/-- another cell is kept -/
theorem WFr.other (h : CW X hp s V) (hF : WFr hp hp' s j) {q : Nat} {e : va_E} (hq : hp q = some e) (hn : NW e) : hp' q = some e := by
  rw [hF q ?_ fun k k1 k2 k3 => ?_, hq]
  · obtain ⟨g, c1⟩ := h.se
    exact hn.a1 hq c1
  · obtain ⟨_, _, _, _, a1, a2⟩ := h.cells (show k < 89 by omega)
    exact ⟨hn.wh hq a1, hn.a4 hq a2⟩
/-- one wheel is another one, or what is seen -/
theorem CW.upd (h : CW X hp s V) (hk : k < 89) (hf : ∀ q, q ≠ s.ad 3 → q ≠ s.wa k → q ≠ s.sa k → hp' q = hp q) (hse : ∃ g, hp' (s.ad 3) = some (eI X 100 g)) (h1 : Wh1 X hp' s V' k) (hV : ∀ i, i ≠ k → V' i → V i) : CW X hp' s V' := by
  obtain ⟨_, _, _, _, a1, a2⟩ := h.cells hk
  obtain ⟨g3, c1⟩ := h.se
  have ot : ∀ {q : Nat} {e : va_E}, hp q = some e → NW e → hp' q = some e := fun hq hn => by
    rw [hf _ (hn.a1 hq c1) (hn.wh hq a1) (hn.a4 hq a2), hq]
  refine ⟨ot h.hx (fun e => by cases e), ?_, h.hN, h.ok, ?_, hse, fun i hi => ?_, h.ap, h.st⟩
  · obtain ⟨⟨mc, b1, b2⟩, b3⟩ := h.hR
    refine ⟨⟨mc, ot b1 (fun e => by cases e), ?_⟩, fun k hk => ot (b3 k hk) (NW.row _ _ _)⟩
    rcases b2 with b2 | ⟨n0, n1, g, b4, b5⟩
    · exact Or.inl b2
    · exact Or.inr ⟨n0, n1, g, ot b4 trivial, b5⟩
  · obtain ⟨gw, w1, w2⟩ := h.ws
    exact ⟨gw, ot w1 trivial, w2⟩
  · by_cases e : i = k
    · rw [e]; exact h1
    · obtain ⟨hd, lp, sm, g, d1, d2, d3, d4⟩ := h.wh i hi
      have n1 := h.ww hi hk
      have n2 := h.ww hk hi
      refine ⟨hd, lp, sm, g, ?_, ?_, d3, fun v => d4 (hV i e v)⟩
      · rw [hf _ n1.2.1 (n1.2.2.2.1 e) n1.1]; exact d1
      · rw [hf _ n1.2.2.1 (Ne.symm n2.1) (n1.2.2.2.2 e)]; exact d2
theorem CW.sub (h : CW X hp s V) (hV : ∀ i, V' i → V i) : CW X hp s V' := ⟨h.hx, h.hR, h.hN, h.ok, h.ws, h.se, fun k hk => by
  obtain ⟨hd, lp, sm, g, d1, d2, d3, d4⟩ := h.wh k hk
  exact ⟨hd, lp, sm, g, d1, d2, d3, fun v => d4 (hV k v)⟩, h.ap, h.st⟩
end Keep
theorem rest_hl {K P : Int → Int} {N m i : Int} (h : rsOk K P N) (hm : 2 ≤ m ∧ m ≤ 10) (hi : 0 ≤ i ∧ i < N) : (0 ≤ pHead (pRest m K P i) ∧ pHead (pRest m K P i) ≤ 6) ∧ (0 < pLap (pRest m K P i) ∧ pLap (pRest m K P i) ≤ 336) ∧ pLap (pRest m K P i) ∣ pE m ∧ Per (pRest m K P i) (pHead (pRest m K P i)) (pLap (pRest m K P i)) := by
  have hE := pE_r m
  obtain ⟨hd, L, a1, a2, a3⟩ := rest_per h hm (i.toNat + 1) i hi.1 hi.2 (by omega)
  obtain ⟨⟨q1, q2, q3, q4, q5⟩, q6, q7⟩ := a3.least
  have d := Int.dvd_trans a3.divs a2
  have := dvd_le d hE.1
  exact ⟨by omega, by omega, d, q2, by omega, q3⟩
