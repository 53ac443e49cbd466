/-! 47: the component: wheels: the world, what is kept -/
set_option maxRecDepth 100000
/-- the wheel k: its cells, its stamp; if it is of now, and of a row below b, it tells the rests -/
def Wh1 (X : Cx) (hp : Hp) (wa sa : Nat → Nat) (K P : Int → Int) (st : Int) (b k : Nat) : Prop := ∃ (hd lp sm : Int) (g : Int → Int), hp (wa k) = some (eWh (sa k) hd lp sm) ∧ hp (sa k) = some (eI X 400 g) ∧ (0 ≤ sm ∧ sm ≤ st) ∧
  (k < 88 → k % 8 < b → 2 ≤ k / 8 → sm = st → hd = pHead (pRest ((k / 8 : Nat) : Int) K P ((k % 8 : Nat) : Int)) ∧ lp = pLap (pRest ((k / 8 : Nat) : Int) K P ((k % 8 : Nat) : Int)) ∧ wOk g hd lp (pRest ((k / 8 : Nat) : Int) K P ((k % 8 : Nat) : Int)))
def Wh (X : Cx) (hp : Hp) (wa sa : Nat → Nat) (K P : Int → Int) (st : Int) (b : Nat) : Prop := ∀ k, k < 89 → Wh1 X hp wa sa K P st b k
/-- it isn't of now -/
def Stale (hp : Hp) (wa sa : Nat → Nat) (st : Int) (k : Nat) : Prop := ∃ hd lp sm : Int, hp (wa k) = some (eWh (sa k) hd lp sm) ∧ 0 ≤ sm ∧ sm < st
/-- what may change: wheels of rows up to j that aren't of now, and what is seen -/
def WFr (hp hp' : Hp) (wa sa : Nat → Nat) (se : Nat) (st : Int) (j : Nat) : Prop := ∀ q, q ≠ se → (∀ k, k < 88 → k % 8 ≤ j → Stale hp wa sa st k → q ≠ wa k ∧ q ≠ sa k) → hp' q = hp q
/-- the addresses are apart -/
def WAp (wa sa : Nat → Nat) : Prop := (∀ i j, i < 89 → j < 89 → wa i = wa j → i = j) ∧ ∀ i j, i < 89 → j < 89 → sa i = sa j → i = j
theorem eWh_inj {sp sp' : Nat} {hd lp sm hd' lp' sm' : Int} (h : some (eWh sp hd lp sm) = some (eWh sp' hd' lp' sm')) : sp = sp' ∧ zI hd = zI hd' ∧ zI lp = zI lp' ∧ zI sm = zI sm' := by
  simp only [Option.some.injEq, Sum.inr.injEq, Prod.mk.injEq, List.cons.injEq, Value.ref.injEq, Value.int.injEq, and_true, true_and] at h
  exact h
theorem WFr.rf {hp : Hp} {wa sa : Nat → Nat} {se : Nat} {st : Int} {j : Nat} : WFr hp hp wa sa se st j := fun _ _ _ => rfl
theorem WFr.up {hp hp' : Hp} {wa sa : Nat → Nat} {se : Nat} {st : Int} {i j : Nat} (h : WFr hp hp' wa sa se st i) (hij : i ≤ j) : WFr hp hp' wa sa se st j := fun q h1 h2 => h q h1 (fun k k1 k2 k3 => h2 k k1 (by omega) k3)
theorem WFr.tr {X : Cx} {hp hp1 hp2 : Hp} {wa sa : Nat → Nat} {K P : Int → Int} {se : Nat} {st : Int} {b j : Nat} (hap : WAp wa sa) (hst : st < 2147483648) (hse : ∃ g, hp se = some (eI X 100 g)) (hW : Wh X hp wa sa K P st b) (h1 : WFr hp hp1 wa sa se st j) (h2 : WFr hp1 hp2 wa sa se st j) : WFr hp hp2 wa sa se st j := by
  intro q q1 q2
  obtain ⟨gs, hse⟩ := hse
  rw [h2 q q1 (fun k k1 k2 k3 => ?_), h1 q q1 q2]
  refine q2 k k1 k2 ?_
  obtain ⟨hd, lp, sm, g, c1, c2, c3, -⟩ := hW k (by omega)
  rcases (show sm < st ∨ sm = st by omega) with e | e
  · exact ⟨hd, lp, sm, c1, c3.1, e⟩
  · exfalso
    have e1 : hp1 (wa k) = hp (wa k) := h1 (wa k) (ne_oa c1 hse) (fun i i1 i2 i3 => by
      obtain ⟨hd', lp', sm', d1, d2, d3⟩ := i3
      refine ⟨fun e2 => ?_, ?_⟩
      · have := hap.1 k i (by omega) (by omega) e2
        subst this
        have e4 := (eWh_inj (c1.symm.trans d1)).2.2.2
        rw [zI_eq ⟨by omega, by omega⟩ ⟨by omega, by omega⟩] at e4
        omega
      · obtain ⟨_, _, _, g2, _, c22, _, _⟩ := hW i (by omega)
        exact ne_oa c1 c22)
    obtain ⟨hd', lp', sm', d1, d2, d3⟩ := k3
    rw [e1, c1] at d1
    have e4 := (eWh_inj d1).2.2.2
    rw [zI_eq ⟨by omega, by omega⟩ ⟨by omega, by omega⟩] at e4
    omega
