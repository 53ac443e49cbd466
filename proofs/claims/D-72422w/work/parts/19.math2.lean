/-! 19: rests of rows; laps -/
set_option maxRecDepth 100000
/-- the rests n and n + 1 of a row that is told -/
def pTr (m c d e f : Int) : Nat → Int × Int
  | 0 => (e % m, f % m)
  | n + 1 => ((pTr m c d e f n).2, (c * (pTr m c d e f n).2 + d * (pTr m c d e f n).1) % m)
def pRs (m : Int) (K P : Int → Int) : Nat → Int → Int → Int
  | 0, _, _ => 0
  | d + 1, i, n => if K i = 0 then (pTr m (P (4 * i)) (P (4 * i + 1)) (P (4 * i + 2)) (P (4 * i + 3)) n.toNat).1
    else if K i = 1 then (pRs m K P d (P (4 * i)) n + pRs m K P d (P (4 * i + 1)) n) % m
    else if K i = 2 then (pRs m K P d (P (4 * i)) n * pRs m K P d (P (4 * i + 1)) n) % m
    else if K i = 3 then pRs m K P d (P (4 * i)) (P (4 * i + 1) * n + P (4 * i + 2))
    else (pRs m K P d (P (4 * i)) (n + 1) - pRs m K P d (P (4 * i)) n) % m
theorem pRs_fuel {m : Int} {K P : Int → Int} {N : Int} (h : rsOk K P N) : ∀ (d e : Nat) (i n : Int), 0 ≤ i → i < N → i < d → i < e → pRs m K P d i n = pRs m K P e i n := by
  intro d
  induction d with
  | zero => intro e i n h0 _ h1; omega
  | succ d ih =>
    intro e i n h0 hN h1 h2
    cases e with
    | zero => omega
    | succ e =>
      have hr := h i h0 hN
      unfold pRs
      by_cases e0 : K i = 0
      · simp only [e0, if_true]
      · have hp := rOk_part hr e0
        rw [if_neg e0, if_neg e0]
        rw [ih e _ (P (4 * i + 1) * n + P (4 * i + 2)) hp.1 (by omega) (by omega) (by omega)]
        rw [ih e _ n hp.1 (by omega) (by omega) (by omega)]
        rw [ih e _ (n + 1) hp.1 (by omega) (by omega) (by omega)]
        by_cases e12 : K i = 1 ∨ K i = 2
        · have hp2 := rOk_part2 hr e12
          rw [ih e _ n hp2.1 (by omega) (by omega) (by omega)]
        · have a1 : ¬ K i = 1 := fun q => e12 (Or.inl q)
          have a2 : ¬ K i = 2 := fun q => e12 (Or.inr q)
          rw [if_neg a1, if_neg a1, if_neg a2, if_neg a2]
/-- the rest n of the row i -/
def pRest (m : Int) (K P : Int → Int) (i n : Int) : Int := pRs m K P (i.toNat + 1) i n
theorem pRest_d {m : Int} {K P : Int → Int} {N : Int} (h : rsOk K P N) {i n : Int} (h0 : 0 ≤ i) (hN : i < N) {d : Nat} (hd : i < d) : pRs m K P d i n = pRest m K P i n := pRs_fuel h _ _ _ _ h0 hN hd (by omega)
theorem pRest_told {m : Int} {K P : Int → Int} {i n : Int} (hk : K i = 0) : pRest m K P i n = (pTr m (P (4 * i)) (P (4 * i + 1)) (P (4 * i + 2)) (P (4 * i + 3)) n.toNat).1 := by
  unfold pRest pRs; rw [if_pos hk]
theorem pRest_sum {m : Int} {K P : Int → Int} {N : Int} (h : rsOk K P N) {i n : Int} (h0 : 0 ≤ i) (hN : i < N) (hk : K i = 1) : pRest m K P i n = (pRest m K P (P (4 * i)) n + pRest m K P (P (4 * i + 1)) n) % m := by
  have hp := rOk_part (h i h0 hN) (by omega)
  have hp2 := rOk_part2 (h i h0 hN) (Or.inl hk)
  rw [← pRest_d h hp.1 (by omega) (d := i.toNat) (by omega), ← pRest_d h hp2.1 (by omega) (d := i.toNat) (by omega)]
  conv => lhs; unfold pRest pRs
  rw [if_neg (by omega), if_pos hk]
theorem pRest_product {m : Int} {K P : Int → Int} {N : Int} (h : rsOk K P N) {i n : Int} (h0 : 0 ≤ i) (hN : i < N) (hk : K i = 2) : pRest m K P i n = (pRest m K P (P (4 * i)) n * pRest m K P (P (4 * i + 1)) n) % m := by
  have hp := rOk_part (h i h0 hN) (by omega)
  have hp2 := rOk_part2 (h i h0 hN) (Or.inr hk)
  rw [← pRest_d h hp.1 (by omega) (d := i.toNat) (by omega), ← pRest_d h hp2.1 (by omega) (d := i.toNat) (by omega)]
  conv => lhs; unfold pRest pRs
  rw [if_neg (by omega), if_neg (by omega), if_pos hk]
theorem pRest_each {m : Int} {K P : Int → Int} {N : Int} (h : rsOk K P N) {i n : Int} (h0 : 0 ≤ i) (hN : i < N) (hk : K i = 3) : pRest m K P i n = pRest m K P (P (4 * i)) (P (4 * i + 1) * n + P (4 * i + 2)) := by
  have hp := rOk_part (h i h0 hN) (by omega)
  rw [← pRest_d h hp.1 (by omega) (d := i.toNat) (by omega)]
  conv => lhs; unfold pRest pRs
  rw [if_neg (by omega), if_neg (by omega), if_neg (by omega), if_pos hk]
theorem pRest_step {m : Int} {K P : Int → Int} {N : Int} (h : rsOk K P N) {i n : Int} (h0 : 0 ≤ i) (hN : i < N) (hk : K i = 4) : pRest m K P i n = (pRest m K P (P (4 * i)) (n + 1) - pRest m K P (P (4 * i)) n) % m := by
  have hp := rOk_part (h i h0 hN) (by omega)
  rw [← pRest_d h hp.1 (by omega) (d := i.toNat) (by omega), ← pRest_d h hp.1 (by omega) (d := i.toNat) (by omega)]
  conv => lhs; unfold pRest pRs
  rw [if_neg (by omega), if_neg (by omega), if_neg (by omega), if_neg (by omega)]
theorem pTr_r {m : Int} (hm : 0 < m) (c d e f : Int) : ∀ n, (0 ≤ (pTr m c d e f n).1 ∧ (pTr m c d e f n).1 < m) ∧ (0 ≤ (pTr m c d e f n).2 ∧ (pTr m c d e f n).2 < m) := by
  have hmod : ∀ x : Int, 0 ≤ x % m ∧ x % m < m := fun x => ⟨Int.emod_nonneg x (by omega), Int.emod_lt_of_pos x hm⟩
  intro n
  induction n with
  | zero => exact ⟨hmod _, hmod _⟩
  | succ n ih => exact ⟨ih.2, hmod _⟩
theorem pRs_r {m : Int} (hm : 0 < m) (K P : Int → Int) : ∀ (d : Nat) (i n : Int), 0 ≤ pRs m K P d i n ∧ pRs m K P d i n < m := by
  have hmod : ∀ x : Int, 0 ≤ x % m ∧ x % m < m := fun x => ⟨Int.emod_nonneg x (by omega), Int.emod_lt_of_pos x hm⟩
  intro d
  induction d with
  | zero => intro i n; unfold pRs; omega
  | succ d ih =>
    intro i n
    unfold pRs
    split
    · exact (pTr_r hm _ _ _ _ _).1
    · split
      · exact hmod _
      · split
        · exact hmod _
        · split
          · exact ih _ _
          · exact hmod _
theorem pRest_r {m : Int} (hm : 0 < m) (K P : Int → Int) (i n : Int) : 0 ≤ pRest m K P i n ∧ pRest m K P i n < m := pRs_r hm K P _ _ _
/-- from h on, each L again -/
def Per (s : Int → Int) (h L : Int) : Prop := 0 ≤ h ∧ 0 < L ∧ ∀ n, h ≤ n → s (n + L) = s n
theorem Per.mul {s : Int → Int} {h L : Int} (hp : Per s h L) : ∀ (k : Nat) (n : Int), h ≤ n → s (n + k * L) = s n := by
  intro k
  induction k with
  | zero => intro n _; simp
  | succ k ih =>
    intro n hn
    have e : n + ((k + 1 : Nat) : Int) * L = (n + k * L) + L := by rw [Int.natCast_add, Int.add_mul]; simp; omega
    have hk : 0 ≤ (k : Int) * L := Int.mul_nonneg (by omega) (by have := hp.2.1; omega)
    rw [e, hp.2.2 _ (by omega), ih n hn]
theorem Per.at {s : Int → Int} {h L : Int} (hp : Per s h L) {n : Int} (hn : 0 ≤ n) : s n = s (if n < h then n else h + (n - h) % L) := by
  by_cases c : n < h
  · rw [if_pos c]
  · rw [if_neg c]
    have hL := hp.2.1
    have h1 := Int.emod_nonneg (n - h) (show L ≠ 0 by omega)
    have h2 : 0 ≤ (n - h) / L := Int.ediv_nonneg (by omega) (by omega)
    have h3 := Int.mul_ediv_add_emod (n - h) L
    have h4 := hp.mul ((n - h) / L).toNat (h + (n - h) % L) (by omega)
    rw [Int.toNat_of_nonneg h2, Int.mul_comm] at h4
    rw [← h4]
    congr 1
    omega
theorem Per.dvd {s : Int → Int} {h L L' : Int} (hp : Per s h L) (hd : L ∣ L') (h0 : 0 < L') : Per s h L' := by
  refine ⟨hp.1, h0, fun n hn => ?_⟩
  obtain ⟨k, rfl⟩ := hd
  have hL := hp.2.1
  have hk : 0 ≤ k := by
    rcases Int.lt_or_le k 0 with q | q
    · have := Int.mul_neg_of_pos_of_neg hL q; omega
    · exact q
  have h4 := hp.mul k.toNat n hn
  rw [Int.toNat_of_nonneg hk, Int.mul_comm] at h4
  exact h4
theorem Per.late {s : Int → Int} {h h' L : Int} (hp : Per s h L) (hd : h ≤ h') : Per s h' L := ⟨by have := hp.1; omega, hp.2.1, fun n hn => hp.2.2 n (by omega)⟩
theorem Per.two {s1 s2 : Int → Int} {h L : Int} (F : Int → Int → Int) (h1 : Per s1 h L) (h2 : Per s2 h L) : Per (fun n => F (s1 n) (s2 n)) h L :=
  ⟨h1.1, h1.2.1, fun n hn => by show F _ _ = F _ _; rw [h1.2.2 n hn, h2.2.2 n hn]⟩
theorem Per.next {s : Int → Int} {h L : Int} (F : Int → Int → Int) (h1 : Per s h L) : Per (fun n => F (s (n + 1)) (s n)) h L :=
  ⟨h1.1, h1.2.1, fun n hn => by show F _ _ = F _ _; rw [show n + L + 1 = (n + 1) + L by omega, h1.2.2 n hn, h1.2.2 (n + 1) (by omega)]⟩
theorem Per.each {s : Int → Int} {h L h' L' p q : Int} (h1 : Per s h L) (h0 : 0 ≤ h') (hL : 0 < L') (hp : 0 ≤ p) (hh : h ≤ p * h' + q) (hd : L ∣ p * L') : Per (fun n => s (p * n + q)) h' L' := by
  refine ⟨h0, hL, fun n hn => ?_⟩
  show s (p * (n + L') + q) = s (p * n + q)
  obtain ⟨k, hk⟩ := hd
  have hL1 := h1.2.1
  have hk0 : 0 ≤ k := by
    rcases Int.lt_or_le k 0 with w | w
    · have a1 := Int.mul_neg_of_pos_of_neg hL1 w
      have a2 : 0 ≤ p * L' := Int.mul_nonneg hp (by omega)
      omega
    · exact w
  have hn2 : p * h' ≤ p * n := Int.mul_le_mul_of_nonneg_left hn hp
  have h4 := h1.mul k.toNat (p * n + q) (by omega)
  rw [Int.toNat_of_nonneg hk0, Int.mul_comm k L, ← hk] at h4
  rw [← h4]
  congr 1
  rw [Int.mul_add]; omega
theorem Per.congr {s s' : Int → Int} {h L : Int} (hp : Per s h L) (e : ∀ n, 0 ≤ n → s n = s' n) : Per s' h L :=
  ⟨hp.1, hp.2.1, fun n hn => by have h0 := hp.1; have hL := hp.2.1; rw [← e n (by omega), ← e (n + L) (by omega)]; exact hp.2.2 n hn⟩
def pGcd (a b : Int) : Int := (Nat.gcd a.toNat b.toNat : Nat)
def pLcm (a b : Int) : Int := a / pGcd a b * b
theorem pGcd_pos {a b : Int} (ha : 0 < a) : 0 < pGcd a b := by
  unfold pGcd
  have := Nat.gcd_pos_of_pos_left b.toNat (show 0 < a.toNat by omega)
  omega
theorem pLcm_nat {a b : Int} (ha : 0 < a) (hb : 0 < b) : pLcm a b = (Nat.lcm a.toNat b.toNat : Nat) := by
  unfold pLcm pGcd Nat.lcm
  rw [← Nat.div_mul_right_comm (Nat.gcd_dvd_left _ _)]
  rw [Int.natCast_mul, Int.natCast_ediv, Int.toNat_of_nonneg (by omega), Int.toNat_of_nonneg (by omega)]
theorem pLcm_pos {a b : Int} (ha : 0 < a) (hb : 0 < b) : 0 < pLcm a b := by
  rw [pLcm_nat ha hb]
  have := Nat.lcm_pos (show 0 < a.toNat by omega) (show 0 < b.toNat by omega)
  omega
theorem nat_dvd {a b : Int} (ha : 0 ≤ a) (hb : 0 ≤ b) : a ∣ b ↔ a.toNat ∣ b.toNat := by
  rw [← Int.natCast_dvd_natCast, Int.toNat_of_nonneg ha, Int.toNat_of_nonneg hb]
theorem pLcm_l {a b : Int} (ha : 0 < a) (hb : 0 < b) : a ∣ pLcm a b := by
  rw [pLcm_nat ha hb, nat_dvd (by omega) (by omega)]; simp; exact Nat.dvd_lcm_left _ _
theorem pLcm_r {a b : Int} (ha : 0 < a) (hb : 0 < b) : b ∣ pLcm a b := by
  rw [pLcm_nat ha hb, nat_dvd (by omega) (by omega)]; simp; exact Nat.dvd_lcm_right _ _
theorem pLcm_dvd {a b E : Int} (ha : 0 < a) (hb : 0 < b) (h1 : a ∣ E) (h2 : b ∣ E) (hE : 0 < E) : pLcm a b ∣ E := by
  rw [pLcm_nat ha hb, nat_dvd (by omega) (by omega)]; simp
  exact Nat.lcm_dvd ((nat_dvd (by omega) (by omega)).mp h1) ((nat_dvd (by omega) (by omega)).mp h2)
theorem pGcd_l {a b : Int} (ha : 0 ≤ a) : pGcd a b ∣ a := by
  unfold pGcd; rw [nat_dvd (by omega) ha]; simp; exact Nat.gcd_dvd_left _ _
theorem pGcd_r {a b : Int} (hb : 0 ≤ b) : pGcd a b ∣ b := by
  unfold pGcd; rw [nat_dvd (by omega) hb]; simp; exact Nat.gcd_dvd_right _ _
theorem dvd_le {a E : Int} (h : a ∣ E) (hE : 0 < E) : a ≤ E := Int.le_of_dvd hE h
/-- each p-th: the lap falls by the greatest common part -/
theorem each_dvd {L p : Int} (hL : 0 < L) (hp : 0 < p) : 0 < L / pGcd L p ∧ L / pGcd L p ∣ L ∧ L ∣ p * (L / pGcd L p) := by
  have g0 := pGcd_pos (b := p) hL
  obtain ⟨a, ha⟩ := pGcd_l (b := p) (show 0 ≤ L by omega)
  obtain ⟨b, hb⟩ := pGcd_r (a := L) (show 0 ≤ p by omega)
  have e : L / pGcd L p = a := Int.ediv_eq_of_eq_mul_right (by omega) ha
  rw [e]
  refine ⟨?_, ⟨pGcd L p, by rw [Int.mul_comm]; exact ha⟩, ⟨b, ?_⟩⟩
  · rcases Int.lt_or_le 0 a with q | q
    · exact q
    · have := Int.mul_nonpos_of_nonneg_of_nonpos (show 0 ≤ pGcd L p by omega) q; omega
  · have e2 : p * a = (pGcd L p * b) * a := by rw [← hb]
    have e3 : L * b = (pGcd L p * a) * b := by rw [← ha]
    rw [e2, e3, Int.mul_assoc, Int.mul_assoc, Int.mul_comm b a]
/-- how far a lap by m can be -/
def pE (m : Int) : Int := if m = 2 then 6 else if m = 3 then 24 else if m = 4 then 12 else if m = 5 then 120 else if m = 6 then 24 else if m = 7 then 336 else if m = 8 then 24 else if m = 9 then 72 else 120
theorem pE_r (m : Int) : 0 < pE m ∧ pE m ≤ 336 := by unfold pE; repeat' split
                                                     all_goals omega
/-- u and v: the rows from 1, 0 and from 0, 1 on, in natural numbers -/
def nTr (m c d : Nat) : Nat → Nat × Nat → Nat × Nat
  | 0, q => q
  | n + 1, q => nTr m c d n (q.2, (c * q.2 + d * q.1) % m)
def nOk (m E : Nat) : Bool := (List.range m).all fun c => (List.range m).all fun d => decide (nTr m c d E (nTr m c d 6 (1 % m, 0)) = nTr m c d 6 (1 % m, 0)) && decide (nTr m c d E (nTr m c d 6 (0, 1 % m)) = nTr m c d 6 (0, 1 % m))
theorem nOk_2 : nOk 2 6 = true := by decide +kernel
theorem nOk_3 : nOk 3 24 = true := by decide +kernel
theorem nOk_4 : nOk 4 12 = true := by decide +kernel
theorem nOk_5 : nOk 5 120 = true := by decide +kernel
theorem nOk_6 : nOk 6 24 = true := by decide +kernel
theorem nOk_7 : nOk 7 336 = true := by decide +kernel
theorem nOk_8 : nOk 8 24 = true := by decide +kernel
theorem nOk_9 : nOk 9 72 = true := by decide +kernel
theorem nOk_10 : nOk 10 120 = true := by decide +kernel
theorem nTr_add (m c d : Nat) : ∀ (a b : Nat) (q : Nat × Nat), nTr m c d (a + b) q = nTr m c d b (nTr m c d a q) := by
  intro a
  induction a with
  | zero => intro b q; rw [Nat.zero_add]; rfl
  | succ a ih => intro b q; rw [show a + 1 + b = (a + b) + 1 by omega]; exact ih b _
theorem nTr_succ (m c d : Nat) (n : Nat) (q : Nat × Nat) : nTr m c d (n + 1) q = ((nTr m c d n q).2, (c * (nTr m c d n q).2 + d * (nTr m c d n q).1) % m) := by
  rw [nTr_add]; rfl
theorem emod_same {m x y k : Int} (h : x - y = m * k) : x % m = y % m := by
  have e : x = y + m * k := by omega
  rw [e, Int.add_mul_emod_self_left]
theorem emod_lin (m c d e f u1 u2 v1 v2 : Int) : (c * ((e * u2 + f * v2) % m) + d * ((e * u1 + f * v1) % m)) % m = (e * ((c % m * u2 + d % m * u1) % m) + f * ((c % m * v2 + d % m * v1) % m)) % m := by
  have a1 := Int.mul_ediv_add_emod (e * u2 + f * v2) m
  have a2 := Int.mul_ediv_add_emod (e * u1 + f * v1) m
  have a3 := Int.mul_ediv_add_emod c m
  have a4 := Int.mul_ediv_add_emod d m
  have a5 := Int.mul_ediv_add_emod (c % m * u2 + d % m * u1) m
  have a6 := Int.mul_ediv_add_emod (c % m * v2 + d % m * v1) m
  generalize (e * u2 + f * v2) / m = A at *
  generalize (e * u2 + f * v2) % m = A' at *
  generalize (e * u1 + f * v1) / m = B at *
  generalize (e * u1 + f * v1) % m = B' at *
  generalize (c % m * u2 + d % m * u1) / m = G at *
  generalize (c % m * u2 + d % m * u1) % m = G' at *
  generalize (c % m * v2 + d % m * v1) / m = H at *
  generalize (c % m * v2 + d % m * v1) % m = H' at *
  generalize c / m = C at *
  generalize c % m = C' at *
  generalize d / m = D at *
  generalize d % m = D' at *
  have b1 : A' = e * u2 + f * v2 - m * A := by omega
  have b2 : B' = e * u1 + f * v1 - m * B := by omega
  have b3 : C' = c - m * C := by omega
  have b4 : D' = d - m * D := by omega
  have b5 : G' = C' * u2 + D' * u1 - m * G := by omega
  have b6 : H' = C' * v2 + D' * v1 - m * H := by omega
  clear a1 a2 a3 a4 a5 a6
  subst b5 b6 b1 b2 b3 b4
  refine emod_same (k := -c * A - d * B + e * C * u2 + e * D * u1 + e * G + f * C * v2 + f * D * v1 + f * H) ?_
  grind
/-- the rests of a row that is told, by u and v -/
theorem pTr_lin {m : Nat} (hm : 0 < m) (c d e f : Int) : ∀ n, (pTr m c d e f n).1 = (e * (nTr m (c % m).toNat (d % m).toNat n (1 % m, 0)).1 + f * (nTr m (c % m).toNat (d % m).toNat n (0, 1 % m)).1) % m ∧ (pTr m c d e f n).2 = (e * (nTr m (c % m).toNat (d % m).toNat n (1 % m, 0)).2 + f * (nTr m (c % m).toNat (d % m).toNat n (0, 1 % m)).2) % m := by
  have hm' : (m : Int) ≠ 0 := by omega
  have hc : (((c % m).toNat : Nat) : Int) = c % m := Int.toNat_of_nonneg (Int.emod_nonneg c hm')
  have hd : (((d % m).toNat : Nat) : Int) = d % m := Int.toNat_of_nonneg (Int.emod_nonneg d hm')
  intro n
  induction n with
  | zero =>
    refine ⟨?_, ?_⟩
    · show e % m = (e * ((1 % m : Nat) : Int) + f * ((0 : Nat) : Int)) % m
      simp only [Int.natCast_emod, Int.natCast_zero, Int.mul_zero, Int.add_zero, Int.natCast_one]
      rw [Int.mul_emod, Int.emod_emod_of_dvd _ (Int.dvd_refl _), ← Int.mul_emod, Int.mul_one]
    · show f % m = (e * ((0 : Nat) : Int) + f * ((1 % m : Nat) : Int)) % m
      simp only [Int.natCast_emod, Int.natCast_zero, Int.mul_zero, Int.zero_add, Int.natCast_one]
      rw [Int.mul_emod, Int.emod_emod_of_dvd _ (Int.dvd_refl _), ← Int.mul_emod, Int.mul_one]
  | succ n ih =>
    rw [nTr_succ, nTr_succ]
    refine ⟨ih.2, ?_⟩
    show (c * (pTr m c d e f n).2 + d * (pTr m c d e f n).1) % m = _
    rw [ih.1, ih.2]
    simp only [Int.natCast_emod, Int.natCast_add, Int.natCast_mul, hc, hd]
    exact emod_lin _ _ _ _ _ _ _ _ _
theorem nTr_ok {m E : Nat} (h : nOk m E = true) {c d : Nat} (hc : c < m) (hd : d < m) : nTr m c d (6 + E) (1 % m, 0) = nTr m c d 6 (1 % m, 0) ∧ nTr m c d (6 + E) (0, 1 % m) = nTr m c d 6 (0, 1 % m) := by
  unfold nOk at h
  have h1 := List.all_eq_true.mp h c (List.mem_range.mpr hc)
  have h2 := List.all_eq_true.mp h1 d (List.mem_range.mpr hd)
  simp only [Bool.and_eq_true, decide_eq_true_eq] at h2
  rw [nTr_add, nTr_add]
  exact h2
theorem pTr_perN {m E : Nat} (hm : 0 < m) (h : nOk m E = true) (c d e f : Int) : pTr m c d e f (6 + E) = pTr m c d e f 6 := by
  have hm' : (m : Int) ≠ 0 := by omega
  have hc := Int.emod_nonneg c hm'
  have hc2 := Int.emod_lt_of_pos c (show (0 : Int) < m by omega)
  have hd := Int.emod_nonneg d hm'
  have hd2 := Int.emod_lt_of_pos d (show (0 : Int) < m by omega)
  have h1 := nTr_ok h (c := (c % m).toNat) (d := (d % m).toNat) (by omega) (by omega)
  have a := pTr_lin hm c d e f (6 + E)
  have b := pTr_lin hm c d e f 6
  rw [h1.1, h1.2] at a
  exact Prod.ext (a.1.trans b.1.symm) (a.2.trans b.2.symm)
theorem pTr_per {m : Int} (hm : 2 ≤ m ∧ m ≤ 10) (c d e f : Int) : pTr m c d e f (6 + (pE m).toNat) = pTr m c d e f 6 := by
  have : m = 2 ∨ m = 3 ∨ m = 4 ∨ m = 5 ∨ m = 6 ∨ m = 7 ∨ m = 8 ∨ m = 9 ∨ m = 10 := by omega
  rcases this with rfl | rfl | rfl | rfl | rfl | rfl | rfl | rfl | rfl
  · exact pTr_perN (m := 2) (E := 6) (by decide) nOk_2 c d e f
  · exact pTr_perN (m := 3) (E := 24) (by decide) nOk_3 c d e f
  · exact pTr_perN (m := 4) (E := 12) (by decide) nOk_4 c d e f
  · exact pTr_perN (m := 5) (E := 120) (by decide) nOk_5 c d e f
  · exact pTr_perN (m := 6) (E := 24) (by decide) nOk_6 c d e f
  · exact pTr_perN (m := 7) (E := 336) (by decide) nOk_7 c d e f
  · exact pTr_perN (m := 8) (E := 24) (by decide) nOk_8 c d e f
  · exact pTr_perN (m := 9) (E := 72) (by decide) nOk_9 c d e f
  · exact pTr_perN (m := 10) (E := 120) (by decide) nOk_10 c d e f
/-- the first N states differ, the next one is that at a -/
def First {α : Type} (S : Nat → α) (N a : Nat) : Prop := a < N ∧ S N = S a ∧ ∀ i j, i < N → j < N → S i = S j → i = j
theorem First.back {α : Type} {S : Nat → α} {φ : α → α} (hS : ∀ n, S (n + 1) = φ (S n)) {N a : Nat} (h : First S N a) : ∀ n, S (N + n) = S (a + n) := by
  intro n
  induction n with
  | zero => exact h.2.1
  | succ n ih => rw [← Nat.add_assoc, ← Nat.add_assoc, hS, hS, ih]
theorem First.red {α : Type} {S : Nat → α} {φ : α → α} (hS : ∀ n, S (n + 1) = φ (S n)) {N a : Nat} (h : First S N a) : ∀ n, a ≤ n → S n = S (a + (n - a) % (N - a)) := by
  intro n
  induction n using Nat.strongRecOn with
  | _ n ih =>
    intro hn
    have h1 := h.1
    by_cases c : n < N
    · rw [Nat.mod_eq_of_lt (by omega), show a + (n - a) = n by omega]
    · have e : S n = S (n - (N - a)) := by
        have := h.back hS (n - N)
        rw [show N + (n - N) = n by omega] at this
        rw [this]; congr 1; omega
      rw [e, ih _ (by omega) (by omega)]
      congr 2
      rw [show n - a = (n - (N - a) - a) + (N - a) by omega, Nat.add_mod_right]
theorem First.bound {α : Type} {S : Nat → α} {φ : α → α} (hS : ∀ n, S (n + 1) = φ (S n)) {N a T E : Nat} (h : First S N a) (hE : 0 < E) (hT : S (T + E) = S T) : a ≤ T ∧ (N - a) ∣ E := by
  have h1 := h.1
  have hlt : ∀ x, a + x % (N - a) < N := fun x => by have := Nat.mod_lt x (show 0 < N - a by omega); omega
  have ha : a ≤ T := by
    rcases Nat.lt_or_ge T a with q | q
    · exfalso
      by_cases c : T + E < N
      · have := h.2.2 _ _ c (by omega) hT; omega
      · have e := h.red hS (T + E) (by omega)
        rw [hT] at e
        have := h.2.2 _ _ (show T < N by omega) (hlt _) e
        omega
    · exact q
  refine ⟨ha, ?_⟩
  have e1 := h.red hS (T + E) (by omega)
  have e2 := h.red hS T ha
  rw [hT, e2] at e1
  have e3 := h.2.2 _ _ (hlt _) (hlt _) e1
  have e4 : (T - a) % (N - a) = (T - a + E) % (N - a) := by rw [show T + E - a = T - a + E by omega] at e3; omega
  have e5 := Nat.sub_mod_eq_zero_of_mod_eq e4.symm
  rw [show T - a + E - (T - a) = E by omega] at e5
  exact Nat.dvd_of_mod_eq_zero e5
/-- p comes again from some place on -/
def Lap (s : Int → Int) (p : Int) : Prop := 1 ≤ p ∧ ∃ h, 0 ≤ h ∧ ∀ n, h ≤ n → s (n + p) = s n
/-- the least lap, and the least head for it -/
def LH (s : Int → Int) (p h : Int) : Prop := 1 ≤ p ∧ 0 ≤ h ∧ (∀ n, h ≤ n → s (n + p) = s n) ∧ (∀ q, Lap s q → p ≤ q) ∧ ∀ k, 0 ≤ k → (∀ n, k ≤ n → s (n + p) = s n) → h ≤ k
theorem LH.uniq {s : Int → Int} {p h p' h' : Int} (a : LH s p h) (b : LH s p' h') : p = p' ∧ h = h' := by
  have e1 := a.2.2.2.1 p' ⟨b.1, h', b.2.1, b.2.2.1⟩
  have e2 := b.2.2.2.1 p ⟨a.1, h, a.2.1, a.2.2.1⟩
  have e : p = p' := by omega
  subst e
  exact ⟨rfl, by have q1 := a.2.2.2.2 h' b.2.1 b.2.2.1; have q2 := b.2.2.2.2 h a.2.1 a.2.2.1; omega⟩
theorem Per.lap {s : Int → Int} {H L q : Int} (hp : Per s H L) (hq : Lap s q) : ∀ n, H ≤ n → s (n + q) = s n := by
  intro n hn
  obtain ⟨hq1, h, h0, hh⟩ := hq
  have hL := hp.2.1
  have hH := hp.1
  have hk : h ≤ n + (h.toNat : Int) * L := by
    have : (h.toNat : Int) * 1 ≤ (h.toNat : Int) * L := Int.mul_le_mul_of_nonneg_left (by omega) (by omega)
    omega
  have e1 := hp.mul h.toNat n hn
  have e2 := hp.mul h.toNat (n + q) (by omega)
  rw [← e1, ← e2, show n + q + (h.toNat : Int) * L = (n + (h.toNat : Int) * L) + q by omega]
  exact hh _ hk
theorem Per.ex {s : Int → Int} {H L : Int} (hp : Per s H L) : ∃ p h, LH s p h ∧ p ≤ L ∧ h ≤ H := by
  have hL := hp.2.1
  have hH := hp.1
  obtain ⟨p, ⟨hp1, hp2⟩, hp3⟩ := pk_least (fun p : Nat => 1 ≤ p ∧ ∀ n, H ≤ n → s (n + p) = s n) ⟨L.toNat, by omega, by rw [Int.toNat_of_nonneg (by omega)]; exact hp.2.2⟩
  obtain ⟨h, hh, hh2⟩ := pk_least (fun h : Nat => ∀ n, (h : Int) ≤ n → s (n + p) = s n) ⟨H.toNat, by rw [Int.toNat_of_nonneg hH]; exact hp2⟩
  have hle : ∀ q : Int, Lap s q → (p : Int) ≤ q := fun q hq => by
    rcases Int.lt_or_le q p with c | c
    · exact absurd ⟨by have := hq.1; omega, by rw [Int.toNat_of_nonneg (by have := hq.1; omega)]; exact hp.lap hq⟩ (hp3 q.toNat (by have := hq.1; omega))
    · exact c
  have hhd : ∀ k : Int, 0 ≤ k → (∀ n, k ≤ n → s (n + p) = s n) → (h : Int) ≤ k := fun k k0 hk => by
    rcases Int.lt_or_le k h with c | c
    · exact absurd (by rw [Int.toNat_of_nonneg k0]; exact hk) (hh2 k.toNat (by omega))
    · exact c
  exact ⟨p, h, ⟨by omega, by omega, hh, hle, hhd⟩, hle L ⟨by omega, H, hH, hp.2.2⟩, hhd H hH hp2⟩
noncomputable def pLap (s : Int → Int) : Int := Classical.epsilon (fun p => ∃ h, LH s p h)
noncomputable def pHead (s : Int → Int) : Int := Classical.epsilon (fun h => LH s (pLap s) h)
theorem Per.least {s : Int → Int} {H L : Int} (hp : Per s H L) : LH s (pLap s) (pHead s) ∧ pLap s ≤ L ∧ pHead s ≤ H := by
  obtain ⟨p, h, h1, h2, h3⟩ := hp.ex
  obtain ⟨h', e1⟩ : ∃ h, LH s (pLap s) h := Classical.epsilon_spec (p := fun p => ∃ h, LH s p h) ⟨p, h, h1⟩
  have e2 : LH s (pLap s) (pHead s) := Classical.epsilon_spec (p := fun h => LH s (pLap s) h) ⟨h', e1⟩
  have u := h1.uniq e2
  exact ⟨e2, by omega, by omega⟩
theorem LH.eq {s : Int → Int} {p h : Int} (a : LH s p h) : pLap s = p ∧ pHead s = h := by
  obtain ⟨h', e1⟩ : ∃ h, LH s (pLap s) h := Classical.epsilon_spec (p := fun p => ∃ h, LH s p h) ⟨p, h, a⟩
  have e2 : LH s (pLap s) (pHead s) := Classical.epsilon_spec (p := fun h => LH s (pLap s) h) ⟨h', e1⟩
  exact e2.uniq a
/-- to look from a place on up to one lap is enough -/
theorem Per.look {s : Int → Int} {H L q a : Int} (hp : Per s H L) (hq : 0 ≤ q) (ha : 0 ≤ a ∧ a ≤ H) : (∀ k, a ≤ k → k < H + L → s k = s (k + q)) ↔ ∀ n, a ≤ n → s (n + q) = s n := by
  have hL := hp.2.1
  constructor
  · intro h n hn
    by_cases c : n < H + L
    · exact (h n hn c).symm
    · have h1 := Int.emod_nonneg (n - H) (show L ≠ 0 by omega)
      have h2 := Int.emod_lt_of_pos (n - H) hL
      have h3 : 0 ≤ (n - H) / L := Int.ediv_nonneg (by omega) (by omega)
      have h4 := Int.mul_ediv_add_emod (n - H) L
      have e1 := hp.mul ((n - H) / L).toNat (H + (n - H) % L) (by omega)
      have e2 := hp.mul ((n - H) / L).toNat (H + (n - H) % L + q) (by omega)
      rw [Int.toNat_of_nonneg h3, Int.mul_comm ((n - H) / L) L] at e1 e2
      rw [show H + (n - H) % L + L * ((n - H) / L) = n by omega] at e1
      rw [show H + (n - H) % L + q + L * ((n - H) / L) = n + q by omega] at e2
      rw [e1, e2]
      exact (h _ (by omega) (by omega)).symm
  · intro h k h1 _
    exact (h k h1).symm
/-- how many noughts from h on, in n places -/
def pCnt (s : Int → Int) (h : Int) : Nat → Int
  | 0 => 0
  | n + 1 => pCnt s h n + (if s (h + n) = 0 then 1 else 0)
theorem pCnt_r (s : Int → Int) (h : Int) : ∀ n, 0 ≤ pCnt s h n ∧ pCnt s h n ≤ n := by
  intro n
  induction n with
  | zero => simp [pCnt]
  | succ n ih => unfold pCnt; split <;> omega
noncomputable def pZeros (s : Int → Int) : Int := pCnt s (pHead s) (pLap s).toNat
