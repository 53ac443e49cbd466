/-! 13: heap rows and calls of J -/
set_option maxRecDepth 100000
theorem va_P1 {D : va_G} {cl : List vw_C} {a : Nat} {e : va_E} {H : Heap} (h : va_at D cl (a, e) H) : va_P D cl [(a, e)] H := by
  intro k q hk
  match k, hk with
  | 0, hk => cases hk; exact h
  | k + 1, hk => simp at hk
section JH
variable {Γ : Gm} {l : Launch} {X : Cx} {y : MethodName} {cc : ByteArray} {nL : Nat} {ret : Option FieldType} {rm : Room} {post : Option Value → Hp → Prop} {hp : Hp} {ce sl pc : Nat} {lv : List (Nat × Value)} {st : List Value}
variable {C : String} {T : u_T} {N ci index a : Nat} {fs : List Value}
theorem j_get (M : Mok Γ l X y cc nL ret rm post) (he : hp a = some (.inr (ci, fs))) (hc : clz[ci]? = some (C, T, N)) (k : Nat) (hk : k < N) (hin : ∀ w ∈ u_ws C T N, w ∈ lw_all) (q : Cond.fieldLink y.cls index (T k).1 (T k).2.1 (T k).2.2.1 ∈ lw_all) {v : Value} (hv : fs[k]? = some v) (d : decode cc pc = .ok (.getfield index, 3)) (kk : J Γ hp ce sl (pc + 3) lv (v :: st)) :
    J Γ hp ce sl pc lv (.ref a :: st) := by
  obtain ⟨p, l', e, R, s, m, args, below, meth, c, X', nL', post'⟩ := Γ
  obtain ⟨rfl, rfl, rfl, rfl, rfl, hx, hb, hml, hown, hts, hr, hlk, hG, hnm⟩ := M
  intro H locs ls hR hS hl
  exact va_get hx hb hts hin hown hG.1 (va_P1 (hR.2 a _ he).2) 0 rfl hc k hk (hts _ q) (fun _ h => h) hv d (kk H locs ls hR hS hl)
/-- an inherited field, named by the heir -/
theorem j_getI (M : Mok Γ l X y cc nL ret rm post) (he : hp a = some (.inr (ci, fs))) (hc : clz[ci]? = some (C, T, N)) (k : Nat) (hk : k < N) (hin : ∀ w ∈ u_ws C T N, w ∈ lw_all) {ref : String} (q : Cond.fieldLink y.cls index ref (T k).2.1 (T k).2.2.1 ∈ lw_all) (q2 : Cond.sameField ref (T k).1 (T k).2.1 (T k).2.2.1 ∈ lw_all) {v : Value} (hv : fs[k]? = some v) (d : decode cc pc = .ok (.getfield index, 3)) (kk : J Γ hp ce sl (pc + 3) lv (v :: st)) :
    J Γ hp ce sl pc lv (.ref a :: st) := by
  obtain ⟨p, l', e, R, s, m, args, below, meth, c, X', nL', post'⟩ := Γ
  obtain ⟨rfl, rfl, rfl, rfl, rfl, hx, hb, hml, hown, hts, hr, hlk, hG, hnm⟩ := M
  intro H locs ls hR hS hl
  exact va_get hx hb hts hin hown hG.1 (va_P1 (hR.2 a _ he).2) 0 rfl hc k hk (hts _ q) (u_same (hts _ q2)) hv d (kk H locs ls hR hS hl)
/-- a nest mate's private field -/
theorem j_getN (M : Mok Γ l X y cc nL ret rm post) (he : hp a = some (.inr (ci, fs))) (hc : clz[ci]? = some (C, T, N)) (k : Nat) (hk : k < N) (hin : ∀ w ∈ u_ws C T N, w ∈ lw_all) {host : String} (q : Cond.fieldLinkNest y.cls index (T k).1 (T k).2.1 (T k).2.2.1 host ∈ lw_tbl) {v : Value} (hv : fs[k]? = some v) (d : decode cc pc = .ok (.getfield index, 3)) (kk : J Γ hp ce sl (pc + 3) lv (v :: st)) :
    J Γ hp ce sl pc lv (.ref a :: st) := by
  obtain ⟨p, l', e, R, s, m, args, below, meth, c, X', nL', post'⟩ := Γ
  obtain ⟨rfl, rfl, rfl, rfl, rfl, hx, hb, hml, hown, hts, hr, hlk, hG, hnm⟩ := M
  intro H locs ls hR hS hl
  exact va_getN hx hb hts hin hown hG.1 (va_P1 (hR.2 a _ he).2) 0 rfl hc k hk (va_Nw.use rfl (hG.2.1 _ (nw_at q rfl))) (fun _ h => h) hv d (kk H locs ls hR hS hl)
theorem j_put (M : Mok Γ l X y cc nL ret rm post) (he : hp a = some (.inr (ci, fs))) (hc : clz[ci]? = some (C, T, N)) (k : Nat) (hk : k < N) (hin : ∀ w ∈ u_ws C T N, w ∈ lw_all) (ty0 : Nat → FieldType) (hty : ∀ k, k < N → parseFieldDescriptor (T k).2.2.1 = some (ty0 k)) (hnm0 : ∀ a, a < N → ∀ b, b < N → a ≠ b → (T a).2.1 ≠ (T b).2.1) (q : Cond.fieldLink y.cls index (T k).1 (T k).2.1 (T k).2.2.1 ∈ lw_all) (hfin : (T k).2.2.2 = false) {v : Value} (hn : narrow (ty0 k) v = v) (hfit : fits (ty0 k) v = true) (hlen : k < fs.length) (d : decode cc pc = .ok (.putfield index, 3)) (kk : J Γ (hup hp a (.inr (ci, fs.set k v))) ce sl (pc + 3) lv st) :
    J Γ hp ce sl pc lv (v :: .ref a :: st) := by
  obtain ⟨p, l', e, R, s, m, args, below, meth, c, X', nL', post'⟩ := Γ
  obtain ⟨rfl, rfl, rfl, rfl, rfl, hx, hb, hml, hown, hts, hr, hlk, hG, hnm⟩ := M
  intro H locs ls hR hS hl
  have hK := hG.1
  have ha := hR.2 a _ he
  have hap := va_apart (own := y.cls) hts hin ty0 hty hnm0 hK hc
  obtain ⟨r, h1, cell, q1, q2, q3, q4⟩ := ha.2
  have hr2 : r = (C, T, N) := Option.some.inj (h1.symm.trans hc)
  subst hr2
  obtain ⟨hSl, hfc, kC, hkC, hkind⟩ := hK.1 ci _ hc
  obtain ⟨cf, kf, fi, f, hi, hsl⟩ := hSl k hk
  have hlay := hts _ (hin _ (u_in_lay hk))
  unfold u_lay at hlay
  rw [if_neg (by rw [hfin]; decide)] at hlay
  have hst := (u_facts hfc hkC (u_lays hts hin hk) hi).1
  have h6 := u_store hfc hkC hkind hlay hi (hty k hk) hn hfit
  refine W.putK hx hb (f := f) ⟨hown, hts _ q, ⟨_, _, _, hi⟩, hst⟩ (by rw [q2]; exact h6) q1 q3 (by rw [hsl]; exact k2_hasslot (q4 k hk)) rfl rfl d fun H' e1 e2 e3 => ?_
  rw [hsl] at e1 ⊢
  exact kk H' _ ls (hR.up ha.1 ⟨_, hc, t_OB.to (V := updV (vp_V fs) k v) ⟨_, e1, q2, q3, t_set q4 hap hk v⟩ (fun j _ => vp_updV_set hlen v j)⟩ (by rw [e2]; exact Nat.le_refl _) (fun q _ h => e3 q h)) (hS.put e2 e3 ha.1) hl
/-- a final field, in a constructor of its own class -/
theorem j_putF (M : Mok Γ l X y cc nL ret rm post) (he : hp a = some (.inr (ci, fs))) (hc : clz[ci]? = some (C, T, N)) (k : Nat) (hk : k < N) (hin : ∀ w ∈ u_ws C T N, w ∈ lw_all) (ty0 : Nat → FieldType) (hty : ∀ k, k < N → parseFieldDescriptor (T k).2.2.1 = some (ty0 k)) (hnm0 : ∀ a, a < N → ∀ b, b < N → a ≠ b → (T a).2.1 ≠ (T b).2.1) (q : Cond.fieldLink y.cls index (T k).1 (T k).2.1 (T k).2.2.1 ∈ lw_all) (hfin : (T k).2.2.2 = true) (hini : y.name = "<init>") (hdecl : (T k).1 = y.cls) {v : Value} (hn : narrow (ty0 k) v = v) (hfit : fits (ty0 k) v = true) (hlen : k < fs.length) (d : decode cc pc = .ok (.putfield index, 3)) (kk : J Γ (hup hp a (.inr (ci, fs.set k v))) ce sl (pc + 3) lv st) :
    J Γ hp ce sl pc lv (v :: .ref a :: st) := by
  obtain ⟨p, l', e, R, s, m, args, below, meth, c, X', nL', post'⟩ := Γ
  obtain ⟨rfl, rfl, rfl, rfl, rfl, hx, hb, hml, hown, hts, hr, hlk, hG, hnm⟩ := M
  intro H locs ls hR hS hl
  have hK := hG.1
  have ha := hR.2 a _ he
  have hap := va_apart (own := y.cls) hts hin ty0 hty hnm0 hK hc
  obtain ⟨r, h1, cell, q1, q2, q3, q4⟩ := ha.2
  have hr2 : r = (C, T, N) := Option.some.inj (h1.symm.trans hc)
  subst hr2
  obtain ⟨hSl, hfc, kC, hkC, hkind⟩ := hK.1 ci _ hc
  obtain ⟨cf, kf, fi, f, hi, hsl⟩ := hSl k hk
  have hlay := hts _ (hin _ (u_in_lay hk))
  unfold u_lay at hlay
  rw [if_pos hfin] at hlay
  have hst := (u_facts hfc hkC (u_lays hts hin hk) hi).1
  have hcf : m.cls = cf := by
    obtain ⟨_, _, c', _, _, _, -, -, hf', -, -, -, hown2, -⟩ := Cond.laysFinal_spec hlay
    have e1 : c' = cf := by have := hi.symm.trans hf'; simp at this; exact this.1.symm
    rw [hdecl] at hown2
    rw [← e1]; exact Option.some.inj (hown.symm.trans hown2)
  have h6 := u_fits hfc hkC hkind (Or.inr hlay) hi (hty k hk) hn hfit
  refine W.putFinK hx hb hown (hts _ q) hi hst hcf (hnm.trans hini) (by rw [q2]; exact h6) q1 q3 (by rw [hsl]; exact k2_hasslot (q4 k hk)) rfl rfl d fun H' e1 e2 e3 => ?_
  rw [hsl] at e1 ⊢
  exact kk H' _ ls (hR.up ha.1 ⟨_, hc, t_OB.to (V := updV (vp_V fs) k v) ⟨_, e1, q2, q3, t_set q4 hap hk v⟩ (fun j _ => vp_updV_set hlen v j)⟩ (by rw [e2]; exact Nat.le_refl _) (fun q _ h => e3 q h)) (hS.put e2 e3 ha.1) hl
abbrev eI (X : Cx) (n : Nat) (g : Int → Int) : va_E := .inl (cxC X 0, n, .inl (arI g))
abbrev eB (X : Cx) (n : Nat) (g : Int → Int) : va_E := .inl (cxC X 1, n, .inl (arI g))
abbrev eZ (X : Cx) (n : Nat) (g : Int → Int) : va_E := .inl (cxC X 2, n, .inl (arI g))
abbrev eO (X : Cx) (n : Nat) (g : Nat → Option Nat) : va_E := .inl (cxC X 3, n, .inr (.inr (.inr (.inr g))))
abbrev eW (X : Cx) (n : Nat) (g : Nat → Option Nat) : va_E := .inl (cxC X 4, n, .inr (.inr (.inr (.inr g))))
variable {n : Nat} {g : Int → Int} {i v : Int}
abbrev inb (i : Int) (n : Nat) : Prop := 0 ≤ i ∧ i < n ∧ i < 2147483648
theorem j_iald (M : Mok Γ l X y cc nL ret rm post) (he : hp a = some (eI X n g)) (hi : inb i n) (d : decode cc pc = .ok (.iaload, 1)) (kk : J Γ hp ce sl (pc + 1) lv (.int (zI (g i)) :: st)) :
    J Γ hp ce sl pc lv (.int (zI i) :: .ref a :: st) := by
  obtain ⟨p, l', e, R, s, m, args, below, meth, c, X', nL', post'⟩ := Γ
  obtain ⟨rfl, rfl, rfl, rfl, rfl, hx, hb, hml, hown, hts, hr, hlk, hG, hnm⟩ := M
  intro H locs ls hR hS hl
  have kk := kk H locs ls hR hS hl
  rw [← arI_get hi.1 hi.2.2] at kk
  exact va_iald hx hb hG.1 (va_P1 (hR.2 a _ he).2) 0 0 rfl rfl (zI_in hi.1 hi.2.1 hi.2.2) d kk
theorem j_bald (M : Mok Γ l X y cc nL ret rm post) (he : hp a = some (eB X n g)) (hi : inb i n) (d : decode cc pc = .ok (.baload, 1)) (kk : J Γ hp ce sl (pc + 1) lv (.int (zI (g i)) :: st)) :
    J Γ hp ce sl pc lv (.int (zI i) :: .ref a :: st) := by
  obtain ⟨p, l', e, R, s, m, args, below, meth, c, X', nL', post'⟩ := Γ
  obtain ⟨rfl, rfl, rfl, rfl, rfl, hx, hb, hml, hown, hts, hr, hlk, hG, hnm⟩ := M
  intro H locs ls hR hS hl
  have kk := kk H locs ls hR hS hl
  rw [← arI_get hi.1 hi.2.2] at kk
  exact va_bald hx hb hG.1 (va_P1 (hR.2 a _ he).2) 0 1 rfl rfl (zI_in hi.1 hi.2.1 hi.2.2) d kk
theorem j_zald (M : Mok Γ l X y cc nL ret rm post) (he : hp a = some (eZ X n g)) (hi : inb i n) (d : decode cc pc = .ok (.baload, 1)) (kk : J Γ hp ce sl (pc + 1) lv (.int (zI (g i)) :: st)) :
    J Γ hp ce sl pc lv (.int (zI i) :: .ref a :: st) := by
  obtain ⟨p, l', e, R, s, m, args, below, meth, c, X', nL', post'⟩ := Γ
  obtain ⟨rfl, rfl, rfl, rfl, rfl, hx, hb, hml, hown, hts, hr, hlk, hG, hnm⟩ := M
  intro H locs ls hR hS hl
  have kk := kk H locs ls hR hS hl
  rw [← arI_get hi.1 hi.2.2] at kk
  exact va_zald hx hb hG.1 (va_P1 (hR.2 a _ he).2) 0 2 rfl rfl (zI_in hi.1 hi.2.1 hi.2.2) d kk
theorem j_iast (M : Mok Γ l X y cc nL ret rm post) (he : hp a = some (eI X n g)) (hi : inb i n) (d : decode cc pc = .ok (.iastore, 1)) (kk : J Γ (hup hp a (eI X n (upA g i v))) ce sl (pc + 1) lv st) :
    J Γ hp ce sl pc lv (.int (zI v) :: .int (zI i) :: .ref a :: st) := by
  obtain ⟨p, l', e, R, s, m, args, below, meth, c, X', nL', post'⟩ := Γ
  obtain ⟨rfl, rfl, rfl, rfl, rfl, hx, hb, hml, hown, hts, hr, hlk, hG, hnm⟩ := M
  intro H locs ls hR hS hl
  refine W.iast hx hb (hR.2 a _ he).2 ((hG.1.2 0 _ rfl).1 n (fun j => .int (arI g j))) (fun q => by cases q) (by show ¬ (zI i < 0 ∨ (arrV _ _ _).slots.size ≤ _); rw [arrV_size]; exact zI_in hi.1 hi.2.1 hi.2.2) rfl rfl d fun H1 e1 z oq => ?_
  refine kk H1 _ ls (hR.up (hR.2 a _ he).1 ?_ (by rw [z]; exact Nat.le_refl _) (fun q _ h => oq q h)) (hS.put z oq (hR.2 a _ he).1) hl
  show H1[a]? = some (vp_cell _ _)
  rw [e1]
  rw [vp_cell_i, vp_cell_i, arrV_store]
  rw [← arI_set hi.1 hi.2.2]
  congr 2
  funext q
  by_cases hq : q = (zI i).toNatClampNeg
  · subst hq
    simp [updV, upd]
  · simp [updV, upd, hq]
theorem nar_b {v : Int} (h1 : -128 ≤ v) (h2 : v < 128) : vp_nar .byte (zI v) = zI v := by rw [vp_nar_byte]; exact zI_i2b h1 h2
theorem narB {v : Int} (h1 : -128 ≤ v) (h2 : v < 128) : narrow .byte (.int (zI v)) = .int (zI v) := by
  show Value.int (zI v).toInt8.toInt32 = _
  rw [zI_i2b h1 h2]
theorem narZ {v : Int} (h : v = 0 ∨ v = 1) : narrow .boolean (.int (zI v)) = .int (zI v) := by rcases h with rfl | rfl <;> rfl
theorem j_bast (M : Mok Γ l X y cc nL ret rm post) (he : hp a = some (eB X n g)) (hi : inb i n) (hv : -128 ≤ v ∧ v < 128) (d : decode cc pc = .ok (.bastore, 1)) (kk : J Γ (hup hp a (eB X n (upA g i v))) ce sl (pc + 1) lv st) :
    J Γ hp ce sl pc lv (.int (zI v) :: .int (zI i) :: .ref a :: st) := by
  obtain ⟨p, l', e, R, s, m, args, below, meth, c, X', nL', post'⟩ := Γ
  obtain ⟨rfl, rfl, rfl, rfl, rfl, hx, hb, hml, hown, hts, hr, hlk, hG, hnm⟩ := M
  intro H locs ls hR hS hl
  refine W.bast hx hb (hR.2 a _ he).2 ((hG.1.2 1 _ rfl).1 n (fun j => .int (arI g j))) (fun q => by cases q) (by show ¬ (zI i < 0 ∨ (arrV _ _ _).slots.size ≤ _); rw [arrV_size]; exact zI_in hi.1 hi.2.1 hi.2.2) rfl rfl d fun H1 e1 z oq => ?_
  refine kk H1 _ ls (hR.up (hR.2 a _ he).1 ?_ (by rw [z]; exact Nat.le_refl _) (fun q _ h => oq q h)) (hS.put z oq (hR.2 a _ he).1) hl
  show H1[a]? = some (vp_cell _ _)
  rw [e1]
  rw [vp_cell_i, vp_cell_i, arrV_store]
  rw [← arI_set hi.1 hi.2.2]
  congr 2
  funext q
  by_cases hq : q = (zI i).toNatClampNeg
  · subst hq
    simp [updV, upd, narB hv.1 hv.2]
  · simp [updV, upd, hq]
theorem j_zast (M : Mok Γ l X y cc nL ret rm post) (he : hp a = some (eZ X n g)) (hi : inb i n) (hv : v = 0 ∨ v = 1) (d : decode cc pc = .ok (.bastore, 1)) (kk : J Γ (hup hp a (eZ X n (upA g i v))) ce sl (pc + 1) lv st) :
    J Γ hp ce sl pc lv (.int (zI v) :: .int (zI i) :: .ref a :: st) := by
  obtain ⟨p, l', e, R, s, m, args, below, meth, c, X', nL', post'⟩ := Γ
  obtain ⟨rfl, rfl, rfl, rfl, rfl, hx, hb, hml, hown, hts, hr, hlk, hG, hnm⟩ := M
  intro H locs ls hR hS hl
  refine W.zast hx hb (hR.2 a _ he).2 ((hG.1.2 2 _ rfl).1 n (fun j => .int (arI g j))) (fun q => by cases q) (by show ¬ (zI i < 0 ∨ (arrV _ _ _).slots.size ≤ _); rw [arrV_size]; exact zI_in hi.1 hi.2.1 hi.2.2) rfl rfl d fun H1 e1 z oq => ?_
  refine kk H1 _ ls (hR.up (hR.2 a _ he).1 ?_ (by rw [z]; exact Nat.le_refl _) (fun q _ h => oq q h)) (hS.put z oq (hR.2 a _ he).1) hl
  show H1[a]? = some (vp_cell _ _)
  rw [e1]
  rw [vp_cell_i, vp_cell_i, arrV_store]
  rw [← arI_set hi.1 hi.2.2]
  congr 2
  funext q
  by_cases hq : q = (zI i).toNatClampNeg
  · subst hq
    simp [updV, upd, narZ hv]
  · simp [updV, upd, hq]
theorem j_alen (M : Mok Γ l X y cc nL ret rm post) {t0 : Nat} {ty : FieldType} {x : vp_A} {cA : ClassId} (he : hp a = some (.inl (cA, x))) (ht : (cxT X)[t0]? = some (cA, ty)) (d : decode cc pc = .ok (.arraylength, 1)) (kk : J Γ hp ce sl (pc + 1) lv (.int (zI (x.1 : Int)) :: st)) :
    J Γ hp ce sl pc lv (.ref a :: st) := by
  obtain ⟨p, l', e, R, s, m, args, below, meth, c, X', nL', post'⟩ := Γ
  obtain ⟨rfl, rfl, rfl, rfl, rfl, hx, hb, hml, hown, hts, hr, hlk, hG, hnm⟩ := M
  intro H locs ls hR hS hl
  exact va_alen hx hb hG.1 (va_P1 (hR.2 a _ he).2) 0 t0 rfl ht (zI_nat x.1) d (kk H locs ls hR hS hl)
theorem va_SA {X : Cx} {U : State} (h : GX X U) : ∀ q, U.heap.size ≤ q → cxA X q := fun q hq => Nat.le_trans h.2.2.2.2.2.1 hq
theorem S_grow {A : Nat → Prop} {H0 H H1 : Heap} {locs : List Loc} (h : va_S A H0 H locs) (hz : H.size ≤ H1.size) (oq : ∀ q, q < H.size → H1[q]? = H[q]?) : va_S A H0 H1 locs :=
  ⟨Nat.le_trans h.1 hz, fun x h1 h2 => (oq x (Nat.lt_of_lt_of_le h1 h.1)).trans (h.2.1 x h1 h2), h.2.2⟩
theorem Rl.new {X : Cx} {hp : Hp} {H H1 : Heap} {e : va_E} (h : Rl X hp H) (he : va_at (cxD X) clz (H.size, e) H1) (hz : H1.size = H.size + 1) (oq : ∀ q : Nat, q < H.size → H1[q]? = H[q]?) : Rl X (hup hp H.size e) H1 :=
  h.up h.1 he (by omega) (fun q h1 _ => oq q h1)
theorem j_newI (M : Mok Γ l X y cc nL ret rm post) (qa : Cond.arrayClass .int ∈ lw_all) (hn : 0 ≤ i ∧ i < 1000000) (hc : ce + 1 ≤ rm.cells ∧ sl + i.toNat ≤ rm.slots) (d : decode cc pc = .ok (.newarray .int, 2)) (kk : ∀ q : Nat, hp q = none → cxB X ≤ q → J Γ (hup hp q (eI X i.toNat (fun _ => 0))) (ce + 1) (sl + i.toNat) (pc + 2) lv (.ref q :: st)) :
    J Γ hp ce sl pc lv (.int (zI i) :: st) := by
  obtain ⟨p, l', e, R, s, m, args, below, meth, c, X', nL', post'⟩ := Γ
  obtain ⟨rfl, rfl, rfl, rfl, rfl, hx, hb, hml, hown, hts, hr, hlk, hG, hnm⟩ := M
  intro H locs ls hR hS hl
  have hr32 : r32 i := ⟨by omega, by omega⟩
  refine va_newaK (atype := .int) hx hb (hts _ qa) rfl d rfl (by rw [show (0 : Int32) = zI 0 from rfl, zI_lt hr32 (by decide)]; omega) (zI_clamp hr32) (by show i.toNat * _ ≤ _; simp only [newarray.typeOf, componentBytes]; omega) hc.1 hc.2 rfl fun H1 cA e1 z1 o1 hAr hNm => ?_
  have hcA : cA = cxC X' 0 := by
    have h2 := (hG.1.2 0 _ rfl).2
    exact Option.some.inj (hNm.symm.trans h2)
  subst hcA
  refine kk H.size hR.fresh hR.1 H1 locs ls (hR.new ?_ z1 o1) (S_grow hS (by omega) o1) hl
  show H1[H.size]? = some (vp_cell _ _)
  rw [e1, vp_cell_i]
  congr 2
theorem j_newB (M : Mok Γ l X y cc nL ret rm post) (qa : Cond.arrayClass .byte ∈ lw_all) (hn : 0 ≤ i ∧ i < 1000000) (hc : ce + 1 ≤ rm.cells ∧ sl + i.toNat ≤ rm.slots) (d : decode cc pc = .ok (.newarray .byte, 2)) (kk : ∀ q : Nat, hp q = none → cxB X ≤ q → J Γ (hup hp q (eB X i.toNat (fun _ => 0))) (ce + 1) (sl + i.toNat) (pc + 2) lv (.ref q :: st)) :
    J Γ hp ce sl pc lv (.int (zI i) :: st) := by
  obtain ⟨p, l', e, R, s, m, args, below, meth, c, X', nL', post'⟩ := Γ
  obtain ⟨rfl, rfl, rfl, rfl, rfl, hx, hb, hml, hown, hts, hr, hlk, hG, hnm⟩ := M
  intro H locs ls hR hS hl
  have hr32 : r32 i := ⟨by omega, by omega⟩
  refine va_newaK (atype := .byte) hx hb (hts _ qa) rfl d rfl (by rw [show (0 : Int32) = zI 0 from rfl, zI_lt hr32 (by decide)]; omega) (zI_clamp hr32) (by show i.toNat * _ ≤ _; simp only [newarray.typeOf, componentBytes]; omega) hc.1 hc.2 rfl fun H1 cA e1 z1 o1 hAr hNm => ?_
  have hcA : cA = cxC X' 1 := by
    have h2 := (hG.1.2 1 _ rfl).2
    exact Option.some.inj (hNm.symm.trans h2)
  subst hcA
  refine kk H.size hR.fresh hR.1 H1 locs ls (hR.new ?_ z1 o1) (S_grow hS (by omega) o1) hl
  show H1[H.size]? = some (vp_cell _ _)
  rw [e1, vp_cell_i]
  congr 2
theorem j_newZ (M : Mok Γ l X y cc nL ret rm post) (qa : Cond.arrayClass .boolean ∈ lw_all) (hn : 0 ≤ i ∧ i < 1000000) (hc : ce + 1 ≤ rm.cells ∧ sl + i.toNat ≤ rm.slots) (d : decode cc pc = .ok (.newarray .boolean, 2)) (kk : ∀ q : Nat, hp q = none → cxB X ≤ q → J Γ (hup hp q (eZ X i.toNat (fun _ => 0))) (ce + 1) (sl + i.toNat) (pc + 2) lv (.ref q :: st)) :
    J Γ hp ce sl pc lv (.int (zI i) :: st) := by
  obtain ⟨p, l', e, R, s, m, args, below, meth, c, X', nL', post'⟩ := Γ
  obtain ⟨rfl, rfl, rfl, rfl, rfl, hx, hb, hml, hown, hts, hr, hlk, hG, hnm⟩ := M
  intro H locs ls hR hS hl
  have hr32 : r32 i := ⟨by omega, by omega⟩
  refine va_newaK (atype := .boolean) hx hb (hts _ qa) rfl d rfl (by rw [show (0 : Int32) = zI 0 from rfl, zI_lt hr32 (by decide)]; omega) (zI_clamp hr32) (by show i.toNat * _ ≤ _; simp only [newarray.typeOf, componentBytes]; omega) hc.1 hc.2 rfl fun H1 cA e1 z1 o1 hAr hNm => ?_
  have hcA : cA = cxC X' 2 := by
    have h2 := (hG.1.2 2 _ rfl).2
    exact Option.some.inj (hNm.symm.trans h2)
  subst hcA
  refine kk H.size hR.fresh hR.1 H1 locs ls (hR.new ?_ z1 o1) (S_grow hS (by omega) o1) hl
  show H1[H.size]? = some (vp_cell _ _)
  rw [e1, vp_cell_i]
  congr 2
theorem j_new (M : Mok Γ l X y cc nL ret rm post) (hc : clz[ci]? = some (C, T, N)) (hin : ∀ w ∈ u_ws C T N, w ∈ lw_all) (ty : Nat → FieldType) (hty : ∀ k, k < N → parseFieldDescriptor (T k).2.2.1 = some (ty k)) (q1 : Cond.classLink y.cls index C ∈ lw_all) (q2 : Cond.instantiable C N ∈ lw_all) (q3 : Cond.initialized C ∈ lw_all) (fs : List Value) (hfs : ∀ j, j < N → defaultValue (ty j) = vp_V fs j) (hcs : ce + 1 ≤ rm.cells ∧ sl + N ≤ rm.slots) (d : decode cc pc = .ok (.new index, 3)) (kk : ∀ q : Nat, hp q = none → cxB X ≤ q → J Γ (hup hp q (.inr (ci, fs))) (ce + 1) (sl + N) (pc + 3) lv (.ref q :: st)) :
    J Γ hp ce sl pc lv st := by
  obtain ⟨p, l', e, R, s, m, args, below, meth, c, X', nL', post'⟩ := Γ
  obtain ⟨rfl, rfl, rfl, rfl, rfl, hx, hb, hml, hown, hts, hr, hlk, hG, hnm⟩ := M
  intro H locs ls hR hS hl
  have hKn := hG.1.1 ci _ hc
  refine W.newcK hx hb hown (hts _ q1) (hts _ q2) (hts _ q3) rfl d hcs.1 hcs.2 hKn.2.1 rfl fun H1 kC hkC e1 z1 o1 => ?_
  exact kk H.size hR.fresh hR.1 H1 locs ls (hR.new ⟨_, hc, (u_born ty hts hin hKn hkC e1 hty).to hfs⟩ z1 o1) (S_grow hS (by omega) o1) hl
theorem j_objInit (M : Mok Γ l X y cc nL ret rm post) (q1 : Cond.methodLink y.cls index Lib.objectInit ∈ lw_all) (q2 : Cond.instanceMethod Lib.objectInit ∈ lw_all) (q3 : Cond.code Lib.objectInit ⟨#[0xb1]⟩ 1 none ∈ lw_all) (hf : 1 ≤ rm.frames ∧ (st.map fun v => v.category).sum + 12 ≤ rm.locals) (d : decode cc pc = .ok (.invokespecial index, 3)) (kk : J Γ hp ce sl (pc + 3) lv st) :
    J Γ hp ce sl pc lv (.ref a :: st) := by
  obtain ⟨p, l', e, R, s, m, args, below, meth, c, X', nL', post'⟩ := Γ
  obtain ⟨rfl, rfl, rfl, rfl, rfl, hx, hb, hml, hown, hts, hr, hlk, hG, hnm⟩ := M
  intro H locs ls hR hS hl
  exact W.objInit hx hb hown (hts _ q1) (hts _ q2) (hts _ q3) rfl (hl.1.trans hml.symm) rfl d hf.1 (by show 2 * 0 + _ + 12 ≤ _; omega) (kk H locs ls hR hS hl)
end JH
section JC
variable {Γ : Gm} {l : Launch} {X : Cx} {y : MethodName} {cc : ByteArray} {nL : Nat} {ret : Option FieldType} {rm : Room} {post : Option Value → Hp → Prop} {hp : Hp} {ce sl pc : Nat} {lv : List (Nat × Value)} {st0 rest : List Value}
variable {yc xc : MethodName} {bytes : ByteArray} {maxL index : Nat} {retc : Option FieldType} {rmc : Room} {As : List Value} {postc : Option Value → Hp → Prop} {b : Nat} {C : String}
def Rn (Γ : Gm) (hp : Hp) (ce sl pc : Nat) (lv : List (Nat × Value)) (st0 rest : List Value) (rmc : Room) (postc : Option Value → Hp → Prop) : Prop :=
  match Γ with
  | (p, l, e, R, s, m, args, below, meth, c, X, nL, _) => ∀ (H : Heap) (locs : List Loc) (ls : Array Slot), Rl X hp H → va_S (cxA X) s.heap H locs → lv_has ls nL lv → ∃ a : Array Value, va_Run p l e R s m args below meth c H locs ce sl rmc.cells rmc.slots (F0 m pc ls st0) rest (Qg X postc a) (cxA X)
theorem j_run (hr : Rn Γ hp ce sl pc lv st0 rest rmc postc) (kk : ∀ (r : Option Value) (hp' : Hp), postc r hp' → J Γ hp' (ce + rmc.cells) (sl + rmc.slots) (pc + 3) lv (r.toList ++ rest)) : J Γ hp ce sl pc lv st0 := by
  obtain ⟨p, l', e, R, s, m, args, below, meth, c, X', nL', post'⟩ := Γ
  intro H locs ls hR hS hl T hT Xs
  obtain ⟨a, hr⟩ := hr H locs ls hR hS hl
  obtain ⟨v, st₀, t, T', L, h0, X', hL, e1, e2, ⟨⟨r, hp', hv, hp1, hR1⟩, hz, hk⟩, stp⟩ := hr T hT Xs
  cases hv
  rw [h0] at hz hk
  obtain ⟨t2, a1, b1⟩ := kk _ hp' hp1 T'.heap (locs ++ L) ls (by rw [e1]; exact hR1)
    ⟨Nat.le_trans hS.1 (by rw [e1]; exact hz), fun q h1 h2 => by rw [e1, hk q (Nat.lt_of_lt_of_le h1 hS.1) h2]; exact hS.2.1 q h1 h2, fun q hq => by
      rcases List.mem_append.mp hq with h | h
      · exact hS.2.2 q h
      · exact hL q h⟩ hl T' rfl X'
  exact ⟨t2, stp t2 a1, b1⟩
/-- the answer v, the heap h : known -/
theorem j_rV {v : Value} {h : Hp} (hr : Rn Γ hp ce sl pc lv st0 rest rmc (pD (some v) h)) (kk : J Γ h (ce + rmc.cells) (sl + rmc.slots) (pc + 3) lv (v :: rest)) : J Γ hp ce sl pc lv st0 :=
  j_run hr (fun r hp' hq => by obtain ⟨rfl, rfl⟩ := hq; exact kk)
theorem j_rN {h : Hp} (hr : Rn Γ hp ce sl pc lv st0 rest rmc (pD none h)) (kk : J Γ h (ce + rmc.cells) (sl + rmc.slots) (pc + 3) lv rest) : J Γ hp ce sl pc lv st0 :=
  j_run hr (fun r hp' hq => by obtain ⟨rfl, rfl⟩ := hq; exact kk)
theorem ct_blind {B : Hp} {avs : List Value} : FrameBlind (va_Pc avs (fun U => GX X U ∧ Rl X B U.heap)) := fun a U g mk q => ⟨q.1, q.2.1.call, q.2.2⟩
abbrev ndP (yc : MethodName) (n : Nat) : Prop := yc.cls ≠ "java/lang/invoke/MethodHandle" ∧ yc.cls ≠ "java/lang/invoke/VarHandle" ∧ (parseMethodDescriptor yc.desc).map (fun d => d.parameters.length) = some n
abbrev rmP (rmc rm : Room) (maxL ce sl : Nat) : Prop := rmc.frames + 1 ≤ rm.frames ∧ 8 + (maxL + 11) + rmc.locals ≤ rm.locals ∧ ce + rmc.cells ≤ rm.cells ∧ sl + rmc.slots ≤ rm.slots
theorem k_S (M : Mok Γ l X y cc nL ret rm post) (hM : Ct l X yc bytes maxL retc rmc As hp postc) (hw : GoodIn lw_all (va_wsS y.cls index yc (ws_ yc bytes maxL retc))) (hd : ndP yc As.length) (d : decode cc pc = .ok (.invokestatic index, 3)) (hR : rmP rmc rm maxL ce sl) (hst : st0 = As.reverse ++ rest) (hW : (rest.map fun v => v.category).sum ≤ 8) : Rn Γ hp ce sl pc lv st0 rest rmc postc := by
  obtain ⟨p, l', e, R, s, m, args, below, meth, c, X', nL', post'⟩ := Γ
  obtain ⟨rfl, rfl, rfl, rfl, rfl, hx, hb, hml, hown, hts, hr, hlk, hG, hnm⟩ := M
  intro H locs ls hRl hS hl
  subst hst
  exact ⟨_, va_runS ⟨hx, hb, hml, hown, hts⟩ hM (va_cwS _ hts hw rfl rfl rfl hd ⟨hR.1, hR.2.1⟩) ⟨ct_blind, fun U hU hW => ⟨rfl, hG.go hS hU hW, by rw [hU]; exact hRl⟩⟩ rfl rfl hl.1 rfl (by show 2 * 0 + _ ≤ 8; omega) d hR.2.2⟩
theorem k_SN (M : Mok Γ l X y cc nL ret rm post) {host : String} (hM : Ct l X yc bytes maxL retc rmc As hp postc) (hq : Cond.methodLinkNest y.cls index yc host ∈ lw_tbl) (hq2 : Cond.static yc ∈ lw_all) (hq3 : Cond.initialized yc.cls ∈ lw_all) (hw : GoodIn lw_all (ws_ yc bytes maxL retc)) (hd : ndP yc As.length) (d : decode cc pc = .ok (.invokestatic index, 3)) (hR : rmP rmc rm maxL ce sl) (hst : st0 = As.reverse ++ rest) (hW : (rest.map fun v => v.category).sum ≤ 8) : Rn Γ hp ce sl pc lv st0 rest rmc postc := by
  obtain ⟨p, l', e, R, s, m, args, below, meth, c, X', nL', post'⟩ := Γ
  obtain ⟨rfl, rfl, rfl, rfl, rfl, hx, hb, hml, hown, hts, hr, hlk, hG, hnm⟩ := M
  intro H locs ls hRl hS hl
  subst hst
  exact ⟨_, va_runSN ⟨hx, hb, hml, hown, hts⟩ hM ⟨va_cnB _ hts hw rfl rfl rfl (hG.2.1 _ (nw_at hq rfl)) (hts _ hq3) hd ⟨hR.1, hR.2.1⟩, hts _ hq2, trivial⟩ ⟨ct_blind, fun U hU hW => ⟨rfl, hG.go hS hU hW, by rw [hU]; exact hRl⟩⟩ rfl rfl hl.1 rfl (by show 2 * 0 + _ ≤ 8; omega) d hR.2.2⟩
theorem k_I (M : Mok Γ l X y cc nL ret rm post) (hM : Ct l X yc bytes maxL none rmc (.ref b :: As) hp postc) (hw : GoodIn lw_all (ws_ yc bytes maxL none)) (q1 : Cond.initialized yc.cls ∈ lw_all) (q2 : Cond.methodLink y.cls index yc ∈ lw_all) (q3 : Cond.instanceMethod yc ∈ lw_all) (hnm1 : yc.name = "<init>") (hd : ndP yc As.length) (d : decode cc pc = .ok (.invokespecial index, 3)) (hR : rmP rmc rm maxL ce sl) (hst : st0 = As.reverse ++ .ref b :: rest) (hW : (rest.map fun v => v.category).sum ≤ 8) : Rn Γ hp ce sl pc lv st0 rest rmc postc := by
  obtain ⟨p, l', e, R, s, m, args, below, meth, c, X', nL', post'⟩ := Γ
  obtain ⟨rfl, rfl, rfl, rfl, rfl, hx, hb, hml, hown, hts, hr, hlk, hG, hnm⟩ := M
  intro H locs ls hRl hS hl
  subst hst
  exact ⟨_, va_runI ⟨hx, hb, hml, hown, hts⟩ hM ⟨callB_of _ hts hw rfl rfl rfl (hts _ q1) (hts _ q2) hd ⟨hR.1, hR.2.1⟩, hnm1, hts _ q3⟩ ⟨ct_blind, fun U hU hW => ⟨rfl, hG.go hS hU hW, by rw [hU]; exact hRl⟩⟩ rfl rfl hl.1 rfl (by show 2 * 0 + _ ≤ 8; omega) d hR.2.2⟩
theorem k_IN (M : Mok Γ l X y cc nL ret rm post) {host : String} (hM : Ct l X yc bytes maxL none rmc (.ref b :: As) hp postc) (hq : Cond.methodLinkNest y.cls index yc host ∈ lw_tbl) (hw : GoodIn lw_all (ws_ yc bytes maxL none)) (q1 : Cond.initialized yc.cls ∈ lw_all) (q3 : Cond.instanceMethod yc ∈ lw_all) (hnm1 : yc.name = "<init>") (hd : ndP yc As.length) (d : decode cc pc = .ok (.invokespecial index, 3)) (hR : rmP rmc rm maxL ce sl) (hst : st0 = As.reverse ++ .ref b :: rest) (hW : (rest.map fun v => v.category).sum ≤ 8) : Rn Γ hp ce sl pc lv st0 rest rmc postc := by
  obtain ⟨p, l', e, R, s, m, args, below, meth, c, X', nL', post'⟩ := Γ
  obtain ⟨rfl, rfl, rfl, rfl, rfl, hx, hb, hml, hown, hts, hr, hlk, hG, hnm⟩ := M
  intro H locs ls hRl hS hl
  subst hst
  exact ⟨_, va_runIN ⟨hx, hb, hml, hown, hts⟩ hM ⟨va_cnB _ hts hw rfl rfl rfl (hG.2.1 _ (nw_at hq rfl)) (hts _ q1) hd ⟨hR.1, hR.2.1⟩, hnm1, hts _ q3⟩ ⟨ct_blind, fun U hU hW => ⟨rfl, hG.go hS hU hW, by rw [hU]; exact hRl⟩⟩ rfl rfl hl.1 rfl (by show 2 * 0 + _ ≤ 8; omega) d hR.2.2⟩
/-- the receiver's class, by the context -/
def Rc (Γ : Gm) (hp : Hp) (b : Nat) (C : String) : Prop :=
  match Γ with
  | (_, _, _, _, s, _, _, _, _, _, X, _, _) => ∀ (H : Heap) (locs : List Loc), Rl X hp H → va_S (cxA X) s.heap H locs → ∃ cell : Cell, H[b]? = some cell ∧ cell.vm.isStatics = false ∧ s.vm.findClass C = some cell.cls
theorem rc_of (M : Mok Γ l X y cc nL ret rm post) {ci : Nat} {fs : List Value} {T : u_T} {N : Nat} (he : hp b = some (.inr (ci, fs))) (hc : clz[ci]? = some (C, T, N)) : Rc Γ hp b C := by
  obtain ⟨p, l', e, R, s, m, args, below, meth, c, X', nL', post'⟩ := Γ
  obtain ⟨rfl, rfl, rfl, rfl, rfl, hx, hb, hml, hown, hts, hr, hlk, hG, hnm⟩ := M
  intro H locs hR hS
  exact va_recv (q0 := 0) hG.1 (va_P1 (hR.2 b _ he).2) hc rfl
theorem k_V (M : Mok Γ l X y cc nL ret rm post) (hM : Ct l X yc bytes maxL retc rmc (.ref b :: As) hp postc) (hrc : Rc Γ hp b yc.cls) (hw : GoodIn lw_all (wsV y.cls index yc.cls yc (ws_ yc bytes maxL retc))) (hd : ndP yc As.length) (d : decode cc pc = .ok (.invokevirtual index, 3)) (hR : rmP rmc rm maxL ce sl) (hst : st0 = As.reverse ++ .ref b :: rest) (hW : (rest.map fun v => v.category).sum ≤ 8) : Rn Γ hp ce sl pc lv st0 rest rmc postc := by
  obtain ⟨p, l', e, R, s, m, args, below, meth, c, X', nL', post'⟩ := Γ
  obtain ⟨rfl, rfl, rfl, rfl, rfl, hx, hb, hml, hown, hts, hr, hlk, hG, hnm⟩ := M
  intro H locs ls hRl hS hl
  subst hst
  exact ⟨_, va_runV (C := yc.cls) ⟨hx, hb, hml, hown, hts⟩ hM (cwV _ hts hw rfl rfl rfl ⟨rfl, hd⟩ ⟨hR.1, hR.2.1⟩) ⟨ct_blind, hrc H locs hRl hS, fun U hU hW => ⟨rfl, hG.go hS hU hW, by rw [hU]; exact hRl⟩⟩ rfl rfl hl.1 rfl (by show 2 * 0 + _ ≤ 8; omega) d hR.2.2⟩
theorem k_VN (M : Mok Γ l X y cc nL ret rm post) {host : String} (hM : Ct l X yc bytes maxL retc rmc (.ref b :: As) hp postc) (hrc : Rc Γ hp b yc.cls) (hq : Cond.methodLinkNest y.cls index yc host ∈ lw_tbl) (q1 : Cond.initialized yc.cls ∈ lw_all) (q2 : Cond.instanceMethod yc ∈ lw_all) (q3 : Cond.selects yc.cls yc yc ∈ lw_all) (hw : GoodIn lw_all (ws_ yc bytes maxL retc)) (hd : ndP yc As.length) (d : decode cc pc = .ok (.invokevirtual index, 3)) (hR : rmP rmc rm maxL ce sl) (hst : st0 = As.reverse ++ .ref b :: rest) (hW : (rest.map fun v => v.category).sum ≤ 8) : Rn Γ hp ce sl pc lv st0 rest rmc postc := by
  obtain ⟨p, l', e, R, s, m, args, below, meth, c, X', nL', post'⟩ := Γ
  obtain ⟨rfl, rfl, rfl, rfl, rfl, hx, hb, hml, hown, hts, hr, hlk, hG, hnm⟩ := M
  intro H locs ls hRl hS hl
  subst hst
  exact ⟨_, va_runVN (C := yc.cls) ⟨hx, hb, hml, hown, hts⟩ hM ⟨va_cnB _ hts hw rfl rfl rfl (hG.2.1 _ (nw_at hq rfl)) (hts _ q1) hd ⟨hR.1, hR.2.1⟩, hts _ q2, hts _ q3⟩ ⟨ct_blind, hrc H locs hRl hS, fun U hU hW => ⟨rfl, hG.go hS hU hW, by rw [hU]; exact hRl⟩⟩ rfl rfl hl.1 rfl (by show 2 * 0 + _ ≤ 8; omega) d hR.2.2⟩
/-- a method that the static class only declares -/
theorem k_A (M : Mok Γ l X y cc nL ret rm post) {owner : String} (hM : Ct l X yc bytes maxL retc rmc (.ref b :: As) hp postc) (hrc : Rc Γ hp b C) (hw : GoodIn lw_all (va_wsU y.cls index C owner xc yc (ws_ yc bytes maxL retc))) (hz : Cond.declares ⟨owner, xc.name, xc.desc⟩ ∈ lw_tbl) (hd : owner ≠ "java/lang/invoke/MethodHandle" ∧ owner ≠ "java/lang/invoke/VarHandle" ∧ (parseMethodDescriptor xc.desc).map (fun d => d.parameters.length) = some As.length) (d : decode cc pc = .ok (.invokevirtual index, 3)) (hR : rmP rmc rm maxL ce sl) (hst : st0 = As.reverse ++ .ref b :: rest) (hW : (rest.map fun v => v.category).sum ≤ 8) : Rn Γ hp ce sl pc lv st0 rest rmc postc := by
  obtain ⟨p, l', e, R, s, m, args, below, meth, c, X', nL', post'⟩ := Γ
  obtain ⟨rfl, rfl, rfl, rfl, rfl, hx, hb, hml, hown, hts, hr, hlk, hG, hnm⟩ := M
  intro H locs ls hRl hS hl
  subst hst
  exact ⟨_, va_runU (C := C) ⟨hx, hb, hml, hown, hts⟩ hM (va_cwA _ hts hw rfl rfl rfl (hG.2.1 _ (nw_at hz rfl)) hd ⟨hR.1, hR.2.1⟩) ⟨ct_blind, hrc H locs hRl hS, fun U hU hW => ⟨rfl, hG.go hS hU hW, by rw [hU]; exact hRl⟩⟩ rfl rfl hl.1 rfl (by show 2 * 0 + _ ≤ 8; omega) d hR.2.2⟩
/-- an inherited method -/
theorem k_U (M : Mok Γ l X y cc nL ret rm post) {owner : String} (hM : Ct l X yc bytes maxL retc rmc (.ref b :: As) hp postc) (hrc : Rc Γ hp b C) (hw : GoodIn lw_all (va_wsU y.cls index C owner xc yc (ws_ yc bytes maxL retc))) (hyx : yc = ⟨owner, xc.name, xc.desc⟩) (hd : owner ≠ "java/lang/invoke/MethodHandle" ∧ owner ≠ "java/lang/invoke/VarHandle" ∧ (parseMethodDescriptor xc.desc).map (fun d => d.parameters.length) = some As.length) (d : decode cc pc = .ok (.invokevirtual index, 3)) (hR : rmP rmc rm maxL ce sl) (hst : st0 = As.reverse ++ .ref b :: rest) (hW : (rest.map fun v => v.category).sum ≤ 8) : Rn Γ hp ce sl pc lv st0 rest rmc postc := by
  obtain ⟨p, l', e, R, s, m, args, below, meth, c, X', nL', post'⟩ := Γ
  obtain ⟨rfl, rfl, rfl, rfl, rfl, hx, hb, hml, hown, hts, hr, hlk, hG, hnm⟩ := M
  intro H locs ls hRl hS hl
  subst hst
  exact ⟨_, va_runU (C := C) ⟨hx, hb, hml, hown, hts⟩ hM (va_cwU _ hts hw rfl rfl rfl hyx hd ⟨hR.1, hR.2.1⟩) ⟨ct_blind, hrc H locs hRl hS, fun U hU hW => ⟨rfl, hG.go hS hU hW, by rw [hU]; exact hRl⟩⟩ rfl rfl hl.1 rfl (by show 2 * 0 + _ ≤ 8; omega) d hR.2.2⟩
/-- an overridden method -/
theorem k_O (M : Mok Γ l X y cc nL ret rm post) {owner : String} {b0 : ByteArray} {m0 : Nat} {r0 : Option FieldType} (hM : Ct l X yc bytes maxL retc rmc (.ref b :: As) hp postc) (hrc : Rc Γ hp b C) (hw : GoodIn lw_all (va_wsO y.cls index C owner xc yc (ws_ yc bytes maxL retc))) (h0 : Cond.code ⟨owner, xc.name, xc.desc⟩ b0 m0 r0 ∈ lw_all) (hd : owner ≠ "java/lang/invoke/MethodHandle" ∧ owner ≠ "java/lang/invoke/VarHandle" ∧ (parseMethodDescriptor xc.desc).map (fun d => d.parameters.length) = some As.length) (d : decode cc pc = .ok (.invokevirtual index, 3)) (hR : rmP rmc rm maxL ce sl) (hst : st0 = As.reverse ++ .ref b :: rest) (hW : (rest.map fun v => v.category).sum ≤ 8) : Rn Γ hp ce sl pc lv st0 rest rmc postc := by
  obtain ⟨p, l', e, R, s, m, args, below, meth, c, X', nL', post'⟩ := Γ
  obtain ⟨rfl, rfl, rfl, rfl, rfl, hx, hb, hml, hown, hts, hr, hlk, hG, hnm⟩ := M
  intro H locs ls hRl hS hl
  subst hst
  exact ⟨_, va_runU (C := C) ⟨hx, hb, hml, hown, hts⟩ hM (va_cwO _ hts hw rfl rfl rfl h0 hd ⟨hR.1, hR.2.1⟩) ⟨ct_blind, hrc H locs hRl hS, fun U hU hW => ⟨rfl, hG.go hS hU hW, by rw [hU]; exact hRl⟩⟩ rfl rfl hl.1 rfl (by show 2 * 0 + _ ≤ 8; omega) d hR.2.2⟩
/-- super.m(..) -/
theorem k_SU (M : Mok Γ l X y cc nL ret rm post) {ci : Nat} {T : u_T} {N : Nat} (hM : Ct l X yc bytes maxL retc rmc (.ref b :: As) hp postc) (hrc : Rc Γ hp b C) (hc : clz[ci]? = some (C, T, N)) (hw : GoodIn lw_all (va_wsSU y.cls index yc (ws_ yc bytes maxL retc))) (hd : yc.name ≠ "<init>" ∧ (parseMethodDescriptor yc.desc).map (fun d => d.parameters.length) = some As.length) (d : decode cc pc = .ok (.invokespecial index, 3)) (hR : rmP rmc rm maxL ce sl) (hst : st0 = As.reverse ++ .ref b :: rest) (hW : (rest.map fun v => v.category).sum ≤ 8) : Rn Γ hp ce sl pc lv st0 rest rmc postc := by
  obtain ⟨p, l', e, R, s, m, args, below, meth, c, X', nL', post'⟩ := Γ
  obtain ⟨rfl, rfl, rfl, rfl, rfl, hx, hb, hml, hown, hts, hr, hlk, hG, hnm⟩ := M
  intro H locs ls hRl hS hl
  subst hst
  exact ⟨_, va_runSU (C := C) (hG.1.1 ci _ hc).2 ⟨hx, hb, hml, hown, hts⟩ hM (va_cwSU _ hts hw rfl rfl rfl hd ⟨hR.1, hR.2.1⟩) ⟨ct_blind, hrc H locs hRl hS, fun U hU hW => ⟨rfl, hG.go hS hU hW, by rw [hU]; exact hRl⟩⟩ rfl rfl hl.1 rfl (by show 2 * 0 + _ ≤ 8; omega) d hR.2.2⟩
theorem Ct.mono {avs : List Value} {p1 p2 : Option Value → Hp → Prop} (h : Ct l X yc bytes maxL retc rmc avs hp p1) (hi : ∀ r h1, p1 r h1 → p2 r h1) : Ct l X yc bytes maxL retc rmc avs hp p2 := by
  unfold Ct Met at *
  refine MetFree.mono h (fun _ _ q => q) (fun _ _ _ _ _ q => q) (fun a st o t _ q => ?_)
  obtain ⟨⟨⟨r, hp', h1, h2, h3⟩, h4⟩, h5⟩ := q
  exact ⟨⟨⟨r, hp', h1, hi r hp' h2, h3⟩, h4⟩, h5⟩
end JC
