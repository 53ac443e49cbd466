/-! 16: more rows of J -/
set_option maxRecDepth 100000
theorem lw_U {own : String} {idx : Nat} {C owner : String} {x y : MethodName} {b : ByteArray} {L : Nat} {r : Option FieldType} (h1 : Cond.methodLink own idx x ∈ lw_all) (h2 : Cond.sameMethod x.cls owner x.name x.desc ∈ lw_all) (h3 : Cond.selects C x y ∈ lw_all) (h4 : Cond.instanceMethod y ∈ lw_all) (h5 : Cond.initialized y.cls ∈ lw_all) (h6 : Cond.code y b L r ∈ lw_all) : GoodIn lw_all (va_wsU own idx C owner x y (ws_ y b L r)) := by
  refine lw_app ?_ (lw_meth h6)
  intro w hw
  simp only [List.mem_cons, List.not_mem_nil, or_false] at hw
  rcases hw with e | e | e | e | e
  · rw [e]; exact h1
  · rw [e]; exact h2
  · rw [e]; exact h3
  · rw [e]; exact h4
  · rw [e]; exact h5
theorem lw_O {own : String} {idx : Nat} {C owner : String} {x y : MethodName} {b : ByteArray} {L : Nat} {r : Option FieldType} (h1 : Cond.methodLink own idx x ∈ lw_all) (h2 : Cond.sameMethod x.cls owner x.name x.desc ∈ lw_all) (h0 : Cond.instanceMethod ⟨owner, x.name, x.desc⟩ ∈ lw_all) (h3 : Cond.selects C x y ∈ lw_all) (h4 : Cond.instanceMethod y ∈ lw_all) (h5 : Cond.initialized y.cls ∈ lw_all) (h6 : Cond.code y b L r ∈ lw_all) : GoodIn lw_all (va_wsO own idx C owner x y (ws_ y b L r)) := by
  refine lw_app ?_ (lw_meth h6)
  intro w hw
  simp only [List.mem_cons, List.not_mem_nil, or_false] at hw
  rcases hw with e | e | e | e | e | e
  · rw [e]; exact h1
  · rw [e]; exact h2
  · rw [e]; exact h0
  · rw [e]; exact h3
  · rw [e]; exact h4
  · rw [e]; exact h5
theorem lw_SU {own : String} {idx : Nat} {y : MethodName} {b : ByteArray} {L : Nat} {r : Option FieldType} (h1 : Cond.methodLink own idx y ∈ lw_all) (h2 : Cond.sameMethod y.cls y.cls y.name y.desc ∈ lw_all) (h3 : Cond.superclass own y.cls ∈ lw_all) (h4 : Cond.instanceMethod y ∈ lw_all) (h5 : Cond.initialized y.cls ∈ lw_all) (h6 : Cond.code y b L r ∈ lw_all) : GoodIn lw_all (va_wsSU own idx y (ws_ y b L r)) := by
  refine lw_app ?_ (lw_meth h6)
  intro w hw
  simp only [List.mem_cons, List.not_mem_nil, or_false] at hw
  rcases hw with e | e | e | e | e
  · rw [e]; exact h1
  · rw [e]; exact h2
  · rw [e]; exact h3
  · rw [e]; exact h4
  · rw [e]; exact h5
section JM
variable {Γ : Gm} {l : Launch} {X : Cx} {y : MethodName} {cc : ByteArray} {nL : Nat} {ret : Option FieldType} {rm : Room} {post : Option Value → Hp → Prop} {hp : Hp} {ce sl pc : Nat} {lv : List (Nat × Value)} {st : List Value}
variable {C : String} {T : u_T} {N ci index a : Nat} {fs : List Value}
theorem j_putI (M : Mok Γ l X y cc nL ret rm post) (he : hp a = some (.inr (ci, fs))) (hc : clz[ci]? = some (C, T, N)) (k : Nat) (hk : k < N) (hin : ∀ w ∈ u_ws C T N, w ∈ lw_all) (ty0 : Nat → FieldType) (hty : ∀ k, k < N → parseFieldDescriptor (T k).2.2.1 = some (ty0 k)) (hnm0 : ∀ a, a < N → ∀ b, b < N → a ≠ b → (T a).2.1 ≠ (T b).2.1) {ref : String} (q : Cond.fieldLink y.cls index ref (T k).2.1 (T k).2.2.1 ∈ lw_all) (qs : Cond.sameField ref (T k).1 (T k).2.1 (T k).2.2.1 ∈ lw_all) (hfin : (T k).2.2.2 = false) {v : Value} (hn : narrow (ty0 k) v = v) (hfit : fits (ty0 k) v = true) (hlen : k < fs.length) (d : decode cc pc = .ok (.putfield index, 3)) (kk : J Γ (hup hp a (.inr (ci, fs.set k v))) ce sl (pc + 3) lv st) :
    J Γ hp ce sl pc lv (v :: .ref a :: st) := by
  obtain ⟨p, l', e, R, s, m, args, below, meth, c, X', nL', post'⟩ := Γ
  obtain ⟨rfl, rfl, rfl, rfl, rfl, hx, hb, hml, hown, hts, hr, hlk, hG, hnm⟩ := M
  intro H locs ls hR hS hl
  have hK := hG.1
  have ha := hR.2 a _ he
  have hap := va_apart (own := y.cls) hts hin ty0 hty hnm0 hK hc
  obtain ⟨r, h1, cell, q1, q2, q3, q4⟩ := ha.2
  have hr2 : r = (C, T, N) := Option.some.inj (h1.symm.trans hc)
  subst hr2
  obtain ⟨hSl, hfc, kC, hkC, hkind⟩ := hK.1 ci _ hc
  obtain ⟨cf, kf, fi, f, hi, hsl⟩ := hSl k hk
  have hlay := hts _ (hin _ (u_in_lay hk))
  unfold u_lay at hlay
  rw [if_neg (by rw [hfin]; decide)] at hlay
  have hst := (u_facts hfc hkC (u_lays hts hin hk) hi).1
  have h6 := u_store hfc hkC hkind hlay hi (hty k hk) hn hfit
  refine W.putK hx hb (f := f) ⟨hown, hts _ q, ⟨_, _, _, u_same (hts _ qs) _ hi⟩, hst⟩ (by rw [q2]; exact h6) q1 q3 (by rw [hsl]; exact k2_hasslot (q4 k hk)) rfl rfl d fun H' e1 e2 e3 => ?_
  rw [hsl] at e1 ⊢
  exact kk H' _ ls (hR.up ha.1 ⟨_, hc, t_OB.to (V := updV (vp_V fs) k v) ⟨_, e1, q2, q3, t_set q4 hap hk v⟩ (fun j _ => vp_updV_set hlen v j)⟩ (by rw [e2]; exact Nat.le_refl _) (fun q _ h => e3 q h)) (hS.put e2 e3 ha.1) hl
theorem j_aaldO (M : Mok Γ l X y cc nL ret rm post) {n : Nat} {g : Nat → Option Nat} {i : Int} {v : Nat} (he : hp a = some (eO X n g)) (hi : inb i n) (hg : g i.toNat = some v) (d : decode cc pc = .ok (.aaload, 1)) (kk : J Γ hp ce sl (pc + 1) lv (.ref v :: st)) :
    J Γ hp ce sl pc lv (.int (zI i) :: .ref a :: st) := by
  obtain ⟨p, l', e, R, s, m, args, below, meth, c, X', nL', post'⟩ := Γ
  obtain ⟨rfl, rfl, rfl, rfl, rfl, hx, hb, hml, hown, hts, hr, hlk, hG, hnm⟩ := M
  intro H locs ls hR hS hl
  refine va_aldq hx hb hG.1 (va_P1 (hR.2 a _ he).2) 0 3 rfl rfl (zI_in hi.1 hi.2.1 hi.2.2) d ?_
  rw [zI_clamp ⟨by omega, hi.2.2⟩, hg]
  exact kk H locs ls hR hS hl
theorem j_aaldW (M : Mok Γ l X y cc nL ret rm post) {n : Nat} {g : Nat → Option Nat} {i : Int} {v : Nat} (he : hp a = some (eW X n g)) (hi : inb i n) (hg : g i.toNat = some v) (d : decode cc pc = .ok (.aaload, 1)) (kk : J Γ hp ce sl (pc + 1) lv (.ref v :: st)) :
    J Γ hp ce sl pc lv (.int (zI i) :: .ref a :: st) := by
  obtain ⟨p, l', e, R, s, m, args, below, meth, c, X', nL', post'⟩ := Γ
  obtain ⟨rfl, rfl, rfl, rfl, rfl, hx, hb, hml, hown, hts, hr, hlk, hG, hnm⟩ := M
  intro H locs ls hR hS hl
  refine va_aldq hx hb hG.1 (va_P1 (hR.2 a _ he).2) 0 4 rfl rfl (zI_in hi.1 hi.2.1 hi.2.2) d ?_
  rw [zI_clamp ⟨by omega, hi.2.2⟩, hg]
  exact kk H locs ls hR hS hl
end JM
theorem df_X0 : ∀ j, j < 15 → defaultValue (tyX0 j) = vp_V [.null, .null, .null, .int (zI 0), .int (zI 0), .null, .int (zI 0), .int (zI 0), .null, .long (zL 0), .null, .null, .int (zI 0), .int (zI 0), .null] j := by
  intro j hj
  match j, hj with
  | 0, _ => rfl
  | 1, _ => rfl
  | 2, _ => rfl
  | 3, _ => rfl
  | 4, _ => rfl
  | 5, _ => rfl
  | 6, _ => rfl
  | 7, _ => rfl
  | 8, _ => rfl
  | 9, _ => rfl
  | 10, _ => rfl
  | 11, _ => rfl
  | 12, _ => rfl
  | 13, _ => rfl
  | 14, _ => rfl
  | k + 15, h => omega
theorem df_X1 : ∀ j, j < 4 → defaultValue (tyX1 j) = vp_V [.null, .int (zI 0), .int (zI 0), .int (zI 0)] j := by
  intro j hj
  match j, hj with
  | 0, _ => rfl
  | 1, _ => rfl
  | 2, _ => rfl
  | 3, _ => rfl
  | k + 4, h => omega
theorem df_X3 : ∀ j, j < 4 → defaultValue (tyX3 j) = vp_V [.int (zI 0), .int (zB false), .null, .null] j := by
  intro j hj
  match j, hj with
  | 0, _ => rfl
  | 1, _ => rfl
  | 2, _ => rfl
  | 3, _ => rfl
  | k + 4, h => omega
theorem df_J2 : ∀ j, j < 3 → defaultValue (tyJ2 j) = vp_V [.int (zI 0), .null, .int (zI 0)] j := by
  intro j hj
  match j, hj with
  | 0, _ => rfl
  | 1, _ => rfl
  | 2, _ => rfl
  | k + 3, h => omega
theorem df_X5 : ∀ j, j < 4 → defaultValue (tyX5 j) = vp_V [.int (zI 0), .int (zI 0), .int (zI 0), .int (zI 0)] j := by
  intro j hj
  match j, hj with
  | 0, _ => rfl
  | 1, _ => rfl
  | 2, _ => rfl
  | 3, _ => rfl
  | k + 4, h => omega
theorem df_X12 : ∀ j, j < 6 → defaultValue (tyX12 j) = vp_V [.int (zI 0), .null, .null, .int (zI 0), .int (zI 0), .int (zI 0)] j := by
  intro j hj
  match j, hj with
  | 0, _ => rfl
  | 1, _ => rfl
  | 2, _ => rfl
  | 3, _ => rfl
  | 4, _ => rfl
  | 5, _ => rfl
  | k + 6, h => omega
theorem df_X7 : ∀ j, j < 2 → defaultValue (tyX7 j) = vp_V [.int (zI 0), .int (zI 0)] j := by
  intro j hj
  match j, hj with
  | 0, _ => rfl
  | 1, _ => rfl
  | k + 2, h => omega
theorem df_X8 : ∀ j, j < 2 → defaultValue (tyX8 j) = vp_V [.int (zI 0), .int (zI 0)] j := by
  intro j hj
  match j, hj with
  | 0, _ => rfl
  | 1, _ => rfl
  | k + 2, h => omega
theorem df_X10 : ∀ j, j < 3 → defaultValue (tyX10 j) = vp_V [.int (zI 0), .int (zI 0), .int (zI 0)] j := by
  intro j hj
  match j, hj with
  | 0, _ => rfl
  | 1, _ => rfl
  | 2, _ => rfl
  | k + 3, h => omega
theorem df_X11 : ∀ j, j < 1 → defaultValue (tyX11 j) = vp_V [.int (zI 0)] j := by
  intro j hj
  match j, hj with
  | 0, _ => rfl
  | k + 1, h => omega
