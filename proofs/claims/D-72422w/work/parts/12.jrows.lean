/-! 12: the rows of J, an instruction a row -/
set_option maxRecDepth 100000
section JR
variable {Γ : Gm} {l : Launch} {X : Cx} {y : MethodName} {cc : ByteArray} {nL : Nat} {ret : Option FieldType} {rm : Room} {post : Option Value → Hp → Prop} {hp : Hp} {ce sl pc : Nat} {lv : List (Nat × Value)} {st : List Value}
theorem j_iconst (M : Mok Γ l X y cc nL ret rm post) {n : Int} (d : decode cc pc = .ok (.iconst n, 1)) (k : J Γ hp ce sl (pc + 1) lv (.int (zI n) :: st)) :
    J Γ hp ce sl pc lv (st) := by
  obtain ⟨p, l', e, R, s, m, args, below, meth, c, X', nL', post'⟩ := Γ
  obtain ⟨rfl, rfl, rfl, rfl, rfl, hx, hb, hml, hown, hts, hr, hlk, hG, hnm⟩ := M
  intro H locs ls hR hS hl
  exact lv_iconst hx hb d rfl (k H locs ls hR hS hl)
theorem j_lconst (M : Mok Γ l X y cc nL ret rm post) {n : Fin 2} {z : Int} (hz : ((n : Nat) : Int) = z) (d : decode cc pc = .ok (.lconst n, 1)) (k : J Γ hp ce sl (pc + 1) lv (.long (zL z) :: st)) :
    J Γ hp ce sl pc lv (st) := by
  obtain ⟨p, l', e, R, s, m, args, below, meth, c, X', nL', post'⟩ := Γ
  obtain ⟨rfl, rfl, rfl, rfl, rfl, hx, hb, hml, hown, hts, hr, hlk, hG, hnm⟩ := M
  intro H locs ls hR hS hl
  subst hz
  exact lv_lconst (v := zL n) hx hb d (by have h : ∀ k : Fin 2, Int64.ofNat (k : Nat) = zL k := (by decide); exact h n) (k H locs ls hR hS hl)
theorem j_bipush (M : Mok Γ l X y cc nL ret rm post) {n : Int} (d : decode cc pc = .ok (.bipush n, 2)) (hn : -128 ≤ n ∧ n < 128) (k : J Γ hp ce sl (pc + 2) lv (.int (zI n) :: st)) :
    J Γ hp ce sl pc lv (st) := by
  obtain ⟨p, l', e, R, s, m, args, below, meth, c, X', nL', post'⟩ := Γ
  obtain ⟨rfl, rfl, rfl, rfl, rfl, hx, hb, hml, hown, hts, hr, hlk, hG, hnm⟩ := M
  intro H locs ls hR hS hl
  exact lv_bipush hx hb d (zI_bipush hn.1 hn.2) (k H locs ls hR hS hl)
theorem j_sipush (M : Mok Γ l X y cc nL ret rm post) {n : Int} (d : decode cc pc = .ok (.sipush n, 3)) (hn : -32768 ≤ n ∧ n < 32768) (k : J Γ hp ce sl (pc + 3) lv (.int (zI n) :: st)) :
    J Γ hp ce sl pc lv (st) := by
  obtain ⟨p, l', e, R, s, m, args, below, meth, c, X', nL', post'⟩ := Γ
  obtain ⟨rfl, rfl, rfl, rfl, rfl, hx, hb, hml, hown, hts, hr, hlk, hG, hnm⟩ := M
  intro H locs ls hR hS hl
  exact lv_sipush hx hb d (zI_sipush hn.1 hn.2) (k H locs ls hR hS hl)
theorem j_ldc (M : Mok Γ l X y cc nL ret rm post) {i : Nat} {v : Int32} (n : Int) (q : Cond.constant y.cls i v ∈ lw_all) (hv : v = zI n) (d : decode cc pc = .ok (.ldc i, 2)) (k : J Γ hp ce sl (pc + 2) lv (.int (zI n) :: st)) :
    J Γ hp ce sl pc lv (st) := by
  obtain ⟨p, l', e, R, s, m, args, below, meth, c, X', nL', post'⟩ := Γ
  obtain ⟨rfl, rfl, rfl, rfl, rfl, hx, hb, hml, hown, hts, hr, hlk, hG, hnm⟩ := M
  intro H locs ls hR hS hl
  subst hv
  exact lv_ldc hx hb hown (hts _ q) d (k H locs ls hR hS hl)
theorem j_ldcw (M : Mok Γ l X y cc nL ret rm post) {i : Nat} {v : Int32} (n : Int) (q : Cond.constant y.cls i v ∈ lw_all) (hv : v = zI n) (d : decode cc pc = .ok (.ldc_w i, 3)) (k : J Γ hp ce sl (pc + 3) lv (.int (zI n) :: st)) :
    J Γ hp ce sl pc lv (st) := by
  obtain ⟨p, l', e, R, s, m, args, below, meth, c, X', nL', post'⟩ := Γ
  obtain ⟨rfl, rfl, rfl, rfl, rfl, hx, hb, hml, hown, hts, hr, hlk, hG, hnm⟩ := M
  intro H locs ls hR hS hl
  subst hv
  exact lv_ldcw hx hb hown (hts _ q) d (k H locs ls hR hS hl)
theorem j_ldc2 (M : Mok Γ l X y cc nL ret rm post) {i : Nat} {v : Int64} (n : Int) (q : Cond.constantLong y.cls i v ∈ lw_all) (hv : v = zL n) (d : decode cc pc = .ok (.ldc2_w i, 3)) (k : J Γ hp ce sl (pc + 3) lv (.long (zL n) :: st)) :
    J Γ hp ce sl pc lv (st) := by
  obtain ⟨p, l', e, R, s, m, args, below, meth, c, X', nL', post'⟩ := Γ
  obtain ⟨rfl, rfl, rfl, rfl, rfl, hx, hb, hml, hown, hts, hr, hlk, hG, hnm⟩ := M
  intro H locs ls hR hS hl
  subst hv
  exact lv_ldc2 hx hb hown (hts _ q) d (k H locs ls hR hS hl)
theorem j_iload_n (M : Mok Γ l X y cc nL ret rm post) {i : Fin 4} {x : Int32} (d : decode cc pc = .ok (.iload_n i, 1)) (j : Nat) (hj : lv[j]? = some ((i : Nat), .int x)) (k : J Γ hp ce sl (pc + 1) lv (.int x :: st)) :
    J Γ hp ce sl pc lv (st) := by
  obtain ⟨p, l', e, R, s, m, args, below, meth, c, X', nL', post'⟩ := Γ
  obtain ⟨rfl, rfl, rfl, rfl, rfl, hx, hb, hml, hown, hts, hr, hlk, hG, hnm⟩ := M
  intro H locs ls hR hS hl
  exact lv_iload_n hx hb d rfl (lv_at hl j hj) (k H locs ls hR hS hl)
theorem j_iload (M : Mok Γ l X y cc nL ret rm post) {i : Nat} {x : Int32} (d : decode cc pc = .ok (.iload i, 2)) (j : Nat) (hj : lv[j]? = some (i, .int x)) (k : J Γ hp ce sl (pc + 2) lv (.int x :: st)) :
    J Γ hp ce sl pc lv (st) := by
  obtain ⟨p, l', e, R, s, m, args, below, meth, c, X', nL', post'⟩ := Γ
  obtain ⟨rfl, rfl, rfl, rfl, rfl, hx, hb, hml, hown, hts, hr, hlk, hG, hnm⟩ := M
  intro H locs ls hR hS hl
  exact lv_iload hx hb d (lv_at hl j hj) (k H locs ls hR hS hl)
theorem j_istore (M : Mok Γ l X y cc nL ret rm post) {i : Nat} {x : Int32} (d : decode cc pc = .ok (.istore i, 2)) (hn : i < nL) (k : J Γ hp ce sl (pc + 2) (stl i (.int x) lv) (st)) :
    J Γ hp ce sl pc lv (.int x :: st) := by
  obtain ⟨p, l', e, R, s, m, args, below, meth, c, X', nL', post'⟩ := Γ
  obtain ⟨rfl, rfl, rfl, rfl, rfl, hx, hb, hml, hown, hts, hr, hlk, hG, hnm⟩ := M
  intro H locs ls hR hS hl
  exact lv_istore hx hb d hl hn rfl (fun ls' h => k H locs ls' hR hS (lv_mem h (fun _ hq => stl_mem hq)))
theorem j_istore_n (M : Mok Γ l X y cc nL ret rm post) {i : Fin 4} {x : Int32} (d : decode cc pc = .ok (.istore_n i, 1)) (hn : (i : Nat) < nL) (k : J Γ hp ce sl (pc + 1) (stl i (.int x) lv) (st)) :
    J Γ hp ce sl pc lv (.int x :: st) := by
  obtain ⟨p, l', e, R, s, m, args, below, meth, c, X', nL', post'⟩ := Γ
  obtain ⟨rfl, rfl, rfl, rfl, rfl, hx, hb, hml, hown, hts, hr, hlk, hG, hnm⟩ := M
  intro H locs ls hR hS hl
  exact lv_istore_n hx hb d rfl hl hn rfl (fun ls' h => k H locs ls' hR hS (lv_mem h (fun _ hq => stl_mem hq)))
theorem j_lload_n (M : Mok Γ l X y cc nL ret rm post) {i : Fin 4} {x : Int64} (d : decode cc pc = .ok (.lload_n i, 1)) (j : Nat) (hj : lv[j]? = some ((i : Nat), .long x)) (k : J Γ hp ce sl (pc + 1) lv (.long x :: st)) :
    J Γ hp ce sl pc lv (st) := by
  obtain ⟨p, l', e, R, s, m, args, below, meth, c, X', nL', post'⟩ := Γ
  obtain ⟨rfl, rfl, rfl, rfl, rfl, hx, hb, hml, hown, hts, hr, hlk, hG, hnm⟩ := M
  intro H locs ls hR hS hl
  exact lv_lload_n hx hb d rfl (lv_at hl j hj) (k H locs ls hR hS hl)
theorem j_lload (M : Mok Γ l X y cc nL ret rm post) {i : Nat} {x : Int64} (d : decode cc pc = .ok (.lload i, 2)) (j : Nat) (hj : lv[j]? = some (i, .long x)) (k : J Γ hp ce sl (pc + 2) lv (.long x :: st)) :
    J Γ hp ce sl pc lv (st) := by
  obtain ⟨p, l', e, R, s, m, args, below, meth, c, X', nL', post'⟩ := Γ
  obtain ⟨rfl, rfl, rfl, rfl, rfl, hx, hb, hml, hown, hts, hr, hlk, hG, hnm⟩ := M
  intro H locs ls hR hS hl
  exact lv_lload hx hb d (lv_at hl j hj) (k H locs ls hR hS hl)
theorem j_lstore (M : Mok Γ l X y cc nL ret rm post) {i : Nat} {x : Int64} (d : decode cc pc = .ok (.lstore i, 2)) (hn : i + 1 < nL) (k : J Γ hp ce sl (pc + 2) (stl2 i (.long x) lv) (st)) :
    J Γ hp ce sl pc lv (.long x :: st) := by
  obtain ⟨p, l', e, R, s, m, args, below, meth, c, X', nL', post'⟩ := Γ
  obtain ⟨rfl, rfl, rfl, rfl, rfl, hx, hb, hml, hown, hts, hr, hlk, hG, hnm⟩ := M
  intro H locs ls hR hS hl
  exact lv_lstore hx hb d hl hn rfl (fun ls' h => k H locs ls' hR hS (lv_mem h (fun _ hq => stl2_mem hq)))
theorem j_lstore_n (M : Mok Γ l X y cc nL ret rm post) {i : Fin 4} {x : Int64} (d : decode cc pc = .ok (.lstore_n i, 1)) (hn : (i : Nat) + 1 < nL) (k : J Γ hp ce sl (pc + 1) (stl2 i (.long x) lv) (st)) :
    J Γ hp ce sl pc lv (.long x :: st) := by
  obtain ⟨p, l', e, R, s, m, args, below, meth, c, X', nL', post'⟩ := Γ
  obtain ⟨rfl, rfl, rfl, rfl, rfl, hx, hb, hml, hown, hts, hr, hlk, hG, hnm⟩ := M
  intro H locs ls hR hS hl
  exact lv_lstore_n hx hb d rfl hl hn rfl (fun ls' h => k H locs ls' hR hS (lv_mem h (fun _ hq => stl2_mem hq)))
theorem j_aload_n (M : Mok Γ l X y cc nL ret rm post) {i : Fin 4} {x : Nat} (d : decode cc pc = .ok (.aload_n i, 1)) (j : Nat) (hj : lv[j]? = some ((i : Nat), .ref x)) (k : J Γ hp ce sl (pc + 1) lv (.ref x :: st)) :
    J Γ hp ce sl pc lv (st) := by
  obtain ⟨p, l', e, R, s, m, args, below, meth, c, X', nL', post'⟩ := Γ
  obtain ⟨rfl, rfl, rfl, rfl, rfl, hx, hb, hml, hown, hts, hr, hlk, hG, hnm⟩ := M
  intro H locs ls hR hS hl
  exact lv_aload_n hx hb d rfl (lv_at hl j hj) (k H locs ls hR hS hl)
theorem j_aload (M : Mok Γ l X y cc nL ret rm post) {i : Nat} {x : Nat} (d : decode cc pc = .ok (.aload i, 2)) (j : Nat) (hj : lv[j]? = some (i, .ref x)) (k : J Γ hp ce sl (pc + 2) lv (.ref x :: st)) :
    J Γ hp ce sl pc lv (st) := by
  obtain ⟨p, l', e, R, s, m, args, below, meth, c, X', nL', post'⟩ := Γ
  obtain ⟨rfl, rfl, rfl, rfl, rfl, hx, hb, hml, hown, hts, hr, hlk, hG, hnm⟩ := M
  intro H locs ls hR hS hl
  exact lv_aload hx hb d (lv_at hl j hj) (k H locs ls hR hS hl)
theorem j_astore (M : Mok Γ l X y cc nL ret rm post) {i : Nat} {x : Nat} (d : decode cc pc = .ok (.astore i, 2)) (hn : i < nL) (k : J Γ hp ce sl (pc + 2) (stl i (.ref x) lv) (st)) :
    J Γ hp ce sl pc lv (.ref x :: st) := by
  obtain ⟨p, l', e, R, s, m, args, below, meth, c, X', nL', post'⟩ := Γ
  obtain ⟨rfl, rfl, rfl, rfl, rfl, hx, hb, hml, hown, hts, hr, hlk, hG, hnm⟩ := M
  intro H locs ls hR hS hl
  exact lv_astore hx hb d hl hn rfl (fun ls' h => k H locs ls' hR hS (lv_mem h (fun _ hq => stl_mem hq)))
theorem j_astore_n (M : Mok Γ l X y cc nL ret rm post) {i : Fin 4} {x : Nat} (d : decode cc pc = .ok (.astore_n i, 1)) (hn : (i : Nat) < nL) (k : J Γ hp ce sl (pc + 1) (stl i (.ref x) lv) (st)) :
    J Γ hp ce sl pc lv (.ref x :: st) := by
  obtain ⟨p, l', e, R, s, m, args, below, meth, c, X', nL', post'⟩ := Γ
  obtain ⟨rfl, rfl, rfl, rfl, rfl, hx, hb, hml, hown, hts, hr, hlk, hG, hnm⟩ := M
  intro H locs ls hR hS hl
  exact lv_astore_n hx hb d rfl hl hn rfl (fun ls' h => k H locs ls' hR hS (lv_mem h (fun _ hq => stl_mem hq)))
theorem j_aload_nN (M : Mok Γ l X y cc nL ret rm post) {i : Fin 4} (d : decode cc pc = .ok (.aload_n i, 1)) (j : Nat) (hj : lv[j]? = some ((i : Nat), .null)) (k : J Γ hp ce sl (pc + 1) lv (.null :: st)) :
    J Γ hp ce sl pc lv (st) := by
  obtain ⟨p, l', e, R, s, m, args, below, meth, c, X', nL', post'⟩ := Γ
  obtain ⟨rfl, rfl, rfl, rfl, rfl, hx, hb, hml, hown, hts, hr, hlk, hG, hnm⟩ := M
  intro H locs ls hR hS hl
  exact lv_aload_nN hx hb d rfl (lv_at hl j hj) (k H locs ls hR hS hl)
theorem j_aloadN (M : Mok Γ l X y cc nL ret rm post) {i : Nat} (d : decode cc pc = .ok (.aload i, 2)) (j : Nat) (hj : lv[j]? = some (i, .null)) (k : J Γ hp ce sl (pc + 2) lv (.null :: st)) :
    J Γ hp ce sl pc lv (st) := by
  obtain ⟨p, l', e, R, s, m, args, below, meth, c, X', nL', post'⟩ := Γ
  obtain ⟨rfl, rfl, rfl, rfl, rfl, hx, hb, hml, hown, hts, hr, hlk, hG, hnm⟩ := M
  intro H locs ls hR hS hl
  exact lv_aloadN hx hb d (lv_at hl j hj) (k H locs ls hR hS hl)
theorem j_astore_nN (M : Mok Γ l X y cc nL ret rm post) {i : Fin 4} (d : decode cc pc = .ok (.astore_n i, 1)) (hn : (i : Nat) < nL) (k : J Γ hp ce sl (pc + 1) (stl i .null lv) (st)) :
    J Γ hp ce sl pc lv (.null :: st) := by
  obtain ⟨p, l', e, R, s, m, args, below, meth, c, X', nL', post'⟩ := Γ
  obtain ⟨rfl, rfl, rfl, rfl, rfl, hx, hb, hml, hown, hts, hr, hlk, hG, hnm⟩ := M
  intro H locs ls hR hS hl
  exact lv_astore_nN hx hb d rfl hl hn rfl (fun ls' h => k H locs ls' hR hS (lv_mem h (fun _ hq => stl_mem hq)))
theorem j_astoreN (M : Mok Γ l X y cc nL ret rm post) {i : Nat} (d : decode cc pc = .ok (.astore i, 2)) (hn : i < nL) (k : J Γ hp ce sl (pc + 2) (stl i .null lv) (st)) :
    J Γ hp ce sl pc lv (.null :: st) := by
  obtain ⟨p, l', e, R, s, m, args, below, meth, c, X', nL', post'⟩ := Γ
  obtain ⟨rfl, rfl, rfl, rfl, rfl, hx, hb, hml, hown, hts, hr, hlk, hG, hnm⟩ := M
  intro H locs ls hR hS hl
  exact lv_astoreN hx hb d hl hn rfl (fun ls' h => k H locs ls' hR hS (lv_mem h (fun _ hq => stl_mem hq)))
theorem j_iinc (M : Mok Γ l X y cc nL ret rm post) {i : Nat} {n a : Int} (d : decode cc pc = .ok (.iinc i n, 3)) (j : Nat) (hj : lv[j]? = some (i, .int (zI a))) (hn : i < nL) (k : J Γ hp ce sl (pc + 3) (stl i (.int (zI (a + n))) lv) (st)) :
    J Γ hp ce sl pc lv (st) := by
  obtain ⟨p, l', e, R, s, m, args, below, meth, c, X', nL', post'⟩ := Γ
  obtain ⟨rfl, rfl, rfl, rfl, rfl, hx, hb, hml, hown, hts, hr, hlk, hG, hnm⟩ := M
  intro H locs ls hR hS hl
  exact lv_iinc (v := zI (a + n)) hx hb d hl hj (zI_add a n) hn rfl (fun ls' h => k H locs ls' hR hS (lv_mem h (fun _ hq => stl_mem hq)))
theorem j_iadd (M : Mok Γ l X y cc nL ret rm post) {a b : Int} (d : decode cc pc = .ok (.iadd, 1)) (k : J Γ hp ce sl (pc + 1) lv (.int (zI (a + b)) :: st)) :
    J Γ hp ce sl pc lv (.int (zI b) :: .int (zI a) :: st) := by
  obtain ⟨p, l', e, R, s, m, args, below, meth, c, X', nL', post'⟩ := Γ
  obtain ⟨rfl, rfl, rfl, rfl, rfl, hx, hb, hml, hown, hts, hr, hlk, hG, hnm⟩ := M
  intro H locs ls hR hS hl
  have k := k H locs ls hR hS hl
  rw [← zI_add] at k
  exact lv_iadd hx hb d k
theorem j_isub (M : Mok Γ l X y cc nL ret rm post) {a b : Int} (d : decode cc pc = .ok (.isub, 1)) (k : J Γ hp ce sl (pc + 1) lv (.int (zI (a - b)) :: st)) :
    J Γ hp ce sl pc lv (.int (zI b) :: .int (zI a) :: st) := by
  obtain ⟨p, l', e, R, s, m, args, below, meth, c, X', nL', post'⟩ := Γ
  obtain ⟨rfl, rfl, rfl, rfl, rfl, hx, hb, hml, hown, hts, hr, hlk, hG, hnm⟩ := M
  intro H locs ls hR hS hl
  have k := k H locs ls hR hS hl
  rw [← zI_sub] at k
  exact lv_isub hx hb d k
theorem j_imul (M : Mok Γ l X y cc nL ret rm post) {a b : Int} (d : decode cc pc = .ok (.imul, 1)) (k : J Γ hp ce sl (pc + 1) lv (.int (zI (a * b)) :: st)) :
    J Γ hp ce sl pc lv (.int (zI b) :: .int (zI a) :: st) := by
  obtain ⟨p, l', e, R, s, m, args, below, meth, c, X', nL', post'⟩ := Γ
  obtain ⟨rfl, rfl, rfl, rfl, rfl, hx, hb, hml, hown, hts, hr, hlk, hG, hnm⟩ := M
  intro H locs ls hR hS hl
  have k := k H locs ls hR hS hl
  rw [← zI_mul] at k
  exact lv_imul hx hb d k
theorem j_ladd (M : Mok Γ l X y cc nL ret rm post) {a b : Int} (d : decode cc pc = .ok (.ladd, 1)) (k : J Γ hp ce sl (pc + 1) lv (.long (zL (a + b)) :: st)) :
    J Γ hp ce sl pc lv (.long (zL b) :: .long (zL a) :: st) := by
  obtain ⟨p, l', e, R, s, m, args, below, meth, c, X', nL', post'⟩ := Γ
  obtain ⟨rfl, rfl, rfl, rfl, rfl, hx, hb, hml, hown, hts, hr, hlk, hG, hnm⟩ := M
  intro H locs ls hR hS hl
  have k := k H locs ls hR hS hl
  rw [← zL_add] at k
  exact lv_ladd hx hb d k
theorem j_lsub (M : Mok Γ l X y cc nL ret rm post) {a b : Int} (d : decode cc pc = .ok (.lsub, 1)) (k : J Γ hp ce sl (pc + 1) lv (.long (zL (a - b)) :: st)) :
    J Γ hp ce sl pc lv (.long (zL b) :: .long (zL a) :: st) := by
  obtain ⟨p, l', e, R, s, m, args, below, meth, c, X', nL', post'⟩ := Γ
  obtain ⟨rfl, rfl, rfl, rfl, rfl, hx, hb, hml, hown, hts, hr, hlk, hG, hnm⟩ := M
  intro H locs ls hR hS hl
  have k := k H locs ls hR hS hl
  rw [← zL_sub] at k
  exact lv_lsub hx hb d k
theorem j_lmul (M : Mok Γ l X y cc nL ret rm post) {a b : Int} (d : decode cc pc = .ok (.lmul, 1)) (k : J Γ hp ce sl (pc + 1) lv (.long (zL (a * b)) :: st)) :
    J Γ hp ce sl pc lv (.long (zL b) :: .long (zL a) :: st) := by
  obtain ⟨p, l', e, R, s, m, args, below, meth, c, X', nL', post'⟩ := Γ
  obtain ⟨rfl, rfl, rfl, rfl, rfl, hx, hb, hml, hown, hts, hr, hlk, hG, hnm⟩ := M
  intro H locs ls hR hS hl
  have k := k H locs ls hR hS hl
  rw [← zL_mul] at k
  exact lv_lmul hx hb d k
theorem j_ineg (M : Mok Γ l X y cc nL ret rm post) {a : Int} (d : decode cc pc = .ok (.ineg, 1)) (k : J Γ hp ce sl (pc + 1) lv (.int (zI (-a)) :: st)) :
    J Γ hp ce sl pc lv (.int (zI a) :: st) := by
  obtain ⟨p, l', e, R, s, m, args, below, meth, c, X', nL', post'⟩ := Γ
  obtain ⟨rfl, rfl, rfl, rfl, rfl, hx, hb, hml, hown, hts, hr, hlk, hG, hnm⟩ := M
  intro H locs ls hR hS hl
  have k := k H locs ls hR hS hl
  rw [← zI_neg] at k
  exact lv_ineg hx hb d k
theorem j_lneg (M : Mok Γ l X y cc nL ret rm post) {a : Int} (d : decode cc pc = .ok (.lneg, 1)) (k : J Γ hp ce sl (pc + 1) lv (.long (zL (-a)) :: st)) :
    J Γ hp ce sl pc lv (.long (zL a) :: st) := by
  obtain ⟨p, l', e, R, s, m, args, below, meth, c, X', nL', post'⟩ := Γ
  obtain ⟨rfl, rfl, rfl, rfl, rfl, hx, hb, hml, hown, hts, hr, hlk, hG, hnm⟩ := M
  intro H locs ls hR hS hl
  have k := k H locs ls hR hS hl
  rw [← zL_neg] at k
  exact lv_lneg hx hb d k
theorem j_idiv (M : Mok Γ l X y cc nL ret rm post) {a b : Int} (d : decode cc pc = .ok (.idiv, 1)) (h0 : b ≠ 0) (h1 : r32 a ∧ r32 b) (k : J Γ hp ce sl (pc + 1) lv (.int (zI (a.tdiv b)) :: st)) :
    J Γ hp ce sl pc lv (.int (zI b) :: .int (zI a) :: st) := by
  obtain ⟨p, l', e, R, s, m, args, below, meth, c, X', nL', post'⟩ := Γ
  obtain ⟨rfl, rfl, rfl, rfl, rfl, hx, hb, hml, hown, hts, hr, hlk, hG, hnm⟩ := M
  intro H locs ls hR hS hl
  have k := k H locs ls hR hS hl
  rw [← zI_div h1.1 h1.2] at k
  exact lv_idiv hx hb d (fun h => h0 ((zI_eq h1.2 (by omega)).mp (h.trans zI_0.symm))) k
theorem j_irem (M : Mok Γ l X y cc nL ret rm post) {a b : Int} (d : decode cc pc = .ok (.irem, 1)) (h0 : b ≠ 0) (h1 : r32 a ∧ r32 b) (k : J Γ hp ce sl (pc + 1) lv (.int (zI (a.tmod b)) :: st)) :
    J Γ hp ce sl pc lv (.int (zI b) :: .int (zI a) :: st) := by
  obtain ⟨p, l', e, R, s, m, args, below, meth, c, X', nL', post'⟩ := Γ
  obtain ⟨rfl, rfl, rfl, rfl, rfl, hx, hb, hml, hown, hts, hr, hlk, hG, hnm⟩ := M
  intro H locs ls hR hS hl
  have k := k H locs ls hR hS hl
  rw [← zI_rem h1.1 h1.2] at k
  exact lv_irem hx hb d (fun h => h0 ((zI_eq h1.2 (by omega)).mp (h.trans zI_0.symm))) k
theorem j_idivE (M : Mok Γ l X y cc nL ret rm post) {a b : Int} (d : decode cc pc = .ok (.idiv, 1)) (h0 : 0 ≤ a ∧ 0 < b) (h1 : r32 a ∧ r32 b) (k : J Γ hp ce sl (pc + 1) lv (.int (zI (a / b)) :: st)) :
    J Γ hp ce sl pc lv (.int (zI b) :: .int (zI a) :: st) := by
  obtain ⟨p, l', e, R, s, m, args, below, meth, c, X', nL', post'⟩ := Γ
  obtain ⟨rfl, rfl, rfl, rfl, rfl, hx, hb, hml, hown, hts, hr, hlk, hG, hnm⟩ := M
  intro H locs ls hR hS hl
  have k := k H locs ls hR hS hl
  rw [← Int.tdiv_eq_ediv_of_nonneg h0.1, ← zI_div h1.1 h1.2] at k
  exact lv_idiv hx hb d (fun h => absurd ((zI_eq h1.2 (by omega)).mp (h.trans zI_0.symm)) (by omega)) k
theorem j_iremE (M : Mok Γ l X y cc nL ret rm post) {a b : Int} (d : decode cc pc = .ok (.irem, 1)) (h0 : 0 ≤ a ∧ 0 < b) (h1 : r32 a ∧ r32 b) (k : J Γ hp ce sl (pc + 1) lv (.int (zI (a % b)) :: st)) :
    J Γ hp ce sl pc lv (.int (zI b) :: .int (zI a) :: st) := by
  obtain ⟨p, l', e, R, s, m, args, below, meth, c, X', nL', post'⟩ := Γ
  obtain ⟨rfl, rfl, rfl, rfl, rfl, hx, hb, hml, hown, hts, hr, hlk, hG, hnm⟩ := M
  intro H locs ls hR hS hl
  have k := k H locs ls hR hS hl
  rw [← Int.tmod_eq_emod_of_nonneg h0.1, ← zI_rem h1.1 h1.2] at k
  exact lv_irem hx hb d (fun h => absurd ((zI_eq h1.2 (by omega)).mp (h.trans zI_0.symm)) (by omega)) k
theorem j_ldiv (M : Mok Γ l X y cc nL ret rm post) {a b : Int} (d : decode cc pc = .ok (.ldiv, 1)) (h0 : b ≠ 0) (h1 : r64 a ∧ r64 b) (k : J Γ hp ce sl (pc + 1) lv (.long (zL (a.tdiv b)) :: st)) :
    J Γ hp ce sl pc lv (.long (zL b) :: .long (zL a) :: st) := by
  obtain ⟨p, l', e, R, s, m, args, below, meth, c, X', nL', post'⟩ := Γ
  obtain ⟨rfl, rfl, rfl, rfl, rfl, hx, hb, hml, hown, hts, hr, hlk, hG, hnm⟩ := M
  intro H locs ls hR hS hl
  have k := k H locs ls hR hS hl
  rw [← zL_div h1.1 h1.2] at k
  exact lv_ldiv hx hb d (fun h => h0 ((zL_eq h1.2 (by omega)).mp (h.trans zL_0.symm))) k
theorem j_lrem (M : Mok Γ l X y cc nL ret rm post) {a b : Int} (d : decode cc pc = .ok (.lrem, 1)) (h0 : b ≠ 0) (h1 : r64 a ∧ r64 b) (k : J Γ hp ce sl (pc + 1) lv (.long (zL (a.tmod b)) :: st)) :
    J Γ hp ce sl pc lv (.long (zL b) :: .long (zL a) :: st) := by
  obtain ⟨p, l', e, R, s, m, args, below, meth, c, X', nL', post'⟩ := Γ
  obtain ⟨rfl, rfl, rfl, rfl, rfl, hx, hb, hml, hown, hts, hr, hlk, hG, hnm⟩ := M
  intro H locs ls hR hS hl
  have k := k H locs ls hR hS hl
  rw [← zL_rem h1.1 h1.2] at k
  exact lv_lrem hx hb d (fun h => h0 ((zL_eq h1.2 (by omega)).mp (h.trans zL_0.symm))) k
theorem j_ldivE (M : Mok Γ l X y cc nL ret rm post) {a b : Int} (d : decode cc pc = .ok (.ldiv, 1)) (h0 : 0 ≤ a ∧ 0 < b) (h1 : r64 a ∧ r64 b) (k : J Γ hp ce sl (pc + 1) lv (.long (zL (a / b)) :: st)) :
    J Γ hp ce sl pc lv (.long (zL b) :: .long (zL a) :: st) := by
  obtain ⟨p, l', e, R, s, m, args, below, meth, c, X', nL', post'⟩ := Γ
  obtain ⟨rfl, rfl, rfl, rfl, rfl, hx, hb, hml, hown, hts, hr, hlk, hG, hnm⟩ := M
  intro H locs ls hR hS hl
  have k := k H locs ls hR hS hl
  rw [← Int.tdiv_eq_ediv_of_nonneg h0.1, ← zL_div h1.1 h1.2] at k
  exact lv_ldiv hx hb d (fun h => absurd ((zL_eq h1.2 (by omega)).mp (h.trans zL_0.symm)) (by omega)) k
theorem j_lremE (M : Mok Γ l X y cc nL ret rm post) {a b : Int} (d : decode cc pc = .ok (.lrem, 1)) (h0 : 0 ≤ a ∧ 0 < b) (h1 : r64 a ∧ r64 b) (k : J Γ hp ce sl (pc + 1) lv (.long (zL (a % b)) :: st)) :
    J Γ hp ce sl pc lv (.long (zL b) :: .long (zL a) :: st) := by
  obtain ⟨p, l', e, R, s, m, args, below, meth, c, X', nL', post'⟩ := Γ
  obtain ⟨rfl, rfl, rfl, rfl, rfl, hx, hb, hml, hown, hts, hr, hlk, hG, hnm⟩ := M
  intro H locs ls hR hS hl
  have k := k H locs ls hR hS hl
  rw [← Int.tmod_eq_emod_of_nonneg h0.1, ← zL_rem h1.1 h1.2] at k
  exact lv_lrem hx hb d (fun h => absurd ((zL_eq h1.2 (by omega)).mp (h.trans zL_0.symm)) (by omega)) k
theorem j_i2l (M : Mok Γ l X y cc nL ret rm post) {a : Int} (d : decode cc pc = .ok (.i2l, 1)) (h : r32 a) (k : J Γ hp ce sl (pc + 1) lv (.long (zL a) :: st)) :
    J Γ hp ce sl pc lv (.int (zI a) :: st) := by
  obtain ⟨p, l', e, R, s, m, args, below, meth, c, X', nL', post'⟩ := Γ
  obtain ⟨rfl, rfl, rfl, rfl, rfl, hx, hb, hml, hown, hts, hr, hlk, hG, hnm⟩ := M
  intro H locs ls hR hS hl
  exact lv_i2l hx hb d (zI_i2l h) (k H locs ls hR hS hl)
theorem j_l2i (M : Mok Γ l X y cc nL ret rm post) {a : Int} (d : decode cc pc = .ok (.l2i, 1)) (k : J Γ hp ce sl (pc + 1) lv (.int (zI a) :: st)) :
    J Γ hp ce sl pc lv (.long (zL a) :: st) := by
  obtain ⟨p, l', e, R, s, m, args, below, meth, c, X', nL', post'⟩ := Γ
  obtain ⟨rfl, rfl, rfl, rfl, rfl, hx, hb, hml, hown, hts, hr, hlk, hG, hnm⟩ := M
  intro H locs ls hR hS hl
  exact lv_l2i hx hb d (zL_l2i a) (k H locs ls hR hS hl)
theorem j_i2b (M : Mok Γ l X y cc nL ret rm post) {a : Int} (d : decode cc pc = .ok (.i2b, 1)) (h : -128 ≤ a ∧ a < 128) (k : J Γ hp ce sl (pc + 1) lv (.int (zI a) :: st)) :
    J Γ hp ce sl pc lv (.int (zI a) :: st) := by
  obtain ⟨p, l', e, R, s, m, args, below, meth, c, X', nL', post'⟩ := Γ
  obtain ⟨rfl, rfl, rfl, rfl, rfl, hx, hb, hml, hown, hts, hr, hlk, hG, hnm⟩ := M
  intro H locs ls hR hS hl
  exact lv_i2b hx hb d (zI_i2b h.1 h.2) (k H locs ls hR hS hl)
theorem j_ior (M : Mok Γ l X y cc nL ret rm post) {a b : Int32} (d : decode cc pc = .ok (.ior, 1)) (k : J Γ hp ce sl (pc + 1) lv (.int (a ||| b) :: st)) :
    J Γ hp ce sl pc lv (.int b :: .int a :: st) := by
  obtain ⟨p, l', e, R, s, m, args, below, meth, c, X', nL', post'⟩ := Γ
  obtain ⟨rfl, rfl, rfl, rfl, rfl, hx, hb, hml, hown, hts, hr, hlk, hG, hnm⟩ := M
  intro H locs ls hR hS hl
  exact lv_ior hx hb d (k H locs ls hR hS hl)
theorem j_iand (M : Mok Γ l X y cc nL ret rm post) {a b : Int32} (d : decode cc pc = .ok (.iand, 1)) (k : J Γ hp ce sl (pc + 1) lv (.int (a &&& b) :: st)) :
    J Γ hp ce sl pc lv (.int b :: .int a :: st) := by
  obtain ⟨p, l', e, R, s, m, args, below, meth, c, X', nL', post'⟩ := Γ
  obtain ⟨rfl, rfl, rfl, rfl, rfl, hx, hb, hml, hown, hts, hr, hlk, hG, hnm⟩ := M
  intro H locs ls hR hS hl
  exact lv_iand hx hb d (k H locs ls hR hS hl)
theorem j_ishl (M : Mok Γ l X y cc nL ret rm post) {a b : Int32} (d : decode cc pc = .ok (.ishl, 1)) (k : J Γ hp ce sl (pc + 1) lv (.int (a <<< (b &&& 31)) :: st)) :
    J Γ hp ce sl pc lv (.int b :: .int a :: st) := by
  obtain ⟨p, l', e, R, s, m, args, below, meth, c, X', nL', post'⟩ := Γ
  obtain ⟨rfl, rfl, rfl, rfl, rfl, hx, hb, hml, hown, hts, hr, hlk, hG, hnm⟩ := M
  intro H locs ls hR hS hl
  exact lv_ishl hx hb d (k H locs ls hR hS hl)
theorem j_land (M : Mok Γ l X y cc nL ret rm post) {a b : Int64} (d : decode cc pc = .ok (.land, 1)) (k : J Γ hp ce sl (pc + 1) lv (.long (a &&& b) :: st)) :
    J Γ hp ce sl pc lv (.long b :: .long a :: st) := by
  obtain ⟨p, l', e, R, s, m, args, below, meth, c, X', nL', post'⟩ := Γ
  obtain ⟨rfl, rfl, rfl, rfl, rfl, hx, hb, hml, hown, hts, hr, hlk, hG, hnm⟩ := M
  intro H locs ls hR hS hl
  exact lv_land hx hb d (k H locs ls hR hS hl)
theorem j_dup (M : Mok Γ l X y cc nL ret rm post) {v : Value} (d : decode cc pc = .ok (.dup, 1)) (hv : v.category = 1) (k : J Γ hp ce sl (pc + 1) lv (v :: v :: st)) :
    J Γ hp ce sl pc lv (v :: st) := by
  obtain ⟨p, l', e, R, s, m, args, below, meth, c, X', nL', post'⟩ := Γ
  obtain ⟨rfl, rfl, rfl, rfl, rfl, hx, hb, hml, hown, hts, hr, hlk, hG, hnm⟩ := M
  intro H locs ls hR hS hl
  exact lv_dup hx hb d hv (k H locs ls hR hS hl)
theorem j_pop (M : Mok Γ l X y cc nL ret rm post) {v : Value} (d : decode cc pc = .ok (.pop, 1)) (hv : v.category = 1) (k : J Γ hp ce sl (pc + 1) lv (st)) :
    J Γ hp ce sl pc lv (v :: st) := by
  obtain ⟨p, l', e, R, s, m, args, below, meth, c, X', nL', post'⟩ := Γ
  obtain ⟨rfl, rfl, rfl, rfl, rfl, hx, hb, hml, hown, hts, hr, hlk, hG, hnm⟩ := M
  intro H locs ls hR hS hl
  exact lv_pop hx hb d hv (k H locs ls hR hS hl)
theorem j_aconst_null (M : Mok Γ l X y cc nL ret rm post) (d : decode cc pc = .ok (.aconst_null, 1)) (k : J Γ hp ce sl (pc + 1) lv (.null :: st)) :
    J Γ hp ce sl pc lv (st) := by
  obtain ⟨p, l', e, R, s, m, args, below, meth, c, X', nL', post'⟩ := Γ
  obtain ⟨rfl, rfl, rfl, rfl, rfl, hx, hb, hml, hown, hts, hr, hlk, hG, hnm⟩ := M
  intro H locs ls hR hS hl
  exact lv_null hx hb d (k H locs ls hR hS hl)
theorem j_icmp_eq (M : Mok Γ l X y cc nL ret rm post) {a b : Int} {off : Int} (tgt : Nat) (d : decode cc pc = .ok (.if_icmp .eq off, 3)) (ht : (pc : Int) + off = (tgt : Int)) (h : r32 a ∧ r32 b) (kt : a = b → J Γ hp ce sl tgt lv (st)) (kf : a ≠ b → J Γ hp ce sl (pc + 3) lv (st)) :
    J Γ hp ce sl pc lv (.int (zI b) :: .int (zI a) :: st) := by
  obtain ⟨p, l', e, R, s, m, args, below, meth, c, X', nL', post'⟩ := Γ
  obtain ⟨rfl, rfl, rfl, rfl, rfl, hx, hb, hml, hown, hts, hr, hlk, hG, hnm⟩ := M
  intro H locs ls hR hS hl
  exact lv_icmp_eq hx hb d ht (fun q => kt ((zI_eq h.1 h.2).mp q) H locs ls hR hS hl) (fun q => kf (fun w => q ((zI_eq h.1 h.2).mpr w)) H locs ls hR hS hl)
theorem j_if_eq (M : Mok Γ l X y cc nL ret rm post) {a : Int} {off : Int} (tgt : Nat) (d : decode cc pc = .ok (.ifCond .eq off, 3)) (ht : (pc : Int) + off = (tgt : Int)) (h0 : r32 a) (kt : a = 0 → J Γ hp ce sl tgt lv (st)) (kf : a ≠ 0 → J Γ hp ce sl (pc + 3) lv (st)) :
    J Γ hp ce sl pc lv (.int (zI a) :: st) := by
  obtain ⟨p, l', e, R, s, m, args, below, meth, c, X', nL', post'⟩ := Γ
  obtain ⟨rfl, rfl, rfl, rfl, rfl, hx, hb, hml, hown, hts, hr, hlk, hG, hnm⟩ := M
  intro H locs ls hR hS hl
  have h : r32 a ∧ r32 0 := ⟨h0, by decide⟩
  exact lv_if_eq hx hb d ht (fun q => kt ((zI_eq h.1 h.2).mp q) H locs ls hR hS hl) (fun q => kf (fun w => q ((zI_eq h.1 h.2).mpr w)) H locs ls hR hS hl)
theorem j_icmp_ne (M : Mok Γ l X y cc nL ret rm post) {a b : Int} {off : Int} (tgt : Nat) (d : decode cc pc = .ok (.if_icmp .ne off, 3)) (ht : (pc : Int) + off = (tgt : Int)) (h : r32 a ∧ r32 b) (kt : a ≠ b → J Γ hp ce sl tgt lv (st)) (kf : a = b → J Γ hp ce sl (pc + 3) lv (st)) :
    J Γ hp ce sl pc lv (.int (zI b) :: .int (zI a) :: st) := by
  obtain ⟨p, l', e, R, s, m, args, below, meth, c, X', nL', post'⟩ := Γ
  obtain ⟨rfl, rfl, rfl, rfl, rfl, hx, hb, hml, hown, hts, hr, hlk, hG, hnm⟩ := M
  intro H locs ls hR hS hl
  exact lv_icmp_ne hx hb d ht (fun q => kt (fun w => q ((zI_eq h.1 h.2).mpr w)) H locs ls hR hS hl) (fun q => kf ((zI_eq h.1 h.2).mp q) H locs ls hR hS hl)
theorem j_if_ne (M : Mok Γ l X y cc nL ret rm post) {a : Int} {off : Int} (tgt : Nat) (d : decode cc pc = .ok (.ifCond .ne off, 3)) (ht : (pc : Int) + off = (tgt : Int)) (h0 : r32 a) (kt : a ≠ 0 → J Γ hp ce sl tgt lv (st)) (kf : a = 0 → J Γ hp ce sl (pc + 3) lv (st)) :
    J Γ hp ce sl pc lv (.int (zI a) :: st) := by
  obtain ⟨p, l', e, R, s, m, args, below, meth, c, X', nL', post'⟩ := Γ
  obtain ⟨rfl, rfl, rfl, rfl, rfl, hx, hb, hml, hown, hts, hr, hlk, hG, hnm⟩ := M
  intro H locs ls hR hS hl
  have h : r32 a ∧ r32 0 := ⟨h0, by decide⟩
  exact lv_if_ne hx hb d ht (fun q => kt (fun w => q ((zI_eq h.1 h.2).mpr w)) H locs ls hR hS hl) (fun q => kf ((zI_eq h.1 h.2).mp q) H locs ls hR hS hl)
theorem j_icmp_lt (M : Mok Γ l X y cc nL ret rm post) {a b : Int} {off : Int} (tgt : Nat) (d : decode cc pc = .ok (.if_icmp .lt off, 3)) (ht : (pc : Int) + off = (tgt : Int)) (h : r32 a ∧ r32 b) (kt : a < b → J Γ hp ce sl tgt lv (st)) (kf : b ≤ a → J Γ hp ce sl (pc + 3) lv (st)) :
    J Γ hp ce sl pc lv (.int (zI b) :: .int (zI a) :: st) := by
  obtain ⟨p, l', e, R, s, m, args, below, meth, c, X', nL', post'⟩ := Γ
  obtain ⟨rfl, rfl, rfl, rfl, rfl, hx, hb, hml, hown, hts, hr, hlk, hG, hnm⟩ := M
  intro H locs ls hR hS hl
  exact lv_icmp_lt hx hb d ht (fun q => kt ((zI_lt h.1 h.2).mp q) H locs ls hR hS hl) (fun q => kf (Int.not_lt.mp fun w => q ((zI_lt h.1 h.2).mpr w)) H locs ls hR hS hl)
theorem j_if_lt (M : Mok Γ l X y cc nL ret rm post) {a : Int} {off : Int} (tgt : Nat) (d : decode cc pc = .ok (.ifCond .lt off, 3)) (ht : (pc : Int) + off = (tgt : Int)) (h0 : r32 a) (kt : a < 0 → J Γ hp ce sl tgt lv (st)) (kf : 0 ≤ a → J Γ hp ce sl (pc + 3) lv (st)) :
    J Γ hp ce sl pc lv (.int (zI a) :: st) := by
  obtain ⟨p, l', e, R, s, m, args, below, meth, c, X', nL', post'⟩ := Γ
  obtain ⟨rfl, rfl, rfl, rfl, rfl, hx, hb, hml, hown, hts, hr, hlk, hG, hnm⟩ := M
  intro H locs ls hR hS hl
  have h : r32 a ∧ r32 0 := ⟨h0, by decide⟩
  exact lv_if_lt hx hb d ht (fun q => kt ((zI_lt h.1 h.2).mp q) H locs ls hR hS hl) (fun q => kf (Int.not_lt.mp fun w => q ((zI_lt h.1 h.2).mpr w)) H locs ls hR hS hl)
theorem j_icmp_ge (M : Mok Γ l X y cc nL ret rm post) {a b : Int} {off : Int} (tgt : Nat) (d : decode cc pc = .ok (.if_icmp .ge off, 3)) (ht : (pc : Int) + off = (tgt : Int)) (h : r32 a ∧ r32 b) (kt : b ≤ a → J Γ hp ce sl tgt lv (st)) (kf : a < b → J Γ hp ce sl (pc + 3) lv (st)) :
    J Γ hp ce sl pc lv (.int (zI b) :: .int (zI a) :: st) := by
  obtain ⟨p, l', e, R, s, m, args, below, meth, c, X', nL', post'⟩ := Γ
  obtain ⟨rfl, rfl, rfl, rfl, rfl, hx, hb, hml, hown, hts, hr, hlk, hG, hnm⟩ := M
  intro H locs ls hR hS hl
  exact lv_icmp_ge hx hb d ht (fun q => kt ((zI_le h.2 h.1).mp q) H locs ls hR hS hl) (fun q => kf (Int.not_le.mp fun w => q ((zI_le h.2 h.1).mpr w)) H locs ls hR hS hl)
theorem j_if_ge (M : Mok Γ l X y cc nL ret rm post) {a : Int} {off : Int} (tgt : Nat) (d : decode cc pc = .ok (.ifCond .ge off, 3)) (ht : (pc : Int) + off = (tgt : Int)) (h0 : r32 a) (kt : 0 ≤ a → J Γ hp ce sl tgt lv (st)) (kf : a < 0 → J Γ hp ce sl (pc + 3) lv (st)) :
    J Γ hp ce sl pc lv (.int (zI a) :: st) := by
  obtain ⟨p, l', e, R, s, m, args, below, meth, c, X', nL', post'⟩ := Γ
  obtain ⟨rfl, rfl, rfl, rfl, rfl, hx, hb, hml, hown, hts, hr, hlk, hG, hnm⟩ := M
  intro H locs ls hR hS hl
  have h : r32 a ∧ r32 0 := ⟨h0, by decide⟩
  exact lv_if_ge hx hb d ht (fun q => kt ((zI_le h.2 h.1).mp q) H locs ls hR hS hl) (fun q => kf (Int.not_le.mp fun w => q ((zI_le h.2 h.1).mpr w)) H locs ls hR hS hl)
theorem j_icmp_gt (M : Mok Γ l X y cc nL ret rm post) {a b : Int} {off : Int} (tgt : Nat) (d : decode cc pc = .ok (.if_icmp .gt off, 3)) (ht : (pc : Int) + off = (tgt : Int)) (h : r32 a ∧ r32 b) (kt : b < a → J Γ hp ce sl tgt lv (st)) (kf : a ≤ b → J Γ hp ce sl (pc + 3) lv (st)) :
    J Γ hp ce sl pc lv (.int (zI b) :: .int (zI a) :: st) := by
  obtain ⟨p, l', e, R, s, m, args, below, meth, c, X', nL', post'⟩ := Γ
  obtain ⟨rfl, rfl, rfl, rfl, rfl, hx, hb, hml, hown, hts, hr, hlk, hG, hnm⟩ := M
  intro H locs ls hR hS hl
  exact lv_icmp_gt hx hb d ht (fun q => kt ((zI_lt h.2 h.1).mp q) H locs ls hR hS hl) (fun q => kf (Int.not_lt.mp fun w => q ((zI_lt h.2 h.1).mpr w)) H locs ls hR hS hl)
theorem j_if_gt (M : Mok Γ l X y cc nL ret rm post) {a : Int} {off : Int} (tgt : Nat) (d : decode cc pc = .ok (.ifCond .gt off, 3)) (ht : (pc : Int) + off = (tgt : Int)) (h0 : r32 a) (kt : 0 < a → J Γ hp ce sl tgt lv (st)) (kf : a ≤ 0 → J Γ hp ce sl (pc + 3) lv (st)) :
    J Γ hp ce sl pc lv (.int (zI a) :: st) := by
  obtain ⟨p, l', e, R, s, m, args, below, meth, c, X', nL', post'⟩ := Γ
  obtain ⟨rfl, rfl, rfl, rfl, rfl, hx, hb, hml, hown, hts, hr, hlk, hG, hnm⟩ := M
  intro H locs ls hR hS hl
  have h : r32 a ∧ r32 0 := ⟨h0, by decide⟩
  exact lv_if_gt hx hb d ht (fun q => kt ((zI_lt h.2 h.1).mp q) H locs ls hR hS hl) (fun q => kf (Int.not_lt.mp fun w => q ((zI_lt h.2 h.1).mpr w)) H locs ls hR hS hl)
theorem j_icmp_le (M : Mok Γ l X y cc nL ret rm post) {a b : Int} {off : Int} (tgt : Nat) (d : decode cc pc = .ok (.if_icmp .le off, 3)) (ht : (pc : Int) + off = (tgt : Int)) (h : r32 a ∧ r32 b) (kt : a ≤ b → J Γ hp ce sl tgt lv (st)) (kf : b < a → J Γ hp ce sl (pc + 3) lv (st)) :
    J Γ hp ce sl pc lv (.int (zI b) :: .int (zI a) :: st) := by
  obtain ⟨p, l', e, R, s, m, args, below, meth, c, X', nL', post'⟩ := Γ
  obtain ⟨rfl, rfl, rfl, rfl, rfl, hx, hb, hml, hown, hts, hr, hlk, hG, hnm⟩ := M
  intro H locs ls hR hS hl
  exact lv_icmp_le hx hb d ht (fun q => kt ((zI_le h.1 h.2).mp q) H locs ls hR hS hl) (fun q => kf (Int.not_le.mp fun w => q ((zI_le h.1 h.2).mpr w)) H locs ls hR hS hl)
theorem j_if_le (M : Mok Γ l X y cc nL ret rm post) {a : Int} {off : Int} (tgt : Nat) (d : decode cc pc = .ok (.ifCond .le off, 3)) (ht : (pc : Int) + off = (tgt : Int)) (h0 : r32 a) (kt : a ≤ 0 → J Γ hp ce sl tgt lv (st)) (kf : 0 < a → J Γ hp ce sl (pc + 3) lv (st)) :
    J Γ hp ce sl pc lv (.int (zI a) :: st) := by
  obtain ⟨p, l', e, R, s, m, args, below, meth, c, X', nL', post'⟩ := Γ
  obtain ⟨rfl, rfl, rfl, rfl, rfl, hx, hb, hml, hown, hts, hr, hlk, hG, hnm⟩ := M
  intro H locs ls hR hS hl
  have h : r32 a ∧ r32 0 := ⟨h0, by decide⟩
  exact lv_if_le hx hb d ht (fun q => kt ((zI_le h.1 h.2).mp q) H locs ls hR hS hl) (fun q => kf (Int.not_le.mp fun w => q ((zI_le h.1 h.2).mpr w)) H locs ls hR hS hl)
theorem j_ifeqB (M : Mok Γ l X y cc nL ret rm post) {b : Bool} {off : Int} (tgt : Nat) (d : decode cc pc = .ok (.ifCond .eq off, 3)) (ht : (pc : Int) + off = (tgt : Int)) (kt : b = false → J Γ hp ce sl tgt lv (st)) (kf : b = true → J Γ hp ce sl (pc + 3) lv (st)) :
    J Γ hp ce sl pc lv (.int (zB b) :: st) := by
  obtain ⟨p, l', e, R, s, m, args, below, meth, c, X', nL', post'⟩ := Γ
  obtain ⟨rfl, rfl, rfl, rfl, rfl, hx, hb, hml, hown, hts, hr, hlk, hG, hnm⟩ := M
  intro H locs ls hR hS hl
  exact lv_if_eq hx hb d ht (fun q => kt ((zB_eq0 b).mp q) H locs ls hR hS hl) (fun q => kf (by cases b; exact absurd rfl q; rfl) H locs ls hR hS hl)
theorem j_ifneB (M : Mok Γ l X y cc nL ret rm post) {b : Bool} {off : Int} (tgt : Nat) (d : decode cc pc = .ok (.ifCond .ne off, 3)) (ht : (pc : Int) + off = (tgt : Int)) (kt : b = true → J Γ hp ce sl tgt lv (st)) (kf : b = false → J Γ hp ce sl (pc + 3) lv (st)) :
    J Γ hp ce sl pc lv (.int (zB b) :: st) := by
  obtain ⟨p, l', e, R, s, m, args, below, meth, c, X', nL', post'⟩ := Γ
  obtain ⟨rfl, rfl, rfl, rfl, rfl, hx, hb, hml, hown, hts, hr, hlk, hG, hnm⟩ := M
  intro H locs ls hR hS hl
  exact lv_if_ne hx hb d ht (fun q => kt (by cases b; exact absurd rfl q; rfl) H locs ls hR hS hl) (fun q => kf ((zB_eq0 b).mp q) H locs ls hR hS hl)
theorem j_goto (M : Mok Γ l X y cc nL ret rm post) {off : Int} (tgt : Nat) (d : decode cc pc = .ok (.goto off, 3)) (ht : (pc : Int) + off = (tgt : Int)) (k : J Γ hp ce sl tgt lv (st)) :
    J Γ hp ce sl pc lv (st) := by
  obtain ⟨p, l', e, R, s, m, args, below, meth, c, X', nL', post'⟩ := Γ
  obtain ⟨rfl, rfl, rfl, rfl, rfl, hx, hb, hml, hown, hts, hr, hlk, hG, hnm⟩ := M
  intro H locs ls hR hS hl
  exact lv_goto hx hb d ht (k H locs ls hR hS hl)
theorem j_ifnullR (M : Mok Γ l X y cc nL ret rm post) {x : Nat} {off : Int} (d : decode cc pc = .ok (.ifnull off, 3)) (k : J Γ hp ce sl (pc + 3) lv (st)) :
    J Γ hp ce sl pc lv (.ref x :: st) := by
  obtain ⟨p, l', e, R, s, m, args, below, meth, c, X', nL', post'⟩ := Γ
  obtain ⟨rfl, rfl, rfl, rfl, rfl, hx, hb, hml, hown, hts, hr, hlk, hG, hnm⟩ := M
  intro H locs ls hR hS hl
  exact lv_ifnull hx hb d (k H locs ls hR hS hl)
theorem j_ifnullN (M : Mok Γ l X y cc nL ret rm post) {off : Int} (tgt : Nat) (d : decode cc pc = .ok (.ifnull off, 3)) (ht : (pc : Int) + off = (tgt : Int)) (k : J Γ hp ce sl tgt lv (st)) :
    J Γ hp ce sl pc lv (.null :: st) := by
  obtain ⟨p, l', e, R, s, m, args, below, meth, c, X', nL', post'⟩ := Γ
  obtain ⟨rfl, rfl, rfl, rfl, rfl, hx, hb, hml, hown, hts, hr, hlk, hG, hnm⟩ := M
  intro H locs ls hR hS hl
  exact lv_ifnullN hx hb d ht (k H locs ls hR hS hl)
theorem j_ifnonnullR (M : Mok Γ l X y cc nL ret rm post) {x : Nat} {off : Int} (tgt : Nat) (d : decode cc pc = .ok (.ifnonnull off, 3)) (ht : (pc : Int) + off = (tgt : Int)) (k : J Γ hp ce sl tgt lv (st)) :
    J Γ hp ce sl pc lv (.ref x :: st) := by
  obtain ⟨p, l', e, R, s, m, args, below, meth, c, X', nL', post'⟩ := Γ
  obtain ⟨rfl, rfl, rfl, rfl, rfl, hx, hb, hml, hown, hts, hr, hlk, hG, hnm⟩ := M
  intro H locs ls hR hS hl
  exact lv_ifnonnull hx hb d ht (k H locs ls hR hS hl)
theorem j_ifnonnullN (M : Mok Γ l X y cc nL ret rm post) {off : Int} (d : decode cc pc = .ok (.ifnonnull off, 3)) (k : J Γ hp ce sl (pc + 3) lv (st)) :
    J Γ hp ce sl pc lv (.null :: st) := by
  obtain ⟨p, l', e, R, s, m, args, below, meth, c, X', nL', post'⟩ := Γ
  obtain ⟨rfl, rfl, rfl, rfl, rfl, hx, hb, hml, hown, hts, hr, hlk, hG, hnm⟩ := M
  intro H locs ls hR hS hl
  exact lv_ifnonnullN hx hb d (k H locs ls hR hS hl)
def zC (a b : Int) : Int := if b < a then 1 else if a = b then 0 else -1
theorem zC_cmp {a b : Int} (ha : r64 a) (hb : r64 b) : lg_cmp (zL a) (zL b) = zI (zC a b) := by
  unfold lg_cmp zC
  by_cases h1 : b < a
  · rw [if_pos ((zL_lt hb ha).mpr h1), if_pos h1]; rfl
  · rw [if_neg (fun q => h1 ((zL_lt hb ha).mp q)), if_neg h1]
    by_cases h2 : a = b
    · rw [if_pos ((zL_eq ha hb).mpr h2), if_pos h2]; rfl
    · rw [if_neg (fun q => h2 ((zL_eq ha hb).mp q)), if_neg h2]; rfl
theorem zC_r (a b : Int) : r32 (zC a b) := by unfold zC; split <;> (try split) <;> decide
theorem j_lcmp (M : Mok Γ l X y cc nL ret rm post) {a b : Int} (d : decode cc pc = .ok (.lcmp, 1)) (h : r64 a ∧ r64 b) (k : J Γ hp ce sl (pc + 1) lv (.int (zI (zC a b)) :: st)) :
    J Γ hp ce sl pc lv (.long (zL b) :: .long (zL a) :: st) := by
  obtain ⟨p, l', e, R, s, m, args, below, meth, c, X', nL', post'⟩ := Γ
  obtain ⟨rfl, rfl, rfl, rfl, rfl, hx, hb, hml, hown, hts, hr, hlk, hG, hnm⟩ := M
  intro H locs ls hR hS hl
  have k := k H locs ls hR hS hl
  rw [← zC_cmp h.1 h.2] at k
  exact W.lcmp hx hb d k
theorem j_lcmp_eq (M : Mok Γ l X y cc nL ret rm post) {a b : Int} {off : Int} (tgt : Nat) (d1 : decode cc pc = .ok (.lcmp, 1)) (d2 : decode cc (pc + 1) = .ok (.ifCond .eq off, 3)) (ht : ((pc + 1 : Nat) : Int) + off = (tgt : Int)) (h : r64 a ∧ r64 b) (kt : a = b → J Γ hp ce sl tgt lv (st)) (kf : a ≠ b → J Γ hp ce sl (pc + 4) lv (st)) :
    J Γ hp ce sl pc lv (.long (zL b) :: .long (zL a) :: st) :=
  j_lcmp M d1 h (j_if_eq M tgt d2 ht (zC_r a b) (fun q => kt (by unfold zC at q; split at q <;> (try split at q) <;> omega)) (fun q => kf (by unfold zC at q; split at q <;> (try split at q) <;> omega)))
theorem j_lcmp_ne (M : Mok Γ l X y cc nL ret rm post) {a b : Int} {off : Int} (tgt : Nat) (d1 : decode cc pc = .ok (.lcmp, 1)) (d2 : decode cc (pc + 1) = .ok (.ifCond .ne off, 3)) (ht : ((pc + 1 : Nat) : Int) + off = (tgt : Int)) (h : r64 a ∧ r64 b) (kt : a ≠ b → J Γ hp ce sl tgt lv (st)) (kf : a = b → J Γ hp ce sl (pc + 4) lv (st)) :
    J Γ hp ce sl pc lv (.long (zL b) :: .long (zL a) :: st) :=
  j_lcmp M d1 h (j_if_ne M tgt d2 ht (zC_r a b) (fun q => kt (by unfold zC at q; split at q <;> (try split at q) <;> omega)) (fun q => kf (by unfold zC at q; split at q <;> (try split at q) <;> omega)))
theorem j_lcmp_lt (M : Mok Γ l X y cc nL ret rm post) {a b : Int} {off : Int} (tgt : Nat) (d1 : decode cc pc = .ok (.lcmp, 1)) (d2 : decode cc (pc + 1) = .ok (.ifCond .lt off, 3)) (ht : ((pc + 1 : Nat) : Int) + off = (tgt : Int)) (h : r64 a ∧ r64 b) (kt : a < b → J Γ hp ce sl tgt lv (st)) (kf : b ≤ a → J Γ hp ce sl (pc + 4) lv (st)) :
    J Γ hp ce sl pc lv (.long (zL b) :: .long (zL a) :: st) :=
  j_lcmp M d1 h (j_if_lt M tgt d2 ht (zC_r a b) (fun q => kt (by unfold zC at q; split at q <;> (try split at q) <;> omega)) (fun q => kf (by unfold zC at q; split at q <;> (try split at q) <;> omega)))
theorem j_lcmp_ge (M : Mok Γ l X y cc nL ret rm post) {a b : Int} {off : Int} (tgt : Nat) (d1 : decode cc pc = .ok (.lcmp, 1)) (d2 : decode cc (pc + 1) = .ok (.ifCond .ge off, 3)) (ht : ((pc + 1 : Nat) : Int) + off = (tgt : Int)) (h : r64 a ∧ r64 b) (kt : b ≤ a → J Γ hp ce sl tgt lv (st)) (kf : a < b → J Γ hp ce sl (pc + 4) lv (st)) :
    J Γ hp ce sl pc lv (.long (zL b) :: .long (zL a) :: st) :=
  j_lcmp M d1 h (j_if_ge M tgt d2 ht (zC_r a b) (fun q => kt (by unfold zC at q; split at q <;> (try split at q) <;> omega)) (fun q => kf (by unfold zC at q; split at q <;> (try split at q) <;> omega)))
theorem j_lcmp_gt (M : Mok Γ l X y cc nL ret rm post) {a b : Int} {off : Int} (tgt : Nat) (d1 : decode cc pc = .ok (.lcmp, 1)) (d2 : decode cc (pc + 1) = .ok (.ifCond .gt off, 3)) (ht : ((pc + 1 : Nat) : Int) + off = (tgt : Int)) (h : r64 a ∧ r64 b) (kt : b < a → J Γ hp ce sl tgt lv (st)) (kf : a ≤ b → J Γ hp ce sl (pc + 4) lv (st)) :
    J Γ hp ce sl pc lv (.long (zL b) :: .long (zL a) :: st) :=
  j_lcmp M d1 h (j_if_gt M tgt d2 ht (zC_r a b) (fun q => kt (by unfold zC at q; split at q <;> (try split at q) <;> omega)) (fun q => kf (by unfold zC at q; split at q <;> (try split at q) <;> omega)))
theorem j_lcmp_le (M : Mok Γ l X y cc nL ret rm post) {a b : Int} {off : Int} (tgt : Nat) (d1 : decode cc pc = .ok (.lcmp, 1)) (d2 : decode cc (pc + 1) = .ok (.ifCond .le off, 3)) (ht : ((pc + 1 : Nat) : Int) + off = (tgt : Int)) (h : r64 a ∧ r64 b) (kt : a ≤ b → J Γ hp ce sl tgt lv (st)) (kf : b < a → J Γ hp ce sl (pc + 4) lv (st)) :
    J Γ hp ce sl pc lv (.long (zL b) :: .long (zL a) :: st) :=
  j_lcmp M d1 h (j_if_le M tgt d2 ht (zC_r a b) (fun q => kt (by unfold zC at q; split at q <;> (try split at q) <;> omega)) (fun q => kf (by unfold zC at q; split at q <;> (try split at q) <;> omega)))
theorem j_iret (M : Mok Γ l X y cc nL (some .int) rm post) {v : Int32} (d : decode cc pc = .ok (.ireturn, 1)) (hc : ce ≤ rm.cells ∧ sl ≤ rm.slots) (h : post (some (.int v)) hp) : J Γ hp ce sl pc lv [.int v] := by
  obtain ⟨p, l', e, R, s, m, args, below, meth, c, X', nL', post'⟩ := Γ
  obtain ⟨rfl, rfl, rfl, rfl, rfl, hx, hb, hml, hown, hts, hr, hlk, hG, hnm⟩ := M
  intro H locs ls hR hS hl
  refine W.widen hc.1 hc.2 ?_
  exact W.iret hx hb hr (fun t ht hW => ⟨⟨_, hp, rfl, h, by rw [ht]; exact hR⟩, hS.F ht⟩) hS.2.2 d hlk
theorem j_zret (M : Mok Γ l X y cc nL (some .boolean) rm post) {b : Bool} (d : decode cc pc = .ok (.ireturn, 1)) (hc : ce ≤ rm.cells ∧ sl ≤ rm.slots) (h : post (some (.int (zB b))) hp) : J Γ hp ce sl pc lv [.int (zB b)] := by
  obtain ⟨p, l', e, R, s, m, args, below, meth, c, X', nL', post'⟩ := Γ
  obtain ⟨rfl, rfl, rfl, rfl, rfl, hx, hb, hml, hown, hts, hr, hlk, hG, hnm⟩ := M
  intro H locs ls hR hS hl
  refine W.widen hc.1 hc.2 ?_
  exact W.zret hx hb hr (by cases b <;> rfl) (fun t ht hW => ⟨⟨_, hp, rfl, h, by rw [ht]; exact hR⟩, hS.F ht⟩) hS.2.2 d hlk
theorem j_lret (M : Mok Γ l X y cc nL (some .long) rm post) {v : Int64} (d : decode cc pc = .ok (.lreturn, 1)) (hc : ce ≤ rm.cells ∧ sl ≤ rm.slots) (h : post (some (.long v)) hp) : J Γ hp ce sl pc lv [.long v] := by
  obtain ⟨p, l', e, R, s, m, args, below, meth, c, X', nL', post'⟩ := Γ
  obtain ⟨rfl, rfl, rfl, rfl, rfl, hx, hb, hml, hown, hts, hr, hlk, hG, hnm⟩ := M
  intro H locs ls hR hS hl
  refine W.widen hc.1 hc.2 ?_
  exact W.lret hx hb hr (fun t ht hW => ⟨⟨_, hp, rfl, h, by rw [ht]; exact hR⟩, hS.F ht⟩) hS.2.2 d hlk
theorem j_vret (M : Mok Γ l X y cc nL none rm post) (d : decode cc pc = .ok (.return_, 1)) (hc : ce ≤ rm.cells ∧ sl ≤ rm.slots) (h : post none hp) : J Γ hp ce sl pc lv [] := by
  obtain ⟨p, l', e, R, s, m, args, below, meth, c, X', nL', post'⟩ := Γ
  obtain ⟨rfl, rfl, rfl, rfl, rfl, hx, hb, hml, hown, hts, hr, hlk, hG, hnm⟩ := M
  intro H locs ls hR hS hl
  refine W.widen hc.1 hc.2 ?_
  exact W.vret hx hb hr (fun t ht hW => ⟨⟨_, hp, rfl, h, by rw [ht]; exact hR⟩, hS.F ht⟩) hS.2.2 d hlk
theorem j_aret {a : Nat} {rt : FieldType} (M : Mok Γ l X y cc nL (some rt) rm post) (d : decode cc pc = .ok (.areturn, 1)) (hrt : (∃ n, rt = .object n) ∨ ∃ t, rt = .array t) (hc : ce ≤ rm.cells ∧ sl ≤ rm.slots) (h : post (some (.ref a)) hp) : J Γ hp ce sl pc lv [.ref a] := by
  obtain ⟨p, l', e, R, s, m, args, below, meth, c, X', nL', post'⟩ := Γ
  obtain ⟨rfl, rfl, rfl, rfl, rfl, hx, hb, hml, hown, hts, hr, hlk, hG, hnm⟩ := M
  intro H locs ls hR hS hl
  refine W.widen hc.1 hc.2 ?_
  exact W.aret hx hb hr hrt (Or.inr ⟨a, rfl⟩) (fun t ht hW => ⟨⟨_, hp, rfl, h, by rw [ht]; exact hR⟩, hS.F ht⟩) hS.2.2 d hlk
theorem j_aretN {rt : FieldType} (M : Mok Γ l X y cc nL (some rt) rm post) (d : decode cc pc = .ok (.areturn, 1)) (hrt : (∃ n, rt = .object n) ∨ ∃ t, rt = .array t) (hc : ce ≤ rm.cells ∧ sl ≤ rm.slots) (h : post (some (.null)) hp) : J Γ hp ce sl pc lv [.null] := by
  obtain ⟨p, l', e, R, s, m, args, below, meth, c, X', nL', post'⟩ := Γ
  obtain ⟨rfl, rfl, rfl, rfl, rfl, hx, hb, hml, hown, hts, hr, hlk, hG, hnm⟩ := M
  intro H locs ls hR hS hl
  refine W.widen hc.1 hc.2 ?_
  exact W.aret hx hb hr hrt (Or.inl rfl) (fun t ht hW => ⟨⟨_, hp, rfl, h, by rw [ht]; exact hR⟩, hS.F ht⟩) hS.2.2 d hlk
theorem j_loc {lv' : List (Nat × Value)} (ks : List Nat) (h : lv_pick lv ks = lv') (k : J Γ hp ce sl pc lv' st) : J Γ hp ce sl pc lv st := by
  obtain ⟨p, l', e, R, s, m, args, below, meth, c, X', nL', post'⟩ := Γ
  intro H locs ls hR hS hl
  exact k H locs ls hR hS (lv_sub hl ks h)
theorem j_cs {ce' sl' : Nat} (h1 : ce ≤ ce') (h2 : sl ≤ sl') (k : J Γ hp ce' sl' pc lv st) : J Γ hp ce sl pc lv st := by
  obtain ⟨p, l', e, R, s, m, args, below, meth, c, X', nL', post'⟩ := Γ
  intro H locs ls hR hS hl
  exact W.widen h1 h2 (k H locs ls hR hS hl)
theorem j_hp {hp' : Hp} (h : hp = hp') (k : J Γ hp' ce sl pc lv st) : J Γ hp ce sl pc lv st := h ▸ k
theorem j_lv {lv' : List (Nat × Value)} (h : lv = lv') (k : J Γ hp ce sl pc lv' st) : J Γ hp ce sl pc lv st := h ▸ k
theorem j_st {st' : List Value} (h : st = st') (k : J Γ hp ce sl pc lv st') : J Γ hp ce sl pc lv st := h ▸ k
theorem j_top {a : Int} {st : List Value} (b : Int) (h : a = b) (k : J Γ hp ce sl pc lv (.int (zI b) :: st)) : J Γ hp ce sl pc lv (.int (zI a) :: st) := h ▸ k
theorem j_topL {a : Int} {st : List Value} (b : Int) (h : a = b) (k : J Γ hp ce sl pc lv (.long (zL b) :: st)) : J Γ hp ce sl pc lv (.long (zL a) :: st) := h ▸ k
theorem j_name {a : Int} {st : List Value} (k : ∀ b : Int, b = a → J Γ hp ce sl pc lv (.int (zI b) :: st)) : J Γ hp ce sl pc lv (.int (zI a) :: st) := k a rfl
theorem j_nameL {a : Int} {st : List Value} (k : ∀ b : Int, b = a → J Γ hp ce sl pc lv (.long (zL b) :: st)) : J Γ hp ce sl pc lv (.long (zL a) :: st) := k a rfl
theorem j_nameB {a : Bool} {st : List Value} (k : ∀ b : Bool, b = a → J Γ hp ce sl pc lv (.int (zB b) :: st)) : J Γ hp ce sl pc lv (.int (zB a) :: st) := k a rfl
theorem j_bool {z : Int} {st : List Value} (b : Bool) (h : z = if b then 1 else 0) (k : J Γ hp ce sl pc lv (.int (zB b) :: st)) : J Γ hp ce sl pc lv (.int (zI z) :: st) := by
  rw [h, ← zB_z]; exact k
end JR
