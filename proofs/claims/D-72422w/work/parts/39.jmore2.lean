/-! 39: more rows of J: super calls up the line, references, arrays of references, statics, casts -/
set_option maxRecDepth 100000
section SV
variable {p : Program} {l : Launch} {e : Env} {R : Room} {s : State} {m : MethodId} {args : Array Value} {below : List Frame} {meth : Method} {c : Code}
theorem sub_up {vm : Vm} {a b : ClassId} {k : Class} (hk : vm.classes[a]? = some k) (hs : k.super = some b) : vm.isSubclass a b = true := by
  have hz : 0 < vm.classes.size := Nat.lt_of_le_of_lt (Nat.zero_le _) (Array.getElem?_eq_some_iff.mp hk).1
  obtain ⟨n, hn⟩ : ∃ n, vm.classes.size = n + 1 := ⟨vm.classes.size - 1, by omega⟩
  unfold Vm.isSubclass
  rw [hn]
  simp [Vm.isSubclassAux, hk, hs]
theorem callSV {T : State} {locs : List Loc} {cells slots : Nat} (X : Stand p l e R s m args below meth c T locs cells slots) (hexec : p.tables.exec = Jvm.exec) {own : String} {index : Nat} {x y : MethodName} {bytes : ByteArray} {maxL : Nat} {ret : Option FieldType}
    (hy : y = ⟨y.cls, x.name, x.desc⟩) (hown : s.vm.findClass own = some m.cls) (hlink : (Cond.methodLink own index x).before args s = true) (hsame : (Cond.sameMethod x.cls y.cls x.name x.desc).before args s = true) (hsup : (Cond.superclass own x.cls).before args s = true) (hsup2 : (Cond.superclass x.cls y.cls).before args s = true)
    (hinst : (Cond.instanceMethod y).before args s = true) (hcode : (Cond.code y bytes maxL ret).before args s = true) (hno : x.name ≠ "<init>")
    {W : Nat} {Pre : Pt → Array Value → Prop} {Post : Pt → Array Value → Option Value → Pt → Prop} (hK : Back l R p e below s args y 3 W Pre Post)
    {b : Addr} {cellB : Cell} {kB : Class} (hcell : T.heap[b]? = some cellB) (hobj : cellB.vm.isStatics = false) (hkB : s.vm.classes[cellB.cls]? = some kB)
    {g : JFrame} (hg : g.method = m) (hsize : g.locals.size = c.maxLocals) {argsL rest : List Value} (hlen : ∀ sig, parseMethodDescriptor y.desc = some sig → argsL.length = sig.parameters.length)
    (hstack : g.stack = argsL.reverse ++ .ref b :: rest) (hW : 2 * g.monitorRoom + (rest.map fun v => v.category).sum ≤ W) (hdg : decode c.code g.pc = .ok (.invokespecial index, 3))
    (hpre : ∀ vm₁, s.WarmedH vm₁ → Pre ⟨T.setVm vm₁, locs, cells, slots⟩ (Value.ref b :: argsL).toArray) :
    ∃ (v : Option Value) (vm₁ : Vm) (B : Pt), s.WarmedH vm₁ ∧ Stand p l e R s m args below meth c B.U B.locs B.cells B.slots ∧ Post ⟨T.setVm vm₁, locs, cells, slots⟩ (Value.ref b :: argsL).toArray v B ∧
      ∀ target, Steps p.tables e below (B.U.setTop { g with pc := g.pc + 3, stack := v.toList ++ rest }) target → Steps p.tables e below (T.setTop g) target := by
  obtain ⟨mk, methM, hnamed, hmethM, hstM, habM⟩ := Cond.instanceMethod_spec hinst
  obtain ⟨methM', cM, hmethM', -, -, -, -, -, -, hsigM⟩ := Cond.code_spec hnamed hcode
  cases hmethM.symm.trans hmethM'
  obtain ⟨ps, dk, kp, hps, hdk, hkp, hsuper, -, -, hnid⟩ := Cond.superclass_spec hown hsup
  obtain ⟨pt, dp, kt, hpt, hdp, -, hsuper2, -, -, -⟩ := Cond.superclass_spec hps hsup2
  have hn : s.methodNamed? ⟨y.cls, x.name, x.desc⟩ = some mk := by rw [← hy]; exact hnamed
  have hpm : pt = mk.cls := Option.some.inj (hpt.symm.trans (findClass_of_methodNamed hnamed))
  have hsub : s.vm.isSubclass ps mk.cls = true := by rw [← hpm]; exact sub_up hdp hsuper2
  obtain ⟨vm₁, X₁, hstep₁⟩ := X.invokespecialUp hexec hown hlink hsame hn hmethM hstM habM hno hdk hnid hps hsuper hsub (a := b) (cell := cellB) hcell
    (fun z h => by rw [h] at hobj; cases hobj) hkB (g := g) hg (argsL := argsL) (rest := rest) (hlen _ hsigM) hstack hdg
  obtain ⟨v, B, X', hpost, hsteps⟩ := hK m meth c ⟨T.setVm vm₁, locs, cells, slots⟩ { g with stack := rest } (.invokespecial index) mk (Value.ref b :: argsL).toArray X₁ hg hsize hdg hW (X₁.named hnamed) (hpre vm₁ X₁.warmed)
  exact ⟨v, vm₁, B, X₁.warmed, X', hpost, fun target h => hstep₁ _ (by rw [doInvoke_state]; exact hsteps.trans h)⟩
variable {H : Heap} {locs : List Loc} {cells slots : Nat}
theorem runSV {x y : MethodName} {bytes cc : ByteArray} {maxL nL mc ms n index : Nat} {ret : Option FieldType} {ws : List Cond} {rm : Room} {Pc : Array Value → State → Prop} {Qc : Array Value → State → Outcome → State → Prop} {free : Addr → Prop} {Ts : List Cond} {own C : String} {cC : ClassId} {b : Addr} {As rest : List Value} {g : JFrame}
    (hat : ClassAt s C cC) (S : CallFix p m c cc nL s args Ts own) (hM : Met l y ws rm Pc Qc mc ms free)
    (hy : y = ⟨y.cls, x.name, x.desc⟩) (hlink : (Cond.methodLink own index x).before args s = true) (hsame : (Cond.sameMethod x.cls y.cls x.name x.desc).before args s = true) (hsup : (Cond.superclass own x.cls).before args s = true) (hsup2 : (Cond.superclass x.cls y.cls).before args s = true)
    (hinst : (Cond.instanceMethod y).before args s = true) (hini : (Cond.initialized y.cls).before args s = true) (hno : x.name ≠ "<init>") (hlen : ∀ sig, parseMethodDescriptor y.desc = some sig → n = sig.parameters.length)
    (hrc : rm.cells = mc) (hrs : rm.slots = ms) (hfr : rm.frames + 1 ≤ R.frames) (hlo : 8 + (maxL + 11) + rm.locals ≤ R.locals) (hws : ∀ w ∈ ws, ∀ (a' : Array Value) (U : State), s.WarmedH U.vm → w.before a' U = true) (hcw : Cond.code y bytes maxL ret ∈ ws) (hcode : (Cond.code y bytes maxL ret).before args s = true)
    (hp : PreV s H C b Pc As)
    (hg : g.method = m) (hn : As.length = n) (hsize : g.locals.size = nL) (hstack : g.stack = As.reverse ++ .ref b :: rest) (hW : 2 * g.monitorRoom + (rest.map fun v => v.category).sum ≤ 8) (hdg : decode cc g.pc = .ok (.invokespecial index, 3)) (hf : cells + mc ≤ R.cells ∧ slots + ms ≤ R.slots) :
    va_Run p l e R s m args below meth c H locs cells slots mc ms g rest (Qc (Value.ref b :: As).toArray) (free) := by
  have hK : Back l R p e below s args y 3 8 (PreOf R mc ms Pc) (PostOf Qc mc ms free) := back_of (bytes := bytes) (maxL := maxL) (ret := ret) hM hp.1 hrc hrs hfr hlo hws hcw (fun a' U hW => word_at hW (Or.inl (by first | rfl | simp [Cond.onTables, Cond.keeps, Cond.steady])) hini)
  obtain ⟨hx, hb, hml, ho, -⟩ := S
  obtain ⟨-, ⟨cellB, hcB, hoB, hclB⟩, hPc⟩ := hp
  obtain ⟨hfc, kB, hkB, -⟩ := hat
  cases hfc.symm.trans hclB
  intro T hT X
  obtain ⟨v, vm₁, ⟨U', l2, c2, s2⟩, hW₁, X', ⟨g', mk, t, L, e1, e2, hq, h1, hL, h2, h3⟩, st⟩ := callSV X hx (bytes := bytes) (maxL := maxL) (ret := ret) hy ho hlink hsame hsup hsup2 hinst hcode hno hK (by rw [hT]; exact hcB) hoB hkB hg (hsize.trans hml.symm) (argsL := As) (rest := rest) (fun sig h => hn.trans (hlen sig h)) hstack hW (by rw [hb]; exact hdg)
    (fun vm₁ hW₁ => ⟨hf.1, hf.2, hPc (T.setVm vm₁) hT hW₁⟩)
  dsimp only [Pt.U, Pt.locs, Pt.cells, Pt.slots] at X' e1 e2 h1 h2 h3 st
  subst h1; subst h2; subst h3
  exact ⟨v, (T.setVm vm₁).calling g' mk (Value.ref b :: As).toArray, t, U', L, hT, X', hL, e1, e2, hq, st⟩
end SV
section JV
variable {Γ : Gm} {l : Launch} {X : Cx} {y : MethodName} {cc : ByteArray} {nL : Nat} {ret : Option FieldType} {rm : Room} {post : Option Value → Hp → Prop} {hp : Hp} {ce sl pc : Nat} {lv : List (Nat × Value)} {st0 rest : List Value}
variable {yc xc : MethodName} {bytes : ByteArray} {maxL index : Nat} {retc : Option FieldType} {rmc : Room} {As : List Value} {postc : Option Value → Hp → Prop} {b : Nat} {C : String}
/-- super.m(..), where the superclass has it from its own superclass -/
theorem k_SV (M : Mok Γ l X y cc nL ret rm post) {ci : Nat} {T : u_T} {N : Nat} (hM : Ct l X yc bytes maxL retc rmc (.ref b :: As) hp postc) (hrc : Rc Γ hp b C) (hc : clz[ci]? = some (C, T, N)) (hy : yc = ⟨yc.cls, xc.name, xc.desc⟩)
    (q1 : Cond.methodLink y.cls index xc ∈ lw_all) (q2 : Cond.sameMethod xc.cls yc.cls xc.name xc.desc ∈ lw_all) (q3 : Cond.superclass y.cls xc.cls ∈ lw_all) (q4 : Cond.superclass xc.cls yc.cls ∈ lw_all) (q5 : Cond.instanceMethod yc ∈ lw_all) (q6 : Cond.initialized yc.cls ∈ lw_all) (hw : GoodIn lw_all (ws_ yc bytes maxL retc))
    (hd : xc.name ≠ "<init>" ∧ (parseMethodDescriptor yc.desc).map (fun d => d.parameters.length) = some As.length) (d : decode cc pc = .ok (.invokespecial index, 3)) (hR : rmP rmc rm maxL ce sl) (hst : st0 = As.reverse ++ .ref b :: rest) (hW : (rest.map fun v => v.category).sum ≤ 8) : Rn Γ hp ce sl pc lv st0 rest rmc postc := by
  obtain ⟨p, l', e, R, s, m, args, below, meth, c, X', nL', post'⟩ := Γ
  obtain ⟨rfl, rfl, rfl, rfl, rfl, hx, hb, hml, hown, hts, hr, hlk, hG, hnm⟩ := M
  intro H locs ls hRl hS hl
  subst hst
  have hcm : Cond.code yc bytes maxL retc ∈ ws_ yc bytes maxL retc := List.mem_cons_self
  exact ⟨_, runSV (C := C) (hG.1.1 ci _ hc).2 ⟨hx, hb, hml, hown, hts⟩ hM hy (hts _ q1) (hts _ q2) (hts _ q3) (hts _ q4) (hts _ q5) (hts _ q6) hd.1 (fun sig h => by have h2 := hd.2; rw [h] at h2; exact (Option.some.inj h2).symm) rfl rfl hR.1 hR.2.1 (pay_in hts hw) hcm (hts _ (hw _ hcm).1) ⟨ct_blind, hrc H locs hRl hS, fun U hU hW => ⟨rfl, hG.go hS hU hW, by rw [hU]; exact hRl⟩⟩ rfl rfl hl.1 rfl (by show 2 * 0 + _ ≤ 8; omega) d hR.2.2⟩
end JV
/-- the cells as a list -/
def hpL (hp : Hp) (n : Nat) : va_W := (List.range n).filterMap (fun a => (hp a).map (fun e => (a, e)))
theorem hpL_mem {hp : Hp} {n a : Nat} {e : va_E} : (a, e) ∈ hpL hp n ↔ a < n ∧ hp a = some e := by
  unfold hpL
  rw [List.mem_filterMap]
  constructor
  · rintro ⟨b, hb, h⟩
    cases h2 : hp b with
    | none => rw [h2] at h; cases h
    | some e2 =>
      rw [h2] at h
      cases h
      exact ⟨List.mem_range.mp hb, h2⟩
  · rintro ⟨h1, h2⟩
    exact ⟨a, List.mem_range.mpr h1, by rw [h2]; rfl⟩
theorem hpL_apart (hp : Hp) (n : Nat) : ((hpL hp n).map (·.1)).Pairwise (· ≠ ·) := by
  unfold hpL
  rw [List.map_filterMap]
  refine List.Pairwise.filterMap _ (R := (· ≠ ·)) ?_ List.nodup_range
  intro a a' h b hb b' hb'
  have e1 : b = a := by
    cases h2 : hp a with
    | none => simp [h2] at hb
    | some e => simpa [h2] using hb.symm
  have e2 : b' = a' := by
    cases h2 : hp a' with
    | none => simp [h2] at hb'
    | some e => simpa [h2] using hb'.symm
  rw [e1, e2]; exact h
theorem hpL_D {X : Cx} {hp : Hp} {H : Heap} (h : Rl X hp H) : va_D (cxA X) (hpL hp H.size) := by
  refine ⟨fun i j p q hi hj e => ?_, fun k q hk => ?_⟩
  · have hA := hpL_apart hp H.size
    rcases Nat.lt_trichotomy i j with c | c | c
    · have hi' : ((hpL hp H.size).map (·.1))[i]? = some p.1 := by rw [List.getElem?_map, hi]; rfl
      have hj' : ((hpL hp H.size).map (·.1))[j]? = some q.1 := by rw [List.getElem?_map, hj]; rfl
      obtain ⟨l1, e1⟩ := List.getElem?_eq_some_iff.mp hi'
      obtain ⟨l2, e2⟩ := List.getElem?_eq_some_iff.mp hj'
      exact absurd (e1.trans (e.trans e2.symm)) (List.pairwise_iff_getElem.mp hA i j l1 l2 c)
    · exact c
    · have hi' : ((hpL hp H.size).map (·.1))[i]? = some p.1 := by rw [List.getElem?_map, hi]; rfl
      have hj' : ((hpL hp H.size).map (·.1))[j]? = some q.1 := by rw [List.getElem?_map, hj]; rfl
      obtain ⟨l1, e1⟩ := List.getElem?_eq_some_iff.mp hi'
      obtain ⟨l2, e2⟩ := List.getElem?_eq_some_iff.mp hj'
      exact absurd (e2.trans (e.symm.trans e1.symm)) (List.pairwise_iff_getElem.mp hA j i l2 l1 c)
  · exact (h.2 q.1 q.2 (hpL_mem.mp (List.mem_of_getElem? hk)).2).1
theorem hpL_P {X : Cx} {hp : Hp} {H : Heap} (h : Rl X hp H) : va_P (cxD X) clz (hpL hp H.size) H := fun _ q hk => (h.2 q.1 q.2 (hpL_mem.mp (List.mem_of_getElem? hk)).2).2
theorem hpL_at {X : Cx} {hp : Hp} {H : Heap} (h : Rl X hp H) {a : Nat} {e : va_E} (he : hp a = some e) : ∃ k : Nat, (hpL hp H.size)[k]? = some (a, e) :=
  List.mem_iff_getElem?.mp (hpL_mem.mpr ⟨(h.2 a e he).2.lt, he⟩)
theorem Rl.back {X : Cx} {hp : Hp} {H H1 : Heap} (h : Rl X hp H) {a q0 : Nat} {e e' : va_E} (hk : (hpL hp H.size)[q0]? = some (a, e)) (hP : va_P (cxD X) clz ((hpL hp H.size).set q0 (a, e')) H1) (hz : cxB X ≤ H1.size) : Rl X (hup hp a e') H1 := by
  refine ⟨hz, fun b e1 hb => ?_⟩
  have hl := (List.getElem?_eq_some_iff.mp hk).1
  by_cases hba : b = a
  · subst hba
    rw [hup_s] at hb
    cases hb
    exact ⟨(h.2 b e (hpL_mem.mp (List.mem_of_getElem? hk)).2).1, hP q0 _ (by rw [List.getElem?_set_self hl])⟩
  · rw [hup_n _ _ hba] at hb
    obtain ⟨k, hk2⟩ := hpL_at h hb
    have hkq : q0 ≠ k := fun e3 => by rw [← e3, hk] at hk2; exact hba (congrArg Prod.fst (Option.some.inj hk2)).symm
    exact ⟨(h.2 b e1 hb).1, hP k _ (by rw [List.getElem?_set_ne hkq]; exact hk2)⟩
theorem Rl.app {X : Cx} {hp : Hp} {H H1 : Heap} (h : Rl X hp H) {a : Nat} {e' : va_E} (hP : va_P (cxD X) clz (hpL hp H.size ++ [(a, e')]) H1) (hD : va_D (cxA X) (hpL hp H.size ++ [(a, e')])) (hz : cxB X ≤ H1.size) : Rl X (hup hp a e') H1 ∧ hp a = none ∧ cxB X ≤ a := by
  have hlast : (hpL hp H.size ++ [(a, e')])[(hpL hp H.size).length]? = some (a, e') := by simp
  have hn : hp a = none := by
    cases he : hp a with
    | none => rfl
    | some e =>
      obtain ⟨k, hk⟩ := hpL_at h he
      have hl := (List.getElem?_eq_some_iff.mp hk).1
      have := hD.1 k _ (a, e) (a, e') (by rw [List.getElem?_append_left hl]; exact hk) hlast rfl
      omega
  have hB : cxB X ≤ a := hD.2 _ _ hlast
  refine ⟨⟨hz, fun b e1 hb => ?_⟩, hn, hB⟩
  by_cases hba : b = a
  · subst hba
    rw [hup_s] at hb
    cases hb
    exact ⟨hB, hP _ _ hlast⟩
  · rw [hup_n _ _ hba] at hb
    obtain ⟨k, hk2⟩ := hpL_at h hb
    have hl := (List.getElem?_eq_some_iff.mp hk2).1
    exact ⟨(h.2 b e1 hb).1, hP k _ (by rw [List.getElem?_append_left hl]; exact hk2)⟩
section JR
variable {Γ : Gm} {l : Launch} {X : Cx} {y : MethodName} {cc : ByteArray} {nL : Nat} {ret : Option FieldType} {rm : Room} {post : Option Value → Hp → Prop} {hp : Hp} {ce sl pc : Nat} {lv : List (Nat × Value)} {st : List Value}
variable {C : String} {T : u_T} {N ci index a : Nat} {fs : List Value}
theorem j_ixor (M : Mok Γ l X y cc nL ret rm post) {a b : Int32} (d : decode cc pc = .ok (.ixor, 1)) (k : J Γ hp ce sl (pc + 1) lv (.int (a ^^^ b) :: st)) :
    J Γ hp ce sl pc lv (.int b :: .int a :: st) := by
  obtain ⟨p, l', e, R, s, m, args, below, meth, c, X', nL', post'⟩ := Γ
  obtain ⟨rfl, rfl, rfl, rfl, rfl, hx, hb, hml, hown, hts, hr, hlk, hG, hnm⟩ := M
  intro H locs ls hR hS hl
  exact lv_ixor hx hb d (k H locs ls hR hS hl)
theorem j_ishr (M : Mok Γ l X y cc nL ret rm post) {a b : Int32} (d : decode cc pc = .ok (.ishr, 1)) (k : J Γ hp ce sl (pc + 1) lv (.int (a >>> (b &&& 31)) :: st)) :
    J Γ hp ce sl pc lv (.int b :: .int a :: st) := by
  obtain ⟨p, l', e, R, s, m, args, below, meth, c, X', nL', post'⟩ := Γ
  obtain ⟨rfl, rfl, rfl, rfl, rfl, hx, hb, hml, hown, hts, hr, hlk, hG, hnm⟩ := M
  intro H locs ls hR hS hl
  exact lv_ishr hx hb d (k H locs ls hR hS hl)
theorem j_iushr (M : Mok Γ l X y cc nL ret rm post) {a b : Int32} (d : decode cc pc = .ok (.iushr, 1)) (k : J Γ hp ce sl (pc + 1) lv (.int (a.toUInt32 >>> (b.toUInt32 &&& Int32.toUInt32 31)).toInt32 :: st)) :
    J Γ hp ce sl pc lv (.int b :: .int a :: st) := by
  obtain ⟨p, l', e, R, s, m, args, below, meth, c, X', nL', post'⟩ := Γ
  obtain ⟨rfl, rfl, rfl, rfl, rfl, hx, hb, hml, hown, hts, hr, hlk, hG, hnm⟩ := M
  intro H locs ls hR hS hl
  exact lv_iushr hx hb d rfl (k H locs ls hR hS hl)
theorem j_dup_x1 (M : Mok Γ l X y cc nL ret rm post) {v w : Value} (d : decode cc pc = .ok (.dup_x1, 1)) (hv : v.category = 1) (hw : w.category = 1) (k : J Γ hp ce sl (pc + 1) lv (v :: w :: v :: st)) :
    J Γ hp ce sl pc lv (v :: w :: st) := by
  obtain ⟨p, l', e, R, s, m, args, below, meth, c, X', nL', post'⟩ := Γ
  obtain ⟨rfl, rfl, rfl, rfl, rfl, hx, hb, hml, hown, hts, hr, hlk, hG, hnm⟩ := M
  intro H locs ls hR hS hl
  exact lv_dup_x1 hx hb d hv hw (k H locs ls hR hS hl)
theorem j_acmp_same (M : Mok Γ l X y cc nL ret rm post) {v : Nat} {off : Int} (tgt : Nat) (d : decode cc pc = .ok (.if_acmp .eq off, 3)) (ht : (pc : Int) + off = (tgt : Int)) (k : J Γ hp ce sl tgt lv st) :
    J Γ hp ce sl pc lv (.ref v :: .ref v :: st) := by
  obtain ⟨p, l', e, R, s, m, args, below, meth, c, X', nL', post'⟩ := Γ
  obtain ⟨rfl, rfl, rfl, rfl, rfl, hx, hb, hml, hown, hts, hr, hlk, hG, hnm⟩ := M
  intro H locs ls hR hS hl
  exact lv_acmp_eq (rx := some v) (ry := some v) hx hb d ht (fun _ => k H locs ls hR hS hl) (fun h => absurd rfl h)
/-- the empty array of lists -/
theorem j_alenS (M : Mok Γ l X y cc nL ret rm post) (d : decode cc pc = .ok (.arraylength, 1)) (k : J Γ hp ce sl (pc + 1) lv (.int (zI 0) :: st)) :
    J Γ hp ce sl pc lv (.ref (cxS X 2) :: st) := by
  obtain ⟨p, l', e, R, s, m, args, below, meth, c, X', nL', post'⟩ := Γ
  obtain ⟨rfl, rfl, rfl, rfl, rfl, hx, hb, hml, hown, hts, hr, hlk, hG, hnm⟩ := M
  intro H locs ls hR hS hl
  exact va_tlen hx hb hG.2.2.2.2.2.2.2.1 hS rfl d (k H locs ls hR hS hl)
theorem j_gets2 (M : Mok Γ l X y cc nL ret rm post) (q : Cond.fieldLink y.cls index "java/util/ArrayList" "DEFAULTCAPACITY_EMPTY_ELEMENTDATA" "[Ljava/lang/Object;" ∈ lw_all) (d : decode cc pc = .ok (.getstatic index, 3)) (k : J Γ hp ce sl (pc + 3) lv (.ref (cxS X 2) :: st)) :
    J Γ hp ce sl pc lv st := by
  obtain ⟨p, l', e, R, s, m, args, below, meth, c, X', nL', post'⟩ := Γ
  obtain ⟨rfl, rfl, rfl, rfl, rfl, hx, hb, hml, hown, hts, hr, hlk, hG, hnm⟩ := M
  intro H locs ls hR hS hl
  exact va_gets hx hb hG.2.2.2.2.2.2.1 hS hown (hts _ q) (fun _ h => h) d (k H locs ls hR hS hl)
theorem j_gets0 (M : Mok Γ l X y cc nL ret rm post) (q : Cond.fieldLink y.cls index "AheadRows$Mix" "SUM" "LAheadRows$Mix;" ∈ lw_all) (d : decode cc pc = .ok (.getstatic index, 3)) (k : J Γ hp ce sl (pc + 3) lv (.ref (cxS X 0) :: st)) :
    J Γ hp ce sl pc lv st := by
  obtain ⟨p, l', e, R, s, m, args, below, meth, c, X', nL', post'⟩ := Γ
  obtain ⟨rfl, rfl, rfl, rfl, rfl, hx, hb, hml, hown, hts, hr, hlk, hG, hnm⟩ := M
  intro H locs ls hR hS hl
  exact va_gets hx hb hG.2.2.2.2.2.2.2.2.1.1 hS hown (hts _ q) (fun _ h => h) d (k H locs ls hR hS hl)
theorem j_gets1 (M : Mok Γ l X y cc nL ret rm post) (q : Cond.fieldLink y.cls index "AheadRows$Mix" "PRODUCT" "LAheadRows$Mix;" ∈ lw_all) (d : decode cc pc = .ok (.getstatic index, 3)) (k : J Γ hp ce sl (pc + 3) lv (.ref (cxS X 1) :: st)) :
    J Γ hp ce sl pc lv st := by
  obtain ⟨p, l', e, R, s, m, args, below, meth, c, X', nL', post'⟩ := Γ
  obtain ⟨rfl, rfl, rfl, rfl, rfl, hx, hb, hml, hown, hts, hr, hlk, hG, hnm⟩ := M
  intro H locs ls hR hS hl
  exact va_gets hx hb hG.2.2.2.2.2.2.2.2.2.1 hS hown (hts _ q) (fun _ h => h) d (k H locs ls hR hS hl)
theorem rc_mix0 (M : Mok Γ l X y cc nL ret rm post) : Rc Γ hp (cxS X 0) "AheadRows$Mix$1" := by
  obtain ⟨p, l', e, R, s, m, args, below, meth, c, X', nL', post'⟩ := Γ
  obtain ⟨rfl, rfl, rfl, rfl, rfl, hx, hb, hml, hown, hts, hr, hlk, hG, hnm⟩ := M
  intro H locs hR hS
  obtain ⟨cell, h1, h2, h3, h4⟩ := hG.2.2.2.2.2.2.2.2.1.2
  exact ⟨cell, by rw [hS.2.1 _ (Array.getElem?_eq_some_iff.mp h1).1 h4]; exact h1, h2, h3⟩
theorem rc_mix1 (M : Mok Γ l X y cc nL ret rm post) : Rc Γ hp (cxS X 1) "AheadRows$Mix$2" := by
  obtain ⟨p, l', e, R, s, m, args, below, meth, c, X', nL', post'⟩ := Γ
  obtain ⟨rfl, rfl, rfl, rfl, rfl, hx, hb, hml, hown, hts, hr, hlk, hG, hnm⟩ := M
  intro H locs hR hS
  obtain ⟨cell, h1, h2, h3, h4⟩ := hG.2.2.2.2.2.2.2.2.2.2
  exact ⟨cell, by rw [hS.2.1 _ (Array.getElem?_eq_some_iff.mp h1).1 h4]; exact h1, h2, h3⟩
/-- a cast that fits -/
theorem j_castY (M : Mok Γ l X y cc nL ret rm post) {nm : String} (q : Cond.classLink y.cls index nm ∈ lw_all) (hq : Cond.castable C nm ∈ lw_tbl) (hrc : Rc Γ hp a C) (d : decode cc pc = .ok (.checkcast index, 3)) (k : J Γ hp ce sl (pc + 3) lv (.ref a :: st)) :
    J Γ hp ce sl pc lv (.ref a :: st) := by
  obtain ⟨p, l', e, R, s, m, args, below, meth, c, X', nL', post'⟩ := Γ
  obtain ⟨rfl, rfl, rfl, rfl, rfl, hx, hb, hml, hown, hts, hr, hlk, hG, hnm⟩ := M
  intro H locs ls hR hS hl
  exact va_castY hx hb hown (hts _ q) (hG.2.1 _ (nw_at hq rfl)) (hrc H locs hR hS) d (k H locs ls hR hS hl)
/-- a cast to its own class -/
theorem j_castS (M : Mok Γ l X y cc nL ret rm post) (hc : clz[ci]? = some (C, T, N)) (q : Cond.classLink y.cls index C ∈ lw_all) (hrc : Rc Γ hp a C) (d : decode cc pc = .ok (.checkcast index, 3)) (k : J Γ hp ce sl (pc + 3) lv (.ref a :: st)) :
    J Γ hp ce sl pc lv (.ref a :: st) := by
  obtain ⟨p, l', e, R, s, m, args, below, meth, c, X', nL', post'⟩ := Γ
  obtain ⟨rfl, rfl, rfl, rfl, rfl, hx, hb, hml, hown, hts, hr, hlk, hG, hnm⟩ := M
  intro H locs ls hR hS hl
  exact va_castS hx hb hown (hts _ q) (hG.1.1 ci _ hc).2 (hrc H locs hR hS) d (k H locs ls hR hS hl)
theorem j_instY (M : Mok Γ l X y cc nL ret rm post) {nm : String} (q : Cond.classLink y.cls index nm ∈ lw_all) (hq : Cond.castable C nm ∈ lw_tbl) (hrc : Rc Γ hp a C) (d : decode cc pc = .ok (.instanceof index, 3)) (k : J Γ hp ce sl (pc + 3) lv (.int (zI 1) :: st)) :
    J Γ hp ce sl pc lv (.ref a :: st) := by
  obtain ⟨p, l', e, R, s, m, args, below, meth, c, X', nL', post'⟩ := Γ
  obtain ⟨rfl, rfl, rfl, rfl, rfl, hx, hb, hml, hown, hts, hr, hlk, hG, hnm⟩ := M
  intro H locs ls hR hS hl
  exact va_instY hx hb hown (hts _ q) (hG.2.1 _ (nw_at hq rfl)) (hrc H locs hR hS) d (k H locs ls hR hS hl)
theorem j_instS (M : Mok Γ l X y cc nL ret rm post) (hc : clz[ci]? = some (C, T, N)) (q : Cond.classLink y.cls index C ∈ lw_all) (hrc : Rc Γ hp a C) (d : decode cc pc = .ok (.instanceof index, 3)) (k : J Γ hp ce sl (pc + 3) lv (.int (zI 1) :: st)) :
    J Γ hp ce sl pc lv (.ref a :: st) := by
  obtain ⟨p, l', e, R, s, m, args, below, meth, c, X', nL', post'⟩ := Γ
  obtain ⟨rfl, rfl, rfl, rfl, rfl, hx, hb, hml, hown, hts, hr, hlk, hG, hnm⟩ := M
  intro H locs ls hR hS hl
  exact va_instS hx hb hown (hts _ q) (hG.1.1 ci _ hc).2 (hrc H locs hR hS) d (k H locs ls hR hS hl)
theorem j_instNo (M : Mok Γ l X y cc nL ret rm post) {nm : String} (q : Cond.classLink y.cls index nm ∈ lw_all) (hq : (C, nm) ∈ ncl) (hrc : Rc Γ hp a C) (d : decode cc pc = .ok (.instanceof index, 3)) (k : J Γ hp ce sl (pc + 3) lv (.int (zI 0) :: st)) :
    J Γ hp ce sl pc lv (.ref a :: st) := by
  obtain ⟨p, l', e, R, s, m, args, below, meth, c, X', nL', post'⟩ := Γ
  obtain ⟨rfl, rfl, rfl, rfl, rfl, hx, hb, hml, hown, hts, hr, hlk, hG, hnm⟩ := M
  intro H locs ls hR hS hl
  exact va_instNo hx hb hown (hts _ q) (hG.2.2.1 _ hq) (hrc H locs hR hS) d (k H locs ls hR hS hl)
theorem GX.sz {X : Cx} {s : State} {H : Heap} {locs : List Loc} (hG : GX X s) (h : va_S (cxA X) s.heap H locs) : cxB X ≤ H.size := Nat.le_trans hG.2.2.2.2.2.1 h.1
/-- a row is laid into an array of objects -/
theorem j_aastO (M : Mok Γ l X y cc nL ret rm post) {n v : Nat} {g : Nat → Option Nat} {i : Int} (he : hp a = some (eO X n g)) (hv : hp v = some (.inr (ci, fs))) (hc : clz[ci]? = some (C, T, N)) (hq : Cond.castable C "java/lang/Object" ∈ lw_tbl) (hi : inb i n) (d : decode cc pc = .ok (.aastore, 1)) (kk : J Γ (hup hp a (eO X n (va_up g i.toNat (some v)))) ce sl (pc + 1) lv st) :
    J Γ hp ce sl pc lv (.ref v :: .int (zI i) :: .ref a :: st) := by
  obtain ⟨p, l', e, R, s, m, args, below, meth, c, X', nL', post'⟩ := Γ
  obtain ⟨rfl, rfl, rfl, rfl, rfl, hx, hb, hml, hown, hts, hr, hlk, hG, hnm⟩ := M
  intro H locs ls hR hS hl
  have hin := zI_in hi.1 hi.2.1 hi.2.2
  have hlt : (zI i).toNatClampNeg < n := Nat.not_le.mp fun q => hin (Or.inr q)
  have h0 : ¬ zI i < 0 := fun q => hin (Or.inl q)
  have ha := hR.2 a _ he
  obtain ⟨r', hr', cellV, g1, g2, g3, -⟩ := (hR.2 v _ hv).2
  have hcls := (hG.1.1 ci _ hc).2
  obtain ⟨kA, comp, k1, k2, k3, -⟩ := (hG.1.2 3 _ rfl).2
  obtain ⟨kC, hkC, -⟩ := hcls.2
  obtain ⟨c0, t0, f1, f2, f3⟩ := Cond.castable_spec (va_Nw.use (A := args) rfl (hG.2.1 _ (nw_at hq rfl)))
  have e0 : c0 = (cxD X').1 ci := Option.some.inj (f1.symm.trans hcls.1)
  have e1 : t0 = comp := Option.some.inj (f2.symm.trans k3)
  subst e0; subst e1
  obtain ⟨kT, hkT, -⟩ := Vm.findClass_spec k3
  refine W.aast hx hb ha.2 (fun q h => by cases h) (fun h => by cases h) k1 k2 rfl hkT ⟨h0, by show _ < (arrV _ _ _).slots.size; rw [arrV_size]; exact hlt⟩ g1 (fun q h => by rw [g3] at h; cases h) (by rw [g2]; exact hkC) (by rw [g2]; exact f3) rfl rfl d fun H1 e z oq => ?_
  refine kk H1 _ ls (hR.up ha.1 ?_ (by rw [z]; exact Nat.le_refl _) (fun q _ h => oq q h)) (hS.put z oq ha.1) hl
  show H1[a]? = some (vp_cell _ _)
  rw [e]
  rw [vp_cell_q, vp_cell_q, arrV_store, zI_clamp ⟨by omega, hi.2.2⟩]
  congr 2
  funext q
  by_cases hq : q = i.toNat
  · subst hq
    simp [updV, va_up, va_rf]
  · simp [updV, va_up, hq]
theorem j_aastON (M : Mok Γ l X y cc nL ret rm post) {n : Nat} {g : Nat → Option Nat} {i : Int} (he : hp a = some (eO X n g)) (hi : inb i n) (d : decode cc pc = .ok (.aastore, 1)) (kk : J Γ (hup hp a (eO X n (va_up g i.toNat none))) ce sl (pc + 1) lv st) :
    J Γ hp ce sl pc lv (.null :: .int (zI i) :: .ref a :: st) := by
  obtain ⟨p, l', e, R, s, m, args, below, meth, c, X', nL', post'⟩ := Γ
  obtain ⟨rfl, rfl, rfl, rfl, rfl, hx, hb, hml, hown, hts, hr, hlk, hG, hnm⟩ := M
  intro H locs ls hR hS hl
  obtain ⟨q0, hq0⟩ := hpL_at hR he
  have hin := zI_in hi.1 hi.2.1 hi.2.2
  refine va_astqN hx hb hG.1 (hpL_P hR) (hpL_D hR) hS q0 3 hq0 rfl hin d (fun H1 locs1 hP1 hD1 hS1 => ?_)
  rw [zI_clamp ⟨by omega, hi.2.2⟩] at hP1
  exact kk H1 locs1 ls (hR.back hq0 hP1 (hG.sz hS1)) hS1 hl
theorem j_aastW (M : Mok Γ l X y cc nL ret rm post) {n v : Nat} {g : Nat → Option Nat} {i : Int} (he : hp a = some (eW X n g)) (hv : hp v = some (.inr (1, fs))) (hi : inb i n) (d : decode cc pc = .ok (.aastore, 1)) (kk : J Γ (hup hp a (eW X n (va_up g i.toNat (some v)))) ce sl (pc + 1) lv st) :
    J Γ hp ce sl pc lv (.ref v :: .int (zI i) :: .ref a :: st) := by
  obtain ⟨p, l', e, R, s, m, args, below, meth, c, X', nL', post'⟩ := Γ
  obtain ⟨rfl, rfl, rfl, rfl, rfl, hx, hb, hml, hown, hts, hr, hlk, hG, hnm⟩ := M
  intro H locs ls hR hS hl
  obtain ⟨q0, hq0⟩ := hpL_at hR he
  obtain ⟨q1, hq1⟩ := hpL_at hR hv
  have hin := zI_in hi.1 hi.2.1 hi.2.2
  refine va_astq hx hb hG.1 (hpL_P hR) (hpL_D hR) hS q0 4 q1 1 (r := (RX1, TX1, 4)) hq0 rfl hq1 rfl hin d (fun H1 locs1 hP1 hD1 hS1 => ?_)
  rw [zI_clamp ⟨by omega, hi.2.2⟩] at hP1
  exact kk H1 locs1 ls (hR.back hq0 hP1 (hG.sz hS1)) hS1 hl
theorem j_anewO (M : Mok Γ l X y cc nL ret rm post) {i : Int} (q : Cond.classLink y.cls index "java/lang/Object" ∈ lw_all) (hn : 0 ≤ i ∧ i < 1000000) (hc : ce + 1 ≤ rm.cells ∧ sl + i.toNat ≤ rm.slots) (d : decode cc pc = .ok (.anewarray index, 3)) (kk : ∀ q : Nat, hp q = none → cxB X ≤ q → J Γ (hup hp q (eO X i.toNat (fun _ => none))) (ce + 1) (sl + i.toNat) (pc + 3) lv (.ref q :: st)) :
    J Γ hp ce sl pc lv (.int (zI i) :: st) := by
  obtain ⟨p, l', e, R, s, m, args, below, meth, c, X', nL', post'⟩ := Γ
  obtain ⟨rfl, rfl, rfl, rfl, rfl, hx, hb, hml, hown, hts, hr, hlk, hG, hnm⟩ := M
  intro H locs ls hR hS hl
  have hr32 : r32 i := ⟨by omega, by omega⟩
  refine va_newq hx hb hown (hts _ q) hG.2.2.2.2.1 hG.1 (hpL_P hR) (hpL_D hR) hS (va_SA hG) (by rw [show (0 : Int32) = zI 0 from rfl, zI_lt hr32 (by decide)]; omega) (zI_clamp hr32) (by omega) hc.1 hc.2 d (fun q0 cA H1 hK1 hP1 hD1 hS1 => ?_)
  have hcA : cA = cxC X' 3 := by
    obtain ⟨kA, comp, -, -, -, k4⟩ := (hG.1.2 3 _ rfl).2
    obtain ⟨kA2, comp2, -, -, -, k42⟩ := (hK1.2 5 (cA, .object "java/lang/Object") rfl).2
    exact Option.some.inj (k42.symm.trans k4)
  subst hcA
  obtain ⟨hR1, hn1, hB1⟩ := hR.app hP1 hD1 (hG.sz hS1)
  exact kk q0 hn1 hB1 H1 locs ls hR1 hS1 hl
theorem j_anewW (M : Mok Γ l X y cc nL ret rm post) {i : Int} (q : Cond.classLink y.cls index "AheadRows$Wheel" ∈ lw_all) (hn : 0 ≤ i ∧ i < 1000000) (hc : ce + 1 ≤ rm.cells ∧ sl + i.toNat ≤ rm.slots) (d : decode cc pc = .ok (.anewarray index, 3)) (kk : ∀ q : Nat, hp q = none → cxB X ≤ q → J Γ (hup hp q (eW X i.toNat (fun _ => none))) (ce + 1) (sl + i.toNat) (pc + 3) lv (.ref q :: st)) :
    J Γ hp ce sl pc lv (.int (zI i) :: st) := by
  obtain ⟨p, l', e, R, s, m, args, below, meth, c, X', nL', post'⟩ := Γ
  obtain ⟨rfl, rfl, rfl, rfl, rfl, hx, hb, hml, hown, hts, hr, hlk, hG, hnm⟩ := M
  intro H locs ls hR hS hl
  have hr32 : r32 i := ⟨by omega, by omega⟩
  refine va_newq hx hb hown (hts _ q) hG.2.2.2.1 hG.1 (hpL_P hR) (hpL_D hR) hS (va_SA hG) (by rw [show (0 : Int32) = zI 0 from rfl, zI_lt hr32 (by decide)]; omega) (zI_clamp hr32) (by omega) hc.1 hc.2 d (fun q0 cA H1 hK1 hP1 hD1 hS1 => ?_)
  have hcA : cA = cxC X' 4 := by
    obtain ⟨kA, comp, -, -, -, k4⟩ := (hG.1.2 4 _ rfl).2
    obtain ⟨kA2, comp2, -, -, -, k42⟩ := (hK1.2 5 (cA, .object "AheadRows$Wheel") rfl).2
    exact Option.some.inj (k42.symm.trans k4)
  subst hcA
  obtain ⟨hR1, hn1, hB1⟩ := hR.app hP1 hD1 (hG.sz hS1)
  exact kk q0 hn1 hB1 H1 locs ls hR1 hS1 hl
/-- System.arraycopy of ints -/
theorem j_copyI (M : Mok Γ l X y cc nL ret rm post) {a0 n0 n1 : Nat} {g0 g1 : Int → Int} {i : Int} (q1 : Cond.methodLink y.cls index arraycopyName ∈ lw_all) (q2 : Cond.native arraycopyName ∈ lw_all) (q3 : Cond.static arraycopyName ∈ lw_all) (q4 : Cond.initialized "java/lang/System" ∈ lw_all) (he0 : hp a0 = some (eI X n0 g0)) (he : hp a = some (eI X n1 g1)) (hi : 0 ≤ i ∧ i < 1000000 ∧ i ≤ n0 ∧ i ≤ n1)
    (hf : 1 ≤ rm.frames ∧ (st.map fun v => v.category).sum + (nativeFrameWords "java/lang/System" "arraycopy" 5 + 11) ≤ rm.locals) (d : decode cc pc = .ok (.invokestatic index, 3)) (kk : J Γ (hup hp a (eI X n1 (fun k => if 0 ≤ k ∧ k < i then g0 k else g1 k))) ce sl (pc + 3) lv st) :
    J Γ hp ce sl pc lv (.int (zI i) :: .int (zI 0) :: .ref a :: .int (zI 0) :: .ref a0 :: st) := by
  obtain ⟨p, l', e, R, s, m, args, below, meth, c, X', nL', post'⟩ := Γ
  obtain ⟨rfl, rfl, rfl, rfl, rfl, hx, hb, hml, hown, hts, hr, hlk, hG, hnm⟩ := M
  intro H locs ls hR hS hl
  obtain ⟨k0, hk0⟩ := hpL_at hR he0
  obtain ⟨k1, hk1⟩ := hpL_at hR he
  have hr32 : r32 i := ⟨by omega, by omega⟩
  have hz : (zI i).toNatClampNeg = i.toNat := zI_clamp hr32
  have hz0 : (zI 0).toNatClampNeg = 0 := rfl
  refine va_copyi hx hb (hml.trans hl.1.symm) hown (hts _ q1) (hts _ q2) (hts _ q3) (hts _ q4) hG.1 (hpL_P hR) (hpL_D hR) hS k0 k1 0 0 hk0 hk1 rfl rfl rfl (by decide) (by decide) (by rw [show (0 : Int32) = zI 0 from rfl, zI_lt hr32 (by decide)]; omega) (by rw [hz, hz0]; omega) (by rw [hz, hz0]; omega) (fun _ _ => rfl) hf.1 hf.2 d (fun H1 locs1 hP1 hD1 hS1 => ?_)
  have e1 : va_cpy (arI g0) (arI g1) (zI 0).toNatClampNeg (zI 0).toNatClampNeg (zI i).toNatClampNeg = arI (fun k => if 0 ≤ k ∧ k < i then g0 k else g1 k) := by
    funext k
    rw [hz, hz0]
    unfold va_cpy arI
    dsimp only
    by_cases hk : k < i.toNat
    · rw [if_pos (by omega), if_pos (by omega)]; simp
    · rw [if_neg (by omega), if_neg (by omega)]
  rw [e1] at hP1
  exact kk H1 locs1 ls (hR.back hk1 hP1 (hG.sz hS1)) hS1 hl
/-- an array's clone -/
theorem j_clone (M : Mok Γ l X y cc nL ret rm post) {n : Nat} {g : Int → Int} (q1 : Cond.methodLink y.cls index ⟨"[I", "clone", "()Ljava/lang/Object;"⟩ ∈ lw_all) (he : hp a = some (eI X n g)) (hc : ce + 1 ≤ rm.cells ∧ sl + n ≤ rm.slots)
    (hf : 1 ≤ rm.frames ∧ (st.map fun v => v.category).sum + 14 ≤ rm.locals) (d : decode cc pc = .ok (.invokevirtual index, 3)) (kk : ∀ q : Nat, hp q = none → cxB X ≤ q → J Γ (hup hp q (eI X n g)) (ce + 1) (sl + n) (pc + 3) lv (.ref q :: st)) :
    J Γ hp ce sl pc lv (.ref a :: st) := by
  obtain ⟨p, l', e, R, s, m, args, below, meth, c, X', nL', post'⟩ := Γ
  obtain ⟨rfl, rfl, rfl, rfl, rfl, hx, hb, hml, hown, hts, hr, hlk, hG, hnm⟩ := M
  intro H locs ls hR hS hl
  obtain ⟨k1, hk1⟩ := hpL_at hR he
  refine va_clone hx hb (hml.trans hl.1.symm) (ad := "[I") hown (hts _ q1) (hts _ q903) (hts _ q904) (hts _ q905) (hts _ q906) (hG.2.1 _ (nw_at q907 rfl)) hG.1 (hpL_P hR) (hpL_D hR) hS (va_SA hG) k1 0 hk1 rfl (hG.1.2 0 _ rfl).2 (fun i v hv => ?_) hf.1 hf.2 hc.1 hc.2 d (fun q H1 hK1 hP1 hD1 hS1 => ?_)
  · have hi : i < n := by
      have := (Array.getElem?_eq_some_iff.mp hv).1
      have e2 : (vp_cell (cxC X' 0) (n, .inl (arI g))).slots.size = n := arrV_size _ _ _
      omega
    have e3 : (vp_cell (cxC X' 0) (n, .inl (arI g))).slots[i]? = some (.int (arI g i)) := arrV_read _ _ hi
    rw [e3] at hv
    cases hv
    rfl
  · obtain ⟨hR1, hn1, hB1⟩ := hR.app hP1 hD1 (hG.sz hS1)
    exact kk q hn1 hB1 H1 locs ls hR1 hS1 hl
end JR
