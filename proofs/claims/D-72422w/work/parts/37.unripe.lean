/-! 37: contracts of methods whose class isn't said to be initialised (instance methods of a constant's own class) -/
set_option maxRecDepth 100000
def AppU (S : Spec) (x : MethodName) (pl : Platform) (s : State) (m : MethodId) (args : Array Value) (below : List Frame) : Prop :=
  s.status = .running ∧ s.curStatus? = some .runnable ∧ s.alone = true ∧ s.methodNamed? x = some m ∧ s.hears m below = true ∧ s.hasRoom pl S.room = true ∧ S.pre.before args s = true
def MetU (l : Launch) (x : MethodName) (S : Spec) (P : Array Value → State → Prop) (Q : Array Value → State → Outcome → State → Prop) : Prop :=
  ∀ (p : Program) e, l.admits e → FairCas e.choices → FairClock e.choices → ∀ s m args below,
    s.frames = .invoking m args :: below → AppU S x e.platform s m args below → P args s →
    ∃ n o, (∀ k, k < n → Within (stepsAlone p.tables e k s) below) ∧ (stepsAlone p.tables e n s).status = .running ∧ Ended (stepsAlone p.tables e n s) below o ∧ Q args s o (stepsAlone p.tables e n s)
theorem MetU.of {l : Launch} {x : MethodName} {S : Spec} {P : Array Value → State → Prop} {Q : Array Value → State → Outcome → State → Prop} {code : ByteArray} {maxLocals : Nat} {ret : Option FieldType}
    (hx : plainFor x = true)
    (his : ∀ args (s : State) m, S.pre.before args s = true → s.methodNamed? x = some m → ∃ meth c, s.vm.method? m = some meth ∧ meth.code = some c ∧ c.code = code ∧ c.maxLocals = maxLocals ∧ meth.sig.returnType = ret ∧ meth.locks = false)
    (body : ∀ (p : Program) e s m args below meth c s₁, s₁.heap = s.heap → Stand p l e S.room s m args below meth c s₁ [] 0 0 → p.tables.exec = Jvm.exec → s.methodNamed? x = some m → c.code = code → c.maxLocals = maxLocals → meth.sig.returnType = ret → meth.locks = false → S.pre.before args s = true → P args s →
      ∃ s₂ o, Steps p.tables e below (s₁.setTop (entryFrame m args maxLocals)) s₂ ∧ s₂.status = .running ∧ Ended s₂ below o ∧ Q args s o s₂) : MetU l x S P Q := by
  intro p e ha hc hk s m args below hf happ hP
  obtain ⟨hrun, hable, halone, hname, hhears, hroom, hpre⟩ := happ
  obtain ⟨meth, c, hmeth, hcode, hbytes, hlocals, hret, hlocks⟩ := his args s m hpre hname
  have hcur := State.cur_lt_of_frames hf
  have hf1 : (s.setFrames (.java (entryFrame m args maxLocals) :: below)).frames = .java (entryFrame m args maxLocals) :: below := State.frames_setFrames _ hcur
  have ht1 := State.topJava?_of_frames hf1
  have hplain : (s.setFrames (.java (entryFrame m args maxLocals) :: below)).plainMethod m := State.plainMethod.of_named (s := s) hx hname hmeth
  have hAt : At (s.setFrames (.java (entryFrame m args maxLocals) :: below)) m c below :=
    ⟨by rw [ht1]; rfl, ⟨[], by rw [hf1]; rfl⟩, hrun, by simpa using hable, by simpa using halone, by rw [State.code?_eq]; simp [State.setFrames, hmeth, hcode], hplain⟩
  have hstep : (stepThread p.tables e s).1 = (s.setFrames (.java (entryFrame m args maxLocals) :: below)).setTop (entryFrame m args maxLocals) := by
    have hfull : e.platform.stackFull (s.setFrames below).me (s.setFrames below).frames c.maxLocals = false := by
      obtain ⟨-, h1, -, h2⟩ := State.hasRoom_stack hroom
      rw [hf, List.length_cons] at h1
      rw [State.localsInUse_invoking hf hmeth hcode] at h2
      have hw := stackUse_le_stackWeight below
      rw [State.frames_setFrames _ hcur]
      exact Platform.stackFull_eq_false (by rw [State.stackLimits_setFrames]; omega) (by rw [State.stackLimits_setFrames]; omega)
    rw [stepThread_invoking hf, (doInvoke_java (s := s.setFrames below) (e := e) (meth := meth) (code := c) hmeth hcode hlocks hfull).1, State.setTop_self ht1]
    simp only [State.pushFrame, State.frames_setFrames _ hcur, State.setFrames_setFrames, hlocals, entryFrame]
  obtain ⟨t, ht, -⟩ := State.frames_cons hf
  have hStand : Stand p l e S.room s m args below meth c (s.setFrames (.java (entryFrame m args maxLocals) :: below)) [] 0 0 :=
    ⟨ha, hc, hk, hf, hroom, hhears, hmeth, hcode, hAt, by rw [hf1]; rfl, State.WarmedH.refl s, State.stackLimits_setFrames .., State.stackBytes_setFrames .., (State.sameButNew.refl s ht).setFrames (.java (entryFrame m args maxLocals) :: below) hcur⟩
  obtain ⟨s₂, o, hs, hr, he, hp⟩ := body p e s m args below meth c (s.setFrames (.java (entryFrame m args maxLocals) :: below)) rfl hStand (by cases p <;> rfl) hname hbytes hlocals hret hlocks hpre hP
  obtain ⟨n, hn, hw⟩ := Steps.head (tb := p.tables) (e := e) ⟨hrun, hable, halone⟩ ⟨[.invoking m args], hf, by simp, by simp⟩ (hstep ▸ hs)
  exact ⟨n, o, hw, hn ▸ hr, hn ▸ he, hn ▸ hp⟩
theorem callU {l : Launch} {x : MethodName} {S : Spec} {P : Array Value → State → Prop} {Q : Array Value → State → Outcome → State → Prop} {e : Env}
    (hM : MetU l x S P Q) (p : Program) (ha : l.admits e) (hc : FairCas e.choices) (hk : FairClock e.choices)
    {s : State} {m : MethodId} {args : Array Value} {acts : List Action} {mid below : List Frame} (hlt : s.cur < s.threads.size)
    (hfr : s.frames = mid ++ below) (happ : AppU S x e.platform (s.pushFrame (.invoking m args)) m args s.frames) (hP : P args (s.pushFrame (.invoking m args))) :
    ∃ o s₂, Steps p.tables e below (doInvoke e s acts m args).1 s₂ ∧ s₂.status = .running ∧ Ended s₂ s.frames o ∧ Q args (s.pushFrame (.invoking m args)) o s₂ := by
  obtain ⟨t, ht⟩ : ∃ t, s.threads[s.cur]? = some t := ⟨_, Array.getElem?_eq_getElem hlt⟩
  have hf' : (s.pushFrame (.invoking m args)).frames = .invoking m args :: s.frames := State.frames_setFrames _ hlt
  have hgo : (s.pushFrame (.invoking m args)).goesOn := ⟨happ.1, happ.2.1, happ.2.2.1⟩
  obtain ⟨n, o, hw, hr, he, hp⟩ := hM p e ha hc hk (s.pushFrame (.invoking m args)) m args s.frames hf' happ hP
  have hstep : (stepThread p.tables e (s.pushFrame (.invoking m args))).1 = (doInvoke e s acts m args).1 := by
    rw [stepThread_invoking hf', doInvoke_state e s acts, State.pushFrame, State.setFrames_setFrames, State.setFrames_self ht]
  cases n with
  | zero => exact absurd ⟨[.invoking m args], hf', by simp, by simp⟩ he.not_within
  | succ k =>
    rw [stepsAlone_succ _ hgo, hstep] at hr he hp
    refine ⟨o, _, ⟨k, rfl, fun j hj => ?_⟩, hr, he, hp⟩
    have := hw (j + 1) (by omega)
    rw [stepsAlone_succ _ hgo, hstep, hfr] at this
    exact this.weaken
section BU
variable {l : Launch} {R : Room} {p : Program} {e : Env} {below : List Frame} {s : State} {sargs : Array Value} {y : MethodName} {len W : Nat}
theorem backU {ws : List Cond} {rm : Room} {Pc : Array Value → State → Prop} {Qc : Array Value → State → Outcome → State → Prop} {mc ms : Nat} {free : Addr → Prop} {bytes : ByteArray} {maxL : Nat} {ret : Option FieldType}
    (hM : MetU l y (headSpec ws rm) Pc (fun a st o t => Qc a st o t ∧ ∃ L, FrameEnd st o t L mc ms ∧ ∀ q ∈ L, free q.base)) (hblind : FrameBlind Pc) (hrc : rm.cells = mc) (hrs : rm.slots = ms)
    (hframes : rm.frames + 1 ≤ R.frames) (hlocals : W + (maxL + 11) + rm.locals ≤ R.locals)
    (hws : ∀ w ∈ ws, ∀ a' U, s.WarmedH U.vm → w.before a' U = true) (hcode : Cond.code y bytes maxL ret ∈ ws) :
    Back l R p e below s sargs y len W (PreOf R mc ms Pc) (PostOf Qc mc ms free) := by
  intro m meth c A g ig mk a X hg hsize hdg hW hn hp
  obtain ⟨U, Ls, c0, s0⟩ := A
  dsimp only [Pt.U, Pt.locs, Pt.cells, Pt.slots] at X hn hp ⊢
  have h1 : (headSpec ws rm).pre.before a U = true := atoms_intro fun w hw => hws w hw _ _ X.warmed
  have h2 : (Cond.code y bytes maxL ret).before a U = true := hws _ hcode _ _ X.warmed
  obtain ⟨methY, cY, hmY, hcY, -, hlY, -, -, -, -⟩ := Cond.code_spec hn h2
  have h : At U g.method c below := by rw [hg]; exact X.here
  have hcd : (U.calling g mk a).code? g.method = some c := by
    have := h.code
    rw [State.code?_eq] at this ⊢
    simpa [State.calling, State.pushFrame, State.setFrames] using this
  have hroom := X.room_calling (g := g) (R' := (headSpec ws rm).room) (args' := a) hsize hmY hcY hframes (by rw [hlY]; show _ + _ + rm.locals ≤ _; omega) (by show _ + rm.cells ≤ _; rw [hrc]; exact hp.1) (by show _ + rm.slots ≤ _; rw [hrs]; exact hp.2.1)
  obtain ⟨g₀, hg0⟩ := Option.isSome_iff_exists.mp h.top
  obtain ⟨r, hr⟩ := State.topJava?_eq_some.mp hg0
  have hft : (U.setTop g).frames = .java g :: U.frames.tail := State.frames_setTop' g h.top
  have happ : AppU (headSpec ws rm) y e.platform (U.calling g mk a) mk a (U.setTop g).frames := by
    refine ⟨h.running, ?_, ?_, hn, ?_, hroom, ?_⟩
    · simpa [State.calling] using h.runnable
    · simpa [State.calling] using h.alone
    · rw [hft]; simp [State.hears, hcd, hdg, Except.toOption]
    · rw [State.calling_eq h.top, Cond.before_setFrames]; exact h1
  obtain ⟨mid, hmid⟩ := h.above
  have hfr : (U.setTop g).frames = (.java g :: mid) ++ below := by rw [hft, hmid]; rfl
  have hlt : (U.setTop g).cur < (U.setTop g).threads.size := State.cur_lt_of_frames hft
  obtain ⟨o, s₂, hsteps, -, hend, hq⟩ := callU hM p X.admits X.cas X.clock (acts := []) hlt hfr happ (hblind _ _ _ _ hp.2.2)
  rw [hft] at hend
  obtain ⟨hq', L, hfe, hL⟩ := hq
  have hq' : Qc a (U.calling g mk a) o s₂ := hq'
  have hfe : FrameEnd (U.calling g mk a) o s₂ L mc ms := hfe
  obtain ⟨⟨v, rfl⟩, hW₂, e2, q2, q3, q4, q5, q6⟩ := id hfe
  have e3 : s₂ = ({ (U.calling g mk a).setFrames s₂.frames with heap := s₂.heap, slotsUsed := s₂.slotsUsed } : State).setVm s₂.vm := by
    have : s₂ = ({ s₂ with vm := (U.calling g mk a).vm } : State).setVm s₂.vm := rfl
    rw [e2] at this
    exact this
  obtain ⟨c₂, i₂, len₂, hc₂, hd₂, hf₂⟩ := hend
  have hW' : U.WarmedH s₂.vm := hW₂
  have hcc : c₂ = c := by
    have h1 : s₂.code? g.method = U.code? g.method := by
      rw [State.code?_eq, State.code?_eq, hW'.alike.method?]
    exact Option.some.inj (hc₂.symm.trans (h1.trans h.code))
  subst hcc
  have hlen : len₂ = len := by rw [hdg] at hd₂; cases hd₂; rfl
  subst hlen
  have hs₂ : s₂ = (({ U with heap := s₂.heap, slotsUsed := s₂.slotsUsed } : State).setVm s₂.vm).setTop { g with pc := g.pc + len₂, stack := v.toList ++ g.stack } := by
    have hr' : (({ U with heap := s₂.heap, slotsUsed := s₂.slotsUsed } : State).setVm s₂.vm).frames = .java g₀ :: r := hr
    refine e3.trans ?_
    rw [hf₂, State.calling_eq h.top, State.setFrames_setFrames, State.setTop_of_frames _ hr', hr]
    rfl
  have hsame : U.sameButNew ({ U with heap := s₂.heap, slotsUsed := s₂.slotsUsed } : State) L mc ms := by
    refine ⟨?_, q2, q3, q4, q5, q6⟩
    obtain ⟨t, ht, -⟩ := State.frames_cons hr
    show ({ U with heap := s₂.heap, slotsUsed := s₂.slotsUsed } : State) = { U.setFrames U.frames with heap := s₂.heap, slotsUsed := s₂.slotsUsed }
    rw [State.setFrames_self ht]
  subst hg
  refine ⟨v, ⟨(({ U with heap := s₂.heap, slotsUsed := s₂.slotsUsed } : State).setVm s₂.vm), Ls ++ L, c0 + mc, s0 + ms⟩,
    ⟨X.admits, X.cas, X.clock, X.frames, X.room, X.hears, X.method, X.code, (X.here.setHeapUsed s₂.heap s₂.slotsUsed).setVm hW'.alike, X.tail, State.WarmedH.trans X.warmed hW', X.limits, X.bytes, X.same.trans (hsame.setVm s.vm)⟩,
    ⟨g, mk, s₂, L, rfl, rfl, hq', rfl, hL, rfl, rfl⟩, ?_⟩
  show Steps p.tables e below _ ((({ U with heap := s₂.heap, slotsUsed := s₂.slotsUsed } : State).setVm s₂.vm).setTop { g with pc := g.pc + len₂, stack := v.toList ++ g.stack })
  rw [← hs₂]
  exact hsteps
end BU
/-- a contract, as Ct; the method's class needn't be said to be initialised -/
def CtU (l : Launch) (X : Cx) (y : MethodName) (cc : ByteArray) (nL : Nat) (ret : Option FieldType) (rm : Room) (avs : List Value) (hp : Hp) (post : Option Value → Hp → Prop) : Prop :=
  MetU l y (headSpec (ws_ y cc nL ret) rm) (va_Pc avs (fun U => GX X U ∧ Rl X hp U.heap)) (fun a st o t => Qg X post a st o t ∧ ∃ L, FrameEnd st o t L rm.cells rm.slots ∧ ∀ q ∈ L, cxA X q.base)
theorem CtU.of {l : Launch} {X : Cx} {y : MethodName} {cc : ByteArray} {nL : Nat} {ret : Option FieldType} {rm : Room} {avs : List Value} {hp : Hp} {post : Option Value → Hp → Prop} (hy : plainFor y = true) (hn : (lg_sl avs).length ≤ nL)
    (body : ∀ Γ : Gm, Mok Γ l X y cc nL ret rm post → J Γ hp 0 0 0 (lv_args 0 avs) []) : CtU l X y cc nL ret rm avs hp post := by
  refine MetU.of (code := cc) (maxLocals := nL) (ret := ret) hy ?_ ?_
  · intro args s m h hn2
    obtain ⟨meth, c, h1, h2, h3, h4, h5, h6, -, -⟩ := Cond.code_spec hn2 (atoms_spec (ws := ws_ y cc nL ret) h _ List.mem_cons_self)
    exact ⟨meth, c, h1, h2, h3, h4, h5, h6⟩
  · intro p e s m args below meth c s₁ hh0 hSt hex hnm hby hml hre hlk hpre hv
    obtain ⟨rfl, hG, hR⟩ := hv
    have hts := atoms_spec (ws := ws_ y cc nL ret) hpre
    have hts : ∀ w ∈ lw_all, w.before _ s = true := fun w h => hts w (List.mem_cons_of_mem _ h)
    have k := body (p, l, e, rm, s, m, avs.toArray, below, meth, c, X, nL, post) ⟨rfl, rfl, rfl, rfl, rfl, hex, hby, hml, findClass_of_methodNamed hnm, hts, hre, hlk, hG, (name_of_methodNamed hnm hSt.method).1⟩
    rw [lg_entry_eq]
    obtain ⟨t, a1, o, b1, b2, b3⟩ := k s.heap [] _ hR va_S.rf (lv_entry avs hn) s₁ hh0 hSt
    exact ⟨t, o, a1, b1, b2, ⟨b3.1, b3.2⟩⟩
section JU
variable {Γ : Gm} {l : Launch} {X : Cx} {y : MethodName} {cc : ByteArray} {nL : Nat} {ret : Option FieldType} {rm : Room} {post : Option Value → Hp → Prop} {hp : Hp} {ce sl pc : Nat} {lv : List (Nat × Value)} {st0 rest : List Value}
variable {yc xc : MethodName} {bytes : ByteArray} {maxL index : Nat} {retc : Option FieldType} {rmc : Room} {As : List Value} {postc : Option Value → Hp → Prop} {b : Nat} {C owner : String}
theorem k_AU (M : Mok Γ l X y cc nL ret rm post) (hM : CtU l X yc bytes maxL retc rmc (.ref b :: As) hp postc) (hrc : Rc Γ hp b C) (q1 : Cond.methodLink y.cls index xc ∈ lw_all) (q2 : Cond.sameMethod xc.cls owner xc.name xc.desc ∈ lw_all) (q3 : Cond.selects C xc yc ∈ lw_all) (q4 : Cond.instanceMethod yc ∈ lw_all) (hw : GoodIn lw_all (ws_ yc bytes maxL retc)) (hz : Cond.declares ⟨owner, xc.name, xc.desc⟩ ∈ lw_tbl) (hd : owner ≠ "java/lang/invoke/MethodHandle" ∧ owner ≠ "java/lang/invoke/VarHandle" ∧ (parseMethodDescriptor xc.desc).map (fun d => d.parameters.length) = some As.length) (d : decode cc pc = .ok (.invokevirtual index, 3)) (hR : rmP rmc rm maxL ce sl) (hst : st0 = As.reverse ++ .ref b :: rest) (hW : (rest.map fun v => v.category).sum ≤ 8) : Rn Γ hp ce sl pc lv st0 rest rmc postc := by
  obtain ⟨p, l', e, R, s, m, args, below, meth, c, X', nL', post'⟩ := Γ
  obtain ⟨rfl, rfl, rfl, rfl, rfl, hx, hb, hml, hown, hts, hr, hlk, hG, hnm⟩ := M
  intro H locs ls hRl hS hl
  subst hst
  have hcm : Cond.code yc bytes maxL retc ∈ ws_ yc bytes maxL retc := List.mem_cons_self
  have hK : Back l' R p e below s args yc 3 8 (PreOf R rmc.cells rmc.slots (va_Pc (.ref b :: As) (fun U => GX X' U ∧ Rl X' hp U.heap))) (PostOf (Qg X' postc) rmc.cells rmc.slots (cxA X')) := backU (bytes := bytes) (maxL := maxL) (ret := retc) hM ct_blind rfl rfl hR.1 hR.2.1 (pay_in hts hw) hcm
  obtain ⟨cellB, hcB, hoB, hclB⟩ := hrc H locs hRl hS
  refine ⟨(Value.ref b :: As).toArray, fun T hT X => ?_⟩
  obtain ⟨v, vm₁, ⟨U', l2, c2, s2⟩, hW₁, X', ⟨g', mk, t, L, e1, e2, hq, h1, hL, h2, h3⟩, st⟩ := va_callVU X hx (C := C) (owner := owner) (bytes := bytes) (maxL := maxL) (ret := retc) hown (hts _ q1) (hts _ q2) (va_Decl.abs (hG.2.1 _ (nw_at hz rfl))) ⟨hd.1, hd.2.1⟩ (hts _ q3) (hts _ q4) (hts _ (hw _ hcm).1) hK (by rw [hT]; exact hcB) hoB hclB (g := F0 m pc ls (As.reverse ++ .ref b :: rest)) rfl (hl.1.trans hml.symm) (argsL := As) (rest := rest) (fun sig h => by have h2 := hd.2.2; rw [h] at h2; exact Option.some.inj h2.symm) rfl (by show 2 * 0 + _ ≤ 8; omega) (by rw [hb]; exact d)
    (fun vm₁ hW₁ => ⟨hR.2.2.1, hR.2.2.2, rfl, hG.go hS hT hW₁, by show Rl _ _ (T.setVm vm₁).heap; rw [show (T.setVm vm₁).heap = T.heap from rfl, hT]; exact hRl⟩)
  dsimp only [Pt.U, Pt.locs, Pt.cells, Pt.slots] at X' e1 e2 h1 h2 h3 st
  subst h1; subst h2; subst h3
  exact ⟨v, (T.setVm vm₁).calling g' mk (Value.ref b :: As).toArray, t, U', L, hT, X', hL, e1, e2, hq, st⟩
end JU
