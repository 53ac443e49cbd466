/-! 11: the layer J over the kit's W: an exact abstract heap, a fixed context, ints as images of whole numbers -/
set_option maxRecDepth 100000
abbrev Hp : Type := Nat → Option va_E
abbrev Cx : Type := (Nat → ClassId) × (Nat → Nat → Nat) × (Nat → ClassId) × Nat × (Nat → Nat)
def cxB (X : Cx) : Nat := X.2.2.2.1
def cxD (X : Cx) : va_G := (X.1, X.2.1)
def cxA (X : Cx) : Nat → Prop := fun q => cxB X ≤ q
def cxC (X : Cx) (k : Nat) : ClassId := X.2.2.1 k
def cxS (X : Cx) (k : Nat) : Nat := X.2.2.2.2 k
def cxT (X : Cx) : List (ClassId × FieldType) := [(cxC X 0, .int), (cxC X 1, .byte), (cxC X 2, .boolean), (cxC X 3, .object "java/lang/Object"), (cxC X 4, .object "AheadRows$Wheel")]
def clz : List vw_C := [(RX0, TX0, 15), (RX1, TX1, 4), (RX2, TX2, 33), (RX3, TX3, 4), (RJ2, TJ2, 3), (RX5, TX5, 4), (RX12, TX12, 6), (RX7, TX7, 2), (RX8, TX8, 2), (RX10, TX10, 3), (RX11, TX11, 1)]
def Rl (X : Cx) (hp : Hp) (H : Heap) : Prop := cxB X ≤ H.size ∧ ∀ (a : Nat) (e : va_E), hp a = some e → cxB X ≤ a ∧ va_at (cxD X) clz (a, e) H
def hup (hp : Hp) (a : Nat) (e : va_E) : Hp := fun q => if q = a then some e else hp q
theorem hup_s (hp : Hp) (a : Nat) (e : va_E) : hup hp a e a = some e := by simp [hup]
theorem hup_n (hp : Hp) {a b : Nat} (e : va_E) (h : b ≠ a) : hup hp a e b = hp b := by simp [hup, h]
theorem Rl.fresh {X : Cx} {hp : Hp} {H : Heap} (h : Rl X hp H) : hp H.size = none := by
  cases he : hp H.size with
  | none => rfl
  | some e => exact absurd (h.2 _ _ he).2.lt (Nat.lt_irrefl _)
theorem Rl.up {X : Cx} {hp : Hp} {H H1 : Heap} {a : Nat} {e : va_E} (h : Rl X hp H) (ha : cxB X ≤ a) (he : va_at (cxD X) clz (a, e) H1) (hz : H.size ≤ H1.size) (oq : ∀ q : Nat, q < H.size → q ≠ a → H1[q]? = H[q]?) : Rl X (hup hp a e) H1 := by
  refine ⟨Nat.le_trans h.1 hz, fun b e1 hb => ?_⟩
  by_cases hba : b = a
  · subst hba
    rw [hup_s] at hb
    cases hb
    exact ⟨ha, he⟩
  · rw [hup_n _ _ hba] at hb
    have h1 := h.2 b e1 hb
    exact ⟨h1.1, h1.2.kept (oq b h1.2.lt hba)⟩
theorem Rl.kept {X : Cx} {hp : Hp} {H H1 : Heap} (h : Rl X hp H) (hz : H.size ≤ H1.size) (oq : ∀ q : Nat, q < H.size → H1[q]? = H[q]?) : Rl X hp H1 :=
  ⟨Nat.le_trans h.1 hz, fun b e1 hb => ⟨(h.2 b e1 hb).1, (h.2 b e1 hb).2.kept (oq b (h.2 b e1 hb).2.lt)⟩⟩
/-- words that ride beside the lists -/
def nwk (w : Cond) : Bool := match w with
  | .fieldLinkNest .. => true
  | .methodLinkNest .. => true
  | .castable .. => true
  | .declares .. => true
  | _ => false
def nwl : List Cond := lw_tbl.filter nwk
def ncl : List (String × String) := [("AheadRows$Told", "AheadRows$Sum"), ("AheadRows$Told", "AheadRows$Product"), ("AheadRows$Told", "AheadRows$Each"), ("AheadRows$Told", "AheadRows$Step"), ("AheadRows$Told", "AheadRows$Both"), ("AheadRows$Told", "AheadRows$Over"), ("AheadRows$Sum", "AheadRows$Told"), ("AheadRows$Sum", "AheadRows$Product"), ("AheadRows$Sum", "AheadRows$Each"), ("AheadRows$Sum", "AheadRows$Step"), ("AheadRows$Sum", "AheadRows$Over"), ("AheadRows$Product", "AheadRows$Told"), ("AheadRows$Product", "AheadRows$Sum"), ("AheadRows$Product", "AheadRows$Each"), ("AheadRows$Product", "AheadRows$Step"), ("AheadRows$Product", "AheadRows$Over"), ("AheadRows$Each", "AheadRows$Told"), ("AheadRows$Each", "AheadRows$Sum"), ("AheadRows$Each", "AheadRows$Product"), ("AheadRows$Each", "AheadRows$Step"), ("AheadRows$Each", "AheadRows$Both"), ("AheadRows$Step", "AheadRows$Told"), ("AheadRows$Step", "AheadRows$Sum"), ("AheadRows$Step", "AheadRows$Product"), ("AheadRows$Step", "AheadRows$Each"), ("AheadRows$Step", "AheadRows$Both")]
theorem nw_at {w : Cond} (h : w ∈ lw_tbl) (g : nwk w = true) : w ∈ nwl := List.mem_filter.mpr ⟨h, g⟩
theorem nw_warm {w : Cond} (g : nwk w = true) {s U : State} (hW : s.WarmedH U.vm) (h : va_Nw w s) : va_Nw w U := by
  cases w <;> first
    | exact va_Nw.warmF hW h
    | exact va_Nw.warmM hW h
    | exact va_Nw.warmC hW h
    | exact va_Nw.warmD hW h
    | exact absurd g (by simp [nwk])
theorem nw_same {w : Cond} (g : nwk w = true) {s U : State} (hv : s.vm = U.vm) (h : va_Nw w s) : va_Nw w U := by
  cases w <;> first
    | exact va_Nw.same rfl hv h
    | exact absurd g (by simp [nwk])
def GS (X : Cx) (U : State) (H : Heap) : Prop := cxB X ≤ H.size ∧ va_Z "java/util/ArrayList" "DEFAULTCAPACITY_EMPTY_ELEMENTDATA" "[Ljava/lang/Object;" (.ref (cxS X 2)) (cxA X) U H
  ∧ va_T (.object "java/lang/Object") (cxS X 2) 0 (fun _ => .null) (cxA X) U H
  ∧ (va_Z "AheadRows$Mix" "SUM" "LAheadRows$Mix;" (.ref (cxS X 0)) (cxA X) U H ∧ va_O "AheadRows$Mix$1" (cxS X 0) (cxA X) U H)
  ∧ (va_Z "AheadRows$Mix" "PRODUCT" "LAheadRows$Mix;" (.ref (cxS X 1)) (cxA X) U H ∧ va_O "AheadRows$Mix$2" (cxS X 1) (cxA X) U H)
def GX (X : Cx) (U : State) : Prop := va_K (cxD X) clz (cxT X) U ∧ (∀ w ∈ nwl, va_Nw w U) ∧ (∀ q ∈ ncl, va_Nc q.1 q.2 U) ∧ va_AO "AheadRows$Wheel" U ∧ va_AO "java/lang/Object" U ∧ GS X U U.heap
theorem GS.moved {X : Cx} {u U : State} {H H1 : Heap} (h : GS X u H) (hvm : u.vm.Alike U.vm) (hz : H.size ≤ H1.size) (hq : ∀ a : Nat, a < H.size → ¬ cxA X a → H1[a]? = H[a]?) : GS X U H1 := by
  obtain ⟨h0, h1, h2, ⟨h3, h4⟩, h5, h6⟩ := h
  exact ⟨Nat.le_trans h0 hz, (h1.kept hq).moved hvm, (h2.kept hq).moved hvm, ⟨(h3.kept hq).moved hvm, (h4.kept hq).moved hvm⟩, (h5.kept hq).moved hvm, (h6.kept hq).moved hvm⟩
theorem GX.go {X : Cx} {s U : State} {H : Heap} {locs : List Loc} (h : GX X s) (hS : va_S (cxA X) s.heap H locs) (hU : U.heap = H) (hW : s.WarmedH U.vm) : GX X U := by
  obtain ⟨h1, h2, h3, h4, h5, h6⟩ := h
  refine ⟨va_K.moved hW.alike h1, fun w hw => nw_warm (List.mem_filter.mp hw).2 hW (h2 w hw), fun q hq => (h3 q hq).moved hW.alike, h4.moved hW.alike, h5.moved hW.alike, h6.moved hW.alike (by rw [hU]; exact hS.1) (fun a h1 h2 => by rw [hU]; exact hS.2.1 a h1 h2)⟩
theorem GX.call {X : Cx} {U : State} {g : JFrame} {mk : MethodId} {a : Array Value} (h : GX X U) : GX X (U.calling g mk a) := by
  obtain ⟨h1, h2, h3, h4, h5, h6⟩ := h
  have hv : U.vm.Alike (U.calling g mk a).vm := Vm.Alike.refl U.vm
  exact ⟨va_K.moved hv h1, fun w hw => nw_same (s := U) (List.mem_filter.mp hw).2 (rfl : U.vm = (U.calling g mk a).vm) (h2 w hw), fun q hq => (h3 q hq).moved hv, h4.moved hv, h5.moved hv, h6.moved hv (Nat.le_refl _) (fun _ _ _ => rfl)⟩
def Qg (X : Cx) (post : Option Value → Hp → Prop) : Array Value → State → Outcome → State → Prop := fun _ st oc t => (∃ (r : Option Value) (hp : Hp), oc = .returned r ∧ post r hp ∧ Rl X hp t.heap) ∧ va_F (cxA X) st t
/-- a contract: at the abstract heap hp, with the arguments avs, the method returns, with post -/
def Ct (l : Launch) (X : Cx) (y : MethodName) (cc : ByteArray) (nL : Nat) (ret : Option FieldType) (rm : Room) (avs : List Value) (hp : Hp) (post : Option Value → Hp → Prop) : Prop :=
  Met l y (ws_ y cc nL ret) rm (va_Pc avs (fun U => GX X U ∧ Rl X hp U.heap)) (Qg X post) rm.cells rm.slots (cxA X)
/-- the answer v, the heap h -/
def pD (v : Option Value) (h : Hp) : Option Value → Hp → Prop := fun r hp => r = v ∧ hp = h
/-- room by depth, without cells -/
abbrev rD (d : Nat) : Room := { frames := d, cells := 0, slots := 0, locals := 64 * d }
abbrev rC (d mc ms : Nat) : Room := { frames := d, cells := mc, slots := ms, locals := 64 * d }
abbrev Gm : Type := Program × Launch × Env × Room × State × MethodId × Array Value × List Frame × Method × Code × Cx × Nat × (Option Value → Hp → Prop)
def J (Γ : Gm) (hp : Hp) (ce sl pc : Nat) (lv : List (Nat × Value)) (st : List Value) : Prop :=
  match Γ with
  | (p, l, e, R, s, m, args, below, meth, c, X, nL, post) => ∀ (H : Heap) (locs : List Loc) (ls : Array Slot), Rl X hp H → va_S (cxA X) s.heap H locs → lv_has ls nL lv → W p l e R s m args below meth c H locs ce sl (MQ below (Qg X post) args s R.cells R.slots (cxA X)) (F0 m pc ls st)
def Mok (Γ : Gm) (l0 : Launch) (X0 : Cx) (y : MethodName) (cc : ByteArray) (nL0 : Nat) (ret : Option FieldType) (rm : Room) (post0 : Option Value → Hp → Prop) : Prop :=
  match Γ with
  | (p, l, _, R, s, m, args, _, meth, c, X, nL, post) => l = l0 ∧ X = X0 ∧ R = rm ∧ nL = nL0 ∧ post = post0 ∧ p.tables.exec = Jvm.exec ∧ c.code = cc ∧ c.maxLocals = nL0 ∧ s.vm.findClass y.cls = some m.cls ∧ (∀ w ∈ lw_all, w.before args s = true) ∧ meth.sig.returnType = ret ∧ meth.locks = false ∧ GX X0 s ∧ meth.name = y.name
theorem Ct.of {l : Launch} {X : Cx} {y : MethodName} {cc : ByteArray} {nL : Nat} {ret : Option FieldType} {rm : Room} {avs : List Value} {hp : Hp} {post : Option Value → Hp → Prop} (hy : plainName y.cls = true) (hn : (lg_sl avs).length ≤ nL)
    (body : ∀ Γ : Gm, Mok Γ l X y cc nL ret rm post → J Γ hp 0 0 0 (lv_args 0 avs) []) : Ct l X y cc nL ret rm avs hp post := by
  refine Met.ofW (cc := cc) (maxL := nL) (ret := ret) hy rfl ?_
  intro p e s m args below meth c s₁ B hml hv
  obtain ⟨rfl, hG, hR⟩ := hv
  have hts := atoms_spec (ws := ws_ y cc nL ret) B.pre
  have hts : ∀ w ∈ lw_all, w.before _ s = true := fun w h => hts w (List.mem_cons_of_mem _ h)
  have k := body (p, l, e, rm, s, m, avs.toArray, below, meth, c, X, nL, post) ⟨rfl, rfl, rfl, rfl, rfl, B.exec, B.bytes, hml, findClass_of_methodNamed B.named, hts, B.returns, B.notSynchronized, hG, (name_of_methodNamed B.named B.method).1⟩
  rw [lg_entry_eq]
  exact k s.heap [] _ hR va_S.rf (lv_entry avs hn)
def stk (i : Nat) : List (Nat × Value) → List (Nat × Value)
  | [] => []
  | (j, w) :: r => match Nat.beq j i || (Nat.beq (j + 1) i && Nat.beq w.category 2) with
    | true => stk i r
    | false => (j, w) :: stk i r
/-- a value of one slot is stored: the list keeps its order -/
def stl (i : Nat) (v : Value) : List (Nat × Value) → List (Nat × Value)
  | [] => [(i, v)]
  | (j, w) :: r => match Nat.beq j i with
    | true => (i, v) :: stk i r
    | false => match Nat.beq (j + 1) i && Nat.beq w.category 2 with
      | true => stl i v r
      | false => (j, w) :: stl i v r
theorem stk_mem {i : Nat} : ∀ {lv : List (Nat × Value)} {q : Nat × Value}, q ∈ stk i lv → q ∈ lv.filter (fun q => !(q.1 == i) && !(q.1 + 1 == i && q.2.category == 2))
  | [], q, h => by simp [stk] at h
  | (j, w) :: r, q, h => by
    unfold stk at h
    cases hb : (Nat.beq j i || (Nat.beq (j + 1) i && Nat.beq w.category 2)) with
    | true =>
      rw [hb] at h
      have h2 := List.mem_filter.mp (stk_mem (lv := r) h)
      exact List.mem_filter.mpr ⟨List.mem_cons_of_mem _ h2.1, h2.2⟩
    | false =>
      rw [hb] at h
      rcases List.mem_cons.mp h with e | e
      · subst e
        refine List.mem_filter.mpr ⟨List.mem_cons_self, ?_⟩
        simp only [Bool.or_eq_false_iff, Bool.and_eq_false_iff] at hb
        obtain ⟨h1, h2⟩ := hb
        have h1' : ¬ j = i := fun e => by rw [e] at h1; simp at h1
        simp only [Bool.and_eq_true, Bool.not_eq_true', beq_eq_false_iff_ne, ne_eq, Bool.and_eq_false_iff]
        refine ⟨h1', ?_⟩
        rcases h2 with h2 | h2
        · left; intro e; rw [e] at h2; simp at h2
        · right; intro e; rw [e] at h2; simp at h2
      · have h2 := List.mem_filter.mp (stk_mem (lv := r) e)
        exact List.mem_filter.mpr ⟨List.mem_cons_of_mem _ h2.1, h2.2⟩
theorem stl_mem {i : Nat} {v : Value} : ∀ {lv : List (Nat × Value)} {q : Nat × Value}, q ∈ stl i v lv → q ∈ (i, v) :: lv.filter (fun q => !(q.1 == i) && !(q.1 + 1 == i && q.2.category == 2))
  | [], q, h => by
    simp only [stl, List.mem_singleton] at h
    rw [h]
    exact List.mem_cons_self
  | (j, w) :: r, q, h => by
    unfold stl at h
    have up : ∀ {q : Nat × Value}, q ∈ r.filter (fun q => !(q.1 == i) && !(q.1 + 1 == i && q.2.category == 2)) → q ∈ ((j, w) :: r).filter (fun q => !(q.1 == i) && !(q.1 + 1 == i && q.2.category == 2)) := fun h2 =>
      List.mem_filter.mpr ⟨List.mem_cons_of_mem _ (List.mem_filter.mp h2).1, (List.mem_filter.mp h2).2⟩
    cases hb : Nat.beq j i with
    | true =>
      rw [hb] at h
      rcases List.mem_cons.mp h with e | e
      · rw [e]; exact List.mem_cons_self
      · exact List.mem_cons_of_mem _ (up (stk_mem e))
    | false =>
      rw [hb] at h
      cases hc : (Nat.beq (j + 1) i && Nat.beq w.category 2) with
      | true =>
        rw [hc] at h
        rcases List.mem_cons.mp (stl_mem (lv := r) h) with e | e
        · rw [e]; exact List.mem_cons_self
        · exact List.mem_cons_of_mem _ (up e)
      | false =>
        rw [hc] at h
        rcases List.mem_cons.mp h with e | e
        · subst e
          refine List.mem_cons_of_mem _ (List.mem_filter.mpr ⟨List.mem_cons_self, ?_⟩)
          have h1' : ¬ j = i := fun e => by rw [e] at hb; simp at hb
          simp only [Bool.and_eq_false_iff] at hc
          simp only [Bool.and_eq_true, Bool.not_eq_true', beq_eq_false_iff_ne, ne_eq, Bool.and_eq_false_iff]
          refine ⟨h1', ?_⟩
          rcases hc with h2 | h2
          · left; intro e; rw [e] at h2; simp at h2
          · right; intro e; rw [e] at h2; simp at h2
        · rcases List.mem_cons.mp (stl_mem (lv := r) e) with e | e
          · rw [e]; exact List.mem_cons_self
          · exact List.mem_cons_of_mem _ (up e)
def str1 (k : Nat) : List (Nat × Value) → List (Nat × Value)
  | [] => []
  | (j, w) :: r => match Nat.beq j k with
    | true => str1 k r
    | false => (j, w) :: str1 k r
theorem str1_mem {k : Nat} : ∀ {lv : List (Nat × Value)} {q : Nat × Value}, q ∈ str1 k lv → q ∈ lv ∧ q.1 ≠ k
  | [], q, h => by simp [str1] at h
  | (j, w) :: r, q, h => by
    unfold str1 at h
    cases hb : Nat.beq j k with
    | true =>
      rw [hb] at h
      have h2 := str1_mem (lv := r) h
      exact ⟨List.mem_cons_of_mem _ h2.1, h2.2⟩
    | false =>
      rw [hb] at h
      rcases List.mem_cons.mp h with e | e
      · subst e
        exact ⟨List.mem_cons_self, fun e => by rw [show j = k from e] at hb; simp at hb⟩
      · have h2 := str1_mem (lv := r) e
        exact ⟨List.mem_cons_of_mem _ h2.1, h2.2⟩
/-- a value of two slots is stored -/
def stl2 (i : Nat) (v : Value) (lv : List (Nat × Value)) : List (Nat × Value) := stl i v (str1 (i + 1) lv)
theorem stl2_mem {i : Nat} {v : Value} {lv : List (Nat × Value)} {q : Nat × Value} (h : q ∈ stl2 i v lv) : q ∈ (i, v) :: lv.filter (fun q => !(q.1 == i) && (!(q.1 == i + 1) && !(q.1 + 1 == i && q.2.category == 2))) := by
  rcases List.mem_cons.mp (stl_mem h) with e | e
  · rw [e]; exact List.mem_cons_self
  · obtain ⟨h1, h2⟩ := List.mem_filter.mp e
    obtain ⟨h3, h4⟩ := str1_mem h1
    refine List.mem_cons_of_mem _ (List.mem_filter.mpr ⟨h3, ?_⟩)
    simp only [Bool.and_eq_true, Bool.not_eq_true', beq_eq_false_iff_ne, ne_eq, Bool.and_eq_false_iff] at h2 ⊢
    exact ⟨h2.1, h4, h2.2⟩
theorem lv_mem {ls : Array Slot} {nL : Nat} {l l' : List (Nat × Value)} (h : lv_has ls nL l) (hl : ∀ q, q ∈ l' → q ∈ l) : lv_has ls nL l' := ⟨h.1, h.2.1, fun q hq => h.2.2 q (hl q hq)⟩

