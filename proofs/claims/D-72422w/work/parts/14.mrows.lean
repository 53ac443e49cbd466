/-! 14: the reference's world: one object, its arrays; state: f (numbers by field), t (arrays by field) -/
set_option maxRecDepth 100000
abbrev Ms : Type := Nat × (Nat → Nat) × Hp
def mA : List Nat := [1, 2, 5, 7, 10, 11, 15, 16, 17, 18, 19, 20, 21, 22, 29, 30, 31]
def mLen (k : Nat) : Nat := match k with
  | 1 => 9
  | 2 => 36
  | 5 => 8
  | 7 => 47
  | 10 => 8
  | 11 => 32
  | 15 => 1608
  | 16 => 9
  | 17 => 9
  | 18 => 4608
  | 19 => 100
  | 20 => 272
  | 21 => 17
  | 22 => 1000
  | 29 => 9
  | 30 => 36
  | _ => 8
def mArr (X : Cx) (k : Nat) (g : Int → Int) : va_E := match k with
  | 7 => eB X 47 g
  | 18 => eB X 4608 g
  | 22 => eZ X 1000 g
  | k => eI X (mLen k) g
def mfs (f : Nat → Int) (ad : Nat → Nat) : List Value := [.int (zI (f 0)), .ref (ad 1), .ref (ad 2), .int (zI (f 3)), .int (zI (f 4)), .ref (ad 5), .int (zI (f 6)), .ref (ad 7), .int (zI (f 8)), .int (zI (f 9)), .ref (ad 10), .ref (ad 11), .int (zB (decide (f 12 = 1))), .int (zB (decide (f 13 = 1))), .int (zI (f 14)), .ref (ad 15), .ref (ad 16), .ref (ad 17), .ref (ad 18), .ref (ad 19), .ref (ad 20), .ref (ad 21), .ref (ad 22), .int (zI (f 23)), .int (zI (f 24)), .long (zL (f 25)), .int (zI (f 26)), .int (zI (f 27)), .int (zI (f 28)), .ref (ad 29), .ref (ad 30), .ref (ad 31), .long (zL (f 32))]
def mH (X : Cx) (σ : Ms) (f : Nat → Int) (t : Nat → Int → Int) : Hp := fun q => if q = σ.1 then some (.inr (2, mfs f σ.2.1)) else match mA.find? (fun k => σ.2.1 k == q) with
  | some k => some (mArr X k (t k))
  | none => σ.2.2 q
def mOk (σ : Ms) : Prop := (∀ k ∈ mA, σ.2.1 k ≠ σ.1) ∧ ∀ k ∈ mA, ∀ j ∈ mA, σ.2.1 k = σ.2.1 j → k = j
section MR
variable {X : Cx} {σ : Ms} {f : Nat → Int} {t : Nat → Int → Int}
theorem mH_o : mH X σ f t σ.1 = some (.inr (2, mfs f σ.2.1)) := by simp [mH]
theorem mA_find (h : mOk σ) {k : Nat} (hk : k ∈ mA) : mA.find? (fun j => σ.2.1 j == σ.2.1 k) = some k := by
  cases hf : mA.find? (fun j => σ.2.1 j == σ.2.1 k) with
  | none =>
    have h1 := List.find?_eq_none.mp hf k hk
    simp at h1
  | some j =>
    have h1 := List.find?_some hf
    have h2 := List.mem_of_find?_eq_some hf
    rw [h.2 j h2 k hk (by simpa using h1)]
theorem mH_a (h : mOk σ) {k : Nat} (hk : k ∈ mA) : mH X σ f t (σ.2.1 k) = some (mArr X k (t k)) := by
  unfold mH
  rw [if_neg (h.1 k hk), mA_find h hk]
theorem mH_uo {f' : Nat → Int} : hup (mH X σ f t) σ.1 (.inr (2, mfs f' σ.2.1)) = mH X σ f' t := by
  funext q
  unfold hup mH
  by_cases h : q = σ.1
  · rw [if_pos h, if_pos h]
  · rw [if_neg h, if_neg h, if_neg h]
theorem mH_ua (h : mOk σ) {k : Nat} (hk : k ∈ mA) {g : Int → Int} : hup (mH X σ f t) (σ.2.1 k) (mArr X k g) = mH X σ f (upN t k g) := by
  funext q
  by_cases h0 : q = σ.2.1 k
  · subst h0
    rw [hup_s, mH_a h hk, upN_s]
  · rw [hup_n _ _ h0]
    unfold mH
    by_cases h1 : q = σ.1
    · rw [if_pos h1, if_pos h1]
    · rw [if_neg h1, if_neg h1]
      cases hf : mA.find? (fun j => σ.2.1 j == q) with
      | none => rfl
      | some j =>
        have h2 := List.find?_some hf
        have h3 : j ≠ k := fun e => by rw [e] at h2; exact h0 (by simpa using h2 : σ.2.1 k = q).symm
        show some (mArr X j (t j)) = some (mArr X j (upN t k g j))
        rw [upN_n _ _ h3]
theorem mset {k : Nat} (hk : k ∈ [0, 3, 4, 6, 8, 9, 14, 23, 24, 26, 27, 28]) (ad : Nat → Nat) (v : Int) : (mfs f ad).set k (.int (zI v)) = mfs (upN f k v) ad := by
  simp only [List.mem_cons, List.not_mem_nil, or_false] at hk
  rcases hk with rfl | rfl | rfl | rfl | rfl | rfl | rfl | rfl | rfl | rfl | rfl | rfl <;> rfl
theorem msetL {k : Nat} (hk : k ∈ [25, 32]) (ad : Nat → Nat) (v : Int) : (mfs f ad).set k (.long (zL v)) = mfs (upN f k v) ad := by
  simp only [List.mem_cons, List.not_mem_nil, or_false] at hk
  rcases hk with rfl | rfl <;> rfl
theorem msetZ {k : Nat} (hk : k ∈ [12, 13]) (ad : Nat → Nat) (b : Bool) : (mfs f ad).set k (.int (zB b)) = mfs (upN f k (if b then 1 else 0)) ad := by
  simp only [List.mem_cons, List.not_mem_nil, or_false] at hk
  rcases hk with rfl | rfl <;> cases b <;> rfl
variable {Γ : Gm} {l : Launch} {y : MethodName} {cc : ByteArray} {nL : Nat} {ret : Option FieldType} {rm : Room} {post : Option Value → Hp → Prop} {ce sl pc : Nat} {lv : List (Nat × Value)} {st : List Value} {index : Nat}
theorem m_get (M : Mok Γ l X y cc nL ret rm post) (k : Nat) (hk : k < 33) (q : Cond.fieldLink y.cls index (TX2 k).1 (TX2 k).2.1 (TX2 k).2.2.1 ∈ lw_all) {v : Value} (hv : (mfs f σ.2.1)[k]? = some v) (d : decode cc pc = .ok (.getfield index, 3)) (kk : J Γ (mH X σ f t) ce sl (pc + 3) lv (v :: st)) :
    J Γ (mH X σ f t) ce sl pc lv (.ref σ.1 :: st) := j_get M mH_o rfl k hk in_X2 q hv d kk
theorem m_put (M : Mok Γ l X y cc nL ret rm post) (k : Nat) (hk : k ∈ [0, 3, 4, 6, 8, 9, 14, 23, 24, 26, 27, 28]) (q : Cond.fieldLink y.cls index (TX2 k).1 (TX2 k).2.1 (TX2 k).2.2.1 ∈ lw_all) {v : Int} (d : decode cc pc = .ok (.putfield index, 3)) (kk : J Γ (mH X σ (upN f k v) t) ce sl (pc + 3) lv st) :
    J Γ (mH X σ f t) ce sl pc lv (.int (zI v) :: .ref σ.1 :: st) := by
  have hty : tyX2 k = .int := by
    have hk' := hk
    simp only [List.mem_cons, List.not_mem_nil, or_false] at hk'
    rcases hk' with rfl | rfl | rfl | rfl | rfl | rfl | rfl | rfl | rfl | rfl | rfl | rfl <;> rfl
  have hf : (TX2 k).2.2.2 = false := by
    have hk' := hk
    simp only [List.mem_cons, List.not_mem_nil, or_false] at hk'
    rcases hk' with rfl | rfl | rfl | rfl | rfl | rfl | rfl | rfl | rfl | rfl | rfl | rfl <;> rfl
  have hl : k < 33 := by
    have hk' := hk
    simp only [List.mem_cons, List.not_mem_nil, or_false] at hk'
    omega
  refine j_put M mH_o rfl k hl in_X2 tyX2 tyX2_ok nmX2 q hf (by rw [hty]; rfl) (by rw [hty]; rfl) hl d ?_
  rw [mset hk, mH_uo]
  exact kk
theorem m_putL (M : Mok Γ l X y cc nL ret rm post) (k : Nat) (hk : k ∈ [25, 32]) (q : Cond.fieldLink y.cls index (TX2 k).1 (TX2 k).2.1 (TX2 k).2.2.1 ∈ lw_all) {v : Int} (d : decode cc pc = .ok (.putfield index, 3)) (kk : J Γ (mH X σ (upN f k v) t) ce sl (pc + 3) lv st) :
    J Γ (mH X σ f t) ce sl pc lv (.long (zL v) :: .ref σ.1 :: st) := by
  have hty : tyX2 k = .long := by
    have hk' := hk
    simp only [List.mem_cons, List.not_mem_nil, or_false] at hk'
    rcases hk' with rfl | rfl <;> rfl
  have hf : (TX2 k).2.2.2 = false := by
    have hk' := hk
    simp only [List.mem_cons, List.not_mem_nil, or_false] at hk'
    rcases hk' with rfl | rfl <;> rfl
  have hl : k < 33 := by
    have hk' := hk
    simp only [List.mem_cons, List.not_mem_nil, or_false] at hk'
    omega
  refine j_put M mH_o rfl k hl in_X2 tyX2 tyX2_ok nmX2 q hf (by rw [hty]; rfl) (by rw [hty]; rfl) hl d ?_
  rw [msetL hk, mH_uo]
  exact kk
theorem m_putZ (M : Mok Γ l X y cc nL ret rm post) (k : Nat) (hk : k ∈ [12, 13]) (q : Cond.fieldLink y.cls index (TX2 k).1 (TX2 k).2.1 (TX2 k).2.2.1 ∈ lw_all) (b : Bool) {v : Int32} (hv : v = zB b) (d : decode cc pc = .ok (.putfield index, 3)) (kk : J Γ (mH X σ (upN f k (if b then 1 else 0)) t) ce sl (pc + 3) lv st) :
    J Γ (mH X σ f t) ce sl pc lv (.int v :: .ref σ.1 :: st) := by
  subst hv
  have hty : tyX2 k = .boolean := by
    have hk' := hk
    simp only [List.mem_cons, List.not_mem_nil, or_false] at hk'
    rcases hk' with rfl | rfl <;> rfl
  have hf : (TX2 k).2.2.2 = false := by
    have hk' := hk
    simp only [List.mem_cons, List.not_mem_nil, or_false] at hk'
    rcases hk' with rfl | rfl <;> rfl
  have hl : k < 33 := by
    have hk' := hk
    simp only [List.mem_cons, List.not_mem_nil, or_false] at hk'
    omega
  refine j_put M mH_o rfl k hl in_X2 tyX2 tyX2_ok nmX2 q hf (by rw [hty]; cases b <;> rfl) (by rw [hty]; cases b <;> rfl) hl d ?_
  rw [msetZ hk, mH_uo]
  exact kk
variable {i v : Int} {n : Nat}
theorem m_ald (M : Mok Γ l X y cc nL ret rm post) (hm : mOk σ) (k : Nat) (hk : k ∈ mA) (he : mArr X k (t k) = eI X n (t k)) (d : decode cc pc = .ok (.iaload, 1)) (hi : inb i n) (kk : J Γ (mH X σ f t) ce sl (pc + 1) lv (.int (zI (t k i)) :: st)) :
    J Γ (mH X σ f t) ce sl pc lv (.int (zI i) :: .ref (σ.2.1 k) :: st) := j_iald M (by rw [mH_a hm hk, he]) hi d kk
theorem m_bld (M : Mok Γ l X y cc nL ret rm post) (hm : mOk σ) (k : Nat) (hk : k ∈ mA) (he : mArr X k (t k) = eB X n (t k)) (d : decode cc pc = .ok (.baload, 1)) (hi : inb i n) (kk : J Γ (mH X σ f t) ce sl (pc + 1) lv (.int (zI (t k i)) :: st)) :
    J Γ (mH X σ f t) ce sl pc lv (.int (zI i) :: .ref (σ.2.1 k) :: st) := j_bald M (by rw [mH_a hm hk, he]) hi d kk
theorem m_zld (M : Mok Γ l X y cc nL ret rm post) (hm : mOk σ) (k : Nat) (hk : k ∈ mA) (he : mArr X k (t k) = eZ X n (t k)) (d : decode cc pc = .ok (.baload, 1)) (hi : inb i n) (kk : J Γ (mH X σ f t) ce sl (pc + 1) lv (.int (zI (t k i)) :: st)) :
    J Γ (mH X σ f t) ce sl pc lv (.int (zI i) :: .ref (σ.2.1 k) :: st) := j_zald M (by rw [mH_a hm hk, he]) hi d kk
theorem m_ast (M : Mok Γ l X y cc nL ret rm post) (hm : mOk σ) (k : Nat) (hk : k ∈ mA) (he : ∀ g, mArr X k g = eI X n g) (d : decode cc pc = .ok (.iastore, 1)) (hi : inb i n) (kk : J Γ (mH X σ f (upN t k (upA (t k) i v))) ce sl (pc + 1) lv st) :
    J Γ (mH X σ f t) ce sl pc lv (.int (zI v) :: .int (zI i) :: .ref (σ.2.1 k) :: st) := by
  refine j_iast M (by rw [mH_a hm hk, he]) hi d ?_
  rw [← he, mH_ua hm hk]
  exact kk
theorem m_bst (M : Mok Γ l X y cc nL ret rm post) (hm : mOk σ) (k : Nat) (hk : k ∈ mA) (he : ∀ g, mArr X k g = eB X n g) (d : decode cc pc = .ok (.bastore, 1)) (hi : inb i n) (hv : -128 ≤ v ∧ v < 128) (kk : J Γ (mH X σ f (upN t k (upA (t k) i v))) ce sl (pc + 1) lv st) :
    J Γ (mH X σ f t) ce sl pc lv (.int (zI v) :: .int (zI i) :: .ref (σ.2.1 k) :: st) := by
  refine j_bast M (by rw [mH_a hm hk, he]) hi hv d ?_
  rw [← he, mH_ua hm hk]
  exact kk
theorem m_zst (M : Mok Γ l X y cc nL ret rm post) (hm : mOk σ) (k : Nat) (hk : k ∈ mA) (he : ∀ g, mArr X k g = eZ X n g) (d : decode cc pc = .ok (.bastore, 1)) (hi : inb i n) (hv : v = 0 ∨ v = 1) (kk : J Γ (mH X σ f (upN t k (upA (t k) i v))) ce sl (pc + 1) lv st) :
    J Γ (mH X σ f t) ce sl pc lv (.int (zI v) :: .int (zI i) :: .ref (σ.2.1 k) :: st) := by
  refine j_zast M (by rw [mH_a hm hk, he]) hi hv d ?_
  rw [← he, mH_ua hm hk]
  exact kk
theorem m_rc (M : Mok Γ l X y cc nL ret rm post) : Rc Γ (mH X σ f t) σ.1 "AheadRowsModel" := rc_of M mH_o rfl
end MR
/-- a contract of the reference: without new cells -/
abbrev CM (l : Launch) (X : Cx) (σ : Ms) (y : MethodName) (cc : ByteArray) (nL : Nat) (ret : Option FieldType) (d : Nat) (as : List Value) (f : Nat → Int) (t : Nat → Int → Int) (v : Option Value) (f' : Nat → Int) (t' : Nat → Int → Int) : Prop :=
  Ct l X y cc nL ret (rD d) (.ref σ.1 :: as) (mH X σ f t) (pD v (mH X σ f' t'))
/-- a contract of a static method that only counts -/
abbrev CS (l : Launch) (X : Cx) (y : MethodName) (cc : ByteArray) (nL : Nat) (ret : Option FieldType) (d : Nat) (as : List Value) (hp : Hp) (v : Option Value) : Prop :=
  Ct l X y cc nL ret (rD d) as hp (pD v hp)
