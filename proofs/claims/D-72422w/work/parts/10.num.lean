/-! 10: the machine's ints and longs as images of whole numbers -/
def zI (z : Int) : Int32 := Int32.ofInt z
def zL (z : Int) : Int64 := Int64.ofInt z
abbrev r32 (a : Int) : Prop := -2147483648 ≤ a ∧ a < 2147483648
abbrev r64 (a : Int) : Prop := -9223372036854775808 ≤ a ∧ a < 9223372036854775808
theorem zI_toInt {a : Int} (h : r32 a) : (zI a).toInt = a := Int32.toInt_ofInt_of_le h.1 h.2
theorem zL_toInt {a : Int} (h : r64 a) : (zL a).toInt = a := Int64.toInt_ofInt_of_le h.1 h.2
theorem zI_of (x : Int32) : zI x.toInt = x := Int32.ofInt_toInt x
theorem zL_of (x : Int64) : zL x.toInt = x := Int64.ofInt_toInt x
theorem r32_of (x : Int32) : r32 x.toInt := ⟨Int32.le_toInt x, Int32.toInt_lt x⟩
theorem zI_ex (x : Int32) : ∃ z : Int, r32 z ∧ x = zI z := ⟨x.toInt, r32_of x, (zI_of x).symm⟩
theorem zI_add (a b : Int) : zI a + zI b = zI (a + b) := (Int32.ofInt_add a b).symm
theorem zI_sub (a b : Int) : zI a - zI b = zI (a - b) := (Int32.ofInt_sub a b).symm
theorem zI_mul (a b : Int) : zI a * zI b = zI (a * b) := (Int32.ofInt_mul a b).symm
theorem zI_neg (a : Int) : -zI a = zI (-a) := (Int32.ofInt_neg a).symm
theorem zL_add (a b : Int) : zL a + zL b = zL (a + b) := (Int64.ofInt_add a b).symm
theorem zL_sub (a b : Int) : zL a - zL b = zL (a - b) := (Int64.ofInt_sub a b).symm
theorem zL_mul (a b : Int) : zL a * zL b = zL (a * b) := (Int64.ofInt_mul a b).symm
theorem zL_neg (a : Int) : -zL a = zL (-a) := (Int64.ofInt_neg a).symm
theorem zI_lt {a b : Int} (ha : r32 a) (hb : r32 b) : zI a < zI b ↔ a < b := by rw [Int32.lt_iff_toInt_lt, zI_toInt ha, zI_toInt hb]
theorem zI_le {a b : Int} (ha : r32 a) (hb : r32 b) : zI a ≤ zI b ↔ a ≤ b := by rw [Int32.le_iff_toInt_le, zI_toInt ha, zI_toInt hb]
theorem zI_eq {a b : Int} (ha : r32 a) (hb : r32 b) : zI a = zI b ↔ a = b := by rw [← Int32.toInt_inj, zI_toInt ha, zI_toInt hb]
theorem zL_lt {a b : Int} (ha : r64 a) (hb : r64 b) : zL a < zL b ↔ a < b := by rw [Int64.lt_iff_toInt_lt, zL_toInt ha, zL_toInt hb]
theorem zL_le {a b : Int} (ha : r64 a) (hb : r64 b) : zL a ≤ zL b ↔ a ≤ b := by rw [Int64.le_iff_toInt_le, zL_toInt ha, zL_toInt hb]
theorem zL_eq {a b : Int} (ha : r64 a) (hb : r64 b) : zL a = zL b ↔ a = b := by rw [← Int64.toInt_inj, zL_toInt ha, zL_toInt hb]
theorem zI_0 : zI 0 = 0 := rfl
theorem zI_1 : zI 1 = 1 := rfl
theorem zL_0 : zL 0 = 0 := rfl
theorem zI_div {a b : Int} (ha : r32 a) (hb : r32 b) : zI a / zI b = zI (a.tdiv b) := by
  have h := Int32.toInt_div (zI a) (zI b)
  rw [zI_toInt ha, zI_toInt hb] at h
  rw [← Int32.toInt_inj, h]
  show _ = (Int32.ofInt _).toInt
  rw [Int32.toInt_ofInt]
theorem zL_div {a b : Int} (ha : r64 a) (hb : r64 b) : zL a / zL b = zL (a.tdiv b) := by
  have h := Int64.toInt_div (zL a) (zL b)
  rw [zL_toInt ha, zL_toInt hb] at h
  rw [← Int64.toInt_inj, h]
  show _ = (Int64.ofInt _).toInt
  rw [Int64.toInt_ofInt]
theorem zI_rem {a b : Int} (ha : r32 a) (hb : r32 b) : zI a - zI a / zI b * zI b = zI (a.tmod b) := by
  rw [zI_div ha hb, zI_mul, zI_sub, Int.tmod_def, Int.mul_comm]
theorem zL_rem {a b : Int} (ha : r64 a) (hb : r64 b) : zL a - zL a / zL b * zL b = zL (a.tmod b) := by
  rw [zL_div ha hb, zL_mul, zL_sub, Int.tmod_def, Int.mul_comm]
theorem zI_i2l {a : Int} (ha : r32 a) : (zI a).toInt64 = zL a := by
  rw [← Int64.toInt_inj, Int32.toInt_toInt64, zI_toInt ha, zL_toInt ⟨by omega, by omega⟩]
theorem zL_l2i (a : Int) : (zL a).toInt32 = zI a := Int64.toInt32_ofInt
theorem zI_i2b {a : Int} (h1 : -128 ≤ a) (h2 : a < 128) : (zI a).toInt8.toInt32 = zI a := by
  rw [← Int32.toInt_inj, zI_toInt ⟨by omega, by omega⟩, Int8.toInt_toInt32]
  show ((Int32.ofInt a).toInt8).toInt = a
  rw [Int32.toInt8_ofInt]
  exact Int8.toInt_ofInt_of_le h1 h2
theorem zI_bipush {n : Int} (h1 : -128 ≤ n) (h2 : n < 128) : (Int8.ofInt n).toInt32 = zI n := by
  rw [← Int32.toInt_inj, zI_toInt ⟨by omega, by omega⟩, Int8.toInt_toInt32]
  exact Int8.toInt_ofInt_of_le h1 h2
theorem zI_sipush {n : Int} (h1 : -32768 ≤ n) (h2 : n < 32768) : (Int16.ofInt n).toInt32 = zI n := by
  rw [← Int32.toInt_inj, zI_toInt ⟨by omega, by omega⟩, Int16.toInt_toInt32]
  exact Int16.toInt_ofInt_of_le h1 h2
theorem zI_clamp {a : Int} (h : r32 a) : (zI a).toNatClampNeg = a.toNat := by
  show (zI a).toInt.toNat = a.toNat
  rw [zI_toInt h]
theorem zI_in {a : Int} {n : Nat} (h0 : 0 ≤ a) (h1 : a < n) (h2 : a < 2147483648) : vp_in (zI a) n := by
  rw [vp_in_iff, zI_toInt ⟨by omega, h2⟩]
  exact ⟨h0, h1⟩
theorem zI_nat (n : Nat) : Int32.ofNat n = zI n := by
  show Int32.ofNat n = Int32.ofInt n
  rw [Int32.ofInt_eq_ofNat]
/-- a truth value on the stack -/
def zB (b : Bool) : Int32 := if b then 1 else 0
theorem zB_t : zB true = 1 := rfl
theorem zB_f : zB false = 0 := rfl
theorem zB_z (b : Bool) : zB b = zI (if b then 1 else 0) := by cases b <;> rfl
theorem zB_eq0 (b : Bool) : zB b = 0 ↔ b = false := by cases b <;> decide
/-- arrays of ints: places are whole numbers -/
def arI (g : Int → Int) : Nat → Int32 := fun k => zI (g k)
def upA {α : Type} (g : Int → α) (i : Int) (v : α) : Int → α := fun j => if j = i then v else g j
theorem upA_s {α : Type} (g : Int → α) (i : Int) (v : α) : upA g i v i = v := by simp [upA]
theorem upA_n {α : Type} (g : Int → α) {i j : Int} (v : α) (h : j ≠ i) : upA g i v j = g j := by simp [upA, h]
theorem arI_get {g : Int → Int} {a : Int} (h0 : 0 ≤ a) (h2 : a < 2147483648) : arI g (zI a).toNatClampNeg = zI (g a) := by
  rw [zI_clamp ⟨by omega, h2⟩]
  show zI (g (a.toNat : Int)) = _
  rw [Int.toNat_of_nonneg h0]
theorem arI_set {g : Int → Int} {a v : Int} (h0 : 0 ≤ a) (h2 : a < 2147483648) : upd (arI g) (zI a).toNatClampNeg (zI v) = arI (upA g a v) := by
  rw [zI_clamp ⟨by omega, h2⟩]
  funext k
  show upd (arI g) a.toNat (zI v) k = zI (upA g a v k)
  by_cases hk : k = a.toNat
  · subst hk
    have e : ((a.toNat : Nat) : Int) = a := Int.toNat_of_nonneg h0
    rw [e, upA_s]
    simp [upd]
  · have e : (k : Int) ≠ a := by omega
    rw [upA_n _ _ e]
    simp [upd, hk, arI]
def upN {α : Type} (f : Nat → α) (k : Nat) (v : α) (j : Nat) : α := if j = k then v else f j
theorem upN_s {α : Type} (f : Nat → α) (k : Nat) (v : α) : upN f k v k = v := by simp [upN]
theorem upN_n {α : Type} (f : Nat → α) {k j : Nat} (v : α) (h : j ≠ k) : upN f k v j = f j := by simp [upN, h]
theorem upN_uu {α : Type} (f : Nat → α) (k : Nat) (v w : α) : upN (upN f k v) k w = upN f k w := by
  funext j; by_cases h : j = k <;> simp [upN, h]
theorem upN_id {α : Type} (f : Nat → α) (k : Nat) : upN f k (f k) = f := by
  funext j; by_cases h : j = k <;> simp [upN, h]
theorem upA_uu {α : Type} (g : Int → α) (i : Int) (v w : α) : upA (upA g i v) i w = upA g i w := by
  funext j; by_cases h : j = i <;> simp [upA, h]
theorem upN_4 {α : Type} (f : Nat → α) {i j : Nat} (h : i ≠ j) (a b c d : α) : upN (upN (upN (upN f i a) j b) i c) j d = upN (upN f i c) j d := by
  funext k
  by_cases h1 : k = j
  · simp [upN, h1]
  · by_cases h2 : k = i <;> simp [upN, h1, h2]
