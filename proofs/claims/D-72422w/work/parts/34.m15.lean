/-! 34: the reference: its constructor -/
set_option maxRecDepth 100000
def mF0 : Nat → Int := upN (fun _ => 0) 26 2000000001
def mT0 : Nat → Int → Int := fun _ _ => 0
def mD0 : List Value := [.int (zI 0), .null, .null, .int (zI 0), .int (zI 0), .null, .int (zI 0), .null, .int (zI 0), .int (zI 0), .null, .null, .int (zI 0), .int (zI 0), .int (zI 0), .null, .null, .null, .null, .null, .null, .null, .null, .int (zI 0), .int (zI 0), .long (zL 0), .int (zI 0), .int (zI 0), .int (zI 0), .null, .null, .null, .long (zL 0)]
def Ini (X : Cx) (hp0 : Hp) (a : Nat) (ks : List Nat) (ad : Nat → Nat) (fs : List Value) (hp : Hp) : Prop := hp a = some (.inr (2, fs)) ∧ (∀ k ∈ ks, hp (ad k) = some (mArr X k (fun _ => 0)) ∧ ad k ≠ a) ∧ (∀ k ∈ ks, ∀ j ∈ ks, ad k = ad j → k = j) ∧ ∀ q, q ≠ a → (∀ k ∈ ks, q ≠ ad k) → hp q = hp0 q
theorem Ini.arr {X : Cx} {hp0 hp : Hp} {a q : Nat} {ks : List Nat} {ad : Nat → Nat} {fs : List Value} (h : Ini X hp0 a ks ad fs hp) (k : Nat) (hq : hp q = none) (hk : k ∉ ks) : Ini X hp0 a (k :: ks) (upN ad k q) fs (hup hp q (mArr X k (fun _ => 0))) := by
  obtain ⟨h1, h2, h3, h4⟩ := h
  have hqa : q ≠ a := fun e => by rw [e, h1] at hq; cases hq
  have hqk : ∀ j ∈ ks, ad j ≠ q := fun j hj e => by have := (h2 j hj).1; rw [e, hq] at this; cases this
  have hne : ∀ j ∈ ks, upN ad k q j = ad j := fun j hj => upN_n _ _ (fun e => hk (e ▸ hj))
  refine ⟨by rw [hup_n _ _ (Ne.symm hqa)]; exact h1, fun j hj => ?_, fun j hj i hi e => ?_, fun p hp1 hp2 => ?_⟩
  · rcases List.mem_cons.mp hj with e | e
    · rw [e, upN_s, hup_s]; exact ⟨rfl, hqa⟩
    · rw [hne j e, hup_n _ _ (hqk j e)]; exact h2 j e
  · rcases List.mem_cons.mp hj with e1 | e1 <;> rcases List.mem_cons.mp hi with e2 | e2
    · rw [e1, e2]
    · rw [e1, upN_s, hne i e2] at e; exact absurd e.symm (hqk i e2)
    · rw [e2, upN_s, hne j e1] at e; exact absurd e (hqk j e1)
    · rw [hne j e1, hne i e2] at e; exact h3 j e1 i e2 e
  · have p1 : p ≠ q := by have := hp2 k List.mem_cons_self; rw [upN_s] at this; exact this
    rw [hup_n _ _ p1]
    exact h4 p hp1 (fun j hj => by have := hp2 j (List.mem_cons_of_mem _ hj); rw [hne j hj] at this; exact this)
theorem Ini.put {X : Cx} {hp0 hp : Hp} {a : Nat} {ks : List Nat} {ad : Nat → Nat} {fs : List Value} (h : Ini X hp0 a ks ad fs hp) (fs' : List Value) : Ini X hp0 a ks ad fs' (hup hp a (.inr (2, fs'))) := by
  obtain ⟨h1, h2, h3, h4⟩ := h
  exact ⟨hup_s _ _ _, fun k hk => ⟨by rw [hup_n _ _ (h2 k hk).2]; exact (h2 k hk).1, (h2 k hk).2⟩, h3, fun q q1 q2 => by rw [hup_n _ _ q1]; exact h4 q q1 q2⟩
theorem Ini.put2 {X : Cx} {hp0 hp : Hp} {a : Nat} {ks : List Nat} {ad : Nat → Nat} {fs : List Value} (h : Ini X hp0 a ks ad fs hp) (k : Nat) (v : Value) : Ini X hp0 a ks ad (fs.set k v) (hup hp a (.inr (2, fs.set k v))) := h.put _
theorem Ini.fin {X : Cx} {hp0 hp : Hp} {a : Nat} {ks : List Nat} {ad : Nat → Nat} {f : Nat → Int} (h : Ini X hp0 a ks ad (mfs f ad) hp) (hk : ∀ k, k ∈ ks ↔ k ∈ mA) : mOk (a, ad, hp0) ∧ hp = mH X (a, ad, hp0) f mT0 := by
  obtain ⟨h1, h2, h3, h4⟩ := h
  have ok : mOk (a, ad, hp0) := ⟨fun k q => (h2 k ((hk k).mpr q)).2, fun k q j w e => h3 k ((hk k).mpr q) j ((hk j).mpr w) e⟩
  refine ⟨ok, ?_⟩
  funext q
  by_cases e : q = a
  · rw [e, h1]; exact (mH_o (X := X) (σ := (a, ad, hp0)) (f := f) (t := mT0)).symm
  · by_cases e2 : ∃ k ∈ mA, q = ad k
    · obtain ⟨k, k1, k2⟩ := e2
      rw [k2, (h2 k ((hk k).mpr k1)).1]
      exact (mH_a (X := X) (σ := (a, ad, hp0)) (f := f) (t := mT0) ok k1).symm
    · rw [h4 q e (fun k k1 k2 => e2 ⟨k, (hk k).mp k1, k2⟩)]
      unfold mH
      rw [if_neg e]
      have hf : mA.find? (fun k => ad k == q) = none := List.find?_eq_none.mpr (fun k k1 k2 => e2 ⟨k, k1, (by simpa using k2 : ad k = q).symm⟩)
      show _ = match mA.find? (fun k => ad k == q) with | some k => _ | none => _
      rw [hf]
theorem m_init (l : Launch) (X : Cx) (hp0 : Hp) (a : Nat) (ha : hp0 a = some (.inr (2, mD0))) : Ct l X yX2_init cX2_init 1 none (rC 1 17 7816) [.ref a] hp0 (fun r hp => r = none ∧ ∃ σ : Ms, σ.1 = a ∧ σ.2.2 = hp0 ∧ mOk σ ∧ hp = mH X σ mF0 mT0) := by
  refine Ct.of (by decide) (Nat.le_of_ble_eq_true rfl) (fun Γ M => ?_)
  refine j_lv (lv' := [(0, .ref a)]) rfl ?_
  have I0 : Ini X hp0 a [] (fun _ => 0) mD0 hp0 := ⟨ha, fun k hk => absurd hk List.not_mem_nil, fun k hk => absurd hk List.not_mem_nil, fun _ _ _ => rfl⟩
  refine j_aload_n M dX2_init_0 0 rfl ?_
  refine j_objInit M q1240 q133 q134 (by decide) dX2_init_1 ?_
  refine j_aload_n M dX2_init_4 0 rfl ?_
  refine j_bipush M dX2_init_5 (by decide) ?_
  refine j_newI M q194 (by decide) (by decide) dX2_init_7 (fun q1 hq1 _ => ?_)
  have I0a := I0.arr 1 hq1 (by decide)
  refine j_putF M I0a.1 rfl 1 (by decide) in_X2 tyX2 tyX2_ok nmX2 q1243 rfl rfl rfl rfl rfl (by (try simp only [List.length_set]); decide) dX2_init_9 ?_
  have I1 := I0a.put2 1 (.ref q1)
  refine j_aload_n M dX2_init_12 0 rfl ?_
  refine j_bipush M dX2_init_13 (by decide) ?_
  refine j_newI M q194 (by decide) (by decide) dX2_init_15 (fun q2 hq2 _ => ?_)
  have I1a := I1.arr 2 hq2 (by decide)
  refine j_putF M I1a.1 rfl 2 (by decide) in_X2 tyX2 tyX2_ok nmX2 q1244 rfl rfl rfl rfl rfl (by (try simp only [List.length_set]); decide) dX2_init_17 ?_
  have I2 := I1a.put2 2 (.ref q2)
  refine j_aload_n M dX2_init_20 0 rfl ?_
  refine j_bipush M dX2_init_21 (by decide) ?_
  refine j_newI M q194 (by decide) (by decide) dX2_init_23 (fun q5 hq5 _ => ?_)
  have I2a := I2.arr 5 hq5 (by decide)
  refine j_putF M I2a.1 rfl 5 (by decide) in_X2 tyX2 tyX2_ok nmX2 q1247 rfl rfl rfl rfl rfl (by (try simp only [List.length_set]); decide) dX2_init_25 ?_
  have I3 := I2a.put2 5 (.ref q5)
  refine j_aload_n M dX2_init_28 0 rfl ?_
  refine j_bipush M dX2_init_29 (by decide) ?_
  refine j_newB M q195 (by decide) (by decide) dX2_init_31 (fun q7 hq7 _ => ?_)
  have I3a := I3.arr 7 hq7 (by decide)
  refine j_putF M I3a.1 rfl 7 (by decide) in_X2 tyX2 tyX2_ok nmX2 q1249 rfl rfl rfl rfl rfl (by (try simp only [List.length_set]); decide) dX2_init_33 ?_
  have I4 := I3a.put2 7 (.ref q7)
  refine j_aload_n M dX2_init_36 0 rfl ?_
  refine j_bipush M dX2_init_37 (by decide) ?_
  refine j_newI M q194 (by decide) (by decide) dX2_init_39 (fun q10 hq10 _ => ?_)
  have I4a := I4.arr 10 hq10 (by decide)
  refine j_putF M I4a.1 rfl 10 (by decide) in_X2 tyX2 tyX2_ok nmX2 q1252 rfl rfl rfl rfl rfl (by (try simp only [List.length_set]); decide) dX2_init_41 ?_
  have I5 := I4a.put2 10 (.ref q10)
  refine j_aload_n M dX2_init_44 0 rfl ?_
  refine j_bipush M dX2_init_45 (by decide) ?_
  refine j_newI M q194 (by decide) (by decide) dX2_init_47 (fun q11 hq11 _ => ?_)
  have I5a := I5.arr 11 hq11 (by decide)
  refine j_putF M I5a.1 rfl 11 (by decide) in_X2 tyX2 tyX2_ok nmX2 q1253 rfl rfl rfl rfl rfl (by (try simp only [List.length_set]); decide) dX2_init_49 ?_
  have I6 := I5a.put2 11 (.ref q11)
  refine j_aload_n M dX2_init_52 0 rfl ?_
  refine j_sipush M dX2_init_53 (by decide) ?_
  refine j_newI M q194 (by decide) (by decide) dX2_init_56 (fun q15 hq15 _ => ?_)
  have I6a := I6.arr 15 hq15 (by decide)
  refine j_putF M I6a.1 rfl 15 (by decide) in_X2 tyX2 tyX2_ok nmX2 q1257 rfl rfl rfl rfl rfl (by (try simp only [List.length_set]); decide) dX2_init_58 ?_
  have I7 := I6a.put2 15 (.ref q15)
  refine j_aload_n M dX2_init_61 0 rfl ?_
  refine j_bipush M dX2_init_62 (by decide) ?_
  refine j_newI M q194 (by decide) (by decide) dX2_init_64 (fun q16 hq16 _ => ?_)
  have I7a := I7.arr 16 hq16 (by decide)
  refine j_putF M I7a.1 rfl 16 (by decide) in_X2 tyX2 tyX2_ok nmX2 q1258 rfl rfl rfl rfl rfl (by (try simp only [List.length_set]); decide) dX2_init_66 ?_
  have I8 := I7a.put2 16 (.ref q16)
  refine j_aload_n M dX2_init_69 0 rfl ?_
  refine j_bipush M dX2_init_70 (by decide) ?_
  refine j_newI M q194 (by decide) (by decide) dX2_init_72 (fun q17 hq17 _ => ?_)
  have I8a := I8.arr 17 hq17 (by decide)
  refine j_putF M I8a.1 rfl 17 (by decide) in_X2 tyX2 tyX2_ok nmX2 q1259 rfl rfl rfl rfl rfl (by (try simp only [List.length_set]); decide) dX2_init_74 ?_
  have I9 := I8a.put2 17 (.ref q17)
  refine j_aload_n M dX2_init_77 0 rfl ?_
  refine j_sipush M dX2_init_78 (by decide) ?_
  refine j_newB M q195 (by decide) (by decide) dX2_init_81 (fun q18 hq18 _ => ?_)
  have I9a := I9.arr 18 hq18 (by decide)
  refine j_putF M I9a.1 rfl 18 (by decide) in_X2 tyX2 tyX2_ok nmX2 q1260 rfl rfl rfl rfl rfl (by (try simp only [List.length_set]); decide) dX2_init_83 ?_
  have I10 := I9a.put2 18 (.ref q18)
  refine j_aload_n M dX2_init_86 0 rfl ?_
  refine j_bipush M dX2_init_87 (by decide) ?_
  refine j_newI M q194 (by decide) (by decide) dX2_init_89 (fun q19 hq19 _ => ?_)
  have I10a := I10.arr 19 hq19 (by decide)
  refine j_putF M I10a.1 rfl 19 (by decide) in_X2 tyX2 tyX2_ok nmX2 q1261 rfl rfl rfl rfl rfl (by (try simp only [List.length_set]); decide) dX2_init_91 ?_
  have I11 := I10a.put2 19 (.ref q19)
  refine j_aload_n M dX2_init_94 0 rfl ?_
  refine j_sipush M dX2_init_95 (by decide) ?_
  refine j_newI M q194 (by decide) (by decide) dX2_init_98 (fun q20 hq20 _ => ?_)
  have I11a := I11.arr 20 hq20 (by decide)
  refine j_putF M I11a.1 rfl 20 (by decide) in_X2 tyX2 tyX2_ok nmX2 q1262 rfl rfl rfl rfl rfl (by (try simp only [List.length_set]); decide) dX2_init_100 ?_
  have I12 := I11a.put2 20 (.ref q20)
  refine j_aload_n M dX2_init_103 0 rfl ?_
  refine j_bipush M dX2_init_104 (by decide) ?_
  refine j_newI M q194 (by decide) (by decide) dX2_init_106 (fun q21 hq21 _ => ?_)
  have I12a := I12.arr 21 hq21 (by decide)
  refine j_putF M I12a.1 rfl 21 (by decide) in_X2 tyX2 tyX2_ok nmX2 q1263 rfl rfl rfl rfl rfl (by (try simp only [List.length_set]); decide) dX2_init_108 ?_
  have I13 := I12a.put2 21 (.ref q21)
  refine j_aload_n M dX2_init_111 0 rfl ?_
  refine j_sipush M dX2_init_112 (by decide) ?_
  refine j_newZ M q1342 (by decide) (by decide) dX2_init_115 (fun q22 hq22 _ => ?_)
  have I13a := I13.arr 22 hq22 (by decide)
  refine j_putF M I13a.1 rfl 22 (by decide) in_X2 tyX2 tyX2_ok nmX2 q1264 rfl rfl rfl rfl rfl (by (try simp only [List.length_set]); decide) dX2_init_117 ?_
  have I14 := I13a.put2 22 (.ref q22)
  refine j_aload_n M dX2_init_120 0 rfl ?_
  refine j_ldc M (2000000001) q1241 (by decide) dX2_init_121 ?_
  refine j_put M I14.1 rfl 26 (by decide) in_X2 tyX2 tyX2_ok nmX2 q1268 rfl rfl rfl (by (try simp only [List.length_set]); decide) dX2_init_123 ?_
  have I15 := I14.put2 26 (.int (zI 2000000001))
  refine j_aload_n M dX2_init_126 0 rfl ?_
  refine j_bipush M dX2_init_127 (by decide) ?_
  refine j_newI M q194 (by decide) (by decide) dX2_init_129 (fun q29 hq29 _ => ?_)
  have I15a := I15.arr 29 hq29 (by decide)
  refine j_putF M I15a.1 rfl 29 (by decide) in_X2 tyX2 tyX2_ok nmX2 q1271 rfl rfl rfl rfl rfl (by (try simp only [List.length_set]); decide) dX2_init_131 ?_
  have I16 := I15a.put2 29 (.ref q29)
  refine j_aload_n M dX2_init_134 0 rfl ?_
  refine j_bipush M dX2_init_135 (by decide) ?_
  refine j_newI M q194 (by decide) (by decide) dX2_init_137 (fun q30 hq30 _ => ?_)
  have I16a := I16.arr 30 hq30 (by decide)
  refine j_putF M I16a.1 rfl 30 (by decide) in_X2 tyX2 tyX2_ok nmX2 q1272 rfl rfl rfl rfl rfl (by (try simp only [List.length_set]); decide) dX2_init_139 ?_
  have I17 := I16a.put2 30 (.ref q30)
  refine j_aload_n M dX2_init_142 0 rfl ?_
  refine j_bipush M dX2_init_143 (by decide) ?_
  refine j_newI M q194 (by decide) (by decide) dX2_init_145 (fun q31 hq31 _ => ?_)
  have I17a := I17.arr 31 hq31 (by decide)
  refine j_putF M I17a.1 rfl 31 (by decide) in_X2 tyX2 tyX2_ok nmX2 q1273 rfl rfl rfl rfl rfl (by (try simp only [List.length_set]); decide) dX2_init_147 ?_
  have I18 := I17a.put2 31 (.ref q31)
  refine j_vret M dX2_init_150 ⟨Nat.le_of_ble_eq_true rfl, Nat.le_of_ble_eq_true rfl⟩ ?_
  have hF := Ini.fin (f := mF0) I18 (fun k => by simp only [mA, List.mem_cons, List.not_mem_nil, or_false]; omega)
  exact ⟨rfl, _, rfl, rfl, hF.1, hF.2⟩
