/-! 45: the component: its object, its rows; calls on rows, whatever their kind -/
set_option maxRecDepth 100000
/-- the object: ad: addresses (1 rows, 2 wheels, 3 seen, 4 page, 5 given, 6 tried, 7 kept, 8 kept given), v: numbers by field -/
abbrev eA (ad : Nat → Nat) (v : Nat → Int) : va_E := .inr (0, [.ref (ad 1), .ref (ad 2), .ref (ad 3), .int (zI (v 3)), .int (zI (v 4)), .ref (ad 4), .int (zI (v 6)), .int (zI (v 7)), .ref (ad 5), .long (zL (v 9)), .ref (ad 6), .ref (ad 7), .int (zI (v 12)), .int (zI (v 13)), .ref (ad 8)])
def rowE (K P : Int → Int) (i : Int) : va_E := if K i = 0 then eX5 (P (4 * i)) (P (4 * i + 1)) (P (4 * i + 2)) (P (4 * i + 3)) else if K i = 1 then eX7 (P (4 * i)) (P (4 * i + 1)) else if K i = 2 then eX8 (P (4 * i)) (P (4 * i + 1)) else if K i = 3 then eX10 (P (4 * i)) (P (4 * i + 1)) (P (4 * i + 2)) else eX11 (P (4 * i))
theorem rowE0 {K P : Int → Int} {i : Int} (h : K i = 0) : rowE K P i = eX5 (P (4 * i)) (P (4 * i + 1)) (P (4 * i + 2)) (P (4 * i + 3)) := by unfold rowE; rw [if_pos h]
theorem rowE1 {K P : Int → Int} {i : Int} (h : K i = 1) : rowE K P i = eX7 (P (4 * i)) (P (4 * i + 1)) := by unfold rowE; rw [if_neg (by omega), if_pos h]
theorem rowE2 {K P : Int → Int} {i : Int} (h : K i = 2) : rowE K P i = eX8 (P (4 * i)) (P (4 * i + 1)) := by unfold rowE; rw [if_neg (by omega), if_neg (by omega), if_pos h]
theorem rowE3 {K P : Int → Int} {i : Int} (h : K i = 3) : rowE K P i = eX10 (P (4 * i)) (P (4 * i + 1)) (P (4 * i + 2)) := by unfold rowE; rw [if_neg (by omega), if_neg (by omega), if_neg (by omega), if_pos h]
theorem rowE4 {K P : Int → Int} {i : Int} (h : K i = 4) : rowE K P i = eX11 (P (4 * i)) := by unfold rowE; rw [if_neg (by omega), if_neg (by omega), if_neg (by omega), if_neg (by omega)]
theorem k5 {k : Int} (h : 0 ≤ k ∧ k ≤ 4) : k = 0 ∨ k = 1 ∨ k = 2 ∨ k = 3 ∨ k = 4 := by omega
theorem rowE_o (K P : Int → Int) (i : Int) : ∃ q, rowE K P i = .inr q := by
  unfold rowE; split; exact ⟨_, rfl⟩; split; exact ⟨_, rfl⟩; split; exact ⟨_, rfl⟩; split; exact ⟨_, rfl⟩; exact ⟨_, rfl⟩
/-- the rows: the list and its objects -/
def RowsAt (X : Cx) (hp : Hp) (L el : Nat) (n : Int) (r : Nat → Nat) (K P : Int → Int) : Prop := LsA X hp L el n r ∧ ∀ k : Nat, (k : Int) < n → hp (r k) = some (rowE K P k)
section C7
variable {Γ : Gm} {l : Launch} {X : Cx} {y : MethodName} {cc : ByteArray} {nL : Nat} {ret : Option FieldType} {rm : Room} {post : Option Value → Hp → Prop} {hp : Hp} {ce sl pc : Nat} {lv : List (Nat × Value)} {st0 rest st : List Value}
variable {index : Nat} {rmc : Room} {As : List Value} {postc : Option Value → Hp → Prop} {a : Nat} {K P : Int → Int} {i : Int}
def Dv_exact (l : Launch) (X : Cx) (hp : Hp) (a : Nat) (K : Int → Int) (i : Int) (rmc : Room) (As : List Value) (postc : Option Value → Hp → Prop) : Prop := (K i = 0 → Ct l X yX5_exact cX5_exact 10 (some .long) rmc (.ref a :: As) hp postc) ∧ (K i = 1 → Ct l X yX6_exact cX6_exact 7 (some .long) rmc (.ref a :: As) hp postc) ∧ (K i = 2 → Ct l X yX6_exact cX6_exact 7 (some .long) rmc (.ref a :: As) hp postc) ∧ (K i = 3 → Ct l X yX10_exact cX10_exact 3 (some .long) rmc (.ref a :: As) hp postc) ∧ (K i = 4 → Ct l X yX11_exact cX11_exact 7 (some .long) rmc (.ref a :: As) hp postc)
theorem dv_exact (M : Mok Γ l X y cc nL ret rm post) (ix : Cond.methodLink y.cls index ⟨"AheadRows$Row", "exact", "(LAheadRows;I)J"⟩ ∈ lw_all) (hk : 0 ≤ K i ∧ K i ≤ 4) (ha : hp a = some (rowE K P i)) (h : Dv_exact l X hp a K i rmc As postc) (hlen : As.length = 2) (d : decode cc pc = .ok (.invokevirtual index, 3)) (hR : rmP rmc rm 20 ce sl) (hst : st0 = As.reverse ++ .ref a :: rest) (hW : (rest.map fun v => v.category).sum ≤ 8) : Rn Γ hp ce sl pc lv st0 rest rmc postc := by
  obtain ⟨h0, h1, h2, h3, h4⟩ := h
  obtain ⟨r1, r2, r3, r4⟩ := hR
  rcases k5 hk with e | e | e | e | e
  · rw [rowE0 e] at ha
    exact k_A M (C := "AheadRows$Told") (xc := ⟨"AheadRows$Row", "exact", "(LAheadRows;I)J"⟩) (h0 e) (rc_of M ha rfl) (lw_U ix q712 q768 q727 q105 q728) q711 ⟨by decide, by decide, by rw [hlen]; exact ndX5_exact.2.2⟩ d ⟨r1, by omega, r3, r4⟩ hst hW
  · rw [rowE1 e] at ha
    exact k_A M (C := "AheadRows$Sum") (xc := ⟨"AheadRows$Row", "exact", "(LAheadRows;I)J"⟩) (h1 e) (rc_of M ha rfl) (lw_U ix q712 q767 q719 q106 q720) q711 ⟨by decide, by decide, by rw [hlen]; exact ndX6_exact.2.2⟩ d ⟨r1, by omega, r3, r4⟩ hst hW
  · rw [rowE2 e] at ha
    exact k_A M (C := "AheadRows$Product") (xc := ⟨"AheadRows$Row", "exact", "(LAheadRows;I)J"⟩) (h2 e) (rc_of M ha rfl) (lw_U ix q712 q765 q719 q106 q720) q711 ⟨by decide, by decide, by rw [hlen]; exact ndX6_exact.2.2⟩ d ⟨r1, by omega, r3, r4⟩ hst hW
  · rw [rowE3 e] at ha
    exact k_A M (C := "AheadRows$Each") (xc := ⟨"AheadRows$Row", "exact", "(LAheadRows;I)J"⟩) (h3 e) (rc_of M ha rfl) (lw_U ix q712 q713 q714 q110 q715) q711 ⟨by decide, by decide, by rw [hlen]; exact ndX10_exact.2.2⟩ d ⟨r1, by omega, r3, r4⟩ hst hW
  · rw [rowE4 e] at ha
    exact k_A M (C := "AheadRows$Step") (xc := ⟨"AheadRows$Row", "exact", "(LAheadRows;I)J"⟩) (h4 e) (rc_of M ha rfl) (lw_U ix q712 q766 q723 q111 q724) q711 ⟨by decide, by decide, by rw [hlen]; exact ndX11_exact.2.2⟩ d ⟨r1, by omega, r3, r4⟩ hst hW
def Dv_turn (l : Launch) (X : Cx) (hp : Hp) (a : Nat) (K : Int → Int) (i : Int) (rmc : Room) (As : List Value) (postc : Option Value → Hp → Prop) : Prop := (K i = 0 → Ct l X yX5_turn cX5_turn 9 none rmc (.ref a :: As) hp postc) ∧ (K i = 1 → Ct l X yX6_turn cX6_turn 7 none rmc (.ref a :: As) hp postc) ∧ (K i = 2 → Ct l X yX6_turn cX6_turn 7 none rmc (.ref a :: As) hp postc) ∧ (K i = 3 → Ct l X yX9_turn cX9_turn 6 none rmc (.ref a :: As) hp postc) ∧ (K i = 4 → Ct l X yX9_turn cX9_turn 6 none rmc (.ref a :: As) hp postc)
theorem dv_turn (M : Mok Γ l X y cc nL ret rm post) (ix : Cond.methodLink y.cls index ⟨"AheadRows$Row", "turn", "(LAheadRows;ILAheadRows$Wheel;)V"⟩ ∈ lw_all) (hk : 0 ≤ K i ∧ K i ≤ 4) (ha : hp a = some (rowE K P i)) (h : Dv_turn l X hp a K i rmc As postc) (hlen : As.length = 3) (d : decode cc pc = .ok (.invokevirtual index, 3)) (hR : rmP rmc rm 20 ce sl) (hst : st0 = As.reverse ++ .ref a :: rest) (hW : (rest.map fun v => v.category).sum ≤ 8) : Rn Γ hp ce sl pc lv st0 rest rmc postc := by
  obtain ⟨h0, h1, h2, h3, h4⟩ := h
  obtain ⟨r1, r2, r3, r4⟩ := hR
  rcases k5 hk with e | e | e | e | e
  · rw [rowE0 e] at ha
    exact k_A M (C := "AheadRows$Told") (xc := ⟨"AheadRows$Row", "turn", "(LAheadRows;ILAheadRows$Wheel;)V"⟩) (h0 e) (rc_of M ha rfl) (lw_U ix q782 q834 q835 q105 q836) q781 ⟨by decide, by decide, by rw [hlen]; exact ndX5_turn.2.2⟩ d ⟨r1, by omega, r3, r4⟩ hst hW
  · rw [rowE1 e] at ha
    exact k_A M (C := "AheadRows$Sum") (xc := ⟨"AheadRows$Row", "turn", "(LAheadRows;ILAheadRows$Wheel;)V"⟩) (h1 e) (rc_of M ha rfl) (lw_U ix q782 q833 q825 q106 q826) q781 ⟨by decide, by decide, by rw [hlen]; exact ndX6_turn.2.2⟩ d ⟨r1, by omega, r3, r4⟩ hst hW
  · rw [rowE2 e] at ha
    exact k_A M (C := "AheadRows$Product") (xc := ⟨"AheadRows$Row", "turn", "(LAheadRows;ILAheadRows$Wheel;)V"⟩) (h2 e) (rc_of M ha rfl) (lw_U ix q782 q824 q825 q106 q826) q781 ⟨by decide, by decide, by rw [hlen]; exact ndX6_turn.2.2⟩ d ⟨r1, by omega, r3, r4⟩ hst hW
  · rw [rowE3 e] at ha
    exact k_A M (C := "AheadRows$Each") (xc := ⟨"AheadRows$Row", "turn", "(LAheadRows;ILAheadRows$Wheel;)V"⟩) (h3 e) (rc_of M ha rfl) (lw_U ix q782 q783 q784 q109 q785) q781 ⟨by decide, by decide, by rw [hlen]; exact ndX9_turn.2.2⟩ d ⟨r1, by omega, r3, r4⟩ hst hW
  · rw [rowE4 e] at ha
    exact k_A M (C := "AheadRows$Step") (xc := ⟨"AheadRows$Row", "turn", "(LAheadRows;ILAheadRows$Wheel;)V"⟩) (h4 e) (rc_of M ha rfl) (lw_U ix q782 q832 q784 q109 q785) q781 ⟨by decide, by decide, by rw [hlen]; exact ndX9_turn.2.2⟩ d ⟨r1, by omega, r3, r4⟩ hst hW
def Dv_copy (l : Launch) (X : Cx) (hp : Hp) (a : Nat) (K : Int → Int) (i : Int) (rmc : Room) (As : List Value) (postc : Option Value → Hp → Prop) : Prop := (K i = 0 → Ct l X yX5_copy cX5_copy 1 (some (.object "AheadRows$Row")) rmc (.ref a :: As) hp postc) ∧ (K i = 1 → Ct l X yX7_copy cX7_copy 1 (some (.object "AheadRows$Row")) rmc (.ref a :: As) hp postc) ∧ (K i = 2 → Ct l X yX8_copy cX8_copy 1 (some (.object "AheadRows$Row")) rmc (.ref a :: As) hp postc) ∧ (K i = 3 → Ct l X yX10_copy cX10_copy 1 (some (.object "AheadRows$Row")) rmc (.ref a :: As) hp postc) ∧ (K i = 4 → Ct l X yX11_copy cX11_copy 1 (some (.object "AheadRows$Row")) rmc (.ref a :: As) hp postc)
theorem dv_copy (M : Mok Γ l X y cc nL ret rm post) (ix : Cond.methodLink y.cls index ⟨"AheadRows$Row", "copy", "()LAheadRows$Row;"⟩ ∈ lw_all) (hk : 0 ≤ K i ∧ K i ≤ 4) (ha : hp a = some (rowE K P i)) (h : Dv_copy l X hp a K i rmc As postc) (hlen : As.length = 0) (d : decode cc pc = .ok (.invokevirtual index, 3)) (hR : rmP rmc rm 20 ce sl) (hst : st0 = As.reverse ++ .ref a :: rest) (hW : (rest.map fun v => v.category).sum ≤ 8) : Rn Γ hp ce sl pc lv st0 rest rmc postc := by
  obtain ⟨h0, h1, h2, h3, h4⟩ := h
  obtain ⟨r1, r2, r3, r4⟩ := hR
  rcases k5 hk with e | e | e | e | e
  · rw [rowE0 e] at ha
    exact k_A M (C := "AheadRows$Told") (xc := ⟨"AheadRows$Row", "copy", "()LAheadRows$Row;"⟩) (h0 e) (rc_of M ha rfl) (lw_U ix q519 q540 q541 q105 q542) q518 ⟨by decide, by decide, by rw [hlen]; exact ndX5_copy.2.2⟩ d ⟨r1, by omega, r3, r4⟩ hst hW
  · rw [rowE1 e] at ha
    exact k_A M (C := "AheadRows$Sum") (xc := ⟨"AheadRows$Row", "copy", "()LAheadRows$Row;"⟩) (h1 e) (rc_of M ha rfl) (lw_U ix q519 q535 q536 q107 q537) q518 ⟨by decide, by decide, by rw [hlen]; exact ndX7_copy.2.2⟩ d ⟨r1, by omega, r3, r4⟩ hst hW
  · rw [rowE2 e] at ha
    exact k_A M (C := "AheadRows$Product") (xc := ⟨"AheadRows$Row", "copy", "()LAheadRows$Row;"⟩) (h2 e) (rc_of M ha rfl) (lw_U ix q519 q525 q526 q108 q527) q518 ⟨by decide, by decide, by rw [hlen]; exact ndX8_copy.2.2⟩ d ⟨r1, by omega, r3, r4⟩ hst hW
  · rw [rowE3 e] at ha
    exact k_A M (C := "AheadRows$Each") (xc := ⟨"AheadRows$Row", "copy", "()LAheadRows$Row;"⟩) (h3 e) (rc_of M ha rfl) (lw_U ix q519 q520 q521 q110 q522) q518 ⟨by decide, by decide, by rw [hlen]; exact ndX10_copy.2.2⟩ d ⟨r1, by omega, r3, r4⟩ hst hW
  · rw [rowE4 e] at ha
    exact k_A M (C := "AheadRows$Step") (xc := ⟨"AheadRows$Row", "copy", "()LAheadRows$Row;"⟩) (h4 e) (rc_of M ha rfl) (lw_U ix q519 q530 q531 q111 q532) q518 ⟨by decide, by decide, by rw [hlen]; exact ndX11_copy.2.2⟩ d ⟨r1, by omega, r3, r4⟩ hst hW
def Dv_number (l : Launch) (X : Cx) (hp : Hp) (a : Nat) (K : Int → Int) (i : Int) (rmc : Room) (As : List Value) (postc : Option Value → Hp → Prop) : Prop := (K i = 0 → Ct l X yX5_number cX5_number 2 (some .int) rmc (.ref a :: As) hp postc) ∧ (K i = 1 → Ct l X yX7_number cX7_number 2 (some .int) rmc (.ref a :: As) hp postc) ∧ (K i = 2 → Ct l X yX8_number cX8_number 2 (some .int) rmc (.ref a :: As) hp postc) ∧ (K i = 3 → Ct l X yX10_number cX10_number 2 (some .int) rmc (.ref a :: As) hp postc) ∧ (K i = 4 → Ct l X yX11_number cX11_number 2 (some .int) rmc (.ref a :: As) hp postc)
theorem dv_number (M : Mok Γ l X y cc nL ret rm post) (ix : Cond.methodLink y.cls index ⟨"AheadRows$Row", "number", "(I)I"⟩ ∈ lw_all) (hk : 0 ≤ K i ∧ K i ≤ 4) (ha : hp a = some (rowE K P i)) (h : Dv_number l X hp a K i rmc As postc) (hlen : As.length = 1) (d : decode cc pc = .ok (.invokevirtual index, 3)) (hR : rmP rmc rm 20 ce sl) (hst : st0 = As.reverse ++ .ref a :: rest) (hW : (rest.map fun v => v.category).sum ≤ 8) : Rn Γ hp ce sl pc lv st0 rest rmc postc := by
  obtain ⟨h0, h1, h2, h3, h4⟩ := h
  obtain ⟨r1, r2, r3, r4⟩ := hR
  rcases k5 hk with e | e | e | e | e
  · rw [rowE0 e] at ha
    exact k_O M (C := "AheadRows$Told") (xc := ⟨"AheadRows$Row", "number", "(I)I"⟩) (h0 e) (rc_of M ha rfl) (lw_O ix q565 q564 q587 q588 q105 q589) q591 ⟨by decide, by decide, by rw [hlen]; exact ndX5_number.2.2⟩ d ⟨r1, by omega, r3, r4⟩ hst hW
  · rw [rowE1 e] at ha
    exact k_O M (C := "AheadRows$Sum") (xc := ⟨"AheadRows$Row", "number", "(I)I"⟩) (h1 e) (rc_of M ha rfl) (lw_O ix q565 q564 q583 q584 q107 q585) q591 ⟨by decide, by decide, by rw [hlen]; exact ndX7_number.2.2⟩ d ⟨r1, by omega, r3, r4⟩ hst hW
  · rw [rowE2 e] at ha
    exact k_O M (C := "AheadRows$Product") (xc := ⟨"AheadRows$Row", "number", "(I)I"⟩) (h2 e) (rc_of M ha rfl) (lw_O ix q565 q564 q573 q574 q108 q575) q591 ⟨by decide, by decide, by rw [hlen]; exact ndX8_number.2.2⟩ d ⟨r1, by omega, r3, r4⟩ hst hW
  · rw [rowE3 e] at ha
    exact k_O M (C := "AheadRows$Each") (xc := ⟨"AheadRows$Row", "number", "(I)I"⟩) (h3 e) (rc_of M ha rfl) (lw_O ix q565 q564 q566 q567 q110 q568) q591 ⟨by decide, by decide, by rw [hlen]; exact ndX10_number.2.2⟩ d ⟨r1, by omega, r3, r4⟩ hst hW
  · rw [rowE4 e] at ha
    exact k_O M (C := "AheadRows$Step") (xc := ⟨"AheadRows$Row", "number", "(I)I"⟩) (h4 e) (rc_of M ha rfl) (lw_O ix q565 q564 q579 q580 q111 q581) q591 ⟨by decide, by decide, by rw [hlen]; exact ndX11_number.2.2⟩ d ⟨r1, by omega, r3, r4⟩ hst hW
def Dv_kind (l : Launch) (X : Cx) (hp : Hp) (a : Nat) (K : Int → Int) (i : Int) (rmc : Room) (As : List Value) (postc : Option Value → Hp → Prop) : Prop := (K i = 0 → Ct l X yX5_kind cX5_kind 1 (some .int) rmc (.ref a :: As) hp postc) ∧ (K i = 1 → Ct l X yX7_kind cX7_kind 1 (some .int) rmc (.ref a :: As) hp postc) ∧ (K i = 2 → Ct l X yX8_kind cX8_kind 1 (some .int) rmc (.ref a :: As) hp postc) ∧ (K i = 3 → Ct l X yX10_kind cX10_kind 1 (some .int) rmc (.ref a :: As) hp postc) ∧ (K i = 4 → Ct l X yX11_kind cX11_kind 1 (some .int) rmc (.ref a :: As) hp postc)
theorem dv_kind (M : Mok Γ l X y cc nL ret rm post) (ix : Cond.methodLink y.cls index ⟨"AheadRows$Row", "kind", "()I"⟩ ∈ lw_all) (hk : 0 ≤ K i ∧ K i ≤ 4) (ha : hp a = some (rowE K P i)) (h : Dv_kind l X hp a K i rmc As postc) (hlen : As.length = 0) (d : decode cc pc = .ok (.invokevirtual index, 3)) (hR : rmP rmc rm 20 ce sl) (hst : st0 = As.reverse ++ .ref a :: rest) (hW : (rest.map fun v => v.category).sum ≤ 8) : Rn Γ hp ce sl pc lv st0 rest rmc postc := by
  obtain ⟨h0, h1, h2, h3, h4⟩ := h
  obtain ⟨r1, r2, r3, r4⟩ := hR
  rcases k5 hk with e | e | e | e | e
  · rw [rowE0 e] at ha
    exact k_A M (C := "AheadRows$Told") (xc := ⟨"AheadRows$Row", "kind", "()I"⟩) (h0 e) (rc_of M ha rfl) (lw_U ix q594 q607 q608 q105 q609) q593 ⟨by decide, by decide, by rw [hlen]; exact ndX5_kind.2.2⟩ d ⟨r1, by omega, r3, r4⟩ hst hW
  · rw [rowE1 e] at ha
    exact k_A M (C := "AheadRows$Sum") (xc := ⟨"AheadRows$Row", "kind", "()I"⟩) (h1 e) (rc_of M ha rfl) (lw_U ix q594 q604 q605 q107 q606) q593 ⟨by decide, by decide, by rw [hlen]; exact ndX7_kind.2.2⟩ d ⟨r1, by omega, r3, r4⟩ hst hW
  · rw [rowE2 e] at ha
    exact k_A M (C := "AheadRows$Product") (xc := ⟨"AheadRows$Row", "kind", "()I"⟩) (h2 e) (rc_of M ha rfl) (lw_U ix q594 q598 q599 q108 q600) q593 ⟨by decide, by decide, by rw [hlen]; exact ndX8_kind.2.2⟩ d ⟨r1, by omega, r3, r4⟩ hst hW
  · rw [rowE3 e] at ha
    exact k_A M (C := "AheadRows$Each") (xc := ⟨"AheadRows$Row", "kind", "()I"⟩) (h3 e) (rc_of M ha rfl) (lw_U ix q594 q595 q596 q110 q597) q593 ⟨by decide, by decide, by rw [hlen]; exact ndX10_kind.2.2⟩ d ⟨r1, by omega, r3, r4⟩ hst hW
  · rw [rowE4 e] at ha
    exact k_A M (C := "AheadRows$Step") (xc := ⟨"AheadRows$Row", "kind", "()I"⟩) (h4 e) (rc_of M ha rfl) (lw_U ix q594 q601 q602 q111 q603) q593 ⟨by decide, by decide, by rw [hlen]; exact ndX11_kind.2.2⟩ d ⟨r1, by omega, r3, r4⟩ hst hW
def Dv_ruleBy (l : Launch) (X : Cx) (hp : Hp) (a : Nat) (K : Int → Int) (i : Int) (rmc : Room) (As : List Value) (postc : Option Value → Hp → Prop) : Prop := (K i = 0 → Ct l X yX5_ruleBy cX5_ruleBy 2 (some (.array .int)) rmc (.ref a :: As) hp postc) ∧ (K i = 1 → Ct l X yX6_ruleBy cX6_ruleBy 5 (some (.array .int)) rmc (.ref a :: As) hp postc) ∧ (K i = 2 → Ct l X yX6_ruleBy cX6_ruleBy 5 (some (.array .int)) rmc (.ref a :: As) hp postc) ∧ (K i = 3 → Ct l X yX10_ruleBy cX10_ruleBy 4 (some (.array .int)) rmc (.ref a :: As) hp postc) ∧ (K i = 4 → Ct l X yX11_ruleBy cX11_ruleBy 4 (some (.array .int)) rmc (.ref a :: As) hp postc)
theorem dv_ruleBy (M : Mok Γ l X y cc nL ret rm post) (ix : Cond.methodLink y.cls index ⟨"AheadRows$Row", "ruleBy", "(LAheadRows;)[I"⟩ ∈ lw_all) (hk : 0 ≤ K i ∧ K i ≤ 4) (ha : hp a = some (rowE K P i)) (h : Dv_ruleBy l X hp a K i rmc As postc) (hlen : As.length = 1) (d : decode cc pc = .ok (.invokevirtual index, 3)) (hR : rmP rmc rm 20 ce sl) (hst : st0 = As.reverse ++ .ref a :: rest) (hW : (rest.map fun v => v.category).sum ≤ 8) : Rn Γ hp ce sl pc lv st0 rest rmc postc := by
  obtain ⟨h0, h1, h2, h3, h4⟩ := h
  obtain ⟨r1, r2, r3, r4⟩ := hR
  rcases k5 hk with e | e | e | e | e
  · rw [rowE0 e] at ha
    exact k_A M (C := "AheadRows$Told") (xc := ⟨"AheadRows$Row", "ruleBy", "(LAheadRows;)[I"⟩) (h0 e) (rc_of M ha rfl) (lw_U ix q920 q951 q947 q105 q949) q919 ⟨by decide, by decide, by rw [hlen]; exact ndX5_ruleBy.2.2⟩ d ⟨r1, by omega, r3, r4⟩ hst hW
  · rw [rowE1 e] at ha
    exact k_A M (C := "AheadRows$Sum") (xc := ⟨"AheadRows$Row", "ruleBy", "(LAheadRows;)[I"⟩) (h1 e) (rc_of M ha rfl) (lw_U ix q920 q950 q930 q106 q931) q919 ⟨by decide, by decide, by rw [hlen]; exact ndX6_ruleBy.2.2⟩ d ⟨r1, by omega, r3, r4⟩ hst hW
  · rw [rowE2 e] at ha
    exact k_A M (C := "AheadRows$Product") (xc := ⟨"AheadRows$Row", "ruleBy", "(LAheadRows;)[I"⟩) (h2 e) (rc_of M ha rfl) (lw_U ix q920 q929 q930 q106 q931) q919 ⟨by decide, by decide, by rw [hlen]; exact ndX6_ruleBy.2.2⟩ d ⟨r1, by omega, r3, r4⟩ hst hW
  · rw [rowE3 e] at ha
    exact k_A M (C := "AheadRows$Each") (xc := ⟨"AheadRows$Row", "ruleBy", "(LAheadRows;)[I"⟩) (h3 e) (rc_of M ha rfl) (lw_U ix q920 q921 q922 q110 q923) q919 ⟨by decide, by decide, by rw [hlen]; exact ndX10_ruleBy.2.2⟩ d ⟨r1, by omega, r3, r4⟩ hst hW
  · rw [rowE4 e] at ha
    exact k_A M (C := "AheadRows$Step") (xc := ⟨"AheadRows$Row", "ruleBy", "(LAheadRows;)[I"⟩) (h4 e) (rc_of M ha rfl) (lw_U ix q920 q942 q943 q111 q944) q919 ⟨by decide, by decide, by rw [hlen]; exact ndX11_ruleBy.2.2⟩ d ⟨r1, by omega, r3, r4⟩ hst hW
def Dv_eased (l : Launch) (X : Cx) (hp : Hp) (a : Nat) (K : Int → Int) (i : Int) (rmc : Room) (As : List Value) (postc : Option Value → Hp → Prop) : Prop := (K i = 0 → Ct l X yX5_eased cX5_eased 2 (some (.object "AheadRows$Told")) rmc (.ref a :: As) hp postc) ∧ (K i = 1 → Ct l X yX6_eased cX6_eased 4 (some (.object "AheadRows$Told")) rmc (.ref a :: As) hp postc) ∧ (K i = 2 → Ct l X yX6_eased cX6_eased 4 (some (.object "AheadRows$Told")) rmc (.ref a :: As) hp postc) ∧ (K i = 3 → Ct l X yX10_eased cX10_eased 3 (some (.object "AheadRows$Told")) rmc (.ref a :: As) hp postc) ∧ (K i = 4 → Ct l X yX11_eased cX11_eased 4 (some (.object "AheadRows$Told")) rmc (.ref a :: As) hp postc)
theorem dv_eased (M : Mok Γ l X y cc nL ret rm post) (ix : Cond.methodLink y.cls index ⟨"AheadRows$Row", "eased", "(LAheadRows;)LAheadRows$Told;"⟩ ∈ lw_all) (hk : 0 ≤ K i ∧ K i ≤ 4) (ha : hp a = some (rowE K P i)) (h : Dv_eased l X hp a K i rmc As postc) (hlen : As.length = 1) (d : decode cc pc = .ok (.invokevirtual index, 3)) (hR : rmP rmc rm 20 ce sl) (hst : st0 = As.reverse ++ .ref a :: rest) (hW : (rest.map fun v => v.category).sum ≤ 8) : Rn Γ hp ce sl pc lv st0 rest rmc postc := by
  obtain ⟨h0, h1, h2, h3, h4⟩ := h
  obtain ⟨r1, r2, r3, r4⟩ := hR
  rcases k5 hk with e | e | e | e | e
  · rw [rowE0 e] at ha
    exact k_A M (C := "AheadRows$Told") (xc := ⟨"AheadRows$Row", "eased", "(LAheadRows;)LAheadRows$Told;"⟩) (h0 e) (rc_of M ha rfl) (lw_U ix q1078 q1134 q1135 q105 q1136) q1077 ⟨by decide, by decide, by rw [hlen]; exact ndX5_eased.2.2⟩ d ⟨r1, by omega, r3, r4⟩ hst hW
  · rw [rowE1 e] at ha
    exact k_A M (C := "AheadRows$Sum") (xc := ⟨"AheadRows$Row", "eased", "(LAheadRows;)LAheadRows$Told;"⟩) (h1 e) (rc_of M ha rfl) (lw_U ix q1078 q1133 q1091 q106 q1092) q1077 ⟨by decide, by decide, by rw [hlen]; exact ndX6_eased.2.2⟩ d ⟨r1, by omega, r3, r4⟩ hst hW
  · rw [rowE2 e] at ha
    exact k_A M (C := "AheadRows$Product") (xc := ⟨"AheadRows$Row", "eased", "(LAheadRows;)LAheadRows$Told;"⟩) (h2 e) (rc_of M ha rfl) (lw_U ix q1078 q1090 q1091 q106 q1092) q1077 ⟨by decide, by decide, by rw [hlen]; exact ndX6_eased.2.2⟩ d ⟨r1, by omega, r3, r4⟩ hst hW
  · rw [rowE3 e] at ha
    exact k_A M (C := "AheadRows$Each") (xc := ⟨"AheadRows$Row", "eased", "(LAheadRows;)LAheadRows$Told;"⟩) (h3 e) (rc_of M ha rfl) (lw_U ix q1078 q1079 q1080 q110 q1081) q1077 ⟨by decide, by decide, by rw [hlen]; exact ndX10_eased.2.2⟩ d ⟨r1, by omega, r3, r4⟩ hst hW
  · rw [rowE4 e] at ha
    exact k_A M (C := "AheadRows$Step") (xc := ⟨"AheadRows$Row", "eased", "(LAheadRows;)LAheadRows$Told;"⟩) (h4 e) (rc_of M ha rfl) (lw_U ix q1078 q1127 q1128 q111 q1129) q1077 ⟨by decide, by decide, by rw [hlen]; exact ndX11_eased.2.2⟩ d ⟨r1, by omega, r3, r4⟩ hst hW
theorem dv_cast (M : Mok Γ l X y cc nL ret rm post) (q : Cond.classLink y.cls index "AheadRows$Row" ∈ lw_all) (hk : 0 ≤ K i ∧ K i ≤ 4) (ha : hp a = some (rowE K P i)) (d : decode cc pc = .ok (.checkcast index, 3)) (k : J Γ hp ce sl (pc + 3) lv (.ref a :: st)) : J Γ hp ce sl pc lv (.ref a :: st) := by
  rcases k5 hk with e | e | e | e | e
  · rw [rowE0 e] at ha
    exact j_castY M (C := "AheadRows$Told") q q1798 (rc_of M ha rfl) d k
  · rw [rowE1 e] at ha
    exact j_castY M (C := "AheadRows$Sum") q q1797 (rc_of M ha rfl) d k
  · rw [rowE2 e] at ha
    exact j_castY M (C := "AheadRows$Product") q q1795 (rc_of M ha rfl) d k
  · rw [rowE3 e] at ha
    exact j_castY M (C := "AheadRows$Each") q q1794 (rc_of M ha rfl) d k
  · rw [rowE4 e] at ha
    exact j_castY M (C := "AheadRows$Step") q q1796 (rc_of M ha rfl) d k
end C7
section C7b
variable (l : Launch) (X : Cx) (hp : Hp) (x : Nat) (ad : Nat → Nat) (v : Nat → Int)
theorem c_rowOf (el : Nat) (n i : Int) (r : Nat → Nat) (K P : Int → Int) (hx : hp x = some (eA ad v)) (h : RowsAt X hp (ad 1) el n r K P) (hi : 0 ≤ i ∧ i < n) (hk : 0 ≤ K i ∧ K i ≤ 4) : CS l X yX0_rowOf cX0_rowOf 2 (some (.object "AheadRows$Row")) 3 [.ref x, .int (zI i)] hp (some (.ref (r i.toNat))) := by
  have hr := h.2 i.toNat (by omega)
  rw [Int.toNat_of_nonneg hi.1] at hr
  refine Ct.of (by decide) (Nat.le_of_ble_eq_true rfl) (fun Γ M => ?_)
  refine j_lv (lv' := [(0, .ref x), (1, .int (zI i))]) rfl ?_
  refine j_aload_n M dX0_rowOf_0 0 rfl ?_
  refine j_get M hx rfl 0 (by decide) in_X0 q197 rfl dX0_rowOf_1 ?_
  refine j_iload_n M dX0_rowOf_4 1 rfl ?_
  refine j_rV (k_V M (c_getL l X hp (ad 1) el n i r h.1 hi) (rc_of M h.1.choose_spec.1 rfl) (lw_V q502 q503 q504 q100 q505) ndJ2_get dX0_rowOf_5 ⟨by decide, by decide, by decide, by decide⟩ rfl (Nat.le_of_ble_eq_true rfl)) ?_
  refine dv_cast M q516 hk hr dX0_rowOf_8 ?_
  refine j_aret M dX0_rowOf_11 (Or.inl ⟨_, rfl⟩) ⟨Nat.le_refl _, Nat.le_refl _⟩ ?_
  exact ⟨rfl, rfl⟩
end C7b
