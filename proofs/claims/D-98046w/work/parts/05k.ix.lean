/-! AM 11: indices, switches, small tools -/
set_option maxRecDepth 100000
theorem ix_l (n : Nat) : (OfNat.ofNat n : Int32) = nI n := rfl
theorem ix_add {x z : Int32} {a c : Nat} (hx : x = nI a) (hz : z = nI c) : x + z = nI (a + c) := by rw [hx, hz, nI_add]
theorem nI_mul (a c : Nat) : nI a * nI c = nI (a * c) := by
  simp [nI, Int32.ofNat_mul]
theorem ix_mul {x z : Int32} {a c : Nat} (hx : x = nI a) (hz : z = nI c) : x * z = nI (a * c) := by rw [hx, hz, nI_mul]
theorem cats1 {vs : List Value} (h : (vs.all fun v => v.category == 1) = true) : ∀ v ∈ vs, v.category = 1 := fun v hv => by
  have := List.all_eq_true.mp h v hv
  exact eq_of_beq this
def bI (P : Prop) [Decidable P] : Int32 := if P then 1 else 0
theorem bI_t {P : Prop} [Decidable P] (h : P) : bI P = 1 := if_pos h
theorem bI_f {P : Prop} [Decidable P] (h : ¬ P) : bI P = 0 := if_neg h
theorem bI_z {P : Prop} [Decidable P] : bI P = 0 ↔ ¬ P := by
  by_cases h : P <;> simp [bI, h]
def mx (a c : Int32) : Int32 := if c ≤ a then a else c
def mn2 (a c : Int32) : Int32 := if a ≤ c then a else c
section AWK
variable {cx : CxT} {d b pc nL : Nat} {y : MethodName} {cc : ByteArray} {ret : Option FieldType} {hh : List (Nat × Nat × Nat × Nat)} {ls st : List Value} {T : KT} {I : KI} {R : KR} {J : KJ}
theorem AW.swOut (X : FC cx d y cc nL ret hh) {x : Int32} {dflt lo hi : Int} {offs : Array Int} {len tgt : Nat} (dd : decode cc pc = .ok (.tableswitch dflt lo hi offs, len)) (h : x.toInt < lo ∨ hi < x.toInt) (ht : (pc : Int) + dflt = (tgt : Int)) (k : AW cx b tgt ls st T I R J) : AW cx b pc ls (.int x :: st) T I R J := by
  obtain ⟨p, l, e, Rm, s, m, args, below, meth, c, D, z0, ρ0, T0, PQ⟩ := cx
  obtain ⟨hx, hb, -⟩ := X
  intro ρ H locs cells slots lsA hk hn hR hS hE hl hs hL
  exact lv_tableOut hx hb dd h ht (k ρ H locs cells slots lsA hk hn hR hS hE hl hs.2 hL)
theorem AW.swIn (X : FC cx d y cc nL ret hh) {x : Int32} {dflt lo hi off : Int} {offs : Array Int} {len tgt : Nat} (dd : decode cc pc = .ok (.tableswitch dflt lo hi offs, len)) (h1 : ¬ x.toInt < lo) (h2 : ¬ hi < x.toInt) (ho : offs[(x.toInt - lo).toNat]? = some off) (ht : (pc : Int) + off = (tgt : Int)) (k : AW cx b tgt ls st T I R J) : AW cx b pc ls (.int x :: st) T I R J := by
  obtain ⟨p, l, e, Rm, s, m, args, below, meth, c, D, z0, ρ0, T0, PQ⟩ := cx
  obtain ⟨hx, hb, -⟩ := X
  intro ρ H locs cells slots lsA hk hn hR hS hE hl hs hL
  exact lv_tableIn hx hb dd h1 h2 ho ht (k ρ H locs cells slots lsA hk hn hR hS hE hl hs.2 hL)
theorem AW.mmax (X : FC cx d y cc nL ret hh) {idx : Nat} {x z : Int32} (hl : (Cond.methodLink y.cls idx yJ12_max) ∈ lw_all) (hd : 1 ≤ d) (hst : (st.map fun v => v.category).sum ≤ 8) (dd : decode cc pc = .ok (.invokestatic idx, 3)) (k : AW cx b (pc + 3) ls (.int (mx x z) :: st) T I R J) : AW cx b pc ls (.int z :: .int x :: st) T I R J := by
  have hw : (if x < z then z else x) = mx x z := by
    unfold mx
    by_cases h : z ≤ x
    · rw [if_pos h, if_neg (Int32.not_lt.mpr h)]
    · rw [if_neg h, if_pos (Int32.not_le.mp h)]
  rw [← hw] at k
  obtain ⟨p, l, e, Rm, s, m, args, below, meth, c, D, z0, ρ0, T0, PQ⟩ := cx
  obtain ⟨hx, hb, -, hml, hown, -, hts, -, -, hlt, hf, hlo, -, hCX⟩ := X
  intro ρ H locs cells slots lsA hk hn hR hS hE hl' hs hL
  exact va_mmax hx hb (hL.1.symm) hown (hts _ hl) (hts _ q261) (hts _ q94) (hts _ q262) (by omega) (by have h2 := congrArg List.sum (cat_map ρ st); rw [h2]; omega) (by omega) (by omega) dd (k ρ H locs cells slots lsA hk hn hR hS hE hl' ⟨trivial, hs.2.2⟩ hL)
theorem AW.mmin (X : FC cx d y cc nL ret hh) {idx : Nat} {x z : Int32} (hl : (Cond.methodLink y.cls idx yJ12_min) ∈ lw_all) (hd : 1 ≤ d) (hst : (st.map fun v => v.category).sum ≤ 8) (dd : decode cc pc = .ok (.invokestatic idx, 3)) (k : AW cx b (pc + 3) ls (.int (mn2 x z) :: st) T I R J) : AW cx b pc ls (.int z :: .int x :: st) T I R J := by
  have hw : (if z < x then z else x) = mn2 x z := by
    unfold mn2
    by_cases h : x ≤ z
    · rw [if_pos h, if_neg (Int32.not_lt.mpr h)]
    · rw [if_neg h, if_pos (Int32.not_le.mp h)]
  rw [← hw] at k
  obtain ⟨p, l, e, Rm, s, m, args, below, meth, c, D, z0, ρ0, T0, PQ⟩ := cx
  obtain ⟨hx, hb, -, hml, hown, -, hts, -, -, hlt, hf, hlo, -, hCX⟩ := X
  intro ρ H locs cells slots lsA hk hn hR hS hE hl' hs hL
  exact va_mmin hx hb (hL.1.symm) hown (hts _ hl) (hts _ q279) (hts _ q94) (hts _ q280) (by omega) (by have h2 := congrArg List.sum (cat_map ρ st); rw [h2]; omega) (by omega) (by omega) dd (k ρ H locs cells slots lsA hk hn hR hS hE hl' ⟨trivial, hs.2.2⟩ hL)
end AWK
