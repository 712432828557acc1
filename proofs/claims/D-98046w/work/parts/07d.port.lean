/-! 07d: a port and its lit in memory; reads by kinds (written by src/gen07d.py) -/
set_option maxRecDepth 100000
def lA (la k : Nat) : Nat := 10 * (la - 103) + 130 + k
theorem lA_ne {la k j : Nat} (h : k ≠ j) : lA la k ≠ lA la j := by unfold lA; omega
theorem lA_la {la k : Nat} (h : 103 ≤ la ∧ la ≤ 105) : la ≠ lA la k := by unfold lA; omega
theorem lA_lt {la k : Nat} (h : 103 ≤ la ∧ la ≤ 105) (hk : k < 10) : 130 ≤ lA la k ∧ lA la k < 1000 := by unfold lA; omega
def PRf (pb : Nat) (T : KT) (I : KI) (R : KR) (N : KI) : Prop :=
  T pb = (103, 0) ∧ R pb 3 = some (pb + 1) ∧ R pb 4 = some (pb + 2) ∧ R pb 5 = some (pb + 3) ∧ R pb 6 = some (pb + 4) ∧ R pb 7 = some (pb + 5) ∧ R pb 8 = some (pb + 6) ∧ R pb 9 = some (pb + 7) ∧ R pb 10 = some (pb + 8) ∧
  T (pb + 4) = (2, 24) ∧ T (pb + 5) = (2, 10) ∧ T (pb + 6) = (2, 6) ∧ T (pb + 7) = (2, 6) ∧ T (pb + 8) = (2, 6) ∧
  I pb 0 = N 304 3 ∧ I pb 1 = N 304 4 ∧ I pb 2 = N 304 5 ∧ (∀ h, h < 24 → I (pb + 4) h = N 318 h) ∧ (∀ c, c < 10 → I (pb + 5) c = N 319 c) ∧
  (∀ k, k < nH N → I (pb + 6) k = N 320 k ∧ I (pb + 7) k = N 321 k ∧ I (pb + 8) k = N 322 k)
/-- a list of n objects from the address e on -/
def LsR (l e n : Nat) (T : KT) (I : KI) (R : KR) : Prop := T l = (119, 0) ∧ I l 2 = nI n ∧ ∃ ar cap, R l 1 = some ar ∧ 1000 ≤ ar ∧ T ar = (10, cap) ∧ n ≤ cap ∧ ∀ k, k < n → R ar k = some (e + k)
def PR (pb : Nat) (T : KT) (I : KI) (R : KR) (N : KI) : Prop := 1000 ≤ pb ∧ PRf pb T I R N ∧ LsR (pb + 1) (pb + 100) (nQ N) T I R ∧ LsR (pb + 2) (pb + 120) (nE N) T I R ∧ LsR (pb + 3) (pb + 140) (nS N) T I R ∧
  (∀ k, k < nQ N → T (pb + 100 + k) = (105 + nat N 305 k, 0) ∧ I (pb + 100 + k) 0 = N 307 k ∧ I (pb + 100 + k) 1 = N 308 k ∧ ownF (nat N 305 k) (I (pb + 100 + k) 2) = N 306 k) ∧
  (∀ k, k < nE N → T (pb + 120 + k) = (109 + nat N 309 k, 0) ∧ I (pb + 120 + k) 0 = N 310 k ∧ I (pb + 120 + k) 1 = N 311 k ∧ I (pb + 120 + k) 2 = N 312 k ∧ I (pb + 120 + k) 3 = N 313 k) ∧
  (∀ k, k < nS N → T (pb + 140 + k) = (113 + nat N 314 k, 0) ∧ I (pb + 140 + k) 0 = N 315 k ∧ I (pb + 140 + k) 1 = N 316 k ∧ I (pb + 140 + k) 2 = N 317 k)
def LR (la pb : Nat) (T : KT) (I : KI) (R : KR) (N : KI) : Prop :=
  T la = (102, 0) ∧ R la 0 = some pb ∧ R la 3 = some (lA la 3) ∧ R la 4 = some (lA la 4) ∧ R la 5 = some (lA la 5) ∧ R la 6 = some (lA la 6) ∧ R la 7 = some (lA la 7) ∧ R la 8 = some (lA la 8) ∧
  T (lA la 3) = (2, 26) ∧ T (lA la 4) = (2, 26) ∧ T (lA la 5) = (2, 26) ∧ T (lA la 6) = (2, 144) ∧ T (lA la 7) = (2, 144) ∧ T (lA la 8) = (2, 192) ∧
  I la 1 = N 200 44 ∧ I la 2 = N 200 45 ∧ (∀ m, m < nM N → I (lA la 3) m = N 337 m ∧ I (lA la 4) m = N 338 m ∧ I (lA la 5) m = N 339 m)
theorem LsR.keep {l e n : Nat} {T : KT} {I I' : KI} {R : KR} (hl : 1000 ≤ l) (h : LsR l e n T I R) (hI : ∀ a, 1000 ≤ a → I' a = I a) : LsR l e n T I' R := by
  obtain ⟨h1, h2, ar, cap, h3⟩ := h
  exact ⟨h1, by rw [hI l hl]; exact h2, ar, cap, h3⟩
theorem PR.keep {pb : Nat} {T : KT} {I I' : KI} {R : KR} {N : KI} (h : PR pb T I R N) (hI : ∀ a, 1000 ≤ a → I' a = I a) : PR pb T I' R N := by
  obtain ⟨h0, ⟨a1, a2, a3, a4, a5, a6, a7, a8, a9, a10, a11, a12, a13, a14, b1, b2, b3, b4, b5, b6⟩, h2, h3, h4, h5, h6, h7⟩ := h
  refine ⟨h0, ⟨a1, a2, a3, a4, a5, a6, a7, a8, a9, a10, a11, a12, a13, a14, ?_⟩, h2.keep (by omega) hI, h3.keep (by omega) hI, h4.keep (by omega) hI, fun k hk => ?_, fun k hk => ?_, fun k hk => ?_⟩
  · rw [hI pb h0, hI (pb + 4) (by omega), hI (pb + 5) (by omega), hI (pb + 6) (by omega), hI (pb + 7) (by omega), hI (pb + 8) (by omega)]
    exact ⟨b1, b2, b3, b4, b5, b6⟩
  · rw [hI _ (by omega : 1000 ≤ pb + 100 + k)]; exact h5 k hk
  · rw [hI _ (by omega : 1000 ≤ pb + 120 + k)]; exact h6 k hk
  · rw [hI _ (by omega : 1000 ≤ pb + 140 + k)]; exact h7 k hk
theorem LR.keep {la pb : Nat} {T : KT} {I I' : KI} {R : KR} {N : KI} (h : LR la pb T I R N) (h0 : I' la = I la) (h3 : I' (lA la 3) = I (lA la 3)) (h4 : I' (lA la 4) = I (lA la 4)) (h5 : I' (lA la 5) = I (lA la 5)) : LR la pb T I' R N := by
  unfold LR at h ⊢
  rw [h0, h3, h4, h5]
  exact h
section PRC
variable {pb : Nat} {T : KT} {I : KI} {R : KR} {J : KJ} {N : KI}
theorem LsR.tl {l e n : Nat} (h : LsR l e n T I R) : T l = (119, 0) := h.1
theorem LsR.size {l e n : Nat} (h : LsR l e n T I R) : MJ2_size 0 0 [.ref l] T I R J (qR (some (.int (nI n))) T I R J) noX := c_J2_size h.1 h.2.1
theorem LsR.get {l e n k : Nat} (h : LsR l e n T I R) (hk : k < n) (hn : n < 2 ^ 31) : MJ2_get 2 0 [.ref l, .int (nI k)] T I R J (qR (some (.ref (e + k))) T I R J) noX := by
  obtain ⟨h1, h2, ar, cap, h3, -, h4, h5, h6⟩ := h
  exact c_J2_get h1 h3 h4 h2 hk h5 hn (h6 k hk)
theorem PR.T0 (h : PR pb T I R N) : T pb = (103, 0) := h.2.1.1
theorem PR.rQ (h : PR pb T I R N) : R pb 3 = some (pb + 1) := h.2.1.2.1
theorem PR.rE (h : PR pb T I R N) : R pb 4 = some (pb + 2) := h.2.1.2.2.1
theorem PR.rS (h : PR pb T I R N) : R pb 5 = some (pb + 3) := h.2.1.2.2.2.1
theorem PR.rM (h : PR pb T I R N) : R pb 6 = some (pb + 4) := h.2.1.2.2.2.2.1
theorem PR.rW (h : PR pb T I R N) : R pb 7 = some (pb + 5) := h.2.1.2.2.2.2.2.1
theorem PR.rHd (h : PR pb T I R N) : R pb 8 = some (pb + 6) := h.2.1.2.2.2.2.2.2.1
theorem PR.rHf (h : PR pb T I R N) : R pb 9 = some (pb + 7) := h.2.1.2.2.2.2.2.2.2.1
theorem PR.rHt (h : PR pb T I R N) : R pb 10 = some (pb + 8) := h.2.1.2.2.2.2.2.2.2.2.1
theorem PR.tM (h : PR pb T I R N) : T (pb + 4) = (2, 24) := h.2.1.2.2.2.2.2.2.2.2.2.1
theorem PR.tW (h : PR pb T I R N) : T (pb + 5) = (2, 10) := h.2.1.2.2.2.2.2.2.2.2.2.2.1
theorem PR.tHd (h : PR pb T I R N) : T (pb + 6) = (2, 6) := h.2.1.2.2.2.2.2.2.2.2.2.2.2.1
theorem PR.tHf (h : PR pb T I R N) : T (pb + 7) = (2, 6) := h.2.1.2.2.2.2.2.2.2.2.2.2.2.2.1
theorem PR.tHt (h : PR pb T I R N) : T (pb + 8) = (2, 6) := h.2.1.2.2.2.2.2.2.2.2.2.2.2.2.2.1
theorem PR.iH (h : PR pb T I R N) : I pb 0 = N 304 3 := h.2.1.2.2.2.2.2.2.2.2.2.2.2.2.2.2.1
theorem PR.iL (h : PR pb T I R N) : I pb 1 = N 304 4 := h.2.1.2.2.2.2.2.2.2.2.2.2.2.2.2.2.2.1
theorem PR.iB (h : PR pb T I R N) : I pb 2 = N 304 5 := h.2.1.2.2.2.2.2.2.2.2.2.2.2.2.2.2.2.2.1
theorem PR.moon (h : PR pb T I R N) {k : Nat} (hk : k < 24) : I (pb + 4) k = N 318 k := h.2.1.2.2.2.2.2.2.2.2.2.2.2.2.2.2.2.2.2.1 k hk
theorem PR.wgt (h : PR pb T I R N) {k : Nat} (hk : k < 10) : I (pb + 5) k = N 319 k := h.2.1.2.2.2.2.2.2.2.2.2.2.2.2.2.2.2.2.2.2.1 k hk
theorem PR.lQ (h : PR pb T I R N) : LsR (pb + 1) (pb + 100) (nQ N) T I R := h.2.2.1
theorem PR.lE (h : PR pb T I R N) : LsR (pb + 2) (pb + 120) (nE N) T I R := h.2.2.2.1
theorem PR.lS (h : PR pb T I R N) : LsR (pb + 3) (pb + 140) (nS N) T I R := h.2.2.2.2.1
theorem PR.q (h : PR pb T I R N) {k : Nat} (hk : k < nQ N) : T (pb + 100 + k) = (105 + nat N 305 k, 0) ∧ I (pb + 100 + k) 0 = N 307 k ∧ I (pb + 100 + k) 1 = N 308 k ∧ ownF (nat N 305 k) (I (pb + 100 + k) 2) = N 306 k := h.2.2.2.2.2.1 k hk
theorem PR.e (h : PR pb T I R N) {k : Nat} (hk : k < nE N) : T (pb + 120 + k) = (109 + nat N 309 k, 0) ∧ I (pb + 120 + k) 0 = N 310 k ∧ I (pb + 120 + k) 1 = N 311 k ∧ I (pb + 120 + k) 2 = N 312 k ∧ I (pb + 120 + k) 3 = N 313 k := h.2.2.2.2.2.2.1 k hk
theorem PR.s (h : PR pb T I R N) {k : Nat} (hk : k < nS N) : T (pb + 140 + k) = (113 + nat N 314 k, 0) ∧ I (pb + 140 + k) 0 = N 315 k ∧ I (pb + 140 + k) 1 = N 316 k ∧ I (pb + 140 + k) 2 = N 317 k := h.2.2.2.2.2.2.2 k hk
end PRC
section AWD
variable {cx : CxT} {d b pc nL : Nat} {y : MethodName} {cc : ByteArray} {ret : Option FieldType} {hh : List (Nat × Nat × Nat × Nat)} {ls st : List Value} {T : KT} {I : KI} {R : KR} {J : KJ}
theorem AW.getK (X : FC cx d y cc nL ret hh) {idx base κ n k a : Nat} {ty : FieldType} (hF : ∀ κ, κ < n → FieldOK y.cls idx (base + κ) k ty) (hκ : κ < n) (hT : T a = (100 + base + κ, 0)) (dd : decode cc pc = .ok (.getfield idx, 3)) (h : AW cx b (pc + 3) ls (.int (I a k) :: st) T I R J) (hr : ty.isReference = false := by rfl) : AW cx b pc ls (.ref a :: st) T I R J :=
  AW.getI X (hF κ hκ) (by rw [hT, Nat.add_assoc]) dd h hr
theorem AW.putK (X : FC cx d y cc nL ret hh) {idx base κ n k a : Nat} {ty : FieldType} {x : Int32} (hF : ∀ κ, κ < n → PutOK y idx (base + κ) k ty) (hκ : κ < n) (h100 : 100 ≤ a) (hT : T a = (100 + base + κ, 0)) (dd : decode cc pc = .ok (.putfield idx, 3)) (h : AW cx b (pc + 3) ls st T (w2 I a k x) R J) (hr : ty.isReference = false := by rfl) (hn : narrow ty (.int x) = .int x := by rfl) (hf : fits ty (.int x) = true := by rfl) : AW cx b pc ls (.int x :: .ref a :: st) T I R J :=
  AW.putI X (hF κ hκ) h100 (by rw [hT, Nat.add_assoc]) dd h hr hn hf
/-- a cast to the kind's own class -/
theorem AW.castK (X : FC cx d y cc nL ret hh) {idx base κ n a : Nat} {nm : String} (hc : ∀ κ, κ < n → ∃ q, amCl[base + κ]? = some q ∧ (q.1 = nm ∨ (Cond.castable q.1 nm) ∈ lw_tbl)) (hκ : κ < n) (hT : T a = (100 + base + κ, 0)) (hl : (Cond.classLink y.cls idx nm) ∈ lw_all) (dd : decode cc pc = .ok (.checkcast idx, 3)) (h : AW cx b (pc + 3) ls (.ref a :: st) T I R J) : AW cx b pc ls (.ref a :: st) T I R J := by
  obtain ⟨q, h1, h2⟩ := hc κ hκ
  exact AW.cast X (ci := base + κ) (by rw [hT, Nat.add_assoc]) h1 hl h2 dd h
theorem disp_ (v : Value) {rest : List Value} {x : List Value} (h : AW cx b (pc + 3) ls (v :: rest) T I R J → AW cx b pc ls x T I R J) (k : AW cx b (pc + 3) ls (v :: rest) T I R J) : AW cx b pc ls x T I R J := h k
end AWD
theorem ck_Quay : ∀ κ, κ < 4 → ∃ q, amCl[5 + κ]? = some q ∧ (q.1 = "EelPort$Quay" ∨ (Cond.castable q.1 "EelPort$Quay") ∈ lw_tbl)
  | 0, _ => ⟨_, rfl, Or.inr q2190⟩
  | 1, _ => ⟨_, rfl, Or.inr q2189⟩
  | 2, _ => ⟨_, rfl, Or.inr q2191⟩
  | 3, _ => ⟨_, rfl, Or.inr q2188⟩
theorem ck_Eel : ∀ κ, κ < 4 → ∃ q, amCl[9 + κ]? = some q ∧ (q.1 = "EelPort$Eel" ∨ (Cond.castable q.1 "EelPort$Eel") ∈ lw_tbl)
  | 0, _ => ⟨_, rfl, Or.inl rfl⟩
  | 1, _ => ⟨_, rfl, Or.inr q2185⟩
  | 2, _ => ⟨_, rfl, Or.inr q2186⟩
  | 3, _ => ⟨_, rfl, Or.inr q2187⟩
theorem ck_Ship : ∀ κ, κ < 4 → ∃ q, amCl[13 + κ]? = some q ∧ (q.1 = "EelPort$Ship" ∨ (Cond.castable q.1 "EelPort$Ship") ∈ lw_tbl)
  | 0, _ => ⟨_, rfl, Or.inr q2192⟩
  | 1, _ => ⟨_, rfl, Or.inr q2193⟩
  | 2, _ => ⟨_, rfl, Or.inr q2195⟩
  | 3, _ => ⟨_, rfl, Or.inr q2194⟩
theorem fk_X1_195 : ∀ κ, κ < 4 → FieldOK RX1 195 (13 + κ) 1 .int
  | 0, _ => f_X1_195_13
  | 1, _ => f_X1_195_14
  | 2, _ => f_X1_195_15
  | 3, _ => f_X1_195_16
theorem fk_X1_181 : ∀ κ, κ < 4 → FieldOK RX1 181 (9 + κ) 0 .int
  | 0, _ => f_X1_181_9
  | 1, _ => f_X1_181_10
  | 2, _ => f_X1_181_11
  | 3, _ => f_X1_181_12
theorem fk_X1_162 : ∀ κ, κ < 4 → FieldOK RX1 162 (9 + κ) 1 .int
  | 0, _ => f_X1_162_9
  | 1, _ => f_X1_162_10
  | 2, _ => f_X1_162_11
  | 3, _ => f_X1_162_12
theorem fk_X1_183 : ∀ κ, κ < 4 → FieldOK RX1 183 (9 + κ) 2 .int
  | 0, _ => f_X1_183_9
  | 1, _ => f_X1_183_10
  | 2, _ => f_X1_183_11
  | 3, _ => f_X1_183_12
theorem fk_X1_186 : ∀ κ, κ < 4 → FieldOK RX1 186 (9 + κ) 3 .int
  | 0, _ => f_X1_186_9
  | 1, _ => f_X1_186_10
  | 2, _ => f_X1_186_11
  | 3, _ => f_X1_186_12
theorem fk_X1_170 : ∀ κ, κ < 4 → FieldOK RX1 170 (5 + κ) 0 .int
  | 0, _ => f_X1_170_5
  | 1, _ => f_X1_170_6
  | 2, _ => f_X1_170_7
  | 3, _ => f_X1_170_8
theorem fk_X1_173 : ∀ κ, κ < 4 → FieldOK RX1 173 (5 + κ) 1 .int
  | 0, _ => f_X1_173_5
  | 1, _ => f_X1_173_6
  | 2, _ => f_X1_173_7
  | 3, _ => f_X1_173_8
theorem fk_X1_194 : ∀ κ, κ < 4 → FieldOK RX1 194 (13 + κ) 0 .int
  | 0, _ => f_X1_194_13
  | 1, _ => f_X1_194_14
  | 2, _ => f_X1_194_15
  | 3, _ => f_X1_194_16
theorem fk_X1_198 : ∀ κ, κ < 4 → FieldOK RX1 198 (13 + κ) 2 .int
  | 0, _ => f_X1_198_13
  | 1, _ => f_X1_198_14
  | 2, _ => f_X1_198_15
  | 3, _ => f_X1_198_16
theorem fk_X3_112 : ∀ κ, κ < 4 → FieldOK RX3 112 (13 + κ) 0 .int
  | 0, _ => f_X3_112_13
  | 1, _ => f_X3_112_14
  | 2, _ => f_X3_112_15
  | 3, _ => f_X3_112_16
theorem fk_X3_115 : ∀ κ, κ < 4 → FieldOK RX3 115 (13 + κ) 1 .int
  | 0, _ => f_X3_115_13
  | 1, _ => f_X3_115_14
  | 2, _ => f_X3_115_15
  | 3, _ => f_X3_115_16
theorem fk_X3_53 : ∀ κ, κ < 4 → FieldOK RX3 53 (9 + κ) 3 .int
  | 0, _ => f_X3_53_9
  | 1, _ => f_X3_53_10
  | 2, _ => f_X3_53_11
  | 3, _ => f_X3_53_12
theorem fk_X3_94 : ∀ κ, κ < 4 → FieldOK RX3 94 (9 + κ) 1 .int
  | 0, _ => f_X3_94_9
  | 1, _ => f_X3_94_10
  | 2, _ => f_X3_94_11
  | 3, _ => f_X3_94_12
theorem fk_X3_106 : ∀ κ, κ < 4 → FieldOK RX3 106 (5 + κ) 1 .int
  | 0, _ => f_X3_106_5
  | 1, _ => f_X3_106_6
  | 2, _ => f_X3_106_7
  | 3, _ => f_X3_106_8
theorem fk_X3_99 : ∀ κ, κ < 4 → FieldOK RX3 99 (5 + κ) 0 .int
  | 0, _ => f_X3_99_5
  | 1, _ => f_X3_99_6
  | 2, _ => f_X3_99_7
  | 3, _ => f_X3_99_8
theorem fk_X6_187 : ∀ κ, κ < 4 → FieldOK RX6 187 (9 + κ) 0 .int
  | 0, _ => f_X6_187_9
  | 1, _ => f_X6_187_10
  | 2, _ => f_X6_187_11
  | 3, _ => f_X6_187_12
theorem fk_X6_196 : ∀ κ, κ < 4 → FieldOK RX6 196 (9 + κ) 1 .int
  | 0, _ => f_X6_196_9
  | 1, _ => f_X6_196_10
  | 2, _ => f_X6_196_11
  | 3, _ => f_X6_196_12
theorem fk_X6_199 : ∀ κ, κ < 4 → FieldOK RX6 199 (9 + κ) 2 .int
  | 0, _ => f_X6_199_9
  | 1, _ => f_X6_199_10
  | 2, _ => f_X6_199_11
  | 3, _ => f_X6_199_12
theorem fk_X6_202 : ∀ κ, κ < 4 → FieldOK RX6 202 (9 + κ) 3 .int
  | 0, _ => f_X6_202_9
  | 1, _ => f_X6_202_10
  | 2, _ => f_X6_202_11
  | 3, _ => f_X6_202_12
theorem fk_X6_211 : ∀ κ, κ < 4 → FieldOK RX6 211 (13 + κ) 0 .int
  | 0, _ => f_X6_211_13
  | 1, _ => f_X6_211_14
  | 2, _ => f_X6_211_15
  | 3, _ => f_X6_211_16
theorem fk_X6_214 : ∀ κ, κ < 4 → FieldOK RX6 214 (13 + κ) 1 .int
  | 0, _ => f_X6_214_13
  | 1, _ => f_X6_214_14
  | 2, _ => f_X6_214_15
  | 3, _ => f_X6_214_16
theorem fk_X6_217 : ∀ κ, κ < 4 → FieldOK RX6 217 (13 + κ) 2 .int
  | 0, _ => f_X6_217_13
  | 1, _ => f_X6_217_14
  | 2, _ => f_X6_217_15
  | 3, _ => f_X6_217_16
theorem fk_X6_228 : ∀ κ, κ < 4 → FieldOK RX6 228 (5 + κ) 1 .int
  | 0, _ => f_X6_228_5
  | 1, _ => f_X6_228_6
  | 2, _ => f_X6_228_7
  | 3, _ => f_X6_228_8
theorem fk_X6_299 : ∀ κ, κ < 4 → FieldOK RX6 299 (5 + κ) 0 .int
  | 0, _ => f_X6_299_5
  | 1, _ => f_X6_299_6
  | 2, _ => f_X6_299_7
  | 3, _ => f_X6_299_8
theorem fk_X7_7 : ∀ κ, κ < 4 → FieldOK RX7 7 (9 + κ) 2 .int
  | 0, _ => f_X7_7_9
  | 1, _ => f_X7_7_10
  | 2, _ => f_X7_7_11
  | 3, _ => f_X7_7_12
theorem fk_X11_31 : ∀ κ, κ < 4 → FieldOK RX11 31 (13 + κ) 2 .int
  | 0, _ => f_X11_31_13
  | 1, _ => f_X11_31_14
  | 2, _ => f_X11_31_15
  | 3, _ => f_X11_31_16
theorem gk_X6_port_187 : ∀ κ, κ < 4 → PutOK yX6_port 187 (9 + κ) 0 .int
  | 0, _ => g_X6_port_187_9
  | 1, _ => g_X6_port_187_10
  | 2, _ => g_X6_port_187_11
  | 3, _ => g_X6_port_187_12
theorem gk_X6_port_196 : ∀ κ, κ < 4 → PutOK yX6_port 196 (9 + κ) 1 .int
  | 0, _ => g_X6_port_196_9
  | 1, _ => g_X6_port_196_10
  | 2, _ => g_X6_port_196_11
  | 3, _ => g_X6_port_196_12
theorem gk_X6_port_199 : ∀ κ, κ < 4 → PutOK yX6_port 199 (9 + κ) 2 .int
  | 0, _ => g_X6_port_199_9
  | 1, _ => g_X6_port_199_10
  | 2, _ => g_X6_port_199_11
  | 3, _ => g_X6_port_199_12
theorem gk_X6_port_202 : ∀ κ, κ < 4 → PutOK yX6_port 202 (9 + κ) 3 .int
  | 0, _ => g_X6_port_202_9
  | 1, _ => g_X6_port_202_10
  | 2, _ => g_X6_port_202_11
  | 3, _ => g_X6_port_202_12
theorem gk_X6_port_211 : ∀ κ, κ < 4 → PutOK yX6_port 211 (13 + κ) 0 .int
  | 0, _ => g_X6_port_211_13
  | 1, _ => g_X6_port_211_14
  | 2, _ => g_X6_port_211_15
  | 3, _ => g_X6_port_211_16
theorem gk_X6_port_214 : ∀ κ, κ < 4 → PutOK yX6_port 214 (13 + κ) 1 .int
  | 0, _ => g_X6_port_214_13
  | 1, _ => g_X6_port_214_14
  | 2, _ => g_X6_port_214_15
  | 3, _ => g_X6_port_214_16
theorem gk_X6_port_217 : ∀ κ, κ < 4 → PutOK yX6_port 217 (13 + κ) 2 .int
  | 0, _ => g_X6_port_217_13
  | 1, _ => g_X6_port_217_14
  | 2, _ => g_X6_port_217_15
  | 3, _ => g_X6_port_217_16
theorem gk_X6_port_228 : ∀ κ, κ < 4 → PutOK yX6_port 228 (5 + κ) 1 .int
  | 0, _ => g_X6_port_228_5
  | 1, _ => g_X6_port_228_6
  | 2, _ => g_X6_port_228_7
  | 3, _ => g_X6_port_228_8
theorem gk_X6_quay_299 : ∀ κ, κ < 4 → PutOK yX6_quay 299 (5 + κ) 0 .int
  | 0, _ => g_X6_quay_299_5
  | 1, _ => g_X6_quay_299_6
  | 2, _ => g_X6_quay_299_7
  | 3, _ => g_X6_quay_299_8
