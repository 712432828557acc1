/-! AM 6: new cells, casts, constants, statics, references compared -/
set_option maxRecDepth 100000
theorem amDef0 : amCl.all (fun q => (List.range q.2.2).all fun k => match parseFieldDescriptor (q.2.1 k).2.2.1 with
  | some ty => decide (defaultValue ty = if ty.isReference then .null else .int 0)
  | none => false) = true := by decide +kernel
theorem amDef {ci k : Nat} {q : vw_C} {ty : FieldType} (hq : amCl[ci]? = some q) (hk : k < q.2.2) (hty : parseFieldDescriptor (q.2.1 k).2.2.1 = some ty) : defaultValue ty = if ty.isReference then .null else .int 0 := by
  have h := List.all_eq_true.mp (List.all_eq_true.mp amDef0 q (List.mem_of_getElem? hq)) k (List.mem_range.mpr hk)
  rw [hty] at h
  simpa using h
/-- a String constant by the wide form: as the library's ldcString -/
theorem ldcwStr {p : Program} {l : Launch} {e : Env} {R : Room} {s : State} {m : MethodId} {args : Array Value} {below : List Frame} {meth : Method} {c : Code} {T : State} {locs : List Loc} {cells slots : Nat}
    (X : Stand p l e R s m args below meth c T locs cells slots) (hexec : p.tables.exec = Jvm.exec) {own text : String} {index : Nat} {a : Addr} (hown : s.vm.findClass own = some m.cls)
    (hconst : (Cond.stringRef own index text).before args s = true) (hev : (Term.string own index).eval args s none [] s = some (.ref a)) {g : JFrame} (hg : g.method = m) (hdg : decode c.code g.pc = .ok (.ldc_w index, 3)) :
    ∀ target, Steps p.tables e below (T.setTop { g with pc := g.pc + 3, stack := .ref a :: g.stack }) target → Steps p.tables e below (T.setTop g) target := by
  obtain ⟨k, cf, i, a', hk, hcf, hcp, -, hr, hev'⟩ := Cond.stringRef_spec hown hconst
  cases hev.symm.trans hev'
  obtain ⟨k', hk', he⟩ := X.warmed.alike.2.2 _ _ hk
  have hr' : k'.resolved[index]? = some (some (.string a)) := by
    rcases X.warmed.entry hk hk' index with h | ⟨h, -⟩
    · rw [h]; exact hr
    · rw [hr] at h; cases h
  intro target hrest
  subst hg
  jvm_step X.here [hexec, hdg, ldc_w.wp_string (e := e) (s := T) (f := g) X.here.top hk' (by rw [he]; exact hcf) hcp hr']
  exact hrest
/-- a new cell: what goes on behind it -/
theorem amAlloc {D : va_G} {z0 : Nat} {ρ ρ0 : Nat → Nat} {T T0 : KT} {I I' : KI} {R R' : KR} {J J' : KJ} {s : State} {H0 H H' : Heap} {locs : List Loc} {a : Nat} {κ : Nat × Nat} (hR : RL D z0 ρ T I R J s H) (hS : va_S (stZ z0) H0 H locs) (hE : Ext ρ0 T0 ρ T) (ha : (T a).1 = 0) (hκ : 1 < κ.1) (hI : ∀ b, b ≠ a → I' b = I b) (hRr : ∀ b, b ≠ a → R' b = R b) (hJ : ∀ b, b ≠ a → J' b = J b) (oq : ∀ q, q < H.size → H'[q]? = H[q]?) (z1 : H.size ≤ H'.size) (hr : ∀ k, R' a k = none) (hc : CellOK D z0 (row ρ a H.size) (row T a κ) I' R' J' s H' a) :
    RL D z0 (row ρ a H.size) (row T a κ) I' R' J' s H' ∧ va_S (stZ z0) H0 H' locs ∧ Ext ρ0 T0 (row ρ a H.size) (row T a κ) ∧ Ext ρ T (row ρ a H.size) (row T a κ) := by
  have hP := hR.1.alloc ha hκ hI hRr hJ oq (fun k b h => by rw [hr k] at h; cases h) hc
  have hE2 : Ext ρ T (row ρ a H.size) (row T a κ) := Ext.alloc ha
  refine ⟨hR.step hP hE2 (by omega) (fun q hq _ => oq q hq), ⟨Nat.le_trans hS.1 (by omega), fun q h1 h2 => (oq q (Nat.lt_of_lt_of_le h1 hS.1)).trans (hS.2.1 q h1 h2), hS.2.2⟩, hE.trans hE2, hE2⟩
section AWN
variable {cx : CxT} {d b pc nL : Nat} {y : MethodName} {cc : ByteArray} {ret : Option FieldType} {hh : List (Nat × Nat × Nat × Nat)} {ls st : List Value} {T : KT} {I : KI} {R : KR} {J : KJ}
theorem AW.new (X : FC cx d y cc nL ret hh) (a kc : Nat) {idx ci n : Nat} {q : vw_C} (ha : (T a).1 = 0) (h100 : 100 ≤ a) (hq : amCl[ci]? = some q) (hl : (Cond.classLink y.cls idx q.1) ∈ lw_all) (hi : (Cond.instantiable q.1 n) ∈ lw_all) (hini : (Cond.initialized q.1) ∈ lw_all) (hkc : 1 ≤ kc ∧ n ≤ 4 * kc) (dd : decode cc pc = .ok (.new idx, 3)) (h : AW cx b (pc + 3) ls (.ref a :: st) (row T a (100 + ci, 0)) (row I a (fun _ => 0)) (row R a (fun _ => none)) J) : AW cx (b + kc) pc ls st T I R J := by
  obtain ⟨p, l, e, Rm, s, m, args, below, meth, c, D, z0, ρ0, T0, PQ⟩ := cx
  obtain ⟨hx, hb, -, -, hown, -, hts, -, -, -, -, -, -, hCX⟩ := X
  intro ρ H locs cells slots lsA hk hn hR hS hE hl' hs hL
  obtain ⟨hin, ⟨ty0, hty0⟩, -⟩ := amCls hq
  have hKn := hCX.1.1 ci q hq
  refine W.newcK hx hb hown (hts _ hl) (hts _ hi) (hts _ hini) rfl dd (by omega) (by omega) hKn.2.1 rfl fun H1 kC hkC e1 z1 o1 => ?_
  have hob := u_born ty0 hts hin hKn hkC e1 hty0
  obtain ⟨cell, g1, g2, g3, g4⟩ := hob
  obtain ⟨r1, r2, r3, r4⟩ := amAlloc (κ := (100 + ci, 0)) (I' := row I a (fun _ => 0)) (R' := row R a (fun _ => none)) (J' := J) hR hS hE ha (by show 1 < 100 + ci; omega) (fun _ hb => row_n hb) (fun _ hb => row_n hb) (fun _ _ => rfl) o1 (by omega) (fun k => by rw [row_s]) (fun _ => by
    rw [row_s, row_s]
    refine ⟨cell, g1, ⟨fun _ => hR.2.1, fun _ => h100⟩, by rw [g3]; rfl, by rw [g3]; exact (fun z => by cases z), fun _ => ⟨g3, fun _ => ⟨kC, by rw [g2]; exact hkC, by rw [g2]; exact Option.some.inj (g1.symm.trans e1)⟩⟩, fun ty hty => ?_, fun C hC => ?_, fun ci' q' hci hq' => ?_⟩
    · dsimp only at hty; rw [kPrim_obj] at hty; cases hty
    · dsimp only at hC; rw [kRefC_obj] at hC; cases hC
    · have : ci' = ci := by dsimp only at hci; omega
      subst this
      cases hq.symm.trans hq'
      refine ⟨g2, fun k hk => ?_⟩
      rw [g4 k hk]
      unfold fv
      rw [hty0 k hk]
      dsimp only
      rw [row_s, row_s]
      rw [amDef hq hk (hty0 k hk)]
      split <;> rfl)
  have := h (row ρ a H.size) H1 locs (cells + 1) (slots + n) lsA (by omega) (by omega) r1 r2 r3 (r4.wfs hl') ⟨by show (row T a (100 + ci, 0) a).1 ≠ 0; rw [row_s]; show 100 + ci ≠ 0; omega, r4.wfs hs⟩ (hL.ext r4 hl')
  rw [List.map_cons, r4.map hs] at this
  have e0 : cv (row ρ a H.size) (.ref a) = .ref H.size := by show Value.ref (row ρ a H.size a) = _; rw [row_s]
  rw [e0] at this
  exact this
theorem AW.newarr (X : FC cx d y cc nL ret hh) (a kc : Nat) {N κ : Nat} {n : Int32} {atype : ArrayType} {I' : KI} {J' : KJ} {ty : FieldType} (ha : (T a).1 = 0) (h100 : 100 ≤ a) (hn0 : n = nI N) (hN : N ≤ 4 * kc) (hN2 : N < 100000) (hkc : 1 ≤ kc) (hty : newarray.typeOf atype = ty) (hκ : kPrim κ = some ty) (harr : (Cond.arrayClass ty) ∈ lw_all) (hI : ∀ b, b ≠ a → I' b = I b) (hJ : ∀ b, b ≠ a → J' b = J b) (hpv : ∀ j, pv I' J' κ a j = defaultValue ty) (dd : decode cc pc = .ok (.newarray atype, 2)) (h : AW cx b (pc + 2) ls (.ref a :: st) (row T a (κ, N)) I' (row R a (fun _ => none)) J') : AW cx (b + kc) pc ls (.int n :: st) T I R J := by
  subst hty
  subst hn0
  obtain ⟨p, l, e, Rm, s, m, args, below, meth, c, D, z0, ρ0, T0, PQ⟩ := cx
  obtain ⟨hx, hb, -, -, hown, -, hts, -, -, -, -, -, -, hCX⟩ := X
  intro ρ H locs cells slots lsA hk hn hR hS hE hl' hs hL
  have hcl : (nI N).toNatClampNeg = N := nI_clamp (by omega)
  have hκ1 : 1 < κ := by
    rcases κ with _ | _ | κ
    · cases hκ
    · cases hκ
    · omega
  have hby : componentBytes (newarray.typeOf atype) ≤ 8 := by cases atype <;> decide
  refine va_newaK hx hb (hts _ harr) rfl dd rfl (nI_pos (by omega)) hcl (Nat.le_trans (Nat.mul_le_mul (Nat.le_of_lt hN2) hby) (by decide)) (by omega) (by omega) rfl fun H1 cA e1 z1 o1 hAr hNm => ?_
  obtain ⟨r1, r2, r3, r4⟩ := amAlloc (κ := (κ, N)) (I' := I') (R' := row R a (fun _ => none)) (J' := J') hR hS hE ha hκ1 hI (fun _ hb => row_n hb) hJ o1 (by omega) (fun k => by rw [row_s]) (fun _ => by
    rw [row_s, row_s]
    have epv : pv I' J' κ a = fun _ => defaultValue (newarray.typeOf atype) := funext hpv
    refine ⟨_, e1, ⟨fun _ => hR.2.1, fun _ => h100⟩, rfl, (fun z => by cases z), (fun _ => ⟨rfl, fun z => absurd z (fun e => by dsimp only at e; rw [e] at hκ; cases hκ)⟩), fun ty hty => ?_, fun C hC => ?_, fun ci' q' hci hq' => ?_⟩
    · cases hκ.symm.trans hty
      dsimp only
      rw [epv]
      exact ⟨hAr _ _, arrV_size _ _ _, by omega, fun j hj => arrV_read _ _ hj, fun _ => ⟨rfl, hNm⟩⟩
    · exfalso
      revert hκ hC
      dsimp only
      unfold kPrim kRefC
      split <;> simp
    · exfalso
      dsimp only at hci
      rw [hci, kPrim_obj] at hκ
      cases hκ)
  have := h (row ρ a H.size) H1 locs (cells + 1) (slots + N) lsA (by omega) (by omega) r1 r2 r3 (r4.wfs hl') ⟨by show (row T a (κ, N) a).1 ≠ 0; rw [row_s]; show κ ≠ 0; omega, r4.wfs hs.2⟩ (hL.ext r4 hl')
  rw [List.map_cons, r4.map hs.2] at this
  have e0 : cv (row ρ a H.size) (.ref a) = .ref H.size := by show Value.ref (row ρ a H.size a) = _; rw [row_s]
  rw [e0] at this
  exact this
theorem AW.newI (X : FC cx d y cc nL ret hh) (a kc : Nat) {N : Nat} {n : Int32} (ha : (T a).1 = 0) (h100 : 100 ≤ a) (hn0 : n = nI N) (hN : N ≤ 4 * kc) (hN2 : N < 100000) (hkc : 1 ≤ kc) (dd : decode cc pc = .ok (.newarray .int, 2)) (h : AW cx b (pc + 2) ls (.ref a :: st) (row T a (2, N)) (row I a (fun _ => 0)) (row R a (fun _ => none)) J) : AW cx (b + kc) pc ls (.int n :: st) T I R J :=
  AW.newarr X a kc (κ := 2) (ty := .int) ha h100 hn0 hN hN2 hkc rfl rfl q547 (fun _ hb => row_n hb) (fun _ _ => rfl) (fun j => by simp [pv, row_s, defaultValue]) dd h
theorem AW.newB (X : FC cx d y cc nL ret hh) (a kc : Nat) {N : Nat} {n : Int32} (ha : (T a).1 = 0) (h100 : 100 ≤ a) (hn0 : n = nI N) (hN : N ≤ 4 * kc) (hN2 : N < 100000) (hkc : 1 ≤ kc) (dd : decode cc pc = .ok (.newarray .byte, 2)) (h : AW cx b (pc + 2) ls (.ref a :: st) (row T a (3, N)) (row I a (fun _ => 0)) (row R a (fun _ => none)) J) : AW cx (b + kc) pc ls (.int n :: st) T I R J :=
  AW.newarr X a kc (κ := 3) (ty := .byte) ha h100 hn0 hN hN2 hkc rfl rfl q236 (fun _ hb => row_n hb) (fun _ _ => rfl) (fun j => by simp [pv, row_s, defaultValue]) dd h
theorem AW.newZ (X : FC cx d y cc nL ret hh) (a kc : Nat) {N : Nat} {n : Int32} (ha : (T a).1 = 0) (h100 : 100 ≤ a) (hn0 : n = nI N) (hN : N ≤ 4 * kc) (hN2 : N < 100000) (hkc : 1 ≤ kc) (dd : decode cc pc = .ok (.newarray .boolean, 2)) (h : AW cx b (pc + 2) ls (.ref a :: st) (row T a (4, N)) (row I a (fun _ => 0)) (row R a (fun _ => none)) J) : AW cx (b + kc) pc ls (.int n :: st) T I R J :=
  AW.newarr X a kc (κ := 4) (ty := .boolean) ha h100 hn0 hN hN2 hkc rfl rfl q893 (fun _ hb => row_n hb) (fun _ _ => rfl) (fun j => by simp [pv, row_s, defaultValue]) dd h
theorem AW.newL (X : FC cx d y cc nL ret hh) (a kc : Nat) {N : Nat} {n : Int32} (ha : (T a).1 = 0) (h100 : 100 ≤ a) (hn0 : n = nI N) (hN : N ≤ 4 * kc) (hN2 : N < 100000) (hkc : 1 ≤ kc) (dd : decode cc pc = .ok (.newarray .long, 2)) (h : AW cx b (pc + 2) ls (.ref a :: st) (row T a (6, N)) I (row R a (fun _ => none)) (row J a (fun _ => 0))) : AW cx (b + kc) pc ls (.int n :: st) T I R J :=
  AW.newarr X a kc (κ := 6) (ty := .long) ha h100 hn0 hN hN2 hkc rfl rfl q2171 (fun _ _ => rfl) (fun _ hb => row_n hb) (fun j => by simp [pv, row_s, defaultValue]) dd h
theorem AW.newQ (X : FC cx d y cc nL ret hh) (a kc : Nat) {N κ idx : Nat} {n : Int32} {C : String} (ha : (T a).1 = 0) (h100 : 100 ≤ a) (hn0 : n = nI N) (hN : N ≤ 4 * kc) (hN2 : N < 100000) (hkc : 1 ≤ kc) (hκ : kRefC κ = some C) (hl : (Cond.classLink y.cls idx C) ∈ lw_all) (dd : decode cc pc = .ok (.anewarray idx, 3)) (h : AW cx b (pc + 3) ls (.ref a :: st) (row T a (κ, N)) I (row R a (fun _ => none)) J) : AW cx (b + kc) pc ls (.int n :: st) T I R J := by
  subst hn0
  obtain ⟨p, l, e, Rm, s, m, args, below, meth, c, D, z0, ρ0, T0, PQ⟩ := cx
  obtain ⟨hx, hb, -, -, hown, -, hts, -, -, -, -, -, -, hCX⟩ := X
  intro ρ H locs cells slots lsA hk hn hR hS hE hl' hs hL
  have hcl : (nI N).toNatClampNeg = N := nI_clamp (by omega)
  have hκ1 : 1 < κ := by
    rcases κ with _ | _ | κ
    · cases hκ
    · cases hκ
    · omega
  have hAO : va_AO C s := by
    obtain ⟨-, -, -, h1, h2, -⟩ := hCX
    unfold kRefC at hκ
    split at hκ
    · cases hκ; exact h1
    · cases hκ; exact h2
    · cases hκ
  refine W.anew hx hb hown (hts _ hl) (va_AO.use hAO) rfl dd rfl (nI_pos (by omega)) (by rw [hcl]; omega) (by omega) (by rw [hcl]; omega) fun cA kA comp f1 f2 f3 f4 => ?_
  rw [hcl]
  generalize hH1 : H.push ({ cls := cA, slots := Array.replicate N .null, vm := .none } : Cell) = H1
  have z1 : H1.size = H.size + 1 := by rw [← hH1, Array.size_push]
  have e1 : H1[H.size]? = some (arrV cA N (fun _ => .null)) := by rw [← hH1, Array.getElem?_push_size, ← arrV_new]
  have o1 : ∀ q : Nat, q < H.size → H1[q]? = H[q]? := fun q hq => by rw [← hH1, Array.getElem?_push, if_neg (Nat.ne_of_lt hq)]
  obtain ⟨r1, r2, r3, r4⟩ := amAlloc (κ := (κ, N)) (I' := I) (R' := row R a (fun _ => none)) (J' := J) hR hS hE ha hκ1 (fun _ _ => rfl) (fun _ hb => row_n hb) (fun _ _ => rfl) o1 (by omega) (fun k => by rw [row_s]) (fun _ => by
    rw [row_s, row_s]
    have epv : (fun j => va_rf ((row R a (fun _ => none) a j).map (row ρ a H.size))) = fun _ => Value.null := by
      funext j
      rw [row_s]
      rfl
    refine ⟨_, e1, ⟨fun _ => hR.2.1, fun _ => h100⟩, rfl, (fun z => by cases z), (fun _ => ⟨rfl, fun z => absurd z (fun e => by dsimp only at e; rw [e] at hκ; cases hκ)⟩), fun ty hty => ?_, fun C' hC => ?_, fun ci' q' hci hq' => ?_⟩
    · exfalso
      revert hκ hty
      dsimp only
      unfold kPrim kRefC
      split <;> simp
    · cases hκ.symm.trans hC
      dsimp only
      rw [epv]
      refine ⟨⟨notStat rfl, kA, f2, comp, f3⟩, arrV_size _ _ _, by omega, fun j hj => ?_, fun _ => ⟨rfl, ⟨kA, comp, f2, f3, f4, f1⟩⟩⟩
      rw [row_s]
      exact arrV_read _ _ hj
    · exfalso
      dsimp only at hci
      rw [hci, kRefC_obj] at hκ
      cases hκ)
  have := h (row ρ a H.size) H1 locs (cells + 1) (slots + N) lsA (by omega) (by omega) r1 r2 r3 (r4.wfs hl') ⟨by show (row T a (κ, N) a).1 ≠ 0; rw [row_s]; show κ ≠ 0; omega, r4.wfs hs.2⟩ (hL.ext r4 hl')
  rw [List.map_cons, r4.map hs.2] at this
  have e0 : cv (row ρ a H.size) (.ref a) = .ref H.size := by show Value.ref (row ρ a H.size a) = _; rw [row_s]
  rw [e0] at this
  exact this
/-- an object's class, at hand -/
theorem objAt {D : va_G} {z0 : Nat} {ρ : Nat → Nat} {s : State} {H : Heap} {a ci : Nat} {q : vw_C} (hR : RL D z0 ρ T I R J s H) (hK : CX D s) (hT : (T a).1 = 100 + ci) (hq : amCl[ci]? = some q) : ∃ cell : Cell, H[ρ a]? = some cell ∧ cell.vm.isStatics = false ∧ s.vm.findClass q.1 = some cell.cls := by
  obtain ⟨cell, h1, -, h3, -, -, -, -, h8⟩ := hR.1.1 a (by omega)
  obtain ⟨g1, -⟩ := h8 ci q hT hq
  exact ⟨cell, h1, h3, by rw [g1]; exact (hK.1.1 ci q hq).2.1⟩
theorem AW.cast (X : FC cx d y cc nL ret hh) {idx ci a : Nat} {nm : String} {q : vw_C} (hT : T a = (100 + ci, 0)) (hq : amCl[ci]? = some q) (hl : (Cond.classLink y.cls idx nm) ∈ lw_all) (hc : q.1 = nm ∨ (Cond.castable q.1 nm) ∈ lw_tbl) (dd : decode cc pc = .ok (.checkcast idx, 3)) (h : AW cx b (pc + 3) ls (.ref a :: st) T I R J) : AW cx b pc ls (.ref a :: st) T I R J := by
  obtain ⟨p, l, e, Rm, s, m, args, below, meth, c, D, z0, ρ0, T0, PQ⟩ := cx
  obtain ⟨hx, hb, -, -, hown, -, hts, -, -, -, -, -, -, hCX⟩ := X
  intro ρ H locs cells slots lsA hk hn hR hS hE hl' hs hL
  rcases hc with e1 | hc
  · subst e1
    exact va_castE hx hb hown (hts _ hl) (objAt hR hCX (by rw [hT]) hq) dd (h ρ H locs cells slots lsA hk hn hR hS hE hl' hs hL)
  · exact va_castY hx hb hown (hts _ hl) (hCX.2.1 _ hc rfl) (objAt hR hCX (by rw [hT]) hq) dd (h ρ H locs cells slots lsA hk hn hR hS hE hl' hs hL)
theorem AW.castN (X : FC cx d y cc nL ret hh) {idx : Nat} (dd : decode cc pc = .ok (.checkcast idx, 3)) (h : AW cx b (pc + 3) ls (.null :: st) T I R J) : AW cx b pc ls (.null :: st) T I R J := by
  obtain ⟨p, l, e, Rm, s, m, args, below, meth, c, D, z0, ρ0, T0, PQ⟩ := cx
  obtain ⟨hx, hb, -⟩ := X
  intro ρ H locs cells slots lsA hk hn hR hS hE hl' hs hL
  exact lv_castN hx hb dd (h ρ H locs cells slots lsA hk hn hR hS hE hl' hs hL)
theorem AW.castArr (X : FC cx d y cc nL ret hh) {idx a κ n : Nat} {nm : String} {ty : FieldType} (h100 : 100 ≤ a) (hT : T a = (κ, n)) (hκ : kPrim κ = some ty) (hnm : "[" ++ ty.toString = nm) (hl : (Cond.classLink y.cls idx nm) ∈ lw_all) (dd : decode cc pc = .ok (.checkcast idx, 3)) (h : AW cx b (pc + 3) ls (.ref a :: st) T I R J) : AW cx b pc ls (.ref a :: st) T I R J := by
  obtain ⟨p, l, e, Rm, s, m, args, below, meth, c, D, z0, ρ0, T0, PQ⟩ := cx
  obtain ⟨hx, hb, -, -, hown, -, hts, -, -, -, -, -, -, hCX⟩ := X
  intro ρ H locs cells slots lsA hk hn hR hS hE hl' hs hL
  obtain ⟨cell, h1, -, h3, -, -, h6, -, -⟩ := hR.1.1 a (by
    rw [hT]
    show 1 < κ
    rcases κ with _ | _ | κ
    · cases hκ
    · cases hκ
    · omega)
  rw [hT] at h6
  obtain ⟨-, -, -, -, g5⟩ := h6 _ hκ
  exact va_castE hx hb hown (hts _ hl) ⟨cell, h1, h3, by rw [← hnm]; exact (g5 h100).2⟩ dd (h ρ H locs cells slots lsA hk hn hR hS hE hl' hs hL)
theorem AW.instY (X : FC cx d y cc nL ret hh) {idx ci a : Nat} {q : vw_C} (hT : T a = (100 + ci, 0)) (hq : amCl[ci]? = some q) (hl : (Cond.classLink y.cls idx q.1) ∈ lw_all) (dd : decode cc pc = .ok (.instanceof idx, 3)) (h : AW cx b (pc + 3) ls (.int 1 :: st) T I R J) : AW cx b pc ls (.ref a :: st) T I R J := by
  obtain ⟨p, l, e, Rm, s, m, args, below, meth, c, D, z0, ρ0, T0, PQ⟩ := cx
  obtain ⟨hx, hb, -, -, hown, -, hts, -, -, -, -, -, -, hCX⟩ := X
  intro ρ H locs cells slots lsA hk hn hR hS hE hl' hs hL
  exact va_instE hx hb hown (hts _ hl) (objAt hR hCX (by rw [hT]) hq) dd (h ρ H locs cells slots lsA hk hn hR hS hE hl' ⟨trivial, hs.2⟩ hL)
theorem AW.ldc (X : FC cx d y cc nL ret hh) {idx : Nat} {v : Int32} (hc : (Cond.constant y.cls idx v) ∈ lw_all) (dd : decode cc pc = .ok (.ldc idx, 2)) (h : AW cx b (pc + 2) ls (.int v :: st) T I R J) : AW cx b pc ls st T I R J := by
  obtain ⟨p, l, e, Rm, s, m, args, below, meth, c, D, z0, ρ0, T0, PQ⟩ := cx
  obtain ⟨hx, hb, -, -, hown, -, hts, -, -, -, -, -, -, hCX⟩ := X
  intro ρ H locs cells slots lsA hk hn hR hS hE hl' hs hL
  exact lv_ldc hx hb hown (hts _ hc) dd (h ρ H locs cells slots lsA hk hn hR hS hE hl' ⟨trivial, hs⟩ hL)
theorem AW.ldcw (X : FC cx d y cc nL ret hh) {idx : Nat} {v : Int32} (hc : (Cond.constant y.cls idx v) ∈ lw_all) (dd : decode cc pc = .ok (.ldc_w idx, 3)) (h : AW cx b (pc + 3) ls (.int v :: st) T I R J) : AW cx b pc ls st T I R J := by
  obtain ⟨p, l, e, Rm, s, m, args, below, meth, c, D, z0, ρ0, T0, PQ⟩ := cx
  obtain ⟨hx, hb, -, -, hown, -, hts, -, -, -, -, -, -, hCX⟩ := X
  intro ρ H locs cells slots lsA hk hn hR hS hE hl' hs hL
  exact lv_ldcw hx hb hown (hts _ hc) dd (h ρ H locs cells slots lsA hk hn hR hS hE hl' ⟨trivial, hs⟩ hL)
theorem AW.ldcS (X : FC cx d y cc nL ret hh) (i : Nat) {idx a : Nat} {tx own : String} (hi : amStr[i]? = some (own, idx, tx, a)) (ho : own = y.cls) (dd : decode cc pc = .ok (.ldc idx, 2)) (h : AW cx b (pc + 2) ls (.ref a :: st) T I R J) : AW cx b pc ls st T I R J := by
  subst ho
  obtain ⟨p, l, e, Rm, s, m, args, below, meth, c, D, z0, ρ0, T0, PQ⟩ := cx
  obtain ⟨hx, hb, -, -, hown, -, hts, -, -, -, -, -, -, hCX⟩ := X
  intro ρ H locs cells slots lsA hk hn hR hS hE hl' hs hL
  obtain ⟨g1, g2⟩ := hR.2.2.1 _ (List.mem_of_getElem? hi)
  exact va_ldcS hx hb hown g2 dd (h ρ H locs cells slots lsA hk hn hR hS hE hl' ⟨g1, hs⟩ hL)
theorem AW.ldcwS (X : FC cx d y cc nL ret hh) (i : Nat) {idx a : Nat} {tx own : String} (hi : amStr[i]? = some (own, idx, tx, a)) (ho : own = y.cls) (dd : decode cc pc = .ok (.ldc_w idx, 3)) (h : AW cx b (pc + 3) ls (.ref a :: st) T I R J) : AW cx b pc ls st T I R J := by
  subst ho
  obtain ⟨p, l, e, Rm, s, m, args, below, meth, c, D, z0, ρ0, T0, PQ⟩ := cx
  obtain ⟨hx, hb, -, -, hown, -, hts, -, -, -, -, -, -, hCX⟩ := X
  intro ρ H locs cells slots lsA hk hn hR hS hE hl' hs hL
  obtain ⟨g1, g2⟩ := hR.2.2.1 _ (List.mem_of_getElem? hi)
  intro T' hT' X'
  obtain ⟨t, a1, b1⟩ := h ρ H locs cells slots lsA hk hn hR hS hE hl' ⟨g1, hs⟩ hL T' hT' X'
  exact ⟨t, ldcwStr X' hx hown (text := tx) (a := ρ a) g2.1 g2.2 (g := F0 m pc lsA (st.map (cv ρ))) rfl (by rw [hb]; exact dd) t a1, b1⟩
theorem AW.gets (X : FC cx d y cc nL ret hh) (i : Nat) {idx : Nat} {C n dsc : String} {v : Value} (hi : amSta[i]? = some (C, n, dsc, v)) (hl : (Cond.fieldLink y.cls idx C n dsc) ∈ lw_all) (dd : decode cc pc = .ok (.getstatic idx, 3)) (h : AW cx b (pc + 3) ls (v :: st) T I R J) : AW cx b pc ls st T I R J := by
  obtain ⟨p, l, e, Rm, s, m, args, below, meth, c, D, z0, ρ0, T0, PQ⟩ := cx
  obtain ⟨hx, hb, -, -, hown, -, hts, -, -, -, -, -, -, hCX⟩ := X
  intro ρ H locs cells slots lsA hk hn hR hS hE hl' hs hL
  obtain ⟨g1, cf, kf, fi, f, a, cell, h1, h2, h3, h4, h5, h6, h7, h8⟩ := hR.2.2.2.1 _ (List.mem_of_getElem? hi)
  exact W.gets hx hb hown (hts _ hl) h1 h2 h3 h4 h5 (fun e => by rw [e] at h6; cases h6) h7 rfl dd (h ρ H locs cells slots lsA hk hn hR hS hE hl' ⟨g1, hs⟩ hL)
theorem AW.getsU (X : FC cx d y cc nL ret hh) {idx : Nat} (hl : (Cond.fieldLink y.cls idx "jdk/internal/util/Preconditions" "SIOOBE_FORMATTER" "Ljava/util/function/BiFunction;") ∈ lw_all) (dd : decode cc pc = .ok (.getstatic idx, 3)) (h : ∀ v : Value, (v = .null ∨ v = .ref 4) → AW cx b (pc + 3) ls (v :: st) T I R J) : AW cx b pc ls st T I R J := by
  obtain ⟨p, l, e, Rm, s, m, args, below, meth, c, D, z0, ρ0, T0, PQ⟩ := cx
  obtain ⟨hx, hb, -, -, hown, -, hts, -, -, -, -, -, -, hCX⟩ := X
  intro ρ H locs cells slots lsA hk hn hR hS hE hl' hs hL
  obtain ⟨g1, v, hv, cf, kf, fi, f, a, cell, h1, h2, h3, h4, h5, h6, h7, h8⟩ := hR.2.2.2.2.1
  have hw : wfv T v := by rcases hv with e | e <;> rw [e]; exact trivial; exact g1
  exact W.gets hx hb hown (hts _ hl) h1 h2 h3 h4 h5 (fun e => by rw [e] at h6; cases h6) h7 rfl dd (h v hv ρ H locs cells slots lsA hk hn hR hS hE hl' ⟨hw, hs⟩ hL)
theorem AW.ldcM (X : FC cx d y cc nL ret hh) {idx : Nat} (hl : (Cond.classLink y.cls idx "[Ljava/lang/Object;") ∈ lw_all) (dd : decode cc pc = .ok (.ldc idx, 2)) (h : AW cx b (pc + 2) ls (.ref 5 :: st) T I R J) : AW cx b pc ls st T I R J := by
  obtain ⟨p, l, e, Rm, s, m, args, below, meth, c, D, z0, ρ0, T0, PQ⟩ := cx
  obtain ⟨hx, hb, -, -, hown, -, hts, -, -, -, -, -, -, hCX⟩ := X
  intro ρ H locs cells slots lsA hk hn hR hS hE hl' hs hL
  obtain ⟨g1, g2⟩ := hR.2.2.2.2.2.1
  exact va_ldcM hx hb hown (hts _ hl) g2 dd (h ρ H locs cells slots lsA hk hn hR hS hE hl' ⟨g1, hs⟩ hL)
theorem AW.acmp_eq (X : FC cx d y cc nL ret hh) {a c : Nat} {off : Int} {tgt : Nat} (hac : a = c ∨ (1 < (T a).1 ∧ 1 < (T c).1)) (dd : decode cc pc = .ok (.if_acmp .eq off, 3)) (ht : (pc : Int) + off = (tgt : Int)) (kt : a = c → AW cx b tgt ls st T I R J) (kf : ¬ a = c → AW cx b (pc + 3) ls st T I R J) : AW cx b pc ls (.ref c :: .ref a :: st) T I R J := by
  obtain ⟨p, l, e, Rm, s, m, args, below, meth, cc', D, z0, ρ0, T0, PQ⟩ := cx
  obtain ⟨hx, hb, -⟩ := X
  intro ρ H locs cells slots lsA hk hn hR hS hE hl hs hL
  refine lv_acmp_eq (rx := some (ρ a)) (ry := some (ρ c)) hx hb dd ht (fun z => kt ?_ ρ H locs cells slots lsA hk hn hR hS hE hl hs.2.2 hL) (fun z => kf (fun e => z (by rw [e])) ρ H locs cells slots lsA hk hn hR hS hE hl hs.2.2 hL)
  rcases hac with e | ⟨h1, h2⟩
  · exact e
  · exact hR.1.2.1 a c h1 h2 (Option.some.inj z)
theorem AW.acmp_ne (X : FC cx d y cc nL ret hh) {a c : Nat} {off : Int} {tgt : Nat} (hac : a = c ∨ (1 < (T a).1 ∧ 1 < (T c).1)) (dd : decode cc pc = .ok (.if_acmp .ne off, 3)) (ht : (pc : Int) + off = (tgt : Int)) (kt : ¬ a = c → AW cx b tgt ls st T I R J) (kf : a = c → AW cx b (pc + 3) ls st T I R J) : AW cx b pc ls (.ref c :: .ref a :: st) T I R J := by
  obtain ⟨p, l, e, Rm, s, m, args, below, meth, cc', D, z0, ρ0, T0, PQ⟩ := cx
  obtain ⟨hx, hb, -⟩ := X
  intro ρ H locs cells slots lsA hk hn hR hS hE hl hs hL
  refine lv_acmp_ne (rx := some (ρ a)) (ry := some (ρ c)) hx hb dd ht (fun z => kt (fun e => z (by rw [e])) ρ H locs cells slots lsA hk hn hR hS hE hl hs.2.2 hL) (fun z => kf ?_ ρ H locs cells slots lsA hk hn hR hS hE hl hs.2.2 hL)
  rcases hac with e | ⟨h1, h2⟩
  · exact e
  · exact hR.1.2.1 a c h1 h2 (Option.some.inj z)
theorem AW.objInit (X : FC cx d y cc nL ret hh) {idx a : Nat} (hl : (Cond.methodLink y.cls idx Lib.objectInit) ∈ lw_all) (hi : (Cond.instanceMethod Lib.objectInit) ∈ lw_all) (hc : (Cond.code Lib.objectInit ⟨#[0xb1]⟩ 1 none) ∈ lw_all) (hd : 1 ≤ d) (hst : (st.map fun v => v.category).sum ≤ 8) (dd : decode cc pc = .ok (.invokespecial idx, 3)) (h : AW cx b (pc + 3) ls st T I R J) : AW cx b pc ls (.ref a :: st) T I R J := by
  obtain ⟨p, l, e, Rm, s, m, args, below, meth, c, D, z0, ρ0, T0, PQ⟩ := cx
  obtain ⟨hx, hb, -, hml, hown, -, hts, -, -, -, hf, hlo, -, hCX⟩ := X
  intro ρ H locs cells slots lsA hk hn hR hS hE hl' hs hL
  exact W.objInit hx hb hown (hts _ hl) (hts _ hi) (hts _ hc) rfl hL.1 rfl dd (by omega) (by rw [cat_map]; show 2 * 0 + _ + 12 ≤ _; omega) (h ρ H locs cells slots lsA hk hn hR hS hE hl' hs.2 hL)
end AWN
