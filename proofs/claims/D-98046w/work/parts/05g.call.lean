/-! AM 7: contracts, calls, ends (written by src/gen05g.py) -/
set_option maxRecDepth 100000
def rmOf (d b : Nat) : Room := { frames := d, cells := b, slots := 4 * b, locals := 64 * d + 200 }
def cw_ (y : MethodName) (cc : ByteArray) (L : Nat) (ret : Option FieldType) (hh : List (Nat × Nat × Nat × Nat)) : Cond := match hh with
  | [] => Cond.code y cc L ret
  | h :: hs => Cond.codeWith y cc L ret (h :: hs)
def Bk (D : va_G) (z0 : Nat) (ρ : Nat → Nat) (T : KT) (ρ' : Nat → Nat) (T' : KT) (I' : KI) (R' : KR) (J' : KJ) (st t : State) : Prop := va_F (stZ z0) st t ∧ HP D z0 ρ' T' I' R' J' t t.heap ∧ Ext ρ T ρ' T'
abbrev PQt : Type := Option Value → KT → KI → KR → KJ → Prop
abbrev PXt : Type := Nat → KT → KI → KR → KJ → Prop
def QcOf (D : va_G) (z0 : Nat) (ρ : Nat → Nat) (T : KT) (Q : PQt) : Array Value → State → Outcome → State → Prop := fun _ st o t => ∃ (r : Option Value) (T' : KT) (I' : KI) (R' : KR) (J' : KJ) (ρ' : Nat → Nat), o = .returned (r.map (cv ρ')) ∧ Bk D z0 ρ T ρ' T' I' R' J' st t ∧ wfo T' r ∧ Q r T' I' R' J'
def XcOf (D : va_G) (z0 : Nat) (ρ : Nat → Nat) (T : KT) (QX : PXt) : String → Addr → State → State → Prop := fun _ q st t => ∃ (a : Nat) (T' : KT) (I' : KI) (R' : KR) (J' : KJ) (ρ' : Nat → Nat), q = ρ' a ∧ (T' a).1 ≠ 0 ∧ Bk D z0 ρ T ρ' T' I' R' J' st t ∧ QX a T' I' R' J'
/-- a method's contract: called with args on this memory, with d frames and b cells at hand, it ends as Q (or, thrown, QX) says -/
def AMet (d b : Nat) (y : MethodName) (cc : ByteArray) (L : Nat) (ret : Option FieldType) (hh : List (Nat × Nat × Nat × Nat)) (args : List Value) (T : KT) (I : KI) (R : KR) (J : KJ) (Q : PQt) (QX : PXt) : Prop :=
  ∀ l : Launch, l.stackTraces = false → ∀ (D : va_G) (z0 : Nat) (ρ : Nat → Nat), vx_Met l y (cw_ y cc L ret hh :: lw_all) (rmOf d b) (va_Pc (args.map (cv ρ)) (fun U => CX D U ∧ RL D z0 ρ T I R J U U.heap ∧ WFs T args)) (QcOf D z0 ρ T Q) (XcOf D z0 ρ T QX) b (4 * b) (stZ z0)
def EndQ (cx : CxT) (Q : PQt) (QX : PXt) : Prop := match cx with
  | (p, l, e, Rm, s, m, args, below, meth, c, D, z0, ρ0, T0, PQ) => PQ = vx_MQ below (QcOf D z0 ρ0 T0 Q) (XcOf D z0 ρ0 T0 QX) args s Rm.cells Rm.slots (stZ z0)
theorem va_F_rfl {A : Nat → Prop} {s : State} : va_F A s s := ⟨Nat.le_refl _, fun _ _ _ => rfl⟩
theorem lg_cat1 : ∀ {vs : List Value}, (∀ v ∈ vs, v.category = 1) → lg_sl vs = vs.map Slot.val
  | [], _ => rfl
  | v :: vs, h => by
    have h1 : ¬ v.category = 2 := by rw [h v List.mem_cons_self]; decide
    have h2 := lg_cat1 (vs := vs) fun x hx => h x (List.mem_cons_of_mem _ hx)
    unfold lg_sl at h2 ⊢
    rw [List.flatMap_cons, h2, if_neg h1]
    rfl
theorem lv_args1 : ∀ {vs : List Value} {k i : Nat} {v : Value}, (∀ v ∈ vs, v.category = 1) → vs[i]? = some v → (k + i, v) ∈ lv_args k vs
  | [], _, _, _, _, h => by simp at h
  | x :: xs, k, 0, v, hc, h => by
    simp at h
    subst h
    exact List.mem_cons_self
  | x :: xs, k, i + 1, v, hc, h => by
    have h1 : ¬ x.category = 2 := by rw [hc x List.mem_cons_self]; decide
    have := lv_args1 (vs := xs) (k := k + 1) (i := i) (v := v) (fun y hy => hc y (List.mem_cons_of_mem _ hy)) (by simpa using h)
    show _ ∈ (k, x) :: lv_args (if x.category = 2 then k + 2 else k + 1) xs
    rw [if_neg h1]
    refine List.mem_cons_of_mem _ ?_
    rw [show k + (i + 1) = k + 1 + i by omega]
    exact this
theorem LV.entry {ρ : Nat → Nat} {args : List Value} {L : Nat} (hc : ∀ v ∈ args, v.category = 1) (hL : args.length ≤ L) : LV ρ ((lg_sl (args.map (cv ρ)) ++ List.replicate (L - (lg_sl (args.map (cv ρ))).length) Slot.unset).toArray) L (args ++ List.replicate (L - args.length) (.retAddr 0)) := by
  have hc' : ∀ v ∈ args.map (cv ρ), v.category = 1 := fun v hv => by
    obtain ⟨x, hx, rfl⟩ := List.mem_map.mp hv
    rw [cv_cat]; exact hc x hx
  have hlen : (lg_sl (args.map (cv ρ))).length = args.length := by rw [lg_cat1 hc', List.length_map, List.length_map]
  obtain ⟨h1, h2, h3⟩ := lv_entry (args.map (cv ρ)) (n := L) (by rw [hlen]; exact hL)
  refine ⟨h1, by rw [List.length_append, List.length_replicate]; omega, h2, fun w hw => ?_, fun i v hv hn => ?_⟩
  · rcases List.mem_append.mp hw with h | h
    · exact hc w h
    · rw [List.eq_of_mem_replicate h]; rfl
  · by_cases hi : i < args.length
    · rw [List.getElem?_append_left hi] at hv
      have := h3 _ (lv_args1 (k := 0) (i := i) (v := cv ρ v) hc' (by rw [List.getElem?_map, hv]; rfl))
      rwa [Nat.zero_add] at this
    · rw [List.getElem?_append_right (by omega)] at hv
      exact absurd (List.eq_of_mem_replicate (List.mem_of_getElem? hv)) (hn 0)
theorem WFs.entry {T : KT} {n : Nat} : ∀ {args : List Value}, WFs T args → WFs T (args ++ List.replicate n (.retAddr 0))
  | [], _ => by
    induction n with
    | zero => exact trivial
    | succ n ih => rw [List.replicate_succ]; exact ⟨trivial, ih⟩
  | _ :: _, h => ⟨h.1, WFs.entry h.2⟩
theorem AMet.of {d b L : Nat} {y : MethodName} {cc : ByteArray} {ret : Option FieldType} {args : List Value} {T : KT} {I : KI} {R : KR} {J : KJ} {Q : PQt} {QX : PXt} (hy : plainName y.cls = true) (hlen : args.length ≤ L) (hcat : ∀ v ∈ args, v.category = 1)
    (body : ∀ cx, FC cx d y cc L ret [] → EndQ cx Q QX → AW cx b 0 (args ++ List.replicate (L - args.length) (.retAddr 0)) [] T I R J) : AMet d b y cc L ret [] args T I R J Q QX := by
  intro l hlt D z0 ρ
  refine vx_ofW (cc := cc) (maxL := L) (ret := ret) hy rfl ?_
  intro p e s m argsA below meth c s₁ B hml ht hv
  obtain ⟨rfl, hCX, hRL, hw⟩ := hv
  have hts := atoms_spec (ws := cw_ y cc L ret [] :: lw_all) B.pre
  have htab : c.exceptionTable.toList = tableOf [] := by
    rw [List.eq_nil_iff_forall_not_mem.mpr (fun x hx => ht x hx)]
    rfl
  have := body (p, l, e, (headSpec (cw_ y cc L ret [] :: lw_all) (rmOf d b)).room, s, m, (args.map (cv ρ)).toArray, below, meth, c, D, z0, ρ, T, vx_MQ below (QcOf D z0 ρ T Q) (XcOf D z0 ρ T QX) (args.map (cv ρ)).toArray s b (4 * b) (stZ z0))
    ⟨B.exec, B.bytes, B.returns, hml, findClass_of_methodNamed B.named, (name_of_methodNamed B.named B.method).1, fun w h => hts w (List.mem_cons_of_mem _ h), B.notSynchronized, htab, hlt, Nat.le_refl _, Nat.le_refl _, hRL.2.1, hCX⟩ rfl
    ρ s.heap [] 0 0 ((lg_sl (args.map (cv ρ)) ++ List.replicate (L - (lg_sl (args.map (cv ρ))).length) Slot.unset).toArray) (by show 0 + b ≤ b; omega) (by show 0 + 4 * b ≤ 4 * b; omega) hRL va_S.rf Ext.rf hw.entry trivial (by rw [hml]; exact LV.entry hcat hlen)
  rw [lg_entry_eq]
  exact this
theorem AMet.ofH {d b L : Nat} {y : MethodName} {cc : ByteArray} {ret : Option FieldType} {h1 : Nat × Nat × Nat × Nat} {hh : List (Nat × Nat × Nat × Nat)} {args : List Value} {T : KT} {I : KI} {R : KR} {J : KJ} {Q : PQt} {QX : PXt} (hy : plainName y.cls = true) (hlen : args.length ≤ L) (hcat : ∀ v ∈ args, v.category = 1)
    (body : ∀ cx, FC cx d y cc L ret (h1 :: hh) → EndQ cx Q QX → AW cx b 0 (args ++ List.replicate (L - args.length) (.retAddr 0)) [] T I R J) : AMet d b y cc L ret (h1 :: hh) args T I R J Q QX := by
  intro l hlt D z0 ρ
  refine vx_ofWH (cc := cc) (maxL := L) (ret := ret) (hh := h1 :: hh) hy rfl ?_
  intro p e s m argsA below meth c s₁ B hml hv
  obtain ⟨rfl, hCX, hRL, hw⟩ := hv
  have hts := atoms_spec (ws := cw_ y cc L ret (h1 :: hh) :: lw_all) B.pre
  have htab : c.exceptionTable.toList = tableOf (h1 :: hh) := vx_table (x := y) (bytes := cc) (maxL' := L) (ret' := ret) B (hts _ List.mem_cons_self)
  have := body (p, l, e, (headSpec (cw_ y cc L ret (h1 :: hh) :: lw_all) (rmOf d b)).room, s, m, (args.map (cv ρ)).toArray, below, meth, c, D, z0, ρ, T, vx_MQ below (QcOf D z0 ρ T Q) (XcOf D z0 ρ T QX) (args.map (cv ρ)).toArray s b (4 * b) (stZ z0))
    ⟨B.exec, B.bytes, B.returns, hml, findClass_of_methodNamed B.named, (name_of_methodNamed B.named B.method).1, fun w h => hts w (List.mem_cons_of_mem _ h), B.notSynchronized, htab, hlt, Nat.le_refl _, Nat.le_refl _, hRL.2.1, hCX⟩ rfl
    ρ s.heap [] 0 0 ((lg_sl (args.map (cv ρ)) ++ List.replicate (L - (lg_sl (args.map (cv ρ))).length) Slot.unset).toArray) (by show 0 + b ≤ b; omega) (by show 0 + 4 * b ≤ 4 * b; omega) hRL va_S.rf Ext.rf hw.entry trivial (by rw [hml]; exact LV.entry hcat hlen)
  rw [lg_entry_eq]
  exact this
theorem AMet.mono {d b L : Nat} {y : MethodName} {cc : ByteArray} {ret : Option FieldType} {hh : List (Nat × Nat × Nat × Nat)} {args : List Value} {T : KT} {I : KI} {R : KR} {J : KJ} {Q Q' : PQt} {QX QX' : PXt} (h : AMet d b y cc L ret hh args T I R J Q QX) (hQ : ∀ r T' I' R' J', Q r T' I' R' J' → Q' r T' I' R' J') (hX : ∀ a T' I' R' J', QX a T' I' R' J' → QX' a T' I' R' J') : AMet d b y cc L ret hh args T I R J Q' QX' := by
  intro l hlt D z0 ρ p e h1 h2 h3 s m as below h4 h5 h6 h7
  obtain ⟨n, o, g1, g2, g3, g4⟩ := h l hlt D z0 ρ p e h1 h2 h3 s m as below h4 h5 h6 h7
  refine ⟨n, o, g1, g2, g3, ?_⟩
  rcases g4 with ⟨⟨r, T', I', R', J', ρ', q1, q2, q3, q4⟩, q5⟩ | ⟨q, q1, E, ce, L, ⟨a, T', I', R', J', ρ', r1, r2, r3, r4⟩, q3⟩
  · exact Or.inl ⟨⟨r, T', I', R', J', ρ', q1, q2, q3, hQ _ _ _ _ _ q4⟩, q5⟩
  · exact Or.inr ⟨q, q1, E, ce, L, ⟨a, T', I', R', J', ρ', r1, r2, r3, hX _ _ _ _ _ r4⟩, q3⟩
section AWC
variable {cx : CxT} {d b pc nL : Nat} {y : MethodName} {cc : ByteArray} {ret : Option FieldType} {hh : List (Nat × Nat × Nat × Nat)} {ls st : List Value} {T : KT} {I : KI} {R : KR} {J : KJ} {Q : PQt} {QX : PXt}
theorem endOf {D : va_G} {z0 : Nat} {ρ ρ0 : Nat → Nat} {T0 : KT} {s t : State} {H : Heap} {locs : List Loc} (hR : RL D z0 ρ T I R J s H) (hS : va_S (stZ z0) s.heap H locs) (hE : Ext ρ0 T0 ρ T) (ht : t.heap = H) (hW : s.WarmedH t.vm) : Bk D z0 ρ0 T0 ρ T I R J s t :=
  ⟨hS.F ht, by rw [ht]; exact hR.1.moved hW.alike, hE⟩
theorem AW.ireturn (X : FC cx d y cc nL ret hh) (E : EndQ cx Q QX) {v : Int32} {ty : FieldType} (hq : Q (some (.int v)) T I R J) (dd : decode cc pc = .ok (.ireturn, 1)) (hret : ret = some ty := by rfl) (hnar : narrow ty (.int v) = .int v := by rfl) : AW cx b pc ls [.int v] T I R J := by
  obtain ⟨p, l, e, Rm, s, m, args, below, meth, c, D, z0, ρ0, T0, PQ⟩ := cx
  obtain ⟨hx, hb, hr, -, -, -, -, hlk, -⟩ := X
  intro ρ H locs cells slots lsA hk hn hR hS hE hl' hs hL
  have E : PQ = vx_MQ below (QcOf D z0 ρ0 T0 Q) (XcOf D z0 ρ0 T0 QX) args s Rm.cells Rm.slots (stZ z0) := E
  rw [E]
  refine W.widen (k := Rm.cells) (n := Rm.slots) (by omega) (by omega) (vx_ret ?_)
  exact W.zret (v := v) (ty := ty) hx hb (hr.trans hret) hnar (fun t ht hW => ⟨some (.int v), T, I, R, J, ρ, rfl, endOf hR hS hE ht hW, trivial, hq⟩) hS.2.2 dd hlk
theorem AW.areturnv (X : FC cx d y cc nL ret hh) (E : EndQ cx Q QX) {r : Option Nat} {ty : FieldType} (hq : Q (some (va_rf r)) T I R J) (dd : decode cc pc = .ok (.areturn, 1)) (hret : ret = some ty) (hre : (∃ n, ty = .object n) ∨ ∃ t, ty = .array t) : AW cx b pc ls [va_rf r] T I R J := by
  obtain ⟨p, l, e, Rm, s, m, args, below, meth, c, D, z0, ρ0, T0, PQ⟩ := cx
  obtain ⟨hx, hb, hr, -, -, -, -, hlk, -⟩ := X
  intro ρ H locs cells slots lsA hk hn hR hS hE hl' hs hL
  have E : PQ = vx_MQ below (QcOf D z0 ρ0 T0 Q) (XcOf D z0 ρ0 T0 QX) args s Rm.cells Rm.slots (stZ z0) := E
  rw [E]
  refine W.widen (k := Rm.cells) (n := Rm.slots) (by omega) (by omega) (vx_ret ?_)
  have hv : cv ρ (va_rf r) = .null ∨ ∃ a, cv ρ (va_rf r) = .ref a := by rw [cv_rf]; exact va_rf_or _
  exact W.aret (v := cv ρ (va_rf r)) (rt := ty) hx hb (hr.trans hret) hre hv (fun t ht hW => ⟨some (va_rf r), T, I, R, J, ρ, rfl, endOf hR hS hE ht hW, hs.1, hq⟩) hS.2.2 dd hlk
theorem AW.areturn (X : FC cx d y cc nL ret hh) (E : EndQ cx Q QX) {a : Nat} {n : String} (hq : Q (some (.ref a)) T I R J) (dd : decode cc pc = .ok (.areturn, 1)) (hret : ret = some (.object n) := by rfl) : AW cx b pc ls [.ref a] T I R J := AW.areturnv (r := some a) X E hq dd hret (Or.inl ⟨n, rfl⟩)
theorem AW.areturnA (X : FC cx d y cc nL ret hh) (E : EndQ cx Q QX) {a : Nat} {t : FieldType} (hq : Q (some (.ref a)) T I R J) (dd : decode cc pc = .ok (.areturn, 1)) (hret : ret = some (.array t) := by rfl) : AW cx b pc ls [.ref a] T I R J := AW.areturnv (r := some a) X E hq dd hret (Or.inr ⟨t, rfl⟩)
theorem AW.areturnN (X : FC cx d y cc nL ret hh) (E : EndQ cx Q QX) {n : String} (hq : Q (some .null) T I R J) (dd : decode cc pc = .ok (.areturn, 1)) (hret : ret = some (.object n) := by rfl) : AW cx b pc ls [.null] T I R J := AW.areturnv (r := none) X E hq dd hret (Or.inl ⟨n, rfl⟩)
theorem AW.vreturn (X : FC cx d y cc nL ret hh) (E : EndQ cx Q QX) (hq : Q none T I R J) (dd : decode cc pc = .ok (.return_, 1)) (hret : ret = none := by rfl) : AW cx b pc ls [] T I R J := by
  obtain ⟨p, l, e, Rm, s, m, args, below, meth, c, D, z0, ρ0, T0, PQ⟩ := cx
  obtain ⟨hx, hb, hr, -, -, -, -, hlk, -⟩ := X
  intro ρ H locs cells slots lsA hk hn hR hS hE hl' hs hL
  have E : PQ = vx_MQ below (QcOf D z0 ρ0 T0 Q) (XcOf D z0 ρ0 T0 QX) args s Rm.cells Rm.slots (stZ z0) := E
  rw [E]
  refine W.widen (k := Rm.cells) (n := Rm.slots) (by omega) (by omega) (vx_ret ?_)
  exact W.vret hx hb (hr.trans hret) (fun t ht hW => ⟨none, T, I, R, J, ρ, rfl, endOf hR hS hE ht hW, trivial, hq⟩) hS.2.2 dd hlk
def pushr : Option Value → List Value → List Value
  | none, st => st
  | some v, st => v :: st
theorem amRun {p : Program} {l : Launch} {e : Env} {Rm : Room} {s : State} {m : MethodId} {args : Array Value} {below : List Frame} {meth : Method} {c : Code} {D : va_G} {z0 : Nat} {ρ : Nat → Nat} {H : Heap} {locs : List Loc} {cells slots mc ms : Nat} {lsA : Array Slot} {st0 rest : List Value} {PQ : State → Prop} {as : Array Value}
    (hr : vx_Run p l e Rm s m args below meth c H locs cells slots mc ms (F0 m pc lsA st0) (rest.map (cv ρ)) (QcOf D z0 ρ T Q as) (XcOf D z0 ρ T QX) (stZ z0)) (hRL : RL D z0 ρ T I R J s H) (hS : va_S (stZ z0) s.heap H locs) (hw : WFs T rest)
    (kk : ∀ (r : Option Value) (T' : KT) (I' : KI) (R' : KR) (J' : KJ) (ρ' : Nat → Nat) (H1 : Heap) (locs1 : List Loc), Q r T' I' R' J' → RL D z0 ρ' T' I' R' J' s H1 → va_S (stZ z0) s.heap H1 locs1 → Ext ρ T ρ' T' → WFs T' (pushr r rest) → W p l e Rm s m args below meth c H1 locs1 (cells + mc) (slots + ms) PQ (F0 m (pc + 3) lsA ((pushr r rest).map (cv ρ'))))
    (kx : ∀ (a : Nat) (T' : KT) (I' : KI) (R' : KR) (J' : KJ) (ρ' : Nat → Nat) (H1 : Heap) (locs1 : List Loc), QX a T' I' R' J' → RL D z0 ρ' T' I' R' J' s H1 → va_S (stZ z0) s.heap H1 locs1 → Ext ρ T ρ' T' → (T' a).1 ≠ 0 → vx_W p l e Rm s m args below meth c H1 locs1 (cells + mc) (slots + ms) PQ (F0 m pc lsA (rest.map (cv ρ))) (ρ' a)) : W p l e Rm s m args below meth c H locs cells slots PQ (F0 m pc lsA st0) := by
  intro U hT X
  have keep : ∀ {st₀ t T' : State} {L : List Loc}, st₀.heap = H → T'.heap = t.heap → va_F (stZ z0) st₀ t → (∀ q ∈ L, stZ z0 q.base) → H.size ≤ T'.heap.size ∧ (∀ q : Nat, q < H.size → ¬ stZ z0 q → T'.heap[q]? = H[q]?) ∧ va_S (stZ z0) s.heap T'.heap (locs ++ L) := by
    intro st₀ t T' L h0 e1 hF hL
    obtain ⟨hz, hk⟩ := hF
    rw [h0] at hz hk
    rw [e1]
    refine ⟨hz, hk, Nat.le_trans hS.1 hz, fun q h1 h2 => ?_, fun q hq => ?_⟩
    · rw [hk q (Nat.lt_of_lt_of_le h1 hS.1) h2]
      exact hS.2.1 q h1 h2
    · rcases List.mem_append.mp hq with h | h
      · exact hS.2.2 q h
      · exact hL q h
  rcases hr U hT X with ⟨v, st₀, t, T', L, h0, X', hL, e1, e2, ⟨r, T1, I1, R1, J1, ρ1, hv, ⟨hF, hP, hE⟩, hwo, hq⟩, st⟩ | ⟨q, st₀, t, T', L, E, ce, h0, X', hL, e1, e2, ⟨a, T1, I1, R1, J1, ρ1, hqa, hne, ⟨hF, hP, hE⟩, hq⟩, hce, hcv, hcl, st⟩
  · obtain ⟨k1, k2, k3⟩ := keep h0 e1 hF hL
    have al : t.vm.Alike s.vm := by rw [← e2]; exact X'.warmed.alike.symm
    have hR' : RL D z0 ρ1 T1 I1 R1 J1 s T'.heap := hRL.step (by rw [e1]; exact hP.moved al) hE k1 k2
    have hw' : WFs T1 (pushr r rest) := by
      cases r with
      | none => exact hE.wfs hw
      | some x => exact ⟨hwo, hE.wfs hw⟩
    obtain ⟨t2, a1, b1⟩ := kk r T1 I1 R1 J1 ρ1 T'.heap (locs ++ L) hq hR' k3 hE hw' T' rfl X'
    have ev : v.toList ++ rest.map (cv ρ) = (pushr r rest).map (cv ρ1) := by
      cases hv
      cases r with
      | none => exact (hE.map hw).symm
      | some x =>
        show cv ρ1 x :: rest.map (cv ρ) = cv ρ1 x :: rest.map (cv ρ1)
        rw [hE.map hw]
    have st' : Goes p e below U (F0 m pc lsA st0) T' { (F0 m pc lsA st0) with pc := pc + 3, stack := v.toList ++ rest.map (cv ρ) } := st
    rw [ev] at st'
    exact ⟨t2, st' t2 a1, b1⟩
  · obtain ⟨k1, k2, k3⟩ := keep h0 e1 hF hL
    have al : t.vm.Alike s.vm := by rw [← e2]; exact X'.warmed.alike.symm
    have hR' : RL D z0 ρ1 T1 I1 R1 J1 s T'.heap := hRL.step (by rw [e1]; exact hP.moved al) hE k1 k2
    obtain ⟨t2, a1, b1⟩ := kx a T1 I1 R1 J1 ρ1 T'.heap (locs ++ L) hq hR' k3 hE hne T' rfl X'
    rw [← hqa] at a1
    exact ⟨t2, st.trans a1, b1⟩
theorem preOf {D : va_G} {z0 : Nat} {ρ : Nat → Nat} {s : State} {H : Heap} {As : List Value} (hCX : CX D s) (hR : RL D z0 ρ T I R J s H) (hw : WFs T As) : ∀ U : State, U.heap = H → s.WarmedH U.vm → va_Pc (As.map (cv ρ)) (fun U => CX D U ∧ RL D z0 ρ T I R J U U.heap ∧ WFs T As) (As.map (cv ρ)).toArray U :=
  fun U hU hW => ⟨rfl, hCX.warm hW, by rw [hU]; exact hR.warm hW, hw⟩
theorem blindOf {D : va_G} {z0 : Nat} {ρ : Nat → Nat} {As : List Value} : FrameBlind (va_Pc (As.map (cv ρ)) (fun U => CX D U ∧ RL D z0 ρ T I R J U U.heap ∧ WFs T As)) :=
  fun a U g mk h => ⟨h.1, h.2.1.calling g mk a, h.2.2.1.calling g mk a, h.2.2.2⟩
theorem WFs.app : ∀ {xs ys : List Value}, WFs T (xs ++ ys) → WFs T xs ∧ WFs T ys
  | [], _, h => ⟨trivial, h⟩
  | _ :: _, _, h => ⟨⟨h.1, (WFs.app h.2).1⟩, (WFs.app h.2).2⟩
theorem WFs.app' : ∀ {xs ys : List Value}, WFs T xs → WFs T ys → WFs T (xs ++ ys)
  | [], _, _, h => h
  | _ :: _, _, h, h2 => ⟨h.1, WFs.app' h.2 h2⟩
theorem WFs.rev {xs : List Value} (h : WFs T xs.reverse) : WFs T xs := by
  induction xs with
  | nil => exact trivial
  | cons x xs ih =>
    rw [List.reverse_cons] at h
    exact ⟨(WFs.app h).2.1, ih (WFs.app h).1⟩
def MOK (y : MethodName) (n : Nat) : Prop := y.cls ≠ "java/lang/invoke/MethodHandle" ∧ y.cls ≠ "java/lang/invoke/VarHandle" ∧ (parseMethodDescriptor y.desc).map (fun d => d.parameters.length) = some n
def SiteV (own : String) (idx : Nat) (C : String) (y : MethodName) (cc : ByteArray) (L : Nat) (ret : Option FieldType) (hh : List (Nat × Nat × Nat × Nat)) (n : Nat) : Prop := (Cond.methodLink own idx y) ∈ lw_all ∧ (Cond.instanceMethod y) ∈ lw_all ∧ (Cond.selects C y y) ∈ lw_all ∧ (Cond.initialized C) ∈ lw_all ∧ cw_ y cc L ret hh ∈ lw_all ∧ y.cls = C ∧ MOK y n
def SiteU (own : String) (idx : Nat) (C owner : String) (x y : MethodName) (cc : ByteArray) (L : Nat) (ret : Option FieldType) (n : Nat) : Prop := (Cond.methodLink own idx x) ∈ lw_all ∧ (Cond.sameMethod x.cls owner x.name x.desc) ∈ lw_all ∧ (Cond.selects C x y) ∈ lw_all ∧ (Cond.instanceMethod y) ∈ lw_all ∧ (Cond.initialized y.cls) ∈ lw_all ∧ (Cond.code y cc L ret) ∈ lw_all ∧ owner ≠ "java/lang/invoke/MethodHandle" ∧ owner ≠ "java/lang/invoke/VarHandle" ∧ (parseMethodDescriptor x.desc).map (fun d => d.parameters.length) = some n ∧ ((Cond.declares ⟨owner, x.name, x.desc⟩) ∈ lw_tbl ∨ ((Cond.instanceMethod ⟨owner, x.name, x.desc⟩) ∈ lw_all ∧ ∃ b0 m0 r0, (Cond.code ⟨owner, x.name, x.desc⟩ b0 m0 r0) ∈ lw_all))
def SiteS (own : String) (idx : Nat) (y : MethodName) (cc : ByteArray) (L : Nat) (ret : Option FieldType) (hh : List (Nat × Nat × Nat × Nat)) (n : Nat) : Prop := (Cond.methodLink own idx y) ∈ lw_all ∧ (Cond.static y) ∈ lw_all ∧ (Cond.initialized y.cls) ∈ lw_all ∧ cw_ y cc L ret hh ∈ lw_all ∧ MOK y n
def SiteI (own : String) (idx : Nat) (y : MethodName) (cc : ByteArray) (L : Nat) (n : Nat) : Prop := ((Cond.methodLink own idx y) ∈ lw_all ∨ ∃ host, (Cond.methodLinkNest own idx y host) ∈ lw_tbl) ∧ (Cond.instanceMethod y) ∈ lw_all ∧ (Cond.initialized y.cls) ∈ lw_all ∧ (Cond.code y cc L none) ∈ lw_all ∧ y.name = "<init>" ∧ MOK y n
def SiteP (own : String) (idx : Nat) (y : MethodName) (cc : ByteArray) (L : Nat) (ret : Option FieldType) (n : Nat) : Prop := (Cond.methodLink own idx y) ∈ lw_all ∧ (Cond.sameMethod y.cls y.cls y.name y.desc) ∈ lw_all ∧ (Cond.superclass own y.cls) ∈ lw_all ∧ (Cond.instanceMethod y) ∈ lw_all ∧ (Cond.initialized y.cls) ∈ lw_all ∧ (Cond.code y cc L ret) ∈ lw_all ∧ y.name ≠ "<init>" ∧ (parseMethodDescriptor y.desc).map (fun d => d.parameters.length) = some n
theorem AW.callV (X : FC cx d y cc nL ret hh) {d' bc idx ci a n L' : Nat} {y' : MethodName} {cc' : ByteArray} {ret' : Option FieldType} {q : vw_C} {As rest : List Value} {Q' : PQt} {QX' : PXt} (hM : AMet d' bc y' cc' L' ret' [] (.ref a :: As) T I R J Q' QX') (hT : T a = (100 + ci, 0)) (hq : amCl[ci]? = some q) (hsite : SiteV y.cls idx q.1 y' cc' L' ret' [] n) (hd : d' < d) (hL' : L' ≤ 40) (hst : st = As.reverse ++ .ref a :: rest) (hn0 : As.length = n) (hcat : (rest.map fun v => v.category).sum ≤ 8) (dd : decode cc pc = .ok (.invokevirtual idx, 3)) (kk : ∀ r T' I' R' J', Q' r T' I' R' J' → AW cx b (pc + 3) ls (pushr r rest) T' I' R' J') (kx : ∀ a T' I' R' J', QX' a T' I' R' J' → AX cx b pc ls a T' I' R' J') : AW cx (b + bc) pc ls st T I R J := by
  subst hst
  obtain ⟨p, l, e, Rm, s, m, args, below, meth, c, D, z0, ρ0, T0, PQ⟩ := cx
  obtain ⟨hx, hb, -, hml, hown, -, hts, -, -, hlt, hf, hlo, -, hCX⟩ := X
  intro ρ H locs cells slots lsA hk hn hR hS hE hl' hs hL
  obtain ⟨w1, w2, w3, w4, w5, w6, w7, w8, w9⟩ := hsite
  obtain ⟨hwA, hwr⟩ := WFs.app hs
  have hcw := cwV (R := Rm) (s := s) (args := args) (own := y.cls) (index := idx) (C := q.1) (y := y') (bytes := cc') (maxL := L') (ret := ret') (ws := cw_ y' cc' L' ret' [] :: lw_all) (ws' := lw_all) (rm := rmOf d' bc) (mc := bc) (ms := 4 * bc) n hts (by
    intro w hw
    simp only [wsV, List.mem_append, List.mem_cons, List.not_mem_nil, or_false] at hw
    rcases hw with (rfl | rfl | rfl | rfl) | rfl | hw
    · exact lw_self _ w1
    · exact lw_self _ w2
    · exact lw_self _ w3
    · exact lw_self _ w4
    · exact lw_self _ w5
    · exact lw_self _ hw) rfl rfl rfl ⟨w6, w7, w8, w9⟩ ⟨by show d' + 1 ≤ _; omega, by show 8 + (L' + 11) + (64 * d' + 200) ≤ _; omega⟩
  exact amRun (vx_runV (C := q.1) (b := ρ a) (As := As.map (cv ρ)) (rest := rest.map (cv ρ)) ⟨hx, hb, hml, hown, hts⟩ (hM l hlt D z0 ρ) hcw ⟨blindOf, objAt hR hCX (by rw [hT]) hq, preOf hCX hR ⟨hwr.1, WFs.rev hwA⟩⟩ rfl (by rw [List.length_map]; exact hn0) (hL.1.trans hml) (by rw [List.map_append, List.map_reverse] <;> rfl) (by show 2 * 0 + _ ≤ 8; rw [cat_map]; omega) dd ⟨by omega, by omega⟩) hR hS hwr.2
    (fun r T' I' R' J' ρ' H1 locs1 hq hR' hS' hE' hw' => kk r T' I' R' J' hq ρ' H1 locs1 (cells + bc) (slots + 4 * bc) lsA (by omega) (by omega) hR' hS' (hE.trans hE') (hE'.wfs hl') hw' (hL.ext hE' hl'))
    (fun a' T' I' R' J' ρ' H1 locs1 hq hR' hS' hE' hne => kx a' T' I' R' J' hq ρ' H1 locs1 (cells + bc) (slots + 4 * bc) lsA _ (by omega) (by omega) hR' hS' (hE.trans hE') (hE'.wfs hl') hne (hL.ext hE' hl'))
theorem AW.callVX (X : FC cx d y cc nL ret hh) {d' bc idx ci a n L' : Nat} {y' : MethodName} {cc' : ByteArray} {ret' : Option FieldType} {h1 : Nat × Nat × Nat × Nat} {hh' : List (Nat × Nat × Nat × Nat)} {q : vw_C} {As rest : List Value} {Q' : PQt} {QX' : PXt} (hM : AMet d' bc y' cc' L' ret' (h1 :: hh') (.ref a :: As) T I R J Q' QX') (hT : T a = (100 + ci, 0)) (hq : amCl[ci]? = some q) (hsite : SiteV y.cls idx q.1 y' cc' L' ret' (h1 :: hh') n) (hd : d' < d) (hL' : L' ≤ 40) (hst : st = As.reverse ++ .ref a :: rest) (hn0 : As.length = n) (hcat : (rest.map fun v => v.category).sum ≤ 8) (dd : decode cc pc = .ok (.invokevirtual idx, 3)) (kk : ∀ r T' I' R' J', Q' r T' I' R' J' → AW cx b (pc + 3) ls (pushr r rest) T' I' R' J') (kx : ∀ a T' I' R' J', QX' a T' I' R' J' → AX cx b pc ls a T' I' R' J') : AW cx (b + bc) pc ls st T I R J := by
  subst hst
  obtain ⟨p, l, e, Rm, s, m, args, below, meth, c, D, z0, ρ0, T0, PQ⟩ := cx
  obtain ⟨hx, hb, -, hml, hown, -, hts, -, -, hlt, hf, hlo, -, hCX⟩ := X
  intro ρ H locs cells slots lsA hk hn hR hS hE hl' hs hL
  obtain ⟨w1, w2, w3, w4, w5, w6, w7, w8, w9⟩ := hsite
  obtain ⟨hwA, hwr⟩ := WFs.app hs
  have hcw := vx_cwVW (R := Rm) (s := s) (args := args) (own := y.cls) (index := idx) (C := q.1) (y := y') (bytes := cc') (maxL := L') (ret := ret') (ws := cw_ y' cc' L' ret' (h1 :: hh') :: lw_all) (ws' := lw_all) (rm := rmOf d' bc) (mc := bc) (ms := 4 * bc) n hts (by
    intro w hw
    simp only [wsV, List.mem_append, List.mem_cons, List.not_mem_nil, or_false] at hw
    rcases hw with (rfl | rfl | rfl | rfl) | rfl | hw
    · exact lw_self _ w1
    · exact lw_self _ w2
    · exact lw_self _ w3
    · exact lw_self _ w4
    · exact lw_self _ w5
    · exact lw_self _ hw) rfl rfl rfl ⟨w6, w7, w8, w9⟩ ⟨by show d' + 1 ≤ _; omega, by show 8 + (L' + 11) + (64 * d' + 200) ≤ _; omega⟩
  exact amRun (vx_runVX (C := q.1) (b := ρ a) (As := As.map (cv ρ)) (rest := rest.map (cv ρ)) ⟨hx, hb, hml, hown, hts⟩ (hM l hlt D z0 ρ) hcw ⟨blindOf, objAt hR hCX (by rw [hT]) hq, preOf hCX hR ⟨hwr.1, WFs.rev hwA⟩⟩ rfl (by rw [List.length_map]; exact hn0) (hL.1.trans hml) (by rw [List.map_append, List.map_reverse] <;> rfl) (by show 2 * 0 + _ ≤ 8; rw [cat_map]; omega) dd ⟨by omega, by omega⟩) hR hS hwr.2
    (fun r T' I' R' J' ρ' H1 locs1 hq hR' hS' hE' hw' => kk r T' I' R' J' hq ρ' H1 locs1 (cells + bc) (slots + 4 * bc) lsA (by omega) (by omega) hR' hS' (hE.trans hE') (hE'.wfs hl') hw' (hL.ext hE' hl'))
    (fun a' T' I' R' J' ρ' H1 locs1 hq hR' hS' hE' hne => kx a' T' I' R' J' hq ρ' H1 locs1 (cells + bc) (slots + 4 * bc) lsA _ (by omega) (by omega) hR' hS' (hE.trans hE') (hE'.wfs hl') hne (hL.ext hE' hl'))
theorem AW.callU (X : FC cx d y cc nL ret hh) {d' bc idx ci a n L' : Nat} {owner : String} {x y' : MethodName} {cc' : ByteArray} {ret' : Option FieldType} {q : vw_C} {As rest : List Value} {Q' : PQt} {QX' : PXt} (hM : AMet d' bc y' cc' L' ret' [] (.ref a :: As) T I R J Q' QX') (hT : T a = (100 + ci, 0)) (hq : amCl[ci]? = some q) (hsite : SiteU y.cls idx q.1 owner x y' cc' L' ret' n) (hd : d' < d) (hL' : L' ≤ 40) (hst : st = As.reverse ++ .ref a :: rest) (hn0 : As.length = n) (hcat : (rest.map fun v => v.category).sum ≤ 8) (dd : decode cc pc = .ok (.invokevirtual idx, 3)) (kk : ∀ r T' I' R' J', Q' r T' I' R' J' → AW cx b (pc + 3) ls (pushr r rest) T' I' R' J') (kx : ∀ a T' I' R' J', QX' a T' I' R' J' → AX cx b pc ls a T' I' R' J') : AW cx (b + bc) pc ls st T I R J := by
  subst hst
  obtain ⟨p, l, e, Rm, s, m, args, below, meth, c, D, z0, ρ0, T0, PQ⟩ := cx
  obtain ⟨hx, hb, -, hml, hown, -, hts, -, -, hlt, hf, hlo, -, hCX⟩ := X
  intro ρ H locs cells slots lsA hk hn hR hS hE hl' hs hL
  obtain ⟨w1, w2, w3, w4, w5, w6, w7, w8, w9, w10⟩ := hsite
  obtain ⟨hwA, hwr⟩ := WFs.app hs
  have hdecl : va_Decl s ⟨owner, x.name, x.desc⟩ := by
    rcases w10 with h | ⟨h, b0, m0, r0, h2⟩
    · exact va_Decl.abs (hCX.2.1 _ h rfl)
    · exact va_Decl.of (hts _ h) (hts _ h2)
  have hG : GoodIn lw_all (cw_ y' cc' L' ret' [] :: lw_all) := by
    intro w hw
    rcases List.mem_cons.mp hw with e | e
    · rw [e]; exact lw_self _ w6
    · exact lw_self _ e
  have hcw : va_CU Rm s args y.cls q.1 owner idx x y' cc' L' ret' (cw_ y' cc' L' ret' [] :: lw_all) (rmOf d' bc) bc (4 * bc) n :=
    ⟨⟨rfl, rfl, by show d' + 1 ≤ _; omega, by show 8 + (L' + 11) + (64 * d' + 200) ≤ _; omega, pay_in hts hG, List.mem_cons_self⟩, hts _ w6, hts _ w5, ⟨w7, w8⟩, fun sig h => (by rw [h] at w9; exact (Option.some.inj w9).symm), hts _ w1, hts _ w2, hdecl, hts _ w3, hts _ w4⟩
  exact amRun (vx_runU (C := q.1) (b := ρ a) (As := As.map (cv ρ)) (rest := rest.map (cv ρ)) ⟨hx, hb, hml, hown, hts⟩ (hM l hlt D z0 ρ) hcw ⟨blindOf, objAt hR hCX (by rw [hT]) hq, preOf hCX hR ⟨hwr.1, WFs.rev hwA⟩⟩ rfl (by rw [List.length_map]; exact hn0) (hL.1.trans hml) (by rw [List.map_append, List.map_reverse] <;> rfl) (by show 2 * 0 + _ ≤ 8; rw [cat_map]; omega) dd ⟨by omega, by omega⟩) hR hS hwr.2
    (fun r T' I' R' J' ρ' H1 locs1 hq hR' hS' hE' hw' => kk r T' I' R' J' hq ρ' H1 locs1 (cells + bc) (slots + 4 * bc) lsA (by omega) (by omega) hR' hS' (hE.trans hE') (hE'.wfs hl') hw' (hL.ext hE' hl'))
    (fun a' T' I' R' J' ρ' H1 locs1 hq hR' hS' hE' hne => kx a' T' I' R' J' hq ρ' H1 locs1 (cells + bc) (slots + 4 * bc) lsA _ (by omega) (by omega) hR' hS' (hE.trans hE') (hE'.wfs hl') hne (hL.ext hE' hl'))
theorem AW.callS (X : FC cx d y cc nL ret hh) {d' bc idx n L' : Nat} {y' : MethodName} {cc' : ByteArray} {ret' : Option FieldType} {As rest : List Value} {Q' : PQt} {QX' : PXt} (hM : AMet d' bc y' cc' L' ret' [] As T I R J Q' QX') (hsite : SiteS y.cls idx y' cc' L' ret' [] n) (hd : d' < d) (hL' : L' ≤ 40) (hst : st = As.reverse ++ rest) (hn0 : As.length = n) (hcat : (rest.map fun v => v.category).sum ≤ 8) (dd : decode cc pc = .ok (.invokestatic idx, 3)) (kk : ∀ r T' I' R' J', Q' r T' I' R' J' → AW cx b (pc + 3) ls (pushr r rest) T' I' R' J') (kx : ∀ a T' I' R' J', QX' a T' I' R' J' → AX cx b pc ls a T' I' R' J') : AW cx (b + bc) pc ls st T I R J := by
  subst hst
  obtain ⟨p, l, e, Rm, s, m, args, below, meth, c, D, z0, ρ0, T0, PQ⟩ := cx
  obtain ⟨hx, hb, -, hml, hown, -, hts, -, -, hlt, hf, hlo, -, hCX⟩ := X
  intro ρ H locs cells slots lsA hk hn hR hS hE hl' hs hL
  obtain ⟨w1, w2, w3, w5, w7, w8, w9⟩ := hsite
  obtain ⟨hwA, hwr⟩ := WFs.app hs
  have hcw := va_cwS (R := Rm) (s := s) (args := args) (own := y.cls) (index := idx) (y := y') (bytes := cc') (maxL := L') (ret := ret') (ws := cw_ y' cc' L' ret' [] :: lw_all) (ws' := lw_all) (rm := rmOf d' bc) (mc := bc) (ms := 4 * bc) n hts (by
    intro w hw
    simp only [va_wsS, List.mem_append, List.mem_cons, List.not_mem_nil, or_false] at hw
    rcases hw with (rfl | rfl | rfl) | rfl | hw
    · exact lw_self _ w1
    · exact lw_self _ w2
    · exact lw_self _ w3
    · exact lw_self _ w5
    · exact lw_self _ hw) rfl rfl rfl ⟨w7, w8, w9⟩ ⟨by show d' + 1 ≤ _; omega, by show 8 + (L' + 11) + (64 * d' + 200) ≤ _; omega⟩
  exact amRun (vx_runS (As := As.map (cv ρ)) (rest := rest.map (cv ρ)) ⟨hx, hb, hml, hown, hts⟩ (hM l hlt D z0 ρ) hcw ⟨blindOf, preOf hCX hR (WFs.rev hwA)⟩ rfl (by rw [List.length_map]; exact hn0) (hL.1.trans hml) (by rw [List.map_append, List.map_reverse] <;> rfl) (by show 2 * 0 + _ ≤ 8; rw [cat_map]; omega) dd ⟨by omega, by omega⟩) hR hS hwr
    (fun r T' I' R' J' ρ' H1 locs1 hq hR' hS' hE' hw' => kk r T' I' R' J' hq ρ' H1 locs1 (cells + bc) (slots + 4 * bc) lsA (by omega) (by omega) hR' hS' (hE.trans hE') (hE'.wfs hl') hw' (hL.ext hE' hl'))
    (fun a' T' I' R' J' ρ' H1 locs1 hq hR' hS' hE' hne => kx a' T' I' R' J' hq ρ' H1 locs1 (cells + bc) (slots + 4 * bc) lsA _ (by omega) (by omega) hR' hS' (hE.trans hE') (hE'.wfs hl') hne (hL.ext hE' hl'))
theorem AW.callSX (X : FC cx d y cc nL ret hh) {d' bc idx n L' : Nat} {y' : MethodName} {cc' : ByteArray} {ret' : Option FieldType} {h1 : Nat × Nat × Nat × Nat} {hh' : List (Nat × Nat × Nat × Nat)} {As rest : List Value} {Q' : PQt} {QX' : PXt} (hM : AMet d' bc y' cc' L' ret' (h1 :: hh') As T I R J Q' QX') (hsite : SiteS y.cls idx y' cc' L' ret' (h1 :: hh') n) (hd : d' < d) (hL' : L' ≤ 40) (hst : st = As.reverse ++ rest) (hn0 : As.length = n) (hcat : (rest.map fun v => v.category).sum ≤ 8) (dd : decode cc pc = .ok (.invokestatic idx, 3)) (kk : ∀ r T' I' R' J', Q' r T' I' R' J' → AW cx b (pc + 3) ls (pushr r rest) T' I' R' J') (kx : ∀ a T' I' R' J', QX' a T' I' R' J' → AX cx b pc ls a T' I' R' J') : AW cx (b + bc) pc ls st T I R J := by
  subst hst
  obtain ⟨p, l, e, Rm, s, m, args, below, meth, c, D, z0, ρ0, T0, PQ⟩ := cx
  obtain ⟨hx, hb, -, hml, hown, -, hts, -, -, hlt, hf, hlo, -, hCX⟩ := X
  intro ρ H locs cells slots lsA hk hn hR hS hE hl' hs hL
  obtain ⟨w1, w2, w3, w5, w7, w8, w9⟩ := hsite
  obtain ⟨hwA, hwr⟩ := WFs.app hs
  have hcw := vx_cwSW (R := Rm) (s := s) (args := args) (own := y.cls) (index := idx) (y := y') (bytes := cc') (maxL := L') (ret := ret') (ws := cw_ y' cc' L' ret' (h1 :: hh') :: lw_all) (ws' := lw_all) (rm := rmOf d' bc) (mc := bc) (ms := 4 * bc) n hts (by
    intro w hw
    simp only [va_wsS, List.mem_append, List.mem_cons, List.not_mem_nil, or_false] at hw
    rcases hw with (rfl | rfl | rfl) | rfl | hw
    · exact lw_self _ w1
    · exact lw_self _ w2
    · exact lw_self _ w3
    · exact lw_self _ w5
    · exact lw_self _ hw) rfl rfl rfl ⟨w7, w8, w9⟩ ⟨by show d' + 1 ≤ _; omega, by show 8 + (L' + 11) + (64 * d' + 200) ≤ _; omega⟩
  exact amRun (vx_runSX (As := As.map (cv ρ)) (rest := rest.map (cv ρ)) ⟨hx, hb, hml, hown, hts⟩ (hM l hlt D z0 ρ) hcw ⟨blindOf, preOf hCX hR (WFs.rev hwA)⟩ rfl (by rw [List.length_map]; exact hn0) (hL.1.trans hml) (by rw [List.map_append, List.map_reverse] <;> rfl) (by show 2 * 0 + _ ≤ 8; rw [cat_map]; omega) dd ⟨by omega, by omega⟩) hR hS hwr
    (fun r T' I' R' J' ρ' H1 locs1 hq hR' hS' hE' hw' => kk r T' I' R' J' hq ρ' H1 locs1 (cells + bc) (slots + 4 * bc) lsA (by omega) (by omega) hR' hS' (hE.trans hE') (hE'.wfs hl') hw' (hL.ext hE' hl'))
    (fun a' T' I' R' J' ρ' H1 locs1 hq hR' hS' hE' hne => kx a' T' I' R' J' hq ρ' H1 locs1 (cells + bc) (slots + 4 * bc) lsA _ (by omega) (by omega) hR' hS' (hE.trans hE') (hE'.wfs hl') hne (hL.ext hE' hl'))
theorem AW.callI (X : FC cx d y cc nL ret hh) {d' bc idx a n L' : Nat} {y' : MethodName} {cc' : ByteArray} {As rest : List Value} {Q' : PQt} {QX' : PXt} (hM : AMet d' bc y' cc' L' none [] (.ref a :: As) T I R J Q' QX') (hsite : SiteI y.cls idx y' cc' L' n) (hd : d' < d) (hL' : L' ≤ 40) (hst : st = As.reverse ++ .ref a :: rest) (hn0 : As.length = n) (hcat : (rest.map fun v => v.category).sum ≤ 8) (dd : decode cc pc = .ok (.invokespecial idx, 3)) (kk : ∀ r T' I' R' J', Q' r T' I' R' J' → AW cx b (pc + 3) ls (pushr r rest) T' I' R' J') (kx : ∀ a T' I' R' J', QX' a T' I' R' J' → AX cx b pc ls a T' I' R' J') : AW cx (b + bc) pc ls st T I R J := by
  subst hst
  obtain ⟨p, l, e, Rm, s, m, args, below, meth, c, D, z0, ρ0, T0, PQ⟩ := cx
  obtain ⟨hx, hb, -, hml, hown, -, hts, -, -, hlt, hf, hlo, -, hCX⟩ := X
  intro ρ H locs cells slots lsA hk hn hR hS hE hl' hs hL
  obtain ⟨w1, w2, w4, w5, w6, w7, w8, w9⟩ := hsite
  obtain ⟨hwA, hwr⟩ := WFs.app hs
  have hG : GoodIn lw_all (cw_ y' cc' L' none [] :: lw_all) := by
    intro w hw
    rcases List.mem_cons.mp hw with e | e
    · rw [e]; exact lw_self _ w5
    · exact lw_self _ e
  rcases w1 with w1 | ⟨host, w1⟩
  · have hcw := cwI (R := Rm) (s := s) (args := args) (own := y.cls) (index := idx) (y := y') (bytes := cc') (maxL := L') (ws := cw_ y' cc' L' none [] :: lw_all) (ws' := lw_all) (rm := rmOf d' bc) (mc := bc) (ms := 4 * bc) n hts hG rfl rfl rfl (hts _ w4) (hts _ w1) (hts _ w2) w6 ⟨w7, w8, w9⟩ ⟨by show d' + 1 ≤ _; omega, by show 8 + (L' + 11) + (64 * d' + 200) ≤ _; omega⟩
    exact amRun (vx_runI (b := ρ a) (As := As.map (cv ρ)) (rest := rest.map (cv ρ)) ⟨hx, hb, hml, hown, hts⟩ (hM l hlt D z0 ρ) hcw ⟨blindOf, preOf hCX hR ⟨hwr.1, WFs.rev hwA⟩⟩ rfl (by rw [List.length_map]; exact hn0) (hL.1.trans hml) (by rw [List.map_append, List.map_reverse] <;> rfl) (by show 2 * 0 + _ ≤ 8; rw [cat_map]; omega) dd ⟨by omega, by omega⟩) hR hS hwr.2
      (fun r T' I' R' J' ρ' H1 locs1 hq hR' hS' hE' hw' => kk r T' I' R' J' hq ρ' H1 locs1 (cells + bc) (slots + 4 * bc) lsA (by omega) (by omega) hR' hS' (hE.trans hE') (hE'.wfs hl') hw' (hL.ext hE' hl'))
      (fun a' T' I' R' J' ρ' H1 locs1 hq hR' hS' hE' hne => kx a' T' I' R' J' hq ρ' H1 locs1 (cells + bc) (slots + 4 * bc) lsA _ (by omega) (by omega) hR' hS' (hE.trans hE') (hE'.wfs hl') hne (hL.ext hE' hl'))
  · have hcw := va_cnB (R := Rm) (s := s) (args := args) (own := y.cls) (host := host) (index := idx) (y := y') (bytes := cc') (maxL := L') (ret := none) (ws := cw_ y' cc' L' none [] :: lw_all) (ws' := lw_all) (rm := rmOf d' bc) (mc := bc) (ms := 4 * bc) n hts hG rfl rfl rfl (hCX.2.1 _ w1 rfl) (hts _ w4) ⟨w7, w8, w9⟩ ⟨by show d' + 1 ≤ _; omega, by show 8 + (L' + 11) + (64 * d' + 200) ≤ _; omega⟩
    exact amRun (vx_runIN (b := ρ a) (As := As.map (cv ρ)) (rest := rest.map (cv ρ)) ⟨hx, hb, hml, hown, hts⟩ (hM l hlt D z0 ρ) ⟨hcw, w6, hts _ w2⟩ ⟨blindOf, preOf hCX hR ⟨hwr.1, WFs.rev hwA⟩⟩ rfl (by rw [List.length_map]; exact hn0) (hL.1.trans hml) (by rw [List.map_append, List.map_reverse] <;> rfl) (by show 2 * 0 + _ ≤ 8; rw [cat_map]; omega) dd ⟨by omega, by omega⟩) hR hS hwr.2
      (fun r T' I' R' J' ρ' H1 locs1 hq hR' hS' hE' hw' => kk r T' I' R' J' hq ρ' H1 locs1 (cells + bc) (slots + 4 * bc) lsA (by omega) (by omega) hR' hS' (hE.trans hE') (hE'.wfs hl') hw' (hL.ext hE' hl'))
      (fun a' T' I' R' J' ρ' H1 locs1 hq hR' hS' hE' hne => kx a' T' I' R' J' hq ρ' H1 locs1 (cells + bc) (slots + 4 * bc) lsA _ (by omega) (by omega) hR' hS' (hE.trans hE') (hE'.wfs hl') hne (hL.ext hE' hl'))
theorem AW.callP (X : FC cx d y cc nL ret hh) {d' bc idx ci a n L' : Nat} {y' : MethodName} {cc' : ByteArray} {ret' : Option FieldType} {q : vw_C} {As rest : List Value} {Q' : PQt} {QX' : PXt} (hM : AMet d' bc y' cc' L' ret' [] (.ref a :: As) T I R J Q' QX') (hT : T a = (100 + ci, 0)) (hq : amCl[ci]? = some q) (hsite : SiteP y.cls idx y' cc' L' ret' n) (hd : d' < d) (hL' : L' ≤ 40) (hst : st = As.reverse ++ .ref a :: rest) (hn0 : As.length = n) (hcat : (rest.map fun v => v.category).sum ≤ 8) (dd : decode cc pc = .ok (.invokespecial idx, 3)) (kk : ∀ r T' I' R' J', Q' r T' I' R' J' → AW cx b (pc + 3) ls (pushr r rest) T' I' R' J') (kx : ∀ a T' I' R' J', QX' a T' I' R' J' → AX cx b pc ls a T' I' R' J') : AW cx (b + bc) pc ls st T I R J := by
  subst hst
  obtain ⟨p, l, e, Rm, s, m, args, below, meth, c, D, z0, ρ0, T0, PQ⟩ := cx
  obtain ⟨hx, hb, -, hml, hown, -, hts, -, -, hlt, hf, hlo, -, hCX⟩ := X
  intro ρ H locs cells slots lsA hk hn hR hS hE hl' hs hL
  obtain ⟨w1, w2, w3, w4, w5, w6, w7, w9⟩ := hsite
  obtain ⟨hwA, hwr⟩ := WFs.app hs
  have hcw := va_cwSU (R := Rm) (s := s) (args := args) (own := y.cls) (index := idx) (y := y') (bytes := cc') (maxL := L') (ret := ret') (ws := cw_ y' cc' L' ret' [] :: lw_all) (ws' := lw_all) (rm := rmOf d' bc) (mc := bc) (ms := 4 * bc) n hts (by
    intro w hw
    simp only [va_wsSU, List.mem_append, List.mem_cons, List.not_mem_nil, or_false] at hw
    rcases hw with (rfl | rfl | rfl | rfl | rfl) | rfl | hw
    · exact lw_self _ w1
    · exact lw_self _ w2
    · exact lw_self _ w3
    · exact lw_self _ w4
    · exact lw_self _ w5
    · exact lw_self _ w6
    · exact lw_self _ hw) rfl rfl rfl ⟨w7, w9⟩ ⟨by show d' + 1 ≤ _; omega, by show 8 + (L' + 11) + (64 * d' + 200) ≤ _; omega⟩
  exact amRun (vx_runSU (C := q.1) (b := ρ a) (As := As.map (cv ρ)) (rest := rest.map (cv ρ)) (hCX.1.1 ci q hq).2 ⟨hx, hb, hml, hown, hts⟩ (hM l hlt D z0 ρ) hcw ⟨blindOf, objAt hR hCX (by rw [hT]) hq, preOf hCX hR ⟨hwr.1, WFs.rev hwA⟩⟩ rfl (by rw [List.length_map]; exact hn0) (hL.1.trans hml) (by rw [List.map_append, List.map_reverse] <;> rfl) (by show 2 * 0 + _ ≤ 8; rw [cat_map]; omega) dd ⟨by omega, by omega⟩) hR hS hwr.2
    (fun r T' I' R' J' ρ' H1 locs1 hq hR' hS' hE' hw' => kk r T' I' R' J' hq ρ' H1 locs1 (cells + bc) (slots + 4 * bc) lsA (by omega) (by omega) hR' hS' (hE.trans hE') (hE'.wfs hl') hw' (hL.ext hE' hl'))
    (fun a' T' I' R' J' ρ' H1 locs1 hq hR' hS' hE' hne => kx a' T' I' R' J' hq ρ' H1 locs1 (cells + bc) (slots + 4 * bc) lsA _ (by omega) (by omega) hR' hS' (hE.trans hE') (hE'.wfs hl') hne (hL.ext hE' hl'))
end AWC
