/-! AM 8: exceptions made, thrown, caught (am_make0, am_super0 follow kit/laws/EXCEPTIONS' vx_make0, vx_ctorMade0; written by src/gen05h.py) -/
set_option maxRecDepth 100000
section AMX0
variable {p : Program} {l : Launch} {e : Env} {R : Room} {s : State} {m : MethodId} {args : Array Value} {below : List Frame} {meth : Method} {c : Code} {H : Heap} {locs : List Loc} {cells slots : Nat} {Q : State → Prop} {ls : Array Slot} {rest : List Value}
theorem am_make0 {cc : ByteArray} {pc : Nat} (hexec : p.tables.exec = Jvm.exec) (hb : c.code = cc) (hl : l.stackTraces = false) {own cls : String} {names : List String} {ik ic : Nat} {A : Nat → Prop}
    (hown : s.vm.findClass own = some m.cls) (hcls : Bundle.fit cls = true) (hnames : ∀ n ∈ names, Bundle.fit n = true)
    (hk : (Cond.classLink own ik cls).before args s = true) (hini : (Cond.initialized cls).before args s = true) (hat : ∀ w ∈ vx_at0 own ic cls names, w.before args s = true)
    (hgood : ∀ w ∈ Cond.classLink own ik cls :: Cond.initialized cls :: vx_at0 own ic cls names, vx_ot w = true)
    (hU : vx_Zq Bundle.tN "UNASSIGNED_STACK" Bundle.steD A s H) (hN : vx_Zq Bundle.tN "SUPPRESSED_SENTINEL" Bundle.listD A s H) (hsize : ls.size = c.maxLocals)
    (d0 : decode cc pc = .ok (.new ik, 3)) (d3 : decode cc (pc + 3) = .ok (.dup, 1)) (d4 : decode cc (pc + 4) = .ok (.invokespecial ic, 3))
    (hRframes : names.length + 3 < R.frames) (hRlocals : (rest.map fun v => v.category).sum + (13 * (names.length + 1) + 42) ≤ R.locals) (hRcells : cells + 1 ≤ R.cells) (hRslots : slots + 6 ≤ R.slots)
    (kk : ∀ (H1 : Heap) (ce : Cell), H1[H.size]? = some ce → s.vm.findClass cls = some ce.cls → ce.vm = .none → (∀ q : Nat, q < H.size → H1[q]? = H[q]?) → H.size ≤ H1.size → W p l e R s m args below meth c H1 locs (cells + 1) (slots + 6) Q (F0 m (pc + 7) ls (.ref H.size :: rest))) :
    W p l e R s m args below meth c H locs cells slots Q (F0 m pc ls rest) := by
  intro T hT X
  subst hT
  have htr : e.platform.stackTraces = false := (show e.platform.stackTraces = l.stackTraces by rw [X.admits.platform]).trans hl
  have Y := vx_rebase X (R' := { frames := R.frames, locals := R.locals, cells := 1, slots := 6 }) (Nat.le_refl _) (Nat.le_refl _) hRcells hRslots
  obtain ⟨s', hA'⟩ : ∃ z, z = (T.setVm s.vm).setFrames (.invoking m args :: below) := ⟨_, rfl⟩
  rw [← hA'] at Y
  have hvm : s'.vm = s.vm := by rw [hA']; rfl
  have hhp : s'.heap = T.heap := by rw [hA']; rfl
  have hW0 : s.WarmedH s'.vm := by rw [hvm]; exact State.WarmedH.refl s
  have hat' : ∀ w ∈ vx_at0 own ic cls names, w.before args s' = true := fun w hw => vx_ot_at hW0 hvm.symm (hgood w (List.mem_cons_of_mem _ (List.mem_cons_of_mem _ hw))) (hat w hw)
  have hk' : (Cond.classLink own ik cls).before args s' = true := vx_ot_at hW0 hvm.symm (hgood _ List.mem_cons_self) hk
  have hini' : (Cond.initialized cls).before args s' = true := vx_ot_at hW0 hvm.symm (hgood _ (List.mem_cons_of_mem _ List.mem_cons_self)) hini
  have hU' : vx_Zq Bundle.tN "UNASSIGNED_STACK" Bundle.steD A s' s'.heap := by rw [hhp]; exact vx_Zq.moved hW0.alike hU
  have hN' : vx_Zq Bundle.tN "SUPPRESSED_SENTINEL" Bundle.listD A s' s'.heap := by rw [hhp]; exact vx_Zq.moved hW0.alike hN
  have h : ∀ w ∈ Bundle.ownAtoms0 own ic cls names, w.before args s' = true := vx_own hat' (vx_isRefq hU'.1) (vx_isRefq hN'.1) hU'.2.word hN'.2.word
  have hown' : s'.vm.findClass own = some m.cls := by rw [hvm]; exact hown
  have hins : (Cond.instantiable cls 6).before args s' = true := h _ (by simp [Bundle.ownAtoms0])
  obtain ⟨vm₁, cX, kX, hfX, hkX, -, -, X₁, st1⟩ := Y.newCold hexec (own := own) (C := cls) (index := ik) (n := 6) hown' hk' hins hini'
    (g := F0 m pc ls rest) rfl (by rw [hb]; exact d0) (Nat.le_refl _) (Nat.le_refl _)
  generalize hT1 : (T.setVm vm₁).pushCell { cls := cX, slots := kX.instanceTypes.map defaultValue, vm := .none } = T1 at X₁ st1
  have hcat : (Value.ref T.heap.size).category = 1 := rfl
  have hcellA : T1.heap[T.heap.size]? = some (freshCell cX kX) := by rw [← hT1]; exact State.heap_pushCell_size _ _
  have d3' : decode c.code (pc + 3) = .ok (.dup, 1) := by rw [hb]; exact d3
  obtain ⟨V, ce, L, Z, hL, hlt, hcl9, hvm9, st⟩ := vx_ctorMade0 X₁ hexec htr (own := own) (cls := cls) (names := names) (ic := ic) hown' hcls hnames h (fun x hx => nomatch hx) hfX hkX hcellA (by rw [hhp]; exact Nat.le_refl _)
    (g := { method := m, pc := pc + 4, locals := ls, stack := .ref T.heap.size :: .ref T.heap.size :: rest, locked := none }) rfl hsize (rest := rest) rfl
    (by rw [hb]; exact d4) hRframes (by simp only [List.map_cons, List.sum_cons, hcat]; omega)
  have Z0 := Stand.forget (locs := []) Z (fun y hy => by rw [hL y hy, hhp]; exact Nat.le_refl _)
  obtain ⟨f1, f2⟩ := vx_frame Z0.same
  rw [hhp] at f1 f2
  have hcid : s.vm.findClass cls = some ce.cls := by
    rw [hcl9]
    rw [hvm] at hfX
    exact hfX
  have hh : (V.setCell T.heap.size ce).heap[T.heap.size]? = some ce := heapAt_setCell_self (s := V) ce hlt
  subst hA'
  have X5 := vx_back9 X Y Z0
  have X6 : Stand p l e R s m args below meth c (V.setCell T.heap.size ce) locs (cells + 1) (slots + 6) := { X5 with same := X5.same.mono (by omega) (by omega) }
  obtain ⟨t, a1, b1⟩ := kk (V.setCell T.heap.size ce).heap ce hh hcid hvm9 (fun q hq => f2 q hq (fun z hz => nomatch hz)) f1 _ rfl X6
  refine ⟨t, st1 _ ?_, b1⟩
  show Steps p.tables e below (T1.setTop { method := m, pc := pc + 3, locals := ls, stack := .ref T.heap.size :: rest, locked := none }) _
  jvm_step X₁.here [X₁.here.top, hexec, d3', Value.category]
  exact st _ a1
theorem back9L {T S : State} {R' : Room} {k n : Nat} {L : List Loc} (X : Stand p l e R s m args below meth c T locs cells slots) (Y : Stand p l e R' ((T.setVm s.vm).setFrames (.invoking m args :: below)) m args below meth c T [] 0 0) (Z : Stand p l e R' ((T.setVm s.vm).setFrames (.invoking m args :: below)) m args below meth c S L k n) :
    Stand p l e R s m args below meth c S (locs ++ L) (cells + k) (slots + n) := by
  have hW0 : s.WarmedH ((T.setVm s.vm).setFrames (.invoking m args :: below)).vm := State.WarmedH.refl s
  refine { admits := X.admits, cas := X.cas, clock := X.clock, frames := X.frames, room := X.room, hears := X.hears, method := X.method, code := X.code, here := Z.here, tail := Z.tail, warmed := State.WarmedH.trans hW0 Z.warmed, limits := Z.limits.trans (Y.limits.symm.trans X.limits), bytes := Z.bytes.trans (Y.bytes.symm.trans X.bytes), same := ?_ }
  obtain ⟨e1, e2⟩ := Z.same
  rw [State.setFrames_setFrames] at e1
  have h2 : (T.setVm s.vm).sameButNew (S.setVm s.vm) L k n := ⟨e1, e2⟩
  exact X.same.trans h2
def supAtoms (own : String) (ic : Nat) (sup X : String) (nX : Nat) : List Cond :=
  Bundle.throwableAtoms ++ Bundle.chain0Atoms sup [] ++
  [.methodLink own ic (Bundle.init0 sup), .instantiable X nX, .selects X Bundle.tFill0 Bundle.tFill0, .selects X Bundle.tFill Bundle.tFill,
   .lays X Bundle.tN "cause" "Ljava/lang/Throwable;", .lays X Bundle.tN "stackTrace" Bundle.steD, .lays X Bundle.tN "suppressedExceptions" Bundle.listD, .lays X Bundle.tN "detailMessage" "Ljava/lang/String;",
   .isRef (.static Bundle.tN "UNASSIGNED_STACK" Bundle.steD), .isRef (.static Bundle.tN "SUPPRESSED_SENTINEL" Bundle.listD),
   .fieldLink Bundle.tN 198 Bundle.tN "backtrace" "Ljava/lang/Object;", .lays Bundle.tN Bundle.tN "backtrace" "Ljava/lang/Object;", .lays X Bundle.tN "backtrace" "Ljava/lang/Object;"]
/-- the superclass's constructor, of an exception that is its own class's still new cell -/
theorem superMade {m₀ : MethodId} {W : State} (X : Stand p l e R s m₀ args below meth c W locs cells slots) (hexec : p.tables.exec = Jvm.exec) (htr : e.platform.stackTraces = false) {own sup cls : String} {ic nX : Nat}
    (hown : s.vm.findClass own = some m₀.cls) (hcls : Bundle.fit sup = true)
    (h : ∀ a ∈ supAtoms own ic sup cls nX, a.before args s = true)
    (hlocs : ∀ x ∈ locs, ∀ cell, s.heap[x.base]? = some cell → cell.vm.isStatics = false)
    {a : Addr} {cX : ClassId} {kX : Class} (hfoundX : s.vm.findClass cls = some cX) (hkX : s.vm.classes[cX]? = some kX) (hcell : W.heap[a]? = some (freshCell cX kX))
    {g : JFrame} (hg : g.method = m₀) (hsize : g.locals.size = c.maxLocals) {rest : List Value} (hstack : g.stack = .ref a :: rest)
    (hd6 : decode c.code g.pc = .ok (.invokespecial ic, 3))
    (hRframes : 3 < R.frames) (hRlocals : 2 * g.monitorRoom + (rest.map fun v => v.category).sum + 54 ≤ R.locals) :
    ∃ (V : State) (ce : Cell) (L : List Loc), Stand p l e R s m₀ args below meth c (V.setCell a ce) (locs ++ L) cells slots ∧ V.heap = W.heap ∧ (∀ y ∈ L, y.base = a) ∧ ce.cls = cX ∧ ce.vm = .none ∧
      (∀ (i : Nat) (v : Value), (freshCell cX kX).slots[i]? = some v → (∀ n d cf kf fi fd, s.fieldFound? Bundle.tN n d = some (cf, kf, fi, fd) → (n = "cause" ∧ d = "Ljava/lang/Throwable;" ∨ n = "stackTrace" ∧ d = Bundle.steD ∨ n = "suppressedExceptions" ∧ d = Bundle.listD) → fd.slot ≠ i) → ce.slots[i]? = some v) ∧
      ∀ target, Steps p.tables e below ((V.setCell a ce).setTop { g with stack := rest, pc := g.pc + 3 }) target → Steps p.tables e below (W.setTop g) target := by
  have howns : e.platform.frameOwnsMonitors = true := by rw [X.admits.platform]
  have hfin : e.platform.finalization = false := by rw [X.admits.platform]
  have hpl : e.platform.magicAccessors = ({} : Platform).magicAccessors := by rw [X.admits.platform]
  have a' : ∀ x, x ∈ supAtoms own ic sup cls nX → x.holds args s none s [] = true := fun x hx => h x hx
  obtain ⟨T, Z, L, LZ, Y⟩ := ThrowableC.of_atoms (args := args) howns hfin hpl (fun x hx => h x (by simp [supAtoms, hx]))
  obtain ⟨P1, Ps, hlen, L1, hL, hP1m, hlink1, hlink⟩ := Bundle.chain0 (args := args) hpl Y.init0 [] sup hcls (fun n hn => nomatch hn) (fun x hx => h x (by simp [supAtoms, hx]))
  obtain ⟨c1, kX', hc1, hk, hord, -, -, hn6⟩ := Cond.instantiable_spec (a' (.instantiable cls nX) (by simp [supAtoms]))
  cases Option.some.inj (hc1.symm.trans hfoundX)
  cases Option.some.inj (hkX.symm.trans hk)
  have hfound := hfoundX
  have hsel0 : selectMethod e.platform s.vm cX T.fill0 = .method T.fill0 := by
    obtain ⟨c2, r2, m2, q1, q2, q3, q4, -⟩ := Cond.selects_spec (a' (.selects cls Bundle.tFill0 Bundle.tFill0) (by simp [supAtoms]))
    cases Option.some.inj (q1.symm.trans hfound)
    cases Option.some.inj (q2.symm.trans (State.methodFound?_of_named Y.fill0 (by decide)))
    cases Option.some.inj (q3.symm.trans Y.fill0)
    rw [Launch.admits_selectMethod X.admits]; exact q4
  have hselF : selectMethod e.platform s.vm cX T.fill = .method T.fill := by
    obtain ⟨c2, r2, m2, q1, q2, q3, q4, -⟩ := Cond.selects_spec (a' (.selects cls Bundle.tFill Bundle.tFill) (by simp [supAtoms]))
    cases Option.some.inj (q1.symm.trans hfound)
    cases Option.some.inj (q2.symm.trans (State.methodFound?_of_named Y.fill (by decide)))
    cases Option.some.inj (q3.symm.trans Y.fill)
    rw [Launch.admits_selectMethod X.admits]; exact q4
  obtain ⟨cellS0, hcS0, hiss⟩ := Y.statics
  obtain ⟨u0, hu0⟩ := Cond.staticRefV Y.unassigned L.unassignedStatic L.statics hcS0 hiss (a' (.isRef (.static Bundle.tN "UNASSIGNED_STACK" Bundle.steD)) (by simp [supAtoms]))
  obtain ⟨sen, hsen⟩ := Cond.staticRefV Y.sentinel L.sentinelStatic L.statics hcS0 hiss (a' (.isRef (.static Bundle.tN "SUPPRESSED_SENTINEL" Bundle.listD)) (by simp [supAtoms]))
  obtain ⟨ci198, i198, fB, hk198, hg198, ha198, hsB, -, hnB, htB, hffB⟩ := Cond.ownField (t := .object "java/lang/Object") Y.found L.cls (by decide +kernel) (a' (.fieldLink Bundle.tN 198 Bundle.tN "backtrace" "Ljava/lang/Object;") (by simp [supAtoms])) (a' (.lays Bundle.tN Bundle.tN "backtrace" "Ljava/lang/Object;") (by simp [supAtoms])) e.platform hpl
  obtain ⟨cellS, hcS', heS, -, hkeep⟩ := X.same.2.2.2.2.2 T.aS cellS0 hcS0
  have hcellS : W.heap[T.aS]? = some cellS := hcS'
  have hout' : ∀ i, (⟨T.aS, i⟩ : Loc) ∉ locs := fun i hmem => by
    have := hlocs _ hmem cellS0 hcS0
    rw [hiss] at this; cases this
  have hknownS : cellS.vm ≠ .unknown := by
    rw [heS]; intro hu
    rw [show cellS0.vm = .unknown from hu] at hiss
    cases hiss
  have hneS : T.aS ≠ a := fun e0 => by
    have h1 : cellS.vm.isStatics = true := by rw [heS]; exact hiss
    rw [e0] at hcellS
    cases hcell.symm.trans hcellS
    cases h1
  obtain ⟨tyC, dC, hdC, hdnC⟩ := Cond.laysAt hfound hk Y.cause (a' (.lays cls Bundle.tN "cause" "Ljava/lang/Throwable;") (by simp [supAtoms]))
  obtain ⟨tyS, dS, hdS, hdnS⟩ := Cond.laysAt hfound hk Y.stack (a' (.lays cls Bundle.tN "stackTrace" Bundle.steD) (by simp [supAtoms]))
  obtain ⟨tyP, dP, hdP, hdnP⟩ := Cond.laysAt hfound hk Y.supp (a' (.lays cls Bundle.tN "suppressedExceptions" Bundle.listD) (by simp [supAtoms]))
  obtain ⟨tyB, dB, hdB, hdnB⟩ := Cond.laysAt hfound hk hffB (a' (.lays cls Bundle.tN "backtrace" "Ljava/lang/Object;") (by simp [supAtoms]))
  have bC := Cond.laysApart hdB hdC hdnB hdnC (by rw [hnB, Y.causeName]; decide)
  have bS := Cond.laysApart hdB hdS hdnB hdnS (by rw [hnB, Y.stackName]; decide)
  have bP := Cond.laysApart hdB hdP hdnB hdnP (by rw [hnB, Y.suppName]; decide)
  have hskip : SkipFacts T e.platform s (fun u => u) u0 ((preparedCellV T.toThrowableT (freshCell cX kX) a u0 sen).withEntry W.cur) :=
    ⟨{ ci198 := ci198, i198 := i198, fBack := fB }, ⟨hk198, hg198, ha198, hsB⟩, by
      have := fresh_default (c := cX) tyB
      rw [htB] at this
      simpa [preparedCellV, Cell.setSlot, Cell.withEntry, Array.getElem?_setIfInBounds, bC, bS, bP, bC.symm, bS.symm, bP.symm, defaultValue] using this, fun _ _ => rfl⟩
  obtain ⟨tm, methC, cdC, kC, vm₁, hnC, -, -, -, -, -, -, -, hW₁, st1⟩ := Steps.initCold (tb := p.tables) (e := e) (below := below) (s := s) (U := W) X.here hexec X.warmed hpl hown (t := Bundle.init0 sup) rfl rfl (Bundle.fit_spec hcls).2
    (a' (.methodLink own ic (Bundle.init0 sup)) (by simp [supAtoms])) (h (.instanceMethod (Bundle.init0 sup)) (by simp [supAtoms, Bundle.chain0Atoms, Bundle.passAtoms])) (bytes := Bundle.five) (maxL := 1) (h (.code (Bundle.init0 sup) Bundle.five 1 none) (by simp [supAtoms, Bundle.chain0Atoms, Bundle.passAtoms]))
    (f := g) hg (a := a) (rest := rest) hstack hd6
  cases Option.some.inj (hnC.symm.trans hP1m)
  have X₁ := X.noted hW₁
  obtain ⟨vm₂, X₂, st2⟩ := X₁.ctorPlainOffV hexec (g := { g with stack := rest }) hg hsize T L Z LZ (P1 :: Ps)
    (fun P hP => by rcases List.mem_cons.mp hP with rfl | hP; exact L1; exact hL P hP) ⟨hlink1, hlink⟩ (u0 := u0) (sen := sen) (self := a) (cell := freshCell cX kX) (cellS := cellS)
    hcell (fun _ => by simp) (by simp) rfl rfl hsel0 hselF hcellS hneS hknownS (by rw [hkeep _ (hout' _)]; exact hu0) (by rw [hkeep _ (hout' _)]; exact hsen)
    (Takes.of_laid hk hord tyC (by rw [Y.causeType]; rfl)) (Takes.of_laid hk hord tyS (by rw [Y.stackType]; exact fits_refV_array _ u0)) (Takes.of_laid hk hord tyP (by rw [Y.suppType]; exact fits_refV_object _ sen)) Y.objLocals hskip htr [] hd6
    (by simp only [List.length_cons, hlen, List.length_nil]; omega) (by simp only [List.length_cons, hlen, List.length_nil]; exact hRlocals)
  refine ⟨(W.setVm vm₁).setVm vm₂, _, _, X₂, rfl, fun y hy => ?_, rfl, rfl, fun i v hv hne => ?_, fun target hwalk => st1 _ (fun acts => ?_)⟩
  · simp only [List.mem_cons, List.not_mem_nil, or_false] at hy
    rcases hy with rfl | rfl | rfl | rfl <;> rfl
  · have nC : T.fCause.slot ≠ i := hne _ _ _ _ _ _ Y.cause (Or.inl ⟨rfl, rfl⟩)
    have nS : T.fStack.slot ≠ i := hne _ _ _ _ _ _ Y.stack (Or.inr (Or.inl ⟨rfl, rfl⟩))
    have nP : T.fSupp.slot ≠ i := hne _ _ _ _ _ _ Y.supp (Or.inr (Or.inr ⟨rfl, rfl⟩))
    simpa [preparedCellV, Cell.setSlot, Array.getElem?_setIfInBounds, nC, nS, nP, nC.symm, nS.symm, nP.symm] using hv
  · rw [doInvoke_state]
    exact st2 _ hwalk
end AMX0
section AMX
variable {cx : CxT} {d b pc nL : Nat} {y : MethodName} {cc : ByteArray} {ret : Option FieldType} {hh : List (Nat × Nat × Nat × Nat)} {ls st : List Value} {T : KT} {I : KI} {R : KR} {J : KJ} {Q : PQt} {QX : PXt}
theorem AW.athrow (X : FC cx d y cc nL ret hh) {a : Nat} (dd : decode cc pc = .ok (.athrow, 1)) (h : AX cx b pc ls a T I R J) : AW cx b pc ls (.ref a :: st) T I R J := by
  obtain ⟨p, l, e, Rm, s, m, args, below, meth, c, D, z0, ρ0, T0, PQ⟩ := cx
  obtain ⟨hx, hb, -⟩ := X
  intro ρ H locs cells slots lsA hk hn hR hS hE hl' hs hL
  exact vx_athrow hx hb dd (h ρ H locs cells slots lsA _ hk hn hR hS hE hl' hs.1 hL)
theorem excAt {D : va_G} {z0 : Nat} {ρ : Nat → Nat} {s : State} {H : Heap} {a ci : Nat} {q : vw_C} (hR : RL D z0 ρ T I R J s H) (hK : CX D s) (h100 : 100 ≤ a) (hT : T a = (100 + ci, 0)) (hq : amCl[ci]? = some q) : ∃ cell : Cell, H[ρ a]? = some cell ∧ cell.vm = .none ∧ s.vm.findClass q.1 = some cell.cls := by
  obtain ⟨cell, h1, -, -, -, h5, -, -, h8⟩ := hR.1.1 a (by rw [hT]; show 1 < 100 + ci; omega)
  obtain ⟨g1, -⟩ := h8 ci q (by rw [hT]) hq
  exact ⟨cell, h1, (h5 h100).1, by rw [g1]; exact (hK.1.1 ci q hq).2.1⟩
theorem AX.out (X : FC cx d y cc nL ret hh) (E : EndQ cx Q QX) {a ci : Nat} {q : vw_C} (h100 : 100 ≤ a) (hT : T a = (100 + ci, 0)) (hq : amCl[ci]? = some q) (hout : ∀ x ∈ tableOf hh, covers x pc = false) (hx' : QX a T I R J) : AX cx b pc ls a T I R J := by
  obtain ⟨p, l, e, Rm, s, m, args, below, meth, c, D, z0, ρ0, T0, PQ⟩ := cx
  obtain ⟨hx, hb, -, -, -, -, -, hlk, htab, -, -, -, -, hCX⟩ := X
  intro ρ H locs cells slots lsA rest hk hn hR hS hE hl' hne hL
  have E : PQ = vx_MQ below (QcOf D z0 ρ0 T0 Q) (XcOf D z0 ρ0 T0 QX) args s Rm.cells Rm.slots (stZ z0) := E
  rw [E]
  obtain ⟨cell, h1, h2, h3⟩ := excAt hR hCX h100 hT hq
  exact vx_out (E := q.1) (by rw [htab]; exact hout) hlk h1 h2 h3 (fun t ht hal => ⟨a, T, I, R, J, ρ, rfl, hne, ⟨hS.F ht, by rw [ht]; exact hR.1.moved hal, hE⟩, hx'⟩) hS.2.2 (by omega) (by omega)
theorem AX.catch0 (X : FC cx d y cc nL ret hh) {a ci s0 e0 h0 c0 : Nat} {hs : List (Nat × Nat × Nat × Nat)} {q : vw_C} {nm : String} (hhe : hh = (s0, e0, h0, c0) :: hs) (h100 : 100 ≤ a) (hT : T a = (100 + ci, 0)) (hq : amCl[ci]? = some q) (hcov : covers ⟨s0, e0, h0, c0⟩ pc = true) (hc0 : c0 ≠ 0) (hl : (Cond.classLink y.cls c0 nm) ∈ lw_all) (hcast : (Cond.castable q.1 nm) ∈ lw_tbl) (h : AW cx b h0 ls [.ref a] T I R J) : AX cx b pc ls a T I R J := by
  subst hhe
  obtain ⟨p, l, e, Rm, s, m, args, below, meth, c, D, z0, ρ0, T0, PQ⟩ := cx
  obtain ⟨hx, hb, -, -, hown, -, hts, hlk, htab, -, -, -, -, hCX⟩ := X
  intro ρ H locs cells slots lsA rest hk hn hR hS hE hl' hne hL
  obtain ⟨cell, h1, h2, h3⟩ := excAt hR hCX h100 hT hq
  exact vx_catch (own := y.cls) (name := nm) hown [] ⟨s0, e0, h0, c0⟩ (tableOf hs) (by rw [htab]; rfl) (fun z hz => nomatch hz) hcov hc0 (hts _ hl) (va_Nw.use rfl (hCX.2.1 _ hcast rfl)) h1 h2 h3 (h ρ H locs cells slots lsA hk hn hR hS hE hl' ⟨hne, trivial⟩ hL)
theorem AX.catch1 (X : FC cx d y cc nL ret hh) {a ci s0 e0 h0 c0 s1 e1 h1 c1 : Nat} {hs : List (Nat × Nat × Nat × Nat)} {q : vw_C} {nm nm0 : String} (hhe : hh = (s0, e0, h0, c0) :: (s1, e1, h1, c1) :: hs) (h100 : 100 ≤ a) (hT : T a = (100 + ci, 0)) (hq : amCl[ci]? = some q) (hc0 : c0 ≠ 0) (hl0 : (Cond.classLink y.cls c0 nm0) ∈ lw_all) (hnc : (q.1, nm0) ∈ amNc) (hcov : covers ⟨s1, e1, h1, c1⟩ pc = true) (hc1 : c1 ≠ 0) (hl : (Cond.classLink y.cls c1 nm) ∈ lw_all) (hcast : (Cond.castable q.1 nm) ∈ lw_tbl) (h : AW cx b h1 ls [.ref a] T I R J) : AX cx b pc ls a T I R J := by
  subst hhe
  obtain ⟨p, l, e, Rm, s, m, args, below, meth, c, D, z0, ρ0, T0, PQ⟩ := cx
  obtain ⟨hx, hb, -, -, hown, -, hts, hlk, htab, -, -, -, -, hCX⟩ := X
  intro ρ H locs cells slots lsA rest hk hn hR hS hE hl' hne hL
  obtain ⟨cell, g1, g2, g3⟩ := excAt hR hCX h100 hT hq
  exact vx_catch (own := y.cls) (name := nm) hown [⟨s0, e0, h0, c0⟩] ⟨s1, e1, h1, c1⟩ (tableOf hs) (by rw [htab]; rfl) (fun z hz => by
    rcases List.mem_singleton.mp hz with rfl
    exact Or.inr ⟨hc0, nm0, hts _ hl0, hCX.2.2.1 _ hnc⟩) hcov hc1 (hts _ hl) (va_Nw.use rfl (hCX.2.1 _ hcast rfl)) g1 g2 g3 (h ρ H locs cells slots lsA hk hn hR hS hE hl' ⟨hne, trivial⟩ hL)
theorem tblOf {args : Array Value} {s : State} {D : va_G} (hts : ∀ w ∈ lw_all, w.before args s = true) (hCX : CX D s) {w : Cond} (h : w ∈ lw_tbl) (hg : goodWord w = true ∨ nwOK w = true) : w.before args s = true := by
  rcases hg with hg | hg
  · exact hts _ (List.mem_filter.mpr ⟨h, hg⟩)
  · have hn := hCX.2.1 _ h hg
    have : w.onTables = true := by cases w <;> first | rfl | exact absurd (show false = true from hg) Bool.false_ne_true
    exact va_Nw.use this hn
/-- 'new X()' of an exception of the JDK, up to behind its constructor -/
theorem AW.newX (X : FC cx d y cc nL ret hh) (a kc : Nat) {ik ic ci : Nat} {q : vw_C} {names : List String} (ha : (T a).1 = 0) (h100 : 100 ≤ a) (hq : amCl[ci]? = some q) (hq0 : q.2.2 = 0) (hci : ci ≠ 24) (hfit : Bundle.fit q.1 = true) (hnames : ∀ n ∈ names, Bundle.fit n = true) (hkc : 2 ≤ kc) (hd : names.length + 3 < d) (hnl : names.length ≤ 3)
    (hwd : ∀ w ∈ Cond.classLink y.cls ik q.1 :: Cond.initialized q.1 :: vx_at0 y.cls ic q.1 names, w ∈ lw_tbl ∧ (goodWord w = true ∨ nwOK w = true)) (hgood : ∀ w ∈ Cond.classLink y.cls ik q.1 :: Cond.initialized q.1 :: vx_at0 y.cls ic q.1 names, vx_ot w = true) (hst : (st.map fun v => v.category).sum ≤ 8)
    (d0 : decode cc pc = .ok (.new ik, 3)) (d3 : decode cc (pc + 3) = .ok (.dup, 1)) (d4 : decode cc (pc + 4) = .ok (.invokespecial ic, 3)) (h : AW cx b (pc + 7) ls (.ref a :: st) (row T a (100 + ci, 0)) I (row R a (fun _ => none)) J) : AW cx (b + kc) pc ls st T I R J := by
  obtain ⟨p, l, e, Rm, s, m, args, below, meth, c, D, z0, ρ0, T0, PQ⟩ := cx
  obtain ⟨hx, hb, -, hml, hown, -, hts, -, -, hlt, hf, hlo, -, hCX⟩ := X
  intro ρ H locs cells slots lsA hk hn hR hS hE hl' hs hL
  have hw : ∀ w ∈ Cond.classLink y.cls ik q.1 :: Cond.initialized q.1 :: vx_at0 y.cls ic q.1 names, w.before args s = true := fun w hw => tblOf hts hCX (hwd w hw).1 (hwd w hw).2
  obtain ⟨-, -, -, -, -, -, hU, hN⟩ := id hR
  obtain ⟨r1, r2⟩ := (⟨hU, hN⟩ : _ ∧ _)
  refine am_make0 (own := y.cls) (cls := q.1) (names := names) (A := stZ z0) hx hb hlt hown hfit hnames (hw _ List.mem_cons_self) (hw _ (List.mem_cons_of_mem _ List.mem_cons_self)) (fun w hw' => hw w (List.mem_cons_of_mem _ (List.mem_cons_of_mem _ hw'))) hgood r1 r2 hL.1 d0 d3 d4 (by omega) (by rw [cat_map]; omega) (by omega) (by omega) fun H1 ce e1 ecl evm o1 z1 => ?_
  obtain ⟨r1, r2, r3, r4⟩ := amAlloc (κ := (100 + ci, 0)) (I' := I) (R' := row R a (fun _ => none)) (J' := J) hR hS hE ha (by show 1 < 100 + ci; omega) (fun _ _ => rfl) (fun _ hb => row_n hb) (fun _ _ => rfl) o1 z1 (fun k => by rw [row_s]) (fun _ => by
    rw [row_s, row_s]
    refine ⟨ce, e1, ⟨fun _ => hR.2.1, fun _ => h100⟩, by rw [evm]; rfl, by rw [evm]; exact (fun z => by cases z), fun _ => ⟨evm, fun z => absurd (show ci = 24 by dsimp only at z; omega) hci⟩, fun ty hty => ?_, fun C hC => ?_, fun ci' q' hci' hq' => ?_⟩
    · dsimp only at hty; rw [kPrim_obj] at hty; cases hty
    · dsimp only at hC; rw [kRefC_obj] at hC; cases hC
    · have : ci' = ci := by dsimp only at hci'; omega
      subst this
      cases hq.symm.trans hq'
      refine ⟨Option.some.inj (ecl.symm.trans (hCX.1.1 ci' q hq).2.1), fun k hk => ?_⟩
      rw [hq0] at hk
      exact absurd hk (Nat.not_lt_zero k))
  have := h (row ρ a H.size) H1 locs (cells + 1) (slots + 6) lsA (by omega) (by omega) r1 r2 r3 (r4.wfs hl') ⟨by show (row T a (100 + ci, 0) a).1 ≠ 0; rw [row_s]; show 100 + ci ≠ 0; omega, r4.wfs hs⟩ (hL.ext r4 hl')
  rw [List.map_cons, r4.map hs] at this
  have e0 : cv (row ρ a H.size) (.ref a) = .ref H.size := by show Value.ref (row ρ a H.size a) = _; rw [row_s]
  rw [e0] at this
  exact this
def okW (w : Cond) : Bool := decide (w ∈ lw_tbl) && (goodWord w || nwOK w) && vx_ot w
theorem supW : ((supAtoms RX16 1 "java/lang/Exception" RX16 8).filter vx_no).all okW = true := by decide +kernel
theorem okW_spec {w : Cond} (h : okW w = true) : w ∈ lw_tbl ∧ (goodWord w = true ∨ nwOK w = true) ∧ vx_ot w = true := by
  simp only [okW, Bool.and_eq_true, Bool.or_eq_true, decide_eq_true_eq] at h
  exact ⟨h.1.1, h.1.2, h.2⟩
/-- Fault's constructor calls its superclass's -/
theorem AW.superF (X : FC cx d yX16_init cc nL ret hh) {a : Nat} (h100 : 100 ≤ a) (hT : T a = (124, 0)) (hI : ∀ k, I a k = 0) (hd : 4 ≤ d) (hst : (st.map fun v => v.category).sum ≤ 8) (dd : decode cc pc = .ok (.invokespecial 1, 3)) (h : AW cx b (pc + 3) ls st (row T a (117, 0)) I R J) : AW cx b pc ls (.ref a :: st) T I R J := by
  obtain ⟨p, l, e, Rm, s, m, args, below, meth, c, D, z0, ρ0, T0, PQ⟩ := cx
  obtain ⟨hx, hb, -, hml, hown, -, hts, -, -, hlt, hf, hlo, -, hCX⟩ := X
  intro ρ H locs cells slots lsA hk hn hR hS hE hl' hs hL
  obtain ⟨cell, h1, h2, h3, h4, h5, -, -, h8⟩ := hR.1.1 a (by rw [hT]; exact Nat.le_of_ble_eq_true rfl)
  obtain ⟨hvm0, hfr⟩ := h5 h100
  obtain ⟨kC, hkC, hcell⟩ := hfr (by rw [hT])
  obtain ⟨g1, -⟩ := h8 24 (RX16, TX16, 8) (by rw [hT]) rfl
  have hfc : s.vm.findClass RX16 = some cell.cls := by rw [g1]; exact (hCX.1.1 24 _ rfl).2.1
  have hK17 := hCX.1.1 17 (RX16, TXF, 2) rfl
  have hc17 : cell.cls = D.1 17 := Option.some.inj (hfc.symm.trans hK17.2.1)
  have hz : z0 ≤ ρ a := h2.mp h100
  obtain ⟨-, -, -, -, -, -, hU, hN⟩ := id hR
  intro U hUT X'
  subst hUT
  have htr : e.platform.stackTraces = false := (show e.platform.stackTraces = l.stackTraces by rw [X'.admits.platform]).trans hlt
  have Y := vx_rebase X' (R' := { frames := Rm.frames, locals := Rm.locals, cells := 0, slots := 0 }) (Nat.le_refl _) (Nat.le_refl _) (by show cells + 0 ≤ _; omega) (by show slots + 0 ≤ _; omega)
  obtain ⟨s', hA'⟩ : ∃ z, z = (U.setVm s.vm).setFrames (.invoking m args :: below) := ⟨_, rfl⟩
  rw [← hA'] at Y
  have hvm : s'.vm = s.vm := by rw [hA']; rfl
  have hhp : s'.heap = U.heap := by rw [hA']; rfl
  have hW0 : s.WarmedH s'.vm := by rw [hvm]; exact State.WarmedH.refl s
  have hw' : ∀ w ∈ (supAtoms RX16 1 "java/lang/Exception" RX16 8).filter vx_no, w.before args s' = true := fun w hw => by
    obtain ⟨q1, q2, q3⟩ := okW_spec (List.all_eq_true.mp supW w hw)
    exact vx_ot_at hW0 hvm.symm q3 (tblOf hts hCX q1 q2)
  have hU' : vx_Zq Bundle.tN "UNASSIGNED_STACK" Bundle.steD (stZ z0) s' s'.heap := by rw [hhp]; exact vx_Zq.moved hW0.alike hU
  have hN' : vx_Zq Bundle.tN "SUPPRESSED_SENTINEL" Bundle.listD (stZ z0) s' s'.heap := by rw [hhp]; exact vx_Zq.moved hW0.alike hN
  have hat := vx_own hw' (vx_isRefq hU'.1) (vx_isRefq hN'.1) hU'.2.word hN'.2.word
  rw [hcell] at h1
  obtain ⟨V, ce, L, Z, hVh, hLb, hcl9, hvm9, hsl9, st9⟩ := superMade Y hx htr (own := RX16) (sup := "java/lang/Exception") (cls := RX16) (ic := 1) (nX := 8) (by rw [hvm]; exact hown) (by decide +kernel) hat (fun x hx => nomatch hx) (by rw [hvm]; exact hfc) (by rw [hvm]; exact hkC) h1
    (g := F0 m pc lsA (.ref (ρ a) :: st.map (cv ρ))) rfl hL.1 (rest := st.map (cv ρ)) rfl (by rw [hb]; exact dd) (by show 3 < Rm.frames; omega) (by show 2 * 0 + _ + 54 ≤ Rm.locals; rw [cat_map]; omega)
  have hlt2 : ρ a < U.heap.size := (Array.getElem?_eq_some_iff.mp h1).1
  have e1 : (V.setCell (ρ a) ce).heap[ρ a]? = some ce := heapAt_setCell_self (s := V) ce (by rw [hVh]; exact hlt2)
  have o1 : ∀ q, q ≠ ρ a → (V.setCell (ρ a) ce).heap[q]? = U.heap[q]? := fun q hq => by rw [heapAt_setCell_ne _ (Ne.symm hq), hVh]
  have z1 : (V.setCell (ρ a) ce).heap.size = U.heap.size := by rw [size_setCell, hVh]
  subst hA'
  have X6 := back9L X' Y Z
  have hslots : ∀ k, k < 2 → ce.slots[D.2 17 k]? = some (fv ρ I R a k (TXF k).2.2.1) := by
    intro k hk
    obtain ⟨cell2, b1, b2, b3, b4⟩ := u_born (H := U.heap) (o := ρ a) (kC := kC) (fun _ => FieldType.int) hts in_XF hK17 (by rw [← hc17]; exact hkC) (by rw [← hc17]; exact h1) (by decide +kernel)
    cases h1.symm.trans b1
    have hfv : fv ρ I R a k (TXF k).2.2.1 = .int 0 := by
      unfold fv
      rw [show parseFieldDescriptor (TXF k).2.2.1 = some .int from (by decide +kernel : ∀ k, k < 2 → parseFieldDescriptor (TXF k).2.2.1 = some .int) k hk]
      show Value.int (I a k) = _
      rw [hI]
    rw [hfv]
    refine hsl9 _ _ (b4 k hk) (fun n dsc cf kf fi fd hf9 hn9 => ?_)
    obtain ⟨cf', kf', fi', fd', hi', hsl'⟩ := hK17.1 k hk
    rw [← hsl']
    have hlay' := u_lays hts in_XF hk
    have hnm' : fd'.name = (TXF k).2.1 := (State.fieldFound?_type hi' ((by decide +kernel : ∀ k, k < 2 → parseFieldDescriptor (TXF k).2.2.1 = some FieldType.int) k hk)).1
    have hne' : (TXF k).2.1 ≠ "cause" ∧ (TXF k).2.1 ≠ "stackTrace" ∧ (TXF k).2.1 ≠ "suppressedExceptions" := (by decide +kernel : ∀ k, k < 2 → (TXF k).2.1 ≠ "cause" ∧ (TXF k).2.1 ≠ "stackTrace" ∧ (TXF k).2.1 ≠ "suppressedExceptions") k hk
    have hf9' : s.fieldFound? Bundle.tN n dsc = some (cf, kf, fi, fd) := hf9
    rcases hn9 with ⟨rfl, rfl⟩ | ⟨rfl, rfl⟩ | ⟨rfl, rfl⟩
    · refine u_apart (Or.inl (hts _ q1042)) hlay' hf9' hi' ?_
      rw [hnm', (State.fieldFound?_type hf9' (show parseFieldDescriptor "Ljava/lang/Throwable;" = some (.object "java/lang/Throwable") from by decide +kernel)).1]
      exact Ne.symm hne'.1
    · refine u_apart (Or.inl (hts _ q1043)) hlay' hf9' hi' ?_
      rw [hnm', (State.fieldFound?_type hf9' (show parseFieldDescriptor Bundle.steD = some (.array (.object "java/lang/StackTraceElement")) from by decide +kernel)).1]
      exact Ne.symm hne'.2.1
    · refine u_apart (Or.inl (hts _ q1044)) hlay' hf9' hi' ?_
      rw [hnm', (State.fieldFound?_type hf9' (show parseFieldDescriptor Bundle.listD = some (.object "java/util/List") from by decide +kernel)).1]
      exact Ne.symm hne'.2.2
  have used : ∀ b, (row T a (117, 0) b).1 ≠ 0 ↔ (T b).1 ≠ 0 := fun b => by
    by_cases eb : b = a
    · subst eb; rw [row_s, hT]; exact ⟨fun _ => by decide, fun _ => by decide⟩
    · rw [row_n eb]
  have live : ∀ b, 1 < (row T a (117, 0) b).1 → 1 < (T b).1 := fun b => by
    by_cases eb : b = a
    · subst eb; rw [hT]; exact fun _ => by decide
    · rw [row_n eb]; exact id
  have hP' : HP D z0 ρ (row T a (117, 0)) I R J s (V.setCell (ρ a) ce).heap := by
    refine ⟨fun b => ?_, fun b c hb hc => hR.1.2.1 b c (live b hb) (live c hc), fun b k c hb hbc => (used c).mpr (hR.1.2.2 b k c ((used b).mp hb) hbc)⟩
    by_cases eb : b = a
    · subst eb
      intro _
      rw [row_s]
      refine ⟨ce, e1, h2, by rw [hvm9]; rfl, by rw [hvm9]; exact (fun z => by cases z), fun _ => ⟨hvm9, fun z => absurd z (by decide)⟩, fun ty hty => absurd (show none = some ty from hty) (fun z => by cases z), fun C hC => absurd (show none = some C from hC) (fun z => by cases z), fun ci q hci hq => ?_⟩
      have : ci = 17 := by dsimp only at hci; omega
      subst this
      cases hq
      exact ⟨by rw [hcl9, hc17], hslots⟩
    · intro hb
      have hb' := live b hb
      exact (hR.1.1 b).keep (row_n eb) rfl rfl rfl (fun _ => rfl) (o1 _ (fun z => eb (hR.1.2.1 b a hb' (by rw [hT]; exact Nat.le_of_ble_eq_true rfl) z))) hb
  have hE' : Ext ρ T ρ (row T a (117, 0)) := fun b hb => ⟨(used b).mpr hb, rfl⟩
  obtain ⟨t, a1, b1⟩ := h ρ (V.setCell (ρ a) ce).heap (locs ++ ([] ++ L)) (cells + 0) (slots + 0) lsA (by omega) (by omega) (hR.step hP' hE' (by omega) (fun q _ hq => o1 q (fun z => hq (by rw [z]; exact hz)))) ⟨by rw [z1]; exact hS.1, fun q g1 g2 => by
      rw [o1 q (fun z => g2 (by rw [z]; exact hz))]
      exact hS.2.1 q g1 g2, fun q hq => by
      rcases List.mem_append.mp hq with h | h
      · exact hS.2.2 q h
      · rw [List.nil_append] at h
        show z0 ≤ q.base
        rw [hLb q h]; exact hz⟩ (hE.trans hE') (hE'.wfs hl') (hE'.wfs hs.2) (hL.ext hE' hl') _ rfl X6
  exact ⟨t, st9 t a1, b1⟩
end AMX
