/-! AM 3: the judgement, and a rule an opcode (written by src/gen05c.py) -/
set_option maxRecDepth 100000
abbrev CxT : Type := Program × Launch × Env × Room × State × MethodId × Array Value × List Frame × Method × Code × va_G × Nat × (Nat → Nat) × KT × (State → Prop)
def FC (cx : CxT) (d : Nat) (y : MethodName) (cc : ByteArray) (nL : Nat) (ret : Option FieldType) (hh : List (Nat × Nat × Nat × Nat)) : Prop := match cx with
  | (p, l, e, Rm, s, m, args, below, meth, c, D, z0, ρ0, T0, PQ) => p.tables.exec = Jvm.exec ∧ c.code = cc ∧ meth.sig.returnType = ret ∧ c.maxLocals = nL ∧ s.vm.findClass y.cls = some m.cls ∧ meth.name = y.name ∧ (∀ w ∈ lw_all, w.before args s = true) ∧ meth.locks = false ∧ c.exceptionTable.toList = tableOf hh ∧ l.stackTraces = false ∧ d ≤ Rm.frames ∧ 64 * d + 200 ≤ Rm.locals ∧ z0 ≤ s.heap.size ∧ CX D s
/-- at pc, with locals ls, stack st, the memory T I R J, and room for b cells more, the method ends as its PQ says -/
def AW (cx : CxT) (b pc : Nat) (ls st : List Value) (T : KT) (I : KI) (R : KR) (J : KJ) : Prop := match cx with
  | (p, l, e, Rm, s, m, args, below, meth, c, D, z0, ρ0, T0, PQ) => ∀ (ρ : Nat → Nat) (H : Heap) (locs : List Loc) (cells slots : Nat) (lsA : Array Slot), cells + b ≤ Rm.cells → slots + 4 * b ≤ Rm.slots → RL D z0 ρ T I R J s H → va_S (stZ z0) s.heap H locs → Ext ρ0 T0 ρ T → WFs T ls → WFs T st → LV ρ lsA c.maxLocals ls → W p l e Rm s m args below meth c H locs cells slots PQ (F0 m pc lsA (st.map (cv ρ)))
def AX (cx : CxT) (b pc : Nat) (ls : List Value) (a : Nat) (T : KT) (I : KI) (R : KR) (J : KJ) : Prop := match cx with
  | (p, l, e, Rm, s, m, args, below, meth, c, D, z0, ρ0, T0, PQ) => ∀ (ρ : Nat → Nat) (H : Heap) (locs : List Loc) (cells slots : Nat) (lsA : Array Slot) (rest : List Value), cells + b ≤ Rm.cells → slots + 4 * b ≤ Rm.slots → RL D z0 ρ T I R J s H → va_S (stZ z0) s.heap H locs → Ext ρ0 T0 ρ T → WFs T ls → (T a).1 ≠ 0 → LV ρ lsA c.maxLocals ls → vx_W p l e Rm s m args below meth c H locs cells slots PQ (F0 m pc lsA rest) (ρ a)
section AWR
variable {cx : CxT} {d b pc nL : Nat} {y : MethodName} {cc : ByteArray} {ret : Option FieldType} {hh : List (Nat × Nat × Nat × Nat)} {ls st : List Value} {T : KT} {I : KI} {R : KR} {J : KJ}
theorem WFs.get : ∀ {ls : List Value} {T : KT} {i : Nat} {v : Value}, WFs T ls → ls[i]? = some v → wfv T v
  | [], _, _, _, _, h => by simp at h
  | x :: xs, T, 0, v, hw, h => by
    simp at h
    rw [← h]
    exact hw.1
  | x :: xs, T, i + 1, v, hw, h => WFs.get (ls := xs) hw.2 (by simpa using h)
theorem WFs.set : ∀ {ls : List Value} {T : KT} {i : Nat} {v : Value}, WFs T ls → wfv T v → WFs T (ls.set i v)
  | [], _, _, _, _, _ => trivial
  | x :: xs, T, 0, v, hw, h => ⟨h, hw.2⟩
  | x :: xs, T, i + 1, v, hw, h => ⟨hw.1, WFs.set (ls := xs) hw.2 h⟩
theorem AW.le {b' : Nat} (hb : b' ≤ b) (h : AW cx b' pc ls st T I R J) : AW cx b pc ls st T I R J := by
  obtain ⟨p, l, e, Rm, s, m, args, below, meth, c, D, z0, ρ0, T0, PQ⟩ := cx
  intro ρ H locs cells slots lsA hk hn
  exact h ρ H locs cells slots lsA (by omega) (by omega)
theorem AW.iadd (X : FC cx d y cc nL ret hh) {x z : Int32} (dd : decode cc pc = .ok (.iadd, 1))  (h : AW cx b (pc + 1) ls (.int (x + z) :: st) T I R J) : AW cx b pc ls (.int z :: .int x :: st) T I R J := by
  obtain ⟨p, l, e, Rm, s, m, args, below, meth, c, D, z0, ρ0, T0, PQ⟩ := cx
  obtain ⟨hx, hb, -⟩ := X
  intro ρ H locs cells slots lsA hk hn hR hS hE hl hs hL
  exact lv_iadd hx hb dd  (h ρ H locs cells slots lsA hk hn hR hS hE hl ⟨trivial, hs.2.2⟩ hL)
theorem AW.isub (X : FC cx d y cc nL ret hh) {x z : Int32} (dd : decode cc pc = .ok (.isub, 1))  (h : AW cx b (pc + 1) ls (.int (x - z) :: st) T I R J) : AW cx b pc ls (.int z :: .int x :: st) T I R J := by
  obtain ⟨p, l, e, Rm, s, m, args, below, meth, c, D, z0, ρ0, T0, PQ⟩ := cx
  obtain ⟨hx, hb, -⟩ := X
  intro ρ H locs cells slots lsA hk hn hR hS hE hl hs hL
  exact lv_isub hx hb dd  (h ρ H locs cells slots lsA hk hn hR hS hE hl ⟨trivial, hs.2.2⟩ hL)
theorem AW.imul (X : FC cx d y cc nL ret hh) {x z : Int32} (dd : decode cc pc = .ok (.imul, 1))  (h : AW cx b (pc + 1) ls (.int (x * z) :: st) T I R J) : AW cx b pc ls (.int z :: .int x :: st) T I R J := by
  obtain ⟨p, l, e, Rm, s, m, args, below, meth, c, D, z0, ρ0, T0, PQ⟩ := cx
  obtain ⟨hx, hb, -⟩ := X
  intro ρ H locs cells slots lsA hk hn hR hS hE hl hs hL
  exact lv_imul hx hb dd  (h ρ H locs cells slots lsA hk hn hR hS hE hl ⟨trivial, hs.2.2⟩ hL)
theorem AW.iand (X : FC cx d y cc nL ret hh) {x z : Int32} (dd : decode cc pc = .ok (.iand, 1))  (h : AW cx b (pc + 1) ls (.int (x &&& z) :: st) T I R J) : AW cx b pc ls (.int z :: .int x :: st) T I R J := by
  obtain ⟨p, l, e, Rm, s, m, args, below, meth, c, D, z0, ρ0, T0, PQ⟩ := cx
  obtain ⟨hx, hb, -⟩ := X
  intro ρ H locs cells slots lsA hk hn hR hS hE hl hs hL
  exact lv_iand hx hb dd  (h ρ H locs cells slots lsA hk hn hR hS hE hl ⟨trivial, hs.2.2⟩ hL)
theorem AW.ior (X : FC cx d y cc nL ret hh) {x z : Int32} (dd : decode cc pc = .ok (.ior, 1))  (h : AW cx b (pc + 1) ls (.int (x ||| z) :: st) T I R J) : AW cx b pc ls (.int z :: .int x :: st) T I R J := by
  obtain ⟨p, l, e, Rm, s, m, args, below, meth, c, D, z0, ρ0, T0, PQ⟩ := cx
  obtain ⟨hx, hb, -⟩ := X
  intro ρ H locs cells slots lsA hk hn hR hS hE hl hs hL
  exact lv_ior hx hb dd  (h ρ H locs cells slots lsA hk hn hR hS hE hl ⟨trivial, hs.2.2⟩ hL)
theorem AW.ishl (X : FC cx d y cc nL ret hh) {x z : Int32} (dd : decode cc pc = .ok (.ishl, 1))  (h : AW cx b (pc + 1) ls (.int (x <<< (z &&& 31)) :: st) T I R J) : AW cx b pc ls (.int z :: .int x :: st) T I R J := by
  obtain ⟨p, l, e, Rm, s, m, args, below, meth, c, D, z0, ρ0, T0, PQ⟩ := cx
  obtain ⟨hx, hb, -⟩ := X
  intro ρ H locs cells slots lsA hk hn hR hS hE hl hs hL
  exact lv_ishl hx hb dd  (h ρ H locs cells slots lsA hk hn hR hS hE hl ⟨trivial, hs.2.2⟩ hL)
theorem AW.ishr (X : FC cx d y cc nL ret hh) {x z : Int32} (dd : decode cc pc = .ok (.ishr, 1))  (h : AW cx b (pc + 1) ls (.int (x >>> (z &&& 31)) :: st) T I R J) : AW cx b pc ls (.int z :: .int x :: st) T I R J := by
  obtain ⟨p, l, e, Rm, s, m, args, below, meth, c, D, z0, ρ0, T0, PQ⟩ := cx
  obtain ⟨hx, hb, -⟩ := X
  intro ρ H locs cells slots lsA hk hn hR hS hE hl hs hL
  exact lv_ishr hx hb dd  (h ρ H locs cells slots lsA hk hn hR hS hE hl ⟨trivial, hs.2.2⟩ hL)
theorem AW.idiv (X : FC cx d y cc nL ret hh) {x z : Int32} (dd : decode cc pc = .ok (.idiv, 1)) (hne : ¬ z = 0) (h : AW cx b (pc + 1) ls (.int (x / z) :: st) T I R J) : AW cx b pc ls (.int z :: .int x :: st) T I R J := by
  obtain ⟨p, l, e, Rm, s, m, args, below, meth, c, D, z0, ρ0, T0, PQ⟩ := cx
  obtain ⟨hx, hb, -⟩ := X
  intro ρ H locs cells slots lsA hk hn hR hS hE hl hs hL
  exact lv_idiv hx hb dd hne (h ρ H locs cells slots lsA hk hn hR hS hE hl ⟨trivial, hs.2.2⟩ hL)
theorem AW.irem (X : FC cx d y cc nL ret hh) {x z : Int32} (dd : decode cc pc = .ok (.irem, 1)) (hne : ¬ z = 0) (h : AW cx b (pc + 1) ls (.int (x - x / z * z) :: st) T I R J) : AW cx b pc ls (.int z :: .int x :: st) T I R J := by
  obtain ⟨p, l, e, Rm, s, m, args, below, meth, c, D, z0, ρ0, T0, PQ⟩ := cx
  obtain ⟨hx, hb, -⟩ := X
  intro ρ H locs cells slots lsA hk hn hR hS hE hl hs hL
  exact lv_irem hx hb dd hne (h ρ H locs cells slots lsA hk hn hR hS hE hl ⟨trivial, hs.2.2⟩ hL)
theorem AW.ineg (X : FC cx d y cc nL ret hh) {x : Int32} (dd : decode cc pc = .ok (.ineg, 1))  (h : AW cx b (pc + 1) ls (.int (-x) :: st) T I R J) : AW cx b pc ls (.int x :: st) T I R J := by
  obtain ⟨p, l, e, Rm, s, m, args, below, meth, c, D, z0, ρ0, T0, PQ⟩ := cx
  obtain ⟨hx, hb, -⟩ := X
  intro ρ H locs cells slots lsA hk hn hR hS hE hl hs hL
  exact lv_ineg hx hb dd  (h ρ H locs cells slots lsA hk hn hR hS hE hl ⟨trivial, hs.2⟩ hL)
theorem AW.i2l (X : FC cx d y cc nL ret hh) {x : Int32} (dd : decode cc pc = .ok (.i2l, 1))  (h : AW cx b (pc + 1) ls (.long x.toInt64 :: st) T I R J) : AW cx b pc ls (.int x :: st) T I R J := by
  obtain ⟨p, l, e, Rm, s, m, args, below, meth, c, D, z0, ρ0, T0, PQ⟩ := cx
  obtain ⟨hx, hb, -⟩ := X
  intro ρ H locs cells slots lsA hk hn hR hS hE hl hs hL
  exact lv_i2l hx hb dd rfl (h ρ H locs cells slots lsA hk hn hR hS hE hl ⟨trivial, hs.2⟩ hL)
theorem AW.i2b (X : FC cx d y cc nL ret hh) {x : Int32} (dd : decode cc pc = .ok (.i2b, 1))  (h : AW cx b (pc + 1) ls (.int x.toInt8.toInt32 :: st) T I R J) : AW cx b pc ls (.int x :: st) T I R J := by
  obtain ⟨p, l, e, Rm, s, m, args, below, meth, c, D, z0, ρ0, T0, PQ⟩ := cx
  obtain ⟨hx, hb, -⟩ := X
  intro ρ H locs cells slots lsA hk hn hR hS hE hl hs hL
  exact lv_i2b hx hb dd rfl (h ρ H locs cells slots lsA hk hn hR hS hE hl ⟨trivial, hs.2⟩ hL)
theorem AW.i2c (X : FC cx d y cc nL ret hh) {x : Int32} (dd : decode cc pc = .ok (.i2c, 1))  (h : AW cx b (pc + 1) ls (.int (x.toUInt32 % 65536).toInt32 :: st) T I R J) : AW cx b pc ls (.int x :: st) T I R J := by
  obtain ⟨p, l, e, Rm, s, m, args, below, meth, c, D, z0, ρ0, T0, PQ⟩ := cx
  obtain ⟨hx, hb, -⟩ := X
  intro ρ H locs cells slots lsA hk hn hR hS hE hl hs hL
  exact lv_i2c hx hb dd rfl (h ρ H locs cells slots lsA hk hn hR hS hE hl ⟨trivial, hs.2⟩ hL)
theorem AW.lcmp (X : FC cx d y cc nL ret hh) {x z : Int64} (dd : decode cc pc = .ok (.lcmp, 1))  (h : AW cx b (pc + 1) ls (.int (lg_cmp x z) :: st) T I R J) : AW cx b pc ls (.long z :: .long x :: st) T I R J := by
  obtain ⟨p, l, e, Rm, s, m, args, below, meth, c, D, z0, ρ0, T0, PQ⟩ := cx
  obtain ⟨hx, hb, -⟩ := X
  intro ρ H locs cells slots lsA hk hn hR hS hE hl hs hL
  exact W.lcmp hx hb dd  (h ρ H locs cells slots lsA hk hn hR hS hE hl ⟨trivial, hs.2.2⟩ hL)
theorem AW.iconst (X : FC cx d y cc nL ret hh) {n : Int} {v : Int32} (dd : decode cc pc = .ok (.iconst n, 1)) (hv : Int32.ofInt n = v) (h : AW cx b (pc + 1) ls (.int v :: st) T I R J) : AW cx b pc ls (st) T I R J := by
  obtain ⟨p, l, e, Rm, s, m, args, below, meth, c, D, z0, ρ0, T0, PQ⟩ := cx
  obtain ⟨hx, hb, -⟩ := X
  intro ρ H locs cells slots lsA hk hn hR hS hE hl hs hL
  exact lv_iconst hx hb dd hv (h ρ H locs cells slots lsA hk hn hR hS hE hl ⟨trivial, hs⟩ hL)
theorem AW.bipush (X : FC cx d y cc nL ret hh) {n : Int} {v : Int32} (dd : decode cc pc = .ok (.bipush n, 2)) (hv : (Int8.ofInt n).toInt32 = v) (h : AW cx b (pc + 2) ls (.int v :: st) T I R J) : AW cx b pc ls (st) T I R J := by
  obtain ⟨p, l, e, Rm, s, m, args, below, meth, c, D, z0, ρ0, T0, PQ⟩ := cx
  obtain ⟨hx, hb, -⟩ := X
  intro ρ H locs cells slots lsA hk hn hR hS hE hl hs hL
  exact lv_bipush hx hb dd hv (h ρ H locs cells slots lsA hk hn hR hS hE hl ⟨trivial, hs⟩ hL)
theorem AW.sipush (X : FC cx d y cc nL ret hh) {n : Int} {v : Int32} (dd : decode cc pc = .ok (.sipush n, 3)) (hv : (Int16.ofInt n).toInt32 = v) (h : AW cx b (pc + 3) ls (.int v :: st) T I R J) : AW cx b pc ls (st) T I R J := by
  obtain ⟨p, l, e, Rm, s, m, args, below, meth, c, D, z0, ρ0, T0, PQ⟩ := cx
  obtain ⟨hx, hb, -⟩ := X
  intro ρ H locs cells slots lsA hk hn hR hS hE hl hs hL
  exact lv_sipush hx hb dd hv (h ρ H locs cells slots lsA hk hn hR hS hE hl ⟨trivial, hs⟩ hL)
theorem AW.aconst_null (X : FC cx d y cc nL ret hh)  (dd : decode cc pc = .ok (.aconst_null, 1))  (h : AW cx b (pc + 1) ls (.null :: st) T I R J) : AW cx b pc ls (st) T I R J := by
  obtain ⟨p, l, e, Rm, s, m, args, below, meth, c, D, z0, ρ0, T0, PQ⟩ := cx
  obtain ⟨hx, hb, -⟩ := X
  intro ρ H locs cells slots lsA hk hn hR hS hE hl hs hL
  exact lv_null hx hb dd  (h ρ H locs cells slots lsA hk hn hR hS hE hl ⟨trivial, hs⟩ hL)
theorem AW.dup (X : FC cx d y cc nL ret hh) {v : Value} (dd : decode cc pc = .ok (.dup, 1)) (hv : v.category = 1) (h : AW cx b (pc + 1) ls (v :: v :: st) T I R J) : AW cx b pc ls (v :: st) T I R J := by
  obtain ⟨p, l, e, Rm, s, m, args, below, meth, c, D, z0, ρ0, T0, PQ⟩ := cx
  obtain ⟨hx, hb, -⟩ := X
  intro ρ H locs cells slots lsA hk hn hR hS hE hl hs hL
  exact lv_dup hx hb dd (by rw [cv_cat]; exact hv) (h ρ H locs cells slots lsA hk hn hR hS hE hl ⟨hs.1, hs⟩ hL)
theorem AW.dup2 (X : FC cx d y cc nL ret hh) {v u : Value} (dd : decode cc pc = .ok (.dup2, 1)) (hv : v.category = 1) (hu : u.category = 1) (h : AW cx b (pc + 1) ls (v :: u :: v :: u :: st) T I R J) : AW cx b pc ls (v :: u :: st) T I R J := by
  obtain ⟨p, l, e, Rm, s, m, args, below, meth, c, D, z0, ρ0, T0, PQ⟩ := cx
  obtain ⟨hx, hb, -⟩ := X
  intro ρ H locs cells slots lsA hk hn hR hS hE hl hs hL
  exact lv_dup2_11 hx hb dd (by rw [cv_cat]; exact hv) (by rw [cv_cat]; exact hu) (h ρ H locs cells slots lsA hk hn hR hS hE hl ⟨hs.1, hs.2.1, hs⟩ hL)
theorem AW.dup_x1 (X : FC cx d y cc nL ret hh) {v u : Value} (dd : decode cc pc = .ok (.dup_x1, 1)) (hv : v.category = 1) (hu : u.category = 1) (h : AW cx b (pc + 1) ls (v :: u :: v :: st) T I R J) : AW cx b pc ls (v :: u :: st) T I R J := by
  obtain ⟨p, l, e, Rm, s, m, args, below, meth, c, D, z0, ρ0, T0, PQ⟩ := cx
  obtain ⟨hx, hb, -⟩ := X
  intro ρ H locs cells slots lsA hk hn hR hS hE hl hs hL
  exact lv_dup_x1 hx hb dd (by rw [cv_cat]; exact hv) (by rw [cv_cat]; exact hu) (h ρ H locs cells slots lsA hk hn hR hS hE hl ⟨hs.1, hs.2.1, hs.1, hs.2.2⟩ hL)
theorem AW.pop (X : FC cx d y cc nL ret hh) {v : Value} (dd : decode cc pc = .ok (.pop, 1)) (hv : v.category = 1) (h : AW cx b (pc + 1) ls (st) T I R J) : AW cx b pc ls (v :: st) T I R J := by
  obtain ⟨p, l, e, Rm, s, m, args, below, meth, c, D, z0, ρ0, T0, PQ⟩ := cx
  obtain ⟨hx, hb, -⟩ := X
  intro ρ H locs cells slots lsA hk hn hR hS hE hl hs hL
  exact lv_pop hx hb dd (by rw [cv_cat]; exact hv) (h ρ H locs cells slots lsA hk hn hR hS hE hl hs.2 hL)
theorem AW.goto (X : FC cx d y cc nL ret hh) {off : Int} {tgt : Nat} (dd : decode cc pc = .ok (.goto off, 3)) (ht : (pc : Int) + off = (tgt : Int)) (h : AW cx b tgt ls st T I R J) : AW cx b pc ls st T I R J := by
  obtain ⟨p, l, e, Rm, s, m, args, below, meth, c, D, z0, ρ0, T0, PQ⟩ := cx
  obtain ⟨hx, hb, -⟩ := X
  intro ρ H locs cells slots lsA hk hn hR hS hE hl hs hL
  exact lv_goto hx hb dd ht (h ρ H locs cells slots lsA hk hn hR hS hE hl hs hL)
theorem AW.if_eq (X : FC cx d y cc nL ret hh) {x : Int32} {off : Int} {tgt : Nat} (dd : decode cc pc = .ok (.ifCond .eq off, 3)) (ht : (pc : Int) + off = (tgt : Int)) (kt : x = 0 → AW cx b tgt ls st T I R J) (kf : ¬ x = 0 → AW cx b (pc + 3) ls st T I R J) : AW cx b pc ls (.int x :: st) T I R J := by
  obtain ⟨p, l, e, Rm, s, m, args, below, meth, c, D, z0, ρ0, T0, PQ⟩ := cx
  obtain ⟨hx, hb, -⟩ := X
  intro ρ H locs cells slots lsA hk hn hR hS hE hl hs hL
  exact lv_if_eq hx hb dd ht (fun q => kt q ρ H locs cells slots lsA hk hn hR hS hE hl hs.2 hL) (fun q => kf q ρ H locs cells slots lsA hk hn hR hS hE hl hs.2 hL)
theorem AW.icmp_eq (X : FC cx d y cc nL ret hh) {x z : Int32} {off : Int} {tgt : Nat} (dd : decode cc pc = .ok (.if_icmp .eq off, 3)) (ht : (pc : Int) + off = (tgt : Int)) (kt : x = z → AW cx b tgt ls st T I R J) (kf : ¬ x = z → AW cx b (pc + 3) ls st T I R J) : AW cx b pc ls (.int z :: .int x :: st) T I R J := by
  obtain ⟨p, l, e, Rm, s, m, args, below, meth, c, D, z0, ρ0, T0, PQ⟩ := cx
  obtain ⟨hx, hb, -⟩ := X
  intro ρ H locs cells slots lsA hk hn hR hS hE hl hs hL
  exact lv_icmp_eq hx hb dd ht (fun q => kt q ρ H locs cells slots lsA hk hn hR hS hE hl hs.2.2 hL) (fun q => kf q ρ H locs cells slots lsA hk hn hR hS hE hl hs.2.2 hL)
theorem AW.if_ne (X : FC cx d y cc nL ret hh) {x : Int32} {off : Int} {tgt : Nat} (dd : decode cc pc = .ok (.ifCond .ne off, 3)) (ht : (pc : Int) + off = (tgt : Int)) (kt : ¬ x = 0 → AW cx b tgt ls st T I R J) (kf : x = 0 → AW cx b (pc + 3) ls st T I R J) : AW cx b pc ls (.int x :: st) T I R J := by
  obtain ⟨p, l, e, Rm, s, m, args, below, meth, c, D, z0, ρ0, T0, PQ⟩ := cx
  obtain ⟨hx, hb, -⟩ := X
  intro ρ H locs cells slots lsA hk hn hR hS hE hl hs hL
  exact lv_if_ne hx hb dd ht (fun q => kt q ρ H locs cells slots lsA hk hn hR hS hE hl hs.2 hL) (fun q => kf q ρ H locs cells slots lsA hk hn hR hS hE hl hs.2 hL)
theorem AW.icmp_ne (X : FC cx d y cc nL ret hh) {x z : Int32} {off : Int} {tgt : Nat} (dd : decode cc pc = .ok (.if_icmp .ne off, 3)) (ht : (pc : Int) + off = (tgt : Int)) (kt : ¬ x = z → AW cx b tgt ls st T I R J) (kf : x = z → AW cx b (pc + 3) ls st T I R J) : AW cx b pc ls (.int z :: .int x :: st) T I R J := by
  obtain ⟨p, l, e, Rm, s, m, args, below, meth, c, D, z0, ρ0, T0, PQ⟩ := cx
  obtain ⟨hx, hb, -⟩ := X
  intro ρ H locs cells slots lsA hk hn hR hS hE hl hs hL
  exact lv_icmp_ne hx hb dd ht (fun q => kt q ρ H locs cells slots lsA hk hn hR hS hE hl hs.2.2 hL) (fun q => kf q ρ H locs cells slots lsA hk hn hR hS hE hl hs.2.2 hL)
theorem AW.if_lt (X : FC cx d y cc nL ret hh) {x : Int32} {off : Int} {tgt : Nat} (dd : decode cc pc = .ok (.ifCond .lt off, 3)) (ht : (pc : Int) + off = (tgt : Int)) (kt : x < 0 → AW cx b tgt ls st T I R J) (kf : ¬ x < 0 → AW cx b (pc + 3) ls st T I R J) : AW cx b pc ls (.int x :: st) T I R J := by
  obtain ⟨p, l, e, Rm, s, m, args, below, meth, c, D, z0, ρ0, T0, PQ⟩ := cx
  obtain ⟨hx, hb, -⟩ := X
  intro ρ H locs cells slots lsA hk hn hR hS hE hl hs hL
  exact lv_if_lt hx hb dd ht (fun q => kt q ρ H locs cells slots lsA hk hn hR hS hE hl hs.2 hL) (fun q => kf q ρ H locs cells slots lsA hk hn hR hS hE hl hs.2 hL)
theorem AW.icmp_lt (X : FC cx d y cc nL ret hh) {x z : Int32} {off : Int} {tgt : Nat} (dd : decode cc pc = .ok (.if_icmp .lt off, 3)) (ht : (pc : Int) + off = (tgt : Int)) (kt : x < z → AW cx b tgt ls st T I R J) (kf : ¬ x < z → AW cx b (pc + 3) ls st T I R J) : AW cx b pc ls (.int z :: .int x :: st) T I R J := by
  obtain ⟨p, l, e, Rm, s, m, args, below, meth, c, D, z0, ρ0, T0, PQ⟩ := cx
  obtain ⟨hx, hb, -⟩ := X
  intro ρ H locs cells slots lsA hk hn hR hS hE hl hs hL
  exact lv_icmp_lt hx hb dd ht (fun q => kt q ρ H locs cells slots lsA hk hn hR hS hE hl hs.2.2 hL) (fun q => kf q ρ H locs cells slots lsA hk hn hR hS hE hl hs.2.2 hL)
theorem AW.if_ge (X : FC cx d y cc nL ret hh) {x : Int32} {off : Int} {tgt : Nat} (dd : decode cc pc = .ok (.ifCond .ge off, 3)) (ht : (pc : Int) + off = (tgt : Int)) (kt : 0 ≤ x → AW cx b tgt ls st T I R J) (kf : ¬ 0 ≤ x → AW cx b (pc + 3) ls st T I R J) : AW cx b pc ls (.int x :: st) T I R J := by
  obtain ⟨p, l, e, Rm, s, m, args, below, meth, c, D, z0, ρ0, T0, PQ⟩ := cx
  obtain ⟨hx, hb, -⟩ := X
  intro ρ H locs cells slots lsA hk hn hR hS hE hl hs hL
  exact lv_if_ge hx hb dd ht (fun q => kt q ρ H locs cells slots lsA hk hn hR hS hE hl hs.2 hL) (fun q => kf q ρ H locs cells slots lsA hk hn hR hS hE hl hs.2 hL)
theorem AW.icmp_ge (X : FC cx d y cc nL ret hh) {x z : Int32} {off : Int} {tgt : Nat} (dd : decode cc pc = .ok (.if_icmp .ge off, 3)) (ht : (pc : Int) + off = (tgt : Int)) (kt : z ≤ x → AW cx b tgt ls st T I R J) (kf : ¬ z ≤ x → AW cx b (pc + 3) ls st T I R J) : AW cx b pc ls (.int z :: .int x :: st) T I R J := by
  obtain ⟨p, l, e, Rm, s, m, args, below, meth, c, D, z0, ρ0, T0, PQ⟩ := cx
  obtain ⟨hx, hb, -⟩ := X
  intro ρ H locs cells slots lsA hk hn hR hS hE hl hs hL
  exact lv_icmp_ge hx hb dd ht (fun q => kt q ρ H locs cells slots lsA hk hn hR hS hE hl hs.2.2 hL) (fun q => kf q ρ H locs cells slots lsA hk hn hR hS hE hl hs.2.2 hL)
theorem AW.if_gt (X : FC cx d y cc nL ret hh) {x : Int32} {off : Int} {tgt : Nat} (dd : decode cc pc = .ok (.ifCond .gt off, 3)) (ht : (pc : Int) + off = (tgt : Int)) (kt : 0 < x → AW cx b tgt ls st T I R J) (kf : ¬ 0 < x → AW cx b (pc + 3) ls st T I R J) : AW cx b pc ls (.int x :: st) T I R J := by
  obtain ⟨p, l, e, Rm, s, m, args, below, meth, c, D, z0, ρ0, T0, PQ⟩ := cx
  obtain ⟨hx, hb, -⟩ := X
  intro ρ H locs cells slots lsA hk hn hR hS hE hl hs hL
  exact lv_if_gt hx hb dd ht (fun q => kt q ρ H locs cells slots lsA hk hn hR hS hE hl hs.2 hL) (fun q => kf q ρ H locs cells slots lsA hk hn hR hS hE hl hs.2 hL)
theorem AW.icmp_gt (X : FC cx d y cc nL ret hh) {x z : Int32} {off : Int} {tgt : Nat} (dd : decode cc pc = .ok (.if_icmp .gt off, 3)) (ht : (pc : Int) + off = (tgt : Int)) (kt : z < x → AW cx b tgt ls st T I R J) (kf : ¬ z < x → AW cx b (pc + 3) ls st T I R J) : AW cx b pc ls (.int z :: .int x :: st) T I R J := by
  obtain ⟨p, l, e, Rm, s, m, args, below, meth, c, D, z0, ρ0, T0, PQ⟩ := cx
  obtain ⟨hx, hb, -⟩ := X
  intro ρ H locs cells slots lsA hk hn hR hS hE hl hs hL
  exact lv_icmp_gt hx hb dd ht (fun q => kt q ρ H locs cells slots lsA hk hn hR hS hE hl hs.2.2 hL) (fun q => kf q ρ H locs cells slots lsA hk hn hR hS hE hl hs.2.2 hL)
theorem AW.if_le (X : FC cx d y cc nL ret hh) {x : Int32} {off : Int} {tgt : Nat} (dd : decode cc pc = .ok (.ifCond .le off, 3)) (ht : (pc : Int) + off = (tgt : Int)) (kt : x ≤ 0 → AW cx b tgt ls st T I R J) (kf : ¬ x ≤ 0 → AW cx b (pc + 3) ls st T I R J) : AW cx b pc ls (.int x :: st) T I R J := by
  obtain ⟨p, l, e, Rm, s, m, args, below, meth, c, D, z0, ρ0, T0, PQ⟩ := cx
  obtain ⟨hx, hb, -⟩ := X
  intro ρ H locs cells slots lsA hk hn hR hS hE hl hs hL
  exact lv_if_le hx hb dd ht (fun q => kt q ρ H locs cells slots lsA hk hn hR hS hE hl hs.2 hL) (fun q => kf q ρ H locs cells slots lsA hk hn hR hS hE hl hs.2 hL)
theorem AW.icmp_le (X : FC cx d y cc nL ret hh) {x z : Int32} {off : Int} {tgt : Nat} (dd : decode cc pc = .ok (.if_icmp .le off, 3)) (ht : (pc : Int) + off = (tgt : Int)) (kt : x ≤ z → AW cx b tgt ls st T I R J) (kf : ¬ x ≤ z → AW cx b (pc + 3) ls st T I R J) : AW cx b pc ls (.int z :: .int x :: st) T I R J := by
  obtain ⟨p, l, e, Rm, s, m, args, below, meth, c, D, z0, ρ0, T0, PQ⟩ := cx
  obtain ⟨hx, hb, -⟩ := X
  intro ρ H locs cells slots lsA hk hn hR hS hE hl hs hL
  exact lv_icmp_le hx hb dd ht (fun q => kt q ρ H locs cells slots lsA hk hn hR hS hE hl hs.2.2 hL) (fun q => kf q ρ H locs cells slots lsA hk hn hR hS hE hl hs.2.2 hL)
theorem AW.ifnullR (X : FC cx d y cc nL ret hh) {x : Nat} {off : Int} (dd : decode cc pc = .ok (.ifnull off, 3)) (h : AW cx b (pc + 3) ls st T I R J) : AW cx b pc ls (.ref x :: st) T I R J := by
  obtain ⟨p, l, e, Rm, s, m, args, below, meth, c, D, z0, ρ0, T0, PQ⟩ := cx
  obtain ⟨hx, hb, -⟩ := X
  intro ρ H locs cells slots lsA hk hn hR hS hE hl hs hL
  exact lv_ifnull hx hb dd (h ρ H locs cells slots lsA hk hn hR hS hE hl hs.2 hL)
theorem AW.ifnullN (X : FC cx d y cc nL ret hh) {x : Nat} {off : Int} {tgt : Nat} (dd : decode cc pc = .ok (.ifnull off, 3)) (ht : (pc : Int) + off = (tgt : Int)) (h : AW cx b tgt ls st T I R J) : AW cx b pc ls (.null :: st) T I R J := by
  obtain ⟨p, l, e, Rm, s, m, args, below, meth, c, D, z0, ρ0, T0, PQ⟩ := cx
  obtain ⟨hx, hb, -⟩ := X
  intro ρ H locs cells slots lsA hk hn hR hS hE hl hs hL
  exact lv_ifnullN hx hb dd ht (h ρ H locs cells slots lsA hk hn hR hS hE hl hs.2 hL)
theorem AW.ifnonnullR (X : FC cx d y cc nL ret hh) {x : Nat} {off : Int} {tgt : Nat} (dd : decode cc pc = .ok (.ifnonnull off, 3)) (ht : (pc : Int) + off = (tgt : Int)) (h : AW cx b tgt ls st T I R J) : AW cx b pc ls (.ref x :: st) T I R J := by
  obtain ⟨p, l, e, Rm, s, m, args, below, meth, c, D, z0, ρ0, T0, PQ⟩ := cx
  obtain ⟨hx, hb, -⟩ := X
  intro ρ H locs cells slots lsA hk hn hR hS hE hl hs hL
  exact lv_ifnonnull hx hb dd ht (h ρ H locs cells slots lsA hk hn hR hS hE hl hs.2 hL)
theorem AW.ifnonnullN (X : FC cx d y cc nL ret hh) {x : Nat} {off : Int} (dd : decode cc pc = .ok (.ifnonnull off, 3)) (h : AW cx b (pc + 3) ls st T I R J) : AW cx b pc ls (.null :: st) T I R J := by
  obtain ⟨p, l, e, Rm, s, m, args, below, meth, c, D, z0, ρ0, T0, PQ⟩ := cx
  obtain ⟨hx, hb, -⟩ := X
  intro ρ H locs cells slots lsA hk hn hR hS hE hl hs hL
  exact lv_ifnonnullN hx hb dd (h ρ H locs cells slots lsA hk hn hR hS hE hl hs.2 hL)
theorem AW.iload_n (X : FC cx d y cc nL ret hh) {k : Fin 4} {i : Nat} {x : Int32} (dd : decode cc pc = .ok (.iload_n k, 1)) (hi : (k : Nat) = i) (hv : ls[i]? = some (.int x)) (h : AW cx b (pc + 1) ls (.int x :: st) T I R J) : AW cx b pc ls st T I R J := by
  obtain ⟨p, l, e, Rm, s, m, args, below, meth, c, D, z0, ρ0, T0, PQ⟩ := cx
  obtain ⟨hx, hb, -⟩ := X
  intro ρ H locs cells slots lsA hk hn hR hS hE hl hs hL
  exact lv_iload_n hx hb dd hi (hL.2.2.2.2 i _ hv (fun q z => by cases z)) (h ρ H locs cells slots lsA hk hn hR hS hE hl ⟨hl.get hv, hs⟩ hL)
theorem AW.iload (X : FC cx d y cc nL ret hh) {i : Nat} {x : Int32} (dd : decode cc pc = .ok (.iload i, 2)) (hv : ls[i]? = some (.int x)) (h : AW cx b (pc + 2) ls (.int x :: st) T I R J) : AW cx b pc ls st T I R J := by
  obtain ⟨p, l, e, Rm, s, m, args, below, meth, c, D, z0, ρ0, T0, PQ⟩ := cx
  obtain ⟨hx, hb, -⟩ := X
  intro ρ H locs cells slots lsA hk hn hR hS hE hl hs hL
  exact lv_iload hx hb dd (hL.2.2.2.2 i _ hv (fun q z => by cases z)) (h ρ H locs cells slots lsA hk hn hR hS hE hl ⟨hl.get hv, hs⟩ hL)
theorem AW.aload_n (X : FC cx d y cc nL ret hh) {k : Fin 4} {i : Nat} {x : Nat} (dd : decode cc pc = .ok (.aload_n k, 1)) (hi : (k : Nat) = i) (hv : ls[i]? = some (.ref x)) (h : AW cx b (pc + 1) ls (.ref x :: st) T I R J) : AW cx b pc ls st T I R J := by
  obtain ⟨p, l, e, Rm, s, m, args, below, meth, c, D, z0, ρ0, T0, PQ⟩ := cx
  obtain ⟨hx, hb, -⟩ := X
  intro ρ H locs cells slots lsA hk hn hR hS hE hl hs hL
  exact lv_aload_n hx hb dd hi (hL.2.2.2.2 i _ hv (fun q z => by cases z)) (h ρ H locs cells slots lsA hk hn hR hS hE hl ⟨hl.get hv, hs⟩ hL)
theorem AW.aload (X : FC cx d y cc nL ret hh) {i : Nat} {x : Nat} (dd : decode cc pc = .ok (.aload i, 2)) (hv : ls[i]? = some (.ref x)) (h : AW cx b (pc + 2) ls (.ref x :: st) T I R J) : AW cx b pc ls st T I R J := by
  obtain ⟨p, l, e, Rm, s, m, args, below, meth, c, D, z0, ρ0, T0, PQ⟩ := cx
  obtain ⟨hx, hb, -⟩ := X
  intro ρ H locs cells slots lsA hk hn hR hS hE hl hs hL
  exact lv_aload hx hb dd (hL.2.2.2.2 i _ hv (fun q z => by cases z)) (h ρ H locs cells slots lsA hk hn hR hS hE hl ⟨hl.get hv, hs⟩ hL)
theorem AW.aloadN_n (X : FC cx d y cc nL ret hh) {k : Fin 4} {i : Nat}  (dd : decode cc pc = .ok (.aload_n k, 1)) (hi : (k : Nat) = i) (hv : ls[i]? = some (.null)) (h : AW cx b (pc + 1) ls (.null :: st) T I R J) : AW cx b pc ls st T I R J := by
  obtain ⟨p, l, e, Rm, s, m, args, below, meth, c, D, z0, ρ0, T0, PQ⟩ := cx
  obtain ⟨hx, hb, -⟩ := X
  intro ρ H locs cells slots lsA hk hn hR hS hE hl hs hL
  exact lv_aload_nN hx hb dd hi (hL.2.2.2.2 i _ hv (fun q z => by cases z)) (h ρ H locs cells slots lsA hk hn hR hS hE hl ⟨hl.get hv, hs⟩ hL)
theorem AW.aloadN (X : FC cx d y cc nL ret hh) {i : Nat}  (dd : decode cc pc = .ok (.aload i, 2)) (hv : ls[i]? = some (.null)) (h : AW cx b (pc + 2) ls (.null :: st) T I R J) : AW cx b pc ls st T I R J := by
  obtain ⟨p, l, e, Rm, s, m, args, below, meth, c, D, z0, ρ0, T0, PQ⟩ := cx
  obtain ⟨hx, hb, -⟩ := X
  intro ρ H locs cells slots lsA hk hn hR hS hE hl hs hL
  exact lv_aloadN hx hb dd (hL.2.2.2.2 i _ hv (fun q z => by cases z)) (h ρ H locs cells slots lsA hk hn hR hS hE hl ⟨hl.get hv, hs⟩ hL)
theorem AW.istore_gn (X : FC cx d y cc nL ret hh) {k : Fin 4} {i : Nat} {x : Int32} (dd : decode cc pc = .ok (.istore_n k, 1)) (hi : (k : Nat) = i) (hlt : i < ls.length) (h : AW cx b (pc + 1) (ls.set i (.int x)) st T I R J) : AW cx b pc ls (.int x :: st) T I R J := by
  obtain ⟨p, l, e, Rm, s, m, args, below, meth, c, D, z0, ρ0, T0, PQ⟩ := cx
  obtain ⟨hx, hb, -⟩ := X
  intro ρ H locs cells slots lsA hk hn hR hS hE hl hs hL
  have hlt' : i < c.maxLocals := by rw [← hL.2.1]; exact hlt
  exact lv_istore_n hx hb dd hi hL.has hlt' rfl (fun ls' h' => h ρ H locs cells slots ls' hk hn hR hS hE (hl.set hs.1) hs.2 (hL.set rfl (fun z q => by cases q) hlt' h'))
theorem AW.istore_g (X : FC cx d y cc nL ret hh) {i : Nat} {x : Int32} (dd : decode cc pc = .ok (.istore i, 2)) (hlt : i < ls.length) (h : AW cx b (pc + 2) (ls.set i (.int x)) st T I R J) : AW cx b pc ls (.int x :: st) T I R J := by
  obtain ⟨p, l, e, Rm, s, m, args, below, meth, c, D, z0, ρ0, T0, PQ⟩ := cx
  obtain ⟨hx, hb, -⟩ := X
  intro ρ H locs cells slots lsA hk hn hR hS hE hl hs hL
  have hlt' : i < c.maxLocals := by rw [← hL.2.1]; exact hlt
  exact lv_istore hx hb dd hL.has hlt' rfl (fun ls' h' => h ρ H locs cells slots ls' hk hn hR hS hE (hl.set hs.1) hs.2 (hL.set rfl (fun z q => by cases q) hlt' h'))
theorem AW.istore0 (X : FC cx d y cc nL ret hh) {x : Int32} {a0 : Value} {t : List Value} (dd : decode cc pc = .ok (.istore_n 0, 1)) (h : AW cx b (pc + 1) ((.int x) :: t) st T I R J) : AW cx b pc (a0 :: t) (.int x :: st) T I R J := AW.istore_gn X dd rfl (by simp only [List.length_cons]; omega) h
theorem AW.istore1 (X : FC cx d y cc nL ret hh) {x : Int32} {a0 a1 : Value} {t : List Value} (dd : decode cc pc = .ok (.istore_n 1, 1)) (h : AW cx b (pc + 1) (a0 :: (.int x) :: t) st T I R J) : AW cx b pc (a0 :: a1 :: t) (.int x :: st) T I R J := AW.istore_gn X dd rfl (by simp only [List.length_cons]; omega) h
theorem AW.istore2 (X : FC cx d y cc nL ret hh) {x : Int32} {a0 a1 a2 : Value} {t : List Value} (dd : decode cc pc = .ok (.istore_n 2, 1)) (h : AW cx b (pc + 1) (a0 :: a1 :: (.int x) :: t) st T I R J) : AW cx b pc (a0 :: a1 :: a2 :: t) (.int x :: st) T I R J := AW.istore_gn X dd rfl (by simp only [List.length_cons]; omega) h
theorem AW.istore3 (X : FC cx d y cc nL ret hh) {x : Int32} {a0 a1 a2 a3 : Value} {t : List Value} (dd : decode cc pc = .ok (.istore_n 3, 1)) (h : AW cx b (pc + 1) (a0 :: a1 :: a2 :: (.int x) :: t) st T I R J) : AW cx b pc (a0 :: a1 :: a2 :: a3 :: t) (.int x :: st) T I R J := AW.istore_gn X dd rfl (by simp only [List.length_cons]; omega) h
theorem AW.istore4 (X : FC cx d y cc nL ret hh) {x : Int32} {a0 a1 a2 a3 a4 : Value} {t : List Value} (dd : decode cc pc = .ok (.istore 4, 2)) (h : AW cx b (pc + 2) (a0 :: a1 :: a2 :: a3 :: (.int x) :: t) st T I R J) : AW cx b pc (a0 :: a1 :: a2 :: a3 :: a4 :: t) (.int x :: st) T I R J := AW.istore_g X dd (by simp only [List.length_cons]; omega) h
theorem AW.istore5 (X : FC cx d y cc nL ret hh) {x : Int32} {a0 a1 a2 a3 a4 a5 : Value} {t : List Value} (dd : decode cc pc = .ok (.istore 5, 2)) (h : AW cx b (pc + 2) (a0 :: a1 :: a2 :: a3 :: a4 :: (.int x) :: t) st T I R J) : AW cx b pc (a0 :: a1 :: a2 :: a3 :: a4 :: a5 :: t) (.int x :: st) T I R J := AW.istore_g X dd (by simp only [List.length_cons]; omega) h
theorem AW.istore6 (X : FC cx d y cc nL ret hh) {x : Int32} {a0 a1 a2 a3 a4 a5 a6 : Value} {t : List Value} (dd : decode cc pc = .ok (.istore 6, 2)) (h : AW cx b (pc + 2) (a0 :: a1 :: a2 :: a3 :: a4 :: a5 :: (.int x) :: t) st T I R J) : AW cx b pc (a0 :: a1 :: a2 :: a3 :: a4 :: a5 :: a6 :: t) (.int x :: st) T I R J := AW.istore_g X dd (by simp only [List.length_cons]; omega) h
theorem AW.istore7 (X : FC cx d y cc nL ret hh) {x : Int32} {a0 a1 a2 a3 a4 a5 a6 a7 : Value} {t : List Value} (dd : decode cc pc = .ok (.istore 7, 2)) (h : AW cx b (pc + 2) (a0 :: a1 :: a2 :: a3 :: a4 :: a5 :: a6 :: (.int x) :: t) st T I R J) : AW cx b pc (a0 :: a1 :: a2 :: a3 :: a4 :: a5 :: a6 :: a7 :: t) (.int x :: st) T I R J := AW.istore_g X dd (by simp only [List.length_cons]; omega) h
theorem AW.istore8 (X : FC cx d y cc nL ret hh) {x : Int32} {a0 a1 a2 a3 a4 a5 a6 a7 a8 : Value} {t : List Value} (dd : decode cc pc = .ok (.istore 8, 2)) (h : AW cx b (pc + 2) (a0 :: a1 :: a2 :: a3 :: a4 :: a5 :: a6 :: a7 :: (.int x) :: t) st T I R J) : AW cx b pc (a0 :: a1 :: a2 :: a3 :: a4 :: a5 :: a6 :: a7 :: a8 :: t) (.int x :: st) T I R J := AW.istore_g X dd (by simp only [List.length_cons]; omega) h
theorem AW.istore9 (X : FC cx d y cc nL ret hh) {x : Int32} {a0 a1 a2 a3 a4 a5 a6 a7 a8 a9 : Value} {t : List Value} (dd : decode cc pc = .ok (.istore 9, 2)) (h : AW cx b (pc + 2) (a0 :: a1 :: a2 :: a3 :: a4 :: a5 :: a6 :: a7 :: a8 :: (.int x) :: t) st T I R J) : AW cx b pc (a0 :: a1 :: a2 :: a3 :: a4 :: a5 :: a6 :: a7 :: a8 :: a9 :: t) (.int x :: st) T I R J := AW.istore_g X dd (by simp only [List.length_cons]; omega) h
theorem AW.istore10 (X : FC cx d y cc nL ret hh) {x : Int32} {a0 a1 a2 a3 a4 a5 a6 a7 a8 a9 a10 : Value} {t : List Value} (dd : decode cc pc = .ok (.istore 10, 2)) (h : AW cx b (pc + 2) (a0 :: a1 :: a2 :: a3 :: a4 :: a5 :: a6 :: a7 :: a8 :: a9 :: (.int x) :: t) st T I R J) : AW cx b pc (a0 :: a1 :: a2 :: a3 :: a4 :: a5 :: a6 :: a7 :: a8 :: a9 :: a10 :: t) (.int x :: st) T I R J := AW.istore_g X dd (by simp only [List.length_cons]; omega) h
theorem AW.istore11 (X : FC cx d y cc nL ret hh) {x : Int32} {a0 a1 a2 a3 a4 a5 a6 a7 a8 a9 a10 a11 : Value} {t : List Value} (dd : decode cc pc = .ok (.istore 11, 2)) (h : AW cx b (pc + 2) (a0 :: a1 :: a2 :: a3 :: a4 :: a5 :: a6 :: a7 :: a8 :: a9 :: a10 :: (.int x) :: t) st T I R J) : AW cx b pc (a0 :: a1 :: a2 :: a3 :: a4 :: a5 :: a6 :: a7 :: a8 :: a9 :: a10 :: a11 :: t) (.int x :: st) T I R J := AW.istore_g X dd (by simp only [List.length_cons]; omega) h
theorem AW.istore12 (X : FC cx d y cc nL ret hh) {x : Int32} {a0 a1 a2 a3 a4 a5 a6 a7 a8 a9 a10 a11 a12 : Value} {t : List Value} (dd : decode cc pc = .ok (.istore 12, 2)) (h : AW cx b (pc + 2) (a0 :: a1 :: a2 :: a3 :: a4 :: a5 :: a6 :: a7 :: a8 :: a9 :: a10 :: a11 :: (.int x) :: t) st T I R J) : AW cx b pc (a0 :: a1 :: a2 :: a3 :: a4 :: a5 :: a6 :: a7 :: a8 :: a9 :: a10 :: a11 :: a12 :: t) (.int x :: st) T I R J := AW.istore_g X dd (by simp only [List.length_cons]; omega) h
theorem AW.istore13 (X : FC cx d y cc nL ret hh) {x : Int32} {a0 a1 a2 a3 a4 a5 a6 a7 a8 a9 a10 a11 a12 a13 : Value} {t : List Value} (dd : decode cc pc = .ok (.istore 13, 2)) (h : AW cx b (pc + 2) (a0 :: a1 :: a2 :: a3 :: a4 :: a5 :: a6 :: a7 :: a8 :: a9 :: a10 :: a11 :: a12 :: (.int x) :: t) st T I R J) : AW cx b pc (a0 :: a1 :: a2 :: a3 :: a4 :: a5 :: a6 :: a7 :: a8 :: a9 :: a10 :: a11 :: a12 :: a13 :: t) (.int x :: st) T I R J := AW.istore_g X dd (by simp only [List.length_cons]; omega) h
theorem AW.astore_gn (X : FC cx d y cc nL ret hh) {k : Fin 4} {i : Nat} {x : Nat} (dd : decode cc pc = .ok (.astore_n k, 1)) (hi : (k : Nat) = i) (hlt : i < ls.length) (h : AW cx b (pc + 1) (ls.set i (.ref x)) st T I R J) : AW cx b pc ls (.ref x :: st) T I R J := by
  obtain ⟨p, l, e, Rm, s, m, args, below, meth, c, D, z0, ρ0, T0, PQ⟩ := cx
  obtain ⟨hx, hb, -⟩ := X
  intro ρ H locs cells slots lsA hk hn hR hS hE hl hs hL
  have hlt' : i < c.maxLocals := by rw [← hL.2.1]; exact hlt
  exact lv_astore_n hx hb dd hi hL.has hlt' rfl (fun ls' h' => h ρ H locs cells slots ls' hk hn hR hS hE (hl.set hs.1) hs.2 (hL.set rfl (fun z q => by cases q) hlt' h'))
theorem AW.astore_g (X : FC cx d y cc nL ret hh) {i : Nat} {x : Nat} (dd : decode cc pc = .ok (.astore i, 2)) (hlt : i < ls.length) (h : AW cx b (pc + 2) (ls.set i (.ref x)) st T I R J) : AW cx b pc ls (.ref x :: st) T I R J := by
  obtain ⟨p, l, e, Rm, s, m, args, below, meth, c, D, z0, ρ0, T0, PQ⟩ := cx
  obtain ⟨hx, hb, -⟩ := X
  intro ρ H locs cells slots lsA hk hn hR hS hE hl hs hL
  have hlt' : i < c.maxLocals := by rw [← hL.2.1]; exact hlt
  exact lv_astore hx hb dd hL.has hlt' rfl (fun ls' h' => h ρ H locs cells slots ls' hk hn hR hS hE (hl.set hs.1) hs.2 (hL.set rfl (fun z q => by cases q) hlt' h'))
theorem AW.astore0 (X : FC cx d y cc nL ret hh) {x : Nat} {a0 : Value} {t : List Value} (dd : decode cc pc = .ok (.astore_n 0, 1)) (h : AW cx b (pc + 1) ((.ref x) :: t) st T I R J) : AW cx b pc (a0 :: t) (.ref x :: st) T I R J := AW.astore_gn X dd rfl (by simp only [List.length_cons]; omega) h
theorem AW.astore1 (X : FC cx d y cc nL ret hh) {x : Nat} {a0 a1 : Value} {t : List Value} (dd : decode cc pc = .ok (.astore_n 1, 1)) (h : AW cx b (pc + 1) (a0 :: (.ref x) :: t) st T I R J) : AW cx b pc (a0 :: a1 :: t) (.ref x :: st) T I R J := AW.astore_gn X dd rfl (by simp only [List.length_cons]; omega) h
theorem AW.astore2 (X : FC cx d y cc nL ret hh) {x : Nat} {a0 a1 a2 : Value} {t : List Value} (dd : decode cc pc = .ok (.astore_n 2, 1)) (h : AW cx b (pc + 1) (a0 :: a1 :: (.ref x) :: t) st T I R J) : AW cx b pc (a0 :: a1 :: a2 :: t) (.ref x :: st) T I R J := AW.astore_gn X dd rfl (by simp only [List.length_cons]; omega) h
theorem AW.astore3 (X : FC cx d y cc nL ret hh) {x : Nat} {a0 a1 a2 a3 : Value} {t : List Value} (dd : decode cc pc = .ok (.astore_n 3, 1)) (h : AW cx b (pc + 1) (a0 :: a1 :: a2 :: (.ref x) :: t) st T I R J) : AW cx b pc (a0 :: a1 :: a2 :: a3 :: t) (.ref x :: st) T I R J := AW.astore_gn X dd rfl (by simp only [List.length_cons]; omega) h
theorem AW.astore4 (X : FC cx d y cc nL ret hh) {x : Nat} {a0 a1 a2 a3 a4 : Value} {t : List Value} (dd : decode cc pc = .ok (.astore 4, 2)) (h : AW cx b (pc + 2) (a0 :: a1 :: a2 :: a3 :: (.ref x) :: t) st T I R J) : AW cx b pc (a0 :: a1 :: a2 :: a3 :: a4 :: t) (.ref x :: st) T I R J := AW.astore_g X dd (by simp only [List.length_cons]; omega) h
theorem AW.astore5 (X : FC cx d y cc nL ret hh) {x : Nat} {a0 a1 a2 a3 a4 a5 : Value} {t : List Value} (dd : decode cc pc = .ok (.astore 5, 2)) (h : AW cx b (pc + 2) (a0 :: a1 :: a2 :: a3 :: a4 :: (.ref x) :: t) st T I R J) : AW cx b pc (a0 :: a1 :: a2 :: a3 :: a4 :: a5 :: t) (.ref x :: st) T I R J := AW.astore_g X dd (by simp only [List.length_cons]; omega) h
theorem AW.astore6 (X : FC cx d y cc nL ret hh) {x : Nat} {a0 a1 a2 a3 a4 a5 a6 : Value} {t : List Value} (dd : decode cc pc = .ok (.astore 6, 2)) (h : AW cx b (pc + 2) (a0 :: a1 :: a2 :: a3 :: a4 :: a5 :: (.ref x) :: t) st T I R J) : AW cx b pc (a0 :: a1 :: a2 :: a3 :: a4 :: a5 :: a6 :: t) (.ref x :: st) T I R J := AW.astore_g X dd (by simp only [List.length_cons]; omega) h
theorem AW.astore7 (X : FC cx d y cc nL ret hh) {x : Nat} {a0 a1 a2 a3 a4 a5 a6 a7 : Value} {t : List Value} (dd : decode cc pc = .ok (.astore 7, 2)) (h : AW cx b (pc + 2) (a0 :: a1 :: a2 :: a3 :: a4 :: a5 :: a6 :: (.ref x) :: t) st T I R J) : AW cx b pc (a0 :: a1 :: a2 :: a3 :: a4 :: a5 :: a6 :: a7 :: t) (.ref x :: st) T I R J := AW.astore_g X dd (by simp only [List.length_cons]; omega) h
theorem AW.astore8 (X : FC cx d y cc nL ret hh) {x : Nat} {a0 a1 a2 a3 a4 a5 a6 a7 a8 : Value} {t : List Value} (dd : decode cc pc = .ok (.astore 8, 2)) (h : AW cx b (pc + 2) (a0 :: a1 :: a2 :: a3 :: a4 :: a5 :: a6 :: a7 :: (.ref x) :: t) st T I R J) : AW cx b pc (a0 :: a1 :: a2 :: a3 :: a4 :: a5 :: a6 :: a7 :: a8 :: t) (.ref x :: st) T I R J := AW.astore_g X dd (by simp only [List.length_cons]; omega) h
theorem AW.astore9 (X : FC cx d y cc nL ret hh) {x : Nat} {a0 a1 a2 a3 a4 a5 a6 a7 a8 a9 : Value} {t : List Value} (dd : decode cc pc = .ok (.astore 9, 2)) (h : AW cx b (pc + 2) (a0 :: a1 :: a2 :: a3 :: a4 :: a5 :: a6 :: a7 :: a8 :: (.ref x) :: t) st T I R J) : AW cx b pc (a0 :: a1 :: a2 :: a3 :: a4 :: a5 :: a6 :: a7 :: a8 :: a9 :: t) (.ref x :: st) T I R J := AW.astore_g X dd (by simp only [List.length_cons]; omega) h
theorem AW.astore10 (X : FC cx d y cc nL ret hh) {x : Nat} {a0 a1 a2 a3 a4 a5 a6 a7 a8 a9 a10 : Value} {t : List Value} (dd : decode cc pc = .ok (.astore 10, 2)) (h : AW cx b (pc + 2) (a0 :: a1 :: a2 :: a3 :: a4 :: a5 :: a6 :: a7 :: a8 :: a9 :: (.ref x) :: t) st T I R J) : AW cx b pc (a0 :: a1 :: a2 :: a3 :: a4 :: a5 :: a6 :: a7 :: a8 :: a9 :: a10 :: t) (.ref x :: st) T I R J := AW.astore_g X dd (by simp only [List.length_cons]; omega) h
theorem AW.astore11 (X : FC cx d y cc nL ret hh) {x : Nat} {a0 a1 a2 a3 a4 a5 a6 a7 a8 a9 a10 a11 : Value} {t : List Value} (dd : decode cc pc = .ok (.astore 11, 2)) (h : AW cx b (pc + 2) (a0 :: a1 :: a2 :: a3 :: a4 :: a5 :: a6 :: a7 :: a8 :: a9 :: a10 :: (.ref x) :: t) st T I R J) : AW cx b pc (a0 :: a1 :: a2 :: a3 :: a4 :: a5 :: a6 :: a7 :: a8 :: a9 :: a10 :: a11 :: t) (.ref x :: st) T I R J := AW.astore_g X dd (by simp only [List.length_cons]; omega) h
theorem AW.astore12 (X : FC cx d y cc nL ret hh) {x : Nat} {a0 a1 a2 a3 a4 a5 a6 a7 a8 a9 a10 a11 a12 : Value} {t : List Value} (dd : decode cc pc = .ok (.astore 12, 2)) (h : AW cx b (pc + 2) (a0 :: a1 :: a2 :: a3 :: a4 :: a5 :: a6 :: a7 :: a8 :: a9 :: a10 :: a11 :: (.ref x) :: t) st T I R J) : AW cx b pc (a0 :: a1 :: a2 :: a3 :: a4 :: a5 :: a6 :: a7 :: a8 :: a9 :: a10 :: a11 :: a12 :: t) (.ref x :: st) T I R J := AW.astore_g X dd (by simp only [List.length_cons]; omega) h
theorem AW.astore13 (X : FC cx d y cc nL ret hh) {x : Nat} {a0 a1 a2 a3 a4 a5 a6 a7 a8 a9 a10 a11 a12 a13 : Value} {t : List Value} (dd : decode cc pc = .ok (.astore 13, 2)) (h : AW cx b (pc + 2) (a0 :: a1 :: a2 :: a3 :: a4 :: a5 :: a6 :: a7 :: a8 :: a9 :: a10 :: a11 :: a12 :: (.ref x) :: t) st T I R J) : AW cx b pc (a0 :: a1 :: a2 :: a3 :: a4 :: a5 :: a6 :: a7 :: a8 :: a9 :: a10 :: a11 :: a12 :: a13 :: t) (.ref x :: st) T I R J := AW.astore_g X dd (by simp only [List.length_cons]; omega) h
theorem AW.astoreN_gn (X : FC cx d y cc nL ret hh) {k : Fin 4} {i : Nat}  (dd : decode cc pc = .ok (.astore_n k, 1)) (hi : (k : Nat) = i) (hlt : i < ls.length) (h : AW cx b (pc + 1) (ls.set i (.null)) st T I R J) : AW cx b pc ls (.null :: st) T I R J := by
  obtain ⟨p, l, e, Rm, s, m, args, below, meth, c, D, z0, ρ0, T0, PQ⟩ := cx
  obtain ⟨hx, hb, -⟩ := X
  intro ρ H locs cells slots lsA hk hn hR hS hE hl hs hL
  have hlt' : i < c.maxLocals := by rw [← hL.2.1]; exact hlt
  exact lv_astore_nN hx hb dd hi hL.has hlt' rfl (fun ls' h' => h ρ H locs cells slots ls' hk hn hR hS hE (hl.set hs.1) hs.2 (hL.set rfl (fun z q => by cases q) hlt' h'))
theorem AW.astoreN_g (X : FC cx d y cc nL ret hh) {i : Nat}  (dd : decode cc pc = .ok (.astore i, 2)) (hlt : i < ls.length) (h : AW cx b (pc + 2) (ls.set i (.null)) st T I R J) : AW cx b pc ls (.null :: st) T I R J := by
  obtain ⟨p, l, e, Rm, s, m, args, below, meth, c, D, z0, ρ0, T0, PQ⟩ := cx
  obtain ⟨hx, hb, -⟩ := X
  intro ρ H locs cells slots lsA hk hn hR hS hE hl hs hL
  have hlt' : i < c.maxLocals := by rw [← hL.2.1]; exact hlt
  exact lv_astoreN hx hb dd hL.has hlt' rfl (fun ls' h' => h ρ H locs cells slots ls' hk hn hR hS hE (hl.set hs.1) hs.2 (hL.set rfl (fun z q => by cases q) hlt' h'))
theorem AW.astoreN0 (X : FC cx d y cc nL ret hh)  {a0 : Value} {t : List Value} (dd : decode cc pc = .ok (.astore_n 0, 1)) (h : AW cx b (pc + 1) ((.null) :: t) st T I R J) : AW cx b pc (a0 :: t) (.null :: st) T I R J := AW.astoreN_gn X dd rfl (by simp only [List.length_cons]; omega) h
theorem AW.astoreN1 (X : FC cx d y cc nL ret hh)  {a0 a1 : Value} {t : List Value} (dd : decode cc pc = .ok (.astore_n 1, 1)) (h : AW cx b (pc + 1) (a0 :: (.null) :: t) st T I R J) : AW cx b pc (a0 :: a1 :: t) (.null :: st) T I R J := AW.astoreN_gn X dd rfl (by simp only [List.length_cons]; omega) h
theorem AW.astoreN2 (X : FC cx d y cc nL ret hh)  {a0 a1 a2 : Value} {t : List Value} (dd : decode cc pc = .ok (.astore_n 2, 1)) (h : AW cx b (pc + 1) (a0 :: a1 :: (.null) :: t) st T I R J) : AW cx b pc (a0 :: a1 :: a2 :: t) (.null :: st) T I R J := AW.astoreN_gn X dd rfl (by simp only [List.length_cons]; omega) h
theorem AW.astoreN3 (X : FC cx d y cc nL ret hh)  {a0 a1 a2 a3 : Value} {t : List Value} (dd : decode cc pc = .ok (.astore_n 3, 1)) (h : AW cx b (pc + 1) (a0 :: a1 :: a2 :: (.null) :: t) st T I R J) : AW cx b pc (a0 :: a1 :: a2 :: a3 :: t) (.null :: st) T I R J := AW.astoreN_gn X dd rfl (by simp only [List.length_cons]; omega) h
theorem AW.astoreN4 (X : FC cx d y cc nL ret hh)  {a0 a1 a2 a3 a4 : Value} {t : List Value} (dd : decode cc pc = .ok (.astore 4, 2)) (h : AW cx b (pc + 2) (a0 :: a1 :: a2 :: a3 :: (.null) :: t) st T I R J) : AW cx b pc (a0 :: a1 :: a2 :: a3 :: a4 :: t) (.null :: st) T I R J := AW.astoreN_g X dd (by simp only [List.length_cons]; omega) h
theorem AW.astoreN5 (X : FC cx d y cc nL ret hh)  {a0 a1 a2 a3 a4 a5 : Value} {t : List Value} (dd : decode cc pc = .ok (.astore 5, 2)) (h : AW cx b (pc + 2) (a0 :: a1 :: a2 :: a3 :: a4 :: (.null) :: t) st T I R J) : AW cx b pc (a0 :: a1 :: a2 :: a3 :: a4 :: a5 :: t) (.null :: st) T I R J := AW.astoreN_g X dd (by simp only [List.length_cons]; omega) h
theorem AW.astoreN6 (X : FC cx d y cc nL ret hh)  {a0 a1 a2 a3 a4 a5 a6 : Value} {t : List Value} (dd : decode cc pc = .ok (.astore 6, 2)) (h : AW cx b (pc + 2) (a0 :: a1 :: a2 :: a3 :: a4 :: a5 :: (.null) :: t) st T I R J) : AW cx b pc (a0 :: a1 :: a2 :: a3 :: a4 :: a5 :: a6 :: t) (.null :: st) T I R J := AW.astoreN_g X dd (by simp only [List.length_cons]; omega) h
theorem AW.astoreN7 (X : FC cx d y cc nL ret hh)  {a0 a1 a2 a3 a4 a5 a6 a7 : Value} {t : List Value} (dd : decode cc pc = .ok (.astore 7, 2)) (h : AW cx b (pc + 2) (a0 :: a1 :: a2 :: a3 :: a4 :: a5 :: a6 :: (.null) :: t) st T I R J) : AW cx b pc (a0 :: a1 :: a2 :: a3 :: a4 :: a5 :: a6 :: a7 :: t) (.null :: st) T I R J := AW.astoreN_g X dd (by simp only [List.length_cons]; omega) h
theorem AW.astoreN8 (X : FC cx d y cc nL ret hh)  {a0 a1 a2 a3 a4 a5 a6 a7 a8 : Value} {t : List Value} (dd : decode cc pc = .ok (.astore 8, 2)) (h : AW cx b (pc + 2) (a0 :: a1 :: a2 :: a3 :: a4 :: a5 :: a6 :: a7 :: (.null) :: t) st T I R J) : AW cx b pc (a0 :: a1 :: a2 :: a3 :: a4 :: a5 :: a6 :: a7 :: a8 :: t) (.null :: st) T I R J := AW.astoreN_g X dd (by simp only [List.length_cons]; omega) h
theorem AW.astoreN9 (X : FC cx d y cc nL ret hh)  {a0 a1 a2 a3 a4 a5 a6 a7 a8 a9 : Value} {t : List Value} (dd : decode cc pc = .ok (.astore 9, 2)) (h : AW cx b (pc + 2) (a0 :: a1 :: a2 :: a3 :: a4 :: a5 :: a6 :: a7 :: a8 :: (.null) :: t) st T I R J) : AW cx b pc (a0 :: a1 :: a2 :: a3 :: a4 :: a5 :: a6 :: a7 :: a8 :: a9 :: t) (.null :: st) T I R J := AW.astoreN_g X dd (by simp only [List.length_cons]; omega) h
theorem AW.astoreN10 (X : FC cx d y cc nL ret hh)  {a0 a1 a2 a3 a4 a5 a6 a7 a8 a9 a10 : Value} {t : List Value} (dd : decode cc pc = .ok (.astore 10, 2)) (h : AW cx b (pc + 2) (a0 :: a1 :: a2 :: a3 :: a4 :: a5 :: a6 :: a7 :: a8 :: a9 :: (.null) :: t) st T I R J) : AW cx b pc (a0 :: a1 :: a2 :: a3 :: a4 :: a5 :: a6 :: a7 :: a8 :: a9 :: a10 :: t) (.null :: st) T I R J := AW.astoreN_g X dd (by simp only [List.length_cons]; omega) h
theorem AW.astoreN11 (X : FC cx d y cc nL ret hh)  {a0 a1 a2 a3 a4 a5 a6 a7 a8 a9 a10 a11 : Value} {t : List Value} (dd : decode cc pc = .ok (.astore 11, 2)) (h : AW cx b (pc + 2) (a0 :: a1 :: a2 :: a3 :: a4 :: a5 :: a6 :: a7 :: a8 :: a9 :: a10 :: (.null) :: t) st T I R J) : AW cx b pc (a0 :: a1 :: a2 :: a3 :: a4 :: a5 :: a6 :: a7 :: a8 :: a9 :: a10 :: a11 :: t) (.null :: st) T I R J := AW.astoreN_g X dd (by simp only [List.length_cons]; omega) h
theorem AW.astoreN12 (X : FC cx d y cc nL ret hh)  {a0 a1 a2 a3 a4 a5 a6 a7 a8 a9 a10 a11 a12 : Value} {t : List Value} (dd : decode cc pc = .ok (.astore 12, 2)) (h : AW cx b (pc + 2) (a0 :: a1 :: a2 :: a3 :: a4 :: a5 :: a6 :: a7 :: a8 :: a9 :: a10 :: a11 :: (.null) :: t) st T I R J) : AW cx b pc (a0 :: a1 :: a2 :: a3 :: a4 :: a5 :: a6 :: a7 :: a8 :: a9 :: a10 :: a11 :: a12 :: t) (.null :: st) T I R J := AW.astoreN_g X dd (by simp only [List.length_cons]; omega) h
theorem AW.astoreN13 (X : FC cx d y cc nL ret hh)  {a0 a1 a2 a3 a4 a5 a6 a7 a8 a9 a10 a11 a12 a13 : Value} {t : List Value} (dd : decode cc pc = .ok (.astore 13, 2)) (h : AW cx b (pc + 2) (a0 :: a1 :: a2 :: a3 :: a4 :: a5 :: a6 :: a7 :: a8 :: a9 :: a10 :: a11 :: a12 :: (.null) :: t) st T I R J) : AW cx b pc (a0 :: a1 :: a2 :: a3 :: a4 :: a5 :: a6 :: a7 :: a8 :: a9 :: a10 :: a11 :: a12 :: a13 :: t) (.null :: st) T I R J := AW.astoreN_g X dd (by simp only [List.length_cons]; omega) h
theorem AW.iinc_g (X : FC cx d y cc nL ret hh) {i : Nat} {n : Int} {x v : Int32} (dd : decode cc pc = .ok (.iinc i n, 3)) (hv : ls[i]? = some (.int x)) (hxv : x + Int32.ofInt n = v) (h : AW cx b (pc + 3) (ls.set i (.int v)) st T I R J) : AW cx b pc ls st T I R J := by
  obtain ⟨p, l, e, Rm, s, m, args, below, meth, c, D, z0, ρ0, T0, PQ⟩ := cx
  obtain ⟨hx, hb, -⟩ := X
  intro ρ H locs cells slots lsA hk hn hR hS hE hl hs hL
  have hlt' : i < c.maxLocals := by rw [← hL.2.1]; exact (List.getElem?_eq_some_iff.mp hv).1
  obtain ⟨k, hk0⟩ := List.getElem?_of_mem (lvl_mem.mpr ⟨.int x, hv, (fun q z => by cases z), rfl⟩ : (i, Value.int x) ∈ lvl ρ ls)
  exact lv_iinc hx hb dd hL.has hk0 hxv hlt' rfl (fun ls' h' => h ρ H locs cells slots ls' hk hn hR hS hE (hl.set trivial) hs (hL.set (v := .int v) rfl (fun z q => by cases q) hlt' h'))
theorem AW.iinc0 (X : FC cx d y cc nL ret hh) {n : Int} {x v : Int32} {t : List Value} (dd : decode cc pc = .ok (.iinc 0 n, 3)) (hxv : x + Int32.ofInt n = v) (h : AW cx b (pc + 3) (.int v :: t) st T I R J) : AW cx b pc (.int x :: t) st T I R J := AW.iinc_g X dd rfl hxv h
theorem AW.iinc1 (X : FC cx d y cc nL ret hh) {n : Int} {x v : Int32} {a0 : Value} {t : List Value} (dd : decode cc pc = .ok (.iinc 1 n, 3)) (hxv : x + Int32.ofInt n = v) (h : AW cx b (pc + 3) (a0 :: .int v :: t) st T I R J) : AW cx b pc (a0 :: .int x :: t) st T I R J := AW.iinc_g X dd rfl hxv h
theorem AW.iinc2 (X : FC cx d y cc nL ret hh) {n : Int} {x v : Int32} {a0 a1 : Value} {t : List Value} (dd : decode cc pc = .ok (.iinc 2 n, 3)) (hxv : x + Int32.ofInt n = v) (h : AW cx b (pc + 3) (a0 :: a1 :: .int v :: t) st T I R J) : AW cx b pc (a0 :: a1 :: .int x :: t) st T I R J := AW.iinc_g X dd rfl hxv h
theorem AW.iinc3 (X : FC cx d y cc nL ret hh) {n : Int} {x v : Int32} {a0 a1 a2 : Value} {t : List Value} (dd : decode cc pc = .ok (.iinc 3 n, 3)) (hxv : x + Int32.ofInt n = v) (h : AW cx b (pc + 3) (a0 :: a1 :: a2 :: .int v :: t) st T I R J) : AW cx b pc (a0 :: a1 :: a2 :: .int x :: t) st T I R J := AW.iinc_g X dd rfl hxv h
theorem AW.iinc4 (X : FC cx d y cc nL ret hh) {n : Int} {x v : Int32} {a0 a1 a2 a3 : Value} {t : List Value} (dd : decode cc pc = .ok (.iinc 4 n, 3)) (hxv : x + Int32.ofInt n = v) (h : AW cx b (pc + 3) (a0 :: a1 :: a2 :: a3 :: .int v :: t) st T I R J) : AW cx b pc (a0 :: a1 :: a2 :: a3 :: .int x :: t) st T I R J := AW.iinc_g X dd rfl hxv h
theorem AW.iinc5 (X : FC cx d y cc nL ret hh) {n : Int} {x v : Int32} {a0 a1 a2 a3 a4 : Value} {t : List Value} (dd : decode cc pc = .ok (.iinc 5 n, 3)) (hxv : x + Int32.ofInt n = v) (h : AW cx b (pc + 3) (a0 :: a1 :: a2 :: a3 :: a4 :: .int v :: t) st T I R J) : AW cx b pc (a0 :: a1 :: a2 :: a3 :: a4 :: .int x :: t) st T I R J := AW.iinc_g X dd rfl hxv h
theorem AW.iinc6 (X : FC cx d y cc nL ret hh) {n : Int} {x v : Int32} {a0 a1 a2 a3 a4 a5 : Value} {t : List Value} (dd : decode cc pc = .ok (.iinc 6 n, 3)) (hxv : x + Int32.ofInt n = v) (h : AW cx b (pc + 3) (a0 :: a1 :: a2 :: a3 :: a4 :: a5 :: .int v :: t) st T I R J) : AW cx b pc (a0 :: a1 :: a2 :: a3 :: a4 :: a5 :: .int x :: t) st T I R J := AW.iinc_g X dd rfl hxv h
theorem AW.iinc7 (X : FC cx d y cc nL ret hh) {n : Int} {x v : Int32} {a0 a1 a2 a3 a4 a5 a6 : Value} {t : List Value} (dd : decode cc pc = .ok (.iinc 7 n, 3)) (hxv : x + Int32.ofInt n = v) (h : AW cx b (pc + 3) (a0 :: a1 :: a2 :: a3 :: a4 :: a5 :: a6 :: .int v :: t) st T I R J) : AW cx b pc (a0 :: a1 :: a2 :: a3 :: a4 :: a5 :: a6 :: .int x :: t) st T I R J := AW.iinc_g X dd rfl hxv h
theorem AW.iinc8 (X : FC cx d y cc nL ret hh) {n : Int} {x v : Int32} {a0 a1 a2 a3 a4 a5 a6 a7 : Value} {t : List Value} (dd : decode cc pc = .ok (.iinc 8 n, 3)) (hxv : x + Int32.ofInt n = v) (h : AW cx b (pc + 3) (a0 :: a1 :: a2 :: a3 :: a4 :: a5 :: a6 :: a7 :: .int v :: t) st T I R J) : AW cx b pc (a0 :: a1 :: a2 :: a3 :: a4 :: a5 :: a6 :: a7 :: .int x :: t) st T I R J := AW.iinc_g X dd rfl hxv h
theorem AW.iinc9 (X : FC cx d y cc nL ret hh) {n : Int} {x v : Int32} {a0 a1 a2 a3 a4 a5 a6 a7 a8 : Value} {t : List Value} (dd : decode cc pc = .ok (.iinc 9 n, 3)) (hxv : x + Int32.ofInt n = v) (h : AW cx b (pc + 3) (a0 :: a1 :: a2 :: a3 :: a4 :: a5 :: a6 :: a7 :: a8 :: .int v :: t) st T I R J) : AW cx b pc (a0 :: a1 :: a2 :: a3 :: a4 :: a5 :: a6 :: a7 :: a8 :: .int x :: t) st T I R J := AW.iinc_g X dd rfl hxv h
theorem AW.iinc10 (X : FC cx d y cc nL ret hh) {n : Int} {x v : Int32} {a0 a1 a2 a3 a4 a5 a6 a7 a8 a9 : Value} {t : List Value} (dd : decode cc pc = .ok (.iinc 10 n, 3)) (hxv : x + Int32.ofInt n = v) (h : AW cx b (pc + 3) (a0 :: a1 :: a2 :: a3 :: a4 :: a5 :: a6 :: a7 :: a8 :: a9 :: .int v :: t) st T I R J) : AW cx b pc (a0 :: a1 :: a2 :: a3 :: a4 :: a5 :: a6 :: a7 :: a8 :: a9 :: .int x :: t) st T I R J := AW.iinc_g X dd rfl hxv h
theorem AW.iinc11 (X : FC cx d y cc nL ret hh) {n : Int} {x v : Int32} {a0 a1 a2 a3 a4 a5 a6 a7 a8 a9 a10 : Value} {t : List Value} (dd : decode cc pc = .ok (.iinc 11 n, 3)) (hxv : x + Int32.ofInt n = v) (h : AW cx b (pc + 3) (a0 :: a1 :: a2 :: a3 :: a4 :: a5 :: a6 :: a7 :: a8 :: a9 :: a10 :: .int v :: t) st T I R J) : AW cx b pc (a0 :: a1 :: a2 :: a3 :: a4 :: a5 :: a6 :: a7 :: a8 :: a9 :: a10 :: .int x :: t) st T I R J := AW.iinc_g X dd rfl hxv h
theorem AW.iinc12 (X : FC cx d y cc nL ret hh) {n : Int} {x v : Int32} {a0 a1 a2 a3 a4 a5 a6 a7 a8 a9 a10 a11 : Value} {t : List Value} (dd : decode cc pc = .ok (.iinc 12 n, 3)) (hxv : x + Int32.ofInt n = v) (h : AW cx b (pc + 3) (a0 :: a1 :: a2 :: a3 :: a4 :: a5 :: a6 :: a7 :: a8 :: a9 :: a10 :: a11 :: .int v :: t) st T I R J) : AW cx b pc (a0 :: a1 :: a2 :: a3 :: a4 :: a5 :: a6 :: a7 :: a8 :: a9 :: a10 :: a11 :: .int x :: t) st T I R J := AW.iinc_g X dd rfl hxv h
theorem AW.iinc13 (X : FC cx d y cc nL ret hh) {n : Int} {x v : Int32} {a0 a1 a2 a3 a4 a5 a6 a7 a8 a9 a10 a11 a12 : Value} {t : List Value} (dd : decode cc pc = .ok (.iinc 13 n, 3)) (hxv : x + Int32.ofInt n = v) (h : AW cx b (pc + 3) (a0 :: a1 :: a2 :: a3 :: a4 :: a5 :: a6 :: a7 :: a8 :: a9 :: a10 :: a11 :: a12 :: .int v :: t) st T I R J) : AW cx b pc (a0 :: a1 :: a2 :: a3 :: a4 :: a5 :: a6 :: a7 :: a8 :: a9 :: a10 :: a11 :: a12 :: .int x :: t) st T I R J := AW.iinc_g X dd rfl hxv h
end AWR
