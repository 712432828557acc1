/-! AM 1: the abstract machine's memory, its relation to the real heap -/
set_option maxRecDepth 100000
/-- Fault's own two fields alone -/
def TXF : u_T := fun k => match k with
  | 0 => ("EelPort$Fault", "kind", "I", true)
  | _ => ("EelPort$Fault", "place", "I", true)
def TX0_ : u_T := fun _ => ("", "", "I", false)
def amCl : List vw_C := [(RX1, TX1, 14), (RX2, TX2, 6), (RX3, TX3, 9), (RX4, TX4, 11), (RX6, TX6, 11), (RX18, TX18, 2), (RX19, TX19, 2), (RX20, TX20, 2), (RX21, TX21, 3), (RX7, TX7, 4), (RX8, TX8, 4), (RX9, TX9, 4), (RX10, TX10, 4), (RX12, TX12, 3), (RX13, TX13, 3), (RX14, TX14, 3), (RX15, TX15, 3), (RX16, TXF, 2), (RX5, TX5, 74), (RJ2, TJ2, 3), (RJ9, TJ9, 2), (RJ8, TJ8, 4), (RJ18, TX0_, 0), (RJ6, TX0_, 0), (RX16, TX16, 8)]
abbrev KT : Type := Nat → Nat × Nat
abbrev KI : Type := Nat → Nat → Int32
abbrev KR : Type := Nat → Nat → Option Nat
abbrev KJ : Type := Nat → Nat → Int64
def cv (ρ : Nat → Nat) : Value → Value
  | .ref a => .ref (ρ a)
  | .int x => .int x
  | .long x => .long x
  | .float x => .float x
  | .double x => .double x
  | .null => .null
  | .retAddr x => .retAddr x
theorem cv_cat (ρ : Nat → Nat) (v : Value) : (cv ρ v).category = v.category := by cases v <;> rfl
theorem cv_rf (ρ : Nat → Nat) (r : Option Nat) : cv ρ (va_rf r) = va_rf (r.map ρ) := by cases r <;> rfl
def kPrim : Nat → Option FieldType
  | 2 => some .int
  | 3 => some .byte
  | 4 => some .boolean
  | 6 => some .long
  | _ => none
def kRefC : Nat → Option String
  | 10 => some "java/lang/Object"
  | 11 => some "java/lang/String"
  | _ => none
def pv (I : KI) (J : KJ) (k a j : Nat) : Value := if k = 6 then .long (J a j) else .int (I a j)
def fv (ρ : Nat → Nat) (I : KI) (R : KR) (a k : Nat) (d : String) : Value := match parseFieldDescriptor d with
  | some ty => if ty.isReference then va_rf ((R a k).map ρ) else .int (I a k)
  | none => .null
def wfv (T : KT) : Value → Prop
  | .ref a => (T a).1 ≠ 0
  | _ => True
theorem wfv_rf {T : KT} {r : Option Nat} (h : ∀ b, r = some b → (T b).1 ≠ 0) : wfv T (va_rf r) := by
  cases r with
  | none => exact trivial
  | some b => exact h b rfl
def WFs (T : KT) : List Value → Prop
  | [] => True
  | v :: vs => wfv T v ∧ WFs T vs
def wfo (T : KT) : Option Value → Prop
  | none => True
  | some v => wfv T v
def row {α : Type} (f : Nat → α) (a : Nat) (g : α) : Nat → α := fun b => if b = a then g else f b
theorem row_s {α : Type} (f : Nat → α) (a : Nat) (g : α) : row f a g a = g := if_pos rfl
theorem row_n {α : Type} {f : Nat → α} {a b : Nat} {g : α} (h : b ≠ a) : row f a g b = f b := if_neg h
def w2 {α : Type} (f : Nat → Nat → α) (a k : Nat) (v : α) : Nat → Nat → α := row f a (row (f a) k v)
theorem w2_s {α : Type} (f : Nat → Nat → α) (a k : Nat) (v : α) : w2 f a k v a k = v := by simp [w2, row]
theorem w2_n1 {α : Type} {f : Nat → Nat → α} {a k b j : Nat} {v : α} (h : b ≠ a) : w2 f a k v b j = f b j := by simp [w2, row, h]
theorem w2_n2 {α : Type} {f : Nat → Nat → α} {a k b j : Nat} {v : α} (h : j ≠ k) : w2 f a k v b j = f b j := by
  by_cases hb : b = a
  · subst hb; simp [w2, row, h]
  · simp [w2, row, hb]
theorem w2_r {α : Type} {f : Nat → Nat → α} {a k b : Nat} {v : α} (h : b ≠ a) : w2 f a k v b = f b := by simp [w2, row, h]
/-- one abstract cell, and the real one -/
def CellOK (D : va_G) (z0 : Nat) (ρ : Nat → Nat) (T : KT) (I : KI) (R : KR) (J : KJ) (s : State) (H : Heap) (a : Nat) : Prop :=
  1 < (T a).1 → ∃ cell : Cell, H[ρ a]? = some cell ∧ (100 ≤ a ↔ z0 ≤ ρ a) ∧ cell.vm.isStatics = false ∧ cell.vm ≠ .unknown ∧ (100 ≤ a → cell.vm = .none ∧ ((T a).1 = 124 → ∃ kC : Class, s.vm.classes[cell.cls]? = some kC ∧ cell = freshCell cell.cls kC)) ∧
   (∀ ty, kPrim (T a).1 = some ty → s.isArrayOf cell ty ∧ cell.slots.size = (T a).2 ∧ (T a).2 < 2 ^ 31 ∧ (∀ j, j < (T a).2 → cell.slots[j]? = some (pv I J (T a).1 a j)) ∧ (100 ≤ a → cell = arrV cell.cls (T a).2 (pv I J (T a).1 a) ∧ s.vm.findClass ("[" ++ ty.toString) = some cell.cls)) ∧
   (∀ C, kRefC (T a).1 = some C → s.isArrayOf cell (.object C) ∧ cell.slots.size = (T a).2 ∧ (T a).2 < 2 ^ 31 ∧ (∀ j, j < (T a).2 → cell.slots[j]? = some (va_rf ((R a j).map ρ))) ∧ (100 ≤ a → cell = arrV cell.cls (T a).2 (fun j => va_rf ((R a j).map ρ)) ∧ va_RA s cell.cls (.object C))) ∧
   (∀ ci q, (T a).1 = 100 + ci → amCl[ci]? = some q → cell.cls = D.1 ci ∧ ∀ k, k < q.2.2 → cell.slots[D.2 ci k]? = some (fv ρ I R a k (q.2.1 k).2.2.1))
def HP (D : va_G) (z0 : Nat) (ρ : Nat → Nat) (T : KT) (I : KI) (R : KR) (J : KJ) (s : State) (H : Heap) : Prop :=
  (∀ a, CellOK D z0 ρ T I R J s H a) ∧ (∀ a b, 1 < (T a).1 → 1 < (T b).1 → ρ a = ρ b → a = b) ∧ ∀ a k b, (T a).1 ≠ 0 → R a k = some b → (T b).1 ≠ 0
/-- the string constants: class, entry, text, abstract address -/
def amStr : List (String × Nat × String × Nat) := [("EelPort$Reader", 9, "", 20), ("EelPort$Reader", 97, ";", 21), ("EelPort$Reader", 125, "plain", 22), ("EelPort$Reader", 130, "greedy", 23), ("EelPort$Reader", 135, "loving", 24), ("EelPort$Reader", 140, "shy", 25), ("EelPort$Reader", 145, "barge", 26), ("EelPort$Reader", 150, "cutter", 27), ("EelPort$Reader", 155, "smuggler", 28), ("EelPort$Reader", 160, "pilot", 29), ("EelPort$Reader", 220, "way", 30), ("EelPort$Reader", 231, "moon", 31), ("EelPort$Reader", 240, "cold", 32), ("EelPort$Reader", 245, "hood", 33), ("EelPort$Reader", 259, "price", 34), ("EelPort$Reader", 277, "open", 35), ("EelPort$Reader", 279, "lock", 36), ("EelPort$Reader", 281, "rock", 37), ("EelPort$Reader", 283, "home", 38), ("EelPort$Reader", 297, "salt", 39), ("EelPortModel", 11, "open", 35), ("EelPortModel", 13, "lock", 36), ("EelPortModel", 15, "rock", 37), ("EelPortModel", 17, "home", 38), ("EelPortModel", 23, "plain", 22), ("EelPortModel", 25, "greedy", 23), ("EelPortModel", 27, "loving", 24), ("EelPortModel", 29, "shy", 25), ("EelPortModel", 34, "barge", 26), ("EelPortModel", 36, "cutter", 27), ("EelPortModel", 38, "smuggler", 28), ("EelPortModel", 40, "pilot", 29), ("EelPortModel", 289, "price", 34), ("EelPortModel", 276, "salt", 39), ("EelPortModel", 304, "way", 30), ("EelPortModel", 309, "moon", 31), ("EelPortModel", 313, "cold", 32), ("EelPortModel", 318, "hood", 33)]
/-- statics: class, name, descriptor, abstract value -/
def amSta : List (String × String × String × Value) := [("java/lang/String", "COMPACT_STRINGS", "Z", .int 1), ("java/util/ArrayList", "EMPTY_ELEMENTDATA", "[Ljava/lang/Object;", .ref 2), ("java/util/ArrayList", "DEFAULTCAPACITY_EMPTY_ELEMENTDATA", "[Ljava/lang/Object;", .ref 3), ("EelPort$Sort", "WORD", "LEelPort$Sort;", .ref 10), ("EelPort$Sort", "NUMBER", "LEelPort$Sort;", .ref 11), ("EelPort$Sort", "SIGN", "LEelPort$Sort;", .ref 12), ("EelPort$Sort", "BAD", "LEelPort$Sort;", .ref 13), ("EelPort$Sort", "END", "LEelPort$Sort;", .ref 14)]
def stZ (z0 : Nat) : Nat → Prop := fun q => z0 ≤ q
def RL (D : va_G) (z0 : Nat) (ρ : Nat → Nat) (T : KT) (I : KI) (R : KR) (J : KJ) (s : State) (H : Heap) : Prop :=
  HP D z0 ρ T I R J s H ∧ z0 ≤ H.size ∧
  (∀ q ∈ amStr, (T q.2.2.2).1 ≠ 0 ∧ vk_R q.1 q.2.1 q.2.2.1 (ρ q.2.2.2) s) ∧
  (∀ q ∈ amSta, wfv T q.2.2.2 ∧ va_Z q.1 q.2.1 q.2.2.1 (cv ρ q.2.2.2) (stZ z0) s H) ∧
  ((T 4).1 ≠ 0 ∧ ∃ v, (v = .null ∨ v = .ref 4) ∧ va_Z "jdk/internal/util/Preconditions" "SIOOBE_FORMATTER" "Ljava/util/function/BiFunction;" (cv ρ v) (stZ z0) s H) ∧
  ((T 5).1 ≠ 0 ∧ va_Mi "[Ljava/lang/Object;" (ρ 5) s) ∧
  vx_Zq Bundle.tN "UNASSIGNED_STACK" Bundle.steD (stZ z0) s H ∧ vx_Zq Bundle.tN "SUPPRESSED_SENTINEL" Bundle.listD (stZ z0) s H
def Ext (ρ : Nat → Nat) (T : KT) (ρ' : Nat → Nat) (T' : KT) : Prop := ∀ a, (T a).1 ≠ 0 → (T' a).1 ≠ 0 ∧ ρ' a = ρ a
theorem Ext.rf {ρ : Nat → Nat} {T : KT} : Ext ρ T ρ T := fun _ h => ⟨h, rfl⟩
theorem Ext.trans {ρ ρ1 ρ2 : Nat → Nat} {T T1 T2 : KT} (h : Ext ρ T ρ1 T1) (h2 : Ext ρ1 T1 ρ2 T2) : Ext ρ T ρ2 T2 := fun a ha =>
  ⟨(h2 a (h a ha).1).1, ((h2 a (h a ha).1).2).trans (h a ha).2⟩
theorem Ext.wf1 {ρ ρ' : Nat → Nat} {T T' : KT} (h : Ext ρ T ρ' T') {v : Value} (hv : wfv T v) : wfv T' v := by
  cases v <;> first | exact trivial | exact (h _ hv).1
theorem Ext.cv1 {ρ ρ' : Nat → Nat} {T T' : KT} (h : Ext ρ T ρ' T') {v : Value} (hv : wfv T v) : cv ρ' v = cv ρ v := by
  cases v <;> first | rfl | exact congrArg Value.ref (h _ hv).2
