/-! AM 5: arrays (written by src/gen05e.py) -/
set_option maxRecDepth 100000
theorem ix_in {i : Int32} {j n : Nat} (hi : i = nI j) (hj : j < n) (hn : n < 2 ^ 31) : ¬ (i < 0 ∨ n ≤ i.toNatClampNeg) ∧ i.toNatClampNeg = j := by
  subst hi
  refine ⟨nI_in hj hn, nI_clamp (by omega)⟩
theorem notStat {v : VmData} (h : v.isStatics = false) : ∀ q, v ≠ .statics q := fun q e => by rw [e] at h; cases h
/-- an own array's cell behind a store in it -/
theorem arr_stored {D : va_G} {z0 : Nat} {ρ : Nat → Nat} {T : KT} {I I' : KI} {R : KR} {J J' : KJ} {s : State} {H H' : Heap} {a j n κ : Nat} {ty : FieldType} {cell : Cell} (hP : HP D z0 ρ T I R J s H) (h100 : 100 ≤ a) (hT : T a = (κ, n)) (hκ : kPrim κ = some ty) (hc : H[ρ a]? = some cell) (hI : ∀ b, b ≠ a → I' b = I b) (hJ : ∀ b, b ≠ a → J' b = J b) (hpv : ∀ i, i ≠ j → pv I' J' κ a i = pv I J κ a i)
    (e1 : H'[ρ a]? = some (cell.setSlot j (pv I' J' κ a j))) (oq : ∀ x, x ≠ ρ a → H'[x]? = H[x]?) : HP D z0 ρ T I' R J' s H' := by
  have h1T : 1 < (T a).1 := by
    rw [hT]
    show 1 < κ
    rcases κ with _ | _ | κ
    · cases hκ
    · cases hκ
    · omega
  obtain ⟨cell', h1, h2, h3, h4, h5, h6, h7, h8⟩ := hP.1 a h1T
  cases hc.symm.trans h1
  rw [hT] at h6 h7 h8
  obtain ⟨g1, g2, g3, g4, g5⟩ := h6 ty hκ
  obtain ⟨g6, g7⟩ := g5 h100
  dsimp only at g2 g3 g4 g6
  have ec : cell.setSlot j (pv I' J' κ a j) = arrV cell.cls n (pv I' J' κ a) := by
    conv => lhs; rw [g6]
    rw [arrV_store]
    congr 1
    funext i
    by_cases hi : i = j
    · subst hi; simp [updV]
    · simp only [updV, if_neg hi]
      exact (hpv i hi).symm
  rw [ec] at e1
  refine hP.store h1T hI (fun _ _ => rfl) hJ oq (fun k b h => hP.2.2 a k b (by omega) h) (fun _ => ⟨_, e1, h2, rfl, (fun q => by cases q), (fun _ => ⟨rfl, fun z => absurd (show κ = 124 by rw [hT] at z; exact z) (fun e => by rw [e] at hκ; cases hκ)⟩), fun ty' h => ?_, fun C h => ?_, fun ci q hci hq => ?_⟩)
  · rw [hT] at h ⊢
    cases hκ.symm.trans h
    refine ⟨⟨notStat rfl, g1.2⟩, arrV_size _ _ _, g3, fun i hi => arrV_read _ _ hi, fun _ => ⟨rfl, g7⟩⟩
  · rw [hT] at h
    exfalso
    revert hκ h
    dsimp only
    unfold kPrim kRefC
    split <;> simp
  · rw [hT] at hci
    exfalso
    dsimp only at hci
    rw [hci, kPrim_obj] at hκ
    cases hκ
section AWA
variable {cx : CxT} {d b pc nL : Nat} {y : MethodName} {cc : ByteArray} {ret : Option FieldType} {hh : List (Nat × Nat × Nat × Nat)} {ls st : List Value} {T : KT} {I : KI} {R : KR} {J : KJ}
theorem AW.iald (X : FC cx d y cc nL ret hh) {a j n : Nat} {i : Int32} (hT : T a = (2, n)) (hi : i = nI j) (hj : j < n) (dd : decode cc pc = .ok (.iaload, 1)) (h : AW cx b (pc + 1) ls (.int (I a j) :: st) T I R J) : AW cx b pc ls (.int i :: .ref a :: st) T I R J := by
  obtain ⟨p, l, e, Rm, s, m, args, below, meth, c, D, z0, ρ0, T0, PQ⟩ := cx
  obtain ⟨hx, hb, -⟩ := X
  intro ρ H locs cells slots lsA hk hn hR hS hE hl hs hL
  obtain ⟨cell, h1, -, -, h4, -, h6, -, -⟩ := hR.1.1 a (by rw [hT]; exact Nat.le_of_ble_eq_true rfl)
  rw [hT] at h6
  obtain ⟨g1, g2, g3, g4, -⟩ := h6 _ rfl
  dsimp only at g2 g3 g4
  obtain ⟨e1, e2⟩ := ix_in hi hj g3
  exact W.iald hx hb (v := .int (I a j)) h1 g1 h4 (by rw [g2]; exact e1) (by rw [e2]; exact g4 j hj) rfl rfl dd (h ρ H locs cells slots lsA hk hn hR hS hE hl ⟨trivial, hs.2.2⟩ hL)
theorem AW.bald (X : FC cx d y cc nL ret hh) {a j n : Nat} {i : Int32} (hT : T a = (3, n)) (hi : i = nI j) (hj : j < n) (dd : decode cc pc = .ok (.baload, 1)) (h : AW cx b (pc + 1) ls (.int (I a j) :: st) T I R J) : AW cx b pc ls (.int i :: .ref a :: st) T I R J := by
  obtain ⟨p, l, e, Rm, s, m, args, below, meth, c, D, z0, ρ0, T0, PQ⟩ := cx
  obtain ⟨hx, hb, -⟩ := X
  intro ρ H locs cells slots lsA hk hn hR hS hE hl hs hL
  obtain ⟨cell, h1, -, -, h4, -, h6, -, -⟩ := hR.1.1 a (by rw [hT]; exact Nat.le_of_ble_eq_true rfl)
  rw [hT] at h6
  obtain ⟨g1, g2, g3, g4, -⟩ := h6 _ rfl
  dsimp only at g2 g3 g4
  obtain ⟨e1, e2⟩ := ix_in hi hj g3
  exact W.bald hx hb (v := .int (I a j)) h1 g1 h4 (by rw [g2]; exact e1) (by rw [e2]; exact g4 j hj) rfl rfl dd (h ρ H locs cells slots lsA hk hn hR hS hE hl ⟨trivial, hs.2.2⟩ hL)
theorem AW.zald (X : FC cx d y cc nL ret hh) {a j n : Nat} {i : Int32} (hT : T a = (4, n)) (hi : i = nI j) (hj : j < n) (dd : decode cc pc = .ok (.baload, 1)) (h : AW cx b (pc + 1) ls (.int (I a j) :: st) T I R J) : AW cx b pc ls (.int i :: .ref a :: st) T I R J := by
  obtain ⟨p, l, e, Rm, s, m, args, below, meth, c, D, z0, ρ0, T0, PQ⟩ := cx
  obtain ⟨hx, hb, -⟩ := X
  intro ρ H locs cells slots lsA hk hn hR hS hE hl hs hL
  obtain ⟨cell, h1, -, -, h4, -, h6, -, -⟩ := hR.1.1 a (by rw [hT]; exact Nat.le_of_ble_eq_true rfl)
  rw [hT] at h6
  obtain ⟨g1, g2, g3, g4, -⟩ := h6 _ rfl
  dsimp only at g2 g3 g4
  obtain ⟨e1, e2⟩ := ix_in hi hj g3
  exact W.zald hx hb (v := .int (I a j)) h1 g1 h4 (by rw [g2]; exact e1) (by rw [e2]; exact g4 j hj) rfl rfl dd (h ρ H locs cells slots lsA hk hn hR hS hE hl ⟨trivial, hs.2.2⟩ hL)
theorem AW.lald (X : FC cx d y cc nL ret hh) {a j n : Nat} {i : Int32} (hT : T a = (6, n)) (hi : i = nI j) (hj : j < n) (dd : decode cc pc = .ok (.laload, 1)) (h : AW cx b (pc + 1) ls (.long (J a j) :: st) T I R J) : AW cx b pc ls (.int i :: .ref a :: st) T I R J := by
  obtain ⟨p, l, e, Rm, s, m, args, below, meth, c, D, z0, ρ0, T0, PQ⟩ := cx
  obtain ⟨hx, hb, -⟩ := X
  intro ρ H locs cells slots lsA hk hn hR hS hE hl hs hL
  obtain ⟨cell, h1, -, -, h4, -, h6, -, -⟩ := hR.1.1 a (by rw [hT]; exact Nat.le_of_ble_eq_true rfl)
  rw [hT] at h6
  obtain ⟨g1, g2, g3, g4, -⟩ := h6 _ rfl
  dsimp only at g2 g3 g4
  obtain ⟨e1, e2⟩ := ix_in hi hj g3
  exact W.lald hx hb (v := .long (J a j)) h1 g1 h4 (by rw [g2]; exact e1) (by rw [e2]; exact g4 j hj) rfl rfl dd (h ρ H locs cells slots lsA hk hn hR hS hE hl ⟨trivial, hs.2.2⟩ hL)
theorem AW.iast (X : FC cx d y cc nL ret hh) {a j n : Nat} {i : Int32} {x : Int32} (h100 : 100 ≤ a) (hT : T a = (2, n)) (hi : i = nI j) (hj : j < n) (dd : decode cc pc = .ok (.iastore, 1)) (h : AW cx b (pc + 1) ls st T (w2 I a j x) R (J)) : AW cx b pc ls (.int x :: .int i :: .ref a :: st) T I R J := by
  obtain ⟨p, l, e, Rm, s, m, args, below, meth, c, D, z0, ρ0, T0, PQ⟩ := cx
  obtain ⟨hx, hb, -⟩ := X
  intro ρ H locs cells slots lsA hk hn hR hS hE hl hs hL
  obtain ⟨cell, h1, h2, -, h4, -, h6, -, -⟩ := hR.1.1 a (by rw [hT]; exact Nat.le_of_ble_eq_true rfl)
  rw [hT] at h6
  obtain ⟨g1, g2, g3, g4, -⟩ := h6 _ rfl
  dsimp only at g2 g3 g4
  obtain ⟨e1, e2⟩ := ix_in hi hj g3
  refine W.iast hx hb h1 g1 h4 (by rw [g2]; exact e1) rfl rfl dd (fun H' q1 q2 q3 => ?_)
  rw [e2] at q1 ⊢
  have hz : z0 ≤ ρ a := h2.mp h100
  have hP' : HP D z0 ρ T (w2 I a j x) R (J) s H' := arr_stored (j := j) hR.1 h100 hT (ty := .int) rfl h1 (fun _ hb => w2_r hb) (fun _ _ => rfl) (fun i hi => by simp [pv, w2_n2 hi]) (by rw [q1]; simp [pv, w2_s]) q3
  exact h ρ H' _ cells slots lsA hk hn (hR.step hP' Ext.rf (by omega) (fun x _ hx => q3 x (fun z => hx (by rw [z]; exact hz)))) (hS.putL q2 q3 hz) hE hl hs.2.2.2 hL
theorem AW.bast (X : FC cx d y cc nL ret hh) {a j n : Nat} {i : Int32} {x : Int32} (h100 : 100 ≤ a) (hT : T a = (3, n)) (hi : i = nI j) (hj : j < n) (dd : decode cc pc = .ok (.bastore, 1)) (h : AW cx b (pc + 1) ls st T (w2 I a j (vp_nar .byte x)) R (J)) : AW cx b pc ls (.int x :: .int i :: .ref a :: st) T I R J := by
  obtain ⟨p, l, e, Rm, s, m, args, below, meth, c, D, z0, ρ0, T0, PQ⟩ := cx
  obtain ⟨hx, hb, -⟩ := X
  intro ρ H locs cells slots lsA hk hn hR hS hE hl hs hL
  obtain ⟨cell, h1, h2, -, h4, -, h6, -, -⟩ := hR.1.1 a (by rw [hT]; exact Nat.le_of_ble_eq_true rfl)
  rw [hT] at h6
  obtain ⟨g1, g2, g3, g4, -⟩ := h6 _ rfl
  dsimp only at g2 g3 g4
  obtain ⟨e1, e2⟩ := ix_in hi hj g3
  refine W.bast hx hb h1 g1 h4 (by rw [g2]; exact e1) rfl rfl dd (fun H' q1 q2 q3 => ?_)
  rw [e2] at q1 ⊢
  have hz : z0 ≤ ρ a := h2.mp h100
  have hP' : HP D z0 ρ T (w2 I a j (vp_nar .byte x)) R (J) s H' := arr_stored (j := j) hR.1 h100 hT (ty := .byte) rfl h1 (fun _ hb => w2_r hb) (fun _ _ => rfl) (fun i hi => by simp [pv, w2_n2 hi]) (by rw [q1]; simp [pv, w2_s, vp_nar, narrow]) q3
  exact h ρ H' _ cells slots lsA hk hn (hR.step hP' Ext.rf (by omega) (fun x _ hx => q3 x (fun z => hx (by rw [z]; exact hz)))) (hS.putL q2 q3 hz) hE hl hs.2.2.2 hL
theorem AW.zast (X : FC cx d y cc nL ret hh) {a j n : Nat} {i : Int32} {x : Int32} (h100 : 100 ≤ a) (hT : T a = (4, n)) (hi : i = nI j) (hj : j < n) (dd : decode cc pc = .ok (.bastore, 1)) (h : AW cx b (pc + 1) ls st T (w2 I a j (vp_nar .boolean x)) R (J)) : AW cx b pc ls (.int x :: .int i :: .ref a :: st) T I R J := by
  obtain ⟨p, l, e, Rm, s, m, args, below, meth, c, D, z0, ρ0, T0, PQ⟩ := cx
  obtain ⟨hx, hb, -⟩ := X
  intro ρ H locs cells slots lsA hk hn hR hS hE hl hs hL
  obtain ⟨cell, h1, h2, -, h4, -, h6, -, -⟩ := hR.1.1 a (by rw [hT]; exact Nat.le_of_ble_eq_true rfl)
  rw [hT] at h6
  obtain ⟨g1, g2, g3, g4, -⟩ := h6 _ rfl
  dsimp only at g2 g3 g4
  obtain ⟨e1, e2⟩ := ix_in hi hj g3
  refine W.zast hx hb h1 g1 h4 (by rw [g2]; exact e1) rfl rfl dd (fun H' q1 q2 q3 => ?_)
  rw [e2] at q1 ⊢
  have hz : z0 ≤ ρ a := h2.mp h100
  have hP' : HP D z0 ρ T (w2 I a j (vp_nar .boolean x)) R (J) s H' := arr_stored (j := j) hR.1 h100 hT (ty := .boolean) rfl h1 (fun _ hb => w2_r hb) (fun _ _ => rfl) (fun i hi => by simp [pv, w2_n2 hi]) (by rw [q1]; simp [pv, w2_s, vp_nar, narrow]) q3
  exact h ρ H' _ cells slots lsA hk hn (hR.step hP' Ext.rf (by omega) (fun x _ hx => q3 x (fun z => hx (by rw [z]; exact hz)))) (hS.putL q2 q3 hz) hE hl hs.2.2.2 hL
theorem AW.last (X : FC cx d y cc nL ret hh) {a j n : Nat} {i : Int32} {x : Int64} (h100 : 100 ≤ a) (hT : T a = (6, n)) (hi : i = nI j) (hj : j < n) (dd : decode cc pc = .ok (.lastore, 1)) (h : AW cx b (pc + 1) ls st T (I) R (w2 J a j x)) : AW cx b pc ls (.long x :: .int i :: .ref a :: st) T I R J := by
  obtain ⟨p, l, e, Rm, s, m, args, below, meth, c, D, z0, ρ0, T0, PQ⟩ := cx
  obtain ⟨hx, hb, -⟩ := X
  intro ρ H locs cells slots lsA hk hn hR hS hE hl hs hL
  obtain ⟨cell, h1, h2, -, h4, -, h6, -, -⟩ := hR.1.1 a (by rw [hT]; exact Nat.le_of_ble_eq_true rfl)
  rw [hT] at h6
  obtain ⟨g1, g2, g3, g4, -⟩ := h6 _ rfl
  dsimp only at g2 g3 g4
  obtain ⟨e1, e2⟩ := ix_in hi hj g3
  refine W.last hx hb h1 g1 h4 (by rw [g2]; exact e1) rfl rfl dd (fun H' q1 q2 q3 => ?_)
  rw [e2] at q1 ⊢
  have hz : z0 ≤ ρ a := h2.mp h100
  have hP' : HP D z0 ρ T (I) R (w2 J a j x) s H' := arr_stored (j := j) hR.1 h100 hT (ty := .long) rfl h1 (fun _ _ => rfl) (fun _ hb => w2_r hb) (fun i hi => by simp [pv, w2_n2 hi]) (by rw [q1]; simp [pv, w2_s]) q3
  exact h ρ H' _ cells slots lsA hk hn (hR.step hP' Ext.rf (by omega) (fun x _ hx => q3 x (fun z => hx (by rw [z]; exact hz)))) (hS.putL q2 q3 hz) hE hl hs.2.2.2 hL
theorem AW.alen (X : FC cx d y cc nL ret hh) {a n κ : Nat} {ty : FieldType} (hT : T a = (κ, n)) (hκ : kPrim κ = some ty) (dd : decode cc pc = .ok (.arraylength, 1)) (h : AW cx b (pc + 1) ls (.int (nI n) :: st) T I R J) : AW cx b pc ls (.ref a :: st) T I R J := by
  obtain ⟨p, l, e, Rm, s, m, args, below, meth, c, D, z0, ρ0, T0, PQ⟩ := cx
  obtain ⟨hx, hb, -⟩ := X
  intro ρ H locs cells slots lsA hk hn hR hS hE hl hs hL
  obtain ⟨cell, h1, -, -, h4, -, h6, -, -⟩ := hR.1.1 a (by
    rw [hT]
    show 1 < κ
    rcases κ with _ | _ | κ
    · cases hκ
    · cases hκ
    · omega)
  rw [hT] at h6
  obtain ⟨g1, g2, g3, g4, -⟩ := h6 _ hκ
  exact W.alen (n := nI n) hx hb h1 g1 (by rw [g2]; rfl) rfl rfl dd (h ρ H locs cells slots lsA hk hn hR hS hE hl ⟨trivial, hs.2⟩ hL)
theorem AW.alenQ (X : FC cx d y cc nL ret hh) {a n κ : Nat} {C : String} (hT : T a = (κ, n)) (hκ : kRefC κ = some C) (dd : decode cc pc = .ok (.arraylength, 1)) (h : AW cx b (pc + 1) ls (.int (nI n) :: st) T I R J) : AW cx b pc ls (.ref a :: st) T I R J := by
  obtain ⟨p, l, e, Rm, s, m, args, below, meth, c, D, z0, ρ0, T0, PQ⟩ := cx
  obtain ⟨hx, hb, -⟩ := X
  intro ρ H locs cells slots lsA hk hn hR hS hE hl hs hL
  obtain ⟨cell, h1, -, -, h4, -, -, h7, -⟩ := hR.1.1 a (by
    rw [hT]
    show 1 < κ
    rcases κ with _ | _ | κ
    · cases hκ
    · cases hκ
    · omega)
  rw [hT] at h7
  obtain ⟨g1, g2, g3, g4, -⟩ := h7 _ hκ
  exact W.alen (n := nI n) hx hb h1 g1 (by rw [g2]; rfl) rfl rfl dd (h ρ H locs cells slots lsA hk hn hR hS hE hl ⟨trivial, hs.2⟩ hL)
theorem AW.aaldv (X : FC cx d y cc nL ret hh) {a j n κ : Nat} {i : Int32} {C : String} (hT : T a = (κ, n)) (hκ : kRefC κ = some C) (hi : i = nI j) (hj : j < n) (dd : decode cc pc = .ok (.aaload, 1)) (h : AW cx b (pc + 1) ls (va_rf (R a j) :: st) T I R J) : AW cx b pc ls (.int i :: .ref a :: st) T I R J := by
  obtain ⟨p, l, e, Rm, s, m, args, below, meth, c, D, z0, ρ0, T0, PQ⟩ := cx
  obtain ⟨hx, hb, -⟩ := X
  intro ρ H locs cells slots lsA hk hn hR hS hE hl hs hL
  have hT1 : 1 < (T a).1 := by
    rw [hT]
    show 1 < κ
    rcases κ with _ | _ | κ
    · cases hκ
    · cases hκ
    · omega
  obtain ⟨cell, h1, -, -, h4, -, -, h7, -⟩ := hR.1.1 a hT1
  rw [hT] at h7
  obtain ⟨g1, g2, g3, g4, -⟩ := h7 _ hκ
  dsimp only at g2 g3 g4
  obtain ⟨e1, e2⟩ := ix_in hi hj g3
  exact W.aald (v := cv ρ (va_rf (R a j))) (ty := .object C) hx hb h1 g1 rfl h4 (by rw [g2]; exact e1) (by rw [e2, cv_rf]; exact g4 j hj) rfl rfl dd (h ρ H locs cells slots lsA hk hn hR hS hE hl ⟨wfv_rf fun r hr => hR.1.2.2 a j r (by omega) hr, hs.2.2⟩ hL)
theorem AW.aald (X : FC cx d y cc nL ret hh) {a j n κ r : Nat} {i : Int32} {C : String} (hT : T a = (κ, n)) (hκ : kRefC κ = some C) (hi : i = nI j) (hj : j < n) (hr : R a j = some r) (dd : decode cc pc = .ok (.aaload, 1)) (h : AW cx b (pc + 1) ls (.ref r :: st) T I R J) : AW cx b pc ls (.int i :: .ref a :: st) T I R J :=
  AW.aaldv X hT hκ hi hj dd (by rw [hr]; exact h)
/-- an own array of references behind a store in it -/
theorem arrq_stored {D : va_G} {z0 : Nat} {ρ : Nat → Nat} {T : KT} {I : KI} {R R' : KR} {J : KJ} {s : State} {H H' : Heap} {a j n κ : Nat} {C : String} {cell : Cell} (hP : HP D z0 ρ T I R J s H) (h100 : 100 ≤ a) (hT : T a = (κ, n)) (hκ : kRefC κ = some C) (hc : H[ρ a]? = some cell) (hR : ∀ b, b ≠ a → R' b = R b) (hR2 : ∀ i, i ≠ j → R' a i = R a i) (hr : ∀ c, R' a j = some c → (T c).1 ≠ 0)
    (e1 : H'[ρ a]? = some (cell.setSlot j (va_rf ((R' a j).map ρ)))) (oq : ∀ x, x ≠ ρ a → H'[x]? = H[x]?) : HP D z0 ρ T I R' J s H' := by
  have h1T : 1 < (T a).1 := by
    rw [hT]
    show 1 < κ
    rcases κ with _ | _ | κ
    · cases hκ
    · cases hκ
    · omega
  obtain ⟨cell', h1, h2, h3, h4, h5, h6, h7, h8⟩ := hP.1 a h1T
  cases hc.symm.trans h1
  rw [hT] at h6 h7 h8
  obtain ⟨g1, g2, g3, g4, g5⟩ := h7 C hκ
  obtain ⟨g6, g7⟩ := g5 h100
  dsimp only at g2 g3 g4 g6
  have ec : cell.setSlot j (va_rf ((R' a j).map ρ)) = arrV cell.cls n (fun i => va_rf ((R' a i).map ρ)) := by
    conv => lhs; rw [g6]
    rw [arrV_store]
    congr 1
    funext i
    by_cases hi : i = j
    · subst hi; simp [updV]
    · simp only [updV, if_neg hi]
      rw [hR2 i hi]
  rw [ec] at e1
  refine hP.store h1T (fun _ _ => rfl) hR (fun _ _ => rfl) oq (fun k b h => ?_) (fun _ => ⟨_, e1, h2, rfl, (fun q => by cases q), (fun _ => ⟨rfl, fun z => absurd (show κ = 124 by rw [hT] at z; exact z) (fun e => by rw [e] at hκ; cases hκ)⟩), fun ty h => ?_, fun C' h => ?_, fun ci q hci hq => ?_⟩)
  · by_cases e : k = j
    · subst e; exact hr b h
    · rw [hR2 k e] at h
      exact hP.2.2 a k b (by omega) h
  · rw [hT] at h
    exfalso
    revert hκ h
    dsimp only
    unfold kPrim kRefC
    split <;> simp
  · rw [hT] at h ⊢
    cases hκ.symm.trans h
    refine ⟨⟨notStat rfl, g1.2⟩, arrV_size _ _ _, g3, fun i hi => arrV_read _ _ hi, fun _ => ⟨rfl, g7⟩⟩
  · rw [hT] at hci
    exfalso
    dsimp only at hci
    rw [hci, kRefC_obj] at hκ
    cases hκ
theorem AW.aast (X : FC cx d y cc nL ret hh) {a j n κ v ci : Nat} {i : Int32} {C : String} {q : vw_C} (h100 : 100 ≤ a) (hT : T a = (κ, n)) (hκ : kRefC κ = some C) (hi : i = nI j) (hj : j < n) (hv : T v = (100 + ci, 0)) (hq : amCl[ci]? = some q) (hcast : q.1 = C ∨ (Cond.castable q.1 C) ∈ lw_tbl) (dd : decode cc pc = .ok (.aastore, 1)) (h : AW cx b (pc + 1) ls st T I (w2 R a j (some v)) J) : AW cx b pc ls (.ref v :: .int i :: .ref a :: st) T I R J := by
  obtain ⟨p, l, e, Rm, s, m, args, below, meth, c, D, z0, ρ0, T0, PQ⟩ := cx
  obtain ⟨hx, hb, -, -, -, -, -, -, -, -, -, -, -, hCX⟩ := X
  intro ρ H locs cells slots lsA hk hn hR hS hE hl hs hL
  have hT1 : 1 < (T a).1 := by
    rw [hT]
    show 1 < κ
    rcases κ with _ | _ | κ
    · cases hκ
    · cases hκ
    · omega
  obtain ⟨cell, h1, h2, h3, h4, -, -, h7, -⟩ := hR.1.1 a hT1
  rw [hT] at h7
  obtain ⟨g1, g2, g3, g4, g5⟩ := h7 _ hκ
  dsimp only at g2 g3 g4
  obtain ⟨e1, e2⟩ := ix_in hi hj g3
  obtain ⟨-, kA, comp, r1, r2, r3, -⟩ := g5 h100
  obtain ⟨cellv, v1, -, v3, -, -, -, -, v8⟩ := hR.1.1 v (by rw [hv]; show 1 < 100 + ci; omega)
  obtain ⟨w1, -⟩ := v8 ci q (by rw [hv]) hq
  obtain ⟨-, hfc, kC, hkC, hkind⟩ := hCX.1.1 ci q hq
  obtain ⟨kE, hkE, -⟩ := Vm.findClass_spec r3
  have hasg : s.vm.assignable cellv.cls comp = true := by
    rw [w1]
    rcases hcast with e | hcast
    · have : comp = D.1 ci := Option.some.inj (r3.symm.trans (by rw [← e]; exact hfc))
      rw [this]
      exact va_asg _ _
    · obtain ⟨c0, t0, f1, f2, f3⟩ := Cond.castable_spec (va_Nw.use (A := args) rfl (hCX.2.1 _ hcast rfl))
      cases hfc.symm.trans f1
      cases r3.symm.trans f2
      exact f3
  refine W.aast hx hb (t := .object C) h1 (notStat h3) h4 r1 r2 rfl hkE (by rw [g2]; exact ⟨fun z => e1 (Or.inl z), Nat.not_le.mp fun z => e1 (Or.inr z)⟩) v1 (notStat v3) (by rw [w1]; exact hkC) hasg rfl rfl dd (fun H' q1 q2 q3 => ?_)
  rw [e2] at q1 ⊢
  have hz : z0 ≤ ρ a := h2.mp h100
  have hP' := arrq_stored (R' := w2 R a j (some v)) (j := j) hR.1 h100 hT hκ h1 (fun _ hb => w2_r hb) (fun _ hi => w2_n2 hi) (fun c hc => by rw [w2_s] at hc; cases hc; rw [hv]; show 100 + ci ≠ 0; omega) (by rw [q1, w2_s]; rfl) q3
  exact h ρ H' _ cells slots lsA hk hn (hR.step hP' Ext.rf (by omega) (fun x _ hx => q3 x (fun z => hx (by rw [z]; exact hz)))) (hS.putL q2 q3 hz) hE hl hs.2.2.2 hL
end AWA
