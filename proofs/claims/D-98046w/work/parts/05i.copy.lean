/-! AM 9: arraycopy, getClass, clone (they follow the kit's va_copyi, va_copyM, va_getC, va_clone) -/
set_option maxRecDepth 100000
theorem nfw : nativeFrameWords "java/lang/System" "arraycopy" 5 ≤ 40 := by decide +kernel
theorem nn32 (z : Int32) (hz : ¬ z < 0) : z.toInt = (z.toNatClampNeg : Int) := by
  have hz0 : (0 : Int) ≤ z.toInt := by
    have := Int32.not_lt.mp hz
    simpa using Int32.le_iff_toInt_le.mp this
  show z.toInt = ((z.toInt.toNat : Nat) : Int)
  omega
theorem kPrim_ty {κ : Nat} {ty : FieldType} (h : kPrim κ = some ty) : 1 < κ ∧ refKind ty = false ∧ kRefC κ = none ∧ ∀ ci, κ ≠ 100 + ci := by
  unfold kPrim at h
  split at h <;> cases h <;> exact ⟨by decide, rfl, rfl, fun ci => by omega⟩
theorem kRefC_ty {κ : Nat} {C : String} (h : kRefC κ = some C) : 1 < κ ∧ kPrim κ = none ∧ ∀ ci, κ ≠ 100 + ci := by
  unfold kRefC at h
  split at h <;> cases h <;> exact ⟨by decide, rfl, fun ci => by omega⟩
section AWK
variable {cx : CxT} {d b pc nL : Nat} {y : MethodName} {cc : ByteArray} {ret : Option FieldType} {hh : List (Nat × Nat × Nat × Nat)} {ls st : List Value} {T : KT} {I : KI} {R : KR} {J : KJ}
theorem primArr {D : va_G} {z0 : Nat} {ρ : Nat → Nat} {s : State} {H : Heap} {a n κ : Nat} {ty : FieldType} (hR : RL D z0 ρ T I R J s H) (h100 : 100 ≤ a) (hT : T a = (κ, n)) (hκ : kPrim κ = some ty) : ∃ cA : ClassId, H[ρ a]? = some (arrV cA n (pv I J κ a)) ∧ z0 ≤ ρ a ∧ n < 2 ^ 31 ∧ s.vm.findClass ("[" ++ ty.toString) = some cA ∧ s.isArrayOf (arrV cA n (pv I J κ a)) ty := by
  obtain ⟨cell, h1, h2, -, -, -, h6, -, -⟩ := hR.1.1 a (by rw [hT]; exact (kPrim_ty hκ).1)
  rw [hT] at h6
  obtain ⟨g1, -, g3, -, g5⟩ := h6 ty hκ
  obtain ⟨g6, g7⟩ := g5 h100
  dsimp only at g3 g6
  exact ⟨cell.cls, by rw [h1]; exact congrArg some g6, h2.mp h100, g3, g7, by rw [g6] at g1; exact g1⟩
theorem refArr {D : va_G} {z0 : Nat} {ρ : Nat → Nat} {s : State} {H : Heap} {a n κ : Nat} {C : String} (hR : RL D z0 ρ T I R J s H) (h100 : 100 ≤ a) (hT : T a = (κ, n)) (hκ : kRefC κ = some C) : ∃ cA : ClassId, H[ρ a]? = some (arrV cA n (fun j => va_rf ((R a j).map ρ))) ∧ z0 ≤ ρ a ∧ n < 2 ^ 31 ∧ va_RA s cA (.object C) ∧ s.isArrayOf (arrV cA n (fun j => va_rf ((R a j).map ρ))) (.object C) := by
  obtain ⟨cell, h1, h2, -, -, -, -, h7, -⟩ := hR.1.1 a (by rw [hT]; exact (kRefC_ty hκ).1)
  rw [hT] at h7
  obtain ⟨g1, -, g3, -, g5⟩ := h7 C hκ
  obtain ⟨g6, g7⟩ := g5 h100
  dsimp only at g3 g6
  exact ⟨cell.cls, by rw [h1]; exact congrArg some g6, h2.mp h100, g3, g7, by rw [g6] at g1; exact g1⟩
theorem AW.copyI (X : FC cx d y cc nL ret hh) {idx a a0 n0 n1 sp dp n κ : Nat} {ty : FieldType} {xs xd xn : Int32} (h100 : 100 ≤ a) (h100' : 100 ≤ a0) (hT0 : T a0 = (κ, n0)) (hT : T a = (κ, n1)) (hκ : kPrim κ = some ty) (hκ6 : κ ≠ 6) (es : xs = nI sp) (ed : xd = nI dp) (en : xn = nI n) (h4 : sp + n ≤ n0) (h5 : dp + n ≤ n1) (hfit : ∀ i, i < n → fits ty (.int (I a0 (sp + i))) = true) (hl : (Cond.methodLink y.cls idx arraycopyName) ∈ lw_all) (hd : 1 ≤ d) (hst : (st.map fun v => v.category).sum ≤ 8) (dd : decode cc pc = .ok (.invokestatic idx, 3)) (h : AW cx b (pc + 3) ls st T (row I a (va_cpy (I a0) (I a) sp dp n)) R J) : AW cx b pc ls (.int xn :: .int xd :: .ref a :: .int xs :: .ref a0 :: st) T I R J := by
  subst es; subst ed; subst en
  obtain ⟨p, l, e, Rm, s, m, args, below, meth, c, D, z0, ρ0, T0, PQ⟩ := cx
  obtain ⟨hx, hb, -, hml, hown, -, hts, -, -, -, hf, hlo, -, hCX⟩ := X
  intro ρ H locs cells slots lsA hk hn hR hS hE hl' hs hL
  obtain ⟨c0, hc0, -, b0, -, -, k0, hk0, cm0, hkk0⟩ := primArr hR h100' hT0 hκ
  obtain ⟨c1, hc1, hz, b1, f1, ia1, k1, hk1, cm1, hkk1⟩ := primArr hR h100 hT hκ
  intro U hUT X'
  have e4 : (nI sp).toNatClampNeg = sp := nI_clamp (by omega)
  have e5 : (nI dp).toNatClampNeg = dp := nI_clamp (by omega)
  have e6 : (nI n).toNatClampNeg = n := nI_clamp (by omega)
  have hpv : ∀ (I' : KI) (z j : Nat), pv I' J κ z j = .int (I' z j) := fun I' z j => by unfold pv; rw [if_neg hκ6]
  obtain ⟨vm', X2, step⟩ := X'.arraycopy hx hown (hts _ hl) (hts _ q283) (hts _ q282) (hts _ q96) (src := ρ a0) (dst := ρ a) (cs := arrV c0 n0 (pv I J κ a0)) (cd := arrV c1 n1 (pv I J κ a)) (srcPos := nI sp) (destPos := nI dp) (n := nI n) (by rw [hUT]; exact hc0) (by rw [hUT]; exact hc1)
    (fun _ h => by cases h) (fun _ h => by cases h) (fun h => by cases h) (fun h => by cases h) hk0 hk1 hkk0 hkk1 (by simp [(kPrim_ty hκ).2.1]) (nI_pos (by omega)) (nI_pos (by omega)) (nI_pos (by omega))
    (by rw [nn32 _ (nI_pos (by omega)), nn32 _ (nI_pos (by omega)), arrV_size, e4, e6]; omega)
    (by rw [nn32 _ (nI_pos (by omega)), nn32 _ (nI_pos (by omega)), arrV_size, e5, e6]; omega)
    (fun vm₁ _ i hi => by
      rw [e6] at hi
      have e : (arrV c0 n0 (pv I J κ a0)).slots.getD ((nI sp).toNatClampNeg + i) .null = .int (I a0 (sp + i)) := by
        rw [e4, Array.getD_eq_getD_getElem?, arrV_read _ _ (by omega), hpv]
        rfl
      refine ⟨?_, ?_⟩
      · rw [e]
        exact hfit i hi
      · rw [e]
        exact trivial)
    (g := F0 m pc lsA (.int (nI n) :: .int (nI dp) :: .ref (ρ a) :: .int (nI sp) :: .ref (ρ a0) :: st.map (cv ρ))) rfl (by rw [hL.1]) (rest := st.map (cv ρ)) rfl (by rw [hb]; exact dd) (by omega) (by rw [cat_map]; show 2 * 0 + _ + (nativeFrameWords "java/lang/System" "arraycopy" 5 + 11) ≤ _; have := nfw; omega)
  have e1 : copied (arrV c0 n0 (pv I J κ a0)) (arrV c1 n1 (pv I J κ a)) (nI sp) (nI dp) (nI n) = arrV c1 n1 (pv (row I a (va_cpy (I a0) (I a) sp dp n)) J κ a) := by
    have q0 : pv I J κ a0 = fun j => Value.int (I a0 j) := funext (hpv I a0)
    have q1 : pv I J κ a = fun j => Value.int (I a j) := funext (hpv I a)
    have q2 : pv (row I a (va_cpy (I a0) (I a) sp dp n)) J κ a = fun j => Value.int (va_cpy (I a0) (I a) sp dp n j) := funext fun j => by rw [hpv, row_s]
    rw [q0, q1, q2]
    unfold copied
    rw [e4, e5, e6]
    exact va_copied (fun z => .int z) c0 c1 (I a0) (I a) h4
  rw [e1] at X2 step
  have hlt : ρ a < H.size := (Array.getElem?_eq_some_iff.mp hc1).1
  generalize hV : (U.setVm vm').setCell (ρ a) (arrV c1 n1 (pv (row I a (va_cpy (I a0) (I a) sp dp n)) J κ a)) = V at X2 step
  have hV1 : V.heap[ρ a]? = some (arrV c1 n1 (pv (row I a (va_cpy (I a0) (I a) sp dp n)) J κ a)) := by rw [← hV]; exact heapAt_setCell_self (s := U.setVm vm') _ (by show ρ a < U.heap.size; rw [hUT]; exact hlt)
  have oq : ∀ q, q ≠ ρ a → V.heap[q]? = H[q]? := fun q hq => by
    rw [← hV, heapAt_setCell_ne _ (Ne.symm hq)]
    show U.heap[q]? = _
    rw [hUT]
  have z1 : V.heap.size = H.size := by rw [← hV, size_setCell]; show U.heap.size = _; rw [hUT]
  have hT1 : 1 < (T a).1 := by rw [hT]; exact (kPrim_ty hκ).1
  have hP' : HP D z0 ρ T (row I a (va_cpy (I a0) (I a) sp dp n)) R J s V.heap := by
    refine hR.1.store hT1 (fun _ hb => row_n hb) (fun _ _ => rfl) (fun _ _ => rfl) oq (fun k b h => hR.1.2.2 a k b (by omega) h) (fun _ => ?_)
    refine ⟨_, hV1, ⟨fun _ => hz, fun _ => h100⟩, rfl, (fun q => by cases q), (fun _ => ⟨rfl, fun z => absurd (show κ = 100 + 24 by rw [hT] at z; exact z) ((kPrim_ty hκ).2.2.2 24)⟩), fun ty' h => ?_, fun C' h => ?_, fun ci q hci hq => ?_⟩
    · rw [hT] at h ⊢
      cases hκ.symm.trans h
      exact ⟨⟨notStat rfl, ⟨k1, hk1, cm1, hkk1⟩⟩, arrV_size _ _ _, b1, fun j hj => arrV_read _ _ hj, fun _ => ⟨rfl, f1⟩⟩
    · rw [hT] at h
      rw [(kPrim_ty hκ).2.2.1] at h
      cases h
    · rw [hT] at hci
      exact absurd hci ((kPrim_ty hκ).2.2.2 ci)
  obtain ⟨t, a1, b1'⟩ := h ρ V.heap _ cells slots lsA hk hn (hR.step hP' Ext.rf (by omega) (fun x _ hx => oq x (fun z => hx (by rw [z]; exact hz)))) (by
    refine ⟨by rw [z1]; exact hS.1, fun q g1 g2 => by
      rw [oq q (fun z => g2 (by rw [z]; exact hz))]
      exact hS.2.1 q g1 g2, fun q hq => ?_⟩
    rcases List.mem_append.mp hq with h | h
    · exact hS.2.2 q h
    · obtain ⟨z, -, hz'⟩ := List.mem_map.mp h
      rw [← hz']
      exact hz) hE hl' hs.2.2.2.2.2 hL V rfl X2
  exact ⟨t, step t a1, b1'⟩
theorem AW.copyQ (X : FC cx d y cc nL ret hh) {idx a a0 n0 n1 sp dp n κ : Nat} {C : String} {xs xd xn : Int32} (h100 : 100 ≤ a) (h100' : 100 ≤ a0) (hT0 : T a0 = (κ, n0)) (hT : T a = (κ, n1)) (hκ : kRefC κ = some C) (es : xs = nI sp) (ed : xd = nI dp) (en : xn = nI n) (h4 : sp + n ≤ n0) (h5 : dp + n ≤ n1) (hel : ∀ i, i < n → ∀ w, R a0 (sp + i) = some w → ∃ ci q, T w = (100 + ci, 0) ∧ amCl[ci]? = some q ∧ (Cond.castable q.1 C) ∈ lw_tbl) (hl : (Cond.methodLink y.cls idx arraycopyName) ∈ lw_all) (hd : 1 ≤ d) (hst : (st.map fun v => v.category).sum ≤ 8) (dd : decode cc pc = .ok (.invokestatic idx, 3)) (h : AW cx b (pc + 3) ls st T I (row R a (va_cpy (R a0) (R a) sp dp n)) J) : AW cx b pc ls (.int xn :: .int xd :: .ref a :: .int xs :: .ref a0 :: st) T I R J := by
  subst es; subst ed; subst en
  obtain ⟨p, l, e, Rm, s, m, args, below, meth, c, D, z0, ρ0, T0, PQ⟩ := cx
  obtain ⟨hx, hb, -, hml, hown, -, hts, -, -, -, hf, hlo, -, hCX⟩ := X
  intro ρ H locs cells slots lsA hk hn hR hS hE hl' hs hL
  obtain ⟨c0, hc0, -, b0, -, -, k0, hk0, cm0, hkk0⟩ := refArr hR h100' hT0 hκ
  obtain ⟨c1, hc1, hz, b1, ra1, ia1, k1, hk1, cm1, hkk1⟩ := refArr hR h100 hT hκ
  intro U hUT X'
  have e4 : (nI sp).toNatClampNeg = sp := nI_clamp (by omega)
  have e5 : (nI dp).toNatClampNeg = dp := nI_clamp (by omega)
  have e6 : (nI n).toNatClampNeg = n := nI_clamp (by omega)
  obtain ⟨vm', X2, step⟩ := X'.arraycopy hx hown (hts _ hl) (hts _ q283) (hts _ q282) (hts _ q96) (src := ρ a0) (dst := ρ a) (cs := arrV c0 n0 (fun j => va_rf ((R a0 j).map ρ))) (cd := arrV c1 n1 (fun j => va_rf ((R a j).map ρ))) (srcPos := nI sp) (destPos := nI dp) (n := nI n) (by rw [hUT]; exact hc0) (by rw [hUT]; exact hc1)
    (fun _ h => by cases h) (fun _ h => by cases h) (fun h => by cases h) (fun h => by cases h) hk0 hk1 hkk0 hkk1 rfl (nI_pos (by omega)) (nI_pos (by omega)) (nI_pos (by omega))
    (by rw [nn32 _ (nI_pos (by omega)), nn32 _ (nI_pos (by omega)), arrV_size, e4, e6]; omega)
    (by rw [nn32 _ (nI_pos (by omega)), nn32 _ (nI_pos (by omega)), arrV_size, e5, e6]; omega)
    (fun vm₁ hal i hi => by
      rw [e6] at hi
      have e : (arrV c0 n0 (fun j => va_rf ((R a0 j).map ρ))).slots.getD ((nI sp).toNatClampNeg + i) .null = va_rf ((R a0 (sp + i)).map ρ) := by
        rw [e4, Array.getD_eq_getD_getElem?, arrV_read _ _ (by omega)]
        rfl
      rw [e]
      cases hy : R a0 (sp + i) with
      | none => exact ⟨rfl, trivial⟩
      | some w =>
        obtain ⟨ci, q, hTw, hq, hcast⟩ := hel i hi w hy
        obtain ⟨cellV, g1, g2, g3⟩ := objAt hR hCX (by rw [hTw]) hq
        obtain ⟨kA, comp, r1, r2, r3, -⟩ := ra1
        cases hk1.symm.trans r1
        cases hkk1.symm.trans r2
        obtain ⟨kC, hkC, -⟩ := Vm.findClass_spec g3
        obtain ⟨kE, hkE, -⟩ := Vm.findClass_spec r3
        obtain ⟨kC', hkC', -⟩ := hal.2.2 _ _ hkC
        obtain ⟨kE', hkE', -⟩ := hal.2.2 _ _ hkE
        obtain ⟨cc0, ct0, f1, f2, f3⟩ := Cond.castable_spec (va_Nw.use (A := args) rfl (hCX.2.1 _ hcast rfl))
        refine ⟨rfl, cellV, (show U.heap[ρ w]? = some cellV by rw [hUT]; exact g1), notStat g2, ⟨kC', hkC'⟩, ?_, ?_⟩
        · exact ⟨kE', hkE'⟩
        · show vm₁.assignable _ _ = true
          rw [hal.assignable]
          cases g3.symm.trans f1
          cases r3.symm.trans f2
          exact f3)
    (g := F0 m pc lsA (.int (nI n) :: .int (nI dp) :: .ref (ρ a) :: .int (nI sp) :: .ref (ρ a0) :: st.map (cv ρ))) rfl (by rw [hL.1]) (rest := st.map (cv ρ)) rfl (by rw [hb]; exact dd) (by omega) (by rw [cat_map]; show 2 * 0 + _ + (nativeFrameWords "java/lang/System" "arraycopy" 5 + 11) ≤ _; have := nfw; omega)
  have e1 : copied (arrV c0 n0 (fun j => va_rf ((R a0 j).map ρ))) (arrV c1 n1 (fun j => va_rf ((R a j).map ρ))) (nI sp) (nI dp) (nI n) = arrV c1 n1 (fun j => va_rf ((row R a (va_cpy (R a0) (R a) sp dp n) a j).map ρ)) := by
    rw [row_s]
    unfold copied
    rw [e4, e5, e6]
    exact va_copied (fun (z : Option Nat) => va_rf (z.map ρ)) c0 c1 (R a0) (R a) h4
  rw [e1] at X2 step
  have hlt : ρ a < H.size := (Array.getElem?_eq_some_iff.mp hc1).1
  generalize hV : (U.setVm vm').setCell (ρ a) (arrV c1 n1 (fun j => va_rf ((row R a (va_cpy (R a0) (R a) sp dp n) a j).map ρ))) = V at X2 step
  have hV1 : V.heap[ρ a]? = some (arrV c1 n1 (fun j => va_rf ((row R a (va_cpy (R a0) (R a) sp dp n) a j).map ρ))) := by rw [← hV]; exact heapAt_setCell_self (s := U.setVm vm') _ (by show ρ a < U.heap.size; rw [hUT]; exact hlt)
  have oq : ∀ q, q ≠ ρ a → V.heap[q]? = H[q]? := fun q hq => by
    rw [← hV, heapAt_setCell_ne _ (Ne.symm hq)]
    show U.heap[q]? = _
    rw [hUT]
  have z1 : V.heap.size = H.size := by rw [← hV, size_setCell]; show U.heap.size = _; rw [hUT]
  have hT1 : 1 < (T a).1 := by rw [hT]; exact (kRefC_ty hκ).1
  have hT01 : 1 < (T a0).1 := by rw [hT0]; exact (kRefC_ty hκ).1
  have hP' : HP D z0 ρ T I (row R a (va_cpy (R a0) (R a) sp dp n)) J s V.heap := by
    refine hR.1.store hT1 (fun _ _ => rfl) (fun _ hb => row_n hb) (fun _ _ => rfl) oq (fun k w h => ?_) (fun _ => ?_)
    · rw [row_s] at h
      unfold va_cpy at h
      split at h
      · exact hR.1.2.2 a0 _ w (by omega) h
      · exact hR.1.2.2 a _ w (by omega) h
    refine ⟨_, hV1, ⟨fun _ => hz, fun _ => h100⟩, rfl, (fun q => by cases q), (fun _ => ⟨rfl, fun z => absurd (show κ = 100 + 24 by rw [hT] at z; exact z) ((kRefC_ty hκ).2.2 24)⟩), fun ty' h => ?_, fun C' h => ?_, fun ci q hci hq => ?_⟩
    · rw [hT] at h
      rw [(kRefC_ty hκ).2.1] at h
      cases h
    · rw [hT] at h ⊢
      cases hκ.symm.trans h
      exact ⟨⟨notStat rfl, ⟨k1, hk1, cm1, hkk1⟩⟩, arrV_size _ _ _, b1, fun j hj => arrV_read _ _ hj, fun _ => ⟨rfl, ra1⟩⟩
    · rw [hT] at hci
      exact absurd hci ((kRefC_ty hκ).2.2 ci)
  obtain ⟨t, a1, b1'⟩ := h ρ V.heap _ cells slots lsA hk hn (hR.step hP' Ext.rf (by omega) (fun x _ hx => oq x (fun z => hx (by rw [z]; exact hz)))) (by
    refine ⟨by rw [z1]; exact hS.1, fun q g1 g2 => by
      rw [oq q (fun z => g2 (by rw [z]; exact hz))]
      exact hS.2.1 q g1 g2, fun q hq => ?_⟩
    rcases List.mem_append.mp hq with h | h
    · exact hS.2.2 q h
    · obtain ⟨z, -, hz'⟩ := List.mem_map.mp h
      rw [← hz']
      exact hz) hE hl' hs.2.2.2.2.2 hL V rfl X2
  exact ⟨t, step t a1, b1'⟩
theorem AW.getC (X : FC cx d y cc nL ret hh) {idx a n : Nat} (h100 : 100 ≤ a) (hT : T a = (10, n)) (hl : (Cond.methodLink y.cls idx ⟨"java/lang/Object", "getClass", "()Ljava/lang/Class;"⟩) ∈ lw_all) (hsel : (Cond.selects "[Ljava/lang/Object;" ⟨"java/lang/Object", "getClass", "()Ljava/lang/Class;"⟩ ⟨"java/lang/Object", "getClass", "()Ljava/lang/Class;"⟩) ∈ lw_all) (hi : (Cond.instanceMethod ⟨"java/lang/Object", "getClass", "()Ljava/lang/Class;"⟩) ∈ lw_all) (hna : (Cond.native ⟨"java/lang/Object", "getClass", "()Ljava/lang/Class;"⟩) ∈ lw_all) (hd : 1 ≤ d) (hst : (st.map fun v => v.category).sum ≤ 8) (dd : decode cc pc = .ok (.invokevirtual idx, 3)) (h : AW cx b (pc + 3) ls (.ref 5 :: st) T I R J) : AW cx b pc ls (.ref a :: st) T I R J := by
  obtain ⟨p, l, e, Rm, s, m, args, below, meth, c, D, z0, ρ0, T0, PQ⟩ := cx
  obtain ⟨hx, hb, -, hml, hown, -, hts, -, -, -, hf, hlo, -, hCX⟩ := X
  intro ρ H locs cells slots lsA hk hn hR hS hE hl' hs hL
  obtain ⟨g1, g2⟩ := hR.2.2.2.2.2.1
  obtain ⟨cA, hc, -, -, ⟨kA, comp, -, -, -, r4⟩, -⟩ := refArr hR h100 hT (C := "java/lang/Object") rfl
  exact va_getC hx hb (by rw [hL.1]) (C := "[Ljava/lang/Object;") hown (hts _ hl) (va_Dc.use hCX.2.2.2.2.2) (hts _ hsel) (hts _ hi) (hts _ hna) g2 ⟨_, hc, rfl, r4⟩ (by omega) (by rw [cat_map]; omega) dd (h ρ H locs cells slots lsA hk hn hR hS hE hl' ⟨g1, hs.2⟩ hL)
theorem AW.cloneB (X : FC cx d y cc nL ret hh) (a' kc : Nat) {idx a n : Nat} (ha' : (T a').1 = 0) (h100' : 100 ≤ a') (h100 : 100 ≤ a) (hT : T a = (3, n)) (hkc : 1 ≤ kc ∧ n ≤ 4 * kc) (hfit : ∀ j, j < n → fits .byte (.int (I a j)) = true) (hl : (Cond.methodLink y.cls idx ⟨"[B", "clone", "()Ljava/lang/Object;"⟩) ∈ lw_all) (hsame : (Cond.sameMethod "[B" "java/lang/Object" "clone" "()Ljava/lang/Object;") ∈ lw_all) (hna : (Cond.native ⟨"java/lang/Object", "clone", "()Ljava/lang/Object;"⟩) ∈ lw_all) (hi : (Cond.instanceMethod ⟨"java/lang/Object", "clone", "()Ljava/lang/Object;"⟩) ∈ lw_all) (hsel : (Cond.selects "[B" ⟨"[B", "clone", "()Ljava/lang/Object;"⟩ ⟨"java/lang/Object", "clone", "()Ljava/lang/Object;"⟩) ∈ lw_all) (hcl : (Cond.castable "[B" "java/lang/Cloneable") ∈ lw_tbl) (hd : 1 ≤ d) (hst : (st.map fun v => v.category).sum ≤ 8) (dd : decode cc pc = .ok (.invokevirtual idx, 3)) (h : AW cx b (pc + 3) ls (.ref a' :: st) (row T a' (3, n)) (row I a' (I a)) (row R a' (fun _ => none)) J) : AW cx (b + kc) pc ls (.ref a :: st) T I R J := by
  obtain ⟨p, l, e, Rm, s, m, args, below, meth, c, D, z0, ρ0, T0, PQ⟩ := cx
  obtain ⟨hx, hb, -, hml, hown, -, hts, -, -, -, hf, hlo, -, hCX⟩ := X
  intro ρ H locs cells slots lsA hk hn hR hS hE hl' hs hL
  obtain ⟨cA, hc, -, hn31, hnm, ia, kS, hkS, compS, hkindS⟩ := primArr hR h100 hT (ty := .byte) rfl
  obtain ⟨c0, t0', f1, f2, f3⟩ := Cond.castable_spec (va_Nw.use (A := args) rfl (hCX.2.1 _ hcl rfl))
  have hnm' : s.vm.findClass "[B" = some cA := hnm
  cases hnm'.symm.trans f1
  intro U hUT X'
  obtain ⟨-, kA, hkA, comp, hkind⟩ := State.isArrayOf_alike X'.warmed.alike (show s.isArrayOf (arrV cA n (pv I J 3 a)) .byte from ⟨ia, kS, hkS, compS, hkindS⟩)
  obtain ⟨vm', X2, st2⟩ := X'.cloneArray hx hown (hts _ hl) (hts _ hsame) (hts _ hna) (hts _ hi) (hts _ hsel) (a := ρ a) (cell := arrV cA n (pv I J 3 a)) (by rw [hUT]; exact hc) (fun k h => by cases h) (fun h => by cases h) hnm' f2 f3
    (fun i v hv => by
      have hk' : U.vm.classes[cA]? = some kA := hkA
      have hi' : i < n := by
        have := (Array.getElem?_eq_some_iff.mp hv).1
        rw [arrV_size] at this
        exact this
      rw [arrV_read _ _ hi'] at hv
      cases hv
      have hff : fits .byte (pv I J 3 a i) = true := by
        show fits .byte (if 3 = 6 then _ else _) = true
        rw [if_neg (by decide)]
        exact hfit i hi'
      rw [show (arrV cA n (pv I J 3 a)).cls = cA from rfl]
      simpa [State.fitsSlot, State.slotType?, hk', hkind] using hff)
    (g := F0 m pc lsA (.ref (ρ a) :: st.map (cv ρ))) rfl (by rw [hL.1]) rfl (by rw [hb]; exact dd) (by omega) (by rw [cat_map]; show 2 * 0 + _ + 14 ≤ _; omega) (by omega) (by rw [arrV_size]; omega) (hloader := Vm.clonesLoader_of_array hkS hkindS)
  have hcellE : ({ cls := (arrV cA n (pv I J 3 a)).cls, slots := (arrV cA n (pv I J 3 a)).slots } : Cell) = arrV cA n (pv I J 3 a) := rfl
  rw [hcellE, arrV_size] at X2
  generalize hH1 : H.push (arrV cA n (pv I J 3 a)) = H1
  have z1 : H1.size = H.size + 1 := by rw [← hH1, Array.size_push]
  have e1 : H1[H.size]? = some (arrV cA n (pv I J 3 a)) := by rw [← hH1, Array.getElem?_push_size]
  have o1 : ∀ q : Nat, q < H.size → H1[q]? = H[q]? := fun q hq => by rw [← hH1, Array.getElem?_push, if_neg (Nat.ne_of_lt hq)]
  have epv : pv (row I a' (I a)) J 3 a' = pv I J 3 a := funext fun j => by
    show (if 3 = 6 then _ else _) = (if 3 = 6 then _ else _)
    rw [if_neg (by decide), if_neg (by decide), row_s]
  obtain ⟨r1, r2, r3, r4⟩ := amAlloc (κ := (3, n)) (I' := row I a' (I a)) (R' := row R a' (fun _ => none)) (J' := J) hR hS hE ha' (Nat.le_of_ble_eq_true rfl) (fun _ hb => row_n hb) (fun _ hb => row_n hb) (fun _ _ => rfl) o1 (by omega) (fun k => by rw [row_s]) (fun _ => by
    rw [row_s, row_s]
    refine ⟨_, e1, ⟨fun _ => hR.2.1, fun _ => h100'⟩, rfl, (fun z => by cases z), (fun _ => ⟨rfl, fun z => absurd (show 3 = 124 from z) (by decide)⟩), fun ty hty => ?_, fun C hC => absurd (show none = some C from hC) (fun z => by cases z), fun ci' q' hci hq' => by dsimp only at hci; omega⟩
    cases (show some FieldType.byte = some ty from hty)
    dsimp only
    rw [epv]
    exact ⟨⟨ia, kS, hkS, compS, hkindS⟩, arrV_size _ _ _, hn31, fun j hj => arrV_read _ _ hj, fun _ => ⟨rfl, hnm⟩⟩)
  have := h (row ρ a' H.size) H1 locs (cells + 1) (slots + n) lsA (by omega) (by omega) r1 r2 r3 (r4.wfs hl') ⟨by show (row T a' (3, n) a').1 ≠ 0; rw [row_s]; show 3 ≠ 0; omega, r4.wfs hs.2⟩ (hL.ext r4 hl')
  rw [List.map_cons, r4.map hs.2] at this
  have e0 : cv (row ρ a' H.size) (.ref a') = .ref H.size := by show Value.ref (row ρ a' H.size a') = _; rw [row_s]
  rw [e0] at this
  obtain ⟨t, b1, b2⟩ := this ((U.setVm vm').pushCell (arrV cA n (pv I J 3 a))) (by rw [← hH1, ← hUT]; rfl) X2
  refine ⟨t, st2 t ?_, b2⟩
  rw [hcellE, hUT]
  exact b1
end AWK
