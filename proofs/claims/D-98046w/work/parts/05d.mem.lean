/-! AM 4: rules that read and write the memory -/
set_option maxRecDepth 100000
theorem lw_nw {w : Cond} (h : w ∈ lw_tbl) : w ∈ lw_tbl := h
theorem in_XF : ∀ w ∈ u_ws RX16 TXF 2, w ∈ lw_all := lw_in (u_ws RX16 TXF 2) [1055, 1057] (by decide +kernel) (by decide +kernel)
theorem in_J9b : ∀ w ∈ u_ws RJ9 TJ9 2, w ∈ lw_all := fun w h => in_J9 w (by
  simp only [u_ws, List.mem_map, List.mem_range] at h ⊢
  obtain ⟨k, hk, e⟩ := h
  exact ⟨k, by omega, e⟩)
theorem in_no {C : String} : ∀ w ∈ u_ws C TX0_ 0, w ∈ lw_all := fun w h => by simp [u_ws] at h
def ClsOK (q : vw_C) : Prop := (∀ w ∈ u_ws q.1 q.2.1 q.2.2, w ∈ lw_all) ∧ (∃ ty0 : Nat → FieldType, ∀ k, k < q.2.2 → parseFieldDescriptor (q.2.1 k).2.2.1 = some (ty0 k)) ∧ ∀ a, a < q.2.2 → ∀ b, b < q.2.2 → a ≠ b → (q.2.1 a).2.1 ≠ (q.2.1 b).2.1
theorem amClsM : ∀ q ∈ amCl, ClsOK q := by
  have c2 : ∀ {α : Type} {p : α → Prop} {a : α} {l : List α}, p a → (∀ x ∈ l, p x) → ∀ x ∈ a :: l, p x := fun h1 h2 => List.forall_mem_cons.mpr ⟨h1, h2⟩
  unfold amCl
  refine c2 ⟨in_X1, ⟨_, tyX1_ok⟩, nmX1⟩ (c2 ⟨in_X2, ⟨_, tyX2_ok⟩, nmX2⟩ (c2 ⟨in_X3, ⟨_, tyX3_ok⟩, nmX3⟩ (c2 ⟨in_X4, ⟨_, tyX4_ok⟩, nmX4⟩ (c2 ⟨in_X6, ⟨_, tyX6_ok⟩, nmX6⟩ (c2 ⟨in_X18, ⟨_, tyX18_ok⟩, nmX18⟩ (c2 ⟨in_X19, ⟨_, tyX19_ok⟩, nmX19⟩ (c2 ⟨in_X20, ⟨_, tyX20_ok⟩, nmX20⟩ (c2 ⟨in_X21, ⟨_, tyX21_ok⟩, nmX21⟩ (c2 ⟨in_X7, ⟨_, tyX7_ok⟩, nmX7⟩ (c2 ⟨in_X8, ⟨_, tyX8_ok⟩, nmX8⟩ (c2 ⟨in_X9, ⟨_, tyX9_ok⟩, nmX9⟩ (c2 ⟨in_X10, ⟨_, tyX10_ok⟩, nmX10⟩ (c2 ⟨in_X12, ⟨_, tyX12_ok⟩, nmX12⟩ (c2 ⟨in_X13, ⟨_, tyX13_ok⟩, nmX13⟩ (c2 ⟨in_X14, ⟨_, tyX14_ok⟩, nmX14⟩ (c2 ⟨in_X15, ⟨_, tyX15_ok⟩, nmX15⟩ (c2 ⟨in_XF, ⟨fun _ => .int, by decide +kernel⟩, by decide +kernel⟩ (c2 ⟨in_X5, ⟨_, tyX5_ok⟩, nmX5⟩ (c2 ⟨in_J2, ⟨_, tyJ2_ok⟩, nmJ2⟩ (c2 ⟨in_J9b, ⟨_, fun k hk => tyJ9_ok k (Nat.lt_of_lt_of_le hk (by decide))⟩, by decide +kernel⟩ (c2 ⟨in_J8, ⟨_, tyJ8_ok⟩, nmJ8⟩ (c2 ⟨in_no, ⟨fun _ => .int, fun k hk => absurd hk (Nat.not_lt_zero k)⟩, fun k hk => absurd hk (Nat.not_lt_zero k)⟩ (c2 ⟨in_no, ⟨fun _ => .int, fun k hk => absurd hk (Nat.not_lt_zero k)⟩, fun k hk => absurd hk (Nat.not_lt_zero k)⟩ (c2 ⟨in_X16, ⟨_, tyX16_ok⟩, nmX16⟩ (fun x h => absurd h List.not_mem_nil)))))))))))))))))))))))))
theorem amCls {ci : Nat} {q : vw_C} (h : amCl[ci]? = some q) : ClsOK q := amClsM q (List.mem_of_getElem? h)
/-- a field of class ci, as the entry idx of own names it -/
def FieldOK (own : String) (idx ci k : Nat) (ty : FieldType) : Prop := ∃ (q : vw_C) (ref : String), amCl[ci]? = some q ∧ k < q.2.2 ∧ parseFieldDescriptor (q.2.1 k).2.2.1 = some ty ∧ ((Cond.fieldLink own idx ref (q.2.1 k).2.1 (q.2.1 k).2.2.1) ∈ lw_all ∨ ∃ host, (Cond.fieldLinkNest own idx ref (q.2.1 k).2.1 (q.2.1 k).2.2.1 host) ∈ lw_tbl) ∧ (ref = (q.2.1 k).1 ∨ (Cond.sameField ref (q.2.1 k).1 (q.2.1 k).2.1 (q.2.1 k).2.2.1) ∈ lw_all)
/-- .. that may be written there -/
def PutOK (y : MethodName) (idx ci k : Nat) (ty : FieldType) : Prop := FieldOK y.cls idx ci k ty ∧ ci ≠ 24 ∧ ∃ q, amCl[ci]? = some q ∧ ((q.2.1 k).2.2.2 = false ∨ ((q.2.1 k).2.2.2 = true ∧ y.name = "<init>" ∧ (q.2.1 k).1 = y.cls ∧ ∃ ref, (Cond.fieldLink y.cls idx ref (q.2.1 k).2.1 (q.2.1 k).2.2.1) ∈ lw_all ∧ ref = (q.2.1 k).1))
theorem kPrim_obj (ci : Nat) : kPrim (100 + ci) = none := by
  unfold kPrim
  split <;> first | omega | rfl
theorem kRefC_obj (ci : Nat) : kRefC (100 + ci) = none := by
  unfold kRefC
  split <;> first | omega | rfl
theorem fsame {args : Array Value} {s : State} {ref o n d : String} (hts : ∀ w ∈ lw_all, w.before args s = true) (h : ref = o ∨ (Cond.sameField ref o n d) ∈ lw_all) {x : ClassId × Class × Nat × Field} (hx : s.fieldFound? o n d = some x) : s.fieldFound? ref n d = some x := by
  rcases h with e | h
  · rw [e]; exact hx
  · exact u_same (hts _ h) x hx
/-- the value of a field -/
def fval (ty : FieldType) (I : KI) (R : KR) (a k : Nat) : Value := if ty.isReference then va_rf (R a k) else .int (I a k)
theorem fv_fval {ρ : Nat → Nat} {I : KI} {R : KR} {a k : Nat} {d : String} {ty : FieldType} (h : parseFieldDescriptor d = some ty) : fv ρ I R a k d = cv ρ (fval ty I R a k) := by
  unfold fv fval
  rw [h]
  dsimp only
  split
  · rw [cv_rf]
  · rfl
section AWM
variable {cx : CxT} {d b pc nL : Nat} {y : MethodName} {cc : ByteArray} {ret : Option FieldType} {hh : List (Nat × Nat × Nat × Nat)} {ls st : List Value} {T : KT} {I : KI} {R : KR} {J : KJ}
theorem AW.getf (X : FC cx d y cc nL ret hh) {idx ci k a : Nat} {ty : FieldType} (hF : FieldOK y.cls idx ci k ty) (hT : (T a).1 = 100 + ci) (dd : decode cc pc = .ok (.getfield idx, 3)) (h : AW cx b (pc + 3) ls (fval ty I R a k :: st) T I R J) : AW cx b pc ls (.ref a :: st) T I R J := by
  obtain ⟨p, l, e, Rm, s, m, args, below, meth, c, D, z0, ρ0, T0, PQ⟩ := cx
  obtain ⟨hx, hb, -, -, hown, -, hts, -, -, -, -, -, -, hCX⟩ := X
  intro ρ H locs cells slots lsA hk hn hR hS hE hl hs hL
  obtain ⟨q, ref, hq, hkN, hty, hlink, hsame⟩ := hF
  obtain ⟨hin, -, -⟩ := amCls hq
  obtain ⟨cell, h1, -, -, h4, -, -, -, h8⟩ := hR.1.1 a (by omega)
  obtain ⟨-, g2⟩ := h8 ci q hT hq
  obtain ⟨hSl, hfc, kC, hkC, -⟩ := hCX.1.1 ci q hq
  obtain ⟨cf, kf, fi, f, hi, hsl⟩ := hSl k hkN
  have hst := (u_facts hfc hkC (u_lays hts hin hkN) hi).1
  have hv := g2 k hkN
  rw [fv_fval hty] at hv
  have hwf : wfv T (fval ty I R a k) := by
    unfold fval
    split
    · exact wfv_rf fun b hb => hR.1.2.2 a k b (by omega) hb
    · exact trivial
  rcases hlink with hlink | ⟨host, hlink⟩
  · exact W.getf hx hb hown (hts _ hlink) (fsame hts hsame hi) hst h1 h4 (v := cv ρ (fval ty I R a k)) (by rw [hsl]; exact hv) rfl rfl dd (h ρ H locs cells slots lsA hk hn hR hS hE hl ⟨hwf, hs.2⟩ hL)
  · exact va_Wgetf hx hb hown (va_Nw.use rfl (hCX.2.1 _ hlink rfl)) (fsame hts hsame hi) hst h1 h4 (v := cv ρ (fval ty I R a k)) (by rw [hsl]; exact hv) rfl rfl dd (h ρ H locs cells slots lsA hk hn hR hS hE hl ⟨hwf, hs.2⟩ hL)
theorem AW.getI (X : FC cx d y cc nL ret hh) {idx ci k a : Nat} {ty : FieldType} (hF : FieldOK y.cls idx ci k ty) (hT : T a = (100 + ci, 0)) (dd : decode cc pc = .ok (.getfield idx, 3)) (h : AW cx b (pc + 3) ls (.int (I a k) :: st) T I R J) (hr : ty.isReference = false := by rfl) : AW cx b pc ls (.ref a :: st) T I R J :=
  AW.getf X hF (by rw [hT]) dd (by unfold fval; rw [hr]; exact h)
theorem AW.getR (X : FC cx d y cc nL ret hh) {idx ci k a r : Nat} {ty : FieldType} (hF : FieldOK y.cls idx ci k ty) (hT : T a = (100 + ci, 0)) (hv : R a k = some r) (dd : decode cc pc = .ok (.getfield idx, 3)) (h : AW cx b (pc + 3) ls (.ref r :: st) T I R J) (hr : ty.isReference = true := by rfl) : AW cx b pc ls (.ref a :: st) T I R J :=
  AW.getf X hF (by rw [hT]) dd (by unfold fval; rw [hr, hv]; exact h)
theorem AW.getN (X : FC cx d y cc nL ret hh) {idx ci k a : Nat} {ty : FieldType} (hF : FieldOK y.cls idx ci k ty) (hT : T a = (100 + ci, 0)) (hv : R a k = none) (dd : decode cc pc = .ok (.getfield idx, 3)) (h : AW cx b (pc + 3) ls (.null :: st) T I R J) (hr : ty.isReference = true := by rfl) : AW cx b pc ls (.ref a :: st) T I R J :=
  AW.getf X hF (by rw [hT]) dd (by unfold fval; rw [hr, hv]; exact h)
theorem va_S.putL {z0 : Nat} {H0 H H1 : Heap} {locs : List Loc} {a k : Nat} (h : va_S (stZ z0) H0 H locs) (z : H1.size = H.size) (oq : ∀ q : Nat, q ≠ a → H1[q]? = H[q]?) (ha : z0 ≤ a) : va_S (stZ z0) H0 H1 (locs ++ [⟨a, k⟩]) := va_S.put h z oq ha
/-- the object's cell behind a store in it -/
theorem obj_stored {D : va_G} {z0 : Nat} {ρ : Nat → Nat} {I I' : KI} {R R' : KR} {J : KJ} {s : State} {H H' : Heap} {a ci k : Nat} {q : vw_C} {ty : FieldType} {cell : Cell} {args : Array Value} (hP : HP D z0 ρ T I R J s H) (h100 : 100 ≤ a) (hT : (T a).1 = 100 + ci) (hci24 : ci ≠ 24) (hq : amCl[ci]? = some q) (hk : k < q.2.2) (hty : parseFieldDescriptor (q.2.1 k).2.2.1 = some ty) (hts : ∀ w ∈ lw_all, w.before args s = true) (hK : va_K D amCl [] s)
    (hc : H[ρ a]? = some cell) (hI : ∀ b, b ≠ a → I' b = I b) (hR : ∀ b, b ≠ a → R' b = R b) (hI2 : ∀ j, j ≠ k → I' a j = I a j) (hR2 : ∀ j, j ≠ k → R' a j = R a j) (hr : ∀ b, R' a k = some b → (T b).1 ≠ 0)
    (e1 : H'[ρ a]? = some (cell.setSlot (D.2 ci k) (cv ρ (fval ty I' R' a k)))) (oq : ∀ x, x ≠ ρ a → H'[x]? = H[x]?) : HP D z0 ρ T I' R' J s H' := by
  obtain ⟨hin, ⟨ty0, hty0⟩, hnm⟩ := amCls hq
  have hap := va_apart (own := "") (D := D) hts hin ty0 hty0 hnm hK hq
  obtain ⟨cell', h1, h2, h3, h4, h5, h6, h7, h8⟩ := hP.1 a (by omega)
  cases hc.symm.trans h1
  obtain ⟨g1, g2⟩ := h8 ci q hT hq
  refine hP.store (by omega) hI hR (fun _ _ => rfl) oq (fun j c hj => ?_) (fun _ => ⟨_, e1, h2, h3, h4, fun z => ⟨(h5 z).1, fun z2 => absurd (show ci = 24 by omega) hci24⟩, fun ty' h => ?_, fun C h => ?_, fun ci' q' hci hq' => ?_⟩)
  · by_cases e : j = k
    · subst e; exact hr c hj
    · rw [hR2 j e] at hj
      exact hP.2.2 a j c (by omega) hj
  · rw [hT, kPrim_obj] at h; cases h
  · rw [hT, kRefC_obj] at h; cases h
  · have e : ci' = ci := by omega
    subst e
    cases hq.symm.trans hq'
    refine ⟨g1, fun j hj => ?_⟩
    rw [t_set (V := fun j => fv ρ I R a j (q.2.1 j).2.2.1) g2 hap hk _ j hj]
    congr 1
    by_cases e : j = k
    · subst e
      simp only [updV, if_pos]
      exact (fv_fval hty).symm
    · simp only [updV, if_neg e]
      unfold fv
      rw [hI2 j e, hR2 j e]
theorem AW.putf (X : FC cx d y cc nL ret hh) {idx ci k a : Nat} {ty : FieldType} {v : Value} {I' : KI} {R' : KR} (hF : PutOK y idx ci k ty) (h100 : 100 ≤ a) (hT : (T a).1 = 100 + ci) (hv : v = fval ty I' R' a k) (hn0 : narrow ty (.int (I' a k)) = .int (I' a k)) (hf0 : ty.isReference = false → fits ty (.int (I' a k)) = true) (hI : ∀ b, b ≠ a → I' b = I b) (hRr : ∀ b, b ≠ a → R' b = R b) (hI2 : ∀ j, j ≠ k → I' a j = I a j) (hR2 : ∀ j, j ≠ k → R' a j = R a j) (hr : ∀ b, R' a k = some b → ty.isReference = true ∨ R a k = some b)
    (dd : decode cc pc = .ok (.putfield idx, 3)) (h : AW cx b (pc + 3) ls st T I' R' J) : AW cx b pc ls (v :: .ref a :: st) T I R J := by
  subst hv
  obtain ⟨p, l, e, Rm, s, m, args, below, meth, c, D, z0, ρ0, T0, PQ⟩ := cx
  obtain ⟨hx, hb, -, -, hown, hname, hts, -, -, -, -, -, -, hCX⟩ := X
  intro ρ H locs cells slots lsA hk hn hR hS hE hl hs hL
  obtain ⟨⟨q, ref, hq, hkN, hty, hlink, hsame⟩, hci24, q', hq', hfin⟩ := hF
  cases hq.symm.trans hq'
  obtain ⟨hin, -, -⟩ := amCls hq
  obtain ⟨cell, h1, h2, -, h4, h5, -, -, h8⟩ := hR.1.1 a (by omega)
  obtain ⟨g1, g2⟩ := h8 ci q hT hq
  obtain ⟨hSl, hfc, kC, hkC, hkind⟩ := hCX.1.1 ci q hq
  obtain ⟨cf, kf, fi, f, hi, hsl⟩ := hSl k hkN
  have hst := (u_facts hfc hkC (u_lays hts hin hkN) hi).1
  have hlay := hts _ (hin _ (u_in_lay hkN))
  have hz : z0 ≤ ρ a := h2.mp h100
  have hnn : narrow ty (cv ρ (fval ty I' R' a k)) = cv ρ (fval ty I' R' a k) := by
    unfold fval
    split
    · rename_i hre
      rw [cv_rf]
      cases ty <;> first | exact absurd hre (by decide) | (cases ((R' a k).map ρ) <;> rfl)
    · exact hn0
  have hff : fits ty (cv ρ (fval ty I' R' a k)) = true := by
    unfold fval
    split
    · rename_i hre
      rw [cv_rf]
      cases ty <;> first | exact absurd hre (by decide) | (cases ((R' a k).map ρ) <;> rfl)
    · rename_i hre
      exact hf0 (by simpa using hre)
  have hwv : wfv T (fval ty I' R' a k) := hs.1
  have hr' : ∀ b, R' a k = some b → (T b).1 ≠ 0 := fun b hb => by
    rcases hr b hb with e | e
    · unfold fval at hwv
      rw [if_pos e, hb] at hwv
      exact hwv
    · exact hR.1.2.2 a k b (by omega) e
  have fin : ∀ (H' : Heap), H'[ρ a]? = some (cell.setSlot f.slot (cv ρ (fval ty I' R' a k))) → H'.size = H.size → (∀ x, x ≠ ρ a → H'[x]? = H[x]?) → W p l e Rm s m args below meth c H' (locs ++ [⟨ρ a, f.slot⟩]) cells slots PQ (F0 m (pc + 3) lsA (st.map (cv ρ))) := by
    intro H' e1 e2 e3
    rw [hsl] at e1
    have hP' := obj_stored hR.1 h100 hT hci24 hq hkN hty hts hCX.1 h1 hI hRr hI2 hR2 hr' e1 e3
    exact h ρ H' _ cells slots lsA hk hn (hR.step hP' Ext.rf (by omega) (fun x _ hx => e3 x (fun z => hx (by rw [z]; exact hz)))) (hS.putL e2 e3 hz) hE hl hs.2.2 hL
  have hslot : f.slot < cell.slots.size := by rw [hsl]; exact k2_hasslot (g2 k hkN)
  rcases hfin with hfin | ⟨hfin, hini, hdecl, ref2, hl2, hr2⟩
  · unfold u_lay at hlay
    rw [if_neg (by rw [hfin]; decide)] at hlay
    have h6 := u_store hfc hkC hkind hlay hi hty hnn hff
    rcases hlink with hlink | ⟨host, hlink⟩
    · exact W.putK hx hb (f := f) ⟨hown, hts _ hlink, ⟨_, _, _, fsame hts hsame hi⟩, hst⟩ (by rw [g1]; exact h6) h1 (h5 h100).1 hslot rfl rfl dd fin
    · exact va_WputK hx hb hown (va_Nw.use rfl (hCX.2.1 _ hlink rfl)) (fsame hts hsame hi) hst (by rw [g1]; exact h6) h1 (h5 h100).1 hslot rfl rfl dd fin
  · unfold u_lay at hlay
    rw [if_pos hfin] at hlay
    have hcf : m.cls = cf := by
      obtain ⟨_, _, c', _, _, _, -, -, hf', -, -, -, hown2, -⟩ := Cond.laysFinal_spec hlay
      have e1 : c' = cf := by have := hi.symm.trans hf'; simp at this; exact this.1.symm
      rw [hdecl] at hown2
      rw [← e1]; exact Option.some.inj (hown.symm.trans hown2)
    have h6 := u_fits hfc hkC hkind (Or.inr hlay) hi hty hnn hff
    exact W.putFinK hx hb hown (hts _ hl2) (by rw [hr2]; exact hi) hst hcf (hname.trans hini) (by rw [g1]; exact h6) h1 (h5 h100).1 hslot rfl rfl dd fin
theorem AW.putI (X : FC cx d y cc nL ret hh) {idx ci k a : Nat} {ty : FieldType} {x : Int32} (hF : PutOK y idx ci k ty) (h100 : 100 ≤ a) (hT : T a = (100 + ci, 0)) (dd : decode cc pc = .ok (.putfield idx, 3)) (h : AW cx b (pc + 3) ls st T (w2 I a k x) R J) (hr : ty.isReference = false := by rfl) (hn : narrow ty (.int x) = .int x := by rfl) (hf : fits ty (.int x) = true := by rfl) : AW cx b pc ls (.int x :: .ref a :: st) T I R J :=
  AW.putf X (I' := w2 I a k x) (R' := R) hF h100 (by rw [hT]) (by unfold fval; rw [hr, w2_s]; rfl) (by rw [w2_s]; exact hn) (fun _ => by rw [w2_s]; exact hf) (fun _ hb => w2_r hb) (fun _ _ => rfl) (fun _ hj => w2_n2 hj) (fun _ _ => rfl) (fun _ hb => Or.inr hb) dd h
theorem AW.putRv (X : FC cx d y cc nL ret hh) {idx ci k a : Nat} {r : Option Nat} {ty : FieldType} (hF : PutOK y idx ci k ty) (h100 : 100 ≤ a) (hT : T a = (100 + ci, 0)) (dd : decode cc pc = .ok (.putfield idx, 3)) (h : AW cx b (pc + 3) ls st T I (w2 R a k r) J) (hr : ty.isReference = true := by rfl) : AW cx b pc ls (va_rf r :: .ref a :: st) T I R J :=
  AW.putf X (I' := I) (R' := w2 R a k r) hF h100 (by rw [hT]) (by unfold fval; rw [hr, w2_s]; rfl) (by cases ty <;> first | exact absurd hr (by decide) | rfl) (fun z => by rw [hr] at z; cases z) (fun _ _ => rfl) (fun _ hb => w2_r hb) (fun _ _ => rfl) (fun _ hj => w2_n2 hj) (fun _ _ => Or.inl hr) dd h
theorem AW.putR (X : FC cx d y cc nL ret hh) {idx ci k a r : Nat} {ty : FieldType} (hF : PutOK y idx ci k ty) (h100 : 100 ≤ a) (hT : T a = (100 + ci, 0)) (dd : decode cc pc = .ok (.putfield idx, 3)) (h : AW cx b (pc + 3) ls st T I (w2 R a k (some r)) J) (hr : ty.isReference = true := by rfl) : AW cx b pc ls (.ref r :: .ref a :: st) T I R J := AW.putRv (r := some r) X hF h100 hT dd h hr
theorem AW.putN (X : FC cx d y cc nL ret hh) {idx ci k a : Nat} {ty : FieldType} (hF : PutOK y idx ci k ty) (h100 : 100 ≤ a) (hT : T a = (100 + ci, 0)) (dd : decode cc pc = .ok (.putfield idx, 3)) (h : AW cx b (pc + 3) ls st T I (w2 R a k none) J) (hr : ty.isReference = true := by rfl) : AW cx b pc ls (.null :: .ref a :: st) T I R J := AW.putRv (r := none) X hF h100 hT dd h hr
end AWM
