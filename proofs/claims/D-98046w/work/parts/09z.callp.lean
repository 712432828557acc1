/-! 09z: a call of a private method of a class above the receiver's own -/
set_option maxRecDepth 100000
theorem va_selP {s : State} {args : Array Value} {C : String} {x y z : MethodName} (hz : z.cls = y.cls) (hn : z.cls ≠ "java/lang/invoke/MethodHandle" ∧ z.cls ≠ "java/lang/invoke/VarHandle") (h1 : (Cond.selects C x y).before args s = true) (hp : (Cond.privateMethod z).before args s = true) (hi : (Cond.instanceMethod z).before args s = true) : (Cond.selects C z z).before args s = true := by
  obtain ⟨mk, methM, hnamed, hmethM, -, -⟩ := Cond.instanceMethod_spec hi
  have hfound : s.methodFound? z.cls z.name z.desc = some mk := State.methodFound?_of_named hnamed hn
  have hcls := findClass_of_methodNamed hnamed
  have hsel : ∀ c, selectMethod {} s.vm c mk = .method mk := fun c => selectMethod_private hmethM (Cond.privateMethod_at hp mk methM hnamed hmethM)
  simp only [Cond.before, Cond.holds, Cond.value] at h1 ⊢
  cases e1 : s.vm.findClass C with
  | none => simp [e1] at h1
  | some c =>
    cases e2 : s.methodFound? x.cls x.name x.desc with
    | none => simp [e1, e2] at h1
    | some r =>
      cases e3 : s.methodNamed? y with
      | none => simp [e1, e2, e3] at h1
      | some m =>
        have hm : m.cls = mk.cls := Option.some.inj ((findClass_of_methodNamed e3).symm.trans ((congrArg s.vm.findClass hz).symm.trans hcls))
        simp only [e1, e2, e3] at h1
        simp only [hfound, hnamed, hsel, ← hm]
        cases e4 : selectMethod {} s.vm c r with
        | method m' => simp [e4] at h1; simp; exact h1.2
        | _ => simp [e4] at h1
def SiteUp (own : String) (idx : Nat) (C owner : String) (y : MethodName) (cc : ByteArray) (L : Nat) (ret : Option FieldType) (n : Nat) : Prop := (Cond.methodLink own idx y) ∈ lw_all ∧ (Cond.sameMethod y.cls owner y.name y.desc) ∈ lw_all ∧ (∃ x y2 : MethodName, Cond.selects C x y2 ∈ lw_all ∧ y.cls = y2.cls) ∧ Cond.privateMethod y ∈ lw_tbl ∧ (y.cls ≠ "java/lang/invoke/MethodHandle" ∧ y.cls ≠ "java/lang/invoke/VarHandle") ∧ (Cond.instanceMethod y) ∈ lw_all ∧ (Cond.initialized y.cls) ∈ lw_all ∧ (Cond.code y cc L ret) ∈ lw_all ∧ owner ≠ "java/lang/invoke/MethodHandle" ∧ owner ≠ "java/lang/invoke/VarHandle" ∧ (parseMethodDescriptor y.desc).map (fun d => d.parameters.length) = some n ∧ ((Cond.instanceMethod ⟨owner, y.name, y.desc⟩) ∈ lw_all ∧ ∃ b0 m0 r0, (Cond.code ⟨owner, y.name, y.desc⟩ b0 m0 r0) ∈ lw_all)
section AWU
variable {cx : CxT} {d b pc nL : Nat} {y : MethodName} {cc : ByteArray} {ret : Option FieldType} {hh : List (Nat × Nat × Nat × Nat)} {ls st : List Value} {T : KT} {I : KI} {R : KR} {J : KJ} {Q : PQt} {QX : PXt}
theorem AW.callUp (X : FC cx d y cc nL ret hh) {d' bc idx ci a n L' : Nat} {owner : String} {y' : MethodName} {cc' : ByteArray} {ret' : Option FieldType} {q : vw_C} {As rest : List Value} {Q' : PQt} {QX' : PXt} (hM : AMet d' bc y' cc' L' ret' [] (.ref a :: As) T I R J Q' QX') (hT : T a = (100 + ci, 0)) (hq : amCl[ci]? = some q) (hsite : SiteUp y.cls idx q.1 owner y' cc' L' ret' n) (hd : d' < d) (hL' : L' ≤ 40) (hst : st = As.reverse ++ .ref a :: rest) (hn0 : As.length = n) (hcat : (rest.map fun v => v.category).sum ≤ 8) (dd : decode cc pc = .ok (.invokevirtual idx, 3)) (kk : ∀ r T' I' R' J', Q' r T' I' R' J' → AW cx b (pc + 3) ls (pushr r rest) T' I' R' J') (kx : ∀ a T' I' R' J', QX' a T' I' R' J' → AX cx b pc ls a T' I' R' J') : AW cx (b + bc) pc ls st T I R J := by
  subst hst
  obtain ⟨p, l, e, Rm, s, m, args, below, meth, c, D, z0, ρ0, T0, PQ⟩ := cx
  obtain ⟨hx, hb, -, hml, hown, -, hts, -, -, hlt, hf, hlo, -, hCX⟩ := X
  intro ρ H locs cells slots lsA hk hn hR hS hE hl' hs hL
  obtain ⟨w1, w2, ⟨xs, ys, w31, w32⟩, w33, w34, w4, w5, w6, w7, w8, w9, w10⟩ := hsite
  obtain ⟨hwA, hwr⟩ := WFs.app hs
  have hdecl : va_Decl s ⟨owner, y'.name, y'.desc⟩ := by
    obtain ⟨h, b0, m0, r0, h2⟩ := w10
    exact va_Decl.of (hts _ h) (hts _ h2)
  have hG : GoodIn lw_all (cw_ y' cc' L' ret' [] :: lw_all) := by
    intro w hw
    rcases List.mem_cons.mp hw with e | e
    · rw [e]; exact lw_self _ w6
    · exact lw_self _ e
  have hcw : va_CU Rm s args y.cls q.1 owner idx y' y' cc' L' ret' (cw_ y' cc' L' ret' [] :: lw_all) (rmOf d' bc) bc (4 * bc) n :=
    ⟨⟨rfl, rfl, by show d' + 1 ≤ _; omega, by show 8 + (L' + 11) + (64 * d' + 200) ≤ _; omega, pay_in hts hG, List.mem_cons_self⟩, hts _ w6, hts _ w5, ⟨w7, w8⟩, fun sig h => (by rw [h] at w9; exact (Option.some.inj w9).symm), hts _ w1, hts _ w2, hdecl, va_selP w32 w34 (hts _ w31) (va_Nw.use rfl (hCX.2.1 _ w33 rfl)) (hts _ w4), hts _ w4⟩
  exact amRun (vx_runU (C := q.1) (b := ρ a) (As := As.map (cv ρ)) (rest := rest.map (cv ρ)) ⟨hx, hb, hml, hown, hts⟩ (hM l hlt D z0 ρ) hcw ⟨blindOf, objAt hR hCX (by rw [hT]) hq, preOf hCX hR ⟨hwr.1, WFs.rev hwA⟩⟩ rfl (by rw [List.length_map]; exact hn0) (hL.1.trans hml) (by rw [List.map_append, List.map_reverse] <;> rfl) (by show 2 * 0 + _ ≤ 8; rw [cat_map]; omega) dd ⟨by omega, by omega⟩) hR hS hwr.2
    (fun r T' I' R' J' ρ' H1 locs1 hq hR' hS' hE' hw' => kk r T' I' R' J' hq ρ' H1 locs1 (cells + bc) (slots + 4 * bc) lsA (by omega) (by omega) hR' hS' (hE.trans hE') (hE'.wfs hl') hw' (hL.ext hE' hl'))
    (fun a' T' I' R' J' ρ' H1 locs1 hq hR' hS' hE' hne => kx a' T' I' R' J' hq ρ' H1 locs1 (cells + bc) (slots + 4 * bc) lsA _ (by omega) (by omega) hR' hS' (hE.trans hE') (hE'.wfs hl') hne (hL.ext hE' hl'))
theorem AW.callUp_r (X : FC cx d y cc nL ret hh) {d' idx ci a n L' : Nat} {owner : String} {y' : MethodName} {cc' : ByteArray} {ret' : Option FieldType} {q : vw_C} {As rest : List Value} {v : Option Value} (hM : AMet d' 0 y' cc' L' ret' [] (.ref a :: As) T I R J (qR v T I R J) noX) (hT : T a = (100 + ci, 0)) (hq : amCl[ci]? = some q) (hsite : SiteUp y.cls idx q.1 owner y' cc' L' ret' n) (hd : d' < d) (hL' : L' ≤ 40) (hst : st = As.reverse ++ .ref a :: rest) (hn0 : As.length = n) (hcat : (rest.map fun v => v.category).sum ≤ 8) (dd : decode cc pc = .ok (.invokevirtual idx, 3)) (h : AW cx b (pc + 3) ls (pushr v rest) T I R J) : AW cx b pc ls st T I R J :=
  AW.callUp (b := b) (bc := 0) X hM hT hq hsite hd hL' hst hn0 hcat dd (fun r T' I' R' J' h' => by obtain ⟨rfl, rfl, rfl, rfl, rfl⟩ := h'; exact h) (fun _ _ _ _ _ h => h.elim)
theorem s_J7_100_21 : SiteUp RJ7 100 RJ8 "java/lang/AbstractStringBuilder" yJ7_ensureCapacityInternal cJ7_ensureCapacityInternal 3 none 1 := ⟨q249, q2175, ⟨_, _, q287, rfl⟩, q250, by decide, q251, q89, q252, by decide, by decide, by decide +kernel, ⟨q251, _, _, _, q252⟩⟩
end AWU
