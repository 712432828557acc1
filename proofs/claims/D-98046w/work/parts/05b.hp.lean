/-! AM 2: moves of the relation -/
theorem Ext.wfs {ρ ρ' : Nat → Nat} {T T' : KT} (h : Ext ρ T ρ' T') : ∀ {vs : List Value}, WFs T vs → WFs T' vs
  | [], _ => trivial
  | _ :: _, hv => ⟨h.wf1 hv.1, Ext.wfs h hv.2⟩
theorem Ext.map {ρ ρ' : Nat → Nat} {T T' : KT} (h : Ext ρ T ρ' T') : ∀ {vs : List Value}, WFs T vs → vs.map (cv ρ') = vs.map (cv ρ)
  | [], _ => rfl
  | _ :: _, hv => by rw [List.map_cons, List.map_cons, h.cv1 hv.1, Ext.map h hv.2]
theorem cat_map (ρ : Nat → Nat) (vs : List Value) : ((vs.map (cv ρ)).map fun v => v.category) = vs.map fun v => v.category := by
  rw [List.map_map]
  exact List.map_congr_left fun v _ => cv_cat ρ v
theorem CellOK.moved {D : va_G} {z0 : Nat} {ρ : Nat → Nat} {T : KT} {I : KI} {R : KR} {J : KJ} {u U : State} {H : Heap} {a : Nat} (hvm : u.vm.Alike U.vm) (h : CellOK D z0 ρ T I R J u H a) : CellOK D z0 ρ T I R J U H a := by
  intro ha
  obtain ⟨cell, h1, h2, h3, h4, h5, h6, h7, h8⟩ := h ha
  refine ⟨cell, h1, h2, h3, h4, fun q => ⟨(h5 q).1, fun z => ?_⟩, fun ty hty => ?_, fun C hC => ?_, h8⟩
  · obtain ⟨kC, g1, g2⟩ := (h5 q).2 z
    obtain ⟨k', hk', he⟩ := hvm.2.2 _ _ g1
    have ei : k'.instanceTypes = kC.instanceTypes := by rw [he]
    exact ⟨k', hk', by rw [freshCell, ei]; exact g2⟩
  · obtain ⟨g1, g2, g3, g4, g5⟩ := h6 ty hty
    exact ⟨State.isArrayOf_alike hvm g1, g2, g3, g4, fun q => ⟨(g5 q).1, by rw [hvm.findClass]; exact (g5 q).2⟩⟩
  · obtain ⟨g1, g2, g3, g4, g5⟩ := h7 C hC
    exact ⟨State.isArrayOf_alike hvm g1, g2, g3, g4, fun q => ⟨(g5 q).1, (g5 q).2.moved hvm⟩⟩
theorem HP.moved {D : va_G} {z0 : Nat} {ρ : Nat → Nat} {T : KT} {I : KI} {R : KR} {J : KJ} {u U : State} {H : Heap} (hvm : u.vm.Alike U.vm) (h : HP D z0 ρ T I R J u H) : HP D z0 ρ T I R J U H :=
  ⟨fun a => (h.1 a).moved hvm, h.2.1, h.2.2⟩
theorem pv_eq {I I' : KI} {J J' : KJ} {k a : Nat} (hI : I' a = I a) (hJ : J' a = J a) (j : Nat) : pv I' J' k a j = pv I J k a j := by
  unfold pv
  rw [hI, hJ]
theorem fv_eq {ρ ρ' : Nat → Nat} {I I' : KI} {R R' : KR} {a k : Nat} {d : String} (hI : I' a = I a) (hR : (R' a k).map ρ' = (R a k).map ρ) : fv ρ' I' R' a k d = fv ρ I R a k d := by
  unfold fv
  rw [hI, hR]
/-- a cell that the step didn't touch -/
theorem CellOK.keep {D : va_G} {z0 : Nat} {ρ ρ' : Nat → Nat} {T T' : KT} {I I' : KI} {R R' : KR} {J J' : KJ} {s : State} {H H' : Heap} {a : Nat} (h : CellOK D z0 ρ T I R J s H a) (hT : T' a = T a) (hρ : ρ' a = ρ a) (hI : I' a = I a) (hJ : J' a = J a) (hR : ∀ j, (R' a j).map ρ' = (R a j).map ρ) (hH : H'[ρ a]? = H[ρ a]?) : CellOK D z0 ρ' T' I' R' J' s H' a := by
  intro ha
  rw [hT] at ha ⊢
  obtain ⟨cell, h1, h2, h3, h4, h5, h6, h7, h8⟩ := h ha
  rw [hρ]
  refine ⟨cell, by rw [hH]; exact h1, h2, h3, h4, h5, fun ty hty => ?_, fun C hC => ?_, fun ci q hci hq => ?_⟩
  · obtain ⟨g1, g2, g3, g4, g5⟩ := h6 ty hty
    have e : pv I' J' (T a).1 a = pv I J (T a).1 a := funext (pv_eq hI hJ)
    rw [e]
    exact ⟨g1, g2, g3, g4, g5⟩
  · obtain ⟨g1, g2, g3, g4, g5⟩ := h7 C hC
    have e : (fun j => va_rf ((R' a j).map ρ')) = (fun j => va_rf ((R a j).map ρ)) := funext fun j => by rw [hR j]
    refine ⟨g1, g2, g3, fun j hj => ?_, ?_⟩
    · rw [hR j]; exact g4 j hj
    · rw [e]; exact g5
  · obtain ⟨g1, g2⟩ := h8 ci q hci hq
    refine ⟨g1, fun k hk => ?_⟩
    rw [fv_eq hI (hR k)]
    exact g2 k hk
theorem HP.store {D : va_G} {z0 : Nat} {ρ : Nat → Nat} {T : KT} {I I' : KI} {R R' : KR} {J J' : KJ} {s : State} {H H' : Heap} {a : Nat} (h : HP D z0 ρ T I R J s H) (ha : 1 < (T a).1) (hI : ∀ b, b ≠ a → I' b = I b) (hR : ∀ b, b ≠ a → R' b = R b) (hJ : ∀ b, b ≠ a → J' b = J b) (oq : ∀ q, q ≠ ρ a → H'[q]? = H[q]?) (hr : ∀ k b, R' a k = some b → (T b).1 ≠ 0) (hc : CellOK D z0 ρ T I' R' J' s H' a) : HP D z0 ρ T I' R' J' s H' := by
  refine ⟨fun b => ?_, h.2.1, fun b k c hb hbc => ?_⟩
  · by_cases e : b = a
    · subst e; exact hc
    · intro hb
      exact (h.1 b).keep rfl rfl (hI b e) (hJ b e) (fun j => by rw [hR b e]) (oq _ (fun z => e (h.2.1 b a hb ha z))) hb
  · by_cases e : b = a
    · subst e; exact hr k c hbc
    · rw [hR b e] at hbc
      exact h.2.2 b k c hb hbc
theorem HP.alloc {D : va_G} {z0 : Nat} {ρ : Nat → Nat} {T : KT} {I I' : KI} {R R' : KR} {J J' : KJ} {s : State} {H H' : Heap} {a : Nat} {κ : Nat × Nat} (h : HP D z0 ρ T I R J s H) (ha : (T a).1 = 0) (hκ : 1 < κ.1) (hI : ∀ b, b ≠ a → I' b = I b) (hR : ∀ b, b ≠ a → R' b = R b) (hJ : ∀ b, b ≠ a → J' b = J b) (oq : ∀ q, q < H.size → H'[q]? = H[q]?) (hr : ∀ k b, R' a k = some b → (row T a κ b).1 ≠ 0) (hc : CellOK D z0 (row ρ a H.size) (row T a κ) I' R' J' s H' a) : HP D z0 (row ρ a H.size) (row T a κ) I' R' J' s H' := by
  have used : ∀ b, (T b).1 ≠ 0 → b ≠ a := fun b hb e => hb (by rw [e]; exact ha)
  have lt : ∀ b, 1 < (T b).1 → ρ b < H.size := fun b hb => by
    obtain ⟨cell, h1, -⟩ := h.1 b hb
    exact (Array.getElem?_eq_some_iff.mp h1).1
  refine ⟨fun b => ?_, fun b c hb hcc e => ?_, fun b k c hb hbc => ?_⟩
  · by_cases e : b = a
    · subst e; exact hc
    · intro hb
      rw [row_n e] at hb
      refine (h.1 b).keep (row_n e) (row_n e) (hI b e) (hJ b e) (fun j => ?_) (oq _ (lt b hb)) (by rw [row_n e]; exact hb)
      rw [hR b e]
      cases hj : R b j with
      | none => rfl
      | some c =>
        show some (row ρ a H.size c) = some (ρ c)
        rw [row_n (used c (h.2.2 b j c (by omega) hj))]
  · by_cases eb : b = a <;> by_cases ec : c = a
    · rw [eb, ec]
    · subst eb
      rw [row_n ec] at hcc
      rw [row_s, row_n ec] at e
      have := lt c hcc
      omega
    · subst ec
      rw [row_n eb] at hb
      rw [row_s, row_n eb] at e
      have := lt b hb
      omega
    · rw [row_n eb] at hb e
      rw [row_n ec] at hcc e
      exact h.2.1 b c hb hcc e
  · by_cases e : b = a
    · subst e; exact hr k c hbc
    · rw [hR b e] at hbc
      rw [row_n e] at hb
      have := h.2.2 b k c hb hbc
      rw [row_n (used c this)]
      exact this
theorem Ext.alloc {ρ : Nat → Nat} {T : KT} {a n : Nat} {κ : Nat × Nat} (ha : (T a).1 = 0) : Ext ρ T (row ρ a n) (row T a κ) := fun b hb => by
  have e : b ≠ a := fun e => hb (by rw [e]; exact ha)
  rw [row_n e, row_n e]
  exact ⟨hb, rfl⟩
theorem vx_ZqA {C n d : String} {A : Nat → Prop} {u U : State} {H : Heap} (hvm : u.vm.Alike U.vm) (h : vx_Zq C n d A u H) : vx_Zq C n d A U H := vx_Zq.moved hvm h
theorem RL.step {D : va_G} {z0 : Nat} {ρ ρ' : Nat → Nat} {T T' : KT} {I I' : KI} {R R' : KR} {J J' : KJ} {s : State} {H H' : Heap} (h : RL D z0 ρ T I R J s H) (hP : HP D z0 ρ' T' I' R' J' s H') (hE : Ext ρ T ρ' T') (hz : H.size ≤ H'.size) (hk : ∀ q : Nat, q < H.size → ¬ stZ z0 q → H'[q]? = H[q]?) : RL D z0 ρ' T' I' R' J' s H' := by
  obtain ⟨-, h1, h2, h3, ⟨h4, v, hv, hz4⟩, ⟨h5, hm5⟩, h6, h7⟩ := h
  refine ⟨hP, by omega, fun q hq => ⟨(hE _ (h2 q hq).1).1, by rw [(hE _ (h2 q hq).1).2]; exact (h2 q hq).2⟩, fun q hq => ⟨hE.wf1 (h3 q hq).1, by rw [hE.cv1 (h3 q hq).1]; exact (h3 q hq).2.kept hk⟩, ⟨(hE _ h4).1, v, hv, ?_⟩, ⟨(hE _ h5).1, by rw [(hE _ h5).2]; exact hm5⟩, h6.kept hk, h7.kept hk⟩
  have e : cv ρ' v = cv ρ v := hE.cv1 (by rcases hv with e | e <;> rw [e]; exact trivial; exact h4)
  rw [e]
  exact hz4.kept hk
theorem RL.warm {D : va_G} {z0 : Nat} {ρ : Nat → Nat} {T : KT} {I : KI} {R : KR} {J : KJ} {s U : State} {H : Heap} (hW : s.WarmedH U.vm) (h : RL D z0 ρ T I R J s H) : RL D z0 ρ T I R J U H := by
  obtain ⟨h0, h1, h2, h3, ⟨h4, v, hv, hz4⟩, ⟨h5, hm5⟩, h6, h7⟩ := h
  exact ⟨h0.moved hW.alike, h1, fun q hq => ⟨(h2 q hq).1, (h2 q hq).2.warm hW⟩, fun q hq => ⟨(h3 q hq).1, (h3 q hq).2.moved hW.alike⟩, ⟨h4, v, hv, hz4.moved hW.alike⟩, ⟨h5, hm5.moved hW.alike⟩, h6.moved hW.alike, h7.moved hW.alike⟩
theorem RL.calling {D : va_G} {z0 : Nat} {ρ : Nat → Nat} {T : KT} {I : KI} {R : KR} {J : KJ} {U : State} {H : Heap} (g : JFrame) (mk : MethodId) (a : Array Value) (h : RL D z0 ρ T I R J U H) : RL D z0 ρ T I R J (U.calling g mk a) H := by
  obtain ⟨h0, h1, h2, h3, ⟨h4, v, hv, hz4⟩, ⟨h5, hm5⟩, h6, h7⟩ := h
  have al : U.vm.Alike (U.calling g mk a).vm := Vm.Alike.refl U.vm
  exact ⟨h0.moved al, h1, fun q hq => ⟨(h2 q hq).1, (h2 q hq).2.same rfl⟩, fun q hq => ⟨(h3 q hq).1, (h3 q hq).2.moved al⟩, ⟨h4, v, hv, hz4.moved al⟩, ⟨h5, hm5.moved al⟩, h6.moved al, h7.moved al⟩
def nwOK : Cond → Bool
  | .fieldLinkNest .. => true
  | .methodLinkNest .. => true
  | .castable .. => true
  | .declares .. => true
  | .privateMethod .. => true
  | _ => false
def amNc : List (String × String) := [("java/lang/IllegalArgumentException", "java/util/NoSuchElementException")]
/-- what the tables say, all through a run -/
def CX (D : va_G) (s : State) : Prop := va_K D amCl [] s ∧ (∀ w ∈ lw_tbl, nwOK w = true → va_Nw w s) ∧ (∀ q ∈ amNc, va_Nc q.1 q.2 s) ∧ va_AO "java/lang/Object" s ∧ va_AO "java/lang/String" s ∧ va_Dc s
theorem nw_priv {x : MethodName} {s U : State} (hW : s.WarmedH U.vm) (h : va_Nw (.privateMethod x) s) : va_Nw (.privateMethod x) U := by
  have hal := hW.alike
  have e1 : U.methodNamed? x = s.methodNamed? x := by
    rw [show U.methodNamed? x = (s.setVm U.vm).methodNamed? x from rfl, State.methodNamed?_setVm hal]
  have e2 : U.vm.method? = s.vm.method? := funext hal.method?
  unfold va_Nw at h ⊢
  simp only [Cond.before, Cond.holds, Cond.value] at h ⊢
  rw [e1, e2]; exact h
theorem nw_warm {w : Cond} {s U : State} (hw : nwOK w = true) (hW : s.WarmedH U.vm) (h : va_Nw w s) : va_Nw w U := by
  cases w <;> first
    | exact va_Nw.warmF hW h
    | exact va_Nw.warmM hW h
    | exact va_Nw.warmC hW h
    | exact va_Nw.warmD hW h
    | exact nw_priv hW h
    | exact absurd (show false = true from hw) Bool.false_ne_true
theorem CX.warm {D : va_G} {s U : State} (hW : s.WarmedH U.vm) (h : CX D s) : CX D U := by
  obtain ⟨h1, h2, h3, h4, h5, h6⟩ := h
  exact ⟨va_K.moved hW.alike h1, fun w hw e => nw_warm e hW (h2 w hw e), fun q hq => (h3 q hq).moved hW.alike, h4.moved hW.alike, h5.moved hW.alike, h6.moved hW.alike⟩
theorem nw_same {w : Cond} {u U : State} (hv : U.vm = u.vm) (hw : nwOK w = true) (h : va_Nw w u) : va_Nw w U := by
  cases w <;> first
    | exact va_Nw.of (A := #[]) rfl (va_tabs rfl hv.symm h)
    | exact absurd (show false = true from hw) Bool.false_ne_true
theorem CX.calling {D : va_G} {U : State} (g : JFrame) (mk : MethodId) (a : Array Value) (h : CX D U) : CX D (U.calling g mk a) := by
  obtain ⟨h1, h2, h3, h4, h5, h6⟩ := h
  have al : U.vm.Alike (U.calling g mk a).vm := Vm.Alike.refl U.vm
  exact ⟨va_K.moved al h1, fun w hw e => nw_same (u := U) rfl e (h2 w hw e), fun q hq => (h3 q hq).moved al, h4.moved al, h5.moved al, h6.moved al⟩
/-- the locals -/
def LV (ρ : Nat → Nat) (lsA : Array Slot) (nL : Nat) (ls : List Value) : Prop := lsA.size = nL ∧ ls.length = nL ∧ lv_wf lsA ∧ (∀ w ∈ ls, w.category = 1) ∧ ∀ (i : Nat) (v : Value), ls[i]? = some v → (∀ q, v ≠ .retAddr q) → lsA[i]? = some (.val (cv ρ v))
def lvl (ρ : Nat → Nat) (ls : List Value) : List (Nat × Value) := (ls.zipIdx.filter fun q => match q.1 with | .retAddr _ => false | _ => true).map fun q => (q.2, cv ρ q.1)
theorem lvl_mem {ρ : Nat → Nat} {ls : List Value} {q : Nat × Value} : q ∈ lvl ρ ls ↔ ∃ v, ls[q.1]? = some v ∧ (∀ z, v ≠ .retAddr z) ∧ q.2 = cv ρ v := by
  unfold lvl
  constructor
  · intro h
    obtain ⟨⟨v, i⟩, h1, rfl⟩ := List.mem_map.mp h
    obtain ⟨h2, h3⟩ := List.mem_filter.mp h1
    refine ⟨v, ?_, ?_, rfl⟩
    · have := List.mem_zipIdx_iff_getElem?.mp h2
      simpa using this
    · intro z e
      subst e
      simp at h3
  · rintro ⟨v, h1, h2, h3⟩
    refine List.mem_map.mpr ⟨(v, q.1), List.mem_filter.mpr ⟨List.mem_zipIdx_iff_getElem?.mpr (by simpa using h1), ?_⟩, ?_⟩
    · cases v <;> first | rfl | exact absurd rfl (h2 _)
    · rw [← h3]
theorem LV.has {ρ : Nat → Nat} {lsA : Array Slot} {nL : Nat} {ls : List Value} (h : LV ρ lsA nL ls) : lv_has lsA nL (lvl ρ ls) := by
  obtain ⟨h1, -, h2, -, h3⟩ := h
  refine ⟨h1, h2, fun q hq => ?_⟩
  obtain ⟨v, g1, g2, g3⟩ := lvl_mem.mp hq
  rw [g3]
  exact h3 _ v g1 g2
theorem LV.ext {ρ ρ' : Nat → Nat} {T T' : KT} {lsA : Array Slot} {nL : Nat} {ls : List Value} (h : LV ρ lsA nL ls) (hE : Ext ρ T ρ' T') (hw : WFs T ls) : LV ρ' lsA nL ls := by
  obtain ⟨h1, h0, h2, hc, h3⟩ := h
  refine ⟨h1, h0, h2, hc, fun i v hv hn => ?_⟩
  have : wfv T v := by
    have hm := List.mem_of_getElem? hv
    clear hv h3 h0 hc
    induction ls with
    | nil => cases hm
    | cons x xs ih =>
      rcases List.mem_cons.mp hm with e | e
      · rw [e]; exact hw.1
      · exact ih hw.2 e
  rw [hE.cv1 this]
  exact h3 i v hv hn
theorem LV.set {ρ : Nat → Nat} {lsA ls' : Array Slot} {nL i : Nat} {ls : List Value} {v : Value} (h : LV ρ lsA nL ls) (hc : v.category = 1) (hr : ∀ z, v ≠ .retAddr z) (hi : i < nL)
    (h' : lv_has ls' nL ((i, cv ρ v) :: (lvl ρ ls).filter (fun q => !(q.1 == i) && !(q.1 + 1 == i && q.2.category == 2)))) : LV ρ ls' nL (ls.set i v) := by
  obtain ⟨h1, h0, -, hcat, -⟩ := h
  refine ⟨h'.1, by rw [List.length_set]; exact h0, h'.2.1, fun w hw => (List.mem_or_eq_of_mem_set hw).elim (hcat w) (fun e => by rw [e]; exact hc), fun j w hj hn => ?_⟩
  by_cases e : j = i
  · subst e
    rw [List.getElem?_set_self (by omega)] at hj
    cases hj
    exact h'.2.2 (j, cv ρ v) List.mem_cons_self
  · rw [List.getElem?_set_ne (Ne.symm e)] at hj
    refine h'.2.2 (j, cv ρ w) (List.mem_cons_of_mem _ (List.mem_filter.mpr ⟨lvl_mem.mpr ⟨w, hj, hn, rfl⟩, ?_⟩))
    have : w.category = 1 := hcat w (List.mem_of_getElem? hj)
    simp [e, cv_cat, this]
