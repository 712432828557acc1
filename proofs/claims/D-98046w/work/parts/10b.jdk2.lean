/-! 10b: a builder's string (steps printed by src/walk.py) -/
set_option maxRecDepth 100000
set_option maxHeartbeats 4000000
theorem row_row {α : Type} {f : Nat → α} {a : Nat} {g g' : α} : row (row f a g) a g' = row f a g' := by
  funext x; unfold row; split <;> rfl
section JC
variable {T : KT} {I : KI} {R : KR} {J : KJ}
theorem c_J13_checkLength {n : Nat} (hn : n < 100) : MJ13_checkLength 0 0 [.int 0, .int (nI n)] T I R J (qR none T I R J) noX := by
  refine AMet.of (by decide) (Nat.le_of_ble_eq_true rfl) (cats1 rfl) fun cx X E => ?_
  show AW _ _ _ (_ :: _ :: []) _ _ _ _ _
  refine AW.iload_n X dJ13_checkLength_0 rfl rfl ?_
  refine AW.iload_n X dJ13_checkLength_1 rfl rfl ?_
  refine AW.icmp_ge X (tgt := 37) dJ13_checkLength_2 rfl ?_ ?_
  · intro t2
    exact AW.vreturn X E ⟨rfl, rfl, rfl, rfl, rfl⟩ dJ13_checkLength_37
  · intro f2
    exact absurd (nI_pos' (by omega)) f2
theorem c_J13_copyOfRangeByte {a nb n m : Nat} (hT : T a = (3, m)) (h1 : 100 ≤ a) (hb : (T nb).1 = 0) (h2 : 100 ≤ nb) (hn : n ≤ m) (hm : m ≤ 9) (hf : ∀ j, j < n → fits .byte (.int (I a j)) = true) : MJ13_copyOfRangeByte 1 3 [.ref a, .int 0, .int (nI n)] T I R J (fun r T' I' R' J' => r = some (.ref nb) ∧ J' = J ∧ T' = row T nb (3, n) ∧ R' = row R nb (fun _ => none) ∧ ∃ f, I' = row I nb f ∧ ∀ k, k < n → f k = I a k) noX := by
  have hne : a ≠ nb := fun z => by rw [← z, hT] at hb; exact absurd hb (show ¬ (3 : Nat) = 0 by decide)
  have t1 : row T nb (3, n) a = (3, m) := (row_n hne).trans hT
  have t2 : row T nb (3, n) nb = (3, n) := (row_s _ _ _)
  have i1 : row I nb (fun _ => (0 : Int32)) a = I a := row_n hne
  refine AMet.of (by decide) (Nat.le_of_ble_eq_true rfl) (cats1 rfl) fun cx X E => ?_
  show AW _ _ _ (_ :: _ :: _ :: _ :: _ :: []) _ _ _ _ _
  refine AW.iload_n X dJ13_copyOfRangeByte_0 rfl rfl ?_
  refine AW.iload_n X dJ13_copyOfRangeByte_1 rfl rfl ?_
  refine AW.callS_r X (c_J13_checkLength (by omega)) s_J13_343 (by omega) (Nat.le_of_ble_eq_true rfl) rfl rfl (Nat.le_of_ble_eq_true rfl) dJ13_copyOfRangeByte_2 ?_
  refine AW.iload_n X dJ13_copyOfRangeByte_5 rfl rfl ?_
  refine AW.iload_n X dJ13_copyOfRangeByte_6 rfl rfl ?_
  refine AW.isub X dJ13_copyOfRangeByte_7 ?_
  rw [show nI n - 0 = nI n from Int32.sub_zero _]
  refine AW.istore3 X dJ13_copyOfRangeByte_8 ?_
  refine AW.iload_n X dJ13_copyOfRangeByte_9 rfl rfl ?_
  refine AW.le (b' := 0 + 3) (by omega) (AW.newB X (nb) 3 (by first | assumption | omega) (by omega) rfl (by omega) (by omega) (by omega) dJ13_copyOfRangeByte_10 ?_)
  first | refine AW.astore4 X dJ13_copyOfRangeByte_12 ?_ | refine AW.astoreN4 X dJ13_copyOfRangeByte_12 ?_
  first | refine AW.aload_n X dJ13_copyOfRangeByte_14 rfl rfl ?_ | refine AW.aloadN_n X dJ13_copyOfRangeByte_14 rfl rfl ?_
  refine AW.iload_n X dJ13_copyOfRangeByte_15 rfl rfl ?_
  first | refine AW.aload X dJ13_copyOfRangeByte_16 rfl ?_ | refine AW.aloadN X dJ13_copyOfRangeByte_16 rfl ?_
  refine AW.iconst X (v := 0) dJ13_copyOfRangeByte_18 rfl ?_
  first | refine AW.aload_n X dJ13_copyOfRangeByte_19 rfl rfl ?_ | refine AW.aloadN_n X dJ13_copyOfRangeByte_19 rfl rfl ?_
  first | refine AW.alen X t1 rfl dJ13_copyOfRangeByte_20 ?_ | refine AW.alenQ X t1 rfl dJ13_copyOfRangeByte_20 ?_
  refine AW.iload_n X dJ13_copyOfRangeByte_21 rfl rfl ?_
  refine AW.isub X dJ13_copyOfRangeByte_22 ?_
  rw [show nI m - 0 = nI m from Int32.sub_zero _]
  refine AW.iload_n X dJ13_copyOfRangeByte_23 rfl rfl ?_
  refine AW.mmin X q278 (by omega) (Nat.le_of_ble_eq_true rfl) dJ13_copyOfRangeByte_24 ?_
  rw [mn2_nI (by omega) (by omega), Nat.min_eq_right hn]
  refine AW.copyI X (sp := 0) (dp := 0) (n := n) (by omega) (by omega) t1 t2 rfl (by decide) rfl rfl rfl (by omega) (by omega) (fun j hj => by rw [i1, Nat.zero_add]; exact hf j hj) q281 (by omega) (Nat.le_of_ble_eq_true rfl) dJ13_copyOfRangeByte_27 ?_
  first | refine AW.aload X dJ13_copyOfRangeByte_30 rfl ?_ | refine AW.aloadN X dJ13_copyOfRangeByte_30 rfl ?_
  first | refine AW.areturn X E ?_ dJ13_copyOfRangeByte_32 | refine AW.areturnA X E ?_ dJ13_copyOfRangeByte_32 | refine AW.areturnN X E ?_ dJ13_copyOfRangeByte_32
  exact ⟨rfl, rfl, rfl, rfl, _, row_row, fun k hk => by rw [i1]; unfold va_cpy; rw [if_pos ⟨Nat.zero_le _, by omega⟩, Nat.zero_add, Nat.sub_zero]⟩
theorem c_J13_copyOfRange {a nb n : Nat} (hT : T a = (3, 9)) (h1 : 100 ≤ a) (hb : (T nb).1 = 0) (h2 : 100 ≤ nb) (hn : n ≤ 9) (hf : ∀ j, j < n → fits .byte (.int (I a j)) = true) : MJ13_copyOfRange 2 3 [.ref a, .int 0, .int (nI n)] T I R J (fun r T' I' R' J' => r = some (.ref nb) ∧ J' = J ∧ T' = row T nb (3, n) ∧ R' = row R nb (fun _ => none) ∧ ∃ f, I' = row I nb f ∧ ∀ k, k < n → f k = I a k) noX := by
  refine AMet.of (by decide) (Nat.le_of_ble_eq_true rfl) (cats1 rfl) fun cx X E => ?_
  show AW _ _ _ (_ :: _ :: _ :: []) _ _ _ _ _
  by_cases h9 : n = 9
  · subst h9
    refine AW.iload_n X dJ13_copyOfRange_0 rfl rfl ?_
    refine AW.if_ne X (tgt := 10) dJ13_copyOfRange_1 rfl ?_ ?_
    · intro t1
      exact absurd rfl t1
    · intro f1
      refine AW.iload_n X dJ13_copyOfRange_4 rfl rfl ?_
      first | refine AW.aload_n X dJ13_copyOfRange_5 rfl rfl ?_ | refine AW.aloadN_n X dJ13_copyOfRange_5 rfl rfl ?_
      first | refine AW.alen X (by first | assumption | exact hT _ _ rfl) rfl dJ13_copyOfRange_6 ?_ | refine AW.alenQ X (by first | assumption | exact hT _ _ rfl) rfl dJ13_copyOfRange_6 ?_
      refine AW.icmp_eq X (tgt := 17) dJ13_copyOfRange_7 rfl ?_ ?_
      · intro t7
        first | refine AW.aload_n X dJ13_copyOfRange_17 rfl rfl ?_ | refine AW.aloadN_n X dJ13_copyOfRange_17 rfl rfl ?_
        refine AW.le (b' := 0 + 3) (by omega) (AW.cloneB X nb 3 hb h2 h1 hT ⟨by omega, by omega⟩ hf q271 q272 q273 q274 q275 q276 (by omega) (Nat.le_of_ble_eq_true rfl) dJ13_copyOfRange_18 ?_)
        refine AW.castArr X h2 (row_s _ _ _) rfl (by decide) q277 dJ13_copyOfRange_21 ?_
        first | refine AW.areturn X E ?_ dJ13_copyOfRange_24 | refine AW.areturnA X E ?_ dJ13_copyOfRange_24 | refine AW.areturnN X E ?_ dJ13_copyOfRange_24
        exact ⟨rfl, rfl, rfl, rfl, _, rfl, fun _ _ => rfl⟩
      · intro f7
        exact absurd rfl f7
  · skip
    refine AW.iload_n X dJ13_copyOfRange_0 rfl rfl ?_
    refine AW.if_ne X (tgt := 10) dJ13_copyOfRange_1 rfl ?_ ?_
    · intro t1
      exact absurd rfl t1
    · intro f1
      refine AW.iload_n X dJ13_copyOfRange_4 rfl rfl ?_
      first | refine AW.aload_n X dJ13_copyOfRange_5 rfl rfl ?_ | refine AW.aloadN_n X dJ13_copyOfRange_5 rfl rfl ?_
      first | refine AW.alen X (by first | assumption | exact hT _ _ rfl) rfl dJ13_copyOfRange_6 ?_ | refine AW.alenQ X (by first | assumption | exact hT _ _ rfl) rfl dJ13_copyOfRange_6 ?_
      refine AW.icmp_eq X (tgt := 17) dJ13_copyOfRange_7 rfl ?_ ?_
      · intro t7
        exact absurd ((nI_eq (by omega) (by omega)).mp t7) h9
      · intro f7
        first | refine AW.aload_n X dJ13_copyOfRange_10 rfl rfl ?_ | refine AW.aloadN_n X dJ13_copyOfRange_10 rfl rfl ?_
        refine AW.iload_n X dJ13_copyOfRange_11 rfl rfl ?_
        refine AW.iload_n X dJ13_copyOfRange_12 rfl rfl ?_
        refine AW.le (b' := 0 + 3) (by omega) (AW.callS X (c_J13_copyOfRangeByte hT h1 hb h2 hn (by omega) hf) s_J13_339 (by omega) (Nat.le_of_ble_eq_true rfl) rfl rfl (Nat.le_of_ble_eq_true rfl) dJ13_copyOfRange_13 ?_ ?_)
        rotate_left
        · intro _ _ _ _ _ h; exact h.elim
        intro r13 T13 I13 R13 J13 h13
        obtain ⟨rfl, h13⟩ := h13
        first | refine AW.areturn X E ?_ dJ13_copyOfRange_16 | refine AW.areturnA X E ?_ dJ13_copyOfRange_16 | refine AW.areturnN X E ?_ dJ13_copyOfRange_16
        exact ⟨rfl, h13⟩
theorem c_J7_getValue {sb bb : Nat} (hTs : T sb = (121, 0)) (h3 : R sb 0 = some bb) : MJ7_getValue 0 0 [.ref sb] T I R J (qR (some (.ref bb)) T I R J) noX := by
  refine AMet.of (by decide) (Nat.le_of_ble_eq_true rfl) (cats1 rfl) fun cx X E => ?_
  show AW _ _ _ (_ :: []) _ _ _ _ _
  first | refine AW.aload_n X dJ7_getValue_0 rfl rfl ?_ | refine AW.aloadN_n X dJ7_getValue_0 rfl rfl ?_
  refine AW.getR X f_J7_15_21 (by first | assumption | exact hT _ _ rfl) (by first | assumption | exact hR _ _ _ rfl) dJ7_getValue_1 ?_
  first | exact AW.areturn X E ⟨rfl, rfl, rfl, rfl, rfl⟩ dJ7_getValue_4 | exact AW.areturnA X E ⟨rfl, rfl, rfl, rfl, rfl⟩ dJ7_getValue_4 | exact AW.areturnN X E ⟨rfl, rfl, rfl, rfl, rfl⟩ dJ7_getValue_4
/-- what a builder's string is made of: st the string, nb its bytes -/
def StrNew (st nb bb n : Nat) (T : KT) (I : KI) (R : KR) (T' : KT) (I' : KI) (R' : KR) : Prop := T' = row (row T st (120, 0)) nb (3, n) ∧ R' = w2 (row (row R st (fun _ => none)) nb (fun _ => none)) st 0 (some nb) ∧ ∃ f, I' = row (w2 (row I st (fun _ => 0)) st 1 0) nb f ∧ ∀ k, k < n → f k = I bb k
theorem c_J9_init_2 {st nb sb bb n : Nat} {f : Nat → Nat} (h : SbP sb bb n f T I R) (h1 : 100 ≤ bb) (hTt : T st = (120, 0)) (hst : 100 ≤ st) (hb : (T nb).1 = 0) (h2 : 100 ≤ nb) (hsb : sb ≠ st) (hbb : bb ≠ st) : MJ9_init_2 3 3 [.ref st, .ref sb, .null] T I R J (fun r T' I' R' J' => r = none ∧ J' = J ∧ T' = row T nb (3, n) ∧ R' = w2 (row R nb (fun _ => none)) st 0 (some nb) ∧ ∃ g, I' = row (w2 I st 1 0) nb g ∧ ∀ k, k < n → g k = I bb k) noX := by
  obtain ⟨g1, g2, g3, g4, g5, g6, g7⟩ := h
  have i1 : w2 I st 1 0 bb = I bb := by funext j; exact w2_n1 hbb
  refine AMet.of (by decide) (Nat.le_of_ble_eq_true rfl) (cats1 rfl) fun cx X E => ?_
  show AW _ _ _ (_ :: _ :: _ :: _ :: _ :: []) _ _ _ _ _
  first | refine AW.aload_n X dJ9_init_2_0 rfl rfl ?_ | refine AW.aloadN_n X dJ9_init_2_0 rfl rfl ?_
  refine AW.objInit X q395 (by decide +kernel) (by decide +kernel) (by omega) (Nat.le_of_ble_eq_true rfl) dJ9_init_2_1 ?_
  first | refine AW.aload_n X dJ9_init_2_4 rfl rfl ?_ | refine AW.aloadN_n X dJ9_init_2_4 rfl rfl ?_
  refine AW.callU_r X (c_J7_getValue g1 g2) (ci := 21) (q := (RJ8, TJ8, 4)) (by first | assumption | exact hT _ _ rfl) rfl s_J9_552_21 (by omega) (Nat.le_of_ble_eq_true rfl) rfl rfl (Nat.le_of_ble_eq_true rfl) dJ9_init_2_5 ?_
  first | refine AW.astore3 X dJ9_init_2_8 ?_ | refine AW.astoreN3 X dJ9_init_2_8 ?_
  first | refine AW.aload_n X dJ9_init_2_9 rfl rfl ?_ | refine AW.aloadN_n X dJ9_init_2_9 rfl rfl ?_
  refine AW.callU_r X (c_J8_length g1 g5) (ci := 21) (q := (RJ8, TJ8, 4)) (by first | assumption | exact hT _ _ rfl) rfl s_J9_549_21 (by omega) (Nat.le_of_ble_eq_true rfl) rfl rfl (Nat.le_of_ble_eq_true rfl) dJ9_init_2_10 ?_
  refine AW.istore4 X dJ9_init_2_13 ?_
  first | refine AW.aload_n X dJ9_init_2_15 rfl rfl ?_ | refine AW.aloadN_n X dJ9_init_2_15 rfl rfl ?_
  refine AW.callU_r X (c_J7_isLatin1 g1 g4) (ci := 21) (q := (RJ8, TJ8, 4)) (by first | assumption | exact hT _ _ rfl) rfl s_J9_1047_21 (by omega) (Nat.le_of_ble_eq_true rfl) rfl rfl (Nat.le_of_ble_eq_true rfl) dJ9_init_2_16 ?_
  refine AW.if_eq X (tgt := 41) dJ9_init_2_19 rfl ?_ ?_
  · intro t19
    exact absurd t19 (by decide)
  · intro f19
    first | refine AW.aload_n X dJ9_init_2_22 rfl rfl ?_ | refine AW.aloadN_n X dJ9_init_2_22 rfl rfl ?_
    refine AW.iconst X (v := 0) dJ9_init_2_23 rfl ?_
    refine AW.putI X g_J9_init_2_15_20 (by omega) (by first | assumption | exact hT _ _ rfl) dJ9_init_2_24 ?_ 
    first | refine AW.aload_n X dJ9_init_2_27 rfl rfl ?_ | refine AW.aloadN_n X dJ9_init_2_27 rfl rfl ?_
    first | refine AW.aload_n X dJ9_init_2_28 rfl rfl ?_ | refine AW.aloadN_n X dJ9_init_2_28 rfl rfl ?_
    refine AW.iconst X (v := 0) dJ9_init_2_29 rfl ?_
    refine AW.iload X dJ9_init_2_30 rfl ?_
    refine AW.le (b' := 0 + 3) (by omega) (AW.callS X (c_J13_copyOfRange g3 h1 hb h2 g6 (fun j hj => by rw [i1, (g7 j hj).1]; exact (by_ok _ (g7 j hj).2).2.2)) s_J9_54 (by omega) (Nat.le_of_ble_eq_true rfl) rfl rfl (Nat.le_of_ble_eq_true rfl) dJ9_init_2_32 ?_ ?_)
    rotate_left
    · intro _ _ _ _ _ h; exact h.elim
    intro r32 T32 I32 R32 J32 h32
    obtain ⟨rfl, rfl, rfl, rfl, g, rfl, hg⟩ := h32
    first | refine AW.putR X g_J9_init_2_9_20 (by omega) (by rw [row_n (fun z => by rw [← z, hTt] at hb; exact absurd hb (by decide))]; exact hTt) dJ9_init_2_35 ?_ | refine AW.putN X g_J9_init_2_9_20 (by omega) (by rw [row_n (fun z => by rw [← z, hTt] at hb; exact absurd hb (by decide))]; exact hTt) dJ9_init_2_35 ?_
    refine AW.goto X (tgt := 97) dJ9_init_2_38 rfl ?_
    refine AW.vreturn X E ?_ dJ9_init_2_97
    exact ⟨rfl, rfl, rfl, rfl, g, rfl, fun k hk => (hg k hk).trans (by rw [i1])⟩
theorem c_J9_init {st nb sb bb n : Nat} {f : Nat → Nat} (h : SbP sb bb n f T I R) (h1 : 100 ≤ bb) (hTt : T st = (120, 0)) (hst : 100 ≤ st) (hb : (T nb).1 = 0) (h2 : 100 ≤ nb) (hsb : sb ≠ st) (hbb : bb ≠ st) : MJ9_init 4 3 [.ref st, .ref sb] T I R J (fun r T' I' R' J' => r = none ∧ J' = J ∧ T' = row T nb (3, n) ∧ R' = w2 (row R nb (fun _ => none)) st 0 (some nb) ∧ ∃ g, I' = row (w2 I st 1 0) nb g ∧ ∀ k, k < n → g k = I bb k) noX := by
  refine AMet.of (by decide) (Nat.le_of_ble_eq_true rfl) (cats1 rfl) fun cx X E => ?_
  show AW _ _ _ (_ :: _ :: []) _ _ _ _ _
  first | refine AW.aload_n X dJ9_init_0 rfl rfl ?_ | refine AW.aloadN_n X dJ9_init_0 rfl rfl ?_
  first | refine AW.aload_n X dJ9_init_1 rfl rfl ?_ | refine AW.aloadN_n X dJ9_init_1 rfl rfl ?_
  refine AW.aconst_null X dJ9_init_2 ?_
  refine AW.le (b' := 0 + 3) (by omega) (AW.callI X (c_J9_init_2 h h1 hTt hst hb h2 hsb hbb) s_J9_489 (by omega) (Nat.le_of_ble_eq_true rfl) rfl rfl (Nat.le_of_ble_eq_true rfl) dJ9_init_3 ?_ ?_)
  rotate_left
  · intro _ _ _ _ _ h; exact h.elim
  intro r3 T3 I3 R3 J3 h3
  obtain ⟨rfl, h3⟩ := h3
  refine AW.vreturn X E ?_ dJ9_init_6
  exact ⟨rfl, h3⟩
theorem c_J8_toString {st nb sb bb n : Nat} {f : Nat → Nat} (h : SbP sb bb n f T I R) (h1 : 100 ≤ bb) (ht : (T st).1 = 0) (hst : 100 ≤ st) (hb : (T nb).1 = 0) (h2 : 100 ≤ nb) (hsn : st ≠ nb) : MJ8_toString 5 4 [.ref sb] T I R J (fun r T' I' R' J' => r = some (.ref st) ∧ J' = J ∧ StrNew st nb bb n T I R T' I' R') noX := by
  have g := h
  obtain ⟨g1, g2, g3, g4, g5, g6, g7⟩ := g
  have hsb : sb ≠ st := fun z => by rw [← z, g1] at ht; exact absurd ht (by decide)
  have hbb : bb ≠ st := fun z => by rw [← z, g3] at ht; exact absurd ht (by decide)
  have hS : SbP sb bb n f (row T st (120, 0)) (row I st (fun _ => 0)) (row R st (fun _ => none)) := ⟨(row_n hsb).trans g1, by rw [row_n hsb]; exact g2, (row_n hbb).trans g3, by rw [row_n hsb]; exact g4, by rw [row_n hsb]; exact g5, g6, fun k hk => by rw [row_n hbb]; exact g7 k hk⟩
  have i1 : row I st (fun _ => (0 : Int32)) bb = I bb := row_n hbb
  refine AMet.of (by decide) (Nat.le_of_ble_eq_true rfl) (cats1 rfl) fun cx X E => ?_
  show AW _ _ _ (_ :: []) _ _ _ _ _
  refine AW.le (b' := 3 + 1) (by omega) (AW.new X (st) 1 (ci := 20) (by first | assumption | omega) (by omega) rfl q387 q388 q91 ⟨by omega, by omega⟩ dJ8_toString_0 ?_)
  refine AW.dup X dJ8_toString_3 rfl ?_
  first | refine AW.aload_n X dJ8_toString_4 rfl rfl ?_ | refine AW.aloadN_n X dJ8_toString_4 rfl rfl ?_
  refine AW.le (b' := 0 + 3) (by omega) (AW.callI X (c_J9_init hS h1 (row_s _ _ _) hst (by rw [row_n (Ne.symm hsn)]; exact hb) h2 hsb hbb) s_J8_137 (by omega) (Nat.le_of_ble_eq_true rfl) rfl rfl (Nat.le_of_ble_eq_true rfl) dJ8_toString_5 ?_ ?_)
  rotate_left
  · intro _ _ _ _ _ h; exact h.elim
  intro r5 T5 I5 R5 J5 h5
  obtain ⟨rfl, rfl, rfl, rfl, g, rfl, hg⟩ := h5
  first | refine AW.areturn X E ?_ dJ8_toString_8 | refine AW.areturnA X E ?_ dJ8_toString_8 | refine AW.areturnN X E ?_ dJ8_toString_8
  exact ⟨rfl, rfl, rfl, rfl, g, rfl, fun k hk => (hg k hk).trans (by rw [i1])⟩
end JC
