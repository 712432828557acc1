/-! 10a: strings and builders of the JDK (steps printed by src/walk.py) -/
set_option maxRecDepth 100000
set_option maxHeartbeats 4000000
theorem StrP.inj {T : KT} {I : KI} {R : KR} {w : Nat} {l l' : List Nat} (h : StrP w l T I R) (h' : StrP w l' T I R) : l = l' := by
  obtain ⟨-, ⟨b, h1, h2, h3⟩, -, h5, h6⟩ := h
  obtain ⟨-, ⟨b', g1, g2, g3⟩, -, g5, g6⟩ := h'
  have hb : b = b' := Option.some.inj (h1.symm.trans g1)
  subst hb
  have hl : l.length = l'.length := congrArg Prod.snd (h2.symm.trans g2)
  apply List.ext_getElem?
  intro k
  rcases Nat.lt_or_ge k l.length with hk | hk
  · have e := (h3 k hk).symm.trans (g3 k (by omega))
    have e2 := (nI_eq (by have := h6 k hk; omega) (by have := g6 k (by omega); omega)).mp e
    rw [List.getD_eq_getElem?_getD, List.getD_eq_getElem?_getD, List.getElem?_eq_getElem hk, List.getElem?_eq_getElem (by omega)] at e2
    rw [List.getElem?_eq_getElem hk, List.getElem?_eq_getElem (by omega)]
    exact congrArg some e2
  · rw [List.getElem?_eq_none hk, List.getElem?_eq_none (by omega)]
theorem list_ext {l l' : List Nat} (hl : l.length = l'.length) (h : ∀ k, k < l.length → l.getD k 0 = l'.getD k 0) : l = l' := by
  apply List.ext_getElem?
  intro k
  rcases Nat.lt_or_ge k l.length with hk | hk
  · have e2 := h k hk
    rw [List.getD_eq_getElem?_getD, List.getD_eq_getElem?_getD, List.getElem?_eq_getElem hk, List.getElem?_eq_getElem (by omega)] at e2
    rw [List.getElem?_eq_getElem hk, List.getElem?_eq_getElem (by omega)]
    exact congrArg some e2
  · rw [List.getElem?_eq_none hk, List.getElem?_eq_none (by omega)]
section JB
variable {T : KT} {I : KI} {R : KR} {J : KJ}
theorem c_J15_equals {b b' : Nat} {l l' : List Nat} (h2 : T b = (3, l.length)) (h3 : ∀ k, k < l.length → I b k = nI (l.getD k 0)) (h6 : ∀ k, k < l.length → l.getD k 0 < 128) (h5 : l.length ≤ 9) (g2 : T b' = (3, l'.length)) (g3 : ∀ k, k < l'.length → I b' k = nI (l'.getD k 0)) (g6 : ∀ k, k < l'.length → l'.getD k 0 < 128) (g5 : l'.length ≤ 9) : MJ15_equals 0 0 [.ref b, .ref b'] T I R J (qR (some (.int (bI (l = l')))) T I R J) noX := by
  refine AMet.of (by decide) (Nat.le_of_ble_eq_true rfl) (cats1 rfl) fun cx X E => ?_
  show AW _ _ _ (_ :: _ :: _ :: []) _ _ _ _ _
  by_cases hl : l.length = l'.length
  · have lp : ∀ j k, k + j = l.length → (∀ k', k' < k → l.getD k' 0 = l'.getD k' 0) → AW cx 0 9 [.ref b, .ref b', .int (nI k)] [] T I R J := by
      intro j
      induction j with
      | zero =>
        intro k hk he
        obtain rfl : k = l.length := by omega
        rw [bI_t (list_ext hl he)] at E
        refine AW.iload_n X dJ15_equals_9 rfl rfl ?_
        first | refine AW.aload_n X dJ15_equals_10 rfl rfl ?_ | refine AW.aloadN_n X dJ15_equals_10 rfl rfl ?_
        first | refine AW.alen X (by first | assumption | exact hT _ _ rfl) rfl dJ15_equals_11 ?_ | refine AW.alenQ X (by first | assumption | exact hT _ _ rfl) rfl dJ15_equals_11 ?_
        refine AW.icmp_ge X (tgt := 32) dJ15_equals_12 rfl ?_ ?_
        · intro t12
          refine AW.iconst X (v := 1) dJ15_equals_32 rfl ?_
          exact AW.ireturn X E ⟨rfl, rfl, rfl, rfl, rfl⟩ dJ15_equals_33 (hnar := by first | rfl | (unfold bI; split <;> rfl))
        · intro f12
          exact absurd (Int32.le_refl _) f12
      | succ j ih =>
        intro k hk he
        have a1 := h6 k (by omega)
        have a2 := g6 k (by omega)
        refine AW.iload_n X dJ15_equals_9 rfl rfl ?_
        first | refine AW.aload_n X dJ15_equals_10 rfl rfl ?_ | refine AW.aloadN_n X dJ15_equals_10 rfl rfl ?_
        first | refine AW.alen X (by first | assumption | exact hT _ _ rfl) rfl dJ15_equals_11 ?_ | refine AW.alenQ X (by first | assumption | exact hT _ _ rfl) rfl dJ15_equals_11 ?_
        refine AW.icmp_ge X (tgt := 32) dJ15_equals_12 rfl ?_ ?_
        · intro t12
          exact absurd t12 (nI_ge (by omega) (by omega))
        · intro f12
          first | refine AW.aload_n X dJ15_equals_15 rfl rfl ?_ | refine AW.aloadN_n X dJ15_equals_15 rfl rfl ?_
          refine AW.iload_n X dJ15_equals_16 rfl rfl ?_
          first | refine AW.bald X (j := k) (by first | assumption | exact hT _ _ rfl) (by repeat (first | with_reducible exact rfl | assumption | exact ix_l _ | apply ix_add | apply ix_mul)) (by omega) dJ15_equals_17 ?_ | refine AW.zald X (j := k) (by first | assumption | exact hT _ _ rfl) (by repeat (first | with_reducible exact rfl | assumption | exact ix_l _ | apply ix_add | apply ix_mul)) (by omega) dJ15_equals_17 ?_
          rw [h3 k (by omega)]
          first | refine AW.aload_n X dJ15_equals_18 rfl rfl ?_ | refine AW.aloadN_n X dJ15_equals_18 rfl rfl ?_
          refine AW.iload_n X dJ15_equals_19 rfl rfl ?_
          first | refine AW.bald X (j := k) (by first | assumption | exact hT _ _ rfl) (by repeat (first | with_reducible exact rfl | assumption | exact ix_l _ | apply ix_add | apply ix_mul)) (by omega) dJ15_equals_20 ?_ | refine AW.zald X (j := k) (by first | assumption | exact hT _ _ rfl) (by repeat (first | with_reducible exact rfl | assumption | exact ix_l _ | apply ix_add | apply ix_mul)) (by omega) dJ15_equals_20 ?_
          rw [g3 k (by omega)]
          refine AW.icmp_eq X (tgt := 26) dJ15_equals_21 rfl ?_ ?_
          · intro t21
            refine AW.iinc2 X (v := _ + 1) dJ15_equals_26 rfl ?_
            refine AW.goto X (tgt := 9) dJ15_equals_29 rfl ?_
            rw [nI_1]; exact ih (k + 1) (by omega) (fun k' hk' => by
              rcases Nat.lt_or_eq_of_le (Nat.le_of_lt_succ hk') with hx | rfl
              · exact he k' hx
              · exact (nI_eq (by omega) (by omega)).mp t21)
          · intro f21
            rw [bI_f (fun z => f21 (by rw [z]))] at E
            refine AW.iconst X (v := 0) dJ15_equals_24 rfl ?_
            exact AW.ireturn X E ⟨rfl, rfl, rfl, rfl, rfl⟩ dJ15_equals_25 (hnar := by first | rfl | (unfold bI; split <;> rfl))
    first | refine AW.aload_n X dJ15_equals_0 rfl rfl ?_ | refine AW.aloadN_n X dJ15_equals_0 rfl rfl ?_
    first | refine AW.alen X (by first | assumption | exact hT _ _ rfl) rfl dJ15_equals_1 ?_ | refine AW.alenQ X (by first | assumption | exact hT _ _ rfl) rfl dJ15_equals_1 ?_
    first | refine AW.aload_n X dJ15_equals_2 rfl rfl ?_ | refine AW.aloadN_n X dJ15_equals_2 rfl rfl ?_
    first | refine AW.alen X (by first | assumption | exact hT _ _ rfl) rfl dJ15_equals_3 ?_ | refine AW.alenQ X (by first | assumption | exact hT _ _ rfl) rfl dJ15_equals_3 ?_
    refine AW.icmp_ne X (tgt := 34) dJ15_equals_4 rfl ?_ ?_
    · intro t4
      exact absurd (by rw [hl]) t4
    · intro f4
      refine AW.iconst X (v := 0) dJ15_equals_7 rfl ?_
      refine AW.istore2 X dJ15_equals_8 ?_
      exact lp l.length 0 (by omega) (fun _ h => absurd h (Nat.not_lt_zero _))
  · rw [bI_f (fun z => hl (by rw [z]))] at E
    first | refine AW.aload_n X dJ15_equals_0 rfl rfl ?_ | refine AW.aloadN_n X dJ15_equals_0 rfl rfl ?_
    first | refine AW.alen X (by first | assumption | exact hT _ _ rfl) rfl dJ15_equals_1 ?_ | refine AW.alenQ X (by first | assumption | exact hT _ _ rfl) rfl dJ15_equals_1 ?_
    first | refine AW.aload_n X dJ15_equals_2 rfl rfl ?_ | refine AW.aloadN_n X dJ15_equals_2 rfl rfl ?_
    first | refine AW.alen X (by first | assumption | exact hT _ _ rfl) rfl dJ15_equals_3 ?_ | refine AW.alenQ X (by first | assumption | exact hT _ _ rfl) rfl dJ15_equals_3 ?_
    refine AW.icmp_ne X (tgt := 34) dJ15_equals_4 rfl ?_ ?_
    · intro t4
      refine AW.iconst X (v := 0) dJ15_equals_34 rfl ?_
      exact AW.ireturn X E ⟨rfl, rfl, rfl, rfl, rfl⟩ dJ15_equals_35 (hnar := by first | rfl | (unfold bI; split <;> rfl))
    · intro f4
      exact absurd ((nI_eq (by omega) (by omega)).mp f4) hl
theorem c_J9_equals {w w' : Nat} {l l' : List Nat} (h : StrP w l T I R) (h' : StrP w' l' T I R) : MJ9_equals 1 0 [.ref w, .ref w'] T I R J (qR (some (.int (bI (l = l')))) T I R J) noX := by
  have hT1 := h.1
  have hT2 := h'.1
  have hs := h
  have hs' := h'
  obtain ⟨-, ⟨b, h1, h2, h3⟩, h4, h5, h6⟩ := h
  obtain ⟨-, ⟨b', g1, g2, g3⟩, g4, g5, g6⟩ := h'
  have bn : narrow .boolean (.int (bI (l = l'))) = .int (bI (l = l')) := by unfold bI; split <;> rfl
  refine AMet.of (by decide) (Nat.le_of_ble_eq_true rfl) (cats1 rfl) fun cx X E => ?_
  show AW _ _ _ (_ :: _ :: _ :: []) _ _ _ _ _
  by_cases hww : w = w'
  · subst hww
    rw [bI_t (hs.inj hs')] at E
    first | refine AW.aload_n X dJ9_equals_0 rfl rfl ?_ | refine AW.aloadN_n X dJ9_equals_0 rfl rfl ?_
    first | refine AW.aload_n X dJ9_equals_1 rfl rfl ?_ | refine AW.aloadN_n X dJ9_equals_1 rfl rfl ?_
    refine AW.acmp_ne X (tgt := 7) ((Or.inl rfl)) dJ9_equals_2 rfl ?_ ?_
    · intro t2
      exact absurd rfl t2
    · intro f2
      refine AW.iconst X (v := 1) dJ9_equals_5 rfl ?_
      exact AW.ireturn X E ⟨rfl, rfl, rfl, rfl, rfl⟩ dJ9_equals_6 (hnar := by first | rfl | (unfold bI; split <;> rfl))
  · skip
    first | refine AW.aload_n X dJ9_equals_0 rfl rfl ?_ | refine AW.aloadN_n X dJ9_equals_0 rfl rfl ?_
    first | refine AW.aload_n X dJ9_equals_1 rfl rfl ?_ | refine AW.aloadN_n X dJ9_equals_1 rfl rfl ?_
    refine AW.acmp_ne X (tgt := 7) ((Or.inr ⟨by rw [hT1]; decide, by rw [hT2]; decide⟩)) dJ9_equals_2 rfl ?_ ?_
    · intro t2
      first | refine AW.aload_n X dJ9_equals_7 rfl rfl ?_ | refine AW.aloadN_n X dJ9_equals_7 rfl rfl ?_
      refine AW.instY X (ci := 20) (q := (RJ9, TJ9, 2)) hT2 rfl q908 dJ9_equals_8 ?_
      refine AW.if_eq X (tgt := 54) dJ9_equals_11 rfl ?_ ?_
      · intro t11
        exact absurd t11 (by decide)
      · intro f11
        first | refine AW.aload_n X dJ9_equals_14 rfl rfl ?_ | refine AW.aloadN_n X dJ9_equals_14 rfl rfl ?_
        refine AW.cast X (idx := 10) (ci := 20) (q := (RJ9, TJ9, 2)) hT2 rfl q908 (Or.inl rfl) dJ9_equals_15 ?_
        first | refine AW.astore2 X dJ9_equals_18 ?_ | refine AW.astoreN2 X dJ9_equals_18 ?_
        refine AW.gets X 0 rfl q323 dJ9_equals_19 ?_
        refine AW.if_eq X (tgt := 36) dJ9_equals_22 rfl ?_ ?_
        · intro t22
          exact absurd t22 (by decide)
        · intro f22
          first | refine AW.aload_n X dJ9_equals_25 rfl rfl ?_ | refine AW.aloadN_n X dJ9_equals_25 rfl rfl ?_
          refine AW.getI X f_J9_15_20 (by first | assumption | exact hT _ _ rfl) dJ9_equals_26 ?_
          rw [h4]
          first | refine AW.aload_n X dJ9_equals_29 rfl rfl ?_ | refine AW.aloadN_n X dJ9_equals_29 rfl rfl ?_
          refine AW.getI X f_J9_15_20 (by first | assumption | exact hT _ _ rfl) dJ9_equals_30 ?_
          rw [g4]
          refine AW.icmp_ne X (tgt := 54) dJ9_equals_33 rfl ?_ ?_
          · intro t33
            exact absurd rfl t33
          · intro f33
            first | refine AW.aload_n X dJ9_equals_36 rfl rfl ?_ | refine AW.aloadN_n X dJ9_equals_36 rfl rfl ?_
            refine AW.getR X f_J9_9_20 (by first | assumption | exact hT _ _ rfl) (by first | assumption | exact hR _ _ _ rfl) dJ9_equals_37 ?_
            first | refine AW.aload_n X dJ9_equals_40 rfl rfl ?_ | refine AW.aloadN_n X dJ9_equals_40 rfl rfl ?_
            refine AW.getR X f_J9_9_20 (by first | assumption | exact hT _ _ rfl) (by first | assumption | exact hR _ _ _ rfl) dJ9_equals_41 ?_
            refine AW.callS_r X (c_J15_equals h2 h3 h6 h5 g2 g3 g6 g5) s_J9_541 (by omega) (Nat.le_of_ble_eq_true rfl) rfl rfl (Nat.le_of_ble_eq_true rfl) dJ9_equals_44 ?_
            refine AW.if_eq X (tgt := 54) dJ9_equals_47 rfl ?_ ?_
            · intro t47
              rw [bI_f (bI_z.mp t47)] at E
              refine AW.iconst X (v := 0) dJ9_equals_54 rfl ?_
              exact AW.ireturn X E ⟨rfl, rfl, rfl, rfl, rfl⟩ dJ9_equals_55 (hnar := by first | rfl | (unfold bI; split <;> rfl))
            · intro f47
              rw [bI_t (Decidable.of_not_not fun z => f47 (bI_z.mpr z))] at E
              refine AW.iconst X (v := 1) dJ9_equals_50 rfl ?_
              refine AW.goto X (tgt := 55) dJ9_equals_51 rfl ?_
              exact AW.ireturn X E ⟨rfl, rfl, rfl, rfl, rfl⟩ dJ9_equals_55 (hnar := by first | rfl | (unfold bI; split <;> rfl))
    · intro f2
      exact absurd f2 hww
theorem by_ok : ∀ v, v < 128 → (nI v).toInt8.toInt32 = nI v ∧ vp_nar .byte (nI v) = nI v ∧ fits .byte (.int (nI v)) = true := by decide +kernel
/-- a builder of nine, n of them written -/
def SbP (sb bb n : Nat) (f : Nat → Nat) (T : KT) (I : KI) (R : KR) : Prop := T sb = (121, 0) ∧ R sb 0 = some bb ∧ T bb = (3, 9) ∧ I sb 1 = 0 ∧ I sb 3 = nI n ∧ n ≤ 9 ∧ ∀ k, k < n → I bb k = nI (f k) ∧ f k < 128
theorem c_J7_init {sb bb : Nat} (hTs : T sb = (121, 0)) (h1 : 100 ≤ sb) (hb : (T bb).1 = 0) (h2 : 100 ≤ bb) : MJ7_init 1 3 [.ref sb, .int 9] T I R J (fun r T' I' R' J' => r = none ∧ J' = J ∧ T' = row T bb (3, 9) ∧ I' = w2 (row I bb (fun _ => 0)) sb 1 0 ∧ R' = w2 (row R bb (fun _ => none)) sb 0 (some bb)) noX := by
  have hne : sb ≠ bb := fun z => by rw [← z, hTs] at hb; exact absurd hb (by decide)
  have t1 : row T bb (3, 9) sb = (121, 0) := (row_n hne).trans hTs
  refine AMet.of (by decide) (Nat.le_of_ble_eq_true rfl) (cats1 rfl) fun cx X E => ?_
  show AW _ _ _ (_ :: _ :: []) _ _ _ _ _
  first | refine AW.aload_n X dJ7_init_0 rfl rfl ?_ | refine AW.aloadN_n X dJ7_init_0 rfl rfl ?_
  refine AW.objInit X q213 (by decide +kernel) (by decide +kernel) (by omega) (Nat.le_of_ble_eq_true rfl) dJ7_init_1 ?_
  refine AW.gets X 0 rfl q214 dJ7_init_4 ?_
  refine AW.if_eq X (tgt := 25) dJ7_init_7 rfl ?_ ?_
  · intro t7
    exact absurd t7 (by decide)
  · intro f7
    first | refine AW.aload_n X dJ7_init_10 rfl rfl ?_ | refine AW.aloadN_n X dJ7_init_10 rfl rfl ?_
    refine AW.iload_n X dJ7_init_11 rfl rfl ?_
    refine AW.le (b' := 0 + 3) (by omega) (AW.newB X (bb) 3 (by first | assumption | omega) (by omega) (show (9 : Int32) = nI 9 from rfl) (by omega) (by omega) (by omega) dJ7_init_12 ?_)
    first | refine AW.putR X g_J7_init_15_21 (by omega) (by first | assumption | exact hT _ _ rfl) dJ7_init_14 ?_ | refine AW.putN X g_J7_init_15_21 (by omega) (by first | assumption | exact hT _ _ rfl) dJ7_init_14 ?_
    first | refine AW.aload_n X dJ7_init_17 rfl rfl ?_ | refine AW.aloadN_n X dJ7_init_17 rfl rfl ?_
    refine AW.iconst X (v := 0) dJ7_init_18 rfl ?_
    refine AW.putI X g_J7_init_22_21 (by omega) (by first | assumption | exact hT _ _ rfl) dJ7_init_19 ?_ 
    refine AW.goto X (tgt := 38) dJ7_init_22 rfl ?_
    refine AW.vreturn X E ?_ dJ7_init_38
    exact ⟨rfl, rfl, rfl, rfl, rfl⟩
theorem c_J8_init_2 {sb bb : Nat} (hTs : T sb = (121, 0)) (h1 : 100 ≤ sb) (hb : (T bb).1 = 0) (h2 : 100 ≤ bb) : MJ8_init_2 2 3 [.ref sb, .int 9] T I R J (fun r T' I' R' J' => r = none ∧ J' = J ∧ T' = row T bb (3, 9) ∧ I' = w2 (row I bb (fun _ => 0)) sb 1 0 ∧ R' = w2 (row R bb (fun _ => none)) sb 0 (some bb)) noX := by
  refine AMet.of (by decide) (Nat.le_of_ble_eq_true rfl) (cats1 rfl) fun cx X E => ?_
  show AW _ _ _ (_ :: _ :: []) _ _ _ _ _
  first | refine AW.aload_n X dJ8_init_2_0 rfl rfl ?_ | refine AW.aloadN_n X dJ8_init_2_0 rfl rfl ?_
  refine AW.iload_n X dJ8_init_2_1 rfl rfl ?_
  refine AW.le (b' := 0 + 3) (by omega) (AW.callI X (c_J7_init hTs h1 hb h2) s_J8_1 (by omega) (Nat.le_of_ble_eq_true rfl) rfl rfl (Nat.le_of_ble_eq_true rfl) dJ8_init_2_2 ?_ ?_)
  rotate_left
  · intro _ _ _ _ _ h; exact h.elim
  intro r2 T2 I2 R2 J2 h2
  obtain ⟨rfl, rfl, rfl, rfl, rfl⟩ := h2
  refine AW.vreturn X E ?_ dJ8_init_2_5
  exact ⟨rfl, rfl, rfl, rfl, rfl⟩
theorem c_J7_length {sb n : Nat} (hTs : T sb = (121, 0)) (h3 : I sb 3 = nI n) : MJ7_length 0 0 [.ref sb] T I R J (qR (some (.int (nI n))) T I R J) noX := by
  rw [← h3]
  refine AMet.of (by decide) (Nat.le_of_ble_eq_true rfl) (cats1 rfl) fun cx X E => ?_
  show AW _ _ _ (_ :: []) _ _ _ _ _
  first | refine AW.aload_n X dJ7_length_0 rfl rfl ?_ | refine AW.aloadN_n X dJ7_length_0 rfl rfl ?_
  refine AW.getI X f_J7_79_21 (by first | assumption | exact hT _ _ rfl) dJ7_length_1 ?_
  exact AW.ireturn X E ⟨rfl, rfl, rfl, rfl, rfl⟩ dJ7_length_4 
theorem c_J8_length {sb n : Nat} (hTs : T sb = (121, 0)) (h3 : I sb 3 = nI n) : MJ8_length 1 0 [.ref sb] T I R J (qR (some (.int (nI n))) T I R J) noX := by
  refine AMet.of (by decide) (Nat.le_of_ble_eq_true rfl) (cats1 rfl) fun cx X E => ?_
  show AW _ _ _ (_ :: []) _ _ _ _ _
  first | refine AW.aload_n X dJ8_length_0 rfl rfl ?_ | refine AW.aloadN_n X dJ8_length_0 rfl rfl ?_
  refine AW.callP_r X (c_J7_length hTs h3) (ci := 21) (q := (RJ8, TJ8, 4)) (by first | assumption | exact hT _ _ rfl) rfl s_J8_343 (by omega) (Nat.le_of_ble_eq_true rfl) rfl rfl (Nat.le_of_ble_eq_true rfl) dJ8_length_1 ?_
  exact AW.ireturn X E ⟨rfl, rfl, rfl, rfl, rfl⟩ dJ8_length_4 
theorem c_J7_isLatin1 {sb : Nat} (hTs : T sb = (121, 0)) (h1 : I sb 1 = 0) : MJ7_isLatin1 0 0 [.ref sb] T I R J (qR (some (.int 1)) T I R J) noX := by
  refine AMet.of (by decide) (Nat.le_of_ble_eq_true rfl) (cats1 rfl) fun cx X E => ?_
  show AW _ _ _ (_ :: []) _ _ _ _ _
  refine AW.gets X 0 rfl q214 dJ7_isLatin1_0 ?_
  refine AW.if_eq X (tgt := 17) dJ7_isLatin1_3 rfl ?_ ?_
  · intro t3
    exact absurd t3 (by decide)
  · intro f3
    first | refine AW.aload_n X dJ7_isLatin1_6 rfl rfl ?_ | refine AW.aloadN_n X dJ7_isLatin1_6 rfl rfl ?_
    refine AW.getI X f_J7_22_21 (by first | assumption | exact hT _ _ rfl) dJ7_isLatin1_7 ?_
    rw [h1]
    refine AW.if_ne X (tgt := 17) dJ7_isLatin1_10 rfl ?_ ?_
    · intro t10
      exact absurd rfl t10
    · intro f10
      refine AW.iconst X (v := 1) dJ7_isLatin1_13 rfl ?_
      refine AW.goto X (tgt := 18) dJ7_isLatin1_14 rfl ?_
      exact AW.ireturn X E ⟨rfl, rfl, rfl, rfl, rfl⟩ dJ7_isLatin1_18 (hnar := by first | rfl | (unfold bI; split <;> rfl))
theorem c_J15_canEncode {v : Nat} (hv : v < 128) : MJ15_canEncode 0 0 [.int (nI v)] T I R J (qR (some (.int 1)) T I R J) noX := by
  refine AMet.of (by decide) (Nat.le_of_ble_eq_true rfl) (cats1 rfl) fun cx X E => ?_
  show AW _ _ _ (_ :: []) _ _ _ _ _
  refine AW.iload_n X dJ15_canEncode_0 rfl rfl ?_
  refine AW.sipush X (v := 255) dJ15_canEncode_1 rfl ?_
  refine AW.icmp_gt X (tgt := 11) dJ15_canEncode_4 rfl ?_ ?_
  · intro t4
    exact absurd t4 (nI_nlt (a := 255) (b := v) (by omega) (by omega))
  · intro f4
    refine AW.iconst X (v := 1) dJ15_canEncode_7 rfl ?_
    refine AW.goto X (tgt := 12) dJ15_canEncode_8 rfl ?_
    exact AW.ireturn X E ⟨rfl, rfl, rfl, rfl, rfl⟩ dJ15_canEncode_12 (hnar := by first | rfl | (unfold bI; split <;> rfl))
theorem c_J7_ensure {sb bb n : Nat} {f : Nat → Nat} (h : SbP sb bb n f T I R) (hn : n < 9) : MJ7_ensureCapacityInternal 0 0 [.ref sb, .int (nI (n + 1))] T I R J (qR none T I R J) noX := by
  obtain ⟨h1, h2, h3, h4, h5, h6, h7⟩ := h
  refine AMet.of (by decide) (Nat.le_of_ble_eq_true rfl) (cats1 rfl) fun cx X E => ?_
  show AW _ _ _ (_ :: _ :: _ :: []) _ _ _ _ _
  first | refine AW.aload_n X dJ7_ensureCapacityInternal_0 rfl rfl ?_ | refine AW.aloadN_n X dJ7_ensureCapacityInternal_0 rfl rfl ?_
  refine AW.getR X f_J7_15_21 (by first | assumption | exact hT _ _ rfl) (by first | assumption | exact hR _ _ _ rfl) dJ7_ensureCapacityInternal_1 ?_
  first | refine AW.alen X (by first | assumption | exact hT _ _ rfl) rfl dJ7_ensureCapacityInternal_4 ?_ | refine AW.alenQ X (by first | assumption | exact hT _ _ rfl) rfl dJ7_ensureCapacityInternal_4 ?_
  first | refine AW.aload_n X dJ7_ensureCapacityInternal_5 rfl rfl ?_ | refine AW.aloadN_n X dJ7_ensureCapacityInternal_5 rfl rfl ?_
  refine AW.getI X f_J7_22_21 (by first | assumption | exact hT _ _ rfl) dJ7_ensureCapacityInternal_6 ?_
  rw [h4]
  refine AW.ishr X dJ7_ensureCapacityInternal_9 ?_
  rw [shr0]
  refine AW.istore2 X dJ7_ensureCapacityInternal_10 ?_
  refine AW.iload_n X dJ7_ensureCapacityInternal_11 rfl rfl ?_
  refine AW.iload_n X dJ7_ensureCapacityInternal_12 rfl rfl ?_
  refine AW.isub X dJ7_ensureCapacityInternal_13 ?_
  refine AW.if_le X (tgt := 38) dJ7_ensureCapacityInternal_14 rfl ?_ ?_
  · intro t14
    exact AW.vreturn X E ⟨rfl, rfl, rfl, rfl, rfl⟩ dJ7_ensureCapacityInternal_38
  · intro f14
    exact absurd (show nI (n + 1) - nI 9 ≤ 0 by
      have := sub_toInt (a := n + 1) (c := 9) (by omega) (by omega)
      refine Int32.le_iff_toInt_le.mpr ?_
      rw [this]; show _ ≤ (0 : Int); omega) f14
theorem c_J7_append_3 {sb bb n v : Nat} {f : Nat → Nat} (h : SbP sb bb n f T I R) (hn : n < 9) (hv : v < 128) (h100 : 100 ≤ sb) (h100b : 100 ≤ bb) : MJ7_append_3 1 0 [.ref sb, .int (nI v)] T I R J (qI (fun r I' => r = some (.ref sb) ∧ I' = w2 (w2 I sb 3 (nI (n + 1))) bb n (nI v)) T R J) noX := by
  have h0 := h
  obtain ⟨h1, h2, h3, h4, h5, h6, h7⟩ := h
  obtain ⟨v1, v2, v3⟩ := by_ok v hv
  refine AMet.of (by decide) (Nat.le_of_ble_eq_true rfl) (cats1 rfl) fun cx X E => ?_
  show AW _ _ _ (_ :: _ :: []) _ _ _ _ _
  first | refine AW.aload_n X dJ7_append_3_0 rfl rfl ?_ | refine AW.aloadN_n X dJ7_append_3_0 rfl rfl ?_
  first | refine AW.aload_n X dJ7_append_3_1 rfl rfl ?_ | refine AW.aloadN_n X dJ7_append_3_1 rfl rfl ?_
  refine AW.getI X f_J7_79_21 (by first | assumption | exact hT _ _ rfl) dJ7_append_3_2 ?_
  rw [h5]
  refine AW.iconst X (v := 1) dJ7_append_3_5 rfl ?_
  refine AW.iadd X dJ7_append_3_6 ?_
  rw [nI_1]
  refine AW.callUp_r X (c_J7_ensure h0 hn) (ci := 21) (q := (RJ8, TJ8, 4)) h1 rfl s_J7_100_21 (by omega) (Nat.le_of_ble_eq_true rfl) rfl rfl (Nat.le_of_ble_eq_true rfl) dJ7_append_3_7 ?_
  first | refine AW.aload_n X dJ7_append_3_10 rfl rfl ?_ | refine AW.aloadN_n X dJ7_append_3_10 rfl rfl ?_
  refine AW.callU_r X (c_J7_isLatin1 h1 h4) (ci := 21) (q := (RJ8, TJ8, 4)) (by first | assumption | exact hT _ _ rfl) rfl s_J7_83_21 (by omega) (Nat.le_of_ble_eq_true rfl) rfl rfl (Nat.le_of_ble_eq_true rfl) dJ7_append_3_11 ?_
  refine AW.if_eq X (tgt := 45) dJ7_append_3_14 rfl ?_ ?_
  · intro t14
    exact absurd t14 (by decide)
  · intro f14
    refine AW.iload_n X dJ7_append_3_17 rfl rfl ?_
    refine AW.callS_r X (c_J15_canEncode hv) s_J7_191 (by omega) (Nat.le_of_ble_eq_true rfl) rfl rfl (Nat.le_of_ble_eq_true rfl) dJ7_append_3_18 ?_
    refine AW.if_eq X (tgt := 45) dJ7_append_3_21 rfl ?_ ?_
    · intro t21
      exact absurd t21 (by decide)
    · intro f21
      first | refine AW.aload_n X dJ7_append_3_24 rfl rfl ?_ | refine AW.aloadN_n X dJ7_append_3_24 rfl rfl ?_
      refine AW.getR X f_J7_15_21 (by first | assumption | exact hT _ _ rfl) (by first | assumption | exact hR _ _ _ rfl) dJ7_append_3_25 ?_
      first | refine AW.aload_n X dJ7_append_3_28 rfl rfl ?_ | refine AW.aloadN_n X dJ7_append_3_28 rfl rfl ?_
      refine AW.dup X dJ7_append_3_29 rfl ?_
      refine AW.getI X f_J7_79_21 (by first | assumption | exact hT _ _ rfl) dJ7_append_3_30 ?_
      rw [h5]
      refine AW.dup_x1 X dJ7_append_3_33 rfl rfl ?_
      refine AW.iconst X (v := 1) dJ7_append_3_34 rfl ?_
      refine AW.iadd X dJ7_append_3_35 ?_
      rw [nI_1]
      refine AW.putI X g_J7_append_3_79_21 (by omega) (by first | assumption | exact hT _ _ rfl) dJ7_append_3_36 ?_ 
      refine AW.iload_n X dJ7_append_3_39 rfl rfl ?_
      refine AW.i2b X dJ7_append_3_40 ?_
      rw [v1]
      first | refine AW.bast X (j := n) (by omega) (by first | assumption | exact hT _ _ rfl) (by repeat (first | with_reducible exact rfl | assumption | exact ix_l _ | apply ix_add | apply ix_mul)) (by omega) dJ7_append_3_41 ?_ | refine AW.zast X (j := n) (by omega) (by first | assumption | exact hT _ _ rfl) (by repeat (first | with_reducible exact rfl | assumption | exact ix_l _ | apply ix_add | apply ix_mul)) (by omega) dJ7_append_3_41 ?_
      rw [v2]
      refine AW.goto X (tgt := 75) dJ7_append_3_42 rfl ?_
      first | refine AW.aload_n X dJ7_append_3_75 rfl rfl ?_ | refine AW.aloadN_n X dJ7_append_3_75 rfl rfl ?_
      first | refine AW.areturn X E ?_ dJ7_append_3_76 | refine AW.areturnA X E ?_ dJ7_append_3_76 | refine AW.areturnN X E ?_ dJ7_append_3_76
      exact ⟨rfl, rfl, rfl, rfl, rfl⟩
theorem c_J8_append_3 {sb bb n v : Nat} {f : Nat → Nat} (h : SbP sb bb n f T I R) (hn : n < 9) (hv : v < 128) (h100 : 100 ≤ sb) (h100b : 100 ≤ bb) : MJ8_append_3 2 0 [.ref sb, .int (nI v)] T I R J (qI (fun r I' => r = some (.ref sb) ∧ I' = w2 (w2 I sb 3 (nI (n + 1))) bb n (nI v)) T R J) noX := by
  have hTs := h.1
  refine AMet.of (by decide) (Nat.le_of_ble_eq_true rfl) (cats1 rfl) fun cx X E => ?_
  show AW _ _ _ (_ :: _ :: []) _ _ _ _ _
  first | refine AW.aload_n X dJ8_append_3_0 rfl rfl ?_ | refine AW.aloadN_n X dJ8_append_3_0 rfl rfl ?_
  refine AW.iload_n X dJ8_append_3_1 rfl rfl ?_
  refine AW.callP_i X (c_J7_append_3 h hn hv h100 h100b) (ci := 21) (q := (RJ8, TJ8, 4)) (by first | assumption | exact hT _ _ rfl) rfl s_J8_50 (by omega) (Nat.le_of_ble_eq_true rfl) rfl rfl (Nat.le_of_ble_eq_true rfl) dJ8_append_3_2 ?_
  intro r2 I2 h2
  obtain ⟨rfl, rfl⟩ := h2
  refine AW.pop X dJ8_append_3_5 rfl ?_
  first | refine AW.aload_n X dJ8_append_3_6 rfl rfl ?_ | refine AW.aloadN_n X dJ8_append_3_6 rfl rfl ?_
  first | refine AW.areturn X E ?_ dJ8_append_3_7 | refine AW.areturnA X E ?_ dJ8_append_3_7 | refine AW.areturnN X E ?_ dJ8_append_3_7
  exact ⟨rfl, rfl, rfl, rfl, rfl⟩
end JB
