/-! 08b: the model's night (written by src/walk.py) -/
set_option maxRecDepth 100000
set_option maxHeartbeats 4000000
/-- the model's rows are the view's -/
def MV (I N : KI) : Prop := (∀ a, 304 ≤ a → a ≤ 322 → I a = N a) ∧ (∀ m, m < nM N → I 337 m = N 337 m ∧ I 338 m = N 338 m ∧ I 339 m = N 339 m) ∧ I 200 44 = N 200 44 ∧ I 200 45 = N 200 45
def inRow (a : Nat) : Bool := (304 ≤ a && a ≤ 322) || a == 337 || a == 338 || a == 339 || a == 200
theorem MV.fr {I I' N : KI} (h : MV I N) (hf : ∀ a, (304 ≤ a ∧ a ≤ 322) ∨ a = 337 ∨ a = 338 ∨ a = 339 → I' a = I a) (h44 : I' 200 44 = I 200 44) (h45 : I' 200 45 = I 200 45) : MV I' N := by
  obtain ⟨m1, m2, m5, m6⟩ := h
  exact ⟨fun a a1 a2 => (hf a (by omega)).trans (m1 a a1 a2), fun m hm => by rw [hf 337 (by omega), hf 338 (by omega), hf 339 (by omega)]; exact m2 m hm, h44.trans m5, h45.trans m6⟩
theorem MV.w {I N : KI} {a k : Nat} {v : Int32} (h : MV I N) (ha : inRow a = false) : MV (w2 I a k v) N := by
  have hn : ¬ ((304 ≤ a ∧ a ≤ 322) ∨ a = 337 ∨ a = 338 ∨ a = 339 ∨ a = 200) := by
    intro hc
    unfold inRow at ha
    simp only [Bool.or_eq_false_iff, Bool.and_eq_false_iff, decide_eq_false_iff_not, beq_eq_false_iff_ne] at ha
    omega
  exact h.fr (fun b hb => w2_r (by omega)) (w2_n1 (by omega)) (w2_n1 (by omega))
theorem MV.w200 {I N : KI} {k : Nat} {v : Int32} (h : MV I N) (hk : k ≠ 44 ∧ k ≠ 45) : MV (w2 I 200 k v) N :=
  h.fr (fun b hb => w2_r (by omega)) (w2_n2 (by omega)) (w2_n2 (by omega))
def MS (T : KT) (I : KI) (R : KR) (N : KI) : Prop := XT T ∧ XRf R ∧ MV I N ∧ NOK N ∧ MOKs N
theorem MS.hi {T : KT} {I I' : KI} {R : KR} {N : KI} (h : MS T I R N) (hf : ∀ a, a < 340 → I' a = I a) : MS T I' R N :=
  ⟨h.1, h.2.1, h.2.2.1.fr (fun b hb => hf b (by omega)) (congrFun (hf 200 (by omega)) 44) (congrFun (hf 200 (by omega)) 45), h.2.2.2⟩
/-- the next meal of eel e in hour h, of j from m on -/
def nm (N : KI) (e h : Nat) : Nat → Nat → Int32
  | _, 0 => -1
  | m, j + 1 => if N 337 m = nI e ∧ N 338 m = nI h then nI m else nm N e h (m + 1) j
theorem nm_at {N : KI} {e h : Nat} {p : Int32 × Int32} : ∀ {j m : Nat}, (nm N e h m j = -1 ∧ eatP N e h (m + j) p = eatP N e h m p) ∨ ∃ m', m ≤ m' ∧ m' < m + j ∧ nm N e h m j = nI m' ∧ N 337 m' = nI e ∧ N 338 m' = nI h ∧ eatP N e h m' p = eatP N e h m p
  | 0, m => Or.inl ⟨rfl, rfl⟩
  | j + 1, m => by
    by_cases hc : N 337 m = nI e ∧ N 338 m = nI h
    · exact Or.inr ⟨m, Nat.le_refl _, by omega, if_pos hc, hc.1, hc.2, rfl⟩
    · have e1 : nm N e h m (j + 1) = nm N e h (m + 1) j := if_neg hc
      have e2 : eatP N e h (m + 1) p = eatP N e h m p := eatP_n hc
      rcases nm_at (N := N) (e := e) (h := h) (p := p) (j := j) (m := m + 1) with ⟨h1, h2⟩ | ⟨m', h1, h2, h3, h4, h5, h6⟩
      · exact Or.inl ⟨e1.trans h1, by rw [← e2, ← h2]; congr 1; omega⟩
      · exact Or.inr ⟨m', by omega, by omega, e1.trans h3, h4, h5, h6.trans e2⟩
section MO
variable {T : KT} {I : KI} {R : KR} {J : KJ} {N : KI}
theorem c_X5_isIn (v l m : Int32) : MX5_isIn 0 0 [.int v, .int l, .int m] T I R J (qR (some (.int (bI (l ≤ v ∧ v ≤ m)))) T I R J) noX := by
  refine AMet.of (by decide) (Nat.le_of_ble_eq_true rfl) (cats1 rfl) fun cx X E => ?_
  show AW _ _ _ (_ :: _ :: _ :: []) _ _ _ _ _
  refine AW.iload_n X dX5_isIn_0 rfl rfl ?_
  refine AW.iload_n X dX5_isIn_1 rfl rfl ?_
  refine AW.icmp_lt X (tgt := 14) dX5_isIn_2 rfl ?_ ?_
  · intro t2
    rw [bI_f (fun hc => absurd hc.1 (Int32.not_le.mpr t2))] at E
    refine AW.iconst X (v := 0) dX5_isIn_14 rfl ?_
    exact AW.ireturn X E ⟨rfl, rfl, rfl, rfl, rfl⟩ dX5_isIn_15 
  · intro f2
    refine AW.iload_n X dX5_isIn_5 rfl rfl ?_
    refine AW.iload_n X dX5_isIn_6 rfl rfl ?_
    refine AW.icmp_gt X (tgt := 14) dX5_isIn_7 rfl ?_ ?_
    · intro t7
      rw [bI_f (fun hc => absurd hc.2 (Int32.not_le.mpr t7))] at E
      refine AW.iconst X (v := 0) dX5_isIn_14 rfl ?_
      exact AW.ireturn X E ⟨rfl, rfl, rfl, rfl, rfl⟩ dX5_isIn_15 
    · intro f7
      rw [bI_t (show l ≤ v ∧ v ≤ m from ⟨Int32.not_lt.mp f2, Int32.not_lt.mp f7⟩)] at E
      refine AW.iconst X (v := 1) dX5_isIn_10 rfl ?_
      refine AW.goto X (tgt := 15) dX5_isIn_11 rfl ?_
      exact AW.ireturn X E ⟨rfl, rfl, rfl, rfl, rfl⟩ dX5_isIn_15 
theorem c_X5_isHooded {e h : Nat} (hS : MS T I R N) : MX5_isHooded 1 0 [.ref 200, .int (nI e), .int (nI h)] T I R J (qR (some (.int (bI (isHd N e h)))) T I R J) noX := by
  obtain ⟨hT, hR, hV, hN, hM⟩ := hS
  have hnh := hN.1.2.2.2.1
  have hnh6 := hN.1.2.2.2.2.2.2.2
  have v304 := hV.1 304 (by omega) (by omega)
  have v320 := hV.1 320 (by omega) (by omega)
  have v321 := hV.1 321 (by omega) (by omega)
  have v322 := hV.1 322 (by omega) (by omega)
  refine AMet.of (by decide) (Nat.le_of_ble_eq_true rfl) (cats1 rfl) fun cx X E => ?_
  show AW _ _ _ (_ :: _ :: _ :: _ :: []) _ _ _ _ _
  have lp : ∀ j k, k + j = nH N → (∀ i, i < k → ¬ (N 320 i = nI e ∧ N 321 i ≤ nI h ∧ nI h ≤ N 322 i)) → AW cx 0 2 [.ref 200, .int (nI e), .int (nI h), .int (nI k)] [] T I R J := by
    intro j
    induction j with
    | zero =>
      intro k hk hno
      have hf : ¬ isHd N e h := fun ⟨i, hi, hh⟩ => hno i (by omega) hh
      rw [bI_f hf] at E
      refine AW.iload_n X dX5_isHooded_2 rfl rfl ?_
      first | refine AW.aload_n X dX5_isHooded_3 rfl rfl ?_ | refine AW.aloadN_n X dX5_isHooded_3 rfl rfl ?_
      refine AW.getR X f_X5_45_18 (by first | assumption | exact hT _ _ rfl) (by first | assumption | exact hR _ _ _ rfl) dX5_isHooded_4 ?_
      refine AW.iconst X (v := 3) dX5_isHooded_7 rfl ?_
      refine AW.iald X (j := 3) (by first | assumption | exact hT _ _ rfl) (by repeat (first | with_reducible exact rfl | assumption | exact ix_l _ | apply ix_add | apply ix_mul)) (by omega) dX5_isHooded_8 ?_
      rw [v304, hnh]
      refine AW.icmp_ge X (tgt := 49) dX5_isHooded_9 rfl ?_ ?_
      · intro t9
        refine AW.iconst X (v := 0) dX5_isHooded_49 rfl ?_
        exact AW.ireturn X E ⟨rfl, rfl, rfl, rfl, rfl⟩ dX5_isHooded_50 
      · intro f9
        exact absurd (nI_le (by omega) (by omega)) f9
    | succ j ih =>
      intro k hk hno
      have nx : ¬ (N 320 k = nI e ∧ N 321 k ≤ nI h ∧ nI h ≤ N 322 k) → AW cx 0 2 [.ref 200, .int (nI e), .int (nI h), .int (nI k + 1)] [] T I R J := fun hn => by
        rw [nI_1]
        exact ih (k + 1) (by omega) (fun i hi => by
          rcases Nat.lt_or_eq_of_le (Nat.le_of_lt_succ hi) with h | rfl
          · exact hno i h
          · exact hn)
      refine AW.iload_n X dX5_isHooded_2 rfl rfl ?_
      first | refine AW.aload_n X dX5_isHooded_3 rfl rfl ?_ | refine AW.aloadN_n X dX5_isHooded_3 rfl rfl ?_
      refine AW.getR X f_X5_45_18 (by first | assumption | exact hT _ _ rfl) (by first | assumption | exact hR _ _ _ rfl) dX5_isHooded_4 ?_
      refine AW.iconst X (v := 3) dX5_isHooded_7 rfl ?_
      refine AW.iald X (j := 3) (by first | assumption | exact hT _ _ rfl) (by repeat (first | with_reducible exact rfl | assumption | exact ix_l _ | apply ix_add | apply ix_mul)) (by omega) dX5_isHooded_8 ?_
      rw [v304, hnh]
      refine AW.icmp_ge X (tgt := 49) dX5_isHooded_9 rfl ?_ ?_
      · intro t9
        exact absurd t9 (nI_ge (by omega) (by omega))
      · intro f9
        first | refine AW.aload_n X dX5_isHooded_12 rfl rfl ?_ | refine AW.aloadN_n X dX5_isHooded_12 rfl rfl ?_
        refine AW.getR X f_X5_94_18 (by first | assumption | exact hT _ _ rfl) (by first | assumption | exact hR _ _ _ rfl) dX5_isHooded_13 ?_
        refine AW.iload_n X dX5_isHooded_16 rfl rfl ?_
        refine AW.iald X (j := k) (by first | assumption | exact hT _ _ rfl) (by repeat (first | with_reducible exact rfl | assumption | exact ix_l _ | apply ix_add | apply ix_mul)) (by omega) dX5_isHooded_17 ?_
        rw [v320]
        refine AW.iload_n X dX5_isHooded_18 rfl rfl ?_
        refine AW.icmp_ne X (tgt := 43) dX5_isHooded_19 rfl ?_ ?_
        · intro t19
          refine AW.iinc3 X (v := _ + 1) dX5_isHooded_43 rfl ?_
          refine AW.goto X (tgt := 2) dX5_isHooded_46 rfl ?_
          exact nx (by first | exact fun hc => t19 hc.1 | exact fun hc => (bI_z.mp t38) hc.2)
        · intro f19
          refine AW.iload_n X dX5_isHooded_22 rfl rfl ?_
          first | refine AW.aload_n X dX5_isHooded_23 rfl rfl ?_ | refine AW.aloadN_n X dX5_isHooded_23 rfl rfl ?_
          refine AW.getR X f_X5_97_18 (by first | assumption | exact hT _ _ rfl) (by first | assumption | exact hR _ _ _ rfl) dX5_isHooded_24 ?_
          refine AW.iload_n X dX5_isHooded_27 rfl rfl ?_
          refine AW.iald X (j := k) (by first | assumption | exact hT _ _ rfl) (by repeat (first | with_reducible exact rfl | assumption | exact ix_l _ | apply ix_add | apply ix_mul)) (by omega) dX5_isHooded_28 ?_
          rw [v321]
          first | refine AW.aload_n X dX5_isHooded_29 rfl rfl ?_ | refine AW.aloadN_n X dX5_isHooded_29 rfl rfl ?_
          refine AW.getR X f_X5_100_18 (by first | assumption | exact hT _ _ rfl) (by first | assumption | exact hR _ _ _ rfl) dX5_isHooded_30 ?_
          refine AW.iload_n X dX5_isHooded_33 rfl rfl ?_
          refine AW.iald X (j := k) (by first | assumption | exact hT _ _ rfl) (by repeat (first | with_reducible exact rfl | assumption | exact ix_l _ | apply ix_add | apply ix_mul)) (by omega) dX5_isHooded_34 ?_
          rw [v322]
          refine AW.callS_r X (c_X5_isIn (nI h) (N 321 k) (N 322 k)) s_X5_197 (by omega) (Nat.le_of_ble_eq_true rfl) rfl rfl (Nat.le_of_ble_eq_true rfl) dX5_isHooded_35 ?_
          refine AW.if_eq X (tgt := 43) dX5_isHooded_38 rfl ?_ ?_
          · intro t38
            refine AW.iinc3 X (v := _ + 1) dX5_isHooded_43 rfl ?_
            refine AW.goto X (tgt := 2) dX5_isHooded_46 rfl ?_
            exact nx (by first | exact fun hc => t19 hc.1 | exact fun hc => (bI_z.mp t38) hc.2)
          · intro f38
            have h38 : N 321 k ≤ nI h ∧ nI h ≤ N 322 k := Decidable.of_not_not fun z => f38 (bI_z.mpr z)
            rw [bI_t (⟨k, by omega, f19, h38.1, h38.2⟩ : isHd N e h)] at E
            refine AW.iconst X (v := 1) dX5_isHooded_41 rfl ?_
            exact AW.ireturn X E ⟨rfl, rfl, rfl, rfl, rfl⟩ dX5_isHooded_42 
  refine AW.iconst X (v := 0) dX5_isHooded_0 rfl ?_
  refine AW.istore3 X dX5_isHooded_1 ?_
  exact lp (nH N) 0 (by omega) (fun i hi => absurd hi (Nat.not_lt_zero i))
theorem c_X5_glowOf {e h : Nat} (hS : MS T I R N) (he : e < nE N) (hh : h < 24) (hu : I 340 (24 * e + h) = hun N e h) : MX5_glowOf 2 0 [.ref 200, .int (nI e), .int (nI h)] T I R J (qR (some (.int (glo N e h))) T I R J) noX := by
  have hS0 := hS
  obtain ⟨hT, hR, hV, hN, hM⟩ := hS
  have hne := hN.1.2.2.2.2.2.1
  have v309 := hV.1 309 (by omega) (by omega)
  have v312 := hV.1 312 (by omega) (by omega)
  have v318 := hV.1 318 (by omega) (by omega)
  have v45 := hV.2.2.2
  unfold glo glv
  refine AMet.of (by decide) (Nat.le_of_ble_eq_true rfl) (cats1 rfl) fun cx X E => ?_
  show AW _ _ _ (_ :: _ :: _ :: _ :: []) _ _ _ _ _
  first | refine AW.aload_n X dX5_glowOf_0 rfl rfl ?_ | refine AW.aloadN_n X dX5_glowOf_0 rfl rfl ?_
  refine AW.iload_n X dX5_glowOf_1 rfl rfl ?_
  refine AW.iload_n X dX5_glowOf_2 rfl rfl ?_
  refine AW.callV_r X (c_X5_isHooded hS0) (ci := 18) (q := (RX5, TX5, 74)) (by first | assumption | exact hT _ _ rfl) rfl s_X5_349_18 (by omega) (Nat.le_of_ble_eq_true rfl) rfl rfl (Nat.le_of_ble_eq_true rfl) dX5_glowOf_3 ?_
  refine AW.if_ne X (tgt := 29) dX5_glowOf_6 rfl ?_ ?_
  · intro t6
    have hd : isHd N e h := Decidable.of_not_not fun z => t6 (bI_z.mpr z)
    rw [if_pos hd] at E
    refine AW.iconst X (v := 0) dX5_glowOf_29 rfl ?_
    exact AW.ireturn X E ⟨rfl, rfl, rfl, rfl, rfl⟩ dX5_glowOf_30 
  · intro f6
    rw [if_neg (bI_z.mp f6)] at E
    first | refine AW.aload_n X dX5_glowOf_9 rfl rfl ?_ | refine AW.aloadN_n X dX5_glowOf_9 rfl rfl ?_
    refine AW.getR X f_X5_61_18 (by first | assumption | exact hT _ _ rfl) (by first | assumption | exact hR _ _ _ rfl) dX5_glowOf_10 ?_
    refine AW.iload_n X dX5_glowOf_13 rfl rfl ?_
    refine AW.iald X (j := e) (by first | assumption | exact hT _ _ rfl) (by repeat (first | with_reducible exact rfl | assumption | exact ix_l _ | apply ix_add | apply ix_mul)) (by omega) dX5_glowOf_14 ?_
    rw [v309]
    refine AW.iconst X (v := 3) dX5_glowOf_15 rfl ?_
    refine AW.icmp_ne X (tgt := 31) dX5_glowOf_16 rfl ?_ ?_
    · intro t16
      rw [if_neg (fun z => t16 z.1)] at E
      first | refine AW.aload_n X dX5_glowOf_31 rfl rfl ?_ | refine AW.aloadN_n X dX5_glowOf_31 rfl rfl ?_
      refine AW.getR X f_X5_122_18 (by first | assumption | exact hT _ _ rfl) (by first | assumption | exact hR _ _ _ rfl) dX5_glowOf_32 ?_
      refine AW.bipush X (v := 24) dX5_glowOf_35 rfl ?_
      refine AW.iload_n X dX5_glowOf_37 rfl rfl ?_
      refine AW.imul X dX5_glowOf_38 ?_
      refine AW.iload_n X dX5_glowOf_39 rfl rfl ?_
      refine AW.iadd X dX5_glowOf_40 ?_
      refine AW.iald X (j := 24 * e + h) (by first | assumption | exact hT _ _ rfl) (by repeat (first | with_reducible exact rfl | assumption | exact ix_l _ | apply ix_add | apply ix_mul)) (by omega) dX5_glowOf_41 ?_
      rw [hu]
      refine AW.istore3 X dX5_glowOf_42 ?_
      refine AW.iconst X (v := 0) dX5_glowOf_43 rfl ?_
      first | refine AW.aload_n X dX5_glowOf_44 rfl rfl ?_ | refine AW.aloadN_n X dX5_glowOf_44 rfl rfl ?_
      refine AW.getR X f_X5_70_18 (by first | assumption | exact hT _ _ rfl) (by first | assumption | exact hR _ _ _ rfl) dX5_glowOf_45 ?_
      refine AW.iload_n X dX5_glowOf_48 rfl rfl ?_
      refine AW.iald X (j := e) (by first | assumption | exact hT _ _ rfl) (by repeat (first | with_reducible exact rfl | assumption | exact ix_l _ | apply ix_add | apply ix_mul)) (by omega) dX5_glowOf_49 ?_
      rw [v312]
      first | refine AW.aload_n X dX5_glowOf_50 rfl rfl ?_ | refine AW.aloadN_n X dX5_glowOf_50 rfl rfl ?_
      refine AW.getR X f_X5_61_18 (by first | assumption | exact hT _ _ rfl) (by first | assumption | exact hR _ _ _ rfl) dX5_glowOf_51 ?_
      refine AW.iload_n X dX5_glowOf_54 rfl rfl ?_
      refine AW.iald X (j := e) (by first | assumption | exact hT _ _ rfl) (by repeat (first | with_reducible exact rfl | assumption | exact ix_l _ | apply ix_add | apply ix_mul)) (by omega) dX5_glowOf_55 ?_
      rw [v309]
      refine AW.iconst X (v := 2) dX5_glowOf_56 rfl ?_
      refine AW.icmp_ne X (tgt := 66) dX5_glowOf_57 rfl ?_ ?_
      · intro t57
        rw [if_neg t57] at E
        refine AW.iload_n X dX5_glowOf_66 rfl rfl ?_
        refine AW.isub X dX5_glowOf_67 ?_
        first | refine AW.aload_n X dX5_glowOf_68 rfl rfl ?_ | refine AW.aloadN_n X dX5_glowOf_68 rfl rfl ?_
        refine AW.getI X f_X5_340_18 (by first | assumption | exact hT _ _ rfl) dX5_glowOf_69 ?_
        rw [v45]
        refine AW.isub X dX5_glowOf_72 ?_
        refine AW.mmax X q2019 (by omega) (Nat.le_of_ble_eq_true rfl) dX5_glowOf_73 ?_
        exact AW.ireturn X E ⟨rfl, rfl, rfl, rfl, rfl⟩ dX5_glowOf_76 
      · intro f57
        rw [if_pos f57] at E
        refine AW.iload_n X dX5_glowOf_60 rfl rfl ?_
        refine AW.iconst X (v := 2) dX5_glowOf_61 rfl ?_
        refine AW.idiv X dX5_glowOf_62 (by decide) ?_
        refine AW.goto X (tgt := 67) dX5_glowOf_63 rfl ?_
        refine AW.isub X dX5_glowOf_67 ?_
        first | refine AW.aload_n X dX5_glowOf_68 rfl rfl ?_ | refine AW.aloadN_n X dX5_glowOf_68 rfl rfl ?_
        refine AW.getI X f_X5_340_18 (by first | assumption | exact hT _ _ rfl) dX5_glowOf_69 ?_
        rw [v45]
        refine AW.isub X dX5_glowOf_72 ?_
        refine AW.mmax X q2019 (by omega) (Nat.le_of_ble_eq_true rfl) dX5_glowOf_73 ?_
        exact AW.ireturn X E ⟨rfl, rfl, rfl, rfl, rfl⟩ dX5_glowOf_76 
    · intro f16
      first | refine AW.aload_n X dX5_glowOf_19 rfl rfl ?_ | refine AW.aloadN_n X dX5_glowOf_19 rfl rfl ?_
      refine AW.getR X f_X5_88_18 (by first | assumption | exact hT _ _ rfl) (by first | assumption | exact hR _ _ _ rfl) dX5_glowOf_20 ?_
      refine AW.iload_n X dX5_glowOf_23 rfl rfl ?_
      refine AW.iald X (j := h) (by first | assumption | exact hT _ _ rfl) (by repeat (first | with_reducible exact rfl | assumption | exact ix_l _ | apply ix_add | apply ix_mul)) (by omega) dX5_glowOf_24 ?_
      rw [v318]
      refine AW.iconst X (v := 5) dX5_glowOf_25 rfl ?_
      refine AW.icmp_lt X (tgt := 31) dX5_glowOf_26 rfl ?_ ?_
      · intro t26
        rw [if_neg (fun z => absurd z.2 (Int32.not_le.mpr t26))] at E
        first | refine AW.aload_n X dX5_glowOf_31 rfl rfl ?_ | refine AW.aloadN_n X dX5_glowOf_31 rfl rfl ?_
        refine AW.getR X f_X5_122_18 (by first | assumption | exact hT _ _ rfl) (by first | assumption | exact hR _ _ _ rfl) dX5_glowOf_32 ?_
        refine AW.bipush X (v := 24) dX5_glowOf_35 rfl ?_
        refine AW.iload_n X dX5_glowOf_37 rfl rfl ?_
        refine AW.imul X dX5_glowOf_38 ?_
        refine AW.iload_n X dX5_glowOf_39 rfl rfl ?_
        refine AW.iadd X dX5_glowOf_40 ?_
        refine AW.iald X (j := 24 * e + h) (by first | assumption | exact hT _ _ rfl) (by repeat (first | with_reducible exact rfl | assumption | exact ix_l _ | apply ix_add | apply ix_mul)) (by omega) dX5_glowOf_41 ?_
        rw [hu]
        refine AW.istore3 X dX5_glowOf_42 ?_
        refine AW.iconst X (v := 0) dX5_glowOf_43 rfl ?_
        first | refine AW.aload_n X dX5_glowOf_44 rfl rfl ?_ | refine AW.aloadN_n X dX5_glowOf_44 rfl rfl ?_
        refine AW.getR X f_X5_70_18 (by first | assumption | exact hT _ _ rfl) (by first | assumption | exact hR _ _ _ rfl) dX5_glowOf_45 ?_
        refine AW.iload_n X dX5_glowOf_48 rfl rfl ?_
        refine AW.iald X (j := e) (by first | assumption | exact hT _ _ rfl) (by repeat (first | with_reducible exact rfl | assumption | exact ix_l _ | apply ix_add | apply ix_mul)) (by omega) dX5_glowOf_49 ?_
        rw [v312]
        first | refine AW.aload_n X dX5_glowOf_50 rfl rfl ?_ | refine AW.aloadN_n X dX5_glowOf_50 rfl rfl ?_
        refine AW.getR X f_X5_61_18 (by first | assumption | exact hT _ _ rfl) (by first | assumption | exact hR _ _ _ rfl) dX5_glowOf_51 ?_
        refine AW.iload_n X dX5_glowOf_54 rfl rfl ?_
        refine AW.iald X (j := e) (by first | assumption | exact hT _ _ rfl) (by repeat (first | with_reducible exact rfl | assumption | exact ix_l _ | apply ix_add | apply ix_mul)) (by omega) dX5_glowOf_55 ?_
        rw [v309]
        refine AW.iconst X (v := 2) dX5_glowOf_56 rfl ?_
        refine AW.icmp_ne X (tgt := 66) dX5_glowOf_57 rfl ?_ ?_
        · intro t57
          rw [if_neg t57] at E
          refine AW.iload_n X dX5_glowOf_66 rfl rfl ?_
          refine AW.isub X dX5_glowOf_67 ?_
          first | refine AW.aload_n X dX5_glowOf_68 rfl rfl ?_ | refine AW.aloadN_n X dX5_glowOf_68 rfl rfl ?_
          refine AW.getI X f_X5_340_18 (by first | assumption | exact hT _ _ rfl) dX5_glowOf_69 ?_
          rw [v45]
          refine AW.isub X dX5_glowOf_72 ?_
          refine AW.mmax X q2019 (by omega) (Nat.le_of_ble_eq_true rfl) dX5_glowOf_73 ?_
          exact AW.ireturn X E ⟨rfl, rfl, rfl, rfl, rfl⟩ dX5_glowOf_76 
        · intro f57
          rw [if_pos f57] at E
          refine AW.iload_n X dX5_glowOf_60 rfl rfl ?_
          refine AW.iconst X (v := 2) dX5_glowOf_61 rfl ?_
          refine AW.idiv X dX5_glowOf_62 (by decide) ?_
          refine AW.goto X (tgt := 67) dX5_glowOf_63 rfl ?_
          refine AW.isub X dX5_glowOf_67 ?_
          first | refine AW.aload_n X dX5_glowOf_68 rfl rfl ?_ | refine AW.aloadN_n X dX5_glowOf_68 rfl rfl ?_
          refine AW.getI X f_X5_340_18 (by first | assumption | exact hT _ _ rfl) dX5_glowOf_69 ?_
          rw [v45]
          refine AW.isub X dX5_glowOf_72 ?_
          refine AW.mmax X q2019 (by omega) (Nat.le_of_ble_eq_true rfl) dX5_glowOf_73 ?_
          exact AW.ireturn X E ⟨rfl, rfl, rfl, rfl, rfl⟩ dX5_glowOf_76 
      · intro f26
        rw [if_pos ⟨f16, Int32.not_lt.mp f26⟩] at E
        refine AW.iconst X (v := 0) dX5_glowOf_29 rfl ?_
        exact AW.ireturn X E ⟨rfl, rfl, rfl, rfl, rfl⟩ dX5_glowOf_30 
theorem c_X5_shineAt {q h : Nat} {G : Nat → Int32} (hS : MS T I R N) (hq : q < nQ N) (hh : h < 24) (hG : ∀ e, e < nE N → I 341 (24 * e + h) = G (24 * e + h)) : MX5_shineAt 0 0 [.ref 200, .int (nI q), .int (nI h)] T I R J (qR (some (.int (rw_ N G q h))) T I R J) noX := by
  obtain ⟨hT, hR, hV, hN, hM⟩ := hS
  have hne := hN.1.2.2.2.2.2.1
  have hnq := hN.1.2.2.2.2.1
  have hnE := hN.1.2.1
  have v304 := hV.1 304 (by omega) (by omega)
  have v307 := hV.1 307 (by omega) (by omega)
  have v311 := hV.1 311 (by omega) (by omega)
  refine AMet.of (by decide) (Nat.le_of_ble_eq_true rfl) (cats1 rfl) fun cx X E => ?_
  show AW _ _ _ (_ :: _ :: _ :: _ :: _ :: []) _ _ _ _ _
  have lp : ∀ j e, e + j = nE N → AW cx 0 5 [.ref 200, .int (nI q), .int (nI h), .int (sumG N G q h e), .int (nI e)] [] T I R J := by
    intro j
    induction j with
    | zero =>
      intro e hj
      obtain rfl : e = nE N := by omega
      refine AW.iload X dX5_shineAt_5 rfl ?_
      first | refine AW.aload_n X dX5_shineAt_7 rfl rfl ?_ | refine AW.aloadN_n X dX5_shineAt_7 rfl rfl ?_
      refine AW.getR X f_X5_45_18 (by first | assumption | exact hT _ _ rfl) (by first | assumption | exact hR _ _ _ rfl) dX5_shineAt_8 ?_
      refine AW.iconst X (v := 1) dX5_shineAt_11 rfl ?_
      refine AW.iald X (j := 1) (by first | assumption | exact hT _ _ rfl) (by repeat (first | with_reducible exact rfl | assumption | exact ix_l _ | apply ix_add | apply ix_mul)) (by omega) dX5_shineAt_12 ?_
      rw [v304, hnE]
      refine AW.icmp_ge X (tgt := 52) dX5_shineAt_13 rfl ?_ ?_
      · intro t13
        refine AW.iload_n X dX5_shineAt_52 rfl rfl ?_
        refine AW.bipush X (v := 100) dX5_shineAt_53 rfl ?_
        first | refine AW.aload_n X dX5_shineAt_55 rfl rfl ?_ | refine AW.aloadN_n X dX5_shineAt_55 rfl rfl ?_
        refine AW.getR X f_X5_55_18 (by first | assumption | exact hT _ _ rfl) (by first | assumption | exact hR _ _ _ rfl) dX5_shineAt_56 ?_
        refine AW.iload_n X dX5_shineAt_59 rfl rfl ?_
        refine AW.iald X (j := q) (by first | assumption | exact hT _ _ rfl) (by repeat (first | with_reducible exact rfl | assumption | exact ix_l _ | apply ix_add | apply ix_mul)) (by omega) dX5_shineAt_60 ?_
        rw [v307]
        refine AW.isub X dX5_shineAt_61 ?_
        refine AW.imul X dX5_shineAt_62 ?_
        refine AW.bipush X (v := 100) dX5_shineAt_63 rfl ?_
        refine AW.idiv X dX5_shineAt_65 (by decide) ?_
        exact AW.ireturn X E ⟨rfl, rfl, rfl, rfl, rfl⟩ dX5_shineAt_66 
      · intro f13
        exact absurd (Int32.le_refl _) f13
    | succ j ih2 =>
      intro e hj
      have hE := ih2 (e + 1) (by omega)
      unfold sumG at hE
      refine AW.iload X dX5_shineAt_5 rfl ?_
      first | refine AW.aload_n X dX5_shineAt_7 rfl rfl ?_ | refine AW.aloadN_n X dX5_shineAt_7 rfl rfl ?_
      refine AW.getR X f_X5_45_18 (by first | assumption | exact hT _ _ rfl) (by first | assumption | exact hR _ _ _ rfl) dX5_shineAt_8 ?_
      refine AW.iconst X (v := 1) dX5_shineAt_11 rfl ?_
      refine AW.iald X (j := 1) (by first | assumption | exact hT _ _ rfl) (by repeat (first | with_reducible exact rfl | assumption | exact ix_l _ | apply ix_add | apply ix_mul)) (by omega) dX5_shineAt_12 ?_
      rw [v304, hnE]
      refine AW.icmp_ge X (tgt := 52) dX5_shineAt_13 rfl ?_ ?_
      · intro t13
        exact absurd t13 (nI_ge (by omega) (by omega))
      · intro f13
        refine AW.iload_n X dX5_shineAt_16 rfl rfl ?_
        first | refine AW.aload_n X dX5_shineAt_17 rfl rfl ?_ | refine AW.aloadN_n X dX5_shineAt_17 rfl rfl ?_
        refine AW.getR X f_X5_67_18 (by first | assumption | exact hT _ _ rfl) (by first | assumption | exact hR _ _ _ rfl) dX5_shineAt_18 ?_
        refine AW.iload X dX5_shineAt_21 rfl ?_
        refine AW.iald X (j := e) (by first | assumption | exact hT _ _ rfl) (by repeat (first | with_reducible exact rfl | assumption | exact ix_l _ | apply ix_add | apply ix_mul)) (by omega) dX5_shineAt_23 ?_
        rw [v311]
        refine AW.iload_n X dX5_shineAt_24 rfl rfl ?_
        refine AW.icmp_ne X (tgt := 43) dX5_shineAt_25 rfl ?_ ?_
        · intro t25
          rw [if_neg t25] at hE
          refine AW.iconst X (v := 0) dX5_shineAt_43 rfl ?_
          refine AW.iadd X dX5_shineAt_44 ?_
          refine AW.istore3 X dX5_shineAt_45 ?_
          refine AW.iinc4 X (v := _ + 1) dX5_shineAt_46 rfl ?_
          refine AW.goto X (tgt := 5) dX5_shineAt_49 rfl ?_
          rw [nI_1]; first | exact hE | (rw [Int32.add_zero]; exact hE)
        · intro f25
          rw [if_pos f25] at hE
          first | refine AW.aload_n X dX5_shineAt_28 rfl rfl ?_ | refine AW.aloadN_n X dX5_shineAt_28 rfl rfl ?_
          refine AW.getR X f_X5_125_18 (by first | assumption | exact hT _ _ rfl) (by first | assumption | exact hR _ _ _ rfl) dX5_shineAt_29 ?_
          refine AW.bipush X (v := 24) dX5_shineAt_32 rfl ?_
          refine AW.iload X dX5_shineAt_34 rfl ?_
          refine AW.imul X dX5_shineAt_36 ?_
          refine AW.iload_n X dX5_shineAt_37 rfl rfl ?_
          refine AW.iadd X dX5_shineAt_38 ?_
          refine AW.iald X (j := 24 * e + h) (by first | assumption | exact hT _ _ rfl) (by repeat (first | with_reducible exact rfl | assumption | exact ix_l _ | apply ix_add | apply ix_mul)) (by omega) dX5_shineAt_39 ?_
          rw [hG e (by omega)]
          refine AW.goto X (tgt := 44) dX5_shineAt_40 rfl ?_
          refine AW.iadd X dX5_shineAt_44 ?_
          refine AW.istore3 X dX5_shineAt_45 ?_
          refine AW.iinc4 X (v := _ + 1) dX5_shineAt_46 rfl ?_
          refine AW.goto X (tgt := 5) dX5_shineAt_49 rfl ?_
          rw [nI_1]; first | exact hE | (rw [Int32.add_zero]; exact hE)
  refine AW.iconst X (v := 0) dX5_shineAt_0 rfl ?_
  refine AW.istore3 X dX5_shineAt_1 ?_
  refine AW.iconst X (v := 0) dX5_shineAt_2 rfl ?_
  refine AW.istore4 X dX5_shineAt_3 ?_
  exact lp (nE N) 0 (by omega)
theorem c_X5_lightOf {q h : Nat} {G : Nat → Int32} (hS : MS T I R N) (hq : q < nQ N) (hh : h < 24) (hG : ∀ e h', e < nE N → h' < 24 → I 341 (24 * e + h') = G (24 * e + h')) : MX5_lightOf 1 0 [.ref 200, .int (nI q), .int (nI h)] T I R J (qR (some (.int (lig N G q h))) T I R J) noX := by
  have hS0 := hS
  obtain ⟨hT, hR, hV, hN, hM⟩ := hS
  have hnq := hN.1.2.2.2.2.1
  have v305 := hV.1 305 (by omega) (by omega)
  unfold lig
  refine AMet.of (by decide) (Nat.le_of_ble_eq_true rfl) (cats1 rfl) fun cx X E => ?_
  show AW _ _ _ (_ :: _ :: _ :: []) _ _ _ _ _
  first | refine AW.aload_n X dX5_lightOf_0 rfl rfl ?_ | refine AW.aloadN_n X dX5_lightOf_0 rfl rfl ?_
  refine AW.getR X f_X5_49_18 (by first | assumption | exact hT _ _ rfl) (by first | assumption | exact hR _ _ _ rfl) dX5_lightOf_1 ?_
  refine AW.iload_n X dX5_lightOf_4 rfl rfl ?_
  refine AW.iald X (j := q) (by first | assumption | exact hT _ _ rfl) (by repeat (first | with_reducible exact rfl | assumption | exact ix_l _ | apply ix_add | apply ix_mul)) (by omega) dX5_lightOf_5 ?_
  rw [v305]
  refine AW.iconst X (v := 1) dX5_lightOf_6 rfl ?_
  refine AW.icmp_eq X (tgt := 19) dX5_lightOf_7 rfl ?_ ?_
  · intro t7
    rw [if_pos t7] at E
    refine AW.iload_n X dX5_lightOf_19 rfl rfl ?_
    refine AW.if_ne X (tgt := 27) dX5_lightOf_20 rfl ?_ ?_
    · intro t20
      have h0 : ¬ h = 0 := fun z => t20 (by rw [z]; rfl)
      rw [if_neg h0] at E
      first | refine AW.aload_n X dX5_lightOf_27 rfl rfl ?_ | refine AW.aloadN_n X dX5_lightOf_27 rfl rfl ?_
      refine AW.iload_n X dX5_lightOf_28 rfl rfl ?_
      refine AW.iload_n X dX5_lightOf_29 rfl rfl ?_
      refine AW.iconst X (v := 1) dX5_lightOf_30 rfl ?_
      refine AW.isub X dX5_lightOf_31 ?_
      rw [show nI h - 1 = nI (h - 1) from nI_sub (c := 1) (by omega)]
      refine AW.callV_r X (c_X5_shineAt hS0 hq (show h - 1 < 24 by omega) (fun e he => hG e (h - 1) he (by omega))) (ci := 18) (q := (RX5, TX5, 74)) (by first | assumption | exact hT _ _ rfl) rfl s_X5_361_18 (by omega) (Nat.le_of_ble_eq_true rfl) rfl rfl (Nat.le_of_ble_eq_true rfl) dX5_lightOf_32 ?_
      exact AW.ireturn X E ⟨rfl, rfl, rfl, rfl, rfl⟩ dX5_lightOf_35 
    · intro f20
      rw [if_pos ((nI_eq (b := 0) (by omega) (by omega)).mp f20)] at E
      refine AW.iconst X (v := 0) dX5_lightOf_23 rfl ?_
      refine AW.goto X (tgt := 35) dX5_lightOf_24 rfl ?_
      exact AW.ireturn X E ⟨rfl, rfl, rfl, rfl, rfl⟩ dX5_lightOf_35 
  · intro f7
    rw [if_neg f7] at E
    first | refine AW.aload_n X dX5_lightOf_10 rfl rfl ?_ | refine AW.aloadN_n X dX5_lightOf_10 rfl rfl ?_
    refine AW.iload_n X dX5_lightOf_11 rfl rfl ?_
    refine AW.iload_n X dX5_lightOf_12 rfl rfl ?_
    refine AW.callV_r X (c_X5_shineAt hS0 hq hh (fun e he => hG e h he hh)) (ci := 18) (q := (RX5, TX5, 74)) (by first | assumption | exact hT _ _ rfl) rfl s_X5_361_18 (by omega) (Nat.le_of_ble_eq_true rfl) rfl rfl (Nat.le_of_ble_eq_true rfl) dX5_lightOf_13 ?_
    refine AW.goto X (tgt := 35) dX5_lightOf_16 rfl ?_
    exact AW.ireturn X E ⟨rfl, rfl, rfl, rfl, rfl⟩ dX5_lightOf_35 
/-- the lists of meals of eel e, of those from m on -/
def MLs (N : KI) (e m : Nat) (I : KI) : Prop := (∀ h, h < 24 → I 347 h = nm N e h m (nM N - m)) ∧ ∀ k, m ≤ k → k < nM N → N 337 k = nI e → I 348 k = nm N e (nat N 338 k) (k + 1) (nM N - (k + 1))
theorem c_X5_tellMeals {e : Nat} (hS : MS T I R N) (he : e < nE N) : MX5_tellMeals 0 0 [.ref 200, .int (nI e)] T I R J (qI (fun r I' => r = none ∧ (∀ a, a ≠ 347 → a ≠ 348 → I' a = I a) ∧ MLs N e 0 I') T R J) noX := by
  obtain ⟨hT, hR, hV, hN, hM⟩ := hS
  have hne := hN.1.2.2.2.2.2.1
  have hm26 := hM.2.1
  obtain ⟨-, vm, v44, v45⟩ := hV
  refine AMet.of (by decide) (Nat.le_of_ble_eq_true rfl) (cats1 rfl) fun cx X E => ?_
  show AW _ _ _ (_ :: _ :: _ :: []) _ _ _ _ _
  have l2' : ∀ m (I' : KI), m ≤ nM N → (∀ a, a ≠ 347 → a ≠ 348 → I' a = I a) → MLs N e m I' → AW cx 0 28 [.ref 200, .int (nI e), .int (nI m - 1)] [] T I' R J := by
    intro m
    induction m with
    | zero =>
      intro I' hm hf hl
      refine AW.iload_n X dX5_tellMeals_28 rfl rfl ?_
      refine AW.if_lt X (tgt := 80) dX5_tellMeals_29 rfl ?_ ?_
      · intro t29
        refine AW.vreturn X E ?_ dX5_tellMeals_80
        exact ⟨rfl, rfl, rfl, rfl, hf, hl⟩
      · intro f29
        exact absurd (by decide) f29
    | succ m ih =>
      intro I' hm hf hl
      obtain ⟨m1, m2, m3, m4, m5⟩ := hM.2.2.2.2 m (by omega)
      have w337 : I' 337 m = N 337 m := (congrFun (hf 337 (by omega) (by omega)) m).trans (vm m (by omega)).1
      have w338 : I' 338 m = N 338 m := (congrFun (hf 338 (by omega) (by omega)) m).trans (vm m (by omega)).2.1
      have stp1 : ∀ h, nm N e h m (nM N - m) = if N 337 m = nI e ∧ N 338 m = nI h then nI m else nm N e h (m + 1) (nM N - (m + 1)) := fun h => by
        rw [show nM N - m = nM N - (m + 1) + 1 by omega]; rfl
      rw [show nI (m + 1) - 1 = nI m from nI_pred m]
      have bk : ∀ I2, (∀ a, a ≠ 347 → a ≠ 348 → I2 a = I a) → MLs N e m I2 → AW cx 0 28 [.ref 200, .int (nI e), .int (nI m + -1)] [] T I2 R J := fun I2 h1 h2 => by
        rw [← Int32.sub_eq_add_neg]; exact ih I2 (by omega) h1 h2
      refine AW.iload_n X dX5_tellMeals_28 rfl rfl ?_
      refine AW.if_lt X (tgt := 80) dX5_tellMeals_29 rfl ?_ ?_
      · intro t29
        exact absurd t29 (nI_pos (by omega))
      · intro f29
        first | refine AW.aload_n X dX5_tellMeals_32 rfl rfl ?_ | refine AW.aloadN_n X dX5_tellMeals_32 rfl rfl ?_
        refine AW.getR X f_X5_113_18 (by first | assumption | exact hT _ _ rfl) (by first | assumption | exact hR _ _ _ rfl) dX5_tellMeals_33 ?_
        refine AW.iload_n X dX5_tellMeals_36 rfl rfl ?_
        refine AW.iald X (j := m) (by first | assumption | exact hT _ _ rfl) (by repeat (first | with_reducible exact rfl | assumption | exact ix_l _ | apply ix_add | apply ix_mul)) (by omega) dX5_tellMeals_37 ?_
        rw [w337]
        refine AW.iload_n X dX5_tellMeals_38 rfl rfl ?_
        refine AW.icmp_eq X (tgt := 45) dX5_tellMeals_39 rfl ?_ ?_
        · intro t39
          first | refine AW.aload_n X dX5_tellMeals_45 rfl rfl ?_ | refine AW.aloadN_n X dX5_tellMeals_45 rfl rfl ?_
          refine AW.getR X f_X5_137_18 (by first | assumption | exact hT _ _ rfl) (by first | assumption | exact hR _ _ _ rfl) dX5_tellMeals_46 ?_
          refine AW.iload_n X dX5_tellMeals_49 rfl rfl ?_
          first | refine AW.aload_n X dX5_tellMeals_50 rfl rfl ?_ | refine AW.aloadN_n X dX5_tellMeals_50 rfl rfl ?_
          refine AW.getR X f_X5_134_18 (by first | assumption | exact hT _ _ rfl) (by first | assumption | exact hR _ _ _ rfl) dX5_tellMeals_51 ?_
          first | refine AW.aload_n X dX5_tellMeals_54 rfl rfl ?_ | refine AW.aloadN_n X dX5_tellMeals_54 rfl rfl ?_
          refine AW.getR X f_X5_116_18 (by first | assumption | exact hT _ _ rfl) (by first | assumption | exact hR _ _ _ rfl) dX5_tellMeals_55 ?_
          refine AW.iload_n X dX5_tellMeals_58 rfl rfl ?_
          refine AW.iald X (j := m) (by first | assumption | exact hT _ _ rfl) (by repeat (first | with_reducible exact rfl | assumption | exact ix_l _ | apply ix_add | apply ix_mul)) (by omega) dX5_tellMeals_59 ?_
          rw [w338]
          refine AW.iald X (j := nat N 338 m) (by first | assumption | exact hT _ _ rfl) m3 (by omega) dX5_tellMeals_60 ?_
          refine AW.iast X (j := m) (by omega) (by first | assumption | exact hT _ _ rfl) (by repeat (first | with_reducible exact rfl | assumption | exact ix_l _ | apply ix_add | apply ix_mul)) (by omega) dX5_tellMeals_61 ?_
          first | refine AW.aload_n X dX5_tellMeals_62 rfl rfl ?_ | refine AW.aloadN_n X dX5_tellMeals_62 rfl rfl ?_
          refine AW.getR X f_X5_134_18 (by first | assumption | exact hT _ _ rfl) (by first | assumption | exact hR _ _ _ rfl) dX5_tellMeals_63 ?_
          first | refine AW.aload_n X dX5_tellMeals_66 rfl rfl ?_ | refine AW.aloadN_n X dX5_tellMeals_66 rfl rfl ?_
          refine AW.getR X f_X5_116_18 (by first | assumption | exact hT _ _ rfl) (by first | assumption | exact hR _ _ _ rfl) dX5_tellMeals_67 ?_
          refine AW.iload_n X dX5_tellMeals_70 rfl rfl ?_
          refine AW.iald X (j := m) (by first | assumption | exact hT _ _ rfl) (by repeat (first | with_reducible exact rfl | assumption | exact ix_l _ | apply ix_add | apply ix_mul)) (by omega) dX5_tellMeals_71 ?_
          rw [w2_r (by decide), w338]
          refine AW.iload_n X dX5_tellMeals_72 rfl rfl ?_
          refine AW.iast X (j := nat N 338 m) (by omega) (by first | assumption | exact hT _ _ rfl) m3 (by omega) dX5_tellMeals_73 ?_
          refine AW.iinc2 X (v := _ + -1) dX5_tellMeals_74 rfl ?_
          refine AW.goto X (tgt := 28) dX5_tellMeals_77 rfl ?_
          first
            | (refine bk I' hf ⟨fun h hh => ?_, fun k hk hk2 hke => ?_⟩
               · rw [stp1, if_neg (fun z => f39 z.1)]; exact hl.1 h hh
               · by_cases hkm : k = m
                 · subst hkm; exact absurd hke f39
                 · exact hl.2 k (by omega) hk2 hke)
            | (refine bk _ (fun a a1 a2 => by rw [w2_r a1, w2_r a2]; exact hf a a1 a2) ⟨fun h hh => ?_, fun k hk hk2 hke => ?_⟩
               · rw [stp1]
                 by_cases hx : h = nat N 338 m
                 · rw [hx, w2_s, if_pos ⟨t39, m3⟩]
                 · rw [w2_n2 hx, w2_r (by decide), if_neg (fun z => hx (by have := z.2; rw [m3] at this; exact ((nI_eq (by omega) (by omega)).mp this).symm))]
                   exact hl.1 h hh
               · rw [w2_n1 (by decide)]
                 by_cases hkm : k = m
                 · subst hkm; rw [w2_s]; exact hl.1 _ m4
                 · rw [w2_n2 hkm]; exact hl.2 k (by omega) hk2 hke)
        · intro f39
          refine AW.goto X (tgt := 74) dX5_tellMeals_42 rfl ?_
          refine AW.iinc2 X (v := _ + -1) dX5_tellMeals_74 rfl ?_
          refine AW.goto X (tgt := 28) dX5_tellMeals_77 rfl ?_
          first
            | (refine bk I' hf ⟨fun h hh => ?_, fun k hk hk2 hke => ?_⟩
               · rw [stp1, if_neg (fun z => f39 z.1)]; exact hl.1 h hh
               · by_cases hkm : k = m
                 · subst hkm; exact absurd hke f39
                 · exact hl.2 k (by omega) hk2 hke)
            | (refine bk _ (fun a a1 a2 => by rw [w2_r a1, w2_r a2]; exact hf a a1 a2) ⟨fun h hh => ?_, fun k hk hk2 hke => ?_⟩
               · rw [stp1]
                 by_cases hx : h = nat N 338 m
                 · rw [hx, w2_s, if_pos ⟨t39, m3⟩]
                 · rw [w2_n2 hx, w2_r (by decide), if_neg (fun z => hx (by have := z.2; rw [m3] at this; exact ((nI_eq (by omega) (by omega)).mp this).symm))]
                   exact hl.1 h hh
               · rw [w2_n1 (by decide)]
                 by_cases hkm : k = m
                 · subst hkm; rw [w2_s]; exact hl.1 _ m4
                 · rw [w2_n2 hkm]; exact hl.2 k (by omega) hk2 hke)
  have l1' : ∀ j h (I' : KI), h + j = 24 → (∀ a, a ≠ 347 → a ≠ 348 → I' a = I a) → (∀ h', h' < h → I' 347 h' = -1) → AW cx 0 2 [.ref 200, .int (nI e), .int (nI h)] [] T I' R J := by
    intro j
    induction j with
    | zero =>
      intro h I' hj hf hl
      obtain rfl : h = 24 := by omega
      refine AW.iload_n X dX5_tellMeals_2 rfl rfl ?_
      refine AW.bipush X (v := 24) dX5_tellMeals_3 rfl ?_
      refine AW.icmp_ge X (tgt := 21) dX5_tellMeals_5 rfl ?_ ?_
      · intro t5
        first | refine AW.aload_n X dX5_tellMeals_21 rfl rfl ?_ | refine AW.aloadN_n X dX5_tellMeals_21 rfl rfl ?_
        refine AW.getI X f_X5_337_18 (by first | assumption | exact hT _ _ rfl) dX5_tellMeals_22 ?_
        rw [hf 200 (by decide) (by decide), v44, hM.1]
        refine AW.iconst X (v := 1) dX5_tellMeals_25 rfl ?_
        refine AW.isub X dX5_tellMeals_26 ?_
        refine AW.istore2 X dX5_tellMeals_27 ?_
        refine l2' (nM N) I' (Nat.le_refl _) hf ⟨fun h hh => ?_, fun k hk hk2 _ => absurd hk2 (by omega)⟩
        rw [hl h hh, Nat.sub_self]; rfl
      · intro f5
        exact absurd (by decide) f5
    | succ j ih =>
      intro h I' hj hf hl
      refine AW.iload_n X dX5_tellMeals_2 rfl rfl ?_
      refine AW.bipush X (v := 24) dX5_tellMeals_3 rfl ?_
      refine AW.icmp_ge X (tgt := 21) dX5_tellMeals_5 rfl ?_ ?_
      · intro t5
        exact absurd t5 (nI_ge (a := h) (b := 24) (by omega) (by omega))
      · intro f5
        first | refine AW.aload_n X dX5_tellMeals_8 rfl rfl ?_ | refine AW.aloadN_n X dX5_tellMeals_8 rfl rfl ?_
        refine AW.getR X f_X5_134_18 (by first | assumption | exact hT _ _ rfl) (by first | assumption | exact hR _ _ _ rfl) dX5_tellMeals_9 ?_
        refine AW.iload_n X dX5_tellMeals_12 rfl rfl ?_
        refine AW.iconst X (v := -1) dX5_tellMeals_13 rfl ?_
        refine AW.iast X (j := h) (by omega) (by first | assumption | exact hT _ _ rfl) (by repeat (first | with_reducible exact rfl | assumption | exact ix_l _ | apply ix_add | apply ix_mul)) (by omega) dX5_tellMeals_14 ?_
        refine AW.iinc2 X (v := _ + 1) dX5_tellMeals_15 rfl ?_
        refine AW.goto X (tgt := 2) dX5_tellMeals_18 rfl ?_
        rw [nI_1]
        refine ih (h + 1) _ (by omega) (fun a a1 a2 => by rw [w2_r a1]; exact hf a a1 a2) (fun h' hh' => ?_)
        by_cases hx : h' = h
        · subst hx; rw [w2_s]
        · rw [w2_n2 hx]; exact hl h' (by omega)
  refine AW.iconst X (v := 0) dX5_tellMeals_0 rfl ?_
  refine AW.istore2 X dX5_tellMeals_1 ?_
  exact l1' 24 0 I rfl (fun _ _ _ => rfl) (fun _ h => absurd h (Nat.not_lt_zero _))
end MO
