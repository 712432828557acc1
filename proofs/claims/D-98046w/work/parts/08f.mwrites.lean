/-! 08f: the model's writes (written by src/gen08f.py and src/walk.py) -/
set_option maxRecDepth 100000
set_option maxHeartbeats 4000000
def addI (N I : KI) (e h s : Int32) : KI := w2 (w2 (w2 (w2 I 337 (nM N) e) 338 (nM N) h) 339 (nM N) s) 200 44 (nI (nM N + 1))
theorem MS.add {T : KT} {I : KI} {R : KR} {N : KI} {e h : Nat} {s : Int32} (hS : MS T I R N) (hm : nM N < 26) (he : e < nE N) (hh : h < 24) (hs : s = 0 ∨ s = 1) : MS T (addI N I (nI e) (nI h) s) R (addN N (nI e) (nI h) s) := by
  obtain ⟨hT, hR, ⟨v1, v2, v3, v4⟩, hN, hM⟩ := hS
  have hP : ∀ a, 304 ≤ a → a ≤ 322 → addN N (nI e) (nI h) s a = N a := addN_P
  refine ⟨hT, hR, ⟨fun a a1 a2 => ?_, fun m hm2 => ?_, ?_, ?_⟩, hN.view hP, addN_MOK hM hm he hh hs⟩
  · rw [hP a a1 a2]
    unfold addI
    rw [w2_r (by omega), w2_r (by omega), w2_r (by omega), w2_r (by omega)]
    exact v1 a a1 a2
  · rw [addN_M hm] at hm2
    unfold addI addN
    by_cases hx : m = nM N
    · subst hx
      simp only [w2_n1 (show (337 : Nat) ≠ 200 by decide), w2_n1 (show (338 : Nat) ≠ 200 by decide), w2_n1 (show (339 : Nat) ≠ 200 by decide), w2_n1 (show (337 : Nat) ≠ 339 by decide), w2_n1 (show (337 : Nat) ≠ 338 by decide), w2_n1 (show (338 : Nat) ≠ 339 by decide), w2_s]
      exact ⟨trivial, trivial, trivial⟩
    · simp only [w2_n1 (show (337 : Nat) ≠ 200 by decide), w2_n1 (show (338 : Nat) ≠ 200 by decide), w2_n1 (show (339 : Nat) ≠ 200 by decide), w2_n1 (show (337 : Nat) ≠ 339 by decide), w2_n1 (show (337 : Nat) ≠ 338 by decide), w2_n1 (show (338 : Nat) ≠ 339 by decide), w2_n1 (show (338 : Nat) ≠ 337 by decide), w2_n1 (show (339 : Nat) ≠ 337 by decide), w2_n1 (show (339 : Nat) ≠ 338 by decide), w2_n2 hx]
      exact v2 m (by omega)
  · unfold addI addN; rw [w2_s, w2_s]
  · unfold addI addN
    simp only [w2_n2 (show (45 : Nat) ≠ 44 by decide), w2_n1 (show (200 : Nat) ≠ 339 by decide), w2_n1 (show (200 : Nat) ≠ 338 by decide), w2_n1 (show (200 : Nat) ≠ 337 by decide)]
    exact v4
/-- one meal less -/
theorem MS.less {T : KT} {I : KI} {R : KR} {N : KI} {e h s : Int32} (hS : MS T I R (addN N e h s)) (hM : MOKs N) (hm : nM N < 26) : MS T (w2 I 200 44 (nI (nM N))) R N := by
  obtain ⟨hT, hR, ⟨v1, v2, v3, v4⟩, hN, -⟩ := hS
  have hP : ∀ a, 304 ≤ a → a ≤ 322 → addN N e h s a = N a := addN_P
  refine ⟨hT, hR, ⟨fun a a1 a2 => ?_, fun m hm2 => ?_, ?_, ?_⟩, hN.view (fun a a1 a2 => (hP a a1 a2).symm), hM⟩
  · rw [w2_r (by omega), v1 a a1 a2]; exact hP a a1 a2
  · have := v2 m (by rw [addN_M hm]; omega)
    rw [w2_r (by omega), w2_r (by omega), w2_r (by omega)]
    unfold addN at this
    simp only [w2_n1 (show (337 : Nat) ≠ 200 by decide), w2_n1 (show (338 : Nat) ≠ 200 by decide), w2_n1 (show (339 : Nat) ≠ 200 by decide), w2_n1 (show (337 : Nat) ≠ 339 by decide), w2_n1 (show (337 : Nat) ≠ 338 by decide), w2_n1 (show (338 : Nat) ≠ 339 by decide), w2_n1 (show (338 : Nat) ≠ 337 by decide), w2_n1 (show (339 : Nat) ≠ 337 by decide), w2_n1 (show (339 : Nat) ≠ 338 by decide), w2_n2 (show m ≠ nM N by omega)] at this
    exact this
  · rw [w2_s]; exact hM.1.symm
  · rw [w2_n2 (by omega), v4]
    unfold addN
    simp only [w2_n2 (show (45 : Nat) ≠ 44 by decide), w2_n1 (show (200 : Nat) ≠ 339 by decide), w2_n1 (show (200 : Nat) ≠ 338 by decide), w2_n1 (show (200 : Nat) ≠ 337 by decide)]
section MW
variable {T : KT} {I : KI} {R : KR} {J : KJ} {N : KI}
theorem c_X5_give {e h s : Int32} (hS : MS T I R N) : MX5_give 0 0 [.ref 200, .int e, .int h, .int s] T I R J (qI (fun r I' => r = none ∧ I' = addI N I e h s) T R J) noX := by
  obtain ⟨hT, hR, hV, hN, hM⟩ := hS
  have hm26 := hM.2.1
  have v44 : I 200 44 = nI (nM N) := hV.2.2.1.trans hM.1
  unfold addI
  refine AMet.of (by decide) (Nat.le_of_ble_eq_true rfl) (cats1 rfl) fun cx X E => ?_
  show AW _ _ _ (_ :: _ :: _ :: _ :: []) _ _ _ _ _
  first | refine AW.aload_n X dX5_give_0 rfl rfl ?_ | refine AW.aloadN_n X dX5_give_0 rfl rfl ?_
  refine AW.getR X f_X5_113_18 (by first | assumption | exact hT _ _ rfl) (by first | assumption | exact hR _ _ _ rfl) dX5_give_1 ?_
  first | refine AW.aload_n X dX5_give_4 rfl rfl ?_ | refine AW.aloadN_n X dX5_give_4 rfl rfl ?_
  refine AW.getI X f_X5_337_18 (by first | assumption | exact hT _ _ rfl) dX5_give_5 ?_
  rw [v44]
  refine AW.iload_n X dX5_give_8 rfl rfl ?_
  refine AW.iast X (j := nM N) (by omega) (by first | assumption | exact hT _ _ rfl) (by repeat (first | with_reducible exact rfl | assumption | exact ix_l _ | apply ix_add | apply ix_mul)) (by omega) dX5_give_9 ?_
  first | refine AW.aload_n X dX5_give_10 rfl rfl ?_ | refine AW.aloadN_n X dX5_give_10 rfl rfl ?_
  refine AW.getR X f_X5_116_18 (by first | assumption | exact hT _ _ rfl) (by first | assumption | exact hR _ _ _ rfl) dX5_give_11 ?_
  first | refine AW.aload_n X dX5_give_14 rfl rfl ?_ | refine AW.aloadN_n X dX5_give_14 rfl rfl ?_
  refine AW.getI X f_X5_337_18 (by first | assumption | exact hT _ _ rfl) dX5_give_15 ?_
  rw [w2_n1 (by omega), v44]
  refine AW.iload_n X dX5_give_18 rfl rfl ?_
  refine AW.iast X (j := nM N) (by omega) (by first | assumption | exact hT _ _ rfl) (by repeat (first | with_reducible exact rfl | assumption | exact ix_l _ | apply ix_add | apply ix_mul)) (by omega) dX5_give_19 ?_
  first | refine AW.aload_n X dX5_give_20 rfl rfl ?_ | refine AW.aloadN_n X dX5_give_20 rfl rfl ?_
  refine AW.getR X f_X5_119_18 (by first | assumption | exact hT _ _ rfl) (by first | assumption | exact hR _ _ _ rfl) dX5_give_21 ?_
  first | refine AW.aload_n X dX5_give_24 rfl rfl ?_ | refine AW.aloadN_n X dX5_give_24 rfl rfl ?_
  refine AW.getI X f_X5_337_18 (by first | assumption | exact hT _ _ rfl) dX5_give_25 ?_
  rw [w2_n1 (by omega), w2_n1 (by omega), v44]
  refine AW.iload_n X dX5_give_28 rfl rfl ?_
  refine AW.iast X (j := nM N) (by omega) (by first | assumption | exact hT _ _ rfl) (by repeat (first | with_reducible exact rfl | assumption | exact ix_l _ | apply ix_add | apply ix_mul)) (by omega) dX5_give_29 ?_
  first | refine AW.aload_n X dX5_give_30 rfl rfl ?_ | refine AW.aloadN_n X dX5_give_30 rfl rfl ?_
  refine AW.dup X dX5_give_31 rfl ?_
  refine AW.getI X f_X5_337_18 (by first | assumption | exact hT _ _ rfl) dX5_give_32 ?_
  rw [w2_n1 (by omega), w2_n1 (by omega), w2_n1 (by omega), v44]
  refine AW.iconst X (v := 1) dX5_give_35 rfl ?_
  refine AW.iadd X dX5_give_36 ?_
  rw [nI_1]
  refine AW.putI X g_X5_give_337_18 (by omega) (by first | assumption | exact hT _ _ rfl) dX5_give_37 ?_ 
  refine AW.vreturn X E ?_ dX5_give_40
  exact ⟨rfl, rfl, rfl, rfl, rfl⟩
theorem c_X5_meal {e h : Nat} {s : Int32} (hS : MS T I R N) (he : e < nE N) (hh : h < 24) : MX5_meal 9 0 [.ref 200, .int (nI e), .int (nI h), .int s] T I R J (qI (fun r I' => if nM N = 20 ∨ ¬ (0 ≤ s ∧ s ≤ 1) then r = some (.int (-1)) ∧ I' = w2 (w2 I 200 3 0) 323 1 (I 323 1 + 1) else r = some (.int (nI (nM N + 1))) ∧ I' = addI N (w2 I 200 3 0) (nI e) (nI h) s) T R J) noX := by
  have hS0 := hS
  have hS1 : MS T (w2 I 200 3 0) R N := hS.cod
  obtain ⟨hT, hR, hV, hN, hM⟩ := hS
  obtain ⟨⟨n1, n2, n3, n4, hnq, hne, hns, hnh⟩, -⟩ := id hN
  have hm26 := hM.2.1
  have v44 : w2 I 200 3 0 200 44 = nI (nM N) := (w2_n2 (by omega)).trans (hV.2.2.1.trans hM.1)
  refine AMet.of (by decide) (Nat.le_of_ble_eq_true rfl) (cats1 rfl) fun cx X E => ?_
  show AW _ _ _ (_ :: _ :: _ :: _ :: []) _ _ _ _ _
  first | refine AW.aload_n X dX5_meal_0 rfl rfl ?_ | refine AW.aloadN_n X dX5_meal_0 rfl rfl ?_
  refine AW.iconst X (v := 0) dX5_meal_1 rfl ?_
  refine AW.putI X g_X5_meal_194_18 (by omega) (by first | assumption | exact hT _ _ rfl) dX5_meal_2 ?_ 
  first | refine AW.aload_n X dX5_meal_5 rfl rfl ?_ | refine AW.aloadN_n X dX5_meal_5 rfl rfl ?_
  refine AW.iload_n X dX5_meal_6 rfl rfl ?_
  refine AW.callV_r X (c_X5_isEel (nI e) hS1) (ci := 18) (q := (RX5, TX5, 74)) (by first | assumption | exact hT _ _ rfl) rfl s_X5_379_18 (by omega) (Nat.le_of_ble_eq_true rfl) rfl rfl (Nat.le_of_ble_eq_true rfl) dX5_meal_7 ?_
  rw [bI_t ⟨nI_pos' (by omega), nI_lt he (by omega)⟩]
  refine AW.if_eq X (tgt := 20) dX5_meal_10 rfl ?_ ?_
  · intro t10
    exact absurd t10 (by decide)
  · intro f10
    refine AW.iload_n X dX5_meal_13 rfl rfl ?_
    refine AW.callS_r X (c_X5_isHour (nI h)) s_X5_385 (by omega) (Nat.le_of_ble_eq_true rfl) rfl rfl (Nat.le_of_ble_eq_true rfl) dX5_meal_14 ?_
    rw [bI_t ⟨nI_pos' (by omega), nI_le (b := 23) (by omega) (by omega)⟩]
    refine AW.if_ne X (tgt := 26) dX5_meal_17 rfl ?_ ?_
    · intro t17
      first | refine AW.aload_n X dX5_meal_26 rfl rfl ?_ | refine AW.aloadN_n X dX5_meal_26 rfl rfl ?_
      refine AW.getI X f_X5_337_18 (by first | assumption | exact hT _ _ rfl) dX5_meal_27 ?_
      rw [v44]
      refine AW.bipush X (v := 20) dX5_meal_30 rfl ?_
      refine AW.icmp_eq X (tgt := 44) dX5_meal_32 rfl ?_ ?_
      · intro t32
        have hc : nM N = 20 ∨ ¬ (0 ≤ s ∧ s ≤ 1) := Or.inl ((nI_eq (b := 20) (by omega) (by omega)).mp t32)
        first | refine AW.aload_n X dX5_meal_44 rfl rfl ?_ | refine AW.aloadN_n X dX5_meal_44 rfl rfl ?_
        refine AW.getR X f_X5_103_18 (by first | assumption | exact hT _ _ rfl) (by first | assumption | exact hR _ _ _ rfl) dX5_meal_45 ?_
        refine AW.iconst X (v := 1) dX5_meal_48 rfl ?_
        refine AW.dup2 X dX5_meal_49 rfl rfl ?_
        refine AW.iald X (j := 1) (by first | assumption | exact hT _ _ rfl) rfl (by omega) dX5_meal_50 ?_
        rw [w2_r (by omega)]
        refine AW.iconst X (v := 1) dX5_meal_51 rfl ?_
        refine AW.iadd X dX5_meal_52 ?_
        refine AW.iast X (j := 1) (by omega) (by first | assumption | exact hT _ _ rfl) rfl (by omega) dX5_meal_53 ?_
        refine AW.iconst X (v := -1) dX5_meal_54 rfl ?_
        refine AW.ireturn X E ?_ dX5_meal_55 
        exact ⟨rfl, rfl, rfl, by dsimp only; rw [if_pos hc]; exact ⟨rfl, rfl⟩⟩
      · intro f32
        refine AW.iload_n X dX5_meal_35 rfl rfl ?_
        refine AW.iconst X (v := 0) dX5_meal_36 rfl ?_
        refine AW.iconst X (v := 1) dX5_meal_37 rfl ?_
        refine AW.callS_r X (c_X5_isIn s 0 1) s_X5_197 (by omega) (Nat.le_of_ble_eq_true rfl) rfl rfl (Nat.le_of_ble_eq_true rfl) dX5_meal_38 ?_
        refine AW.if_ne X (tgt := 56) dX5_meal_41 rfl ?_ ?_
        · intro t41
          have hc : ¬ (nM N = 20 ∨ ¬ (0 ≤ s ∧ s ≤ 1)) := fun z => z.elim (fun z => f32 (by rw [z]; rfl)) (fun z => t41 (bI_z.mpr z))
          first | refine AW.aload_n X dX5_meal_56 rfl rfl ?_ | refine AW.aloadN_n X dX5_meal_56 rfl rfl ?_
          refine AW.iload_n X dX5_meal_57 rfl rfl ?_
          refine AW.iload_n X dX5_meal_58 rfl rfl ?_
          refine AW.iload_n X dX5_meal_59 rfl rfl ?_
          refine AW.callV_i X (c_X5_give hS1) (ci := 18) (q := (RX5, TX5, 74)) (by first | assumption | exact hT _ _ rfl) rfl s_X5_388_18 (by omega) (Nat.le_of_ble_eq_true rfl) rfl rfl (Nat.le_of_ble_eq_true rfl) dX5_meal_60 ?_
          intro r60 I60 h60
          obtain ⟨rfl, rfl⟩ := h60
          first | refine AW.aload_n X dX5_meal_63 rfl rfl ?_ | refine AW.aloadN_n X dX5_meal_63 rfl rfl ?_
          refine AW.getI X f_X5_337_18 (by first | assumption | exact hT _ _ rfl) dX5_meal_64 ?_
          rw [show addI N (w2 I 200 3 0) (nI e) (nI h) s 200 44 = nI (nM N + 1) from w2_s _ _ _ _]
          refine AW.ireturn X E ?_ dX5_meal_67 
          exact ⟨rfl, rfl, rfl, by dsimp only; rw [if_neg hc]; exact ⟨rfl, rfl⟩⟩
        · intro f41
          have hc : nM N = 20 ∨ ¬ (0 ≤ s ∧ s ≤ 1) := Or.inr (bI_z.mp f41)
          first | refine AW.aload_n X dX5_meal_44 rfl rfl ?_ | refine AW.aloadN_n X dX5_meal_44 rfl rfl ?_
          refine AW.getR X f_X5_103_18 (by first | assumption | exact hT _ _ rfl) (by first | assumption | exact hR _ _ _ rfl) dX5_meal_45 ?_
          refine AW.iconst X (v := 1) dX5_meal_48 rfl ?_
          refine AW.dup2 X dX5_meal_49 rfl rfl ?_
          refine AW.iald X (j := 1) (by first | assumption | exact hT _ _ rfl) rfl (by omega) dX5_meal_50 ?_
          rw [w2_r (by omega)]
          refine AW.iconst X (v := 1) dX5_meal_51 rfl ?_
          refine AW.iadd X dX5_meal_52 ?_
          refine AW.iast X (j := 1) (by omega) (by first | assumption | exact hT _ _ rfl) rfl (by omega) dX5_meal_53 ?_
          refine AW.iconst X (v := -1) dX5_meal_54 rfl ?_
          refine AW.ireturn X E ?_ dX5_meal_55 
          exact ⟨rfl, rfl, rfl, by dsimp only; rw [if_pos hc]; exact ⟨rfl, rfl⟩⟩
    · intro f17
      exact absurd f17 (by decide)
theorem c_X5_meal_bad {e h s : Int32} (hS : MS T I R N) (hb : ¬ ((0 ≤ e ∧ e < nI (nE N)) ∧ (0 ≤ h ∧ h ≤ 23))) : MX5_meal 9 0 [.ref 200, .int e, .int h, .int s] T I R J (qF 1 (nM N) T I R J) noX := by
  have hS0 := hS
  have hS1 : MS T (w2 I 200 3 0) R N := hS.cod
  obtain ⟨hT, hR, hV, hN, hM⟩ := hS
  obtain ⟨⟨n1, n2, n3, n4, hnq, hne, hns, hnh⟩, -⟩ := id hN
  refine AMet.of (by decide) (Nat.le_of_ble_eq_true rfl) (cats1 rfl) fun cx X E => ?_
  show AW _ _ _ (_ :: _ :: _ :: _ :: []) _ _ _ _ _
  by_cases hi : 0 ≤ e ∧ e < nI (nE N)
  · skip
    first | refine AW.aload_n X dX5_meal_0 rfl rfl ?_ | refine AW.aloadN_n X dX5_meal_0 rfl rfl ?_
    refine AW.iconst X (v := 0) dX5_meal_1 rfl ?_
    refine AW.putI X g_X5_meal_194_18 (by omega) (by first | assumption | exact hT _ _ rfl) dX5_meal_2 ?_ 
    first | refine AW.aload_n X dX5_meal_5 rfl rfl ?_ | refine AW.aloadN_n X dX5_meal_5 rfl rfl ?_
    refine AW.iload_n X dX5_meal_6 rfl rfl ?_
    refine AW.callV_r X (c_X5_isEel e hS1) (ci := 18) (q := (RX5, TX5, 74)) (by first | assumption | exact hT _ _ rfl) rfl s_X5_379_18 (by omega) (Nat.le_of_ble_eq_true rfl) rfl rfl (Nat.le_of_ble_eq_true rfl) dX5_meal_7 ?_
    rw [bI_t hi]
    refine AW.if_eq X (tgt := 20) dX5_meal_10 rfl ?_ ?_
    · intro t10
      exact absurd t10 (by decide)
    · intro f10
      refine AW.iload_n X dX5_meal_13 rfl rfl ?_
      refine AW.callS_r X (c_X5_isHour h) s_X5_385 (by omega) (Nat.le_of_ble_eq_true rfl) rfl rfl (Nat.le_of_ble_eq_true rfl) dX5_meal_14 ?_
      rw [bI_f (fun hh => hb ⟨hi, hh⟩)]
      refine AW.if_ne X (tgt := 26) dX5_meal_17 rfl ?_ ?_
      · intro t17
        exact absurd rfl t17
      · intro f17
        first | refine AW.aload_n X dX5_meal_20 rfl rfl ?_ | refine AW.aloadN_n X dX5_meal_20 rfl rfl ?_
        refine AW.iconst X (v := 1) dX5_meal_21 rfl ?_
        refine AW.callV_i X (c_X5_fail hT 1) (ci := 18) (q := (RX5, TX5, 74)) (by first | assumption | exact hT _ _ rfl) rfl s_X5_323_18 (by omega) (Nat.le_of_ble_eq_true rfl) rfl rfl (Nat.le_of_ble_eq_true rfl) dX5_meal_22 ?_
        intro r22 I22 h22
        obtain ⟨rfl, rfl⟩ := h22
        refine AW.ireturn X E ?_ dX5_meal_25 
        exact ⟨rfl, rfl, rfl, ⟨_, rfl⟩, w2_s _ _ _ _, FM.cod.tr FM.cod⟩
  · skip
    first | refine AW.aload_n X dX5_meal_0 rfl rfl ?_ | refine AW.aloadN_n X dX5_meal_0 rfl rfl ?_
    refine AW.iconst X (v := 0) dX5_meal_1 rfl ?_
    refine AW.putI X g_X5_meal_194_18 (by omega) (by first | assumption | exact hT _ _ rfl) dX5_meal_2 ?_ 
    first | refine AW.aload_n X dX5_meal_5 rfl rfl ?_ | refine AW.aloadN_n X dX5_meal_5 rfl rfl ?_
    refine AW.iload_n X dX5_meal_6 rfl rfl ?_
    refine AW.callV_r X (c_X5_isEel e hS1) (ci := 18) (q := (RX5, TX5, 74)) (by first | assumption | exact hT _ _ rfl) rfl s_X5_379_18 (by omega) (Nat.le_of_ble_eq_true rfl) rfl rfl (Nat.le_of_ble_eq_true rfl) dX5_meal_7 ?_
    rw [bI_f hi]
    refine AW.if_eq X (tgt := 20) dX5_meal_10 rfl ?_ ?_
    · intro t10
      first | refine AW.aload_n X dX5_meal_20 rfl rfl ?_ | refine AW.aloadN_n X dX5_meal_20 rfl rfl ?_
      refine AW.iconst X (v := 1) dX5_meal_21 rfl ?_
      refine AW.callV_i X (c_X5_fail hT 1) (ci := 18) (q := (RX5, TX5, 74)) (by first | assumption | exact hT _ _ rfl) rfl s_X5_323_18 (by omega) (Nat.le_of_ble_eq_true rfl) rfl rfl (Nat.le_of_ble_eq_true rfl) dX5_meal_22 ?_
      intro r22 I22 h22
      obtain ⟨rfl, rfl⟩ := h22
      refine AW.ireturn X E ?_ dX5_meal_25 
      exact ⟨rfl, rfl, rfl, ⟨_, rfl⟩, w2_s _ _ _ _, FM.cod.tr FM.cod⟩
    · intro f10
      exact absurd rfl f10
theorem c_X5_undo (hS : MS T I R N) : MX5_undo 9 0 [.ref 200] T I R J (qI (fun r I' => if nM N = 0 then r = some (.int (-1)) ∧ I' = w2 I 200 3 0 else r = some (.int (nI (nM N - 1))) ∧ I' = w2 (w2 I 200 3 0) 200 44 (nI (nM N - 1))) T R J) noX := by
  have hS0 := hS
  have hS1 : MS T (w2 I 200 3 0) R N := hS.cod
  obtain ⟨hT, hR, hV, hN, hM⟩ := hS
  obtain ⟨⟨n1, n2, n3, n4, hnq, hne, hns, hnh⟩, -⟩ := id hN
  have hm26 := hM.2.1
  have v44 : w2 I 200 3 0 200 44 = nI (nM N) := (w2_n2 (by omega)).trans (hV.2.2.1.trans hM.1)
  refine AMet.of (by decide) (Nat.le_of_ble_eq_true rfl) (cats1 rfl) fun cx X E => ?_
  show AW _ _ _ (_ :: []) _ _ _ _ _
  first | refine AW.aload_n X dX5_undo_0 rfl rfl ?_ | refine AW.aloadN_n X dX5_undo_0 rfl rfl ?_
  refine AW.iconst X (v := 0) dX5_undo_1 rfl ?_
  refine AW.putI X g_X5_undo_194_18 (by omega) (by first | assumption | exact hT _ _ rfl) dX5_undo_2 ?_ 
  first | refine AW.aload_n X dX5_undo_5 rfl rfl ?_ | refine AW.aloadN_n X dX5_undo_5 rfl rfl ?_
  refine AW.getI X f_X5_337_18 (by first | assumption | exact hT _ _ rfl) dX5_undo_6 ?_
  rw [v44]
  refine AW.if_ne X (tgt := 14) dX5_undo_9 rfl ?_ ?_
  · intro t9
    have h0 : ¬ nM N = 0 := fun z => t9 (by rw [z]; rfl)
    first | refine AW.aload_n X dX5_undo_14 rfl rfl ?_ | refine AW.aloadN_n X dX5_undo_14 rfl rfl ?_
    refine AW.dup X dX5_undo_15 rfl ?_
    refine AW.getI X f_X5_337_18 (by first | assumption | exact hT _ _ rfl) dX5_undo_16 ?_
    rw [v44]
    refine AW.iconst X (v := 1) dX5_undo_19 rfl ?_
    refine AW.isub X dX5_undo_20 ?_
    rw [show nI (nM N) - 1 = nI (nM N - 1) from nI_sub (c := 1) (by omega)]
    refine AW.putI X g_X5_undo_337_18 (by omega) (by first | assumption | exact hT _ _ rfl) dX5_undo_21 ?_ 
    first | refine AW.aload_n X dX5_undo_24 rfl rfl ?_ | refine AW.aloadN_n X dX5_undo_24 rfl rfl ?_
    refine AW.getI X f_X5_337_18 (by first | assumption | exact hT _ _ rfl) dX5_undo_25 ?_
    rw [w2_s]
    refine AW.ireturn X E ?_ dX5_undo_28 
    exact ⟨rfl, rfl, rfl, by dsimp only; rw [if_neg h0]; exact ⟨rfl, rfl⟩⟩
  · intro f9
    have h0 : nM N = 0 := (nI_eq (b := 0) (by omega) (by omega)).mp f9
    refine AW.iconst X (v := -1) dX5_undo_12 rfl ?_
    refine AW.ireturn X E ?_ dX5_undo_13 
    exact ⟨rfl, rfl, rfl, by dsimp only; rw [if_pos h0]; exact ⟨rfl, rfl⟩⟩
theorem c_X5_cold {c : Int32} (hS : MS T I R N) : MX5_cold 9 0 [.ref 200, .int c] T I R J (qI (fun r I' => if 0 ≤ c ∧ c ≤ 9 then r = some (.int (N 200 45)) ∧ I' = w2 (w2 I 200 3 0) 200 45 c else r = some (.int (-1)) ∧ I' = w2 I 200 3 0) T R J) noX := by
  have hS0 := hS
  have hS1 : MS T (w2 I 200 3 0) R N := hS.cod
  obtain ⟨hT, hR, hV, hN, hM⟩ := hS
  obtain ⟨⟨n1, n2, n3, n4, hnq, hne, hns, hnh⟩, -⟩ := id hN
  have v45 : w2 I 200 3 0 200 45 = N 200 45 := (w2_n2 (by omega)).trans hV.2.2.2
  refine AMet.of (by decide) (Nat.le_of_ble_eq_true rfl) (cats1 rfl) fun cx X E => ?_
  show AW _ _ _ (_ :: _ :: _ :: []) _ _ _ _ _
  first | refine AW.aload_n X dX5_cold_0 rfl rfl ?_ | refine AW.aloadN_n X dX5_cold_0 rfl rfl ?_
  refine AW.iconst X (v := 0) dX5_cold_1 rfl ?_
  refine AW.putI X g_X5_cold_194_18 (by omega) (by first | assumption | exact hT _ _ rfl) dX5_cold_2 ?_ 
  refine AW.iload_n X dX5_cold_5 rfl rfl ?_
  refine AW.iconst X (v := 0) dX5_cold_6 rfl ?_
  refine AW.bipush X (v := 9) dX5_cold_7 rfl ?_
  refine AW.callS_r X (c_X5_isIn c 0 9) s_X5_197 (by omega) (Nat.le_of_ble_eq_true rfl) rfl rfl (Nat.le_of_ble_eq_true rfl) dX5_cold_9 ?_
  refine AW.if_ne X (tgt := 17) dX5_cold_12 rfl ?_ ?_
  · intro t12
    have hc : 0 ≤ c ∧ c ≤ 9 := Decidable.of_not_not fun z => t12 (bI_z.mpr z)
    first | refine AW.aload_n X dX5_cold_17 rfl rfl ?_ | refine AW.aloadN_n X dX5_cold_17 rfl rfl ?_
    refine AW.getI X f_X5_340_18 (by first | assumption | exact hT _ _ rfl) dX5_cold_18 ?_
    rw [v45]
    refine AW.istore2 X dX5_cold_21 ?_
    first | refine AW.aload_n X dX5_cold_22 rfl rfl ?_ | refine AW.aloadN_n X dX5_cold_22 rfl rfl ?_
    refine AW.iload_n X dX5_cold_23 rfl rfl ?_
    refine AW.putI X g_X5_cold_340_18 (by omega) (by first | assumption | exact hT _ _ rfl) dX5_cold_24 ?_ 
    refine AW.iload_n X dX5_cold_27 rfl rfl ?_
    refine AW.ireturn X E ?_ dX5_cold_28 
    exact ⟨rfl, rfl, rfl, by dsimp only; rw [if_pos hc]; exact ⟨rfl, rfl⟩⟩
  · intro f12
    have hc := bI_z.mp f12
    refine AW.iconst X (v := -1) dX5_cold_15 rfl ?_
    refine AW.ireturn X E ?_ dX5_cold_16 
    exact ⟨rfl, rfl, rfl, by dsimp only; rw [if_neg hc]; exact ⟨rfl, rfl⟩⟩
theorem c_X5_shone {q h n : Nat} {s : Int32} (hS : MS T I R N) (hq : q < nQ N) (hh : h < 24) (hn : I 200 46 = nI n) (hn2 : n ≤ 12) : MX5_shone 9 0 [.ref 200, .int (nI q), .int (nI h), .int s] T I R J (qI (fun r I' => if n = 12 ∨ ¬ (0 ≤ s ∧ s ≤ 255) then r = some (.int (-1)) ∧ I' = w2 (w2 I 200 3 0) 323 2 (I 323 2 + 1) else r = some (.int (nI (n + 1))) ∧ I' = w2 (w2 (w2 (w2 (w2 I 200 3 0) 357 n (nI q)) 358 n (nI h)) 359 n s) 200 46 (nI (n + 1))) T R J) noX := by
  have hS0 := hS
  have hS1 : MS T (w2 I 200 3 0) R N := hS.cod
  obtain ⟨hT, hR, hV, hN, hM⟩ := hS
  obtain ⟨⟨n1, n2, n3, n4, hnq, hne, hns, hnh⟩, -⟩ := id hN
  have v46 : w2 I 200 3 0 200 46 = nI n := (w2_n2 (by omega)).trans hn
  refine AMet.of (by decide) (Nat.le_of_ble_eq_true rfl) (cats1 rfl) fun cx X E => ?_
  show AW _ _ _ (_ :: _ :: _ :: _ :: []) _ _ _ _ _
  first | refine AW.aload_n X dX5_shone_0 rfl rfl ?_ | refine AW.aloadN_n X dX5_shone_0 rfl rfl ?_
  refine AW.iconst X (v := 0) dX5_shone_1 rfl ?_
  refine AW.putI X g_X5_shone_194_18 (by omega) (by first | assumption | exact hT _ _ rfl) dX5_shone_2 ?_ 
  first | refine AW.aload_n X dX5_shone_5 rfl rfl ?_ | refine AW.aloadN_n X dX5_shone_5 rfl rfl ?_
  refine AW.iload_n X dX5_shone_6 rfl rfl ?_
  refine AW.callV_r X (c_X5_isQuay (nI q) hS1) (ci := 18) (q := (RX5, TX5, 74)) (by first | assumption | exact hT _ _ rfl) rfl s_X5_376_18 (by omega) (Nat.le_of_ble_eq_true rfl) rfl rfl (Nat.le_of_ble_eq_true rfl) dX5_shone_7 ?_
  rw [bI_t ⟨nI_pos' (by omega), nI_lt hq (by omega)⟩]
  refine AW.if_eq X (tgt := 20) dX5_shone_10 rfl ?_ ?_
  · intro t10
    exact absurd t10 (by decide)
  · intro f10
    refine AW.iload_n X dX5_shone_13 rfl rfl ?_
    refine AW.callS_r X (c_X5_isHour (nI h)) s_X5_385 (by omega) (Nat.le_of_ble_eq_true rfl) rfl rfl (Nat.le_of_ble_eq_true rfl) dX5_shone_14 ?_
    rw [bI_t ⟨nI_pos' (by omega), nI_le (b := 23) (by omega) (by omega)⟩]
    refine AW.if_ne X (tgt := 26) dX5_shone_17 rfl ?_ ?_
    · intro t17
      first | refine AW.aload_n X dX5_shone_26 rfl rfl ?_ | refine AW.aloadN_n X dX5_shone_26 rfl rfl ?_
      refine AW.getI X f_X5_342_18 (by first | assumption | exact hT _ _ rfl) dX5_shone_27 ?_
      rw [v46]
      refine AW.bipush X (v := 12) dX5_shone_30 rfl ?_
      refine AW.icmp_eq X (tgt := 46) dX5_shone_32 rfl ?_ ?_
      · intro t32
        have hc : n = 12 ∨ ¬ (0 ≤ s ∧ s ≤ 255) := Or.inl ((nI_eq (b := 12) (by omega) (by omega)).mp t32)
        first | refine AW.aload_n X dX5_shone_46 rfl rfl ?_ | refine AW.aloadN_n X dX5_shone_46 rfl rfl ?_
        refine AW.getR X f_X5_103_18 (by first | assumption | exact hT _ _ rfl) (by first | assumption | exact hR _ _ _ rfl) dX5_shone_47 ?_
        refine AW.iconst X (v := 2) dX5_shone_50 rfl ?_
        refine AW.dup2 X dX5_shone_51 rfl rfl ?_
        refine AW.iald X (j := 2) (by first | assumption | exact hT _ _ rfl) rfl (by omega) dX5_shone_52 ?_
        rw [w2_r (by omega)]
        refine AW.iconst X (v := 1) dX5_shone_53 rfl ?_
        refine AW.iadd X dX5_shone_54 ?_
        refine AW.iast X (j := 2) (by omega) (by first | assumption | exact hT _ _ rfl) rfl (by omega) dX5_shone_55 ?_
        refine AW.iconst X (v := -1) dX5_shone_56 rfl ?_
        refine AW.ireturn X E ?_ dX5_shone_57 
        exact ⟨rfl, rfl, rfl, by dsimp only; rw [if_pos hc]; exact ⟨rfl, rfl⟩⟩
      · intro f32
        have hn12 : ¬ n = 12 := fun z => f32 (by rw [z]; rfl)
        refine AW.iload_n X dX5_shone_35 rfl rfl ?_
        refine AW.iconst X (v := 0) dX5_shone_36 rfl ?_
        refine AW.sipush X (v := 255) dX5_shone_37 rfl ?_
        refine AW.callS_r X (c_X5_isIn s 0 255) s_X5_197 (by omega) (Nat.le_of_ble_eq_true rfl) rfl rfl (Nat.le_of_ble_eq_true rfl) dX5_shone_40 ?_
        refine AW.if_ne X (tgt := 58) dX5_shone_43 rfl ?_ ?_
        · intro t43
          have hc : ¬ (n = 12 ∨ ¬ (0 ≤ s ∧ s ≤ 255)) := fun z => z.elim hn12 (fun z => t43 (bI_z.mpr z))
          first | refine AW.aload_n X dX5_shone_58 rfl rfl ?_ | refine AW.aloadN_n X dX5_shone_58 rfl rfl ?_
          refine AW.getR X f_X5_158_18 (by first | assumption | exact hT _ _ rfl) (by first | assumption | exact hR _ _ _ rfl) dX5_shone_59 ?_
          first | refine AW.aload_n X dX5_shone_62 rfl rfl ?_ | refine AW.aloadN_n X dX5_shone_62 rfl rfl ?_
          refine AW.getI X f_X5_342_18 (by first | assumption | exact hT _ _ rfl) dX5_shone_63 ?_
          rw [v46]
          refine AW.iload_n X dX5_shone_66 rfl rfl ?_
          refine AW.iast X (j := n) (by omega) (by first | assumption | exact hT _ _ rfl) (by repeat (first | with_reducible exact rfl | assumption | exact ix_l _ | apply ix_add | apply ix_mul)) (by omega) dX5_shone_67 ?_
          first | refine AW.aload_n X dX5_shone_68 rfl rfl ?_ | refine AW.aloadN_n X dX5_shone_68 rfl rfl ?_
          refine AW.getR X f_X5_161_18 (by first | assumption | exact hT _ _ rfl) (by first | assumption | exact hR _ _ _ rfl) dX5_shone_69 ?_
          first | refine AW.aload_n X dX5_shone_72 rfl rfl ?_ | refine AW.aloadN_n X dX5_shone_72 rfl rfl ?_
          refine AW.getI X f_X5_342_18 (by first | assumption | exact hT _ _ rfl) dX5_shone_73 ?_
          rw [w2_n1 (by omega), v46]
          refine AW.iload_n X dX5_shone_76 rfl rfl ?_
          refine AW.iast X (j := n) (by omega) (by first | assumption | exact hT _ _ rfl) (by repeat (first | with_reducible exact rfl | assumption | exact ix_l _ | apply ix_add | apply ix_mul)) (by omega) dX5_shone_77 ?_
          first | refine AW.aload_n X dX5_shone_78 rfl rfl ?_ | refine AW.aloadN_n X dX5_shone_78 rfl rfl ?_
          refine AW.getR X f_X5_164_18 (by first | assumption | exact hT _ _ rfl) (by first | assumption | exact hR _ _ _ rfl) dX5_shone_79 ?_
          first | refine AW.aload_n X dX5_shone_82 rfl rfl ?_ | refine AW.aloadN_n X dX5_shone_82 rfl rfl ?_
          refine AW.getI X f_X5_342_18 (by first | assumption | exact hT _ _ rfl) dX5_shone_83 ?_
          rw [w2_n1 (by omega), w2_n1 (by omega), v46]
          refine AW.iload_n X dX5_shone_86 rfl rfl ?_
          refine AW.iast X (j := n) (by omega) (by first | assumption | exact hT _ _ rfl) (by repeat (first | with_reducible exact rfl | assumption | exact ix_l _ | apply ix_add | apply ix_mul)) (by omega) dX5_shone_87 ?_
          first | refine AW.aload_n X dX5_shone_88 rfl rfl ?_ | refine AW.aloadN_n X dX5_shone_88 rfl rfl ?_
          refine AW.dup X dX5_shone_89 rfl ?_
          refine AW.getI X f_X5_342_18 (by first | assumption | exact hT _ _ rfl) dX5_shone_90 ?_
          rw [w2_n1 (by omega), w2_n1 (by omega), w2_n1 (by omega), v46]
          refine AW.iconst X (v := 1) dX5_shone_93 rfl ?_
          refine AW.iadd X dX5_shone_94 ?_
          rw [nI_1]
          refine AW.putI X g_X5_shone_342_18 (by omega) (by first | assumption | exact hT _ _ rfl) dX5_shone_95 ?_ 
          first | refine AW.aload_n X dX5_shone_98 rfl rfl ?_ | refine AW.aloadN_n X dX5_shone_98 rfl rfl ?_
          refine AW.getI X f_X5_342_18 (by first | assumption | exact hT _ _ rfl) dX5_shone_99 ?_
          rw [w2_s]
          refine AW.ireturn X E ?_ dX5_shone_102 
          exact ⟨rfl, rfl, rfl, by dsimp only; rw [if_neg hc]; exact ⟨rfl, rfl⟩⟩
        · intro f43
          have hc : n = 12 ∨ ¬ (0 ≤ s ∧ s ≤ 255) := Or.inr (bI_z.mp f43)
          first | refine AW.aload_n X dX5_shone_46 rfl rfl ?_ | refine AW.aloadN_n X dX5_shone_46 rfl rfl ?_
          refine AW.getR X f_X5_103_18 (by first | assumption | exact hT _ _ rfl) (by first | assumption | exact hR _ _ _ rfl) dX5_shone_47 ?_
          refine AW.iconst X (v := 2) dX5_shone_50 rfl ?_
          refine AW.dup2 X dX5_shone_51 rfl rfl ?_
          refine AW.iald X (j := 2) (by first | assumption | exact hT _ _ rfl) rfl (by omega) dX5_shone_52 ?_
          rw [w2_r (by omega)]
          refine AW.iconst X (v := 1) dX5_shone_53 rfl ?_
          refine AW.iadd X dX5_shone_54 ?_
          refine AW.iast X (j := 2) (by omega) (by first | assumption | exact hT _ _ rfl) rfl (by omega) dX5_shone_55 ?_
          refine AW.iconst X (v := -1) dX5_shone_56 rfl ?_
          refine AW.ireturn X E ?_ dX5_shone_57 
          exact ⟨rfl, rfl, rfl, by dsimp only; rw [if_pos hc]; exact ⟨rfl, rfl⟩⟩
    · intro f17
      exact absurd f17 (by decide)
theorem c_X5_shone_bad {e h s : Int32} (hS : MS T I R N) (hb : ¬ ((0 ≤ e ∧ e < nI (nQ N)) ∧ (0 ≤ h ∧ h ≤ 23))) : MX5_shone 9 0 [.ref 200, .int e, .int h, .int s] T I R J (qF 1 (nM N) T I R J) noX := by
  have hS0 := hS
  have hS1 : MS T (w2 I 200 3 0) R N := hS.cod
  obtain ⟨hT, hR, hV, hN, hM⟩ := hS
  obtain ⟨⟨n1, n2, n3, n4, hnq, hne, hns, hnh⟩, -⟩ := id hN
  refine AMet.of (by decide) (Nat.le_of_ble_eq_true rfl) (cats1 rfl) fun cx X E => ?_
  show AW _ _ _ (_ :: _ :: _ :: _ :: []) _ _ _ _ _
  by_cases hi : 0 ≤ e ∧ e < nI (nQ N)
  · skip
    first | refine AW.aload_n X dX5_shone_0 rfl rfl ?_ | refine AW.aloadN_n X dX5_shone_0 rfl rfl ?_
    refine AW.iconst X (v := 0) dX5_shone_1 rfl ?_
    refine AW.putI X g_X5_shone_194_18 (by omega) (by first | assumption | exact hT _ _ rfl) dX5_shone_2 ?_ 
    first | refine AW.aload_n X dX5_shone_5 rfl rfl ?_ | refine AW.aloadN_n X dX5_shone_5 rfl rfl ?_
    refine AW.iload_n X dX5_shone_6 rfl rfl ?_
    refine AW.callV_r X (c_X5_isQuay e hS1) (ci := 18) (q := (RX5, TX5, 74)) (by first | assumption | exact hT _ _ rfl) rfl s_X5_376_18 (by omega) (Nat.le_of_ble_eq_true rfl) rfl rfl (Nat.le_of_ble_eq_true rfl) dX5_shone_7 ?_
    rw [bI_t hi]
    refine AW.if_eq X (tgt := 20) dX5_shone_10 rfl ?_ ?_
    · intro t10
      exact absurd t10 (by decide)
    · intro f10
      refine AW.iload_n X dX5_shone_13 rfl rfl ?_
      refine AW.callS_r X (c_X5_isHour h) s_X5_385 (by omega) (Nat.le_of_ble_eq_true rfl) rfl rfl (Nat.le_of_ble_eq_true rfl) dX5_shone_14 ?_
      rw [bI_f (fun hh => hb ⟨hi, hh⟩)]
      refine AW.if_ne X (tgt := 26) dX5_shone_17 rfl ?_ ?_
      · intro t17
        exact absurd rfl t17
      · intro f17
        first | refine AW.aload_n X dX5_shone_20 rfl rfl ?_ | refine AW.aloadN_n X dX5_shone_20 rfl rfl ?_
        refine AW.iconst X (v := 1) dX5_shone_21 rfl ?_
        refine AW.callV_i X (c_X5_fail hT 1) (ci := 18) (q := (RX5, TX5, 74)) (by first | assumption | exact hT _ _ rfl) rfl s_X5_323_18 (by omega) (Nat.le_of_ble_eq_true rfl) rfl rfl (Nat.le_of_ble_eq_true rfl) dX5_shone_22 ?_
        intro r22 I22 h22
        obtain ⟨rfl, rfl⟩ := h22
        refine AW.ireturn X E ?_ dX5_shone_25 
        exact ⟨rfl, rfl, rfl, ⟨_, rfl⟩, w2_s _ _ _ _, FM.cod.tr FM.cod⟩
  · skip
    first | refine AW.aload_n X dX5_shone_0 rfl rfl ?_ | refine AW.aloadN_n X dX5_shone_0 rfl rfl ?_
    refine AW.iconst X (v := 0) dX5_shone_1 rfl ?_
    refine AW.putI X g_X5_shone_194_18 (by omega) (by first | assumption | exact hT _ _ rfl) dX5_shone_2 ?_ 
    first | refine AW.aload_n X dX5_shone_5 rfl rfl ?_ | refine AW.aloadN_n X dX5_shone_5 rfl rfl ?_
    refine AW.iload_n X dX5_shone_6 rfl rfl ?_
    refine AW.callV_r X (c_X5_isQuay e hS1) (ci := 18) (q := (RX5, TX5, 74)) (by first | assumption | exact hT _ _ rfl) rfl s_X5_376_18 (by omega) (Nat.le_of_ble_eq_true rfl) rfl rfl (Nat.le_of_ble_eq_true rfl) dX5_shone_7 ?_
    rw [bI_f hi]
    refine AW.if_eq X (tgt := 20) dX5_shone_10 rfl ?_ ?_
    · intro t10
      first | refine AW.aload_n X dX5_shone_20 rfl rfl ?_ | refine AW.aloadN_n X dX5_shone_20 rfl rfl ?_
      refine AW.iconst X (v := 1) dX5_shone_21 rfl ?_
      refine AW.callV_i X (c_X5_fail hT 1) (ci := 18) (q := (RX5, TX5, 74)) (by first | assumption | exact hT _ _ rfl) rfl s_X5_323_18 (by omega) (Nat.le_of_ble_eq_true rfl) rfl rfl (Nat.le_of_ble_eq_true rfl) dX5_shone_22 ?_
      intro r22 I22 h22
      obtain ⟨rfl, rfl⟩ := h22
      refine AW.ireturn X E ?_ dX5_shone_25 
      exact ⟨rfl, rfl, rfl, ⟨_, rfl⟩, w2_s _ _ _ _, FM.cod.tr FM.cod⟩
    · intro f10
      exact absurd rfl f10
theorem c_X5_forget {n : Nat} (hT : XT T) (hR : XRf R) (hn : I 200 46 = nI n) (hn2 : n ≤ 12) : MX5_forget 0 0 [.ref 200] T I R J (qI (fun r I' => if n = 0 then r = some (.int (-1)) ∧ I' = w2 I 200 3 0 else r = some (.int (nI (n - 1))) ∧ I' = w2 (w2 I 200 3 0) 200 46 (nI (n - 1))) T R J) noX := by
  have v46 : w2 I 200 3 0 200 46 = nI n := (w2_n2 (by omega)).trans hn
  refine AMet.of (by decide) (Nat.le_of_ble_eq_true rfl) (cats1 rfl) fun cx X E => ?_
  show AW _ _ _ (_ :: []) _ _ _ _ _
  first | refine AW.aload_n X dX5_forget_0 rfl rfl ?_ | refine AW.aloadN_n X dX5_forget_0 rfl rfl ?_
  refine AW.iconst X (v := 0) dX5_forget_1 rfl ?_
  refine AW.putI X g_X5_forget_194_18 (by omega) (by first | assumption | exact hT _ _ rfl) dX5_forget_2 ?_ 
  first | refine AW.aload_n X dX5_forget_5 rfl rfl ?_ | refine AW.aloadN_n X dX5_forget_5 rfl rfl ?_
  refine AW.getI X f_X5_342_18 (by first | assumption | exact hT _ _ rfl) dX5_forget_6 ?_
  rw [v46]
  refine AW.if_ne X (tgt := 14) dX5_forget_9 rfl ?_ ?_
  · intro t9
    have h0 : ¬ n = 0 := fun z => t9 (by rw [z]; rfl)
    first | refine AW.aload_n X dX5_forget_14 rfl rfl ?_ | refine AW.aloadN_n X dX5_forget_14 rfl rfl ?_
    refine AW.dup X dX5_forget_15 rfl ?_
    refine AW.getI X f_X5_342_18 (by first | assumption | exact hT _ _ rfl) dX5_forget_16 ?_
    rw [v46]
    refine AW.iconst X (v := 1) dX5_forget_19 rfl ?_
    refine AW.isub X dX5_forget_20 ?_
    rw [show nI n - 1 = nI (n - 1) from nI_sub (c := 1) (by omega)]
    refine AW.putI X g_X5_forget_342_18 (by omega) (by first | assumption | exact hT _ _ rfl) dX5_forget_21 ?_ 
    first | refine AW.aload_n X dX5_forget_24 rfl rfl ?_ | refine AW.aloadN_n X dX5_forget_24 rfl rfl ?_
    refine AW.getI X f_X5_342_18 (by first | assumption | exact hT _ _ rfl) dX5_forget_25 ?_
    rw [w2_s]
    refine AW.ireturn X E ?_ dX5_forget_28 
    exact ⟨rfl, rfl, rfl, by dsimp only; rw [if_neg h0]; exact ⟨rfl, rfl⟩⟩
  · intro f9
    have h0 : n = 0 := (nI_eq (b := 0) (by omega) (by omega)).mp f9
    refine AW.iconst X (v := -1) dX5_forget_12 rfl ?_
    refine AW.ireturn X E ?_ dX5_forget_13 
    exact ⟨rfl, rfl, rfl, by dsimp only; rw [if_pos h0]; exact ⟨rfl, rfl⟩⟩
theorem c_X5_fault (hT : XT T) : MX5_fault 0 0 [.ref 200] T I R J (qI (fun r I' => r = some (.int (I 200 34)) ∧ I' = w2 I 200 3 0) T R J) noX := by
  refine AMet.of (by decide) (Nat.le_of_ble_eq_true rfl) (cats1 rfl) fun cx X E => ?_
  show AW _ _ _ (_ :: []) _ _ _ _ _
  first | refine AW.aload_n X dX5_fault_0 rfl rfl ?_ | refine AW.aloadN_n X dX5_fault_0 rfl rfl ?_
  refine AW.iconst X (v := 0) dX5_fault_1 rfl ?_
  refine AW.putI X g_X5_fault_194_18 (by omega) (by first | assumption | exact hT _ _ rfl) dX5_fault_2 ?_ 
  first | refine AW.aload_n X dX5_fault_5 rfl rfl ?_ | refine AW.aloadN_n X dX5_fault_5 rfl rfl ?_
  refine AW.getI X f_X5_109_18 (by first | assumption | exact hT _ _ rfl) dX5_fault_6 ?_
  rw [w2_n2 (by omega)]
  refine AW.ireturn X E ?_ dX5_fault_9 
  exact ⟨rfl, rfl, rfl, rfl, rfl⟩
theorem c_X5_planned {i n : Nat} (hT : XT T) (hR : XRf R) (hn : I 200 53 = nI n) (hn2 : n ≤ 4) (hi : i < n) : MX5_planned 8 0 [.ref 200, .int (nI i)] T I R J (qI (fun r I' => r = some (.int (I 352 i)) ∧ I' = w2 I 200 3 0) T R J) noX := by
  have v53 : w2 I 200 3 0 200 53 = nI n := (w2_n2 (by omega)).trans hn
  refine AMet.of (by decide) (Nat.le_of_ble_eq_true rfl) (cats1 rfl) fun cx X E => ?_
  show AW _ _ _ (_ :: _ :: []) _ _ _ _ _
  first | refine AW.aload_n X dX5_planned_0 rfl rfl ?_ | refine AW.aloadN_n X dX5_planned_0 rfl rfl ?_
  refine AW.iconst X (v := 0) dX5_planned_1 rfl ?_
  refine AW.putI X g_X5_planned_194_18 (by omega) (by first | assumption | exact hT _ _ rfl) dX5_planned_2 ?_ 
  first | refine AW.aload_n X dX5_planned_5 rfl rfl ?_ | refine AW.aloadN_n X dX5_planned_5 rfl rfl ?_
  refine AW.getI X f_X5_152_18 (by first | assumption | exact hT _ _ rfl) dX5_planned_6 ?_
  rw [v53]
  refine AW.iconst X (v := -1) dX5_planned_9 rfl ?_
  refine AW.icmp_eq X (tgt := 36) dX5_planned_10 rfl ?_ ?_
  · intro t10
    exact absurd t10 (nI_m1 (by omega))
  · intro f10
    refine AW.iload_n X dX5_planned_13 rfl rfl ?_
    refine AW.iconst X (v := 0) dX5_planned_14 rfl ?_
    first | refine AW.aload_n X dX5_planned_15 rfl rfl ?_ | refine AW.aloadN_n X dX5_planned_15 rfl rfl ?_
    refine AW.getI X f_X5_152_18 (by first | assumption | exact hT _ _ rfl) dX5_planned_16 ?_
    rw [v53]
    refine AW.iconst X (v := 1) dX5_planned_19 rfl ?_
    refine AW.isub X dX5_planned_20 ?_
    refine AW.callS_r X (c_X5_isIn (nI i) 0 (nI n - 1)) s_X5_197 (by omega) (Nat.le_of_ble_eq_true rfl) rfl rfl (Nat.le_of_ble_eq_true rfl) dX5_planned_21 ?_
    rw [bI_t ((le_lt (by omega)).mpr ⟨nI_pos' (by omega), nI_lt hi (by omega)⟩)]
    refine AW.if_eq X (tgt := 36) dX5_planned_24 rfl ?_ ?_
    · intro t24
      exact absurd t24 (by decide)
    · intro f24
      first | refine AW.aload_n X dX5_planned_27 rfl rfl ?_ | refine AW.aloadN_n X dX5_planned_27 rfl rfl ?_
      refine AW.getR X f_X5_149_18 (by first | assumption | exact hT _ _ rfl) (by first | assumption | exact hR _ _ _ rfl) dX5_planned_28 ?_
      refine AW.iload_n X dX5_planned_31 rfl rfl ?_
      refine AW.iald X (j := i) (by first | assumption | exact hT _ _ rfl) (by repeat (first | with_reducible exact rfl | assumption | exact ix_l _ | apply ix_add | apply ix_mul)) (by omega) dX5_planned_32 ?_
      rw [w2_r (by omega)]
      refine AW.goto X (tgt := 41) dX5_planned_33 rfl ?_
      refine AW.ireturn X E ?_ dX5_planned_41 
      exact ⟨rfl, rfl, rfl, rfl, rfl⟩
theorem c_X5_planned_bad {i : Int32} {n : Nat} {m : Nat} (hT : XT T) (hR : XRf R) (hn : I 200 53 = -1 ∨ (I 200 53 = nI n ∧ n ≤ 4)) (hb : ¬ (¬ I 200 53 = -1 ∧ 0 ≤ i ∧ i < I 200 53)) : MX5_planned 8 0 [.ref 200, .int i] T I R J (qF 1 m T I R J) noX := by
  have v53 : w2 I 200 3 0 200 53 = I 200 53 := w2_n2 (by omega)
  refine AMet.of (by decide) (Nat.le_of_ble_eq_true rfl) (cats1 rfl) fun cx X E => ?_
  show AW _ _ _ (_ :: _ :: []) _ _ _ _ _
  first | refine AW.aload_n X dX5_planned_0 rfl rfl ?_ | refine AW.aloadN_n X dX5_planned_0 rfl rfl ?_
  refine AW.iconst X (v := 0) dX5_planned_1 rfl ?_
  refine AW.putI X g_X5_planned_194_18 (by omega) (by first | assumption | exact hT _ _ rfl) dX5_planned_2 ?_ 
  first | refine AW.aload_n X dX5_planned_5 rfl rfl ?_ | refine AW.aloadN_n X dX5_planned_5 rfl rfl ?_
  refine AW.getI X f_X5_152_18 (by first | assumption | exact hT _ _ rfl) dX5_planned_6 ?_
  rw [v53]
  refine AW.iconst X (v := -1) dX5_planned_9 rfl ?_
  refine AW.icmp_eq X (tgt := 36) dX5_planned_10 rfl ?_ ?_
  · intro t10
    first | refine AW.aload_n X dX5_planned_36 rfl rfl ?_ | refine AW.aloadN_n X dX5_planned_36 rfl rfl ?_
    refine AW.iconst X (v := 1) dX5_planned_37 rfl ?_
    refine AW.callV_i X (c_X5_fail hT 1) (ci := 18) (q := (RX5, TX5, 74)) (by first | assumption | exact hT _ _ rfl) rfl s_X5_323_18 (by omega) (Nat.le_of_ble_eq_true rfl) rfl rfl (Nat.le_of_ble_eq_true rfl) dX5_planned_38 ?_
    intro r38 I38 h38
    obtain ⟨rfl, rfl⟩ := h38
    refine AW.ireturn X E ?_ dX5_planned_41 
    exact ⟨rfl, rfl, rfl, ⟨_, rfl⟩, w2_s _ _ _ _, FM.cod.tr FM.cod⟩
  · intro f10
    refine AW.iload_n X dX5_planned_13 rfl rfl ?_
    refine AW.iconst X (v := 0) dX5_planned_14 rfl ?_
    first | refine AW.aload_n X dX5_planned_15 rfl rfl ?_ | refine AW.aloadN_n X dX5_planned_15 rfl rfl ?_
    refine AW.getI X f_X5_152_18 (by first | assumption | exact hT _ _ rfl) dX5_planned_16 ?_
    rw [v53]
    refine AW.iconst X (v := 1) dX5_planned_19 rfl ?_
    refine AW.isub X dX5_planned_20 ?_
    refine AW.callS_r X (c_X5_isIn i 0 (I 200 53 - 1)) s_X5_197 (by omega) (Nat.le_of_ble_eq_true rfl) rfl rfl (Nat.le_of_ble_eq_true rfl) dX5_planned_21 ?_
    rw [bI_f (fun z => by
      rcases hn with hn | ⟨hn, hn2⟩
      · exact f10 hn
      · rw [hn] at z hb
        exact hb ⟨nI_m1 (by omega), (le_lt (by omega)).mp z⟩)]
    refine AW.if_eq X (tgt := 36) dX5_planned_24 rfl ?_ ?_
    · intro t24
      first | refine AW.aload_n X dX5_planned_36 rfl rfl ?_ | refine AW.aloadN_n X dX5_planned_36 rfl rfl ?_
      refine AW.iconst X (v := 1) dX5_planned_37 rfl ?_
      refine AW.callV_i X (c_X5_fail hT 1) (ci := 18) (q := (RX5, TX5, 74)) (by first | assumption | exact hT _ _ rfl) rfl s_X5_323_18 (by omega) (Nat.le_of_ble_eq_true rfl) rfl rfl (Nat.le_of_ble_eq_true rfl) dX5_planned_38 ?_
      intro r38 I38 h38
      obtain ⟨rfl, rfl⟩ := h38
      refine AW.ireturn X E ?_ dX5_planned_41 
      exact ⟨rfl, rfl, rfl, ⟨_, rfl⟩, w2_s _ _ _ _, FM.cod.tr FM.cod⟩
    · intro f24
      exact absurd rfl f24
def ubt (v : Int32) (j : Nat) : Int32 := v >>> (nI (24 - 8 * j) &&& 31) &&& 255
def FeedM (t n : Nat) (a b c d e : Int32) (I I' : KI) : Prop := (∀ x, x ≠ 324 → x ≠ 200 → I' x = I x) ∧ (∀ k, k ≠ 25 → I' 200 k = I 200 k) ∧ I' 200 25 = nI (t + n) ∧ (∀ j, j < t → I' 324 j = I 324 j) ∧ ∀ j, j < n → I' 324 (t + j) = ubt (ag5 a b c d e j) (j % 4)
theorem c_X5_feed {t : Nat} {a b c d e : Int32} (hT : XT T) (hR : XRf R) (ht : I 200 25 = nI t) (ht2 : t ≤ 700) : MX5_feed 1 0 [.ref 200, .int a, .int b, .int c, .int d, .int e] T I R J (qI (fun r I' => if t + 20 ≤ 700 then r = some (.int (nI (t + 20))) ∧ FeedM t 20 a b c d e (w2 I 200 3 0) I' else r = some (.int (-1)) ∧ I' = w2 I 200 3 0) T R J) noX := by
  have v25 : w2 I 200 3 0 200 25 = nI t := (w2_n2 (by omega)).trans ht
  refine AMet.of (by decide) (Nat.le_of_ble_eq_true rfl) (cats1 rfl) fun cx X E => ?_
  show AW _ _ _ (_ :: _ :: _ :: _ :: _ :: _ :: _ :: _ :: []) _ _ _ _ _
  have lp : t + 20 ≤ 700 → ∀ k j (I' : KI) v7, j + k = 20 → FeedM t j a b c d e (w2 I 200 3 0) I' → AW cx 0 23 [.ref 200, .int a, .int b, .int c, .int d, .int e, .int (nI j), v7] [] T I' R J := by
    intro hle k
    induction k with
    | zero =>
      intro j I' v7 hk hi
      obtain rfl : j = 20 := by omega
      refine AW.iload X dX5_feed_23 rfl ?_
      refine AW.bipush X (v := 20) dX5_feed_25 rfl ?_
      refine AW.icmp_ge X (tgt := 120) dX5_feed_27 rfl ?_ ?_
      · intro t27
        first | refine AW.aload_n X dX5_feed_120 rfl rfl ?_ | refine AW.aloadN_n X dX5_feed_120 rfl rfl ?_
        refine AW.getI X f_X5_201_18 (by first | assumption | exact hT _ _ rfl) dX5_feed_121 ?_
        rw [hi.2.2.1]
        refine AW.ireturn X E ?_ dX5_feed_124 
        exact ⟨rfl, rfl, rfl, by dsimp only; rw [if_pos hle]; exact ⟨rfl, hi⟩⟩
      · intro f27
        exact absurd (by decide) f27
    | succ k ih =>
      intro j I' v7 hk hi
      obtain ⟨i1, i2, i3, i4, i5⟩ := hi
      have fin : ∀ w, w = ag5 a b c d e j → AW cx 0 76 [.ref 200, .int a, .int b, .int c, .int d, .int e, .int (nI j), v7] [.int w] T I' R J := by
        intro w hw
        refine AW.istore7 X dX5_feed_76 ?_
        first | refine AW.aload_n X dX5_feed_78 rfl rfl ?_ | refine AW.aloadN_n X dX5_feed_78 rfl rfl ?_
        refine AW.getR X f_X5_106_18 (by first | assumption | exact hT _ _ rfl) (by first | assumption | exact hR _ _ _ rfl) dX5_feed_79 ?_
        first | refine AW.aload_n X dX5_feed_82 rfl rfl ?_ | refine AW.aloadN_n X dX5_feed_82 rfl rfl ?_
        refine AW.getI X f_X5_201_18 (by first | assumption | exact hT _ _ rfl) dX5_feed_83 ?_
        rw [i3]
        refine AW.iload X dX5_feed_86 rfl ?_
        refine AW.bipush X (v := 24) dX5_feed_88 rfl ?_
        refine AW.bipush X (v := 8) dX5_feed_90 rfl ?_
        refine AW.iload X dX5_feed_92 rfl ?_
        refine AW.iconst X (v := 4) dX5_feed_94 rfl ?_
        refine AW.irem X dX5_feed_95 (by decide) ?_
        rw [show nI j - nI j / 4 * 4 = nI (j % 4) from nI_rem (c := 4) (by omega) (by omega)]
        refine AW.imul X dX5_feed_96 ?_
        rw [show (8 : Int32) * nI (j % 4) = nI (8 * (j % 4)) from nI_mul 8 _]
        refine AW.isub X dX5_feed_97 ?_
        rw [show (24 : Int32) - nI (8 * (j % 4)) = nI (24 - 8 * (j % 4)) from nI_sub (a := 24) (by omega)]
        refine AW.ishr X dX5_feed_98 ?_
        refine AW.sipush X (v := 255) dX5_feed_99 rfl ?_
        refine AW.iand X dX5_feed_102 ?_
        refine AW.iast X (j := t + j) (by omega) (by first | assumption | exact hT _ _ rfl) (by repeat (first | with_reducible exact rfl | assumption | exact ix_l _ | apply ix_add | apply ix_mul)) (by omega) dX5_feed_103 ?_
        first | refine AW.aload_n X dX5_feed_104 rfl rfl ?_ | refine AW.aloadN_n X dX5_feed_104 rfl rfl ?_
        refine AW.dup X dX5_feed_105 rfl ?_
        refine AW.getI X f_X5_201_18 (by first | assumption | exact hT _ _ rfl) dX5_feed_106 ?_
        rw [w2_n1 (by omega), i3]
        refine AW.iconst X (v := 1) dX5_feed_109 rfl ?_
        refine AW.iadd X dX5_feed_110 ?_
        rw [nI_1]
        refine AW.putI X g_X5_feed_201_18 (by omega) (by first | assumption | exact hT _ _ rfl) dX5_feed_111 ?_ 
        refine AW.iinc6 X (v := _ + 1) dX5_feed_114 rfl ?_
        refine AW.goto X (tgt := 23) dX5_feed_117 rfl ?_
        rw [nI_1]
        refine ih (j + 1) _ _ (by omega) ⟨fun x x1 x2 => ?_, fun k hk => ?_, ?_, fun j' hj' => ?_, fun j' hj' => ?_⟩
        · rw [w2_r x2, w2_r x1]; exact i1 x x1 x2
        · rw [w2_n2 hk, w2_r (by omega)]; exact i2 k hk
        · rw [w2_s]; rfl
        · rw [w2_n1 (by omega), w2_n2 (by omega)]; exact i4 j' hj'
        · rw [w2_n1 (by omega)]
          by_cases hx : j' = j
          · subst hx; rw [w2_s, hw]; rfl
          · rw [w2_n2 (by omega)]; exact i5 j' (by omega)
      have c4 : ∀ {m : Nat}, m < 20 → nI m ≤ nI j → m ≤ j := fun hm h => (nI_leI (by omega) (by omega)).mp h
      have d4 : ∀ {m : Nat}, m < 20 → ¬ nI m ≤ nI j → j < m := fun {m} hm h => by
        rcases Nat.lt_or_ge j m with hz | hz
        · exact hz
        · exact absurd (nI_le hz (by omega)) h
      refine AW.iload X dX5_feed_23 rfl ?_
      refine AW.bipush X (v := 20) dX5_feed_25 rfl ?_
      refine AW.icmp_ge X (tgt := 120) dX5_feed_27 rfl ?_ ?_
      · intro t27
        exact absurd t27 (nI_ge (b := 20) (by omega) (by omega))
      · intro f27
        refine AW.iload X dX5_feed_30 rfl ?_
        refine AW.iconst X (v := 4) dX5_feed_32 rfl ?_
        refine AW.icmp_ge X (tgt := 40) dX5_feed_33 rfl ?_ ?_
        · intro t33
          have t4 : ¬ j < 4 := Nat.not_lt.mpr (c4 (m := 4) (by omega) t33)
          refine AW.iload X dX5_feed_40 rfl ?_
          refine AW.bipush X (v := 8) dX5_feed_42 rfl ?_
          refine AW.icmp_ge X (tgt := 51) dX5_feed_44 rfl ?_ ?_
          · intro t44
            have t8 : ¬ j < 8 := Nat.not_lt.mpr (c4 (m := 8) (by omega) t44)
            refine AW.iload X dX5_feed_51 rfl ?_
            refine AW.bipush X (v := 12) dX5_feed_53 rfl ?_
            refine AW.icmp_ge X (tgt := 62) dX5_feed_55 rfl ?_ ?_
            · intro t55
              have t12 : ¬ j < 12 := Nat.not_lt.mpr (c4 (m := 12) (by omega) t55)
              refine AW.iload X dX5_feed_62 rfl ?_
              refine AW.bipush X (v := 16) dX5_feed_64 rfl ?_
              refine AW.icmp_ge X (tgt := 74) dX5_feed_66 rfl ?_ ?_
              · intro t66
                have t16 : ¬ j < 16 := Nat.not_lt.mpr (c4 (m := 16) (by omega) t66)
                refine AW.iload X dX5_feed_74 rfl ?_
                first
                  | exact fin a (by unfold ag5; rw [if_pos t4])
                  | exact fin b (by unfold ag5; rw [if_neg t4, if_pos t8])
                  | exact fin c (by unfold ag5; rw [if_neg t4, if_neg t8, if_pos t12])
                  | exact fin d (by unfold ag5; rw [if_neg t4, if_neg t8, if_neg t12, if_pos t16])
                  | exact fin e (by unfold ag5; rw [if_neg t4, if_neg t8, if_neg t12, if_neg t16])
              · intro f66
                have t16 : j < 16 := d4 (m := 16) (by omega) f66
                refine AW.iload X dX5_feed_69 rfl ?_
                refine AW.goto X (tgt := 76) dX5_feed_71 rfl ?_
                first
                  | exact fin a (by unfold ag5; rw [if_pos t4])
                  | exact fin b (by unfold ag5; rw [if_neg t4, if_pos t8])
                  | exact fin c (by unfold ag5; rw [if_neg t4, if_neg t8, if_pos t12])
                  | exact fin d (by unfold ag5; rw [if_neg t4, if_neg t8, if_neg t12, if_pos t16])
                  | exact fin e (by unfold ag5; rw [if_neg t4, if_neg t8, if_neg t12, if_neg t16])
            · intro f55
              have t12 : j < 12 := d4 (m := 12) (by omega) f55
              refine AW.iload_n X dX5_feed_58 rfl rfl ?_
              refine AW.goto X (tgt := 76) dX5_feed_59 rfl ?_
              first
                | exact fin a (by unfold ag5; rw [if_pos t4])
                | exact fin b (by unfold ag5; rw [if_neg t4, if_pos t8])
                | exact fin c (by unfold ag5; rw [if_neg t4, if_neg t8, if_pos t12])
                | exact fin d (by unfold ag5; rw [if_neg t4, if_neg t8, if_neg t12, if_pos t16])
                | exact fin e (by unfold ag5; rw [if_neg t4, if_neg t8, if_neg t12, if_neg t16])
          · intro f44
            have t8 : j < 8 := d4 (m := 8) (by omega) f44
            refine AW.iload_n X dX5_feed_47 rfl rfl ?_
            refine AW.goto X (tgt := 76) dX5_feed_48 rfl ?_
            first
              | exact fin a (by unfold ag5; rw [if_pos t4])
              | exact fin b (by unfold ag5; rw [if_neg t4, if_pos t8])
              | exact fin c (by unfold ag5; rw [if_neg t4, if_neg t8, if_pos t12])
              | exact fin d (by unfold ag5; rw [if_neg t4, if_neg t8, if_neg t12, if_pos t16])
              | exact fin e (by unfold ag5; rw [if_neg t4, if_neg t8, if_neg t12, if_neg t16])
        · intro f33
          have t4 : j < 4 := d4 (m := 4) (by omega) f33
          refine AW.iload_n X dX5_feed_36 rfl rfl ?_
          refine AW.goto X (tgt := 76) dX5_feed_37 rfl ?_
          first
            | exact fin a (by unfold ag5; rw [if_pos t4])
            | exact fin b (by unfold ag5; rw [if_neg t4, if_pos t8])
            | exact fin c (by unfold ag5; rw [if_neg t4, if_neg t8, if_pos t12])
            | exact fin d (by unfold ag5; rw [if_neg t4, if_neg t8, if_neg t12, if_pos t16])
            | exact fin e (by unfold ag5; rw [if_neg t4, if_neg t8, if_neg t12, if_neg t16])
  first | refine AW.aload_n X dX5_feed_0 rfl rfl ?_ | refine AW.aloadN_n X dX5_feed_0 rfl rfl ?_
  refine AW.iconst X (v := 0) dX5_feed_1 rfl ?_
  refine AW.putI X g_X5_feed_194_18 (by omega) (by first | assumption | exact hT _ _ rfl) dX5_feed_2 ?_ 
  first | refine AW.aload_n X dX5_feed_5 rfl rfl ?_ | refine AW.aloadN_n X dX5_feed_5 rfl rfl ?_
  refine AW.getI X f_X5_201_18 (by first | assumption | exact hT _ _ rfl) dX5_feed_6 ?_
  rw [v25]
  refine AW.bipush X (v := 20) dX5_feed_9 rfl ?_
  refine AW.iadd X dX5_feed_11 ?_
  refine AW.sipush X (v := 700) dX5_feed_12 rfl ?_
  refine AW.icmp_le X (tgt := 20) dX5_feed_15 rfl ?_ ?_
  · intro t15
    have hle : t + 20 ≤ 700 := by
      have h9 : nI t + nI 20 ≤ nI 700 := t15
      rw [nI_add] at h9
      exact (nI_leI (by omega) (by omega)).mp h9
    refine AW.iconst X (v := 0) dX5_feed_20 rfl ?_
    refine AW.istore6 X dX5_feed_21 ?_
    exact lp hle 20 0 _ _ rfl ⟨fun _ _ _ => rfl, fun _ _ => rfl, v25, fun _ _ => rfl, fun _ h => absurd h (Nat.not_lt_zero _)⟩
  · intro f15
    have hgt : ¬ t + 20 ≤ 700 := fun z => f15 (show nI t + nI 20 ≤ nI 700 by rw [nI_add]; exact nI_le z (by omega))
    refine AW.iconst X (v := -1) dX5_feed_18 rfl ?_
    refine AW.ireturn X E ?_ dX5_feed_19 
    exact ⟨rfl, rfl, rfl, by dsimp only; rw [if_neg hgt]; exact ⟨rfl, rfl⟩⟩
theorem c_X5_be {x z n : Nat} (hx : T x = (2, n)) (hz : T z = (2, n)) (h1 : 100 ≤ x) (hxz : z ≠ x) (hn : n < 100) : MX5_be 0 0 [.ref x, .ref z] T I R J (qI (fun r I' => r = none ∧ (∀ a, a ≠ x → I' a = I a) ∧ ∀ j, j < n → I' x j = I z j) T R J) noX := by
  refine AMet.of (by decide) (Nat.le_of_ble_eq_true rfl) (cats1 rfl) fun cx X E => ?_
  show AW _ _ _ (_ :: _ :: _ :: []) _ _ _ _ _
  have lp : ∀ k j (I' : KI), j + k = n → (∀ a, a ≠ x → I' a = I a) → (∀ j', j' < j → I' x j' = I z j') → AW cx 0 2 [.ref x, .ref z, .int (nI j)] [] T I' R J := by
    intro k
    induction k with
    | zero =>
      intro j I' hk hf hl
      obtain rfl : j = n := by omega
      refine AW.iload_n X dX5_be_2 rfl rfl ?_
      first | refine AW.aload_n X dX5_be_3 rfl rfl ?_ | refine AW.aloadN_n X dX5_be_3 rfl rfl ?_
      first | refine AW.alen X (by first | assumption | exact hT _ _ rfl) rfl dX5_be_4 ?_ | refine AW.alenQ X (by first | assumption | exact hT _ _ rfl) rfl dX5_be_4 ?_
      refine AW.icmp_ge X (tgt := 20) dX5_be_5 rfl ?_ ?_
      · intro t5
        refine AW.vreturn X E ?_ dX5_be_20
        exact ⟨rfl, rfl, rfl, rfl, hf, hl⟩
      · intro f5
        exact absurd (Int32.le_refl _) f5
    | succ k ih =>
      intro j I' hk hf hl
      refine AW.iload_n X dX5_be_2 rfl rfl ?_
      first | refine AW.aload_n X dX5_be_3 rfl rfl ?_ | refine AW.aloadN_n X dX5_be_3 rfl rfl ?_
      first | refine AW.alen X (by first | assumption | exact hT _ _ rfl) rfl dX5_be_4 ?_ | refine AW.alenQ X (by first | assumption | exact hT _ _ rfl) rfl dX5_be_4 ?_
      refine AW.icmp_ge X (tgt := 20) dX5_be_5 rfl ?_ ?_
      · intro t5
        exact absurd t5 (nI_ge (by omega) (by omega))
      · intro f5
        first | refine AW.aload_n X dX5_be_8 rfl rfl ?_ | refine AW.aloadN_n X dX5_be_8 rfl rfl ?_
        refine AW.iload_n X dX5_be_9 rfl rfl ?_
        first | refine AW.aload_n X dX5_be_10 rfl rfl ?_ | refine AW.aloadN_n X dX5_be_10 rfl rfl ?_
        refine AW.iload_n X dX5_be_11 rfl rfl ?_
        refine AW.iald X (j := j) (by first | assumption | exact hT _ _ rfl) (by repeat (first | with_reducible exact rfl | assumption | exact ix_l _ | apply ix_add | apply ix_mul)) (by omega) dX5_be_12 ?_
        rw [hf z hxz]
        refine AW.iast X (j := j) (by omega) (by first | assumption | exact hT _ _ rfl) (by repeat (first | with_reducible exact rfl | assumption | exact ix_l _ | apply ix_add | apply ix_mul)) (by omega) dX5_be_13 ?_
        refine AW.iinc2 X (v := _ + 1) dX5_be_14 rfl ?_
        refine AW.goto X (tgt := 2) dX5_be_17 rfl ?_
        rw [nI_1]
        refine ih (j + 1) _ (by omega) (fun a ha => by rw [w2_r ha]; exact hf a ha) (fun j' hj' => ?_)
        by_cases hc : j' = j
        · subst hc; rw [w2_s]
        · rw [w2_n2 hc]; exact hl j' (by omega)
  refine AW.iconst X (v := 0) dX5_be_0 rfl ?_
  refine AW.istore2 X dX5_be_1 ?_
  exact lp n 0 I (by omega) (fun _ _ => rfl) (fun _ h => absurd h (Nat.not_lt_zero _))
def ImgP (I I' : KI) : Prop := (∀ a, a ≠ 200 → (a < 367 ∨ 373 < a) → I' a = I a) ∧ I' 200 = (w2 (w2 (w2 (w2 (w2 I 200 3 0) 200 63 1) 200 64 (I 200 44)) 200 65 (I 200 45)) 200 66 (I 200 46)) 200 ∧ (∀ j, j < 52 → I' 367 j = I 337 j ∧ I' 368 j = I 338 j ∧ I' 369 j = I 339 j) ∧ (∀ j, j < 12 → I' 370 j = I 357 j ∧ I' 371 j = I 358 j ∧ I' 372 j = I 359 j) ∧ ∀ j, j < 3 → I' 373 j = I 323 j
theorem c_X5_image (hT : XT T) (hR : XRf R) : MX5_image 3 0 [.ref 200] T I R J (qI (fun r I' => r = none ∧ ImgP I I') T R J) noX := by
  refine AMet.of (by decide) (Nat.le_of_ble_eq_true rfl) (cats1 rfl) fun cx X E => ?_
  show AW _ _ _ (_ :: []) _ _ _ _ _
  first | refine AW.aload_n X dX5_image_0 rfl rfl ?_ | refine AW.aloadN_n X dX5_image_0 rfl rfl ?_
  refine AW.iconst X (v := 0) dX5_image_1 rfl ?_
  refine AW.putI X g_X5_image_194_18 (by omega) (by first | assumption | exact hT _ _ rfl) dX5_image_2 ?_ 
  first | refine AW.aload_n X dX5_image_5 rfl rfl ?_ | refine AW.aloadN_n X dX5_image_5 rfl rfl ?_
  refine AW.iconst X (v := 1) dX5_image_6 rfl ?_
  refine AW.putI X g_X5_image_345_18 (by omega) (by first | assumption | exact hT _ _ rfl) dX5_image_7 ?_ 
  first | refine AW.aload_n X dX5_image_10 rfl rfl ?_ | refine AW.aloadN_n X dX5_image_10 rfl rfl ?_
  first | refine AW.aload_n X dX5_image_11 rfl rfl ?_ | refine AW.aloadN_n X dX5_image_11 rfl rfl ?_
  refine AW.getI X f_X5_337_18 (by first | assumption | exact hT _ _ rfl) dX5_image_12 ?_
  rw [w2_n2 (by omega), w2_n2 (by omega)]
  refine AW.putI X g_X5_image_462_18 (by omega) (by first | assumption | exact hT _ _ rfl) dX5_image_15 ?_ 
  first | refine AW.aload_n X dX5_image_18 rfl rfl ?_ | refine AW.aloadN_n X dX5_image_18 rfl rfl ?_
  first | refine AW.aload_n X dX5_image_19 rfl rfl ?_ | refine AW.aloadN_n X dX5_image_19 rfl rfl ?_
  refine AW.getI X f_X5_340_18 (by first | assumption | exact hT _ _ rfl) dX5_image_20 ?_
  rw [w2_n2 (by omega), w2_n2 (by omega), w2_n2 (by omega)]
  refine AW.putI X g_X5_image_465_18 (by omega) (by first | assumption | exact hT _ _ rfl) dX5_image_23 ?_ 
  first | refine AW.aload_n X dX5_image_26 rfl rfl ?_ | refine AW.aloadN_n X dX5_image_26 rfl rfl ?_
  first | refine AW.aload_n X dX5_image_27 rfl rfl ?_ | refine AW.aloadN_n X dX5_image_27 rfl rfl ?_
  refine AW.getI X f_X5_342_18 (by first | assumption | exact hT _ _ rfl) dX5_image_28 ?_
  rw [w2_n2 (by omega), w2_n2 (by omega), w2_n2 (by omega), w2_n2 (by omega)]
  refine AW.putI X g_X5_image_468_18 (by omega) (by first | assumption | exact hT _ _ rfl) dX5_image_31 ?_ 
  first | refine AW.aload_n X dX5_image_34 rfl rfl ?_ | refine AW.aloadN_n X dX5_image_34 rfl rfl ?_
  refine AW.getR X f_X5_173_18 (by first | assumption | exact hT _ _ rfl) (by first | assumption | exact hR _ _ _ rfl) dX5_image_35 ?_
  first | refine AW.aload_n X dX5_image_38 rfl rfl ?_ | refine AW.aloadN_n X dX5_image_38 rfl rfl ?_
  refine AW.getR X f_X5_113_18 (by first | assumption | exact hT _ _ rfl) (by first | assumption | exact hR _ _ _ rfl) dX5_image_39 ?_
  refine AW.callS_i X (c_X5_be (x := 367) (z := 337) (n := 52) (hT _ _ rfl) (hT _ _ rfl) (by omega) (by omega) (by omega)) s_X5_423 (by omega) (Nat.le_of_ble_eq_true rfl) rfl rfl (Nat.le_of_ble_eq_true rfl) dX5_image_42 ?_
  intro r42 I42 h42
  obtain ⟨rfl, b42, c42⟩ := h42
  first | refine AW.aload_n X dX5_image_45 rfl rfl ?_ | refine AW.aloadN_n X dX5_image_45 rfl rfl ?_
  refine AW.getR X f_X5_176_18 (by first | assumption | exact hT _ _ rfl) (by first | assumption | exact hR _ _ _ rfl) dX5_image_46 ?_
  first | refine AW.aload_n X dX5_image_49 rfl rfl ?_ | refine AW.aloadN_n X dX5_image_49 rfl rfl ?_
  refine AW.getR X f_X5_116_18 (by first | assumption | exact hT _ _ rfl) (by first | assumption | exact hR _ _ _ rfl) dX5_image_50 ?_
  refine AW.callS_i X (c_X5_be (x := 368) (z := 338) (n := 52) (hT _ _ rfl) (hT _ _ rfl) (by omega) (by omega) (by omega)) s_X5_423 (by omega) (Nat.le_of_ble_eq_true rfl) rfl rfl (Nat.le_of_ble_eq_true rfl) dX5_image_53 ?_
  intro r53 I53 h53
  obtain ⟨rfl, b53, c53⟩ := h53
  first | refine AW.aload_n X dX5_image_56 rfl rfl ?_ | refine AW.aloadN_n X dX5_image_56 rfl rfl ?_
  refine AW.getR X f_X5_179_18 (by first | assumption | exact hT _ _ rfl) (by first | assumption | exact hR _ _ _ rfl) dX5_image_57 ?_
  first | refine AW.aload_n X dX5_image_60 rfl rfl ?_ | refine AW.aloadN_n X dX5_image_60 rfl rfl ?_
  refine AW.getR X f_X5_119_18 (by first | assumption | exact hT _ _ rfl) (by first | assumption | exact hR _ _ _ rfl) dX5_image_61 ?_
  refine AW.callS_i X (c_X5_be (x := 369) (z := 339) (n := 52) (hT _ _ rfl) (hT _ _ rfl) (by omega) (by omega) (by omega)) s_X5_423 (by omega) (Nat.le_of_ble_eq_true rfl) rfl rfl (Nat.le_of_ble_eq_true rfl) dX5_image_64 ?_
  intro r64 I64 h64
  obtain ⟨rfl, b64, c64⟩ := h64
  first | refine AW.aload_n X dX5_image_67 rfl rfl ?_ | refine AW.aloadN_n X dX5_image_67 rfl rfl ?_
  refine AW.getR X f_X5_182_18 (by first | assumption | exact hT _ _ rfl) (by first | assumption | exact hR _ _ _ rfl) dX5_image_68 ?_
  first | refine AW.aload_n X dX5_image_71 rfl rfl ?_ | refine AW.aloadN_n X dX5_image_71 rfl rfl ?_
  refine AW.getR X f_X5_158_18 (by first | assumption | exact hT _ _ rfl) (by first | assumption | exact hR _ _ _ rfl) dX5_image_72 ?_
  refine AW.callS_i X (c_X5_be (x := 370) (z := 357) (n := 12) (hT _ _ rfl) (hT _ _ rfl) (by omega) (by omega) (by omega)) s_X5_423 (by omega) (Nat.le_of_ble_eq_true rfl) rfl rfl (Nat.le_of_ble_eq_true rfl) dX5_image_75 ?_
  intro r75 I75 h75
  obtain ⟨rfl, b75, c75⟩ := h75
  first | refine AW.aload_n X dX5_image_78 rfl rfl ?_ | refine AW.aloadN_n X dX5_image_78 rfl rfl ?_
  refine AW.getR X f_X5_185_18 (by first | assumption | exact hT _ _ rfl) (by first | assumption | exact hR _ _ _ rfl) dX5_image_79 ?_
  first | refine AW.aload_n X dX5_image_82 rfl rfl ?_ | refine AW.aloadN_n X dX5_image_82 rfl rfl ?_
  refine AW.getR X f_X5_161_18 (by first | assumption | exact hT _ _ rfl) (by first | assumption | exact hR _ _ _ rfl) dX5_image_83 ?_
  refine AW.callS_i X (c_X5_be (x := 371) (z := 358) (n := 12) (hT _ _ rfl) (hT _ _ rfl) (by omega) (by omega) (by omega)) s_X5_423 (by omega) (Nat.le_of_ble_eq_true rfl) rfl rfl (Nat.le_of_ble_eq_true rfl) dX5_image_86 ?_
  intro r86 I86 h86
  obtain ⟨rfl, b86, c86⟩ := h86
  first | refine AW.aload_n X dX5_image_89 rfl rfl ?_ | refine AW.aloadN_n X dX5_image_89 rfl rfl ?_
  refine AW.getR X f_X5_188_18 (by first | assumption | exact hT _ _ rfl) (by first | assumption | exact hR _ _ _ rfl) dX5_image_90 ?_
  first | refine AW.aload_n X dX5_image_93 rfl rfl ?_ | refine AW.aloadN_n X dX5_image_93 rfl rfl ?_
  refine AW.getR X f_X5_164_18 (by first | assumption | exact hT _ _ rfl) (by first | assumption | exact hR _ _ _ rfl) dX5_image_94 ?_
  refine AW.callS_i X (c_X5_be (x := 372) (z := 359) (n := 12) (hT _ _ rfl) (hT _ _ rfl) (by omega) (by omega) (by omega)) s_X5_423 (by omega) (Nat.le_of_ble_eq_true rfl) rfl rfl (Nat.le_of_ble_eq_true rfl) dX5_image_97 ?_
  intro r97 I97 h97
  obtain ⟨rfl, b97, c97⟩ := h97
  first | refine AW.aload_n X dX5_image_100 rfl rfl ?_ | refine AW.aloadN_n X dX5_image_100 rfl rfl ?_
  refine AW.getR X f_X5_191_18 (by first | assumption | exact hT _ _ rfl) (by first | assumption | exact hR _ _ _ rfl) dX5_image_101 ?_
  first | refine AW.aload_n X dX5_image_104 rfl rfl ?_ | refine AW.aloadN_n X dX5_image_104 rfl rfl ?_
  refine AW.getR X f_X5_103_18 (by first | assumption | exact hT _ _ rfl) (by first | assumption | exact hR _ _ _ rfl) dX5_image_105 ?_
  refine AW.callS_i X (c_X5_be (x := 373) (z := 323) (n := 3) (hT _ _ rfl) (hT _ _ rfl) (by omega) (by omega) (by omega)) s_X5_423 (by omega) (Nat.le_of_ble_eq_true rfl) rfl rfl (Nat.le_of_ble_eq_true rfl) dX5_image_108 ?_
  intro r108 I108 h108
  obtain ⟨rfl, b108, c108⟩ := h108
  refine AW.vreturn X E ?_ dX5_image_111
  refine ⟨rfl, rfl, rfl, rfl, fun a a1 a2 => ?_, ?_, fun j hj => ⟨?_, ?_, ?_⟩, fun j hj => ⟨?_, ?_, ?_⟩, fun j hj => ?_⟩
  · rw [b108 a (by omega), b97 a (by omega), b86 a (by omega), b75 a (by omega), b64 a (by omega), b53 a (by omega), b42 a (by omega), w2_r a1, w2_r a1, w2_r a1, w2_r a1, w2_r a1]
  · rw [b108 200 (by omega), b97 200 (by omega), b86 200 (by omega), b75 200 (by omega), b64 200 (by omega), b53 200 (by omega), b42 200 (by omega)]
  · rw [b108 367 (by omega), b97 367 (by omega), b86 367 (by omega), b75 367 (by omega), b64 367 (by omega), b53 367 (by omega), c42 j hj, w2_n1 (by omega), w2_n1 (by omega), w2_n1 (by omega), w2_n1 (by omega), w2_n1 (by omega)]
  · rw [b108 368 (by omega), b97 368 (by omega), b86 368 (by omega), b75 368 (by omega), b64 368 (by omega), c53 j hj, b42 338 (by omega), w2_n1 (by omega), w2_n1 (by omega), w2_n1 (by omega), w2_n1 (by omega), w2_n1 (by omega)]
  · rw [b108 369 (by omega), b97 369 (by omega), b86 369 (by omega), b75 369 (by omega), c64 j hj, b53 339 (by omega), b42 339 (by omega), w2_n1 (by omega), w2_n1 (by omega), w2_n1 (by omega), w2_n1 (by omega), w2_n1 (by omega)]
  · rw [b108 370 (by omega), b97 370 (by omega), b86 370 (by omega), c75 j hj, b64 357 (by omega), b53 357 (by omega), b42 357 (by omega), w2_n1 (by omega), w2_n1 (by omega), w2_n1 (by omega), w2_n1 (by omega), w2_n1 (by omega)]
  · rw [b108 371 (by omega), b97 371 (by omega), c86 j hj, b75 358 (by omega), b64 358 (by omega), b53 358 (by omega), b42 358 (by omega), w2_n1 (by omega), w2_n1 (by omega), w2_n1 (by omega), w2_n1 (by omega), w2_n1 (by omega)]
  · rw [b108 372 (by omega), c97 j hj, b86 359 (by omega), b75 359 (by omega), b64 359 (by omega), b53 359 (by omega), b42 359 (by omega), w2_n1 (by omega), w2_n1 (by omega), w2_n1 (by omega), w2_n1 (by omega), w2_n1 (by omega)]
  · rw [c108 j hj, b97 323 (by omega), b86 323 (by omega), b75 323 (by omega), b64 323 (by omega), b53 323 (by omega), b42 323 (by omega), w2_n1 (by omega), w2_n1 (by omega), w2_n1 (by omega), w2_n1 (by omega), w2_n1 (by omega)]
def ResP (I I' : KI) : Prop := (∀ a, a ≠ 200 → a ≠ 323 → (a < 337 ∨ 339 < a) → (a < 357 ∨ 359 < a) → I' a = I a) ∧ I' 200 = (w2 (w2 (w2 (w2 I 200 3 0) 200 44 (I 200 64)) 200 45 (I 200 65)) 200 46 (I 200 66)) 200 ∧ (∀ j, j < 52 → I' 337 j = I 367 j ∧ I' 338 j = I 368 j ∧ I' 339 j = I 369 j) ∧ (∀ j, j < 12 → I' 357 j = I 370 j ∧ I' 358 j = I 371 j ∧ I' 359 j = I 372 j) ∧ ∀ j, j < 3 → I' 323 j = I 373 j
theorem c_X5_restore (hT : XT T) (hR : XRf R) : MX5_restore 3 0 [.ref 200] T I R J (qI (fun r I' => if I 200 63 = 0 then r = some (.int 0) ∧ I' = w2 I 200 3 0 else r = some (.int 1) ∧ ResP I I') T R J) noX := by
  refine AMet.of (by decide) (Nat.le_of_ble_eq_true rfl) (cats1 rfl) fun cx X E => ?_
  show AW _ _ _ (_ :: []) _ _ _ _ _
  first | refine AW.aload_n X dX5_restore_0 rfl rfl ?_ | refine AW.aloadN_n X dX5_restore_0 rfl rfl ?_
  refine AW.iconst X (v := 0) dX5_restore_1 rfl ?_
  refine AW.putI X g_X5_restore_194_18 (by omega) (by first | assumption | exact hT _ _ rfl) dX5_restore_2 ?_ 
  first | refine AW.aload_n X dX5_restore_5 rfl rfl ?_ | refine AW.aloadN_n X dX5_restore_5 rfl rfl ?_
  refine AW.getI X f_X5_345_18 (by first | assumption | exact hT _ _ rfl) dX5_restore_6 ?_
  rw [w2_n2 (by omega)]
  refine AW.if_ne X (tgt := 14) dX5_restore_9 rfl ?_ ?_
  · intro t9
    first | refine AW.aload_n X dX5_restore_14 rfl rfl ?_ | refine AW.aloadN_n X dX5_restore_14 rfl rfl ?_
    first | refine AW.aload_n X dX5_restore_15 rfl rfl ?_ | refine AW.aloadN_n X dX5_restore_15 rfl rfl ?_
    refine AW.getI X f_X5_462_18 (by first | assumption | exact hT _ _ rfl) dX5_restore_16 ?_
    rw [w2_n2 (by omega)]
    refine AW.putI X g_X5_restore_337_18 (by omega) (by first | assumption | exact hT _ _ rfl) dX5_restore_19 ?_ 
    first | refine AW.aload_n X dX5_restore_22 rfl rfl ?_ | refine AW.aloadN_n X dX5_restore_22 rfl rfl ?_
    first | refine AW.aload_n X dX5_restore_23 rfl rfl ?_ | refine AW.aloadN_n X dX5_restore_23 rfl rfl ?_
    refine AW.getI X f_X5_465_18 (by first | assumption | exact hT _ _ rfl) dX5_restore_24 ?_
    rw [w2_n2 (by omega), w2_n2 (by omega)]
    refine AW.putI X g_X5_restore_340_18 (by omega) (by first | assumption | exact hT _ _ rfl) dX5_restore_27 ?_ 
    first | refine AW.aload_n X dX5_restore_30 rfl rfl ?_ | refine AW.aloadN_n X dX5_restore_30 rfl rfl ?_
    first | refine AW.aload_n X dX5_restore_31 rfl rfl ?_ | refine AW.aloadN_n X dX5_restore_31 rfl rfl ?_
    refine AW.getI X f_X5_468_18 (by first | assumption | exact hT _ _ rfl) dX5_restore_32 ?_
    rw [w2_n2 (by omega), w2_n2 (by omega), w2_n2 (by omega)]
    refine AW.putI X g_X5_restore_342_18 (by omega) (by first | assumption | exact hT _ _ rfl) dX5_restore_35 ?_ 
    first | refine AW.aload_n X dX5_restore_38 rfl rfl ?_ | refine AW.aloadN_n X dX5_restore_38 rfl rfl ?_
    refine AW.getR X f_X5_113_18 (by first | assumption | exact hT _ _ rfl) (by first | assumption | exact hR _ _ _ rfl) dX5_restore_39 ?_
    first | refine AW.aload_n X dX5_restore_42 rfl rfl ?_ | refine AW.aloadN_n X dX5_restore_42 rfl rfl ?_
    refine AW.getR X f_X5_173_18 (by first | assumption | exact hT _ _ rfl) (by first | assumption | exact hR _ _ _ rfl) dX5_restore_43 ?_
    refine AW.callS_i X (c_X5_be (x := 337) (z := 367) (n := 52) (hT _ _ rfl) (hT _ _ rfl) (by omega) (by omega) (by omega)) s_X5_423 (by omega) (Nat.le_of_ble_eq_true rfl) rfl rfl (Nat.le_of_ble_eq_true rfl) dX5_restore_46 ?_
    intro r46 I46 h46
    obtain ⟨rfl, b46, c46⟩ := h46
    first | refine AW.aload_n X dX5_restore_49 rfl rfl ?_ | refine AW.aloadN_n X dX5_restore_49 rfl rfl ?_
    refine AW.getR X f_X5_116_18 (by first | assumption | exact hT _ _ rfl) (by first | assumption | exact hR _ _ _ rfl) dX5_restore_50 ?_
    first | refine AW.aload_n X dX5_restore_53 rfl rfl ?_ | refine AW.aloadN_n X dX5_restore_53 rfl rfl ?_
    refine AW.getR X f_X5_176_18 (by first | assumption | exact hT _ _ rfl) (by first | assumption | exact hR _ _ _ rfl) dX5_restore_54 ?_
    refine AW.callS_i X (c_X5_be (x := 338) (z := 368) (n := 52) (hT _ _ rfl) (hT _ _ rfl) (by omega) (by omega) (by omega)) s_X5_423 (by omega) (Nat.le_of_ble_eq_true rfl) rfl rfl (Nat.le_of_ble_eq_true rfl) dX5_restore_57 ?_
    intro r57 I57 h57
    obtain ⟨rfl, b57, c57⟩ := h57
    first | refine AW.aload_n X dX5_restore_60 rfl rfl ?_ | refine AW.aloadN_n X dX5_restore_60 rfl rfl ?_
    refine AW.getR X f_X5_119_18 (by first | assumption | exact hT _ _ rfl) (by first | assumption | exact hR _ _ _ rfl) dX5_restore_61 ?_
    first | refine AW.aload_n X dX5_restore_64 rfl rfl ?_ | refine AW.aloadN_n X dX5_restore_64 rfl rfl ?_
    refine AW.getR X f_X5_179_18 (by first | assumption | exact hT _ _ rfl) (by first | assumption | exact hR _ _ _ rfl) dX5_restore_65 ?_
    refine AW.callS_i X (c_X5_be (x := 339) (z := 369) (n := 52) (hT _ _ rfl) (hT _ _ rfl) (by omega) (by omega) (by omega)) s_X5_423 (by omega) (Nat.le_of_ble_eq_true rfl) rfl rfl (Nat.le_of_ble_eq_true rfl) dX5_restore_68 ?_
    intro r68 I68 h68
    obtain ⟨rfl, b68, c68⟩ := h68
    first | refine AW.aload_n X dX5_restore_71 rfl rfl ?_ | refine AW.aloadN_n X dX5_restore_71 rfl rfl ?_
    refine AW.getR X f_X5_158_18 (by first | assumption | exact hT _ _ rfl) (by first | assumption | exact hR _ _ _ rfl) dX5_restore_72 ?_
    first | refine AW.aload_n X dX5_restore_75 rfl rfl ?_ | refine AW.aloadN_n X dX5_restore_75 rfl rfl ?_
    refine AW.getR X f_X5_182_18 (by first | assumption | exact hT _ _ rfl) (by first | assumption | exact hR _ _ _ rfl) dX5_restore_76 ?_
    refine AW.callS_i X (c_X5_be (x := 357) (z := 370) (n := 12) (hT _ _ rfl) (hT _ _ rfl) (by omega) (by omega) (by omega)) s_X5_423 (by omega) (Nat.le_of_ble_eq_true rfl) rfl rfl (Nat.le_of_ble_eq_true rfl) dX5_restore_79 ?_
    intro r79 I79 h79
    obtain ⟨rfl, b79, c79⟩ := h79
    first | refine AW.aload_n X dX5_restore_82 rfl rfl ?_ | refine AW.aloadN_n X dX5_restore_82 rfl rfl ?_
    refine AW.getR X f_X5_161_18 (by first | assumption | exact hT _ _ rfl) (by first | assumption | exact hR _ _ _ rfl) dX5_restore_83 ?_
    first | refine AW.aload_n X dX5_restore_86 rfl rfl ?_ | refine AW.aloadN_n X dX5_restore_86 rfl rfl ?_
    refine AW.getR X f_X5_185_18 (by first | assumption | exact hT _ _ rfl) (by first | assumption | exact hR _ _ _ rfl) dX5_restore_87 ?_
    refine AW.callS_i X (c_X5_be (x := 358) (z := 371) (n := 12) (hT _ _ rfl) (hT _ _ rfl) (by omega) (by omega) (by omega)) s_X5_423 (by omega) (Nat.le_of_ble_eq_true rfl) rfl rfl (Nat.le_of_ble_eq_true rfl) dX5_restore_90 ?_
    intro r90 I90 h90
    obtain ⟨rfl, b90, c90⟩ := h90
    first | refine AW.aload_n X dX5_restore_93 rfl rfl ?_ | refine AW.aloadN_n X dX5_restore_93 rfl rfl ?_
    refine AW.getR X f_X5_164_18 (by first | assumption | exact hT _ _ rfl) (by first | assumption | exact hR _ _ _ rfl) dX5_restore_94 ?_
    first | refine AW.aload_n X dX5_restore_97 rfl rfl ?_ | refine AW.aloadN_n X dX5_restore_97 rfl rfl ?_
    refine AW.getR X f_X5_188_18 (by first | assumption | exact hT _ _ rfl) (by first | assumption | exact hR _ _ _ rfl) dX5_restore_98 ?_
    refine AW.callS_i X (c_X5_be (x := 359) (z := 372) (n := 12) (hT _ _ rfl) (hT _ _ rfl) (by omega) (by omega) (by omega)) s_X5_423 (by omega) (Nat.le_of_ble_eq_true rfl) rfl rfl (Nat.le_of_ble_eq_true rfl) dX5_restore_101 ?_
    intro r101 I101 h101
    obtain ⟨rfl, b101, c101⟩ := h101
    first | refine AW.aload_n X dX5_restore_104 rfl rfl ?_ | refine AW.aloadN_n X dX5_restore_104 rfl rfl ?_
    refine AW.getR X f_X5_103_18 (by first | assumption | exact hT _ _ rfl) (by first | assumption | exact hR _ _ _ rfl) dX5_restore_105 ?_
    first | refine AW.aload_n X dX5_restore_108 rfl rfl ?_ | refine AW.aloadN_n X dX5_restore_108 rfl rfl ?_
    refine AW.getR X f_X5_191_18 (by first | assumption | exact hT _ _ rfl) (by first | assumption | exact hR _ _ _ rfl) dX5_restore_109 ?_
    refine AW.callS_i X (c_X5_be (x := 323) (z := 373) (n := 3) (hT _ _ rfl) (hT _ _ rfl) (by omega) (by omega) (by omega)) s_X5_423 (by omega) (Nat.le_of_ble_eq_true rfl) rfl rfl (Nat.le_of_ble_eq_true rfl) dX5_restore_112 ?_
    intro r112 I112 h112
    obtain ⟨rfl, b112, c112⟩ := h112
    refine AW.iconst X (v := 1) dX5_restore_115 rfl ?_
    refine AW.ireturn X E ?_ dX5_restore_116 
    refine ⟨rfl, rfl, rfl, ?_⟩
    dsimp only
    rw [if_neg t9]
    refine ⟨rfl, fun a a1 a2 a3 a4 => ?_, ?_, fun j hj => ⟨?_, ?_, ?_⟩, fun j hj => ⟨?_, ?_, ?_⟩, fun j hj => ?_⟩
    · rw [b112 a (by omega), b101 a (by omega), b90 a (by omega), b79 a (by omega), b68 a (by omega), b57 a (by omega), b46 a (by omega), w2_r a1, w2_r a1, w2_r a1, w2_r a1]
    · rw [b112 200 (by omega), b101 200 (by omega), b90 200 (by omega), b79 200 (by omega), b68 200 (by omega), b57 200 (by omega), b46 200 (by omega)]
    · rw [b112 337 (by omega), b101 337 (by omega), b90 337 (by omega), b79 337 (by omega), b68 337 (by omega), b57 337 (by omega), c46 j hj, w2_n1 (by omega), w2_n1 (by omega), w2_n1 (by omega), w2_n1 (by omega)]
    · rw [b112 338 (by omega), b101 338 (by omega), b90 338 (by omega), b79 338 (by omega), b68 338 (by omega), c57 j hj, b46 368 (by omega), w2_n1 (by omega), w2_n1 (by omega), w2_n1 (by omega), w2_n1 (by omega)]
    · rw [b112 339 (by omega), b101 339 (by omega), b90 339 (by omega), b79 339 (by omega), c68 j hj, b57 369 (by omega), b46 369 (by omega), w2_n1 (by omega), w2_n1 (by omega), w2_n1 (by omega), w2_n1 (by omega)]
    · rw [b112 357 (by omega), b101 357 (by omega), b90 357 (by omega), c79 j hj, b68 370 (by omega), b57 370 (by omega), b46 370 (by omega), w2_n1 (by omega), w2_n1 (by omega), w2_n1 (by omega), w2_n1 (by omega)]
    · rw [b112 358 (by omega), b101 358 (by omega), c90 j hj, b79 371 (by omega), b68 371 (by omega), b57 371 (by omega), b46 371 (by omega), w2_n1 (by omega), w2_n1 (by omega), w2_n1 (by omega), w2_n1 (by omega)]
    · rw [b112 359 (by omega), c101 j hj, b90 372 (by omega), b79 372 (by omega), b68 372 (by omega), b57 372 (by omega), b46 372 (by omega), w2_n1 (by omega), w2_n1 (by omega), w2_n1 (by omega), w2_n1 (by omega)]
    · rw [c112 j hj, b101 373 (by omega), b90 373 (by omega), b79 373 (by omega), b68 373 (by omega), b57 373 (by omega), b46 373 (by omega), w2_n1 (by omega), w2_n1 (by omega), w2_n1 (by omega), w2_n1 (by omega)]
  · intro f9
    refine AW.iconst X (v := 0) dX5_restore_12 rfl ?_
    refine AW.ireturn X E ?_ dX5_restore_13 
    exact ⟨rfl, rfl, rfl, by dsimp only; rw [if_pos f9]; exact ⟨rfl, rfl⟩⟩
end MW
