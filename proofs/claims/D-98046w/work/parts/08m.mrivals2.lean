/-! 08m: the model's rivals, 2 (steps printed by src/walk.py) -/
set_option maxRecDepth 100000
set_option maxHeartbeats 4000000
section MRW
variable {T : KT} {R : KR} {J : KJ} {N : KI}
theorem c_X5_restsAt {h x y : Nat} {I : KI} (hS : MS T I R N) (hG : GaP N h 100 (I 356)) (hx : x ≤ nE N) (hy : y ≤ nE N) (hm : mayP N x y) : MX5_restsAt 1 0 [.ref 200, .int (nI x), .int (nI y)] T I R J (qR (some (.int (bI (restP N h x y (nE N + 1))))) T I R J) noX := by
  have hS0 := hS
  obtain ⟨hT, hR, hV, hN, hM⟩ := hS
  obtain ⟨⟨n1, n2, n3, n4, hnq, hne, hns, hnh⟩, -⟩ := id hN
  have v304 := hV.1 304 (by omega) (by omega)
  have gxy := hG x y hx hy (by omega) hm
  refine AMet.of (by decide) (Nat.le_of_ble_eq_true rfl) (cats1 rfl) fun cx X E => ?_
  show AW _ _ _ (_ :: _ :: _ :: _ :: []) _ _ _ _ _
  have lp : ∀ j c, c + j = nE N + 1 → restP N h x y c → AW cx 0 2 [.ref 200, .int (nI x), .int (nI y), .int (nI c)] [] T I R J := by
    intro j
    induction j with
    | zero =>
      intro c hc hr
      obtain rfl : c = nE N + 1 := by omega
      rw [bI_t hr] at E
      refine AW.iload_n X dX5_restsAt_2 rfl rfl ?_
      first | refine AW.aload_n X dX5_restsAt_3 rfl rfl ?_ | refine AW.aloadN_n X dX5_restsAt_3 rfl rfl ?_
      refine AW.getR X f_X5_45_18 (by first | assumption | exact hT _ _ rfl) (by first | assumption | exact hR _ _ _ rfl) dX5_restsAt_4 ?_
      refine AW.iconst X (v := 1) dX5_restsAt_7 rfl ?_
      refine AW.iald X (j := 1) (by first | assumption | exact hT _ _ rfl) (by repeat (first | with_reducible exact rfl | assumption | exact ix_l _ | apply ix_add | apply ix_mul)) (by omega) dX5_restsAt_8 ?_
      rw [v304, n2]
      refine AW.icmp_gt X (tgt := 102) dX5_restsAt_9 rfl ?_ ?_
      · intro t9
        refine AW.iconst X (v := 1) dX5_restsAt_102 rfl ?_
        exact AW.ireturn X E ⟨rfl, rfl, rfl, rfl, rfl⟩ dX5_restsAt_103 (hnar := by first | rfl | (unfold bI; split <;> rfl))
      · intro f9
        exact absurd (nI_lt (by omega) (by omega)) f9
    | succ j ih =>
      intro c hc hr
      have hcE : c ≤ nE N := by omega
      have bad : ¬ (¬ (hisP N c 0 ∧ gA N h x y < gA N h c y) ∧ ¬ (hisP N c 1 ∧ gB N h x y < gB N h x c)) → bI (restP N h x y (nE N + 1)) = 0 := fun hb => bI_f (fun z => hb (z c (by omega)))
      refine AW.iload_n X dX5_restsAt_2 rfl rfl ?_
      first | refine AW.aload_n X dX5_restsAt_3 rfl rfl ?_ | refine AW.aloadN_n X dX5_restsAt_3 rfl rfl ?_
      refine AW.getR X f_X5_45_18 (by first | assumption | exact hT _ _ rfl) (by first | assumption | exact hR _ _ _ rfl) dX5_restsAt_4 ?_
      refine AW.iconst X (v := 1) dX5_restsAt_7 rfl ?_
      refine AW.iald X (j := 1) (by first | assumption | exact hT _ _ rfl) (by repeat (first | with_reducible exact rfl | assumption | exact ix_l _ | apply ix_add | apply ix_mul)) (by omega) dX5_restsAt_8 ?_
      rw [v304, n2]
      refine AW.icmp_gt X (tgt := 102) dX5_restsAt_9 rfl ?_ ?_
      · intro t9
        exact absurd t9 (nI_nlt (by omega) (by omega))
      · intro f9
        first | refine AW.aload_n X dX5_restsAt_12 rfl rfl ?_ | refine AW.aloadN_n X dX5_restsAt_12 rfl rfl ?_
        refine AW.iconst X (v := 0) dX5_restsAt_13 rfl ?_
        refine AW.iload_n X dX5_restsAt_14 rfl rfl ?_
        refine AW.callV_r X (c_X5_mayFeed hS0 hcE) (ci := 18) (q := (RX5, TX5, 74)) (by first | assumption | exact hT _ _ rfl) rfl s_X5_442_18 (by omega) (Nat.le_of_ble_eq_true rfl) rfl rfl (Nat.le_of_ble_eq_true rfl) dX5_restsAt_15 ?_
        refine AW.if_eq X (tgt := 52) dX5_restsAt_18 rfl ?_ ?_
        · intro t18
          have q0 : ¬ (hisP N c 0 ∧ gA N h x y < gA N h c y) := fun z => bI_z.mp t18 z.1
          first | refine AW.aload_n X dX5_restsAt_52 rfl rfl ?_ | refine AW.aloadN_n X dX5_restsAt_52 rfl rfl ?_
          refine AW.iconst X (v := 1) dX5_restsAt_53 rfl ?_
          refine AW.iload_n X dX5_restsAt_54 rfl rfl ?_
          refine AW.callV_r X (c_X5_mayFeed hS0 hcE) (ci := 18) (q := (RX5, TX5, 74)) (by first | assumption | exact hT _ _ rfl) rfl s_X5_442_18 (by omega) (Nat.le_of_ble_eq_true rfl) rfl rfl (Nat.le_of_ble_eq_true rfl) dX5_restsAt_55 ?_
          refine AW.if_eq X (tgt := 96) dX5_restsAt_58 rfl ?_ ?_
          · intro t58
            have q1 : ¬ (hisP N c 1 ∧ gB N h x y < gB N h x c) := fun z => bI_z.mp t58 z.1
            refine AW.iinc3 X (v := _ + 1) dX5_restsAt_96 rfl ?_
            refine AW.goto X (tgt := 2) dX5_restsAt_99 rfl ?_
            rw [nI_1]; exact ih (c + 1) (by omega) (fun c' hc' => by
              rcases Nat.lt_or_eq_of_le (Nat.le_of_lt_succ hc') with hl | rfl
              · exact hr c' hl
              · exact ⟨q0, q1⟩)
          · intro f58
            have m1 : hisP N c 1 := Decidable.of_not_not fun z => f58 (bI_z.mpr z)
            first | refine AW.aload_n X dX5_restsAt_61 rfl rfl ?_ | refine AW.aloadN_n X dX5_restsAt_61 rfl rfl ?_
            refine AW.getR X f_X5_155_18 (by first | assumption | exact hT _ _ rfl) (by first | assumption | exact hR _ _ _ rfl) dX5_restsAt_62 ?_
            refine AW.iconst X (v := 2) dX5_restsAt_65 rfl ?_
            refine AW.bipush X (v := 7) dX5_restsAt_66 rfl ?_
            refine AW.iload_n X dX5_restsAt_68 rfl rfl ?_
            refine AW.imul X dX5_restsAt_69 ?_
            refine AW.iload_n X dX5_restsAt_70 rfl rfl ?_
            refine AW.iadd X dX5_restsAt_71 ?_
            refine AW.imul X dX5_restsAt_72 ?_
            refine AW.iconst X (v := 1) dX5_restsAt_73 rfl ?_
            refine AW.iadd X dX5_restsAt_74 ?_
            refine AW.iald X (j := 2 * (7 * x + c) + 1) (by first | assumption | exact hT _ _ rfl) (by repeat (first | with_reducible exact rfl | assumption | exact ix_l _ | apply ix_add | apply ix_mul)) (by omega) dX5_restsAt_75 ?_
            rw [(hG x c hx hcE (by omega) ⟨hm.1, m1⟩).2]
            first | refine AW.aload_n X dX5_restsAt_76 rfl rfl ?_ | refine AW.aloadN_n X dX5_restsAt_76 rfl rfl ?_
            refine AW.getR X f_X5_155_18 (by first | assumption | exact hT _ _ rfl) (by first | assumption | exact hR _ _ _ rfl) dX5_restsAt_77 ?_
            refine AW.iconst X (v := 2) dX5_restsAt_80 rfl ?_
            refine AW.bipush X (v := 7) dX5_restsAt_81 rfl ?_
            refine AW.iload_n X dX5_restsAt_83 rfl rfl ?_
            refine AW.imul X dX5_restsAt_84 ?_
            refine AW.iload_n X dX5_restsAt_85 rfl rfl ?_
            refine AW.iadd X dX5_restsAt_86 ?_
            refine AW.imul X dX5_restsAt_87 ?_
            refine AW.iconst X (v := 1) dX5_restsAt_88 rfl ?_
            refine AW.iadd X dX5_restsAt_89 ?_
            refine AW.iald X (j := 2 * (7 * x + y) + 1) (by first | assumption | exact hT _ _ rfl) (by repeat (first | with_reducible exact rfl | assumption | exact ix_l _ | apply ix_add | apply ix_mul)) (by omega) dX5_restsAt_90 ?_
            rw [gxy.2]
            refine AW.icmp_le X (tgt := 96) dX5_restsAt_91 rfl ?_ ?_
            · intro t91
              have q1 : ¬ (hisP N c 1 ∧ gB N h x y < gB N h x c) := fun z => Int32.not_le.mpr z.2 t91
              refine AW.iinc3 X (v := _ + 1) dX5_restsAt_96 rfl ?_
              refine AW.goto X (tgt := 2) dX5_restsAt_99 rfl ?_
              rw [nI_1]; exact ih (c + 1) (by omega) (fun c' hc' => by
                rcases Nat.lt_or_eq_of_le (Nat.le_of_lt_succ hc') with hl | rfl
                · exact hr c' hl
                · exact ⟨q0, q1⟩)
            · intro f91
              rw [bad (fun z => z.2 ⟨m1, Int32.not_le.mp f91⟩)] at E
              refine AW.iconst X (v := 0) dX5_restsAt_94 rfl ?_
              exact AW.ireturn X E ⟨rfl, rfl, rfl, rfl, rfl⟩ dX5_restsAt_95 (hnar := by first | rfl | (unfold bI; split <;> rfl))
        · intro f18
          have m0 : hisP N c 0 := Decidable.of_not_not fun z => f18 (bI_z.mpr z)
          first | refine AW.aload_n X dX5_restsAt_21 rfl rfl ?_ | refine AW.aloadN_n X dX5_restsAt_21 rfl rfl ?_
          refine AW.getR X f_X5_155_18 (by first | assumption | exact hT _ _ rfl) (by first | assumption | exact hR _ _ _ rfl) dX5_restsAt_22 ?_
          refine AW.iconst X (v := 2) dX5_restsAt_25 rfl ?_
          refine AW.bipush X (v := 7) dX5_restsAt_26 rfl ?_
          refine AW.iload_n X dX5_restsAt_28 rfl rfl ?_
          refine AW.imul X dX5_restsAt_29 ?_
          refine AW.iload_n X dX5_restsAt_30 rfl rfl ?_
          refine AW.iadd X dX5_restsAt_31 ?_
          refine AW.imul X dX5_restsAt_32 ?_
          refine AW.iald X (j := 2 * (7 * c + y)) (by first | assumption | exact hT _ _ rfl) (by repeat (first | with_reducible exact rfl | assumption | exact ix_l _ | apply ix_add | apply ix_mul)) (by omega) dX5_restsAt_33 ?_
          rw [(hG c y hcE hy (by omega) ⟨m0, hm.2⟩).1]
          first | refine AW.aload_n X dX5_restsAt_34 rfl rfl ?_ | refine AW.aloadN_n X dX5_restsAt_34 rfl rfl ?_
          refine AW.getR X f_X5_155_18 (by first | assumption | exact hT _ _ rfl) (by first | assumption | exact hR _ _ _ rfl) dX5_restsAt_35 ?_
          refine AW.iconst X (v := 2) dX5_restsAt_38 rfl ?_
          refine AW.bipush X (v := 7) dX5_restsAt_39 rfl ?_
          refine AW.iload_n X dX5_restsAt_41 rfl rfl ?_
          refine AW.imul X dX5_restsAt_42 ?_
          refine AW.iload_n X dX5_restsAt_43 rfl rfl ?_
          refine AW.iadd X dX5_restsAt_44 ?_
          refine AW.imul X dX5_restsAt_45 ?_
          refine AW.iald X (j := 2 * (7 * x + y)) (by first | assumption | exact hT _ _ rfl) (by repeat (first | with_reducible exact rfl | assumption | exact ix_l _ | apply ix_add | apply ix_mul)) (by omega) dX5_restsAt_46 ?_
          rw [gxy.1]
          refine AW.icmp_le X (tgt := 52) dX5_restsAt_47 rfl ?_ ?_
          · intro t47
            have q0 : ¬ (hisP N c 0 ∧ gA N h x y < gA N h c y) := fun z => Int32.not_le.mpr z.2 t47
            first | refine AW.aload_n X dX5_restsAt_52 rfl rfl ?_ | refine AW.aloadN_n X dX5_restsAt_52 rfl rfl ?_
            refine AW.iconst X (v := 1) dX5_restsAt_53 rfl ?_
            refine AW.iload_n X dX5_restsAt_54 rfl rfl ?_
            refine AW.callV_r X (c_X5_mayFeed hS0 hcE) (ci := 18) (q := (RX5, TX5, 74)) (by first | assumption | exact hT _ _ rfl) rfl s_X5_442_18 (by omega) (Nat.le_of_ble_eq_true rfl) rfl rfl (Nat.le_of_ble_eq_true rfl) dX5_restsAt_55 ?_
            refine AW.if_eq X (tgt := 96) dX5_restsAt_58 rfl ?_ ?_
            · intro t58
              have q1 : ¬ (hisP N c 1 ∧ gB N h x y < gB N h x c) := fun z => bI_z.mp t58 z.1
              refine AW.iinc3 X (v := _ + 1) dX5_restsAt_96 rfl ?_
              refine AW.goto X (tgt := 2) dX5_restsAt_99 rfl ?_
              rw [nI_1]; exact ih (c + 1) (by omega) (fun c' hc' => by
                rcases Nat.lt_or_eq_of_le (Nat.le_of_lt_succ hc') with hl | rfl
                · exact hr c' hl
                · exact ⟨q0, q1⟩)
            · intro f58
              have m1 : hisP N c 1 := Decidable.of_not_not fun z => f58 (bI_z.mpr z)
              first | refine AW.aload_n X dX5_restsAt_61 rfl rfl ?_ | refine AW.aloadN_n X dX5_restsAt_61 rfl rfl ?_
              refine AW.getR X f_X5_155_18 (by first | assumption | exact hT _ _ rfl) (by first | assumption | exact hR _ _ _ rfl) dX5_restsAt_62 ?_
              refine AW.iconst X (v := 2) dX5_restsAt_65 rfl ?_
              refine AW.bipush X (v := 7) dX5_restsAt_66 rfl ?_
              refine AW.iload_n X dX5_restsAt_68 rfl rfl ?_
              refine AW.imul X dX5_restsAt_69 ?_
              refine AW.iload_n X dX5_restsAt_70 rfl rfl ?_
              refine AW.iadd X dX5_restsAt_71 ?_
              refine AW.imul X dX5_restsAt_72 ?_
              refine AW.iconst X (v := 1) dX5_restsAt_73 rfl ?_
              refine AW.iadd X dX5_restsAt_74 ?_
              refine AW.iald X (j := 2 * (7 * x + c) + 1) (by first | assumption | exact hT _ _ rfl) (by repeat (first | with_reducible exact rfl | assumption | exact ix_l _ | apply ix_add | apply ix_mul)) (by omega) dX5_restsAt_75 ?_
              rw [(hG x c hx hcE (by omega) ⟨hm.1, m1⟩).2]
              first | refine AW.aload_n X dX5_restsAt_76 rfl rfl ?_ | refine AW.aloadN_n X dX5_restsAt_76 rfl rfl ?_
              refine AW.getR X f_X5_155_18 (by first | assumption | exact hT _ _ rfl) (by first | assumption | exact hR _ _ _ rfl) dX5_restsAt_77 ?_
              refine AW.iconst X (v := 2) dX5_restsAt_80 rfl ?_
              refine AW.bipush X (v := 7) dX5_restsAt_81 rfl ?_
              refine AW.iload_n X dX5_restsAt_83 rfl rfl ?_
              refine AW.imul X dX5_restsAt_84 ?_
              refine AW.iload_n X dX5_restsAt_85 rfl rfl ?_
              refine AW.iadd X dX5_restsAt_86 ?_
              refine AW.imul X dX5_restsAt_87 ?_
              refine AW.iconst X (v := 1) dX5_restsAt_88 rfl ?_
              refine AW.iadd X dX5_restsAt_89 ?_
              refine AW.iald X (j := 2 * (7 * x + y) + 1) (by first | assumption | exact hT _ _ rfl) (by repeat (first | with_reducible exact rfl | assumption | exact ix_l _ | apply ix_add | apply ix_mul)) (by omega) dX5_restsAt_90 ?_
              rw [gxy.2]
              refine AW.icmp_le X (tgt := 96) dX5_restsAt_91 rfl ?_ ?_
              · intro t91
                have q1 : ¬ (hisP N c 1 ∧ gB N h x y < gB N h x c) := fun z => Int32.not_le.mpr z.2 t91
                refine AW.iinc3 X (v := _ + 1) dX5_restsAt_96 rfl ?_
                refine AW.goto X (tgt := 2) dX5_restsAt_99 rfl ?_
                rw [nI_1]; exact ih (c + 1) (by omega) (fun c' hc' => by
                  rcases Nat.lt_or_eq_of_le (Nat.le_of_lt_succ hc') with hl | rfl
                  · exact hr c' hl
                  · exact ⟨q0, q1⟩)
              · intro f91
                rw [bad (fun z => z.2 ⟨m1, Int32.not_le.mp f91⟩)] at E
                refine AW.iconst X (v := 0) dX5_restsAt_94 rfl ?_
                exact AW.ireturn X E ⟨rfl, rfl, rfl, rfl, rfl⟩ dX5_restsAt_95 (hnar := by first | rfl | (unfold bI; split <;> rfl))
          · intro f47
            rw [bad (fun z => z.1 ⟨m0, Int32.not_le.mp f47⟩)] at E
            refine AW.iconst X (v := 0) dX5_restsAt_50 rfl ?_
            exact AW.ireturn X E ⟨rfl, rfl, rfl, rfl, rfl⟩ dX5_restsAt_51 (hnar := by first | rfl | (unfold bI; split <;> rfl))
  refine AW.iconst X (v := 0) dX5_restsAt_0 rfl ?_
  refine AW.istore3 X dX5_restsAt_1 ?_
  exact lp (nE N + 1) 0 (by omega) (fun _ h => absurd h (Nat.not_lt_zero _))
theorem c_X5_rivals {h : Nat} {w : Int32} {I : KI} (hS : MS T I R N) (h20 : nM N ≤ 20) (hh : h < 24) (hw : w = 0 ∨ w = 1) : MX5_rivals 10 0 [.ref 200, .int (nI h), .int w] T I R J (qM (some (.int (if w = 0 then (rvS N h (nE N + 1) ((nE N + 1) * (nE N + 1))).1 else (rvS N h (nE N + 1) ((nE N + 1) * (nE N + 1))).2))) (nM N) T I R J) noX := by
  have hS0 := hS
  have hS1 : MS T (w2 I 200 3 0) R N := hS.cod
  obtain ⟨hT, hR, hV, hN, hM⟩ := hS
  obtain ⟨⟨n1, n2, n3, n4, hnq, hne, hns, hnh⟩, -⟩ := id hN
  generalize hm : nE N + 1 = m
  refine AMet.of (by decide) (Nat.le_of_ble_eq_true rfl) (cats1 rfl) fun cx X E => ?_
  show AW _ _ _ (_ :: _ :: _ :: _ :: _ :: _ :: _ :: []) _ _ _ _ _
  have main : ∀ I1 : KI, FM (nM N) I I1 → I1 200 3 = 0 → GaP N h 100 (I1 356) → AW cx 0 32 [.ref 200, .int (nI h), .int w, .retAddr 0, .retAddr 0, .retAddr 0, .retAddr 0] [] T I1 R J := by
    intro I1 hf h3 hG
    have hS2 := hS0.fm hf
    have w304 : I1 304 = N 304 := hS2.2.2.1.1 304 (by omega) (by omega)
    have inn : ∀ x, x < m → (∀ v6, AW cx 0 40 [.ref 200, .int (nI h), .int w, .int (rvS N h m (m * (x + 1))).1, .int (rvS N h m (m * (x + 1))).2, .int (nI (x + 1)), v6] [] T I1 R J) → ∀ j y, y + j = m → AW cx 0 54 [.ref 200, .int (nI h), .int w, .int (rvS N h m (m * x + y)).1, .int (rvS N h m (m * x + y)).2, .int (nI x), .int (nI y)] [] T I1 R J := by
      intro x hx hk j
      induction j with
      | zero =>
        intro y hy
        obtain rfl : y = m := by omega
        rw [show y * x + y = y * (x + 1) by rw [Nat.mul_add, Nat.mul_one]]
        refine AW.iload X dX5_rivals_54 rfl ?_
        first | refine AW.aload_n X dX5_rivals_56 rfl rfl ?_ | refine AW.aloadN_n X dX5_rivals_56 rfl rfl ?_
        refine AW.getR X f_X5_45_18 (by first | assumption | exact hT _ _ rfl) (by first | assumption | exact hR _ _ _ rfl) dX5_rivals_57 ?_
        refine AW.iconst X (v := 1) dX5_rivals_60 rfl ?_
        refine AW.iald X (j := 1) (by first | assumption | exact hT _ _ rfl) (by repeat (first | with_reducible exact rfl | assumption | exact ix_l _ | apply ix_add | apply ix_mul)) (by omega) dX5_rivals_61 ?_
        rw [w304, n2]
        refine AW.icmp_gt X (tgt := 129) dX5_rivals_62 rfl ?_ ?_
        · intro t62
          refine AW.iinc5 X (v := _ + 1) dX5_rivals_129 rfl ?_
          refine AW.goto X (tgt := 40) dX5_rivals_132 rfl ?_
          rw [nI_1]; exact hk _
        · intro f62
          exact absurd (nI_lt (by omega) (by omega)) f62
      | succ j ih =>
        intro y hy
        have hE := ih (y + 1) (by omega)
        have hdiv : (m * x + y) / m = x := by rw [Nat.mul_add_div (by omega), Nat.div_eq_of_lt (by omega), Nat.add_zero]
        have hmod : (m * x + y) % m = y := by rw [Nat.mul_add_mod, Nat.mod_eq_of_lt (by omega)]
        have hst : rvS N h m (m * x + (y + 1)) = if mayP N x y ∧ restP N h x y m then ((rvS N h m (m * x + y)).1 + 1, if (rvS N h m (m * x + y)).2 = -1 then nI (8 * x + y) else (rvS N h m (m * x + y)).2) else rvS N h m (m * x + y) := by
          have h0 : rvS N h m (m * x + (y + 1)) = if mayP N ((m * x + y) / m) ((m * x + y) % m) ∧ restP N h ((m * x + y) / m) ((m * x + y) % m) m then ((rvS N h m (m * x + y)).1 + 1, if (rvS N h m (m * x + y)).2 = -1 then nI (8 * ((m * x + y) / m) + (m * x + y) % m) else (rvS N h m (m * x + y)).2) else rvS N h m (m * x + y) := rfl
          rw [h0]
          simp only [hdiv, hmod]
        have no : ¬ (mayP N x y ∧ restP N h x y m) → AW cx 0 123 [.ref 200, .int (nI h), .int w, .int (rvS N h m (m * x + y)).1, .int (rvS N h m (m * x + y)).2, .int (nI x), .int (nI y)] [] T I1 R J := by
          intro hn
          rw [hst, if_neg hn] at hE
          refine AW.iinc6 X (v := _ + 1) dX5_rivals_123 rfl ?_
          refine AW.goto X (tgt := 54) dX5_rivals_126 rfl ?_
          rw [nI_1]; exact hE
        refine AW.iload X dX5_rivals_54 rfl ?_
        first | refine AW.aload_n X dX5_rivals_56 rfl rfl ?_ | refine AW.aloadN_n X dX5_rivals_56 rfl rfl ?_
        refine AW.getR X f_X5_45_18 (by first | assumption | exact hT _ _ rfl) (by first | assumption | exact hR _ _ _ rfl) dX5_rivals_57 ?_
        refine AW.iconst X (v := 1) dX5_rivals_60 rfl ?_
        refine AW.iald X (j := 1) (by first | assumption | exact hT _ _ rfl) (by repeat (first | with_reducible exact rfl | assumption | exact ix_l _ | apply ix_add | apply ix_mul)) (by omega) dX5_rivals_61 ?_
        rw [w304, n2]
        refine AW.icmp_gt X (tgt := 129) dX5_rivals_62 rfl ?_ ?_
        · intro t62
          exact absurd t62 (nI_nlt (by omega) (by omega))
        · intro f62
          first | refine AW.aload_n X dX5_rivals_65 rfl rfl ?_ | refine AW.aloadN_n X dX5_rivals_65 rfl rfl ?_
          refine AW.iconst X (v := 0) dX5_rivals_66 rfl ?_
          refine AW.iload X dX5_rivals_67 rfl ?_
          refine AW.callV_r X (c_X5_mayFeed hS2 (show x ≤ nE N by omega)) (ci := 18) (q := (RX5, TX5, 74)) (by first | assumption | exact hT _ _ rfl) rfl s_X5_442_18 (by omega) (Nat.le_of_ble_eq_true rfl) rfl rfl (Nat.le_of_ble_eq_true rfl) dX5_rivals_69 ?_
          refine AW.if_eq X (tgt := 123) dX5_rivals_72 rfl ?_ ?_
          · intro t72
            exact no (fun z => bI_z.mp t72 z.1.1)
          · intro f72
            first | refine AW.aload_n X dX5_rivals_75 rfl rfl ?_ | refine AW.aloadN_n X dX5_rivals_75 rfl rfl ?_
            refine AW.iconst X (v := 1) dX5_rivals_76 rfl ?_
            refine AW.iload X dX5_rivals_77 rfl ?_
            refine AW.callV_r X (c_X5_mayFeed hS2 (show y ≤ nE N by omega)) (ci := 18) (q := (RX5, TX5, 74)) (by first | assumption | exact hT _ _ rfl) rfl s_X5_442_18 (by omega) (Nat.le_of_ble_eq_true rfl) rfl rfl (Nat.le_of_ble_eq_true rfl) dX5_rivals_79 ?_
            refine AW.if_eq X (tgt := 123) dX5_rivals_82 rfl ?_ ?_
            · intro t82
              exact no (fun z => bI_z.mp t82 z.1.2)
            · intro f82
              have hmay : mayP N x y := ⟨Decidable.of_not_not fun z => f72 (bI_z.mpr z), Decidable.of_not_not fun z => f82 (bI_z.mpr z)⟩
              first | refine AW.aload_n X dX5_rivals_85 rfl rfl ?_ | refine AW.aloadN_n X dX5_rivals_85 rfl rfl ?_
              refine AW.iload X dX5_rivals_86 rfl ?_
              refine AW.iload X dX5_rivals_88 rfl ?_
              refine AW.callV_r X (c_X5_restsAt hS2 hG (show x ≤ nE N by omega) (show y ≤ nE N by omega) hmay) (ci := 18) (q := (RX5, TX5, 74)) (by first | assumption | exact hT _ _ rfl) rfl s_X5_448_18 (by omega) (Nat.le_of_ble_eq_true rfl) rfl rfl (Nat.le_of_ble_eq_true rfl) dX5_rivals_90 ?_
              rw [hm]
              refine AW.if_ne X (tgt := 99) dX5_rivals_93 rfl ?_ ?_
              · intro t93
                rw [hst, if_pos ⟨hmay, Decidable.of_not_not fun z => t93 (bI_z.mpr z)⟩] at hE
                refine AW.iinc3 X (v := _ + 1) dX5_rivals_99 rfl ?_
                refine AW.iload X dX5_rivals_102 rfl ?_
                refine AW.iconst X (v := -1) dX5_rivals_104 rfl ?_
                refine AW.icmp_ne X (tgt := 119) dX5_rivals_105 rfl ?_ ?_
                · intro t105
                  rw [if_neg t105] at hE
                  refine AW.iload X dX5_rivals_119 rfl ?_
                  first
                    | (refine AW.istore4 X dX5_rivals_121 ?_
                       refine AW.iinc6 X (v := _ + 1) dX5_rivals_123 rfl ?_
                       refine AW.goto X (tgt := 54) dX5_rivals_126 rfl ?_
                       rw [nI_1]
                       exact hE)
                    | (refine AW.istore4 X dX5_rivals_121 ?_
                       refine AW.iinc6 X (v := _ + 1) dX5_rivals_123 rfl ?_
                       refine AW.goto X (tgt := 54) dX5_rivals_126 rfl ?_
                       rw [nI_1]
                       rw [← nI_add, show nI (8 * x) = 8 * nI x from (nI_mul 8 x).symm] at hE
                       exact hE)
                · intro f105
                  rw [if_pos f105] at hE
                  refine AW.bipush X (v := 8) dX5_rivals_108 rfl ?_
                  refine AW.iload X dX5_rivals_110 rfl ?_
                  refine AW.imul X dX5_rivals_112 ?_
                  refine AW.iload X dX5_rivals_113 rfl ?_
                  refine AW.iadd X dX5_rivals_115 ?_
                  refine AW.goto X (tgt := 121) dX5_rivals_116 rfl ?_
                  first
                    | (refine AW.istore4 X dX5_rivals_121 ?_
                       refine AW.iinc6 X (v := _ + 1) dX5_rivals_123 rfl ?_
                       refine AW.goto X (tgt := 54) dX5_rivals_126 rfl ?_
                       rw [nI_1]
                       exact hE)
                    | (refine AW.istore4 X dX5_rivals_121 ?_
                       refine AW.iinc6 X (v := _ + 1) dX5_rivals_123 rfl ?_
                       refine AW.goto X (tgt := 54) dX5_rivals_126 rfl ?_
                       rw [nI_1]
                       rw [← nI_add, show nI (8 * x) = 8 * nI x from (nI_mul 8 x).symm] at hE
                       exact hE)
              · intro f93
                refine AW.goto X (tgt := 123) dX5_rivals_96 rfl ?_
                exact no (fun z => bI_z.mp f93 z.2)
    have lp : ∀ j x v6, x + j = m → AW cx 0 40 [.ref 200, .int (nI h), .int w, .int (rvS N h m (m * x)).1, .int (rvS N h m (m * x)).2, .int (nI x), v6] [] T I1 R J := by
      intro j
      induction j with
      | zero =>
        intro x v6 hx
        obtain rfl : x = m := by omega
        refine AW.iload X dX5_rivals_40 rfl ?_
        first | refine AW.aload_n X dX5_rivals_42 rfl rfl ?_ | refine AW.aloadN_n X dX5_rivals_42 rfl rfl ?_
        refine AW.getR X f_X5_45_18 (by first | assumption | exact hT _ _ rfl) (by first | assumption | exact hR _ _ _ rfl) dX5_rivals_43 ?_
        refine AW.iconst X (v := 1) dX5_rivals_46 rfl ?_
        refine AW.iald X (j := 1) (by first | assumption | exact hT _ _ rfl) (by repeat (first | with_reducible exact rfl | assumption | exact ix_l _ | apply ix_add | apply ix_mul)) (by omega) dX5_rivals_47 ?_
        rw [w304, n2]
        refine AW.icmp_gt X (tgt := 135) dX5_rivals_48 rfl ?_ ?_
        · intro t48
          refine AW.iload_n X dX5_rivals_135 rfl rfl ?_
          refine AW.if_ne X (tgt := 143) dX5_rivals_136 rfl ?_ ?_
          · intro t136
            rw [if_neg t136] at E
            refine AW.iload X dX5_rivals_143 rfl ?_
            refine AW.ireturn X E ?_ dX5_rivals_145 
            exact ⟨rfl, rfl, rfl, rfl, h3, hf⟩
          · intro f136
            rw [if_pos f136] at E
            refine AW.iload_n X dX5_rivals_139 rfl rfl ?_
            refine AW.goto X (tgt := 145) dX5_rivals_140 rfl ?_
            refine AW.ireturn X E ?_ dX5_rivals_145 
            exact ⟨rfl, rfl, rfl, rfl, h3, hf⟩
        · intro f48
          exact absurd (nI_lt (by omega) (by omega)) f48
      | succ j ih =>
        intro x v6 hx
        refine AW.iload X dX5_rivals_40 rfl ?_
        first | refine AW.aload_n X dX5_rivals_42 rfl rfl ?_ | refine AW.aloadN_n X dX5_rivals_42 rfl rfl ?_
        refine AW.getR X f_X5_45_18 (by first | assumption | exact hT _ _ rfl) (by first | assumption | exact hR _ _ _ rfl) dX5_rivals_43 ?_
        refine AW.iconst X (v := 1) dX5_rivals_46 rfl ?_
        refine AW.iald X (j := 1) (by first | assumption | exact hT _ _ rfl) (by repeat (first | with_reducible exact rfl | assumption | exact ix_l _ | apply ix_add | apply ix_mul)) (by omega) dX5_rivals_47 ?_
        rw [w304, n2]
        refine AW.icmp_gt X (tgt := 135) dX5_rivals_48 rfl ?_ ?_
        · intro t48
          exact absurd t48 (nI_nlt (by omega) (by omega))
        · intro f48
          refine AW.iconst X (v := 0) dX5_rivals_51 rfl ?_
          refine AW.istore6 X dX5_rivals_52 ?_
          exact inn x (by omega) (fun v6 => ih (x + 1) v6 (by omega)) m 0 (by omega)
    refine AW.iconst X (v := 0) dX5_rivals_32 rfl ?_
    refine AW.istore3 X dX5_rivals_33 ?_
    refine AW.iconst X (v := -1) dX5_rivals_34 rfl ?_
    refine AW.istore4 X dX5_rivals_35 ?_
    refine AW.iconst X (v := 0) dX5_rivals_37 rfl ?_
    refine AW.istore5 X dX5_rivals_38 ?_
    exact lp m 0 _ (by omega)
  first | refine AW.aload_n X dX5_rivals_0 rfl rfl ?_ | refine AW.aloadN_n X dX5_rivals_0 rfl rfl ?_
  refine AW.iconst X (v := 0) dX5_rivals_1 rfl ?_
  refine AW.putI X g_X5_rivals_194_18 (by omega) (by first | assumption | exact hT _ _ rfl) dX5_rivals_2 ?_ 
  refine AW.iload_n X dX5_rivals_5 rfl rfl ?_
  refine AW.callS_r X (c_X5_isHour (nI h)) s_X5_385 (by omega) (Nat.le_of_ble_eq_true rfl) rfl rfl (Nat.le_of_ble_eq_true rfl) dX5_rivals_6 ?_
  rw [bI_t ⟨nI_pos' (by omega), nI_le (b := 23) (by omega) (by omega)⟩]
  refine AW.if_eq X (tgt := 21) dX5_rivals_9 rfl ?_ ?_
  · intro t9
    exact absurd t9 (by decide)
  · intro f9
    refine AW.iload_n X dX5_rivals_12 rfl rfl ?_
    refine AW.if_lt X (tgt := 21) dX5_rivals_13 rfl ?_ ?_
    · intro t13
      exact absurd t13 (by rcases hw with rfl | rfl <;> decide)
    · intro f13
      refine AW.iload_n X dX5_rivals_16 rfl rfl ?_
      refine AW.iconst X (v := 1) dX5_rivals_17 rfl ?_
      refine AW.icmp_le X (tgt := 27) dX5_rivals_18 rfl ?_ ?_
      · intro t18
        first | refine AW.aload_n X dX5_rivals_27 rfl rfl ?_ | refine AW.aloadN_n X dX5_rivals_27 rfl rfl ?_
        refine AW.iload_n X dX5_rivals_28 rfl rfl ?_
        refine AW.callV_i X (c_X5_tellGains hS1 h20 hh) (ci := 18) (q := (RX5, TX5, 74)) (by first | assumption | exact hT _ _ rfl) rfl s_X5_445_18 (by omega) (Nat.le_of_ble_eq_true rfl) rfl rfl (Nat.le_of_ble_eq_true rfl) dX5_rivals_29 ?_
        intro r29 I29 h29
        obtain ⟨rfl, q1, q2, q3⟩ := h29
        exact main I29 (FM.cod.tr q1) (q2.trans (w2_s _ _ _ _)) q3
      · intro f18
        exact absurd (show w ≤ 1 by rcases hw with rfl | rfl <;> decide) f18
theorem c_X5_rivals_bad {e w : Int32} {I : KI} (hS : MS T I R N) (hb : ¬ ((0 ≤ e ∧ e ≤ 23) ∧ (w = 0 ∨ w = 1))) : MX5_rivals 10 0 [.ref 200, .int e, .int w] T I R J (qF 1 (nM N) T I R J) noX := by
  obtain ⟨hT, hR, hV, hN, hM⟩ := hS
  refine AMet.of (by decide) (Nat.le_of_ble_eq_true rfl) (cats1 rfl) fun cx X E => ?_
  show AW _ _ _ (_ :: _ :: _ :: _ :: _ :: _ :: _ :: []) _ _ _ _ _
  have fin : AW cx 0 21 [.ref 200, .int e, .int w, .retAddr 0, .retAddr 0, .retAddr 0, .retAddr 0] [] T (w2 I 200 3 0) R J := by
    first | refine AW.aload_n X dX5_rivals_21 rfl rfl ?_ | refine AW.aloadN_n X dX5_rivals_21 rfl rfl ?_
    refine AW.iconst X (v := 1) dX5_rivals_22 rfl ?_
    refine AW.callV_i X (c_X5_fail hT 1) (ci := 18) (q := (RX5, TX5, 74)) (by first | assumption | exact hT _ _ rfl) rfl s_X5_323_18 (by omega) (Nat.le_of_ble_eq_true rfl) rfl rfl (Nat.le_of_ble_eq_true rfl) dX5_rivals_23 ?_
    intro r23 I23 h23
    obtain ⟨rfl, rfl⟩ := h23
    refine AW.ireturn X E ?_ dX5_rivals_26 
    exact ⟨rfl, rfl, rfl, ⟨_, rfl⟩, w2_s _ _ _ _, FM.cod.tr FM.cod⟩
  first | refine AW.aload_n X dX5_rivals_0 rfl rfl ?_ | refine AW.aloadN_n X dX5_rivals_0 rfl rfl ?_
  refine AW.iconst X (v := 0) dX5_rivals_1 rfl ?_
  refine AW.putI X g_X5_rivals_194_18 (by omega) (by first | assumption | exact hT _ _ rfl) dX5_rivals_2 ?_ 
  refine AW.iload_n X dX5_rivals_5 rfl rfl ?_
  refine AW.callS_r X (c_X5_isHour e) s_X5_385 (by omega) (Nat.le_of_ble_eq_true rfl) rfl rfl (Nat.le_of_ble_eq_true rfl) dX5_rivals_6 ?_
  refine AW.if_eq X (tgt := 21) dX5_rivals_9 rfl ?_ ?_
  · intro t9
    exact fin
  · intro f9
    refine AW.iload_n X dX5_rivals_12 rfl rfl ?_
    refine AW.if_lt X (tgt := 21) dX5_rivals_13 rfl ?_ ?_
    · intro t13
      exact fin
    · intro f13
      refine AW.iload_n X dX5_rivals_16 rfl rfl ?_
      refine AW.iconst X (v := 1) dX5_rivals_17 rfl ?_
      refine AW.icmp_le X (tgt := 27) dX5_rivals_18 rfl ?_ ?_
      · intro t18
        exact absurd ⟨Decidable.of_not_not fun z => f9 (bI_z.mpr z), in01 (Int32.not_lt.mp f13) t18⟩ hb
      · intro f18
        exact fin
end MRW
