/-! 08k: the model's bright (steps printed by src/walk.py) -/
set_option maxRecDepth 100000
set_option maxHeartbeats 4000000
section MB2
variable {T : KT} {I : KI} {R : KR} {J : KJ} {N : KI}
theorem c_X5_bright {q a b : Nat} {lt w : Int32} (hS : MS T I R N) (h20 : nM N ≤ 20) (hq : q < nQ N) (ha : a < 24) (hb : b < 24) (hw : w = 0 ∨ w = 1) (hab : a ≤ b) (hb5 : b - a < 6) (hlt : 0 ≤ lt ∧ lt ≤ 255) : MX5_bright 17 0 [.ref 200, .int (nI q), .int lt, .int (nI a), .int (nI b), .int w] T I R J (qM (some (.int (oV (fs1 (brF q lt a (b - a + 1) N w) 0 (b - a + 2))))) (nM N) T I R J) noX := by
  have hS0 := hS
  have hS1 : MS T (w2 I 200 3 0) R N := hS.cod
  obtain ⟨hT, hR, hV, hN, hM⟩ := hS
  obtain ⟨⟨n1, n2, n3, n4, hnq, hne, hns, hnh⟩, -⟩ := id hN
  have hba : nI b - nI a = nI (b - a) := nI_sub hab
  refine AMet.of (by decide) (Nat.le_of_ble_eq_true rfl) (cats1 rfl) fun cx X E => ?_
  show AW _ _ _ (_ :: _ :: _ :: _ :: _ :: _ :: _ :: _ :: _ :: []) _ _ _ _ _
  have fin : ∀ n (I' : KI), n ≤ b - a + 1 → FM (nM N) I I' → I' 200 3 = 0 → oV (fs1 (brF q lt a (b - a + 1) N w) 0 (b - a + 2)) = (if w = 0 then nI n else fgF (I' 350) 0 0 (b - a + 1)) → ∀ j i v7, i + j = b - a + 1 → fgF (I' 350) v7 i j = fgF (I' 350) 0 0 (b - a + 1) → AW cx 0 130 [.ref 200, .int (nI q), .int lt, .int (nI a), .int (nI b), .int w, .int (nI n), .int v7, .int (nI i)] [] T I' R J := by
    intro n I' hn hf h3 hr j
    induction j with
    | zero =>
      intro i v7 hij hv
      obtain rfl : i = b - a + 1 := by omega
      have hv7 : v7 = fgF (I' 350) 0 0 (b - a + 1) := hv
      refine AW.iload X dX5_bright_130 rfl ?_
      refine AW.iload X dX5_bright_132 rfl ?_
      refine AW.iload_n X dX5_bright_134 rfl rfl ?_
      refine AW.isub X dX5_bright_135 ?_
      rw [hba]
      refine AW.icmp_gt X (tgt := 160) dX5_bright_136 rfl ?_ ?_
      · intro t136
        refine AW.iload X dX5_bright_160 rfl ?_
        refine AW.if_ne X (tgt := 170) dX5_bright_162 rfl ?_ ?_
        · intro t162
          rw [if_neg t162] at hr
          refine AW.iload X dX5_bright_170 rfl ?_
          refine AW.ireturn X E ?_ dX5_bright_172 
          exact ⟨rfl, rfl, rfl, by first | (rw [hr]; done) | (rw [hr, hv7]; done), h3, hf⟩
        · intro f162
          rw [if_pos f162] at hr
          refine AW.iload X dX5_bright_165 rfl ?_
          refine AW.goto X (tgt := 172) dX5_bright_167 rfl ?_
          refine AW.ireturn X E ?_ dX5_bright_172 
          exact ⟨rfl, rfl, rfl, by first | (rw [hr]; done) | (rw [hr, hv7]; done), h3, hf⟩
      · intro f136
        exact absurd (nI_lt (by omega) (by omega)) f136
    | succ j ih =>
      intro i v7 hij hv
      refine AW.iload X dX5_bright_130 rfl ?_
      refine AW.iload X dX5_bright_132 rfl ?_
      refine AW.iload_n X dX5_bright_134 rfl rfl ?_
      refine AW.isub X dX5_bright_135 ?_
      rw [hba]
      refine AW.icmp_gt X (tgt := 160) dX5_bright_136 rfl ?_ ?_
      · intro t136
        exact absurd t136 (nI_nlt (by omega) (by omega))
      · intro f136
        refine AW.bipush X (v := 7) dX5_bright_139 rfl ?_
        refine AW.iload X dX5_bright_141 rfl ?_
        refine AW.imul X dX5_bright_143 ?_
        first | refine AW.aload_n X dX5_bright_144 rfl rfl ?_ | refine AW.aloadN_n X dX5_bright_144 rfl rfl ?_
        refine AW.getR X f_X5_143_18 (by first | assumption | exact hT _ _ rfl) (by first | assumption | exact hR _ _ _ rfl) dX5_bright_145 ?_
        refine AW.iload X dX5_bright_148 rfl ?_
        refine AW.iald X (j := i) (by first | assumption | exact hT _ _ rfl) (by repeat (first | with_reducible exact rfl | assumption | exact ix_l _ | apply ix_add | apply ix_mul)) (by omega) dX5_bright_150 ?_
        refine AW.iadd X dX5_bright_151 ?_
        refine AW.istore7 X dX5_bright_152 ?_
        refine AW.iinc8 X (v := _ + 1) dX5_bright_154 rfl ?_
        refine AW.goto X (tgt := 130) dX5_bright_157 rfl ?_
        rw [nI_1]; exact ih (i + 1) _ (by omega) hv
  have lp : ∀ k n (I' : KI) v7 v8, n + k = b - a + 2 → FM (nM N) I I' → I' 200 3 = 0 → fs1 (brF q lt a (b - a + 1) N w) 0 (b - a + 2) = fs1 (brF q lt a (b - a + 1) N w) n k → AW cx 0 79 [.ref 200, .int (nI q), .int lt, .int (nI a), .int (nI b), .int w, .int (nI n), v7, v8] [] T I' R J := by
    intro k
    induction k with
    | zero =>
      intro n I' v7 v8 hnk hf h3 hs
      obtain rfl : n = b - a + 2 := by omega
      refine AW.iload X dX5_bright_79 rfl ?_
      refine AW.iload X dX5_bright_81 rfl ?_
      refine AW.iload_n X dX5_bright_83 rfl rfl ?_
      refine AW.isub X dX5_bright_84 ?_
      rw [hba]
      refine AW.iconst X (v := 1) dX5_bright_85 rfl ?_
      refine AW.iadd X dX5_bright_86 ?_
      rw [nI_1]
      refine AW.icmp_gt X (tgt := 111) dX5_bright_87 rfl ?_ ?_
      · intro t87
        refine AW.iload X dX5_bright_111 rfl ?_
        refine AW.iload X dX5_bright_113 rfl ?_
        refine AW.iload_n X dX5_bright_115 rfl rfl ?_
        refine AW.isub X dX5_bright_116 ?_
        rw [hba]
        refine AW.iconst X (v := 1) dX5_bright_117 rfl ?_
        refine AW.iadd X dX5_bright_118 ?_
        rw [nI_1]
        refine AW.icmp_le X (tgt := 124) dX5_bright_119 rfl ?_ ?_
        · intro t119
          exact absurd t119 (nI_ge (by omega) (by omega))
        · intro f119
          refine AW.iconst X (v := -1) dX5_bright_122 rfl ?_
          refine AW.ireturn X E ?_ dX5_bright_123 
          exact ⟨rfl, rfl, rfl, by rw [hs]; rfl, h3, hf⟩
      · intro f87
        exact absurd (nI_lt (by omega) (by omega)) f87
    | succ k ih =>
      intro n I' v7 v8 hnk hf h3 hs
      have hcall := c_X5_brightOn (J := J) (lt := lt) hq hab hb (b - a + 1) (i := 0) (left := n) (fig := 0) (hS0.fm hf) (fun _ _ _ => rfl) (by omega) (by omega) (by omega) (by omega)
      have hbm : brM q lt a 0 (b - a + 1) N n 0 = kpF q lt (b - a + 1) N a n 0 := if_pos (fun k hk => absurd hk (Nat.not_lt_zero k))
      rw [hbm] at hcall
      have hfs : fs1 (brF q lt a (b - a + 1) N w) n (k + 1) = match brF q lt a (b - a + 1) N w n with | some v => some v | none => fs1 (brF q lt a (b - a + 1) N w) (n + 1) k := rfl
      have hbr : brF q lt a (b - a + 1) N w n = match kpF q lt (b - a + 1) N a n 0 with | some v => some (if w = 0 then nI n else v) | none => none := rfl
      refine AW.iload X dX5_bright_79 rfl ?_
      refine AW.iload X dX5_bright_81 rfl ?_
      refine AW.iload_n X dX5_bright_83 rfl rfl ?_
      refine AW.isub X dX5_bright_84 ?_
      rw [hba]
      refine AW.iconst X (v := 1) dX5_bright_85 rfl ?_
      refine AW.iadd X dX5_bright_86 ?_
      rw [nI_1]
      refine AW.icmp_gt X (tgt := 111) dX5_bright_87 rfl ?_ ?_
      · intro t87
        exact absurd t87 (nI_nlt (by omega) (by omega))
      · intro f87
        first | refine AW.aload_n X dX5_bright_90 rfl rfl ?_ | refine AW.aloadN_n X dX5_bright_90 rfl rfl ?_
        refine AW.iload_n X dX5_bright_91 rfl rfl ?_
        refine AW.iload_n X dX5_bright_92 rfl rfl ?_
        refine AW.iload_n X dX5_bright_93 rfl rfl ?_
        refine AW.iload X dX5_bright_94 rfl ?_
        refine AW.iconst X (v := 0) dX5_bright_96 rfl ?_
        refine AW.iload X dX5_bright_97 rfl ?_
        refine AW.callV_i X (hcall) (ci := 18) (q := (RX5, TX5, 74)) (by first | assumption | exact hT _ _ rfl) rfl s_X5_438_18 (by omega) (Nat.le_of_ble_eq_true rfl) rfl rfl (Nat.le_of_ble_eq_true rfl) dX5_bright_99 ?_
        intro r99 I99 h99
        obtain ⟨rfl, q1, q2, q3, q4⟩ := h99
        refine AW.if_ne X (tgt := 111) dX5_bright_102 rfl ?_ ?_
        · intro t102
          refine AW.iload X dX5_bright_111 rfl ?_
          refine AW.iload X dX5_bright_113 rfl ?_
          refine AW.iload_n X dX5_bright_115 rfl rfl ?_
          refine AW.isub X dX5_bright_116 ?_
          rw [hba]
          refine AW.iconst X (v := 1) dX5_bright_117 rfl ?_
          refine AW.iadd X dX5_bright_118 ?_
          rw [nI_1]
          refine AW.icmp_le X (tgt := 124) dX5_bright_119 rfl ?_ ?_
          · intro t119
            refine AW.iconst X (v := 0) dX5_bright_124 rfl ?_
            refine AW.istore7 X dX5_bright_125 ?_
            refine AW.iconst X (v := 0) dX5_bright_127 rfl ?_
            refine AW.istore8 X dX5_bright_128 ?_
            rcases hk : kpF q lt (b - a + 1) N a n 0 with _ | v
            · exact absurd (oB_z.mpr hk) t102
            · rw [hk] at hbr
              rw [hbr] at hfs
              exact fin n I99 (by omega) (hf.tr q1) (q2.trans h3) (by rw [hs, hfs, ← q4 v hk]; rfl) (b - a + 1) 0 0 (by omega) rfl
          · intro f119
            exact absurd (nI_le (by omega) (by omega)) f119
        · intro f102
          rw [oB_z.mp f102] at hbr
          rw [hbr] at hfs
          refine AW.iinc6 X (v := _ + 1) dX5_bright_105 rfl ?_
          refine AW.goto X (tgt := 79) dX5_bright_108 rfl ?_
          rw [nI_1]; exact ih (n + 1) _ _ _ (by omega) (hf.tr q1) (q2.trans h3) (hs.trans hfs)
  first | refine AW.aload_n X dX5_bright_0 rfl rfl ?_ | refine AW.aloadN_n X dX5_bright_0 rfl rfl ?_
  refine AW.iconst X (v := 0) dX5_bright_1 rfl ?_
  refine AW.putI X g_X5_bright_194_18 (by omega) (by first | assumption | exact hT _ _ rfl) dX5_bright_2 ?_ 
  first | refine AW.aload_n X dX5_bright_5 rfl rfl ?_ | refine AW.aloadN_n X dX5_bright_5 rfl rfl ?_
  refine AW.iload_n X dX5_bright_6 rfl rfl ?_
  refine AW.callV_r X (c_X5_isQuay (nI q) hS1) (ci := 18) (q := (RX5, TX5, 74)) (by first | assumption | exact hT _ _ rfl) rfl s_X5_376_18 (by omega) (Nat.le_of_ble_eq_true rfl) rfl rfl (Nat.le_of_ble_eq_true rfl) dX5_bright_7 ?_
  rw [bI_t ⟨nI_pos' (by omega), nI_lt hq (by omega)⟩]
  refine AW.if_eq X (tgt := 39) dX5_bright_10 rfl ?_ ?_
  · intro t10
    exact absurd t10 (by decide)
  · intro f10
    refine AW.iload_n X dX5_bright_13 rfl rfl ?_
    refine AW.callS_r X (c_X5_isHour (nI a)) s_X5_385 (by omega) (Nat.le_of_ble_eq_true rfl) rfl rfl (Nat.le_of_ble_eq_true rfl) dX5_bright_14 ?_
    rw [bI_t ⟨nI_pos' (by omega), nI_le (b := 23) (by omega) (by omega)⟩]
    refine AW.if_eq X (tgt := 39) dX5_bright_17 rfl ?_ ?_
    · intro t17
      exact absurd t17 (by decide)
    · intro f17
      refine AW.iload X dX5_bright_20 rfl ?_
      refine AW.callS_r X (c_X5_isHour (nI b)) s_X5_385 (by omega) (Nat.le_of_ble_eq_true rfl) rfl rfl (Nat.le_of_ble_eq_true rfl) dX5_bright_22 ?_
      rw [bI_t ⟨nI_pos' (by omega), nI_le (b := 23) (by omega) (by omega)⟩]
      refine AW.if_eq X (tgt := 39) dX5_bright_25 rfl ?_ ?_
      · intro t25
        exact absurd t25 (by decide)
      · intro f25
        refine AW.iload X dX5_bright_28 rfl ?_
        refine AW.if_lt X (tgt := 39) dX5_bright_30 rfl ?_ ?_
        · intro t30
          exact absurd t30 (by rcases hw with rfl | rfl <;> decide)
        · intro f30
          refine AW.iload X dX5_bright_33 rfl ?_
          refine AW.iconst X (v := 1) dX5_bright_35 rfl ?_
          refine AW.icmp_le X (tgt := 45) dX5_bright_36 rfl ?_ ?_
          · intro t36
            refine AW.iload X dX5_bright_45 rfl ?_
            refine AW.iload_n X dX5_bright_47 rfl rfl ?_
            refine AW.icmp_lt X (tgt := 70) dX5_bright_48 rfl ?_ ?_
            · intro t48
              exact absurd t48 (nI_nlt hab (by omega))
            · intro f48
              refine AW.iload X dX5_bright_51 rfl ?_
              refine AW.iload_n X dX5_bright_53 rfl rfl ?_
              refine AW.iconst X (v := 5) dX5_bright_54 rfl ?_
              refine AW.iadd X dX5_bright_55 ?_
              rw [show nI a + 5 = nI (a + 5) from nI_add a 5]
              refine AW.icmp_gt X (tgt := 70) dX5_bright_56 rfl ?_ ?_
              · intro t56
                exact absurd t56 (nI_nlt (by omega) (by omega))
              · intro f56
                refine AW.iload_n X dX5_bright_59 rfl rfl ?_
                refine AW.iconst X (v := 0) dX5_bright_60 rfl ?_
                refine AW.sipush X (v := 255) dX5_bright_61 rfl ?_
                refine AW.callS_r X (c_X5_isIn lt 0 255) s_X5_197 (by omega) (Nat.le_of_ble_eq_true rfl) rfl rfl (Nat.le_of_ble_eq_true rfl) dX5_bright_64 ?_
                rw [bI_t hlt]
                refine AW.if_ne X (tgt := 76) dX5_bright_67 rfl ?_ ?_
                · intro t67
                  refine AW.iconst X (v := 0) dX5_bright_76 rfl ?_
                  refine AW.istore6 X dX5_bright_77 ?_
                  exact lp (b - a + 2) 0 _ _ _ (by omega) FM.cod (w2_s _ _ _ _) rfl
                · intro f67
                  exact absurd f67 (by decide)
          · intro f36
            exact absurd (show w ≤ 1 by rcases hw with rfl | rfl <;> decide) f36
theorem c_X5_bright_bad1 {e lt a c w : Int32} (hS : MS T I R N) (hb : ¬ ((0 ≤ e ∧ e < nI (nQ N)) ∧ (0 ≤ a ∧ a ≤ 23) ∧ (0 ≤ c ∧ c ≤ 23) ∧ (w = 0 ∨ w = 1))) : MX5_bright 17 0 [.ref 200, .int e, .int lt, .int a, .int c, .int w] T I R J (qF 1 (nM N) T I R J) noX := by
  have hS1 : MS T (w2 I 200 3 0) R N := hS.cod
  obtain ⟨hT, hR, hV, hN, hM⟩ := hS
  refine AMet.of (by decide) (Nat.le_of_ble_eq_true rfl) (cats1 rfl) fun cx X E => ?_
  show AW _ _ _ (_ :: _ :: _ :: _ :: _ :: _ :: _ :: _ :: _ :: []) _ _ _ _ _
  have fin : AW cx 0 39 [.ref 200, .int e, .int lt, .int a, .int c, .int w, .retAddr 0, .retAddr 0, .retAddr 0] [] T (w2 I 200 3 0) R J := by
    first | refine AW.aload_n X dX5_bright_39 rfl rfl ?_ | refine AW.aloadN_n X dX5_bright_39 rfl rfl ?_
    refine AW.iconst X (v := 1) dX5_bright_40 rfl ?_
    refine AW.callV_i X (c_X5_fail hT 1) (ci := 18) (q := (RX5, TX5, 74)) (by first | assumption | exact hT _ _ rfl) rfl s_X5_323_18 (by omega) (Nat.le_of_ble_eq_true rfl) rfl rfl (Nat.le_of_ble_eq_true rfl) dX5_bright_41 ?_
    intro r41 I41 h41
    obtain ⟨rfl, rfl⟩ := h41
    refine AW.ireturn X E ?_ dX5_bright_44 
    exact ⟨rfl, rfl, rfl, ⟨_, rfl⟩, w2_s _ _ _ _, FM.cod.tr FM.cod⟩
  first | refine AW.aload_n X dX5_bright_0 rfl rfl ?_ | refine AW.aloadN_n X dX5_bright_0 rfl rfl ?_
  refine AW.iconst X (v := 0) dX5_bright_1 rfl ?_
  refine AW.putI X g_X5_bright_194_18 (by omega) (by first | assumption | exact hT _ _ rfl) dX5_bright_2 ?_ 
  first | refine AW.aload_n X dX5_bright_5 rfl rfl ?_ | refine AW.aloadN_n X dX5_bright_5 rfl rfl ?_
  refine AW.iload_n X dX5_bright_6 rfl rfl ?_
  refine AW.callV_r X (c_X5_isQuay e hS1) (ci := 18) (q := (RX5, TX5, 74)) (by first | assumption | exact hT _ _ rfl) rfl s_X5_376_18 (by omega) (Nat.le_of_ble_eq_true rfl) rfl rfl (Nat.le_of_ble_eq_true rfl) dX5_bright_7 ?_
  refine AW.if_eq X (tgt := 39) dX5_bright_10 rfl ?_ ?_
  · intro t10
    exact fin
  · intro f10
    refine AW.iload_n X dX5_bright_13 rfl rfl ?_
    refine AW.callS_r X (c_X5_isHour a) s_X5_385 (by omega) (Nat.le_of_ble_eq_true rfl) rfl rfl (Nat.le_of_ble_eq_true rfl) dX5_bright_14 ?_
    refine AW.if_eq X (tgt := 39) dX5_bright_17 rfl ?_ ?_
    · intro t17
      exact fin
    · intro f17
      refine AW.iload X dX5_bright_20 rfl ?_
      refine AW.callS_r X (c_X5_isHour c) s_X5_385 (by omega) (Nat.le_of_ble_eq_true rfl) rfl rfl (Nat.le_of_ble_eq_true rfl) dX5_bright_22 ?_
      refine AW.if_eq X (tgt := 39) dX5_bright_25 rfl ?_ ?_
      · intro t25
        exact fin
      · intro f25
        refine AW.iload X dX5_bright_28 rfl ?_
        refine AW.if_lt X (tgt := 39) dX5_bright_30 rfl ?_ ?_
        · intro t30
          exact fin
        · intro f30
          refine AW.iload X dX5_bright_33 rfl ?_
          refine AW.iconst X (v := 1) dX5_bright_35 rfl ?_
          refine AW.icmp_le X (tgt := 45) dX5_bright_36 rfl ?_ ?_
          · intro t36
            exact absurd ⟨Decidable.of_not_not fun z => f10 (bI_z.mpr z), Decidable.of_not_not fun z => f17 (bI_z.mpr z), Decidable.of_not_not fun z => f25 (bI_z.mpr z), in01 (Int32.not_lt.mp f30) t36⟩ hb
          · intro f36
            exact fin
theorem c_X5_bright_bad2 {q a b : Nat} {lt w : Int32} (hS : MS T I R N) (hq : q < nQ N) (ha : a < 24) (hb : b < 24) (hw : w = 0 ∨ w = 1) (hbad : ¬ (a ≤ b ∧ b < a + 6 ∧ (0 ≤ lt ∧ lt ≤ 255))) : MX5_bright 17 0 [.ref 200, .int (nI q), .int lt, .int (nI a), .int (nI b), .int w] T I R J (qF 2 (nM N) T I R J) noX := by
  have hS1 : MS T (w2 I 200 3 0) R N := hS.cod
  obtain ⟨hT, hR, hV, hN, hM⟩ := hS
  obtain ⟨⟨n1, n2, n3, n4, hnq, hne, hns, hnh⟩, -⟩ := id hN
  refine AMet.of (by decide) (Nat.le_of_ble_eq_true rfl) (cats1 rfl) fun cx X E => ?_
  show AW _ _ _ (_ :: _ :: _ :: _ :: _ :: _ :: _ :: _ :: _ :: []) _ _ _ _ _
  have fin : AW cx 0 70 [.ref 200, .int (nI q), .int lt, .int (nI a), .int (nI b), .int w, .retAddr 0, .retAddr 0, .retAddr 0] [] T (w2 I 200 3 0) R J := by
    first | refine AW.aload_n X dX5_bright_70 rfl rfl ?_ | refine AW.aloadN_n X dX5_bright_70 rfl rfl ?_
    refine AW.iconst X (v := 2) dX5_bright_71 rfl ?_
    refine AW.callV_i X (c_X5_fail hT 2) (ci := 18) (q := (RX5, TX5, 74)) (by first | assumption | exact hT _ _ rfl) rfl s_X5_323_18 (by omega) (Nat.le_of_ble_eq_true rfl) rfl rfl (Nat.le_of_ble_eq_true rfl) dX5_bright_72 ?_
    intro r72 I72 h72
    obtain ⟨rfl, rfl⟩ := h72
    refine AW.ireturn X E ?_ dX5_bright_75 
    exact ⟨rfl, rfl, rfl, ⟨_, rfl⟩, w2_s _ _ _ _, FM.cod.tr FM.cod⟩
  first | refine AW.aload_n X dX5_bright_0 rfl rfl ?_ | refine AW.aloadN_n X dX5_bright_0 rfl rfl ?_
  refine AW.iconst X (v := 0) dX5_bright_1 rfl ?_
  refine AW.putI X g_X5_bright_194_18 (by omega) (by first | assumption | exact hT _ _ rfl) dX5_bright_2 ?_ 
  first | refine AW.aload_n X dX5_bright_5 rfl rfl ?_ | refine AW.aloadN_n X dX5_bright_5 rfl rfl ?_
  refine AW.iload_n X dX5_bright_6 rfl rfl ?_
  refine AW.callV_r X (c_X5_isQuay (nI q) hS1) (ci := 18) (q := (RX5, TX5, 74)) (by first | assumption | exact hT _ _ rfl) rfl s_X5_376_18 (by omega) (Nat.le_of_ble_eq_true rfl) rfl rfl (Nat.le_of_ble_eq_true rfl) dX5_bright_7 ?_
  rw [bI_t ⟨nI_pos' (by omega), nI_lt hq (by omega)⟩]
  refine AW.if_eq X (tgt := 39) dX5_bright_10 rfl ?_ ?_
  · intro t10
    exact absurd t10 (by decide)
  · intro f10
    refine AW.iload_n X dX5_bright_13 rfl rfl ?_
    refine AW.callS_r X (c_X5_isHour (nI a)) s_X5_385 (by omega) (Nat.le_of_ble_eq_true rfl) rfl rfl (Nat.le_of_ble_eq_true rfl) dX5_bright_14 ?_
    rw [bI_t ⟨nI_pos' (by omega), nI_le (b := 23) (by omega) (by omega)⟩]
    refine AW.if_eq X (tgt := 39) dX5_bright_17 rfl ?_ ?_
    · intro t17
      exact absurd t17 (by decide)
    · intro f17
      refine AW.iload X dX5_bright_20 rfl ?_
      refine AW.callS_r X (c_X5_isHour (nI b)) s_X5_385 (by omega) (Nat.le_of_ble_eq_true rfl) rfl rfl (Nat.le_of_ble_eq_true rfl) dX5_bright_22 ?_
      rw [bI_t ⟨nI_pos' (by omega), nI_le (b := 23) (by omega) (by omega)⟩]
      refine AW.if_eq X (tgt := 39) dX5_bright_25 rfl ?_ ?_
      · intro t25
        exact absurd t25 (by decide)
      · intro f25
        refine AW.iload X dX5_bright_28 rfl ?_
        refine AW.if_lt X (tgt := 39) dX5_bright_30 rfl ?_ ?_
        · intro t30
          exact absurd t30 (by rcases hw with rfl | rfl <;> decide)
        · intro f30
          refine AW.iload X dX5_bright_33 rfl ?_
          refine AW.iconst X (v := 1) dX5_bright_35 rfl ?_
          refine AW.icmp_le X (tgt := 45) dX5_bright_36 rfl ?_ ?_
          · intro t36
            refine AW.iload X dX5_bright_45 rfl ?_
            refine AW.iload_n X dX5_bright_47 rfl rfl ?_
            refine AW.icmp_lt X (tgt := 70) dX5_bright_48 rfl ?_ ?_
            · intro t48
              exact fin
            · intro f48
              refine AW.iload X dX5_bright_51 rfl ?_
              refine AW.iload_n X dX5_bright_53 rfl rfl ?_
              refine AW.iconst X (v := 5) dX5_bright_54 rfl ?_
              refine AW.iadd X dX5_bright_55 ?_
              rw [show nI a + 5 = nI (a + 5) from nI_add a 5]
              refine AW.icmp_gt X (tgt := 70) dX5_bright_56 rfl ?_ ?_
              · intro t56
                exact fin
              · intro f56
                refine AW.iload_n X dX5_bright_59 rfl rfl ?_
                refine AW.iconst X (v := 0) dX5_bright_60 rfl ?_
                refine AW.sipush X (v := 255) dX5_bright_61 rfl ?_
                refine AW.callS_r X (c_X5_isIn lt 0 255) s_X5_197 (by omega) (Nat.le_of_ble_eq_true rfl) rfl rfl (Nat.le_of_ble_eq_true rfl) dX5_bright_64 ?_
                refine AW.if_ne X (tgt := 76) dX5_bright_67 rfl ?_ ?_
                · intro t67
                  refine absurd ⟨?_, ?_, Decidable.of_not_not fun z => t67 (bI_z.mpr z)⟩ hbad
                  · rcases Nat.lt_or_ge b a with h | h
                    · exact absurd (nI_lt h (by omega)) f48
                    · exact h
                  · rcases Nat.lt_or_ge (a + 5) b with h | h
                    · exact absurd (nI_lt h (by omega)) f56
                    · omega
                · intro f67
                  exact fin
          · intro f36
            exact absurd (show w ≤ 1 by rcases hw with rfl | rfl <;> decide) f36
end MB2
