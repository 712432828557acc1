/-! 08a: where (written by src/gen08a.py and src/walk.py) -/
set_option maxRecDepth 100000
set_option maxHeartbeats 4000000
def whN (N I : KI) (n : Nat) : Nat → Int32
  | 0 => 0
  | c + 1 => if caseP N I n c then whN N I n c + 1 else whN N I n c
def whS (N I : KI) (n e : Nat) : Nat → Int32
  | 0 => 0
  | c + 1 => if caseP N I n c then whS N I n e c ||| 1 <<< (nI (dig N c e) &&& 31) else whS N I n e c
section WHE
variable {pb B : Nat} {T : KT} {I : KI} {R : KR} {J : KJ} {N N1 : KI}
theorem c_X1_where_bad {e : Int32} (hX : XS pb T I R N) (h1 : 100 ≤ B) (h0 : (T B).1 = 0) (hm : ¬ e = -1) (hb : ¬ (0 ≤ e ∧ e < nI (nE N))) : MX1_where 9 2 [.ref 100, .int e] T I R J noQ (qX 22 B T I R J) := by
  have hX0 := hX
  obtain ⟨hT, hR, hP, hL, hN, hM, h20, hG⟩ := hX
  have hL0 := hL
  obtain ⟨l1, l2, l3, l4, l5, l6, l7, l8, l9, l10, l11, l12, l13, l14, l15, l16, l17⟩ := hL
  obtain ⟨⟨n1, n2, n3, n4, hnq, hne, hns, hnh⟩, -⟩ := id hN
  have pT0 := hP.T0
  have prQ := hP.rQ
  have prE := hP.rE
  have prS := hP.rS
  have prM := hP.rM
  have prW := hP.rW
  have prHd := hP.rHd
  have prHf := hP.rHf
  have prHt := hP.rHt
  have ptM := hP.tM
  have ptW := hP.tW
  have ptHd := hP.tHd
  have ptHf := hP.tHf
  have ptHt := hP.tHt
  have plQ := hP.lQ.tl
  have plE := hP.lE.tl
  have plS := hP.lS.tl
  refine AMet.of (by decide) (Nat.le_of_ble_eq_true rfl) (cats1 rfl) fun cx X E => ?_
  show AW _ _ _ (_ :: _ :: _ :: _ :: _ :: _ :: []) _ _ _ _ _
  refine AW.iload_n X dX1_where_0 rfl rfl ?_
  refine AW.iconst X (v := -1) dX1_where_1 rfl ?_
  refine AW.icmp_eq X (tgt := 11) dX1_where_2 rfl ?_ ?_
  · intro t2
    exact absurd t2 hm
  · intro f2
    first | refine AW.aload_n X dX1_where_5 rfl rfl ?_ | refine AW.aloadN_n X dX1_where_5 rfl rfl ?_
    refine AW.iload_n X dX1_where_6 rfl rfl ?_
    exact AW.callV (b := 0) (bc := 2) X (c_X1_eelAt_bad hX0 h1 h0 hb) (ci := 0) (q := (RX1, TX1, 14)) (by first | assumption | exact hT _ _ rfl) rfl s_X1_176_0 (by omega) (Nat.le_of_ble_eq_true rfl) rfl rfl (Nat.le_of_ble_eq_true rfl) dX1_where_7 (fun _ _ _ _ _ h => h.elim) (AX.thru X E (by omega) rfl (fun _ h => nomatch h))
theorem c_X1_where_n {n : Nat} (hX : XS pb T I R N) (hB : BK n I N) : MX1_where 9 0 [.ref 100, .int (-1)] T I R J (qR (some (.int (if 8000 < nQ N ^ nE N then -2 else whN N I n (nQ N ^ nE N)))) T I R J) noX := by
  have hX0 := hX
  obtain ⟨hT, hR, hP, hL, hN, hM, h20, hG⟩ := hX
  have hL0 := hL
  obtain ⟨l1, l2, l3, l4, l5, l6, l7, l8, l9, l10, l11, l12, l13, l14, l15, l16, l17⟩ := hL
  obtain ⟨⟨n1, n2, n3, n4, hnq, hne, hns, hnh⟩, -⟩ := id hN
  have pT0 := hP.T0
  have prQ := hP.rQ
  have prE := hP.rE
  have prS := hP.rS
  have prM := hP.rM
  have prW := hP.rW
  have prHd := hP.rHd
  have prHf := hP.rHf
  have prHt := hP.rHt
  have ptM := hP.tM
  have ptW := hP.tW
  have ptHd := hP.tHd
  have ptHf := hP.tHf
  have ptHt := hP.tHt
  have plQ := hP.lQ.tl
  have plE := hP.lE.tl
  have plS := hP.lS.tl
  have hpw : ∀ k, k ≤ 6 → nQ N ^ k ≤ 262144 := fun k hk => Nat.le_trans (Nat.pow_le_pow_left hnq k) (Nat.le_trans (Nat.pow_le_pow_right (by omega) hk) (by decide))
  have hpE := hpw (nE N) hne
  refine AMet.of (by decide) (Nat.le_of_ble_eq_true rfl) (cats1 rfl) fun cx X E => ?_
  show AW _ _ _ (_ :: _ :: _ :: _ :: _ :: _ :: []) _ _ _ _ _
  have lc : 8000 ≥ nQ N ^ nE N → ∀ j c, c + j = nQ N ^ nE N → AW cx 0 72 [.ref 100, .int (-1), .int (nI (nQ N ^ nE N)), .int (whN N I n c), .int 0, .int (nI c)] [] T I R J := by
    intro h8 j
    rw [if_neg (by omega)] at E
    induction j with
    | zero =>
      intro c hc
      obtain rfl : c = nQ N ^ nE N := by omega
      refine AW.iload X dX1_where_72 rfl ?_
      refine AW.iload_n X dX1_where_74 rfl rfl ?_
      refine AW.icmp_ge X (tgt := 118) dX1_where_75 rfl ?_ ?_
      · intro t75
        refine AW.iload_n X dX1_where_118 rfl rfl ?_
        refine AW.iconst X (v := -1) dX1_where_119 rfl ?_
        refine AW.icmp_ne X (tgt := 127) dX1_where_120 rfl ?_ ?_
        · intro t120
          exact absurd rfl t120
        · intro f120
          refine AW.iload_n X dX1_where_123 rfl rfl ?_
          refine AW.goto X (tgt := 129) dX1_where_124 rfl ?_
          exact AW.ireturn X E ⟨rfl, rfl, rfl, rfl, rfl⟩ dX1_where_129 
      · intro f75
        exact absurd (Int32.le_refl _) f75
    | succ j ih =>
      intro c hc
      have hE := ih (c + 1) (by omega)
      unfold whN at hE
      refine AW.iload X dX1_where_72 rfl ?_
      refine AW.iload_n X dX1_where_74 rfl rfl ?_
      refine AW.icmp_ge X (tgt := 118) dX1_where_75 rfl ?_ ?_
      · intro t75
        exact absurd t75 (nI_ge (by omega) (by omega))
      · intro f75
        first | refine AW.aload_n X dX1_where_78 rfl rfl ?_ | refine AW.aloadN_n X dX1_where_78 rfl rfl ?_
        refine AW.iload X dX1_where_79 rfl ?_
        refine AW.callV_r X (c_X1_isCase hX0 hB (show c < 2 ^ 31 by omega)) (ci := 0) (q := (RX1, TX1, 14)) (by first | assumption | exact hT _ _ rfl) rfl s_X1_297_0 (by omega) (Nat.le_of_ble_eq_true rfl) rfl rfl (Nat.le_of_ble_eq_true rfl) dX1_where_81 ?_
        refine AW.if_ne X (tgt := 90) dX1_where_84 rfl ?_ ?_
        · intro t84
          rw [if_pos (Decidable.of_not_not fun z => t84 (bI_z.mpr z))] at hE
          refine AW.iinc3 X (v := _ + 1) dX1_where_90 rfl ?_
          refine AW.iload_n X dX1_where_93 rfl rfl ?_
          refine AW.iconst X (v := -1) dX1_where_94 rfl ?_
          refine AW.icmp_eq X (tgt := 112) dX1_where_95 rfl ?_ ?_
          · intro t95
            refine AW.iinc5 X (v := _ + 1) dX1_where_112 rfl ?_
            refine AW.goto X (tgt := 72) dX1_where_115 rfl ?_
            rw [nI_1]; exact hE
          · intro f95
            exact absurd rfl f95
        · intro f84
          rw [if_neg (bI_z.mp f84)] at hE
          refine AW.goto X (tgt := 112) dX1_where_87 rfl ?_
          refine AW.iinc5 X (v := _ + 1) dX1_where_112 rfl ?_
          refine AW.goto X (tgt := 72) dX1_where_115 rfl ?_
          rw [nI_1]; exact hE
  have lp : ∀ j k, k + j = nE N → AW cx 0 15 [.ref 100, .int (-1), .int (nI (nQ N ^ k)), .int (nI k), .retAddr 0, .retAddr 0] [] T I R J := by
    intro j
    induction j with
    | zero =>
      intro k hk
      obtain rfl : k = nE N := by omega
      refine AW.iload_n X dX1_where_15 rfl rfl ?_
      first | refine AW.aload_n X dX1_where_16 rfl rfl ?_ | refine AW.aloadN_n X dX1_where_16 rfl rfl ?_
      refine AW.getR X f_X1_23_0 (by first | assumption | exact hT _ _ rfl) (by first | assumption | exact hR _ _ _ rfl) dX1_where_17 ?_
      refine AW.getR X f_X1_65_2 (by first | assumption | exact hT _ _ rfl) (by first | assumption | exact hR _ _ _ rfl) dX1_where_20 ?_
      refine AW.getR X f_X1_87_3 (by first | assumption | exact hT _ _ rfl) (by first | assumption | exact hR _ _ _ rfl) dX1_where_23 ?_
      refine AW.callV_r X (hP.lE.size) (ci := 19) (q := (RJ2, TJ2, 3)) (by first | assumption | exact hT _ _ rfl) rfl s_X1_75_19 (by omega) (Nat.le_of_ble_eq_true rfl) rfl rfl (Nat.le_of_ble_eq_true rfl) dX1_where_26 ?_
      refine AW.icmp_ge X (tgt := 54) dX1_where_29 rfl ?_ ?_
      · intro t29
        refine AW.iload_n X dX1_where_54 rfl rfl ?_
        refine AW.sipush X (v := 8000) dX1_where_55 rfl ?_
        refine AW.icmp_le X (tgt := 64) dX1_where_58 rfl ?_ ?_
        · intro t58
          have h8 := (nI_leI (b := 8000) (by omega) (by omega)).mp t58
          refine AW.iconst X (v := 0) dX1_where_64 rfl ?_
          refine AW.istore3 X dX1_where_65 ?_
          refine AW.iconst X (v := 0) dX1_where_66 rfl ?_
          refine AW.istore4 X dX1_where_67 ?_
          refine AW.iconst X (v := 0) dX1_where_69 rfl ?_
          refine AW.istore5 X dX1_where_70 ?_
          exact lc h8 (nQ N ^ nE N) 0 (by omega)
        · intro f58
          have h8 : 8000 < nQ N ^ nE N := Nat.lt_of_not_le (fun z => f58 (nI_le (b := 8000) z (by omega)))
          rw [if_pos h8] at E
          refine AW.bipush X (v := -2) dX1_where_61 rfl ?_
          exact AW.ireturn X E ⟨rfl, rfl, rfl, rfl, rfl⟩ dX1_where_63 
      · intro f29
        exact absurd (Int32.le_refl _) f29
    | succ j ih =>
      intro k hk
      refine AW.iload_n X dX1_where_15 rfl rfl ?_
      first | refine AW.aload_n X dX1_where_16 rfl rfl ?_ | refine AW.aloadN_n X dX1_where_16 rfl rfl ?_
      refine AW.getR X f_X1_23_0 (by first | assumption | exact hT _ _ rfl) (by first | assumption | exact hR _ _ _ rfl) dX1_where_17 ?_
      refine AW.getR X f_X1_65_2 (by first | assumption | exact hT _ _ rfl) (by first | assumption | exact hR _ _ _ rfl) dX1_where_20 ?_
      refine AW.getR X f_X1_87_3 (by first | assumption | exact hT _ _ rfl) (by first | assumption | exact hR _ _ _ rfl) dX1_where_23 ?_
      refine AW.callV_r X (hP.lE.size) (ci := 19) (q := (RJ2, TJ2, 3)) (by first | assumption | exact hT _ _ rfl) rfl s_X1_75_19 (by omega) (Nat.le_of_ble_eq_true rfl) rfl rfl (Nat.le_of_ble_eq_true rfl) dX1_where_26 ?_
      refine AW.icmp_ge X (tgt := 54) dX1_where_29 rfl ?_ ?_
      · intro t29
        exact absurd t29 (nI_ge (by omega) (by omega))
      · intro f29
        refine AW.iload_n X dX1_where_32 rfl rfl ?_
        first | refine AW.aload_n X dX1_where_33 rfl rfl ?_ | refine AW.aloadN_n X dX1_where_33 rfl rfl ?_
        refine AW.getR X f_X1_23_0 (by first | assumption | exact hT _ _ rfl) (by first | assumption | exact hR _ _ _ rfl) dX1_where_34 ?_
        refine AW.getR X f_X1_65_2 (by first | assumption | exact hT _ _ rfl) (by first | assumption | exact hR _ _ _ rfl) dX1_where_37 ?_
        refine AW.getR X f_X1_69_3 (by first | assumption | exact hT _ _ rfl) (by first | assumption | exact hR _ _ _ rfl) dX1_where_40 ?_
        refine AW.callV_r X (hP.lQ.size) (ci := 19) (q := (RJ2, TJ2, 3)) (by first | assumption | exact hT _ _ rfl) rfl s_X1_75_19 (by omega) (Nat.le_of_ble_eq_true rfl) rfl rfl (Nat.le_of_ble_eq_true rfl) dX1_where_43 ?_
        refine AW.imul X dX1_where_46 ?_
        rw [nI_mul, ← Nat.pow_succ]
        refine AW.istore2 X dX1_where_47 ?_
        refine AW.iinc3 X (v := _ + 1) dX1_where_48 rfl ?_
        refine AW.goto X (tgt := 15) dX1_where_51 rfl ?_
        rw [nI_1]; exact ih (k + 1) (by omega)
  refine AW.iload_n X dX1_where_0 rfl rfl ?_
  refine AW.iconst X (v := -1) dX1_where_1 rfl ?_
  refine AW.icmp_eq X (tgt := 11) dX1_where_2 rfl ?_ ?_
  · intro t2
    refine AW.iconst X (v := 1) dX1_where_11 rfl ?_
    refine AW.istore2 X dX1_where_12 ?_
    refine AW.iconst X (v := 0) dX1_where_13 rfl ?_
    refine AW.istore3 X dX1_where_14 ?_
    exact lp (nE N) 0 (by omega)
  · intro f2
    exact absurd rfl f2
theorem c_X1_where_e {e n : Nat} (hX : XS pb T I R N) (hB : BK n I N) (he : e < nE N) : MX1_where 9 0 [.ref 100, .int (nI e)] T I R J (qR (some (.int (if 8000 < nQ N ^ nE N then -2 else whS N I n e (nQ N ^ nE N)))) T I R J) noX := by
  have hX0 := hX
  obtain ⟨hT, hR, hP, hL, hN, hM, h20, hG⟩ := hX
  have hL0 := hL
  obtain ⟨l1, l2, l3, l4, l5, l6, l7, l8, l9, l10, l11, l12, l13, l14, l15, l16, l17⟩ := hL
  obtain ⟨⟨n1, n2, n3, n4, hnq, hne, hns, hnh⟩, -⟩ := id hN
  have pT0 := hP.T0
  have prQ := hP.rQ
  have prE := hP.rE
  have prS := hP.rS
  have prM := hP.rM
  have prW := hP.rW
  have prHd := hP.rHd
  have prHf := hP.rHf
  have prHt := hP.rHt
  have ptM := hP.tM
  have ptW := hP.tW
  have ptHd := hP.tHd
  have ptHf := hP.tHf
  have ptHt := hP.tHt
  have plQ := hP.lQ.tl
  have plE := hP.lE.tl
  have plS := hP.lS.tl
  have hpw : ∀ k, k ≤ 6 → nQ N ^ k ≤ 262144 := fun k hk => Nat.le_trans (Nat.pow_le_pow_left hnq k) (Nat.le_trans (Nat.pow_le_pow_right (by omega) hk) (by decide))
  have hpE := hpw (nE N) hne
  have hm1 : ¬ nI e = -1 := nI_m1 (by omega)
  refine AMet.of (by decide) (Nat.le_of_ble_eq_true rfl) (cats1 rfl) fun cx X E => ?_
  show AW _ _ _ (_ :: _ :: _ :: _ :: _ :: _ :: []) _ _ _ _ _
  have lc : 8000 ≥ nQ N ^ nE N → ∀ j c, c + j = nQ N ^ nE N → AW cx 0 72 [.ref 100, .int (nI e), .int (nI (nQ N ^ nE N)), .int (whN N I n c), .int (whS N I n e c), .int (nI c)] [] T I R J := by
    intro h8 j
    rw [if_neg (by omega)] at E
    induction j with
    | zero =>
      intro c hc
      obtain rfl : c = nQ N ^ nE N := by omega
      refine AW.iload X dX1_where_72 rfl ?_
      refine AW.iload_n X dX1_where_74 rfl rfl ?_
      refine AW.icmp_ge X (tgt := 118) dX1_where_75 rfl ?_ ?_
      · intro t75
        refine AW.iload_n X dX1_where_118 rfl rfl ?_
        refine AW.iconst X (v := -1) dX1_where_119 rfl ?_
        refine AW.icmp_ne X (tgt := 127) dX1_where_120 rfl ?_ ?_
        · intro t120
          refine AW.iload X dX1_where_127 rfl ?_
          exact AW.ireturn X E ⟨rfl, rfl, rfl, rfl, rfl⟩ dX1_where_129 
        · intro f120
          exact absurd f120 hm1
      · intro f75
        exact absurd (Int32.le_refl _) f75
    | succ j ih =>
      intro c hc
      have hE := ih (c + 1) (by omega)
      unfold whN whS at hE
      refine AW.iload X dX1_where_72 rfl ?_
      refine AW.iload_n X dX1_where_74 rfl rfl ?_
      refine AW.icmp_ge X (tgt := 118) dX1_where_75 rfl ?_ ?_
      · intro t75
        exact absurd t75 (nI_ge (by omega) (by omega))
      · intro f75
        first | refine AW.aload_n X dX1_where_78 rfl rfl ?_ | refine AW.aloadN_n X dX1_where_78 rfl rfl ?_
        refine AW.iload X dX1_where_79 rfl ?_
        refine AW.callV_r X (c_X1_isCase hX0 hB (show c < 2 ^ 31 by omega)) (ci := 0) (q := (RX1, TX1, 14)) (by first | assumption | exact hT _ _ rfl) rfl s_X1_297_0 (by omega) (Nat.le_of_ble_eq_true rfl) rfl rfl (Nat.le_of_ble_eq_true rfl) dX1_where_81 ?_
        refine AW.if_ne X (tgt := 90) dX1_where_84 rfl ?_ ?_
        · intro t84
          rw [if_pos (Decidable.of_not_not fun z => t84 (bI_z.mpr z)), if_pos (Decidable.of_not_not fun z => t84 (bI_z.mpr z))] at hE
          refine AW.iinc3 X (v := _ + 1) dX1_where_90 rfl ?_
          refine AW.iload_n X dX1_where_93 rfl rfl ?_
          refine AW.iconst X (v := -1) dX1_where_94 rfl ?_
          refine AW.icmp_eq X (tgt := 112) dX1_where_95 rfl ?_ ?_
          · intro t95
            exact absurd t95 hm1
          · intro f95
            refine AW.iload X dX1_where_98 rfl ?_
            refine AW.iconst X (v := 1) dX1_where_100 rfl ?_
            first | refine AW.aload_n X dX1_where_101 rfl rfl ?_ | refine AW.aloadN_n X dX1_where_101 rfl rfl ?_
            refine AW.iload_n X dX1_where_102 rfl rfl ?_
            refine AW.iload X dX1_where_103 rfl ?_
            refine AW.callV_r X (c_X1_placed hX0 he (show c < 2 ^ 31 by omega)) (ci := 0) (q := (RX1, TX1, 14)) (by first | assumption | exact hT _ _ rfl) rfl s_X1_294_0 (by omega) (Nat.le_of_ble_eq_true rfl) rfl rfl (Nat.le_of_ble_eq_true rfl) dX1_where_105 ?_
            refine AW.ishl X dX1_where_108 ?_
            refine AW.ior X dX1_where_109 ?_
            refine AW.istore4 X dX1_where_110 ?_
            refine AW.iinc5 X (v := _ + 1) dX1_where_112 rfl ?_
            refine AW.goto X (tgt := 72) dX1_where_115 rfl ?_
            rw [nI_1]; exact hE
        · intro f84
          rw [if_neg (bI_z.mp f84), if_neg (bI_z.mp f84)] at hE
          refine AW.goto X (tgt := 112) dX1_where_87 rfl ?_
          refine AW.iinc5 X (v := _ + 1) dX1_where_112 rfl ?_
          refine AW.goto X (tgt := 72) dX1_where_115 rfl ?_
          rw [nI_1]; exact hE
  have lp : ∀ j k, k + j = nE N → AW cx 0 15 [.ref 100, .int (nI e), .int (nI (nQ N ^ k)), .int (nI k), .retAddr 0, .retAddr 0] [] T I R J := by
    intro j
    induction j with
    | zero =>
      intro k hk
      obtain rfl : k = nE N := by omega
      refine AW.iload_n X dX1_where_15 rfl rfl ?_
      first | refine AW.aload_n X dX1_where_16 rfl rfl ?_ | refine AW.aloadN_n X dX1_where_16 rfl rfl ?_
      refine AW.getR X f_X1_23_0 (by first | assumption | exact hT _ _ rfl) (by first | assumption | exact hR _ _ _ rfl) dX1_where_17 ?_
      refine AW.getR X f_X1_65_2 (by first | assumption | exact hT _ _ rfl) (by first | assumption | exact hR _ _ _ rfl) dX1_where_20 ?_
      refine AW.getR X f_X1_87_3 (by first | assumption | exact hT _ _ rfl) (by first | assumption | exact hR _ _ _ rfl) dX1_where_23 ?_
      refine AW.callV_r X (hP.lE.size) (ci := 19) (q := (RJ2, TJ2, 3)) (by first | assumption | exact hT _ _ rfl) rfl s_X1_75_19 (by omega) (Nat.le_of_ble_eq_true rfl) rfl rfl (Nat.le_of_ble_eq_true rfl) dX1_where_26 ?_
      refine AW.icmp_ge X (tgt := 54) dX1_where_29 rfl ?_ ?_
      · intro t29
        refine AW.iload_n X dX1_where_54 rfl rfl ?_
        refine AW.sipush X (v := 8000) dX1_where_55 rfl ?_
        refine AW.icmp_le X (tgt := 64) dX1_where_58 rfl ?_ ?_
        · intro t58
          have h8 := (nI_leI (b := 8000) (by omega) (by omega)).mp t58
          refine AW.iconst X (v := 0) dX1_where_64 rfl ?_
          refine AW.istore3 X dX1_where_65 ?_
          refine AW.iconst X (v := 0) dX1_where_66 rfl ?_
          refine AW.istore4 X dX1_where_67 ?_
          refine AW.iconst X (v := 0) dX1_where_69 rfl ?_
          refine AW.istore5 X dX1_where_70 ?_
          exact lc h8 (nQ N ^ nE N) 0 (by omega)
        · intro f58
          have h8 : 8000 < nQ N ^ nE N := Nat.lt_of_not_le (fun z => f58 (nI_le (b := 8000) z (by omega)))
          rw [if_pos h8] at E
          refine AW.bipush X (v := -2) dX1_where_61 rfl ?_
          exact AW.ireturn X E ⟨rfl, rfl, rfl, rfl, rfl⟩ dX1_where_63 
      · intro f29
        exact absurd (Int32.le_refl _) f29
    | succ j ih =>
      intro k hk
      refine AW.iload_n X dX1_where_15 rfl rfl ?_
      first | refine AW.aload_n X dX1_where_16 rfl rfl ?_ | refine AW.aloadN_n X dX1_where_16 rfl rfl ?_
      refine AW.getR X f_X1_23_0 (by first | assumption | exact hT _ _ rfl) (by first | assumption | exact hR _ _ _ rfl) dX1_where_17 ?_
      refine AW.getR X f_X1_65_2 (by first | assumption | exact hT _ _ rfl) (by first | assumption | exact hR _ _ _ rfl) dX1_where_20 ?_
      refine AW.getR X f_X1_87_3 (by first | assumption | exact hT _ _ rfl) (by first | assumption | exact hR _ _ _ rfl) dX1_where_23 ?_
      refine AW.callV_r X (hP.lE.size) (ci := 19) (q := (RJ2, TJ2, 3)) (by first | assumption | exact hT _ _ rfl) rfl s_X1_75_19 (by omega) (Nat.le_of_ble_eq_true rfl) rfl rfl (Nat.le_of_ble_eq_true rfl) dX1_where_26 ?_
      refine AW.icmp_ge X (tgt := 54) dX1_where_29 rfl ?_ ?_
      · intro t29
        exact absurd t29 (nI_ge (by omega) (by omega))
      · intro f29
        refine AW.iload_n X dX1_where_32 rfl rfl ?_
        first | refine AW.aload_n X dX1_where_33 rfl rfl ?_ | refine AW.aloadN_n X dX1_where_33 rfl rfl ?_
        refine AW.getR X f_X1_23_0 (by first | assumption | exact hT _ _ rfl) (by first | assumption | exact hR _ _ _ rfl) dX1_where_34 ?_
        refine AW.getR X f_X1_65_2 (by first | assumption | exact hT _ _ rfl) (by first | assumption | exact hR _ _ _ rfl) dX1_where_37 ?_
        refine AW.getR X f_X1_69_3 (by first | assumption | exact hT _ _ rfl) (by first | assumption | exact hR _ _ _ rfl) dX1_where_40 ?_
        refine AW.callV_r X (hP.lQ.size) (ci := 19) (q := (RJ2, TJ2, 3)) (by first | assumption | exact hT _ _ rfl) rfl s_X1_75_19 (by omega) (Nat.le_of_ble_eq_true rfl) rfl rfl (Nat.le_of_ble_eq_true rfl) dX1_where_43 ?_
        refine AW.imul X dX1_where_46 ?_
        rw [nI_mul, ← Nat.pow_succ]
        refine AW.istore2 X dX1_where_47 ?_
        refine AW.iinc3 X (v := _ + 1) dX1_where_48 rfl ?_
        refine AW.goto X (tgt := 15) dX1_where_51 rfl ?_
        rw [nI_1]; exact ih (k + 1) (by omega)
  refine AW.iload_n X dX1_where_0 rfl rfl ?_
  refine AW.iconst X (v := -1) dX1_where_1 rfl ?_
  refine AW.icmp_eq X (tgt := 11) dX1_where_2 rfl ?_ ?_
  · intro t2
    exact absurd t2 hm1
  · intro f2
    first | refine AW.aload_n X dX1_where_5 rfl rfl ?_ | refine AW.aloadN_n X dX1_where_5 rfl rfl ?_
    refine AW.iload_n X dX1_where_6 rfl rfl ?_
    refine AW.callV_r X (c_X1_eelAt_ok hX0 he) (ci := 0) (q := (RX1, TX1, 14)) (by first | assumption | exact hT _ _ rfl) rfl s_X1_176_0 (by omega) (Nat.le_of_ble_eq_true rfl) rfl rfl (Nat.le_of_ble_eq_true rfl) dX1_where_7 ?_
    refine AW.pop X dX1_where_10 rfl ?_
    refine AW.iconst X (v := 1) dX1_where_11 rfl ?_
    refine AW.istore2 X dX1_where_12 ?_
    refine AW.iconst X (v := 0) dX1_where_13 rfl ?_
    refine AW.istore3 X dX1_where_14 ?_
    exact lp (nE N) 0 (by omega)
end WHE
