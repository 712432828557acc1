/-! 07w: bright (written by src/gen07w.py and src/walk.py) -/
set_option maxRecDepth 100000
def brF (q : Nat) (lt : Int32) (a j : Nat) (N : KI) (w : Int32) (n : Nat) : Option Int32 := match kpF q lt j N a n 0 with
  | some v => some (if w = 0 then nI n else v)
  | none => none
def oV : Option Int32 → Int32
  | none => -1
  | some v => v
section BR
variable {pb B : Nat} {T : KT} {I : KI} {R : KR} {J : KJ} {N : KI}
theorem c_X1_bright {q a b : Nat} {lt w : Int32} (hX : XS pb T I R N) (hq : q < nQ N) (ha : a < 24) (hb : b < 24) (hw : w = 0 ∨ w = 1) (hab : a ≤ b) (hb5 : b - a < 6) (hlt : 0 ≤ lt ∧ lt ≤ 255) : MX1_bright 17 0 [.ref 100, .int (nI q), .int lt, .int (nI a), .int (nI b), .int w] T I R J (fun r T' I' R' J' => r = some (.int (oV (fs1 (brF q lt a (b - a + 1) N w) 0 (b - a + 2)))) ∧ T' = T ∧ J' = J ∧ (∀ a, a ≠ 105 → R' a = R a) ∧ XS pb T I' R' N ∧ FK I I') noX := by
  have hX0 := hX
  obtain ⟨hT, hR, hP, hL, hN, hM, h20, hG⟩ := hX
  have hL0 := hL
  obtain ⟨l1, l2, l3, l4, l5, l6, l7, l8, l9, l10, l11, l12, l13, l14, l15, l16, l17⟩ := hL
  obtain ⟨⟨n1, n2, n3, n4, hnq, hne, hns, hnh⟩, -⟩ := id hN
  have pT0 := hP.T0
  have prQ := hP.rQ
  have prE := hP.rE
  have prS := hP.rS
  have prM := hP.rM
  have prW := hP.rW
  have prHd := hP.rHd
  have prHf := hP.rHf
  have prHt := hP.rHt
  have ptM := hP.tM
  have ptW := hP.tW
  have ptHd := hP.tHd
  have ptHf := hP.tHf
  have ptHt := hP.tHt
  have plQ := hP.lQ.tl
  have plE := hP.lE.tl
  have plS := hP.lS.tl
  have h23 : ∀ x : Nat, x < 24 → 0 ≤ nI x ∧ nI x ≤ 23 := fun x hx => ⟨nI_pos' (by omega), nI_le (b := 23) (by omega) (by omega)⟩
  refine AMet.of (by decide) (Nat.le_of_ble_eq_true rfl) (cats1 rfl) fun cx X E => ?_
  show AW _ _ _ (_ :: _ :: _ :: _ :: _ :: _ :: _ :: []) _ _ _ _ _
  generalize hf : fs1 (brF q lt a (b - a + 1) N w) 0 (b - a + 2) = res at E
  have lp : ∀ j n (I' : KI) (R' : KR), n + j = b - a + 2 → (∀ a, a ≠ 105 → R' a = R a) → XS pb T I' R' N → FK I I' → TS pb T I' R' N → res = fs1 (brF q lt a (b - a + 1) N w) n j → AW cx 0 82 [.ref 100, .int (nI q), .int lt, .int (nI a), .int (nI b), .int w, .int (nI n)] [] T I' R' J := by
    intro j
    induction j with
    | zero =>
      intro n I' R' hn hr hx hfk ht hres
      rw [hres] at E
      refine AW.iload X dX1_bright_82 rfl ?_
      refine AW.iload X dX1_bright_84 rfl ?_
      refine AW.iload_n X dX1_bright_86 rfl rfl ?_
      refine AW.isub X dX1_bright_87 ?_
      rw [nI_sub hab]
      refine AW.iconst X (v := 1) dX1_bright_88 rfl ?_
      refine AW.iadd X dX1_bright_89 ?_
      rw [nI_1]
      refine AW.icmp_gt X (tgt := 129) dX1_bright_90 rfl ?_ ?_
      · intro t90
        refine AW.iconst X (v := -1) dX1_bright_129 rfl ?_
        refine AW.ireturn X E ?_ dX1_bright_130 
        exact ⟨rfl, rfl, rfl, hr, hx, hfk⟩
      · intro f90
        exact absurd (nI_lt (by omega) (by omega)) f90
    | succ j ih =>
      intro n I' R' hn hr hx hfk ht hres
      have hT := hx.1
      have hstep : fs1 (brF q lt a (b - a + 1) N w) n (j + 1) = match brF q lt a (b - a + 1) N w n with
        | some v => some v
        | none => fs1 (brF q lt a (b - a + 1) N w) (n + 1) j := rfl
      have hbr : brF q lt a (b - a + 1) N w n = match kpF q lt (b - a + 1) N a n 0 with
        | some v => some (if w = 0 then nI n else v)
        | none => none := rfl
      refine AW.iload X dX1_bright_82 rfl ?_
      refine AW.iload X dX1_bright_84 rfl ?_
      refine AW.iload_n X dX1_bright_86 rfl rfl ?_
      refine AW.isub X dX1_bright_87 ?_
      rw [nI_sub hab]
      refine AW.iconst X (v := 1) dX1_bright_88 rfl ?_
      refine AW.iadd X dX1_bright_89 ?_
      rw [nI_1]
      refine AW.icmp_gt X (tgt := 129) dX1_bright_90 rfl ?_ ?_
      · intro t90
        exact absurd t90 (nI_nlt (by omega) (by omega))
      · intro f90
        first | refine AW.aload_n X dX1_bright_93 rfl rfl ?_ | refine AW.aloadN_n X dX1_bright_93 rfl rfl ?_
        refine AW.iload_n X dX1_bright_94 rfl rfl ?_
        refine AW.iload_n X dX1_bright_95 rfl rfl ?_
        refine AW.iload_n X dX1_bright_96 rfl rfl ?_
        refine AW.iload X dX1_bright_97 rfl ?_
        refine AW.iload X dX1_bright_99 rfl ?_
        refine AW.iconst X (v := 0) dX1_bright_101 rfl ?_
        refine AW.callV_i X (c_X1_keeps hq hb (b - a + 1) (h := a) (left := n) (fig := 0) hx ht (fun _ _ _ => rfl) (by omega) (by omega) (by omega)) (ci := 0) (q := (RX1, TX1, 14)) (by first | assumption | exact hT _ _ rfl) rfl s_X1_273_0 (by omega) (Nat.le_of_ble_eq_true rfl) rfl rfl (Nat.le_of_ble_eq_true rfl) dX1_bright_102 ?_
        intro r102 I102 h102
        obtain ⟨rfl, g1, g2, g3⟩ := h102
        cases hk : kpF q lt (b - a + 1) N a n 0 with
        | none =>
          rw [hk] at hbr
          rw [hbr] at hstep
          refine AW.if_eq X (tgt := 123) dX1_bright_105 rfl (fun _ => ?_) (fun z => absurd rfl z)
          refine AW.iinc6 X (v := _ + 1) dX1_bright_123 rfl ?_
          refine AW.goto X (tgt := 82) dX1_bright_126 rfl ?_
          rw [nI_1]
          exact ih (n + 1) _ _ (by omega) hr (hx.fk g1) (hfk.tr g1) g2 (hres.trans hstep)
        | some v =>
        rw [hk] at hbr
        rw [hbr] at hstep
        have hs2 : fs1 (brF q lt a (b - a + 1) N w) n (j + 1) = some (if w = 0 then nI n else v) := hstep
        rw [hres, hs2] at E
        have hfound := g3 v hk
        refine AW.if_eq X (tgt := 123) dX1_bright_105 rfl ?_ ?_
        · intro t105
          exact absurd t105 (by show ¬ (1 : Int32) = 0; decide)
        · intro f105
          refine AW.iload X dX1_bright_108 rfl ?_
          refine AW.if_ne X (tgt := 118) dX1_bright_110 rfl ?_ ?_
          · intro t110
            rw [if_neg t110] at E
            first | refine AW.aload_n X dX1_bright_118 rfl rfl ?_ | refine AW.aloadN_n X dX1_bright_118 rfl rfl ?_
            refine AW.getI X f_X1_267_0 (by first | assumption | exact hT _ _ rfl) dX1_bright_119 ?_
            rw [hfound]
            refine AW.ireturn X E ?_ dX1_bright_122 
            exact ⟨rfl, rfl, rfl, hr, hx.fk g1, hfk.tr g1⟩
          · intro f110
            rw [if_pos f110] at E
            refine AW.iload X dX1_bright_113 rfl ?_
            refine AW.goto X (tgt := 122) dX1_bright_115 rfl ?_
            refine AW.ireturn X E ?_ dX1_bright_122 
            exact ⟨rfl, rfl, rfl, hr, hx.fk g1, hfk.tr g1⟩
  first | refine AW.aload_n X dX1_bright_0 rfl rfl ?_ | refine AW.aloadN_n X dX1_bright_0 rfl rfl ?_
  refine AW.iload_n X dX1_bright_1 rfl rfl ?_
  refine AW.callV_r X (c_X1_quayAt_ok hX0 hq) (ci := 0) (q := (RX1, TX1, 14)) (by first | assumption | exact hT _ _ rfl) rfl s_X1_158_0 (by omega) (Nat.le_of_ble_eq_true rfl) rfl rfl (Nat.le_of_ble_eq_true rfl) dX1_bright_2 ?_
  refine AW.pop X dX1_bright_5 rfl ?_
  refine AW.iload_n X dX1_bright_6 rfl rfl ?_
  refine AW.callS_r X (c_X1_hourAt_ok (h23 a ha)) s_X1_201 (by omega) (Nat.le_of_ble_eq_true rfl) rfl rfl (Nat.le_of_ble_eq_true rfl) dX1_bright_7 ?_
  refine AW.iload X dX1_bright_10 rfl ?_
  refine AW.callS_r X (c_X1_hourAt_ok (h23 b hb)) s_X1_201 (by omega) (Nat.le_of_ble_eq_true rfl) rfl rfl (Nat.le_of_ble_eq_true rfl) dX1_bright_12 ?_
  refine AW.iload X dX1_bright_15 rfl ?_
  refine AW.if_eq X (tgt := 26) dX1_bright_17 rfl ?_ ?_
  · intro t17
    refine AW.iconst X (v := 1) dX1_bright_26 rfl ?_
    refine AW.goto X (tgt := 31) dX1_bright_27 rfl ?_
    refine AW.callS_r X (c_X1_there_ok (by decide)) s_X1_61 (by omega) (Nat.le_of_ble_eq_true rfl) rfl rfl (Nat.le_of_ble_eq_true rfl) dX1_bright_31 ?_
    refine AW.iload_n X dX1_bright_34 rfl rfl ?_
    refine AW.iload X dX1_bright_35 rfl ?_
    refine AW.icmp_gt X (tgt := 64) dX1_bright_37 rfl ?_ ?_
    · intro t37
      exact absurd t37 (nI_nlt hab (by omega))
    · intro f37
      refine AW.iload X dX1_bright_40 rfl ?_
      refine AW.iload_n X dX1_bright_42 rfl rfl ?_
      refine AW.isub X dX1_bright_43 ?_
      rw [nI_sub hab]
      refine AW.bipush X (v := 6) dX1_bright_44 rfl ?_
      refine AW.icmp_ge X (tgt := 64) dX1_bright_46 rfl ?_ ?_
      · intro t46
        exact absurd t46 (nI_ge (a := b - a) (b := 6) (by omega) (by omega))
      · intro f46
        refine AW.iload_n X dX1_bright_49 rfl rfl ?_
        refine AW.iconst X (v := 0) dX1_bright_50 rfl ?_
        refine AW.sipush X (v := 255) dX1_bright_51 rfl ?_
        refine AW.callS_r X (c_X1_within lt 0 255) s_X1_57 (by omega) (Nat.le_of_ble_eq_true rfl) rfl rfl (Nat.le_of_ble_eq_true rfl) dX1_bright_54 ?_
        refine AW.if_eq X (tgt := 64) dX1_bright_57 rfl ?_ ?_
        · intro t57
          exact absurd hlt (bI_z.mp t57)
        · intro f57
          refine AW.iconst X (v := 1) dX1_bright_60 rfl ?_
          refine AW.goto X (tgt := 65) dX1_bright_61 rfl ?_
          refine AW.callS_r X (c_X1_right_ok (by decide)) s_X1_104 (by omega) (Nat.le_of_ble_eq_true rfl) rfl rfl (Nat.le_of_ble_eq_true rfl) dX1_bright_65 ?_
          first | refine AW.aload_n X dX1_bright_68 rfl rfl ?_ | refine AW.aloadN_n X dX1_bright_68 rfl rfl ?_
          refine AW.getR X f_X1_27_0 (by first | assumption | exact hT _ _ rfl) (by first | assumption | exact hR _ _ _ rfl) dX1_bright_69 ?_
          first | refine AW.aload_n X dX1_bright_72 rfl rfl ?_ | refine AW.aloadN_n X dX1_bright_72 rfl rfl ?_
          refine AW.getR X f_X1_23_0 (by first | assumption | exact hT _ _ rfl) (by first | assumption | exact hR _ _ _ rfl) dX1_bright_73 ?_
          refine AW.callV_0 X (c_X3_like (la := 105) (lb := 103) hT hR (by omega) (by omega) (by omega) hL0 (by omega)) (ci := 2) (q := (RX3, TX3, 9)) (by first | assumption | exact hT _ _ rfl) rfl s_X1_257_2 (by omega) (Nat.le_of_ble_eq_true rfl) rfl rfl (Nat.le_of_ble_eq_true rfl) dX1_bright_76 ?_ ?_
          rotate_left
          · intro _ _ _ _ _ h; exact h.elim
          intro r76 T76 I76 R76 J76 h76
          obtain ⟨rfl, rfl, rfl, rfl, g1, g2⟩ := h76
          have hft : FT I I76 := fun a a1 a2 => g1 a a1 (by unfold lA; omega) (by unfold lA; omega) (by unfold lA; omega)
          have hX1 := (hX0.ft hft).wR pb
          refine AW.iconst X (v := 0) dX1_bright_79 rfl ?_
          refine AW.istore6 X dX1_bright_80 ?_
          exact lp (b - a + 2) 0 I76 _ (by omega) (fun a ha => w2_r ha) hX1 hft.fk (TS.of hX1 g2 (fun _ _ _ => rfl) hM) hf.symm
  · intro f17
    refine AW.iload X dX1_bright_20 rfl ?_
    refine AW.iconst X (v := 1) dX1_bright_22 rfl ?_
    refine AW.icmp_ne X (tgt := 30) dX1_bright_23 rfl ?_ ?_
    · intro t23
      exact absurd hw (fun hc => hc.elim f17 t23)
    · intro f23
      refine AW.iconst X (v := 1) dX1_bright_26 rfl ?_
      refine AW.goto X (tgt := 31) dX1_bright_27 rfl ?_
      refine AW.callS_r X (c_X1_there_ok (by decide)) s_X1_61 (by omega) (Nat.le_of_ble_eq_true rfl) rfl rfl (Nat.le_of_ble_eq_true rfl) dX1_bright_31 ?_
      refine AW.iload_n X dX1_bright_34 rfl rfl ?_
      refine AW.iload X dX1_bright_35 rfl ?_
      refine AW.icmp_gt X (tgt := 64) dX1_bright_37 rfl ?_ ?_
      · intro t37
        exact absurd t37 (nI_nlt hab (by omega))
      · intro f37
        refine AW.iload X dX1_bright_40 rfl ?_
        refine AW.iload_n X dX1_bright_42 rfl rfl ?_
        refine AW.isub X dX1_bright_43 ?_
        rw [nI_sub hab]
        refine AW.bipush X (v := 6) dX1_bright_44 rfl ?_
        refine AW.icmp_ge X (tgt := 64) dX1_bright_46 rfl ?_ ?_
        · intro t46
          exact absurd t46 (nI_ge (a := b - a) (b := 6) (by omega) (by omega))
        · intro f46
          refine AW.iload_n X dX1_bright_49 rfl rfl ?_
          refine AW.iconst X (v := 0) dX1_bright_50 rfl ?_
          refine AW.sipush X (v := 255) dX1_bright_51 rfl ?_
          refine AW.callS_r X (c_X1_within lt 0 255) s_X1_57 (by omega) (Nat.le_of_ble_eq_true rfl) rfl rfl (Nat.le_of_ble_eq_true rfl) dX1_bright_54 ?_
          refine AW.if_eq X (tgt := 64) dX1_bright_57 rfl ?_ ?_
          · intro t57
            exact absurd hlt (bI_z.mp t57)
          · intro f57
            refine AW.iconst X (v := 1) dX1_bright_60 rfl ?_
            refine AW.goto X (tgt := 65) dX1_bright_61 rfl ?_
            refine AW.callS_r X (c_X1_right_ok (by decide)) s_X1_104 (by omega) (Nat.le_of_ble_eq_true rfl) rfl rfl (Nat.le_of_ble_eq_true rfl) dX1_bright_65 ?_
            first | refine AW.aload_n X dX1_bright_68 rfl rfl ?_ | refine AW.aloadN_n X dX1_bright_68 rfl rfl ?_
            refine AW.getR X f_X1_27_0 (by first | assumption | exact hT _ _ rfl) (by first | assumption | exact hR _ _ _ rfl) dX1_bright_69 ?_
            first | refine AW.aload_n X dX1_bright_72 rfl rfl ?_ | refine AW.aloadN_n X dX1_bright_72 rfl rfl ?_
            refine AW.getR X f_X1_23_0 (by first | assumption | exact hT _ _ rfl) (by first | assumption | exact hR _ _ _ rfl) dX1_bright_73 ?_
            refine AW.callV_0 X (c_X3_like (la := 105) (lb := 103) hT hR (by omega) (by omega) (by omega) hL0 (by omega)) (ci := 2) (q := (RX3, TX3, 9)) (by first | assumption | exact hT _ _ rfl) rfl s_X1_257_2 (by omega) (Nat.le_of_ble_eq_true rfl) rfl rfl (Nat.le_of_ble_eq_true rfl) dX1_bright_76 ?_ ?_
            rotate_left
            · intro _ _ _ _ _ h; exact h.elim
            intro r76 T76 I76 R76 J76 h76
            obtain ⟨rfl, rfl, rfl, rfl, g1, g2⟩ := h76
            have hft : FT I I76 := fun a a1 a2 => g1 a a1 (by unfold lA; omega) (by unfold lA; omega) (by unfold lA; omega)
            have hX1 := (hX0.ft hft).wR pb
            refine AW.iconst X (v := 0) dX1_bright_79 rfl ?_
            refine AW.istore6 X dX1_bright_80 ?_
            exact lp (b - a + 2) 0 I76 _ (by omega) (fun a ha => w2_r ha) hX1 hft.fk (TS.of hX1 g2 (fun _ _ _ => rfl) hM) hf.symm
theorem c_X1_bright_bad1 {e lt a c w : Int32} (hX : XS pb T I R N) (h1 : 100 ≤ B) (h0 : (T B).1 = 0) (hb : ¬ ((0 ≤ e ∧ e < nI (nQ N)) ∧ (0 ≤ a ∧ a ≤ 23) ∧ (0 ≤ c ∧ c ≤ 23) ∧ (w = 0 ∨ w = 1))) : MX1_bright 17 2 [.ref 100, .int e, .int lt, .int a, .int c, .int w] T I R J noQ (qX 22 B T I R J) := by
  have hX0 := hX
  obtain ⟨hT, hR, hP, hL, hN, hM, h20, hG⟩ := hX
  have hL0 := hL
  obtain ⟨l1, l2, l3, l4, l5, l6, l7, l8, l9, l10, l11, l12, l13, l14, l15, l16, l17⟩ := hL
  obtain ⟨⟨n1, n2, n3, n4, hnq, hne, hns, hnh⟩, -⟩ := id hN
  have pT0 := hP.T0
  have prQ := hP.rQ
  have prE := hP.rE
  have prS := hP.rS
  have prM := hP.rM
  have prW := hP.rW
  have prHd := hP.rHd
  have prHf := hP.rHf
  have prHt := hP.rHt
  have ptM := hP.tM
  have ptW := hP.tW
  have ptHd := hP.tHd
  have ptHf := hP.tHf
  have ptHt := hP.tHt
  have plQ := hP.lQ.tl
  have plE := hP.lE.tl
  have plS := hP.lS.tl
  refine AMet.of (by decide) (Nat.le_of_ble_eq_true rfl) (cats1 rfl) fun cx X E => ?_
  show AW _ _ _ (_ :: _ :: _ :: _ :: _ :: _ :: _ :: []) _ _ _ _ _
  by_cases hi : 0 ≤ e ∧ e < nI (nQ N)
  · obtain ⟨k, hk, rfl⟩ : ∃ k, k < nQ N ∧ e = nI k := inN hi (by omega)
    by_cases ha : 0 ≤ a ∧ a ≤ 23
    · by_cases hc : 0 ≤ c ∧ c ≤ 23
      · skip
        first | refine AW.aload_n X dX1_bright_0 rfl rfl ?_ | refine AW.aloadN_n X dX1_bright_0 rfl rfl ?_
        refine AW.iload_n X dX1_bright_1 rfl rfl ?_
        refine AW.callV_r X (c_X1_quayAt_ok hX0 hk) (ci := 0) (q := (RX1, TX1, 14)) (by first | assumption | exact hT _ _ rfl) rfl s_X1_158_0 (by omega) (Nat.le_of_ble_eq_true rfl) rfl rfl (Nat.le_of_ble_eq_true rfl) dX1_bright_2 ?_
        refine AW.pop X dX1_bright_5 rfl ?_
        refine AW.iload_n X dX1_bright_6 rfl rfl ?_
        refine AW.callS_r X (c_X1_hourAt_ok ha) s_X1_201 (by omega) (Nat.le_of_ble_eq_true rfl) rfl rfl (Nat.le_of_ble_eq_true rfl) dX1_bright_7 ?_
        refine AW.iload X dX1_bright_10 rfl ?_
        refine AW.callS_r X (c_X1_hourAt_ok hc) s_X1_201 (by omega) (Nat.le_of_ble_eq_true rfl) rfl rfl (Nat.le_of_ble_eq_true rfl) dX1_bright_12 ?_
        refine AW.iload X dX1_bright_15 rfl ?_
        refine AW.if_eq X (tgt := 26) dX1_bright_17 rfl ?_ ?_
        · intro t17
          exact absurd ⟨hi, ha, hc, Or.inl t17⟩ hb
        · intro f17
          refine AW.iload X dX1_bright_20 rfl ?_
          refine AW.iconst X (v := 1) dX1_bright_22 rfl ?_
          refine AW.icmp_ne X (tgt := 30) dX1_bright_23 rfl ?_ ?_
          · intro t23
            refine AW.iconst X (v := 0) dX1_bright_30 rfl ?_
            exact AW.callS (b := 0) (bc := 2) X (c_X1_there_bad h1 h0) s_X1_61 (by omega) (Nat.le_of_ble_eq_true rfl) rfl rfl (Nat.le_of_ble_eq_true rfl) dX1_bright_31 (fun _ _ _ _ _ h => h.elim) (AX.thru X E (by omega) rfl (fun _ h => nomatch h))
          · intro f23
            exact absurd ⟨hi, ha, hc, Or.inr f23⟩ hb
      · skip
        first | refine AW.aload_n X dX1_bright_0 rfl rfl ?_ | refine AW.aloadN_n X dX1_bright_0 rfl rfl ?_
        refine AW.iload_n X dX1_bright_1 rfl rfl ?_
        refine AW.callV_r X (c_X1_quayAt_ok hX0 hk) (ci := 0) (q := (RX1, TX1, 14)) (by first | assumption | exact hT _ _ rfl) rfl s_X1_158_0 (by omega) (Nat.le_of_ble_eq_true rfl) rfl rfl (Nat.le_of_ble_eq_true rfl) dX1_bright_2 ?_
        refine AW.pop X dX1_bright_5 rfl ?_
        refine AW.iload_n X dX1_bright_6 rfl rfl ?_
        refine AW.callS_r X (c_X1_hourAt_ok ha) s_X1_201 (by omega) (Nat.le_of_ble_eq_true rfl) rfl rfl (Nat.le_of_ble_eq_true rfl) dX1_bright_7 ?_
        refine AW.iload X dX1_bright_10 rfl ?_
        exact AW.callS (b := 0) (bc := 2) X (c_X1_hourAt_bad h1 h0 hc) s_X1_201 (by omega) (Nat.le_of_ble_eq_true rfl) rfl rfl (Nat.le_of_ble_eq_true rfl) dX1_bright_12 (fun _ _ _ _ _ h => h.elim) (AX.thru X E (by omega) rfl (fun _ h => nomatch h))
    · skip
      first | refine AW.aload_n X dX1_bright_0 rfl rfl ?_ | refine AW.aloadN_n X dX1_bright_0 rfl rfl ?_
      refine AW.iload_n X dX1_bright_1 rfl rfl ?_
      refine AW.callV_r X (c_X1_quayAt_ok hX0 hk) (ci := 0) (q := (RX1, TX1, 14)) (by first | assumption | exact hT _ _ rfl) rfl s_X1_158_0 (by omega) (Nat.le_of_ble_eq_true rfl) rfl rfl (Nat.le_of_ble_eq_true rfl) dX1_bright_2 ?_
      refine AW.pop X dX1_bright_5 rfl ?_
      refine AW.iload_n X dX1_bright_6 rfl rfl ?_
      exact AW.callS (b := 0) (bc := 2) X (c_X1_hourAt_bad h1 h0 ha) s_X1_201 (by omega) (Nat.le_of_ble_eq_true rfl) rfl rfl (Nat.le_of_ble_eq_true rfl) dX1_bright_7 (fun _ _ _ _ _ h => h.elim) (AX.thru X E (by omega) rfl (fun _ h => nomatch h))
  · skip
    first | refine AW.aload_n X dX1_bright_0 rfl rfl ?_ | refine AW.aloadN_n X dX1_bright_0 rfl rfl ?_
    refine AW.iload_n X dX1_bright_1 rfl rfl ?_
    exact AW.callV (b := 0) (bc := 2) X (c_X1_quayAt_bad hX0 h1 h0 hi) (ci := 0) (q := (RX1, TX1, 14)) (by first | assumption | exact hT _ _ rfl) rfl s_X1_158_0 (by omega) (Nat.le_of_ble_eq_true rfl) rfl rfl (Nat.le_of_ble_eq_true rfl) dX1_bright_2 (fun _ _ _ _ _ h => h.elim) (AX.thru X E (by omega) rfl (fun _ h => nomatch h))
theorem c_X1_bright_bad2 {q a b : Nat} {lt w : Int32} (hX : XS pb T I R N) (h1 : 100 ≤ B) (h0 : (T B).1 = 0) (hq : q < nQ N) (ha : a < 24) (hb : b < 24) (hw : w = 0 ∨ w = 1) (hbad : ¬ (a ≤ b ∧ b < a + 6 ∧ (0 ≤ lt ∧ lt ≤ 255))) : MX1_bright 17 2 [.ref 100, .int (nI q), .int lt, .int (nI a), .int (nI b), .int w] T I R J noQ (qX 23 B T I R J) := by
  have hX0 := hX
  obtain ⟨hT, hR, hP, hL, hN, hM, h20, hG⟩ := hX
  have hL0 := hL
  obtain ⟨l1, l2, l3, l4, l5, l6, l7, l8, l9, l10, l11, l12, l13, l14, l15, l16, l17⟩ := hL
  obtain ⟨⟨n1, n2, n3, n4, hnq, hne, hns, hnh⟩, -⟩ := id hN
  have pT0 := hP.T0
  have prQ := hP.rQ
  have prE := hP.rE
  have prS := hP.rS
  have prM := hP.rM
  have prW := hP.rW
  have prHd := hP.rHd
  have prHf := hP.rHf
  have prHt := hP.rHt
  have ptM := hP.tM
  have ptW := hP.tW
  have ptHd := hP.tHd
  have ptHf := hP.tHf
  have ptHt := hP.tHt
  have plQ := hP.lQ.tl
  have plE := hP.lE.tl
  have plS := hP.lS.tl
  have h23 : ∀ x : Nat, x < 24 → 0 ≤ nI x ∧ nI x ≤ 23 := fun x hx => ⟨nI_pos' (by omega), nI_le (b := 23) (by omega) (by omega)⟩
  refine AMet.of (by decide) (Nat.le_of_ble_eq_true rfl) (cats1 rfl) fun cx X E => ?_
  show AW _ _ _ (_ :: _ :: _ :: _ :: _ :: _ :: _ :: []) _ _ _ _ _
  first | refine AW.aload_n X dX1_bright_0 rfl rfl ?_ | refine AW.aloadN_n X dX1_bright_0 rfl rfl ?_
  refine AW.iload_n X dX1_bright_1 rfl rfl ?_
  refine AW.callV_r X (c_X1_quayAt_ok hX0 hq) (ci := 0) (q := (RX1, TX1, 14)) (by first | assumption | exact hT _ _ rfl) rfl s_X1_158_0 (by omega) (Nat.le_of_ble_eq_true rfl) rfl rfl (Nat.le_of_ble_eq_true rfl) dX1_bright_2 ?_
  refine AW.pop X dX1_bright_5 rfl ?_
  refine AW.iload_n X dX1_bright_6 rfl rfl ?_
  refine AW.callS_r X (c_X1_hourAt_ok (h23 a ha)) s_X1_201 (by omega) (Nat.le_of_ble_eq_true rfl) rfl rfl (Nat.le_of_ble_eq_true rfl) dX1_bright_7 ?_
  refine AW.iload X dX1_bright_10 rfl ?_
  refine AW.callS_r X (c_X1_hourAt_ok (h23 b hb)) s_X1_201 (by omega) (Nat.le_of_ble_eq_true rfl) rfl rfl (Nat.le_of_ble_eq_true rfl) dX1_bright_12 ?_
  refine AW.iload X dX1_bright_15 rfl ?_
  refine AW.if_eq X (tgt := 26) dX1_bright_17 rfl ?_ ?_
  · intro t17
    refine AW.iconst X (v := 1) dX1_bright_26 rfl ?_
    refine AW.goto X (tgt := 31) dX1_bright_27 rfl ?_
    refine AW.callS_r X (c_X1_there_ok (by decide)) s_X1_61 (by omega) (Nat.le_of_ble_eq_true rfl) rfl rfl (Nat.le_of_ble_eq_true rfl) dX1_bright_31 ?_
    refine AW.iload_n X dX1_bright_34 rfl rfl ?_
    refine AW.iload X dX1_bright_35 rfl ?_
    refine AW.icmp_gt X (tgt := 64) dX1_bright_37 rfl ?_ ?_
    · intro t37
      refine AW.iconst X (v := 0) dX1_bright_64 rfl ?_
      exact AW.callS (b := 0) (bc := 2) X (c_X1_right_bad h1 h0) s_X1_104 (by omega) (Nat.le_of_ble_eq_true rfl) rfl rfl (Nat.le_of_ble_eq_true rfl) dX1_bright_65 (fun _ _ _ _ _ h => h.elim) (AX.thru X E (by omega) rfl (fun _ h => nomatch h))
    · intro f37
      have hab := (nI_leI (by omega) (by omega)).mp (Int32.not_lt.mp f37)
      refine AW.iload X dX1_bright_40 rfl ?_
      refine AW.iload_n X dX1_bright_42 rfl rfl ?_
      refine AW.isub X dX1_bright_43 ?_
      rw [nI_sub hab]
      refine AW.bipush X (v := 6) dX1_bright_44 rfl ?_
      refine AW.icmp_ge X (tgt := 64) dX1_bright_46 rfl ?_ ?_
      · intro t46
        refine AW.iconst X (v := 0) dX1_bright_64 rfl ?_
        exact AW.callS (b := 0) (bc := 2) X (c_X1_right_bad h1 h0) s_X1_104 (by omega) (Nat.le_of_ble_eq_true rfl) rfl rfl (Nat.le_of_ble_eq_true rfl) dX1_bright_65 (fun _ _ _ _ _ h => h.elim) (AX.thru X E (by omega) rfl (fun _ h => nomatch h))
      · intro f46
        have hb5 := (nI_ltI (b := 6) (by omega) (by omega)).mp (Int32.not_le.mp f46)
        refine AW.iload_n X dX1_bright_49 rfl rfl ?_
        refine AW.iconst X (v := 0) dX1_bright_50 rfl ?_
        refine AW.sipush X (v := 255) dX1_bright_51 rfl ?_
        refine AW.callS_r X (c_X1_within lt 0 255) s_X1_57 (by omega) (Nat.le_of_ble_eq_true rfl) rfl rfl (Nat.le_of_ble_eq_true rfl) dX1_bright_54 ?_
        refine AW.if_eq X (tgt := 64) dX1_bright_57 rfl ?_ ?_
        · intro t57
          refine AW.iconst X (v := 0) dX1_bright_64 rfl ?_
          exact AW.callS (b := 0) (bc := 2) X (c_X1_right_bad h1 h0) s_X1_104 (by omega) (Nat.le_of_ble_eq_true rfl) rfl rfl (Nat.le_of_ble_eq_true rfl) dX1_bright_65 (fun _ _ _ _ _ h => h.elim) (AX.thru X E (by omega) rfl (fun _ h => nomatch h))
        · intro f57
          exact absurd ⟨hab, by omega, Decidable.of_not_not fun z => f57 (bI_z.mpr z)⟩ hbad
  · intro f17
    refine AW.iload X dX1_bright_20 rfl ?_
    refine AW.iconst X (v := 1) dX1_bright_22 rfl ?_
    refine AW.icmp_ne X (tgt := 30) dX1_bright_23 rfl ?_ ?_
    · intro t23
      exact absurd hw (fun hc => hc.elim f17 t23)
    · intro f23
      refine AW.iconst X (v := 1) dX1_bright_26 rfl ?_
      refine AW.goto X (tgt := 31) dX1_bright_27 rfl ?_
      refine AW.callS_r X (c_X1_there_ok (by decide)) s_X1_61 (by omega) (Nat.le_of_ble_eq_true rfl) rfl rfl (Nat.le_of_ble_eq_true rfl) dX1_bright_31 ?_
      refine AW.iload_n X dX1_bright_34 rfl rfl ?_
      refine AW.iload X dX1_bright_35 rfl ?_
      refine AW.icmp_gt X (tgt := 64) dX1_bright_37 rfl ?_ ?_
      · intro t37
        refine AW.iconst X (v := 0) dX1_bright_64 rfl ?_
        exact AW.callS (b := 0) (bc := 2) X (c_X1_right_bad h1 h0) s_X1_104 (by omega) (Nat.le_of_ble_eq_true rfl) rfl rfl (Nat.le_of_ble_eq_true rfl) dX1_bright_65 (fun _ _ _ _ _ h => h.elim) (AX.thru X E (by omega) rfl (fun _ h => nomatch h))
      · intro f37
        have hab := (nI_leI (by omega) (by omega)).mp (Int32.not_lt.mp f37)
        refine AW.iload X dX1_bright_40 rfl ?_
        refine AW.iload_n X dX1_bright_42 rfl rfl ?_
        refine AW.isub X dX1_bright_43 ?_
        rw [nI_sub hab]
        refine AW.bipush X (v := 6) dX1_bright_44 rfl ?_
        refine AW.icmp_ge X (tgt := 64) dX1_bright_46 rfl ?_ ?_
        · intro t46
          refine AW.iconst X (v := 0) dX1_bright_64 rfl ?_
          exact AW.callS (b := 0) (bc := 2) X (c_X1_right_bad h1 h0) s_X1_104 (by omega) (Nat.le_of_ble_eq_true rfl) rfl rfl (Nat.le_of_ble_eq_true rfl) dX1_bright_65 (fun _ _ _ _ _ h => h.elim) (AX.thru X E (by omega) rfl (fun _ h => nomatch h))
        · intro f46
          have hb5 := (nI_ltI (b := 6) (by omega) (by omega)).mp (Int32.not_le.mp f46)
          refine AW.iload_n X dX1_bright_49 rfl rfl ?_
          refine AW.iconst X (v := 0) dX1_bright_50 rfl ?_
          refine AW.sipush X (v := 255) dX1_bright_51 rfl ?_
          refine AW.callS_r X (c_X1_within lt 0 255) s_X1_57 (by omega) (Nat.le_of_ble_eq_true rfl) rfl rfl (Nat.le_of_ble_eq_true rfl) dX1_bright_54 ?_
          refine AW.if_eq X (tgt := 64) dX1_bright_57 rfl ?_ ?_
          · intro t57
            refine AW.iconst X (v := 0) dX1_bright_64 rfl ?_
            exact AW.callS (b := 0) (bc := 2) X (c_X1_right_bad h1 h0) s_X1_104 (by omega) (Nat.le_of_ble_eq_true rfl) rfl rfl (Nat.le_of_ble_eq_true rfl) dX1_bright_65 (fun _ _ _ _ _ h => h.elim) (AX.thru X E (by omega) rfl (fun _ h => nomatch h))
          · intro f57
            exact absurd ⟨hab, by omega, Decidable.of_not_not fun z => f57 (bI_z.mpr z)⟩ hbad
end BR
