/-! 07u: plan (written by src/gen07u.py and src/walk.py) -/
set_option maxRecDepth 100000
section PLA
variable {pb B : Nat} {T : KT} {I : KI} {R : KR} {J : KJ} {N : KI}
theorem c_X1_plan {s o a b : Nat} (hX : XS pb T I R N) (hs : s < nS N) (ho : o < nS N) (ha : a < 24) (hb : b < 24) (hab : a ≤ b) (hb3 : b ≤ a + 3) (hso : ¬ s = o) : MX1_plan 15 0 [.ref 100, .int (nI s), .int (nI o), .int (nI a), .int (nI b)] T I R J (fun r T' I' R' J' => r = some (.int (plnF s o (b - a + 1) N [] a 0 (-1, [])).1) ∧ T' = T ∧ J' = J ∧ (∀ a, a ≠ 105 → R' a = R a) ∧ XS pb T I' R' N ∧ FP I I' ∧ PlI I [] (b - a + 1) (plnF s o (b - a + 1) N [] a 0 (-1, [])) I') noX := by
  have hX0 := hX
  obtain ⟨hT, hR, hP, hL, hN, hM, h20, hG⟩ := hX
  have hL0 := hL
  obtain ⟨l1, l2, l3, l4, l5, l6, l7, l8, l9, l10, l11, l12, l13, l14, l15, l16, l17⟩ := hL
  obtain ⟨⟨n1, n2, n3, n4, hnq, hne, hns, hnh⟩, -⟩ := id hN
  have pT0 := hP.T0
  have prQ := hP.rQ
  have prE := hP.rE
  have prS := hP.rS
  have prM := hP.rM
  have prW := hP.rW
  have prHd := hP.rHd
  have prHf := hP.rHf
  have prHt := hP.rHt
  have ptM := hP.tM
  have ptW := hP.tW
  have ptHd := hP.tHd
  have ptHf := hP.tHf
  have ptHt := hP.tHt
  have plQ := hP.lQ.tl
  have plE := hP.lE.tl
  have plS := hP.lS.tl
  have h23 : ∀ x : Nat, x < 24 → 0 ≤ nI x ∧ nI x ≤ 23 := fun x hx => ⟨nI_pos' (by omega), nI_le (b := 23) (by omega) (by omega)⟩
  refine AMet.of (by decide) (Nat.le_of_ble_eq_true rfl) (cats1 rfl) fun cx X E => ?_
  show AW _ _ _ (_ :: _ :: _ :: _ :: _ :: _ :: _ :: []) _ _ _ _ _
  first | refine AW.aload_n X dX1_plan_0 rfl rfl ?_ | refine AW.aloadN_n X dX1_plan_0 rfl rfl ?_
  refine AW.iload_n X dX1_plan_1 rfl rfl ?_
  refine AW.callV_r X (c_X1_shipAt_ok hX0 hs) (ci := 0) (q := (RX1, TX1, 14)) (by first | assumption | exact hT _ _ rfl) rfl s_X1_189_0 (by omega) (Nat.le_of_ble_eq_true rfl) rfl rfl (Nat.le_of_ble_eq_true rfl) dX1_plan_2 ?_
  first | refine AW.astore5 X dX1_plan_5 ?_ | refine AW.astoreN5 X dX1_plan_5 ?_
  first | refine AW.aload_n X dX1_plan_7 rfl rfl ?_ | refine AW.aloadN_n X dX1_plan_7 rfl rfl ?_
  refine AW.iload_n X dX1_plan_8 rfl rfl ?_
  refine AW.callV_r X (c_X1_shipAt_ok hX0 ho) (ci := 0) (q := (RX1, TX1, 14)) (by first | assumption | exact hT _ _ rfl) rfl s_X1_189_0 (by omega) (Nat.le_of_ble_eq_true rfl) rfl rfl (Nat.le_of_ble_eq_true rfl) dX1_plan_9 ?_
  first | refine AW.astore6 X dX1_plan_12 ?_ | refine AW.astoreN6 X dX1_plan_12 ?_
  refine AW.iload_n X dX1_plan_14 rfl rfl ?_
  refine AW.callS_r X (c_X1_hourAt_ok (h23 a ha)) s_X1_201 (by omega) (Nat.le_of_ble_eq_true rfl) rfl rfl (Nat.le_of_ble_eq_true rfl) dX1_plan_15 ?_
  refine AW.iload X dX1_plan_18 rfl ?_
  refine AW.callS_r X (c_X1_hourAt_ok (h23 b hb)) s_X1_201 (by omega) (Nat.le_of_ble_eq_true rfl) rfl rfl (Nat.le_of_ble_eq_true rfl) dX1_plan_20 ?_
  refine AW.iload_n X dX1_plan_23 rfl rfl ?_
  refine AW.iload X dX1_plan_24 rfl ?_
  refine AW.icmp_gt X (tgt := 46) dX1_plan_26 rfl ?_ ?_
  · intro t26
    exact absurd t26 (nI_nlt hab (by omega))
  · intro f26
    refine AW.iload X dX1_plan_29 rfl ?_
    refine AW.iload_n X dX1_plan_31 rfl rfl ?_
    refine AW.iconst X (v := 3) dX1_plan_32 rfl ?_
    refine AW.iadd X dX1_plan_33 ?_
    rw [show nI a + 3 = nI (a + 3) from nI_add a 3]
    refine AW.icmp_gt X (tgt := 46) dX1_plan_34 rfl ?_ ?_
    · intro t34
      exact absurd t34 (nI_nlt hb3 (by omega))
    · intro f34
      refine AW.iload_n X dX1_plan_37 rfl rfl ?_
      refine AW.iload_n X dX1_plan_38 rfl rfl ?_
      refine AW.icmp_eq X (tgt := 46) dX1_plan_39 rfl ?_ ?_
      · intro t39
        exact absurd ((nI_eq (by omega) (by omega)).mp t39) hso
      · intro f39
        refine AW.iconst X (v := 1) dX1_plan_42 rfl ?_
        refine AW.goto X (tgt := 47) dX1_plan_43 rfl ?_
        refine AW.callS_r X (c_X1_right_ok (by decide)) s_X1_104 (by omega) (Nat.le_of_ble_eq_true rfl) rfl rfl (Nat.le_of_ble_eq_true rfl) dX1_plan_47 ?_
        first | refine AW.aload_n X dX1_plan_50 rfl rfl ?_ | refine AW.aloadN_n X dX1_plan_50 rfl rfl ?_
        refine AW.getR X f_X1_27_0 (by first | assumption | exact hT _ _ rfl) (by first | assumption | exact hR _ _ _ rfl) dX1_plan_51 ?_
        first | refine AW.aload_n X dX1_plan_54 rfl rfl ?_ | refine AW.aloadN_n X dX1_plan_54 rfl rfl ?_
        refine AW.getR X f_X1_23_0 (by first | assumption | exact hT _ _ rfl) (by first | assumption | exact hR _ _ _ rfl) dX1_plan_55 ?_
        refine AW.callV_0 X (c_X3_like (la := 105) (lb := 103) hT hR (by omega) (by omega) (by omega) hL0 (by omega)) (ci := 2) (q := (RX3, TX3, 9)) (by first | assumption | exact hT _ _ rfl) rfl s_X1_257_2 (by omega) (Nat.le_of_ble_eq_true rfl) rfl rfl (Nat.le_of_ble_eq_true rfl) dX1_plan_58 ?_ ?_
        rotate_left
        · intro _ _ _ _ _ h; exact h.elim
        intro r58 T58 I58 R58 J58 h58
        obtain ⟨rfl, rfl, rfl, rfl, g1, g2⟩ := h58
        have hf : FT I I58 := fun a a1 a2 => g1 a a1 (by unfold lA; omega) (by unfold lA; omega) (by unfold lA; omega)
        have hX1 := (hX0.ft hf).wR pb
        have hf2 : FP I (w2 I58 100 11 (-1)) := hf.fp.tr ⟨fun a a1 a2 a3 a4 a5 => w2_r a1, fun k k1 k2 => w2_n2 k2⟩
        have hT1 := hX1.1
        have hX2 : XS pb _ (w2 I58 100 11 (-1)) (w2 R 105 0 (some pb)) N := hX1.fp ⟨fun a a1 a2 a3 a4 a5 => w2_r a1, fun k k1 k2 => w2_n2 k2⟩
        have ht : TS pb _ (w2 I58 100 11 (-1)) (w2 R 105 0 (some pb)) N := (TS.of hX1 g2 (fun _ _ _ => rfl) hM).fr (fun a ha => w2_r (by omega))
        have hp : PlI I [] (b - a + 1) (-1, []) (w2 I58 100 11 (-1)) := ⟨fun i hi => absurd hi (Nat.not_lt_zero _), w2_s _ _ _ _, Or.inl ⟨rfl, by rw [w2_r (by omega)]; exact hf 108 (by omega) (by omega), by rw [w2_n2 (by omega)]; exact congrFun (hf 100 (by omega) (by omega)) 10⟩⟩
        first | refine AW.aload_n X dX1_plan_61 rfl rfl ?_ | refine AW.aloadN_n X dX1_plan_61 rfl rfl ?_
        refine AW.iconst X (v := -1) dX1_plan_62 rfl ?_
        refine AW.putI X g_X1_plan_244_0 (by omega) (by first | assumption | exact hT _ _ rfl) dX1_plan_63 ?_ 
        first | refine AW.aload_n X dX1_plan_66 rfl rfl ?_ | refine AW.aloadN_n X dX1_plan_66 rfl rfl ?_
        first | refine AW.aload X dX1_plan_67 rfl ?_ | refine AW.aloadN X dX1_plan_67 rfl ?_
        first | refine AW.aload X dX1_plan_69 rfl ?_ | refine AW.aloadN X dX1_plan_69 rfl ?_
        refine AW.iconst X (v := 0) dX1_plan_71 rfl ?_
        refine AW.iload X dX1_plan_72 rfl ?_
        refine AW.iload_n X dX1_plan_74 rfl rfl ?_
        refine AW.isub X dX1_plan_75 ?_
        rw [nI_sub hab]
        refine AW.iconst X (v := 1) dX1_plan_76 rfl ?_
        refine AW.iadd X dX1_plan_77 ?_
        rw [nI_1]
        refine AW.iload_n X dX1_plan_78 rfl rfl ?_
        refine AW.iconst X (v := 0) dX1_plan_79 rfl ?_
        refine AW.callV_i X (c_X1_plans hs ho (b - a + 1) (k := 0) (fr := a) (cs := []) (p := 0) hX2 ht (fun _ _ _ => rfl) (by omega) (by omega) (by omega) rfl (by omega) hp) (ci := 0) (q := (RX1, TX1, 14)) (by first | assumption | exact hT _ _ rfl) rfl s_X1_253_0 (by omega) (Nat.le_of_ble_eq_true rfl) rfl rfl (Nat.le_of_ble_eq_true rfl) dX1_plan_80 ?_
        intro r80 I80 h80
        obtain ⟨rfl, q1, q2, q3⟩ := h80
        first | refine AW.aload_n X dX1_plan_83 rfl rfl ?_ | refine AW.aloadN_n X dX1_plan_83 rfl rfl ?_
        refine AW.getI X f_X1_244_0 (by first | assumption | exact hT _ _ rfl) dX1_plan_84 ?_
        rw [q3.2.1]
        refine AW.ireturn X E ?_ dX1_plan_87 
        exact ⟨rfl, rfl, rfl, fun a ha => w2_r ha, hX2.fp q1, hf2.tr q1, q3⟩
theorem c_X1_plan_bad1 {e f a c : Int32} (hX : XS pb T I R N) (h1 : 100 ≤ B) (h0 : (T B).1 = 0) (hb : ¬ ((0 ≤ e ∧ e < nI (nS N)) ∧ (0 ≤ f ∧ f < nI (nS N)) ∧ (0 ≤ a ∧ a ≤ 23) ∧ (0 ≤ c ∧ c ≤ 23))) : MX1_plan 15 2 [.ref 100, .int e, .int f, .int a, .int c] T I R J noQ (qX 22 B T I R J) := by
  have hX0 := hX
  obtain ⟨hT, hR, hP, hL, hN, hM, h20, hG⟩ := hX
  have hL0 := hL
  obtain ⟨l1, l2, l3, l4, l5, l6, l7, l8, l9, l10, l11, l12, l13, l14, l15, l16, l17⟩ := hL
  obtain ⟨⟨n1, n2, n3, n4, hnq, hne, hns, hnh⟩, -⟩ := id hN
  have pT0 := hP.T0
  have prQ := hP.rQ
  have prE := hP.rE
  have prS := hP.rS
  have prM := hP.rM
  have prW := hP.rW
  have prHd := hP.rHd
  have prHf := hP.rHf
  have prHt := hP.rHt
  have ptM := hP.tM
  have ptW := hP.tW
  have ptHd := hP.tHd
  have ptHf := hP.tHf
  have ptHt := hP.tHt
  have plQ := hP.lQ.tl
  have plE := hP.lE.tl
  have plS := hP.lS.tl
  refine AMet.of (by decide) (Nat.le_of_ble_eq_true rfl) (cats1 rfl) fun cx X E => ?_
  show AW _ _ _ (_ :: _ :: _ :: _ :: _ :: _ :: _ :: []) _ _ _ _ _
  by_cases hi : 0 ≤ e ∧ e < nI (nS N)
  · obtain ⟨k, hk, rfl⟩ : ∃ k, k < nS N ∧ e = nI k := inN hi (by omega)
    by_cases hj : 0 ≤ f ∧ f < nI (nS N)
    · obtain ⟨k2, hk2, rfl⟩ : ∃ k, k < nS N ∧ f = nI k := inN hj (by omega)
      by_cases ha : 0 ≤ a ∧ a ≤ 23
      · skip
        first | refine AW.aload_n X dX1_plan_0 rfl rfl ?_ | refine AW.aloadN_n X dX1_plan_0 rfl rfl ?_
        refine AW.iload_n X dX1_plan_1 rfl rfl ?_
        refine AW.callV_r X (c_X1_shipAt_ok hX0 hk) (ci := 0) (q := (RX1, TX1, 14)) (by first | assumption | exact hT _ _ rfl) rfl s_X1_189_0 (by omega) (Nat.le_of_ble_eq_true rfl) rfl rfl (Nat.le_of_ble_eq_true rfl) dX1_plan_2 ?_
        first | refine AW.astore5 X dX1_plan_5 ?_ | refine AW.astoreN5 X dX1_plan_5 ?_
        first | refine AW.aload_n X dX1_plan_7 rfl rfl ?_ | refine AW.aloadN_n X dX1_plan_7 rfl rfl ?_
        refine AW.iload_n X dX1_plan_8 rfl rfl ?_
        refine AW.callV_r X (c_X1_shipAt_ok hX0 hk2) (ci := 0) (q := (RX1, TX1, 14)) (by first | assumption | exact hT _ _ rfl) rfl s_X1_189_0 (by omega) (Nat.le_of_ble_eq_true rfl) rfl rfl (Nat.le_of_ble_eq_true rfl) dX1_plan_9 ?_
        first | refine AW.astore6 X dX1_plan_12 ?_ | refine AW.astoreN6 X dX1_plan_12 ?_
        refine AW.iload_n X dX1_plan_14 rfl rfl ?_
        refine AW.callS_r X (c_X1_hourAt_ok ha) s_X1_201 (by omega) (Nat.le_of_ble_eq_true rfl) rfl rfl (Nat.le_of_ble_eq_true rfl) dX1_plan_15 ?_
        refine AW.iload X dX1_plan_18 rfl ?_
        exact AW.callS (b := 0) (bc := 2) X (c_X1_hourAt_bad h1 h0 (fun hc => hb ⟨hi, hj, ha, hc⟩)) s_X1_201 (by omega) (Nat.le_of_ble_eq_true rfl) rfl rfl (Nat.le_of_ble_eq_true rfl) dX1_plan_20 (fun _ _ _ _ _ h => h.elim) (AX.thru X E (by omega) rfl (fun _ h => nomatch h))
      · skip
        first | refine AW.aload_n X dX1_plan_0 rfl rfl ?_ | refine AW.aloadN_n X dX1_plan_0 rfl rfl ?_
        refine AW.iload_n X dX1_plan_1 rfl rfl ?_
        refine AW.callV_r X (c_X1_shipAt_ok hX0 hk) (ci := 0) (q := (RX1, TX1, 14)) (by first | assumption | exact hT _ _ rfl) rfl s_X1_189_0 (by omega) (Nat.le_of_ble_eq_true rfl) rfl rfl (Nat.le_of_ble_eq_true rfl) dX1_plan_2 ?_
        first | refine AW.astore5 X dX1_plan_5 ?_ | refine AW.astoreN5 X dX1_plan_5 ?_
        first | refine AW.aload_n X dX1_plan_7 rfl rfl ?_ | refine AW.aloadN_n X dX1_plan_7 rfl rfl ?_
        refine AW.iload_n X dX1_plan_8 rfl rfl ?_
        refine AW.callV_r X (c_X1_shipAt_ok hX0 hk2) (ci := 0) (q := (RX1, TX1, 14)) (by first | assumption | exact hT _ _ rfl) rfl s_X1_189_0 (by omega) (Nat.le_of_ble_eq_true rfl) rfl rfl (Nat.le_of_ble_eq_true rfl) dX1_plan_9 ?_
        first | refine AW.astore6 X dX1_plan_12 ?_ | refine AW.astoreN6 X dX1_plan_12 ?_
        refine AW.iload_n X dX1_plan_14 rfl rfl ?_
        exact AW.callS (b := 0) (bc := 2) X (c_X1_hourAt_bad h1 h0 ha) s_X1_201 (by omega) (Nat.le_of_ble_eq_true rfl) rfl rfl (Nat.le_of_ble_eq_true rfl) dX1_plan_15 (fun _ _ _ _ _ h => h.elim) (AX.thru X E (by omega) rfl (fun _ h => nomatch h))
    · skip
      first | refine AW.aload_n X dX1_plan_0 rfl rfl ?_ | refine AW.aloadN_n X dX1_plan_0 rfl rfl ?_
      refine AW.iload_n X dX1_plan_1 rfl rfl ?_
      refine AW.callV_r X (c_X1_shipAt_ok hX0 hk) (ci := 0) (q := (RX1, TX1, 14)) (by first | assumption | exact hT _ _ rfl) rfl s_X1_189_0 (by omega) (Nat.le_of_ble_eq_true rfl) rfl rfl (Nat.le_of_ble_eq_true rfl) dX1_plan_2 ?_
      first | refine AW.astore5 X dX1_plan_5 ?_ | refine AW.astoreN5 X dX1_plan_5 ?_
      first | refine AW.aload_n X dX1_plan_7 rfl rfl ?_ | refine AW.aloadN_n X dX1_plan_7 rfl rfl ?_
      refine AW.iload_n X dX1_plan_8 rfl rfl ?_
      exact AW.callV (b := 0) (bc := 2) X (c_X1_shipAt_bad hX0 h1 h0 hj) (ci := 0) (q := (RX1, TX1, 14)) (by first | assumption | exact hT _ _ rfl) rfl s_X1_189_0 (by omega) (Nat.le_of_ble_eq_true rfl) rfl rfl (Nat.le_of_ble_eq_true rfl) dX1_plan_9 (fun _ _ _ _ _ h => h.elim) (AX.thru X E (by omega) rfl (fun _ h => nomatch h))
  · skip
    first | refine AW.aload_n X dX1_plan_0 rfl rfl ?_ | refine AW.aloadN_n X dX1_plan_0 rfl rfl ?_
    refine AW.iload_n X dX1_plan_1 rfl rfl ?_
    exact AW.callV (b := 0) (bc := 2) X (c_X1_shipAt_bad hX0 h1 h0 hi) (ci := 0) (q := (RX1, TX1, 14)) (by first | assumption | exact hT _ _ rfl) rfl s_X1_189_0 (by omega) (Nat.le_of_ble_eq_true rfl) rfl rfl (Nat.le_of_ble_eq_true rfl) dX1_plan_2 (fun _ _ _ _ _ h => h.elim) (AX.thru X E (by omega) rfl (fun _ h => nomatch h))
theorem c_X1_plan_bad2 {s o a b : Nat} (hX : XS pb T I R N) (h1 : 100 ≤ B) (h0 : (T B).1 = 0) (hs : s < nS N) (ho : o < nS N) (ha : a < 24) (hb : b < 24) (hbad : ¬ (a ≤ b ∧ b ≤ a + 3 ∧ ¬ s = o)) : MX1_plan 15 2 [.ref 100, .int (nI s), .int (nI o), .int (nI a), .int (nI b)] T I R J noQ (qX 23 B T I R J) := by
  have hX0 := hX
  obtain ⟨hT, hR, hP, hL, hN, hM, h20, hG⟩ := hX
  have hL0 := hL
  obtain ⟨l1, l2, l3, l4, l5, l6, l7, l8, l9, l10, l11, l12, l13, l14, l15, l16, l17⟩ := hL
  obtain ⟨⟨n1, n2, n3, n4, hnq, hne, hns, hnh⟩, -⟩ := id hN
  have pT0 := hP.T0
  have prQ := hP.rQ
  have prE := hP.rE
  have prS := hP.rS
  have prM := hP.rM
  have prW := hP.rW
  have prHd := hP.rHd
  have prHf := hP.rHf
  have prHt := hP.rHt
  have ptM := hP.tM
  have ptW := hP.tW
  have ptHd := hP.tHd
  have ptHf := hP.tHf
  have ptHt := hP.tHt
  have plQ := hP.lQ.tl
  have plE := hP.lE.tl
  have plS := hP.lS.tl
  have h23 : ∀ x : Nat, x < 24 → 0 ≤ nI x ∧ nI x ≤ 23 := fun x hx => ⟨nI_pos' (by omega), nI_le (b := 23) (by omega) (by omega)⟩
  refine AMet.of (by decide) (Nat.le_of_ble_eq_true rfl) (cats1 rfl) fun cx X E => ?_
  show AW _ _ _ (_ :: _ :: _ :: _ :: _ :: _ :: _ :: []) _ _ _ _ _
  first | refine AW.aload_n X dX1_plan_0 rfl rfl ?_ | refine AW.aloadN_n X dX1_plan_0 rfl rfl ?_
  refine AW.iload_n X dX1_plan_1 rfl rfl ?_
  refine AW.callV_r X (c_X1_shipAt_ok hX0 hs) (ci := 0) (q := (RX1, TX1, 14)) (by first | assumption | exact hT _ _ rfl) rfl s_X1_189_0 (by omega) (Nat.le_of_ble_eq_true rfl) rfl rfl (Nat.le_of_ble_eq_true rfl) dX1_plan_2 ?_
  first | refine AW.astore5 X dX1_plan_5 ?_ | refine AW.astoreN5 X dX1_plan_5 ?_
  first | refine AW.aload_n X dX1_plan_7 rfl rfl ?_ | refine AW.aloadN_n X dX1_plan_7 rfl rfl ?_
  refine AW.iload_n X dX1_plan_8 rfl rfl ?_
  refine AW.callV_r X (c_X1_shipAt_ok hX0 ho) (ci := 0) (q := (RX1, TX1, 14)) (by first | assumption | exact hT _ _ rfl) rfl s_X1_189_0 (by omega) (Nat.le_of_ble_eq_true rfl) rfl rfl (Nat.le_of_ble_eq_true rfl) dX1_plan_9 ?_
  first | refine AW.astore6 X dX1_plan_12 ?_ | refine AW.astoreN6 X dX1_plan_12 ?_
  refine AW.iload_n X dX1_plan_14 rfl rfl ?_
  refine AW.callS_r X (c_X1_hourAt_ok (h23 a ha)) s_X1_201 (by omega) (Nat.le_of_ble_eq_true rfl) rfl rfl (Nat.le_of_ble_eq_true rfl) dX1_plan_15 ?_
  refine AW.iload X dX1_plan_18 rfl ?_
  refine AW.callS_r X (c_X1_hourAt_ok (h23 b hb)) s_X1_201 (by omega) (Nat.le_of_ble_eq_true rfl) rfl rfl (Nat.le_of_ble_eq_true rfl) dX1_plan_20 ?_
  refine AW.iload_n X dX1_plan_23 rfl rfl ?_
  refine AW.iload X dX1_plan_24 rfl ?_
  refine AW.icmp_gt X (tgt := 46) dX1_plan_26 rfl ?_ ?_
  · intro t26
    refine AW.iconst X (v := 0) dX1_plan_46 rfl ?_
    exact AW.callS (b := 0) (bc := 2) X (c_X1_right_bad h1 h0) s_X1_104 (by omega) (Nat.le_of_ble_eq_true rfl) rfl rfl (Nat.le_of_ble_eq_true rfl) dX1_plan_47 (fun _ _ _ _ _ h => h.elim) (AX.thru X E (by omega) rfl (fun _ h => nomatch h))
  · intro f26
    refine AW.iload X dX1_plan_29 rfl ?_
    refine AW.iload_n X dX1_plan_31 rfl rfl ?_
    refine AW.iconst X (v := 3) dX1_plan_32 rfl ?_
    refine AW.iadd X dX1_plan_33 ?_
    rw [show nI a + 3 = nI (a + 3) from nI_add a 3]
    refine AW.icmp_gt X (tgt := 46) dX1_plan_34 rfl ?_ ?_
    · intro t34
      refine AW.iconst X (v := 0) dX1_plan_46 rfl ?_
      exact AW.callS (b := 0) (bc := 2) X (c_X1_right_bad h1 h0) s_X1_104 (by omega) (Nat.le_of_ble_eq_true rfl) rfl rfl (Nat.le_of_ble_eq_true rfl) dX1_plan_47 (fun _ _ _ _ _ h => h.elim) (AX.thru X E (by omega) rfl (fun _ h => nomatch h))
    · intro f34
      refine AW.iload_n X dX1_plan_37 rfl rfl ?_
      refine AW.iload_n X dX1_plan_38 rfl rfl ?_
      refine AW.icmp_eq X (tgt := 46) dX1_plan_39 rfl ?_ ?_
      · intro t39
        refine AW.iconst X (v := 0) dX1_plan_46 rfl ?_
        exact AW.callS (b := 0) (bc := 2) X (c_X1_right_bad h1 h0) s_X1_104 (by omega) (Nat.le_of_ble_eq_true rfl) rfl rfl (Nat.le_of_ble_eq_true rfl) dX1_plan_47 (fun _ _ _ _ _ h => h.elim) (AX.thru X E (by omega) rfl (fun _ h => nomatch h))
      · intro f39
        exact absurd ⟨(nI_leI (by omega) (by omega)).mp (Int32.not_lt.mp f26), (nI_leI (by omega) (by omega)).mp (Int32.not_lt.mp f34), fun hc => f39 (congrArg nI hc)⟩ hbad
end PLA
