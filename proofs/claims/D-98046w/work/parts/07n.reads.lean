/-! 07n: EelPort's reads (written by src/gen07n.py and src/walk.py) -/
set_option maxRecDepth 100000
def XS (pb : Nat) (T : KT) (I : KI) (R : KR) (N : KI) : Prop := XT T ∧ XRf R ∧ PR pb T I R N ∧ LR 103 pb T I R N ∧ NOK N ∧ MOKs N ∧ nM N ≤ 20 ∧ LitP N 103 I
def setE (N : KI) (q : Nat) : Nat → Int32
  | 0 => 0
  | e + 1 => if N 311 e = nI q then setE N q e ||| 1 <<< (nI e &&& 31) else setE N q e
def quayV (N : KI) (q : Nat) (w : Int32) : Int32 := if w = 0 then N 305 q else if w = 1 then N 306 q else if w = 2 then N 307 q else if w = 3 then N 308 q else setE N q (nE N)
def eelV (N : KI) (e : Nat) (w : Int32) : Int32 := if w = 0 then N 309 e else if w = 1 then N 310 e else if w = 2 then N 311 e else if w = 3 then N 312 e else N 313 e
def shipV (N : KI) (s : Nat) (w : Int32) : Int32 := if w = 0 then N 314 s else if w = 1 then N 315 s else if w = 2 then N 316 s else N 317 s
theorem inN {x : Int32} {n : Nat} (h : 0 ≤ x ∧ x < nI n) (hn : n < 2 ^ 31) : ∃ k, k < n ∧ x = nI k := by
  obtain ⟨k, hk, rfl⟩ := isN (n := n) h.1 (Int32.le_of_lt h.2) hn
  exact ⟨k, (nI_ltI (by omega) hn).mp h.2, rfl⟩
section XR
variable {pb B : Nat} {T : KT} {I : KI} {R : KR} {J : KJ} {N : KI}
theorem c_X1_quayAt_ok {k : Nat} (hX : XS pb T I R N) (hk : k < nQ N) : MX1_quayAt 8 0 [.ref 100, .int (nI k)] T I R J (qR (some (.ref (pb + 100 + k))) T I R J) noX := by
  obtain ⟨hT, hR, hP, hL, hN, hM, h20, hG⟩ := hX
  have hL0 := hL
  obtain ⟨l1, l2, l3, l4, l5, l6, l7, l8, l9, l10, l11, l12, l13, l14, l15, l16, l17⟩ := hL
  obtain ⟨⟨n1, n2, n3, n4, hnq, hne, hns, hnh⟩, -⟩ := id hN
  have pT0 := hP.T0
  have prQ := hP.rQ
  have prE := hP.rE
  have prS := hP.rS
  have prM := hP.rM
  have prW := hP.rW
  have prHd := hP.rHd
  have prHf := hP.rHf
  have prHt := hP.rHt
  have ptM := hP.tM
  have ptW := hP.tW
  have ptHd := hP.tHd
  have ptHf := hP.tHf
  have ptHt := hP.tHt
  have plQ := hP.lQ.tl
  have plE := hP.lE.tl
  have plS := hP.lS.tl
  have k1 := (hP.q hk).1
  have kk : nat N 305 k < 4 := (hN.2.1 k hk).2.1
  refine AMet.of (by decide) (Nat.le_of_ble_eq_true rfl) (cats1 rfl) fun cx X E => ?_
  show AW _ _ _ (_ :: _ :: []) _ _ _ _ _
  refine AW.iload_n X dX1_quayAt_0 rfl rfl ?_
  refine AW.if_lt X (tgt := 25) dX1_quayAt_1 rfl ?_ ?_
  · intro t1
    exact absurd t1 (nI_pos (by omega))
  · intro f1
    refine AW.iload_n X dX1_quayAt_4 rfl rfl ?_
    first | refine AW.aload_n X dX1_quayAt_5 rfl rfl ?_ | refine AW.aloadN_n X dX1_quayAt_5 rfl rfl ?_
    refine AW.getR X f_X1_23_0 (by first | assumption | exact hT _ _ rfl) (by first | assumption | exact hR _ _ _ rfl) dX1_quayAt_6 ?_
    refine AW.getR X f_X1_65_2 (by first | assumption | exact hT _ _ rfl) (by first | assumption | exact hR _ _ _ rfl) dX1_quayAt_9 ?_
    refine AW.getR X f_X1_69_3 (by first | assumption | exact hT _ _ rfl) (by first | assumption | exact hR _ _ _ rfl) dX1_quayAt_12 ?_
    refine AW.callV_r X (hP.lQ.size) (ci := 19) (q := (RJ2, TJ2, 3)) (by first | assumption | exact hT _ _ rfl) rfl s_X1_75_19 (by omega) (Nat.le_of_ble_eq_true rfl) rfl rfl (Nat.le_of_ble_eq_true rfl) dX1_quayAt_15 ?_
    refine AW.icmp_ge X (tgt := 25) dX1_quayAt_18 rfl ?_ ?_
    · intro t18
      exact absurd t18 (nI_ge (by omega) (by omega))
    · intro f18
      refine AW.iconst X (v := 1) dX1_quayAt_21 rfl ?_
      refine AW.goto X (tgt := 26) dX1_quayAt_22 rfl ?_
      refine AW.callS_r X (c_X1_there_ok (by decide)) s_X1_61 (by omega) (Nat.le_of_ble_eq_true rfl) rfl rfl (Nat.le_of_ble_eq_true rfl) dX1_quayAt_26 ?_
      first | refine AW.aload_n X dX1_quayAt_29 rfl rfl ?_ | refine AW.aloadN_n X dX1_quayAt_29 rfl rfl ?_
      refine AW.getR X f_X1_23_0 (by first | assumption | exact hT _ _ rfl) (by first | assumption | exact hR _ _ _ rfl) dX1_quayAt_30 ?_
      refine AW.getR X f_X1_65_2 (by first | assumption | exact hT _ _ rfl) (by first | assumption | exact hR _ _ _ rfl) dX1_quayAt_33 ?_
      refine AW.getR X f_X1_69_3 (by first | assumption | exact hT _ _ rfl) (by first | assumption | exact hR _ _ _ rfl) dX1_quayAt_36 ?_
      refine AW.iload_n X dX1_quayAt_39 rfl rfl ?_
      refine AW.callV_r X (hP.lQ.get hk (by omega)) (ci := 19) (q := (RJ2, TJ2, 3)) (by first | assumption | exact hT _ _ rfl) rfl s_X1_81_19 (by omega) (Nat.le_of_ble_eq_true rfl) rfl rfl (Nat.le_of_ble_eq_true rfl) dX1_quayAt_40 ?_
      refine AW.castK X (idx := 85) ck_Quay (by first | assumption | omega) (by first | assumption | exact hT _ _ rfl) q1255 dX1_quayAt_43 ?_
      first | exact AW.areturn X E ⟨rfl, rfl, rfl, rfl, rfl⟩ dX1_quayAt_46 | exact AW.areturnA X E ⟨rfl, rfl, rfl, rfl, rfl⟩ dX1_quayAt_46 | exact AW.areturnN X E ⟨rfl, rfl, rfl, rfl, rfl⟩ dX1_quayAt_46
theorem c_X1_quayAt_bad {k : Int32} (hX : XS pb T I R N) (h1 : 100 ≤ B) (h0 : (T B).1 = 0) (hk : ¬ (0 ≤ k ∧ k < nI (nQ N))) : MX1_quayAt 8 2 [.ref 100, .int k] T I R J noQ (qX 22 B T I R J) := by
  obtain ⟨hT, hR, hP, hL, hN, hM, h20, hG⟩ := hX
  have hL0 := hL
  obtain ⟨l1, l2, l3, l4, l5, l6, l7, l8, l9, l10, l11, l12, l13, l14, l15, l16, l17⟩ := hL
  obtain ⟨⟨n1, n2, n3, n4, hnq, hne, hns, hnh⟩, -⟩ := id hN
  have pT0 := hP.T0
  have prQ := hP.rQ
  have prE := hP.rE
  have prS := hP.rS
  have prM := hP.rM
  have prW := hP.rW
  have prHd := hP.rHd
  have prHf := hP.rHf
  have prHt := hP.rHt
  have ptM := hP.tM
  have ptW := hP.tW
  have ptHd := hP.tHd
  have ptHf := hP.tHf
  have ptHt := hP.tHt
  have plQ := hP.lQ.tl
  have plE := hP.lE.tl
  have plS := hP.lS.tl
  refine AMet.of (by decide) (Nat.le_of_ble_eq_true rfl) (cats1 rfl) fun cx X E => ?_
  show AW _ _ _ (_ :: _ :: []) _ _ _ _ _
  refine AW.iload_n X dX1_quayAt_0 rfl rfl ?_
  refine AW.if_lt X (tgt := 25) dX1_quayAt_1 rfl ?_ ?_
  · intro t1
    refine AW.iconst X (v := 0) dX1_quayAt_25 rfl ?_
    exact AW.callS (b := 0) (bc := 2) X (c_X1_there_bad h1 h0) s_X1_61 (by omega) (Nat.le_of_ble_eq_true rfl) rfl rfl (Nat.le_of_ble_eq_true rfl) dX1_quayAt_26 (fun _ _ _ _ _ h => h.elim) (AX.thru X E (by omega) rfl (fun _ h => nomatch h))
  · intro f1
    refine AW.iload_n X dX1_quayAt_4 rfl rfl ?_
    first | refine AW.aload_n X dX1_quayAt_5 rfl rfl ?_ | refine AW.aloadN_n X dX1_quayAt_5 rfl rfl ?_
    refine AW.getR X f_X1_23_0 (by first | assumption | exact hT _ _ rfl) (by first | assumption | exact hR _ _ _ rfl) dX1_quayAt_6 ?_
    refine AW.getR X f_X1_65_2 (by first | assumption | exact hT _ _ rfl) (by first | assumption | exact hR _ _ _ rfl) dX1_quayAt_9 ?_
    refine AW.getR X f_X1_69_3 (by first | assumption | exact hT _ _ rfl) (by first | assumption | exact hR _ _ _ rfl) dX1_quayAt_12 ?_
    refine AW.callV_r X (hP.lQ.size) (ci := 19) (q := (RJ2, TJ2, 3)) (by first | assumption | exact hT _ _ rfl) rfl s_X1_75_19 (by omega) (Nat.le_of_ble_eq_true rfl) rfl rfl (Nat.le_of_ble_eq_true rfl) dX1_quayAt_15 ?_
    refine AW.icmp_ge X (tgt := 25) dX1_quayAt_18 rfl ?_ ?_
    · intro t18
      refine AW.iconst X (v := 0) dX1_quayAt_25 rfl ?_
      exact AW.callS (b := 0) (bc := 2) X (c_X1_there_bad h1 h0) s_X1_61 (by omega) (Nat.le_of_ble_eq_true rfl) rfl rfl (Nat.le_of_ble_eq_true rfl) dX1_quayAt_26 (fun _ _ _ _ _ h => h.elim) (AX.thru X E (by omega) rfl (fun _ h => nomatch h))
    · intro f18
      exact absurd ⟨Int32.not_lt.mp f1, Int32.not_le.mp f18⟩ hk
theorem c_X1_eelAt_ok {k : Nat} (hX : XS pb T I R N) (hk : k < nE N) : MX1_eelAt 8 0 [.ref 100, .int (nI k)] T I R J (qR (some (.ref (pb + 120 + k))) T I R J) noX := by
  obtain ⟨hT, hR, hP, hL, hN, hM, h20, hG⟩ := hX
  have hL0 := hL
  obtain ⟨l1, l2, l3, l4, l5, l6, l7, l8, l9, l10, l11, l12, l13, l14, l15, l16, l17⟩ := hL
  obtain ⟨⟨n1, n2, n3, n4, hnq, hne, hns, hnh⟩, -⟩ := id hN
  have pT0 := hP.T0
  have prQ := hP.rQ
  have prE := hP.rE
  have prS := hP.rS
  have prM := hP.rM
  have prW := hP.rW
  have prHd := hP.rHd
  have prHf := hP.rHf
  have prHt := hP.rHt
  have ptM := hP.tM
  have ptW := hP.tW
  have ptHd := hP.tHd
  have ptHf := hP.tHf
  have ptHt := hP.tHt
  have plQ := hP.lQ.tl
  have plE := hP.lE.tl
  have plS := hP.lS.tl
  have k1 := (hP.e hk).1
  have kk : nat N 309 k < 4 := (hN.2.2.1 k hk).2.1
  refine AMet.of (by decide) (Nat.le_of_ble_eq_true rfl) (cats1 rfl) fun cx X E => ?_
  show AW _ _ _ (_ :: _ :: []) _ _ _ _ _
  refine AW.iload_n X dX1_eelAt_0 rfl rfl ?_
  refine AW.if_lt X (tgt := 25) dX1_eelAt_1 rfl ?_ ?_
  · intro t1
    exact absurd t1 (nI_pos (by omega))
  · intro f1
    refine AW.iload_n X dX1_eelAt_4 rfl rfl ?_
    first | refine AW.aload_n X dX1_eelAt_5 rfl rfl ?_ | refine AW.aloadN_n X dX1_eelAt_5 rfl rfl ?_
    refine AW.getR X f_X1_23_0 (by first | assumption | exact hT _ _ rfl) (by first | assumption | exact hR _ _ _ rfl) dX1_eelAt_6 ?_
    refine AW.getR X f_X1_65_2 (by first | assumption | exact hT _ _ rfl) (by first | assumption | exact hR _ _ _ rfl) dX1_eelAt_9 ?_
    refine AW.getR X f_X1_87_3 (by first | assumption | exact hT _ _ rfl) (by first | assumption | exact hR _ _ _ rfl) dX1_eelAt_12 ?_
    refine AW.callV_r X (hP.lE.size) (ci := 19) (q := (RJ2, TJ2, 3)) (by first | assumption | exact hT _ _ rfl) rfl s_X1_75_19 (by omega) (Nat.le_of_ble_eq_true rfl) rfl rfl (Nat.le_of_ble_eq_true rfl) dX1_eelAt_15 ?_
    refine AW.icmp_ge X (tgt := 25) dX1_eelAt_18 rfl ?_ ?_
    · intro t18
      exact absurd t18 (nI_ge (by omega) (by omega))
    · intro f18
      refine AW.iconst X (v := 1) dX1_eelAt_21 rfl ?_
      refine AW.goto X (tgt := 26) dX1_eelAt_22 rfl ?_
      refine AW.callS_r X (c_X1_there_ok (by decide)) s_X1_61 (by omega) (Nat.le_of_ble_eq_true rfl) rfl rfl (Nat.le_of_ble_eq_true rfl) dX1_eelAt_26 ?_
      first | refine AW.aload_n X dX1_eelAt_29 rfl rfl ?_ | refine AW.aloadN_n X dX1_eelAt_29 rfl rfl ?_
      refine AW.getR X f_X1_23_0 (by first | assumption | exact hT _ _ rfl) (by first | assumption | exact hR _ _ _ rfl) dX1_eelAt_30 ?_
      refine AW.getR X f_X1_65_2 (by first | assumption | exact hT _ _ rfl) (by first | assumption | exact hR _ _ _ rfl) dX1_eelAt_33 ?_
      refine AW.getR X f_X1_87_3 (by first | assumption | exact hT _ _ rfl) (by first | assumption | exact hR _ _ _ rfl) dX1_eelAt_36 ?_
      refine AW.iload_n X dX1_eelAt_39 rfl rfl ?_
      refine AW.callV_r X (hP.lE.get hk (by omega)) (ci := 19) (q := (RJ2, TJ2, 3)) (by first | assumption | exact hT _ _ rfl) rfl s_X1_81_19 (by omega) (Nat.le_of_ble_eq_true rfl) rfl rfl (Nat.le_of_ble_eq_true rfl) dX1_eelAt_40 ?_
      refine AW.castK X (idx := 90) ck_Eel (by first | assumption | omega) (by first | assumption | exact hT _ _ rfl) q1256 dX1_eelAt_43 ?_
      first | exact AW.areturn X E ⟨rfl, rfl, rfl, rfl, rfl⟩ dX1_eelAt_46 | exact AW.areturnA X E ⟨rfl, rfl, rfl, rfl, rfl⟩ dX1_eelAt_46 | exact AW.areturnN X E ⟨rfl, rfl, rfl, rfl, rfl⟩ dX1_eelAt_46
theorem c_X1_eelAt_bad {k : Int32} (hX : XS pb T I R N) (h1 : 100 ≤ B) (h0 : (T B).1 = 0) (hk : ¬ (0 ≤ k ∧ k < nI (nE N))) : MX1_eelAt 8 2 [.ref 100, .int k] T I R J noQ (qX 22 B T I R J) := by
  obtain ⟨hT, hR, hP, hL, hN, hM, h20, hG⟩ := hX
  have hL0 := hL
  obtain ⟨l1, l2, l3, l4, l5, l6, l7, l8, l9, l10, l11, l12, l13, l14, l15, l16, l17⟩ := hL
  obtain ⟨⟨n1, n2, n3, n4, hnq, hne, hns, hnh⟩, -⟩ := id hN
  have pT0 := hP.T0
  have prQ := hP.rQ
  have prE := hP.rE
  have prS := hP.rS
  have prM := hP.rM
  have prW := hP.rW
  have prHd := hP.rHd
  have prHf := hP.rHf
  have prHt := hP.rHt
  have ptM := hP.tM
  have ptW := hP.tW
  have ptHd := hP.tHd
  have ptHf := hP.tHf
  have ptHt := hP.tHt
  have plQ := hP.lQ.tl
  have plE := hP.lE.tl
  have plS := hP.lS.tl
  refine AMet.of (by decide) (Nat.le_of_ble_eq_true rfl) (cats1 rfl) fun cx X E => ?_
  show AW _ _ _ (_ :: _ :: []) _ _ _ _ _
  refine AW.iload_n X dX1_eelAt_0 rfl rfl ?_
  refine AW.if_lt X (tgt := 25) dX1_eelAt_1 rfl ?_ ?_
  · intro t1
    refine AW.iconst X (v := 0) dX1_eelAt_25 rfl ?_
    exact AW.callS (b := 0) (bc := 2) X (c_X1_there_bad h1 h0) s_X1_61 (by omega) (Nat.le_of_ble_eq_true rfl) rfl rfl (Nat.le_of_ble_eq_true rfl) dX1_eelAt_26 (fun _ _ _ _ _ h => h.elim) (AX.thru X E (by omega) rfl (fun _ h => nomatch h))
  · intro f1
    refine AW.iload_n X dX1_eelAt_4 rfl rfl ?_
    first | refine AW.aload_n X dX1_eelAt_5 rfl rfl ?_ | refine AW.aloadN_n X dX1_eelAt_5 rfl rfl ?_
    refine AW.getR X f_X1_23_0 (by first | assumption | exact hT _ _ rfl) (by first | assumption | exact hR _ _ _ rfl) dX1_eelAt_6 ?_
    refine AW.getR X f_X1_65_2 (by first | assumption | exact hT _ _ rfl) (by first | assumption | exact hR _ _ _ rfl) dX1_eelAt_9 ?_
    refine AW.getR X f_X1_87_3 (by first | assumption | exact hT _ _ rfl) (by first | assumption | exact hR _ _ _ rfl) dX1_eelAt_12 ?_
    refine AW.callV_r X (hP.lE.size) (ci := 19) (q := (RJ2, TJ2, 3)) (by first | assumption | exact hT _ _ rfl) rfl s_X1_75_19 (by omega) (Nat.le_of_ble_eq_true rfl) rfl rfl (Nat.le_of_ble_eq_true rfl) dX1_eelAt_15 ?_
    refine AW.icmp_ge X (tgt := 25) dX1_eelAt_18 rfl ?_ ?_
    · intro t18
      refine AW.iconst X (v := 0) dX1_eelAt_25 rfl ?_
      exact AW.callS (b := 0) (bc := 2) X (c_X1_there_bad h1 h0) s_X1_61 (by omega) (Nat.le_of_ble_eq_true rfl) rfl rfl (Nat.le_of_ble_eq_true rfl) dX1_eelAt_26 (fun _ _ _ _ _ h => h.elim) (AX.thru X E (by omega) rfl (fun _ h => nomatch h))
    · intro f18
      exact absurd ⟨Int32.not_lt.mp f1, Int32.not_le.mp f18⟩ hk
theorem c_X1_shipAt_ok {k : Nat} (hX : XS pb T I R N) (hk : k < nS N) : MX1_shipAt 8 0 [.ref 100, .int (nI k)] T I R J (qR (some (.ref (pb + 140 + k))) T I R J) noX := by
  obtain ⟨hT, hR, hP, hL, hN, hM, h20, hG⟩ := hX
  have hL0 := hL
  obtain ⟨l1, l2, l3, l4, l5, l6, l7, l8, l9, l10, l11, l12, l13, l14, l15, l16, l17⟩ := hL
  obtain ⟨⟨n1, n2, n3, n4, hnq, hne, hns, hnh⟩, -⟩ := id hN
  have pT0 := hP.T0
  have prQ := hP.rQ
  have prE := hP.rE
  have prS := hP.rS
  have prM := hP.rM
  have prW := hP.rW
  have prHd := hP.rHd
  have prHf := hP.rHf
  have prHt := hP.rHt
  have ptM := hP.tM
  have ptW := hP.tW
  have ptHd := hP.tHd
  have ptHf := hP.tHf
  have ptHt := hP.tHt
  have plQ := hP.lQ.tl
  have plE := hP.lE.tl
  have plS := hP.lS.tl
  have k1 := (hP.s hk).1
  have kk : nat N 314 k < 4 := (hN.2.2.2.1 k hk).2.1
  refine AMet.of (by decide) (Nat.le_of_ble_eq_true rfl) (cats1 rfl) fun cx X E => ?_
  show AW _ _ _ (_ :: _ :: []) _ _ _ _ _
  refine AW.iload_n X dX1_shipAt_0 rfl rfl ?_
  refine AW.if_lt X (tgt := 25) dX1_shipAt_1 rfl ?_ ?_
  · intro t1
    exact absurd t1 (nI_pos (by omega))
  · intro f1
    refine AW.iload_n X dX1_shipAt_4 rfl rfl ?_
    first | refine AW.aload_n X dX1_shipAt_5 rfl rfl ?_ | refine AW.aloadN_n X dX1_shipAt_5 rfl rfl ?_
    refine AW.getR X f_X1_23_0 (by first | assumption | exact hT _ _ rfl) (by first | assumption | exact hR _ _ _ rfl) dX1_shipAt_6 ?_
    refine AW.getR X f_X1_65_2 (by first | assumption | exact hT _ _ rfl) (by first | assumption | exact hR _ _ _ rfl) dX1_shipAt_9 ?_
    refine AW.getR X f_X1_92_3 (by first | assumption | exact hT _ _ rfl) (by first | assumption | exact hR _ _ _ rfl) dX1_shipAt_12 ?_
    refine AW.callV_r X (hP.lS.size) (ci := 19) (q := (RJ2, TJ2, 3)) (by first | assumption | exact hT _ _ rfl) rfl s_X1_75_19 (by omega) (Nat.le_of_ble_eq_true rfl) rfl rfl (Nat.le_of_ble_eq_true rfl) dX1_shipAt_15 ?_
    refine AW.icmp_ge X (tgt := 25) dX1_shipAt_18 rfl ?_ ?_
    · intro t18
      exact absurd t18 (nI_ge (by omega) (by omega))
    · intro f18
      refine AW.iconst X (v := 1) dX1_shipAt_21 rfl ?_
      refine AW.goto X (tgt := 26) dX1_shipAt_22 rfl ?_
      refine AW.callS_r X (c_X1_there_ok (by decide)) s_X1_61 (by omega) (Nat.le_of_ble_eq_true rfl) rfl rfl (Nat.le_of_ble_eq_true rfl) dX1_shipAt_26 ?_
      first | refine AW.aload_n X dX1_shipAt_29 rfl rfl ?_ | refine AW.aloadN_n X dX1_shipAt_29 rfl rfl ?_
      refine AW.getR X f_X1_23_0 (by first | assumption | exact hT _ _ rfl) (by first | assumption | exact hR _ _ _ rfl) dX1_shipAt_30 ?_
      refine AW.getR X f_X1_65_2 (by first | assumption | exact hT _ _ rfl) (by first | assumption | exact hR _ _ _ rfl) dX1_shipAt_33 ?_
      refine AW.getR X f_X1_92_3 (by first | assumption | exact hT _ _ rfl) (by first | assumption | exact hR _ _ _ rfl) dX1_shipAt_36 ?_
      refine AW.iload_n X dX1_shipAt_39 rfl rfl ?_
      refine AW.callV_r X (hP.lS.get hk (by omega)) (ci := 19) (q := (RJ2, TJ2, 3)) (by first | assumption | exact hT _ _ rfl) rfl s_X1_81_19 (by omega) (Nat.le_of_ble_eq_true rfl) rfl rfl (Nat.le_of_ble_eq_true rfl) dX1_shipAt_40 ?_
      refine AW.castK X (idx := 95) ck_Ship (by first | assumption | omega) (by first | assumption | exact hT _ _ rfl) q1318 dX1_shipAt_43 ?_
      first | exact AW.areturn X E ⟨rfl, rfl, rfl, rfl, rfl⟩ dX1_shipAt_46 | exact AW.areturnA X E ⟨rfl, rfl, rfl, rfl, rfl⟩ dX1_shipAt_46 | exact AW.areturnN X E ⟨rfl, rfl, rfl, rfl, rfl⟩ dX1_shipAt_46
theorem c_X1_shipAt_bad {k : Int32} (hX : XS pb T I R N) (h1 : 100 ≤ B) (h0 : (T B).1 = 0) (hk : ¬ (0 ≤ k ∧ k < nI (nS N))) : MX1_shipAt 8 2 [.ref 100, .int k] T I R J noQ (qX 22 B T I R J) := by
  obtain ⟨hT, hR, hP, hL, hN, hM, h20, hG⟩ := hX
  have hL0 := hL
  obtain ⟨l1, l2, l3, l4, l5, l6, l7, l8, l9, l10, l11, l12, l13, l14, l15, l16, l17⟩ := hL
  obtain ⟨⟨n1, n2, n3, n4, hnq, hne, hns, hnh⟩, -⟩ := id hN
  have pT0 := hP.T0
  have prQ := hP.rQ
  have prE := hP.rE
  have prS := hP.rS
  have prM := hP.rM
  have prW := hP.rW
  have prHd := hP.rHd
  have prHf := hP.rHf
  have prHt := hP.rHt
  have ptM := hP.tM
  have ptW := hP.tW
  have ptHd := hP.tHd
  have ptHf := hP.tHf
  have ptHt := hP.tHt
  have plQ := hP.lQ.tl
  have plE := hP.lE.tl
  have plS := hP.lS.tl
  refine AMet.of (by decide) (Nat.le_of_ble_eq_true rfl) (cats1 rfl) fun cx X E => ?_
  show AW _ _ _ (_ :: _ :: []) _ _ _ _ _
  refine AW.iload_n X dX1_shipAt_0 rfl rfl ?_
  refine AW.if_lt X (tgt := 25) dX1_shipAt_1 rfl ?_ ?_
  · intro t1
    refine AW.iconst X (v := 0) dX1_shipAt_25 rfl ?_
    exact AW.callS (b := 0) (bc := 2) X (c_X1_there_bad h1 h0) s_X1_61 (by omega) (Nat.le_of_ble_eq_true rfl) rfl rfl (Nat.le_of_ble_eq_true rfl) dX1_shipAt_26 (fun _ _ _ _ _ h => h.elim) (AX.thru X E (by omega) rfl (fun _ h => nomatch h))
  · intro f1
    refine AW.iload_n X dX1_shipAt_4 rfl rfl ?_
    first | refine AW.aload_n X dX1_shipAt_5 rfl rfl ?_ | refine AW.aloadN_n X dX1_shipAt_5 rfl rfl ?_
    refine AW.getR X f_X1_23_0 (by first | assumption | exact hT _ _ rfl) (by first | assumption | exact hR _ _ _ rfl) dX1_shipAt_6 ?_
    refine AW.getR X f_X1_65_2 (by first | assumption | exact hT _ _ rfl) (by first | assumption | exact hR _ _ _ rfl) dX1_shipAt_9 ?_
    refine AW.getR X f_X1_92_3 (by first | assumption | exact hT _ _ rfl) (by first | assumption | exact hR _ _ _ rfl) dX1_shipAt_12 ?_
    refine AW.callV_r X (hP.lS.size) (ci := 19) (q := (RJ2, TJ2, 3)) (by first | assumption | exact hT _ _ rfl) rfl s_X1_75_19 (by omega) (Nat.le_of_ble_eq_true rfl) rfl rfl (Nat.le_of_ble_eq_true rfl) dX1_shipAt_15 ?_
    refine AW.icmp_ge X (tgt := 25) dX1_shipAt_18 rfl ?_ ?_
    · intro t18
      refine AW.iconst X (v := 0) dX1_shipAt_25 rfl ?_
      exact AW.callS (b := 0) (bc := 2) X (c_X1_there_bad h1 h0) s_X1_61 (by omega) (Nat.le_of_ble_eq_true rfl) rfl rfl (Nat.le_of_ble_eq_true rfl) dX1_shipAt_26 (fun _ _ _ _ _ h => h.elim) (AX.thru X E (by omega) rfl (fun _ h => nomatch h))
    · intro f18
      exact absurd ⟨Int32.not_lt.mp f1, Int32.not_le.mp f18⟩ hk
theorem c_X1_hunger {e h : Nat} (hX : XS pb T I R N) (he : e < nE N) (hh : h < 24) : MX1_hunger 9 0 [.ref 100, .int (nI e), .int (nI h)] T I R J (qR (some (.int (hun N e h))) T I R J) noX := by
  have hX0 := hX
  obtain ⟨hT, hR, hP, hL, hN, hM, h20, hG⟩ := hX
  have hL0 := hL
  obtain ⟨l1, l2, l3, l4, l5, l6, l7, l8, l9, l10, l11, l12, l13, l14, l15, l16, l17⟩ := hL
  obtain ⟨⟨n1, n2, n3, n4, hnq, hne, hns, hnh⟩, -⟩ := id hN
  have pT0 := hP.T0
  have prQ := hP.rQ
  have prE := hP.rE
  have prS := hP.rS
  have prM := hP.rM
  have prW := hP.rW
  have prHd := hP.rHd
  have prHf := hP.rHf
  have prHt := hP.rHt
  have ptM := hP.tM
  have ptW := hP.tW
  have ptHd := hP.tHd
  have ptHf := hP.tHf
  have ptHt := hP.tHt
  have plQ := hP.lQ.tl
  have plE := hP.lE.tl
  have plS := hP.lS.tl
  refine AMet.of (by decide) (Nat.le_of_ble_eq_true rfl) (cats1 rfl) fun cx X E => ?_
  show AW _ _ _ (_ :: _ :: _ :: []) _ _ _ _ _
  first | refine AW.aload_n X dX1_hunger_0 rfl rfl ?_ | refine AW.aloadN_n X dX1_hunger_0 rfl rfl ?_
  refine AW.iload_n X dX1_hunger_1 rfl rfl ?_
  refine AW.callV_r X (c_X1_eelAt_ok hX0 he) (ci := 0) (q := (RX1, TX1, 14)) (by first | assumption | exact hT _ _ rfl) rfl s_X1_176_0 (by omega) (Nat.le_of_ble_eq_true rfl) rfl rfl (Nat.le_of_ble_eq_true rfl) dX1_hunger_2 ?_
  refine AW.pop X dX1_hunger_5 rfl ?_
  refine AW.iload_n X dX1_hunger_6 rfl rfl ?_
  refine AW.callS_r X (c_X1_hourAt_ok ⟨nI_pos' (by omega), nI_le (b := 23) (by omega) (by omega)⟩) s_X1_201 (by omega) (Nat.le_of_ble_eq_true rfl) rfl rfl (Nat.le_of_ble_eq_true rfl) dX1_hunger_7 ?_
  first | refine AW.aload_n X dX1_hunger_10 rfl rfl ?_ | refine AW.aloadN_n X dX1_hunger_10 rfl rfl ?_
  refine AW.getR X f_X1_23_0 (by first | assumption | exact hT _ _ rfl) (by first | assumption | exact hR _ _ _ rfl) dX1_hunger_11 ?_
  refine AW.getR X f_X1_211_2 (by first | assumption | exact hT _ _ rfl) (by first | assumption | exact hR _ _ _ rfl) dX1_hunger_14 ?_
  refine AW.bipush X (v := 24) dX1_hunger_17 rfl ?_
  refine AW.iload_n X dX1_hunger_19 rfl rfl ?_
  refine AW.imul X dX1_hunger_20 ?_
  refine AW.iload_n X dX1_hunger_21 rfl rfl ?_
  refine AW.iadd X dX1_hunger_22 ?_
  refine AW.iald X (j := 24 * e + h) (by first | assumption | exact hT _ _ rfl) (by repeat (first | with_reducible exact rfl | assumption | exact ix_l _ | apply ix_add | apply ix_mul)) (by omega) dX1_hunger_23 ?_
  rw [(hG.1 e h he hh).1]
  exact AW.ireturn X E ⟨rfl, rfl, rfl, rfl, rfl⟩ dX1_hunger_24 
theorem c_X1_glow {e h : Nat} (hX : XS pb T I R N) (he : e < nE N) (hh : h < 24) : MX1_glow 9 0 [.ref 100, .int (nI e), .int (nI h)] T I R J (qR (some (.int (glo N e h))) T I R J) noX := by
  have hX0 := hX
  obtain ⟨hT, hR, hP, hL, hN, hM, h20, hG⟩ := hX
  have hL0 := hL
  obtain ⟨l1, l2, l3, l4, l5, l6, l7, l8, l9, l10, l11, l12, l13, l14, l15, l16, l17⟩ := hL
  obtain ⟨⟨n1, n2, n3, n4, hnq, hne, hns, hnh⟩, -⟩ := id hN
  have pT0 := hP.T0
  have prQ := hP.rQ
  have prE := hP.rE
  have prS := hP.rS
  have prM := hP.rM
  have prW := hP.rW
  have prHd := hP.rHd
  have prHf := hP.rHf
  have prHt := hP.rHt
  have ptM := hP.tM
  have ptW := hP.tW
  have ptHd := hP.tHd
  have ptHf := hP.tHf
  have ptHt := hP.tHt
  have plQ := hP.lQ.tl
  have plE := hP.lE.tl
  have plS := hP.lS.tl
  refine AMet.of (by decide) (Nat.le_of_ble_eq_true rfl) (cats1 rfl) fun cx X E => ?_
  show AW _ _ _ (_ :: _ :: _ :: []) _ _ _ _ _
  first | refine AW.aload_n X dX1_glow_0 rfl rfl ?_ | refine AW.aloadN_n X dX1_glow_0 rfl rfl ?_
  refine AW.iload_n X dX1_glow_1 rfl rfl ?_
  refine AW.callV_r X (c_X1_eelAt_ok hX0 he) (ci := 0) (q := (RX1, TX1, 14)) (by first | assumption | exact hT _ _ rfl) rfl s_X1_176_0 (by omega) (Nat.le_of_ble_eq_true rfl) rfl rfl (Nat.le_of_ble_eq_true rfl) dX1_glow_2 ?_
  refine AW.pop X dX1_glow_5 rfl ?_
  refine AW.iload_n X dX1_glow_6 rfl rfl ?_
  refine AW.callS_r X (c_X1_hourAt_ok ⟨nI_pos' (by omega), nI_le (b := 23) (by omega) (by omega)⟩) s_X1_201 (by omega) (Nat.le_of_ble_eq_true rfl) rfl rfl (Nat.le_of_ble_eq_true rfl) dX1_glow_7 ?_
  first | refine AW.aload_n X dX1_glow_10 rfl rfl ?_ | refine AW.aloadN_n X dX1_glow_10 rfl rfl ?_
  refine AW.getR X f_X1_23_0 (by first | assumption | exact hT _ _ rfl) (by first | assumption | exact hR _ _ _ rfl) dX1_glow_11 ?_
  refine AW.getR X f_X1_213_2 (by first | assumption | exact hT _ _ rfl) (by first | assumption | exact hR _ _ _ rfl) dX1_glow_14 ?_
  refine AW.bipush X (v := 24) dX1_glow_17 rfl ?_
  refine AW.iload_n X dX1_glow_19 rfl rfl ?_
  refine AW.imul X dX1_glow_20 ?_
  refine AW.iload_n X dX1_glow_21 rfl rfl ?_
  refine AW.iadd X dX1_glow_22 ?_
  refine AW.iald X (j := 24 * e + h) (by first | assumption | exact hT _ _ rfl) (by repeat (first | with_reducible exact rfl | assumption | exact ix_l _ | apply ix_add | apply ix_mul)) (by omega) dX1_glow_23 ?_
  rw [(hG.1 e h he hh).2]
  exact AW.ireturn X E ⟨rfl, rfl, rfl, rfl, rfl⟩ dX1_glow_24 
theorem c_X1_light {q h : Nat} (hX : XS pb T I R N) (hq : q < nQ N) (hh : h < 24) : MX1_light 9 0 [.ref 100, .int (nI q), .int (nI h)] T I R J (qR (some (.int (Lig N q h))) T I R J) noX := by
  have hX0 := hX
  obtain ⟨hT, hR, hP, hL, hN, hM, h20, hG⟩ := hX
  have hL0 := hL
  obtain ⟨l1, l2, l3, l4, l5, l6, l7, l8, l9, l10, l11, l12, l13, l14, l15, l16, l17⟩ := hL
  obtain ⟨⟨n1, n2, n3, n4, hnq, hne, hns, hnh⟩, -⟩ := id hN
  have pT0 := hP.T0
  have prQ := hP.rQ
  have prE := hP.rE
  have prS := hP.rS
  have prM := hP.rM
  have prW := hP.rW
  have prHd := hP.rHd
  have prHf := hP.rHf
  have prHt := hP.rHt
  have ptM := hP.tM
  have ptW := hP.tW
  have ptHd := hP.tHd
  have ptHf := hP.tHf
  have ptHt := hP.tHt
  have plQ := hP.lQ.tl
  have plE := hP.lE.tl
  have plS := hP.lS.tl
  refine AMet.of (by decide) (Nat.le_of_ble_eq_true rfl) (cats1 rfl) fun cx X E => ?_
  show AW _ _ _ (_ :: _ :: _ :: []) _ _ _ _ _
  first | refine AW.aload_n X dX1_light_0 rfl rfl ?_ | refine AW.aloadN_n X dX1_light_0 rfl rfl ?_
  refine AW.iload_n X dX1_light_1 rfl rfl ?_
  refine AW.callV_r X (c_X1_quayAt_ok hX0 hq) (ci := 0) (q := (RX1, TX1, 14)) (by first | assumption | exact hT _ _ rfl) rfl s_X1_158_0 (by omega) (Nat.le_of_ble_eq_true rfl) rfl rfl (Nat.le_of_ble_eq_true rfl) dX1_light_2 ?_
  refine AW.pop X dX1_light_5 rfl ?_
  refine AW.iload_n X dX1_light_6 rfl rfl ?_
  refine AW.callS_r X (c_X1_hourAt_ok ⟨nI_pos' (by omega), nI_le (b := 23) (by omega) (by omega)⟩) s_X1_201 (by omega) (Nat.le_of_ble_eq_true rfl) rfl rfl (Nat.le_of_ble_eq_true rfl) dX1_light_7 ?_
  first | refine AW.aload_n X dX1_light_10 rfl rfl ?_ | refine AW.aloadN_n X dX1_light_10 rfl rfl ?_
  refine AW.getR X f_X1_23_0 (by first | assumption | exact hT _ _ rfl) (by first | assumption | exact hR _ _ _ rfl) dX1_light_11 ?_
  refine AW.iload_n X dX1_light_14 rfl rfl ?_
  refine AW.iload_n X dX1_light_15 rfl rfl ?_
  refine AW.callV_r X (c_X3_light hP hL0 hN hq hh (fun h' hh' => hG.2 q h' hq hh')) (ci := 2) (q := (RX3, TX3, 9)) (by first | assumption | exact hT _ _ rfl) rfl s_X1_233_2 (by omega) (Nat.le_of_ble_eq_true rfl) rfl rfl (Nat.le_of_ble_eq_true rfl) dX1_light_16 ?_
  exact AW.ireturn X E ⟨rfl, rfl, rfl, rfl, rfl⟩ dX1_light_19 
theorem c_X1_hunger_bad {e h : Int32} (hX : XS pb T I R N) (h1 : 100 ≤ B) (h0 : (T B).1 = 0) (hb : ¬ ((0 ≤ e ∧ e < nI (nE N)) ∧ (0 ≤ h ∧ h ≤ 23))) : MX1_hunger 9 2 [.ref 100, .int e, .int h] T I R J noQ (qX 22 B T I R J) := by
  have hX0 := hX
  obtain ⟨hT, hR, hP, hL, hN, hM, h20, hG⟩ := hX
  have hL0 := hL
  obtain ⟨l1, l2, l3, l4, l5, l6, l7, l8, l9, l10, l11, l12, l13, l14, l15, l16, l17⟩ := hL
  obtain ⟨⟨n1, n2, n3, n4, hnq, hne, hns, hnh⟩, -⟩ := id hN
  have pT0 := hP.T0
  have prQ := hP.rQ
  have prE := hP.rE
  have prS := hP.rS
  have prM := hP.rM
  have prW := hP.rW
  have prHd := hP.rHd
  have prHf := hP.rHf
  have prHt := hP.rHt
  have ptM := hP.tM
  have ptW := hP.tW
  have ptHd := hP.tHd
  have ptHf := hP.tHf
  have ptHt := hP.tHt
  have plQ := hP.lQ.tl
  have plE := hP.lE.tl
  have plS := hP.lS.tl
  refine AMet.of (by decide) (Nat.le_of_ble_eq_true rfl) (cats1 rfl) fun cx X E => ?_
  show AW _ _ _ (_ :: _ :: _ :: []) _ _ _ _ _
  by_cases hi : 0 ≤ e ∧ e < nI (nE N)
  · obtain ⟨k, hk, rfl⟩ : ∃ k, k < nE N ∧ e = nI k := inN hi (by omega)
    first | refine AW.aload_n X dX1_hunger_0 rfl rfl ?_ | refine AW.aloadN_n X dX1_hunger_0 rfl rfl ?_
    refine AW.iload_n X dX1_hunger_1 rfl rfl ?_
    refine AW.callV_r X (c_X1_eelAt_ok hX0 hk) (ci := 0) (q := (RX1, TX1, 14)) (by first | assumption | exact hT _ _ rfl) rfl s_X1_176_0 (by omega) (Nat.le_of_ble_eq_true rfl) rfl rfl (Nat.le_of_ble_eq_true rfl) dX1_hunger_2 ?_
    refine AW.pop X dX1_hunger_5 rfl ?_
    refine AW.iload_n X dX1_hunger_6 rfl rfl ?_
    exact AW.callS (b := 0) (bc := 2) X (c_X1_hourAt_bad h1 h0 (fun hh => hb ⟨hi, hh⟩)) s_X1_201 (by omega) (Nat.le_of_ble_eq_true rfl) rfl rfl (Nat.le_of_ble_eq_true rfl) dX1_hunger_7 (fun _ _ _ _ _ h => h.elim) (AX.thru X E (by omega) rfl (fun _ h => nomatch h))
  · skip
    first | refine AW.aload_n X dX1_hunger_0 rfl rfl ?_ | refine AW.aloadN_n X dX1_hunger_0 rfl rfl ?_
    refine AW.iload_n X dX1_hunger_1 rfl rfl ?_
    exact AW.callV (b := 0) (bc := 2) X (c_X1_eelAt_bad hX0 h1 h0 hi) (ci := 0) (q := (RX1, TX1, 14)) (by first | assumption | exact hT _ _ rfl) rfl s_X1_176_0 (by omega) (Nat.le_of_ble_eq_true rfl) rfl rfl (Nat.le_of_ble_eq_true rfl) dX1_hunger_2 (fun _ _ _ _ _ h => h.elim) (AX.thru X E (by omega) rfl (fun _ h => nomatch h))
theorem c_X1_glow_bad {e h : Int32} (hX : XS pb T I R N) (h1 : 100 ≤ B) (h0 : (T B).1 = 0) (hb : ¬ ((0 ≤ e ∧ e < nI (nE N)) ∧ (0 ≤ h ∧ h ≤ 23))) : MX1_glow 9 2 [.ref 100, .int e, .int h] T I R J noQ (qX 22 B T I R J) := by
  have hX0 := hX
  obtain ⟨hT, hR, hP, hL, hN, hM, h20, hG⟩ := hX
  have hL0 := hL
  obtain ⟨l1, l2, l3, l4, l5, l6, l7, l8, l9, l10, l11, l12, l13, l14, l15, l16, l17⟩ := hL
  obtain ⟨⟨n1, n2, n3, n4, hnq, hne, hns, hnh⟩, -⟩ := id hN
  have pT0 := hP.T0
  have prQ := hP.rQ
  have prE := hP.rE
  have prS := hP.rS
  have prM := hP.rM
  have prW := hP.rW
  have prHd := hP.rHd
  have prHf := hP.rHf
  have prHt := hP.rHt
  have ptM := hP.tM
  have ptW := hP.tW
  have ptHd := hP.tHd
  have ptHf := hP.tHf
  have ptHt := hP.tHt
  have plQ := hP.lQ.tl
  have plE := hP.lE.tl
  have plS := hP.lS.tl
  refine AMet.of (by decide) (Nat.le_of_ble_eq_true rfl) (cats1 rfl) fun cx X E => ?_
  show AW _ _ _ (_ :: _ :: _ :: []) _ _ _ _ _
  by_cases hi : 0 ≤ e ∧ e < nI (nE N)
  · obtain ⟨k, hk, rfl⟩ : ∃ k, k < nE N ∧ e = nI k := inN hi (by omega)
    first | refine AW.aload_n X dX1_glow_0 rfl rfl ?_ | refine AW.aloadN_n X dX1_glow_0 rfl rfl ?_
    refine AW.iload_n X dX1_glow_1 rfl rfl ?_
    refine AW.callV_r X (c_X1_eelAt_ok hX0 hk) (ci := 0) (q := (RX1, TX1, 14)) (by first | assumption | exact hT _ _ rfl) rfl s_X1_176_0 (by omega) (Nat.le_of_ble_eq_true rfl) rfl rfl (Nat.le_of_ble_eq_true rfl) dX1_glow_2 ?_
    refine AW.pop X dX1_glow_5 rfl ?_
    refine AW.iload_n X dX1_glow_6 rfl rfl ?_
    exact AW.callS (b := 0) (bc := 2) X (c_X1_hourAt_bad h1 h0 (fun hh => hb ⟨hi, hh⟩)) s_X1_201 (by omega) (Nat.le_of_ble_eq_true rfl) rfl rfl (Nat.le_of_ble_eq_true rfl) dX1_glow_7 (fun _ _ _ _ _ h => h.elim) (AX.thru X E (by omega) rfl (fun _ h => nomatch h))
  · skip
    first | refine AW.aload_n X dX1_glow_0 rfl rfl ?_ | refine AW.aloadN_n X dX1_glow_0 rfl rfl ?_
    refine AW.iload_n X dX1_glow_1 rfl rfl ?_
    exact AW.callV (b := 0) (bc := 2) X (c_X1_eelAt_bad hX0 h1 h0 hi) (ci := 0) (q := (RX1, TX1, 14)) (by first | assumption | exact hT _ _ rfl) rfl s_X1_176_0 (by omega) (Nat.le_of_ble_eq_true rfl) rfl rfl (Nat.le_of_ble_eq_true rfl) dX1_glow_2 (fun _ _ _ _ _ h => h.elim) (AX.thru X E (by omega) rfl (fun _ h => nomatch h))
theorem c_X1_led_bad {e h : Int32} (hX : XS pb T I R N) (h1 : 100 ≤ B) (h0 : (T B).1 = 0) (hb : ¬ ((0 ≤ e ∧ e < nI (nE N)) ∧ (0 ≤ h ∧ h ≤ 23))) : MX1_led 9 2 [.ref 100, .int e, .int h] T I R J noQ (qX 22 B T I R J) := by
  have hX0 := hX
  obtain ⟨hT, hR, hP, hL, hN, hM, h20, hG⟩ := hX
  have hL0 := hL
  obtain ⟨l1, l2, l3, l4, l5, l6, l7, l8, l9, l10, l11, l12, l13, l14, l15, l16, l17⟩ := hL
  obtain ⟨⟨n1, n2, n3, n4, hnq, hne, hns, hnh⟩, -⟩ := id hN
  have pT0 := hP.T0
  have prQ := hP.rQ
  have prE := hP.rE
  have prS := hP.rS
  have prM := hP.rM
  have prW := hP.rW
  have prHd := hP.rHd
  have prHf := hP.rHf
  have prHt := hP.rHt
  have ptM := hP.tM
  have ptW := hP.tW
  have ptHd := hP.tHd
  have ptHf := hP.tHf
  have ptHt := hP.tHt
  have plQ := hP.lQ.tl
  have plE := hP.lE.tl
  have plS := hP.lS.tl
  refine AMet.of (by decide) (Nat.le_of_ble_eq_true rfl) (cats1 rfl) fun cx X E => ?_
  show AW _ _ _ (_ :: _ :: _ :: _ :: _ :: _ :: _ :: _ :: _ :: []) _ _ _ _ _
  by_cases hi : 0 ≤ e ∧ e < nI (nE N)
  · obtain ⟨k, hk, rfl⟩ : ∃ k, k < nE N ∧ e = nI k := inN hi (by omega)
    first | refine AW.aload_n X dX1_led_0 rfl rfl ?_ | refine AW.aloadN_n X dX1_led_0 rfl rfl ?_
    refine AW.iload_n X dX1_led_1 rfl rfl ?_
    refine AW.callV_r X (c_X1_eelAt_ok hX0 hk) (ci := 0) (q := (RX1, TX1, 14)) (by first | assumption | exact hT _ _ rfl) rfl s_X1_176_0 (by omega) (Nat.le_of_ble_eq_true rfl) rfl rfl (Nat.le_of_ble_eq_true rfl) dX1_led_2 ?_
    first | refine AW.astore3 X dX1_led_5 ?_ | refine AW.astoreN3 X dX1_led_5 ?_
    refine AW.iload_n X dX1_led_6 rfl rfl ?_
    exact AW.callS (b := 0) (bc := 2) X (c_X1_hourAt_bad h1 h0 (fun hh => hb ⟨hi, hh⟩)) s_X1_201 (by omega) (Nat.le_of_ble_eq_true rfl) rfl rfl (Nat.le_of_ble_eq_true rfl) dX1_led_7 (fun _ _ _ _ _ h => h.elim) (AX.thru X E (by omega) rfl (fun _ h => nomatch h))
  · skip
    first | refine AW.aload_n X dX1_led_0 rfl rfl ?_ | refine AW.aloadN_n X dX1_led_0 rfl rfl ?_
    refine AW.iload_n X dX1_led_1 rfl rfl ?_
    exact AW.callV (b := 0) (bc := 2) X (c_X1_eelAt_bad hX0 h1 h0 hi) (ci := 0) (q := (RX1, TX1, 14)) (by first | assumption | exact hT _ _ rfl) rfl s_X1_176_0 (by omega) (Nat.le_of_ble_eq_true rfl) rfl rfl (Nat.le_of_ble_eq_true rfl) dX1_led_2 (fun _ _ _ _ _ h => h.elim) (AX.thru X E (by omega) rfl (fun _ h => nomatch h))
theorem c_X1_light_bad {e h : Int32} (hX : XS pb T I R N) (h1 : 100 ≤ B) (h0 : (T B).1 = 0) (hb : ¬ ((0 ≤ e ∧ e < nI (nQ N)) ∧ (0 ≤ h ∧ h ≤ 23))) : MX1_light 9 2 [.ref 100, .int e, .int h] T I R J noQ (qX 22 B T I R J) := by
  have hX0 := hX
  obtain ⟨hT, hR, hP, hL, hN, hM, h20, hG⟩ := hX
  have hL0 := hL
  obtain ⟨l1, l2, l3, l4, l5, l6, l7, l8, l9, l10, l11, l12, l13, l14, l15, l16, l17⟩ := hL
  obtain ⟨⟨n1, n2, n3, n4, hnq, hne, hns, hnh⟩, -⟩ := id hN
  have pT0 := hP.T0
  have prQ := hP.rQ
  have prE := hP.rE
  have prS := hP.rS
  have prM := hP.rM
  have prW := hP.rW
  have prHd := hP.rHd
  have prHf := hP.rHf
  have prHt := hP.rHt
  have ptM := hP.tM
  have ptW := hP.tW
  have ptHd := hP.tHd
  have ptHf := hP.tHf
  have ptHt := hP.tHt
  have plQ := hP.lQ.tl
  have plE := hP.lE.tl
  have plS := hP.lS.tl
  refine AMet.of (by decide) (Nat.le_of_ble_eq_true rfl) (cats1 rfl) fun cx X E => ?_
  show AW _ _ _ (_ :: _ :: _ :: []) _ _ _ _ _
  by_cases hi : 0 ≤ e ∧ e < nI (nQ N)
  · obtain ⟨k, hk, rfl⟩ : ∃ k, k < nQ N ∧ e = nI k := inN hi (by omega)
    first | refine AW.aload_n X dX1_light_0 rfl rfl ?_ | refine AW.aloadN_n X dX1_light_0 rfl rfl ?_
    refine AW.iload_n X dX1_light_1 rfl rfl ?_
    refine AW.callV_r X (c_X1_quayAt_ok hX0 hk) (ci := 0) (q := (RX1, TX1, 14)) (by first | assumption | exact hT _ _ rfl) rfl s_X1_158_0 (by omega) (Nat.le_of_ble_eq_true rfl) rfl rfl (Nat.le_of_ble_eq_true rfl) dX1_light_2 ?_
    refine AW.pop X dX1_light_5 rfl ?_
    refine AW.iload_n X dX1_light_6 rfl rfl ?_
    exact AW.callS (b := 0) (bc := 2) X (c_X1_hourAt_bad h1 h0 (fun hh => hb ⟨hi, hh⟩)) s_X1_201 (by omega) (Nat.le_of_ble_eq_true rfl) rfl rfl (Nat.le_of_ble_eq_true rfl) dX1_light_7 (fun _ _ _ _ _ h => h.elim) (AX.thru X E (by omega) rfl (fun _ h => nomatch h))
  · skip
    first | refine AW.aload_n X dX1_light_0 rfl rfl ?_ | refine AW.aloadN_n X dX1_light_0 rfl rfl ?_
    refine AW.iload_n X dX1_light_1 rfl rfl ?_
    exact AW.callV (b := 0) (bc := 2) X (c_X1_quayAt_bad hX0 h1 h0 hi) (ci := 0) (q := (RX1, TX1, 14)) (by first | assumption | exact hT _ _ rfl) rfl s_X1_158_0 (by omega) (Nat.le_of_ble_eq_true rfl) rfl rfl (Nat.le_of_ble_eq_true rfl) dX1_light_2 (fun _ _ _ _ _ h => h.elim) (AX.thru X E (by omega) rfl (fun _ h => nomatch h))
end XR
