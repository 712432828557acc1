/-! 07o: EelPort's reads, 2 (written by src/gen07o.py and src/walk.py) -/
set_option maxRecDepth 100000
def atV (N : KI) (s h : Nat) : Int32 := if nI h < N 316 s then -1 else nI (posAt N (Lig N) (hRow N) s h)
def eH (N : KI) (s : Nat) : Nat → Nat
  | 0 => 0
  | h + 1 => if nat N 316 s < h + 1 ∧ posAt N (Lig N) (hRow N) s h = posAt N (Lig N) (hRow N) s 24 then eH N s h else h + 1
def endV (N : KI) (s : Nat) (w : Int32) : Int32 := if w = 0 then nI (endK N (posAt N (Lig N) (hRow N) s 24)) else nI (eH N s 24)
def ledV (N : KI) (e h : Nat) : Int32 := if glo N e h = 0 then -1 else lst N e h
def prc (N : KI) (s : Int32) : Int32 := if s = 0 then N 304 4 else N 304 5
def priceS (N : KI) : Nat → Int32
  | 0 => 0
  | m + 1 => priceS N m + prc N (N 339 m)
theorem eatP_00 {N : KI} {e h m : Nat} {p : Int32 × Int32} (h1 : N 337 m = nI e) (h2 : N 338 m = nI h) (h3 : N 339 m = 0) : eatP N e h (m + 1) p = (0, if 0 < (eatP N e h m p).1 then nI m else (eatP N e h m p).2) := by
  show (if N 337 m = nI e ∧ N 338 m = nI h then _ else _ : Int32 × Int32) = _
  rw [if_pos ⟨h1, h2⟩, if_pos h3]
theorem eatP_11 {N : KI} {e h m : Nat} {p : Int32 × Int32} (h1 : N 337 m = nI e) (h2 : N 338 m = nI h) (h3 : ¬ N 339 m = 0) : eatP N e h (m + 1) p = (mx 0 ((eatP N e h m p).1 - 5), if mx 0 ((eatP N e h m p).1 - 5) < (eatP N e h m p).1 then nI m else (eatP N e h m p).2) := by
  show (if N 337 m = nI e ∧ N 338 m = nI h then _ else _ : Int32 × Int32) = _
  rw [if_pos ⟨h1, h2⟩, if_neg h3]
section XR2
variable {pb B : Nat} {T : KT} {I : KI} {R : KR} {J : KJ} {N : KI}
theorem c_X1_quay {q : Nat} {w : Int32} (hX : XS pb T I R N) (hq : q < nQ N) (hw : 0 ≤ w ∧ w ≤ 4) : MX1_quay 9 0 [.ref 100, .int (nI q), .int w] T I R J (qR (some (.int (quayV N q w))) T I R J) noX := by
  have hX0 := hX
  obtain ⟨hT, hR, hP, hL, hN, hM, h20, hG⟩ := hX
  have hL0 := hL
  obtain ⟨l1, l2, l3, l4, l5, l6, l7, l8, l9, l10, l11, l12, l13, l14, l15, l16, l17⟩ := hL
  obtain ⟨⟨n1, n2, n3, n4, hnq, hne, hns, hnh⟩, -⟩ := id hN
  have pT0 := hP.T0
  have prQ := hP.rQ
  have prE := hP.rE
  have prS := hP.rS
  have prM := hP.rM
  have prW := hP.rW
  have prHd := hP.rHd
  have prHf := hP.rHf
  have prHt := hP.rHt
  have ptM := hP.tM
  have ptW := hP.tW
  have ptHd := hP.tHd
  have ptHf := hP.tHf
  have ptHt := hP.tHt
  have plQ := hP.lQ.tl
  have plE := hP.lE.tl
  have plS := hP.lS.tl
  obtain ⟨k1, k2, k3, k4⟩ := hP.q hq
  obtain ⟨hkx, hkq, -⟩ := hN.2.1 q hq
  unfold quayV
  refine AMet.of (by decide) (Nat.le_of_ble_eq_true rfl) (cats1 rfl) fun cx X E => ?_
  show AW _ _ _ (_ :: _ :: _ :: _ :: _ :: _ :: []) _ _ _ _ _
  have lp : ∀ j e, e + j = nE N → AW cx 0 21 [.ref 100, .int (nI q), .int w, .ref (pb + 100 + q), .int (setE N q e), .int (nI e)] [] T I R J := by
    intro j
    induction j with
    | zero =>
      intro e hj
      obtain rfl : e = nE N := by omega
      refine AW.iload X dX1_quay_21 rfl ?_
      first | refine AW.aload_n X dX1_quay_23 rfl rfl ?_ | refine AW.aloadN_n X dX1_quay_23 rfl rfl ?_
      refine AW.getR X f_X1_23_0 (by first | assumption | exact hT _ _ rfl) (by first | assumption | exact hR _ _ _ rfl) dX1_quay_24 ?_
      refine AW.getR X f_X1_65_2 (by first | assumption | exact hT _ _ rfl) (by first | assumption | exact hR _ _ _ rfl) dX1_quay_27 ?_
      refine AW.getR X f_X1_87_3 (by first | assumption | exact hT _ _ rfl) (by first | assumption | exact hR _ _ _ rfl) dX1_quay_30 ?_
      refine AW.callV_r X (hP.lE.size) (ci := 19) (q := (RJ2, TJ2, 3)) (by first | assumption | exact hT _ _ rfl) rfl s_X1_75_19 (by omega) (Nat.le_of_ble_eq_true rfl) rfl rfl (Nat.le_of_ble_eq_true rfl) dX1_quay_33 ?_
      refine AW.icmp_ge X (tgt := 79) dX1_quay_36 rfl ?_ ?_
      · intro t36
        refine AW.iload_n X dX1_quay_79 rfl rfl ?_
        refine AW.if_ne X (tgt := 90) dX1_quay_80 rfl ?_ ?_
        · intro t80
          rw [if_neg t80] at E
          refine AW.iload_n X dX1_quay_90 rfl rfl ?_
          refine AW.iconst X (v := 1) dX1_quay_91 rfl ?_
          refine AW.icmp_ne X (tgt := 102) dX1_quay_92 rfl ?_ ?_
          · intro t92
            rw [if_neg t92] at E
            refine AW.iload_n X dX1_quay_102 rfl rfl ?_
            refine AW.iconst X (v := 2) dX1_quay_103 rfl ?_
            refine AW.icmp_ne X (tgt := 114) dX1_quay_104 rfl ?_ ?_
            · intro t104
              rw [if_neg t104] at E
              refine AW.iload_n X dX1_quay_114 rfl rfl ?_
              refine AW.iconst X (v := 3) dX1_quay_115 rfl ?_
              refine AW.icmp_ne X (tgt := 126) dX1_quay_116 rfl ?_ ?_
              · intro t116
                rw [if_neg t116] at E
                refine AW.iload X dX1_quay_126 rfl ?_
                exact AW.ireturn X E ⟨rfl, rfl, rfl, rfl, rfl⟩ dX1_quay_128 
              · intro f116
                rw [if_pos f116] at E
                first | refine AW.aload_n X dX1_quay_119 rfl rfl ?_ | refine AW.aloadN_n X dX1_quay_119 rfl rfl ?_
                refine AW.getK X fk_X1_173 (by first | assumption | omega) (by first | assumption | exact hT _ _ rfl) dX1_quay_120 ?_
                rw [k3]
                refine AW.goto X (tgt := 128) dX1_quay_123 rfl ?_
                exact AW.ireturn X E ⟨rfl, rfl, rfl, rfl, rfl⟩ dX1_quay_128 
            · intro f104
              rw [if_pos f104] at E
              first | refine AW.aload_n X dX1_quay_107 rfl rfl ?_ | refine AW.aloadN_n X dX1_quay_107 rfl rfl ?_
              refine AW.getK X fk_X1_170 (by first | assumption | omega) (by first | assumption | exact hT _ _ rfl) dX1_quay_108 ?_
              rw [k2]
              refine AW.goto X (tgt := 128) dX1_quay_111 rfl ?_
              exact AW.ireturn X E ⟨rfl, rfl, rfl, rfl, rfl⟩ dX1_quay_128 
          · intro f92
            rw [if_pos f92] at E
            first | refine AW.aload_n X dX1_quay_95 rfl rfl ?_ | refine AW.aloadN_n X dX1_quay_95 rfl rfl ?_
            refine v_X1_167 X rfl (by omega) k1 hkq (Nat.le_of_ble_eq_true rfl) dX1_quay_96 ?_
            rw [k4]
            refine AW.goto X (tgt := 128) dX1_quay_99 rfl ?_
            exact AW.ireturn X E ⟨rfl, rfl, rfl, rfl, rfl⟩ dX1_quay_128 
        · intro f80
          rw [if_pos f80, hkx] at E
          first | refine AW.aload_n X dX1_quay_83 rfl rfl ?_ | refine AW.aloadN_n X dX1_quay_83 rfl rfl ?_
          refine v_X1_165 X rfl (by omega) k1 hkq (Nat.le_of_ble_eq_true rfl) dX1_quay_84 ?_
          refine AW.goto X (tgt := 128) dX1_quay_87 rfl ?_
          exact AW.ireturn X E ⟨rfl, rfl, rfl, rfl, rfl⟩ dX1_quay_128 
      · intro f36
        exact absurd (nI_le (by omega) (by omega)) f36
    | succ j ih2 =>
      intro e hj
      obtain ⟨c1, c2, c3, c4, c5⟩ := hP.e (show e < nE N by omega)
      have hke := (hN.2.2.1 e (by omega)).2.1
      have hE := ih2 (e + 1) (by omega)
      unfold setE at hE
      refine AW.iload X dX1_quay_21 rfl ?_
      first | refine AW.aload_n X dX1_quay_23 rfl rfl ?_ | refine AW.aloadN_n X dX1_quay_23 rfl rfl ?_
      refine AW.getR X f_X1_23_0 (by first | assumption | exact hT _ _ rfl) (by first | assumption | exact hR _ _ _ rfl) dX1_quay_24 ?_
      refine AW.getR X f_X1_65_2 (by first | assumption | exact hT _ _ rfl) (by first | assumption | exact hR _ _ _ rfl) dX1_quay_27 ?_
      refine AW.getR X f_X1_87_3 (by first | assumption | exact hT _ _ rfl) (by first | assumption | exact hR _ _ _ rfl) dX1_quay_30 ?_
      refine AW.callV_r X (hP.lE.size) (ci := 19) (q := (RJ2, TJ2, 3)) (by first | assumption | exact hT _ _ rfl) rfl s_X1_75_19 (by omega) (Nat.le_of_ble_eq_true rfl) rfl rfl (Nat.le_of_ble_eq_true rfl) dX1_quay_33 ?_
      refine AW.icmp_ge X (tgt := 79) dX1_quay_36 rfl ?_ ?_
      · intro t36
        exact absurd t36 (nI_ge (by omega) (by omega))
      · intro f36
        first | refine AW.aload_n X dX1_quay_39 rfl rfl ?_ | refine AW.aloadN_n X dX1_quay_39 rfl rfl ?_
        refine AW.getR X f_X1_23_0 (by first | assumption | exact hT _ _ rfl) (by first | assumption | exact hR _ _ _ rfl) dX1_quay_40 ?_
        refine AW.getR X f_X1_65_2 (by first | assumption | exact hT _ _ rfl) (by first | assumption | exact hR _ _ _ rfl) dX1_quay_43 ?_
        refine AW.getR X f_X1_87_3 (by first | assumption | exact hT _ _ rfl) (by first | assumption | exact hR _ _ _ rfl) dX1_quay_46 ?_
        refine AW.iload X dX1_quay_49 rfl ?_
        refine AW.callV_r X (hP.lE.get (show e < nE N by omega) (by omega)) (ci := 19) (q := (RJ2, TJ2, 3)) (by first | assumption | exact hT _ _ rfl) rfl s_X1_81_19 (by omega) (Nat.le_of_ble_eq_true rfl) rfl rfl (Nat.le_of_ble_eq_true rfl) dX1_quay_51 ?_
        refine AW.castK X (idx := 90) ck_Eel (by first | assumption | omega) (by first | assumption | exact hT _ _ rfl) q1256 dX1_quay_54 ?_
        refine AW.getK X fk_X1_162 (by first | assumption | omega) (by first | assumption | exact hT _ _ rfl) dX1_quay_57 ?_
        rw [c3]
        refine AW.iload_n X dX1_quay_60 rfl rfl ?_
        refine AW.icmp_ne X (tgt := 73) dX1_quay_61 rfl ?_ ?_
        · intro t61
          rw [if_neg t61] at hE
          refine AW.iinc5 X (v := _ + 1) dX1_quay_73 rfl ?_
          refine AW.goto X (tgt := 21) dX1_quay_76 rfl ?_
          rw [nI_1]; exact hE
        · intro f61
          rw [if_pos f61] at hE
          refine AW.iload X dX1_quay_64 rfl ?_
          refine AW.iconst X (v := 1) dX1_quay_66 rfl ?_
          refine AW.iload X dX1_quay_67 rfl ?_
          refine AW.ishl X dX1_quay_69 ?_
          refine AW.ior X dX1_quay_70 ?_
          refine AW.istore4 X dX1_quay_71 ?_
          refine AW.iinc5 X (v := _ + 1) dX1_quay_73 rfl ?_
          refine AW.goto X (tgt := 21) dX1_quay_76 rfl ?_
          rw [nI_1]; exact hE
  first | refine AW.aload_n X dX1_quay_0 rfl rfl ?_ | refine AW.aloadN_n X dX1_quay_0 rfl rfl ?_
  refine AW.iload_n X dX1_quay_1 rfl rfl ?_
  refine AW.callV_r X (c_X1_quayAt_ok hX0 hq) (ci := 0) (q := (RX1, TX1, 14)) (by first | assumption | exact hT _ _ rfl) rfl s_X1_158_0 (by omega) (Nat.le_of_ble_eq_true rfl) rfl rfl (Nat.le_of_ble_eq_true rfl) dX1_quay_2 ?_
  first | refine AW.astore3 X dX1_quay_5 ?_ | refine AW.astoreN3 X dX1_quay_5 ?_
  refine AW.iload_n X dX1_quay_6 rfl rfl ?_
  refine AW.iconst X (v := 0) dX1_quay_7 rfl ?_
  refine AW.iconst X (v := 4) dX1_quay_8 rfl ?_
  refine AW.callS_r X (c_X1_within w 0 4) s_X1_57 (by omega) (Nat.le_of_ble_eq_true rfl) rfl rfl (Nat.le_of_ble_eq_true rfl) dX1_quay_9 ?_
  refine AW.callS_r X (c_X1_there_ok (by rw [bI_t hw]; decide)) s_X1_61 (by omega) (Nat.le_of_ble_eq_true rfl) rfl rfl (Nat.le_of_ble_eq_true rfl) dX1_quay_12 ?_
  refine AW.iconst X (v := 0) dX1_quay_15 rfl ?_
  refine AW.istore4 X dX1_quay_16 ?_
  refine AW.iconst X (v := 0) dX1_quay_18 rfl ?_
  refine AW.istore5 X dX1_quay_19 ?_
  exact lp (nE N) 0 (by omega)
theorem c_X1_eel {e : Nat} {w : Int32} (hX : XS pb T I R N) (he : e < nE N) (hw : 0 ≤ w ∧ w ≤ 4) : MX1_eel 9 0 [.ref 100, .int (nI e), .int w] T I R J (qR (some (.int (eelV N e w))) T I R J) noX := by
  have hX0 := hX
  obtain ⟨hT, hR, hP, hL, hN, hM, h20, hG⟩ := hX
  have hL0 := hL
  obtain ⟨l1, l2, l3, l4, l5, l6, l7, l8, l9, l10, l11, l12, l13, l14, l15, l16, l17⟩ := hL
  obtain ⟨⟨n1, n2, n3, n4, hnq, hne, hns, hnh⟩, -⟩ := id hN
  have pT0 := hP.T0
  have prQ := hP.rQ
  have prE := hP.rE
  have prS := hP.rS
  have prM := hP.rM
  have prW := hP.rW
  have prHd := hP.rHd
  have prHf := hP.rHf
  have prHt := hP.rHt
  have ptM := hP.tM
  have ptW := hP.tW
  have ptHd := hP.tHd
  have ptHf := hP.tHf
  have ptHt := hP.tHt
  have plQ := hP.lQ.tl
  have plE := hP.lE.tl
  have plS := hP.lS.tl
  obtain ⟨k1, k2, k3, k4, k5⟩ := hP.e he
  obtain ⟨hkx, hkq, -⟩ := hN.2.2.1 e he
  unfold eelV
  refine AMet.of (by decide) (Nat.le_of_ble_eq_true rfl) (cats1 rfl) fun cx X E => ?_
  show AW _ _ _ (_ :: _ :: _ :: _ :: []) _ _ _ _ _
  first | refine AW.aload_n X dX1_eel_0 rfl rfl ?_ | refine AW.aloadN_n X dX1_eel_0 rfl rfl ?_
  refine AW.iload_n X dX1_eel_1 rfl rfl ?_
  refine AW.callV_r X (c_X1_eelAt_ok hX0 he) (ci := 0) (q := (RX1, TX1, 14)) (by first | assumption | exact hT _ _ rfl) rfl s_X1_176_0 (by omega) (Nat.le_of_ble_eq_true rfl) rfl rfl (Nat.le_of_ble_eq_true rfl) dX1_eel_2 ?_
  first | refine AW.astore3 X dX1_eel_5 ?_ | refine AW.astoreN3 X dX1_eel_5 ?_
  refine AW.iload_n X dX1_eel_6 rfl rfl ?_
  refine AW.iconst X (v := 0) dX1_eel_7 rfl ?_
  refine AW.iconst X (v := 4) dX1_eel_8 rfl ?_
  refine AW.callS_r X (c_X1_within w 0 4) s_X1_57 (by omega) (Nat.le_of_ble_eq_true rfl) rfl rfl (Nat.le_of_ble_eq_true rfl) dX1_eel_9 ?_
  refine AW.callS_r X (c_X1_there_ok (by rw [bI_t hw]; decide)) s_X1_61 (by omega) (Nat.le_of_ble_eq_true rfl) rfl rfl (Nat.le_of_ble_eq_true rfl) dX1_eel_12 ?_
  refine AW.iload_n X dX1_eel_15 rfl rfl ?_
  refine AW.if_ne X (tgt := 26) dX1_eel_16 rfl ?_ ?_
  · intro t16
    rw [if_neg t16] at E
    refine AW.iload_n X dX1_eel_26 rfl rfl ?_
    refine AW.iconst X (v := 1) dX1_eel_27 rfl ?_
    refine AW.icmp_ne X (tgt := 38) dX1_eel_28 rfl ?_ ?_
    · intro t28
      rw [if_neg t28] at E
      refine AW.iload_n X dX1_eel_38 rfl rfl ?_
      refine AW.iconst X (v := 2) dX1_eel_39 rfl ?_
      refine AW.icmp_ne X (tgt := 50) dX1_eel_40 rfl ?_ ?_
      · intro t40
        rw [if_neg t40] at E
        refine AW.iload_n X dX1_eel_50 rfl rfl ?_
        refine AW.iconst X (v := 3) dX1_eel_51 rfl ?_
        refine AW.icmp_ne X (tgt := 62) dX1_eel_52 rfl ?_ ?_
        · intro t52
          rw [if_neg t52] at E
          first | refine AW.aload_n X dX1_eel_62 rfl rfl ?_ | refine AW.aloadN_n X dX1_eel_62 rfl rfl ?_
          refine AW.getK X fk_X1_186 (by first | assumption | omega) (by first | assumption | exact hT _ _ rfl) dX1_eel_63 ?_
          rw [k5]
          exact AW.ireturn X E ⟨rfl, rfl, rfl, rfl, rfl⟩ dX1_eel_66 
        · intro f52
          rw [if_pos f52] at E
          first | refine AW.aload_n X dX1_eel_55 rfl rfl ?_ | refine AW.aloadN_n X dX1_eel_55 rfl rfl ?_
          refine AW.getK X fk_X1_183 (by first | assumption | omega) (by first | assumption | exact hT _ _ rfl) dX1_eel_56 ?_
          rw [k4]
          refine AW.goto X (tgt := 66) dX1_eel_59 rfl ?_
          exact AW.ireturn X E ⟨rfl, rfl, rfl, rfl, rfl⟩ dX1_eel_66 
      · intro f40
        rw [if_pos f40] at E
        first | refine AW.aload_n X dX1_eel_43 rfl rfl ?_ | refine AW.aloadN_n X dX1_eel_43 rfl rfl ?_
        refine AW.getK X fk_X1_162 (by first | assumption | omega) (by first | assumption | exact hT _ _ rfl) dX1_eel_44 ?_
        rw [k3]
        refine AW.goto X (tgt := 66) dX1_eel_47 rfl ?_
        exact AW.ireturn X E ⟨rfl, rfl, rfl, rfl, rfl⟩ dX1_eel_66 
    · intro f28
      rw [if_pos f28] at E
      first | refine AW.aload_n X dX1_eel_31 rfl rfl ?_ | refine AW.aloadN_n X dX1_eel_31 rfl rfl ?_
      refine AW.getK X fk_X1_181 (by first | assumption | omega) (by first | assumption | exact hT _ _ rfl) dX1_eel_32 ?_
      rw [k2]
      refine AW.goto X (tgt := 66) dX1_eel_35 rfl ?_
      exact AW.ireturn X E ⟨rfl, rfl, rfl, rfl, rfl⟩ dX1_eel_66 
  · intro f16
    rw [if_pos f16, hkx] at E
    first | refine AW.aload_n X dX1_eel_19 rfl rfl ?_ | refine AW.aloadN_n X dX1_eel_19 rfl rfl ?_
    refine v_X1_180 X rfl (by omega) k1 hkq (Nat.le_of_ble_eq_true rfl) dX1_eel_20 ?_
    refine AW.goto X (tgt := 66) dX1_eel_23 rfl ?_
    exact AW.ireturn X E ⟨rfl, rfl, rfl, rfl, rfl⟩ dX1_eel_66 
theorem c_X1_ship {s : Nat} {w : Int32} (hX : XS pb T I R N) (hs : s < nS N) (hw : 0 ≤ w ∧ w ≤ 3) : MX1_ship 9 0 [.ref 100, .int (nI s), .int w] T I R J (qR (some (.int (shipV N s w))) T I R J) noX := by
  have hX0 := hX
  obtain ⟨hT, hR, hP, hL, hN, hM, h20, hG⟩ := hX
  have hL0 := hL
  obtain ⟨l1, l2, l3, l4, l5, l6, l7, l8, l9, l10, l11, l12, l13, l14, l15, l16, l17⟩ := hL
  obtain ⟨⟨n1, n2, n3, n4, hnq, hne, hns, hnh⟩, -⟩ := id hN
  have pT0 := hP.T0
  have prQ := hP.rQ
  have prE := hP.rE
  have prS := hP.rS
  have prM := hP.rM
  have prW := hP.rW
  have prHd := hP.rHd
  have prHf := hP.rHf
  have prHt := hP.rHt
  have ptM := hP.tM
  have ptW := hP.tW
  have ptHd := hP.tHd
  have ptHf := hP.tHf
  have ptHt := hP.tHt
  have plQ := hP.lQ.tl
  have plE := hP.lE.tl
  have plS := hP.lS.tl
  obtain ⟨k1, k2, k3, k4⟩ := hP.s hs
  obtain ⟨hkx, hkq, -⟩ := hN.2.2.2.1 s hs
  unfold shipV
  refine AMet.of (by decide) (Nat.le_of_ble_eq_true rfl) (cats1 rfl) fun cx X E => ?_
  show AW _ _ _ (_ :: _ :: _ :: _ :: []) _ _ _ _ _
  first | refine AW.aload_n X dX1_ship_0 rfl rfl ?_ | refine AW.aloadN_n X dX1_ship_0 rfl rfl ?_
  refine AW.iload_n X dX1_ship_1 rfl rfl ?_
  refine AW.callV_r X (c_X1_shipAt_ok hX0 hs) (ci := 0) (q := (RX1, TX1, 14)) (by first | assumption | exact hT _ _ rfl) rfl s_X1_189_0 (by omega) (Nat.le_of_ble_eq_true rfl) rfl rfl (Nat.le_of_ble_eq_true rfl) dX1_ship_2 ?_
  first | refine AW.astore3 X dX1_ship_5 ?_ | refine AW.astoreN3 X dX1_ship_5 ?_
  refine AW.iload_n X dX1_ship_6 rfl rfl ?_
  refine AW.iconst X (v := 0) dX1_ship_7 rfl ?_
  refine AW.iconst X (v := 3) dX1_ship_8 rfl ?_
  refine AW.callS_r X (c_X1_within w 0 3) s_X1_57 (by omega) (Nat.le_of_ble_eq_true rfl) rfl rfl (Nat.le_of_ble_eq_true rfl) dX1_ship_9 ?_
  refine AW.callS_r X (c_X1_there_ok (by rw [bI_t hw]; decide)) s_X1_61 (by omega) (Nat.le_of_ble_eq_true rfl) rfl rfl (Nat.le_of_ble_eq_true rfl) dX1_ship_12 ?_
  refine AW.iload_n X dX1_ship_15 rfl rfl ?_
  refine AW.if_ne X (tgt := 26) dX1_ship_16 rfl ?_ ?_
  · intro t16
    rw [if_neg t16] at E
    refine AW.iload_n X dX1_ship_26 rfl rfl ?_
    refine AW.iconst X (v := 1) dX1_ship_27 rfl ?_
    refine AW.icmp_ne X (tgt := 38) dX1_ship_28 rfl ?_ ?_
    · intro t28
      rw [if_neg t28] at E
      refine AW.iload_n X dX1_ship_38 rfl rfl ?_
      refine AW.iconst X (v := 2) dX1_ship_39 rfl ?_
      refine AW.icmp_ne X (tgt := 50) dX1_ship_40 rfl ?_ ?_
      · intro t40
        rw [if_neg t40] at E
        first | refine AW.aload_n X dX1_ship_50 rfl rfl ?_ | refine AW.aloadN_n X dX1_ship_50 rfl rfl ?_
        refine AW.getK X fk_X1_198 (by first | assumption | omega) (by first | assumption | exact hT _ _ rfl) dX1_ship_51 ?_
        rw [k4]
        exact AW.ireturn X E ⟨rfl, rfl, rfl, rfl, rfl⟩ dX1_ship_54 
      · intro f40
        rw [if_pos f40] at E
        first | refine AW.aload_n X dX1_ship_43 rfl rfl ?_ | refine AW.aloadN_n X dX1_ship_43 rfl rfl ?_
        refine AW.getK X fk_X1_195 (by first | assumption | omega) (by first | assumption | exact hT _ _ rfl) dX1_ship_44 ?_
        rw [k3]
        refine AW.goto X (tgt := 54) dX1_ship_47 rfl ?_
        exact AW.ireturn X E ⟨rfl, rfl, rfl, rfl, rfl⟩ dX1_ship_54 
    · intro f28
      rw [if_pos f28] at E
      first | refine AW.aload_n X dX1_ship_31 rfl rfl ?_ | refine AW.aloadN_n X dX1_ship_31 rfl rfl ?_
      refine AW.getK X fk_X1_194 (by first | assumption | omega) (by first | assumption | exact hT _ _ rfl) dX1_ship_32 ?_
      rw [k2]
      refine AW.goto X (tgt := 54) dX1_ship_35 rfl ?_
      exact AW.ireturn X E ⟨rfl, rfl, rfl, rfl, rfl⟩ dX1_ship_54 
  · intro f16
    rw [if_pos f16, hkx] at E
    first | refine AW.aload_n X dX1_ship_19 rfl rfl ?_ | refine AW.aloadN_n X dX1_ship_19 rfl rfl ?_
    refine v_X1_193 X rfl (by omega) k1 hkq (Nat.le_of_ble_eq_true rfl) dX1_ship_20 ?_
    refine AW.goto X (tgt := 54) dX1_ship_23 rfl ?_
    exact AW.ireturn X E ⟨rfl, rfl, rfl, rfl, rfl⟩ dX1_ship_54 
theorem c_X1_at {s h : Nat} (hX : XS pb T I R N) (hs : s < nS N) (hh : h ≤ 24) : MX1_at 9 0 [.ref 100, .int (nI s), .int (nI h)] T I R J (qR (some (.int (atV N s h))) T I R J) noX := by
  have hX0 := hX
  obtain ⟨hT, hR, hP, hL, hN, hM, h20, hG⟩ := hX
  have hL0 := hL
  obtain ⟨l1, l2, l3, l4, l5, l6, l7, l8, l9, l10, l11, l12, l13, l14, l15, l16, l17⟩ := hL
  obtain ⟨⟨n1, n2, n3, n4, hnq, hne, hns, hnh⟩, -⟩ := id hN
  have pT0 := hP.T0
  have prQ := hP.rQ
  have prE := hP.rE
  have prS := hP.rS
  have prM := hP.rM
  have prW := hP.rW
  have prHd := hP.rHd
  have prHf := hP.rHf
  have prHt := hP.rHt
  have ptM := hP.tM
  have ptW := hP.tW
  have ptHd := hP.tHd
  have ptHf := hP.tHf
  have ptHt := hP.tHt
  have plQ := hP.lQ.tl
  have plE := hP.lE.tl
  have plS := hP.lS.tl
  obtain ⟨k1, k2, k3, k4⟩ := hP.s hs
  obtain ⟨hkx, hkq, -⟩ := hN.2.2.2.1 s hs
  unfold atV
  refine AMet.of (by decide) (Nat.le_of_ble_eq_true rfl) (cats1 rfl) fun cx X E => ?_
  show AW _ _ _ (_ :: _ :: _ :: _ :: []) _ _ _ _ _
  first | refine AW.aload_n X dX1_at_0 rfl rfl ?_ | refine AW.aloadN_n X dX1_at_0 rfl rfl ?_
  refine AW.iload_n X dX1_at_1 rfl rfl ?_
  refine AW.callV_r X (c_X1_shipAt_ok hX0 hs) (ci := 0) (q := (RX1, TX1, 14)) (by first | assumption | exact hT _ _ rfl) rfl s_X1_189_0 (by omega) (Nat.le_of_ble_eq_true rfl) rfl rfl (Nat.le_of_ble_eq_true rfl) dX1_at_2 ?_
  first | refine AW.astore3 X dX1_at_5 ?_ | refine AW.astoreN3 X dX1_at_5 ?_
  refine AW.iload_n X dX1_at_6 rfl rfl ?_
  refine AW.iconst X (v := 0) dX1_at_7 rfl ?_
  refine AW.bipush X (v := 24) dX1_at_8 rfl ?_
  refine AW.callS_r X (c_X1_within (nI h) 0 24) s_X1_57 (by omega) (Nat.le_of_ble_eq_true rfl) rfl rfl (Nat.le_of_ble_eq_true rfl) dX1_at_10 ?_
  refine AW.callS_r X (c_X1_there_ok (by rw [bI_t ⟨nI_pos' (by omega), nI_le (b := 24) (by omega) (by omega)⟩]; decide)) s_X1_61 (by omega) (Nat.le_of_ble_eq_true rfl) rfl rfl (Nat.le_of_ble_eq_true rfl) dX1_at_13 ?_
  refine AW.iload_n X dX1_at_16 rfl rfl ?_
  first | refine AW.aload_n X dX1_at_17 rfl rfl ?_ | refine AW.aloadN_n X dX1_at_17 rfl rfl ?_
  refine AW.getK X fk_X1_195 (by first | assumption | omega) (by first | assumption | exact hT _ _ rfl) dX1_at_18 ?_
  rw [k3]
  refine AW.icmp_ge X (tgt := 28) dX1_at_21 rfl ?_ ?_
  · intro t21
    rw [if_neg (Int32.not_lt.mpr t21)] at E
    first | refine AW.aload_n X dX1_at_28 rfl rfl ?_ | refine AW.aloadN_n X dX1_at_28 rfl rfl ?_
    refine AW.getR X f_X1_23_0 (by first | assumption | exact hT _ _ rfl) (by first | assumption | exact hR _ _ _ rfl) dX1_at_29 ?_
    first | refine AW.aload_n X dX1_at_32 rfl rfl ?_ | refine AW.aloadN_n X dX1_at_32 rfl rfl ?_
    refine AW.iload_n X dX1_at_33 rfl rfl ?_
    refine AW.callV_r X (c_X3_at hP hL0 hN hM hG hs hh) (ci := 2) (q := (RX3, TX3, 9)) (by first | assumption | exact hT _ _ rfl) rfl s_X1_236_2 (by omega) (Nat.le_of_ble_eq_true rfl) rfl rfl (Nat.le_of_ble_eq_true rfl) dX1_at_34 ?_
    exact AW.ireturn X E ⟨rfl, rfl, rfl, rfl, rfl⟩ dX1_at_37 
  · intro f21
    rw [if_pos (Int32.not_le.mp f21)] at E
    refine AW.iconst X (v := -1) dX1_at_24 rfl ?_
    refine AW.goto X (tgt := 37) dX1_at_25 rfl ?_
    exact AW.ireturn X E ⟨rfl, rfl, rfl, rfl, rfl⟩ dX1_at_37 
theorem c_X1_end {s : Nat} {w : Int32} (hX : XS pb T I R N) (hs : s < nS N) (hw : w = 0 ∨ w = 1) : MX1_end 10 0 [.ref 100, .int (nI s), .int w] T I R J (qR (some (.int (endV N s w))) T I R J) noX := by
  have hX0 := hX
  obtain ⟨hT, hR, hP, hL, hN, hM, h20, hG⟩ := hX
  have hL0 := hL
  obtain ⟨l1, l2, l3, l4, l5, l6, l7, l8, l9, l10, l11, l12, l13, l14, l15, l16, l17⟩ := hL
  obtain ⟨⟨n1, n2, n3, n4, hnq, hne, hns, hnh⟩, -⟩ := id hN
  have pT0 := hP.T0
  have prQ := hP.rQ
  have prE := hP.rE
  have prS := hP.rS
  have prM := hP.rM
  have prW := hP.rW
  have prHd := hP.rHd
  have prHf := hP.rHf
  have prHt := hP.rHt
  have ptM := hP.tM
  have ptW := hP.tW
  have ptHd := hP.tHd
  have ptHf := hP.tHf
  have ptHt := hP.tHt
  have plQ := hP.lQ.tl
  have plE := hP.lE.tl
  have plS := hP.lS.tl
  obtain ⟨k1, k2, k3, k4⟩ := hP.s hs
  obtain ⟨hkx, hkq, -, -, hsx, hsl, -⟩ := hN.2.2.2.1 s hs
  have hp24 := pos_lt (L := Lig N) (Hg := hRow N) hN hs
  unfold endV
  refine AMet.of (by decide) (Nat.le_of_ble_eq_true rfl) (cats1 rfl) fun cx X E => ?_
  show AW _ _ _ (_ :: _ :: _ :: _ :: _ :: _ :: []) _ _ _ _ _
  have lp : ¬ w = 0 → ∀ h, h ≤ 24 → eH N s 24 = eH N s h → AW cx 0 52 [.ref 100, .int (nI s), .int w, .ref (pb + 140 + s), .int (nI (posAt N (Lig N) (hRow N) s 24)), .int (nI h)] [] T I R J := by
    intro hw0 h
    rw [if_neg hw0] at E
    induction h with
    | zero =>
      intro hh he
      rw [he] at E
      refine AW.iload X dX1_end_52 rfl ?_
      first | refine AW.aload_n X dX1_end_54 rfl rfl ?_ | refine AW.aloadN_n X dX1_end_54 rfl rfl ?_
      refine AW.getK X fk_X1_195 (by first | assumption | omega) (by first | assumption | exact hT _ _ rfl) dX1_end_55 ?_
      rw [k3, hsx]
      refine AW.icmp_le X (tgt := 84) dX1_end_58 rfl ?_ ?_
      · intro t58
        refine AW.iload X dX1_end_84 rfl ?_
        exact AW.ireturn X E ⟨rfl, rfl, rfl, rfl, rfl⟩ dX1_end_86 
      · intro f58
        exact absurd (nI_le (Nat.zero_le _) (by omega)) f58
    | succ h ih =>
      intro hh he
      have hE := ih (by omega)
      have hstep : eH N s (h + 1) = if nat N 316 s < h + 1 ∧ posAt N (Lig N) (hRow N) s h = posAt N (Lig N) (hRow N) s 24 then eH N s h else h + 1 := rfl
      refine AW.iload X dX1_end_52 rfl ?_
      first | refine AW.aload_n X dX1_end_54 rfl rfl ?_ | refine AW.aloadN_n X dX1_end_54 rfl rfl ?_
      refine AW.getK X fk_X1_195 (by first | assumption | omega) (by first | assumption | exact hT _ _ rfl) dX1_end_55 ?_
      rw [k3, hsx]
      refine AW.icmp_le X (tgt := 84) dX1_end_58 rfl ?_ ?_
      · intro t58
        rw [he, hstep, if_neg (fun hc => nI_ge hc.1 (by omega) t58)] at E
        refine AW.iload X dX1_end_84 rfl ?_
        exact AW.ireturn X E ⟨rfl, rfl, rfl, rfl, rfl⟩ dX1_end_86 
      · intro f58
        first | refine AW.aload_n X dX1_end_61 rfl rfl ?_ | refine AW.aloadN_n X dX1_end_61 rfl rfl ?_
        refine AW.getR X f_X1_23_0 (by first | assumption | exact hT _ _ rfl) (by first | assumption | exact hR _ _ _ rfl) dX1_end_62 ?_
        first | refine AW.aload_n X dX1_end_65 rfl rfl ?_ | refine AW.aloadN_n X dX1_end_65 rfl rfl ?_
        refine AW.iload X dX1_end_66 rfl ?_
        refine AW.iconst X (v := 1) dX1_end_68 rfl ?_
        refine AW.isub X dX1_end_69 ?_
        rw [show nI (h + 1) - 1 = nI h from nI_pred h]
        refine AW.callV_r X (c_X3_at (to := h) hP hL0 hN hM hG hs (by omega)) (ci := 2) (q := (RX3, TX3, 9)) (by first | assumption | exact hT _ _ rfl) rfl s_X1_236_2 (by omega) (Nat.le_of_ble_eq_true rfl) rfl rfl (Nat.le_of_ble_eq_true rfl) dX1_end_70 ?_
        refine AW.iload X dX1_end_73 rfl ?_
        refine AW.icmp_ne X (tgt := 84) dX1_end_75 rfl ?_ ?_
        · intro t75
          rw [he, hstep, if_neg (fun hc => t75 (congrArg nI hc.2))] at E
          refine AW.iload X dX1_end_84 rfl ?_
          exact AW.ireturn X E ⟨rfl, rfl, rfl, rfl, rfl⟩ dX1_end_86 
        · intro f75
          have hpe := (nI_eq (by have := hp24 (h - nat N 316 s); unfold posAt; omega) (by have := hp24 (24 - nat N 316 s); unfold posAt; omega)).mp f75
          have hlt : nat N 316 s < h + 1 := (nI_ltI (by omega) (by omega)).mp (Int32.not_le.mp f58)
          rw [if_pos ⟨hlt, hpe⟩] at hstep
          skip
          refine AW.iinc5 X (v := _ + -1) dX1_end_78 rfl ?_
          refine AW.goto X (tgt := 52) dX1_end_81 rfl ?_
          rw [show nI (h + 1) + -1 = nI h from by rw [← nI_pred h, Int32.sub_eq_add_neg]]
          exact hE (he.trans hstep)
  first | refine AW.aload_n X dX1_end_0 rfl rfl ?_ | refine AW.aloadN_n X dX1_end_0 rfl rfl ?_
  refine AW.iload_n X dX1_end_1 rfl rfl ?_
  refine AW.callV_r X (c_X1_shipAt_ok hX0 hs) (ci := 0) (q := (RX1, TX1, 14)) (by first | assumption | exact hT _ _ rfl) rfl s_X1_189_0 (by omega) (Nat.le_of_ble_eq_true rfl) rfl rfl (Nat.le_of_ble_eq_true rfl) dX1_end_2 ?_
  first | refine AW.astore3 X dX1_end_5 ?_ | refine AW.astoreN3 X dX1_end_5 ?_
  refine AW.iload_n X dX1_end_6 rfl rfl ?_
  refine AW.if_eq X (tgt := 15) dX1_end_7 rfl ?_ ?_
  · intro t7
    refine AW.iconst X (v := 1) dX1_end_15 rfl ?_
    refine AW.goto X (tgt := 20) dX1_end_16 rfl ?_
    refine AW.callS_r X (c_X1_there_ok (by decide)) s_X1_61 (by omega) (Nat.le_of_ble_eq_true rfl) rfl rfl (Nat.le_of_ble_eq_true rfl) dX1_end_20 ?_
    refine AW.iload_n X dX1_end_23 rfl rfl ?_
    refine AW.if_ne X (tgt := 36) dX1_end_24 rfl ?_ ?_
    · intro t24
      first | refine AW.aload_n X dX1_end_36 rfl rfl ?_ | refine AW.aloadN_n X dX1_end_36 rfl rfl ?_
      refine AW.getR X f_X1_23_0 (by first | assumption | exact hT _ _ rfl) (by first | assumption | exact hR _ _ _ rfl) dX1_end_37 ?_
      first | refine AW.aload_n X dX1_end_40 rfl rfl ?_ | refine AW.aloadN_n X dX1_end_40 rfl rfl ?_
      refine AW.bipush X (v := 24) dX1_end_41 rfl ?_
      refine AW.callV_r X (c_X3_at (to := 24) hP hL0 hN hM hG hs (by omega)) (ci := 2) (q := (RX3, TX3, 9)) (by first | assumption | exact hT _ _ rfl) rfl s_X1_236_2 (by omega) (Nat.le_of_ble_eq_true rfl) rfl rfl (Nat.le_of_ble_eq_true rfl) dX1_end_43 ?_
      refine AW.istore4 X dX1_end_46 ?_
      refine AW.bipush X (v := 24) dX1_end_48 rfl ?_
      refine AW.istore5 X dX1_end_50 ?_
      exact lp t24 24 (by omega) rfl
    · intro f24
      rw [if_pos f24] at E
      first | refine AW.aload_n X dX1_end_27 rfl rfl ?_ | refine AW.aloadN_n X dX1_end_27 rfl rfl ?_
      refine AW.getR X f_X1_23_0 (by first | assumption | exact hT _ _ rfl) (by first | assumption | exact hR _ _ _ rfl) dX1_end_28 ?_
      first | refine AW.aload_n X dX1_end_31 rfl rfl ?_ | refine AW.aloadN_n X dX1_end_31 rfl rfl ?_
      refine AW.callV_r X (c_X3_end hP hL0 hN hM hG hs) (ci := 2) (q := (RX3, TX3, 9)) (by first | assumption | exact hT _ _ rfl) rfl s_X1_240_2 (by omega) (Nat.le_of_ble_eq_true rfl) rfl rfl (Nat.le_of_ble_eq_true rfl) dX1_end_32 ?_
      exact AW.ireturn X E ⟨rfl, rfl, rfl, rfl, rfl⟩ dX1_end_35 
  · intro f7
    refine AW.iload_n X dX1_end_10 rfl rfl ?_
    refine AW.iconst X (v := 1) dX1_end_11 rfl ?_
    refine AW.icmp_ne X (tgt := 19) dX1_end_12 rfl ?_ ?_
    · intro t12
      exact absurd hw (fun hc => hc.elim f7 t12)
    · intro f12
      refine AW.iconst X (v := 1) dX1_end_15 rfl ?_
      refine AW.goto X (tgt := 20) dX1_end_16 rfl ?_
      refine AW.callS_r X (c_X1_there_ok (by decide)) s_X1_61 (by omega) (Nat.le_of_ble_eq_true rfl) rfl rfl (Nat.le_of_ble_eq_true rfl) dX1_end_20 ?_
      refine AW.iload_n X dX1_end_23 rfl rfl ?_
      refine AW.if_ne X (tgt := 36) dX1_end_24 rfl ?_ ?_
      · intro t24
        first | refine AW.aload_n X dX1_end_36 rfl rfl ?_ | refine AW.aloadN_n X dX1_end_36 rfl rfl ?_
        refine AW.getR X f_X1_23_0 (by first | assumption | exact hT _ _ rfl) (by first | assumption | exact hR _ _ _ rfl) dX1_end_37 ?_
        first | refine AW.aload_n X dX1_end_40 rfl rfl ?_ | refine AW.aloadN_n X dX1_end_40 rfl rfl ?_
        refine AW.bipush X (v := 24) dX1_end_41 rfl ?_
        refine AW.callV_r X (c_X3_at (to := 24) hP hL0 hN hM hG hs (by omega)) (ci := 2) (q := (RX3, TX3, 9)) (by first | assumption | exact hT _ _ rfl) rfl s_X1_236_2 (by omega) (Nat.le_of_ble_eq_true rfl) rfl rfl (Nat.le_of_ble_eq_true rfl) dX1_end_43 ?_
        refine AW.istore4 X dX1_end_46 ?_
        refine AW.bipush X (v := 24) dX1_end_48 rfl ?_
        refine AW.istore5 X dX1_end_50 ?_
        exact lp t24 24 (by omega) rfl
      · intro f24
        rw [if_pos f24] at E
        first | refine AW.aload_n X dX1_end_27 rfl rfl ?_ | refine AW.aloadN_n X dX1_end_27 rfl rfl ?_
        refine AW.getR X f_X1_23_0 (by first | assumption | exact hT _ _ rfl) (by first | assumption | exact hR _ _ _ rfl) dX1_end_28 ?_
        first | refine AW.aload_n X dX1_end_31 rfl rfl ?_ | refine AW.aloadN_n X dX1_end_31 rfl rfl ?_
        refine AW.callV_r X (c_X3_end hP hL0 hN hM hG hs) (ci := 2) (q := (RX3, TX3, 9)) (by first | assumption | exact hT _ _ rfl) rfl s_X1_240_2 (by omega) (Nat.le_of_ble_eq_true rfl) rfl rfl (Nat.le_of_ble_eq_true rfl) dX1_end_32 ?_
        exact AW.ireturn X E ⟨rfl, rfl, rfl, rfl, rfl⟩ dX1_end_35 
theorem c_X1_led {e h : Nat} (hX : XS pb T I R N) (he : e < nE N) (hh : h < 24) : MX1_led 9 0 [.ref 100, .int (nI e), .int (nI h)] T I R J (qR (some (.int (ledV N e h))) T I R J) noX := by
  have hX0 := hX
  obtain ⟨hT, hR, hP, hL, hN, hM, h20, hG⟩ := hX
  have hL0 := hL
  obtain ⟨l1, l2, l3, l4, l5, l6, l7, l8, l9, l10, l11, l12, l13, l14, l15, l16, l17⟩ := hL
  obtain ⟨⟨n1, n2, n3, n4, hnq, hne, hns, hnh⟩, -⟩ := id hN
  have pT0 := hP.T0
  have prQ := hP.rQ
  have prE := hP.rE
  have prS := hP.rS
  have prM := hP.rM
  have prW := hP.rW
  have prHd := hP.rHd
  have prHf := hP.rHf
  have prHt := hP.rHt
  have ptM := hP.tM
  have ptW := hP.tW
  have ptHd := hP.tHd
  have ptHf := hP.tHf
  have ptHt := hP.tHt
  have plQ := hP.lQ.tl
  have plE := hP.lE.tl
  have plS := hP.lS.tl
  obtain ⟨k1, k2, k3, k4, k5⟩ := hP.e he
  have hke := hN.2.2.1 e he
  have hkl : nat N 309 e < 4 := hke.2.1
  have hm26 := hM.2.1
  have hg2 : growF (nat N 309 e) = grw N e := by
    unfold growF grw
    rw [hke.1]
    simp only [show (1 : Int32) = nI 1 from rfl, nI_eq (show nat N 309 e < 2 ^ 31 by omega) (show 1 < 2 ^ 31 by omega)]
  unfold ledV
  refine AMet.of (by decide) (Nat.le_of_ble_eq_true rfl) (cats1 rfl) fun cx X E => ?_
  show AW _ _ _ (_ :: _ :: _ :: _ :: _ :: _ :: _ :: _ :: _ :: []) _ _ _ _ _
  have lp : ¬ glo N e h = 0 → ∀ k h' (v7 v8 : Value), h' + k = h + 1 → AW cx 0 41 [.ref 100, .int (nI e), .int (nI h), .ref (pb + 120 + e), .int (hb N e h').2, .int (hb N e h').1, .int (nI h'), v7, v8] [] T I R J := by
    intro hg0 k
    rw [if_neg hg0] at E
    induction k with
    | zero =>
      intro h' v7 v8 hk
      obtain rfl : h' = h + 1 := by omega
      refine AW.iload X dX1_led_41 rfl ?_
      refine AW.iload_n X dX1_led_43 rfl rfl ?_
      refine AW.icmp_gt X (tgt := 162) dX1_led_44 rfl ?_ ?_
      · intro t44
        refine AW.iload X dX1_led_162 rfl ?_
        exact AW.ireturn X E ⟨rfl, rfl, rfl, rfl, rfl⟩ dX1_led_164 
      · intro f44
        exact absurd (nI_lt (by omega) (by omega)) f44
    | succ k ih =>
      intro h' v7 v8 hk
      have inn : ∀ j m (v8 : Value), m + j = nM N → AW cx 0 50 [.ref 100, .int (nI e), .int (nI h), .ref (pb + 120 + e), .int (eatP N e h' m (hb N e h')).2, .int (eatP N e h' m (hb N e h')).1, .int (nI h'), .int (nI m), v8] [] T I R J := by
        intro j
        induction j with
        | zero =>
          intro m v8 hm
          obtain rfl : m = nM N := by omega
          refine AW.iload X dX1_led_50 rfl ?_
          first | refine AW.aload_n X dX1_led_52 rfl rfl ?_ | refine AW.aloadN_n X dX1_led_52 rfl rfl ?_
          refine AW.getR X f_X1_23_0 (by first | assumption | exact hT _ _ rfl) (by first | assumption | exact hR _ _ _ rfl) dX1_led_53 ?_
          refine AW.getI X f_X1_126_2 (by first | assumption | exact hT _ _ rfl) dX1_led_56 ?_
          rw [l15, hM.1]
          refine AW.icmp_ge X (tgt := 142) dX1_led_59 rfl ?_ ?_
          · intro t59
            refine AW.bipush X (v := 30) dX1_led_142 rfl ?_
            refine AW.iload X dX1_led_144 rfl ?_
            first | refine AW.aload_n X dX1_led_146 rfl rfl ?_ | refine AW.aloadN_n X dX1_led_146 rfl rfl ?_
            refine v_X1_227 X rfl (by omega) k1 hkl (Nat.le_of_ble_eq_true rfl) dX1_led_147 ?_
            refine AW.iadd X dX1_led_150 ?_
            refine AW.mmin X q1375 (by omega) (Nat.le_of_ble_eq_true rfl) dX1_led_151 ?_
            refine AW.istore5 X dX1_led_154 ?_
            refine AW.iinc6 X (v := _ + 1) dX1_led_156 rfl ?_
            refine AW.goto X (tgt := 41) dX1_led_159 rfl ?_
            rw [nI_1, hg2]
            exact ih (h' + 1) _ _ (by omega)
          · intro f59
            exact absurd (nI_le (by omega) (by omega)) f59
        | succ j ih2 =>
          intro m v8 hm
          obtain ⟨c1, c2, c3⟩ := l17 m (by omega)
          refine AW.iload X dX1_led_50 rfl ?_
          first | refine AW.aload_n X dX1_led_52 rfl rfl ?_ | refine AW.aloadN_n X dX1_led_52 rfl rfl ?_
          refine AW.getR X f_X1_23_0 (by first | assumption | exact hT _ _ rfl) (by first | assumption | exact hR _ _ _ rfl) dX1_led_53 ?_
          refine AW.getI X f_X1_126_2 (by first | assumption | exact hT _ _ rfl) dX1_led_56 ?_
          rw [l15, hM.1]
          refine AW.icmp_ge X (tgt := 142) dX1_led_59 rfl ?_ ?_
          · intro t59
            exact absurd t59 (nI_ge (by omega) (by omega))
          · intro f59
            first | refine AW.aload_n X dX1_led_62 rfl rfl ?_ | refine AW.aloadN_n X dX1_led_62 rfl rfl ?_
            refine AW.getR X f_X1_23_0 (by first | assumption | exact hT _ _ rfl) (by first | assumption | exact hR _ _ _ rfl) dX1_led_63 ?_
            refine AW.getR X f_X1_216_2 (by first | assumption | exact hT _ _ rfl) (by first | assumption | exact hR _ _ _ rfl) dX1_led_66 ?_
            refine AW.iload X dX1_led_69 rfl ?_
            refine AW.iald X (by first | assumption | exact hT _ _ rfl) (by repeat (first | with_reducible exact rfl | assumption | exact ix_l _ | apply ix_add | apply ix_mul)) (by omega) dX1_led_71 ?_
            rw [c1]
            refine AW.iload_n X dX1_led_72 rfl rfl ?_
            refine AW.icmp_ne X (tgt := 136) dX1_led_73 rfl ?_ ?_
            · intro t73
              refine AW.iinc7 X (v := _ + 1) dX1_led_136 rfl ?_
              refine AW.goto X (tgt := 50) dX1_led_139 rfl ?_
              rw [nI_1]
              first
                | (have hE := ih2 (m + 1) v8 (by omega); rw [eatP_n (fun hc => t73 hc.1)] at hE; exact hE)
                | (have hE := ih2 (m + 1) v8 (by omega); rw [eatP_n (fun hc => f88 hc.2)] at hE; exact hE)
                | (have hE := ih2 (m + 1) (.int 0) (by omega); rw [eatP_00 f73 t88 f104] at hE; first | (rw [if_neg (Int32.not_lt.mpr t125)] at hE; exact hE) | (rw [if_pos (Int32.not_le.mp f125)] at hE; exact hE))
                | (have hE := ih2 (m + 1) (.int (mx 0 ((eatP N e h' m (hb N e h')).1 - 5))) (by omega); rw [eatP_11 f73 t88 t104] at hE; first | (rw [if_neg (Int32.not_lt.mpr t125)] at hE; exact hE) | (rw [if_pos (Int32.not_le.mp f125)] at hE; exact hE))
            · intro f73
              first | refine AW.aload_n X dX1_led_76 rfl rfl ?_ | refine AW.aloadN_n X dX1_led_76 rfl rfl ?_
              refine AW.getR X f_X1_23_0 (by first | assumption | exact hT _ _ rfl) (by first | assumption | exact hR _ _ _ rfl) dX1_led_77 ?_
              refine AW.getR X f_X1_219_2 (by first | assumption | exact hT _ _ rfl) (by first | assumption | exact hR _ _ _ rfl) dX1_led_80 ?_
              refine AW.iload X dX1_led_83 rfl ?_
              refine AW.iald X (by first | assumption | exact hT _ _ rfl) (by repeat (first | with_reducible exact rfl | assumption | exact ix_l _ | apply ix_add | apply ix_mul)) (by omega) dX1_led_85 ?_
              rw [c2]
              refine AW.iload X dX1_led_86 rfl ?_
              refine AW.icmp_eq X (tgt := 94) dX1_led_88 rfl ?_ ?_
              · intro t88
                first | refine AW.aload_n X dX1_led_94 rfl rfl ?_ | refine AW.aloadN_n X dX1_led_94 rfl rfl ?_
                refine AW.getR X f_X1_23_0 (by first | assumption | exact hT _ _ rfl) (by first | assumption | exact hR _ _ _ rfl) dX1_led_95 ?_
                refine AW.getR X f_X1_148_2 (by first | assumption | exact hT _ _ rfl) (by first | assumption | exact hR _ _ _ rfl) dX1_led_98 ?_
                refine AW.iload X dX1_led_101 rfl ?_
                refine AW.iald X (by first | assumption | exact hT _ _ rfl) (by repeat (first | with_reducible exact rfl | assumption | exact ix_l _ | apply ix_add | apply ix_mul)) (by omega) dX1_led_103 ?_
                rw [c3]
                refine AW.if_ne X (tgt := 111) dX1_led_104 rfl ?_ ?_
                · intro t104
                  refine AW.iconst X (v := 0) dX1_led_111 rfl ?_
                  refine AW.iload X dX1_led_112 rfl ?_
                  refine AW.iconst X (v := 5) dX1_led_114 rfl ?_
                  refine AW.isub X dX1_led_115 ?_
                  refine AW.mmax X q1373 (by omega) (Nat.le_of_ble_eq_true rfl) dX1_led_116 ?_
                  refine AW.istore8 X dX1_led_119 ?_
                  refine AW.iload X dX1_led_121 rfl ?_
                  refine AW.iload X dX1_led_123 rfl ?_
                  refine AW.icmp_ge X (tgt := 132) dX1_led_125 rfl ?_ ?_
                  · intro t125
                    refine AW.iload X dX1_led_132 rfl ?_
                    refine AW.istore5 X dX1_led_134 ?_
                    refine AW.iinc7 X (v := _ + 1) dX1_led_136 rfl ?_
                    refine AW.goto X (tgt := 50) dX1_led_139 rfl ?_
                    rw [nI_1]
                    first
                      | (have hE := ih2 (m + 1) v8 (by omega); rw [eatP_n (fun hc => t73 hc.1)] at hE; exact hE)
                      | (have hE := ih2 (m + 1) v8 (by omega); rw [eatP_n (fun hc => f88 hc.2)] at hE; exact hE)
                      | (have hE := ih2 (m + 1) (.int 0) (by omega); rw [eatP_00 f73 t88 f104] at hE; first | (rw [if_neg (Int32.not_lt.mpr t125)] at hE; exact hE) | (rw [if_pos (Int32.not_le.mp f125)] at hE; exact hE))
                      | (have hE := ih2 (m + 1) (.int (mx 0 ((eatP N e h' m (hb N e h')).1 - 5))) (by omega); rw [eatP_11 f73 t88 t104] at hE; first | (rw [if_neg (Int32.not_lt.mpr t125)] at hE; exact hE) | (rw [if_pos (Int32.not_le.mp f125)] at hE; exact hE))
                  · intro f125
                    refine AW.iload X dX1_led_128 rfl ?_
                    refine AW.istore4 X dX1_led_130 ?_
                    refine AW.iload X dX1_led_132 rfl ?_
                    refine AW.istore5 X dX1_led_134 ?_
                    refine AW.iinc7 X (v := _ + 1) dX1_led_136 rfl ?_
                    refine AW.goto X (tgt := 50) dX1_led_139 rfl ?_
                    rw [nI_1]
                    first
                      | (have hE := ih2 (m + 1) v8 (by omega); rw [eatP_n (fun hc => t73 hc.1)] at hE; exact hE)
                      | (have hE := ih2 (m + 1) v8 (by omega); rw [eatP_n (fun hc => f88 hc.2)] at hE; exact hE)
                      | (have hE := ih2 (m + 1) (.int 0) (by omega); rw [eatP_00 f73 t88 f104] at hE; first | (rw [if_neg (Int32.not_lt.mpr t125)] at hE; exact hE) | (rw [if_pos (Int32.not_le.mp f125)] at hE; exact hE))
                      | (have hE := ih2 (m + 1) (.int (mx 0 ((eatP N e h' m (hb N e h')).1 - 5))) (by omega); rw [eatP_11 f73 t88 t104] at hE; first | (rw [if_neg (Int32.not_lt.mpr t125)] at hE; exact hE) | (rw [if_pos (Int32.not_le.mp f125)] at hE; exact hE))
                · intro f104
                  refine AW.iconst X (v := 0) dX1_led_107 rfl ?_
                  refine AW.goto X (tgt := 119) dX1_led_108 rfl ?_
                  refine AW.istore8 X dX1_led_119 ?_
                  refine AW.iload X dX1_led_121 rfl ?_
                  refine AW.iload X dX1_led_123 rfl ?_
                  refine AW.icmp_ge X (tgt := 132) dX1_led_125 rfl ?_ ?_
                  · intro t125
                    refine AW.iload X dX1_led_132 rfl ?_
                    refine AW.istore5 X dX1_led_134 ?_
                    refine AW.iinc7 X (v := _ + 1) dX1_led_136 rfl ?_
                    refine AW.goto X (tgt := 50) dX1_led_139 rfl ?_
                    rw [nI_1]
                    first
                      | (have hE := ih2 (m + 1) v8 (by omega); rw [eatP_n (fun hc => t73 hc.1)] at hE; exact hE)
                      | (have hE := ih2 (m + 1) v8 (by omega); rw [eatP_n (fun hc => f88 hc.2)] at hE; exact hE)
                      | (have hE := ih2 (m + 1) (.int 0) (by omega); rw [eatP_00 f73 t88 f104] at hE; first | (rw [if_neg (Int32.not_lt.mpr t125)] at hE; exact hE) | (rw [if_pos (Int32.not_le.mp f125)] at hE; exact hE))
                      | (have hE := ih2 (m + 1) (.int (mx 0 ((eatP N e h' m (hb N e h')).1 - 5))) (by omega); rw [eatP_11 f73 t88 t104] at hE; first | (rw [if_neg (Int32.not_lt.mpr t125)] at hE; exact hE) | (rw [if_pos (Int32.not_le.mp f125)] at hE; exact hE))
                  · intro f125
                    refine AW.iload X dX1_led_128 rfl ?_
                    refine AW.istore4 X dX1_led_130 ?_
                    refine AW.iload X dX1_led_132 rfl ?_
                    refine AW.istore5 X dX1_led_134 ?_
                    refine AW.iinc7 X (v := _ + 1) dX1_led_136 rfl ?_
                    refine AW.goto X (tgt := 50) dX1_led_139 rfl ?_
                    rw [nI_1]
                    first
                      | (have hE := ih2 (m + 1) v8 (by omega); rw [eatP_n (fun hc => t73 hc.1)] at hE; exact hE)
                      | (have hE := ih2 (m + 1) v8 (by omega); rw [eatP_n (fun hc => f88 hc.2)] at hE; exact hE)
                      | (have hE := ih2 (m + 1) (.int 0) (by omega); rw [eatP_00 f73 t88 f104] at hE; first | (rw [if_neg (Int32.not_lt.mpr t125)] at hE; exact hE) | (rw [if_pos (Int32.not_le.mp f125)] at hE; exact hE))
                      | (have hE := ih2 (m + 1) (.int (mx 0 ((eatP N e h' m (hb N e h')).1 - 5))) (by omega); rw [eatP_11 f73 t88 t104] at hE; first | (rw [if_neg (Int32.not_lt.mpr t125)] at hE; exact hE) | (rw [if_pos (Int32.not_le.mp f125)] at hE; exact hE))
              · intro f88
                refine AW.goto X (tgt := 136) dX1_led_91 rfl ?_
                refine AW.iinc7 X (v := _ + 1) dX1_led_136 rfl ?_
                refine AW.goto X (tgt := 50) dX1_led_139 rfl ?_
                rw [nI_1]
                first
                  | (have hE := ih2 (m + 1) v8 (by omega); rw [eatP_n (fun hc => t73 hc.1)] at hE; exact hE)
                  | (have hE := ih2 (m + 1) v8 (by omega); rw [eatP_n (fun hc => f88 hc.2)] at hE; exact hE)
                  | (have hE := ih2 (m + 1) (.int 0) (by omega); rw [eatP_00 f73 t88 f104] at hE; first | (rw [if_neg (Int32.not_lt.mpr t125)] at hE; exact hE) | (rw [if_pos (Int32.not_le.mp f125)] at hE; exact hE))
                  | (have hE := ih2 (m + 1) (.int (mx 0 ((eatP N e h' m (hb N e h')).1 - 5))) (by omega); rw [eatP_11 f73 t88 t104] at hE; first | (rw [if_neg (Int32.not_lt.mpr t125)] at hE; exact hE) | (rw [if_pos (Int32.not_le.mp f125)] at hE; exact hE))
      refine AW.iload X dX1_led_41 rfl ?_
      refine AW.iload_n X dX1_led_43 rfl rfl ?_
      refine AW.icmp_gt X (tgt := 162) dX1_led_44 rfl ?_ ?_
      · intro t44
        exact absurd t44 (nI_nlt (by omega) (by omega))
      · intro f44
        refine AW.iconst X (v := 0) dX1_led_47 rfl ?_
        refine AW.istore7 X dX1_led_48 ?_
        exact inn (nM N) 0 _ (by omega)
  first | refine AW.aload_n X dX1_led_0 rfl rfl ?_ | refine AW.aloadN_n X dX1_led_0 rfl rfl ?_
  refine AW.iload_n X dX1_led_1 rfl rfl ?_
  refine AW.callV_r X (c_X1_eelAt_ok hX0 he) (ci := 0) (q := (RX1, TX1, 14)) (by first | assumption | exact hT _ _ rfl) rfl s_X1_176_0 (by omega) (Nat.le_of_ble_eq_true rfl) rfl rfl (Nat.le_of_ble_eq_true rfl) dX1_led_2 ?_
  first | refine AW.astore3 X dX1_led_5 ?_ | refine AW.astoreN3 X dX1_led_5 ?_
  refine AW.iload_n X dX1_led_6 rfl rfl ?_
  refine AW.callS_r X (c_X1_hourAt_ok ⟨nI_pos' (by omega), nI_le (b := 23) (by omega) (by omega)⟩) s_X1_201 (by omega) (Nat.le_of_ble_eq_true rfl) rfl rfl (Nat.le_of_ble_eq_true rfl) dX1_led_7 ?_
  first | refine AW.aload_n X dX1_led_10 rfl rfl ?_ | refine AW.aloadN_n X dX1_led_10 rfl rfl ?_
  refine AW.getR X f_X1_23_0 (by first | assumption | exact hT _ _ rfl) (by first | assumption | exact hR _ _ _ rfl) dX1_led_11 ?_
  refine AW.getR X f_X1_213_2 (by first | assumption | exact hT _ _ rfl) (by first | assumption | exact hR _ _ _ rfl) dX1_led_14 ?_
  refine AW.bipush X (v := 24) dX1_led_17 rfl ?_
  refine AW.iload_n X dX1_led_19 rfl rfl ?_
  refine AW.imul X dX1_led_20 ?_
  refine AW.iload_n X dX1_led_21 rfl rfl ?_
  refine AW.iadd X dX1_led_22 ?_
  refine AW.iald X (j := 24 * e + h) (by first | assumption | exact hT _ _ rfl) (by repeat (first | with_reducible exact rfl | assumption | exact ix_l _ | apply ix_add | apply ix_mul)) (by omega) dX1_led_23 ?_
  rw [(hG.1 e h he hh).2]
  refine AW.if_ne X (tgt := 29) dX1_led_24 rfl ?_ ?_
  · intro t24
    refine AW.iconst X (v := -1) dX1_led_29 rfl ?_
    refine AW.istore4 X dX1_led_30 ?_
    first | refine AW.aload_n X dX1_led_32 rfl rfl ?_ | refine AW.aloadN_n X dX1_led_32 rfl rfl ?_
    refine AW.getK X fk_X1_186 (by first | assumption | omega) (by first | assumption | exact hT _ _ rfl) dX1_led_33 ?_
    rw [k5]
    refine AW.istore5 X dX1_led_36 ?_
    refine AW.iconst X (v := 0) dX1_led_38 rfl ?_
    refine AW.istore6 X dX1_led_39 ?_
    exact lp t24 (h + 1) 0 _ _ (by omega)
  · intro f24
    rw [if_pos f24] at E
    refine AW.iconst X (v := -1) dX1_led_27 rfl ?_
    exact AW.ireturn X E ⟨rfl, rfl, rfl, rfl, rfl⟩ dX1_led_28 
theorem c_X1_quay_bad {e w : Int32} (hX : XS pb T I R N) (h1 : 100 ≤ B) (h0 : (T B).1 = 0) (hb : ¬ ((0 ≤ e ∧ e < nI (nQ N)) ∧ (0 ≤ w ∧ w ≤ 4))) : MX1_quay 9 2 [.ref 100, .int e, .int w] T I R J noQ (qX 22 B T I R J) := by
  have hX0 := hX
  obtain ⟨hT, hR, hP, hL, hN, hM, h20, hG⟩ := hX
  have hL0 := hL
  obtain ⟨l1, l2, l3, l4, l5, l6, l7, l8, l9, l10, l11, l12, l13, l14, l15, l16, l17⟩ := hL
  obtain ⟨⟨n1, n2, n3, n4, hnq, hne, hns, hnh⟩, -⟩ := id hN
  have pT0 := hP.T0
  have prQ := hP.rQ
  have prE := hP.rE
  have prS := hP.rS
  have prM := hP.rM
  have prW := hP.rW
  have prHd := hP.rHd
  have prHf := hP.rHf
  have prHt := hP.rHt
  have ptM := hP.tM
  have ptW := hP.tW
  have ptHd := hP.tHd
  have ptHf := hP.tHf
  have ptHt := hP.tHt
  have plQ := hP.lQ.tl
  have plE := hP.lE.tl
  have plS := hP.lS.tl
  refine AMet.of (by decide) (Nat.le_of_ble_eq_true rfl) (cats1 rfl) fun cx X E => ?_
  show AW _ _ _ (_ :: _ :: _ :: _ :: _ :: _ :: []) _ _ _ _ _
  by_cases hi : 0 ≤ e ∧ e < nI (nQ N)
  · obtain ⟨k, hk, rfl⟩ : ∃ k, k < nQ N ∧ e = nI k := inN hi (by omega)
    first | refine AW.aload_n X dX1_quay_0 rfl rfl ?_ | refine AW.aloadN_n X dX1_quay_0 rfl rfl ?_
    refine AW.iload_n X dX1_quay_1 rfl rfl ?_
    refine AW.callV_r X (c_X1_quayAt_ok hX0 hk) (ci := 0) (q := (RX1, TX1, 14)) (by first | assumption | exact hT _ _ rfl) rfl s_X1_158_0 (by omega) (Nat.le_of_ble_eq_true rfl) rfl rfl (Nat.le_of_ble_eq_true rfl) dX1_quay_2 ?_
    first | refine AW.astore3 X dX1_quay_5 ?_ | refine AW.astoreN3 X dX1_quay_5 ?_
    refine AW.iload_n X dX1_quay_6 rfl rfl ?_
    refine AW.iconst X (v := 0) dX1_quay_7 rfl ?_
    refine AW.iconst X (v := 4) dX1_quay_8 rfl ?_
    refine AW.callS_r X (c_X1_within w 0 4) s_X1_57 (by omega) (Nat.le_of_ble_eq_true rfl) rfl rfl (Nat.le_of_ble_eq_true rfl) dX1_quay_9 ?_
    rw [bI_f (fun hh => hb ⟨hi, hh⟩)]
    exact AW.callS (b := 0) (bc := 2) X (c_X1_there_bad h1 h0) s_X1_61 (by omega) (Nat.le_of_ble_eq_true rfl) rfl rfl (Nat.le_of_ble_eq_true rfl) dX1_quay_12 (fun _ _ _ _ _ h => h.elim) (AX.thru X E (by omega) rfl (fun _ h => nomatch h))
  · skip
    first | refine AW.aload_n X dX1_quay_0 rfl rfl ?_ | refine AW.aloadN_n X dX1_quay_0 rfl rfl ?_
    refine AW.iload_n X dX1_quay_1 rfl rfl ?_
    exact AW.callV (b := 0) (bc := 2) X (c_X1_quayAt_bad hX0 h1 h0 hi) (ci := 0) (q := (RX1, TX1, 14)) (by first | assumption | exact hT _ _ rfl) rfl s_X1_158_0 (by omega) (Nat.le_of_ble_eq_true rfl) rfl rfl (Nat.le_of_ble_eq_true rfl) dX1_quay_2 (fun _ _ _ _ _ h => h.elim) (AX.thru X E (by omega) rfl (fun _ h => nomatch h))
theorem c_X1_eel_bad {e w : Int32} (hX : XS pb T I R N) (h1 : 100 ≤ B) (h0 : (T B).1 = 0) (hb : ¬ ((0 ≤ e ∧ e < nI (nE N)) ∧ (0 ≤ w ∧ w ≤ 4))) : MX1_eel 9 2 [.ref 100, .int e, .int w] T I R J noQ (qX 22 B T I R J) := by
  have hX0 := hX
  obtain ⟨hT, hR, hP, hL, hN, hM, h20, hG⟩ := hX
  have hL0 := hL
  obtain ⟨l1, l2, l3, l4, l5, l6, l7, l8, l9, l10, l11, l12, l13, l14, l15, l16, l17⟩ := hL
  obtain ⟨⟨n1, n2, n3, n4, hnq, hne, hns, hnh⟩, -⟩ := id hN
  have pT0 := hP.T0
  have prQ := hP.rQ
  have prE := hP.rE
  have prS := hP.rS
  have prM := hP.rM
  have prW := hP.rW
  have prHd := hP.rHd
  have prHf := hP.rHf
  have prHt := hP.rHt
  have ptM := hP.tM
  have ptW := hP.tW
  have ptHd := hP.tHd
  have ptHf := hP.tHf
  have ptHt := hP.tHt
  have plQ := hP.lQ.tl
  have plE := hP.lE.tl
  have plS := hP.lS.tl
  refine AMet.of (by decide) (Nat.le_of_ble_eq_true rfl) (cats1 rfl) fun cx X E => ?_
  show AW _ _ _ (_ :: _ :: _ :: _ :: []) _ _ _ _ _
  by_cases hi : 0 ≤ e ∧ e < nI (nE N)
  · obtain ⟨k, hk, rfl⟩ : ∃ k, k < nE N ∧ e = nI k := inN hi (by omega)
    first | refine AW.aload_n X dX1_eel_0 rfl rfl ?_ | refine AW.aloadN_n X dX1_eel_0 rfl rfl ?_
    refine AW.iload_n X dX1_eel_1 rfl rfl ?_
    refine AW.callV_r X (c_X1_eelAt_ok hX0 hk) (ci := 0) (q := (RX1, TX1, 14)) (by first | assumption | exact hT _ _ rfl) rfl s_X1_176_0 (by omega) (Nat.le_of_ble_eq_true rfl) rfl rfl (Nat.le_of_ble_eq_true rfl) dX1_eel_2 ?_
    first | refine AW.astore3 X dX1_eel_5 ?_ | refine AW.astoreN3 X dX1_eel_5 ?_
    refine AW.iload_n X dX1_eel_6 rfl rfl ?_
    refine AW.iconst X (v := 0) dX1_eel_7 rfl ?_
    refine AW.iconst X (v := 4) dX1_eel_8 rfl ?_
    refine AW.callS_r X (c_X1_within w 0 4) s_X1_57 (by omega) (Nat.le_of_ble_eq_true rfl) rfl rfl (Nat.le_of_ble_eq_true rfl) dX1_eel_9 ?_
    rw [bI_f (fun hh => hb ⟨hi, hh⟩)]
    exact AW.callS (b := 0) (bc := 2) X (c_X1_there_bad h1 h0) s_X1_61 (by omega) (Nat.le_of_ble_eq_true rfl) rfl rfl (Nat.le_of_ble_eq_true rfl) dX1_eel_12 (fun _ _ _ _ _ h => h.elim) (AX.thru X E (by omega) rfl (fun _ h => nomatch h))
  · skip
    first | refine AW.aload_n X dX1_eel_0 rfl rfl ?_ | refine AW.aloadN_n X dX1_eel_0 rfl rfl ?_
    refine AW.iload_n X dX1_eel_1 rfl rfl ?_
    exact AW.callV (b := 0) (bc := 2) X (c_X1_eelAt_bad hX0 h1 h0 hi) (ci := 0) (q := (RX1, TX1, 14)) (by first | assumption | exact hT _ _ rfl) rfl s_X1_176_0 (by omega) (Nat.le_of_ble_eq_true rfl) rfl rfl (Nat.le_of_ble_eq_true rfl) dX1_eel_2 (fun _ _ _ _ _ h => h.elim) (AX.thru X E (by omega) rfl (fun _ h => nomatch h))
theorem c_X1_ship_bad {e w : Int32} (hX : XS pb T I R N) (h1 : 100 ≤ B) (h0 : (T B).1 = 0) (hb : ¬ ((0 ≤ e ∧ e < nI (nS N)) ∧ (0 ≤ w ∧ w ≤ 3))) : MX1_ship 9 2 [.ref 100, .int e, .int w] T I R J noQ (qX 22 B T I R J) := by
  have hX0 := hX
  obtain ⟨hT, hR, hP, hL, hN, hM, h20, hG⟩ := hX
  have hL0 := hL
  obtain ⟨l1, l2, l3, l4, l5, l6, l7, l8, l9, l10, l11, l12, l13, l14, l15, l16, l17⟩ := hL
  obtain ⟨⟨n1, n2, n3, n4, hnq, hne, hns, hnh⟩, -⟩ := id hN
  have pT0 := hP.T0
  have prQ := hP.rQ
  have prE := hP.rE
  have prS := hP.rS
  have prM := hP.rM
  have prW := hP.rW
  have prHd := hP.rHd
  have prHf := hP.rHf
  have prHt := hP.rHt
  have ptM := hP.tM
  have ptW := hP.tW
  have ptHd := hP.tHd
  have ptHf := hP.tHf
  have ptHt := hP.tHt
  have plQ := hP.lQ.tl
  have plE := hP.lE.tl
  have plS := hP.lS.tl
  refine AMet.of (by decide) (Nat.le_of_ble_eq_true rfl) (cats1 rfl) fun cx X E => ?_
  show AW _ _ _ (_ :: _ :: _ :: _ :: []) _ _ _ _ _
  by_cases hi : 0 ≤ e ∧ e < nI (nS N)
  · obtain ⟨k, hk, rfl⟩ : ∃ k, k < nS N ∧ e = nI k := inN hi (by omega)
    first | refine AW.aload_n X dX1_ship_0 rfl rfl ?_ | refine AW.aloadN_n X dX1_ship_0 rfl rfl ?_
    refine AW.iload_n X dX1_ship_1 rfl rfl ?_
    refine AW.callV_r X (c_X1_shipAt_ok hX0 hk) (ci := 0) (q := (RX1, TX1, 14)) (by first | assumption | exact hT _ _ rfl) rfl s_X1_189_0 (by omega) (Nat.le_of_ble_eq_true rfl) rfl rfl (Nat.le_of_ble_eq_true rfl) dX1_ship_2 ?_
    first | refine AW.astore3 X dX1_ship_5 ?_ | refine AW.astoreN3 X dX1_ship_5 ?_
    refine AW.iload_n X dX1_ship_6 rfl rfl ?_
    refine AW.iconst X (v := 0) dX1_ship_7 rfl ?_
    refine AW.iconst X (v := 3) dX1_ship_8 rfl ?_
    refine AW.callS_r X (c_X1_within w 0 3) s_X1_57 (by omega) (Nat.le_of_ble_eq_true rfl) rfl rfl (Nat.le_of_ble_eq_true rfl) dX1_ship_9 ?_
    rw [bI_f (fun hh => hb ⟨hi, hh⟩)]
    exact AW.callS (b := 0) (bc := 2) X (c_X1_there_bad h1 h0) s_X1_61 (by omega) (Nat.le_of_ble_eq_true rfl) rfl rfl (Nat.le_of_ble_eq_true rfl) dX1_ship_12 (fun _ _ _ _ _ h => h.elim) (AX.thru X E (by omega) rfl (fun _ h => nomatch h))
  · skip
    first | refine AW.aload_n X dX1_ship_0 rfl rfl ?_ | refine AW.aloadN_n X dX1_ship_0 rfl rfl ?_
    refine AW.iload_n X dX1_ship_1 rfl rfl ?_
    exact AW.callV (b := 0) (bc := 2) X (c_X1_shipAt_bad hX0 h1 h0 hi) (ci := 0) (q := (RX1, TX1, 14)) (by first | assumption | exact hT _ _ rfl) rfl s_X1_189_0 (by omega) (Nat.le_of_ble_eq_true rfl) rfl rfl (Nat.le_of_ble_eq_true rfl) dX1_ship_2 (fun _ _ _ _ _ h => h.elim) (AX.thru X E (by omega) rfl (fun _ h => nomatch h))
theorem c_X1_at_bad {e w : Int32} (hX : XS pb T I R N) (h1 : 100 ≤ B) (h0 : (T B).1 = 0) (hb : ¬ ((0 ≤ e ∧ e < nI (nS N)) ∧ (0 ≤ w ∧ w ≤ 24))) : MX1_at 9 2 [.ref 100, .int e, .int w] T I R J noQ (qX 22 B T I R J) := by
  have hX0 := hX
  obtain ⟨hT, hR, hP, hL, hN, hM, h20, hG⟩ := hX
  have hL0 := hL
  obtain ⟨l1, l2, l3, l4, l5, l6, l7, l8, l9, l10, l11, l12, l13, l14, l15, l16, l17⟩ := hL
  obtain ⟨⟨n1, n2, n3, n4, hnq, hne, hns, hnh⟩, -⟩ := id hN
  have pT0 := hP.T0
  have prQ := hP.rQ
  have prE := hP.rE
  have prS := hP.rS
  have prM := hP.rM
  have prW := hP.rW
  have prHd := hP.rHd
  have prHf := hP.rHf
  have prHt := hP.rHt
  have ptM := hP.tM
  have ptW := hP.tW
  have ptHd := hP.tHd
  have ptHf := hP.tHf
  have ptHt := hP.tHt
  have plQ := hP.lQ.tl
  have plE := hP.lE.tl
  have plS := hP.lS.tl
  refine AMet.of (by decide) (Nat.le_of_ble_eq_true rfl) (cats1 rfl) fun cx X E => ?_
  show AW _ _ _ (_ :: _ :: _ :: _ :: []) _ _ _ _ _
  by_cases hi : 0 ≤ e ∧ e < nI (nS N)
  · obtain ⟨k, hk, rfl⟩ : ∃ k, k < nS N ∧ e = nI k := inN hi (by omega)
    first | refine AW.aload_n X dX1_at_0 rfl rfl ?_ | refine AW.aloadN_n X dX1_at_0 rfl rfl ?_
    refine AW.iload_n X dX1_at_1 rfl rfl ?_
    refine AW.callV_r X (c_X1_shipAt_ok hX0 hk) (ci := 0) (q := (RX1, TX1, 14)) (by first | assumption | exact hT _ _ rfl) rfl s_X1_189_0 (by omega) (Nat.le_of_ble_eq_true rfl) rfl rfl (Nat.le_of_ble_eq_true rfl) dX1_at_2 ?_
    first | refine AW.astore3 X dX1_at_5 ?_ | refine AW.astoreN3 X dX1_at_5 ?_
    refine AW.iload_n X dX1_at_6 rfl rfl ?_
    refine AW.iconst X (v := 0) dX1_at_7 rfl ?_
    refine AW.bipush X (v := 24) dX1_at_8 rfl ?_
    refine AW.callS_r X (c_X1_within w 0 24) s_X1_57 (by omega) (Nat.le_of_ble_eq_true rfl) rfl rfl (Nat.le_of_ble_eq_true rfl) dX1_at_10 ?_
    rw [bI_f (fun hh => hb ⟨hi, hh⟩)]
    exact AW.callS (b := 0) (bc := 2) X (c_X1_there_bad h1 h0) s_X1_61 (by omega) (Nat.le_of_ble_eq_true rfl) rfl rfl (Nat.le_of_ble_eq_true rfl) dX1_at_13 (fun _ _ _ _ _ h => h.elim) (AX.thru X E (by omega) rfl (fun _ h => nomatch h))
  · skip
    first | refine AW.aload_n X dX1_at_0 rfl rfl ?_ | refine AW.aloadN_n X dX1_at_0 rfl rfl ?_
    refine AW.iload_n X dX1_at_1 rfl rfl ?_
    exact AW.callV (b := 0) (bc := 2) X (c_X1_shipAt_bad hX0 h1 h0 hi) (ci := 0) (q := (RX1, TX1, 14)) (by first | assumption | exact hT _ _ rfl) rfl s_X1_189_0 (by omega) (Nat.le_of_ble_eq_true rfl) rfl rfl (Nat.le_of_ble_eq_true rfl) dX1_at_2 (fun _ _ _ _ _ h => h.elim) (AX.thru X E (by omega) rfl (fun _ h => nomatch h))
theorem c_X1_end_bad {e w : Int32} (hX : XS pb T I R N) (h1 : 100 ≤ B) (h0 : (T B).1 = 0) (hb : ¬ ((0 ≤ e ∧ e < nI (nS N)) ∧ (w = 0 ∨ w = 1))) : MX1_end 10 2 [.ref 100, .int e, .int w] T I R J noQ (qX 22 B T I R J) := by
  have hX0 := hX
  obtain ⟨hT, hR, hP, hL, hN, hM, h20, hG⟩ := hX
  have hL0 := hL
  obtain ⟨l1, l2, l3, l4, l5, l6, l7, l8, l9, l10, l11, l12, l13, l14, l15, l16, l17⟩ := hL
  obtain ⟨⟨n1, n2, n3, n4, hnq, hne, hns, hnh⟩, -⟩ := id hN
  have pT0 := hP.T0
  have prQ := hP.rQ
  have prE := hP.rE
  have prS := hP.rS
  have prM := hP.rM
  have prW := hP.rW
  have prHd := hP.rHd
  have prHf := hP.rHf
  have prHt := hP.rHt
  have ptM := hP.tM
  have ptW := hP.tW
  have ptHd := hP.tHd
  have ptHf := hP.tHf
  have ptHt := hP.tHt
  have plQ := hP.lQ.tl
  have plE := hP.lE.tl
  have plS := hP.lS.tl
  refine AMet.of (by decide) (Nat.le_of_ble_eq_true rfl) (cats1 rfl) fun cx X E => ?_
  show AW _ _ _ (_ :: _ :: _ :: _ :: _ :: _ :: []) _ _ _ _ _
  by_cases hi : 0 ≤ e ∧ e < nI (nS N)
  · obtain ⟨k, hk, rfl⟩ : ∃ k, k < nS N ∧ e = nI k := inN hi (by omega)
    first | refine AW.aload_n X dX1_end_0 rfl rfl ?_ | refine AW.aloadN_n X dX1_end_0 rfl rfl ?_
    refine AW.iload_n X dX1_end_1 rfl rfl ?_
    refine AW.callV_r X (c_X1_shipAt_ok hX0 hk) (ci := 0) (q := (RX1, TX1, 14)) (by first | assumption | exact hT _ _ rfl) rfl s_X1_189_0 (by omega) (Nat.le_of_ble_eq_true rfl) rfl rfl (Nat.le_of_ble_eq_true rfl) dX1_end_2 ?_
    first | refine AW.astore3 X dX1_end_5 ?_ | refine AW.astoreN3 X dX1_end_5 ?_
    refine AW.iload_n X dX1_end_6 rfl rfl ?_
    refine AW.if_eq X (tgt := 15) dX1_end_7 rfl ?_ ?_
    · intro t7
      exact absurd ⟨hi, Or.inl t7⟩ hb
    · intro f7
      refine AW.iload_n X dX1_end_10 rfl rfl ?_
      refine AW.iconst X (v := 1) dX1_end_11 rfl ?_
      refine AW.icmp_ne X (tgt := 19) dX1_end_12 rfl ?_ ?_
      · intro t12
        refine AW.iconst X (v := 0) dX1_end_19 rfl ?_
        exact AW.callS (b := 0) (bc := 2) X (c_X1_there_bad h1 h0) s_X1_61 (by omega) (Nat.le_of_ble_eq_true rfl) rfl rfl (Nat.le_of_ble_eq_true rfl) dX1_end_20 (fun _ _ _ _ _ h => h.elim) (AX.thru X E (by omega) rfl (fun _ h => nomatch h))
      · intro f12
        exact absurd ⟨hi, Or.inr f12⟩ hb
  · skip
    first | refine AW.aload_n X dX1_end_0 rfl rfl ?_ | refine AW.aloadN_n X dX1_end_0 rfl rfl ?_
    refine AW.iload_n X dX1_end_1 rfl rfl ?_
    exact AW.callV (b := 0) (bc := 2) X (c_X1_shipAt_bad hX0 h1 h0 hi) (ci := 0) (q := (RX1, TX1, 14)) (by first | assumption | exact hT _ _ rfl) rfl s_X1_189_0 (by omega) (Nat.le_of_ble_eq_true rfl) rfl rfl (Nat.le_of_ble_eq_true rfl) dX1_end_2 (fun _ _ _ _ _ h => h.elim) (AX.thru X E (by omega) rfl (fun _ h => nomatch h))
end XR2
