/-! 07x: rivals, leaves (written by src/gen07x.py and src/walk.py) -/
set_option maxRecDepth 100000
abbrev hisP (N : KI) (c : Nat) (o : Int32) : Prop := c = 0 ∨ N 310 (c - 1) = o
/-- gains of an owner, of the first n ships -/
def gnS (N N1 : KI) (ow : Int32) (g0 : Int32) : Nat → Int32
  | 0 => g0
  | s + 1 => if N 306 (posAt N1 (Lig N1) (hRow N1) s 24) = ow then gnS N N1 ow g0 s + 10 else gnS N N1 ow g0 s
section RV
variable {pb B : Nat} {T : KT} {I : KI} {R : KR} {J : KJ} {N N1 : KI}
theorem c_X1_isHis {c : Nat} {o : Int32} (hX : XS pb T I R N) (hc : c ≤ nE N) : MX1_isHis 3 0 [.ref 100, .int (nI c), .int o] T I R J (qR (some (.int (bI (hisP N c o)))) T I R J) noX := by
  have hX0 := hX
  obtain ⟨hT, hR, hP, hL, hN, hM, h20, hG⟩ := hX
  have hL0 := hL
  obtain ⟨l1, l2, l3, l4, l5, l6, l7, l8, l9, l10, l11, l12, l13, l14, l15, l16, l17⟩ := hL
  obtain ⟨⟨n1, n2, n3, n4, hnq, hne, hns, hnh⟩, -⟩ := id hN
  have pT0 := hP.T0
  have prQ := hP.rQ
  have prE := hP.rE
  have prS := hP.rS
  have prM := hP.rM
  have prW := hP.rW
  have prHd := hP.rHd
  have prHf := hP.rHf
  have prHt := hP.rHt
  have ptM := hP.tM
  have ptW := hP.tW
  have ptHd := hP.tHd
  have ptHf := hP.tHf
  have ptHt := hP.tHt
  have plQ := hP.lQ.tl
  have plE := hP.lE.tl
  have plS := hP.lS.tl
  refine AMet.of (by decide) (Nat.le_of_ble_eq_true rfl) (cats1 rfl) fun cx X E => ?_
  show AW _ _ _ (_ :: _ :: _ :: []) _ _ _ _ _
  by_cases h0 : c = 0
  · subst h0
    rw [bI_t (show hisP N 0 o from Or.inl rfl)] at E
    refine AW.iload_n X dX1_isHis_0 rfl rfl ?_
    refine AW.if_eq X (tgt := 30) dX1_isHis_1 rfl ?_ ?_
    · intro t1
      refine AW.iconst X (v := 1) dX1_isHis_30 rfl ?_
      refine AW.goto X (tgt := 35) dX1_isHis_31 rfl ?_
      exact AW.ireturn X E ⟨rfl, rfl, rfl, rfl, rfl⟩ dX1_isHis_35 
    · intro f1
      exact absurd rfl f1
  · have hcE : c - 1 < nE N := by omega
    obtain ⟨k1, k2, -⟩ := hP.e hcE
    have hke := (hN.2.2.1 (c - 1) hcE).2.1
    refine AW.iload_n X dX1_isHis_0 rfl rfl ?_
    refine AW.if_eq X (tgt := 30) dX1_isHis_1 rfl ?_ ?_
    · intro t1
      exact absurd t1 (nI_ne0 (by omega) (by omega))
    · intro f1
      first | refine AW.aload_n X dX1_isHis_4 rfl rfl ?_ | refine AW.aloadN_n X dX1_isHis_4 rfl rfl ?_
      refine AW.getR X f_X1_23_0 (by first | assumption | exact hT _ _ rfl) (by first | assumption | exact hR _ _ _ rfl) dX1_isHis_5 ?_
      refine AW.getR X f_X1_65_2 (by first | assumption | exact hT _ _ rfl) (by first | assumption | exact hR _ _ _ rfl) dX1_isHis_8 ?_
      refine AW.getR X f_X1_87_3 (by first | assumption | exact hT _ _ rfl) (by first | assumption | exact hR _ _ _ rfl) dX1_isHis_11 ?_
      refine AW.iload_n X dX1_isHis_14 rfl rfl ?_
      refine AW.iconst X (v := 1) dX1_isHis_15 rfl ?_
      refine AW.isub X dX1_isHis_16 ?_
      rw [show nI c - 1 = nI (c - 1) from nI_sub (c := 1) (by omega)]
      refine AW.callV_r X (hP.lE.get hcE (by omega)) (ci := 19) (q := (RJ2, TJ2, 3)) (by first | assumption | exact hT _ _ rfl) rfl s_X1_81_19 (by omega) (Nat.le_of_ble_eq_true rfl) rfl rfl (Nat.le_of_ble_eq_true rfl) dX1_isHis_17 ?_
      refine AW.castK X (idx := 90) ck_Eel (by first | assumption | omega) (by first | assumption | exact hT _ _ rfl) q1256 dX1_isHis_20 ?_
      refine AW.getK X fk_X1_181 (by first | assumption | omega) (by first | assumption | exact hT _ _ rfl) dX1_isHis_23 ?_
      rw [k2]
      refine AW.iload_n X dX1_isHis_26 rfl rfl ?_
      refine AW.icmp_ne X (tgt := 34) dX1_isHis_27 rfl ?_ ?_
      · intro t27
        rw [bI_f (show ¬ hisP N c o from fun z => z.elim h0 t27)] at E
        refine AW.iconst X (v := 0) dX1_isHis_34 rfl ?_
        exact AW.ireturn X E ⟨rfl, rfl, rfl, rfl, rfl⟩ dX1_isHis_35 
      · intro f27
        rw [bI_t (show hisP N c o from Or.inr f27)] at E
        refine AW.iconst X (v := 1) dX1_isHis_30 rfl ?_
        refine AW.goto X (tgt := 35) dX1_isHis_31 rfl ?_
        exact AW.ireturn X E ⟨rfl, rfl, rfl, rfl, rfl⟩ dX1_isHis_35 
theorem c_X1_gainOf {c : Nat} {ow : Int32} (hX : XS pb T I R N) (ht : TS pb T I R N1) (hG1 : LitP N1 105 I) (hv : ∀ a, 304 ≤ a → a ≤ 322 → N1 a = N a) (hc : c ≤ nE N) : MX1_gainOf 9 0 [.ref 100, .int ow, .int (nI c)] T I R J (qR (some (.int (gnS N N1 ow (if c = 0 then 0 else -N 304 4) (nS N)))) T I R J) noX := by
  have hX0 := hX
  obtain ⟨hT, hR, hP, hL, hN, hM, h20, hG⟩ := hX
  have hL0 := hL
  obtain ⟨l1, l2, l3, l4, l5, l6, l7, l8, l9, l10, l11, l12, l13, l14, l15, l16, l17⟩ := hL
  obtain ⟨⟨n1, n2, n3, n4, hnq, hne, hns, hnh⟩, -⟩ := id hN
  have pT0 := hP.T0
  have prQ := hP.rQ
  have prE := hP.rE
  have prS := hP.rS
  have prM := hP.rM
  have prW := hP.rW
  have prHd := hP.rHd
  have prHf := hP.rHf
  have prHt := hP.rHt
  have ptM := hP.tM
  have ptW := hP.tW
  have ptHd := hP.tHd
  have ptHf := hP.tHf
  have ptHt := hP.tHt
  have plQ := hP.lQ.tl
  have plE := hP.lE.tl
  have plS := hP.lS.tl
  have hnS : nS N1 = nS N := nat_eq (hv 304 (by omega) (by omega))
  have hnQ : nQ N1 = nQ N := nat_eq (hv 304 (by omega) (by omega))
  refine AMet.of (by decide) (Nat.le_of_ble_eq_true rfl) (cats1 rfl) fun cx X E => ?_
  show AW _ _ _ (_ :: _ :: _ :: _ :: _ :: _ :: []) _ _ _ _ _
  have lp : ∀ j s (v5 : Value), s + j = nS N → AW cx 0 23 [.ref 100, .int ow, .int (nI c), .int (gnS N N1 ow (if c = 0 then 0 else -N 304 4) s), .int (nI s), v5] [] T I R J := by
    intro j
    induction j with
    | zero =>
      intro s v5 hj
      obtain rfl : s = nS N := by omega
      refine AW.iload X dX1_gainOf_23 rfl ?_
      first | refine AW.aload_n X dX1_gainOf_25 rfl rfl ?_ | refine AW.aloadN_n X dX1_gainOf_25 rfl rfl ?_
      refine AW.getR X f_X1_23_0 (by first | assumption | exact hT _ _ rfl) (by first | assumption | exact hR _ _ _ rfl) dX1_gainOf_26 ?_
      refine AW.getR X f_X1_65_2 (by first | assumption | exact hT _ _ rfl) (by first | assumption | exact hR _ _ _ rfl) dX1_gainOf_29 ?_
      refine AW.getR X f_X1_92_3 (by first | assumption | exact hT _ _ rfl) (by first | assumption | exact hR _ _ _ rfl) dX1_gainOf_32 ?_
      refine AW.callV_r X (hP.lS.size) (ci := 19) (q := (RJ2, TJ2, 3)) (by first | assumption | exact hT _ _ rfl) rfl s_X1_75_19 (by omega) (Nat.le_of_ble_eq_true rfl) rfl rfl (Nat.le_of_ble_eq_true rfl) dX1_gainOf_35 ?_
      refine AW.icmp_ge X (tgt := 104) dX1_gainOf_38 rfl ?_ ?_
      · intro t38
        refine AW.iload_n X dX1_gainOf_104 rfl rfl ?_
        exact AW.ireturn X E ⟨rfl, rfl, rfl, rfl, rfl⟩ dX1_gainOf_105 
      · intro f38
        exact absurd (nI_le (by omega) (by omega)) f38
    | succ j ih =>
      intro s v5 hj
      obtain ⟨k1, -⟩ := hP.s (show s < nS N by omega)
      have hks := (hN.2.2.2.1 s (by omega)).2.1
      have hp := pos_lt (L := Lig N1) (Hg := hRow N1) ht.2.2.2.2.1 (show s < nS N1 by omega) (24 - nat N1 316 s)
      rw [hnQ] at hp
      have hpq : posAt N1 (Lig N1) (hRow N1) s 24 < nQ N := hp
      obtain ⟨q1, q2, q3, q4⟩ := hP.q hpq
      have hkq := (hN.2.1 _ hpq).2.1
      have hE := ih (s + 1) (.ref (pb + 100 + posAt N1 (Lig N1) (hRow N1) s 24)) (by omega)
      unfold gnS at hE
      refine AW.iload X dX1_gainOf_23 rfl ?_
      first | refine AW.aload_n X dX1_gainOf_25 rfl rfl ?_ | refine AW.aloadN_n X dX1_gainOf_25 rfl rfl ?_
      refine AW.getR X f_X1_23_0 (by first | assumption | exact hT _ _ rfl) (by first | assumption | exact hR _ _ _ rfl) dX1_gainOf_26 ?_
      refine AW.getR X f_X1_65_2 (by first | assumption | exact hT _ _ rfl) (by first | assumption | exact hR _ _ _ rfl) dX1_gainOf_29 ?_
      refine AW.getR X f_X1_92_3 (by first | assumption | exact hT _ _ rfl) (by first | assumption | exact hR _ _ _ rfl) dX1_gainOf_32 ?_
      refine AW.callV_r X (hP.lS.size) (ci := 19) (q := (RJ2, TJ2, 3)) (by first | assumption | exact hT _ _ rfl) rfl s_X1_75_19 (by omega) (Nat.le_of_ble_eq_true rfl) rfl rfl (Nat.le_of_ble_eq_true rfl) dX1_gainOf_35 ?_
      refine AW.icmp_ge X (tgt := 104) dX1_gainOf_38 rfl ?_ ?_
      · intro t38
        exact absurd t38 (nI_ge (by omega) (by omega))
      · intro f38
        first | refine AW.aload_n X dX1_gainOf_41 rfl rfl ?_ | refine AW.aloadN_n X dX1_gainOf_41 rfl rfl ?_
        refine AW.getR X f_X1_23_0 (by first | assumption | exact hT _ _ rfl) (by first | assumption | exact hR _ _ _ rfl) dX1_gainOf_42 ?_
        refine AW.getR X f_X1_65_2 (by first | assumption | exact hT _ _ rfl) (by first | assumption | exact hR _ _ _ rfl) dX1_gainOf_45 ?_
        refine AW.getR X f_X1_69_3 (by first | assumption | exact hT _ _ rfl) (by first | assumption | exact hR _ _ _ rfl) dX1_gainOf_48 ?_
        first | refine AW.aload_n X dX1_gainOf_51 rfl rfl ?_ | refine AW.aloadN_n X dX1_gainOf_51 rfl rfl ?_
        refine AW.getR X f_X1_27_0 (by first | assumption | exact hT _ _ rfl) (by first | assumption | exact hR _ _ _ rfl) dX1_gainOf_52 ?_
        first | refine AW.aload_n X dX1_gainOf_55 rfl rfl ?_ | refine AW.aloadN_n X dX1_gainOf_55 rfl rfl ?_
        refine AW.getR X f_X1_23_0 (by first | assumption | exact hT _ _ rfl) (by first | assumption | exact hR _ _ _ rfl) dX1_gainOf_56 ?_
        refine AW.getR X f_X1_65_2 (by first | assumption | exact hT _ _ rfl) (by first | assumption | exact hR _ _ _ rfl) dX1_gainOf_59 ?_
        refine AW.getR X f_X1_92_3 (by first | assumption | exact hT _ _ rfl) (by first | assumption | exact hR _ _ _ rfl) dX1_gainOf_62 ?_
        refine AW.iload X dX1_gainOf_65 rfl ?_
        refine AW.callV_r X (hP.lS.get (show s < nS N by omega) (by omega)) (ci := 19) (q := (RJ2, TJ2, 3)) (by first | assumption | exact hT _ _ rfl) rfl s_X1_81_19 (by omega) (Nat.le_of_ble_eq_true rfl) rfl rfl (Nat.le_of_ble_eq_true rfl) dX1_gainOf_67 ?_
        refine AW.castK X (idx := 95) ck_Ship hks (by first | assumption | exact hT _ _ rfl) q1318 dX1_gainOf_70 ?_
        refine AW.bipush X (v := 24) dX1_gainOf_73 rfl ?_
        refine AW.callV_r X (ht.at hG1 (to := 24) (show s < nS N1 by omega) (by omega)) (ci := 2) (q := (RX3, TX3, 9)) (by first | assumption | exact hT _ _ rfl) rfl s_X1_236_2 (by omega) (Nat.le_of_ble_eq_true rfl) rfl rfl (Nat.le_of_ble_eq_true rfl) dX1_gainOf_75 ?_
        refine AW.callV_r X (hP.lQ.get hpq (by omega)) (ci := 19) (q := (RJ2, TJ2, 3)) (by first | assumption | exact hT _ _ rfl) rfl s_X1_81_19 (by omega) (Nat.le_of_ble_eq_true rfl) rfl rfl (Nat.le_of_ble_eq_true rfl) dX1_gainOf_78 ?_
        refine AW.castK X (idx := 85) ck_Quay hkq (by first | assumption | exact hT _ _ rfl) q1255 dX1_gainOf_81 ?_
        first | refine AW.astore5 X dX1_gainOf_84 ?_ | refine AW.astoreN5 X dX1_gainOf_84 ?_
        first | refine AW.aload X dX1_gainOf_86 rfl ?_ | refine AW.aloadN X dX1_gainOf_86 rfl ?_
        refine v_X1_167 X rfl (by omega) q1 hkq (Nat.le_of_ble_eq_true rfl) dX1_gainOf_88 ?_
        rw [q4]
        refine AW.iload_n X dX1_gainOf_91 rfl rfl ?_
        refine AW.icmp_ne X (tgt := 98) dX1_gainOf_92 rfl ?_ ?_
        · intro t92
          rw [if_neg t92] at hE
          refine AW.iinc4 X (v := _ + 1) dX1_gainOf_98 rfl ?_
          refine AW.goto X (tgt := 23) dX1_gainOf_101 rfl ?_
          rw [nI_1]; exact hE
        · intro f92
          rw [if_pos f92] at hE
          refine AW.iinc3 X (v := _ + 10) dX1_gainOf_95 rfl ?_
          refine AW.iinc4 X (v := _ + 1) dX1_gainOf_98 rfl ?_
          refine AW.goto X (tgt := 23) dX1_gainOf_101 rfl ?_
          rw [nI_1]; exact hE
  by_cases h0 : c = 0
  · subst h0
    refine AW.iload_n X dX1_gainOf_0 rfl rfl ?_
    refine AW.if_ne X (tgt := 8) dX1_gainOf_1 rfl ?_ ?_
    · intro t1
      exact absurd rfl t1
    · intro f1
      refine AW.iconst X (v := 0) dX1_gainOf_4 rfl ?_
      refine AW.goto X (tgt := 19) dX1_gainOf_5 rfl ?_
      refine AW.istore3 X dX1_gainOf_19 ?_
      refine AW.iconst X (v := 0) dX1_gainOf_20 rfl ?_
      refine AW.istore4 X dX1_gainOf_21 ?_
      exact lp (nS N) 0 _ (by omega)
  · rw [if_neg h0] at lp
    refine AW.iload_n X dX1_gainOf_0 rfl rfl ?_
    refine AW.if_ne X (tgt := 8) dX1_gainOf_1 rfl ?_ ?_
    · intro t1
      first | refine AW.aload_n X dX1_gainOf_8 rfl rfl ?_ | refine AW.aloadN_n X dX1_gainOf_8 rfl rfl ?_
      refine AW.getR X f_X1_23_0 (by first | assumption | exact hT _ _ rfl) (by first | assumption | exact hR _ _ _ rfl) dX1_gainOf_9 ?_
      refine AW.getR X f_X1_65_2 (by first | assumption | exact hT _ _ rfl) (by first | assumption | exact hR _ _ _ rfl) dX1_gainOf_12 ?_
      refine AW.getI X f_X1_277_3 (by first | assumption | exact hT _ _ rfl) dX1_gainOf_15 ?_
      rw [hP.iL]
      refine AW.ineg X dX1_gainOf_18 ?_
      refine AW.istore3 X dX1_gainOf_19 ?_
      refine AW.iconst X (v := 0) dX1_gainOf_20 rfl ?_
      refine AW.istore4 X dX1_gainOf_21 ?_
      exact lp (nS N) 0 _ (by omega)
    · intro f1
      exact absurd f1 (nI_ne0 (by omega) (by omega))
end RV
