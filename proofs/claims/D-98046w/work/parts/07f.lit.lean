/-! 07f: a lit's methods (steps printed by src/walk.py) -/
set_option maxRecDepth 100000
section LITD
variable {la pb : Nat} {T : KT} {I : KI} {R : KR} {J : KJ} {N : KI}
/-- one quay is laid out by the glows G -/
def RawP (N : KI) (la q n : Nat) (G : Nat → Int32) (I I' : KI) : Prop := (∀ a, a ≠ lA la 8 → I' a = I a) ∧ (∀ h, h < n → I' (lA la 8) (24 * q + h) = rw_ N G q h) ∧ (∀ j, (j < 24 * q ∨ 24 * q + 24 ≤ j) → I' (lA la 8) j = I (lA la 8) j)
theorem c_X3_shines_2 {q : Nat} (hla : 103 ≤ la ∧ la ≤ 105) (hP : PR pb T I R N) (hL : LR la pb T I R N) (hN : NOK N) (hq : q < nQ N) : MX3_shines_2 3 0 [.ref la, .int (nI q)] T I R J (qI (fun r I' => r = none ∧ RawP N la q 24 (I (lA la 7)) I I') T R J) noX := by
  have hne := hN.1.2.2.2.2.2.1
  have hnq := hN.1.2.2.2.2.1
  obtain ⟨k1, k2, k3, k4⟩ := hP.q hq
  have hkq := (hN.2.1 q hq).2.1
  have pT0 := hP.T0
  have prQ := hP.rQ
  have prE := hP.rE
  have prS := hP.rS
  have prM := hP.rM
  have prW := hP.rW
  have prHd := hP.rHd
  have prHf := hP.rHf
  have prHt := hP.rHt
  have ptM := hP.tM
  have ptW := hP.tW
  have ptHd := hP.tHd
  have ptHf := hP.tHf
  have ptHt := hP.tHt
  have plQ := hP.lQ.tl
  have plE := hP.lE.tl
  have plS := hP.lS.tl
  obtain ⟨l1, l2, l3, l4, l5, l6, l7, l8, l9, l10, l11, l12, l13, l14, l15, l16, l17⟩ := hL
  have la8 := lA_lt hla (show 8 < 10 by omega)
  refine AMet.of (by decide) (Nat.le_of_ble_eq_true rfl) (cats1 rfl) fun cx X E => ?_
  show AW _ _ _ (_ :: _ :: _ :: _ :: _ :: []) _ _ _ _ _
  have lp : ∀ k h (I' : KI) (v3 v4 : Value), h + k = 24 → RawP N la q h (I (lA la 7)) I I' → AW cx 0 2 [.ref la, .int (nI q), .int (nI h), v3, v4] [] T I' R J := by
    intro k
    induction k with
    | zero =>
      intro h I' v3 v4 hk hi
      obtain rfl : h = 24 := by omega
      refine AW.iload_n X dX3_shines_2_2 rfl rfl ?_
      refine AW.bipush X (v := 24) dX3_shines_2_3 rfl ?_
      refine AW.icmp_ge X (tgt := 113) dX3_shines_2_5 rfl ?_ ?_
      · intro t5
        refine AW.vreturn X E ?_ dX3_shines_2_113
        exact ⟨rfl, rfl, rfl, rfl, hi⟩
      · intro f5
        exact absurd (by decide) f5
    | succ k ih =>
      intro h I' v3 v4 hk hi
      have hP' : PR pb T I' R N := hP.keep fun a ha => hi.1 a (by omega)
      have g7 : I' (lA la 7) = I (lA la 7) := hi.1 _ (lA_ne (by omega))
      have inn : ∀ j e, e + j = nE N → AW cx 0 13 [.ref la, .int (nI q), .int (nI h), .int (sumG N (I (lA la 7)) q h e), .int (nI e)] [] T I' R J := by
        intro j
        induction j with
        | zero =>
          intro e hj
          obtain rfl : e = nE N := by omega
          refine AW.iload X dX3_shines_2_13 rfl ?_
          first | refine AW.aload_n X dX3_shines_2_15 rfl rfl ?_ | refine AW.aloadN_n X dX3_shines_2_15 rfl rfl ?_
          refine AW.getR X f_X3_12_2 (by first | assumption | exact hT _ _ rfl) (by first | assumption | exact hR _ _ _ rfl) dX3_shines_2_16 ?_
          refine AW.getR X f_X3_41_3 (by first | assumption | exact hT _ _ rfl) (by first | assumption | exact hR _ _ _ rfl) dX3_shines_2_19 ?_
          refine AW.callV_r X (hP'.lE.size) (ci := 19) (q := (RJ2, TJ2, 3)) (by first | assumption | exact hT _ _ rfl) rfl s_X3_81_19 (by omega) (Nat.le_of_ble_eq_true rfl) rfl rfl (Nat.le_of_ble_eq_true rfl) dX3_shines_2_22 ?_
          refine AW.icmp_ge X (tgt := 71) dX3_shines_2_25 rfl ?_ ?_
          · intro t25
            first | refine AW.aload_n X dX3_shines_2_71 rfl rfl ?_ | refine AW.aloadN_n X dX3_shines_2_71 rfl rfl ?_
            refine AW.getR X f_X3_34_2 (by first | assumption | exact hT _ _ rfl) (by first | assumption | exact hR _ _ _ rfl) dX3_shines_2_72 ?_
            refine AW.bipush X (v := 24) dX3_shines_2_75 rfl ?_
            refine AW.iload_n X dX3_shines_2_77 rfl rfl ?_
            refine AW.imul X dX3_shines_2_78 ?_
            refine AW.iload_n X dX3_shines_2_79 rfl rfl ?_
            refine AW.iadd X dX3_shines_2_80 ?_
            refine AW.iload_n X dX3_shines_2_81 rfl rfl ?_
            refine AW.bipush X (v := 100) dX3_shines_2_82 rfl ?_
            first | refine AW.aload_n X dX3_shines_2_84 rfl rfl ?_ | refine AW.aloadN_n X dX3_shines_2_84 rfl rfl ?_
            refine AW.getR X f_X3_12_2 (by first | assumption | exact hT _ _ rfl) (by first | assumption | exact hR _ _ _ rfl) dX3_shines_2_85 ?_
            refine AW.getR X f_X3_88_3 (by first | assumption | exact hT _ _ rfl) (by first | assumption | exact hR _ _ _ rfl) dX3_shines_2_88 ?_
            refine AW.iload_n X dX3_shines_2_91 rfl rfl ?_
            refine AW.callV_r X (hP'.lQ.get hq (by omega)) (ci := 19) (q := (RJ2, TJ2, 3)) (by first | assumption | exact hT _ _ rfl) rfl s_X3_45_19 (by omega) (Nat.le_of_ble_eq_true rfl) rfl rfl (Nat.le_of_ble_eq_true rfl) dX3_shines_2_92 ?_
            refine AW.castK X (idx := 97) ck_Quay (by first | assumption | omega) (by first | assumption | exact hT _ _ rfl) q748 dX3_shines_2_95 ?_
            refine AW.getK X fk_X3_99 (by first | assumption | omega) (by first | assumption | exact hT _ _ rfl) dX3_shines_2_98 ?_
            rw [hi.1 _ (by have := hP.1; omega), k2]
            refine AW.isub X dX3_shines_2_101 ?_
            refine AW.imul X dX3_shines_2_102 ?_
            refine AW.bipush X (v := 100) dX3_shines_2_103 rfl ?_
            refine AW.idiv X dX3_shines_2_105 (by decide) ?_
            refine AW.iast X (j := 24 * q + h) (by omega) (by first | assumption | exact hT _ _ rfl) (by repeat (first | with_reducible exact rfl | assumption | exact ix_l _ | apply ix_add | apply ix_mul)) (by omega) dX3_shines_2_106 ?_
            refine AW.iinc2 X (v := _ + 1) dX3_shines_2_107 rfl ?_
            refine AW.goto X (tgt := 2) dX3_shines_2_110 rfl ?_
            rw [nI_1]
            refine ih (h + 1) _ _ _ (by omega) ⟨fun a h6 => ?_, fun h' hh' => ?_, fun j' hj' => ?_⟩
            · rw [w2_r h6]; exact hi.1 a h6
            · by_cases hx : h' = h
              · subst hx; rw [w2_s]; rfl
              · rw [w2_n2 (by omega)]; exact hi.2.1 h' (by omega)
            · rw [w2_n2 (by omega)]; exact hi.2.2 j' hj'
          · intro f25
            exact absurd (nI_le (by omega) (by omega)) f25
        | succ j ih2 =>
          intro e hj
          obtain ⟨c1, c2, c3, c4, c5⟩ := hP'.e (show e < nE N by omega)
          have hke := (hN.2.2.1 e (by omega)).2.1
          have hE := ih2 (e + 1) (by omega)
          unfold sumG at hE
          refine AW.iload X dX3_shines_2_13 rfl ?_
          first | refine AW.aload_n X dX3_shines_2_15 rfl rfl ?_ | refine AW.aloadN_n X dX3_shines_2_15 rfl rfl ?_
          refine AW.getR X f_X3_12_2 (by first | assumption | exact hT _ _ rfl) (by first | assumption | exact hR _ _ _ rfl) dX3_shines_2_16 ?_
          refine AW.getR X f_X3_41_3 (by first | assumption | exact hT _ _ rfl) (by first | assumption | exact hR _ _ _ rfl) dX3_shines_2_19 ?_
          refine AW.callV_r X (hP'.lE.size) (ci := 19) (q := (RJ2, TJ2, 3)) (by first | assumption | exact hT _ _ rfl) rfl s_X3_81_19 (by omega) (Nat.le_of_ble_eq_true rfl) rfl rfl (Nat.le_of_ble_eq_true rfl) dX3_shines_2_22 ?_
          refine AW.icmp_ge X (tgt := 71) dX3_shines_2_25 rfl ?_ ?_
          · intro t25
            exact absurd t25 (nI_ge (by omega) (by omega))
          · intro f25
            first | refine AW.aload_n X dX3_shines_2_28 rfl rfl ?_ | refine AW.aloadN_n X dX3_shines_2_28 rfl rfl ?_
            refine AW.getR X f_X3_12_2 (by first | assumption | exact hT _ _ rfl) (by first | assumption | exact hR _ _ _ rfl) dX3_shines_2_29 ?_
            refine AW.getR X f_X3_41_3 (by first | assumption | exact hT _ _ rfl) (by first | assumption | exact hR _ _ _ rfl) dX3_shines_2_32 ?_
            refine AW.iload X dX3_shines_2_35 rfl ?_
            refine AW.callV_r X (hP'.lE.get (show e < nE N by omega) (by omega)) (ci := 19) (q := (RJ2, TJ2, 3)) (by first | assumption | exact hT _ _ rfl) rfl s_X3_45_19 (by omega) (Nat.le_of_ble_eq_true rfl) rfl rfl (Nat.le_of_ble_eq_true rfl) dX3_shines_2_37 ?_
            refine AW.castK X (idx := 51) ck_Eel (by first | assumption | omega) (by first | assumption | exact hT _ _ rfl) q700 dX3_shines_2_40 ?_
            refine AW.getK X fk_X3_94 (by first | assumption | omega) (by first | assumption | exact hT _ _ rfl) dX3_shines_2_43 ?_
            rw [c3]
            refine AW.iload_n X dX3_shines_2_46 rfl rfl ?_
            refine AW.icmp_ne X (tgt := 65) dX3_shines_2_47 rfl ?_ ?_
            · intro t47
              rw [if_neg t47] at hE
              refine AW.iinc4 X (v := _ + 1) dX3_shines_2_65 rfl ?_
              refine AW.goto X (tgt := 13) dX3_shines_2_68 rfl ?_
              rw [nI_1]; exact hE
            · intro f47
              rw [if_pos f47] at hE
              refine AW.iload_n X dX3_shines_2_50 rfl rfl ?_
              first | refine AW.aload_n X dX3_shines_2_51 rfl rfl ?_ | refine AW.aloadN_n X dX3_shines_2_51 rfl rfl ?_
              refine AW.getR X f_X3_31_2 (by first | assumption | exact hT _ _ rfl) (by first | assumption | exact hR _ _ _ rfl) dX3_shines_2_52 ?_
              refine AW.bipush X (v := 24) dX3_shines_2_55 rfl ?_
              refine AW.iload X dX3_shines_2_57 rfl ?_
              refine AW.imul X dX3_shines_2_59 ?_
              refine AW.iload_n X dX3_shines_2_60 rfl rfl ?_
              refine AW.iadd X dX3_shines_2_61 ?_
              refine AW.iald X (j := 24 * e + h) (by first | assumption | exact hT _ _ rfl) (by repeat (first | with_reducible exact rfl | assumption | exact ix_l _ | apply ix_add | apply ix_mul)) (by omega) dX3_shines_2_62 ?_
              rw [g7]
              refine AW.iadd X dX3_shines_2_63 ?_
              refine AW.istore3 X dX3_shines_2_64 ?_
              refine AW.iinc4 X (v := _ + 1) dX3_shines_2_65 rfl ?_
              refine AW.goto X (tgt := 13) dX3_shines_2_68 rfl ?_
              rw [nI_1]; exact hE
      refine AW.iload_n X dX3_shines_2_2 rfl rfl ?_
      refine AW.bipush X (v := 24) dX3_shines_2_3 rfl ?_
      refine AW.icmp_ge X (tgt := 113) dX3_shines_2_5 rfl ?_ ?_
      · intro t5
        exact absurd t5 (nI_ge (a := h) (b := 24) (by omega) (by omega))
      · intro f5
        refine AW.iconst X (v := 0) dX3_shines_2_8 rfl ?_
        refine AW.istore3 X dX3_shines_2_9 ?_
        refine AW.iconst X (v := 0) dX3_shines_2_10 rfl ?_
        refine AW.istore4 X dX3_shines_2_11 ?_
        exact inn (nE N) 0 (by omega)
  refine AW.iconst X (v := 0) dX3_shines_2_0 rfl ?_
  refine AW.istore2 X dX3_shines_2_1 ?_
  exact lp 24 0 I _ _ rfl ⟨fun _ _ => rfl, fun _ h => absurd h (Nat.not_lt_zero _), fun _ _ => rfl⟩
/-- the lit's rows are the night's -/
def LitP (N : KI) (la : Nat) (I : KI) : Prop := (∀ e h, e < nE N → h < 24 → I (lA la 6) (24 * e + h) = hun N e h ∧ I (lA la 7) (24 * e + h) = glo N e h) ∧ ∀ q h, q < nQ N → h < 24 → I (lA la 8) (24 * q + h) = rw_ N (gRow N) q h
def sameB (la : Nat) (I I' : KI) : Prop := ∀ a, a ≠ lA la 6 → a ≠ lA la 7 → a ≠ lA la 8 → I' a = I a
theorem rw_eq {N : KI} {G G' : Nat → Int32} {q h : Nat} (hg : ∀ e, e < nE N → N 311 e = nI q → G (24 * e + h) = G' (24 * e + h)) : rw_ N G q h = rw_ N G' q h := by
  unfold rw_
  rw [sumG_eq hg]
theorem c_X3_shines (hla : 103 ≤ la ∧ la ≤ 105) (hP : PR pb T I R N) (hL : LR la pb T I R N) (hN : NOK N) (hM : MOKs N) : MX3_shines 6 0 [.ref la] T I R J (qI (fun r I' => r = none ∧ sameB la I I' ∧ LitP N la I') T R J) noX := by
  have hne := hN.1.2.2.2.2.2.1
  have hnq := hN.1.2.2.2.2.1
  have pT0 := hP.T0
  have prQ := hP.rQ
  have prE := hP.rE
  have prS := hP.rS
  have prM := hP.rM
  have prW := hP.rW
  have prHd := hP.rHd
  have prHf := hP.rHf
  have prHt := hP.rHt
  have ptM := hP.tM
  have ptW := hP.tW
  have ptHd := hP.tHd
  have ptHf := hP.tHf
  have ptHt := hP.tHt
  have plQ := hP.lQ.tl
  have plE := hP.lE.tl
  have plS := hP.lS.tl
  have hL0 := hL
  obtain ⟨l1, l2, l3, l4, l5, l6, l7, l8, l9, l10, l11, l12, l13, l14, l15, l16, l17⟩ := hL
  have la6 := lA_lt hla (show 6 < 10 by omega)
  have la7 := lA_lt hla (show 7 < 10 by omega)
  have la8 := lA_lt hla (show 8 < 10 by omega)
  have kP : ∀ {I' : KI}, sameB la I I' → PR pb T I' R N := fun hs => hP.keep fun a ha => hs a (by omega) (by omega) (by omega)
  have kL : ∀ {I' : KI}, sameB la I I' → LR la pb T I' R N := fun hs => hL0.keep (hs _ (lA_la hla) (lA_la hla) (lA_la hla)) (hs _ (lA_ne (by omega)) (lA_ne (by omega)) (lA_ne (by omega))) (hs _ (lA_ne (by omega)) (lA_ne (by omega)) (lA_ne (by omega))) (hs _ (lA_ne (by omega)) (lA_ne (by omega)) (lA_ne (by omega)))
  refine AMet.of (by decide) (Nat.le_of_ble_eq_true rfl) (cats1 rfl) fun cx X E => ?_
  show AW _ _ _ (_ :: _ :: []) _ _ _ _ _
  have l2' : ∀ k q (I' : KI), q + k = nQ N → sameB la I I' → (∀ e h, e < nE N → h < 24 → I' (lA la 6) (24 * e + h) = hun N e h ∧ I' (lA la 7) (24 * e + h) = glo N e h) → (∀ q' h, q' < q → h < 24 → I' (lA la 8) (24 * q' + h) = rw_ N (gRow N) q' h) → AW cx 0 29 [.ref la, .int (nI q)] [] T I' R J := by
    intro k
    induction k with
    | zero =>
      intro q I' hk hs hg hr
      obtain rfl : q = nQ N := by omega
      refine AW.iload_n X dX3_shines_29 rfl rfl ?_
      first | refine AW.aload_n X dX3_shines_30 rfl rfl ?_ | refine AW.aloadN_n X dX3_shines_30 rfl rfl ?_
      refine AW.getR X f_X3_12_2 (by first | assumption | exact hT _ _ rfl) (by first | assumption | exact hR _ _ _ rfl) dX3_shines_31 ?_
      refine AW.getR X f_X3_88_3 (by first | assumption | exact hT _ _ rfl) (by first | assumption | exact hR _ _ _ rfl) dX3_shines_34 ?_
      refine AW.callV_r X ((kP hs).lQ.size) (ci := 19) (q := (RJ2, TJ2, 3)) (by first | assumption | exact hT _ _ rfl) rfl s_X3_81_19 (by omega) (Nat.le_of_ble_eq_true rfl) rfl rfl (Nat.le_of_ble_eq_true rfl) dX3_shines_37 ?_
      refine AW.icmp_ge X (tgt := 54) dX3_shines_40 rfl ?_ ?_
      · intro t40
        refine AW.vreturn X E ?_ dX3_shines_54
        exact ⟨rfl, rfl, rfl, rfl, hs, hg, hr⟩
      · intro f40
        exact absurd (nI_le (by omega) (by omega)) f40
    | succ k ih =>
      intro q I' hk hs hg hr
      refine AW.iload_n X dX3_shines_29 rfl rfl ?_
      first | refine AW.aload_n X dX3_shines_30 rfl rfl ?_ | refine AW.aloadN_n X dX3_shines_30 rfl rfl ?_
      refine AW.getR X f_X3_12_2 (by first | assumption | exact hT _ _ rfl) (by first | assumption | exact hR _ _ _ rfl) dX3_shines_31 ?_
      refine AW.getR X f_X3_88_3 (by first | assumption | exact hT _ _ rfl) (by first | assumption | exact hR _ _ _ rfl) dX3_shines_34 ?_
      refine AW.callV_r X ((kP hs).lQ.size) (ci := 19) (q := (RJ2, TJ2, 3)) (by first | assumption | exact hT _ _ rfl) rfl s_X3_81_19 (by omega) (Nat.le_of_ble_eq_true rfl) rfl rfl (Nat.le_of_ble_eq_true rfl) dX3_shines_37 ?_
      refine AW.icmp_ge X (tgt := 54) dX3_shines_40 rfl ?_ ?_
      · intro t40
        exact absurd t40 (nI_ge (by omega) (by omega))
      · intro f40
        first | refine AW.aload_n X dX3_shines_43 rfl rfl ?_ | refine AW.aloadN_n X dX3_shines_43 rfl rfl ?_
        refine AW.iload_n X dX3_shines_44 rfl rfl ?_
        refine AW.callV_i X (c_X3_shines_2 hla (kP hs) (kL hs) hN (by omega)) (ci := 2) (q := (RX3, TX3, 9)) (by first | assumption | exact hT _ _ rfl) rfl s_X3_91_2 (by omega) (Nat.le_of_ble_eq_true rfl) rfl rfl (Nat.le_of_ble_eq_true rfl) dX3_shines_45 ?_
        intro r45 I45 h45
        obtain ⟨rfl, g1, g2, g3⟩ := h45
        refine AW.iinc1 X (v := _ + 1) dX3_shines_48 rfl ?_
        refine AW.goto X (tgt := 29) dX3_shines_51 rfl ?_
        rw [nI_1]
        refine ih (q + 1) I45 (by omega) (fun a h6 h7 h8 => (g1 a h8).trans (hs a h6 h7 h8)) (fun e h he hh => ?_) (fun q' h hq' hh => ?_)
        · rw [g1 _ (lA_ne (by omega)), g1 _ (lA_ne (by omega))]; exact hg e h he hh
        · by_cases hx : q' = q
          · subst hx
            rw [g2 h hh]
            exact rw_eq fun e he _ => by rw [(hg e h he hh).2, gRow_at N e hh]
          · rw [g3 _ (by omega)]; exact hr q' h (by omega) hh
  have l1' : ∀ k e (I' : KI), e + k = nE N → sameB la I I' → (∀ e' h, e' < e → h < 24 → I' (lA la 6) (24 * e' + h) = hun N e' h ∧ I' (lA la 7) (24 * e' + h) = glo N e' h) → AW cx 0 2 [.ref la, .int (nI e)] [] T I' R J := by
    intro k
    induction k with
    | zero =>
      intro e I' hk hs hg
      obtain rfl : e = nE N := by omega
      refine AW.iload_n X dX3_shines_2 rfl rfl ?_
      first | refine AW.aload_n X dX3_shines_3 rfl rfl ?_ | refine AW.aloadN_n X dX3_shines_3 rfl rfl ?_
      refine AW.getR X f_X3_12_2 (by first | assumption | exact hT _ _ rfl) (by first | assumption | exact hR _ _ _ rfl) dX3_shines_4 ?_
      refine AW.getR X f_X3_41_3 (by first | assumption | exact hT _ _ rfl) (by first | assumption | exact hR _ _ _ rfl) dX3_shines_7 ?_
      refine AW.callV_r X ((kP hs).lE.size) (ci := 19) (q := (RJ2, TJ2, 3)) (by first | assumption | exact hT _ _ rfl) rfl s_X3_81_19 (by omega) (Nat.le_of_ble_eq_true rfl) rfl rfl (Nat.le_of_ble_eq_true rfl) dX3_shines_10 ?_
      refine AW.icmp_ge X (tgt := 27) dX3_shines_13 rfl ?_ ?_
      · intro t13
        refine AW.iconst X (v := 0) dX3_shines_27 rfl ?_
        refine AW.istore1 X dX3_shines_28 ?_
        exact l2' (nQ N) 0 I' (by omega) hs hg (fun _ _ h => absurd h (Nat.not_lt_zero _))
      · intro f13
        exact absurd (nI_le (by omega) (by omega)) f13
    | succ k ih =>
      intro e I' hk hs hg
      refine AW.iload_n X dX3_shines_2 rfl rfl ?_
      first | refine AW.aload_n X dX3_shines_3 rfl rfl ?_ | refine AW.aloadN_n X dX3_shines_3 rfl rfl ?_
      refine AW.getR X f_X3_12_2 (by first | assumption | exact hT _ _ rfl) (by first | assumption | exact hR _ _ _ rfl) dX3_shines_4 ?_
      refine AW.getR X f_X3_41_3 (by first | assumption | exact hT _ _ rfl) (by first | assumption | exact hR _ _ _ rfl) dX3_shines_7 ?_
      refine AW.callV_r X ((kP hs).lE.size) (ci := 19) (q := (RJ2, TJ2, 3)) (by first | assumption | exact hT _ _ rfl) rfl s_X3_81_19 (by omega) (Nat.le_of_ble_eq_true rfl) rfl rfl (Nat.le_of_ble_eq_true rfl) dX3_shines_10 ?_
      refine AW.icmp_ge X (tgt := 27) dX3_shines_13 rfl ?_ ?_
      · intro t13
        exact absurd t13 (nI_ge (by omega) (by omega))
      · intro f13
        first | refine AW.aload_n X dX3_shines_16 rfl rfl ?_ | refine AW.aloadN_n X dX3_shines_16 rfl rfl ?_
        refine AW.iload_n X dX3_shines_17 rfl rfl ?_
        refine AW.callV_i X (c_X3_eats hla (kP hs) (kL hs) hN hM (by omega)) (ci := 2) (q := (RX3, TX3, 9)) (by first | assumption | exact hT _ _ rfl) rfl s_X3_84_2 (by omega) (Nat.le_of_ble_eq_true rfl) rfl rfl (Nat.le_of_ble_eq_true rfl) dX3_shines_18 ?_
        intro r18 I18 h18
        obtain ⟨rfl, g1, g2, g3⟩ := h18
        refine AW.iinc1 X (v := _ + 1) dX3_shines_21 rfl ?_
        refine AW.goto X (tgt := 2) dX3_shines_24 rfl ?_
        rw [nI_1]
        refine ih (e + 1) I18 (by omega) (fun a h6 h7 h8 => (g1 a h6 h7).trans (hs a h6 h7 h8)) (fun e' h he' hh => ?_)
        by_cases hx : e' = e
        · subst hx; exact g2 h hh
        · rw [(g3 (24 * e' + h) (by omega)).1, (g3 (24 * e' + h) (by omega)).2]; exact hg e' h (by omega) hh
  refine AW.iconst X (v := 0) dX3_shines_0 rfl ?_
  refine AW.istore1 X dX3_shines_1 ?_
  exact l1' (nE N) 0 I (by omega) (fun _ _ _ _ => rfl) (fun _ _ h => absurd h (Nat.not_lt_zero _))
end LITD
