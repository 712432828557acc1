/-! 07i: legs of ships (steps printed by src/walk.py) -/
set_option maxRecDepth 100000
theorem nI_m1 {j : Nat} (h : j < 2 ^ 31) : ¬ nI j = -1 := fun hc => by
  have h1 := nI_pos' h
  rw [hc] at h1
  exact absurd h1 (by decide)
theorem sub_lt_iff {a c : Nat} (ha : a ≤ 1000) (hc : c ≤ 1000) : (1000 - nI a < 1000 - nI c) ↔ nI c < nI a := by
  rw [show (1000 : Int32) = nI 1000 from rfl, nI_sub ha, nI_sub hc, nI_ltI (by omega) (by omega), nI_ltI (by omega) (by omega)]
  omega
theorem leg_lt {N : KI} {L : Nat → Nat → Int32} {Hg : Nat → Int32} {s a h : Nat} (ha : a < nQ N) : leg N L Hg s a h < nQ N := by
  unfold leg
  cases hp : pk (cnd N L Hg s a h) (drw N L Hg s h) (nQ N) with
  | none => exact ha
  | some j => exact (pkk_lt hp).1
theorem endF_eq {N : KI} {q : Nat} (hN : NOK N) (hq : q < nQ N) : endF (nat N 305 q) = nI (endK N q) := by
  obtain ⟨hkx, hkq, -⟩ := hN.2.1 q hq
  unfold endF endK
  simp only [show (N 305 q = 3) = (nat N 305 q = 3) from kind_is 3 hkx hkq (by omega), show (N 305 q = 2) = (nat N 305 q = 2) from kind_is 2 hkx hkq (by omega)]
  by_cases h3 : nat N 305 q = 3
  · rw [if_pos h3, if_pos h3]; rfl
  · rw [if_neg h3, if_neg h3]
    by_cases h2 : nat N 305 q = 2
    · rw [if_pos h2, if_pos h2]; rfl
    · rw [if_neg h2, if_neg h2]; rfl
section GOES
variable {la pb : Nat} {T : KT} {I : KI} {R : KR} {J : KJ} {N : KI}
theorem c_X11_brightest {s a h : Nat} (hP : PR pb T I R N) (hL : LR la pb T I R N) (hN : NOK N) (hG : LitP N la I) (hs : s < nS N) (ha : a < nQ N) (hh : h < 24) (h2 : ¬ N 314 s = 2) (h3 : ¬ N 314 s = 3) : MX11_brightest 5 0 [.ref (pb + 140 + s), .ref la, .int (nI a), .int (nI h)] T I R J (qR (some (.int (nI (leg N (Lig N) (hRow N) s a h)))) T I R J) noX := by
  have hnq := hN.1.2.2.2.2.1
  obtain ⟨k1, k2, k3, k4⟩ := hP.s hs
  have hks := (hN.2.2.2.1 s hs).2.1
  have pT0 := hP.T0
  have prQ := hP.rQ
  have prE := hP.rE
  have prS := hP.rS
  have prM := hP.rM
  have prW := hP.rW
  have prHd := hP.rHd
  have prHf := hP.rHf
  have prHt := hP.rHt
  have ptM := hP.tM
  have ptW := hP.tW
  have ptHd := hP.tHd
  have ptHf := hP.tHf
  have ptHt := hP.tHt
  have plQ := hP.lQ.tl
  have plE := hP.lE.tl
  have plS := hP.lS.tl
  have hL0 := hL
  obtain ⟨l1, l2, -⟩ := hL
  obtain ⟨c, hc⟩ : ∃ c, c = cnd N (Lig N) (hRow N) s a h := ⟨_, rfl⟩
  obtain ⟨v, hv⟩ : ∃ v, v = drw N (Lig N) (hRow N) s h := ⟨_, rfl⟩
  have hcq : ∀ q, c q = (decide (isWy N a q) && decide (N 318 h < lig N (gRow N) q h ∧ N 317 s ≤ lig N (gRow N) q h)) := fun q => by rw [hc]; unfold cnd; rw [if_neg h2, if_neg h3]; rfl
  have hvq : ∀ q, v q = lig N (gRow N) q h := fun q => by rw [hv]; unfold drw; rw [if_neg h2, if_neg h3]; rfl
  have hleg : leg N (Lig N) (hRow N) s a h = (pk c v (nQ N)).getD a := by rw [hc, hv]; rfl
  rw [hleg]
  refine AMet.of (by decide) (Nat.le_of_ble_eq_true rfl) (cats1 rfl) fun cx X E => ?_
  show AW _ _ _ (_ :: _ :: _ :: _ :: _ :: _ :: []) _ _ _ _ _
  have lp : ∀ k q, q + k = nQ N → AW cx 0 6 [.ref (pb + 140 + s), .ref la, .int (nI a), .int (nI h), .int (bst (pk c v q)), .int (nI q)] [] T I R J := by
    intro k
    induction k with
    | zero =>
      intro q hk
      obtain rfl : q = nQ N := by omega
      cases hp : pk c v (nQ N) with
      | none =>
        rw [hp] at E
        refine AW.iload X dX11_brightest_6 rfl ?_
        first | refine AW.aload_n X dX11_brightest_8 rfl rfl ?_ | refine AW.aloadN_n X dX11_brightest_8 rfl rfl ?_
        refine AW.getR X f_X11_9_2 (by first | assumption | exact hT _ _ rfl) (by first | assumption | exact hR _ _ _ rfl) dX11_brightest_9 ?_
        refine AW.getR X f_X11_15_3 (by first | assumption | exact hT _ _ rfl) (by first | assumption | exact hR _ _ _ rfl) dX11_brightest_12 ?_
        refine AW.callV_r X (hP.lQ.size) (ci := 19) (q := (RJ2, TJ2, 3)) (by first | assumption | exact hT _ _ rfl) rfl s_X11_21_19 (by omega) (Nat.le_of_ble_eq_true rfl) rfl rfl (Nat.le_of_ble_eq_true rfl) dX11_brightest_15 ?_
        refine AW.icmp_ge X (tgt := 81) dX11_brightest_18 rfl ?_ ?_
        · intro t18
          refine AW.iload X dX11_brightest_81 rfl ?_
          refine AW.iconst X (v := -1) dX11_brightest_83 rfl ?_
          refine AW.icmp_ne X (tgt := 91) dX11_brightest_84 rfl ?_ ?_
          · intro t84
            exact absurd rfl t84
          · intro f84
            refine AW.iload_n X dX11_brightest_87 rfl rfl ?_
            refine AW.goto X (tgt := 93) dX11_brightest_88 rfl ?_
            exact AW.ireturn X E ⟨rfl, rfl, rfl, rfl, rfl⟩ dX11_brightest_93 
        · intro f18
          exact absurd (nI_le (by omega) (by omega)) f18
      | some j =>
        rw [hp] at E
        have hj := (pkk_lt hp).1
        refine AW.iload X dX11_brightest_6 rfl ?_
        first | refine AW.aload_n X dX11_brightest_8 rfl rfl ?_ | refine AW.aloadN_n X dX11_brightest_8 rfl rfl ?_
        refine AW.getR X f_X11_9_2 (by first | assumption | exact hT _ _ rfl) (by first | assumption | exact hR _ _ _ rfl) dX11_brightest_9 ?_
        refine AW.getR X f_X11_15_3 (by first | assumption | exact hT _ _ rfl) (by first | assumption | exact hR _ _ _ rfl) dX11_brightest_12 ?_
        refine AW.callV_r X (hP.lQ.size) (ci := 19) (q := (RJ2, TJ2, 3)) (by first | assumption | exact hT _ _ rfl) rfl s_X11_21_19 (by omega) (Nat.le_of_ble_eq_true rfl) rfl rfl (Nat.le_of_ble_eq_true rfl) dX11_brightest_15 ?_
        refine AW.icmp_ge X (tgt := 81) dX11_brightest_18 rfl ?_ ?_
        · intro t18
          refine AW.iload X dX11_brightest_81 rfl ?_
          refine AW.iconst X (v := -1) dX11_brightest_83 rfl ?_
          refine AW.icmp_ne X (tgt := 91) dX11_brightest_84 rfl ?_ ?_
          · intro t84
            refine AW.iload X dX11_brightest_91 rfl ?_
            exact AW.ireturn X E ⟨rfl, rfl, rfl, rfl, rfl⟩ dX11_brightest_93 
          · intro f84
            exact absurd f84 (nI_m1 (by omega))
        · intro f18
          exact absurd (nI_le (by omega) (by omega)) f18
    | succ k ih =>
      intro q hk
      have hE := ih (q + 1) (by omega)
      cases hp : pk c v q with
      | none =>
        refine AW.iload X dX11_brightest_6 rfl ?_
        first | refine AW.aload_n X dX11_brightest_8 rfl rfl ?_ | refine AW.aloadN_n X dX11_brightest_8 rfl rfl ?_
        refine AW.getR X f_X11_9_2 (by first | assumption | exact hT _ _ rfl) (by first | assumption | exact hR _ _ _ rfl) dX11_brightest_9 ?_
        refine AW.getR X f_X11_15_3 (by first | assumption | exact hT _ _ rfl) (by first | assumption | exact hR _ _ _ rfl) dX11_brightest_12 ?_
        refine AW.callV_r X (hP.lQ.size) (ci := 19) (q := (RJ2, TJ2, 3)) (by first | assumption | exact hT _ _ rfl) rfl s_X11_21_19 (by omega) (Nat.le_of_ble_eq_true rfl) rfl rfl (Nat.le_of_ble_eq_true rfl) dX11_brightest_15 ?_
        refine AW.icmp_ge X (tgt := 81) dX11_brightest_18 rfl ?_ ?_
        · intro t18
          exact absurd t18 (nI_ge (by omega) (by omega))
        · intro f18
          first | refine AW.aload_n X dX11_brightest_21 rfl rfl ?_ | refine AW.aloadN_n X dX11_brightest_21 rfl rfl ?_
          refine AW.iload_n X dX11_brightest_22 rfl rfl ?_
          refine AW.iload X dX11_brightest_23 rfl ?_
          refine AW.callV_r X (c_X3_isWay hP hL0 hN ha) (ci := 2) (q := (RX3, TX3, 9)) (by first | assumption | exact hT _ _ rfl) rfl s_X11_27_2 (by omega) (Nat.le_of_ble_eq_true rfl) rfl rfl (Nat.le_of_ble_eq_true rfl) dX11_brightest_25 ?_
          refine AW.if_eq X (tgt := 75) dX11_brightest_28 rfl ?_ ?_
          · intro t28
            refine AW.iinc5 X (v := _ + 1) dX11_brightest_75 rfl ?_
            refine AW.goto X (tgt := 6) dX11_brightest_78 rfl ?_
            rw [nI_1]
            first | (rw [pkk_no (by rw [hcq, decide_eq_false (bI_z.mp t28)]; rfl), hp] at hE; exact hE) | (rw [pkk_no (by rw [hcq, decide_eq_false (bI_z.mp f42), Bool.and_false]), hp] at hE; exact hE) | (rw [pkk_none (by rw [hcq, decide_eq_true (Decidable.of_not_not fun z => f28 (bI_z.mpr z)), decide_eq_true (Decidable.of_not_not fun z => t42 (bI_z.mpr z))]; rfl) hp] at hE; exact hE)
          · intro f28
            first | refine AW.aload_n X dX11_brightest_31 rfl rfl ?_ | refine AW.aloadN_n X dX11_brightest_31 rfl rfl ?_
            refine AW.iload X dX11_brightest_32 rfl ?_
            refine AW.iload_n X dX11_brightest_34 rfl rfl ?_
            first | refine AW.aload_n X dX11_brightest_35 rfl rfl ?_ | refine AW.aloadN_n X dX11_brightest_35 rfl rfl ?_
            refine AW.getK X fk_X11_31 (by first | assumption | omega) (by first | assumption | exact hT _ _ rfl) dX11_brightest_36 ?_
            rw [k4]
            refine AW.callV_r X (c_X3_isSeen hP hL0 hN (show q < nQ N by omega) hh (fun h' hh' => hG.2 q h' (by omega) hh')) (ci := 2) (q := (RX3, TX3, 9)) (by first | assumption | exact hT _ _ rfl) rfl s_X11_37_2 (by omega) (Nat.le_of_ble_eq_true rfl) rfl rfl (Nat.le_of_ble_eq_true rfl) dX11_brightest_39 ?_
            refine AW.if_ne X (tgt := 48) dX11_brightest_42 rfl ?_ ?_
            · intro t42
              refine AW.iload X dX11_brightest_48 rfl ?_
              refine AW.iconst X (v := -1) dX11_brightest_50 rfl ?_
              refine AW.icmp_eq X (tgt := 71) dX11_brightest_51 rfl ?_ ?_
              · intro t51
                refine AW.iload X dX11_brightest_71 rfl ?_
                refine AW.istore4 X dX11_brightest_73 ?_
                refine AW.iinc5 X (v := _ + 1) dX11_brightest_75 rfl ?_
                refine AW.goto X (tgt := 6) dX11_brightest_78 rfl ?_
                rw [nI_1]
                first | (rw [pkk_no (by rw [hcq, decide_eq_false (bI_z.mp t28)]; rfl), hp] at hE; exact hE) | (rw [pkk_no (by rw [hcq, decide_eq_false (bI_z.mp f42), Bool.and_false]), hp] at hE; exact hE) | (rw [pkk_none (by rw [hcq, decide_eq_true (Decidable.of_not_not fun z => f28 (bI_z.mpr z)), decide_eq_true (Decidable.of_not_not fun z => t42 (bI_z.mpr z))]; rfl) hp] at hE; exact hE)
              · intro f51
                exact absurd rfl f51
            · intro f42
              refine AW.goto X (tgt := 75) dX11_brightest_45 rfl ?_
              refine AW.iinc5 X (v := _ + 1) dX11_brightest_75 rfl ?_
              refine AW.goto X (tgt := 6) dX11_brightest_78 rfl ?_
              rw [nI_1]
              first | (rw [pkk_no (by rw [hcq, decide_eq_false (bI_z.mp t28)]; rfl), hp] at hE; exact hE) | (rw [pkk_no (by rw [hcq, decide_eq_false (bI_z.mp f42), Bool.and_false]), hp] at hE; exact hE) | (rw [pkk_none (by rw [hcq, decide_eq_true (Decidable.of_not_not fun z => f28 (bI_z.mpr z)), decide_eq_true (Decidable.of_not_not fun z => t42 (bI_z.mpr z))]; rfl) hp] at hE; exact hE)
      | some j =>
        have hj := (pkk_lt hp).1
        refine AW.iload X dX11_brightest_6 rfl ?_
        first | refine AW.aload_n X dX11_brightest_8 rfl rfl ?_ | refine AW.aloadN_n X dX11_brightest_8 rfl rfl ?_
        refine AW.getR X f_X11_9_2 (by first | assumption | exact hT _ _ rfl) (by first | assumption | exact hR _ _ _ rfl) dX11_brightest_9 ?_
        refine AW.getR X f_X11_15_3 (by first | assumption | exact hT _ _ rfl) (by first | assumption | exact hR _ _ _ rfl) dX11_brightest_12 ?_
        refine AW.callV_r X (hP.lQ.size) (ci := 19) (q := (RJ2, TJ2, 3)) (by first | assumption | exact hT _ _ rfl) rfl s_X11_21_19 (by omega) (Nat.le_of_ble_eq_true rfl) rfl rfl (Nat.le_of_ble_eq_true rfl) dX11_brightest_15 ?_
        refine AW.icmp_ge X (tgt := 81) dX11_brightest_18 rfl ?_ ?_
        · intro t18
          exact absurd t18 (nI_ge (by omega) (by omega))
        · intro f18
          first | refine AW.aload_n X dX11_brightest_21 rfl rfl ?_ | refine AW.aloadN_n X dX11_brightest_21 rfl rfl ?_
          refine AW.iload_n X dX11_brightest_22 rfl rfl ?_
          refine AW.iload X dX11_brightest_23 rfl ?_
          refine AW.callV_r X (c_X3_isWay hP hL0 hN ha) (ci := 2) (q := (RX3, TX3, 9)) (by first | assumption | exact hT _ _ rfl) rfl s_X11_27_2 (by omega) (Nat.le_of_ble_eq_true rfl) rfl rfl (Nat.le_of_ble_eq_true rfl) dX11_brightest_25 ?_
          refine AW.if_eq X (tgt := 75) dX11_brightest_28 rfl ?_ ?_
          · intro t28
            refine AW.iinc5 X (v := _ + 1) dX11_brightest_75 rfl ?_
            refine AW.goto X (tgt := 6) dX11_brightest_78 rfl ?_
            rw [nI_1]
            first | (rw [pkk_no (by rw [hcq, decide_eq_false (bI_z.mp t28)]; rfl), hp] at hE; exact hE) | (rw [pkk_no (by rw [hcq, decide_eq_false (bI_z.mp f42), Bool.and_false]), hp] at hE; exact hE) | (rw [pkk_le hp (by rw [hvq, hvq]; exact Int32.not_lt.mpr t68)] at hE; exact hE) | (rw [pkk_gt (by rw [hcq, decide_eq_true (Decidable.of_not_not fun z => f28 (bI_z.mpr z)), decide_eq_true (Decidable.of_not_not fun z => t42 (bI_z.mpr z))]; rfl) hp (by rw [hvq, hvq]; exact Int32.not_le.mp f68)] at hE; exact hE)
          · intro f28
            first | refine AW.aload_n X dX11_brightest_31 rfl rfl ?_ | refine AW.aloadN_n X dX11_brightest_31 rfl rfl ?_
            refine AW.iload X dX11_brightest_32 rfl ?_
            refine AW.iload_n X dX11_brightest_34 rfl rfl ?_
            first | refine AW.aload_n X dX11_brightest_35 rfl rfl ?_ | refine AW.aloadN_n X dX11_brightest_35 rfl rfl ?_
            refine AW.getK X fk_X11_31 (by first | assumption | omega) (by first | assumption | exact hT _ _ rfl) dX11_brightest_36 ?_
            rw [k4]
            refine AW.callV_r X (c_X3_isSeen hP hL0 hN (show q < nQ N by omega) hh (fun h' hh' => hG.2 q h' (by omega) hh')) (ci := 2) (q := (RX3, TX3, 9)) (by first | assumption | exact hT _ _ rfl) rfl s_X11_37_2 (by omega) (Nat.le_of_ble_eq_true rfl) rfl rfl (Nat.le_of_ble_eq_true rfl) dX11_brightest_39 ?_
            refine AW.if_ne X (tgt := 48) dX11_brightest_42 rfl ?_ ?_
            · intro t42
              refine AW.iload X dX11_brightest_48 rfl ?_
              refine AW.iconst X (v := -1) dX11_brightest_50 rfl ?_
              refine AW.icmp_eq X (tgt := 71) dX11_brightest_51 rfl ?_ ?_
              · intro t51
                exact absurd t51 (nI_m1 (by omega))
              · intro f51
                first | refine AW.aload_n X dX11_brightest_54 rfl rfl ?_ | refine AW.aloadN_n X dX11_brightest_54 rfl rfl ?_
                refine AW.iload X dX11_brightest_55 rfl ?_
                refine AW.iload_n X dX11_brightest_57 rfl rfl ?_
                refine AW.callV_r X (c_X3_light hP hL0 hN (show q < nQ N by omega) hh (fun h' hh' => hG.2 q h' (by omega) hh')) (ci := 2) (q := (RX3, TX3, 9)) (by first | assumption | exact hT _ _ rfl) rfl s_X11_41_2 (by omega) (Nat.le_of_ble_eq_true rfl) rfl rfl (Nat.le_of_ble_eq_true rfl) dX11_brightest_58 ?_
                first | refine AW.aload_n X dX11_brightest_61 rfl rfl ?_ | refine AW.aloadN_n X dX11_brightest_61 rfl rfl ?_
                refine AW.iload X dX11_brightest_62 rfl ?_
                refine AW.iload_n X dX11_brightest_64 rfl rfl ?_
                refine AW.callV_r X (c_X3_light hP hL0 hN (show j < nQ N by omega) hh (fun h' hh' => hG.2 j h' (by omega) hh')) (ci := 2) (q := (RX3, TX3, 9)) (by first | assumption | exact hT _ _ rfl) rfl s_X11_41_2 (by omega) (Nat.le_of_ble_eq_true rfl) rfl rfl (Nat.le_of_ble_eq_true rfl) dX11_brightest_65 ?_
                refine AW.icmp_le X (tgt := 75) dX11_brightest_68 rfl ?_ ?_
                · intro t68
                  refine AW.iinc5 X (v := _ + 1) dX11_brightest_75 rfl ?_
                  refine AW.goto X (tgt := 6) dX11_brightest_78 rfl ?_
                  rw [nI_1]
                  first | (rw [pkk_no (by rw [hcq, decide_eq_false (bI_z.mp t28)]; rfl), hp] at hE; exact hE) | (rw [pkk_no (by rw [hcq, decide_eq_false (bI_z.mp f42), Bool.and_false]), hp] at hE; exact hE) | (rw [pkk_le hp (by rw [hvq, hvq]; exact Int32.not_lt.mpr t68)] at hE; exact hE) | (rw [pkk_gt (by rw [hcq, decide_eq_true (Decidable.of_not_not fun z => f28 (bI_z.mpr z)), decide_eq_true (Decidable.of_not_not fun z => t42 (bI_z.mpr z))]; rfl) hp (by rw [hvq, hvq]; exact Int32.not_le.mp f68)] at hE; exact hE)
                · intro f68
                  refine AW.iload X dX11_brightest_71 rfl ?_
                  refine AW.istore4 X dX11_brightest_73 ?_
                  refine AW.iinc5 X (v := _ + 1) dX11_brightest_75 rfl ?_
                  refine AW.goto X (tgt := 6) dX11_brightest_78 rfl ?_
                  rw [nI_1]
                  first | (rw [pkk_no (by rw [hcq, decide_eq_false (bI_z.mp t28)]; rfl), hp] at hE; exact hE) | (rw [pkk_no (by rw [hcq, decide_eq_false (bI_z.mp f42), Bool.and_false]), hp] at hE; exact hE) | (rw [pkk_le hp (by rw [hvq, hvq]; exact Int32.not_lt.mpr t68)] at hE; exact hE) | (rw [pkk_gt (by rw [hcq, decide_eq_true (Decidable.of_not_not fun z => f28 (bI_z.mpr z)), decide_eq_true (Decidable.of_not_not fun z => t42 (bI_z.mpr z))]; rfl) hp (by rw [hvq, hvq]; exact Int32.not_le.mp f68)] at hE; exact hE)
            · intro f42
              refine AW.goto X (tgt := 75) dX11_brightest_45 rfl ?_
              refine AW.iinc5 X (v := _ + 1) dX11_brightest_75 rfl ?_
              refine AW.goto X (tgt := 6) dX11_brightest_78 rfl ?_
              rw [nI_1]
              first | (rw [pkk_no (by rw [hcq, decide_eq_false (bI_z.mp t28)]; rfl), hp] at hE; exact hE) | (rw [pkk_no (by rw [hcq, decide_eq_false (bI_z.mp f42), Bool.and_false]), hp] at hE; exact hE) | (rw [pkk_le hp (by rw [hvq, hvq]; exact Int32.not_lt.mpr t68)] at hE; exact hE) | (rw [pkk_gt (by rw [hcq, decide_eq_true (Decidable.of_not_not fun z => f28 (bI_z.mpr z)), decide_eq_true (Decidable.of_not_not fun z => t42 (bI_z.mpr z))]; rfl) hp (by rw [hvq, hvq]; exact Int32.not_le.mp f68)] at hE; exact hE)
  refine AW.iconst X (v := -1) dX11_brightest_0 rfl ?_
  refine AW.istore4 X dX11_brightest_1 ?_
  refine AW.iconst X (v := 0) dX11_brightest_3 rfl ?_
  refine AW.istore5 X dX11_brightest_4 ?_
  exact lp (nQ N) 0 (by omega)
theorem c_X12_goes {s a h : Nat} (hP : PR pb T I R N) (hL : LR la pb T I R N) (hN : NOK N) (hG : LitP N la I) (hs : s < nS N) (ha : a < nQ N) (hh : h < 24) (h2 : ¬ N 314 s = 2) (h3 : ¬ N 314 s = 3) : MX12_goes 6 0 [.ref (pb + 140 + s), .ref la, .int (nI a), .int (nI h)] T I R J (qR (some (.int (nI (leg N (Lig N) (hRow N) s a h)))) T I R J) noX := by
  have k1 := (hP.s hs).1
  obtain ⟨hkx, hks, -⟩ := hN.2.2.2.1 s hs
  have hb : nat N 314 s = 0 ∨ nat N 314 s = 1 := by
    have e2 := kind_is 2 hkx hks (by omega)
    have e3 := kind_is 3 hkx hks (by omega)
    have n2 : ¬ nat N 314 s = 2 := fun z => h2 (e2 ▸ z)
    have n3 : ¬ nat N 314 s = 3 := fun z => h3 (e3 ▸ z)
    omega
  refine AMet.of (by decide) (Nat.le_of_ble_eq_true rfl) (cats1 rfl) fun cx X E => ?_
  show AW _ _ _ (_ :: _ :: _ :: _ :: []) _ _ _ _ _
  rcases hb with hb | hb
  · rw [hb] at k1
    first | refine AW.aload_n X dX12_goes_0 rfl rfl ?_ | refine AW.aloadN_n X dX12_goes_0 rfl rfl ?_
    first | refine AW.aload_n X dX12_goes_1 rfl rfl ?_ | refine AW.aloadN_n X dX12_goes_1 rfl rfl ?_
    refine AW.iload_n X dX12_goes_2 rfl rfl ?_
    refine AW.iload_n X dX12_goes_3 rfl rfl ?_
    refine AW.callU_r X (c_X11_brightest hP hL hN hG hs ha hh h2 h3) (ci := 13) (q := (RX12, TX12, 3)) (by first | assumption | exact hT _ _ rfl) rfl s_X12_7_13 (by omega) (Nat.le_of_ble_eq_true rfl) rfl rfl (Nat.le_of_ble_eq_true rfl) dX12_goes_4 ?_
    exact AW.ireturn X E ⟨rfl, rfl, rfl, rfl, rfl⟩ dX12_goes_7 
  · rw [hb] at k1
    first | refine AW.aload_n X dX12_goes_0 rfl rfl ?_ | refine AW.aloadN_n X dX12_goes_0 rfl rfl ?_
    first | refine AW.aload_n X dX12_goes_1 rfl rfl ?_ | refine AW.aloadN_n X dX12_goes_1 rfl rfl ?_
    refine AW.iload_n X dX12_goes_2 rfl rfl ?_
    refine AW.iload_n X dX12_goes_3 rfl rfl ?_
    refine AW.callU_r X (c_X11_brightest hP hL hN hG hs ha hh h2 h3) (ci := 14) (q := (RX13, TX13, 3)) (by first | assumption | exact hT _ _ rfl) rfl s_X12_7_14 (by omega) (Nat.le_of_ble_eq_true rfl) rfl rfl (Nat.le_of_ble_eq_true rfl) dX12_goes_4 ?_
    exact AW.ireturn X E ⟨rfl, rfl, rfl, rfl, rfl⟩ dX12_goes_7 
theorem c_X13_goes {s a h : Nat} (hP : PR pb T I R N) (hL : LR la pb T I R N) (hN : NOK N) (hG : LitP N la I) (hs : s < nS N) (ha : a < nQ N) (hh : h < 24) (h1 : N 314 s = 1) : MX13_goes 7 0 [.ref (pb + 140 + s), .ref la, .int (nI a), .int (nI h)] T I R J (qR (some (.int (nI (stp N (Lig N) (hRow N) s a h)))) T I R J) noX := by
  have h2 : ¬ N 314 s = 2 := by rw [h1]; decide
  have h3 : ¬ N 314 s = 3 := by rw [h1]; decide
  have k1 := (hP.s hs).1
  obtain ⟨hkx, hks, -⟩ := hN.2.2.2.1 s hs
  rw [show nat N 314 s = 1 by unfold nat; rw [h1]; rfl] at k1
  have hnq := hN.1.2.2.2.2.1
  have pT0 := hP.T0
  have prQ := hP.rQ
  have prE := hP.rE
  have prS := hP.rS
  have prM := hP.rM
  have prW := hP.rW
  have prHd := hP.rHd
  have prHf := hP.rHf
  have prHt := hP.rHt
  have ptM := hP.tM
  have ptW := hP.tW
  have ptHd := hP.tHd
  have ptHf := hP.tHf
  have ptHt := hP.tHt
  have plQ := hP.lQ.tl
  have plE := hP.lE.tl
  have plS := hP.lS.tl
  have hL0 := hL
  obtain ⟨l1, l2, -⟩ := hL
  have hl := leg_lt (L := Lig N) (Hg := hRow N) (s := s) (h := h) ha
  obtain ⟨q1, -⟩ := hP.q hl
  obtain ⟨-, hkq, -⟩ := hN.2.1 _ hl
  unfold stp
  rw [if_pos h1]
  refine AMet.of (by decide) (Nat.le_of_ble_eq_true rfl) (cats1 rfl) fun cx X E => ?_
  show AW _ _ _ (_ :: _ :: _ :: _ :: _ :: []) _ _ _ _ _
  first | refine AW.aload_n X dX13_goes_0 rfl rfl ?_ | refine AW.aloadN_n X dX13_goes_0 rfl rfl ?_
  first | refine AW.aload_n X dX13_goes_1 rfl rfl ?_ | refine AW.aloadN_n X dX13_goes_1 rfl rfl ?_
  refine AW.iload_n X dX13_goes_2 rfl rfl ?_
  refine AW.iload_n X dX13_goes_3 rfl rfl ?_
  refine AW.callP_r X (c_X12_goes hP hL0 hN hG hs ha hh h2 h3) (ci := 14) (q := (RX13, TX13, 3)) (by first | assumption | exact hT _ _ rfl) rfl s_X13_7 (by omega) (Nat.le_of_ble_eq_true rfl) rfl rfl (Nat.le_of_ble_eq_true rfl) dX13_goes_4 ?_
  refine AW.istore4 X dX13_goes_7 ?_
  first | refine AW.aload_n X dX13_goes_9 rfl rfl ?_ | refine AW.aloadN_n X dX13_goes_9 rfl rfl ?_
  refine AW.getR X f_X13_11_2 (by first | assumption | exact hT _ _ rfl) (by first | assumption | exact hR _ _ _ rfl) dX13_goes_10 ?_
  refine AW.getR X f_X13_17_3 (by first | assumption | exact hT _ _ rfl) (by first | assumption | exact hR _ _ _ rfl) dX13_goes_13 ?_
  refine AW.iload X dX13_goes_16 rfl ?_
  refine AW.callV_r X (hP.lQ.get hl (by omega)) (ci := 19) (q := (RJ2, TJ2, 3)) (by first | assumption | exact hT _ _ rfl) rfl s_X13_23_19 (by omega) (Nat.le_of_ble_eq_true rfl) rfl rfl (Nat.le_of_ble_eq_true rfl) dX13_goes_18 ?_
  refine AW.castK X (idx := 29) ck_Quay (by first | assumption | omega) (by first | assumption | exact hT _ _ rfl) q1450 dX13_goes_21 ?_
  refine v_X13_31 X rfl (by omega) q1 hkq (Nat.le_of_ble_eq_true rfl) dX13_goes_24 ?_
  rw [endF_eq hN hl]
  refine AW.if_le X (tgt := 35) dX13_goes_27 rfl ?_ ?_
  · intro t27
    rw [if_pos (by
      have h5 : endK N (leg N (Lig N) (hRow N) s a h) ≤ 2 := by unfold endK; split <;> (try split) <;> omega
      have h6 : endK N (leg N (Lig N) (hRow N) s a h) < 2 ^ 31 := by omega
      have := (nI_leI h6 (show 0 < 2 ^ 31 by omega)).mp t27
      omega)] at E
    first | refine AW.aload_n X dX13_goes_35 rfl rfl ?_ | refine AW.aloadN_n X dX13_goes_35 rfl rfl ?_
    first | refine AW.aload_n X dX13_goes_36 rfl rfl ?_ | refine AW.aloadN_n X dX13_goes_36 rfl rfl ?_
    refine AW.iload X dX13_goes_37 rfl ?_
    refine AW.iload_n X dX13_goes_39 rfl rfl ?_
    refine AW.callP_r X (c_X12_goes hP hL0 hN hG hs hl hh h2 h3) (ci := 14) (q := (RX13, TX13, 3)) (by first | assumption | exact hT _ _ rfl) rfl s_X13_7 (by omega) (Nat.le_of_ble_eq_true rfl) rfl rfl (Nat.le_of_ble_eq_true rfl) dX13_goes_40 ?_
    exact AW.ireturn X E ⟨rfl, rfl, rfl, rfl, rfl⟩ dX13_goes_43 
  · intro f27
    rw [if_neg (fun hc => f27 (by rw [hc]; exact Int32.le_refl _))] at E
    refine AW.iload X dX13_goes_30 rfl ?_
    refine AW.goto X (tgt := 43) dX13_goes_32 rfl ?_
    exact AW.ireturn X E ⟨rfl, rfl, rfl, rfl, rfl⟩ dX13_goes_43 
theorem c_X14_goes {s a h : Nat} (hP : PR pb T I R N) (hL : LR la pb T I R N) (hN : NOK N) (hM : MOKs N) (hG : LitP N la I) (ha : a < nQ N) (hh : h < 24) (h2 : N 314 s = 2) (x : Nat) : MX14_goes 5 0 [.ref x, .ref la, .int (nI a), .int (nI h)] T I R J (qR (some (.int (nI (leg N (Lig N) (hRow N) s a h)))) T I R J) noX := by
  have hnq := hN.1.2.2.2.2.1
  have pT0 := hP.T0
  have prQ := hP.rQ
  have prE := hP.rE
  have prS := hP.rS
  have prM := hP.rM
  have prW := hP.rW
  have prHd := hP.rHd
  have prHf := hP.rHf
  have prHt := hP.rHt
  have ptM := hP.tM
  have ptW := hP.tW
  have ptHd := hP.tHd
  have ptHf := hP.tHf
  have ptHt := hP.tHt
  have plQ := hP.lQ.tl
  have plE := hP.lE.tl
  have plS := hP.lS.tl
  have hL0 := hL
  obtain ⟨l1, l2, -⟩ := hL
  obtain ⟨c, hc⟩ : ∃ c, c = cnd N (Lig N) (hRow N) s a h := ⟨_, rfl⟩
  obtain ⟨v, hv⟩ : ∃ v, v = drw N (Lig N) (hRow N) s h := ⟨_, rfl⟩
  have hcq : ∀ q, c q = decide (isWy N a q) := fun q => by rw [hc]; unfold cnd; rw [if_pos h2, Bool.and_true]
  have hlt : ∀ j q, j < nQ N → q < nQ N → (v j < v q ↔ lig N (gRow N) q h < lig N (gRow N) j h) := fun j q hj hq => by
    rw [hv]; unfold drw; rw [if_pos h2, if_pos h2]
    obtain ⟨x, hx, hx2⟩ := Lig_b hN hM hj hh
    obtain ⟨y, hy, hy2⟩ := Lig_b hN hM hq hh
    rw [hx2, hy2, sub_lt_iff (by omega) (by omega)]
    unfold Lig at hx2 hy2
    rw [hx2, hy2]
  have hleg : leg N (Lig N) (hRow N) s a h = (pk c v (nQ N)).getD a := by rw [hc, hv]; rfl
  rw [hleg]
  refine AMet.of (by decide) (Nat.le_of_ble_eq_true rfl) (cats1 rfl) fun cx X E => ?_
  show AW _ _ _ (_ :: _ :: _ :: _ :: _ :: _ :: []) _ _ _ _ _
  have lp : ∀ k q, q + k = nQ N → AW cx 0 6 [.ref x, .ref la, .int (nI a), .int (nI h), .int (bst (pk c v q)), .int (nI q)] [] T I R J := by
    intro k
    induction k with
    | zero =>
      intro q hk
      obtain rfl : q = nQ N := by omega
      cases hp : pk c v (nQ N) with
      | none =>
        rw [hp] at E
        refine AW.iload X dX14_goes_6 rfl ?_
        first | refine AW.aload_n X dX14_goes_8 rfl rfl ?_ | refine AW.aloadN_n X dX14_goes_8 rfl rfl ?_
        refine AW.getR X f_X14_9_2 (by first | assumption | exact hT _ _ rfl) (by first | assumption | exact hR _ _ _ rfl) dX14_goes_9 ?_
        refine AW.getR X f_X14_15_3 (by first | assumption | exact hT _ _ rfl) (by first | assumption | exact hR _ _ _ rfl) dX14_goes_12 ?_
        refine AW.callV_r X (hP.lQ.size) (ci := 19) (q := (RJ2, TJ2, 3)) (by first | assumption | exact hT _ _ rfl) rfl s_X14_21_19 (by omega) (Nat.le_of_ble_eq_true rfl) rfl rfl (Nat.le_of_ble_eq_true rfl) dX14_goes_15 ?_
        refine AW.icmp_ge X (tgt := 64) dX14_goes_18 rfl ?_ ?_
        · intro t18
          refine AW.iload X dX14_goes_64 rfl ?_
          refine AW.iconst X (v := -1) dX14_goes_66 rfl ?_
          refine AW.icmp_ne X (tgt := 74) dX14_goes_67 rfl ?_ ?_
          · intro t67
            exact absurd rfl t67
          · intro f67
            refine AW.iload_n X dX14_goes_70 rfl rfl ?_
            refine AW.goto X (tgt := 76) dX14_goes_71 rfl ?_
            exact AW.ireturn X E ⟨rfl, rfl, rfl, rfl, rfl⟩ dX14_goes_76 
        · intro f18
          exact absurd (nI_le (by omega) (by omega)) f18
      | some j =>
        rw [hp] at E
        have hj := (pkk_lt hp).1
        refine AW.iload X dX14_goes_6 rfl ?_
        first | refine AW.aload_n X dX14_goes_8 rfl rfl ?_ | refine AW.aloadN_n X dX14_goes_8 rfl rfl ?_
        refine AW.getR X f_X14_9_2 (by first | assumption | exact hT _ _ rfl) (by first | assumption | exact hR _ _ _ rfl) dX14_goes_9 ?_
        refine AW.getR X f_X14_15_3 (by first | assumption | exact hT _ _ rfl) (by first | assumption | exact hR _ _ _ rfl) dX14_goes_12 ?_
        refine AW.callV_r X (hP.lQ.size) (ci := 19) (q := (RJ2, TJ2, 3)) (by first | assumption | exact hT _ _ rfl) rfl s_X14_21_19 (by omega) (Nat.le_of_ble_eq_true rfl) rfl rfl (Nat.le_of_ble_eq_true rfl) dX14_goes_15 ?_
        refine AW.icmp_ge X (tgt := 64) dX14_goes_18 rfl ?_ ?_
        · intro t18
          refine AW.iload X dX14_goes_64 rfl ?_
          refine AW.iconst X (v := -1) dX14_goes_66 rfl ?_
          refine AW.icmp_ne X (tgt := 74) dX14_goes_67 rfl ?_ ?_
          · intro t67
            refine AW.iload X dX14_goes_74 rfl ?_
            exact AW.ireturn X E ⟨rfl, rfl, rfl, rfl, rfl⟩ dX14_goes_76 
          · intro f67
            exact absurd f67 (nI_m1 (by omega))
        · intro f18
          exact absurd (nI_le (by omega) (by omega)) f18
    | succ k ih =>
      intro q hk
      have hE := ih (q + 1) (by omega)
      cases hp : pk c v q with
      | none =>
        refine AW.iload X dX14_goes_6 rfl ?_
        first | refine AW.aload_n X dX14_goes_8 rfl rfl ?_ | refine AW.aloadN_n X dX14_goes_8 rfl rfl ?_
        refine AW.getR X f_X14_9_2 (by first | assumption | exact hT _ _ rfl) (by first | assumption | exact hR _ _ _ rfl) dX14_goes_9 ?_
        refine AW.getR X f_X14_15_3 (by first | assumption | exact hT _ _ rfl) (by first | assumption | exact hR _ _ _ rfl) dX14_goes_12 ?_
        refine AW.callV_r X (hP.lQ.size) (ci := 19) (q := (RJ2, TJ2, 3)) (by first | assumption | exact hT _ _ rfl) rfl s_X14_21_19 (by omega) (Nat.le_of_ble_eq_true rfl) rfl rfl (Nat.le_of_ble_eq_true rfl) dX14_goes_15 ?_
        refine AW.icmp_ge X (tgt := 64) dX14_goes_18 rfl ?_ ?_
        · intro t18
          exact absurd t18 (nI_ge (by omega) (by omega))
        · intro f18
          first | refine AW.aload_n X dX14_goes_21 rfl rfl ?_ | refine AW.aloadN_n X dX14_goes_21 rfl rfl ?_
          refine AW.iload_n X dX14_goes_22 rfl rfl ?_
          refine AW.iload X dX14_goes_23 rfl ?_
          refine AW.callV_r X (c_X3_isWay hP hL0 hN ha) (ci := 2) (q := (RX3, TX3, 9)) (by first | assumption | exact hT _ _ rfl) rfl s_X14_27_2 (by omega) (Nat.le_of_ble_eq_true rfl) rfl rfl (Nat.le_of_ble_eq_true rfl) dX14_goes_25 ?_
          refine AW.if_eq X (tgt := 58) dX14_goes_28 rfl ?_ ?_
          · intro t28
            refine AW.iinc5 X (v := _ + 1) dX14_goes_58 rfl ?_
            refine AW.goto X (tgt := 6) dX14_goes_61 rfl ?_
            rw [nI_1]
            first | (rw [pkk_no (by rw [hcq, decide_eq_false (bI_z.mp t28)]), hp] at hE; exact hE) | (rw [pkk_none (by rw [hcq, decide_eq_true (Decidable.of_not_not fun z => f28 (bI_z.mpr z))]) hp] at hE; exact hE)
          · intro f28
            refine AW.iload X dX14_goes_31 rfl ?_
            refine AW.iconst X (v := -1) dX14_goes_33 rfl ?_
            refine AW.icmp_eq X (tgt := 54) dX14_goes_34 rfl ?_ ?_
            · intro t34
              refine AW.iload X dX14_goes_54 rfl ?_
              refine AW.istore4 X dX14_goes_56 ?_
              refine AW.iinc5 X (v := _ + 1) dX14_goes_58 rfl ?_
              refine AW.goto X (tgt := 6) dX14_goes_61 rfl ?_
              rw [nI_1]
              first | (rw [pkk_no (by rw [hcq, decide_eq_false (bI_z.mp t28)]), hp] at hE; exact hE) | (rw [pkk_none (by rw [hcq, decide_eq_true (Decidable.of_not_not fun z => f28 (bI_z.mpr z))]) hp] at hE; exact hE)
            · intro f34
              exact absurd rfl f34
      | some j =>
        have hj := (pkk_lt hp).1
        refine AW.iload X dX14_goes_6 rfl ?_
        first | refine AW.aload_n X dX14_goes_8 rfl rfl ?_ | refine AW.aloadN_n X dX14_goes_8 rfl rfl ?_
        refine AW.getR X f_X14_9_2 (by first | assumption | exact hT _ _ rfl) (by first | assumption | exact hR _ _ _ rfl) dX14_goes_9 ?_
        refine AW.getR X f_X14_15_3 (by first | assumption | exact hT _ _ rfl) (by first | assumption | exact hR _ _ _ rfl) dX14_goes_12 ?_
        refine AW.callV_r X (hP.lQ.size) (ci := 19) (q := (RJ2, TJ2, 3)) (by first | assumption | exact hT _ _ rfl) rfl s_X14_21_19 (by omega) (Nat.le_of_ble_eq_true rfl) rfl rfl (Nat.le_of_ble_eq_true rfl) dX14_goes_15 ?_
        refine AW.icmp_ge X (tgt := 64) dX14_goes_18 rfl ?_ ?_
        · intro t18
          exact absurd t18 (nI_ge (by omega) (by omega))
        · intro f18
          first | refine AW.aload_n X dX14_goes_21 rfl rfl ?_ | refine AW.aloadN_n X dX14_goes_21 rfl rfl ?_
          refine AW.iload_n X dX14_goes_22 rfl rfl ?_
          refine AW.iload X dX14_goes_23 rfl ?_
          refine AW.callV_r X (c_X3_isWay hP hL0 hN ha) (ci := 2) (q := (RX3, TX3, 9)) (by first | assumption | exact hT _ _ rfl) rfl s_X14_27_2 (by omega) (Nat.le_of_ble_eq_true rfl) rfl rfl (Nat.le_of_ble_eq_true rfl) dX14_goes_25 ?_
          refine AW.if_eq X (tgt := 58) dX14_goes_28 rfl ?_ ?_
          · intro t28
            refine AW.iinc5 X (v := _ + 1) dX14_goes_58 rfl ?_
            refine AW.goto X (tgt := 6) dX14_goes_61 rfl ?_
            rw [nI_1]
            first | (rw [pkk_no (by rw [hcq, decide_eq_false (bI_z.mp t28)]), hp] at hE; exact hE) | (rw [pkk_le hp (by rw [hlt _ _ (by omega) (by omega)]; exact Int32.not_lt.mpr t51)] at hE; exact hE) | (rw [pkk_gt (by rw [hcq, decide_eq_true (Decidable.of_not_not fun z => f28 (bI_z.mpr z))]) hp (by rw [hlt _ _ (by omega) (by omega)]; exact Int32.not_le.mp f51)] at hE; exact hE)
          · intro f28
            refine AW.iload X dX14_goes_31 rfl ?_
            refine AW.iconst X (v := -1) dX14_goes_33 rfl ?_
            refine AW.icmp_eq X (tgt := 54) dX14_goes_34 rfl ?_ ?_
            · intro t34
              exact absurd t34 (nI_m1 (by omega))
            · intro f34
              first | refine AW.aload_n X dX14_goes_37 rfl rfl ?_ | refine AW.aloadN_n X dX14_goes_37 rfl rfl ?_
              refine AW.iload X dX14_goes_38 rfl ?_
              refine AW.iload_n X dX14_goes_40 rfl rfl ?_
              refine AW.callV_r X (c_X3_light hP hL0 hN (show q < nQ N by omega) hh (fun h' hh' => hG.2 q h' (by omega) hh')) (ci := 2) (q := (RX3, TX3, 9)) (by first | assumption | exact hT _ _ rfl) rfl s_X14_31_2 (by omega) (Nat.le_of_ble_eq_true rfl) rfl rfl (Nat.le_of_ble_eq_true rfl) dX14_goes_41 ?_
              first | refine AW.aload_n X dX14_goes_44 rfl rfl ?_ | refine AW.aloadN_n X dX14_goes_44 rfl rfl ?_
              refine AW.iload X dX14_goes_45 rfl ?_
              refine AW.iload_n X dX14_goes_47 rfl rfl ?_
              refine AW.callV_r X (c_X3_light hP hL0 hN (show j < nQ N by omega) hh (fun h' hh' => hG.2 j h' (by omega) hh')) (ci := 2) (q := (RX3, TX3, 9)) (by first | assumption | exact hT _ _ rfl) rfl s_X14_31_2 (by omega) (Nat.le_of_ble_eq_true rfl) rfl rfl (Nat.le_of_ble_eq_true rfl) dX14_goes_48 ?_
              refine AW.icmp_ge X (tgt := 58) dX14_goes_51 rfl ?_ ?_
              · intro t51
                refine AW.iinc5 X (v := _ + 1) dX14_goes_58 rfl ?_
                refine AW.goto X (tgt := 6) dX14_goes_61 rfl ?_
                rw [nI_1]
                first | (rw [pkk_no (by rw [hcq, decide_eq_false (bI_z.mp t28)]), hp] at hE; exact hE) | (rw [pkk_le hp (by rw [hlt _ _ (by omega) (by omega)]; exact Int32.not_lt.mpr t51)] at hE; exact hE) | (rw [pkk_gt (by rw [hcq, decide_eq_true (Decidable.of_not_not fun z => f28 (bI_z.mpr z))]) hp (by rw [hlt _ _ (by omega) (by omega)]; exact Int32.not_le.mp f51)] at hE; exact hE)
              · intro f51
                refine AW.iload X dX14_goes_54 rfl ?_
                refine AW.istore4 X dX14_goes_56 ?_
                refine AW.iinc5 X (v := _ + 1) dX14_goes_58 rfl ?_
                refine AW.goto X (tgt := 6) dX14_goes_61 rfl ?_
                rw [nI_1]
                first | (rw [pkk_no (by rw [hcq, decide_eq_false (bI_z.mp t28)]), hp] at hE; exact hE) | (rw [pkk_le hp (by rw [hlt _ _ (by omega) (by omega)]; exact Int32.not_lt.mpr t51)] at hE; exact hE) | (rw [pkk_gt (by rw [hcq, decide_eq_true (Decidable.of_not_not fun z => f28 (bI_z.mpr z))]) hp (by rw [hlt _ _ (by omega) (by omega)]; exact Int32.not_le.mp f51)] at hE; exact hE)
  refine AW.iconst X (v := -1) dX14_goes_0 rfl ?_
  refine AW.istore4 X dX14_goes_1 ?_
  refine AW.iconst X (v := 0) dX14_goes_3 rfl ?_
  refine AW.istore5 X dX14_goes_4 ?_
  exact lp (nQ N) 0 (by omega)
theorem c_X15_goes {s a h : Nat} (hP : PR pb T I R N) (hL : LR la pb T I R N) (hN : NOK N) (hG : LitP N la I) (ha : a < nQ N) (hh : h < 24) (h3 : N 314 s = 3) (x : Nat) : MX15_goes 5 0 [.ref x, .ref la, .int (nI a), .int (nI h)] T I R J (qR (some (.int (nI (leg N (Lig N) (hRow N) s a h)))) T I R J) noX := by
  have hnq := hN.1.2.2.2.2.1
  have h2 : ¬ N 314 s = 2 := by rw [h3]; decide
  have hHg : ∀ q, hunQ N (I (lA la 6)) q h (nE N) = hunQ N (hRow N) q h (nE N) := fun q => hunQ_eq fun e he _ => by rw [(hG.1 e h he hh).1, hRow_at N e hh]
  have pT0 := hP.T0
  have prQ := hP.rQ
  have prE := hP.rE
  have prS := hP.rS
  have prM := hP.rM
  have prW := hP.rW
  have prHd := hP.rHd
  have prHf := hP.rHf
  have prHt := hP.rHt
  have ptM := hP.tM
  have ptW := hP.tW
  have ptHd := hP.tHd
  have ptHf := hP.tHf
  have ptHt := hP.tHt
  have plQ := hP.lQ.tl
  have plE := hP.lE.tl
  have plS := hP.lS.tl
  have hL0 := hL
  obtain ⟨l1, l2, -⟩ := hL
  obtain ⟨c, hc⟩ : ∃ c, c = cnd N (Lig N) (hRow N) s a h := ⟨_, rfl⟩
  obtain ⟨v, hv⟩ : ∃ v, v = drw N (Lig N) (hRow N) s h := ⟨_, rfl⟩
  have hcq : ∀ q, c q = (decide (isWy N a q) && decide (¬ hunQ N (hRow N) q h (nE N) = -1)) := fun q => by rw [hc]; unfold cnd; rw [if_neg h2, if_pos h3]
  have hvq : ∀ q, v q = hunQ N (hRow N) q h (nE N) := fun q => by rw [hv]; unfold drw; rw [if_neg h2, if_pos h3]
  have hleg : leg N (Lig N) (hRow N) s a h = (pk c v (nQ N)).getD a := by rw [hc, hv]; rfl
  rw [hleg]
  refine AMet.of (by decide) (Nat.le_of_ble_eq_true rfl) (cats1 rfl) fun cx X E => ?_
  show AW _ _ _ (_ :: _ :: _ :: _ :: _ :: _ :: []) _ _ _ _ _
  have lp : ∀ k q, q + k = nQ N → AW cx 0 6 [.ref x, .ref la, .int (nI a), .int (nI h), .int (bst (pk c v q)), .int (nI q)] [] T I R J := by
    intro k
    induction k with
    | zero =>
      intro q hk
      obtain rfl : q = nQ N := by omega
      cases hp : pk c v (nQ N) with
      | none =>
        rw [hp] at E
        refine AW.iload X dX15_goes_6 rfl ?_
        first | refine AW.aload_n X dX15_goes_8 rfl rfl ?_ | refine AW.aloadN_n X dX15_goes_8 rfl rfl ?_
        refine AW.getR X f_X15_9_2 (by first | assumption | exact hT _ _ rfl) (by first | assumption | exact hR _ _ _ rfl) dX15_goes_9 ?_
        refine AW.getR X f_X15_15_3 (by first | assumption | exact hT _ _ rfl) (by first | assumption | exact hR _ _ _ rfl) dX15_goes_12 ?_
        refine AW.callV_r X (hP.lQ.size) (ci := 19) (q := (RJ2, TJ2, 3)) (by first | assumption | exact hT _ _ rfl) rfl s_X15_21_19 (by omega) (Nat.le_of_ble_eq_true rfl) rfl rfl (Nat.le_of_ble_eq_true rfl) dX15_goes_15 ?_
        refine AW.icmp_ge X (tgt := 78) dX15_goes_18 rfl ?_ ?_
        · intro t18
          refine AW.iload X dX15_goes_78 rfl ?_
          refine AW.iconst X (v := -1) dX15_goes_80 rfl ?_
          refine AW.icmp_ne X (tgt := 88) dX15_goes_81 rfl ?_ ?_
          · intro t81
            exact absurd rfl t81
          · intro f81
            refine AW.iload_n X dX15_goes_84 rfl rfl ?_
            refine AW.goto X (tgt := 90) dX15_goes_85 rfl ?_
            exact AW.ireturn X E ⟨rfl, rfl, rfl, rfl, rfl⟩ dX15_goes_90 
        · intro f18
          exact absurd (nI_le (by omega) (by omega)) f18
      | some j =>
        rw [hp] at E
        have hj := (pkk_lt hp).1
        refine AW.iload X dX15_goes_6 rfl ?_
        first | refine AW.aload_n X dX15_goes_8 rfl rfl ?_ | refine AW.aloadN_n X dX15_goes_8 rfl rfl ?_
        refine AW.getR X f_X15_9_2 (by first | assumption | exact hT _ _ rfl) (by first | assumption | exact hR _ _ _ rfl) dX15_goes_9 ?_
        refine AW.getR X f_X15_15_3 (by first | assumption | exact hT _ _ rfl) (by first | assumption | exact hR _ _ _ rfl) dX15_goes_12 ?_
        refine AW.callV_r X (hP.lQ.size) (ci := 19) (q := (RJ2, TJ2, 3)) (by first | assumption | exact hT _ _ rfl) rfl s_X15_21_19 (by omega) (Nat.le_of_ble_eq_true rfl) rfl rfl (Nat.le_of_ble_eq_true rfl) dX15_goes_15 ?_
        refine AW.icmp_ge X (tgt := 78) dX15_goes_18 rfl ?_ ?_
        · intro t18
          refine AW.iload X dX15_goes_78 rfl ?_
          refine AW.iconst X (v := -1) dX15_goes_80 rfl ?_
          refine AW.icmp_ne X (tgt := 88) dX15_goes_81 rfl ?_ ?_
          · intro t81
            refine AW.iload X dX15_goes_88 rfl ?_
            exact AW.ireturn X E ⟨rfl, rfl, rfl, rfl, rfl⟩ dX15_goes_90 
          · intro f81
            exact absurd f81 (nI_m1 (by omega))
        · intro f18
          exact absurd (nI_le (by omega) (by omega)) f18
    | succ k ih =>
      intro q hk
      have hE := ih (q + 1) (by omega)
      cases hp : pk c v q with
      | none =>
        refine AW.iload X dX15_goes_6 rfl ?_
        first | refine AW.aload_n X dX15_goes_8 rfl rfl ?_ | refine AW.aloadN_n X dX15_goes_8 rfl rfl ?_
        refine AW.getR X f_X15_9_2 (by first | assumption | exact hT _ _ rfl) (by first | assumption | exact hR _ _ _ rfl) dX15_goes_9 ?_
        refine AW.getR X f_X15_15_3 (by first | assumption | exact hT _ _ rfl) (by first | assumption | exact hR _ _ _ rfl) dX15_goes_12 ?_
        refine AW.callV_r X (hP.lQ.size) (ci := 19) (q := (RJ2, TJ2, 3)) (by first | assumption | exact hT _ _ rfl) rfl s_X15_21_19 (by omega) (Nat.le_of_ble_eq_true rfl) rfl rfl (Nat.le_of_ble_eq_true rfl) dX15_goes_15 ?_
        refine AW.icmp_ge X (tgt := 78) dX15_goes_18 rfl ?_ ?_
        · intro t18
          exact absurd t18 (nI_ge (by omega) (by omega))
        · intro f18
          first | refine AW.aload_n X dX15_goes_21 rfl rfl ?_ | refine AW.aloadN_n X dX15_goes_21 rfl rfl ?_
          refine AW.iload_n X dX15_goes_22 rfl rfl ?_
          refine AW.iload X dX15_goes_23 rfl ?_
          refine AW.callV_r X (c_X3_isWay hP hL0 hN ha) (ci := 2) (q := (RX3, TX3, 9)) (by first | assumption | exact hT _ _ rfl) rfl s_X15_27_2 (by omega) (Nat.le_of_ble_eq_true rfl) rfl rfl (Nat.le_of_ble_eq_true rfl) dX15_goes_25 ?_
          refine AW.if_eq X (tgt := 72) dX15_goes_28 rfl ?_ ?_
          · intro t28
            refine AW.iinc5 X (v := _ + 1) dX15_goes_72 rfl ?_
            refine AW.goto X (tgt := 6) dX15_goes_75 rfl ?_
            rw [nI_1]
            first | (rw [pkk_no (by rw [hcq, decide_eq_false (bI_z.mp t28)]; rfl), hp] at hE; exact hE) | (rw [pkk_no (by rw [hcq, decide_eq_false (show ¬ ¬ (hunQ N (hRow N) q h (nE N) = -1) from fun z => z f39), Bool.and_false]), hp] at hE; exact hE) | (rw [pkk_none (by rw [hcq, decide_eq_true (Decidable.of_not_not fun z => f28 (bI_z.mpr z)), decide_eq_true t39]; rfl) hp] at hE; exact hE)
          · intro f28
            first | refine AW.aload_n X dX15_goes_31 rfl rfl ?_ | refine AW.aloadN_n X dX15_goes_31 rfl rfl ?_
            refine AW.iload X dX15_goes_32 rfl ?_
            refine AW.iload_n X dX15_goes_34 rfl rfl ?_
            refine AW.callV_r X (c_X3_hungry hP hL0 hN hh) (ci := 2) (q := (RX3, TX3, 9)) (by first | assumption | exact hT _ _ rfl) rfl s_X15_31_2 (by omega) (Nat.le_of_ble_eq_true rfl) rfl rfl (Nat.le_of_ble_eq_true rfl) dX15_goes_35 ?_
            rw [hHg]
            refine AW.iconst X (v := -1) dX15_goes_38 rfl ?_
            refine AW.icmp_ne X (tgt := 45) dX15_goes_39 rfl ?_ ?_
            · intro t39
              refine AW.iload X dX15_goes_45 rfl ?_
              refine AW.iconst X (v := -1) dX15_goes_47 rfl ?_
              refine AW.icmp_eq X (tgt := 68) dX15_goes_48 rfl ?_ ?_
              · intro t48
                refine AW.iload X dX15_goes_68 rfl ?_
                refine AW.istore4 X dX15_goes_70 ?_
                refine AW.iinc5 X (v := _ + 1) dX15_goes_72 rfl ?_
                refine AW.goto X (tgt := 6) dX15_goes_75 rfl ?_
                rw [nI_1]
                first | (rw [pkk_no (by rw [hcq, decide_eq_false (bI_z.mp t28)]; rfl), hp] at hE; exact hE) | (rw [pkk_no (by rw [hcq, decide_eq_false (show ¬ ¬ (hunQ N (hRow N) q h (nE N) = -1) from fun z => z f39), Bool.and_false]), hp] at hE; exact hE) | (rw [pkk_none (by rw [hcq, decide_eq_true (Decidable.of_not_not fun z => f28 (bI_z.mpr z)), decide_eq_true t39]; rfl) hp] at hE; exact hE)
              · intro f48
                exact absurd rfl f48
            · intro f39
              refine AW.goto X (tgt := 72) dX15_goes_42 rfl ?_
              refine AW.iinc5 X (v := _ + 1) dX15_goes_72 rfl ?_
              refine AW.goto X (tgt := 6) dX15_goes_75 rfl ?_
              rw [nI_1]
              first | (rw [pkk_no (by rw [hcq, decide_eq_false (bI_z.mp t28)]; rfl), hp] at hE; exact hE) | (rw [pkk_no (by rw [hcq, decide_eq_false (show ¬ ¬ (hunQ N (hRow N) q h (nE N) = -1) from fun z => z f39), Bool.and_false]), hp] at hE; exact hE) | (rw [pkk_none (by rw [hcq, decide_eq_true (Decidable.of_not_not fun z => f28 (bI_z.mpr z)), decide_eq_true t39]; rfl) hp] at hE; exact hE)
      | some j =>
        have hj := (pkk_lt hp).1
        refine AW.iload X dX15_goes_6 rfl ?_
        first | refine AW.aload_n X dX15_goes_8 rfl rfl ?_ | refine AW.aloadN_n X dX15_goes_8 rfl rfl ?_
        refine AW.getR X f_X15_9_2 (by first | assumption | exact hT _ _ rfl) (by first | assumption | exact hR _ _ _ rfl) dX15_goes_9 ?_
        refine AW.getR X f_X15_15_3 (by first | assumption | exact hT _ _ rfl) (by first | assumption | exact hR _ _ _ rfl) dX15_goes_12 ?_
        refine AW.callV_r X (hP.lQ.size) (ci := 19) (q := (RJ2, TJ2, 3)) (by first | assumption | exact hT _ _ rfl) rfl s_X15_21_19 (by omega) (Nat.le_of_ble_eq_true rfl) rfl rfl (Nat.le_of_ble_eq_true rfl) dX15_goes_15 ?_
        refine AW.icmp_ge X (tgt := 78) dX15_goes_18 rfl ?_ ?_
        · intro t18
          exact absurd t18 (nI_ge (by omega) (by omega))
        · intro f18
          first | refine AW.aload_n X dX15_goes_21 rfl rfl ?_ | refine AW.aloadN_n X dX15_goes_21 rfl rfl ?_
          refine AW.iload_n X dX15_goes_22 rfl rfl ?_
          refine AW.iload X dX15_goes_23 rfl ?_
          refine AW.callV_r X (c_X3_isWay hP hL0 hN ha) (ci := 2) (q := (RX3, TX3, 9)) (by first | assumption | exact hT _ _ rfl) rfl s_X15_27_2 (by omega) (Nat.le_of_ble_eq_true rfl) rfl rfl (Nat.le_of_ble_eq_true rfl) dX15_goes_25 ?_
          refine AW.if_eq X (tgt := 72) dX15_goes_28 rfl ?_ ?_
          · intro t28
            refine AW.iinc5 X (v := _ + 1) dX15_goes_72 rfl ?_
            refine AW.goto X (tgt := 6) dX15_goes_75 rfl ?_
            rw [nI_1]
            first | (rw [pkk_no (by rw [hcq, decide_eq_false (bI_z.mp t28)]; rfl), hp] at hE; exact hE) | (rw [pkk_no (by rw [hcq, decide_eq_false (show ¬ ¬ (hunQ N (hRow N) q h (nE N) = -1) from fun z => z f39), Bool.and_false]), hp] at hE; exact hE) | (rw [pkk_le hp (by rw [hvq, hvq]; exact Int32.not_lt.mpr t65)] at hE; exact hE) | (rw [pkk_gt (by rw [hcq, decide_eq_true (Decidable.of_not_not fun z => f28 (bI_z.mpr z)), decide_eq_true t39]; rfl) hp (by rw [hvq, hvq]; exact Int32.not_le.mp f65)] at hE; exact hE)
          · intro f28
            first | refine AW.aload_n X dX15_goes_31 rfl rfl ?_ | refine AW.aloadN_n X dX15_goes_31 rfl rfl ?_
            refine AW.iload X dX15_goes_32 rfl ?_
            refine AW.iload_n X dX15_goes_34 rfl rfl ?_
            refine AW.callV_r X (c_X3_hungry hP hL0 hN hh) (ci := 2) (q := (RX3, TX3, 9)) (by first | assumption | exact hT _ _ rfl) rfl s_X15_31_2 (by omega) (Nat.le_of_ble_eq_true rfl) rfl rfl (Nat.le_of_ble_eq_true rfl) dX15_goes_35 ?_
            rw [hHg]
            refine AW.iconst X (v := -1) dX15_goes_38 rfl ?_
            refine AW.icmp_ne X (tgt := 45) dX15_goes_39 rfl ?_ ?_
            · intro t39
              refine AW.iload X dX15_goes_45 rfl ?_
              refine AW.iconst X (v := -1) dX15_goes_47 rfl ?_
              refine AW.icmp_eq X (tgt := 68) dX15_goes_48 rfl ?_ ?_
              · intro t48
                exact absurd t48 (nI_m1 (by omega))
              · intro f48
                first | refine AW.aload_n X dX15_goes_51 rfl rfl ?_ | refine AW.aloadN_n X dX15_goes_51 rfl rfl ?_
                refine AW.iload X dX15_goes_52 rfl ?_
                refine AW.iload_n X dX15_goes_54 rfl rfl ?_
                refine AW.callV_r X (c_X3_hungry hP hL0 hN hh) (ci := 2) (q := (RX3, TX3, 9)) (by first | assumption | exact hT _ _ rfl) rfl s_X15_31_2 (by omega) (Nat.le_of_ble_eq_true rfl) rfl rfl (Nat.le_of_ble_eq_true rfl) dX15_goes_55 ?_
                first | refine AW.aload_n X dX15_goes_58 rfl rfl ?_ | refine AW.aloadN_n X dX15_goes_58 rfl rfl ?_
                refine AW.iload X dX15_goes_59 rfl ?_
                refine AW.iload_n X dX15_goes_61 rfl rfl ?_
                refine AW.callV_r X (c_X3_hungry (q := j) hP hL0 hN hh) (ci := 2) (q := (RX3, TX3, 9)) (by first | assumption | exact hT _ _ rfl) rfl s_X15_31_2 (by omega) (Nat.le_of_ble_eq_true rfl) rfl rfl (Nat.le_of_ble_eq_true rfl) dX15_goes_62 ?_
                rw [hHg, hHg]
                refine AW.icmp_le X (tgt := 72) dX15_goes_65 rfl ?_ ?_
                · intro t65
                  refine AW.iinc5 X (v := _ + 1) dX15_goes_72 rfl ?_
                  refine AW.goto X (tgt := 6) dX15_goes_75 rfl ?_
                  rw [nI_1]
                  first | (rw [pkk_no (by rw [hcq, decide_eq_false (bI_z.mp t28)]; rfl), hp] at hE; exact hE) | (rw [pkk_no (by rw [hcq, decide_eq_false (show ¬ ¬ (hunQ N (hRow N) q h (nE N) = -1) from fun z => z f39), Bool.and_false]), hp] at hE; exact hE) | (rw [pkk_le hp (by rw [hvq, hvq]; exact Int32.not_lt.mpr t65)] at hE; exact hE) | (rw [pkk_gt (by rw [hcq, decide_eq_true (Decidable.of_not_not fun z => f28 (bI_z.mpr z)), decide_eq_true t39]; rfl) hp (by rw [hvq, hvq]; exact Int32.not_le.mp f65)] at hE; exact hE)
                · intro f65
                  refine AW.iload X dX15_goes_68 rfl ?_
                  refine AW.istore4 X dX15_goes_70 ?_
                  refine AW.iinc5 X (v := _ + 1) dX15_goes_72 rfl ?_
                  refine AW.goto X (tgt := 6) dX15_goes_75 rfl ?_
                  rw [nI_1]
                  first | (rw [pkk_no (by rw [hcq, decide_eq_false (bI_z.mp t28)]; rfl), hp] at hE; exact hE) | (rw [pkk_no (by rw [hcq, decide_eq_false (show ¬ ¬ (hunQ N (hRow N) q h (nE N) = -1) from fun z => z f39), Bool.and_false]), hp] at hE; exact hE) | (rw [pkk_le hp (by rw [hvq, hvq]; exact Int32.not_lt.mpr t65)] at hE; exact hE) | (rw [pkk_gt (by rw [hcq, decide_eq_true (Decidable.of_not_not fun z => f28 (bI_z.mpr z)), decide_eq_true t39]; rfl) hp (by rw [hvq, hvq]; exact Int32.not_le.mp f65)] at hE; exact hE)
            · intro f39
              refine AW.goto X (tgt := 72) dX15_goes_42 rfl ?_
              refine AW.iinc5 X (v := _ + 1) dX15_goes_72 rfl ?_
              refine AW.goto X (tgt := 6) dX15_goes_75 rfl ?_
              rw [nI_1]
              first | (rw [pkk_no (by rw [hcq, decide_eq_false (bI_z.mp t28)]; rfl), hp] at hE; exact hE) | (rw [pkk_no (by rw [hcq, decide_eq_false (show ¬ ¬ (hunQ N (hRow N) q h (nE N) = -1) from fun z => z f39), Bool.and_false]), hp] at hE; exact hE) | (rw [pkk_le hp (by rw [hvq, hvq]; exact Int32.not_lt.mpr t65)] at hE; exact hE) | (rw [pkk_gt (by rw [hcq, decide_eq_true (Decidable.of_not_not fun z => f28 (bI_z.mpr z)), decide_eq_true t39]; rfl) hp (by rw [hvq, hvq]; exact Int32.not_le.mp f65)] at hE; exact hE)
  refine AW.iconst X (v := -1) dX15_goes_0 rfl ?_
  refine AW.istore4 X dX15_goes_1 ?_
  refine AW.iconst X (v := 0) dX15_goes_3 rfl ?_
  refine AW.istore5 X dX15_goes_4 ?_
  exact lp (nQ N) 0 (by omega)
end GOES
