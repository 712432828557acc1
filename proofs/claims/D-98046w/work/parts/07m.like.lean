/-! 07m: copies of lits and books, one quay laid out (steps printed by src/walk.py) -/
set_option maxRecDepth 100000
theorem cpy_in {α : Type} {f g : Nat → α} {n k : Nat} (h : k < n) : va_cpy f g 0 0 n k = f k := by
  show (if 0 ≤ k ∧ k < 0 + n then f (0 + (k - 0)) else g k) = f k
  rw [if_pos ⟨Nat.zero_le _, by omega⟩]
  simp
section LIKE
variable {la lb pb : Nat} {T : KT} {I : KI} {R : KR} {J : KJ} {N : KI}
theorem c_X3_like (hT : XT T) (hR : XRf R) (hla : 103 ≤ la ∧ la ≤ 105) (hlb : 103 ≤ lb ∧ lb ≤ 105) (hne : la ≠ lb) (hL : LR lb pb T I R N) (hM : nM N ≤ 20) : MX3_like 1 0 [.ref la, .ref lb] T I R J (fun r T' I' R' J' => r = none ∧ T' = T ∧ J' = J ∧ R' = w2 R la 0 (some pb) ∧ (∀ a, a ≠ la → a ≠ lA la 3 → a ≠ lA la 4 → a ≠ lA la 5 → I' a = I a) ∧ LR la pb T I' R' N) noX := by
  have hA := LS_of hT hR hla
  obtain ⟨l1, l2, l3, l4, l5, l6, l7, l8, l9, l10, l11, l12, l13, l14, l15, l16, l17⟩ := hL
  obtain ⟨s1, s2, s3, s4, s5, s6, s7, s8, s9, s10, s11, s12, s13⟩ := hA
  have la3 := lA_lt hla (show 3 < 10 by omega)
  have la4 := lA_lt hla (show 4 < 10 by omega)
  have la5 := lA_lt hla (show 5 < 10 by omega)
  have lb3 := lA_lt hlb (show 3 < 10 by omega)
  have lb4 := lA_lt hlb (show 4 < 10 by omega)
  have lb5 := lA_lt hlb (show 5 < 10 by omega)
  have n3 : la ≠ lA la 3 := lA_la hla
  have n4 : la ≠ lA la 4 := lA_la hla
  have n5 : la ≠ lA la 5 := lA_la hla
  have n34 : lA la 3 ≠ lA la 4 := lA_ne (by omega)
  have n35 : lA la 3 ≠ lA la 5 := lA_ne (by omega)
  have n45 : lA la 4 ≠ lA la 5 := lA_ne (by omega)
  have hab : ∀ k j, k < 10 → j < 10 → lA lb j ≠ lA la k := fun k j hk hj => by unfold lA; omega
  have hbl : ∀ k, lA lb k ≠ la := fun k => by unfold lA; omega
  have r3 : w2 R la 0 (some pb) la 3 = some (lA la 3) := by rw [w2_n2 (by omega)]; exact s2
  have r4 : w2 R la 0 (some pb) la 4 = some (lA la 4) := by rw [w2_n2 (by omega)]; exact s3
  have r5 : w2 R la 0 (some pb) la 5 = some (lA la 5) := by rw [w2_n2 (by omega)]; exact s4
  have q3 : w2 R la 0 (some pb) lb 3 = some (lA lb 3) := by rw [w2_n1 hne.symm]; exact l3
  have q4 : w2 R la 0 (some pb) lb 4 = some (lA lb 4) := by rw [w2_n1 hne.symm]; exact l4
  have q5 : w2 R la 0 (some pb) lb 5 = some (lA lb 5) := by rw [w2_n1 hne.symm]; exact l5
  refine AMet.of (by decide) (Nat.le_of_ble_eq_true rfl) (cats1 rfl) fun cx X E => ?_
  show AW _ _ _ (_ :: _ :: []) _ _ _ _ _
  first | refine AW.aload_n X dX3_like_0 rfl rfl ?_ | refine AW.aloadN_n X dX3_like_0 rfl rfl ?_
  first | refine AW.aload_n X dX3_like_1 rfl rfl ?_ | refine AW.aloadN_n X dX3_like_1 rfl rfl ?_
  refine AW.getR X f_X3_12_2 (by first | assumption | exact hT _ _ rfl) (by first | assumption | exact hR _ _ _ rfl) dX3_like_2 ?_
  first | refine AW.putR X g_X3_like_12_2 (by omega) (by first | assumption | exact hT _ _ rfl) dX3_like_5 ?_ | refine AW.putN X g_X3_like_12_2 (by omega) (by first | assumption | exact hT _ _ rfl) dX3_like_5 ?_
  first | refine AW.aload_n X dX3_like_8 rfl rfl ?_ | refine AW.aloadN_n X dX3_like_8 rfl rfl ?_
  first | refine AW.aload_n X dX3_like_9 rfl rfl ?_ | refine AW.aloadN_n X dX3_like_9 rfl rfl ?_
  refine AW.getI X f_X3_37_2 (by first | assumption | exact hT _ _ rfl) dX3_like_10 ?_
  rw [l15]
  refine AW.putI X g_X3_like_37_2 (by omega) (by first | assumption | exact hT _ _ rfl) dX3_like_13 ?_ 
  first | refine AW.aload_n X dX3_like_16 rfl rfl ?_ | refine AW.aloadN_n X dX3_like_16 rfl rfl ?_
  first | refine AW.aload_n X dX3_like_17 rfl rfl ?_ | refine AW.aloadN_n X dX3_like_17 rfl rfl ?_
  refine AW.getI X f_X3_65_2 (by first | assumption | exact hT _ _ rfl) dX3_like_18 ?_
  rw [w2_n1 hne.symm, l16]
  refine AW.putI X g_X3_like_65_2 (by omega) (by first | assumption | exact hT _ _ rfl) dX3_like_21 ?_ 
  first | refine AW.aload_n X dX3_like_24 rfl rfl ?_ | refine AW.aloadN_n X dX3_like_24 rfl rfl ?_
  refine AW.getR X f_X3_18_2 (by first | assumption | exact hT _ _ rfl) (by first | assumption | exact hR _ _ _ rfl) dX3_like_25 ?_
  refine AW.iconst X (v := 0) dX3_like_28 rfl ?_
  first | refine AW.aload_n X dX3_like_29 rfl rfl ?_ | refine AW.aloadN_n X dX3_like_29 rfl rfl ?_
  refine AW.getR X f_X3_18_2 (by first | assumption | exact hT _ _ rfl) (by first | assumption | exact hR _ _ _ rfl) dX3_like_30 ?_
  refine AW.iconst X (v := 0) dX3_like_33 rfl ?_
  refine AW.bipush X (v := 20) dX3_like_34 rfl ?_
  refine AW.copyI X (sp := 0) (dp := 0) (n := 20) (by omega) (by omega) (by first | assumption | exact hT _ _ rfl) (by first | assumption | exact hT _ _ rfl) rfl (by decide) rfl rfl rfl (by omega) (by omega) (fun _ _ => rfl) q772 (by omega) (Nat.le_of_ble_eq_true rfl) dX3_like_36 ?_
  first | refine AW.aload_n X dX3_like_39 rfl rfl ?_ | refine AW.aloadN_n X dX3_like_39 rfl rfl ?_
  refine AW.getR X f_X3_22_2 (by first | assumption | exact hT _ _ rfl) (by first | assumption | exact hR _ _ _ rfl) dX3_like_40 ?_
  refine AW.iconst X (v := 0) dX3_like_43 rfl ?_
  first | refine AW.aload_n X dX3_like_44 rfl rfl ?_ | refine AW.aloadN_n X dX3_like_44 rfl rfl ?_
  refine AW.getR X f_X3_22_2 (by first | assumption | exact hT _ _ rfl) (by first | assumption | exact hR _ _ _ rfl) dX3_like_45 ?_
  refine AW.iconst X (v := 0) dX3_like_48 rfl ?_
  refine AW.bipush X (v := 20) dX3_like_49 rfl ?_
  refine AW.copyI X (sp := 0) (dp := 0) (n := 20) (by omega) (by omega) (by first | assumption | exact hT _ _ rfl) (by first | assumption | exact hT _ _ rfl) rfl (by decide) rfl rfl rfl (by omega) (by omega) (fun _ _ => rfl) q772 (by omega) (Nat.le_of_ble_eq_true rfl) dX3_like_51 ?_
  first | refine AW.aload_n X dX3_like_54 rfl rfl ?_ | refine AW.aloadN_n X dX3_like_54 rfl rfl ?_
  refine AW.getR X f_X3_25_2 (by first | assumption | exact hT _ _ rfl) (by first | assumption | exact hR _ _ _ rfl) dX3_like_55 ?_
  refine AW.iconst X (v := 0) dX3_like_58 rfl ?_
  first | refine AW.aload_n X dX3_like_59 rfl rfl ?_ | refine AW.aloadN_n X dX3_like_59 rfl rfl ?_
  refine AW.getR X f_X3_25_2 (by first | assumption | exact hT _ _ rfl) (by first | assumption | exact hR _ _ _ rfl) dX3_like_60 ?_
  refine AW.iconst X (v := 0) dX3_like_63 rfl ?_
  refine AW.bipush X (v := 20) dX3_like_64 rfl ?_
  refine AW.copyI X (sp := 0) (dp := 0) (n := 20) (by omega) (by omega) (by first | assumption | exact hT _ _ rfl) (by first | assumption | exact hT _ _ rfl) rfl (by decide) rfl rfl rfl (by omega) (by omega) (fun _ _ => rfl) q772 (by omega) (Nat.le_of_ble_eq_true rfl) dX3_like_66 ?_
  refine AW.vreturn X E ?_ dX3_like_69
  refine ⟨rfl, rfl, rfl, rfl, fun a a1 a2 a3 a4 => ?_, LR.mk' ⟨s1, r3, r4, r5, ?_, ?_, ?_, s8, s9, s10, s11, s12, s13⟩ (w2_s _ _ _ _) ?_ ?_ fun m hm => ⟨?_, ?_, ?_⟩⟩
  · rw [row_n a4, row_n a3, row_n a2, w2_r a1, w2_r a1]
  · rw [w2_n2 (by omega)]; exact s5
  · rw [w2_n2 (by omega)]; exact s6
  · rw [w2_n2 (by omega)]; exact s7
  · rw [row_n n5, row_n n4, row_n n3, w2_n2 (by omega), w2_s]
  · rw [row_n n5, row_n n4, row_n n3, w2_s]
  · rw [row_n n35, row_n n34, row_s, cpy_in (by omega), w2_r (hbl 3), w2_r (hbl 3)]; exact (l17 m hm).1
  · rw [row_n n45, row_s, cpy_in (by omega), row_n (hab 3 4 (by omega) (by omega)), w2_r (hbl 4), w2_r (hbl 4)]; exact (l17 m hm).2.1
  · rw [row_s, cpy_in (by omega), row_n (hab 4 5 (by omega) (by omega)), row_n (hab 3 5 (by omega) (by omega)), w2_r (hbl 5), w2_r (hbl 5)]; exact (l17 m hm).2.2
/-- one quay of a lit is laid out: the glows of its own eels, its light -/
theorem c_X3_shinesAt {q : Nat} (hla : 103 ≤ la ∧ la ≤ 105) (hP : PR pb T I R N) (hL : LR la pb T I R N) (hN : NOK N) (hM : MOKs N) (hq : q < nQ N) : MX3_shinesAt 6 0 [.ref la, .int (nI q)] T I R J (qI (fun r I' => r = none ∧ sameB la I I' ∧ ∀ h, h < 24 → I' (lA la 8) (24 * q + h) = rw_ N (gRow N) q h) T R J) noX := by
  have hne := hN.1.2.2.2.2.2.1
  have hnq := hN.1.2.2.2.2.1
  have pT0 := hP.T0
  have prQ := hP.rQ
  have prE := hP.rE
  have prS := hP.rS
  have prM := hP.rM
  have prW := hP.rW
  have prHd := hP.rHd
  have prHf := hP.rHf
  have prHt := hP.rHt
  have ptM := hP.tM
  have ptW := hP.tW
  have ptHd := hP.tHd
  have ptHf := hP.tHf
  have ptHt := hP.tHt
  have plQ := hP.lQ.tl
  have plE := hP.lE.tl
  have plS := hP.lS.tl
  have hL0 := hL
  obtain ⟨l1, l2, l3, l4, l5, l6, l7, l8, l9, l10, l11, l12, l13, l14, l15, l16, l17⟩ := hL
  have la6 := lA_lt hla (show 6 < 10 by omega)
  have la7 := lA_lt hla (show 7 < 10 by omega)
  have la8 := lA_lt hla (show 8 < 10 by omega)
  have kP : ∀ {I' : KI}, sameB la I I' → PR pb T I' R N := fun hs => hP.keep fun a ha => hs a (by omega) (by omega) (by omega)
  have kL : ∀ {I' : KI}, sameB la I I' → LR la pb T I' R N := fun hs => hL0.keep (hs _ (lA_la hla) (lA_la hla) (lA_la hla)) (hs _ (lA_ne (by omega)) (lA_ne (by omega)) (lA_ne (by omega))) (hs _ (lA_ne (by omega)) (lA_ne (by omega)) (lA_ne (by omega))) (hs _ (lA_ne (by omega)) (lA_ne (by omega)) (lA_ne (by omega)))
  refine AMet.of (by decide) (Nat.le_of_ble_eq_true rfl) (cats1 rfl) fun cx X E => ?_
  show AW _ _ _ (_ :: _ :: _ :: []) _ _ _ _ _
  have lp : ∀ k e (I' : KI), e + k = nE N → sameB la I I' → (∀ e' h, e' < e → h < 24 → N 311 e' = nI q → I' (lA la 7) (24 * e' + h) = glo N e' h) → AW cx 0 2 [.ref la, .int (nI q), .int (nI e)] [] T I' R J := by
    intro k
    induction k with
    | zero =>
      intro e I' hk hs hg
      obtain rfl : e = nE N := by omega
      refine AW.iload_n X dX3_shinesAt_2 rfl rfl ?_
      first | refine AW.aload_n X dX3_shinesAt_3 rfl rfl ?_ | refine AW.aloadN_n X dX3_shinesAt_3 rfl rfl ?_
      refine AW.getR X f_X3_12_2 (by first | assumption | exact hT _ _ rfl) (by first | assumption | exact hR _ _ _ rfl) dX3_shinesAt_4 ?_
      refine AW.getR X f_X3_41_3 (by first | assumption | exact hT _ _ rfl) (by first | assumption | exact hR _ _ _ rfl) dX3_shinesAt_7 ?_
      refine AW.callV_r X ((kP hs).lE.size) (ci := 19) (q := (RJ2, TJ2, 3)) (by first | assumption | exact hT _ _ rfl) rfl s_X3_81_19 (by omega) (Nat.le_of_ble_eq_true rfl) rfl rfl (Nat.le_of_ble_eq_true rfl) dX3_shinesAt_10 ?_
      refine AW.icmp_ge X (tgt := 48) dX3_shinesAt_13 rfl ?_ ?_
      · intro t13
        first | refine AW.aload_n X dX3_shinesAt_48 rfl rfl ?_ | refine AW.aloadN_n X dX3_shinesAt_48 rfl rfl ?_
        refine AW.iload_n X dX3_shinesAt_49 rfl rfl ?_
        refine AW.callV_i X (c_X3_shines_2 hla (kP hs) (kL hs) hN hq) (ci := 2) (q := (RX3, TX3, 9)) (by first | assumption | exact hT _ _ rfl) rfl s_X3_91_2 (by omega) (Nat.le_of_ble_eq_true rfl) rfl rfl (Nat.le_of_ble_eq_true rfl) dX3_shinesAt_50 ?_
        intro r50 I50 h50
        obtain ⟨rfl, g1, g2, g3⟩ := h50
        refine AW.vreturn X E ?_ dX3_shinesAt_53
        refine ⟨rfl, rfl, rfl, rfl, fun a h6 h7 h8 => (g1 a h8).trans (hs a h6 h7 h8), fun h hh => ?_⟩
        rw [g2 h hh]
        exact rw_eq fun e he hq' => by rw [hg e h he hh hq', gRow_at N e hh]
      · intro f13
        exact absurd (nI_le (by omega) (by omega)) f13
    | succ k ih =>
      intro e I' hk hs hg
      obtain ⟨c1, c2, c3, c4, c5⟩ := (kP hs).e (show e < nE N by omega)
      have hke := (hN.2.2.1 e (by omega)).2.1
      refine AW.iload_n X dX3_shinesAt_2 rfl rfl ?_
      first | refine AW.aload_n X dX3_shinesAt_3 rfl rfl ?_ | refine AW.aloadN_n X dX3_shinesAt_3 rfl rfl ?_
      refine AW.getR X f_X3_12_2 (by first | assumption | exact hT _ _ rfl) (by first | assumption | exact hR _ _ _ rfl) dX3_shinesAt_4 ?_
      refine AW.getR X f_X3_41_3 (by first | assumption | exact hT _ _ rfl) (by first | assumption | exact hR _ _ _ rfl) dX3_shinesAt_7 ?_
      refine AW.callV_r X ((kP hs).lE.size) (ci := 19) (q := (RJ2, TJ2, 3)) (by first | assumption | exact hT _ _ rfl) rfl s_X3_81_19 (by omega) (Nat.le_of_ble_eq_true rfl) rfl rfl (Nat.le_of_ble_eq_true rfl) dX3_shinesAt_10 ?_
      refine AW.icmp_ge X (tgt := 48) dX3_shinesAt_13 rfl ?_ ?_
      · intro t13
        exact absurd t13 (nI_ge (by omega) (by omega))
      · intro f13
        first | refine AW.aload_n X dX3_shinesAt_16 rfl rfl ?_ | refine AW.aloadN_n X dX3_shinesAt_16 rfl rfl ?_
        refine AW.getR X f_X3_12_2 (by first | assumption | exact hT _ _ rfl) (by first | assumption | exact hR _ _ _ rfl) dX3_shinesAt_17 ?_
        refine AW.getR X f_X3_41_3 (by first | assumption | exact hT _ _ rfl) (by first | assumption | exact hR _ _ _ rfl) dX3_shinesAt_20 ?_
        refine AW.iload_n X dX3_shinesAt_23 rfl rfl ?_
        refine AW.callV_r X ((kP hs).lE.get (show e < nE N by omega) (by omega)) (ci := 19) (q := (RJ2, TJ2, 3)) (by first | assumption | exact hT _ _ rfl) rfl s_X3_45_19 (by omega) (Nat.le_of_ble_eq_true rfl) rfl rfl (Nat.le_of_ble_eq_true rfl) dX3_shinesAt_24 ?_
        refine AW.castK X (idx := 51) ck_Eel (by first | assumption | omega) (by first | assumption | exact hT _ _ rfl) q700 dX3_shinesAt_27 ?_
        refine AW.getK X fk_X3_94 (by first | assumption | omega) (by first | assumption | exact hT _ _ rfl) dX3_shinesAt_30 ?_
        rw [c3]
        refine AW.iload_n X dX3_shinesAt_33 rfl rfl ?_
        refine AW.icmp_ne X (tgt := 42) dX3_shinesAt_34 rfl ?_ ?_
        · intro t34
          refine AW.iinc2 X (v := _ + 1) dX3_shinesAt_42 rfl ?_
          refine AW.goto X (tgt := 2) dX3_shinesAt_45 rfl ?_
          rw [nI_1]
          first
            | (refine ih (e + 1) I39 (by omega) (fun a h6 h7 h8 => (g1 a h6 h7).trans (hs a h6 h7 h8)) (fun e' h he' hh hq' => ?_)
               by_cases hx : e' = e
               · subst hx; exact (g2 h hh).2
               · rw [(g3 (24 * e' + h) (by omega)).2]; exact hg e' h (by omega) hh hq')
            | exact ih (e + 1) I' (by omega) hs (fun e' h he' hh hq' => by
                by_cases hx : e' = e
                · subst hx; exact absurd hq' t34
                · exact hg e' h (by omega) hh hq')
        · intro f34
          first | refine AW.aload_n X dX3_shinesAt_37 rfl rfl ?_ | refine AW.aloadN_n X dX3_shinesAt_37 rfl rfl ?_
          refine AW.iload_n X dX3_shinesAt_38 rfl rfl ?_
          refine AW.callV_i X (c_X3_eats hla (kP hs) (kL hs) hN hM (by omega)) (ci := 2) (q := (RX3, TX3, 9)) (by first | assumption | exact hT _ _ rfl) rfl s_X3_84_2 (by omega) (Nat.le_of_ble_eq_true rfl) rfl rfl (Nat.le_of_ble_eq_true rfl) dX3_shinesAt_39 ?_
          intro r39 I39 h39
          obtain ⟨rfl, g1, g2, g3⟩ := h39
          refine AW.iinc2 X (v := _ + 1) dX3_shinesAt_42 rfl ?_
          refine AW.goto X (tgt := 2) dX3_shinesAt_45 rfl ?_
          rw [nI_1]
          first
            | (refine ih (e + 1) I39 (by omega) (fun a h6 h7 h8 => (g1 a h6 h7).trans (hs a h6 h7 h8)) (fun e' h he' hh hq' => ?_)
               by_cases hx : e' = e
               · subst hx; exact (g2 h hh).2
               · rw [(g3 (24 * e' + h) (by omega)).2]; exact hg e' h (by omega) hh hq')
            | exact ih (e + 1) I' (by omega) hs (fun e' h he' hh hq' => by
                by_cases hx : e' = e
                · subst hx; exact absurd hq' t34
                · exact hg e' h (by omega) hh hq')
  refine AW.iconst X (v := 0) dX3_shinesAt_0 rfl ?_
  refine AW.istore2 X dX3_shinesAt_1 ?_
  exact lp (nE N) 0 I (by omega) (fun _ _ _ _ => rfl) (fun _ _ h => absurd h (Nat.not_lt_zero _))
/-- a book's own rows, of book ba with lit la -/
def BookS (ba bl : Nat) (T : KT) (R : KR) : Prop := T ba = (101, 0) ∧ R ba 0 = some bl ∧ R ba 1 = some (10 * (ba - 101) + 111) ∧ R ba 2 = some (10 * (ba - 101) + 112) ∧ R ba 3 = some (10 * (ba - 101) + 113) ∧ R ba 4 = some (10 * (ba - 101) + 114) ∧
  T (10 * (ba - 101) + 111) = (2, 12) ∧ T (10 * (ba - 101) + 112) = (2, 12) ∧ T (10 * (ba - 101) + 113) = (2, 12) ∧ T (10 * (ba - 101) + 114) = (2, 3)
end LIKE
