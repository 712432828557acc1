/-! 07e: a port's and a lit's methods (steps printed by src/walk.py) -/
set_option maxRecDepth 100000
section LITC
variable {la pb : Nat} {T : KT} {I : KI} {R : KR} {J : KJ} {N : KI}
theorem c_X4_isHooded {e h : Nat} (hP : PR pb T I R N) (hN : NOK N) : MX4_isHooded 0 0 [.ref pb, .int (nI e), .int (nI h)] T I R J (qR (some (.int (bI (isHd N e h)))) T I R J) noX := by
  obtain ⟨h0, ⟨a1, a2, a3, a4, a5, a6, a7, a8, a9, a10, a11, a12, a13, a14, b1, b2, b3, b4, b5, b6⟩, -⟩ := hP
  have hnh := hN.1.2.2.2.1
  have hnh6 := hN.1.2.2.2.2.2.2.2
  refine AMet.of (by decide) (Nat.le_of_ble_eq_true rfl) (cats1 rfl) fun cx X E => ?_
  show AW _ _ _ (_ :: _ :: _ :: _ :: []) _ _ _ _ _
  have lp : ∀ j k, k + j = nH N → (∀ i, i < k → ¬ (N 320 i = nI e ∧ N 321 i ≤ nI h ∧ nI h ≤ N 322 i)) → AW cx 0 2 [.ref pb, .int (nI e), .int (nI h), .int (nI k)] [] T I R J := by
    intro j
    induction j with
    | zero =>
      intro k hk hno
      have hf : ¬ isHd N e h := fun ⟨i, hi, hh⟩ => hno i (by omega) hh
      rw [bI_f hf] at E
      refine AW.iload_n X dX4_isHooded_2 rfl rfl ?_
      first | refine AW.aload_n X dX4_isHooded_3 rfl rfl ?_ | refine AW.aloadN_n X dX4_isHooded_3 rfl rfl ?_
      refine AW.getI X f_X4_49_3 (by first | assumption | exact hT _ _ rfl) dX4_isHooded_4 ?_
      rw [b1, hnh]
      refine AW.icmp_ge X (tgt := 48) dX4_isHooded_7 rfl ?_ ?_
      · intro t7
        refine AW.iconst X (v := 0) dX4_isHooded_48 rfl ?_
        exact AW.ireturn X E ⟨rfl, rfl, rfl, rfl, rfl⟩ dX4_isHooded_49 
      · intro f7
        exact absurd (nI_le (by omega) (by omega)) f7
    | succ j ih =>
      intro k hk hno
      obtain ⟨c1, c2, c3⟩ := b6 k (by omega)
      have nx : ¬ (N 320 k = nI e ∧ N 321 k ≤ nI h ∧ nI h ≤ N 322 k) → AW cx 0 2 [.ref pb, .int (nI e), .int (nI h), .int (nI k + 1)] [] T I R J := fun hn => by
        rw [nI_1]
        exact ih (k + 1) (by omega) (fun i hi => by
          rcases Nat.lt_or_eq_of_le (Nat.le_of_lt_succ hi) with h | rfl
          · exact hno i h
          · exact hn)
      refine AW.iload_n X dX4_isHooded_2 rfl rfl ?_
      first | refine AW.aload_n X dX4_isHooded_3 rfl rfl ?_ | refine AW.aloadN_n X dX4_isHooded_3 rfl rfl ?_
      refine AW.getI X f_X4_49_3 (by first | assumption | exact hT _ _ rfl) dX4_isHooded_4 ?_
      rw [b1, hnh]
      refine AW.icmp_ge X (tgt := 48) dX4_isHooded_7 rfl ?_ ?_
      · intro t7
        exact absurd t7 (nI_ge (by omega) (by omega))
      · intro f7
        first | refine AW.aload_n X dX4_isHooded_10 rfl rfl ?_ | refine AW.aloadN_n X dX4_isHooded_10 rfl rfl ?_
        refine AW.getR X f_X4_40_3 (by first | assumption | exact hT _ _ rfl) (by first | assumption | exact hR _ _ _ rfl) dX4_isHooded_11 ?_
        refine AW.iload_n X dX4_isHooded_14 rfl rfl ?_
        refine AW.iald X (by first | assumption | exact hT _ _ rfl) (by repeat (first | with_reducible exact rfl | assumption | exact ix_l _ | apply ix_add | apply ix_mul)) (by omega) dX4_isHooded_15 ?_
        rw [c1]
        refine AW.iload_n X dX4_isHooded_16 rfl rfl ?_
        refine AW.icmp_ne X (tgt := 42) dX4_isHooded_17 rfl ?_ ?_
        · intro t17
          refine AW.iinc3 X (v := _ + 1) dX4_isHooded_42 rfl ?_
          refine AW.goto X (tgt := 2) dX4_isHooded_45 rfl ?_
          exact nx (by rw [c1] at *; first | exact fun hc => t17 hc.1 | exact fun hc => absurd hc.2.1 (Int32.not_le.mpr t27) | exact fun hc => absurd hc.2.2 (Int32.not_le.mpr t37))
        · intro f17
          first | refine AW.aload_n X dX4_isHooded_20 rfl rfl ?_ | refine AW.aloadN_n X dX4_isHooded_20 rfl rfl ?_
          refine AW.getR X f_X4_43_3 (by first | assumption | exact hT _ _ rfl) (by first | assumption | exact hR _ _ _ rfl) dX4_isHooded_21 ?_
          refine AW.iload_n X dX4_isHooded_24 rfl rfl ?_
          refine AW.iald X (by first | assumption | exact hT _ _ rfl) (by repeat (first | with_reducible exact rfl | assumption | exact ix_l _ | apply ix_add | apply ix_mul)) (by omega) dX4_isHooded_25 ?_
          rw [c2]
          refine AW.iload_n X dX4_isHooded_26 rfl rfl ?_
          refine AW.icmp_gt X (tgt := 42) dX4_isHooded_27 rfl ?_ ?_
          · intro t27
            refine AW.iinc3 X (v := _ + 1) dX4_isHooded_42 rfl ?_
            refine AW.goto X (tgt := 2) dX4_isHooded_45 rfl ?_
            exact nx (by rw [c1] at *; first | exact fun hc => t17 hc.1 | exact fun hc => absurd hc.2.1 (Int32.not_le.mpr t27) | exact fun hc => absurd hc.2.2 (Int32.not_le.mpr t37))
          · intro f27
            refine AW.iload_n X dX4_isHooded_30 rfl rfl ?_
            first | refine AW.aload_n X dX4_isHooded_31 rfl rfl ?_ | refine AW.aloadN_n X dX4_isHooded_31 rfl rfl ?_
            refine AW.getR X f_X4_46_3 (by first | assumption | exact hT _ _ rfl) (by first | assumption | exact hR _ _ _ rfl) dX4_isHooded_32 ?_
            refine AW.iload_n X dX4_isHooded_35 rfl rfl ?_
            refine AW.iald X (by first | assumption | exact hT _ _ rfl) (by repeat (first | with_reducible exact rfl | assumption | exact ix_l _ | apply ix_add | apply ix_mul)) (by omega) dX4_isHooded_36 ?_
            rw [c3]
            refine AW.icmp_gt X (tgt := 42) dX4_isHooded_37 rfl ?_ ?_
            · intro t37
              refine AW.iinc3 X (v := _ + 1) dX4_isHooded_42 rfl ?_
              refine AW.goto X (tgt := 2) dX4_isHooded_45 rfl ?_
              exact nx (by rw [c1] at *; first | exact fun hc => t17 hc.1 | exact fun hc => absurd hc.2.1 (Int32.not_le.mpr t27) | exact fun hc => absurd hc.2.2 (Int32.not_le.mpr t37))
            · intro f37
              rw [bI_t (⟨k, by omega, f17, Int32.not_lt.mp f27, Int32.not_lt.mp f37⟩ : isHd N e h)] at E
              refine AW.iconst X (v := 1) dX4_isHooded_40 rfl ?_
              exact AW.ireturn X E ⟨rfl, rfl, rfl, rfl, rfl⟩ dX4_isHooded_41 
  refine AW.iconst X (v := 0) dX4_isHooded_0 rfl ?_
  refine AW.istore3 X dX4_isHooded_1 ?_
  exact lp (nH N) 0 (by omega) (fun i hi => absurd hi (Nat.not_lt_zero i))
theorem c_X4_price {k : Int32} (hP : PR pb T I R N) : MX4_price 0 0 [.ref pb, .int k] T I R J (qR (some (.int (if k = 0 then N 304 4 else N 304 5))) T I R J) noX := by
  obtain ⟨h0, ⟨a1, a2, a3, a4, a5, a6, a7, a8, a9, a10, a11, a12, a13, a14, b1, b2, b3, b4, b5, b6⟩, -⟩ := hP
  refine AMet.of (by decide) (Nat.le_of_ble_eq_true rfl) (cats1 rfl) fun cx X E => ?_
  show AW _ _ _ (_ :: _ :: []) _ _ _ _ _
  refine AW.iload_n X dX4_price_0 rfl rfl ?_
  refine AW.if_ne X (tgt := 11) dX4_price_1 rfl ?_ ?_
  · intro t1
    rw [if_neg t1] at E
    first | refine AW.aload_n X dX4_price_11 rfl rfl ?_ | refine AW.aloadN_n X dX4_price_11 rfl rfl ?_
    refine AW.getI X f_X4_15_3 (by first | assumption | exact hT _ _ rfl) dX4_price_12 ?_
    rw [b3]
    exact AW.ireturn X E ⟨rfl, rfl, rfl, rfl, rfl⟩ dX4_price_15 
  · intro f1
    rw [if_pos f1] at E
    first | refine AW.aload_n X dX4_price_4 rfl rfl ?_ | refine AW.aloadN_n X dX4_price_4 rfl rfl ?_
    refine AW.getI X f_X4_9_3 (by first | assumption | exact hT _ _ rfl) dX4_price_5 ?_
    rw [b2]
    refine AW.goto X (tgt := 15) dX4_price_8 rfl ?_
    exact AW.ireturn X E ⟨rfl, rfl, rfl, rfl, rfl⟩ dX4_price_15 
/-- weights of the first n colds -/
def sumW (N : KI) : Nat → Int32
  | 0 => 0
  | n + 1 => sumW N n + N 319 n
theorem c_X4_weights (hP : PR pb T I R N) : MX4_weights 0 0 [.ref pb] T I R J (qR (some (.int (sumW N 10))) T I R J) noX := by
  obtain ⟨h0, ⟨a1, a2, a3, a4, a5, a6, a7, a8, a9, a10, a11, a12, a13, a14, b1, b2, b3, b4, b5, b6⟩, -⟩ := hP
  refine AMet.of (by decide) (Nat.le_of_ble_eq_true rfl) (cats1 rfl) fun cx X E => ?_
  show AW _ _ _ (_ :: _ :: _ :: []) _ _ _ _ _
  have lp : ∀ j k, k + j = 10 → AW cx 0 4 [.ref pb, .int (sumW N k), .int (nI k)] [] T I R J := by
    intro j
    induction j with
    | zero =>
      intro k hk
      obtain rfl : k = 10 := by omega
      refine AW.iload_n X dX4_weights_4 rfl rfl ?_
      refine AW.bipush X (v := 10) dX4_weights_5 rfl ?_
      refine AW.icmp_ge X (tgt := 25) dX4_weights_7 rfl ?_ ?_
      · intro t7
        refine AW.iload_n X dX4_weights_25 rfl rfl ?_
        exact AW.ireturn X E ⟨rfl, rfl, rfl, rfl, rfl⟩ dX4_weights_26 
      · intro f7
        exact absurd (by decide) f7
    | succ j ih =>
      intro k hk
      refine AW.iload_n X dX4_weights_4 rfl rfl ?_
      refine AW.bipush X (v := 10) dX4_weights_5 rfl ?_
      refine AW.icmp_ge X (tgt := 25) dX4_weights_7 rfl ?_ ?_
      · intro t7
        exact absurd t7 (nI_ge (a := k) (b := 10) (by omega) (by omega))
      · intro f7
        refine AW.iload_n X dX4_weights_10 rfl rfl ?_
        first | refine AW.aload_n X dX4_weights_11 rfl rfl ?_ | refine AW.aloadN_n X dX4_weights_11 rfl rfl ?_
        refine AW.getR X f_X4_37_3 (by first | assumption | exact hT _ _ rfl) (by first | assumption | exact hR _ _ _ rfl) dX4_weights_12 ?_
        refine AW.iload_n X dX4_weights_15 rfl rfl ?_
        refine AW.iald X (by first | assumption | exact hT _ _ rfl) (by repeat (first | with_reducible exact rfl | assumption | exact ix_l _ | apply ix_add | apply ix_mul)) (by omega) dX4_weights_16 ?_
        rw [b5 k (by omega)]
        refine AW.iadd X dX4_weights_17 ?_
        refine AW.istore1 X dX4_weights_18 ?_
        refine AW.iinc2 X (v := _ + 1) dX4_weights_19 rfl ?_
        refine AW.goto X (tgt := 4) dX4_weights_22 rfl ?_
        rw [nI_1]; exact ih (k + 1) (by omega)
  refine AW.iconst X (v := 0) dX4_weights_0 rfl ?_
  refine AW.istore1 X dX4_weights_1 ?_
  refine AW.iconst X (v := 0) dX4_weights_2 rfl ?_
  refine AW.istore2 X dX4_weights_3 ?_
  exact lp 10 0 rfl
theorem eatP_n {N : KI} {e h m : Nat} {p : Int32 × Int32} (hn : ¬ (N 337 m = nI e ∧ N 338 m = nI h)) : eatP N e h (m + 1) p = eatP N e h m p := if_neg hn
theorem eatP_0 {N : KI} {e h m : Nat} {p : Int32 × Int32} (h1 : N 337 m = nI e) (h2 : N 338 m = nI h) (h3 : N 339 m = 0) : (eatP N e h (m + 1) p).1 = 0 := by
  show (if N 337 m = nI e ∧ N 338 m = nI h then _ else _ : Int32 × Int32).1 = 0
  rw [if_pos ⟨h1, h2⟩]
  exact if_pos h3
theorem eatP_1 {N : KI} {e h m : Nat} {p : Int32 × Int32} (h1 : N 337 m = nI e) (h2 : N 338 m = nI h) (h3 : ¬ N 339 m = 0) : (eatP N e h (m + 1) p).1 = mx 0 ((eatP N e h m p).1 - 5) := by
  show (if N 337 m = nI e ∧ N 338 m = nI h then _ else _ : Int32 × Int32).1 = _
  rw [if_pos ⟨h1, h2⟩]
  exact if_neg h3
theorem kind_is {x : Int32} {κ : Nat} (j : Nat) (hx : x = nI κ) (hκ : κ < 4) (hj : j < 4) : (x = nI j) = (κ = j) := by
  rw [hx]; exact propext (nI_eq (by omega) (by omega))
theorem glowF_eq {N : KI} {e h κ : Nat} {v : Int32} (hx : N 309 e = nI κ) (hκ : κ < 4) : glowF κ (N 312 e) v (N 200 45) (N 318 h) = glv N e h v := by
  unfold glowF cntF glv
  simp only [show (N 309 e = 3) = (κ = 3) from kind_is 3 hx hκ (by omega), show (N 309 e = 2) = (κ = 2) from kind_is 2 hx hκ (by omega)]
def EatsP (N : KI) (la e n : Nat) (I I' : KI) : Prop := (∀ a, a ≠ lA la 6 → a ≠ lA la 7 → I' a = I a) ∧ (∀ h, h < n → I' (lA la 6) (24 * e + h) = hun N e h ∧ I' (lA la 7) (24 * e + h) = glo N e h) ∧ (∀ j, (j < 24 * e ∨ 24 * e + 24 ≤ j) → I' (lA la 6) j = I (lA la 6) j ∧ I' (lA la 7) j = I (lA la 7) j)
theorem c_X3_eats {e : Nat} (hla : 103 ≤ la ∧ la ≤ 105) (hP : PR pb T I R N) (hL : LR la pb T I R N) (hN : NOK N) (hM : MOKs N) (he : e < nE N) : MX3_eats 5 0 [.ref la, .int (nI e)] T I R J (qI (fun r I' => r = none ∧ EatsP N la e 24 I I') T R J) noX := by
  have hne := hN.1.2.2.2.2.2.1
  have hke := hN.2.2.1 e he
  have hkl : nat N 309 e < 4 := hke.2.1
  obtain ⟨k1, k2, k3, k4, k5⟩ := hP.e he
  have pT0 := hP.T0
  have prQ := hP.rQ
  have prE := hP.rE
  have prS := hP.rS
  have prM := hP.rM
  have prW := hP.rW
  have prHd := hP.rHd
  have prHf := hP.rHf
  have prHt := hP.rHt
  have ptM := hP.tM
  have ptW := hP.tW
  have ptHd := hP.tHd
  have ptHf := hP.tHf
  have ptHt := hP.tHt
  have plQ := hP.lQ.tl
  have plE := hP.lE.tl
  have plS := hP.lS.tl
  obtain ⟨l1, l2, l3, l4, l5, l6, l7, l8, l9, l10, l11, l12, l13, l14, l15, l16, l17⟩ := hL
  have hL0 : LR la pb T I R N := ⟨l1, l2, l3, l4, l5, l6, l7, l8, l9, l10, l11, l12, l13, l14, l15, l16, l17⟩
  have la6 := lA_lt hla (show 6 < 10 by omega)
  have la7 := lA_lt hla (show 7 < 10 by omega)
  have na6 : la ≠ lA la 6 := lA_la hla
  have na7 : la ≠ lA la 7 := lA_la hla
  refine AMet.of (by decide) (Nat.le_of_ble_eq_true rfl) (cats1 rfl) fun cx X E => ?_
  show AW _ _ _ (_ :: _ :: _ :: _ :: _ :: _ :: []) _ _ _ _ _
  have lp : ∀ k h (I' : KI) (v5 : Value), h + k = 24 → EatsP N la e h I I' → AW cx 0 23 [.ref la, .int (nI e), .ref (pb + 120 + e), .int (hb N e h).1, .int (nI h), v5] [] T I' R J := by
    intro k
    induction k with
    | zero =>
      intro h I' v5 hk hi
      obtain rfl : h = 24 := by omega
      refine AW.iload X dX3_eats_23 rfl ?_
      refine AW.bipush X (v := 24) dX3_eats_25 rfl ?_
      refine AW.icmp_ge X (tgt := 172) dX3_eats_27 rfl ?_ ?_
      · intro t27
        refine AW.vreturn X E ?_ dX3_eats_172
        exact ⟨rfl, rfl, rfl, rfl, hi⟩
      · intro f27
        exact absurd (by decide) f27
    | succ k ih =>
      intro h I' v5 hk hi
      have hP' : PR pb T I' R N := hP.keep fun a ha => hi.1 a (by omega) (by omega)
      have hL' : LR la pb T I' R N := hL0.keep (hi.1 _ na6 na7) (hi.1 _ (lA_ne (by omega)) (lA_ne (by omega))) (hi.1 _ (lA_ne (by omega)) (lA_ne (by omega))) (hi.1 _ (lA_ne (by omega)) (lA_ne (by omega)))
      obtain ⟨-, -, -, -, -, -, -, -, -, -, -, -, -, -, m15, m16, m17⟩ := hL'
      have inn : ∀ j m, m + j = nM N → AW cx 0 33 [.ref la, .int (nI e), .ref (pb + 120 + e), .int (eatP N e h m (hb N e h)).1, .int (nI h), .int (nI m)] [] T I' R J := by
        intro j
        induction j with
        | zero =>
          intro m hm
          obtain rfl : m = nM N := by omega
          have hu : (eatP N e h (nM N) (hb N e h)).1 = hun N e h := rfl
          rw [hu]
          have hP1 : PR pb T (w2 I' (lA la 6) (24 * e + h) (hun N e h)) R N := hP'.keep fun a ha => w2_r (by omega)
          have fin : ∀ g, g = glo N e h → AW cx 0 153 [.ref la, .int (nI e), .ref (pb + 120 + e), .int (hun N e h), .int (nI h), .int (nI (nM N))] [.int g, .int (nI 24 * nI e + nI h), .ref (lA la 7)] T (w2 I' (lA la 6) (24 * e + h) (hun N e h)) R J := by
            intro g hg
            refine AW.iast X (j := 24 * e + h) (by omega) (by first | assumption | exact hT _ _ rfl) (by repeat (first | with_reducible exact rfl | exact ix_l _ | apply ix_add | apply ix_mul)) (by omega) dX3_eats_153 ?_
            refine AW.bipush X (v := 30) dX3_eats_154 rfl ?_
            refine AW.iload_n X dX3_eats_156 rfl rfl ?_
            first | refine AW.aload_n X dX3_eats_157 rfl rfl ?_ | refine AW.aloadN_n X dX3_eats_157 rfl rfl ?_
            refine v_X3_74 X rfl (by omega) k1 hkl (Nat.le_of_ble_eq_true rfl) dX3_eats_158 ?_
            refine AW.iadd X dX3_eats_161 ?_
            refine AW.mmin X q743 (by omega) (Nat.le_of_ble_eq_true rfl) dX3_eats_162 ?_
            refine AW.istore3 X dX3_eats_165 ?_
            refine AW.iinc4 X (v := _ + 1) dX3_eats_166 rfl ?_
            refine AW.goto X (tgt := 23) dX3_eats_169 rfl ?_
            rw [nI_1, show mn2 30 (hun N e h + growF (nat N 309 e)) = (hb N e (h + 1)).1 from ?_]
            · refine ih (h + 1) _ _ (by omega) ⟨fun a h6 h7 => ?_, fun h' hh' => ?_, fun j' hj' => ?_⟩
              · rw [w2_r h7, w2_r h6]; exact hi.1 a h6 h7
              · rw [w2_n1 (lA_ne (by omega))]
                by_cases hx : h' = h
                · subst hx; rw [w2_s, w2_s, hg]; exact ⟨rfl, rfl⟩
                · rw [w2_n2 (by omega), w2_n2 (by omega), w2_n1 (lA_ne (by omega))]; exact hi.2.1 h' (by omega)
              · rw [w2_n1 (lA_ne (by omega)), w2_n2 (by omega), w2_n2 (by omega), w2_n1 (lA_ne (by omega))]; exact hi.2.2 j' hj'
            · show _ = mn2 30 ((eatP N e h (nM N) (hb N e h)).1 + grw N e)
              have hg2 : growF (nat N 309 e) = grw N e := by
                unfold growF grw
                rw [hke.1]
                simp only [show (1 : Int32) = nI 1 from rfl, nI_eq (show nat N 309 e < 2 ^ 31 by omega) (show 1 < 2 ^ 31 by omega)]
              rw [hg2]; rfl
          refine AW.iload X dX3_eats_33 rfl ?_
          first | refine AW.aload_n X dX3_eats_35 rfl rfl ?_ | refine AW.aloadN_n X dX3_eats_35 rfl rfl ?_
          refine AW.getI X f_X3_37_2 (by first | assumption | exact hT _ _ rfl) dX3_eats_36 ?_
          rw [m15, hM.1]
          refine AW.icmp_ge X (tgt := 93) dX3_eats_39 rfl ?_ ?_
          · intro t39
            first | refine AW.aload_n X dX3_eats_93 rfl rfl ?_ | refine AW.aloadN_n X dX3_eats_93 rfl rfl ?_
            refine AW.getR X f_X3_28_2 (by first | assumption | exact hT _ _ rfl) (by first | assumption | exact hR _ _ _ rfl) dX3_eats_94 ?_
            refine AW.bipush X (v := 24) dX3_eats_97 rfl ?_
            refine AW.iload_n X dX3_eats_99 rfl rfl ?_
            refine AW.imul X dX3_eats_100 ?_
            refine AW.iload X dX3_eats_101 rfl ?_
            refine AW.iadd X dX3_eats_103 ?_
            refine AW.iload_n X dX3_eats_104 rfl rfl ?_
            refine AW.iast X (j := 24 * e + h) (by omega) (by first | assumption | exact hT _ _ rfl) (by repeat (first | with_reducible exact rfl | assumption | exact ix_l _ | apply ix_add | apply ix_mul)) (by omega) dX3_eats_105 ?_
            first | refine AW.aload_n X dX3_eats_106 rfl rfl ?_ | refine AW.aloadN_n X dX3_eats_106 rfl rfl ?_
            refine AW.getR X f_X3_31_2 (by first | assumption | exact hT _ _ rfl) (by first | assumption | exact hR _ _ _ rfl) dX3_eats_107 ?_
            refine AW.bipush X (v := 24) dX3_eats_110 rfl ?_
            refine AW.iload_n X dX3_eats_112 rfl rfl ?_
            refine AW.imul X dX3_eats_113 ?_
            refine AW.iload X dX3_eats_114 rfl ?_
            refine AW.iadd X dX3_eats_116 ?_
            first | refine AW.aload_n X dX3_eats_117 rfl rfl ?_ | refine AW.aloadN_n X dX3_eats_117 rfl rfl ?_
            refine AW.getR X f_X3_12_2 (by first | assumption | exact hT _ _ rfl) (by first | assumption | exact hR _ _ _ rfl) dX3_eats_118 ?_
            refine AW.iload_n X dX3_eats_121 rfl rfl ?_
            refine AW.iload X dX3_eats_122 rfl ?_
            refine AW.callV_r X (c_X4_isHooded hP1 hN) (ci := 3) (q := (RX4, TX4, 11)) (by first | assumption | exact hT _ _ rfl) rfl s_X3_61_3 (by omega) (Nat.le_of_ble_eq_true rfl) rfl rfl (Nat.le_of_ble_eq_true rfl) dX3_eats_124 ?_
            refine AW.if_eq X (tgt := 134) dX3_eats_127 rfl ?_ ?_
            · intro t127
              have hno := bI_z.mp t127
              first | refine AW.aload_n X dX3_eats_134 rfl rfl ?_ | refine AW.aloadN_n X dX3_eats_134 rfl rfl ?_
              refine AW.iload_n X dX3_eats_135 rfl rfl ?_
              first | refine AW.aload_n X dX3_eats_136 rfl rfl ?_ | refine AW.aloadN_n X dX3_eats_136 rfl rfl ?_
              refine AW.getI X f_X3_65_2 (by first | assumption | exact hT _ _ rfl) dX3_eats_137 ?_
              rw [w2_n1 na6, m16]
              first | refine AW.aload_n X dX3_eats_140 rfl rfl ?_ | refine AW.aloadN_n X dX3_eats_140 rfl rfl ?_
              refine AW.getR X f_X3_12_2 (by first | assumption | exact hT _ _ rfl) (by first | assumption | exact hR _ _ _ rfl) dX3_eats_141 ?_
              refine AW.getR X f_X3_68_3 (by first | assumption | exact hT _ _ rfl) (by first | assumption | exact hR _ _ _ rfl) dX3_eats_144 ?_
              refine AW.iload X dX3_eats_147 rfl ?_
              refine AW.iald X (by first | assumption | exact hT _ _ rfl) (by repeat (first | with_reducible exact rfl | assumption | exact ix_l _ | apply ix_add | apply ix_mul)) (by omega) dX3_eats_149 ?_
              rw [w2_n1 (by have := hP.1; omega), hP'.moon (by omega)]
              refine v_X3_71 X rfl (by omega) k1 hkl (Nat.le_of_ble_eq_true rfl) dX3_eats_150 ?_
              first | exact fin _ (by unfold glo; rw [if_pos hyes]) | exact fin _ (by rw [w2_n1 (by have := hP.1; omega), hi.1 _ (by have := hP.1; omega) (by have := hP.1; omega), k4, glowF_eq hke.1 hkl]; unfold glo; rw [if_neg hno])
            · intro f127
              have hyes : isHd N e h := Decidable.of_not_not fun hc => f127 (bI_z.mpr hc)
              refine AW.iconst X (v := 0) dX3_eats_130 rfl ?_
              refine AW.goto X (tgt := 153) dX3_eats_131 rfl ?_
              first | exact fin _ (by unfold glo; rw [if_pos hyes]) | exact fin _ (by rw [w2_n1 (by have := hP.1; omega), hi.1 _ (by have := hP.1; omega) (by have := hP.1; omega), k4, glowF_eq hke.1 hkl]; unfold glo; rw [if_neg hno])
          · intro f39
            exact absurd (nI_le (by omega) (by have := hM.2.1; omega)) f39
        | succ j ih2 =>
          intro m hm
          obtain ⟨c1, c2, c3⟩ := m17 m (by omega)
          have hm26 := hM.2.1
          refine AW.iload X dX3_eats_33 rfl ?_
          first | refine AW.aload_n X dX3_eats_35 rfl rfl ?_ | refine AW.aloadN_n X dX3_eats_35 rfl rfl ?_
          refine AW.getI X f_X3_37_2 (by first | assumption | exact hT _ _ rfl) dX3_eats_36 ?_
          rw [m15, hM.1]
          refine AW.icmp_ge X (tgt := 93) dX3_eats_39 rfl ?_ ?_
          · intro t39
            exact absurd t39 (nI_ge (by omega) (by omega))
          · intro f39
            first | refine AW.aload_n X dX3_eats_42 rfl rfl ?_ | refine AW.aloadN_n X dX3_eats_42 rfl rfl ?_
            refine AW.getR X f_X3_18_2 (by first | assumption | exact hT _ _ rfl) (by first | assumption | exact hR _ _ _ rfl) dX3_eats_43 ?_
            refine AW.iload X dX3_eats_46 rfl ?_
            refine AW.iald X (by first | assumption | exact hT _ _ rfl) (by repeat (first | with_reducible exact rfl | assumption | exact ix_l _ | apply ix_add | apply ix_mul)) (by omega) dX3_eats_48 ?_
            rw [c1]
            refine AW.iload_n X dX3_eats_49 rfl rfl ?_
            refine AW.icmp_ne X (tgt := 87) dX3_eats_50 rfl ?_ ?_
            · intro t50
              refine AW.iinc5 X (v := _ + 1) dX3_eats_87 rfl ?_
              refine AW.goto X (tgt := 33) dX3_eats_90 rfl ?_
              rw [nI_1]
              have hE := ih2 (m + 1) (by omega)
              first | (rw [eatP_n (fun hc => t50 hc.1)] at hE; exact hE) | (rw [eatP_n (fun hc => t62 hc.2)] at hE; exact hE) | (rw [eatP_1 f50 f62 t72] at hE; exact hE) | (rw [eatP_0 f50 f62 f72] at hE; exact hE)
            · intro f50
              first | refine AW.aload_n X dX3_eats_53 rfl rfl ?_ | refine AW.aloadN_n X dX3_eats_53 rfl rfl ?_
              refine AW.getR X f_X3_22_2 (by first | assumption | exact hT _ _ rfl) (by first | assumption | exact hR _ _ _ rfl) dX3_eats_54 ?_
              refine AW.iload X dX3_eats_57 rfl ?_
              refine AW.iald X (by first | assumption | exact hT _ _ rfl) (by repeat (first | with_reducible exact rfl | assumption | exact ix_l _ | apply ix_add | apply ix_mul)) (by omega) dX3_eats_59 ?_
              rw [c2]
              refine AW.iload X dX3_eats_60 rfl ?_
              refine AW.icmp_ne X (tgt := 87) dX3_eats_62 rfl ?_ ?_
              · intro t62
                refine AW.iinc5 X (v := _ + 1) dX3_eats_87 rfl ?_
                refine AW.goto X (tgt := 33) dX3_eats_90 rfl ?_
                rw [nI_1]
                have hE := ih2 (m + 1) (by omega)
                first | (rw [eatP_n (fun hc => t50 hc.1)] at hE; exact hE) | (rw [eatP_n (fun hc => t62 hc.2)] at hE; exact hE) | (rw [eatP_1 f50 f62 t72] at hE; exact hE) | (rw [eatP_0 f50 f62 f72] at hE; exact hE)
              · intro f62
                first | refine AW.aload_n X dX3_eats_65 rfl rfl ?_ | refine AW.aloadN_n X dX3_eats_65 rfl rfl ?_
                refine AW.getR X f_X3_25_2 (by first | assumption | exact hT _ _ rfl) (by first | assumption | exact hR _ _ _ rfl) dX3_eats_66 ?_
                refine AW.iload X dX3_eats_69 rfl ?_
                refine AW.iald X (by first | assumption | exact hT _ _ rfl) (by repeat (first | with_reducible exact rfl | assumption | exact ix_l _ | apply ix_add | apply ix_mul)) (by omega) dX3_eats_71 ?_
                rw [c3]
                refine AW.if_ne X (tgt := 79) dX3_eats_72 rfl ?_ ?_
                · intro t72
                  refine AW.iconst X (v := 0) dX3_eats_79 rfl ?_
                  refine AW.iload_n X dX3_eats_80 rfl rfl ?_
                  refine AW.iconst X (v := 5) dX3_eats_81 rfl ?_
                  refine AW.isub X dX3_eats_82 ?_
                  refine AW.mmax X q701 (by omega) (Nat.le_of_ble_eq_true rfl) dX3_eats_83 ?_
                  refine AW.istore3 X dX3_eats_86 ?_
                  refine AW.iinc5 X (v := _ + 1) dX3_eats_87 rfl ?_
                  refine AW.goto X (tgt := 33) dX3_eats_90 rfl ?_
                  rw [nI_1]
                  have hE := ih2 (m + 1) (by omega)
                  first | (rw [eatP_n (fun hc => t50 hc.1)] at hE; exact hE) | (rw [eatP_n (fun hc => t62 hc.2)] at hE; exact hE) | (rw [eatP_1 f50 f62 t72] at hE; exact hE) | (rw [eatP_0 f50 f62 f72] at hE; exact hE)
                · intro f72
                  refine AW.iconst X (v := 0) dX3_eats_75 rfl ?_
                  refine AW.goto X (tgt := 86) dX3_eats_76 rfl ?_
                  refine AW.istore3 X dX3_eats_86 ?_
                  refine AW.iinc5 X (v := _ + 1) dX3_eats_87 rfl ?_
                  refine AW.goto X (tgt := 33) dX3_eats_90 rfl ?_
                  rw [nI_1]
                  have hE := ih2 (m + 1) (by omega)
                  first | (rw [eatP_n (fun hc => t50 hc.1)] at hE; exact hE) | (rw [eatP_n (fun hc => t62 hc.2)] at hE; exact hE) | (rw [eatP_1 f50 f62 t72] at hE; exact hE) | (rw [eatP_0 f50 f62 f72] at hE; exact hE)
      refine AW.iload X dX3_eats_23 rfl ?_
      refine AW.bipush X (v := 24) dX3_eats_25 rfl ?_
      refine AW.icmp_ge X (tgt := 172) dX3_eats_27 rfl ?_ ?_
      · intro t27
        exact absurd t27 (nI_ge (a := h) (b := 24) (by omega) (by omega))
      · intro f27
        refine AW.iconst X (v := 0) dX3_eats_30 rfl ?_
        refine AW.istore5 X dX3_eats_31 ?_
        exact inn (nM N) 0 (by omega)
  first | refine AW.aload_n X dX3_eats_0 rfl rfl ?_ | refine AW.aloadN_n X dX3_eats_0 rfl rfl ?_
  refine AW.getR X f_X3_12_2 (by first | assumption | exact hT _ _ rfl) (by first | assumption | exact hR _ _ _ rfl) dX3_eats_1 ?_
  refine AW.getR X f_X3_41_3 (by first | assumption | exact hT _ _ rfl) (by first | assumption | exact hR _ _ _ rfl) dX3_eats_4 ?_
  refine AW.iload_n X dX3_eats_7 rfl rfl ?_
  refine AW.callV_r X (hP.lE.get he (by omega)) (ci := 19) (q := (RJ2, TJ2, 3)) (by first | assumption | exact hT _ _ rfl) rfl s_X3_45_19 (by omega) (Nat.le_of_ble_eq_true rfl) rfl rfl (Nat.le_of_ble_eq_true rfl) dX3_eats_8 ?_
  refine AW.castK X (idx := 51) ck_Eel (by first | assumption | omega) (by first | assumption | exact hT _ _ rfl) q700 dX3_eats_11 ?_
  first | refine AW.astore2 X dX3_eats_14 ?_ | refine AW.astoreN2 X dX3_eats_14 ?_
  first | refine AW.aload_n X dX3_eats_15 rfl rfl ?_ | refine AW.aloadN_n X dX3_eats_15 rfl rfl ?_
  refine AW.getK X fk_X3_53 (by first | assumption | omega) (by first | assumption | exact hT _ _ rfl) dX3_eats_16 ?_
  rw [k5]
  refine AW.istore3 X dX3_eats_19 ?_
  refine AW.iconst X (v := 0) dX3_eats_20 rfl ?_
  refine AW.istore4 X dX3_eats_21 ?_
  exact lp 24 0 I _ rfl ⟨fun _ _ _ => rfl, fun _ h => absurd h (Nat.not_lt_zero _), fun _ _ => ⟨rfl, rfl⟩⟩
end LITC
