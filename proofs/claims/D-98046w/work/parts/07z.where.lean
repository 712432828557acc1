/-! 07z: where (written by src/gen07z.py and src/walk.py) -/
set_option maxRecDepth 100000
/-- the quay of eel e in case c -/
def dig (N : KI) (c e : Nat) : Nat := c / nQ N ^ (nE N - 1 - e) % nQ N
theorem nI_nle' {a b : Nat} (h : b < a) (ha : a < 2 ^ 31) : ¬ nI a ≤ nI b := fun z => by have := (nI_leI ha (by omega)).mp z; omega
section WH
variable {pb B : Nat} {T : KT} {I : KI} {R : KR} {J : KJ} {N N1 : KI}
theorem c_X1_placed {c e : Nat} (hX : XS pb T I R N) (he : e < nE N) (hc : c < 2 ^ 31) : MX1_placed 1 0 [.ref 100, .int (nI e), .int (nI c)] T I R J (qR (some (.int (nI (dig N c e)))) T I R J) noX := by
  have hX0 := hX
  obtain ⟨hT, hR, hP, hL, hN, hM, h20, hG⟩ := hX
  have hL0 := hL
  obtain ⟨l1, l2, l3, l4, l5, l6, l7, l8, l9, l10, l11, l12, l13, l14, l15, l16, l17⟩ := hL
  obtain ⟨⟨n1, n2, n3, n4, hnq, hne, hns, hnh⟩, -⟩ := id hN
  have pT0 := hP.T0
  have prQ := hP.rQ
  have prE := hP.rE
  have prS := hP.rS
  have prM := hP.rM
  have prW := hP.rW
  have prHd := hP.rHd
  have prHf := hP.rHf
  have prHt := hP.rHt
  have ptM := hP.tM
  have ptW := hP.tW
  have ptHd := hP.tHd
  have ptHf := hP.tHf
  have ptHt := hP.tHt
  have plQ := hP.lQ.tl
  have plE := hP.lE.tl
  have plS := hP.lS.tl
  have hq0 : 0 < nQ N := by have := (hN.2.2.1 e he).2.2.2.1; omega
  have hdl : ∀ i, c / nQ N ^ i < 2 ^ 31 := fun i => Nat.lt_of_le_of_lt (Nat.div_le_self _ _) hc
  refine AMet.of (by decide) (Nat.le_of_ble_eq_true rfl) (cats1 rfl) fun cx X E => ?_
  show AW _ _ _ (_ :: _ :: _ :: _ :: _ :: []) _ _ _ _ _
  have lp : ∀ j i, i + j = nE N - 1 - e → AW cx 0 19 [.ref 100, .int (nI e), .int (nI c), .int (nI (c / nQ N ^ i)), .int (nI (nE N - 1 - i))] [] T I R J := by
    intro j
    induction j with
    | zero =>
      intro i hi
      obtain rfl : i = nE N - 1 - e := by omega
      have hd := hdl (nE N - 1 - e)
      refine AW.iload X dX1_placed_19 rfl ?_
      refine AW.iload_n X dX1_placed_21 rfl rfl ?_
      refine AW.icmp_le X (tgt := 47) dX1_placed_22 rfl ?_ ?_
      · intro t22
        refine AW.iload_n X dX1_placed_47 rfl rfl ?_
        first | refine AW.aload_n X dX1_placed_48 rfl rfl ?_ | refine AW.aloadN_n X dX1_placed_48 rfl rfl ?_
        refine AW.getR X f_X1_23_0 (by first | assumption | exact hT _ _ rfl) (by first | assumption | exact hR _ _ _ rfl) dX1_placed_49 ?_
        refine AW.getR X f_X1_65_2 (by first | assumption | exact hT _ _ rfl) (by first | assumption | exact hR _ _ _ rfl) dX1_placed_52 ?_
        refine AW.getR X f_X1_69_3 (by first | assumption | exact hT _ _ rfl) (by first | assumption | exact hR _ _ _ rfl) dX1_placed_55 ?_
        refine AW.callV_r X (hP.lQ.size) (ci := 19) (q := (RJ2, TJ2, 3)) (by first | assumption | exact hT _ _ rfl) rfl s_X1_75_19 (by omega) (Nat.le_of_ble_eq_true rfl) rfl rfl (Nat.le_of_ble_eq_true rfl) dX1_placed_58 ?_
        refine AW.irem X dX1_placed_61 (nI_ne0 hq0 (by omega)) ?_
        rw [nI_rem hd (by omega)]
        exact AW.ireturn X E ⟨rfl, rfl, rfl, rfl, rfl⟩ dX1_placed_62 
      · intro f22
        exact absurd (nI_le (by omega) (by omega)) f22
    | succ j ih =>
      intro i hi
      have hE := ih (i + 1) (by omega)
      have hd := hdl i
      rw [Nat.pow_succ, ← Nat.div_div_eq_div_mul] at hE
      refine AW.iload X dX1_placed_19 rfl ?_
      refine AW.iload_n X dX1_placed_21 rfl rfl ?_
      refine AW.icmp_le X (tgt := 47) dX1_placed_22 rfl ?_ ?_
      · intro t22
        exact absurd t22 (nI_nle' (by omega) (by omega))
      · intro f22
        refine AW.iload_n X dX1_placed_25 rfl rfl ?_
        first | refine AW.aload_n X dX1_placed_26 rfl rfl ?_ | refine AW.aloadN_n X dX1_placed_26 rfl rfl ?_
        refine AW.getR X f_X1_23_0 (by first | assumption | exact hT _ _ rfl) (by first | assumption | exact hR _ _ _ rfl) dX1_placed_27 ?_
        refine AW.getR X f_X1_65_2 (by first | assumption | exact hT _ _ rfl) (by first | assumption | exact hR _ _ _ rfl) dX1_placed_30 ?_
        refine AW.getR X f_X1_69_3 (by first | assumption | exact hT _ _ rfl) (by first | assumption | exact hR _ _ _ rfl) dX1_placed_33 ?_
        refine AW.callV_r X (hP.lQ.size) (ci := 19) (q := (RJ2, TJ2, 3)) (by first | assumption | exact hT _ _ rfl) rfl s_X1_75_19 (by omega) (Nat.le_of_ble_eq_true rfl) rfl rfl (Nat.le_of_ble_eq_true rfl) dX1_placed_36 ?_
        refine AW.idiv X dX1_placed_39 (nI_ne0 hq0 (by omega)) ?_
        rw [nI_div hd (by omega)]
        refine AW.istore3 X dX1_placed_40 ?_
        refine AW.iinc4 X (v := _ + -1) dX1_placed_41 rfl ?_
        refine AW.goto X (tgt := 19) dX1_placed_44 rfl ?_
        rw [show nI (nE N - 1 - i) + -1 = nI (nE N - 1 - (i + 1)) from by rw [← Int32.sub_eq_add_neg]; exact nI_sub (c := 1) (by omega)]
        exact hE
  refine AW.iload_n X dX1_placed_0 rfl rfl ?_
  refine AW.istore3 X dX1_placed_1 ?_
  first | refine AW.aload_n X dX1_placed_2 rfl rfl ?_ | refine AW.aloadN_n X dX1_placed_2 rfl rfl ?_
  refine AW.getR X f_X1_23_0 (by first | assumption | exact hT _ _ rfl) (by first | assumption | exact hR _ _ _ rfl) dX1_placed_3 ?_
  refine AW.getR X f_X1_65_2 (by first | assumption | exact hT _ _ rfl) (by first | assumption | exact hR _ _ _ rfl) dX1_placed_6 ?_
  refine AW.getR X f_X1_87_3 (by first | assumption | exact hT _ _ rfl) (by first | assumption | exact hR _ _ _ rfl) dX1_placed_9 ?_
  refine AW.callV_r X (hP.lE.size) (ci := 19) (q := (RJ2, TJ2, 3)) (by first | assumption | exact hT _ _ rfl) rfl s_X1_75_19 (by omega) (Nat.le_of_ble_eq_true rfl) rfl rfl (Nat.le_of_ble_eq_true rfl) dX1_placed_12 ?_
  refine AW.iconst X (v := 1) dX1_placed_15 rfl ?_
  refine AW.isub X dX1_placed_16 ?_
  rw [show nI (nE N) - 1 = nI (nE N - 1) from nI_sub (c := 1) (by omega)]
  refine AW.istore4 X dX1_placed_17 ?_
  have h9 := lp (nE N - 1 - e) 0 (by omega); rw [Nat.pow_zero, Nat.div_one] at h9; exact h9
/-- the port with its eels where case c has them -/
def pN (N : KI) (c : Nat) : KI := row N 311 (fun e => nI (dig N c e))
def BK (n : Nat) (I N : KI) : Prop := I 101 5 = nI n ∧ n ≤ 12 ∧ ∀ k, k < n → I 111 k = nI (nat I 111 k) ∧ nat I 111 k < nQ N ∧ I 112 k = nI (nat I 112 k) ∧ nat I 112 k < 24
abbrev caseP (N I : KI) (n c : Nat) : Prop := ∀ k, k < n → lig (pN N c) (gRow N) (nat I 111 k) (nat I 112 k) = I 113 k
theorem c_X1_isCase {c n : Nat} (hX : XS pb T I R N) (hB : BK n I N) (hc : c < 2 ^ 31) : MX1_isCase 3 0 [.ref 100, .int (nI c)] T I R J (qR (some (.int (bI (caseP N I n c)))) T I R J) noX := by
  have hX0 := hX
  obtain ⟨hT, hR, hP, hL, hN, hM, h20, hG⟩ := hX
  have hL0 := hL
  obtain ⟨l1, l2, l3, l4, l5, l6, l7, l8, l9, l10, l11, l12, l13, l14, l15, l16, l17⟩ := hL
  obtain ⟨⟨n1, n2, n3, n4, hnq, hne, hns, hnh⟩, -⟩ := id hN
  have pT0 := hP.T0
  have prQ := hP.rQ
  have prE := hP.rE
  have prS := hP.rS
  have prM := hP.rM
  have prW := hP.rW
  have prHd := hP.rHd
  have prHf := hP.rHf
  have prHt := hP.rHt
  have ptM := hP.tM
  have ptW := hP.tW
  have ptHd := hP.tHd
  have ptHf := hP.tHf
  have ptHt := hP.tHt
  have plQ := hP.lQ.tl
  have plE := hP.lE.tl
  have plS := hP.lS.tl
  obtain ⟨hn, hn12, hbk⟩ := hB
  have p305 : pN N c 305 = N 305 := row_n (by omega)
  have p307 : pN N c 307 = N 307 := row_n (by omega)
  have pE : nE (pN N c) = nE N := nat_eq (row_n (by omega))
  refine AMet.of (by decide) (Nat.le_of_ble_eq_true rfl) (cats1 rfl) fun cx X E => ?_
  show AW _ _ _ (_ :: _ :: _ :: _ :: _ :: _ :: _ :: []) _ _ _ _ _
  have lp : ∀ j k (v3 v4 v5 v6 : Value), k + j = n → (∀ i, i < k → lig (pN N c) (gRow N) (nat I 111 i) (nat I 112 i) = I 113 i) → AW cx 0 2 [.ref 100, .int (nI c), .int (nI k), v3, v4, v5, v6] [] T I R J := by
    intro j
    induction j with
    | zero =>
      intro k v3 v4 v5 v6 hk hno
      obtain rfl : k = n := by omega
      rw [bI_t (show caseP N I k c from hno)] at E
      refine AW.iload_n X dX1_isCase_2 rfl rfl ?_
      first | refine AW.aload_n X dX1_isCase_3 rfl rfl ?_ | refine AW.aloadN_n X dX1_isCase_3 rfl rfl ?_
      refine AW.getR X f_X1_10_0 (by first | assumption | exact hT _ _ rfl) (by first | assumption | exact hR _ _ _ rfl) dX1_isCase_4 ?_
      refine AW.getI X f_X1_135_1 (by first | assumption | exact hT _ _ rfl) dX1_isCase_7 ?_
      rw [hn]
      refine AW.icmp_ge X (tgt := 162) dX1_isCase_10 rfl ?_ ?_
      · intro t10
        refine AW.iconst X (v := 1) dX1_isCase_162 rfl ?_
        exact AW.ireturn X E ⟨rfl, rfl, rfl, rfl, rfl⟩ dX1_isCase_163 
      · intro f10
        exact absurd (Int32.le_refl _) f10
    | succ j ih =>
      intro k v3 v4 v5 v6 hk hno
      obtain ⟨b1, b2, b3, b4⟩ := hbk k (by omega)
      generalize hq : nat I 111 k = q at *
      generalize hh : nat I 112 k = h at *
      obtain ⟨k1, k2, k3, k4⟩ := hP.q b2
      obtain ⟨hkx, hkq, -⟩ := hN.2.1 q b2
      have hlk : (N 305 q = 1) = (nat N 305 q = 1) := kind_is 1 hkx hkq (by omega)
      have aft : ∀ (v : Int32) (v4 v6 : Value), v * (100 - N 307 q) / 100 = lig (pN N c) (gRow N) q h → AW cx 0 129 [.ref 100, .int (nI c), .int (nI k), .ref (pb + 100 + q), v4, .int v, v6] [] T I R J := by
        intro v v4 v6 hv
        refine AW.iload X dX1_isCase_129 rfl ?_
        refine AW.bipush X (v := 100) dX1_isCase_131 rfl ?_
        first | refine AW.aload_n X dX1_isCase_133 rfl rfl ?_ | refine AW.aloadN_n X dX1_isCase_133 rfl rfl ?_
        refine AW.getK X fk_X1_170 (by first | assumption | omega) (by first | assumption | exact hT _ _ rfl) dX1_isCase_134 ?_
        rw [k2]
        refine AW.isub X dX1_isCase_137 ?_
        refine AW.imul X dX1_isCase_138 ?_
        refine AW.bipush X (v := 100) dX1_isCase_139 rfl ?_
        refine AW.idiv X dX1_isCase_141 (by decide) ?_
        rw [hv]
        first | refine AW.aload_n X dX1_isCase_142 rfl rfl ?_ | refine AW.aloadN_n X dX1_isCase_142 rfl rfl ?_
        refine AW.getR X f_X1_10_0 (by first | assumption | exact hT _ _ rfl) (by first | assumption | exact hR _ _ _ rfl) dX1_isCase_143 ?_
        refine AW.getR X f_X1_290_1 (by first | assumption | exact hT _ _ rfl) (by first | assumption | exact hR _ _ _ rfl) dX1_isCase_146 ?_
        refine AW.iload_n X dX1_isCase_149 rfl rfl ?_
        refine AW.iald X (j := k) (by first | assumption | exact hT _ _ rfl) (by repeat (first | with_reducible exact rfl | assumption | exact ix_l _ | apply ix_add | apply ix_mul)) (by omega) dX1_isCase_150 ?_
        refine AW.icmp_eq X (tgt := 156) dX1_isCase_151 rfl ?_ ?_
        · intro t151
          refine AW.iinc2 X (v := _ + 1) dX1_isCase_156 rfl ?_
          refine AW.goto X (tgt := 2) dX1_isCase_159 rfl ?_
          rw [nI_1]
          exact ih (k + 1) _ _ _ _ (by omega) (fun i hi => by
            rcases Nat.lt_or_eq_of_le (Nat.le_of_lt_succ hi) with hl | rfl
            · exact hno i hl
            · rw [hq, hh]; exact t151)
        · intro f151
          rw [bI_f (show ¬ caseP N I n c from fun z => f151 (by have := z k (by omega); rw [hq, hh] at this; exact this))] at E
          refine AW.iconst X (v := 0) dX1_isCase_154 rfl ?_
          exact AW.ireturn X E ⟨rfl, rfl, rfl, rfl, rfl⟩ dX1_isCase_155 
      have hcs : (litF (nat N 305 q) (nI h) = -1 ∧ lig (pN N c) (gRow N) q h = 0) ∨ ∃ h', litF (nat N 305 q) (nI h) = nI h' ∧ h' < 24 ∧ lig (pN N c) (gRow N) q h = rw_ (pN N c) (gRow N) q h' := by
        unfold litF lig
        simp only [p305, hlk]
        by_cases h1 : nat N 305 q = 1
        · rw [if_pos h1, if_pos h1]
          by_cases h0 : h = 0
          · exact Or.inl ⟨by rw [h0]; rfl, by rw [if_pos h0]⟩
          · exact Or.inr ⟨h - 1, nI_sub (c := 1) (by omega), by omega, by rw [if_neg h0]⟩
        · rw [if_neg h1, if_neg h1]
          exact Or.inr ⟨h, rfl, b4, rfl⟩
      rcases hcs with ⟨hl, hz⟩ | ⟨h', hl, hh', hz⟩
      · skip
        refine AW.iload_n X dX1_isCase_2 rfl rfl ?_
        first | refine AW.aload_n X dX1_isCase_3 rfl rfl ?_ | refine AW.aloadN_n X dX1_isCase_3 rfl rfl ?_
        refine AW.getR X f_X1_10_0 (by first | assumption | exact hT _ _ rfl) (by first | assumption | exact hR _ _ _ rfl) dX1_isCase_4 ?_
        refine AW.getI X f_X1_135_1 (by first | assumption | exact hT _ _ rfl) dX1_isCase_7 ?_
        rw [hn]
        refine AW.icmp_ge X (tgt := 162) dX1_isCase_10 rfl ?_ ?_
        · intro t10
          exact absurd t10 (nI_ge (by omega) (by omega))
        · intro f10
          first | refine AW.aload_n X dX1_isCase_13 rfl rfl ?_ | refine AW.aloadN_n X dX1_isCase_13 rfl rfl ?_
          refine AW.getR X f_X1_23_0 (by first | assumption | exact hT _ _ rfl) (by first | assumption | exact hR _ _ _ rfl) dX1_isCase_14 ?_
          refine AW.getR X f_X1_65_2 (by first | assumption | exact hT _ _ rfl) (by first | assumption | exact hR _ _ _ rfl) dX1_isCase_17 ?_
          refine AW.getR X f_X1_69_3 (by first | assumption | exact hT _ _ rfl) (by first | assumption | exact hR _ _ _ rfl) dX1_isCase_20 ?_
          first | refine AW.aload_n X dX1_isCase_23 rfl rfl ?_ | refine AW.aloadN_n X dX1_isCase_23 rfl rfl ?_
          refine AW.getR X f_X1_10_0 (by first | assumption | exact hT _ _ rfl) (by first | assumption | exact hR _ _ _ rfl) dX1_isCase_24 ?_
          refine AW.getR X f_X1_287_1 (by first | assumption | exact hT _ _ rfl) (by first | assumption | exact hR _ _ _ rfl) dX1_isCase_27 ?_
          refine AW.iload_n X dX1_isCase_30 rfl rfl ?_
          refine AW.iald X (j := k) (by first | assumption | exact hT _ _ rfl) (by repeat (first | with_reducible exact rfl | assumption | exact ix_l _ | apply ix_add | apply ix_mul)) (by omega) dX1_isCase_31 ?_
          rw [b1]
          refine AW.callV_r X (hP.lQ.get b2 (by omega)) (ci := 19) (q := (RJ2, TJ2, 3)) (by first | assumption | exact hT _ _ rfl) rfl s_X1_81_19 (by omega) (Nat.le_of_ble_eq_true rfl) rfl rfl (Nat.le_of_ble_eq_true rfl) dX1_isCase_32 ?_
          refine AW.castK X (idx := 85) ck_Quay (by first | assumption | omega) (by first | assumption | exact hT _ _ rfl) q1255 dX1_isCase_35 ?_
          first | refine AW.astore3 X dX1_isCase_38 ?_ | refine AW.astoreN3 X dX1_isCase_38 ?_
          first | refine AW.aload_n X dX1_isCase_39 rfl rfl ?_ | refine AW.aloadN_n X dX1_isCase_39 rfl rfl ?_
          first | refine AW.aload_n X dX1_isCase_40 rfl rfl ?_ | refine AW.aloadN_n X dX1_isCase_40 rfl rfl ?_
          refine AW.getR X f_X1_10_0 (by first | assumption | exact hT _ _ rfl) (by first | assumption | exact hR _ _ _ rfl) dX1_isCase_41 ?_
          refine AW.getR X f_X1_289_1 (by first | assumption | exact hT _ _ rfl) (by first | assumption | exact hR _ _ _ rfl) dX1_isCase_44 ?_
          refine AW.iload_n X dX1_isCase_47 rfl rfl ?_
          refine AW.iald X (j := k) (by first | assumption | exact hT _ _ rfl) (by repeat (first | with_reducible exact rfl | assumption | exact ix_l _ | apply ix_add | apply ix_mul)) (by omega) dX1_isCase_48 ?_
          rw [b3]
          refine v_X1_292 X rfl (by omega) k1 hkq (Nat.le_of_ble_eq_true rfl) dX1_isCase_49 ?_
          rw [hl]
          refine AW.istore4 X dX1_isCase_52 ?_
          refine AW.iconst X (v := 0) dX1_isCase_54 rfl ?_
          refine AW.istore5 X dX1_isCase_55 ?_
          refine AW.iconst X (v := 0) dX1_isCase_57 rfl ?_
          refine AW.istore6 X dX1_isCase_58 ?_
          refine AW.iload X dX1_isCase_60 rfl ?_
          first | refine AW.aload_n X dX1_isCase_62 rfl rfl ?_ | refine AW.aloadN_n X dX1_isCase_62 rfl rfl ?_
          refine AW.getR X f_X1_23_0 (by first | assumption | exact hT _ _ rfl) (by first | assumption | exact hR _ _ _ rfl) dX1_isCase_63 ?_
          refine AW.getR X f_X1_65_2 (by first | assumption | exact hT _ _ rfl) (by first | assumption | exact hR _ _ _ rfl) dX1_isCase_66 ?_
          refine AW.getR X f_X1_87_3 (by first | assumption | exact hT _ _ rfl) (by first | assumption | exact hR _ _ _ rfl) dX1_isCase_69 ?_
          refine AW.callV_r X (hP.lE.size) (ci := 19) (q := (RJ2, TJ2, 3)) (by first | assumption | exact hT _ _ rfl) rfl s_X1_75_19 (by omega) (Nat.le_of_ble_eq_true rfl) rfl rfl (Nat.le_of_ble_eq_true rfl) dX1_isCase_72 ?_
          refine AW.icmp_ge X (tgt := 129) dX1_isCase_75 rfl ?_ ?_
          · intro t75
            exact aft 0 _ _ (by rw [hz, Int32.zero_mul]; rfl)
          · intro f75
            refine AW.iload X dX1_isCase_78 rfl ?_
            refine AW.if_lt X (tgt := 129) dX1_isCase_80 rfl ?_ ?_
            · intro t80
              exact aft 0 _ _ (by rw [hz, Int32.zero_mul]; rfl)
            · intro f80
              exact absurd (by decide) f80
      · have inn : ∀ i e, e + i = nE N → AW cx 0 60 [.ref 100, .int (nI c), .int (nI k), .ref (pb + 100 + q), .int (nI h'), .int (sumG (pN N c) (gRow N) q h' e), .int (nI e)] [] T I R J := by
          intro i
          induction i with
          | zero =>
            intro e he
            obtain rfl : e = nE N := by omega
            refine AW.iload X dX1_isCase_60 rfl ?_
            first | refine AW.aload_n X dX1_isCase_62 rfl rfl ?_ | refine AW.aloadN_n X dX1_isCase_62 rfl rfl ?_
            refine AW.getR X f_X1_23_0 (by first | assumption | exact hT _ _ rfl) (by first | assumption | exact hR _ _ _ rfl) dX1_isCase_63 ?_
            refine AW.getR X f_X1_65_2 (by first | assumption | exact hT _ _ rfl) (by first | assumption | exact hR _ _ _ rfl) dX1_isCase_66 ?_
            refine AW.getR X f_X1_87_3 (by first | assumption | exact hT _ _ rfl) (by first | assumption | exact hR _ _ _ rfl) dX1_isCase_69 ?_
            refine AW.callV_r X (hP.lE.size) (ci := 19) (q := (RJ2, TJ2, 3)) (by first | assumption | exact hT _ _ rfl) rfl s_X1_75_19 (by omega) (Nat.le_of_ble_eq_true rfl) rfl rfl (Nat.le_of_ble_eq_true rfl) dX1_isCase_72 ?_
            refine AW.icmp_ge X (tgt := 129) dX1_isCase_75 rfl ?_ ?_
            · intro t75
              exact aft _ _ _ (by rw [hz]; unfold rw_; rw [pE, p307])
            · intro f75
              exact absurd (Int32.le_refl _) f75
          | succ i ih2 =>
            intro e he
            have hE := ih2 (e + 1) (by omega)
            unfold sumG at hE
            have hcc : pN N c 311 e = nI (dig N c e) := by unfold pN; rw [row_s]
            rw [hcc] at hE
            refine AW.iload X dX1_isCase_60 rfl ?_
            first | refine AW.aload_n X dX1_isCase_62 rfl rfl ?_ | refine AW.aloadN_n X dX1_isCase_62 rfl rfl ?_
            refine AW.getR X f_X1_23_0 (by first | assumption | exact hT _ _ rfl) (by first | assumption | exact hR _ _ _ rfl) dX1_isCase_63 ?_
            refine AW.getR X f_X1_65_2 (by first | assumption | exact hT _ _ rfl) (by first | assumption | exact hR _ _ _ rfl) dX1_isCase_66 ?_
            refine AW.getR X f_X1_87_3 (by first | assumption | exact hT _ _ rfl) (by first | assumption | exact hR _ _ _ rfl) dX1_isCase_69 ?_
            refine AW.callV_r X (hP.lE.size) (ci := 19) (q := (RJ2, TJ2, 3)) (by first | assumption | exact hT _ _ rfl) rfl s_X1_75_19 (by omega) (Nat.le_of_ble_eq_true rfl) rfl rfl (Nat.le_of_ble_eq_true rfl) dX1_isCase_72 ?_
            refine AW.icmp_ge X (tgt := 129) dX1_isCase_75 rfl ?_ ?_
            · intro t75
              exact absurd t75 (nI_ge (by omega) (by omega))
            · intro f75
              refine AW.iload X dX1_isCase_78 rfl ?_
              refine AW.if_lt X (tgt := 129) dX1_isCase_80 rfl ?_ ?_
              · intro t80
                exact absurd t80 (nI_pos (by omega))
              · intro f80
                first | refine AW.aload_n X dX1_isCase_83 rfl rfl ?_ | refine AW.aloadN_n X dX1_isCase_83 rfl rfl ?_
                refine AW.iload X dX1_isCase_84 rfl ?_
                refine AW.iload_n X dX1_isCase_86 rfl rfl ?_
                refine AW.callV_r X (c_X1_placed hX0 (show e < nE N by omega) hc) (ci := 0) (q := (RX1, TX1, 14)) (by first | assumption | exact hT _ _ rfl) rfl s_X1_294_0 (by omega) (Nat.le_of_ble_eq_true rfl) rfl rfl (Nat.le_of_ble_eq_true rfl) dX1_isCase_87 ?_
                first | refine AW.aload_n X dX1_isCase_90 rfl rfl ?_ | refine AW.aloadN_n X dX1_isCase_90 rfl rfl ?_
                refine AW.getR X f_X1_10_0 (by first | assumption | exact hT _ _ rfl) (by first | assumption | exact hR _ _ _ rfl) dX1_isCase_91 ?_
                refine AW.getR X f_X1_287_1 (by first | assumption | exact hT _ _ rfl) (by first | assumption | exact hR _ _ _ rfl) dX1_isCase_94 ?_
                refine AW.iload_n X dX1_isCase_97 rfl rfl ?_
                refine AW.iald X (j := k) (by first | assumption | exact hT _ _ rfl) (by repeat (first | with_reducible exact rfl | assumption | exact ix_l _ | apply ix_add | apply ix_mul)) (by omega) dX1_isCase_98 ?_
                rw [b1]
                refine AW.icmp_ne X (tgt := 123) dX1_isCase_99 rfl ?_ ?_
                · intro t99
                  rw [if_neg t99] at hE
                  refine AW.iinc6 X (v := _ + 1) dX1_isCase_123 rfl ?_
                  refine AW.goto X (tgt := 60) dX1_isCase_126 rfl ?_
                  rw [nI_1]; exact hE
                · intro f99
                  rw [if_pos f99] at hE
                  refine AW.iload X dX1_isCase_102 rfl ?_
                  first | refine AW.aload_n X dX1_isCase_104 rfl rfl ?_ | refine AW.aloadN_n X dX1_isCase_104 rfl rfl ?_
                  refine AW.getR X f_X1_23_0 (by first | assumption | exact hT _ _ rfl) (by first | assumption | exact hR _ _ _ rfl) dX1_isCase_105 ?_
                  refine AW.getR X f_X1_213_2 (by first | assumption | exact hT _ _ rfl) (by first | assumption | exact hR _ _ _ rfl) dX1_isCase_108 ?_
                  refine AW.bipush X (v := 24) dX1_isCase_111 rfl ?_
                  refine AW.iload X dX1_isCase_113 rfl ?_
                  refine AW.imul X dX1_isCase_115 ?_
                  refine AW.iload X dX1_isCase_116 rfl ?_
                  refine AW.iadd X dX1_isCase_118 ?_
                  refine AW.iald X (j := 24 * e + h') (by first | assumption | exact hT _ _ rfl) (by repeat (first | with_reducible exact rfl | assumption | exact ix_l _ | apply ix_add | apply ix_mul)) (by omega) dX1_isCase_119 ?_
                  rw [(hG.1 e h' (by omega) hh').2, ← gRow_at N e hh']
                  refine AW.iadd X dX1_isCase_120 ?_
                  refine AW.istore5 X dX1_isCase_121 ?_
                  refine AW.iinc6 X (v := _ + 1) dX1_isCase_123 rfl ?_
                  refine AW.goto X (tgt := 60) dX1_isCase_126 rfl ?_
                  rw [nI_1]; exact hE
        refine AW.iload_n X dX1_isCase_2 rfl rfl ?_
        first | refine AW.aload_n X dX1_isCase_3 rfl rfl ?_ | refine AW.aloadN_n X dX1_isCase_3 rfl rfl ?_
        refine AW.getR X f_X1_10_0 (by first | assumption | exact hT _ _ rfl) (by first | assumption | exact hR _ _ _ rfl) dX1_isCase_4 ?_
        refine AW.getI X f_X1_135_1 (by first | assumption | exact hT _ _ rfl) dX1_isCase_7 ?_
        rw [hn]
        refine AW.icmp_ge X (tgt := 162) dX1_isCase_10 rfl ?_ ?_
        · intro t10
          exact absurd t10 (nI_ge (by omega) (by omega))
        · intro f10
          first | refine AW.aload_n X dX1_isCase_13 rfl rfl ?_ | refine AW.aloadN_n X dX1_isCase_13 rfl rfl ?_
          refine AW.getR X f_X1_23_0 (by first | assumption | exact hT _ _ rfl) (by first | assumption | exact hR _ _ _ rfl) dX1_isCase_14 ?_
          refine AW.getR X f_X1_65_2 (by first | assumption | exact hT _ _ rfl) (by first | assumption | exact hR _ _ _ rfl) dX1_isCase_17 ?_
          refine AW.getR X f_X1_69_3 (by first | assumption | exact hT _ _ rfl) (by first | assumption | exact hR _ _ _ rfl) dX1_isCase_20 ?_
          first | refine AW.aload_n X dX1_isCase_23 rfl rfl ?_ | refine AW.aloadN_n X dX1_isCase_23 rfl rfl ?_
          refine AW.getR X f_X1_10_0 (by first | assumption | exact hT _ _ rfl) (by first | assumption | exact hR _ _ _ rfl) dX1_isCase_24 ?_
          refine AW.getR X f_X1_287_1 (by first | assumption | exact hT _ _ rfl) (by first | assumption | exact hR _ _ _ rfl) dX1_isCase_27 ?_
          refine AW.iload_n X dX1_isCase_30 rfl rfl ?_
          refine AW.iald X (j := k) (by first | assumption | exact hT _ _ rfl) (by repeat (first | with_reducible exact rfl | assumption | exact ix_l _ | apply ix_add | apply ix_mul)) (by omega) dX1_isCase_31 ?_
          rw [b1]
          refine AW.callV_r X (hP.lQ.get b2 (by omega)) (ci := 19) (q := (RJ2, TJ2, 3)) (by first | assumption | exact hT _ _ rfl) rfl s_X1_81_19 (by omega) (Nat.le_of_ble_eq_true rfl) rfl rfl (Nat.le_of_ble_eq_true rfl) dX1_isCase_32 ?_
          refine AW.castK X (idx := 85) ck_Quay (by first | assumption | omega) (by first | assumption | exact hT _ _ rfl) q1255 dX1_isCase_35 ?_
          first | refine AW.astore3 X dX1_isCase_38 ?_ | refine AW.astoreN3 X dX1_isCase_38 ?_
          first | refine AW.aload_n X dX1_isCase_39 rfl rfl ?_ | refine AW.aloadN_n X dX1_isCase_39 rfl rfl ?_
          first | refine AW.aload_n X dX1_isCase_40 rfl rfl ?_ | refine AW.aloadN_n X dX1_isCase_40 rfl rfl ?_
          refine AW.getR X f_X1_10_0 (by first | assumption | exact hT _ _ rfl) (by first | assumption | exact hR _ _ _ rfl) dX1_isCase_41 ?_
          refine AW.getR X f_X1_289_1 (by first | assumption | exact hT _ _ rfl) (by first | assumption | exact hR _ _ _ rfl) dX1_isCase_44 ?_
          refine AW.iload_n X dX1_isCase_47 rfl rfl ?_
          refine AW.iald X (j := k) (by first | assumption | exact hT _ _ rfl) (by repeat (first | with_reducible exact rfl | assumption | exact ix_l _ | apply ix_add | apply ix_mul)) (by omega) dX1_isCase_48 ?_
          rw [b3]
          refine v_X1_292 X rfl (by omega) k1 hkq (Nat.le_of_ble_eq_true rfl) dX1_isCase_49 ?_
          rw [hl]
          refine AW.istore4 X dX1_isCase_52 ?_
          refine AW.iconst X (v := 0) dX1_isCase_54 rfl ?_
          refine AW.istore5 X dX1_isCase_55 ?_
          refine AW.iconst X (v := 0) dX1_isCase_57 rfl ?_
          refine AW.istore6 X dX1_isCase_58 ?_
          exact inn (nE N) 0 (by omega)
  refine AW.iconst X (v := 0) dX1_isCase_0 rfl ?_
  refine AW.istore2 X dX1_isCase_1 ?_
  exact lp n 0 _ _ _ _ (by omega) (fun i hi => absurd hi (Nat.not_lt_zero i))
end WH
