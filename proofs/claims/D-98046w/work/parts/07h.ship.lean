/-! 07h: light, hungers, ships (steps printed by src/walk.py) -/
set_option maxRecDepth 100000
theorem pkk_no {c : Nat → Bool} {v : Nat → Int32} {n : Nat} (h : c n = false) : pk c v (n + 1) = pk c v n := by
  show (if c n && _ then _ else _) = _
  rw [h]; rfl
theorem pkk_none {c : Nat → Bool} {v : Nat → Int32} {n : Nat} (h : c n = true) (hp : pk c v n = none) : pk c v (n + 1) = some n := by
  show (if c n && (match pk c v n with | none => true | some j => decide (v j < v n)) then some n else pk c v n) = _
  rw [h, hp]; rfl
theorem pkk_gt {c : Nat → Bool} {v : Nat → Int32} {n j : Nat} (h : c n = true) (hp : pk c v n = some j) (hv : v j < v n) : pk c v (n + 1) = some n := by
  show (if c n && (match pk c v n with | none => true | some j => decide (v j < v n)) then some n else pk c v n) = _
  rw [h, hp, show (match some j with | none => true | some j => decide (v j < v n)) = true from decide_eq_true hv]; rfl
theorem pkk_le {c : Nat → Bool} {v : Nat → Int32} {n j : Nat} (hp : pk c v n = some j) (hv : ¬ v j < v n) : pk c v (n + 1) = some j := by
  show (if c n && (match pk c v n with | none => true | some j => decide (v j < v n)) then some n else pk c v n) = _
  rw [hp, show (match some j with | none => true | some j => decide (v j < v n)) = false from decide_eq_false hv, Bool.and_false]; rfl
theorem pkk_lt {c : Nat → Bool} {v : Nat → Int32} : ∀ {n j : Nat}, pk c v n = some j → j < n ∧ c j = true
  | n + 1, j, hp => by
    by_cases hx : c n && (match pk c v n with | none => true | some j => decide (v j < v n))
    · have : pk c v (n + 1) = some n := if_pos hx
      rw [this] at hp
      cases hp
      exact ⟨by omega, (Bool.and_eq_true_iff.mp hx).1⟩
    · have : pk c v (n + 1) = pk c v n := if_neg hx
      rw [this] at hp
      exact ⟨by have := (pkk_lt hp).1; omega, (pkk_lt hp).2⟩
theorem hunQ_eq {N : KI} {G G' : Nat → Int32} {q h : Nat} : ∀ {n : Nat}, (∀ e, e < n → N 311 e = nI q → G (24 * e + h) = G' (24 * e + h)) → hunQ N G q h n = hunQ N G' q h n
  | 0, _ => rfl
  | n + 1, hg => by
    have ih := hunQ_eq (n := n) (fun e he => hg e (by omega))
    unfold hunQ
    by_cases hq : N 311 n = nI q
    · rw [if_pos hq, if_pos hq, ih, hg n (by omega) hq]
    · rw [if_neg hq, if_neg hq, ih]
def bst : Option Nat → Int32
  | none => -1
  | some j => nI j
section LITS
variable {la pb : Nat} {T : KT} {I : KI} {R : KR} {J : KJ} {N : KI}
theorem c_X3_light {q h : Nat} {G : Nat → Int32} (hP : PR pb T I R N) (hL : LR la pb T I R N) (hN : NOK N) (hq : q < nQ N) (hh : h < 24) (hr : ∀ h', h' < 24 → I (lA la 8) (24 * q + h') = rw_ N G q h') : MX3_light 3 0 [.ref la, .int (nI q), .int (nI h)] T I R J (qR (some (.int (lig N G q h))) T I R J) noX := by
  have hnq := hN.1.2.2.2.2.1
  obtain ⟨k1, k2, k3, k4⟩ := hP.q hq
  obtain ⟨hkx, hkq, -⟩ := hN.2.1 q hq
  have pT0 := hP.T0
  have prQ := hP.rQ
  have prE := hP.rE
  have prS := hP.rS
  have prM := hP.rM
  have prW := hP.rW
  have prHd := hP.rHd
  have prHf := hP.rHf
  have prHt := hP.rHt
  have ptM := hP.tM
  have ptW := hP.tW
  have ptHd := hP.tHd
  have ptHf := hP.tHf
  have ptHt := hP.tHt
  have plQ := hP.lQ.tl
  have plE := hP.lE.tl
  have plS := hP.lS.tl
  obtain ⟨l1, l2, l3, l4, l5, l6, l7, l8, l9, l10, l11, l12, l13, l14, l15, l16, l17⟩ := hL
  have hlk : (N 305 q = 1) = (nat N 305 q = 1) := kind_is 1 hkx hkq (by omega)
  unfold lig
  simp only [hlk]
  refine AMet.of (by decide) (Nat.le_of_ble_eq_true rfl) (cats1 rfl) fun cx X E => ?_
  show AW _ _ _ (_ :: _ :: _ :: _ :: []) _ _ _ _ _
  first | refine AW.aload_n X dX3_light_0 rfl rfl ?_ | refine AW.aloadN_n X dX3_light_0 rfl rfl ?_
  refine AW.getR X f_X3_12_2 (by first | assumption | exact hT _ _ rfl) (by first | assumption | exact hR _ _ _ rfl) dX3_light_1 ?_
  refine AW.getR X f_X3_88_3 (by first | assumption | exact hT _ _ rfl) (by first | assumption | exact hR _ _ _ rfl) dX3_light_4 ?_
  refine AW.iload_n X dX3_light_7 rfl rfl ?_
  refine AW.callV_r X (hP.lQ.get hq (by omega)) (ci := 19) (q := (RJ2, TJ2, 3)) (by first | assumption | exact hT _ _ rfl) rfl s_X3_45_19 (by omega) (Nat.le_of_ble_eq_true rfl) rfl rfl (Nat.le_of_ble_eq_true rfl) dX3_light_8 ?_
  refine AW.castK X (idx := 97) ck_Quay (by first | assumption | omega) (by first | assumption | exact hT _ _ rfl) q748 dX3_light_11 ?_
  refine AW.iload_n X dX3_light_14 rfl rfl ?_
  refine v_X3_102 X rfl (by omega) k1 hkq (Nat.le_of_ble_eq_true rfl) dX3_light_15 ?_
  have hcs : (litF (nat N 305 q) (nI h) = -1 ∧ nat N 305 q = 1 ∧ h = 0) ∨ ∃ h', litF (nat N 305 q) (nI h) = nI h' ∧ h' < 24 ∧ rw_ N G q h' = (if nat N 305 q = 1 then (if h = 0 then 0 else rw_ N G q (h - 1)) else rw_ N G q h) := by
    unfold litF
    by_cases h1 : nat N 305 q = 1
    · by_cases h0 : h = 0
      · exact Or.inl ⟨by rw [if_pos h1, h0]; rfl, h1, h0⟩
      · refine Or.inr ⟨h - 1, by rw [if_pos h1]; exact nI_sub (c := 1) (by omega), by omega, by rw [if_pos h1, if_neg h0]⟩
    · exact Or.inr ⟨h, by rw [if_neg h1], hh, by rw [if_neg h1]⟩
  generalize litF (nat N 305 q) (nI h) = w at hcs ⊢
  refine AW.istore3 X dX3_light_18 ?_
  refine AW.iload_n X dX3_light_19 rfl rfl ?_
  refine AW.if_ge X (tgt := 27) dX3_light_20 rfl ?_ ?_
  · intro t20
    obtain ⟨hw, -⟩ | ⟨h', hw, hh', hres⟩ := hcs
    · rw [hw] at t20; exact absurd t20 (by decide)
    subst hw
    rw [← hres] at E
    first | refine AW.aload_n X dX3_light_27 rfl rfl ?_ | refine AW.aloadN_n X dX3_light_27 rfl rfl ?_
    refine AW.getR X f_X3_34_2 (by first | assumption | exact hT _ _ rfl) (by first | assumption | exact hR _ _ _ rfl) dX3_light_28 ?_
    refine AW.bipush X (v := 24) dX3_light_31 rfl ?_
    refine AW.iload_n X dX3_light_33 rfl rfl ?_
    refine AW.imul X dX3_light_34 ?_
    refine AW.iload_n X dX3_light_35 rfl rfl ?_
    refine AW.iadd X dX3_light_36 ?_
    refine AW.iald X (j := 24 * q + h') (by first | assumption | exact hT _ _ rfl) (by repeat (first | with_reducible exact rfl | assumption | exact ix_l _ | apply ix_add | apply ix_mul)) (by omega) dX3_light_37 ?_
    rw [hr h' hh']
    exact AW.ireturn X E ⟨rfl, rfl, rfl, rfl, rfl⟩ dX3_light_38 
  · intro f20
    obtain ⟨hw, h1, h0⟩ | ⟨h', hw, hh', hres⟩ := hcs
    rotate_left
    · rw [hw] at f20; exact absurd (nI_pos' (by omega)) f20
    rw [if_pos h1, if_pos h0] at E
    refine AW.iconst X (v := 0) dX3_light_23 rfl ?_
    refine AW.goto X (tgt := 38) dX3_light_24 rfl ?_
    exact AW.ireturn X E ⟨rfl, rfl, rfl, rfl, rfl⟩ dX3_light_38 
theorem c_X3_isWay {a c : Nat} (hP : PR pb T I R N) (hL : LR la pb T I R N) (hN : NOK N) (ha : a < nQ N) : MX3_isWay 3 0 [.ref la, .int (nI a), .int (nI c)] T I R J (qR (some (.int (bI (isWy N a c)))) T I R J) noX := by
  have hnq := hN.1.2.2.2.2.1
  obtain ⟨k1, k2, k3, k4⟩ := hP.q ha
  have hkq := (hN.2.1 a ha).2.1
  have pT0 := hP.T0
  have prQ := hP.rQ
  have prE := hP.rE
  have prS := hP.rS
  have prM := hP.rM
  have prW := hP.rW
  have prHd := hP.rHd
  have prHf := hP.rHf
  have prHt := hP.rHt
  have ptM := hP.tM
  have ptW := hP.tW
  have ptHd := hP.tHd
  have ptHf := hP.tHf
  have ptHt := hP.tHt
  have plQ := hP.lQ.tl
  have plE := hP.lE.tl
  have plS := hP.lS.tl
  obtain ⟨l1, l2, -⟩ := hL
  refine AMet.of (by decide) (Nat.le_of_ble_eq_true rfl) (cats1 rfl) fun cx X E => ?_
  show AW _ _ _ (_ :: _ :: _ :: []) _ _ _ _ _
  first | refine AW.aload_n X dX3_isWay_0 rfl rfl ?_ | refine AW.aloadN_n X dX3_isWay_0 rfl rfl ?_
  refine AW.getR X f_X3_12_2 (by first | assumption | exact hT _ _ rfl) (by first | assumption | exact hR _ _ _ rfl) dX3_isWay_1 ?_
  refine AW.getR X f_X3_88_3 (by first | assumption | exact hT _ _ rfl) (by first | assumption | exact hR _ _ _ rfl) dX3_isWay_4 ?_
  refine AW.iload_n X dX3_isWay_7 rfl rfl ?_
  refine AW.callV_r X (hP.lQ.get ha (by omega)) (ci := 19) (q := (RJ2, TJ2, 3)) (by first | assumption | exact hT _ _ rfl) rfl s_X3_45_19 (by omega) (Nat.le_of_ble_eq_true rfl) rfl rfl (Nat.le_of_ble_eq_true rfl) dX3_isWay_8 ?_
  refine AW.castK X (idx := 97) ck_Quay (by first | assumption | omega) (by first | assumption | exact hT _ _ rfl) q748 dX3_isWay_11 ?_
  refine AW.getK X fk_X3_106 (by first | assumption | omega) (by first | assumption | exact hT _ _ rfl) dX3_isWay_14 ?_
  rw [k3]
  refine AW.iload_n X dX3_isWay_17 rfl rfl ?_
  refine AW.ishr X dX3_isWay_18 ?_
  refine AW.iconst X (v := 1) dX3_isWay_19 rfl ?_
  refine AW.iand X dX3_isWay_20 ?_
  refine AW.iconst X (v := 1) dX3_isWay_21 rfl ?_
  refine AW.icmp_ne X (tgt := 29) dX3_isWay_22 rfl ?_ ?_
  · intro t22
    rw [bI_f (show ¬ isWy N a c from t22)] at E
    refine AW.iconst X (v := 0) dX3_isWay_29 rfl ?_
    exact AW.ireturn X E ⟨rfl, rfl, rfl, rfl, rfl⟩ dX3_isWay_30 
  · intro f22
    rw [bI_t (show isWy N a c from f22)] at E
    refine AW.iconst X (v := 1) dX3_isWay_25 rfl ?_
    refine AW.goto X (tgt := 30) dX3_isWay_26 rfl ?_
    exact AW.ireturn X E ⟨rfl, rfl, rfl, rfl, rfl⟩ dX3_isWay_30 
theorem c_X3_isSeen {q h : Nat} {G : Nat → Int32} {sees : Int32} (hP : PR pb T I R N) (hL : LR la pb T I R N) (hN : NOK N) (hq : q < nQ N) (hh : h < 24) (hr : ∀ h', h' < 24 → I (lA la 8) (24 * q + h') = rw_ N G q h') : MX3_isSeen 4 0 [.ref la, .int (nI q), .int (nI h), .int sees] T I R J (qR (some (.int (bI (N 318 h < lig N G q h ∧ sees ≤ lig N G q h)))) T I R J) noX := by
  have pT0 := hP.T0
  have prQ := hP.rQ
  have prE := hP.rE
  have prS := hP.rS
  have prM := hP.rM
  have prW := hP.rW
  have prHd := hP.rHd
  have prHf := hP.rHf
  have prHt := hP.rHt
  have ptM := hP.tM
  have ptW := hP.tW
  have ptHd := hP.tHd
  have ptHf := hP.tHf
  have ptHt := hP.tHt
  have plQ := hP.lQ.tl
  have plE := hP.lE.tl
  have plS := hP.lS.tl
  have hL0 := hL
  obtain ⟨l1, l2, -⟩ := hL
  refine AMet.of (by decide) (Nat.le_of_ble_eq_true rfl) (cats1 rfl) fun cx X E => ?_
  show AW _ _ _ (_ :: _ :: _ :: _ :: []) _ _ _ _ _
  first | refine AW.aload_n X dX3_isSeen_0 rfl rfl ?_ | refine AW.aloadN_n X dX3_isSeen_0 rfl rfl ?_
  refine AW.iload_n X dX3_isSeen_1 rfl rfl ?_
  refine AW.iload_n X dX3_isSeen_2 rfl rfl ?_
  refine AW.callV_r X (c_X3_light hP hL0 hN hq hh hr) (ci := 2) (q := (RX3, TX3, 9)) (by first | assumption | exact hT _ _ rfl) rfl s_X3_109_2 (by omega) (Nat.le_of_ble_eq_true rfl) rfl rfl (Nat.le_of_ble_eq_true rfl) dX3_isSeen_3 ?_
  first | refine AW.aload_n X dX3_isSeen_6 rfl rfl ?_ | refine AW.aloadN_n X dX3_isSeen_6 rfl rfl ?_
  refine AW.getR X f_X3_12_2 (by first | assumption | exact hT _ _ rfl) (by first | assumption | exact hR _ _ _ rfl) dX3_isSeen_7 ?_
  refine AW.getR X f_X3_68_3 (by first | assumption | exact hT _ _ rfl) (by first | assumption | exact hR _ _ _ rfl) dX3_isSeen_10 ?_
  refine AW.iload_n X dX3_isSeen_13 rfl rfl ?_
  refine AW.iald X (by first | assumption | exact hT _ _ rfl) (by repeat (first | with_reducible exact rfl | assumption | exact ix_l _ | apply ix_add | apply ix_mul)) (by omega) dX3_isSeen_14 ?_
  rw [hP.moon hh]
  refine AW.icmp_le X (tgt := 32) dX3_isSeen_15 rfl ?_ ?_
  · intro t15
    rw [bI_f (fun hc => absurd hc.1 (Int32.not_lt.mpr t15))] at E
    refine AW.iconst X (v := 0) dX3_isSeen_32 rfl ?_
    exact AW.ireturn X E ⟨rfl, rfl, rfl, rfl, rfl⟩ dX3_isSeen_33 
  · intro f15
    first | refine AW.aload_n X dX3_isSeen_18 rfl rfl ?_ | refine AW.aloadN_n X dX3_isSeen_18 rfl rfl ?_
    refine AW.iload_n X dX3_isSeen_19 rfl rfl ?_
    refine AW.iload_n X dX3_isSeen_20 rfl rfl ?_
    refine AW.callV_r X (c_X3_light hP hL0 hN hq hh hr) (ci := 2) (q := (RX3, TX3, 9)) (by first | assumption | exact hT _ _ rfl) rfl s_X3_109_2 (by omega) (Nat.le_of_ble_eq_true rfl) rfl rfl (Nat.le_of_ble_eq_true rfl) dX3_isSeen_21 ?_
    refine AW.iload_n X dX3_isSeen_24 rfl rfl ?_
    refine AW.icmp_lt X (tgt := 32) dX3_isSeen_25 rfl ?_ ?_
    · intro t25
      rw [bI_f (fun hc => absurd hc.2 (Int32.not_le.mpr t25))] at E
      refine AW.iconst X (v := 0) dX3_isSeen_32 rfl ?_
      exact AW.ireturn X E ⟨rfl, rfl, rfl, rfl, rfl⟩ dX3_isSeen_33 
    · intro f25
      rw [bI_t (show N 318 h < lig N G q h ∧ sees ≤ lig N G q h from ⟨Int32.not_le.mp f15, Int32.not_lt.mp f25⟩)] at E
      refine AW.iconst X (v := 1) dX3_isSeen_28 rfl ?_
      refine AW.goto X (tgt := 33) dX3_isSeen_29 rfl ?_
      exact AW.ireturn X E ⟨rfl, rfl, rfl, rfl, rfl⟩ dX3_isSeen_33 
theorem c_X3_hungry {q h : Nat} (hP : PR pb T I R N) (hL : LR la pb T I R N) (hN : NOK N) (hh : h < 24) : MX3_hungry 3 0 [.ref la, .int (nI q), .int (nI h)] T I R J (qR (some (.int (hunQ N (I (lA la 6)) q h (nE N)))) T I R J) noX := by
  have hne := hN.1.2.2.2.2.2.1
  have pT0 := hP.T0
  have prQ := hP.rQ
  have prE := hP.rE
  have prS := hP.rS
  have prM := hP.rM
  have prW := hP.rW
  have prHd := hP.rHd
  have prHf := hP.rHf
  have prHt := hP.rHt
  have ptM := hP.tM
  have ptW := hP.tW
  have ptHd := hP.tHd
  have ptHf := hP.tHf
  have ptHt := hP.tHt
  have plQ := hP.lQ.tl
  have plE := hP.lE.tl
  have plS := hP.lS.tl
  obtain ⟨l1, l2, l3, l4, l5, l6, l7, l8, l9, l10, l11, l12, l13, l14, l15, l16, l17⟩ := hL
  refine AMet.of (by decide) (Nat.le_of_ble_eq_true rfl) (cats1 rfl) fun cx X E => ?_
  show AW _ _ _ (_ :: _ :: _ :: _ :: _ :: []) _ _ _ _ _
  have inn : ∀ j e, e + j = nE N → AW cx 0 5 [.ref la, .int (nI q), .int (nI h), .int (hunQ N (I (lA la 6)) q h e), .int (nI e)] [] T I R J := by
    intro j
    induction j with
    | zero =>
      intro e hj
      obtain rfl : e = nE N := by omega
      refine AW.iload X dX3_hungry_5 rfl ?_
      first | refine AW.aload_n X dX3_hungry_7 rfl rfl ?_ | refine AW.aloadN_n X dX3_hungry_7 rfl rfl ?_
      refine AW.getR X f_X3_12_2 (by first | assumption | exact hT _ _ rfl) (by first | assumption | exact hR _ _ _ rfl) dX3_hungry_8 ?_
      refine AW.getR X f_X3_41_3 (by first | assumption | exact hT _ _ rfl) (by first | assumption | exact hR _ _ _ rfl) dX3_hungry_11 ?_
      refine AW.callV_r X (hP.lE.size) (ci := 19) (q := (RJ2, TJ2, 3)) (by first | assumption | exact hT _ _ rfl) rfl s_X3_81_19 (by omega) (Nat.le_of_ble_eq_true rfl) rfl rfl (Nat.le_of_ble_eq_true rfl) dX3_hungry_14 ?_
      refine AW.icmp_ge X (tgt := 67) dX3_hungry_17 rfl ?_ ?_
      · intro t17
        refine AW.iload_n X dX3_hungry_67 rfl rfl ?_
        exact AW.ireturn X E ⟨rfl, rfl, rfl, rfl, rfl⟩ dX3_hungry_68 
      · intro f17
        exact absurd (nI_le (by omega) (by omega)) f17
    | succ j ih2 =>
      intro e hj
      obtain ⟨c1, c2, c3, c4, c5⟩ := hP.e (show e < nE N by omega)
      have hke := (hN.2.2.1 e (by omega)).2.1
      have hE := ih2 (e + 1) (by omega)
      unfold hunQ at hE
      refine AW.iload X dX3_hungry_5 rfl ?_
      first | refine AW.aload_n X dX3_hungry_7 rfl rfl ?_ | refine AW.aloadN_n X dX3_hungry_7 rfl rfl ?_
      refine AW.getR X f_X3_12_2 (by first | assumption | exact hT _ _ rfl) (by first | assumption | exact hR _ _ _ rfl) dX3_hungry_8 ?_
      refine AW.getR X f_X3_41_3 (by first | assumption | exact hT _ _ rfl) (by first | assumption | exact hR _ _ _ rfl) dX3_hungry_11 ?_
      refine AW.callV_r X (hP.lE.size) (ci := 19) (q := (RJ2, TJ2, 3)) (by first | assumption | exact hT _ _ rfl) rfl s_X3_81_19 (by omega) (Nat.le_of_ble_eq_true rfl) rfl rfl (Nat.le_of_ble_eq_true rfl) dX3_hungry_14 ?_
      refine AW.icmp_ge X (tgt := 67) dX3_hungry_17 rfl ?_ ?_
      · intro t17
        exact absurd t17 (nI_ge (by omega) (by omega))
      · intro f17
        first | refine AW.aload_n X dX3_hungry_20 rfl rfl ?_ | refine AW.aloadN_n X dX3_hungry_20 rfl rfl ?_
        refine AW.getR X f_X3_12_2 (by first | assumption | exact hT _ _ rfl) (by first | assumption | exact hR _ _ _ rfl) dX3_hungry_21 ?_
        refine AW.getR X f_X3_41_3 (by first | assumption | exact hT _ _ rfl) (by first | assumption | exact hR _ _ _ rfl) dX3_hungry_24 ?_
        refine AW.iload X dX3_hungry_27 rfl ?_
        refine AW.callV_r X (hP.lE.get (show e < nE N by omega) (by omega)) (ci := 19) (q := (RJ2, TJ2, 3)) (by first | assumption | exact hT _ _ rfl) rfl s_X3_45_19 (by omega) (Nat.le_of_ble_eq_true rfl) rfl rfl (Nat.le_of_ble_eq_true rfl) dX3_hungry_29 ?_
        refine AW.castK X (idx := 51) ck_Eel (by first | assumption | omega) (by first | assumption | exact hT _ _ rfl) q700 dX3_hungry_32 ?_
        refine AW.getK X fk_X3_94 (by first | assumption | omega) (by first | assumption | exact hT _ _ rfl) dX3_hungry_35 ?_
        rw [c3]
        refine AW.iload_n X dX3_hungry_38 rfl rfl ?_
        refine AW.icmp_ne X (tgt := 61) dX3_hungry_39 rfl ?_ ?_
        · intro t39
          rw [if_neg t39] at hE
          refine AW.iinc4 X (v := _ + 1) dX3_hungry_61 rfl ?_
          refine AW.goto X (tgt := 5) dX3_hungry_64 rfl ?_
          rw [nI_1]; exact hE
        · intro f39
          rw [if_pos f39] at hE
          refine AW.iconst X (v := 0) dX3_hungry_42 rfl ?_
          refine AW.iload_n X dX3_hungry_43 rfl rfl ?_
          refine AW.mmax X q701 (by omega) (Nat.le_of_ble_eq_true rfl) dX3_hungry_44 ?_
          first | refine AW.aload_n X dX3_hungry_47 rfl rfl ?_ | refine AW.aloadN_n X dX3_hungry_47 rfl rfl ?_
          refine AW.getR X f_X3_28_2 (by first | assumption | exact hT _ _ rfl) (by first | assumption | exact hR _ _ _ rfl) dX3_hungry_48 ?_
          refine AW.bipush X (v := 24) dX3_hungry_51 rfl ?_
          refine AW.iload X dX3_hungry_53 rfl ?_
          refine AW.imul X dX3_hungry_55 ?_
          refine AW.iload_n X dX3_hungry_56 rfl rfl ?_
          refine AW.iadd X dX3_hungry_57 ?_
          refine AW.iald X (j := 24 * e + h) (by first | assumption | exact hT _ _ rfl) (by repeat (first | with_reducible exact rfl | assumption | exact ix_l _ | apply ix_add | apply ix_mul)) (by omega) dX3_hungry_58 ?_
          refine AW.iadd X dX3_hungry_59 ?_
          refine AW.istore3 X dX3_hungry_60 ?_
          refine AW.iinc4 X (v := _ + 1) dX3_hungry_61 rfl ?_
          refine AW.goto X (tgt := 5) dX3_hungry_64 rfl ?_
          rw [nI_1]; exact hE
  refine AW.iconst X (v := -1) dX3_hungry_0 rfl ?_
  refine AW.istore3 X dX3_hungry_1 ?_
  refine AW.iconst X (v := 0) dX3_hungry_2 rfl ?_
  refine AW.istore4 X dX3_hungry_3 ?_
  exact inn (nE N) 0 (by omega)
end LITS
