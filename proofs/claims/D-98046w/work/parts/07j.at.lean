/-! 07j: where ships are, meals that are added, lits that are copied (steps printed by src/walk.py) -/
set_option maxRecDepth 100000
theorem stp_leg {N : KI} {L : Nat → Nat → Int32} {Hg : Nat → Int32} {s a h : Nat} (h1 : ¬ N 314 s = 1) : stp N L Hg s a h = leg N L Hg s a h := if_neg h1
theorem stp_lt {N : KI} {L : Nat → Nat → Int32} {Hg : Nat → Int32} {s a h : Nat} (ha : a < nQ N) : stp N L Hg s a h < nQ N := by
  have h1 := leg_lt (L := L) (Hg := Hg) (s := s) (h := h) ha
  have h2 := leg_lt (L := L) (Hg := Hg) (s := s) (h := h) h1
  unfold stp
  split
  · split
    · exact h2
    · exact h1
  · exact h1
theorem nxt_lt {N : KI} {L : Nat → Nat → Int32} {Hg : Nat → Int32} {s a h : Nat} (ha : a < nQ N) : nxt N L Hg s a h < nQ N := by
  unfold nxt
  split
  · exact stp_lt ha
  · exact ha
theorem pos_lt {N : KI} {L : Nat → Nat → Int32} {Hg : Nat → Int32} {s : Nat} (hN : NOK N) (hs : s < nS N) : ∀ k, pos N L Hg s k < nQ N
  | 0 => (hN.2.2.2.1 s hs).2.2.2.1
  | k + 1 => nxt_lt (pos_lt hN hs k)
theorem pos_stay {N : KI} {L : Nat → Nat → Int32} {Hg : Nat → Int32} {s k : Nat} (h : ¬ endK N (pos N L Hg s k) = 0) : ∀ j, pos N L Hg s (k + j) = pos N L Hg s k
  | 0 => rfl
  | j + 1 => by
    show nxt N L Hg s (pos N L Hg s (k + j)) _ = _
    rw [pos_stay h j]
    exact if_neg h
theorem endK_le (N : KI) (q : Nat) : endK N q ≤ 2 := by
  unfold endK
  split
  · omega
  · split <;> omega
section AWG
variable {cx : CxT} {d b pc nL : Nat} {y : MethodName} {cc : ByteArray} {ret : Option FieldType} {hh : List (Nat × Nat × Nat × Nat)} {ls st : List Value} {la pb : Nat} {T : KT} {I : KI} {R : KR} {J : KJ} {N : KI}
theorem v_X3_120 (X : FC cx d y cc nL ret hh) (hy : y.cls = RX3) (hd : 7 < d) {s a h : Nat} {rest : List Value} (hP : PR pb T I R N) (hL : LR la pb T I R N) (hN : NOK N) (hM : MOKs N) (hG : LitP N la I) (hs : s < nS N) (ha : a < nQ N) (hh : h < 24) (hcat : (rest.map fun v => v.category).sum ≤ 8) (dd : decode cc pc = .ok (.invokevirtual 120, 3)) (k : AW cx b (pc + 3) ls (.int (nI (stp N (Lig N) (hRow N) s a h)) :: rest) T I R J) : AW cx b pc ls (.int (nI h) :: .int (nI a) :: .ref la :: .ref (pb + 140 + s) :: rest) T I R J := by
  have hT := (hP.s hs).1
  obtain ⟨hkx, hks, -⟩ := hN.2.2.2.1 s hs
  have e1 := kind_is 1 hkx hks (by omega)
  have e2 := kind_is 2 hkx hks (by omega)
  have e3 := kind_is 3 hkx hks (by omega)
  generalize hκ : nat N 314 s = κ at *
  match κ, hks with
  | 0, _ =>
    have h1 : ¬ N 314 s = 1 := fun z => absurd (e1 ▸ z : (0 : Nat) = 1) (by omega)
    have h2 : ¬ N 314 s = 2 := fun z => absurd (e2 ▸ z : (0 : Nat) = 2) (by omega)
    have h3 : ¬ N 314 s = 3 := fun z => absurd (e3 ▸ z : (0 : Nat) = 3) (by omega)
    rw [stp_leg h1] at k
    exact AW.callU_r X (c_X12_goes hP hL hN hG hs ha hh h2 h3) (ci := 13) (q := (RX12, TX12, 3)) hT rfl (by rw [hy]; exact s_X3_120_13) (by omega) (Nat.le_of_ble_eq_true rfl) rfl rfl hcat dd k
  | 1, _ =>
    have h1 : N 314 s = 1 := e1.mpr rfl
    exact AW.callU_r X (c_X13_goes hP hL hN hG hs ha hh h1) (ci := 14) (q := (RX13, TX13, 3)) hT rfl (by rw [hy]; exact s_X3_120_14) (by omega) (Nat.le_of_ble_eq_true rfl) rfl rfl hcat dd k
  | 2, _ =>
    have h1 : ¬ N 314 s = 1 := fun z => absurd (e1 ▸ z : (2 : Nat) = 1) (by omega)
    have h2 : N 314 s = 2 := e2.mpr rfl
    rw [stp_leg h1] at k
    exact AW.callU_r X (c_X14_goes hP hL hN hM hG ha hh h2 _) (ci := 15) (q := (RX14, TX14, 3)) hT rfl (by rw [hy]; exact s_X3_120_15) (by omega) (Nat.le_of_ble_eq_true rfl) rfl rfl hcat dd k
  | 3, _ =>
    have h1 : ¬ N 314 s = 1 := fun z => absurd (e1 ▸ z : (3 : Nat) = 1) (by omega)
    have h3 : N 314 s = 3 := e3.mpr rfl
    rw [stp_leg h1] at k
    exact AW.callU_r X (c_X15_goes hP hL hN hG ha hh h3 _) (ci := 16) (q := (RX15, TX15, 3)) hT rfl (by rw [hy]; exact s_X3_120_16) (by omega) (Nat.le_of_ble_eq_true rfl) rfl rfl hcat dd k
end AWG
section ATC
variable {la pb : Nat} {T : KT} {I : KI} {R : KR} {J : KJ} {N : KI}
theorem c_X3_at {s to : Nat} (hP : PR pb T I R N) (hL : LR la pb T I R N) (hN : NOK N) (hM : MOKs N) (hG : LitP N la I) (hs : s < nS N) (ht : to ≤ 24) : MX3_at 8 0 [.ref la, .ref (pb + 140 + s), .int (nI to)] T I R J (qR (some (.int (nI (posAt N (Lig N) (hRow N) s to)))) T I R J) noX := by
  have hnq := hN.1.2.2.2.2.1
  obtain ⟨k1, k2, k3, k4⟩ := hP.s hs
  obtain ⟨hkx, hks, hqx, hql, hhx, hhl, -⟩ := hN.2.2.2.1 s hs
  have pT0 := hP.T0
  have prQ := hP.rQ
  have prE := hP.rE
  have prS := hP.rS
  have prM := hP.rM
  have prW := hP.rW
  have prHd := hP.rHd
  have prHf := hP.rHf
  have prHt := hP.rHt
  have ptM := hP.tM
  have ptW := hP.tW
  have ptHd := hP.tHd
  have ptHf := hP.tHf
  have ptHt := hP.tHt
  have plQ := hP.lQ.tl
  have plE := hP.lE.tl
  have plS := hP.lS.tl
  have hL0 := hL
  obtain ⟨l1, l2, -⟩ := hL
  refine AMet.of (by decide) (Nat.le_of_ble_eq_true rfl) (cats1 rfl) fun cx X E => ?_
  show AW _ _ _ (_ :: _ :: _ :: _ :: _ :: []) _ _ _ _ _
  have lp : ∀ k i, i + k = to - nat N 316 s → AW cx 0 11 [.ref la, .ref (pb + 140 + s), .int (nI to), .int (nI (pos N (Lig N) (hRow N) s i)), .int (nI (nat N 316 s + i))] [] T I R J := by
    intro k
    induction k with
    | zero =>
      intro i hk
      refine AW.iload X dX3_at_11 rfl ?_
      refine AW.iload_n X dX3_at_13 rfl rfl ?_
      refine AW.icmp_ge X (tgt := 52) dX3_at_14 rfl ?_ ?_
      · intro t14
        refine AW.iload_n X dX3_at_52 rfl rfl ?_
        refine AW.ireturn X E ?_ dX3_at_53 
        exact ⟨by rw [show i = to - nat N 316 s by omega]; rfl, rfl, rfl, rfl, rfl⟩
      · intro f14
        exact absurd (nI_le (by omega) (by omega)) f14
    | succ k ih =>
      intro i hk
      have hp := pos_lt (L := Lig N) (Hg := hRow N) hN hs i
      obtain ⟨q1, -⟩ := hP.q hp
      obtain ⟨-, hkq, -⟩ := hN.2.1 _ hp
      have hE := ih (i + 1) (by omega)
      have hpe : pos N (Lig N) (hRow N) s (i + 1) = nxt N (Lig N) (hRow N) s (pos N (Lig N) (hRow N) s i) (nat N 316 s + i) := rfl
      refine AW.iload X dX3_at_11 rfl ?_
      refine AW.iload_n X dX3_at_13 rfl rfl ?_
      refine AW.icmp_ge X (tgt := 52) dX3_at_14 rfl ?_ ?_
      · intro t14
        exact absurd t14 (nI_ge (by omega) (by omega))
      · intro f14
        first | refine AW.aload_n X dX3_at_17 rfl rfl ?_ | refine AW.aloadN_n X dX3_at_17 rfl rfl ?_
        refine AW.getR X f_X3_12_2 (by first | assumption | exact hT _ _ rfl) (by first | assumption | exact hR _ _ _ rfl) dX3_at_18 ?_
        refine AW.getR X f_X3_88_3 (by first | assumption | exact hT _ _ rfl) (by first | assumption | exact hR _ _ _ rfl) dX3_at_21 ?_
        refine AW.iload_n X dX3_at_24 rfl rfl ?_
        refine AW.callV_r X (hP.lQ.get hp (by omega)) (ci := 19) (q := (RJ2, TJ2, 3)) (by first | assumption | exact hT _ _ rfl) rfl s_X3_45_19 (by omega) (Nat.le_of_ble_eq_true rfl) rfl rfl (Nat.le_of_ble_eq_true rfl) dX3_at_25 ?_
        refine AW.castK X (idx := 97) ck_Quay (by first | assumption | omega) (by first | assumption | exact hT _ _ rfl) q748 dX3_at_28 ?_
        refine v_X3_117 X rfl (by omega) q1 hkq (Nat.le_of_ble_eq_true rfl) dX3_at_31 ?_
        rw [endF_eq hN hp]
        refine AW.if_ne X (tgt := 52) dX3_at_34 rfl ?_ ?_
        · intro t34
          have hst := pos_stay (N := N) (L := Lig N) (Hg := hRow N) (s := s) (k := i) (fun z => t34 (by rw [z]; rfl)) (to - nat N 316 s - i)
          rw [show i + (to - nat N 316 s - i) = to - nat N 316 s by omega] at hst
          refine AW.iload_n X dX3_at_52 rfl rfl ?_
          refine AW.ireturn X E ?_ dX3_at_53 
          exact ⟨by rw [← hst]; rfl, rfl, rfl, rfl, rfl⟩
        · intro f34
          have hz : endK N (pos N (Lig N) (hRow N) s i) = 0 := by
            have h5 := endK_le N (pos N (Lig N) (hRow N) s i)
            exact (nI_eq (by omega) (show 0 < 2 ^ 31 by omega)).mp f34
          first | refine AW.aload_n X dX3_at_37 rfl rfl ?_ | refine AW.aloadN_n X dX3_at_37 rfl rfl ?_
          first | refine AW.aload_n X dX3_at_38 rfl rfl ?_ | refine AW.aloadN_n X dX3_at_38 rfl rfl ?_
          refine AW.iload_n X dX3_at_39 rfl rfl ?_
          refine AW.iload X dX3_at_40 rfl ?_
          refine v_X3_120 X rfl (by omega) hP hL0 hN hM hG hs hp (show nat N 316 s + i < 24 by omega) (Nat.le_of_ble_eq_true rfl) dX3_at_42 ?_
          refine AW.istore3 X dX3_at_45 ?_
          refine AW.iinc4 X (v := _ + 1) dX3_at_46 rfl ?_
          refine AW.goto X (tgt := 11) dX3_at_49 rfl ?_
          rw [nI_1, Nat.add_assoc (nat N 316 s), show stp N (Lig N) (hRow N) s (pos N (Lig N) (hRow N) s i) (nat N 316 s + i) = pos N (Lig N) (hRow N) s (i + 1) from by rw [hpe]; exact (if_pos hz).symm]
          exact hE
  first | refine AW.aload_n X dX3_at_0 rfl rfl ?_ | refine AW.aloadN_n X dX3_at_0 rfl rfl ?_
  refine AW.getK X fk_X3_112 (by first | assumption | omega) (by first | assumption | exact hT _ _ rfl) dX3_at_1 ?_
  rw [k2, hqx]
  refine AW.istore3 X dX3_at_4 ?_
  first | refine AW.aload_n X dX3_at_5 rfl rfl ?_ | refine AW.aloadN_n X dX3_at_5 rfl rfl ?_
  refine AW.getK X fk_X3_115 (by first | assumption | omega) (by first | assumption | exact hT _ _ rfl) dX3_at_6 ?_
  rw [k3, hhx]
  refine AW.istore4 X dX3_at_9 ?_
  exact lp (to - nat N 316 s) 0 (by omega)
theorem c_X3_end {s : Nat} (hP : PR pb T I R N) (hL : LR la pb T I R N) (hN : NOK N) (hM : MOKs N) (hG : LitP N la I) (hs : s < nS N) : MX3_end 9 0 [.ref la, .ref (pb + 140 + s)] T I R J (qR (some (.int (nI (endK N (posAt N (Lig N) (hRow N) s 24))))) T I R J) noX := by
  have hnq := hN.1.2.2.2.2.1
  have hp := pos_lt (L := Lig N) (Hg := hRow N) hN hs (24 - nat N 316 s)
  obtain ⟨q1, -⟩ := hP.q hp
  obtain ⟨-, hkq, -⟩ := hN.2.1 _ hp
  have pT0 := hP.T0
  have prQ := hP.rQ
  have prE := hP.rE
  have prS := hP.rS
  have prM := hP.rM
  have prW := hP.rW
  have prHd := hP.rHd
  have prHf := hP.rHf
  have prHt := hP.rHt
  have ptM := hP.tM
  have ptW := hP.tW
  have ptHd := hP.tHd
  have ptHf := hP.tHf
  have ptHt := hP.tHt
  have plQ := hP.lQ.tl
  have plE := hP.lE.tl
  have plS := hP.lS.tl
  have hL0 := hL
  obtain ⟨l1, l2, -⟩ := hL
  refine AMet.of (by decide) (Nat.le_of_ble_eq_true rfl) (cats1 rfl) fun cx X E => ?_
  show AW _ _ _ (_ :: _ :: []) _ _ _ _ _
  first | refine AW.aload_n X dX3_end_0 rfl rfl ?_ | refine AW.aloadN_n X dX3_end_0 rfl rfl ?_
  refine AW.getR X f_X3_12_2 (by first | assumption | exact hT _ _ rfl) (by first | assumption | exact hR _ _ _ rfl) dX3_end_1 ?_
  refine AW.getR X f_X3_88_3 (by first | assumption | exact hT _ _ rfl) (by first | assumption | exact hR _ _ _ rfl) dX3_end_4 ?_
  first | refine AW.aload_n X dX3_end_7 rfl rfl ?_ | refine AW.aloadN_n X dX3_end_7 rfl rfl ?_
  first | refine AW.aload_n X dX3_end_8 rfl rfl ?_ | refine AW.aloadN_n X dX3_end_8 rfl rfl ?_
  refine AW.bipush X (v := 24) dX3_end_9 rfl ?_
  refine AW.callV_r X (c_X3_at (to := 24) hP hL0 hN hM hG hs (by omega)) (ci := 2) (q := (RX3, TX3, 9)) (by first | assumption | exact hT _ _ rfl) rfl s_X3_124_2 (by omega) (Nat.le_of_ble_eq_true rfl) rfl rfl (Nat.le_of_ble_eq_true rfl) dX3_end_11 ?_
  refine AW.callV_r X (hP.lQ.get hp (by omega)) (ci := 19) (q := (RJ2, TJ2, 3)) (by first | assumption | exact hT _ _ rfl) rfl s_X3_45_19 (by omega) (Nat.le_of_ble_eq_true rfl) rfl rfl (Nat.le_of_ble_eq_true rfl) dX3_end_14 ?_
  refine AW.castK X (idx := 97) ck_Quay (by first | assumption | omega) (by first | assumption | exact hT _ _ rfl) q748 dX3_end_17 ?_
  refine v_X3_117 X rfl (by omega) q1 hkq (Nat.le_of_ble_eq_true rfl) dX3_end_20 ?_
  rw [endF_eq hN hp]
  exact AW.ireturn X E ⟨rfl, rfl, rfl, rfl, rfl⟩ dX3_end_23 
/-- a meal more -/
def addN (N : KI) (e h s : Int32) : KI := w2 (w2 (w2 (w2 N 337 (nM N) e) 338 (nM N) h) 339 (nM N) s) 200 44 (nI (nM N + 1))
theorem addN_P {N : KI} {e h s : Int32} : ∀ a, 304 ≤ a → a ≤ 322 → addN N e h s a = N a := fun a h1 h2 => by
  unfold addN
  rw [w2_r (by omega), w2_r (by omega), w2_r (by omega), w2_r (by omega)]
theorem nat_eq {N N' : KI} {a k : Nat} (h : N' a = N a) : nat N' a k = nat N a k := by unfold nat; rw [h]
theorem PR.view {N' : KI} (h : PR pb T I R N) (hv : ∀ a, 304 ≤ a → a ≤ 322 → N' a = N a) : PR pb T I R N' := by
  unfold PR PRf nQ nE nS nH nat at h ⊢
  rw [hv 304 (by omega) (by omega), hv 305 (by omega) (by omega), hv 306 (by omega) (by omega), hv 307 (by omega) (by omega), hv 308 (by omega) (by omega), hv 309 (by omega) (by omega), hv 310 (by omega) (by omega), hv 311 (by omega) (by omega), hv 312 (by omega) (by omega), hv 313 (by omega) (by omega), hv 314 (by omega) (by omega), hv 315 (by omega) (by omega), hv 316 (by omega) (by omega), hv 317 (by omega) (by omega), hv 318 (by omega) (by omega), hv 319 (by omega) (by omega), hv 320 (by omega) (by omega), hv 321 (by omega) (by omega), hv 322 (by omega) (by omega)]
  exact h
theorem NOK.view {N N' : KI} (h : NOK N) (hv : ∀ a, 304 ≤ a → a ≤ 322 → N' a = N a) : NOK N' := by
  unfold NOK nQ nE nS nH nat at h ⊢
  rw [hv 304 (by omega) (by omega), hv 305 (by omega) (by omega), hv 306 (by omega) (by omega), hv 307 (by omega) (by omega), hv 309 (by omega) (by omega), hv 310 (by omega) (by omega), hv 311 (by omega) (by omega), hv 312 (by omega) (by omega), hv 313 (by omega) (by omega), hv 314 (by omega) (by omega), hv 315 (by omega) (by omega), hv 316 (by omega) (by omega), hv 317 (by omega) (by omega), hv 318 (by omega) (by omega), hv 319 (by omega) (by omega), hv 320 (by omega) (by omega)]
  exact h
theorem addN_M {N : KI} {e h s : Int32} (hm : nM N < 26) : nM (addN N e h s) = nM N + 1 := by
  unfold addN nM nat
  rw [w2_s]
  exact nI_clamp (by unfold nM nat at hm; omega)
theorem addN_MOK {N : KI} {e h : Nat} {s : Int32} (hM : MOKs N) (hm : nM N < 26) (he : e < nE N) (hh : h < 24) (hs : s = 0 ∨ s = 1) : MOKs (addN N (nI e) (nI h) s) := by
  have hmm := addN_M (e := nI e) (h := nI h) (s := s) hm
  have hE : nE (addN N (nI e) (nI h) s) = nE N := nat_eq (addN_P 304 (by omega) (by omega))
  have h6 : e < 2 ^ 31 := by
    have h9 := nI_clamp (n := e)
    unfold nE nat at he
    have : (N 304 1).toNatClampNeg < 2 ^ 31 := Int32.toNatClampNeg_lt _
    omega
  refine ⟨?_, by omega, ?_, ?_, ?_⟩
  · rw [hmm]; unfold addN; rw [w2_s]
  · have : nat (addN N (nI e) (nI h) s) 200 45 = nat N 200 45 := by unfold nat addN; rw [w2_n2 (by omega), w2_n1 (by omega), w2_n1 (by omega), w2_n1 (by omega)]
    rw [this]
    unfold addN
    rw [w2_n2 (by omega), w2_n1 (by omega), w2_n1 (by omega), w2_n1 (by omega)]
    exact hM.2.2.1
  · have : nat (addN N (nI e) (nI h) s) 200 45 = nat N 200 45 := by unfold nat addN; rw [w2_n2 (by omega), w2_n1 (by omega), w2_n1 (by omega), w2_n1 (by omega)]
    rw [this]
    exact hM.2.2.2.1
  · intro m hmx
    rw [hmm] at hmx
    rw [hE]
    have e7 : ∀ j, addN N (nI e) (nI h) s 337 j = if j = nM N then nI e else N 337 j := fun j => by
      unfold addN
      rw [w2_n1 (by omega), w2_n1 (by omega), w2_n1 (by omega)]
      by_cases hj : j = nM N
      · rw [hj, w2_s, if_pos rfl]
      · rw [w2_n2 hj, if_neg hj]
    have e8 : ∀ j, addN N (nI e) (nI h) s 338 j = if j = nM N then nI h else N 338 j := fun j => by
      unfold addN
      rw [w2_n1 (by omega), w2_n1 (by omega)]
      by_cases hj : j = nM N
      · rw [hj, w2_s, if_pos rfl]
      · rw [w2_n2 hj, if_neg hj, w2_n1 (by omega)]
    have e9 : ∀ j, addN N (nI e) (nI h) s 339 j = if j = nM N then s else N 339 j := fun j => by
      unfold addN
      rw [w2_n1 (by omega)]
      by_cases hj : j = nM N
      · rw [hj, w2_s, if_pos rfl]
      · rw [w2_n2 hj, if_neg hj, w2_n1 (by omega), w2_n1 (by omega)]
    unfold nat
    rw [e7, e8, e9]
    by_cases hj : m = nM N
    · rw [if_pos hj, if_pos hj, if_pos hj, nI_clamp h6, nI_clamp (by omega)]
      exact ⟨rfl, he, rfl, hh, hs⟩
    · rw [if_neg hj, if_neg hj, if_neg hj]
      exact hM.2.2.2.2 m (by omega)
theorem c_X3_adds {x z w : Int32} (hla : 103 ≤ la ∧ la ≤ 105) (hL : LR la pb T I R N) (hM : MOKs N) (hm : nM N < 26) : MX3_adds 0 0 [.ref la, .int x, .int z, .int w] T I R J (qI (fun r I' => r = none ∧ (∀ a, a ≠ la → a ≠ lA la 3 → a ≠ lA la 4 → a ≠ lA la 5 → I' a = I a) ∧ LR la pb T I' R (addN N x z w)) T R J) noX := by
  obtain ⟨l1, l2, l3, l4, l5, l6, l7, l8, l9, l10, l11, l12, l13, l14, l15, l16, l17⟩ := hL
  have la3 := lA_lt hla (show 3 < 10 by omega)
  have la4 := lA_lt hla (show 4 < 10 by omega)
  have la5 := lA_lt hla (show 5 < 10 by omega)
  have n3 : la ≠ lA la 3 := lA_la hla
  have n4 : la ≠ lA la 4 := lA_la hla
  have n5 : la ≠ lA la 5 := lA_la hla
  have n34 : lA la 3 ≠ lA la 4 := lA_ne (by omega)
  have n35 : lA la 3 ≠ lA la 5 := lA_ne (by omega)
  have n45 : lA la 4 ≠ lA la 5 := lA_ne (by omega)
  have hmm := addN_M (N := N) (e := x) (h := z) (s := w) hm
  refine AMet.of (by decide) (Nat.le_of_ble_eq_true rfl) (cats1 rfl) fun cx X E => ?_
  show AW _ _ _ (_ :: _ :: _ :: _ :: []) _ _ _ _ _
  first | refine AW.aload_n X dX3_adds_0 rfl rfl ?_ | refine AW.aloadN_n X dX3_adds_0 rfl rfl ?_
  refine AW.getR X f_X3_18_2 (by first | assumption | exact hT _ _ rfl) (by first | assumption | exact hR _ _ _ rfl) dX3_adds_1 ?_
  first | refine AW.aload_n X dX3_adds_4 rfl rfl ?_ | refine AW.aloadN_n X dX3_adds_4 rfl rfl ?_
  refine AW.getI X f_X3_37_2 (by first | assumption | exact hT _ _ rfl) dX3_adds_5 ?_
  rw [l15, hM.1]
  refine AW.iload_n X dX3_adds_8 rfl rfl ?_
  refine AW.iast X (by omega) (by first | assumption | exact hT _ _ rfl) (by repeat (first | with_reducible exact rfl | assumption | exact ix_l _ | apply ix_add | apply ix_mul)) (by omega) dX3_adds_9 ?_
  first | refine AW.aload_n X dX3_adds_10 rfl rfl ?_ | refine AW.aloadN_n X dX3_adds_10 rfl rfl ?_
  refine AW.getR X f_X3_22_2 (by first | assumption | exact hT _ _ rfl) (by first | assumption | exact hR _ _ _ rfl) dX3_adds_11 ?_
  first | refine AW.aload_n X dX3_adds_14 rfl rfl ?_ | refine AW.aloadN_n X dX3_adds_14 rfl rfl ?_
  refine AW.getI X f_X3_37_2 (by first | assumption | exact hT _ _ rfl) dX3_adds_15 ?_
  rw [w2_n1 n3, l15, hM.1]
  refine AW.iload_n X dX3_adds_18 rfl rfl ?_
  refine AW.iast X (by omega) (by first | assumption | exact hT _ _ rfl) (by repeat (first | with_reducible exact rfl | assumption | exact ix_l _ | apply ix_add | apply ix_mul)) (by omega) dX3_adds_19 ?_
  first | refine AW.aload_n X dX3_adds_20 rfl rfl ?_ | refine AW.aloadN_n X dX3_adds_20 rfl rfl ?_
  refine AW.getR X f_X3_25_2 (by first | assumption | exact hT _ _ rfl) (by first | assumption | exact hR _ _ _ rfl) dX3_adds_21 ?_
  first | refine AW.aload_n X dX3_adds_24 rfl rfl ?_ | refine AW.aloadN_n X dX3_adds_24 rfl rfl ?_
  refine AW.getI X f_X3_37_2 (by first | assumption | exact hT _ _ rfl) dX3_adds_25 ?_
  rw [w2_n1 n4, w2_n1 n3, l15, hM.1]
  refine AW.iload_n X dX3_adds_28 rfl rfl ?_
  refine AW.iast X (by omega) (by first | assumption | exact hT _ _ rfl) (by repeat (first | with_reducible exact rfl | assumption | exact ix_l _ | apply ix_add | apply ix_mul)) (by omega) dX3_adds_29 ?_
  first | refine AW.aload_n X dX3_adds_30 rfl rfl ?_ | refine AW.aloadN_n X dX3_adds_30 rfl rfl ?_
  refine AW.dup X dX3_adds_31 rfl ?_
  refine AW.getI X f_X3_37_2 (by first | assumption | exact hT _ _ rfl) dX3_adds_32 ?_
  rw [w2_n1 n5, w2_n1 n4, w2_n1 n3, l15, hM.1]
  refine AW.iconst X (v := 1) dX3_adds_35 rfl ?_
  refine AW.iadd X dX3_adds_36 ?_
  rw [nI_1]
  refine AW.putI X g_X3_adds_37_2 (by omega) (by first | assumption | exact hT _ _ rfl) dX3_adds_37 ?_ 
  refine AW.vreturn X E ?_ dX3_adds_40
  refine ⟨rfl, rfl, rfl, rfl, fun a a1 a2 a3 a4 => ?_, l1, l2, l3, l4, l5, l6, l7, l8, l9, l10, l11, l12, l13, l14, ?_, ?_, fun m hmx => ?_⟩
  · rw [w2_r a1, w2_r a4, w2_r a3, w2_r a2]
  · unfold addN; rw [w2_s, w2_s]
  · unfold addN; rw [w2_n2 (by omega), w2_n1 n5, w2_n1 n4, w2_n1 n3, w2_n2 (by omega), w2_n1 (by omega), w2_n1 (by omega), w2_n1 (by omega)]; exact l16
  · rw [hmm] at hmx
    unfold addN
    by_cases hj : m = nM N
    · subst hj
      rw [w2_n1 n3.symm, w2_n1 n35, w2_n1 n34, w2_s, w2_n1 n4.symm, w2_n1 n45, w2_s, w2_n1 n5.symm, w2_s, w2_n1 (by omega), w2_n1 (by omega), w2_n1 (by omega), w2_s, w2_n1 (by omega), w2_n1 (by omega), w2_s, w2_n1 (by omega), w2_s]
      exact ⟨rfl, rfl, rfl⟩
    · rw [w2_n1 n3.symm, w2_n1 n35, w2_n1 n34, w2_n2 hj, w2_n1 n4.symm, w2_n1 n45, w2_n2 hj, w2_n1 n34.symm, w2_n1 n5.symm, w2_n2 hj, w2_n1 n45.symm, w2_n1 n35.symm, w2_n1 (by omega), w2_n1 (by omega), w2_n1 (by omega), w2_n2 hj, w2_n1 (by omega), w2_n1 (by omega), w2_n2 hj, w2_n1 (by omega), w2_n1 (by omega), w2_n2 hj, w2_n1 (by omega), w2_n1 (by omega)]
      exact l17 m (by omega)
end ATC
