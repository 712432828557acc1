/-! 07p: EelPort's writes (written by src/gen07p.py and src/walk.py) -/
set_option maxRecDepth 100000
/-- nothing but the lit's own rows -/
def FR (I I' : KI) : Prop := ∀ a, a ≠ 103 → (a < 133 ∨ 138 < a) → I' a = I a
def undoN (N : KI) : KI := w2 N 200 44 (nI (nM N - 1))
def coldN (N : KI) (c : Int32) : KI := w2 N 200 45 c
theorem undoN_M {N : KI} : nM N ≤ 26 → nM (undoN N) = nM N - 1 := fun h => by
  unfold undoN nM nat
  rw [w2_s]
  exact nI_clamp (by unfold nM nat at h; omega)
theorem coldN_M {N : KI} {c : Int32} : nM (coldN N c) = nM N := by
  unfold coldN nM nat
  rw [w2_n2 (by omega)]
theorem undoN_P {N : KI} : ∀ a, 300 ≤ a → undoN N a = N a := fun a h1 => w2_r (by omega)
theorem coldN_P {N : KI} {c : Int32} : ∀ a, 300 ≤ a → coldN N c a = N a := fun a h1 => w2_r (by omega)
theorem nE_v {N N' : KI} (h : N' 304 = N 304) : nE N' = nE N := nat_eq h
theorem undoN_MOK {N : KI} (hM : MOKs N) (h0 : ¬ nM N = 0) : MOKs (undoN N) := by
  have hm := undoN_M hM.2.1
  have h45 : undoN N 200 45 = N 200 45 := w2_n2 (by omega)
  refine ⟨?_, ?_, ?_, ?_, fun m hmx => ?_⟩
  · rw [hm]; exact w2_s _ _ _ _
  · rw [hm]; have := hM.2.1; omega
  · unfold nat; rw [h45]; exact hM.2.2.1
  · unfold nat; rw [h45]; exact hM.2.2.2.1
  · unfold nat
    rw [undoN_P 337 (by omega), undoN_P 338 (by omega), undoN_P 339 (by omega), nE_v (undoN_P 304 (by omega))]
    exact hM.2.2.2.2 m (by omega)
theorem coldN_MOK {N : KI} {c : Nat} (hM : MOKs N) (hc : c < 10) : MOKs (coldN N (nI c)) := by
  have h45 : coldN N (nI c) 200 45 = nI c := w2_s _ _ _ _
  have h44 : coldN N (nI c) 200 44 = N 200 44 := w2_n2 (by omega)
  refine ⟨?_, ?_, ?_, ?_, fun m hmx => ?_⟩
  · rw [coldN_M, h44]; exact hM.1
  · rw [coldN_M]; exact hM.2.1
  · unfold nat; rw [h45, nI_clamp (by omega)]
  · unfold nat; rw [h45, nI_clamp (by omega)]; exact hc
  · unfold nat
    rw [coldN_P 337 (by omega), coldN_P 338 (by omega), coldN_P 339 (by omega), nE_v (coldN_P 304 (by omega))]
    exact hM.2.2.2.2 m (by rw [coldN_M] at hmx; exact hmx)
theorem XS.to {pb : Nat} {T : KT} {I I' : KI} {R : KR} {N N' : KI} (hX : XS pb T I R N) (hf : ∀ a, 1000 ≤ a → I' a = I a) (hL : LR 103 pb T I' R N') (hv : ∀ a, 304 ≤ a → a ≤ 322 → N' a = N a) (hM : MOKs N') (h20 : nM N' ≤ 20) (hG : LitP N' 103 I') : XS pb T I' R N' := by
  obtain ⟨x1, x2, x3, x4, x5, x6, x7, x8⟩ := hX
  exact ⟨x1, x2, (x3.keep hf).view hv, hL, x5.view hv, hM, h20, hG⟩
section XW
variable {pb B : Nat} {T : KT} {I : KI} {R : KR} {J : KJ} {N : KI}
theorem c_X1_refuses {k : Nat} (hT : XT T) (hR : XRf R) (hk : k < 3) : MX1_refuses 0 0 [.ref 100, .int (nI k)] T I R J (qI (fun r I' => r = some (.int (-1)) ∧ I' = w2 I 114 k (I 114 k + 1)) T R J) noX := by
  refine AMet.of (by decide) (Nat.le_of_ble_eq_true rfl) (cats1 rfl) fun cx X E => ?_
  show AW _ _ _ (_ :: _ :: []) _ _ _ _ _
  first | refine AW.aload_n X dX1_refuses_0 rfl rfl ?_ | refine AW.aloadN_n X dX1_refuses_0 rfl rfl ?_
  refine AW.getR X f_X1_10_0 (by first | assumption | exact hT _ _ rfl) (by first | assumption | exact hR _ _ _ rfl) dX1_refuses_1 ?_
  refine AW.getR X f_X1_120_1 (by first | assumption | exact hT _ _ rfl) (by first | assumption | exact hR _ _ _ rfl) dX1_refuses_4 ?_
  refine AW.iload_n X dX1_refuses_7 rfl rfl ?_
  refine AW.dup2 X dX1_refuses_8 rfl rfl ?_
  refine AW.iald X (j := k) (by first | assumption | exact hT _ _ rfl) (by repeat (first | with_reducible exact rfl | assumption | exact ix_l _ | apply ix_add | apply ix_mul)) (by omega) dX1_refuses_9 ?_
  refine AW.iconst X (v := 1) dX1_refuses_10 rfl ?_
  refine AW.iadd X dX1_refuses_11 ?_
  refine AW.iast X (j := k) (by omega) (by first | assumption | exact hT _ _ rfl) (by repeat (first | with_reducible exact rfl | assumption | exact ix_l _ | apply ix_add | apply ix_mul)) (by omega) dX1_refuses_12 ?_
  refine AW.iconst X (v := -1) dX1_refuses_13 rfl ?_
  refine AW.ireturn X E ?_ dX1_refuses_14 
  exact ⟨rfl, rfl, rfl, rfl, rfl⟩
theorem c_X1_meal {e h : Nat} {s : Int32} (hX : XS pb T I R N) (he : e < nE N) (hh : h < 24) : MX1_meal 9 0 [.ref 100, .int (nI e), .int (nI h), .int s] T I R J (qI (fun r I' => if nM N = 20 ∨ ¬ (0 ≤ s ∧ s ≤ 1) then r = some (.int (-1)) ∧ I' = w2 I 114 1 (I 114 1 + 1) else r = some (.int (nI (nM N + 1))) ∧ FR I I' ∧ XS pb T I' R (addN N (nI e) (nI h) s)) T R J) noX := by
  have hX0 := hX
  obtain ⟨hT, hR, hP, hL, hN, hM, h20, hG⟩ := hX
  have hL0 := hL
  obtain ⟨l1, l2, l3, l4, l5, l6, l7, l8, l9, l10, l11, l12, l13, l14, l15, l16, l17⟩ := hL
  obtain ⟨⟨n1, n2, n3, n4, hnq, hne, hns, hnh⟩, -⟩ := id hN
  have pT0 := hP.T0
  have prQ := hP.rQ
  have prE := hP.rE
  have prS := hP.rS
  have prM := hP.rM
  have prW := hP.rW
  have prHd := hP.rHd
  have prHf := hP.rHf
  have prHt := hP.rHt
  have ptM := hP.tM
  have ptW := hP.tW
  have ptHd := hP.tHd
  have ptHf := hP.tHf
  have ptHt := hP.tHt
  have plQ := hP.lQ.tl
  have plE := hP.lE.tl
  have plS := hP.lS.tl
  have hml : nM N < 26 := by omega
  refine AMet.of (by decide) (Nat.le_of_ble_eq_true rfl) (cats1 rfl) fun cx X E => ?_
  show AW _ _ _ (_ :: _ :: _ :: _ :: []) _ _ _ _ _
  first | refine AW.aload_n X dX1_meal_0 rfl rfl ?_ | refine AW.aloadN_n X dX1_meal_0 rfl rfl ?_
  refine AW.iload_n X dX1_meal_1 rfl rfl ?_
  refine AW.callV_r X (c_X1_eelAt_ok hX0 he) (ci := 0) (q := (RX1, TX1, 14)) (by first | assumption | exact hT _ _ rfl) rfl s_X1_176_0 (by omega) (Nat.le_of_ble_eq_true rfl) rfl rfl (Nat.le_of_ble_eq_true rfl) dX1_meal_2 ?_
  refine AW.pop X dX1_meal_5 rfl ?_
  refine AW.iload_n X dX1_meal_6 rfl rfl ?_
  refine AW.callS_r X (c_X1_hourAt_ok ⟨nI_pos' (by omega), nI_le (b := 23) (by omega) (by omega)⟩) s_X1_201 (by omega) (Nat.le_of_ble_eq_true rfl) rfl rfl (Nat.le_of_ble_eq_true rfl) dX1_meal_7 ?_
  first | refine AW.aload_n X dX1_meal_10 rfl rfl ?_ | refine AW.aloadN_n X dX1_meal_10 rfl rfl ?_
  refine AW.getR X f_X1_23_0 (by first | assumption | exact hT _ _ rfl) (by first | assumption | exact hR _ _ _ rfl) dX1_meal_11 ?_
  refine AW.getI X f_X1_126_2 (by first | assumption | exact hT _ _ rfl) dX1_meal_14 ?_
  rw [l15, hM.1]
  refine AW.bipush X (v := 20) dX1_meal_17 rfl ?_
  refine AW.icmp_eq X (tgt := 31) dX1_meal_19 rfl ?_ ?_
  · intro t19
    have hc : nM N = 20 ∨ ¬ (0 ≤ s ∧ s ≤ 1) := Or.inl ((nI_eq (b := 20) (by omega) (by omega)).mp t19)
    first | refine AW.aload_n X dX1_meal_31 rfl rfl ?_ | refine AW.aloadN_n X dX1_meal_31 rfl rfl ?_
    refine AW.iconst X (v := 1) dX1_meal_32 rfl ?_
    refine AW.callV_i X (c_X1_refuses (k := 1) hT hR (by omega)) (ci := 0) (q := (RX1, TX1, 14)) (by first | assumption | exact hT _ _ rfl) rfl s_X1_204_0 (by omega) (Nat.le_of_ble_eq_true rfl) rfl rfl (Nat.le_of_ble_eq_true rfl) dX1_meal_33 ?_
    intro r33 I33 h33
    obtain ⟨rfl, rfl⟩ := h33
    refine AW.ireturn X E ?_ dX1_meal_36 
    exact ⟨rfl, rfl, rfl, by dsimp only; rw [if_pos hc]; exact ⟨rfl, rfl⟩⟩
  · intro f19
    refine AW.iload_n X dX1_meal_22 rfl rfl ?_
    refine AW.iconst X (v := 0) dX1_meal_23 rfl ?_
    refine AW.iconst X (v := 1) dX1_meal_24 rfl ?_
    refine AW.callS_r X (c_X1_within s 0 1) s_X1_57 (by omega) (Nat.le_of_ble_eq_true rfl) rfl rfl (Nat.le_of_ble_eq_true rfl) dX1_meal_25 ?_
    refine AW.if_ne X (tgt := 37) dX1_meal_28 rfl ?_ ?_
    · intro t28
      have hs : 0 ≤ s ∧ s ≤ 1 := Decidable.of_not_not fun z => t28 (bI_z.mpr z)
      have hc : ¬ (nM N = 20 ∨ ¬ (0 ≤ s ∧ s ≤ 1)) := fun z => z.elim (fun z => f19 (by rw [z]; rfl)) (fun z => z hs)
      have hs2 : s = 0 ∨ s = 1 := by
        obtain ⟨v, hv, rfl⟩ := isN (n := 1) hs.1 hs.2 (by omega)
        have : v = 0 ∨ v = 1 := by omega
        rcases this with rfl | rfl
        · exact Or.inl rfl
        · exact Or.inr rfl
      have hM1 := addN_MOK hM hml he hh hs2
      have hm1 := addN_M (N := N) (e := nI e) (h := nI h) (s := s) hml
      first | refine AW.aload_n X dX1_meal_37 rfl rfl ?_ | refine AW.aloadN_n X dX1_meal_37 rfl rfl ?_
      refine AW.getR X f_X1_23_0 (by first | assumption | exact hT _ _ rfl) (by first | assumption | exact hR _ _ _ rfl) dX1_meal_38 ?_
      refine AW.iload_n X dX1_meal_41 rfl rfl ?_
      refine AW.iload_n X dX1_meal_42 rfl rfl ?_
      refine AW.iload_n X dX1_meal_43 rfl rfl ?_
      refine AW.callV_i X (c_X3_adds (x := nI e) (z := nI h) (w := s) (by omega) hL0 hM hml) (ci := 2) (q := (RX3, TX3, 9)) (by first | assumption | exact hT _ _ rfl) rfl s_X1_207_2 (by omega) (Nat.le_of_ble_eq_true rfl) rfl rfl (Nat.le_of_ble_eq_true rfl) dX1_meal_44 ?_
      intro r44 I44 h44
      obtain ⟨rfl, g1, g2⟩ := h44
      first | refine AW.aload_n X dX1_meal_47 rfl rfl ?_ | refine AW.aloadN_n X dX1_meal_47 rfl rfl ?_
      refine AW.getR X f_X1_23_0 (by first | assumption | exact hT _ _ rfl) (by first | assumption | exact hR _ _ _ rfl) dX1_meal_48 ?_
      refine AW.callV_i X (c_X3_shines (by omega) ((hP.keep (fun a ha => g1 a (by omega) (by unfold lA; omega) (by unfold lA; omega) (by unfold lA; omega))).view addN_P) g2 (hN.view addN_P) hM1) (ci := 2) (q := (RX3, TX3, 9)) (by first | assumption | exact hT _ _ rfl) rfl s_X1_132_2 (by omega) (Nat.le_of_ble_eq_true rfl) rfl rfl (Nat.le_of_ble_eq_true rfl) dX1_meal_51 ?_
      intro r51 I51 h51
      obtain ⟨rfl, g3, g4⟩ := h51
      first | refine AW.aload_n X dX1_meal_54 rfl rfl ?_ | refine AW.aloadN_n X dX1_meal_54 rfl rfl ?_
      refine AW.getR X f_X1_23_0 (by first | assumption | exact hT _ _ rfl) (by first | assumption | exact hR _ _ _ rfl) dX1_meal_55 ?_
      refine AW.getI X f_X1_126_2 (by first | assumption | exact hT _ _ rfl) dX1_meal_58 ?_
      rw [g3 103 (by decide) (by decide) (by decide), g2.2.2.2.2.2.2.2.2.2.2.2.2.2.2.1, hM1.1, hm1]
      refine AW.ireturn X E ?_ dX1_meal_61 
      refine ⟨rfl, rfl, rfl, ?_⟩
      dsimp only
      rw [if_neg hc]
      refine ⟨rfl, fun a a1 a2 => ?_, hX0.to (fun a ha => ?_) (g2.keep (g3 _ (by decide) (by decide) (by decide)) (g3 _ (by decide) (by decide) (by decide)) (g3 _ (by decide) (by decide) (by decide)) (g3 _ (by decide) (by decide) (by decide))) addN_P hM1 (by rw [hm1]; omega) g4⟩
      · rw [g3 a (by unfold lA; omega) (by unfold lA; omega) (by unfold lA; omega), g1 a a1 (by unfold lA; omega) (by unfold lA; omega) (by unfold lA; omega)]
      · rw [g3 a (by unfold lA; omega) (by unfold lA; omega) (by unfold lA; omega), g1 a (by omega) (by unfold lA; omega) (by unfold lA; omega) (by unfold lA; omega)]
    · intro f28
      have hc : nM N = 20 ∨ ¬ (0 ≤ s ∧ s ≤ 1) := Or.inr (bI_z.mp f28)
      first | refine AW.aload_n X dX1_meal_31 rfl rfl ?_ | refine AW.aloadN_n X dX1_meal_31 rfl rfl ?_
      refine AW.iconst X (v := 1) dX1_meal_32 rfl ?_
      refine AW.callV_i X (c_X1_refuses (k := 1) hT hR (by omega)) (ci := 0) (q := (RX1, TX1, 14)) (by first | assumption | exact hT _ _ rfl) rfl s_X1_204_0 (by omega) (Nat.le_of_ble_eq_true rfl) rfl rfl (Nat.le_of_ble_eq_true rfl) dX1_meal_33 ?_
      intro r33 I33 h33
      obtain ⟨rfl, rfl⟩ := h33
      refine AW.ireturn X E ?_ dX1_meal_36 
      exact ⟨rfl, rfl, rfl, by dsimp only; rw [if_pos hc]; exact ⟨rfl, rfl⟩⟩
theorem c_X1_meal_bad {e h s : Int32} (hX : XS pb T I R N) (h1 : 100 ≤ B) (h0 : (T B).1 = 0) (hb : ¬ ((0 ≤ e ∧ e < nI (nE N)) ∧ (0 ≤ h ∧ h ≤ 23))) : MX1_meal 9 2 [.ref 100, .int e, .int h, .int s] T I R J noQ (qX 22 B T I R J) := by
  have hX0 := hX
  obtain ⟨hT, hR, hP, hL, hN, hM, h20, hG⟩ := hX
  have hL0 := hL
  obtain ⟨l1, l2, l3, l4, l5, l6, l7, l8, l9, l10, l11, l12, l13, l14, l15, l16, l17⟩ := hL
  obtain ⟨⟨n1, n2, n3, n4, hnq, hne, hns, hnh⟩, -⟩ := id hN
  have pT0 := hP.T0
  have prQ := hP.rQ
  have prE := hP.rE
  have prS := hP.rS
  have prM := hP.rM
  have prW := hP.rW
  have prHd := hP.rHd
  have prHf := hP.rHf
  have prHt := hP.rHt
  have ptM := hP.tM
  have ptW := hP.tW
  have ptHd := hP.tHd
  have ptHf := hP.tHf
  have ptHt := hP.tHt
  have plQ := hP.lQ.tl
  have plE := hP.lE.tl
  have plS := hP.lS.tl
  refine AMet.of (by decide) (Nat.le_of_ble_eq_true rfl) (cats1 rfl) fun cx X E => ?_
  show AW _ _ _ (_ :: _ :: _ :: _ :: []) _ _ _ _ _
  by_cases hi : 0 ≤ e ∧ e < nI (nE N)
  · obtain ⟨k, hk, rfl⟩ : ∃ k, k < nE N ∧ e = nI k := inN hi (by omega)
    first | refine AW.aload_n X dX1_meal_0 rfl rfl ?_ | refine AW.aloadN_n X dX1_meal_0 rfl rfl ?_
    refine AW.iload_n X dX1_meal_1 rfl rfl ?_
    refine AW.callV_r X (c_X1_eelAt_ok hX0 hk) (ci := 0) (q := (RX1, TX1, 14)) (by first | assumption | exact hT _ _ rfl) rfl s_X1_176_0 (by omega) (Nat.le_of_ble_eq_true rfl) rfl rfl (Nat.le_of_ble_eq_true rfl) dX1_meal_2 ?_
    refine AW.pop X dX1_meal_5 rfl ?_
    refine AW.iload_n X dX1_meal_6 rfl rfl ?_
    exact AW.callS (b := 0) (bc := 2) X (c_X1_hourAt_bad h1 h0 (fun hh => hb ⟨hi, hh⟩)) s_X1_201 (by omega) (Nat.le_of_ble_eq_true rfl) rfl rfl (Nat.le_of_ble_eq_true rfl) dX1_meal_7 (fun _ _ _ _ _ h => h.elim) (AX.thru X E (by omega) rfl (fun _ h => nomatch h))
  · skip
    first | refine AW.aload_n X dX1_meal_0 rfl rfl ?_ | refine AW.aloadN_n X dX1_meal_0 rfl rfl ?_
    refine AW.iload_n X dX1_meal_1 rfl rfl ?_
    exact AW.callV (b := 0) (bc := 2) X (c_X1_eelAt_bad hX0 h1 h0 hi) (ci := 0) (q := (RX1, TX1, 14)) (by first | assumption | exact hT _ _ rfl) rfl s_X1_176_0 (by omega) (Nat.le_of_ble_eq_true rfl) rfl rfl (Nat.le_of_ble_eq_true rfl) dX1_meal_2 (fun _ _ _ _ _ h => h.elim) (AX.thru X E (by omega) rfl (fun _ h => nomatch h))
theorem c_X1_undo (hX : XS pb T I R N) : MX1_undo 9 0 [.ref 100] T I R J (qI (fun r I' => if nM N = 0 then r = some (.int (-1)) ∧ I' = I else r = some (.int (nI (nM N - 1))) ∧ FR I I' ∧ XS pb T I' R (undoN N)) T R J) noX := by
  have hX0 := hX
  obtain ⟨hT, hR, hP, hL, hN, hM, h20, hG⟩ := hX
  have hL0 := hL
  obtain ⟨l1, l2, l3, l4, l5, l6, l7, l8, l9, l10, l11, l12, l13, l14, l15, l16, l17⟩ := hL
  obtain ⟨⟨n1, n2, n3, n4, hnq, hne, hns, hnh⟩, -⟩ := id hN
  have pT0 := hP.T0
  have prQ := hP.rQ
  have prE := hP.rE
  have prS := hP.rS
  have prM := hP.rM
  have prW := hP.rW
  have prHd := hP.rHd
  have prHf := hP.rHf
  have prHt := hP.rHt
  have ptM := hP.tM
  have ptW := hP.tW
  have ptHd := hP.tHd
  have ptHf := hP.tHf
  have ptHt := hP.tHt
  have plQ := hP.lQ.tl
  have plE := hP.lE.tl
  have plS := hP.lS.tl
  have hm26 := hM.2.1
  have hm1 := undoN_M hM.2.1
  refine AMet.of (by decide) (Nat.le_of_ble_eq_true rfl) (cats1 rfl) fun cx X E => ?_
  show AW _ _ _ (_ :: []) _ _ _ _ _
  first | refine AW.aload_n X dX1_undo_0 rfl rfl ?_ | refine AW.aloadN_n X dX1_undo_0 rfl rfl ?_
  refine AW.getR X f_X1_23_0 (by first | assumption | exact hT _ _ rfl) (by first | assumption | exact hR _ _ _ rfl) dX1_undo_1 ?_
  refine AW.getI X f_X1_126_2 (by first | assumption | exact hT _ _ rfl) dX1_undo_4 ?_
  rw [l15, hM.1]
  refine AW.if_ne X (tgt := 12) dX1_undo_7 rfl ?_ ?_
  · intro t7
    have h0 : ¬ nM N = 0 := fun z => t7 (by rw [z]; rfl)
    have hM1 := undoN_MOK hM h0
    have hL1 : LR 103 pb T (w2 I 103 1 (nI (nM N - 1))) R (undoN N) := LR.mk' (LS_of hT hR (by omega)) l2 (by rw [w2_s]; exact (w2_s _ _ _ _).symm) (by rw [w2_n2 (by omega), l16]; exact (w2_n2 (by omega)).symm) (fun m hm => by
      rw [w2_r (by decide), w2_r (by decide), w2_r (by decide), undoN_P 337 (by omega), undoN_P 338 (by omega), undoN_P 339 (by omega)]
      exact l17 m (by omega))
    first | refine AW.aload_n X dX1_undo_12 rfl rfl ?_ | refine AW.aloadN_n X dX1_undo_12 rfl rfl ?_
    refine AW.getR X f_X1_23_0 (by first | assumption | exact hT _ _ rfl) (by first | assumption | exact hR _ _ _ rfl) dX1_undo_13 ?_
    refine AW.dup X dX1_undo_16 rfl ?_
    refine AW.getI X f_X1_126_2 (by first | assumption | exact hT _ _ rfl) dX1_undo_17 ?_
    rw [l15, hM.1]
    refine AW.iconst X (v := 1) dX1_undo_20 rfl ?_
    refine AW.isub X dX1_undo_21 ?_
    rw [show nI (nM N) - 1 = nI (nM N - 1) from nI_sub (c := 1) (by omega)]
    refine AW.putI X g_X1_undo_126_2 (by omega) (by first | assumption | exact hT _ _ rfl) dX1_undo_22 ?_ 
    first | refine AW.aload_n X dX1_undo_25 rfl rfl ?_ | refine AW.aloadN_n X dX1_undo_25 rfl rfl ?_
    refine AW.getR X f_X1_23_0 (by first | assumption | exact hT _ _ rfl) (by first | assumption | exact hR _ _ _ rfl) dX1_undo_26 ?_
    refine AW.callV_i X (c_X3_shines (by omega) ((hP.keep (fun a ha => w2_r (by omega))).view (fun a h1 h2 => undoN_P a (by omega))) hL1 (hN.view (fun a h1 h2 => undoN_P a (by omega))) hM1) (ci := 2) (q := (RX3, TX3, 9)) (by first | assumption | exact hT _ _ rfl) rfl s_X1_132_2 (by omega) (Nat.le_of_ble_eq_true rfl) rfl rfl (Nat.le_of_ble_eq_true rfl) dX1_undo_29 ?_
    intro r29 I29 h29
    obtain ⟨rfl, g3, g4⟩ := h29
    first | refine AW.aload_n X dX1_undo_32 rfl rfl ?_ | refine AW.aloadN_n X dX1_undo_32 rfl rfl ?_
    refine AW.getR X f_X1_23_0 (by first | assumption | exact hT _ _ rfl) (by first | assumption | exact hR _ _ _ rfl) dX1_undo_33 ?_
    refine AW.getI X f_X1_126_2 (by first | assumption | exact hT _ _ rfl) dX1_undo_36 ?_
    rw [g3 103 (by decide) (by decide) (by decide), w2_s]
    refine AW.ireturn X E ?_ dX1_undo_39 
    refine ⟨rfl, rfl, rfl, ?_⟩
    dsimp only
    rw [if_neg h0]
    refine ⟨rfl, fun a a1 a2 => ?_, hX0.to (fun a ha => ?_) (hL1.keep (g3 _ (by decide) (by decide) (by decide)) (g3 _ (by decide) (by decide) (by decide)) (g3 _ (by decide) (by decide) (by decide)) (g3 _ (by decide) (by decide) (by decide))) (fun a h1 h2 => undoN_P a (by omega)) hM1 (by rw [hm1]; omega) g4⟩
    · rw [g3 a (by unfold lA; omega) (by unfold lA; omega) (by unfold lA; omega), w2_r a1]
    · rw [g3 a (by unfold lA; omega) (by unfold lA; omega) (by unfold lA; omega), w2_r (by omega)]
  · intro f7
    refine AW.iconst X (v := -1) dX1_undo_10 rfl ?_
    refine AW.ireturn X E ?_ dX1_undo_11 
    exact ⟨rfl, rfl, rfl, by dsimp only; rw [if_pos ((nI_eq (b := 0) (by omega) (by omega)).mp f7)]; exact ⟨rfl, rfl⟩⟩
theorem c_X1_cold {c : Int32} (hX : XS pb T I R N) : MX1_cold 9 0 [.ref 100, .int c] T I R J (qI (fun r I' => if 0 ≤ c ∧ c ≤ 9 then r = some (.int (N 200 45)) ∧ FR I I' ∧ XS pb T I' R (coldN N c) else r = some (.int (-1)) ∧ I' = I) T R J) noX := by
  have hX0 := hX
  obtain ⟨hT, hR, hP, hL, hN, hM, h20, hG⟩ := hX
  have hL0 := hL
  obtain ⟨l1, l2, l3, l4, l5, l6, l7, l8, l9, l10, l11, l12, l13, l14, l15, l16, l17⟩ := hL
  obtain ⟨⟨n1, n2, n3, n4, hnq, hne, hns, hnh⟩, -⟩ := id hN
  have pT0 := hP.T0
  have prQ := hP.rQ
  have prE := hP.rE
  have prS := hP.rS
  have prM := hP.rM
  have prW := hP.rW
  have prHd := hP.rHd
  have prHf := hP.rHf
  have prHt := hP.rHt
  have ptM := hP.tM
  have ptW := hP.tW
  have ptHd := hP.tHd
  have ptHf := hP.tHf
  have ptHt := hP.tHt
  have plQ := hP.lQ.tl
  have plE := hP.lE.tl
  have plS := hP.lS.tl
  have hm26 := hM.2.1
  refine AMet.of (by decide) (Nat.le_of_ble_eq_true rfl) (cats1 rfl) fun cx X E => ?_
  show AW _ _ _ (_ :: _ :: _ :: []) _ _ _ _ _
  refine AW.iload_n X dX1_cold_0 rfl rfl ?_
  refine AW.iconst X (v := 0) dX1_cold_1 rfl ?_
  refine AW.bipush X (v := 9) dX1_cold_2 rfl ?_
  refine AW.callS_r X (c_X1_within c 0 9) s_X1_57 (by omega) (Nat.le_of_ble_eq_true rfl) rfl rfl (Nat.le_of_ble_eq_true rfl) dX1_cold_4 ?_
  refine AW.if_ne X (tgt := 12) dX1_cold_7 rfl ?_ ?_
  · intro t7
    have h0 : 0 ≤ c ∧ c ≤ 9 := Decidable.of_not_not fun z => t7 (bI_z.mpr z)
    obtain ⟨v, hv, rfl⟩ := isN (n := 9) h0.1 h0.2 (by omega)
    have hM1 := coldN_MOK hM (show v < 10 by omega)
    have hL1 : LR 103 pb T (w2 I 103 2 (nI v)) R (coldN N (nI v)) := LR.mk' (LS_of hT hR (by omega)) l2 (by rw [w2_n2 (by omega), l15]; exact (w2_n2 (by omega)).symm) (by rw [w2_s]; exact (w2_s _ _ _ _).symm) (fun m hm => by
      rw [w2_r (by decide), w2_r (by decide), w2_r (by decide), coldN_P 337 (by omega), coldN_P 338 (by omega), coldN_P 339 (by omega)]
      exact l17 m (by rw [coldN_M] at hm; exact hm))
    first | refine AW.aload_n X dX1_cold_12 rfl rfl ?_ | refine AW.aloadN_n X dX1_cold_12 rfl rfl ?_
    refine AW.getR X f_X1_23_0 (by first | assumption | exact hT _ _ rfl) (by first | assumption | exact hR _ _ _ rfl) dX1_cold_13 ?_
    refine AW.getI X f_X1_129_2 (by first | assumption | exact hT _ _ rfl) dX1_cold_16 ?_
    rw [l16]
    refine AW.istore2 X dX1_cold_19 ?_
    first | refine AW.aload_n X dX1_cold_20 rfl rfl ?_ | refine AW.aloadN_n X dX1_cold_20 rfl rfl ?_
    refine AW.getR X f_X1_23_0 (by first | assumption | exact hT _ _ rfl) (by first | assumption | exact hR _ _ _ rfl) dX1_cold_21 ?_
    refine AW.iload_n X dX1_cold_24 rfl rfl ?_
    refine AW.putI X g_X1_cold_129_2 (by omega) (by first | assumption | exact hT _ _ rfl) dX1_cold_25 ?_ 
    first | refine AW.aload_n X dX1_cold_28 rfl rfl ?_ | refine AW.aloadN_n X dX1_cold_28 rfl rfl ?_
    refine AW.getR X f_X1_23_0 (by first | assumption | exact hT _ _ rfl) (by first | assumption | exact hR _ _ _ rfl) dX1_cold_29 ?_
    refine AW.callV_i X (c_X3_shines (by omega) ((hP.keep (fun a ha => w2_r (by omega))).view (fun a h1 h2 => coldN_P a (by omega))) hL1 (hN.view (fun a h1 h2 => coldN_P a (by omega))) hM1) (ci := 2) (q := (RX3, TX3, 9)) (by first | assumption | exact hT _ _ rfl) rfl s_X1_132_2 (by omega) (Nat.le_of_ble_eq_true rfl) rfl rfl (Nat.le_of_ble_eq_true rfl) dX1_cold_32 ?_
    intro r32 I32 h32
    obtain ⟨rfl, g3, g4⟩ := h32
    refine AW.iload_n X dX1_cold_35 rfl rfl ?_
    refine AW.ireturn X E ?_ dX1_cold_36 
    refine ⟨rfl, rfl, rfl, ?_⟩
    dsimp only
    rw [if_pos h0]
    refine ⟨rfl, fun a a1 a2 => ?_, hX0.to (fun a ha => ?_) (hL1.keep (g3 _ (by decide) (by decide) (by decide)) (g3 _ (by decide) (by decide) (by decide)) (g3 _ (by decide) (by decide) (by decide)) (g3 _ (by decide) (by decide) (by decide))) (fun a h1 h2 => coldN_P a (by omega)) hM1 (by rw [coldN_M]; omega) g4⟩
    · rw [g3 a (by unfold lA; omega) (by unfold lA; omega) (by unfold lA; omega), w2_r a1]
    · rw [g3 a (by unfold lA; omega) (by unfold lA; omega) (by unfold lA; omega), w2_r (by omega)]
  · intro f7
    refine AW.iconst X (v := -1) dX1_cold_10 rfl ?_
    refine AW.ireturn X E ?_ dX1_cold_11 
    exact ⟨rfl, rfl, rfl, by dsimp only; rw [if_neg (bI_z.mp f7)]; exact ⟨rfl, rfl⟩⟩
theorem c_X1_shone {q h n : Nat} {s : Int32} (hX : XS pb T I R N) (hq : q < nQ N) (hh : h < 24) (hn : I 101 5 = nI n) (hn2 : n ≤ 12) : MX1_shone 9 0 [.ref 100, .int (nI q), .int (nI h), .int s] T I R J (qI (fun r I' => if n = 12 ∨ ¬ (0 ≤ s ∧ s ≤ 255) then r = some (.int (-1)) ∧ I' = w2 I 114 2 (I 114 2 + 1) else r = some (.int (nI (n + 1))) ∧ I' = w2 (w2 (w2 (w2 I 111 n (nI q)) 112 n (nI h)) 113 n s) 101 5 (nI (n + 1))) T R J) noX := by
  have hX0 := hX
  obtain ⟨hT, hR, hP, hL, hN, hM, h20, hG⟩ := hX
  have hL0 := hL
  obtain ⟨l1, l2, l3, l4, l5, l6, l7, l8, l9, l10, l11, l12, l13, l14, l15, l16, l17⟩ := hL
  obtain ⟨⟨n1, n2, n3, n4, hnq, hne, hns, hnh⟩, -⟩ := id hN
  have pT0 := hP.T0
  have prQ := hP.rQ
  have prE := hP.rE
  have prS := hP.rS
  have prM := hP.rM
  have prW := hP.rW
  have prHd := hP.rHd
  have prHf := hP.rHf
  have prHt := hP.rHt
  have ptM := hP.tM
  have ptW := hP.tW
  have ptHd := hP.tHd
  have ptHf := hP.tHf
  have ptHt := hP.tHt
  have plQ := hP.lQ.tl
  have plE := hP.lE.tl
  have plS := hP.lS.tl
  refine AMet.of (by decide) (Nat.le_of_ble_eq_true rfl) (cats1 rfl) fun cx X E => ?_
  show AW _ _ _ (_ :: _ :: _ :: _ :: _ :: []) _ _ _ _ _
  first | refine AW.aload_n X dX1_shone_0 rfl rfl ?_ | refine AW.aloadN_n X dX1_shone_0 rfl rfl ?_
  refine AW.iload_n X dX1_shone_1 rfl rfl ?_
  refine AW.callV_r X (c_X1_quayAt_ok hX0 hq) (ci := 0) (q := (RX1, TX1, 14)) (by first | assumption | exact hT _ _ rfl) rfl s_X1_158_0 (by omega) (Nat.le_of_ble_eq_true rfl) rfl rfl (Nat.le_of_ble_eq_true rfl) dX1_shone_2 ?_
  refine AW.pop X dX1_shone_5 rfl ?_
  refine AW.iload_n X dX1_shone_6 rfl rfl ?_
  refine AW.callS_r X (c_X1_hourAt_ok ⟨nI_pos' (by omega), nI_le (b := 23) (by omega) (by omega)⟩) s_X1_201 (by omega) (Nat.le_of_ble_eq_true rfl) rfl rfl (Nat.le_of_ble_eq_true rfl) dX1_shone_7 ?_
  first | refine AW.aload_n X dX1_shone_10 rfl rfl ?_ | refine AW.aloadN_n X dX1_shone_10 rfl rfl ?_
  refine AW.getR X f_X1_10_0 (by first | assumption | exact hT _ _ rfl) (by first | assumption | exact hR _ _ _ rfl) dX1_shone_11 ?_
  refine AW.getI X f_X1_135_1 (by first | assumption | exact hT _ _ rfl) dX1_shone_14 ?_
  rw [hn]
  refine AW.istore4 X dX1_shone_17 ?_
  refine AW.iload X dX1_shone_19 rfl ?_
  refine AW.bipush X (v := 12) dX1_shone_21 rfl ?_
  refine AW.icmp_eq X (tgt := 37) dX1_shone_23 rfl ?_ ?_
  · intro t23
    have hc : n = 12 ∨ ¬ (0 ≤ s ∧ s ≤ 255) := Or.inl ((nI_eq (b := 12) (by omega) (by omega)).mp t23)
    first | refine AW.aload_n X dX1_shone_37 rfl rfl ?_ | refine AW.aloadN_n X dX1_shone_37 rfl rfl ?_
    refine AW.iconst X (v := 2) dX1_shone_38 rfl ?_
    refine AW.callV_i X (c_X1_refuses (k := 2) hT hR (by omega)) (ci := 0) (q := (RX1, TX1, 14)) (by first | assumption | exact hT _ _ rfl) rfl s_X1_204_0 (by omega) (Nat.le_of_ble_eq_true rfl) rfl rfl (Nat.le_of_ble_eq_true rfl) dX1_shone_39 ?_
    intro r39 I39 h39
    obtain ⟨rfl, rfl⟩ := h39
    refine AW.ireturn X E ?_ dX1_shone_42 
    exact ⟨rfl, rfl, rfl, by dsimp only; rw [if_pos hc]; exact ⟨rfl, rfl⟩⟩
  · intro f23
    refine AW.iload_n X dX1_shone_26 rfl rfl ?_
    refine AW.iconst X (v := 0) dX1_shone_27 rfl ?_
    refine AW.sipush X (v := 255) dX1_shone_28 rfl ?_
    refine AW.callS_r X (c_X1_within s 0 255) s_X1_57 (by omega) (Nat.le_of_ble_eq_true rfl) rfl rfl (Nat.le_of_ble_eq_true rfl) dX1_shone_31 ?_
    refine AW.if_ne X (tgt := 43) dX1_shone_34 rfl ?_ ?_
    · intro t34
      have hs : 0 ≤ s ∧ s ≤ 255 := Decidable.of_not_not fun z => t34 (bI_z.mpr z)
      have h12 : ¬ n = 12 := fun z => f23 (by rw [z]; rfl)
      have hc : ¬ (n = 12 ∨ ¬ (0 ≤ s ∧ s ≤ 255)) := fun z => z.elim h12 (fun z => z hs)
      first | refine AW.aload_n X dX1_shone_43 rfl rfl ?_ | refine AW.aloadN_n X dX1_shone_43 rfl rfl ?_
      refine AW.getR X f_X1_10_0 (by first | assumption | exact hT _ _ rfl) (by first | assumption | exact hR _ _ _ rfl) dX1_shone_44 ?_
      refine AW.getR X f_X1_287_1 (by first | assumption | exact hT _ _ rfl) (by first | assumption | exact hR _ _ _ rfl) dX1_shone_47 ?_
      refine AW.iload X dX1_shone_50 rfl ?_
      refine AW.iload_n X dX1_shone_52 rfl rfl ?_
      refine AW.iast X (j := n) (by omega) (by first | assumption | exact hT _ _ rfl) (by repeat (first | with_reducible exact rfl | assumption | exact ix_l _ | apply ix_add | apply ix_mul)) (by omega) dX1_shone_53 ?_
      first | refine AW.aload_n X dX1_shone_54 rfl rfl ?_ | refine AW.aloadN_n X dX1_shone_54 rfl rfl ?_
      refine AW.getR X f_X1_10_0 (by first | assumption | exact hT _ _ rfl) (by first | assumption | exact hR _ _ _ rfl) dX1_shone_55 ?_
      refine AW.getR X f_X1_289_1 (by first | assumption | exact hT _ _ rfl) (by first | assumption | exact hR _ _ _ rfl) dX1_shone_58 ?_
      refine AW.iload X dX1_shone_61 rfl ?_
      refine AW.iload_n X dX1_shone_63 rfl rfl ?_
      refine AW.iast X (j := n) (by omega) (by first | assumption | exact hT _ _ rfl) (by repeat (first | with_reducible exact rfl | assumption | exact ix_l _ | apply ix_add | apply ix_mul)) (by omega) dX1_shone_64 ?_
      first | refine AW.aload_n X dX1_shone_65 rfl rfl ?_ | refine AW.aloadN_n X dX1_shone_65 rfl rfl ?_
      refine AW.getR X f_X1_10_0 (by first | assumption | exact hT _ _ rfl) (by first | assumption | exact hR _ _ _ rfl) dX1_shone_66 ?_
      refine AW.getR X f_X1_290_1 (by first | assumption | exact hT _ _ rfl) (by first | assumption | exact hR _ _ _ rfl) dX1_shone_69 ?_
      refine AW.iload X dX1_shone_72 rfl ?_
      refine AW.iload_n X dX1_shone_74 rfl rfl ?_
      refine AW.iast X (j := n) (by omega) (by first | assumption | exact hT _ _ rfl) (by repeat (first | with_reducible exact rfl | assumption | exact ix_l _ | apply ix_add | apply ix_mul)) (by omega) dX1_shone_75 ?_
      first | refine AW.aload_n X dX1_shone_76 rfl rfl ?_ | refine AW.aloadN_n X dX1_shone_76 rfl rfl ?_
      refine AW.getR X f_X1_10_0 (by first | assumption | exact hT _ _ rfl) (by first | assumption | exact hR _ _ _ rfl) dX1_shone_77 ?_
      refine AW.dup X dX1_shone_80 rfl ?_
      refine AW.getI X f_X1_135_1 (by first | assumption | exact hT _ _ rfl) dX1_shone_81 ?_
      rw [w2_r (by decide), w2_r (by decide), w2_r (by decide), hn]
      refine AW.iconst X (v := 1) dX1_shone_84 rfl ?_
      refine AW.iadd X dX1_shone_85 ?_
      rw [nI_1]
      refine AW.putI X g_X1_shone_135_1 (by omega) (by first | assumption | exact hT _ _ rfl) dX1_shone_86 ?_ 
      first | refine AW.aload_n X dX1_shone_89 rfl rfl ?_ | refine AW.aloadN_n X dX1_shone_89 rfl rfl ?_
      refine AW.getR X f_X1_10_0 (by first | assumption | exact hT _ _ rfl) (by first | assumption | exact hR _ _ _ rfl) dX1_shone_90 ?_
      refine AW.getI X f_X1_135_1 (by first | assumption | exact hT _ _ rfl) dX1_shone_93 ?_
      rw [w2_s]
      refine AW.ireturn X E ?_ dX1_shone_96 
      exact ⟨rfl, rfl, rfl, by dsimp only; rw [if_neg hc]; exact ⟨rfl, rfl⟩⟩
    · intro f34
      have hc : n = 12 ∨ ¬ (0 ≤ s ∧ s ≤ 255) := Or.inr (bI_z.mp f34)
      first | refine AW.aload_n X dX1_shone_37 rfl rfl ?_ | refine AW.aloadN_n X dX1_shone_37 rfl rfl ?_
      refine AW.iconst X (v := 2) dX1_shone_38 rfl ?_
      refine AW.callV_i X (c_X1_refuses (k := 2) hT hR (by omega)) (ci := 0) (q := (RX1, TX1, 14)) (by first | assumption | exact hT _ _ rfl) rfl s_X1_204_0 (by omega) (Nat.le_of_ble_eq_true rfl) rfl rfl (Nat.le_of_ble_eq_true rfl) dX1_shone_39 ?_
      intro r39 I39 h39
      obtain ⟨rfl, rfl⟩ := h39
      refine AW.ireturn X E ?_ dX1_shone_42 
      exact ⟨rfl, rfl, rfl, by dsimp only; rw [if_pos hc]; exact ⟨rfl, rfl⟩⟩
theorem c_X1_shone_bad {e h s : Int32} (hX : XS pb T I R N) (h1 : 100 ≤ B) (h0 : (T B).1 = 0) (hb : ¬ ((0 ≤ e ∧ e < nI (nQ N)) ∧ (0 ≤ h ∧ h ≤ 23))) : MX1_shone 9 2 [.ref 100, .int e, .int h, .int s] T I R J noQ (qX 22 B T I R J) := by
  have hX0 := hX
  obtain ⟨hT, hR, hP, hL, hN, hM, h20, hG⟩ := hX
  have hL0 := hL
  obtain ⟨l1, l2, l3, l4, l5, l6, l7, l8, l9, l10, l11, l12, l13, l14, l15, l16, l17⟩ := hL
  obtain ⟨⟨n1, n2, n3, n4, hnq, hne, hns, hnh⟩, -⟩ := id hN
  have pT0 := hP.T0
  have prQ := hP.rQ
  have prE := hP.rE
  have prS := hP.rS
  have prM := hP.rM
  have prW := hP.rW
  have prHd := hP.rHd
  have prHf := hP.rHf
  have prHt := hP.rHt
  have ptM := hP.tM
  have ptW := hP.tW
  have ptHd := hP.tHd
  have ptHf := hP.tHf
  have ptHt := hP.tHt
  have plQ := hP.lQ.tl
  have plE := hP.lE.tl
  have plS := hP.lS.tl
  refine AMet.of (by decide) (Nat.le_of_ble_eq_true rfl) (cats1 rfl) fun cx X E => ?_
  show AW _ _ _ (_ :: _ :: _ :: _ :: _ :: []) _ _ _ _ _
  by_cases hi : 0 ≤ e ∧ e < nI (nQ N)
  · obtain ⟨k, hk, rfl⟩ : ∃ k, k < nQ N ∧ e = nI k := inN hi (by omega)
    first | refine AW.aload_n X dX1_shone_0 rfl rfl ?_ | refine AW.aloadN_n X dX1_shone_0 rfl rfl ?_
    refine AW.iload_n X dX1_shone_1 rfl rfl ?_
    refine AW.callV_r X (c_X1_quayAt_ok hX0 hk) (ci := 0) (q := (RX1, TX1, 14)) (by first | assumption | exact hT _ _ rfl) rfl s_X1_158_0 (by omega) (Nat.le_of_ble_eq_true rfl) rfl rfl (Nat.le_of_ble_eq_true rfl) dX1_shone_2 ?_
    refine AW.pop X dX1_shone_5 rfl ?_
    refine AW.iload_n X dX1_shone_6 rfl rfl ?_
    exact AW.callS (b := 0) (bc := 2) X (c_X1_hourAt_bad h1 h0 (fun hh => hb ⟨hi, hh⟩)) s_X1_201 (by omega) (Nat.le_of_ble_eq_true rfl) rfl rfl (Nat.le_of_ble_eq_true rfl) dX1_shone_7 (fun _ _ _ _ _ h => h.elim) (AX.thru X E (by omega) rfl (fun _ h => nomatch h))
  · skip
    first | refine AW.aload_n X dX1_shone_0 rfl rfl ?_ | refine AW.aloadN_n X dX1_shone_0 rfl rfl ?_
    refine AW.iload_n X dX1_shone_1 rfl rfl ?_
    exact AW.callV (b := 0) (bc := 2) X (c_X1_quayAt_bad hX0 h1 h0 hi) (ci := 0) (q := (RX1, TX1, 14)) (by first | assumption | exact hT _ _ rfl) rfl s_X1_158_0 (by omega) (Nat.le_of_ble_eq_true rfl) rfl rfl (Nat.le_of_ble_eq_true rfl) dX1_shone_2 (fun _ _ _ _ _ h => h.elim) (AX.thru X E (by omega) rfl (fun _ h => nomatch h))
theorem c_X1_forget {n : Nat} (hT : XT T) (hR : XRf R) (hn : I 101 5 = nI n) (hn2 : n ≤ 12) : MX1_forget 0 0 [.ref 100] T I R J (qI (fun r I' => if n = 0 then r = some (.int (-1)) ∧ I' = I else r = some (.int (nI (n - 1))) ∧ I' = w2 I 101 5 (nI (n - 1))) T R J) noX := by
  refine AMet.of (by decide) (Nat.le_of_ble_eq_true rfl) (cats1 rfl) fun cx X E => ?_
  show AW _ _ _ (_ :: []) _ _ _ _ _
  first | refine AW.aload_n X dX1_forget_0 rfl rfl ?_ | refine AW.aloadN_n X dX1_forget_0 rfl rfl ?_
  refine AW.getR X f_X1_10_0 (by first | assumption | exact hT _ _ rfl) (by first | assumption | exact hR _ _ _ rfl) dX1_forget_1 ?_
  refine AW.getI X f_X1_135_1 (by first | assumption | exact hT _ _ rfl) dX1_forget_4 ?_
  rw [hn]
  refine AW.if_ne X (tgt := 12) dX1_forget_7 rfl ?_ ?_
  · intro t7
    have h0 : ¬ n = 0 := fun z => t7 (by rw [z]; rfl)
    first | refine AW.aload_n X dX1_forget_12 rfl rfl ?_ | refine AW.aloadN_n X dX1_forget_12 rfl rfl ?_
    refine AW.getR X f_X1_10_0 (by first | assumption | exact hT _ _ rfl) (by first | assumption | exact hR _ _ _ rfl) dX1_forget_13 ?_
    refine AW.dup X dX1_forget_16 rfl ?_
    refine AW.getI X f_X1_135_1 (by first | assumption | exact hT _ _ rfl) dX1_forget_17 ?_
    rw [hn]
    refine AW.iconst X (v := 1) dX1_forget_20 rfl ?_
    refine AW.isub X dX1_forget_21 ?_
    rw [show nI n - 1 = nI (n - 1) from nI_sub (c := 1) (by omega)]
    refine AW.putI X g_X1_forget_135_1 (by omega) (by first | assumption | exact hT _ _ rfl) dX1_forget_22 ?_ 
    first | refine AW.aload_n X dX1_forget_25 rfl rfl ?_ | refine AW.aloadN_n X dX1_forget_25 rfl rfl ?_
    refine AW.getR X f_X1_10_0 (by first | assumption | exact hT _ _ rfl) (by first | assumption | exact hR _ _ _ rfl) dX1_forget_26 ?_
    refine AW.getI X f_X1_135_1 (by first | assumption | exact hT _ _ rfl) dX1_forget_29 ?_
    rw [w2_s]
    refine AW.ireturn X E ?_ dX1_forget_32 
    exact ⟨rfl, rfl, rfl, by dsimp only; rw [if_neg h0]; exact ⟨rfl, rfl⟩⟩
  · intro f7
    refine AW.iconst X (v := -1) dX1_forget_10 rfl ?_
    refine AW.ireturn X E ?_ dX1_forget_11 
    exact ⟨rfl, rfl, rfl, by dsimp only; rw [if_pos ((nI_eq (b := 0) (by omega) (by omega)).mp f7)]; exact ⟨rfl, rfl⟩⟩
theorem c_X1_fault (hT : XT T) : MX1_fault 0 0 [.ref 100] T I R J (qR (some (.int (I 100 7))) T I R J) noX := by
  refine AMet.of (by decide) (Nat.le_of_ble_eq_true rfl) (cats1 rfl) fun cx X E => ?_
  show AW _ _ _ (_ :: []) _ _ _ _ _
  first | refine AW.aload_n X dX1_fault_0 rfl rfl ?_ | refine AW.aloadN_n X dX1_fault_0 rfl rfl ?_
  refine AW.getI X f_X1_34_0 (by first | assumption | exact hT _ _ rfl) dX1_fault_1 ?_
  exact AW.ireturn X E ⟨rfl, rfl, rfl, rfl, rfl⟩ dX1_fault_4 
def byt (v : Int32) (j : Nat) : Int32 := vp_nar .byte ((v >>> (Int32.ofInt (24 - 8 * j) &&& 31)).toInt8.toInt32)
def LayP (t n : Nat) (v : Int32) (I I' : KI) : Prop := (∀ a, a ≠ 106 → a ≠ 100 → I' a = I a) ∧ (∀ k, k ≠ 6 → I' 100 k = I 100 k) ∧ I' 100 6 = nI (t + n) ∧ (∀ j, j < t → I' 106 j = I 106 j) ∧ ∀ j, j < n → I' 106 (t + j) = byt v j
theorem c_X1_lay {t : Nat} {v : Int32} (hT : XT T) (hR : XRf R) (ht : I 100 6 = nI t) (ht2 : t + 4 ≤ 700) : MX1_lay 0 0 [.ref 100, .int v] T I R J (qI (fun r I' => r = none ∧ LayP t 4 v I I') T R J) noX := by
  refine AMet.of (by decide) (Nat.le_of_ble_eq_true rfl) (cats1 rfl) fun cx X E => ?_
  show AW _ _ _ (_ :: _ :: _ :: []) _ _ _ _ _
  have lp : ∀ k j (I' : KI), j + k = 4 → LayP t j v I I' → AW cx 0 3 [.ref 100, .int v, .int (Int32.ofInt (24 - 8 * j))] [] T I' R J := by
    intro k
    induction k with
    | zero =>
      intro j I' hk hi
      obtain rfl : j = 4 := by omega
      refine AW.iload_n X dX1_lay_3 rfl rfl ?_
      refine AW.if_lt X (tgt := 36) dX1_lay_4 rfl ?_ ?_
      · intro t4
        refine AW.vreturn X E ?_ dX1_lay_36
        exact ⟨rfl, rfl, rfl, rfl, hi⟩
      · intro f4
        exact absurd (by decide) f4
    | succ k ih =>
      intro j I' hk hi
      obtain ⟨i1, i2, i3, i4, i5⟩ := hi
      have hj : j = 0 ∨ j = 1 ∨ j = 2 ∨ j = 3 := by omega
      have hnn : ¬ Int32.ofInt (24 - 8 * j) < 0 := by rcases hj with rfl | rfl | rfl | rfl <;> decide
      have hst : Int32.ofInt (24 - 8 * j) + -8 = Int32.ofInt (24 - 8 * (j + 1 : Nat)) := by rcases hj with rfl | rfl | rfl | rfl <;> decide
      refine AW.iload_n X dX1_lay_3 rfl rfl ?_
      refine AW.if_lt X (tgt := 36) dX1_lay_4 rfl ?_ ?_
      · intro t4
        exact absurd t4 hnn
      · intro f4
        first | refine AW.aload_n X dX1_lay_7 rfl rfl ?_ | refine AW.aloadN_n X dX1_lay_7 rfl rfl ?_
        refine AW.getR X f_X1_30_0 (by first | assumption | exact hT _ _ rfl) (by first | assumption | exact hR _ _ _ rfl) dX1_lay_8 ?_
        first | refine AW.aload_n X dX1_lay_11 rfl rfl ?_ | refine AW.aloadN_n X dX1_lay_11 rfl rfl ?_
        refine AW.getI X f_X1_97_0 (by first | assumption | exact hT _ _ rfl) dX1_lay_12 ?_
        rw [i3]
        refine AW.iload_n X dX1_lay_15 rfl rfl ?_
        refine AW.iload_n X dX1_lay_16 rfl rfl ?_
        refine AW.ishr X dX1_lay_17 ?_
        refine AW.i2b X dX1_lay_18 ?_
        first | refine AW.bast X (j := t + j) (by omega) (by first | assumption | exact hT _ _ rfl) (by repeat (first | with_reducible exact rfl | assumption | exact ix_l _ | apply ix_add | apply ix_mul)) (by omega) dX1_lay_19 ?_ | refine AW.zast X (j := t + j) (by omega) (by first | assumption | exact hT _ _ rfl) (by repeat (first | with_reducible exact rfl | assumption | exact ix_l _ | apply ix_add | apply ix_mul)) (by omega) dX1_lay_19 ?_
        first | refine AW.aload_n X dX1_lay_20 rfl rfl ?_ | refine AW.aloadN_n X dX1_lay_20 rfl rfl ?_
        refine AW.dup X dX1_lay_21 rfl ?_
        refine AW.getI X f_X1_97_0 (by first | assumption | exact hT _ _ rfl) dX1_lay_22 ?_
        rw [w2_r (by decide), i3]
        refine AW.iconst X (v := 1) dX1_lay_25 rfl ?_
        refine AW.iadd X dX1_lay_26 ?_
        rw [nI_1]
        refine AW.putI X g_X1_lay_97_0 (by omega) (by first | assumption | exact hT _ _ rfl) dX1_lay_27 ?_ 
        refine AW.iinc2 X (v := _ + -8) dX1_lay_30 rfl ?_
        refine AW.goto X (tgt := 3) dX1_lay_33 rfl ?_
        rw [hst]
        refine ih (j + 1) _ (by omega) ⟨fun a a1 a2 => ?_, fun k hk => ?_, ?_, fun j' hj' => ?_, fun j' hj' => ?_⟩
        · rw [w2_r a2, w2_r a1]; exact i1 a a1 a2
        · rw [w2_n2 hk, w2_r (by decide)]; exact i2 k hk
        · rw [w2_s]; rfl
        · rw [w2_n1 (by decide), w2_n2 (by omega)]; exact i4 j' hj'
        · rw [w2_n1 (by decide)]
          by_cases hx : j' = j
          · subst hx; rw [w2_s]; rfl
          · rw [w2_n2 (by omega)]; exact i5 j' (by omega)
  refine AW.bipush X (v := 24) dX1_lay_0 rfl ?_
  refine AW.istore2 X dX1_lay_2 ?_
  exact lp 4 0 I rfl ⟨fun _ _ _ => rfl, fun _ _ => rfl, ht, fun _ _ => rfl, fun _ h => absurd h (Nat.not_lt_zero _)⟩
def ag5 (a b c d e : Int32) (k : Nat) : Int32 := if k < 4 then a else if k < 8 then b else if k < 12 then c else if k < 16 then d else e
def FeedP (t : Nat) (a b c d e : Int32) (I I' : KI) : Prop := (∀ x, x ≠ 106 → x ≠ 100 → I' x = I x) ∧ (∀ k, k ≠ 6 → I' 100 k = I 100 k) ∧ I' 100 6 = nI (t + 20) ∧ (∀ j, j < t → I' 106 j = I 106 j) ∧ ∀ j, j < 20 → I' 106 (t + j) = byt (ag5 a b c d e j) (j % 4)
theorem c_X1_feed {t : Nat} {a b c d e : Int32} (hT : XT T) (hR : XRf R) (ht : I 100 6 = nI t) (ht2 : t ≤ 700) : MX1_feed 1 0 [.ref 100, .int a, .int b, .int c, .int d, .int e] T I R J (qI (fun r I' => if t + 20 ≤ 700 then r = some (.int (nI (t + 20))) ∧ FeedP t a b c d e I I' else r = some (.int (-1)) ∧ I' = I) T R J) noX := by
  refine AMet.of (by decide) (Nat.le_of_ble_eq_true rfl) (cats1 rfl) fun cx X E => ?_
  show AW _ _ _ (_ :: _ :: _ :: _ :: _ :: _ :: []) _ _ _ _ _
  first | refine AW.aload_n X dX1_feed_0 rfl rfl ?_ | refine AW.aloadN_n X dX1_feed_0 rfl rfl ?_
  refine AW.getI X f_X1_97_0 (by first | assumption | exact hT _ _ rfl) dX1_feed_1 ?_
  rw [ht]
  refine AW.bipush X (v := 20) dX1_feed_4 rfl ?_
  refine AW.iadd X dX1_feed_6 ?_
  refine AW.sipush X (v := 700) dX1_feed_7 rfl ?_
  refine AW.icmp_le X (tgt := 15) dX1_feed_10 rfl ?_ ?_
  · intro t10
    have hle : t + 20 ≤ 700 := by
      have h9 : nI t + nI 20 ≤ nI 700 := t10
      rw [nI_add] at h9
      exact (nI_leI (by omega) (by omega)).mp h9
    first | refine AW.aload_n X dX1_feed_15 rfl rfl ?_ | refine AW.aloadN_n X dX1_feed_15 rfl rfl ?_
    refine AW.iload_n X dX1_feed_16 rfl rfl ?_
    refine AW.callV_i X (c_X1_lay (t := t) hT hR ht (by omega)) (ci := 0) (q := (RX1, TX1, 14)) (by first | assumption | exact hT _ _ rfl) rfl s_X1_100_0 (by omega) (Nat.le_of_ble_eq_true rfl) rfl rfl (Nat.le_of_ble_eq_true rfl) dX1_feed_17 ?_
    intro r17 I17 h17
    obtain ⟨rfl, a1, a2, a3, a4, a5⟩ := h17
    first | refine AW.aload_n X dX1_feed_20 rfl rfl ?_ | refine AW.aloadN_n X dX1_feed_20 rfl rfl ?_
    refine AW.iload_n X dX1_feed_21 rfl rfl ?_
    refine AW.callV_i X (c_X1_lay (t := t + 4) hT hR a3 (by omega)) (ci := 0) (q := (RX1, TX1, 14)) (by first | assumption | exact hT _ _ rfl) rfl s_X1_100_0 (by omega) (Nat.le_of_ble_eq_true rfl) rfl rfl (Nat.le_of_ble_eq_true rfl) dX1_feed_22 ?_
    intro r22 I22 h22
    obtain ⟨rfl, b1, b2, b3, b4, b5⟩ := h22
    first | refine AW.aload_n X dX1_feed_25 rfl rfl ?_ | refine AW.aloadN_n X dX1_feed_25 rfl rfl ?_
    refine AW.iload_n X dX1_feed_26 rfl rfl ?_
    refine AW.callV_i X (c_X1_lay (t := t + 8) hT hR b3 (by omega)) (ci := 0) (q := (RX1, TX1, 14)) (by first | assumption | exact hT _ _ rfl) rfl s_X1_100_0 (by omega) (Nat.le_of_ble_eq_true rfl) rfl rfl (Nat.le_of_ble_eq_true rfl) dX1_feed_27 ?_
    intro r27 I27 h27
    obtain ⟨rfl, c1, c2, c3, c4, c5⟩ := h27
    first | refine AW.aload_n X dX1_feed_30 rfl rfl ?_ | refine AW.aloadN_n X dX1_feed_30 rfl rfl ?_
    refine AW.iload X dX1_feed_31 rfl ?_
    refine AW.callV_i X (c_X1_lay (t := t + 12) hT hR c3 (by omega)) (ci := 0) (q := (RX1, TX1, 14)) (by first | assumption | exact hT _ _ rfl) rfl s_X1_100_0 (by omega) (Nat.le_of_ble_eq_true rfl) rfl rfl (Nat.le_of_ble_eq_true rfl) dX1_feed_33 ?_
    intro r33 I33 h33
    obtain ⟨rfl, d1, d2, d3, d4, d5⟩ := h33
    first | refine AW.aload_n X dX1_feed_36 rfl rfl ?_ | refine AW.aloadN_n X dX1_feed_36 rfl rfl ?_
    refine AW.iload X dX1_feed_37 rfl ?_
    refine AW.callV_i X (c_X1_lay (t := t + 16) hT hR d3 (by omega)) (ci := 0) (q := (RX1, TX1, 14)) (by first | assumption | exact hT _ _ rfl) rfl s_X1_100_0 (by omega) (Nat.le_of_ble_eq_true rfl) rfl rfl (Nat.le_of_ble_eq_true rfl) dX1_feed_39 ?_
    intro r39 I39 h39
    obtain ⟨rfl, e1, e2, e3, e4, e5⟩ := h39
    first | refine AW.aload_n X dX1_feed_42 rfl rfl ?_ | refine AW.aloadN_n X dX1_feed_42 rfl rfl ?_
    refine AW.getI X f_X1_97_0 (by first | assumption | exact hT _ _ rfl) dX1_feed_43 ?_
    rw [e3]
    refine AW.ireturn X E ?_ dX1_feed_46 
    refine ⟨rfl, rfl, rfl, ?_⟩
    dsimp only
    rw [if_pos hle]
    refine ⟨rfl, fun x x1 x2 => ?_, fun k hk => ?_, e3, fun j hj => ?_, fun j hj => ?_⟩
    · rw [e1 x x1 x2, d1 x x1 x2, c1 x x1 x2, b1 x x1 x2, a1 x x1 x2]
    · rw [e2 k hk, d2 k hk, c2 k hk, b2 k hk, a2 k hk]
    · rw [e4 j (by omega), d4 j (by omega), c4 j (by omega), b4 j (by omega), a4 j (by omega)]
    · unfold ag5
      by_cases j4 : j < 4
      · rw [if_pos j4, e4 _ (by omega), d4 _ (by omega), c4 _ (by omega), b4 _ (by omega), a5 j j4, Nat.mod_eq_of_lt j4]
      rw [if_neg j4]
      by_cases j8 : j < 8
      · rw [if_pos j8, e4 _ (by omega), d4 _ (by omega), c4 _ (by omega), show t + j = t + 4 + (j - 4) by omega, b5 (j - 4) (by omega), show j % 4 = j - 4 by omega]
      rw [if_neg j8]
      by_cases j12 : j < 12
      · rw [if_pos j12, e4 _ (by omega), d4 _ (by omega), show t + j = t + 8 + (j - 8) by omega, c5 (j - 8) (by omega), show j % 4 = j - 8 by omega]
      rw [if_neg j12]
      by_cases j16 : j < 16
      · rw [if_pos j16, e4 _ (by omega), show t + j = t + 12 + (j - 12) by omega, d5 (j - 12) (by omega), show j % 4 = j - 12 by omega]
      · rw [if_neg j16, show t + j = t + 16 + (j - 16) by omega, e5 (j - 16) (by omega), show j % 4 = j - 16 by omega]
  · intro f10
    have hgt : ¬ t + 20 ≤ 700 := fun z => f10 (show nI t + nI 20 ≤ nI 700 by rw [nI_add]; exact nI_le z (by omega))
    refine AW.iconst X (v := -1) dX1_feed_13 rfl ?_
    refine AW.ireturn X E ?_ dX1_feed_14 
    exact ⟨rfl, rfl, rfl, by dsimp only; rw [if_neg hgt]; exact ⟨rfl, rfl⟩⟩
theorem c_X1_planned {i n : Nat} (hT : XT T) (hR : XRf R) (hn : I 100 10 = nI n) (hn2 : n ≤ 4) (hi : i < n) : MX1_planned 8 0 [.ref 100, .int (nI i)] T I R J (qR (some (.int (I 108 i))) T I R J) noX := by
  refine AMet.of (by decide) (Nat.le_of_ble_eq_true rfl) (cats1 rfl) fun cx X E => ?_
  show AW _ _ _ (_ :: _ :: []) _ _ _ _ _
  first | refine AW.aload_n X dX1_planned_0 rfl rfl ?_ | refine AW.aloadN_n X dX1_planned_0 rfl rfl ?_
  refine AW.getI X f_X1_45_0 (by first | assumption | exact hT _ _ rfl) dX1_planned_1 ?_
  rw [hn]
  refine AW.iconst X (v := -1) dX1_planned_4 rfl ?_
  refine AW.icmp_eq X (tgt := 24) dX1_planned_5 rfl ?_ ?_
  · intro t5
    exact absurd t5 (nI_m1 (by omega))
  · intro f5
    refine AW.iload_n X dX1_planned_8 rfl rfl ?_
    refine AW.if_lt X (tgt := 24) dX1_planned_9 rfl ?_ ?_
    · intro t9
      exact absurd t9 (nI_pos (by omega))
    · intro f9
      refine AW.iload_n X dX1_planned_12 rfl rfl ?_
      first | refine AW.aload_n X dX1_planned_13 rfl rfl ?_ | refine AW.aloadN_n X dX1_planned_13 rfl rfl ?_
      refine AW.getI X f_X1_45_0 (by first | assumption | exact hT _ _ rfl) dX1_planned_14 ?_
      rw [hn]
      refine AW.icmp_ge X (tgt := 24) dX1_planned_17 rfl ?_ ?_
      · intro t17
        exact absurd t17 (nI_ge (by omega) (by omega))
      · intro f17
        refine AW.iconst X (v := 1) dX1_planned_20 rfl ?_
        refine AW.goto X (tgt := 25) dX1_planned_21 rfl ?_
        refine AW.callS_r X (c_X1_there_ok (by decide)) s_X1_61 (by omega) (Nat.le_of_ble_eq_true rfl) rfl rfl (Nat.le_of_ble_eq_true rfl) dX1_planned_25 ?_
        first | refine AW.aload_n X dX1_planned_28 rfl rfl ?_ | refine AW.aloadN_n X dX1_planned_28 rfl rfl ?_
        refine AW.getR X f_X1_42_0 (by first | assumption | exact hT _ _ rfl) (by first | assumption | exact hR _ _ _ rfl) dX1_planned_29 ?_
        refine AW.iload_n X dX1_planned_32 rfl rfl ?_
        refine AW.iald X (j := i) (by first | assumption | exact hT _ _ rfl) (by repeat (first | with_reducible exact rfl | assumption | exact ix_l _ | apply ix_add | apply ix_mul)) (by omega) dX1_planned_33 ?_
        exact AW.ireturn X E ⟨rfl, rfl, rfl, rfl, rfl⟩ dX1_planned_34 
theorem c_X1_planned_bad {i : Int32} (hT : XT T) (hR : XRf R) (h1 : 100 ≤ B) (h0 : (T B).1 = 0) (hb : ¬ (¬ I 100 10 = -1 ∧ 0 ≤ i ∧ i < I 100 10)) : MX1_planned 8 2 [.ref 100, .int i] T I R J noQ (qX 22 B T I R J) := by
  refine AMet.of (by decide) (Nat.le_of_ble_eq_true rfl) (cats1 rfl) fun cx X E => ?_
  show AW _ _ _ (_ :: _ :: []) _ _ _ _ _
  first | refine AW.aload_n X dX1_planned_0 rfl rfl ?_ | refine AW.aloadN_n X dX1_planned_0 rfl rfl ?_
  refine AW.getI X f_X1_45_0 (by first | assumption | exact hT _ _ rfl) dX1_planned_1 ?_
  refine AW.iconst X (v := -1) dX1_planned_4 rfl ?_
  refine AW.icmp_eq X (tgt := 24) dX1_planned_5 rfl ?_ ?_
  · intro t5
    refine AW.iconst X (v := 0) dX1_planned_24 rfl ?_
    exact AW.callS (b := 0) (bc := 2) X (c_X1_there_bad h1 h0) s_X1_61 (by omega) (Nat.le_of_ble_eq_true rfl) rfl rfl (Nat.le_of_ble_eq_true rfl) dX1_planned_25 (fun _ _ _ _ _ h => h.elim) (AX.thru X E (by omega) rfl (fun _ h => nomatch h))
  · intro f5
    refine AW.iload_n X dX1_planned_8 rfl rfl ?_
    refine AW.if_lt X (tgt := 24) dX1_planned_9 rfl ?_ ?_
    · intro t9
      refine AW.iconst X (v := 0) dX1_planned_24 rfl ?_
      exact AW.callS (b := 0) (bc := 2) X (c_X1_there_bad h1 h0) s_X1_61 (by omega) (Nat.le_of_ble_eq_true rfl) rfl rfl (Nat.le_of_ble_eq_true rfl) dX1_planned_25 (fun _ _ _ _ _ h => h.elim) (AX.thru X E (by omega) rfl (fun _ h => nomatch h))
    · intro f9
      refine AW.iload_n X dX1_planned_12 rfl rfl ?_
      first | refine AW.aload_n X dX1_planned_13 rfl rfl ?_ | refine AW.aloadN_n X dX1_planned_13 rfl rfl ?_
      refine AW.getI X f_X1_45_0 (by first | assumption | exact hT _ _ rfl) dX1_planned_14 ?_
      refine AW.icmp_ge X (tgt := 24) dX1_planned_17 rfl ?_ ?_
      · intro t17
        refine AW.iconst X (v := 0) dX1_planned_24 rfl ?_
        exact AW.callS (b := 0) (bc := 2) X (c_X1_there_bad h1 h0) s_X1_61 (by omega) (Nat.le_of_ble_eq_true rfl) rfl rfl (Nat.le_of_ble_eq_true rfl) dX1_planned_25 (fun _ _ _ _ _ h => h.elim) (AX.thru X E (by omega) rfl (fun _ h => nomatch h))
      · intro f17
        exact absurd ⟨f5, Int32.not_lt.mp f9, Int32.not_le.mp f17⟩ hb
theorem c_X2_like_102 (hT : XT T) (hR : XRf R) (hL : LR 103 pb T I R N) (hM : nM N ≤ 20) : MX2_like 2 0 [.ref 102, .ref 101] T I R J (fun r T' I' R' J' => r = none ∧ T' = T ∧ J' = J ∧ R' = w2 R 104 0 (some pb) ∧ LR 104 pb T I' R' N ∧ (∀ a, a ≠ 102 → a ≠ 104 → a ≠ 121 → a ≠ 122 → a ≠ 123 → a ≠ 124 → (a < 143 ∨ 145 < a) → I' a = I a) ∧ (∀ j, j < 12 → I' 121 j = I 111 j ∧ I' 122 j = I 112 j ∧ I' 123 j = I 113 j) ∧ (∀ j, j < 3 → I' 124 j = I 114 j) ∧ I' 102 5 = I 101 5) noX := by
  refine AMet.of (by decide) (Nat.le_of_ble_eq_true rfl) (cats1 rfl) fun cx X E => ?_
  show AW _ _ _ (_ :: _ :: []) _ _ _ _ _
  first | refine AW.aload_n X dX2_like_0 rfl rfl ?_ | refine AW.aloadN_n X dX2_like_0 rfl rfl ?_
  refine AW.getR X f_X2_12_1 (by first | assumption | exact hT _ _ rfl) (by first | assumption | exact hR _ _ _ rfl) dX2_like_1 ?_
  first | refine AW.aload_n X dX2_like_4 rfl rfl ?_ | refine AW.aloadN_n X dX2_like_4 rfl rfl ?_
  refine AW.getR X f_X2_12_1 (by first | assumption | exact hT _ _ rfl) (by first | assumption | exact hR _ _ _ rfl) dX2_like_5 ?_
  refine AW.callV_0 X (c_X3_like (la := 104) (lb := 103) hT hR (by omega) (by omega) (by omega) hL hM) (ci := 2) (q := (RX3, TX3, 9)) (by first | assumption | exact hT _ _ rfl) rfl s_X2_31_2 (by omega) (Nat.le_of_ble_eq_true rfl) rfl rfl (Nat.le_of_ble_eq_true rfl) dX2_like_8 ?_ ?_
  rotate_left
  · intro _ _ _ _ _ h; exact h.elim
  intro r8 T8 I8 R8 J8 h8
  obtain ⟨rfl, rfl, rfl, rfl, g1, g2⟩ := h8
  have hR := hR.w (a := 104) (k := 0) (r := pb) rfl
  have f1 : ∀ a, a ≠ 104 → (a < 143 ∨ 145 < a) → I8 a = I a := fun a a1 a2 => g1 a a1 (by unfold lA; omega) (by unfold lA; omega) (by unfold lA; omega)
  first | refine AW.aload_n X dX2_like_11 rfl rfl ?_ | refine AW.aloadN_n X dX2_like_11 rfl rfl ?_
  refine AW.getR X f_X2_18_1 (by first | assumption | exact hT _ _ rfl) (by first | assumption | exact hR _ _ _ rfl) dX2_like_12 ?_
  refine AW.iconst X (v := 0) dX2_like_15 rfl ?_
  first | refine AW.aload_n X dX2_like_16 rfl rfl ?_ | refine AW.aloadN_n X dX2_like_16 rfl rfl ?_
  refine AW.getR X f_X2_18_1 (by first | assumption | exact hT _ _ rfl) (by first | assumption | exact hR _ _ _ rfl) dX2_like_17 ?_
  refine AW.iconst X (v := 0) dX2_like_20 rfl ?_
  refine AW.bipush X (v := 12) dX2_like_21 rfl ?_
  refine AW.copyI X (sp := 0) (dp := 0) (n := 12) (by omega) (by omega) (by first | assumption | exact hT _ _ rfl) (by first | assumption | exact hT _ _ rfl) rfl (by decide) rfl rfl rfl (by omega) (by omega) (fun _ _ => rfl) q773 (by omega) (Nat.le_of_ble_eq_true rfl) dX2_like_23 ?_
  first | refine AW.aload_n X dX2_like_26 rfl rfl ?_ | refine AW.aloadN_n X dX2_like_26 rfl rfl ?_
  refine AW.getR X f_X2_22_1 (by first | assumption | exact hT _ _ rfl) (by first | assumption | exact hR _ _ _ rfl) dX2_like_27 ?_
  refine AW.iconst X (v := 0) dX2_like_30 rfl ?_
  first | refine AW.aload_n X dX2_like_31 rfl rfl ?_ | refine AW.aloadN_n X dX2_like_31 rfl rfl ?_
  refine AW.getR X f_X2_22_1 (by first | assumption | exact hT _ _ rfl) (by first | assumption | exact hR _ _ _ rfl) dX2_like_32 ?_
  refine AW.iconst X (v := 0) dX2_like_35 rfl ?_
  refine AW.bipush X (v := 12) dX2_like_36 rfl ?_
  refine AW.copyI X (sp := 0) (dp := 0) (n := 12) (by omega) (by omega) (by first | assumption | exact hT _ _ rfl) (by first | assumption | exact hT _ _ rfl) rfl (by decide) rfl rfl rfl (by omega) (by omega) (fun _ _ => rfl) q773 (by omega) (Nat.le_of_ble_eq_true rfl) dX2_like_38 ?_
  first | refine AW.aload_n X dX2_like_41 rfl rfl ?_ | refine AW.aloadN_n X dX2_like_41 rfl rfl ?_
  refine AW.getR X f_X2_25_1 (by first | assumption | exact hT _ _ rfl) (by first | assumption | exact hR _ _ _ rfl) dX2_like_42 ?_
  refine AW.iconst X (v := 0) dX2_like_45 rfl ?_
  first | refine AW.aload_n X dX2_like_46 rfl rfl ?_ | refine AW.aloadN_n X dX2_like_46 rfl rfl ?_
  refine AW.getR X f_X2_25_1 (by first | assumption | exact hT _ _ rfl) (by first | assumption | exact hR _ _ _ rfl) dX2_like_47 ?_
  refine AW.iconst X (v := 0) dX2_like_50 rfl ?_
  refine AW.bipush X (v := 12) dX2_like_51 rfl ?_
  refine AW.copyI X (sp := 0) (dp := 0) (n := 12) (by omega) (by omega) (by first | assumption | exact hT _ _ rfl) (by first | assumption | exact hT _ _ rfl) rfl (by decide) rfl rfl rfl (by omega) (by omega) (fun _ _ => rfl) q773 (by omega) (Nat.le_of_ble_eq_true rfl) dX2_like_53 ?_
  first | refine AW.aload_n X dX2_like_56 rfl rfl ?_ | refine AW.aloadN_n X dX2_like_56 rfl rfl ?_
  refine AW.getR X f_X2_28_1 (by first | assumption | exact hT _ _ rfl) (by first | assumption | exact hR _ _ _ rfl) dX2_like_57 ?_
  refine AW.iconst X (v := 0) dX2_like_60 rfl ?_
  first | refine AW.aload_n X dX2_like_61 rfl rfl ?_ | refine AW.aloadN_n X dX2_like_61 rfl rfl ?_
  refine AW.getR X f_X2_28_1 (by first | assumption | exact hT _ _ rfl) (by first | assumption | exact hR _ _ _ rfl) dX2_like_62 ?_
  refine AW.iconst X (v := 0) dX2_like_65 rfl ?_
  first | refine AW.aload_n X dX2_like_66 rfl rfl ?_ | refine AW.aloadN_n X dX2_like_66 rfl rfl ?_
  refine AW.getR X f_X2_28_1 (by first | assumption | exact hT _ _ rfl) (by first | assumption | exact hR _ _ _ rfl) dX2_like_67 ?_
  first | refine AW.alen X (by first | assumption | exact hT _ _ rfl) rfl dX2_like_70 ?_ | refine AW.alenQ X (by first | assumption | exact hT _ _ rfl) rfl dX2_like_70 ?_
  refine AW.copyI X (sp := 0) (dp := 0) (n := 3) (by omega) (by omega) (by first | assumption | exact hT _ _ rfl) (by first | assumption | exact hT _ _ rfl) rfl (by decide) rfl rfl rfl (by omega) (by omega) (fun _ _ => rfl) q773 (by omega) (Nat.le_of_ble_eq_true rfl) dX2_like_71 ?_
  first | refine AW.aload_n X dX2_like_74 rfl rfl ?_ | refine AW.aloadN_n X dX2_like_74 rfl rfl ?_
  first | refine AW.aload_n X dX2_like_75 rfl rfl ?_ | refine AW.aloadN_n X dX2_like_75 rfl rfl ?_
  refine AW.getI X f_X2_41_1 (by first | assumption | exact hT _ _ rfl) dX2_like_76 ?_
  refine AW.putI X g_X2_like_41_1 (by omega) (by first | assumption | exact hT _ _ rfl) dX2_like_79 ?_ 
  refine AW.vreturn X E ?_ dX2_like_82
  refine ⟨rfl, rfl, rfl, rfl, ?_, fun a a1 a2 a3 a4 a5 a6 a7 => ?_, fun j hj => ⟨?_, ?_, ?_⟩, fun j hj => ?_, ?_⟩
  · exact g2.keep (by rw [w2_r (by decide), row_n (by decide), row_n (by decide), row_n (by decide), row_n (by decide)]) (by rw [w2_r (by decide), row_n (by decide), row_n (by decide), row_n (by decide), row_n (by decide)]) (by rw [w2_r (by decide), row_n (by decide), row_n (by decide), row_n (by decide), row_n (by decide)]) (by rw [w2_r (by decide), row_n (by decide), row_n (by decide), row_n (by decide), row_n (by decide)])
  · rw [w2_r a1, row_n a6, row_n a5, row_n a4, row_n a3]; exact f1 a a2 a7
  · rw [w2_r (by decide), row_n (by decide), row_n (by decide), row_n (by decide), row_s, cpy_in hj, f1 _ (by decide) (by decide)]
  · rw [w2_r (by decide), row_n (by decide), row_n (by decide), row_s, cpy_in hj, row_n (by decide), f1 _ (by decide) (by decide)]
  · rw [w2_r (by decide), row_n (by decide), row_s, cpy_in hj, row_n (by decide), row_n (by decide), f1 _ (by decide) (by decide)]
  · rw [w2_r (by decide), row_s, cpy_in hj, row_n (by decide), row_n (by decide), row_n (by decide), f1 _ (by decide) (by decide)]
  · rw [w2_s, row_n (by decide), row_n (by decide), row_n (by decide), row_n (by decide), f1 _ (by decide) (by decide)]
theorem c_X2_like_101 (hT : XT T) (hR : XRf R) (hL : LR 104 pb T I R N) (hM : nM N ≤ 20) : MX2_like 2 0 [.ref 101, .ref 102] T I R J (fun r T' I' R' J' => r = none ∧ T' = T ∧ J' = J ∧ R' = w2 R 103 0 (some pb) ∧ LR 103 pb T I' R' N ∧ (∀ a, a ≠ 101 → a ≠ 103 → a ≠ 111 → a ≠ 112 → a ≠ 113 → a ≠ 114 → (a < 133 ∨ 135 < a) → I' a = I a) ∧ (∀ j, j < 12 → I' 111 j = I 121 j ∧ I' 112 j = I 122 j ∧ I' 113 j = I 123 j) ∧ (∀ j, j < 3 → I' 114 j = I 124 j) ∧ I' 101 5 = I 102 5) noX := by
  refine AMet.of (by decide) (Nat.le_of_ble_eq_true rfl) (cats1 rfl) fun cx X E => ?_
  show AW _ _ _ (_ :: _ :: []) _ _ _ _ _
  first | refine AW.aload_n X dX2_like_0 rfl rfl ?_ | refine AW.aloadN_n X dX2_like_0 rfl rfl ?_
  refine AW.getR X f_X2_12_1 (by first | assumption | exact hT _ _ rfl) (by first | assumption | exact hR _ _ _ rfl) dX2_like_1 ?_
  first | refine AW.aload_n X dX2_like_4 rfl rfl ?_ | refine AW.aloadN_n X dX2_like_4 rfl rfl ?_
  refine AW.getR X f_X2_12_1 (by first | assumption | exact hT _ _ rfl) (by first | assumption | exact hR _ _ _ rfl) dX2_like_5 ?_
  refine AW.callV_0 X (c_X3_like (la := 103) (lb := 104) hT hR (by omega) (by omega) (by omega) hL hM) (ci := 2) (q := (RX3, TX3, 9)) (by first | assumption | exact hT _ _ rfl) rfl s_X2_31_2 (by omega) (Nat.le_of_ble_eq_true rfl) rfl rfl (Nat.le_of_ble_eq_true rfl) dX2_like_8 ?_ ?_
  rotate_left
  · intro _ _ _ _ _ h; exact h.elim
  intro r8 T8 I8 R8 J8 h8
  obtain ⟨rfl, rfl, rfl, rfl, g1, g2⟩ := h8
  have hR := hR.w (a := 103) (k := 0) (r := pb) rfl
  have f1 : ∀ a, a ≠ 103 → (a < 133 ∨ 135 < a) → I8 a = I a := fun a a1 a2 => g1 a a1 (by unfold lA; omega) (by unfold lA; omega) (by unfold lA; omega)
  first | refine AW.aload_n X dX2_like_11 rfl rfl ?_ | refine AW.aloadN_n X dX2_like_11 rfl rfl ?_
  refine AW.getR X f_X2_18_1 (by first | assumption | exact hT _ _ rfl) (by first | assumption | exact hR _ _ _ rfl) dX2_like_12 ?_
  refine AW.iconst X (v := 0) dX2_like_15 rfl ?_
  first | refine AW.aload_n X dX2_like_16 rfl rfl ?_ | refine AW.aloadN_n X dX2_like_16 rfl rfl ?_
  refine AW.getR X f_X2_18_1 (by first | assumption | exact hT _ _ rfl) (by first | assumption | exact hR _ _ _ rfl) dX2_like_17 ?_
  refine AW.iconst X (v := 0) dX2_like_20 rfl ?_
  refine AW.bipush X (v := 12) dX2_like_21 rfl ?_
  refine AW.copyI X (sp := 0) (dp := 0) (n := 12) (by omega) (by omega) (by first | assumption | exact hT _ _ rfl) (by first | assumption | exact hT _ _ rfl) rfl (by decide) rfl rfl rfl (by omega) (by omega) (fun _ _ => rfl) q773 (by omega) (Nat.le_of_ble_eq_true rfl) dX2_like_23 ?_
  first | refine AW.aload_n X dX2_like_26 rfl rfl ?_ | refine AW.aloadN_n X dX2_like_26 rfl rfl ?_
  refine AW.getR X f_X2_22_1 (by first | assumption | exact hT _ _ rfl) (by first | assumption | exact hR _ _ _ rfl) dX2_like_27 ?_
  refine AW.iconst X (v := 0) dX2_like_30 rfl ?_
  first | refine AW.aload_n X dX2_like_31 rfl rfl ?_ | refine AW.aloadN_n X dX2_like_31 rfl rfl ?_
  refine AW.getR X f_X2_22_1 (by first | assumption | exact hT _ _ rfl) (by first | assumption | exact hR _ _ _ rfl) dX2_like_32 ?_
  refine AW.iconst X (v := 0) dX2_like_35 rfl ?_
  refine AW.bipush X (v := 12) dX2_like_36 rfl ?_
  refine AW.copyI X (sp := 0) (dp := 0) (n := 12) (by omega) (by omega) (by first | assumption | exact hT _ _ rfl) (by first | assumption | exact hT _ _ rfl) rfl (by decide) rfl rfl rfl (by omega) (by omega) (fun _ _ => rfl) q773 (by omega) (Nat.le_of_ble_eq_true rfl) dX2_like_38 ?_
  first | refine AW.aload_n X dX2_like_41 rfl rfl ?_ | refine AW.aloadN_n X dX2_like_41 rfl rfl ?_
  refine AW.getR X f_X2_25_1 (by first | assumption | exact hT _ _ rfl) (by first | assumption | exact hR _ _ _ rfl) dX2_like_42 ?_
  refine AW.iconst X (v := 0) dX2_like_45 rfl ?_
  first | refine AW.aload_n X dX2_like_46 rfl rfl ?_ | refine AW.aloadN_n X dX2_like_46 rfl rfl ?_
  refine AW.getR X f_X2_25_1 (by first | assumption | exact hT _ _ rfl) (by first | assumption | exact hR _ _ _ rfl) dX2_like_47 ?_
  refine AW.iconst X (v := 0) dX2_like_50 rfl ?_
  refine AW.bipush X (v := 12) dX2_like_51 rfl ?_
  refine AW.copyI X (sp := 0) (dp := 0) (n := 12) (by omega) (by omega) (by first | assumption | exact hT _ _ rfl) (by first | assumption | exact hT _ _ rfl) rfl (by decide) rfl rfl rfl (by omega) (by omega) (fun _ _ => rfl) q773 (by omega) (Nat.le_of_ble_eq_true rfl) dX2_like_53 ?_
  first | refine AW.aload_n X dX2_like_56 rfl rfl ?_ | refine AW.aloadN_n X dX2_like_56 rfl rfl ?_
  refine AW.getR X f_X2_28_1 (by first | assumption | exact hT _ _ rfl) (by first | assumption | exact hR _ _ _ rfl) dX2_like_57 ?_
  refine AW.iconst X (v := 0) dX2_like_60 rfl ?_
  first | refine AW.aload_n X dX2_like_61 rfl rfl ?_ | refine AW.aloadN_n X dX2_like_61 rfl rfl ?_
  refine AW.getR X f_X2_28_1 (by first | assumption | exact hT _ _ rfl) (by first | assumption | exact hR _ _ _ rfl) dX2_like_62 ?_
  refine AW.iconst X (v := 0) dX2_like_65 rfl ?_
  first | refine AW.aload_n X dX2_like_66 rfl rfl ?_ | refine AW.aloadN_n X dX2_like_66 rfl rfl ?_
  refine AW.getR X f_X2_28_1 (by first | assumption | exact hT _ _ rfl) (by first | assumption | exact hR _ _ _ rfl) dX2_like_67 ?_
  first | refine AW.alen X (by first | assumption | exact hT _ _ rfl) rfl dX2_like_70 ?_ | refine AW.alenQ X (by first | assumption | exact hT _ _ rfl) rfl dX2_like_70 ?_
  refine AW.copyI X (sp := 0) (dp := 0) (n := 3) (by omega) (by omega) (by first | assumption | exact hT _ _ rfl) (by first | assumption | exact hT _ _ rfl) rfl (by decide) rfl rfl rfl (by omega) (by omega) (fun _ _ => rfl) q773 (by omega) (Nat.le_of_ble_eq_true rfl) dX2_like_71 ?_
  first | refine AW.aload_n X dX2_like_74 rfl rfl ?_ | refine AW.aloadN_n X dX2_like_74 rfl rfl ?_
  first | refine AW.aload_n X dX2_like_75 rfl rfl ?_ | refine AW.aloadN_n X dX2_like_75 rfl rfl ?_
  refine AW.getI X f_X2_41_1 (by first | assumption | exact hT _ _ rfl) dX2_like_76 ?_
  refine AW.putI X g_X2_like_41_1 (by omega) (by first | assumption | exact hT _ _ rfl) dX2_like_79 ?_ 
  refine AW.vreturn X E ?_ dX2_like_82
  refine ⟨rfl, rfl, rfl, rfl, ?_, fun a a1 a2 a3 a4 a5 a6 a7 => ?_, fun j hj => ⟨?_, ?_, ?_⟩, fun j hj => ?_, ?_⟩
  · exact g2.keep (by rw [w2_r (by decide), row_n (by decide), row_n (by decide), row_n (by decide), row_n (by decide)]) (by rw [w2_r (by decide), row_n (by decide), row_n (by decide), row_n (by decide), row_n (by decide)]) (by rw [w2_r (by decide), row_n (by decide), row_n (by decide), row_n (by decide), row_n (by decide)]) (by rw [w2_r (by decide), row_n (by decide), row_n (by decide), row_n (by decide), row_n (by decide)])
  · rw [w2_r a1, row_n a6, row_n a5, row_n a4, row_n a3]; exact f1 a a2 a7
  · rw [w2_r (by decide), row_n (by decide), row_n (by decide), row_n (by decide), row_s, cpy_in hj, f1 _ (by decide) (by decide)]
  · rw [w2_r (by decide), row_n (by decide), row_n (by decide), row_s, cpy_in hj, row_n (by decide), f1 _ (by decide) (by decide)]
  · rw [w2_r (by decide), row_n (by decide), row_s, cpy_in hj, row_n (by decide), row_n (by decide), f1 _ (by decide) (by decide)]
  · rw [w2_r (by decide), row_s, cpy_in hj, row_n (by decide), row_n (by decide), row_n (by decide), f1 _ (by decide) (by decide)]
  · rw [w2_s, row_n (by decide), row_n (by decide), row_n (by decide), row_n (by decide), f1 _ (by decide) (by decide)]
def BookP (ra rb ba bb : Nat) (I I' : KI) : Prop := (∀ j, j < 12 → I' (ra + 1) j = I (rb + 1) j ∧ I' (ra + 2) j = I (rb + 2) j ∧ I' (ra + 3) j = I (rb + 3) j) ∧ (∀ j, j < 3 → I' (ra + 4) j = I (rb + 4) j) ∧ I' ba 5 = I bb 5
theorem c_X1_image (hX : XS pb T I R N) : MX1_image 3 0 [.ref 100] T I R J (fun r T' I' R' J' => r = none ∧ T' = T ∧ J' = J ∧ R' = w2 R 104 0 (some pb) ∧ LR 104 pb T I' R' N ∧ (∀ a, a ≠ 100 → a ≠ 102 → a ≠ 104 → (a < 121 ∨ 124 < a) → (a < 143 ∨ 145 < a) → I' a = I a) ∧ (∀ k, k ≠ 4 → I' 100 k = I 100 k) ∧ I' 100 4 = 1 ∧ BookP 120 110 102 101 I I') noX := by
  obtain ⟨hT, hR, hP, hL, hN, hM, h20, hG⟩ := hX
  have hL0 := hL
  obtain ⟨l1, l2, l3, l4, l5, l6, l7, l8, l9, l10, l11, l12, l13, l14, l15, l16, l17⟩ := hL
  obtain ⟨⟨n1, n2, n3, n4, hnq, hne, hns, hnh⟩, -⟩ := id hN
  have pT0 := hP.T0
  have prQ := hP.rQ
  have prE := hP.rE
  have prS := hP.rS
  have prM := hP.rM
  have prW := hP.rW
  have prHd := hP.rHd
  have prHf := hP.rHf
  have prHt := hP.rHt
  have ptM := hP.tM
  have ptW := hP.tW
  have ptHd := hP.tHd
  have ptHf := hP.tHf
  have ptHt := hP.tHt
  have plQ := hP.lQ.tl
  have plE := hP.lE.tl
  have plS := hP.lS.tl
  refine AMet.of (by decide) (Nat.le_of_ble_eq_true rfl) (cats1 rfl) fun cx X E => ?_
  show AW _ _ _ (_ :: []) _ _ _ _ _
  first | refine AW.aload_n X dX1_image_0 rfl rfl ?_ | refine AW.aloadN_n X dX1_image_0 rfl rfl ?_
  refine AW.getR X f_X1_16_0 (by first | assumption | exact hT _ _ rfl) (by first | assumption | exact hR _ _ _ rfl) dX1_image_1 ?_
  first | refine AW.aload_n X dX1_image_4 rfl rfl ?_ | refine AW.aloadN_n X dX1_image_4 rfl rfl ?_
  refine AW.getR X f_X1_10_0 (by first | assumption | exact hT _ _ rfl) (by first | assumption | exact hR _ _ _ rfl) dX1_image_5 ?_
  refine AW.callV_0 X (c_X2_like_102 hT hR hL0 h20) (ci := 1) (q := (RX2, TX2, 6)) (by first | assumption | exact hT _ _ rfl) rfl s_X1_302_1 (by omega) (Nat.le_of_ble_eq_true rfl) rfl rfl (Nat.le_of_ble_eq_true rfl) dX1_image_8 ?_ ?_
  rotate_left
  · intro _ _ _ _ _ h; exact h.elim
  intro r8 T8 I8 R8 J8 h8
  obtain ⟨rfl, rfl, rfl, rfl, g1, g2, g3, g4, g5⟩ := h8
  first | refine AW.aload_n X dX1_image_11 rfl rfl ?_ | refine AW.aloadN_n X dX1_image_11 rfl rfl ?_
  refine AW.iconst X (v := 1) dX1_image_12 rfl ?_
  refine AW.putI X g_X1_image_138_0 (by omega) (by first | assumption | exact hT _ _ rfl) dX1_image_13 ?_ 
  refine AW.vreturn X E ?_ dX1_image_16
  refine ⟨rfl, rfl, rfl, rfl, g1.keep (w2_r (by decide)) (w2_r (by decide)) (w2_r (by decide)) (w2_r (by decide)), fun a a1 a2 a3 a4 a5 => ?_, fun k hk => ?_, w2_s _ _ _ _, fun j hj => ?_, fun j hj => ?_, ?_⟩
  · rw [w2_r a1]; exact g2 a a2 a3 (by omega) (by omega) (by omega) (by omega) a5
  · rw [w2_n2 hk]; exact congrFun (g2 100 (by omega) (by omega) (by omega) (by omega) (by omega) (by omega) (by omega)) k
  · rw [w2_r (by decide), w2_r (by decide), w2_r (by decide)]; exact g3 j hj
  · rw [w2_r (by decide)]; exact g4 j hj
  · rw [w2_r (by decide)]; exact g5
theorem c_X1_restore {Ni : KI} (hX : XS pb T I R N) (hi : I 100 4 = 0 ∨ (I 100 4 = 1 ∧ LR 104 pb T I R Ni ∧ MOKs Ni ∧ nM Ni ≤ 20 ∧ ∀ a, 304 ≤ a → a ≤ 322 → Ni a = N a)) : MX1_restore 9 0 [.ref 100] T I R J (fun r T' I' R' J' => T' = T ∧ J' = J ∧ R' = w2 R 103 0 (some pb) ∧ if I 100 4 = 0 then r = some (.int 0) ∧ I' = I else r = some (.int 1) ∧ XS pb T I' R' Ni ∧ (∀ a, a ≠ 101 → a ≠ 103 → (a < 111 ∨ 114 < a) → (a < 133 ∨ 138 < a) → I' a = I a) ∧ BookP 110 120 101 102 I I') noX := by
  obtain ⟨hT, hR, hP, hL, hN, hM, h20, hG⟩ := hX
  have hL0 := hL
  obtain ⟨l1, l2, l3, l4, l5, l6, l7, l8, l9, l10, l11, l12, l13, l14, l15, l16, l17⟩ := hL
  obtain ⟨⟨n1, n2, n3, n4, hnq, hne, hns, hnh⟩, -⟩ := id hN
  have pT0 := hP.T0
  have prQ := hP.rQ
  have prE := hP.rE
  have prS := hP.rS
  have prM := hP.rM
  have prW := hP.rW
  have prHd := hP.rHd
  have prHf := hP.rHf
  have prHt := hP.rHt
  have ptM := hP.tM
  have ptW := hP.tW
  have ptHd := hP.tHd
  have ptHf := hP.tHf
  have ptHt := hP.tHt
  have plQ := hP.lQ.tl
  have plE := hP.lE.tl
  have plS := hP.lS.tl
  refine AMet.of (by decide) (Nat.le_of_ble_eq_true rfl) (cats1 rfl) fun cx X E => ?_
  show AW _ _ _ (_ :: []) _ _ _ _ _
  have hRR : w2 R 103 0 (some pb) = R := by
    funext a k
    by_cases h1 : a = 103 ∧ k = 0
    · rw [h1.1, h1.2, w2_s, l2]
    · by_cases h2 : a = 103
      · rw [w2_n2 (fun h3 => h1 ⟨h2, h3⟩)]
      · rw [w2_n1 h2]
  rcases hi with hi | ⟨hi, hLi, hMi, h2i, hvi⟩
  · skip
    first | refine AW.aload_n X dX1_restore_0 rfl rfl ?_ | refine AW.aloadN_n X dX1_restore_0 rfl rfl ?_
    refine AW.getI X f_X1_138_0 (by first | assumption | exact hT _ _ rfl) dX1_restore_1 ?_
    refine AW.if_ne X (tgt := 9) dX1_restore_4 rfl ?_ ?_
    · intro t4
      exact absurd hi t4
    · intro f4
      refine AW.iconst X (v := 0) dX1_restore_7 rfl ?_
      refine AW.ireturn X E ?_ dX1_restore_8 
      exact ⟨rfl, rfl, hRR.symm, by rw [if_pos hi]; exact ⟨rfl, rfl⟩⟩
  · skip
    first | refine AW.aload_n X dX1_restore_0 rfl rfl ?_ | refine AW.aloadN_n X dX1_restore_0 rfl rfl ?_
    refine AW.getI X f_X1_138_0 (by first | assumption | exact hT _ _ rfl) dX1_restore_1 ?_
    refine AW.if_ne X (tgt := 9) dX1_restore_4 rfl ?_ ?_
    · intro t4
      first | refine AW.aload_n X dX1_restore_9 rfl rfl ?_ | refine AW.aloadN_n X dX1_restore_9 rfl rfl ?_
      refine AW.getR X f_X1_10_0 (by first | assumption | exact hT _ _ rfl) (by first | assumption | exact hR _ _ _ rfl) dX1_restore_10 ?_
      first | refine AW.aload_n X dX1_restore_13 rfl rfl ?_ | refine AW.aloadN_n X dX1_restore_13 rfl rfl ?_
      refine AW.getR X f_X1_16_0 (by first | assumption | exact hT _ _ rfl) (by first | assumption | exact hR _ _ _ rfl) dX1_restore_14 ?_
      refine AW.callV_0 X (c_X2_like_101 hT hR hLi h2i) (ci := 1) (q := (RX2, TX2, 6)) (by first | assumption | exact hT _ _ rfl) rfl s_X1_302_1 (by omega) (Nat.le_of_ble_eq_true rfl) rfl rfl (Nat.le_of_ble_eq_true rfl) dX1_restore_17 ?_ ?_
      rotate_left
      · intro _ _ _ _ _ h; exact h.elim
      intro r17 T17 I17 R17 J17 h17
      obtain ⟨rfl, rfl, rfl, rfl, g1, g2, g3, g4, g5⟩ := h17
      have hR' := hR.w (a := 103) (k := 0) (r := pb) rfl
      rw [hRR] at g1 ⊢
      first | refine AW.aload_n X dX1_restore_20 rfl rfl ?_ | refine AW.aloadN_n X dX1_restore_20 rfl rfl ?_
      refine AW.getR X f_X1_23_0 (by first | assumption | exact hT _ _ rfl) (by first | assumption | exact hR _ _ _ rfl) dX1_restore_21 ?_
      refine AW.callV_i X (c_X3_shines (by omega) ((hP.keep (fun a ha => g2 a (by omega) (by omega) (by omega) (by omega) (by omega) (by omega) (by omega))).view hvi) g1 (hN.view hvi) hMi) (ci := 2) (q := (RX3, TX3, 9)) (by first | assumption | exact hT _ _ rfl) rfl s_X1_132_2 (by omega) (Nat.le_of_ble_eq_true rfl) rfl rfl (Nat.le_of_ble_eq_true rfl) dX1_restore_24 ?_
      intro r24 I24 h24
      obtain ⟨rfl, s1, s2⟩ := h24
      refine AW.iconst X (v := 1) dX1_restore_27 rfl ?_
      refine AW.ireturn X E ?_ dX1_restore_28 
      refine ⟨rfl, rfl, hRR.symm, ?_⟩
      rw [if_neg (by rw [hi]; decide)]
      have sf : ∀ a, (a < 133 ∨ 138 < a) → I24 a = I17 a := fun a ha => s1 a (by unfold lA; omega) (by unfold lA; omega) (by unfold lA; omega)
      refine ⟨rfl, ⟨hT, hR, (hP.keep (fun a ha => ?_)).view hvi, g1.keep (s1 _ (by decide) (by decide) (by decide)) (s1 _ (by decide) (by decide) (by decide)) (s1 _ (by decide) (by decide) (by decide)) (s1 _ (by decide) (by decide) (by decide)), hN.view hvi, hMi, h2i, s2⟩, fun a a1 a2 a3 a4 => ?_, fun j hj => ?_, fun j hj => ?_, ?_⟩
      · rw [sf a (by omega)]; exact g2 a (by omega) (by omega) (by omega) (by omega) (by omega) (by omega) (by omega)
      · rw [sf a a4]; exact g2 a a1 a2 (by omega) (by omega) (by omega) (by omega) (by omega)
      · rw [sf _ (by decide), sf _ (by decide), sf _ (by decide)]; exact g3 j hj
      · rw [sf _ (by decide)]; exact g4 j hj
      · rw [sf _ (by decide)]; exact g5
    · intro f4
      rw [hi] at f4; exact absurd f4 (by decide)
end XW
