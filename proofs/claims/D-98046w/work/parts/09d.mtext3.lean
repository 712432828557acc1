/-! 09d: the model reads numbers (steps printed by src/walk.py) -/
set_option maxRecDepth 100000
set_option maxHeartbeats 4000000
section MT3
variable {T : KT} {I : KI} {R : KR} {J : KJ} {Bt : Nat → Nat} {sz : Nat}
theorem c_X5_numberNow {x : Except Er Nat} {lo hi : Nat} (hT : XT T) (hX : TxM Bt sz I) (hx : StM Bt sz x I) (hlo : lo < 1000) (hhi : hi < 1000) : MX5_numberNow 1 0 [.ref 200, .int (nI lo), .int (nI hi)] T I R J (qI (fun r I' => r = some (.int (vOf (x.bind (numF Bt sz lo hi)))) ∧ SF I I' ∧ StM Bt sz (fsX x (numF Bt sz lo hi)) I') T R J) noX := by
  have hx0 := hx
  refine AMet.of (by decide) (Nat.le_of_ble_eq_true rfl) (cats1 rfl) fun cx X E => ?_
  show AW _ _ _ (_ :: _ :: _ :: []) _ _ _ _ _
  rcases x with e | i
  · skip
    first | refine AW.aload_n X dX5_numberNow_0 rfl rfl ?_ | refine AW.aloadN_n X dX5_numberNow_0 rfl rfl ?_
    refine AW.getI X f_X5_239_18 (by first | assumption | exact hT _ _ rfl) dX5_numberNow_1 ?_
    refine AW.if_eq X (tgt := 9) dX5_numberNow_4 rfl ?_ ?_
    · intro t4
      exact absurd t4 hx.bad
    · intro f4
      refine AW.iconst X (v := 0) dX5_numberNow_7 rfl ?_
      refine AW.ireturn X E ?_ dX5_numberNow_8 
      exact ⟨rfl, rfl, rfl, rfl, SF.rf, hx⟩
  · obtain ⟨hi', g32, t1, t2, t3, t4', t5⟩ := hx
    have hen := en_sz (Bt := Bt) hi'
    have hge := en_ge (Bt := Bt) (sz := sz) (i := i)
    have hsz := hX.2.1
    have err : ∀ k, 1 ≤ k → k ≤ 5 → numF Bt sz lo hi i = .error (k, beg Bt sz i) → ∀ I', SF I I' → StM Bt sz (wrX Bt sz (.ok i) k) I' → AW cx 0 59 [.ref 200, .int (nI lo), .int (nI hi)] [] T I' R J := by
      intro k k1 k5 hn I' hf hs
      have hv : vOf ((Except.ok i).bind (numF Bt sz lo hi)) = 0 := by show vOf (numF Bt sz lo hi i) = 0; rw [hn]; rfl
      have hfs : fsX (.ok i) (numF Bt sz lo hi) = .error (k, beg Bt sz i) := by show ((numF Bt sz lo hi i).bind fun _ => .ok i) = _; rw [hn]; rfl
      first | refine AW.aload_n X dX5_numberNow_59 rfl rfl ?_ | refine AW.aloadN_n X dX5_numberNow_59 rfl rfl ?_
      refine AW.getI X f_X5_239_18 (by first | assumption | exact hT _ _ rfl) dX5_numberNow_60 ?_
      refine AW.if_ne X (tgt := 73) dX5_numberNow_63 rfl ?_ ?_
      · intro t63
        refine AW.iconst X (v := 0) dX5_numberNow_73 rfl ?_
        refine AW.ireturn X E ?_ dX5_numberNow_74 
        exact ⟨rfl, rfl, rfl, by rw [hv], hf, by rw [hfs]; exact hs⟩
      · intro f63
        exact absurd f63 hs.bad
    by_cases h1 : kd Bt sz i = 1
    · have hnb := nv_b h1
      by_cases hl : ln Bt sz i
      · have hn : numF Bt sz lo hi i = .error (2, beg Bt sz i) := by unfold numF; rw [if_pos h1, if_pos (Or.inl hl)]
        first | refine AW.aload_n X dX5_numberNow_0 rfl rfl ?_ | refine AW.aloadN_n X dX5_numberNow_0 rfl rfl ?_
        refine AW.getI X f_X5_239_18 (by first | assumption | exact hT _ _ rfl) dX5_numberNow_1 ?_
        rw [g32]
        refine AW.if_eq X (tgt := 9) dX5_numberNow_4 rfl ?_ ?_
        · intro t4
          first | refine AW.aload_n X dX5_numberNow_9 rfl rfl ?_ | refine AW.aloadN_n X dX5_numberNow_9 rfl rfl ?_
          refine AW.getI X f_X5_217_18 (by first | assumption | exact hT _ _ rfl) dX5_numberNow_10 ?_
          rw [t2, h1]
          refine AW.iconst X (v := 2) dX5_numberNow_13 rfl ?_
          refine AW.icmp_eq X (tgt := 25) dX5_numberNow_14 rfl ?_ ?_
          · intro t14
            first | refine AW.aload_n X dX5_numberNow_25 rfl rfl ?_ | refine AW.aloadN_n X dX5_numberNow_25 rfl rfl ?_
            refine AW.getI X f_X5_236_18 (by first | assumption | exact hT _ _ rfl) dX5_numberNow_26 ?_
            rw [t4']
            first | refine AW.aload_n X dX5_numberNow_29 rfl rfl ?_ | refine AW.aloadN_n X dX5_numberNow_29 rfl rfl ?_
            refine AW.getI X f_X5_214_18 (by first | assumption | exact hT _ _ rfl) dX5_numberNow_30 ?_
            rw [t3]
            refine AW.isub X dX5_numberNow_33 ?_
            rw [nI_sub hge]
            refine AW.iconst X (v := 3) dX5_numberNow_34 rfl ?_
            refine AW.icmp_gt X (tgt := 54) dX5_numberNow_35 rfl ?_ ?_
            · intro t35
              first | refine AW.aload_n X dX5_numberNow_54 rfl rfl ?_ | refine AW.aloadN_n X dX5_numberNow_54 rfl rfl ?_
              refine AW.iconst X (v := 2) dX5_numberNow_55 rfl ?_
              refine AW.callV_i X (c_X5_wrong hT hx0 (k := 2) (by omega) (by omega)) (ci := 18) (q := (RX5, TX5, 74)) (by first | assumption | exact hT _ _ rfl) rfl s_X5_260_18 (by omega) (Nat.le_of_ble_eq_true rfl) rfl rfl (Nat.le_of_ble_eq_true rfl) dX5_numberNow_56 ?_
              intro r56 I56 h56
              obtain ⟨rfl, q1, q2⟩ := h56
              exact err 2 (by omega) (by omega) hn _ q1 q2
            · intro f35
              exact absurd (nI_lt hl (by omega)) f35
          · intro f14
            exact absurd rfl f14
        · intro f4
          exact absurd rfl f4
      · have g29 := t5 h1 hl
        by_cases hb : nv Bt sz i < lo ∨ hi < nv Bt sz i
        · have hn : numF Bt sz lo hi i = .error (2, beg Bt sz i) := by unfold numF; rw [if_pos h1, if_pos (Or.inr hb)]
          first | refine AW.aload_n X dX5_numberNow_0 rfl rfl ?_ | refine AW.aloadN_n X dX5_numberNow_0 rfl rfl ?_
          refine AW.getI X f_X5_239_18 (by first | assumption | exact hT _ _ rfl) dX5_numberNow_1 ?_
          rw [g32]
          refine AW.if_eq X (tgt := 9) dX5_numberNow_4 rfl ?_ ?_
          · intro t4
            first | refine AW.aload_n X dX5_numberNow_9 rfl rfl ?_ | refine AW.aloadN_n X dX5_numberNow_9 rfl rfl ?_
            refine AW.getI X f_X5_217_18 (by first | assumption | exact hT _ _ rfl) dX5_numberNow_10 ?_
            rw [t2, h1]
            refine AW.iconst X (v := 2) dX5_numberNow_13 rfl ?_
            refine AW.icmp_eq X (tgt := 25) dX5_numberNow_14 rfl ?_ ?_
            · intro t14
              first | refine AW.aload_n X dX5_numberNow_25 rfl rfl ?_ | refine AW.aloadN_n X dX5_numberNow_25 rfl rfl ?_
              refine AW.getI X f_X5_236_18 (by first | assumption | exact hT _ _ rfl) dX5_numberNow_26 ?_
              rw [t4']
              first | refine AW.aload_n X dX5_numberNow_29 rfl rfl ?_ | refine AW.aloadN_n X dX5_numberNow_29 rfl rfl ?_
              refine AW.getI X f_X5_214_18 (by first | assumption | exact hT _ _ rfl) dX5_numberNow_30 ?_
              rw [t3]
              refine AW.isub X dX5_numberNow_33 ?_
              rw [nI_sub hge]
              refine AW.iconst X (v := 3) dX5_numberNow_34 rfl ?_
              refine AW.icmp_gt X (tgt := 54) dX5_numberNow_35 rfl ?_ ?_
              · intro t35
                exact absurd ((nI_ltI (a := 3) (by omega) (by omega)).mp t35) hl
              · intro f35
                first | refine AW.aload_n X dX5_numberNow_38 rfl rfl ?_ | refine AW.aloadN_n X dX5_numberNow_38 rfl rfl ?_
                refine AW.getI X f_X5_227_18 (by first | assumption | exact hT _ _ rfl) dX5_numberNow_39 ?_
                rw [g29]
                refine AW.iload_n X dX5_numberNow_42 rfl rfl ?_
                refine AW.icmp_lt X (tgt := 54) dX5_numberNow_43 rfl ?_ ?_
                · intro t43
                  first | refine AW.aload_n X dX5_numberNow_54 rfl rfl ?_ | refine AW.aloadN_n X dX5_numberNow_54 rfl rfl ?_
                  refine AW.iconst X (v := 2) dX5_numberNow_55 rfl ?_
                  refine AW.callV_i X (c_X5_wrong hT hx0 (k := 2) (by omega) (by omega)) (ci := 18) (q := (RX5, TX5, 74)) (by first | assumption | exact hT _ _ rfl) rfl s_X5_260_18 (by omega) (Nat.le_of_ble_eq_true rfl) rfl rfl (Nat.le_of_ble_eq_true rfl) dX5_numberNow_56 ?_
                  intro r56 I56 h56
                  obtain ⟨rfl, q1, q2⟩ := h56
                  exact err 2 (by omega) (by omega) hn _ q1 q2
                · intro f43
                  first | refine AW.aload_n X dX5_numberNow_46 rfl rfl ?_ | refine AW.aloadN_n X dX5_numberNow_46 rfl rfl ?_
                  refine AW.getI X f_X5_227_18 (by first | assumption | exact hT _ _ rfl) dX5_numberNow_47 ?_
                  rw [g29]
                  refine AW.iload_n X dX5_numberNow_50 rfl rfl ?_
                  refine AW.icmp_le X (tgt := 59) dX5_numberNow_51 rfl ?_ ?_
                  · intro t51
                    exact absurd hb (fun z => z.elim (fun z => f43 (nI_lt z (by omega))) (fun z => nI_ge z (by omega) t51))
                  · intro f51
                    first | refine AW.aload_n X dX5_numberNow_54 rfl rfl ?_ | refine AW.aloadN_n X dX5_numberNow_54 rfl rfl ?_
                    refine AW.iconst X (v := 2) dX5_numberNow_55 rfl ?_
                    refine AW.callV_i X (c_X5_wrong hT hx0 (k := 2) (by omega) (by omega)) (ci := 18) (q := (RX5, TX5, 74)) (by first | assumption | exact hT _ _ rfl) rfl s_X5_260_18 (by omega) (Nat.le_of_ble_eq_true rfl) rfl rfl (Nat.le_of_ble_eq_true rfl) dX5_numberNow_56 ?_
                    intro r56 I56 h56
                    obtain ⟨rfl, q1, q2⟩ := h56
                    exact err 2 (by omega) (by omega) hn _ q1 q2
            · intro f14
              exact absurd rfl f14
          · intro f4
            exact absurd rfl f4
        · have hn : numF Bt sz lo hi i = .ok (nv Bt sz i, en Bt sz i) := by unfold numF; rw [if_pos h1, if_neg (fun z => z.elim hl hb)]
          have hv : vOf ((Except.ok i).bind (numF Bt sz lo hi)) = nI (nv Bt sz i) := by show vOf (numF Bt sz lo hi i) = _; rw [hn]; rfl
          have hfs : fsX (.ok i) (numF Bt sz lo hi) = .ok i := by show ((numF Bt sz lo hi i).bind fun _ => .ok i) = _; rw [hn]; rfl
          first | refine AW.aload_n X dX5_numberNow_0 rfl rfl ?_ | refine AW.aloadN_n X dX5_numberNow_0 rfl rfl ?_
          refine AW.getI X f_X5_239_18 (by first | assumption | exact hT _ _ rfl) dX5_numberNow_1 ?_
          rw [g32]
          refine AW.if_eq X (tgt := 9) dX5_numberNow_4 rfl ?_ ?_
          · intro t4
            first | refine AW.aload_n X dX5_numberNow_9 rfl rfl ?_ | refine AW.aloadN_n X dX5_numberNow_9 rfl rfl ?_
            refine AW.getI X f_X5_217_18 (by first | assumption | exact hT _ _ rfl) dX5_numberNow_10 ?_
            rw [t2, h1]
            refine AW.iconst X (v := 2) dX5_numberNow_13 rfl ?_
            refine AW.icmp_eq X (tgt := 25) dX5_numberNow_14 rfl ?_ ?_
            · intro t14
              first | refine AW.aload_n X dX5_numberNow_25 rfl rfl ?_ | refine AW.aloadN_n X dX5_numberNow_25 rfl rfl ?_
              refine AW.getI X f_X5_236_18 (by first | assumption | exact hT _ _ rfl) dX5_numberNow_26 ?_
              rw [t4']
              first | refine AW.aload_n X dX5_numberNow_29 rfl rfl ?_ | refine AW.aloadN_n X dX5_numberNow_29 rfl rfl ?_
              refine AW.getI X f_X5_214_18 (by first | assumption | exact hT _ _ rfl) dX5_numberNow_30 ?_
              rw [t3]
              refine AW.isub X dX5_numberNow_33 ?_
              rw [nI_sub hge]
              refine AW.iconst X (v := 3) dX5_numberNow_34 rfl ?_
              refine AW.icmp_gt X (tgt := 54) dX5_numberNow_35 rfl ?_ ?_
              · intro t35
                exact absurd ((nI_ltI (a := 3) (by omega) (by omega)).mp t35) hl
              · intro f35
                first | refine AW.aload_n X dX5_numberNow_38 rfl rfl ?_ | refine AW.aloadN_n X dX5_numberNow_38 rfl rfl ?_
                refine AW.getI X f_X5_227_18 (by first | assumption | exact hT _ _ rfl) dX5_numberNow_39 ?_
                rw [g29]
                refine AW.iload_n X dX5_numberNow_42 rfl rfl ?_
                refine AW.icmp_lt X (tgt := 54) dX5_numberNow_43 rfl ?_ ?_
                · intro t43
                  exact absurd (Or.inl ((nI_ltI (by omega) (by omega)).mp t43)) hb
                · intro f43
                  first | refine AW.aload_n X dX5_numberNow_46 rfl rfl ?_ | refine AW.aloadN_n X dX5_numberNow_46 rfl rfl ?_
                  refine AW.getI X f_X5_227_18 (by first | assumption | exact hT _ _ rfl) dX5_numberNow_47 ?_
                  rw [g29]
                  refine AW.iload_n X dX5_numberNow_50 rfl rfl ?_
                  refine AW.icmp_le X (tgt := 59) dX5_numberNow_51 rfl ?_ ?_
                  · intro t51
                    first | refine AW.aload_n X dX5_numberNow_59 rfl rfl ?_ | refine AW.aloadN_n X dX5_numberNow_59 rfl rfl ?_
                    refine AW.getI X f_X5_239_18 (by first | assumption | exact hT _ _ rfl) dX5_numberNow_60 ?_
                    rw [g32]
                    refine AW.if_ne X (tgt := 73) dX5_numberNow_63 rfl ?_ ?_
                    · intro t63
                      exact absurd rfl t63
                    · intro f63
                      first | refine AW.aload_n X dX5_numberNow_66 rfl rfl ?_ | refine AW.aloadN_n X dX5_numberNow_66 rfl rfl ?_
                      refine AW.getI X f_X5_227_18 (by first | assumption | exact hT _ _ rfl) dX5_numberNow_67 ?_
                      rw [g29]
                      refine AW.goto X (tgt := 74) dX5_numberNow_70 rfl ?_
                      refine AW.ireturn X E ?_ dX5_numberNow_74 
                      exact ⟨rfl, rfl, rfl, by rw [hv], SF.rf, by rw [hfs]; exact hx0⟩
                  · intro f51
                    exact absurd (nI_le (by omega) (by omega)) f51
            · intro f14
              exact absurd rfl f14
          · intro f4
            exact absurd rfl f4
    · have hn : numF Bt sz lo hi i = .error (1, beg Bt sz i) := by unfold numF; rw [if_neg h1]
      have hkl := kd_le (Bt := Bt) (sz := sz) (i := i)
      first | refine AW.aload_n X dX5_numberNow_0 rfl rfl ?_ | refine AW.aloadN_n X dX5_numberNow_0 rfl rfl ?_
      refine AW.getI X f_X5_239_18 (by first | assumption | exact hT _ _ rfl) dX5_numberNow_1 ?_
      rw [g32]
      refine AW.if_eq X (tgt := 9) dX5_numberNow_4 rfl ?_ ?_
      · intro t4
        first | refine AW.aload_n X dX5_numberNow_9 rfl rfl ?_ | refine AW.aloadN_n X dX5_numberNow_9 rfl rfl ?_
        refine AW.getI X f_X5_217_18 (by first | assumption | exact hT _ _ rfl) dX5_numberNow_10 ?_
        rw [t2]
        refine AW.iconst X (v := 2) dX5_numberNow_13 rfl ?_
        refine AW.icmp_eq X (tgt := 25) dX5_numberNow_14 rfl ?_ ?_
        · intro t14
          exact absurd ((kd_tok (t := 2) (by omega)).mp t14) (by omega)
        · intro f14
          first | refine AW.aload_n X dX5_numberNow_17 rfl rfl ?_ | refine AW.aloadN_n X dX5_numberNow_17 rfl rfl ?_
          refine AW.iconst X (v := 1) dX5_numberNow_18 rfl ?_
          refine AW.callV_i X (c_X5_wrong hT hx0 (k := 1) (by omega) (by omega)) (ci := 18) (q := (RX5, TX5, 74)) (by first | assumption | exact hT _ _ rfl) rfl s_X5_260_18 (by omega) (Nat.le_of_ble_eq_true rfl) rfl rfl (Nat.le_of_ble_eq_true rfl) dX5_numberNow_19 ?_
          intro r19 I19 h19
          obtain ⟨rfl, q1, q2⟩ := h19
          refine AW.goto X (tgt := 59) dX5_numberNow_22 rfl ?_
          exact err 1 (by omega) (by omega) hn _ q1 q2
      · intro f4
        exact absurd rfl f4
theorem gsX_ok {x : Except Er Nat} {f : Nat → Except Er (Nat × Nat)} {i : Nat} {v : Nat × Nat} (h : x = .ok i) (hf : f i = .ok v) : gsX x f = .ok v.2 := by
  rw [h]; show ((f i).bind fun v => .ok v.2) = _; rw [hf]; rfl
theorem c_X5_readNumber {x : Except Er Nat} {lo hi : Nat} (hT : XT T) (hR : XRf R) (hX : TxM Bt sz I) (hx : StM Bt sz x I) (hlo : lo < 1000) (hhi : hi < 1000) : MX5_readNumber 2 0 [.ref 200, .int (nI lo), .int (nI hi)] T I R J (qI (fun r I' => r = some (.int (vOf (x.bind (numF Bt sz lo hi)))) ∧ SF I I' ∧ StM Bt sz (gsX x (numF Bt sz lo hi)) I') T R J) noX := by
  refine AMet.of (by decide) (Nat.le_of_ble_eq_true rfl) (cats1 rfl) fun cx X E => ?_
  show AW _ _ _ (_ :: _ :: _ :: _ :: []) _ _ _ _ _
  rcases hc : fsX x (numF Bt sz lo hi) with e | i
  · have hg : gsX x (numF Bt sz lo hi) = .error e := by
      rcases x with e' | i
      · exact hc
      · have hc' : ((numF Bt sz lo hi i).bind fun _ => Except.ok i) = .error e := hc
        show ((numF Bt sz lo hi i).bind fun v => .ok v.2) = _
        rcases hn : numF Bt sz lo hi i with e2 | v
        · rw [hn] at hc'; exact hc'
        · rw [hn] at hc'; cases hc'
    first | refine AW.aload_n X dX5_readNumber_0 rfl rfl ?_ | refine AW.aloadN_n X dX5_readNumber_0 rfl rfl ?_
    refine AW.iload_n X dX5_readNumber_1 rfl rfl ?_
    refine AW.iload_n X dX5_readNumber_2 rfl rfl ?_
    refine AW.callV_i X (c_X5_numberNow hT hX hx hlo hhi) (ci := 18) (q := (RX5, TX5, 74)) (by first | assumption | exact hT _ _ rfl) rfl s_X5_264_18 (by omega) (Nat.le_of_ble_eq_true rfl) rfl rfl (Nat.le_of_ble_eq_true rfl) dX5_readNumber_3 ?_
    intro r3 I3 h3
    obtain ⟨rfl, q1, q2⟩ := h3
    rw [hc] at q2
    refine AW.istore3 X dX5_readNumber_6 ?_
    first | refine AW.aload_n X dX5_readNumber_7 rfl rfl ?_ | refine AW.aloadN_n X dX5_readNumber_7 rfl rfl ?_
    refine AW.getI X f_X5_239_18 (by first | assumption | exact hT _ _ rfl) dX5_readNumber_8 ?_
    refine AW.if_ne X (tgt := 18) dX5_readNumber_11 rfl ?_ ?_
    · intro t11
      refine AW.iload_n X dX5_readNumber_18 rfl rfl ?_
      refine AW.ireturn X E ?_ dX5_readNumber_19 
      exact ⟨rfl, rfl, rfl, rfl, q1, by rw [hg]; exact q2⟩
    · intro f11
      exact absurd f11 q2.bad
  · have hh : ∃ v, numF Bt sz lo hi i = .ok v ∧ v.2 = en Bt sz i ∧ x = .ok i := by
      rcases x with e' | i'
      · cases hc
      · have hc' : ((numF Bt sz lo hi i').bind fun _ => Except.ok i') = .ok i := hc
        rcases hn : numF Bt sz lo hi i' with e2 | v
        · rw [hn] at hc'; cases hc'
        · rw [hn] at hc'
          cases hc'
          refine ⟨v, hn, ?_, rfl⟩
          unfold numF at hn
          split at hn
          · split at hn
            · cases hn
            · cases hn; rfl
          · cases hn
    obtain ⟨v, hv1, hv2, hv3⟩ := hh
    have hg := gsX_ok hv3 hv1
    first | refine AW.aload_n X dX5_readNumber_0 rfl rfl ?_ | refine AW.aloadN_n X dX5_readNumber_0 rfl rfl ?_
    refine AW.iload_n X dX5_readNumber_1 rfl rfl ?_
    refine AW.iload_n X dX5_readNumber_2 rfl rfl ?_
    refine AW.callV_i X (c_X5_numberNow hT hX hx hlo hhi) (ci := 18) (q := (RX5, TX5, 74)) (by first | assumption | exact hT _ _ rfl) rfl s_X5_264_18 (by omega) (Nat.le_of_ble_eq_true rfl) rfl rfl (Nat.le_of_ble_eq_true rfl) dX5_readNumber_3 ?_
    intro r3 I3 h3
    obtain ⟨rfl, q1, q2⟩ := h3
    rw [hc] at q2
    obtain ⟨p1, p2, p3⟩ := q2
    refine AW.istore3 X dX5_readNumber_6 ?_
    first | refine AW.aload_n X dX5_readNumber_7 rfl rfl ?_ | refine AW.aloadN_n X dX5_readNumber_7 rfl rfl ?_
    refine AW.getI X f_X5_239_18 (by first | assumption | exact hT _ _ rfl) dX5_readNumber_8 ?_
    rw [p2]
    refine AW.if_ne X (tgt := 18) dX5_readNumber_11 rfl ?_ ?_
    · intro t11
      exact absurd rfl t11
    · intro f11
      first | refine AW.aload_n X dX5_readNumber_14 rfl rfl ?_ | refine AW.aloadN_n X dX5_readNumber_14 rfl rfl ?_
      refine AW.callV_i X (c_X5_stepOn hT hR (hX.sf q1) (en_sz p1) p3.1) (ci := 18) (q := (RX5, TX5, 74)) (by first | assumption | exact hT _ _ rfl) rfl s_X5_257_18 (by omega) (Nat.le_of_ble_eq_true rfl) rfl rfl (Nat.le_of_ble_eq_true rfl) dX5_readNumber_15 ?_
      intro r15 I15 h15
      obtain ⟨rfl, u1, u2⟩ := h15
      refine AW.iload_n X dX5_readNumber_18 rfl rfl ?_
      refine AW.ireturn X E ?_ dX5_readNumber_19 
      exact ⟨rfl, rfl, rfl, rfl, q1.tr u1.sf, by rw [hg, hv2]; exact ⟨en_sz p1, (u1.2 32 (by omega)).trans p2, u2⟩⟩
theorem am_num {m i : Nat} : amF Bt sz m i = ((numF Bt sz 0 999 i).bind fun v => if m ≤ v.1 then .error (3, beg Bt sz i) else .ok v) := by
  unfold amF numF
  by_cases h1 : kd Bt sz i = 1
  · have := nv_b h1
    rw [if_pos h1, if_pos h1]
    by_cases hl : ln Bt sz i
    · rw [if_pos hl, if_pos (Or.inl hl)]; rfl
    · have hno : ¬ (ln Bt sz i ∨ nv Bt sz i < 0 ∨ 999 < nv Bt sz i) := fun z => z.elim hl (fun z => by omega)
      rw [if_neg hl, if_neg hno]
      rfl
  · rw [if_neg h1, if_neg h1]; rfl
theorem c_X5_oneNow {x : Except Er Nat} {w m : Nat} (hT : XT T) (hR : XRf R) (hX : TxM Bt sz I) (hx : StM Bt sz x I) (hw : w < 6) (hm : I 304 (6 + w) = nI m) (hm2 : m < 1000) : MX5_oneNow 2 0 [.ref 200, .int (nI w)] T I R J (qI (fun r I' => r = some (.int (vOf (x.bind (amF Bt sz m)))) ∧ SF I I' ∧ StM Bt sz (fsX x (amF Bt sz m)) I') T R J) noX := by
  refine AMet.of (by decide) (Nat.le_of_ble_eq_true rfl) (cats1 rfl) fun cx X E => ?_
  show AW _ _ _ (_ :: _ :: _ :: []) _ _ _ _ _
  rcases x with e | i
  · skip
    first | refine AW.aload_n X dX5_oneNow_0 rfl rfl ?_ | refine AW.aloadN_n X dX5_oneNow_0 rfl rfl ?_
    refine AW.iconst X (v := 0) dX5_oneNow_1 rfl ?_
    refine AW.sipush X (v := 999) dX5_oneNow_2 rfl ?_
    refine AW.callV_i X (c_X5_numberNow (lo := 0) (hi := 999) hT hX hx (by omega) (by omega)) (ci := 18) (q := (RX5, TX5, 74)) (by first | assumption | exact hT _ _ rfl) rfl s_X5_264_18 (by omega) (Nat.le_of_ble_eq_true rfl) rfl rfl (Nat.le_of_ble_eq_true rfl) dX5_oneNow_5 ?_
    intro r5 I5 h5
    obtain ⟨rfl, q1, q2⟩ := h5
    have hb : ¬ I5 200 32 = 0 := StM.bad (e := e) q2
    refine AW.istore2 X dX5_oneNow_8 ?_
    first | refine AW.aload_n X dX5_oneNow_9 rfl rfl ?_ | refine AW.aloadN_n X dX5_oneNow_9 rfl rfl ?_
    refine AW.getI X f_X5_239_18 (by first | assumption | exact hT _ _ rfl) dX5_oneNow_10 ?_
    refine AW.if_ne X (tgt := 34) dX5_oneNow_13 rfl ?_ ?_
    · intro t13
      first | refine AW.aload_n X dX5_oneNow_34 rfl rfl ?_ | refine AW.aloadN_n X dX5_oneNow_34 rfl rfl ?_
      refine AW.getI X f_X5_239_18 (by first | assumption | exact hT _ _ rfl) dX5_oneNow_35 ?_
      refine AW.if_ne X (tgt := 45) dX5_oneNow_38 rfl ?_ ?_
      · intro t38
        refine AW.iconst X (v := 0) dX5_oneNow_45 rfl ?_
        refine AW.ireturn X E ?_ dX5_oneNow_46 
        exact ⟨rfl, rfl, rfl, rfl, q1, q2⟩
      · intro f38
        exact absurd f38 hb
    · intro f13
      exact absurd f13 hb
  · have ha := am_num (Bt := Bt) (sz := sz) (m := m) (i := i)
    rcases hn : numF Bt sz 0 999 i with e | v
    · have hb1 : vOf ((Except.ok i).bind (numF Bt sz 0 999)) = 0 := by show vOf (numF Bt sz 0 999 i) = 0; rw [hn]; rfl
      have hb2 : fsX (.ok i) (numF Bt sz 0 999) = .error e := by show ((numF Bt sz 0 999 i).bind fun _ => .ok i) = _; rw [hn]; rfl
      have ha1 : vOf ((Except.ok i).bind (amF Bt sz m)) = 0 := by show vOf (amF Bt sz m i) = 0; rw [ha, hn]; rfl
      have ha2 : fsX (.ok i) (amF Bt sz m) = .error e := by show ((amF Bt sz m i).bind fun _ => .ok i) = _; rw [ha, hn]; rfl
      first | refine AW.aload_n X dX5_oneNow_0 rfl rfl ?_ | refine AW.aloadN_n X dX5_oneNow_0 rfl rfl ?_
      refine AW.iconst X (v := 0) dX5_oneNow_1 rfl ?_
      refine AW.sipush X (v := 999) dX5_oneNow_2 rfl ?_
      refine AW.callV_i X (c_X5_numberNow (lo := 0) (hi := 999) hT hX hx (by omega) (by omega)) (ci := 18) (q := (RX5, TX5, 74)) (by first | assumption | exact hT _ _ rfl) rfl s_X5_264_18 (by omega) (Nat.le_of_ble_eq_true rfl) rfl rfl (Nat.le_of_ble_eq_true rfl) dX5_oneNow_5 ?_
      intro r5 I5 h5
      obtain ⟨rfl, q1, q2⟩ := h5
      rw [hb2] at q2
      have hb := q2.bad
      refine AW.istore2 X dX5_oneNow_8 ?_
      first | refine AW.aload_n X dX5_oneNow_9 rfl rfl ?_ | refine AW.aloadN_n X dX5_oneNow_9 rfl rfl ?_
      refine AW.getI X f_X5_239_18 (by first | assumption | exact hT _ _ rfl) dX5_oneNow_10 ?_
      refine AW.if_ne X (tgt := 34) dX5_oneNow_13 rfl ?_ ?_
      · intro t13
        first | refine AW.aload_n X dX5_oneNow_34 rfl rfl ?_ | refine AW.aloadN_n X dX5_oneNow_34 rfl rfl ?_
        refine AW.getI X f_X5_239_18 (by first | assumption | exact hT _ _ rfl) dX5_oneNow_35 ?_
        refine AW.if_ne X (tgt := 45) dX5_oneNow_38 rfl ?_ ?_
        · intro t38
          refine AW.iconst X (v := 0) dX5_oneNow_45 rfl ?_
          refine AW.ireturn X E ?_ dX5_oneNow_46 
          exact ⟨rfl, rfl, rfl, by rw [ha1], q1, by rw [ha2]; exact q2⟩
        · intro f38
          exact absurd f38 hb
      · intro f13
        exact absurd f13 hb
    · have hb1 : vOf ((Except.ok i).bind (numF Bt sz 0 999)) = nI v.1 := by show vOf (numF Bt sz 0 999 i) = _; rw [hn]; rfl
      have hb2 : fsX (.ok i) (numF Bt sz 0 999) = .ok i := by show ((numF Bt sz 0 999 i).bind fun _ => .ok i) = _; rw [hn]; rfl
      have hv9 : v.1 < 1000 := by
        unfold numF at hn
        split at hn
        · rename_i h1
          have := nv_b h1
          split at hn
          · cases hn
          · cases hn; exact this
        · cases hn
      by_cases hmv : m ≤ v.1
      · have ha0 : amF Bt sz m i = .error (3, beg Bt sz i) := by rw [ha, hn]; exact if_pos hmv
        have ha1 : vOf ((Except.ok i).bind (amF Bt sz m)) = 0 := by show vOf (amF Bt sz m i) = 0; rw [ha0]; rfl
        have ha2 : fsX (.ok i) (amF Bt sz m) = .error (3, beg Bt sz i) := by show ((amF Bt sz m i).bind fun _ => .ok i) = _; rw [ha0]; rfl
        first | refine AW.aload_n X dX5_oneNow_0 rfl rfl ?_ | refine AW.aloadN_n X dX5_oneNow_0 rfl rfl ?_
        refine AW.iconst X (v := 0) dX5_oneNow_1 rfl ?_
        refine AW.sipush X (v := 999) dX5_oneNow_2 rfl ?_
        refine AW.callV_i X (c_X5_numberNow (lo := 0) (hi := 999) hT hX hx (by omega) (by omega)) (ci := 18) (q := (RX5, TX5, 74)) (by first | assumption | exact hT _ _ rfl) rfl s_X5_264_18 (by omega) (Nat.le_of_ble_eq_true rfl) rfl rfl (Nat.le_of_ble_eq_true rfl) dX5_oneNow_5 ?_
        intro r5 I5 h5
        obtain ⟨rfl, q1, q2⟩ := h5
        rw [hb2] at q2
        rw [hb1]
        refine AW.istore2 X dX5_oneNow_8 ?_
        first | refine AW.aload_n X dX5_oneNow_9 rfl rfl ?_ | refine AW.aloadN_n X dX5_oneNow_9 rfl rfl ?_
        refine AW.getI X f_X5_239_18 (by first | assumption | exact hT _ _ rfl) dX5_oneNow_10 ?_
        rw [q2.2.1]
        refine AW.if_ne X (tgt := 34) dX5_oneNow_13 rfl ?_ ?_
        · intro t13
          exact absurd rfl t13
        · intro f13
          refine AW.iload_n X dX5_oneNow_16 rfl rfl ?_
          first | refine AW.aload_n X dX5_oneNow_17 rfl rfl ?_ | refine AW.aloadN_n X dX5_oneNow_17 rfl rfl ?_
          refine AW.getR X f_X5_45_18 (by first | assumption | exact hT _ _ rfl) (by first | assumption | exact hR _ _ _ rfl) dX5_oneNow_18 ?_
          refine AW.bipush X (v := 6) dX5_oneNow_21 rfl ?_
          refine AW.iload_n X dX5_oneNow_23 rfl rfl ?_
          refine AW.iadd X dX5_oneNow_24 ?_
          refine AW.iald X (j := 6 + w) (by first | assumption | exact hT _ _ rfl) (by repeat (first | with_reducible exact rfl | assumption | exact ix_l _ | apply ix_add | apply ix_mul)) (by omega) dX5_oneNow_25 ?_
          rw [q1.1 304 (by omega), hm]
          refine AW.icmp_lt X (tgt := 34) dX5_oneNow_26 rfl ?_ ?_
          · intro t26
            exact absurd t26 (nI_nlt hmv (by omega))
          · intro f26
            first | refine AW.aload_n X dX5_oneNow_29 rfl rfl ?_ | refine AW.aloadN_n X dX5_oneNow_29 rfl rfl ?_
            refine AW.iconst X (v := 3) dX5_oneNow_30 rfl ?_
            refine AW.callV_i X (c_X5_wrong hT q2 (k := 3) (by omega) (by omega)) (ci := 18) (q := (RX5, TX5, 74)) (by first | assumption | exact hT _ _ rfl) rfl s_X5_260_18 (by omega) (Nat.le_of_ble_eq_true rfl) rfl rfl (Nat.le_of_ble_eq_true rfl) dX5_oneNow_31 ?_
            intro r31 I31 h31
            obtain ⟨rfl, u1, u2⟩ := h31
            first | refine AW.aload_n X dX5_oneNow_34 rfl rfl ?_ | refine AW.aloadN_n X dX5_oneNow_34 rfl rfl ?_
            refine AW.getI X f_X5_239_18 (by first | assumption | exact hT _ _ rfl) dX5_oneNow_35 ?_
            refine AW.if_ne X (tgt := 45) dX5_oneNow_38 rfl ?_ ?_
            · intro t38
              refine AW.iconst X (v := 0) dX5_oneNow_45 rfl ?_
              refine AW.ireturn X E ?_ dX5_oneNow_46 
              exact ⟨rfl, rfl, rfl, by rw [ha1], q1.tr u1, by rw [ha2]; exact u2⟩
            · intro f38
              exact absurd f38 (StM.bad (e := (3, beg Bt sz i)) u2)
      · have ha0 : amF Bt sz m i = .ok v := by rw [ha, hn]; exact if_neg hmv
        have ha1 : vOf ((Except.ok i).bind (amF Bt sz m)) = nI v.1 := by show vOf (amF Bt sz m i) = _; rw [ha0]; rfl
        have ha2 : fsX (.ok i) (amF Bt sz m) = .ok i := by show ((amF Bt sz m i).bind fun _ => .ok i) = _; rw [ha0]; rfl
        first | refine AW.aload_n X dX5_oneNow_0 rfl rfl ?_ | refine AW.aloadN_n X dX5_oneNow_0 rfl rfl ?_
        refine AW.iconst X (v := 0) dX5_oneNow_1 rfl ?_
        refine AW.sipush X (v := 999) dX5_oneNow_2 rfl ?_
        refine AW.callV_i X (c_X5_numberNow (lo := 0) (hi := 999) hT hX hx (by omega) (by omega)) (ci := 18) (q := (RX5, TX5, 74)) (by first | assumption | exact hT _ _ rfl) rfl s_X5_264_18 (by omega) (Nat.le_of_ble_eq_true rfl) rfl rfl (Nat.le_of_ble_eq_true rfl) dX5_oneNow_5 ?_
        intro r5 I5 h5
        obtain ⟨rfl, q1, q2⟩ := h5
        rw [hb2] at q2
        rw [hb1]
        refine AW.istore2 X dX5_oneNow_8 ?_
        first | refine AW.aload_n X dX5_oneNow_9 rfl rfl ?_ | refine AW.aloadN_n X dX5_oneNow_9 rfl rfl ?_
        refine AW.getI X f_X5_239_18 (by first | assumption | exact hT _ _ rfl) dX5_oneNow_10 ?_
        rw [q2.2.1]
        refine AW.if_ne X (tgt := 34) dX5_oneNow_13 rfl ?_ ?_
        · intro t13
          exact absurd rfl t13
        · intro f13
          refine AW.iload_n X dX5_oneNow_16 rfl rfl ?_
          first | refine AW.aload_n X dX5_oneNow_17 rfl rfl ?_ | refine AW.aloadN_n X dX5_oneNow_17 rfl rfl ?_
          refine AW.getR X f_X5_45_18 (by first | assumption | exact hT _ _ rfl) (by first | assumption | exact hR _ _ _ rfl) dX5_oneNow_18 ?_
          refine AW.bipush X (v := 6) dX5_oneNow_21 rfl ?_
          refine AW.iload_n X dX5_oneNow_23 rfl rfl ?_
          refine AW.iadd X dX5_oneNow_24 ?_
          refine AW.iald X (j := 6 + w) (by first | assumption | exact hT _ _ rfl) (by repeat (first | with_reducible exact rfl | assumption | exact ix_l _ | apply ix_add | apply ix_mul)) (by omega) dX5_oneNow_25 ?_
          rw [q1.1 304 (by omega), hm]
          refine AW.icmp_lt X (tgt := 34) dX5_oneNow_26 rfl ?_ ?_
          · intro t26
            first | refine AW.aload_n X dX5_oneNow_34 rfl rfl ?_ | refine AW.aloadN_n X dX5_oneNow_34 rfl rfl ?_
            refine AW.getI X f_X5_239_18 (by first | assumption | exact hT _ _ rfl) dX5_oneNow_35 ?_
            rw [q2.2.1]
            refine AW.if_ne X (tgt := 45) dX5_oneNow_38 rfl ?_ ?_
            · intro t38
              exact absurd rfl t38
            · intro f38
              refine AW.iload_n X dX5_oneNow_41 rfl rfl ?_
              refine AW.goto X (tgt := 46) dX5_oneNow_42 rfl ?_
              refine AW.ireturn X E ?_ dX5_oneNow_46 
              exact ⟨rfl, rfl, rfl, by rw [ha1], q1, by rw [ha2]; exact q2⟩
          · intro f26
            exact absurd (nI_lt (by omega) (by omega)) f26
theorem amF_en {m i : Nat} {v : Nat × Nat} (h : amF Bt sz m i = .ok v) : v.2 = en Bt sz i ∧ v.1 < m ∧ v.1 < 1000 := by
  unfold amF at h
  split at h
  · rename_i h1
    have := nv_b h1
    split at h
    · cases h
    · split at h
      · cases h
      · cases h; exact ⟨rfl, by omega, this⟩
  · cases h
theorem numF_en {lo hi i : Nat} {v : Nat × Nat} (h : numF Bt sz lo hi i = .ok v) : v.2 = en Bt sz i ∧ lo ≤ v.1 ∧ v.1 ≤ hi := by
  unfold numF at h
  split at h
  · split at h
    · cases h
    · rename_i h2
      cases h; exact ⟨rfl, by omega, by omega⟩
  · cases h
theorem c_X5_readOne {x : Except Er Nat} {w m : Nat} (hT : XT T) (hR : XRf R) (hX : TxM Bt sz I) (hx : StM Bt sz x I) (hw : w < 6) (hm : I 304 (6 + w) = nI m) (hm2 : m < 1000) : MX5_readOne 3 0 [.ref 200, .int (nI w)] T I R J (qI (fun r I' => r = some (.int (vOf (x.bind (amF Bt sz m)))) ∧ SF I I' ∧ StM Bt sz (gsX x (amF Bt sz m)) I') T R J) noX := by
  refine AMet.of (by decide) (Nat.le_of_ble_eq_true rfl) (cats1 rfl) fun cx X E => ?_
  show AW _ _ _ (_ :: _ :: _ :: []) _ _ _ _ _
  rcases hc : fsX x (amF Bt sz m) with e | i
  · have hg : gsX x (amF Bt sz m) = .error e := by
      rcases x with e' | i
      · exact hc
      · have hc' : ((amF Bt sz m i).bind fun _ => Except.ok i) = .error e := hc
        show ((amF Bt sz m i).bind fun v => .ok v.2) = _
        rcases hn : amF Bt sz m i with e2 | v
        · rw [hn] at hc'; exact hc'
        · rw [hn] at hc'; cases hc'
    first | refine AW.aload_n X dX5_readOne_0 rfl rfl ?_ | refine AW.aloadN_n X dX5_readOne_0 rfl rfl ?_
    refine AW.iload_n X dX5_readOne_1 rfl rfl ?_
    refine AW.callV_i X (c_X5_oneNow hT hR hX hx hw hm hm2) (ci := 18) (q := (RX5, TX5, 74)) (by first | assumption | exact hT _ _ rfl) rfl s_X5_267_18 (by omega) (Nat.le_of_ble_eq_true rfl) rfl rfl (Nat.le_of_ble_eq_true rfl) dX5_readOne_2 ?_
    intro r2 I2 h2
    obtain ⟨rfl, q1, q2⟩ := h2
    rw [hc] at q2
    refine AW.istore2 X dX5_readOne_5 ?_
    first | refine AW.aload_n X dX5_readOne_6 rfl rfl ?_ | refine AW.aloadN_n X dX5_readOne_6 rfl rfl ?_
    refine AW.getI X f_X5_239_18 (by first | assumption | exact hT _ _ rfl) dX5_readOne_7 ?_
    refine AW.if_ne X (tgt := 17) dX5_readOne_10 rfl ?_ ?_
    · intro t10
      refine AW.iload_n X dX5_readOne_17 rfl rfl ?_
      refine AW.ireturn X E ?_ dX5_readOne_18 
      exact ⟨rfl, rfl, rfl, rfl, q1, by rw [hg]; exact q2⟩
    · intro f10
      exact absurd f10 q2.bad
  · have hh : ∃ v, amF Bt sz m i = .ok v ∧ x = .ok i := by
      rcases x with e' | i'
      · cases hc
      · have hc' : ((amF Bt sz m i').bind fun _ => Except.ok i') = .ok i := hc
        rcases hn : amF Bt sz m i' with e2 | v
        · rw [hn] at hc'; cases hc'
        · rw [hn] at hc'
          cases hc'
          exact ⟨v, hn, rfl⟩
    obtain ⟨v, hv1, hv3⟩ := hh
    have hg := gsX_ok hv3 hv1
    have hv2 := (amF_en hv1).1
    first | refine AW.aload_n X dX5_readOne_0 rfl rfl ?_ | refine AW.aloadN_n X dX5_readOne_0 rfl rfl ?_
    refine AW.iload_n X dX5_readOne_1 rfl rfl ?_
    refine AW.callV_i X (c_X5_oneNow hT hR hX hx hw hm hm2) (ci := 18) (q := (RX5, TX5, 74)) (by first | assumption | exact hT _ _ rfl) rfl s_X5_267_18 (by omega) (Nat.le_of_ble_eq_true rfl) rfl rfl (Nat.le_of_ble_eq_true rfl) dX5_readOne_2 ?_
    intro r2 I2 h2
    obtain ⟨rfl, q1, q2⟩ := h2
    rw [hc] at q2
    obtain ⟨p1, p2, p3⟩ := q2
    refine AW.istore2 X dX5_readOne_5 ?_
    first | refine AW.aload_n X dX5_readOne_6 rfl rfl ?_ | refine AW.aloadN_n X dX5_readOne_6 rfl rfl ?_
    refine AW.getI X f_X5_239_18 (by first | assumption | exact hT _ _ rfl) dX5_readOne_7 ?_
    rw [p2]
    refine AW.if_ne X (tgt := 17) dX5_readOne_10 rfl ?_ ?_
    · intro t10
      exact absurd rfl t10
    · intro f10
      first | refine AW.aload_n X dX5_readOne_13 rfl rfl ?_ | refine AW.aloadN_n X dX5_readOne_13 rfl rfl ?_
      refine AW.callV_i X (c_X5_stepOn hT hR (hX.sf q1) (en_sz p1) p3.1) (ci := 18) (q := (RX5, TX5, 74)) (by first | assumption | exact hT _ _ rfl) rfl s_X5_257_18 (by omega) (Nat.le_of_ble_eq_true rfl) rfl rfl (Nat.le_of_ble_eq_true rfl) dX5_readOne_14 ?_
      intro r14 I14 h14
      obtain ⟨rfl, u1, u2⟩ := h14
      refine AW.iload_n X dX5_readOne_17 rfl rfl ?_
      refine AW.ireturn X E ?_ dX5_readOne_18 
      exact ⟨rfl, rfl, rfl, rfl, q1.tr u1.sf, by rw [hg, hv2]; exact ⟨en_sz p1, (u1.2 32 (by omega)).trans p2, u2⟩⟩
theorem c_X5_open {x : Except Er Nat} {w m most : Nat} (hT : XT T) (hR : XRf R) (hX : TxM Bt sz I) (hx : StM Bt sz x I) (hw : w < 6) (hm : I 304 (6 + w) = nI m) (hm2 : m < 1000) (hmo : most < 1000) : MX5_open 2 0 [.ref 200, .int (nI w), .int (nI most)] T I R J (qI (fun r I' => (match opX Bt sz x m most with | .ok _ => r = some (.int 1) | .error _ => r = some (.int 0)) ∧ SF I I' ∧ StM Bt sz (opX Bt sz x m most) I') T R J) noX := by
  refine AMet.of (by decide) (Nat.le_of_ble_eq_true rfl) (cats1 rfl) fun cx X E => ?_
  show AW _ _ _ (_ :: _ :: _ :: []) _ _ _ _ _
  rcases x with e | i
  · have hb := hx.bad
    first | refine AW.aload_n X dX5_open_0 rfl rfl ?_ | refine AW.aloadN_n X dX5_open_0 rfl rfl ?_
    refine AW.getR X f_X5_45_18 (by first | assumption | exact hT _ _ rfl) (by first | assumption | exact hR _ _ _ rfl) dX5_open_1 ?_
    refine AW.bipush X (v := 6) dX5_open_4 rfl ?_
    refine AW.iload_n X dX5_open_6 rfl rfl ?_
    refine AW.iadd X dX5_open_7 ?_
    refine AW.iald X (j := 6 + w) (by first | assumption | exact hT _ _ rfl) (by repeat (first | with_reducible exact rfl | assumption | exact ix_l _ | apply ix_add | apply ix_mul)) (by omega) dX5_open_8 ?_
    rw [hm]
    refine AW.iload_n X dX5_open_9 rfl rfl ?_
    refine AW.icmp_ne X (tgt := 18) dX5_open_10 rfl ?_ ?_
    · intro t10
      first | refine AW.aload_n X dX5_open_18 rfl rfl ?_ | refine AW.aloadN_n X dX5_open_18 rfl rfl ?_
      refine AW.getI X f_X5_239_18 (by first | assumption | exact hT _ _ rfl) dX5_open_19 ?_
      refine AW.if_eq X (tgt := 27) dX5_open_22 rfl ?_ ?_
      · intro t22
        first | exact absurd t22 hb | exact absurd t22 (StM.bad (e := e) u2)
      · intro f22
        refine AW.iconst X (v := 0) dX5_open_25 rfl ?_
        refine AW.ireturn X E ?_ dX5_open_26 (hnar := by first | rfl | (unfold bI; split <;> rfl))
        first | exact ⟨rfl, rfl, rfl, rfl, SF.rf, hx⟩ | exact ⟨rfl, rfl, rfl, rfl, u1, u2⟩
    · intro f10
      first | refine AW.aload_n X dX5_open_13 rfl rfl ?_ | refine AW.aloadN_n X dX5_open_13 rfl rfl ?_
      refine AW.iconst X (v := 2) dX5_open_14 rfl ?_
      refine AW.callV_i X (c_X5_wrong hT hx (k := 2) (by omega) (by omega)) (ci := 18) (q := (RX5, TX5, 74)) (by first | assumption | exact hT _ _ rfl) rfl s_X5_260_18 (by omega) (Nat.le_of_ble_eq_true rfl) rfl rfl (Nat.le_of_ble_eq_true rfl) dX5_open_15 ?_
      intro r15 I15 h15
      obtain ⟨rfl, u1, u2⟩ := h15
      first | refine AW.aload_n X dX5_open_18 rfl rfl ?_ | refine AW.aloadN_n X dX5_open_18 rfl rfl ?_
      refine AW.getI X f_X5_239_18 (by first | assumption | exact hT _ _ rfl) dX5_open_19 ?_
      refine AW.if_eq X (tgt := 27) dX5_open_22 rfl ?_ ?_
      · intro t22
        first | exact absurd t22 hb | exact absurd t22 (StM.bad (e := e) u2)
      · intro f22
        refine AW.iconst X (v := 0) dX5_open_25 rfl ?_
        refine AW.ireturn X E ?_ dX5_open_26 (hnar := by first | rfl | (unfold bI; split <;> rfl))
        first | exact ⟨rfl, rfl, rfl, rfl, SF.rf, hx⟩ | exact ⟨rfl, rfl, rfl, rfl, u1, u2⟩
  · by_cases hmm : m = most
    · have ho : opX Bt sz (.ok i) m most = .error (2, beg Bt sz i) := if_pos hmm
      first | refine AW.aload_n X dX5_open_0 rfl rfl ?_ | refine AW.aloadN_n X dX5_open_0 rfl rfl ?_
      refine AW.getR X f_X5_45_18 (by first | assumption | exact hT _ _ rfl) (by first | assumption | exact hR _ _ _ rfl) dX5_open_1 ?_
      refine AW.bipush X (v := 6) dX5_open_4 rfl ?_
      refine AW.iload_n X dX5_open_6 rfl rfl ?_
      refine AW.iadd X dX5_open_7 ?_
      refine AW.iald X (j := 6 + w) (by first | assumption | exact hT _ _ rfl) (by repeat (first | with_reducible exact rfl | assumption | exact ix_l _ | apply ix_add | apply ix_mul)) (by omega) dX5_open_8 ?_
      rw [hm]
      refine AW.iload_n X dX5_open_9 rfl rfl ?_
      refine AW.icmp_ne X (tgt := 18) dX5_open_10 rfl ?_ ?_
      · intro t10
        exact absurd (by rw [hmm]) t10
      · intro f10
        first | refine AW.aload_n X dX5_open_13 rfl rfl ?_ | refine AW.aloadN_n X dX5_open_13 rfl rfl ?_
        refine AW.iconst X (v := 2) dX5_open_14 rfl ?_
        refine AW.callV_i X (c_X5_wrong hT hx (k := 2) (by omega) (by omega)) (ci := 18) (q := (RX5, TX5, 74)) (by first | assumption | exact hT _ _ rfl) rfl s_X5_260_18 (by omega) (Nat.le_of_ble_eq_true rfl) rfl rfl (Nat.le_of_ble_eq_true rfl) dX5_open_15 ?_
        intro r15 I15 h15
        obtain ⟨rfl, u1, u2⟩ := h15
        first | refine AW.aload_n X dX5_open_18 rfl rfl ?_ | refine AW.aloadN_n X dX5_open_18 rfl rfl ?_
        refine AW.getI X f_X5_239_18 (by first | assumption | exact hT _ _ rfl) dX5_open_19 ?_
        refine AW.if_eq X (tgt := 27) dX5_open_22 rfl ?_ ?_
        · intro t22
          exact absurd t22 (StM.bad (e := (2, beg Bt sz i)) u2)
        · intro f22
          refine AW.iconst X (v := 0) dX5_open_25 rfl ?_
          refine AW.ireturn X E ?_ dX5_open_26 (hnar := by first | rfl | (unfold bI; split <;> rfl))
          exact ⟨rfl, rfl, rfl, by rw [ho], u1, by rw [ho]; exact u2⟩
    · have ho : opX Bt sz (.ok i) m most = .ok (en Bt sz i) := if_neg hmm
      obtain ⟨p1, p2, p3⟩ := hx
      first | refine AW.aload_n X dX5_open_0 rfl rfl ?_ | refine AW.aloadN_n X dX5_open_0 rfl rfl ?_
      refine AW.getR X f_X5_45_18 (by first | assumption | exact hT _ _ rfl) (by first | assumption | exact hR _ _ _ rfl) dX5_open_1 ?_
      refine AW.bipush X (v := 6) dX5_open_4 rfl ?_
      refine AW.iload_n X dX5_open_6 rfl rfl ?_
      refine AW.iadd X dX5_open_7 ?_
      refine AW.iald X (j := 6 + w) (by first | assumption | exact hT _ _ rfl) (by repeat (first | with_reducible exact rfl | assumption | exact ix_l _ | apply ix_add | apply ix_mul)) (by omega) dX5_open_8 ?_
      rw [hm]
      refine AW.iload_n X dX5_open_9 rfl rfl ?_
      refine AW.icmp_ne X (tgt := 18) dX5_open_10 rfl ?_ ?_
      · intro t10
        first | refine AW.aload_n X dX5_open_18 rfl rfl ?_ | refine AW.aloadN_n X dX5_open_18 rfl rfl ?_
        refine AW.getI X f_X5_239_18 (by first | assumption | exact hT _ _ rfl) dX5_open_19 ?_
        rw [p2]
        refine AW.if_eq X (tgt := 27) dX5_open_22 rfl ?_ ?_
        · intro t22
          first | refine AW.aload_n X dX5_open_27 rfl rfl ?_ | refine AW.aloadN_n X dX5_open_27 rfl rfl ?_
          refine AW.callV_i X (c_X5_stepOn hT hR hX (en_sz p1) p3.1) (ci := 18) (q := (RX5, TX5, 74)) (by first | assumption | exact hT _ _ rfl) rfl s_X5_257_18 (by omega) (Nat.le_of_ble_eq_true rfl) rfl rfl (Nat.le_of_ble_eq_true rfl) dX5_open_28 ?_
          intro r28 I28 h28
          obtain ⟨rfl, u1, u2⟩ := h28
          refine AW.iconst X (v := 1) dX5_open_31 rfl ?_
          refine AW.ireturn X E ?_ dX5_open_32 (hnar := by first | rfl | (unfold bI; split <;> rfl))
          exact ⟨rfl, rfl, rfl, by rw [ho], u1.sf, by rw [ho]; exact ⟨en_sz p1, (u1.2 32 (by omega)).trans p2, u2⟩⟩
        · intro f22
          exact absurd rfl f22
      · intro f10
        exact absurd ((nI_eq (by omega) (by omega)).mp f10) hmm
end MT3
