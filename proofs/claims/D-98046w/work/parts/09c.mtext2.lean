/-! 09c: the model reads numbers and words (steps printed by src/walk.py) -/
set_option maxRecDepth 100000
set_option maxHeartbeats 4000000
def wrX (Bt : Nat → Nat) (sz : Nat) (x : Except Er Nat) (k : Nat) : Except Er Nat := x.bind fun i => .error (k, beg Bt sz i)
theorem StM.bad {Bt : Nat → Nat} {sz : Nat} {e : Er} {I : KI} (h : StM Bt sz (.error e) I) : ¬ I 200 32 = 0 := by
  obtain ⟨h1, h2, h3, h4⟩ := h
  rw [h1]; exact nI_ne0 (by omega) (by omega)
theorem kd_tok {Bt : Nat → Nat} {sz i t : Nat} (ht : t < 5) : nI ((kd Bt sz i + 1) % 5) = nI t ↔ (kd Bt sz i + 1) % 5 = t := nI_eq (by omega) (by omega)
theorem isB_ok {Bt : Nat → Nat} {sz i c : Nat} : isB Bt sz (.ok i) c = if cls Bt sz i = c then 1 else 0 := rfl
theorem isB_z {Bt : Nat → Nat} {sz i c : Nat} : isB Bt sz (.ok i) c = 0 ↔ ¬ cls Bt sz i = c := by
  rw [isB_ok]
  by_cases h : cls Bt sz i = c
  · rw [if_pos h]; exact ⟨fun z => absurd z (by decide), fun z => absurd h z⟩
  · rw [if_neg h]; exact ⟨fun _ => h, fun _ => rfl⟩
theorem isB_01 {Bt : Nat → Nat} {sz c : Nat} (x : Except Er Nat) : isB Bt sz x c = 0 ∨ isB Bt sz x c = 1 := by
  rcases x with e | i
  · exact Or.inl rfl
  · rw [isB_ok]; split
    · exact Or.inr rfl
    · exact Or.inl rfl
theorem isB_n {Bt : Nat → Nat} {sz c : Nat} (x : Except Er Nat) : narrow .boolean (.int (isB Bt sz x c)) = .int (isB Bt sz x c) := by
  rcases isB_01 (Bt := Bt) (sz := sz) (c := c) x with h | h <;> rw [h] <;> rfl
section MTT
variable {T : KT} {I : KI} {R : KR} {J : KJ} {Bt : Nat → Nat} {sz : Nat}
theorem c_X5_wrong {x : Except Er Nat} {k : Nat} (hT : XT T) (hx : StM Bt sz x I) (h1 : 1 ≤ k) (h5 : k ≤ 5) : MX5_wrong 0 0 [.ref 200, .int (nI k)] T I R J (qI (fun r I' => r = none ∧ SF I I' ∧ StM Bt sz (wrX Bt sz x k) I') T R J) noX := by
  refine AMet.of (by decide) (Nat.le_of_ble_eq_true rfl) (cats1 rfl) fun cx X E => ?_
  show AW _ _ _ (_ :: _ :: []) _ _ _ _ _
  rcases x with e | i
  · skip
    first | refine AW.aload_n X dX5_wrong_0 rfl rfl ?_ | refine AW.aloadN_n X dX5_wrong_0 rfl rfl ?_
    refine AW.getI X f_X5_239_18 (by first | assumption | exact hT _ _ rfl) dX5_wrong_1 ?_
    refine AW.if_eq X (tgt := 8) dX5_wrong_4 rfl ?_ ?_
    · intro t4
      exact absurd t4 hx.bad
    · intro f4
      refine AW.vreturn X E ?_ dX5_wrong_7
      exact ⟨rfl, rfl, rfl, rfl, SF.rf, hx⟩
  · obtain ⟨hi, g32, t1, t2, t3, t4', t5⟩ := hx
    first | refine AW.aload_n X dX5_wrong_0 rfl rfl ?_ | refine AW.aloadN_n X dX5_wrong_0 rfl rfl ?_
    refine AW.getI X f_X5_239_18 (by first | assumption | exact hT _ _ rfl) dX5_wrong_1 ?_
    rw [g32]
    refine AW.if_eq X (tgt := 8) dX5_wrong_4 rfl ?_ ?_
    · intro t4
      first | refine AW.aload_n X dX5_wrong_8 rfl rfl ?_ | refine AW.aloadN_n X dX5_wrong_8 rfl rfl ?_
      refine AW.iload_n X dX5_wrong_9 rfl rfl ?_
      refine AW.putI X g_X5_wrong_239_18 (by omega) (by first | assumption | exact hT _ _ rfl) dX5_wrong_10 ?_ 
      first | refine AW.aload_n X dX5_wrong_13 rfl rfl ?_ | refine AW.aloadN_n X dX5_wrong_13 rfl rfl ?_
      first | refine AW.aload_n X dX5_wrong_14 rfl rfl ?_ | refine AW.aloadN_n X dX5_wrong_14 rfl rfl ?_
      refine AW.getI X f_X5_214_18 (by first | assumption | exact hT _ _ rfl) dX5_wrong_15 ?_
      rw [w2_n2 (by omega), t3]
      refine AW.putI X g_X5_wrong_242_18 (by omega) (by first | assumption | exact hT _ _ rfl) dX5_wrong_18 ?_ 
      refine AW.vreturn X E ?_ dX5_wrong_21
      exact ⟨rfl, rfl, rfl, rfl, (SF.rf.w (by omega)).w (by omega), by rw [w2_n2 (by omega), w2_s], w2_s _ _ _ _, h1, h5⟩
    · intro f4
      exact absurd rfl f4
theorem c_X5_is {x : Except Er Nat} {c : Nat} (hT : XT T) (hR : XRf R) (hC : SC I) (hX : TxM Bt sz I) (hx : StM Bt sz x I) (h1 : 22 ≤ c) (h2 : c ≤ 39) : MX5_is 4 0 [.ref 200, .ref c] T I R J (qR (some (.int (isB Bt sz x c))) T I R J) noX := by
  have hs := hC.str hT hR (c := c) (by omega) (by omega)
  have hl8 := (kS_len c (by omega)).1
  have hTc := hs.1
  have b01 := isB_n (Bt := Bt) (sz := sz) (c := c) x
  refine AMet.of (by decide) (Nat.le_of_ble_eq_true rfl) (cats1 rfl) fun cx X E => ?_
  show AW _ _ _ (_ :: _ :: _ :: _ :: []) _ _ _ _ _
  have no : ∀ v3, isB Bt sz x c = 0 → AW cx 0 39 [.ref 200, .ref c, .int 0, v3] [] T I R J := by
    intro v3 h0
    rw [h0] at E
    refine AW.iload_n X dX5_is_39 rfl rfl ?_
    refine AW.if_eq X (tgt := 82) dX5_is_40 rfl ?_ ?_
    · intro t40
      refine AW.iload_n X dX5_is_82 rfl rfl ?_
      exact AW.ireturn X E ⟨rfl, rfl, rfl, rfl, rfl⟩ dX5_is_83 (hnar := by first | rfl | (unfold bI; split <;> rfl))
    · intro f40
      exact absurd rfl f40
  rcases x with e | i
  · skip
    first | refine AW.aload_n X dX5_is_0 rfl rfl ?_ | refine AW.aloadN_n X dX5_is_0 rfl rfl ?_
    refine AW.getI X f_X5_239_18 (by first | assumption | exact hT _ _ rfl) dX5_is_1 ?_
    refine AW.if_ne X (tgt := 35) dX5_is_4 rfl ?_ ?_
    · intro t4
      refine AW.iconst X (v := 0) dX5_is_35 rfl ?_
      refine AW.istore2 X dX5_is_36 ?_
      refine AW.iconst X (v := 0) dX5_is_37 rfl ?_
      refine AW.istore3 X dX5_is_38 ?_
      exact no _ rfl
    · intro f4
      exact absurd f4 hx.bad
  · obtain ⟨hi, g32, t1, t2, t3, t4', t5⟩ := hx
    have hen := en_sz (Bt := Bt) hi
    have hge := en_ge (Bt := Bt) (sz := sz) (i := i)
    have hsz := hX.2.1
    have hB : isB Bt sz (.ok i) c = if cls Bt sz i = c then 1 else 0 := rfl
    have hW := cls_W (Bt := Bt) (sz := sz) (i := i) h1 h2
    have lp : kd Bt sz i = 0 → en Bt sz i - beg Bt sz i = (kS c).length → ∀ j k, k + j = (kS c).length → (∀ k', k' < k → Bt (beg Bt sz i + k') = (kS c).getD k' 0) → AW cx 0 39 [.ref 200, .ref c, .int 1, .int (nI k)] [] T I R J := by
      intro hk0 hlen j
      induction j with
      | zero =>
        intro k hk hch
        obtain rfl : k = (kS c).length := by omega
        rw [hB, if_pos (hW.mp ⟨hk0, hlen, hch⟩)] at E
        refine AW.iload_n X dX5_is_39 rfl rfl ?_
        refine AW.if_eq X (tgt := 82) dX5_is_40 rfl ?_ ?_
        · intro t40
          exact absurd t40 (by decide)
        · intro f40
          refine AW.iload_n X dX5_is_43 rfl rfl ?_
          first | refine AW.aload_n X dX5_is_44 rfl rfl ?_ | refine AW.aloadN_n X dX5_is_44 rfl rfl ?_
          refine AW.callV_r X (c_J9_length hs) (ci := 20) (q := (RJ9, TJ9, 2)) (by first | assumption | exact hT _ _ rfl) rfl s_X5_245_20 (by omega) (Nat.le_of_ble_eq_true rfl) rfl rfl (Nat.le_of_ble_eq_true rfl) dX5_is_45 ?_
          refine AW.icmp_ge X (tgt := 82) dX5_is_48 rfl ?_ ?_
          · intro t48
            refine AW.iload_n X dX5_is_82 rfl rfl ?_
            exact AW.ireturn X E ⟨rfl, rfl, rfl, rfl, rfl⟩ dX5_is_83 (hnar := by first | rfl | (unfold bI; split <;> rfl))
          · intro f48
            exact absurd (Int32.le_refl _) f48
      | succ j ih =>
        intro k hk hch
        have hbt := (hX.2.2 (beg Bt sz i + k) (by omega))
        have hkl := (kS_len c (by omega)).2 k (by omega)
        refine AW.iload_n X dX5_is_39 rfl rfl ?_
        refine AW.if_eq X (tgt := 82) dX5_is_40 rfl ?_ ?_
        · intro t40
          exact absurd t40 (by decide)
        · intro f40
          refine AW.iload_n X dX5_is_43 rfl rfl ?_
          first | refine AW.aload_n X dX5_is_44 rfl rfl ?_ | refine AW.aloadN_n X dX5_is_44 rfl rfl ?_
          refine AW.callV_r X (c_J9_length hs) (ci := 20) (q := (RJ9, TJ9, 2)) (by first | assumption | exact hT _ _ rfl) rfl s_X5_245_20 (by omega) (Nat.le_of_ble_eq_true rfl) rfl rfl (Nat.le_of_ble_eq_true rfl) dX5_is_45 ?_
          refine AW.icmp_ge X (tgt := 82) dX5_is_48 rfl ?_ ?_
          · intro t48
            exact absurd t48 (nI_ge (by omega) (by omega))
          · intro f48
            first | refine AW.aload_n X dX5_is_51 rfl rfl ?_ | refine AW.aloadN_n X dX5_is_51 rfl rfl ?_
            refine AW.iload_n X dX5_is_52 rfl rfl ?_
            refine AW.callV_r X (c_J9_charAt hs (by omega)) (ci := 20) (q := (RJ9, TJ9, 2)) (by first | assumption | exact hT _ _ rfl) rfl s_X5_249_20 (by omega) (Nat.le_of_ble_eq_true rfl) rfl rfl (Nat.le_of_ble_eq_true rfl) dX5_is_53 ?_
            first | refine AW.aload_n X dX5_is_56 rfl rfl ?_ | refine AW.aloadN_n X dX5_is_56 rfl rfl ?_
            refine AW.getR X f_X5_106_18 (by first | assumption | exact hT _ _ rfl) (by first | assumption | exact hR _ _ _ rfl) dX5_is_57 ?_
            first | refine AW.aload_n X dX5_is_60 rfl rfl ?_ | refine AW.aloadN_n X dX5_is_60 rfl rfl ?_
            refine AW.getI X f_X5_214_18 (by first | assumption | exact hT _ _ rfl) dX5_is_61 ?_
            rw [t3]
            refine AW.iload_n X dX5_is_64 rfl rfl ?_
            refine AW.iadd X dX5_is_65 ?_
            refine AW.iald X (j := beg Bt sz i + k) (by first | assumption | exact hT _ _ rfl) (by repeat (first | with_reducible exact rfl | assumption | exact ix_l _ | apply ix_add | apply ix_mul)) (by omega) dX5_is_66 ?_
            rw [hbt.1]
            refine AW.icmp_ne X (tgt := 74) dX5_is_67 rfl ?_ ?_
            · intro t67
              have hne : ¬ cls Bt sz i = c := fun z => t67 (by rw [(hW.mpr z).2.2 k (by omega)])
              refine AW.iconst X (v := 0) dX5_is_74 rfl ?_
              refine AW.istore2 X dX5_is_75 ?_
              refine AW.iinc3 X (v := _ + 1) dX5_is_76 rfl ?_
              refine AW.goto X (tgt := 39) dX5_is_79 rfl ?_
              rw [nI_1]
              first
                | exact ih (k + 1) (by omega) (fun k' hk' => by
                    rcases Nat.lt_or_eq_of_le (Nat.le_of_lt_succ hk') with hl | rfl
                    · exact hch k' hl
                    · exact heq.symm)
                | exact no _ (by rw [hB, if_neg hne])
            · intro f67
              have heq := (nI_eq (by omega) (by omega)).mp f67
              refine AW.iconst X (v := 1) dX5_is_70 rfl ?_
              refine AW.goto X (tgt := 75) dX5_is_71 rfl ?_
              refine AW.istore2 X dX5_is_75 ?_
              refine AW.iinc3 X (v := _ + 1) dX5_is_76 rfl ?_
              refine AW.goto X (tgt := 39) dX5_is_79 rfl ?_
              rw [nI_1]
              first
                | exact ih (k + 1) (by omega) (fun k' hk' => by
                    rcases Nat.lt_or_eq_of_le (Nat.le_of_lt_succ hk') with hl | rfl
                    · exact hch k' hl
                    · exact heq.symm)
                | exact no _ (by rw [hB, if_neg hne])
    first | refine AW.aload_n X dX5_is_0 rfl rfl ?_ | refine AW.aloadN_n X dX5_is_0 rfl rfl ?_
    refine AW.getI X f_X5_239_18 (by first | assumption | exact hT _ _ rfl) dX5_is_1 ?_
    rw [g32]
    refine AW.if_ne X (tgt := 35) dX5_is_4 rfl ?_ ?_
    · intro t4
      exact absurd rfl t4
    · intro f4
      first | refine AW.aload_n X dX5_is_7 rfl rfl ?_ | refine AW.aloadN_n X dX5_is_7 rfl rfl ?_
      refine AW.getI X f_X5_217_18 (by first | assumption | exact hT _ _ rfl) dX5_is_8 ?_
      rw [t2]
      refine AW.iconst X (v := 1) dX5_is_11 rfl ?_
      refine AW.icmp_ne X (tgt := 35) dX5_is_12 rfl ?_ ?_
      · intro t12
        have hne : ¬ cls Bt sz i = c := fun z => t12 (by rw [(hW.mpr z).1]; rfl)
        refine AW.iconst X (v := 0) dX5_is_35 rfl ?_
        refine AW.istore2 X dX5_is_36 ?_
        refine AW.iconst X (v := 0) dX5_is_37 rfl ?_
        refine AW.istore3 X dX5_is_38 ?_
        first
          | exact no _ (by rw [hB, if_neg hne])
          | exact lp hk0 hlen.symm (kS c).length 0 (by omega) (fun _ h => absurd h (Nat.not_lt_zero _))
      · intro f12
        have hk0 : kd Bt sz i = 0 := by have := (kd_tok (t := 1) (by omega)).mp f12; have := kd_le (Bt := Bt) (sz := sz) (i := i); omega
        first | refine AW.aload_n X dX5_is_15 rfl rfl ?_ | refine AW.aloadN_n X dX5_is_15 rfl rfl ?_
        refine AW.callV_r X (c_J9_length hs) (ci := 20) (q := (RJ9, TJ9, 2)) (by first | assumption | exact hT _ _ rfl) rfl s_X5_245_20 (by omega) (Nat.le_of_ble_eq_true rfl) rfl rfl (Nat.le_of_ble_eq_true rfl) dX5_is_16 ?_
        first | refine AW.aload_n X dX5_is_19 rfl rfl ?_ | refine AW.aloadN_n X dX5_is_19 rfl rfl ?_
        refine AW.getI X f_X5_236_18 (by first | assumption | exact hT _ _ rfl) dX5_is_20 ?_
        rw [t4']
        first | refine AW.aload_n X dX5_is_23 rfl rfl ?_ | refine AW.aloadN_n X dX5_is_23 rfl rfl ?_
        refine AW.getI X f_X5_214_18 (by first | assumption | exact hT _ _ rfl) dX5_is_24 ?_
        rw [t3]
        refine AW.isub X dX5_is_27 ?_
        rw [nI_sub hge]
        refine AW.icmp_ne X (tgt := 35) dX5_is_28 rfl ?_ ?_
        · intro t28
          have hne : ¬ cls Bt sz i = c := fun z => t28 (by rw [(hW.mpr z).2.1])
          refine AW.iconst X (v := 0) dX5_is_35 rfl ?_
          refine AW.istore2 X dX5_is_36 ?_
          refine AW.iconst X (v := 0) dX5_is_37 rfl ?_
          refine AW.istore3 X dX5_is_38 ?_
          first
            | exact no _ (by rw [hB, if_neg hne])
            | exact lp hk0 hlen.symm (kS c).length 0 (by omega) (fun _ h => absurd h (Nat.not_lt_zero _))
        · intro f28
          have hlen := (nI_eq (by omega) (by omega)).mp f28
          refine AW.iconst X (v := 1) dX5_is_31 rfl ?_
          refine AW.goto X (tgt := 36) dX5_is_32 rfl ?_
          refine AW.istore2 X dX5_is_36 ?_
          refine AW.iconst X (v := 0) dX5_is_37 rfl ?_
          refine AW.istore3 X dX5_is_38 ?_
          first
            | exact no _ (by rw [hB, if_neg hne])
            | exact lp hk0 hlen.symm (kS c).length 0 (by omega) (fun _ h => absurd h (Nat.not_lt_zero _))
theorem whB_in {x : Except Er Nat} {c : Nat} (h1 : 22 ≤ c) : (∀ k, k < 4 → isB Bt sz x (c + k) = 0) → whB Bt sz x c = -1 := by
  intro h
  rcases x with e | i
  · rfl
  · show (if c ≤ cls Bt sz i ∧ cls Bt sz i ≤ c + 3 then nI (cls Bt sz i - c) else -1) = -1
    by_cases hc : c ≤ cls Bt sz i ∧ cls Bt sz i ≤ c + 3
    · have h4 := h (cls Bt sz i - c) (by omega)
      rw [show c + (cls Bt sz i - c) = cls Bt sz i by omega] at h4
      exact absurd rfl (isB_z.mp h4)
    · rw [if_neg hc]
theorem isB_1 {x : Except Er Nat} {c : Nat} (h : ¬ isB Bt sz x c = 0) : ∃ i, x = .ok i ∧ cls Bt sz i = c ∧ isB Bt sz x c = 1 := by
  rcases x with e | i
  · exact absurd rfl h
  · have hB : isB Bt sz (.ok i) c = if cls Bt sz i = c then 1 else 0 := rfl
    by_cases hc : cls Bt sz i = c
    · exact ⟨i, rfl, hc, by rw [hB, if_pos hc]⟩
    · exact absurd (by rw [hB, if_neg hc]) h
theorem c_X5_which {x : Except Er Nat} {a c : Nat} (hT : XT T) (hR : XRf R) (hC : SC I) (hX : TxM Bt sz I) (hx : StM Bt sz x I) (h1 : 22 ≤ c) (h2 : c + 3 ≤ 39) (ha : T a = (11, 4)) (hr : ∀ k, k < 4 → R a k = some (c + k)) : MX5_which 5 0 [.ref 200, .ref a] T I R J (qR (some (.int (whB Bt sz x c))) T I R J) noX := by
  refine AMet.of (by decide) (Nat.le_of_ble_eq_true rfl) (cats1 rfl) fun cx X E => ?_
  show AW _ _ _ (_ :: _ :: _ :: []) _ _ _ _ _
  have lp : ∀ j k, k + j = 4 → (∀ k', k' < k → isB Bt sz x (c + k') = 0) → AW cx 0 2 [.ref 200, .ref a, .int (nI k)] [] T I R J := by
    intro j
    induction j with
    | zero =>
      intro k hk hl
      obtain rfl : k = 4 := by omega
      rw [whB_in h1 hl] at E
      refine AW.iload_n X dX5_which_2 rfl rfl ?_
      first | refine AW.aload_n X dX5_which_3 rfl rfl ?_ | refine AW.aloadN_n X dX5_which_3 rfl rfl ?_
      first | refine AW.alen X (by first | assumption | exact hT _ _ rfl) rfl dX5_which_4 ?_ | refine AW.alenQ X (by first | assumption | exact hT _ _ rfl) rfl dX5_which_4 ?_
      refine AW.icmp_ge X (tgt := 26) dX5_which_5 rfl ?_ ?_
      · intro t5
        refine AW.iconst X (v := -1) dX5_which_26 rfl ?_
        exact AW.ireturn X E ⟨rfl, rfl, rfl, rfl, rfl⟩ dX5_which_27 
      · intro f5
        exact absurd (Int32.le_refl _) f5
    | succ j ih =>
      intro k hk hl
      refine AW.iload_n X dX5_which_2 rfl rfl ?_
      first | refine AW.aload_n X dX5_which_3 rfl rfl ?_ | refine AW.aloadN_n X dX5_which_3 rfl rfl ?_
      first | refine AW.alen X (by first | assumption | exact hT _ _ rfl) rfl dX5_which_4 ?_ | refine AW.alenQ X (by first | assumption | exact hT _ _ rfl) rfl dX5_which_4 ?_
      refine AW.icmp_ge X (tgt := 26) dX5_which_5 rfl ?_ ?_
      · intro t5
        exact absurd t5 (nI_ge (by omega) (by omega))
      · intro f5
        first | refine AW.aload_n X dX5_which_8 rfl rfl ?_ | refine AW.aloadN_n X dX5_which_8 rfl rfl ?_
        first | refine AW.aload_n X dX5_which_9 rfl rfl ?_ | refine AW.aloadN_n X dX5_which_9 rfl rfl ?_
        refine AW.iload_n X dX5_which_10 rfl rfl ?_
        refine AW.aald X (j := k) (by first | assumption | exact hT _ _ rfl) rfl (by repeat (first | with_reducible exact rfl | assumption | exact ix_l _ | apply ix_add | apply ix_mul)) (by omega) (hr k (by omega)) dX5_which_11 ?_
        refine AW.callV_r X (c_X5_is hT hR hC hX hx (show 22 ≤ c + k by omega) (by omega)) (ci := 18) (q := (RX5, TX5, 74)) (by first | assumption | exact hT _ _ rfl) rfl s_X5_253_18 (by omega) (Nat.le_of_ble_eq_true rfl) rfl rfl (Nat.le_of_ble_eq_true rfl) dX5_which_12 ?_
        refine AW.if_eq X (tgt := 20) dX5_which_15 rfl ?_ ?_
        · intro t15
          refine AW.iinc2 X (v := _ + 1) dX5_which_20 rfl ?_
          refine AW.goto X (tgt := 2) dX5_which_23 rfl ?_
          rw [nI_1]; exact ih (k + 1) (by omega) (fun k' hk' => by
            rcases Nat.lt_or_eq_of_le (Nat.le_of_lt_succ hk') with h | rfl
            · exact hl k' h
            · exact t15)
        · intro f15
          obtain ⟨i, rfl, hc, h1'⟩ := isB_1 f15
          have hw : whB Bt sz (.ok i) c = nI k := by
            show (if c ≤ cls Bt sz i ∧ cls Bt sz i ≤ c + 3 then nI (cls Bt sz i - c) else -1) = nI k
            rw [if_pos (by omega)]; congr 1; omega
          rw [hw] at E
          refine AW.iload_n X dX5_which_18 rfl rfl ?_
          exact AW.ireturn X E ⟨rfl, rfl, rfl, rfl, rfl⟩ dX5_which_19 
  refine AW.iconst X (v := 0) dX5_which_0 rfl ?_
  refine AW.istore2 X dX5_which_1 ?_
  exact lp 4 0 rfl (fun _ h => absurd h (Nat.not_lt_zero _))
theorem SC.sf {I I' : KI} (h : SC I) (hf : SF I I') : SC I' := fun a h1 h2 => by
  rw [hf.1 a (by omega), hf.1 (a + 40) (by omega)]; exact h a h1 h2
theorem c_X5_passes {x : Except Er Nat} {c : Nat} (hT : XT T) (hR : XRf R) (hC : SC I) (hX : TxM Bt sz I) (hx : StM Bt sz x I) (h1 : 22 ≤ c) (h2 : c ≤ 39) : MX5_passes 5 0 [.ref 200, .ref c] T I R J (qI (fun r I' => r = some (.int (isB Bt sz x c)) ∧ SF I I' ∧ StM Bt sz (psX Bt sz x c) I') T R J) noX := by
  have b01 := isB_n (Bt := Bt) (sz := sz) (c := c) x
  refine AMet.of (by decide) (Nat.le_of_ble_eq_true rfl) (cats1 rfl) fun cx X E => ?_
  show AW _ _ _ (_ :: _ :: _ :: []) _ _ _ _ _
  by_cases h0 : isB Bt sz x c = 0
  · have hps : psX Bt sz x c = x := by
      rcases x with e | i
      · rfl
      · show Except.ok (if cls Bt sz i = c then en Bt sz i else i) = Except.ok i
        rw [if_neg (isB_z.mp h0)]
    first | refine AW.aload_n X dX5_passes_0 rfl rfl ?_ | refine AW.aloadN_n X dX5_passes_0 rfl rfl ?_
    first | refine AW.aload_n X dX5_passes_1 rfl rfl ?_ | refine AW.aloadN_n X dX5_passes_1 rfl rfl ?_
    refine AW.callV_r X (c_X5_is hT hR hC hX hx h1 h2) (ci := 18) (q := (RX5, TX5, 74)) (by first | assumption | exact hT _ _ rfl) rfl s_X5_253_18 (by omega) (Nat.le_of_ble_eq_true rfl) rfl rfl (Nat.le_of_ble_eq_true rfl) dX5_passes_2 ?_
    refine AW.istore2 X dX5_passes_5 ?_
    refine AW.iload_n X dX5_passes_6 rfl rfl ?_
    refine AW.if_eq X (tgt := 14) dX5_passes_7 rfl ?_ ?_
    · intro t7
      refine AW.iload_n X dX5_passes_14 rfl rfl ?_
      refine AW.ireturn X E ?_ dX5_passes_15 (hnar := b01)
      exact ⟨rfl, rfl, rfl, rfl, SF.rf, by rw [hps]; exact hx⟩
    · intro f7
      exact absurd h0 f7
  · obtain ⟨i, rfl, hc, h1'⟩ := isB_1 h0
    have hps : psX Bt sz (.ok i) c = .ok (en Bt sz i) := by
      show Except.ok (if cls Bt sz i = c then en Bt sz i else i) = _
      rw [if_pos hc]
    obtain ⟨hi, g32, tk⟩ := hx
    first | refine AW.aload_n X dX5_passes_0 rfl rfl ?_ | refine AW.aloadN_n X dX5_passes_0 rfl rfl ?_
    first | refine AW.aload_n X dX5_passes_1 rfl rfl ?_ | refine AW.aloadN_n X dX5_passes_1 rfl rfl ?_
    refine AW.callV_r X (c_X5_is hT hR hC hX (x := .ok i) ⟨hi, g32, tk⟩ h1 h2) (ci := 18) (q := (RX5, TX5, 74)) (by first | assumption | exact hT _ _ rfl) rfl s_X5_253_18 (by omega) (Nat.le_of_ble_eq_true rfl) rfl rfl (Nat.le_of_ble_eq_true rfl) dX5_passes_2 ?_
    refine AW.istore2 X dX5_passes_5 ?_
    refine AW.iload_n X dX5_passes_6 rfl rfl ?_
    refine AW.if_eq X (tgt := 14) dX5_passes_7 rfl ?_ ?_
    · intro t7
      exact absurd t7 h0
    · intro f7
      first | refine AW.aload_n X dX5_passes_10 rfl rfl ?_ | refine AW.aloadN_n X dX5_passes_10 rfl rfl ?_
      refine AW.callV_i X (c_X5_stepOn hT hR hX (en_sz hi) tk.1) (ci := 18) (q := (RX5, TX5, 74)) (by first | assumption | exact hT _ _ rfl) rfl s_X5_257_18 (by omega) (Nat.le_of_ble_eq_true rfl) rfl rfl (Nat.le_of_ble_eq_true rfl) dX5_passes_11 ?_
      intro r11 I11 h11
      obtain ⟨rfl, q1, q2⟩ := h11
      refine AW.iload_n X dX5_passes_14 rfl rfl ?_
      refine AW.ireturn X E ?_ dX5_passes_15 (hnar := b01)
      exact ⟨rfl, rfl, rfl, rfl, q1.sf, by rw [hps]; exact ⟨en_sz hi, (q1.2 32 (by omega)).trans g32, q2⟩⟩
end MTT
