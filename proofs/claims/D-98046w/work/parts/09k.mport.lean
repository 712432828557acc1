/-! 09k: the model's port (written by src/gen09k.py and src/walk.py) -/
set_option maxRecDepth 100000
set_option maxHeartbeats 4000000
def V0 : KI := fun a k => if a = 304 then (if k = 4 then 3 else if k = 5 then 1 else 0) else if a = 319 then (if k = 0 then 1 else 0) else 0
def S0 : Rd := (V0, false, fun _ => false, fun _ => false)
theorem V0_n : nQ V0 = 0 ∧ nE V0 = 0 ∧ nS V0 = 0 ∧ nH V0 = 0 := by decide +kernel
theorem V0_318 (h : Nat) : V0 318 h = 0 := rfl
theorem V0_319 (c : Nat) : V0 319 c = if c = 0 then 1 else 0 := rfl
theorem V0_gd : Gd V0 := by
  obtain ⟨a, b, c, d⟩ := V0_n
  refine ⟨⟨⟨by rw [a]; rfl, by rw [b]; rfl, by rw [c]; rfl, by rw [d]; rfl, by omega, by omega, by omega, by omega⟩, fun q hq => by omega, fun e he => by omega, fun s hs => by omega, fun h _ => by rw [V0_318]; decide, fun c' _ => ?_, fun k hk => by omega⟩, ⟨3, 1, by omega, by omega, rfl, rfl⟩⟩
  by_cases h0 : c' = 0
  · have : V0 319 c' = nI 1 := by rw [V0_319, if_pos h0]; rfl
    rw [nat_n this (by omega)]; exact ⟨this, by omega⟩
  · have : V0 319 c' = nI 0 := by rw [V0_319, if_neg h0]; rfl
    rw [nat_n this (by omega)]; exact ⟨this, by omega⟩
theorem numF_ge {Bt : Nat → Nat} {sz lo hi i : Nat} {v : Nat × Nat} (h : numF Bt sz lo hi i = .ok v) : i ≤ v.2 := by
  rw [(numF_en h).1]; exact Nat.le_trans beg_le en_ge
theorem amF_ge {Bt : Nat → Nat} {sz m i : Nat} {v : Nat × Nat} (h : amF Bt sz m i = .ok v) : i ≤ v.2 := by
  rw [(amF_en h).1]; exact Nat.le_trans beg_le en_ge
theorem lin0_ge {Bt : Nat → Nat} {sz i : Nat} {S : Rd} {y : Nat × Rd} (h : lin0 Bt sz i S = .ok y) : en Bt sz i ≤ y.1 := by
  unfold lin0 at h
  split at h
  · unfold quayF at h
    split at h
    · cases h
    · obtain ⟨a, h1, h⟩ := bind_ok h
      obtain ⟨b, h2, h⟩ := bind_ok h
      cases h
      have g1 : en Bt sz i ≤ a.2 := by
        split at h1
        · exact numF_ge h1
        · cases h1; exact Nat.le_refl _
      have g2 : a.2 ≤ b.2 := by
        split at h2
        · exact Nat.le_trans (Nat.le_trans beg_le en_ge) (numF_ge h2)
        · cases h2; exact Nat.le_refl _
      exact Nat.le_trans g1 g2
  split at h
  · unfold eelF at h
    split at h
    · cases h
    · obtain ⟨a, h1, h⟩ := bind_ok h
      obtain ⟨b, h2, h⟩ := bind_ok h
      obtain ⟨c, h3, h⟩ := bind_ok h
      obtain ⟨d, h4, h⟩ := bind_ok h
      cases h
      have := numF_ge h1; have := amF_ge h2; have := numF_ge h3; have := numF_ge h4
      show en Bt sz i ≤ d.2
      omega
  split at h
  · unfold shipF at h
    split at h
    · cases h
    · obtain ⟨a, h1, h⟩ := bind_ok h
      obtain ⟨b, h2, h⟩ := bind_ok h
      obtain ⟨c, h3, h⟩ := bind_ok h
      cases h
      have := amF_ge h1; have := numF_ge h2; have := numF_ge h3
      show en Bt sz i ≤ c.2
      omega
  split at h
  · unfold wayF at h
    obtain ⟨a, h1, h⟩ := bind_ok h
    obtain ⟨b, h2, h⟩ := bind_ok h
    split at h
    · cases h
    · cases h
      have := amF_ge h1; have := amF_ge h2
      show en Bt sz i ≤ b.2
      omega
  split at h
  · unfold moonF at h
    obtain ⟨a, h1, h⟩ := bind_ok h
    split at h
    · cases h
    · obtain ⟨b, h2, h⟩ := bind_ok h
      cases h
      have := numF_ge h1; have := numF_ge h2
      show en Bt sz i ≤ b.2
      omega
  split at h
  · unfold coldF at h
    obtain ⟨a, h1, h⟩ := bind_ok h
    split at h
    · cases h
    · obtain ⟨b, h2, h⟩ := bind_ok h
      cases h
      have := numF_ge h1; have := numF_ge h2
      show en Bt sz i ≤ b.2
      omega
  split at h
  · unfold hoodF at h
    split at h
    · cases h
    · obtain ⟨a, h1, h⟩ := bind_ok h
      obtain ⟨b, h2, h⟩ := bind_ok h
      obtain ⟨c, h3, h⟩ := bind_ok h
      cases h
      have := amF_ge h1; have := numF_ge h2; have := numF_ge h3
      show en Bt sz i ≤ c.2
      omega
  split at h
  · unfold priceF at h
    split at h
    · cases h
    · obtain ⟨a, h1, h⟩ := bind_ok h
      obtain ⟨b, h2, h⟩ := bind_ok h
      cases h
      have := numF_ge h1; have := numF_ge h2
      show en Bt sz i ≤ b.2
      omega
  · cases h
theorem linF_gt {Bt : Nat → Nat} {sz i : Nat} {S : Rd} {y : Nat × Rd} (h4 : ¬ kd Bt sz i = 4) (h : linF Bt sz i S = .ok y) : i < y.1 := by
  unfold linF at h
  obtain ⟨a, h1, h⟩ := bind_ok h
  obtain ⟨b, h2, h⟩ := bind_ok h
  cases h
  have g1 := lin0_ge h1
  have g2 := en_gt h4
  have g3 : a.1 ≤ b := by
    unfold semF at h2
    split at h2
    · cases h2; exact Nat.le_trans beg_le en_ge
    · cases h2
  show i < b
  omega
/-- first halves are what second halves were -/
def TkH (I I' : KI) : Prop := ∀ a k, 304 ≤ a → a ≤ 322 → k < hlf a → I' a k = I a (hlf a + k)
/-- the first halves hold what was read -/
def HsM (V I : KI) : Prop := (∀ k, k < 6 → I 304 k = V 304 k) ∧
  (∀ q, q < nQ V → I 305 q = V 305 q ∧ I 306 q = V 306 q ∧ I 307 q = V 307 q ∧ I 308 q = V 308 q) ∧
  (∀ e, e < nE V → I 309 e = V 309 e ∧ I 310 e = V 310 e ∧ I 311 e = V 311 e ∧ I 312 e = V 312 e ∧ I 313 e = V 313 e) ∧
  (∀ s, s < nS V → I 314 s = V 314 s ∧ I 315 s = V 315 s ∧ I 316 s = V 316 s ∧ I 317 s = V 317 s) ∧
  (∀ h, h < 24 → I 318 h = V 318 h) ∧ (∀ c, c < 10 → I 319 c = V 319 c) ∧
  (∀ k, k < nH V → I 320 k = V 320 k ∧ I 321 k = V 321 k ∧ I 322 k = V 322 k)
theorem HfM.take {S : Rd} {I I' : KI} (h : HfM S I) (hg : Gd S.1) (ht : TkH I I') : HsM S.1 I' := by
  obtain ⟨k1, k2, k3, k4, k5, k6, k7, -⟩ := h
  obtain ⟨⟨⟨-, -, -, -, b1, b2, b3, b4⟩, -⟩, -⟩ := hg
  refine ⟨fun k hk => ?_, fun q hq => ?_, fun e he => ?_, fun s hs => ?_, fun h hh => ?_, fun c hc => ?_, fun k hk => ?_⟩
  · rw [ht 304 k (by omega) (by omega) hk]; exact k1 k hk
  · rw [ht 305 q (by omega) (by omega) (by show q < 8; omega), ht 306 q (by omega) (by omega) (by show q < 8; omega), ht 307 q (by omega) (by omega) (by show q < 8; omega), ht 308 q (by omega) (by omega) (by show q < 8; omega)]; exact k2 q hq
  · rw [ht 309 e (by omega) (by omega) (by show e < 6; omega), ht 310 e (by omega) (by omega) (by show e < 6; omega), ht 311 e (by omega) (by omega) (by show e < 6; omega), ht 312 e (by omega) (by omega) (by show e < 6; omega), ht 313 e (by omega) (by omega) (by show e < 6; omega)]; exact k3 e he
  · rw [ht 314 s (by omega) (by omega) (by show s < 4; omega), ht 315 s (by omega) (by omega) (by show s < 4; omega), ht 316 s (by omega) (by omega) (by show s < 4; omega), ht 317 s (by omega) (by omega) (by show s < 4; omega)]; exact k4 s hs
  · rw [ht 318 h (by omega) (by omega) hh]; exact k5 h hh
  · rw [ht 319 c (by omega) (by omega) hc]; exact k6 c hc
  · rw [ht 320 k (by omega) (by omega) (by show k < 6; omega), ht 321 k (by omega) (by omega) (by show k < 6; omega), ht 322 k (by omega) (by omega) (by show k < 6; omega)]; exact k7 k hk
section MPO
variable {T : KT} {I : KI} {R : KR} {J : KJ} {Bt : Nat → Nat} {sz : Nat}
theorem c_X5_takeHalf {a m : Nat} (hTa : T a = (2, 2 * m)) (h1 : 100 ≤ a) (hm : m < 100) : MX5_takeHalf 0 0 [.ref a] T I R J (qI (fun r I' => r = none ∧ (∀ b, b ≠ a → I' b = I b) ∧ ∀ k, k < m → I' a k = I a (m + k)) T R J) noX := by
  have hd : nI (2 * m) / 2 = nI m := by rw [show (2 : Int32) = nI 2 from rfl, nI_div (by omega) (by omega)]; congr 1; omega
  refine AMet.of (by decide) (Nat.le_of_ble_eq_true rfl) (cats1 rfl) fun cx X E => ?_
  show AW _ _ _ (_ :: _ :: []) _ _ _ _ _
  have lp : ∀ j k (I' : KI), k + j = m → (∀ b, b ≠ a → I' b = I b) → (∀ k', k' < k → I' a k' = I a (m + k')) → (∀ k', k ≤ k' → I' a k' = I a k') → AW cx 0 2 [.ref a, .int (nI k)] [] T I' R J := by
    intro j
    induction j with
    | zero =>
      intro k I' hk hf hl hr
      obtain rfl : k = m := by omega
      refine AW.iload_n X dX5_takeHalf_2 rfl rfl ?_
      first | refine AW.aload_n X dX5_takeHalf_3 rfl rfl ?_ | refine AW.aloadN_n X dX5_takeHalf_3 rfl rfl ?_
      first | refine AW.alen X (by first | assumption | exact hT _ _ rfl) rfl dX5_takeHalf_4 ?_ | refine AW.alenQ X (by first | assumption | exact hT _ _ rfl) rfl dX5_takeHalf_4 ?_
      refine AW.iconst X (v := 2) dX5_takeHalf_5 rfl ?_
      refine AW.idiv X dX5_takeHalf_6 (by decide) ?_
      rw [hd]
      refine AW.icmp_ge X (tgt := 27) dX5_takeHalf_7 rfl ?_ ?_
      · intro t7
        refine AW.vreturn X E ?_ dX5_takeHalf_27
        exact ⟨rfl, rfl, rfl, rfl, hf, hl⟩
      · intro f7
        exact absurd (Int32.le_refl _) f7
    | succ j ih =>
      intro k I' hk hf hl hr
      refine AW.iload_n X dX5_takeHalf_2 rfl rfl ?_
      first | refine AW.aload_n X dX5_takeHalf_3 rfl rfl ?_ | refine AW.aloadN_n X dX5_takeHalf_3 rfl rfl ?_
      first | refine AW.alen X (by first | assumption | exact hT _ _ rfl) rfl dX5_takeHalf_4 ?_ | refine AW.alenQ X (by first | assumption | exact hT _ _ rfl) rfl dX5_takeHalf_4 ?_
      refine AW.iconst X (v := 2) dX5_takeHalf_5 rfl ?_
      refine AW.idiv X dX5_takeHalf_6 (by decide) ?_
      rw [hd]
      refine AW.icmp_ge X (tgt := 27) dX5_takeHalf_7 rfl ?_ ?_
      · intro t7
        exact absurd t7 (nI_ge (by omega) (by omega))
      · intro f7
        first | refine AW.aload_n X dX5_takeHalf_10 rfl rfl ?_ | refine AW.aloadN_n X dX5_takeHalf_10 rfl rfl ?_
        refine AW.iload_n X dX5_takeHalf_11 rfl rfl ?_
        first | refine AW.aload_n X dX5_takeHalf_12 rfl rfl ?_ | refine AW.aloadN_n X dX5_takeHalf_12 rfl rfl ?_
        first | refine AW.aload_n X dX5_takeHalf_13 rfl rfl ?_ | refine AW.aloadN_n X dX5_takeHalf_13 rfl rfl ?_
        first | refine AW.alen X (by first | assumption | exact hT _ _ rfl) rfl dX5_takeHalf_14 ?_ | refine AW.alenQ X (by first | assumption | exact hT _ _ rfl) rfl dX5_takeHalf_14 ?_
        refine AW.iconst X (v := 2) dX5_takeHalf_15 rfl ?_
        refine AW.idiv X dX5_takeHalf_16 (by decide) ?_
        rw [hd]
        refine AW.iload_n X dX5_takeHalf_17 rfl rfl ?_
        refine AW.iadd X dX5_takeHalf_18 ?_
        refine AW.iald X (j := m + k) (by first | assumption | exact hT _ _ rfl) (by repeat (first | with_reducible exact rfl | assumption | exact ix_l _ | apply ix_add | apply ix_mul)) (by omega) dX5_takeHalf_19 ?_
        rw [hr (m + k) (by omega)]
        refine AW.iast X (j := k) (by omega) (by first | assumption | exact hT _ _ rfl) (by repeat (first | with_reducible exact rfl | assumption | exact ix_l _ | apply ix_add | apply ix_mul)) (by omega) dX5_takeHalf_20 ?_
        refine AW.iinc1 X (v := _ + 1) dX5_takeHalf_21 rfl ?_
        refine AW.goto X (tgt := 2) dX5_takeHalf_24 rfl ?_
        rw [nI_1]
        refine ih (k + 1) _ (by omega) (fun b hb => by rw [w2_r hb]; exact hf b hb) (fun k' hk' => ?_) (fun k' hk' => by rw [w2_n2 (by omega)]; exact hr k' (by omega))
        by_cases hx : k' = k
        · subst hx; rw [w2_s]
        · rw [w2_n2 hx]; exact hl k' (by omega)
  refine AW.iconst X (v := 0) dX5_takeHalf_0 rfl ?_
  refine AW.istore1 X dX5_takeHalf_1 ?_
  exact lp m 0 I (by omega) (fun _ _ => rfl) (fun _ h => absurd h (Nat.not_lt_zero _)) (fun _ _ => rfl)
def TkP (I I' : KI) : Prop := TkH I I' ∧ (∀ a, a ≠ 200 → (a < 304 ∨ 322 < a) → I' a = I a) ∧ I' 200 = w2 (w2 (w2 (w2 (w2 I 200 44 0) 200 45 0) 200 46 0) 200 53 (-1)) 200 63 0 200
theorem c_X5_take (hT : XT T) (hR : XRf R) : MX5_take 1 0 [.ref 200] T I R J (qI (fun r I' => r = none ∧ TkP I I') T R J) noX := by
  refine AMet.of (by decide) (Nat.le_of_ble_eq_true rfl) (cats1 rfl) fun cx X E => ?_
  show AW _ _ _ (_ :: []) _ _ _ _ _
  first | refine AW.aload_n X dX5_take_0 rfl rfl ?_ | refine AW.aloadN_n X dX5_take_0 rfl rfl ?_
  refine AW.getR X f_X5_45_18 (by first | assumption | exact hT _ _ rfl) (by first | assumption | exact hR _ _ _ rfl) dX5_take_1 ?_
  refine AW.callS_i X (c_X5_takeHalf (a := 304) (m := 6) (hT _ _ rfl) (by omega) (by omega)) s_X5_333 (by omega) (Nat.le_of_ble_eq_true rfl) rfl rfl (Nat.le_of_ble_eq_true rfl) dX5_take_4 ?_
  intro r4 I4 h4
  obtain ⟨rfl, b4, c4⟩ := h4
  first | refine AW.aload_n X dX5_take_7 rfl rfl ?_ | refine AW.aloadN_n X dX5_take_7 rfl rfl ?_
  refine AW.getR X f_X5_49_18 (by first | assumption | exact hT _ _ rfl) (by first | assumption | exact hR _ _ _ rfl) dX5_take_8 ?_
  refine AW.callS_i X (c_X5_takeHalf (a := 305) (m := 8) (hT _ _ rfl) (by omega) (by omega)) s_X5_333 (by omega) (Nat.le_of_ble_eq_true rfl) rfl rfl (Nat.le_of_ble_eq_true rfl) dX5_take_11 ?_
  intro r11 I11 h11
  obtain ⟨rfl, b11, c11⟩ := h11
  first | refine AW.aload_n X dX5_take_14 rfl rfl ?_ | refine AW.aloadN_n X dX5_take_14 rfl rfl ?_
  refine AW.getR X f_X5_52_18 (by first | assumption | exact hT _ _ rfl) (by first | assumption | exact hR _ _ _ rfl) dX5_take_15 ?_
  refine AW.callS_i X (c_X5_takeHalf (a := 306) (m := 8) (hT _ _ rfl) (by omega) (by omega)) s_X5_333 (by omega) (Nat.le_of_ble_eq_true rfl) rfl rfl (Nat.le_of_ble_eq_true rfl) dX5_take_18 ?_
  intro r18 I18 h18
  obtain ⟨rfl, b18, c18⟩ := h18
  first | refine AW.aload_n X dX5_take_21 rfl rfl ?_ | refine AW.aloadN_n X dX5_take_21 rfl rfl ?_
  refine AW.getR X f_X5_55_18 (by first | assumption | exact hT _ _ rfl) (by first | assumption | exact hR _ _ _ rfl) dX5_take_22 ?_
  refine AW.callS_i X (c_X5_takeHalf (a := 307) (m := 8) (hT _ _ rfl) (by omega) (by omega)) s_X5_333 (by omega) (Nat.le_of_ble_eq_true rfl) rfl rfl (Nat.le_of_ble_eq_true rfl) dX5_take_25 ?_
  intro r25 I25 h25
  obtain ⟨rfl, b25, c25⟩ := h25
  first | refine AW.aload_n X dX5_take_28 rfl rfl ?_ | refine AW.aloadN_n X dX5_take_28 rfl rfl ?_
  refine AW.getR X f_X5_58_18 (by first | assumption | exact hT _ _ rfl) (by first | assumption | exact hR _ _ _ rfl) dX5_take_29 ?_
  refine AW.callS_i X (c_X5_takeHalf (a := 308) (m := 8) (hT _ _ rfl) (by omega) (by omega)) s_X5_333 (by omega) (Nat.le_of_ble_eq_true rfl) rfl rfl (Nat.le_of_ble_eq_true rfl) dX5_take_32 ?_
  intro r32 I32 h32
  obtain ⟨rfl, b32, c32⟩ := h32
  first | refine AW.aload_n X dX5_take_35 rfl rfl ?_ | refine AW.aloadN_n X dX5_take_35 rfl rfl ?_
  refine AW.getR X f_X5_61_18 (by first | assumption | exact hT _ _ rfl) (by first | assumption | exact hR _ _ _ rfl) dX5_take_36 ?_
  refine AW.callS_i X (c_X5_takeHalf (a := 309) (m := 6) (hT _ _ rfl) (by omega) (by omega)) s_X5_333 (by omega) (Nat.le_of_ble_eq_true rfl) rfl rfl (Nat.le_of_ble_eq_true rfl) dX5_take_39 ?_
  intro r39 I39 h39
  obtain ⟨rfl, b39, c39⟩ := h39
  first | refine AW.aload_n X dX5_take_42 rfl rfl ?_ | refine AW.aloadN_n X dX5_take_42 rfl rfl ?_
  refine AW.getR X f_X5_64_18 (by first | assumption | exact hT _ _ rfl) (by first | assumption | exact hR _ _ _ rfl) dX5_take_43 ?_
  refine AW.callS_i X (c_X5_takeHalf (a := 310) (m := 6) (hT _ _ rfl) (by omega) (by omega)) s_X5_333 (by omega) (Nat.le_of_ble_eq_true rfl) rfl rfl (Nat.le_of_ble_eq_true rfl) dX5_take_46 ?_
  intro r46 I46 h46
  obtain ⟨rfl, b46, c46⟩ := h46
  first | refine AW.aload_n X dX5_take_49 rfl rfl ?_ | refine AW.aloadN_n X dX5_take_49 rfl rfl ?_
  refine AW.getR X f_X5_67_18 (by first | assumption | exact hT _ _ rfl) (by first | assumption | exact hR _ _ _ rfl) dX5_take_50 ?_
  refine AW.callS_i X (c_X5_takeHalf (a := 311) (m := 6) (hT _ _ rfl) (by omega) (by omega)) s_X5_333 (by omega) (Nat.le_of_ble_eq_true rfl) rfl rfl (Nat.le_of_ble_eq_true rfl) dX5_take_53 ?_
  intro r53 I53 h53
  obtain ⟨rfl, b53, c53⟩ := h53
  first | refine AW.aload_n X dX5_take_56 rfl rfl ?_ | refine AW.aloadN_n X dX5_take_56 rfl rfl ?_
  refine AW.getR X f_X5_70_18 (by first | assumption | exact hT _ _ rfl) (by first | assumption | exact hR _ _ _ rfl) dX5_take_57 ?_
  refine AW.callS_i X (c_X5_takeHalf (a := 312) (m := 6) (hT _ _ rfl) (by omega) (by omega)) s_X5_333 (by omega) (Nat.le_of_ble_eq_true rfl) rfl rfl (Nat.le_of_ble_eq_true rfl) dX5_take_60 ?_
  intro r60 I60 h60
  obtain ⟨rfl, b60, c60⟩ := h60
  first | refine AW.aload_n X dX5_take_63 rfl rfl ?_ | refine AW.aloadN_n X dX5_take_63 rfl rfl ?_
  refine AW.getR X f_X5_73_18 (by first | assumption | exact hT _ _ rfl) (by first | assumption | exact hR _ _ _ rfl) dX5_take_64 ?_
  refine AW.callS_i X (c_X5_takeHalf (a := 313) (m := 6) (hT _ _ rfl) (by omega) (by omega)) s_X5_333 (by omega) (Nat.le_of_ble_eq_true rfl) rfl rfl (Nat.le_of_ble_eq_true rfl) dX5_take_67 ?_
  intro r67 I67 h67
  obtain ⟨rfl, b67, c67⟩ := h67
  first | refine AW.aload_n X dX5_take_70 rfl rfl ?_ | refine AW.aloadN_n X dX5_take_70 rfl rfl ?_
  refine AW.getR X f_X5_76_18 (by first | assumption | exact hT _ _ rfl) (by first | assumption | exact hR _ _ _ rfl) dX5_take_71 ?_
  refine AW.callS_i X (c_X5_takeHalf (a := 314) (m := 4) (hT _ _ rfl) (by omega) (by omega)) s_X5_333 (by omega) (Nat.le_of_ble_eq_true rfl) rfl rfl (Nat.le_of_ble_eq_true rfl) dX5_take_74 ?_
  intro r74 I74 h74
  obtain ⟨rfl, b74, c74⟩ := h74
  first | refine AW.aload_n X dX5_take_77 rfl rfl ?_ | refine AW.aloadN_n X dX5_take_77 rfl rfl ?_
  refine AW.getR X f_X5_79_18 (by first | assumption | exact hT _ _ rfl) (by first | assumption | exact hR _ _ _ rfl) dX5_take_78 ?_
  refine AW.callS_i X (c_X5_takeHalf (a := 315) (m := 4) (hT _ _ rfl) (by omega) (by omega)) s_X5_333 (by omega) (Nat.le_of_ble_eq_true rfl) rfl rfl (Nat.le_of_ble_eq_true rfl) dX5_take_81 ?_
  intro r81 I81 h81
  obtain ⟨rfl, b81, c81⟩ := h81
  first | refine AW.aload_n X dX5_take_84 rfl rfl ?_ | refine AW.aloadN_n X dX5_take_84 rfl rfl ?_
  refine AW.getR X f_X5_82_18 (by first | assumption | exact hT _ _ rfl) (by first | assumption | exact hR _ _ _ rfl) dX5_take_85 ?_
  refine AW.callS_i X (c_X5_takeHalf (a := 316) (m := 4) (hT _ _ rfl) (by omega) (by omega)) s_X5_333 (by omega) (Nat.le_of_ble_eq_true rfl) rfl rfl (Nat.le_of_ble_eq_true rfl) dX5_take_88 ?_
  intro r88 I88 h88
  obtain ⟨rfl, b88, c88⟩ := h88
  first | refine AW.aload_n X dX5_take_91 rfl rfl ?_ | refine AW.aloadN_n X dX5_take_91 rfl rfl ?_
  refine AW.getR X f_X5_85_18 (by first | assumption | exact hT _ _ rfl) (by first | assumption | exact hR _ _ _ rfl) dX5_take_92 ?_
  refine AW.callS_i X (c_X5_takeHalf (a := 317) (m := 4) (hT _ _ rfl) (by omega) (by omega)) s_X5_333 (by omega) (Nat.le_of_ble_eq_true rfl) rfl rfl (Nat.le_of_ble_eq_true rfl) dX5_take_95 ?_
  intro r95 I95 h95
  obtain ⟨rfl, b95, c95⟩ := h95
  first | refine AW.aload_n X dX5_take_98 rfl rfl ?_ | refine AW.aloadN_n X dX5_take_98 rfl rfl ?_
  refine AW.getR X f_X5_88_18 (by first | assumption | exact hT _ _ rfl) (by first | assumption | exact hR _ _ _ rfl) dX5_take_99 ?_
  refine AW.callS_i X (c_X5_takeHalf (a := 318) (m := 24) (hT _ _ rfl) (by omega) (by omega)) s_X5_333 (by omega) (Nat.le_of_ble_eq_true rfl) rfl rfl (Nat.le_of_ble_eq_true rfl) dX5_take_102 ?_
  intro r102 I102 h102
  obtain ⟨rfl, b102, c102⟩ := h102
  first | refine AW.aload_n X dX5_take_105 rfl rfl ?_ | refine AW.aloadN_n X dX5_take_105 rfl rfl ?_
  refine AW.getR X f_X5_91_18 (by first | assumption | exact hT _ _ rfl) (by first | assumption | exact hR _ _ _ rfl) dX5_take_106 ?_
  refine AW.callS_i X (c_X5_takeHalf (a := 319) (m := 10) (hT _ _ rfl) (by omega) (by omega)) s_X5_333 (by omega) (Nat.le_of_ble_eq_true rfl) rfl rfl (Nat.le_of_ble_eq_true rfl) dX5_take_109 ?_
  intro r109 I109 h109
  obtain ⟨rfl, b109, c109⟩ := h109
  first | refine AW.aload_n X dX5_take_112 rfl rfl ?_ | refine AW.aloadN_n X dX5_take_112 rfl rfl ?_
  refine AW.getR X f_X5_94_18 (by first | assumption | exact hT _ _ rfl) (by first | assumption | exact hR _ _ _ rfl) dX5_take_113 ?_
  refine AW.callS_i X (c_X5_takeHalf (a := 320) (m := 6) (hT _ _ rfl) (by omega) (by omega)) s_X5_333 (by omega) (Nat.le_of_ble_eq_true rfl) rfl rfl (Nat.le_of_ble_eq_true rfl) dX5_take_116 ?_
  intro r116 I116 h116
  obtain ⟨rfl, b116, c116⟩ := h116
  first | refine AW.aload_n X dX5_take_119 rfl rfl ?_ | refine AW.aloadN_n X dX5_take_119 rfl rfl ?_
  refine AW.getR X f_X5_97_18 (by first | assumption | exact hT _ _ rfl) (by first | assumption | exact hR _ _ _ rfl) dX5_take_120 ?_
  refine AW.callS_i X (c_X5_takeHalf (a := 321) (m := 6) (hT _ _ rfl) (by omega) (by omega)) s_X5_333 (by omega) (Nat.le_of_ble_eq_true rfl) rfl rfl (Nat.le_of_ble_eq_true rfl) dX5_take_123 ?_
  intro r123 I123 h123
  obtain ⟨rfl, b123, c123⟩ := h123
  first | refine AW.aload_n X dX5_take_126 rfl rfl ?_ | refine AW.aloadN_n X dX5_take_126 rfl rfl ?_
  refine AW.getR X f_X5_100_18 (by first | assumption | exact hT _ _ rfl) (by first | assumption | exact hR _ _ _ rfl) dX5_take_127 ?_
  refine AW.callS_i X (c_X5_takeHalf (a := 322) (m := 6) (hT _ _ rfl) (by omega) (by omega)) s_X5_333 (by omega) (Nat.le_of_ble_eq_true rfl) rfl rfl (Nat.le_of_ble_eq_true rfl) dX5_take_130 ?_
  intro r130 I130 h130
  obtain ⟨rfl, b130, c130⟩ := h130
  first | refine AW.aload_n X dX5_take_133 rfl rfl ?_ | refine AW.aloadN_n X dX5_take_133 rfl rfl ?_
  refine AW.iconst X (v := 0) dX5_take_134 rfl ?_
  refine AW.putI X g_X5_take_337_18 (by omega) (by first | assumption | exact hT _ _ rfl) dX5_take_135 ?_ 
  first | refine AW.aload_n X dX5_take_138 rfl rfl ?_ | refine AW.aloadN_n X dX5_take_138 rfl rfl ?_
  refine AW.iconst X (v := 0) dX5_take_139 rfl ?_
  refine AW.putI X g_X5_take_340_18 (by omega) (by first | assumption | exact hT _ _ rfl) dX5_take_140 ?_ 
  first | refine AW.aload_n X dX5_take_143 rfl rfl ?_ | refine AW.aloadN_n X dX5_take_143 rfl rfl ?_
  refine AW.iconst X (v := 0) dX5_take_144 rfl ?_
  refine AW.putI X g_X5_take_342_18 (by omega) (by first | assumption | exact hT _ _ rfl) dX5_take_145 ?_ 
  first | refine AW.aload_n X dX5_take_148 rfl rfl ?_ | refine AW.aloadN_n X dX5_take_148 rfl rfl ?_
  refine AW.iconst X (v := -1) dX5_take_149 rfl ?_
  refine AW.putI X g_X5_take_152_18 (by omega) (by first | assumption | exact hT _ _ rfl) dX5_take_150 ?_ 
  first | refine AW.aload_n X dX5_take_153 rfl rfl ?_ | refine AW.aloadN_n X dX5_take_153 rfl rfl ?_
  refine AW.iconst X (v := 0) dX5_take_154 rfl ?_
  refine AW.putI X g_X5_take_345_18 (by omega) (by first | assumption | exact hT _ _ rfl) dX5_take_155 ?_ 
  refine AW.vreturn X E ?_ dX5_take_158
  refine ⟨rfl, rfl, rfl, rfl, fun a k a1 a2 hk => ?_, fun a a1 a2 => ?_, ?_⟩
  · rw [w2_r (by omega), w2_r (by omega), w2_r (by omega), w2_r (by omega), w2_r (by omega)]
    rcases (show a = 304 ∨ a = 305 ∨ a = 306 ∨ a = 307 ∨ a = 308 ∨ a = 309 ∨ a = 310 ∨ a = 311 ∨ a = 312 ∨ a = 313 ∨ a = 314 ∨ a = 315 ∨ a = 316 ∨ a = 317 ∨ a = 318 ∨ a = 319 ∨ a = 320 ∨ a = 321 ∨ a = 322 by omega) with rfl | rfl | rfl | rfl | rfl | rfl | rfl | rfl | rfl | rfl | rfl | rfl | rfl | rfl | rfl | rfl | rfl | rfl | rfl
    · rw [b130 304 (by omega), b123 304 (by omega), b116 304 (by omega), b109 304 (by omega), b102 304 (by omega), b95 304 (by omega), b88 304 (by omega), b81 304 (by omega), b74 304 (by omega), b67 304 (by omega), b60 304 (by omega), b53 304 (by omega), b46 304 (by omega), b39 304 (by omega), b32 304 (by omega), b25 304 (by omega), b18 304 (by omega), b11 304 (by omega), c4 k hk]; rfl
    · rw [b130 305 (by omega), b123 305 (by omega), b116 305 (by omega), b109 305 (by omega), b102 305 (by omega), b95 305 (by omega), b88 305 (by omega), b81 305 (by omega), b74 305 (by omega), b67 305 (by omega), b60 305 (by omega), b53 305 (by omega), b46 305 (by omega), b39 305 (by omega), b32 305 (by omega), b25 305 (by omega), b18 305 (by omega), c11 k hk, b4 305 (by omega)]; rfl
    · rw [b130 306 (by omega), b123 306 (by omega), b116 306 (by omega), b109 306 (by omega), b102 306 (by omega), b95 306 (by omega), b88 306 (by omega), b81 306 (by omega), b74 306 (by omega), b67 306 (by omega), b60 306 (by omega), b53 306 (by omega), b46 306 (by omega), b39 306 (by omega), b32 306 (by omega), b25 306 (by omega), c18 k hk, b11 306 (by omega), b4 306 (by omega)]; rfl
    · rw [b130 307 (by omega), b123 307 (by omega), b116 307 (by omega), b109 307 (by omega), b102 307 (by omega), b95 307 (by omega), b88 307 (by omega), b81 307 (by omega), b74 307 (by omega), b67 307 (by omega), b60 307 (by omega), b53 307 (by omega), b46 307 (by omega), b39 307 (by omega), b32 307 (by omega), c25 k hk, b18 307 (by omega), b11 307 (by omega), b4 307 (by omega)]; rfl
    · rw [b130 308 (by omega), b123 308 (by omega), b116 308 (by omega), b109 308 (by omega), b102 308 (by omega), b95 308 (by omega), b88 308 (by omega), b81 308 (by omega), b74 308 (by omega), b67 308 (by omega), b60 308 (by omega), b53 308 (by omega), b46 308 (by omega), b39 308 (by omega), c32 k hk, b25 308 (by omega), b18 308 (by omega), b11 308 (by omega), b4 308 (by omega)]; rfl
    · rw [b130 309 (by omega), b123 309 (by omega), b116 309 (by omega), b109 309 (by omega), b102 309 (by omega), b95 309 (by omega), b88 309 (by omega), b81 309 (by omega), b74 309 (by omega), b67 309 (by omega), b60 309 (by omega), b53 309 (by omega), b46 309 (by omega), c39 k hk, b32 309 (by omega), b25 309 (by omega), b18 309 (by omega), b11 309 (by omega), b4 309 (by omega)]; rfl
    · rw [b130 310 (by omega), b123 310 (by omega), b116 310 (by omega), b109 310 (by omega), b102 310 (by omega), b95 310 (by omega), b88 310 (by omega), b81 310 (by omega), b74 310 (by omega), b67 310 (by omega), b60 310 (by omega), b53 310 (by omega), c46 k hk, b39 310 (by omega), b32 310 (by omega), b25 310 (by omega), b18 310 (by omega), b11 310 (by omega), b4 310 (by omega)]; rfl
    · rw [b130 311 (by omega), b123 311 (by omega), b116 311 (by omega), b109 311 (by omega), b102 311 (by omega), b95 311 (by omega), b88 311 (by omega), b81 311 (by omega), b74 311 (by omega), b67 311 (by omega), b60 311 (by omega), c53 k hk, b46 311 (by omega), b39 311 (by omega), b32 311 (by omega), b25 311 (by omega), b18 311 (by omega), b11 311 (by omega), b4 311 (by omega)]; rfl
    · rw [b130 312 (by omega), b123 312 (by omega), b116 312 (by omega), b109 312 (by omega), b102 312 (by omega), b95 312 (by omega), b88 312 (by omega), b81 312 (by omega), b74 312 (by omega), b67 312 (by omega), c60 k hk, b53 312 (by omega), b46 312 (by omega), b39 312 (by omega), b32 312 (by omega), b25 312 (by omega), b18 312 (by omega), b11 312 (by omega), b4 312 (by omega)]; rfl
    · rw [b130 313 (by omega), b123 313 (by omega), b116 313 (by omega), b109 313 (by omega), b102 313 (by omega), b95 313 (by omega), b88 313 (by omega), b81 313 (by omega), b74 313 (by omega), c67 k hk, b60 313 (by omega), b53 313 (by omega), b46 313 (by omega), b39 313 (by omega), b32 313 (by omega), b25 313 (by omega), b18 313 (by omega), b11 313 (by omega), b4 313 (by omega)]; rfl
    · rw [b130 314 (by omega), b123 314 (by omega), b116 314 (by omega), b109 314 (by omega), b102 314 (by omega), b95 314 (by omega), b88 314 (by omega), b81 314 (by omega), c74 k hk, b67 314 (by omega), b60 314 (by omega), b53 314 (by omega), b46 314 (by omega), b39 314 (by omega), b32 314 (by omega), b25 314 (by omega), b18 314 (by omega), b11 314 (by omega), b4 314 (by omega)]; rfl
    · rw [b130 315 (by omega), b123 315 (by omega), b116 315 (by omega), b109 315 (by omega), b102 315 (by omega), b95 315 (by omega), b88 315 (by omega), c81 k hk, b74 315 (by omega), b67 315 (by omega), b60 315 (by omega), b53 315 (by omega), b46 315 (by omega), b39 315 (by omega), b32 315 (by omega), b25 315 (by omega), b18 315 (by omega), b11 315 (by omega), b4 315 (by omega)]; rfl
    · rw [b130 316 (by omega), b123 316 (by omega), b116 316 (by omega), b109 316 (by omega), b102 316 (by omega), b95 316 (by omega), c88 k hk, b81 316 (by omega), b74 316 (by omega), b67 316 (by omega), b60 316 (by omega), b53 316 (by omega), b46 316 (by omega), b39 316 (by omega), b32 316 (by omega), b25 316 (by omega), b18 316 (by omega), b11 316 (by omega), b4 316 (by omega)]; rfl
    · rw [b130 317 (by omega), b123 317 (by omega), b116 317 (by omega), b109 317 (by omega), b102 317 (by omega), c95 k hk, b88 317 (by omega), b81 317 (by omega), b74 317 (by omega), b67 317 (by omega), b60 317 (by omega), b53 317 (by omega), b46 317 (by omega), b39 317 (by omega), b32 317 (by omega), b25 317 (by omega), b18 317 (by omega), b11 317 (by omega), b4 317 (by omega)]; rfl
    · rw [b130 318 (by omega), b123 318 (by omega), b116 318 (by omega), b109 318 (by omega), c102 k hk, b95 318 (by omega), b88 318 (by omega), b81 318 (by omega), b74 318 (by omega), b67 318 (by omega), b60 318 (by omega), b53 318 (by omega), b46 318 (by omega), b39 318 (by omega), b32 318 (by omega), b25 318 (by omega), b18 318 (by omega), b11 318 (by omega), b4 318 (by omega)]; rfl
    · rw [b130 319 (by omega), b123 319 (by omega), b116 319 (by omega), c109 k hk, b102 319 (by omega), b95 319 (by omega), b88 319 (by omega), b81 319 (by omega), b74 319 (by omega), b67 319 (by omega), b60 319 (by omega), b53 319 (by omega), b46 319 (by omega), b39 319 (by omega), b32 319 (by omega), b25 319 (by omega), b18 319 (by omega), b11 319 (by omega), b4 319 (by omega)]; rfl
    · rw [b130 320 (by omega), b123 320 (by omega), c116 k hk, b109 320 (by omega), b102 320 (by omega), b95 320 (by omega), b88 320 (by omega), b81 320 (by omega), b74 320 (by omega), b67 320 (by omega), b60 320 (by omega), b53 320 (by omega), b46 320 (by omega), b39 320 (by omega), b32 320 (by omega), b25 320 (by omega), b18 320 (by omega), b11 320 (by omega), b4 320 (by omega)]; rfl
    · rw [b130 321 (by omega), c123 k hk, b116 321 (by omega), b109 321 (by omega), b102 321 (by omega), b95 321 (by omega), b88 321 (by omega), b81 321 (by omega), b74 321 (by omega), b67 321 (by omega), b60 321 (by omega), b53 321 (by omega), b46 321 (by omega), b39 321 (by omega), b32 321 (by omega), b25 321 (by omega), b18 321 (by omega), b11 321 (by omega), b4 321 (by omega)]; rfl
    · rw [c130 k hk, b123 322 (by omega), b116 322 (by omega), b109 322 (by omega), b102 322 (by omega), b95 322 (by omega), b88 322 (by omega), b81 322 (by omega), b74 322 (by omega), b67 322 (by omega), b60 322 (by omega), b53 322 (by omega), b46 322 (by omega), b39 322 (by omega), b32 322 (by omega), b25 322 (by omega), b18 322 (by omega), b11 322 (by omega), b4 322 (by omega)]; rfl
  · rw [w2_r a1, w2_r a1, w2_r a1, w2_r a1, w2_r a1, b130 a (by omega), b123 a (by omega), b116 a (by omega), b109 a (by omega), b102 a (by omega), b95 a (by omega), b88 a (by omega), b81 a (by omega), b74 a (by omega), b67 a (by omega), b60 a (by omega), b53 a (by omega), b46 a (by omega), b39 a (by omega), b32 a (by omega), b25 a (by omega), b18 a (by omega), b11 a (by omega), b4 a (by omega)]
  · have e : I130 200 = I 200 := by rw [b130 200 (by omega), b123 200 (by omega), b116 200 (by omega), b109 200 (by omega), b102 200 (by omega), b95 200 (by omega), b88 200 (by omega), b81 200 (by omega), b74 200 (by omega), b67 200 (by omega), b60 200 (by omega), b53 200 (by omega), b46 200 (by omega), b39 200 (by omega), b32 200 (by omega), b25 200 (by omega), b18 200 (by omega), b11 200 (by omega), b4 200 (by omega)]
    unfold w2
    simp only [row_s, e]
end MPO
