/-! 08j: what the model keeps bright (steps printed by src/walk.py) -/
set_option maxRecDepth 100000
set_option maxHeartbeats 4000000
theorem lig_eq {N : KI} {G G' : Nat → Int32} {q h : Nat} (hh : h < 24) (hg : ∀ e h', e < nE N → h' < 24 → N 311 e = nI q → G (24 * e + h') = G' (24 * e + h')) : lig N G q h = lig N G' q h := by
  unfold lig
  by_cases hl : N 305 q = 1
  · rw [if_pos hl, if_pos hl]
    by_cases h0 : h = 0
    · rw [if_pos h0, if_pos h0]
    · rw [if_neg h0, if_neg h0]; exact rw_eq fun e he hq => hg e (h - 1) he (by omega) hq
  · rw [if_neg hl, if_neg hl]; exact rw_eq fun e he hq => hg e h he hh hq
/-- a meal later than hour h' doesn't show in it -/
theorem addN_45 {N : KI} {e h s : Int32} : addN N e h s 200 45 = N 200 45 := by
  unfold addN; rw [w2_n2 (by omega), w2_n1 (by omega), w2_n1 (by omega), w2_n1 (by omega)]
theorem addN_m {N : KI} {e h s : Int32} {m : Nat} (hm : m < nM N) : addN N e h s 337 m = N 337 m ∧ addN N e h s 338 m = N 338 m ∧ addN N e h s 339 m = N 339 m := by
  unfold addN
  have hne : m ≠ nM N := by omega
  simp only [w2_n1 (show (337 : Nat) ≠ 200 by decide), w2_n1 (show (338 : Nat) ≠ 200 by decide), w2_n1 (show (339 : Nat) ≠ 200 by decide), w2_n1 (show (337 : Nat) ≠ 339 by decide), w2_n1 (show (337 : Nat) ≠ 338 by decide), w2_n1 (show (338 : Nat) ≠ 339 by decide), w2_n1 (show (338 : Nat) ≠ 337 by decide), w2_n1 (show (339 : Nat) ≠ 337 by decide), w2_n1 (show (339 : Nat) ≠ 338 by decide), w2_n2 hne]
  exact ⟨trivial, trivial, trivial⟩
theorem addN_h {N : KI} {e h s : Int32} : addN N e h s 338 (nM N) = h := by
  unfold addN; rw [w2_n1 (by omega), w2_n1 (by omega), w2_s]
theorem eat_add {N : KI} {e h s : Int32} {e' h' : Nat} {p : Int32 × Int32} : ∀ {m : Nat}, m ≤ nM N → eatP (addN N e h s) e' h' m p = eatP N e' h' m p
  | 0, _ => rfl
  | m + 1, hm => by
    obtain ⟨a1, a2, a3⟩ := addN_m (N := N) (e := e) (h := h) (s := s) (m := m) (by omega)
    unfold eatP
    rw [a1, a2, a3, eat_add (m := m) (by omega)]
theorem eat_add1 {N : KI} {e s : Int32} {h : Nat} {e' h' : Nat} {p : Int32 × Int32} (hm : nM N < 26) (hh : h' < h) (h24 : h < 24) : eatP (addN N e (nI h) s) e' h' (nM (addN N e (nI h) s)) p = eatP N e' h' (nM N) p := by
  rw [addN_M hm, eatP_n (fun z => absurd ((nI_eq (by omega) (by omega)).mp (addN_h.symm.trans z.2)) (by omega))]
  exact eat_add (Nat.le_refl _)
theorem hb_add {N : KI} {e s : Int32} {h : Nat} {e' : Nat} (hm : nM N < 26) (h24 : h < 24) : ∀ {h' : Nat}, h' ≤ h → hb (addN N e (nI h) s) e' h' = hb N e' h'
  | 0, _ => by unfold hb; rw [addN_P 313 (by omega) (by omega)]
  | h' + 1, hh => by
    unfold hb grw
    rw [hb_add hm h24 (h' := h') (by omega), eat_add1 hm (by omega) h24, addN_P 309 (by omega) (by omega)]
theorem hun_add {N : KI} {e s : Int32} {h : Nat} {e' h' : Nat} (hm : nM N < 26) (h24 : h < 24) (hh : h' < h) : hun (addN N e (nI h) s) e' h' = hun N e' h' := by
  unfold hun
  rw [hb_add hm h24 (by omega), eat_add1 hm hh h24]
theorem glo_add {N : KI} {e s : Int32} {h : Nat} {e' h' : Nat} (hm : nM N < 26) (h24 : h < 24) (hh : h' < h) : glo (addN N e (nI h) s) e' h' = glo N e' h' := by
  have hH : nH (addN N e (nI h) s) = nH N := nat_eq (addN_P 304 (by omega) (by omega))
  have hi : isHd (addN N e (nI h) s) e' h' ↔ isHd N e' h' := by
    unfold isHd
    rw [hH, addN_P 320 (by omega) (by omega), addN_P 321 (by omega) (by omega), addN_P 322 (by omega) (by omega)]
  have hg : glv (addN N e (nI h) s) e' h' (hun (addN N e (nI h) s) e' h') = glv N e' h' (hun N e' h') := by
    rw [hun_add hm h24 hh]
    unfold glv
    rw [addN_P 309 (by omega) (by omega), addN_P 318 (by omega) (by omega), addN_P 312 (by omega) (by omega), addN_45]
  unfold glo
  by_cases hc : isHd N e' h'
  · rw [if_pos hc, if_pos (hi.mpr hc)]
  · rw [if_neg hc, if_neg (fun z => hc (hi.mp z)), hg]
theorem sumG_cg {N N' : KI} {G : Nat → Int32} {q h : Nat} (h1 : N' 311 = N 311) : ∀ n, sumG N' G q h n = sumG N G q h n
  | 0 => rfl
  | n + 1 => by unfold sumG; rw [h1, sumG_cg h1 n]
theorem rw_cg {N N' : KI} {G : Nat → Int32} {q h : Nat} (hv : ∀ a, 304 ≤ a → a ≤ 322 → N' a = N a) : rw_ N' G q h = rw_ N G q h := by
  unfold rw_
  rw [show nE N' = nE N from nat_eq (hv 304 (by omega) (by omega)), sumG_cg (hv 311 (by omega) (by omega)), hv 307 (by omega) (by omega)]
theorem lig_cg {N N' : KI} {G : Nat → Int32} {q h : Nat} (hv : ∀ a, 304 ≤ a → a ≤ 322 → N' a = N a) : lig N' G q h = lig N G q h := by
  unfold lig
  rw [hv 305 (by omega) (by omega), rw_cg hv, rw_cg hv]
theorem Lig_add {N : KI} {e s : Int32} {h : Nat} {q h' : Nat} (hm : nM N < 26) (h24 : h < 24) (hh : h' < h) : Lig (addN N e (nI h) s) q h' = Lig N q h' := by
  unfold Lig
  rw [lig_cg addN_P]
  unfold lig
  by_cases hl : N 305 q = 1
  · rw [if_pos hl, if_pos hl]
    by_cases h0 : h' = 0
    · rw [if_pos h0, if_pos h0]
    · rw [if_neg h0, if_neg h0]; exact rw_eq fun e he hq => by rw [gRow_at _ _ (by omega), gRow_at _ _ (by omega)]; exact glo_add hm h24 (by omega)
  · rw [if_neg hl, if_neg hl]; exact rw_eq fun e he hq => by rw [gRow_at _ _ (by omega), gRow_at _ _ (by omega)]; exact glo_add hm h24 hh
abbrev brtP (N : KI) (q : Nat) (lt : Int32) (a n : Nat) : Prop := ∀ k, k < n → lt ≤ Lig N q (a + k)
theorem kpF_none {q : Nat} {lt : Int32} : ∀ {j : Nat} {N : KI} {h left : Nat} {fig : Int32}, j < left → kpF q lt j N h left fig = none
  | 0, N, h, left, fig, hl => if_neg (by omega)
  | j + 1, N, h, left, fig, hl => by
    unfold kpF
    have hf : ∀ c, (fun c => if 0 < c ∧ ¬ N 311 (c - 1) = nI q then none else if lt ≤ Lig (livN N c h) q h then kpF q lt j (livN N c h) (h + 1) (left - (if c = 0 then 0 else 1)) (7 * fig + nI c) else none) c = none := fun c => by
      show (if _ then _ else _) = _
      by_cases h1 : 0 < c ∧ ¬ N 311 (c - 1) = nI q
      · rw [if_pos h1]
      · rw [if_neg h1]
        by_cases h2 : lt ≤ Lig (livN N c h) q h
        · rw [if_pos h2]; exact kpF_none (by split <;> omega)
        · rw [if_neg h2]
    have : ∀ (g : Nat → Option Int32), (∀ c, g c = none) → ∀ n c, fs1 g c n = none := fun g hg n => by
      induction n with
      | zero => intro c; rfl
      | succ n ih => intro c; unfold fs1; rw [hg c]; exact ih (c + 1)
    exact this _ hf _ _
def fgF (I : Nat → Int32) : Int32 → Nat → Nat → Int32
  | v, _, 0 => v
  | v, i, j + 1 => fgF I (7 * v + I i) (i + 1) j
def brM (q : Nat) (lt : Int32) (a i j : Nat) (N : KI) (left : Nat) (fig : Int32) : Option Int32 := if brtP N q lt a i then kpF q lt j N (a + i) left fig else none
theorem oB_z {o : Option Int32} : oB o = 0 ↔ o = none := by
  cases o with
  | none => exact ⟨fun _ => rfl, fun _ => rfl⟩
  | some v => exact ⟨fun h => absurd (show (1 : Int32) = 0 from h) (by decide), fun h => by cases h⟩
section MB
variable {T : KT} {R : KR} {J : KJ} {N : KI}
theorem c_X5_isBright {q a n : Nat} {lt : Int32} {I : KI} (hS : MS T I R N) (hq : q < nQ N) (hn : 1 ≤ n) (han : a + n ≤ 24) : MX5_isBright 4 0 [.ref 200, .int (nI q), .int lt, .int (nI a), .int (nI (a + n - 1))] T I R J (qI (fun r I' => r = some (.int (bI (brtP N q lt a n))) ∧ FE I I') T R J) noX := by
  have hS0 := hS
  obtain ⟨hT, hR, hV, hN, hM⟩ := hS
  obtain ⟨⟨n1, n2, n3, n4, hnq, hne, hns, hnh⟩, -⟩ := id hN
  have v304 := hV.1 304 (by omega) (by omega)
  have v311 := hV.1 311 (by omega) (by omega)
  refine AMet.of (by decide) (Nat.le_of_ble_eq_true rfl) (cats1 rfl) fun cx X E => ?_
  show AW _ _ _ (_ :: _ :: _ :: _ :: _ :: _ :: []) _ _ _ _ _
  have l2' : ∀ I' : KI, FE I I' → (∀ e' h, e' < nE N → h < 24 → N 311 e' = nI q → I' 341 (24 * e' + h) = glo N e' h) → ∀ j k, k + j = n → (∀ k', k' < k → lt ≤ Lig N q (a + k')) → AW cx 0 40 [.ref 200, .int (nI q), .int lt, .int (nI a), .int (nI (a + n - 1)), .int (nI (a + k))] [] T I' R J := by
    intro I' hf hg j
    induction j with
    | zero =>
      intro k hk hb
      obtain rfl : k = n := by omega
      refine AW.iload X dX5_isBright_40 rfl ?_
      refine AW.iload X dX5_isBright_42 rfl ?_
      refine AW.icmp_gt X (tgt := 66) dX5_isBright_44 rfl ?_ ?_
      · intro t44
        refine AW.iconst X (v := 1) dX5_isBright_66 rfl ?_
        refine AW.ireturn X E ?_ dX5_isBright_67 (hnar := by first | rfl | (unfold bI; split <;> rfl))
        exact ⟨rfl, rfl, rfl, by rw [bI_t hb], hf⟩
      · intro f44
        exact absurd (nI_lt (by omega) (by omega)) f44
    | succ j ih =>
      intro k hk hb
      have hL : lig N (I' 341) q (a + k) = Lig N q (a + k) := lig_eq (by omega) (fun e h' he hh hq => by rw [gRow_at N e hh]; exact hg e h' he hh hq)
      refine AW.iload X dX5_isBright_40 rfl ?_
      refine AW.iload X dX5_isBright_42 rfl ?_
      refine AW.icmp_gt X (tgt := 66) dX5_isBright_44 rfl ?_ ?_
      · intro t44
        exact absurd t44 (nI_nlt (by omega) (by omega))
      · intro f44
        first | refine AW.aload_n X dX5_isBright_47 rfl rfl ?_ | refine AW.aloadN_n X dX5_isBright_47 rfl rfl ?_
        refine AW.iload_n X dX5_isBright_48 rfl rfl ?_
        refine AW.iload X dX5_isBright_49 rfl ?_
        refine AW.callV_r X (c_X5_lightOf (G := I' 341) (hS0.fe hf) hq (by omega) (fun _ _ _ _ => rfl)) (ci := 18) (q := (RX5, TX5, 74)) (by first | assumption | exact hT _ _ rfl) rfl s_X5_364_18 (by omega) (Nat.le_of_ble_eq_true rfl) rfl rfl (Nat.le_of_ble_eq_true rfl) dX5_isBright_51 ?_
        rw [hL]
        refine AW.iload_n X dX5_isBright_54 rfl rfl ?_
        refine AW.icmp_ge X (tgt := 60) dX5_isBright_55 rfl ?_ ?_
        · intro t55
          refine AW.iinc5 X (v := _ + 1) dX5_isBright_60 rfl ?_
          refine AW.goto X (tgt := 40) dX5_isBright_63 rfl ?_
          rw [nI_1]; exact ih (k + 1) (by omega) (fun k' hk' => by
            rcases Nat.lt_or_eq_of_le (Nat.le_of_lt_succ hk') with hl | rfl
            · exact hb k' hl
            · exact t55)
        · intro f55
          refine AW.iconst X (v := 0) dX5_isBright_58 rfl ?_
          refine AW.ireturn X E ?_ dX5_isBright_59 (hnar := by first | rfl | (unfold bI; split <;> rfl))
          exact ⟨rfl, rfl, rfl, by rw [bI_f (fun z => f55 (z k (by omega)))], hf⟩
  have l1' : ∀ j e (I' : KI), e + j = nE N → FE I I' → (∀ e' h, e' < e → h < 24 → N 311 e' = nI q → I' 341 (24 * e' + h) = glo N e' h) → AW cx 0 3 [.ref 200, .int (nI q), .int lt, .int (nI a), .int (nI (a + n - 1)), .int (nI e)] [] T I' R J := by
    intro j
    induction j with
    | zero =>
      intro e I' hj hf hg
      obtain rfl : e = nE N := by omega
      refine AW.iload X dX5_isBright_3 rfl ?_
      first | refine AW.aload_n X dX5_isBright_5 rfl rfl ?_ | refine AW.aloadN_n X dX5_isBright_5 rfl rfl ?_
      refine AW.getR X f_X5_45_18 (by first | assumption | exact hT _ _ rfl) (by first | assumption | exact hR _ _ _ rfl) dX5_isBright_6 ?_
      refine AW.iconst X (v := 1) dX5_isBright_9 rfl ?_
      refine AW.iald X (j := 1) (by first | assumption | exact hT _ _ rfl) (by repeat (first | with_reducible exact rfl | assumption | exact ix_l _ | apply ix_add | apply ix_mul)) (by omega) dX5_isBright_10 ?_
      rw [hf 304 (by omega) (by omega) (by omega) (by omega) (by omega) (by omega), v304, n2]
      refine AW.icmp_ge X (tgt := 37) dX5_isBright_11 rfl ?_ ?_
      · intro t11
        refine AW.iload_n X dX5_isBright_37 rfl rfl ?_
        refine AW.istore5 X dX5_isBright_38 ?_
        exact l2' I' hf hg n 0 (by omega) (fun _ h => absurd h (Nat.not_lt_zero _))
      · intro f11
        exact absurd (Int32.le_refl _) f11
    | succ j ih =>
      intro e I' hj hf hg
      have hS2 := hS0.fe hf
      refine AW.iload X dX5_isBright_3 rfl ?_
      first | refine AW.aload_n X dX5_isBright_5 rfl rfl ?_ | refine AW.aloadN_n X dX5_isBright_5 rfl rfl ?_
      refine AW.getR X f_X5_45_18 (by first | assumption | exact hT _ _ rfl) (by first | assumption | exact hR _ _ _ rfl) dX5_isBright_6 ?_
      refine AW.iconst X (v := 1) dX5_isBright_9 rfl ?_
      refine AW.iald X (j := 1) (by first | assumption | exact hT _ _ rfl) (by repeat (first | with_reducible exact rfl | assumption | exact ix_l _ | apply ix_add | apply ix_mul)) (by omega) dX5_isBright_10 ?_
      rw [hf 304 (by omega) (by omega) (by omega) (by omega) (by omega) (by omega), v304, n2]
      refine AW.icmp_ge X (tgt := 37) dX5_isBright_11 rfl ?_ ?_
      · intro t11
        exact absurd t11 (nI_ge (by omega) (by omega))
      · intro f11
        first | refine AW.aload_n X dX5_isBright_14 rfl rfl ?_ | refine AW.aloadN_n X dX5_isBright_14 rfl rfl ?_
        refine AW.getR X f_X5_67_18 (by first | assumption | exact hT _ _ rfl) (by first | assumption | exact hR _ _ _ rfl) dX5_isBright_15 ?_
        refine AW.iload X dX5_isBright_18 rfl ?_
        refine AW.iald X (j := e) (by first | assumption | exact hT _ _ rfl) (by repeat (first | with_reducible exact rfl | assumption | exact ix_l _ | apply ix_add | apply ix_mul)) (by omega) dX5_isBright_20 ?_
        rw [hf 311 (by omega) (by omega) (by omega) (by omega) (by omega) (by omega), v311]
        refine AW.iload_n X dX5_isBright_21 rfl rfl ?_
        refine AW.icmp_ne X (tgt := 31) dX5_isBright_22 rfl ?_ ?_
        · intro t22
          refine AW.iinc5 X (v := _ + 1) dX5_isBright_31 rfl ?_
          refine AW.goto X (tgt := 3) dX5_isBright_34 rfl ?_
          rw [nI_1]
          first
            | exact ih (e + 1) I' (by omega) hf (fun e' h he hh hq => by
                rcases Nat.lt_or_eq_of_le (Nat.le_of_lt_succ he) with hl | rfl
                · exact hg e' h hl hh hq
                · exact absurd hq t22)
            | exact ih (e + 1) _ (by omega) (hf.tr hf2) (fun e' h he hh hq => by
                rcases Nat.lt_or_eq_of_le (Nat.le_of_lt_succ he) with hl | rfl
                · rw [(ht.2 _ (by omega)).2.1]; exact hg e' h hl hh hq
                · exact (ht.1 h hh).2.1)
        · intro f22
          first | refine AW.aload_n X dX5_isBright_25 rfl rfl ?_ | refine AW.aloadN_n X dX5_isBright_25 rfl rfl ?_
          refine AW.iload X dX5_isBright_26 rfl ?_
          refine AW.callV_i X (c_X5_tellEel hS2 (show e < nE N by omega)) (ci := 18) (q := (RX5, TX5, 74)) (by first | assumption | exact hT _ _ rfl) rfl s_X5_367_18 (by omega) (Nat.le_of_ble_eq_true rfl) rfl rfl (Nat.le_of_ble_eq_true rfl) dX5_isBright_28 ?_
          intro r28 I28 h28
          obtain ⟨rfl, hf2, -, ht⟩ := h28
          refine AW.iinc5 X (v := _ + 1) dX5_isBright_31 rfl ?_
          refine AW.goto X (tgt := 3) dX5_isBright_34 rfl ?_
          rw [nI_1]
          first
            | exact ih (e + 1) I' (by omega) hf (fun e' h he hh hq => by
                rcases Nat.lt_or_eq_of_le (Nat.le_of_lt_succ he) with hl | rfl
                · exact hg e' h hl hh hq
                · exact absurd hq t22)
            | exact ih (e + 1) _ (by omega) (hf.tr hf2) (fun e' h he hh hq => by
                rcases Nat.lt_or_eq_of_le (Nat.le_of_lt_succ he) with hl | rfl
                · rw [(ht.2 _ (by omega)).2.1]; exact hg e' h hl hh hq
                · exact (ht.1 h hh).2.1)
  refine AW.iconst X (v := 0) dX5_isBright_0 rfl ?_
  refine AW.istore5 X dX5_isBright_1 ?_
  exact l1' (nE N) 0 I (by omega) FE.rf (fun _ _ h => absurd h (Nat.not_lt_zero _))
theorem c_X5_brightOn {q a b : Nat} {lt : Int32} (hq : q < nQ N) (hab : a ≤ b) (hb : b < 24) : ∀ (j : Nat) {i left : Nat} {fig : Int32} {N1 I : KI}, MS T I R N1 → (∀ a, 304 ≤ a → a ≤ 322 → N1 a = N a) → nM N1 + j ≤ 26 → a + i + j = b + 1 → i + j ≤ 6 → left ≤ 7 →
    MX5_brightOn (8 + j) 0 [.ref 200, .int (nI q), .int lt, .int (nI a), .int (nI b), .int (nI i), .int (nI left)] T I R J (qI (fun r I' => r = some (.int (oB (brM q lt a i j N1 left fig))) ∧ FM (nM N1) I I' ∧ I' 200 3 = I 200 3 ∧ (∀ x, x < i → I' 350 x = I 350 x) ∧ ∀ v, brM q lt a i j N1 left fig = some v → v = fgF (I' 350) fig i j) T R J) noX := by
  intro j
  induction j with
  | zero =>
    intro i left fig N1 I hS hv hm hij hij6 hl7
    have hS0 := hS
    obtain ⟨hT, hR, hV, hN, hM⟩ := hS
    have hnQ : nQ N1 = nQ N := nat_eq (hv 304 (by omega) (by omega))
    have hib : a + i - 1 = b := by omega
    have hv0 : ∀ v, brM q lt a i 0 N1 left fig = some v → v = fig := fun v hv => by
      unfold brM at hv
      by_cases h1 : brtP N1 q lt a i
      · rw [if_pos h1] at hv
        unfold kpF at hv
        by_cases h2 : left = 0
        · rw [if_pos h2] at hv; exact (Option.some.inj hv).symm
        · rw [if_neg h2] at hv; cases hv
      · rw [if_neg h1] at hv; cases hv
    have hcall := c_X5_isBright (J := J) (a := a) (n := i) (lt := lt) hS0 (hnQ.symm ▸ hq) (by omega) (by omega)
    rw [hib] at hcall
    refine AMet.of (by decide) (Nat.le_of_ble_eq_true rfl) (cats1 rfl) fun cx X E => ?_
    show AW _ _ _ (_ :: _ :: _ :: _ :: _ :: _ :: _ :: _ :: _ :: []) _ _ _ _ _
    refine AW.iload_n X dX5_brightOn_0 rfl rfl ?_
    refine AW.iload X dX5_brightOn_1 rfl ?_
    refine AW.iadd X dX5_brightOn_3 ?_
    rw [nI_add]
    refine AW.iload X dX5_brightOn_4 rfl ?_
    refine AW.icmp_le X (tgt := 32) dX5_brightOn_6 rfl ?_ ?_
    · intro t6
      exact absurd t6 (nI_ge (by omega) (by omega))
    · intro f6
      refine AW.iload X dX5_brightOn_9 rfl ?_
      refine AW.if_ne X (tgt := 30) dX5_brightOn_11 rfl ?_ ?_
      · intro t11
        skip
        have hz : brM q lt a i 0 N1 left fig = none := by unfold brM kpF; rw [if_neg (c := left = 0) (fun z => t11 (by rw [z]; rfl))]; exact ite_self _
        refine AW.iconst X (v := 0) dX5_brightOn_30 rfl ?_
        refine AW.ireturn X E ?_ dX5_brightOn_31
        exact ⟨rfl, rfl, rfl, by rw [hz]; rfl, FM.rf, rfl, fun _ _ => rfl, hv0⟩
      · intro f11
        have h0 : left = 0 := (nI_eq (b := 0) (by omega) (by omega)).mp f11
        first | refine AW.aload_n X dX5_brightOn_14 rfl rfl ?_ | refine AW.aloadN_n X dX5_brightOn_14 rfl rfl ?_
        refine AW.iload_n X dX5_brightOn_15 rfl rfl ?_
        refine AW.iload_n X dX5_brightOn_16 rfl rfl ?_
        refine AW.iload_n X dX5_brightOn_17 rfl rfl ?_
        refine AW.iload X dX5_brightOn_18 rfl ?_
        refine AW.callV_i X (hcall) (ci := 18) (q := (RX5, TX5, 74)) (by first | assumption | exact hT _ _ rfl) rfl s_X5_434_18 (by omega) (Nat.le_of_ble_eq_true rfl) rfl rfl (Nat.le_of_ble_eq_true rfl) dX5_brightOn_20 ?_
        intro r20 I20 h20
        obtain ⟨rfl, hf⟩ := h20
        refine AW.if_eq X (tgt := 30) dX5_brightOn_23 rfl ?_ ?_
        · intro t23
          have hz : oB (brM q lt a i 0 N1 left fig) = 0 := by unfold brM; rw [if_neg (bI_z.mp t23)]; rfl
          refine AW.iconst X (v := 0) dX5_brightOn_30 rfl ?_
          refine AW.ireturn X E ?_ dX5_brightOn_31 (hnar := by first | rfl | (unfold bI; split <;> rfl))
          exact ⟨rfl, rfl, rfl, by rw [hz], hf.fm, congrFun hf.s 3, fun x _ => by rw [hf 350 (by omega) (by omega) (by omega) (by omega) (by omega) (by omega)], hv0⟩
        · intro f23
          have hz : oB (brM q lt a i 0 N1 left fig) = 1 := by unfold brM kpF; rw [if_pos (Decidable.of_not_not fun z => f23 (bI_z.mpr z)), if_pos h0]; rfl
          refine AW.iconst X (v := 1) dX5_brightOn_26 rfl ?_
          refine AW.goto X (tgt := 31) dX5_brightOn_27 rfl ?_
          refine AW.ireturn X E ?_ dX5_brightOn_31 (hnar := by first | rfl | (unfold bI; split <;> rfl))
          exact ⟨rfl, rfl, rfl, by rw [hz], hf.fm, congrFun hf.s 3, fun x _ => by rw [hf 350 (by omega) (by omega) (by omega) (by omega) (by omega) (by omega)], hv0⟩
  | succ j ihj =>
    intro i left fig N1 I hS hv hm hij hij6 hl7
    have hS0 := hS
    obtain ⟨hT, hR, hV, hN, hM⟩ := hS
    obtain ⟨⟨n1, n2, n3, n4, hnq, hne, hns, hnh⟩, -⟩ := id hN
    have hnQ : nQ N1 = nQ N := nat_eq (hv 304 (by omega) (by omega))
    refine AMet.of (by decide) (Nat.le_of_ble_eq_true rfl) (cats1 rfl) fun cx X E => ?_
    show AW _ _ _ (_ :: _ :: _ :: _ :: _ :: _ :: _ :: _ :: _ :: []) _ _ _ _ _
    have no : ∀ I', FM (nM N1) I I' → I' 200 3 = I 200 3 → (∀ x, x < i → I' 350 x = I 350 x) → brM q lt a i (j + 1) N1 left fig = none → AW cx 0 67 [.ref 200, .int (nI q), .int lt, .int (nI a), .int (nI b), .int (nI i), .int (nI left), .retAddr 0, .retAddr 0] [] T I' R J := by
      intro I' hf h3 h350 hz
      refine AW.iconst X (v := 0) dX5_brightOn_67 rfl ?_
      refine AW.ireturn X E ?_ dX5_brightOn_68 (hnar := by first | rfl | (unfold bI; split <;> rfl))
      exact ⟨rfl, rfl, rfl, by rw [hz]; rfl, hf, h3, h350, fun v hv => by rw [hz] at hv; cases hv⟩
    have go : ∀ I', FM (nM N1) I I' → I' 200 3 = I 200 3 → (∀ x, x < i → I' 350 x = I 350 x) → brtP N1 q lt a i → AW cx 0 53 [.ref 200, .int (nI q), .int lt, .int (nI a), .int (nI b), .int (nI i), .int (nI left), .retAddr 0, .retAddr 0] [] T I' R J := by
      intro I1 hf1 h31 h351 hbr
      have hbm : brM q lt a i (j + 1) N1 left fig = kpF q lt (j + 1) N1 (a + i) left fig := if_pos hbr
      have hcnt : nI b - nI a - nI i + 1 = nI (j + 1) := by
        rw [nI_sub hab, nI_sub (by omega), nI_1]; congr 1; omega
      by_cases hlj : left ≤ j + 1
      · generalize hF : (fun c => if 0 < c ∧ ¬ N1 311 (c - 1) = nI q then none else if lt ≤ Lig (livN N1 c (a + i)) q (a + i) then kpF q lt j (livN N1 c (a + i)) (a + i + 1) (left - (if c = 0 then 0 else 1)) (7 * fig + nI c) else none) = F
        have hkp : kpF q lt (j + 1) N1 (a + i) left fig = fs1 F 0 ((if left = 0 then 0 else nE N1) + 1) := by rw [← hF]; rfl
        have hS1 : MS T (w2 I1 350 i 0) R N1 := hS0.fm (hf1.tr FM.w350)
        have bsucc : ∀ M, brtP M q lt a (i + 1) ↔ brtP M q lt a i ∧ lt ≤ Lig M q (a + i) := fun M => by
          constructor
          · intro h; exact ⟨fun k hk => h k (by omega), h i (by omega)⟩
          · intro ⟨h1, h2⟩ k hk
            rcases Nat.lt_or_eq_of_le (Nat.le_of_lt_succ hk) with hl | rfl
            · exact h1 k hl
            · exact h2
        have hc0 : F 0 = brM q lt a (i + 1) j N1 left (7 * fig + nI 0) := by
          rw [← hF]
          show (if _ then _ else _) = _
          rw [if_neg (fun z => absurd z.1 (by omega)), show livN N1 0 (a + i) = N1 from rfl]
          unfold brM
          by_cases h1 : lt ≤ Lig N1 q (a + i)
          · rw [if_pos h1, if_pos ((bsucc N1).mpr ⟨hbr, h1⟩)]; rfl
          · rw [if_neg h1, if_neg (fun z => h1 ((bsucc N1).mp z).2)]
        have hce : ∀ e, e < nE N1 → ¬ left = 0 → N1 311 e = nI q → F (e + 1) = brM q lt a (i + 1) j (addN N1 (nI e) (nI (a + i)) 0) (left - 1) (7 * fig + nI (e + 1)) := fun e he hl0 heq => by
          rw [← hF]
          show (if _ then _ else _) = _
          rw [if_neg (fun z => z.2 heq), show livN N1 (e + 1) (a + i) = addN N1 (nI e) (nI (a + i)) 0 from if_neg (by omega)]
          have hb2 : brtP (addN N1 (nI e) (nI (a + i)) 0) q lt a i := fun k hk => by rw [Lig_add (by omega) (by omega) (by omega)]; exact hbr k hk
          unfold brM
          by_cases h1 : lt ≤ Lig (addN N1 (nI e) (nI (a + i)) 0) q (a + i)
          · rw [if_pos h1, if_pos ((bsucc _).mpr ⟨hb2, h1⟩), if_neg (by omega)]; rfl
          · rw [if_neg h1, if_neg (fun z => h1 ((bsucc _).mp z).2)]
        have yes : ∀ I', FM (nM N1) I I' → I' 200 3 = I 200 3 → (∀ x, x < i → I' 350 x = I 350 x) → (∃ v, brM q lt a i (j + 1) N1 left fig = some v ∧ v = fgF (I' 350) fig i (j + 1)) → ∀ l7 l8 pc, (pc = 95 ∨ pc = 186) → AW cx 0 pc [.ref 200, .int (nI q), .int lt, .int (nI a), .int (nI b), .int (nI i), .int (nI left), l7, l8] [] T I' R J := by
          intro I' hf h3 h350 ⟨v, hv1, hv2⟩ l7 l8 pc hpc
          rcases hpc with rfl | rfl
          · skip
            refine AW.iconst X (v := 1) dX5_brightOn_95 rfl ?_
            refine AW.ireturn X E ?_ dX5_brightOn_96 (hnar := by first | rfl | (unfold bI; split <;> rfl))
            exact ⟨rfl, rfl, rfl, by rw [hv1]; rfl, hf, h3, h350, fun v' hv' => by rw [hv1] at hv'; cases hv'; exact hv2⟩
          · skip
            refine AW.iconst X (v := 1) dX5_brightOn_186 rfl ?_
            refine AW.ireturn X E ?_ dX5_brightOn_187 (hnar := by first | rfl | (unfold bI; split <;> rfl))
            exact ⟨rfl, rfl, rfl, by rw [hv1]; rfl, hf, h3, h350, fun v' hv' => by rw [hv1] at hv'; cases hv'; exact hv2⟩
        have lp : ∀ n e (I' : KI) l8, e + n = nE N1 → FM (nM N1) I I' → I' 200 3 = I 200 3 → (∀ x, x < i → I' 350 x = I 350 x) → (¬ left = 0 → brM q lt a i (j + 1) N1 left fig = fs1 F (e + 1) n) → (left = 0 → brM q lt a i (j + 1) N1 left fig = none) → AW cx 0 100 [.ref 200, .int (nI q), .int lt, .int (nI a), .int (nI b), .int (nI i), .int (nI left), .int (nI e), l8] [] T I' R J := by
          intro n
          induction n with
          | zero =>
            intro e I' l8 hen hf h3 h350 hs1 hs0
            obtain rfl : e = nE N1 := by omega
            have w304 : I' 304 = N1 304 := (hS0.fm hf).2.2.1.1 304 (by omega) (by omega)
            have hz : brM q lt a i (j + 1) N1 left fig = none := by
              by_cases h0 : left = 0
              · exact hs0 h0
              · exact hs1 h0
            refine AW.iload X dX5_brightOn_100 rfl ?_
            first | refine AW.aload_n X dX5_brightOn_102 rfl rfl ?_ | refine AW.aloadN_n X dX5_brightOn_102 rfl rfl ?_
            refine AW.getR X f_X5_45_18 (by first | assumption | exact hT _ _ rfl) (by first | assumption | exact hR _ _ _ rfl) dX5_brightOn_103 ?_
            refine AW.iconst X (v := 1) dX5_brightOn_106 rfl ?_
            refine AW.iald X (j := 1) (by first | assumption | exact hT _ _ rfl) (by repeat (first | with_reducible exact rfl | assumption | exact ix_l _ | apply ix_add | apply ix_mul)) (by omega) dX5_brightOn_107 ?_
            rw [w304, n2]
            refine AW.icmp_ge X (tgt := 194) dX5_brightOn_108 rfl ?_ ?_
            · intro t108
              refine AW.iconst X (v := 0) dX5_brightOn_194 rfl ?_
              refine AW.ireturn X E ?_ dX5_brightOn_195 (hnar := by first | rfl | (unfold bI; split <;> rfl))
              exact ⟨rfl, rfl, rfl, by rw [hz]; rfl, hf, h3, h350, fun v hv => by rw [hz] at hv; cases hv⟩
            · intro f108
              exact absurd (Int32.le_refl _) f108
          | succ n ih =>
            intro e I' l8 hen hf h3 h350 hs1 hs0
            have hS' := hS0.fm hf
            have w304 : I' 304 = N1 304 := hS'.2.2.1.1 304 (by omega) (by omega)
            have w311 : I' 311 = N1 311 := hS'.2.2.1.1 311 (by omega) (by omega)
            by_cases h0 : left = 0
            · have hz := hs0 h0
              refine AW.iload X dX5_brightOn_100 rfl ?_
              first | refine AW.aload_n X dX5_brightOn_102 rfl rfl ?_ | refine AW.aloadN_n X dX5_brightOn_102 rfl rfl ?_
              refine AW.getR X f_X5_45_18 (by first | assumption | exact hT _ _ rfl) (by first | assumption | exact hR _ _ _ rfl) dX5_brightOn_103 ?_
              refine AW.iconst X (v := 1) dX5_brightOn_106 rfl ?_
              refine AW.iald X (j := 1) (by first | assumption | exact hT _ _ rfl) (by repeat (first | with_reducible exact rfl | assumption | exact ix_l _ | apply ix_add | apply ix_mul)) (by omega) dX5_brightOn_107 ?_
              rw [w304, n2]
              refine AW.icmp_ge X (tgt := 194) dX5_brightOn_108 rfl ?_ ?_
              · intro t108
                exact absurd t108 (nI_ge (by omega) (by omega))
              · intro f108
                refine AW.iload X dX5_brightOn_111 rfl ?_
                refine AW.if_le X (tgt := 194) dX5_brightOn_113 rfl ?_ ?_
                · intro t113
                  refine AW.iconst X (v := 0) dX5_brightOn_194 rfl ?_
                  refine AW.ireturn X E ?_ dX5_brightOn_195 (hnar := by first | rfl | (unfold bI; split <;> rfl))
                  exact ⟨rfl, rfl, rfl, by rw [hz]; rfl, hf, h3, h350, fun v hv => by rw [hz] at hv; cases hv⟩
                · intro f113
                  exact absurd (by rw [h0]; exact Int32.le_refl _) f113
            · have hs := hs1 h0
              have hfs : fs1 F (e + 1) (n + 1) = match F (e + 1) with | some v => some v | none => fs1 F (e + 1 + 1) n := rfl
              by_cases heq : N1 311 e = nI q
              · have hSw : MS T (w2 I' 350 i (nI e + 1)) R N1 := hS'.fm FM.w350
                have hSa : MS T (addI N1 (w2 I' 350 i (nI e + 1)) (nI e) (nI (a + i)) 0) R (addN N1 (nI e) (nI (a + i)) 0) := hSw.add (by omega) (by omega) (by omega) (Or.inl rfl)
                have hmc : nM (addN N1 (nI e) (nI (a + i)) 0) = nM N1 + 1 := addN_M (by omega)
                have hcall := ihj (i := i + 1) (left := left - 1) (fig := 7 * fig + nI (e + 1)) hSa (fun a a1 a2 => by rw [addN_P a a1 a2]; exact hv a a1 a2) (by omega) (by omega) (by omega) (by omega)
                rw [← hce e (by omega) h0 heq] at hcall
                have w44 : w2 I' 350 i (nI e + 1) 200 44 = nI (nM N1) := hSw.2.2.1.2.2.1.trans hM.1
                refine AW.iload X dX5_brightOn_100 rfl ?_
                first | refine AW.aload_n X dX5_brightOn_102 rfl rfl ?_ | refine AW.aloadN_n X dX5_brightOn_102 rfl rfl ?_
                refine AW.getR X f_X5_45_18 (by first | assumption | exact hT _ _ rfl) (by first | assumption | exact hR _ _ _ rfl) dX5_brightOn_103 ?_
                refine AW.iconst X (v := 1) dX5_brightOn_106 rfl ?_
                refine AW.iald X (j := 1) (by first | assumption | exact hT _ _ rfl) (by repeat (first | with_reducible exact rfl | assumption | exact ix_l _ | apply ix_add | apply ix_mul)) (by omega) dX5_brightOn_107 ?_
                rw [w304, n2]
                refine AW.icmp_ge X (tgt := 194) dX5_brightOn_108 rfl ?_ ?_
                · intro t108
                  exact absurd t108 (nI_ge (by omega) (by omega))
                · intro f108
                  refine AW.iload X dX5_brightOn_111 rfl ?_
                  refine AW.if_le X (tgt := 194) dX5_brightOn_113 rfl ?_ ?_
                  · intro t113
                    exact absurd t113 (nI_nle (by omega) (by omega))
                  · intro f113
                    first | refine AW.aload_n X dX5_brightOn_116 rfl rfl ?_ | refine AW.aloadN_n X dX5_brightOn_116 rfl rfl ?_
                    refine AW.getR X f_X5_67_18 (by first | assumption | exact hT _ _ rfl) (by first | assumption | exact hR _ _ _ rfl) dX5_brightOn_117 ?_
                    refine AW.iload X dX5_brightOn_120 rfl ?_
                    refine AW.iald X (j := e) (by first | assumption | exact hT _ _ rfl) (by repeat (first | with_reducible exact rfl | assumption | exact ix_l _ | apply ix_add | apply ix_mul)) (by omega) dX5_brightOn_122 ?_
                    rw [w311]
                    refine AW.iload_n X dX5_brightOn_123 rfl rfl ?_
                    refine AW.icmp_eq X (tgt := 130) dX5_brightOn_124 rfl ?_ ?_
                    · intro t124
                      first | refine AW.aload_n X dX5_brightOn_130 rfl rfl ?_ | refine AW.aloadN_n X dX5_brightOn_130 rfl rfl ?_
                      refine AW.getR X f_X5_143_18 (by first | assumption | exact hT _ _ rfl) (by first | assumption | exact hR _ _ _ rfl) dX5_brightOn_131 ?_
                      refine AW.iload X dX5_brightOn_134 rfl ?_
                      refine AW.iload X dX5_brightOn_136 rfl ?_
                      refine AW.iconst X (v := 1) dX5_brightOn_138 rfl ?_
                      refine AW.iadd X dX5_brightOn_139 ?_
                      refine AW.iast X (j := i) (by omega) (by first | assumption | exact hT _ _ rfl) (by repeat (first | with_reducible exact rfl | assumption | exact ix_l _ | apply ix_add | apply ix_mul)) (by omega) dX5_brightOn_140 ?_
                      first | refine AW.aload_n X dX5_brightOn_141 rfl rfl ?_ | refine AW.aloadN_n X dX5_brightOn_141 rfl rfl ?_
                      refine AW.iload X dX5_brightOn_142 rfl ?_
                      refine AW.iload_n X dX5_brightOn_144 rfl rfl ?_
                      refine AW.iload X dX5_brightOn_145 rfl ?_
                      refine AW.iadd X dX5_brightOn_147 ?_
                      rw [nI_add]
                      refine AW.iconst X (v := 0) dX5_brightOn_148 rfl ?_
                      refine AW.callV_i X (c_X5_give hSw) (ci := 18) (q := (RX5, TX5, 74)) (by first | assumption | exact hT _ _ rfl) rfl s_X5_388_18 (by omega) (Nat.le_of_ble_eq_true rfl) rfl rfl (Nat.le_of_ble_eq_true rfl) dX5_brightOn_149 ?_
                      intro r149 I149 h149
                      obtain ⟨rfl, rfl⟩ := h149
                      first | refine AW.aload_n X dX5_brightOn_152 rfl rfl ?_ | refine AW.aloadN_n X dX5_brightOn_152 rfl rfl ?_
                      refine AW.iload_n X dX5_brightOn_153 rfl rfl ?_
                      refine AW.iload_n X dX5_brightOn_154 rfl rfl ?_
                      refine AW.iload_n X dX5_brightOn_155 rfl rfl ?_
                      refine AW.iload X dX5_brightOn_156 rfl ?_
                      refine AW.iload X dX5_brightOn_158 rfl ?_
                      refine AW.iconst X (v := 1) dX5_brightOn_160 rfl ?_
                      refine AW.iadd X dX5_brightOn_161 ?_
                      rw [nI_1]
                      refine AW.iload X dX5_brightOn_162 rfl ?_
                      refine AW.iconst X (v := 1) dX5_brightOn_164 rfl ?_
                      refine AW.isub X dX5_brightOn_165 ?_
                      rw [show nI left - 1 = nI (left - 1) from nI_sub (c := 1) (by omega)]
                      refine AW.callV_i X (hcall) (ci := 18) (q := (RX5, TX5, 74)) (by first | assumption | exact hT _ _ rfl) rfl s_X5_438_18 (by omega) (Nat.le_of_ble_eq_true rfl) rfl rfl (Nat.le_of_ble_eq_true rfl) dX5_brightOn_166 ?_
                      intro r166 I166 h166
                      obtain ⟨rfl, q1, q2, q3, q4⟩ := h166
                      rw [hmc] at q1
                      have w44b : I166 200 44 = nI (nM N1 + 1) := (q1.2.2 44 (by omega) (by omega) (by omega) (by omega)).trans (w2_s _ _ _ _)
                      have hff : FM (nM N1) I (w2 I166 200 44 (nI (nM N1))) := hf.tr (FM.w350.tr (q1.less w44))
                      have h33 : w2 I166 200 44 (nI (nM N1)) 200 3 = I 200 3 := (w2_n2 (by omega)).trans (q2.trans ((addI_s (by omega)).trans ((w2_n1 (by omega)).trans h3)))
                      have h55 : ∀ x, x < i → w2 I166 200 44 (nI (nM N1)) 350 x = I 350 x := fun x hx => by rw [w2_r (by omega), q3 x (by omega), addI_r (by omega) (by omega) (by omega) (by omega), w2_n2 (by omega)]; exact h350 x hx
                      refine AW.istore8 X dX5_brightOn_169 ?_
                      first | refine AW.aload_n X dX5_brightOn_171 rfl rfl ?_ | refine AW.aloadN_n X dX5_brightOn_171 rfl rfl ?_
                      refine AW.dup X dX5_brightOn_172 rfl ?_
                      refine AW.getI X f_X5_337_18 (by first | assumption | exact hT _ _ rfl) dX5_brightOn_173 ?_
                      rw [w44b]
                      refine AW.iconst X (v := 1) dX5_brightOn_176 rfl ?_
                      refine AW.isub X dX5_brightOn_177 ?_
                      rw [show nI (nM N1 + 1) - 1 = nI (nM N1) from nI_pred _]
                      refine AW.putI X g_X5_brightOn_337_18 (by omega) (by first | assumption | exact hT _ _ rfl) dX5_brightOn_178 ?_ 
                      refine AW.iload X dX5_brightOn_181 rfl ?_
                      refine AW.if_eq X (tgt := 188) dX5_brightOn_183 rfl ?_ ?_
                      · intro t183
                        rw [oB_z.mp t183] at hfs
                        refine AW.iinc7 X (v := _ + 1) dX5_brightOn_188 rfl ?_
                        refine AW.goto X (tgt := 100) dX5_brightOn_191 rfl ?_
                        rw [nI_1]; exact ih (e + 1) _ _ (by omega) hff h33 h55 (fun _ => hs.trans hfs) hs0
                      · intro f183
                        rcases hFe : F (e + 1) with _ | v
                        · exact absurd (oB_z.mpr hFe) f183
                        · refine yes _ hff h33 h55 ⟨v, by rw [hs, hfs, hFe], ?_⟩ _ _ _ (Or.inr rfl)
                          rw [q4 v hFe, w2_r (by omega)]
                          show _ = fgF (I166 350) (7 * fig + I166 350 i) (i + 1) j
                          rw [q3 i (by omega), addI_r (by omega) (by omega) (by omega) (by omega), w2_s, nI_1]
                    · intro f124
                      exact absurd heq f124
              · have hFn : F (e + 1) = none := by rw [← hF]; exact if_pos ⟨by omega, heq⟩
                rw [hFn] at hfs
                refine AW.iload X dX5_brightOn_100 rfl ?_
                first | refine AW.aload_n X dX5_brightOn_102 rfl rfl ?_ | refine AW.aloadN_n X dX5_brightOn_102 rfl rfl ?_
                refine AW.getR X f_X5_45_18 (by first | assumption | exact hT _ _ rfl) (by first | assumption | exact hR _ _ _ rfl) dX5_brightOn_103 ?_
                refine AW.iconst X (v := 1) dX5_brightOn_106 rfl ?_
                refine AW.iald X (j := 1) (by first | assumption | exact hT _ _ rfl) (by repeat (first | with_reducible exact rfl | assumption | exact ix_l _ | apply ix_add | apply ix_mul)) (by omega) dX5_brightOn_107 ?_
                rw [w304, n2]
                refine AW.icmp_ge X (tgt := 194) dX5_brightOn_108 rfl ?_ ?_
                · intro t108
                  exact absurd t108 (nI_ge (by omega) (by omega))
                · intro f108
                  refine AW.iload X dX5_brightOn_111 rfl ?_
                  refine AW.if_le X (tgt := 194) dX5_brightOn_113 rfl ?_ ?_
                  · intro t113
                    exact absurd t113 (nI_nle (by omega) (by omega))
                  · intro f113
                    first | refine AW.aload_n X dX5_brightOn_116 rfl rfl ?_ | refine AW.aloadN_n X dX5_brightOn_116 rfl rfl ?_
                    refine AW.getR X f_X5_67_18 (by first | assumption | exact hT _ _ rfl) (by first | assumption | exact hR _ _ _ rfl) dX5_brightOn_117 ?_
                    refine AW.iload X dX5_brightOn_120 rfl ?_
                    refine AW.iald X (j := e) (by first | assumption | exact hT _ _ rfl) (by repeat (first | with_reducible exact rfl | assumption | exact ix_l _ | apply ix_add | apply ix_mul)) (by omega) dX5_brightOn_122 ?_
                    rw [w311]
                    refine AW.iload_n X dX5_brightOn_123 rfl rfl ?_
                    refine AW.icmp_eq X (tgt := 130) dX5_brightOn_124 rfl ?_ ?_
                    · intro t124
                      exact absurd t124 heq
                    · intro f124
                      refine AW.goto X (tgt := 188) dX5_brightOn_127 rfl ?_
                      refine AW.iinc7 X (v := _ + 1) dX5_brightOn_188 rfl ?_
                      refine AW.goto X (tgt := 100) dX5_brightOn_191 rfl ?_
                      rw [nI_1]; exact ih (e + 1) _ _ (by omega) hf h3 h350 (fun _ => hs.trans hfs) hs0
        have hcall := ihj (i := i + 1) (left := left) (fig := 7 * fig + nI 0) hS1 hv (by omega) (by omega) (by omega) hl7
        rw [← hc0] at hcall
        have hfs : fs1 F 0 ((if left = 0 then 0 else nE N1) + 1) = match F 0 with | some v => some v | none => fs1 F 1 (if left = 0 then 0 else nE N1) := rfl
        refine AW.iload X dX5_brightOn_53 rfl ?_
        refine AW.iload X dX5_brightOn_55 rfl ?_
        refine AW.iload_n X dX5_brightOn_57 rfl rfl ?_
        refine AW.isub X dX5_brightOn_58 ?_
        refine AW.iload X dX5_brightOn_59 rfl ?_
        refine AW.isub X dX5_brightOn_61 ?_
        refine AW.iconst X (v := 1) dX5_brightOn_62 rfl ?_
        rw [nI_sub hab, nI_sub (show i ≤ b - a by omega)]
        refine AW.iadd X dX5_brightOn_63 ?_
        rw [nI_1, show b - a - i + 1 = j + 1 by omega]
        refine AW.icmp_le X (tgt := 69) dX5_brightOn_64 rfl ?_ ?_
        · intro t64
          first | refine AW.aload_n X dX5_brightOn_69 rfl rfl ?_ | refine AW.aloadN_n X dX5_brightOn_69 rfl rfl ?_
          refine AW.getR X f_X5_143_18 (by first | assumption | exact hT _ _ rfl) (by first | assumption | exact hR _ _ _ rfl) dX5_brightOn_70 ?_
          refine AW.iload X dX5_brightOn_73 rfl ?_
          refine AW.iconst X (v := 0) dX5_brightOn_75 rfl ?_
          refine AW.iast X (j := i) (by omega) (by first | assumption | exact hT _ _ rfl) (by repeat (first | with_reducible exact rfl | assumption | exact ix_l _ | apply ix_add | apply ix_mul)) (by omega) dX5_brightOn_76 ?_
          first | refine AW.aload_n X dX5_brightOn_77 rfl rfl ?_ | refine AW.aloadN_n X dX5_brightOn_77 rfl rfl ?_
          refine AW.iload_n X dX5_brightOn_78 rfl rfl ?_
          refine AW.iload_n X dX5_brightOn_79 rfl rfl ?_
          refine AW.iload_n X dX5_brightOn_80 rfl rfl ?_
          refine AW.iload X dX5_brightOn_81 rfl ?_
          refine AW.iload X dX5_brightOn_83 rfl ?_
          refine AW.iconst X (v := 1) dX5_brightOn_85 rfl ?_
          refine AW.iadd X dX5_brightOn_86 ?_
          rw [nI_1]
          refine AW.iload X dX5_brightOn_87 rfl ?_
          refine AW.callV_i X (hcall) (ci := 18) (q := (RX5, TX5, 74)) (by first | assumption | exact hT _ _ rfl) rfl s_X5_438_18 (by omega) (Nat.le_of_ble_eq_true rfl) rfl rfl (Nat.le_of_ble_eq_true rfl) dX5_brightOn_89 ?_
          intro r89 I89 h89
          obtain ⟨rfl, q1, q2, q3, q4⟩ := h89
          have hff : FM (nM N1) I I89 := hf1.tr (FM.w350.tr q1)
          have h33 : I89 200 3 = I 200 3 := q2.trans ((w2_n1 (by omega)).trans h31)
          have h55 : ∀ x, x < i → I89 350 x = I 350 x := fun x hx => by rw [q3 x (by omega), w2_n2 (by omega)]; exact h351 x hx
          refine AW.if_eq X (tgt := 97) dX5_brightOn_92 rfl ?_ ?_
          · intro t92
            rw [oB_z.mp t92] at hfs
            refine AW.iconst X (v := 0) dX5_brightOn_97 rfl ?_
            refine AW.istore7 X dX5_brightOn_98 ?_
            exact lp (nE N1) 0 _ _ (by omega) hff h33 h55 (fun h0 => by rw [hbm, hkp, hfs, if_neg h0]) (fun h0 => by rw [hbm, hkp, hfs, if_pos h0]; rfl)
          · intro f92
            rcases hFe : F 0 with _ | v
            · exact absurd (oB_z.mpr hFe) f92
            · refine yes _ hff h33 h55 ⟨v, by rw [hbm, hkp, hfs, hFe], ?_⟩ _ _ _ (Or.inl rfl)
              rw [q4 v hFe]
              show _ = fgF (I89 350) (7 * fig + I89 350 i) (i + 1) j
              rw [q3 i (by omega), w2_s]; rfl
        · intro f64
          exact absurd (nI_le hlj (by omega)) f64
      · have hz : brM q lt a i (j + 1) N1 left fig = none := by rw [hbm]; exact kpF_none (by omega)
        refine AW.iload X dX5_brightOn_53 rfl ?_
        refine AW.iload X dX5_brightOn_55 rfl ?_
        refine AW.iload_n X dX5_brightOn_57 rfl rfl ?_
        refine AW.isub X dX5_brightOn_58 ?_
        refine AW.iload X dX5_brightOn_59 rfl ?_
        refine AW.isub X dX5_brightOn_61 ?_
        refine AW.iconst X (v := 1) dX5_brightOn_62 rfl ?_
        rw [nI_sub hab, nI_sub (show i ≤ b - a by omega)]
        refine AW.iadd X dX5_brightOn_63 ?_
        rw [nI_1, show b - a - i + 1 = j + 1 by omega]
        refine AW.icmp_le X (tgt := 69) dX5_brightOn_64 rfl ?_ ?_
        · intro t64
          exact absurd t64 (nI_ge (by omega) (by omega))
        · intro f64
          exact no I1 hf1 h31 h351 hz
    by_cases hi0 : i = 0
    · skip
      refine AW.iload_n X dX5_brightOn_0 rfl rfl ?_
      refine AW.iload X dX5_brightOn_1 rfl ?_
      refine AW.iadd X dX5_brightOn_3 ?_
      rw [nI_add]
      refine AW.iload X dX5_brightOn_4 rfl ?_
      refine AW.icmp_le X (tgt := 32) dX5_brightOn_6 rfl ?_ ?_
      · intro t6
        refine AW.iload X dX5_brightOn_32 rfl ?_
        refine AW.if_le X (tgt := 53) dX5_brightOn_34 rfl ?_ ?_
        · intro t34
          exact go I FM.rf rfl (fun _ _ => rfl) (fun k hk => absurd hk (by omega))
        · intro f34
          exact absurd (by rw [hi0]; exact Int32.le_refl _) f34
      · intro f6
        exact absurd (nI_le (by omega) (by omega)) f6
    · skip
      refine AW.iload_n X dX5_brightOn_0 rfl rfl ?_
      refine AW.iload X dX5_brightOn_1 rfl ?_
      refine AW.iadd X dX5_brightOn_3 ?_
      rw [nI_add]
      refine AW.iload X dX5_brightOn_4 rfl ?_
      refine AW.icmp_le X (tgt := 32) dX5_brightOn_6 rfl ?_ ?_
      · intro t6
        refine AW.iload X dX5_brightOn_32 rfl ?_
        refine AW.if_le X (tgt := 53) dX5_brightOn_34 rfl ?_ ?_
        · intro t34
          exact absurd t34 (nI_nle (by omega) (by omega))
        · intro f34
          first | refine AW.aload_n X dX5_brightOn_37 rfl rfl ?_ | refine AW.aloadN_n X dX5_brightOn_37 rfl rfl ?_
          refine AW.iload_n X dX5_brightOn_38 rfl rfl ?_
          refine AW.iload_n X dX5_brightOn_39 rfl rfl ?_
          refine AW.iload_n X dX5_brightOn_40 rfl rfl ?_
          refine AW.iload_n X dX5_brightOn_41 rfl rfl ?_
          refine AW.iload X dX5_brightOn_42 rfl ?_
          refine AW.iadd X dX5_brightOn_44 ?_
          rw [nI_add]
          refine AW.iconst X (v := 1) dX5_brightOn_45 rfl ?_
          refine AW.isub X dX5_brightOn_46 ?_
          rw [show nI (a + i) - 1 = nI (a + i - 1) from nI_sub (c := 1) (by omega)]
          refine AW.callV_i X (c_X5_isBright (n := i) hS0 (hnQ.symm ▸ hq) (by omega) (by omega)) (ci := 18) (q := (RX5, TX5, 74)) (by first | assumption | exact hT _ _ rfl) rfl s_X5_434_18 (by omega) (Nat.le_of_ble_eq_true rfl) rfl rfl (Nat.le_of_ble_eq_true rfl) dX5_brightOn_47 ?_
          intro r47 I47 h47
          obtain ⟨rfl, hf⟩ := h47
          refine AW.if_eq X (tgt := 67) dX5_brightOn_50 rfl ?_ ?_
          · intro t50
            exact no I47 hf.fm (congrFun hf.s 3) (fun x _ => by rw [hf 350 (by omega) (by omega) (by omega) (by omega) (by omega) (by omega)]) (if_neg (bI_z.mp t50))
          · intro f50
            exact go I47 hf.fm (congrFun hf.s 3) (fun x _ => by rw [hf 350 (by omega) (by omega) (by omega) (by omega) (by omega) (by omega)]) (Decidable.of_not_not fun z => f50 (bI_z.mpr z))
      · intro f6
        exact absurd (nI_le (by omega) (by omega)) f6
end MB
