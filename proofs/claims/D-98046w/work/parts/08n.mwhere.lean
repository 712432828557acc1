/-! 08n: where eels may be, by the model (steps printed by src/walk.py) -/
set_option maxRecDepth 100000
set_option maxHeartbeats 4000000
theorem sumG_cp {N N' : KI} {G : Nat → Int32} {q h : Nat} : ∀ n, (∀ e, e < n → N' 311 e = N 311 e) → sumG N' G q h n = sumG N G q h n
  | 0, _ => rfl
  | n + 1, h1 => by unfold sumG; rw [h1 n (by omega), sumG_cp n (fun e he => h1 e (by omega))]
theorem lig_cp {N N' : KI} {G : Nat → Int32} {q h : Nat} (hv : ∀ a, a ≠ 311 → N' a = N a) (h1 : ∀ e, e < nE N → N' 311 e = N 311 e) : lig N' G q h = lig N G q h := by
  have hr : ∀ h, rw_ N' G q h = rw_ N G q h := fun h => by
    unfold rw_
    rw [show nE N' = nE N from nat_eq (hv 304 (by omega)), sumG_cp _ h1, hv 307 (by omega)]
  unfold lig
  rw [hv 305 (by omega), hr, hr]
/-- digits of the eels ahead of e, by the prefix p -/
def DgP (N : KI) (p e : Nat) (I : KI) : Prop := ∀ e', e' < e → I 311 e' = nI (p / nQ N ^ (e - 1 - e') % nQ N)
theorem DgP.step {N I I' : KI} {p e q : Nat} (h : DgP N p e I) (hq : q < nQ N) (h1 : ∀ e', e' < e → I' 311 e' = I 311 e') (h2 : I' 311 e = nI q) : DgP N (p * nQ N + q) (e + 1) I' := fun e' he => by
  rcases Nat.lt_or_eq_of_le (Nat.le_of_lt_succ he) with hl | rfl
  · rw [h1 e' hl, h e' hl, show e + 1 - 1 - e' = (e - 1 - e') + 1 by omega, Nat.pow_succ, Nat.mul_comm (nQ N ^ (e - 1 - e')), ← Nat.div_div_eq_div_mul, show (p * nQ N + q) / nQ N = p by rw [Nat.mul_comm, Nat.mul_add_div (by omega), Nat.div_eq_of_lt hq, Nat.add_zero]]
  · rw [h2, show e' + 1 - 1 - e' = 0 by omega, Nat.pow_zero, Nat.div_one, Nat.mul_comm, Nat.mul_add_mod, Nat.mod_eq_of_lt hq]
/-- nothing but places, cases and what may be -/
def Fw (N I I' : KI) : Prop := (∀ a, a ≠ 311 → a ≠ 361 → a ≠ 200 → I' a = I a) ∧ (∀ k, k ≠ 62 → I' 200 k = I 200 k) ∧ ∀ e, nE N ≤ e → I' 311 e = I 311 e
theorem Fw.rf {N I : KI} : Fw N I I := ⟨fun _ _ _ _ => rfl, fun _ _ => rfl, fun _ _ => rfl⟩
theorem Fw.tr {N I I1 I2 : KI} (h : Fw N I I1) (h2 : Fw N I1 I2) : Fw N I I2 := ⟨fun a a1 a2 a3 => (h2.1 a a1 a2 a3).trans (h.1 a a1 a2 a3), fun k hk => (h2.2.1 k hk).trans (h.2.1 k hk), fun e he => (h2.2.2 e he).trans (h.2.2 e he)⟩
/-- cases counted, eels' places told, of those ahead of c -/
def CsP (N Ib : KI) (n c : Nat) (I : KI) : Prop := I 200 62 = whN N Ib n c ∧ ∀ e, e < nE N → I 361 e = whS N Ib n e c
section MWH
variable {T : KT} {R : KR} {J : KJ} {N : KI} {Ib I0 : KI}
theorem c_X5_placeOn {n : Nat} (hS : MS T I0 R N) (hG : NiP N I0) (hn : I0 200 46 = nI n) (hn2 : n ≤ 12) (hrow : ∀ k, k < n → I0 357 k = Ib 111 k ∧ I0 358 k = Ib 112 k ∧ I0 359 k = Ib 113 k) (hB : BK n Ib N) : ∀ (j : Nat) {e p : Nat} {I : KI}, e + j = nE N → Fw N I0 I → DgP N p e I → CsP N Ib n (p * nQ N ^ j) I →
    MX5_placeOn (3 + j) 0 [.ref 200, .int (nI e)] T I R J (qI (fun r I' => r = none ∧ Fw N I I' ∧ (∀ e', e' < e → I' 311 e' = I 311 e') ∧ CsP N Ib n ((p + 1) * nQ N ^ j) I') T R J) noX := by
  have hS0 := hS
  obtain ⟨hT, hR, hV, hN, hM⟩ := hS
  obtain ⟨⟨n1, n2, n3, n4, hnq, hne, hns, hnh⟩, -⟩ := id hN
  have v304 := hV.1 304 (by omega) (by omega)
  intro j
  induction j with
  | zero =>
    intro e p I hej hf hd hc
    obtain rfl : e = nE N := by omega
    rw [Nat.pow_zero, Nat.mul_one] at hc ⊢
    have hdig : ∀ e', e' < nE N → I 311 e' = nI (dig N p e') := hd
    have hN2v : ∀ a, a ≠ 311 → row N 311 (I 311) a = N a := fun a ha => row_n ha
    have hN2e : nE (row N 311 (I 311)) = nE N := nat_eq (hN2v 304 (by omega))
    have hN2q : nQ (row N 311 (I 311)) = nQ N := nat_eq (hN2v 304 (by omega))
    have hN2 : NOK (row N 311 (I 311)) := by
      obtain ⟨o1, o2, o3, o4, o5, o6, o7⟩ := hN
      have hS2 : nS (row N 311 (I 311)) = nS N := nat_eq (hN2v 304 (by omega))
      have hH2 : nH (row N 311 (I 311)) = nH N := nat_eq (hN2v 304 (by omega))
      have nt : ∀ a k, a ≠ 311 → nat (row N 311 (I 311)) a k = nat N a k := fun a k ha => nat_eq (hN2v a ha)
      refine ⟨?_, ?_, ?_, ?_, ?_, ?_, ?_⟩
      · rw [hN2v 304 (by omega), hN2e, hN2q, hS2, hH2]; exact o1
      · intro q hq
        rw [hN2q] at hq
        rw [hN2v 305 (by omega), hN2v 306 (by omega), hN2v 307 (by omega), nt 305 q (by omega)]
        exact o2 q hq
      · intro e he
        rw [hN2e] at he
        obtain ⟨z1, z2, z3, z4, z5, z6, z7, z8, z9⟩ := o3 e he
        have hlt := Nat.mod_lt (p / nQ N ^ (nE N - 1 - e)) (show nQ N > 0 by omega)
        have hde : row N 311 (I 311) 311 e = nI (dig N p e) := (congrFun (row_s N 311 (I 311)) e).trans (hdig e he)
        have hnt : nat (row N 311 (I 311)) 311 e = dig N p e := by unfold nat; rw [hde]; exact nI_clamp (by unfold dig; omega)
        rw [hN2v 309 (by omega), hN2v 312 (by omega), hN2v 313 (by omega), hN2v 310 (by omega), nt 309 e (by omega), hnt, hN2q]
        exact ⟨z1, z2, hde, by unfold dig; omega, z5, z6, z7, z8, z9⟩
      · intro s hs
        rw [hS2] at hs
        rw [hN2v 314 (by omega), hN2v 315 (by omega), hN2v 316 (by omega), hN2v 317 (by omega), nt 314 s (by omega), nt 315 s (by omega), nt 316 s (by omega), hN2q]
        exact o4 s hs
      · intro h hh; rw [hN2v 318 (by omega)]; exact o5 h hh
      · intro c hc; rw [hN2v 319 (by omega), nt 319 c (by omega)]; exact o6 c hc
      · intro k hk
        rw [hH2] at hk
        rw [hN2v 320 (by omega), nt 320 k (by omega), hN2e]; exact o7 k hk
    have hM2 : MOKs (row N 311 (I 311)) := by
      unfold MOKs nat
      rw [hN2v 200 (by omega), hN2v 337 (by omega), hN2v 338 (by omega), hN2v 339 (by omega), hN2e]
      exact hM
    have mkS : ∀ I2, Fw N I I2 → I2 311 = I 311 → MS T I2 R (row N 311 (I 311)) := fun I2 hf2 h311 => by
      have hff := hf.tr hf2
      obtain ⟨v1, v2, v3, v4⟩ := hV
      have hmm : nM (row N 311 (I 311)) = nM N := nat_eq (hN2v 200 (by omega))
      refine ⟨hT, hR, ⟨fun a a1 a2 => ?_, fun m hm => ?_, ?_, ?_⟩, hN2, hM2⟩
      · by_cases ha : a = 311
        · subst ha; rw [h311]; exact (row_s _ _ _).symm
        · rw [hN2v a ha, hff.1 a ha (by omega) (by omega)]; exact v1 a a1 a2
      · rw [hmm] at hm
        rw [hN2v 337 (by omega), hN2v 338 (by omega), hN2v 339 (by omega), hff.1 337 (by omega) (by omega) (by omega), hff.1 338 (by omega) (by omega) (by omega), hff.1 339 (by omega) (by omega) (by omega)]
        exact v2 m hm
      · rw [hN2v 200 (by omega), hff.2.1 44 (by omega)]; exact v3
      · rw [hN2v 200 (by omega), hff.2.1 45 (by omega)]; exact v4
    have hligc : ∀ q h, lig (row N 311 (I 311)) (gRow N) q h = lig (pN N p) (gRow N) q h := fun q h => lig_cp (fun a ha => (hN2v a ha).trans (row_n ha).symm) (fun e he => by
      rw [show nE (pN N p) = nE N from nat_eq (row_n (by omega))] at he
      unfold pN
      rw [row_s, row_s]; exact hdig e he)
    have w46 : I 200 46 = nI n := (hf.2.1 46 (by omega)).trans hn
    have w341 : ∀ e h', e < nE N → h' < 24 → I 341 (24 * e + h') = gRow N (24 * e + h') := fun e h' he hh => by
      rw [hf.1 341 (by omega) (by omega) (by omega), gRow_at N e hh]; exact (hG.1 e h' he hh).2.1
    have w304 : I 304 = N 304 := (hf.1 304 (by omega) (by omega) (by omega)).trans v304
    refine AMet.of (by decide) (Nat.le_of_ble_eq_true rfl) (cats1 rfl) fun cx X E => ?_
    show AW _ _ _ (_ :: _ :: _ :: []) _ _ _ _ _
    have l2' : caseP N Ib n p → ∀ j i (I2 : KI), i + j = nE N → Fw N I I2 → I2 311 = I 311 → I2 200 62 = whN N Ib n (p + 1) → (∀ e, e < nE N → I2 361 e = if e < i then whS N Ib n e (p + 1) else whS N Ib n e p) → AW cx 0 64 [.ref 200, .int (nI (nE N)), .int (nI i)] [] T I2 R J := by
      intro hcp j
      induction j with
      | zero =>
        intro i I2 hij hf2 h311 h62 h361
        obtain rfl : i = nE N := by omega
        refine AW.iload_n X dX5_placeOn_64 rfl rfl ?_
        refine AW.iload_n X dX5_placeOn_65 rfl rfl ?_
        refine AW.icmp_ge X (tgt := 92) dX5_placeOn_66 rfl ?_ ?_
        · intro t66
          refine AW.vreturn X E ?_ dX5_placeOn_92
          exact ⟨rfl, rfl, rfl, rfl, hf2, fun e' _ => congrFun h311 e', h62, fun e he => by rw [h361 e he, if_pos he]⟩
        · intro f66
          exact absurd (Int32.le_refl _) f66
      | succ j ih =>
        intro i I2 hij hf2 h311 h62 h361
        have hsi := h361 i (by omega)
        rw [if_neg (by omega)] at hsi
        have hst : whS N Ib n i (p + 1) = whS N Ib n i p ||| 1 <<< (nI (dig N p i) &&& 31) := if_pos hcp
        refine AW.iload_n X dX5_placeOn_64 rfl rfl ?_
        refine AW.iload_n X dX5_placeOn_65 rfl rfl ?_
        refine AW.icmp_ge X (tgt := 92) dX5_placeOn_66 rfl ?_ ?_
        · intro t66
          exact absurd t66 (nI_ge (by omega) (by omega))
        · intro f66
          first | refine AW.aload_n X dX5_placeOn_69 rfl rfl ?_ | refine AW.aloadN_n X dX5_placeOn_69 rfl rfl ?_
          refine AW.getR X f_X5_170_18 (by first | assumption | exact hT _ _ rfl) (by first | assumption | exact hR _ _ _ rfl) dX5_placeOn_70 ?_
          refine AW.iload_n X dX5_placeOn_73 rfl rfl ?_
          refine AW.dup2 X dX5_placeOn_74 rfl rfl ?_
          refine AW.iald X (j := i) (by first | assumption | exact hT _ _ rfl) (by repeat (first | with_reducible exact rfl | assumption | exact ix_l _ | apply ix_add | apply ix_mul)) (by omega) dX5_placeOn_75 ?_
          rw [hsi]
          refine AW.iconst X (v := 1) dX5_placeOn_76 rfl ?_
          first | refine AW.aload_n X dX5_placeOn_77 rfl rfl ?_ | refine AW.aloadN_n X dX5_placeOn_77 rfl rfl ?_
          refine AW.getR X f_X5_67_18 (by first | assumption | exact hT _ _ rfl) (by first | assumption | exact hR _ _ _ rfl) dX5_placeOn_78 ?_
          refine AW.iload_n X dX5_placeOn_81 rfl rfl ?_
          refine AW.iald X (j := i) (by first | assumption | exact hT _ _ rfl) (by repeat (first | with_reducible exact rfl | assumption | exact ix_l _ | apply ix_add | apply ix_mul)) (by omega) dX5_placeOn_82 ?_
          rw [h311, hdig i (by omega)]
          refine AW.ishl X dX5_placeOn_83 ?_
          refine AW.ior X dX5_placeOn_84 ?_
          refine AW.iast X (j := i) (by omega) (by first | assumption | exact hT _ _ rfl) (by repeat (first | with_reducible exact rfl | assumption | exact ix_l _ | apply ix_add | apply ix_mul)) (by omega) dX5_placeOn_85 ?_
          refine AW.iinc2 X (v := _ + 1) dX5_placeOn_86 rfl ?_
          refine AW.goto X (tgt := 64) dX5_placeOn_89 rfl ?_
          rw [nI_1]
          refine ih (i + 1) _ (by omega) (hf2.tr ⟨fun a a1 a2 a3 => w2_r a2, fun k hk => w2_n1 (by omega), fun e _ => w2_n1 (by omega)⟩) ((w2_r (by omega)).trans h311) ((w2_n1 (by omega)).trans h62) (fun e he => ?_)
          by_cases hx : e = i
          · subst hx; rw [w2_s, if_pos (by omega), hst]
          · rw [w2_n2 hx, h361 e he]
            by_cases hl : e < i
            · rw [if_pos hl, if_pos (by omega)]
            · rw [if_neg hl, if_neg (by omega)]
    have l1' : ∀ j k, k + j = n → (∀ k', k' < k → lig (pN N p) (gRow N) (nat Ib 111 k') (nat Ib 112 k') = Ib 113 k') → AW cx 0 12 [.ref 200, .int (nI (nE N)), .int (nI k)] [] T I R J := by
      intro j
      induction j with
      | zero =>
        intro k hk hl
        obtain rfl : k = n := by omega
        have hcp : caseP N Ib k p := hl
        have hst : whN N Ib k (p + 1) = whN N Ib k p + 1 := if_pos hcp
        refine AW.iload_n X dX5_placeOn_12 rfl rfl ?_
        first | refine AW.aload_n X dX5_placeOn_13 rfl rfl ?_ | refine AW.aloadN_n X dX5_placeOn_13 rfl rfl ?_
        refine AW.getI X f_X5_342_18 (by first | assumption | exact hT _ _ rfl) dX5_placeOn_14 ?_
        rw [w46]
        refine AW.icmp_ge X (tgt := 52) dX5_placeOn_17 rfl ?_ ?_
        · intro t17
          first | refine AW.aload_n X dX5_placeOn_52 rfl rfl ?_ | refine AW.aloadN_n X dX5_placeOn_52 rfl rfl ?_
          refine AW.dup X dX5_placeOn_53 rfl ?_
          refine AW.getI X f_X5_451_18 (by first | assumption | exact hT _ _ rfl) dX5_placeOn_54 ?_
          rw [hc.1]
          refine AW.iconst X (v := 1) dX5_placeOn_57 rfl ?_
          refine AW.iadd X dX5_placeOn_58 ?_
          refine AW.putI X g_X5_placeOn_451_18 (by omega) (by first | assumption | exact hT _ _ rfl) dX5_placeOn_59 ?_ 
          refine AW.iconst X (v := 0) dX5_placeOn_62 rfl ?_
          refine AW.istore2 X dX5_placeOn_63 ?_
          exact l2' hcp (nE N) 0 _ (by omega) ⟨fun a a1 a2 a3 => w2_r a3, fun k hk => w2_n2 hk, fun e _ => w2_n1 (by omega)⟩ (w2_r (by omega)) (by rw [w2_s, hst]) (fun e he => by rw [if_neg (by omega), w2_n1 (by omega)]; exact hc.2 e he)
        · intro f17
          exact absurd (Int32.le_refl _) f17
      | succ j ih =>
        intro k hk hl
        obtain ⟨r1, r2, r3⟩ := hrow k (by omega)
        obtain ⟨b1, b2, b3, b4⟩ := hB.2.2 k (by omega)
        refine AW.iload_n X dX5_placeOn_12 rfl rfl ?_
        first | refine AW.aload_n X dX5_placeOn_13 rfl rfl ?_ | refine AW.aloadN_n X dX5_placeOn_13 rfl rfl ?_
        refine AW.getI X f_X5_342_18 (by first | assumption | exact hT _ _ rfl) dX5_placeOn_14 ?_
        rw [w46]
        refine AW.icmp_ge X (tgt := 52) dX5_placeOn_17 rfl ?_ ?_
        · intro t17
          exact absurd t17 (nI_ge (by omega) (by omega))
        · intro f17
          first | refine AW.aload_n X dX5_placeOn_20 rfl rfl ?_ | refine AW.aloadN_n X dX5_placeOn_20 rfl rfl ?_
          first | refine AW.aload_n X dX5_placeOn_21 rfl rfl ?_ | refine AW.aloadN_n X dX5_placeOn_21 rfl rfl ?_
          refine AW.getR X f_X5_158_18 (by first | assumption | exact hT _ _ rfl) (by first | assumption | exact hR _ _ _ rfl) dX5_placeOn_22 ?_
          refine AW.iload_n X dX5_placeOn_25 rfl rfl ?_
          refine AW.iald X (j := k) (by first | assumption | exact hT _ _ rfl) (by repeat (first | with_reducible exact rfl | assumption | exact ix_l _ | apply ix_add | apply ix_mul)) (by omega) dX5_placeOn_26 ?_
          rw [hf.1 357 (by omega) (by omega) (by omega), r1, b1]
          first | refine AW.aload_n X dX5_placeOn_27 rfl rfl ?_ | refine AW.aloadN_n X dX5_placeOn_27 rfl rfl ?_
          refine AW.getR X f_X5_161_18 (by first | assumption | exact hT _ _ rfl) (by first | assumption | exact hR _ _ _ rfl) dX5_placeOn_28 ?_
          refine AW.iload_n X dX5_placeOn_31 rfl rfl ?_
          refine AW.iald X (j := k) (by first | assumption | exact hT _ _ rfl) (by repeat (first | with_reducible exact rfl | assumption | exact ix_l _ | apply ix_add | apply ix_mul)) (by omega) dX5_placeOn_32 ?_
          rw [hf.1 358 (by omega) (by omega) (by omega), r2, b3]
          refine AW.callV_r X (c_X5_lightOf (N := row N 311 (I 311)) (G := gRow N) (q := nat Ib 111 k) (h := nat Ib 112 k) (mkS I Fw.rf rfl) (hN2q.symm ▸ b2) b4 (fun e h' he hh => w341 e h' (hN2e ▸ he) hh)) (ci := 18) (q := (RX5, TX5, 74)) (by first | assumption | exact hT _ _ rfl) rfl s_X5_364_18 (by omega) (Nat.le_of_ble_eq_true rfl) rfl rfl (Nat.le_of_ble_eq_true rfl) dX5_placeOn_33 ?_
          rw [hligc]
          first | refine AW.aload_n X dX5_placeOn_36 rfl rfl ?_ | refine AW.aloadN_n X dX5_placeOn_36 rfl rfl ?_
          refine AW.getR X f_X5_164_18 (by first | assumption | exact hT _ _ rfl) (by first | assumption | exact hR _ _ _ rfl) dX5_placeOn_37 ?_
          refine AW.iload_n X dX5_placeOn_40 rfl rfl ?_
          refine AW.iald X (j := k) (by first | assumption | exact hT _ _ rfl) (by repeat (first | with_reducible exact rfl | assumption | exact ix_l _ | apply ix_add | apply ix_mul)) (by omega) dX5_placeOn_41 ?_
          rw [hf.1 359 (by omega) (by omega) (by omega), r3]
          refine AW.icmp_eq X (tgt := 46) dX5_placeOn_42 rfl ?_ ?_
          · intro t42
            refine AW.iinc2 X (v := _ + 1) dX5_placeOn_46 rfl ?_
            refine AW.goto X (tgt := 12) dX5_placeOn_49 rfl ?_
            rw [nI_1]; exact ih (k + 1) (by omega) (fun k' hk' => by
              rcases Nat.lt_or_eq_of_le (Nat.le_of_lt_succ hk') with hx | rfl
              · exact hl k' hx
              · exact t42)
          · intro f42
            refine AW.vreturn X E ?_ dX5_placeOn_45
            have hno : ¬ caseP N Ib n p := fun z => f42 (z k (by omega))
            exact ⟨rfl, rfl, rfl, rfl, Fw.rf, fun _ _ => rfl, hc.1.trans (if_neg hno).symm, fun e he => (hc.2 e he).trans (if_neg hno).symm⟩
    refine AW.iload_n X dX5_placeOn_0 rfl rfl ?_
    first | refine AW.aload_n X dX5_placeOn_1 rfl rfl ?_ | refine AW.aloadN_n X dX5_placeOn_1 rfl rfl ?_
    refine AW.getR X f_X5_45_18 (by first | assumption | exact hT _ _ rfl) (by first | assumption | exact hR _ _ _ rfl) dX5_placeOn_2 ?_
    refine AW.iconst X (v := 1) dX5_placeOn_5 rfl ?_
    refine AW.iald X (j := 1) (by first | assumption | exact hT _ _ rfl) (by repeat (first | with_reducible exact rfl | assumption | exact ix_l _ | apply ix_add | apply ix_mul)) (by omega) dX5_placeOn_6 ?_
    rw [w304, n2]
    refine AW.icmp_ne X (tgt := 93) dX5_placeOn_7 rfl ?_ ?_
    · intro t7
      exact absurd rfl t7
    · intro f7
      refine AW.iconst X (v := 0) dX5_placeOn_10 rfl ?_
      refine AW.istore2 X dX5_placeOn_11 ?_
      exact l1' n 0 (by omega) (fun _ h => absurd h (Nat.not_lt_zero _))
  | succ j ihj =>
    intro e p I hej hf hd hc
    have w304 : I 304 = N 304 := (hf.1 304 (by omega) (by omega) (by omega)).trans v304
    refine AMet.of (by decide) (Nat.le_of_ble_eq_true rfl) (cats1 rfl) fun cx X E => ?_
    show AW _ _ _ (_ :: _ :: _ :: []) _ _ _ _ _
    have lp : ∀ k q (I' : KI), q + k = nQ N → Fw N I I' → (∀ e', e' < e → I' 311 e' = I 311 e') → CsP N Ib n ((p * nQ N + q) * nQ N ^ j) I' → AW cx 0 95 [.ref 200, .int (nI e), .int (nI q)] [] T I' R J := by
      intro k
      induction k with
      | zero =>
        intro q I' hqk hf2 h1 hc2
        obtain rfl : q = nQ N := by omega
        have w304' : I' 304 = N 304 := (hf2.1 304 (by omega) (by omega) (by omega)).trans w304
        refine AW.iload_n X dX5_placeOn_95 rfl rfl ?_
        first | refine AW.aload_n X dX5_placeOn_96 rfl rfl ?_ | refine AW.aloadN_n X dX5_placeOn_96 rfl rfl ?_
        refine AW.getR X f_X5_45_18 (by first | assumption | exact hT _ _ rfl) (by first | assumption | exact hR _ _ _ rfl) dX5_placeOn_97 ?_
        refine AW.iconst X (v := 0) dX5_placeOn_100 rfl ?_
        refine AW.iald X (j := 0) (by first | assumption | exact hT _ _ rfl) (by repeat (first | with_reducible exact rfl | assumption | exact ix_l _ | apply ix_add | apply ix_mul)) (by omega) dX5_placeOn_101 ?_
        rw [w304', n1]
        refine AW.icmp_ge X (tgt := 125) dX5_placeOn_102 rfl ?_ ?_
        · intro t102
          refine AW.vreturn X E ?_ dX5_placeOn_125
          exact ⟨rfl, rfl, rfl, rfl, hf2, h1, by rw [Nat.pow_succ, Nat.mul_comm (nQ N ^ j), ← Nat.mul_assoc, Nat.add_mul, Nat.one_mul]; exact hc2⟩
        · intro f102
          exact absurd (Int32.le_refl _) f102
      | succ k ih =>
        intro q I' hqk hf2 h1 hc2
        have w304' : I' 304 = N 304 := (hf2.1 304 (by omega) (by omega) (by omega)).trans w304
        have hfw : Fw N I' (w2 I' 311 e (nI q)) := ⟨fun a a1 a2 a3 => w2_r a1, fun k hk => w2_n1 (by omega), fun e' he => w2_n2 (by omega)⟩
        have hcall := ihj (e := e + 1) (p := p * nQ N + q) (I := w2 I' 311 e (nI q)) (by omega) ((hf.tr hf2).tr hfw) (hd.step (by omega) (fun e' he => by rw [w2_n2 (by omega)]; exact h1 e' he) (w2_s _ _ _ _)) ⟨(w2_n1 (by omega)).trans hc2.1, fun e he => (w2_n1 (by omega)).trans (hc2.2 e he)⟩
        refine AW.iload_n X dX5_placeOn_95 rfl rfl ?_
        first | refine AW.aload_n X dX5_placeOn_96 rfl rfl ?_ | refine AW.aloadN_n X dX5_placeOn_96 rfl rfl ?_
        refine AW.getR X f_X5_45_18 (by first | assumption | exact hT _ _ rfl) (by first | assumption | exact hR _ _ _ rfl) dX5_placeOn_97 ?_
        refine AW.iconst X (v := 0) dX5_placeOn_100 rfl ?_
        refine AW.iald X (j := 0) (by first | assumption | exact hT _ _ rfl) (by repeat (first | with_reducible exact rfl | assumption | exact ix_l _ | apply ix_add | apply ix_mul)) (by omega) dX5_placeOn_101 ?_
        rw [w304', n1]
        refine AW.icmp_ge X (tgt := 125) dX5_placeOn_102 rfl ?_ ?_
        · intro t102
          exact absurd t102 (nI_ge (by omega) (by omega))
        · intro f102
          first | refine AW.aload_n X dX5_placeOn_105 rfl rfl ?_ | refine AW.aloadN_n X dX5_placeOn_105 rfl rfl ?_
          refine AW.getR X f_X5_67_18 (by first | assumption | exact hT _ _ rfl) (by first | assumption | exact hR _ _ _ rfl) dX5_placeOn_106 ?_
          refine AW.iload_n X dX5_placeOn_109 rfl rfl ?_
          refine AW.iload_n X dX5_placeOn_110 rfl rfl ?_
          refine AW.iast X (j := e) (by omega) (by first | assumption | exact hT _ _ rfl) (by repeat (first | with_reducible exact rfl | assumption | exact ix_l _ | apply ix_add | apply ix_mul)) (by omega) dX5_placeOn_111 ?_
          first | refine AW.aload_n X dX5_placeOn_112 rfl rfl ?_ | refine AW.aloadN_n X dX5_placeOn_112 rfl rfl ?_
          refine AW.iload_n X dX5_placeOn_113 rfl rfl ?_
          refine AW.iconst X (v := 1) dX5_placeOn_114 rfl ?_
          refine AW.iadd X dX5_placeOn_115 ?_
          rw [nI_1]
          refine AW.callV_i X (hcall) (ci := 18) (q := (RX5, TX5, 74)) (by first | assumption | exact hT _ _ rfl) rfl s_X5_454_18 (by omega) (Nat.le_of_ble_eq_true rfl) rfl rfl (Nat.le_of_ble_eq_true rfl) dX5_placeOn_116 ?_
          intro r116 I116 h116
          obtain ⟨rfl, q1, q2, q3⟩ := h116
          refine AW.iinc2 X (v := _ + 1) dX5_placeOn_119 rfl ?_
          refine AW.goto X (tgt := 95) dX5_placeOn_122 rfl ?_
          rw [nI_1]; exact ih (q + 1) _ (by omega) ((hf2.tr hfw).tr q1) (fun e' he => by rw [q2 e' (by omega), w2_n2 (by omega)]; exact h1 e' he) q3
    refine AW.iload_n X dX5_placeOn_0 rfl rfl ?_
    first | refine AW.aload_n X dX5_placeOn_1 rfl rfl ?_ | refine AW.aloadN_n X dX5_placeOn_1 rfl rfl ?_
    refine AW.getR X f_X5_45_18 (by first | assumption | exact hT _ _ rfl) (by first | assumption | exact hR _ _ _ rfl) dX5_placeOn_2 ?_
    refine AW.iconst X (v := 1) dX5_placeOn_5 rfl ?_
    refine AW.iald X (j := 1) (by first | assumption | exact hT _ _ rfl) (by repeat (first | with_reducible exact rfl | assumption | exact ix_l _ | apply ix_add | apply ix_mul)) (by omega) dX5_placeOn_6 ?_
    rw [w304, n2]
    refine AW.icmp_ne X (tgt := 93) dX5_placeOn_7 rfl ?_ ?_
    · intro t7
      refine AW.iconst X (v := 0) dX5_placeOn_93 rfl ?_
      refine AW.istore2 X dX5_placeOn_94 ?_
      exact lp (nQ N) 0 I (by omega) Fw.rf (fun _ _ => rfl) (by rw [Nat.add_zero, Nat.mul_assoc, Nat.mul_comm (nQ N), ← Nat.pow_succ]; exact hc)
    · intro f7
      exact absurd ((nI_eq (a := e) (b := nE N) (by omega) (by omega)).mp f7) (by omega)
theorem c_X5_isSpent {I : KI} (hS : MS T I R N) : MX5_isSpent 0 0 [.ref 200] T I R J (qR (some (.int (bI (8000 < nQ N ^ nE N)))) T I R J) noX := by
  obtain ⟨hT, hR, hV, hN, hM⟩ := hS
  obtain ⟨⟨n1, n2, n3, n4, hnq, hne, hns, hnh⟩, -⟩ := id hN
  have v304 := hV.1 304 (by omega) (by omega)
  refine AMet.of (by decide) (Nat.le_of_ble_eq_true rfl) (cats1 rfl) fun cx X E => ?_
  show AW _ _ _ (_ :: _ :: _ :: []) _ _ _ _ _
  have fin : ∀ v e, v < 2 ^ 31 → (8000 < v ↔ 8000 < nQ N ^ nE N) → AW cx 0 36 [.ref 200, .int (nI v), e] [] T I R J := by
    intro v e hv hiff
    refine AW.iload_n X dX5_isSpent_36 rfl rfl ?_
    refine AW.sipush X (v := 8000) dX5_isSpent_37 rfl ?_
    refine AW.icmp_le X (tgt := 47) dX5_isSpent_40 rfl ?_ ?_
    · intro t40
      rw [bI_f (fun z => absurd ((nI_leI (b := 8000) hv (by omega)).mp t40) (by have := hiff.mpr z; omega))] at E
      refine AW.iconst X (v := 0) dX5_isSpent_47 rfl ?_
      exact AW.ireturn X E ⟨rfl, rfl, rfl, rfl, rfl⟩ dX5_isSpent_48 (hnar := by first | rfl | (unfold bI; split <;> rfl))
    · intro f40
      rw [bI_t (hiff.mp (by
        rcases Nat.lt_or_ge 8000 v with hz | hz
        · exact hz
        · exact absurd (nI_le hz (by omega)) f40))] at E
      refine AW.iconst X (v := 1) dX5_isSpent_43 rfl ?_
      refine AW.goto X (tgt := 48) dX5_isSpent_44 rfl ?_
      exact AW.ireturn X E ⟨rfl, rfl, rfl, rfl, rfl⟩ dX5_isSpent_48 (hnar := by first | rfl | (unfold bI; split <;> rfl))
  have lp : ∀ j e, e + j = nE N → nQ N ^ e ≤ 64000 → AW cx 0 4 [.ref 200, .int (nI (nQ N ^ e)), .int (nI e)] [] T I R J := by
    intro j
    induction j with
    | zero =>
      intro e hj hv
      obtain rfl : e = nE N := by omega
      refine AW.iload_n X dX5_isSpent_4 rfl rfl ?_
      first | refine AW.aload_n X dX5_isSpent_5 rfl rfl ?_ | refine AW.aloadN_n X dX5_isSpent_5 rfl rfl ?_
      refine AW.getR X f_X5_45_18 (by first | assumption | exact hT _ _ rfl) (by first | assumption | exact hR _ _ _ rfl) dX5_isSpent_6 ?_
      refine AW.iconst X (v := 1) dX5_isSpent_9 rfl ?_
      refine AW.iald X (j := 1) (by first | assumption | exact hT _ _ rfl) (by repeat (first | with_reducible exact rfl | assumption | exact ix_l _ | apply ix_add | apply ix_mul)) (by omega) dX5_isSpent_10 ?_
      rw [v304, n2]
      refine AW.icmp_ge X (tgt := 36) dX5_isSpent_11 rfl ?_ ?_
      · intro t11
        exact fin _ _ (by omega) Iff.rfl
      · intro f11
        exact absurd (Int32.le_refl _) f11
    | succ j ih =>
      intro e hj hv
      have hmul : nI (nQ N ^ e) * nI (nQ N) = nI (nQ N ^ (e + 1)) := by rw [nI_mul, Nat.pow_succ]
      refine AW.iload_n X dX5_isSpent_4 rfl rfl ?_
      first | refine AW.aload_n X dX5_isSpent_5 rfl rfl ?_ | refine AW.aloadN_n X dX5_isSpent_5 rfl rfl ?_
      refine AW.getR X f_X5_45_18 (by first | assumption | exact hT _ _ rfl) (by first | assumption | exact hR _ _ _ rfl) dX5_isSpent_6 ?_
      refine AW.iconst X (v := 1) dX5_isSpent_9 rfl ?_
      refine AW.iald X (j := 1) (by first | assumption | exact hT _ _ rfl) (by repeat (first | with_reducible exact rfl | assumption | exact ix_l _ | apply ix_add | apply ix_mul)) (by omega) dX5_isSpent_10 ?_
      rw [v304, n2]
      refine AW.icmp_ge X (tgt := 36) dX5_isSpent_11 rfl ?_ ?_
      · intro t11
        exact absurd t11 (nI_ge (by omega) (by omega))
      · intro f11
        refine AW.iload_n X dX5_isSpent_14 rfl rfl ?_
        refine AW.sipush X (v := 8000) dX5_isSpent_15 rfl ?_
        refine AW.icmp_gt X (tgt := 36) dX5_isSpent_18 rfl ?_ ?_
        · intro t18
          have hgt : 8000 < nQ N ^ e := (nI_ltI (a := 8000) (by omega) (by omega)).mp t18
          exact fin _ _ (by omega) ⟨fun _ => Nat.lt_of_lt_of_le hgt (Nat.pow_le_pow_right (by
            rcases Nat.eq_zero_or_pos (nQ N) with hz | hz
            · rw [hz] at hgt
              rcases Nat.eq_zero_or_pos e with he | he
              · rw [he] at hgt; exact absurd hgt (by decide)
              · rw [Nat.zero_pow he] at hgt; exact absurd hgt (by decide)
            · exact hz) (by omega)), fun _ => hgt⟩
        · intro f18
          have hle : nQ N ^ e ≤ 8000 := by
            rcases Nat.lt_or_ge 8000 (nQ N ^ e) with hz | hz
            · exact absurd (nI_lt hz (by omega)) f18
            · exact hz
          refine AW.iload_n X dX5_isSpent_21 rfl rfl ?_
          first | refine AW.aload_n X dX5_isSpent_22 rfl rfl ?_ | refine AW.aloadN_n X dX5_isSpent_22 rfl rfl ?_
          refine AW.getR X f_X5_45_18 (by first | assumption | exact hT _ _ rfl) (by first | assumption | exact hR _ _ _ rfl) dX5_isSpent_23 ?_
          refine AW.iconst X (v := 0) dX5_isSpent_26 rfl ?_
          refine AW.iald X (j := 0) (by first | assumption | exact hT _ _ rfl) rfl (by omega) dX5_isSpent_27 ?_
          rw [v304, n1]
          refine AW.imul X dX5_isSpent_28 ?_
          refine AW.istore1 X dX5_isSpent_29 ?_
          refine AW.iinc2 X (v := _ + 1) dX5_isSpent_30 rfl ?_
          refine AW.goto X (tgt := 4) dX5_isSpent_33 rfl ?_
          rw [nI_1, hmul]; exact ih (e + 1) (by omega) (by rw [Nat.pow_succ]; have := Nat.mul_le_mul hle hnq; omega)
  refine AW.iconst X (v := 1) dX5_isSpent_0 rfl ?_
  refine AW.istore1 X dX5_isSpent_1 ?_
  refine AW.iconst X (v := 0) dX5_isSpent_2 rfl ?_
  refine AW.istore2 X dX5_isSpent_3 ?_
  exact lp (nE N) 0 (by omega) (by rw [Nat.pow_zero]; omega)
theorem c_X5_where0 {n : Nat} {I : KI} {e : Int32} {v : Int32} (hS : MS T I R N) (hB : BK n I N) (hn : I 200 46 = nI n) (hrow : ∀ k, k < n → I 357 k = I 111 k ∧ I 358 k = I 112 k ∧ I 359 k = I 113 k) (he : (e = -1 ∧ v = whN N I n (nQ N ^ nE N)) ∨ ∃ e', e' < nE N ∧ e = nI e' ∧ v = whS N I n e' (nQ N ^ nE N)) : MX5_where 12 0 [.ref 200, .int e] T I R J (qM (some (.int (if 8000 < nQ N ^ nE N then -2 else v))) (nM N) T I R J) noX := by
  have hS0 := hS
  have hS1 : MS T (w2 I 200 3 0) R N := hS.cod
  obtain ⟨hT, hR, hV, hN, hM⟩ := hS
  obtain ⟨⟨n1, n2, n3, n4, hnq, hne, hns, hnh⟩, -⟩ := id hN
  have hn12 := hB.2.1
  refine AMet.of (by decide) (Nat.le_of_ble_eq_true rfl) (cats1 rfl) fun cx X E => ?_
  show AW _ _ _ (_ :: _ :: _ :: []) _ _ _ _ _
  have l3 : ¬ 8000 < nQ N ^ nE N → ∀ I3 I4 : KI, FM (nM N) I I3 → I3 200 3 = 0 → (∀ a, a ≠ 311 → I4 a = I3 a ∨ a = 361 ∨ a = 200) → True → I4 200 3 = 0 → (∀ k, k ≠ 62 → I4 200 k = I3 200 k) → CsP N I n (nQ N ^ nE N) I4 → ∀ j k (I5 : KI), k + j = 6 → (∀ a, a ≠ 311 → I5 a = I4 a) → (∀ k', k' < k → I5 311 k' = I 311 k') → (∀ k', 6 ≤ k' → I5 311 k' = I 311 k') → (∀ k', k' < 6 → I4 360 k' = I 311 k') → AW cx 0 83 [.ref 200, .int e, .int (nI k)] [] T I5 R J := by
    intro hsp I3 I4 hf3 h33 hf4 _ h43 hk4 hc j
    have hv : (if 8000 < nQ N ^ nE N then (-2 : Int32) else v) = v := if_neg hsp
    induction j with
    | zero =>
      intro k I5 hk hf5 ha hb h360
      obtain rfl : k = 6 := by omega
      have hfin : FM (nM N) I I5 := by
        obtain ⟨g1, g2, g3⟩ := hf3
        refine ⟨fun a a1 a2 a3 a4 a5 a6 => ?_, fun m hm => ?_, fun k k1 k2 k3 k4 => ?_⟩
        · by_cases hx : a = 311
          · subst hx
            funext k'
            rcases Nat.lt_or_ge k' 6 with hz | hz
            · exact ha k' hz
            · exact hb k' hz
          · rw [hf5 a hx]
            rcases hf4 a hx with z | z | z
            · rw [z]; exact g1 a a1 a2 a3 a4 a5 a6
            · exact absurd z a6
            · exact absurd z a1
        · rw [hf5 337 (by omega), hf5 338 (by omega), hf5 339 (by omega), (hf4 337 (by omega)).resolve_right (by omega), (hf4 338 (by omega)).resolve_right (by omega), (hf4 339 (by omega)).resolve_right (by omega)]
          exact g2 m hm
        · rw [hf5 200 (by omega), hk4 k k4]; exact g3 k k1 k2 k3 k4
      have h53 : I5 200 3 = 0 := (congrFun (hf5 200 (by omega)) 3).trans h43
      rcases he with ⟨he1, he2⟩ | ⟨e', he1, he2, he3⟩
      · skip
        refine AW.iload_n X dX5_where_83 rfl rfl ?_
        refine AW.bipush X (v := 6) dX5_where_84 rfl ?_
        refine AW.icmp_ge X (tgt := 107) dX5_where_86 rfl ?_ ?_
        · intro t86
          refine AW.iload_n X dX5_where_107 rfl rfl ?_
          refine AW.iconst X (v := -1) dX5_where_108 rfl ?_
          refine AW.icmp_ne X (tgt := 119) dX5_where_109 rfl ?_ ?_
          · intro t109
            exact absurd he1 t109
          · intro f109
            first | refine AW.aload_n X dX5_where_112 rfl rfl ?_ | refine AW.aloadN_n X dX5_where_112 rfl rfl ?_
            refine AW.getI X f_X5_451_18 (by first | assumption | exact hT _ _ rfl) dX5_where_113 ?_
            rw [hf5 200 (by omega), hc.1, ← he2]
            refine AW.goto X (tgt := 125) dX5_where_116 rfl ?_
            refine AW.ireturn X E ?_ dX5_where_125 
            exact ⟨rfl, rfl, rfl, by rw [hv], h53, hfin⟩
        · intro f86
          exact absurd (by decide) f86
      · skip
        refine AW.iload_n X dX5_where_83 rfl rfl ?_
        refine AW.bipush X (v := 6) dX5_where_84 rfl ?_
        refine AW.icmp_ge X (tgt := 107) dX5_where_86 rfl ?_ ?_
        · intro t86
          refine AW.iload_n X dX5_where_107 rfl rfl ?_
          refine AW.iconst X (v := -1) dX5_where_108 rfl ?_
          refine AW.icmp_ne X (tgt := 119) dX5_where_109 rfl ?_ ?_
          · intro t109
            first | refine AW.aload_n X dX5_where_119 rfl rfl ?_ | refine AW.aloadN_n X dX5_where_119 rfl rfl ?_
            refine AW.getR X f_X5_170_18 (by first | assumption | exact hT _ _ rfl) (by first | assumption | exact hR _ _ _ rfl) dX5_where_120 ?_
            refine AW.iload_n X dX5_where_123 rfl rfl ?_
            refine AW.iald X (j := e') (by first | assumption | exact hT _ _ rfl) he2 (by omega) dX5_where_124 ?_
            rw [hf5 361 (by omega), hc.2 e' he1, ← he3]
            refine AW.ireturn X E ?_ dX5_where_125 
            exact ⟨rfl, rfl, rfl, by rw [hv], h53, hfin⟩
          · intro f109
            exact absurd (he2.symm.trans f109) (nI_m1 (by omega))
        · intro f86
          exact absurd (by decide) f86
    | succ j ih =>
      intro k I5 hk hf5 ha hb h360
      refine AW.iload_n X dX5_where_83 rfl rfl ?_
      refine AW.bipush X (v := 6) dX5_where_84 rfl ?_
      refine AW.icmp_ge X (tgt := 107) dX5_where_86 rfl ?_ ?_
      · intro t86
        exact absurd t86 (nI_ge (b := 6) (by omega) (by omega))
      · intro f86
        first | refine AW.aload_n X dX5_where_89 rfl rfl ?_ | refine AW.aloadN_n X dX5_where_89 rfl rfl ?_
        refine AW.getR X f_X5_67_18 (by first | assumption | exact hT _ _ rfl) (by first | assumption | exact hR _ _ _ rfl) dX5_where_90 ?_
        refine AW.iload_n X dX5_where_93 rfl rfl ?_
        first | refine AW.aload_n X dX5_where_94 rfl rfl ?_ | refine AW.aloadN_n X dX5_where_94 rfl rfl ?_
        refine AW.getR X f_X5_167_18 (by first | assumption | exact hT _ _ rfl) (by first | assumption | exact hR _ _ _ rfl) dX5_where_95 ?_
        refine AW.iload_n X dX5_where_98 rfl rfl ?_
        refine AW.iald X (j := k) (by first | assumption | exact hT _ _ rfl) (by repeat (first | with_reducible exact rfl | assumption | exact ix_l _ | apply ix_add | apply ix_mul)) (by omega) dX5_where_99 ?_
        rw [hf5 360 (by omega), h360 k (by omega)]
        refine AW.iast X (j := k) (by omega) (by first | assumption | exact hT _ _ rfl) (by repeat (first | with_reducible exact rfl | assumption | exact ix_l _ | apply ix_add | apply ix_mul)) (by omega) dX5_where_100 ?_
        refine AW.iinc2 X (v := _ + 1) dX5_where_101 rfl ?_
        refine AW.goto X (tgt := 83) dX5_where_104 rfl ?_
        rw [nI_1]
        refine ih (k + 1) _ (by omega) (fun a ha' => by rw [w2_r ha']; exact hf5 a ha') (fun k' hk' => ?_) (fun k' hk' => by rw [w2_n2 (by omega)]; exact hb k' hk') h360
        by_cases hx : k' = k
        · subst hx; rw [w2_s]
        · rw [w2_n2 hx]; exact ha k' (by omega)
  have l2' : ¬ 8000 < nQ N ^ nE N → ∀ I2 : KI, FE (w2 I 200 3 0) I2 → NiP N I2 → ∀ j k (I3 : KI), k + j = 6 → (∀ a, a ≠ 360 → a ≠ 361 → I3 a = I2 a) → (∀ k', k' < k → I3 360 k' = I 311 k' ∧ I3 361 k' = 0) → AW cx 0 40 [.ref 200, .int e, .int (nI k)] [] T I3 R J := by
    intro hsp I2 hf2 hn2 j
    have hS2 := hS1.fe hf2
    induction j with
    | zero =>
      intro k I3 hk hf3 hl
      obtain rfl : k = 6 := by omega
      have hf23 : FM (nM N) I2 I3 := ⟨fun a a1 a2 a3 a4 a5 a6 => hf3 a a5 a6, fun m _ => by rw [hf3 337 (by omega) (by omega), hf3 338 (by omega) (by omega), hf3 339 (by omega) (by omega)]; exact ⟨rfl, rfl, rfl⟩, fun k _ _ _ _ => congrFun (hf3 200 (by omega) (by omega)) k⟩
      have hfI3 : FM (nM N) I I3 := (FM.cod.tr hf2.fm).tr hf23
      have h33 : I3 200 3 = 0 := (congrFun (hf3 200 (by omega) (by omega)) 3).trans ((congrFun hf2.s 3).trans (w2_s _ _ _ _))
      have hf62 : FM (nM N) I3 (w2 I3 200 62 0) := ⟨fun a a1 a2 a3 a4 a5 a6 => w2_r a1, fun m _ => by rw [w2_r (by omega), w2_r (by omega), w2_r (by omega)]; exact ⟨rfl, rfl, rfl⟩, fun k k1 k2 k3 k4 => w2_n2 k4⟩
      have hS3 : MS T (w2 I3 200 62 0) R N := (hS0.fm hfI3).fm hf62
      have hN3 : NiP N (w2 I3 200 62 0) := hn2.fr fun a a1 a2 => by rw [w2_r (by omega)]; exact hf3 a (by omega) (by omega)
      have hI3 : ∀ a, (a = 311 ∨ a = 357 ∨ a = 358 ∨ a = 359) → w2 I3 200 62 0 a = I a := fun a ha => by
        rw [w2_r (by omega)]; exact hfI3.1 a (by omega) (by omega) (by omega) (by omega) (by omega) (by omega)
      have hcall := c_X5_placeOn (J := J) (n := n) (Ib := I) hS3 hN3 ((w2_n2 (by omega)).trans ((hfI3.2.2 46 (by omega) (by omega) (by omega) (by omega)).trans hn)) hn12 (fun k hk => by rw [hI3 357 (by omega), hI3 358 (by omega), hI3 359 (by omega)]; exact hrow k hk) hB (nE N) (e := 0) (p := 0) (by omega) Fw.rf (fun e' h => absurd h (Nat.not_lt_zero _)) (by rw [Nat.zero_mul]; exact ⟨w2_s _ _ _ _, fun e he => by rw [w2_r (by omega), (hl e (by omega)).2]; rfl⟩)
      rw [show (0 + 1) * nQ N ^ nE N = nQ N ^ nE N by rw [Nat.zero_add, Nat.one_mul]] at hcall
      refine AW.iload_n X dX5_where_40 rfl rfl ?_
      refine AW.bipush X (v := 6) dX5_where_41 rfl ?_
      refine AW.icmp_ge X (tgt := 71) dX5_where_43 rfl ?_ ?_
      · intro t43
        first | refine AW.aload_n X dX5_where_71 rfl rfl ?_ | refine AW.aloadN_n X dX5_where_71 rfl rfl ?_
        refine AW.iconst X (v := 0) dX5_where_72 rfl ?_
        refine AW.putI X g_X5_where_451_18 (by omega) (by first | assumption | exact hT _ _ rfl) dX5_where_73 ?_ 
        first | refine AW.aload_n X dX5_where_76 rfl rfl ?_ | refine AW.aloadN_n X dX5_where_76 rfl rfl ?_
        refine AW.iconst X (v := 0) dX5_where_77 rfl ?_
        refine AW.callV_i X (hcall) (ci := 18) (q := (RX5, TX5, 74)) (by first | assumption | exact hT _ _ rfl) rfl s_X5_454_18 (by omega) (Nat.le_of_ble_eq_true rfl) rfl rfl (Nat.le_of_ble_eq_true rfl) dX5_where_78 ?_
        intro r78 I78 h78
        obtain ⟨rfl, q1, q2, q3⟩ := h78
        refine AW.iconst X (v := 0) dX5_where_81 rfl ?_
        refine AW.istore2 X dX5_where_82 ?_
        refine l3 hsp I3 I78 hfI3 h33 (fun a ha => ?_) trivial (((q1.2.1 3 (by omega)).trans (w2_n2 (by omega))).trans h33) (fun k hk => (q1.2.1 k hk).trans (w2_n2 hk)) q3 6 0 I78 rfl (fun _ _ => rfl) (fun _ h => absurd h (Nat.not_lt_zero _)) (fun k' hk' => (q1.2.2 k' (by omega)).trans (congrFun (hI3 311 (by omega)) k')) (fun k' hk' => ?_)
        · by_cases h1 : a = 361
          · exact Or.inr (Or.inl h1)
          · by_cases h2 : a = 200
            · exact Or.inr (Or.inr h2)
            · exact Or.inl ((q1.1 a ha h1 h2).trans (w2_r h2))
        · rw [q1.1 360 (by omega) (by omega) (by omega), w2_r (by omega)]; exact (hl k' hk').1
      · intro f43
        exact absurd (by decide) f43
    | succ j ih =>
      intro k I3 hk hf3 hl
      have w311 : I3 311 = I 311 := (hf3 311 (by omega) (by omega)).trans ((hf2 311 (by omega) (by omega) (by omega) (by omega) (by omega) (by omega)).trans (w2_r (by omega)))
      refine AW.iload_n X dX5_where_40 rfl rfl ?_
      refine AW.bipush X (v := 6) dX5_where_41 rfl ?_
      refine AW.icmp_ge X (tgt := 71) dX5_where_43 rfl ?_ ?_
      · intro t43
        exact absurd t43 (nI_ge (b := 6) (by omega) (by omega))
      · intro f43
        first | refine AW.aload_n X dX5_where_46 rfl rfl ?_ | refine AW.aloadN_n X dX5_where_46 rfl rfl ?_
        refine AW.getR X f_X5_167_18 (by first | assumption | exact hT _ _ rfl) (by first | assumption | exact hR _ _ _ rfl) dX5_where_47 ?_
        refine AW.iload_n X dX5_where_50 rfl rfl ?_
        first | refine AW.aload_n X dX5_where_51 rfl rfl ?_ | refine AW.aloadN_n X dX5_where_51 rfl rfl ?_
        refine AW.getR X f_X5_67_18 (by first | assumption | exact hT _ _ rfl) (by first | assumption | exact hR _ _ _ rfl) dX5_where_52 ?_
        refine AW.iload_n X dX5_where_55 rfl rfl ?_
        refine AW.iald X (j := k) (by first | assumption | exact hT _ _ rfl) (by repeat (first | with_reducible exact rfl | assumption | exact ix_l _ | apply ix_add | apply ix_mul)) (by omega) dX5_where_56 ?_
        rw [w311]
        refine AW.iast X (j := k) (by omega) (by first | assumption | exact hT _ _ rfl) (by repeat (first | with_reducible exact rfl | assumption | exact ix_l _ | apply ix_add | apply ix_mul)) (by omega) dX5_where_57 ?_
        first | refine AW.aload_n X dX5_where_58 rfl rfl ?_ | refine AW.aloadN_n X dX5_where_58 rfl rfl ?_
        refine AW.getR X f_X5_170_18 (by first | assumption | exact hT _ _ rfl) (by first | assumption | exact hR _ _ _ rfl) dX5_where_59 ?_
        refine AW.iload_n X dX5_where_62 rfl rfl ?_
        refine AW.iconst X (v := 0) dX5_where_63 rfl ?_
        refine AW.iast X (j := k) (by omega) (by first | assumption | exact hT _ _ rfl) (by repeat (first | with_reducible exact rfl | assumption | exact ix_l _ | apply ix_add | apply ix_mul)) (by omega) dX5_where_64 ?_
        refine AW.iinc2 X (v := _ + 1) dX5_where_65 rfl ?_
        refine AW.goto X (tgt := 40) dX5_where_68 rfl ?_
        rw [nI_1]
        refine ih (k + 1) _ (by omega) (fun a a1 a2 => by rw [w2_r a2, w2_r a1]; exact hf3 a a1 a2) (fun k' hk' => ?_)
        by_cases hx : k' = k
        · subst hx; rw [w2_n1 (by omega), w2_s, w2_s]; exact ⟨rfl, rfl⟩
        · rw [w2_n1 (by omega), w2_n2 hx, w2_n2 hx, w2_n1 (by omega)]; exact hl k' (by omega)
  have aft : AW cx 0 24 [.ref 200, .int e, .retAddr 0] [] T (w2 I 200 3 0) R J := by
    first | refine AW.aload_n X dX5_where_24 rfl rfl ?_ | refine AW.aloadN_n X dX5_where_24 rfl rfl ?_
    refine AW.callV_r X (c_X5_isSpent hS1) (ci := 18) (q := (RX5, TX5, 74)) (by first | assumption | exact hT _ _ rfl) rfl s_X5_457_18 (by omega) (Nat.le_of_ble_eq_true rfl) rfl rfl (Nat.le_of_ble_eq_true rfl) dX5_where_25 ?_
    refine AW.if_eq X (tgt := 34) dX5_where_28 rfl ?_ ?_
    · intro t28
      have hsp : ¬ 8000 < nQ N ^ nE N := bI_z.mp t28
      first | refine AW.aload_n X dX5_where_34 rfl rfl ?_ | refine AW.aloadN_n X dX5_where_34 rfl rfl ?_
      refine AW.callV_i X (c_X5_tellNight hS1) (ci := 18) (q := (RX5, TX5, 74)) (by first | assumption | exact hT _ _ rfl) rfl s_X5_392_18 (by omega) (Nat.le_of_ble_eq_true rfl) rfl rfl (Nat.le_of_ble_eq_true rfl) dX5_where_35 ?_
      intro r35 I35 h35
      obtain ⟨rfl, hf, hnn⟩ := h35
      refine AW.iconst X (v := 0) dX5_where_38 rfl ?_
      refine AW.istore2 X dX5_where_39 ?_
      exact l2' hsp I35 hf hnn 6 0 I35 rfl (fun _ _ _ => rfl) (fun _ h => absurd h (Nat.not_lt_zero _))
    · intro f28
      have hsp : 8000 < nQ N ^ nE N := Decidable.of_not_not fun z => f28 (bI_z.mpr z)
      refine AW.bipush X (v := -2) dX5_where_31 rfl ?_
      refine AW.ireturn X E ?_ dX5_where_33 
      exact ⟨rfl, rfl, rfl, by rw [if_pos hsp], w2_s _ _ _ _, FM.cod⟩
  rcases id he with ⟨he1, he2⟩ | ⟨e', he1, he2, he3⟩
  · skip
    first | refine AW.aload_n X dX5_where_0 rfl rfl ?_ | refine AW.aloadN_n X dX5_where_0 rfl rfl ?_
    refine AW.iconst X (v := 0) dX5_where_1 rfl ?_
    refine AW.putI X g_X5_where_194_18 (by omega) (by first | assumption | exact hT _ _ rfl) dX5_where_2 ?_ 
    refine AW.iload_n X dX5_where_5 rfl rfl ?_
    refine AW.iconst X (v := -1) dX5_where_6 rfl ?_
    refine AW.icmp_eq X (tgt := 24) dX5_where_7 rfl ?_ ?_
    · intro t7
      exact aft
    · intro f7
      exact absurd he1 f7
  · skip
    first | refine AW.aload_n X dX5_where_0 rfl rfl ?_ | refine AW.aloadN_n X dX5_where_0 rfl rfl ?_
    refine AW.iconst X (v := 0) dX5_where_1 rfl ?_
    refine AW.putI X g_X5_where_194_18 (by omega) (by first | assumption | exact hT _ _ rfl) dX5_where_2 ?_ 
    refine AW.iload_n X dX5_where_5 rfl rfl ?_
    refine AW.iconst X (v := -1) dX5_where_6 rfl ?_
    refine AW.icmp_eq X (tgt := 24) dX5_where_7 rfl ?_ ?_
    · intro t7
      exact aft
    · intro f7
      first | refine AW.aload_n X dX5_where_10 rfl rfl ?_ | refine AW.aloadN_n X dX5_where_10 rfl rfl ?_
      refine AW.iload_n X dX5_where_11 rfl rfl ?_
      refine AW.callV_r X (c_X5_isEel e hS1) (ci := 18) (q := (RX5, TX5, 74)) (by first | assumption | exact hT _ _ rfl) rfl s_X5_379_18 (by omega) (Nat.le_of_ble_eq_true rfl) rfl rfl (Nat.le_of_ble_eq_true rfl) dX5_where_12 ?_
      rw [bI_t (by rw [he2]; exact ⟨nI_pos' (by omega), nI_lt he1 (by omega)⟩)]
      refine AW.if_ne X (tgt := 24) dX5_where_15 rfl ?_ ?_
      · intro t15
        exact aft
      · intro f15
        exact absurd f15 (by decide)
theorem c_X5_where_bad {e : Int32} {I : KI} (hS : MS T I R N) (hm : ¬ e = -1) (hb : ¬ (0 ≤ e ∧ e < nI (nE N))) : MX5_where 12 0 [.ref 200, .int e] T I R J (qF 1 (nM N) T I R J) noX := by
  have hS1 : MS T (w2 I 200 3 0) R N := hS.cod
  obtain ⟨hT, hR, hV, hN, hM⟩ := hS
  refine AMet.of (by decide) (Nat.le_of_ble_eq_true rfl) (cats1 rfl) fun cx X E => ?_
  show AW _ _ _ (_ :: _ :: _ :: []) _ _ _ _ _
  first | refine AW.aload_n X dX5_where_0 rfl rfl ?_ | refine AW.aloadN_n X dX5_where_0 rfl rfl ?_
  refine AW.iconst X (v := 0) dX5_where_1 rfl ?_
  refine AW.putI X g_X5_where_194_18 (by omega) (by first | assumption | exact hT _ _ rfl) dX5_where_2 ?_ 
  refine AW.iload_n X dX5_where_5 rfl rfl ?_
  refine AW.iconst X (v := -1) dX5_where_6 rfl ?_
  refine AW.icmp_eq X (tgt := 24) dX5_where_7 rfl ?_ ?_
  · intro t7
    exact absurd t7 hm
  · intro f7
    first | refine AW.aload_n X dX5_where_10 rfl rfl ?_ | refine AW.aloadN_n X dX5_where_10 rfl rfl ?_
    refine AW.iload_n X dX5_where_11 rfl rfl ?_
    refine AW.callV_r X (c_X5_isEel e hS1) (ci := 18) (q := (RX5, TX5, 74)) (by first | assumption | exact hT _ _ rfl) rfl s_X5_379_18 (by omega) (Nat.le_of_ble_eq_true rfl) rfl rfl (Nat.le_of_ble_eq_true rfl) dX5_where_12 ?_
    rw [bI_f hb]
    refine AW.if_ne X (tgt := 24) dX5_where_15 rfl ?_ ?_
    · intro t15
      exact absurd rfl t15
    · intro f15
      first | refine AW.aload_n X dX5_where_18 rfl rfl ?_ | refine AW.aloadN_n X dX5_where_18 rfl rfl ?_
      refine AW.iconst X (v := 1) dX5_where_19 rfl ?_
      refine AW.callV_i X (c_X5_fail hT 1) (ci := 18) (q := (RX5, TX5, 74)) (by first | assumption | exact hT _ _ rfl) rfl s_X5_323_18 (by omega) (Nat.le_of_ble_eq_true rfl) rfl rfl (Nat.le_of_ble_eq_true rfl) dX5_where_20 ?_
      intro r20 I20 h20
      obtain ⟨rfl, rfl⟩ := h20
      refine AW.ireturn X E ?_ dX5_where_23 
      exact ⟨rfl, rfl, rfl, ⟨_, rfl⟩, w2_s _ _ _ _, FM.cod.tr FM.cod⟩
end MWH
