/-! 07q: odds, nights (written by src/gen07q.py and src/walk.py) -/
set_option maxRecDepth 100000
theorem nI_rem {a c : Nat} (ha : a < 2 ^ 31) (hc : c < 2 ^ 31) : nI a - nI a / nI c * nI c = nI (a % c) := by
  rw [nI_div ha hc, nI_mul, nI_sub (Nat.div_mul_le_self a c)]
  congr 1
  have := Nat.div_add_mod a c
  rw [Nat.mul_comm] at this
  omega
theorem coldN2 {N : KI} {a c : Int32} : coldN (coldN N a) c = coldN N c := by
  funext x k
  unfold coldN w2 row
  by_cases h : x = 200
  · subst h
    by_cases hk : k = 45 <;> simp [hk]
  · simp [h]
/-- nothing but what is tried -/
def FT (I I' : KI) : Prop := ∀ a, a ≠ 105 → (a < 153 ∨ 158 < a) → I' a = I a
theorem FT.rf {I : KI} : FT I I := fun _ _ _ => rfl
theorem FT.tr {I I1 I2 : KI} (h : FT I I1) (h2 : FT I1 I2) : FT I I2 := fun a a1 a2 => (h2 a a1 a2).trans (h a a1 a2)
theorem XS.ft {pb : Nat} {T : KT} {I I' : KI} {R : KR} {N : KI} (hX : XS pb T I R N) (hf : FT I I') : XS pb T I' R N := by
  obtain ⟨x1, x2, x3, x4, x5, x6, x7, x8, x9⟩ := hX
  have e : ∀ k, 3 ≤ k → k ≤ 8 → I' (lA 103 k) = I (lA 103 k) := fun k h1 h2 => hf _ (by unfold lA; omega) (by unfold lA; omega)
  refine ⟨x1, x2, x3.keep (fun a ha => hf a (by omega) (by omega)), x4.keep (hf _ (by omega) (by omega)) (e 3 (by omega) (by omega)) (e 4 (by omega) (by omega)) (e 5 (by omega) (by omega)), x5, x6, x7, ?_, ?_⟩
  · intro a h ha hh
    rw [e 6 (by omega) (by omega), e 7 (by omega) (by omega)]
    exact x8 a h ha hh
  · intro q h hq hh
    rw [e 8 (by omega) (by omega)]
    exact x9 q h hq hh
theorem XS.wR {pb : Nat} {T : KT} {I : KI} {R : KR} {N : KI} (hX : XS pb T I R N) (p : Nat) : XS pb T I (w2 R 105 0 (some p)) N := by
  obtain ⟨x1, x2, x3, x4, x5, x6, x7, x8⟩ := hX
  refine ⟨x1, x2.w rfl, ?_, ?_, x5, x6, x7, x8⟩
  · obtain ⟨h0, h1, ⟨a1, a2, ar, cap, a3⟩, ⟨b1, b2, br, cbp, b3⟩, ⟨c1, c2, cr, ccp, c3⟩, h5⟩ := x3
    refine ⟨h0, ?_, ⟨a1, a2, ar, cap, ?_⟩, ⟨b1, b2, br, cbp, ?_⟩, ⟨c1, c2, cr, ccp, ?_⟩, h5⟩
    · unfold PRf; rw [w2_r (by omega)]; exact h1
    · rw [w2_r (by omega), w2_r (by have := a3.2.1; omega)]; exact a3
    · rw [w2_r (by omega), w2_r (by have := b3.2.1; omega)]; exact b3
    · rw [w2_r (by omega), w2_r (by have := c3.2.1; omega)]; exact c3
  · unfold LR; rw [w2_r (by decide)]; exact x4
/-- what is tried, over N1 -/
def TS (pb : Nat) (T : KT) (I : KI) (R : KR) (N1 : KI) : Prop := XT T ∧ XRf R ∧ PR pb T I R N1 ∧ LR 105 pb T I R N1 ∧ NOK N1 ∧ MOKs N1
theorem TS.of {pb : Nat} {T : KT} {I : KI} {R : KR} {N N1 : KI} (hX : XS pb T I R N) (hL : LR 105 pb T I R N1) (hv : ∀ a, 304 ≤ a → a ≤ 322 → N1 a = N a) (hM : MOKs N1) : TS pb T I R N1 :=
  ⟨hX.1, hX.2.1, hX.2.2.1.view hv, hL, hX.2.2.2.2.1.view hv, hM⟩
/-- tried gets a cold -/
theorem TS.cold {pb c : Nat} {T : KT} {I : KI} {R : KR} {N1 : KI} (h : TS pb T I R N1) (hc : c < 10) : TS pb T (w2 I 105 2 (nI c)) R (coldN N1 (nI c)) := by
  obtain ⟨x1, x2, x3, x4, x5, x6⟩ := h
  obtain ⟨l1, l2, l3, l4, l5, l6, l7, l8, l9, l10, l11, l12, l13, l14, l15, l16, l17⟩ := x4
  have h1 := x3.1
  refine ⟨x1, x2, (x3.keep (fun a ha => w2_r (by omega))).view (fun a a1 a2 => coldN_P a (by omega)), LR.mk' (LS_of (la := 105) x1 x2 (by omega)) l2 (by rw [w2_n2 (by omega), l15]; exact (w2_n2 (by omega)).symm) (by rw [w2_s]; exact (w2_s _ _ _ _).symm) (fun m hm => ?_), x5.view (fun a a1 a2 => coldN_P a (by omega)), coldN_MOK x6 hc⟩
  rw [w2_r (by decide), w2_r (by decide), w2_r (by decide), coldN_P 337 (by omega), coldN_P 338 (by omega), coldN_P 339 (by omega)]
  exact l17 m (by rw [coldN_M] at hm; exact hm)
theorem TS.sh {pb : Nat} {T : KT} {I I' : KI} {R : KR} {N1 : KI} (h : TS pb T I R N1) (hs : sameB 105 I I') : TS pb T I' R N1 := by
  obtain ⟨x1, x2, x3, x4, x5, x6⟩ := h
  exact ⟨x1, x2, x3.keep (fun a ha => hs a (by unfold lA; omega) (by unfold lA; omega) (by unfold lA; omega)), x4.keep (hs _ (by decide) (by decide) (by decide)) (hs _ (by decide) (by decide) (by decide)) (hs _ (by decide) (by decide) (by decide)) (hs _ (by decide) (by decide) (by decide)), x5, x6⟩
theorem sameB.ft {I I' : KI} (hs : sameB 105 I I') : FT I I' := fun a a1 a2 => hs a (by unfold lA; omega) (by unfold lA; omega) (by unfold lA; omega)
theorem ft_cold {I : KI} {v : Int32} : FT I (w2 I 105 2 v) := fun a a1 a2 => w2_r a1
section TR
variable {pb B : Nat} {T : KT} {I : KI} {R : KR} {J : KJ} {N N1 : KI}
theorem TS.shines (h : TS pb T I R N1) : MX3_shines 6 0 [.ref 105] T I R J (qI (fun r I' => r = none ∧ sameB 105 I I' ∧ LitP N1 105 I') T R J) noX := c_X3_shines (by omega) h.2.2.1 h.2.2.2.1 h.2.2.2.2.1 h.2.2.2.2.2
theorem TS.at {s to : Nat} (h : TS pb T I R N1) (hG : LitP N1 105 I) (hs : s < nS N1) (ht : to ≤ 24) : MX3_at 8 0 [.ref 105, .ref (pb + 140 + s), .int (nI to)] T I R J (qR (some (.int (nI (posAt N1 (Lig N1) (hRow N1) s to)))) T I R J) noX := c_X3_at h.2.2.1 h.2.2.2.1 h.2.2.2.2.1 h.2.2.2.2.2 hG hs ht
theorem TS.end (h : TS pb T I R N1) (hG : LitP N1 105 I) {s : Nat} (hs : s < nS N1) : MX3_end 9 0 [.ref 105, .ref (pb + 140 + s)] T I R J (qR (some (.int (nI (endK N1 (posAt N1 (Lig N1) (hRow N1) s 24))))) T I R J) noX := c_X3_end h.2.2.1 h.2.2.2.1 h.2.2.2.2.1 h.2.2.2.2.2 hG hs
theorem c_X1_common {a c : Nat} (ha : a < 2 ^ 31) (hc : c < 2 ^ 31) : MX1_common 0 0 [.int (nI a), .int (nI c)] T I R J (qR (some (.int (nI (Nat.gcd a c)))) T I R J) noX := by
  refine AMet.of (by decide) (Nat.le_of_ble_eq_true rfl) (cats1 rfl) fun cx X E => ?_
  show AW _ _ _ (_ :: _ :: _ :: _ :: _ :: []) _ _ _ _ _
  have lp : ∀ (n x z : Nat) (v4 : Value), z ≤ n → x < 2 ^ 31 → z < 2 ^ 31 → Nat.gcd x z = Nat.gcd a c → AW cx 0 4 [.int (nI a), .int (nI c), .int (nI x), .int (nI z), v4] [] T I R J := by
    intro n
    induction n with
    | zero =>
      intro x z v4 hz hx hz2 hg
      obtain rfl : z = 0 := Nat.le_zero.mp hz
      rw [Nat.gcd_zero_right] at hg
      rw [← hg] at E
      refine AW.iload_n X dX1_common_4 rfl rfl ?_
      refine AW.if_eq X (tgt := 21) dX1_common_5 rfl ?_ ?_
      · intro t5
        refine AW.iload_n X dX1_common_21 rfl rfl ?_
        exact AW.ireturn X E ⟨rfl, rfl, rfl, rfl, rfl⟩ dX1_common_22 
      · intro f5
        exact absurd rfl f5
    | succ n ih =>
      intro x z v4 hz hx hz2 hg
      by_cases h0 : z = 0
      · exact ih x z v4 (by omega) hx hz2 hg
      · have hm : x % z < z := Nat.mod_lt _ (by omega)
        have h9 := ih z (x % z) (.int (nI (x % z))) (by omega) hz2 (by omega) (by rw [← hg, Nat.gcd_comm z (x % z), ← Nat.gcd_rec, Nat.gcd_comm])
        refine AW.iload_n X dX1_common_4 rfl rfl ?_
        refine AW.if_eq X (tgt := 21) dX1_common_5 rfl ?_ ?_
        · intro t5
          exact absurd t5 (nI_ne0 (by omega) hz2)
        · intro f5
          refine AW.iload_n X dX1_common_8 rfl rfl ?_
          refine AW.iload_n X dX1_common_9 rfl rfl ?_
          refine AW.irem X dX1_common_10 (nI_ne0 (by omega) hz2) ?_
          rw [nI_rem hx hz2]
          refine AW.istore4 X dX1_common_11 ?_
          refine AW.iload_n X dX1_common_13 rfl rfl ?_
          refine AW.istore2 X dX1_common_14 ?_
          refine AW.iload X dX1_common_15 rfl ?_
          refine AW.istore3 X dX1_common_17 ?_
          refine AW.goto X (tgt := 4) dX1_common_18 rfl ?_
          exact h9
  refine AW.iload_n X dX1_common_0 rfl rfl ?_
  refine AW.istore2 X dX1_common_1 ?_
  refine AW.iload_n X dX1_common_2 rfl rfl ?_
  refine AW.istore3 X dX1_common_3 ?_
  exact lp c a c _ (Nat.le_refl _) ha hc rfl
/-- how it ends for a ship -/
def nEnd (N : KI) (s : Nat) : Nat := endK N (posAt N (Lig N) (hRow N) s 24)
def upW (N : KI) (s : Nat) : Nat → Int32
  | 0 => 0
  | k + 1 => if nEnd (coldN N (nI k)) s = 2 then upW N s k + N 319 k else upW N s k
def wN (N : KI) : Nat → Nat
  | 0 => 0
  | k + 1 => wN N k + nat N 319 k
theorem wN_b {N : KI} (hN : NOK N) : ∀ k, k ≤ 10 → sumW N k = nI (wN N k) ∧ wN N k ≤ 100 * k
  | 0, _ => ⟨rfl, by unfold wN; omega⟩
  | k + 1, hk => by
    obtain ⟨h1, h2⟩ := wN_b hN k (by omega)
    obtain ⟨e1, e2⟩ := hN.2.2.2.2.2.1 k (by omega)
    unfold sumW wN
    rw [h1, e1, nI_add]
    exact ⟨rfl, by omega⟩
theorem upW_b {N : KI} {s : Nat} (hN : NOK N) : ∀ k, k ≤ 10 → ∃ u, upW N s k = nI u ∧ u ≤ wN N k
  | 0, _ => ⟨0, rfl, Nat.le_refl _⟩
  | k + 1, hk => by
    obtain ⟨u, h1, h2⟩ := upW_b (s := s) hN k (by omega)
    obtain ⟨e1, e2⟩ := hN.2.2.2.2.2.1 k (by omega)
    unfold upW wN
    by_cases hc : nEnd (coldN N (nI k)) s = 2
    · rw [if_pos hc, h1, e1, nI_add]; exact ⟨u + nat N 319 k, rfl, by omega⟩
    · rw [if_neg hc, h1]; exact ⟨u, rfl, by omega⟩
def oddsV (N : KI) (s : Nat) (w : Int32) : Int32 := if sumW N 10 = 0 then w else (if w = 0 then upW N s 10 else sumW N 10) / nI (Nat.gcd (wN N 10) (upW N s 10).toNatClampNeg)
theorem c_X1_odds {s : Nat} {w : Int32} (hX : XS pb T I R N) (hs : s < nS N) (hw : w = 0 ∨ w = 1) : MX1_odds 10 0 [.ref 100, .int (nI s), .int w] T I R J (fun r T' I' R' J' => r = some (.int (oddsV N s w)) ∧ T' = T ∧ J' = J ∧ (∀ a, a ≠ 105 → R' a = R a) ∧ XS pb T I' R' N ∧ FT I I') noX := by
  have hX0 := hX
  obtain ⟨hT, hR, hP, hL, hN, hM, h20, hG⟩ := hX
  have hL0 := hL
  obtain ⟨l1, l2, l3, l4, l5, l6, l7, l8, l9, l10, l11, l12, l13, l14, l15, l16, l17⟩ := hL
  obtain ⟨⟨n1, n2, n3, n4, hnq, hne, hns, hnh⟩, -⟩ := id hN
  have pT0 := hP.T0
  have prQ := hP.rQ
  have prE := hP.rE
  have prS := hP.rS
  have prM := hP.rM
  have prW := hP.rW
  have prHd := hP.rHd
  have prHf := hP.rHf
  have prHt := hP.rHt
  have ptM := hP.tM
  have ptW := hP.tW
  have ptHd := hP.tHd
  have ptHf := hP.tHf
  have ptHt := hP.tHt
  have plQ := hP.lQ.tl
  have plE := hP.lE.tl
  have plS := hP.lS.tl
  obtain ⟨hw1, hw2⟩ := wN_b hN 10 (by omega)
  refine AMet.of (by decide) (Nat.le_of_ble_eq_true rfl) (cats1 rfl) fun cx X E => ?_
  show AW _ _ _ (_ :: _ :: _ :: _ :: _ :: _ :: _ :: []) _ _ _ _ _
  by_cases hz : sumW N 10 = 0
  · skip
    first | refine AW.aload_n X dX1_odds_0 rfl rfl ?_ | refine AW.aloadN_n X dX1_odds_0 rfl rfl ?_
    refine AW.iload_n X dX1_odds_1 rfl rfl ?_
    refine AW.callV_r X (c_X1_shipAt_ok hX0 hs) (ci := 0) (q := (RX1, TX1, 14)) (by first | assumption | exact hT _ _ rfl) rfl s_X1_189_0 (by omega) (Nat.le_of_ble_eq_true rfl) rfl rfl (Nat.le_of_ble_eq_true rfl) dX1_odds_2 ?_
    first | refine AW.astore3 X dX1_odds_5 ?_ | refine AW.astoreN3 X dX1_odds_5 ?_
    refine AW.iload_n X dX1_odds_6 rfl rfl ?_
    refine AW.if_eq X (tgt := 15) dX1_odds_7 rfl ?_ ?_
    · intro t7
      refine AW.iconst X (v := 1) dX1_odds_15 rfl ?_
      refine AW.goto X (tgt := 20) dX1_odds_16 rfl ?_
      refine AW.callS_r X (c_X1_there_ok (by decide)) s_X1_61 (by omega) (Nat.le_of_ble_eq_true rfl) rfl rfl (Nat.le_of_ble_eq_true rfl) dX1_odds_20 ?_
      first | refine AW.aload_n X dX1_odds_23 rfl rfl ?_ | refine AW.aloadN_n X dX1_odds_23 rfl rfl ?_
      refine AW.getR X f_X1_23_0 (by first | assumption | exact hT _ _ rfl) (by first | assumption | exact hR _ _ _ rfl) dX1_odds_24 ?_
      refine AW.getR X f_X1_65_2 (by first | assumption | exact hT _ _ rfl) (by first | assumption | exact hR _ _ _ rfl) dX1_odds_27 ?_
      refine AW.callV_r X (c_X4_weights hP) (ci := 3) (q := (RX4, TX4, 11)) (by first | assumption | exact hT _ _ rfl) rfl s_X1_261_3 (by omega) (Nat.le_of_ble_eq_true rfl) rfl rfl (Nat.le_of_ble_eq_true rfl) dX1_odds_30 ?_
      refine AW.istore4 X dX1_odds_33 ?_
      refine AW.iload X dX1_odds_35 rfl ?_
      refine AW.if_ne X (tgt := 42) dX1_odds_37 rfl ?_ ?_
      · intro t37
        exact absurd hz t37
      · intro f37
        refine AW.iload_n X dX1_odds_40 rfl rfl ?_
        refine AW.ireturn X E ?_ dX1_odds_41 
        exact ⟨by unfold oddsV; rw [if_pos hz], rfl, rfl, fun _ _ => rfl, hX0, FT.rf⟩
    · intro f7
      refine AW.iload_n X dX1_odds_10 rfl rfl ?_
      refine AW.iconst X (v := 1) dX1_odds_11 rfl ?_
      refine AW.icmp_ne X (tgt := 19) dX1_odds_12 rfl ?_ ?_
      · intro t12
        exact absurd hw (fun hc => hc.elim f7 t12)
      · intro f12
        refine AW.iconst X (v := 1) dX1_odds_15 rfl ?_
        refine AW.goto X (tgt := 20) dX1_odds_16 rfl ?_
        refine AW.callS_r X (c_X1_there_ok (by decide)) s_X1_61 (by omega) (Nat.le_of_ble_eq_true rfl) rfl rfl (Nat.le_of_ble_eq_true rfl) dX1_odds_20 ?_
        first | refine AW.aload_n X dX1_odds_23 rfl rfl ?_ | refine AW.aloadN_n X dX1_odds_23 rfl rfl ?_
        refine AW.getR X f_X1_23_0 (by first | assumption | exact hT _ _ rfl) (by first | assumption | exact hR _ _ _ rfl) dX1_odds_24 ?_
        refine AW.getR X f_X1_65_2 (by first | assumption | exact hT _ _ rfl) (by first | assumption | exact hR _ _ _ rfl) dX1_odds_27 ?_
        refine AW.callV_r X (c_X4_weights hP) (ci := 3) (q := (RX4, TX4, 11)) (by first | assumption | exact hT _ _ rfl) rfl s_X1_261_3 (by omega) (Nat.le_of_ble_eq_true rfl) rfl rfl (Nat.le_of_ble_eq_true rfl) dX1_odds_30 ?_
        refine AW.istore4 X dX1_odds_33 ?_
        refine AW.iload X dX1_odds_35 rfl ?_
        refine AW.if_ne X (tgt := 42) dX1_odds_37 rfl ?_ ?_
        · intro t37
          exact absurd hz t37
        · intro f37
          refine AW.iload_n X dX1_odds_40 rfl rfl ?_
          refine AW.ireturn X E ?_ dX1_odds_41 
          exact ⟨by unfold oddsV; rw [if_pos hz], rfl, rfl, fun _ _ => rfl, hX0, FT.rf⟩
  · have lp : ∀ j k (I' : KI) (R' : KR), k + j = 10 → (∀ a, a ≠ 105 → R' a = R a) → XS pb T I' R' N → FT I I' → TS pb T I' R' (coldN N (I' 105 2)) → AW cx 0 59 [.ref 100, .int (nI s), .int w, .ref (pb + 140 + s), .int (sumW N 10), .int (upW N s k), .int (nI k)] [] T I' R' J := by
      intro j
      induction j with
      | zero =>
        intro k I' R' hk hr hx hf ht
        obtain rfl : k = 10 := by omega
        obtain ⟨u, hu, hul⟩ := upW_b (s := s) hN 10 (by omega)
        have hu2 : (upW N s 10).toNatClampNeg = u := by rw [hu]; exact nI_clamp (by omega)
        have hg : oddsV N s w = (if w = 0 then nI u else nI (wN N 10)) / nI (Nat.gcd (wN N 10) u) := by unfold oddsV; rw [if_neg hz, hu2, hu, hw1]
        have hg0 : 0 < Nat.gcd (wN N 10) u := Nat.gcd_pos_of_pos_left _ (Nat.pos_of_ne_zero (fun z => hz (by rw [hw1, z]; rfl)))
        have hg1 : Nat.gcd (wN N 10) u ≤ wN N 10 := Nat.gcd_le_left _ (Nat.pos_of_ne_zero (fun z => hz (by rw [hw1, z]; rfl)))
        rw [hu, hw1]
        refine AW.iload X dX1_odds_59 rfl ?_
        refine AW.bipush X (v := 10) dX1_odds_61 rfl ?_
        refine AW.icmp_ge X (tgt := 118) dX1_odds_63 rfl ?_ ?_
        · intro t63
          refine AW.iload_n X dX1_odds_118 rfl rfl ?_
          refine AW.if_ne X (tgt := 127) dX1_odds_119 rfl ?_ ?_
          · intro t119
            rw [if_neg t119] at hg
            refine AW.iload X dX1_odds_127 rfl ?_
            refine AW.iload X dX1_odds_129 rfl ?_
            refine AW.iload X dX1_odds_131 rfl ?_
            refine AW.callS_r X (c_X1_common (a := wN N 10) (c := u) (by omega) (by omega)) s_X1_264 (by omega) (Nat.le_of_ble_eq_true rfl) rfl rfl (Nat.le_of_ble_eq_true rfl) dX1_odds_133 ?_
            refine AW.idiv X dX1_odds_136 (nI_ne0 hg0 (by omega)) ?_
            refine AW.ireturn X E ?_ dX1_odds_137 
            exact ⟨by rw [hg], rfl, rfl, hr, hx, hf⟩
          · intro f119
            rw [if_pos f119] at hg
            refine AW.iload X dX1_odds_122 rfl ?_
            refine AW.goto X (tgt := 129) dX1_odds_124 rfl ?_
            refine AW.iload X dX1_odds_129 rfl ?_
            refine AW.iload X dX1_odds_131 rfl ?_
            refine AW.callS_r X (c_X1_common (a := wN N 10) (c := u) (by omega) (by omega)) s_X1_264 (by omega) (Nat.le_of_ble_eq_true rfl) rfl rfl (Nat.le_of_ble_eq_true rfl) dX1_odds_133 ?_
            refine AW.idiv X dX1_odds_136 (nI_ne0 hg0 (by omega)) ?_
            refine AW.ireturn X E ?_ dX1_odds_137 
            exact ⟨by rw [hg], rfl, rfl, hr, hx, hf⟩
        · intro f63
          exact absurd (by decide) f63
      | succ j ih =>
        intro k I' R' hk hr hx hf ht
        have hT2 := (ht.cold (c := k) (by omega))
        rw [coldN2] at hT2
        obtain ⟨hT, hR, hP', -⟩ := id hx
        have l2' := hx.2.2.2.1.2.1
        have pW := hP'.rW
        have ptW' := hP'.tW
        have pT0' := hP'.T0
        have hs2 : s < nS (coldN N (nI k)) := by rw [show nS (coldN N (nI k)) = nS N from nat_eq (coldN_P 304 (by omega))]; exact hs
        have nx : ∀ (I2 : KI), FT I' I2 → I2 105 2 = nI k → TS pb T I2 R' (coldN N (nI k)) → AW cx 0 59 [.ref 100, .int (nI s), .int w, .ref (pb + 140 + s), .int (sumW N 10), .int (upW N s (k + 1)), .int (nI (k + 1))] [] T I2 R' J := fun I2 h2 h3 h4 => ih (k + 1) I2 R' (by omega) hr (hx.ft h2) (hf.tr h2) (by rw [h3]; exact h4)
        have hst : upW N s (k + 1) = if endK (coldN N (nI k)) (posAt (coldN N (nI k)) (Lig (coldN N (nI k))) (hRow (coldN N (nI k))) s 24) = 2 then upW N s k + N 319 k else upW N s k := rfl
        refine AW.iload X dX1_odds_59 rfl ?_
        refine AW.bipush X (v := 10) dX1_odds_61 rfl ?_
        refine AW.icmp_ge X (tgt := 118) dX1_odds_63 rfl ?_ ?_
        · intro t63
          exact absurd t63 (nI_ge (a := k) (b := 10) (by omega) (by omega))
        · intro f63
          first | refine AW.aload_n X dX1_odds_66 rfl rfl ?_ | refine AW.aloadN_n X dX1_odds_66 rfl rfl ?_
          refine AW.getR X f_X1_27_0 (by first | assumption | exact hT _ _ rfl) (by first | assumption | exact hR _ _ _ rfl) dX1_odds_67 ?_
          refine AW.iload X dX1_odds_70 rfl ?_
          refine AW.putI X g_X1_odds_129_2 (by omega) (by first | assumption | exact hT _ _ rfl) dX1_odds_72 ?_ 
          first | refine AW.aload_n X dX1_odds_75 rfl rfl ?_ | refine AW.aloadN_n X dX1_odds_75 rfl rfl ?_
          refine AW.getR X f_X1_27_0 (by first | assumption | exact hT _ _ rfl) (by first | assumption | exact hR _ _ _ rfl) dX1_odds_76 ?_
          refine AW.callV_i X (hT2.shines) (ci := 2) (q := (RX3, TX3, 9)) (by first | assumption | exact hT _ _ rfl) rfl s_X1_132_2 (by omega) (Nat.le_of_ble_eq_true rfl) rfl rfl (Nat.le_of_ble_eq_true rfl) dX1_odds_79 ?_
          intro r79 I79 h79
          obtain ⟨rfl, g1, g2⟩ := h79
          have hT3 := hT2.sh g1
          have hN3 := nx I79 (ft_cold.tr g1.ft) (by rw [g1 105 (by decide) (by decide) (by decide), w2_s]) hT3
          first | refine AW.aload_n X dX1_odds_82 rfl rfl ?_ | refine AW.aloadN_n X dX1_odds_82 rfl rfl ?_
          refine AW.getR X f_X1_27_0 (by first | assumption | exact hT _ _ rfl) (by first | assumption | exact hR _ _ _ rfl) dX1_odds_83 ?_
          first | refine AW.aload_n X dX1_odds_86 rfl rfl ?_ | refine AW.aloadN_n X dX1_odds_86 rfl rfl ?_
          refine AW.callV_r X (hT3.end g2 hs2) (ci := 2) (q := (RX3, TX3, 9)) (by first | assumption | exact hT _ _ rfl) rfl s_X1_240_2 (by omega) (Nat.le_of_ble_eq_true rfl) rfl rfl (Nat.le_of_ble_eq_true rfl) dX1_odds_87 ?_
          refine AW.iconst X (v := 2) dX1_odds_90 rfl ?_
          refine AW.icmp_ne X (tgt := 112) dX1_odds_91 rfl ?_ ?_
          · intro t91
            rw [hst, if_neg (fun hc => t91 (congrArg nI hc))] at hN3
            refine AW.iinc6 X (v := _ + 1) dX1_odds_112 rfl ?_
            refine AW.goto X (tgt := 59) dX1_odds_115 rfl ?_
            rw [nI_1]; exact hN3
          · intro f91
            rw [hst, if_pos ((nI_eq (b := 2) (by have := endK_le (coldN N (nI k)) (posAt (coldN N (nI k)) (Lig (coldN N (nI k))) (hRow (coldN N (nI k))) s 24); omega) (by omega)).mp f91)] at hN3
            refine AW.iload X dX1_odds_94 rfl ?_
            first | refine AW.aload_n X dX1_odds_96 rfl rfl ?_ | refine AW.aloadN_n X dX1_odds_96 rfl rfl ?_
            refine AW.getR X f_X1_23_0 (by first | assumption | exact hT _ _ rfl) (by first | assumption | exact hR _ _ _ rfl) dX1_odds_97 ?_
            refine AW.getR X f_X1_65_2 (by first | assumption | exact hT _ _ rfl) (by first | assumption | exact hR _ _ _ rfl) dX1_odds_100 ?_
            refine AW.getR X f_X1_145_3 (by first | assumption | exact hT _ _ rfl) (by first | assumption | exact hR _ _ _ rfl) dX1_odds_103 ?_
            refine AW.iload X dX1_odds_106 rfl ?_
            refine AW.iald X (by first | assumption | exact hT _ _ rfl) (by repeat (first | with_reducible exact rfl | assumption | exact ix_l _ | apply ix_add | apply ix_mul)) (by omega) dX1_odds_108 ?_
            rw [((hP'.keep (fun a ha => (ft_cold.tr g1.ft) a (by omega) (by omega)))).wgt (by omega)]
            refine AW.iadd X dX1_odds_109 ?_
            refine AW.istore5 X dX1_odds_110 ?_
            refine AW.iinc6 X (v := _ + 1) dX1_odds_112 rfl ?_
            refine AW.goto X (tgt := 59) dX1_odds_115 rfl ?_
            rw [nI_1]; exact hN3
    first | refine AW.aload_n X dX1_odds_0 rfl rfl ?_ | refine AW.aloadN_n X dX1_odds_0 rfl rfl ?_
    refine AW.iload_n X dX1_odds_1 rfl rfl ?_
    refine AW.callV_r X (c_X1_shipAt_ok hX0 hs) (ci := 0) (q := (RX1, TX1, 14)) (by first | assumption | exact hT _ _ rfl) rfl s_X1_189_0 (by omega) (Nat.le_of_ble_eq_true rfl) rfl rfl (Nat.le_of_ble_eq_true rfl) dX1_odds_2 ?_
    first | refine AW.astore3 X dX1_odds_5 ?_ | refine AW.astoreN3 X dX1_odds_5 ?_
    refine AW.iload_n X dX1_odds_6 rfl rfl ?_
    refine AW.if_eq X (tgt := 15) dX1_odds_7 rfl ?_ ?_
    · intro t7
      refine AW.iconst X (v := 1) dX1_odds_15 rfl ?_
      refine AW.goto X (tgt := 20) dX1_odds_16 rfl ?_
      refine AW.callS_r X (c_X1_there_ok (by decide)) s_X1_61 (by omega) (Nat.le_of_ble_eq_true rfl) rfl rfl (Nat.le_of_ble_eq_true rfl) dX1_odds_20 ?_
      first | refine AW.aload_n X dX1_odds_23 rfl rfl ?_ | refine AW.aloadN_n X dX1_odds_23 rfl rfl ?_
      refine AW.getR X f_X1_23_0 (by first | assumption | exact hT _ _ rfl) (by first | assumption | exact hR _ _ _ rfl) dX1_odds_24 ?_
      refine AW.getR X f_X1_65_2 (by first | assumption | exact hT _ _ rfl) (by first | assumption | exact hR _ _ _ rfl) dX1_odds_27 ?_
      refine AW.callV_r X (c_X4_weights hP) (ci := 3) (q := (RX4, TX4, 11)) (by first | assumption | exact hT _ _ rfl) rfl s_X1_261_3 (by omega) (Nat.le_of_ble_eq_true rfl) rfl rfl (Nat.le_of_ble_eq_true rfl) dX1_odds_30 ?_
      refine AW.istore4 X dX1_odds_33 ?_
      refine AW.iload X dX1_odds_35 rfl ?_
      refine AW.if_ne X (tgt := 42) dX1_odds_37 rfl ?_ ?_
      · intro t37
        first | refine AW.aload_n X dX1_odds_42 rfl rfl ?_ | refine AW.aloadN_n X dX1_odds_42 rfl rfl ?_
        refine AW.getR X f_X1_27_0 (by first | assumption | exact hT _ _ rfl) (by first | assumption | exact hR _ _ _ rfl) dX1_odds_43 ?_
        first | refine AW.aload_n X dX1_odds_46 rfl rfl ?_ | refine AW.aloadN_n X dX1_odds_46 rfl rfl ?_
        refine AW.getR X f_X1_23_0 (by first | assumption | exact hT _ _ rfl) (by first | assumption | exact hR _ _ _ rfl) dX1_odds_47 ?_
        refine AW.callV_0 X (c_X3_like (la := 105) (lb := 103) hT hR (by omega) (by omega) (by omega) hL0 (by omega)) (ci := 2) (q := (RX3, TX3, 9)) (by first | assumption | exact hT _ _ rfl) rfl s_X1_257_2 (by omega) (Nat.le_of_ble_eq_true rfl) rfl rfl (Nat.le_of_ble_eq_true rfl) dX1_odds_50 ?_ ?_
        rotate_left
        · intro _ _ _ _ _ h; exact h.elim
        intro r50 T50 I50 R50 J50 h50
        obtain ⟨rfl, rfl, rfl, rfl, g1, g2⟩ := h50
        have hf : FT I I50 := fun a a1 a2 => g1 a a1 (by unfold lA; omega) (by unfold lA; omega) (by unfold lA; omega)
        refine AW.iconst X (v := 0) dX1_odds_53 rfl ?_
        refine AW.istore5 X dX1_odds_54 ?_
        refine AW.iconst X (v := 0) dX1_odds_56 rfl ?_
        refine AW.istore6 X dX1_odds_57 ?_
        refine lp 10 0 I50 _ rfl (fun a ha => w2_r ha) ((hX0.ft hf).wR pb) hf ?_
        have h45 : coldN N (I50 105 2) = N := by
          rw [g2.2.2.2.2.2.2.2.2.2.2.2.2.2.2.2.1]
          funext x k
          unfold coldN w2 row
          by_cases hx : x = 200
          · subst hx
            by_cases hk : k = 45 <;> simp [hk]
          · simp [hx]
        rw [h45]
        exact TS.of ((hX0.ft hf).wR pb) g2 (fun _ _ _ => rfl) hM
      · intro f37
        exact absurd f37 hz
    · intro f7
      refine AW.iload_n X dX1_odds_10 rfl rfl ?_
      refine AW.iconst X (v := 1) dX1_odds_11 rfl ?_
      refine AW.icmp_ne X (tgt := 19) dX1_odds_12 rfl ?_ ?_
      · intro t12
        exact absurd hw (fun hc => hc.elim f7 t12)
      · intro f12
        refine AW.iconst X (v := 1) dX1_odds_15 rfl ?_
        refine AW.goto X (tgt := 20) dX1_odds_16 rfl ?_
        refine AW.callS_r X (c_X1_there_ok (by decide)) s_X1_61 (by omega) (Nat.le_of_ble_eq_true rfl) rfl rfl (Nat.le_of_ble_eq_true rfl) dX1_odds_20 ?_
        first | refine AW.aload_n X dX1_odds_23 rfl rfl ?_ | refine AW.aloadN_n X dX1_odds_23 rfl rfl ?_
        refine AW.getR X f_X1_23_0 (by first | assumption | exact hT _ _ rfl) (by first | assumption | exact hR _ _ _ rfl) dX1_odds_24 ?_
        refine AW.getR X f_X1_65_2 (by first | assumption | exact hT _ _ rfl) (by first | assumption | exact hR _ _ _ rfl) dX1_odds_27 ?_
        refine AW.callV_r X (c_X4_weights hP) (ci := 3) (q := (RX4, TX4, 11)) (by first | assumption | exact hT _ _ rfl) rfl s_X1_261_3 (by omega) (Nat.le_of_ble_eq_true rfl) rfl rfl (Nat.le_of_ble_eq_true rfl) dX1_odds_30 ?_
        refine AW.istore4 X dX1_odds_33 ?_
        refine AW.iload X dX1_odds_35 rfl ?_
        refine AW.if_ne X (tgt := 42) dX1_odds_37 rfl ?_ ?_
        · intro t37
          first | refine AW.aload_n X dX1_odds_42 rfl rfl ?_ | refine AW.aloadN_n X dX1_odds_42 rfl rfl ?_
          refine AW.getR X f_X1_27_0 (by first | assumption | exact hT _ _ rfl) (by first | assumption | exact hR _ _ _ rfl) dX1_odds_43 ?_
          first | refine AW.aload_n X dX1_odds_46 rfl rfl ?_ | refine AW.aloadN_n X dX1_odds_46 rfl rfl ?_
          refine AW.getR X f_X1_23_0 (by first | assumption | exact hT _ _ rfl) (by first | assumption | exact hR _ _ _ rfl) dX1_odds_47 ?_
          refine AW.callV_0 X (c_X3_like (la := 105) (lb := 103) hT hR (by omega) (by omega) (by omega) hL0 (by omega)) (ci := 2) (q := (RX3, TX3, 9)) (by first | assumption | exact hT _ _ rfl) rfl s_X1_257_2 (by omega) (Nat.le_of_ble_eq_true rfl) rfl rfl (Nat.le_of_ble_eq_true rfl) dX1_odds_50 ?_ ?_
          rotate_left
          · intro _ _ _ _ _ h; exact h.elim
          intro r50 T50 I50 R50 J50 h50
          obtain ⟨rfl, rfl, rfl, rfl, g1, g2⟩ := h50
          have hf : FT I I50 := fun a a1 a2 => g1 a a1 (by unfold lA; omega) (by unfold lA; omega) (by unfold lA; omega)
          refine AW.iconst X (v := 0) dX1_odds_53 rfl ?_
          refine AW.istore5 X dX1_odds_54 ?_
          refine AW.iconst X (v := 0) dX1_odds_56 rfl ?_
          refine AW.istore6 X dX1_odds_57 ?_
          refine lp 10 0 I50 _ rfl (fun a ha => w2_r ha) ((hX0.ft hf).wR pb) hf ?_
          have h45 : coldN N (I50 105 2) = N := by
            rw [g2.2.2.2.2.2.2.2.2.2.2.2.2.2.2.2.1]
            funext x k
            unfold coldN w2 row
            by_cases hx : x = 200
            · subst hx
              by_cases hk : k = 45 <;> simp [hk]
            · simp [hx]
          rw [h45]
          exact TS.of ((hX0.ft hf).wR pb) g2 (fun _ _ _ => rfl) hM
        · intro f37
          exact absurd f37 hz
end TR
