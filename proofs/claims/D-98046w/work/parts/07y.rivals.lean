/-! 07y: rivals (written by src/gen07y.py and src/walk.py) -/
set_option maxRecDepth 100000
set_option maxHeartbeats 4000000
def rvN (N : KI) (h x y : Nat) : KI := livN (livN N x h) y h
def gA (N : KI) (h x y : Nat) : Int32 := gnS N (rvN N h x y) 0 (if x = 0 then 0 else -N 304 4) (nS N)
def gB (N : KI) (h x y : Nat) : Int32 := gnS N (rvN N h x y) 1 (if y = 0 then 0 else -N 304 4) (nS N)
abbrev mayP (N : KI) (x y : Nat) : Prop := hisP N x 0 ∧ hisP N y 1
abbrev restP (N : KI) (h x y n : Nat) : Prop := ∀ c, c < n → ¬ (hisP N c 0 ∧ gA N h x y < gA N h c y) ∧ ¬ (hisP N c 1 ∧ gB N h x y < gB N h x c)
def rvS (N : KI) (h m : Nat) : Nat → Int32 × Int32
  | 0 => (0, -1)
  | k + 1 => if mayP N (k / m) (k % m) ∧ restP N h (k / m) (k % m) m then ((rvS N h m k).1 + 1, if (rvS N h m k).2 = -1 then nI (8 * (k / m) + k % m) else (rvS N h m k).2) else rvS N h m k
def FV (I I' : KI) : Prop := ∀ a, a ≠ 105 → a ≠ 109 → (a < 153 ∨ 158 < a) → I' a = I a
theorem FV.rf {I : KI} : FV I I := fun _ _ _ _ => rfl
theorem FV.tr {I I1 I2 : KI} (h : FV I I1) (h2 : FV I1 I2) : FV I I2 := fun a a1 a2 a3 => (h2 a a1 a2 a3).trans (h a a1 a2 a3)
theorem FT.fv {I I' : KI} (h : FT I I') : FV I I' := fun a a1 _ a3 => h a a1 a3
theorem XS.fv {pb : Nat} {T : KT} {I I' : KI} {R : KR} {N : KI} (hX : XS pb T I R N) (hf : FV I I') : XS pb T I' R N := by
  obtain ⟨x1, x2, x3, x4, x5, x6, x7, x8, x9⟩ := hX
  have e : ∀ k, 3 ≤ k → k ≤ 8 → I' (lA 103 k) = I (lA 103 k) := fun k h1 h2 => hf _ (by unfold lA; omega) (by unfold lA; omega) (by unfold lA; omega)
  refine ⟨x1, x2, x3.keep (fun a ha => hf a (by omega) (by omega) (by omega)), x4.keep (hf _ (by omega) (by omega) (by omega)) (e 3 (by omega) (by omega)) (e 4 (by omega) (by omega)) (e 5 (by omega) (by omega)), x5, x6, x7, ?_, ?_⟩
  · intro a h ha hh
    rw [e 6 (by omega) (by omega), e 7 (by omega) (by omega)]
    exact x8 a h ha hh
  · intro q h hq hh
    rw [e 8 (by omega) (by omega)]
    exact x9 q h hq hh
theorem livN_P {N : KI} {c h : Nat} : ∀ a, 304 ≤ a → a ≤ 322 → livN N c h a = N a := fun a h1 h2 => by
  unfold livN
  split
  · rfl
  · exact addN_P a h1 h2
theorem livN_M {N : KI} {c h : Nat} (hm : nM N < 26) : nM (livN N c h) ≤ nM N + 1 := by
  unfold livN
  split
  · omega
  · rw [addN_M hm]; omega
section RVS
variable {pb B : Nat} {T : KT} {I : KI} {R : KR} {J : KJ} {N N1 : KI}
theorem c_X1_rivals_bad {e w : Int32} (hT : XT T) (hR : XRf R) (h1 : 100 ≤ B) (h0 : (T B).1 = 0) (hb : ¬ ((0 ≤ e ∧ e ≤ 23) ∧ (w = 0 ∨ w = 1))) : MX1_rivals 10 2 [.ref 100, .int e, .int w] T I R J noQ (qX 22 B T I R J) := by
  refine AMet.of (by decide) (Nat.le_of_ble_eq_true rfl) (cats1 rfl) fun cx X E => ?_
  show AW _ _ _ (_ :: _ :: _ :: _ :: _ :: _ :: _ :: _ :: _ :: []) _ _ _ _ _
  by_cases hi : 0 ≤ e ∧ e ≤ 23
  · skip
    refine AW.iload_n X dX1_rivals_0 rfl rfl ?_
    refine AW.callS_r X (c_X1_hourAt_ok hi) s_X1_201 (by omega) (Nat.le_of_ble_eq_true rfl) rfl rfl (Nat.le_of_ble_eq_true rfl) dX1_rivals_1 ?_
    refine AW.iload_n X dX1_rivals_4 rfl rfl ?_
    refine AW.if_eq X (tgt := 13) dX1_rivals_5 rfl ?_ ?_
    · intro t5
      exact absurd ⟨hi, Or.inl t5⟩ hb
    · intro f5
      refine AW.iload_n X dX1_rivals_8 rfl rfl ?_
      refine AW.iconst X (v := 1) dX1_rivals_9 rfl ?_
      refine AW.icmp_ne X (tgt := 17) dX1_rivals_10 rfl ?_ ?_
      · intro t10
        refine AW.iconst X (v := 0) dX1_rivals_17 rfl ?_
        exact AW.callS (b := 0) (bc := 2) X (c_X1_there_bad h1 h0) s_X1_61 (by omega) (Nat.le_of_ble_eq_true rfl) rfl rfl (Nat.le_of_ble_eq_true rfl) dX1_rivals_18 (fun _ _ _ _ _ h => h.elim) (AX.thru X E (by omega) rfl (fun _ h => nomatch h))
      · intro f10
        exact absurd ⟨hi, Or.inr f10⟩ hb
  · skip
    refine AW.iload_n X dX1_rivals_0 rfl rfl ?_
    exact AW.callS (b := 0) (bc := 2) X (c_X1_hourAt_bad h1 h0 hi) s_X1_201 (by omega) (Nat.le_of_ble_eq_true rfl) rfl rfl (Nat.le_of_ble_eq_true rfl) dX1_rivals_1 (fun _ _ _ _ _ h => h.elim) (AX.thru X E (by omega) rfl (fun _ h => nomatch h))
theorem c_X1_rivals {h : Nat} {w : Int32} (hX : XS pb T I R N) (hh : h < 24) (hw : w = 0 ∨ w = 1) : MX1_rivals 10 0 [.ref 100, .int (nI h), .int w] T I R J (fun r T' I' R' J' => r = some (.int (if w = 0 then (rvS N h (nE N + 1) ((nE N + 1) * (nE N + 1))).1 else (rvS N h (nE N + 1) ((nE N + 1) * (nE N + 1))).2)) ∧ T' = T ∧ J' = J ∧ (∀ a, a ≠ 105 → R' a = R a) ∧ XS pb T I' R' N ∧ FV I I') noX := by
  have hX0 := hX
  obtain ⟨hT, hR, hP, hL, hN, hM, h20, hG⟩ := hX
  have hL0 := hL
  obtain ⟨l1, l2, l3, l4, l5, l6, l7, l8, l9, l10, l11, l12, l13, l14, l15, l16, l17⟩ := hL
  obtain ⟨⟨n1, n2, n3, n4, hnq, hne, hns, hnh⟩, -⟩ := id hN
  have pT0 := hP.T0
  have prQ := hP.rQ
  have prE := hP.rE
  have prS := hP.rS
  have prM := hP.rM
  have prW := hP.rW
  have prHd := hP.rHd
  have prHf := hP.rHf
  have prHt := hP.rHt
  have ptM := hP.tM
  have ptW := hP.tW
  have ptHd := hP.tHd
  have ptHf := hP.tHf
  have ptHt := hP.tHt
  have plQ := hP.lQ.tl
  have plE := hP.lE.tl
  have plS := hP.lS.tl
  obtain ⟨m, hm⟩ : ∃ m, m = nE N + 1 := ⟨_, rfl⟩
  rw [← hm]
  have hm7 : m ≤ 7 := by omega
  have hm0 : 0 < m := by omega
  have hmm : m * m ≤ 49 := Nat.mul_le_mul hm7 hm7
  have hdv : ∀ k, k < m * m → k / m < m := fun k hk => Nat.div_lt_of_lt_mul hk
  have hmd : ∀ k, k % m < m := fun k => Nat.mod_lt k hm0
  have hnm : ¬ nI m = 0 := nI_ne0 hm0 (by omega)
  refine AMet.of (by decide) (Nat.le_of_ble_eq_true rfl) (cats1 rfl) fun cx X E => ?_
  show AW _ _ _ (_ :: _ :: _ :: _ :: _ :: _ :: _ :: _ :: _ :: []) _ _ _ _ _
  -- the second walk: what rests
  have l2' : ∀ (I1 : KI) (R1 : KR), (∀ a, a ≠ 105 → R1 a = R a) → XS pb T I1 R1 N → FV I I1 → (∀ k, k < m * m → mayP N (k / m) (k % m) → I1 109 (2 * k) = gA N h (k / m) (k % m) ∧ I1 109 (2 * k + 1) = gB N h (k / m) (k % m)) → ∀ j k (v7 v8 : Value), k + j = m * m → AW cx 0 190 [.ref 100, .int (nI h), .int w, .int (nI m), .int (rvS N h m k).1, .int (rvS N h m k).2, .int (nI k), v7, v8] [] T I1 R1 J := by
    intro I1 R1 hr hx hf hg j
    obtain ⟨hT, hR, hP1, -⟩ := id hx
    have gat : ∀ x y, x < m → y < m → mayP N x y → I1 109 (2 * (m * x + y)) = gA N h x y ∧ I1 109 (2 * (m * x + y) + 1) = gB N h x y := fun x y hx hy hxy => by
      have e1 : (m * x + y) / m = x := by rw [Nat.mul_add_div hm0, Nat.div_eq_of_lt hy, Nat.add_zero]
      have e2 : (m * x + y) % m = y := by rw [Nat.mul_add_mod, Nat.mod_eq_of_lt hy]
      have hlt : m * x + y < m * m := by
        have : m * x + m ≤ m * m := by rw [← Nat.mul_succ]; exact Nat.mul_le_mul_left m hx
        omega
      have := hg (m * x + y) hlt (by rw [e1, e2]; exact hxy)
      rw [e1, e2] at this
      exact this
    induction j with
    | zero =>
      intro k v7 v8 hk
      obtain rfl : k = m * m := by omega
      refine AW.iload X dX1_rivals_190 rfl ?_
      refine AW.iload_n X dX1_rivals_192 rfl rfl ?_
      refine AW.iload_n X dX1_rivals_193 rfl rfl ?_
      refine AW.imul X dX1_rivals_194 ?_
      rw [nI_mul]
      refine AW.icmp_ge X (tgt := 367) dX1_rivals_195 rfl ?_ ?_
      · intro t195
        refine AW.iload_n X dX1_rivals_367 rfl rfl ?_
        refine AW.if_ne X (tgt := 376) dX1_rivals_368 rfl ?_ ?_
        · intro t368
          rw [if_neg t368] at E
          refine AW.iload X dX1_rivals_376 rfl ?_
          refine AW.ireturn X E ?_ dX1_rivals_378 
          exact ⟨rfl, rfl, rfl, hr, hx, hf⟩
        · intro f368
          rw [if_pos f368] at E
          refine AW.iload X dX1_rivals_371 rfl ?_
          refine AW.goto X (tgt := 378) dX1_rivals_373 rfl ?_
          refine AW.ireturn X E ?_ dX1_rivals_378 
          exact ⟨rfl, rfl, rfl, hr, hx, hf⟩
      · intro f195
        exact absurd (Int32.le_refl _) f195
    | succ j ih =>
      intro k v7 v8 hk
      have hkm : k < m * m := by omega
      have hx_ := hdv k hkm
      have hy_ := hmd k
      have hks : m * (k / m) + k % m = k := Nat.div_add_mod k m
      have hstep : rvS N h m (k + 1) = if mayP N (k / m) (k % m) ∧ restP N h (k / m) (k % m) m then ((rvS N h m k).1 + 1, if (rvS N h m k).2 = -1 then nI (8 * (k / m) + k % m) else (rvS N h m k).2) else rvS N h m k := rfl
      have rst : mayP N (k / m) (k % m) → ∀ i c (z : Bool) (_ : z = decide (restP N h (k / m) (k % m) c)), c + i = m → AW cx 0 231 [.ref 100, .int (nI h), .int w, .int (nI m), .int (rvS N h m k).1, .int (rvS N h m k).2, .int (nI k), .int (bI (z = true)), .int (nI c)] [] T I1 R1 J := by
        intro hmay i
        obtain ⟨gk1, gk2⟩ := hg k hkm hmay
        induction i with
        | zero =>
          intro c z hz hc
          obtain rfl : c = m := by omega
          have hE := ih (k + 1) (.int (bI (z = true))) (.int (nI c)) (by omega)
          by_cases hrr : restP N h (k / c) (k % c) c
          · rw [hstep, if_pos ⟨hmay, hrr⟩] at hE
            have hz1 : z = true := by rw [hz]; exact decide_eq_true hrr
            have e9 : bI (z = true) = 1 := bI_t hz1
            rw [e9] at hE ⊢
            dsimp only at hE
            refine AW.iload X dX1_rivals_231 rfl ?_
            refine AW.iload_n X dX1_rivals_233 rfl rfl ?_
            refine AW.icmp_ge X (tgt := 330) dX1_rivals_234 rfl ?_ ?_
            · intro t234
              refine AW.iload X dX1_rivals_330 rfl ?_
              refine AW.if_ne X (tgt := 338) dX1_rivals_332 rfl ?_ ?_
              · intro t332
                refine AW.iinc4 X (v := _ + 1) dX1_rivals_338 rfl ?_
                refine AW.iload X dX1_rivals_341 rfl ?_
                refine AW.iconst X (v := -1) dX1_rivals_343 rfl ?_
                refine AW.icmp_ne X (tgt := 361) dX1_rivals_344 rfl ?_ ?_
                · intro t344
                  rw [if_neg t344] at hE
                  refine AW.iinc6 X (v := _ + 1) dX1_rivals_361 rfl ?_
                  refine AW.goto X (tgt := 190) dX1_rivals_364 rfl ?_
                  rw [nI_1]; exact hE
                · intro f344
                  rw [if_pos f344] at hE
                  refine AW.bipush X (v := 8) dX1_rivals_347 rfl ?_
                  refine AW.iload X dX1_rivals_349 rfl ?_
                  refine AW.iload_n X dX1_rivals_351 rfl rfl ?_
                  refine AW.idiv X dX1_rivals_352 (hnm) ?_
                  rw [nI_div (by omega) (by omega), show (8 : Int32) = nI 8 from rfl]
                  refine AW.imul X dX1_rivals_353 ?_
                  refine AW.iload X dX1_rivals_354 rfl ?_
                  refine AW.iload_n X dX1_rivals_356 rfl rfl ?_
                  refine AW.irem X dX1_rivals_357 (hnm) ?_
                  rw [nI_rem (by omega) (by omega), nI_mul]
                  refine AW.iadd X dX1_rivals_358 ?_
                  rw [nI_add]
                  refine AW.istore5 X dX1_rivals_359 ?_
                  refine AW.iinc6 X (v := _ + 1) dX1_rivals_361 rfl ?_
                  refine AW.goto X (tgt := 190) dX1_rivals_364 rfl ?_
                  rw [nI_1]; exact hE
              · intro f332
                exact absurd f332 (by decide)
            · intro f234
              exact absurd (Int32.le_refl _) f234
          · rw [hstep, if_neg (fun q => hrr q.2)] at hE
            have hz1 : ¬ z = true := by rw [hz]; exact fun q => hrr (of_decide_eq_true q)
            have e9 : bI (z = true) = 0 := bI_f hz1
            rw [e9] at hE ⊢
            refine AW.iload X dX1_rivals_231 rfl ?_
            refine AW.iload_n X dX1_rivals_233 rfl rfl ?_
            refine AW.icmp_ge X (tgt := 330) dX1_rivals_234 rfl ?_ ?_
            · intro t234
              refine AW.iload X dX1_rivals_330 rfl ?_
              refine AW.if_ne X (tgt := 338) dX1_rivals_332 rfl ?_ ?_
              · intro t332
                exact absurd rfl t332
              · intro f332
                refine AW.goto X (tgt := 361) dX1_rivals_335 rfl ?_
                refine AW.iinc6 X (v := _ + 1) dX1_rivals_361 rfl ?_
                refine AW.goto X (tgt := 190) dX1_rivals_364 rfl ?_
                rw [nI_1]; exact hE
            · intro f234
              exact absurd (Int32.le_refl _) f234
        | succ i ih3 =>
          intro c z hz hc
          have hcE : c ≤ nE N := by omega
          have bnd : ∀ x y, x < m → y < m → m * x + y < 49 := fun x y hx hy => by
            have : m * x + m ≤ m * m := by rw [← Nat.mul_succ]; exact Nat.mul_le_mul_left m hx
            omega
          have b1 := bnd c (k % m) (by omega) hy_
          have b2 := bnd (k / m) c hx_ (by omega)
          have hsub : nI k - nI (k % m) = nI (m * (k / m)) := by rw [nI_sub (by omega)]; congr 1; omega
          have nx : ∀ z', z' = decide (restP N h (k / m) (k % m) (c + 1)) → AW cx 0 231 [.ref 100, .int (nI h), .int w, .int (nI m), .int (rvS N h m k).1, .int (rvS N h m k).2, .int (nI k), .int (bI (z' = true)), .int (nI (c + 1))] [] T I1 R1 J := fun z' hz' => ih3 (c + 1) z' hz' (by omega)
          have rs : ∀ {P Q : Prop} [Decidable P] [Decidable Q], (P ↔ ¬ (hisP N c 0 ∧ gA N h (k / m) (k % m) < gA N h c (k % m))) → (Q ↔ ¬ (hisP N c 1 ∧ gB N h (k / m) (k % m) < gB N h (k / m) c)) → decide (restP N h (k / m) (k % m) (c + 1)) = (z && (decide P && decide Q)) := fun {P Q} _ _ hP hQ => by
            rw [hz]
            apply Bool.eq_iff_iff.mpr
            simp only [decide_eq_true_eq, Bool.and_eq_true]
            constructor
            · intro ha
              exact ⟨fun c' hc' => ha c' (by omega), hP.mpr (ha c (by omega)).1, hQ.mpr (ha c (by omega)).2⟩
            · intro ⟨ha, hp, hq⟩ c' hc'
              rcases Nat.lt_or_eq_of_le (Nat.le_of_lt_succ hc') with hl | rfl
              · exact ha c' hl
              · exact ⟨hP.mp hp, hQ.mp hq⟩
          have hkI : ∀ x y, x < m → y < m → m * x + y < 49 := bnd
          have hN3 := nx _ (rs Iff.rfl Iff.rfl).symm
          have mid : ∀ v, v = bI ((z && decide (¬ (hisP N c 0 ∧ gA N h (k / m) (k % m) < gA N h c (k % m)))) = true) → AW cx 0 278 [.ref 100, .int (nI h), .int w, .int (nI m), .int (rvS N h m k).1, .int (rvS N h m k).2, .int (nI k), .int v, .int (nI c)] [] T I1 R1 J := by
            intro v hv
            rw [← Bool.and_assoc] at hN3
            have q1 : ¬ (hisP N c 1 ∧ gB N h (k / m) (k % m) < gB N h (k / m) c) → AW cx 0 231 [.ref 100, .int (nI h), .int w, .int (nI m), .int (rvS N h m k).1, .int (rvS N h m k).2, .int (nI k), .int v, .int (nI (c + 1))] [] T I1 R1 J := fun hq => by
              rw [decide_eq_true hq, Bool.and_true, ← hv] at hN3; exact hN3
            have q0 : (hisP N c 1 ∧ gB N h (k / m) (k % m) < gB N h (k / m) c) → AW cx 0 231 [.ref 100, .int (nI h), .int w, .int (nI m), .int (rvS N h m k).1, .int (rvS N h m k).2, .int (nI k), .int 0, .int (nI (c + 1))] [] T I1 R1 J := fun hq => by
              rw [decide_eq_false (show ¬ ¬ (hisP N c 1 ∧ gB N h (k / m) (k % m) < gB N h (k / m) c) from fun z => z hq), Bool.and_false] at hN3; exact hN3
            first | refine AW.aload_n X dX1_rivals_278 rfl rfl ?_ | refine AW.aloadN_n X dX1_rivals_278 rfl rfl ?_
            refine AW.iload X dX1_rivals_279 rfl ?_
            refine AW.iconst X (v := 1) dX1_rivals_281 rfl ?_
            refine AW.callV_r X (c_X1_isHis hx hcE) (ci := 0) (q := (RX1, TX1, 14)) (by first | assumption | exact hT _ _ rfl) rfl s_X1_280_0 (by omega) (Nat.le_of_ble_eq_true rfl) rfl rfl (Nat.le_of_ble_eq_true rfl) dX1_rivals_282 ?_
            refine AW.if_eq X (tgt := 324) dX1_rivals_285 rfl ?_ ?_
            · intro t285
              refine AW.iinc8 X (v := _ + 1) dX1_rivals_324 rfl ?_
              refine AW.goto X (tgt := 231) dX1_rivals_327 rfl ?_
              rw [nI_1]
              first
                | exact q1 (fun z => (bI_z.mp t285) z.1)
                | exact q1 (fun z => absurd z.2 (Int32.not_lt.mpr t318))
                | exact q0 ⟨Decidable.of_not_not fun z => f285 (bI_z.mpr z), Int32.not_le.mp f318⟩
            · intro f285
              first | refine AW.aload_n X dX1_rivals_288 rfl rfl ?_ | refine AW.aloadN_n X dX1_rivals_288 rfl rfl ?_
              refine AW.getR X f_X1_48_0 (by first | assumption | exact hT _ _ rfl) (by first | assumption | exact hR _ _ _ rfl) dX1_rivals_289 ?_
              refine AW.iconst X (v := 2) dX1_rivals_292 rfl ?_
              refine AW.iload X dX1_rivals_293 rfl ?_
              refine AW.iload X dX1_rivals_295 rfl ?_
              refine AW.iload_n X dX1_rivals_297 rfl rfl ?_
              refine AW.irem X dX1_rivals_298 (hnm) ?_
              rw [nI_rem (by omega) (by omega)]
              refine AW.isub X dX1_rivals_299 ?_
              rw [hsub]
              refine AW.iload X dX1_rivals_300 rfl ?_
              refine AW.iadd X dX1_rivals_302 ?_
              rw [nI_add]
              refine AW.imul X dX1_rivals_303 ?_
              refine AW.iconst X (v := 1) dX1_rivals_304 rfl ?_
              refine AW.iadd X dX1_rivals_305 ?_
              refine AW.iald X (j := 2 * (m * (k / m) + c) + 1) (by first | assumption | exact hT _ _ rfl) (by rw [show (2 : Int32) = nI 2 from rfl, show (1 : Int32) = nI 1 from rfl, nI_mul, nI_add]) (by omega) dX1_rivals_306 ?_
              rw [(gat (k / m) c hx_ (by omega) ⟨hmay.1, Decidable.of_not_not fun z => f285 (bI_z.mpr z)⟩).2]
              first | refine AW.aload_n X dX1_rivals_307 rfl rfl ?_ | refine AW.aloadN_n X dX1_rivals_307 rfl rfl ?_
              refine AW.getR X f_X1_48_0 (by first | assumption | exact hT _ _ rfl) (by first | assumption | exact hR _ _ _ rfl) dX1_rivals_308 ?_
              refine AW.iconst X (v := 2) dX1_rivals_311 rfl ?_
              refine AW.iload X dX1_rivals_312 rfl ?_
              refine AW.imul X dX1_rivals_314 ?_
              refine AW.iconst X (v := 1) dX1_rivals_315 rfl ?_
              refine AW.iadd X dX1_rivals_316 ?_
              refine AW.iald X (j := 2 * k + 1) (by first | assumption | exact hT _ _ rfl) (by rw [show (2 : Int32) = nI 2 from rfl, show (1 : Int32) = nI 1 from rfl, nI_mul, nI_add]) (by omega) dX1_rivals_317 ?_
              rw [gk2]
              refine AW.icmp_le X (tgt := 324) dX1_rivals_318 rfl ?_ ?_
              · intro t318
                refine AW.iinc8 X (v := _ + 1) dX1_rivals_324 rfl ?_
                refine AW.goto X (tgt := 231) dX1_rivals_327 rfl ?_
                rw [nI_1]
                first
                  | exact q1 (fun z => (bI_z.mp t285) z.1)
                  | exact q1 (fun z => absurd z.2 (Int32.not_lt.mpr t318))
                  | exact q0 ⟨Decidable.of_not_not fun z => f285 (bI_z.mpr z), Int32.not_le.mp f318⟩
              · intro f318
                refine AW.iconst X (v := 0) dX1_rivals_321 rfl ?_
                refine AW.istore7 X dX1_rivals_322 ?_
                refine AW.iinc8 X (v := _ + 1) dX1_rivals_324 rfl ?_
                refine AW.goto X (tgt := 231) dX1_rivals_327 rfl ?_
                rw [nI_1]
                first
                  | exact q1 (fun z => (bI_z.mp t285) z.1)
                  | exact q1 (fun z => absurd z.2 (Int32.not_lt.mpr t318))
                  | exact q0 ⟨Decidable.of_not_not fun z => f285 (bI_z.mpr z), Int32.not_le.mp f318⟩
          refine AW.iload X dX1_rivals_231 rfl ?_
          refine AW.iload_n X dX1_rivals_233 rfl rfl ?_
          refine AW.icmp_ge X (tgt := 330) dX1_rivals_234 rfl ?_ ?_
          · intro t234
            exact absurd t234 (nI_ge (by omega) (by omega))
          · intro f234
            first | refine AW.aload_n X dX1_rivals_237 rfl rfl ?_ | refine AW.aloadN_n X dX1_rivals_237 rfl rfl ?_
            refine AW.iload X dX1_rivals_238 rfl ?_
            refine AW.iconst X (v := 0) dX1_rivals_240 rfl ?_
            refine AW.callV_r X (c_X1_isHis hx hcE) (ci := 0) (q := (RX1, TX1, 14)) (by first | assumption | exact hT _ _ rfl) rfl s_X1_280_0 (by omega) (Nat.le_of_ble_eq_true rfl) rfl rfl (Nat.le_of_ble_eq_true rfl) dX1_rivals_241 ?_
            refine AW.if_eq X (tgt := 278) dX1_rivals_244 rfl ?_ ?_
            · intro t244
              first
                | exact mid _ (by rw [decide_eq_true (show ¬ (hisP N c 0 ∧ gA N h (k / m) (k % m) < gA N h c (k % m)) from fun q => (bI_z.mp t244) q.1), Bool.and_true])
                | exact mid _ (by rw [decide_eq_true (show ¬ (hisP N c 0 ∧ gA N h (k / m) (k % m) < gA N h c (k % m)) from fun q => absurd q.2 (Int32.not_lt.mpr t272)), Bool.and_true])
                | exact mid _ (by rw [decide_eq_false (show ¬ ¬ (hisP N c 0 ∧ gA N h (k / m) (k % m) < gA N h c (k % m)) from fun q => q ⟨Decidable.of_not_not fun z => f244 (bI_z.mpr z), Int32.not_le.mp f272⟩), Bool.and_false]; rfl)
            · intro f244
              first | refine AW.aload_n X dX1_rivals_247 rfl rfl ?_ | refine AW.aloadN_n X dX1_rivals_247 rfl rfl ?_
              refine AW.getR X f_X1_48_0 (by first | assumption | exact hT _ _ rfl) (by first | assumption | exact hR _ _ _ rfl) dX1_rivals_248 ?_
              refine AW.iconst X (v := 2) dX1_rivals_251 rfl ?_
              refine AW.iload_n X dX1_rivals_252 rfl rfl ?_
              refine AW.iload X dX1_rivals_253 rfl ?_
              refine AW.imul X dX1_rivals_255 ?_
              rw [nI_mul]
              refine AW.iload X dX1_rivals_256 rfl ?_
              refine AW.iload_n X dX1_rivals_258 rfl rfl ?_
              refine AW.irem X dX1_rivals_259 (hnm) ?_
              rw [nI_rem (by omega) (by omega)]
              refine AW.iadd X dX1_rivals_260 ?_
              rw [nI_add]
              refine AW.imul X dX1_rivals_261 ?_
              refine AW.iald X (j := 2 * (m * c + k % m)) (by first | assumption | exact hT _ _ rfl) (by rw [show (2 : Int32) = nI 2 from rfl, nI_mul]) (by omega) dX1_rivals_262 ?_
              rw [(gat c (k % m) (by omega) hy_ ⟨Decidable.of_not_not fun z => f244 (bI_z.mpr z), hmay.2⟩).1]
              first | refine AW.aload_n X dX1_rivals_263 rfl rfl ?_ | refine AW.aloadN_n X dX1_rivals_263 rfl rfl ?_
              refine AW.getR X f_X1_48_0 (by first | assumption | exact hT _ _ rfl) (by first | assumption | exact hR _ _ _ rfl) dX1_rivals_264 ?_
              refine AW.iconst X (v := 2) dX1_rivals_267 rfl ?_
              refine AW.iload X dX1_rivals_268 rfl ?_
              refine AW.imul X dX1_rivals_270 ?_
              refine AW.iald X (j := 2 * k) (by first | assumption | exact hT _ _ rfl) (by rw [show (2 : Int32) = nI 2 from rfl, nI_mul]) (by omega) dX1_rivals_271 ?_
              rw [gk1]
              refine AW.icmp_le X (tgt := 278) dX1_rivals_272 rfl ?_ ?_
              · intro t272
                first
                  | exact mid _ (by rw [decide_eq_true (show ¬ (hisP N c 0 ∧ gA N h (k / m) (k % m) < gA N h c (k % m)) from fun q => (bI_z.mp t244) q.1), Bool.and_true])
                  | exact mid _ (by rw [decide_eq_true (show ¬ (hisP N c 0 ∧ gA N h (k / m) (k % m) < gA N h c (k % m)) from fun q => absurd q.2 (Int32.not_lt.mpr t272)), Bool.and_true])
                  | exact mid _ (by rw [decide_eq_false (show ¬ ¬ (hisP N c 0 ∧ gA N h (k / m) (k % m) < gA N h c (k % m)) from fun q => q ⟨Decidable.of_not_not fun z => f244 (bI_z.mpr z), Int32.not_le.mp f272⟩), Bool.and_false]; rfl)
              · intro f272
                refine AW.iconst X (v := 0) dX1_rivals_275 rfl ?_
                refine AW.istore7 X dX1_rivals_276 ?_
                first
                  | exact mid _ (by rw [decide_eq_true (show ¬ (hisP N c 0 ∧ gA N h (k / m) (k % m) < gA N h c (k % m)) from fun q => (bI_z.mp t244) q.1), Bool.and_true])
                  | exact mid _ (by rw [decide_eq_true (show ¬ (hisP N c 0 ∧ gA N h (k / m) (k % m) < gA N h c (k % m)) from fun q => absurd q.2 (Int32.not_lt.mpr t272)), Bool.and_true])
                  | exact mid _ (by rw [decide_eq_false (show ¬ ¬ (hisP N c 0 ∧ gA N h (k / m) (k % m) < gA N h c (k % m)) from fun q => q ⟨Decidable.of_not_not fun z => f244 (bI_z.mpr z), Int32.not_le.mp f272⟩), Bool.and_false]; rfl)
      have hE := ih (k + 1)
      by_cases hmay : mayP N (k / m) (k % m)
      · skip
        refine AW.iload X dX1_rivals_190 rfl ?_
        refine AW.iload_n X dX1_rivals_192 rfl rfl ?_
        refine AW.iload_n X dX1_rivals_193 rfl rfl ?_
        refine AW.imul X dX1_rivals_194 ?_
        rw [nI_mul]
        refine AW.icmp_ge X (tgt := 367) dX1_rivals_195 rfl ?_ ?_
        · intro t195
          exact absurd t195 (nI_ge (by omega) (by omega))
        · intro f195
          first | refine AW.aload_n X dX1_rivals_198 rfl rfl ?_ | refine AW.aloadN_n X dX1_rivals_198 rfl rfl ?_
          refine AW.iload X dX1_rivals_199 rfl ?_
          refine AW.iload_n X dX1_rivals_201 rfl rfl ?_
          refine AW.idiv X dX1_rivals_202 (hnm) ?_
          rw [nI_div (by omega) (by omega)]
          refine AW.iconst X (v := 0) dX1_rivals_203 rfl ?_
          refine AW.callV_r X (c_X1_isHis hx (by omega)) (ci := 0) (q := (RX1, TX1, 14)) (by first | assumption | exact hT _ _ rfl) rfl s_X1_280_0 (by omega) (Nat.le_of_ble_eq_true rfl) rfl rfl (Nat.le_of_ble_eq_true rfl) dX1_rivals_204 ?_
          refine AW.if_eq X (tgt := 361) dX1_rivals_207 rfl ?_ ?_
          · intro t207
            exact absurd hmay.1 (bI_z.mp t207)
          · intro f207
            first | refine AW.aload_n X dX1_rivals_210 rfl rfl ?_ | refine AW.aloadN_n X dX1_rivals_210 rfl rfl ?_
            refine AW.iload X dX1_rivals_211 rfl ?_
            refine AW.iload_n X dX1_rivals_213 rfl rfl ?_
            refine AW.irem X dX1_rivals_214 (hnm) ?_
            rw [nI_rem (by omega) (by omega)]
            refine AW.iconst X (v := 1) dX1_rivals_215 rfl ?_
            refine AW.callV_r X (c_X1_isHis hx (by omega)) (ci := 0) (q := (RX1, TX1, 14)) (by first | assumption | exact hT _ _ rfl) rfl s_X1_280_0 (by omega) (Nat.le_of_ble_eq_true rfl) rfl rfl (Nat.le_of_ble_eq_true rfl) dX1_rivals_216 ?_
            refine AW.if_ne X (tgt := 225) dX1_rivals_219 rfl ?_ ?_
            · intro t219
              refine AW.iconst X (v := 1) dX1_rivals_225 rfl ?_
              refine AW.istore7 X dX1_rivals_226 ?_
              refine AW.iconst X (v := 0) dX1_rivals_228 rfl ?_
              refine AW.istore8 X dX1_rivals_229 ?_
              exact rst hmay m 0 true (by symm; exact decide_eq_true (fun c hc => absurd hc (Nat.not_lt_zero c))) (by omega)
            · intro f219
              exact absurd hmay.2 (bI_z.mp f219)
      · rw [hstep, if_neg (fun q => hmay q.1)] at hE
        refine AW.iload X dX1_rivals_190 rfl ?_
        refine AW.iload_n X dX1_rivals_192 rfl rfl ?_
        refine AW.iload_n X dX1_rivals_193 rfl rfl ?_
        refine AW.imul X dX1_rivals_194 ?_
        rw [nI_mul]
        refine AW.icmp_ge X (tgt := 367) dX1_rivals_195 rfl ?_ ?_
        · intro t195
          exact absurd t195 (nI_ge (by omega) (by omega))
        · intro f195
          first | refine AW.aload_n X dX1_rivals_198 rfl rfl ?_ | refine AW.aloadN_n X dX1_rivals_198 rfl rfl ?_
          refine AW.iload X dX1_rivals_199 rfl ?_
          refine AW.iload_n X dX1_rivals_201 rfl rfl ?_
          refine AW.idiv X dX1_rivals_202 (hnm) ?_
          rw [nI_div (by omega) (by omega)]
          refine AW.iconst X (v := 0) dX1_rivals_203 rfl ?_
          refine AW.callV_r X (c_X1_isHis hx (by omega)) (ci := 0) (q := (RX1, TX1, 14)) (by first | assumption | exact hT _ _ rfl) rfl s_X1_280_0 (by omega) (Nat.le_of_ble_eq_true rfl) rfl rfl (Nat.le_of_ble_eq_true rfl) dX1_rivals_204 ?_
          refine AW.if_eq X (tgt := 361) dX1_rivals_207 rfl ?_ ?_
          · intro t207
            refine AW.iinc6 X (v := _ + 1) dX1_rivals_361 rfl ?_
            refine AW.goto X (tgt := 190) dX1_rivals_364 rfl ?_
            rw [nI_1]; exact hE _ _ (by omega)
          · intro f207
            first | refine AW.aload_n X dX1_rivals_210 rfl rfl ?_ | refine AW.aloadN_n X dX1_rivals_210 rfl rfl ?_
            refine AW.iload X dX1_rivals_211 rfl ?_
            refine AW.iload_n X dX1_rivals_213 rfl rfl ?_
            refine AW.irem X dX1_rivals_214 (hnm) ?_
            rw [nI_rem (by omega) (by omega)]
            refine AW.iconst X (v := 1) dX1_rivals_215 rfl ?_
            refine AW.callV_r X (c_X1_isHis hx (by omega)) (ci := 0) (q := (RX1, TX1, 14)) (by first | assumption | exact hT _ _ rfl) rfl s_X1_280_0 (by omega) (Nat.le_of_ble_eq_true rfl) rfl rfl (Nat.le_of_ble_eq_true rfl) dX1_rivals_216 ?_
            refine AW.if_ne X (tgt := 225) dX1_rivals_219 rfl ?_ ?_
            · intro t219
              exact absurd ⟨Decidable.of_not_not fun z => f207 (bI_z.mpr z), Decidable.of_not_not fun z => t219 (bI_z.mpr z)⟩ hmay
            · intro f219
              refine AW.goto X (tgt := 361) dX1_rivals_222 rfl ?_
              refine AW.iinc6 X (v := _ + 1) dX1_rivals_361 rfl ?_
              refine AW.goto X (tgt := 190) dX1_rivals_364 rfl ?_
              rw [nI_1]; exact hE _ _ (by omega)
  have l1' : ∀ j k (I1 : KI) (R1 : KR) (v5 v6 v7 v8 : Value), k + j = m * m → (∀ a, a ≠ 105 → R1 a = R a) → XS pb T I1 R1 N → FV I I1 → (∀ k', k' < k → mayP N (k' / m) (k' % m) → I1 109 (2 * k') = gA N h (k' / m) (k' % m) ∧ I1 109 (2 * k' + 1) = gB N h (k' / m) (k' % m)) → AW cx 0 40 [.ref 100, .int (nI h), .int w, .int (nI m), .int (nI k), v5, v6, v7, v8] [] T I1 R1 J := by
    intro j
    induction j with
    | zero =>
      intro k I1 R1 v5 v6 v7 v8 hk hr hx hf hg
      obtain rfl : k = m * m := by omega
      have h2 := l2' I1 R1 hr hx hf hg
      refine AW.iload X dX1_rivals_40 rfl ?_
      refine AW.iload_n X dX1_rivals_42 rfl rfl ?_
      refine AW.iload_n X dX1_rivals_43 rfl rfl ?_
      refine AW.imul X dX1_rivals_44 ?_
      rw [nI_mul]
      refine AW.icmp_ge X (tgt := 181) dX1_rivals_45 rfl ?_ ?_
      · intro t45
        refine AW.iconst X (v := 0) dX1_rivals_181 rfl ?_
        refine AW.istore4 X dX1_rivals_182 ?_
        refine AW.iconst X (v := -1) dX1_rivals_184 rfl ?_
        refine AW.istore5 X dX1_rivals_185 ?_
        refine AW.iconst X (v := 0) dX1_rivals_187 rfl ?_
        refine AW.istore6 X dX1_rivals_188 ?_
        exact h2 (m * m) 0 v7 v8 (by omega)
      · intro f45
        exact absurd (Int32.le_refl _) f45
    | succ j ih =>
      intro k I1 R1 v5 v6 v7 v8 hk hr hx hf hg
      have hkm : k < m * m := by omega
      have hx_ := hdv k hkm
      have hy_ := hmd k
      obtain ⟨hT, hR, hP1, hL1, -⟩ := id hx
      by_cases hmay : mayP N (k / m) (k % m)
      · generalize hxx : k / m = x at *
        generalize hyy : k % m = y at *
        have fin : ∀ (I2 : KI) (R2 : KR) (g : Int32 × Int32), FV I1 I2 → True := fun _ _ _ _ => trivial
        have m130 : ∀ (I2 : KI) (R2 : KR), (∀ a, a ≠ 105 → R2 a = R a) → XS pb T I2 R2 N → FT I1 I2 → TS pb T I2 R2 (rvN N h x y) → AW cx 0 130 [.ref 100, .int (nI h), .int w, .int (nI m), .int (nI k), v5, v6, v7, v8] [] T I2 R2 J := by
          intro I2 R2 hr2 hx2 hft ht2
          obtain ⟨hT, hR, -⟩ := id hx2
          have hvv : ∀ a, 304 ≤ a → a ≤ 322 → rvN N h x y a = N a := fun a a1 a2 => (livN_P a a1 a2).trans (livN_P a a1 a2)
          first | refine AW.aload_n X dX1_rivals_130 rfl rfl ?_ | refine AW.aloadN_n X dX1_rivals_130 rfl rfl ?_
          refine AW.getR X f_X1_27_0 (by first | assumption | exact hT _ _ rfl) (by first | assumption | exact hR _ _ _ rfl) dX1_rivals_131 ?_
          refine AW.callV_i X (ht2.shines) (ci := 2) (q := (RX3, TX3, 9)) (by first | assumption | exact hT _ _ rfl) rfl s_X1_132_2 (by omega) (Nat.le_of_ble_eq_true rfl) rfl rfl (Nat.le_of_ble_eq_true rfl) dX1_rivals_134 ?_
          intro r134 I134 h134
          obtain ⟨rfl, g1, g2⟩ := h134
          have ht3 := ht2.sh g1
          have hx3 := hx2.ft g1.ft
          have hfw : ∀ {I3 : KI} {kk : Nat} {v : Int32}, FV I3 (w2 I3 109 kk v) := fun {I3 kk v} => fun a a1 a2 a3 => w2_r a2
          first | refine AW.aload_n X dX1_rivals_137 rfl rfl ?_ | refine AW.aloadN_n X dX1_rivals_137 rfl rfl ?_
          refine AW.getR X f_X1_48_0 (by first | assumption | exact hT _ _ rfl) (by first | assumption | exact hR _ _ _ rfl) dX1_rivals_138 ?_
          refine AW.iconst X (v := 2) dX1_rivals_141 rfl ?_
          refine AW.iload X dX1_rivals_142 rfl ?_
          refine AW.imul X dX1_rivals_144 ?_
          rw [show (2 : Int32) = nI 2 from rfl, nI_mul]
          first | refine AW.aload_n X dX1_rivals_145 rfl rfl ?_ | refine AW.aloadN_n X dX1_rivals_145 rfl rfl ?_
          refine AW.iconst X (v := 0) dX1_rivals_146 rfl ?_
          refine AW.iload X dX1_rivals_147 rfl ?_
          refine AW.iload_n X dX1_rivals_149 rfl rfl ?_
          refine AW.idiv X dX1_rivals_150 (hnm) ?_
          rw [nI_div (by omega) (by omega), hxx]
          refine AW.callV_r X (c_X1_gainOf hx3 ht3 g2 hvv (by omega)) (ci := 0) (q := (RX1, TX1, 14)) (by first | assumption | exact hT _ _ rfl) rfl s_X1_284_0 (by omega) (Nat.le_of_ble_eq_true rfl) rfl rfl (Nat.le_of_ble_eq_true rfl) dX1_rivals_151 ?_
          refine AW.iast X (j := 2 * k) (by omega) (by first | assumption | exact hT _ _ rfl) (by repeat (first | with_reducible exact rfl | assumption | exact ix_l _ | apply ix_add | apply ix_mul)) (by omega) dX1_rivals_154 ?_
          first | refine AW.aload_n X dX1_rivals_155 rfl rfl ?_ | refine AW.aloadN_n X dX1_rivals_155 rfl rfl ?_
          refine AW.getR X f_X1_48_0 (by first | assumption | exact hT _ _ rfl) (by first | assumption | exact hR _ _ _ rfl) dX1_rivals_156 ?_
          refine AW.iconst X (v := 2) dX1_rivals_159 rfl ?_
          refine AW.iload X dX1_rivals_160 rfl ?_
          refine AW.imul X dX1_rivals_162 ?_
          rw [show (2 : Int32) = nI 2 from rfl, nI_mul]
          refine AW.iconst X (v := 1) dX1_rivals_163 rfl ?_
          refine AW.iadd X dX1_rivals_164 ?_
          rw [nI_1]
          first | refine AW.aload_n X dX1_rivals_165 rfl rfl ?_ | refine AW.aloadN_n X dX1_rivals_165 rfl rfl ?_
          refine AW.iconst X (v := 1) dX1_rivals_166 rfl ?_
          refine AW.iload X dX1_rivals_167 rfl ?_
          refine AW.iload_n X dX1_rivals_169 rfl rfl ?_
          refine AW.irem X dX1_rivals_170 (hnm) ?_
          rw [nI_rem (by omega) (by omega), hyy]
          refine AW.callV_r X (c_X1_gainOf (hx3.fv hfw) (ht3.fr (fun a ha => w2_r (by omega))) (by obtain ⟨ga, gb⟩ := g2; exact ⟨fun e h he hh => by rw [w2_r (by unfold lA; omega), w2_r (by unfold lA; omega)]; exact ga e h he hh, fun q h hq hh => by rw [w2_r (by unfold lA; omega)]; exact gb q h hq hh⟩) hvv (by omega)) (ci := 0) (q := (RX1, TX1, 14)) (by first | assumption | exact hT _ _ rfl) rfl s_X1_284_0 (by omega) (Nat.le_of_ble_eq_true rfl) rfl rfl (Nat.le_of_ble_eq_true rfl) dX1_rivals_171 ?_
          refine AW.iast X (j := 2 * k + 1) (by omega) (by first | assumption | exact hT _ _ rfl) (by repeat (first | with_reducible exact rfl | assumption | exact ix_l _ | apply ix_add | apply ix_mul)) (by omega) dX1_rivals_174 ?_
          refine AW.iinc4 X (v := _ + 1) dX1_rivals_175 rfl ?_
          refine AW.goto X (tgt := 40) dX1_rivals_178 rfl ?_
          rw [nI_1]
          refine ih (k + 1) _ _ _ _ _ _ (by omega) hr2 ((hx3.fv hfw).fv hfw) (hf.tr (hft.fv.tr (g1.ft.fv.tr (FV.tr hfw hfw)))) (fun k' hk' hm' => ?_)
          by_cases hx' : k' = k
          · subst hx'
            rw [w2_n2 (by omega), w2_s, w2_s, hxx, hyy]
            exact ⟨rfl, rfl⟩
          · rw [w2_n2 (by omega), w2_n2 (by omega), w2_n2 (by omega), w2_n2 (by omega), g1.ft 109 (by omega) (by omega), hft 109 (by omega) (by omega)]
            exact hg k' (by omega) hm'
        have m108 : ∀ (I2 : KI) (R2 : KR), (∀ a, a ≠ 105 → R2 a = R a) → XS pb T I2 R2 N → FT I1 I2 → TS pb T I2 R2 (livN N x h) → AW cx 0 108 [.ref 100, .int (nI h), .int w, .int (nI m), .int (nI k), v5, v6, v7, v8] [] T I2 R2 J := by
          intro I2 R2 hr2 hx2 hft ht2
          obtain ⟨hT, hR, -⟩ := id hx2
          have hnE1 : nE (livN N x h) = nE N := nat_eq (livN_P 304 (by omega) (by omega))
          have hM1 := livN_M (N := N) (c := x) (h := h) (by omega)
          by_cases hy0 : y = 0
          · have e0 : rvN N h x y = livN N x h := if_pos hy0
            have hn := m130 I2 R2 hr2 hx2 hft (by rw [e0]; exact ht2)
            refine AW.iload X dX1_rivals_108 rfl ?_
            refine AW.iload_n X dX1_rivals_110 rfl rfl ?_
            refine AW.irem X dX1_rivals_111 (hnm) ?_
            rw [nI_rem (by omega) (by omega), hyy]
            refine AW.if_le X (tgt := 130) dX1_rivals_112 rfl ?_ ?_
            · intro t112
              exact hn
            · intro f112
              exact absurd (by rw [hy0]; exact Int32.le_refl _) f112
          · have e0 : rvN N h x y = addN (livN N x h) (nI (y - 1)) (nI h) 0 := if_neg hy0
            have hadd := c_X3_adds (la := 105) (x := nI (y - 1)) (z := nI h) (w := 0) (J := J) (by omega) ht2.2.2.2.1 ht2.2.2.2.2.2 (by omega)
            refine AW.iload X dX1_rivals_108 rfl ?_
            refine AW.iload_n X dX1_rivals_110 rfl rfl ?_
            refine AW.irem X dX1_rivals_111 (hnm) ?_
            rw [nI_rem (by omega) (by omega), hyy]
            refine AW.if_le X (tgt := 130) dX1_rivals_112 rfl ?_ ?_
            · intro t112
              exact absurd t112 (nI_nle (by omega) (by omega))
            · intro f112
              first | refine AW.aload_n X dX1_rivals_115 rfl rfl ?_ | refine AW.aloadN_n X dX1_rivals_115 rfl rfl ?_
              refine AW.getR X f_X1_27_0 (by first | assumption | exact hT _ _ rfl) (by first | assumption | exact hR _ _ _ rfl) dX1_rivals_116 ?_
              refine AW.iload X dX1_rivals_119 rfl ?_
              refine AW.iload_n X dX1_rivals_121 rfl rfl ?_
              refine AW.irem X dX1_rivals_122 (hnm) ?_
              rw [nI_rem (by omega) (by omega), hyy]
              refine AW.iconst X (v := 1) dX1_rivals_123 rfl ?_
              refine AW.isub X dX1_rivals_124 ?_
              rw [show nI y - 1 = nI (y - 1) from nI_sub (c := 1) (by omega)]
              refine AW.iload_n X dX1_rivals_125 rfl rfl ?_
              refine AW.iconst X (v := 0) dX1_rivals_126 rfl ?_
              refine AW.callV_i X (hadd) (ci := 2) (q := (RX3, TX3, 9)) (by first | assumption | exact hT _ _ rfl) rfl s_X1_207_2 (by omega) (Nat.le_of_ble_eq_true rfl) rfl rfl (Nat.le_of_ble_eq_true rfl) dX1_rivals_127 ?_
              intro r127 I127 h127
              obtain ⟨rfl, q1, q2⟩ := h127
              have qf : FT I2 I127 := fun a a1 a2 => q1 a a1 (by unfold lA; omega) (by unfold lA; omega) (by unfold lA; omega)
              exact m130 I127 R2 hr2 (hx2.ft qf) (hft.tr qf) (by rw [e0]; exact ht2.adds (by omega) (by omega) hh (Or.inl rfl) q2 (fun a ha => qf a (by omega) (by omega)))
        refine AW.iload X dX1_rivals_40 rfl ?_
        refine AW.iload_n X dX1_rivals_42 rfl rfl ?_
        refine AW.iload_n X dX1_rivals_43 rfl rfl ?_
        refine AW.imul X dX1_rivals_44 ?_
        rw [nI_mul]
        refine AW.icmp_ge X (tgt := 181) dX1_rivals_45 rfl ?_ ?_
        · intro t45
          exact absurd t45 (nI_ge (by omega) (by omega))
        · intro f45
          first | refine AW.aload_n X dX1_rivals_48 rfl rfl ?_ | refine AW.aloadN_n X dX1_rivals_48 rfl rfl ?_
          refine AW.iload X dX1_rivals_49 rfl ?_
          refine AW.iload_n X dX1_rivals_51 rfl rfl ?_
          refine AW.idiv X dX1_rivals_52 (hnm) ?_
          rw [nI_div (by omega) (by omega), hxx]
          refine AW.iconst X (v := 0) dX1_rivals_53 rfl ?_
          refine AW.callV_r X (c_X1_isHis hx (by omega)) (ci := 0) (q := (RX1, TX1, 14)) (by first | assumption | exact hT _ _ rfl) rfl s_X1_280_0 (by omega) (Nat.le_of_ble_eq_true rfl) rfl rfl (Nat.le_of_ble_eq_true rfl) dX1_rivals_54 ?_
          refine AW.if_eq X (tgt := 175) dX1_rivals_57 rfl ?_ ?_
          · intro t57
            exact absurd hmay.1 (bI_z.mp t57)
          · intro f57
            first | refine AW.aload_n X dX1_rivals_60 rfl rfl ?_ | refine AW.aloadN_n X dX1_rivals_60 rfl rfl ?_
            refine AW.iload X dX1_rivals_61 rfl ?_
            refine AW.iload_n X dX1_rivals_63 rfl rfl ?_
            refine AW.irem X dX1_rivals_64 (hnm) ?_
            rw [nI_rem (by omega) (by omega), hyy]
            refine AW.iconst X (v := 1) dX1_rivals_65 rfl ?_
            refine AW.callV_r X (c_X1_isHis hx (by omega)) (ci := 0) (q := (RX1, TX1, 14)) (by first | assumption | exact hT _ _ rfl) rfl s_X1_280_0 (by omega) (Nat.le_of_ble_eq_true rfl) rfl rfl (Nat.le_of_ble_eq_true rfl) dX1_rivals_66 ?_
            refine AW.if_ne X (tgt := 75) dX1_rivals_69 rfl ?_ ?_
            · intro t69
              first | refine AW.aload_n X dX1_rivals_75 rfl rfl ?_ | refine AW.aloadN_n X dX1_rivals_75 rfl rfl ?_
              refine AW.getR X f_X1_27_0 (by first | assumption | exact hT _ _ rfl) (by first | assumption | exact hR _ _ _ rfl) dX1_rivals_76 ?_
              first | refine AW.aload_n X dX1_rivals_79 rfl rfl ?_ | refine AW.aloadN_n X dX1_rivals_79 rfl rfl ?_
              refine AW.getR X f_X1_23_0 (by first | assumption | exact hT _ _ rfl) (by first | assumption | exact hR _ _ _ rfl) dX1_rivals_80 ?_
              refine AW.callV_0 X (c_X3_like (la := 105) (lb := 103) hT hR (by omega) (by omega) (by omega) hL1 (by omega)) (ci := 2) (q := (RX3, TX3, 9)) (by first | assumption | exact hT _ _ rfl) rfl s_X1_257_2 (by omega) (Nat.le_of_ble_eq_true rfl) rfl rfl (Nat.le_of_ble_eq_true rfl) dX1_rivals_83 ?_ ?_
              rotate_left
              · intro _ _ _ _ _ h; exact h.elim
              intro r83 T83 I83 R83 J83 h83
              obtain ⟨rfl, rfl, rfl, rfl, g1, g2⟩ := h83
              have hft : FT I1 I83 := fun a a1 a2 => g1 a a1 (by unfold lA; omega) (by unfold lA; omega) (by unfold lA; omega)
              have hX1 := (hx.ft hft).wR pb
              have hT1 := TS.of hX1 g2 (fun _ _ _ => rfl) hM
              have hr1 : ∀ a, a ≠ 105 → w2 R1 105 0 (some pb) a = R a := fun a ha => (w2_r ha).trans (hr a ha)
              have hR := hX1.2.1
              refine AW.iload X dX1_rivals_86 rfl ?_
              refine AW.iload_n X dX1_rivals_88 rfl rfl ?_
              refine AW.idiv X dX1_rivals_89 (hnm) ?_
              rw [nI_div (by omega) (by omega), hxx]
              refine AW.if_le X (tgt := 108) dX1_rivals_90 rfl ?_ ?_
              · intro t90
                have hx0 : x = 0 := Decidable.of_not_not fun z => absurd t90 (nI_nle (by omega) (by omega))
                first | exact m108' _ qf q2 | exact m108 I83 _ hr1 hX1 hft (by rw [show livN N x h = N from if_pos hx0]; exact hT1)
              · intro f90
                have hx0 : ¬ x = 0 := fun z => f90 (by rw [z]; exact Int32.le_refl _)
                have e0 : livN N x h = addN N (nI (x - 1)) (nI h) 0 := if_neg hx0
                have hx9 : x - 1 < nE N := by omega
                have m108' := fun (I2 : KI) (qf : FT I83 I2) q2 => m108 I2 _ hr1 (hX1.ft qf) (hft.tr qf) (by rw [e0]; exact hT1.adds (by omega) hx9 hh (Or.inl rfl) q2 (fun a ha => qf a (by omega) (by omega)))
                first | refine AW.aload_n X dX1_rivals_93 rfl rfl ?_ | refine AW.aloadN_n X dX1_rivals_93 rfl rfl ?_
                refine AW.getR X f_X1_27_0 (by first | assumption | exact hT _ _ rfl) (by first | assumption | exact hR _ _ _ rfl) dX1_rivals_94 ?_
                refine AW.iload X dX1_rivals_97 rfl ?_
                refine AW.iload_n X dX1_rivals_99 rfl rfl ?_
                refine AW.idiv X dX1_rivals_100 (hnm) ?_
                rw [nI_div (by omega) (by omega), hxx]
                refine AW.iconst X (v := 1) dX1_rivals_101 rfl ?_
                refine AW.isub X dX1_rivals_102 ?_
                rw [show nI x - 1 = nI (x - 1) from nI_sub (c := 1) (by omega)]
                refine AW.iload_n X dX1_rivals_103 rfl rfl ?_
                refine AW.iconst X (v := 0) dX1_rivals_104 rfl ?_
                refine AW.callV_i X (c_X3_adds (la := 105) (x := nI (x - 1)) (z := nI h) (w := 0) (by omega) hT1.2.2.2.1 hT1.2.2.2.2.2 (by omega)) (ci := 2) (q := (RX3, TX3, 9)) (by first | assumption | exact hT _ _ rfl) rfl s_X1_207_2 (by omega) (Nat.le_of_ble_eq_true rfl) rfl rfl (Nat.le_of_ble_eq_true rfl) dX1_rivals_105 ?_
                intro r105 I105 h105
                obtain ⟨rfl, q1, q2⟩ := h105
                have qf : FT I83 I105 := fun a a1 a2 => q1 a a1 (by unfold lA; omega) (by unfold lA; omega) (by unfold lA; omega)
                first | exact m108' _ qf q2 | exact m108 I83 _ hr1 hX1 hft (by rw [show livN N x h = N from if_pos hx0]; exact hT1)
            · intro f69
              exact absurd hmay.2 (bI_z.mp f69)
      · skip
        refine AW.iload X dX1_rivals_40 rfl ?_
        refine AW.iload_n X dX1_rivals_42 rfl rfl ?_
        refine AW.iload_n X dX1_rivals_43 rfl rfl ?_
        refine AW.imul X dX1_rivals_44 ?_
        rw [nI_mul]
        refine AW.icmp_ge X (tgt := 181) dX1_rivals_45 rfl ?_ ?_
        · intro t45
          exact absurd t45 (nI_ge (by omega) (by omega))
        · intro f45
          first | refine AW.aload_n X dX1_rivals_48 rfl rfl ?_ | refine AW.aloadN_n X dX1_rivals_48 rfl rfl ?_
          refine AW.iload X dX1_rivals_49 rfl ?_
          refine AW.iload_n X dX1_rivals_51 rfl rfl ?_
          refine AW.idiv X dX1_rivals_52 (hnm) ?_
          rw [nI_div (by omega) (by omega)]
          refine AW.iconst X (v := 0) dX1_rivals_53 rfl ?_
          refine AW.callV_r X (c_X1_isHis hx (by omega)) (ci := 0) (q := (RX1, TX1, 14)) (by first | assumption | exact hT _ _ rfl) rfl s_X1_280_0 (by omega) (Nat.le_of_ble_eq_true rfl) rfl rfl (Nat.le_of_ble_eq_true rfl) dX1_rivals_54 ?_
          refine AW.if_eq X (tgt := 175) dX1_rivals_57 rfl ?_ ?_
          · intro t57
            refine AW.iinc4 X (v := _ + 1) dX1_rivals_175 rfl ?_
            refine AW.goto X (tgt := 40) dX1_rivals_178 rfl ?_
            rw [nI_1]
            exact ih (k + 1) I1 R1 _ _ _ _ (by omega) hr hx hf (fun k' hk' hm' => by
              by_cases hx' : k' = k
              · subst hx'; exact absurd hm' hmay
              · exact hg k' (by omega) hm')
          · intro f57
            first | refine AW.aload_n X dX1_rivals_60 rfl rfl ?_ | refine AW.aloadN_n X dX1_rivals_60 rfl rfl ?_
            refine AW.iload X dX1_rivals_61 rfl ?_
            refine AW.iload_n X dX1_rivals_63 rfl rfl ?_
            refine AW.irem X dX1_rivals_64 (hnm) ?_
            rw [nI_rem (by omega) (by omega)]
            refine AW.iconst X (v := 1) dX1_rivals_65 rfl ?_
            refine AW.callV_r X (c_X1_isHis hx (by omega)) (ci := 0) (q := (RX1, TX1, 14)) (by first | assumption | exact hT _ _ rfl) rfl s_X1_280_0 (by omega) (Nat.le_of_ble_eq_true rfl) rfl rfl (Nat.le_of_ble_eq_true rfl) dX1_rivals_66 ?_
            refine AW.if_ne X (tgt := 75) dX1_rivals_69 rfl ?_ ?_
            · intro t69
              exact absurd ⟨Decidable.of_not_not fun z => f57 (bI_z.mpr z), Decidable.of_not_not fun z => t69 (bI_z.mpr z)⟩ hmay
            · intro f69
              refine AW.goto X (tgt := 175) dX1_rivals_72 rfl ?_
              refine AW.iinc4 X (v := _ + 1) dX1_rivals_175 rfl ?_
              refine AW.goto X (tgt := 40) dX1_rivals_178 rfl ?_
              rw [nI_1]
              exact ih (k + 1) I1 R1 _ _ _ _ (by omega) hr hx hf (fun k' hk' hm' => by
                by_cases hx' : k' = k
                · subst hx'; exact absurd hm' hmay
                · exact hg k' (by omega) hm')
  refine AW.iload_n X dX1_rivals_0 rfl rfl ?_
  refine AW.callS_r X (c_X1_hourAt_ok ⟨nI_pos' (by omega), nI_le (b := 23) (by omega) (by omega)⟩) s_X1_201 (by omega) (Nat.le_of_ble_eq_true rfl) rfl rfl (Nat.le_of_ble_eq_true rfl) dX1_rivals_1 ?_
  refine AW.iload_n X dX1_rivals_4 rfl rfl ?_
  refine AW.if_eq X (tgt := 13) dX1_rivals_5 rfl ?_ ?_
  · intro t5
    refine AW.iconst X (v := 1) dX1_rivals_13 rfl ?_
    refine AW.goto X (tgt := 18) dX1_rivals_14 rfl ?_
    refine AW.callS_r X (c_X1_there_ok (by decide)) s_X1_61 (by omega) (Nat.le_of_ble_eq_true rfl) rfl rfl (Nat.le_of_ble_eq_true rfl) dX1_rivals_18 ?_
    first | refine AW.aload_n X dX1_rivals_21 rfl rfl ?_ | refine AW.aloadN_n X dX1_rivals_21 rfl rfl ?_
    refine AW.getR X f_X1_23_0 (by first | assumption | exact hT _ _ rfl) (by first | assumption | exact hR _ _ _ rfl) dX1_rivals_22 ?_
    refine AW.getR X f_X1_65_2 (by first | assumption | exact hT _ _ rfl) (by first | assumption | exact hR _ _ _ rfl) dX1_rivals_25 ?_
    refine AW.getR X f_X1_87_3 (by first | assumption | exact hT _ _ rfl) (by first | assumption | exact hR _ _ _ rfl) dX1_rivals_28 ?_
    refine AW.callV_r X (hP.lE.size) (ci := 19) (q := (RJ2, TJ2, 3)) (by first | assumption | exact hT _ _ rfl) rfl s_X1_75_19 (by omega) (Nat.le_of_ble_eq_true rfl) rfl rfl (Nat.le_of_ble_eq_true rfl) dX1_rivals_31 ?_
    refine AW.iconst X (v := 1) dX1_rivals_34 rfl ?_
    refine AW.iadd X dX1_rivals_35 ?_
    rw [nI_1, ← hm]
    refine AW.istore3 X dX1_rivals_36 ?_
    refine AW.iconst X (v := 0) dX1_rivals_37 rfl ?_
    refine AW.istore4 X dX1_rivals_38 ?_
    exact l1' (m * m) 0 I R _ _ _ _ (by omega) (fun _ _ => rfl) hX0 FV.rf (fun _ h => absurd h (Nat.not_lt_zero _))
  · intro f5
    refine AW.iload_n X dX1_rivals_8 rfl rfl ?_
    refine AW.iconst X (v := 1) dX1_rivals_9 rfl ?_
    refine AW.icmp_ne X (tgt := 17) dX1_rivals_10 rfl ?_ ?_
    · intro t10
      exact absurd hw (fun hc => hc.elim f5 t10)
    · intro f10
      refine AW.iconst X (v := 1) dX1_rivals_13 rfl ?_
      refine AW.goto X (tgt := 18) dX1_rivals_14 rfl ?_
      refine AW.callS_r X (c_X1_there_ok (by decide)) s_X1_61 (by omega) (Nat.le_of_ble_eq_true rfl) rfl rfl (Nat.le_of_ble_eq_true rfl) dX1_rivals_18 ?_
      first | refine AW.aload_n X dX1_rivals_21 rfl rfl ?_ | refine AW.aloadN_n X dX1_rivals_21 rfl rfl ?_
      refine AW.getR X f_X1_23_0 (by first | assumption | exact hT _ _ rfl) (by first | assumption | exact hR _ _ _ rfl) dX1_rivals_22 ?_
      refine AW.getR X f_X1_65_2 (by first | assumption | exact hT _ _ rfl) (by first | assumption | exact hR _ _ _ rfl) dX1_rivals_25 ?_
      refine AW.getR X f_X1_87_3 (by first | assumption | exact hT _ _ rfl) (by first | assumption | exact hR _ _ _ rfl) dX1_rivals_28 ?_
      refine AW.callV_r X (hP.lE.size) (ci := 19) (q := (RJ2, TJ2, 3)) (by first | assumption | exact hT _ _ rfl) rfl s_X1_75_19 (by omega) (Nat.le_of_ble_eq_true rfl) rfl rfl (Nat.le_of_ble_eq_true rfl) dX1_rivals_31 ?_
      refine AW.iconst X (v := 1) dX1_rivals_34 rfl ?_
      refine AW.iadd X dX1_rivals_35 ?_
      rw [nI_1, ← hm]
      refine AW.istore3 X dX1_rivals_36 ?_
      refine AW.iconst X (v := 0) dX1_rivals_37 rfl ?_
      refine AW.istore4 X dX1_rivals_38 ?_
      exact l1' (m * m) 0 I R _ _ _ _ (by omega) (fun _ _ => rfl) hX0 FV.rf (fun _ h => absurd h (Nat.not_lt_zero _))
end RVS
