/-! 08l: the model's rivals (steps printed by src/walk.py) -/
set_option maxRecDepth 100000
set_option maxHeartbeats 4000000
def Fg (n : Nat) (I' I2 : KI) : Prop := FM n I' (w2 I2 200 44 (nI n))
theorem Fg.rf {n : Nat} {I : KI} (h : I 200 44 = nI n) : Fg n I I :=
  ⟨fun a a1 _ _ _ _ _ => w2_r a1, fun m _ => by rw [w2_r (by omega), w2_r (by omega), w2_r (by omega)]; exact ⟨rfl, rfl, rfl⟩, fun k _ _ _ _ => by
    by_cases hk : k = 44
    · subst hk; rw [w2_s, h]
    · exact w2_n2 hk⟩
theorem Fg.add {n : Nat} {I I1 N' : KI} {e h s : Int32} (hf : Fg n I I1) (hn : n ≤ nM N') : Fg n I (addI N' I1 e h s) := by
  obtain ⟨f1, f2, f3⟩ := hf
  refine ⟨fun a a1 a2 a3 a4 a5 a6 => ?_, fun m hm => ?_, fun k k1 k2 k3 k4 => ?_⟩
  · have := f1 a a1 a2 a3 a4 a5 a6
    rw [w2_r a1] at this
    rw [w2_r a1, addI_r a1 (by omega) (by omega) (by omega)]; exact this
  · have := f2 m hm
    rw [w2_r (by omega), w2_r (by omega), w2_r (by omega)] at this
    rw [w2_r (by omega), w2_r (by omega), w2_r (by omega)]
    unfold addI
    have hne : m ≠ nM N' := by omega
    simp only [w2_n1 (show (337 : Nat) ≠ 200 by decide), w2_n1 (show (338 : Nat) ≠ 200 by decide), w2_n1 (show (339 : Nat) ≠ 200 by decide), w2_n1 (show (337 : Nat) ≠ 339 by decide), w2_n1 (show (337 : Nat) ≠ 338 by decide), w2_n1 (show (338 : Nat) ≠ 339 by decide), w2_n1 (show (338 : Nat) ≠ 337 by decide), w2_n1 (show (339 : Nat) ≠ 337 by decide), w2_n1 (show (339 : Nat) ≠ 338 by decide), w2_n2 hne]
    exact this
  · have := f3 k k1 k2 k3 k4
    by_cases hk : k = 44
    · subst hk; rw [w2_s] at this ⊢; exact this
    · rw [w2_n2 hk] at this
      rw [w2_n2 hk, addI_s hk]; exact this
theorem Fg.fe {n : Nat} {I I1 I2 : KI} (hf : Fg n I I1) (he : FE I1 I2) : Fg n I I2 := by
  obtain ⟨f1, f2, f3⟩ := hf
  obtain ⟨g1, g2, g3⟩ := he.fm (n := n)
  refine ⟨fun a a1 a2 a3 a4 a5 a6 => ?_, fun m hm => ?_, fun k k1 k2 k3 k4 => ?_⟩
  · have := f1 a a1 a2 a3 a4 a5 a6
    rw [w2_r a1] at this
    rw [w2_r a1, g1 a a1 a2 a3 a4 a5 a6]; exact this
  · have := f2 m hm
    rw [w2_r (by omega), w2_r (by omega), w2_r (by omega)] at this
    rw [w2_r (by omega), w2_r (by omega), w2_r (by omega), (g2 m hm).1, (g2 m hm).2.1, (g2 m hm).2.2]; exact this
  · have := f3 k k1 k2 k3 k4
    by_cases hk : k = 44
    · subst hk; rw [w2_s] at this ⊢; exact this
    · rw [w2_n2 hk] at this
      rw [w2_n2 hk, g3 k k1 k2 k3 k4]; exact this
theorem FM.w356 {n k : Nat} {I : KI} {v : Int32} : FM n I (w2 I 356 k v) :=
  ⟨fun a a1 a2 a3 a4 a5 a6 => w2_r (by omega), fun m _ => by rw [w2_r (by omega), w2_r (by omega), w2_r (by omega)]; exact ⟨rfl, rfl, rfl⟩, fun k _ _ _ _ => w2_n1 (by omega)⟩
def liI (N I : KI) (c h : Nat) : KI := if c = 0 then I else addI N I (nI (c - 1)) (nI h) 0
theorem MS.liv {T : KT} {I : KI} {R : KR} {N : KI} {c h : Nat} (hS : MS T I R N) (hm : nM N < 26) (hc : c ≤ nE N) (hh : h < 24) : MS T (liI N I c h) R (livN N c h) := by
  unfold liI livN
  by_cases h0 : c = 0
  · rw [if_pos h0, if_pos h0]; exact hS
  · rw [if_neg h0, if_neg h0]; exact hS.add hm (by omega) hh (Or.inl rfl)
theorem livN_M0 {N : KI} {c h : Nat} (hm : nM N < 26) : nM N ≤ nM (livN N c h) := by
  unfold livN
  by_cases h0 : c = 0
  · rw [if_pos h0]; exact Nat.le_refl _
  · rw [if_neg h0, addN_M hm]; omega
theorem Fg.liv {n : Nat} {I I1 N' : KI} {c h : Nat} (hf : Fg n I I1) (hn : n ≤ nM N') : Fg n I (liI N' I1 c h) := by
  unfold liI
  by_cases h0 : c = 0
  · rw [if_pos h0]; exact hf
  · rw [if_neg h0]; exact hf.add hn
theorem liI_3 {N I : KI} {c h : Nat} : liI N I c h 200 3 = I 200 3 ∧ liI N I c h 356 = I 356 := by
  unfold liI
  by_cases h0 : c = 0
  · rw [if_pos h0]; exact ⟨rfl, rfl⟩
  · rw [if_neg h0]; exact ⟨addI_s (by omega), addI_r (by omega) (by omega) (by omega) (by omega)⟩
def GaP (N : KI) (h k : Nat) (G : Nat → Int32) : Prop := ∀ x y, x ≤ nE N → y ≤ nE N → 7 * x + y < k → mayP N x y → G (2 * (7 * x + y)) = gA N h x y ∧ G (2 * (7 * x + y) + 1) = gB N h x y
theorem endK_1 {N : KI} {q κ : Nat} (h : N 305 q = nI κ) (hκ : κ < 4) : endK N q = 1 ↔ κ = 3 := by
  unfold endK
  rw [h]
  by_cases c3 : κ = 3
  · rw [c3, if_pos (show nI 3 = 3 from rfl)]; exact ⟨fun _ => rfl, fun _ => rfl⟩
  · rw [if_neg (show ¬ nI κ = 3 from fun z => c3 ((nI_eq (b := 3) (by omega) (by omega)).mp z))]
    by_cases c2 : nI κ = 2
    · rw [if_pos c2]; exact ⟨fun z => absurd z (by omega), fun z => absurd z c3⟩
    · rw [if_neg c2]; exact ⟨fun z => absurd z (by omega), fun z => absurd z c3⟩
section MRV
variable {T : KT} {R : KR} {J : KJ} {N : KI}
theorem c_X5_mayFeed {c : Nat} {o : Int32} {I : KI} (hS : MS T I R N) (hc : c ≤ nE N) : MX5_mayFeed 0 0 [.ref 200, .int o, .int (nI c)] T I R J (qR (some (.int (bI (hisP N c o)))) T I R J) noX := by
  obtain ⟨hT, hR, hV, hN, hM⟩ := hS
  have hne := hN.1.2.2.2.2.2.1
  have v310 := hV.1 310 (by omega) (by omega)
  refine AMet.of (by decide) (Nat.le_of_ble_eq_true rfl) (cats1 rfl) fun cx X E => ?_
  show AW _ _ _ (_ :: _ :: _ :: []) _ _ _ _ _
  by_cases h0 : c = 0
  · rw [bI_t (Or.inl h0)] at E
    refine AW.iload_n X dX5_mayFeed_0 rfl rfl ?_
    refine AW.if_eq X (tgt := 16) dX5_mayFeed_1 rfl ?_ ?_
    · intro t1
      refine AW.iconst X (v := 1) dX5_mayFeed_16 rfl ?_
      refine AW.goto X (tgt := 21) dX5_mayFeed_17 rfl ?_
      exact AW.ireturn X E ⟨rfl, rfl, rfl, rfl, rfl⟩ dX5_mayFeed_21 (hnar := by first | rfl | (unfold bI; split <;> rfl))
    · intro f1
      exact absurd (by rw [h0]; rfl) f1
  · skip
    refine AW.iload_n X dX5_mayFeed_0 rfl rfl ?_
    refine AW.if_eq X (tgt := 16) dX5_mayFeed_1 rfl ?_ ?_
    · intro t1
      exact absurd t1 (nI_ne0 (by omega) (by omega))
    · intro f1
      first | refine AW.aload_n X dX5_mayFeed_4 rfl rfl ?_ | refine AW.aloadN_n X dX5_mayFeed_4 rfl rfl ?_
      refine AW.getR X f_X5_64_18 (by first | assumption | exact hT _ _ rfl) (by first | assumption | exact hR _ _ _ rfl) dX5_mayFeed_5 ?_
      refine AW.iload_n X dX5_mayFeed_8 rfl rfl ?_
      refine AW.iconst X (v := 1) dX5_mayFeed_9 rfl ?_
      refine AW.isub X dX5_mayFeed_10 ?_
      rw [show nI c - 1 = nI (c - 1) from nI_sub (c := 1) (by omega)]
      refine AW.iald X (j := c - 1) (by first | assumption | exact hT _ _ rfl) rfl (by omega) dX5_mayFeed_11 ?_
      rw [v310]
      refine AW.iload_n X dX5_mayFeed_12 rfl rfl ?_
      refine AW.icmp_ne X (tgt := 20) dX5_mayFeed_13 rfl ?_ ?_
      · intro t13
        rw [bI_f (fun z => z.elim h0 t13)] at E
        refine AW.iconst X (v := 0) dX5_mayFeed_20 rfl ?_
        exact AW.ireturn X E ⟨rfl, rfl, rfl, rfl, rfl⟩ dX5_mayFeed_21 (hnar := by first | rfl | (unfold bI; split <;> rfl))
      · intro f13
        rw [bI_t (Or.inr f13)] at E
        refine AW.iconst X (v := 1) dX5_mayFeed_16 rfl ?_
        refine AW.goto X (tgt := 21) dX5_mayFeed_17 rfl ?_
        exact AW.ireturn X E ⟨rfl, rfl, rfl, rfl, rfl⟩ dX5_mayFeed_21 (hnar := by first | rfl | (unfold bI; split <;> rfl))
theorem c_X5_tellGains {h : Nat} {I : KI} (hS : MS T I R N) (h20 : nM N ≤ 20) (hh : h < 24) : MX5_tellGains 6 0 [.ref 200, .int (nI h)] T I R J (qI (fun r I' => r = none ∧ FM (nM N) I I' ∧ I' 200 3 = I 200 3 ∧ GaP N h 100 (I' 356)) T R J) noX := by
  have hS0 := hS
  obtain ⟨hT, hR, hV, hN, hM⟩ := hS
  obtain ⟨⟨n1, n2, n3, n4, hnq, hne, hns, hnh⟩, -⟩ := id hN
  refine AMet.of (by decide) (Nat.le_of_ble_eq_true rfl) (cats1 rfl) fun cx X E => ?_
  show AW _ _ _ (_ :: _ :: _ :: _ :: _ :: _ :: []) _ _ _ _ _
  have inn : ∀ x, x ≤ nE N → ∀ j y (I' : KI) v4 v5, y + j = nE N + 1 → FM (nM N) I I' → I' 200 3 = I 200 3 → GaP N h (7 * x + y) (I' 356) → (∀ (I2 : KI) v4 v5, FM (nM N) I I2 → I2 200 3 = I 200 3 → GaP N h (7 * (x + 1)) (I2 356) → AW cx 0 212 [.ref 200, .int (nI h), .int (nI x), .int (nI (nE N + 1)), v4, v5] [] T I2 R J) → AW cx 0 14 [.ref 200, .int (nI h), .int (nI x), .int (nI y), v4, v5] [] T I' R J := by
    intro x hx j
    induction j with
    | zero =>
      intro y I' v4 v5 hyj hf h3 hg hk
      obtain rfl : y = nE N + 1 := by omega
      have w304 : I' 304 = N 304 := (hS0.fm hf).2.2.1.1 304 (by omega) (by omega)
      refine AW.iload_n X dX5_tellGains_14 rfl rfl ?_
      first | refine AW.aload_n X dX5_tellGains_15 rfl rfl ?_ | refine AW.aloadN_n X dX5_tellGains_15 rfl rfl ?_
      refine AW.getR X f_X5_45_18 (by first | assumption | exact hT _ _ rfl) (by first | assumption | exact hR _ _ _ rfl) dX5_tellGains_16 ?_
      refine AW.iconst X (v := 1) dX5_tellGains_19 rfl ?_
      refine AW.iald X (j := 1) (by first | assumption | exact hT _ _ rfl) (by repeat (first | with_reducible exact rfl | assumption | exact ix_l _ | apply ix_add | apply ix_mul)) (by omega) dX5_tellGains_20 ?_
      rw [w304, n2]
      refine AW.icmp_gt X (tgt := 212) dX5_tellGains_21 rfl ?_ ?_
      · intro t21
        exact hk I' _ _ hf h3 (fun x' y' hx' hy' hl => hg x' y' hx' hy' (by omega))
      · intro f21
        exact absurd (nI_lt (by omega) (by omega)) f21
    | succ j ih =>
      intro y I' v4 v5 hyj hf h3 hg hk
      have hS' := hS0.fm hf
      have w304 : I' 304 = N 304 := hS'.2.2.1.1 304 (by omega) (by omega)
      have v44 : I' 200 44 = nI (nM N) := hS'.2.2.1.2.2.1.trans hM.1
      have nx : ∀ (I2 : KI) v4 v5, FM (nM N) I I2 → I2 200 3 = I 200 3 → GaP N h (7 * x + (y + 1)) (I2 356) → AW cx 0 206 [.ref 200, .int (nI h), .int (nI x), .int (nI y), v4, v5] [] T I2 R J := by
        intro I2 v4 v5 hf2 h32 hg2
        refine AW.iinc3 X (v := _ + 1) dX5_tellGains_206 rfl ?_
        refine AW.goto X (tgt := 14) dX5_tellGains_209 rfl ?_
        rw [nI_1]; exact ih (y + 1) I2 _ _ (by omega) hf2 h32 hg2 hk
      have no : ¬ mayP N x y → ∀ v4 v5, AW cx 0 206 [.ref 200, .int (nI h), .int (nI x), .int (nI y), v4, v5] [] T I' R J := fun hno v4 v5 => nx I' v4 v5 hf h3 (fun x' y' hx' hy' hl hm => by
        by_cases he : 7 * x' + y' < 7 * x + y
        · exact hg x' y' hx' hy' he hm
        · have hxx : x' = x := by omega
          have hyy : y' = y := by omega
          rw [hxx, hyy] at hm
          exact absurd hm hno)
      have yes : mayP N x y → ∀ v4 v5, AW cx 0 45 [.ref 200, .int (nI h), .int (nI x), .int (nI y), v4, v5] [] T I' R J := by
        intro hmay v4 v5
        have hm1 := livN_M (N := N) (c := x) (h := h) (by omega)
        have hP1 : ∀ a, 304 ≤ a → a ≤ 322 → livN N x h a = N a := livN_P
        have hE1 : nE (livN N x h) = nE N := nat_eq (hP1 304 (by omega) (by omega))
        have hP : ∀ a, 304 ≤ a → a ≤ 322 → rvN N h x y a = N a := fun a a1 a2 => (livN_P a a1 a2).trans (hP1 a a1 a2)
        have hnS : nS (rvN N h x y) = nS N := nat_eq (hP 304 (by omega) (by omega))
        have g3 : ∀ I2 v5, MS T I2 R (rvN N h x y) → Fg (nM N) I' I2 → I2 200 3 = I' 200 3 → I2 356 = I' 356 → AW cx 0 77 [.ref 200, .int (nI h), .int (nI x), .int (nI y), .int (nI (nM N)), v5] [] T I2 R J := by
          intro I2 v5 hS2 hg2 h23 h2356
          have sl : ∀ I4, FM (nM N) I' I4 → I4 200 3 = I' 200 3 → MSp T I4 R (rvN N h x y) → NiP (rvN N h x y) I4 → (∀ k, k ≠ 2 * (7 * x + y) → k ≠ 2 * (7 * x + y) + 1 → I4 356 k = I' 356 k) → I4 356 (2 * (7 * x + y)) = (if x = 0 then 0 else -N 304 4) → I4 356 (2 * (7 * x + y) + 1) = (if y = 0 then 0 else -N 304 4) → AW cx 0 145 [.ref 200, .int (nI h), .int (nI x), .int (nI y), .int (nI (nM N)), v5] [] T I4 R J := by
            intro I4 hf4 h43 hS4 hN4 hk4 ha4 hb4
            have slp : ∀ j s I5, s + j = nS N → FM (nM N) I' I5 → I5 200 3 = I' 200 3 → MSp T I5 R (rvN N h x y) → NiP (rvN N h x y) I5 → (∀ k, k ≠ 2 * (7 * x + y) → k ≠ 2 * (7 * x + y) + 1 → I5 356 k = I' 356 k) → I5 356 (2 * (7 * x + y)) = gnS N (rvN N h x y) 0 (if x = 0 then 0 else -N 304 4) s → I5 356 (2 * (7 * x + y) + 1) = gnS N (rvN N h x y) 1 (if y = 0 then 0 else -N 304 4) s → AW cx 0 148 [.ref 200, .int (nI h), .int (nI x), .int (nI y), .int (nI (nM N)), .int (nI s)] [] T I5 R J := by
              intro j
              induction j with
              | zero =>
                intro s I5 hsj hf5 h53 hS5 hN5 hk5 ha5 hb5
                obtain rfl : s = nS N := by omega
                have w304 : I5 304 = N 304 := (hS5.2.2.1.1 304 (by omega) (by omega)).trans (hP 304 (by omega) (by omega))
                refine AW.iload X dX5_tellGains_148 rfl ?_
                first | refine AW.aload_n X dX5_tellGains_150 rfl rfl ?_ | refine AW.aloadN_n X dX5_tellGains_150 rfl rfl ?_
                refine AW.getR X f_X5_45_18 (by first | assumption | exact hT _ _ rfl) (by first | assumption | exact hR _ _ _ rfl) dX5_tellGains_151 ?_
                refine AW.iconst X (v := 2) dX5_tellGains_154 rfl ?_
                refine AW.iald X (j := 2) (by first | assumption | exact hT _ _ rfl) (by repeat (first | with_reducible exact rfl | assumption | exact ix_l _ | apply ix_add | apply ix_mul)) (by omega) dX5_tellGains_155 ?_
                rw [w304, n3]
                refine AW.icmp_ge X (tgt := 206) dX5_tellGains_156 rfl ?_ ?_
                · intro t156
                  refine nx I5 _ _ (hf.tr hf5) (h53.trans h3) (fun x' y' hx' hy' hl hm => ?_)
                  by_cases he : 7 * x' + y' < 7 * x + y
                  · rw [hk5 _ (by omega) (by omega), hk5 _ (by omega) (by omega)]; exact hg x' y' hx' hy' he hm
                  · have hxx : x' = x := by omega
                    have hyy : y' = y := by omega
                    rw [hxx, hyy]; exact ⟨ha5, hb5⟩
                · intro f156
                  exact absurd (Int32.le_refl _) f156
              | succ j ihs =>
                intro s I5 hsj hf5 h53 hS5 hN5 hk5 ha5 hb5
                have w304 : I5 304 = N 304 := (hS5.2.2.1.1 304 (by omega) (by omega)).trans (hP 304 (by omega) (by omega))
                have hs1 : s < nS (rvN N h x y) := by omega
                have hNr := hS5.2.2.2.1
                have hpl := pos_lt (L := Lig (rvN N h x y)) (Hg := hRow (rvN N h x y)) hNr hs1 (24 - nat (rvN N h x y) 316 s)
                have hplq : posAt (rvN N h x y) (Lig (rvN N h x y)) (hRow (rvN N h x y)) s 24 < nQ (rvN N h x y) := hpl
                have hnQr : nQ (rvN N h x y) = nQ N := nat_eq (hP 304 (by omega) (by omega))
                obtain ⟨k1, k2, k3, k4, k5, k6⟩ := hNr.2.1 _ hplq
                have hk316 := (hNr.2.2.2.1 s hs1).2.2.2.2.2.1
                have hk316e := (hNr.2.2.2.1 s hs1).2.2.2.2.1
                have hO : rvN N h x y 306 = N 306 := hP 306 (by omega) (by omega)
                rw [hO] at k5 k6
                have h24 : atV (rvN N h x y) s 24 = nI (posAt (rvN N h x y) (Lig (rvN N h x y)) (hRow (rvN N h x y)) s 24) := by
                  unfold atV; rw [hk316e, if_neg (nI_nlt (by omega) (by omega))]
                have ge1 : nEnd (rvN N h x y) s = 1 ↔ nat (rvN N h x y) 305 (posAt (rvN N h x y) (Lig (rvN N h x y)) (hRow (rvN N h x y)) s 24) = 3 := endK_1 k1 k2
                have gs0 : gnS N (rvN N h x y) 0 (if x = 0 then 0 else -N 304 4) (s + 1) = if N 306 (posAt (rvN N h x y) (Lig (rvN N h x y)) (hRow (rvN N h x y)) s 24) = 0 then gnS N (rvN N h x y) 0 (if x = 0 then 0 else -N 304 4) s + 10 else gnS N (rvN N h x y) 0 (if x = 0 then 0 else -N 304 4) s := rfl
                have gs1 : gnS N (rvN N h x y) 1 (if y = 0 then 0 else -N 304 4) (s + 1) = if N 306 (posAt (rvN N h x y) (Lig (rvN N h x y)) (hRow (rvN N h x y)) s 24) = 1 then gnS N (rvN N h x y) 1 (if y = 0 then 0 else -N 304 4) s + 10 else gnS N (rvN N h x y) 1 (if y = 0 then 0 else -N 304 4) s := rfl
                have he2 := endK_le (rvN N h x y) (posAt (rvN N h x y) (Lig (rvN N h x y)) (hRow (rvN N h x y)) s 24)
                refine AW.iload X dX5_tellGains_148 rfl ?_
                first | refine AW.aload_n X dX5_tellGains_150 rfl rfl ?_ | refine AW.aloadN_n X dX5_tellGains_150 rfl rfl ?_
                refine AW.getR X f_X5_45_18 (by first | assumption | exact hT _ _ rfl) (by first | assumption | exact hR _ _ _ rfl) dX5_tellGains_151 ?_
                refine AW.iconst X (v := 2) dX5_tellGains_154 rfl ?_
                refine AW.iald X (j := 2) (by first | assumption | exact hT _ _ rfl) (by repeat (first | with_reducible exact rfl | assumption | exact ix_l _ | apply ix_add | apply ix_mul)) (by omega) dX5_tellGains_155 ?_
                rw [w304, n3]
                refine AW.icmp_ge X (tgt := 206) dX5_tellGains_156 rfl ?_ ?_
                · intro t156
                  exact absurd t156 (nI_ge (by omega) (by omega))
                · intro f156
                  first | refine AW.aload_n X dX5_tellGains_159 rfl rfl ?_ | refine AW.aloadN_n X dX5_tellGains_159 rfl rfl ?_
                  refine AW.iload X dX5_tellGains_160 rfl ?_
                  refine AW.callV_i X (c_X5_endOfp hS5 hN5 hs1) (ci := 18) (q := (RX5, TX5, 74)) (by first | assumption | exact hT _ _ rfl) rfl s_X5_414_18 (by omega) (Nat.le_of_ble_eq_true rfl) rfl rfl (Nat.le_of_ble_eq_true rfl) dX5_tellGains_162 ?_
                  intro r162 I162 h162
                  obtain ⟨rfl, hf6, hl6⟩ := h162
                  have hS6 : MSp T I162 R (rvN N h x y) := hS5.hi fun a a1 a2 => hf6 a (by omega)
                  have hN6 : NiP (rvN N h x y) I162 := hN5.fr fun a a1 a2 => hf6 a (by omega)
                  have hFM6 : FM (nM N) I' I162 := hf5.tr (FM.w349 hf6)
                  have h63 : I162 200 3 = I' 200 3 := (congrFun (hf6 200 (by omega)) 3).trans h53
                  have w306 : I162 306 = N 306 := (hS6.2.2.1.1 306 (by omega) (by omega)).trans hO
                  have w356 : I162 356 = I5 356 := hf6 356 (by omega)
                  refine AW.iconst X (v := 1) dX5_tellGains_165 rfl ?_
                  refine AW.icmp_ne X (tgt := 200) dX5_tellGains_166 rfl ?_ ?_
                  · intro t166
                    have hno : ¬ nat (rvN N h x y) 305 (posAt (rvN N h x y) (Lig (rvN N h x y)) (hRow (rvN N h x y)) s 24) = 3 := fun z => t166 (congrArg nI (ge1.mpr z))
                    have hm1 := k6 hno
                    rw [hm1, if_neg (show ¬ (-1 : Int32) = 0 by decide)] at gs0
                    rw [hm1, if_neg (show ¬ (-1 : Int32) = 1 by decide)] at gs1
                    refine AW.iinc5 X (v := _ + 1) dX5_tellGains_200 rfl ?_
                    refine AW.goto X (tgt := 148) dX5_tellGains_203 rfl ?_
                    rw [nI_1]
                    first
                      | exact ihs (s + 1) I162 (by omega) hFM6 h63 hS6 hN6 (fun k q1 q2 => by rw [w356]; exact hk5 k q1 q2) (by rw [w356, gs0]; exact ha5) (by rw [w356, gs1]; exact hb5)
                      | (rw [hoe] at gs0 gs1
                         refine ihs (s + 1) _ (by omega) (hFM6.tr FM.w356) ((w2_n1 (by omega)).trans h63) (hS6.hi fun a a1 a2 => w2_r (by omega)) (hN6.fr fun a a1 a2 => w2_r (by omega)) (fun k q1 q2 => ?_) ?_ ?_
                         · rw [w2_n2 (by omega), w356]; exact hk5 k q1 q2
                         · rw [gs0]
                           rcases (show o = 0 ∨ o = 1 by omega) with rfl | rfl
                           · rw [if_pos (show nI 0 = 0 from rfl), ← ha5]; exact w2_s I162 356 (2 * (7 * x + y)) _
                           · rw [if_neg (show ¬ nI 1 = 0 by decide), w2_n2 (by omega), w356, ha5]
                         · rw [gs1]
                           rcases (show o = 0 ∨ o = 1 by omega) with rfl | rfl
                           · rw [if_neg (show ¬ nI 0 = 1 by decide), w2_n2 (by omega), w356, hb5]
                           · rw [if_pos (show nI 1 = 1 from rfl), w2_s, hb5])
                  · intro f166
                    have hy3 := ge1.mp ((nI_eq (b := 1) (by unfold nEnd; omega) (by omega)).mp f166)
                    obtain ⟨o, ho2, hoe⟩ : ∃ o, o < 2 ∧ N 306 (posAt (rvN N h x y) (Lig (rvN N h x y)) (hRow (rvN N h x y)) s 24) = nI o := by
                      rcases k5 hy3 with z | z
                      · exact ⟨0, by omega, z⟩
                      · exact ⟨1, by omega, z⟩
                    first | refine AW.aload_n X dX5_tellGains_169 rfl rfl ?_ | refine AW.aloadN_n X dX5_tellGains_169 rfl rfl ?_
                    refine AW.getR X f_X5_155_18 (by first | assumption | exact hT _ _ rfl) (by first | assumption | exact hR _ _ _ rfl) dX5_tellGains_170 ?_
                    refine AW.iconst X (v := 2) dX5_tellGains_173 rfl ?_
                    refine AW.bipush X (v := 7) dX5_tellGains_174 rfl ?_
                    refine AW.iload_n X dX5_tellGains_176 rfl rfl ?_
                    refine AW.imul X dX5_tellGains_177 ?_
                    refine AW.iload_n X dX5_tellGains_178 rfl rfl ?_
                    refine AW.iadd X dX5_tellGains_179 ?_
                    refine AW.imul X dX5_tellGains_180 ?_
                    first | refine AW.aload_n X dX5_tellGains_181 rfl rfl ?_ | refine AW.aloadN_n X dX5_tellGains_181 rfl rfl ?_
                    refine AW.getR X f_X5_52_18 (by first | assumption | exact hT _ _ rfl) (by first | assumption | exact hR _ _ _ rfl) dX5_tellGains_182 ?_
                    first | refine AW.aload_n X dX5_tellGains_185 rfl rfl ?_ | refine AW.aloadN_n X dX5_tellGains_185 rfl rfl ?_
                    refine AW.getR X f_X5_140_18 (by first | assumption | exact hT _ _ rfl) (by first | assumption | exact hR _ _ _ rfl) dX5_tellGains_186 ?_
                    refine AW.bipush X (v := 24) dX5_tellGains_189 rfl ?_
                    refine AW.iald X (j := 24) (by first | assumption | exact hT _ _ rfl) (by repeat (first | with_reducible exact rfl | assumption | exact ix_l _ | apply ix_add | apply ix_mul)) (by omega) dX5_tellGains_191 ?_
                    rw [hl6 24 (Nat.le_refl _), h24]
                    refine AW.iald X (j := posAt (rvN N h x y) (Lig (rvN N h x y)) (hRow (rvN N h x y)) s 24) (by first | assumption | exact hT _ _ rfl) (by repeat (first | with_reducible exact rfl | assumption | exact ix_l _ | apply ix_add | apply ix_mul)) (by omega) dX5_tellGains_192 ?_
                    rw [w306, hoe]
                    refine AW.iadd X dX5_tellGains_193 ?_
                    refine AW.dup2 X dX5_tellGains_194 rfl rfl ?_
                    refine AW.iald X (j := 2 * (7 * x + y) + o) (by first | assumption | exact hT _ _ rfl) (by repeat (first | with_reducible exact rfl | assumption | exact ix_l _ | apply ix_add | apply ix_mul)) (by omega) dX5_tellGains_195 ?_
                    rw [w356]
                    refine AW.bipush X (v := 10) dX5_tellGains_196 rfl ?_
                    refine AW.iadd X dX5_tellGains_198 ?_
                    refine AW.iast X (j := 2 * (7 * x + y) + o) (by omega) (by first | assumption | exact hT _ _ rfl) (by repeat (first | with_reducible exact rfl | assumption | exact ix_l _ | apply ix_add | apply ix_mul)) (by omega) dX5_tellGains_199 ?_
                    refine AW.iinc5 X (v := _ + 1) dX5_tellGains_200 rfl ?_
                    refine AW.goto X (tgt := 148) dX5_tellGains_203 rfl ?_
                    rw [nI_1]
                    first
                      | exact ihs (s + 1) I162 (by omega) hFM6 h63 hS6 hN6 (fun k q1 q2 => by rw [w356]; exact hk5 k q1 q2) (by rw [w356, gs0]; exact ha5) (by rw [w356, gs1]; exact hb5)
                      | (rw [hoe] at gs0 gs1
                         refine ihs (s + 1) _ (by omega) (hFM6.tr FM.w356) ((w2_n1 (by omega)).trans h63) (hS6.hi fun a a1 a2 => w2_r (by omega)) (hN6.fr fun a a1 a2 => w2_r (by omega)) (fun k q1 q2 => ?_) ?_ ?_
                         · rw [w2_n2 (by omega), w356]; exact hk5 k q1 q2
                         · rw [gs0]
                           rcases (show o = 0 ∨ o = 1 by omega) with rfl | rfl
                           · rw [if_pos (show nI 0 = 0 from rfl), ← ha5]; exact w2_s I162 356 (2 * (7 * x + y)) _
                           · rw [if_neg (show ¬ nI 1 = 0 by decide), w2_n2 (by omega), w356, ha5]
                         · rw [gs1]
                           rcases (show o = 0 ∨ o = 1 by omega) with rfl | rfl
                           · rw [if_neg (show ¬ nI 0 = 1 by decide), w2_n2 (by omega), w356, hb5]
                           · rw [if_pos (show nI 1 = 1 from rfl), w2_s, hb5])
            refine AW.iconst X (v := 0) dX5_tellGains_145 rfl ?_
            refine AW.istore5 X dX5_tellGains_146 ?_
            exact slp (nS N) 0 I4 (by omega) hf4 h43 hS4 hN4 hk4 ha4 hb4
          have st2 : ∀ I4 z, FM (nM N) I' I4 → I4 200 3 = I' 200 3 → MSp T I4 R (rvN N h x y) → NiP (rvN N h x y) I4 → (∀ k, k ≠ 2 * (7 * x + y) → I4 356 k = I' 356 k) → I4 356 (2 * (7 * x + y)) = (if x = 0 then 0 else -N 304 4) → z = (if y = 0 then 0 else -N 304 4) → AW cx 0 144 [.ref 200, .int (nI h), .int (nI x), .int (nI y), .int (nI (nM N)), v5] [.int z, .int (nI 2 * (nI 7 * nI x + nI y) + nI 1), .ref 356] T I4 R J := by
            intro I4 z hf4 h43 hS4 hN4 hk4 ha4 hz
            refine AW.iast X (j := 2 * (7 * x + y) + 1) (by omega) (by first | assumption | exact hT _ _ rfl) (by repeat (first | with_reducible exact rfl | assumption | exact ix_l _ | apply ix_add | apply ix_mul)) (by omega) dX5_tellGains_144 ?_
            exact sl _ (hf4.tr FM.w356) ((w2_n1 (by omega)).trans h43) (hS4.hi fun a a1 a2 => w2_r (by omega)) (hN4.fr fun a a1 a2 => w2_r (by omega)) (fun k q1 q2 => by rw [w2_n2 q2]; exact hk4 k q1) (by rw [w2_n2 (by omega)]; exact ha4) (by rw [w2_s]; exact hz)
          have st1 : ∀ I4 z, FM (nM N) I' I4 → I4 200 3 = I' 200 3 → MSp T I4 R (rvN N h x y) → NiP (rvN N h x y) I4 → I4 356 = I' 356 → z = (if x = 0 then 0 else -N 304 4) → AW cx 0 114 [.ref 200, .int (nI h), .int (nI x), .int (nI y), .int (nI (nM N)), v5] [.int z, .int (nI 2 * (nI 7 * nI x + nI y)), .ref 356] T I4 R J := by
            intro I4 z hf4 h43 hS4 hN4 h4356 hz
            have w304 : I4 304 = N 304 := (hS4.2.2.1.1 304 (by omega) (by omega)).trans (hP 304 (by omega) (by omega))
            refine AW.iast X (j := 2 * (7 * x + y)) (by omega) (by first | assumption | exact hT _ _ rfl) (by repeat (first | with_reducible exact rfl | assumption | exact ix_l _ | apply ix_add | apply ix_mul)) (by omega) dX5_tellGains_114 ?_
            first | refine AW.aload_n X dX5_tellGains_115 rfl rfl ?_ | refine AW.aloadN_n X dX5_tellGains_115 rfl rfl ?_
            refine AW.getR X f_X5_155_18 (by first | assumption | exact hT _ _ rfl) (by first | assumption | exact hR _ _ _ rfl) dX5_tellGains_116 ?_
            refine AW.iconst X (v := 2) dX5_tellGains_119 rfl ?_
            refine AW.bipush X (v := 7) dX5_tellGains_120 rfl ?_
            refine AW.iload_n X dX5_tellGains_122 rfl rfl ?_
            refine AW.imul X dX5_tellGains_123 ?_
            refine AW.iload_n X dX5_tellGains_124 rfl rfl ?_
            refine AW.iadd X dX5_tellGains_125 ?_
            refine AW.imul X dX5_tellGains_126 ?_
            refine AW.iconst X (v := 1) dX5_tellGains_127 rfl ?_
            refine AW.iadd X dX5_tellGains_128 ?_
            refine AW.iload_n X dX5_tellGains_129 rfl rfl ?_
            refine AW.if_le X (tgt := 143) dX5_tellGains_130 rfl ?_ ?_
            · intro t130
              have hy0 : y = 0 := Decidable.of_not_not fun q => absurd t130 (nI_nle (by omega) (by omega))
              refine AW.iconst X (v := 0) dX5_tellGains_143 rfl ?_
              exact st2 _ _ (hf4.tr FM.w356) ((w2_n1 (by omega)).trans h43) (hS4.hi fun a a1 a2 => w2_r (by omega)) (hN4.fr fun a a1 a2 => w2_r (by omega)) (fun k q1 => by rw [w2_n2 q1, h4356]) (by rw [w2_s]; exact hz) (by first | (rw [if_pos hy0]; done) | (rw [if_neg hy0]; done))
            · intro f130
              have hy0 : ¬ y = 0 := fun q => f130 (by rw [q]; exact Int32.le_refl _)
              first | refine AW.aload_n X dX5_tellGains_133 rfl rfl ?_ | refine AW.aloadN_n X dX5_tellGains_133 rfl rfl ?_
              refine AW.getR X f_X5_45_18 (by first | assumption | exact hT _ _ rfl) (by first | assumption | exact hR _ _ _ rfl) dX5_tellGains_134 ?_
              refine AW.iconst X (v := 4) dX5_tellGains_137 rfl ?_
              refine AW.iald X (j := 4) (by first | assumption | exact hT _ _ rfl) (by repeat (first | with_reducible exact rfl | assumption | exact ix_l _ | apply ix_add | apply ix_mul)) (by omega) dX5_tellGains_138 ?_
              rw [w2_n1 (by omega), w304]
              refine AW.ineg X dX5_tellGains_139 ?_
              refine AW.goto X (tgt := 144) dX5_tellGains_140 rfl ?_
              exact st2 _ _ (hf4.tr FM.w356) ((w2_n1 (by omega)).trans h43) (hS4.hi fun a a1 a2 => w2_r (by omega)) (hN4.fr fun a a1 a2 => w2_r (by omega)) (fun k q1 => by rw [w2_n2 q1, h4356]) (by rw [w2_s]; exact hz) (by first | (rw [if_pos hy0]; done) | (rw [if_neg hy0]; done))
          first | refine AW.aload_n X dX5_tellGains_77 rfl rfl ?_ | refine AW.aloadN_n X dX5_tellGains_77 rfl rfl ?_
          refine AW.callV_i X (c_X5_tellNight hS2) (ci := 18) (q := (RX5, TX5, 74)) (by first | assumption | exact hT _ _ rfl) rfl s_X5_392_18 (by omega) (Nat.le_of_ble_eq_true rfl) rfl rfl (Nat.le_of_ble_eq_true rfl) dX5_tellGains_78 ?_
          intro r78 I78 h78
          obtain ⟨rfl, hf3, hn3⟩ := h78
          have hFM := hg2.fe hf3
          have h83 : w2 I78 200 44 (nI (nM N)) 200 3 = I' 200 3 := (w2_n2 (by omega)).trans ((congrFun hf3.s 3).trans h23)
          have hS4 : MSp T (w2 I78 200 44 (nI (nM N))) R (rvN N h x y) := (hS2.fe hf3).p.hi fun a a1 a2 => w2_r (by omega)
          have hN4 : NiP (rvN N h x y) (w2 I78 200 44 (nI (nM N))) := hn3.fr fun a a1 a2 => w2_r (by omega)
          have w304 : w2 I78 200 44 (nI (nM N)) 304 = N 304 := (hS4.2.2.1.1 304 (by omega) (by omega)).trans (hP 304 (by omega) (by omega))
          first | refine AW.aload_n X dX5_tellGains_81 rfl rfl ?_ | refine AW.aloadN_n X dX5_tellGains_81 rfl rfl ?_
          refine AW.iload X dX5_tellGains_82 rfl ?_
          refine AW.putI X g_X5_tellGains_337_18 (by omega) (by first | assumption | exact hT _ _ rfl) dX5_tellGains_84 ?_ 
          first | refine AW.aload_n X dX5_tellGains_87 rfl rfl ?_ | refine AW.aloadN_n X dX5_tellGains_87 rfl rfl ?_
          refine AW.getR X f_X5_155_18 (by first | assumption | exact hT _ _ rfl) (by first | assumption | exact hR _ _ _ rfl) dX5_tellGains_88 ?_
          refine AW.iconst X (v := 2) dX5_tellGains_91 rfl ?_
          refine AW.bipush X (v := 7) dX5_tellGains_92 rfl ?_
          refine AW.iload_n X dX5_tellGains_94 rfl rfl ?_
          refine AW.imul X dX5_tellGains_95 ?_
          refine AW.iload_n X dX5_tellGains_96 rfl rfl ?_
          refine AW.iadd X dX5_tellGains_97 ?_
          refine AW.imul X dX5_tellGains_98 ?_
          refine AW.iload_n X dX5_tellGains_99 rfl rfl ?_
          refine AW.if_le X (tgt := 113) dX5_tellGains_100 rfl ?_ ?_
          · intro t100
            have hx0 : x = 0 := Decidable.of_not_not fun q => absurd t100 (nI_nle (by omega) (by omega))
            refine AW.iconst X (v := 0) dX5_tellGains_113 rfl ?_
            exact st1 _ _ hFM h83 hS4 hN4 ((w2_r (by omega)).trans ((hf3 356 (by omega) (by omega) (by omega) (by omega) (by omega) (by omega)).trans h2356)) (by first | (rw [if_pos hx0]; done) | (rw [if_neg hx0]; done))
          · intro f100
            have hx0 : ¬ x = 0 := fun q => f100 (by rw [q]; exact Int32.le_refl _)
            first | refine AW.aload_n X dX5_tellGains_103 rfl rfl ?_ | refine AW.aloadN_n X dX5_tellGains_103 rfl rfl ?_
            refine AW.getR X f_X5_45_18 (by first | assumption | exact hT _ _ rfl) (by first | assumption | exact hR _ _ _ rfl) dX5_tellGains_104 ?_
            refine AW.iconst X (v := 4) dX5_tellGains_107 rfl ?_
            refine AW.iald X (j := 4) (by first | assumption | exact hT _ _ rfl) (by repeat (first | with_reducible exact rfl | assumption | exact ix_l _ | apply ix_add | apply ix_mul)) (by omega) dX5_tellGains_108 ?_
            rw [w304]
            refine AW.ineg X dX5_tellGains_109 ?_
            refine AW.goto X (tgt := 114) dX5_tellGains_110 rfl ?_
            exact st1 _ _ hFM h83 hS4 hN4 ((w2_r (by omega)).trans ((hf3 356 (by omega) (by omega) (by omega) (by omega) (by omega) (by omega)).trans h2356)) (by first | (rw [if_pos hx0]; done) | (rw [if_neg hx0]; done))
        have g2 : ∀ v5, AW cx 0 64 [.ref 200, .int (nI h), .int (nI x), .int (nI y), .int (nI (nM N)), v5] [] T (liI N I' x h) R J := by
          intro v5
          have hSx : MS T (liI N I' x h) R (livN N x h) := hS'.liv (by omega) hx hh
          have hSy : MS T (liI (livN N x h) (liI N I' x h) y h) R (rvN N h x y) := hSx.liv (by omega) (by omega) hh
          have hgx : Fg (nM N) I' (liI N I' x h) := (Fg.rf v44).liv (Nat.le_refl _)
          have hgy : Fg (nM N) I' (liI (livN N x h) (liI N I' x h) y h) := hgx.liv (livN_M0 (by omega))
          have hfin := fun v5 => g3 _ v5 hSy hgy (liI_3.1.trans liI_3.1) (liI_3.2.trans liI_3.2)
          by_cases hy0 : y = 0
          · have hl : liI (livN N x h) (liI N I' x h) y h = liI N I' x h := if_pos hy0
            rw [hl] at hfin
            refine AW.iload_n X dX5_tellGains_64 rfl rfl ?_
            refine AW.if_le X (tgt := 77) dX5_tellGains_65 rfl ?_ ?_
            · intro t65
              exact hfin _
            · intro f65
              exact absurd (by rw [hy0]; exact Int32.le_refl _) f65
          · have hl : liI (livN N x h) (liI N I' x h) y h = addI (livN N x h) (liI N I' x h) (nI (y - 1)) (nI h) 0 := if_neg hy0
            rw [hl] at hfin
            refine AW.iload_n X dX5_tellGains_64 rfl rfl ?_
            refine AW.if_le X (tgt := 77) dX5_tellGains_65 rfl ?_ ?_
            · intro t65
              exact absurd t65 (nI_nle (by omega) (by omega))
            · intro f65
              first | refine AW.aload_n X dX5_tellGains_68 rfl rfl ?_ | refine AW.aloadN_n X dX5_tellGains_68 rfl rfl ?_
              refine AW.iload_n X dX5_tellGains_69 rfl rfl ?_
              refine AW.iconst X (v := 1) dX5_tellGains_70 rfl ?_
              refine AW.isub X dX5_tellGains_71 ?_
              rw [show nI y - 1 = nI (y - 1) from nI_sub (c := 1) (by omega)]
              refine AW.iload_n X dX5_tellGains_72 rfl rfl ?_
              refine AW.iconst X (v := 0) dX5_tellGains_73 rfl ?_
              refine AW.callV_i X (c_X5_give hSx) (ci := 18) (q := (RX5, TX5, 74)) (by first | assumption | exact hT _ _ rfl) rfl s_X5_388_18 (by omega) (Nat.le_of_ble_eq_true rfl) rfl rfl (Nat.le_of_ble_eq_true rfl) dX5_tellGains_74 ?_
              intro r74 I74 h74
              obtain ⟨rfl, rfl⟩ := h74
              exact hfin _
        by_cases hx0 : x = 0
        · have hl : liI N I' x h = I' := if_pos hx0
          rw [hl] at g2
          first | refine AW.aload_n X dX5_tellGains_45 rfl rfl ?_ | refine AW.aloadN_n X dX5_tellGains_45 rfl rfl ?_
          refine AW.getI X f_X5_337_18 (by first | assumption | exact hT _ _ rfl) dX5_tellGains_46 ?_
          rw [v44]
          refine AW.istore4 X dX5_tellGains_49 ?_
          refine AW.iload_n X dX5_tellGains_51 rfl rfl ?_
          refine AW.if_le X (tgt := 64) dX5_tellGains_52 rfl ?_ ?_
          · intro t52
            exact g2 _
          · intro f52
            exact absurd (by rw [hx0]; exact Int32.le_refl _) f52
        · have hl : liI N I' x h = addI N I' (nI (x - 1)) (nI h) 0 := if_neg hx0
          rw [hl] at g2
          first | refine AW.aload_n X dX5_tellGains_45 rfl rfl ?_ | refine AW.aloadN_n X dX5_tellGains_45 rfl rfl ?_
          refine AW.getI X f_X5_337_18 (by first | assumption | exact hT _ _ rfl) dX5_tellGains_46 ?_
          rw [v44]
          refine AW.istore4 X dX5_tellGains_49 ?_
          refine AW.iload_n X dX5_tellGains_51 rfl rfl ?_
          refine AW.if_le X (tgt := 64) dX5_tellGains_52 rfl ?_ ?_
          · intro t52
            exact absurd t52 (nI_nle (by omega) (by omega))
          · intro f52
            first | refine AW.aload_n X dX5_tellGains_55 rfl rfl ?_ | refine AW.aloadN_n X dX5_tellGains_55 rfl rfl ?_
            refine AW.iload_n X dX5_tellGains_56 rfl rfl ?_
            refine AW.iconst X (v := 1) dX5_tellGains_57 rfl ?_
            refine AW.isub X dX5_tellGains_58 ?_
            rw [show nI x - 1 = nI (x - 1) from nI_sub (c := 1) (by omega)]
            refine AW.iload_n X dX5_tellGains_59 rfl rfl ?_
            refine AW.iconst X (v := 0) dX5_tellGains_60 rfl ?_
            refine AW.callV_i X (c_X5_give hS') (ci := 18) (q := (RX5, TX5, 74)) (by first | assumption | exact hT _ _ rfl) rfl s_X5_388_18 (by omega) (Nat.le_of_ble_eq_true rfl) rfl rfl (Nat.le_of_ble_eq_true rfl) dX5_tellGains_61 ?_
            intro r61 I61 h61
            obtain ⟨rfl, rfl⟩ := h61
            exact g2 _
      refine AW.iload_n X dX5_tellGains_14 rfl rfl ?_
      first | refine AW.aload_n X dX5_tellGains_15 rfl rfl ?_ | refine AW.aloadN_n X dX5_tellGains_15 rfl rfl ?_
      refine AW.getR X f_X5_45_18 (by first | assumption | exact hT _ _ rfl) (by first | assumption | exact hR _ _ _ rfl) dX5_tellGains_16 ?_
      refine AW.iconst X (v := 1) dX5_tellGains_19 rfl ?_
      refine AW.iald X (j := 1) (by first | assumption | exact hT _ _ rfl) (by repeat (first | with_reducible exact rfl | assumption | exact ix_l _ | apply ix_add | apply ix_mul)) (by omega) dX5_tellGains_20 ?_
      rw [w304, n2]
      refine AW.icmp_gt X (tgt := 212) dX5_tellGains_21 rfl ?_ ?_
      · intro t21
        exact absurd t21 (nI_nlt (by omega) (by omega))
      · intro f21
        first | refine AW.aload_n X dX5_tellGains_24 rfl rfl ?_ | refine AW.aloadN_n X dX5_tellGains_24 rfl rfl ?_
        refine AW.iconst X (v := 0) dX5_tellGains_25 rfl ?_
        refine AW.iload_n X dX5_tellGains_26 rfl rfl ?_
        refine AW.callV_r X (c_X5_mayFeed hS' hx) (ci := 18) (q := (RX5, TX5, 74)) (by first | assumption | exact hT _ _ rfl) rfl s_X5_442_18 (by omega) (Nat.le_of_ble_eq_true rfl) rfl rfl (Nat.le_of_ble_eq_true rfl) dX5_tellGains_27 ?_
        refine AW.if_eq X (tgt := 206) dX5_tellGains_30 rfl ?_ ?_
        · intro t30
          exact no (fun z => bI_z.mp t30 z.1) _ _
        · intro f30
          first | refine AW.aload_n X dX5_tellGains_33 rfl rfl ?_ | refine AW.aloadN_n X dX5_tellGains_33 rfl rfl ?_
          refine AW.iconst X (v := 1) dX5_tellGains_34 rfl ?_
          refine AW.iload_n X dX5_tellGains_35 rfl rfl ?_
          refine AW.callV_r X (c_X5_mayFeed hS' (show y ≤ nE N by omega)) (ci := 18) (q := (RX5, TX5, 74)) (by first | assumption | exact hT _ _ rfl) rfl s_X5_442_18 (by omega) (Nat.le_of_ble_eq_true rfl) rfl rfl (Nat.le_of_ble_eq_true rfl) dX5_tellGains_36 ?_
          refine AW.if_ne X (tgt := 45) dX5_tellGains_39 rfl ?_ ?_
          · intro t39
            exact yes ⟨Decidable.of_not_not fun z => f30 (bI_z.mpr z), Decidable.of_not_not fun z => t39 (bI_z.mpr z)⟩ _ _
          · intro f39
            refine AW.goto X (tgt := 206) dX5_tellGains_42 rfl ?_
            exact no (fun z => bI_z.mp f39 z.2) _ _
  have lp : ∀ j x (I' : KI) v3 v4 v5, x + j = nE N + 1 → FM (nM N) I I' → I' 200 3 = I 200 3 → GaP N h (7 * x) (I' 356) → AW cx 0 2 [.ref 200, .int (nI h), .int (nI x), v3, v4, v5] [] T I' R J := by
    intro j
    induction j with
    | zero =>
      intro x I' v3 v4 v5 hxj hf h3 hg
      obtain rfl : x = nE N + 1 := by omega
      have w304 : I' 304 = N 304 := (hS0.fm hf).2.2.1.1 304 (by omega) (by omega)
      refine AW.iload_n X dX5_tellGains_2 rfl rfl ?_
      first | refine AW.aload_n X dX5_tellGains_3 rfl rfl ?_ | refine AW.aloadN_n X dX5_tellGains_3 rfl rfl ?_
      refine AW.getR X f_X5_45_18 (by first | assumption | exact hT _ _ rfl) (by first | assumption | exact hR _ _ _ rfl) dX5_tellGains_4 ?_
      refine AW.iconst X (v := 1) dX5_tellGains_7 rfl ?_
      refine AW.iald X (j := 1) (by first | assumption | exact hT _ _ rfl) (by repeat (first | with_reducible exact rfl | assumption | exact ix_l _ | apply ix_add | apply ix_mul)) (by omega) dX5_tellGains_8 ?_
      rw [w304, n2]
      refine AW.icmp_gt X (tgt := 218) dX5_tellGains_9 rfl ?_ ?_
      · intro t9
        refine AW.vreturn X E ?_ dX5_tellGains_218
        exact ⟨rfl, rfl, rfl, rfl, hf, h3, fun x y hx hy _ hm => hg x y hx hy (by omega) hm⟩
      · intro f9
        exact absurd (nI_lt (by omega) (by omega)) f9
    | succ j ih =>
      intro x I' v3 v4 v5 hxj hf h3 hg
      have w304 : I' 304 = N 304 := (hS0.fm hf).2.2.1.1 304 (by omega) (by omega)
      refine AW.iload_n X dX5_tellGains_2 rfl rfl ?_
      first | refine AW.aload_n X dX5_tellGains_3 rfl rfl ?_ | refine AW.aloadN_n X dX5_tellGains_3 rfl rfl ?_
      refine AW.getR X f_X5_45_18 (by first | assumption | exact hT _ _ rfl) (by first | assumption | exact hR _ _ _ rfl) dX5_tellGains_4 ?_
      refine AW.iconst X (v := 1) dX5_tellGains_7 rfl ?_
      refine AW.iald X (j := 1) (by first | assumption | exact hT _ _ rfl) (by repeat (first | with_reducible exact rfl | assumption | exact ix_l _ | apply ix_add | apply ix_mul)) (by omega) dX5_tellGains_8 ?_
      rw [w304, n2]
      refine AW.icmp_gt X (tgt := 218) dX5_tellGains_9 rfl ?_ ?_
      · intro t9
        exact absurd t9 (nI_nlt (by omega) (by omega))
      · intro f9
        refine AW.iconst X (v := 0) dX5_tellGains_12 rfl ?_
        refine AW.istore3 X dX5_tellGains_13 ?_
        refine inn x (by omega) (nE N + 1) 0 I' _ _ (by omega) hf h3 hg (fun I2 v4 v5 hf2 h32 hg2 => ?_)
        refine AW.iinc2 X (v := _ + 1) dX5_tellGains_212 rfl ?_
        refine AW.goto X (tgt := 2) dX5_tellGains_215 rfl ?_
        rw [nI_1]
        exact ih (x + 1) I2 _ _ _ (by omega) hf2 h32 hg2
  refine AW.iconst X (v := 0) dX5_tellGains_0 rfl ?_
  refine AW.istore2 X dX5_tellGains_1 ?_
  exact lp (nE N + 1) 0 I _ _ _ (by omega) FM.rf rfl (fun x y _ _ hl _ => absurd hl (by omega))
end MRV
